set_option maxRecDepth 100000
abbrev cX0_init : ByteArray := prog_1_method_6_code
def yX0_init : MethodName := ⟨RX0, "<init>", "()V"⟩
def dkwX0_init_7 : List UInt8 := [181, 0, 82, 177]
abbrev dktX0_init_7 : List UInt8 := dkwX0_init_7 ++ []
def dkwX0_init_6 : List UInt8 := [16, 8, 188, 10, 181, 0, 72, 42, 187, 0, 75, 89, 183, 0, 77, 181, 0, 78, 42, 8, 188, 10]
abbrev dktX0_init_6 : List UInt8 := dkwX0_init_6 ++ dktX0_init_7
def dkwX0_init_5 : List UInt8 := [16, 8, 188, 10, 181, 0, 63, 42, 16, 8, 188, 10, 181, 0, 66, 42, 16, 8, 188, 10, 181, 0, 69, 42]
abbrev dktX0_init_5 : List UInt8 := dkwX0_init_5 ++ dktX0_init_6
def dkwX0_init_4 : List UInt8 := [181, 0, 48, 42, 187, 0, 52, 89, 183, 0, 54, 181, 0, 55, 42, 6, 189, 0, 52, 181, 0, 59, 42]
abbrev dktX0_init_4 : List UInt8 := dkwX0_init_4 ++ dktX0_init_5
def dkwX0_init_3 : List UInt8 := [187, 0, 34, 89, 183, 0, 36, 181, 0, 37, 42, 187, 0, 41, 89, 183, 0, 43, 181, 0, 44, 42, 10]
abbrev dktX0_init_3 : List UInt8 := dkwX0_init_3 ++ dktX0_init_4
def dkwX0_init_2 : List UInt8 := [83, 181, 0, 18, 42, 17, 3, 132, 188, 8, 181, 0, 24, 42, 2, 181, 0, 27, 42, 2, 181, 0, 31, 42]
abbrev dktX0_init_2 : List UInt8 := dkwX0_init_2 ++ dktX0_init_3
def dkwX0_init_1 : List UInt8 := [89, 183, 0, 17, 83, 89, 5, 187, 0, 15, 89, 183, 0, 17, 83, 89, 6, 187, 0, 15, 89, 183, 0, 17]
abbrev dktX0_init_1 : List UInt8 := dkwX0_init_1 ++ dktX0_init_2
def dkwX0_init_0 : List UInt8 := [42, 183, 0, 9, 42, 7, 189, 0, 15, 89, 3, 187, 0, 15, 89, 183, 0, 17, 83, 89, 4, 187, 0, 15]
abbrev dktX0_init_0 : List UInt8 := dkwX0_init_0 ++ dktX0_init_1
theorem dksX0_init_0 : cX0_init.data.toList.drop 0 = dktX0_init_0 := by decide +kernel
theorem dksX0_init_1 : cX0_init.data.toList.drop 24 = dktX0_init_1 := dk_seg dksX0_init_0 24 rfl rfl
theorem dksX0_init_2 : cX0_init.data.toList.drop 48 = dktX0_init_2 := dk_seg dksX0_init_1 24 rfl rfl
theorem dksX0_init_3 : cX0_init.data.toList.drop 72 = dktX0_init_3 := dk_seg dksX0_init_2 24 rfl rfl
theorem dksX0_init_4 : cX0_init.data.toList.drop 95 = dktX0_init_4 := dk_seg dksX0_init_3 23 rfl rfl
theorem dksX0_init_5 : cX0_init.data.toList.drop 118 = dktX0_init_5 := dk_seg dksX0_init_4 23 rfl rfl
theorem dksX0_init_6 : cX0_init.data.toList.drop 142 = dktX0_init_6 := dk_seg dksX0_init_5 24 rfl rfl
theorem dksX0_init_7 : cX0_init.data.toList.drop 164 = dktX0_init_7 := dk_seg dksX0_init_6 22 rfl rfl
theorem dX0_init_0 : decode cX0_init 0 = .ok (.aload_n 0, 1) := dk_42 (dk_at dksX0_init_0 0 rfl rfl)
theorem dX0_init_1 : decode cX0_init 1 = .ok (.invokespecial 9, 3) := dk_183 0 9 (dk_at dksX0_init_0 1 rfl rfl)
theorem dX0_init_4 : decode cX0_init 4 = .ok (.aload_n 0, 1) := dk_42 (dk_at dksX0_init_0 4 rfl rfl)
theorem dX0_init_5 : decode cX0_init 5 = .ok (.iconst 4, 1) := dk_7 (dk_at dksX0_init_0 5 rfl rfl)
theorem dX0_init_6 : decode cX0_init 6 = .ok (.anewarray 15, 3) := dk_189 0 15 (dk_at dksX0_init_0 6 rfl rfl)
theorem dX0_init_9 : decode cX0_init 9 = .ok (.dup, 1) := dk_89 (dk_at dksX0_init_0 9 rfl rfl)
theorem dX0_init_10 : decode cX0_init 10 = .ok (.iconst 0, 1) := dk_3 (dk_at dksX0_init_0 10 rfl rfl)
theorem dX0_init_11 : decode cX0_init 11 = .ok (.new 15, 3) := dk_187 0 15 (dk_at dksX0_init_0 11 rfl rfl)
theorem dX0_init_14 : decode cX0_init 14 = .ok (.dup, 1) := dk_89 (dk_at dksX0_init_0 14 rfl rfl)
theorem dX0_init_15 : decode cX0_init 15 = .ok (.invokespecial 17, 3) := dk_183 0 17 (dk_at dksX0_init_0 15 rfl rfl)
theorem dX0_init_18 : decode cX0_init 18 = .ok (.aastore, 1) := dk_83 (dk_at dksX0_init_0 18 rfl rfl)
theorem dX0_init_19 : decode cX0_init 19 = .ok (.dup, 1) := dk_89 (dk_at dksX0_init_0 19 rfl rfl)
theorem dX0_init_20 : decode cX0_init 20 = .ok (.iconst 1, 1) := dk_4 (dk_at dksX0_init_0 20 rfl rfl)
theorem dX0_init_21 : decode cX0_init 21 = .ok (.new 15, 3) := dk_187 0 15 (dk_at dksX0_init_0 21 rfl rfl)
theorem dX0_init_24 : decode cX0_init 24 = .ok (.dup, 1) := dk_89 (dk_at dksX0_init_1 0 rfl rfl)
theorem dX0_init_25 : decode cX0_init 25 = .ok (.invokespecial 17, 3) := dk_183 0 17 (dk_at dksX0_init_1 1 rfl rfl)
theorem dX0_init_28 : decode cX0_init 28 = .ok (.aastore, 1) := dk_83 (dk_at dksX0_init_1 4 rfl rfl)
theorem dX0_init_29 : decode cX0_init 29 = .ok (.dup, 1) := dk_89 (dk_at dksX0_init_1 5 rfl rfl)
theorem dX0_init_30 : decode cX0_init 30 = .ok (.iconst 2, 1) := dk_5 (dk_at dksX0_init_1 6 rfl rfl)
theorem dX0_init_31 : decode cX0_init 31 = .ok (.new 15, 3) := dk_187 0 15 (dk_at dksX0_init_1 7 rfl rfl)
theorem dX0_init_34 : decode cX0_init 34 = .ok (.dup, 1) := dk_89 (dk_at dksX0_init_1 10 rfl rfl)
theorem dX0_init_35 : decode cX0_init 35 = .ok (.invokespecial 17, 3) := dk_183 0 17 (dk_at dksX0_init_1 11 rfl rfl)
theorem dX0_init_38 : decode cX0_init 38 = .ok (.aastore, 1) := dk_83 (dk_at dksX0_init_1 14 rfl rfl)
theorem dX0_init_39 : decode cX0_init 39 = .ok (.dup, 1) := dk_89 (dk_at dksX0_init_1 15 rfl rfl)
theorem dX0_init_40 : decode cX0_init 40 = .ok (.iconst 3, 1) := dk_6 (dk_at dksX0_init_1 16 rfl rfl)
theorem dX0_init_41 : decode cX0_init 41 = .ok (.new 15, 3) := dk_187 0 15 (dk_at dksX0_init_1 17 rfl rfl)
theorem dX0_init_44 : decode cX0_init 44 = .ok (.dup, 1) := dk_89 (dk_at dksX0_init_1 20 rfl rfl)
theorem dX0_init_45 : decode cX0_init 45 = .ok (.invokespecial 17, 3) := dk_183 0 17 (dk_at dksX0_init_1 21 rfl rfl)
theorem dX0_init_48 : decode cX0_init 48 = .ok (.aastore, 1) := dk_83 (dk_at dksX0_init_2 0 rfl rfl)
theorem dX0_init_49 : decode cX0_init 49 = .ok (.putfield 18, 3) := dk_181 0 18 (dk_at dksX0_init_2 1 rfl rfl)
theorem dX0_init_52 : decode cX0_init 52 = .ok (.aload_n 0, 1) := dk_42 (dk_at dksX0_init_2 4 rfl rfl)
theorem dX0_init_53 : decode cX0_init 53 = .ok (.sipush 900, 3) := dk_17 3 132 (dk_at dksX0_init_2 5 rfl rfl)
theorem dX0_init_56 : decode cX0_init 56 = .ok (.newarray .byte, 2) := dk_188_8 (dk_at dksX0_init_2 8 rfl rfl)
theorem dX0_init_58 : decode cX0_init 58 = .ok (.putfield 24, 3) := dk_181 0 24 (dk_at dksX0_init_2 10 rfl rfl)
theorem dX0_init_61 : decode cX0_init 61 = .ok (.aload_n 0, 1) := dk_42 (dk_at dksX0_init_2 13 rfl rfl)
theorem dX0_init_62 : decode cX0_init 62 = .ok (.iconst (-1), 1) := dk_2 (dk_at dksX0_init_2 14 rfl rfl)
theorem dX0_init_63 : decode cX0_init 63 = .ok (.putfield 27, 3) := dk_181 0 27 (dk_at dksX0_init_2 15 rfl rfl)
theorem dX0_init_66 : decode cX0_init 66 = .ok (.aload_n 0, 1) := dk_42 (dk_at dksX0_init_2 18 rfl rfl)
theorem dX0_init_67 : decode cX0_init 67 = .ok (.iconst (-1), 1) := dk_2 (dk_at dksX0_init_2 19 rfl rfl)
theorem dX0_init_68 : decode cX0_init 68 = .ok (.putfield 31, 3) := dk_181 0 31 (dk_at dksX0_init_2 20 rfl rfl)
theorem dX0_init_71 : decode cX0_init 71 = .ok (.aload_n 0, 1) := dk_42 (dk_at dksX0_init_2 23 rfl rfl)
theorem dX0_init_72 : decode cX0_init 72 = .ok (.new 34, 3) := dk_187 0 34 (dk_at dksX0_init_3 0 rfl rfl)
theorem dX0_init_75 : decode cX0_init 75 = .ok (.dup, 1) := dk_89 (dk_at dksX0_init_3 3 rfl rfl)
theorem dX0_init_76 : decode cX0_init 76 = .ok (.invokespecial 36, 3) := dk_183 0 36 (dk_at dksX0_init_3 4 rfl rfl)
theorem dX0_init_79 : decode cX0_init 79 = .ok (.putfield 37, 3) := dk_181 0 37 (dk_at dksX0_init_3 7 rfl rfl)
theorem dX0_init_82 : decode cX0_init 82 = .ok (.aload_n 0, 1) := dk_42 (dk_at dksX0_init_3 10 rfl rfl)
theorem dX0_init_83 : decode cX0_init 83 = .ok (.new 41, 3) := dk_187 0 41 (dk_at dksX0_init_3 11 rfl rfl)
theorem dX0_init_86 : decode cX0_init 86 = .ok (.dup, 1) := dk_89 (dk_at dksX0_init_3 14 rfl rfl)
theorem dX0_init_87 : decode cX0_init 87 = .ok (.invokespecial 43, 3) := dk_183 0 43 (dk_at dksX0_init_3 15 rfl rfl)
theorem dX0_init_90 : decode cX0_init 90 = .ok (.putfield 44, 3) := dk_181 0 44 (dk_at dksX0_init_3 18 rfl rfl)
theorem dX0_init_93 : decode cX0_init 93 = .ok (.aload_n 0, 1) := dk_42 (dk_at dksX0_init_3 21 rfl rfl)
theorem dX0_init_94 : decode cX0_init 94 = .ok (.lconst 1, 1) := dk_10 (dk_at dksX0_init_3 22 rfl rfl)
theorem dX0_init_95 : decode cX0_init 95 = .ok (.putfield 48, 3) := dk_181 0 48 (dk_at dksX0_init_4 0 rfl rfl)
theorem dX0_init_98 : decode cX0_init 98 = .ok (.aload_n 0, 1) := dk_42 (dk_at dksX0_init_4 3 rfl rfl)
theorem dX0_init_99 : decode cX0_init 99 = .ok (.new 52, 3) := dk_187 0 52 (dk_at dksX0_init_4 4 rfl rfl)
theorem dX0_init_102 : decode cX0_init 102 = .ok (.dup, 1) := dk_89 (dk_at dksX0_init_4 7 rfl rfl)
theorem dX0_init_103 : decode cX0_init 103 = .ok (.invokespecial 54, 3) := dk_183 0 54 (dk_at dksX0_init_4 8 rfl rfl)
theorem dX0_init_106 : decode cX0_init 106 = .ok (.putfield 55, 3) := dk_181 0 55 (dk_at dksX0_init_4 11 rfl rfl)
theorem dX0_init_109 : decode cX0_init 109 = .ok (.aload_n 0, 1) := dk_42 (dk_at dksX0_init_4 14 rfl rfl)
theorem dX0_init_110 : decode cX0_init 110 = .ok (.iconst 3, 1) := dk_6 (dk_at dksX0_init_4 15 rfl rfl)
theorem dX0_init_111 : decode cX0_init 111 = .ok (.anewarray 52, 3) := dk_189 0 52 (dk_at dksX0_init_4 16 rfl rfl)
theorem dX0_init_114 : decode cX0_init 114 = .ok (.putfield 59, 3) := dk_181 0 59 (dk_at dksX0_init_4 19 rfl rfl)
theorem dX0_init_117 : decode cX0_init 117 = .ok (.aload_n 0, 1) := dk_42 (dk_at dksX0_init_4 22 rfl rfl)
theorem dX0_init_118 : decode cX0_init 118 = .ok (.bipush 8, 2) := dk_16 8 (dk_at dksX0_init_5 0 rfl rfl)
theorem dX0_init_120 : decode cX0_init 120 = .ok (.newarray .int, 2) := dk_188_10 (dk_at dksX0_init_5 2 rfl rfl)
theorem dX0_init_122 : decode cX0_init 122 = .ok (.putfield 63, 3) := dk_181 0 63 (dk_at dksX0_init_5 4 rfl rfl)
theorem dX0_init_125 : decode cX0_init 125 = .ok (.aload_n 0, 1) := dk_42 (dk_at dksX0_init_5 7 rfl rfl)
theorem dX0_init_126 : decode cX0_init 126 = .ok (.bipush 8, 2) := dk_16 8 (dk_at dksX0_init_5 8 rfl rfl)
theorem dX0_init_128 : decode cX0_init 128 = .ok (.newarray .int, 2) := dk_188_10 (dk_at dksX0_init_5 10 rfl rfl)
theorem dX0_init_130 : decode cX0_init 130 = .ok (.putfield 66, 3) := dk_181 0 66 (dk_at dksX0_init_5 12 rfl rfl)
theorem dX0_init_133 : decode cX0_init 133 = .ok (.aload_n 0, 1) := dk_42 (dk_at dksX0_init_5 15 rfl rfl)
theorem dX0_init_134 : decode cX0_init 134 = .ok (.bipush 8, 2) := dk_16 8 (dk_at dksX0_init_5 16 rfl rfl)
theorem dX0_init_136 : decode cX0_init 136 = .ok (.newarray .int, 2) := dk_188_10 (dk_at dksX0_init_5 18 rfl rfl)
theorem dX0_init_138 : decode cX0_init 138 = .ok (.putfield 69, 3) := dk_181 0 69 (dk_at dksX0_init_5 20 rfl rfl)
theorem dX0_init_141 : decode cX0_init 141 = .ok (.aload_n 0, 1) := dk_42 (dk_at dksX0_init_5 23 rfl rfl)
theorem dX0_init_142 : decode cX0_init 142 = .ok (.bipush 8, 2) := dk_16 8 (dk_at dksX0_init_6 0 rfl rfl)
theorem dX0_init_144 : decode cX0_init 144 = .ok (.newarray .int, 2) := dk_188_10 (dk_at dksX0_init_6 2 rfl rfl)
theorem dX0_init_146 : decode cX0_init 146 = .ok (.putfield 72, 3) := dk_181 0 72 (dk_at dksX0_init_6 4 rfl rfl)
theorem dX0_init_149 : decode cX0_init 149 = .ok (.aload_n 0, 1) := dk_42 (dk_at dksX0_init_6 7 rfl rfl)
theorem dX0_init_150 : decode cX0_init 150 = .ok (.new 75, 3) := dk_187 0 75 (dk_at dksX0_init_6 8 rfl rfl)
theorem dX0_init_153 : decode cX0_init 153 = .ok (.dup, 1) := dk_89 (dk_at dksX0_init_6 11 rfl rfl)
theorem dX0_init_154 : decode cX0_init 154 = .ok (.invokespecial 77, 3) := dk_183 0 77 (dk_at dksX0_init_6 12 rfl rfl)
theorem dX0_init_157 : decode cX0_init 157 = .ok (.putfield 78, 3) := dk_181 0 78 (dk_at dksX0_init_6 15 rfl rfl)
theorem dX0_init_160 : decode cX0_init 160 = .ok (.aload_n 0, 1) := dk_42 (dk_at dksX0_init_6 18 rfl rfl)
theorem dX0_init_161 : decode cX0_init 161 = .ok (.iconst 5, 1) := dk_8 (dk_at dksX0_init_6 19 rfl rfl)
theorem dX0_init_162 : decode cX0_init 162 = .ok (.newarray .int, 2) := dk_188_10 (dk_at dksX0_init_6 20 rfl rfl)
theorem dX0_init_164 : decode cX0_init 164 = .ok (.putfield 82, 3) := dk_181 0 82 (dk_at dksX0_init_7 0 rfl rfl)
theorem dX0_init_167 : decode cX0_init 167 = .ok (.return_, 1) := dk_177 (dk_at dksX0_init_7 3 rfl rfl)
abbrev cX0_status : ByteArray := prog_1_method_7_code
def yX0_status : MethodName := ⟨RX0, "status", "()I"⟩
theorem dX0_status_0 : decode cX0_status 0 = .ok (.aload_n 0, 1) := by decide +kernel
theorem dX0_status_1 : decode cX0_status 1 = .ok (.getfield 85, 3) := by decide +kernel
theorem dX0_status_4 : decode cX0_status 4 = .ok (.ireturn, 1) := by decide +kernel
abbrev cX0_top : ByteArray := prog_1_method_8_code
def yX0_top : MethodName := ⟨RX0, "top", "()J"⟩
theorem dX0_top_0 : decode cX0_top 0 = .ok (.aload_n 0, 1) := by decide +kernel
theorem dX0_top_1 : decode cX0_top 1 = .ok (.getfield 88, 3) := by decide +kernel
theorem dX0_top_4 : decode cX0_top 4 = .ok (.lreturn, 1) := by decide +kernel
abbrev cX0_bottom : ByteArray := prog_1_method_9_code
def yX0_bottom : MethodName := ⟨RX0, "bottom", "()J"⟩
theorem dX0_bottom_0 : decode cX0_bottom 0 = .ok (.aload_n 0, 1) := by decide +kernel
theorem dX0_bottom_1 : decode cX0_bottom 1 = .ok (.getfield 48, 3) := by decide +kernel
theorem dX0_bottom_4 : decode cX0_bottom 4 = .ok (.lreturn, 1) := by decide +kernel
abbrev cX0_tray : ByteArray := prog_1_method_15_code
def yX0_tray : MethodName := ⟨RX0, "tray", "(III)Z"⟩
def dkwX0_tray_3 : List UInt8 := [182, 0, 122, 172]
abbrev dktX0_tray_3 : List UInt8 := dkwX0_tray_3 ++ []
def dkwX0_tray_2 : List UInt8 := [184, 0, 117, 181, 0, 114, 4, 172, 58, 4, 42, 4, 181, 0, 85, 3, 172, 58, 4, 42, 25, 4]
abbrev dktX0_tray_2 : List UInt8 := dkwX0_tray_2 ++ dktX0_tray_3
def dkwX0_tray_1 : List UInt8 := [29, 16, 60, 163, 0, 7, 4, 167, 0, 4, 3, 4, 182, 0, 110, 42, 180, 0, 18, 27, 50, 28, 29]
abbrev dktX0_tray_1 : List UInt8 := dkwX0_tray_1 ++ dktX0_tray_2
def dkwX0_tray_0 : List UInt8 := [42, 3, 181, 0, 85, 42, 27, 155, 0, 27, 27, 7, 162, 0, 22, 28, 155, 0, 18, 28, 6, 163, 0, 13]
abbrev dktX0_tray_0 : List UInt8 := dkwX0_tray_0 ++ dktX0_tray_1
theorem dksX0_tray_0 : cX0_tray.data.toList.drop 0 = dktX0_tray_0 := by decide +kernel
theorem dksX0_tray_1 : cX0_tray.data.toList.drop 24 = dktX0_tray_1 := dk_seg dksX0_tray_0 24 rfl rfl
theorem dksX0_tray_2 : cX0_tray.data.toList.drop 47 = dktX0_tray_2 := dk_seg dksX0_tray_1 23 rfl rfl
theorem dksX0_tray_3 : cX0_tray.data.toList.drop 69 = dktX0_tray_3 := dk_seg dksX0_tray_2 22 rfl rfl
theorem dX0_tray_0 : decode cX0_tray 0 = .ok (.aload_n 0, 1) := dk_42 (dk_at dksX0_tray_0 0 rfl rfl)
theorem dX0_tray_1 : decode cX0_tray 1 = .ok (.iconst 0, 1) := dk_3 (dk_at dksX0_tray_0 1 rfl rfl)
theorem dX0_tray_2 : decode cX0_tray 2 = .ok (.putfield 85, 3) := dk_181 0 85 (dk_at dksX0_tray_0 2 rfl rfl)
theorem dX0_tray_5 : decode cX0_tray 5 = .ok (.aload_n 0, 1) := dk_42 (dk_at dksX0_tray_0 5 rfl rfl)
theorem dX0_tray_6 : decode cX0_tray 6 = .ok (.iload_n 1, 1) := dk_27 (dk_at dksX0_tray_0 6 rfl rfl)
theorem dX0_tray_7 : decode cX0_tray 7 = .ok (.ifCond .lt 27, 3) := dk_155 0 27 (dk_at dksX0_tray_0 7 rfl rfl)
theorem dX0_tray_10 : decode cX0_tray 10 = .ok (.iload_n 1, 1) := dk_27 (dk_at dksX0_tray_0 10 rfl rfl)
theorem dX0_tray_11 : decode cX0_tray 11 = .ok (.iconst 4, 1) := dk_7 (dk_at dksX0_tray_0 11 rfl rfl)
theorem dX0_tray_12 : decode cX0_tray 12 = .ok (.if_icmp .ge 22, 3) := dk_162 0 22 (dk_at dksX0_tray_0 12 rfl rfl)
theorem dX0_tray_15 : decode cX0_tray 15 = .ok (.iload_n 2, 1) := dk_28 (dk_at dksX0_tray_0 15 rfl rfl)
theorem dX0_tray_16 : decode cX0_tray 16 = .ok (.ifCond .lt 18, 3) := dk_155 0 18 (dk_at dksX0_tray_0 16 rfl rfl)
theorem dX0_tray_19 : decode cX0_tray 19 = .ok (.iload_n 2, 1) := dk_28 (dk_at dksX0_tray_0 19 rfl rfl)
theorem dX0_tray_20 : decode cX0_tray 20 = .ok (.iconst 3, 1) := dk_6 (dk_at dksX0_tray_0 20 rfl rfl)
theorem dX0_tray_21 : decode cX0_tray 21 = .ok (.if_icmp .gt 13, 3) := dk_163 0 13 (dk_at dksX0_tray_0 21 rfl rfl)
theorem dX0_tray_24 : decode cX0_tray 24 = .ok (.iload_n 3, 1) := dk_29 (dk_at dksX0_tray_1 0 rfl rfl)
theorem dX0_tray_25 : decode cX0_tray 25 = .ok (.bipush 60, 2) := dk_16 60 (dk_at dksX0_tray_1 1 rfl rfl)
theorem dX0_tray_27 : decode cX0_tray 27 = .ok (.if_icmp .gt 7, 3) := dk_163 0 7 (dk_at dksX0_tray_1 3 rfl rfl)
theorem dX0_tray_30 : decode cX0_tray 30 = .ok (.iconst 1, 1) := dk_4 (dk_at dksX0_tray_1 6 rfl rfl)
theorem dX0_tray_31 : decode cX0_tray 31 = .ok (.goto 4, 3) := dk_167 0 4 (dk_at dksX0_tray_1 7 rfl rfl)
theorem dX0_tray_34 : decode cX0_tray 34 = .ok (.iconst 0, 1) := dk_3 (dk_at dksX0_tray_1 10 rfl rfl)
theorem dX0_tray_35 : decode cX0_tray 35 = .ok (.iconst 1, 1) := dk_4 (dk_at dksX0_tray_1 11 rfl rfl)
theorem dX0_tray_36 : decode cX0_tray 36 = .ok (.invokevirtual 110, 3) := dk_182 0 110 (dk_at dksX0_tray_1 12 rfl rfl)
theorem dX0_tray_39 : decode cX0_tray 39 = .ok (.aload_n 0, 1) := dk_42 (dk_at dksX0_tray_1 15 rfl rfl)
theorem dX0_tray_40 : decode cX0_tray 40 = .ok (.getfield 18, 3) := dk_180 0 18 (dk_at dksX0_tray_1 16 rfl rfl)
theorem dX0_tray_43 : decode cX0_tray 43 = .ok (.iload_n 1, 1) := dk_27 (dk_at dksX0_tray_1 19 rfl rfl)
theorem dX0_tray_44 : decode cX0_tray 44 = .ok (.aaload, 1) := dk_50 (dk_at dksX0_tray_1 20 rfl rfl)
theorem dX0_tray_45 : decode cX0_tray 45 = .ok (.iload_n 2, 1) := dk_28 (dk_at dksX0_tray_1 21 rfl rfl)
theorem dX0_tray_46 : decode cX0_tray 46 = .ok (.iload_n 3, 1) := dk_29 (dk_at dksX0_tray_1 22 rfl rfl)
theorem dX0_tray_47 : decode cX0_tray 47 = .ok (.invokestatic 117, 3) := dk_184 0 117 (dk_at dksX0_tray_2 0 rfl rfl)
theorem dX0_tray_50 : decode cX0_tray 50 = .ok (.putfield 114, 3) := dk_181 0 114 (dk_at dksX0_tray_2 3 rfl rfl)
theorem dX0_tray_53 : decode cX0_tray 53 = .ok (.iconst 1, 1) := dk_4 (dk_at dksX0_tray_2 6 rfl rfl)
theorem dX0_tray_54 : decode cX0_tray 54 = .ok (.ireturn, 1) := dk_172 (dk_at dksX0_tray_2 7 rfl rfl)
theorem dX0_tray_55 : decode cX0_tray 55 = .ok (.astore 4, 2) := dk_58 4 (dk_at dksX0_tray_2 8 rfl rfl)
theorem dX0_tray_57 : decode cX0_tray 57 = .ok (.aload_n 0, 1) := dk_42 (dk_at dksX0_tray_2 10 rfl rfl)
theorem dX0_tray_58 : decode cX0_tray 58 = .ok (.iconst 1, 1) := dk_4 (dk_at dksX0_tray_2 11 rfl rfl)
theorem dX0_tray_59 : decode cX0_tray 59 = .ok (.putfield 85, 3) := dk_181 0 85 (dk_at dksX0_tray_2 12 rfl rfl)
theorem dX0_tray_62 : decode cX0_tray 62 = .ok (.iconst 0, 1) := dk_3 (dk_at dksX0_tray_2 15 rfl rfl)
theorem dX0_tray_63 : decode cX0_tray 63 = .ok (.ireturn, 1) := dk_172 (dk_at dksX0_tray_2 16 rfl rfl)
theorem dX0_tray_64 : decode cX0_tray 64 = .ok (.astore 4, 2) := dk_58 4 (dk_at dksX0_tray_2 17 rfl rfl)
theorem dX0_tray_66 : decode cX0_tray 66 = .ok (.aload_n 0, 1) := dk_42 (dk_at dksX0_tray_2 19 rfl rfl)
theorem dX0_tray_67 : decode cX0_tray 67 = .ok (.aload 4, 2) := dk_25 4 (dk_at dksX0_tray_2 20 rfl rfl)
theorem dX0_tray_69 : decode cX0_tray 69 = .ok (.invokevirtual 122, 3) := dk_182 0 122 (dk_at dksX0_tray_3 0 rfl rfl)
theorem dX0_tray_72 : decode cX0_tray 72 = .ok (.ireturn, 1) := dk_172 (dk_at dksX0_tray_3 3 rfl rfl)
abbrev cX0_want : ByteArray := prog_1_method_10_code
def yX0_want : MethodName := ⟨RX0, "want", "(ZI)V"⟩
def dkwX0_want_0 : List UInt8 := [27, 154, 0, 12, 42, 180, 0, 44, 28, 182, 0, 91, 191, 177]
abbrev dktX0_want_0 : List UInt8 := dkwX0_want_0 ++ []
theorem dksX0_want_0 : cX0_want.data.toList.drop 0 = dktX0_want_0 := by decide +kernel
theorem dX0_want_0 : decode cX0_want 0 = .ok (.iload_n 1, 1) := dk_27 (dk_at dksX0_want_0 0 rfl rfl)
theorem dX0_want_1 : decode cX0_want 1 = .ok (.ifCond .ne 12, 3) := dk_154 0 12 (dk_at dksX0_want_0 1 rfl rfl)
theorem dX0_want_4 : decode cX0_want 4 = .ok (.aload_n 0, 1) := dk_42 (dk_at dksX0_want_0 4 rfl rfl)
theorem dX0_want_5 : decode cX0_want 5 = .ok (.getfield 44, 3) := dk_180 0 44 (dk_at dksX0_want_0 5 rfl rfl)
theorem dX0_want_8 : decode cX0_want 8 = .ok (.iload_n 2, 1) := dk_28 (dk_at dksX0_want_0 8 rfl rfl)
theorem dX0_want_9 : decode cX0_want 9 = .ok (.invokevirtual 91, 3) := dk_182 0 91 (dk_at dksX0_want_0 9 rfl rfl)
theorem dX0_want_12 : decode cX0_want 12 = .ok (.athrow, 1) := dk_191 (dk_at dksX0_want_0 12 rfl rfl)
theorem dX0_want_13 : decode cX0_want 13 = .ok (.return_, 1) := dk_177 (dk_at dksX0_want_0 13 rfl rfl)
abbrev cX0_row : ByteArray := prog_1_method_1_code
def yX0_row : MethodName := ⟨RX0, "row", "(II)Ljava/lang/Object;"⟩
def dkwX0_row_1 : List UInt8 := [160, 0, 9, 27, 188, 10, 167, 0, 6, 27, 188, 11, 176]
abbrev dktX0_row_1 : List UInt8 := dkwX0_row_1 ++ []
def dkwX0_row_0 : List UInt8 := [26, 154, 0, 9, 27, 188, 8, 167, 0, 28, 26, 4, 160, 0, 9, 27, 188, 9, 167, 0, 17, 26, 5]
abbrev dktX0_row_0 : List UInt8 := dkwX0_row_0 ++ dktX0_row_1
theorem dksX0_row_0 : cX0_row.data.toList.drop 0 = dktX0_row_0 := by decide +kernel
theorem dksX0_row_1 : cX0_row.data.toList.drop 23 = dktX0_row_1 := dk_seg dksX0_row_0 23 rfl rfl
theorem dX0_row_0 : decode cX0_row 0 = .ok (.iload_n 0, 1) := dk_26 (dk_at dksX0_row_0 0 rfl rfl)
theorem dX0_row_1 : decode cX0_row 1 = .ok (.ifCond .ne 9, 3) := dk_154 0 9 (dk_at dksX0_row_0 1 rfl rfl)
theorem dX0_row_4 : decode cX0_row 4 = .ok (.iload_n 1, 1) := dk_27 (dk_at dksX0_row_0 4 rfl rfl)
theorem dX0_row_5 : decode cX0_row 5 = .ok (.newarray .byte, 2) := dk_188_8 (dk_at dksX0_row_0 5 rfl rfl)
theorem dX0_row_7 : decode cX0_row 7 = .ok (.goto 28, 3) := dk_167 0 28 (dk_at dksX0_row_0 7 rfl rfl)
theorem dX0_row_10 : decode cX0_row 10 = .ok (.iload_n 0, 1) := dk_26 (dk_at dksX0_row_0 10 rfl rfl)
theorem dX0_row_11 : decode cX0_row 11 = .ok (.iconst 1, 1) := dk_4 (dk_at dksX0_row_0 11 rfl rfl)
theorem dX0_row_12 : decode cX0_row 12 = .ok (.if_icmp .ne 9, 3) := dk_160 0 9 (dk_at dksX0_row_0 12 rfl rfl)
theorem dX0_row_15 : decode cX0_row 15 = .ok (.iload_n 1, 1) := dk_27 (dk_at dksX0_row_0 15 rfl rfl)
theorem dX0_row_16 : decode cX0_row 16 = .ok (.newarray .short, 2) := dk_188_9 (dk_at dksX0_row_0 16 rfl rfl)
theorem dX0_row_18 : decode cX0_row 18 = .ok (.goto 17, 3) := dk_167 0 17 (dk_at dksX0_row_0 18 rfl rfl)
theorem dX0_row_21 : decode cX0_row 21 = .ok (.iload_n 0, 1) := dk_26 (dk_at dksX0_row_0 21 rfl rfl)
theorem dX0_row_22 : decode cX0_row 22 = .ok (.iconst 2, 1) := dk_5 (dk_at dksX0_row_0 22 rfl rfl)
theorem dX0_row_23 : decode cX0_row 23 = .ok (.if_icmp .ne 9, 3) := dk_160 0 9 (dk_at dksX0_row_1 0 rfl rfl)
theorem dX0_row_26 : decode cX0_row 26 = .ok (.iload_n 1, 1) := dk_27 (dk_at dksX0_row_1 3 rfl rfl)
theorem dX0_row_27 : decode cX0_row 27 = .ok (.newarray .int, 2) := dk_188_10 (dk_at dksX0_row_1 4 rfl rfl)
theorem dX0_row_29 : decode cX0_row 29 = .ok (.goto 6, 3) := dk_167 0 6 (dk_at dksX0_row_1 6 rfl rfl)
theorem dX0_row_32 : decode cX0_row 32 = .ok (.iload_n 1, 1) := dk_27 (dk_at dksX0_row_1 9 rfl rfl)
theorem dX0_row_33 : decode cX0_row 33 = .ok (.newarray .long, 2) := dk_188_11 (dk_at dksX0_row_1 10 rfl rfl)
theorem dX0_row_35 : decode cX0_row 35 = .ok (.areturn, 1) := dk_176 (dk_at dksX0_row_1 12 rfl rfl)
abbrev cX0_no : ByteArray := prog_1_method_12_code
def yX0_no : MethodName := ⟨RX0, "no", "(LLastPebble$Refused;)Z"⟩
def dkwX0_no_0 : List UInt8 := [42, 43, 180, 0, 95, 181, 0, 85, 3, 172]
abbrev dktX0_no_0 : List UInt8 := dkwX0_no_0 ++ []
theorem dksX0_no_0 : cX0_no.data.toList.drop 0 = dktX0_no_0 := by decide +kernel
theorem dX0_no_0 : decode cX0_no 0 = .ok (.aload_n 0, 1) := dk_42 (dk_at dksX0_no_0 0 rfl rfl)
theorem dX0_no_1 : decode cX0_no 1 = .ok (.aload_n 1, 1) := dk_43 (dk_at dksX0_no_0 1 rfl rfl)
theorem dX0_no_2 : decode cX0_no 2 = .ok (.getfield 95, 3) := dk_180 0 95 (dk_at dksX0_no_0 2 rfl rfl)
theorem dX0_no_5 : decode cX0_no 5 = .ok (.putfield 85, 3) := dk_181 0 85 (dk_at dksX0_no_0 5 rfl rfl)
theorem dX0_no_8 : decode cX0_no 8 = .ok (.iconst 0, 1) := dk_3 (dk_at dksX0_no_0 8 rfl rfl)
theorem dX0_no_9 : decode cX0_no 9 = .ok (.ireturn, 1) := dk_172 (dk_at dksX0_no_0 9 rfl rfl)
abbrev cX0_write : ByteArray := prog_1_method_16_code
def yX0_write : MethodName := ⟨RX0, "write", "(IIJ)Z"⟩
def dkwX0_write_1 : List UInt8 := [3, 172, 58, 5, 42, 25, 5, 182, 0, 122, 172]
abbrev dktX0_write_1 : List UInt8 := dkwX0_write_1 ++ []
def dkwX0_write_0 : List UInt8 := [42, 3, 181, 0, 85, 42, 27, 182, 0, 126, 28, 33, 184, 0, 130, 4, 172, 58, 5, 42, 6, 181, 0, 85]
abbrev dktX0_write_0 : List UInt8 := dkwX0_write_0 ++ dktX0_write_1
theorem dksX0_write_0 : cX0_write.data.toList.drop 0 = dktX0_write_0 := by decide +kernel
theorem dksX0_write_1 : cX0_write.data.toList.drop 24 = dktX0_write_1 := dk_seg dksX0_write_0 24 rfl rfl
theorem dX0_write_0 : decode cX0_write 0 = .ok (.aload_n 0, 1) := dk_42 (dk_at dksX0_write_0 0 rfl rfl)
theorem dX0_write_1 : decode cX0_write 1 = .ok (.iconst 0, 1) := dk_3 (dk_at dksX0_write_0 1 rfl rfl)
theorem dX0_write_2 : decode cX0_write 2 = .ok (.putfield 85, 3) := dk_181 0 85 (dk_at dksX0_write_0 2 rfl rfl)
theorem dX0_write_5 : decode cX0_write 5 = .ok (.aload_n 0, 1) := dk_42 (dk_at dksX0_write_0 5 rfl rfl)
theorem dX0_write_6 : decode cX0_write 6 = .ok (.iload_n 1, 1) := dk_27 (dk_at dksX0_write_0 6 rfl rfl)
theorem dX0_write_7 : decode cX0_write 7 = .ok (.invokevirtual 126, 3) := dk_182 0 126 (dk_at dksX0_write_0 7 rfl rfl)
theorem dX0_write_10 : decode cX0_write 10 = .ok (.iload_n 2, 1) := dk_28 (dk_at dksX0_write_0 10 rfl rfl)
theorem dX0_write_11 : decode cX0_write 11 = .ok (.lload_n 3, 1) := dk_33 (dk_at dksX0_write_0 11 rfl rfl)
theorem dX0_write_12 : decode cX0_write 12 = .ok (.invokestatic 130, 3) := dk_184 0 130 (dk_at dksX0_write_0 12 rfl rfl)
theorem dX0_write_15 : decode cX0_write 15 = .ok (.iconst 1, 1) := dk_4 (dk_at dksX0_write_0 15 rfl rfl)
theorem dX0_write_16 : decode cX0_write 16 = .ok (.ireturn, 1) := dk_172 (dk_at dksX0_write_0 16 rfl rfl)
theorem dX0_write_17 : decode cX0_write 17 = .ok (.astore 5, 2) := dk_58 5 (dk_at dksX0_write_0 17 rfl rfl)
theorem dX0_write_19 : decode cX0_write 19 = .ok (.aload_n 0, 1) := dk_42 (dk_at dksX0_write_0 19 rfl rfl)
theorem dX0_write_20 : decode cX0_write 20 = .ok (.iconst 3, 1) := dk_6 (dk_at dksX0_write_0 20 rfl rfl)
theorem dX0_write_21 : decode cX0_write 21 = .ok (.putfield 85, 3) := dk_181 0 85 (dk_at dksX0_write_0 21 rfl rfl)
theorem dX0_write_24 : decode cX0_write 24 = .ok (.iconst 0, 1) := dk_3 (dk_at dksX0_write_1 0 rfl rfl)
theorem dX0_write_25 : decode cX0_write 25 = .ok (.ireturn, 1) := dk_172 (dk_at dksX0_write_1 1 rfl rfl)
theorem dX0_write_26 : decode cX0_write 26 = .ok (.astore 5, 2) := dk_58 5 (dk_at dksX0_write_1 2 rfl rfl)
theorem dX0_write_28 : decode cX0_write 28 = .ok (.aload_n 0, 1) := dk_42 (dk_at dksX0_write_1 4 rfl rfl)
theorem dX0_write_29 : decode cX0_write 29 = .ok (.aload 5, 2) := dk_25 5 (dk_at dksX0_write_1 5 rfl rfl)
theorem dX0_write_31 : decode cX0_write 31 = .ok (.invokevirtual 122, 3) := dk_182 0 122 (dk_at dksX0_write_1 7 rfl rfl)
theorem dX0_write_34 : decode cX0_write 34 = .ok (.ireturn, 1) := dk_172 (dk_at dksX0_write_1 10 rfl rfl)
abbrev cX0_on : ByteArray := prog_1_method_14_code
def yX0_on : MethodName := ⟨RX0, "on", "(I)Ljava/lang/Object;"⟩
def dkwX0_on_2 : List UInt8 := [180, 0, 114, 176]
abbrev dktX0_on_2 : List UInt8 := dkwX0_on_2 ++ []
def dkwX0_on_1 : List UInt8 := [27, 50, 180, 0, 114, 198, 0, 7, 4, 167, 0, 4, 3, 5, 182, 0, 110, 42, 180, 0, 18, 27, 50]
abbrev dktX0_on_1 : List UInt8 := dkwX0_on_1 ++ dktX0_on_2
def dkwX0_on_0 : List UInt8 := [42, 27, 155, 0, 12, 27, 7, 162, 0, 7, 4, 167, 0, 4, 3, 4, 182, 0, 110, 42, 42, 180, 0, 18]
abbrev dktX0_on_0 : List UInt8 := dkwX0_on_0 ++ dktX0_on_1
theorem dksX0_on_0 : cX0_on.data.toList.drop 0 = dktX0_on_0 := by decide +kernel
theorem dksX0_on_1 : cX0_on.data.toList.drop 24 = dktX0_on_1 := dk_seg dksX0_on_0 24 rfl rfl
theorem dksX0_on_2 : cX0_on.data.toList.drop 47 = dktX0_on_2 := dk_seg dksX0_on_1 23 rfl rfl
theorem dX0_on_0 : decode cX0_on 0 = .ok (.aload_n 0, 1) := dk_42 (dk_at dksX0_on_0 0 rfl rfl)
theorem dX0_on_1 : decode cX0_on 1 = .ok (.iload_n 1, 1) := dk_27 (dk_at dksX0_on_0 1 rfl rfl)
theorem dX0_on_2 : decode cX0_on 2 = .ok (.ifCond .lt 12, 3) := dk_155 0 12 (dk_at dksX0_on_0 2 rfl rfl)
theorem dX0_on_5 : decode cX0_on 5 = .ok (.iload_n 1, 1) := dk_27 (dk_at dksX0_on_0 5 rfl rfl)
theorem dX0_on_6 : decode cX0_on 6 = .ok (.iconst 4, 1) := dk_7 (dk_at dksX0_on_0 6 rfl rfl)
theorem dX0_on_7 : decode cX0_on 7 = .ok (.if_icmp .ge 7, 3) := dk_162 0 7 (dk_at dksX0_on_0 7 rfl rfl)
theorem dX0_on_10 : decode cX0_on 10 = .ok (.iconst 1, 1) := dk_4 (dk_at dksX0_on_0 10 rfl rfl)
theorem dX0_on_11 : decode cX0_on 11 = .ok (.goto 4, 3) := dk_167 0 4 (dk_at dksX0_on_0 11 rfl rfl)
theorem dX0_on_14 : decode cX0_on 14 = .ok (.iconst 0, 1) := dk_3 (dk_at dksX0_on_0 14 rfl rfl)
theorem dX0_on_15 : decode cX0_on 15 = .ok (.iconst 1, 1) := dk_4 (dk_at dksX0_on_0 15 rfl rfl)
theorem dX0_on_16 : decode cX0_on 16 = .ok (.invokevirtual 110, 3) := dk_182 0 110 (dk_at dksX0_on_0 16 rfl rfl)
theorem dX0_on_19 : decode cX0_on 19 = .ok (.aload_n 0, 1) := dk_42 (dk_at dksX0_on_0 19 rfl rfl)
theorem dX0_on_20 : decode cX0_on 20 = .ok (.aload_n 0, 1) := dk_42 (dk_at dksX0_on_0 20 rfl rfl)
theorem dX0_on_21 : decode cX0_on 21 = .ok (.getfield 18, 3) := dk_180 0 18 (dk_at dksX0_on_0 21 rfl rfl)
theorem dX0_on_24 : decode cX0_on 24 = .ok (.iload_n 1, 1) := dk_27 (dk_at dksX0_on_1 0 rfl rfl)
theorem dX0_on_25 : decode cX0_on 25 = .ok (.aaload, 1) := dk_50 (dk_at dksX0_on_1 1 rfl rfl)
theorem dX0_on_26 : decode cX0_on 26 = .ok (.getfield 114, 3) := dk_180 0 114 (dk_at dksX0_on_1 2 rfl rfl)
theorem dX0_on_29 : decode cX0_on 29 = .ok (.ifnull 7, 3) := dk_198 0 7 (dk_at dksX0_on_1 5 rfl rfl)
theorem dX0_on_32 : decode cX0_on 32 = .ok (.iconst 1, 1) := dk_4 (dk_at dksX0_on_1 8 rfl rfl)
theorem dX0_on_33 : decode cX0_on 33 = .ok (.goto 4, 3) := dk_167 0 4 (dk_at dksX0_on_1 9 rfl rfl)
theorem dX0_on_36 : decode cX0_on 36 = .ok (.iconst 0, 1) := dk_3 (dk_at dksX0_on_1 12 rfl rfl)
theorem dX0_on_37 : decode cX0_on 37 = .ok (.iconst 2, 1) := dk_5 (dk_at dksX0_on_1 13 rfl rfl)
theorem dX0_on_38 : decode cX0_on 38 = .ok (.invokevirtual 110, 3) := dk_182 0 110 (dk_at dksX0_on_1 14 rfl rfl)
theorem dX0_on_41 : decode cX0_on 41 = .ok (.aload_n 0, 1) := dk_42 (dk_at dksX0_on_1 17 rfl rfl)
theorem dX0_on_42 : decode cX0_on 42 = .ok (.getfield 18, 3) := dk_180 0 18 (dk_at dksX0_on_1 18 rfl rfl)
theorem dX0_on_45 : decode cX0_on 45 = .ok (.iload_n 1, 1) := dk_27 (dk_at dksX0_on_1 21 rfl rfl)
theorem dX0_on_46 : decode cX0_on 46 = .ok (.aaload, 1) := dk_50 (dk_at dksX0_on_1 22 rfl rfl)
theorem dX0_on_47 : decode cX0_on 47 = .ok (.getfield 114, 3) := dk_180 0 114 (dk_at dksX0_on_2 0 rfl rfl)
theorem dX0_on_50 : decode cX0_on 50 = .ok (.areturn, 1) := dk_176 (dk_at dksX0_on_2 3 rfl rfl)
abbrev cX0_put : ByteArray := prog_1_method_5_code
def yX0_put : MethodName := ⟨RX0, "put", "(Ljava/lang/Object;IJ)V"⟩
def dkwX0_put_3 : List UInt8 := [192, 0, 7, 27, 32, 80, 177]
abbrev dktX0_put_3 : List UInt8 := dkwX0_put_3 ++ []
def dkwX0_put_2 : List UInt8 := [193, 0, 5, 153, 0, 18, 42, 192, 0, 5, 58, 6, 25, 6, 27, 32, 136, 79, 167, 0, 10, 42]
abbrev dktX0_put_2 : List UInt8 := dkwX0_put_2 ++ dktX0_put_3
def dkwX0_put_1 : List UInt8 := [193, 0, 3, 153, 0, 19, 42, 192, 0, 3, 58, 5, 25, 5, 27, 32, 136, 147, 86, 167, 0, 32, 42]
abbrev dktX0_put_1 : List UInt8 := dkwX0_put_1 ++ dktX0_put_2
def dkwX0_put_0 : List UInt8 := [42, 193, 0, 1, 153, 0, 19, 42, 192, 0, 1, 58, 4, 25, 4, 27, 32, 136, 145, 84, 167, 0, 55, 42]
abbrev dktX0_put_0 : List UInt8 := dkwX0_put_0 ++ dktX0_put_1
theorem dksX0_put_0 : cX0_put.data.toList.drop 0 = dktX0_put_0 := by decide +kernel
theorem dksX0_put_1 : cX0_put.data.toList.drop 24 = dktX0_put_1 := dk_seg dksX0_put_0 24 rfl rfl
theorem dksX0_put_2 : cX0_put.data.toList.drop 47 = dktX0_put_2 := dk_seg dksX0_put_1 23 rfl rfl
theorem dksX0_put_3 : cX0_put.data.toList.drop 69 = dktX0_put_3 := dk_seg dksX0_put_2 22 rfl rfl
theorem dX0_put_0 : decode cX0_put 0 = .ok (.aload_n 0, 1) := dk_42 (dk_at dksX0_put_0 0 rfl rfl)
theorem dX0_put_1 : decode cX0_put 1 = .ok (.instanceof 1, 3) := dk_193 0 1 (dk_at dksX0_put_0 1 rfl rfl)
theorem dX0_put_4 : decode cX0_put 4 = .ok (.ifCond .eq 19, 3) := dk_153 0 19 (dk_at dksX0_put_0 4 rfl rfl)
theorem dX0_put_7 : decode cX0_put 7 = .ok (.aload_n 0, 1) := dk_42 (dk_at dksX0_put_0 7 rfl rfl)
theorem dX0_put_8 : decode cX0_put 8 = .ok (.checkcast 1, 3) := dk_192 0 1 (dk_at dksX0_put_0 8 rfl rfl)
theorem dX0_put_11 : decode cX0_put 11 = .ok (.astore 4, 2) := dk_58 4 (dk_at dksX0_put_0 11 rfl rfl)
theorem dX0_put_13 : decode cX0_put 13 = .ok (.aload 4, 2) := dk_25 4 (dk_at dksX0_put_0 13 rfl rfl)
theorem dX0_put_15 : decode cX0_put 15 = .ok (.iload_n 1, 1) := dk_27 (dk_at dksX0_put_0 15 rfl rfl)
theorem dX0_put_16 : decode cX0_put 16 = .ok (.lload_n 2, 1) := dk_32 (dk_at dksX0_put_0 16 rfl rfl)
theorem dX0_put_17 : decode cX0_put 17 = .ok (.l2i, 1) := dk_136 (dk_at dksX0_put_0 17 rfl rfl)
theorem dX0_put_18 : decode cX0_put 18 = .ok (.i2b, 1) := dk_145 (dk_at dksX0_put_0 18 rfl rfl)
theorem dX0_put_19 : decode cX0_put 19 = .ok (.bastore, 1) := dk_84 (dk_at dksX0_put_0 19 rfl rfl)
theorem dX0_put_20 : decode cX0_put 20 = .ok (.goto 55, 3) := dk_167 0 55 (dk_at dksX0_put_0 20 rfl rfl)
theorem dX0_put_23 : decode cX0_put 23 = .ok (.aload_n 0, 1) := dk_42 (dk_at dksX0_put_0 23 rfl rfl)
theorem dX0_put_24 : decode cX0_put 24 = .ok (.instanceof 3, 3) := dk_193 0 3 (dk_at dksX0_put_1 0 rfl rfl)
theorem dX0_put_27 : decode cX0_put 27 = .ok (.ifCond .eq 19, 3) := dk_153 0 19 (dk_at dksX0_put_1 3 rfl rfl)
theorem dX0_put_30 : decode cX0_put 30 = .ok (.aload_n 0, 1) := dk_42 (dk_at dksX0_put_1 6 rfl rfl)
theorem dX0_put_31 : decode cX0_put 31 = .ok (.checkcast 3, 3) := dk_192 0 3 (dk_at dksX0_put_1 7 rfl rfl)
theorem dX0_put_34 : decode cX0_put 34 = .ok (.astore 5, 2) := dk_58 5 (dk_at dksX0_put_1 10 rfl rfl)
theorem dX0_put_36 : decode cX0_put 36 = .ok (.aload 5, 2) := dk_25 5 (dk_at dksX0_put_1 12 rfl rfl)
theorem dX0_put_38 : decode cX0_put 38 = .ok (.iload_n 1, 1) := dk_27 (dk_at dksX0_put_1 14 rfl rfl)
theorem dX0_put_39 : decode cX0_put 39 = .ok (.lload_n 2, 1) := dk_32 (dk_at dksX0_put_1 15 rfl rfl)
theorem dX0_put_40 : decode cX0_put 40 = .ok (.l2i, 1) := dk_136 (dk_at dksX0_put_1 16 rfl rfl)
theorem dX0_put_41 : decode cX0_put 41 = .ok (.i2s, 1) := dk_147 (dk_at dksX0_put_1 17 rfl rfl)
theorem dX0_put_42 : decode cX0_put 42 = .ok (.sastore, 1) := dk_86 (dk_at dksX0_put_1 18 rfl rfl)
theorem dX0_put_43 : decode cX0_put 43 = .ok (.goto 32, 3) := dk_167 0 32 (dk_at dksX0_put_1 19 rfl rfl)
theorem dX0_put_46 : decode cX0_put 46 = .ok (.aload_n 0, 1) := dk_42 (dk_at dksX0_put_1 22 rfl rfl)
theorem dX0_put_47 : decode cX0_put 47 = .ok (.instanceof 5, 3) := dk_193 0 5 (dk_at dksX0_put_2 0 rfl rfl)
theorem dX0_put_50 : decode cX0_put 50 = .ok (.ifCond .eq 18, 3) := dk_153 0 18 (dk_at dksX0_put_2 3 rfl rfl)
theorem dX0_put_53 : decode cX0_put 53 = .ok (.aload_n 0, 1) := dk_42 (dk_at dksX0_put_2 6 rfl rfl)
theorem dX0_put_54 : decode cX0_put 54 = .ok (.checkcast 5, 3) := dk_192 0 5 (dk_at dksX0_put_2 7 rfl rfl)
theorem dX0_put_57 : decode cX0_put 57 = .ok (.astore 6, 2) := dk_58 6 (dk_at dksX0_put_2 10 rfl rfl)
theorem dX0_put_59 : decode cX0_put 59 = .ok (.aload 6, 2) := dk_25 6 (dk_at dksX0_put_2 12 rfl rfl)
theorem dX0_put_61 : decode cX0_put 61 = .ok (.iload_n 1, 1) := dk_27 (dk_at dksX0_put_2 14 rfl rfl)
theorem dX0_put_62 : decode cX0_put 62 = .ok (.lload_n 2, 1) := dk_32 (dk_at dksX0_put_2 15 rfl rfl)
theorem dX0_put_63 : decode cX0_put 63 = .ok (.l2i, 1) := dk_136 (dk_at dksX0_put_2 16 rfl rfl)
theorem dX0_put_64 : decode cX0_put 64 = .ok (.iastore, 1) := dk_79 (dk_at dksX0_put_2 17 rfl rfl)
theorem dX0_put_65 : decode cX0_put 65 = .ok (.goto 10, 3) := dk_167 0 10 (dk_at dksX0_put_2 18 rfl rfl)
theorem dX0_put_68 : decode cX0_put 68 = .ok (.aload_n 0, 1) := dk_42 (dk_at dksX0_put_2 21 rfl rfl)
theorem dX0_put_69 : decode cX0_put 69 = .ok (.checkcast 7, 3) := dk_192 0 7 (dk_at dksX0_put_3 0 rfl rfl)
theorem dX0_put_72 : decode cX0_put 72 = .ok (.iload_n 1, 1) := dk_27 (dk_at dksX0_put_3 3 rfl rfl)
theorem dX0_put_73 : decode cX0_put 73 = .ok (.lload_n 2, 1) := dk_32 (dk_at dksX0_put_3 4 rfl rfl)
theorem dX0_put_74 : decode cX0_put 74 = .ok (.lastore, 1) := dk_80 (dk_at dksX0_put_3 5 rfl rfl)
theorem dX0_put_75 : decode cX0_put 75 = .ok (.return_, 1) := dk_177 (dk_at dksX0_put_3 6 rfl rfl)
abbrev cX0_read : ByteArray := prog_1_method_17_code
def yX0_read : MethodName := ⟨RX0, "read", "(II)J"⟩
def dkwX0_read_1 : List UInt8 := [173, 78, 42, 45, 182, 0, 142, 133, 173]
abbrev dktX0_read_1 : List UInt8 := dkwX0_read_1 ++ []
def dkwX0_read_0 : List UInt8 := [42, 3, 181, 0, 85, 42, 27, 182, 0, 126, 28, 184, 0, 136, 173, 78, 42, 6, 181, 0, 85, 20, 0, 140]
abbrev dktX0_read_0 : List UInt8 := dkwX0_read_0 ++ dktX0_read_1
theorem dksX0_read_0 : cX0_read.data.toList.drop 0 = dktX0_read_0 := by decide +kernel
theorem dksX0_read_1 : cX0_read.data.toList.drop 24 = dktX0_read_1 := dk_seg dksX0_read_0 24 rfl rfl
theorem dX0_read_0 : decode cX0_read 0 = .ok (.aload_n 0, 1) := dk_42 (dk_at dksX0_read_0 0 rfl rfl)
theorem dX0_read_1 : decode cX0_read 1 = .ok (.iconst 0, 1) := dk_3 (dk_at dksX0_read_0 1 rfl rfl)
theorem dX0_read_2 : decode cX0_read 2 = .ok (.putfield 85, 3) := dk_181 0 85 (dk_at dksX0_read_0 2 rfl rfl)
theorem dX0_read_5 : decode cX0_read 5 = .ok (.aload_n 0, 1) := dk_42 (dk_at dksX0_read_0 5 rfl rfl)
theorem dX0_read_6 : decode cX0_read 6 = .ok (.iload_n 1, 1) := dk_27 (dk_at dksX0_read_0 6 rfl rfl)
theorem dX0_read_7 : decode cX0_read 7 = .ok (.invokevirtual 126, 3) := dk_182 0 126 (dk_at dksX0_read_0 7 rfl rfl)
theorem dX0_read_10 : decode cX0_read 10 = .ok (.iload_n 2, 1) := dk_28 (dk_at dksX0_read_0 10 rfl rfl)
theorem dX0_read_11 : decode cX0_read 11 = .ok (.invokestatic 136, 3) := dk_184 0 136 (dk_at dksX0_read_0 11 rfl rfl)
theorem dX0_read_14 : decode cX0_read 14 = .ok (.lreturn, 1) := dk_173 (dk_at dksX0_read_0 14 rfl rfl)
theorem dX0_read_15 : decode cX0_read 15 = .ok (.astore_n 3, 1) := dk_78 (dk_at dksX0_read_0 15 rfl rfl)
theorem dX0_read_16 : decode cX0_read 16 = .ok (.aload_n 0, 1) := dk_42 (dk_at dksX0_read_0 16 rfl rfl)
theorem dX0_read_17 : decode cX0_read 17 = .ok (.iconst 3, 1) := dk_6 (dk_at dksX0_read_0 17 rfl rfl)
theorem dX0_read_18 : decode cX0_read 18 = .ok (.putfield 85, 3) := dk_181 0 85 (dk_at dksX0_read_0 18 rfl rfl)
theorem dX0_read_21 : decode cX0_read 21 = .ok (.ldc2_w 140, 3) := dk_20 0 140 (dk_at dksX0_read_0 21 rfl rfl)
theorem dX0_read_24 : decode cX0_read 24 = .ok (.lreturn, 1) := dk_173 (dk_at dksX0_read_1 0 rfl rfl)
theorem dX0_read_25 : decode cX0_read 25 = .ok (.astore_n 3, 1) := dk_78 (dk_at dksX0_read_1 1 rfl rfl)
theorem dX0_read_26 : decode cX0_read 26 = .ok (.aload_n 0, 1) := dk_42 (dk_at dksX0_read_1 2 rfl rfl)
theorem dX0_read_27 : decode cX0_read 27 = .ok (.aload_n 3, 1) := dk_45 (dk_at dksX0_read_1 3 rfl rfl)
theorem dX0_read_28 : decode cX0_read 28 = .ok (.invokevirtual 142, 3) := dk_182 0 142 (dk_at dksX0_read_1 4 rfl rfl)
theorem dX0_read_31 : decode cX0_read 31 = .ok (.i2l, 1) := dk_133 (dk_at dksX0_read_1 7 rfl rfl)
theorem dX0_read_32 : decode cX0_read 32 = .ok (.lreturn, 1) := dk_173 (dk_at dksX0_read_1 8 rfl rfl)
abbrev cX0_number : ByteArray := prog_1_method_4_code
def yX0_number : MethodName := ⟨RX0, "number", "(Ljava/lang/Object;I)J"⟩
def dkwX0_number_2 : List UInt8 := [46, 133, 167, 0, 9, 42, 192, 0, 7, 27, 47, 173]
abbrev dktX0_number_2 : List UInt8 := dkwX0_number_2 ++ []
def dkwX0_number_1 : List UInt8 := [42, 192, 0, 3, 77, 44, 27, 53, 133, 173, 42, 193, 0, 5, 153, 0, 15, 42, 192, 0, 5, 77, 44, 27]
abbrev dktX0_number_1 : List UInt8 := dkwX0_number_1 ++ dktX0_number_2
def dkwX0_number_0 : List UInt8 := [42, 193, 0, 1, 153, 0, 13, 42, 192, 0, 1, 77, 44, 27, 51, 133, 173, 42, 193, 0, 3, 153, 0, 13]
abbrev dktX0_number_0 : List UInt8 := dkwX0_number_0 ++ dktX0_number_1
theorem dksX0_number_0 : cX0_number.data.toList.drop 0 = dktX0_number_0 := by decide +kernel
theorem dksX0_number_1 : cX0_number.data.toList.drop 24 = dktX0_number_1 := dk_seg dksX0_number_0 24 rfl rfl
theorem dksX0_number_2 : cX0_number.data.toList.drop 48 = dktX0_number_2 := dk_seg dksX0_number_1 24 rfl rfl
theorem dX0_number_0 : decode cX0_number 0 = .ok (.aload_n 0, 1) := dk_42 (dk_at dksX0_number_0 0 rfl rfl)
theorem dX0_number_1 : decode cX0_number 1 = .ok (.instanceof 1, 3) := dk_193 0 1 (dk_at dksX0_number_0 1 rfl rfl)
theorem dX0_number_4 : decode cX0_number 4 = .ok (.ifCond .eq 13, 3) := dk_153 0 13 (dk_at dksX0_number_0 4 rfl rfl)
theorem dX0_number_7 : decode cX0_number 7 = .ok (.aload_n 0, 1) := dk_42 (dk_at dksX0_number_0 7 rfl rfl)
theorem dX0_number_8 : decode cX0_number 8 = .ok (.checkcast 1, 3) := dk_192 0 1 (dk_at dksX0_number_0 8 rfl rfl)
theorem dX0_number_11 : decode cX0_number 11 = .ok (.astore_n 2, 1) := dk_77 (dk_at dksX0_number_0 11 rfl rfl)
theorem dX0_number_12 : decode cX0_number 12 = .ok (.aload_n 2, 1) := dk_44 (dk_at dksX0_number_0 12 rfl rfl)
theorem dX0_number_13 : decode cX0_number 13 = .ok (.iload_n 1, 1) := dk_27 (dk_at dksX0_number_0 13 rfl rfl)
theorem dX0_number_14 : decode cX0_number 14 = .ok (.baload, 1) := dk_51 (dk_at dksX0_number_0 14 rfl rfl)
theorem dX0_number_15 : decode cX0_number 15 = .ok (.i2l, 1) := dk_133 (dk_at dksX0_number_0 15 rfl rfl)
theorem dX0_number_16 : decode cX0_number 16 = .ok (.lreturn, 1) := dk_173 (dk_at dksX0_number_0 16 rfl rfl)
theorem dX0_number_17 : decode cX0_number 17 = .ok (.aload_n 0, 1) := dk_42 (dk_at dksX0_number_0 17 rfl rfl)
theorem dX0_number_18 : decode cX0_number 18 = .ok (.instanceof 3, 3) := dk_193 0 3 (dk_at dksX0_number_0 18 rfl rfl)
theorem dX0_number_21 : decode cX0_number 21 = .ok (.ifCond .eq 13, 3) := dk_153 0 13 (dk_at dksX0_number_0 21 rfl rfl)
theorem dX0_number_24 : decode cX0_number 24 = .ok (.aload_n 0, 1) := dk_42 (dk_at dksX0_number_1 0 rfl rfl)
theorem dX0_number_25 : decode cX0_number 25 = .ok (.checkcast 3, 3) := dk_192 0 3 (dk_at dksX0_number_1 1 rfl rfl)
theorem dX0_number_28 : decode cX0_number 28 = .ok (.astore_n 2, 1) := dk_77 (dk_at dksX0_number_1 4 rfl rfl)
theorem dX0_number_29 : decode cX0_number 29 = .ok (.aload_n 2, 1) := dk_44 (dk_at dksX0_number_1 5 rfl rfl)
theorem dX0_number_30 : decode cX0_number 30 = .ok (.iload_n 1, 1) := dk_27 (dk_at dksX0_number_1 6 rfl rfl)
theorem dX0_number_31 : decode cX0_number 31 = .ok (.saload, 1) := dk_53 (dk_at dksX0_number_1 7 rfl rfl)
theorem dX0_number_32 : decode cX0_number 32 = .ok (.i2l, 1) := dk_133 (dk_at dksX0_number_1 8 rfl rfl)
theorem dX0_number_33 : decode cX0_number 33 = .ok (.lreturn, 1) := dk_173 (dk_at dksX0_number_1 9 rfl rfl)
theorem dX0_number_34 : decode cX0_number 34 = .ok (.aload_n 0, 1) := dk_42 (dk_at dksX0_number_1 10 rfl rfl)
theorem dX0_number_35 : decode cX0_number 35 = .ok (.instanceof 5, 3) := dk_193 0 5 (dk_at dksX0_number_1 11 rfl rfl)
theorem dX0_number_38 : decode cX0_number 38 = .ok (.ifCond .eq 15, 3) := dk_153 0 15 (dk_at dksX0_number_1 14 rfl rfl)
theorem dX0_number_41 : decode cX0_number 41 = .ok (.aload_n 0, 1) := dk_42 (dk_at dksX0_number_1 17 rfl rfl)
theorem dX0_number_42 : decode cX0_number 42 = .ok (.checkcast 5, 3) := dk_192 0 5 (dk_at dksX0_number_1 18 rfl rfl)
theorem dX0_number_45 : decode cX0_number 45 = .ok (.astore_n 2, 1) := dk_77 (dk_at dksX0_number_1 21 rfl rfl)
theorem dX0_number_46 : decode cX0_number 46 = .ok (.aload_n 2, 1) := dk_44 (dk_at dksX0_number_1 22 rfl rfl)
theorem dX0_number_47 : decode cX0_number 47 = .ok (.iload_n 1, 1) := dk_27 (dk_at dksX0_number_1 23 rfl rfl)
theorem dX0_number_48 : decode cX0_number 48 = .ok (.iaload, 1) := dk_46 (dk_at dksX0_number_2 0 rfl rfl)
theorem dX0_number_49 : decode cX0_number 49 = .ok (.i2l, 1) := dk_133 (dk_at dksX0_number_2 1 rfl rfl)
theorem dX0_number_50 : decode cX0_number 50 = .ok (.goto 9, 3) := dk_167 0 9 (dk_at dksX0_number_2 2 rfl rfl)
theorem dX0_number_53 : decode cX0_number 53 = .ok (.aload_n 0, 1) := dk_42 (dk_at dksX0_number_2 5 rfl rfl)
theorem dX0_number_54 : decode cX0_number 54 = .ok (.checkcast 7, 3) := dk_192 0 7 (dk_at dksX0_number_2 6 rfl rfl)
theorem dX0_number_57 : decode cX0_number 57 = .ok (.iload_n 1, 1) := dk_27 (dk_at dksX0_number_2 9 rfl rfl)
theorem dX0_number_58 : decode cX0_number 58 = .ok (.laload, 1) := dk_47 (dk_at dksX0_number_2 10 rfl rfl)
theorem dX0_number_59 : decode cX0_number 59 = .ok (.lreturn, 1) := dk_173 (dk_at dksX0_number_2 11 rfl rfl)
abbrev cX0_none : ByteArray := prog_1_method_11_code
def yX0_none : MethodName := ⟨RX0, "none", "(LLastPebble$Refused;)I"⟩
def dkwX0_none_0 : List UInt8 := [42, 43, 180, 0, 95, 181, 0, 85, 2, 172]
abbrev dktX0_none_0 : List UInt8 := dkwX0_none_0 ++ []
theorem dksX0_none_0 : cX0_none.data.toList.drop 0 = dktX0_none_0 := by decide +kernel
theorem dX0_none_0 : decode cX0_none 0 = .ok (.aload_n 0, 1) := dk_42 (dk_at dksX0_none_0 0 rfl rfl)
theorem dX0_none_1 : decode cX0_none 1 = .ok (.aload_n 1, 1) := dk_43 (dk_at dksX0_none_0 1 rfl rfl)
theorem dX0_none_2 : decode cX0_none 2 = .ok (.getfield 95, 3) := dk_180 0 95 (dk_at dksX0_none_0 2 rfl rfl)
theorem dX0_none_5 : decode cX0_none 5 = .ok (.putfield 85, 3) := dk_181 0 85 (dk_at dksX0_none_0 5 rfl rfl)
theorem dX0_none_8 : decode cX0_none 8 = .ok (.iconst (-1), 1) := dk_2 (dk_at dksX0_none_0 8 rfl rfl)
theorem dX0_none_9 : decode cX0_none 9 = .ok (.ireturn, 1) := dk_172 (dk_at dksX0_none_0 9 rfl rfl)
abbrev cX0_pour : ByteArray := prog_1_method_18_code
def yX0_pour : MethodName := ⟨RX0, "pour", "(IIIII)Z"⟩
def dkwX0_pour_5 : List UInt8 := [182, 0, 122, 172]
abbrev dktX0_pour_5 : List UInt8 := dkwX0_pour_5 ++ []
def dkwX0_pour_4 : List UInt8 := [184, 0, 150, 167, 0, 14, 58, 8, 42, 180, 0, 44, 6, 182, 0, 91, 191, 4, 172, 58, 6, 42, 25, 6]
abbrev dktX0_pour_4 : List UInt8 := dkwX0_pour_4 ++ dktX0_pour_5
def dkwX0_pour_3 : List UInt8 := [160, 0, 7, 4, 167, 0, 4, 3, 16, 8, 182, 0, 110, 25, 6, 28, 25, 7, 21, 4, 21, 5]
abbrev dktX0_pour_3 : List UInt8 := dkwX0_pour_3 ++ dktX0_pour_4
def dkwX0_pour_2 : List UInt8 := [27, 182, 0, 126, 58, 6, 42, 29, 182, 0, 126, 58, 7, 42, 25, 6, 184, 0, 146, 25, 7, 184, 0, 146]
abbrev dktX0_pour_2 : List UInt8 := dkwX0_pour_2 ++ dktX0_pour_3
def dkwX0_pour_1 : List UInt8 := [28, 155, 0, 17, 21, 4, 155, 0, 12, 21, 5, 155, 0, 7, 4, 167, 0, 4, 3, 4, 182, 0, 110, 42]
abbrev dktX0_pour_1 : List UInt8 := dkwX0_pour_1 ++ dktX0_pour_2
def dkwX0_pour_0 : List UInt8 := [42, 3, 181, 0, 85, 42, 27, 155, 0, 35, 27, 7, 162, 0, 30, 29, 155, 0, 26, 29, 7, 162, 0, 21]
abbrev dktX0_pour_0 : List UInt8 := dkwX0_pour_0 ++ dktX0_pour_1
theorem dksX0_pour_0 : cX0_pour.data.toList.drop 0 = dktX0_pour_0 := by decide +kernel
theorem dksX0_pour_1 : cX0_pour.data.toList.drop 24 = dktX0_pour_1 := dk_seg dksX0_pour_0 24 rfl rfl
theorem dksX0_pour_2 : cX0_pour.data.toList.drop 48 = dktX0_pour_2 := dk_seg dksX0_pour_1 24 rfl rfl
theorem dksX0_pour_3 : cX0_pour.data.toList.drop 72 = dktX0_pour_3 := dk_seg dksX0_pour_2 24 rfl rfl
theorem dksX0_pour_4 : cX0_pour.data.toList.drop 94 = dktX0_pour_4 := dk_seg dksX0_pour_3 22 rfl rfl
theorem dksX0_pour_5 : cX0_pour.data.toList.drop 118 = dktX0_pour_5 := dk_seg dksX0_pour_4 24 rfl rfl
theorem dX0_pour_0 : decode cX0_pour 0 = .ok (.aload_n 0, 1) := dk_42 (dk_at dksX0_pour_0 0 rfl rfl)
theorem dX0_pour_1 : decode cX0_pour 1 = .ok (.iconst 0, 1) := dk_3 (dk_at dksX0_pour_0 1 rfl rfl)
theorem dX0_pour_2 : decode cX0_pour 2 = .ok (.putfield 85, 3) := dk_181 0 85 (dk_at dksX0_pour_0 2 rfl rfl)
theorem dX0_pour_5 : decode cX0_pour 5 = .ok (.aload_n 0, 1) := dk_42 (dk_at dksX0_pour_0 5 rfl rfl)
theorem dX0_pour_6 : decode cX0_pour 6 = .ok (.iload_n 1, 1) := dk_27 (dk_at dksX0_pour_0 6 rfl rfl)
theorem dX0_pour_7 : decode cX0_pour 7 = .ok (.ifCond .lt 35, 3) := dk_155 0 35 (dk_at dksX0_pour_0 7 rfl rfl)
theorem dX0_pour_10 : decode cX0_pour 10 = .ok (.iload_n 1, 1) := dk_27 (dk_at dksX0_pour_0 10 rfl rfl)
theorem dX0_pour_11 : decode cX0_pour 11 = .ok (.iconst 4, 1) := dk_7 (dk_at dksX0_pour_0 11 rfl rfl)
theorem dX0_pour_12 : decode cX0_pour 12 = .ok (.if_icmp .ge 30, 3) := dk_162 0 30 (dk_at dksX0_pour_0 12 rfl rfl)
theorem dX0_pour_15 : decode cX0_pour 15 = .ok (.iload_n 3, 1) := dk_29 (dk_at dksX0_pour_0 15 rfl rfl)
theorem dX0_pour_16 : decode cX0_pour 16 = .ok (.ifCond .lt 26, 3) := dk_155 0 26 (dk_at dksX0_pour_0 16 rfl rfl)
theorem dX0_pour_19 : decode cX0_pour 19 = .ok (.iload_n 3, 1) := dk_29 (dk_at dksX0_pour_0 19 rfl rfl)
theorem dX0_pour_20 : decode cX0_pour 20 = .ok (.iconst 4, 1) := dk_7 (dk_at dksX0_pour_0 20 rfl rfl)
theorem dX0_pour_21 : decode cX0_pour 21 = .ok (.if_icmp .ge 21, 3) := dk_162 0 21 (dk_at dksX0_pour_0 21 rfl rfl)
theorem dX0_pour_24 : decode cX0_pour 24 = .ok (.iload_n 2, 1) := dk_28 (dk_at dksX0_pour_1 0 rfl rfl)
theorem dX0_pour_25 : decode cX0_pour 25 = .ok (.ifCond .lt 17, 3) := dk_155 0 17 (dk_at dksX0_pour_1 1 rfl rfl)
theorem dX0_pour_28 : decode cX0_pour 28 = .ok (.iload 4, 2) := dk_21 4 (dk_at dksX0_pour_1 4 rfl rfl)
theorem dX0_pour_30 : decode cX0_pour 30 = .ok (.ifCond .lt 12, 3) := dk_155 0 12 (dk_at dksX0_pour_1 6 rfl rfl)
theorem dX0_pour_33 : decode cX0_pour 33 = .ok (.iload 5, 2) := dk_21 5 (dk_at dksX0_pour_1 9 rfl rfl)
theorem dX0_pour_35 : decode cX0_pour 35 = .ok (.ifCond .lt 7, 3) := dk_155 0 7 (dk_at dksX0_pour_1 11 rfl rfl)
theorem dX0_pour_38 : decode cX0_pour 38 = .ok (.iconst 1, 1) := dk_4 (dk_at dksX0_pour_1 14 rfl rfl)
theorem dX0_pour_39 : decode cX0_pour 39 = .ok (.goto 4, 3) := dk_167 0 4 (dk_at dksX0_pour_1 15 rfl rfl)
theorem dX0_pour_42 : decode cX0_pour 42 = .ok (.iconst 0, 1) := dk_3 (dk_at dksX0_pour_1 18 rfl rfl)
theorem dX0_pour_43 : decode cX0_pour 43 = .ok (.iconst 1, 1) := dk_4 (dk_at dksX0_pour_1 19 rfl rfl)
theorem dX0_pour_44 : decode cX0_pour 44 = .ok (.invokevirtual 110, 3) := dk_182 0 110 (dk_at dksX0_pour_1 20 rfl rfl)
theorem dX0_pour_47 : decode cX0_pour 47 = .ok (.aload_n 0, 1) := dk_42 (dk_at dksX0_pour_1 23 rfl rfl)
theorem dX0_pour_48 : decode cX0_pour 48 = .ok (.iload_n 1, 1) := dk_27 (dk_at dksX0_pour_2 0 rfl rfl)
theorem dX0_pour_49 : decode cX0_pour 49 = .ok (.invokevirtual 126, 3) := dk_182 0 126 (dk_at dksX0_pour_2 1 rfl rfl)
theorem dX0_pour_52 : decode cX0_pour 52 = .ok (.astore 6, 2) := dk_58 6 (dk_at dksX0_pour_2 4 rfl rfl)
theorem dX0_pour_54 : decode cX0_pour 54 = .ok (.aload_n 0, 1) := dk_42 (dk_at dksX0_pour_2 6 rfl rfl)
theorem dX0_pour_55 : decode cX0_pour 55 = .ok (.iload_n 3, 1) := dk_29 (dk_at dksX0_pour_2 7 rfl rfl)
theorem dX0_pour_56 : decode cX0_pour 56 = .ok (.invokevirtual 126, 3) := dk_182 0 126 (dk_at dksX0_pour_2 8 rfl rfl)
theorem dX0_pour_59 : decode cX0_pour 59 = .ok (.astore 7, 2) := dk_58 7 (dk_at dksX0_pour_2 11 rfl rfl)
theorem dX0_pour_61 : decode cX0_pour 61 = .ok (.aload_n 0, 1) := dk_42 (dk_at dksX0_pour_2 13 rfl rfl)
theorem dX0_pour_62 : decode cX0_pour 62 = .ok (.aload 6, 2) := dk_25 6 (dk_at dksX0_pour_2 14 rfl rfl)
theorem dX0_pour_64 : decode cX0_pour 64 = .ok (.invokestatic 146, 3) := dk_184 0 146 (dk_at dksX0_pour_2 16 rfl rfl)
theorem dX0_pour_67 : decode cX0_pour 67 = .ok (.aload 7, 2) := dk_25 7 (dk_at dksX0_pour_2 19 rfl rfl)
theorem dX0_pour_69 : decode cX0_pour 69 = .ok (.invokestatic 146, 3) := dk_184 0 146 (dk_at dksX0_pour_2 21 rfl rfl)
theorem dX0_pour_72 : decode cX0_pour 72 = .ok (.if_icmp .ne 7, 3) := dk_160 0 7 (dk_at dksX0_pour_3 0 rfl rfl)
theorem dX0_pour_75 : decode cX0_pour 75 = .ok (.iconst 1, 1) := dk_4 (dk_at dksX0_pour_3 3 rfl rfl)
theorem dX0_pour_76 : decode cX0_pour 76 = .ok (.goto 4, 3) := dk_167 0 4 (dk_at dksX0_pour_3 4 rfl rfl)
theorem dX0_pour_79 : decode cX0_pour 79 = .ok (.iconst 0, 1) := dk_3 (dk_at dksX0_pour_3 7 rfl rfl)
theorem dX0_pour_80 : decode cX0_pour 80 = .ok (.bipush 8, 2) := dk_16 8 (dk_at dksX0_pour_3 8 rfl rfl)
theorem dX0_pour_82 : decode cX0_pour 82 = .ok (.invokevirtual 110, 3) := dk_182 0 110 (dk_at dksX0_pour_3 10 rfl rfl)
theorem dX0_pour_85 : decode cX0_pour 85 = .ok (.aload 6, 2) := dk_25 6 (dk_at dksX0_pour_3 13 rfl rfl)
theorem dX0_pour_87 : decode cX0_pour 87 = .ok (.iload_n 2, 1) := dk_28 (dk_at dksX0_pour_3 15 rfl rfl)
theorem dX0_pour_88 : decode cX0_pour 88 = .ok (.aload 7, 2) := dk_25 7 (dk_at dksX0_pour_3 16 rfl rfl)
theorem dX0_pour_90 : decode cX0_pour 90 = .ok (.iload 4, 2) := dk_21 4 (dk_at dksX0_pour_3 18 rfl rfl)
theorem dX0_pour_92 : decode cX0_pour 92 = .ok (.iload 5, 2) := dk_21 5 (dk_at dksX0_pour_3 20 rfl rfl)
theorem dX0_pour_94 : decode cX0_pour 94 = .ok (.invokestatic 150, 3) := dk_184 0 150 (dk_at dksX0_pour_4 0 rfl rfl)
theorem dX0_pour_97 : decode cX0_pour 97 = .ok (.goto 14, 3) := dk_167 0 14 (dk_at dksX0_pour_4 3 rfl rfl)
theorem dX0_pour_100 : decode cX0_pour 100 = .ok (.astore 8, 2) := dk_58 8 (dk_at dksX0_pour_4 6 rfl rfl)
theorem dX0_pour_102 : decode cX0_pour 102 = .ok (.aload_n 0, 1) := dk_42 (dk_at dksX0_pour_4 8 rfl rfl)
theorem dX0_pour_103 : decode cX0_pour 103 = .ok (.getfield 44, 3) := dk_180 0 44 (dk_at dksX0_pour_4 9 rfl rfl)
theorem dX0_pour_106 : decode cX0_pour 106 = .ok (.iconst 3, 1) := dk_6 (dk_at dksX0_pour_4 12 rfl rfl)
theorem dX0_pour_107 : decode cX0_pour 107 = .ok (.invokevirtual 91, 3) := dk_182 0 91 (dk_at dksX0_pour_4 13 rfl rfl)
theorem dX0_pour_110 : decode cX0_pour 110 = .ok (.athrow, 1) := dk_191 (dk_at dksX0_pour_4 16 rfl rfl)
theorem dX0_pour_111 : decode cX0_pour 111 = .ok (.iconst 1, 1) := dk_4 (dk_at dksX0_pour_4 17 rfl rfl)
theorem dX0_pour_112 : decode cX0_pour 112 = .ok (.ireturn, 1) := dk_172 (dk_at dksX0_pour_4 18 rfl rfl)
theorem dX0_pour_113 : decode cX0_pour 113 = .ok (.astore 6, 2) := dk_58 6 (dk_at dksX0_pour_4 19 rfl rfl)
theorem dX0_pour_115 : decode cX0_pour 115 = .ok (.aload_n 0, 1) := dk_42 (dk_at dksX0_pour_4 21 rfl rfl)
theorem dX0_pour_116 : decode cX0_pour 116 = .ok (.aload 6, 2) := dk_25 6 (dk_at dksX0_pour_4 22 rfl rfl)
theorem dX0_pour_118 : decode cX0_pour 118 = .ok (.invokevirtual 122, 3) := dk_182 0 122 (dk_at dksX0_pour_5 0 rfl rfl)
theorem dX0_pour_121 : decode cX0_pour 121 = .ok (.ireturn, 1) := dk_172 (dk_at dksX0_pour_5 3 rfl rfl)
abbrev cX0_sortOf : ByteArray := prog_1_method_2_code
def yX0_sortOf : MethodName := ⟨RX0, "sortOf", "(Ljava/lang/Object;)I"⟩
def dkwX0_sortOf_1 : List UInt8 := [193, 0, 5, 153, 0, 7, 5, 167, 0, 4, 6, 172]
abbrev dktX0_sortOf_1 : List UInt8 := dkwX0_sortOf_1 ++ []
def dkwX0_sortOf_0 : List UInt8 := [42, 193, 0, 1, 153, 0, 7, 3, 167, 0, 26, 42, 193, 0, 3, 153, 0, 7, 4, 167, 0, 15, 42]
abbrev dktX0_sortOf_0 : List UInt8 := dkwX0_sortOf_0 ++ dktX0_sortOf_1
theorem dksX0_sortOf_0 : cX0_sortOf.data.toList.drop 0 = dktX0_sortOf_0 := by decide +kernel
theorem dksX0_sortOf_1 : cX0_sortOf.data.toList.drop 23 = dktX0_sortOf_1 := dk_seg dksX0_sortOf_0 23 rfl rfl
theorem dX0_sortOf_0 : decode cX0_sortOf 0 = .ok (.aload_n 0, 1) := dk_42 (dk_at dksX0_sortOf_0 0 rfl rfl)
theorem dX0_sortOf_1 : decode cX0_sortOf 1 = .ok (.instanceof 1, 3) := dk_193 0 1 (dk_at dksX0_sortOf_0 1 rfl rfl)
theorem dX0_sortOf_4 : decode cX0_sortOf 4 = .ok (.ifCond .eq 7, 3) := dk_153 0 7 (dk_at dksX0_sortOf_0 4 rfl rfl)
theorem dX0_sortOf_7 : decode cX0_sortOf 7 = .ok (.iconst 0, 1) := dk_3 (dk_at dksX0_sortOf_0 7 rfl rfl)
theorem dX0_sortOf_8 : decode cX0_sortOf 8 = .ok (.goto 26, 3) := dk_167 0 26 (dk_at dksX0_sortOf_0 8 rfl rfl)
theorem dX0_sortOf_11 : decode cX0_sortOf 11 = .ok (.aload_n 0, 1) := dk_42 (dk_at dksX0_sortOf_0 11 rfl rfl)
theorem dX0_sortOf_12 : decode cX0_sortOf 12 = .ok (.instanceof 3, 3) := dk_193 0 3 (dk_at dksX0_sortOf_0 12 rfl rfl)
theorem dX0_sortOf_15 : decode cX0_sortOf 15 = .ok (.ifCond .eq 7, 3) := dk_153 0 7 (dk_at dksX0_sortOf_0 15 rfl rfl)
theorem dX0_sortOf_18 : decode cX0_sortOf 18 = .ok (.iconst 1, 1) := dk_4 (dk_at dksX0_sortOf_0 18 rfl rfl)
theorem dX0_sortOf_19 : decode cX0_sortOf 19 = .ok (.goto 15, 3) := dk_167 0 15 (dk_at dksX0_sortOf_0 19 rfl rfl)
theorem dX0_sortOf_22 : decode cX0_sortOf 22 = .ok (.aload_n 0, 1) := dk_42 (dk_at dksX0_sortOf_0 22 rfl rfl)
theorem dX0_sortOf_23 : decode cX0_sortOf 23 = .ok (.instanceof 5, 3) := dk_193 0 5 (dk_at dksX0_sortOf_1 0 rfl rfl)
theorem dX0_sortOf_26 : decode cX0_sortOf 26 = .ok (.ifCond .eq 7, 3) := dk_153 0 7 (dk_at dksX0_sortOf_1 3 rfl rfl)
theorem dX0_sortOf_29 : decode cX0_sortOf 29 = .ok (.iconst 2, 1) := dk_5 (dk_at dksX0_sortOf_1 6 rfl rfl)
theorem dX0_sortOf_30 : decode cX0_sortOf 30 = .ok (.goto 4, 3) := dk_167 0 4 (dk_at dksX0_sortOf_1 7 rfl rfl)
theorem dX0_sortOf_33 : decode cX0_sortOf 33 = .ok (.iconst 3, 1) := dk_6 (dk_at dksX0_sortOf_1 10 rfl rfl)
theorem dX0_sortOf_34 : decode cX0_sortOf 34 = .ok (.ireturn, 1) := dk_172 (dk_at dksX0_sortOf_1 11 rfl rfl)
abbrev cX0_feed : ByteArray := prog_1_method_27_code
def yX0_feed : MethodName := ⟨RX0, "feed", "(IIIII)I"⟩
def dkwX0_feed_2 : List UInt8 := [172]
abbrev dktX0_feed_2 : List UInt8 := dkwX0_feed_2 ++ []
def dkwX0_feed_1 : List UInt8 := [182, 0, 196, 42, 29, 182, 0, 196, 42, 21, 4, 182, 0, 196, 42, 21, 5, 182, 0, 196, 42, 180, 0, 193]
abbrev dktX0_feed_1 : List UInt8 := dkwX0_feed_1 ++ dktX0_feed_2
def dkwX0_feed_0 : List UInt8 := [42, 180, 0, 193, 16, 20, 96, 17, 3, 132, 164, 0, 5, 2, 172, 42, 27, 182, 0, 196, 42, 28]
abbrev dktX0_feed_0 : List UInt8 := dkwX0_feed_0 ++ dktX0_feed_1
theorem dksX0_feed_0 : cX0_feed.data.toList.drop 0 = dktX0_feed_0 := by decide +kernel
theorem dksX0_feed_1 : cX0_feed.data.toList.drop 22 = dktX0_feed_1 := dk_seg dksX0_feed_0 22 rfl rfl
theorem dksX0_feed_2 : cX0_feed.data.toList.drop 46 = dktX0_feed_2 := dk_seg dksX0_feed_1 24 rfl rfl
theorem dX0_feed_0 : decode cX0_feed 0 = .ok (.aload_n 0, 1) := dk_42 (dk_at dksX0_feed_0 0 rfl rfl)
theorem dX0_feed_1 : decode cX0_feed 1 = .ok (.getfield 193, 3) := dk_180 0 193 (dk_at dksX0_feed_0 1 rfl rfl)
theorem dX0_feed_4 : decode cX0_feed 4 = .ok (.bipush 20, 2) := dk_16 20 (dk_at dksX0_feed_0 4 rfl rfl)
theorem dX0_feed_6 : decode cX0_feed 6 = .ok (.iadd, 1) := dk_96 (dk_at dksX0_feed_0 6 rfl rfl)
theorem dX0_feed_7 : decode cX0_feed 7 = .ok (.sipush 900, 3) := dk_17 3 132 (dk_at dksX0_feed_0 7 rfl rfl)
theorem dX0_feed_10 : decode cX0_feed 10 = .ok (.if_icmp .le 5, 3) := dk_164 0 5 (dk_at dksX0_feed_0 10 rfl rfl)
theorem dX0_feed_13 : decode cX0_feed 13 = .ok (.iconst (-1), 1) := dk_2 (dk_at dksX0_feed_0 13 rfl rfl)
theorem dX0_feed_14 : decode cX0_feed 14 = .ok (.ireturn, 1) := dk_172 (dk_at dksX0_feed_0 14 rfl rfl)
theorem dX0_feed_15 : decode cX0_feed 15 = .ok (.aload_n 0, 1) := dk_42 (dk_at dksX0_feed_0 15 rfl rfl)
theorem dX0_feed_16 : decode cX0_feed 16 = .ok (.iload_n 1, 1) := dk_27 (dk_at dksX0_feed_0 16 rfl rfl)
theorem dX0_feed_17 : decode cX0_feed 17 = .ok (.invokevirtual 196, 3) := dk_182 0 196 (dk_at dksX0_feed_0 17 rfl rfl)
theorem dX0_feed_20 : decode cX0_feed 20 = .ok (.aload_n 0, 1) := dk_42 (dk_at dksX0_feed_0 20 rfl rfl)
theorem dX0_feed_21 : decode cX0_feed 21 = .ok (.iload_n 2, 1) := dk_28 (dk_at dksX0_feed_0 21 rfl rfl)
theorem dX0_feed_22 : decode cX0_feed 22 = .ok (.invokevirtual 196, 3) := dk_182 0 196 (dk_at dksX0_feed_1 0 rfl rfl)
theorem dX0_feed_25 : decode cX0_feed 25 = .ok (.aload_n 0, 1) := dk_42 (dk_at dksX0_feed_1 3 rfl rfl)
theorem dX0_feed_26 : decode cX0_feed 26 = .ok (.iload_n 3, 1) := dk_29 (dk_at dksX0_feed_1 4 rfl rfl)
theorem dX0_feed_27 : decode cX0_feed 27 = .ok (.invokevirtual 196, 3) := dk_182 0 196 (dk_at dksX0_feed_1 5 rfl rfl)
theorem dX0_feed_30 : decode cX0_feed 30 = .ok (.aload_n 0, 1) := dk_42 (dk_at dksX0_feed_1 8 rfl rfl)
theorem dX0_feed_31 : decode cX0_feed 31 = .ok (.iload 4, 2) := dk_21 4 (dk_at dksX0_feed_1 9 rfl rfl)
theorem dX0_feed_33 : decode cX0_feed 33 = .ok (.invokevirtual 196, 3) := dk_182 0 196 (dk_at dksX0_feed_1 11 rfl rfl)
theorem dX0_feed_36 : decode cX0_feed 36 = .ok (.aload_n 0, 1) := dk_42 (dk_at dksX0_feed_1 14 rfl rfl)
theorem dX0_feed_37 : decode cX0_feed 37 = .ok (.iload 5, 2) := dk_21 5 (dk_at dksX0_feed_1 15 rfl rfl)
theorem dX0_feed_39 : decode cX0_feed 39 = .ok (.invokevirtual 196, 3) := dk_182 0 196 (dk_at dksX0_feed_1 17 rfl rfl)
theorem dX0_feed_42 : decode cX0_feed 42 = .ok (.aload_n 0, 1) := dk_42 (dk_at dksX0_feed_1 20 rfl rfl)
theorem dX0_feed_43 : decode cX0_feed 43 = .ok (.getfield 193, 3) := dk_180 0 193 (dk_at dksX0_feed_1 21 rfl rfl)
theorem dX0_feed_46 : decode cX0_feed 46 = .ok (.ireturn, 1) := dk_172 (dk_at dksX0_feed_2 0 rfl rfl)
abbrev cX0_lay : ByteArray := prog_1_method_28_code
def yX0_lay : MethodName := ⟨RX0, "lay", "(I)V"⟩
def dkwX0_lay_1 : List UInt8 := [180, 0, 193, 4, 96, 181, 0, 193, 132, 2, 248, 167, 255, 226, 177]
abbrev dktX0_lay_1 : List UInt8 := dkwX0_lay_1 ++ []
def dkwX0_lay_0 : List UInt8 := [16, 24, 61, 28, 155, 0, 32, 42, 180, 0, 24, 42, 180, 0, 193, 27, 28, 122, 145, 84, 42, 89]
abbrev dktX0_lay_0 : List UInt8 := dkwX0_lay_0 ++ dktX0_lay_1
theorem dksX0_lay_0 : cX0_lay.data.toList.drop 0 = dktX0_lay_0 := by decide +kernel
theorem dksX0_lay_1 : cX0_lay.data.toList.drop 22 = dktX0_lay_1 := dk_seg dksX0_lay_0 22 rfl rfl
theorem dX0_lay_0 : decode cX0_lay 0 = .ok (.bipush 24, 2) := dk_16 24 (dk_at dksX0_lay_0 0 rfl rfl)
theorem dX0_lay_2 : decode cX0_lay 2 = .ok (.istore_n 2, 1) := dk_61 (dk_at dksX0_lay_0 2 rfl rfl)
theorem dX0_lay_3 : decode cX0_lay 3 = .ok (.iload_n 2, 1) := dk_28 (dk_at dksX0_lay_0 3 rfl rfl)
theorem dX0_lay_4 : decode cX0_lay 4 = .ok (.ifCond .lt 32, 3) := dk_155 0 32 (dk_at dksX0_lay_0 4 rfl rfl)
theorem dX0_lay_7 : decode cX0_lay 7 = .ok (.aload_n 0, 1) := dk_42 (dk_at dksX0_lay_0 7 rfl rfl)
theorem dX0_lay_8 : decode cX0_lay 8 = .ok (.getfield 24, 3) := dk_180 0 24 (dk_at dksX0_lay_0 8 rfl rfl)
theorem dX0_lay_11 : decode cX0_lay 11 = .ok (.aload_n 0, 1) := dk_42 (dk_at dksX0_lay_0 11 rfl rfl)
theorem dX0_lay_12 : decode cX0_lay 12 = .ok (.getfield 193, 3) := dk_180 0 193 (dk_at dksX0_lay_0 12 rfl rfl)
theorem dX0_lay_15 : decode cX0_lay 15 = .ok (.iload_n 1, 1) := dk_27 (dk_at dksX0_lay_0 15 rfl rfl)
theorem dX0_lay_16 : decode cX0_lay 16 = .ok (.iload_n 2, 1) := dk_28 (dk_at dksX0_lay_0 16 rfl rfl)
theorem dX0_lay_17 : decode cX0_lay 17 = .ok (.ishr, 1) := dk_122 (dk_at dksX0_lay_0 17 rfl rfl)
theorem dX0_lay_18 : decode cX0_lay 18 = .ok (.i2b, 1) := dk_145 (dk_at dksX0_lay_0 18 rfl rfl)
theorem dX0_lay_19 : decode cX0_lay 19 = .ok (.bastore, 1) := dk_84 (dk_at dksX0_lay_0 19 rfl rfl)
theorem dX0_lay_20 : decode cX0_lay 20 = .ok (.aload_n 0, 1) := dk_42 (dk_at dksX0_lay_0 20 rfl rfl)
theorem dX0_lay_21 : decode cX0_lay 21 = .ok (.dup, 1) := dk_89 (dk_at dksX0_lay_0 21 rfl rfl)
theorem dX0_lay_22 : decode cX0_lay 22 = .ok (.getfield 193, 3) := dk_180 0 193 (dk_at dksX0_lay_1 0 rfl rfl)
theorem dX0_lay_25 : decode cX0_lay 25 = .ok (.iconst 1, 1) := dk_4 (dk_at dksX0_lay_1 3 rfl rfl)
theorem dX0_lay_26 : decode cX0_lay 26 = .ok (.iadd, 1) := dk_96 (dk_at dksX0_lay_1 4 rfl rfl)
theorem dX0_lay_27 : decode cX0_lay 27 = .ok (.putfield 193, 3) := dk_181 0 193 (dk_at dksX0_lay_1 5 rfl rfl)
theorem dX0_lay_30 : decode cX0_lay 30 = .ok (.iinc 2 (-8), 3) := dk_132 2 248 (dk_at dksX0_lay_1 8 rfl rfl)
theorem dX0_lay_33 : decode cX0_lay 33 = .ok (.goto (-30), 3) := dk_167 255 226 (dk_at dksX0_lay_1 11 rfl rfl)
theorem dX0_lay_36 : decode cX0_lay 36 = .ok (.return_, 1) := dk_177 (dk_at dksX0_lay_1 14 rfl rfl)
abbrev cX0_beach : ByteArray := prog_1_method_31_code
def yX0_beach : MethodName := ⟨RX0, "beach", "(I)I"⟩
def dkwX0_beach_2 : List UInt8 := [181, 0, 222, 44, 180, 0, 177, 172, 77, 42, 44, 182, 0, 226, 172]
abbrev dktX0_beach_2 : List UInt8 := dkwX0_beach_2 ++ []
def dkwX0_beach_1 : List UInt8 := [89, 42, 27, 183, 0, 213, 44, 182, 0, 216, 42, 182, 0, 187, 44, 182, 0, 219, 42, 180, 0, 55, 1]
abbrev dktX0_beach_1 : List UInt8 := dkwX0_beach_1 ++ dktX0_beach_2
def dkwX0_beach_0 : List UInt8 := [42, 27, 17, 3, 132, 182, 0, 206, 154, 0, 5, 2, 172, 187, 0, 169, 89, 183, 0, 210, 77, 187, 0, 211]
abbrev dktX0_beach_0 : List UInt8 := dkwX0_beach_0 ++ dktX0_beach_1
theorem dksX0_beach_0 : cX0_beach.data.toList.drop 0 = dktX0_beach_0 := by decide +kernel
theorem dksX0_beach_1 : cX0_beach.data.toList.drop 24 = dktX0_beach_1 := dk_seg dksX0_beach_0 24 rfl rfl
theorem dksX0_beach_2 : cX0_beach.data.toList.drop 47 = dktX0_beach_2 := dk_seg dksX0_beach_1 23 rfl rfl
theorem dX0_beach_0 : decode cX0_beach 0 = .ok (.aload_n 0, 1) := dk_42 (dk_at dksX0_beach_0 0 rfl rfl)
theorem dX0_beach_1 : decode cX0_beach 1 = .ok (.iload_n 1, 1) := dk_27 (dk_at dksX0_beach_0 1 rfl rfl)
theorem dX0_beach_2 : decode cX0_beach 2 = .ok (.sipush 900, 3) := dk_17 3 132 (dk_at dksX0_beach_0 2 rfl rfl)
theorem dX0_beach_5 : decode cX0_beach 5 = .ok (.invokevirtual 206, 3) := dk_182 0 206 (dk_at dksX0_beach_0 5 rfl rfl)
theorem dX0_beach_8 : decode cX0_beach 8 = .ok (.ifCond .ne 5, 3) := dk_154 0 5 (dk_at dksX0_beach_0 8 rfl rfl)
theorem dX0_beach_11 : decode cX0_beach 11 = .ok (.iconst (-1), 1) := dk_2 (dk_at dksX0_beach_0 11 rfl rfl)
theorem dX0_beach_12 : decode cX0_beach 12 = .ok (.ireturn, 1) := dk_172 (dk_at dksX0_beach_0 12 rfl rfl)
theorem dX0_beach_13 : decode cX0_beach 13 = .ok (.new 169, 3) := dk_187 0 169 (dk_at dksX0_beach_0 13 rfl rfl)
theorem dX0_beach_16 : decode cX0_beach 16 = .ok (.dup, 1) := dk_89 (dk_at dksX0_beach_0 16 rfl rfl)
theorem dX0_beach_17 : decode cX0_beach 17 = .ok (.invokespecial 210, 3) := dk_183 0 210 (dk_at dksX0_beach_0 17 rfl rfl)
theorem dX0_beach_20 : decode cX0_beach 20 = .ok (.astore_n 2, 1) := dk_77 (dk_at dksX0_beach_0 20 rfl rfl)
theorem dX0_beach_21 : decode cX0_beach 21 = .ok (.new 211, 3) := dk_187 0 211 (dk_at dksX0_beach_0 21 rfl rfl)
theorem dX0_beach_24 : decode cX0_beach 24 = .ok (.dup, 1) := dk_89 (dk_at dksX0_beach_1 0 rfl rfl)
theorem dX0_beach_25 : decode cX0_beach 25 = .ok (.aload_n 0, 1) := dk_42 (dk_at dksX0_beach_1 1 rfl rfl)
theorem dX0_beach_26 : decode cX0_beach 26 = .ok (.iload_n 1, 1) := dk_27 (dk_at dksX0_beach_1 2 rfl rfl)
theorem dX0_beach_27 : decode cX0_beach 27 = .ok (.invokespecial 213, 3) := dk_183 0 213 (dk_at dksX0_beach_1 3 rfl rfl)
theorem dX0_beach_30 : decode cX0_beach 30 = .ok (.aload_n 2, 1) := dk_44 (dk_at dksX0_beach_1 6 rfl rfl)
theorem dX0_beach_31 : decode cX0_beach 31 = .ok (.invokevirtual 216, 3) := dk_182 0 216 (dk_at dksX0_beach_1 7 rfl rfl)
theorem dX0_beach_34 : decode cX0_beach 34 = .ok (.aload_n 0, 1) := dk_42 (dk_at dksX0_beach_1 10 rfl rfl)
theorem dX0_beach_35 : decode cX0_beach 35 = .ok (.invokevirtual 187, 3) := dk_182 0 187 (dk_at dksX0_beach_1 11 rfl rfl)
theorem dX0_beach_38 : decode cX0_beach 38 = .ok (.aload_n 2, 1) := dk_44 (dk_at dksX0_beach_1 14 rfl rfl)
theorem dX0_beach_39 : decode cX0_beach 39 = .ok (.invokevirtual 219, 3) := dk_182 0 219 (dk_at dksX0_beach_1 15 rfl rfl)
theorem dX0_beach_42 : decode cX0_beach 42 = .ok (.aload_n 0, 1) := dk_42 (dk_at dksX0_beach_1 18 rfl rfl)
theorem dX0_beach_43 : decode cX0_beach 43 = .ok (.getfield 55, 3) := dk_180 0 55 (dk_at dksX0_beach_1 19 rfl rfl)
theorem dX0_beach_46 : decode cX0_beach 46 = .ok (.aconst_null, 1) := dk_1 (dk_at dksX0_beach_1 22 rfl rfl)
theorem dX0_beach_47 : decode cX0_beach 47 = .ok (.putfield 222, 3) := dk_181 0 222 (dk_at dksX0_beach_2 0 rfl rfl)
theorem dX0_beach_50 : decode cX0_beach 50 = .ok (.aload_n 2, 1) := dk_44 (dk_at dksX0_beach_2 3 rfl rfl)
theorem dX0_beach_51 : decode cX0_beach 51 = .ok (.getfield 177, 3) := dk_180 0 177 (dk_at dksX0_beach_2 4 rfl rfl)
theorem dX0_beach_54 : decode cX0_beach 54 = .ok (.ireturn, 1) := dk_172 (dk_at dksX0_beach_2 7 rfl rfl)
theorem dX0_beach_55 : decode cX0_beach 55 = .ok (.astore_n 2, 1) := dk_77 (dk_at dksX0_beach_2 8 rfl rfl)
theorem dX0_beach_56 : decode cX0_beach 56 = .ok (.aload_n 0, 1) := dk_42 (dk_at dksX0_beach_2 9 rfl rfl)
theorem dX0_beach_57 : decode cX0_beach 57 = .ok (.aload_n 2, 1) := dk_44 (dk_at dksX0_beach_2 10 rfl rfl)
theorem dX0_beach_58 : decode cX0_beach 58 = .ok (.invokevirtual 226, 3) := dk_182 0 226 (dk_at dksX0_beach_2 11 rfl rfl)
theorem dX0_beach_61 : decode cX0_beach 61 = .ok (.ireturn, 1) := dk_172 (dk_at dksX0_beach_2 14 rfl rfl)
abbrev cX0_opens : ByteArray := prog_1_method_29_code
def yX0_opens : MethodName := ⟨RX0, "opens", "(II)Z"⟩
def dkwX0_opens_2 : List UInt8 := [181, 0, 31, 4, 172]
abbrev dktX0_opens_2 : List UInt8 := dkwX0_opens_2 ++ []
def dkwX0_opens_1 : List UInt8 := [181, 0, 85, 42, 180, 0, 85, 158, 0, 5, 3, 172, 42, 3, 181, 0, 193, 42, 3, 181, 0, 27, 42, 2]
abbrev dktX0_opens_1 : List UInt8 := dkwX0_opens_1 ++ dktX0_opens_2
def dkwX0_opens_0 : List UInt8 := [42, 27, 155, 0, 16, 27, 42, 180, 0, 193, 163, 0, 8, 27, 28, 164, 0, 7, 4, 167, 0, 4, 3]
abbrev dktX0_opens_0 : List UInt8 := dkwX0_opens_0 ++ dktX0_opens_1
theorem dksX0_opens_0 : cX0_opens.data.toList.drop 0 = dktX0_opens_0 := by decide +kernel
theorem dksX0_opens_1 : cX0_opens.data.toList.drop 23 = dktX0_opens_1 := dk_seg dksX0_opens_0 23 rfl rfl
theorem dksX0_opens_2 : cX0_opens.data.toList.drop 47 = dktX0_opens_2 := dk_seg dksX0_opens_1 24 rfl rfl
theorem dX0_opens_0 : decode cX0_opens 0 = .ok (.aload_n 0, 1) := dk_42 (dk_at dksX0_opens_0 0 rfl rfl)
theorem dX0_opens_1 : decode cX0_opens 1 = .ok (.iload_n 1, 1) := dk_27 (dk_at dksX0_opens_0 1 rfl rfl)
theorem dX0_opens_2 : decode cX0_opens 2 = .ok (.ifCond .lt 16, 3) := dk_155 0 16 (dk_at dksX0_opens_0 2 rfl rfl)
theorem dX0_opens_5 : decode cX0_opens 5 = .ok (.iload_n 1, 1) := dk_27 (dk_at dksX0_opens_0 5 rfl rfl)
theorem dX0_opens_6 : decode cX0_opens 6 = .ok (.aload_n 0, 1) := dk_42 (dk_at dksX0_opens_0 6 rfl rfl)
theorem dX0_opens_7 : decode cX0_opens 7 = .ok (.getfield 193, 3) := dk_180 0 193 (dk_at dksX0_opens_0 7 rfl rfl)
theorem dX0_opens_10 : decode cX0_opens 10 = .ok (.if_icmp .gt 8, 3) := dk_163 0 8 (dk_at dksX0_opens_0 10 rfl rfl)
theorem dX0_opens_13 : decode cX0_opens 13 = .ok (.iload_n 1, 1) := dk_27 (dk_at dksX0_opens_0 13 rfl rfl)
theorem dX0_opens_14 : decode cX0_opens 14 = .ok (.iload_n 2, 1) := dk_28 (dk_at dksX0_opens_0 14 rfl rfl)
theorem dX0_opens_15 : decode cX0_opens 15 = .ok (.if_icmp .le 7, 3) := dk_164 0 7 (dk_at dksX0_opens_0 15 rfl rfl)
theorem dX0_opens_18 : decode cX0_opens 18 = .ok (.iconst 1, 1) := dk_4 (dk_at dksX0_opens_0 18 rfl rfl)
theorem dX0_opens_19 : decode cX0_opens 19 = .ok (.goto 4, 3) := dk_167 0 4 (dk_at dksX0_opens_0 19 rfl rfl)
theorem dX0_opens_22 : decode cX0_opens 22 = .ok (.iconst 0, 1) := dk_3 (dk_at dksX0_opens_0 22 rfl rfl)
theorem dX0_opens_23 : decode cX0_opens 23 = .ok (.putfield 85, 3) := dk_181 0 85 (dk_at dksX0_opens_1 0 rfl rfl)
theorem dX0_opens_26 : decode cX0_opens 26 = .ok (.aload_n 0, 1) := dk_42 (dk_at dksX0_opens_1 3 rfl rfl)
theorem dX0_opens_27 : decode cX0_opens 27 = .ok (.getfield 85, 3) := dk_180 0 85 (dk_at dksX0_opens_1 4 rfl rfl)
theorem dX0_opens_30 : decode cX0_opens 30 = .ok (.ifCond .le 5, 3) := dk_158 0 5 (dk_at dksX0_opens_1 7 rfl rfl)
theorem dX0_opens_33 : decode cX0_opens 33 = .ok (.iconst 0, 1) := dk_3 (dk_at dksX0_opens_1 10 rfl rfl)
theorem dX0_opens_34 : decode cX0_opens 34 = .ok (.ireturn, 1) := dk_172 (dk_at dksX0_opens_1 11 rfl rfl)
theorem dX0_opens_35 : decode cX0_opens 35 = .ok (.aload_n 0, 1) := dk_42 (dk_at dksX0_opens_1 12 rfl rfl)
theorem dX0_opens_36 : decode cX0_opens 36 = .ok (.iconst 0, 1) := dk_3 (dk_at dksX0_opens_1 13 rfl rfl)
theorem dX0_opens_37 : decode cX0_opens 37 = .ok (.putfield 193, 3) := dk_181 0 193 (dk_at dksX0_opens_1 14 rfl rfl)
theorem dX0_opens_40 : decode cX0_opens 40 = .ok (.aload_n 0, 1) := dk_42 (dk_at dksX0_opens_1 17 rfl rfl)
theorem dX0_opens_41 : decode cX0_opens 41 = .ok (.iconst 0, 1) := dk_3 (dk_at dksX0_opens_1 18 rfl rfl)
theorem dX0_opens_42 : decode cX0_opens 42 = .ok (.putfield 27, 3) := dk_181 0 27 (dk_at dksX0_opens_1 19 rfl rfl)
theorem dX0_opens_45 : decode cX0_opens 45 = .ok (.aload_n 0, 1) := dk_42 (dk_at dksX0_opens_1 22 rfl rfl)
theorem dX0_opens_46 : decode cX0_opens 46 = .ok (.iconst (-1), 1) := dk_2 (dk_at dksX0_opens_1 23 rfl rfl)
theorem dX0_opens_47 : decode cX0_opens 47 = .ok (.putfield 31, 3) := dk_181 0 31 (dk_at dksX0_opens_2 0 rfl rfl)
theorem dX0_opens_50 : decode cX0_opens 50 = .ok (.iconst 1, 1) := dk_4 (dk_at dksX0_opens_2 3 rfl rfl)
theorem dX0_opens_51 : decode cX0_opens 51 = .ok (.ireturn, 1) := dk_172 (dk_at dksX0_opens_2 4 rfl rfl)
abbrev cX0_day : ByteArray := prog_1_method_20_code
def yX0_day : MethodName := ⟨RX0, "day", "()LLastPebble$Day;"⟩
def dkwX0_day_0 : List UInt8 := [42, 180, 0, 55, 180, 0, 158, 176]
abbrev dktX0_day_0 : List UInt8 := dkwX0_day_0 ++ []
theorem dksX0_day_0 : cX0_day.data.toList.drop 0 = dktX0_day_0 := by decide +kernel
theorem dX0_day_0 : decode cX0_day 0 = .ok (.aload_n 0, 1) := dk_42 (dk_at dksX0_day_0 0 rfl rfl)
theorem dX0_day_1 : decode cX0_day 1 = .ok (.getfield 55, 3) := dk_180 0 55 (dk_at dksX0_day_0 1 rfl rfl)
theorem dX0_day_4 : decode cX0_day 4 = .ok (.getfield 158, 3) := dk_180 0 158 (dk_at dksX0_day_0 4 rfl rfl)
theorem dX0_day_7 : decode cX0_day 7 = .ok (.areturn, 1) := dk_176 (dk_at dksX0_day_0 7 rfl rfl)
abbrev cX0_faulty : ByteArray := prog_1_method_30_code
def yX0_faulty : MethodName := ⟨RX0, "faulty", "(LLastPebble$Bad;)I"⟩
def dkwX0_faulty_0 : List UInt8 := [42, 43, 180, 0, 200, 181, 0, 27, 42, 43, 180, 0, 203, 181, 0, 31, 42, 16, 9, 181, 0, 85, 2, 172]
abbrev dktX0_faulty_0 : List UInt8 := dkwX0_faulty_0 ++ []
theorem dksX0_faulty_0 : cX0_faulty.data.toList.drop 0 = dktX0_faulty_0 := by decide +kernel
theorem dX0_faulty_0 : decode cX0_faulty 0 = .ok (.aload_n 0, 1) := dk_42 (dk_at dksX0_faulty_0 0 rfl rfl)
theorem dX0_faulty_1 : decode cX0_faulty 1 = .ok (.aload_n 1, 1) := dk_43 (dk_at dksX0_faulty_0 1 rfl rfl)
theorem dX0_faulty_2 : decode cX0_faulty 2 = .ok (.getfield 200, 3) := dk_180 0 200 (dk_at dksX0_faulty_0 2 rfl rfl)
theorem dX0_faulty_5 : decode cX0_faulty 5 = .ok (.putfield 27, 3) := dk_181 0 27 (dk_at dksX0_faulty_0 5 rfl rfl)
theorem dX0_faulty_8 : decode cX0_faulty 8 = .ok (.aload_n 0, 1) := dk_42 (dk_at dksX0_faulty_0 8 rfl rfl)
theorem dX0_faulty_9 : decode cX0_faulty 9 = .ok (.aload_n 1, 1) := dk_43 (dk_at dksX0_faulty_0 9 rfl rfl)
theorem dX0_faulty_10 : decode cX0_faulty 10 = .ok (.getfield 203, 3) := dk_180 0 203 (dk_at dksX0_faulty_0 10 rfl rfl)
theorem dX0_faulty_13 : decode cX0_faulty 13 = .ok (.putfield 31, 3) := dk_181 0 31 (dk_at dksX0_faulty_0 13 rfl rfl)
theorem dX0_faulty_16 : decode cX0_faulty 16 = .ok (.aload_n 0, 1) := dk_42 (dk_at dksX0_faulty_0 16 rfl rfl)
theorem dX0_faulty_17 : decode cX0_faulty 17 = .ok (.bipush 9, 2) := dk_16 9 (dk_at dksX0_faulty_0 17 rfl rfl)
theorem dX0_faulty_19 : decode cX0_faulty 19 = .ok (.putfield 85, 3) := dk_181 0 85 (dk_at dksX0_faulty_0 19 rfl rfl)
theorem dX0_faulty_22 : decode cX0_faulty 22 = .ok (.iconst (-1), 1) := dk_2 (dk_at dksX0_faulty_0 22 rfl rfl)
theorem dX0_faulty_23 : decode cX0_faulty 23 = .ok (.ireturn, 1) := dk_172 (dk_at dksX0_faulty_0 23 rfl rfl)
abbrev cX0_days : ByteArray := prog_1_method_32_code
def yX0_days : MethodName := ⟨RX0, "days", "(I)I"⟩
def dkwX0_days_2 : List UInt8 := [181, 0, 222, 45, 180, 0, 237, 172, 77, 42, 44, 182, 0, 226, 172]
abbrev dktX0_days_2 : List UInt8 := dkwX0_days_2 ++ []
def dkwX0_days_1 : List UInt8 := [187, 0, 211, 89, 42, 27, 183, 0, 213, 78, 45, 42, 182, 0, 165, 44, 182, 0, 234, 42, 180, 0, 55, 44]
abbrev dktX0_days_1 : List UInt8 := dkwX0_days_1 ++ dktX0_days_2
def dkwX0_days_0 : List UInt8 := [42, 27, 17, 1, 44, 182, 0, 206, 154, 0, 5, 2, 172, 187, 0, 230, 89, 4, 183, 0, 232, 77]
abbrev dktX0_days_0 : List UInt8 := dkwX0_days_0 ++ dktX0_days_1
theorem dksX0_days_0 : cX0_days.data.toList.drop 0 = dktX0_days_0 := by decide +kernel
theorem dksX0_days_1 : cX0_days.data.toList.drop 22 = dktX0_days_1 := dk_seg dksX0_days_0 22 rfl rfl
theorem dksX0_days_2 : cX0_days.data.toList.drop 46 = dktX0_days_2 := dk_seg dksX0_days_1 24 rfl rfl
theorem dX0_days_0 : decode cX0_days 0 = .ok (.aload_n 0, 1) := dk_42 (dk_at dksX0_days_0 0 rfl rfl)
theorem dX0_days_1 : decode cX0_days 1 = .ok (.iload_n 1, 1) := dk_27 (dk_at dksX0_days_0 1 rfl rfl)
theorem dX0_days_2 : decode cX0_days 2 = .ok (.sipush 300, 3) := dk_17 1 44 (dk_at dksX0_days_0 2 rfl rfl)
theorem dX0_days_5 : decode cX0_days 5 = .ok (.invokevirtual 206, 3) := dk_182 0 206 (dk_at dksX0_days_0 5 rfl rfl)
theorem dX0_days_8 : decode cX0_days 8 = .ok (.ifCond .ne 5, 3) := dk_154 0 5 (dk_at dksX0_days_0 8 rfl rfl)
theorem dX0_days_11 : decode cX0_days 11 = .ok (.iconst (-1), 1) := dk_2 (dk_at dksX0_days_0 11 rfl rfl)
theorem dX0_days_12 : decode cX0_days 12 = .ok (.ireturn, 1) := dk_172 (dk_at dksX0_days_0 12 rfl rfl)
theorem dX0_days_13 : decode cX0_days 13 = .ok (.new 230, 3) := dk_187 0 230 (dk_at dksX0_days_0 13 rfl rfl)
theorem dX0_days_16 : decode cX0_days 16 = .ok (.dup, 1) := dk_89 (dk_at dksX0_days_0 16 rfl rfl)
theorem dX0_days_17 : decode cX0_days 17 = .ok (.iconst 1, 1) := dk_4 (dk_at dksX0_days_0 17 rfl rfl)
theorem dX0_days_18 : decode cX0_days 18 = .ok (.invokespecial 232, 3) := dk_183 0 232 (dk_at dksX0_days_0 18 rfl rfl)
theorem dX0_days_21 : decode cX0_days 21 = .ok (.astore_n 2, 1) := dk_77 (dk_at dksX0_days_0 21 rfl rfl)
theorem dX0_days_22 : decode cX0_days 22 = .ok (.new 211, 3) := dk_187 0 211 (dk_at dksX0_days_1 0 rfl rfl)
theorem dX0_days_25 : decode cX0_days 25 = .ok (.dup, 1) := dk_89 (dk_at dksX0_days_1 3 rfl rfl)
theorem dX0_days_26 : decode cX0_days 26 = .ok (.aload_n 0, 1) := dk_42 (dk_at dksX0_days_1 4 rfl rfl)
theorem dX0_days_27 : decode cX0_days 27 = .ok (.iload_n 1, 1) := dk_27 (dk_at dksX0_days_1 5 rfl rfl)
theorem dX0_days_28 : decode cX0_days 28 = .ok (.invokespecial 213, 3) := dk_183 0 213 (dk_at dksX0_days_1 6 rfl rfl)
theorem dX0_days_31 : decode cX0_days 31 = .ok (.astore_n 3, 1) := dk_78 (dk_at dksX0_days_1 9 rfl rfl)
theorem dX0_days_32 : decode cX0_days 32 = .ok (.aload_n 3, 1) := dk_45 (dk_at dksX0_days_1 10 rfl rfl)
theorem dX0_days_33 : decode cX0_days 33 = .ok (.aload_n 0, 1) := dk_42 (dk_at dksX0_days_1 11 rfl rfl)
theorem dX0_days_34 : decode cX0_days 34 = .ok (.invokevirtual 165, 3) := dk_182 0 165 (dk_at dksX0_days_1 12 rfl rfl)
theorem dX0_days_37 : decode cX0_days 37 = .ok (.aload_n 2, 1) := dk_44 (dk_at dksX0_days_1 15 rfl rfl)
theorem dX0_days_38 : decode cX0_days 38 = .ok (.invokevirtual 234, 3) := dk_182 0 234 (dk_at dksX0_days_1 16 rfl rfl)
theorem dX0_days_41 : decode cX0_days 41 = .ok (.aload_n 0, 1) := dk_42 (dk_at dksX0_days_1 19 rfl rfl)
theorem dX0_days_42 : decode cX0_days 42 = .ok (.getfield 55, 3) := dk_180 0 55 (dk_at dksX0_days_1 20 rfl rfl)
theorem dX0_days_45 : decode cX0_days 45 = .ok (.aload_n 2, 1) := dk_44 (dk_at dksX0_days_1 23 rfl rfl)
theorem dX0_days_46 : decode cX0_days 46 = .ok (.putfield 222, 3) := dk_181 0 222 (dk_at dksX0_days_2 0 rfl rfl)
theorem dX0_days_49 : decode cX0_days 49 = .ok (.aload_n 3, 1) := dk_45 (dk_at dksX0_days_2 3 rfl rfl)
theorem dX0_days_50 : decode cX0_days 50 = .ok (.getfield 237, 3) := dk_180 0 237 (dk_at dksX0_days_2 4 rfl rfl)
theorem dX0_days_53 : decode cX0_days 53 = .ok (.ireturn, 1) := dk_172 (dk_at dksX0_days_2 7 rfl rfl)
theorem dX0_days_54 : decode cX0_days 54 = .ok (.astore_n 2, 1) := dk_77 (dk_at dksX0_days_2 8 rfl rfl)
theorem dX0_days_55 : decode cX0_days 55 = .ok (.aload_n 0, 1) := dk_42 (dk_at dksX0_days_2 9 rfl rfl)
theorem dX0_days_56 : decode cX0_days 56 = .ok (.aload_n 2, 1) := dk_44 (dk_at dksX0_days_2 10 rfl rfl)
theorem dX0_days_57 : decode cX0_days 57 = .ok (.invokevirtual 226, 3) := dk_182 0 226 (dk_at dksX0_days_2 11 rfl rfl)
theorem dX0_days_60 : decode cX0_days 60 = .ok (.ireturn, 1) := dk_172 (dk_at dksX0_days_2 14 rfl rfl)
abbrev cX0_beach_2 : ByteArray := prog_1_method_21_code
def yX0_beach_2 : MethodName := ⟨RX0, "beach", "()LLastPebble$Beach;"⟩
def dkwX0_beach_2_0 : List UInt8 := [42, 180, 0, 55, 180, 0, 158, 180, 0, 161, 176]
abbrev dktX0_beach_2_0 : List UInt8 := dkwX0_beach_2_0 ++ []
theorem dksX0_beach_2_0 : cX0_beach_2.data.toList.drop 0 = dktX0_beach_2_0 := by decide +kernel
theorem dX0_beach_2_0 : decode cX0_beach_2 0 = .ok (.aload_n 0, 1) := dk_42 (dk_at dksX0_beach_2_0 0 rfl rfl)
theorem dX0_beach_2_1 : decode cX0_beach_2 1 = .ok (.getfield 55, 3) := dk_180 0 55 (dk_at dksX0_beach_2_0 1 rfl rfl)
theorem dX0_beach_2_4 : decode cX0_beach_2 4 = .ok (.getfield 158, 3) := dk_180 0 158 (dk_at dksX0_beach_2_0 4 rfl rfl)
theorem dX0_beach_2_7 : decode cX0_beach_2 7 = .ok (.getfield 161, 3) := dk_180 0 161 (dk_at dksX0_beach_2_0 7 rfl rfl)
theorem dX0_beach_2_10 : decode cX0_beach_2 10 = .ok (.areturn, 1) := dk_176 (dk_at dksX0_beach_2_0 10 rfl rfl)
abbrev cX0_fault : ByteArray := prog_1_method_33_code
def yX0_fault : MethodName := ⟨RX0, "fault", "(I)I"⟩
def dkwX0_fault_1 : List UInt8 := [172]
abbrev dktX0_fault_1 : List UInt8 := dkwX0_fault_1 ++ []
def dkwX0_fault_0 : List UInt8 := [27, 154, 0, 10, 42, 180, 0, 27, 167, 0, 16, 27, 4, 160, 0, 10, 42, 180, 0, 31, 167, 0, 4, 2]
abbrev dktX0_fault_0 : List UInt8 := dkwX0_fault_0 ++ dktX0_fault_1
theorem dksX0_fault_0 : cX0_fault.data.toList.drop 0 = dktX0_fault_0 := by decide +kernel
theorem dksX0_fault_1 : cX0_fault.data.toList.drop 24 = dktX0_fault_1 := dk_seg dksX0_fault_0 24 rfl rfl
theorem dX0_fault_0 : decode cX0_fault 0 = .ok (.iload_n 1, 1) := dk_27 (dk_at dksX0_fault_0 0 rfl rfl)
theorem dX0_fault_1 : decode cX0_fault 1 = .ok (.ifCond .ne 10, 3) := dk_154 0 10 (dk_at dksX0_fault_0 1 rfl rfl)
theorem dX0_fault_4 : decode cX0_fault 4 = .ok (.aload_n 0, 1) := dk_42 (dk_at dksX0_fault_0 4 rfl rfl)
theorem dX0_fault_5 : decode cX0_fault 5 = .ok (.getfield 27, 3) := dk_180 0 27 (dk_at dksX0_fault_0 5 rfl rfl)
theorem dX0_fault_8 : decode cX0_fault 8 = .ok (.goto 16, 3) := dk_167 0 16 (dk_at dksX0_fault_0 8 rfl rfl)
theorem dX0_fault_11 : decode cX0_fault 11 = .ok (.iload_n 1, 1) := dk_27 (dk_at dksX0_fault_0 11 rfl rfl)
theorem dX0_fault_12 : decode cX0_fault 12 = .ok (.iconst 1, 1) := dk_4 (dk_at dksX0_fault_0 12 rfl rfl)
theorem dX0_fault_13 : decode cX0_fault 13 = .ok (.if_icmp .ne 10, 3) := dk_160 0 10 (dk_at dksX0_fault_0 13 rfl rfl)
theorem dX0_fault_16 : decode cX0_fault 16 = .ok (.aload_n 0, 1) := dk_42 (dk_at dksX0_fault_0 16 rfl rfl)
theorem dX0_fault_17 : decode cX0_fault 17 = .ok (.getfield 31, 3) := dk_180 0 31 (dk_at dksX0_fault_0 17 rfl rfl)
theorem dX0_fault_20 : decode cX0_fault 20 = .ok (.goto 4, 3) := dk_167 0 4 (dk_at dksX0_fault_0 20 rfl rfl)
theorem dX0_fault_23 : decode cX0_fault 23 = .ok (.iconst (-1), 1) := dk_2 (dk_at dksX0_fault_0 23 rfl rfl)
theorem dX0_fault_24 : decode cX0_fault 24 = .ok (.ireturn, 1) := dk_172 (dk_at dksX0_fault_1 0 rfl rfl)
abbrev cX0_told : ByteArray := prog_1_method_34_code
def yX0_told : MethodName := ⟨RX0, "told", "(I)I"⟩
def dkwX0_told_5 : List UInt8 := [2, 172]
abbrev dktX0_told_5 : List UInt8 := dkwX0_told_5 ++ []
def dkwX0_told_4 : List UInt8 := [42, 182, 0, 187, 180, 0, 254, 172, 42, 182, 0, 187, 180, 1, 0, 172, 42, 182, 0, 187, 182, 1, 3, 172]
abbrev dktX0_told_4 : List UInt8 := dkwX0_told_4 ++ dktX0_told_5
def dkwX0_told_3 : List UInt8 := [42, 182, 0, 187, 180, 0, 245, 172, 42, 182, 0, 165, 180, 0, 248, 172, 42, 182, 0, 165, 180, 0, 251, 172]
abbrev dktX0_told_3 : List UInt8 := dkwX0_told_3 ++ dktX0_told_4
def dkwX0_told_2 : List UInt8 := [42, 182, 0, 165, 180, 0, 242, 172, 42, 182, 0, 165, 180, 0, 168, 172, 42, 182, 0, 165, 180, 0, 177, 172]
abbrev dktX0_told_2 : List UInt8 := dkwX0_told_2 ++ dktX0_told_3
def dkwX0_told_1 : List UInt8 := [170, 0, 0, 0, 0, 122, 0, 0, 0, 0, 0, 0, 0, 8, 0, 0, 0, 50, 0, 0, 0, 58, 0, 0, 0, 66, 0, 0, 0, 74, 0, 0, 0, 82, 0, 0, 0, 90, 0, 0, 0, 98, 0, 0, 0, 106, 0, 0, 0, 114]
abbrev dktX0_told_1 : List UInt8 := dkwX0_told_1 ++ dktX0_told_2
def dkwX0_told_0 : List UInt8 := [42, 27, 133, 9, 20, 0, 240, 184, 0, 173, 153, 0, 7, 3, 167, 0, 4, 4, 181, 0, 85, 27]
abbrev dktX0_told_0 : List UInt8 := dkwX0_told_0 ++ dktX0_told_1
theorem dksX0_told_0 : cX0_told.data.toList.drop 0 = dktX0_told_0 := by decide +kernel
theorem dksX0_told_1 : cX0_told.data.toList.drop 22 = dktX0_told_1 := dk_seg dksX0_told_0 22 rfl rfl
theorem dksX0_told_2 : cX0_told.data.toList.drop 72 = dktX0_told_2 := dk_seg dksX0_told_1 50 rfl rfl
theorem dksX0_told_3 : cX0_told.data.toList.drop 96 = dktX0_told_3 := dk_seg dksX0_told_2 24 rfl rfl
theorem dksX0_told_4 : cX0_told.data.toList.drop 120 = dktX0_told_4 := dk_seg dksX0_told_3 24 rfl rfl
theorem dksX0_told_5 : cX0_told.data.toList.drop 144 = dktX0_told_5 := dk_seg dksX0_told_4 24 rfl rfl
theorem dX0_told_0 : decode cX0_told 0 = .ok (.aload_n 0, 1) := dk_42 (dk_at dksX0_told_0 0 rfl rfl)
theorem dX0_told_1 : decode cX0_told 1 = .ok (.iload_n 1, 1) := dk_27 (dk_at dksX0_told_0 1 rfl rfl)
theorem dX0_told_2 : decode cX0_told 2 = .ok (.i2l, 1) := dk_133 (dk_at dksX0_told_0 2 rfl rfl)
theorem dX0_told_3 : decode cX0_told 3 = .ok (.lconst 0, 1) := dk_9 (dk_at dksX0_told_0 3 rfl rfl)
theorem dX0_told_4 : decode cX0_told 4 = .ok (.ldc2_w 240, 3) := dk_20 0 240 (dk_at dksX0_told_0 4 rfl rfl)
theorem dX0_told_7 : decode cX0_told 7 = .ok (.invokestatic 173, 3) := dk_184 0 173 (dk_at dksX0_told_0 7 rfl rfl)
theorem dX0_told_10 : decode cX0_told 10 = .ok (.ifCond .eq 7, 3) := dk_153 0 7 (dk_at dksX0_told_0 10 rfl rfl)
theorem dX0_told_13 : decode cX0_told 13 = .ok (.iconst 0, 1) := dk_3 (dk_at dksX0_told_0 13 rfl rfl)
theorem dX0_told_14 : decode cX0_told 14 = .ok (.goto 4, 3) := dk_167 0 4 (dk_at dksX0_told_0 14 rfl rfl)
theorem dX0_told_17 : decode cX0_told 17 = .ok (.iconst 1, 1) := dk_4 (dk_at dksX0_told_0 17 rfl rfl)
theorem dX0_told_18 : decode cX0_told 18 = .ok (.putfield 85, 3) := dk_181 0 85 (dk_at dksX0_told_0 18 rfl rfl)
theorem dX0_told_21 : decode cX0_told 21 = .ok (.iload_n 1, 1) := dk_27 (dk_at dksX0_told_0 21 rfl rfl)
theorem dX0_told_22 : decode cX0_told 22 = .ok (.tableswitch 122 0 8 #[50, 58, 66, 74, 82, 90, 98, 106, 114], 50) := by decide +kernel
theorem dX0_told_72 : decode cX0_told 72 = .ok (.aload_n 0, 1) := dk_42 (dk_at dksX0_told_2 0 rfl rfl)
theorem dX0_told_73 : decode cX0_told 73 = .ok (.invokevirtual 165, 3) := dk_182 0 165 (dk_at dksX0_told_2 1 rfl rfl)
theorem dX0_told_76 : decode cX0_told 76 = .ok (.getfield 242, 3) := dk_180 0 242 (dk_at dksX0_told_2 4 rfl rfl)
theorem dX0_told_79 : decode cX0_told 79 = .ok (.ireturn, 1) := dk_172 (dk_at dksX0_told_2 7 rfl rfl)
theorem dX0_told_80 : decode cX0_told 80 = .ok (.aload_n 0, 1) := dk_42 (dk_at dksX0_told_2 8 rfl rfl)
theorem dX0_told_81 : decode cX0_told 81 = .ok (.invokevirtual 165, 3) := dk_182 0 165 (dk_at dksX0_told_2 9 rfl rfl)
theorem dX0_told_84 : decode cX0_told 84 = .ok (.getfield 168, 3) := dk_180 0 168 (dk_at dksX0_told_2 12 rfl rfl)
theorem dX0_told_87 : decode cX0_told 87 = .ok (.ireturn, 1) := dk_172 (dk_at dksX0_told_2 15 rfl rfl)
theorem dX0_told_88 : decode cX0_told 88 = .ok (.aload_n 0, 1) := dk_42 (dk_at dksX0_told_2 16 rfl rfl)
theorem dX0_told_89 : decode cX0_told 89 = .ok (.invokevirtual 165, 3) := dk_182 0 165 (dk_at dksX0_told_2 17 rfl rfl)
theorem dX0_told_92 : decode cX0_told 92 = .ok (.getfield 177, 3) := dk_180 0 177 (dk_at dksX0_told_2 20 rfl rfl)
theorem dX0_told_95 : decode cX0_told 95 = .ok (.ireturn, 1) := dk_172 (dk_at dksX0_told_2 23 rfl rfl)
theorem dX0_told_96 : decode cX0_told 96 = .ok (.aload_n 0, 1) := dk_42 (dk_at dksX0_told_3 0 rfl rfl)
theorem dX0_told_97 : decode cX0_told 97 = .ok (.invokevirtual 187, 3) := dk_182 0 187 (dk_at dksX0_told_3 1 rfl rfl)
theorem dX0_told_100 : decode cX0_told 100 = .ok (.getfield 245, 3) := dk_180 0 245 (dk_at dksX0_told_3 4 rfl rfl)
theorem dX0_told_103 : decode cX0_told 103 = .ok (.ireturn, 1) := dk_172 (dk_at dksX0_told_3 7 rfl rfl)
theorem dX0_told_104 : decode cX0_told 104 = .ok (.aload_n 0, 1) := dk_42 (dk_at dksX0_told_3 8 rfl rfl)
theorem dX0_told_105 : decode cX0_told 105 = .ok (.invokevirtual 165, 3) := dk_182 0 165 (dk_at dksX0_told_3 9 rfl rfl)
theorem dX0_told_108 : decode cX0_told 108 = .ok (.getfield 248, 3) := dk_180 0 248 (dk_at dksX0_told_3 12 rfl rfl)
theorem dX0_told_111 : decode cX0_told 111 = .ok (.ireturn, 1) := dk_172 (dk_at dksX0_told_3 15 rfl rfl)
theorem dX0_told_112 : decode cX0_told 112 = .ok (.aload_n 0, 1) := dk_42 (dk_at dksX0_told_3 16 rfl rfl)
theorem dX0_told_113 : decode cX0_told 113 = .ok (.invokevirtual 165, 3) := dk_182 0 165 (dk_at dksX0_told_3 17 rfl rfl)
theorem dX0_told_116 : decode cX0_told 116 = .ok (.getfield 251, 3) := dk_180 0 251 (dk_at dksX0_told_3 20 rfl rfl)
theorem dX0_told_119 : decode cX0_told 119 = .ok (.ireturn, 1) := dk_172 (dk_at dksX0_told_3 23 rfl rfl)
theorem dX0_told_120 : decode cX0_told 120 = .ok (.aload_n 0, 1) := dk_42 (dk_at dksX0_told_4 0 rfl rfl)
theorem dX0_told_121 : decode cX0_told 121 = .ok (.invokevirtual 187, 3) := dk_182 0 187 (dk_at dksX0_told_4 1 rfl rfl)
theorem dX0_told_124 : decode cX0_told 124 = .ok (.getfield 254, 3) := dk_180 0 254 (dk_at dksX0_told_4 4 rfl rfl)
theorem dX0_told_127 : decode cX0_told 127 = .ok (.ireturn, 1) := dk_172 (dk_at dksX0_told_4 7 rfl rfl)
theorem dX0_told_128 : decode cX0_told 128 = .ok (.aload_n 0, 1) := dk_42 (dk_at dksX0_told_4 8 rfl rfl)
theorem dX0_told_129 : decode cX0_told 129 = .ok (.invokevirtual 187, 3) := dk_182 0 187 (dk_at dksX0_told_4 9 rfl rfl)
theorem dX0_told_132 : decode cX0_told 132 = .ok (.getfield 256, 3) := dk_180 1 0 (dk_at dksX0_told_4 12 rfl rfl)
theorem dX0_told_135 : decode cX0_told 135 = .ok (.ireturn, 1) := dk_172 (dk_at dksX0_told_4 15 rfl rfl)
theorem dX0_told_136 : decode cX0_told 136 = .ok (.aload_n 0, 1) := dk_42 (dk_at dksX0_told_4 16 rfl rfl)
theorem dX0_told_137 : decode cX0_told 137 = .ok (.invokevirtual 187, 3) := dk_182 0 187 (dk_at dksX0_told_4 17 rfl rfl)
theorem dX0_told_140 : decode cX0_told 140 = .ok (.invokevirtual 259, 3) := dk_182 1 3 (dk_at dksX0_told_4 20 rfl rfl)
theorem dX0_told_143 : decode cX0_told 143 = .ok (.ireturn, 1) := dk_172 (dk_at dksX0_told_4 23 rfl rfl)
theorem dX0_told_144 : decode cX0_told 144 = .ok (.iconst (-1), 1) := dk_2 (dk_at dksX0_told_5 0 rfl rfl)
theorem dX0_told_145 : decode cX0_told 145 = .ok (.ireturn, 1) := dk_172 (dk_at dksX0_told_5 1 rfl rfl)
abbrev cX0_isIn : ByteArray := prog_1_method_19_code
def yX0_isIn : MethodName := ⟨RX0, "isIn", "(JJJ)Z"⟩
def dkwX0_isIn_0 : List UInt8 := [30, 32, 148, 155, 0, 14, 30, 22, 4, 148, 157, 0, 7, 4, 167, 0, 4, 3, 172]
abbrev dktX0_isIn_0 : List UInt8 := dkwX0_isIn_0 ++ []
theorem dksX0_isIn_0 : cX0_isIn.data.toList.drop 0 = dktX0_isIn_0 := by decide +kernel
theorem dX0_isIn_0 : decode cX0_isIn 0 = .ok (.lload_n 0, 1) := dk_30 (dk_at dksX0_isIn_0 0 rfl rfl)
theorem dX0_isIn_1 : decode cX0_isIn 1 = .ok (.lload_n 2, 1) := dk_32 (dk_at dksX0_isIn_0 1 rfl rfl)
theorem dX0_isIn_2 : decode cX0_isIn 2 = .ok (.lcmp, 1) := dk_148 (dk_at dksX0_isIn_0 2 rfl rfl)
theorem dX0_isIn_3 : decode cX0_isIn 3 = .ok (.ifCond .lt 14, 3) := dk_155 0 14 (dk_at dksX0_isIn_0 3 rfl rfl)
theorem dX0_isIn_6 : decode cX0_isIn 6 = .ok (.lload_n 0, 1) := dk_30 (dk_at dksX0_isIn_0 6 rfl rfl)
theorem dX0_isIn_7 : decode cX0_isIn 7 = .ok (.lload 4, 2) := dk_22 4 (dk_at dksX0_isIn_0 7 rfl rfl)
theorem dX0_isIn_9 : decode cX0_isIn 9 = .ok (.lcmp, 1) := dk_148 (dk_at dksX0_isIn_0 9 rfl rfl)
theorem dX0_isIn_10 : decode cX0_isIn 10 = .ok (.ifCond .gt 7, 3) := dk_157 0 7 (dk_at dksX0_isIn_0 10 rfl rfl)
theorem dX0_isIn_13 : decode cX0_isIn 13 = .ok (.iconst 1, 1) := dk_4 (dk_at dksX0_isIn_0 13 rfl rfl)
theorem dX0_isIn_14 : decode cX0_isIn 14 = .ok (.goto 4, 3) := dk_167 0 4 (dk_at dksX0_isIn_0 14 rfl rfl)
theorem dX0_isIn_17 : decode cX0_isIn 17 = .ok (.iconst 0, 1) := dk_3 (dk_at dksX0_isIn_0 17 rfl rfl)
theorem dX0_isIn_18 : decode cX0_isIn 18 = .ok (.ireturn, 1) := dk_172 (dk_at dksX0_isIn_0 18 rfl rfl)
abbrev cX0_finder : ByteArray := prog_1_method_35_code
def yX0_finder : MethodName := ⟨RX0, "finder", "(II)I"⟩
def dkwX0_finder_5 : List UInt8 := [46, 172]
abbrev dktX0_finder_5 : List UInt8 := dkwX0_finder_5 ++ []
def dkwX0_finder_4 : List UInt8 := [180, 1, 15, 27, 46, 172, 42, 182, 0, 187, 180, 1, 18, 27, 46, 172, 42, 182, 0, 187, 180, 1, 21, 27]
abbrev dktX0_finder_4 : List UInt8 := dkwX0_finder_4 ++ dktX0_finder_5
def dkwX0_finder_3 : List UInt8 := [42, 182, 0, 187, 180, 1, 9, 27, 46, 172, 42, 182, 0, 165, 180, 1, 12, 27, 46, 172, 42, 182, 0, 187]
abbrev dktX0_finder_3 : List UInt8 := dkwX0_finder_3 ++ dktX0_finder_4
def dkwX0_finder_2 : List UInt8 := [170, 0, 0, 0, 69, 0, 0, 0, 0, 0, 0, 0, 3, 0, 0, 0, 29, 0, 0, 0, 39, 0, 0, 0, 49, 0, 0, 0, 59]
abbrev dktX0_finder_2 : List UInt8 := dkwX0_finder_2 ++ dktX0_finder_3
def dkwX0_finder_1 : List UInt8 := [167, 0, 4, 4, 181, 0, 85, 42, 180, 0, 85, 158, 0, 5, 2, 172, 28]
abbrev dktX0_finder_1 : List UInt8 := dkwX0_finder_1 ++ dktX0_finder_2
def dkwX0_finder_0 : List UInt8 := [42, 42, 27, 182, 0, 180, 153, 0, 19, 28, 133, 9, 20, 1, 7, 184, 0, 173, 153, 0, 7, 3]
abbrev dktX0_finder_0 : List UInt8 := dkwX0_finder_0 ++ dktX0_finder_1
theorem dksX0_finder_0 : cX0_finder.data.toList.drop 0 = dktX0_finder_0 := by decide +kernel
theorem dksX0_finder_1 : cX0_finder.data.toList.drop 22 = dktX0_finder_1 := dk_seg dksX0_finder_0 22 rfl rfl
theorem dksX0_finder_2 : cX0_finder.data.toList.drop 39 = dktX0_finder_2 := dk_seg dksX0_finder_1 17 rfl rfl
theorem dksX0_finder_3 : cX0_finder.data.toList.drop 68 = dktX0_finder_3 := dk_seg dksX0_finder_2 29 rfl rfl
theorem dksX0_finder_4 : cX0_finder.data.toList.drop 92 = dktX0_finder_4 := dk_seg dksX0_finder_3 24 rfl rfl
theorem dksX0_finder_5 : cX0_finder.data.toList.drop 116 = dktX0_finder_5 := dk_seg dksX0_finder_4 24 rfl rfl
theorem dX0_finder_0 : decode cX0_finder 0 = .ok (.aload_n 0, 1) := dk_42 (dk_at dksX0_finder_0 0 rfl rfl)
theorem dX0_finder_1 : decode cX0_finder 1 = .ok (.aload_n 0, 1) := dk_42 (dk_at dksX0_finder_0 1 rfl rfl)
theorem dX0_finder_2 : decode cX0_finder 2 = .ok (.iload_n 1, 1) := dk_27 (dk_at dksX0_finder_0 2 rfl rfl)
theorem dX0_finder_3 : decode cX0_finder 3 = .ok (.invokevirtual 180, 3) := dk_182 0 180 (dk_at dksX0_finder_0 3 rfl rfl)
theorem dX0_finder_6 : decode cX0_finder 6 = .ok (.ifCond .eq 19, 3) := dk_153 0 19 (dk_at dksX0_finder_0 6 rfl rfl)
theorem dX0_finder_9 : decode cX0_finder 9 = .ok (.iload_n 2, 1) := dk_28 (dk_at dksX0_finder_0 9 rfl rfl)
theorem dX0_finder_10 : decode cX0_finder 10 = .ok (.i2l, 1) := dk_133 (dk_at dksX0_finder_0 10 rfl rfl)
theorem dX0_finder_11 : decode cX0_finder 11 = .ok (.lconst 0, 1) := dk_9 (dk_at dksX0_finder_0 11 rfl rfl)
theorem dX0_finder_12 : decode cX0_finder 12 = .ok (.ldc2_w 263, 3) := dk_20 1 7 (dk_at dksX0_finder_0 12 rfl rfl)
theorem dX0_finder_15 : decode cX0_finder 15 = .ok (.invokestatic 173, 3) := dk_184 0 173 (dk_at dksX0_finder_0 15 rfl rfl)
theorem dX0_finder_18 : decode cX0_finder 18 = .ok (.ifCond .eq 7, 3) := dk_153 0 7 (dk_at dksX0_finder_0 18 rfl rfl)
theorem dX0_finder_21 : decode cX0_finder 21 = .ok (.iconst 0, 1) := dk_3 (dk_at dksX0_finder_0 21 rfl rfl)
theorem dX0_finder_22 : decode cX0_finder 22 = .ok (.goto 4, 3) := dk_167 0 4 (dk_at dksX0_finder_1 0 rfl rfl)
theorem dX0_finder_25 : decode cX0_finder 25 = .ok (.iconst 1, 1) := dk_4 (dk_at dksX0_finder_1 3 rfl rfl)
theorem dX0_finder_26 : decode cX0_finder 26 = .ok (.putfield 85, 3) := dk_181 0 85 (dk_at dksX0_finder_1 4 rfl rfl)
theorem dX0_finder_29 : decode cX0_finder 29 = .ok (.aload_n 0, 1) := dk_42 (dk_at dksX0_finder_1 7 rfl rfl)
theorem dX0_finder_30 : decode cX0_finder 30 = .ok (.getfield 85, 3) := dk_180 0 85 (dk_at dksX0_finder_1 8 rfl rfl)
theorem dX0_finder_33 : decode cX0_finder 33 = .ok (.ifCond .le 5, 3) := dk_158 0 5 (dk_at dksX0_finder_1 11 rfl rfl)
theorem dX0_finder_36 : decode cX0_finder 36 = .ok (.iconst (-1), 1) := dk_2 (dk_at dksX0_finder_1 14 rfl rfl)
theorem dX0_finder_37 : decode cX0_finder 37 = .ok (.ireturn, 1) := dk_172 (dk_at dksX0_finder_1 15 rfl rfl)
theorem dX0_finder_38 : decode cX0_finder 38 = .ok (.iload_n 2, 1) := dk_28 (dk_at dksX0_finder_1 16 rfl rfl)
theorem dX0_finder_39 : decode cX0_finder 39 = .ok (.tableswitch 69 0 3 #[29, 39, 49, 59], 29) := by decide +kernel
theorem dX0_finder_68 : decode cX0_finder 68 = .ok (.aload_n 0, 1) := dk_42 (dk_at dksX0_finder_3 0 rfl rfl)
theorem dX0_finder_69 : decode cX0_finder 69 = .ok (.invokevirtual 187, 3) := dk_182 0 187 (dk_at dksX0_finder_3 1 rfl rfl)
theorem dX0_finder_72 : decode cX0_finder 72 = .ok (.getfield 265, 3) := dk_180 1 9 (dk_at dksX0_finder_3 4 rfl rfl)
theorem dX0_finder_75 : decode cX0_finder 75 = .ok (.iload_n 1, 1) := dk_27 (dk_at dksX0_finder_3 7 rfl rfl)
theorem dX0_finder_76 : decode cX0_finder 76 = .ok (.iaload, 1) := dk_46 (dk_at dksX0_finder_3 8 rfl rfl)
theorem dX0_finder_77 : decode cX0_finder 77 = .ok (.ireturn, 1) := dk_172 (dk_at dksX0_finder_3 9 rfl rfl)
theorem dX0_finder_78 : decode cX0_finder 78 = .ok (.aload_n 0, 1) := dk_42 (dk_at dksX0_finder_3 10 rfl rfl)
theorem dX0_finder_79 : decode cX0_finder 79 = .ok (.invokevirtual 165, 3) := dk_182 0 165 (dk_at dksX0_finder_3 11 rfl rfl)
theorem dX0_finder_82 : decode cX0_finder 82 = .ok (.getfield 268, 3) := dk_180 1 12 (dk_at dksX0_finder_3 14 rfl rfl)
theorem dX0_finder_85 : decode cX0_finder 85 = .ok (.iload_n 1, 1) := dk_27 (dk_at dksX0_finder_3 17 rfl rfl)
theorem dX0_finder_86 : decode cX0_finder 86 = .ok (.iaload, 1) := dk_46 (dk_at dksX0_finder_3 18 rfl rfl)
theorem dX0_finder_87 : decode cX0_finder 87 = .ok (.ireturn, 1) := dk_172 (dk_at dksX0_finder_3 19 rfl rfl)
theorem dX0_finder_88 : decode cX0_finder 88 = .ok (.aload_n 0, 1) := dk_42 (dk_at dksX0_finder_3 20 rfl rfl)
theorem dX0_finder_89 : decode cX0_finder 89 = .ok (.invokevirtual 187, 3) := dk_182 0 187 (dk_at dksX0_finder_3 21 rfl rfl)
theorem dX0_finder_92 : decode cX0_finder 92 = .ok (.getfield 271, 3) := dk_180 1 15 (dk_at dksX0_finder_4 0 rfl rfl)
theorem dX0_finder_95 : decode cX0_finder 95 = .ok (.iload_n 1, 1) := dk_27 (dk_at dksX0_finder_4 3 rfl rfl)
theorem dX0_finder_96 : decode cX0_finder 96 = .ok (.iaload, 1) := dk_46 (dk_at dksX0_finder_4 4 rfl rfl)
theorem dX0_finder_97 : decode cX0_finder 97 = .ok (.ireturn, 1) := dk_172 (dk_at dksX0_finder_4 5 rfl rfl)
theorem dX0_finder_98 : decode cX0_finder 98 = .ok (.aload_n 0, 1) := dk_42 (dk_at dksX0_finder_4 6 rfl rfl)
theorem dX0_finder_99 : decode cX0_finder 99 = .ok (.invokevirtual 187, 3) := dk_182 0 187 (dk_at dksX0_finder_4 7 rfl rfl)
theorem dX0_finder_102 : decode cX0_finder 102 = .ok (.getfield 274, 3) := dk_180 1 18 (dk_at dksX0_finder_4 10 rfl rfl)
theorem dX0_finder_105 : decode cX0_finder 105 = .ok (.iload_n 1, 1) := dk_27 (dk_at dksX0_finder_4 13 rfl rfl)
theorem dX0_finder_106 : decode cX0_finder 106 = .ok (.iaload, 1) := dk_46 (dk_at dksX0_finder_4 14 rfl rfl)
theorem dX0_finder_107 : decode cX0_finder 107 = .ok (.ireturn, 1) := dk_172 (dk_at dksX0_finder_4 15 rfl rfl)
theorem dX0_finder_108 : decode cX0_finder 108 = .ok (.aload_n 0, 1) := dk_42 (dk_at dksX0_finder_4 16 rfl rfl)
theorem dX0_finder_109 : decode cX0_finder 109 = .ok (.invokevirtual 187, 3) := dk_182 0 187 (dk_at dksX0_finder_4 17 rfl rfl)
theorem dX0_finder_112 : decode cX0_finder 112 = .ok (.getfield 277, 3) := dk_180 1 21 (dk_at dksX0_finder_4 20 rfl rfl)
theorem dX0_finder_115 : decode cX0_finder 115 = .ok (.iload_n 1, 1) := dk_27 (dk_at dksX0_finder_4 23 rfl rfl)
theorem dX0_finder_116 : decode cX0_finder 116 = .ok (.iaload, 1) := dk_46 (dk_at dksX0_finder_5 0 rfl rfl)
theorem dX0_finder_117 : decode cX0_finder 117 = .ok (.ireturn, 1) := dk_172 (dk_at dksX0_finder_5 1 rfl rfl)
abbrev cX0_isFinder : ByteArray := prog_1_method_22_code
def yX0_isFinder : MethodName := ⟨RX0, "isFinder", "(I)Z"⟩
def dkwX0_isFinder_0 : List UInt8 := [27, 133, 9, 42, 182, 0, 165, 180, 0, 168, 4, 100, 133, 184, 0, 173, 172]
abbrev dktX0_isFinder_0 : List UInt8 := dkwX0_isFinder_0 ++ []
theorem dksX0_isFinder_0 : cX0_isFinder.data.toList.drop 0 = dktX0_isFinder_0 := by decide +kernel
theorem dX0_isFinder_0 : decode cX0_isFinder 0 = .ok (.iload_n 1, 1) := dk_27 (dk_at dksX0_isFinder_0 0 rfl rfl)
theorem dX0_isFinder_1 : decode cX0_isFinder 1 = .ok (.i2l, 1) := dk_133 (dk_at dksX0_isFinder_0 1 rfl rfl)
theorem dX0_isFinder_2 : decode cX0_isFinder 2 = .ok (.lconst 0, 1) := dk_9 (dk_at dksX0_isFinder_0 2 rfl rfl)
theorem dX0_isFinder_3 : decode cX0_isFinder 3 = .ok (.aload_n 0, 1) := dk_42 (dk_at dksX0_isFinder_0 3 rfl rfl)
theorem dX0_isFinder_4 : decode cX0_isFinder 4 = .ok (.invokevirtual 165, 3) := dk_182 0 165 (dk_at dksX0_isFinder_0 4 rfl rfl)
theorem dX0_isFinder_7 : decode cX0_isFinder 7 = .ok (.getfield 168, 3) := dk_180 0 168 (dk_at dksX0_isFinder_0 7 rfl rfl)
theorem dX0_isFinder_10 : decode cX0_isFinder 10 = .ok (.iconst 1, 1) := dk_4 (dk_at dksX0_isFinder_0 10 rfl rfl)
theorem dX0_isFinder_11 : decode cX0_isFinder 11 = .ok (.isub, 1) := dk_100 (dk_at dksX0_isFinder_0 11 rfl rfl)
theorem dX0_isFinder_12 : decode cX0_isFinder 12 = .ok (.i2l, 1) := dk_133 (dk_at dksX0_isFinder_0 12 rfl rfl)
theorem dX0_isFinder_13 : decode cX0_isFinder 13 = .ok (.invokestatic 173, 3) := dk_184 0 173 (dk_at dksX0_isFinder_0 13 rfl rfl)
theorem dX0_isFinder_16 : decode cX0_isFinder 16 = .ok (.ireturn, 1) := dk_172 (dk_at dksX0_isFinder_0 16 rfl rfl)
abbrev cX0_find : ByteArray := prog_1_method_36_code
def yX0_find : MethodName := ⟨RX0, "find", "(II)I"⟩
def dkwX0_find_3 : List UInt8 := [46, 167, 0, 15, 42, 182, 0, 187, 180, 1, 32, 27, 50, 180, 1, 36, 172]
abbrev dktX0_find_3 : List UInt8 := dkwX0_find_3 ++ []
def dkwX0_find_2 : List UInt8 := [182, 0, 165, 180, 1, 26, 27, 46, 167, 0, 32, 28, 4, 160, 0, 15, 42, 182, 0, 165, 180, 1, 29, 27]
abbrev dktX0_find_2 : List UInt8 := dkwX0_find_2 ++ dktX0_find_3
def dkwX0_find_1 : List UInt8 := [167, 0, 4, 4, 181, 0, 85, 42, 180, 0, 85, 158, 0, 7, 2, 167, 0, 48, 28, 154, 0, 15, 42]
abbrev dktX0_find_1 : List UInt8 := dkwX0_find_1 ++ dktX0_find_2
def dkwX0_find_0 : List UInt8 := [42, 42, 27, 182, 0, 184, 153, 0, 19, 28, 133, 9, 20, 1, 24, 184, 0, 173, 153, 0, 7, 3]
abbrev dktX0_find_0 : List UInt8 := dkwX0_find_0 ++ dktX0_find_1
theorem dksX0_find_0 : cX0_find.data.toList.drop 0 = dktX0_find_0 := by decide +kernel
theorem dksX0_find_1 : cX0_find.data.toList.drop 22 = dktX0_find_1 := dk_seg dksX0_find_0 22 rfl rfl
theorem dksX0_find_2 : cX0_find.data.toList.drop 45 = dktX0_find_2 := dk_seg dksX0_find_1 23 rfl rfl
theorem dksX0_find_3 : cX0_find.data.toList.drop 69 = dktX0_find_3 := dk_seg dksX0_find_2 24 rfl rfl
theorem dX0_find_0 : decode cX0_find 0 = .ok (.aload_n 0, 1) := dk_42 (dk_at dksX0_find_0 0 rfl rfl)
theorem dX0_find_1 : decode cX0_find 1 = .ok (.aload_n 0, 1) := dk_42 (dk_at dksX0_find_0 1 rfl rfl)
theorem dX0_find_2 : decode cX0_find 2 = .ok (.iload_n 1, 1) := dk_27 (dk_at dksX0_find_0 2 rfl rfl)
theorem dX0_find_3 : decode cX0_find 3 = .ok (.invokevirtual 184, 3) := dk_182 0 184 (dk_at dksX0_find_0 3 rfl rfl)
theorem dX0_find_6 : decode cX0_find 6 = .ok (.ifCond .eq 19, 3) := dk_153 0 19 (dk_at dksX0_find_0 6 rfl rfl)
theorem dX0_find_9 : decode cX0_find 9 = .ok (.iload_n 2, 1) := dk_28 (dk_at dksX0_find_0 9 rfl rfl)
theorem dX0_find_10 : decode cX0_find 10 = .ok (.i2l, 1) := dk_133 (dk_at dksX0_find_0 10 rfl rfl)
theorem dX0_find_11 : decode cX0_find 11 = .ok (.lconst 0, 1) := dk_9 (dk_at dksX0_find_0 11 rfl rfl)
theorem dX0_find_12 : decode cX0_find 12 = .ok (.ldc2_w 280, 3) := dk_20 1 24 (dk_at dksX0_find_0 12 rfl rfl)
theorem dX0_find_15 : decode cX0_find 15 = .ok (.invokestatic 173, 3) := dk_184 0 173 (dk_at dksX0_find_0 15 rfl rfl)
theorem dX0_find_18 : decode cX0_find 18 = .ok (.ifCond .eq 7, 3) := dk_153 0 7 (dk_at dksX0_find_0 18 rfl rfl)
theorem dX0_find_21 : decode cX0_find 21 = .ok (.iconst 0, 1) := dk_3 (dk_at dksX0_find_0 21 rfl rfl)
theorem dX0_find_22 : decode cX0_find 22 = .ok (.goto 4, 3) := dk_167 0 4 (dk_at dksX0_find_1 0 rfl rfl)
theorem dX0_find_25 : decode cX0_find 25 = .ok (.iconst 1, 1) := dk_4 (dk_at dksX0_find_1 3 rfl rfl)
theorem dX0_find_26 : decode cX0_find 26 = .ok (.putfield 85, 3) := dk_181 0 85 (dk_at dksX0_find_1 4 rfl rfl)
theorem dX0_find_29 : decode cX0_find 29 = .ok (.aload_n 0, 1) := dk_42 (dk_at dksX0_find_1 7 rfl rfl)
theorem dX0_find_30 : decode cX0_find 30 = .ok (.getfield 85, 3) := dk_180 0 85 (dk_at dksX0_find_1 8 rfl rfl)
theorem dX0_find_33 : decode cX0_find 33 = .ok (.ifCond .le 7, 3) := dk_158 0 7 (dk_at dksX0_find_1 11 rfl rfl)
theorem dX0_find_36 : decode cX0_find 36 = .ok (.iconst (-1), 1) := dk_2 (dk_at dksX0_find_1 14 rfl rfl)
theorem dX0_find_37 : decode cX0_find 37 = .ok (.goto 48, 3) := dk_167 0 48 (dk_at dksX0_find_1 15 rfl rfl)
theorem dX0_find_40 : decode cX0_find 40 = .ok (.iload_n 2, 1) := dk_28 (dk_at dksX0_find_1 18 rfl rfl)
theorem dX0_find_41 : decode cX0_find 41 = .ok (.ifCond .ne 15, 3) := dk_154 0 15 (dk_at dksX0_find_1 19 rfl rfl)
theorem dX0_find_44 : decode cX0_find 44 = .ok (.aload_n 0, 1) := dk_42 (dk_at dksX0_find_1 22 rfl rfl)
theorem dX0_find_45 : decode cX0_find 45 = .ok (.invokevirtual 165, 3) := dk_182 0 165 (dk_at dksX0_find_2 0 rfl rfl)
theorem dX0_find_48 : decode cX0_find 48 = .ok (.getfield 282, 3) := dk_180 1 26 (dk_at dksX0_find_2 3 rfl rfl)
theorem dX0_find_51 : decode cX0_find 51 = .ok (.iload_n 1, 1) := dk_27 (dk_at dksX0_find_2 6 rfl rfl)
theorem dX0_find_52 : decode cX0_find 52 = .ok (.iaload, 1) := dk_46 (dk_at dksX0_find_2 7 rfl rfl)
theorem dX0_find_53 : decode cX0_find 53 = .ok (.goto 32, 3) := dk_167 0 32 (dk_at dksX0_find_2 8 rfl rfl)
theorem dX0_find_56 : decode cX0_find 56 = .ok (.iload_n 2, 1) := dk_28 (dk_at dksX0_find_2 11 rfl rfl)
theorem dX0_find_57 : decode cX0_find 57 = .ok (.iconst 1, 1) := dk_4 (dk_at dksX0_find_2 12 rfl rfl)
theorem dX0_find_58 : decode cX0_find 58 = .ok (.if_icmp .ne 15, 3) := dk_160 0 15 (dk_at dksX0_find_2 13 rfl rfl)
theorem dX0_find_61 : decode cX0_find 61 = .ok (.aload_n 0, 1) := dk_42 (dk_at dksX0_find_2 16 rfl rfl)
theorem dX0_find_62 : decode cX0_find 62 = .ok (.invokevirtual 165, 3) := dk_182 0 165 (dk_at dksX0_find_2 17 rfl rfl)
theorem dX0_find_65 : decode cX0_find 65 = .ok (.getfield 285, 3) := dk_180 1 29 (dk_at dksX0_find_2 20 rfl rfl)
theorem dX0_find_68 : decode cX0_find 68 = .ok (.iload_n 1, 1) := dk_27 (dk_at dksX0_find_2 23 rfl rfl)
theorem dX0_find_69 : decode cX0_find 69 = .ok (.iaload, 1) := dk_46 (dk_at dksX0_find_3 0 rfl rfl)
theorem dX0_find_70 : decode cX0_find 70 = .ok (.goto 15, 3) := dk_167 0 15 (dk_at dksX0_find_3 1 rfl rfl)
theorem dX0_find_73 : decode cX0_find 73 = .ok (.aload_n 0, 1) := dk_42 (dk_at dksX0_find_3 4 rfl rfl)
theorem dX0_find_74 : decode cX0_find 74 = .ok (.invokevirtual 187, 3) := dk_182 0 187 (dk_at dksX0_find_3 5 rfl rfl)
theorem dX0_find_77 : decode cX0_find 77 = .ok (.getfield 288, 3) := dk_180 1 32 (dk_at dksX0_find_3 8 rfl rfl)
theorem dX0_find_80 : decode cX0_find 80 = .ok (.iload_n 1, 1) := dk_27 (dk_at dksX0_find_3 11 rfl rfl)
theorem dX0_find_81 : decode cX0_find 81 = .ok (.aaload, 1) := dk_50 (dk_at dksX0_find_3 12 rfl rfl)
theorem dX0_find_82 : decode cX0_find 82 = .ok (.getfield 292, 3) := dk_180 1 36 (dk_at dksX0_find_3 13 rfl rfl)
theorem dX0_find_85 : decode cX0_find 85 = .ok (.ireturn, 1) := dk_172 (dk_at dksX0_find_3 16 rfl rfl)
abbrev cX0_isFind : ByteArray := prog_1_method_23_code
def yX0_isFind : MethodName := ⟨RX0, "isFind", "(I)Z"⟩
def dkwX0_isFind_0 : List UInt8 := [27, 133, 9, 42, 182, 0, 165, 180, 0, 177, 4, 100, 133, 184, 0, 173, 172]
abbrev dktX0_isFind_0 : List UInt8 := dkwX0_isFind_0 ++ []
theorem dksX0_isFind_0 : cX0_isFind.data.toList.drop 0 = dktX0_isFind_0 := by decide +kernel
theorem dX0_isFind_0 : decode cX0_isFind 0 = .ok (.iload_n 1, 1) := dk_27 (dk_at dksX0_isFind_0 0 rfl rfl)
theorem dX0_isFind_1 : decode cX0_isFind 1 = .ok (.i2l, 1) := dk_133 (dk_at dksX0_isFind_0 1 rfl rfl)
theorem dX0_isFind_2 : decode cX0_isFind 2 = .ok (.lconst 0, 1) := dk_9 (dk_at dksX0_isFind_0 2 rfl rfl)
theorem dX0_isFind_3 : decode cX0_isFind 3 = .ok (.aload_n 0, 1) := dk_42 (dk_at dksX0_isFind_0 3 rfl rfl)
theorem dX0_isFind_4 : decode cX0_isFind 4 = .ok (.invokevirtual 165, 3) := dk_182 0 165 (dk_at dksX0_isFind_0 4 rfl rfl)
theorem dX0_isFind_7 : decode cX0_isFind 7 = .ok (.getfield 177, 3) := dk_180 0 177 (dk_at dksX0_isFind_0 7 rfl rfl)
theorem dX0_isFind_10 : decode cX0_isFind 10 = .ok (.iconst 1, 1) := dk_4 (dk_at dksX0_isFind_0 10 rfl rfl)
theorem dX0_isFind_11 : decode cX0_isFind 11 = .ok (.isub, 1) := dk_100 (dk_at dksX0_isFind_0 11 rfl rfl)
theorem dX0_isFind_12 : decode cX0_isFind 12 = .ok (.i2l, 1) := dk_133 (dk_at dksX0_isFind_0 12 rfl rfl)
theorem dX0_isFind_13 : decode cX0_isFind 13 = .ok (.invokestatic 173, 3) := dk_184 0 173 (dk_at dksX0_isFind_0 13 rfl rfl)
theorem dX0_isFind_16 : decode cX0_isFind 16 = .ok (.ireturn, 1) := dk_172 (dk_at dksX0_isFind_0 16 rfl rfl)
abbrev cX0_pebble : ByteArray := prog_1_method_37_code
def yX0_pebble : MethodName := ⟨RX0, "pebble", "(III)I"⟩
def dkwX0_pebble_4 : List UInt8 := [50, 180, 1, 44, 28, 46, 172]
abbrev dktX0_pebble_4 : List UInt8 := dkwX0_pebble_4 ++ []
def dkwX0_pebble_3 : List UInt8 := [182, 0, 187, 180, 1, 32, 27, 50, 180, 1, 41, 28, 46, 167, 0, 17, 42, 182, 0, 187, 180, 1, 32, 27]
abbrev dktX0_pebble_3 : List UInt8 := dkwX0_pebble_3 ++ dktX0_pebble_4
def dkwX0_pebble_2 : List UInt8 := [167, 0, 5, 16, 6, 181, 0, 85, 42, 180, 0, 85, 158, 0, 7, 2, 167, 0, 38, 29, 154, 0, 20, 42]
abbrev dktX0_pebble_2 : List UInt8 := dkwX0_pebble_2 ++ dktX0_pebble_3
def dkwX0_pebble_1 : List UInt8 := [133, 9, 42, 182, 0, 187, 180, 1, 32, 27, 50, 180, 1, 36, 4, 100, 133, 184, 0, 173, 153, 0, 7, 3]
abbrev dktX0_pebble_1 : List UInt8 := dkwX0_pebble_1 ++ dktX0_pebble_2
def dkwX0_pebble_0 : List UInt8 := [42, 42, 27, 182, 0, 184, 153, 0, 13, 29, 133, 9, 10, 184, 0, 173, 154, 0, 7, 4, 167, 0, 33, 28]
abbrev dktX0_pebble_0 : List UInt8 := dkwX0_pebble_0 ++ dktX0_pebble_1
theorem dksX0_pebble_0 : cX0_pebble.data.toList.drop 0 = dktX0_pebble_0 := by decide +kernel
theorem dksX0_pebble_1 : cX0_pebble.data.toList.drop 24 = dktX0_pebble_1 := dk_seg dksX0_pebble_0 24 rfl rfl
theorem dksX0_pebble_2 : cX0_pebble.data.toList.drop 48 = dktX0_pebble_2 := dk_seg dksX0_pebble_1 24 rfl rfl
theorem dksX0_pebble_3 : cX0_pebble.data.toList.drop 72 = dktX0_pebble_3 := dk_seg dksX0_pebble_2 24 rfl rfl
theorem dksX0_pebble_4 : cX0_pebble.data.toList.drop 96 = dktX0_pebble_4 := dk_seg dksX0_pebble_3 24 rfl rfl
theorem dX0_pebble_0 : decode cX0_pebble 0 = .ok (.aload_n 0, 1) := dk_42 (dk_at dksX0_pebble_0 0 rfl rfl)
theorem dX0_pebble_1 : decode cX0_pebble 1 = .ok (.aload_n 0, 1) := dk_42 (dk_at dksX0_pebble_0 1 rfl rfl)
theorem dX0_pebble_2 : decode cX0_pebble 2 = .ok (.iload_n 1, 1) := dk_27 (dk_at dksX0_pebble_0 2 rfl rfl)
theorem dX0_pebble_3 : decode cX0_pebble 3 = .ok (.invokevirtual 184, 3) := dk_182 0 184 (dk_at dksX0_pebble_0 3 rfl rfl)
theorem dX0_pebble_6 : decode cX0_pebble 6 = .ok (.ifCond .eq 13, 3) := dk_153 0 13 (dk_at dksX0_pebble_0 6 rfl rfl)
theorem dX0_pebble_9 : decode cX0_pebble 9 = .ok (.iload_n 3, 1) := dk_29 (dk_at dksX0_pebble_0 9 rfl rfl)
theorem dX0_pebble_10 : decode cX0_pebble 10 = .ok (.i2l, 1) := dk_133 (dk_at dksX0_pebble_0 10 rfl rfl)
theorem dX0_pebble_11 : decode cX0_pebble 11 = .ok (.lconst 0, 1) := dk_9 (dk_at dksX0_pebble_0 11 rfl rfl)
theorem dX0_pebble_12 : decode cX0_pebble 12 = .ok (.lconst 1, 1) := dk_10 (dk_at dksX0_pebble_0 12 rfl rfl)
theorem dX0_pebble_13 : decode cX0_pebble 13 = .ok (.invokestatic 173, 3) := dk_184 0 173 (dk_at dksX0_pebble_0 13 rfl rfl)
theorem dX0_pebble_16 : decode cX0_pebble 16 = .ok (.ifCond .ne 7, 3) := dk_154 0 7 (dk_at dksX0_pebble_0 16 rfl rfl)
theorem dX0_pebble_19 : decode cX0_pebble 19 = .ok (.iconst 1, 1) := dk_4 (dk_at dksX0_pebble_0 19 rfl rfl)
theorem dX0_pebble_20 : decode cX0_pebble 20 = .ok (.goto 33, 3) := dk_167 0 33 (dk_at dksX0_pebble_0 20 rfl rfl)
theorem dX0_pebble_23 : decode cX0_pebble 23 = .ok (.iload_n 2, 1) := dk_28 (dk_at dksX0_pebble_0 23 rfl rfl)
theorem dX0_pebble_24 : decode cX0_pebble 24 = .ok (.i2l, 1) := dk_133 (dk_at dksX0_pebble_1 0 rfl rfl)
theorem dX0_pebble_25 : decode cX0_pebble 25 = .ok (.lconst 0, 1) := dk_9 (dk_at dksX0_pebble_1 1 rfl rfl)
theorem dX0_pebble_26 : decode cX0_pebble 26 = .ok (.aload_n 0, 1) := dk_42 (dk_at dksX0_pebble_1 2 rfl rfl)
theorem dX0_pebble_27 : decode cX0_pebble 27 = .ok (.invokevirtual 187, 3) := dk_182 0 187 (dk_at dksX0_pebble_1 3 rfl rfl)
theorem dX0_pebble_30 : decode cX0_pebble 30 = .ok (.getfield 288, 3) := dk_180 1 32 (dk_at dksX0_pebble_1 6 rfl rfl)
theorem dX0_pebble_33 : decode cX0_pebble 33 = .ok (.iload_n 1, 1) := dk_27 (dk_at dksX0_pebble_1 9 rfl rfl)
theorem dX0_pebble_34 : decode cX0_pebble 34 = .ok (.aaload, 1) := dk_50 (dk_at dksX0_pebble_1 10 rfl rfl)
theorem dX0_pebble_35 : decode cX0_pebble 35 = .ok (.getfield 292, 3) := dk_180 1 36 (dk_at dksX0_pebble_1 11 rfl rfl)
theorem dX0_pebble_38 : decode cX0_pebble 38 = .ok (.iconst 1, 1) := dk_4 (dk_at dksX0_pebble_1 14 rfl rfl)
theorem dX0_pebble_39 : decode cX0_pebble 39 = .ok (.isub, 1) := dk_100 (dk_at dksX0_pebble_1 15 rfl rfl)
theorem dX0_pebble_40 : decode cX0_pebble 40 = .ok (.i2l, 1) := dk_133 (dk_at dksX0_pebble_1 16 rfl rfl)
theorem dX0_pebble_41 : decode cX0_pebble 41 = .ok (.invokestatic 173, 3) := dk_184 0 173 (dk_at dksX0_pebble_1 17 rfl rfl)
theorem dX0_pebble_44 : decode cX0_pebble 44 = .ok (.ifCond .eq 7, 3) := dk_153 0 7 (dk_at dksX0_pebble_1 20 rfl rfl)
theorem dX0_pebble_47 : decode cX0_pebble 47 = .ok (.iconst 0, 1) := dk_3 (dk_at dksX0_pebble_1 23 rfl rfl)
theorem dX0_pebble_48 : decode cX0_pebble 48 = .ok (.goto 5, 3) := dk_167 0 5 (dk_at dksX0_pebble_2 0 rfl rfl)
theorem dX0_pebble_51 : decode cX0_pebble 51 = .ok (.bipush 6, 2) := dk_16 6 (dk_at dksX0_pebble_2 3 rfl rfl)
theorem dX0_pebble_53 : decode cX0_pebble 53 = .ok (.putfield 85, 3) := dk_181 0 85 (dk_at dksX0_pebble_2 5 rfl rfl)
theorem dX0_pebble_56 : decode cX0_pebble 56 = .ok (.aload_n 0, 1) := dk_42 (dk_at dksX0_pebble_2 8 rfl rfl)
theorem dX0_pebble_57 : decode cX0_pebble 57 = .ok (.getfield 85, 3) := dk_180 0 85 (dk_at dksX0_pebble_2 9 rfl rfl)
theorem dX0_pebble_60 : decode cX0_pebble 60 = .ok (.ifCond .le 7, 3) := dk_158 0 7 (dk_at dksX0_pebble_2 12 rfl rfl)
theorem dX0_pebble_63 : decode cX0_pebble 63 = .ok (.iconst (-1), 1) := dk_2 (dk_at dksX0_pebble_2 15 rfl rfl)
theorem dX0_pebble_64 : decode cX0_pebble 64 = .ok (.goto 38, 3) := dk_167 0 38 (dk_at dksX0_pebble_2 16 rfl rfl)
theorem dX0_pebble_67 : decode cX0_pebble 67 = .ok (.iload_n 3, 1) := dk_29 (dk_at dksX0_pebble_2 19 rfl rfl)
theorem dX0_pebble_68 : decode cX0_pebble 68 = .ok (.ifCond .ne 20, 3) := dk_154 0 20 (dk_at dksX0_pebble_2 20 rfl rfl)
theorem dX0_pebble_71 : decode cX0_pebble 71 = .ok (.aload_n 0, 1) := dk_42 (dk_at dksX0_pebble_2 23 rfl rfl)
theorem dX0_pebble_72 : decode cX0_pebble 72 = .ok (.invokevirtual 187, 3) := dk_182 0 187 (dk_at dksX0_pebble_3 0 rfl rfl)
theorem dX0_pebble_75 : decode cX0_pebble 75 = .ok (.getfield 288, 3) := dk_180 1 32 (dk_at dksX0_pebble_3 3 rfl rfl)
theorem dX0_pebble_78 : decode cX0_pebble 78 = .ok (.iload_n 1, 1) := dk_27 (dk_at dksX0_pebble_3 6 rfl rfl)
theorem dX0_pebble_79 : decode cX0_pebble 79 = .ok (.aaload, 1) := dk_50 (dk_at dksX0_pebble_3 7 rfl rfl)
theorem dX0_pebble_80 : decode cX0_pebble 80 = .ok (.getfield 297, 3) := dk_180 1 41 (dk_at dksX0_pebble_3 8 rfl rfl)
theorem dX0_pebble_83 : decode cX0_pebble 83 = .ok (.iload_n 2, 1) := dk_28 (dk_at dksX0_pebble_3 11 rfl rfl)
theorem dX0_pebble_84 : decode cX0_pebble 84 = .ok (.iaload, 1) := dk_46 (dk_at dksX0_pebble_3 12 rfl rfl)
theorem dX0_pebble_85 : decode cX0_pebble 85 = .ok (.goto 17, 3) := dk_167 0 17 (dk_at dksX0_pebble_3 13 rfl rfl)
theorem dX0_pebble_88 : decode cX0_pebble 88 = .ok (.aload_n 0, 1) := dk_42 (dk_at dksX0_pebble_3 16 rfl rfl)
theorem dX0_pebble_89 : decode cX0_pebble 89 = .ok (.invokevirtual 187, 3) := dk_182 0 187 (dk_at dksX0_pebble_3 17 rfl rfl)
theorem dX0_pebble_92 : decode cX0_pebble 92 = .ok (.getfield 288, 3) := dk_180 1 32 (dk_at dksX0_pebble_3 20 rfl rfl)
theorem dX0_pebble_95 : decode cX0_pebble 95 = .ok (.iload_n 1, 1) := dk_27 (dk_at dksX0_pebble_3 23 rfl rfl)
theorem dX0_pebble_96 : decode cX0_pebble 96 = .ok (.aaload, 1) := dk_50 (dk_at dksX0_pebble_4 0 rfl rfl)
theorem dX0_pebble_97 : decode cX0_pebble 97 = .ok (.getfield 300, 3) := dk_180 1 44 (dk_at dksX0_pebble_4 1 rfl rfl)
theorem dX0_pebble_100 : decode cX0_pebble 100 = .ok (.iload_n 2, 1) := dk_28 (dk_at dksX0_pebble_4 4 rfl rfl)
theorem dX0_pebble_101 : decode cX0_pebble 101 = .ok (.iaload, 1) := dk_46 (dk_at dksX0_pebble_4 5 rfl rfl)
theorem dX0_pebble_102 : decode cX0_pebble 102 = .ok (.ireturn, 1) := dk_172 (dk_at dksX0_pebble_4 6 rfl rfl)
abbrev cX0_go : ByteArray := prog_1_method_38_code
def yX0_go : MethodName := ⟨RX0, "go", "(II)I"⟩
def dkwX0_go_3 : List UInt8 := [180, 1, 18, 27, 46, 172]
abbrev dktX0_go_3 : List UInt8 := dkwX0_go_3 ++ []
def dkwX0_go_2 : List UInt8 := [167, 0, 5, 16, 7, 181, 0, 85, 42, 180, 0, 85, 158, 0, 7, 2, 167, 0, 12, 42, 182, 0, 187]
abbrev dktX0_go_2 : List UInt8 := dkwX0_go_2 ++ dktX0_go_3
def dkwX0_go_1 : List UInt8 := [184, 0, 173, 154, 0, 7, 4, 167, 0, 21, 42, 182, 0, 187, 27, 28, 182, 1, 47, 153, 0, 7, 3]
abbrev dktX0_go_1 : List UInt8 := dkwX0_go_1 ++ dktX0_go_2
def dkwX0_go_0 : List UInt8 := [42, 42, 27, 182, 0, 180, 153, 0, 22, 28, 133, 9, 42, 182, 0, 165, 180, 0, 242, 4, 100, 133]
abbrev dktX0_go_0 : List UInt8 := dkwX0_go_0 ++ dktX0_go_1
theorem dksX0_go_0 : cX0_go.data.toList.drop 0 = dktX0_go_0 := by decide +kernel
theorem dksX0_go_1 : cX0_go.data.toList.drop 22 = dktX0_go_1 := dk_seg dksX0_go_0 22 rfl rfl
theorem dksX0_go_2 : cX0_go.data.toList.drop 45 = dktX0_go_2 := dk_seg dksX0_go_1 23 rfl rfl
theorem dksX0_go_3 : cX0_go.data.toList.drop 68 = dktX0_go_3 := dk_seg dksX0_go_2 23 rfl rfl
theorem dX0_go_0 : decode cX0_go 0 = .ok (.aload_n 0, 1) := dk_42 (dk_at dksX0_go_0 0 rfl rfl)
theorem dX0_go_1 : decode cX0_go 1 = .ok (.aload_n 0, 1) := dk_42 (dk_at dksX0_go_0 1 rfl rfl)
theorem dX0_go_2 : decode cX0_go 2 = .ok (.iload_n 1, 1) := dk_27 (dk_at dksX0_go_0 2 rfl rfl)
theorem dX0_go_3 : decode cX0_go 3 = .ok (.invokevirtual 180, 3) := dk_182 0 180 (dk_at dksX0_go_0 3 rfl rfl)
theorem dX0_go_6 : decode cX0_go 6 = .ok (.ifCond .eq 22, 3) := dk_153 0 22 (dk_at dksX0_go_0 6 rfl rfl)
theorem dX0_go_9 : decode cX0_go 9 = .ok (.iload_n 2, 1) := dk_28 (dk_at dksX0_go_0 9 rfl rfl)
theorem dX0_go_10 : decode cX0_go 10 = .ok (.i2l, 1) := dk_133 (dk_at dksX0_go_0 10 rfl rfl)
theorem dX0_go_11 : decode cX0_go 11 = .ok (.lconst 0, 1) := dk_9 (dk_at dksX0_go_0 11 rfl rfl)
theorem dX0_go_12 : decode cX0_go 12 = .ok (.aload_n 0, 1) := dk_42 (dk_at dksX0_go_0 12 rfl rfl)
theorem dX0_go_13 : decode cX0_go 13 = .ok (.invokevirtual 165, 3) := dk_182 0 165 (dk_at dksX0_go_0 13 rfl rfl)
theorem dX0_go_16 : decode cX0_go 16 = .ok (.getfield 242, 3) := dk_180 0 242 (dk_at dksX0_go_0 16 rfl rfl)
theorem dX0_go_19 : decode cX0_go 19 = .ok (.iconst 1, 1) := dk_4 (dk_at dksX0_go_0 19 rfl rfl)
theorem dX0_go_20 : decode cX0_go 20 = .ok (.isub, 1) := dk_100 (dk_at dksX0_go_0 20 rfl rfl)
theorem dX0_go_21 : decode cX0_go 21 = .ok (.i2l, 1) := dk_133 (dk_at dksX0_go_0 21 rfl rfl)
theorem dX0_go_22 : decode cX0_go 22 = .ok (.invokestatic 173, 3) := dk_184 0 173 (dk_at dksX0_go_1 0 rfl rfl)
theorem dX0_go_25 : decode cX0_go 25 = .ok (.ifCond .ne 7, 3) := dk_154 0 7 (dk_at dksX0_go_1 3 rfl rfl)
theorem dX0_go_28 : decode cX0_go 28 = .ok (.iconst 1, 1) := dk_4 (dk_at dksX0_go_1 6 rfl rfl)
theorem dX0_go_29 : decode cX0_go 29 = .ok (.goto 21, 3) := dk_167 0 21 (dk_at dksX0_go_1 7 rfl rfl)
theorem dX0_go_32 : decode cX0_go 32 = .ok (.aload_n 0, 1) := dk_42 (dk_at dksX0_go_1 10 rfl rfl)
theorem dX0_go_33 : decode cX0_go 33 = .ok (.invokevirtual 187, 3) := dk_182 0 187 (dk_at dksX0_go_1 11 rfl rfl)
theorem dX0_go_36 : decode cX0_go 36 = .ok (.iload_n 1, 1) := dk_27 (dk_at dksX0_go_1 14 rfl rfl)
theorem dX0_go_37 : decode cX0_go 37 = .ok (.iload_n 2, 1) := dk_28 (dk_at dksX0_go_1 15 rfl rfl)
theorem dX0_go_38 : decode cX0_go 38 = .ok (.invokevirtual 303, 3) := dk_182 1 47 (dk_at dksX0_go_1 16 rfl rfl)
theorem dX0_go_41 : decode cX0_go 41 = .ok (.ifCond .eq 7, 3) := dk_153 0 7 (dk_at dksX0_go_1 19 rfl rfl)
theorem dX0_go_44 : decode cX0_go 44 = .ok (.iconst 0, 1) := dk_3 (dk_at dksX0_go_1 22 rfl rfl)
theorem dX0_go_45 : decode cX0_go 45 = .ok (.goto 5, 3) := dk_167 0 5 (dk_at dksX0_go_2 0 rfl rfl)
theorem dX0_go_48 : decode cX0_go 48 = .ok (.bipush 7, 2) := dk_16 7 (dk_at dksX0_go_2 3 rfl rfl)
theorem dX0_go_50 : decode cX0_go 50 = .ok (.putfield 85, 3) := dk_181 0 85 (dk_at dksX0_go_2 5 rfl rfl)
theorem dX0_go_53 : decode cX0_go 53 = .ok (.aload_n 0, 1) := dk_42 (dk_at dksX0_go_2 8 rfl rfl)
theorem dX0_go_54 : decode cX0_go 54 = .ok (.getfield 85, 3) := dk_180 0 85 (dk_at dksX0_go_2 9 rfl rfl)
theorem dX0_go_57 : decode cX0_go 57 = .ok (.ifCond .le 7, 3) := dk_158 0 7 (dk_at dksX0_go_2 12 rfl rfl)
theorem dX0_go_60 : decode cX0_go 60 = .ok (.iconst (-1), 1) := dk_2 (dk_at dksX0_go_2 15 rfl rfl)
theorem dX0_go_61 : decode cX0_go 61 = .ok (.goto 12, 3) := dk_167 0 12 (dk_at dksX0_go_2 16 rfl rfl)
theorem dX0_go_64 : decode cX0_go 64 = .ok (.aload_n 0, 1) := dk_42 (dk_at dksX0_go_2 19 rfl rfl)
theorem dX0_go_65 : decode cX0_go 65 = .ok (.invokevirtual 187, 3) := dk_182 0 187 (dk_at dksX0_go_2 20 rfl rfl)
theorem dX0_go_68 : decode cX0_go 68 = .ok (.getfield 274, 3) := dk_180 1 18 (dk_at dksX0_go_3 0 rfl rfl)
theorem dX0_go_71 : decode cX0_go 71 = .ok (.iload_n 1, 1) := dk_27 (dk_at dksX0_go_3 3 rfl rfl)
theorem dX0_go_72 : decode cX0_go 72 = .ok (.iaload, 1) := dk_46 (dk_at dksX0_go_3 4 rfl rfl)
theorem dX0_go_73 : decode cX0_go 73 = .ok (.ireturn, 1) := dk_172 (dk_at dksX0_go_3 5 rfl rfl)
abbrev cX0_pass : ByteArray := prog_1_method_39_code
def yX0_pass : MethodName := ⟨RX0, "pass", "(II)I"⟩
def dkwX0_pass_2 : List UInt8 := [42, 180, 0, 85, 158, 0, 7, 2, 167, 0, 12, 42, 182, 0, 187, 180, 1, 18, 27, 46, 172]
abbrev dktX0_pass_2 : List UInt8 := dkwX0_pass_2 ++ []
def dkwX0_pass_1 : List UInt8 := [167, 0, 21, 42, 182, 0, 187, 27, 28, 182, 1, 52, 153, 0, 7, 3, 167, 0, 5, 16, 7, 181, 0, 85]
abbrev dktX0_pass_1 : List UInt8 := dkwX0_pass_1 ++ dktX0_pass_2
def dkwX0_pass_0 : List UInt8 := [42, 42, 27, 182, 0, 180, 153, 0, 15, 28, 133, 10, 20, 1, 50, 184, 0, 173, 154, 0, 7, 4]
abbrev dktX0_pass_0 : List UInt8 := dkwX0_pass_0 ++ dktX0_pass_1
theorem dksX0_pass_0 : cX0_pass.data.toList.drop 0 = dktX0_pass_0 := by decide +kernel
theorem dksX0_pass_1 : cX0_pass.data.toList.drop 22 = dktX0_pass_1 := dk_seg dksX0_pass_0 22 rfl rfl
theorem dksX0_pass_2 : cX0_pass.data.toList.drop 46 = dktX0_pass_2 := dk_seg dksX0_pass_1 24 rfl rfl
theorem dX0_pass_0 : decode cX0_pass 0 = .ok (.aload_n 0, 1) := dk_42 (dk_at dksX0_pass_0 0 rfl rfl)
theorem dX0_pass_1 : decode cX0_pass 1 = .ok (.aload_n 0, 1) := dk_42 (dk_at dksX0_pass_0 1 rfl rfl)
theorem dX0_pass_2 : decode cX0_pass 2 = .ok (.iload_n 1, 1) := dk_27 (dk_at dksX0_pass_0 2 rfl rfl)
theorem dX0_pass_3 : decode cX0_pass 3 = .ok (.invokevirtual 180, 3) := dk_182 0 180 (dk_at dksX0_pass_0 3 rfl rfl)
theorem dX0_pass_6 : decode cX0_pass 6 = .ok (.ifCond .eq 15, 3) := dk_153 0 15 (dk_at dksX0_pass_0 6 rfl rfl)
theorem dX0_pass_9 : decode cX0_pass 9 = .ok (.iload_n 2, 1) := dk_28 (dk_at dksX0_pass_0 9 rfl rfl)
theorem dX0_pass_10 : decode cX0_pass 10 = .ok (.i2l, 1) := dk_133 (dk_at dksX0_pass_0 10 rfl rfl)
theorem dX0_pass_11 : decode cX0_pass 11 = .ok (.lconst 1, 1) := dk_10 (dk_at dksX0_pass_0 11 rfl rfl)
theorem dX0_pass_12 : decode cX0_pass 12 = .ok (.ldc2_w 306, 3) := dk_20 1 50 (dk_at dksX0_pass_0 12 rfl rfl)
theorem dX0_pass_15 : decode cX0_pass 15 = .ok (.invokestatic 173, 3) := dk_184 0 173 (dk_at dksX0_pass_0 15 rfl rfl)
theorem dX0_pass_18 : decode cX0_pass 18 = .ok (.ifCond .ne 7, 3) := dk_154 0 7 (dk_at dksX0_pass_0 18 rfl rfl)
theorem dX0_pass_21 : decode cX0_pass 21 = .ok (.iconst 1, 1) := dk_4 (dk_at dksX0_pass_0 21 rfl rfl)
theorem dX0_pass_22 : decode cX0_pass 22 = .ok (.goto 21, 3) := dk_167 0 21 (dk_at dksX0_pass_1 0 rfl rfl)
theorem dX0_pass_25 : decode cX0_pass 25 = .ok (.aload_n 0, 1) := dk_42 (dk_at dksX0_pass_1 3 rfl rfl)
theorem dX0_pass_26 : decode cX0_pass 26 = .ok (.invokevirtual 187, 3) := dk_182 0 187 (dk_at dksX0_pass_1 4 rfl rfl)
theorem dX0_pass_29 : decode cX0_pass 29 = .ok (.iload_n 1, 1) := dk_27 (dk_at dksX0_pass_1 7 rfl rfl)
theorem dX0_pass_30 : decode cX0_pass 30 = .ok (.iload_n 2, 1) := dk_28 (dk_at dksX0_pass_1 8 rfl rfl)
theorem dX0_pass_31 : decode cX0_pass 31 = .ok (.invokevirtual 308, 3) := dk_182 1 52 (dk_at dksX0_pass_1 9 rfl rfl)
theorem dX0_pass_34 : decode cX0_pass 34 = .ok (.ifCond .eq 7, 3) := dk_153 0 7 (dk_at dksX0_pass_1 12 rfl rfl)
theorem dX0_pass_37 : decode cX0_pass 37 = .ok (.iconst 0, 1) := dk_3 (dk_at dksX0_pass_1 15 rfl rfl)
theorem dX0_pass_38 : decode cX0_pass 38 = .ok (.goto 5, 3) := dk_167 0 5 (dk_at dksX0_pass_1 16 rfl rfl)
theorem dX0_pass_41 : decode cX0_pass 41 = .ok (.bipush 7, 2) := dk_16 7 (dk_at dksX0_pass_1 19 rfl rfl)
theorem dX0_pass_43 : decode cX0_pass 43 = .ok (.putfield 85, 3) := dk_181 0 85 (dk_at dksX0_pass_1 21 rfl rfl)
theorem dX0_pass_46 : decode cX0_pass 46 = .ok (.aload_n 0, 1) := dk_42 (dk_at dksX0_pass_2 0 rfl rfl)
theorem dX0_pass_47 : decode cX0_pass 47 = .ok (.getfield 85, 3) := dk_180 0 85 (dk_at dksX0_pass_2 1 rfl rfl)
theorem dX0_pass_50 : decode cX0_pass 50 = .ok (.ifCond .le 7, 3) := dk_158 0 7 (dk_at dksX0_pass_2 4 rfl rfl)
theorem dX0_pass_53 : decode cX0_pass 53 = .ok (.iconst (-1), 1) := dk_2 (dk_at dksX0_pass_2 7 rfl rfl)
theorem dX0_pass_54 : decode cX0_pass 54 = .ok (.goto 12, 3) := dk_167 0 12 (dk_at dksX0_pass_2 8 rfl rfl)
theorem dX0_pass_57 : decode cX0_pass 57 = .ok (.aload_n 0, 1) := dk_42 (dk_at dksX0_pass_2 11 rfl rfl)
theorem dX0_pass_58 : decode cX0_pass 58 = .ok (.invokevirtual 187, 3) := dk_182 0 187 (dk_at dksX0_pass_2 12 rfl rfl)
theorem dX0_pass_61 : decode cX0_pass 61 = .ok (.getfield 274, 3) := dk_180 1 18 (dk_at dksX0_pass_2 15 rfl rfl)
theorem dX0_pass_64 : decode cX0_pass 64 = .ok (.iload_n 1, 1) := dk_27 (dk_at dksX0_pass_2 18 rfl rfl)
theorem dX0_pass_65 : decode cX0_pass 65 = .ok (.iaload, 1) := dk_46 (dk_at dksX0_pass_2 19 rfl rfl)
theorem dX0_pass_66 : decode cX0_pass 66 = .ok (.ireturn, 1) := dk_172 (dk_at dksX0_pass_2 20 rfl rfl)
abbrev cX0_set : ByteArray := prog_1_method_40_code
def yX0_set : MethodName := ⟨RX0, "set", "(II)I"⟩
def dkwX0_set_4 : List UInt8 := [180, 1, 32, 28, 50, 180, 1, 36, 172]
abbrev dktX0_set_4 : List UInt8 := dkwX0_set_4 ++ []
def dkwX0_set_3 : List UInt8 := [42, 180, 0, 85, 158, 0, 5, 2, 172, 42, 182, 0, 187, 27, 28, 182, 1, 61, 42, 182, 0, 187]
abbrev dktX0_set_3 : List UInt8 := dkwX0_set_3 ++ dktX0_set_4
def dkwX0_set_2 : List UInt8 := [167, 0, 21, 42, 182, 0, 187, 27, 28, 182, 1, 58, 153, 0, 7, 3, 167, 0, 5, 16, 7, 181, 0, 85]
abbrev dktX0_set_2 : List UInt8 := dkwX0_set_2 ++ dktX0_set_3
def dkwX0_set_1 : List UInt8 := [16, 60, 160, 0, 7, 7, 167, 0, 38, 42, 182, 0, 187, 180, 1, 15, 27, 46, 154, 0, 8, 16, 6]
abbrev dktX0_set_1 : List UInt8 := dkwX0_set_1 ++ dktX0_set_2
def dkwX0_set_0 : List UInt8 := [42, 27, 28, 182, 1, 55, 62, 42, 29, 154, 0, 7, 4, 167, 0, 54, 42, 182, 0, 187, 182, 1, 3]
abbrev dktX0_set_0 : List UInt8 := dkwX0_set_0 ++ dktX0_set_1
theorem dksX0_set_0 : cX0_set.data.toList.drop 0 = dktX0_set_0 := by decide +kernel
theorem dksX0_set_1 : cX0_set.data.toList.drop 23 = dktX0_set_1 := dk_seg dksX0_set_0 23 rfl rfl
theorem dksX0_set_2 : cX0_set.data.toList.drop 46 = dktX0_set_2 := dk_seg dksX0_set_1 23 rfl rfl
theorem dksX0_set_3 : cX0_set.data.toList.drop 70 = dktX0_set_3 := dk_seg dksX0_set_2 24 rfl rfl
theorem dksX0_set_4 : cX0_set.data.toList.drop 92 = dktX0_set_4 := dk_seg dksX0_set_3 22 rfl rfl
theorem dX0_set_0 : decode cX0_set 0 = .ok (.aload_n 0, 1) := dk_42 (dk_at dksX0_set_0 0 rfl rfl)
theorem dX0_set_1 : decode cX0_set 1 = .ok (.iload_n 1, 1) := dk_27 (dk_at dksX0_set_0 1 rfl rfl)
theorem dX0_set_2 : decode cX0_set 2 = .ok (.iload_n 2, 1) := dk_28 (dk_at dksX0_set_0 2 rfl rfl)
theorem dX0_set_3 : decode cX0_set 3 = .ok (.invokevirtual 311, 3) := dk_182 1 55 (dk_at dksX0_set_0 3 rfl rfl)
theorem dX0_set_6 : decode cX0_set 6 = .ok (.istore_n 3, 1) := dk_62 (dk_at dksX0_set_0 6 rfl rfl)
theorem dX0_set_7 : decode cX0_set 7 = .ok (.aload_n 0, 1) := dk_42 (dk_at dksX0_set_0 7 rfl rfl)
theorem dX0_set_8 : decode cX0_set 8 = .ok (.iload_n 3, 1) := dk_29 (dk_at dksX0_set_0 8 rfl rfl)
theorem dX0_set_9 : decode cX0_set 9 = .ok (.ifCond .ne 7, 3) := dk_154 0 7 (dk_at dksX0_set_0 9 rfl rfl)
theorem dX0_set_12 : decode cX0_set 12 = .ok (.iconst 1, 1) := dk_4 (dk_at dksX0_set_0 12 rfl rfl)
theorem dX0_set_13 : decode cX0_set 13 = .ok (.goto 54, 3) := dk_167 0 54 (dk_at dksX0_set_0 13 rfl rfl)
theorem dX0_set_16 : decode cX0_set 16 = .ok (.aload_n 0, 1) := dk_42 (dk_at dksX0_set_0 16 rfl rfl)
theorem dX0_set_17 : decode cX0_set 17 = .ok (.invokevirtual 187, 3) := dk_182 0 187 (dk_at dksX0_set_0 17 rfl rfl)
theorem dX0_set_20 : decode cX0_set 20 = .ok (.invokevirtual 259, 3) := dk_182 1 3 (dk_at dksX0_set_0 20 rfl rfl)
theorem dX0_set_23 : decode cX0_set 23 = .ok (.bipush 60, 2) := dk_16 60 (dk_at dksX0_set_1 0 rfl rfl)
theorem dX0_set_25 : decode cX0_set 25 = .ok (.if_icmp .ne 7, 3) := dk_160 0 7 (dk_at dksX0_set_1 2 rfl rfl)
theorem dX0_set_28 : decode cX0_set 28 = .ok (.iconst 4, 1) := dk_7 (dk_at dksX0_set_1 5 rfl rfl)
theorem dX0_set_29 : decode cX0_set 29 = .ok (.goto 38, 3) := dk_167 0 38 (dk_at dksX0_set_1 6 rfl rfl)
theorem dX0_set_32 : decode cX0_set 32 = .ok (.aload_n 0, 1) := dk_42 (dk_at dksX0_set_1 9 rfl rfl)
theorem dX0_set_33 : decode cX0_set 33 = .ok (.invokevirtual 187, 3) := dk_182 0 187 (dk_at dksX0_set_1 10 rfl rfl)
theorem dX0_set_36 : decode cX0_set 36 = .ok (.getfield 271, 3) := dk_180 1 15 (dk_at dksX0_set_1 13 rfl rfl)
theorem dX0_set_39 : decode cX0_set 39 = .ok (.iload_n 1, 1) := dk_27 (dk_at dksX0_set_1 16 rfl rfl)
theorem dX0_set_40 : decode cX0_set 40 = .ok (.iaload, 1) := dk_46 (dk_at dksX0_set_1 17 rfl rfl)
theorem dX0_set_41 : decode cX0_set 41 = .ok (.ifCond .ne 8, 3) := dk_154 0 8 (dk_at dksX0_set_1 18 rfl rfl)
theorem dX0_set_44 : decode cX0_set 44 = .ok (.bipush 6, 2) := dk_16 6 (dk_at dksX0_set_1 21 rfl rfl)
theorem dX0_set_46 : decode cX0_set 46 = .ok (.goto 21, 3) := dk_167 0 21 (dk_at dksX0_set_2 0 rfl rfl)
theorem dX0_set_49 : decode cX0_set 49 = .ok (.aload_n 0, 1) := dk_42 (dk_at dksX0_set_2 3 rfl rfl)
theorem dX0_set_50 : decode cX0_set 50 = .ok (.invokevirtual 187, 3) := dk_182 0 187 (dk_at dksX0_set_2 4 rfl rfl)
theorem dX0_set_53 : decode cX0_set 53 = .ok (.iload_n 1, 1) := dk_27 (dk_at dksX0_set_2 7 rfl rfl)
theorem dX0_set_54 : decode cX0_set 54 = .ok (.iload_n 2, 1) := dk_28 (dk_at dksX0_set_2 8 rfl rfl)
theorem dX0_set_55 : decode cX0_set 55 = .ok (.invokevirtual 314, 3) := dk_182 1 58 (dk_at dksX0_set_2 9 rfl rfl)
theorem dX0_set_58 : decode cX0_set 58 = .ok (.ifCond .eq 7, 3) := dk_153 0 7 (dk_at dksX0_set_2 12 rfl rfl)
theorem dX0_set_61 : decode cX0_set 61 = .ok (.iconst 0, 1) := dk_3 (dk_at dksX0_set_2 15 rfl rfl)
theorem dX0_set_62 : decode cX0_set 62 = .ok (.goto 5, 3) := dk_167 0 5 (dk_at dksX0_set_2 16 rfl rfl)
theorem dX0_set_65 : decode cX0_set 65 = .ok (.bipush 7, 2) := dk_16 7 (dk_at dksX0_set_2 19 rfl rfl)
theorem dX0_set_67 : decode cX0_set 67 = .ok (.putfield 85, 3) := dk_181 0 85 (dk_at dksX0_set_2 21 rfl rfl)
theorem dX0_set_70 : decode cX0_set 70 = .ok (.aload_n 0, 1) := dk_42 (dk_at dksX0_set_3 0 rfl rfl)
theorem dX0_set_71 : decode cX0_set 71 = .ok (.getfield 85, 3) := dk_180 0 85 (dk_at dksX0_set_3 1 rfl rfl)
theorem dX0_set_74 : decode cX0_set 74 = .ok (.ifCond .le 5, 3) := dk_158 0 5 (dk_at dksX0_set_3 4 rfl rfl)
theorem dX0_set_77 : decode cX0_set 77 = .ok (.iconst (-1), 1) := dk_2 (dk_at dksX0_set_3 7 rfl rfl)
theorem dX0_set_78 : decode cX0_set 78 = .ok (.ireturn, 1) := dk_172 (dk_at dksX0_set_3 8 rfl rfl)
theorem dX0_set_79 : decode cX0_set 79 = .ok (.aload_n 0, 1) := dk_42 (dk_at dksX0_set_3 9 rfl rfl)
theorem dX0_set_80 : decode cX0_set 80 = .ok (.invokevirtual 187, 3) := dk_182 0 187 (dk_at dksX0_set_3 10 rfl rfl)
theorem dX0_set_83 : decode cX0_set 83 = .ok (.iload_n 1, 1) := dk_27 (dk_at dksX0_set_3 13 rfl rfl)
theorem dX0_set_84 : decode cX0_set 84 = .ok (.iload_n 2, 1) := dk_28 (dk_at dksX0_set_3 14 rfl rfl)
theorem dX0_set_85 : decode cX0_set 85 = .ok (.invokevirtual 317, 3) := dk_182 1 61 (dk_at dksX0_set_3 15 rfl rfl)
theorem dX0_set_88 : decode cX0_set 88 = .ok (.aload_n 0, 1) := dk_42 (dk_at dksX0_set_3 18 rfl rfl)
theorem dX0_set_89 : decode cX0_set 89 = .ok (.invokevirtual 187, 3) := dk_182 0 187 (dk_at dksX0_set_3 19 rfl rfl)
theorem dX0_set_92 : decode cX0_set 92 = .ok (.getfield 288, 3) := dk_180 1 32 (dk_at dksX0_set_4 0 rfl rfl)
theorem dX0_set_95 : decode cX0_set 95 = .ok (.iload_n 2, 1) := dk_28 (dk_at dksX0_set_4 3 rfl rfl)
theorem dX0_set_96 : decode cX0_set 96 = .ok (.aaload, 1) := dk_50 (dk_at dksX0_set_4 4 rfl rfl)
theorem dX0_set_97 : decode cX0_set 97 = .ok (.getfield 292, 3) := dk_180 1 36 (dk_at dksX0_set_4 5 rfl rfl)
theorem dX0_set_100 : decode cX0_set 100 = .ok (.ireturn, 1) := dk_172 (dk_at dksX0_set_4 8 rfl rfl)
abbrev cX0_areThere : ByteArray := prog_1_method_24_code
def yX0_areThere : MethodName := ⟨RX0, "areThere", "(II)Z"⟩
def dkwX0_areThere_0 : List UInt8 := [42, 27, 182, 0, 180, 153, 0, 15, 42, 28, 182, 0, 184, 153, 0, 7, 4, 167, 0, 4, 3, 172]
abbrev dktX0_areThere_0 : List UInt8 := dkwX0_areThere_0 ++ []
theorem dksX0_areThere_0 : cX0_areThere.data.toList.drop 0 = dktX0_areThere_0 := by decide +kernel
theorem dX0_areThere_0 : decode cX0_areThere 0 = .ok (.aload_n 0, 1) := dk_42 (dk_at dksX0_areThere_0 0 rfl rfl)
theorem dX0_areThere_1 : decode cX0_areThere 1 = .ok (.iload_n 1, 1) := dk_27 (dk_at dksX0_areThere_0 1 rfl rfl)
theorem dX0_areThere_2 : decode cX0_areThere 2 = .ok (.invokevirtual 180, 3) := dk_182 0 180 (dk_at dksX0_areThere_0 2 rfl rfl)
theorem dX0_areThere_5 : decode cX0_areThere 5 = .ok (.ifCond .eq 15, 3) := dk_153 0 15 (dk_at dksX0_areThere_0 5 rfl rfl)
theorem dX0_areThere_8 : decode cX0_areThere 8 = .ok (.aload_n 0, 1) := dk_42 (dk_at dksX0_areThere_0 8 rfl rfl)
theorem dX0_areThere_9 : decode cX0_areThere 9 = .ok (.iload_n 2, 1) := dk_28 (dk_at dksX0_areThere_0 9 rfl rfl)
theorem dX0_areThere_10 : decode cX0_areThere 10 = .ok (.invokevirtual 184, 3) := dk_182 0 184 (dk_at dksX0_areThere_0 10 rfl rfl)
theorem dX0_areThere_13 : decode cX0_areThere 13 = .ok (.ifCond .eq 7, 3) := dk_153 0 7 (dk_at dksX0_areThere_0 13 rfl rfl)
theorem dX0_areThere_16 : decode cX0_areThere 16 = .ok (.iconst 1, 1) := dk_4 (dk_at dksX0_areThere_0 16 rfl rfl)
theorem dX0_areThere_17 : decode cX0_areThere 17 = .ok (.goto 4, 3) := dk_167 0 4 (dk_at dksX0_areThere_0 17 rfl rfl)
theorem dX0_areThere_20 : decode cX0_areThere 20 = .ok (.iconst 0, 1) := dk_3 (dk_at dksX0_areThere_0 20 rfl rfl)
theorem dX0_areThere_21 : decode cX0_areThere 21 = .ok (.ireturn, 1) := dk_172 (dk_at dksX0_areThere_0 21 rfl rfl)
abbrev cX0_lift : ByteArray := prog_1_method_41_code
def yX0_lift : MethodName := ⟨RX0, "lift", "(II)I"⟩
def dkwX0_lift_3 : List UInt8 := [182, 0, 187, 27, 28, 182, 1, 69, 172]
abbrev dktX0_lift_3 : List UInt8 := dkwX0_lift_3 ++ []
def dkwX0_lift_2 : List UInt8 := [153, 0, 7, 3, 167, 0, 5, 16, 7, 181, 0, 85, 42, 180, 0, 85, 158, 0, 7, 2, 167, 0, 12, 42]
abbrev dktX0_lift_2 : List UInt8 := dkwX0_lift_2 ++ dktX0_lift_3
def dkwX0_lift_1 : List UInt8 := [50, 27, 182, 1, 65, 156, 0, 8, 16, 6, 167, 0, 21, 42, 182, 0, 187, 27, 28, 182, 1, 58]
abbrev dktX0_lift_1 : List UInt8 := dkwX0_lift_1 ++ dktX0_lift_2
def dkwX0_lift_0 : List UInt8 := [42, 27, 28, 182, 1, 55, 62, 42, 29, 154, 0, 7, 4, 167, 0, 42, 42, 182, 0, 187, 180, 1, 32, 28]
abbrev dktX0_lift_0 : List UInt8 := dkwX0_lift_0 ++ dktX0_lift_1
theorem dksX0_lift_0 : cX0_lift.data.toList.drop 0 = dktX0_lift_0 := by decide +kernel
theorem dksX0_lift_1 : cX0_lift.data.toList.drop 24 = dktX0_lift_1 := dk_seg dksX0_lift_0 24 rfl rfl
theorem dksX0_lift_2 : cX0_lift.data.toList.drop 46 = dktX0_lift_2 := dk_seg dksX0_lift_1 22 rfl rfl
theorem dksX0_lift_3 : cX0_lift.data.toList.drop 70 = dktX0_lift_3 := dk_seg dksX0_lift_2 24 rfl rfl
theorem dX0_lift_0 : decode cX0_lift 0 = .ok (.aload_n 0, 1) := dk_42 (dk_at dksX0_lift_0 0 rfl rfl)
theorem dX0_lift_1 : decode cX0_lift 1 = .ok (.iload_n 1, 1) := dk_27 (dk_at dksX0_lift_0 1 rfl rfl)
theorem dX0_lift_2 : decode cX0_lift 2 = .ok (.iload_n 2, 1) := dk_28 (dk_at dksX0_lift_0 2 rfl rfl)
theorem dX0_lift_3 : decode cX0_lift 3 = .ok (.invokevirtual 311, 3) := dk_182 1 55 (dk_at dksX0_lift_0 3 rfl rfl)
theorem dX0_lift_6 : decode cX0_lift 6 = .ok (.istore_n 3, 1) := dk_62 (dk_at dksX0_lift_0 6 rfl rfl)
theorem dX0_lift_7 : decode cX0_lift 7 = .ok (.aload_n 0, 1) := dk_42 (dk_at dksX0_lift_0 7 rfl rfl)
theorem dX0_lift_8 : decode cX0_lift 8 = .ok (.iload_n 3, 1) := dk_29 (dk_at dksX0_lift_0 8 rfl rfl)
theorem dX0_lift_9 : decode cX0_lift 9 = .ok (.ifCond .ne 7, 3) := dk_154 0 7 (dk_at dksX0_lift_0 9 rfl rfl)
theorem dX0_lift_12 : decode cX0_lift 12 = .ok (.iconst 1, 1) := dk_4 (dk_at dksX0_lift_0 12 rfl rfl)
theorem dX0_lift_13 : decode cX0_lift 13 = .ok (.goto 42, 3) := dk_167 0 42 (dk_at dksX0_lift_0 13 rfl rfl)
theorem dX0_lift_16 : decode cX0_lift 16 = .ok (.aload_n 0, 1) := dk_42 (dk_at dksX0_lift_0 16 rfl rfl)
theorem dX0_lift_17 : decode cX0_lift 17 = .ok (.invokevirtual 187, 3) := dk_182 0 187 (dk_at dksX0_lift_0 17 rfl rfl)
theorem dX0_lift_20 : decode cX0_lift 20 = .ok (.getfield 288, 3) := dk_180 1 32 (dk_at dksX0_lift_0 20 rfl rfl)
theorem dX0_lift_23 : decode cX0_lift 23 = .ok (.iload_n 2, 1) := dk_28 (dk_at dksX0_lift_0 23 rfl rfl)
theorem dX0_lift_24 : decode cX0_lift 24 = .ok (.aaload, 1) := dk_50 (dk_at dksX0_lift_1 0 rfl rfl)
theorem dX0_lift_25 : decode cX0_lift 25 = .ok (.iload_n 1, 1) := dk_27 (dk_at dksX0_lift_1 1 rfl rfl)
theorem dX0_lift_26 : decode cX0_lift 26 = .ok (.invokevirtual 321, 3) := dk_182 1 65 (dk_at dksX0_lift_1 2 rfl rfl)
theorem dX0_lift_29 : decode cX0_lift 29 = .ok (.ifCond .ge 8, 3) := dk_156 0 8 (dk_at dksX0_lift_1 5 rfl rfl)
theorem dX0_lift_32 : decode cX0_lift 32 = .ok (.bipush 6, 2) := dk_16 6 (dk_at dksX0_lift_1 8 rfl rfl)
theorem dX0_lift_34 : decode cX0_lift 34 = .ok (.goto 21, 3) := dk_167 0 21 (dk_at dksX0_lift_1 10 rfl rfl)
theorem dX0_lift_37 : decode cX0_lift 37 = .ok (.aload_n 0, 1) := dk_42 (dk_at dksX0_lift_1 13 rfl rfl)
theorem dX0_lift_38 : decode cX0_lift 38 = .ok (.invokevirtual 187, 3) := dk_182 0 187 (dk_at dksX0_lift_1 14 rfl rfl)
theorem dX0_lift_41 : decode cX0_lift 41 = .ok (.iload_n 1, 1) := dk_27 (dk_at dksX0_lift_1 17 rfl rfl)
theorem dX0_lift_42 : decode cX0_lift 42 = .ok (.iload_n 2, 1) := dk_28 (dk_at dksX0_lift_1 18 rfl rfl)
theorem dX0_lift_43 : decode cX0_lift 43 = .ok (.invokevirtual 314, 3) := dk_182 1 58 (dk_at dksX0_lift_1 19 rfl rfl)
theorem dX0_lift_46 : decode cX0_lift 46 = .ok (.ifCond .eq 7, 3) := dk_153 0 7 (dk_at dksX0_lift_2 0 rfl rfl)
theorem dX0_lift_49 : decode cX0_lift 49 = .ok (.iconst 0, 1) := dk_3 (dk_at dksX0_lift_2 3 rfl rfl)
theorem dX0_lift_50 : decode cX0_lift 50 = .ok (.goto 5, 3) := dk_167 0 5 (dk_at dksX0_lift_2 4 rfl rfl)
theorem dX0_lift_53 : decode cX0_lift 53 = .ok (.bipush 7, 2) := dk_16 7 (dk_at dksX0_lift_2 7 rfl rfl)
theorem dX0_lift_55 : decode cX0_lift 55 = .ok (.putfield 85, 3) := dk_181 0 85 (dk_at dksX0_lift_2 9 rfl rfl)
theorem dX0_lift_58 : decode cX0_lift 58 = .ok (.aload_n 0, 1) := dk_42 (dk_at dksX0_lift_2 12 rfl rfl)
theorem dX0_lift_59 : decode cX0_lift 59 = .ok (.getfield 85, 3) := dk_180 0 85 (dk_at dksX0_lift_2 13 rfl rfl)
theorem dX0_lift_62 : decode cX0_lift 62 = .ok (.ifCond .le 7, 3) := dk_158 0 7 (dk_at dksX0_lift_2 16 rfl rfl)
theorem dX0_lift_65 : decode cX0_lift 65 = .ok (.iconst (-1), 1) := dk_2 (dk_at dksX0_lift_2 19 rfl rfl)
theorem dX0_lift_66 : decode cX0_lift 66 = .ok (.goto 12, 3) := dk_167 0 12 (dk_at dksX0_lift_2 20 rfl rfl)
theorem dX0_lift_69 : decode cX0_lift 69 = .ok (.aload_n 0, 1) := dk_42 (dk_at dksX0_lift_2 23 rfl rfl)
theorem dX0_lift_70 : decode cX0_lift 70 = .ok (.invokevirtual 187, 3) := dk_182 0 187 (dk_at dksX0_lift_3 0 rfl rfl)
theorem dX0_lift_73 : decode cX0_lift 73 = .ok (.iload_n 1, 1) := dk_27 (dk_at dksX0_lift_3 3 rfl rfl)
theorem dX0_lift_74 : decode cX0_lift 74 = .ok (.iload_n 2, 1) := dk_28 (dk_at dksX0_lift_3 4 rfl rfl)
theorem dX0_lift_75 : decode cX0_lift 75 = .ok (.invokevirtual 325, 3) := dk_182 1 69 (dk_at dksX0_lift_3 5 rfl rfl)
theorem dX0_lift_78 : decode cX0_lift 78 = .ok (.ireturn, 1) := dk_172 (dk_at dksX0_lift_3 8 rfl rfl)
abbrev cX0_gull : ByteArray := prog_1_method_42_code
def yX0_gull : MethodName := ⟨RX0, "gull", "(II)I"⟩
def dkwX0_gull_4 : List UInt8 := [28, 182, 1, 76, 172]
abbrev dktX0_gull_4 : List UInt8 := dkwX0_gull_4 ++ []
def dkwX0_gull_3 : List UInt8 := [167, 0, 5, 16, 7, 181, 0, 85, 42, 180, 0, 85, 158, 0, 7, 2, 167, 0, 12, 42, 182, 0, 187, 27]
abbrev dktX0_gull_3 : List UInt8 := dkwX0_gull_3 ++ dktX0_gull_4
def dkwX0_gull_2 : List UInt8 := [180, 1, 36, 154, 0, 8, 16, 6, 167, 0, 21, 42, 182, 0, 187, 27, 28, 182, 1, 73, 153, 0, 7, 3]
abbrev dktX0_gull_2 : List UInt8 := dkwX0_gull_2 ++ dktX0_gull_3
def dkwX0_gull_1 : List UInt8 := [167, 0, 4, 3, 62, 42, 29, 154, 0, 7, 4, 167, 0, 41, 42, 182, 0, 187, 180, 1, 32, 27, 50]
abbrev dktX0_gull_1 : List UInt8 := dkwX0_gull_1 ++ dktX0_gull_2
def dkwX0_gull_0 : List UInt8 := [42, 27, 182, 0, 184, 153, 0, 20, 42, 28, 182, 0, 184, 153, 0, 12, 27, 28, 159, 0, 7, 4]
abbrev dktX0_gull_0 : List UInt8 := dkwX0_gull_0 ++ dktX0_gull_1
theorem dksX0_gull_0 : cX0_gull.data.toList.drop 0 = dktX0_gull_0 := by decide +kernel
theorem dksX0_gull_1 : cX0_gull.data.toList.drop 22 = dktX0_gull_1 := dk_seg dksX0_gull_0 22 rfl rfl
theorem dksX0_gull_2 : cX0_gull.data.toList.drop 45 = dktX0_gull_2 := dk_seg dksX0_gull_1 23 rfl rfl
theorem dksX0_gull_3 : cX0_gull.data.toList.drop 69 = dktX0_gull_3 := dk_seg dksX0_gull_2 24 rfl rfl
theorem dksX0_gull_4 : cX0_gull.data.toList.drop 93 = dktX0_gull_4 := dk_seg dksX0_gull_3 24 rfl rfl
theorem dX0_gull_0 : decode cX0_gull 0 = .ok (.aload_n 0, 1) := dk_42 (dk_at dksX0_gull_0 0 rfl rfl)
theorem dX0_gull_1 : decode cX0_gull 1 = .ok (.iload_n 1, 1) := dk_27 (dk_at dksX0_gull_0 1 rfl rfl)
theorem dX0_gull_2 : decode cX0_gull 2 = .ok (.invokevirtual 184, 3) := dk_182 0 184 (dk_at dksX0_gull_0 2 rfl rfl)
theorem dX0_gull_5 : decode cX0_gull 5 = .ok (.ifCond .eq 20, 3) := dk_153 0 20 (dk_at dksX0_gull_0 5 rfl rfl)
theorem dX0_gull_8 : decode cX0_gull 8 = .ok (.aload_n 0, 1) := dk_42 (dk_at dksX0_gull_0 8 rfl rfl)
theorem dX0_gull_9 : decode cX0_gull 9 = .ok (.iload_n 2, 1) := dk_28 (dk_at dksX0_gull_0 9 rfl rfl)
theorem dX0_gull_10 : decode cX0_gull 10 = .ok (.invokevirtual 184, 3) := dk_182 0 184 (dk_at dksX0_gull_0 10 rfl rfl)
theorem dX0_gull_13 : decode cX0_gull 13 = .ok (.ifCond .eq 12, 3) := dk_153 0 12 (dk_at dksX0_gull_0 13 rfl rfl)
theorem dX0_gull_16 : decode cX0_gull 16 = .ok (.iload_n 1, 1) := dk_27 (dk_at dksX0_gull_0 16 rfl rfl)
theorem dX0_gull_17 : decode cX0_gull 17 = .ok (.iload_n 2, 1) := dk_28 (dk_at dksX0_gull_0 17 rfl rfl)
theorem dX0_gull_18 : decode cX0_gull 18 = .ok (.if_icmp .eq 7, 3) := dk_159 0 7 (dk_at dksX0_gull_0 18 rfl rfl)
theorem dX0_gull_21 : decode cX0_gull 21 = .ok (.iconst 1, 1) := dk_4 (dk_at dksX0_gull_0 21 rfl rfl)
theorem dX0_gull_22 : decode cX0_gull 22 = .ok (.goto 4, 3) := dk_167 0 4 (dk_at dksX0_gull_1 0 rfl rfl)
theorem dX0_gull_25 : decode cX0_gull 25 = .ok (.iconst 0, 1) := dk_3 (dk_at dksX0_gull_1 3 rfl rfl)
theorem dX0_gull_26 : decode cX0_gull 26 = .ok (.istore_n 3, 1) := dk_62 (dk_at dksX0_gull_1 4 rfl rfl)
theorem dX0_gull_27 : decode cX0_gull 27 = .ok (.aload_n 0, 1) := dk_42 (dk_at dksX0_gull_1 5 rfl rfl)
theorem dX0_gull_28 : decode cX0_gull 28 = .ok (.iload_n 3, 1) := dk_29 (dk_at dksX0_gull_1 6 rfl rfl)
theorem dX0_gull_29 : decode cX0_gull 29 = .ok (.ifCond .ne 7, 3) := dk_154 0 7 (dk_at dksX0_gull_1 7 rfl rfl)
theorem dX0_gull_32 : decode cX0_gull 32 = .ok (.iconst 1, 1) := dk_4 (dk_at dksX0_gull_1 10 rfl rfl)
theorem dX0_gull_33 : decode cX0_gull 33 = .ok (.goto 41, 3) := dk_167 0 41 (dk_at dksX0_gull_1 11 rfl rfl)
theorem dX0_gull_36 : decode cX0_gull 36 = .ok (.aload_n 0, 1) := dk_42 (dk_at dksX0_gull_1 14 rfl rfl)
theorem dX0_gull_37 : decode cX0_gull 37 = .ok (.invokevirtual 187, 3) := dk_182 0 187 (dk_at dksX0_gull_1 15 rfl rfl)
theorem dX0_gull_40 : decode cX0_gull 40 = .ok (.getfield 288, 3) := dk_180 1 32 (dk_at dksX0_gull_1 18 rfl rfl)
theorem dX0_gull_43 : decode cX0_gull 43 = .ok (.iload_n 1, 1) := dk_27 (dk_at dksX0_gull_1 21 rfl rfl)
theorem dX0_gull_44 : decode cX0_gull 44 = .ok (.aaload, 1) := dk_50 (dk_at dksX0_gull_1 22 rfl rfl)
theorem dX0_gull_45 : decode cX0_gull 45 = .ok (.getfield 292, 3) := dk_180 1 36 (dk_at dksX0_gull_2 0 rfl rfl)
theorem dX0_gull_48 : decode cX0_gull 48 = .ok (.ifCond .ne 8, 3) := dk_154 0 8 (dk_at dksX0_gull_2 3 rfl rfl)
theorem dX0_gull_51 : decode cX0_gull 51 = .ok (.bipush 6, 2) := dk_16 6 (dk_at dksX0_gull_2 6 rfl rfl)
theorem dX0_gull_53 : decode cX0_gull 53 = .ok (.goto 21, 3) := dk_167 0 21 (dk_at dksX0_gull_2 8 rfl rfl)
theorem dX0_gull_56 : decode cX0_gull 56 = .ok (.aload_n 0, 1) := dk_42 (dk_at dksX0_gull_2 11 rfl rfl)
theorem dX0_gull_57 : decode cX0_gull 57 = .ok (.invokevirtual 187, 3) := dk_182 0 187 (dk_at dksX0_gull_2 12 rfl rfl)
theorem dX0_gull_60 : decode cX0_gull 60 = .ok (.iload_n 1, 1) := dk_27 (dk_at dksX0_gull_2 15 rfl rfl)
theorem dX0_gull_61 : decode cX0_gull 61 = .ok (.iload_n 2, 1) := dk_28 (dk_at dksX0_gull_2 16 rfl rfl)
theorem dX0_gull_62 : decode cX0_gull 62 = .ok (.invokevirtual 329, 3) := dk_182 1 73 (dk_at dksX0_gull_2 17 rfl rfl)
theorem dX0_gull_65 : decode cX0_gull 65 = .ok (.ifCond .eq 7, 3) := dk_153 0 7 (dk_at dksX0_gull_2 20 rfl rfl)
theorem dX0_gull_68 : decode cX0_gull 68 = .ok (.iconst 0, 1) := dk_3 (dk_at dksX0_gull_2 23 rfl rfl)
theorem dX0_gull_69 : decode cX0_gull 69 = .ok (.goto 5, 3) := dk_167 0 5 (dk_at dksX0_gull_3 0 rfl rfl)
theorem dX0_gull_72 : decode cX0_gull 72 = .ok (.bipush 7, 2) := dk_16 7 (dk_at dksX0_gull_3 3 rfl rfl)
theorem dX0_gull_74 : decode cX0_gull 74 = .ok (.putfield 85, 3) := dk_181 0 85 (dk_at dksX0_gull_3 5 rfl rfl)
theorem dX0_gull_77 : decode cX0_gull 77 = .ok (.aload_n 0, 1) := dk_42 (dk_at dksX0_gull_3 8 rfl rfl)
theorem dX0_gull_78 : decode cX0_gull 78 = .ok (.getfield 85, 3) := dk_180 0 85 (dk_at dksX0_gull_3 9 rfl rfl)
theorem dX0_gull_81 : decode cX0_gull 81 = .ok (.ifCond .le 7, 3) := dk_158 0 7 (dk_at dksX0_gull_3 12 rfl rfl)
theorem dX0_gull_84 : decode cX0_gull 84 = .ok (.iconst (-1), 1) := dk_2 (dk_at dksX0_gull_3 15 rfl rfl)
theorem dX0_gull_85 : decode cX0_gull 85 = .ok (.goto 12, 3) := dk_167 0 12 (dk_at dksX0_gull_3 16 rfl rfl)
theorem dX0_gull_88 : decode cX0_gull 88 = .ok (.aload_n 0, 1) := dk_42 (dk_at dksX0_gull_3 19 rfl rfl)
theorem dX0_gull_89 : decode cX0_gull 89 = .ok (.invokevirtual 187, 3) := dk_182 0 187 (dk_at dksX0_gull_3 20 rfl rfl)
theorem dX0_gull_92 : decode cX0_gull 92 = .ok (.iload_n 1, 1) := dk_27 (dk_at dksX0_gull_3 23 rfl rfl)
theorem dX0_gull_93 : decode cX0_gull 93 = .ok (.iload_n 2, 1) := dk_28 (dk_at dksX0_gull_4 0 rfl rfl)
theorem dX0_gull_94 : decode cX0_gull 94 = .ok (.invokevirtual 332, 3) := dk_182 1 76 (dk_at dksX0_gull_4 1 rfl rfl)
theorem dX0_gull_97 : decode cX0_gull 97 = .ok (.ireturn, 1) := dk_172 (dk_at dksX0_gull_4 4 rfl rfl)
abbrev cX0_wave : ByteArray := prog_1_method_43_code
def yX0_wave : MethodName := ⟨RX0, "wave", "(I)I"⟩
def dkwX0_wave_1 : List UInt8 := [180, 0, 85, 158, 0, 7, 2, 167, 0, 11, 42, 182, 0, 187, 27, 182, 1, 81, 172]
abbrev dktX0_wave_1 : List UInt8 := dkwX0_wave_1 ++ []
def dkwX0_wave_0 : List UInt8 := [42, 27, 133, 9, 20, 1, 79, 184, 0, 173, 153, 0, 7, 3, 167, 0, 4, 4, 181, 0, 85, 42]
abbrev dktX0_wave_0 : List UInt8 := dkwX0_wave_0 ++ dktX0_wave_1
theorem dksX0_wave_0 : cX0_wave.data.toList.drop 0 = dktX0_wave_0 := by decide +kernel
theorem dksX0_wave_1 : cX0_wave.data.toList.drop 22 = dktX0_wave_1 := dk_seg dksX0_wave_0 22 rfl rfl
theorem dX0_wave_0 : decode cX0_wave 0 = .ok (.aload_n 0, 1) := dk_42 (dk_at dksX0_wave_0 0 rfl rfl)
theorem dX0_wave_1 : decode cX0_wave 1 = .ok (.iload_n 1, 1) := dk_27 (dk_at dksX0_wave_0 1 rfl rfl)
theorem dX0_wave_2 : decode cX0_wave 2 = .ok (.i2l, 1) := dk_133 (dk_at dksX0_wave_0 2 rfl rfl)
theorem dX0_wave_3 : decode cX0_wave 3 = .ok (.lconst 0, 1) := dk_9 (dk_at dksX0_wave_0 3 rfl rfl)
theorem dX0_wave_4 : decode cX0_wave 4 = .ok (.ldc2_w 335, 3) := dk_20 1 79 (dk_at dksX0_wave_0 4 rfl rfl)
theorem dX0_wave_7 : decode cX0_wave 7 = .ok (.invokestatic 173, 3) := dk_184 0 173 (dk_at dksX0_wave_0 7 rfl rfl)
theorem dX0_wave_10 : decode cX0_wave 10 = .ok (.ifCond .eq 7, 3) := dk_153 0 7 (dk_at dksX0_wave_0 10 rfl rfl)
theorem dX0_wave_13 : decode cX0_wave 13 = .ok (.iconst 0, 1) := dk_3 (dk_at dksX0_wave_0 13 rfl rfl)
theorem dX0_wave_14 : decode cX0_wave 14 = .ok (.goto 4, 3) := dk_167 0 4 (dk_at dksX0_wave_0 14 rfl rfl)
theorem dX0_wave_17 : decode cX0_wave 17 = .ok (.iconst 1, 1) := dk_4 (dk_at dksX0_wave_0 17 rfl rfl)
theorem dX0_wave_18 : decode cX0_wave 18 = .ok (.putfield 85, 3) := dk_181 0 85 (dk_at dksX0_wave_0 18 rfl rfl)
theorem dX0_wave_21 : decode cX0_wave 21 = .ok (.aload_n 0, 1) := dk_42 (dk_at dksX0_wave_0 21 rfl rfl)
theorem dX0_wave_22 : decode cX0_wave 22 = .ok (.getfield 85, 3) := dk_180 0 85 (dk_at dksX0_wave_1 0 rfl rfl)
theorem dX0_wave_25 : decode cX0_wave 25 = .ok (.ifCond .le 7, 3) := dk_158 0 7 (dk_at dksX0_wave_1 3 rfl rfl)
theorem dX0_wave_28 : decode cX0_wave 28 = .ok (.iconst (-1), 1) := dk_2 (dk_at dksX0_wave_1 6 rfl rfl)
theorem dX0_wave_29 : decode cX0_wave 29 = .ok (.goto 11, 3) := dk_167 0 11 (dk_at dksX0_wave_1 7 rfl rfl)
theorem dX0_wave_32 : decode cX0_wave 32 = .ok (.aload_n 0, 1) := dk_42 (dk_at dksX0_wave_1 10 rfl rfl)
theorem dX0_wave_33 : decode cX0_wave 33 = .ok (.invokevirtual 187, 3) := dk_182 0 187 (dk_at dksX0_wave_1 11 rfl rfl)
theorem dX0_wave_36 : decode cX0_wave 36 = .ok (.iload_n 1, 1) := dk_27 (dk_at dksX0_wave_1 14 rfl rfl)
theorem dX0_wave_37 : decode cX0_wave 37 = .ok (.invokevirtual 337, 3) := dk_182 1 81 (dk_at dksX0_wave_1 15 rfl rfl)
theorem dX0_wave_40 : decode cX0_wave 40 = .ok (.ireturn, 1) := dk_172 (dk_at dksX0_wave_1 18 rfl rfl)
abbrev cX0_tide : ByteArray := prog_1_method_44_code
def yX0_tide : MethodName := ⟨RX0, "tide", "()I"⟩
def dkwX0_tide_2 : List UInt8 := [182, 0, 187, 182, 1, 84, 42, 182, 0, 187, 180, 0, 254, 172]
abbrev dktX0_tide_2 : List UInt8 := dkwX0_tide_2 ++ []
def dkwX0_tide_1 : List UInt8 := [154, 0, 8, 16, 7, 167, 0, 4, 3, 181, 0, 85, 42, 180, 0, 85, 158, 0, 5, 2, 172, 42]
abbrev dktX0_tide_1 : List UInt8 := dkwX0_tide_1 ++ dktX0_tide_2
def dkwX0_tide_0 : List UInt8 := [42, 42, 182, 0, 187, 180, 0, 254, 16, 99, 160, 0, 7, 7, 167, 0, 19, 42, 182, 0, 187, 180, 1, 0]
abbrev dktX0_tide_0 : List UInt8 := dkwX0_tide_0 ++ dktX0_tide_1
theorem dksX0_tide_0 : cX0_tide.data.toList.drop 0 = dktX0_tide_0 := by decide +kernel
theorem dksX0_tide_1 : cX0_tide.data.toList.drop 24 = dktX0_tide_1 := dk_seg dksX0_tide_0 24 rfl rfl
theorem dksX0_tide_2 : cX0_tide.data.toList.drop 46 = dktX0_tide_2 := dk_seg dksX0_tide_1 22 rfl rfl
theorem dX0_tide_0 : decode cX0_tide 0 = .ok (.aload_n 0, 1) := dk_42 (dk_at dksX0_tide_0 0 rfl rfl)
theorem dX0_tide_1 : decode cX0_tide 1 = .ok (.aload_n 0, 1) := dk_42 (dk_at dksX0_tide_0 1 rfl rfl)
theorem dX0_tide_2 : decode cX0_tide 2 = .ok (.invokevirtual 187, 3) := dk_182 0 187 (dk_at dksX0_tide_0 2 rfl rfl)
theorem dX0_tide_5 : decode cX0_tide 5 = .ok (.getfield 254, 3) := dk_180 0 254 (dk_at dksX0_tide_0 5 rfl rfl)
theorem dX0_tide_8 : decode cX0_tide 8 = .ok (.bipush 99, 2) := dk_16 99 (dk_at dksX0_tide_0 8 rfl rfl)
theorem dX0_tide_10 : decode cX0_tide 10 = .ok (.if_icmp .ne 7, 3) := dk_160 0 7 (dk_at dksX0_tide_0 10 rfl rfl)
theorem dX0_tide_13 : decode cX0_tide 13 = .ok (.iconst 4, 1) := dk_7 (dk_at dksX0_tide_0 13 rfl rfl)
theorem dX0_tide_14 : decode cX0_tide 14 = .ok (.goto 19, 3) := dk_167 0 19 (dk_at dksX0_tide_0 14 rfl rfl)
theorem dX0_tide_17 : decode cX0_tide 17 = .ok (.aload_n 0, 1) := dk_42 (dk_at dksX0_tide_0 17 rfl rfl)
theorem dX0_tide_18 : decode cX0_tide 18 = .ok (.invokevirtual 187, 3) := dk_182 0 187 (dk_at dksX0_tide_0 18 rfl rfl)
theorem dX0_tide_21 : decode cX0_tide 21 = .ok (.getfield 256, 3) := dk_180 1 0 (dk_at dksX0_tide_0 21 rfl rfl)
theorem dX0_tide_24 : decode cX0_tide 24 = .ok (.ifCond .ne 8, 3) := dk_154 0 8 (dk_at dksX0_tide_1 0 rfl rfl)
theorem dX0_tide_27 : decode cX0_tide 27 = .ok (.bipush 7, 2) := dk_16 7 (dk_at dksX0_tide_1 3 rfl rfl)
theorem dX0_tide_29 : decode cX0_tide 29 = .ok (.goto 4, 3) := dk_167 0 4 (dk_at dksX0_tide_1 5 rfl rfl)
theorem dX0_tide_32 : decode cX0_tide 32 = .ok (.iconst 0, 1) := dk_3 (dk_at dksX0_tide_1 8 rfl rfl)
theorem dX0_tide_33 : decode cX0_tide 33 = .ok (.putfield 85, 3) := dk_181 0 85 (dk_at dksX0_tide_1 9 rfl rfl)
theorem dX0_tide_36 : decode cX0_tide 36 = .ok (.aload_n 0, 1) := dk_42 (dk_at dksX0_tide_1 12 rfl rfl)
theorem dX0_tide_37 : decode cX0_tide 37 = .ok (.getfield 85, 3) := dk_180 0 85 (dk_at dksX0_tide_1 13 rfl rfl)
theorem dX0_tide_40 : decode cX0_tide 40 = .ok (.ifCond .le 5, 3) := dk_158 0 5 (dk_at dksX0_tide_1 16 rfl rfl)
theorem dX0_tide_43 : decode cX0_tide 43 = .ok (.iconst (-1), 1) := dk_2 (dk_at dksX0_tide_1 19 rfl rfl)
theorem dX0_tide_44 : decode cX0_tide 44 = .ok (.ireturn, 1) := dk_172 (dk_at dksX0_tide_1 20 rfl rfl)
theorem dX0_tide_45 : decode cX0_tide 45 = .ok (.aload_n 0, 1) := dk_42 (dk_at dksX0_tide_1 21 rfl rfl)
theorem dX0_tide_46 : decode cX0_tide 46 = .ok (.invokevirtual 187, 3) := dk_182 0 187 (dk_at dksX0_tide_2 0 rfl rfl)
theorem dX0_tide_49 : decode cX0_tide 49 = .ok (.invokevirtual 340, 3) := dk_182 1 84 (dk_at dksX0_tide_2 3 rfl rfl)
theorem dX0_tide_52 : decode cX0_tide 52 = .ok (.aload_n 0, 1) := dk_42 (dk_at dksX0_tide_2 6 rfl rfl)
theorem dX0_tide_53 : decode cX0_tide 53 = .ok (.invokevirtual 187, 3) := dk_182 0 187 (dk_at dksX0_tide_2 7 rfl rfl)
theorem dX0_tide_56 : decode cX0_tide 56 = .ok (.getfield 254, 3) := dk_180 0 254 (dk_at dksX0_tide_2 10 rfl rfl)
theorem dX0_tide_59 : decode cX0_tide 59 = .ok (.ireturn, 1) := dk_172 (dk_at dksX0_tide_2 13 rfl rfl)
abbrev cX0_dawn : ByteArray := prog_1_method_45_code
def yX0_dawn : MethodName := ⟨RX0, "dawn", "()I"⟩
def dkwX0_dawn_1 : List UInt8 := [158, 0, 5, 2, 172, 42, 182, 0, 187, 182, 1, 86, 42, 182, 0, 165, 180, 0, 177, 172]
abbrev dktX0_dawn_1 : List UInt8 := dkwX0_dawn_1 ++ []
def dkwX0_dawn_0 : List UInt8 := [42, 42, 182, 0, 187, 180, 1, 0, 153, 0, 8, 16, 7, 167, 0, 4, 3, 181, 0, 85, 42, 180, 0, 85]
abbrev dktX0_dawn_0 : List UInt8 := dkwX0_dawn_0 ++ dktX0_dawn_1
theorem dksX0_dawn_0 : cX0_dawn.data.toList.drop 0 = dktX0_dawn_0 := by decide +kernel
theorem dksX0_dawn_1 : cX0_dawn.data.toList.drop 24 = dktX0_dawn_1 := dk_seg dksX0_dawn_0 24 rfl rfl
theorem dX0_dawn_0 : decode cX0_dawn 0 = .ok (.aload_n 0, 1) := dk_42 (dk_at dksX0_dawn_0 0 rfl rfl)
theorem dX0_dawn_1 : decode cX0_dawn 1 = .ok (.aload_n 0, 1) := dk_42 (dk_at dksX0_dawn_0 1 rfl rfl)
theorem dX0_dawn_2 : decode cX0_dawn 2 = .ok (.invokevirtual 187, 3) := dk_182 0 187 (dk_at dksX0_dawn_0 2 rfl rfl)
theorem dX0_dawn_5 : decode cX0_dawn 5 = .ok (.getfield 256, 3) := dk_180 1 0 (dk_at dksX0_dawn_0 5 rfl rfl)
theorem dX0_dawn_8 : decode cX0_dawn 8 = .ok (.ifCond .eq 8, 3) := dk_153 0 8 (dk_at dksX0_dawn_0 8 rfl rfl)
theorem dX0_dawn_11 : decode cX0_dawn 11 = .ok (.bipush 7, 2) := dk_16 7 (dk_at dksX0_dawn_0 11 rfl rfl)
theorem dX0_dawn_13 : decode cX0_dawn 13 = .ok (.goto 4, 3) := dk_167 0 4 (dk_at dksX0_dawn_0 13 rfl rfl)
theorem dX0_dawn_16 : decode cX0_dawn 16 = .ok (.iconst 0, 1) := dk_3 (dk_at dksX0_dawn_0 16 rfl rfl)
theorem dX0_dawn_17 : decode cX0_dawn 17 = .ok (.putfield 85, 3) := dk_181 0 85 (dk_at dksX0_dawn_0 17 rfl rfl)
theorem dX0_dawn_20 : decode cX0_dawn 20 = .ok (.aload_n 0, 1) := dk_42 (dk_at dksX0_dawn_0 20 rfl rfl)
theorem dX0_dawn_21 : decode cX0_dawn 21 = .ok (.getfield 85, 3) := dk_180 0 85 (dk_at dksX0_dawn_0 21 rfl rfl)
theorem dX0_dawn_24 : decode cX0_dawn 24 = .ok (.ifCond .le 5, 3) := dk_158 0 5 (dk_at dksX0_dawn_1 0 rfl rfl)
theorem dX0_dawn_27 : decode cX0_dawn 27 = .ok (.iconst (-1), 1) := dk_2 (dk_at dksX0_dawn_1 3 rfl rfl)
theorem dX0_dawn_28 : decode cX0_dawn 28 = .ok (.ireturn, 1) := dk_172 (dk_at dksX0_dawn_1 4 rfl rfl)
theorem dX0_dawn_29 : decode cX0_dawn 29 = .ok (.aload_n 0, 1) := dk_42 (dk_at dksX0_dawn_1 5 rfl rfl)
theorem dX0_dawn_30 : decode cX0_dawn 30 = .ok (.invokevirtual 187, 3) := dk_182 0 187 (dk_at dksX0_dawn_1 6 rfl rfl)
theorem dX0_dawn_33 : decode cX0_dawn 33 = .ok (.invokevirtual 342, 3) := dk_182 1 86 (dk_at dksX0_dawn_1 9 rfl rfl)
theorem dX0_dawn_36 : decode cX0_dawn 36 = .ok (.aload_n 0, 1) := dk_42 (dk_at dksX0_dawn_1 12 rfl rfl)
theorem dX0_dawn_37 : decode cX0_dawn 37 = .ok (.invokevirtual 165, 3) := dk_182 0 165 (dk_at dksX0_dawn_1 13 rfl rfl)
theorem dX0_dawn_40 : decode cX0_dawn 40 = .ok (.getfield 177, 3) := dk_180 0 177 (dk_at dksX0_dawn_1 16 rfl rfl)
theorem dX0_dawn_43 : decode cX0_dawn 43 = .ok (.ireturn, 1) := dk_172 (dk_at dksX0_dawn_1 19 rfl rfl)
abbrev cX0_last : ByteArray := prog_1_method_46_code
def yX0_last : MethodName := ⟨RX0, "last", "(I)I"⟩
def dkwX0_last_1 : List UInt8 := [180, 1, 32, 27, 50, 182, 1, 92, 172]
abbrev dktX0_last_1 : List UInt8 := dkwX0_last_1 ++ []
def dkwX0_last_0 : List UInt8 := [42, 42, 27, 182, 1, 89, 181, 0, 85, 42, 180, 0, 85, 158, 0, 7, 2, 167, 0, 15, 42, 182, 0, 187]
abbrev dktX0_last_0 : List UInt8 := dkwX0_last_0 ++ dktX0_last_1
theorem dksX0_last_0 : cX0_last.data.toList.drop 0 = dktX0_last_0 := by decide +kernel
theorem dksX0_last_1 : cX0_last.data.toList.drop 24 = dktX0_last_1 := dk_seg dksX0_last_0 24 rfl rfl
theorem dX0_last_0 : decode cX0_last 0 = .ok (.aload_n 0, 1) := dk_42 (dk_at dksX0_last_0 0 rfl rfl)
theorem dX0_last_1 : decode cX0_last 1 = .ok (.aload_n 0, 1) := dk_42 (dk_at dksX0_last_0 1 rfl rfl)
theorem dX0_last_2 : decode cX0_last 2 = .ok (.iload_n 1, 1) := dk_27 (dk_at dksX0_last_0 2 rfl rfl)
theorem dX0_last_3 : decode cX0_last 3 = .ok (.invokevirtual 345, 3) := dk_182 1 89 (dk_at dksX0_last_0 3 rfl rfl)
theorem dX0_last_6 : decode cX0_last 6 = .ok (.putfield 85, 3) := dk_181 0 85 (dk_at dksX0_last_0 6 rfl rfl)
theorem dX0_last_9 : decode cX0_last 9 = .ok (.aload_n 0, 1) := dk_42 (dk_at dksX0_last_0 9 rfl rfl)
theorem dX0_last_10 : decode cX0_last 10 = .ok (.getfield 85, 3) := dk_180 0 85 (dk_at dksX0_last_0 10 rfl rfl)
theorem dX0_last_13 : decode cX0_last 13 = .ok (.ifCond .le 7, 3) := dk_158 0 7 (dk_at dksX0_last_0 13 rfl rfl)
theorem dX0_last_16 : decode cX0_last 16 = .ok (.iconst (-1), 1) := dk_2 (dk_at dksX0_last_0 16 rfl rfl)
theorem dX0_last_17 : decode cX0_last 17 = .ok (.goto 15, 3) := dk_167 0 15 (dk_at dksX0_last_0 17 rfl rfl)
theorem dX0_last_20 : decode cX0_last 20 = .ok (.aload_n 0, 1) := dk_42 (dk_at dksX0_last_0 20 rfl rfl)
theorem dX0_last_21 : decode cX0_last 21 = .ok (.invokevirtual 187, 3) := dk_182 0 187 (dk_at dksX0_last_0 21 rfl rfl)
theorem dX0_last_24 : decode cX0_last 24 = .ok (.getfield 288, 3) := dk_180 1 32 (dk_at dksX0_last_1 0 rfl rfl)
theorem dX0_last_27 : decode cX0_last 27 = .ok (.iload_n 1, 1) := dk_27 (dk_at dksX0_last_1 3 rfl rfl)
theorem dX0_last_28 : decode cX0_last 28 = .ok (.aaload, 1) := dk_50 (dk_at dksX0_last_1 4 rfl rfl)
theorem dX0_last_29 : decode cX0_last 29 = .ok (.invokevirtual 348, 3) := dk_182 1 92 (dk_at dksX0_last_1 5 rfl rfl)
theorem dX0_last_32 : decode cX0_last 32 = .ok (.ireturn, 1) := dk_172 (dk_at dksX0_last_1 8 rfl rfl)
abbrev cX0_whyGone : ByteArray := prog_1_method_25_code
def yX0_whyGone : MethodName := ⟨RX0, "whyGone", "(I)I"⟩
def dkwX0_whyGone_1 : List UInt8 := [167, 0, 5, 16, 7, 172]
abbrev dktX0_whyGone_1 : List UInt8 := dkwX0_whyGone_1 ++ []
def dkwX0_whyGone_0 : List UInt8 := [42, 27, 182, 0, 184, 154, 0, 7, 4, 167, 0, 20, 42, 182, 0, 187, 27, 182, 0, 190, 153, 0, 7, 3]
abbrev dktX0_whyGone_0 : List UInt8 := dkwX0_whyGone_0 ++ dktX0_whyGone_1
theorem dksX0_whyGone_0 : cX0_whyGone.data.toList.drop 0 = dktX0_whyGone_0 := by decide +kernel
theorem dksX0_whyGone_1 : cX0_whyGone.data.toList.drop 24 = dktX0_whyGone_1 := dk_seg dksX0_whyGone_0 24 rfl rfl
theorem dX0_whyGone_0 : decode cX0_whyGone 0 = .ok (.aload_n 0, 1) := dk_42 (dk_at dksX0_whyGone_0 0 rfl rfl)
theorem dX0_whyGone_1 : decode cX0_whyGone 1 = .ok (.iload_n 1, 1) := dk_27 (dk_at dksX0_whyGone_0 1 rfl rfl)
theorem dX0_whyGone_2 : decode cX0_whyGone 2 = .ok (.invokevirtual 184, 3) := dk_182 0 184 (dk_at dksX0_whyGone_0 2 rfl rfl)
theorem dX0_whyGone_5 : decode cX0_whyGone 5 = .ok (.ifCond .ne 7, 3) := dk_154 0 7 (dk_at dksX0_whyGone_0 5 rfl rfl)
theorem dX0_whyGone_8 : decode cX0_whyGone 8 = .ok (.iconst 1, 1) := dk_4 (dk_at dksX0_whyGone_0 8 rfl rfl)
theorem dX0_whyGone_9 : decode cX0_whyGone 9 = .ok (.goto 20, 3) := dk_167 0 20 (dk_at dksX0_whyGone_0 9 rfl rfl)
theorem dX0_whyGone_12 : decode cX0_whyGone 12 = .ok (.aload_n 0, 1) := dk_42 (dk_at dksX0_whyGone_0 12 rfl rfl)
theorem dX0_whyGone_13 : decode cX0_whyGone 13 = .ok (.invokevirtual 187, 3) := dk_182 0 187 (dk_at dksX0_whyGone_0 13 rfl rfl)
theorem dX0_whyGone_16 : decode cX0_whyGone 16 = .ok (.iload_n 1, 1) := dk_27 (dk_at dksX0_whyGone_0 16 rfl rfl)
theorem dX0_whyGone_17 : decode cX0_whyGone 17 = .ok (.invokevirtual 190, 3) := dk_182 0 190 (dk_at dksX0_whyGone_0 17 rfl rfl)
theorem dX0_whyGone_20 : decode cX0_whyGone 20 = .ok (.ifCond .eq 7, 3) := dk_153 0 7 (dk_at dksX0_whyGone_0 20 rfl rfl)
theorem dX0_whyGone_23 : decode cX0_whyGone 23 = .ok (.iconst 0, 1) := dk_3 (dk_at dksX0_whyGone_0 23 rfl rfl)
theorem dX0_whyGone_24 : decode cX0_whyGone 24 = .ok (.goto 5, 3) := dk_167 0 5 (dk_at dksX0_whyGone_1 0 rfl rfl)
theorem dX0_whyGone_27 : decode cX0_whyGone 27 = .ok (.bipush 7, 2) := dk_16 7 (dk_at dksX0_whyGone_1 3 rfl rfl)
theorem dX0_whyGone_29 : decode cX0_whyGone 29 = .ok (.ireturn, 1) := dk_172 (dk_at dksX0_whyGone_1 5 rfl rfl)
abbrev cX0_whose : ByteArray := prog_1_method_47_code
def yX0_whose : MethodName := ⟨RX0, "whose", "(I)I"⟩
def dkwX0_whose_1 : List UInt8 := [27, 182, 1, 94, 172]
abbrev dktX0_whose_1 : List UInt8 := dkwX0_whose_1 ++ []
def dkwX0_whose_0 : List UInt8 := [42, 42, 27, 182, 1, 89, 181, 0, 85, 42, 180, 0, 85, 158, 0, 7, 2, 167, 0, 11, 42, 182, 0, 187]
abbrev dktX0_whose_0 : List UInt8 := dkwX0_whose_0 ++ dktX0_whose_1
theorem dksX0_whose_0 : cX0_whose.data.toList.drop 0 = dktX0_whose_0 := by decide +kernel
theorem dksX0_whose_1 : cX0_whose.data.toList.drop 24 = dktX0_whose_1 := dk_seg dksX0_whose_0 24 rfl rfl
theorem dX0_whose_0 : decode cX0_whose 0 = .ok (.aload_n 0, 1) := dk_42 (dk_at dksX0_whose_0 0 rfl rfl)
theorem dX0_whose_1 : decode cX0_whose 1 = .ok (.aload_n 0, 1) := dk_42 (dk_at dksX0_whose_0 1 rfl rfl)
theorem dX0_whose_2 : decode cX0_whose 2 = .ok (.iload_n 1, 1) := dk_27 (dk_at dksX0_whose_0 2 rfl rfl)
theorem dX0_whose_3 : decode cX0_whose 3 = .ok (.invokevirtual 345, 3) := dk_182 1 89 (dk_at dksX0_whose_0 3 rfl rfl)
theorem dX0_whose_6 : decode cX0_whose 6 = .ok (.putfield 85, 3) := dk_181 0 85 (dk_at dksX0_whose_0 6 rfl rfl)
theorem dX0_whose_9 : decode cX0_whose 9 = .ok (.aload_n 0, 1) := dk_42 (dk_at dksX0_whose_0 9 rfl rfl)
theorem dX0_whose_10 : decode cX0_whose 10 = .ok (.getfield 85, 3) := dk_180 0 85 (dk_at dksX0_whose_0 10 rfl rfl)
theorem dX0_whose_13 : decode cX0_whose 13 = .ok (.ifCond .le 7, 3) := dk_158 0 7 (dk_at dksX0_whose_0 13 rfl rfl)
theorem dX0_whose_16 : decode cX0_whose 16 = .ok (.iconst (-1), 1) := dk_2 (dk_at dksX0_whose_0 16 rfl rfl)
theorem dX0_whose_17 : decode cX0_whose 17 = .ok (.goto 11, 3) := dk_167 0 11 (dk_at dksX0_whose_0 17 rfl rfl)
theorem dX0_whose_20 : decode cX0_whose 20 = .ok (.aload_n 0, 1) := dk_42 (dk_at dksX0_whose_0 20 rfl rfl)
theorem dX0_whose_21 : decode cX0_whose 21 = .ok (.invokevirtual 187, 3) := dk_182 0 187 (dk_at dksX0_whose_0 21 rfl rfl)
theorem dX0_whose_24 : decode cX0_whose 24 = .ok (.iload_n 1, 1) := dk_27 (dk_at dksX0_whose_1 0 rfl rfl)
theorem dX0_whose_25 : decode cX0_whose 25 = .ok (.invokevirtual 350, 3) := dk_182 1 94 (dk_at dksX0_whose_1 1 rfl rfl)
theorem dX0_whose_28 : decode cX0_whose 28 = .ok (.ireturn, 1) := dk_172 (dk_at dksX0_whose_1 4 rfl rfl)
abbrev cX0_leads : ByteArray := prog_1_method_48_code
def yX0_leads : MethodName := ⟨RX0, "leads", "(I)I"⟩
def dkwX0_leads_1 : List UInt8 := [2, 167, 0, 11, 42, 182, 0, 187, 27, 182, 1, 96, 172]
abbrev dktX0_leads_1 : List UInt8 := dkwX0_leads_1 ++ []
def dkwX0_leads_0 : List UInt8 := [42, 42, 27, 182, 0, 180, 153, 0, 7, 3, 167, 0, 4, 4, 181, 0, 85, 42, 180, 0, 85, 158, 0, 7]
abbrev dktX0_leads_0 : List UInt8 := dkwX0_leads_0 ++ dktX0_leads_1
theorem dksX0_leads_0 : cX0_leads.data.toList.drop 0 = dktX0_leads_0 := by decide +kernel
theorem dksX0_leads_1 : cX0_leads.data.toList.drop 24 = dktX0_leads_1 := dk_seg dksX0_leads_0 24 rfl rfl
theorem dX0_leads_0 : decode cX0_leads 0 = .ok (.aload_n 0, 1) := dk_42 (dk_at dksX0_leads_0 0 rfl rfl)
theorem dX0_leads_1 : decode cX0_leads 1 = .ok (.aload_n 0, 1) := dk_42 (dk_at dksX0_leads_0 1 rfl rfl)
theorem dX0_leads_2 : decode cX0_leads 2 = .ok (.iload_n 1, 1) := dk_27 (dk_at dksX0_leads_0 2 rfl rfl)
theorem dX0_leads_3 : decode cX0_leads 3 = .ok (.invokevirtual 180, 3) := dk_182 0 180 (dk_at dksX0_leads_0 3 rfl rfl)
theorem dX0_leads_6 : decode cX0_leads 6 = .ok (.ifCond .eq 7, 3) := dk_153 0 7 (dk_at dksX0_leads_0 6 rfl rfl)
theorem dX0_leads_9 : decode cX0_leads 9 = .ok (.iconst 0, 1) := dk_3 (dk_at dksX0_leads_0 9 rfl rfl)
theorem dX0_leads_10 : decode cX0_leads 10 = .ok (.goto 4, 3) := dk_167 0 4 (dk_at dksX0_leads_0 10 rfl rfl)
theorem dX0_leads_13 : decode cX0_leads 13 = .ok (.iconst 1, 1) := dk_4 (dk_at dksX0_leads_0 13 rfl rfl)
theorem dX0_leads_14 : decode cX0_leads 14 = .ok (.putfield 85, 3) := dk_181 0 85 (dk_at dksX0_leads_0 14 rfl rfl)
theorem dX0_leads_17 : decode cX0_leads 17 = .ok (.aload_n 0, 1) := dk_42 (dk_at dksX0_leads_0 17 rfl rfl)
theorem dX0_leads_18 : decode cX0_leads 18 = .ok (.getfield 85, 3) := dk_180 0 85 (dk_at dksX0_leads_0 18 rfl rfl)
theorem dX0_leads_21 : decode cX0_leads 21 = .ok (.ifCond .le 7, 3) := dk_158 0 7 (dk_at dksX0_leads_0 21 rfl rfl)
theorem dX0_leads_24 : decode cX0_leads 24 = .ok (.iconst (-1), 1) := dk_2 (dk_at dksX0_leads_1 0 rfl rfl)
theorem dX0_leads_25 : decode cX0_leads 25 = .ok (.goto 11, 3) := dk_167 0 11 (dk_at dksX0_leads_1 1 rfl rfl)
theorem dX0_leads_28 : decode cX0_leads 28 = .ok (.aload_n 0, 1) := dk_42 (dk_at dksX0_leads_1 4 rfl rfl)
theorem dX0_leads_29 : decode cX0_leads 29 = .ok (.invokevirtual 187, 3) := dk_182 0 187 (dk_at dksX0_leads_1 5 rfl rfl)
theorem dX0_leads_32 : decode cX0_leads 32 = .ok (.iload_n 1, 1) := dk_27 (dk_at dksX0_leads_1 8 rfl rfl)
theorem dX0_leads_33 : decode cX0_leads 33 = .ok (.invokevirtual 352, 3) := dk_182 1 96 (dk_at dksX0_leads_1 9 rfl rfl)
theorem dX0_leads_36 : decode cX0_leads 36 = .ok (.ireturn, 1) := dk_172 (dk_at dksX0_leads_1 12 rfl rfl)
abbrev cX0_leader : ByteArray := prog_1_method_49_code
def yX0_leader : MethodName := ⟨RX0, "leader", "()I"⟩
def dkwX0_leader_2 : List UInt8 := [182, 1, 99, 172]
abbrev dktX0_leader_2 : List UInt8 := dkwX0_leader_2 ++ []
def dkwX0_leader_1 : List UInt8 := [182, 1, 96, 42, 182, 0, 187, 27, 182, 1, 96, 164, 0, 5, 28, 60, 132, 2, 1, 167, 255, 217, 42, 27]
abbrev dktX0_leader_1 : List UInt8 := dkwX0_leader_1 ++ dktX0_leader_2
def dkwX0_leader_0 : List UInt8 := [2, 60, 3, 61, 28, 42, 182, 0, 165, 180, 0, 168, 162, 0, 34, 27, 155, 0, 22, 42, 182, 0, 187, 28]
abbrev dktX0_leader_0 : List UInt8 := dkwX0_leader_0 ++ dktX0_leader_1
theorem dksX0_leader_0 : cX0_leader.data.toList.drop 0 = dktX0_leader_0 := by decide +kernel
theorem dksX0_leader_1 : cX0_leader.data.toList.drop 24 = dktX0_leader_1 := dk_seg dksX0_leader_0 24 rfl rfl
theorem dksX0_leader_2 : cX0_leader.data.toList.drop 48 = dktX0_leader_2 := dk_seg dksX0_leader_1 24 rfl rfl
theorem dX0_leader_0 : decode cX0_leader 0 = .ok (.iconst (-1), 1) := dk_2 (dk_at dksX0_leader_0 0 rfl rfl)
theorem dX0_leader_1 : decode cX0_leader 1 = .ok (.istore_n 1, 1) := dk_60 (dk_at dksX0_leader_0 1 rfl rfl)
theorem dX0_leader_2 : decode cX0_leader 2 = .ok (.iconst 0, 1) := dk_3 (dk_at dksX0_leader_0 2 rfl rfl)
theorem dX0_leader_3 : decode cX0_leader 3 = .ok (.istore_n 2, 1) := dk_61 (dk_at dksX0_leader_0 3 rfl rfl)
theorem dX0_leader_4 : decode cX0_leader 4 = .ok (.iload_n 2, 1) := dk_28 (dk_at dksX0_leader_0 4 rfl rfl)
theorem dX0_leader_5 : decode cX0_leader 5 = .ok (.aload_n 0, 1) := dk_42 (dk_at dksX0_leader_0 5 rfl rfl)
theorem dX0_leader_6 : decode cX0_leader 6 = .ok (.invokevirtual 165, 3) := dk_182 0 165 (dk_at dksX0_leader_0 6 rfl rfl)
theorem dX0_leader_9 : decode cX0_leader 9 = .ok (.getfield 168, 3) := dk_180 0 168 (dk_at dksX0_leader_0 9 rfl rfl)
theorem dX0_leader_12 : decode cX0_leader 12 = .ok (.if_icmp .ge 34, 3) := dk_162 0 34 (dk_at dksX0_leader_0 12 rfl rfl)
theorem dX0_leader_15 : decode cX0_leader 15 = .ok (.iload_n 1, 1) := dk_27 (dk_at dksX0_leader_0 15 rfl rfl)
theorem dX0_leader_16 : decode cX0_leader 16 = .ok (.ifCond .lt 22, 3) := dk_155 0 22 (dk_at dksX0_leader_0 16 rfl rfl)
theorem dX0_leader_19 : decode cX0_leader 19 = .ok (.aload_n 0, 1) := dk_42 (dk_at dksX0_leader_0 19 rfl rfl)
theorem dX0_leader_20 : decode cX0_leader 20 = .ok (.invokevirtual 187, 3) := dk_182 0 187 (dk_at dksX0_leader_0 20 rfl rfl)
theorem dX0_leader_23 : decode cX0_leader 23 = .ok (.iload_n 2, 1) := dk_28 (dk_at dksX0_leader_0 23 rfl rfl)
theorem dX0_leader_24 : decode cX0_leader 24 = .ok (.invokevirtual 352, 3) := dk_182 1 96 (dk_at dksX0_leader_1 0 rfl rfl)
theorem dX0_leader_27 : decode cX0_leader 27 = .ok (.aload_n 0, 1) := dk_42 (dk_at dksX0_leader_1 3 rfl rfl)
theorem dX0_leader_28 : decode cX0_leader 28 = .ok (.invokevirtual 187, 3) := dk_182 0 187 (dk_at dksX0_leader_1 4 rfl rfl)
theorem dX0_leader_31 : decode cX0_leader 31 = .ok (.iload_n 1, 1) := dk_27 (dk_at dksX0_leader_1 7 rfl rfl)
theorem dX0_leader_32 : decode cX0_leader 32 = .ok (.invokevirtual 352, 3) := dk_182 1 96 (dk_at dksX0_leader_1 8 rfl rfl)
theorem dX0_leader_35 : decode cX0_leader 35 = .ok (.if_icmp .le 5, 3) := dk_164 0 5 (dk_at dksX0_leader_1 11 rfl rfl)
theorem dX0_leader_38 : decode cX0_leader 38 = .ok (.iload_n 2, 1) := dk_28 (dk_at dksX0_leader_1 14 rfl rfl)
theorem dX0_leader_39 : decode cX0_leader 39 = .ok (.istore_n 1, 1) := dk_60 (dk_at dksX0_leader_1 15 rfl rfl)
theorem dX0_leader_40 : decode cX0_leader 40 = .ok (.iinc 2 1, 3) := dk_132 2 1 (dk_at dksX0_leader_1 16 rfl rfl)
theorem dX0_leader_43 : decode cX0_leader 43 = .ok (.goto (-39), 3) := dk_167 255 217 (dk_at dksX0_leader_1 19 rfl rfl)
theorem dX0_leader_46 : decode cX0_leader 46 = .ok (.aload_n 0, 1) := dk_42 (dk_at dksX0_leader_1 22 rfl rfl)
theorem dX0_leader_47 : decode cX0_leader 47 = .ok (.iload_n 1, 1) := dk_27 (dk_at dksX0_leader_1 23 rfl rfl)
theorem dX0_leader_48 : decode cX0_leader 48 = .ok (.invokevirtual 355, 3) := dk_182 1 99 (dk_at dksX0_leader_2 0 rfl rfl)
theorem dX0_leader_51 : decode cX0_leader 51 = .ok (.ireturn, 1) := dk_172 (dk_at dksX0_leader_2 3 rfl rfl)
abbrev cX0_answer : ByteArray := prog_1_method_26_code
def yX0_answer : MethodName := ⟨RX0, "answer", "(I)I"⟩
def dkwX0_answer_0 : List UInt8 := [42, 27, 156, 0, 8, 16, 6, 167, 0, 4, 3, 181, 0, 85, 27, 172]
abbrev dktX0_answer_0 : List UInt8 := dkwX0_answer_0 ++ []
theorem dksX0_answer_0 : cX0_answer.data.toList.drop 0 = dktX0_answer_0 := by decide +kernel
theorem dX0_answer_0 : decode cX0_answer 0 = .ok (.aload_n 0, 1) := dk_42 (dk_at dksX0_answer_0 0 rfl rfl)
theorem dX0_answer_1 : decode cX0_answer 1 = .ok (.iload_n 1, 1) := dk_27 (dk_at dksX0_answer_0 1 rfl rfl)
theorem dX0_answer_2 : decode cX0_answer 2 = .ok (.ifCond .ge 8, 3) := dk_156 0 8 (dk_at dksX0_answer_0 2 rfl rfl)
theorem dX0_answer_5 : decode cX0_answer 5 = .ok (.bipush 6, 2) := dk_16 6 (dk_at dksX0_answer_0 5 rfl rfl)
theorem dX0_answer_7 : decode cX0_answer 7 = .ok (.goto 4, 3) := dk_167 0 4 (dk_at dksX0_answer_0 7 rfl rfl)
theorem dX0_answer_10 : decode cX0_answer 10 = .ok (.iconst 0, 1) := dk_3 (dk_at dksX0_answer_0 10 rfl rfl)
theorem dX0_answer_11 : decode cX0_answer 11 = .ok (.putfield 85, 3) := dk_181 0 85 (dk_at dksX0_answer_0 11 rfl rfl)
theorem dX0_answer_14 : decode cX0_answer 14 = .ok (.iload_n 1, 1) := dk_27 (dk_at dksX0_answer_0 14 rfl rfl)
theorem dX0_answer_15 : decode cX0_answer 15 = .ok (.ireturn, 1) := dk_172 (dk_at dksX0_answer_0 15 rfl rfl)
abbrev cX0_duels : ByteArray := prog_1_method_50_code
def yX0_duels : MethodName := ⟨RX0, "duels", "()I"⟩
def dkwX0_duels_2 : List UInt8 := [3, 128, 60, 132, 2, 1, 167, 255, 213, 27, 172]
abbrev dktX0_duels_2 : List UInt8 := dkwX0_duels_2 ++ []
def dkwX0_duels_1 : List UInt8 := [182, 0, 187, 180, 1, 32, 28, 50, 182, 1, 92, 184, 1, 102, 4, 164, 0, 9, 4, 28, 120, 167, 0, 4]
abbrev dktX0_duels_1 : List UInt8 := dkwX0_duels_1 ++ dktX0_duels_2
def dkwX0_duels_0 : List UInt8 := [42, 3, 181, 0, 85, 3, 60, 3, 61, 28, 42, 182, 0, 165, 180, 0, 177, 162, 0, 38, 27, 42]
abbrev dktX0_duels_0 : List UInt8 := dkwX0_duels_0 ++ dktX0_duels_1
theorem dksX0_duels_0 : cX0_duels.data.toList.drop 0 = dktX0_duels_0 := by decide +kernel
theorem dksX0_duels_1 : cX0_duels.data.toList.drop 22 = dktX0_duels_1 := dk_seg dksX0_duels_0 22 rfl rfl
theorem dksX0_duels_2 : cX0_duels.data.toList.drop 46 = dktX0_duels_2 := dk_seg dksX0_duels_1 24 rfl rfl
theorem dX0_duels_0 : decode cX0_duels 0 = .ok (.aload_n 0, 1) := dk_42 (dk_at dksX0_duels_0 0 rfl rfl)
theorem dX0_duels_1 : decode cX0_duels 1 = .ok (.iconst 0, 1) := dk_3 (dk_at dksX0_duels_0 1 rfl rfl)
theorem dX0_duels_2 : decode cX0_duels 2 = .ok (.putfield 85, 3) := dk_181 0 85 (dk_at dksX0_duels_0 2 rfl rfl)
theorem dX0_duels_5 : decode cX0_duels 5 = .ok (.iconst 0, 1) := dk_3 (dk_at dksX0_duels_0 5 rfl rfl)
theorem dX0_duels_6 : decode cX0_duels 6 = .ok (.istore_n 1, 1) := dk_60 (dk_at dksX0_duels_0 6 rfl rfl)
theorem dX0_duels_7 : decode cX0_duels 7 = .ok (.iconst 0, 1) := dk_3 (dk_at dksX0_duels_0 7 rfl rfl)
theorem dX0_duels_8 : decode cX0_duels 8 = .ok (.istore_n 2, 1) := dk_61 (dk_at dksX0_duels_0 8 rfl rfl)
theorem dX0_duels_9 : decode cX0_duels 9 = .ok (.iload_n 2, 1) := dk_28 (dk_at dksX0_duels_0 9 rfl rfl)
theorem dX0_duels_10 : decode cX0_duels 10 = .ok (.aload_n 0, 1) := dk_42 (dk_at dksX0_duels_0 10 rfl rfl)
theorem dX0_duels_11 : decode cX0_duels 11 = .ok (.invokevirtual 165, 3) := dk_182 0 165 (dk_at dksX0_duels_0 11 rfl rfl)
theorem dX0_duels_14 : decode cX0_duels 14 = .ok (.getfield 177, 3) := dk_180 0 177 (dk_at dksX0_duels_0 14 rfl rfl)
theorem dX0_duels_17 : decode cX0_duels 17 = .ok (.if_icmp .ge 38, 3) := dk_162 0 38 (dk_at dksX0_duels_0 17 rfl rfl)
theorem dX0_duels_20 : decode cX0_duels 20 = .ok (.iload_n 1, 1) := dk_27 (dk_at dksX0_duels_0 20 rfl rfl)
theorem dX0_duels_21 : decode cX0_duels 21 = .ok (.aload_n 0, 1) := dk_42 (dk_at dksX0_duels_0 21 rfl rfl)
theorem dX0_duels_22 : decode cX0_duels 22 = .ok (.invokevirtual 187, 3) := dk_182 0 187 (dk_at dksX0_duels_1 0 rfl rfl)
theorem dX0_duels_25 : decode cX0_duels 25 = .ok (.getfield 288, 3) := dk_180 1 32 (dk_at dksX0_duels_1 3 rfl rfl)
theorem dX0_duels_28 : decode cX0_duels 28 = .ok (.iload_n 2, 1) := dk_28 (dk_at dksX0_duels_1 6 rfl rfl)
theorem dX0_duels_29 : decode cX0_duels 29 = .ok (.aaload, 1) := dk_50 (dk_at dksX0_duels_1 7 rfl rfl)
theorem dX0_duels_30 : decode cX0_duels 30 = .ok (.invokevirtual 348, 3) := dk_182 1 92 (dk_at dksX0_duels_1 8 rfl rfl)
theorem dX0_duels_33 : decode cX0_duels 33 = .ok (.invokestatic 358, 3) := dk_184 1 102 (dk_at dksX0_duels_1 11 rfl rfl)
theorem dX0_duels_36 : decode cX0_duels 36 = .ok (.iconst 1, 1) := dk_4 (dk_at dksX0_duels_1 14 rfl rfl)
theorem dX0_duels_37 : decode cX0_duels 37 = .ok (.if_icmp .le 9, 3) := dk_164 0 9 (dk_at dksX0_duels_1 15 rfl rfl)
theorem dX0_duels_40 : decode cX0_duels 40 = .ok (.iconst 1, 1) := dk_4 (dk_at dksX0_duels_1 18 rfl rfl)
theorem dX0_duels_41 : decode cX0_duels 41 = .ok (.iload_n 2, 1) := dk_28 (dk_at dksX0_duels_1 19 rfl rfl)
theorem dX0_duels_42 : decode cX0_duels 42 = .ok (.ishl, 1) := dk_120 (dk_at dksX0_duels_1 20 rfl rfl)
theorem dX0_duels_43 : decode cX0_duels 43 = .ok (.goto 4, 3) := dk_167 0 4 (dk_at dksX0_duels_1 21 rfl rfl)
theorem dX0_duels_46 : decode cX0_duels 46 = .ok (.iconst 0, 1) := dk_3 (dk_at dksX0_duels_2 0 rfl rfl)
theorem dX0_duels_47 : decode cX0_duels 47 = .ok (.ior, 1) := dk_128 (dk_at dksX0_duels_2 1 rfl rfl)
theorem dX0_duels_48 : decode cX0_duels 48 = .ok (.istore_n 1, 1) := dk_60 (dk_at dksX0_duels_2 2 rfl rfl)
theorem dX0_duels_49 : decode cX0_duels 49 = .ok (.iinc 2 1, 3) := dk_132 2 1 (dk_at dksX0_duels_2 3 rfl rfl)
theorem dX0_duels_52 : decode cX0_duels 52 = .ok (.goto (-43), 3) := dk_167 255 213 (dk_at dksX0_duels_2 6 rfl rfl)
theorem dX0_duels_55 : decode cX0_duels 55 = .ok (.iload_n 1, 1) := dk_27 (dk_at dksX0_duels_2 9 rfl rfl)
theorem dX0_duels_56 : decode cX0_duels 56 = .ok (.ireturn, 1) := dk_172 (dk_at dksX0_duels_2 10 rfl rfl)
abbrev cX0_needs : ByteArray := prog_1_method_51_code
def yX0_needs : MethodName := ⟨RX0, "needs", "(I)I"⟩
def dkwX0_needs_3 : List UInt8 := [4, 167, 0, 4, 3, 96, 61, 132, 3, 1, 167, 255, 205, 28, 172]
abbrev dktX0_needs_3 : List UInt8 := dkwX0_needs_3 ++ []
def dkwX0_needs_2 : List UInt8 := [182, 0, 190, 153, 0, 25, 42, 182, 0, 187, 180, 1, 32, 29, 50, 182, 1, 92, 4, 27, 120, 159, 0, 7]
abbrev dktX0_needs_2 : List UInt8 := dkwX0_needs_2 ++ dktX0_needs_3
def dkwX0_needs_1 : List UInt8 := [2, 172, 3, 61, 3, 62, 29, 42, 182, 0, 165, 180, 0, 177, 162, 0, 46, 28, 42, 182, 0, 187, 29]
abbrev dktX0_needs_1 : List UInt8 := dkwX0_needs_1 ++ dktX0_needs_2
def dkwX0_needs_0 : List UInt8 := [42, 42, 27, 182, 0, 180, 153, 0, 7, 3, 167, 0, 4, 4, 181, 0, 85, 42, 180, 0, 85, 158, 0, 5]
abbrev dktX0_needs_0 : List UInt8 := dkwX0_needs_0 ++ dktX0_needs_1
theorem dksX0_needs_0 : cX0_needs.data.toList.drop 0 = dktX0_needs_0 := by decide +kernel
theorem dksX0_needs_1 : cX0_needs.data.toList.drop 24 = dktX0_needs_1 := dk_seg dksX0_needs_0 24 rfl rfl
theorem dksX0_needs_2 : cX0_needs.data.toList.drop 47 = dktX0_needs_2 := dk_seg dksX0_needs_1 23 rfl rfl
theorem dksX0_needs_3 : cX0_needs.data.toList.drop 71 = dktX0_needs_3 := dk_seg dksX0_needs_2 24 rfl rfl
theorem dX0_needs_0 : decode cX0_needs 0 = .ok (.aload_n 0, 1) := dk_42 (dk_at dksX0_needs_0 0 rfl rfl)
theorem dX0_needs_1 : decode cX0_needs 1 = .ok (.aload_n 0, 1) := dk_42 (dk_at dksX0_needs_0 1 rfl rfl)
theorem dX0_needs_2 : decode cX0_needs 2 = .ok (.iload_n 1, 1) := dk_27 (dk_at dksX0_needs_0 2 rfl rfl)
theorem dX0_needs_3 : decode cX0_needs 3 = .ok (.invokevirtual 180, 3) := dk_182 0 180 (dk_at dksX0_needs_0 3 rfl rfl)
theorem dX0_needs_6 : decode cX0_needs 6 = .ok (.ifCond .eq 7, 3) := dk_153 0 7 (dk_at dksX0_needs_0 6 rfl rfl)
theorem dX0_needs_9 : decode cX0_needs 9 = .ok (.iconst 0, 1) := dk_3 (dk_at dksX0_needs_0 9 rfl rfl)
theorem dX0_needs_10 : decode cX0_needs 10 = .ok (.goto 4, 3) := dk_167 0 4 (dk_at dksX0_needs_0 10 rfl rfl)
theorem dX0_needs_13 : decode cX0_needs 13 = .ok (.iconst 1, 1) := dk_4 (dk_at dksX0_needs_0 13 rfl rfl)
theorem dX0_needs_14 : decode cX0_needs 14 = .ok (.putfield 85, 3) := dk_181 0 85 (dk_at dksX0_needs_0 14 rfl rfl)
theorem dX0_needs_17 : decode cX0_needs 17 = .ok (.aload_n 0, 1) := dk_42 (dk_at dksX0_needs_0 17 rfl rfl)
theorem dX0_needs_18 : decode cX0_needs 18 = .ok (.getfield 85, 3) := dk_180 0 85 (dk_at dksX0_needs_0 18 rfl rfl)
theorem dX0_needs_21 : decode cX0_needs 21 = .ok (.ifCond .le 5, 3) := dk_158 0 5 (dk_at dksX0_needs_0 21 rfl rfl)
theorem dX0_needs_24 : decode cX0_needs 24 = .ok (.iconst (-1), 1) := dk_2 (dk_at dksX0_needs_1 0 rfl rfl)
theorem dX0_needs_25 : decode cX0_needs 25 = .ok (.ireturn, 1) := dk_172 (dk_at dksX0_needs_1 1 rfl rfl)
theorem dX0_needs_26 : decode cX0_needs 26 = .ok (.iconst 0, 1) := dk_3 (dk_at dksX0_needs_1 2 rfl rfl)
theorem dX0_needs_27 : decode cX0_needs 27 = .ok (.istore_n 2, 1) := dk_61 (dk_at dksX0_needs_1 3 rfl rfl)
theorem dX0_needs_28 : decode cX0_needs 28 = .ok (.iconst 0, 1) := dk_3 (dk_at dksX0_needs_1 4 rfl rfl)
theorem dX0_needs_29 : decode cX0_needs 29 = .ok (.istore_n 3, 1) := dk_62 (dk_at dksX0_needs_1 5 rfl rfl)
theorem dX0_needs_30 : decode cX0_needs 30 = .ok (.iload_n 3, 1) := dk_29 (dk_at dksX0_needs_1 6 rfl rfl)
theorem dX0_needs_31 : decode cX0_needs 31 = .ok (.aload_n 0, 1) := dk_42 (dk_at dksX0_needs_1 7 rfl rfl)
theorem dX0_needs_32 : decode cX0_needs 32 = .ok (.invokevirtual 165, 3) := dk_182 0 165 (dk_at dksX0_needs_1 8 rfl rfl)
theorem dX0_needs_35 : decode cX0_needs 35 = .ok (.getfield 177, 3) := dk_180 0 177 (dk_at dksX0_needs_1 11 rfl rfl)
theorem dX0_needs_38 : decode cX0_needs 38 = .ok (.if_icmp .ge 46, 3) := dk_162 0 46 (dk_at dksX0_needs_1 14 rfl rfl)
theorem dX0_needs_41 : decode cX0_needs 41 = .ok (.iload_n 2, 1) := dk_28 (dk_at dksX0_needs_1 17 rfl rfl)
theorem dX0_needs_42 : decode cX0_needs 42 = .ok (.aload_n 0, 1) := dk_42 (dk_at dksX0_needs_1 18 rfl rfl)
theorem dX0_needs_43 : decode cX0_needs 43 = .ok (.invokevirtual 187, 3) := dk_182 0 187 (dk_at dksX0_needs_1 19 rfl rfl)
theorem dX0_needs_46 : decode cX0_needs 46 = .ok (.iload_n 3, 1) := dk_29 (dk_at dksX0_needs_1 22 rfl rfl)
theorem dX0_needs_47 : decode cX0_needs 47 = .ok (.invokevirtual 190, 3) := dk_182 0 190 (dk_at dksX0_needs_2 0 rfl rfl)
theorem dX0_needs_50 : decode cX0_needs 50 = .ok (.ifCond .eq 25, 3) := dk_153 0 25 (dk_at dksX0_needs_2 3 rfl rfl)
theorem dX0_needs_53 : decode cX0_needs 53 = .ok (.aload_n 0, 1) := dk_42 (dk_at dksX0_needs_2 6 rfl rfl)
theorem dX0_needs_54 : decode cX0_needs 54 = .ok (.invokevirtual 187, 3) := dk_182 0 187 (dk_at dksX0_needs_2 7 rfl rfl)
theorem dX0_needs_57 : decode cX0_needs 57 = .ok (.getfield 288, 3) := dk_180 1 32 (dk_at dksX0_needs_2 10 rfl rfl)
theorem dX0_needs_60 : decode cX0_needs 60 = .ok (.iload_n 3, 1) := dk_29 (dk_at dksX0_needs_2 13 rfl rfl)
theorem dX0_needs_61 : decode cX0_needs 61 = .ok (.aaload, 1) := dk_50 (dk_at dksX0_needs_2 14 rfl rfl)
theorem dX0_needs_62 : decode cX0_needs 62 = .ok (.invokevirtual 348, 3) := dk_182 1 92 (dk_at dksX0_needs_2 15 rfl rfl)
theorem dX0_needs_65 : decode cX0_needs 65 = .ok (.iconst 1, 1) := dk_4 (dk_at dksX0_needs_2 18 rfl rfl)
theorem dX0_needs_66 : decode cX0_needs 66 = .ok (.iload_n 1, 1) := dk_27 (dk_at dksX0_needs_2 19 rfl rfl)
theorem dX0_needs_67 : decode cX0_needs 67 = .ok (.ishl, 1) := dk_120 (dk_at dksX0_needs_2 20 rfl rfl)
theorem dX0_needs_68 : decode cX0_needs 68 = .ok (.if_icmp .eq 7, 3) := dk_159 0 7 (dk_at dksX0_needs_2 21 rfl rfl)
theorem dX0_needs_71 : decode cX0_needs 71 = .ok (.iconst 1, 1) := dk_4 (dk_at dksX0_needs_3 0 rfl rfl)
theorem dX0_needs_72 : decode cX0_needs 72 = .ok (.goto 4, 3) := dk_167 0 4 (dk_at dksX0_needs_3 1 rfl rfl)
theorem dX0_needs_75 : decode cX0_needs 75 = .ok (.iconst 0, 1) := dk_3 (dk_at dksX0_needs_3 4 rfl rfl)
theorem dX0_needs_76 : decode cX0_needs 76 = .ok (.iadd, 1) := dk_96 (dk_at dksX0_needs_3 5 rfl rfl)
theorem dX0_needs_77 : decode cX0_needs 77 = .ok (.istore_n 2, 1) := dk_61 (dk_at dksX0_needs_3 6 rfl rfl)
theorem dX0_needs_78 : decode cX0_needs 78 = .ok (.iinc 3 1, 3) := dk_132 3 1 (dk_at dksX0_needs_3 7 rfl rfl)
theorem dX0_needs_81 : decode cX0_needs 81 = .ok (.goto (-51), 3) := dk_167 255 205 (dk_at dksX0_needs_3 10 rfl rfl)
theorem dX0_needs_84 : decode cX0_needs 84 = .ok (.iload_n 2, 1) := dk_28 (dk_at dksX0_needs_3 13 rfl rfl)
theorem dX0_needs_85 : decode cX0_needs 85 = .ok (.ireturn, 1) := dk_172 (dk_at dksX0_needs_3 14 rfl rfl)
abbrev cX0_strewn : ByteArray := prog_1_method_52_code
def yX0_strewn : MethodName := ⟨RX0, "strewn", "(I)I"⟩
def dkwX0_strewn_2 : List UInt8 := [180, 1, 32, 29, 50, 27, 182, 1, 107, 96, 61, 132, 3, 1, 167, 255, 226, 28, 172]
abbrev dktX0_strewn_2 : List UInt8 := dkwX0_strewn_2 ++ []
def dkwX0_strewn_1 : List UInt8 := [2, 172, 3, 61, 3, 62, 29, 42, 182, 0, 165, 180, 0, 177, 162, 0, 25, 28, 42, 182, 0, 187]
abbrev dktX0_strewn_1 : List UInt8 := dkwX0_strewn_1 ++ dktX0_strewn_2
def dkwX0_strewn_0 : List UInt8 := [42, 42, 27, 182, 0, 180, 153, 0, 7, 3, 167, 0, 4, 4, 181, 0, 85, 42, 180, 0, 85, 158, 0, 5]
abbrev dktX0_strewn_0 : List UInt8 := dkwX0_strewn_0 ++ dktX0_strewn_1
theorem dksX0_strewn_0 : cX0_strewn.data.toList.drop 0 = dktX0_strewn_0 := by decide +kernel
theorem dksX0_strewn_1 : cX0_strewn.data.toList.drop 24 = dktX0_strewn_1 := dk_seg dksX0_strewn_0 24 rfl rfl
theorem dksX0_strewn_2 : cX0_strewn.data.toList.drop 46 = dktX0_strewn_2 := dk_seg dksX0_strewn_1 22 rfl rfl
theorem dX0_strewn_0 : decode cX0_strewn 0 = .ok (.aload_n 0, 1) := dk_42 (dk_at dksX0_strewn_0 0 rfl rfl)
theorem dX0_strewn_1 : decode cX0_strewn 1 = .ok (.aload_n 0, 1) := dk_42 (dk_at dksX0_strewn_0 1 rfl rfl)
theorem dX0_strewn_2 : decode cX0_strewn 2 = .ok (.iload_n 1, 1) := dk_27 (dk_at dksX0_strewn_0 2 rfl rfl)
theorem dX0_strewn_3 : decode cX0_strewn 3 = .ok (.invokevirtual 180, 3) := dk_182 0 180 (dk_at dksX0_strewn_0 3 rfl rfl)
theorem dX0_strewn_6 : decode cX0_strewn 6 = .ok (.ifCond .eq 7, 3) := dk_153 0 7 (dk_at dksX0_strewn_0 6 rfl rfl)
theorem dX0_strewn_9 : decode cX0_strewn 9 = .ok (.iconst 0, 1) := dk_3 (dk_at dksX0_strewn_0 9 rfl rfl)
theorem dX0_strewn_10 : decode cX0_strewn 10 = .ok (.goto 4, 3) := dk_167 0 4 (dk_at dksX0_strewn_0 10 rfl rfl)
theorem dX0_strewn_13 : decode cX0_strewn 13 = .ok (.iconst 1, 1) := dk_4 (dk_at dksX0_strewn_0 13 rfl rfl)
theorem dX0_strewn_14 : decode cX0_strewn 14 = .ok (.putfield 85, 3) := dk_181 0 85 (dk_at dksX0_strewn_0 14 rfl rfl)
theorem dX0_strewn_17 : decode cX0_strewn 17 = .ok (.aload_n 0, 1) := dk_42 (dk_at dksX0_strewn_0 17 rfl rfl)
theorem dX0_strewn_18 : decode cX0_strewn 18 = .ok (.getfield 85, 3) := dk_180 0 85 (dk_at dksX0_strewn_0 18 rfl rfl)
theorem dX0_strewn_21 : decode cX0_strewn 21 = .ok (.ifCond .le 5, 3) := dk_158 0 5 (dk_at dksX0_strewn_0 21 rfl rfl)
theorem dX0_strewn_24 : decode cX0_strewn 24 = .ok (.iconst (-1), 1) := dk_2 (dk_at dksX0_strewn_1 0 rfl rfl)
theorem dX0_strewn_25 : decode cX0_strewn 25 = .ok (.ireturn, 1) := dk_172 (dk_at dksX0_strewn_1 1 rfl rfl)
theorem dX0_strewn_26 : decode cX0_strewn 26 = .ok (.iconst 0, 1) := dk_3 (dk_at dksX0_strewn_1 2 rfl rfl)
theorem dX0_strewn_27 : decode cX0_strewn 27 = .ok (.istore_n 2, 1) := dk_61 (dk_at dksX0_strewn_1 3 rfl rfl)
theorem dX0_strewn_28 : decode cX0_strewn 28 = .ok (.iconst 0, 1) := dk_3 (dk_at dksX0_strewn_1 4 rfl rfl)
theorem dX0_strewn_29 : decode cX0_strewn 29 = .ok (.istore_n 3, 1) := dk_62 (dk_at dksX0_strewn_1 5 rfl rfl)
theorem dX0_strewn_30 : decode cX0_strewn 30 = .ok (.iload_n 3, 1) := dk_29 (dk_at dksX0_strewn_1 6 rfl rfl)
theorem dX0_strewn_31 : decode cX0_strewn 31 = .ok (.aload_n 0, 1) := dk_42 (dk_at dksX0_strewn_1 7 rfl rfl)
theorem dX0_strewn_32 : decode cX0_strewn 32 = .ok (.invokevirtual 165, 3) := dk_182 0 165 (dk_at dksX0_strewn_1 8 rfl rfl)
theorem dX0_strewn_35 : decode cX0_strewn 35 = .ok (.getfield 177, 3) := dk_180 0 177 (dk_at dksX0_strewn_1 11 rfl rfl)
theorem dX0_strewn_38 : decode cX0_strewn 38 = .ok (.if_icmp .ge 25, 3) := dk_162 0 25 (dk_at dksX0_strewn_1 14 rfl rfl)
theorem dX0_strewn_41 : decode cX0_strewn 41 = .ok (.iload_n 2, 1) := dk_28 (dk_at dksX0_strewn_1 17 rfl rfl)
theorem dX0_strewn_42 : decode cX0_strewn 42 = .ok (.aload_n 0, 1) := dk_42 (dk_at dksX0_strewn_1 18 rfl rfl)
theorem dX0_strewn_43 : decode cX0_strewn 43 = .ok (.invokevirtual 187, 3) := dk_182 0 187 (dk_at dksX0_strewn_1 19 rfl rfl)
theorem dX0_strewn_46 : decode cX0_strewn 46 = .ok (.getfield 288, 3) := dk_180 1 32 (dk_at dksX0_strewn_2 0 rfl rfl)
theorem dX0_strewn_49 : decode cX0_strewn 49 = .ok (.iload_n 3, 1) := dk_29 (dk_at dksX0_strewn_2 3 rfl rfl)
theorem dX0_strewn_50 : decode cX0_strewn 50 = .ok (.aaload, 1) := dk_50 (dk_at dksX0_strewn_2 4 rfl rfl)
theorem dX0_strewn_51 : decode cX0_strewn 51 = .ok (.iload_n 1, 1) := dk_27 (dk_at dksX0_strewn_2 5 rfl rfl)
theorem dX0_strewn_52 : decode cX0_strewn 52 = .ok (.invokevirtual 363, 3) := dk_182 1 107 (dk_at dksX0_strewn_2 6 rfl rfl)
theorem dX0_strewn_55 : decode cX0_strewn 55 = .ok (.iadd, 1) := dk_96 (dk_at dksX0_strewn_2 9 rfl rfl)
theorem dX0_strewn_56 : decode cX0_strewn 56 = .ok (.istore_n 2, 1) := dk_61 (dk_at dksX0_strewn_2 10 rfl rfl)
theorem dX0_strewn_57 : decode cX0_strewn 57 = .ok (.iinc 3 1, 3) := dk_132 3 1 (dk_at dksX0_strewn_2 11 rfl rfl)
theorem dX0_strewn_60 : decode cX0_strewn 60 = .ok (.goto (-30), 3) := dk_167 255 226 (dk_at dksX0_strewn_2 14 rfl rfl)
theorem dX0_strewn_63 : decode cX0_strewn 63 = .ok (.iload_n 2, 1) := dk_28 (dk_at dksX0_strewn_2 17 rfl rfl)
theorem dX0_strewn_64 : decode cX0_strewn 64 = .ok (.ireturn, 1) := dk_172 (dk_at dksX0_strewn_2 18 rfl rfl)
abbrev cX0_soonest : ByteArray := prog_1_method_54_code
def yX0_soonest : MethodName := ⟨RX0, "soonest", "(II)I"⟩
def dkwX0_soonest_2 : List UInt8 := [181, 0, 85, 29, 172]
abbrev dktX0_soonest_2 : List UInt8 := dkwX0_soonest_2 ++ []
def dkwX0_soonest_1 : List UInt8 := [158, 0, 5, 2, 172, 42, 27, 28, 182, 1, 117, 62, 42, 29, 156, 0, 8, 16, 7, 167, 0, 4, 3]
abbrev dktX0_soonest_1 : List UInt8 := dkwX0_soonest_1 ++ dktX0_soonest_2
def dkwX0_soonest_0 : List UInt8 := [42, 42, 27, 28, 182, 1, 55, 153, 0, 7, 3, 167, 0, 4, 4, 181, 0, 85, 42, 180, 0, 85]
abbrev dktX0_soonest_0 : List UInt8 := dkwX0_soonest_0 ++ dktX0_soonest_1
theorem dksX0_soonest_0 : cX0_soonest.data.toList.drop 0 = dktX0_soonest_0 := by decide +kernel
theorem dksX0_soonest_1 : cX0_soonest.data.toList.drop 22 = dktX0_soonest_1 := dk_seg dksX0_soonest_0 22 rfl rfl
theorem dksX0_soonest_2 : cX0_soonest.data.toList.drop 45 = dktX0_soonest_2 := dk_seg dksX0_soonest_1 23 rfl rfl
theorem dX0_soonest_0 : decode cX0_soonest 0 = .ok (.aload_n 0, 1) := dk_42 (dk_at dksX0_soonest_0 0 rfl rfl)
theorem dX0_soonest_1 : decode cX0_soonest 1 = .ok (.aload_n 0, 1) := dk_42 (dk_at dksX0_soonest_0 1 rfl rfl)
theorem dX0_soonest_2 : decode cX0_soonest 2 = .ok (.iload_n 1, 1) := dk_27 (dk_at dksX0_soonest_0 2 rfl rfl)
theorem dX0_soonest_3 : decode cX0_soonest 3 = .ok (.iload_n 2, 1) := dk_28 (dk_at dksX0_soonest_0 3 rfl rfl)
theorem dX0_soonest_4 : decode cX0_soonest 4 = .ok (.invokevirtual 311, 3) := dk_182 1 55 (dk_at dksX0_soonest_0 4 rfl rfl)
theorem dX0_soonest_7 : decode cX0_soonest 7 = .ok (.ifCond .eq 7, 3) := dk_153 0 7 (dk_at dksX0_soonest_0 7 rfl rfl)
theorem dX0_soonest_10 : decode cX0_soonest 10 = .ok (.iconst 0, 1) := dk_3 (dk_at dksX0_soonest_0 10 rfl rfl)
theorem dX0_soonest_11 : decode cX0_soonest 11 = .ok (.goto 4, 3) := dk_167 0 4 (dk_at dksX0_soonest_0 11 rfl rfl)
theorem dX0_soonest_14 : decode cX0_soonest 14 = .ok (.iconst 1, 1) := dk_4 (dk_at dksX0_soonest_0 14 rfl rfl)
theorem dX0_soonest_15 : decode cX0_soonest 15 = .ok (.putfield 85, 3) := dk_181 0 85 (dk_at dksX0_soonest_0 15 rfl rfl)
theorem dX0_soonest_18 : decode cX0_soonest 18 = .ok (.aload_n 0, 1) := dk_42 (dk_at dksX0_soonest_0 18 rfl rfl)
theorem dX0_soonest_19 : decode cX0_soonest 19 = .ok (.getfield 85, 3) := dk_180 0 85 (dk_at dksX0_soonest_0 19 rfl rfl)
theorem dX0_soonest_22 : decode cX0_soonest 22 = .ok (.ifCond .le 5, 3) := dk_158 0 5 (dk_at dksX0_soonest_1 0 rfl rfl)
theorem dX0_soonest_25 : decode cX0_soonest 25 = .ok (.iconst (-1), 1) := dk_2 (dk_at dksX0_soonest_1 3 rfl rfl)
theorem dX0_soonest_26 : decode cX0_soonest 26 = .ok (.ireturn, 1) := dk_172 (dk_at dksX0_soonest_1 4 rfl rfl)
theorem dX0_soonest_27 : decode cX0_soonest 27 = .ok (.aload_n 0, 1) := dk_42 (dk_at dksX0_soonest_1 5 rfl rfl)
theorem dX0_soonest_28 : decode cX0_soonest 28 = .ok (.iload_n 1, 1) := dk_27 (dk_at dksX0_soonest_1 6 rfl rfl)
theorem dX0_soonest_29 : decode cX0_soonest 29 = .ok (.iload_n 2, 1) := dk_28 (dk_at dksX0_soonest_1 7 rfl rfl)
theorem dX0_soonest_30 : decode cX0_soonest 30 = .ok (.invokevirtual 373, 3) := dk_182 1 117 (dk_at dksX0_soonest_1 8 rfl rfl)
theorem dX0_soonest_33 : decode cX0_soonest 33 = .ok (.istore_n 3, 1) := dk_62 (dk_at dksX0_soonest_1 11 rfl rfl)
theorem dX0_soonest_34 : decode cX0_soonest 34 = .ok (.aload_n 0, 1) := dk_42 (dk_at dksX0_soonest_1 12 rfl rfl)
theorem dX0_soonest_35 : decode cX0_soonest 35 = .ok (.iload_n 3, 1) := dk_29 (dk_at dksX0_soonest_1 13 rfl rfl)
theorem dX0_soonest_36 : decode cX0_soonest 36 = .ok (.ifCond .ge 8, 3) := dk_156 0 8 (dk_at dksX0_soonest_1 14 rfl rfl)
theorem dX0_soonest_39 : decode cX0_soonest 39 = .ok (.bipush 7, 2) := dk_16 7 (dk_at dksX0_soonest_1 17 rfl rfl)
theorem dX0_soonest_41 : decode cX0_soonest 41 = .ok (.goto 4, 3) := dk_167 0 4 (dk_at dksX0_soonest_1 19 rfl rfl)
theorem dX0_soonest_44 : decode cX0_soonest 44 = .ok (.iconst 0, 1) := dk_3 (dk_at dksX0_soonest_1 22 rfl rfl)
theorem dX0_soonest_45 : decode cX0_soonest 45 = .ok (.putfield 85, 3) := dk_181 0 85 (dk_at dksX0_soonest_2 0 rfl rfl)
theorem dX0_soonest_48 : decode cX0_soonest 48 = .ok (.iload_n 3, 1) := dk_29 (dk_at dksX0_soonest_2 3 rfl rfl)
theorem dX0_soonest_49 : decode cX0_soonest 49 = .ok (.ireturn, 1) := dk_172 (dk_at dksX0_soonest_2 4 rfl rfl)
abbrev cX0_soonestOf : ByteArray := prog_1_method_53_code
def yX0_soonestOf : MethodName := ⟨RX0, "soonestOf", "(II)I"⟩
def dkwX0_soonestOf_2 : List UInt8 := [163, 0, 19, 42, 182, 0, 187, 180, 1, 15, 27, 46, 158, 0, 7, 29, 167, 0, 4, 2, 172]
abbrev dktX0_soonestOf_2 : List UInt8 := dkwX0_soonestOf_2 ++ []
def dkwX0_soonestOf_1 : List UInt8 := [182, 1, 113, 62, 42, 182, 0, 187, 28, 182, 0, 190, 153, 0, 30, 29, 42, 182, 0, 187, 180, 0, 245]
abbrev dktX0_soonestOf_1 : List UInt8 := dkwX0_soonestOf_1 ++ dktX0_soonestOf_2
def dkwX0_soonestOf_0 : List UInt8 := [42, 182, 0, 187, 27, 28, 42, 182, 0, 187, 27, 42, 182, 0, 165, 180, 1, 26, 28, 46, 182, 1, 110]
abbrev dktX0_soonestOf_0 : List UInt8 := dkwX0_soonestOf_0 ++ dktX0_soonestOf_1
theorem dksX0_soonestOf_0 : cX0_soonestOf.data.toList.drop 0 = dktX0_soonestOf_0 := by decide +kernel
theorem dksX0_soonestOf_1 : cX0_soonestOf.data.toList.drop 23 = dktX0_soonestOf_1 := dk_seg dksX0_soonestOf_0 23 rfl rfl
theorem dksX0_soonestOf_2 : cX0_soonestOf.data.toList.drop 46 = dktX0_soonestOf_2 := dk_seg dksX0_soonestOf_1 23 rfl rfl
theorem dX0_soonestOf_0 : decode cX0_soonestOf 0 = .ok (.aload_n 0, 1) := dk_42 (dk_at dksX0_soonestOf_0 0 rfl rfl)
theorem dX0_soonestOf_1 : decode cX0_soonestOf 1 = .ok (.invokevirtual 187, 3) := dk_182 0 187 (dk_at dksX0_soonestOf_0 1 rfl rfl)
theorem dX0_soonestOf_4 : decode cX0_soonestOf 4 = .ok (.iload_n 1, 1) := dk_27 (dk_at dksX0_soonestOf_0 4 rfl rfl)
theorem dX0_soonestOf_5 : decode cX0_soonestOf 5 = .ok (.iload_n 2, 1) := dk_28 (dk_at dksX0_soonestOf_0 5 rfl rfl)
theorem dX0_soonestOf_6 : decode cX0_soonestOf 6 = .ok (.aload_n 0, 1) := dk_42 (dk_at dksX0_soonestOf_0 6 rfl rfl)
theorem dX0_soonestOf_7 : decode cX0_soonestOf 7 = .ok (.invokevirtual 187, 3) := dk_182 0 187 (dk_at dksX0_soonestOf_0 7 rfl rfl)
theorem dX0_soonestOf_10 : decode cX0_soonestOf 10 = .ok (.iload_n 1, 1) := dk_27 (dk_at dksX0_soonestOf_0 10 rfl rfl)
theorem dX0_soonestOf_11 : decode cX0_soonestOf 11 = .ok (.aload_n 0, 1) := dk_42 (dk_at dksX0_soonestOf_0 11 rfl rfl)
theorem dX0_soonestOf_12 : decode cX0_soonestOf 12 = .ok (.invokevirtual 165, 3) := dk_182 0 165 (dk_at dksX0_soonestOf_0 12 rfl rfl)
theorem dX0_soonestOf_15 : decode cX0_soonestOf 15 = .ok (.getfield 282, 3) := dk_180 1 26 (dk_at dksX0_soonestOf_0 15 rfl rfl)
theorem dX0_soonestOf_18 : decode cX0_soonestOf 18 = .ok (.iload_n 2, 1) := dk_28 (dk_at dksX0_soonestOf_0 18 rfl rfl)
theorem dX0_soonestOf_19 : decode cX0_soonestOf 19 = .ok (.iaload, 1) := dk_46 (dk_at dksX0_soonestOf_0 19 rfl rfl)
theorem dX0_soonestOf_20 : decode cX0_soonestOf 20 = .ok (.invokevirtual 366, 3) := dk_182 1 110 (dk_at dksX0_soonestOf_0 20 rfl rfl)
theorem dX0_soonestOf_23 : decode cX0_soonestOf 23 = .ok (.invokevirtual 369, 3) := dk_182 1 113 (dk_at dksX0_soonestOf_1 0 rfl rfl)
theorem dX0_soonestOf_26 : decode cX0_soonestOf 26 = .ok (.istore_n 3, 1) := dk_62 (dk_at dksX0_soonestOf_1 3 rfl rfl)
theorem dX0_soonestOf_27 : decode cX0_soonestOf 27 = .ok (.aload_n 0, 1) := dk_42 (dk_at dksX0_soonestOf_1 4 rfl rfl)
theorem dX0_soonestOf_28 : decode cX0_soonestOf 28 = .ok (.invokevirtual 187, 3) := dk_182 0 187 (dk_at dksX0_soonestOf_1 5 rfl rfl)
theorem dX0_soonestOf_31 : decode cX0_soonestOf 31 = .ok (.iload_n 2, 1) := dk_28 (dk_at dksX0_soonestOf_1 8 rfl rfl)
theorem dX0_soonestOf_32 : decode cX0_soonestOf 32 = .ok (.invokevirtual 190, 3) := dk_182 0 190 (dk_at dksX0_soonestOf_1 9 rfl rfl)
theorem dX0_soonestOf_35 : decode cX0_soonestOf 35 = .ok (.ifCond .eq 30, 3) := dk_153 0 30 (dk_at dksX0_soonestOf_1 12 rfl rfl)
theorem dX0_soonestOf_38 : decode cX0_soonestOf 38 = .ok (.iload_n 3, 1) := dk_29 (dk_at dksX0_soonestOf_1 15 rfl rfl)
theorem dX0_soonestOf_39 : decode cX0_soonestOf 39 = .ok (.aload_n 0, 1) := dk_42 (dk_at dksX0_soonestOf_1 16 rfl rfl)
theorem dX0_soonestOf_40 : decode cX0_soonestOf 40 = .ok (.invokevirtual 187, 3) := dk_182 0 187 (dk_at dksX0_soonestOf_1 17 rfl rfl)
theorem dX0_soonestOf_43 : decode cX0_soonestOf 43 = .ok (.getfield 245, 3) := dk_180 0 245 (dk_at dksX0_soonestOf_1 20 rfl rfl)
theorem dX0_soonestOf_46 : decode cX0_soonestOf 46 = .ok (.if_icmp .gt 19, 3) := dk_163 0 19 (dk_at dksX0_soonestOf_2 0 rfl rfl)
theorem dX0_soonestOf_49 : decode cX0_soonestOf 49 = .ok (.aload_n 0, 1) := dk_42 (dk_at dksX0_soonestOf_2 3 rfl rfl)
theorem dX0_soonestOf_50 : decode cX0_soonestOf 50 = .ok (.invokevirtual 187, 3) := dk_182 0 187 (dk_at dksX0_soonestOf_2 4 rfl rfl)
theorem dX0_soonestOf_53 : decode cX0_soonestOf 53 = .ok (.getfield 271, 3) := dk_180 1 15 (dk_at dksX0_soonestOf_2 7 rfl rfl)
theorem dX0_soonestOf_56 : decode cX0_soonestOf 56 = .ok (.iload_n 1, 1) := dk_27 (dk_at dksX0_soonestOf_2 10 rfl rfl)
theorem dX0_soonestOf_57 : decode cX0_soonestOf 57 = .ok (.iaload, 1) := dk_46 (dk_at dksX0_soonestOf_2 11 rfl rfl)
theorem dX0_soonestOf_58 : decode cX0_soonestOf 58 = .ok (.ifCond .le 7, 3) := dk_158 0 7 (dk_at dksX0_soonestOf_2 12 rfl rfl)
theorem dX0_soonestOf_61 : decode cX0_soonestOf 61 = .ok (.iload_n 3, 1) := dk_29 (dk_at dksX0_soonestOf_2 15 rfl rfl)
theorem dX0_soonestOf_62 : decode cX0_soonestOf 62 = .ok (.goto 4, 3) := dk_167 0 4 (dk_at dksX0_soonestOf_2 16 rfl rfl)
theorem dX0_soonestOf_65 : decode cX0_soonestOf 65 = .ok (.iconst (-1), 1) := dk_2 (dk_at dksX0_soonestOf_2 19 rfl rfl)
theorem dX0_soonestOf_66 : decode cX0_soonestOf 66 = .ok (.ireturn, 1) := dk_172 (dk_at dksX0_soonestOf_2 20 rfl rfl)
abbrev cX0_threat : ByteArray := prog_1_method_55_code
def yX0_threat : MethodName := ⟨RX0, "threat", "(I)I"⟩
def dkwX0_threat_2 : List UInt8 := [29, 120, 128, 61, 132, 3, 1, 167, 255, 223, 28, 172]
abbrev dktX0_threat_2 : List UInt8 := dkwX0_threat_2 ++ []
def dkwX0_threat_1 : List UInt8 := [182, 0, 165, 180, 0, 168, 162, 0, 28, 28, 42, 29, 27, 182, 1, 117, 156, 0, 7, 3, 167, 0, 6, 4]
abbrev dktX0_threat_1 : List UInt8 := dkwX0_threat_1 ++ dktX0_threat_2
def dkwX0_threat_0 : List UInt8 := [42, 42, 27, 182, 1, 89, 181, 0, 85, 42, 180, 0, 85, 158, 0, 5, 2, 172, 3, 61, 3, 62, 29, 42]
abbrev dktX0_threat_0 : List UInt8 := dkwX0_threat_0 ++ dktX0_threat_1
theorem dksX0_threat_0 : cX0_threat.data.toList.drop 0 = dktX0_threat_0 := by decide +kernel
theorem dksX0_threat_1 : cX0_threat.data.toList.drop 24 = dktX0_threat_1 := dk_seg dksX0_threat_0 24 rfl rfl
theorem dksX0_threat_2 : cX0_threat.data.toList.drop 48 = dktX0_threat_2 := dk_seg dksX0_threat_1 24 rfl rfl
theorem dX0_threat_0 : decode cX0_threat 0 = .ok (.aload_n 0, 1) := dk_42 (dk_at dksX0_threat_0 0 rfl rfl)
theorem dX0_threat_1 : decode cX0_threat 1 = .ok (.aload_n 0, 1) := dk_42 (dk_at dksX0_threat_0 1 rfl rfl)
theorem dX0_threat_2 : decode cX0_threat 2 = .ok (.iload_n 1, 1) := dk_27 (dk_at dksX0_threat_0 2 rfl rfl)
theorem dX0_threat_3 : decode cX0_threat 3 = .ok (.invokevirtual 345, 3) := dk_182 1 89 (dk_at dksX0_threat_0 3 rfl rfl)
theorem dX0_threat_6 : decode cX0_threat 6 = .ok (.putfield 85, 3) := dk_181 0 85 (dk_at dksX0_threat_0 6 rfl rfl)
theorem dX0_threat_9 : decode cX0_threat 9 = .ok (.aload_n 0, 1) := dk_42 (dk_at dksX0_threat_0 9 rfl rfl)
theorem dX0_threat_10 : decode cX0_threat 10 = .ok (.getfield 85, 3) := dk_180 0 85 (dk_at dksX0_threat_0 10 rfl rfl)
theorem dX0_threat_13 : decode cX0_threat 13 = .ok (.ifCond .le 5, 3) := dk_158 0 5 (dk_at dksX0_threat_0 13 rfl rfl)
theorem dX0_threat_16 : decode cX0_threat 16 = .ok (.iconst (-1), 1) := dk_2 (dk_at dksX0_threat_0 16 rfl rfl)
theorem dX0_threat_17 : decode cX0_threat 17 = .ok (.ireturn, 1) := dk_172 (dk_at dksX0_threat_0 17 rfl rfl)
theorem dX0_threat_18 : decode cX0_threat 18 = .ok (.iconst 0, 1) := dk_3 (dk_at dksX0_threat_0 18 rfl rfl)
theorem dX0_threat_19 : decode cX0_threat 19 = .ok (.istore_n 2, 1) := dk_61 (dk_at dksX0_threat_0 19 rfl rfl)
theorem dX0_threat_20 : decode cX0_threat 20 = .ok (.iconst 0, 1) := dk_3 (dk_at dksX0_threat_0 20 rfl rfl)
theorem dX0_threat_21 : decode cX0_threat 21 = .ok (.istore_n 3, 1) := dk_62 (dk_at dksX0_threat_0 21 rfl rfl)
theorem dX0_threat_22 : decode cX0_threat 22 = .ok (.iload_n 3, 1) := dk_29 (dk_at dksX0_threat_0 22 rfl rfl)
theorem dX0_threat_23 : decode cX0_threat 23 = .ok (.aload_n 0, 1) := dk_42 (dk_at dksX0_threat_0 23 rfl rfl)
theorem dX0_threat_24 : decode cX0_threat 24 = .ok (.invokevirtual 165, 3) := dk_182 0 165 (dk_at dksX0_threat_1 0 rfl rfl)
theorem dX0_threat_27 : decode cX0_threat 27 = .ok (.getfield 168, 3) := dk_180 0 168 (dk_at dksX0_threat_1 3 rfl rfl)
theorem dX0_threat_30 : decode cX0_threat 30 = .ok (.if_icmp .ge 28, 3) := dk_162 0 28 (dk_at dksX0_threat_1 6 rfl rfl)
theorem dX0_threat_33 : decode cX0_threat 33 = .ok (.iload_n 2, 1) := dk_28 (dk_at dksX0_threat_1 9 rfl rfl)
theorem dX0_threat_34 : decode cX0_threat 34 = .ok (.aload_n 0, 1) := dk_42 (dk_at dksX0_threat_1 10 rfl rfl)
theorem dX0_threat_35 : decode cX0_threat 35 = .ok (.iload_n 3, 1) := dk_29 (dk_at dksX0_threat_1 11 rfl rfl)
theorem dX0_threat_36 : decode cX0_threat 36 = .ok (.iload_n 1, 1) := dk_27 (dk_at dksX0_threat_1 12 rfl rfl)
theorem dX0_threat_37 : decode cX0_threat 37 = .ok (.invokevirtual 373, 3) := dk_182 1 117 (dk_at dksX0_threat_1 13 rfl rfl)
theorem dX0_threat_40 : decode cX0_threat 40 = .ok (.ifCond .ge 7, 3) := dk_156 0 7 (dk_at dksX0_threat_1 16 rfl rfl)
theorem dX0_threat_43 : decode cX0_threat 43 = .ok (.iconst 0, 1) := dk_3 (dk_at dksX0_threat_1 19 rfl rfl)
theorem dX0_threat_44 : decode cX0_threat 44 = .ok (.goto 6, 3) := dk_167 0 6 (dk_at dksX0_threat_1 20 rfl rfl)
theorem dX0_threat_47 : decode cX0_threat 47 = .ok (.iconst 1, 1) := dk_4 (dk_at dksX0_threat_1 23 rfl rfl)
theorem dX0_threat_48 : decode cX0_threat 48 = .ok (.iload_n 3, 1) := dk_29 (dk_at dksX0_threat_2 0 rfl rfl)
theorem dX0_threat_49 : decode cX0_threat 49 = .ok (.ishl, 1) := dk_120 (dk_at dksX0_threat_2 1 rfl rfl)
theorem dX0_threat_50 : decode cX0_threat 50 = .ok (.ior, 1) := dk_128 (dk_at dksX0_threat_2 2 rfl rfl)
theorem dX0_threat_51 : decode cX0_threat 51 = .ok (.istore_n 2, 1) := dk_61 (dk_at dksX0_threat_2 3 rfl rfl)
theorem dX0_threat_52 : decode cX0_threat 52 = .ok (.iinc 3 1, 3) := dk_132 3 1 (dk_at dksX0_threat_2 4 rfl rfl)
theorem dX0_threat_55 : decode cX0_threat 55 = .ok (.goto (-33), 3) := dk_167 255 223 (dk_at dksX0_threat_2 7 rfl rfl)
theorem dX0_threat_58 : decode cX0_threat 58 = .ok (.iload_n 2, 1) := dk_28 (dk_at dksX0_threat_2 10 rfl rfl)
theorem dX0_threat_59 : decode cX0_threat 59 = .ok (.ireturn, 1) := dk_172 (dk_at dksX0_threat_2 11 rfl rfl)
abbrev cX0_best : ByteArray := prog_1_method_58_code
def yX0_best : MethodName := ⟨RX0, "best", "(I)I"⟩
def dkwX0_best_2 : List UInt8 := [3, 42, 180, 1, 123, 184, 0, 150, 42, 42, 180, 1, 123, 181, 1, 135, 42, 180, 1, 120, 172]
abbrev dktX0_best_2 : List UInt8 := dkwX0_best_2 ++ []
def dkwX0_best_1 : List UInt8 := [2, 172, 42, 27, 42, 182, 0, 187, 180, 0, 245, 182, 1, 132, 87, 42, 180, 0, 66, 3, 42, 180, 0, 69]
abbrev dktX0_best_1 : List UInt8 := dkwX0_best_1 ++ dktX0_best_2
def dkwX0_best_0 : List UInt8 := [42, 42, 27, 182, 0, 180, 153, 0, 7, 3, 167, 0, 4, 4, 181, 0, 85, 42, 180, 0, 85, 158, 0, 5]
abbrev dktX0_best_0 : List UInt8 := dkwX0_best_0 ++ dktX0_best_1
theorem dksX0_best_0 : cX0_best.data.toList.drop 0 = dktX0_best_0 := by decide +kernel
theorem dksX0_best_1 : cX0_best.data.toList.drop 24 = dktX0_best_1 := dk_seg dksX0_best_0 24 rfl rfl
theorem dksX0_best_2 : cX0_best.data.toList.drop 48 = dktX0_best_2 := dk_seg dksX0_best_1 24 rfl rfl
theorem dX0_best_0 : decode cX0_best 0 = .ok (.aload_n 0, 1) := dk_42 (dk_at dksX0_best_0 0 rfl rfl)
theorem dX0_best_1 : decode cX0_best 1 = .ok (.aload_n 0, 1) := dk_42 (dk_at dksX0_best_0 1 rfl rfl)
theorem dX0_best_2 : decode cX0_best 2 = .ok (.iload_n 1, 1) := dk_27 (dk_at dksX0_best_0 2 rfl rfl)
theorem dX0_best_3 : decode cX0_best 3 = .ok (.invokevirtual 180, 3) := dk_182 0 180 (dk_at dksX0_best_0 3 rfl rfl)
theorem dX0_best_6 : decode cX0_best 6 = .ok (.ifCond .eq 7, 3) := dk_153 0 7 (dk_at dksX0_best_0 6 rfl rfl)
theorem dX0_best_9 : decode cX0_best 9 = .ok (.iconst 0, 1) := dk_3 (dk_at dksX0_best_0 9 rfl rfl)
theorem dX0_best_10 : decode cX0_best 10 = .ok (.goto 4, 3) := dk_167 0 4 (dk_at dksX0_best_0 10 rfl rfl)
theorem dX0_best_13 : decode cX0_best 13 = .ok (.iconst 1, 1) := dk_4 (dk_at dksX0_best_0 13 rfl rfl)
theorem dX0_best_14 : decode cX0_best 14 = .ok (.putfield 85, 3) := dk_181 0 85 (dk_at dksX0_best_0 14 rfl rfl)
theorem dX0_best_17 : decode cX0_best 17 = .ok (.aload_n 0, 1) := dk_42 (dk_at dksX0_best_0 17 rfl rfl)
theorem dX0_best_18 : decode cX0_best 18 = .ok (.getfield 85, 3) := dk_180 0 85 (dk_at dksX0_best_0 18 rfl rfl)
theorem dX0_best_21 : decode cX0_best 21 = .ok (.ifCond .le 5, 3) := dk_158 0 5 (dk_at dksX0_best_0 21 rfl rfl)
theorem dX0_best_24 : decode cX0_best 24 = .ok (.iconst (-1), 1) := dk_2 (dk_at dksX0_best_1 0 rfl rfl)
theorem dX0_best_25 : decode cX0_best 25 = .ok (.ireturn, 1) := dk_172 (dk_at dksX0_best_1 1 rfl rfl)
theorem dX0_best_26 : decode cX0_best 26 = .ok (.aload_n 0, 1) := dk_42 (dk_at dksX0_best_1 2 rfl rfl)
theorem dX0_best_27 : decode cX0_best 27 = .ok (.iload_n 1, 1) := dk_27 (dk_at dksX0_best_1 3 rfl rfl)
theorem dX0_best_28 : decode cX0_best 28 = .ok (.aload_n 0, 1) := dk_42 (dk_at dksX0_best_1 4 rfl rfl)
theorem dX0_best_29 : decode cX0_best 29 = .ok (.invokevirtual 187, 3) := dk_182 0 187 (dk_at dksX0_best_1 5 rfl rfl)
theorem dX0_best_32 : decode cX0_best 32 = .ok (.getfield 245, 3) := dk_180 0 245 (dk_at dksX0_best_1 8 rfl rfl)
theorem dX0_best_35 : decode cX0_best 35 = .ok (.invokevirtual 388, 3) := dk_182 1 132 (dk_at dksX0_best_1 11 rfl rfl)
theorem dX0_best_38 : decode cX0_best 38 = .ok (.pop, 1) := dk_87 (dk_at dksX0_best_1 14 rfl rfl)
theorem dX0_best_39 : decode cX0_best 39 = .ok (.aload_n 0, 1) := dk_42 (dk_at dksX0_best_1 15 rfl rfl)
theorem dX0_best_40 : decode cX0_best 40 = .ok (.getfield 66, 3) := dk_180 0 66 (dk_at dksX0_best_1 16 rfl rfl)
theorem dX0_best_43 : decode cX0_best 43 = .ok (.iconst 0, 1) := dk_3 (dk_at dksX0_best_1 19 rfl rfl)
theorem dX0_best_44 : decode cX0_best 44 = .ok (.aload_n 0, 1) := dk_42 (dk_at dksX0_best_1 20 rfl rfl)
theorem dX0_best_45 : decode cX0_best 45 = .ok (.getfield 69, 3) := dk_180 0 69 (dk_at dksX0_best_1 21 rfl rfl)
theorem dX0_best_48 : decode cX0_best 48 = .ok (.iconst 0, 1) := dk_3 (dk_at dksX0_best_2 0 rfl rfl)
theorem dX0_best_49 : decode cX0_best 49 = .ok (.aload_n 0, 1) := dk_42 (dk_at dksX0_best_2 1 rfl rfl)
theorem dX0_best_50 : decode cX0_best 50 = .ok (.getfield 379, 3) := dk_180 1 123 (dk_at dksX0_best_2 2 rfl rfl)
theorem dX0_best_53 : decode cX0_best 53 = .ok (.invokestatic 150, 3) := dk_184 0 150 (dk_at dksX0_best_2 5 rfl rfl)
theorem dX0_best_56 : decode cX0_best 56 = .ok (.aload_n 0, 1) := dk_42 (dk_at dksX0_best_2 8 rfl rfl)
theorem dX0_best_57 : decode cX0_best 57 = .ok (.aload_n 0, 1) := dk_42 (dk_at dksX0_best_2 9 rfl rfl)
theorem dX0_best_58 : decode cX0_best 58 = .ok (.getfield 379, 3) := dk_180 1 123 (dk_at dksX0_best_2 10 rfl rfl)
theorem dX0_best_61 : decode cX0_best 61 = .ok (.putfield 391, 3) := dk_181 1 135 (dk_at dksX0_best_2 13 rfl rfl)
theorem dX0_best_64 : decode cX0_best 64 = .ok (.aload_n 0, 1) := dk_42 (dk_at dksX0_best_2 16 rfl rfl)
theorem dX0_best_65 : decode cX0_best 65 = .ok (.getfield 376, 3) := dk_180 1 120 (dk_at dksX0_best_2 17 rfl rfl)
theorem dX0_best_68 : decode cX0_best 68 = .ok (.ireturn, 1) := dk_172 (dk_at dksX0_best_2 20 rfl rfl)
abbrev cX0_bestOf : ByteArray := prog_1_method_57_code
def yX0_bestOf : MethodName := ⟨RX0, "bestOf", "(II)I"⟩
def dkwX0_bestOf_1 : List UInt8 := [182, 0, 187, 180, 1, 18, 27, 46, 28, 3, 3, 3, 182, 1, 128, 42, 180, 1, 120, 172]
abbrev dktX0_bestOf_1 : List UInt8 := dkwX0_bestOf_1 ++ []
def dkwX0_bestOf_0 : List UInt8 := [42, 2, 181, 1, 120, 42, 3, 181, 1, 123, 42, 27, 42, 182, 0, 187, 180, 1, 9, 27, 46, 42]
abbrev dktX0_bestOf_0 : List UInt8 := dkwX0_bestOf_0 ++ dktX0_bestOf_1
theorem dksX0_bestOf_0 : cX0_bestOf.data.toList.drop 0 = dktX0_bestOf_0 := by decide +kernel
theorem dksX0_bestOf_1 : cX0_bestOf.data.toList.drop 22 = dktX0_bestOf_1 := dk_seg dksX0_bestOf_0 22 rfl rfl
theorem dX0_bestOf_0 : decode cX0_bestOf 0 = .ok (.aload_n 0, 1) := dk_42 (dk_at dksX0_bestOf_0 0 rfl rfl)
theorem dX0_bestOf_1 : decode cX0_bestOf 1 = .ok (.iconst (-1), 1) := dk_2 (dk_at dksX0_bestOf_0 1 rfl rfl)
theorem dX0_bestOf_2 : decode cX0_bestOf 2 = .ok (.putfield 376, 3) := dk_181 1 120 (dk_at dksX0_bestOf_0 2 rfl rfl)
theorem dX0_bestOf_5 : decode cX0_bestOf 5 = .ok (.aload_n 0, 1) := dk_42 (dk_at dksX0_bestOf_0 5 rfl rfl)
theorem dX0_bestOf_6 : decode cX0_bestOf 6 = .ok (.iconst 0, 1) := dk_3 (dk_at dksX0_bestOf_0 6 rfl rfl)
theorem dX0_bestOf_7 : decode cX0_bestOf 7 = .ok (.putfield 379, 3) := dk_181 1 123 (dk_at dksX0_bestOf_0 7 rfl rfl)
theorem dX0_bestOf_10 : decode cX0_bestOf 10 = .ok (.aload_n 0, 1) := dk_42 (dk_at dksX0_bestOf_0 10 rfl rfl)
theorem dX0_bestOf_11 : decode cX0_bestOf 11 = .ok (.iload_n 1, 1) := dk_27 (dk_at dksX0_bestOf_0 11 rfl rfl)
theorem dX0_bestOf_12 : decode cX0_bestOf 12 = .ok (.aload_n 0, 1) := dk_42 (dk_at dksX0_bestOf_0 12 rfl rfl)
theorem dX0_bestOf_13 : decode cX0_bestOf 13 = .ok (.invokevirtual 187, 3) := dk_182 0 187 (dk_at dksX0_bestOf_0 13 rfl rfl)
theorem dX0_bestOf_16 : decode cX0_bestOf 16 = .ok (.getfield 265, 3) := dk_180 1 9 (dk_at dksX0_bestOf_0 16 rfl rfl)
theorem dX0_bestOf_19 : decode cX0_bestOf 19 = .ok (.iload_n 1, 1) := dk_27 (dk_at dksX0_bestOf_0 19 rfl rfl)
theorem dX0_bestOf_20 : decode cX0_bestOf 20 = .ok (.iaload, 1) := dk_46 (dk_at dksX0_bestOf_0 20 rfl rfl)
theorem dX0_bestOf_21 : decode cX0_bestOf 21 = .ok (.aload_n 0, 1) := dk_42 (dk_at dksX0_bestOf_0 21 rfl rfl)
theorem dX0_bestOf_22 : decode cX0_bestOf 22 = .ok (.invokevirtual 187, 3) := dk_182 0 187 (dk_at dksX0_bestOf_1 0 rfl rfl)
theorem dX0_bestOf_25 : decode cX0_bestOf 25 = .ok (.getfield 274, 3) := dk_180 1 18 (dk_at dksX0_bestOf_1 3 rfl rfl)
theorem dX0_bestOf_28 : decode cX0_bestOf 28 = .ok (.iload_n 1, 1) := dk_27 (dk_at dksX0_bestOf_1 6 rfl rfl)
theorem dX0_bestOf_29 : decode cX0_bestOf 29 = .ok (.iaload, 1) := dk_46 (dk_at dksX0_bestOf_1 7 rfl rfl)
theorem dX0_bestOf_30 : decode cX0_bestOf 30 = .ok (.iload_n 2, 1) := dk_28 (dk_at dksX0_bestOf_1 8 rfl rfl)
theorem dX0_bestOf_31 : decode cX0_bestOf 31 = .ok (.iconst 0, 1) := dk_3 (dk_at dksX0_bestOf_1 9 rfl rfl)
theorem dX0_bestOf_32 : decode cX0_bestOf 32 = .ok (.iconst 0, 1) := dk_3 (dk_at dksX0_bestOf_1 10 rfl rfl)
theorem dX0_bestOf_33 : decode cX0_bestOf 33 = .ok (.iconst 0, 1) := dk_3 (dk_at dksX0_bestOf_1 11 rfl rfl)
theorem dX0_bestOf_34 : decode cX0_bestOf 34 = .ok (.invokevirtual 384, 3) := dk_182 1 128 (dk_at dksX0_bestOf_1 12 rfl rfl)
theorem dX0_bestOf_37 : decode cX0_bestOf 37 = .ok (.aload_n 0, 1) := dk_42 (dk_at dksX0_bestOf_1 15 rfl rfl)
theorem dX0_bestOf_38 : decode cX0_bestOf 38 = .ok (.getfield 376, 3) := dk_180 1 120 (dk_at dksX0_bestOf_1 16 rfl rfl)
theorem dX0_bestOf_41 : decode cX0_bestOf 41 = .ok (.ireturn, 1) := dk_172 (dk_at dksX0_bestOf_1 19 rfl rfl)
abbrev cX0_round : ByteArray := prog_1_method_56_code
def yX0_round : MethodName := ⟨RX0, "round", "(IIIIIII)V"⟩
def dkwX0_round_9 : List UInt8 := [167, 255, 114, 177]
abbrev dktX0_round_9 : List UInt8 := dkwX0_round_9 ++ []
def dkwX0_round_8 : List UInt8 := [21, 6, 4, 96, 21, 7, 42, 182, 0, 165, 180, 1, 29, 21, 8, 46, 96, 182, 1, 128, 132, 8, 1]
abbrev dktX0_round_8 : List UInt8 := dkwX0_round_8 ++ dktX0_round_9
def dkwX0_round_7 : List UInt8 := [79, 42, 27, 42, 182, 0, 165, 180, 1, 26, 21, 8, 46, 21, 9, 21, 4, 21, 5, 4, 21, 8, 120, 128]
abbrev dktX0_round_7 : List UInt8 := dkwX0_round_7 ++ dktX0_round_8
def dkwX0_round_6 : List UInt8 := [96, 182, 1, 113, 54, 9, 21, 9, 21, 4, 164, 0, 6, 167, 0, 55, 42, 180, 0, 63, 21, 6, 21, 8]
abbrev dktX0_round_6 : List UInt8 := dkwX0_round_6 ++ dktX0_round_7
def dkwX0_round_5 : List UInt8 := [182, 0, 165, 180, 1, 12, 27, 46, 42, 182, 0, 165, 180, 1, 26, 21, 8, 46, 28, 100, 184, 1, 126, 104]
abbrev dktX0_round_5 : List UInt8 := dkwX0_round_5 ++ dktX0_round_6
def dkwX0_round_4 : List UInt8 := [182, 0, 187, 21, 8, 182, 0, 190, 154, 0, 6, 167, 0, 104, 42, 182, 0, 187, 27, 21, 8, 29, 42]
abbrev dktX0_round_4 : List UInt8 := dkwX0_round_4 ++ dktX0_round_5
def dkwX0_round_3 : List UInt8 := [21, 8, 42, 182, 0, 165, 180, 0, 177, 162, 0, 136, 21, 5, 21, 8, 122, 4, 126, 4, 159, 0, 119, 42]
abbrev dktX0_round_3 : List UInt8 := dkwX0_round_3 ++ dktX0_round_4
def dkwX0_round_2 : List UInt8 := [3, 21, 6, 184, 0, 150, 21, 6, 42, 182, 0, 187, 180, 1, 15, 27, 46, 160, 0, 4, 177, 3, 54, 8]
abbrev dktX0_round_2 : List UInt8 := dkwX0_round_2 ++ dktX0_round_3
def dkwX0_round_1 : List UInt8 := [162, 0, 30, 42, 21, 7, 181, 1, 120, 42, 21, 6, 181, 1, 123, 42, 180, 0, 63, 3, 42, 180, 0, 66]
abbrev dktX0_round_1 : List UInt8 := dkwX0_round_1 ++ dktX0_round_2
def dkwX0_round_0 : List UInt8 := [21, 7, 42, 180, 1, 120, 163, 0, 21, 21, 7, 42, 180, 1, 120, 160, 0, 39, 21, 6, 42, 180, 1, 123]
abbrev dktX0_round_0 : List UInt8 := dkwX0_round_0 ++ dktX0_round_1
theorem dksX0_round_0 : cX0_round.data.toList.drop 0 = dktX0_round_0 := by decide +kernel
theorem dksX0_round_1 : cX0_round.data.toList.drop 24 = dktX0_round_1 := dk_seg dksX0_round_0 24 rfl rfl
theorem dksX0_round_2 : cX0_round.data.toList.drop 48 = dktX0_round_2 := dk_seg dksX0_round_1 24 rfl rfl
theorem dksX0_round_3 : cX0_round.data.toList.drop 72 = dktX0_round_3 := dk_seg dksX0_round_2 24 rfl rfl
theorem dksX0_round_4 : cX0_round.data.toList.drop 96 = dktX0_round_4 := dk_seg dksX0_round_3 24 rfl rfl
theorem dksX0_round_5 : cX0_round.data.toList.drop 119 = dktX0_round_5 := dk_seg dksX0_round_4 23 rfl rfl
theorem dksX0_round_6 : cX0_round.data.toList.drop 143 = dktX0_round_6 := dk_seg dksX0_round_5 24 rfl rfl
theorem dksX0_round_7 : cX0_round.data.toList.drop 167 = dktX0_round_7 := dk_seg dksX0_round_6 24 rfl rfl
theorem dksX0_round_8 : cX0_round.data.toList.drop 191 = dktX0_round_8 := dk_seg dksX0_round_7 24 rfl rfl
theorem dksX0_round_9 : cX0_round.data.toList.drop 214 = dktX0_round_9 := dk_seg dksX0_round_8 23 rfl rfl
theorem dX0_round_0 : decode cX0_round 0 = .ok (.iload 7, 2) := dk_21 7 (dk_at dksX0_round_0 0 rfl rfl)
theorem dX0_round_2 : decode cX0_round 2 = .ok (.aload_n 0, 1) := dk_42 (dk_at dksX0_round_0 2 rfl rfl)
theorem dX0_round_3 : decode cX0_round 3 = .ok (.getfield 376, 3) := dk_180 1 120 (dk_at dksX0_round_0 3 rfl rfl)
theorem dX0_round_6 : decode cX0_round 6 = .ok (.if_icmp .gt 21, 3) := dk_163 0 21 (dk_at dksX0_round_0 6 rfl rfl)
theorem dX0_round_9 : decode cX0_round 9 = .ok (.iload 7, 2) := dk_21 7 (dk_at dksX0_round_0 9 rfl rfl)
theorem dX0_round_11 : decode cX0_round 11 = .ok (.aload_n 0, 1) := dk_42 (dk_at dksX0_round_0 11 rfl rfl)
theorem dX0_round_12 : decode cX0_round 12 = .ok (.getfield 376, 3) := dk_180 1 120 (dk_at dksX0_round_0 12 rfl rfl)
theorem dX0_round_15 : decode cX0_round 15 = .ok (.if_icmp .ne 39, 3) := dk_160 0 39 (dk_at dksX0_round_0 15 rfl rfl)
theorem dX0_round_18 : decode cX0_round 18 = .ok (.iload 6, 2) := dk_21 6 (dk_at dksX0_round_0 18 rfl rfl)
theorem dX0_round_20 : decode cX0_round 20 = .ok (.aload_n 0, 1) := dk_42 (dk_at dksX0_round_0 20 rfl rfl)
theorem dX0_round_21 : decode cX0_round 21 = .ok (.getfield 379, 3) := dk_180 1 123 (dk_at dksX0_round_0 21 rfl rfl)
theorem dX0_round_24 : decode cX0_round 24 = .ok (.if_icmp .ge 30, 3) := dk_162 0 30 (dk_at dksX0_round_1 0 rfl rfl)
theorem dX0_round_27 : decode cX0_round 27 = .ok (.aload_n 0, 1) := dk_42 (dk_at dksX0_round_1 3 rfl rfl)
theorem dX0_round_28 : decode cX0_round 28 = .ok (.iload 7, 2) := dk_21 7 (dk_at dksX0_round_1 4 rfl rfl)
theorem dX0_round_30 : decode cX0_round 30 = .ok (.putfield 376, 3) := dk_181 1 120 (dk_at dksX0_round_1 6 rfl rfl)
theorem dX0_round_33 : decode cX0_round 33 = .ok (.aload_n 0, 1) := dk_42 (dk_at dksX0_round_1 9 rfl rfl)
theorem dX0_round_34 : decode cX0_round 34 = .ok (.iload 6, 2) := dk_21 6 (dk_at dksX0_round_1 10 rfl rfl)
theorem dX0_round_36 : decode cX0_round 36 = .ok (.putfield 379, 3) := dk_181 1 123 (dk_at dksX0_round_1 12 rfl rfl)
theorem dX0_round_39 : decode cX0_round 39 = .ok (.aload_n 0, 1) := dk_42 (dk_at dksX0_round_1 15 rfl rfl)
theorem dX0_round_40 : decode cX0_round 40 = .ok (.getfield 63, 3) := dk_180 0 63 (dk_at dksX0_round_1 16 rfl rfl)
theorem dX0_round_43 : decode cX0_round 43 = .ok (.iconst 0, 1) := dk_3 (dk_at dksX0_round_1 19 rfl rfl)
theorem dX0_round_44 : decode cX0_round 44 = .ok (.aload_n 0, 1) := dk_42 (dk_at dksX0_round_1 20 rfl rfl)
theorem dX0_round_45 : decode cX0_round 45 = .ok (.getfield 66, 3) := dk_180 0 66 (dk_at dksX0_round_1 21 rfl rfl)
theorem dX0_round_48 : decode cX0_round 48 = .ok (.iconst 0, 1) := dk_3 (dk_at dksX0_round_2 0 rfl rfl)
theorem dX0_round_49 : decode cX0_round 49 = .ok (.iload 6, 2) := dk_21 6 (dk_at dksX0_round_2 1 rfl rfl)
theorem dX0_round_51 : decode cX0_round 51 = .ok (.invokestatic 150, 3) := dk_184 0 150 (dk_at dksX0_round_2 3 rfl rfl)
theorem dX0_round_54 : decode cX0_round 54 = .ok (.iload 6, 2) := dk_21 6 (dk_at dksX0_round_2 6 rfl rfl)
theorem dX0_round_56 : decode cX0_round 56 = .ok (.aload_n 0, 1) := dk_42 (dk_at dksX0_round_2 8 rfl rfl)
theorem dX0_round_57 : decode cX0_round 57 = .ok (.invokevirtual 187, 3) := dk_182 0 187 (dk_at dksX0_round_2 9 rfl rfl)
theorem dX0_round_60 : decode cX0_round 60 = .ok (.getfield 271, 3) := dk_180 1 15 (dk_at dksX0_round_2 12 rfl rfl)
theorem dX0_round_63 : decode cX0_round 63 = .ok (.iload_n 1, 1) := dk_27 (dk_at dksX0_round_2 15 rfl rfl)
theorem dX0_round_64 : decode cX0_round 64 = .ok (.iaload, 1) := dk_46 (dk_at dksX0_round_2 16 rfl rfl)
theorem dX0_round_65 : decode cX0_round 65 = .ok (.if_icmp .ne 4, 3) := dk_160 0 4 (dk_at dksX0_round_2 17 rfl rfl)
theorem dX0_round_68 : decode cX0_round 68 = .ok (.return_, 1) := dk_177 (dk_at dksX0_round_2 20 rfl rfl)
theorem dX0_round_69 : decode cX0_round 69 = .ok (.iconst 0, 1) := dk_3 (dk_at dksX0_round_2 21 rfl rfl)
theorem dX0_round_70 : decode cX0_round 70 = .ok (.istore 8, 2) := dk_54 8 (dk_at dksX0_round_2 22 rfl rfl)
theorem dX0_round_72 : decode cX0_round 72 = .ok (.iload 8, 2) := dk_21 8 (dk_at dksX0_round_3 0 rfl rfl)
theorem dX0_round_74 : decode cX0_round 74 = .ok (.aload_n 0, 1) := dk_42 (dk_at dksX0_round_3 2 rfl rfl)
theorem dX0_round_75 : decode cX0_round 75 = .ok (.invokevirtual 165, 3) := dk_182 0 165 (dk_at dksX0_round_3 3 rfl rfl)
theorem dX0_round_78 : decode cX0_round 78 = .ok (.getfield 177, 3) := dk_180 0 177 (dk_at dksX0_round_3 6 rfl rfl)
theorem dX0_round_81 : decode cX0_round 81 = .ok (.if_icmp .ge 136, 3) := dk_162 0 136 (dk_at dksX0_round_3 9 rfl rfl)
theorem dX0_round_84 : decode cX0_round 84 = .ok (.iload 5, 2) := dk_21 5 (dk_at dksX0_round_3 12 rfl rfl)
theorem dX0_round_86 : decode cX0_round 86 = .ok (.iload 8, 2) := dk_21 8 (dk_at dksX0_round_3 14 rfl rfl)
theorem dX0_round_88 : decode cX0_round 88 = .ok (.ishr, 1) := dk_122 (dk_at dksX0_round_3 16 rfl rfl)
theorem dX0_round_89 : decode cX0_round 89 = .ok (.iconst 1, 1) := dk_4 (dk_at dksX0_round_3 17 rfl rfl)
theorem dX0_round_90 : decode cX0_round 90 = .ok (.iand, 1) := dk_126 (dk_at dksX0_round_3 18 rfl rfl)
theorem dX0_round_91 : decode cX0_round 91 = .ok (.iconst 1, 1) := dk_4 (dk_at dksX0_round_3 19 rfl rfl)
theorem dX0_round_92 : decode cX0_round 92 = .ok (.if_icmp .eq 119, 3) := dk_159 0 119 (dk_at dksX0_round_3 20 rfl rfl)
theorem dX0_round_95 : decode cX0_round 95 = .ok (.aload_n 0, 1) := dk_42 (dk_at dksX0_round_3 23 rfl rfl)
theorem dX0_round_96 : decode cX0_round 96 = .ok (.invokevirtual 187, 3) := dk_182 0 187 (dk_at dksX0_round_4 0 rfl rfl)
theorem dX0_round_99 : decode cX0_round 99 = .ok (.iload 8, 2) := dk_21 8 (dk_at dksX0_round_4 3 rfl rfl)
theorem dX0_round_101 : decode cX0_round 101 = .ok (.invokevirtual 190, 3) := dk_182 0 190 (dk_at dksX0_round_4 5 rfl rfl)
theorem dX0_round_104 : decode cX0_round 104 = .ok (.ifCond .ne 6, 3) := dk_154 0 6 (dk_at dksX0_round_4 8 rfl rfl)
theorem dX0_round_107 : decode cX0_round 107 = .ok (.goto 104, 3) := dk_167 0 104 (dk_at dksX0_round_4 11 rfl rfl)
theorem dX0_round_110 : decode cX0_round 110 = .ok (.aload_n 0, 1) := dk_42 (dk_at dksX0_round_4 14 rfl rfl)
theorem dX0_round_111 : decode cX0_round 111 = .ok (.invokevirtual 187, 3) := dk_182 0 187 (dk_at dksX0_round_4 15 rfl rfl)
theorem dX0_round_114 : decode cX0_round 114 = .ok (.iload_n 1, 1) := dk_27 (dk_at dksX0_round_4 18 rfl rfl)
theorem dX0_round_115 : decode cX0_round 115 = .ok (.iload 8, 2) := dk_21 8 (dk_at dksX0_round_4 19 rfl rfl)
theorem dX0_round_117 : decode cX0_round 117 = .ok (.iload_n 3, 1) := dk_29 (dk_at dksX0_round_4 21 rfl rfl)
theorem dX0_round_118 : decode cX0_round 118 = .ok (.aload_n 0, 1) := dk_42 (dk_at dksX0_round_4 22 rfl rfl)
theorem dX0_round_119 : decode cX0_round 119 = .ok (.invokevirtual 165, 3) := dk_182 0 165 (dk_at dksX0_round_5 0 rfl rfl)
theorem dX0_round_122 : decode cX0_round 122 = .ok (.getfield 268, 3) := dk_180 1 12 (dk_at dksX0_round_5 3 rfl rfl)
theorem dX0_round_125 : decode cX0_round 125 = .ok (.iload_n 1, 1) := dk_27 (dk_at dksX0_round_5 6 rfl rfl)
theorem dX0_round_126 : decode cX0_round 126 = .ok (.iaload, 1) := dk_46 (dk_at dksX0_round_5 7 rfl rfl)
theorem dX0_round_127 : decode cX0_round 127 = .ok (.aload_n 0, 1) := dk_42 (dk_at dksX0_round_5 8 rfl rfl)
theorem dX0_round_128 : decode cX0_round 128 = .ok (.invokevirtual 165, 3) := dk_182 0 165 (dk_at dksX0_round_5 9 rfl rfl)
theorem dX0_round_131 : decode cX0_round 131 = .ok (.getfield 282, 3) := dk_180 1 26 (dk_at dksX0_round_5 12 rfl rfl)
theorem dX0_round_134 : decode cX0_round 134 = .ok (.iload 8, 2) := dk_21 8 (dk_at dksX0_round_5 15 rfl rfl)
theorem dX0_round_136 : decode cX0_round 136 = .ok (.iaload, 1) := dk_46 (dk_at dksX0_round_5 17 rfl rfl)
theorem dX0_round_137 : decode cX0_round 137 = .ok (.iload_n 2, 1) := dk_28 (dk_at dksX0_round_5 18 rfl rfl)
theorem dX0_round_138 : decode cX0_round 138 = .ok (.isub, 1) := dk_100 (dk_at dksX0_round_5 19 rfl rfl)
theorem dX0_round_139 : decode cX0_round 139 = .ok (.invokestatic 382, 3) := dk_184 1 126 (dk_at dksX0_round_5 20 rfl rfl)
theorem dX0_round_142 : decode cX0_round 142 = .ok (.imul, 1) := dk_104 (dk_at dksX0_round_5 23 rfl rfl)
theorem dX0_round_143 : decode cX0_round 143 = .ok (.iadd, 1) := dk_96 (dk_at dksX0_round_6 0 rfl rfl)
theorem dX0_round_144 : decode cX0_round 144 = .ok (.invokevirtual 369, 3) := dk_182 1 113 (dk_at dksX0_round_6 1 rfl rfl)
theorem dX0_round_147 : decode cX0_round 147 = .ok (.istore 9, 2) := dk_54 9 (dk_at dksX0_round_6 4 rfl rfl)
theorem dX0_round_149 : decode cX0_round 149 = .ok (.iload 9, 2) := dk_21 9 (dk_at dksX0_round_6 6 rfl rfl)
theorem dX0_round_151 : decode cX0_round 151 = .ok (.iload 4, 2) := dk_21 4 (dk_at dksX0_round_6 8 rfl rfl)
theorem dX0_round_153 : decode cX0_round 153 = .ok (.if_icmp .le 6, 3) := dk_164 0 6 (dk_at dksX0_round_6 10 rfl rfl)
theorem dX0_round_156 : decode cX0_round 156 = .ok (.goto 55, 3) := dk_167 0 55 (dk_at dksX0_round_6 13 rfl rfl)
theorem dX0_round_159 : decode cX0_round 159 = .ok (.aload_n 0, 1) := dk_42 (dk_at dksX0_round_6 16 rfl rfl)
theorem dX0_round_160 : decode cX0_round 160 = .ok (.getfield 63, 3) := dk_180 0 63 (dk_at dksX0_round_6 17 rfl rfl)
theorem dX0_round_163 : decode cX0_round 163 = .ok (.iload 6, 2) := dk_21 6 (dk_at dksX0_round_6 20 rfl rfl)
theorem dX0_round_165 : decode cX0_round 165 = .ok (.iload 8, 2) := dk_21 8 (dk_at dksX0_round_6 22 rfl rfl)
theorem dX0_round_167 : decode cX0_round 167 = .ok (.iastore, 1) := dk_79 (dk_at dksX0_round_7 0 rfl rfl)
theorem dX0_round_168 : decode cX0_round 168 = .ok (.aload_n 0, 1) := dk_42 (dk_at dksX0_round_7 1 rfl rfl)
theorem dX0_round_169 : decode cX0_round 169 = .ok (.iload_n 1, 1) := dk_27 (dk_at dksX0_round_7 2 rfl rfl)
theorem dX0_round_170 : decode cX0_round 170 = .ok (.aload_n 0, 1) := dk_42 (dk_at dksX0_round_7 3 rfl rfl)
theorem dX0_round_171 : decode cX0_round 171 = .ok (.invokevirtual 165, 3) := dk_182 0 165 (dk_at dksX0_round_7 4 rfl rfl)
theorem dX0_round_174 : decode cX0_round 174 = .ok (.getfield 282, 3) := dk_180 1 26 (dk_at dksX0_round_7 7 rfl rfl)
theorem dX0_round_177 : decode cX0_round 177 = .ok (.iload 8, 2) := dk_21 8 (dk_at dksX0_round_7 10 rfl rfl)
theorem dX0_round_179 : decode cX0_round 179 = .ok (.iaload, 1) := dk_46 (dk_at dksX0_round_7 12 rfl rfl)
theorem dX0_round_180 : decode cX0_round 180 = .ok (.iload 9, 2) := dk_21 9 (dk_at dksX0_round_7 13 rfl rfl)
theorem dX0_round_182 : decode cX0_round 182 = .ok (.iload 4, 2) := dk_21 4 (dk_at dksX0_round_7 15 rfl rfl)
theorem dX0_round_184 : decode cX0_round 184 = .ok (.iload 5, 2) := dk_21 5 (dk_at dksX0_round_7 17 rfl rfl)
theorem dX0_round_186 : decode cX0_round 186 = .ok (.iconst 1, 1) := dk_4 (dk_at dksX0_round_7 19 rfl rfl)
theorem dX0_round_187 : decode cX0_round 187 = .ok (.iload 8, 2) := dk_21 8 (dk_at dksX0_round_7 20 rfl rfl)
theorem dX0_round_189 : decode cX0_round 189 = .ok (.ishl, 1) := dk_120 (dk_at dksX0_round_7 22 rfl rfl)
theorem dX0_round_190 : decode cX0_round 190 = .ok (.ior, 1) := dk_128 (dk_at dksX0_round_7 23 rfl rfl)
theorem dX0_round_191 : decode cX0_round 191 = .ok (.iload 6, 2) := dk_21 6 (dk_at dksX0_round_8 0 rfl rfl)
theorem dX0_round_193 : decode cX0_round 193 = .ok (.iconst 1, 1) := dk_4 (dk_at dksX0_round_8 2 rfl rfl)
theorem dX0_round_194 : decode cX0_round 194 = .ok (.iadd, 1) := dk_96 (dk_at dksX0_round_8 3 rfl rfl)
theorem dX0_round_195 : decode cX0_round 195 = .ok (.iload 7, 2) := dk_21 7 (dk_at dksX0_round_8 4 rfl rfl)
theorem dX0_round_197 : decode cX0_round 197 = .ok (.aload_n 0, 1) := dk_42 (dk_at dksX0_round_8 6 rfl rfl)
theorem dX0_round_198 : decode cX0_round 198 = .ok (.invokevirtual 165, 3) := dk_182 0 165 (dk_at dksX0_round_8 7 rfl rfl)
theorem dX0_round_201 : decode cX0_round 201 = .ok (.getfield 285, 3) := dk_180 1 29 (dk_at dksX0_round_8 10 rfl rfl)
theorem dX0_round_204 : decode cX0_round 204 = .ok (.iload 8, 2) := dk_21 8 (dk_at dksX0_round_8 13 rfl rfl)
theorem dX0_round_206 : decode cX0_round 206 = .ok (.iaload, 1) := dk_46 (dk_at dksX0_round_8 15 rfl rfl)
theorem dX0_round_207 : decode cX0_round 207 = .ok (.iadd, 1) := dk_96 (dk_at dksX0_round_8 16 rfl rfl)
theorem dX0_round_208 : decode cX0_round 208 = .ok (.invokevirtual 384, 3) := dk_182 1 128 (dk_at dksX0_round_8 17 rfl rfl)
theorem dX0_round_211 : decode cX0_round 211 = .ok (.iinc 8 1, 3) := dk_132 8 1 (dk_at dksX0_round_8 20 rfl rfl)
theorem dX0_round_214 : decode cX0_round 214 = .ok (.goto (-142), 3) := dk_167 255 114 (dk_at dksX0_round_9 0 rfl rfl)
theorem dX0_round_217 : decode cX0_round 217 = .ok (.return_, 1) := dk_177 (dk_at dksX0_round_9 3 rfl rfl)
abbrev cX0_bestAt : ByteArray := prog_1_method_59_code
def yX0_bestAt : MethodName := ⟨RX0, "bestAt", "(I)I"⟩
def dkwX0_bestAt_1 : List UInt8 := [167, 0, 4, 2, 182, 1, 99, 172]
abbrev dktX0_bestAt_1 : List UInt8 := dkwX0_bestAt_1 ++ []
def dkwX0_bestAt_0 : List UInt8 := [42, 27, 133, 9, 42, 180, 1, 135, 4, 100, 133, 184, 0, 173, 153, 0, 12, 42, 180, 0, 69, 27, 46]
abbrev dktX0_bestAt_0 : List UInt8 := dkwX0_bestAt_0 ++ dktX0_bestAt_1
theorem dksX0_bestAt_0 : cX0_bestAt.data.toList.drop 0 = dktX0_bestAt_0 := by decide +kernel
theorem dksX0_bestAt_1 : cX0_bestAt.data.toList.drop 23 = dktX0_bestAt_1 := dk_seg dksX0_bestAt_0 23 rfl rfl
theorem dX0_bestAt_0 : decode cX0_bestAt 0 = .ok (.aload_n 0, 1) := dk_42 (dk_at dksX0_bestAt_0 0 rfl rfl)
theorem dX0_bestAt_1 : decode cX0_bestAt 1 = .ok (.iload_n 1, 1) := dk_27 (dk_at dksX0_bestAt_0 1 rfl rfl)
theorem dX0_bestAt_2 : decode cX0_bestAt 2 = .ok (.i2l, 1) := dk_133 (dk_at dksX0_bestAt_0 2 rfl rfl)
theorem dX0_bestAt_3 : decode cX0_bestAt 3 = .ok (.lconst 0, 1) := dk_9 (dk_at dksX0_bestAt_0 3 rfl rfl)
theorem dX0_bestAt_4 : decode cX0_bestAt 4 = .ok (.aload_n 0, 1) := dk_42 (dk_at dksX0_bestAt_0 4 rfl rfl)
theorem dX0_bestAt_5 : decode cX0_bestAt 5 = .ok (.getfield 391, 3) := dk_180 1 135 (dk_at dksX0_bestAt_0 5 rfl rfl)
theorem dX0_bestAt_8 : decode cX0_bestAt 8 = .ok (.iconst 1, 1) := dk_4 (dk_at dksX0_bestAt_0 8 rfl rfl)
theorem dX0_bestAt_9 : decode cX0_bestAt 9 = .ok (.isub, 1) := dk_100 (dk_at dksX0_bestAt_0 9 rfl rfl)
theorem dX0_bestAt_10 : decode cX0_bestAt 10 = .ok (.i2l, 1) := dk_133 (dk_at dksX0_bestAt_0 10 rfl rfl)
theorem dX0_bestAt_11 : decode cX0_bestAt 11 = .ok (.invokestatic 173, 3) := dk_184 0 173 (dk_at dksX0_bestAt_0 11 rfl rfl)
theorem dX0_bestAt_14 : decode cX0_bestAt 14 = .ok (.ifCond .eq 12, 3) := dk_153 0 12 (dk_at dksX0_bestAt_0 14 rfl rfl)
theorem dX0_bestAt_17 : decode cX0_bestAt 17 = .ok (.aload_n 0, 1) := dk_42 (dk_at dksX0_bestAt_0 17 rfl rfl)
theorem dX0_bestAt_18 : decode cX0_bestAt 18 = .ok (.getfield 69, 3) := dk_180 0 69 (dk_at dksX0_bestAt_0 18 rfl rfl)
theorem dX0_bestAt_21 : decode cX0_bestAt 21 = .ok (.iload_n 1, 1) := dk_27 (dk_at dksX0_bestAt_0 21 rfl rfl)
theorem dX0_bestAt_22 : decode cX0_bestAt 22 = .ok (.iaload, 1) := dk_46 (dk_at dksX0_bestAt_0 22 rfl rfl)
theorem dX0_bestAt_23 : decode cX0_bestAt 23 = .ok (.goto 4, 3) := dk_167 0 4 (dk_at dksX0_bestAt_1 0 rfl rfl)
theorem dX0_bestAt_26 : decode cX0_bestAt 26 = .ok (.iconst (-1), 1) := dk_2 (dk_at dksX0_bestAt_1 3 rfl rfl)
theorem dX0_bestAt_27 : decode cX0_bestAt 27 = .ok (.invokevirtual 355, 3) := dk_182 1 99 (dk_at dksX0_bestAt_1 4 rfl rfl)
theorem dX0_bestAt_30 : decode cX0_bestAt 30 = .ok (.ireturn, 1) := dk_172 (dk_at dksX0_bestAt_1 7 rfl rfl)
abbrev cX0_lateness : ByteArray := prog_1_method_60_code
def yX0_lateness : MethodName := ⟨RX0, "lateness", "(II)I"⟩
def dkwX0_lateness_2 : List UInt8 := [180, 0, 245, 182, 1, 132, 62, 42, 27, 42, 182, 0, 187, 180, 0, 245, 28, 96, 182, 1, 132, 29, 100, 172]
abbrev dktX0_lateness_2 : List UInt8 := dkwX0_lateness_2 ++ []
def dkwX0_lateness_1 : List UInt8 := [167, 0, 4, 4, 181, 0, 85, 42, 180, 0, 85, 158, 0, 5, 2, 172, 42, 27, 42, 182, 0, 187]
abbrev dktX0_lateness_1 : List UInt8 := dkwX0_lateness_1 ++ dktX0_lateness_2
def dkwX0_lateness_0 : List UInt8 := [42, 42, 27, 182, 0, 180, 153, 0, 19, 28, 133, 9, 20, 1, 50, 184, 0, 173, 153, 0, 7, 3]
abbrev dktX0_lateness_0 : List UInt8 := dkwX0_lateness_0 ++ dktX0_lateness_1
theorem dksX0_lateness_0 : cX0_lateness.data.toList.drop 0 = dktX0_lateness_0 := by decide +kernel
theorem dksX0_lateness_1 : cX0_lateness.data.toList.drop 22 = dktX0_lateness_1 := dk_seg dksX0_lateness_0 22 rfl rfl
theorem dksX0_lateness_2 : cX0_lateness.data.toList.drop 44 = dktX0_lateness_2 := dk_seg dksX0_lateness_1 22 rfl rfl
theorem dX0_lateness_0 : decode cX0_lateness 0 = .ok (.aload_n 0, 1) := dk_42 (dk_at dksX0_lateness_0 0 rfl rfl)
theorem dX0_lateness_1 : decode cX0_lateness 1 = .ok (.aload_n 0, 1) := dk_42 (dk_at dksX0_lateness_0 1 rfl rfl)
theorem dX0_lateness_2 : decode cX0_lateness 2 = .ok (.iload_n 1, 1) := dk_27 (dk_at dksX0_lateness_0 2 rfl rfl)
theorem dX0_lateness_3 : decode cX0_lateness 3 = .ok (.invokevirtual 180, 3) := dk_182 0 180 (dk_at dksX0_lateness_0 3 rfl rfl)
theorem dX0_lateness_6 : decode cX0_lateness 6 = .ok (.ifCond .eq 19, 3) := dk_153 0 19 (dk_at dksX0_lateness_0 6 rfl rfl)
theorem dX0_lateness_9 : decode cX0_lateness 9 = .ok (.iload_n 2, 1) := dk_28 (dk_at dksX0_lateness_0 9 rfl rfl)
theorem dX0_lateness_10 : decode cX0_lateness 10 = .ok (.i2l, 1) := dk_133 (dk_at dksX0_lateness_0 10 rfl rfl)
theorem dX0_lateness_11 : decode cX0_lateness 11 = .ok (.lconst 0, 1) := dk_9 (dk_at dksX0_lateness_0 11 rfl rfl)
theorem dX0_lateness_12 : decode cX0_lateness 12 = .ok (.ldc2_w 306, 3) := dk_20 1 50 (dk_at dksX0_lateness_0 12 rfl rfl)
theorem dX0_lateness_15 : decode cX0_lateness 15 = .ok (.invokestatic 173, 3) := dk_184 0 173 (dk_at dksX0_lateness_0 15 rfl rfl)
theorem dX0_lateness_18 : decode cX0_lateness 18 = .ok (.ifCond .eq 7, 3) := dk_153 0 7 (dk_at dksX0_lateness_0 18 rfl rfl)
theorem dX0_lateness_21 : decode cX0_lateness 21 = .ok (.iconst 0, 1) := dk_3 (dk_at dksX0_lateness_0 21 rfl rfl)
theorem dX0_lateness_22 : decode cX0_lateness 22 = .ok (.goto 4, 3) := dk_167 0 4 (dk_at dksX0_lateness_1 0 rfl rfl)
theorem dX0_lateness_25 : decode cX0_lateness 25 = .ok (.iconst 1, 1) := dk_4 (dk_at dksX0_lateness_1 3 rfl rfl)
theorem dX0_lateness_26 : decode cX0_lateness 26 = .ok (.putfield 85, 3) := dk_181 0 85 (dk_at dksX0_lateness_1 4 rfl rfl)
theorem dX0_lateness_29 : decode cX0_lateness 29 = .ok (.aload_n 0, 1) := dk_42 (dk_at dksX0_lateness_1 7 rfl rfl)
theorem dX0_lateness_30 : decode cX0_lateness 30 = .ok (.getfield 85, 3) := dk_180 0 85 (dk_at dksX0_lateness_1 8 rfl rfl)
theorem dX0_lateness_33 : decode cX0_lateness 33 = .ok (.ifCond .le 5, 3) := dk_158 0 5 (dk_at dksX0_lateness_1 11 rfl rfl)
theorem dX0_lateness_36 : decode cX0_lateness 36 = .ok (.iconst (-1), 1) := dk_2 (dk_at dksX0_lateness_1 14 rfl rfl)
theorem dX0_lateness_37 : decode cX0_lateness 37 = .ok (.ireturn, 1) := dk_172 (dk_at dksX0_lateness_1 15 rfl rfl)
theorem dX0_lateness_38 : decode cX0_lateness 38 = .ok (.aload_n 0, 1) := dk_42 (dk_at dksX0_lateness_1 16 rfl rfl)
theorem dX0_lateness_39 : decode cX0_lateness 39 = .ok (.iload_n 1, 1) := dk_27 (dk_at dksX0_lateness_1 17 rfl rfl)
theorem dX0_lateness_40 : decode cX0_lateness 40 = .ok (.aload_n 0, 1) := dk_42 (dk_at dksX0_lateness_1 18 rfl rfl)
theorem dX0_lateness_41 : decode cX0_lateness 41 = .ok (.invokevirtual 187, 3) := dk_182 0 187 (dk_at dksX0_lateness_1 19 rfl rfl)
theorem dX0_lateness_44 : decode cX0_lateness 44 = .ok (.getfield 245, 3) := dk_180 0 245 (dk_at dksX0_lateness_2 0 rfl rfl)
theorem dX0_lateness_47 : decode cX0_lateness 47 = .ok (.invokevirtual 388, 3) := dk_182 1 132 (dk_at dksX0_lateness_2 3 rfl rfl)
theorem dX0_lateness_50 : decode cX0_lateness 50 = .ok (.istore_n 3, 1) := dk_62 (dk_at dksX0_lateness_2 6 rfl rfl)
theorem dX0_lateness_51 : decode cX0_lateness 51 = .ok (.aload_n 0, 1) := dk_42 (dk_at dksX0_lateness_2 7 rfl rfl)
theorem dX0_lateness_52 : decode cX0_lateness 52 = .ok (.iload_n 1, 1) := dk_27 (dk_at dksX0_lateness_2 8 rfl rfl)
theorem dX0_lateness_53 : decode cX0_lateness 53 = .ok (.aload_n 0, 1) := dk_42 (dk_at dksX0_lateness_2 9 rfl rfl)
theorem dX0_lateness_54 : decode cX0_lateness 54 = .ok (.invokevirtual 187, 3) := dk_182 0 187 (dk_at dksX0_lateness_2 10 rfl rfl)
theorem dX0_lateness_57 : decode cX0_lateness 57 = .ok (.getfield 245, 3) := dk_180 0 245 (dk_at dksX0_lateness_2 13 rfl rfl)
theorem dX0_lateness_60 : decode cX0_lateness 60 = .ok (.iload_n 2, 1) := dk_28 (dk_at dksX0_lateness_2 16 rfl rfl)
theorem dX0_lateness_61 : decode cX0_lateness 61 = .ok (.iadd, 1) := dk_96 (dk_at dksX0_lateness_2 17 rfl rfl)
theorem dX0_lateness_62 : decode cX0_lateness 62 = .ok (.invokevirtual 388, 3) := dk_182 1 132 (dk_at dksX0_lateness_2 18 rfl rfl)
theorem dX0_lateness_65 : decode cX0_lateness 65 = .ok (.iload_n 3, 1) := dk_29 (dk_at dksX0_lateness_2 21 rfl rfl)
theorem dX0_lateness_66 : decode cX0_lateness 66 = .ok (.isub, 1) := dk_100 (dk_at dksX0_lateness_2 22 rfl rfl)
theorem dX0_lateness_67 : decode cX0_lateness 67 = .ok (.ireturn, 1) := dk_172 (dk_at dksX0_lateness_2 23 rfl rfl)
abbrev cX0_seen : ByteArray := prog_1_method_61_code
def yX0_seen : MethodName := ⟨RX0, "seen", "(II)I"⟩
def dkwX0_seen_2 : List UInt8 := [172]
abbrev dktX0_seen_2 : List UInt8 := dkwX0_seen_2 ++ []
def dkwX0_seen_1 : List UInt8 := [167, 0, 4, 4, 181, 0, 85, 42, 180, 0, 85, 158, 0, 7, 2, 167, 0, 9, 42, 27, 28, 182, 1, 138]
abbrev dktX0_seen_1 : List UInt8 := dkwX0_seen_1 ++ dktX0_seen_2
def dkwX0_seen_0 : List UInt8 := [42, 42, 27, 182, 0, 180, 153, 0, 19, 28, 133, 9, 20, 1, 79, 184, 0, 173, 153, 0, 7, 3]
abbrev dktX0_seen_0 : List UInt8 := dkwX0_seen_0 ++ dktX0_seen_1
theorem dksX0_seen_0 : cX0_seen.data.toList.drop 0 = dktX0_seen_0 := by decide +kernel
theorem dksX0_seen_1 : cX0_seen.data.toList.drop 22 = dktX0_seen_1 := dk_seg dksX0_seen_0 22 rfl rfl
theorem dksX0_seen_2 : cX0_seen.data.toList.drop 46 = dktX0_seen_2 := dk_seg dksX0_seen_1 24 rfl rfl
theorem dX0_seen_0 : decode cX0_seen 0 = .ok (.aload_n 0, 1) := dk_42 (dk_at dksX0_seen_0 0 rfl rfl)
theorem dX0_seen_1 : decode cX0_seen 1 = .ok (.aload_n 0, 1) := dk_42 (dk_at dksX0_seen_0 1 rfl rfl)
theorem dX0_seen_2 : decode cX0_seen 2 = .ok (.iload_n 1, 1) := dk_27 (dk_at dksX0_seen_0 2 rfl rfl)
theorem dX0_seen_3 : decode cX0_seen 3 = .ok (.invokevirtual 180, 3) := dk_182 0 180 (dk_at dksX0_seen_0 3 rfl rfl)
theorem dX0_seen_6 : decode cX0_seen 6 = .ok (.ifCond .eq 19, 3) := dk_153 0 19 (dk_at dksX0_seen_0 6 rfl rfl)
theorem dX0_seen_9 : decode cX0_seen 9 = .ok (.iload_n 2, 1) := dk_28 (dk_at dksX0_seen_0 9 rfl rfl)
theorem dX0_seen_10 : decode cX0_seen 10 = .ok (.i2l, 1) := dk_133 (dk_at dksX0_seen_0 10 rfl rfl)
theorem dX0_seen_11 : decode cX0_seen 11 = .ok (.lconst 0, 1) := dk_9 (dk_at dksX0_seen_0 11 rfl rfl)
theorem dX0_seen_12 : decode cX0_seen 12 = .ok (.ldc2_w 335, 3) := dk_20 1 79 (dk_at dksX0_seen_0 12 rfl rfl)
theorem dX0_seen_15 : decode cX0_seen 15 = .ok (.invokestatic 173, 3) := dk_184 0 173 (dk_at dksX0_seen_0 15 rfl rfl)
theorem dX0_seen_18 : decode cX0_seen 18 = .ok (.ifCond .eq 7, 3) := dk_153 0 7 (dk_at dksX0_seen_0 18 rfl rfl)
theorem dX0_seen_21 : decode cX0_seen 21 = .ok (.iconst 0, 1) := dk_3 (dk_at dksX0_seen_0 21 rfl rfl)
theorem dX0_seen_22 : decode cX0_seen 22 = .ok (.goto 4, 3) := dk_167 0 4 (dk_at dksX0_seen_1 0 rfl rfl)
theorem dX0_seen_25 : decode cX0_seen 25 = .ok (.iconst 1, 1) := dk_4 (dk_at dksX0_seen_1 3 rfl rfl)
theorem dX0_seen_26 : decode cX0_seen 26 = .ok (.putfield 85, 3) := dk_181 0 85 (dk_at dksX0_seen_1 4 rfl rfl)
theorem dX0_seen_29 : decode cX0_seen 29 = .ok (.aload_n 0, 1) := dk_42 (dk_at dksX0_seen_1 7 rfl rfl)
theorem dX0_seen_30 : decode cX0_seen 30 = .ok (.getfield 85, 3) := dk_180 0 85 (dk_at dksX0_seen_1 8 rfl rfl)
theorem dX0_seen_33 : decode cX0_seen 33 = .ok (.ifCond .le 7, 3) := dk_158 0 7 (dk_at dksX0_seen_1 11 rfl rfl)
theorem dX0_seen_36 : decode cX0_seen 36 = .ok (.iconst (-1), 1) := dk_2 (dk_at dksX0_seen_1 14 rfl rfl)
theorem dX0_seen_37 : decode cX0_seen 37 = .ok (.goto 9, 3) := dk_167 0 9 (dk_at dksX0_seen_1 15 rfl rfl)
theorem dX0_seen_40 : decode cX0_seen 40 = .ok (.aload_n 0, 1) := dk_42 (dk_at dksX0_seen_1 18 rfl rfl)
theorem dX0_seen_41 : decode cX0_seen 41 = .ok (.iload_n 1, 1) := dk_27 (dk_at dksX0_seen_1 19 rfl rfl)
theorem dX0_seen_42 : decode cX0_seen 42 = .ok (.iload_n 2, 1) := dk_28 (dk_at dksX0_seen_1 20 rfl rfl)
theorem dX0_seen_43 : decode cX0_seen 43 = .ok (.invokevirtual 394, 3) := dk_182 1 138 (dk_at dksX0_seen_1 21 rfl rfl)
theorem dX0_seen_46 : decode cX0_seen 46 = .ok (.ireturn, 1) := dk_172 (dk_at dksX0_seen_2 0 rfl rfl)
abbrev cX0_seenBy : ByteArray := prog_1_method_62_code
def yX0_seenBy : MethodName := ⟨RX0, "seenBy", "(II)I"⟩
def dkwX0_seenBy_3 : List UInt8 := [167, 255, 191, 29, 172]
abbrev dktX0_seenBy_3 : List UInt8 := dkwX0_seenBy_3 ++ []
def dkwX0_seenBy_2 : List UInt8 := [46, 100, 184, 1, 126, 28, 163, 0, 10, 4, 21, 4, 120, 167, 0, 4, 3, 128, 62, 132, 4, 1]
abbrev dktX0_seenBy_2 : List UInt8 := dkwX0_seenBy_2 ++ dktX0_seenBy_3
def dkwX0_seenBy_1 : List UInt8 := [182, 0, 190, 153, 0, 37, 42, 182, 0, 165, 180, 1, 26, 21, 4, 46, 42, 182, 0, 187, 180, 1, 9, 27]
abbrev dktX0_seenBy_1 : List UInt8 := dkwX0_seenBy_1 ++ dktX0_seenBy_2
def dkwX0_seenBy_0 : List UInt8 := [3, 62, 3, 54, 4, 21, 4, 42, 182, 0, 165, 180, 0, 177, 162, 0, 59, 29, 42, 182, 0, 187, 21, 4]
abbrev dktX0_seenBy_0 : List UInt8 := dkwX0_seenBy_0 ++ dktX0_seenBy_1
theorem dksX0_seenBy_0 : cX0_seenBy.data.toList.drop 0 = dktX0_seenBy_0 := by decide +kernel
theorem dksX0_seenBy_1 : cX0_seenBy.data.toList.drop 24 = dktX0_seenBy_1 := dk_seg dksX0_seenBy_0 24 rfl rfl
theorem dksX0_seenBy_2 : cX0_seenBy.data.toList.drop 48 = dktX0_seenBy_2 := dk_seg dksX0_seenBy_1 24 rfl rfl
theorem dksX0_seenBy_3 : cX0_seenBy.data.toList.drop 70 = dktX0_seenBy_3 := dk_seg dksX0_seenBy_2 22 rfl rfl
theorem dX0_seenBy_0 : decode cX0_seenBy 0 = .ok (.iconst 0, 1) := dk_3 (dk_at dksX0_seenBy_0 0 rfl rfl)
theorem dX0_seenBy_1 : decode cX0_seenBy 1 = .ok (.istore_n 3, 1) := dk_62 (dk_at dksX0_seenBy_0 1 rfl rfl)
theorem dX0_seenBy_2 : decode cX0_seenBy 2 = .ok (.iconst 0, 1) := dk_3 (dk_at dksX0_seenBy_0 2 rfl rfl)
theorem dX0_seenBy_3 : decode cX0_seenBy 3 = .ok (.istore 4, 2) := dk_54 4 (dk_at dksX0_seenBy_0 3 rfl rfl)
theorem dX0_seenBy_5 : decode cX0_seenBy 5 = .ok (.iload 4, 2) := dk_21 4 (dk_at dksX0_seenBy_0 5 rfl rfl)
theorem dX0_seenBy_7 : decode cX0_seenBy 7 = .ok (.aload_n 0, 1) := dk_42 (dk_at dksX0_seenBy_0 7 rfl rfl)
theorem dX0_seenBy_8 : decode cX0_seenBy 8 = .ok (.invokevirtual 165, 3) := dk_182 0 165 (dk_at dksX0_seenBy_0 8 rfl rfl)
theorem dX0_seenBy_11 : decode cX0_seenBy 11 = .ok (.getfield 177, 3) := dk_180 0 177 (dk_at dksX0_seenBy_0 11 rfl rfl)
theorem dX0_seenBy_14 : decode cX0_seenBy 14 = .ok (.if_icmp .ge 59, 3) := dk_162 0 59 (dk_at dksX0_seenBy_0 14 rfl rfl)
theorem dX0_seenBy_17 : decode cX0_seenBy 17 = .ok (.iload_n 3, 1) := dk_29 (dk_at dksX0_seenBy_0 17 rfl rfl)
theorem dX0_seenBy_18 : decode cX0_seenBy 18 = .ok (.aload_n 0, 1) := dk_42 (dk_at dksX0_seenBy_0 18 rfl rfl)
theorem dX0_seenBy_19 : decode cX0_seenBy 19 = .ok (.invokevirtual 187, 3) := dk_182 0 187 (dk_at dksX0_seenBy_0 19 rfl rfl)
theorem dX0_seenBy_22 : decode cX0_seenBy 22 = .ok (.iload 4, 2) := dk_21 4 (dk_at dksX0_seenBy_0 22 rfl rfl)
theorem dX0_seenBy_24 : decode cX0_seenBy 24 = .ok (.invokevirtual 190, 3) := dk_182 0 190 (dk_at dksX0_seenBy_1 0 rfl rfl)
theorem dX0_seenBy_27 : decode cX0_seenBy 27 = .ok (.ifCond .eq 37, 3) := dk_153 0 37 (dk_at dksX0_seenBy_1 3 rfl rfl)
theorem dX0_seenBy_30 : decode cX0_seenBy 30 = .ok (.aload_n 0, 1) := dk_42 (dk_at dksX0_seenBy_1 6 rfl rfl)
theorem dX0_seenBy_31 : decode cX0_seenBy 31 = .ok (.invokevirtual 165, 3) := dk_182 0 165 (dk_at dksX0_seenBy_1 7 rfl rfl)
theorem dX0_seenBy_34 : decode cX0_seenBy 34 = .ok (.getfield 282, 3) := dk_180 1 26 (dk_at dksX0_seenBy_1 10 rfl rfl)
theorem dX0_seenBy_37 : decode cX0_seenBy 37 = .ok (.iload 4, 2) := dk_21 4 (dk_at dksX0_seenBy_1 13 rfl rfl)
theorem dX0_seenBy_39 : decode cX0_seenBy 39 = .ok (.iaload, 1) := dk_46 (dk_at dksX0_seenBy_1 15 rfl rfl)
theorem dX0_seenBy_40 : decode cX0_seenBy 40 = .ok (.aload_n 0, 1) := dk_42 (dk_at dksX0_seenBy_1 16 rfl rfl)
theorem dX0_seenBy_41 : decode cX0_seenBy 41 = .ok (.invokevirtual 187, 3) := dk_182 0 187 (dk_at dksX0_seenBy_1 17 rfl rfl)
theorem dX0_seenBy_44 : decode cX0_seenBy 44 = .ok (.getfield 265, 3) := dk_180 1 9 (dk_at dksX0_seenBy_1 20 rfl rfl)
theorem dX0_seenBy_47 : decode cX0_seenBy 47 = .ok (.iload_n 1, 1) := dk_27 (dk_at dksX0_seenBy_1 23 rfl rfl)
theorem dX0_seenBy_48 : decode cX0_seenBy 48 = .ok (.iaload, 1) := dk_46 (dk_at dksX0_seenBy_2 0 rfl rfl)
theorem dX0_seenBy_49 : decode cX0_seenBy 49 = .ok (.isub, 1) := dk_100 (dk_at dksX0_seenBy_2 1 rfl rfl)
theorem dX0_seenBy_50 : decode cX0_seenBy 50 = .ok (.invokestatic 382, 3) := dk_184 1 126 (dk_at dksX0_seenBy_2 2 rfl rfl)
theorem dX0_seenBy_53 : decode cX0_seenBy 53 = .ok (.iload_n 2, 1) := dk_28 (dk_at dksX0_seenBy_2 5 rfl rfl)
theorem dX0_seenBy_54 : decode cX0_seenBy 54 = .ok (.if_icmp .gt 10, 3) := dk_163 0 10 (dk_at dksX0_seenBy_2 6 rfl rfl)
theorem dX0_seenBy_57 : decode cX0_seenBy 57 = .ok (.iconst 1, 1) := dk_4 (dk_at dksX0_seenBy_2 9 rfl rfl)
theorem dX0_seenBy_58 : decode cX0_seenBy 58 = .ok (.iload 4, 2) := dk_21 4 (dk_at dksX0_seenBy_2 10 rfl rfl)
theorem dX0_seenBy_60 : decode cX0_seenBy 60 = .ok (.ishl, 1) := dk_120 (dk_at dksX0_seenBy_2 12 rfl rfl)
theorem dX0_seenBy_61 : decode cX0_seenBy 61 = .ok (.goto 4, 3) := dk_167 0 4 (dk_at dksX0_seenBy_2 13 rfl rfl)
theorem dX0_seenBy_64 : decode cX0_seenBy 64 = .ok (.iconst 0, 1) := dk_3 (dk_at dksX0_seenBy_2 16 rfl rfl)
theorem dX0_seenBy_65 : decode cX0_seenBy 65 = .ok (.ior, 1) := dk_128 (dk_at dksX0_seenBy_2 17 rfl rfl)
theorem dX0_seenBy_66 : decode cX0_seenBy 66 = .ok (.istore_n 3, 1) := dk_62 (dk_at dksX0_seenBy_2 18 rfl rfl)
theorem dX0_seenBy_67 : decode cX0_seenBy 67 = .ok (.iinc 4 1, 3) := dk_132 4 1 (dk_at dksX0_seenBy_2 19 rfl rfl)
theorem dX0_seenBy_70 : decode cX0_seenBy 70 = .ok (.goto (-65), 3) := dk_167 255 191 (dk_at dksX0_seenBy_3 0 rfl rfl)
theorem dX0_seenBy_73 : decode cX0_seenBy 73 = .ok (.iload_n 3, 1) := dk_29 (dk_at dksX0_seenBy_3 3 rfl rfl)
theorem dX0_seenBy_74 : decode cX0_seenBy 74 = .ok (.ireturn, 1) := dk_172 (dk_at dksX0_seenBy_3 4 rfl rfl)
abbrev cX0_boys : ByteArray := prog_1_method_64_code
def yX0_boys : MethodName := ⟨RX0, "boys", "(I)I"⟩
def dkwX0_boys_1 : List UInt8 := [180, 0, 85, 158, 0, 7, 2, 167, 0, 8, 42, 27, 182, 1, 144, 172]
abbrev dktX0_boys_1 : List UInt8 := dkwX0_boys_1 ++ []
def dkwX0_boys_0 : List UInt8 := [42, 27, 133, 9, 20, 1, 79, 184, 0, 173, 153, 0, 7, 3, 167, 0, 4, 4, 181, 0, 85, 42]
abbrev dktX0_boys_0 : List UInt8 := dkwX0_boys_0 ++ dktX0_boys_1
theorem dksX0_boys_0 : cX0_boys.data.toList.drop 0 = dktX0_boys_0 := by decide +kernel
theorem dksX0_boys_1 : cX0_boys.data.toList.drop 22 = dktX0_boys_1 := dk_seg dksX0_boys_0 22 rfl rfl
theorem dX0_boys_0 : decode cX0_boys 0 = .ok (.aload_n 0, 1) := dk_42 (dk_at dksX0_boys_0 0 rfl rfl)
theorem dX0_boys_1 : decode cX0_boys 1 = .ok (.iload_n 1, 1) := dk_27 (dk_at dksX0_boys_0 1 rfl rfl)
theorem dX0_boys_2 : decode cX0_boys 2 = .ok (.i2l, 1) := dk_133 (dk_at dksX0_boys_0 2 rfl rfl)
theorem dX0_boys_3 : decode cX0_boys 3 = .ok (.lconst 0, 1) := dk_9 (dk_at dksX0_boys_0 3 rfl rfl)
theorem dX0_boys_4 : decode cX0_boys 4 = .ok (.ldc2_w 335, 3) := dk_20 1 79 (dk_at dksX0_boys_0 4 rfl rfl)
theorem dX0_boys_7 : decode cX0_boys 7 = .ok (.invokestatic 173, 3) := dk_184 0 173 (dk_at dksX0_boys_0 7 rfl rfl)
theorem dX0_boys_10 : decode cX0_boys 10 = .ok (.ifCond .eq 7, 3) := dk_153 0 7 (dk_at dksX0_boys_0 10 rfl rfl)
theorem dX0_boys_13 : decode cX0_boys 13 = .ok (.iconst 0, 1) := dk_3 (dk_at dksX0_boys_0 13 rfl rfl)
theorem dX0_boys_14 : decode cX0_boys 14 = .ok (.goto 4, 3) := dk_167 0 4 (dk_at dksX0_boys_0 14 rfl rfl)
theorem dX0_boys_17 : decode cX0_boys 17 = .ok (.iconst 1, 1) := dk_4 (dk_at dksX0_boys_0 17 rfl rfl)
theorem dX0_boys_18 : decode cX0_boys 18 = .ok (.putfield 85, 3) := dk_181 0 85 (dk_at dksX0_boys_0 18 rfl rfl)
theorem dX0_boys_21 : decode cX0_boys 21 = .ok (.aload_n 0, 1) := dk_42 (dk_at dksX0_boys_0 21 rfl rfl)
theorem dX0_boys_22 : decode cX0_boys 22 = .ok (.getfield 85, 3) := dk_180 0 85 (dk_at dksX0_boys_1 0 rfl rfl)
theorem dX0_boys_25 : decode cX0_boys 25 = .ok (.ifCond .le 7, 3) := dk_158 0 7 (dk_at dksX0_boys_1 3 rfl rfl)
theorem dX0_boys_28 : decode cX0_boys 28 = .ok (.iconst (-1), 1) := dk_2 (dk_at dksX0_boys_1 6 rfl rfl)
theorem dX0_boys_29 : decode cX0_boys 29 = .ok (.goto 8, 3) := dk_167 0 8 (dk_at dksX0_boys_1 7 rfl rfl)
theorem dX0_boys_32 : decode cX0_boys 32 = .ok (.aload_n 0, 1) := dk_42 (dk_at dksX0_boys_1 10 rfl rfl)
theorem dX0_boys_33 : decode cX0_boys 33 = .ok (.iload_n 1, 1) := dk_27 (dk_at dksX0_boys_1 11 rfl rfl)
theorem dX0_boys_34 : decode cX0_boys 34 = .ok (.invokevirtual 400, 3) := dk_182 1 144 (dk_at dksX0_boys_1 12 rfl rfl)
theorem dX0_boys_37 : decode cX0_boys 37 = .ok (.ireturn, 1) := dk_172 (dk_at dksX0_boys_1 15 rfl rfl)
abbrev cX0_watches : ByteArray := prog_1_method_63_code
def yX0_watches : MethodName := ⟨RX0, "watches", "(I)I"⟩
def dkwX0_watches_5 : List UInt8 := [96, 184, 1, 141, 79, 132, 2, 1, 132, 3, 1, 167, 255, 130, 28, 172]
abbrev dktX0_watches_5 : List UInt8 := dkwX0_watches_5 ++ []
def dkwX0_watches_4 : List UInt8 := [27, 96, 163, 0, 6, 167, 0, 27, 42, 180, 0, 72, 28, 42, 182, 0, 165, 180, 0, 242, 4, 100, 29, 27]
abbrev dktX0_watches_4 : List UInt8 := dkwX0_watches_4 ++ dktX0_watches_5
def dkwX0_watches_3 : List UInt8 := [132, 5, 1, 167, 255, 203, 21, 4, 153, 0, 48, 28, 158, 0, 20, 29, 42, 180, 0, 72, 28, 4, 100, 46]
abbrev dktX0_watches_3 : List UInt8 := dkwX0_watches_3 ++ dktX0_watches_4
def dkwX0_watches_2 : List UInt8 := [153, 0, 21, 42, 182, 0, 165, 180, 1, 26, 21, 5, 46, 29, 160, 0, 7, 4, 167, 0, 4, 3, 54, 4]
abbrev dktX0_watches_2 : List UInt8 := dkwX0_watches_2 ++ dktX0_watches_3
def dkwX0_watches_1 : List UInt8 := [182, 0, 165, 180, 0, 177, 162, 0, 47, 21, 4, 154, 0, 29, 42, 182, 0, 187, 21, 5, 182, 0, 190]
abbrev dktX0_watches_1 : List UInt8 := dkwX0_watches_1 ++ dktX0_watches_2
def dkwX0_watches_0 : List UInt8 := [3, 61, 3, 62, 29, 42, 182, 0, 165, 180, 0, 242, 162, 0, 121, 3, 54, 4, 3, 54, 5, 21, 5, 42]
abbrev dktX0_watches_0 : List UInt8 := dkwX0_watches_0 ++ dktX0_watches_1
theorem dksX0_watches_0 : cX0_watches.data.toList.drop 0 = dktX0_watches_0 := by decide +kernel
theorem dksX0_watches_1 : cX0_watches.data.toList.drop 24 = dktX0_watches_1 := dk_seg dksX0_watches_0 24 rfl rfl
theorem dksX0_watches_2 : cX0_watches.data.toList.drop 47 = dktX0_watches_2 := dk_seg dksX0_watches_1 23 rfl rfl
theorem dksX0_watches_3 : cX0_watches.data.toList.drop 71 = dktX0_watches_3 := dk_seg dksX0_watches_2 24 rfl rfl
theorem dksX0_watches_4 : cX0_watches.data.toList.drop 95 = dktX0_watches_4 := dk_seg dksX0_watches_3 24 rfl rfl
theorem dksX0_watches_5 : cX0_watches.data.toList.drop 119 = dktX0_watches_5 := dk_seg dksX0_watches_4 24 rfl rfl
theorem dX0_watches_0 : decode cX0_watches 0 = .ok (.iconst 0, 1) := dk_3 (dk_at dksX0_watches_0 0 rfl rfl)
theorem dX0_watches_1 : decode cX0_watches 1 = .ok (.istore_n 2, 1) := dk_61 (dk_at dksX0_watches_0 1 rfl rfl)
theorem dX0_watches_2 : decode cX0_watches 2 = .ok (.iconst 0, 1) := dk_3 (dk_at dksX0_watches_0 2 rfl rfl)
theorem dX0_watches_3 : decode cX0_watches 3 = .ok (.istore_n 3, 1) := dk_62 (dk_at dksX0_watches_0 3 rfl rfl)
theorem dX0_watches_4 : decode cX0_watches 4 = .ok (.iload_n 3, 1) := dk_29 (dk_at dksX0_watches_0 4 rfl rfl)
theorem dX0_watches_5 : decode cX0_watches 5 = .ok (.aload_n 0, 1) := dk_42 (dk_at dksX0_watches_0 5 rfl rfl)
theorem dX0_watches_6 : decode cX0_watches 6 = .ok (.invokevirtual 165, 3) := dk_182 0 165 (dk_at dksX0_watches_0 6 rfl rfl)
theorem dX0_watches_9 : decode cX0_watches 9 = .ok (.getfield 242, 3) := dk_180 0 242 (dk_at dksX0_watches_0 9 rfl rfl)
theorem dX0_watches_12 : decode cX0_watches 12 = .ok (.if_icmp .ge 121, 3) := dk_162 0 121 (dk_at dksX0_watches_0 12 rfl rfl)
theorem dX0_watches_15 : decode cX0_watches 15 = .ok (.iconst 0, 1) := dk_3 (dk_at dksX0_watches_0 15 rfl rfl)
theorem dX0_watches_16 : decode cX0_watches 16 = .ok (.istore 4, 2) := dk_54 4 (dk_at dksX0_watches_0 16 rfl rfl)
theorem dX0_watches_18 : decode cX0_watches 18 = .ok (.iconst 0, 1) := dk_3 (dk_at dksX0_watches_0 18 rfl rfl)
theorem dX0_watches_19 : decode cX0_watches 19 = .ok (.istore 5, 2) := dk_54 5 (dk_at dksX0_watches_0 19 rfl rfl)
theorem dX0_watches_21 : decode cX0_watches 21 = .ok (.iload 5, 2) := dk_21 5 (dk_at dksX0_watches_0 21 rfl rfl)
theorem dX0_watches_23 : decode cX0_watches 23 = .ok (.aload_n 0, 1) := dk_42 (dk_at dksX0_watches_0 23 rfl rfl)
theorem dX0_watches_24 : decode cX0_watches 24 = .ok (.invokevirtual 165, 3) := dk_182 0 165 (dk_at dksX0_watches_1 0 rfl rfl)
theorem dX0_watches_27 : decode cX0_watches 27 = .ok (.getfield 177, 3) := dk_180 0 177 (dk_at dksX0_watches_1 3 rfl rfl)
theorem dX0_watches_30 : decode cX0_watches 30 = .ok (.if_icmp .ge 47, 3) := dk_162 0 47 (dk_at dksX0_watches_1 6 rfl rfl)
theorem dX0_watches_33 : decode cX0_watches 33 = .ok (.iload 4, 2) := dk_21 4 (dk_at dksX0_watches_1 9 rfl rfl)
theorem dX0_watches_35 : decode cX0_watches 35 = .ok (.ifCond .ne 29, 3) := dk_154 0 29 (dk_at dksX0_watches_1 11 rfl rfl)
theorem dX0_watches_38 : decode cX0_watches 38 = .ok (.aload_n 0, 1) := dk_42 (dk_at dksX0_watches_1 14 rfl rfl)
theorem dX0_watches_39 : decode cX0_watches 39 = .ok (.invokevirtual 187, 3) := dk_182 0 187 (dk_at dksX0_watches_1 15 rfl rfl)
theorem dX0_watches_42 : decode cX0_watches 42 = .ok (.iload 5, 2) := dk_21 5 (dk_at dksX0_watches_1 18 rfl rfl)
theorem dX0_watches_44 : decode cX0_watches 44 = .ok (.invokevirtual 190, 3) := dk_182 0 190 (dk_at dksX0_watches_1 20 rfl rfl)
theorem dX0_watches_47 : decode cX0_watches 47 = .ok (.ifCond .eq 21, 3) := dk_153 0 21 (dk_at dksX0_watches_2 0 rfl rfl)
theorem dX0_watches_50 : decode cX0_watches 50 = .ok (.aload_n 0, 1) := dk_42 (dk_at dksX0_watches_2 3 rfl rfl)
theorem dX0_watches_51 : decode cX0_watches 51 = .ok (.invokevirtual 165, 3) := dk_182 0 165 (dk_at dksX0_watches_2 4 rfl rfl)
theorem dX0_watches_54 : decode cX0_watches 54 = .ok (.getfield 282, 3) := dk_180 1 26 (dk_at dksX0_watches_2 7 rfl rfl)
theorem dX0_watches_57 : decode cX0_watches 57 = .ok (.iload 5, 2) := dk_21 5 (dk_at dksX0_watches_2 10 rfl rfl)
theorem dX0_watches_59 : decode cX0_watches 59 = .ok (.iaload, 1) := dk_46 (dk_at dksX0_watches_2 12 rfl rfl)
theorem dX0_watches_60 : decode cX0_watches 60 = .ok (.iload_n 3, 1) := dk_29 (dk_at dksX0_watches_2 13 rfl rfl)
theorem dX0_watches_61 : decode cX0_watches 61 = .ok (.if_icmp .ne 7, 3) := dk_160 0 7 (dk_at dksX0_watches_2 14 rfl rfl)
theorem dX0_watches_64 : decode cX0_watches 64 = .ok (.iconst 1, 1) := dk_4 (dk_at dksX0_watches_2 17 rfl rfl)
theorem dX0_watches_65 : decode cX0_watches 65 = .ok (.goto 4, 3) := dk_167 0 4 (dk_at dksX0_watches_2 18 rfl rfl)
theorem dX0_watches_68 : decode cX0_watches 68 = .ok (.iconst 0, 1) := dk_3 (dk_at dksX0_watches_2 21 rfl rfl)
theorem dX0_watches_69 : decode cX0_watches 69 = .ok (.istore 4, 2) := dk_54 4 (dk_at dksX0_watches_2 22 rfl rfl)
theorem dX0_watches_71 : decode cX0_watches 71 = .ok (.iinc 5 1, 3) := dk_132 5 1 (dk_at dksX0_watches_3 0 rfl rfl)
theorem dX0_watches_74 : decode cX0_watches 74 = .ok (.goto (-53), 3) := dk_167 255 203 (dk_at dksX0_watches_3 3 rfl rfl)
theorem dX0_watches_77 : decode cX0_watches 77 = .ok (.iload 4, 2) := dk_21 4 (dk_at dksX0_watches_3 6 rfl rfl)
theorem dX0_watches_79 : decode cX0_watches 79 = .ok (.ifCond .eq 48, 3) := dk_153 0 48 (dk_at dksX0_watches_3 8 rfl rfl)
theorem dX0_watches_82 : decode cX0_watches 82 = .ok (.iload_n 2, 1) := dk_28 (dk_at dksX0_watches_3 11 rfl rfl)
theorem dX0_watches_83 : decode cX0_watches 83 = .ok (.ifCond .le 20, 3) := dk_158 0 20 (dk_at dksX0_watches_3 12 rfl rfl)
theorem dX0_watches_86 : decode cX0_watches 86 = .ok (.iload_n 3, 1) := dk_29 (dk_at dksX0_watches_3 15 rfl rfl)
theorem dX0_watches_87 : decode cX0_watches 87 = .ok (.aload_n 0, 1) := dk_42 (dk_at dksX0_watches_3 16 rfl rfl)
theorem dX0_watches_88 : decode cX0_watches 88 = .ok (.getfield 72, 3) := dk_180 0 72 (dk_at dksX0_watches_3 17 rfl rfl)
theorem dX0_watches_91 : decode cX0_watches 91 = .ok (.iload_n 2, 1) := dk_28 (dk_at dksX0_watches_3 20 rfl rfl)
theorem dX0_watches_92 : decode cX0_watches 92 = .ok (.iconst 1, 1) := dk_4 (dk_at dksX0_watches_3 21 rfl rfl)
theorem dX0_watches_93 : decode cX0_watches 93 = .ok (.isub, 1) := dk_100 (dk_at dksX0_watches_3 22 rfl rfl)
theorem dX0_watches_94 : decode cX0_watches 94 = .ok (.iaload, 1) := dk_46 (dk_at dksX0_watches_3 23 rfl rfl)
theorem dX0_watches_95 : decode cX0_watches 95 = .ok (.iload_n 1, 1) := dk_27 (dk_at dksX0_watches_4 0 rfl rfl)
theorem dX0_watches_96 : decode cX0_watches 96 = .ok (.iadd, 1) := dk_96 (dk_at dksX0_watches_4 1 rfl rfl)
theorem dX0_watches_97 : decode cX0_watches 97 = .ok (.if_icmp .gt 6, 3) := dk_163 0 6 (dk_at dksX0_watches_4 2 rfl rfl)
theorem dX0_watches_100 : decode cX0_watches 100 = .ok (.goto 27, 3) := dk_167 0 27 (dk_at dksX0_watches_4 5 rfl rfl)
theorem dX0_watches_103 : decode cX0_watches 103 = .ok (.aload_n 0, 1) := dk_42 (dk_at dksX0_watches_4 8 rfl rfl)
theorem dX0_watches_104 : decode cX0_watches 104 = .ok (.getfield 72, 3) := dk_180 0 72 (dk_at dksX0_watches_4 9 rfl rfl)
theorem dX0_watches_107 : decode cX0_watches 107 = .ok (.iload_n 2, 1) := dk_28 (dk_at dksX0_watches_4 12 rfl rfl)
theorem dX0_watches_108 : decode cX0_watches 108 = .ok (.aload_n 0, 1) := dk_42 (dk_at dksX0_watches_4 13 rfl rfl)
theorem dX0_watches_109 : decode cX0_watches 109 = .ok (.invokevirtual 165, 3) := dk_182 0 165 (dk_at dksX0_watches_4 14 rfl rfl)
theorem dX0_watches_112 : decode cX0_watches 112 = .ok (.getfield 242, 3) := dk_180 0 242 (dk_at dksX0_watches_4 17 rfl rfl)
theorem dX0_watches_115 : decode cX0_watches 115 = .ok (.iconst 1, 1) := dk_4 (dk_at dksX0_watches_4 20 rfl rfl)
theorem dX0_watches_116 : decode cX0_watches 116 = .ok (.isub, 1) := dk_100 (dk_at dksX0_watches_4 21 rfl rfl)
theorem dX0_watches_117 : decode cX0_watches 117 = .ok (.iload_n 3, 1) := dk_29 (dk_at dksX0_watches_4 22 rfl rfl)
theorem dX0_watches_118 : decode cX0_watches 118 = .ok (.iload_n 1, 1) := dk_27 (dk_at dksX0_watches_4 23 rfl rfl)
theorem dX0_watches_119 : decode cX0_watches 119 = .ok (.iadd, 1) := dk_96 (dk_at dksX0_watches_5 0 rfl rfl)
theorem dX0_watches_120 : decode cX0_watches 120 = .ok (.invokestatic 397, 3) := dk_184 1 141 (dk_at dksX0_watches_5 1 rfl rfl)
theorem dX0_watches_123 : decode cX0_watches 123 = .ok (.iastore, 1) := dk_79 (dk_at dksX0_watches_5 4 rfl rfl)
theorem dX0_watches_124 : decode cX0_watches 124 = .ok (.iinc 2 1, 3) := dk_132 2 1 (dk_at dksX0_watches_5 5 rfl rfl)
theorem dX0_watches_127 : decode cX0_watches 127 = .ok (.iinc 3 1, 3) := dk_132 3 1 (dk_at dksX0_watches_5 8 rfl rfl)
theorem dX0_watches_130 : decode cX0_watches 130 = .ok (.goto (-126), 3) := dk_167 255 130 (dk_at dksX0_watches_5 11 rfl rfl)
theorem dX0_watches_133 : decode cX0_watches 133 = .ok (.iload_n 2, 1) := dk_28 (dk_at dksX0_watches_5 14 rfl rfl)
theorem dX0_watches_134 : decode cX0_watches 134 = .ok (.ireturn, 1) := dk_172 (dk_at dksX0_watches_5 15 rfl rfl)
abbrev cX0_boyAt : ByteArray := prog_1_method_65_code
def yX0_boyAt : MethodName := ⟨RX0, "boyAt", "(II)I"⟩
def dkwX0_boyAt_2 : List UInt8 := [184, 0, 173, 153, 0, 12, 42, 180, 0, 72, 28, 46, 167, 0, 4, 2, 182, 1, 99, 172]
abbrev dktX0_boyAt_2 : List UInt8 := dkwX0_boyAt_2 ++ []
def dkwX0_boyAt_1 : List UInt8 := [180, 0, 85, 158, 0, 7, 2, 167, 0, 34, 42, 28, 133, 9, 42, 27, 182, 1, 144, 4, 100, 133]
abbrev dktX0_boyAt_1 : List UInt8 := dkwX0_boyAt_1 ++ dktX0_boyAt_2
def dkwX0_boyAt_0 : List UInt8 := [42, 27, 133, 9, 20, 1, 79, 184, 0, 173, 153, 0, 7, 3, 167, 0, 4, 4, 181, 0, 85, 42]
abbrev dktX0_boyAt_0 : List UInt8 := dkwX0_boyAt_0 ++ dktX0_boyAt_1
theorem dksX0_boyAt_0 : cX0_boyAt.data.toList.drop 0 = dktX0_boyAt_0 := by decide +kernel
theorem dksX0_boyAt_1 : cX0_boyAt.data.toList.drop 22 = dktX0_boyAt_1 := dk_seg dksX0_boyAt_0 22 rfl rfl
theorem dksX0_boyAt_2 : cX0_boyAt.data.toList.drop 44 = dktX0_boyAt_2 := dk_seg dksX0_boyAt_1 22 rfl rfl
theorem dX0_boyAt_0 : decode cX0_boyAt 0 = .ok (.aload_n 0, 1) := dk_42 (dk_at dksX0_boyAt_0 0 rfl rfl)
theorem dX0_boyAt_1 : decode cX0_boyAt 1 = .ok (.iload_n 1, 1) := dk_27 (dk_at dksX0_boyAt_0 1 rfl rfl)
theorem dX0_boyAt_2 : decode cX0_boyAt 2 = .ok (.i2l, 1) := dk_133 (dk_at dksX0_boyAt_0 2 rfl rfl)
theorem dX0_boyAt_3 : decode cX0_boyAt 3 = .ok (.lconst 0, 1) := dk_9 (dk_at dksX0_boyAt_0 3 rfl rfl)
theorem dX0_boyAt_4 : decode cX0_boyAt 4 = .ok (.ldc2_w 335, 3) := dk_20 1 79 (dk_at dksX0_boyAt_0 4 rfl rfl)
theorem dX0_boyAt_7 : decode cX0_boyAt 7 = .ok (.invokestatic 173, 3) := dk_184 0 173 (dk_at dksX0_boyAt_0 7 rfl rfl)
theorem dX0_boyAt_10 : decode cX0_boyAt 10 = .ok (.ifCond .eq 7, 3) := dk_153 0 7 (dk_at dksX0_boyAt_0 10 rfl rfl)
theorem dX0_boyAt_13 : decode cX0_boyAt 13 = .ok (.iconst 0, 1) := dk_3 (dk_at dksX0_boyAt_0 13 rfl rfl)
theorem dX0_boyAt_14 : decode cX0_boyAt 14 = .ok (.goto 4, 3) := dk_167 0 4 (dk_at dksX0_boyAt_0 14 rfl rfl)
theorem dX0_boyAt_17 : decode cX0_boyAt 17 = .ok (.iconst 1, 1) := dk_4 (dk_at dksX0_boyAt_0 17 rfl rfl)
theorem dX0_boyAt_18 : decode cX0_boyAt 18 = .ok (.putfield 85, 3) := dk_181 0 85 (dk_at dksX0_boyAt_0 18 rfl rfl)
theorem dX0_boyAt_21 : decode cX0_boyAt 21 = .ok (.aload_n 0, 1) := dk_42 (dk_at dksX0_boyAt_0 21 rfl rfl)
theorem dX0_boyAt_22 : decode cX0_boyAt 22 = .ok (.getfield 85, 3) := dk_180 0 85 (dk_at dksX0_boyAt_1 0 rfl rfl)
theorem dX0_boyAt_25 : decode cX0_boyAt 25 = .ok (.ifCond .le 7, 3) := dk_158 0 7 (dk_at dksX0_boyAt_1 3 rfl rfl)
theorem dX0_boyAt_28 : decode cX0_boyAt 28 = .ok (.iconst (-1), 1) := dk_2 (dk_at dksX0_boyAt_1 6 rfl rfl)
theorem dX0_boyAt_29 : decode cX0_boyAt 29 = .ok (.goto 34, 3) := dk_167 0 34 (dk_at dksX0_boyAt_1 7 rfl rfl)
theorem dX0_boyAt_32 : decode cX0_boyAt 32 = .ok (.aload_n 0, 1) := dk_42 (dk_at dksX0_boyAt_1 10 rfl rfl)
theorem dX0_boyAt_33 : decode cX0_boyAt 33 = .ok (.iload_n 2, 1) := dk_28 (dk_at dksX0_boyAt_1 11 rfl rfl)
theorem dX0_boyAt_34 : decode cX0_boyAt 34 = .ok (.i2l, 1) := dk_133 (dk_at dksX0_boyAt_1 12 rfl rfl)
theorem dX0_boyAt_35 : decode cX0_boyAt 35 = .ok (.lconst 0, 1) := dk_9 (dk_at dksX0_boyAt_1 13 rfl rfl)
theorem dX0_boyAt_36 : decode cX0_boyAt 36 = .ok (.aload_n 0, 1) := dk_42 (dk_at dksX0_boyAt_1 14 rfl rfl)
theorem dX0_boyAt_37 : decode cX0_boyAt 37 = .ok (.iload_n 1, 1) := dk_27 (dk_at dksX0_boyAt_1 15 rfl rfl)
theorem dX0_boyAt_38 : decode cX0_boyAt 38 = .ok (.invokevirtual 400, 3) := dk_182 1 144 (dk_at dksX0_boyAt_1 16 rfl rfl)
theorem dX0_boyAt_41 : decode cX0_boyAt 41 = .ok (.iconst 1, 1) := dk_4 (dk_at dksX0_boyAt_1 19 rfl rfl)
theorem dX0_boyAt_42 : decode cX0_boyAt 42 = .ok (.isub, 1) := dk_100 (dk_at dksX0_boyAt_1 20 rfl rfl)
theorem dX0_boyAt_43 : decode cX0_boyAt 43 = .ok (.i2l, 1) := dk_133 (dk_at dksX0_boyAt_1 21 rfl rfl)
theorem dX0_boyAt_44 : decode cX0_boyAt 44 = .ok (.invokestatic 173, 3) := dk_184 0 173 (dk_at dksX0_boyAt_2 0 rfl rfl)
theorem dX0_boyAt_47 : decode cX0_boyAt 47 = .ok (.ifCond .eq 12, 3) := dk_153 0 12 (dk_at dksX0_boyAt_2 3 rfl rfl)
theorem dX0_boyAt_50 : decode cX0_boyAt 50 = .ok (.aload_n 0, 1) := dk_42 (dk_at dksX0_boyAt_2 6 rfl rfl)
theorem dX0_boyAt_51 : decode cX0_boyAt 51 = .ok (.getfield 72, 3) := dk_180 0 72 (dk_at dksX0_boyAt_2 7 rfl rfl)
theorem dX0_boyAt_54 : decode cX0_boyAt 54 = .ok (.iload_n 2, 1) := dk_28 (dk_at dksX0_boyAt_2 10 rfl rfl)
theorem dX0_boyAt_55 : decode cX0_boyAt 55 = .ok (.iaload, 1) := dk_46 (dk_at dksX0_boyAt_2 11 rfl rfl)
theorem dX0_boyAt_56 : decode cX0_boyAt 56 = .ok (.goto 4, 3) := dk_167 0 4 (dk_at dksX0_boyAt_2 12 rfl rfl)
theorem dX0_boyAt_59 : decode cX0_boyAt 59 = .ok (.iconst (-1), 1) := dk_2 (dk_at dksX0_boyAt_2 15 rfl rfl)
theorem dX0_boyAt_60 : decode cX0_boyAt 60 = .ok (.invokevirtual 355, 3) := dk_182 1 99 (dk_at dksX0_boyAt_2 16 rfl rfl)
theorem dX0_boyAt_63 : decode cX0_boyAt 63 = .ok (.ireturn, 1) := dk_172 (dk_at dksX0_boyAt_2 19 rfl rfl)
abbrev cX0_odds : ByteArray := prog_1_method_66_code
def yX0_odds : MethodName := ⟨RX0, "odds", "(III)Z"⟩
def dkwX0_odds_8 : List UInt8 := [22, 6, 22, 8, 182, 1, 149, 87, 4, 172]
abbrev dktX0_odds_8 : List UInt8 := dkwX0_odds_8 ++ []
def dkwX0_odds_7 : List UInt8 := [16, 16, 28, 100, 133, 105, 55, 6, 22, 8, 20, 1, 147, 105, 55, 8, 132, 10, 1, 167, 255, 228, 42]
abbrev dktX0_odds_7 : List UInt8 := dkwX0_odds_7 ++ dktX0_odds_8
def dkwX0_odds_6 : List UInt8 := [180, 1, 29, 27, 46, 133, 55, 6, 10, 55, 8, 3, 54, 10, 21, 10, 21, 5, 162, 0, 27, 22, 6]
abbrev dktX0_odds_6 : List UInt8 := dkwX0_odds_6 ++ dktX0_odds_7
def dkwX0_odds_5 : List UInt8 := [181, 0, 85, 42, 180, 0, 85, 158, 0, 5, 3, 172, 29, 154, 0, 7, 10, 167, 0, 13, 42, 182, 0, 165]
abbrev dktX0_odds_5 : List UInt8 := dkwX0_odds_5 ++ dktX0_odds_6
def dkwX0_odds_4 : List UInt8 := [180, 1, 36, 154, 0, 8, 16, 6, 167, 0, 16, 21, 5, 16, 12, 164, 0, 8, 16, 7, 167, 0, 4, 3]
abbrev dktX0_odds_4 : List UInt8 := dkwX0_odds_4 ++ dktX0_odds_5
def dkwX0_odds_3 : List UInt8 := [180, 0, 245, 25, 4, 180, 1, 44, 25, 4, 180, 1, 36, 4, 100, 46, 100, 54, 5, 42, 25, 4]
abbrev dktX0_odds_3 : List UInt8 := dkwX0_odds_3 ++ dktX0_odds_4
def dkwX0_odds_2 : List UInt8 := [180, 1, 32, 27, 50, 58, 4, 25, 4, 180, 1, 36, 154, 0, 7, 3, 167, 0, 24, 42, 182, 0, 187]
abbrev dktX0_odds_2 : List UInt8 := dkwX0_odds_2 ++ dktX0_odds_3
def dkwX0_odds_1 : List UInt8 := [167, 0, 8, 42, 27, 182, 1, 89, 181, 0, 85, 42, 180, 0, 85, 158, 0, 5, 3, 172, 42, 182, 0, 187]
abbrev dktX0_odds_1 : List UInt8 := dkwX0_odds_1 ++ dktX0_odds_2
def dkwX0_odds_0 : List UInt8 := [42, 28, 133, 9, 20, 1, 147, 184, 0, 173, 153, 0, 13, 29, 133, 9, 10, 184, 0, 173, 154, 0, 7, 4]
abbrev dktX0_odds_0 : List UInt8 := dkwX0_odds_0 ++ dktX0_odds_1
theorem dksX0_odds_0 : cX0_odds.data.toList.drop 0 = dktX0_odds_0 := by decide +kernel
theorem dksX0_odds_1 : cX0_odds.data.toList.drop 24 = dktX0_odds_1 := dk_seg dksX0_odds_0 24 rfl rfl
theorem dksX0_odds_2 : cX0_odds.data.toList.drop 48 = dktX0_odds_2 := dk_seg dksX0_odds_1 24 rfl rfl
theorem dksX0_odds_3 : cX0_odds.data.toList.drop 71 = dktX0_odds_3 := dk_seg dksX0_odds_2 23 rfl rfl
theorem dksX0_odds_4 : cX0_odds.data.toList.drop 93 = dktX0_odds_4 := dk_seg dksX0_odds_3 22 rfl rfl
theorem dksX0_odds_5 : cX0_odds.data.toList.drop 117 = dktX0_odds_5 := dk_seg dksX0_odds_4 24 rfl rfl
theorem dksX0_odds_6 : cX0_odds.data.toList.drop 141 = dktX0_odds_6 := dk_seg dksX0_odds_5 24 rfl rfl
theorem dksX0_odds_7 : cX0_odds.data.toList.drop 164 = dktX0_odds_7 := dk_seg dksX0_odds_6 23 rfl rfl
theorem dksX0_odds_8 : cX0_odds.data.toList.drop 187 = dktX0_odds_8 := dk_seg dksX0_odds_7 23 rfl rfl
theorem dX0_odds_0 : decode cX0_odds 0 = .ok (.aload_n 0, 1) := dk_42 (dk_at dksX0_odds_0 0 rfl rfl)
theorem dX0_odds_1 : decode cX0_odds 1 = .ok (.iload_n 2, 1) := dk_28 (dk_at dksX0_odds_0 1 rfl rfl)
theorem dX0_odds_2 : decode cX0_odds 2 = .ok (.i2l, 1) := dk_133 (dk_at dksX0_odds_0 2 rfl rfl)
theorem dX0_odds_3 : decode cX0_odds 3 = .ok (.lconst 0, 1) := dk_9 (dk_at dksX0_odds_0 3 rfl rfl)
theorem dX0_odds_4 : decode cX0_odds 4 = .ok (.ldc2_w 403, 3) := dk_20 1 147 (dk_at dksX0_odds_0 4 rfl rfl)
theorem dX0_odds_7 : decode cX0_odds 7 = .ok (.invokestatic 173, 3) := dk_184 0 173 (dk_at dksX0_odds_0 7 rfl rfl)
theorem dX0_odds_10 : decode cX0_odds 10 = .ok (.ifCond .eq 13, 3) := dk_153 0 13 (dk_at dksX0_odds_0 10 rfl rfl)
theorem dX0_odds_13 : decode cX0_odds 13 = .ok (.iload_n 3, 1) := dk_29 (dk_at dksX0_odds_0 13 rfl rfl)
theorem dX0_odds_14 : decode cX0_odds 14 = .ok (.i2l, 1) := dk_133 (dk_at dksX0_odds_0 14 rfl rfl)
theorem dX0_odds_15 : decode cX0_odds 15 = .ok (.lconst 0, 1) := dk_9 (dk_at dksX0_odds_0 15 rfl rfl)
theorem dX0_odds_16 : decode cX0_odds 16 = .ok (.lconst 1, 1) := dk_10 (dk_at dksX0_odds_0 16 rfl rfl)
theorem dX0_odds_17 : decode cX0_odds 17 = .ok (.invokestatic 173, 3) := dk_184 0 173 (dk_at dksX0_odds_0 17 rfl rfl)
theorem dX0_odds_20 : decode cX0_odds 20 = .ok (.ifCond .ne 7, 3) := dk_154 0 7 (dk_at dksX0_odds_0 20 rfl rfl)
theorem dX0_odds_23 : decode cX0_odds 23 = .ok (.iconst 1, 1) := dk_4 (dk_at dksX0_odds_0 23 rfl rfl)
theorem dX0_odds_24 : decode cX0_odds 24 = .ok (.goto 8, 3) := dk_167 0 8 (dk_at dksX0_odds_1 0 rfl rfl)
theorem dX0_odds_27 : decode cX0_odds 27 = .ok (.aload_n 0, 1) := dk_42 (dk_at dksX0_odds_1 3 rfl rfl)
theorem dX0_odds_28 : decode cX0_odds 28 = .ok (.iload_n 1, 1) := dk_27 (dk_at dksX0_odds_1 4 rfl rfl)
theorem dX0_odds_29 : decode cX0_odds 29 = .ok (.invokevirtual 345, 3) := dk_182 1 89 (dk_at dksX0_odds_1 5 rfl rfl)
theorem dX0_odds_32 : decode cX0_odds 32 = .ok (.putfield 85, 3) := dk_181 0 85 (dk_at dksX0_odds_1 8 rfl rfl)
theorem dX0_odds_35 : decode cX0_odds 35 = .ok (.aload_n 0, 1) := dk_42 (dk_at dksX0_odds_1 11 rfl rfl)
theorem dX0_odds_36 : decode cX0_odds 36 = .ok (.getfield 85, 3) := dk_180 0 85 (dk_at dksX0_odds_1 12 rfl rfl)
theorem dX0_odds_39 : decode cX0_odds 39 = .ok (.ifCond .le 5, 3) := dk_158 0 5 (dk_at dksX0_odds_1 15 rfl rfl)
theorem dX0_odds_42 : decode cX0_odds 42 = .ok (.iconst 0, 1) := dk_3 (dk_at dksX0_odds_1 18 rfl rfl)
theorem dX0_odds_43 : decode cX0_odds 43 = .ok (.ireturn, 1) := dk_172 (dk_at dksX0_odds_1 19 rfl rfl)
theorem dX0_odds_44 : decode cX0_odds 44 = .ok (.aload_n 0, 1) := dk_42 (dk_at dksX0_odds_1 20 rfl rfl)
theorem dX0_odds_45 : decode cX0_odds 45 = .ok (.invokevirtual 187, 3) := dk_182 0 187 (dk_at dksX0_odds_1 21 rfl rfl)
theorem dX0_odds_48 : decode cX0_odds 48 = .ok (.getfield 288, 3) := dk_180 1 32 (dk_at dksX0_odds_2 0 rfl rfl)
theorem dX0_odds_51 : decode cX0_odds 51 = .ok (.iload_n 1, 1) := dk_27 (dk_at dksX0_odds_2 3 rfl rfl)
theorem dX0_odds_52 : decode cX0_odds 52 = .ok (.aaload, 1) := dk_50 (dk_at dksX0_odds_2 4 rfl rfl)
theorem dX0_odds_53 : decode cX0_odds 53 = .ok (.astore 4, 2) := dk_58 4 (dk_at dksX0_odds_2 5 rfl rfl)
theorem dX0_odds_55 : decode cX0_odds 55 = .ok (.aload 4, 2) := dk_25 4 (dk_at dksX0_odds_2 7 rfl rfl)
theorem dX0_odds_57 : decode cX0_odds 57 = .ok (.getfield 292, 3) := dk_180 1 36 (dk_at dksX0_odds_2 9 rfl rfl)
theorem dX0_odds_60 : decode cX0_odds 60 = .ok (.ifCond .ne 7, 3) := dk_154 0 7 (dk_at dksX0_odds_2 12 rfl rfl)
theorem dX0_odds_63 : decode cX0_odds 63 = .ok (.iconst 0, 1) := dk_3 (dk_at dksX0_odds_2 15 rfl rfl)
theorem dX0_odds_64 : decode cX0_odds 64 = .ok (.goto 24, 3) := dk_167 0 24 (dk_at dksX0_odds_2 16 rfl rfl)
theorem dX0_odds_67 : decode cX0_odds 67 = .ok (.aload_n 0, 1) := dk_42 (dk_at dksX0_odds_2 19 rfl rfl)
theorem dX0_odds_68 : decode cX0_odds 68 = .ok (.invokevirtual 187, 3) := dk_182 0 187 (dk_at dksX0_odds_2 20 rfl rfl)
theorem dX0_odds_71 : decode cX0_odds 71 = .ok (.getfield 245, 3) := dk_180 0 245 (dk_at dksX0_odds_3 0 rfl rfl)
theorem dX0_odds_74 : decode cX0_odds 74 = .ok (.aload 4, 2) := dk_25 4 (dk_at dksX0_odds_3 3 rfl rfl)
theorem dX0_odds_76 : decode cX0_odds 76 = .ok (.getfield 300, 3) := dk_180 1 44 (dk_at dksX0_odds_3 5 rfl rfl)
theorem dX0_odds_79 : decode cX0_odds 79 = .ok (.aload 4, 2) := dk_25 4 (dk_at dksX0_odds_3 8 rfl rfl)
theorem dX0_odds_81 : decode cX0_odds 81 = .ok (.getfield 292, 3) := dk_180 1 36 (dk_at dksX0_odds_3 10 rfl rfl)
theorem dX0_odds_84 : decode cX0_odds 84 = .ok (.iconst 1, 1) := dk_4 (dk_at dksX0_odds_3 13 rfl rfl)
theorem dX0_odds_85 : decode cX0_odds 85 = .ok (.isub, 1) := dk_100 (dk_at dksX0_odds_3 14 rfl rfl)
theorem dX0_odds_86 : decode cX0_odds 86 = .ok (.iaload, 1) := dk_46 (dk_at dksX0_odds_3 15 rfl rfl)
theorem dX0_odds_87 : decode cX0_odds 87 = .ok (.isub, 1) := dk_100 (dk_at dksX0_odds_3 16 rfl rfl)
theorem dX0_odds_88 : decode cX0_odds 88 = .ok (.istore 5, 2) := dk_54 5 (dk_at dksX0_odds_3 17 rfl rfl)
theorem dX0_odds_90 : decode cX0_odds 90 = .ok (.aload_n 0, 1) := dk_42 (dk_at dksX0_odds_3 19 rfl rfl)
theorem dX0_odds_91 : decode cX0_odds 91 = .ok (.aload 4, 2) := dk_25 4 (dk_at dksX0_odds_3 20 rfl rfl)
theorem dX0_odds_93 : decode cX0_odds 93 = .ok (.getfield 292, 3) := dk_180 1 36 (dk_at dksX0_odds_4 0 rfl rfl)
theorem dX0_odds_96 : decode cX0_odds 96 = .ok (.ifCond .ne 8, 3) := dk_154 0 8 (dk_at dksX0_odds_4 3 rfl rfl)
theorem dX0_odds_99 : decode cX0_odds 99 = .ok (.bipush 6, 2) := dk_16 6 (dk_at dksX0_odds_4 6 rfl rfl)
theorem dX0_odds_101 : decode cX0_odds 101 = .ok (.goto 16, 3) := dk_167 0 16 (dk_at dksX0_odds_4 8 rfl rfl)
theorem dX0_odds_104 : decode cX0_odds 104 = .ok (.iload 5, 2) := dk_21 5 (dk_at dksX0_odds_4 11 rfl rfl)
theorem dX0_odds_106 : decode cX0_odds 106 = .ok (.bipush 12, 2) := dk_16 12 (dk_at dksX0_odds_4 13 rfl rfl)
theorem dX0_odds_108 : decode cX0_odds 108 = .ok (.if_icmp .le 8, 3) := dk_164 0 8 (dk_at dksX0_odds_4 15 rfl rfl)
theorem dX0_odds_111 : decode cX0_odds 111 = .ok (.bipush 7, 2) := dk_16 7 (dk_at dksX0_odds_4 18 rfl rfl)
theorem dX0_odds_113 : decode cX0_odds 113 = .ok (.goto 4, 3) := dk_167 0 4 (dk_at dksX0_odds_4 20 rfl rfl)
theorem dX0_odds_116 : decode cX0_odds 116 = .ok (.iconst 0, 1) := dk_3 (dk_at dksX0_odds_4 23 rfl rfl)
theorem dX0_odds_117 : decode cX0_odds 117 = .ok (.putfield 85, 3) := dk_181 0 85 (dk_at dksX0_odds_5 0 rfl rfl)
theorem dX0_odds_120 : decode cX0_odds 120 = .ok (.aload_n 0, 1) := dk_42 (dk_at dksX0_odds_5 3 rfl rfl)
theorem dX0_odds_121 : decode cX0_odds 121 = .ok (.getfield 85, 3) := dk_180 0 85 (dk_at dksX0_odds_5 4 rfl rfl)
theorem dX0_odds_124 : decode cX0_odds 124 = .ok (.ifCond .le 5, 3) := dk_158 0 5 (dk_at dksX0_odds_5 7 rfl rfl)
theorem dX0_odds_127 : decode cX0_odds 127 = .ok (.iconst 0, 1) := dk_3 (dk_at dksX0_odds_5 10 rfl rfl)
theorem dX0_odds_128 : decode cX0_odds 128 = .ok (.ireturn, 1) := dk_172 (dk_at dksX0_odds_5 11 rfl rfl)
theorem dX0_odds_129 : decode cX0_odds 129 = .ok (.iload_n 3, 1) := dk_29 (dk_at dksX0_odds_5 12 rfl rfl)
theorem dX0_odds_130 : decode cX0_odds 130 = .ok (.ifCond .ne 7, 3) := dk_154 0 7 (dk_at dksX0_odds_5 13 rfl rfl)
theorem dX0_odds_133 : decode cX0_odds 133 = .ok (.lconst 1, 1) := dk_10 (dk_at dksX0_odds_5 16 rfl rfl)
theorem dX0_odds_134 : decode cX0_odds 134 = .ok (.goto 13, 3) := dk_167 0 13 (dk_at dksX0_odds_5 17 rfl rfl)
theorem dX0_odds_137 : decode cX0_odds 137 = .ok (.aload_n 0, 1) := dk_42 (dk_at dksX0_odds_5 20 rfl rfl)
theorem dX0_odds_138 : decode cX0_odds 138 = .ok (.invokevirtual 165, 3) := dk_182 0 165 (dk_at dksX0_odds_5 21 rfl rfl)
theorem dX0_odds_141 : decode cX0_odds 141 = .ok (.getfield 285, 3) := dk_180 1 29 (dk_at dksX0_odds_6 0 rfl rfl)
theorem dX0_odds_144 : decode cX0_odds 144 = .ok (.iload_n 1, 1) := dk_27 (dk_at dksX0_odds_6 3 rfl rfl)
theorem dX0_odds_145 : decode cX0_odds 145 = .ok (.iaload, 1) := dk_46 (dk_at dksX0_odds_6 4 rfl rfl)
theorem dX0_odds_146 : decode cX0_odds 146 = .ok (.i2l, 1) := dk_133 (dk_at dksX0_odds_6 5 rfl rfl)
theorem dX0_odds_147 : decode cX0_odds 147 = .ok (.lstore 6, 2) := dk_55 6 (dk_at dksX0_odds_6 6 rfl rfl)
theorem dX0_odds_149 : decode cX0_odds 149 = .ok (.lconst 1, 1) := dk_10 (dk_at dksX0_odds_6 8 rfl rfl)
theorem dX0_odds_150 : decode cX0_odds 150 = .ok (.lstore 8, 2) := dk_55 8 (dk_at dksX0_odds_6 9 rfl rfl)
theorem dX0_odds_152 : decode cX0_odds 152 = .ok (.iconst 0, 1) := dk_3 (dk_at dksX0_odds_6 11 rfl rfl)
theorem dX0_odds_153 : decode cX0_odds 153 = .ok (.istore 10, 2) := dk_54 10 (dk_at dksX0_odds_6 12 rfl rfl)
theorem dX0_odds_155 : decode cX0_odds 155 = .ok (.iload 10, 2) := dk_21 10 (dk_at dksX0_odds_6 14 rfl rfl)
theorem dX0_odds_157 : decode cX0_odds 157 = .ok (.iload 5, 2) := dk_21 5 (dk_at dksX0_odds_6 16 rfl rfl)
theorem dX0_odds_159 : decode cX0_odds 159 = .ok (.if_icmp .ge 27, 3) := dk_162 0 27 (dk_at dksX0_odds_6 18 rfl rfl)
theorem dX0_odds_162 : decode cX0_odds 162 = .ok (.lload 6, 2) := dk_22 6 (dk_at dksX0_odds_6 21 rfl rfl)
theorem dX0_odds_164 : decode cX0_odds 164 = .ok (.bipush 16, 2) := dk_16 16 (dk_at dksX0_odds_7 0 rfl rfl)
theorem dX0_odds_166 : decode cX0_odds 166 = .ok (.iload_n 2, 1) := dk_28 (dk_at dksX0_odds_7 2 rfl rfl)
theorem dX0_odds_167 : decode cX0_odds 167 = .ok (.isub, 1) := dk_100 (dk_at dksX0_odds_7 3 rfl rfl)
theorem dX0_odds_168 : decode cX0_odds 168 = .ok (.i2l, 1) := dk_133 (dk_at dksX0_odds_7 4 rfl rfl)
theorem dX0_odds_169 : decode cX0_odds 169 = .ok (.lmul, 1) := dk_105 (dk_at dksX0_odds_7 5 rfl rfl)
theorem dX0_odds_170 : decode cX0_odds 170 = .ok (.lstore 6, 2) := dk_55 6 (dk_at dksX0_odds_7 6 rfl rfl)
theorem dX0_odds_172 : decode cX0_odds 172 = .ok (.lload 8, 2) := dk_22 8 (dk_at dksX0_odds_7 8 rfl rfl)
theorem dX0_odds_174 : decode cX0_odds 174 = .ok (.ldc2_w 403, 3) := dk_20 1 147 (dk_at dksX0_odds_7 10 rfl rfl)
theorem dX0_odds_177 : decode cX0_odds 177 = .ok (.lmul, 1) := dk_105 (dk_at dksX0_odds_7 13 rfl rfl)
theorem dX0_odds_178 : decode cX0_odds 178 = .ok (.lstore 8, 2) := dk_55 8 (dk_at dksX0_odds_7 14 rfl rfl)
theorem dX0_odds_180 : decode cX0_odds 180 = .ok (.iinc 10 1, 3) := dk_132 10 1 (dk_at dksX0_odds_7 16 rfl rfl)
theorem dX0_odds_183 : decode cX0_odds 183 = .ok (.goto (-28), 3) := dk_167 255 228 (dk_at dksX0_odds_7 19 rfl rfl)
theorem dX0_odds_186 : decode cX0_odds 186 = .ok (.aload_n 0, 1) := dk_42 (dk_at dksX0_odds_7 22 rfl rfl)
theorem dX0_odds_187 : decode cX0_odds 187 = .ok (.lload 6, 2) := dk_22 6 (dk_at dksX0_odds_8 0 rfl rfl)
theorem dX0_odds_189 : decode cX0_odds 189 = .ok (.lload 8, 2) := dk_22 8 (dk_at dksX0_odds_8 2 rfl rfl)
theorem dX0_odds_191 : decode cX0_odds 191 = .ok (.invokevirtual 405, 3) := dk_182 1 149 (dk_at dksX0_odds_8 4 rfl rfl)
theorem dX0_odds_194 : decode cX0_odds 194 = .ok (.pop, 1) := dk_87 (dk_at dksX0_odds_8 7 rfl rfl)
theorem dX0_odds_195 : decode cX0_odds 195 = .ok (.iconst 1, 1) := dk_4 (dk_at dksX0_odds_8 8 rfl rfl)
theorem dX0_odds_196 : decode cX0_odds 196 = .ok (.ireturn, 1) := dk_172 (dk_at dksX0_odds_8 9 rfl rfl)
abbrev cX0_fraction : ByteArray := prog_1_method_13_code
def yX0_fraction : MethodName := ⟨RX0, "fraction", "(JJ)I"⟩
def dkwX0_fraction_2 : List UInt8 := [181, 0, 48, 31, 184, 0, 104, 172]
abbrev dktX0_fraction_2 : List UInt8 := dkwX0_fraction_2 ++ []
def dkwX0_fraction_1 : List UInt8 := [22, 7, 55, 5, 22, 9, 55, 7, 167, 255, 234, 42, 31, 22, 5, 109, 181, 0, 88, 42, 33, 22, 5, 109]
abbrev dktX0_fraction_1 : List UInt8 := dkwX0_fraction_1 ++ dktX0_fraction_2
def dkwX0_fraction_0 : List UInt8 := [31, 184, 0, 98, 55, 5, 33, 55, 7, 22, 7, 9, 148, 153, 0, 21, 22, 5, 22, 7, 113, 55, 9]
abbrev dktX0_fraction_0 : List UInt8 := dkwX0_fraction_0 ++ dktX0_fraction_1
theorem dksX0_fraction_0 : cX0_fraction.data.toList.drop 0 = dktX0_fraction_0 := by decide +kernel
theorem dksX0_fraction_1 : cX0_fraction.data.toList.drop 23 = dktX0_fraction_1 := dk_seg dksX0_fraction_0 23 rfl rfl
theorem dksX0_fraction_2 : cX0_fraction.data.toList.drop 47 = dktX0_fraction_2 := dk_seg dksX0_fraction_1 24 rfl rfl
theorem dX0_fraction_0 : decode cX0_fraction 0 = .ok (.lload_n 1, 1) := dk_31 (dk_at dksX0_fraction_0 0 rfl rfl)
theorem dX0_fraction_1 : decode cX0_fraction 1 = .ok (.invokestatic 98, 3) := dk_184 0 98 (dk_at dksX0_fraction_0 1 rfl rfl)
theorem dX0_fraction_4 : decode cX0_fraction 4 = .ok (.lstore 5, 2) := dk_55 5 (dk_at dksX0_fraction_0 4 rfl rfl)
theorem dX0_fraction_6 : decode cX0_fraction 6 = .ok (.lload_n 3, 1) := dk_33 (dk_at dksX0_fraction_0 6 rfl rfl)
theorem dX0_fraction_7 : decode cX0_fraction 7 = .ok (.lstore 7, 2) := dk_55 7 (dk_at dksX0_fraction_0 7 rfl rfl)
theorem dX0_fraction_9 : decode cX0_fraction 9 = .ok (.lload 7, 2) := dk_22 7 (dk_at dksX0_fraction_0 9 rfl rfl)
theorem dX0_fraction_11 : decode cX0_fraction 11 = .ok (.lconst 0, 1) := dk_9 (dk_at dksX0_fraction_0 11 rfl rfl)
theorem dX0_fraction_12 : decode cX0_fraction 12 = .ok (.lcmp, 1) := dk_148 (dk_at dksX0_fraction_0 12 rfl rfl)
theorem dX0_fraction_13 : decode cX0_fraction 13 = .ok (.ifCond .eq 21, 3) := dk_153 0 21 (dk_at dksX0_fraction_0 13 rfl rfl)
theorem dX0_fraction_16 : decode cX0_fraction 16 = .ok (.lload 5, 2) := dk_22 5 (dk_at dksX0_fraction_0 16 rfl rfl)
theorem dX0_fraction_18 : decode cX0_fraction 18 = .ok (.lload 7, 2) := dk_22 7 (dk_at dksX0_fraction_0 18 rfl rfl)
theorem dX0_fraction_20 : decode cX0_fraction 20 = .ok (.lrem, 1) := dk_113 (dk_at dksX0_fraction_0 20 rfl rfl)
theorem dX0_fraction_21 : decode cX0_fraction 21 = .ok (.lstore 9, 2) := dk_55 9 (dk_at dksX0_fraction_0 21 rfl rfl)
theorem dX0_fraction_23 : decode cX0_fraction 23 = .ok (.lload 7, 2) := dk_22 7 (dk_at dksX0_fraction_1 0 rfl rfl)
theorem dX0_fraction_25 : decode cX0_fraction 25 = .ok (.lstore 5, 2) := dk_55 5 (dk_at dksX0_fraction_1 2 rfl rfl)
theorem dX0_fraction_27 : decode cX0_fraction 27 = .ok (.lload 9, 2) := dk_22 9 (dk_at dksX0_fraction_1 4 rfl rfl)
theorem dX0_fraction_29 : decode cX0_fraction 29 = .ok (.lstore 7, 2) := dk_55 7 (dk_at dksX0_fraction_1 6 rfl rfl)
theorem dX0_fraction_31 : decode cX0_fraction 31 = .ok (.goto (-22), 3) := dk_167 255 234 (dk_at dksX0_fraction_1 8 rfl rfl)
theorem dX0_fraction_34 : decode cX0_fraction 34 = .ok (.aload_n 0, 1) := dk_42 (dk_at dksX0_fraction_1 11 rfl rfl)
theorem dX0_fraction_35 : decode cX0_fraction 35 = .ok (.lload_n 1, 1) := dk_31 (dk_at dksX0_fraction_1 12 rfl rfl)
theorem dX0_fraction_36 : decode cX0_fraction 36 = .ok (.lload 5, 2) := dk_22 5 (dk_at dksX0_fraction_1 13 rfl rfl)
theorem dX0_fraction_38 : decode cX0_fraction 38 = .ok (.ldiv, 1) := dk_109 (dk_at dksX0_fraction_1 15 rfl rfl)
theorem dX0_fraction_39 : decode cX0_fraction 39 = .ok (.putfield 88, 3) := dk_181 0 88 (dk_at dksX0_fraction_1 16 rfl rfl)
theorem dX0_fraction_42 : decode cX0_fraction 42 = .ok (.aload_n 0, 1) := dk_42 (dk_at dksX0_fraction_1 19 rfl rfl)
theorem dX0_fraction_43 : decode cX0_fraction 43 = .ok (.lload_n 3, 1) := dk_33 (dk_at dksX0_fraction_1 20 rfl rfl)
theorem dX0_fraction_44 : decode cX0_fraction 44 = .ok (.lload 5, 2) := dk_22 5 (dk_at dksX0_fraction_1 21 rfl rfl)
theorem dX0_fraction_46 : decode cX0_fraction 46 = .ok (.ldiv, 1) := dk_109 (dk_at dksX0_fraction_1 23 rfl rfl)
theorem dX0_fraction_47 : decode cX0_fraction 47 = .ok (.putfield 48, 3) := dk_181 0 48 (dk_at dksX0_fraction_2 0 rfl rfl)
theorem dX0_fraction_50 : decode cX0_fraction 50 = .ok (.lload_n 1, 1) := dk_31 (dk_at dksX0_fraction_2 3 rfl rfl)
theorem dX0_fraction_51 : decode cX0_fraction 51 = .ok (.invokestatic 104, 3) := dk_184 0 104 (dk_at dksX0_fraction_2 4 rfl rfl)
theorem dX0_fraction_54 : decode cX0_fraction 54 = .ok (.ireturn, 1) := dk_172 (dk_at dksX0_fraction_2 7 rfl rfl)
abbrev cX0_gulls : ByteArray := prog_1_method_67_code
def yX0_gulls : MethodName := ⟨RX0, "gulls", "(I)I"⟩
def dkwX0_gulls_8 : List UInt8 := [167, 0, 4, 3, 16, 7, 182, 0, 110, 29, 172, 77, 42, 44, 182, 0, 142, 172]
abbrev dktX0_gulls_8 : List UInt8 := dkwX0_gulls_8 ++ []
def dkwX0_gulls_7 : List UInt8 := [54, 4, 29, 3, 21, 6, 184, 1, 160, 96, 62, 132, 5, 1, 167, 255, 174, 42, 21, 4, 154, 0, 7, 4]
abbrev dktX0_gulls_7 : List UInt8 := dkwX0_gulls_7 ++ dktX0_gulls_8
def dkwX0_gulls_6 : List UInt8 := [154, 0, 8, 21, 6, 154, 0, 7, 4, 167, 0, 4, 3, 16, 7, 182, 0, 110, 21, 4, 21, 6, 96]
abbrev dktX0_gulls_6 : List UInt8 := dkwX0_gulls_6 ++ dktX0_gulls_7
def dkwX0_gulls_5 : List UInt8 := [180, 1, 32, 21, 5, 50, 180, 1, 36, 100, 54, 6, 42, 42, 182, 0, 187, 21, 5, 182, 0, 190]
abbrev dktX0_gulls_5 : List UInt8 := dkwX0_gulls_5 ++ dktX0_gulls_6
def dkwX0_gulls_4 : List UInt8 := [21, 5, 42, 182, 0, 165, 180, 0, 177, 162, 0, 76, 44, 21, 5, 184, 0, 136, 136, 42, 182, 0, 187]
abbrev dktX0_gulls_4 : List UInt8 := dkwX0_gulls_4 ++ dktX0_gulls_5
def dkwX0_gulls_3 : List UInt8 := [20, 1, 158, 184, 0, 173, 8, 182, 0, 110, 132, 3, 1, 167, 255, 225, 3, 62, 3, 54, 4, 3, 54, 5]
abbrev dktX0_gulls_3 : List UInt8 := dkwX0_gulls_3 ++ dktX0_gulls_4
def dkwX0_gulls_2 : List UInt8 := [182, 0, 110, 3, 62, 29, 42, 182, 0, 165, 180, 0, 177, 162, 0, 26, 42, 44, 29, 184, 0, 136, 9]
abbrev dktX0_gulls_2 : List UInt8 := dkwX0_gulls_2 ++ dktX0_gulls_3
def dkwX0_gulls_1 : List UInt8 := [77, 42, 44, 184, 1, 155, 42, 182, 0, 165, 180, 0, 177, 161, 0, 7, 4, 167, 0, 4, 3, 6]
abbrev dktX0_gulls_1 : List UInt8 := dkwX0_gulls_1 ++ dktX0_gulls_2
def dkwX0_gulls_0 : List UInt8 := [42, 3, 181, 0, 85, 42, 27, 133, 9, 20, 1, 153, 184, 0, 173, 4, 182, 0, 110, 42, 27, 182, 0, 126]
abbrev dktX0_gulls_0 : List UInt8 := dkwX0_gulls_0 ++ dktX0_gulls_1
theorem dksX0_gulls_0 : cX0_gulls.data.toList.drop 0 = dktX0_gulls_0 := by decide +kernel
theorem dksX0_gulls_1 : cX0_gulls.data.toList.drop 24 = dktX0_gulls_1 := dk_seg dksX0_gulls_0 24 rfl rfl
theorem dksX0_gulls_2 : cX0_gulls.data.toList.drop 46 = dktX0_gulls_2 := dk_seg dksX0_gulls_1 22 rfl rfl
theorem dksX0_gulls_3 : cX0_gulls.data.toList.drop 69 = dktX0_gulls_3 := dk_seg dksX0_gulls_2 23 rfl rfl
theorem dksX0_gulls_4 : cX0_gulls.data.toList.drop 93 = dktX0_gulls_4 := dk_seg dksX0_gulls_3 24 rfl rfl
theorem dksX0_gulls_5 : cX0_gulls.data.toList.drop 116 = dktX0_gulls_5 := dk_seg dksX0_gulls_4 23 rfl rfl
theorem dksX0_gulls_6 : cX0_gulls.data.toList.drop 138 = dktX0_gulls_6 := dk_seg dksX0_gulls_5 22 rfl rfl
theorem dksX0_gulls_7 : cX0_gulls.data.toList.drop 161 = dktX0_gulls_7 := dk_seg dksX0_gulls_6 23 rfl rfl
theorem dksX0_gulls_8 : cX0_gulls.data.toList.drop 185 = dktX0_gulls_8 := dk_seg dksX0_gulls_7 24 rfl rfl
theorem dX0_gulls_0 : decode cX0_gulls 0 = .ok (.aload_n 0, 1) := dk_42 (dk_at dksX0_gulls_0 0 rfl rfl)
theorem dX0_gulls_1 : decode cX0_gulls 1 = .ok (.iconst 0, 1) := dk_3 (dk_at dksX0_gulls_0 1 rfl rfl)
theorem dX0_gulls_2 : decode cX0_gulls 2 = .ok (.putfield 85, 3) := dk_181 0 85 (dk_at dksX0_gulls_0 2 rfl rfl)
theorem dX0_gulls_5 : decode cX0_gulls 5 = .ok (.aload_n 0, 1) := dk_42 (dk_at dksX0_gulls_0 5 rfl rfl)
theorem dX0_gulls_6 : decode cX0_gulls 6 = .ok (.iload_n 1, 1) := dk_27 (dk_at dksX0_gulls_0 6 rfl rfl)
theorem dX0_gulls_7 : decode cX0_gulls 7 = .ok (.i2l, 1) := dk_133 (dk_at dksX0_gulls_0 7 rfl rfl)
theorem dX0_gulls_8 : decode cX0_gulls 8 = .ok (.lconst 0, 1) := dk_9 (dk_at dksX0_gulls_0 8 rfl rfl)
theorem dX0_gulls_9 : decode cX0_gulls 9 = .ok (.ldc2_w 409, 3) := dk_20 1 153 (dk_at dksX0_gulls_0 9 rfl rfl)
theorem dX0_gulls_12 : decode cX0_gulls 12 = .ok (.invokestatic 173, 3) := dk_184 0 173 (dk_at dksX0_gulls_0 12 rfl rfl)
theorem dX0_gulls_15 : decode cX0_gulls 15 = .ok (.iconst 1, 1) := dk_4 (dk_at dksX0_gulls_0 15 rfl rfl)
theorem dX0_gulls_16 : decode cX0_gulls 16 = .ok (.invokevirtual 110, 3) := dk_182 0 110 (dk_at dksX0_gulls_0 16 rfl rfl)
theorem dX0_gulls_19 : decode cX0_gulls 19 = .ok (.aload_n 0, 1) := dk_42 (dk_at dksX0_gulls_0 19 rfl rfl)
theorem dX0_gulls_20 : decode cX0_gulls 20 = .ok (.iload_n 1, 1) := dk_27 (dk_at dksX0_gulls_0 20 rfl rfl)
theorem dX0_gulls_21 : decode cX0_gulls 21 = .ok (.invokevirtual 126, 3) := dk_182 0 126 (dk_at dksX0_gulls_0 21 rfl rfl)
theorem dX0_gulls_24 : decode cX0_gulls 24 = .ok (.astore_n 2, 1) := dk_77 (dk_at dksX0_gulls_1 0 rfl rfl)
theorem dX0_gulls_25 : decode cX0_gulls 25 = .ok (.aload_n 0, 1) := dk_42 (dk_at dksX0_gulls_1 1 rfl rfl)
theorem dX0_gulls_26 : decode cX0_gulls 26 = .ok (.aload_n 2, 1) := dk_44 (dk_at dksX0_gulls_1 2 rfl rfl)
theorem dX0_gulls_27 : decode cX0_gulls 27 = .ok (.invokestatic 411, 3) := dk_184 1 155 (dk_at dksX0_gulls_1 3 rfl rfl)
theorem dX0_gulls_30 : decode cX0_gulls 30 = .ok (.aload_n 0, 1) := dk_42 (dk_at dksX0_gulls_1 6 rfl rfl)
theorem dX0_gulls_31 : decode cX0_gulls 31 = .ok (.invokevirtual 165, 3) := dk_182 0 165 (dk_at dksX0_gulls_1 7 rfl rfl)
theorem dX0_gulls_34 : decode cX0_gulls 34 = .ok (.getfield 177, 3) := dk_180 0 177 (dk_at dksX0_gulls_1 10 rfl rfl)
theorem dX0_gulls_37 : decode cX0_gulls 37 = .ok (.if_icmp .lt 7, 3) := dk_161 0 7 (dk_at dksX0_gulls_1 13 rfl rfl)
theorem dX0_gulls_40 : decode cX0_gulls 40 = .ok (.iconst 1, 1) := dk_4 (dk_at dksX0_gulls_1 16 rfl rfl)
theorem dX0_gulls_41 : decode cX0_gulls 41 = .ok (.goto 4, 3) := dk_167 0 4 (dk_at dksX0_gulls_1 17 rfl rfl)
theorem dX0_gulls_44 : decode cX0_gulls 44 = .ok (.iconst 0, 1) := dk_3 (dk_at dksX0_gulls_1 20 rfl rfl)
theorem dX0_gulls_45 : decode cX0_gulls 45 = .ok (.iconst 3, 1) := dk_6 (dk_at dksX0_gulls_1 21 rfl rfl)
theorem dX0_gulls_46 : decode cX0_gulls 46 = .ok (.invokevirtual 110, 3) := dk_182 0 110 (dk_at dksX0_gulls_2 0 rfl rfl)
theorem dX0_gulls_49 : decode cX0_gulls 49 = .ok (.iconst 0, 1) := dk_3 (dk_at dksX0_gulls_2 3 rfl rfl)
theorem dX0_gulls_50 : decode cX0_gulls 50 = .ok (.istore_n 3, 1) := dk_62 (dk_at dksX0_gulls_2 4 rfl rfl)
theorem dX0_gulls_51 : decode cX0_gulls 51 = .ok (.iload_n 3, 1) := dk_29 (dk_at dksX0_gulls_2 5 rfl rfl)
theorem dX0_gulls_52 : decode cX0_gulls 52 = .ok (.aload_n 0, 1) := dk_42 (dk_at dksX0_gulls_2 6 rfl rfl)
theorem dX0_gulls_53 : decode cX0_gulls 53 = .ok (.invokevirtual 165, 3) := dk_182 0 165 (dk_at dksX0_gulls_2 7 rfl rfl)
theorem dX0_gulls_56 : decode cX0_gulls 56 = .ok (.getfield 177, 3) := dk_180 0 177 (dk_at dksX0_gulls_2 10 rfl rfl)
theorem dX0_gulls_59 : decode cX0_gulls 59 = .ok (.if_icmp .ge 26, 3) := dk_162 0 26 (dk_at dksX0_gulls_2 13 rfl rfl)
theorem dX0_gulls_62 : decode cX0_gulls 62 = .ok (.aload_n 0, 1) := dk_42 (dk_at dksX0_gulls_2 16 rfl rfl)
theorem dX0_gulls_63 : decode cX0_gulls 63 = .ok (.aload_n 2, 1) := dk_44 (dk_at dksX0_gulls_2 17 rfl rfl)
theorem dX0_gulls_64 : decode cX0_gulls 64 = .ok (.iload_n 3, 1) := dk_29 (dk_at dksX0_gulls_2 18 rfl rfl)
theorem dX0_gulls_65 : decode cX0_gulls 65 = .ok (.invokestatic 136, 3) := dk_184 0 136 (dk_at dksX0_gulls_2 19 rfl rfl)
theorem dX0_gulls_68 : decode cX0_gulls 68 = .ok (.lconst 0, 1) := dk_9 (dk_at dksX0_gulls_2 22 rfl rfl)
theorem dX0_gulls_69 : decode cX0_gulls 69 = .ok (.ldc2_w 414, 3) := dk_20 1 158 (dk_at dksX0_gulls_3 0 rfl rfl)
theorem dX0_gulls_72 : decode cX0_gulls 72 = .ok (.invokestatic 173, 3) := dk_184 0 173 (dk_at dksX0_gulls_3 3 rfl rfl)
theorem dX0_gulls_75 : decode cX0_gulls 75 = .ok (.iconst 5, 1) := dk_8 (dk_at dksX0_gulls_3 6 rfl rfl)
theorem dX0_gulls_76 : decode cX0_gulls 76 = .ok (.invokevirtual 110, 3) := dk_182 0 110 (dk_at dksX0_gulls_3 7 rfl rfl)
theorem dX0_gulls_79 : decode cX0_gulls 79 = .ok (.iinc 3 1, 3) := dk_132 3 1 (dk_at dksX0_gulls_3 10 rfl rfl)
theorem dX0_gulls_82 : decode cX0_gulls 82 = .ok (.goto (-31), 3) := dk_167 255 225 (dk_at dksX0_gulls_3 13 rfl rfl)
theorem dX0_gulls_85 : decode cX0_gulls 85 = .ok (.iconst 0, 1) := dk_3 (dk_at dksX0_gulls_3 16 rfl rfl)
theorem dX0_gulls_86 : decode cX0_gulls 86 = .ok (.istore_n 3, 1) := dk_62 (dk_at dksX0_gulls_3 17 rfl rfl)
theorem dX0_gulls_87 : decode cX0_gulls 87 = .ok (.iconst 0, 1) := dk_3 (dk_at dksX0_gulls_3 18 rfl rfl)
theorem dX0_gulls_88 : decode cX0_gulls 88 = .ok (.istore 4, 2) := dk_54 4 (dk_at dksX0_gulls_3 19 rfl rfl)
theorem dX0_gulls_90 : decode cX0_gulls 90 = .ok (.iconst 0, 1) := dk_3 (dk_at dksX0_gulls_3 21 rfl rfl)
theorem dX0_gulls_91 : decode cX0_gulls 91 = .ok (.istore 5, 2) := dk_54 5 (dk_at dksX0_gulls_3 22 rfl rfl)
theorem dX0_gulls_93 : decode cX0_gulls 93 = .ok (.iload 5, 2) := dk_21 5 (dk_at dksX0_gulls_4 0 rfl rfl)
theorem dX0_gulls_95 : decode cX0_gulls 95 = .ok (.aload_n 0, 1) := dk_42 (dk_at dksX0_gulls_4 2 rfl rfl)
theorem dX0_gulls_96 : decode cX0_gulls 96 = .ok (.invokevirtual 165, 3) := dk_182 0 165 (dk_at dksX0_gulls_4 3 rfl rfl)
theorem dX0_gulls_99 : decode cX0_gulls 99 = .ok (.getfield 177, 3) := dk_180 0 177 (dk_at dksX0_gulls_4 6 rfl rfl)
theorem dX0_gulls_102 : decode cX0_gulls 102 = .ok (.if_icmp .ge 76, 3) := dk_162 0 76 (dk_at dksX0_gulls_4 9 rfl rfl)
theorem dX0_gulls_105 : decode cX0_gulls 105 = .ok (.aload_n 2, 1) := dk_44 (dk_at dksX0_gulls_4 12 rfl rfl)
theorem dX0_gulls_106 : decode cX0_gulls 106 = .ok (.iload 5, 2) := dk_21 5 (dk_at dksX0_gulls_4 13 rfl rfl)
theorem dX0_gulls_108 : decode cX0_gulls 108 = .ok (.invokestatic 136, 3) := dk_184 0 136 (dk_at dksX0_gulls_4 15 rfl rfl)
theorem dX0_gulls_111 : decode cX0_gulls 111 = .ok (.l2i, 1) := dk_136 (dk_at dksX0_gulls_4 18 rfl rfl)
theorem dX0_gulls_112 : decode cX0_gulls 112 = .ok (.aload_n 0, 1) := dk_42 (dk_at dksX0_gulls_4 19 rfl rfl)
theorem dX0_gulls_113 : decode cX0_gulls 113 = .ok (.invokevirtual 187, 3) := dk_182 0 187 (dk_at dksX0_gulls_4 20 rfl rfl)
theorem dX0_gulls_116 : decode cX0_gulls 116 = .ok (.getfield 288, 3) := dk_180 1 32 (dk_at dksX0_gulls_5 0 rfl rfl)
theorem dX0_gulls_119 : decode cX0_gulls 119 = .ok (.iload 5, 2) := dk_21 5 (dk_at dksX0_gulls_5 3 rfl rfl)
theorem dX0_gulls_121 : decode cX0_gulls 121 = .ok (.aaload, 1) := dk_50 (dk_at dksX0_gulls_5 5 rfl rfl)
theorem dX0_gulls_122 : decode cX0_gulls 122 = .ok (.getfield 292, 3) := dk_180 1 36 (dk_at dksX0_gulls_5 6 rfl rfl)
theorem dX0_gulls_125 : decode cX0_gulls 125 = .ok (.isub, 1) := dk_100 (dk_at dksX0_gulls_5 9 rfl rfl)
theorem dX0_gulls_126 : decode cX0_gulls 126 = .ok (.istore 6, 2) := dk_54 6 (dk_at dksX0_gulls_5 10 rfl rfl)
theorem dX0_gulls_128 : decode cX0_gulls 128 = .ok (.aload_n 0, 1) := dk_42 (dk_at dksX0_gulls_5 12 rfl rfl)
theorem dX0_gulls_129 : decode cX0_gulls 129 = .ok (.aload_n 0, 1) := dk_42 (dk_at dksX0_gulls_5 13 rfl rfl)
theorem dX0_gulls_130 : decode cX0_gulls 130 = .ok (.invokevirtual 187, 3) := dk_182 0 187 (dk_at dksX0_gulls_5 14 rfl rfl)
theorem dX0_gulls_133 : decode cX0_gulls 133 = .ok (.iload 5, 2) := dk_21 5 (dk_at dksX0_gulls_5 17 rfl rfl)
theorem dX0_gulls_135 : decode cX0_gulls 135 = .ok (.invokevirtual 190, 3) := dk_182 0 190 (dk_at dksX0_gulls_5 19 rfl rfl)
theorem dX0_gulls_138 : decode cX0_gulls 138 = .ok (.ifCond .ne 8, 3) := dk_154 0 8 (dk_at dksX0_gulls_6 0 rfl rfl)
theorem dX0_gulls_141 : decode cX0_gulls 141 = .ok (.iload 6, 2) := dk_21 6 (dk_at dksX0_gulls_6 3 rfl rfl)
theorem dX0_gulls_143 : decode cX0_gulls 143 = .ok (.ifCond .ne 7, 3) := dk_154 0 7 (dk_at dksX0_gulls_6 5 rfl rfl)
theorem dX0_gulls_146 : decode cX0_gulls 146 = .ok (.iconst 1, 1) := dk_4 (dk_at dksX0_gulls_6 8 rfl rfl)
theorem dX0_gulls_147 : decode cX0_gulls 147 = .ok (.goto 4, 3) := dk_167 0 4 (dk_at dksX0_gulls_6 9 rfl rfl)
theorem dX0_gulls_150 : decode cX0_gulls 150 = .ok (.iconst 0, 1) := dk_3 (dk_at dksX0_gulls_6 12 rfl rfl)
theorem dX0_gulls_151 : decode cX0_gulls 151 = .ok (.bipush 7, 2) := dk_16 7 (dk_at dksX0_gulls_6 13 rfl rfl)
theorem dX0_gulls_153 : decode cX0_gulls 153 = .ok (.invokevirtual 110, 3) := dk_182 0 110 (dk_at dksX0_gulls_6 15 rfl rfl)
theorem dX0_gulls_156 : decode cX0_gulls 156 = .ok (.iload 4, 2) := dk_21 4 (dk_at dksX0_gulls_6 18 rfl rfl)
theorem dX0_gulls_158 : decode cX0_gulls 158 = .ok (.iload 6, 2) := dk_21 6 (dk_at dksX0_gulls_6 20 rfl rfl)
theorem dX0_gulls_160 : decode cX0_gulls 160 = .ok (.iadd, 1) := dk_96 (dk_at dksX0_gulls_6 22 rfl rfl)
theorem dX0_gulls_161 : decode cX0_gulls 161 = .ok (.istore 4, 2) := dk_54 4 (dk_at dksX0_gulls_7 0 rfl rfl)
theorem dX0_gulls_163 : decode cX0_gulls 163 = .ok (.iload_n 3, 1) := dk_29 (dk_at dksX0_gulls_7 2 rfl rfl)
theorem dX0_gulls_164 : decode cX0_gulls 164 = .ok (.iconst 0, 1) := dk_3 (dk_at dksX0_gulls_7 3 rfl rfl)
theorem dX0_gulls_165 : decode cX0_gulls 165 = .ok (.iload 6, 2) := dk_21 6 (dk_at dksX0_gulls_7 4 rfl rfl)
theorem dX0_gulls_167 : decode cX0_gulls 167 = .ok (.invokestatic 416, 3) := dk_184 1 160 (dk_at dksX0_gulls_7 6 rfl rfl)
theorem dX0_gulls_170 : decode cX0_gulls 170 = .ok (.iadd, 1) := dk_96 (dk_at dksX0_gulls_7 9 rfl rfl)
theorem dX0_gulls_171 : decode cX0_gulls 171 = .ok (.istore_n 3, 1) := dk_62 (dk_at dksX0_gulls_7 10 rfl rfl)
theorem dX0_gulls_172 : decode cX0_gulls 172 = .ok (.iinc 5 1, 3) := dk_132 5 1 (dk_at dksX0_gulls_7 11 rfl rfl)
theorem dX0_gulls_175 : decode cX0_gulls 175 = .ok (.goto (-82), 3) := dk_167 255 174 (dk_at dksX0_gulls_7 14 rfl rfl)
theorem dX0_gulls_178 : decode cX0_gulls 178 = .ok (.aload_n 0, 1) := dk_42 (dk_at dksX0_gulls_7 17 rfl rfl)
theorem dX0_gulls_179 : decode cX0_gulls 179 = .ok (.iload 4, 2) := dk_21 4 (dk_at dksX0_gulls_7 18 rfl rfl)
theorem dX0_gulls_181 : decode cX0_gulls 181 = .ok (.ifCond .ne 7, 3) := dk_154 0 7 (dk_at dksX0_gulls_7 20 rfl rfl)
theorem dX0_gulls_184 : decode cX0_gulls 184 = .ok (.iconst 1, 1) := dk_4 (dk_at dksX0_gulls_7 23 rfl rfl)
theorem dX0_gulls_185 : decode cX0_gulls 185 = .ok (.goto 4, 3) := dk_167 0 4 (dk_at dksX0_gulls_8 0 rfl rfl)
theorem dX0_gulls_188 : decode cX0_gulls 188 = .ok (.iconst 0, 1) := dk_3 (dk_at dksX0_gulls_8 3 rfl rfl)
theorem dX0_gulls_189 : decode cX0_gulls 189 = .ok (.bipush 7, 2) := dk_16 7 (dk_at dksX0_gulls_8 4 rfl rfl)
theorem dX0_gulls_191 : decode cX0_gulls 191 = .ok (.invokevirtual 110, 3) := dk_182 0 110 (dk_at dksX0_gulls_8 6 rfl rfl)
theorem dX0_gulls_194 : decode cX0_gulls 194 = .ok (.iload_n 3, 1) := dk_29 (dk_at dksX0_gulls_8 9 rfl rfl)
theorem dX0_gulls_195 : decode cX0_gulls 195 = .ok (.ireturn, 1) := dk_172 (dk_at dksX0_gulls_8 10 rfl rfl)
theorem dX0_gulls_196 : decode cX0_gulls 196 = .ok (.astore_n 2, 1) := dk_77 (dk_at dksX0_gulls_8 11 rfl rfl)
theorem dX0_gulls_197 : decode cX0_gulls 197 = .ok (.aload_n 0, 1) := dk_42 (dk_at dksX0_gulls_8 12 rfl rfl)
theorem dX0_gulls_198 : decode cX0_gulls 198 = .ok (.aload_n 2, 1) := dk_44 (dk_at dksX0_gulls_8 13 rfl rfl)
theorem dX0_gulls_199 : decode cX0_gulls 199 = .ok (.invokevirtual 142, 3) := dk_182 0 142 (dk_at dksX0_gulls_8 14 rfl rfl)
theorem dX0_gulls_202 : decode cX0_gulls 202 = .ok (.ireturn, 1) := dk_172 (dk_at dksX0_gulls_8 17 rfl rfl)
abbrev cX0_sizeOf : ByteArray := prog_1_method_3_code
def yX0_sizeOf : MethodName := ⟨RX0, "sizeOf", "(Ljava/lang/Object;)I"⟩
def dkwX0_sizeOf_2 : List UInt8 := [42, 192, 0, 7, 190, 172]
abbrev dktX0_sizeOf_2 : List UInt8 := dkwX0_sizeOf_2 ++ []
def dkwX0_sizeOf_1 : List UInt8 := [192, 0, 3, 76, 43, 190, 172, 42, 193, 0, 5, 153, 0, 13, 42, 192, 0, 5, 76, 43, 190, 167, 0, 8]
abbrev dktX0_sizeOf_1 : List UInt8 := dkwX0_sizeOf_1 ++ dktX0_sizeOf_2
def dkwX0_sizeOf_0 : List UInt8 := [42, 193, 0, 1, 153, 0, 11, 42, 192, 0, 1, 76, 43, 190, 172, 42, 193, 0, 3, 153, 0, 11, 42]
abbrev dktX0_sizeOf_0 : List UInt8 := dkwX0_sizeOf_0 ++ dktX0_sizeOf_1
theorem dksX0_sizeOf_0 : cX0_sizeOf.data.toList.drop 0 = dktX0_sizeOf_0 := by decide +kernel
theorem dksX0_sizeOf_1 : cX0_sizeOf.data.toList.drop 23 = dktX0_sizeOf_1 := dk_seg dksX0_sizeOf_0 23 rfl rfl
theorem dksX0_sizeOf_2 : cX0_sizeOf.data.toList.drop 47 = dktX0_sizeOf_2 := dk_seg dksX0_sizeOf_1 24 rfl rfl
theorem dX0_sizeOf_0 : decode cX0_sizeOf 0 = .ok (.aload_n 0, 1) := dk_42 (dk_at dksX0_sizeOf_0 0 rfl rfl)
theorem dX0_sizeOf_1 : decode cX0_sizeOf 1 = .ok (.instanceof 1, 3) := dk_193 0 1 (dk_at dksX0_sizeOf_0 1 rfl rfl)
theorem dX0_sizeOf_4 : decode cX0_sizeOf 4 = .ok (.ifCond .eq 11, 3) := dk_153 0 11 (dk_at dksX0_sizeOf_0 4 rfl rfl)
theorem dX0_sizeOf_7 : decode cX0_sizeOf 7 = .ok (.aload_n 0, 1) := dk_42 (dk_at dksX0_sizeOf_0 7 rfl rfl)
theorem dX0_sizeOf_8 : decode cX0_sizeOf 8 = .ok (.checkcast 1, 3) := dk_192 0 1 (dk_at dksX0_sizeOf_0 8 rfl rfl)
theorem dX0_sizeOf_11 : decode cX0_sizeOf 11 = .ok (.astore_n 1, 1) := dk_76 (dk_at dksX0_sizeOf_0 11 rfl rfl)
theorem dX0_sizeOf_12 : decode cX0_sizeOf 12 = .ok (.aload_n 1, 1) := dk_43 (dk_at dksX0_sizeOf_0 12 rfl rfl)
theorem dX0_sizeOf_13 : decode cX0_sizeOf 13 = .ok (.arraylength, 1) := dk_190 (dk_at dksX0_sizeOf_0 13 rfl rfl)
theorem dX0_sizeOf_14 : decode cX0_sizeOf 14 = .ok (.ireturn, 1) := dk_172 (dk_at dksX0_sizeOf_0 14 rfl rfl)
theorem dX0_sizeOf_15 : decode cX0_sizeOf 15 = .ok (.aload_n 0, 1) := dk_42 (dk_at dksX0_sizeOf_0 15 rfl rfl)
theorem dX0_sizeOf_16 : decode cX0_sizeOf 16 = .ok (.instanceof 3, 3) := dk_193 0 3 (dk_at dksX0_sizeOf_0 16 rfl rfl)
theorem dX0_sizeOf_19 : decode cX0_sizeOf 19 = .ok (.ifCond .eq 11, 3) := dk_153 0 11 (dk_at dksX0_sizeOf_0 19 rfl rfl)
theorem dX0_sizeOf_22 : decode cX0_sizeOf 22 = .ok (.aload_n 0, 1) := dk_42 (dk_at dksX0_sizeOf_0 22 rfl rfl)
theorem dX0_sizeOf_23 : decode cX0_sizeOf 23 = .ok (.checkcast 3, 3) := dk_192 0 3 (dk_at dksX0_sizeOf_1 0 rfl rfl)
theorem dX0_sizeOf_26 : decode cX0_sizeOf 26 = .ok (.astore_n 1, 1) := dk_76 (dk_at dksX0_sizeOf_1 3 rfl rfl)
theorem dX0_sizeOf_27 : decode cX0_sizeOf 27 = .ok (.aload_n 1, 1) := dk_43 (dk_at dksX0_sizeOf_1 4 rfl rfl)
theorem dX0_sizeOf_28 : decode cX0_sizeOf 28 = .ok (.arraylength, 1) := dk_190 (dk_at dksX0_sizeOf_1 5 rfl rfl)
theorem dX0_sizeOf_29 : decode cX0_sizeOf 29 = .ok (.ireturn, 1) := dk_172 (dk_at dksX0_sizeOf_1 6 rfl rfl)
theorem dX0_sizeOf_30 : decode cX0_sizeOf 30 = .ok (.aload_n 0, 1) := dk_42 (dk_at dksX0_sizeOf_1 7 rfl rfl)
theorem dX0_sizeOf_31 : decode cX0_sizeOf 31 = .ok (.instanceof 5, 3) := dk_193 0 5 (dk_at dksX0_sizeOf_1 8 rfl rfl)
theorem dX0_sizeOf_34 : decode cX0_sizeOf 34 = .ok (.ifCond .eq 13, 3) := dk_153 0 13 (dk_at dksX0_sizeOf_1 11 rfl rfl)
theorem dX0_sizeOf_37 : decode cX0_sizeOf 37 = .ok (.aload_n 0, 1) := dk_42 (dk_at dksX0_sizeOf_1 14 rfl rfl)
theorem dX0_sizeOf_38 : decode cX0_sizeOf 38 = .ok (.checkcast 5, 3) := dk_192 0 5 (dk_at dksX0_sizeOf_1 15 rfl rfl)
theorem dX0_sizeOf_41 : decode cX0_sizeOf 41 = .ok (.astore_n 1, 1) := dk_76 (dk_at dksX0_sizeOf_1 18 rfl rfl)
theorem dX0_sizeOf_42 : decode cX0_sizeOf 42 = .ok (.aload_n 1, 1) := dk_43 (dk_at dksX0_sizeOf_1 19 rfl rfl)
theorem dX0_sizeOf_43 : decode cX0_sizeOf 43 = .ok (.arraylength, 1) := dk_190 (dk_at dksX0_sizeOf_1 20 rfl rfl)
theorem dX0_sizeOf_44 : decode cX0_sizeOf 44 = .ok (.goto 8, 3) := dk_167 0 8 (dk_at dksX0_sizeOf_1 21 rfl rfl)
theorem dX0_sizeOf_47 : decode cX0_sizeOf 47 = .ok (.aload_n 0, 1) := dk_42 (dk_at dksX0_sizeOf_2 0 rfl rfl)
theorem dX0_sizeOf_48 : decode cX0_sizeOf 48 = .ok (.checkcast 7, 3) := dk_192 0 7 (dk_at dksX0_sizeOf_2 1 rfl rfl)
theorem dX0_sizeOf_51 : decode cX0_sizeOf 51 = .ok (.arraylength, 1) := dk_190 (dk_at dksX0_sizeOf_2 4 rfl rfl)
theorem dX0_sizeOf_52 : decode cX0_sizeOf 52 = .ok (.ireturn, 1) := dk_172 (dk_at dksX0_sizeOf_2 5 rfl rfl)
abbrev cX0_walk : ByteArray := prog_1_method_68_code
def yX0_walk : MethodName := ⟨RX0, "walk", "(II)I"⟩
def dkwX0_walk_2 : List UInt8 := [42, 182, 0, 187, 180, 1, 18, 27, 46, 100, 172]
abbrev dktX0_walk_2 : List UInt8 := dkwX0_walk_2 ++ []
def dkwX0_walk_1 : List UInt8 := [158, 0, 7, 2, 167, 0, 30, 42, 182, 0, 187, 27, 42, 182, 0, 165, 180, 1, 26, 28, 46, 182, 1, 110]
abbrev dktX0_walk_1 : List UInt8 := dkwX0_walk_1 ++ dktX0_walk_2
def dkwX0_walk_0 : List UInt8 := [42, 42, 27, 28, 182, 1, 55, 153, 0, 7, 3, 167, 0, 4, 4, 181, 0, 85, 42, 180, 0, 85]
abbrev dktX0_walk_0 : List UInt8 := dkwX0_walk_0 ++ dktX0_walk_1
theorem dksX0_walk_0 : cX0_walk.data.toList.drop 0 = dktX0_walk_0 := by decide +kernel
theorem dksX0_walk_1 : cX0_walk.data.toList.drop 22 = dktX0_walk_1 := dk_seg dksX0_walk_0 22 rfl rfl
theorem dksX0_walk_2 : cX0_walk.data.toList.drop 46 = dktX0_walk_2 := dk_seg dksX0_walk_1 24 rfl rfl
theorem dX0_walk_0 : decode cX0_walk 0 = .ok (.aload_n 0, 1) := dk_42 (dk_at dksX0_walk_0 0 rfl rfl)
theorem dX0_walk_1 : decode cX0_walk 1 = .ok (.aload_n 0, 1) := dk_42 (dk_at dksX0_walk_0 1 rfl rfl)
theorem dX0_walk_2 : decode cX0_walk 2 = .ok (.iload_n 1, 1) := dk_27 (dk_at dksX0_walk_0 2 rfl rfl)
theorem dX0_walk_3 : decode cX0_walk 3 = .ok (.iload_n 2, 1) := dk_28 (dk_at dksX0_walk_0 3 rfl rfl)
theorem dX0_walk_4 : decode cX0_walk 4 = .ok (.invokevirtual 311, 3) := dk_182 1 55 (dk_at dksX0_walk_0 4 rfl rfl)
theorem dX0_walk_7 : decode cX0_walk 7 = .ok (.ifCond .eq 7, 3) := dk_153 0 7 (dk_at dksX0_walk_0 7 rfl rfl)
theorem dX0_walk_10 : decode cX0_walk 10 = .ok (.iconst 0, 1) := dk_3 (dk_at dksX0_walk_0 10 rfl rfl)
theorem dX0_walk_11 : decode cX0_walk 11 = .ok (.goto 4, 3) := dk_167 0 4 (dk_at dksX0_walk_0 11 rfl rfl)
theorem dX0_walk_14 : decode cX0_walk 14 = .ok (.iconst 1, 1) := dk_4 (dk_at dksX0_walk_0 14 rfl rfl)
theorem dX0_walk_15 : decode cX0_walk 15 = .ok (.putfield 85, 3) := dk_181 0 85 (dk_at dksX0_walk_0 15 rfl rfl)
theorem dX0_walk_18 : decode cX0_walk 18 = .ok (.aload_n 0, 1) := dk_42 (dk_at dksX0_walk_0 18 rfl rfl)
theorem dX0_walk_19 : decode cX0_walk 19 = .ok (.getfield 85, 3) := dk_180 0 85 (dk_at dksX0_walk_0 19 rfl rfl)
theorem dX0_walk_22 : decode cX0_walk 22 = .ok (.ifCond .le 7, 3) := dk_158 0 7 (dk_at dksX0_walk_1 0 rfl rfl)
theorem dX0_walk_25 : decode cX0_walk 25 = .ok (.iconst (-1), 1) := dk_2 (dk_at dksX0_walk_1 3 rfl rfl)
theorem dX0_walk_26 : decode cX0_walk 26 = .ok (.goto 30, 3) := dk_167 0 30 (dk_at dksX0_walk_1 4 rfl rfl)
theorem dX0_walk_29 : decode cX0_walk 29 = .ok (.aload_n 0, 1) := dk_42 (dk_at dksX0_walk_1 7 rfl rfl)
theorem dX0_walk_30 : decode cX0_walk 30 = .ok (.invokevirtual 187, 3) := dk_182 0 187 (dk_at dksX0_walk_1 8 rfl rfl)
theorem dX0_walk_33 : decode cX0_walk 33 = .ok (.iload_n 1, 1) := dk_27 (dk_at dksX0_walk_1 11 rfl rfl)
theorem dX0_walk_34 : decode cX0_walk 34 = .ok (.aload_n 0, 1) := dk_42 (dk_at dksX0_walk_1 12 rfl rfl)
theorem dX0_walk_35 : decode cX0_walk 35 = .ok (.invokevirtual 165, 3) := dk_182 0 165 (dk_at dksX0_walk_1 13 rfl rfl)
theorem dX0_walk_38 : decode cX0_walk 38 = .ok (.getfield 282, 3) := dk_180 1 26 (dk_at dksX0_walk_1 16 rfl rfl)
theorem dX0_walk_41 : decode cX0_walk 41 = .ok (.iload_n 2, 1) := dk_28 (dk_at dksX0_walk_1 19 rfl rfl)
theorem dX0_walk_42 : decode cX0_walk 42 = .ok (.iaload, 1) := dk_46 (dk_at dksX0_walk_1 20 rfl rfl)
theorem dX0_walk_43 : decode cX0_walk 43 = .ok (.invokevirtual 366, 3) := dk_182 1 110 (dk_at dksX0_walk_1 21 rfl rfl)
theorem dX0_walk_46 : decode cX0_walk 46 = .ok (.aload_n 0, 1) := dk_42 (dk_at dksX0_walk_2 0 rfl rfl)
theorem dX0_walk_47 : decode cX0_walk 47 = .ok (.invokevirtual 187, 3) := dk_182 0 187 (dk_at dksX0_walk_2 1 rfl rfl)
theorem dX0_walk_50 : decode cX0_walk 50 = .ok (.getfield 274, 3) := dk_180 1 18 (dk_at dksX0_walk_2 4 rfl rfl)
theorem dX0_walk_53 : decode cX0_walk 53 = .ok (.iload_n 1, 1) := dk_27 (dk_at dksX0_walk_2 7 rfl rfl)
theorem dX0_walk_54 : decode cX0_walk 54 = .ok (.iaload, 1) := dk_46 (dk_at dksX0_walk_2 8 rfl rfl)
theorem dX0_walk_55 : decode cX0_walk 55 = .ok (.isub, 1) := dk_100 (dk_at dksX0_walk_2 9 rfl rfl)
theorem dX0_walk_56 : decode cX0_walk 56 = .ok (.ireturn, 1) := dk_172 (dk_at dksX0_walk_2 10 rfl rfl)
abbrev cX0_gain : ByteArray := prog_1_method_69_code
def yX0_gain : MethodName := ⟨RX0, "gain", "(II)I"⟩
def dkwX0_gain_4 : List UInt8 := [182, 0, 187, 27, 182, 1, 96, 100, 172]
abbrev dktX0_gain_4 : List UInt8 := dkwX0_gain_4 ++ []
def dkwX0_gain_3 : List UInt8 := [180, 0, 78, 180, 1, 32, 28, 50, 27, 29, 182, 1, 167, 42, 180, 0, 78, 27, 182, 1, 96, 42]
abbrev dktX0_gain_3 : List UInt8 := dkwX0_gain_3 ++ dktX0_gain_4
def dkwX0_gain_2 : List UInt8 := [181, 0, 85, 42, 180, 0, 85, 158, 0, 5, 2, 172, 42, 180, 0, 78, 42, 182, 0, 187, 182, 1, 163, 42]
abbrev dktX0_gain_2 : List UInt8 := dkwX0_gain_2 ++ dktX0_gain_3
def dkwX0_gain_1 : List UInt8 := [158, 0, 5, 2, 172, 42, 27, 28, 182, 1, 117, 62, 42, 29, 156, 0, 8, 16, 7, 167, 0, 4, 3]
abbrev dktX0_gain_1 : List UInt8 := dkwX0_gain_1 ++ dktX0_gain_2
def dkwX0_gain_0 : List UInt8 := [42, 42, 27, 28, 182, 1, 55, 153, 0, 7, 3, 167, 0, 4, 4, 181, 0, 85, 42, 180, 0, 85]
abbrev dktX0_gain_0 : List UInt8 := dkwX0_gain_0 ++ dktX0_gain_1
theorem dksX0_gain_0 : cX0_gain.data.toList.drop 0 = dktX0_gain_0 := by decide +kernel
theorem dksX0_gain_1 : cX0_gain.data.toList.drop 22 = dktX0_gain_1 := dk_seg dksX0_gain_0 22 rfl rfl
theorem dksX0_gain_2 : cX0_gain.data.toList.drop 45 = dktX0_gain_2 := dk_seg dksX0_gain_1 23 rfl rfl
theorem dksX0_gain_3 : cX0_gain.data.toList.drop 69 = dktX0_gain_3 := dk_seg dksX0_gain_2 24 rfl rfl
theorem dksX0_gain_4 : cX0_gain.data.toList.drop 91 = dktX0_gain_4 := dk_seg dksX0_gain_3 22 rfl rfl
theorem dX0_gain_0 : decode cX0_gain 0 = .ok (.aload_n 0, 1) := dk_42 (dk_at dksX0_gain_0 0 rfl rfl)
theorem dX0_gain_1 : decode cX0_gain 1 = .ok (.aload_n 0, 1) := dk_42 (dk_at dksX0_gain_0 1 rfl rfl)
theorem dX0_gain_2 : decode cX0_gain 2 = .ok (.iload_n 1, 1) := dk_27 (dk_at dksX0_gain_0 2 rfl rfl)
theorem dX0_gain_3 : decode cX0_gain 3 = .ok (.iload_n 2, 1) := dk_28 (dk_at dksX0_gain_0 3 rfl rfl)
theorem dX0_gain_4 : decode cX0_gain 4 = .ok (.invokevirtual 311, 3) := dk_182 1 55 (dk_at dksX0_gain_0 4 rfl rfl)
theorem dX0_gain_7 : decode cX0_gain 7 = .ok (.ifCond .eq 7, 3) := dk_153 0 7 (dk_at dksX0_gain_0 7 rfl rfl)
theorem dX0_gain_10 : decode cX0_gain 10 = .ok (.iconst 0, 1) := dk_3 (dk_at dksX0_gain_0 10 rfl rfl)
theorem dX0_gain_11 : decode cX0_gain 11 = .ok (.goto 4, 3) := dk_167 0 4 (dk_at dksX0_gain_0 11 rfl rfl)
theorem dX0_gain_14 : decode cX0_gain 14 = .ok (.iconst 1, 1) := dk_4 (dk_at dksX0_gain_0 14 rfl rfl)
theorem dX0_gain_15 : decode cX0_gain 15 = .ok (.putfield 85, 3) := dk_181 0 85 (dk_at dksX0_gain_0 15 rfl rfl)
theorem dX0_gain_18 : decode cX0_gain 18 = .ok (.aload_n 0, 1) := dk_42 (dk_at dksX0_gain_0 18 rfl rfl)
theorem dX0_gain_19 : decode cX0_gain 19 = .ok (.getfield 85, 3) := dk_180 0 85 (dk_at dksX0_gain_0 19 rfl rfl)
theorem dX0_gain_22 : decode cX0_gain 22 = .ok (.ifCond .le 5, 3) := dk_158 0 5 (dk_at dksX0_gain_1 0 rfl rfl)
theorem dX0_gain_25 : decode cX0_gain 25 = .ok (.iconst (-1), 1) := dk_2 (dk_at dksX0_gain_1 3 rfl rfl)
theorem dX0_gain_26 : decode cX0_gain 26 = .ok (.ireturn, 1) := dk_172 (dk_at dksX0_gain_1 4 rfl rfl)
theorem dX0_gain_27 : decode cX0_gain 27 = .ok (.aload_n 0, 1) := dk_42 (dk_at dksX0_gain_1 5 rfl rfl)
theorem dX0_gain_28 : decode cX0_gain 28 = .ok (.iload_n 1, 1) := dk_27 (dk_at dksX0_gain_1 6 rfl rfl)
theorem dX0_gain_29 : decode cX0_gain 29 = .ok (.iload_n 2, 1) := dk_28 (dk_at dksX0_gain_1 7 rfl rfl)
theorem dX0_gain_30 : decode cX0_gain 30 = .ok (.invokevirtual 373, 3) := dk_182 1 117 (dk_at dksX0_gain_1 8 rfl rfl)
theorem dX0_gain_33 : decode cX0_gain 33 = .ok (.istore_n 3, 1) := dk_62 (dk_at dksX0_gain_1 11 rfl rfl)
theorem dX0_gain_34 : decode cX0_gain 34 = .ok (.aload_n 0, 1) := dk_42 (dk_at dksX0_gain_1 12 rfl rfl)
theorem dX0_gain_35 : decode cX0_gain 35 = .ok (.iload_n 3, 1) := dk_29 (dk_at dksX0_gain_1 13 rfl rfl)
theorem dX0_gain_36 : decode cX0_gain 36 = .ok (.ifCond .ge 8, 3) := dk_156 0 8 (dk_at dksX0_gain_1 14 rfl rfl)
theorem dX0_gain_39 : decode cX0_gain 39 = .ok (.bipush 7, 2) := dk_16 7 (dk_at dksX0_gain_1 17 rfl rfl)
theorem dX0_gain_41 : decode cX0_gain 41 = .ok (.goto 4, 3) := dk_167 0 4 (dk_at dksX0_gain_1 19 rfl rfl)
theorem dX0_gain_44 : decode cX0_gain 44 = .ok (.iconst 0, 1) := dk_3 (dk_at dksX0_gain_1 22 rfl rfl)
theorem dX0_gain_45 : decode cX0_gain 45 = .ok (.putfield 85, 3) := dk_181 0 85 (dk_at dksX0_gain_2 0 rfl rfl)
theorem dX0_gain_48 : decode cX0_gain 48 = .ok (.aload_n 0, 1) := dk_42 (dk_at dksX0_gain_2 3 rfl rfl)
theorem dX0_gain_49 : decode cX0_gain 49 = .ok (.getfield 85, 3) := dk_180 0 85 (dk_at dksX0_gain_2 4 rfl rfl)
theorem dX0_gain_52 : decode cX0_gain 52 = .ok (.ifCond .le 5, 3) := dk_158 0 5 (dk_at dksX0_gain_2 7 rfl rfl)
theorem dX0_gain_55 : decode cX0_gain 55 = .ok (.iconst (-1), 1) := dk_2 (dk_at dksX0_gain_2 10 rfl rfl)
theorem dX0_gain_56 : decode cX0_gain 56 = .ok (.ireturn, 1) := dk_172 (dk_at dksX0_gain_2 11 rfl rfl)
theorem dX0_gain_57 : decode cX0_gain 57 = .ok (.aload_n 0, 1) := dk_42 (dk_at dksX0_gain_2 12 rfl rfl)
theorem dX0_gain_58 : decode cX0_gain 58 = .ok (.getfield 78, 3) := dk_180 0 78 (dk_at dksX0_gain_2 13 rfl rfl)
theorem dX0_gain_61 : decode cX0_gain 61 = .ok (.aload_n 0, 1) := dk_42 (dk_at dksX0_gain_2 16 rfl rfl)
theorem dX0_gain_62 : decode cX0_gain 62 = .ok (.invokevirtual 187, 3) := dk_182 0 187 (dk_at dksX0_gain_2 17 rfl rfl)
theorem dX0_gain_65 : decode cX0_gain 65 = .ok (.invokevirtual 419, 3) := dk_182 1 163 (dk_at dksX0_gain_2 20 rfl rfl)
theorem dX0_gain_68 : decode cX0_gain 68 = .ok (.aload_n 0, 1) := dk_42 (dk_at dksX0_gain_2 23 rfl rfl)
theorem dX0_gain_69 : decode cX0_gain 69 = .ok (.getfield 78, 3) := dk_180 0 78 (dk_at dksX0_gain_3 0 rfl rfl)
theorem dX0_gain_72 : decode cX0_gain 72 = .ok (.getfield 288, 3) := dk_180 1 32 (dk_at dksX0_gain_3 3 rfl rfl)
theorem dX0_gain_75 : decode cX0_gain 75 = .ok (.iload_n 2, 1) := dk_28 (dk_at dksX0_gain_3 6 rfl rfl)
theorem dX0_gain_76 : decode cX0_gain 76 = .ok (.aaload, 1) := dk_50 (dk_at dksX0_gain_3 7 rfl rfl)
theorem dX0_gain_77 : decode cX0_gain 77 = .ok (.iload_n 1, 1) := dk_27 (dk_at dksX0_gain_3 8 rfl rfl)
theorem dX0_gain_78 : decode cX0_gain 78 = .ok (.iload_n 3, 1) := dk_29 (dk_at dksX0_gain_3 9 rfl rfl)
theorem dX0_gain_79 : decode cX0_gain 79 = .ok (.invokevirtual 423, 3) := dk_182 1 167 (dk_at dksX0_gain_3 10 rfl rfl)
theorem dX0_gain_82 : decode cX0_gain 82 = .ok (.aload_n 0, 1) := dk_42 (dk_at dksX0_gain_3 13 rfl rfl)
theorem dX0_gain_83 : decode cX0_gain 83 = .ok (.getfield 78, 3) := dk_180 0 78 (dk_at dksX0_gain_3 14 rfl rfl)
theorem dX0_gain_86 : decode cX0_gain 86 = .ok (.iload_n 1, 1) := dk_27 (dk_at dksX0_gain_3 17 rfl rfl)
theorem dX0_gain_87 : decode cX0_gain 87 = .ok (.invokevirtual 352, 3) := dk_182 1 96 (dk_at dksX0_gain_3 18 rfl rfl)
theorem dX0_gain_90 : decode cX0_gain 90 = .ok (.aload_n 0, 1) := dk_42 (dk_at dksX0_gain_3 21 rfl rfl)
theorem dX0_gain_91 : decode cX0_gain 91 = .ok (.invokevirtual 187, 3) := dk_182 0 187 (dk_at dksX0_gain_4 0 rfl rfl)
theorem dX0_gain_94 : decode cX0_gain 94 = .ok (.iload_n 1, 1) := dk_27 (dk_at dksX0_gain_4 3 rfl rfl)
theorem dX0_gain_95 : decode cX0_gain 95 = .ok (.invokevirtual 352, 3) := dk_182 1 96 (dk_at dksX0_gain_4 4 rfl rfl)
theorem dX0_gain_98 : decode cX0_gain 98 = .ok (.isub, 1) := dk_100 (dk_at dksX0_gain_4 7 rfl rfl)
theorem dX0_gain_99 : decode cX0_gain 99 = .ok (.ireturn, 1) := dk_172 (dk_at dksX0_gain_4 8 rfl rfl)
abbrev cX0_safe : ByteArray := prog_1_method_70_code
def yX0_safe : MethodName := ⟨RX0, "safe", "(I)I"⟩
def dkwX0_safe_6 : List UInt8 := [132, 3, 1, 167, 255, 143, 28, 172]
abbrev dktX0_safe_6 : List UInt8 := dkwX0_safe_6 ++ []
def dkwX0_safe_5 : List UInt8 := [54, 4, 132, 5, 1, 167, 255, 213, 28, 21, 4, 153, 0, 9, 4, 29, 120, 167, 0, 4, 3, 128, 61]
abbrev dktX0_safe_5 : List UInt8 := dkwX0_safe_5 ++ dktX0_safe_6
def dkwX0_safe_4 : List UInt8 := [153, 0, 23, 21, 5, 27, 159, 0, 13, 42, 21, 5, 29, 182, 1, 117, 156, 0, 7, 4, 167, 0, 4, 3]
abbrev dktX0_safe_4 : List UInt8 := dkwX0_safe_4 ++ dktX0_safe_5
def dkwX0_safe_3 : List UInt8 := [167, 0, 70, 4, 54, 4, 3, 54, 5, 21, 5, 42, 182, 0, 165, 180, 0, 168, 162, 0, 37, 21, 4]
abbrev dktX0_safe_3 : List UInt8 := dkwX0_safe_3 ++ dktX0_safe_4
def dkwX0_safe_2 : List UInt8 := [182, 0, 190, 153, 0, 91, 42, 182, 0, 187, 180, 1, 32, 29, 50, 182, 1, 92, 4, 27, 120, 159, 0, 6]
abbrev dktX0_safe_2 : List UInt8 := dkwX0_safe_2 ++ dktX0_safe_3
def dkwX0_safe_1 : List UInt8 := [2, 172, 3, 61, 3, 62, 29, 42, 182, 0, 165, 180, 0, 177, 162, 0, 108, 42, 182, 0, 187, 29]
abbrev dktX0_safe_1 : List UInt8 := dkwX0_safe_1 ++ dktX0_safe_2
def dkwX0_safe_0 : List UInt8 := [42, 42, 27, 182, 0, 180, 153, 0, 7, 3, 167, 0, 4, 4, 181, 0, 85, 42, 180, 0, 85, 158, 0, 5]
abbrev dktX0_safe_0 : List UInt8 := dkwX0_safe_0 ++ dktX0_safe_1
theorem dksX0_safe_0 : cX0_safe.data.toList.drop 0 = dktX0_safe_0 := by decide +kernel
theorem dksX0_safe_1 : cX0_safe.data.toList.drop 24 = dktX0_safe_1 := dk_seg dksX0_safe_0 24 rfl rfl
theorem dksX0_safe_2 : cX0_safe.data.toList.drop 46 = dktX0_safe_2 := dk_seg dksX0_safe_1 22 rfl rfl
theorem dksX0_safe_3 : cX0_safe.data.toList.drop 70 = dktX0_safe_3 := dk_seg dksX0_safe_2 24 rfl rfl
theorem dksX0_safe_4 : cX0_safe.data.toList.drop 93 = dktX0_safe_4 := dk_seg dksX0_safe_3 23 rfl rfl
theorem dksX0_safe_5 : cX0_safe.data.toList.drop 117 = dktX0_safe_5 := dk_seg dksX0_safe_4 24 rfl rfl
theorem dksX0_safe_6 : cX0_safe.data.toList.drop 140 = dktX0_safe_6 := dk_seg dksX0_safe_5 23 rfl rfl
theorem dX0_safe_0 : decode cX0_safe 0 = .ok (.aload_n 0, 1) := dk_42 (dk_at dksX0_safe_0 0 rfl rfl)
theorem dX0_safe_1 : decode cX0_safe 1 = .ok (.aload_n 0, 1) := dk_42 (dk_at dksX0_safe_0 1 rfl rfl)
theorem dX0_safe_2 : decode cX0_safe 2 = .ok (.iload_n 1, 1) := dk_27 (dk_at dksX0_safe_0 2 rfl rfl)
theorem dX0_safe_3 : decode cX0_safe 3 = .ok (.invokevirtual 180, 3) := dk_182 0 180 (dk_at dksX0_safe_0 3 rfl rfl)
theorem dX0_safe_6 : decode cX0_safe 6 = .ok (.ifCond .eq 7, 3) := dk_153 0 7 (dk_at dksX0_safe_0 6 rfl rfl)
theorem dX0_safe_9 : decode cX0_safe 9 = .ok (.iconst 0, 1) := dk_3 (dk_at dksX0_safe_0 9 rfl rfl)
theorem dX0_safe_10 : decode cX0_safe 10 = .ok (.goto 4, 3) := dk_167 0 4 (dk_at dksX0_safe_0 10 rfl rfl)
theorem dX0_safe_13 : decode cX0_safe 13 = .ok (.iconst 1, 1) := dk_4 (dk_at dksX0_safe_0 13 rfl rfl)
theorem dX0_safe_14 : decode cX0_safe 14 = .ok (.putfield 85, 3) := dk_181 0 85 (dk_at dksX0_safe_0 14 rfl rfl)
theorem dX0_safe_17 : decode cX0_safe 17 = .ok (.aload_n 0, 1) := dk_42 (dk_at dksX0_safe_0 17 rfl rfl)
theorem dX0_safe_18 : decode cX0_safe 18 = .ok (.getfield 85, 3) := dk_180 0 85 (dk_at dksX0_safe_0 18 rfl rfl)
theorem dX0_safe_21 : decode cX0_safe 21 = .ok (.ifCond .le 5, 3) := dk_158 0 5 (dk_at dksX0_safe_0 21 rfl rfl)
theorem dX0_safe_24 : decode cX0_safe 24 = .ok (.iconst (-1), 1) := dk_2 (dk_at dksX0_safe_1 0 rfl rfl)
theorem dX0_safe_25 : decode cX0_safe 25 = .ok (.ireturn, 1) := dk_172 (dk_at dksX0_safe_1 1 rfl rfl)
theorem dX0_safe_26 : decode cX0_safe 26 = .ok (.iconst 0, 1) := dk_3 (dk_at dksX0_safe_1 2 rfl rfl)
theorem dX0_safe_27 : decode cX0_safe 27 = .ok (.istore_n 2, 1) := dk_61 (dk_at dksX0_safe_1 3 rfl rfl)
theorem dX0_safe_28 : decode cX0_safe 28 = .ok (.iconst 0, 1) := dk_3 (dk_at dksX0_safe_1 4 rfl rfl)
theorem dX0_safe_29 : decode cX0_safe 29 = .ok (.istore_n 3, 1) := dk_62 (dk_at dksX0_safe_1 5 rfl rfl)
theorem dX0_safe_30 : decode cX0_safe 30 = .ok (.iload_n 3, 1) := dk_29 (dk_at dksX0_safe_1 6 rfl rfl)
theorem dX0_safe_31 : decode cX0_safe 31 = .ok (.aload_n 0, 1) := dk_42 (dk_at dksX0_safe_1 7 rfl rfl)
theorem dX0_safe_32 : decode cX0_safe 32 = .ok (.invokevirtual 165, 3) := dk_182 0 165 (dk_at dksX0_safe_1 8 rfl rfl)
theorem dX0_safe_35 : decode cX0_safe 35 = .ok (.getfield 177, 3) := dk_180 0 177 (dk_at dksX0_safe_1 11 rfl rfl)
theorem dX0_safe_38 : decode cX0_safe 38 = .ok (.if_icmp .ge 108, 3) := dk_162 0 108 (dk_at dksX0_safe_1 14 rfl rfl)
theorem dX0_safe_41 : decode cX0_safe 41 = .ok (.aload_n 0, 1) := dk_42 (dk_at dksX0_safe_1 17 rfl rfl)
theorem dX0_safe_42 : decode cX0_safe 42 = .ok (.invokevirtual 187, 3) := dk_182 0 187 (dk_at dksX0_safe_1 18 rfl rfl)
theorem dX0_safe_45 : decode cX0_safe 45 = .ok (.iload_n 3, 1) := dk_29 (dk_at dksX0_safe_1 21 rfl rfl)
theorem dX0_safe_46 : decode cX0_safe 46 = .ok (.invokevirtual 190, 3) := dk_182 0 190 (dk_at dksX0_safe_2 0 rfl rfl)
theorem dX0_safe_49 : decode cX0_safe 49 = .ok (.ifCond .eq 91, 3) := dk_153 0 91 (dk_at dksX0_safe_2 3 rfl rfl)
theorem dX0_safe_52 : decode cX0_safe 52 = .ok (.aload_n 0, 1) := dk_42 (dk_at dksX0_safe_2 6 rfl rfl)
theorem dX0_safe_53 : decode cX0_safe 53 = .ok (.invokevirtual 187, 3) := dk_182 0 187 (dk_at dksX0_safe_2 7 rfl rfl)
theorem dX0_safe_56 : decode cX0_safe 56 = .ok (.getfield 288, 3) := dk_180 1 32 (dk_at dksX0_safe_2 10 rfl rfl)
theorem dX0_safe_59 : decode cX0_safe 59 = .ok (.iload_n 3, 1) := dk_29 (dk_at dksX0_safe_2 13 rfl rfl)
theorem dX0_safe_60 : decode cX0_safe 60 = .ok (.aaload, 1) := dk_50 (dk_at dksX0_safe_2 14 rfl rfl)
theorem dX0_safe_61 : decode cX0_safe 61 = .ok (.invokevirtual 348, 3) := dk_182 1 92 (dk_at dksX0_safe_2 15 rfl rfl)
theorem dX0_safe_64 : decode cX0_safe 64 = .ok (.iconst 1, 1) := dk_4 (dk_at dksX0_safe_2 18 rfl rfl)
theorem dX0_safe_65 : decode cX0_safe 65 = .ok (.iload_n 1, 1) := dk_27 (dk_at dksX0_safe_2 19 rfl rfl)
theorem dX0_safe_66 : decode cX0_safe 66 = .ok (.ishl, 1) := dk_120 (dk_at dksX0_safe_2 20 rfl rfl)
theorem dX0_safe_67 : decode cX0_safe 67 = .ok (.if_icmp .eq 6, 3) := dk_159 0 6 (dk_at dksX0_safe_2 21 rfl rfl)
theorem dX0_safe_70 : decode cX0_safe 70 = .ok (.goto 70, 3) := dk_167 0 70 (dk_at dksX0_safe_3 0 rfl rfl)
theorem dX0_safe_73 : decode cX0_safe 73 = .ok (.iconst 1, 1) := dk_4 (dk_at dksX0_safe_3 3 rfl rfl)
theorem dX0_safe_74 : decode cX0_safe 74 = .ok (.istore 4, 2) := dk_54 4 (dk_at dksX0_safe_3 4 rfl rfl)
theorem dX0_safe_76 : decode cX0_safe 76 = .ok (.iconst 0, 1) := dk_3 (dk_at dksX0_safe_3 6 rfl rfl)
theorem dX0_safe_77 : decode cX0_safe 77 = .ok (.istore 5, 2) := dk_54 5 (dk_at dksX0_safe_3 7 rfl rfl)
theorem dX0_safe_79 : decode cX0_safe 79 = .ok (.iload 5, 2) := dk_21 5 (dk_at dksX0_safe_3 9 rfl rfl)
theorem dX0_safe_81 : decode cX0_safe 81 = .ok (.aload_n 0, 1) := dk_42 (dk_at dksX0_safe_3 11 rfl rfl)
theorem dX0_safe_82 : decode cX0_safe 82 = .ok (.invokevirtual 165, 3) := dk_182 0 165 (dk_at dksX0_safe_3 12 rfl rfl)
theorem dX0_safe_85 : decode cX0_safe 85 = .ok (.getfield 168, 3) := dk_180 0 168 (dk_at dksX0_safe_3 15 rfl rfl)
theorem dX0_safe_88 : decode cX0_safe 88 = .ok (.if_icmp .ge 37, 3) := dk_162 0 37 (dk_at dksX0_safe_3 18 rfl rfl)
theorem dX0_safe_91 : decode cX0_safe 91 = .ok (.iload 4, 2) := dk_21 4 (dk_at dksX0_safe_3 21 rfl rfl)
theorem dX0_safe_93 : decode cX0_safe 93 = .ok (.ifCond .eq 23, 3) := dk_153 0 23 (dk_at dksX0_safe_4 0 rfl rfl)
theorem dX0_safe_96 : decode cX0_safe 96 = .ok (.iload 5, 2) := dk_21 5 (dk_at dksX0_safe_4 3 rfl rfl)
theorem dX0_safe_98 : decode cX0_safe 98 = .ok (.iload_n 1, 1) := dk_27 (dk_at dksX0_safe_4 5 rfl rfl)
theorem dX0_safe_99 : decode cX0_safe 99 = .ok (.if_icmp .eq 13, 3) := dk_159 0 13 (dk_at dksX0_safe_4 6 rfl rfl)
theorem dX0_safe_102 : decode cX0_safe 102 = .ok (.aload_n 0, 1) := dk_42 (dk_at dksX0_safe_4 9 rfl rfl)
theorem dX0_safe_103 : decode cX0_safe 103 = .ok (.iload 5, 2) := dk_21 5 (dk_at dksX0_safe_4 10 rfl rfl)
theorem dX0_safe_105 : decode cX0_safe 105 = .ok (.iload_n 3, 1) := dk_29 (dk_at dksX0_safe_4 12 rfl rfl)
theorem dX0_safe_106 : decode cX0_safe 106 = .ok (.invokevirtual 373, 3) := dk_182 1 117 (dk_at dksX0_safe_4 13 rfl rfl)
theorem dX0_safe_109 : decode cX0_safe 109 = .ok (.ifCond .ge 7, 3) := dk_156 0 7 (dk_at dksX0_safe_4 16 rfl rfl)
theorem dX0_safe_112 : decode cX0_safe 112 = .ok (.iconst 1, 1) := dk_4 (dk_at dksX0_safe_4 19 rfl rfl)
theorem dX0_safe_113 : decode cX0_safe 113 = .ok (.goto 4, 3) := dk_167 0 4 (dk_at dksX0_safe_4 20 rfl rfl)
theorem dX0_safe_116 : decode cX0_safe 116 = .ok (.iconst 0, 1) := dk_3 (dk_at dksX0_safe_4 23 rfl rfl)
theorem dX0_safe_117 : decode cX0_safe 117 = .ok (.istore 4, 2) := dk_54 4 (dk_at dksX0_safe_5 0 rfl rfl)
theorem dX0_safe_119 : decode cX0_safe 119 = .ok (.iinc 5 1, 3) := dk_132 5 1 (dk_at dksX0_safe_5 2 rfl rfl)
theorem dX0_safe_122 : decode cX0_safe 122 = .ok (.goto (-43), 3) := dk_167 255 213 (dk_at dksX0_safe_5 5 rfl rfl)
theorem dX0_safe_125 : decode cX0_safe 125 = .ok (.iload_n 2, 1) := dk_28 (dk_at dksX0_safe_5 8 rfl rfl)
theorem dX0_safe_126 : decode cX0_safe 126 = .ok (.iload 4, 2) := dk_21 4 (dk_at dksX0_safe_5 9 rfl rfl)
theorem dX0_safe_128 : decode cX0_safe 128 = .ok (.ifCond .eq 9, 3) := dk_153 0 9 (dk_at dksX0_safe_5 11 rfl rfl)
theorem dX0_safe_131 : decode cX0_safe 131 = .ok (.iconst 1, 1) := dk_4 (dk_at dksX0_safe_5 14 rfl rfl)
theorem dX0_safe_132 : decode cX0_safe 132 = .ok (.iload_n 3, 1) := dk_29 (dk_at dksX0_safe_5 15 rfl rfl)
theorem dX0_safe_133 : decode cX0_safe 133 = .ok (.ishl, 1) := dk_120 (dk_at dksX0_safe_5 16 rfl rfl)
theorem dX0_safe_134 : decode cX0_safe 134 = .ok (.goto 4, 3) := dk_167 0 4 (dk_at dksX0_safe_5 17 rfl rfl)
theorem dX0_safe_137 : decode cX0_safe 137 = .ok (.iconst 0, 1) := dk_3 (dk_at dksX0_safe_5 20 rfl rfl)
theorem dX0_safe_138 : decode cX0_safe 138 = .ok (.ior, 1) := dk_128 (dk_at dksX0_safe_5 21 rfl rfl)
theorem dX0_safe_139 : decode cX0_safe 139 = .ok (.istore_n 2, 1) := dk_61 (dk_at dksX0_safe_5 22 rfl rfl)
theorem dX0_safe_140 : decode cX0_safe 140 = .ok (.iinc 3 1, 3) := dk_132 3 1 (dk_at dksX0_safe_6 0 rfl rfl)
theorem dX0_safe_143 : decode cX0_safe 143 = .ok (.goto (-113), 3) := dk_167 255 143 (dk_at dksX0_safe_6 3 rfl rfl)
theorem dX0_safe_146 : decode cX0_safe 146 = .ok (.iload_n 2, 1) := dk_28 (dk_at dksX0_safe_6 6 rfl rfl)
theorem dX0_safe_147 : decode cX0_safe 147 = .ok (.ireturn, 1) := dk_172 (dk_at dksX0_safe_6 7 rfl rfl)
abbrev cX0_ranked : ByteArray := prog_1_method_71_code
def yX0_ranked : MethodName := ⟨RX0, "ranked", "(I)I"⟩
def dkwX0_ranked_4 : List UInt8 := [21, 4, 27, 160, 0, 5, 29, 61, 132, 3, 1, 167, 255, 154, 42, 28, 182, 1, 99, 172]
abbrev dktX0_ranked_4 : List UInt8 := dkwX0_ranked_4 ++ []
def dkwX0_ranked_3 : List UInt8 := [160, 0, 13, 21, 5, 29, 162, 0, 7, 4, 167, 0, 4, 3, 96, 54, 4, 132, 5, 1, 167, 255, 185]
abbrev dktX0_ranked_3 : List UInt8 := dkwX0_ranked_3 ++ dktX0_ranked_4
def dkwX0_ranked_2 : List UInt8 := [29, 182, 1, 96, 163, 0, 29, 42, 182, 0, 187, 21, 5, 182, 1, 96, 42, 182, 0, 187, 29, 182, 1, 96]
abbrev dktX0_ranked_2 : List UInt8 := dkwX0_ranked_2 ++ dktX0_ranked_3
def dkwX0_ranked_1 : List UInt8 := [182, 0, 165, 180, 0, 168, 162, 0, 65, 21, 4, 42, 182, 0, 187, 21, 5, 182, 1, 96, 42, 182, 0, 187]
abbrev dktX0_ranked_1 : List UInt8 := dkwX0_ranked_1 ++ dktX0_ranked_2
def dkwX0_ranked_0 : List UInt8 := [2, 61, 3, 62, 29, 42, 182, 0, 165, 180, 0, 168, 162, 0, 97, 3, 54, 4, 3, 54, 5, 21, 5, 42]
abbrev dktX0_ranked_0 : List UInt8 := dkwX0_ranked_0 ++ dktX0_ranked_1
theorem dksX0_ranked_0 : cX0_ranked.data.toList.drop 0 = dktX0_ranked_0 := by decide +kernel
theorem dksX0_ranked_1 : cX0_ranked.data.toList.drop 24 = dktX0_ranked_1 := dk_seg dksX0_ranked_0 24 rfl rfl
theorem dksX0_ranked_2 : cX0_ranked.data.toList.drop 48 = dktX0_ranked_2 := dk_seg dksX0_ranked_1 24 rfl rfl
theorem dksX0_ranked_3 : cX0_ranked.data.toList.drop 72 = dktX0_ranked_3 := dk_seg dksX0_ranked_2 24 rfl rfl
theorem dksX0_ranked_4 : cX0_ranked.data.toList.drop 95 = dktX0_ranked_4 := dk_seg dksX0_ranked_3 23 rfl rfl
theorem dX0_ranked_0 : decode cX0_ranked 0 = .ok (.iconst (-1), 1) := dk_2 (dk_at dksX0_ranked_0 0 rfl rfl)
theorem dX0_ranked_1 : decode cX0_ranked 1 = .ok (.istore_n 2, 1) := dk_61 (dk_at dksX0_ranked_0 1 rfl rfl)
theorem dX0_ranked_2 : decode cX0_ranked 2 = .ok (.iconst 0, 1) := dk_3 (dk_at dksX0_ranked_0 2 rfl rfl)
theorem dX0_ranked_3 : decode cX0_ranked 3 = .ok (.istore_n 3, 1) := dk_62 (dk_at dksX0_ranked_0 3 rfl rfl)
theorem dX0_ranked_4 : decode cX0_ranked 4 = .ok (.iload_n 3, 1) := dk_29 (dk_at dksX0_ranked_0 4 rfl rfl)
theorem dX0_ranked_5 : decode cX0_ranked 5 = .ok (.aload_n 0, 1) := dk_42 (dk_at dksX0_ranked_0 5 rfl rfl)
theorem dX0_ranked_6 : decode cX0_ranked 6 = .ok (.invokevirtual 165, 3) := dk_182 0 165 (dk_at dksX0_ranked_0 6 rfl rfl)
theorem dX0_ranked_9 : decode cX0_ranked 9 = .ok (.getfield 168, 3) := dk_180 0 168 (dk_at dksX0_ranked_0 9 rfl rfl)
theorem dX0_ranked_12 : decode cX0_ranked 12 = .ok (.if_icmp .ge 97, 3) := dk_162 0 97 (dk_at dksX0_ranked_0 12 rfl rfl)
theorem dX0_ranked_15 : decode cX0_ranked 15 = .ok (.iconst 0, 1) := dk_3 (dk_at dksX0_ranked_0 15 rfl rfl)
theorem dX0_ranked_16 : decode cX0_ranked 16 = .ok (.istore 4, 2) := dk_54 4 (dk_at dksX0_ranked_0 16 rfl rfl)
theorem dX0_ranked_18 : decode cX0_ranked 18 = .ok (.iconst 0, 1) := dk_3 (dk_at dksX0_ranked_0 18 rfl rfl)
theorem dX0_ranked_19 : decode cX0_ranked 19 = .ok (.istore 5, 2) := dk_54 5 (dk_at dksX0_ranked_0 19 rfl rfl)
theorem dX0_ranked_21 : decode cX0_ranked 21 = .ok (.iload 5, 2) := dk_21 5 (dk_at dksX0_ranked_0 21 rfl rfl)
theorem dX0_ranked_23 : decode cX0_ranked 23 = .ok (.aload_n 0, 1) := dk_42 (dk_at dksX0_ranked_0 23 rfl rfl)
theorem dX0_ranked_24 : decode cX0_ranked 24 = .ok (.invokevirtual 165, 3) := dk_182 0 165 (dk_at dksX0_ranked_1 0 rfl rfl)
theorem dX0_ranked_27 : decode cX0_ranked 27 = .ok (.getfield 168, 3) := dk_180 0 168 (dk_at dksX0_ranked_1 3 rfl rfl)
theorem dX0_ranked_30 : decode cX0_ranked 30 = .ok (.if_icmp .ge 65, 3) := dk_162 0 65 (dk_at dksX0_ranked_1 6 rfl rfl)
theorem dX0_ranked_33 : decode cX0_ranked 33 = .ok (.iload 4, 2) := dk_21 4 (dk_at dksX0_ranked_1 9 rfl rfl)
theorem dX0_ranked_35 : decode cX0_ranked 35 = .ok (.aload_n 0, 1) := dk_42 (dk_at dksX0_ranked_1 11 rfl rfl)
theorem dX0_ranked_36 : decode cX0_ranked 36 = .ok (.invokevirtual 187, 3) := dk_182 0 187 (dk_at dksX0_ranked_1 12 rfl rfl)
theorem dX0_ranked_39 : decode cX0_ranked 39 = .ok (.iload 5, 2) := dk_21 5 (dk_at dksX0_ranked_1 15 rfl rfl)
theorem dX0_ranked_41 : decode cX0_ranked 41 = .ok (.invokevirtual 352, 3) := dk_182 1 96 (dk_at dksX0_ranked_1 17 rfl rfl)
theorem dX0_ranked_44 : decode cX0_ranked 44 = .ok (.aload_n 0, 1) := dk_42 (dk_at dksX0_ranked_1 20 rfl rfl)
theorem dX0_ranked_45 : decode cX0_ranked 45 = .ok (.invokevirtual 187, 3) := dk_182 0 187 (dk_at dksX0_ranked_1 21 rfl rfl)
theorem dX0_ranked_48 : decode cX0_ranked 48 = .ok (.iload_n 3, 1) := dk_29 (dk_at dksX0_ranked_2 0 rfl rfl)
theorem dX0_ranked_49 : decode cX0_ranked 49 = .ok (.invokevirtual 352, 3) := dk_182 1 96 (dk_at dksX0_ranked_2 1 rfl rfl)
theorem dX0_ranked_52 : decode cX0_ranked 52 = .ok (.if_icmp .gt 29, 3) := dk_163 0 29 (dk_at dksX0_ranked_2 4 rfl rfl)
theorem dX0_ranked_55 : decode cX0_ranked 55 = .ok (.aload_n 0, 1) := dk_42 (dk_at dksX0_ranked_2 7 rfl rfl)
theorem dX0_ranked_56 : decode cX0_ranked 56 = .ok (.invokevirtual 187, 3) := dk_182 0 187 (dk_at dksX0_ranked_2 8 rfl rfl)
theorem dX0_ranked_59 : decode cX0_ranked 59 = .ok (.iload 5, 2) := dk_21 5 (dk_at dksX0_ranked_2 11 rfl rfl)
theorem dX0_ranked_61 : decode cX0_ranked 61 = .ok (.invokevirtual 352, 3) := dk_182 1 96 (dk_at dksX0_ranked_2 13 rfl rfl)
theorem dX0_ranked_64 : decode cX0_ranked 64 = .ok (.aload_n 0, 1) := dk_42 (dk_at dksX0_ranked_2 16 rfl rfl)
theorem dX0_ranked_65 : decode cX0_ranked 65 = .ok (.invokevirtual 187, 3) := dk_182 0 187 (dk_at dksX0_ranked_2 17 rfl rfl)
theorem dX0_ranked_68 : decode cX0_ranked 68 = .ok (.iload_n 3, 1) := dk_29 (dk_at dksX0_ranked_2 20 rfl rfl)
theorem dX0_ranked_69 : decode cX0_ranked 69 = .ok (.invokevirtual 352, 3) := dk_182 1 96 (dk_at dksX0_ranked_2 21 rfl rfl)
theorem dX0_ranked_72 : decode cX0_ranked 72 = .ok (.if_icmp .ne 13, 3) := dk_160 0 13 (dk_at dksX0_ranked_3 0 rfl rfl)
theorem dX0_ranked_75 : decode cX0_ranked 75 = .ok (.iload 5, 2) := dk_21 5 (dk_at dksX0_ranked_3 3 rfl rfl)
theorem dX0_ranked_77 : decode cX0_ranked 77 = .ok (.iload_n 3, 1) := dk_29 (dk_at dksX0_ranked_3 5 rfl rfl)
theorem dX0_ranked_78 : decode cX0_ranked 78 = .ok (.if_icmp .ge 7, 3) := dk_162 0 7 (dk_at dksX0_ranked_3 6 rfl rfl)
theorem dX0_ranked_81 : decode cX0_ranked 81 = .ok (.iconst 1, 1) := dk_4 (dk_at dksX0_ranked_3 9 rfl rfl)
theorem dX0_ranked_82 : decode cX0_ranked 82 = .ok (.goto 4, 3) := dk_167 0 4 (dk_at dksX0_ranked_3 10 rfl rfl)
theorem dX0_ranked_85 : decode cX0_ranked 85 = .ok (.iconst 0, 1) := dk_3 (dk_at dksX0_ranked_3 13 rfl rfl)
theorem dX0_ranked_86 : decode cX0_ranked 86 = .ok (.iadd, 1) := dk_96 (dk_at dksX0_ranked_3 14 rfl rfl)
theorem dX0_ranked_87 : decode cX0_ranked 87 = .ok (.istore 4, 2) := dk_54 4 (dk_at dksX0_ranked_3 15 rfl rfl)
theorem dX0_ranked_89 : decode cX0_ranked 89 = .ok (.iinc 5 1, 3) := dk_132 5 1 (dk_at dksX0_ranked_3 17 rfl rfl)
theorem dX0_ranked_92 : decode cX0_ranked 92 = .ok (.goto (-71), 3) := dk_167 255 185 (dk_at dksX0_ranked_3 20 rfl rfl)
theorem dX0_ranked_95 : decode cX0_ranked 95 = .ok (.iload 4, 2) := dk_21 4 (dk_at dksX0_ranked_4 0 rfl rfl)
theorem dX0_ranked_97 : decode cX0_ranked 97 = .ok (.iload_n 1, 1) := dk_27 (dk_at dksX0_ranked_4 2 rfl rfl)
theorem dX0_ranked_98 : decode cX0_ranked 98 = .ok (.if_icmp .ne 5, 3) := dk_160 0 5 (dk_at dksX0_ranked_4 3 rfl rfl)
theorem dX0_ranked_101 : decode cX0_ranked 101 = .ok (.iload_n 3, 1) := dk_29 (dk_at dksX0_ranked_4 6 rfl rfl)
theorem dX0_ranked_102 : decode cX0_ranked 102 = .ok (.istore_n 2, 1) := dk_61 (dk_at dksX0_ranked_4 7 rfl rfl)
theorem dX0_ranked_103 : decode cX0_ranked 103 = .ok (.iinc 3 1, 3) := dk_132 3 1 (dk_at dksX0_ranked_4 8 rfl rfl)
theorem dX0_ranked_106 : decode cX0_ranked 106 = .ok (.goto (-102), 3) := dk_167 255 154 (dk_at dksX0_ranked_4 11 rfl rfl)
theorem dX0_ranked_109 : decode cX0_ranked 109 = .ok (.aload_n 0, 1) := dk_42 (dk_at dksX0_ranked_4 14 rfl rfl)
theorem dX0_ranked_110 : decode cX0_ranked 110 = .ok (.iload_n 2, 1) := dk_28 (dk_at dksX0_ranked_4 15 rfl rfl)
theorem dX0_ranked_111 : decode cX0_ranked 111 = .ok (.invokevirtual 355, 3) := dk_182 1 99 (dk_at dksX0_ranked_4 16 rfl rfl)
theorem dX0_ranked_114 : decode cX0_ranked 114 = .ok (.ireturn, 1) := dk_172 (dk_at dksX0_ranked_4 19 rfl rfl)
abbrev cX0_rivals : ByteArray := prog_1_method_72_code
def yX0_rivals : MethodName := ⟨RX0, "rivals", "(II)I"⟩
def dkwX0_rivals_4 : List UInt8 := [167, 0, 4, 3, 128, 62, 132, 4, 1, 167, 255, 196, 29, 172]
abbrev dktX0_rivals_4 : List UInt8 := dkwX0_rivals_4 ++ []
def dkwX0_rivals_3 : List UInt8 := [158, 0, 27, 42, 182, 0, 187, 180, 1, 32, 21, 4, 50, 28, 182, 1, 107, 158, 0, 10, 4, 21, 4, 120]
abbrev dktX0_rivals_3 : List UInt8 := dkwX0_rivals_3 ++ dktX0_rivals_4
def dkwX0_rivals_2 : List UInt8 := [182, 0, 165, 180, 0, 177, 162, 0, 54, 29, 42, 182, 0, 187, 180, 1, 32, 21, 4, 50, 27, 182, 1, 107]
abbrev dktX0_rivals_2 : List UInt8 := dkwX0_rivals_2 ++ dktX0_rivals_3
def dkwX0_rivals_1 : List UInt8 := [167, 0, 4, 4, 181, 0, 85, 42, 180, 0, 85, 158, 0, 5, 2, 172, 3, 62, 3, 54, 4, 21, 4, 42]
abbrev dktX0_rivals_1 : List UInt8 := dkwX0_rivals_1 ++ dktX0_rivals_2
def dkwX0_rivals_0 : List UInt8 := [42, 42, 27, 182, 0, 180, 153, 0, 20, 42, 28, 182, 0, 180, 153, 0, 12, 27, 28, 159, 0, 7, 3]
abbrev dktX0_rivals_0 : List UInt8 := dkwX0_rivals_0 ++ dktX0_rivals_1
theorem dksX0_rivals_0 : cX0_rivals.data.toList.drop 0 = dktX0_rivals_0 := by decide +kernel
theorem dksX0_rivals_1 : cX0_rivals.data.toList.drop 23 = dktX0_rivals_1 := dk_seg dksX0_rivals_0 23 rfl rfl
theorem dksX0_rivals_2 : cX0_rivals.data.toList.drop 47 = dktX0_rivals_2 := dk_seg dksX0_rivals_1 24 rfl rfl
theorem dksX0_rivals_3 : cX0_rivals.data.toList.drop 71 = dktX0_rivals_3 := dk_seg dksX0_rivals_2 24 rfl rfl
theorem dksX0_rivals_4 : cX0_rivals.data.toList.drop 95 = dktX0_rivals_4 := dk_seg dksX0_rivals_3 24 rfl rfl
theorem dX0_rivals_0 : decode cX0_rivals 0 = .ok (.aload_n 0, 1) := dk_42 (dk_at dksX0_rivals_0 0 rfl rfl)
theorem dX0_rivals_1 : decode cX0_rivals 1 = .ok (.aload_n 0, 1) := dk_42 (dk_at dksX0_rivals_0 1 rfl rfl)
theorem dX0_rivals_2 : decode cX0_rivals 2 = .ok (.iload_n 1, 1) := dk_27 (dk_at dksX0_rivals_0 2 rfl rfl)
theorem dX0_rivals_3 : decode cX0_rivals 3 = .ok (.invokevirtual 180, 3) := dk_182 0 180 (dk_at dksX0_rivals_0 3 rfl rfl)
theorem dX0_rivals_6 : decode cX0_rivals 6 = .ok (.ifCond .eq 20, 3) := dk_153 0 20 (dk_at dksX0_rivals_0 6 rfl rfl)
theorem dX0_rivals_9 : decode cX0_rivals 9 = .ok (.aload_n 0, 1) := dk_42 (dk_at dksX0_rivals_0 9 rfl rfl)
theorem dX0_rivals_10 : decode cX0_rivals 10 = .ok (.iload_n 2, 1) := dk_28 (dk_at dksX0_rivals_0 10 rfl rfl)
theorem dX0_rivals_11 : decode cX0_rivals 11 = .ok (.invokevirtual 180, 3) := dk_182 0 180 (dk_at dksX0_rivals_0 11 rfl rfl)
theorem dX0_rivals_14 : decode cX0_rivals 14 = .ok (.ifCond .eq 12, 3) := dk_153 0 12 (dk_at dksX0_rivals_0 14 rfl rfl)
theorem dX0_rivals_17 : decode cX0_rivals 17 = .ok (.iload_n 1, 1) := dk_27 (dk_at dksX0_rivals_0 17 rfl rfl)
theorem dX0_rivals_18 : decode cX0_rivals 18 = .ok (.iload_n 2, 1) := dk_28 (dk_at dksX0_rivals_0 18 rfl rfl)
theorem dX0_rivals_19 : decode cX0_rivals 19 = .ok (.if_icmp .eq 7, 3) := dk_159 0 7 (dk_at dksX0_rivals_0 19 rfl rfl)
theorem dX0_rivals_22 : decode cX0_rivals 22 = .ok (.iconst 0, 1) := dk_3 (dk_at dksX0_rivals_0 22 rfl rfl)
theorem dX0_rivals_23 : decode cX0_rivals 23 = .ok (.goto 4, 3) := dk_167 0 4 (dk_at dksX0_rivals_1 0 rfl rfl)
theorem dX0_rivals_26 : decode cX0_rivals 26 = .ok (.iconst 1, 1) := dk_4 (dk_at dksX0_rivals_1 3 rfl rfl)
theorem dX0_rivals_27 : decode cX0_rivals 27 = .ok (.putfield 85, 3) := dk_181 0 85 (dk_at dksX0_rivals_1 4 rfl rfl)
theorem dX0_rivals_30 : decode cX0_rivals 30 = .ok (.aload_n 0, 1) := dk_42 (dk_at dksX0_rivals_1 7 rfl rfl)
theorem dX0_rivals_31 : decode cX0_rivals 31 = .ok (.getfield 85, 3) := dk_180 0 85 (dk_at dksX0_rivals_1 8 rfl rfl)
theorem dX0_rivals_34 : decode cX0_rivals 34 = .ok (.ifCond .le 5, 3) := dk_158 0 5 (dk_at dksX0_rivals_1 11 rfl rfl)
theorem dX0_rivals_37 : decode cX0_rivals 37 = .ok (.iconst (-1), 1) := dk_2 (dk_at dksX0_rivals_1 14 rfl rfl)
theorem dX0_rivals_38 : decode cX0_rivals 38 = .ok (.ireturn, 1) := dk_172 (dk_at dksX0_rivals_1 15 rfl rfl)
theorem dX0_rivals_39 : decode cX0_rivals 39 = .ok (.iconst 0, 1) := dk_3 (dk_at dksX0_rivals_1 16 rfl rfl)
theorem dX0_rivals_40 : decode cX0_rivals 40 = .ok (.istore_n 3, 1) := dk_62 (dk_at dksX0_rivals_1 17 rfl rfl)
theorem dX0_rivals_41 : decode cX0_rivals 41 = .ok (.iconst 0, 1) := dk_3 (dk_at dksX0_rivals_1 18 rfl rfl)
theorem dX0_rivals_42 : decode cX0_rivals 42 = .ok (.istore 4, 2) := dk_54 4 (dk_at dksX0_rivals_1 19 rfl rfl)
theorem dX0_rivals_44 : decode cX0_rivals 44 = .ok (.iload 4, 2) := dk_21 4 (dk_at dksX0_rivals_1 21 rfl rfl)
theorem dX0_rivals_46 : decode cX0_rivals 46 = .ok (.aload_n 0, 1) := dk_42 (dk_at dksX0_rivals_1 23 rfl rfl)
theorem dX0_rivals_47 : decode cX0_rivals 47 = .ok (.invokevirtual 165, 3) := dk_182 0 165 (dk_at dksX0_rivals_2 0 rfl rfl)
theorem dX0_rivals_50 : decode cX0_rivals 50 = .ok (.getfield 177, 3) := dk_180 0 177 (dk_at dksX0_rivals_2 3 rfl rfl)
theorem dX0_rivals_53 : decode cX0_rivals 53 = .ok (.if_icmp .ge 54, 3) := dk_162 0 54 (dk_at dksX0_rivals_2 6 rfl rfl)
theorem dX0_rivals_56 : decode cX0_rivals 56 = .ok (.iload_n 3, 1) := dk_29 (dk_at dksX0_rivals_2 9 rfl rfl)
theorem dX0_rivals_57 : decode cX0_rivals 57 = .ok (.aload_n 0, 1) := dk_42 (dk_at dksX0_rivals_2 10 rfl rfl)
theorem dX0_rivals_58 : decode cX0_rivals 58 = .ok (.invokevirtual 187, 3) := dk_182 0 187 (dk_at dksX0_rivals_2 11 rfl rfl)
theorem dX0_rivals_61 : decode cX0_rivals 61 = .ok (.getfield 288, 3) := dk_180 1 32 (dk_at dksX0_rivals_2 14 rfl rfl)
theorem dX0_rivals_64 : decode cX0_rivals 64 = .ok (.iload 4, 2) := dk_21 4 (dk_at dksX0_rivals_2 17 rfl rfl)
theorem dX0_rivals_66 : decode cX0_rivals 66 = .ok (.aaload, 1) := dk_50 (dk_at dksX0_rivals_2 19 rfl rfl)
theorem dX0_rivals_67 : decode cX0_rivals 67 = .ok (.iload_n 1, 1) := dk_27 (dk_at dksX0_rivals_2 20 rfl rfl)
theorem dX0_rivals_68 : decode cX0_rivals 68 = .ok (.invokevirtual 363, 3) := dk_182 1 107 (dk_at dksX0_rivals_2 21 rfl rfl)
theorem dX0_rivals_71 : decode cX0_rivals 71 = .ok (.ifCond .le 27, 3) := dk_158 0 27 (dk_at dksX0_rivals_3 0 rfl rfl)
theorem dX0_rivals_74 : decode cX0_rivals 74 = .ok (.aload_n 0, 1) := dk_42 (dk_at dksX0_rivals_3 3 rfl rfl)
theorem dX0_rivals_75 : decode cX0_rivals 75 = .ok (.invokevirtual 187, 3) := dk_182 0 187 (dk_at dksX0_rivals_3 4 rfl rfl)
theorem dX0_rivals_78 : decode cX0_rivals 78 = .ok (.getfield 288, 3) := dk_180 1 32 (dk_at dksX0_rivals_3 7 rfl rfl)
theorem dX0_rivals_81 : decode cX0_rivals 81 = .ok (.iload 4, 2) := dk_21 4 (dk_at dksX0_rivals_3 10 rfl rfl)
theorem dX0_rivals_83 : decode cX0_rivals 83 = .ok (.aaload, 1) := dk_50 (dk_at dksX0_rivals_3 12 rfl rfl)
theorem dX0_rivals_84 : decode cX0_rivals 84 = .ok (.iload_n 2, 1) := dk_28 (dk_at dksX0_rivals_3 13 rfl rfl)
theorem dX0_rivals_85 : decode cX0_rivals 85 = .ok (.invokevirtual 363, 3) := dk_182 1 107 (dk_at dksX0_rivals_3 14 rfl rfl)
theorem dX0_rivals_88 : decode cX0_rivals 88 = .ok (.ifCond .le 10, 3) := dk_158 0 10 (dk_at dksX0_rivals_3 17 rfl rfl)
theorem dX0_rivals_91 : decode cX0_rivals 91 = .ok (.iconst 1, 1) := dk_4 (dk_at dksX0_rivals_3 20 rfl rfl)
theorem dX0_rivals_92 : decode cX0_rivals 92 = .ok (.iload 4, 2) := dk_21 4 (dk_at dksX0_rivals_3 21 rfl rfl)
theorem dX0_rivals_94 : decode cX0_rivals 94 = .ok (.ishl, 1) := dk_120 (dk_at dksX0_rivals_3 23 rfl rfl)
theorem dX0_rivals_95 : decode cX0_rivals 95 = .ok (.goto 4, 3) := dk_167 0 4 (dk_at dksX0_rivals_4 0 rfl rfl)
theorem dX0_rivals_98 : decode cX0_rivals 98 = .ok (.iconst 0, 1) := dk_3 (dk_at dksX0_rivals_4 3 rfl rfl)
theorem dX0_rivals_99 : decode cX0_rivals 99 = .ok (.ior, 1) := dk_128 (dk_at dksX0_rivals_4 4 rfl rfl)
theorem dX0_rivals_100 : decode cX0_rivals 100 = .ok (.istore_n 3, 1) := dk_62 (dk_at dksX0_rivals_4 5 rfl rfl)
theorem dX0_rivals_101 : decode cX0_rivals 101 = .ok (.iinc 4 1, 3) := dk_132 4 1 (dk_at dksX0_rivals_4 6 rfl rfl)
theorem dX0_rivals_104 : decode cX0_rivals 104 = .ok (.goto (-60), 3) := dk_167 255 196 (dk_at dksX0_rivals_4 9 rfl rfl)
theorem dX0_rivals_107 : decode cX0_rivals 107 = .ok (.iload_n 3, 1) := dk_29 (dk_at dksX0_rivals_4 12 rfl rfl)
theorem dX0_rivals_108 : decode cX0_rivals 108 = .ok (.ireturn, 1) := dk_172 (dk_at dksX0_rivals_4 13 rfl rfl)
