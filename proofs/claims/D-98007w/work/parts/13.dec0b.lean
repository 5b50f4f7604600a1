set_option maxRecDepth 100000
abbrev cX0_richest : ByteArray := prog_1_method_73_code
def yX0_richest : MethodName := ⟨RX0, "richest", "()I"⟩
def dkwX0_richest_2 : List UInt8 := [46, 164, 0, 5, 28, 60, 132, 2, 1, 167, 255, 204, 42, 27, 182, 1, 99, 172]
abbrev dktX0_richest_2 : List UInt8 := dkwX0_richest_2 ++ []
def dkwX0_richest_1 : List UInt8 := [153, 0, 30, 27, 155, 0, 24, 42, 182, 0, 165, 180, 1, 29, 28, 46, 42, 182, 0, 165, 180, 1, 29, 27]
abbrev dktX0_richest_1 : List UInt8 := dkwX0_richest_1 ++ dktX0_richest_2
def dkwX0_richest_0 : List UInt8 := [2, 60, 3, 61, 28, 42, 182, 0, 165, 180, 0, 177, 162, 0, 47, 42, 182, 0, 187, 28, 182, 0, 190]
abbrev dktX0_richest_0 : List UInt8 := dkwX0_richest_0 ++ dktX0_richest_1
theorem dksX0_richest_0 : cX0_richest.data.toList.drop 0 = dktX0_richest_0 := by decide +kernel
theorem dksX0_richest_1 : cX0_richest.data.toList.drop 23 = dktX0_richest_1 := dk_seg dksX0_richest_0 23 rfl rfl
theorem dksX0_richest_2 : cX0_richest.data.toList.drop 47 = dktX0_richest_2 := dk_seg dksX0_richest_1 24 rfl rfl
theorem dX0_richest_0 : decode cX0_richest 0 = .ok (.iconst (-1), 1) := dk_2 (dk_at dksX0_richest_0 0 rfl rfl)
theorem dX0_richest_1 : decode cX0_richest 1 = .ok (.istore_n 1, 1) := dk_60 (dk_at dksX0_richest_0 1 rfl rfl)
theorem dX0_richest_2 : decode cX0_richest 2 = .ok (.iconst 0, 1) := dk_3 (dk_at dksX0_richest_0 2 rfl rfl)
theorem dX0_richest_3 : decode cX0_richest 3 = .ok (.istore_n 2, 1) := dk_61 (dk_at dksX0_richest_0 3 rfl rfl)
theorem dX0_richest_4 : decode cX0_richest 4 = .ok (.iload_n 2, 1) := dk_28 (dk_at dksX0_richest_0 4 rfl rfl)
theorem dX0_richest_5 : decode cX0_richest 5 = .ok (.aload_n 0, 1) := dk_42 (dk_at dksX0_richest_0 5 rfl rfl)
theorem dX0_richest_6 : decode cX0_richest 6 = .ok (.invokevirtual 165, 3) := dk_182 0 165 (dk_at dksX0_richest_0 6 rfl rfl)
theorem dX0_richest_9 : decode cX0_richest 9 = .ok (.getfield 177, 3) := dk_180 0 177 (dk_at dksX0_richest_0 9 rfl rfl)
theorem dX0_richest_12 : decode cX0_richest 12 = .ok (.if_icmp .ge 47, 3) := dk_162 0 47 (dk_at dksX0_richest_0 12 rfl rfl)
theorem dX0_richest_15 : decode cX0_richest 15 = .ok (.aload_n 0, 1) := dk_42 (dk_at dksX0_richest_0 15 rfl rfl)
theorem dX0_richest_16 : decode cX0_richest 16 = .ok (.invokevirtual 187, 3) := dk_182 0 187 (dk_at dksX0_richest_0 16 rfl rfl)
theorem dX0_richest_19 : decode cX0_richest 19 = .ok (.iload_n 2, 1) := dk_28 (dk_at dksX0_richest_0 19 rfl rfl)
theorem dX0_richest_20 : decode cX0_richest 20 = .ok (.invokevirtual 190, 3) := dk_182 0 190 (dk_at dksX0_richest_0 20 rfl rfl)
theorem dX0_richest_23 : decode cX0_richest 23 = .ok (.ifCond .eq 30, 3) := dk_153 0 30 (dk_at dksX0_richest_1 0 rfl rfl)
theorem dX0_richest_26 : decode cX0_richest 26 = .ok (.iload_n 1, 1) := dk_27 (dk_at dksX0_richest_1 3 rfl rfl)
theorem dX0_richest_27 : decode cX0_richest 27 = .ok (.ifCond .lt 24, 3) := dk_155 0 24 (dk_at dksX0_richest_1 4 rfl rfl)
theorem dX0_richest_30 : decode cX0_richest 30 = .ok (.aload_n 0, 1) := dk_42 (dk_at dksX0_richest_1 7 rfl rfl)
theorem dX0_richest_31 : decode cX0_richest 31 = .ok (.invokevirtual 165, 3) := dk_182 0 165 (dk_at dksX0_richest_1 8 rfl rfl)
theorem dX0_richest_34 : decode cX0_richest 34 = .ok (.getfield 285, 3) := dk_180 1 29 (dk_at dksX0_richest_1 11 rfl rfl)
theorem dX0_richest_37 : decode cX0_richest 37 = .ok (.iload_n 2, 1) := dk_28 (dk_at dksX0_richest_1 14 rfl rfl)
theorem dX0_richest_38 : decode cX0_richest 38 = .ok (.iaload, 1) := dk_46 (dk_at dksX0_richest_1 15 rfl rfl)
theorem dX0_richest_39 : decode cX0_richest 39 = .ok (.aload_n 0, 1) := dk_42 (dk_at dksX0_richest_1 16 rfl rfl)
theorem dX0_richest_40 : decode cX0_richest 40 = .ok (.invokevirtual 165, 3) := dk_182 0 165 (dk_at dksX0_richest_1 17 rfl rfl)
theorem dX0_richest_43 : decode cX0_richest 43 = .ok (.getfield 285, 3) := dk_180 1 29 (dk_at dksX0_richest_1 20 rfl rfl)
theorem dX0_richest_46 : decode cX0_richest 46 = .ok (.iload_n 1, 1) := dk_27 (dk_at dksX0_richest_1 23 rfl rfl)
theorem dX0_richest_47 : decode cX0_richest 47 = .ok (.iaload, 1) := dk_46 (dk_at dksX0_richest_2 0 rfl rfl)
theorem dX0_richest_48 : decode cX0_richest 48 = .ok (.if_icmp .le 5, 3) := dk_164 0 5 (dk_at dksX0_richest_2 1 rfl rfl)
theorem dX0_richest_51 : decode cX0_richest 51 = .ok (.iload_n 2, 1) := dk_28 (dk_at dksX0_richest_2 4 rfl rfl)
theorem dX0_richest_52 : decode cX0_richest 52 = .ok (.istore_n 1, 1) := dk_60 (dk_at dksX0_richest_2 5 rfl rfl)
theorem dX0_richest_53 : decode cX0_richest 53 = .ok (.iinc 2 1, 3) := dk_132 2 1 (dk_at dksX0_richest_2 6 rfl rfl)
theorem dX0_richest_56 : decode cX0_richest 56 = .ok (.goto (-52), 3) := dk_167 255 204 (dk_at dksX0_richest_2 9 rfl rfl)
theorem dX0_richest_59 : decode cX0_richest 59 = .ok (.aload_n 0, 1) := dk_42 (dk_at dksX0_richest_2 12 rfl rfl)
theorem dX0_richest_60 : decode cX0_richest 60 = .ok (.iload_n 1, 1) := dk_27 (dk_at dksX0_richest_2 13 rfl rfl)
theorem dX0_richest_61 : decode cX0_richest 61 = .ok (.invokevirtual 355, 3) := dk_182 1 99 (dk_at dksX0_richest_2 14 rfl rfl)
theorem dX0_richest_64 : decode cX0_richest 64 = .ok (.ireturn, 1) := dk_172 (dk_at dksX0_richest_2 17 rfl rfl)
abbrev cX0_left : ByteArray := prog_1_method_74_code
def yX0_left : MethodName := ⟨RX0, "left", "(I)I"⟩
def dkwX0_left_2 : List UInt8 := [180, 0, 245, 44, 180, 1, 44, 44, 180, 1, 36, 4, 100, 46, 100, 184, 1, 160, 182, 1, 99, 172]
abbrev dktX0_left_2 : List UInt8 := dkwX0_left_2 ++ []
def dkwX0_left_1 : List UInt8 := [180, 1, 32, 27, 50, 77, 42, 44, 180, 1, 36, 154, 0, 7, 2, 167, 0, 26, 3, 42, 182, 0, 187]
abbrev dktX0_left_1 : List UInt8 := dkwX0_left_1 ++ dktX0_left_2
def dkwX0_left_0 : List UInt8 := [42, 42, 27, 182, 1, 89, 181, 0, 85, 42, 180, 0, 85, 158, 0, 5, 2, 172, 42, 182, 0, 187]
abbrev dktX0_left_0 : List UInt8 := dkwX0_left_0 ++ dktX0_left_1
theorem dksX0_left_0 : cX0_left.data.toList.drop 0 = dktX0_left_0 := by decide +kernel
theorem dksX0_left_1 : cX0_left.data.toList.drop 22 = dktX0_left_1 := dk_seg dksX0_left_0 22 rfl rfl
theorem dksX0_left_2 : cX0_left.data.toList.drop 45 = dktX0_left_2 := dk_seg dksX0_left_1 23 rfl rfl
theorem dX0_left_0 : decode cX0_left 0 = .ok (.aload_n 0, 1) := dk_42 (dk_at dksX0_left_0 0 rfl rfl)
theorem dX0_left_1 : decode cX0_left 1 = .ok (.aload_n 0, 1) := dk_42 (dk_at dksX0_left_0 1 rfl rfl)
theorem dX0_left_2 : decode cX0_left 2 = .ok (.iload_n 1, 1) := dk_27 (dk_at dksX0_left_0 2 rfl rfl)
theorem dX0_left_3 : decode cX0_left 3 = .ok (.invokevirtual 345, 3) := dk_182 1 89 (dk_at dksX0_left_0 3 rfl rfl)
theorem dX0_left_6 : decode cX0_left 6 = .ok (.putfield 85, 3) := dk_181 0 85 (dk_at dksX0_left_0 6 rfl rfl)
theorem dX0_left_9 : decode cX0_left 9 = .ok (.aload_n 0, 1) := dk_42 (dk_at dksX0_left_0 9 rfl rfl)
theorem dX0_left_10 : decode cX0_left 10 = .ok (.getfield 85, 3) := dk_180 0 85 (dk_at dksX0_left_0 10 rfl rfl)
theorem dX0_left_13 : decode cX0_left 13 = .ok (.ifCond .le 5, 3) := dk_158 0 5 (dk_at dksX0_left_0 13 rfl rfl)
theorem dX0_left_16 : decode cX0_left 16 = .ok (.iconst (-1), 1) := dk_2 (dk_at dksX0_left_0 16 rfl rfl)
theorem dX0_left_17 : decode cX0_left 17 = .ok (.ireturn, 1) := dk_172 (dk_at dksX0_left_0 17 rfl rfl)
theorem dX0_left_18 : decode cX0_left 18 = .ok (.aload_n 0, 1) := dk_42 (dk_at dksX0_left_0 18 rfl rfl)
theorem dX0_left_19 : decode cX0_left 19 = .ok (.invokevirtual 187, 3) := dk_182 0 187 (dk_at dksX0_left_0 19 rfl rfl)
theorem dX0_left_22 : decode cX0_left 22 = .ok (.getfield 288, 3) := dk_180 1 32 (dk_at dksX0_left_1 0 rfl rfl)
theorem dX0_left_25 : decode cX0_left 25 = .ok (.iload_n 1, 1) := dk_27 (dk_at dksX0_left_1 3 rfl rfl)
theorem dX0_left_26 : decode cX0_left 26 = .ok (.aaload, 1) := dk_50 (dk_at dksX0_left_1 4 rfl rfl)
theorem dX0_left_27 : decode cX0_left 27 = .ok (.astore_n 2, 1) := dk_77 (dk_at dksX0_left_1 5 rfl rfl)
theorem dX0_left_28 : decode cX0_left 28 = .ok (.aload_n 0, 1) := dk_42 (dk_at dksX0_left_1 6 rfl rfl)
theorem dX0_left_29 : decode cX0_left 29 = .ok (.aload_n 2, 1) := dk_44 (dk_at dksX0_left_1 7 rfl rfl)
theorem dX0_left_30 : decode cX0_left 30 = .ok (.getfield 292, 3) := dk_180 1 36 (dk_at dksX0_left_1 8 rfl rfl)
theorem dX0_left_33 : decode cX0_left 33 = .ok (.ifCond .ne 7, 3) := dk_154 0 7 (dk_at dksX0_left_1 11 rfl rfl)
theorem dX0_left_36 : decode cX0_left 36 = .ok (.iconst (-1), 1) := dk_2 (dk_at dksX0_left_1 14 rfl rfl)
theorem dX0_left_37 : decode cX0_left 37 = .ok (.goto 26, 3) := dk_167 0 26 (dk_at dksX0_left_1 15 rfl rfl)
theorem dX0_left_40 : decode cX0_left 40 = .ok (.iconst 0, 1) := dk_3 (dk_at dksX0_left_1 18 rfl rfl)
theorem dX0_left_41 : decode cX0_left 41 = .ok (.aload_n 0, 1) := dk_42 (dk_at dksX0_left_1 19 rfl rfl)
theorem dX0_left_42 : decode cX0_left 42 = .ok (.invokevirtual 187, 3) := dk_182 0 187 (dk_at dksX0_left_1 20 rfl rfl)
theorem dX0_left_45 : decode cX0_left 45 = .ok (.getfield 245, 3) := dk_180 0 245 (dk_at dksX0_left_2 0 rfl rfl)
theorem dX0_left_48 : decode cX0_left 48 = .ok (.aload_n 2, 1) := dk_44 (dk_at dksX0_left_2 3 rfl rfl)
theorem dX0_left_49 : decode cX0_left 49 = .ok (.getfield 300, 3) := dk_180 1 44 (dk_at dksX0_left_2 4 rfl rfl)
theorem dX0_left_52 : decode cX0_left 52 = .ok (.aload_n 2, 1) := dk_44 (dk_at dksX0_left_2 7 rfl rfl)
theorem dX0_left_53 : decode cX0_left 53 = .ok (.getfield 292, 3) := dk_180 1 36 (dk_at dksX0_left_2 8 rfl rfl)
theorem dX0_left_56 : decode cX0_left 56 = .ok (.iconst 1, 1) := dk_4 (dk_at dksX0_left_2 11 rfl rfl)
theorem dX0_left_57 : decode cX0_left 57 = .ok (.isub, 1) := dk_100 (dk_at dksX0_left_2 12 rfl rfl)
theorem dX0_left_58 : decode cX0_left 58 = .ok (.iaload, 1) := dk_46 (dk_at dksX0_left_2 13 rfl rfl)
theorem dX0_left_59 : decode cX0_left 59 = .ok (.isub, 1) := dk_100 (dk_at dksX0_left_2 14 rfl rfl)
theorem dX0_left_60 : decode cX0_left 60 = .ok (.invokestatic 416, 3) := dk_184 1 160 (dk_at dksX0_left_2 15 rfl rfl)
theorem dX0_left_63 : decode cX0_left 63 = .ok (.invokevirtual 355, 3) := dk_182 1 99 (dk_at dksX0_left_2 18 rfl rfl)
theorem dX0_left_66 : decode cX0_left 66 = .ok (.ireturn, 1) := dk_172 (dk_at dksX0_left_2 21 rfl rfl)
abbrev cX0_tideIn : ByteArray := prog_1_method_75_code
def yX0_tideIn : MethodName := ⟨RX0, "tideIn", "(I)I"⟩
def dkwX0_tideIn_2 : List UInt8 := [180, 0, 248, 104, 100, 184, 1, 160, 172]
abbrev dktX0_tideIn_2 : List UInt8 := dkwX0_tideIn_2 ++ []
def dkwX0_tideIn_1 : List UInt8 := [180, 0, 85, 158, 0, 7, 2, 167, 0, 24, 4, 42, 182, 0, 187, 180, 0, 245, 27, 42, 182, 0, 165]
abbrev dktX0_tideIn_1 : List UInt8 := dkwX0_tideIn_1 ++ dktX0_tideIn_2
def dkwX0_tideIn_0 : List UInt8 := [42, 27, 133, 9, 20, 1, 170, 184, 0, 173, 153, 0, 7, 3, 167, 0, 4, 4, 181, 0, 85, 42]
abbrev dktX0_tideIn_0 : List UInt8 := dkwX0_tideIn_0 ++ dktX0_tideIn_1
theorem dksX0_tideIn_0 : cX0_tideIn.data.toList.drop 0 = dktX0_tideIn_0 := by decide +kernel
theorem dksX0_tideIn_1 : cX0_tideIn.data.toList.drop 22 = dktX0_tideIn_1 := dk_seg dksX0_tideIn_0 22 rfl rfl
theorem dksX0_tideIn_2 : cX0_tideIn.data.toList.drop 45 = dktX0_tideIn_2 := dk_seg dksX0_tideIn_1 23 rfl rfl
theorem dX0_tideIn_0 : decode cX0_tideIn 0 = .ok (.aload_n 0, 1) := dk_42 (dk_at dksX0_tideIn_0 0 rfl rfl)
theorem dX0_tideIn_1 : decode cX0_tideIn 1 = .ok (.iload_n 1, 1) := dk_27 (dk_at dksX0_tideIn_0 1 rfl rfl)
theorem dX0_tideIn_2 : decode cX0_tideIn 2 = .ok (.i2l, 1) := dk_133 (dk_at dksX0_tideIn_0 2 rfl rfl)
theorem dX0_tideIn_3 : decode cX0_tideIn 3 = .ok (.lconst 0, 1) := dk_9 (dk_at dksX0_tideIn_0 3 rfl rfl)
theorem dX0_tideIn_4 : decode cX0_tideIn 4 = .ok (.ldc2_w 426, 3) := dk_20 1 170 (dk_at dksX0_tideIn_0 4 rfl rfl)
theorem dX0_tideIn_7 : decode cX0_tideIn 7 = .ok (.invokestatic 173, 3) := dk_184 0 173 (dk_at dksX0_tideIn_0 7 rfl rfl)
theorem dX0_tideIn_10 : decode cX0_tideIn 10 = .ok (.ifCond .eq 7, 3) := dk_153 0 7 (dk_at dksX0_tideIn_0 10 rfl rfl)
theorem dX0_tideIn_13 : decode cX0_tideIn 13 = .ok (.iconst 0, 1) := dk_3 (dk_at dksX0_tideIn_0 13 rfl rfl)
theorem dX0_tideIn_14 : decode cX0_tideIn 14 = .ok (.goto 4, 3) := dk_167 0 4 (dk_at dksX0_tideIn_0 14 rfl rfl)
theorem dX0_tideIn_17 : decode cX0_tideIn 17 = .ok (.iconst 1, 1) := dk_4 (dk_at dksX0_tideIn_0 17 rfl rfl)
theorem dX0_tideIn_18 : decode cX0_tideIn 18 = .ok (.putfield 85, 3) := dk_181 0 85 (dk_at dksX0_tideIn_0 18 rfl rfl)
theorem dX0_tideIn_21 : decode cX0_tideIn 21 = .ok (.aload_n 0, 1) := dk_42 (dk_at dksX0_tideIn_0 21 rfl rfl)
theorem dX0_tideIn_22 : decode cX0_tideIn 22 = .ok (.getfield 85, 3) := dk_180 0 85 (dk_at dksX0_tideIn_1 0 rfl rfl)
theorem dX0_tideIn_25 : decode cX0_tideIn 25 = .ok (.ifCond .le 7, 3) := dk_158 0 7 (dk_at dksX0_tideIn_1 3 rfl rfl)
theorem dX0_tideIn_28 : decode cX0_tideIn 28 = .ok (.iconst (-1), 1) := dk_2 (dk_at dksX0_tideIn_1 6 rfl rfl)
theorem dX0_tideIn_29 : decode cX0_tideIn 29 = .ok (.goto 24, 3) := dk_167 0 24 (dk_at dksX0_tideIn_1 7 rfl rfl)
theorem dX0_tideIn_32 : decode cX0_tideIn 32 = .ok (.iconst 1, 1) := dk_4 (dk_at dksX0_tideIn_1 10 rfl rfl)
theorem dX0_tideIn_33 : decode cX0_tideIn 33 = .ok (.aload_n 0, 1) := dk_42 (dk_at dksX0_tideIn_1 11 rfl rfl)
theorem dX0_tideIn_34 : decode cX0_tideIn 34 = .ok (.invokevirtual 187, 3) := dk_182 0 187 (dk_at dksX0_tideIn_1 12 rfl rfl)
theorem dX0_tideIn_37 : decode cX0_tideIn 37 = .ok (.getfield 245, 3) := dk_180 0 245 (dk_at dksX0_tideIn_1 15 rfl rfl)
theorem dX0_tideIn_40 : decode cX0_tideIn 40 = .ok (.iload_n 1, 1) := dk_27 (dk_at dksX0_tideIn_1 18 rfl rfl)
theorem dX0_tideIn_41 : decode cX0_tideIn 41 = .ok (.aload_n 0, 1) := dk_42 (dk_at dksX0_tideIn_1 19 rfl rfl)
theorem dX0_tideIn_42 : decode cX0_tideIn 42 = .ok (.invokevirtual 165, 3) := dk_182 0 165 (dk_at dksX0_tideIn_1 20 rfl rfl)
theorem dX0_tideIn_45 : decode cX0_tideIn 45 = .ok (.getfield 248, 3) := dk_180 0 248 (dk_at dksX0_tideIn_2 0 rfl rfl)
theorem dX0_tideIn_48 : decode cX0_tideIn 48 = .ok (.imul, 1) := dk_104 (dk_at dksX0_tideIn_2 3 rfl rfl)
theorem dX0_tideIn_49 : decode cX0_tideIn 49 = .ok (.isub, 1) := dk_100 (dk_at dksX0_tideIn_2 4 rfl rfl)
theorem dX0_tideIn_50 : decode cX0_tideIn 50 = .ok (.invokestatic 416, 3) := dk_184 1 160 (dk_at dksX0_tideIn_2 5 rfl rfl)
theorem dX0_tideIn_53 : decode cX0_tideIn 53 = .ok (.ireturn, 1) := dk_172 (dk_at dksX0_tideIn_2 8 rfl rfl)
abbrev cX0_open : ByteArray := prog_1_method_76_code
def yX0_open : MethodName := ⟨RX0, "open", "()I"⟩
def dkwX0_open_2 : List UInt8 := [182, 0, 165, 180, 1, 29, 28, 46, 167, 0, 4, 3, 96, 60, 132, 2, 1, 167, 255, 204, 27, 172]
abbrev dktX0_open_2 : List UInt8 := dkwX0_open_2 ++ []
def dkwX0_open_1 : List UInt8 := [182, 0, 187, 28, 182, 0, 190, 153, 0, 26, 42, 182, 0, 187, 28, 182, 1, 94, 154, 0, 15, 42]
abbrev dktX0_open_1 : List UInt8 := dkwX0_open_1 ++ dktX0_open_2
def dkwX0_open_0 : List UInt8 := [42, 3, 181, 0, 85, 3, 60, 3, 61, 28, 42, 182, 0, 165, 180, 0, 177, 162, 0, 47, 27, 42]
abbrev dktX0_open_0 : List UInt8 := dkwX0_open_0 ++ dktX0_open_1
theorem dksX0_open_0 : cX0_open.data.toList.drop 0 = dktX0_open_0 := by decide +kernel
theorem dksX0_open_1 : cX0_open.data.toList.drop 22 = dktX0_open_1 := dk_seg dksX0_open_0 22 rfl rfl
theorem dksX0_open_2 : cX0_open.data.toList.drop 44 = dktX0_open_2 := dk_seg dksX0_open_1 22 rfl rfl
theorem dX0_open_0 : decode cX0_open 0 = .ok (.aload_n 0, 1) := dk_42 (dk_at dksX0_open_0 0 rfl rfl)
theorem dX0_open_1 : decode cX0_open 1 = .ok (.iconst 0, 1) := dk_3 (dk_at dksX0_open_0 1 rfl rfl)
theorem dX0_open_2 : decode cX0_open 2 = .ok (.putfield 85, 3) := dk_181 0 85 (dk_at dksX0_open_0 2 rfl rfl)
theorem dX0_open_5 : decode cX0_open 5 = .ok (.iconst 0, 1) := dk_3 (dk_at dksX0_open_0 5 rfl rfl)
theorem dX0_open_6 : decode cX0_open 6 = .ok (.istore_n 1, 1) := dk_60 (dk_at dksX0_open_0 6 rfl rfl)
theorem dX0_open_7 : decode cX0_open 7 = .ok (.iconst 0, 1) := dk_3 (dk_at dksX0_open_0 7 rfl rfl)
theorem dX0_open_8 : decode cX0_open 8 = .ok (.istore_n 2, 1) := dk_61 (dk_at dksX0_open_0 8 rfl rfl)
theorem dX0_open_9 : decode cX0_open 9 = .ok (.iload_n 2, 1) := dk_28 (dk_at dksX0_open_0 9 rfl rfl)
theorem dX0_open_10 : decode cX0_open 10 = .ok (.aload_n 0, 1) := dk_42 (dk_at dksX0_open_0 10 rfl rfl)
theorem dX0_open_11 : decode cX0_open 11 = .ok (.invokevirtual 165, 3) := dk_182 0 165 (dk_at dksX0_open_0 11 rfl rfl)
theorem dX0_open_14 : decode cX0_open 14 = .ok (.getfield 177, 3) := dk_180 0 177 (dk_at dksX0_open_0 14 rfl rfl)
theorem dX0_open_17 : decode cX0_open 17 = .ok (.if_icmp .ge 47, 3) := dk_162 0 47 (dk_at dksX0_open_0 17 rfl rfl)
theorem dX0_open_20 : decode cX0_open 20 = .ok (.iload_n 1, 1) := dk_27 (dk_at dksX0_open_0 20 rfl rfl)
theorem dX0_open_21 : decode cX0_open 21 = .ok (.aload_n 0, 1) := dk_42 (dk_at dksX0_open_0 21 rfl rfl)
theorem dX0_open_22 : decode cX0_open 22 = .ok (.invokevirtual 187, 3) := dk_182 0 187 (dk_at dksX0_open_1 0 rfl rfl)
theorem dX0_open_25 : decode cX0_open 25 = .ok (.iload_n 2, 1) := dk_28 (dk_at dksX0_open_1 3 rfl rfl)
theorem dX0_open_26 : decode cX0_open 26 = .ok (.invokevirtual 190, 3) := dk_182 0 190 (dk_at dksX0_open_1 4 rfl rfl)
theorem dX0_open_29 : decode cX0_open 29 = .ok (.ifCond .eq 26, 3) := dk_153 0 26 (dk_at dksX0_open_1 7 rfl rfl)
theorem dX0_open_32 : decode cX0_open 32 = .ok (.aload_n 0, 1) := dk_42 (dk_at dksX0_open_1 10 rfl rfl)
theorem dX0_open_33 : decode cX0_open 33 = .ok (.invokevirtual 187, 3) := dk_182 0 187 (dk_at dksX0_open_1 11 rfl rfl)
theorem dX0_open_36 : decode cX0_open 36 = .ok (.iload_n 2, 1) := dk_28 (dk_at dksX0_open_1 14 rfl rfl)
theorem dX0_open_37 : decode cX0_open 37 = .ok (.invokevirtual 350, 3) := dk_182 1 94 (dk_at dksX0_open_1 15 rfl rfl)
theorem dX0_open_40 : decode cX0_open 40 = .ok (.ifCond .ne 15, 3) := dk_154 0 15 (dk_at dksX0_open_1 18 rfl rfl)
theorem dX0_open_43 : decode cX0_open 43 = .ok (.aload_n 0, 1) := dk_42 (dk_at dksX0_open_1 21 rfl rfl)
theorem dX0_open_44 : decode cX0_open 44 = .ok (.invokevirtual 165, 3) := dk_182 0 165 (dk_at dksX0_open_2 0 rfl rfl)
theorem dX0_open_47 : decode cX0_open 47 = .ok (.getfield 285, 3) := dk_180 1 29 (dk_at dksX0_open_2 3 rfl rfl)
theorem dX0_open_50 : decode cX0_open 50 = .ok (.iload_n 2, 1) := dk_28 (dk_at dksX0_open_2 6 rfl rfl)
theorem dX0_open_51 : decode cX0_open 51 = .ok (.iaload, 1) := dk_46 (dk_at dksX0_open_2 7 rfl rfl)
theorem dX0_open_52 : decode cX0_open 52 = .ok (.goto 4, 3) := dk_167 0 4 (dk_at dksX0_open_2 8 rfl rfl)
theorem dX0_open_55 : decode cX0_open 55 = .ok (.iconst 0, 1) := dk_3 (dk_at dksX0_open_2 11 rfl rfl)
theorem dX0_open_56 : decode cX0_open 56 = .ok (.iadd, 1) := dk_96 (dk_at dksX0_open_2 12 rfl rfl)
theorem dX0_open_57 : decode cX0_open 57 = .ok (.istore_n 1, 1) := dk_60 (dk_at dksX0_open_2 13 rfl rfl)
theorem dX0_open_58 : decode cX0_open 58 = .ok (.iinc 2 1, 3) := dk_132 2 1 (dk_at dksX0_open_2 14 rfl rfl)
theorem dX0_open_61 : decode cX0_open 61 = .ok (.goto (-52), 3) := dk_167 255 204 (dk_at dksX0_open_2 17 rfl rfl)
theorem dX0_open_64 : decode cX0_open 64 = .ok (.iload_n 1, 1) := dk_27 (dk_at dksX0_open_2 20 rfl rfl)
theorem dX0_open_65 : decode cX0_open 65 = .ok (.ireturn, 1) := dk_172 (dk_at dksX0_open_2 21 rfl rfl)
abbrev cX0_farthest : ByteArray := prog_1_method_78_code
def yX0_farthest : MethodName := ⟨RX0, "farthest", "(I)I"⟩
def dkwX0_farthest_3 : List UInt8 := [164, 0, 5, 29, 61, 132, 3, 1, 167, 255, 210, 42, 28, 182, 1, 99, 172]
abbrev dktX0_farthest_3 : List UInt8 := dkwX0_farthest_3 ++ []
def dkwX0_farthest_2 : List UInt8 := [182, 0, 190, 153, 0, 24, 28, 155, 0, 18, 42, 27, 29, 182, 1, 172, 42, 27, 28, 182, 1, 172]
abbrev dktX0_farthest_2 : List UInt8 := dkwX0_farthest_2 ++ dktX0_farthest_3
def dkwX0_farthest_1 : List UInt8 := [2, 172, 2, 61, 3, 62, 29, 42, 182, 0, 165, 180, 0, 177, 162, 0, 41, 42, 182, 0, 187, 29]
abbrev dktX0_farthest_1 : List UInt8 := dkwX0_farthest_1 ++ dktX0_farthest_2
def dkwX0_farthest_0 : List UInt8 := [42, 42, 27, 182, 0, 180, 153, 0, 7, 3, 167, 0, 4, 4, 181, 0, 85, 42, 180, 0, 85, 158, 0, 5]
abbrev dktX0_farthest_0 : List UInt8 := dkwX0_farthest_0 ++ dktX0_farthest_1
theorem dksX0_farthest_0 : cX0_farthest.data.toList.drop 0 = dktX0_farthest_0 := by decide +kernel
theorem dksX0_farthest_1 : cX0_farthest.data.toList.drop 24 = dktX0_farthest_1 := dk_seg dksX0_farthest_0 24 rfl rfl
theorem dksX0_farthest_2 : cX0_farthest.data.toList.drop 46 = dktX0_farthest_2 := dk_seg dksX0_farthest_1 22 rfl rfl
theorem dksX0_farthest_3 : cX0_farthest.data.toList.drop 68 = dktX0_farthest_3 := dk_seg dksX0_farthest_2 22 rfl rfl
theorem dX0_farthest_0 : decode cX0_farthest 0 = .ok (.aload_n 0, 1) := dk_42 (dk_at dksX0_farthest_0 0 rfl rfl)
theorem dX0_farthest_1 : decode cX0_farthest 1 = .ok (.aload_n 0, 1) := dk_42 (dk_at dksX0_farthest_0 1 rfl rfl)
theorem dX0_farthest_2 : decode cX0_farthest 2 = .ok (.iload_n 1, 1) := dk_27 (dk_at dksX0_farthest_0 2 rfl rfl)
theorem dX0_farthest_3 : decode cX0_farthest 3 = .ok (.invokevirtual 180, 3) := dk_182 0 180 (dk_at dksX0_farthest_0 3 rfl rfl)
theorem dX0_farthest_6 : decode cX0_farthest 6 = .ok (.ifCond .eq 7, 3) := dk_153 0 7 (dk_at dksX0_farthest_0 6 rfl rfl)
theorem dX0_farthest_9 : decode cX0_farthest 9 = .ok (.iconst 0, 1) := dk_3 (dk_at dksX0_farthest_0 9 rfl rfl)
theorem dX0_farthest_10 : decode cX0_farthest 10 = .ok (.goto 4, 3) := dk_167 0 4 (dk_at dksX0_farthest_0 10 rfl rfl)
theorem dX0_farthest_13 : decode cX0_farthest 13 = .ok (.iconst 1, 1) := dk_4 (dk_at dksX0_farthest_0 13 rfl rfl)
theorem dX0_farthest_14 : decode cX0_farthest 14 = .ok (.putfield 85, 3) := dk_181 0 85 (dk_at dksX0_farthest_0 14 rfl rfl)
theorem dX0_farthest_17 : decode cX0_farthest 17 = .ok (.aload_n 0, 1) := dk_42 (dk_at dksX0_farthest_0 17 rfl rfl)
theorem dX0_farthest_18 : decode cX0_farthest 18 = .ok (.getfield 85, 3) := dk_180 0 85 (dk_at dksX0_farthest_0 18 rfl rfl)
theorem dX0_farthest_21 : decode cX0_farthest 21 = .ok (.ifCond .le 5, 3) := dk_158 0 5 (dk_at dksX0_farthest_0 21 rfl rfl)
theorem dX0_farthest_24 : decode cX0_farthest 24 = .ok (.iconst (-1), 1) := dk_2 (dk_at dksX0_farthest_1 0 rfl rfl)
theorem dX0_farthest_25 : decode cX0_farthest 25 = .ok (.ireturn, 1) := dk_172 (dk_at dksX0_farthest_1 1 rfl rfl)
theorem dX0_farthest_26 : decode cX0_farthest 26 = .ok (.iconst (-1), 1) := dk_2 (dk_at dksX0_farthest_1 2 rfl rfl)
theorem dX0_farthest_27 : decode cX0_farthest 27 = .ok (.istore_n 2, 1) := dk_61 (dk_at dksX0_farthest_1 3 rfl rfl)
theorem dX0_farthest_28 : decode cX0_farthest 28 = .ok (.iconst 0, 1) := dk_3 (dk_at dksX0_farthest_1 4 rfl rfl)
theorem dX0_farthest_29 : decode cX0_farthest 29 = .ok (.istore_n 3, 1) := dk_62 (dk_at dksX0_farthest_1 5 rfl rfl)
theorem dX0_farthest_30 : decode cX0_farthest 30 = .ok (.iload_n 3, 1) := dk_29 (dk_at dksX0_farthest_1 6 rfl rfl)
theorem dX0_farthest_31 : decode cX0_farthest 31 = .ok (.aload_n 0, 1) := dk_42 (dk_at dksX0_farthest_1 7 rfl rfl)
theorem dX0_farthest_32 : decode cX0_farthest 32 = .ok (.invokevirtual 165, 3) := dk_182 0 165 (dk_at dksX0_farthest_1 8 rfl rfl)
theorem dX0_farthest_35 : decode cX0_farthest 35 = .ok (.getfield 177, 3) := dk_180 0 177 (dk_at dksX0_farthest_1 11 rfl rfl)
theorem dX0_farthest_38 : decode cX0_farthest 38 = .ok (.if_icmp .ge 41, 3) := dk_162 0 41 (dk_at dksX0_farthest_1 14 rfl rfl)
theorem dX0_farthest_41 : decode cX0_farthest 41 = .ok (.aload_n 0, 1) := dk_42 (dk_at dksX0_farthest_1 17 rfl rfl)
theorem dX0_farthest_42 : decode cX0_farthest 42 = .ok (.invokevirtual 187, 3) := dk_182 0 187 (dk_at dksX0_farthest_1 18 rfl rfl)
theorem dX0_farthest_45 : decode cX0_farthest 45 = .ok (.iload_n 3, 1) := dk_29 (dk_at dksX0_farthest_1 21 rfl rfl)
theorem dX0_farthest_46 : decode cX0_farthest 46 = .ok (.invokevirtual 190, 3) := dk_182 0 190 (dk_at dksX0_farthest_2 0 rfl rfl)
theorem dX0_farthest_49 : decode cX0_farthest 49 = .ok (.ifCond .eq 24, 3) := dk_153 0 24 (dk_at dksX0_farthest_2 3 rfl rfl)
theorem dX0_farthest_52 : decode cX0_farthest 52 = .ok (.iload_n 2, 1) := dk_28 (dk_at dksX0_farthest_2 6 rfl rfl)
theorem dX0_farthest_53 : decode cX0_farthest 53 = .ok (.ifCond .lt 18, 3) := dk_155 0 18 (dk_at dksX0_farthest_2 7 rfl rfl)
theorem dX0_farthest_56 : decode cX0_farthest 56 = .ok (.aload_n 0, 1) := dk_42 (dk_at dksX0_farthest_2 10 rfl rfl)
theorem dX0_farthest_57 : decode cX0_farthest 57 = .ok (.iload_n 1, 1) := dk_27 (dk_at dksX0_farthest_2 11 rfl rfl)
theorem dX0_farthest_58 : decode cX0_farthest 58 = .ok (.iload_n 3, 1) := dk_29 (dk_at dksX0_farthest_2 12 rfl rfl)
theorem dX0_farthest_59 : decode cX0_farthest 59 = .ok (.invokevirtual 428, 3) := dk_182 1 172 (dk_at dksX0_farthest_2 13 rfl rfl)
theorem dX0_farthest_62 : decode cX0_farthest 62 = .ok (.aload_n 0, 1) := dk_42 (dk_at dksX0_farthest_2 16 rfl rfl)
theorem dX0_farthest_63 : decode cX0_farthest 63 = .ok (.iload_n 1, 1) := dk_27 (dk_at dksX0_farthest_2 17 rfl rfl)
theorem dX0_farthest_64 : decode cX0_farthest 64 = .ok (.iload_n 2, 1) := dk_28 (dk_at dksX0_farthest_2 18 rfl rfl)
theorem dX0_farthest_65 : decode cX0_farthest 65 = .ok (.invokevirtual 428, 3) := dk_182 1 172 (dk_at dksX0_farthest_2 19 rfl rfl)
theorem dX0_farthest_68 : decode cX0_farthest 68 = .ok (.if_icmp .le 5, 3) := dk_164 0 5 (dk_at dksX0_farthest_3 0 rfl rfl)
theorem dX0_farthest_71 : decode cX0_farthest 71 = .ok (.iload_n 3, 1) := dk_29 (dk_at dksX0_farthest_3 3 rfl rfl)
theorem dX0_farthest_72 : decode cX0_farthest 72 = .ok (.istore_n 2, 1) := dk_61 (dk_at dksX0_farthest_3 4 rfl rfl)
theorem dX0_farthest_73 : decode cX0_farthest 73 = .ok (.iinc 3 1, 3) := dk_132 3 1 (dk_at dksX0_farthest_3 5 rfl rfl)
theorem dX0_farthest_76 : decode cX0_farthest 76 = .ok (.goto (-46), 3) := dk_167 255 210 (dk_at dksX0_farthest_3 8 rfl rfl)
theorem dX0_farthest_79 : decode cX0_farthest 79 = .ok (.aload_n 0, 1) := dk_42 (dk_at dksX0_farthest_3 11 rfl rfl)
theorem dX0_farthest_80 : decode cX0_farthest 80 = .ok (.iload_n 2, 1) := dk_28 (dk_at dksX0_farthest_3 12 rfl rfl)
theorem dX0_farthest_81 : decode cX0_farthest 81 = .ok (.invokevirtual 355, 3) := dk_182 1 99 (dk_at dksX0_farthest_3 13 rfl rfl)
theorem dX0_farthest_84 : decode cX0_farthest 84 = .ok (.ireturn, 1) := dk_172 (dk_at dksX0_farthest_3 16 rfl rfl)
abbrev cX0_minutesTo : ByteArray := prog_1_method_77_code
def yX0_minutesTo : MethodName := ⟨RX0, "minutesTo", "(II)I"⟩
def dkwX0_minutesTo_1 : List UInt8 := [27, 46, 100, 172]
abbrev dktX0_minutesTo_1 : List UInt8 := dkwX0_minutesTo_1 ++ []
def dkwX0_minutesTo_0 : List UInt8 := [42, 182, 0, 187, 27, 42, 182, 0, 165, 180, 1, 26, 28, 46, 182, 1, 110, 42, 182, 0, 187, 180, 1, 18]
abbrev dktX0_minutesTo_0 : List UInt8 := dkwX0_minutesTo_0 ++ dktX0_minutesTo_1
theorem dksX0_minutesTo_0 : cX0_minutesTo.data.toList.drop 0 = dktX0_minutesTo_0 := by decide +kernel
theorem dksX0_minutesTo_1 : cX0_minutesTo.data.toList.drop 24 = dktX0_minutesTo_1 := dk_seg dksX0_minutesTo_0 24 rfl rfl
theorem dX0_minutesTo_0 : decode cX0_minutesTo 0 = .ok (.aload_n 0, 1) := dk_42 (dk_at dksX0_minutesTo_0 0 rfl rfl)
theorem dX0_minutesTo_1 : decode cX0_minutesTo 1 = .ok (.invokevirtual 187, 3) := dk_182 0 187 (dk_at dksX0_minutesTo_0 1 rfl rfl)
theorem dX0_minutesTo_4 : decode cX0_minutesTo 4 = .ok (.iload_n 1, 1) := dk_27 (dk_at dksX0_minutesTo_0 4 rfl rfl)
theorem dX0_minutesTo_5 : decode cX0_minutesTo 5 = .ok (.aload_n 0, 1) := dk_42 (dk_at dksX0_minutesTo_0 5 rfl rfl)
theorem dX0_minutesTo_6 : decode cX0_minutesTo 6 = .ok (.invokevirtual 165, 3) := dk_182 0 165 (dk_at dksX0_minutesTo_0 6 rfl rfl)
theorem dX0_minutesTo_9 : decode cX0_minutesTo 9 = .ok (.getfield 282, 3) := dk_180 1 26 (dk_at dksX0_minutesTo_0 9 rfl rfl)
theorem dX0_minutesTo_12 : decode cX0_minutesTo 12 = .ok (.iload_n 2, 1) := dk_28 (dk_at dksX0_minutesTo_0 12 rfl rfl)
theorem dX0_minutesTo_13 : decode cX0_minutesTo 13 = .ok (.iaload, 1) := dk_46 (dk_at dksX0_minutesTo_0 13 rfl rfl)
theorem dX0_minutesTo_14 : decode cX0_minutesTo 14 = .ok (.invokevirtual 366, 3) := dk_182 1 110 (dk_at dksX0_minutesTo_0 14 rfl rfl)
theorem dX0_minutesTo_17 : decode cX0_minutesTo 17 = .ok (.aload_n 0, 1) := dk_42 (dk_at dksX0_minutesTo_0 17 rfl rfl)
theorem dX0_minutesTo_18 : decode cX0_minutesTo 18 = .ok (.invokevirtual 187, 3) := dk_182 0 187 (dk_at dksX0_minutesTo_0 18 rfl rfl)
theorem dX0_minutesTo_21 : decode cX0_minutesTo 21 = .ok (.getfield 274, 3) := dk_180 1 18 (dk_at dksX0_minutesTo_0 21 rfl rfl)
theorem dX0_minutesTo_24 : decode cX0_minutesTo 24 = .ok (.iload_n 1, 1) := dk_27 (dk_at dksX0_minutesTo_1 0 rfl rfl)
theorem dX0_minutesTo_25 : decode cX0_minutesTo 25 = .ok (.iaload, 1) := dk_46 (dk_at dksX0_minutesTo_1 1 rfl rfl)
theorem dX0_minutesTo_26 : decode cX0_minutesTo 26 = .ok (.isub, 1) := dk_100 (dk_at dksX0_minutesTo_1 2 rfl rfl)
theorem dX0_minutesTo_27 : decode cX0_minutesTo 27 = .ok (.ireturn, 1) := dk_172 (dk_at dksX0_minutesTo_1 3 rfl rfl)
abbrev cX0_time : ByteArray := prog_1_method_79_code
def yX0_time : MethodName := ⟨RX0, "time", "(I)I"⟩
def dkwX0_time_1 : List UInt8 := [2, 167, 0, 20, 42, 182, 0, 187, 180, 0, 245, 42, 182, 0, 187, 180, 1, 18, 27, 46, 100, 172]
abbrev dktX0_time_1 : List UInt8 := dkwX0_time_1 ++ []
def dkwX0_time_0 : List UInt8 := [42, 42, 27, 182, 0, 180, 153, 0, 7, 3, 167, 0, 4, 4, 181, 0, 85, 42, 180, 0, 85, 158, 0, 7]
abbrev dktX0_time_0 : List UInt8 := dkwX0_time_0 ++ dktX0_time_1
theorem dksX0_time_0 : cX0_time.data.toList.drop 0 = dktX0_time_0 := by decide +kernel
theorem dksX0_time_1 : cX0_time.data.toList.drop 24 = dktX0_time_1 := dk_seg dksX0_time_0 24 rfl rfl
theorem dX0_time_0 : decode cX0_time 0 = .ok (.aload_n 0, 1) := dk_42 (dk_at dksX0_time_0 0 rfl rfl)
theorem dX0_time_1 : decode cX0_time 1 = .ok (.aload_n 0, 1) := dk_42 (dk_at dksX0_time_0 1 rfl rfl)
theorem dX0_time_2 : decode cX0_time 2 = .ok (.iload_n 1, 1) := dk_27 (dk_at dksX0_time_0 2 rfl rfl)
theorem dX0_time_3 : decode cX0_time 3 = .ok (.invokevirtual 180, 3) := dk_182 0 180 (dk_at dksX0_time_0 3 rfl rfl)
theorem dX0_time_6 : decode cX0_time 6 = .ok (.ifCond .eq 7, 3) := dk_153 0 7 (dk_at dksX0_time_0 6 rfl rfl)
theorem dX0_time_9 : decode cX0_time 9 = .ok (.iconst 0, 1) := dk_3 (dk_at dksX0_time_0 9 rfl rfl)
theorem dX0_time_10 : decode cX0_time 10 = .ok (.goto 4, 3) := dk_167 0 4 (dk_at dksX0_time_0 10 rfl rfl)
theorem dX0_time_13 : decode cX0_time 13 = .ok (.iconst 1, 1) := dk_4 (dk_at dksX0_time_0 13 rfl rfl)
theorem dX0_time_14 : decode cX0_time 14 = .ok (.putfield 85, 3) := dk_181 0 85 (dk_at dksX0_time_0 14 rfl rfl)
theorem dX0_time_17 : decode cX0_time 17 = .ok (.aload_n 0, 1) := dk_42 (dk_at dksX0_time_0 17 rfl rfl)
theorem dX0_time_18 : decode cX0_time 18 = .ok (.getfield 85, 3) := dk_180 0 85 (dk_at dksX0_time_0 18 rfl rfl)
theorem dX0_time_21 : decode cX0_time 21 = .ok (.ifCond .le 7, 3) := dk_158 0 7 (dk_at dksX0_time_0 21 rfl rfl)
theorem dX0_time_24 : decode cX0_time 24 = .ok (.iconst (-1), 1) := dk_2 (dk_at dksX0_time_1 0 rfl rfl)
theorem dX0_time_25 : decode cX0_time 25 = .ok (.goto 20, 3) := dk_167 0 20 (dk_at dksX0_time_1 1 rfl rfl)
theorem dX0_time_28 : decode cX0_time 28 = .ok (.aload_n 0, 1) := dk_42 (dk_at dksX0_time_1 4 rfl rfl)
theorem dX0_time_29 : decode cX0_time 29 = .ok (.invokevirtual 187, 3) := dk_182 0 187 (dk_at dksX0_time_1 5 rfl rfl)
theorem dX0_time_32 : decode cX0_time 32 = .ok (.getfield 245, 3) := dk_180 0 245 (dk_at dksX0_time_1 8 rfl rfl)
theorem dX0_time_35 : decode cX0_time 35 = .ok (.aload_n 0, 1) := dk_42 (dk_at dksX0_time_1 11 rfl rfl)
theorem dX0_time_36 : decode cX0_time 36 = .ok (.invokevirtual 187, 3) := dk_182 0 187 (dk_at dksX0_time_1 12 rfl rfl)
theorem dX0_time_39 : decode cX0_time 39 = .ok (.getfield 274, 3) := dk_180 1 18 (dk_at dksX0_time_1 15 rfl rfl)
theorem dX0_time_42 : decode cX0_time 42 = .ok (.iload_n 1, 1) := dk_27 (dk_at dksX0_time_1 18 rfl rfl)
theorem dX0_time_43 : decode cX0_time 43 = .ok (.iaload, 1) := dk_46 (dk_at dksX0_time_1 19 rfl rfl)
theorem dX0_time_44 : decode cX0_time 44 = .ok (.isub, 1) := dk_100 (dk_at dksX0_time_1 20 rfl rfl)
theorem dX0_time_45 : decode cX0_time 45 = .ok (.ireturn, 1) := dk_172 (dk_at dksX0_time_1 21 rfl rfl)
abbrev cX0_tally : ByteArray := prog_1_method_80_code
def yX0_tally : MethodName := ⟨RX0, "tally", "(II)I"⟩
def dkwX0_tally_1 : List UInt8 := [158, 0, 7, 2, 167, 0, 16, 42, 182, 0, 187, 180, 1, 32, 27, 50, 28, 182, 1, 107, 172]
abbrev dktX0_tally_1 : List UInt8 := dkwX0_tally_1 ++ []
def dkwX0_tally_0 : List UInt8 := [42, 42, 28, 27, 182, 1, 55, 153, 0, 7, 3, 167, 0, 4, 4, 181, 0, 85, 42, 180, 0, 85]
abbrev dktX0_tally_0 : List UInt8 := dkwX0_tally_0 ++ dktX0_tally_1
theorem dksX0_tally_0 : cX0_tally.data.toList.drop 0 = dktX0_tally_0 := by decide +kernel
theorem dksX0_tally_1 : cX0_tally.data.toList.drop 22 = dktX0_tally_1 := dk_seg dksX0_tally_0 22 rfl rfl
theorem dX0_tally_0 : decode cX0_tally 0 = .ok (.aload_n 0, 1) := dk_42 (dk_at dksX0_tally_0 0 rfl rfl)
theorem dX0_tally_1 : decode cX0_tally 1 = .ok (.aload_n 0, 1) := dk_42 (dk_at dksX0_tally_0 1 rfl rfl)
theorem dX0_tally_2 : decode cX0_tally 2 = .ok (.iload_n 2, 1) := dk_28 (dk_at dksX0_tally_0 2 rfl rfl)
theorem dX0_tally_3 : decode cX0_tally 3 = .ok (.iload_n 1, 1) := dk_27 (dk_at dksX0_tally_0 3 rfl rfl)
theorem dX0_tally_4 : decode cX0_tally 4 = .ok (.invokevirtual 311, 3) := dk_182 1 55 (dk_at dksX0_tally_0 4 rfl rfl)
theorem dX0_tally_7 : decode cX0_tally 7 = .ok (.ifCond .eq 7, 3) := dk_153 0 7 (dk_at dksX0_tally_0 7 rfl rfl)
theorem dX0_tally_10 : decode cX0_tally 10 = .ok (.iconst 0, 1) := dk_3 (dk_at dksX0_tally_0 10 rfl rfl)
theorem dX0_tally_11 : decode cX0_tally 11 = .ok (.goto 4, 3) := dk_167 0 4 (dk_at dksX0_tally_0 11 rfl rfl)
theorem dX0_tally_14 : decode cX0_tally 14 = .ok (.iconst 1, 1) := dk_4 (dk_at dksX0_tally_0 14 rfl rfl)
theorem dX0_tally_15 : decode cX0_tally 15 = .ok (.putfield 85, 3) := dk_181 0 85 (dk_at dksX0_tally_0 15 rfl rfl)
theorem dX0_tally_18 : decode cX0_tally 18 = .ok (.aload_n 0, 1) := dk_42 (dk_at dksX0_tally_0 18 rfl rfl)
theorem dX0_tally_19 : decode cX0_tally 19 = .ok (.getfield 85, 3) := dk_180 0 85 (dk_at dksX0_tally_0 19 rfl rfl)
theorem dX0_tally_22 : decode cX0_tally 22 = .ok (.ifCond .le 7, 3) := dk_158 0 7 (dk_at dksX0_tally_1 0 rfl rfl)
theorem dX0_tally_25 : decode cX0_tally 25 = .ok (.iconst (-1), 1) := dk_2 (dk_at dksX0_tally_1 3 rfl rfl)
theorem dX0_tally_26 : decode cX0_tally 26 = .ok (.goto 16, 3) := dk_167 0 16 (dk_at dksX0_tally_1 4 rfl rfl)
theorem dX0_tally_29 : decode cX0_tally 29 = .ok (.aload_n 0, 1) := dk_42 (dk_at dksX0_tally_1 7 rfl rfl)
theorem dX0_tally_30 : decode cX0_tally 30 = .ok (.invokevirtual 187, 3) := dk_182 0 187 (dk_at dksX0_tally_1 8 rfl rfl)
theorem dX0_tally_33 : decode cX0_tally 33 = .ok (.getfield 288, 3) := dk_180 1 32 (dk_at dksX0_tally_1 11 rfl rfl)
theorem dX0_tally_36 : decode cX0_tally 36 = .ok (.iload_n 1, 1) := dk_27 (dk_at dksX0_tally_1 14 rfl rfl)
theorem dX0_tally_37 : decode cX0_tally 37 = .ok (.aaload, 1) := dk_50 (dk_at dksX0_tally_1 15 rfl rfl)
theorem dX0_tally_38 : decode cX0_tally 38 = .ok (.iload_n 2, 1) := dk_28 (dk_at dksX0_tally_1 16 rfl rfl)
theorem dX0_tally_39 : decode cX0_tally 39 = .ok (.invokevirtual 363, 3) := dk_182 1 107 (dk_at dksX0_tally_1 17 rfl rfl)
theorem dX0_tally_42 : decode cX0_tally 42 = .ok (.ireturn, 1) := dk_172 (dk_at dksX0_tally_1 20 rfl rfl)
abbrev cX0_busiest : ByteArray := prog_1_method_82_code
def yX0_busiest : MethodName := ⟨RX0, "busiest", "()I"⟩
def dkwX0_busiest_1 : List UInt8 := [42, 27, 182, 1, 175, 164, 0, 5, 28, 60, 132, 2, 1, 167, 255, 223, 42, 27, 182, 1, 99, 172]
abbrev dktX0_busiest_1 : List UInt8 := dkwX0_busiest_1 ++ []
def dkwX0_busiest_0 : List UInt8 := [2, 60, 3, 61, 28, 42, 182, 0, 165, 180, 0, 168, 162, 0, 28, 27, 155, 0, 16, 42, 28, 182, 1, 175]
abbrev dktX0_busiest_0 : List UInt8 := dkwX0_busiest_0 ++ dktX0_busiest_1
theorem dksX0_busiest_0 : cX0_busiest.data.toList.drop 0 = dktX0_busiest_0 := by decide +kernel
theorem dksX0_busiest_1 : cX0_busiest.data.toList.drop 24 = dktX0_busiest_1 := dk_seg dksX0_busiest_0 24 rfl rfl
theorem dX0_busiest_0 : decode cX0_busiest 0 = .ok (.iconst (-1), 1) := dk_2 (dk_at dksX0_busiest_0 0 rfl rfl)
theorem dX0_busiest_1 : decode cX0_busiest 1 = .ok (.istore_n 1, 1) := dk_60 (dk_at dksX0_busiest_0 1 rfl rfl)
theorem dX0_busiest_2 : decode cX0_busiest 2 = .ok (.iconst 0, 1) := dk_3 (dk_at dksX0_busiest_0 2 rfl rfl)
theorem dX0_busiest_3 : decode cX0_busiest 3 = .ok (.istore_n 2, 1) := dk_61 (dk_at dksX0_busiest_0 3 rfl rfl)
theorem dX0_busiest_4 : decode cX0_busiest 4 = .ok (.iload_n 2, 1) := dk_28 (dk_at dksX0_busiest_0 4 rfl rfl)
theorem dX0_busiest_5 : decode cX0_busiest 5 = .ok (.aload_n 0, 1) := dk_42 (dk_at dksX0_busiest_0 5 rfl rfl)
theorem dX0_busiest_6 : decode cX0_busiest 6 = .ok (.invokevirtual 165, 3) := dk_182 0 165 (dk_at dksX0_busiest_0 6 rfl rfl)
theorem dX0_busiest_9 : decode cX0_busiest 9 = .ok (.getfield 168, 3) := dk_180 0 168 (dk_at dksX0_busiest_0 9 rfl rfl)
theorem dX0_busiest_12 : decode cX0_busiest 12 = .ok (.if_icmp .ge 28, 3) := dk_162 0 28 (dk_at dksX0_busiest_0 12 rfl rfl)
theorem dX0_busiest_15 : decode cX0_busiest 15 = .ok (.iload_n 1, 1) := dk_27 (dk_at dksX0_busiest_0 15 rfl rfl)
theorem dX0_busiest_16 : decode cX0_busiest 16 = .ok (.ifCond .lt 16, 3) := dk_155 0 16 (dk_at dksX0_busiest_0 16 rfl rfl)
theorem dX0_busiest_19 : decode cX0_busiest 19 = .ok (.aload_n 0, 1) := dk_42 (dk_at dksX0_busiest_0 19 rfl rfl)
theorem dX0_busiest_20 : decode cX0_busiest 20 = .ok (.iload_n 2, 1) := dk_28 (dk_at dksX0_busiest_0 20 rfl rfl)
theorem dX0_busiest_21 : decode cX0_busiest 21 = .ok (.invokevirtual 431, 3) := dk_182 1 175 (dk_at dksX0_busiest_0 21 rfl rfl)
theorem dX0_busiest_24 : decode cX0_busiest 24 = .ok (.aload_n 0, 1) := dk_42 (dk_at dksX0_busiest_1 0 rfl rfl)
theorem dX0_busiest_25 : decode cX0_busiest 25 = .ok (.iload_n 1, 1) := dk_27 (dk_at dksX0_busiest_1 1 rfl rfl)
theorem dX0_busiest_26 : decode cX0_busiest 26 = .ok (.invokevirtual 431, 3) := dk_182 1 175 (dk_at dksX0_busiest_1 2 rfl rfl)
theorem dX0_busiest_29 : decode cX0_busiest 29 = .ok (.if_icmp .le 5, 3) := dk_164 0 5 (dk_at dksX0_busiest_1 5 rfl rfl)
theorem dX0_busiest_32 : decode cX0_busiest 32 = .ok (.iload_n 2, 1) := dk_28 (dk_at dksX0_busiest_1 8 rfl rfl)
theorem dX0_busiest_33 : decode cX0_busiest 33 = .ok (.istore_n 1, 1) := dk_60 (dk_at dksX0_busiest_1 9 rfl rfl)
theorem dX0_busiest_34 : decode cX0_busiest 34 = .ok (.iinc 2 1, 3) := dk_132 2 1 (dk_at dksX0_busiest_1 10 rfl rfl)
theorem dX0_busiest_37 : decode cX0_busiest 37 = .ok (.goto (-33), 3) := dk_167 255 223 (dk_at dksX0_busiest_1 13 rfl rfl)
theorem dX0_busiest_40 : decode cX0_busiest 40 = .ok (.aload_n 0, 1) := dk_42 (dk_at dksX0_busiest_1 16 rfl rfl)
theorem dX0_busiest_41 : decode cX0_busiest 41 = .ok (.iload_n 1, 1) := dk_27 (dk_at dksX0_busiest_1 17 rfl rfl)
theorem dX0_busiest_42 : decode cX0_busiest 42 = .ok (.invokevirtual 355, 3) := dk_182 1 99 (dk_at dksX0_busiest_1 18 rfl rfl)
theorem dX0_busiest_45 : decode cX0_busiest 45 = .ok (.ireturn, 1) := dk_172 (dk_at dksX0_busiest_1 21 rfl rfl)
abbrev cX0_strewnOf : ByteArray := prog_1_method_81_code
def yX0_strewnOf : MethodName := ⟨RX0, "strewnOf", "(I)I"⟩
def dkwX0_strewnOf_1 : List UInt8 := [50, 27, 182, 1, 107, 96, 61, 132, 3, 1, 167, 255, 226, 28, 172]
abbrev dktX0_strewnOf_1 : List UInt8 := dkwX0_strewnOf_1 ++ []
def dkwX0_strewnOf_0 : List UInt8 := [3, 61, 3, 62, 29, 42, 182, 0, 165, 180, 0, 177, 162, 0, 25, 28, 42, 182, 0, 187, 180, 1, 32, 29]
abbrev dktX0_strewnOf_0 : List UInt8 := dkwX0_strewnOf_0 ++ dktX0_strewnOf_1
theorem dksX0_strewnOf_0 : cX0_strewnOf.data.toList.drop 0 = dktX0_strewnOf_0 := by decide +kernel
theorem dksX0_strewnOf_1 : cX0_strewnOf.data.toList.drop 24 = dktX0_strewnOf_1 := dk_seg dksX0_strewnOf_0 24 rfl rfl
theorem dX0_strewnOf_0 : decode cX0_strewnOf 0 = .ok (.iconst 0, 1) := dk_3 (dk_at dksX0_strewnOf_0 0 rfl rfl)
theorem dX0_strewnOf_1 : decode cX0_strewnOf 1 = .ok (.istore_n 2, 1) := dk_61 (dk_at dksX0_strewnOf_0 1 rfl rfl)
theorem dX0_strewnOf_2 : decode cX0_strewnOf 2 = .ok (.iconst 0, 1) := dk_3 (dk_at dksX0_strewnOf_0 2 rfl rfl)
theorem dX0_strewnOf_3 : decode cX0_strewnOf 3 = .ok (.istore_n 3, 1) := dk_62 (dk_at dksX0_strewnOf_0 3 rfl rfl)
theorem dX0_strewnOf_4 : decode cX0_strewnOf 4 = .ok (.iload_n 3, 1) := dk_29 (dk_at dksX0_strewnOf_0 4 rfl rfl)
theorem dX0_strewnOf_5 : decode cX0_strewnOf 5 = .ok (.aload_n 0, 1) := dk_42 (dk_at dksX0_strewnOf_0 5 rfl rfl)
theorem dX0_strewnOf_6 : decode cX0_strewnOf 6 = .ok (.invokevirtual 165, 3) := dk_182 0 165 (dk_at dksX0_strewnOf_0 6 rfl rfl)
theorem dX0_strewnOf_9 : decode cX0_strewnOf 9 = .ok (.getfield 177, 3) := dk_180 0 177 (dk_at dksX0_strewnOf_0 9 rfl rfl)
theorem dX0_strewnOf_12 : decode cX0_strewnOf 12 = .ok (.if_icmp .ge 25, 3) := dk_162 0 25 (dk_at dksX0_strewnOf_0 12 rfl rfl)
theorem dX0_strewnOf_15 : decode cX0_strewnOf 15 = .ok (.iload_n 2, 1) := dk_28 (dk_at dksX0_strewnOf_0 15 rfl rfl)
theorem dX0_strewnOf_16 : decode cX0_strewnOf 16 = .ok (.aload_n 0, 1) := dk_42 (dk_at dksX0_strewnOf_0 16 rfl rfl)
theorem dX0_strewnOf_17 : decode cX0_strewnOf 17 = .ok (.invokevirtual 187, 3) := dk_182 0 187 (dk_at dksX0_strewnOf_0 17 rfl rfl)
theorem dX0_strewnOf_20 : decode cX0_strewnOf 20 = .ok (.getfield 288, 3) := dk_180 1 32 (dk_at dksX0_strewnOf_0 20 rfl rfl)
theorem dX0_strewnOf_23 : decode cX0_strewnOf 23 = .ok (.iload_n 3, 1) := dk_29 (dk_at dksX0_strewnOf_0 23 rfl rfl)
theorem dX0_strewnOf_24 : decode cX0_strewnOf 24 = .ok (.aaload, 1) := dk_50 (dk_at dksX0_strewnOf_1 0 rfl rfl)
theorem dX0_strewnOf_25 : decode cX0_strewnOf 25 = .ok (.iload_n 1, 1) := dk_27 (dk_at dksX0_strewnOf_1 1 rfl rfl)
theorem dX0_strewnOf_26 : decode cX0_strewnOf 26 = .ok (.invokevirtual 363, 3) := dk_182 1 107 (dk_at dksX0_strewnOf_1 2 rfl rfl)
theorem dX0_strewnOf_29 : decode cX0_strewnOf 29 = .ok (.iadd, 1) := dk_96 (dk_at dksX0_strewnOf_1 5 rfl rfl)
theorem dX0_strewnOf_30 : decode cX0_strewnOf 30 = .ok (.istore_n 2, 1) := dk_61 (dk_at dksX0_strewnOf_1 6 rfl rfl)
theorem dX0_strewnOf_31 : decode cX0_strewnOf 31 = .ok (.iinc 3 1, 3) := dk_132 3 1 (dk_at dksX0_strewnOf_1 7 rfl rfl)
theorem dX0_strewnOf_34 : decode cX0_strewnOf 34 = .ok (.goto (-30), 3) := dk_167 255 226 (dk_at dksX0_strewnOf_1 10 rfl rfl)
theorem dX0_strewnOf_37 : decode cX0_strewnOf 37 = .ok (.iload_n 2, 1) := dk_28 (dk_at dksX0_strewnOf_1 13 rfl rfl)
theorem dX0_strewnOf_38 : decode cX0_strewnOf 38 = .ok (.ireturn, 1) := dk_172 (dk_at dksX0_strewnOf_1 14 rfl rfl)
abbrev cX0_both : ByteArray := prog_1_method_83_code
def yX0_both : MethodName := ⟨RX0, "both", "(III)I"⟩
def dkwX0_both_2 : List UInt8 := [158, 0, 7, 2, 167, 0, 16, 42, 27, 29, 182, 1, 138, 42, 28, 29, 182, 1, 138, 126, 172]
abbrev dktX0_both_2 : List UInt8 := dkwX0_both_2 ++ []
def dkwX0_both_1 : List UInt8 := [9, 20, 1, 79, 184, 0, 173, 153, 0, 7, 3, 167, 0, 4, 4, 181, 0, 85, 42, 180, 0, 85]
abbrev dktX0_both_1 : List UInt8 := dkwX0_both_1 ++ dktX0_both_2
def dkwX0_both_0 : List UInt8 := [42, 42, 27, 182, 0, 180, 153, 0, 32, 42, 28, 182, 0, 180, 153, 0, 24, 27, 28, 159, 0, 19, 29, 133]
abbrev dktX0_both_0 : List UInt8 := dkwX0_both_0 ++ dktX0_both_1
theorem dksX0_both_0 : cX0_both.data.toList.drop 0 = dktX0_both_0 := by decide +kernel
theorem dksX0_both_1 : cX0_both.data.toList.drop 24 = dktX0_both_1 := dk_seg dksX0_both_0 24 rfl rfl
theorem dksX0_both_2 : cX0_both.data.toList.drop 46 = dktX0_both_2 := dk_seg dksX0_both_1 22 rfl rfl
theorem dX0_both_0 : decode cX0_both 0 = .ok (.aload_n 0, 1) := dk_42 (dk_at dksX0_both_0 0 rfl rfl)
theorem dX0_both_1 : decode cX0_both 1 = .ok (.aload_n 0, 1) := dk_42 (dk_at dksX0_both_0 1 rfl rfl)
theorem dX0_both_2 : decode cX0_both 2 = .ok (.iload_n 1, 1) := dk_27 (dk_at dksX0_both_0 2 rfl rfl)
theorem dX0_both_3 : decode cX0_both 3 = .ok (.invokevirtual 180, 3) := dk_182 0 180 (dk_at dksX0_both_0 3 rfl rfl)
theorem dX0_both_6 : decode cX0_both 6 = .ok (.ifCond .eq 32, 3) := dk_153 0 32 (dk_at dksX0_both_0 6 rfl rfl)
theorem dX0_both_9 : decode cX0_both 9 = .ok (.aload_n 0, 1) := dk_42 (dk_at dksX0_both_0 9 rfl rfl)
theorem dX0_both_10 : decode cX0_both 10 = .ok (.iload_n 2, 1) := dk_28 (dk_at dksX0_both_0 10 rfl rfl)
theorem dX0_both_11 : decode cX0_both 11 = .ok (.invokevirtual 180, 3) := dk_182 0 180 (dk_at dksX0_both_0 11 rfl rfl)
theorem dX0_both_14 : decode cX0_both 14 = .ok (.ifCond .eq 24, 3) := dk_153 0 24 (dk_at dksX0_both_0 14 rfl rfl)
theorem dX0_both_17 : decode cX0_both 17 = .ok (.iload_n 1, 1) := dk_27 (dk_at dksX0_both_0 17 rfl rfl)
theorem dX0_both_18 : decode cX0_both 18 = .ok (.iload_n 2, 1) := dk_28 (dk_at dksX0_both_0 18 rfl rfl)
theorem dX0_both_19 : decode cX0_both 19 = .ok (.if_icmp .eq 19, 3) := dk_159 0 19 (dk_at dksX0_both_0 19 rfl rfl)
theorem dX0_both_22 : decode cX0_both 22 = .ok (.iload_n 3, 1) := dk_29 (dk_at dksX0_both_0 22 rfl rfl)
theorem dX0_both_23 : decode cX0_both 23 = .ok (.i2l, 1) := dk_133 (dk_at dksX0_both_0 23 rfl rfl)
theorem dX0_both_24 : decode cX0_both 24 = .ok (.lconst 0, 1) := dk_9 (dk_at dksX0_both_1 0 rfl rfl)
theorem dX0_both_25 : decode cX0_both 25 = .ok (.ldc2_w 335, 3) := dk_20 1 79 (dk_at dksX0_both_1 1 rfl rfl)
theorem dX0_both_28 : decode cX0_both 28 = .ok (.invokestatic 173, 3) := dk_184 0 173 (dk_at dksX0_both_1 4 rfl rfl)
theorem dX0_both_31 : decode cX0_both 31 = .ok (.ifCond .eq 7, 3) := dk_153 0 7 (dk_at dksX0_both_1 7 rfl rfl)
theorem dX0_both_34 : decode cX0_both 34 = .ok (.iconst 0, 1) := dk_3 (dk_at dksX0_both_1 10 rfl rfl)
theorem dX0_both_35 : decode cX0_both 35 = .ok (.goto 4, 3) := dk_167 0 4 (dk_at dksX0_both_1 11 rfl rfl)
theorem dX0_both_38 : decode cX0_both 38 = .ok (.iconst 1, 1) := dk_4 (dk_at dksX0_both_1 14 rfl rfl)
theorem dX0_both_39 : decode cX0_both 39 = .ok (.putfield 85, 3) := dk_181 0 85 (dk_at dksX0_both_1 15 rfl rfl)
theorem dX0_both_42 : decode cX0_both 42 = .ok (.aload_n 0, 1) := dk_42 (dk_at dksX0_both_1 18 rfl rfl)
theorem dX0_both_43 : decode cX0_both 43 = .ok (.getfield 85, 3) := dk_180 0 85 (dk_at dksX0_both_1 19 rfl rfl)
theorem dX0_both_46 : decode cX0_both 46 = .ok (.ifCond .le 7, 3) := dk_158 0 7 (dk_at dksX0_both_2 0 rfl rfl)
theorem dX0_both_49 : decode cX0_both 49 = .ok (.iconst (-1), 1) := dk_2 (dk_at dksX0_both_2 3 rfl rfl)
theorem dX0_both_50 : decode cX0_both 50 = .ok (.goto 16, 3) := dk_167 0 16 (dk_at dksX0_both_2 4 rfl rfl)
theorem dX0_both_53 : decode cX0_both 53 = .ok (.aload_n 0, 1) := dk_42 (dk_at dksX0_both_2 7 rfl rfl)
theorem dX0_both_54 : decode cX0_both 54 = .ok (.iload_n 1, 1) := dk_27 (dk_at dksX0_both_2 8 rfl rfl)
theorem dX0_both_55 : decode cX0_both 55 = .ok (.iload_n 3, 1) := dk_29 (dk_at dksX0_both_2 9 rfl rfl)
theorem dX0_both_56 : decode cX0_both 56 = .ok (.invokevirtual 394, 3) := dk_182 1 138 (dk_at dksX0_both_2 10 rfl rfl)
theorem dX0_both_59 : decode cX0_both 59 = .ok (.aload_n 0, 1) := dk_42 (dk_at dksX0_both_2 13 rfl rfl)
theorem dX0_both_60 : decode cX0_both 60 = .ok (.iload_n 2, 1) := dk_28 (dk_at dksX0_both_2 14 rfl rfl)
theorem dX0_both_61 : decode cX0_both 61 = .ok (.iload_n 3, 1) := dk_29 (dk_at dksX0_both_2 15 rfl rfl)
theorem dX0_both_62 : decode cX0_both 62 = .ok (.invokevirtual 394, 3) := dk_182 1 138 (dk_at dksX0_both_2 16 rfl rfl)
theorem dX0_both_65 : decode cX0_both 65 = .ok (.iand, 1) := dk_126 (dk_at dksX0_both_2 19 rfl rfl)
theorem dX0_both_66 : decode cX0_both 66 = .ok (.ireturn, 1) := dk_172 (dk_at dksX0_both_2 20 rfl rfl)
abbrev cX0_latest : ByteArray := prog_1_method_84_code
def yX0_latest : MethodName := ⟨RX0, "latest", "()I"⟩
def dkwX0_latest_3 : List UInt8 := [182, 1, 99, 172]
abbrev dktX0_latest_3 : List UInt8 := dkwX0_latest_3 ++ []
def dkwX0_latest_2 : List UInt8 := [180, 1, 32, 28, 50, 180, 1, 36, 4, 100, 46, 184, 1, 160, 60, 132, 2, 1, 167, 255, 195, 42, 27]
abbrev dktX0_latest_2 : List UInt8 := dkwX0_latest_2 ++ dktX0_latest_3
def dkwX0_latest_1 : List UInt8 := [180, 1, 36, 158, 0, 35, 27, 42, 182, 0, 187, 180, 1, 32, 28, 50, 180, 1, 44, 42, 182, 0, 187]
abbrev dktX0_latest_1 : List UInt8 := dkwX0_latest_1 ++ dktX0_latest_2
def dkwX0_latest_0 : List UInt8 := [2, 60, 3, 61, 28, 42, 182, 0, 165, 180, 0, 177, 162, 0, 56, 42, 182, 0, 187, 180, 1, 32, 28, 50]
abbrev dktX0_latest_0 : List UInt8 := dkwX0_latest_0 ++ dktX0_latest_1
theorem dksX0_latest_0 : cX0_latest.data.toList.drop 0 = dktX0_latest_0 := by decide +kernel
theorem dksX0_latest_1 : cX0_latest.data.toList.drop 24 = dktX0_latest_1 := dk_seg dksX0_latest_0 24 rfl rfl
theorem dksX0_latest_2 : cX0_latest.data.toList.drop 47 = dktX0_latest_2 := dk_seg dksX0_latest_1 23 rfl rfl
theorem dksX0_latest_3 : cX0_latest.data.toList.drop 70 = dktX0_latest_3 := dk_seg dksX0_latest_2 23 rfl rfl
theorem dX0_latest_0 : decode cX0_latest 0 = .ok (.iconst (-1), 1) := dk_2 (dk_at dksX0_latest_0 0 rfl rfl)
theorem dX0_latest_1 : decode cX0_latest 1 = .ok (.istore_n 1, 1) := dk_60 (dk_at dksX0_latest_0 1 rfl rfl)
theorem dX0_latest_2 : decode cX0_latest 2 = .ok (.iconst 0, 1) := dk_3 (dk_at dksX0_latest_0 2 rfl rfl)
theorem dX0_latest_3 : decode cX0_latest 3 = .ok (.istore_n 2, 1) := dk_61 (dk_at dksX0_latest_0 3 rfl rfl)
theorem dX0_latest_4 : decode cX0_latest 4 = .ok (.iload_n 2, 1) := dk_28 (dk_at dksX0_latest_0 4 rfl rfl)
theorem dX0_latest_5 : decode cX0_latest 5 = .ok (.aload_n 0, 1) := dk_42 (dk_at dksX0_latest_0 5 rfl rfl)
theorem dX0_latest_6 : decode cX0_latest 6 = .ok (.invokevirtual 165, 3) := dk_182 0 165 (dk_at dksX0_latest_0 6 rfl rfl)
theorem dX0_latest_9 : decode cX0_latest 9 = .ok (.getfield 177, 3) := dk_180 0 177 (dk_at dksX0_latest_0 9 rfl rfl)
theorem dX0_latest_12 : decode cX0_latest 12 = .ok (.if_icmp .ge 56, 3) := dk_162 0 56 (dk_at dksX0_latest_0 12 rfl rfl)
theorem dX0_latest_15 : decode cX0_latest 15 = .ok (.aload_n 0, 1) := dk_42 (dk_at dksX0_latest_0 15 rfl rfl)
theorem dX0_latest_16 : decode cX0_latest 16 = .ok (.invokevirtual 187, 3) := dk_182 0 187 (dk_at dksX0_latest_0 16 rfl rfl)
theorem dX0_latest_19 : decode cX0_latest 19 = .ok (.getfield 288, 3) := dk_180 1 32 (dk_at dksX0_latest_0 19 rfl rfl)
theorem dX0_latest_22 : decode cX0_latest 22 = .ok (.iload_n 2, 1) := dk_28 (dk_at dksX0_latest_0 22 rfl rfl)
theorem dX0_latest_23 : decode cX0_latest 23 = .ok (.aaload, 1) := dk_50 (dk_at dksX0_latest_0 23 rfl rfl)
theorem dX0_latest_24 : decode cX0_latest 24 = .ok (.getfield 292, 3) := dk_180 1 36 (dk_at dksX0_latest_1 0 rfl rfl)
theorem dX0_latest_27 : decode cX0_latest 27 = .ok (.ifCond .le 35, 3) := dk_158 0 35 (dk_at dksX0_latest_1 3 rfl rfl)
theorem dX0_latest_30 : decode cX0_latest 30 = .ok (.iload_n 1, 1) := dk_27 (dk_at dksX0_latest_1 6 rfl rfl)
theorem dX0_latest_31 : decode cX0_latest 31 = .ok (.aload_n 0, 1) := dk_42 (dk_at dksX0_latest_1 7 rfl rfl)
theorem dX0_latest_32 : decode cX0_latest 32 = .ok (.invokevirtual 187, 3) := dk_182 0 187 (dk_at dksX0_latest_1 8 rfl rfl)
theorem dX0_latest_35 : decode cX0_latest 35 = .ok (.getfield 288, 3) := dk_180 1 32 (dk_at dksX0_latest_1 11 rfl rfl)
theorem dX0_latest_38 : decode cX0_latest 38 = .ok (.iload_n 2, 1) := dk_28 (dk_at dksX0_latest_1 14 rfl rfl)
theorem dX0_latest_39 : decode cX0_latest 39 = .ok (.aaload, 1) := dk_50 (dk_at dksX0_latest_1 15 rfl rfl)
theorem dX0_latest_40 : decode cX0_latest 40 = .ok (.getfield 300, 3) := dk_180 1 44 (dk_at dksX0_latest_1 16 rfl rfl)
theorem dX0_latest_43 : decode cX0_latest 43 = .ok (.aload_n 0, 1) := dk_42 (dk_at dksX0_latest_1 19 rfl rfl)
theorem dX0_latest_44 : decode cX0_latest 44 = .ok (.invokevirtual 187, 3) := dk_182 0 187 (dk_at dksX0_latest_1 20 rfl rfl)
theorem dX0_latest_47 : decode cX0_latest 47 = .ok (.getfield 288, 3) := dk_180 1 32 (dk_at dksX0_latest_2 0 rfl rfl)
theorem dX0_latest_50 : decode cX0_latest 50 = .ok (.iload_n 2, 1) := dk_28 (dk_at dksX0_latest_2 3 rfl rfl)
theorem dX0_latest_51 : decode cX0_latest 51 = .ok (.aaload, 1) := dk_50 (dk_at dksX0_latest_2 4 rfl rfl)
theorem dX0_latest_52 : decode cX0_latest 52 = .ok (.getfield 292, 3) := dk_180 1 36 (dk_at dksX0_latest_2 5 rfl rfl)
theorem dX0_latest_55 : decode cX0_latest 55 = .ok (.iconst 1, 1) := dk_4 (dk_at dksX0_latest_2 8 rfl rfl)
theorem dX0_latest_56 : decode cX0_latest 56 = .ok (.isub, 1) := dk_100 (dk_at dksX0_latest_2 9 rfl rfl)
theorem dX0_latest_57 : decode cX0_latest 57 = .ok (.iaload, 1) := dk_46 (dk_at dksX0_latest_2 10 rfl rfl)
theorem dX0_latest_58 : decode cX0_latest 58 = .ok (.invokestatic 416, 3) := dk_184 1 160 (dk_at dksX0_latest_2 11 rfl rfl)
theorem dX0_latest_61 : decode cX0_latest 61 = .ok (.istore_n 1, 1) := dk_60 (dk_at dksX0_latest_2 14 rfl rfl)
theorem dX0_latest_62 : decode cX0_latest 62 = .ok (.iinc 2 1, 3) := dk_132 2 1 (dk_at dksX0_latest_2 15 rfl rfl)
theorem dX0_latest_65 : decode cX0_latest 65 = .ok (.goto (-61), 3) := dk_167 255 195 (dk_at dksX0_latest_2 18 rfl rfl)
theorem dX0_latest_68 : decode cX0_latest 68 = .ok (.aload_n 0, 1) := dk_42 (dk_at dksX0_latest_2 21 rfl rfl)
theorem dX0_latest_69 : decode cX0_latest 69 = .ok (.iload_n 1, 1) := dk_27 (dk_at dksX0_latest_2 22 rfl rfl)
theorem dX0_latest_70 : decode cX0_latest 70 = .ok (.invokevirtual 355, 3) := dk_182 1 99 (dk_at dksX0_latest_3 0 rfl rfl)
theorem dX0_latest_73 : decode cX0_latest 73 = .ok (.ireturn, 1) := dk_172 (dk_at dksX0_latest_3 3 rfl rfl)
abbrev cX0_behind : ByteArray := prog_1_method_85_code
def yX0_behind : MethodName := ⟨RX0, "behind", "(I)I"⟩
def dkwX0_behind_2 : List UInt8 := [182, 1, 96, 184, 1, 160, 61, 132, 3, 1, 167, 255, 229, 28, 42, 182, 0, 187, 27, 182, 1, 96, 100, 172]
abbrev dktX0_behind_2 : List UInt8 := dkwX0_behind_2 ++ []
def dkwX0_behind_1 : List UInt8 := [2, 172, 3, 61, 3, 62, 29, 42, 182, 0, 165, 180, 0, 168, 162, 0, 22, 28, 42, 182, 0, 187, 29]
abbrev dktX0_behind_1 : List UInt8 := dkwX0_behind_1 ++ dktX0_behind_2
def dkwX0_behind_0 : List UInt8 := [42, 42, 27, 182, 0, 180, 153, 0, 7, 3, 167, 0, 4, 4, 181, 0, 85, 42, 180, 0, 85, 158, 0, 5]
abbrev dktX0_behind_0 : List UInt8 := dkwX0_behind_0 ++ dktX0_behind_1
theorem dksX0_behind_0 : cX0_behind.data.toList.drop 0 = dktX0_behind_0 := by decide +kernel
theorem dksX0_behind_1 : cX0_behind.data.toList.drop 24 = dktX0_behind_1 := dk_seg dksX0_behind_0 24 rfl rfl
theorem dksX0_behind_2 : cX0_behind.data.toList.drop 47 = dktX0_behind_2 := dk_seg dksX0_behind_1 23 rfl rfl
theorem dX0_behind_0 : decode cX0_behind 0 = .ok (.aload_n 0, 1) := dk_42 (dk_at dksX0_behind_0 0 rfl rfl)
theorem dX0_behind_1 : decode cX0_behind 1 = .ok (.aload_n 0, 1) := dk_42 (dk_at dksX0_behind_0 1 rfl rfl)
theorem dX0_behind_2 : decode cX0_behind 2 = .ok (.iload_n 1, 1) := dk_27 (dk_at dksX0_behind_0 2 rfl rfl)
theorem dX0_behind_3 : decode cX0_behind 3 = .ok (.invokevirtual 180, 3) := dk_182 0 180 (dk_at dksX0_behind_0 3 rfl rfl)
theorem dX0_behind_6 : decode cX0_behind 6 = .ok (.ifCond .eq 7, 3) := dk_153 0 7 (dk_at dksX0_behind_0 6 rfl rfl)
theorem dX0_behind_9 : decode cX0_behind 9 = .ok (.iconst 0, 1) := dk_3 (dk_at dksX0_behind_0 9 rfl rfl)
theorem dX0_behind_10 : decode cX0_behind 10 = .ok (.goto 4, 3) := dk_167 0 4 (dk_at dksX0_behind_0 10 rfl rfl)
theorem dX0_behind_13 : decode cX0_behind 13 = .ok (.iconst 1, 1) := dk_4 (dk_at dksX0_behind_0 13 rfl rfl)
theorem dX0_behind_14 : decode cX0_behind 14 = .ok (.putfield 85, 3) := dk_181 0 85 (dk_at dksX0_behind_0 14 rfl rfl)
theorem dX0_behind_17 : decode cX0_behind 17 = .ok (.aload_n 0, 1) := dk_42 (dk_at dksX0_behind_0 17 rfl rfl)
theorem dX0_behind_18 : decode cX0_behind 18 = .ok (.getfield 85, 3) := dk_180 0 85 (dk_at dksX0_behind_0 18 rfl rfl)
theorem dX0_behind_21 : decode cX0_behind 21 = .ok (.ifCond .le 5, 3) := dk_158 0 5 (dk_at dksX0_behind_0 21 rfl rfl)
theorem dX0_behind_24 : decode cX0_behind 24 = .ok (.iconst (-1), 1) := dk_2 (dk_at dksX0_behind_1 0 rfl rfl)
theorem dX0_behind_25 : decode cX0_behind 25 = .ok (.ireturn, 1) := dk_172 (dk_at dksX0_behind_1 1 rfl rfl)
theorem dX0_behind_26 : decode cX0_behind 26 = .ok (.iconst 0, 1) := dk_3 (dk_at dksX0_behind_1 2 rfl rfl)
theorem dX0_behind_27 : decode cX0_behind 27 = .ok (.istore_n 2, 1) := dk_61 (dk_at dksX0_behind_1 3 rfl rfl)
theorem dX0_behind_28 : decode cX0_behind 28 = .ok (.iconst 0, 1) := dk_3 (dk_at dksX0_behind_1 4 rfl rfl)
theorem dX0_behind_29 : decode cX0_behind 29 = .ok (.istore_n 3, 1) := dk_62 (dk_at dksX0_behind_1 5 rfl rfl)
theorem dX0_behind_30 : decode cX0_behind 30 = .ok (.iload_n 3, 1) := dk_29 (dk_at dksX0_behind_1 6 rfl rfl)
theorem dX0_behind_31 : decode cX0_behind 31 = .ok (.aload_n 0, 1) := dk_42 (dk_at dksX0_behind_1 7 rfl rfl)
theorem dX0_behind_32 : decode cX0_behind 32 = .ok (.invokevirtual 165, 3) := dk_182 0 165 (dk_at dksX0_behind_1 8 rfl rfl)
theorem dX0_behind_35 : decode cX0_behind 35 = .ok (.getfield 168, 3) := dk_180 0 168 (dk_at dksX0_behind_1 11 rfl rfl)
theorem dX0_behind_38 : decode cX0_behind 38 = .ok (.if_icmp .ge 22, 3) := dk_162 0 22 (dk_at dksX0_behind_1 14 rfl rfl)
theorem dX0_behind_41 : decode cX0_behind 41 = .ok (.iload_n 2, 1) := dk_28 (dk_at dksX0_behind_1 17 rfl rfl)
theorem dX0_behind_42 : decode cX0_behind 42 = .ok (.aload_n 0, 1) := dk_42 (dk_at dksX0_behind_1 18 rfl rfl)
theorem dX0_behind_43 : decode cX0_behind 43 = .ok (.invokevirtual 187, 3) := dk_182 0 187 (dk_at dksX0_behind_1 19 rfl rfl)
theorem dX0_behind_46 : decode cX0_behind 46 = .ok (.iload_n 3, 1) := dk_29 (dk_at dksX0_behind_1 22 rfl rfl)
theorem dX0_behind_47 : decode cX0_behind 47 = .ok (.invokevirtual 352, 3) := dk_182 1 96 (dk_at dksX0_behind_2 0 rfl rfl)
theorem dX0_behind_50 : decode cX0_behind 50 = .ok (.invokestatic 416, 3) := dk_184 1 160 (dk_at dksX0_behind_2 3 rfl rfl)
theorem dX0_behind_53 : decode cX0_behind 53 = .ok (.istore_n 2, 1) := dk_61 (dk_at dksX0_behind_2 6 rfl rfl)
theorem dX0_behind_54 : decode cX0_behind 54 = .ok (.iinc 3 1, 3) := dk_132 3 1 (dk_at dksX0_behind_2 7 rfl rfl)
theorem dX0_behind_57 : decode cX0_behind 57 = .ok (.goto (-27), 3) := dk_167 255 229 (dk_at dksX0_behind_2 10 rfl rfl)
theorem dX0_behind_60 : decode cX0_behind 60 = .ok (.iload_n 2, 1) := dk_28 (dk_at dksX0_behind_2 13 rfl rfl)
theorem dX0_behind_61 : decode cX0_behind 61 = .ok (.aload_n 0, 1) := dk_42 (dk_at dksX0_behind_2 14 rfl rfl)
theorem dX0_behind_62 : decode cX0_behind 62 = .ok (.invokevirtual 187, 3) := dk_182 0 187 (dk_at dksX0_behind_2 15 rfl rfl)
theorem dX0_behind_65 : decode cX0_behind 65 = .ok (.iload_n 1, 1) := dk_27 (dk_at dksX0_behind_2 18 rfl rfl)
theorem dX0_behind_66 : decode cX0_behind 66 = .ok (.invokevirtual 352, 3) := dk_182 1 96 (dk_at dksX0_behind_2 19 rfl rfl)
theorem dX0_behind_69 : decode cX0_behind 69 = .ok (.isub, 1) := dk_100 (dk_at dksX0_behind_2 22 rfl rfl)
theorem dX0_behind_70 : decode cX0_behind 70 = .ok (.ireturn, 1) := dk_172 (dk_at dksX0_behind_2 23 rfl rfl)
abbrev cX0_alone : ByteArray := prog_1_method_86_code
def yX0_alone : MethodName := ⟨RX0, "alone", "()I"⟩
def dkwX0_alone_2 : List UInt8 := [45, 180, 1, 36, 160, 0, 9, 4, 28, 120, 167, 0, 4, 3, 128, 60, 132, 2, 1, 167, 255, 198, 27, 172]
abbrev dktX0_alone_2 : List UInt8 := dkwX0_alone_2 ++ []
def dkwX0_alone_1 : List UInt8 := [180, 1, 32, 28, 50, 78, 27, 45, 180, 1, 36, 158, 0, 26, 45, 45, 180, 1, 41, 3, 46, 182, 1, 107]
abbrev dktX0_alone_1 : List UInt8 := dkwX0_alone_1 ++ dktX0_alone_2
def dkwX0_alone_0 : List UInt8 := [42, 3, 181, 0, 85, 3, 60, 3, 61, 28, 42, 182, 0, 165, 180, 0, 177, 162, 0, 53, 42, 182, 0, 187]
abbrev dktX0_alone_0 : List UInt8 := dkwX0_alone_0 ++ dktX0_alone_1
theorem dksX0_alone_0 : cX0_alone.data.toList.drop 0 = dktX0_alone_0 := by decide +kernel
theorem dksX0_alone_1 : cX0_alone.data.toList.drop 24 = dktX0_alone_1 := dk_seg dksX0_alone_0 24 rfl rfl
theorem dksX0_alone_2 : cX0_alone.data.toList.drop 48 = dktX0_alone_2 := dk_seg dksX0_alone_1 24 rfl rfl
theorem dX0_alone_0 : decode cX0_alone 0 = .ok (.aload_n 0, 1) := dk_42 (dk_at dksX0_alone_0 0 rfl rfl)
theorem dX0_alone_1 : decode cX0_alone 1 = .ok (.iconst 0, 1) := dk_3 (dk_at dksX0_alone_0 1 rfl rfl)
theorem dX0_alone_2 : decode cX0_alone 2 = .ok (.putfield 85, 3) := dk_181 0 85 (dk_at dksX0_alone_0 2 rfl rfl)
theorem dX0_alone_5 : decode cX0_alone 5 = .ok (.iconst 0, 1) := dk_3 (dk_at dksX0_alone_0 5 rfl rfl)
theorem dX0_alone_6 : decode cX0_alone 6 = .ok (.istore_n 1, 1) := dk_60 (dk_at dksX0_alone_0 6 rfl rfl)
theorem dX0_alone_7 : decode cX0_alone 7 = .ok (.iconst 0, 1) := dk_3 (dk_at dksX0_alone_0 7 rfl rfl)
theorem dX0_alone_8 : decode cX0_alone 8 = .ok (.istore_n 2, 1) := dk_61 (dk_at dksX0_alone_0 8 rfl rfl)
theorem dX0_alone_9 : decode cX0_alone 9 = .ok (.iload_n 2, 1) := dk_28 (dk_at dksX0_alone_0 9 rfl rfl)
theorem dX0_alone_10 : decode cX0_alone 10 = .ok (.aload_n 0, 1) := dk_42 (dk_at dksX0_alone_0 10 rfl rfl)
theorem dX0_alone_11 : decode cX0_alone 11 = .ok (.invokevirtual 165, 3) := dk_182 0 165 (dk_at dksX0_alone_0 11 rfl rfl)
theorem dX0_alone_14 : decode cX0_alone 14 = .ok (.getfield 177, 3) := dk_180 0 177 (dk_at dksX0_alone_0 14 rfl rfl)
theorem dX0_alone_17 : decode cX0_alone 17 = .ok (.if_icmp .ge 53, 3) := dk_162 0 53 (dk_at dksX0_alone_0 17 rfl rfl)
theorem dX0_alone_20 : decode cX0_alone 20 = .ok (.aload_n 0, 1) := dk_42 (dk_at dksX0_alone_0 20 rfl rfl)
theorem dX0_alone_21 : decode cX0_alone 21 = .ok (.invokevirtual 187, 3) := dk_182 0 187 (dk_at dksX0_alone_0 21 rfl rfl)
theorem dX0_alone_24 : decode cX0_alone 24 = .ok (.getfield 288, 3) := dk_180 1 32 (dk_at dksX0_alone_1 0 rfl rfl)
theorem dX0_alone_27 : decode cX0_alone 27 = .ok (.iload_n 2, 1) := dk_28 (dk_at dksX0_alone_1 3 rfl rfl)
theorem dX0_alone_28 : decode cX0_alone 28 = .ok (.aaload, 1) := dk_50 (dk_at dksX0_alone_1 4 rfl rfl)
theorem dX0_alone_29 : decode cX0_alone 29 = .ok (.astore_n 3, 1) := dk_78 (dk_at dksX0_alone_1 5 rfl rfl)
theorem dX0_alone_30 : decode cX0_alone 30 = .ok (.iload_n 1, 1) := dk_27 (dk_at dksX0_alone_1 6 rfl rfl)
theorem dX0_alone_31 : decode cX0_alone 31 = .ok (.aload_n 3, 1) := dk_45 (dk_at dksX0_alone_1 7 rfl rfl)
theorem dX0_alone_32 : decode cX0_alone 32 = .ok (.getfield 292, 3) := dk_180 1 36 (dk_at dksX0_alone_1 8 rfl rfl)
theorem dX0_alone_35 : decode cX0_alone 35 = .ok (.ifCond .le 26, 3) := dk_158 0 26 (dk_at dksX0_alone_1 11 rfl rfl)
theorem dX0_alone_38 : decode cX0_alone 38 = .ok (.aload_n 3, 1) := dk_45 (dk_at dksX0_alone_1 14 rfl rfl)
theorem dX0_alone_39 : decode cX0_alone 39 = .ok (.aload_n 3, 1) := dk_45 (dk_at dksX0_alone_1 15 rfl rfl)
theorem dX0_alone_40 : decode cX0_alone 40 = .ok (.getfield 297, 3) := dk_180 1 41 (dk_at dksX0_alone_1 16 rfl rfl)
theorem dX0_alone_43 : decode cX0_alone 43 = .ok (.iconst 0, 1) := dk_3 (dk_at dksX0_alone_1 19 rfl rfl)
theorem dX0_alone_44 : decode cX0_alone 44 = .ok (.iaload, 1) := dk_46 (dk_at dksX0_alone_1 20 rfl rfl)
theorem dX0_alone_45 : decode cX0_alone 45 = .ok (.invokevirtual 363, 3) := dk_182 1 107 (dk_at dksX0_alone_1 21 rfl rfl)
theorem dX0_alone_48 : decode cX0_alone 48 = .ok (.aload_n 3, 1) := dk_45 (dk_at dksX0_alone_2 0 rfl rfl)
theorem dX0_alone_49 : decode cX0_alone 49 = .ok (.getfield 292, 3) := dk_180 1 36 (dk_at dksX0_alone_2 1 rfl rfl)
theorem dX0_alone_52 : decode cX0_alone 52 = .ok (.if_icmp .ne 9, 3) := dk_160 0 9 (dk_at dksX0_alone_2 4 rfl rfl)
theorem dX0_alone_55 : decode cX0_alone 55 = .ok (.iconst 1, 1) := dk_4 (dk_at dksX0_alone_2 7 rfl rfl)
theorem dX0_alone_56 : decode cX0_alone 56 = .ok (.iload_n 2, 1) := dk_28 (dk_at dksX0_alone_2 8 rfl rfl)
theorem dX0_alone_57 : decode cX0_alone 57 = .ok (.ishl, 1) := dk_120 (dk_at dksX0_alone_2 9 rfl rfl)
theorem dX0_alone_58 : decode cX0_alone 58 = .ok (.goto 4, 3) := dk_167 0 4 (dk_at dksX0_alone_2 10 rfl rfl)
theorem dX0_alone_61 : decode cX0_alone 61 = .ok (.iconst 0, 1) := dk_3 (dk_at dksX0_alone_2 13 rfl rfl)
theorem dX0_alone_62 : decode cX0_alone 62 = .ok (.ior, 1) := dk_128 (dk_at dksX0_alone_2 14 rfl rfl)
theorem dX0_alone_63 : decode cX0_alone 63 = .ok (.istore_n 1, 1) := dk_60 (dk_at dksX0_alone_2 15 rfl rfl)
theorem dX0_alone_64 : decode cX0_alone 64 = .ok (.iinc 2 1, 3) := dk_132 2 1 (dk_at dksX0_alone_2 16 rfl rfl)
theorem dX0_alone_67 : decode cX0_alone 67 = .ok (.goto (-58), 3) := dk_167 255 198 (dk_at dksX0_alone_2 19 rfl rfl)
theorem dX0_alone_70 : decode cX0_alone 70 = .ok (.iload_n 1, 1) := dk_27 (dk_at dksX0_alone_2 22 rfl rfl)
theorem dX0_alone_71 : decode cX0_alone 71 = .ok (.ireturn, 1) := dk_172 (dk_at dksX0_alone_2 23 rfl rfl)
abbrev cX0_part : ByteArray := prog_1_method_87_code
def yX0_part : MethodName := ⟨RX0, "part", "(II)I"⟩
def dkwX0_part_5 : List UInt8 := [132, 6, 1, 167, 255, 187, 42, 2, 182, 1, 99, 172]
abbrev dktX0_part_5 : List UInt8 := dkwX0_part_5 ++ []
def dkwX0_part_4 : List UInt8 := [167, 0, 18, 42, 182, 0, 165, 180, 1, 29, 27, 46, 21, 4, 184, 1, 102, 108, 172, 132, 5, 255]
abbrev dktX0_part_4 : List UInt8 := dkwX0_part_4 ++ dktX0_part_5
def dkwX0_part_3 : List UInt8 := [154, 0, 6, 167, 0, 41, 21, 5, 154, 0, 33, 21, 4, 21, 6, 122, 4, 126, 154, 0, 7, 3]
abbrev dktX0_part_3 : List UInt8 := dkwX0_part_3 ++ dktX0_part_4
def dkwX0_part_2 : List UInt8 := [54, 6, 21, 6, 42, 182, 0, 165, 180, 0, 168, 162, 0, 63, 28, 155, 0, 59, 29, 21, 6, 122, 4, 126]
abbrev dktX0_part_2 : List UInt8 := dkwX0_part_2 ++ dktX0_part_3
def dkwX0_part_1 : List UInt8 := [180, 1, 32, 27, 50, 182, 1, 92, 62, 42, 182, 0, 187, 27, 182, 1, 94, 54, 4, 28, 54, 5, 3]
abbrev dktX0_part_1 : List UInt8 := dkwX0_part_1 ++ dktX0_part_2
def dkwX0_part_0 : List UInt8 := [42, 42, 27, 182, 1, 89, 181, 0, 85, 42, 180, 0, 85, 158, 0, 5, 2, 172, 42, 182, 0, 187]
abbrev dktX0_part_0 : List UInt8 := dkwX0_part_0 ++ dktX0_part_1
theorem dksX0_part_0 : cX0_part.data.toList.drop 0 = dktX0_part_0 := by decide +kernel
theorem dksX0_part_1 : cX0_part.data.toList.drop 22 = dktX0_part_1 := dk_seg dksX0_part_0 22 rfl rfl
theorem dksX0_part_2 : cX0_part.data.toList.drop 45 = dktX0_part_2 := dk_seg dksX0_part_1 23 rfl rfl
theorem dksX0_part_3 : cX0_part.data.toList.drop 69 = dktX0_part_3 := dk_seg dksX0_part_2 24 rfl rfl
theorem dksX0_part_4 : cX0_part.data.toList.drop 91 = dktX0_part_4 := dk_seg dksX0_part_3 22 rfl rfl
theorem dksX0_part_5 : cX0_part.data.toList.drop 113 = dktX0_part_5 := dk_seg dksX0_part_4 22 rfl rfl
theorem dX0_part_0 : decode cX0_part 0 = .ok (.aload_n 0, 1) := dk_42 (dk_at dksX0_part_0 0 rfl rfl)
theorem dX0_part_1 : decode cX0_part 1 = .ok (.aload_n 0, 1) := dk_42 (dk_at dksX0_part_0 1 rfl rfl)
theorem dX0_part_2 : decode cX0_part 2 = .ok (.iload_n 1, 1) := dk_27 (dk_at dksX0_part_0 2 rfl rfl)
theorem dX0_part_3 : decode cX0_part 3 = .ok (.invokevirtual 345, 3) := dk_182 1 89 (dk_at dksX0_part_0 3 rfl rfl)
theorem dX0_part_6 : decode cX0_part 6 = .ok (.putfield 85, 3) := dk_181 0 85 (dk_at dksX0_part_0 6 rfl rfl)
theorem dX0_part_9 : decode cX0_part 9 = .ok (.aload_n 0, 1) := dk_42 (dk_at dksX0_part_0 9 rfl rfl)
theorem dX0_part_10 : decode cX0_part 10 = .ok (.getfield 85, 3) := dk_180 0 85 (dk_at dksX0_part_0 10 rfl rfl)
theorem dX0_part_13 : decode cX0_part 13 = .ok (.ifCond .le 5, 3) := dk_158 0 5 (dk_at dksX0_part_0 13 rfl rfl)
theorem dX0_part_16 : decode cX0_part 16 = .ok (.iconst (-1), 1) := dk_2 (dk_at dksX0_part_0 16 rfl rfl)
theorem dX0_part_17 : decode cX0_part 17 = .ok (.ireturn, 1) := dk_172 (dk_at dksX0_part_0 17 rfl rfl)
theorem dX0_part_18 : decode cX0_part 18 = .ok (.aload_n 0, 1) := dk_42 (dk_at dksX0_part_0 18 rfl rfl)
theorem dX0_part_19 : decode cX0_part 19 = .ok (.invokevirtual 187, 3) := dk_182 0 187 (dk_at dksX0_part_0 19 rfl rfl)
theorem dX0_part_22 : decode cX0_part 22 = .ok (.getfield 288, 3) := dk_180 1 32 (dk_at dksX0_part_1 0 rfl rfl)
theorem dX0_part_25 : decode cX0_part 25 = .ok (.iload_n 1, 1) := dk_27 (dk_at dksX0_part_1 3 rfl rfl)
theorem dX0_part_26 : decode cX0_part 26 = .ok (.aaload, 1) := dk_50 (dk_at dksX0_part_1 4 rfl rfl)
theorem dX0_part_27 : decode cX0_part 27 = .ok (.invokevirtual 348, 3) := dk_182 1 92 (dk_at dksX0_part_1 5 rfl rfl)
theorem dX0_part_30 : decode cX0_part 30 = .ok (.istore_n 3, 1) := dk_62 (dk_at dksX0_part_1 8 rfl rfl)
theorem dX0_part_31 : decode cX0_part 31 = .ok (.aload_n 0, 1) := dk_42 (dk_at dksX0_part_1 9 rfl rfl)
theorem dX0_part_32 : decode cX0_part 32 = .ok (.invokevirtual 187, 3) := dk_182 0 187 (dk_at dksX0_part_1 10 rfl rfl)
theorem dX0_part_35 : decode cX0_part 35 = .ok (.iload_n 1, 1) := dk_27 (dk_at dksX0_part_1 13 rfl rfl)
theorem dX0_part_36 : decode cX0_part 36 = .ok (.invokevirtual 350, 3) := dk_182 1 94 (dk_at dksX0_part_1 14 rfl rfl)
theorem dX0_part_39 : decode cX0_part 39 = .ok (.istore 4, 2) := dk_54 4 (dk_at dksX0_part_1 17 rfl rfl)
theorem dX0_part_41 : decode cX0_part 41 = .ok (.iload_n 2, 1) := dk_28 (dk_at dksX0_part_1 19 rfl rfl)
theorem dX0_part_42 : decode cX0_part 42 = .ok (.istore 5, 2) := dk_54 5 (dk_at dksX0_part_1 20 rfl rfl)
theorem dX0_part_44 : decode cX0_part 44 = .ok (.iconst 0, 1) := dk_3 (dk_at dksX0_part_1 22 rfl rfl)
theorem dX0_part_45 : decode cX0_part 45 = .ok (.istore 6, 2) := dk_54 6 (dk_at dksX0_part_2 0 rfl rfl)
theorem dX0_part_47 : decode cX0_part 47 = .ok (.iload 6, 2) := dk_21 6 (dk_at dksX0_part_2 2 rfl rfl)
theorem dX0_part_49 : decode cX0_part 49 = .ok (.aload_n 0, 1) := dk_42 (dk_at dksX0_part_2 4 rfl rfl)
theorem dX0_part_50 : decode cX0_part 50 = .ok (.invokevirtual 165, 3) := dk_182 0 165 (dk_at dksX0_part_2 5 rfl rfl)
theorem dX0_part_53 : decode cX0_part 53 = .ok (.getfield 168, 3) := dk_180 0 168 (dk_at dksX0_part_2 8 rfl rfl)
theorem dX0_part_56 : decode cX0_part 56 = .ok (.if_icmp .ge 63, 3) := dk_162 0 63 (dk_at dksX0_part_2 11 rfl rfl)
theorem dX0_part_59 : decode cX0_part 59 = .ok (.iload_n 2, 1) := dk_28 (dk_at dksX0_part_2 14 rfl rfl)
theorem dX0_part_60 : decode cX0_part 60 = .ok (.ifCond .lt 59, 3) := dk_155 0 59 (dk_at dksX0_part_2 15 rfl rfl)
theorem dX0_part_63 : decode cX0_part 63 = .ok (.iload_n 3, 1) := dk_29 (dk_at dksX0_part_2 18 rfl rfl)
theorem dX0_part_64 : decode cX0_part 64 = .ok (.iload 6, 2) := dk_21 6 (dk_at dksX0_part_2 19 rfl rfl)
theorem dX0_part_66 : decode cX0_part 66 = .ok (.ishr, 1) := dk_122 (dk_at dksX0_part_2 21 rfl rfl)
theorem dX0_part_67 : decode cX0_part 67 = .ok (.iconst 1, 1) := dk_4 (dk_at dksX0_part_2 22 rfl rfl)
theorem dX0_part_68 : decode cX0_part 68 = .ok (.iand, 1) := dk_126 (dk_at dksX0_part_2 23 rfl rfl)
theorem dX0_part_69 : decode cX0_part 69 = .ok (.ifCond .ne 6, 3) := dk_154 0 6 (dk_at dksX0_part_3 0 rfl rfl)
theorem dX0_part_72 : decode cX0_part 72 = .ok (.goto 41, 3) := dk_167 0 41 (dk_at dksX0_part_3 3 rfl rfl)
theorem dX0_part_75 : decode cX0_part 75 = .ok (.iload 5, 2) := dk_21 5 (dk_at dksX0_part_3 6 rfl rfl)
theorem dX0_part_77 : decode cX0_part 77 = .ok (.ifCond .ne 33, 3) := dk_154 0 33 (dk_at dksX0_part_3 8 rfl rfl)
theorem dX0_part_80 : decode cX0_part 80 = .ok (.iload 4, 2) := dk_21 4 (dk_at dksX0_part_3 11 rfl rfl)
theorem dX0_part_82 : decode cX0_part 82 = .ok (.iload 6, 2) := dk_21 6 (dk_at dksX0_part_3 13 rfl rfl)
theorem dX0_part_84 : decode cX0_part 84 = .ok (.ishr, 1) := dk_122 (dk_at dksX0_part_3 15 rfl rfl)
theorem dX0_part_85 : decode cX0_part 85 = .ok (.iconst 1, 1) := dk_4 (dk_at dksX0_part_3 16 rfl rfl)
theorem dX0_part_86 : decode cX0_part 86 = .ok (.iand, 1) := dk_126 (dk_at dksX0_part_3 17 rfl rfl)
theorem dX0_part_87 : decode cX0_part 87 = .ok (.ifCond .ne 7, 3) := dk_154 0 7 (dk_at dksX0_part_3 18 rfl rfl)
theorem dX0_part_90 : decode cX0_part 90 = .ok (.iconst 0, 1) := dk_3 (dk_at dksX0_part_3 21 rfl rfl)
theorem dX0_part_91 : decode cX0_part 91 = .ok (.goto 18, 3) := dk_167 0 18 (dk_at dksX0_part_4 0 rfl rfl)
theorem dX0_part_94 : decode cX0_part 94 = .ok (.aload_n 0, 1) := dk_42 (dk_at dksX0_part_4 3 rfl rfl)
theorem dX0_part_95 : decode cX0_part 95 = .ok (.invokevirtual 165, 3) := dk_182 0 165 (dk_at dksX0_part_4 4 rfl rfl)
theorem dX0_part_98 : decode cX0_part 98 = .ok (.getfield 285, 3) := dk_180 1 29 (dk_at dksX0_part_4 7 rfl rfl)
theorem dX0_part_101 : decode cX0_part 101 = .ok (.iload_n 1, 1) := dk_27 (dk_at dksX0_part_4 10 rfl rfl)
theorem dX0_part_102 : decode cX0_part 102 = .ok (.iaload, 1) := dk_46 (dk_at dksX0_part_4 11 rfl rfl)
theorem dX0_part_103 : decode cX0_part 103 = .ok (.iload 4, 2) := dk_21 4 (dk_at dksX0_part_4 12 rfl rfl)
theorem dX0_part_105 : decode cX0_part 105 = .ok (.invokestatic 358, 3) := dk_184 1 102 (dk_at dksX0_part_4 14 rfl rfl)
theorem dX0_part_108 : decode cX0_part 108 = .ok (.idiv, 1) := dk_108 (dk_at dksX0_part_4 17 rfl rfl)
theorem dX0_part_109 : decode cX0_part 109 = .ok (.ireturn, 1) := dk_172 (dk_at dksX0_part_4 18 rfl rfl)
theorem dX0_part_110 : decode cX0_part 110 = .ok (.iinc 5 (-1), 3) := dk_132 5 255 (dk_at dksX0_part_4 19 rfl rfl)
theorem dX0_part_113 : decode cX0_part 113 = .ok (.iinc 6 1, 3) := dk_132 6 1 (dk_at dksX0_part_5 0 rfl rfl)
theorem dX0_part_116 : decode cX0_part 116 = .ok (.goto (-69), 3) := dk_167 255 187 (dk_at dksX0_part_5 3 rfl rfl)
theorem dX0_part_119 : decode cX0_part 119 = .ok (.aload_n 0, 1) := dk_42 (dk_at dksX0_part_5 6 rfl rfl)
theorem dX0_part_120 : decode cX0_part 120 = .ok (.iconst (-1), 1) := dk_2 (dk_at dksX0_part_5 7 rfl rfl)
theorem dX0_part_121 : decode cX0_part 121 = .ok (.invokevirtual 355, 3) := dk_182 1 99 (dk_at dksX0_part_5 8 rfl rfl)
theorem dX0_part_124 : decode cX0_part 124 = .ok (.ireturn, 1) := dk_172 (dk_at dksX0_part_5 11 rfl rfl)
abbrev cX0_crowd : ByteArray := prog_1_method_88_code
def yX0_crowd : MethodName := ⟨RX0, "crowd", "(I)I"⟩
def dkwX0_crowd_5 : List UInt8 := [167, 255, 176, 28, 172]
abbrev dktX0_crowd_5 : List UInt8 := dkwX0_crowd_5 ++ []
def dkwX0_crowd_4 : List UInt8 := [167, 0, 4, 3, 96, 54, 4, 132, 5, 1, 167, 255, 206, 28, 21, 4, 184, 1, 160, 61, 132, 3, 1]
abbrev dktX0_crowd_4 : List UInt8 := dkwX0_crowd_4 ++ dktX0_crowd_5
def dkwX0_crowd_3 : List UInt8 := [180, 1, 9, 21, 5, 46, 133, 29, 133, 29, 27, 96, 4, 100, 133, 184, 0, 173, 153, 0, 7, 4]
abbrev dktX0_crowd_3 : List UInt8 := dkwX0_crowd_3 ++ dktX0_crowd_4
def dkwX0_crowd_2 : List UInt8 := [54, 4, 3, 54, 5, 21, 5, 42, 182, 0, 165, 180, 0, 168, 162, 0, 44, 21, 4, 42, 182, 0, 187]
abbrev dktX0_crowd_2 : List UInt8 := dkwX0_crowd_2 ++ dktX0_crowd_3
def dkwX0_crowd_1 : List UInt8 := [180, 0, 85, 158, 0, 5, 2, 172, 3, 61, 3, 62, 29, 42, 182, 0, 165, 180, 0, 242, 162, 0, 75, 3]
abbrev dktX0_crowd_1 : List UInt8 := dkwX0_crowd_1 ++ dktX0_crowd_2
def dkwX0_crowd_0 : List UInt8 := [42, 27, 133, 10, 20, 1, 79, 184, 0, 173, 153, 0, 7, 3, 167, 0, 4, 4, 181, 0, 85, 42]
abbrev dktX0_crowd_0 : List UInt8 := dkwX0_crowd_0 ++ dktX0_crowd_1
theorem dksX0_crowd_0 : cX0_crowd.data.toList.drop 0 = dktX0_crowd_0 := by decide +kernel
theorem dksX0_crowd_1 : cX0_crowd.data.toList.drop 22 = dktX0_crowd_1 := dk_seg dksX0_crowd_0 22 rfl rfl
theorem dksX0_crowd_2 : cX0_crowd.data.toList.drop 46 = dktX0_crowd_2 := dk_seg dksX0_crowd_1 24 rfl rfl
theorem dksX0_crowd_3 : cX0_crowd.data.toList.drop 69 = dktX0_crowd_3 := dk_seg dksX0_crowd_2 23 rfl rfl
theorem dksX0_crowd_4 : cX0_crowd.data.toList.drop 91 = dktX0_crowd_4 := dk_seg dksX0_crowd_3 22 rfl rfl
theorem dksX0_crowd_5 : cX0_crowd.data.toList.drop 114 = dktX0_crowd_5 := dk_seg dksX0_crowd_4 23 rfl rfl
theorem dX0_crowd_0 : decode cX0_crowd 0 = .ok (.aload_n 0, 1) := dk_42 (dk_at dksX0_crowd_0 0 rfl rfl)
theorem dX0_crowd_1 : decode cX0_crowd 1 = .ok (.iload_n 1, 1) := dk_27 (dk_at dksX0_crowd_0 1 rfl rfl)
theorem dX0_crowd_2 : decode cX0_crowd 2 = .ok (.i2l, 1) := dk_133 (dk_at dksX0_crowd_0 2 rfl rfl)
theorem dX0_crowd_3 : decode cX0_crowd 3 = .ok (.lconst 1, 1) := dk_10 (dk_at dksX0_crowd_0 3 rfl rfl)
theorem dX0_crowd_4 : decode cX0_crowd 4 = .ok (.ldc2_w 335, 3) := dk_20 1 79 (dk_at dksX0_crowd_0 4 rfl rfl)
theorem dX0_crowd_7 : decode cX0_crowd 7 = .ok (.invokestatic 173, 3) := dk_184 0 173 (dk_at dksX0_crowd_0 7 rfl rfl)
theorem dX0_crowd_10 : decode cX0_crowd 10 = .ok (.ifCond .eq 7, 3) := dk_153 0 7 (dk_at dksX0_crowd_0 10 rfl rfl)
theorem dX0_crowd_13 : decode cX0_crowd 13 = .ok (.iconst 0, 1) := dk_3 (dk_at dksX0_crowd_0 13 rfl rfl)
theorem dX0_crowd_14 : decode cX0_crowd 14 = .ok (.goto 4, 3) := dk_167 0 4 (dk_at dksX0_crowd_0 14 rfl rfl)
theorem dX0_crowd_17 : decode cX0_crowd 17 = .ok (.iconst 1, 1) := dk_4 (dk_at dksX0_crowd_0 17 rfl rfl)
theorem dX0_crowd_18 : decode cX0_crowd 18 = .ok (.putfield 85, 3) := dk_181 0 85 (dk_at dksX0_crowd_0 18 rfl rfl)
theorem dX0_crowd_21 : decode cX0_crowd 21 = .ok (.aload_n 0, 1) := dk_42 (dk_at dksX0_crowd_0 21 rfl rfl)
theorem dX0_crowd_22 : decode cX0_crowd 22 = .ok (.getfield 85, 3) := dk_180 0 85 (dk_at dksX0_crowd_1 0 rfl rfl)
theorem dX0_crowd_25 : decode cX0_crowd 25 = .ok (.ifCond .le 5, 3) := dk_158 0 5 (dk_at dksX0_crowd_1 3 rfl rfl)
theorem dX0_crowd_28 : decode cX0_crowd 28 = .ok (.iconst (-1), 1) := dk_2 (dk_at dksX0_crowd_1 6 rfl rfl)
theorem dX0_crowd_29 : decode cX0_crowd 29 = .ok (.ireturn, 1) := dk_172 (dk_at dksX0_crowd_1 7 rfl rfl)
theorem dX0_crowd_30 : decode cX0_crowd 30 = .ok (.iconst 0, 1) := dk_3 (dk_at dksX0_crowd_1 8 rfl rfl)
theorem dX0_crowd_31 : decode cX0_crowd 31 = .ok (.istore_n 2, 1) := dk_61 (dk_at dksX0_crowd_1 9 rfl rfl)
theorem dX0_crowd_32 : decode cX0_crowd 32 = .ok (.iconst 0, 1) := dk_3 (dk_at dksX0_crowd_1 10 rfl rfl)
theorem dX0_crowd_33 : decode cX0_crowd 33 = .ok (.istore_n 3, 1) := dk_62 (dk_at dksX0_crowd_1 11 rfl rfl)
theorem dX0_crowd_34 : decode cX0_crowd 34 = .ok (.iload_n 3, 1) := dk_29 (dk_at dksX0_crowd_1 12 rfl rfl)
theorem dX0_crowd_35 : decode cX0_crowd 35 = .ok (.aload_n 0, 1) := dk_42 (dk_at dksX0_crowd_1 13 rfl rfl)
theorem dX0_crowd_36 : decode cX0_crowd 36 = .ok (.invokevirtual 165, 3) := dk_182 0 165 (dk_at dksX0_crowd_1 14 rfl rfl)
theorem dX0_crowd_39 : decode cX0_crowd 39 = .ok (.getfield 242, 3) := dk_180 0 242 (dk_at dksX0_crowd_1 17 rfl rfl)
theorem dX0_crowd_42 : decode cX0_crowd 42 = .ok (.if_icmp .ge 75, 3) := dk_162 0 75 (dk_at dksX0_crowd_1 20 rfl rfl)
theorem dX0_crowd_45 : decode cX0_crowd 45 = .ok (.iconst 0, 1) := dk_3 (dk_at dksX0_crowd_1 23 rfl rfl)
theorem dX0_crowd_46 : decode cX0_crowd 46 = .ok (.istore 4, 2) := dk_54 4 (dk_at dksX0_crowd_2 0 rfl rfl)
theorem dX0_crowd_48 : decode cX0_crowd 48 = .ok (.iconst 0, 1) := dk_3 (dk_at dksX0_crowd_2 2 rfl rfl)
theorem dX0_crowd_49 : decode cX0_crowd 49 = .ok (.istore 5, 2) := dk_54 5 (dk_at dksX0_crowd_2 3 rfl rfl)
theorem dX0_crowd_51 : decode cX0_crowd 51 = .ok (.iload 5, 2) := dk_21 5 (dk_at dksX0_crowd_2 5 rfl rfl)
theorem dX0_crowd_53 : decode cX0_crowd 53 = .ok (.aload_n 0, 1) := dk_42 (dk_at dksX0_crowd_2 7 rfl rfl)
theorem dX0_crowd_54 : decode cX0_crowd 54 = .ok (.invokevirtual 165, 3) := dk_182 0 165 (dk_at dksX0_crowd_2 8 rfl rfl)
theorem dX0_crowd_57 : decode cX0_crowd 57 = .ok (.getfield 168, 3) := dk_180 0 168 (dk_at dksX0_crowd_2 11 rfl rfl)
theorem dX0_crowd_60 : decode cX0_crowd 60 = .ok (.if_icmp .ge 44, 3) := dk_162 0 44 (dk_at dksX0_crowd_2 14 rfl rfl)
theorem dX0_crowd_63 : decode cX0_crowd 63 = .ok (.iload 4, 2) := dk_21 4 (dk_at dksX0_crowd_2 17 rfl rfl)
theorem dX0_crowd_65 : decode cX0_crowd 65 = .ok (.aload_n 0, 1) := dk_42 (dk_at dksX0_crowd_2 19 rfl rfl)
theorem dX0_crowd_66 : decode cX0_crowd 66 = .ok (.invokevirtual 187, 3) := dk_182 0 187 (dk_at dksX0_crowd_2 20 rfl rfl)
theorem dX0_crowd_69 : decode cX0_crowd 69 = .ok (.getfield 265, 3) := dk_180 1 9 (dk_at dksX0_crowd_3 0 rfl rfl)
theorem dX0_crowd_72 : decode cX0_crowd 72 = .ok (.iload 5, 2) := dk_21 5 (dk_at dksX0_crowd_3 3 rfl rfl)
theorem dX0_crowd_74 : decode cX0_crowd 74 = .ok (.iaload, 1) := dk_46 (dk_at dksX0_crowd_3 5 rfl rfl)
theorem dX0_crowd_75 : decode cX0_crowd 75 = .ok (.i2l, 1) := dk_133 (dk_at dksX0_crowd_3 6 rfl rfl)
theorem dX0_crowd_76 : decode cX0_crowd 76 = .ok (.iload_n 3, 1) := dk_29 (dk_at dksX0_crowd_3 7 rfl rfl)
theorem dX0_crowd_77 : decode cX0_crowd 77 = .ok (.i2l, 1) := dk_133 (dk_at dksX0_crowd_3 8 rfl rfl)
theorem dX0_crowd_78 : decode cX0_crowd 78 = .ok (.iload_n 3, 1) := dk_29 (dk_at dksX0_crowd_3 9 rfl rfl)
theorem dX0_crowd_79 : decode cX0_crowd 79 = .ok (.iload_n 1, 1) := dk_27 (dk_at dksX0_crowd_3 10 rfl rfl)
theorem dX0_crowd_80 : decode cX0_crowd 80 = .ok (.iadd, 1) := dk_96 (dk_at dksX0_crowd_3 11 rfl rfl)
theorem dX0_crowd_81 : decode cX0_crowd 81 = .ok (.iconst 1, 1) := dk_4 (dk_at dksX0_crowd_3 12 rfl rfl)
theorem dX0_crowd_82 : decode cX0_crowd 82 = .ok (.isub, 1) := dk_100 (dk_at dksX0_crowd_3 13 rfl rfl)
theorem dX0_crowd_83 : decode cX0_crowd 83 = .ok (.i2l, 1) := dk_133 (dk_at dksX0_crowd_3 14 rfl rfl)
theorem dX0_crowd_84 : decode cX0_crowd 84 = .ok (.invokestatic 173, 3) := dk_184 0 173 (dk_at dksX0_crowd_3 15 rfl rfl)
theorem dX0_crowd_87 : decode cX0_crowd 87 = .ok (.ifCond .eq 7, 3) := dk_153 0 7 (dk_at dksX0_crowd_3 18 rfl rfl)
theorem dX0_crowd_90 : decode cX0_crowd 90 = .ok (.iconst 1, 1) := dk_4 (dk_at dksX0_crowd_3 21 rfl rfl)
theorem dX0_crowd_91 : decode cX0_crowd 91 = .ok (.goto 4, 3) := dk_167 0 4 (dk_at dksX0_crowd_4 0 rfl rfl)
theorem dX0_crowd_94 : decode cX0_crowd 94 = .ok (.iconst 0, 1) := dk_3 (dk_at dksX0_crowd_4 3 rfl rfl)
theorem dX0_crowd_95 : decode cX0_crowd 95 = .ok (.iadd, 1) := dk_96 (dk_at dksX0_crowd_4 4 rfl rfl)
theorem dX0_crowd_96 : decode cX0_crowd 96 = .ok (.istore 4, 2) := dk_54 4 (dk_at dksX0_crowd_4 5 rfl rfl)
theorem dX0_crowd_98 : decode cX0_crowd 98 = .ok (.iinc 5 1, 3) := dk_132 5 1 (dk_at dksX0_crowd_4 7 rfl rfl)
theorem dX0_crowd_101 : decode cX0_crowd 101 = .ok (.goto (-50), 3) := dk_167 255 206 (dk_at dksX0_crowd_4 10 rfl rfl)
theorem dX0_crowd_104 : decode cX0_crowd 104 = .ok (.iload_n 2, 1) := dk_28 (dk_at dksX0_crowd_4 13 rfl rfl)
theorem dX0_crowd_105 : decode cX0_crowd 105 = .ok (.iload 4, 2) := dk_21 4 (dk_at dksX0_crowd_4 14 rfl rfl)
theorem dX0_crowd_107 : decode cX0_crowd 107 = .ok (.invokestatic 416, 3) := dk_184 1 160 (dk_at dksX0_crowd_4 16 rfl rfl)
theorem dX0_crowd_110 : decode cX0_crowd 110 = .ok (.istore_n 2, 1) := dk_61 (dk_at dksX0_crowd_4 19 rfl rfl)
theorem dX0_crowd_111 : decode cX0_crowd 111 = .ok (.iinc 3 1, 3) := dk_132 3 1 (dk_at dksX0_crowd_4 20 rfl rfl)
theorem dX0_crowd_114 : decode cX0_crowd 114 = .ok (.goto (-80), 3) := dk_167 255 176 (dk_at dksX0_crowd_5 0 rfl rfl)
theorem dX0_crowd_117 : decode cX0_crowd 117 = .ok (.iload_n 2, 1) := dk_28 (dk_at dksX0_crowd_5 3 rfl rfl)
theorem dX0_crowd_118 : decode cX0_crowd 118 = .ok (.ireturn, 1) := dk_172 (dk_at dksX0_crowd_5 4 rfl rfl)
abbrev cX0_lies : ByteArray := prog_1_method_89_code
def yX0_lies : MethodName := ⟨RX0, "lies", "(II)I"⟩
def dkwX0_lies_4 : List UInt8 := [182, 1, 99, 172]
abbrev dktX0_lies_4 : List UInt8 := dkwX0_lies_4 ++ []
def dkwX0_lies_3 : List UInt8 := [182, 0, 187, 180, 1, 32, 21, 4, 50, 27, 182, 1, 107, 100, 62, 132, 4, 1, 167, 255, 199, 42, 2]
abbrev dktX0_lies_3 : List UInt8 := dkwX0_lies_3 ++ dktX0_lies_4
def dkwX0_lies_2 : List UInt8 := [42, 182, 0, 187, 180, 1, 32, 21, 4, 50, 27, 182, 1, 107, 162, 0, 6, 21, 4, 172, 29, 42]
abbrev dktX0_lies_2 : List UInt8 := dkwX0_lies_2 ++ dktX0_lies_3
def dkwX0_lies_1 : List UInt8 := [2, 172, 28, 62, 3, 54, 4, 21, 4, 42, 182, 0, 165, 180, 0, 177, 162, 0, 51, 28, 155, 0, 47, 29]
abbrev dktX0_lies_1 : List UInt8 := dkwX0_lies_1 ++ dktX0_lies_2
def dkwX0_lies_0 : List UInt8 := [42, 42, 27, 182, 0, 180, 153, 0, 7, 3, 167, 0, 4, 4, 181, 0, 85, 42, 180, 0, 85, 158, 0, 5]
abbrev dktX0_lies_0 : List UInt8 := dkwX0_lies_0 ++ dktX0_lies_1
theorem dksX0_lies_0 : cX0_lies.data.toList.drop 0 = dktX0_lies_0 := by decide +kernel
theorem dksX0_lies_1 : cX0_lies.data.toList.drop 24 = dktX0_lies_1 := dk_seg dksX0_lies_0 24 rfl rfl
theorem dksX0_lies_2 : cX0_lies.data.toList.drop 48 = dktX0_lies_2 := dk_seg dksX0_lies_1 24 rfl rfl
theorem dksX0_lies_3 : cX0_lies.data.toList.drop 70 = dktX0_lies_3 := dk_seg dksX0_lies_2 22 rfl rfl
theorem dksX0_lies_4 : cX0_lies.data.toList.drop 93 = dktX0_lies_4 := dk_seg dksX0_lies_3 23 rfl rfl
theorem dX0_lies_0 : decode cX0_lies 0 = .ok (.aload_n 0, 1) := dk_42 (dk_at dksX0_lies_0 0 rfl rfl)
theorem dX0_lies_1 : decode cX0_lies 1 = .ok (.aload_n 0, 1) := dk_42 (dk_at dksX0_lies_0 1 rfl rfl)
theorem dX0_lies_2 : decode cX0_lies 2 = .ok (.iload_n 1, 1) := dk_27 (dk_at dksX0_lies_0 2 rfl rfl)
theorem dX0_lies_3 : decode cX0_lies 3 = .ok (.invokevirtual 180, 3) := dk_182 0 180 (dk_at dksX0_lies_0 3 rfl rfl)
theorem dX0_lies_6 : decode cX0_lies 6 = .ok (.ifCond .eq 7, 3) := dk_153 0 7 (dk_at dksX0_lies_0 6 rfl rfl)
theorem dX0_lies_9 : decode cX0_lies 9 = .ok (.iconst 0, 1) := dk_3 (dk_at dksX0_lies_0 9 rfl rfl)
theorem dX0_lies_10 : decode cX0_lies 10 = .ok (.goto 4, 3) := dk_167 0 4 (dk_at dksX0_lies_0 10 rfl rfl)
theorem dX0_lies_13 : decode cX0_lies 13 = .ok (.iconst 1, 1) := dk_4 (dk_at dksX0_lies_0 13 rfl rfl)
theorem dX0_lies_14 : decode cX0_lies 14 = .ok (.putfield 85, 3) := dk_181 0 85 (dk_at dksX0_lies_0 14 rfl rfl)
theorem dX0_lies_17 : decode cX0_lies 17 = .ok (.aload_n 0, 1) := dk_42 (dk_at dksX0_lies_0 17 rfl rfl)
theorem dX0_lies_18 : decode cX0_lies 18 = .ok (.getfield 85, 3) := dk_180 0 85 (dk_at dksX0_lies_0 18 rfl rfl)
theorem dX0_lies_21 : decode cX0_lies 21 = .ok (.ifCond .le 5, 3) := dk_158 0 5 (dk_at dksX0_lies_0 21 rfl rfl)
theorem dX0_lies_24 : decode cX0_lies 24 = .ok (.iconst (-1), 1) := dk_2 (dk_at dksX0_lies_1 0 rfl rfl)
theorem dX0_lies_25 : decode cX0_lies 25 = .ok (.ireturn, 1) := dk_172 (dk_at dksX0_lies_1 1 rfl rfl)
theorem dX0_lies_26 : decode cX0_lies 26 = .ok (.iload_n 2, 1) := dk_28 (dk_at dksX0_lies_1 2 rfl rfl)
theorem dX0_lies_27 : decode cX0_lies 27 = .ok (.istore_n 3, 1) := dk_62 (dk_at dksX0_lies_1 3 rfl rfl)
theorem dX0_lies_28 : decode cX0_lies 28 = .ok (.iconst 0, 1) := dk_3 (dk_at dksX0_lies_1 4 rfl rfl)
theorem dX0_lies_29 : decode cX0_lies 29 = .ok (.istore 4, 2) := dk_54 4 (dk_at dksX0_lies_1 5 rfl rfl)
theorem dX0_lies_31 : decode cX0_lies 31 = .ok (.iload 4, 2) := dk_21 4 (dk_at dksX0_lies_1 7 rfl rfl)
theorem dX0_lies_33 : decode cX0_lies 33 = .ok (.aload_n 0, 1) := dk_42 (dk_at dksX0_lies_1 9 rfl rfl)
theorem dX0_lies_34 : decode cX0_lies 34 = .ok (.invokevirtual 165, 3) := dk_182 0 165 (dk_at dksX0_lies_1 10 rfl rfl)
theorem dX0_lies_37 : decode cX0_lies 37 = .ok (.getfield 177, 3) := dk_180 0 177 (dk_at dksX0_lies_1 13 rfl rfl)
theorem dX0_lies_40 : decode cX0_lies 40 = .ok (.if_icmp .ge 51, 3) := dk_162 0 51 (dk_at dksX0_lies_1 16 rfl rfl)
theorem dX0_lies_43 : decode cX0_lies 43 = .ok (.iload_n 2, 1) := dk_28 (dk_at dksX0_lies_1 19 rfl rfl)
theorem dX0_lies_44 : decode cX0_lies 44 = .ok (.ifCond .lt 47, 3) := dk_155 0 47 (dk_at dksX0_lies_1 20 rfl rfl)
theorem dX0_lies_47 : decode cX0_lies 47 = .ok (.iload_n 3, 1) := dk_29 (dk_at dksX0_lies_1 23 rfl rfl)
theorem dX0_lies_48 : decode cX0_lies 48 = .ok (.aload_n 0, 1) := dk_42 (dk_at dksX0_lies_2 0 rfl rfl)
theorem dX0_lies_49 : decode cX0_lies 49 = .ok (.invokevirtual 187, 3) := dk_182 0 187 (dk_at dksX0_lies_2 1 rfl rfl)
theorem dX0_lies_52 : decode cX0_lies 52 = .ok (.getfield 288, 3) := dk_180 1 32 (dk_at dksX0_lies_2 4 rfl rfl)
theorem dX0_lies_55 : decode cX0_lies 55 = .ok (.iload 4, 2) := dk_21 4 (dk_at dksX0_lies_2 7 rfl rfl)
theorem dX0_lies_57 : decode cX0_lies 57 = .ok (.aaload, 1) := dk_50 (dk_at dksX0_lies_2 9 rfl rfl)
theorem dX0_lies_58 : decode cX0_lies 58 = .ok (.iload_n 1, 1) := dk_27 (dk_at dksX0_lies_2 10 rfl rfl)
theorem dX0_lies_59 : decode cX0_lies 59 = .ok (.invokevirtual 363, 3) := dk_182 1 107 (dk_at dksX0_lies_2 11 rfl rfl)
theorem dX0_lies_62 : decode cX0_lies 62 = .ok (.if_icmp .ge 6, 3) := dk_162 0 6 (dk_at dksX0_lies_2 14 rfl rfl)
theorem dX0_lies_65 : decode cX0_lies 65 = .ok (.iload 4, 2) := dk_21 4 (dk_at dksX0_lies_2 17 rfl rfl)
theorem dX0_lies_67 : decode cX0_lies 67 = .ok (.ireturn, 1) := dk_172 (dk_at dksX0_lies_2 19 rfl rfl)
theorem dX0_lies_68 : decode cX0_lies 68 = .ok (.iload_n 3, 1) := dk_29 (dk_at dksX0_lies_2 20 rfl rfl)
theorem dX0_lies_69 : decode cX0_lies 69 = .ok (.aload_n 0, 1) := dk_42 (dk_at dksX0_lies_2 21 rfl rfl)
theorem dX0_lies_70 : decode cX0_lies 70 = .ok (.invokevirtual 187, 3) := dk_182 0 187 (dk_at dksX0_lies_3 0 rfl rfl)
theorem dX0_lies_73 : decode cX0_lies 73 = .ok (.getfield 288, 3) := dk_180 1 32 (dk_at dksX0_lies_3 3 rfl rfl)
theorem dX0_lies_76 : decode cX0_lies 76 = .ok (.iload 4, 2) := dk_21 4 (dk_at dksX0_lies_3 6 rfl rfl)
theorem dX0_lies_78 : decode cX0_lies 78 = .ok (.aaload, 1) := dk_50 (dk_at dksX0_lies_3 8 rfl rfl)
theorem dX0_lies_79 : decode cX0_lies 79 = .ok (.iload_n 1, 1) := dk_27 (dk_at dksX0_lies_3 9 rfl rfl)
theorem dX0_lies_80 : decode cX0_lies 80 = .ok (.invokevirtual 363, 3) := dk_182 1 107 (dk_at dksX0_lies_3 10 rfl rfl)
theorem dX0_lies_83 : decode cX0_lies 83 = .ok (.isub, 1) := dk_100 (dk_at dksX0_lies_3 13 rfl rfl)
theorem dX0_lies_84 : decode cX0_lies 84 = .ok (.istore_n 3, 1) := dk_62 (dk_at dksX0_lies_3 14 rfl rfl)
theorem dX0_lies_85 : decode cX0_lies 85 = .ok (.iinc 4 1, 3) := dk_132 4 1 (dk_at dksX0_lies_3 15 rfl rfl)
theorem dX0_lies_88 : decode cX0_lies 88 = .ok (.goto (-57), 3) := dk_167 255 199 (dk_at dksX0_lies_3 18 rfl rfl)
theorem dX0_lies_91 : decode cX0_lies 91 = .ok (.aload_n 0, 1) := dk_42 (dk_at dksX0_lies_3 21 rfl rfl)
theorem dX0_lies_92 : decode cX0_lies 92 = .ok (.iconst (-1), 1) := dk_2 (dk_at dksX0_lies_3 22 rfl rfl)
theorem dX0_lies_93 : decode cX0_lies 93 = .ok (.invokevirtual 355, 3) := dk_182 1 99 (dk_at dksX0_lies_4 0 rfl rfl)
theorem dX0_lies_96 : decode cX0_lies 96 = .ok (.ireturn, 1) := dk_172 (dk_at dksX0_lies_4 3 rfl rfl)
abbrev cX0_live : ByteArray := prog_1_method_90_code
def yX0_live : MethodName := ⟨RX0, "live", "(I)I"⟩
def dkwX0_live_5 : List UInt8 := [153, 0, 7, 4, 167, 0, 4, 3, 79, 42, 4, 181, 1, 205, 44, 180, 1, 208, 172]
abbrev dktX0_live_5 : List UInt8 := dkwX0_live_5 ++ []
def dkwX0_live_4 : List UInt8 := [44, 180, 1, 195, 79, 42, 180, 0, 82, 6, 44, 180, 1, 198, 79, 42, 180, 0, 82, 7, 44, 180, 1, 201]
abbrev dktX0_live_4 : List UInt8 := dkwX0_live_4 ++ dktX0_live_5
def dkwX0_live_3 : List UInt8 := [180, 0, 82, 3, 44, 180, 1, 189, 79, 42, 180, 0, 82, 4, 44, 180, 1, 192, 79, 42, 180, 0, 82, 5]
abbrev dktX0_live_3 : List UInt8 := dkwX0_live_3 ++ dktX0_live_4
def dkwX0_live_2 : List UInt8 := [89, 42, 182, 0, 187, 27, 183, 1, 182, 77, 42, 180, 0, 55, 180, 0, 222, 44, 182, 1, 185, 42]
abbrev dktX0_live_2 : List UInt8 := dkwX0_live_2 ++ dktX0_live_3
def dkwX0_live_1 : List UInt8 := [199, 0, 8, 16, 6, 167, 0, 4, 3, 181, 0, 85, 42, 180, 0, 85, 158, 0, 5, 2, 172, 187, 1, 180]
abbrev dktX0_live_1 : List UInt8 := dkwX0_live_1 ++ dktX0_live_2
def dkwX0_live_0 : List UInt8 := [42, 27, 133, 9, 20, 1, 178, 184, 0, 173, 154, 0, 7, 4, 167, 0, 19, 42, 180, 0, 55, 180, 0, 222]
abbrev dktX0_live_0 : List UInt8 := dkwX0_live_0 ++ dktX0_live_1
theorem dksX0_live_0 : cX0_live.data.toList.drop 0 = dktX0_live_0 := by decide +kernel
theorem dksX0_live_1 : cX0_live.data.toList.drop 24 = dktX0_live_1 := dk_seg dksX0_live_0 24 rfl rfl
theorem dksX0_live_2 : cX0_live.data.toList.drop 48 = dktX0_live_2 := dk_seg dksX0_live_1 24 rfl rfl
theorem dksX0_live_3 : cX0_live.data.toList.drop 70 = dktX0_live_3 := dk_seg dksX0_live_2 22 rfl rfl
theorem dksX0_live_4 : cX0_live.data.toList.drop 94 = dktX0_live_4 := dk_seg dksX0_live_3 24 rfl rfl
theorem dksX0_live_5 : cX0_live.data.toList.drop 118 = dktX0_live_5 := dk_seg dksX0_live_4 24 rfl rfl
theorem dX0_live_0 : decode cX0_live 0 = .ok (.aload_n 0, 1) := dk_42 (dk_at dksX0_live_0 0 rfl rfl)
theorem dX0_live_1 : decode cX0_live 1 = .ok (.iload_n 1, 1) := dk_27 (dk_at dksX0_live_0 1 rfl rfl)
theorem dX0_live_2 : decode cX0_live 2 = .ok (.i2l, 1) := dk_133 (dk_at dksX0_live_0 2 rfl rfl)
theorem dX0_live_3 : decode cX0_live 3 = .ok (.lconst 0, 1) := dk_9 (dk_at dksX0_live_0 3 rfl rfl)
theorem dX0_live_4 : decode cX0_live 4 = .ok (.ldc2_w 434, 3) := dk_20 1 178 (dk_at dksX0_live_0 4 rfl rfl)
theorem dX0_live_7 : decode cX0_live 7 = .ok (.invokestatic 173, 3) := dk_184 0 173 (dk_at dksX0_live_0 7 rfl rfl)
theorem dX0_live_10 : decode cX0_live 10 = .ok (.ifCond .ne 7, 3) := dk_154 0 7 (dk_at dksX0_live_0 10 rfl rfl)
theorem dX0_live_13 : decode cX0_live 13 = .ok (.iconst 1, 1) := dk_4 (dk_at dksX0_live_0 13 rfl rfl)
theorem dX0_live_14 : decode cX0_live 14 = .ok (.goto 19, 3) := dk_167 0 19 (dk_at dksX0_live_0 14 rfl rfl)
theorem dX0_live_17 : decode cX0_live 17 = .ok (.aload_n 0, 1) := dk_42 (dk_at dksX0_live_0 17 rfl rfl)
theorem dX0_live_18 : decode cX0_live 18 = .ok (.getfield 55, 3) := dk_180 0 55 (dk_at dksX0_live_0 18 rfl rfl)
theorem dX0_live_21 : decode cX0_live 21 = .ok (.getfield 222, 3) := dk_180 0 222 (dk_at dksX0_live_0 21 rfl rfl)
theorem dX0_live_24 : decode cX0_live 24 = .ok (.ifnonnull 8, 3) := dk_199 0 8 (dk_at dksX0_live_1 0 rfl rfl)
theorem dX0_live_27 : decode cX0_live 27 = .ok (.bipush 6, 2) := dk_16 6 (dk_at dksX0_live_1 3 rfl rfl)
theorem dX0_live_29 : decode cX0_live 29 = .ok (.goto 4, 3) := dk_167 0 4 (dk_at dksX0_live_1 5 rfl rfl)
theorem dX0_live_32 : decode cX0_live 32 = .ok (.iconst 0, 1) := dk_3 (dk_at dksX0_live_1 8 rfl rfl)
theorem dX0_live_33 : decode cX0_live 33 = .ok (.putfield 85, 3) := dk_181 0 85 (dk_at dksX0_live_1 9 rfl rfl)
theorem dX0_live_36 : decode cX0_live 36 = .ok (.aload_n 0, 1) := dk_42 (dk_at dksX0_live_1 12 rfl rfl)
theorem dX0_live_37 : decode cX0_live 37 = .ok (.getfield 85, 3) := dk_180 0 85 (dk_at dksX0_live_1 13 rfl rfl)
theorem dX0_live_40 : decode cX0_live 40 = .ok (.ifCond .le 5, 3) := dk_158 0 5 (dk_at dksX0_live_1 16 rfl rfl)
theorem dX0_live_43 : decode cX0_live 43 = .ok (.iconst (-1), 1) := dk_2 (dk_at dksX0_live_1 19 rfl rfl)
theorem dX0_live_44 : decode cX0_live 44 = .ok (.ireturn, 1) := dk_172 (dk_at dksX0_live_1 20 rfl rfl)
theorem dX0_live_45 : decode cX0_live 45 = .ok (.new 436, 3) := dk_187 1 180 (dk_at dksX0_live_1 21 rfl rfl)
theorem dX0_live_48 : decode cX0_live 48 = .ok (.dup, 1) := dk_89 (dk_at dksX0_live_2 0 rfl rfl)
theorem dX0_live_49 : decode cX0_live 49 = .ok (.aload_n 0, 1) := dk_42 (dk_at dksX0_live_2 1 rfl rfl)
theorem dX0_live_50 : decode cX0_live 50 = .ok (.invokevirtual 187, 3) := dk_182 0 187 (dk_at dksX0_live_2 2 rfl rfl)
theorem dX0_live_53 : decode cX0_live 53 = .ok (.iload_n 1, 1) := dk_27 (dk_at dksX0_live_2 5 rfl rfl)
theorem dX0_live_54 : decode cX0_live 54 = .ok (.invokespecial 438, 3) := dk_183 1 182 (dk_at dksX0_live_2 6 rfl rfl)
theorem dX0_live_57 : decode cX0_live 57 = .ok (.astore_n 2, 1) := dk_77 (dk_at dksX0_live_2 9 rfl rfl)
theorem dX0_live_58 : decode cX0_live 58 = .ok (.aload_n 0, 1) := dk_42 (dk_at dksX0_live_2 10 rfl rfl)
theorem dX0_live_59 : decode cX0_live 59 = .ok (.getfield 55, 3) := dk_180 0 55 (dk_at dksX0_live_2 11 rfl rfl)
theorem dX0_live_62 : decode cX0_live 62 = .ok (.getfield 222, 3) := dk_180 0 222 (dk_at dksX0_live_2 14 rfl rfl)
theorem dX0_live_65 : decode cX0_live 65 = .ok (.aload_n 2, 1) := dk_44 (dk_at dksX0_live_2 17 rfl rfl)
theorem dX0_live_66 : decode cX0_live 66 = .ok (.invokevirtual 441, 3) := dk_182 1 185 (dk_at dksX0_live_2 18 rfl rfl)
theorem dX0_live_69 : decode cX0_live 69 = .ok (.aload_n 0, 1) := dk_42 (dk_at dksX0_live_2 21 rfl rfl)
theorem dX0_live_70 : decode cX0_live 70 = .ok (.getfield 82, 3) := dk_180 0 82 (dk_at dksX0_live_3 0 rfl rfl)
theorem dX0_live_73 : decode cX0_live 73 = .ok (.iconst 0, 1) := dk_3 (dk_at dksX0_live_3 3 rfl rfl)
theorem dX0_live_74 : decode cX0_live 74 = .ok (.aload_n 2, 1) := dk_44 (dk_at dksX0_live_3 4 rfl rfl)
theorem dX0_live_75 : decode cX0_live 75 = .ok (.getfield 445, 3) := dk_180 1 189 (dk_at dksX0_live_3 5 rfl rfl)
theorem dX0_live_78 : decode cX0_live 78 = .ok (.iastore, 1) := dk_79 (dk_at dksX0_live_3 8 rfl rfl)
theorem dX0_live_79 : decode cX0_live 79 = .ok (.aload_n 0, 1) := dk_42 (dk_at dksX0_live_3 9 rfl rfl)
theorem dX0_live_80 : decode cX0_live 80 = .ok (.getfield 82, 3) := dk_180 0 82 (dk_at dksX0_live_3 10 rfl rfl)
theorem dX0_live_83 : decode cX0_live 83 = .ok (.iconst 1, 1) := dk_4 (dk_at dksX0_live_3 13 rfl rfl)
theorem dX0_live_84 : decode cX0_live 84 = .ok (.aload_n 2, 1) := dk_44 (dk_at dksX0_live_3 14 rfl rfl)
theorem dX0_live_85 : decode cX0_live 85 = .ok (.getfield 448, 3) := dk_180 1 192 (dk_at dksX0_live_3 15 rfl rfl)
theorem dX0_live_88 : decode cX0_live 88 = .ok (.iastore, 1) := dk_79 (dk_at dksX0_live_3 18 rfl rfl)
theorem dX0_live_89 : decode cX0_live 89 = .ok (.aload_n 0, 1) := dk_42 (dk_at dksX0_live_3 19 rfl rfl)
theorem dX0_live_90 : decode cX0_live 90 = .ok (.getfield 82, 3) := dk_180 0 82 (dk_at dksX0_live_3 20 rfl rfl)
theorem dX0_live_93 : decode cX0_live 93 = .ok (.iconst 2, 1) := dk_5 (dk_at dksX0_live_3 23 rfl rfl)
theorem dX0_live_94 : decode cX0_live 94 = .ok (.aload_n 2, 1) := dk_44 (dk_at dksX0_live_4 0 rfl rfl)
theorem dX0_live_95 : decode cX0_live 95 = .ok (.getfield 451, 3) := dk_180 1 195 (dk_at dksX0_live_4 1 rfl rfl)
theorem dX0_live_98 : decode cX0_live 98 = .ok (.iastore, 1) := dk_79 (dk_at dksX0_live_4 4 rfl rfl)
theorem dX0_live_99 : decode cX0_live 99 = .ok (.aload_n 0, 1) := dk_42 (dk_at dksX0_live_4 5 rfl rfl)
theorem dX0_live_100 : decode cX0_live 100 = .ok (.getfield 82, 3) := dk_180 0 82 (dk_at dksX0_live_4 6 rfl rfl)
theorem dX0_live_103 : decode cX0_live 103 = .ok (.iconst 3, 1) := dk_6 (dk_at dksX0_live_4 9 rfl rfl)
theorem dX0_live_104 : decode cX0_live 104 = .ok (.aload_n 2, 1) := dk_44 (dk_at dksX0_live_4 10 rfl rfl)
theorem dX0_live_105 : decode cX0_live 105 = .ok (.getfield 454, 3) := dk_180 1 198 (dk_at dksX0_live_4 11 rfl rfl)
theorem dX0_live_108 : decode cX0_live 108 = .ok (.iastore, 1) := dk_79 (dk_at dksX0_live_4 14 rfl rfl)
theorem dX0_live_109 : decode cX0_live 109 = .ok (.aload_n 0, 1) := dk_42 (dk_at dksX0_live_4 15 rfl rfl)
theorem dX0_live_110 : decode cX0_live 110 = .ok (.getfield 82, 3) := dk_180 0 82 (dk_at dksX0_live_4 16 rfl rfl)
theorem dX0_live_113 : decode cX0_live 113 = .ok (.iconst 4, 1) := dk_7 (dk_at dksX0_live_4 19 rfl rfl)
theorem dX0_live_114 : decode cX0_live 114 = .ok (.aload_n 2, 1) := dk_44 (dk_at dksX0_live_4 20 rfl rfl)
theorem dX0_live_115 : decode cX0_live 115 = .ok (.getfield 457, 3) := dk_180 1 201 (dk_at dksX0_live_4 21 rfl rfl)
theorem dX0_live_118 : decode cX0_live 118 = .ok (.ifCond .eq 7, 3) := dk_153 0 7 (dk_at dksX0_live_5 0 rfl rfl)
theorem dX0_live_121 : decode cX0_live 121 = .ok (.iconst 1, 1) := dk_4 (dk_at dksX0_live_5 3 rfl rfl)
theorem dX0_live_122 : decode cX0_live 122 = .ok (.goto 4, 3) := dk_167 0 4 (dk_at dksX0_live_5 4 rfl rfl)
theorem dX0_live_125 : decode cX0_live 125 = .ok (.iconst 0, 1) := dk_3 (dk_at dksX0_live_5 7 rfl rfl)
theorem dX0_live_126 : decode cX0_live 126 = .ok (.iastore, 1) := dk_79 (dk_at dksX0_live_5 8 rfl rfl)
theorem dX0_live_127 : decode cX0_live 127 = .ok (.aload_n 0, 1) := dk_42 (dk_at dksX0_live_5 9 rfl rfl)
theorem dX0_live_128 : decode cX0_live 128 = .ok (.iconst 1, 1) := dk_4 (dk_at dksX0_live_5 10 rfl rfl)
theorem dX0_live_129 : decode cX0_live 129 = .ok (.putfield 461, 3) := dk_181 1 205 (dk_at dksX0_live_5 11 rfl rfl)
theorem dX0_live_132 : decode cX0_live 132 = .ok (.aload_n 2, 1) := dk_44 (dk_at dksX0_live_5 14 rfl rfl)
theorem dX0_live_133 : decode cX0_live 133 = .ok (.getfield 464, 3) := dk_180 1 208 (dk_at dksX0_live_5 15 rfl rfl)
theorem dX0_live_136 : decode cX0_live 136 = .ok (.ireturn, 1) := dk_172 (dk_at dksX0_live_5 18 rfl rfl)
abbrev cX0_lived : ByteArray := prog_1_method_91_code
def yX0_lived : MethodName := ⟨RX0, "lived", "(I)I"⟩
def dkwX0_lived_2 : List UInt8 := [27, 46, 172]
abbrev dktX0_lived_2 : List UInt8 := dkwX0_lived_2 ++ []
def dkwX0_lived_1 : List UInt8 := [3, 167, 0, 5, 16, 6, 181, 0, 85, 42, 180, 0, 85, 158, 0, 7, 2, 167, 0, 9, 42, 180, 0, 82]
abbrev dktX0_lived_1 : List UInt8 := dkwX0_lived_1 ++ dktX0_lived_2
def dkwX0_lived_0 : List UInt8 := [42, 27, 133, 9, 20, 1, 7, 184, 0, 173, 154, 0, 7, 4, 167, 0, 16, 42, 180, 1, 205, 153, 0, 7]
abbrev dktX0_lived_0 : List UInt8 := dkwX0_lived_0 ++ dktX0_lived_1
theorem dksX0_lived_0 : cX0_lived.data.toList.drop 0 = dktX0_lived_0 := by decide +kernel
theorem dksX0_lived_1 : cX0_lived.data.toList.drop 24 = dktX0_lived_1 := dk_seg dksX0_lived_0 24 rfl rfl
theorem dksX0_lived_2 : cX0_lived.data.toList.drop 48 = dktX0_lived_2 := dk_seg dksX0_lived_1 24 rfl rfl
theorem dX0_lived_0 : decode cX0_lived 0 = .ok (.aload_n 0, 1) := dk_42 (dk_at dksX0_lived_0 0 rfl rfl)
theorem dX0_lived_1 : decode cX0_lived 1 = .ok (.iload_n 1, 1) := dk_27 (dk_at dksX0_lived_0 1 rfl rfl)
theorem dX0_lived_2 : decode cX0_lived 2 = .ok (.i2l, 1) := dk_133 (dk_at dksX0_lived_0 2 rfl rfl)
theorem dX0_lived_3 : decode cX0_lived 3 = .ok (.lconst 0, 1) := dk_9 (dk_at dksX0_lived_0 3 rfl rfl)
theorem dX0_lived_4 : decode cX0_lived 4 = .ok (.ldc2_w 263, 3) := dk_20 1 7 (dk_at dksX0_lived_0 4 rfl rfl)
theorem dX0_lived_7 : decode cX0_lived 7 = .ok (.invokestatic 173, 3) := dk_184 0 173 (dk_at dksX0_lived_0 7 rfl rfl)
theorem dX0_lived_10 : decode cX0_lived 10 = .ok (.ifCond .ne 7, 3) := dk_154 0 7 (dk_at dksX0_lived_0 10 rfl rfl)
theorem dX0_lived_13 : decode cX0_lived 13 = .ok (.iconst 1, 1) := dk_4 (dk_at dksX0_lived_0 13 rfl rfl)
theorem dX0_lived_14 : decode cX0_lived 14 = .ok (.goto 16, 3) := dk_167 0 16 (dk_at dksX0_lived_0 14 rfl rfl)
theorem dX0_lived_17 : decode cX0_lived 17 = .ok (.aload_n 0, 1) := dk_42 (dk_at dksX0_lived_0 17 rfl rfl)
theorem dX0_lived_18 : decode cX0_lived 18 = .ok (.getfield 461, 3) := dk_180 1 205 (dk_at dksX0_lived_0 18 rfl rfl)
theorem dX0_lived_21 : decode cX0_lived 21 = .ok (.ifCond .eq 7, 3) := dk_153 0 7 (dk_at dksX0_lived_0 21 rfl rfl)
theorem dX0_lived_24 : decode cX0_lived 24 = .ok (.iconst 0, 1) := dk_3 (dk_at dksX0_lived_1 0 rfl rfl)
theorem dX0_lived_25 : decode cX0_lived 25 = .ok (.goto 5, 3) := dk_167 0 5 (dk_at dksX0_lived_1 1 rfl rfl)
theorem dX0_lived_28 : decode cX0_lived 28 = .ok (.bipush 6, 2) := dk_16 6 (dk_at dksX0_lived_1 4 rfl rfl)
theorem dX0_lived_30 : decode cX0_lived 30 = .ok (.putfield 85, 3) := dk_181 0 85 (dk_at dksX0_lived_1 6 rfl rfl)
theorem dX0_lived_33 : decode cX0_lived 33 = .ok (.aload_n 0, 1) := dk_42 (dk_at dksX0_lived_1 9 rfl rfl)
theorem dX0_lived_34 : decode cX0_lived 34 = .ok (.getfield 85, 3) := dk_180 0 85 (dk_at dksX0_lived_1 10 rfl rfl)
theorem dX0_lived_37 : decode cX0_lived 37 = .ok (.ifCond .le 7, 3) := dk_158 0 7 (dk_at dksX0_lived_1 13 rfl rfl)
theorem dX0_lived_40 : decode cX0_lived 40 = .ok (.iconst (-1), 1) := dk_2 (dk_at dksX0_lived_1 16 rfl rfl)
theorem dX0_lived_41 : decode cX0_lived 41 = .ok (.goto 9, 3) := dk_167 0 9 (dk_at dksX0_lived_1 17 rfl rfl)
theorem dX0_lived_44 : decode cX0_lived 44 = .ok (.aload_n 0, 1) := dk_42 (dk_at dksX0_lived_1 20 rfl rfl)
theorem dX0_lived_45 : decode cX0_lived 45 = .ok (.getfield 82, 3) := dk_180 0 82 (dk_at dksX0_lived_1 21 rfl rfl)
theorem dX0_lived_48 : decode cX0_lived 48 = .ok (.iload_n 1, 1) := dk_27 (dk_at dksX0_lived_2 0 rfl rfl)
theorem dX0_lived_49 : decode cX0_lived 49 = .ok (.iaload, 1) := dk_46 (dk_at dksX0_lived_2 1 rfl rfl)
theorem dX0_lived_50 : decode cX0_lived 50 = .ok (.ireturn, 1) := dk_172 (dk_at dksX0_lived_2 2 rfl rfl)
abbrev cX0_mean : ByteArray := prog_1_method_92_code
def yX0_mean : MethodName := ⟨RX0, "mean", "(III)Z"⟩
def dkwX0_mean_6 : List UInt8 := [29, 133, 182, 1, 149, 87, 4, 172]
abbrev dktX0_mean_6 : List UInt8 := dkwX0_mean_6 ++ []
def dkwX0_mean_5 : List UInt8 := [22, 4, 42, 180, 0, 78, 180, 1, 21, 27, 46, 133, 97, 55, 4, 132, 6, 1, 167, 255, 196, 42, 22, 4]
abbrev dktX0_mean_5 : List UInt8 := dkwX0_mean_5 ++ dktX0_mean_6
def dkwX0_mean_4 : List UInt8 := [180, 0, 55, 180, 0, 222, 187, 1, 180, 89, 42, 180, 0, 78, 28, 21, 6, 96, 183, 1, 182, 182, 1, 185]
abbrev dktX0_mean_4 : List UInt8 := dkwX0_mean_4 ++ dktX0_mean_5
def dkwX0_mean_3 : List UInt8 := [9, 55, 4, 3, 54, 6, 21, 6, 29, 162, 0, 60, 42, 180, 0, 78, 42, 182, 0, 187, 182, 1, 163, 42]
abbrev dktX0_mean_3 : List UInt8 := dkwX0_mean_3 ++ dktX0_mean_4
def dkwX0_mean_2 : List UInt8 := [180, 0, 222, 199, 0, 8, 16, 6, 167, 0, 4, 3, 181, 0, 85, 42, 180, 0, 85, 158, 0, 5, 3, 172]
abbrev dktX0_mean_2 : List UInt8 := dkwX0_mean_2 ++ dktX0_mean_3
def dkwX0_mean_1 : List UInt8 := [17, 39, 15, 29, 100, 4, 96, 133, 184, 0, 173, 154, 0, 7, 4, 167, 0, 19, 42, 180, 0, 55]
abbrev dktX0_mean_1 : List UInt8 := dkwX0_mean_1 ++ dktX0_mean_2
def dkwX0_mean_0 : List UInt8 := [42, 42, 27, 182, 0, 180, 153, 0, 32, 29, 133, 10, 20, 1, 211, 184, 0, 173, 153, 0, 20, 28, 133, 9]
abbrev dktX0_mean_0 : List UInt8 := dkwX0_mean_0 ++ dktX0_mean_1
theorem dksX0_mean_0 : cX0_mean.data.toList.drop 0 = dktX0_mean_0 := by decide +kernel
theorem dksX0_mean_1 : cX0_mean.data.toList.drop 24 = dktX0_mean_1 := dk_seg dksX0_mean_0 24 rfl rfl
theorem dksX0_mean_2 : cX0_mean.data.toList.drop 46 = dktX0_mean_2 := dk_seg dksX0_mean_1 22 rfl rfl
theorem dksX0_mean_3 : cX0_mean.data.toList.drop 70 = dktX0_mean_3 := dk_seg dksX0_mean_2 24 rfl rfl
theorem dksX0_mean_4 : cX0_mean.data.toList.drop 94 = dktX0_mean_4 := dk_seg dksX0_mean_3 24 rfl rfl
theorem dksX0_mean_5 : cX0_mean.data.toList.drop 118 = dktX0_mean_5 := dk_seg dksX0_mean_4 24 rfl rfl
theorem dksX0_mean_6 : cX0_mean.data.toList.drop 142 = dktX0_mean_6 := dk_seg dksX0_mean_5 24 rfl rfl
theorem dX0_mean_0 : decode cX0_mean 0 = .ok (.aload_n 0, 1) := dk_42 (dk_at dksX0_mean_0 0 rfl rfl)
theorem dX0_mean_1 : decode cX0_mean 1 = .ok (.aload_n 0, 1) := dk_42 (dk_at dksX0_mean_0 1 rfl rfl)
theorem dX0_mean_2 : decode cX0_mean 2 = .ok (.iload_n 1, 1) := dk_27 (dk_at dksX0_mean_0 2 rfl rfl)
theorem dX0_mean_3 : decode cX0_mean 3 = .ok (.invokevirtual 180, 3) := dk_182 0 180 (dk_at dksX0_mean_0 3 rfl rfl)
theorem dX0_mean_6 : decode cX0_mean 6 = .ok (.ifCond .eq 32, 3) := dk_153 0 32 (dk_at dksX0_mean_0 6 rfl rfl)
theorem dX0_mean_9 : decode cX0_mean 9 = .ok (.iload_n 3, 1) := dk_29 (dk_at dksX0_mean_0 9 rfl rfl)
theorem dX0_mean_10 : decode cX0_mean 10 = .ok (.i2l, 1) := dk_133 (dk_at dksX0_mean_0 10 rfl rfl)
theorem dX0_mean_11 : decode cX0_mean 11 = .ok (.lconst 1, 1) := dk_10 (dk_at dksX0_mean_0 11 rfl rfl)
theorem dX0_mean_12 : decode cX0_mean 12 = .ok (.ldc2_w 467, 3) := dk_20 1 211 (dk_at dksX0_mean_0 12 rfl rfl)
theorem dX0_mean_15 : decode cX0_mean 15 = .ok (.invokestatic 173, 3) := dk_184 0 173 (dk_at dksX0_mean_0 15 rfl rfl)
theorem dX0_mean_18 : decode cX0_mean 18 = .ok (.ifCond .eq 20, 3) := dk_153 0 20 (dk_at dksX0_mean_0 18 rfl rfl)
theorem dX0_mean_21 : decode cX0_mean 21 = .ok (.iload_n 2, 1) := dk_28 (dk_at dksX0_mean_0 21 rfl rfl)
theorem dX0_mean_22 : decode cX0_mean 22 = .ok (.i2l, 1) := dk_133 (dk_at dksX0_mean_0 22 rfl rfl)
theorem dX0_mean_23 : decode cX0_mean 23 = .ok (.lconst 0, 1) := dk_9 (dk_at dksX0_mean_0 23 rfl rfl)
theorem dX0_mean_24 : decode cX0_mean 24 = .ok (.sipush 9999, 3) := dk_17 39 15 (dk_at dksX0_mean_1 0 rfl rfl)
theorem dX0_mean_27 : decode cX0_mean 27 = .ok (.iload_n 3, 1) := dk_29 (dk_at dksX0_mean_1 3 rfl rfl)
theorem dX0_mean_28 : decode cX0_mean 28 = .ok (.isub, 1) := dk_100 (dk_at dksX0_mean_1 4 rfl rfl)
theorem dX0_mean_29 : decode cX0_mean 29 = .ok (.iconst 1, 1) := dk_4 (dk_at dksX0_mean_1 5 rfl rfl)
theorem dX0_mean_30 : decode cX0_mean 30 = .ok (.iadd, 1) := dk_96 (dk_at dksX0_mean_1 6 rfl rfl)
theorem dX0_mean_31 : decode cX0_mean 31 = .ok (.i2l, 1) := dk_133 (dk_at dksX0_mean_1 7 rfl rfl)
theorem dX0_mean_32 : decode cX0_mean 32 = .ok (.invokestatic 173, 3) := dk_184 0 173 (dk_at dksX0_mean_1 8 rfl rfl)
theorem dX0_mean_35 : decode cX0_mean 35 = .ok (.ifCond .ne 7, 3) := dk_154 0 7 (dk_at dksX0_mean_1 11 rfl rfl)
theorem dX0_mean_38 : decode cX0_mean 38 = .ok (.iconst 1, 1) := dk_4 (dk_at dksX0_mean_1 14 rfl rfl)
theorem dX0_mean_39 : decode cX0_mean 39 = .ok (.goto 19, 3) := dk_167 0 19 (dk_at dksX0_mean_1 15 rfl rfl)
theorem dX0_mean_42 : decode cX0_mean 42 = .ok (.aload_n 0, 1) := dk_42 (dk_at dksX0_mean_1 18 rfl rfl)
theorem dX0_mean_43 : decode cX0_mean 43 = .ok (.getfield 55, 3) := dk_180 0 55 (dk_at dksX0_mean_1 19 rfl rfl)
theorem dX0_mean_46 : decode cX0_mean 46 = .ok (.getfield 222, 3) := dk_180 0 222 (dk_at dksX0_mean_2 0 rfl rfl)
theorem dX0_mean_49 : decode cX0_mean 49 = .ok (.ifnonnull 8, 3) := dk_199 0 8 (dk_at dksX0_mean_2 3 rfl rfl)
theorem dX0_mean_52 : decode cX0_mean 52 = .ok (.bipush 6, 2) := dk_16 6 (dk_at dksX0_mean_2 6 rfl rfl)
theorem dX0_mean_54 : decode cX0_mean 54 = .ok (.goto 4, 3) := dk_167 0 4 (dk_at dksX0_mean_2 8 rfl rfl)
theorem dX0_mean_57 : decode cX0_mean 57 = .ok (.iconst 0, 1) := dk_3 (dk_at dksX0_mean_2 11 rfl rfl)
theorem dX0_mean_58 : decode cX0_mean 58 = .ok (.putfield 85, 3) := dk_181 0 85 (dk_at dksX0_mean_2 12 rfl rfl)
theorem dX0_mean_61 : decode cX0_mean 61 = .ok (.aload_n 0, 1) := dk_42 (dk_at dksX0_mean_2 15 rfl rfl)
theorem dX0_mean_62 : decode cX0_mean 62 = .ok (.getfield 85, 3) := dk_180 0 85 (dk_at dksX0_mean_2 16 rfl rfl)
theorem dX0_mean_65 : decode cX0_mean 65 = .ok (.ifCond .le 5, 3) := dk_158 0 5 (dk_at dksX0_mean_2 19 rfl rfl)
theorem dX0_mean_68 : decode cX0_mean 68 = .ok (.iconst 0, 1) := dk_3 (dk_at dksX0_mean_2 22 rfl rfl)
theorem dX0_mean_69 : decode cX0_mean 69 = .ok (.ireturn, 1) := dk_172 (dk_at dksX0_mean_2 23 rfl rfl)
theorem dX0_mean_70 : decode cX0_mean 70 = .ok (.lconst 0, 1) := dk_9 (dk_at dksX0_mean_3 0 rfl rfl)
theorem dX0_mean_71 : decode cX0_mean 71 = .ok (.lstore 4, 2) := dk_55 4 (dk_at dksX0_mean_3 1 rfl rfl)
theorem dX0_mean_73 : decode cX0_mean 73 = .ok (.iconst 0, 1) := dk_3 (dk_at dksX0_mean_3 3 rfl rfl)
theorem dX0_mean_74 : decode cX0_mean 74 = .ok (.istore 6, 2) := dk_54 6 (dk_at dksX0_mean_3 4 rfl rfl)
theorem dX0_mean_76 : decode cX0_mean 76 = .ok (.iload 6, 2) := dk_21 6 (dk_at dksX0_mean_3 6 rfl rfl)
theorem dX0_mean_78 : decode cX0_mean 78 = .ok (.iload_n 3, 1) := dk_29 (dk_at dksX0_mean_3 8 rfl rfl)
theorem dX0_mean_79 : decode cX0_mean 79 = .ok (.if_icmp .ge 60, 3) := dk_162 0 60 (dk_at dksX0_mean_3 9 rfl rfl)
theorem dX0_mean_82 : decode cX0_mean 82 = .ok (.aload_n 0, 1) := dk_42 (dk_at dksX0_mean_3 12 rfl rfl)
theorem dX0_mean_83 : decode cX0_mean 83 = .ok (.getfield 78, 3) := dk_180 0 78 (dk_at dksX0_mean_3 13 rfl rfl)
theorem dX0_mean_86 : decode cX0_mean 86 = .ok (.aload_n 0, 1) := dk_42 (dk_at dksX0_mean_3 16 rfl rfl)
theorem dX0_mean_87 : decode cX0_mean 87 = .ok (.invokevirtual 187, 3) := dk_182 0 187 (dk_at dksX0_mean_3 17 rfl rfl)
theorem dX0_mean_90 : decode cX0_mean 90 = .ok (.invokevirtual 419, 3) := dk_182 1 163 (dk_at dksX0_mean_3 20 rfl rfl)
theorem dX0_mean_93 : decode cX0_mean 93 = .ok (.aload_n 0, 1) := dk_42 (dk_at dksX0_mean_3 23 rfl rfl)
theorem dX0_mean_94 : decode cX0_mean 94 = .ok (.getfield 55, 3) := dk_180 0 55 (dk_at dksX0_mean_4 0 rfl rfl)
theorem dX0_mean_97 : decode cX0_mean 97 = .ok (.getfield 222, 3) := dk_180 0 222 (dk_at dksX0_mean_4 3 rfl rfl)
theorem dX0_mean_100 : decode cX0_mean 100 = .ok (.new 436, 3) := dk_187 1 180 (dk_at dksX0_mean_4 6 rfl rfl)
theorem dX0_mean_103 : decode cX0_mean 103 = .ok (.dup, 1) := dk_89 (dk_at dksX0_mean_4 9 rfl rfl)
theorem dX0_mean_104 : decode cX0_mean 104 = .ok (.aload_n 0, 1) := dk_42 (dk_at dksX0_mean_4 10 rfl rfl)
theorem dX0_mean_105 : decode cX0_mean 105 = .ok (.getfield 78, 3) := dk_180 0 78 (dk_at dksX0_mean_4 11 rfl rfl)
theorem dX0_mean_108 : decode cX0_mean 108 = .ok (.iload_n 2, 1) := dk_28 (dk_at dksX0_mean_4 14 rfl rfl)
theorem dX0_mean_109 : decode cX0_mean 109 = .ok (.iload 6, 2) := dk_21 6 (dk_at dksX0_mean_4 15 rfl rfl)
theorem dX0_mean_111 : decode cX0_mean 111 = .ok (.iadd, 1) := dk_96 (dk_at dksX0_mean_4 17 rfl rfl)
theorem dX0_mean_112 : decode cX0_mean 112 = .ok (.invokespecial 438, 3) := dk_183 1 182 (dk_at dksX0_mean_4 18 rfl rfl)
theorem dX0_mean_115 : decode cX0_mean 115 = .ok (.invokevirtual 441, 3) := dk_182 1 185 (dk_at dksX0_mean_4 21 rfl rfl)
theorem dX0_mean_118 : decode cX0_mean 118 = .ok (.lload 4, 2) := dk_22 4 (dk_at dksX0_mean_5 0 rfl rfl)
theorem dX0_mean_120 : decode cX0_mean 120 = .ok (.aload_n 0, 1) := dk_42 (dk_at dksX0_mean_5 2 rfl rfl)
theorem dX0_mean_121 : decode cX0_mean 121 = .ok (.getfield 78, 3) := dk_180 0 78 (dk_at dksX0_mean_5 3 rfl rfl)
theorem dX0_mean_124 : decode cX0_mean 124 = .ok (.getfield 277, 3) := dk_180 1 21 (dk_at dksX0_mean_5 6 rfl rfl)
theorem dX0_mean_127 : decode cX0_mean 127 = .ok (.iload_n 1, 1) := dk_27 (dk_at dksX0_mean_5 9 rfl rfl)
theorem dX0_mean_128 : decode cX0_mean 128 = .ok (.iaload, 1) := dk_46 (dk_at dksX0_mean_5 10 rfl rfl)
theorem dX0_mean_129 : decode cX0_mean 129 = .ok (.i2l, 1) := dk_133 (dk_at dksX0_mean_5 11 rfl rfl)
theorem dX0_mean_130 : decode cX0_mean 130 = .ok (.ladd, 1) := dk_97 (dk_at dksX0_mean_5 12 rfl rfl)
theorem dX0_mean_131 : decode cX0_mean 131 = .ok (.lstore 4, 2) := dk_55 4 (dk_at dksX0_mean_5 13 rfl rfl)
theorem dX0_mean_133 : decode cX0_mean 133 = .ok (.iinc 6 1, 3) := dk_132 6 1 (dk_at dksX0_mean_5 15 rfl rfl)
theorem dX0_mean_136 : decode cX0_mean 136 = .ok (.goto (-60), 3) := dk_167 255 196 (dk_at dksX0_mean_5 18 rfl rfl)
theorem dX0_mean_139 : decode cX0_mean 139 = .ok (.aload_n 0, 1) := dk_42 (dk_at dksX0_mean_5 21 rfl rfl)
theorem dX0_mean_140 : decode cX0_mean 140 = .ok (.lload 4, 2) := dk_22 4 (dk_at dksX0_mean_5 22 rfl rfl)
theorem dX0_mean_142 : decode cX0_mean 142 = .ok (.iload_n 3, 1) := dk_29 (dk_at dksX0_mean_6 0 rfl rfl)
theorem dX0_mean_143 : decode cX0_mean 143 = .ok (.i2l, 1) := dk_133 (dk_at dksX0_mean_6 1 rfl rfl)
theorem dX0_mean_144 : decode cX0_mean 144 = .ok (.invokevirtual 405, 3) := dk_182 1 149 (dk_at dksX0_mean_6 2 rfl rfl)
theorem dX0_mean_147 : decode cX0_mean 147 = .ok (.pop, 1) := dk_87 (dk_at dksX0_mean_6 5 rfl rfl)
theorem dX0_mean_148 : decode cX0_mean 148 = .ok (.iconst 1, 1) := dk_4 (dk_at dksX0_mean_6 6 rfl rfl)
theorem dX0_mean_149 : decode cX0_mean 149 = .ok (.ireturn, 1) := dk_172 (dk_at dksX0_mean_6 7 rfl rfl)
abbrev cX0_mark : ByteArray := prog_1_method_93_code
def yX0_mark : MethodName := ⟨RX0, "mark", "()I"⟩
def dkwX0_mark_3 : List UInt8 := [42, 89, 180, 1, 213, 4, 96, 181, 1, 213, 42, 180, 1, 213, 172]
abbrev dktX0_mark_3 : List UInt8 := dkwX0_mark_3 ++ []
def dkwX0_mark_2 : List UInt8 := [187, 0, 52, 89, 183, 0, 54, 83, 42, 180, 0, 59, 42, 180, 1, 213, 50, 42, 180, 0, 55, 182, 1, 216]
abbrev dktX0_mark_2 : List UInt8 := dkwX0_mark_2 ++ dktX0_mark_3
def dkwX0_mark_1 : List UInt8 := [2, 172, 42, 180, 0, 59, 42, 180, 1, 213, 50, 199, 0, 19, 42, 180, 0, 59, 42, 180, 1, 213]
abbrev dktX0_mark_1 : List UInt8 := dkwX0_mark_1 ++ dktX0_mark_2
def dkwX0_mark_0 : List UInt8 := [42, 42, 180, 1, 213, 6, 160, 0, 7, 7, 167, 0, 4, 3, 181, 0, 85, 42, 180, 0, 85, 158, 0, 5]
abbrev dktX0_mark_0 : List UInt8 := dkwX0_mark_0 ++ dktX0_mark_1
theorem dksX0_mark_0 : cX0_mark.data.toList.drop 0 = dktX0_mark_0 := by decide +kernel
theorem dksX0_mark_1 : cX0_mark.data.toList.drop 24 = dktX0_mark_1 := dk_seg dksX0_mark_0 24 rfl rfl
theorem dksX0_mark_2 : cX0_mark.data.toList.drop 46 = dktX0_mark_2 := dk_seg dksX0_mark_1 22 rfl rfl
theorem dksX0_mark_3 : cX0_mark.data.toList.drop 70 = dktX0_mark_3 := dk_seg dksX0_mark_2 24 rfl rfl
theorem dX0_mark_0 : decode cX0_mark 0 = .ok (.aload_n 0, 1) := dk_42 (dk_at dksX0_mark_0 0 rfl rfl)
theorem dX0_mark_1 : decode cX0_mark 1 = .ok (.aload_n 0, 1) := dk_42 (dk_at dksX0_mark_0 1 rfl rfl)
theorem dX0_mark_2 : decode cX0_mark 2 = .ok (.getfield 469, 3) := dk_180 1 213 (dk_at dksX0_mark_0 2 rfl rfl)
theorem dX0_mark_5 : decode cX0_mark 5 = .ok (.iconst 3, 1) := dk_6 (dk_at dksX0_mark_0 5 rfl rfl)
theorem dX0_mark_6 : decode cX0_mark 6 = .ok (.if_icmp .ne 7, 3) := dk_160 0 7 (dk_at dksX0_mark_0 6 rfl rfl)
theorem dX0_mark_9 : decode cX0_mark 9 = .ok (.iconst 4, 1) := dk_7 (dk_at dksX0_mark_0 9 rfl rfl)
theorem dX0_mark_10 : decode cX0_mark 10 = .ok (.goto 4, 3) := dk_167 0 4 (dk_at dksX0_mark_0 10 rfl rfl)
theorem dX0_mark_13 : decode cX0_mark 13 = .ok (.iconst 0, 1) := dk_3 (dk_at dksX0_mark_0 13 rfl rfl)
theorem dX0_mark_14 : decode cX0_mark 14 = .ok (.putfield 85, 3) := dk_181 0 85 (dk_at dksX0_mark_0 14 rfl rfl)
theorem dX0_mark_17 : decode cX0_mark 17 = .ok (.aload_n 0, 1) := dk_42 (dk_at dksX0_mark_0 17 rfl rfl)
theorem dX0_mark_18 : decode cX0_mark 18 = .ok (.getfield 85, 3) := dk_180 0 85 (dk_at dksX0_mark_0 18 rfl rfl)
theorem dX0_mark_21 : decode cX0_mark 21 = .ok (.ifCond .le 5, 3) := dk_158 0 5 (dk_at dksX0_mark_0 21 rfl rfl)
theorem dX0_mark_24 : decode cX0_mark 24 = .ok (.iconst (-1), 1) := dk_2 (dk_at dksX0_mark_1 0 rfl rfl)
theorem dX0_mark_25 : decode cX0_mark 25 = .ok (.ireturn, 1) := dk_172 (dk_at dksX0_mark_1 1 rfl rfl)
theorem dX0_mark_26 : decode cX0_mark 26 = .ok (.aload_n 0, 1) := dk_42 (dk_at dksX0_mark_1 2 rfl rfl)
theorem dX0_mark_27 : decode cX0_mark 27 = .ok (.getfield 59, 3) := dk_180 0 59 (dk_at dksX0_mark_1 3 rfl rfl)
theorem dX0_mark_30 : decode cX0_mark 30 = .ok (.aload_n 0, 1) := dk_42 (dk_at dksX0_mark_1 6 rfl rfl)
theorem dX0_mark_31 : decode cX0_mark 31 = .ok (.getfield 469, 3) := dk_180 1 213 (dk_at dksX0_mark_1 7 rfl rfl)
theorem dX0_mark_34 : decode cX0_mark 34 = .ok (.aaload, 1) := dk_50 (dk_at dksX0_mark_1 10 rfl rfl)
theorem dX0_mark_35 : decode cX0_mark 35 = .ok (.ifnonnull 19, 3) := dk_199 0 19 (dk_at dksX0_mark_1 11 rfl rfl)
theorem dX0_mark_38 : decode cX0_mark 38 = .ok (.aload_n 0, 1) := dk_42 (dk_at dksX0_mark_1 14 rfl rfl)
theorem dX0_mark_39 : decode cX0_mark 39 = .ok (.getfield 59, 3) := dk_180 0 59 (dk_at dksX0_mark_1 15 rfl rfl)
theorem dX0_mark_42 : decode cX0_mark 42 = .ok (.aload_n 0, 1) := dk_42 (dk_at dksX0_mark_1 18 rfl rfl)
theorem dX0_mark_43 : decode cX0_mark 43 = .ok (.getfield 469, 3) := dk_180 1 213 (dk_at dksX0_mark_1 19 rfl rfl)
theorem dX0_mark_46 : decode cX0_mark 46 = .ok (.new 52, 3) := dk_187 0 52 (dk_at dksX0_mark_2 0 rfl rfl)
theorem dX0_mark_49 : decode cX0_mark 49 = .ok (.dup, 1) := dk_89 (dk_at dksX0_mark_2 3 rfl rfl)
theorem dX0_mark_50 : decode cX0_mark 50 = .ok (.invokespecial 54, 3) := dk_183 0 54 (dk_at dksX0_mark_2 4 rfl rfl)
theorem dX0_mark_53 : decode cX0_mark 53 = .ok (.aastore, 1) := dk_83 (dk_at dksX0_mark_2 7 rfl rfl)
theorem dX0_mark_54 : decode cX0_mark 54 = .ok (.aload_n 0, 1) := dk_42 (dk_at dksX0_mark_2 8 rfl rfl)
theorem dX0_mark_55 : decode cX0_mark 55 = .ok (.getfield 59, 3) := dk_180 0 59 (dk_at dksX0_mark_2 9 rfl rfl)
theorem dX0_mark_58 : decode cX0_mark 58 = .ok (.aload_n 0, 1) := dk_42 (dk_at dksX0_mark_2 12 rfl rfl)
theorem dX0_mark_59 : decode cX0_mark 59 = .ok (.getfield 469, 3) := dk_180 1 213 (dk_at dksX0_mark_2 13 rfl rfl)
theorem dX0_mark_62 : decode cX0_mark 62 = .ok (.aaload, 1) := dk_50 (dk_at dksX0_mark_2 16 rfl rfl)
theorem dX0_mark_63 : decode cX0_mark 63 = .ok (.aload_n 0, 1) := dk_42 (dk_at dksX0_mark_2 17 rfl rfl)
theorem dX0_mark_64 : decode cX0_mark 64 = .ok (.getfield 55, 3) := dk_180 0 55 (dk_at dksX0_mark_2 18 rfl rfl)
theorem dX0_mark_67 : decode cX0_mark 67 = .ok (.invokevirtual 472, 3) := dk_182 1 216 (dk_at dksX0_mark_2 21 rfl rfl)
theorem dX0_mark_70 : decode cX0_mark 70 = .ok (.aload_n 0, 1) := dk_42 (dk_at dksX0_mark_3 0 rfl rfl)
theorem dX0_mark_71 : decode cX0_mark 71 = .ok (.dup, 1) := dk_89 (dk_at dksX0_mark_3 1 rfl rfl)
theorem dX0_mark_72 : decode cX0_mark 72 = .ok (.getfield 469, 3) := dk_180 1 213 (dk_at dksX0_mark_3 2 rfl rfl)
theorem dX0_mark_75 : decode cX0_mark 75 = .ok (.iconst 1, 1) := dk_4 (dk_at dksX0_mark_3 5 rfl rfl)
theorem dX0_mark_76 : decode cX0_mark 76 = .ok (.iadd, 1) := dk_96 (dk_at dksX0_mark_3 6 rfl rfl)
theorem dX0_mark_77 : decode cX0_mark 77 = .ok (.putfield 469, 3) := dk_181 1 213 (dk_at dksX0_mark_3 7 rfl rfl)
theorem dX0_mark_80 : decode cX0_mark 80 = .ok (.aload_n 0, 1) := dk_42 (dk_at dksX0_mark_3 10 rfl rfl)
theorem dX0_mark_81 : decode cX0_mark 81 = .ok (.getfield 469, 3) := dk_180 1 213 (dk_at dksX0_mark_3 11 rfl rfl)
theorem dX0_mark_84 : decode cX0_mark 84 = .ok (.ireturn, 1) := dk_172 (dk_at dksX0_mark_3 14 rfl rfl)
abbrev cX0_back : ByteArray := prog_1_method_94_code
def yX0_back : MethodName := ⟨RX0, "back", "()I"⟩
def dkwX0_back_2 : List UInt8 := [50, 182, 1, 216, 42, 180, 1, 213, 172]
abbrev dktX0_back_2 : List UInt8 := dkwX0_back_2 ++ []
def dkwX0_back_1 : List UInt8 := [2, 172, 42, 89, 180, 1, 213, 4, 100, 181, 1, 213, 42, 180, 0, 55, 42, 180, 0, 59, 42, 180, 1, 213]
abbrev dktX0_back_1 : List UInt8 := dkwX0_back_1 ++ dktX0_back_2
def dkwX0_back_0 : List UInt8 := [42, 42, 180, 1, 213, 154, 0, 8, 16, 6, 167, 0, 4, 3, 181, 0, 85, 42, 180, 0, 85, 158, 0, 5]
abbrev dktX0_back_0 : List UInt8 := dkwX0_back_0 ++ dktX0_back_1
theorem dksX0_back_0 : cX0_back.data.toList.drop 0 = dktX0_back_0 := by decide +kernel
theorem dksX0_back_1 : cX0_back.data.toList.drop 24 = dktX0_back_1 := dk_seg dksX0_back_0 24 rfl rfl
theorem dksX0_back_2 : cX0_back.data.toList.drop 48 = dktX0_back_2 := dk_seg dksX0_back_1 24 rfl rfl
theorem dX0_back_0 : decode cX0_back 0 = .ok (.aload_n 0, 1) := dk_42 (dk_at dksX0_back_0 0 rfl rfl)
theorem dX0_back_1 : decode cX0_back 1 = .ok (.aload_n 0, 1) := dk_42 (dk_at dksX0_back_0 1 rfl rfl)
theorem dX0_back_2 : decode cX0_back 2 = .ok (.getfield 469, 3) := dk_180 1 213 (dk_at dksX0_back_0 2 rfl rfl)
theorem dX0_back_5 : decode cX0_back 5 = .ok (.ifCond .ne 8, 3) := dk_154 0 8 (dk_at dksX0_back_0 5 rfl rfl)
theorem dX0_back_8 : decode cX0_back 8 = .ok (.bipush 6, 2) := dk_16 6 (dk_at dksX0_back_0 8 rfl rfl)
theorem dX0_back_10 : decode cX0_back 10 = .ok (.goto 4, 3) := dk_167 0 4 (dk_at dksX0_back_0 10 rfl rfl)
theorem dX0_back_13 : decode cX0_back 13 = .ok (.iconst 0, 1) := dk_3 (dk_at dksX0_back_0 13 rfl rfl)
theorem dX0_back_14 : decode cX0_back 14 = .ok (.putfield 85, 3) := dk_181 0 85 (dk_at dksX0_back_0 14 rfl rfl)
theorem dX0_back_17 : decode cX0_back 17 = .ok (.aload_n 0, 1) := dk_42 (dk_at dksX0_back_0 17 rfl rfl)
theorem dX0_back_18 : decode cX0_back 18 = .ok (.getfield 85, 3) := dk_180 0 85 (dk_at dksX0_back_0 18 rfl rfl)
theorem dX0_back_21 : decode cX0_back 21 = .ok (.ifCond .le 5, 3) := dk_158 0 5 (dk_at dksX0_back_0 21 rfl rfl)
theorem dX0_back_24 : decode cX0_back 24 = .ok (.iconst (-1), 1) := dk_2 (dk_at dksX0_back_1 0 rfl rfl)
theorem dX0_back_25 : decode cX0_back 25 = .ok (.ireturn, 1) := dk_172 (dk_at dksX0_back_1 1 rfl rfl)
theorem dX0_back_26 : decode cX0_back 26 = .ok (.aload_n 0, 1) := dk_42 (dk_at dksX0_back_1 2 rfl rfl)
theorem dX0_back_27 : decode cX0_back 27 = .ok (.dup, 1) := dk_89 (dk_at dksX0_back_1 3 rfl rfl)
theorem dX0_back_28 : decode cX0_back 28 = .ok (.getfield 469, 3) := dk_180 1 213 (dk_at dksX0_back_1 4 rfl rfl)
theorem dX0_back_31 : decode cX0_back 31 = .ok (.iconst 1, 1) := dk_4 (dk_at dksX0_back_1 7 rfl rfl)
theorem dX0_back_32 : decode cX0_back 32 = .ok (.isub, 1) := dk_100 (dk_at dksX0_back_1 8 rfl rfl)
theorem dX0_back_33 : decode cX0_back 33 = .ok (.putfield 469, 3) := dk_181 1 213 (dk_at dksX0_back_1 9 rfl rfl)
theorem dX0_back_36 : decode cX0_back 36 = .ok (.aload_n 0, 1) := dk_42 (dk_at dksX0_back_1 12 rfl rfl)
theorem dX0_back_37 : decode cX0_back 37 = .ok (.getfield 55, 3) := dk_180 0 55 (dk_at dksX0_back_1 13 rfl rfl)
theorem dX0_back_40 : decode cX0_back 40 = .ok (.aload_n 0, 1) := dk_42 (dk_at dksX0_back_1 16 rfl rfl)
theorem dX0_back_41 : decode cX0_back 41 = .ok (.getfield 59, 3) := dk_180 0 59 (dk_at dksX0_back_1 17 rfl rfl)
theorem dX0_back_44 : decode cX0_back 44 = .ok (.aload_n 0, 1) := dk_42 (dk_at dksX0_back_1 20 rfl rfl)
theorem dX0_back_45 : decode cX0_back 45 = .ok (.getfield 469, 3) := dk_180 1 213 (dk_at dksX0_back_1 21 rfl rfl)
theorem dX0_back_48 : decode cX0_back 48 = .ok (.aaload, 1) := dk_50 (dk_at dksX0_back_2 0 rfl rfl)
theorem dX0_back_49 : decode cX0_back 49 = .ok (.invokevirtual 472, 3) := dk_182 1 216 (dk_at dksX0_back_2 1 rfl rfl)
theorem dX0_back_52 : decode cX0_back 52 = .ok (.aload_n 0, 1) := dk_42 (dk_at dksX0_back_2 4 rfl rfl)
theorem dX0_back_53 : decode cX0_back 53 = .ok (.getfield 469, 3) := dk_180 1 213 (dk_at dksX0_back_2 5 rfl rfl)
theorem dX0_back_56 : decode cX0_back 56 = .ok (.ireturn, 1) := dk_172 (dk_at dksX0_back_2 8 rfl rfl)
