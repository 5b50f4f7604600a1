set_option maxRecDepth 100000
abbrev cX8_isThere : ByteArray := prog_17_method_60_code
def yX8_isThere : MethodName := ⟨RX8, "isThere", "(I)Z"⟩
def dkwX8_isThere_0 : List UInt8 := [42, 180, 0, 7, 16, 7, 46, 27, 122, 4, 126, 4, 160, 0, 7, 4, 167, 0, 4, 3, 172]
abbrev dktX8_isThere_0 : List UInt8 := dkwX8_isThere_0 ++ []
theorem dksX8_isThere_0 : cX8_isThere.data.toList.drop 0 = dktX8_isThere_0 := by decide +kernel
theorem dX8_isThere_0 : decode cX8_isThere 0 = .ok (.aload_n 0, 1) := dk_42 (dk_at dksX8_isThere_0 0 rfl rfl)
theorem dX8_isThere_1 : decode cX8_isThere 1 = .ok (.getfield 7, 3) := dk_180 0 7 (dk_at dksX8_isThere_0 1 rfl rfl)
theorem dX8_isThere_4 : decode cX8_isThere 4 = .ok (.bipush 7, 2) := dk_16 7 (dk_at dksX8_isThere_0 4 rfl rfl)
theorem dX8_isThere_6 : decode cX8_isThere 6 = .ok (.iaload, 1) := dk_46 (dk_at dksX8_isThere_0 6 rfl rfl)
theorem dX8_isThere_7 : decode cX8_isThere 7 = .ok (.iload_n 1, 1) := dk_27 (dk_at dksX8_isThere_0 7 rfl rfl)
theorem dX8_isThere_8 : decode cX8_isThere 8 = .ok (.ishr, 1) := dk_122 (dk_at dksX8_isThere_0 8 rfl rfl)
theorem dX8_isThere_9 : decode cX8_isThere 9 = .ok (.iconst 1, 1) := dk_4 (dk_at dksX8_isThere_0 9 rfl rfl)
theorem dX8_isThere_10 : decode cX8_isThere 10 = .ok (.iand, 1) := dk_126 (dk_at dksX8_isThere_0 10 rfl rfl)
theorem dX8_isThere_11 : decode cX8_isThere 11 = .ok (.iconst 1, 1) := dk_4 (dk_at dksX8_isThere_0 11 rfl rfl)
theorem dX8_isThere_12 : decode cX8_isThere 12 = .ok (.if_icmp .ne 7, 3) := dk_160 0 7 (dk_at dksX8_isThere_0 12 rfl rfl)
theorem dX8_isThere_15 : decode cX8_isThere 15 = .ok (.iconst 1, 1) := dk_4 (dk_at dksX8_isThere_0 15 rfl rfl)
theorem dX8_isThere_16 : decode cX8_isThere 16 = .ok (.goto 4, 3) := dk_167 0 4 (dk_at dksX8_isThere_0 16 rfl rfl)
theorem dX8_isThere_19 : decode cX8_isThere 19 = .ok (.iconst 0, 1) := dk_3 (dk_at dksX8_isThere_0 19 rfl rfl)
theorem dX8_isThere_20 : decode cX8_isThere 20 = .ok (.ireturn, 1) := dk_172 (dk_at dksX8_isThere_0 20 rfl rfl)
abbrev cX8_sets : ByteArray := prog_17_method_76_code
def yX8_sets : MethodName := ⟨RX8, "sets", "(II)V"⟩
def dkwX8_sets_1 : List UInt8 := [184, 1, 18, 6, 96, 46, 182, 0, 210, 177]
abbrev dktX8_sets_1 : List UInt8 := dkwX8_sets_1 ++ []
def dkwX8_sets_0 : List UInt8 := [42, 180, 0, 7, 27, 184, 1, 18, 5, 96, 92, 46, 4, 100, 79, 42, 3, 28, 27, 42, 180, 0, 7, 27]
abbrev dktX8_sets_0 : List UInt8 := dkwX8_sets_0 ++ dktX8_sets_1
theorem dksX8_sets_0 : cX8_sets.data.toList.drop 0 = dktX8_sets_0 := by decide +kernel
theorem dksX8_sets_1 : cX8_sets.data.toList.drop 24 = dktX8_sets_1 := dk_seg dksX8_sets_0 24 rfl rfl
theorem dX8_sets_0 : decode cX8_sets 0 = .ok (.aload_n 0, 1) := dk_42 (dk_at dksX8_sets_0 0 rfl rfl)
theorem dX8_sets_1 : decode cX8_sets 1 = .ok (.getfield 7, 3) := dk_180 0 7 (dk_at dksX8_sets_0 1 rfl rfl)
theorem dX8_sets_4 : decode cX8_sets 4 = .ok (.iload_n 1, 1) := dk_27 (dk_at dksX8_sets_0 4 rfl rfl)
theorem dX8_sets_5 : decode cX8_sets 5 = .ok (.invokestatic 274, 3) := dk_184 1 18 (dk_at dksX8_sets_0 5 rfl rfl)
theorem dX8_sets_8 : decode cX8_sets 8 = .ok (.iconst 2, 1) := dk_5 (dk_at dksX8_sets_0 8 rfl rfl)
theorem dX8_sets_9 : decode cX8_sets 9 = .ok (.iadd, 1) := dk_96 (dk_at dksX8_sets_0 9 rfl rfl)
theorem dX8_sets_10 : decode cX8_sets 10 = .ok (.dup2, 1) := dk_92 (dk_at dksX8_sets_0 10 rfl rfl)
theorem dX8_sets_11 : decode cX8_sets 11 = .ok (.iaload, 1) := dk_46 (dk_at dksX8_sets_0 11 rfl rfl)
theorem dX8_sets_12 : decode cX8_sets 12 = .ok (.iconst 1, 1) := dk_4 (dk_at dksX8_sets_0 12 rfl rfl)
theorem dX8_sets_13 : decode cX8_sets 13 = .ok (.isub, 1) := dk_100 (dk_at dksX8_sets_0 13 rfl rfl)
theorem dX8_sets_14 : decode cX8_sets 14 = .ok (.iastore, 1) := dk_79 (dk_at dksX8_sets_0 14 rfl rfl)
theorem dX8_sets_15 : decode cX8_sets 15 = .ok (.aload_n 0, 1) := dk_42 (dk_at dksX8_sets_0 15 rfl rfl)
theorem dX8_sets_16 : decode cX8_sets 16 = .ok (.iconst 0, 1) := dk_3 (dk_at dksX8_sets_0 16 rfl rfl)
theorem dX8_sets_17 : decode cX8_sets 17 = .ok (.iload_n 2, 1) := dk_28 (dk_at dksX8_sets_0 17 rfl rfl)
theorem dX8_sets_18 : decode cX8_sets 18 = .ok (.iload_n 1, 1) := dk_27 (dk_at dksX8_sets_0 18 rfl rfl)
theorem dX8_sets_19 : decode cX8_sets 19 = .ok (.aload_n 0, 1) := dk_42 (dk_at dksX8_sets_0 19 rfl rfl)
theorem dX8_sets_20 : decode cX8_sets 20 = .ok (.getfield 7, 3) := dk_180 0 7 (dk_at dksX8_sets_0 20 rfl rfl)
theorem dX8_sets_23 : decode cX8_sets 23 = .ok (.iload_n 1, 1) := dk_27 (dk_at dksX8_sets_0 23 rfl rfl)
theorem dX8_sets_24 : decode cX8_sets 24 = .ok (.invokestatic 274, 3) := dk_184 1 18 (dk_at dksX8_sets_1 0 rfl rfl)
theorem dX8_sets_27 : decode cX8_sets 27 = .ok (.iconst 3, 1) := dk_6 (dk_at dksX8_sets_1 3 rfl rfl)
theorem dX8_sets_28 : decode cX8_sets 28 = .ok (.iadd, 1) := dk_96 (dk_at dksX8_sets_1 4 rfl rfl)
theorem dX8_sets_29 : decode cX8_sets 29 = .ok (.iaload, 1) := dk_46 (dk_at dksX8_sets_1 5 rfl rfl)
theorem dX8_sets_30 : decode cX8_sets 30 = .ok (.invokevirtual 210, 3) := dk_182 0 210 (dk_at dksX8_sets_1 6 rfl rfl)
theorem dX8_sets_33 : decode cX8_sets 33 = .ok (.return_, 1) := dk_177 (dk_at dksX8_sets_1 9 rfl rfl)
abbrev cX8_lift : ByteArray := prog_17_method_81_code
def yX8_lift : MethodName := ⟨RX8, "lift", "(II)I"⟩
def dkwX8_lift_2 : List UInt8 := [182, 0, 82, 172]
abbrev dktX8_lift_2 : List UInt8 := dkwX8_lift_2 ++ []
def dkwX8_lift_1 : List UInt8 := [28, 182, 1, 64, 62, 29, 158, 0, 11, 42, 29, 182, 0, 78, 167, 0, 13, 42, 42, 27, 28, 182, 1, 67]
abbrev dktX8_lift_1 : List UInt8 := dkwX8_lift_1 ++ dktX8_lift_2
def dkwX8_lift_0 : List UInt8 := [42, 27, 182, 1, 15, 153, 0, 11, 42, 28, 182, 1, 9, 154, 0, 9, 42, 4, 182, 0, 78, 172, 42, 27]
abbrev dktX8_lift_0 : List UInt8 := dkwX8_lift_0 ++ dktX8_lift_1
theorem dksX8_lift_0 : cX8_lift.data.toList.drop 0 = dktX8_lift_0 := by decide +kernel
theorem dksX8_lift_1 : cX8_lift.data.toList.drop 24 = dktX8_lift_1 := dk_seg dksX8_lift_0 24 rfl rfl
theorem dksX8_lift_2 : cX8_lift.data.toList.drop 48 = dktX8_lift_2 := dk_seg dksX8_lift_1 24 rfl rfl
theorem dX8_lift_0 : decode cX8_lift 0 = .ok (.aload_n 0, 1) := dk_42 (dk_at dksX8_lift_0 0 rfl rfl)
theorem dX8_lift_1 : decode cX8_lift 1 = .ok (.iload_n 1, 1) := dk_27 (dk_at dksX8_lift_0 1 rfl rfl)
theorem dX8_lift_2 : decode cX8_lift 2 = .ok (.invokevirtual 271, 3) := dk_182 1 15 (dk_at dksX8_lift_0 2 rfl rfl)
theorem dX8_lift_5 : decode cX8_lift 5 = .ok (.ifCond .eq 11, 3) := dk_153 0 11 (dk_at dksX8_lift_0 5 rfl rfl)
theorem dX8_lift_8 : decode cX8_lift 8 = .ok (.aload_n 0, 1) := dk_42 (dk_at dksX8_lift_0 8 rfl rfl)
theorem dX8_lift_9 : decode cX8_lift 9 = .ok (.iload_n 2, 1) := dk_28 (dk_at dksX8_lift_0 9 rfl rfl)
theorem dX8_lift_10 : decode cX8_lift 10 = .ok (.invokevirtual 265, 3) := dk_182 1 9 (dk_at dksX8_lift_0 10 rfl rfl)
theorem dX8_lift_13 : decode cX8_lift 13 = .ok (.ifCond .ne 9, 3) := dk_154 0 9 (dk_at dksX8_lift_0 13 rfl rfl)
theorem dX8_lift_16 : decode cX8_lift 16 = .ok (.aload_n 0, 1) := dk_42 (dk_at dksX8_lift_0 16 rfl rfl)
theorem dX8_lift_17 : decode cX8_lift 17 = .ok (.iconst 1, 1) := dk_4 (dk_at dksX8_lift_0 17 rfl rfl)
theorem dX8_lift_18 : decode cX8_lift 18 = .ok (.invokevirtual 78, 3) := dk_182 0 78 (dk_at dksX8_lift_0 18 rfl rfl)
theorem dX8_lift_21 : decode cX8_lift 21 = .ok (.ireturn, 1) := dk_172 (dk_at dksX8_lift_0 21 rfl rfl)
theorem dX8_lift_22 : decode cX8_lift 22 = .ok (.aload_n 0, 1) := dk_42 (dk_at dksX8_lift_0 22 rfl rfl)
theorem dX8_lift_23 : decode cX8_lift 23 = .ok (.iload_n 1, 1) := dk_27 (dk_at dksX8_lift_0 23 rfl rfl)
theorem dX8_lift_24 : decode cX8_lift 24 = .ok (.iload_n 2, 1) := dk_28 (dk_at dksX8_lift_1 0 rfl rfl)
theorem dX8_lift_25 : decode cX8_lift 25 = .ok (.invokevirtual 320, 3) := dk_182 1 64 (dk_at dksX8_lift_1 1 rfl rfl)
theorem dX8_lift_28 : decode cX8_lift 28 = .ok (.istore_n 3, 1) := dk_62 (dk_at dksX8_lift_1 4 rfl rfl)
theorem dX8_lift_29 : decode cX8_lift 29 = .ok (.iload_n 3, 1) := dk_29 (dk_at dksX8_lift_1 5 rfl rfl)
theorem dX8_lift_30 : decode cX8_lift 30 = .ok (.ifCond .le 11, 3) := dk_158 0 11 (dk_at dksX8_lift_1 6 rfl rfl)
theorem dX8_lift_33 : decode cX8_lift 33 = .ok (.aload_n 0, 1) := dk_42 (dk_at dksX8_lift_1 9 rfl rfl)
theorem dX8_lift_34 : decode cX8_lift 34 = .ok (.iload_n 3, 1) := dk_29 (dk_at dksX8_lift_1 10 rfl rfl)
theorem dX8_lift_35 : decode cX8_lift 35 = .ok (.invokevirtual 78, 3) := dk_182 0 78 (dk_at dksX8_lift_1 11 rfl rfl)
theorem dX8_lift_38 : decode cX8_lift 38 = .ok (.goto 13, 3) := dk_167 0 13 (dk_at dksX8_lift_1 14 rfl rfl)
theorem dX8_lift_41 : decode cX8_lift 41 = .ok (.aload_n 0, 1) := dk_42 (dk_at dksX8_lift_1 17 rfl rfl)
theorem dX8_lift_42 : decode cX8_lift 42 = .ok (.aload_n 0, 1) := dk_42 (dk_at dksX8_lift_1 18 rfl rfl)
theorem dX8_lift_43 : decode cX8_lift 43 = .ok (.iload_n 1, 1) := dk_27 (dk_at dksX8_lift_1 19 rfl rfl)
theorem dX8_lift_44 : decode cX8_lift 44 = .ok (.iload_n 2, 1) := dk_28 (dk_at dksX8_lift_1 20 rfl rfl)
theorem dX8_lift_45 : decode cX8_lift 45 = .ok (.invokevirtual 323, 3) := dk_182 1 67 (dk_at dksX8_lift_1 21 rfl rfl)
theorem dX8_lift_48 : decode cX8_lift 48 = .ok (.invokevirtual 82, 3) := dk_182 0 82 (dk_at dksX8_lift_2 0 rfl rfl)
theorem dX8_lift_51 : decode cX8_lift 51 = .ok (.ireturn, 1) := dk_172 (dk_at dksX8_lift_2 3 rfl rfl)
abbrev cX8_wrongLift : ByteArray := prog_17_method_79_code
def yX8_wrongLift : MethodName := ⟨RX8, "wrongLift", "(II)I"⟩
def dkwX8_wrongLift_1 : List UInt8 := [42, 180, 0, 7, 3, 28, 184, 0, 171, 46, 160, 0, 7, 3, 167, 0, 5, 16, 7, 172]
abbrev dktX8_wrongLift_1 : List UInt8 := dkwX8_wrongLift_1 ++ []
def dkwX8_wrongLift_0 : List UInt8 := [42, 27, 28, 182, 1, 55, 2, 160, 0, 8, 16, 6, 167, 0, 31, 42, 180, 0, 7, 27, 184, 1, 18, 46]
abbrev dktX8_wrongLift_0 : List UInt8 := dkwX8_wrongLift_0 ++ dktX8_wrongLift_1
theorem dksX8_wrongLift_0 : cX8_wrongLift.data.toList.drop 0 = dktX8_wrongLift_0 := by decide +kernel
theorem dksX8_wrongLift_1 : cX8_wrongLift.data.toList.drop 24 = dktX8_wrongLift_1 := dk_seg dksX8_wrongLift_0 24 rfl rfl
theorem dX8_wrongLift_0 : decode cX8_wrongLift 0 = .ok (.aload_n 0, 1) := dk_42 (dk_at dksX8_wrongLift_0 0 rfl rfl)
theorem dX8_wrongLift_1 : decode cX8_wrongLift 1 = .ok (.iload_n 1, 1) := dk_27 (dk_at dksX8_wrongLift_0 1 rfl rfl)
theorem dX8_wrongLift_2 : decode cX8_wrongLift 2 = .ok (.iload_n 2, 1) := dk_28 (dk_at dksX8_wrongLift_0 2 rfl rfl)
theorem dX8_wrongLift_3 : decode cX8_wrongLift 3 = .ok (.invokevirtual 311, 3) := dk_182 1 55 (dk_at dksX8_wrongLift_0 3 rfl rfl)
theorem dX8_wrongLift_6 : decode cX8_wrongLift 6 = .ok (.iconst (-1), 1) := dk_2 (dk_at dksX8_wrongLift_0 6 rfl rfl)
theorem dX8_wrongLift_7 : decode cX8_wrongLift 7 = .ok (.if_icmp .ne 8, 3) := dk_160 0 8 (dk_at dksX8_wrongLift_0 7 rfl rfl)
theorem dX8_wrongLift_10 : decode cX8_wrongLift 10 = .ok (.bipush 6, 2) := dk_16 6 (dk_at dksX8_wrongLift_0 10 rfl rfl)
theorem dX8_wrongLift_12 : decode cX8_wrongLift 12 = .ok (.goto 31, 3) := dk_167 0 31 (dk_at dksX8_wrongLift_0 12 rfl rfl)
theorem dX8_wrongLift_15 : decode cX8_wrongLift 15 = .ok (.aload_n 0, 1) := dk_42 (dk_at dksX8_wrongLift_0 15 rfl rfl)
theorem dX8_wrongLift_16 : decode cX8_wrongLift 16 = .ok (.getfield 7, 3) := dk_180 0 7 (dk_at dksX8_wrongLift_0 16 rfl rfl)
theorem dX8_wrongLift_19 : decode cX8_wrongLift 19 = .ok (.iload_n 1, 1) := dk_27 (dk_at dksX8_wrongLift_0 19 rfl rfl)
theorem dX8_wrongLift_20 : decode cX8_wrongLift 20 = .ok (.invokestatic 274, 3) := dk_184 1 18 (dk_at dksX8_wrongLift_0 20 rfl rfl)
theorem dX8_wrongLift_23 : decode cX8_wrongLift 23 = .ok (.iaload, 1) := dk_46 (dk_at dksX8_wrongLift_0 23 rfl rfl)
theorem dX8_wrongLift_24 : decode cX8_wrongLift 24 = .ok (.aload_n 0, 1) := dk_42 (dk_at dksX8_wrongLift_1 0 rfl rfl)
theorem dX8_wrongLift_25 : decode cX8_wrongLift 25 = .ok (.getfield 7, 3) := dk_180 0 7 (dk_at dksX8_wrongLift_1 1 rfl rfl)
theorem dX8_wrongLift_28 : decode cX8_wrongLift 28 = .ok (.iconst 0, 1) := dk_3 (dk_at dksX8_wrongLift_1 4 rfl rfl)
theorem dX8_wrongLift_29 : decode cX8_wrongLift 29 = .ok (.iload_n 2, 1) := dk_28 (dk_at dksX8_wrongLift_1 5 rfl rfl)
theorem dX8_wrongLift_30 : decode cX8_wrongLift 30 = .ok (.invokestatic 171, 3) := dk_184 0 171 (dk_at dksX8_wrongLift_1 6 rfl rfl)
theorem dX8_wrongLift_33 : decode cX8_wrongLift 33 = .ok (.iaload, 1) := dk_46 (dk_at dksX8_wrongLift_1 9 rfl rfl)
theorem dX8_wrongLift_34 : decode cX8_wrongLift 34 = .ok (.if_icmp .ne 7, 3) := dk_160 0 7 (dk_at dksX8_wrongLift_1 10 rfl rfl)
theorem dX8_wrongLift_37 : decode cX8_wrongLift 37 = .ok (.iconst 0, 1) := dk_3 (dk_at dksX8_wrongLift_1 13 rfl rfl)
theorem dX8_wrongLift_38 : decode cX8_wrongLift 38 = .ok (.goto 5, 3) := dk_167 0 5 (dk_at dksX8_wrongLift_1 14 rfl rfl)
theorem dX8_wrongLift_41 : decode cX8_wrongLift 41 = .ok (.bipush 7, 2) := dk_16 7 (dk_at dksX8_wrongLift_1 17 rfl rfl)
theorem dX8_wrongLift_43 : decode cX8_wrongLift 43 = .ok (.ireturn, 1) := dk_172 (dk_at dksX8_wrongLift_1 19 rfl rfl)
abbrev cX8_ownOn : ByteArray := prog_17_method_78_code
def yX8_ownOn : MethodName := ⟨RX8, "ownOn", "(II)I"⟩
def dkwX8_ownOn_1 : List UInt8 := [132, 3, 255, 167, 255, 237, 2, 172]
abbrev dktX8_ownOn_1 : List UInt8 := dkwX8_ownOn_1 ++ []
def dkwX8_ownOn_0 : List UInt8 := [42, 28, 182, 1, 21, 4, 100, 62, 29, 155, 0, 21, 42, 28, 29, 182, 1, 52, 27, 160, 0, 5, 29, 172]
abbrev dktX8_ownOn_0 : List UInt8 := dkwX8_ownOn_0 ++ dktX8_ownOn_1
theorem dksX8_ownOn_0 : cX8_ownOn.data.toList.drop 0 = dktX8_ownOn_0 := by decide +kernel
theorem dksX8_ownOn_1 : cX8_ownOn.data.toList.drop 24 = dktX8_ownOn_1 := dk_seg dksX8_ownOn_0 24 rfl rfl
theorem dX8_ownOn_0 : decode cX8_ownOn 0 = .ok (.aload_n 0, 1) := dk_42 (dk_at dksX8_ownOn_0 0 rfl rfl)
theorem dX8_ownOn_1 : decode cX8_ownOn 1 = .ok (.iload_n 2, 1) := dk_28 (dk_at dksX8_ownOn_0 1 rfl rfl)
theorem dX8_ownOn_2 : decode cX8_ownOn 2 = .ok (.invokevirtual 277, 3) := dk_182 1 21 (dk_at dksX8_ownOn_0 2 rfl rfl)
theorem dX8_ownOn_5 : decode cX8_ownOn 5 = .ok (.iconst 1, 1) := dk_4 (dk_at dksX8_ownOn_0 5 rfl rfl)
theorem dX8_ownOn_6 : decode cX8_ownOn 6 = .ok (.isub, 1) := dk_100 (dk_at dksX8_ownOn_0 6 rfl rfl)
theorem dX8_ownOn_7 : decode cX8_ownOn 7 = .ok (.istore_n 3, 1) := dk_62 (dk_at dksX8_ownOn_0 7 rfl rfl)
theorem dX8_ownOn_8 : decode cX8_ownOn 8 = .ok (.iload_n 3, 1) := dk_29 (dk_at dksX8_ownOn_0 8 rfl rfl)
theorem dX8_ownOn_9 : decode cX8_ownOn 9 = .ok (.ifCond .lt 21, 3) := dk_155 0 21 (dk_at dksX8_ownOn_0 9 rfl rfl)
theorem dX8_ownOn_12 : decode cX8_ownOn 12 = .ok (.aload_n 0, 1) := dk_42 (dk_at dksX8_ownOn_0 12 rfl rfl)
theorem dX8_ownOn_13 : decode cX8_ownOn 13 = .ok (.iload_n 2, 1) := dk_28 (dk_at dksX8_ownOn_0 13 rfl rfl)
theorem dX8_ownOn_14 : decode cX8_ownOn 14 = .ok (.iload_n 3, 1) := dk_29 (dk_at dksX8_ownOn_0 14 rfl rfl)
theorem dX8_ownOn_15 : decode cX8_ownOn 15 = .ok (.invokevirtual 308, 3) := dk_182 1 52 (dk_at dksX8_ownOn_0 15 rfl rfl)
theorem dX8_ownOn_18 : decode cX8_ownOn 18 = .ok (.iload_n 1, 1) := dk_27 (dk_at dksX8_ownOn_0 18 rfl rfl)
theorem dX8_ownOn_19 : decode cX8_ownOn 19 = .ok (.if_icmp .ne 5, 3) := dk_160 0 5 (dk_at dksX8_ownOn_0 19 rfl rfl)
theorem dX8_ownOn_22 : decode cX8_ownOn 22 = .ok (.iload_n 3, 1) := dk_29 (dk_at dksX8_ownOn_0 22 rfl rfl)
theorem dX8_ownOn_23 : decode cX8_ownOn 23 = .ok (.ireturn, 1) := dk_172 (dk_at dksX8_ownOn_0 23 rfl rfl)
theorem dX8_ownOn_24 : decode cX8_ownOn 24 = .ok (.iinc 3 (-1), 3) := dk_132 3 255 (dk_at dksX8_ownOn_1 0 rfl rfl)
theorem dX8_ownOn_27 : decode cX8_ownOn 27 = .ok (.goto (-19), 3) := dk_167 255 237 (dk_at dksX8_ownOn_1 3 rfl rfl)
theorem dX8_ownOn_30 : decode cX8_ownOn 30 = .ok (.iconst (-1), 1) := dk_2 (dk_at dksX8_ownOn_1 6 rfl rfl)
theorem dX8_ownOn_31 : decode cX8_ownOn 31 = .ok (.ireturn, 1) := dk_172 (dk_at dksX8_ownOn_1 7 rfl rfl)
abbrev cX8_whoAt : ByteArray := prog_17_method_62_code
def yX8_whoAt : MethodName := ⟨RX8, "whoAt", "(II)I"⟩
def dkwX8_whoAt_0 : List UInt8 := [42, 180, 0, 7, 3, 27, 28, 184, 0, 174, 46, 172]
abbrev dktX8_whoAt_0 : List UInt8 := dkwX8_whoAt_0 ++ []
theorem dksX8_whoAt_0 : cX8_whoAt.data.toList.drop 0 = dktX8_whoAt_0 := by decide +kernel
theorem dX8_whoAt_0 : decode cX8_whoAt 0 = .ok (.aload_n 0, 1) := dk_42 (dk_at dksX8_whoAt_0 0 rfl rfl)
theorem dX8_whoAt_1 : decode cX8_whoAt 1 = .ok (.getfield 7, 3) := dk_180 0 7 (dk_at dksX8_whoAt_0 1 rfl rfl)
theorem dX8_whoAt_4 : decode cX8_whoAt 4 = .ok (.iconst 0, 1) := dk_3 (dk_at dksX8_whoAt_0 4 rfl rfl)
theorem dX8_whoAt_5 : decode cX8_whoAt 5 = .ok (.iload_n 1, 1) := dk_27 (dk_at dksX8_whoAt_0 5 rfl rfl)
theorem dX8_whoAt_6 : decode cX8_whoAt 6 = .ok (.iload_n 2, 1) := dk_28 (dk_at dksX8_whoAt_0 6 rfl rfl)
theorem dX8_whoAt_7 : decode cX8_whoAt 7 = .ok (.invokestatic 174, 3) := dk_184 0 174 (dk_at dksX8_whoAt_0 7 rfl rfl)
theorem dX8_whoAt_10 : decode cX8_whoAt 10 = .ok (.iaload, 1) := dk_46 (dk_at dksX8_whoAt_0 10 rfl rfl)
theorem dX8_whoAt_11 : decode cX8_whoAt 11 = .ok (.ireturn, 1) := dk_172 (dk_at dksX8_whoAt_0 11 rfl rfl)
abbrev cX8_lifts : ByteArray := prog_17_method_80_code
def yX8_lifts : MethodName := ⟨RX8, "lifts", "(II)I"⟩
def dkwX8_lifts_1 : List UInt8 := [180, 0, 7, 27, 184, 1, 18, 5, 96, 92, 46, 4, 96, 79, 21, 4, 172]
abbrev dktX8_lifts_1 : List UInt8 := dkwX8_lifts_1 ++ []
def dkwX8_lifts_0 : List UInt8 := [42, 27, 28, 182, 1, 55, 62, 42, 28, 29, 182, 1, 58, 54, 4, 42, 28, 29, 182, 1, 61, 42]
abbrev dktX8_lifts_0 : List UInt8 := dkwX8_lifts_0 ++ dktX8_lifts_1
theorem dksX8_lifts_0 : cX8_lifts.data.toList.drop 0 = dktX8_lifts_0 := by decide +kernel
theorem dksX8_lifts_1 : cX8_lifts.data.toList.drop 22 = dktX8_lifts_1 := dk_seg dksX8_lifts_0 22 rfl rfl
theorem dX8_lifts_0 : decode cX8_lifts 0 = .ok (.aload_n 0, 1) := dk_42 (dk_at dksX8_lifts_0 0 rfl rfl)
theorem dX8_lifts_1 : decode cX8_lifts 1 = .ok (.iload_n 1, 1) := dk_27 (dk_at dksX8_lifts_0 1 rfl rfl)
theorem dX8_lifts_2 : decode cX8_lifts 2 = .ok (.iload_n 2, 1) := dk_28 (dk_at dksX8_lifts_0 2 rfl rfl)
theorem dX8_lifts_3 : decode cX8_lifts 3 = .ok (.invokevirtual 311, 3) := dk_182 1 55 (dk_at dksX8_lifts_0 3 rfl rfl)
theorem dX8_lifts_6 : decode cX8_lifts 6 = .ok (.istore_n 3, 1) := dk_62 (dk_at dksX8_lifts_0 6 rfl rfl)
theorem dX8_lifts_7 : decode cX8_lifts 7 = .ok (.aload_n 0, 1) := dk_42 (dk_at dksX8_lifts_0 7 rfl rfl)
theorem dX8_lifts_8 : decode cX8_lifts 8 = .ok (.iload_n 2, 1) := dk_28 (dk_at dksX8_lifts_0 8 rfl rfl)
theorem dX8_lifts_9 : decode cX8_lifts 9 = .ok (.iload_n 3, 1) := dk_29 (dk_at dksX8_lifts_0 9 rfl rfl)
theorem dX8_lifts_10 : decode cX8_lifts 10 = .ok (.invokevirtual 314, 3) := dk_182 1 58 (dk_at dksX8_lifts_0 10 rfl rfl)
theorem dX8_lifts_13 : decode cX8_lifts 13 = .ok (.istore 4, 2) := dk_54 4 (dk_at dksX8_lifts_0 13 rfl rfl)
theorem dX8_lifts_15 : decode cX8_lifts 15 = .ok (.aload_n 0, 1) := dk_42 (dk_at dksX8_lifts_0 15 rfl rfl)
theorem dX8_lifts_16 : decode cX8_lifts 16 = .ok (.iload_n 2, 1) := dk_28 (dk_at dksX8_lifts_0 16 rfl rfl)
theorem dX8_lifts_17 : decode cX8_lifts 17 = .ok (.iload_n 3, 1) := dk_29 (dk_at dksX8_lifts_0 17 rfl rfl)
theorem dX8_lifts_18 : decode cX8_lifts 18 = .ok (.invokevirtual 317, 3) := dk_182 1 61 (dk_at dksX8_lifts_0 18 rfl rfl)
theorem dX8_lifts_21 : decode cX8_lifts 21 = .ok (.aload_n 0, 1) := dk_42 (dk_at dksX8_lifts_0 21 rfl rfl)
theorem dX8_lifts_22 : decode cX8_lifts 22 = .ok (.getfield 7, 3) := dk_180 0 7 (dk_at dksX8_lifts_1 0 rfl rfl)
theorem dX8_lifts_25 : decode cX8_lifts 25 = .ok (.iload_n 1, 1) := dk_27 (dk_at dksX8_lifts_1 3 rfl rfl)
theorem dX8_lifts_26 : decode cX8_lifts 26 = .ok (.invokestatic 274, 3) := dk_184 1 18 (dk_at dksX8_lifts_1 4 rfl rfl)
theorem dX8_lifts_29 : decode cX8_lifts 29 = .ok (.iconst 2, 1) := dk_5 (dk_at dksX8_lifts_1 7 rfl rfl)
theorem dX8_lifts_30 : decode cX8_lifts 30 = .ok (.iadd, 1) := dk_96 (dk_at dksX8_lifts_1 8 rfl rfl)
theorem dX8_lifts_31 : decode cX8_lifts 31 = .ok (.dup2, 1) := dk_92 (dk_at dksX8_lifts_1 9 rfl rfl)
theorem dX8_lifts_32 : decode cX8_lifts 32 = .ok (.iaload, 1) := dk_46 (dk_at dksX8_lifts_1 10 rfl rfl)
theorem dX8_lifts_33 : decode cX8_lifts 33 = .ok (.iconst 1, 1) := dk_4 (dk_at dksX8_lifts_1 11 rfl rfl)
theorem dX8_lifts_34 : decode cX8_lifts 34 = .ok (.iadd, 1) := dk_96 (dk_at dksX8_lifts_1 12 rfl rfl)
theorem dX8_lifts_35 : decode cX8_lifts 35 = .ok (.iastore, 1) := dk_79 (dk_at dksX8_lifts_1 13 rfl rfl)
theorem dX8_lifts_36 : decode cX8_lifts 36 = .ok (.iload 4, 2) := dk_21 4 (dk_at dksX8_lifts_1 14 rfl rfl)
theorem dX8_lifts_38 : decode cX8_lifts 38 = .ok (.ireturn, 1) := dk_172 (dk_at dksX8_lifts_1 16 rfl rfl)
abbrev cX8_minuteAt : ByteArray := prog_17_method_63_code
def yX8_minuteAt : MethodName := ⟨RX8, "minuteAt", "(II)I"⟩
def dkwX8_minuteAt_0 : List UInt8 := [42, 180, 0, 7, 3, 27, 28, 184, 0, 174, 4, 96, 46, 172]
abbrev dktX8_minuteAt_0 : List UInt8 := dkwX8_minuteAt_0 ++ []
theorem dksX8_minuteAt_0 : cX8_minuteAt.data.toList.drop 0 = dktX8_minuteAt_0 := by decide +kernel
theorem dX8_minuteAt_0 : decode cX8_minuteAt 0 = .ok (.aload_n 0, 1) := dk_42 (dk_at dksX8_minuteAt_0 0 rfl rfl)
theorem dX8_minuteAt_1 : decode cX8_minuteAt 1 = .ok (.getfield 7, 3) := dk_180 0 7 (dk_at dksX8_minuteAt_0 1 rfl rfl)
theorem dX8_minuteAt_4 : decode cX8_minuteAt 4 = .ok (.iconst 0, 1) := dk_3 (dk_at dksX8_minuteAt_0 4 rfl rfl)
theorem dX8_minuteAt_5 : decode cX8_minuteAt 5 = .ok (.iload_n 1, 1) := dk_27 (dk_at dksX8_minuteAt_0 5 rfl rfl)
theorem dX8_minuteAt_6 : decode cX8_minuteAt 6 = .ok (.iload_n 2, 1) := dk_28 (dk_at dksX8_minuteAt_0 6 rfl rfl)
theorem dX8_minuteAt_7 : decode cX8_minuteAt 7 = .ok (.invokestatic 174, 3) := dk_184 0 174 (dk_at dksX8_minuteAt_0 7 rfl rfl)
theorem dX8_minuteAt_10 : decode cX8_minuteAt 10 = .ok (.iconst 1, 1) := dk_4 (dk_at dksX8_minuteAt_0 10 rfl rfl)
theorem dX8_minuteAt_11 : decode cX8_minuteAt 11 = .ok (.iadd, 1) := dk_96 (dk_at dksX8_minuteAt_0 11 rfl rfl)
theorem dX8_minuteAt_12 : decode cX8_minuteAt 12 = .ok (.iaload, 1) := dk_46 (dk_at dksX8_minuteAt_0 12 rfl rfl)
theorem dX8_minuteAt_13 : decode cX8_minuteAt 13 = .ok (.ireturn, 1) := dk_172 (dk_at dksX8_minuteAt_0 13 rfl rfl)
abbrev cX8_goes : ByteArray := prog_17_method_40_code
def yX8_goes : MethodName := ⟨RX8, "goes", "(II)V"⟩
def dkwX8_goes_4 : List UInt8 := [184, 0, 174, 4, 96, 46, 79, 132, 4, 1, 167, 255, 184, 177]
abbrev dktX8_goes_4 : List UInt8 := dkwX8_goes_4 ++ []
def dkwX8_goes_3 : List UInt8 := [79, 42, 180, 0, 7, 3, 27, 21, 4, 184, 0, 174, 4, 96, 42, 180, 0, 7, 3, 27, 21, 4, 4, 96]
abbrev dktX8_goes_3 : List UInt8 := dkwX8_goes_3 ++ dktX8_goes_4
def dkwX8_goes_2 : List UInt8 := [180, 0, 7, 3, 27, 21, 4, 184, 0, 174, 42, 180, 0, 7, 3, 27, 21, 4, 4, 96, 184, 0, 174, 46]
abbrev dktX8_goes_2 : List UInt8 := dkwX8_goes_2 ++ dktX8_goes_3
def dkwX8_goes_1 : List UInt8 := [92, 46, 4, 100, 79, 28, 54, 4, 21, 4, 42, 180, 0, 7, 29, 5, 96, 46, 162, 0, 65, 42]
abbrev dktX8_goes_1 : List UInt8 := dkwX8_goes_1 ++ dktX8_goes_2
def dkwX8_goes_0 : List UInt8 := [3, 27, 184, 0, 171, 62, 42, 180, 0, 7, 29, 5, 96, 92, 46, 4, 100, 79, 42, 180, 0, 7, 16, 8]
abbrev dktX8_goes_0 : List UInt8 := dkwX8_goes_0 ++ dktX8_goes_1
theorem dksX8_goes_0 : cX8_goes.data.toList.drop 0 = dktX8_goes_0 := by decide +kernel
theorem dksX8_goes_1 : cX8_goes.data.toList.drop 24 = dktX8_goes_1 := dk_seg dksX8_goes_0 24 rfl rfl
theorem dksX8_goes_2 : cX8_goes.data.toList.drop 46 = dktX8_goes_2 := dk_seg dksX8_goes_1 22 rfl rfl
theorem dksX8_goes_3 : cX8_goes.data.toList.drop 70 = dktX8_goes_3 := dk_seg dksX8_goes_2 24 rfl rfl
theorem dksX8_goes_4 : cX8_goes.data.toList.drop 94 = dktX8_goes_4 := dk_seg dksX8_goes_3 24 rfl rfl
theorem dX8_goes_0 : decode cX8_goes 0 = .ok (.iconst 0, 1) := dk_3 (dk_at dksX8_goes_0 0 rfl rfl)
theorem dX8_goes_1 : decode cX8_goes 1 = .ok (.iload_n 1, 1) := dk_27 (dk_at dksX8_goes_0 1 rfl rfl)
theorem dX8_goes_2 : decode cX8_goes 2 = .ok (.invokestatic 171, 3) := dk_184 0 171 (dk_at dksX8_goes_0 2 rfl rfl)
theorem dX8_goes_5 : decode cX8_goes 5 = .ok (.istore_n 3, 1) := dk_62 (dk_at dksX8_goes_0 5 rfl rfl)
theorem dX8_goes_6 : decode cX8_goes 6 = .ok (.aload_n 0, 1) := dk_42 (dk_at dksX8_goes_0 6 rfl rfl)
theorem dX8_goes_7 : decode cX8_goes 7 = .ok (.getfield 7, 3) := dk_180 0 7 (dk_at dksX8_goes_0 7 rfl rfl)
theorem dX8_goes_10 : decode cX8_goes 10 = .ok (.iload_n 3, 1) := dk_29 (dk_at dksX8_goes_0 10 rfl rfl)
theorem dX8_goes_11 : decode cX8_goes 11 = .ok (.iconst 2, 1) := dk_5 (dk_at dksX8_goes_0 11 rfl rfl)
theorem dX8_goes_12 : decode cX8_goes 12 = .ok (.iadd, 1) := dk_96 (dk_at dksX8_goes_0 12 rfl rfl)
theorem dX8_goes_13 : decode cX8_goes 13 = .ok (.dup2, 1) := dk_92 (dk_at dksX8_goes_0 13 rfl rfl)
theorem dX8_goes_14 : decode cX8_goes 14 = .ok (.iaload, 1) := dk_46 (dk_at dksX8_goes_0 14 rfl rfl)
theorem dX8_goes_15 : decode cX8_goes 15 = .ok (.iconst 1, 1) := dk_4 (dk_at dksX8_goes_0 15 rfl rfl)
theorem dX8_goes_16 : decode cX8_goes 16 = .ok (.isub, 1) := dk_100 (dk_at dksX8_goes_0 16 rfl rfl)
theorem dX8_goes_17 : decode cX8_goes 17 = .ok (.iastore, 1) := dk_79 (dk_at dksX8_goes_0 17 rfl rfl)
theorem dX8_goes_18 : decode cX8_goes 18 = .ok (.aload_n 0, 1) := dk_42 (dk_at dksX8_goes_0 18 rfl rfl)
theorem dX8_goes_19 : decode cX8_goes 19 = .ok (.getfield 7, 3) := dk_180 0 7 (dk_at dksX8_goes_0 19 rfl rfl)
theorem dX8_goes_22 : decode cX8_goes 22 = .ok (.bipush 8, 2) := dk_16 8 (dk_at dksX8_goes_0 22 rfl rfl)
theorem dX8_goes_24 : decode cX8_goes 24 = .ok (.dup2, 1) := dk_92 (dk_at dksX8_goes_1 0 rfl rfl)
theorem dX8_goes_25 : decode cX8_goes 25 = .ok (.iaload, 1) := dk_46 (dk_at dksX8_goes_1 1 rfl rfl)
theorem dX8_goes_26 : decode cX8_goes 26 = .ok (.iconst 1, 1) := dk_4 (dk_at dksX8_goes_1 2 rfl rfl)
theorem dX8_goes_27 : decode cX8_goes 27 = .ok (.isub, 1) := dk_100 (dk_at dksX8_goes_1 3 rfl rfl)
theorem dX8_goes_28 : decode cX8_goes 28 = .ok (.iastore, 1) := dk_79 (dk_at dksX8_goes_1 4 rfl rfl)
theorem dX8_goes_29 : decode cX8_goes 29 = .ok (.iload_n 2, 1) := dk_28 (dk_at dksX8_goes_1 5 rfl rfl)
theorem dX8_goes_30 : decode cX8_goes 30 = .ok (.istore 4, 2) := dk_54 4 (dk_at dksX8_goes_1 6 rfl rfl)
theorem dX8_goes_32 : decode cX8_goes 32 = .ok (.iload 4, 2) := dk_21 4 (dk_at dksX8_goes_1 8 rfl rfl)
theorem dX8_goes_34 : decode cX8_goes 34 = .ok (.aload_n 0, 1) := dk_42 (dk_at dksX8_goes_1 10 rfl rfl)
theorem dX8_goes_35 : decode cX8_goes 35 = .ok (.getfield 7, 3) := dk_180 0 7 (dk_at dksX8_goes_1 11 rfl rfl)
theorem dX8_goes_38 : decode cX8_goes 38 = .ok (.iload_n 3, 1) := dk_29 (dk_at dksX8_goes_1 14 rfl rfl)
theorem dX8_goes_39 : decode cX8_goes 39 = .ok (.iconst 2, 1) := dk_5 (dk_at dksX8_goes_1 15 rfl rfl)
theorem dX8_goes_40 : decode cX8_goes 40 = .ok (.iadd, 1) := dk_96 (dk_at dksX8_goes_1 16 rfl rfl)
theorem dX8_goes_41 : decode cX8_goes 41 = .ok (.iaload, 1) := dk_46 (dk_at dksX8_goes_1 17 rfl rfl)
theorem dX8_goes_42 : decode cX8_goes 42 = .ok (.if_icmp .ge 65, 3) := dk_162 0 65 (dk_at dksX8_goes_1 18 rfl rfl)
theorem dX8_goes_45 : decode cX8_goes 45 = .ok (.aload_n 0, 1) := dk_42 (dk_at dksX8_goes_1 21 rfl rfl)
theorem dX8_goes_46 : decode cX8_goes 46 = .ok (.getfield 7, 3) := dk_180 0 7 (dk_at dksX8_goes_2 0 rfl rfl)
theorem dX8_goes_49 : decode cX8_goes 49 = .ok (.iconst 0, 1) := dk_3 (dk_at dksX8_goes_2 3 rfl rfl)
theorem dX8_goes_50 : decode cX8_goes 50 = .ok (.iload_n 1, 1) := dk_27 (dk_at dksX8_goes_2 4 rfl rfl)
theorem dX8_goes_51 : decode cX8_goes 51 = .ok (.iload 4, 2) := dk_21 4 (dk_at dksX8_goes_2 5 rfl rfl)
theorem dX8_goes_53 : decode cX8_goes 53 = .ok (.invokestatic 174, 3) := dk_184 0 174 (dk_at dksX8_goes_2 7 rfl rfl)
theorem dX8_goes_56 : decode cX8_goes 56 = .ok (.aload_n 0, 1) := dk_42 (dk_at dksX8_goes_2 10 rfl rfl)
theorem dX8_goes_57 : decode cX8_goes 57 = .ok (.getfield 7, 3) := dk_180 0 7 (dk_at dksX8_goes_2 11 rfl rfl)
theorem dX8_goes_60 : decode cX8_goes 60 = .ok (.iconst 0, 1) := dk_3 (dk_at dksX8_goes_2 14 rfl rfl)
theorem dX8_goes_61 : decode cX8_goes 61 = .ok (.iload_n 1, 1) := dk_27 (dk_at dksX8_goes_2 15 rfl rfl)
theorem dX8_goes_62 : decode cX8_goes 62 = .ok (.iload 4, 2) := dk_21 4 (dk_at dksX8_goes_2 16 rfl rfl)
theorem dX8_goes_64 : decode cX8_goes 64 = .ok (.iconst 1, 1) := dk_4 (dk_at dksX8_goes_2 18 rfl rfl)
theorem dX8_goes_65 : decode cX8_goes 65 = .ok (.iadd, 1) := dk_96 (dk_at dksX8_goes_2 19 rfl rfl)
theorem dX8_goes_66 : decode cX8_goes 66 = .ok (.invokestatic 174, 3) := dk_184 0 174 (dk_at dksX8_goes_2 20 rfl rfl)
theorem dX8_goes_69 : decode cX8_goes 69 = .ok (.iaload, 1) := dk_46 (dk_at dksX8_goes_2 23 rfl rfl)
theorem dX8_goes_70 : decode cX8_goes 70 = .ok (.iastore, 1) := dk_79 (dk_at dksX8_goes_3 0 rfl rfl)
theorem dX8_goes_71 : decode cX8_goes 71 = .ok (.aload_n 0, 1) := dk_42 (dk_at dksX8_goes_3 1 rfl rfl)
theorem dX8_goes_72 : decode cX8_goes 72 = .ok (.getfield 7, 3) := dk_180 0 7 (dk_at dksX8_goes_3 2 rfl rfl)
theorem dX8_goes_75 : decode cX8_goes 75 = .ok (.iconst 0, 1) := dk_3 (dk_at dksX8_goes_3 5 rfl rfl)
theorem dX8_goes_76 : decode cX8_goes 76 = .ok (.iload_n 1, 1) := dk_27 (dk_at dksX8_goes_3 6 rfl rfl)
theorem dX8_goes_77 : decode cX8_goes 77 = .ok (.iload 4, 2) := dk_21 4 (dk_at dksX8_goes_3 7 rfl rfl)
theorem dX8_goes_79 : decode cX8_goes 79 = .ok (.invokestatic 174, 3) := dk_184 0 174 (dk_at dksX8_goes_3 9 rfl rfl)
theorem dX8_goes_82 : decode cX8_goes 82 = .ok (.iconst 1, 1) := dk_4 (dk_at dksX8_goes_3 12 rfl rfl)
theorem dX8_goes_83 : decode cX8_goes 83 = .ok (.iadd, 1) := dk_96 (dk_at dksX8_goes_3 13 rfl rfl)
theorem dX8_goes_84 : decode cX8_goes 84 = .ok (.aload_n 0, 1) := dk_42 (dk_at dksX8_goes_3 14 rfl rfl)
theorem dX8_goes_85 : decode cX8_goes 85 = .ok (.getfield 7, 3) := dk_180 0 7 (dk_at dksX8_goes_3 15 rfl rfl)
theorem dX8_goes_88 : decode cX8_goes 88 = .ok (.iconst 0, 1) := dk_3 (dk_at dksX8_goes_3 18 rfl rfl)
theorem dX8_goes_89 : decode cX8_goes 89 = .ok (.iload_n 1, 1) := dk_27 (dk_at dksX8_goes_3 19 rfl rfl)
theorem dX8_goes_90 : decode cX8_goes 90 = .ok (.iload 4, 2) := dk_21 4 (dk_at dksX8_goes_3 20 rfl rfl)
theorem dX8_goes_92 : decode cX8_goes 92 = .ok (.iconst 1, 1) := dk_4 (dk_at dksX8_goes_3 22 rfl rfl)
theorem dX8_goes_93 : decode cX8_goes 93 = .ok (.iadd, 1) := dk_96 (dk_at dksX8_goes_3 23 rfl rfl)
theorem dX8_goes_94 : decode cX8_goes 94 = .ok (.invokestatic 174, 3) := dk_184 0 174 (dk_at dksX8_goes_4 0 rfl rfl)
theorem dX8_goes_97 : decode cX8_goes 97 = .ok (.iconst 1, 1) := dk_4 (dk_at dksX8_goes_4 3 rfl rfl)
theorem dX8_goes_98 : decode cX8_goes 98 = .ok (.iadd, 1) := dk_96 (dk_at dksX8_goes_4 4 rfl rfl)
theorem dX8_goes_99 : decode cX8_goes 99 = .ok (.iaload, 1) := dk_46 (dk_at dksX8_goes_4 5 rfl rfl)
theorem dX8_goes_100 : decode cX8_goes 100 = .ok (.iastore, 1) := dk_79 (dk_at dksX8_goes_4 6 rfl rfl)
theorem dX8_goes_101 : decode cX8_goes 101 = .ok (.iinc 4 1, 3) := dk_132 4 1 (dk_at dksX8_goes_4 7 rfl rfl)
theorem dX8_goes_104 : decode cX8_goes 104 = .ok (.goto (-72), 3) := dk_167 255 184 (dk_at dksX8_goes_4 10 rfl rfl)
theorem dX8_goes_107 : decode cX8_goes 107 = .ok (.return_, 1) := dk_177 (dk_at dksX8_goes_4 13 rfl rfl)
abbrev cX8_gull : ByteArray := prog_17_method_84_code
def yX8_gull : MethodName := ⟨RX8, "gull", "(II)I"⟩
def dkwX8_gull_2 : List UInt8 := [42, 27, 28, 182, 1, 73, 182, 0, 82, 172]
abbrev dktX8_gull_2 : List UInt8 := dkwX8_gull_2 ++ []
def dkwX8_gull_1 : List UInt8 := [182, 0, 78, 172, 42, 27, 28, 182, 1, 70, 62, 29, 158, 0, 11, 42, 29, 182, 0, 78, 167, 0, 13, 42]
abbrev dktX8_gull_1 : List UInt8 := dkwX8_gull_1 ++ dktX8_gull_2
def dkwX8_gull_0 : List UInt8 := [42, 27, 182, 1, 9, 153, 0, 16, 42, 28, 182, 1, 9, 153, 0, 8, 27, 28, 160, 0, 9, 42, 4]
abbrev dktX8_gull_0 : List UInt8 := dkwX8_gull_0 ++ dktX8_gull_1
theorem dksX8_gull_0 : cX8_gull.data.toList.drop 0 = dktX8_gull_0 := by decide +kernel
theorem dksX8_gull_1 : cX8_gull.data.toList.drop 23 = dktX8_gull_1 := dk_seg dksX8_gull_0 23 rfl rfl
theorem dksX8_gull_2 : cX8_gull.data.toList.drop 47 = dktX8_gull_2 := dk_seg dksX8_gull_1 24 rfl rfl
theorem dX8_gull_0 : decode cX8_gull 0 = .ok (.aload_n 0, 1) := dk_42 (dk_at dksX8_gull_0 0 rfl rfl)
theorem dX8_gull_1 : decode cX8_gull 1 = .ok (.iload_n 1, 1) := dk_27 (dk_at dksX8_gull_0 1 rfl rfl)
theorem dX8_gull_2 : decode cX8_gull 2 = .ok (.invokevirtual 265, 3) := dk_182 1 9 (dk_at dksX8_gull_0 2 rfl rfl)
theorem dX8_gull_5 : decode cX8_gull 5 = .ok (.ifCond .eq 16, 3) := dk_153 0 16 (dk_at dksX8_gull_0 5 rfl rfl)
theorem dX8_gull_8 : decode cX8_gull 8 = .ok (.aload_n 0, 1) := dk_42 (dk_at dksX8_gull_0 8 rfl rfl)
theorem dX8_gull_9 : decode cX8_gull 9 = .ok (.iload_n 2, 1) := dk_28 (dk_at dksX8_gull_0 9 rfl rfl)
theorem dX8_gull_10 : decode cX8_gull 10 = .ok (.invokevirtual 265, 3) := dk_182 1 9 (dk_at dksX8_gull_0 10 rfl rfl)
theorem dX8_gull_13 : decode cX8_gull 13 = .ok (.ifCond .eq 8, 3) := dk_153 0 8 (dk_at dksX8_gull_0 13 rfl rfl)
theorem dX8_gull_16 : decode cX8_gull 16 = .ok (.iload_n 1, 1) := dk_27 (dk_at dksX8_gull_0 16 rfl rfl)
theorem dX8_gull_17 : decode cX8_gull 17 = .ok (.iload_n 2, 1) := dk_28 (dk_at dksX8_gull_0 17 rfl rfl)
theorem dX8_gull_18 : decode cX8_gull 18 = .ok (.if_icmp .ne 9, 3) := dk_160 0 9 (dk_at dksX8_gull_0 18 rfl rfl)
theorem dX8_gull_21 : decode cX8_gull 21 = .ok (.aload_n 0, 1) := dk_42 (dk_at dksX8_gull_0 21 rfl rfl)
theorem dX8_gull_22 : decode cX8_gull 22 = .ok (.iconst 1, 1) := dk_4 (dk_at dksX8_gull_0 22 rfl rfl)
theorem dX8_gull_23 : decode cX8_gull 23 = .ok (.invokevirtual 78, 3) := dk_182 0 78 (dk_at dksX8_gull_1 0 rfl rfl)
theorem dX8_gull_26 : decode cX8_gull 26 = .ok (.ireturn, 1) := dk_172 (dk_at dksX8_gull_1 3 rfl rfl)
theorem dX8_gull_27 : decode cX8_gull 27 = .ok (.aload_n 0, 1) := dk_42 (dk_at dksX8_gull_1 4 rfl rfl)
theorem dX8_gull_28 : decode cX8_gull 28 = .ok (.iload_n 1, 1) := dk_27 (dk_at dksX8_gull_1 5 rfl rfl)
theorem dX8_gull_29 : decode cX8_gull 29 = .ok (.iload_n 2, 1) := dk_28 (dk_at dksX8_gull_1 6 rfl rfl)
theorem dX8_gull_30 : decode cX8_gull 30 = .ok (.invokevirtual 326, 3) := dk_182 1 70 (dk_at dksX8_gull_1 7 rfl rfl)
theorem dX8_gull_33 : decode cX8_gull 33 = .ok (.istore_n 3, 1) := dk_62 (dk_at dksX8_gull_1 10 rfl rfl)
theorem dX8_gull_34 : decode cX8_gull 34 = .ok (.iload_n 3, 1) := dk_29 (dk_at dksX8_gull_1 11 rfl rfl)
theorem dX8_gull_35 : decode cX8_gull 35 = .ok (.ifCond .le 11, 3) := dk_158 0 11 (dk_at dksX8_gull_1 12 rfl rfl)
theorem dX8_gull_38 : decode cX8_gull 38 = .ok (.aload_n 0, 1) := dk_42 (dk_at dksX8_gull_1 15 rfl rfl)
theorem dX8_gull_39 : decode cX8_gull 39 = .ok (.iload_n 3, 1) := dk_29 (dk_at dksX8_gull_1 16 rfl rfl)
theorem dX8_gull_40 : decode cX8_gull 40 = .ok (.invokevirtual 78, 3) := dk_182 0 78 (dk_at dksX8_gull_1 17 rfl rfl)
theorem dX8_gull_43 : decode cX8_gull 43 = .ok (.goto 13, 3) := dk_167 0 13 (dk_at dksX8_gull_1 20 rfl rfl)
theorem dX8_gull_46 : decode cX8_gull 46 = .ok (.aload_n 0, 1) := dk_42 (dk_at dksX8_gull_1 23 rfl rfl)
theorem dX8_gull_47 : decode cX8_gull 47 = .ok (.aload_n 0, 1) := dk_42 (dk_at dksX8_gull_2 0 rfl rfl)
theorem dX8_gull_48 : decode cX8_gull 48 = .ok (.iload_n 1, 1) := dk_27 (dk_at dksX8_gull_2 1 rfl rfl)
theorem dX8_gull_49 : decode cX8_gull 49 = .ok (.iload_n 2, 1) := dk_28 (dk_at dksX8_gull_2 2 rfl rfl)
theorem dX8_gull_50 : decode cX8_gull 50 = .ok (.invokevirtual 329, 3) := dk_182 1 73 (dk_at dksX8_gull_2 3 rfl rfl)
theorem dX8_gull_53 : decode cX8_gull 53 = .ok (.invokevirtual 82, 3) := dk_182 0 82 (dk_at dksX8_gull_2 6 rfl rfl)
theorem dX8_gull_56 : decode cX8_gull 56 = .ok (.ireturn, 1) := dk_172 (dk_at dksX8_gull_2 9 rfl rfl)
abbrev cX8_wrongGull : ByteArray := prog_17_method_82_code
def yX8_wrongGull : MethodName := ⟨RX8, "wrongGull", "(II)I"⟩
def dkwX8_wrongGull_1 : List UInt8 := [182, 1, 12, 153, 0, 7, 3, 167, 0, 5, 16, 7, 172]
abbrev dktX8_wrongGull_1 : List UInt8 := dkwX8_wrongGull_1 ++ []
def dkwX8_wrongGull_0 : List UInt8 := [42, 27, 182, 1, 21, 154, 0, 8, 16, 6, 167, 0, 25, 42, 27, 182, 1, 12, 153, 0, 15, 42, 28]
abbrev dktX8_wrongGull_0 : List UInt8 := dkwX8_wrongGull_0 ++ dktX8_wrongGull_1
theorem dksX8_wrongGull_0 : cX8_wrongGull.data.toList.drop 0 = dktX8_wrongGull_0 := by decide +kernel
theorem dksX8_wrongGull_1 : cX8_wrongGull.data.toList.drop 23 = dktX8_wrongGull_1 := dk_seg dksX8_wrongGull_0 23 rfl rfl
theorem dX8_wrongGull_0 : decode cX8_wrongGull 0 = .ok (.aload_n 0, 1) := dk_42 (dk_at dksX8_wrongGull_0 0 rfl rfl)
theorem dX8_wrongGull_1 : decode cX8_wrongGull 1 = .ok (.iload_n 1, 1) := dk_27 (dk_at dksX8_wrongGull_0 1 rfl rfl)
theorem dX8_wrongGull_2 : decode cX8_wrongGull 2 = .ok (.invokevirtual 277, 3) := dk_182 1 21 (dk_at dksX8_wrongGull_0 2 rfl rfl)
theorem dX8_wrongGull_5 : decode cX8_wrongGull 5 = .ok (.ifCond .ne 8, 3) := dk_154 0 8 (dk_at dksX8_wrongGull_0 5 rfl rfl)
theorem dX8_wrongGull_8 : decode cX8_wrongGull 8 = .ok (.bipush 6, 2) := dk_16 6 (dk_at dksX8_wrongGull_0 8 rfl rfl)
theorem dX8_wrongGull_10 : decode cX8_wrongGull 10 = .ok (.goto 25, 3) := dk_167 0 25 (dk_at dksX8_wrongGull_0 10 rfl rfl)
theorem dX8_wrongGull_13 : decode cX8_wrongGull 13 = .ok (.aload_n 0, 1) := dk_42 (dk_at dksX8_wrongGull_0 13 rfl rfl)
theorem dX8_wrongGull_14 : decode cX8_wrongGull 14 = .ok (.iload_n 1, 1) := dk_27 (dk_at dksX8_wrongGull_0 14 rfl rfl)
theorem dX8_wrongGull_15 : decode cX8_wrongGull 15 = .ok (.invokevirtual 268, 3) := dk_182 1 12 (dk_at dksX8_wrongGull_0 15 rfl rfl)
theorem dX8_wrongGull_18 : decode cX8_wrongGull 18 = .ok (.ifCond .eq 15, 3) := dk_153 0 15 (dk_at dksX8_wrongGull_0 18 rfl rfl)
theorem dX8_wrongGull_21 : decode cX8_wrongGull 21 = .ok (.aload_n 0, 1) := dk_42 (dk_at dksX8_wrongGull_0 21 rfl rfl)
theorem dX8_wrongGull_22 : decode cX8_wrongGull 22 = .ok (.iload_n 2, 1) := dk_28 (dk_at dksX8_wrongGull_0 22 rfl rfl)
theorem dX8_wrongGull_23 : decode cX8_wrongGull 23 = .ok (.invokevirtual 268, 3) := dk_182 1 12 (dk_at dksX8_wrongGull_1 0 rfl rfl)
theorem dX8_wrongGull_26 : decode cX8_wrongGull 26 = .ok (.ifCond .eq 7, 3) := dk_153 0 7 (dk_at dksX8_wrongGull_1 3 rfl rfl)
theorem dX8_wrongGull_29 : decode cX8_wrongGull 29 = .ok (.iconst 0, 1) := dk_3 (dk_at dksX8_wrongGull_1 6 rfl rfl)
theorem dX8_wrongGull_30 : decode cX8_wrongGull 30 = .ok (.goto 5, 3) := dk_167 0 5 (dk_at dksX8_wrongGull_1 7 rfl rfl)
theorem dX8_wrongGull_33 : decode cX8_wrongGull 33 = .ok (.bipush 7, 2) := dk_16 7 (dk_at dksX8_wrongGull_1 10 rfl rfl)
theorem dX8_wrongGull_35 : decode cX8_wrongGull 35 = .ok (.ireturn, 1) := dk_172 (dk_at dksX8_wrongGull_1 12 rfl rfl)
abbrev cX8_carries : ByteArray := prog_17_method_83_code
def yX8_carries : MethodName := ⟨RX8, "carries", "(II)I"⟩
def dkwX8_carries_1 : List UInt8 := [42, 27, 29, 182, 1, 61, 42, 3, 28, 21, 4, 21, 5, 182, 0, 210, 21, 4, 172]
abbrev dktX8_carries_1 : List UInt8 := dkwX8_carries_1 ++ []
def dkwX8_carries_0 : List UInt8 := [42, 27, 182, 1, 21, 4, 100, 62, 42, 27, 29, 182, 1, 52, 54, 4, 42, 27, 29, 182, 1, 58, 54, 5]
abbrev dktX8_carries_0 : List UInt8 := dkwX8_carries_0 ++ dktX8_carries_1
theorem dksX8_carries_0 : cX8_carries.data.toList.drop 0 = dktX8_carries_0 := by decide +kernel
theorem dksX8_carries_1 : cX8_carries.data.toList.drop 24 = dktX8_carries_1 := dk_seg dksX8_carries_0 24 rfl rfl
theorem dX8_carries_0 : decode cX8_carries 0 = .ok (.aload_n 0, 1) := dk_42 (dk_at dksX8_carries_0 0 rfl rfl)
theorem dX8_carries_1 : decode cX8_carries 1 = .ok (.iload_n 1, 1) := dk_27 (dk_at dksX8_carries_0 1 rfl rfl)
theorem dX8_carries_2 : decode cX8_carries 2 = .ok (.invokevirtual 277, 3) := dk_182 1 21 (dk_at dksX8_carries_0 2 rfl rfl)
theorem dX8_carries_5 : decode cX8_carries 5 = .ok (.iconst 1, 1) := dk_4 (dk_at dksX8_carries_0 5 rfl rfl)
theorem dX8_carries_6 : decode cX8_carries 6 = .ok (.isub, 1) := dk_100 (dk_at dksX8_carries_0 6 rfl rfl)
theorem dX8_carries_7 : decode cX8_carries 7 = .ok (.istore_n 3, 1) := dk_62 (dk_at dksX8_carries_0 7 rfl rfl)
theorem dX8_carries_8 : decode cX8_carries 8 = .ok (.aload_n 0, 1) := dk_42 (dk_at dksX8_carries_0 8 rfl rfl)
theorem dX8_carries_9 : decode cX8_carries 9 = .ok (.iload_n 1, 1) := dk_27 (dk_at dksX8_carries_0 9 rfl rfl)
theorem dX8_carries_10 : decode cX8_carries 10 = .ok (.iload_n 3, 1) := dk_29 (dk_at dksX8_carries_0 10 rfl rfl)
theorem dX8_carries_11 : decode cX8_carries 11 = .ok (.invokevirtual 308, 3) := dk_182 1 52 (dk_at dksX8_carries_0 11 rfl rfl)
theorem dX8_carries_14 : decode cX8_carries 14 = .ok (.istore 4, 2) := dk_54 4 (dk_at dksX8_carries_0 14 rfl rfl)
theorem dX8_carries_16 : decode cX8_carries 16 = .ok (.aload_n 0, 1) := dk_42 (dk_at dksX8_carries_0 16 rfl rfl)
theorem dX8_carries_17 : decode cX8_carries 17 = .ok (.iload_n 1, 1) := dk_27 (dk_at dksX8_carries_0 17 rfl rfl)
theorem dX8_carries_18 : decode cX8_carries 18 = .ok (.iload_n 3, 1) := dk_29 (dk_at dksX8_carries_0 18 rfl rfl)
theorem dX8_carries_19 : decode cX8_carries 19 = .ok (.invokevirtual 314, 3) := dk_182 1 58 (dk_at dksX8_carries_0 19 rfl rfl)
theorem dX8_carries_22 : decode cX8_carries 22 = .ok (.istore 5, 2) := dk_54 5 (dk_at dksX8_carries_0 22 rfl rfl)
theorem dX8_carries_24 : decode cX8_carries 24 = .ok (.aload_n 0, 1) := dk_42 (dk_at dksX8_carries_1 0 rfl rfl)
theorem dX8_carries_25 : decode cX8_carries 25 = .ok (.iload_n 1, 1) := dk_27 (dk_at dksX8_carries_1 1 rfl rfl)
theorem dX8_carries_26 : decode cX8_carries 26 = .ok (.iload_n 3, 1) := dk_29 (dk_at dksX8_carries_1 2 rfl rfl)
theorem dX8_carries_27 : decode cX8_carries 27 = .ok (.invokevirtual 317, 3) := dk_182 1 61 (dk_at dksX8_carries_1 3 rfl rfl)
theorem dX8_carries_30 : decode cX8_carries 30 = .ok (.aload_n 0, 1) := dk_42 (dk_at dksX8_carries_1 6 rfl rfl)
theorem dX8_carries_31 : decode cX8_carries 31 = .ok (.iconst 0, 1) := dk_3 (dk_at dksX8_carries_1 7 rfl rfl)
theorem dX8_carries_32 : decode cX8_carries 32 = .ok (.iload_n 2, 1) := dk_28 (dk_at dksX8_carries_1 8 rfl rfl)
theorem dX8_carries_33 : decode cX8_carries 33 = .ok (.iload 4, 2) := dk_21 4 (dk_at dksX8_carries_1 9 rfl rfl)
theorem dX8_carries_35 : decode cX8_carries 35 = .ok (.iload 5, 2) := dk_21 5 (dk_at dksX8_carries_1 11 rfl rfl)
theorem dX8_carries_37 : decode cX8_carries 37 = .ok (.invokevirtual 210, 3) := dk_182 0 210 (dk_at dksX8_carries_1 13 rfl rfl)
theorem dX8_carries_40 : decode cX8_carries 40 = .ok (.iload 4, 2) := dk_21 4 (dk_at dksX8_carries_1 16 rfl rfl)
theorem dX8_carries_42 : decode cX8_carries 42 = .ok (.ireturn, 1) := dk_172 (dk_at dksX8_carries_1 18 rfl rfl)
abbrev cX8_wave : ByteArray := prog_17_method_86_code
def yX8_wave : MethodName := ⟨RX8, "wave", "(I)I"⟩
def dkwX8_wave_1 : List UInt8 := [42, 4, 182, 0, 78, 172]
abbrev dktX8_wave_1 : List UInt8 := dkwX8_wave_1 ++ []
def dkwX8_wave_0 : List UInt8 := [27, 133, 9, 20, 1, 76, 184, 1, 33, 153, 0, 15, 42, 42, 27, 182, 1, 78, 182, 0, 82, 167, 0, 8]
abbrev dktX8_wave_0 : List UInt8 := dkwX8_wave_0 ++ dktX8_wave_1
theorem dksX8_wave_0 : cX8_wave.data.toList.drop 0 = dktX8_wave_0 := by decide +kernel
theorem dksX8_wave_1 : cX8_wave.data.toList.drop 24 = dktX8_wave_1 := dk_seg dksX8_wave_0 24 rfl rfl
theorem dX8_wave_0 : decode cX8_wave 0 = .ok (.iload_n 1, 1) := dk_27 (dk_at dksX8_wave_0 0 rfl rfl)
theorem dX8_wave_1 : decode cX8_wave 1 = .ok (.i2l, 1) := dk_133 (dk_at dksX8_wave_0 1 rfl rfl)
theorem dX8_wave_2 : decode cX8_wave 2 = .ok (.lconst 0, 1) := dk_9 (dk_at dksX8_wave_0 2 rfl rfl)
theorem dX8_wave_3 : decode cX8_wave 3 = .ok (.ldc2_w 332, 3) := dk_20 1 76 (dk_at dksX8_wave_0 3 rfl rfl)
theorem dX8_wave_6 : decode cX8_wave 6 = .ok (.invokestatic 289, 3) := dk_184 1 33 (dk_at dksX8_wave_0 6 rfl rfl)
theorem dX8_wave_9 : decode cX8_wave 9 = .ok (.ifCond .eq 15, 3) := dk_153 0 15 (dk_at dksX8_wave_0 9 rfl rfl)
theorem dX8_wave_12 : decode cX8_wave 12 = .ok (.aload_n 0, 1) := dk_42 (dk_at dksX8_wave_0 12 rfl rfl)
theorem dX8_wave_13 : decode cX8_wave 13 = .ok (.aload_n 0, 1) := dk_42 (dk_at dksX8_wave_0 13 rfl rfl)
theorem dX8_wave_14 : decode cX8_wave 14 = .ok (.iload_n 1, 1) := dk_27 (dk_at dksX8_wave_0 14 rfl rfl)
theorem dX8_wave_15 : decode cX8_wave 15 = .ok (.invokevirtual 334, 3) := dk_182 1 78 (dk_at dksX8_wave_0 15 rfl rfl)
theorem dX8_wave_18 : decode cX8_wave 18 = .ok (.invokevirtual 82, 3) := dk_182 0 82 (dk_at dksX8_wave_0 18 rfl rfl)
theorem dX8_wave_21 : decode cX8_wave 21 = .ok (.goto 8, 3) := dk_167 0 8 (dk_at dksX8_wave_0 21 rfl rfl)
theorem dX8_wave_24 : decode cX8_wave 24 = .ok (.aload_n 0, 1) := dk_42 (dk_at dksX8_wave_1 0 rfl rfl)
theorem dX8_wave_25 : decode cX8_wave 25 = .ok (.iconst 1, 1) := dk_4 (dk_at dksX8_wave_1 1 rfl rfl)
theorem dX8_wave_26 : decode cX8_wave 26 = .ok (.invokevirtual 78, 3) := dk_182 0 78 (dk_at dksX8_wave_1 2 rfl rfl)
theorem dX8_wave_29 : decode cX8_wave 29 = .ok (.ireturn, 1) := dk_172 (dk_at dksX8_wave_1 5 rfl rfl)
abbrev cX8_washes : ByteArray := prog_17_method_85_code
def yX8_washes : MethodName := ⟨RX8, "washes", "(I)I"⟩
def dkwX8_washes_3 : List UInt8 := [167, 255, 190, 28, 172]
abbrev dktX8_washes_3 : List UInt8 := dkwX8_washes_3 ++ []
def dkwX8_washes_2 : List UInt8 := [29, 182, 1, 21, 100, 79, 42, 180, 0, 7, 3, 29, 184, 0, 171, 5, 96, 3, 79, 132, 3, 1]
abbrev dktX8_washes_2 : List UInt8 := dkwX8_washes_2 ++ dktX8_washes_3
def dkwX8_washes_1 : List UInt8 := [27, 161, 0, 6, 167, 0, 39, 28, 42, 29, 182, 1, 21, 96, 61, 42, 180, 0, 7, 16, 8, 92, 46, 42]
abbrev dktX8_washes_1 : List UInt8 := dkwX8_washes_1 ++ dktX8_washes_2
def dkwX8_washes_0 : List UInt8 := [3, 61, 3, 62, 29, 42, 180, 0, 7, 5, 46, 162, 0, 62, 42, 180, 0, 7, 3, 29, 184, 0, 171, 46]
abbrev dktX8_washes_0 : List UInt8 := dkwX8_washes_0 ++ dktX8_washes_1
theorem dksX8_washes_0 : cX8_washes.data.toList.drop 0 = dktX8_washes_0 := by decide +kernel
theorem dksX8_washes_1 : cX8_washes.data.toList.drop 24 = dktX8_washes_1 := dk_seg dksX8_washes_0 24 rfl rfl
theorem dksX8_washes_2 : cX8_washes.data.toList.drop 48 = dktX8_washes_2 := dk_seg dksX8_washes_1 24 rfl rfl
theorem dksX8_washes_3 : cX8_washes.data.toList.drop 70 = dktX8_washes_3 := dk_seg dksX8_washes_2 22 rfl rfl
theorem dX8_washes_0 : decode cX8_washes 0 = .ok (.iconst 0, 1) := dk_3 (dk_at dksX8_washes_0 0 rfl rfl)
theorem dX8_washes_1 : decode cX8_washes 1 = .ok (.istore_n 2, 1) := dk_61 (dk_at dksX8_washes_0 1 rfl rfl)
theorem dX8_washes_2 : decode cX8_washes 2 = .ok (.iconst 0, 1) := dk_3 (dk_at dksX8_washes_0 2 rfl rfl)
theorem dX8_washes_3 : decode cX8_washes 3 = .ok (.istore_n 3, 1) := dk_62 (dk_at dksX8_washes_0 3 rfl rfl)
theorem dX8_washes_4 : decode cX8_washes 4 = .ok (.iload_n 3, 1) := dk_29 (dk_at dksX8_washes_0 4 rfl rfl)
theorem dX8_washes_5 : decode cX8_washes 5 = .ok (.aload_n 0, 1) := dk_42 (dk_at dksX8_washes_0 5 rfl rfl)
theorem dX8_washes_6 : decode cX8_washes 6 = .ok (.getfield 7, 3) := dk_180 0 7 (dk_at dksX8_washes_0 6 rfl rfl)
theorem dX8_washes_9 : decode cX8_washes 9 = .ok (.iconst 2, 1) := dk_5 (dk_at dksX8_washes_0 9 rfl rfl)
theorem dX8_washes_10 : decode cX8_washes 10 = .ok (.iaload, 1) := dk_46 (dk_at dksX8_washes_0 10 rfl rfl)
theorem dX8_washes_11 : decode cX8_washes 11 = .ok (.if_icmp .ge 62, 3) := dk_162 0 62 (dk_at dksX8_washes_0 11 rfl rfl)
theorem dX8_washes_14 : decode cX8_washes 14 = .ok (.aload_n 0, 1) := dk_42 (dk_at dksX8_washes_0 14 rfl rfl)
theorem dX8_washes_15 : decode cX8_washes 15 = .ok (.getfield 7, 3) := dk_180 0 7 (dk_at dksX8_washes_0 15 rfl rfl)
theorem dX8_washes_18 : decode cX8_washes 18 = .ok (.iconst 0, 1) := dk_3 (dk_at dksX8_washes_0 18 rfl rfl)
theorem dX8_washes_19 : decode cX8_washes 19 = .ok (.iload_n 3, 1) := dk_29 (dk_at dksX8_washes_0 19 rfl rfl)
theorem dX8_washes_20 : decode cX8_washes 20 = .ok (.invokestatic 171, 3) := dk_184 0 171 (dk_at dksX8_washes_0 20 rfl rfl)
theorem dX8_washes_23 : decode cX8_washes 23 = .ok (.iaload, 1) := dk_46 (dk_at dksX8_washes_0 23 rfl rfl)
theorem dX8_washes_24 : decode cX8_washes 24 = .ok (.iload_n 1, 1) := dk_27 (dk_at dksX8_washes_1 0 rfl rfl)
theorem dX8_washes_25 : decode cX8_washes 25 = .ok (.if_icmp .lt 6, 3) := dk_161 0 6 (dk_at dksX8_washes_1 1 rfl rfl)
theorem dX8_washes_28 : decode cX8_washes 28 = .ok (.goto 39, 3) := dk_167 0 39 (dk_at dksX8_washes_1 4 rfl rfl)
theorem dX8_washes_31 : decode cX8_washes 31 = .ok (.iload_n 2, 1) := dk_28 (dk_at dksX8_washes_1 7 rfl rfl)
theorem dX8_washes_32 : decode cX8_washes 32 = .ok (.aload_n 0, 1) := dk_42 (dk_at dksX8_washes_1 8 rfl rfl)
theorem dX8_washes_33 : decode cX8_washes 33 = .ok (.iload_n 3, 1) := dk_29 (dk_at dksX8_washes_1 9 rfl rfl)
theorem dX8_washes_34 : decode cX8_washes 34 = .ok (.invokevirtual 277, 3) := dk_182 1 21 (dk_at dksX8_washes_1 10 rfl rfl)
theorem dX8_washes_37 : decode cX8_washes 37 = .ok (.iadd, 1) := dk_96 (dk_at dksX8_washes_1 13 rfl rfl)
theorem dX8_washes_38 : decode cX8_washes 38 = .ok (.istore_n 2, 1) := dk_61 (dk_at dksX8_washes_1 14 rfl rfl)
theorem dX8_washes_39 : decode cX8_washes 39 = .ok (.aload_n 0, 1) := dk_42 (dk_at dksX8_washes_1 15 rfl rfl)
theorem dX8_washes_40 : decode cX8_washes 40 = .ok (.getfield 7, 3) := dk_180 0 7 (dk_at dksX8_washes_1 16 rfl rfl)
theorem dX8_washes_43 : decode cX8_washes 43 = .ok (.bipush 8, 2) := dk_16 8 (dk_at dksX8_washes_1 19 rfl rfl)
theorem dX8_washes_45 : decode cX8_washes 45 = .ok (.dup2, 1) := dk_92 (dk_at dksX8_washes_1 21 rfl rfl)
theorem dX8_washes_46 : decode cX8_washes 46 = .ok (.iaload, 1) := dk_46 (dk_at dksX8_washes_1 22 rfl rfl)
theorem dX8_washes_47 : decode cX8_washes 47 = .ok (.aload_n 0, 1) := dk_42 (dk_at dksX8_washes_1 23 rfl rfl)
theorem dX8_washes_48 : decode cX8_washes 48 = .ok (.iload_n 3, 1) := dk_29 (dk_at dksX8_washes_2 0 rfl rfl)
theorem dX8_washes_49 : decode cX8_washes 49 = .ok (.invokevirtual 277, 3) := dk_182 1 21 (dk_at dksX8_washes_2 1 rfl rfl)
theorem dX8_washes_52 : decode cX8_washes 52 = .ok (.isub, 1) := dk_100 (dk_at dksX8_washes_2 4 rfl rfl)
theorem dX8_washes_53 : decode cX8_washes 53 = .ok (.iastore, 1) := dk_79 (dk_at dksX8_washes_2 5 rfl rfl)
theorem dX8_washes_54 : decode cX8_washes 54 = .ok (.aload_n 0, 1) := dk_42 (dk_at dksX8_washes_2 6 rfl rfl)
theorem dX8_washes_55 : decode cX8_washes 55 = .ok (.getfield 7, 3) := dk_180 0 7 (dk_at dksX8_washes_2 7 rfl rfl)
theorem dX8_washes_58 : decode cX8_washes 58 = .ok (.iconst 0, 1) := dk_3 (dk_at dksX8_washes_2 10 rfl rfl)
theorem dX8_washes_59 : decode cX8_washes 59 = .ok (.iload_n 3, 1) := dk_29 (dk_at dksX8_washes_2 11 rfl rfl)
theorem dX8_washes_60 : decode cX8_washes 60 = .ok (.invokestatic 171, 3) := dk_184 0 171 (dk_at dksX8_washes_2 12 rfl rfl)
theorem dX8_washes_63 : decode cX8_washes 63 = .ok (.iconst 2, 1) := dk_5 (dk_at dksX8_washes_2 15 rfl rfl)
theorem dX8_washes_64 : decode cX8_washes 64 = .ok (.iadd, 1) := dk_96 (dk_at dksX8_washes_2 16 rfl rfl)
theorem dX8_washes_65 : decode cX8_washes 65 = .ok (.iconst 0, 1) := dk_3 (dk_at dksX8_washes_2 17 rfl rfl)
theorem dX8_washes_66 : decode cX8_washes 66 = .ok (.iastore, 1) := dk_79 (dk_at dksX8_washes_2 18 rfl rfl)
theorem dX8_washes_67 : decode cX8_washes 67 = .ok (.iinc 3 1, 3) := dk_132 3 1 (dk_at dksX8_washes_2 19 rfl rfl)
theorem dX8_washes_70 : decode cX8_washes 70 = .ok (.goto (-66), 3) := dk_167 255 190 (dk_at dksX8_washes_3 0 rfl rfl)
theorem dX8_washes_73 : decode cX8_washes 73 = .ok (.iload_n 2, 1) := dk_28 (dk_at dksX8_washes_3 3 rfl rfl)
theorem dX8_washes_74 : decode cX8_washes 74 = .ok (.ireturn, 1) := dk_172 (dk_at dksX8_washes_3 4 rfl rfl)
abbrev cX8_last : ByteArray := prog_17_method_92_code
def yX8_last : MethodName := ⟨RX8, "last", "(I)I"⟩
def dkwX8_last_1 : List UInt8 := [182, 0, 82, 172]
abbrev dktX8_last_1 : List UInt8 := dkwX8_last_1 ++ []
def dkwX8_last_0 : List UInt8 := [42, 27, 182, 1, 93, 61, 28, 158, 0, 11, 42, 28, 182, 0, 78, 167, 0, 12, 42, 42, 27, 182, 1, 81]
abbrev dktX8_last_0 : List UInt8 := dkwX8_last_0 ++ dktX8_last_1
theorem dksX8_last_0 : cX8_last.data.toList.drop 0 = dktX8_last_0 := by decide +kernel
theorem dksX8_last_1 : cX8_last.data.toList.drop 24 = dktX8_last_1 := dk_seg dksX8_last_0 24 rfl rfl
theorem dX8_last_0 : decode cX8_last 0 = .ok (.aload_n 0, 1) := dk_42 (dk_at dksX8_last_0 0 rfl rfl)
theorem dX8_last_1 : decode cX8_last 1 = .ok (.iload_n 1, 1) := dk_27 (dk_at dksX8_last_0 1 rfl rfl)
theorem dX8_last_2 : decode cX8_last 2 = .ok (.invokevirtual 349, 3) := dk_182 1 93 (dk_at dksX8_last_0 2 rfl rfl)
theorem dX8_last_5 : decode cX8_last 5 = .ok (.istore_n 2, 1) := dk_61 (dk_at dksX8_last_0 5 rfl rfl)
theorem dX8_last_6 : decode cX8_last 6 = .ok (.iload_n 2, 1) := dk_28 (dk_at dksX8_last_0 6 rfl rfl)
theorem dX8_last_7 : decode cX8_last 7 = .ok (.ifCond .le 11, 3) := dk_158 0 11 (dk_at dksX8_last_0 7 rfl rfl)
theorem dX8_last_10 : decode cX8_last 10 = .ok (.aload_n 0, 1) := dk_42 (dk_at dksX8_last_0 10 rfl rfl)
theorem dX8_last_11 : decode cX8_last 11 = .ok (.iload_n 2, 1) := dk_28 (dk_at dksX8_last_0 11 rfl rfl)
theorem dX8_last_12 : decode cX8_last 12 = .ok (.invokevirtual 78, 3) := dk_182 0 78 (dk_at dksX8_last_0 12 rfl rfl)
theorem dX8_last_15 : decode cX8_last 15 = .ok (.goto 12, 3) := dk_167 0 12 (dk_at dksX8_last_0 15 rfl rfl)
theorem dX8_last_18 : decode cX8_last 18 = .ok (.aload_n 0, 1) := dk_42 (dk_at dksX8_last_0 18 rfl rfl)
theorem dX8_last_19 : decode cX8_last 19 = .ok (.aload_n 0, 1) := dk_42 (dk_at dksX8_last_0 19 rfl rfl)
theorem dX8_last_20 : decode cX8_last 20 = .ok (.iload_n 1, 1) := dk_27 (dk_at dksX8_last_0 20 rfl rfl)
theorem dX8_last_21 : decode cX8_last 21 = .ok (.invokevirtual 337, 3) := dk_182 1 81 (dk_at dksX8_last_0 21 rfl rfl)
theorem dX8_last_24 : decode cX8_last 24 = .ok (.invokevirtual 82, 3) := dk_182 0 82 (dk_at dksX8_last_1 0 rfl rfl)
theorem dX8_last_27 : decode cX8_last 27 = .ok (.ireturn, 1) := dk_172 (dk_at dksX8_last_1 3 rfl rfl)
abbrev cX8_wrongFind : ByteArray := prog_17_method_64_code
def yX8_wrongFind : MethodName := ⟨RX8, "wrongFind", "(I)I"⟩
def dkwX8_wrongFind_1 : List UInt8 := [16, 7, 172]
abbrev dktX8_wrongFind_1 : List UInt8 := dkwX8_wrongFind_1 ++ []
def dkwX8_wrongFind_0 : List UInt8 := [42, 27, 182, 1, 9, 154, 0, 7, 4, 167, 0, 17, 42, 27, 182, 1, 12, 153, 0, 7, 3, 167, 0, 5]
abbrev dktX8_wrongFind_0 : List UInt8 := dkwX8_wrongFind_0 ++ dktX8_wrongFind_1
theorem dksX8_wrongFind_0 : cX8_wrongFind.data.toList.drop 0 = dktX8_wrongFind_0 := by decide +kernel
theorem dksX8_wrongFind_1 : cX8_wrongFind.data.toList.drop 24 = dktX8_wrongFind_1 := dk_seg dksX8_wrongFind_0 24 rfl rfl
theorem dX8_wrongFind_0 : decode cX8_wrongFind 0 = .ok (.aload_n 0, 1) := dk_42 (dk_at dksX8_wrongFind_0 0 rfl rfl)
theorem dX8_wrongFind_1 : decode cX8_wrongFind 1 = .ok (.iload_n 1, 1) := dk_27 (dk_at dksX8_wrongFind_0 1 rfl rfl)
theorem dX8_wrongFind_2 : decode cX8_wrongFind 2 = .ok (.invokevirtual 265, 3) := dk_182 1 9 (dk_at dksX8_wrongFind_0 2 rfl rfl)
theorem dX8_wrongFind_5 : decode cX8_wrongFind 5 = .ok (.ifCond .ne 7, 3) := dk_154 0 7 (dk_at dksX8_wrongFind_0 5 rfl rfl)
theorem dX8_wrongFind_8 : decode cX8_wrongFind 8 = .ok (.iconst 1, 1) := dk_4 (dk_at dksX8_wrongFind_0 8 rfl rfl)
theorem dX8_wrongFind_9 : decode cX8_wrongFind 9 = .ok (.goto 17, 3) := dk_167 0 17 (dk_at dksX8_wrongFind_0 9 rfl rfl)
theorem dX8_wrongFind_12 : decode cX8_wrongFind 12 = .ok (.aload_n 0, 1) := dk_42 (dk_at dksX8_wrongFind_0 12 rfl rfl)
theorem dX8_wrongFind_13 : decode cX8_wrongFind 13 = .ok (.iload_n 1, 1) := dk_27 (dk_at dksX8_wrongFind_0 13 rfl rfl)
theorem dX8_wrongFind_14 : decode cX8_wrongFind 14 = .ok (.invokevirtual 268, 3) := dk_182 1 12 (dk_at dksX8_wrongFind_0 14 rfl rfl)
theorem dX8_wrongFind_17 : decode cX8_wrongFind 17 = .ok (.ifCond .eq 7, 3) := dk_153 0 7 (dk_at dksX8_wrongFind_0 17 rfl rfl)
theorem dX8_wrongFind_20 : decode cX8_wrongFind 20 = .ok (.iconst 0, 1) := dk_3 (dk_at dksX8_wrongFind_0 20 rfl rfl)
theorem dX8_wrongFind_21 : decode cX8_wrongFind 21 = .ok (.goto 5, 3) := dk_167 0 5 (dk_at dksX8_wrongFind_0 21 rfl rfl)
theorem dX8_wrongFind_24 : decode cX8_wrongFind 24 = .ok (.bipush 7, 2) := dk_16 7 (dk_at dksX8_wrongFind_1 0 rfl rfl)
theorem dX8_wrongFind_26 : decode cX8_wrongFind 26 = .ok (.ireturn, 1) := dk_172 (dk_at dksX8_wrongFind_1 2 rfl rfl)
abbrev cX8_lastOn : ByteArray := prog_17_method_87_code
def yX8_lastOn : MethodName := ⟨RX8, "lastOn", "(I)I"⟩
def dkwX8_lastOn_2 : List UInt8 := [132, 3, 255, 167, 255, 217, 28, 172]
abbrev dktX8_lastOn_2 : List UInt8 := dkwX8_lastOn_2 ++ []
def dkwX8_lastOn_1 : List UInt8 := [182, 1, 21, 4, 100, 182, 1, 58, 160, 0, 20, 28, 4, 42, 27, 29, 182, 1, 52, 120, 128, 61]
abbrev dktX8_lastOn_1 : List UInt8 := dkwX8_lastOn_1 ++ dktX8_lastOn_2
def dkwX8_lastOn_0 : List UInt8 := [3, 61, 42, 27, 182, 1, 21, 4, 100, 62, 29, 155, 0, 41, 42, 27, 29, 182, 1, 58, 42, 27, 42, 27]
abbrev dktX8_lastOn_0 : List UInt8 := dkwX8_lastOn_0 ++ dktX8_lastOn_1
theorem dksX8_lastOn_0 : cX8_lastOn.data.toList.drop 0 = dktX8_lastOn_0 := by decide +kernel
theorem dksX8_lastOn_1 : cX8_lastOn.data.toList.drop 24 = dktX8_lastOn_1 := dk_seg dksX8_lastOn_0 24 rfl rfl
theorem dksX8_lastOn_2 : cX8_lastOn.data.toList.drop 46 = dktX8_lastOn_2 := dk_seg dksX8_lastOn_1 22 rfl rfl
theorem dX8_lastOn_0 : decode cX8_lastOn 0 = .ok (.iconst 0, 1) := dk_3 (dk_at dksX8_lastOn_0 0 rfl rfl)
theorem dX8_lastOn_1 : decode cX8_lastOn 1 = .ok (.istore_n 2, 1) := dk_61 (dk_at dksX8_lastOn_0 1 rfl rfl)
theorem dX8_lastOn_2 : decode cX8_lastOn 2 = .ok (.aload_n 0, 1) := dk_42 (dk_at dksX8_lastOn_0 2 rfl rfl)
theorem dX8_lastOn_3 : decode cX8_lastOn 3 = .ok (.iload_n 1, 1) := dk_27 (dk_at dksX8_lastOn_0 3 rfl rfl)
theorem dX8_lastOn_4 : decode cX8_lastOn 4 = .ok (.invokevirtual 277, 3) := dk_182 1 21 (dk_at dksX8_lastOn_0 4 rfl rfl)
theorem dX8_lastOn_7 : decode cX8_lastOn 7 = .ok (.iconst 1, 1) := dk_4 (dk_at dksX8_lastOn_0 7 rfl rfl)
theorem dX8_lastOn_8 : decode cX8_lastOn 8 = .ok (.isub, 1) := dk_100 (dk_at dksX8_lastOn_0 8 rfl rfl)
theorem dX8_lastOn_9 : decode cX8_lastOn 9 = .ok (.istore_n 3, 1) := dk_62 (dk_at dksX8_lastOn_0 9 rfl rfl)
theorem dX8_lastOn_10 : decode cX8_lastOn 10 = .ok (.iload_n 3, 1) := dk_29 (dk_at dksX8_lastOn_0 10 rfl rfl)
theorem dX8_lastOn_11 : decode cX8_lastOn 11 = .ok (.ifCond .lt 41, 3) := dk_155 0 41 (dk_at dksX8_lastOn_0 11 rfl rfl)
theorem dX8_lastOn_14 : decode cX8_lastOn 14 = .ok (.aload_n 0, 1) := dk_42 (dk_at dksX8_lastOn_0 14 rfl rfl)
theorem dX8_lastOn_15 : decode cX8_lastOn 15 = .ok (.iload_n 1, 1) := dk_27 (dk_at dksX8_lastOn_0 15 rfl rfl)
theorem dX8_lastOn_16 : decode cX8_lastOn 16 = .ok (.iload_n 3, 1) := dk_29 (dk_at dksX8_lastOn_0 16 rfl rfl)
theorem dX8_lastOn_17 : decode cX8_lastOn 17 = .ok (.invokevirtual 314, 3) := dk_182 1 58 (dk_at dksX8_lastOn_0 17 rfl rfl)
theorem dX8_lastOn_20 : decode cX8_lastOn 20 = .ok (.aload_n 0, 1) := dk_42 (dk_at dksX8_lastOn_0 20 rfl rfl)
theorem dX8_lastOn_21 : decode cX8_lastOn 21 = .ok (.iload_n 1, 1) := dk_27 (dk_at dksX8_lastOn_0 21 rfl rfl)
theorem dX8_lastOn_22 : decode cX8_lastOn 22 = .ok (.aload_n 0, 1) := dk_42 (dk_at dksX8_lastOn_0 22 rfl rfl)
theorem dX8_lastOn_23 : decode cX8_lastOn 23 = .ok (.iload_n 1, 1) := dk_27 (dk_at dksX8_lastOn_0 23 rfl rfl)
theorem dX8_lastOn_24 : decode cX8_lastOn 24 = .ok (.invokevirtual 277, 3) := dk_182 1 21 (dk_at dksX8_lastOn_1 0 rfl rfl)
theorem dX8_lastOn_27 : decode cX8_lastOn 27 = .ok (.iconst 1, 1) := dk_4 (dk_at dksX8_lastOn_1 3 rfl rfl)
theorem dX8_lastOn_28 : decode cX8_lastOn 28 = .ok (.isub, 1) := dk_100 (dk_at dksX8_lastOn_1 4 rfl rfl)
theorem dX8_lastOn_29 : decode cX8_lastOn 29 = .ok (.invokevirtual 314, 3) := dk_182 1 58 (dk_at dksX8_lastOn_1 5 rfl rfl)
theorem dX8_lastOn_32 : decode cX8_lastOn 32 = .ok (.if_icmp .ne 20, 3) := dk_160 0 20 (dk_at dksX8_lastOn_1 8 rfl rfl)
theorem dX8_lastOn_35 : decode cX8_lastOn 35 = .ok (.iload_n 2, 1) := dk_28 (dk_at dksX8_lastOn_1 11 rfl rfl)
theorem dX8_lastOn_36 : decode cX8_lastOn 36 = .ok (.iconst 1, 1) := dk_4 (dk_at dksX8_lastOn_1 12 rfl rfl)
theorem dX8_lastOn_37 : decode cX8_lastOn 37 = .ok (.aload_n 0, 1) := dk_42 (dk_at dksX8_lastOn_1 13 rfl rfl)
theorem dX8_lastOn_38 : decode cX8_lastOn 38 = .ok (.iload_n 1, 1) := dk_27 (dk_at dksX8_lastOn_1 14 rfl rfl)
theorem dX8_lastOn_39 : decode cX8_lastOn 39 = .ok (.iload_n 3, 1) := dk_29 (dk_at dksX8_lastOn_1 15 rfl rfl)
theorem dX8_lastOn_40 : decode cX8_lastOn 40 = .ok (.invokevirtual 308, 3) := dk_182 1 52 (dk_at dksX8_lastOn_1 16 rfl rfl)
theorem dX8_lastOn_43 : decode cX8_lastOn 43 = .ok (.ishl, 1) := dk_120 (dk_at dksX8_lastOn_1 19 rfl rfl)
theorem dX8_lastOn_44 : decode cX8_lastOn 44 = .ok (.ior, 1) := dk_128 (dk_at dksX8_lastOn_1 20 rfl rfl)
theorem dX8_lastOn_45 : decode cX8_lastOn 45 = .ok (.istore_n 2, 1) := dk_61 (dk_at dksX8_lastOn_1 21 rfl rfl)
theorem dX8_lastOn_46 : decode cX8_lastOn 46 = .ok (.iinc 3 (-1), 3) := dk_132 3 255 (dk_at dksX8_lastOn_2 0 rfl rfl)
theorem dX8_lastOn_49 : decode cX8_lastOn 49 = .ok (.goto (-39), 3) := dk_167 255 217 (dk_at dksX8_lastOn_2 3 rfl rfl)
theorem dX8_lastOn_52 : decode cX8_lastOn 52 = .ok (.iload_n 2, 1) := dk_28 (dk_at dksX8_lastOn_2 6 rfl rfl)
theorem dX8_lastOn_53 : decode cX8_lastOn 53 = .ok (.ireturn, 1) := dk_172 (dk_at dksX8_lastOn_2 7 rfl rfl)
abbrev cX8_whose : ByteArray := prog_17_method_93_code
def yX8_whose : MethodName := ⟨RX8, "whose", "(I)I"⟩
def dkwX8_whose_1 : List UInt8 := [182, 0, 82, 172]
abbrev dktX8_whose_1 : List UInt8 := dkwX8_whose_1 ++ []
def dkwX8_whose_0 : List UInt8 := [42, 27, 182, 1, 93, 61, 28, 158, 0, 11, 42, 28, 182, 0, 78, 167, 0, 12, 42, 42, 27, 182, 1, 87]
abbrev dktX8_whose_0 : List UInt8 := dkwX8_whose_0 ++ dktX8_whose_1
theorem dksX8_whose_0 : cX8_whose.data.toList.drop 0 = dktX8_whose_0 := by decide +kernel
theorem dksX8_whose_1 : cX8_whose.data.toList.drop 24 = dktX8_whose_1 := dk_seg dksX8_whose_0 24 rfl rfl
theorem dX8_whose_0 : decode cX8_whose 0 = .ok (.aload_n 0, 1) := dk_42 (dk_at dksX8_whose_0 0 rfl rfl)
theorem dX8_whose_1 : decode cX8_whose 1 = .ok (.iload_n 1, 1) := dk_27 (dk_at dksX8_whose_0 1 rfl rfl)
theorem dX8_whose_2 : decode cX8_whose 2 = .ok (.invokevirtual 349, 3) := dk_182 1 93 (dk_at dksX8_whose_0 2 rfl rfl)
theorem dX8_whose_5 : decode cX8_whose 5 = .ok (.istore_n 2, 1) := dk_61 (dk_at dksX8_whose_0 5 rfl rfl)
theorem dX8_whose_6 : decode cX8_whose 6 = .ok (.iload_n 2, 1) := dk_28 (dk_at dksX8_whose_0 6 rfl rfl)
theorem dX8_whose_7 : decode cX8_whose 7 = .ok (.ifCond .le 11, 3) := dk_158 0 11 (dk_at dksX8_whose_0 7 rfl rfl)
theorem dX8_whose_10 : decode cX8_whose 10 = .ok (.aload_n 0, 1) := dk_42 (dk_at dksX8_whose_0 10 rfl rfl)
theorem dX8_whose_11 : decode cX8_whose 11 = .ok (.iload_n 2, 1) := dk_28 (dk_at dksX8_whose_0 11 rfl rfl)
theorem dX8_whose_12 : decode cX8_whose 12 = .ok (.invokevirtual 78, 3) := dk_182 0 78 (dk_at dksX8_whose_0 12 rfl rfl)
theorem dX8_whose_15 : decode cX8_whose 15 = .ok (.goto 12, 3) := dk_167 0 12 (dk_at dksX8_whose_0 15 rfl rfl)
theorem dX8_whose_18 : decode cX8_whose 18 = .ok (.aload_n 0, 1) := dk_42 (dk_at dksX8_whose_0 18 rfl rfl)
theorem dX8_whose_19 : decode cX8_whose 19 = .ok (.aload_n 0, 1) := dk_42 (dk_at dksX8_whose_0 19 rfl rfl)
theorem dX8_whose_20 : decode cX8_whose 20 = .ok (.iload_n 1, 1) := dk_27 (dk_at dksX8_whose_0 20 rfl rfl)
theorem dX8_whose_21 : decode cX8_whose 21 = .ok (.invokevirtual 343, 3) := dk_182 1 87 (dk_at dksX8_whose_0 21 rfl rfl)
theorem dX8_whose_24 : decode cX8_whose 24 = .ok (.invokevirtual 82, 3) := dk_182 0 82 (dk_at dksX8_whose_1 0 rfl rfl)
theorem dX8_whose_27 : decode cX8_whose 27 = .ok (.ireturn, 1) := dk_172 (dk_at dksX8_whose_1 3 rfl rfl)
abbrev cX8_ownersOf : ByteArray := prog_17_method_89_code
def yX8_ownersOf : MethodName := ⟨RX8, "ownersOf", "(I)I"⟩
def dkwX8_ownersOf_3 : List UInt8 := [8, 46, 5, 160, 0, 6, 21, 4, 62, 132, 4, 1, 167, 255, 214, 4, 29, 120, 172]
abbrev dktX8_ownersOf_3 : List UInt8 := dkwX8_ownersOf_3 ++ []
def dkwX8_ownersOf_2 : List UInt8 := [4, 46, 162, 0, 37, 28, 21, 4, 122, 4, 126, 4, 160, 0, 21, 29, 2, 159, 0, 13, 42, 180, 0, 7]
abbrev dktX8_ownersOf_2 : List UInt8 := dkwX8_ownersOf_2 ++ dktX8_ownersOf_3
def dkwX8_ownersOf_1 : List UInt8 := [28, 172, 42, 180, 0, 7, 8, 46, 154, 0, 5, 3, 172, 2, 62, 3, 54, 4, 21, 4, 42, 180, 0, 7]
abbrev dktX8_ownersOf_1 : List UInt8 := dkwX8_ownersOf_1 ++ dktX8_ownersOf_2
def dkwX8_ownersOf_0 : List UInt8 := [42, 27, 182, 1, 81, 61, 28, 184, 1, 84, 5, 161, 0, 13, 42, 180, 0, 7, 8, 46, 6, 160, 0, 5]
abbrev dktX8_ownersOf_0 : List UInt8 := dkwX8_ownersOf_0 ++ dktX8_ownersOf_1
theorem dksX8_ownersOf_0 : cX8_ownersOf.data.toList.drop 0 = dktX8_ownersOf_0 := by decide +kernel
theorem dksX8_ownersOf_1 : cX8_ownersOf.data.toList.drop 24 = dktX8_ownersOf_1 := dk_seg dksX8_ownersOf_0 24 rfl rfl
theorem dksX8_ownersOf_2 : cX8_ownersOf.data.toList.drop 48 = dktX8_ownersOf_2 := dk_seg dksX8_ownersOf_1 24 rfl rfl
theorem dksX8_ownersOf_3 : cX8_ownersOf.data.toList.drop 72 = dktX8_ownersOf_3 := dk_seg dksX8_ownersOf_2 24 rfl rfl
theorem dX8_ownersOf_0 : decode cX8_ownersOf 0 = .ok (.aload_n 0, 1) := dk_42 (dk_at dksX8_ownersOf_0 0 rfl rfl)
theorem dX8_ownersOf_1 : decode cX8_ownersOf 1 = .ok (.iload_n 1, 1) := dk_27 (dk_at dksX8_ownersOf_0 1 rfl rfl)
theorem dX8_ownersOf_2 : decode cX8_ownersOf 2 = .ok (.invokevirtual 337, 3) := dk_182 1 81 (dk_at dksX8_ownersOf_0 2 rfl rfl)
theorem dX8_ownersOf_5 : decode cX8_ownersOf 5 = .ok (.istore_n 2, 1) := dk_61 (dk_at dksX8_ownersOf_0 5 rfl rfl)
theorem dX8_ownersOf_6 : decode cX8_ownersOf 6 = .ok (.iload_n 2, 1) := dk_28 (dk_at dksX8_ownersOf_0 6 rfl rfl)
theorem dX8_ownersOf_7 : decode cX8_ownersOf 7 = .ok (.invokestatic 340, 3) := dk_184 1 84 (dk_at dksX8_ownersOf_0 7 rfl rfl)
theorem dX8_ownersOf_10 : decode cX8_ownersOf 10 = .ok (.iconst 2, 1) := dk_5 (dk_at dksX8_ownersOf_0 10 rfl rfl)
theorem dX8_ownersOf_11 : decode cX8_ownersOf 11 = .ok (.if_icmp .lt 13, 3) := dk_161 0 13 (dk_at dksX8_ownersOf_0 11 rfl rfl)
theorem dX8_ownersOf_14 : decode cX8_ownersOf 14 = .ok (.aload_n 0, 1) := dk_42 (dk_at dksX8_ownersOf_0 14 rfl rfl)
theorem dX8_ownersOf_15 : decode cX8_ownersOf 15 = .ok (.getfield 7, 3) := dk_180 0 7 (dk_at dksX8_ownersOf_0 15 rfl rfl)
theorem dX8_ownersOf_18 : decode cX8_ownersOf 18 = .ok (.iconst 5, 1) := dk_8 (dk_at dksX8_ownersOf_0 18 rfl rfl)
theorem dX8_ownersOf_19 : decode cX8_ownersOf 19 = .ok (.iaload, 1) := dk_46 (dk_at dksX8_ownersOf_0 19 rfl rfl)
theorem dX8_ownersOf_20 : decode cX8_ownersOf 20 = .ok (.iconst 3, 1) := dk_6 (dk_at dksX8_ownersOf_0 20 rfl rfl)
theorem dX8_ownersOf_21 : decode cX8_ownersOf 21 = .ok (.if_icmp .ne 5, 3) := dk_160 0 5 (dk_at dksX8_ownersOf_0 21 rfl rfl)
theorem dX8_ownersOf_24 : decode cX8_ownersOf 24 = .ok (.iload_n 2, 1) := dk_28 (dk_at dksX8_ownersOf_1 0 rfl rfl)
theorem dX8_ownersOf_25 : decode cX8_ownersOf 25 = .ok (.ireturn, 1) := dk_172 (dk_at dksX8_ownersOf_1 1 rfl rfl)
theorem dX8_ownersOf_26 : decode cX8_ownersOf 26 = .ok (.aload_n 0, 1) := dk_42 (dk_at dksX8_ownersOf_1 2 rfl rfl)
theorem dX8_ownersOf_27 : decode cX8_ownersOf 27 = .ok (.getfield 7, 3) := dk_180 0 7 (dk_at dksX8_ownersOf_1 3 rfl rfl)
theorem dX8_ownersOf_30 : decode cX8_ownersOf 30 = .ok (.iconst 5, 1) := dk_8 (dk_at dksX8_ownersOf_1 6 rfl rfl)
theorem dX8_ownersOf_31 : decode cX8_ownersOf 31 = .ok (.iaload, 1) := dk_46 (dk_at dksX8_ownersOf_1 7 rfl rfl)
theorem dX8_ownersOf_32 : decode cX8_ownersOf 32 = .ok (.ifCond .ne 5, 3) := dk_154 0 5 (dk_at dksX8_ownersOf_1 8 rfl rfl)
theorem dX8_ownersOf_35 : decode cX8_ownersOf 35 = .ok (.iconst 0, 1) := dk_3 (dk_at dksX8_ownersOf_1 11 rfl rfl)
theorem dX8_ownersOf_36 : decode cX8_ownersOf 36 = .ok (.ireturn, 1) := dk_172 (dk_at dksX8_ownersOf_1 12 rfl rfl)
theorem dX8_ownersOf_37 : decode cX8_ownersOf 37 = .ok (.iconst (-1), 1) := dk_2 (dk_at dksX8_ownersOf_1 13 rfl rfl)
theorem dX8_ownersOf_38 : decode cX8_ownersOf 38 = .ok (.istore_n 3, 1) := dk_62 (dk_at dksX8_ownersOf_1 14 rfl rfl)
theorem dX8_ownersOf_39 : decode cX8_ownersOf 39 = .ok (.iconst 0, 1) := dk_3 (dk_at dksX8_ownersOf_1 15 rfl rfl)
theorem dX8_ownersOf_40 : decode cX8_ownersOf 40 = .ok (.istore 4, 2) := dk_54 4 (dk_at dksX8_ownersOf_1 16 rfl rfl)
theorem dX8_ownersOf_42 : decode cX8_ownersOf 42 = .ok (.iload 4, 2) := dk_21 4 (dk_at dksX8_ownersOf_1 18 rfl rfl)
theorem dX8_ownersOf_44 : decode cX8_ownersOf 44 = .ok (.aload_n 0, 1) := dk_42 (dk_at dksX8_ownersOf_1 20 rfl rfl)
theorem dX8_ownersOf_45 : decode cX8_ownersOf 45 = .ok (.getfield 7, 3) := dk_180 0 7 (dk_at dksX8_ownersOf_1 21 rfl rfl)
theorem dX8_ownersOf_48 : decode cX8_ownersOf 48 = .ok (.iconst 1, 1) := dk_4 (dk_at dksX8_ownersOf_2 0 rfl rfl)
theorem dX8_ownersOf_49 : decode cX8_ownersOf 49 = .ok (.iaload, 1) := dk_46 (dk_at dksX8_ownersOf_2 1 rfl rfl)
theorem dX8_ownersOf_50 : decode cX8_ownersOf 50 = .ok (.if_icmp .ge 37, 3) := dk_162 0 37 (dk_at dksX8_ownersOf_2 2 rfl rfl)
theorem dX8_ownersOf_53 : decode cX8_ownersOf 53 = .ok (.iload_n 2, 1) := dk_28 (dk_at dksX8_ownersOf_2 5 rfl rfl)
theorem dX8_ownersOf_54 : decode cX8_ownersOf 54 = .ok (.iload 4, 2) := dk_21 4 (dk_at dksX8_ownersOf_2 6 rfl rfl)
theorem dX8_ownersOf_56 : decode cX8_ownersOf 56 = .ok (.ishr, 1) := dk_122 (dk_at dksX8_ownersOf_2 8 rfl rfl)
theorem dX8_ownersOf_57 : decode cX8_ownersOf 57 = .ok (.iconst 1, 1) := dk_4 (dk_at dksX8_ownersOf_2 9 rfl rfl)
theorem dX8_ownersOf_58 : decode cX8_ownersOf 58 = .ok (.iand, 1) := dk_126 (dk_at dksX8_ownersOf_2 10 rfl rfl)
theorem dX8_ownersOf_59 : decode cX8_ownersOf 59 = .ok (.iconst 1, 1) := dk_4 (dk_at dksX8_ownersOf_2 11 rfl rfl)
theorem dX8_ownersOf_60 : decode cX8_ownersOf 60 = .ok (.if_icmp .ne 21, 3) := dk_160 0 21 (dk_at dksX8_ownersOf_2 12 rfl rfl)
theorem dX8_ownersOf_63 : decode cX8_ownersOf 63 = .ok (.iload_n 3, 1) := dk_29 (dk_at dksX8_ownersOf_2 15 rfl rfl)
theorem dX8_ownersOf_64 : decode cX8_ownersOf 64 = .ok (.iconst (-1), 1) := dk_2 (dk_at dksX8_ownersOf_2 16 rfl rfl)
theorem dX8_ownersOf_65 : decode cX8_ownersOf 65 = .ok (.if_icmp .eq 13, 3) := dk_159 0 13 (dk_at dksX8_ownersOf_2 17 rfl rfl)
theorem dX8_ownersOf_68 : decode cX8_ownersOf 68 = .ok (.aload_n 0, 1) := dk_42 (dk_at dksX8_ownersOf_2 20 rfl rfl)
theorem dX8_ownersOf_69 : decode cX8_ownersOf 69 = .ok (.getfield 7, 3) := dk_180 0 7 (dk_at dksX8_ownersOf_2 21 rfl rfl)
theorem dX8_ownersOf_72 : decode cX8_ownersOf 72 = .ok (.iconst 5, 1) := dk_8 (dk_at dksX8_ownersOf_3 0 rfl rfl)
theorem dX8_ownersOf_73 : decode cX8_ownersOf 73 = .ok (.iaload, 1) := dk_46 (dk_at dksX8_ownersOf_3 1 rfl rfl)
theorem dX8_ownersOf_74 : decode cX8_ownersOf 74 = .ok (.iconst 2, 1) := dk_5 (dk_at dksX8_ownersOf_3 2 rfl rfl)
theorem dX8_ownersOf_75 : decode cX8_ownersOf 75 = .ok (.if_icmp .ne 6, 3) := dk_160 0 6 (dk_at dksX8_ownersOf_3 3 rfl rfl)
theorem dX8_ownersOf_78 : decode cX8_ownersOf 78 = .ok (.iload 4, 2) := dk_21 4 (dk_at dksX8_ownersOf_3 6 rfl rfl)
theorem dX8_ownersOf_80 : decode cX8_ownersOf 80 = .ok (.istore_n 3, 1) := dk_62 (dk_at dksX8_ownersOf_3 8 rfl rfl)
theorem dX8_ownersOf_81 : decode cX8_ownersOf 81 = .ok (.iinc 4 1, 3) := dk_132 4 1 (dk_at dksX8_ownersOf_3 9 rfl rfl)
theorem dX8_ownersOf_84 : decode cX8_ownersOf 84 = .ok (.goto (-42), 3) := dk_167 255 214 (dk_at dksX8_ownersOf_3 12 rfl rfl)
theorem dX8_ownersOf_87 : decode cX8_ownersOf 87 = .ok (.iconst 1, 1) := dk_4 (dk_at dksX8_ownersOf_3 15 rfl rfl)
theorem dX8_ownersOf_88 : decode cX8_ownersOf 88 = .ok (.iload_n 3, 1) := dk_29 (dk_at dksX8_ownersOf_3 16 rfl rfl)
theorem dX8_ownersOf_89 : decode cX8_ownersOf 89 = .ok (.ishl, 1) := dk_120 (dk_at dksX8_ownersOf_3 17 rfl rfl)
theorem dX8_ownersOf_90 : decode cX8_ownersOf 90 = .ok (.ireturn, 1) := dk_172 (dk_at dksX8_ownersOf_3 18 rfl rfl)
abbrev cX8_bits : ByteArray := prog_17_method_88_code
def yX8_bits : MethodName := ⟨RX8, "bits", "(I)I"⟩
def dkwX8_bits_0 : List UInt8 := [3, 60, 26, 61, 28, 153, 0, 15, 132, 1, 1, 28, 28, 4, 100, 126, 61, 167, 255, 243, 27, 172]
abbrev dktX8_bits_0 : List UInt8 := dkwX8_bits_0 ++ []
theorem dksX8_bits_0 : cX8_bits.data.toList.drop 0 = dktX8_bits_0 := by decide +kernel
theorem dX8_bits_0 : decode cX8_bits 0 = .ok (.iconst 0, 1) := dk_3 (dk_at dksX8_bits_0 0 rfl rfl)
theorem dX8_bits_1 : decode cX8_bits 1 = .ok (.istore_n 1, 1) := dk_60 (dk_at dksX8_bits_0 1 rfl rfl)
theorem dX8_bits_2 : decode cX8_bits 2 = .ok (.iload_n 0, 1) := dk_26 (dk_at dksX8_bits_0 2 rfl rfl)
theorem dX8_bits_3 : decode cX8_bits 3 = .ok (.istore_n 2, 1) := dk_61 (dk_at dksX8_bits_0 3 rfl rfl)
theorem dX8_bits_4 : decode cX8_bits 4 = .ok (.iload_n 2, 1) := dk_28 (dk_at dksX8_bits_0 4 rfl rfl)
theorem dX8_bits_5 : decode cX8_bits 5 = .ok (.ifCond .eq 15, 3) := dk_153 0 15 (dk_at dksX8_bits_0 5 rfl rfl)
theorem dX8_bits_8 : decode cX8_bits 8 = .ok (.iinc 1 1, 3) := dk_132 1 1 (dk_at dksX8_bits_0 8 rfl rfl)
theorem dX8_bits_11 : decode cX8_bits 11 = .ok (.iload_n 2, 1) := dk_28 (dk_at dksX8_bits_0 11 rfl rfl)
theorem dX8_bits_12 : decode cX8_bits 12 = .ok (.iload_n 2, 1) := dk_28 (dk_at dksX8_bits_0 12 rfl rfl)
theorem dX8_bits_13 : decode cX8_bits 13 = .ok (.iconst 1, 1) := dk_4 (dk_at dksX8_bits_0 13 rfl rfl)
theorem dX8_bits_14 : decode cX8_bits 14 = .ok (.isub, 1) := dk_100 (dk_at dksX8_bits_0 14 rfl rfl)
theorem dX8_bits_15 : decode cX8_bits 15 = .ok (.iand, 1) := dk_126 (dk_at dksX8_bits_0 15 rfl rfl)
theorem dX8_bits_16 : decode cX8_bits 16 = .ok (.istore_n 2, 1) := dk_61 (dk_at dksX8_bits_0 16 rfl rfl)
theorem dX8_bits_17 : decode cX8_bits 17 = .ok (.goto (-13), 3) := dk_167 255 243 (dk_at dksX8_bits_0 17 rfl rfl)
theorem dX8_bits_20 : decode cX8_bits 20 = .ok (.iload_n 1, 1) := dk_27 (dk_at dksX8_bits_0 20 rfl rfl)
theorem dX8_bits_21 : decode cX8_bits 21 = .ok (.ireturn, 1) := dk_172 (dk_at dksX8_bits_0 21 rfl rfl)
abbrev cX8_leads : ByteArray := prog_17_method_94_code
def yX8_leads : MethodName := ⟨RX8, "leads", "(I)I"⟩
def dkwX8_leads_1 : List UInt8 := [182, 0, 78, 172]
abbrev dktX8_leads_1 : List UInt8 := dkwX8_leads_1 ++ []
def dkwX8_leads_0 : List UInt8 := [42, 27, 182, 1, 15, 153, 0, 15, 42, 42, 27, 182, 1, 96, 182, 0, 82, 167, 0, 8, 42, 4]
abbrev dktX8_leads_0 : List UInt8 := dkwX8_leads_0 ++ dktX8_leads_1
theorem dksX8_leads_0 : cX8_leads.data.toList.drop 0 = dktX8_leads_0 := by decide +kernel
theorem dksX8_leads_1 : cX8_leads.data.toList.drop 22 = dktX8_leads_1 := dk_seg dksX8_leads_0 22 rfl rfl
theorem dX8_leads_0 : decode cX8_leads 0 = .ok (.aload_n 0, 1) := dk_42 (dk_at dksX8_leads_0 0 rfl rfl)
theorem dX8_leads_1 : decode cX8_leads 1 = .ok (.iload_n 1, 1) := dk_27 (dk_at dksX8_leads_0 1 rfl rfl)
theorem dX8_leads_2 : decode cX8_leads 2 = .ok (.invokevirtual 271, 3) := dk_182 1 15 (dk_at dksX8_leads_0 2 rfl rfl)
theorem dX8_leads_5 : decode cX8_leads 5 = .ok (.ifCond .eq 15, 3) := dk_153 0 15 (dk_at dksX8_leads_0 5 rfl rfl)
theorem dX8_leads_8 : decode cX8_leads 8 = .ok (.aload_n 0, 1) := dk_42 (dk_at dksX8_leads_0 8 rfl rfl)
theorem dX8_leads_9 : decode cX8_leads 9 = .ok (.aload_n 0, 1) := dk_42 (dk_at dksX8_leads_0 9 rfl rfl)
theorem dX8_leads_10 : decode cX8_leads 10 = .ok (.iload_n 1, 1) := dk_27 (dk_at dksX8_leads_0 10 rfl rfl)
theorem dX8_leads_11 : decode cX8_leads 11 = .ok (.invokevirtual 352, 3) := dk_182 1 96 (dk_at dksX8_leads_0 11 rfl rfl)
theorem dX8_leads_14 : decode cX8_leads 14 = .ok (.invokevirtual 82, 3) := dk_182 0 82 (dk_at dksX8_leads_0 14 rfl rfl)
theorem dX8_leads_17 : decode cX8_leads 17 = .ok (.goto 8, 3) := dk_167 0 8 (dk_at dksX8_leads_0 17 rfl rfl)
theorem dX8_leads_20 : decode cX8_leads 20 = .ok (.aload_n 0, 1) := dk_42 (dk_at dksX8_leads_0 20 rfl rfl)
theorem dX8_leads_21 : decode cX8_leads 21 = .ok (.iconst 1, 1) := dk_4 (dk_at dksX8_leads_0 21 rfl rfl)
theorem dX8_leads_22 : decode cX8_leads 22 = .ok (.invokevirtual 78, 3) := dk_182 0 78 (dk_at dksX8_leads_1 0 rfl rfl)
theorem dX8_leads_25 : decode cX8_leads 25 = .ok (.ireturn, 1) := dk_172 (dk_at dksX8_leads_1 3 rfl rfl)
abbrev cX8_leadOf : ByteArray := prog_17_method_91_code
def yX8_leadOf : MethodName := ⟨RX8, "leadOf", "(I)I"⟩
def dkwX8_leadOf_1 : List UInt8 := [132, 3, 1, 167, 255, 234, 28, 172]
abbrev dktX8_leadOf_1 : List UInt8 := dkwX8_leadOf_1 ++ []
def dkwX8_leadOf_0 : List UInt8 := [3, 61, 3, 62, 29, 42, 180, 0, 7, 5, 46, 162, 0, 18, 28, 42, 27, 29, 182, 1, 90, 96, 61]
abbrev dktX8_leadOf_0 : List UInt8 := dkwX8_leadOf_0 ++ dktX8_leadOf_1
theorem dksX8_leadOf_0 : cX8_leadOf.data.toList.drop 0 = dktX8_leadOf_0 := by decide +kernel
theorem dksX8_leadOf_1 : cX8_leadOf.data.toList.drop 23 = dktX8_leadOf_1 := dk_seg dksX8_leadOf_0 23 rfl rfl
theorem dX8_leadOf_0 : decode cX8_leadOf 0 = .ok (.iconst 0, 1) := dk_3 (dk_at dksX8_leadOf_0 0 rfl rfl)
theorem dX8_leadOf_1 : decode cX8_leadOf 1 = .ok (.istore_n 2, 1) := dk_61 (dk_at dksX8_leadOf_0 1 rfl rfl)
theorem dX8_leadOf_2 : decode cX8_leadOf 2 = .ok (.iconst 0, 1) := dk_3 (dk_at dksX8_leadOf_0 2 rfl rfl)
theorem dX8_leadOf_3 : decode cX8_leadOf 3 = .ok (.istore_n 3, 1) := dk_62 (dk_at dksX8_leadOf_0 3 rfl rfl)
theorem dX8_leadOf_4 : decode cX8_leadOf 4 = .ok (.iload_n 3, 1) := dk_29 (dk_at dksX8_leadOf_0 4 rfl rfl)
theorem dX8_leadOf_5 : decode cX8_leadOf 5 = .ok (.aload_n 0, 1) := dk_42 (dk_at dksX8_leadOf_0 5 rfl rfl)
theorem dX8_leadOf_6 : decode cX8_leadOf 6 = .ok (.getfield 7, 3) := dk_180 0 7 (dk_at dksX8_leadOf_0 6 rfl rfl)
theorem dX8_leadOf_9 : decode cX8_leadOf 9 = .ok (.iconst 2, 1) := dk_5 (dk_at dksX8_leadOf_0 9 rfl rfl)
theorem dX8_leadOf_10 : decode cX8_leadOf 10 = .ok (.iaload, 1) := dk_46 (dk_at dksX8_leadOf_0 10 rfl rfl)
theorem dX8_leadOf_11 : decode cX8_leadOf 11 = .ok (.if_icmp .ge 18, 3) := dk_162 0 18 (dk_at dksX8_leadOf_0 11 rfl rfl)
theorem dX8_leadOf_14 : decode cX8_leadOf 14 = .ok (.iload_n 2, 1) := dk_28 (dk_at dksX8_leadOf_0 14 rfl rfl)
theorem dX8_leadOf_15 : decode cX8_leadOf 15 = .ok (.aload_n 0, 1) := dk_42 (dk_at dksX8_leadOf_0 15 rfl rfl)
theorem dX8_leadOf_16 : decode cX8_leadOf 16 = .ok (.iload_n 1, 1) := dk_27 (dk_at dksX8_leadOf_0 16 rfl rfl)
theorem dX8_leadOf_17 : decode cX8_leadOf 17 = .ok (.iload_n 3, 1) := dk_29 (dk_at dksX8_leadOf_0 17 rfl rfl)
theorem dX8_leadOf_18 : decode cX8_leadOf 18 = .ok (.invokevirtual 346, 3) := dk_182 1 90 (dk_at dksX8_leadOf_0 18 rfl rfl)
theorem dX8_leadOf_21 : decode cX8_leadOf 21 = .ok (.iadd, 1) := dk_96 (dk_at dksX8_leadOf_0 21 rfl rfl)
theorem dX8_leadOf_22 : decode cX8_leadOf 22 = .ok (.istore_n 2, 1) := dk_61 (dk_at dksX8_leadOf_0 22 rfl rfl)
theorem dX8_leadOf_23 : decode cX8_leadOf 23 = .ok (.iinc 3 1, 3) := dk_132 3 1 (dk_at dksX8_leadOf_1 0 rfl rfl)
theorem dX8_leadOf_26 : decode cX8_leadOf 26 = .ok (.goto (-22), 3) := dk_167 255 234 (dk_at dksX8_leadOf_1 3 rfl rfl)
theorem dX8_leadOf_29 : decode cX8_leadOf 29 = .ok (.iload_n 2, 1) := dk_28 (dk_at dksX8_leadOf_1 6 rfl rfl)
theorem dX8_leadOf_30 : decode cX8_leadOf 30 = .ok (.ireturn, 1) := dk_172 (dk_at dksX8_leadOf_1 7 rfl rfl)
abbrev cX8_shareOf : ByteArray := prog_17_method_90_code
def yX8_shareOf : MethodName := ⟨RX8, "shareOf", "(II)I"⟩
def dkwX8_shareOf_2 : List UInt8 := [172]
abbrev dktX8_shareOf_2 : List UInt8 := dkwX8_shareOf_2 ++ []
def dkwX8_shareOf_1 : List UInt8 := [154, 0, 7, 3, 167, 0, 20, 42, 180, 0, 7, 3, 28, 184, 0, 171, 4, 96, 46, 29, 184, 1, 84, 108]
abbrev dktX8_shareOf_1 : List UInt8 := dkwX8_shareOf_1 ++ dktX8_shareOf_2
def dkwX8_shareOf_0 : List UInt8 := [42, 28, 182, 1, 12, 153, 0, 11, 42, 28, 182, 1, 87, 167, 0, 4, 3, 62, 29, 27, 122, 4, 126]
abbrev dktX8_shareOf_0 : List UInt8 := dkwX8_shareOf_0 ++ dktX8_shareOf_1
theorem dksX8_shareOf_0 : cX8_shareOf.data.toList.drop 0 = dktX8_shareOf_0 := by decide +kernel
theorem dksX8_shareOf_1 : cX8_shareOf.data.toList.drop 23 = dktX8_shareOf_1 := dk_seg dksX8_shareOf_0 23 rfl rfl
theorem dksX8_shareOf_2 : cX8_shareOf.data.toList.drop 47 = dktX8_shareOf_2 := dk_seg dksX8_shareOf_1 24 rfl rfl
theorem dX8_shareOf_0 : decode cX8_shareOf 0 = .ok (.aload_n 0, 1) := dk_42 (dk_at dksX8_shareOf_0 0 rfl rfl)
theorem dX8_shareOf_1 : decode cX8_shareOf 1 = .ok (.iload_n 2, 1) := dk_28 (dk_at dksX8_shareOf_0 1 rfl rfl)
theorem dX8_shareOf_2 : decode cX8_shareOf 2 = .ok (.invokevirtual 268, 3) := dk_182 1 12 (dk_at dksX8_shareOf_0 2 rfl rfl)
theorem dX8_shareOf_5 : decode cX8_shareOf 5 = .ok (.ifCond .eq 11, 3) := dk_153 0 11 (dk_at dksX8_shareOf_0 5 rfl rfl)
theorem dX8_shareOf_8 : decode cX8_shareOf 8 = .ok (.aload_n 0, 1) := dk_42 (dk_at dksX8_shareOf_0 8 rfl rfl)
theorem dX8_shareOf_9 : decode cX8_shareOf 9 = .ok (.iload_n 2, 1) := dk_28 (dk_at dksX8_shareOf_0 9 rfl rfl)
theorem dX8_shareOf_10 : decode cX8_shareOf 10 = .ok (.invokevirtual 343, 3) := dk_182 1 87 (dk_at dksX8_shareOf_0 10 rfl rfl)
theorem dX8_shareOf_13 : decode cX8_shareOf 13 = .ok (.goto 4, 3) := dk_167 0 4 (dk_at dksX8_shareOf_0 13 rfl rfl)
theorem dX8_shareOf_16 : decode cX8_shareOf 16 = .ok (.iconst 0, 1) := dk_3 (dk_at dksX8_shareOf_0 16 rfl rfl)
theorem dX8_shareOf_17 : decode cX8_shareOf 17 = .ok (.istore_n 3, 1) := dk_62 (dk_at dksX8_shareOf_0 17 rfl rfl)
theorem dX8_shareOf_18 : decode cX8_shareOf 18 = .ok (.iload_n 3, 1) := dk_29 (dk_at dksX8_shareOf_0 18 rfl rfl)
theorem dX8_shareOf_19 : decode cX8_shareOf 19 = .ok (.iload_n 1, 1) := dk_27 (dk_at dksX8_shareOf_0 19 rfl rfl)
theorem dX8_shareOf_20 : decode cX8_shareOf 20 = .ok (.ishr, 1) := dk_122 (dk_at dksX8_shareOf_0 20 rfl rfl)
theorem dX8_shareOf_21 : decode cX8_shareOf 21 = .ok (.iconst 1, 1) := dk_4 (dk_at dksX8_shareOf_0 21 rfl rfl)
theorem dX8_shareOf_22 : decode cX8_shareOf 22 = .ok (.iand, 1) := dk_126 (dk_at dksX8_shareOf_0 22 rfl rfl)
theorem dX8_shareOf_23 : decode cX8_shareOf 23 = .ok (.ifCond .ne 7, 3) := dk_154 0 7 (dk_at dksX8_shareOf_1 0 rfl rfl)
theorem dX8_shareOf_26 : decode cX8_shareOf 26 = .ok (.iconst 0, 1) := dk_3 (dk_at dksX8_shareOf_1 3 rfl rfl)
theorem dX8_shareOf_27 : decode cX8_shareOf 27 = .ok (.goto 20, 3) := dk_167 0 20 (dk_at dksX8_shareOf_1 4 rfl rfl)
theorem dX8_shareOf_30 : decode cX8_shareOf 30 = .ok (.aload_n 0, 1) := dk_42 (dk_at dksX8_shareOf_1 7 rfl rfl)
theorem dX8_shareOf_31 : decode cX8_shareOf 31 = .ok (.getfield 7, 3) := dk_180 0 7 (dk_at dksX8_shareOf_1 8 rfl rfl)
theorem dX8_shareOf_34 : decode cX8_shareOf 34 = .ok (.iconst 0, 1) := dk_3 (dk_at dksX8_shareOf_1 11 rfl rfl)
theorem dX8_shareOf_35 : decode cX8_shareOf 35 = .ok (.iload_n 2, 1) := dk_28 (dk_at dksX8_shareOf_1 12 rfl rfl)
theorem dX8_shareOf_36 : decode cX8_shareOf 36 = .ok (.invokestatic 171, 3) := dk_184 0 171 (dk_at dksX8_shareOf_1 13 rfl rfl)
theorem dX8_shareOf_39 : decode cX8_shareOf 39 = .ok (.iconst 1, 1) := dk_4 (dk_at dksX8_shareOf_1 16 rfl rfl)
theorem dX8_shareOf_40 : decode cX8_shareOf 40 = .ok (.iadd, 1) := dk_96 (dk_at dksX8_shareOf_1 17 rfl rfl)
theorem dX8_shareOf_41 : decode cX8_shareOf 41 = .ok (.iaload, 1) := dk_46 (dk_at dksX8_shareOf_1 18 rfl rfl)
theorem dX8_shareOf_42 : decode cX8_shareOf 42 = .ok (.iload_n 3, 1) := dk_29 (dk_at dksX8_shareOf_1 19 rfl rfl)
theorem dX8_shareOf_43 : decode cX8_shareOf 43 = .ok (.invokestatic 340, 3) := dk_184 1 84 (dk_at dksX8_shareOf_1 20 rfl rfl)
theorem dX8_shareOf_46 : decode cX8_shareOf 46 = .ok (.idiv, 1) := dk_108 (dk_at dksX8_shareOf_1 23 rfl rfl)
theorem dX8_shareOf_47 : decode cX8_shareOf 47 = .ok (.ireturn, 1) := dk_172 (dk_at dksX8_shareOf_2 0 rfl rfl)
abbrev cX8_leader : ByteArray := prog_17_method_96_code
def yX8_leader : MethodName := ⟨RX8, "leader", "()I"⟩
def dkwX8_leader_0 : List UInt8 := [42, 42, 3, 182, 1, 99, 182, 1, 102, 172]
abbrev dktX8_leader_0 : List UInt8 := dkwX8_leader_0 ++ []
theorem dksX8_leader_0 : cX8_leader.data.toList.drop 0 = dktX8_leader_0 := by decide +kernel
theorem dX8_leader_0 : decode cX8_leader 0 = .ok (.aload_n 0, 1) := dk_42 (dk_at dksX8_leader_0 0 rfl rfl)
theorem dX8_leader_1 : decode cX8_leader 1 = .ok (.aload_n 0, 1) := dk_42 (dk_at dksX8_leader_0 1 rfl rfl)
theorem dX8_leader_2 : decode cX8_leader 2 = .ok (.iconst 0, 1) := dk_3 (dk_at dksX8_leader_0 2 rfl rfl)
theorem dX8_leader_3 : decode cX8_leader 3 = .ok (.invokevirtual 355, 3) := dk_182 1 99 (dk_at dksX8_leader_0 3 rfl rfl)
theorem dX8_leader_6 : decode cX8_leader 6 = .ok (.invokevirtual 358, 3) := dk_182 1 102 (dk_at dksX8_leader_0 6 rfl rfl)
theorem dX8_leader_9 : decode cX8_leader 9 = .ok (.ireturn, 1) := dk_172 (dk_at dksX8_leader_0 9 rfl rfl)
abbrev cX8_atRank : ByteArray := prog_17_method_95_code
def yX8_atRank : MethodName := ⟨RX8, "atRank", "(I)I"⟩
def dkwX8_atRank_3 : List UInt8 := [132, 4, 1, 167, 255, 200, 29, 27, 160, 0, 5, 28, 172, 132, 2, 1, 167, 255, 172, 2, 172]
abbrev dktX8_atRank_3 : List UInt8 := dkwX8_atRank_3 ++ []
def dkwX8_atRank_2 : List UInt8 := [182, 1, 96, 42, 28, 182, 1, 96, 160, 0, 13, 21, 4, 28, 162, 0, 7, 4, 167, 0, 4, 3, 96, 62]
abbrev dktX8_atRank_2 : List UInt8 := dkwX8_atRank_2 ++ dktX8_atRank_3
def dkwX8_atRank_1 : List UInt8 := [46, 162, 0, 51, 29, 42, 21, 4, 182, 1, 96, 42, 28, 182, 1, 96, 163, 0, 23, 42, 21, 4]
abbrev dktX8_atRank_1 : List UInt8 := dkwX8_atRank_1 ++ dktX8_atRank_2
def dkwX8_atRank_0 : List UInt8 := [3, 61, 28, 42, 180, 0, 7, 4, 46, 162, 0, 80, 3, 62, 3, 54, 4, 21, 4, 42, 180, 0, 7, 4]
abbrev dktX8_atRank_0 : List UInt8 := dkwX8_atRank_0 ++ dktX8_atRank_1
theorem dksX8_atRank_0 : cX8_atRank.data.toList.drop 0 = dktX8_atRank_0 := by decide +kernel
theorem dksX8_atRank_1 : cX8_atRank.data.toList.drop 24 = dktX8_atRank_1 := dk_seg dksX8_atRank_0 24 rfl rfl
theorem dksX8_atRank_2 : cX8_atRank.data.toList.drop 46 = dktX8_atRank_2 := dk_seg dksX8_atRank_1 22 rfl rfl
theorem dksX8_atRank_3 : cX8_atRank.data.toList.drop 70 = dktX8_atRank_3 := dk_seg dksX8_atRank_2 24 rfl rfl
theorem dX8_atRank_0 : decode cX8_atRank 0 = .ok (.iconst 0, 1) := dk_3 (dk_at dksX8_atRank_0 0 rfl rfl)
theorem dX8_atRank_1 : decode cX8_atRank 1 = .ok (.istore_n 2, 1) := dk_61 (dk_at dksX8_atRank_0 1 rfl rfl)
theorem dX8_atRank_2 : decode cX8_atRank 2 = .ok (.iload_n 2, 1) := dk_28 (dk_at dksX8_atRank_0 2 rfl rfl)
theorem dX8_atRank_3 : decode cX8_atRank 3 = .ok (.aload_n 0, 1) := dk_42 (dk_at dksX8_atRank_0 3 rfl rfl)
theorem dX8_atRank_4 : decode cX8_atRank 4 = .ok (.getfield 7, 3) := dk_180 0 7 (dk_at dksX8_atRank_0 4 rfl rfl)
theorem dX8_atRank_7 : decode cX8_atRank 7 = .ok (.iconst 1, 1) := dk_4 (dk_at dksX8_atRank_0 7 rfl rfl)
theorem dX8_atRank_8 : decode cX8_atRank 8 = .ok (.iaload, 1) := dk_46 (dk_at dksX8_atRank_0 8 rfl rfl)
theorem dX8_atRank_9 : decode cX8_atRank 9 = .ok (.if_icmp .ge 80, 3) := dk_162 0 80 (dk_at dksX8_atRank_0 9 rfl rfl)
theorem dX8_atRank_12 : decode cX8_atRank 12 = .ok (.iconst 0, 1) := dk_3 (dk_at dksX8_atRank_0 12 rfl rfl)
theorem dX8_atRank_13 : decode cX8_atRank 13 = .ok (.istore_n 3, 1) := dk_62 (dk_at dksX8_atRank_0 13 rfl rfl)
theorem dX8_atRank_14 : decode cX8_atRank 14 = .ok (.iconst 0, 1) := dk_3 (dk_at dksX8_atRank_0 14 rfl rfl)
theorem dX8_atRank_15 : decode cX8_atRank 15 = .ok (.istore 4, 2) := dk_54 4 (dk_at dksX8_atRank_0 15 rfl rfl)
theorem dX8_atRank_17 : decode cX8_atRank 17 = .ok (.iload 4, 2) := dk_21 4 (dk_at dksX8_atRank_0 17 rfl rfl)
theorem dX8_atRank_19 : decode cX8_atRank 19 = .ok (.aload_n 0, 1) := dk_42 (dk_at dksX8_atRank_0 19 rfl rfl)
theorem dX8_atRank_20 : decode cX8_atRank 20 = .ok (.getfield 7, 3) := dk_180 0 7 (dk_at dksX8_atRank_0 20 rfl rfl)
theorem dX8_atRank_23 : decode cX8_atRank 23 = .ok (.iconst 1, 1) := dk_4 (dk_at dksX8_atRank_0 23 rfl rfl)
theorem dX8_atRank_24 : decode cX8_atRank 24 = .ok (.iaload, 1) := dk_46 (dk_at dksX8_atRank_1 0 rfl rfl)
theorem dX8_atRank_25 : decode cX8_atRank 25 = .ok (.if_icmp .ge 51, 3) := dk_162 0 51 (dk_at dksX8_atRank_1 1 rfl rfl)
theorem dX8_atRank_28 : decode cX8_atRank 28 = .ok (.iload_n 3, 1) := dk_29 (dk_at dksX8_atRank_1 4 rfl rfl)
theorem dX8_atRank_29 : decode cX8_atRank 29 = .ok (.aload_n 0, 1) := dk_42 (dk_at dksX8_atRank_1 5 rfl rfl)
theorem dX8_atRank_30 : decode cX8_atRank 30 = .ok (.iload 4, 2) := dk_21 4 (dk_at dksX8_atRank_1 6 rfl rfl)
theorem dX8_atRank_32 : decode cX8_atRank 32 = .ok (.invokevirtual 352, 3) := dk_182 1 96 (dk_at dksX8_atRank_1 8 rfl rfl)
theorem dX8_atRank_35 : decode cX8_atRank 35 = .ok (.aload_n 0, 1) := dk_42 (dk_at dksX8_atRank_1 11 rfl rfl)
theorem dX8_atRank_36 : decode cX8_atRank 36 = .ok (.iload_n 2, 1) := dk_28 (dk_at dksX8_atRank_1 12 rfl rfl)
theorem dX8_atRank_37 : decode cX8_atRank 37 = .ok (.invokevirtual 352, 3) := dk_182 1 96 (dk_at dksX8_atRank_1 13 rfl rfl)
theorem dX8_atRank_40 : decode cX8_atRank 40 = .ok (.if_icmp .gt 23, 3) := dk_163 0 23 (dk_at dksX8_atRank_1 16 rfl rfl)
theorem dX8_atRank_43 : decode cX8_atRank 43 = .ok (.aload_n 0, 1) := dk_42 (dk_at dksX8_atRank_1 19 rfl rfl)
theorem dX8_atRank_44 : decode cX8_atRank 44 = .ok (.iload 4, 2) := dk_21 4 (dk_at dksX8_atRank_1 20 rfl rfl)
theorem dX8_atRank_46 : decode cX8_atRank 46 = .ok (.invokevirtual 352, 3) := dk_182 1 96 (dk_at dksX8_atRank_2 0 rfl rfl)
theorem dX8_atRank_49 : decode cX8_atRank 49 = .ok (.aload_n 0, 1) := dk_42 (dk_at dksX8_atRank_2 3 rfl rfl)
theorem dX8_atRank_50 : decode cX8_atRank 50 = .ok (.iload_n 2, 1) := dk_28 (dk_at dksX8_atRank_2 4 rfl rfl)
theorem dX8_atRank_51 : decode cX8_atRank 51 = .ok (.invokevirtual 352, 3) := dk_182 1 96 (dk_at dksX8_atRank_2 5 rfl rfl)
theorem dX8_atRank_54 : decode cX8_atRank 54 = .ok (.if_icmp .ne 13, 3) := dk_160 0 13 (dk_at dksX8_atRank_2 8 rfl rfl)
theorem dX8_atRank_57 : decode cX8_atRank 57 = .ok (.iload 4, 2) := dk_21 4 (dk_at dksX8_atRank_2 11 rfl rfl)
theorem dX8_atRank_59 : decode cX8_atRank 59 = .ok (.iload_n 2, 1) := dk_28 (dk_at dksX8_atRank_2 13 rfl rfl)
theorem dX8_atRank_60 : decode cX8_atRank 60 = .ok (.if_icmp .ge 7, 3) := dk_162 0 7 (dk_at dksX8_atRank_2 14 rfl rfl)
theorem dX8_atRank_63 : decode cX8_atRank 63 = .ok (.iconst 1, 1) := dk_4 (dk_at dksX8_atRank_2 17 rfl rfl)
theorem dX8_atRank_64 : decode cX8_atRank 64 = .ok (.goto 4, 3) := dk_167 0 4 (dk_at dksX8_atRank_2 18 rfl rfl)
theorem dX8_atRank_67 : decode cX8_atRank 67 = .ok (.iconst 0, 1) := dk_3 (dk_at dksX8_atRank_2 21 rfl rfl)
theorem dX8_atRank_68 : decode cX8_atRank 68 = .ok (.iadd, 1) := dk_96 (dk_at dksX8_atRank_2 22 rfl rfl)
theorem dX8_atRank_69 : decode cX8_atRank 69 = .ok (.istore_n 3, 1) := dk_62 (dk_at dksX8_atRank_2 23 rfl rfl)
theorem dX8_atRank_70 : decode cX8_atRank 70 = .ok (.iinc 4 1, 3) := dk_132 4 1 (dk_at dksX8_atRank_3 0 rfl rfl)
theorem dX8_atRank_73 : decode cX8_atRank 73 = .ok (.goto (-56), 3) := dk_167 255 200 (dk_at dksX8_atRank_3 3 rfl rfl)
theorem dX8_atRank_76 : decode cX8_atRank 76 = .ok (.iload_n 3, 1) := dk_29 (dk_at dksX8_atRank_3 6 rfl rfl)
theorem dX8_atRank_77 : decode cX8_atRank 77 = .ok (.iload_n 1, 1) := dk_27 (dk_at dksX8_atRank_3 7 rfl rfl)
theorem dX8_atRank_78 : decode cX8_atRank 78 = .ok (.if_icmp .ne 5, 3) := dk_160 0 5 (dk_at dksX8_atRank_3 8 rfl rfl)
theorem dX8_atRank_81 : decode cX8_atRank 81 = .ok (.iload_n 2, 1) := dk_28 (dk_at dksX8_atRank_3 11 rfl rfl)
theorem dX8_atRank_82 : decode cX8_atRank 82 = .ok (.ireturn, 1) := dk_172 (dk_at dksX8_atRank_3 12 rfl rfl)
theorem dX8_atRank_83 : decode cX8_atRank 83 = .ok (.iinc 2 1, 3) := dk_132 2 1 (dk_at dksX8_atRank_3 13 rfl rfl)
theorem dX8_atRank_86 : decode cX8_atRank 86 = .ok (.goto (-84), 3) := dk_167 255 172 (dk_at dksX8_atRank_3 16 rfl rfl)
theorem dX8_atRank_89 : decode cX8_atRank 89 = .ok (.iconst (-1), 1) := dk_2 (dk_at dksX8_atRank_3 19 rfl rfl)
theorem dX8_atRank_90 : decode cX8_atRank 90 = .ok (.ireturn, 1) := dk_172 (dk_at dksX8_atRank_3 20 rfl rfl)
abbrev cX8_orNone : ByteArray := prog_17_method_9_code
def yX8_orNone : MethodName := ⟨RX8, "orNone", "(I)I"⟩
def dkwX8_orNone_0 : List UInt8 := [27, 2, 160, 0, 12, 42, 16, 6, 182, 0, 78, 167, 0, 8, 42, 27, 182, 0, 82, 172]
abbrev dktX8_orNone_0 : List UInt8 := dkwX8_orNone_0 ++ []
theorem dksX8_orNone_0 : cX8_orNone.data.toList.drop 0 = dktX8_orNone_0 := by decide +kernel
theorem dX8_orNone_0 : decode cX8_orNone 0 = .ok (.iload_n 1, 1) := dk_27 (dk_at dksX8_orNone_0 0 rfl rfl)
theorem dX8_orNone_1 : decode cX8_orNone 1 = .ok (.iconst (-1), 1) := dk_2 (dk_at dksX8_orNone_0 1 rfl rfl)
theorem dX8_orNone_2 : decode cX8_orNone 2 = .ok (.if_icmp .ne 12, 3) := dk_160 0 12 (dk_at dksX8_orNone_0 2 rfl rfl)
theorem dX8_orNone_5 : decode cX8_orNone 5 = .ok (.aload_n 0, 1) := dk_42 (dk_at dksX8_orNone_0 5 rfl rfl)
theorem dX8_orNone_6 : decode cX8_orNone 6 = .ok (.bipush 6, 2) := dk_16 6 (dk_at dksX8_orNone_0 6 rfl rfl)
theorem dX8_orNone_8 : decode cX8_orNone 8 = .ok (.invokevirtual 78, 3) := dk_182 0 78 (dk_at dksX8_orNone_0 8 rfl rfl)
theorem dX8_orNone_11 : decode cX8_orNone 11 = .ok (.goto 8, 3) := dk_167 0 8 (dk_at dksX8_orNone_0 11 rfl rfl)
theorem dX8_orNone_14 : decode cX8_orNone 14 = .ok (.aload_n 0, 1) := dk_42 (dk_at dksX8_orNone_0 14 rfl rfl)
theorem dX8_orNone_15 : decode cX8_orNone 15 = .ok (.iload_n 1, 1) := dk_27 (dk_at dksX8_orNone_0 15 rfl rfl)
theorem dX8_orNone_16 : decode cX8_orNone 16 = .ok (.invokevirtual 82, 3) := dk_182 0 82 (dk_at dksX8_orNone_0 16 rfl rfl)
theorem dX8_orNone_19 : decode cX8_orNone 19 = .ok (.ireturn, 1) := dk_172 (dk_at dksX8_orNone_0 19 rfl rfl)
abbrev cX8_ranked : ByteArray := prog_17_method_97_code
def yX8_ranked : MethodName := ⟨RX8, "ranked", "(I)I"⟩
def dkwX8_ranked_0 : List UInt8 := [42, 42, 27, 182, 1, 99, 182, 1, 102, 172]
abbrev dktX8_ranked_0 : List UInt8 := dkwX8_ranked_0 ++ []
theorem dksX8_ranked_0 : cX8_ranked.data.toList.drop 0 = dktX8_ranked_0 := by decide +kernel
theorem dX8_ranked_0 : decode cX8_ranked 0 = .ok (.aload_n 0, 1) := dk_42 (dk_at dksX8_ranked_0 0 rfl rfl)
theorem dX8_ranked_1 : decode cX8_ranked 1 = .ok (.aload_n 0, 1) := dk_42 (dk_at dksX8_ranked_0 1 rfl rfl)
theorem dX8_ranked_2 : decode cX8_ranked 2 = .ok (.iload_n 1, 1) := dk_27 (dk_at dksX8_ranked_0 2 rfl rfl)
theorem dX8_ranked_3 : decode cX8_ranked 3 = .ok (.invokevirtual 355, 3) := dk_182 1 99 (dk_at dksX8_ranked_0 3 rfl rfl)
theorem dX8_ranked_6 : decode cX8_ranked 6 = .ok (.invokevirtual 358, 3) := dk_182 1 102 (dk_at dksX8_ranked_0 6 rfl rfl)
theorem dX8_ranked_9 : decode cX8_ranked 9 = .ok (.ireturn, 1) := dk_172 (dk_at dksX8_ranked_0 9 rfl rfl)
abbrev cX8_duels : ByteArray := prog_17_method_98_code
def yX8_duels : MethodName := ⟨RX8, "duels", "()I"⟩
def dkwX8_duels_1 : List UInt8 := [164, 0, 9, 4, 28, 120, 167, 0, 4, 3, 128, 60, 132, 2, 1, 167, 255, 221, 42, 27, 182, 0, 82, 172]
abbrev dktX8_duels_1 : List UInt8 := dkwX8_duels_1 ++ []
def dkwX8_duels_0 : List UInt8 := [3, 60, 3, 61, 28, 42, 180, 0, 7, 5, 46, 162, 0, 31, 27, 42, 28, 182, 1, 81, 184, 1, 84, 4]
abbrev dktX8_duels_0 : List UInt8 := dkwX8_duels_0 ++ dktX8_duels_1
theorem dksX8_duels_0 : cX8_duels.data.toList.drop 0 = dktX8_duels_0 := by decide +kernel
theorem dksX8_duels_1 : cX8_duels.data.toList.drop 24 = dktX8_duels_1 := dk_seg dksX8_duels_0 24 rfl rfl
theorem dX8_duels_0 : decode cX8_duels 0 = .ok (.iconst 0, 1) := dk_3 (dk_at dksX8_duels_0 0 rfl rfl)
theorem dX8_duels_1 : decode cX8_duels 1 = .ok (.istore_n 1, 1) := dk_60 (dk_at dksX8_duels_0 1 rfl rfl)
theorem dX8_duels_2 : decode cX8_duels 2 = .ok (.iconst 0, 1) := dk_3 (dk_at dksX8_duels_0 2 rfl rfl)
theorem dX8_duels_3 : decode cX8_duels 3 = .ok (.istore_n 2, 1) := dk_61 (dk_at dksX8_duels_0 3 rfl rfl)
theorem dX8_duels_4 : decode cX8_duels 4 = .ok (.iload_n 2, 1) := dk_28 (dk_at dksX8_duels_0 4 rfl rfl)
theorem dX8_duels_5 : decode cX8_duels 5 = .ok (.aload_n 0, 1) := dk_42 (dk_at dksX8_duels_0 5 rfl rfl)
theorem dX8_duels_6 : decode cX8_duels 6 = .ok (.getfield 7, 3) := dk_180 0 7 (dk_at dksX8_duels_0 6 rfl rfl)
theorem dX8_duels_9 : decode cX8_duels 9 = .ok (.iconst 2, 1) := dk_5 (dk_at dksX8_duels_0 9 rfl rfl)
theorem dX8_duels_10 : decode cX8_duels 10 = .ok (.iaload, 1) := dk_46 (dk_at dksX8_duels_0 10 rfl rfl)
theorem dX8_duels_11 : decode cX8_duels 11 = .ok (.if_icmp .ge 31, 3) := dk_162 0 31 (dk_at dksX8_duels_0 11 rfl rfl)
theorem dX8_duels_14 : decode cX8_duels 14 = .ok (.iload_n 1, 1) := dk_27 (dk_at dksX8_duels_0 14 rfl rfl)
theorem dX8_duels_15 : decode cX8_duels 15 = .ok (.aload_n 0, 1) := dk_42 (dk_at dksX8_duels_0 15 rfl rfl)
theorem dX8_duels_16 : decode cX8_duels 16 = .ok (.iload_n 2, 1) := dk_28 (dk_at dksX8_duels_0 16 rfl rfl)
theorem dX8_duels_17 : decode cX8_duels 17 = .ok (.invokevirtual 337, 3) := dk_182 1 81 (dk_at dksX8_duels_0 17 rfl rfl)
theorem dX8_duels_20 : decode cX8_duels 20 = .ok (.invokestatic 340, 3) := dk_184 1 84 (dk_at dksX8_duels_0 20 rfl rfl)
theorem dX8_duels_23 : decode cX8_duels 23 = .ok (.iconst 1, 1) := dk_4 (dk_at dksX8_duels_0 23 rfl rfl)
theorem dX8_duels_24 : decode cX8_duels 24 = .ok (.if_icmp .le 9, 3) := dk_164 0 9 (dk_at dksX8_duels_1 0 rfl rfl)
theorem dX8_duels_27 : decode cX8_duels 27 = .ok (.iconst 1, 1) := dk_4 (dk_at dksX8_duels_1 3 rfl rfl)
theorem dX8_duels_28 : decode cX8_duels 28 = .ok (.iload_n 2, 1) := dk_28 (dk_at dksX8_duels_1 4 rfl rfl)
theorem dX8_duels_29 : decode cX8_duels 29 = .ok (.ishl, 1) := dk_120 (dk_at dksX8_duels_1 5 rfl rfl)
theorem dX8_duels_30 : decode cX8_duels 30 = .ok (.goto 4, 3) := dk_167 0 4 (dk_at dksX8_duels_1 6 rfl rfl)
theorem dX8_duels_33 : decode cX8_duels 33 = .ok (.iconst 0, 1) := dk_3 (dk_at dksX8_duels_1 9 rfl rfl)
theorem dX8_duels_34 : decode cX8_duels 34 = .ok (.ior, 1) := dk_128 (dk_at dksX8_duels_1 10 rfl rfl)
theorem dX8_duels_35 : decode cX8_duels 35 = .ok (.istore_n 1, 1) := dk_60 (dk_at dksX8_duels_1 11 rfl rfl)
theorem dX8_duels_36 : decode cX8_duels 36 = .ok (.iinc 2 1, 3) := dk_132 2 1 (dk_at dksX8_duels_1 12 rfl rfl)
theorem dX8_duels_39 : decode cX8_duels 39 = .ok (.goto (-35), 3) := dk_167 255 221 (dk_at dksX8_duels_1 15 rfl rfl)
theorem dX8_duels_42 : decode cX8_duels 42 = .ok (.aload_n 0, 1) := dk_42 (dk_at dksX8_duels_1 18 rfl rfl)
theorem dX8_duels_43 : decode cX8_duels 43 = .ok (.iload_n 1, 1) := dk_27 (dk_at dksX8_duels_1 19 rfl rfl)
theorem dX8_duels_44 : decode cX8_duels 44 = .ok (.invokevirtual 82, 3) := dk_182 0 82 (dk_at dksX8_duels_1 20 rfl rfl)
theorem dX8_duels_47 : decode cX8_duels 47 = .ok (.ireturn, 1) := dk_172 (dk_at dksX8_duels_1 23 rfl rfl)
abbrev cX8_needs : ByteArray := prog_17_method_99_code
def yX8_needs : MethodName := ⟨RX8, "needs", "(I)I"⟩
def dkwX8_needs_2 : List UInt8 := [4, 167, 0, 4, 3, 96, 61, 132, 3, 1, 167, 255, 216, 42, 28, 182, 0, 82, 172]
abbrev dktX8_needs_2 : List UInt8 := dkwX8_needs_2 ++ []
def dkwX8_needs_1 : List UInt8 := [46, 162, 0, 36, 28, 42, 29, 182, 1, 12, 153, 0, 18, 42, 29, 182, 1, 81, 4, 27, 120, 159, 0, 7]
abbrev dktX8_needs_1 : List UInt8 := dkwX8_needs_1 ++ dktX8_needs_2
def dkwX8_needs_0 : List UInt8 := [42, 27, 182, 1, 15, 154, 0, 9, 42, 4, 182, 0, 78, 172, 3, 61, 3, 62, 29, 42, 180, 0, 7, 5]
abbrev dktX8_needs_0 : List UInt8 := dkwX8_needs_0 ++ dktX8_needs_1
theorem dksX8_needs_0 : cX8_needs.data.toList.drop 0 = dktX8_needs_0 := by decide +kernel
theorem dksX8_needs_1 : cX8_needs.data.toList.drop 24 = dktX8_needs_1 := dk_seg dksX8_needs_0 24 rfl rfl
theorem dksX8_needs_2 : cX8_needs.data.toList.drop 48 = dktX8_needs_2 := dk_seg dksX8_needs_1 24 rfl rfl
theorem dX8_needs_0 : decode cX8_needs 0 = .ok (.aload_n 0, 1) := dk_42 (dk_at dksX8_needs_0 0 rfl rfl)
theorem dX8_needs_1 : decode cX8_needs 1 = .ok (.iload_n 1, 1) := dk_27 (dk_at dksX8_needs_0 1 rfl rfl)
theorem dX8_needs_2 : decode cX8_needs 2 = .ok (.invokevirtual 271, 3) := dk_182 1 15 (dk_at dksX8_needs_0 2 rfl rfl)
theorem dX8_needs_5 : decode cX8_needs 5 = .ok (.ifCond .ne 9, 3) := dk_154 0 9 (dk_at dksX8_needs_0 5 rfl rfl)
theorem dX8_needs_8 : decode cX8_needs 8 = .ok (.aload_n 0, 1) := dk_42 (dk_at dksX8_needs_0 8 rfl rfl)
theorem dX8_needs_9 : decode cX8_needs 9 = .ok (.iconst 1, 1) := dk_4 (dk_at dksX8_needs_0 9 rfl rfl)
theorem dX8_needs_10 : decode cX8_needs 10 = .ok (.invokevirtual 78, 3) := dk_182 0 78 (dk_at dksX8_needs_0 10 rfl rfl)
theorem dX8_needs_13 : decode cX8_needs 13 = .ok (.ireturn, 1) := dk_172 (dk_at dksX8_needs_0 13 rfl rfl)
theorem dX8_needs_14 : decode cX8_needs 14 = .ok (.iconst 0, 1) := dk_3 (dk_at dksX8_needs_0 14 rfl rfl)
theorem dX8_needs_15 : decode cX8_needs 15 = .ok (.istore_n 2, 1) := dk_61 (dk_at dksX8_needs_0 15 rfl rfl)
theorem dX8_needs_16 : decode cX8_needs 16 = .ok (.iconst 0, 1) := dk_3 (dk_at dksX8_needs_0 16 rfl rfl)
theorem dX8_needs_17 : decode cX8_needs 17 = .ok (.istore_n 3, 1) := dk_62 (dk_at dksX8_needs_0 17 rfl rfl)
theorem dX8_needs_18 : decode cX8_needs 18 = .ok (.iload_n 3, 1) := dk_29 (dk_at dksX8_needs_0 18 rfl rfl)
theorem dX8_needs_19 : decode cX8_needs 19 = .ok (.aload_n 0, 1) := dk_42 (dk_at dksX8_needs_0 19 rfl rfl)
theorem dX8_needs_20 : decode cX8_needs 20 = .ok (.getfield 7, 3) := dk_180 0 7 (dk_at dksX8_needs_0 20 rfl rfl)
theorem dX8_needs_23 : decode cX8_needs 23 = .ok (.iconst 2, 1) := dk_5 (dk_at dksX8_needs_0 23 rfl rfl)
theorem dX8_needs_24 : decode cX8_needs 24 = .ok (.iaload, 1) := dk_46 (dk_at dksX8_needs_1 0 rfl rfl)
theorem dX8_needs_25 : decode cX8_needs 25 = .ok (.if_icmp .ge 36, 3) := dk_162 0 36 (dk_at dksX8_needs_1 1 rfl rfl)
theorem dX8_needs_28 : decode cX8_needs 28 = .ok (.iload_n 2, 1) := dk_28 (dk_at dksX8_needs_1 4 rfl rfl)
theorem dX8_needs_29 : decode cX8_needs 29 = .ok (.aload_n 0, 1) := dk_42 (dk_at dksX8_needs_1 5 rfl rfl)
theorem dX8_needs_30 : decode cX8_needs 30 = .ok (.iload_n 3, 1) := dk_29 (dk_at dksX8_needs_1 6 rfl rfl)
theorem dX8_needs_31 : decode cX8_needs 31 = .ok (.invokevirtual 268, 3) := dk_182 1 12 (dk_at dksX8_needs_1 7 rfl rfl)
theorem dX8_needs_34 : decode cX8_needs 34 = .ok (.ifCond .eq 18, 3) := dk_153 0 18 (dk_at dksX8_needs_1 10 rfl rfl)
theorem dX8_needs_37 : decode cX8_needs 37 = .ok (.aload_n 0, 1) := dk_42 (dk_at dksX8_needs_1 13 rfl rfl)
theorem dX8_needs_38 : decode cX8_needs 38 = .ok (.iload_n 3, 1) := dk_29 (dk_at dksX8_needs_1 14 rfl rfl)
theorem dX8_needs_39 : decode cX8_needs 39 = .ok (.invokevirtual 337, 3) := dk_182 1 81 (dk_at dksX8_needs_1 15 rfl rfl)
theorem dX8_needs_42 : decode cX8_needs 42 = .ok (.iconst 1, 1) := dk_4 (dk_at dksX8_needs_1 18 rfl rfl)
theorem dX8_needs_43 : decode cX8_needs 43 = .ok (.iload_n 1, 1) := dk_27 (dk_at dksX8_needs_1 19 rfl rfl)
theorem dX8_needs_44 : decode cX8_needs 44 = .ok (.ishl, 1) := dk_120 (dk_at dksX8_needs_1 20 rfl rfl)
theorem dX8_needs_45 : decode cX8_needs 45 = .ok (.if_icmp .eq 7, 3) := dk_159 0 7 (dk_at dksX8_needs_1 21 rfl rfl)
theorem dX8_needs_48 : decode cX8_needs 48 = .ok (.iconst 1, 1) := dk_4 (dk_at dksX8_needs_2 0 rfl rfl)
theorem dX8_needs_49 : decode cX8_needs 49 = .ok (.goto 4, 3) := dk_167 0 4 (dk_at dksX8_needs_2 1 rfl rfl)
theorem dX8_needs_52 : decode cX8_needs 52 = .ok (.iconst 0, 1) := dk_3 (dk_at dksX8_needs_2 4 rfl rfl)
theorem dX8_needs_53 : decode cX8_needs 53 = .ok (.iadd, 1) := dk_96 (dk_at dksX8_needs_2 5 rfl rfl)
theorem dX8_needs_54 : decode cX8_needs 54 = .ok (.istore_n 2, 1) := dk_61 (dk_at dksX8_needs_2 6 rfl rfl)
theorem dX8_needs_55 : decode cX8_needs 55 = .ok (.iinc 3 1, 3) := dk_132 3 1 (dk_at dksX8_needs_2 7 rfl rfl)
theorem dX8_needs_58 : decode cX8_needs 58 = .ok (.goto (-40), 3) := dk_167 255 216 (dk_at dksX8_needs_2 10 rfl rfl)
theorem dX8_needs_61 : decode cX8_needs 61 = .ok (.aload_n 0, 1) := dk_42 (dk_at dksX8_needs_2 13 rfl rfl)
theorem dX8_needs_62 : decode cX8_needs 62 = .ok (.iload_n 2, 1) := dk_28 (dk_at dksX8_needs_2 14 rfl rfl)
theorem dX8_needs_63 : decode cX8_needs 63 = .ok (.invokevirtual 82, 3) := dk_182 0 82 (dk_at dksX8_needs_2 15 rfl rfl)
theorem dX8_needs_66 : decode cX8_needs 66 = .ok (.ireturn, 1) := dk_172 (dk_at dksX8_needs_2 18 rfl rfl)
abbrev cX8_strewn : ByteArray := prog_17_method_101_code
def yX8_strewn : MethodName := ⟨RX8, "strewn", "(I)I"⟩
def dkwX8_strewn_1 : List UInt8 := [182, 0, 78, 172]
abbrev dktX8_strewn_1 : List UInt8 := dkwX8_strewn_1 ++ []
def dkwX8_strewn_0 : List UInt8 := [42, 27, 182, 1, 15, 153, 0, 15, 42, 42, 27, 182, 1, 105, 182, 0, 82, 167, 0, 8, 42, 4]
abbrev dktX8_strewn_0 : List UInt8 := dkwX8_strewn_0 ++ dktX8_strewn_1
theorem dksX8_strewn_0 : cX8_strewn.data.toList.drop 0 = dktX8_strewn_0 := by decide +kernel
theorem dksX8_strewn_1 : cX8_strewn.data.toList.drop 22 = dktX8_strewn_1 := dk_seg dksX8_strewn_0 22 rfl rfl
theorem dX8_strewn_0 : decode cX8_strewn 0 = .ok (.aload_n 0, 1) := dk_42 (dk_at dksX8_strewn_0 0 rfl rfl)
theorem dX8_strewn_1 : decode cX8_strewn 1 = .ok (.iload_n 1, 1) := dk_27 (dk_at dksX8_strewn_0 1 rfl rfl)
theorem dX8_strewn_2 : decode cX8_strewn 2 = .ok (.invokevirtual 271, 3) := dk_182 1 15 (dk_at dksX8_strewn_0 2 rfl rfl)
theorem dX8_strewn_5 : decode cX8_strewn 5 = .ok (.ifCond .eq 15, 3) := dk_153 0 15 (dk_at dksX8_strewn_0 5 rfl rfl)
theorem dX8_strewn_8 : decode cX8_strewn 8 = .ok (.aload_n 0, 1) := dk_42 (dk_at dksX8_strewn_0 8 rfl rfl)
theorem dX8_strewn_9 : decode cX8_strewn 9 = .ok (.aload_n 0, 1) := dk_42 (dk_at dksX8_strewn_0 9 rfl rfl)
theorem dX8_strewn_10 : decode cX8_strewn 10 = .ok (.iload_n 1, 1) := dk_27 (dk_at dksX8_strewn_0 10 rfl rfl)
theorem dX8_strewn_11 : decode cX8_strewn 11 = .ok (.invokevirtual 361, 3) := dk_182 1 105 (dk_at dksX8_strewn_0 11 rfl rfl)
theorem dX8_strewn_14 : decode cX8_strewn 14 = .ok (.invokevirtual 82, 3) := dk_182 0 82 (dk_at dksX8_strewn_0 14 rfl rfl)
theorem dX8_strewn_17 : decode cX8_strewn 17 = .ok (.goto 8, 3) := dk_167 0 8 (dk_at dksX8_strewn_0 17 rfl rfl)
theorem dX8_strewn_20 : decode cX8_strewn 20 = .ok (.aload_n 0, 1) := dk_42 (dk_at dksX8_strewn_0 20 rfl rfl)
theorem dX8_strewn_21 : decode cX8_strewn 21 = .ok (.iconst 1, 1) := dk_4 (dk_at dksX8_strewn_0 21 rfl rfl)
theorem dX8_strewn_22 : decode cX8_strewn 22 = .ok (.invokevirtual 78, 3) := dk_182 0 78 (dk_at dksX8_strewn_1 0 rfl rfl)
theorem dX8_strewn_25 : decode cX8_strewn 25 = .ok (.ireturn, 1) := dk_172 (dk_at dksX8_strewn_1 3 rfl rfl)
abbrev cX8_strewnOf : ByteArray := prog_17_method_119_code
def yX8_strewnOf : MethodName := ⟨RX8, "strewnOf", "(I)I"⟩
def dkwX8_strewnOf_1 : List UInt8 := [132, 3, 1, 167, 255, 234, 28, 172]
abbrev dktX8_strewnOf_1 : List UInt8 := dkwX8_strewnOf_1 ++ []
def dkwX8_strewnOf_0 : List UInt8 := [3, 61, 3, 62, 29, 42, 180, 0, 7, 5, 46, 162, 0, 18, 28, 42, 27, 29, 182, 1, 108, 96, 61]
abbrev dktX8_strewnOf_0 : List UInt8 := dkwX8_strewnOf_0 ++ dktX8_strewnOf_1
theorem dksX8_strewnOf_0 : cX8_strewnOf.data.toList.drop 0 = dktX8_strewnOf_0 := by decide +kernel
theorem dksX8_strewnOf_1 : cX8_strewnOf.data.toList.drop 23 = dktX8_strewnOf_1 := dk_seg dksX8_strewnOf_0 23 rfl rfl
theorem dX8_strewnOf_0 : decode cX8_strewnOf 0 = .ok (.iconst 0, 1) := dk_3 (dk_at dksX8_strewnOf_0 0 rfl rfl)
theorem dX8_strewnOf_1 : decode cX8_strewnOf 1 = .ok (.istore_n 2, 1) := dk_61 (dk_at dksX8_strewnOf_0 1 rfl rfl)
theorem dX8_strewnOf_2 : decode cX8_strewnOf 2 = .ok (.iconst 0, 1) := dk_3 (dk_at dksX8_strewnOf_0 2 rfl rfl)
theorem dX8_strewnOf_3 : decode cX8_strewnOf 3 = .ok (.istore_n 3, 1) := dk_62 (dk_at dksX8_strewnOf_0 3 rfl rfl)
theorem dX8_strewnOf_4 : decode cX8_strewnOf 4 = .ok (.iload_n 3, 1) := dk_29 (dk_at dksX8_strewnOf_0 4 rfl rfl)
theorem dX8_strewnOf_5 : decode cX8_strewnOf 5 = .ok (.aload_n 0, 1) := dk_42 (dk_at dksX8_strewnOf_0 5 rfl rfl)
theorem dX8_strewnOf_6 : decode cX8_strewnOf 6 = .ok (.getfield 7, 3) := dk_180 0 7 (dk_at dksX8_strewnOf_0 6 rfl rfl)
theorem dX8_strewnOf_9 : decode cX8_strewnOf 9 = .ok (.iconst 2, 1) := dk_5 (dk_at dksX8_strewnOf_0 9 rfl rfl)
theorem dX8_strewnOf_10 : decode cX8_strewnOf 10 = .ok (.iaload, 1) := dk_46 (dk_at dksX8_strewnOf_0 10 rfl rfl)
theorem dX8_strewnOf_11 : decode cX8_strewnOf 11 = .ok (.if_icmp .ge 18, 3) := dk_162 0 18 (dk_at dksX8_strewnOf_0 11 rfl rfl)
theorem dX8_strewnOf_14 : decode cX8_strewnOf 14 = .ok (.iload_n 2, 1) := dk_28 (dk_at dksX8_strewnOf_0 14 rfl rfl)
theorem dX8_strewnOf_15 : decode cX8_strewnOf 15 = .ok (.aload_n 0, 1) := dk_42 (dk_at dksX8_strewnOf_0 15 rfl rfl)
theorem dX8_strewnOf_16 : decode cX8_strewnOf 16 = .ok (.iload_n 1, 1) := dk_27 (dk_at dksX8_strewnOf_0 16 rfl rfl)
theorem dX8_strewnOf_17 : decode cX8_strewnOf 17 = .ok (.iload_n 3, 1) := dk_29 (dk_at dksX8_strewnOf_0 17 rfl rfl)
theorem dX8_strewnOf_18 : decode cX8_strewnOf 18 = .ok (.invokevirtual 364, 3) := dk_182 1 108 (dk_at dksX8_strewnOf_0 18 rfl rfl)
theorem dX8_strewnOf_21 : decode cX8_strewnOf 21 = .ok (.iadd, 1) := dk_96 (dk_at dksX8_strewnOf_0 21 rfl rfl)
theorem dX8_strewnOf_22 : decode cX8_strewnOf 22 = .ok (.istore_n 2, 1) := dk_61 (dk_at dksX8_strewnOf_0 22 rfl rfl)
theorem dX8_strewnOf_23 : decode cX8_strewnOf 23 = .ok (.iinc 3 1, 3) := dk_132 3 1 (dk_at dksX8_strewnOf_1 0 rfl rfl)
theorem dX8_strewnOf_26 : decode cX8_strewnOf 26 = .ok (.goto (-22), 3) := dk_167 255 234 (dk_at dksX8_strewnOf_1 3 rfl rfl)
theorem dX8_strewnOf_29 : decode cX8_strewnOf 29 = .ok (.iload_n 2, 1) := dk_28 (dk_at dksX8_strewnOf_1 6 rfl rfl)
theorem dX8_strewnOf_30 : decode cX8_strewnOf 30 = .ok (.ireturn, 1) := dk_172 (dk_at dksX8_strewnOf_1 7 rfl rfl)
abbrev cX8_ownMany : ByteArray := prog_17_method_100_code
def yX8_ownMany : MethodName := ⟨RX8, "ownMany", "(II)I"⟩
def dkwX8_ownMany_1 : List UInt8 := [160, 0, 7, 4, 167, 0, 4, 3, 96, 62, 132, 4, 1, 167, 255, 224, 29, 172]
abbrev dktX8_ownMany_1 : List UInt8 := dkwX8_ownMany_1 ++ []
def dkwX8_ownMany_0 : List UInt8 := [3, 62, 3, 54, 4, 21, 4, 42, 28, 182, 1, 21, 162, 0, 28, 29, 42, 28, 21, 4, 182, 1, 52, 27]
abbrev dktX8_ownMany_0 : List UInt8 := dkwX8_ownMany_0 ++ dktX8_ownMany_1
theorem dksX8_ownMany_0 : cX8_ownMany.data.toList.drop 0 = dktX8_ownMany_0 := by decide +kernel
theorem dksX8_ownMany_1 : cX8_ownMany.data.toList.drop 24 = dktX8_ownMany_1 := dk_seg dksX8_ownMany_0 24 rfl rfl
theorem dX8_ownMany_0 : decode cX8_ownMany 0 = .ok (.iconst 0, 1) := dk_3 (dk_at dksX8_ownMany_0 0 rfl rfl)
theorem dX8_ownMany_1 : decode cX8_ownMany 1 = .ok (.istore_n 3, 1) := dk_62 (dk_at dksX8_ownMany_0 1 rfl rfl)
theorem dX8_ownMany_2 : decode cX8_ownMany 2 = .ok (.iconst 0, 1) := dk_3 (dk_at dksX8_ownMany_0 2 rfl rfl)
theorem dX8_ownMany_3 : decode cX8_ownMany 3 = .ok (.istore 4, 2) := dk_54 4 (dk_at dksX8_ownMany_0 3 rfl rfl)
theorem dX8_ownMany_5 : decode cX8_ownMany 5 = .ok (.iload 4, 2) := dk_21 4 (dk_at dksX8_ownMany_0 5 rfl rfl)
theorem dX8_ownMany_7 : decode cX8_ownMany 7 = .ok (.aload_n 0, 1) := dk_42 (dk_at dksX8_ownMany_0 7 rfl rfl)
theorem dX8_ownMany_8 : decode cX8_ownMany 8 = .ok (.iload_n 2, 1) := dk_28 (dk_at dksX8_ownMany_0 8 rfl rfl)
theorem dX8_ownMany_9 : decode cX8_ownMany 9 = .ok (.invokevirtual 277, 3) := dk_182 1 21 (dk_at dksX8_ownMany_0 9 rfl rfl)
theorem dX8_ownMany_12 : decode cX8_ownMany 12 = .ok (.if_icmp .ge 28, 3) := dk_162 0 28 (dk_at dksX8_ownMany_0 12 rfl rfl)
theorem dX8_ownMany_15 : decode cX8_ownMany 15 = .ok (.iload_n 3, 1) := dk_29 (dk_at dksX8_ownMany_0 15 rfl rfl)
theorem dX8_ownMany_16 : decode cX8_ownMany 16 = .ok (.aload_n 0, 1) := dk_42 (dk_at dksX8_ownMany_0 16 rfl rfl)
theorem dX8_ownMany_17 : decode cX8_ownMany 17 = .ok (.iload_n 2, 1) := dk_28 (dk_at dksX8_ownMany_0 17 rfl rfl)
theorem dX8_ownMany_18 : decode cX8_ownMany 18 = .ok (.iload 4, 2) := dk_21 4 (dk_at dksX8_ownMany_0 18 rfl rfl)
theorem dX8_ownMany_20 : decode cX8_ownMany 20 = .ok (.invokevirtual 308, 3) := dk_182 1 52 (dk_at dksX8_ownMany_0 20 rfl rfl)
theorem dX8_ownMany_23 : decode cX8_ownMany 23 = .ok (.iload_n 1, 1) := dk_27 (dk_at dksX8_ownMany_0 23 rfl rfl)
theorem dX8_ownMany_24 : decode cX8_ownMany 24 = .ok (.if_icmp .ne 7, 3) := dk_160 0 7 (dk_at dksX8_ownMany_1 0 rfl rfl)
theorem dX8_ownMany_27 : decode cX8_ownMany 27 = .ok (.iconst 1, 1) := dk_4 (dk_at dksX8_ownMany_1 3 rfl rfl)
theorem dX8_ownMany_28 : decode cX8_ownMany 28 = .ok (.goto 4, 3) := dk_167 0 4 (dk_at dksX8_ownMany_1 4 rfl rfl)
theorem dX8_ownMany_31 : decode cX8_ownMany 31 = .ok (.iconst 0, 1) := dk_3 (dk_at dksX8_ownMany_1 7 rfl rfl)
theorem dX8_ownMany_32 : decode cX8_ownMany 32 = .ok (.iadd, 1) := dk_96 (dk_at dksX8_ownMany_1 8 rfl rfl)
theorem dX8_ownMany_33 : decode cX8_ownMany 33 = .ok (.istore_n 3, 1) := dk_62 (dk_at dksX8_ownMany_1 9 rfl rfl)
theorem dX8_ownMany_34 : decode cX8_ownMany 34 = .ok (.iinc 4 1, 3) := dk_132 4 1 (dk_at dksX8_ownMany_1 10 rfl rfl)
theorem dX8_ownMany_37 : decode cX8_ownMany 37 = .ok (.goto (-32), 3) := dk_167 255 224 (dk_at dksX8_ownMany_1 13 rfl rfl)
theorem dX8_ownMany_40 : decode cX8_ownMany 40 = .ok (.iload_n 3, 1) := dk_29 (dk_at dksX8_ownMany_1 16 rfl rfl)
theorem dX8_ownMany_41 : decode cX8_ownMany 41 = .ok (.ireturn, 1) := dk_172 (dk_at dksX8_ownMany_1 17 rfl rfl)
abbrev cX8_lies : ByteArray := prog_17_method_102_code
def yX8_lies : MethodName := ⟨RX8, "lies", "(II)I"⟩
def dkwX8_lies_3 : List UInt8 := [16, 6, 182, 0, 78, 172]
abbrev dktX8_lies_3 : List UInt8 := dkwX8_lies_3 ++ []
def dkwX8_lies_2 : List UInt8 := [21, 4, 182, 0, 82, 172, 29, 42, 27, 21, 4, 182, 1, 108, 100, 62, 132, 4, 1, 167, 255, 210, 42]
abbrev dktX8_lies_2 : List UInt8 := dkwX8_lies_2 ++ dktX8_lies_3
def dkwX8_lies_1 : List UInt8 := [180, 0, 7, 5, 46, 162, 0, 41, 28, 155, 0, 37, 29, 42, 27, 21, 4, 182, 1, 108, 162, 0, 10, 42]
abbrev dktX8_lies_1 : List UInt8 := dkwX8_lies_1 ++ dktX8_lies_2
def dkwX8_lies_0 : List UInt8 := [42, 27, 182, 1, 15, 154, 0, 9, 42, 4, 182, 0, 78, 172, 28, 62, 3, 54, 4, 21, 4, 42]
abbrev dktX8_lies_0 : List UInt8 := dkwX8_lies_0 ++ dktX8_lies_1
theorem dksX8_lies_0 : cX8_lies.data.toList.drop 0 = dktX8_lies_0 := by decide +kernel
theorem dksX8_lies_1 : cX8_lies.data.toList.drop 22 = dktX8_lies_1 := dk_seg dksX8_lies_0 22 rfl rfl
theorem dksX8_lies_2 : cX8_lies.data.toList.drop 46 = dktX8_lies_2 := dk_seg dksX8_lies_1 24 rfl rfl
theorem dksX8_lies_3 : cX8_lies.data.toList.drop 69 = dktX8_lies_3 := dk_seg dksX8_lies_2 23 rfl rfl
theorem dX8_lies_0 : decode cX8_lies 0 = .ok (.aload_n 0, 1) := dk_42 (dk_at dksX8_lies_0 0 rfl rfl)
theorem dX8_lies_1 : decode cX8_lies 1 = .ok (.iload_n 1, 1) := dk_27 (dk_at dksX8_lies_0 1 rfl rfl)
theorem dX8_lies_2 : decode cX8_lies 2 = .ok (.invokevirtual 271, 3) := dk_182 1 15 (dk_at dksX8_lies_0 2 rfl rfl)
theorem dX8_lies_5 : decode cX8_lies 5 = .ok (.ifCond .ne 9, 3) := dk_154 0 9 (dk_at dksX8_lies_0 5 rfl rfl)
theorem dX8_lies_8 : decode cX8_lies 8 = .ok (.aload_n 0, 1) := dk_42 (dk_at dksX8_lies_0 8 rfl rfl)
theorem dX8_lies_9 : decode cX8_lies 9 = .ok (.iconst 1, 1) := dk_4 (dk_at dksX8_lies_0 9 rfl rfl)
theorem dX8_lies_10 : decode cX8_lies 10 = .ok (.invokevirtual 78, 3) := dk_182 0 78 (dk_at dksX8_lies_0 10 rfl rfl)
theorem dX8_lies_13 : decode cX8_lies 13 = .ok (.ireturn, 1) := dk_172 (dk_at dksX8_lies_0 13 rfl rfl)
theorem dX8_lies_14 : decode cX8_lies 14 = .ok (.iload_n 2, 1) := dk_28 (dk_at dksX8_lies_0 14 rfl rfl)
theorem dX8_lies_15 : decode cX8_lies 15 = .ok (.istore_n 3, 1) := dk_62 (dk_at dksX8_lies_0 15 rfl rfl)
theorem dX8_lies_16 : decode cX8_lies 16 = .ok (.iconst 0, 1) := dk_3 (dk_at dksX8_lies_0 16 rfl rfl)
theorem dX8_lies_17 : decode cX8_lies 17 = .ok (.istore 4, 2) := dk_54 4 (dk_at dksX8_lies_0 17 rfl rfl)
theorem dX8_lies_19 : decode cX8_lies 19 = .ok (.iload 4, 2) := dk_21 4 (dk_at dksX8_lies_0 19 rfl rfl)
theorem dX8_lies_21 : decode cX8_lies 21 = .ok (.aload_n 0, 1) := dk_42 (dk_at dksX8_lies_0 21 rfl rfl)
theorem dX8_lies_22 : decode cX8_lies 22 = .ok (.getfield 7, 3) := dk_180 0 7 (dk_at dksX8_lies_1 0 rfl rfl)
theorem dX8_lies_25 : decode cX8_lies 25 = .ok (.iconst 2, 1) := dk_5 (dk_at dksX8_lies_1 3 rfl rfl)
theorem dX8_lies_26 : decode cX8_lies 26 = .ok (.iaload, 1) := dk_46 (dk_at dksX8_lies_1 4 rfl rfl)
theorem dX8_lies_27 : decode cX8_lies 27 = .ok (.if_icmp .ge 41, 3) := dk_162 0 41 (dk_at dksX8_lies_1 5 rfl rfl)
theorem dX8_lies_30 : decode cX8_lies 30 = .ok (.iload_n 2, 1) := dk_28 (dk_at dksX8_lies_1 8 rfl rfl)
theorem dX8_lies_31 : decode cX8_lies 31 = .ok (.ifCond .lt 37, 3) := dk_155 0 37 (dk_at dksX8_lies_1 9 rfl rfl)
theorem dX8_lies_34 : decode cX8_lies 34 = .ok (.iload_n 3, 1) := dk_29 (dk_at dksX8_lies_1 12 rfl rfl)
theorem dX8_lies_35 : decode cX8_lies 35 = .ok (.aload_n 0, 1) := dk_42 (dk_at dksX8_lies_1 13 rfl rfl)
theorem dX8_lies_36 : decode cX8_lies 36 = .ok (.iload_n 1, 1) := dk_27 (dk_at dksX8_lies_1 14 rfl rfl)
theorem dX8_lies_37 : decode cX8_lies 37 = .ok (.iload 4, 2) := dk_21 4 (dk_at dksX8_lies_1 15 rfl rfl)
theorem dX8_lies_39 : decode cX8_lies 39 = .ok (.invokevirtual 364, 3) := dk_182 1 108 (dk_at dksX8_lies_1 17 rfl rfl)
theorem dX8_lies_42 : decode cX8_lies 42 = .ok (.if_icmp .ge 10, 3) := dk_162 0 10 (dk_at dksX8_lies_1 20 rfl rfl)
theorem dX8_lies_45 : decode cX8_lies 45 = .ok (.aload_n 0, 1) := dk_42 (dk_at dksX8_lies_1 23 rfl rfl)
theorem dX8_lies_46 : decode cX8_lies 46 = .ok (.iload 4, 2) := dk_21 4 (dk_at dksX8_lies_2 0 rfl rfl)
theorem dX8_lies_48 : decode cX8_lies 48 = .ok (.invokevirtual 82, 3) := dk_182 0 82 (dk_at dksX8_lies_2 2 rfl rfl)
theorem dX8_lies_51 : decode cX8_lies 51 = .ok (.ireturn, 1) := dk_172 (dk_at dksX8_lies_2 5 rfl rfl)
theorem dX8_lies_52 : decode cX8_lies 52 = .ok (.iload_n 3, 1) := dk_29 (dk_at dksX8_lies_2 6 rfl rfl)
theorem dX8_lies_53 : decode cX8_lies 53 = .ok (.aload_n 0, 1) := dk_42 (dk_at dksX8_lies_2 7 rfl rfl)
theorem dX8_lies_54 : decode cX8_lies 54 = .ok (.iload_n 1, 1) := dk_27 (dk_at dksX8_lies_2 8 rfl rfl)
theorem dX8_lies_55 : decode cX8_lies 55 = .ok (.iload 4, 2) := dk_21 4 (dk_at dksX8_lies_2 9 rfl rfl)
theorem dX8_lies_57 : decode cX8_lies 57 = .ok (.invokevirtual 364, 3) := dk_182 1 108 (dk_at dksX8_lies_2 11 rfl rfl)
theorem dX8_lies_60 : decode cX8_lies 60 = .ok (.isub, 1) := dk_100 (dk_at dksX8_lies_2 14 rfl rfl)
theorem dX8_lies_61 : decode cX8_lies 61 = .ok (.istore_n 3, 1) := dk_62 (dk_at dksX8_lies_2 15 rfl rfl)
theorem dX8_lies_62 : decode cX8_lies 62 = .ok (.iinc 4 1, 3) := dk_132 4 1 (dk_at dksX8_lies_2 16 rfl rfl)
theorem dX8_lies_65 : decode cX8_lies 65 = .ok (.goto (-46), 3) := dk_167 255 210 (dk_at dksX8_lies_2 19 rfl rfl)
theorem dX8_lies_68 : decode cX8_lies 68 = .ok (.aload_n 0, 1) := dk_42 (dk_at dksX8_lies_2 22 rfl rfl)
theorem dX8_lies_69 : decode cX8_lies 69 = .ok (.bipush 6, 2) := dk_16 6 (dk_at dksX8_lies_3 0 rfl rfl)
theorem dX8_lies_71 : decode cX8_lies 71 = .ok (.invokevirtual 78, 3) := dk_182 0 78 (dk_at dksX8_lies_3 2 rfl rfl)
theorem dX8_lies_74 : decode cX8_lies 74 = .ok (.ireturn, 1) := dk_172 (dk_at dksX8_lies_3 5 rfl rfl)
abbrev cX8_rivals : ByteArray := prog_17_method_103_code
def yX8_rivals : MethodName := ⟨RX8, "rivals", "(II)I"⟩
def dkwX8_rivals_3 : List UInt8 := [167, 0, 4, 3, 128, 62, 132, 4, 1, 167, 255, 211, 42, 29, 182, 0, 82, 172]
abbrev dktX8_rivals_3 : List UInt8 := dkwX8_rivals_3 ++ []
def dkwX8_rivals_2 : List UInt8 := [21, 4, 182, 1, 108, 158, 0, 20, 42, 28, 21, 4, 182, 1, 108, 158, 0, 10, 4, 21, 4, 120]
abbrev dktX8_rivals_2 : List UInt8 := dkwX8_rivals_2 ++ dktX8_rivals_3
def dkwX8_rivals_1 : List UInt8 := [182, 0, 78, 172, 3, 62, 3, 54, 4, 21, 4, 42, 180, 0, 7, 5, 46, 162, 0, 40, 29, 42, 27]
abbrev dktX8_rivals_1 : List UInt8 := dkwX8_rivals_1 ++ dktX8_rivals_2
def dkwX8_rivals_0 : List UInt8 := [42, 27, 182, 1, 15, 153, 0, 16, 42, 28, 182, 1, 15, 153, 0, 8, 27, 28, 160, 0, 9, 42, 4]
abbrev dktX8_rivals_0 : List UInt8 := dkwX8_rivals_0 ++ dktX8_rivals_1
theorem dksX8_rivals_0 : cX8_rivals.data.toList.drop 0 = dktX8_rivals_0 := by decide +kernel
theorem dksX8_rivals_1 : cX8_rivals.data.toList.drop 23 = dktX8_rivals_1 := dk_seg dksX8_rivals_0 23 rfl rfl
theorem dksX8_rivals_2 : cX8_rivals.data.toList.drop 46 = dktX8_rivals_2 := dk_seg dksX8_rivals_1 23 rfl rfl
theorem dksX8_rivals_3 : cX8_rivals.data.toList.drop 68 = dktX8_rivals_3 := dk_seg dksX8_rivals_2 22 rfl rfl
theorem dX8_rivals_0 : decode cX8_rivals 0 = .ok (.aload_n 0, 1) := dk_42 (dk_at dksX8_rivals_0 0 rfl rfl)
theorem dX8_rivals_1 : decode cX8_rivals 1 = .ok (.iload_n 1, 1) := dk_27 (dk_at dksX8_rivals_0 1 rfl rfl)
theorem dX8_rivals_2 : decode cX8_rivals 2 = .ok (.invokevirtual 271, 3) := dk_182 1 15 (dk_at dksX8_rivals_0 2 rfl rfl)
theorem dX8_rivals_5 : decode cX8_rivals 5 = .ok (.ifCond .eq 16, 3) := dk_153 0 16 (dk_at dksX8_rivals_0 5 rfl rfl)
theorem dX8_rivals_8 : decode cX8_rivals 8 = .ok (.aload_n 0, 1) := dk_42 (dk_at dksX8_rivals_0 8 rfl rfl)
theorem dX8_rivals_9 : decode cX8_rivals 9 = .ok (.iload_n 2, 1) := dk_28 (dk_at dksX8_rivals_0 9 rfl rfl)
theorem dX8_rivals_10 : decode cX8_rivals 10 = .ok (.invokevirtual 271, 3) := dk_182 1 15 (dk_at dksX8_rivals_0 10 rfl rfl)
theorem dX8_rivals_13 : decode cX8_rivals 13 = .ok (.ifCond .eq 8, 3) := dk_153 0 8 (dk_at dksX8_rivals_0 13 rfl rfl)
theorem dX8_rivals_16 : decode cX8_rivals 16 = .ok (.iload_n 1, 1) := dk_27 (dk_at dksX8_rivals_0 16 rfl rfl)
theorem dX8_rivals_17 : decode cX8_rivals 17 = .ok (.iload_n 2, 1) := dk_28 (dk_at dksX8_rivals_0 17 rfl rfl)
theorem dX8_rivals_18 : decode cX8_rivals 18 = .ok (.if_icmp .ne 9, 3) := dk_160 0 9 (dk_at dksX8_rivals_0 18 rfl rfl)
theorem dX8_rivals_21 : decode cX8_rivals 21 = .ok (.aload_n 0, 1) := dk_42 (dk_at dksX8_rivals_0 21 rfl rfl)
theorem dX8_rivals_22 : decode cX8_rivals 22 = .ok (.iconst 1, 1) := dk_4 (dk_at dksX8_rivals_0 22 rfl rfl)
theorem dX8_rivals_23 : decode cX8_rivals 23 = .ok (.invokevirtual 78, 3) := dk_182 0 78 (dk_at dksX8_rivals_1 0 rfl rfl)
theorem dX8_rivals_26 : decode cX8_rivals 26 = .ok (.ireturn, 1) := dk_172 (dk_at dksX8_rivals_1 3 rfl rfl)
theorem dX8_rivals_27 : decode cX8_rivals 27 = .ok (.iconst 0, 1) := dk_3 (dk_at dksX8_rivals_1 4 rfl rfl)
theorem dX8_rivals_28 : decode cX8_rivals 28 = .ok (.istore_n 3, 1) := dk_62 (dk_at dksX8_rivals_1 5 rfl rfl)
theorem dX8_rivals_29 : decode cX8_rivals 29 = .ok (.iconst 0, 1) := dk_3 (dk_at dksX8_rivals_1 6 rfl rfl)
theorem dX8_rivals_30 : decode cX8_rivals 30 = .ok (.istore 4, 2) := dk_54 4 (dk_at dksX8_rivals_1 7 rfl rfl)
theorem dX8_rivals_32 : decode cX8_rivals 32 = .ok (.iload 4, 2) := dk_21 4 (dk_at dksX8_rivals_1 9 rfl rfl)
theorem dX8_rivals_34 : decode cX8_rivals 34 = .ok (.aload_n 0, 1) := dk_42 (dk_at dksX8_rivals_1 11 rfl rfl)
theorem dX8_rivals_35 : decode cX8_rivals 35 = .ok (.getfield 7, 3) := dk_180 0 7 (dk_at dksX8_rivals_1 12 rfl rfl)
theorem dX8_rivals_38 : decode cX8_rivals 38 = .ok (.iconst 2, 1) := dk_5 (dk_at dksX8_rivals_1 15 rfl rfl)
theorem dX8_rivals_39 : decode cX8_rivals 39 = .ok (.iaload, 1) := dk_46 (dk_at dksX8_rivals_1 16 rfl rfl)
theorem dX8_rivals_40 : decode cX8_rivals 40 = .ok (.if_icmp .ge 40, 3) := dk_162 0 40 (dk_at dksX8_rivals_1 17 rfl rfl)
theorem dX8_rivals_43 : decode cX8_rivals 43 = .ok (.iload_n 3, 1) := dk_29 (dk_at dksX8_rivals_1 20 rfl rfl)
theorem dX8_rivals_44 : decode cX8_rivals 44 = .ok (.aload_n 0, 1) := dk_42 (dk_at dksX8_rivals_1 21 rfl rfl)
theorem dX8_rivals_45 : decode cX8_rivals 45 = .ok (.iload_n 1, 1) := dk_27 (dk_at dksX8_rivals_1 22 rfl rfl)
theorem dX8_rivals_46 : decode cX8_rivals 46 = .ok (.iload 4, 2) := dk_21 4 (dk_at dksX8_rivals_2 0 rfl rfl)
theorem dX8_rivals_48 : decode cX8_rivals 48 = .ok (.invokevirtual 364, 3) := dk_182 1 108 (dk_at dksX8_rivals_2 2 rfl rfl)
theorem dX8_rivals_51 : decode cX8_rivals 51 = .ok (.ifCond .le 20, 3) := dk_158 0 20 (dk_at dksX8_rivals_2 5 rfl rfl)
theorem dX8_rivals_54 : decode cX8_rivals 54 = .ok (.aload_n 0, 1) := dk_42 (dk_at dksX8_rivals_2 8 rfl rfl)
theorem dX8_rivals_55 : decode cX8_rivals 55 = .ok (.iload_n 2, 1) := dk_28 (dk_at dksX8_rivals_2 9 rfl rfl)
theorem dX8_rivals_56 : decode cX8_rivals 56 = .ok (.iload 4, 2) := dk_21 4 (dk_at dksX8_rivals_2 10 rfl rfl)
theorem dX8_rivals_58 : decode cX8_rivals 58 = .ok (.invokevirtual 364, 3) := dk_182 1 108 (dk_at dksX8_rivals_2 12 rfl rfl)
theorem dX8_rivals_61 : decode cX8_rivals 61 = .ok (.ifCond .le 10, 3) := dk_158 0 10 (dk_at dksX8_rivals_2 15 rfl rfl)
theorem dX8_rivals_64 : decode cX8_rivals 64 = .ok (.iconst 1, 1) := dk_4 (dk_at dksX8_rivals_2 18 rfl rfl)
theorem dX8_rivals_65 : decode cX8_rivals 65 = .ok (.iload 4, 2) := dk_21 4 (dk_at dksX8_rivals_2 19 rfl rfl)
theorem dX8_rivals_67 : decode cX8_rivals 67 = .ok (.ishl, 1) := dk_120 (dk_at dksX8_rivals_2 21 rfl rfl)
theorem dX8_rivals_68 : decode cX8_rivals 68 = .ok (.goto 4, 3) := dk_167 0 4 (dk_at dksX8_rivals_3 0 rfl rfl)
theorem dX8_rivals_71 : decode cX8_rivals 71 = .ok (.iconst 0, 1) := dk_3 (dk_at dksX8_rivals_3 3 rfl rfl)
theorem dX8_rivals_72 : decode cX8_rivals 72 = .ok (.ior, 1) := dk_128 (dk_at dksX8_rivals_3 4 rfl rfl)
theorem dX8_rivals_73 : decode cX8_rivals 73 = .ok (.istore_n 3, 1) := dk_62 (dk_at dksX8_rivals_3 5 rfl rfl)
theorem dX8_rivals_74 : decode cX8_rivals 74 = .ok (.iinc 4 1, 3) := dk_132 4 1 (dk_at dksX8_rivals_3 6 rfl rfl)
theorem dX8_rivals_77 : decode cX8_rivals 77 = .ok (.goto (-45), 3) := dk_167 255 211 (dk_at dksX8_rivals_3 9 rfl rfl)
theorem dX8_rivals_80 : decode cX8_rivals 80 = .ok (.aload_n 0, 1) := dk_42 (dk_at dksX8_rivals_3 12 rfl rfl)
theorem dX8_rivals_81 : decode cX8_rivals 81 = .ok (.iload_n 3, 1) := dk_29 (dk_at dksX8_rivals_3 13 rfl rfl)
theorem dX8_rivals_82 : decode cX8_rivals 82 = .ok (.invokevirtual 82, 3) := dk_182 0 82 (dk_at dksX8_rivals_3 14 rfl rfl)
theorem dX8_rivals_85 : decode cX8_rivals 85 = .ok (.ireturn, 1) := dk_172 (dk_at dksX8_rivals_3 17 rfl rfl)
abbrev cX8_richest : ByteArray := prog_17_method_104_code
def yX8_richest : MethodName := ⟨RX8, "richest", "()I"⟩
def dkwX8_richest_2 : List UInt8 := [4, 96, 46, 164, 0, 5, 28, 60, 132, 2, 1, 167, 255, 201, 42, 27, 182, 1, 102, 172]
abbrev dktX8_richest_2 : List UInt8 := dkwX8_richest_2 ++ []
def dkwX8_richest_1 : List UInt8 := [159, 0, 30, 42, 180, 0, 7, 3, 28, 184, 0, 171, 4, 96, 46, 42, 180, 0, 7, 3, 27, 184, 0, 171]
abbrev dktX8_richest_1 : List UInt8 := dkwX8_richest_1 ++ dktX8_richest_2
def dkwX8_richest_0 : List UInt8 := [2, 60, 3, 61, 28, 42, 180, 0, 7, 5, 46, 162, 0, 51, 42, 28, 182, 1, 12, 153, 0, 37, 27, 2]
abbrev dktX8_richest_0 : List UInt8 := dkwX8_richest_0 ++ dktX8_richest_1
theorem dksX8_richest_0 : cX8_richest.data.toList.drop 0 = dktX8_richest_0 := by decide +kernel
theorem dksX8_richest_1 : cX8_richest.data.toList.drop 24 = dktX8_richest_1 := dk_seg dksX8_richest_0 24 rfl rfl
theorem dksX8_richest_2 : cX8_richest.data.toList.drop 48 = dktX8_richest_2 := dk_seg dksX8_richest_1 24 rfl rfl
theorem dX8_richest_0 : decode cX8_richest 0 = .ok (.iconst (-1), 1) := dk_2 (dk_at dksX8_richest_0 0 rfl rfl)
theorem dX8_richest_1 : decode cX8_richest 1 = .ok (.istore_n 1, 1) := dk_60 (dk_at dksX8_richest_0 1 rfl rfl)
theorem dX8_richest_2 : decode cX8_richest 2 = .ok (.iconst 0, 1) := dk_3 (dk_at dksX8_richest_0 2 rfl rfl)
theorem dX8_richest_3 : decode cX8_richest 3 = .ok (.istore_n 2, 1) := dk_61 (dk_at dksX8_richest_0 3 rfl rfl)
theorem dX8_richest_4 : decode cX8_richest 4 = .ok (.iload_n 2, 1) := dk_28 (dk_at dksX8_richest_0 4 rfl rfl)
theorem dX8_richest_5 : decode cX8_richest 5 = .ok (.aload_n 0, 1) := dk_42 (dk_at dksX8_richest_0 5 rfl rfl)
theorem dX8_richest_6 : decode cX8_richest 6 = .ok (.getfield 7, 3) := dk_180 0 7 (dk_at dksX8_richest_0 6 rfl rfl)
theorem dX8_richest_9 : decode cX8_richest 9 = .ok (.iconst 2, 1) := dk_5 (dk_at dksX8_richest_0 9 rfl rfl)
theorem dX8_richest_10 : decode cX8_richest 10 = .ok (.iaload, 1) := dk_46 (dk_at dksX8_richest_0 10 rfl rfl)
theorem dX8_richest_11 : decode cX8_richest 11 = .ok (.if_icmp .ge 51, 3) := dk_162 0 51 (dk_at dksX8_richest_0 11 rfl rfl)
theorem dX8_richest_14 : decode cX8_richest 14 = .ok (.aload_n 0, 1) := dk_42 (dk_at dksX8_richest_0 14 rfl rfl)
theorem dX8_richest_15 : decode cX8_richest 15 = .ok (.iload_n 2, 1) := dk_28 (dk_at dksX8_richest_0 15 rfl rfl)
theorem dX8_richest_16 : decode cX8_richest 16 = .ok (.invokevirtual 268, 3) := dk_182 1 12 (dk_at dksX8_richest_0 16 rfl rfl)
theorem dX8_richest_19 : decode cX8_richest 19 = .ok (.ifCond .eq 37, 3) := dk_153 0 37 (dk_at dksX8_richest_0 19 rfl rfl)
theorem dX8_richest_22 : decode cX8_richest 22 = .ok (.iload_n 1, 1) := dk_27 (dk_at dksX8_richest_0 22 rfl rfl)
theorem dX8_richest_23 : decode cX8_richest 23 = .ok (.iconst (-1), 1) := dk_2 (dk_at dksX8_richest_0 23 rfl rfl)
theorem dX8_richest_24 : decode cX8_richest 24 = .ok (.if_icmp .eq 30, 3) := dk_159 0 30 (dk_at dksX8_richest_1 0 rfl rfl)
theorem dX8_richest_27 : decode cX8_richest 27 = .ok (.aload_n 0, 1) := dk_42 (dk_at dksX8_richest_1 3 rfl rfl)
theorem dX8_richest_28 : decode cX8_richest 28 = .ok (.getfield 7, 3) := dk_180 0 7 (dk_at dksX8_richest_1 4 rfl rfl)
theorem dX8_richest_31 : decode cX8_richest 31 = .ok (.iconst 0, 1) := dk_3 (dk_at dksX8_richest_1 7 rfl rfl)
theorem dX8_richest_32 : decode cX8_richest 32 = .ok (.iload_n 2, 1) := dk_28 (dk_at dksX8_richest_1 8 rfl rfl)
theorem dX8_richest_33 : decode cX8_richest 33 = .ok (.invokestatic 171, 3) := dk_184 0 171 (dk_at dksX8_richest_1 9 rfl rfl)
theorem dX8_richest_36 : decode cX8_richest 36 = .ok (.iconst 1, 1) := dk_4 (dk_at dksX8_richest_1 12 rfl rfl)
theorem dX8_richest_37 : decode cX8_richest 37 = .ok (.iadd, 1) := dk_96 (dk_at dksX8_richest_1 13 rfl rfl)
theorem dX8_richest_38 : decode cX8_richest 38 = .ok (.iaload, 1) := dk_46 (dk_at dksX8_richest_1 14 rfl rfl)
theorem dX8_richest_39 : decode cX8_richest 39 = .ok (.aload_n 0, 1) := dk_42 (dk_at dksX8_richest_1 15 rfl rfl)
theorem dX8_richest_40 : decode cX8_richest 40 = .ok (.getfield 7, 3) := dk_180 0 7 (dk_at dksX8_richest_1 16 rfl rfl)
theorem dX8_richest_43 : decode cX8_richest 43 = .ok (.iconst 0, 1) := dk_3 (dk_at dksX8_richest_1 19 rfl rfl)
theorem dX8_richest_44 : decode cX8_richest 44 = .ok (.iload_n 1, 1) := dk_27 (dk_at dksX8_richest_1 20 rfl rfl)
theorem dX8_richest_45 : decode cX8_richest 45 = .ok (.invokestatic 171, 3) := dk_184 0 171 (dk_at dksX8_richest_1 21 rfl rfl)
theorem dX8_richest_48 : decode cX8_richest 48 = .ok (.iconst 1, 1) := dk_4 (dk_at dksX8_richest_2 0 rfl rfl)
theorem dX8_richest_49 : decode cX8_richest 49 = .ok (.iadd, 1) := dk_96 (dk_at dksX8_richest_2 1 rfl rfl)
theorem dX8_richest_50 : decode cX8_richest 50 = .ok (.iaload, 1) := dk_46 (dk_at dksX8_richest_2 2 rfl rfl)
theorem dX8_richest_51 : decode cX8_richest 51 = .ok (.if_icmp .le 5, 3) := dk_164 0 5 (dk_at dksX8_richest_2 3 rfl rfl)
theorem dX8_richest_54 : decode cX8_richest 54 = .ok (.iload_n 2, 1) := dk_28 (dk_at dksX8_richest_2 6 rfl rfl)
theorem dX8_richest_55 : decode cX8_richest 55 = .ok (.istore_n 1, 1) := dk_60 (dk_at dksX8_richest_2 7 rfl rfl)
theorem dX8_richest_56 : decode cX8_richest 56 = .ok (.iinc 2 1, 3) := dk_132 2 1 (dk_at dksX8_richest_2 8 rfl rfl)
theorem dX8_richest_59 : decode cX8_richest 59 = .ok (.goto (-55), 3) := dk_167 255 201 (dk_at dksX8_richest_2 11 rfl rfl)
theorem dX8_richest_62 : decode cX8_richest 62 = .ok (.aload_n 0, 1) := dk_42 (dk_at dksX8_richest_2 14 rfl rfl)
theorem dX8_richest_63 : decode cX8_richest 63 = .ok (.iload_n 1, 1) := dk_27 (dk_at dksX8_richest_2 15 rfl rfl)
theorem dX8_richest_64 : decode cX8_richest 64 = .ok (.invokevirtual 358, 3) := dk_182 1 102 (dk_at dksX8_richest_2 16 rfl rfl)
theorem dX8_richest_67 : decode cX8_richest 67 = .ok (.ireturn, 1) := dk_172 (dk_at dksX8_richest_2 19 rfl rfl)
abbrev cX8_left : ByteArray := prog_17_method_107_code
def yX8_left : MethodName := ⟨RX8, "left", "(I)I"⟩
def dkwX8_left_1 : List UInt8 := [182, 0, 82, 172]
abbrev dktX8_left_1 : List UInt8 := dkwX8_left_1 ++ []
def dkwX8_left_0 : List UInt8 := [42, 27, 182, 1, 111, 61, 28, 158, 0, 11, 42, 28, 182, 0, 78, 167, 0, 12, 42, 42, 27, 182, 1, 114]
abbrev dktX8_left_0 : List UInt8 := dkwX8_left_0 ++ dktX8_left_1
theorem dksX8_left_0 : cX8_left.data.toList.drop 0 = dktX8_left_0 := by decide +kernel
theorem dksX8_left_1 : cX8_left.data.toList.drop 24 = dktX8_left_1 := dk_seg dksX8_left_0 24 rfl rfl
theorem dX8_left_0 : decode cX8_left 0 = .ok (.aload_n 0, 1) := dk_42 (dk_at dksX8_left_0 0 rfl rfl)
theorem dX8_left_1 : decode cX8_left 1 = .ok (.iload_n 1, 1) := dk_27 (dk_at dksX8_left_0 1 rfl rfl)
theorem dX8_left_2 : decode cX8_left 2 = .ok (.invokevirtual 367, 3) := dk_182 1 111 (dk_at dksX8_left_0 2 rfl rfl)
theorem dX8_left_5 : decode cX8_left 5 = .ok (.istore_n 2, 1) := dk_61 (dk_at dksX8_left_0 5 rfl rfl)
theorem dX8_left_6 : decode cX8_left 6 = .ok (.iload_n 2, 1) := dk_28 (dk_at dksX8_left_0 6 rfl rfl)
theorem dX8_left_7 : decode cX8_left 7 = .ok (.ifCond .le 11, 3) := dk_158 0 11 (dk_at dksX8_left_0 7 rfl rfl)
theorem dX8_left_10 : decode cX8_left 10 = .ok (.aload_n 0, 1) := dk_42 (dk_at dksX8_left_0 10 rfl rfl)
theorem dX8_left_11 : decode cX8_left 11 = .ok (.iload_n 2, 1) := dk_28 (dk_at dksX8_left_0 11 rfl rfl)
theorem dX8_left_12 : decode cX8_left 12 = .ok (.invokevirtual 78, 3) := dk_182 0 78 (dk_at dksX8_left_0 12 rfl rfl)
theorem dX8_left_15 : decode cX8_left 15 = .ok (.goto 12, 3) := dk_167 0 12 (dk_at dksX8_left_0 15 rfl rfl)
theorem dX8_left_18 : decode cX8_left 18 = .ok (.aload_n 0, 1) := dk_42 (dk_at dksX8_left_0 18 rfl rfl)
theorem dX8_left_19 : decode cX8_left 19 = .ok (.aload_n 0, 1) := dk_42 (dk_at dksX8_left_0 19 rfl rfl)
theorem dX8_left_20 : decode cX8_left 20 = .ok (.iload_n 1, 1) := dk_27 (dk_at dksX8_left_0 20 rfl rfl)
theorem dX8_left_21 : decode cX8_left 21 = .ok (.invokevirtual 370, 3) := dk_182 1 114 (dk_at dksX8_left_0 21 rfl rfl)
theorem dX8_left_24 : decode cX8_left 24 = .ok (.invokevirtual 82, 3) := dk_182 0 82 (dk_at dksX8_left_1 0 rfl rfl)
theorem dX8_left_27 : decode cX8_left 27 = .ok (.ireturn, 1) := dk_172 (dk_at dksX8_left_1 3 rfl rfl)
abbrev cX8_wrongLast : ByteArray := prog_17_method_105_code
def yX8_wrongLast : MethodName := ⟨RX8, "wrongLast", "(I)I"⟩
def dkwX8_wrongLast_1 : List UInt8 := [16, 6, 167, 0, 4, 3, 172]
abbrev dktX8_wrongLast_1 : List UInt8 := dkwX8_wrongLast_1 ++ []
def dkwX8_wrongLast_0 : List UInt8 := [42, 27, 182, 1, 93, 158, 0, 11, 42, 27, 182, 1, 93, 167, 0, 17, 42, 27, 182, 1, 21, 154, 0, 8]
abbrev dktX8_wrongLast_0 : List UInt8 := dkwX8_wrongLast_0 ++ dktX8_wrongLast_1
theorem dksX8_wrongLast_0 : cX8_wrongLast.data.toList.drop 0 = dktX8_wrongLast_0 := by decide +kernel
theorem dksX8_wrongLast_1 : cX8_wrongLast.data.toList.drop 24 = dktX8_wrongLast_1 := dk_seg dksX8_wrongLast_0 24 rfl rfl
theorem dX8_wrongLast_0 : decode cX8_wrongLast 0 = .ok (.aload_n 0, 1) := dk_42 (dk_at dksX8_wrongLast_0 0 rfl rfl)
theorem dX8_wrongLast_1 : decode cX8_wrongLast 1 = .ok (.iload_n 1, 1) := dk_27 (dk_at dksX8_wrongLast_0 1 rfl rfl)
theorem dX8_wrongLast_2 : decode cX8_wrongLast 2 = .ok (.invokevirtual 349, 3) := dk_182 1 93 (dk_at dksX8_wrongLast_0 2 rfl rfl)
theorem dX8_wrongLast_5 : decode cX8_wrongLast 5 = .ok (.ifCond .le 11, 3) := dk_158 0 11 (dk_at dksX8_wrongLast_0 5 rfl rfl)
theorem dX8_wrongLast_8 : decode cX8_wrongLast 8 = .ok (.aload_n 0, 1) := dk_42 (dk_at dksX8_wrongLast_0 8 rfl rfl)
theorem dX8_wrongLast_9 : decode cX8_wrongLast 9 = .ok (.iload_n 1, 1) := dk_27 (dk_at dksX8_wrongLast_0 9 rfl rfl)
theorem dX8_wrongLast_10 : decode cX8_wrongLast 10 = .ok (.invokevirtual 349, 3) := dk_182 1 93 (dk_at dksX8_wrongLast_0 10 rfl rfl)
theorem dX8_wrongLast_13 : decode cX8_wrongLast 13 = .ok (.goto 17, 3) := dk_167 0 17 (dk_at dksX8_wrongLast_0 13 rfl rfl)
theorem dX8_wrongLast_16 : decode cX8_wrongLast 16 = .ok (.aload_n 0, 1) := dk_42 (dk_at dksX8_wrongLast_0 16 rfl rfl)
theorem dX8_wrongLast_17 : decode cX8_wrongLast 17 = .ok (.iload_n 1, 1) := dk_27 (dk_at dksX8_wrongLast_0 17 rfl rfl)
theorem dX8_wrongLast_18 : decode cX8_wrongLast 18 = .ok (.invokevirtual 277, 3) := dk_182 1 21 (dk_at dksX8_wrongLast_0 18 rfl rfl)
theorem dX8_wrongLast_21 : decode cX8_wrongLast 21 = .ok (.ifCond .ne 8, 3) := dk_154 0 8 (dk_at dksX8_wrongLast_0 21 rfl rfl)
theorem dX8_wrongLast_24 : decode cX8_wrongLast 24 = .ok (.bipush 6, 2) := dk_16 6 (dk_at dksX8_wrongLast_1 0 rfl rfl)
theorem dX8_wrongLast_26 : decode cX8_wrongLast 26 = .ok (.goto 4, 3) := dk_167 0 4 (dk_at dksX8_wrongLast_1 2 rfl rfl)
theorem dX8_wrongLast_29 : decode cX8_wrongLast 29 = .ok (.iconst 0, 1) := dk_3 (dk_at dksX8_wrongLast_1 5 rfl rfl)
theorem dX8_wrongLast_30 : decode cX8_wrongLast 30 = .ok (.ireturn, 1) := dk_172 (dk_at dksX8_wrongLast_1 6 rfl rfl)
abbrev cX8_leftOn : ByteArray := prog_17_method_106_code
def yX8_leftOn : MethodName := ⟨RX8, "leftOn", "(I)I"⟩
def dkwX8_leftOn_0 : List UInt8 := [42, 180, 0, 7, 6, 46, 42, 27, 42, 27, 182, 1, 21, 4, 100, 182, 1, 58, 100, 172]
abbrev dktX8_leftOn_0 : List UInt8 := dkwX8_leftOn_0 ++ []
theorem dksX8_leftOn_0 : cX8_leftOn.data.toList.drop 0 = dktX8_leftOn_0 := by decide +kernel
theorem dX8_leftOn_0 : decode cX8_leftOn 0 = .ok (.aload_n 0, 1) := dk_42 (dk_at dksX8_leftOn_0 0 rfl rfl)
theorem dX8_leftOn_1 : decode cX8_leftOn 1 = .ok (.getfield 7, 3) := dk_180 0 7 (dk_at dksX8_leftOn_0 1 rfl rfl)
theorem dX8_leftOn_4 : decode cX8_leftOn 4 = .ok (.iconst 3, 1) := dk_6 (dk_at dksX8_leftOn_0 4 rfl rfl)
theorem dX8_leftOn_5 : decode cX8_leftOn 5 = .ok (.iaload, 1) := dk_46 (dk_at dksX8_leftOn_0 5 rfl rfl)
theorem dX8_leftOn_6 : decode cX8_leftOn 6 = .ok (.aload_n 0, 1) := dk_42 (dk_at dksX8_leftOn_0 6 rfl rfl)
theorem dX8_leftOn_7 : decode cX8_leftOn 7 = .ok (.iload_n 1, 1) := dk_27 (dk_at dksX8_leftOn_0 7 rfl rfl)
theorem dX8_leftOn_8 : decode cX8_leftOn 8 = .ok (.aload_n 0, 1) := dk_42 (dk_at dksX8_leftOn_0 8 rfl rfl)
theorem dX8_leftOn_9 : decode cX8_leftOn 9 = .ok (.iload_n 1, 1) := dk_27 (dk_at dksX8_leftOn_0 9 rfl rfl)
theorem dX8_leftOn_10 : decode cX8_leftOn 10 = .ok (.invokevirtual 277, 3) := dk_182 1 21 (dk_at dksX8_leftOn_0 10 rfl rfl)
theorem dX8_leftOn_13 : decode cX8_leftOn 13 = .ok (.iconst 1, 1) := dk_4 (dk_at dksX8_leftOn_0 13 rfl rfl)
theorem dX8_leftOn_14 : decode cX8_leftOn 14 = .ok (.isub, 1) := dk_100 (dk_at dksX8_leftOn_0 14 rfl rfl)
theorem dX8_leftOn_15 : decode cX8_leftOn 15 = .ok (.invokevirtual 314, 3) := dk_182 1 58 (dk_at dksX8_leftOn_0 15 rfl rfl)
theorem dX8_leftOn_18 : decode cX8_leftOn 18 = .ok (.isub, 1) := dk_100 (dk_at dksX8_leftOn_0 18 rfl rfl)
theorem dX8_leftOn_19 : decode cX8_leftOn 19 = .ok (.ireturn, 1) := dk_172 (dk_at dksX8_leftOn_0 19 rfl rfl)
abbrev cX8_tideIn : ByteArray := prog_17_method_108_code
def yX8_tideIn : MethodName := ⟨RX8, "tideIn", "(I)I"⟩
def dkwX8_tideIn_1 : List UInt8 := [180, 0, 7, 7, 46, 104, 100, 184, 1, 119, 182, 0, 82, 167, 0, 8, 42, 4, 182, 0, 78, 172]
abbrev dktX8_tideIn_1 : List UInt8 := dkwX8_tideIn_1 ++ []
def dkwX8_tideIn_0 : List UInt8 := [27, 133, 9, 20, 1, 117, 184, 1, 33, 153, 0, 29, 42, 4, 42, 180, 0, 7, 6, 46, 27, 42]
abbrev dktX8_tideIn_0 : List UInt8 := dkwX8_tideIn_0 ++ dktX8_tideIn_1
theorem dksX8_tideIn_0 : cX8_tideIn.data.toList.drop 0 = dktX8_tideIn_0 := by decide +kernel
theorem dksX8_tideIn_1 : cX8_tideIn.data.toList.drop 22 = dktX8_tideIn_1 := dk_seg dksX8_tideIn_0 22 rfl rfl
theorem dX8_tideIn_0 : decode cX8_tideIn 0 = .ok (.iload_n 1, 1) := dk_27 (dk_at dksX8_tideIn_0 0 rfl rfl)
theorem dX8_tideIn_1 : decode cX8_tideIn 1 = .ok (.i2l, 1) := dk_133 (dk_at dksX8_tideIn_0 1 rfl rfl)
theorem dX8_tideIn_2 : decode cX8_tideIn 2 = .ok (.lconst 0, 1) := dk_9 (dk_at dksX8_tideIn_0 2 rfl rfl)
theorem dX8_tideIn_3 : decode cX8_tideIn 3 = .ok (.ldc2_w 373, 3) := dk_20 1 117 (dk_at dksX8_tideIn_0 3 rfl rfl)
theorem dX8_tideIn_6 : decode cX8_tideIn 6 = .ok (.invokestatic 289, 3) := dk_184 1 33 (dk_at dksX8_tideIn_0 6 rfl rfl)
theorem dX8_tideIn_9 : decode cX8_tideIn 9 = .ok (.ifCond .eq 29, 3) := dk_153 0 29 (dk_at dksX8_tideIn_0 9 rfl rfl)
theorem dX8_tideIn_12 : decode cX8_tideIn 12 = .ok (.aload_n 0, 1) := dk_42 (dk_at dksX8_tideIn_0 12 rfl rfl)
theorem dX8_tideIn_13 : decode cX8_tideIn 13 = .ok (.iconst 1, 1) := dk_4 (dk_at dksX8_tideIn_0 13 rfl rfl)
theorem dX8_tideIn_14 : decode cX8_tideIn 14 = .ok (.aload_n 0, 1) := dk_42 (dk_at dksX8_tideIn_0 14 rfl rfl)
theorem dX8_tideIn_15 : decode cX8_tideIn 15 = .ok (.getfield 7, 3) := dk_180 0 7 (dk_at dksX8_tideIn_0 15 rfl rfl)
theorem dX8_tideIn_18 : decode cX8_tideIn 18 = .ok (.iconst 3, 1) := dk_6 (dk_at dksX8_tideIn_0 18 rfl rfl)
theorem dX8_tideIn_19 : decode cX8_tideIn 19 = .ok (.iaload, 1) := dk_46 (dk_at dksX8_tideIn_0 19 rfl rfl)
theorem dX8_tideIn_20 : decode cX8_tideIn 20 = .ok (.iload_n 1, 1) := dk_27 (dk_at dksX8_tideIn_0 20 rfl rfl)
theorem dX8_tideIn_21 : decode cX8_tideIn 21 = .ok (.aload_n 0, 1) := dk_42 (dk_at dksX8_tideIn_0 21 rfl rfl)
theorem dX8_tideIn_22 : decode cX8_tideIn 22 = .ok (.getfield 7, 3) := dk_180 0 7 (dk_at dksX8_tideIn_1 0 rfl rfl)
theorem dX8_tideIn_25 : decode cX8_tideIn 25 = .ok (.iconst 4, 1) := dk_7 (dk_at dksX8_tideIn_1 3 rfl rfl)
theorem dX8_tideIn_26 : decode cX8_tideIn 26 = .ok (.iaload, 1) := dk_46 (dk_at dksX8_tideIn_1 4 rfl rfl)
theorem dX8_tideIn_27 : decode cX8_tideIn 27 = .ok (.imul, 1) := dk_104 (dk_at dksX8_tideIn_1 5 rfl rfl)
theorem dX8_tideIn_28 : decode cX8_tideIn 28 = .ok (.isub, 1) := dk_100 (dk_at dksX8_tideIn_1 6 rfl rfl)
theorem dX8_tideIn_29 : decode cX8_tideIn 29 = .ok (.invokestatic 375, 3) := dk_184 1 119 (dk_at dksX8_tideIn_1 7 rfl rfl)
theorem dX8_tideIn_32 : decode cX8_tideIn 32 = .ok (.invokevirtual 82, 3) := dk_182 0 82 (dk_at dksX8_tideIn_1 10 rfl rfl)
theorem dX8_tideIn_35 : decode cX8_tideIn 35 = .ok (.goto 8, 3) := dk_167 0 8 (dk_at dksX8_tideIn_1 13 rfl rfl)
theorem dX8_tideIn_38 : decode cX8_tideIn 38 = .ok (.aload_n 0, 1) := dk_42 (dk_at dksX8_tideIn_1 16 rfl rfl)
theorem dX8_tideIn_39 : decode cX8_tideIn 39 = .ok (.iconst 1, 1) := dk_4 (dk_at dksX8_tideIn_1 17 rfl rfl)
theorem dX8_tideIn_40 : decode cX8_tideIn 40 = .ok (.invokevirtual 78, 3) := dk_182 0 78 (dk_at dksX8_tideIn_1 18 rfl rfl)
theorem dX8_tideIn_43 : decode cX8_tideIn 43 = .ok (.ireturn, 1) := dk_172 (dk_at dksX8_tideIn_1 21 rfl rfl)
abbrev cX8_latest : ByteArray := prog_17_method_109_code
def yX8_latest : MethodName := ⟨RX8, "latest", "()I"⟩
def dkwX8_latest_2 : List UInt8 := [182, 1, 102, 172]
abbrev dktX8_latest_2 : List UInt8 := dkwX8_latest_2 ++ []
def dkwX8_latest_1 : List UInt8 := [28, 42, 28, 182, 1, 21, 4, 100, 182, 1, 58, 184, 1, 119, 60, 132, 2, 1, 167, 255, 218, 42, 27]
abbrev dktX8_latest_1 : List UInt8 := dkwX8_latest_1 ++ dktX8_latest_2
def dkwX8_latest_0 : List UInt8 := [2, 60, 3, 61, 28, 42, 180, 0, 7, 5, 46, 162, 0, 34, 42, 28, 182, 1, 21, 158, 0, 20, 27, 42]
abbrev dktX8_latest_0 : List UInt8 := dkwX8_latest_0 ++ dktX8_latest_1
theorem dksX8_latest_0 : cX8_latest.data.toList.drop 0 = dktX8_latest_0 := by decide +kernel
theorem dksX8_latest_1 : cX8_latest.data.toList.drop 24 = dktX8_latest_1 := dk_seg dksX8_latest_0 24 rfl rfl
theorem dksX8_latest_2 : cX8_latest.data.toList.drop 47 = dktX8_latest_2 := dk_seg dksX8_latest_1 23 rfl rfl
theorem dX8_latest_0 : decode cX8_latest 0 = .ok (.iconst (-1), 1) := dk_2 (dk_at dksX8_latest_0 0 rfl rfl)
theorem dX8_latest_1 : decode cX8_latest 1 = .ok (.istore_n 1, 1) := dk_60 (dk_at dksX8_latest_0 1 rfl rfl)
theorem dX8_latest_2 : decode cX8_latest 2 = .ok (.iconst 0, 1) := dk_3 (dk_at dksX8_latest_0 2 rfl rfl)
theorem dX8_latest_3 : decode cX8_latest 3 = .ok (.istore_n 2, 1) := dk_61 (dk_at dksX8_latest_0 3 rfl rfl)
theorem dX8_latest_4 : decode cX8_latest 4 = .ok (.iload_n 2, 1) := dk_28 (dk_at dksX8_latest_0 4 rfl rfl)
theorem dX8_latest_5 : decode cX8_latest 5 = .ok (.aload_n 0, 1) := dk_42 (dk_at dksX8_latest_0 5 rfl rfl)
theorem dX8_latest_6 : decode cX8_latest 6 = .ok (.getfield 7, 3) := dk_180 0 7 (dk_at dksX8_latest_0 6 rfl rfl)
theorem dX8_latest_9 : decode cX8_latest 9 = .ok (.iconst 2, 1) := dk_5 (dk_at dksX8_latest_0 9 rfl rfl)
theorem dX8_latest_10 : decode cX8_latest 10 = .ok (.iaload, 1) := dk_46 (dk_at dksX8_latest_0 10 rfl rfl)
theorem dX8_latest_11 : decode cX8_latest 11 = .ok (.if_icmp .ge 34, 3) := dk_162 0 34 (dk_at dksX8_latest_0 11 rfl rfl)
theorem dX8_latest_14 : decode cX8_latest 14 = .ok (.aload_n 0, 1) := dk_42 (dk_at dksX8_latest_0 14 rfl rfl)
theorem dX8_latest_15 : decode cX8_latest 15 = .ok (.iload_n 2, 1) := dk_28 (dk_at dksX8_latest_0 15 rfl rfl)
theorem dX8_latest_16 : decode cX8_latest 16 = .ok (.invokevirtual 277, 3) := dk_182 1 21 (dk_at dksX8_latest_0 16 rfl rfl)
theorem dX8_latest_19 : decode cX8_latest 19 = .ok (.ifCond .le 20, 3) := dk_158 0 20 (dk_at dksX8_latest_0 19 rfl rfl)
theorem dX8_latest_22 : decode cX8_latest 22 = .ok (.iload_n 1, 1) := dk_27 (dk_at dksX8_latest_0 22 rfl rfl)
theorem dX8_latest_23 : decode cX8_latest 23 = .ok (.aload_n 0, 1) := dk_42 (dk_at dksX8_latest_0 23 rfl rfl)
theorem dX8_latest_24 : decode cX8_latest 24 = .ok (.iload_n 2, 1) := dk_28 (dk_at dksX8_latest_1 0 rfl rfl)
theorem dX8_latest_25 : decode cX8_latest 25 = .ok (.aload_n 0, 1) := dk_42 (dk_at dksX8_latest_1 1 rfl rfl)
theorem dX8_latest_26 : decode cX8_latest 26 = .ok (.iload_n 2, 1) := dk_28 (dk_at dksX8_latest_1 2 rfl rfl)
theorem dX8_latest_27 : decode cX8_latest 27 = .ok (.invokevirtual 277, 3) := dk_182 1 21 (dk_at dksX8_latest_1 3 rfl rfl)
theorem dX8_latest_30 : decode cX8_latest 30 = .ok (.iconst 1, 1) := dk_4 (dk_at dksX8_latest_1 6 rfl rfl)
theorem dX8_latest_31 : decode cX8_latest 31 = .ok (.isub, 1) := dk_100 (dk_at dksX8_latest_1 7 rfl rfl)
theorem dX8_latest_32 : decode cX8_latest 32 = .ok (.invokevirtual 314, 3) := dk_182 1 58 (dk_at dksX8_latest_1 8 rfl rfl)
theorem dX8_latest_35 : decode cX8_latest 35 = .ok (.invokestatic 375, 3) := dk_184 1 119 (dk_at dksX8_latest_1 11 rfl rfl)
theorem dX8_latest_38 : decode cX8_latest 38 = .ok (.istore_n 1, 1) := dk_60 (dk_at dksX8_latest_1 14 rfl rfl)
theorem dX8_latest_39 : decode cX8_latest 39 = .ok (.iinc 2 1, 3) := dk_132 2 1 (dk_at dksX8_latest_1 15 rfl rfl)
theorem dX8_latest_42 : decode cX8_latest 42 = .ok (.goto (-38), 3) := dk_167 255 218 (dk_at dksX8_latest_1 18 rfl rfl)
theorem dX8_latest_45 : decode cX8_latest 45 = .ok (.aload_n 0, 1) := dk_42 (dk_at dksX8_latest_1 21 rfl rfl)
theorem dX8_latest_46 : decode cX8_latest 46 = .ok (.iload_n 1, 1) := dk_27 (dk_at dksX8_latest_1 22 rfl rfl)
theorem dX8_latest_47 : decode cX8_latest 47 = .ok (.invokevirtual 358, 3) := dk_182 1 102 (dk_at dksX8_latest_2 0 rfl rfl)
theorem dX8_latest_50 : decode cX8_latest 50 = .ok (.ireturn, 1) := dk_172 (dk_at dksX8_latest_2 3 rfl rfl)
abbrev cX8_behind : ByteArray := prog_17_method_110_code
def yX8_behind : MethodName := ⟨RX8, "behind", "(I)I"⟩
def dkwX8_behind_1 : List UInt8 := [182, 0, 82, 167, 0, 8, 42, 4, 182, 0, 78, 172]
abbrev dktX8_behind_1 : List UInt8 := dkwX8_behind_1 ++ []
def dkwX8_behind_0 : List UInt8 := [42, 27, 182, 1, 15, 153, 0, 25, 42, 42, 42, 3, 182, 1, 99, 182, 1, 96, 42, 27, 182, 1, 96, 100]
abbrev dktX8_behind_0 : List UInt8 := dkwX8_behind_0 ++ dktX8_behind_1
theorem dksX8_behind_0 : cX8_behind.data.toList.drop 0 = dktX8_behind_0 := by decide +kernel
theorem dksX8_behind_1 : cX8_behind.data.toList.drop 24 = dktX8_behind_1 := dk_seg dksX8_behind_0 24 rfl rfl
theorem dX8_behind_0 : decode cX8_behind 0 = .ok (.aload_n 0, 1) := dk_42 (dk_at dksX8_behind_0 0 rfl rfl)
theorem dX8_behind_1 : decode cX8_behind 1 = .ok (.iload_n 1, 1) := dk_27 (dk_at dksX8_behind_0 1 rfl rfl)
theorem dX8_behind_2 : decode cX8_behind 2 = .ok (.invokevirtual 271, 3) := dk_182 1 15 (dk_at dksX8_behind_0 2 rfl rfl)
theorem dX8_behind_5 : decode cX8_behind 5 = .ok (.ifCond .eq 25, 3) := dk_153 0 25 (dk_at dksX8_behind_0 5 rfl rfl)
theorem dX8_behind_8 : decode cX8_behind 8 = .ok (.aload_n 0, 1) := dk_42 (dk_at dksX8_behind_0 8 rfl rfl)
theorem dX8_behind_9 : decode cX8_behind 9 = .ok (.aload_n 0, 1) := dk_42 (dk_at dksX8_behind_0 9 rfl rfl)
theorem dX8_behind_10 : decode cX8_behind 10 = .ok (.aload_n 0, 1) := dk_42 (dk_at dksX8_behind_0 10 rfl rfl)
theorem dX8_behind_11 : decode cX8_behind 11 = .ok (.iconst 0, 1) := dk_3 (dk_at dksX8_behind_0 11 rfl rfl)
theorem dX8_behind_12 : decode cX8_behind 12 = .ok (.invokevirtual 355, 3) := dk_182 1 99 (dk_at dksX8_behind_0 12 rfl rfl)
theorem dX8_behind_15 : decode cX8_behind 15 = .ok (.invokevirtual 352, 3) := dk_182 1 96 (dk_at dksX8_behind_0 15 rfl rfl)
theorem dX8_behind_18 : decode cX8_behind 18 = .ok (.aload_n 0, 1) := dk_42 (dk_at dksX8_behind_0 18 rfl rfl)
theorem dX8_behind_19 : decode cX8_behind 19 = .ok (.iload_n 1, 1) := dk_27 (dk_at dksX8_behind_0 19 rfl rfl)
theorem dX8_behind_20 : decode cX8_behind 20 = .ok (.invokevirtual 352, 3) := dk_182 1 96 (dk_at dksX8_behind_0 20 rfl rfl)
theorem dX8_behind_23 : decode cX8_behind 23 = .ok (.isub, 1) := dk_100 (dk_at dksX8_behind_0 23 rfl rfl)
theorem dX8_behind_24 : decode cX8_behind 24 = .ok (.invokevirtual 82, 3) := dk_182 0 82 (dk_at dksX8_behind_1 0 rfl rfl)
theorem dX8_behind_27 : decode cX8_behind 27 = .ok (.goto 8, 3) := dk_167 0 8 (dk_at dksX8_behind_1 3 rfl rfl)
theorem dX8_behind_30 : decode cX8_behind 30 = .ok (.aload_n 0, 1) := dk_42 (dk_at dksX8_behind_1 6 rfl rfl)
theorem dX8_behind_31 : decode cX8_behind 31 = .ok (.iconst 1, 1) := dk_4 (dk_at dksX8_behind_1 7 rfl rfl)
theorem dX8_behind_32 : decode cX8_behind 32 = .ok (.invokevirtual 78, 3) := dk_182 0 78 (dk_at dksX8_behind_1 8 rfl rfl)
theorem dX8_behind_35 : decode cX8_behind 35 = .ok (.ireturn, 1) := dk_172 (dk_at dksX8_behind_1 11 rfl rfl)
abbrev cX8_alone : ByteArray := prog_17_method_111_code
def yX8_alone : MethodName := ⟨RX8, "alone", "()I"⟩
def dkwX8_alone_3 : List UInt8 := [42, 27, 182, 0, 82, 172]
abbrev dktX8_alone_3 : List UInt8 := dkwX8_alone_3 ++ []
def dkwX8_alone_2 : List UInt8 := [27, 29, 184, 1, 84, 4, 160, 0, 9, 4, 28, 120, 167, 0, 4, 3, 128, 60, 132, 2, 1, 167, 255, 192]
abbrev dktX8_alone_2 : List UInt8 := dkwX8_alone_2 ++ dktX8_alone_3
def dkwX8_alone_1 : List UInt8 := [182, 1, 21, 162, 0, 21, 29, 4, 42, 28, 21, 4, 182, 1, 52, 120, 128, 62, 132, 4, 1, 167, 255, 231]
abbrev dktX8_alone_1 : List UInt8 := dkwX8_alone_1 ++ dktX8_alone_2
def dkwX8_alone_0 : List UInt8 := [3, 60, 3, 61, 28, 42, 180, 0, 7, 5, 46, 162, 0, 60, 3, 62, 3, 54, 4, 21, 4, 42, 28]
abbrev dktX8_alone_0 : List UInt8 := dkwX8_alone_0 ++ dktX8_alone_1
theorem dksX8_alone_0 : cX8_alone.data.toList.drop 0 = dktX8_alone_0 := by decide +kernel
theorem dksX8_alone_1 : cX8_alone.data.toList.drop 23 = dktX8_alone_1 := dk_seg dksX8_alone_0 23 rfl rfl
theorem dksX8_alone_2 : cX8_alone.data.toList.drop 47 = dktX8_alone_2 := dk_seg dksX8_alone_1 24 rfl rfl
theorem dksX8_alone_3 : cX8_alone.data.toList.drop 71 = dktX8_alone_3 := dk_seg dksX8_alone_2 24 rfl rfl
theorem dX8_alone_0 : decode cX8_alone 0 = .ok (.iconst 0, 1) := dk_3 (dk_at dksX8_alone_0 0 rfl rfl)
theorem dX8_alone_1 : decode cX8_alone 1 = .ok (.istore_n 1, 1) := dk_60 (dk_at dksX8_alone_0 1 rfl rfl)
theorem dX8_alone_2 : decode cX8_alone 2 = .ok (.iconst 0, 1) := dk_3 (dk_at dksX8_alone_0 2 rfl rfl)
theorem dX8_alone_3 : decode cX8_alone 3 = .ok (.istore_n 2, 1) := dk_61 (dk_at dksX8_alone_0 3 rfl rfl)
theorem dX8_alone_4 : decode cX8_alone 4 = .ok (.iload_n 2, 1) := dk_28 (dk_at dksX8_alone_0 4 rfl rfl)
theorem dX8_alone_5 : decode cX8_alone 5 = .ok (.aload_n 0, 1) := dk_42 (dk_at dksX8_alone_0 5 rfl rfl)
theorem dX8_alone_6 : decode cX8_alone 6 = .ok (.getfield 7, 3) := dk_180 0 7 (dk_at dksX8_alone_0 6 rfl rfl)
theorem dX8_alone_9 : decode cX8_alone 9 = .ok (.iconst 2, 1) := dk_5 (dk_at dksX8_alone_0 9 rfl rfl)
theorem dX8_alone_10 : decode cX8_alone 10 = .ok (.iaload, 1) := dk_46 (dk_at dksX8_alone_0 10 rfl rfl)
theorem dX8_alone_11 : decode cX8_alone 11 = .ok (.if_icmp .ge 60, 3) := dk_162 0 60 (dk_at dksX8_alone_0 11 rfl rfl)
theorem dX8_alone_14 : decode cX8_alone 14 = .ok (.iconst 0, 1) := dk_3 (dk_at dksX8_alone_0 14 rfl rfl)
theorem dX8_alone_15 : decode cX8_alone 15 = .ok (.istore_n 3, 1) := dk_62 (dk_at dksX8_alone_0 15 rfl rfl)
theorem dX8_alone_16 : decode cX8_alone 16 = .ok (.iconst 0, 1) := dk_3 (dk_at dksX8_alone_0 16 rfl rfl)
theorem dX8_alone_17 : decode cX8_alone 17 = .ok (.istore 4, 2) := dk_54 4 (dk_at dksX8_alone_0 17 rfl rfl)
theorem dX8_alone_19 : decode cX8_alone 19 = .ok (.iload 4, 2) := dk_21 4 (dk_at dksX8_alone_0 19 rfl rfl)
theorem dX8_alone_21 : decode cX8_alone 21 = .ok (.aload_n 0, 1) := dk_42 (dk_at dksX8_alone_0 21 rfl rfl)
theorem dX8_alone_22 : decode cX8_alone 22 = .ok (.iload_n 2, 1) := dk_28 (dk_at dksX8_alone_0 22 rfl rfl)
theorem dX8_alone_23 : decode cX8_alone 23 = .ok (.invokevirtual 277, 3) := dk_182 1 21 (dk_at dksX8_alone_1 0 rfl rfl)
theorem dX8_alone_26 : decode cX8_alone 26 = .ok (.if_icmp .ge 21, 3) := dk_162 0 21 (dk_at dksX8_alone_1 3 rfl rfl)
theorem dX8_alone_29 : decode cX8_alone 29 = .ok (.iload_n 3, 1) := dk_29 (dk_at dksX8_alone_1 6 rfl rfl)
theorem dX8_alone_30 : decode cX8_alone 30 = .ok (.iconst 1, 1) := dk_4 (dk_at dksX8_alone_1 7 rfl rfl)
theorem dX8_alone_31 : decode cX8_alone 31 = .ok (.aload_n 0, 1) := dk_42 (dk_at dksX8_alone_1 8 rfl rfl)
theorem dX8_alone_32 : decode cX8_alone 32 = .ok (.iload_n 2, 1) := dk_28 (dk_at dksX8_alone_1 9 rfl rfl)
theorem dX8_alone_33 : decode cX8_alone 33 = .ok (.iload 4, 2) := dk_21 4 (dk_at dksX8_alone_1 10 rfl rfl)
theorem dX8_alone_35 : decode cX8_alone 35 = .ok (.invokevirtual 308, 3) := dk_182 1 52 (dk_at dksX8_alone_1 12 rfl rfl)
theorem dX8_alone_38 : decode cX8_alone 38 = .ok (.ishl, 1) := dk_120 (dk_at dksX8_alone_1 15 rfl rfl)
theorem dX8_alone_39 : decode cX8_alone 39 = .ok (.ior, 1) := dk_128 (dk_at dksX8_alone_1 16 rfl rfl)
theorem dX8_alone_40 : decode cX8_alone 40 = .ok (.istore_n 3, 1) := dk_62 (dk_at dksX8_alone_1 17 rfl rfl)
theorem dX8_alone_41 : decode cX8_alone 41 = .ok (.iinc 4 1, 3) := dk_132 4 1 (dk_at dksX8_alone_1 18 rfl rfl)
theorem dX8_alone_44 : decode cX8_alone 44 = .ok (.goto (-25), 3) := dk_167 255 231 (dk_at dksX8_alone_1 21 rfl rfl)
theorem dX8_alone_47 : decode cX8_alone 47 = .ok (.iload_n 1, 1) := dk_27 (dk_at dksX8_alone_2 0 rfl rfl)
theorem dX8_alone_48 : decode cX8_alone 48 = .ok (.iload_n 3, 1) := dk_29 (dk_at dksX8_alone_2 1 rfl rfl)
theorem dX8_alone_49 : decode cX8_alone 49 = .ok (.invokestatic 340, 3) := dk_184 1 84 (dk_at dksX8_alone_2 2 rfl rfl)
theorem dX8_alone_52 : decode cX8_alone 52 = .ok (.iconst 1, 1) := dk_4 (dk_at dksX8_alone_2 5 rfl rfl)
theorem dX8_alone_53 : decode cX8_alone 53 = .ok (.if_icmp .ne 9, 3) := dk_160 0 9 (dk_at dksX8_alone_2 6 rfl rfl)
theorem dX8_alone_56 : decode cX8_alone 56 = .ok (.iconst 1, 1) := dk_4 (dk_at dksX8_alone_2 9 rfl rfl)
theorem dX8_alone_57 : decode cX8_alone 57 = .ok (.iload_n 2, 1) := dk_28 (dk_at dksX8_alone_2 10 rfl rfl)
theorem dX8_alone_58 : decode cX8_alone 58 = .ok (.ishl, 1) := dk_120 (dk_at dksX8_alone_2 11 rfl rfl)
theorem dX8_alone_59 : decode cX8_alone 59 = .ok (.goto 4, 3) := dk_167 0 4 (dk_at dksX8_alone_2 12 rfl rfl)
theorem dX8_alone_62 : decode cX8_alone 62 = .ok (.iconst 0, 1) := dk_3 (dk_at dksX8_alone_2 15 rfl rfl)
theorem dX8_alone_63 : decode cX8_alone 63 = .ok (.ior, 1) := dk_128 (dk_at dksX8_alone_2 16 rfl rfl)
theorem dX8_alone_64 : decode cX8_alone 64 = .ok (.istore_n 1, 1) := dk_60 (dk_at dksX8_alone_2 17 rfl rfl)
theorem dX8_alone_65 : decode cX8_alone 65 = .ok (.iinc 2 1, 3) := dk_132 2 1 (dk_at dksX8_alone_2 18 rfl rfl)
theorem dX8_alone_68 : decode cX8_alone 68 = .ok (.goto (-64), 3) := dk_167 255 192 (dk_at dksX8_alone_2 21 rfl rfl)
theorem dX8_alone_71 : decode cX8_alone 71 = .ok (.aload_n 0, 1) := dk_42 (dk_at dksX8_alone_3 0 rfl rfl)
theorem dX8_alone_72 : decode cX8_alone 72 = .ok (.iload_n 1, 1) := dk_27 (dk_at dksX8_alone_3 1 rfl rfl)
theorem dX8_alone_73 : decode cX8_alone 73 = .ok (.invokevirtual 82, 3) := dk_182 0 82 (dk_at dksX8_alone_3 2 rfl rfl)
theorem dX8_alone_76 : decode cX8_alone 76 = .ok (.ireturn, 1) := dk_172 (dk_at dksX8_alone_3 5 rfl rfl)
abbrev cX8_part : ByteArray := prog_17_method_112_code
def yX8_part : MethodName := ⟨RX8, "part", "(II)I"⟩
def dkwX8_part_3 : List UInt8 := [132, 5, 1, 167, 255, 206, 42, 16, 6, 182, 0, 78, 172]
abbrev dktX8_part_3 : List UInt8 := dkwX8_part_3 ++ []
def dkwX8_part_2 : List UInt8 := [167, 0, 23, 21, 4, 154, 0, 15, 42, 42, 21, 5, 27, 182, 1, 90, 182, 0, 82, 172, 132, 4, 255]
abbrev dktX8_part_2 : List UInt8 := dkwX8_part_2 ++ dktX8_part_3
def dkwX8_part_1 : List UInt8 := [42, 180, 0, 7, 4, 46, 162, 0, 45, 42, 27, 182, 1, 81, 21, 5, 122, 4, 126, 154, 0, 6]
abbrev dktX8_part_1 : List UInt8 := dkwX8_part_1 ++ dktX8_part_2
def dkwX8_part_0 : List UInt8 := [42, 27, 182, 1, 93, 62, 29, 158, 0, 9, 42, 29, 182, 0, 78, 172, 28, 54, 4, 3, 54, 5, 21, 5]
abbrev dktX8_part_0 : List UInt8 := dkwX8_part_0 ++ dktX8_part_1
theorem dksX8_part_0 : cX8_part.data.toList.drop 0 = dktX8_part_0 := by decide +kernel
theorem dksX8_part_1 : cX8_part.data.toList.drop 24 = dktX8_part_1 := dk_seg dksX8_part_0 24 rfl rfl
theorem dksX8_part_2 : cX8_part.data.toList.drop 46 = dktX8_part_2 := dk_seg dksX8_part_1 22 rfl rfl
theorem dksX8_part_3 : cX8_part.data.toList.drop 69 = dktX8_part_3 := dk_seg dksX8_part_2 23 rfl rfl
theorem dX8_part_0 : decode cX8_part 0 = .ok (.aload_n 0, 1) := dk_42 (dk_at dksX8_part_0 0 rfl rfl)
theorem dX8_part_1 : decode cX8_part 1 = .ok (.iload_n 1, 1) := dk_27 (dk_at dksX8_part_0 1 rfl rfl)
theorem dX8_part_2 : decode cX8_part 2 = .ok (.invokevirtual 349, 3) := dk_182 1 93 (dk_at dksX8_part_0 2 rfl rfl)
theorem dX8_part_5 : decode cX8_part 5 = .ok (.istore_n 3, 1) := dk_62 (dk_at dksX8_part_0 5 rfl rfl)
theorem dX8_part_6 : decode cX8_part 6 = .ok (.iload_n 3, 1) := dk_29 (dk_at dksX8_part_0 6 rfl rfl)
theorem dX8_part_7 : decode cX8_part 7 = .ok (.ifCond .le 9, 3) := dk_158 0 9 (dk_at dksX8_part_0 7 rfl rfl)
theorem dX8_part_10 : decode cX8_part 10 = .ok (.aload_n 0, 1) := dk_42 (dk_at dksX8_part_0 10 rfl rfl)
theorem dX8_part_11 : decode cX8_part 11 = .ok (.iload_n 3, 1) := dk_29 (dk_at dksX8_part_0 11 rfl rfl)
theorem dX8_part_12 : decode cX8_part 12 = .ok (.invokevirtual 78, 3) := dk_182 0 78 (dk_at dksX8_part_0 12 rfl rfl)
theorem dX8_part_15 : decode cX8_part 15 = .ok (.ireturn, 1) := dk_172 (dk_at dksX8_part_0 15 rfl rfl)
theorem dX8_part_16 : decode cX8_part 16 = .ok (.iload_n 2, 1) := dk_28 (dk_at dksX8_part_0 16 rfl rfl)
theorem dX8_part_17 : decode cX8_part 17 = .ok (.istore 4, 2) := dk_54 4 (dk_at dksX8_part_0 17 rfl rfl)
theorem dX8_part_19 : decode cX8_part 19 = .ok (.iconst 0, 1) := dk_3 (dk_at dksX8_part_0 19 rfl rfl)
theorem dX8_part_20 : decode cX8_part 20 = .ok (.istore 5, 2) := dk_54 5 (dk_at dksX8_part_0 20 rfl rfl)
theorem dX8_part_22 : decode cX8_part 22 = .ok (.iload 5, 2) := dk_21 5 (dk_at dksX8_part_0 22 rfl rfl)
theorem dX8_part_24 : decode cX8_part 24 = .ok (.aload_n 0, 1) := dk_42 (dk_at dksX8_part_1 0 rfl rfl)
theorem dX8_part_25 : decode cX8_part 25 = .ok (.getfield 7, 3) := dk_180 0 7 (dk_at dksX8_part_1 1 rfl rfl)
theorem dX8_part_28 : decode cX8_part 28 = .ok (.iconst 1, 1) := dk_4 (dk_at dksX8_part_1 4 rfl rfl)
theorem dX8_part_29 : decode cX8_part 29 = .ok (.iaload, 1) := dk_46 (dk_at dksX8_part_1 5 rfl rfl)
theorem dX8_part_30 : decode cX8_part 30 = .ok (.if_icmp .ge 45, 3) := dk_162 0 45 (dk_at dksX8_part_1 6 rfl rfl)
theorem dX8_part_33 : decode cX8_part 33 = .ok (.aload_n 0, 1) := dk_42 (dk_at dksX8_part_1 9 rfl rfl)
theorem dX8_part_34 : decode cX8_part 34 = .ok (.iload_n 1, 1) := dk_27 (dk_at dksX8_part_1 10 rfl rfl)
theorem dX8_part_35 : decode cX8_part 35 = .ok (.invokevirtual 337, 3) := dk_182 1 81 (dk_at dksX8_part_1 11 rfl rfl)
theorem dX8_part_38 : decode cX8_part 38 = .ok (.iload 5, 2) := dk_21 5 (dk_at dksX8_part_1 14 rfl rfl)
theorem dX8_part_40 : decode cX8_part 40 = .ok (.ishr, 1) := dk_122 (dk_at dksX8_part_1 16 rfl rfl)
theorem dX8_part_41 : decode cX8_part 41 = .ok (.iconst 1, 1) := dk_4 (dk_at dksX8_part_1 17 rfl rfl)
theorem dX8_part_42 : decode cX8_part 42 = .ok (.iand, 1) := dk_126 (dk_at dksX8_part_1 18 rfl rfl)
theorem dX8_part_43 : decode cX8_part 43 = .ok (.ifCond .ne 6, 3) := dk_154 0 6 (dk_at dksX8_part_1 19 rfl rfl)
theorem dX8_part_46 : decode cX8_part 46 = .ok (.goto 23, 3) := dk_167 0 23 (dk_at dksX8_part_2 0 rfl rfl)
theorem dX8_part_49 : decode cX8_part 49 = .ok (.iload 4, 2) := dk_21 4 (dk_at dksX8_part_2 3 rfl rfl)
theorem dX8_part_51 : decode cX8_part 51 = .ok (.ifCond .ne 15, 3) := dk_154 0 15 (dk_at dksX8_part_2 5 rfl rfl)
theorem dX8_part_54 : decode cX8_part 54 = .ok (.aload_n 0, 1) := dk_42 (dk_at dksX8_part_2 8 rfl rfl)
theorem dX8_part_55 : decode cX8_part 55 = .ok (.aload_n 0, 1) := dk_42 (dk_at dksX8_part_2 9 rfl rfl)
theorem dX8_part_56 : decode cX8_part 56 = .ok (.iload 5, 2) := dk_21 5 (dk_at dksX8_part_2 10 rfl rfl)
theorem dX8_part_58 : decode cX8_part 58 = .ok (.iload_n 1, 1) := dk_27 (dk_at dksX8_part_2 12 rfl rfl)
theorem dX8_part_59 : decode cX8_part 59 = .ok (.invokevirtual 346, 3) := dk_182 1 90 (dk_at dksX8_part_2 13 rfl rfl)
theorem dX8_part_62 : decode cX8_part 62 = .ok (.invokevirtual 82, 3) := dk_182 0 82 (dk_at dksX8_part_2 16 rfl rfl)
theorem dX8_part_65 : decode cX8_part 65 = .ok (.ireturn, 1) := dk_172 (dk_at dksX8_part_2 19 rfl rfl)
theorem dX8_part_66 : decode cX8_part 66 = .ok (.iinc 4 (-1), 3) := dk_132 4 255 (dk_at dksX8_part_2 20 rfl rfl)
theorem dX8_part_69 : decode cX8_part 69 = .ok (.iinc 5 1, 3) := dk_132 5 1 (dk_at dksX8_part_3 0 rfl rfl)
theorem dX8_part_72 : decode cX8_part 72 = .ok (.goto (-50), 3) := dk_167 255 206 (dk_at dksX8_part_3 3 rfl rfl)
theorem dX8_part_75 : decode cX8_part 75 = .ok (.aload_n 0, 1) := dk_42 (dk_at dksX8_part_3 6 rfl rfl)
theorem dX8_part_76 : decode cX8_part 76 = .ok (.bipush 6, 2) := dk_16 6 (dk_at dksX8_part_3 7 rfl rfl)
theorem dX8_part_78 : decode cX8_part 78 = .ok (.invokevirtual 78, 3) := dk_182 0 78 (dk_at dksX8_part_3 9 rfl rfl)
theorem dX8_part_81 : decode cX8_part 81 = .ok (.ireturn, 1) := dk_172 (dk_at dksX8_part_3 12 rfl rfl)
abbrev cX8_crowd : ByteArray := prog_17_method_113_code
def yX8_crowd : MethodName := ⟨RX8, "crowd", "(I)I"⟩
def dkwX8_crowd_4 : List UInt8 := [167, 255, 202, 28, 21, 4, 184, 1, 119, 61, 132, 3, 1, 167, 255, 173, 42, 28, 182, 0, 82, 172]
abbrev dktX8_crowd_4 : List UInt8 := dkwX8_crowd_4 ++ []
def dkwX8_crowd_3 : List UInt8 := [21, 5, 184, 1, 18, 46, 29, 27, 96, 162, 0, 7, 4, 167, 0, 4, 3, 96, 54, 4, 132, 5, 1]
abbrev dktX8_crowd_3 : List UInt8 := dkwX8_crowd_3 ++ dktX8_crowd_4
def dkwX8_crowd_2 : List UInt8 := [162, 0, 49, 21, 4, 42, 180, 0, 7, 21, 5, 184, 1, 18, 46, 29, 161, 0, 23, 42, 180, 0, 7]
abbrev dktX8_crowd_2 : List UInt8 := dkwX8_crowd_2 ++ dktX8_crowd_3
def dkwX8_crowd_1 : List UInt8 := [180, 0, 7, 3, 46, 162, 0, 79, 3, 54, 4, 3, 54, 5, 21, 5, 42, 180, 0, 7, 4, 46]
abbrev dktX8_crowd_1 : List UInt8 := dkwX8_crowd_1 ++ dktX8_crowd_2
def dkwX8_crowd_0 : List UInt8 := [27, 133, 10, 20, 1, 76, 184, 1, 33, 154, 0, 9, 42, 4, 182, 0, 78, 172, 3, 61, 3, 62, 29, 42]
abbrev dktX8_crowd_0 : List UInt8 := dkwX8_crowd_0 ++ dktX8_crowd_1
theorem dksX8_crowd_0 : cX8_crowd.data.toList.drop 0 = dktX8_crowd_0 := by decide +kernel
theorem dksX8_crowd_1 : cX8_crowd.data.toList.drop 24 = dktX8_crowd_1 := dk_seg dksX8_crowd_0 24 rfl rfl
theorem dksX8_crowd_2 : cX8_crowd.data.toList.drop 46 = dktX8_crowd_2 := dk_seg dksX8_crowd_1 22 rfl rfl
theorem dksX8_crowd_3 : cX8_crowd.data.toList.drop 69 = dktX8_crowd_3 := dk_seg dksX8_crowd_2 23 rfl rfl
theorem dksX8_crowd_4 : cX8_crowd.data.toList.drop 92 = dktX8_crowd_4 := dk_seg dksX8_crowd_3 23 rfl rfl
theorem dX8_crowd_0 : decode cX8_crowd 0 = .ok (.iload_n 1, 1) := dk_27 (dk_at dksX8_crowd_0 0 rfl rfl)
theorem dX8_crowd_1 : decode cX8_crowd 1 = .ok (.i2l, 1) := dk_133 (dk_at dksX8_crowd_0 1 rfl rfl)
theorem dX8_crowd_2 : decode cX8_crowd 2 = .ok (.lconst 1, 1) := dk_10 (dk_at dksX8_crowd_0 2 rfl rfl)
theorem dX8_crowd_3 : decode cX8_crowd 3 = .ok (.ldc2_w 332, 3) := dk_20 1 76 (dk_at dksX8_crowd_0 3 rfl rfl)
theorem dX8_crowd_6 : decode cX8_crowd 6 = .ok (.invokestatic 289, 3) := dk_184 1 33 (dk_at dksX8_crowd_0 6 rfl rfl)
theorem dX8_crowd_9 : decode cX8_crowd 9 = .ok (.ifCond .ne 9, 3) := dk_154 0 9 (dk_at dksX8_crowd_0 9 rfl rfl)
theorem dX8_crowd_12 : decode cX8_crowd 12 = .ok (.aload_n 0, 1) := dk_42 (dk_at dksX8_crowd_0 12 rfl rfl)
theorem dX8_crowd_13 : decode cX8_crowd 13 = .ok (.iconst 1, 1) := dk_4 (dk_at dksX8_crowd_0 13 rfl rfl)
theorem dX8_crowd_14 : decode cX8_crowd 14 = .ok (.invokevirtual 78, 3) := dk_182 0 78 (dk_at dksX8_crowd_0 14 rfl rfl)
theorem dX8_crowd_17 : decode cX8_crowd 17 = .ok (.ireturn, 1) := dk_172 (dk_at dksX8_crowd_0 17 rfl rfl)
theorem dX8_crowd_18 : decode cX8_crowd 18 = .ok (.iconst 0, 1) := dk_3 (dk_at dksX8_crowd_0 18 rfl rfl)
theorem dX8_crowd_19 : decode cX8_crowd 19 = .ok (.istore_n 2, 1) := dk_61 (dk_at dksX8_crowd_0 19 rfl rfl)
theorem dX8_crowd_20 : decode cX8_crowd 20 = .ok (.iconst 0, 1) := dk_3 (dk_at dksX8_crowd_0 20 rfl rfl)
theorem dX8_crowd_21 : decode cX8_crowd 21 = .ok (.istore_n 3, 1) := dk_62 (dk_at dksX8_crowd_0 21 rfl rfl)
theorem dX8_crowd_22 : decode cX8_crowd 22 = .ok (.iload_n 3, 1) := dk_29 (dk_at dksX8_crowd_0 22 rfl rfl)
theorem dX8_crowd_23 : decode cX8_crowd 23 = .ok (.aload_n 0, 1) := dk_42 (dk_at dksX8_crowd_0 23 rfl rfl)
theorem dX8_crowd_24 : decode cX8_crowd 24 = .ok (.getfield 7, 3) := dk_180 0 7 (dk_at dksX8_crowd_1 0 rfl rfl)
theorem dX8_crowd_27 : decode cX8_crowd 27 = .ok (.iconst 0, 1) := dk_3 (dk_at dksX8_crowd_1 3 rfl rfl)
theorem dX8_crowd_28 : decode cX8_crowd 28 = .ok (.iaload, 1) := dk_46 (dk_at dksX8_crowd_1 4 rfl rfl)
theorem dX8_crowd_29 : decode cX8_crowd 29 = .ok (.if_icmp .ge 79, 3) := dk_162 0 79 (dk_at dksX8_crowd_1 5 rfl rfl)
theorem dX8_crowd_32 : decode cX8_crowd 32 = .ok (.iconst 0, 1) := dk_3 (dk_at dksX8_crowd_1 8 rfl rfl)
theorem dX8_crowd_33 : decode cX8_crowd 33 = .ok (.istore 4, 2) := dk_54 4 (dk_at dksX8_crowd_1 9 rfl rfl)
theorem dX8_crowd_35 : decode cX8_crowd 35 = .ok (.iconst 0, 1) := dk_3 (dk_at dksX8_crowd_1 11 rfl rfl)
theorem dX8_crowd_36 : decode cX8_crowd 36 = .ok (.istore 5, 2) := dk_54 5 (dk_at dksX8_crowd_1 12 rfl rfl)
theorem dX8_crowd_38 : decode cX8_crowd 38 = .ok (.iload 5, 2) := dk_21 5 (dk_at dksX8_crowd_1 14 rfl rfl)
theorem dX8_crowd_40 : decode cX8_crowd 40 = .ok (.aload_n 0, 1) := dk_42 (dk_at dksX8_crowd_1 16 rfl rfl)
theorem dX8_crowd_41 : decode cX8_crowd 41 = .ok (.getfield 7, 3) := dk_180 0 7 (dk_at dksX8_crowd_1 17 rfl rfl)
theorem dX8_crowd_44 : decode cX8_crowd 44 = .ok (.iconst 1, 1) := dk_4 (dk_at dksX8_crowd_1 20 rfl rfl)
theorem dX8_crowd_45 : decode cX8_crowd 45 = .ok (.iaload, 1) := dk_46 (dk_at dksX8_crowd_1 21 rfl rfl)
theorem dX8_crowd_46 : decode cX8_crowd 46 = .ok (.if_icmp .ge 49, 3) := dk_162 0 49 (dk_at dksX8_crowd_2 0 rfl rfl)
theorem dX8_crowd_49 : decode cX8_crowd 49 = .ok (.iload 4, 2) := dk_21 4 (dk_at dksX8_crowd_2 3 rfl rfl)
theorem dX8_crowd_51 : decode cX8_crowd 51 = .ok (.aload_n 0, 1) := dk_42 (dk_at dksX8_crowd_2 5 rfl rfl)
theorem dX8_crowd_52 : decode cX8_crowd 52 = .ok (.getfield 7, 3) := dk_180 0 7 (dk_at dksX8_crowd_2 6 rfl rfl)
theorem dX8_crowd_55 : decode cX8_crowd 55 = .ok (.iload 5, 2) := dk_21 5 (dk_at dksX8_crowd_2 9 rfl rfl)
theorem dX8_crowd_57 : decode cX8_crowd 57 = .ok (.invokestatic 274, 3) := dk_184 1 18 (dk_at dksX8_crowd_2 11 rfl rfl)
theorem dX8_crowd_60 : decode cX8_crowd 60 = .ok (.iaload, 1) := dk_46 (dk_at dksX8_crowd_2 14 rfl rfl)
theorem dX8_crowd_61 : decode cX8_crowd 61 = .ok (.iload_n 3, 1) := dk_29 (dk_at dksX8_crowd_2 15 rfl rfl)
theorem dX8_crowd_62 : decode cX8_crowd 62 = .ok (.if_icmp .lt 23, 3) := dk_161 0 23 (dk_at dksX8_crowd_2 16 rfl rfl)
theorem dX8_crowd_65 : decode cX8_crowd 65 = .ok (.aload_n 0, 1) := dk_42 (dk_at dksX8_crowd_2 19 rfl rfl)
theorem dX8_crowd_66 : decode cX8_crowd 66 = .ok (.getfield 7, 3) := dk_180 0 7 (dk_at dksX8_crowd_2 20 rfl rfl)
theorem dX8_crowd_69 : decode cX8_crowd 69 = .ok (.iload 5, 2) := dk_21 5 (dk_at dksX8_crowd_3 0 rfl rfl)
theorem dX8_crowd_71 : decode cX8_crowd 71 = .ok (.invokestatic 274, 3) := dk_184 1 18 (dk_at dksX8_crowd_3 2 rfl rfl)
theorem dX8_crowd_74 : decode cX8_crowd 74 = .ok (.iaload, 1) := dk_46 (dk_at dksX8_crowd_3 5 rfl rfl)
theorem dX8_crowd_75 : decode cX8_crowd 75 = .ok (.iload_n 3, 1) := dk_29 (dk_at dksX8_crowd_3 6 rfl rfl)
theorem dX8_crowd_76 : decode cX8_crowd 76 = .ok (.iload_n 1, 1) := dk_27 (dk_at dksX8_crowd_3 7 rfl rfl)
theorem dX8_crowd_77 : decode cX8_crowd 77 = .ok (.iadd, 1) := dk_96 (dk_at dksX8_crowd_3 8 rfl rfl)
theorem dX8_crowd_78 : decode cX8_crowd 78 = .ok (.if_icmp .ge 7, 3) := dk_162 0 7 (dk_at dksX8_crowd_3 9 rfl rfl)
theorem dX8_crowd_81 : decode cX8_crowd 81 = .ok (.iconst 1, 1) := dk_4 (dk_at dksX8_crowd_3 12 rfl rfl)
theorem dX8_crowd_82 : decode cX8_crowd 82 = .ok (.goto 4, 3) := dk_167 0 4 (dk_at dksX8_crowd_3 13 rfl rfl)
theorem dX8_crowd_85 : decode cX8_crowd 85 = .ok (.iconst 0, 1) := dk_3 (dk_at dksX8_crowd_3 16 rfl rfl)
theorem dX8_crowd_86 : decode cX8_crowd 86 = .ok (.iadd, 1) := dk_96 (dk_at dksX8_crowd_3 17 rfl rfl)
theorem dX8_crowd_87 : decode cX8_crowd 87 = .ok (.istore 4, 2) := dk_54 4 (dk_at dksX8_crowd_3 18 rfl rfl)
theorem dX8_crowd_89 : decode cX8_crowd 89 = .ok (.iinc 5 1, 3) := dk_132 5 1 (dk_at dksX8_crowd_3 20 rfl rfl)
theorem dX8_crowd_92 : decode cX8_crowd 92 = .ok (.goto (-54), 3) := dk_167 255 202 (dk_at dksX8_crowd_4 0 rfl rfl)
theorem dX8_crowd_95 : decode cX8_crowd 95 = .ok (.iload_n 2, 1) := dk_28 (dk_at dksX8_crowd_4 3 rfl rfl)
theorem dX8_crowd_96 : decode cX8_crowd 96 = .ok (.iload 4, 2) := dk_21 4 (dk_at dksX8_crowd_4 4 rfl rfl)
theorem dX8_crowd_98 : decode cX8_crowd 98 = .ok (.invokestatic 375, 3) := dk_184 1 119 (dk_at dksX8_crowd_4 6 rfl rfl)
theorem dX8_crowd_101 : decode cX8_crowd 101 = .ok (.istore_n 2, 1) := dk_61 (dk_at dksX8_crowd_4 9 rfl rfl)
theorem dX8_crowd_102 : decode cX8_crowd 102 = .ok (.iinc 3 1, 3) := dk_132 3 1 (dk_at dksX8_crowd_4 10 rfl rfl)
theorem dX8_crowd_105 : decode cX8_crowd 105 = .ok (.goto (-83), 3) := dk_167 255 173 (dk_at dksX8_crowd_4 13 rfl rfl)
theorem dX8_crowd_108 : decode cX8_crowd 108 = .ok (.aload_n 0, 1) := dk_42 (dk_at dksX8_crowd_4 16 rfl rfl)
theorem dX8_crowd_109 : decode cX8_crowd 109 = .ok (.iload_n 2, 1) := dk_28 (dk_at dksX8_crowd_4 17 rfl rfl)
theorem dX8_crowd_110 : decode cX8_crowd 110 = .ok (.invokevirtual 82, 3) := dk_182 0 82 (dk_at dksX8_crowd_4 18 rfl rfl)
theorem dX8_crowd_113 : decode cX8_crowd 113 = .ok (.ireturn, 1) := dk_172 (dk_at dksX8_crowd_4 21 rfl rfl)
abbrev cX8_walk : ByteArray := prog_17_method_114_code
def yX8_walk : MethodName := ⟨RX8, "walk", "(II)I"⟩
def dkwX8_walk_1 : List UInt8 := [28, 184, 0, 171, 46, 182, 1, 27, 182, 0, 82, 167, 0, 8, 42, 4, 182, 0, 78, 172]
abbrev dktX8_walk_1 : List UInt8 := dkwX8_walk_1 ++ []
def dkwX8_walk_0 : List UInt8 := [42, 27, 182, 1, 15, 153, 0, 33, 42, 28, 182, 1, 9, 153, 0, 25, 42, 42, 27, 42, 180, 0, 7, 3]
abbrev dktX8_walk_0 : List UInt8 := dkwX8_walk_0 ++ dktX8_walk_1
theorem dksX8_walk_0 : cX8_walk.data.toList.drop 0 = dktX8_walk_0 := by decide +kernel
theorem dksX8_walk_1 : cX8_walk.data.toList.drop 24 = dktX8_walk_1 := dk_seg dksX8_walk_0 24 rfl rfl
theorem dX8_walk_0 : decode cX8_walk 0 = .ok (.aload_n 0, 1) := dk_42 (dk_at dksX8_walk_0 0 rfl rfl)
theorem dX8_walk_1 : decode cX8_walk 1 = .ok (.iload_n 1, 1) := dk_27 (dk_at dksX8_walk_0 1 rfl rfl)
theorem dX8_walk_2 : decode cX8_walk 2 = .ok (.invokevirtual 271, 3) := dk_182 1 15 (dk_at dksX8_walk_0 2 rfl rfl)
theorem dX8_walk_5 : decode cX8_walk 5 = .ok (.ifCond .eq 33, 3) := dk_153 0 33 (dk_at dksX8_walk_0 5 rfl rfl)
theorem dX8_walk_8 : decode cX8_walk 8 = .ok (.aload_n 0, 1) := dk_42 (dk_at dksX8_walk_0 8 rfl rfl)
theorem dX8_walk_9 : decode cX8_walk 9 = .ok (.iload_n 2, 1) := dk_28 (dk_at dksX8_walk_0 9 rfl rfl)
theorem dX8_walk_10 : decode cX8_walk 10 = .ok (.invokevirtual 265, 3) := dk_182 1 9 (dk_at dksX8_walk_0 10 rfl rfl)
theorem dX8_walk_13 : decode cX8_walk 13 = .ok (.ifCond .eq 25, 3) := dk_153 0 25 (dk_at dksX8_walk_0 13 rfl rfl)
theorem dX8_walk_16 : decode cX8_walk 16 = .ok (.aload_n 0, 1) := dk_42 (dk_at dksX8_walk_0 16 rfl rfl)
theorem dX8_walk_17 : decode cX8_walk 17 = .ok (.aload_n 0, 1) := dk_42 (dk_at dksX8_walk_0 17 rfl rfl)
theorem dX8_walk_18 : decode cX8_walk 18 = .ok (.iload_n 1, 1) := dk_27 (dk_at dksX8_walk_0 18 rfl rfl)
theorem dX8_walk_19 : decode cX8_walk 19 = .ok (.aload_n 0, 1) := dk_42 (dk_at dksX8_walk_0 19 rfl rfl)
theorem dX8_walk_20 : decode cX8_walk 20 = .ok (.getfield 7, 3) := dk_180 0 7 (dk_at dksX8_walk_0 20 rfl rfl)
theorem dX8_walk_23 : decode cX8_walk 23 = .ok (.iconst 0, 1) := dk_3 (dk_at dksX8_walk_0 23 rfl rfl)
theorem dX8_walk_24 : decode cX8_walk 24 = .ok (.iload_n 2, 1) := dk_28 (dk_at dksX8_walk_1 0 rfl rfl)
theorem dX8_walk_25 : decode cX8_walk 25 = .ok (.invokestatic 171, 3) := dk_184 0 171 (dk_at dksX8_walk_1 1 rfl rfl)
theorem dX8_walk_28 : decode cX8_walk 28 = .ok (.iaload, 1) := dk_46 (dk_at dksX8_walk_1 4 rfl rfl)
theorem dX8_walk_29 : decode cX8_walk 29 = .ok (.invokevirtual 283, 3) := dk_182 1 27 (dk_at dksX8_walk_1 5 rfl rfl)
theorem dX8_walk_32 : decode cX8_walk 32 = .ok (.invokevirtual 82, 3) := dk_182 0 82 (dk_at dksX8_walk_1 8 rfl rfl)
theorem dX8_walk_35 : decode cX8_walk 35 = .ok (.goto 8, 3) := dk_167 0 8 (dk_at dksX8_walk_1 11 rfl rfl)
theorem dX8_walk_38 : decode cX8_walk 38 = .ok (.aload_n 0, 1) := dk_42 (dk_at dksX8_walk_1 14 rfl rfl)
theorem dX8_walk_39 : decode cX8_walk 39 = .ok (.iconst 1, 1) := dk_4 (dk_at dksX8_walk_1 15 rfl rfl)
theorem dX8_walk_40 : decode cX8_walk 40 = .ok (.invokevirtual 78, 3) := dk_182 0 78 (dk_at dksX8_walk_1 16 rfl rfl)
theorem dX8_walk_43 : decode cX8_walk 43 = .ok (.ireturn, 1) := dk_172 (dk_at dksX8_walk_1 19 rfl rfl)
abbrev cX8_open : ByteArray := prog_17_method_115_code
def yX8_open : MethodName := ⟨RX8, "open", "()I"⟩
def dkwX8_open_2 : List UInt8 := [60, 132, 2, 1, 167, 255, 208, 42, 27, 182, 0, 82, 172]
abbrev dktX8_open_2 : List UInt8 := dkwX8_open_2 ++ []
def dkwX8_open_1 : List UInt8 := [28, 182, 1, 87, 154, 0, 18, 42, 180, 0, 7, 3, 28, 184, 0, 171, 4, 96, 46, 167, 0, 4, 3, 96]
abbrev dktX8_open_1 : List UInt8 := dkwX8_open_1 ++ dktX8_open_2
def dkwX8_open_0 : List UInt8 := [3, 60, 3, 61, 28, 42, 180, 0, 7, 5, 46, 162, 0, 44, 27, 42, 28, 182, 1, 12, 153, 0, 26, 42]
abbrev dktX8_open_0 : List UInt8 := dkwX8_open_0 ++ dktX8_open_1
theorem dksX8_open_0 : cX8_open.data.toList.drop 0 = dktX8_open_0 := by decide +kernel
theorem dksX8_open_1 : cX8_open.data.toList.drop 24 = dktX8_open_1 := dk_seg dksX8_open_0 24 rfl rfl
theorem dksX8_open_2 : cX8_open.data.toList.drop 48 = dktX8_open_2 := dk_seg dksX8_open_1 24 rfl rfl
theorem dX8_open_0 : decode cX8_open 0 = .ok (.iconst 0, 1) := dk_3 (dk_at dksX8_open_0 0 rfl rfl)
theorem dX8_open_1 : decode cX8_open 1 = .ok (.istore_n 1, 1) := dk_60 (dk_at dksX8_open_0 1 rfl rfl)
theorem dX8_open_2 : decode cX8_open 2 = .ok (.iconst 0, 1) := dk_3 (dk_at dksX8_open_0 2 rfl rfl)
theorem dX8_open_3 : decode cX8_open 3 = .ok (.istore_n 2, 1) := dk_61 (dk_at dksX8_open_0 3 rfl rfl)
theorem dX8_open_4 : decode cX8_open 4 = .ok (.iload_n 2, 1) := dk_28 (dk_at dksX8_open_0 4 rfl rfl)
theorem dX8_open_5 : decode cX8_open 5 = .ok (.aload_n 0, 1) := dk_42 (dk_at dksX8_open_0 5 rfl rfl)
theorem dX8_open_6 : decode cX8_open 6 = .ok (.getfield 7, 3) := dk_180 0 7 (dk_at dksX8_open_0 6 rfl rfl)
theorem dX8_open_9 : decode cX8_open 9 = .ok (.iconst 2, 1) := dk_5 (dk_at dksX8_open_0 9 rfl rfl)
theorem dX8_open_10 : decode cX8_open 10 = .ok (.iaload, 1) := dk_46 (dk_at dksX8_open_0 10 rfl rfl)
theorem dX8_open_11 : decode cX8_open 11 = .ok (.if_icmp .ge 44, 3) := dk_162 0 44 (dk_at dksX8_open_0 11 rfl rfl)
theorem dX8_open_14 : decode cX8_open 14 = .ok (.iload_n 1, 1) := dk_27 (dk_at dksX8_open_0 14 rfl rfl)
theorem dX8_open_15 : decode cX8_open 15 = .ok (.aload_n 0, 1) := dk_42 (dk_at dksX8_open_0 15 rfl rfl)
theorem dX8_open_16 : decode cX8_open 16 = .ok (.iload_n 2, 1) := dk_28 (dk_at dksX8_open_0 16 rfl rfl)
theorem dX8_open_17 : decode cX8_open 17 = .ok (.invokevirtual 268, 3) := dk_182 1 12 (dk_at dksX8_open_0 17 rfl rfl)
theorem dX8_open_20 : decode cX8_open 20 = .ok (.ifCond .eq 26, 3) := dk_153 0 26 (dk_at dksX8_open_0 20 rfl rfl)
theorem dX8_open_23 : decode cX8_open 23 = .ok (.aload_n 0, 1) := dk_42 (dk_at dksX8_open_0 23 rfl rfl)
theorem dX8_open_24 : decode cX8_open 24 = .ok (.iload_n 2, 1) := dk_28 (dk_at dksX8_open_1 0 rfl rfl)
theorem dX8_open_25 : decode cX8_open 25 = .ok (.invokevirtual 343, 3) := dk_182 1 87 (dk_at dksX8_open_1 1 rfl rfl)
theorem dX8_open_28 : decode cX8_open 28 = .ok (.ifCond .ne 18, 3) := dk_154 0 18 (dk_at dksX8_open_1 4 rfl rfl)
theorem dX8_open_31 : decode cX8_open 31 = .ok (.aload_n 0, 1) := dk_42 (dk_at dksX8_open_1 7 rfl rfl)
theorem dX8_open_32 : decode cX8_open 32 = .ok (.getfield 7, 3) := dk_180 0 7 (dk_at dksX8_open_1 8 rfl rfl)
theorem dX8_open_35 : decode cX8_open 35 = .ok (.iconst 0, 1) := dk_3 (dk_at dksX8_open_1 11 rfl rfl)
theorem dX8_open_36 : decode cX8_open 36 = .ok (.iload_n 2, 1) := dk_28 (dk_at dksX8_open_1 12 rfl rfl)
theorem dX8_open_37 : decode cX8_open 37 = .ok (.invokestatic 171, 3) := dk_184 0 171 (dk_at dksX8_open_1 13 rfl rfl)
theorem dX8_open_40 : decode cX8_open 40 = .ok (.iconst 1, 1) := dk_4 (dk_at dksX8_open_1 16 rfl rfl)
theorem dX8_open_41 : decode cX8_open 41 = .ok (.iadd, 1) := dk_96 (dk_at dksX8_open_1 17 rfl rfl)
theorem dX8_open_42 : decode cX8_open 42 = .ok (.iaload, 1) := dk_46 (dk_at dksX8_open_1 18 rfl rfl)
theorem dX8_open_43 : decode cX8_open 43 = .ok (.goto 4, 3) := dk_167 0 4 (dk_at dksX8_open_1 19 rfl rfl)
theorem dX8_open_46 : decode cX8_open 46 = .ok (.iconst 0, 1) := dk_3 (dk_at dksX8_open_1 22 rfl rfl)
theorem dX8_open_47 : decode cX8_open 47 = .ok (.iadd, 1) := dk_96 (dk_at dksX8_open_1 23 rfl rfl)
theorem dX8_open_48 : decode cX8_open 48 = .ok (.istore_n 1, 1) := dk_60 (dk_at dksX8_open_2 0 rfl rfl)
theorem dX8_open_49 : decode cX8_open 49 = .ok (.iinc 2 1, 3) := dk_132 2 1 (dk_at dksX8_open_2 1 rfl rfl)
theorem dX8_open_52 : decode cX8_open 52 = .ok (.goto (-48), 3) := dk_167 255 208 (dk_at dksX8_open_2 4 rfl rfl)
theorem dX8_open_55 : decode cX8_open 55 = .ok (.aload_n 0, 1) := dk_42 (dk_at dksX8_open_2 7 rfl rfl)
theorem dX8_open_56 : decode cX8_open 56 = .ok (.iload_n 1, 1) := dk_27 (dk_at dksX8_open_2 8 rfl rfl)
theorem dX8_open_57 : decode cX8_open 57 = .ok (.invokevirtual 82, 3) := dk_182 0 82 (dk_at dksX8_open_2 9 rfl rfl)
theorem dX8_open_60 : decode cX8_open 60 = .ok (.ireturn, 1) := dk_172 (dk_at dksX8_open_2 12 rfl rfl)
abbrev cX8_farthest : ByteArray := prog_17_method_116_code
def yX8_farthest : MethodName := ⟨RX8, "farthest", "(I)I"⟩
def dkwX8_farthest_3 : List UInt8 := [21, 4, 61, 132, 4, 1, 167, 255, 200, 42, 28, 182, 1, 102, 172]
abbrev dktX8_farthest_3 : List UInt8 := dkwX8_farthest_3 ++ []
def dkwX8_farthest_2 : List UInt8 := [54, 5, 42, 21, 4, 182, 1, 12, 153, 0, 18, 21, 5, 29, 163, 0, 6, 167, 0, 9, 21, 5, 62]
abbrev dktX8_farthest_2 : List UInt8 := dkwX8_farthest_2 ++ dktX8_farthest_3
def dkwX8_farthest_1 : List UInt8 := [180, 0, 7, 5, 46, 162, 0, 51, 42, 27, 42, 180, 0, 7, 3, 21, 4, 184, 0, 171, 46, 182, 1, 27]
abbrev dktX8_farthest_1 : List UInt8 := dkwX8_farthest_1 ++ dktX8_farthest_2
def dkwX8_farthest_0 : List UInt8 := [42, 27, 182, 1, 15, 154, 0, 9, 42, 4, 182, 0, 78, 172, 2, 61, 2, 62, 3, 54, 4, 21, 4, 42]
abbrev dktX8_farthest_0 : List UInt8 := dkwX8_farthest_0 ++ dktX8_farthest_1
theorem dksX8_farthest_0 : cX8_farthest.data.toList.drop 0 = dktX8_farthest_0 := by decide +kernel
theorem dksX8_farthest_1 : cX8_farthest.data.toList.drop 24 = dktX8_farthest_1 := dk_seg dksX8_farthest_0 24 rfl rfl
theorem dksX8_farthest_2 : cX8_farthest.data.toList.drop 48 = dktX8_farthest_2 := dk_seg dksX8_farthest_1 24 rfl rfl
theorem dksX8_farthest_3 : cX8_farthest.data.toList.drop 71 = dktX8_farthest_3 := dk_seg dksX8_farthest_2 23 rfl rfl
theorem dX8_farthest_0 : decode cX8_farthest 0 = .ok (.aload_n 0, 1) := dk_42 (dk_at dksX8_farthest_0 0 rfl rfl)
theorem dX8_farthest_1 : decode cX8_farthest 1 = .ok (.iload_n 1, 1) := dk_27 (dk_at dksX8_farthest_0 1 rfl rfl)
theorem dX8_farthest_2 : decode cX8_farthest 2 = .ok (.invokevirtual 271, 3) := dk_182 1 15 (dk_at dksX8_farthest_0 2 rfl rfl)
theorem dX8_farthest_5 : decode cX8_farthest 5 = .ok (.ifCond .ne 9, 3) := dk_154 0 9 (dk_at dksX8_farthest_0 5 rfl rfl)
theorem dX8_farthest_8 : decode cX8_farthest 8 = .ok (.aload_n 0, 1) := dk_42 (dk_at dksX8_farthest_0 8 rfl rfl)
theorem dX8_farthest_9 : decode cX8_farthest 9 = .ok (.iconst 1, 1) := dk_4 (dk_at dksX8_farthest_0 9 rfl rfl)
theorem dX8_farthest_10 : decode cX8_farthest 10 = .ok (.invokevirtual 78, 3) := dk_182 0 78 (dk_at dksX8_farthest_0 10 rfl rfl)
theorem dX8_farthest_13 : decode cX8_farthest 13 = .ok (.ireturn, 1) := dk_172 (dk_at dksX8_farthest_0 13 rfl rfl)
theorem dX8_farthest_14 : decode cX8_farthest 14 = .ok (.iconst (-1), 1) := dk_2 (dk_at dksX8_farthest_0 14 rfl rfl)
theorem dX8_farthest_15 : decode cX8_farthest 15 = .ok (.istore_n 2, 1) := dk_61 (dk_at dksX8_farthest_0 15 rfl rfl)
theorem dX8_farthest_16 : decode cX8_farthest 16 = .ok (.iconst (-1), 1) := dk_2 (dk_at dksX8_farthest_0 16 rfl rfl)
theorem dX8_farthest_17 : decode cX8_farthest 17 = .ok (.istore_n 3, 1) := dk_62 (dk_at dksX8_farthest_0 17 rfl rfl)
theorem dX8_farthest_18 : decode cX8_farthest 18 = .ok (.iconst 0, 1) := dk_3 (dk_at dksX8_farthest_0 18 rfl rfl)
theorem dX8_farthest_19 : decode cX8_farthest 19 = .ok (.istore 4, 2) := dk_54 4 (dk_at dksX8_farthest_0 19 rfl rfl)
theorem dX8_farthest_21 : decode cX8_farthest 21 = .ok (.iload 4, 2) := dk_21 4 (dk_at dksX8_farthest_0 21 rfl rfl)
theorem dX8_farthest_23 : decode cX8_farthest 23 = .ok (.aload_n 0, 1) := dk_42 (dk_at dksX8_farthest_0 23 rfl rfl)
theorem dX8_farthest_24 : decode cX8_farthest 24 = .ok (.getfield 7, 3) := dk_180 0 7 (dk_at dksX8_farthest_1 0 rfl rfl)
theorem dX8_farthest_27 : decode cX8_farthest 27 = .ok (.iconst 2, 1) := dk_5 (dk_at dksX8_farthest_1 3 rfl rfl)
theorem dX8_farthest_28 : decode cX8_farthest 28 = .ok (.iaload, 1) := dk_46 (dk_at dksX8_farthest_1 4 rfl rfl)
theorem dX8_farthest_29 : decode cX8_farthest 29 = .ok (.if_icmp .ge 51, 3) := dk_162 0 51 (dk_at dksX8_farthest_1 5 rfl rfl)
theorem dX8_farthest_32 : decode cX8_farthest 32 = .ok (.aload_n 0, 1) := dk_42 (dk_at dksX8_farthest_1 8 rfl rfl)
theorem dX8_farthest_33 : decode cX8_farthest 33 = .ok (.iload_n 1, 1) := dk_27 (dk_at dksX8_farthest_1 9 rfl rfl)
theorem dX8_farthest_34 : decode cX8_farthest 34 = .ok (.aload_n 0, 1) := dk_42 (dk_at dksX8_farthest_1 10 rfl rfl)
theorem dX8_farthest_35 : decode cX8_farthest 35 = .ok (.getfield 7, 3) := dk_180 0 7 (dk_at dksX8_farthest_1 11 rfl rfl)
theorem dX8_farthest_38 : decode cX8_farthest 38 = .ok (.iconst 0, 1) := dk_3 (dk_at dksX8_farthest_1 14 rfl rfl)
theorem dX8_farthest_39 : decode cX8_farthest 39 = .ok (.iload 4, 2) := dk_21 4 (dk_at dksX8_farthest_1 15 rfl rfl)
theorem dX8_farthest_41 : decode cX8_farthest 41 = .ok (.invokestatic 171, 3) := dk_184 0 171 (dk_at dksX8_farthest_1 17 rfl rfl)
theorem dX8_farthest_44 : decode cX8_farthest 44 = .ok (.iaload, 1) := dk_46 (dk_at dksX8_farthest_1 20 rfl rfl)
theorem dX8_farthest_45 : decode cX8_farthest 45 = .ok (.invokevirtual 283, 3) := dk_182 1 27 (dk_at dksX8_farthest_1 21 rfl rfl)
theorem dX8_farthest_48 : decode cX8_farthest 48 = .ok (.istore 5, 2) := dk_54 5 (dk_at dksX8_farthest_2 0 rfl rfl)
theorem dX8_farthest_50 : decode cX8_farthest 50 = .ok (.aload_n 0, 1) := dk_42 (dk_at dksX8_farthest_2 2 rfl rfl)
theorem dX8_farthest_51 : decode cX8_farthest 51 = .ok (.iload 4, 2) := dk_21 4 (dk_at dksX8_farthest_2 3 rfl rfl)
theorem dX8_farthest_53 : decode cX8_farthest 53 = .ok (.invokevirtual 268, 3) := dk_182 1 12 (dk_at dksX8_farthest_2 5 rfl rfl)
theorem dX8_farthest_56 : decode cX8_farthest 56 = .ok (.ifCond .eq 18, 3) := dk_153 0 18 (dk_at dksX8_farthest_2 8 rfl rfl)
theorem dX8_farthest_59 : decode cX8_farthest 59 = .ok (.iload 5, 2) := dk_21 5 (dk_at dksX8_farthest_2 11 rfl rfl)
theorem dX8_farthest_61 : decode cX8_farthest 61 = .ok (.iload_n 3, 1) := dk_29 (dk_at dksX8_farthest_2 13 rfl rfl)
theorem dX8_farthest_62 : decode cX8_farthest 62 = .ok (.if_icmp .gt 6, 3) := dk_163 0 6 (dk_at dksX8_farthest_2 14 rfl rfl)
theorem dX8_farthest_65 : decode cX8_farthest 65 = .ok (.goto 9, 3) := dk_167 0 9 (dk_at dksX8_farthest_2 17 rfl rfl)
theorem dX8_farthest_68 : decode cX8_farthest 68 = .ok (.iload 5, 2) := dk_21 5 (dk_at dksX8_farthest_2 20 rfl rfl)
theorem dX8_farthest_70 : decode cX8_farthest 70 = .ok (.istore_n 3, 1) := dk_62 (dk_at dksX8_farthest_2 22 rfl rfl)
theorem dX8_farthest_71 : decode cX8_farthest 71 = .ok (.iload 4, 2) := dk_21 4 (dk_at dksX8_farthest_3 0 rfl rfl)
theorem dX8_farthest_73 : decode cX8_farthest 73 = .ok (.istore_n 2, 1) := dk_61 (dk_at dksX8_farthest_3 2 rfl rfl)
theorem dX8_farthest_74 : decode cX8_farthest 74 = .ok (.iinc 4 1, 3) := dk_132 4 1 (dk_at dksX8_farthest_3 3 rfl rfl)
theorem dX8_farthest_77 : decode cX8_farthest 77 = .ok (.goto (-56), 3) := dk_167 255 200 (dk_at dksX8_farthest_3 6 rfl rfl)
theorem dX8_farthest_80 : decode cX8_farthest 80 = .ok (.aload_n 0, 1) := dk_42 (dk_at dksX8_farthest_3 9 rfl rfl)
theorem dX8_farthest_81 : decode cX8_farthest 81 = .ok (.iload_n 2, 1) := dk_28 (dk_at dksX8_farthest_3 10 rfl rfl)
theorem dX8_farthest_82 : decode cX8_farthest 82 = .ok (.invokevirtual 358, 3) := dk_182 1 102 (dk_at dksX8_farthest_3 11 rfl rfl)
theorem dX8_farthest_85 : decode cX8_farthest 85 = .ok (.ireturn, 1) := dk_172 (dk_at dksX8_farthest_3 14 rfl rfl)
abbrev cX8_time : ByteArray := prog_17_method_117_code
def yX8_time : MethodName := ⟨RX8, "time", "(I)I"⟩
def dkwX8_time_1 : List UInt8 := [96, 46, 100, 182, 0, 82, 167, 0, 8, 42, 4, 182, 0, 78, 172]
abbrev dktX8_time_1 : List UInt8 := dkwX8_time_1 ++ []
def dkwX8_time_0 : List UInt8 := [42, 27, 182, 1, 15, 153, 0, 28, 42, 42, 180, 0, 7, 6, 46, 42, 180, 0, 7, 27, 184, 1, 18, 6]
abbrev dktX8_time_0 : List UInt8 := dkwX8_time_0 ++ dktX8_time_1
theorem dksX8_time_0 : cX8_time.data.toList.drop 0 = dktX8_time_0 := by decide +kernel
theorem dksX8_time_1 : cX8_time.data.toList.drop 24 = dktX8_time_1 := dk_seg dksX8_time_0 24 rfl rfl
theorem dX8_time_0 : decode cX8_time 0 = .ok (.aload_n 0, 1) := dk_42 (dk_at dksX8_time_0 0 rfl rfl)
theorem dX8_time_1 : decode cX8_time 1 = .ok (.iload_n 1, 1) := dk_27 (dk_at dksX8_time_0 1 rfl rfl)
theorem dX8_time_2 : decode cX8_time 2 = .ok (.invokevirtual 271, 3) := dk_182 1 15 (dk_at dksX8_time_0 2 rfl rfl)
theorem dX8_time_5 : decode cX8_time 5 = .ok (.ifCond .eq 28, 3) := dk_153 0 28 (dk_at dksX8_time_0 5 rfl rfl)
theorem dX8_time_8 : decode cX8_time 8 = .ok (.aload_n 0, 1) := dk_42 (dk_at dksX8_time_0 8 rfl rfl)
theorem dX8_time_9 : decode cX8_time 9 = .ok (.aload_n 0, 1) := dk_42 (dk_at dksX8_time_0 9 rfl rfl)
theorem dX8_time_10 : decode cX8_time 10 = .ok (.getfield 7, 3) := dk_180 0 7 (dk_at dksX8_time_0 10 rfl rfl)
theorem dX8_time_13 : decode cX8_time 13 = .ok (.iconst 3, 1) := dk_6 (dk_at dksX8_time_0 13 rfl rfl)
theorem dX8_time_14 : decode cX8_time 14 = .ok (.iaload, 1) := dk_46 (dk_at dksX8_time_0 14 rfl rfl)
theorem dX8_time_15 : decode cX8_time 15 = .ok (.aload_n 0, 1) := dk_42 (dk_at dksX8_time_0 15 rfl rfl)
theorem dX8_time_16 : decode cX8_time 16 = .ok (.getfield 7, 3) := dk_180 0 7 (dk_at dksX8_time_0 16 rfl rfl)
theorem dX8_time_19 : decode cX8_time 19 = .ok (.iload_n 1, 1) := dk_27 (dk_at dksX8_time_0 19 rfl rfl)
theorem dX8_time_20 : decode cX8_time 20 = .ok (.invokestatic 274, 3) := dk_184 1 18 (dk_at dksX8_time_0 20 rfl rfl)
theorem dX8_time_23 : decode cX8_time 23 = .ok (.iconst 3, 1) := dk_6 (dk_at dksX8_time_0 23 rfl rfl)
theorem dX8_time_24 : decode cX8_time 24 = .ok (.iadd, 1) := dk_96 (dk_at dksX8_time_1 0 rfl rfl)
theorem dX8_time_25 : decode cX8_time 25 = .ok (.iaload, 1) := dk_46 (dk_at dksX8_time_1 1 rfl rfl)
theorem dX8_time_26 : decode cX8_time 26 = .ok (.isub, 1) := dk_100 (dk_at dksX8_time_1 2 rfl rfl)
theorem dX8_time_27 : decode cX8_time 27 = .ok (.invokevirtual 82, 3) := dk_182 0 82 (dk_at dksX8_time_1 3 rfl rfl)
theorem dX8_time_30 : decode cX8_time 30 = .ok (.goto 8, 3) := dk_167 0 8 (dk_at dksX8_time_1 6 rfl rfl)
theorem dX8_time_33 : decode cX8_time 33 = .ok (.aload_n 0, 1) := dk_42 (dk_at dksX8_time_1 9 rfl rfl)
theorem dX8_time_34 : decode cX8_time 34 = .ok (.iconst 1, 1) := dk_4 (dk_at dksX8_time_1 10 rfl rfl)
theorem dX8_time_35 : decode cX8_time 35 = .ok (.invokevirtual 78, 3) := dk_182 0 78 (dk_at dksX8_time_1 11 rfl rfl)
theorem dX8_time_38 : decode cX8_time 38 = .ok (.ireturn, 1) := dk_172 (dk_at dksX8_time_1 14 rfl rfl)
abbrev cX8_tally : ByteArray := prog_17_method_118_code
def yX8_tally : MethodName := ⟨RX8, "tally", "(II)I"⟩
def dkwX8_tally_1 : List UInt8 := [182, 0, 82, 167, 0, 8, 42, 4, 182, 0, 78, 172]
abbrev dktX8_tally_1 : List UInt8 := dkwX8_tally_1 ++ []
def dkwX8_tally_0 : List UInt8 := [42, 27, 182, 1, 9, 153, 0, 24, 42, 28, 182, 1, 15, 153, 0, 16, 42, 42, 28, 27, 182, 1, 108]
abbrev dktX8_tally_0 : List UInt8 := dkwX8_tally_0 ++ dktX8_tally_1
theorem dksX8_tally_0 : cX8_tally.data.toList.drop 0 = dktX8_tally_0 := by decide +kernel
theorem dksX8_tally_1 : cX8_tally.data.toList.drop 23 = dktX8_tally_1 := dk_seg dksX8_tally_0 23 rfl rfl
theorem dX8_tally_0 : decode cX8_tally 0 = .ok (.aload_n 0, 1) := dk_42 (dk_at dksX8_tally_0 0 rfl rfl)
theorem dX8_tally_1 : decode cX8_tally 1 = .ok (.iload_n 1, 1) := dk_27 (dk_at dksX8_tally_0 1 rfl rfl)
theorem dX8_tally_2 : decode cX8_tally 2 = .ok (.invokevirtual 265, 3) := dk_182 1 9 (dk_at dksX8_tally_0 2 rfl rfl)
theorem dX8_tally_5 : decode cX8_tally 5 = .ok (.ifCond .eq 24, 3) := dk_153 0 24 (dk_at dksX8_tally_0 5 rfl rfl)
theorem dX8_tally_8 : decode cX8_tally 8 = .ok (.aload_n 0, 1) := dk_42 (dk_at dksX8_tally_0 8 rfl rfl)
theorem dX8_tally_9 : decode cX8_tally 9 = .ok (.iload_n 2, 1) := dk_28 (dk_at dksX8_tally_0 9 rfl rfl)
theorem dX8_tally_10 : decode cX8_tally 10 = .ok (.invokevirtual 271, 3) := dk_182 1 15 (dk_at dksX8_tally_0 10 rfl rfl)
theorem dX8_tally_13 : decode cX8_tally 13 = .ok (.ifCond .eq 16, 3) := dk_153 0 16 (dk_at dksX8_tally_0 13 rfl rfl)
theorem dX8_tally_16 : decode cX8_tally 16 = .ok (.aload_n 0, 1) := dk_42 (dk_at dksX8_tally_0 16 rfl rfl)
theorem dX8_tally_17 : decode cX8_tally 17 = .ok (.aload_n 0, 1) := dk_42 (dk_at dksX8_tally_0 17 rfl rfl)
theorem dX8_tally_18 : decode cX8_tally 18 = .ok (.iload_n 2, 1) := dk_28 (dk_at dksX8_tally_0 18 rfl rfl)
theorem dX8_tally_19 : decode cX8_tally 19 = .ok (.iload_n 1, 1) := dk_27 (dk_at dksX8_tally_0 19 rfl rfl)
theorem dX8_tally_20 : decode cX8_tally 20 = .ok (.invokevirtual 364, 3) := dk_182 1 108 (dk_at dksX8_tally_0 20 rfl rfl)
theorem dX8_tally_23 : decode cX8_tally 23 = .ok (.invokevirtual 82, 3) := dk_182 0 82 (dk_at dksX8_tally_1 0 rfl rfl)
theorem dX8_tally_26 : decode cX8_tally 26 = .ok (.goto 8, 3) := dk_167 0 8 (dk_at dksX8_tally_1 3 rfl rfl)
theorem dX8_tally_29 : decode cX8_tally 29 = .ok (.aload_n 0, 1) := dk_42 (dk_at dksX8_tally_1 6 rfl rfl)
theorem dX8_tally_30 : decode cX8_tally 30 = .ok (.iconst 1, 1) := dk_4 (dk_at dksX8_tally_1 7 rfl rfl)
theorem dX8_tally_31 : decode cX8_tally 31 = .ok (.invokevirtual 78, 3) := dk_182 0 78 (dk_at dksX8_tally_1 8 rfl rfl)
theorem dX8_tally_34 : decode cX8_tally 34 = .ok (.ireturn, 1) := dk_172 (dk_at dksX8_tally_1 11 rfl rfl)
abbrev cX8_busiest : ByteArray := prog_17_method_120_code
def yX8_busiest : MethodName := ⟨RX8, "busiest", "()I"⟩
def dkwX8_busiest_1 : List UInt8 := [42, 27, 182, 1, 105, 164, 0, 5, 28, 60, 132, 2, 1, 167, 255, 223, 42, 27, 182, 1, 102, 172]
abbrev dktX8_busiest_1 : List UInt8 := dkwX8_busiest_1 ++ []
def dkwX8_busiest_0 : List UInt8 := [2, 60, 3, 61, 28, 42, 180, 0, 7, 4, 46, 162, 0, 29, 27, 2, 159, 0, 16, 42, 28, 182, 1, 105]
abbrev dktX8_busiest_0 : List UInt8 := dkwX8_busiest_0 ++ dktX8_busiest_1
theorem dksX8_busiest_0 : cX8_busiest.data.toList.drop 0 = dktX8_busiest_0 := by decide +kernel
theorem dksX8_busiest_1 : cX8_busiest.data.toList.drop 24 = dktX8_busiest_1 := dk_seg dksX8_busiest_0 24 rfl rfl
theorem dX8_busiest_0 : decode cX8_busiest 0 = .ok (.iconst (-1), 1) := dk_2 (dk_at dksX8_busiest_0 0 rfl rfl)
theorem dX8_busiest_1 : decode cX8_busiest 1 = .ok (.istore_n 1, 1) := dk_60 (dk_at dksX8_busiest_0 1 rfl rfl)
theorem dX8_busiest_2 : decode cX8_busiest 2 = .ok (.iconst 0, 1) := dk_3 (dk_at dksX8_busiest_0 2 rfl rfl)
theorem dX8_busiest_3 : decode cX8_busiest 3 = .ok (.istore_n 2, 1) := dk_61 (dk_at dksX8_busiest_0 3 rfl rfl)
theorem dX8_busiest_4 : decode cX8_busiest 4 = .ok (.iload_n 2, 1) := dk_28 (dk_at dksX8_busiest_0 4 rfl rfl)
theorem dX8_busiest_5 : decode cX8_busiest 5 = .ok (.aload_n 0, 1) := dk_42 (dk_at dksX8_busiest_0 5 rfl rfl)
theorem dX8_busiest_6 : decode cX8_busiest 6 = .ok (.getfield 7, 3) := dk_180 0 7 (dk_at dksX8_busiest_0 6 rfl rfl)
theorem dX8_busiest_9 : decode cX8_busiest 9 = .ok (.iconst 1, 1) := dk_4 (dk_at dksX8_busiest_0 9 rfl rfl)
theorem dX8_busiest_10 : decode cX8_busiest 10 = .ok (.iaload, 1) := dk_46 (dk_at dksX8_busiest_0 10 rfl rfl)
theorem dX8_busiest_11 : decode cX8_busiest 11 = .ok (.if_icmp .ge 29, 3) := dk_162 0 29 (dk_at dksX8_busiest_0 11 rfl rfl)
theorem dX8_busiest_14 : decode cX8_busiest 14 = .ok (.iload_n 1, 1) := dk_27 (dk_at dksX8_busiest_0 14 rfl rfl)
theorem dX8_busiest_15 : decode cX8_busiest 15 = .ok (.iconst (-1), 1) := dk_2 (dk_at dksX8_busiest_0 15 rfl rfl)
theorem dX8_busiest_16 : decode cX8_busiest 16 = .ok (.if_icmp .eq 16, 3) := dk_159 0 16 (dk_at dksX8_busiest_0 16 rfl rfl)
theorem dX8_busiest_19 : decode cX8_busiest 19 = .ok (.aload_n 0, 1) := dk_42 (dk_at dksX8_busiest_0 19 rfl rfl)
theorem dX8_busiest_20 : decode cX8_busiest 20 = .ok (.iload_n 2, 1) := dk_28 (dk_at dksX8_busiest_0 20 rfl rfl)
theorem dX8_busiest_21 : decode cX8_busiest 21 = .ok (.invokevirtual 361, 3) := dk_182 1 105 (dk_at dksX8_busiest_0 21 rfl rfl)
theorem dX8_busiest_24 : decode cX8_busiest 24 = .ok (.aload_n 0, 1) := dk_42 (dk_at dksX8_busiest_1 0 rfl rfl)
theorem dX8_busiest_25 : decode cX8_busiest 25 = .ok (.iload_n 1, 1) := dk_27 (dk_at dksX8_busiest_1 1 rfl rfl)
theorem dX8_busiest_26 : decode cX8_busiest 26 = .ok (.invokevirtual 361, 3) := dk_182 1 105 (dk_at dksX8_busiest_1 2 rfl rfl)
theorem dX8_busiest_29 : decode cX8_busiest 29 = .ok (.if_icmp .le 5, 3) := dk_164 0 5 (dk_at dksX8_busiest_1 5 rfl rfl)
theorem dX8_busiest_32 : decode cX8_busiest 32 = .ok (.iload_n 2, 1) := dk_28 (dk_at dksX8_busiest_1 8 rfl rfl)
theorem dX8_busiest_33 : decode cX8_busiest 33 = .ok (.istore_n 1, 1) := dk_60 (dk_at dksX8_busiest_1 9 rfl rfl)
theorem dX8_busiest_34 : decode cX8_busiest 34 = .ok (.iinc 2 1, 3) := dk_132 2 1 (dk_at dksX8_busiest_1 10 rfl rfl)
theorem dX8_busiest_37 : decode cX8_busiest 37 = .ok (.goto (-33), 3) := dk_167 255 223 (dk_at dksX8_busiest_1 13 rfl rfl)
theorem dX8_busiest_40 : decode cX8_busiest 40 = .ok (.aload_n 0, 1) := dk_42 (dk_at dksX8_busiest_1 16 rfl rfl)
theorem dX8_busiest_41 : decode cX8_busiest 41 = .ok (.iload_n 1, 1) := dk_27 (dk_at dksX8_busiest_1 17 rfl rfl)
theorem dX8_busiest_42 : decode cX8_busiest 42 = .ok (.invokevirtual 358, 3) := dk_182 1 102 (dk_at dksX8_busiest_1 18 rfl rfl)
theorem dX8_busiest_45 : decode cX8_busiest 45 = .ok (.ireturn, 1) := dk_172 (dk_at dksX8_busiest_1 21 rfl rfl)
abbrev cX8_both : ByteArray := prog_17_method_121_code
def yX8_both : MethodName := ⟨RX8, "both", "(III)I"⟩
def dkwX8_both_2 : List UInt8 := [29, 182, 1, 122, 126, 182, 0, 82, 172]
abbrev dktX8_both_2 : List UInt8 := dkwX8_both_2 ++ []
def dkwX8_both_1 : List UInt8 := [20, 1, 76, 184, 1, 33, 154, 0, 9, 42, 4, 182, 0, 78, 172, 42, 42, 27, 29, 182, 1, 122, 42, 28]
abbrev dktX8_both_1 : List UInt8 := dkwX8_both_1 ++ dktX8_both_2
def dkwX8_both_0 : List UInt8 := [42, 27, 182, 1, 15, 153, 0, 28, 42, 28, 182, 1, 15, 153, 0, 20, 27, 28, 159, 0, 15, 29, 133, 9]
abbrev dktX8_both_0 : List UInt8 := dkwX8_both_0 ++ dktX8_both_1
theorem dksX8_both_0 : cX8_both.data.toList.drop 0 = dktX8_both_0 := by decide +kernel
theorem dksX8_both_1 : cX8_both.data.toList.drop 24 = dktX8_both_1 := dk_seg dksX8_both_0 24 rfl rfl
theorem dksX8_both_2 : cX8_both.data.toList.drop 48 = dktX8_both_2 := dk_seg dksX8_both_1 24 rfl rfl
theorem dX8_both_0 : decode cX8_both 0 = .ok (.aload_n 0, 1) := dk_42 (dk_at dksX8_both_0 0 rfl rfl)
theorem dX8_both_1 : decode cX8_both 1 = .ok (.iload_n 1, 1) := dk_27 (dk_at dksX8_both_0 1 rfl rfl)
theorem dX8_both_2 : decode cX8_both 2 = .ok (.invokevirtual 271, 3) := dk_182 1 15 (dk_at dksX8_both_0 2 rfl rfl)
theorem dX8_both_5 : decode cX8_both 5 = .ok (.ifCond .eq 28, 3) := dk_153 0 28 (dk_at dksX8_both_0 5 rfl rfl)
theorem dX8_both_8 : decode cX8_both 8 = .ok (.aload_n 0, 1) := dk_42 (dk_at dksX8_both_0 8 rfl rfl)
theorem dX8_both_9 : decode cX8_both 9 = .ok (.iload_n 2, 1) := dk_28 (dk_at dksX8_both_0 9 rfl rfl)
theorem dX8_both_10 : decode cX8_both 10 = .ok (.invokevirtual 271, 3) := dk_182 1 15 (dk_at dksX8_both_0 10 rfl rfl)
theorem dX8_both_13 : decode cX8_both 13 = .ok (.ifCond .eq 20, 3) := dk_153 0 20 (dk_at dksX8_both_0 13 rfl rfl)
theorem dX8_both_16 : decode cX8_both 16 = .ok (.iload_n 1, 1) := dk_27 (dk_at dksX8_both_0 16 rfl rfl)
theorem dX8_both_17 : decode cX8_both 17 = .ok (.iload_n 2, 1) := dk_28 (dk_at dksX8_both_0 17 rfl rfl)
theorem dX8_both_18 : decode cX8_both 18 = .ok (.if_icmp .eq 15, 3) := dk_159 0 15 (dk_at dksX8_both_0 18 rfl rfl)
theorem dX8_both_21 : decode cX8_both 21 = .ok (.iload_n 3, 1) := dk_29 (dk_at dksX8_both_0 21 rfl rfl)
theorem dX8_both_22 : decode cX8_both 22 = .ok (.i2l, 1) := dk_133 (dk_at dksX8_both_0 22 rfl rfl)
theorem dX8_both_23 : decode cX8_both 23 = .ok (.lconst 0, 1) := dk_9 (dk_at dksX8_both_0 23 rfl rfl)
theorem dX8_both_24 : decode cX8_both 24 = .ok (.ldc2_w 332, 3) := dk_20 1 76 (dk_at dksX8_both_1 0 rfl rfl)
theorem dX8_both_27 : decode cX8_both 27 = .ok (.invokestatic 289, 3) := dk_184 1 33 (dk_at dksX8_both_1 3 rfl rfl)
theorem dX8_both_30 : decode cX8_both 30 = .ok (.ifCond .ne 9, 3) := dk_154 0 9 (dk_at dksX8_both_1 6 rfl rfl)
theorem dX8_both_33 : decode cX8_both 33 = .ok (.aload_n 0, 1) := dk_42 (dk_at dksX8_both_1 9 rfl rfl)
theorem dX8_both_34 : decode cX8_both 34 = .ok (.iconst 1, 1) := dk_4 (dk_at dksX8_both_1 10 rfl rfl)
theorem dX8_both_35 : decode cX8_both 35 = .ok (.invokevirtual 78, 3) := dk_182 0 78 (dk_at dksX8_both_1 11 rfl rfl)
theorem dX8_both_38 : decode cX8_both 38 = .ok (.ireturn, 1) := dk_172 (dk_at dksX8_both_1 14 rfl rfl)
theorem dX8_both_39 : decode cX8_both 39 = .ok (.aload_n 0, 1) := dk_42 (dk_at dksX8_both_1 15 rfl rfl)
theorem dX8_both_40 : decode cX8_both 40 = .ok (.aload_n 0, 1) := dk_42 (dk_at dksX8_both_1 16 rfl rfl)
theorem dX8_both_41 : decode cX8_both 41 = .ok (.iload_n 1, 1) := dk_27 (dk_at dksX8_both_1 17 rfl rfl)
theorem dX8_both_42 : decode cX8_both 42 = .ok (.iload_n 3, 1) := dk_29 (dk_at dksX8_both_1 18 rfl rfl)
theorem dX8_both_43 : decode cX8_both 43 = .ok (.invokevirtual 378, 3) := dk_182 1 122 (dk_at dksX8_both_1 19 rfl rfl)
theorem dX8_both_46 : decode cX8_both 46 = .ok (.aload_n 0, 1) := dk_42 (dk_at dksX8_both_1 22 rfl rfl)
theorem dX8_both_47 : decode cX8_both 47 = .ok (.iload_n 2, 1) := dk_28 (dk_at dksX8_both_1 23 rfl rfl)
theorem dX8_both_48 : decode cX8_both 48 = .ok (.iload_n 3, 1) := dk_29 (dk_at dksX8_both_2 0 rfl rfl)
theorem dX8_both_49 : decode cX8_both 49 = .ok (.invokevirtual 378, 3) := dk_182 1 122 (dk_at dksX8_both_2 1 rfl rfl)
theorem dX8_both_52 : decode cX8_both 52 = .ok (.iand, 1) := dk_126 (dk_at dksX8_both_2 4 rfl rfl)
theorem dX8_both_53 : decode cX8_both 53 = .ok (.invokevirtual 82, 3) := dk_182 0 82 (dk_at dksX8_both_2 5 rfl rfl)
theorem dX8_both_56 : decode cX8_both 56 = .ok (.ireturn, 1) := dk_172 (dk_at dksX8_both_2 8 rfl rfl)
abbrev cX8_seenBy : ByteArray := prog_17_method_137_code
def yX8_seenBy : MethodName := ⟨RX8, "seenBy", "(II)I"⟩
def dkwX8_seenBy_3 : List UInt8 := [172]
abbrev dktX8_seenBy_3 : List UInt8 := dkwX8_seenBy_3 ++ []
def dkwX8_seenBy_2 : List UInt8 := [184, 1, 24, 28, 163, 0, 10, 4, 21, 4, 120, 167, 0, 4, 3, 128, 62, 132, 4, 1, 167, 255, 194, 29]
abbrev dktX8_seenBy_2 : List UInt8 := dkwX8_seenBy_2 ++ dktX8_seenBy_3
def dkwX8_seenBy_1 : List UInt8 := [153, 0, 38, 42, 180, 0, 7, 3, 21, 4, 184, 0, 171, 46, 42, 180, 0, 7, 27, 184, 1, 18, 46, 100]
abbrev dktX8_seenBy_1 : List UInt8 := dkwX8_seenBy_1 ++ dktX8_seenBy_2
def dkwX8_seenBy_0 : List UInt8 := [3, 62, 3, 54, 4, 21, 4, 42, 180, 0, 7, 5, 46, 162, 0, 57, 29, 42, 21, 4, 182, 1, 12]
abbrev dktX8_seenBy_0 : List UInt8 := dkwX8_seenBy_0 ++ dktX8_seenBy_1
theorem dksX8_seenBy_0 : cX8_seenBy.data.toList.drop 0 = dktX8_seenBy_0 := by decide +kernel
theorem dksX8_seenBy_1 : cX8_seenBy.data.toList.drop 23 = dktX8_seenBy_1 := dk_seg dksX8_seenBy_0 23 rfl rfl
theorem dksX8_seenBy_2 : cX8_seenBy.data.toList.drop 47 = dktX8_seenBy_2 := dk_seg dksX8_seenBy_1 24 rfl rfl
theorem dksX8_seenBy_3 : cX8_seenBy.data.toList.drop 71 = dktX8_seenBy_3 := dk_seg dksX8_seenBy_2 24 rfl rfl
theorem dX8_seenBy_0 : decode cX8_seenBy 0 = .ok (.iconst 0, 1) := dk_3 (dk_at dksX8_seenBy_0 0 rfl rfl)
theorem dX8_seenBy_1 : decode cX8_seenBy 1 = .ok (.istore_n 3, 1) := dk_62 (dk_at dksX8_seenBy_0 1 rfl rfl)
theorem dX8_seenBy_2 : decode cX8_seenBy 2 = .ok (.iconst 0, 1) := dk_3 (dk_at dksX8_seenBy_0 2 rfl rfl)
theorem dX8_seenBy_3 : decode cX8_seenBy 3 = .ok (.istore 4, 2) := dk_54 4 (dk_at dksX8_seenBy_0 3 rfl rfl)
theorem dX8_seenBy_5 : decode cX8_seenBy 5 = .ok (.iload 4, 2) := dk_21 4 (dk_at dksX8_seenBy_0 5 rfl rfl)
theorem dX8_seenBy_7 : decode cX8_seenBy 7 = .ok (.aload_n 0, 1) := dk_42 (dk_at dksX8_seenBy_0 7 rfl rfl)
theorem dX8_seenBy_8 : decode cX8_seenBy 8 = .ok (.getfield 7, 3) := dk_180 0 7 (dk_at dksX8_seenBy_0 8 rfl rfl)
theorem dX8_seenBy_11 : decode cX8_seenBy 11 = .ok (.iconst 2, 1) := dk_5 (dk_at dksX8_seenBy_0 11 rfl rfl)
theorem dX8_seenBy_12 : decode cX8_seenBy 12 = .ok (.iaload, 1) := dk_46 (dk_at dksX8_seenBy_0 12 rfl rfl)
theorem dX8_seenBy_13 : decode cX8_seenBy 13 = .ok (.if_icmp .ge 57, 3) := dk_162 0 57 (dk_at dksX8_seenBy_0 13 rfl rfl)
theorem dX8_seenBy_16 : decode cX8_seenBy 16 = .ok (.iload_n 3, 1) := dk_29 (dk_at dksX8_seenBy_0 16 rfl rfl)
theorem dX8_seenBy_17 : decode cX8_seenBy 17 = .ok (.aload_n 0, 1) := dk_42 (dk_at dksX8_seenBy_0 17 rfl rfl)
theorem dX8_seenBy_18 : decode cX8_seenBy 18 = .ok (.iload 4, 2) := dk_21 4 (dk_at dksX8_seenBy_0 18 rfl rfl)
theorem dX8_seenBy_20 : decode cX8_seenBy 20 = .ok (.invokevirtual 268, 3) := dk_182 1 12 (dk_at dksX8_seenBy_0 20 rfl rfl)
theorem dX8_seenBy_23 : decode cX8_seenBy 23 = .ok (.ifCond .eq 38, 3) := dk_153 0 38 (dk_at dksX8_seenBy_1 0 rfl rfl)
theorem dX8_seenBy_26 : decode cX8_seenBy 26 = .ok (.aload_n 0, 1) := dk_42 (dk_at dksX8_seenBy_1 3 rfl rfl)
theorem dX8_seenBy_27 : decode cX8_seenBy 27 = .ok (.getfield 7, 3) := dk_180 0 7 (dk_at dksX8_seenBy_1 4 rfl rfl)
theorem dX8_seenBy_30 : decode cX8_seenBy 30 = .ok (.iconst 0, 1) := dk_3 (dk_at dksX8_seenBy_1 7 rfl rfl)
theorem dX8_seenBy_31 : decode cX8_seenBy 31 = .ok (.iload 4, 2) := dk_21 4 (dk_at dksX8_seenBy_1 8 rfl rfl)
theorem dX8_seenBy_33 : decode cX8_seenBy 33 = .ok (.invokestatic 171, 3) := dk_184 0 171 (dk_at dksX8_seenBy_1 10 rfl rfl)
theorem dX8_seenBy_36 : decode cX8_seenBy 36 = .ok (.iaload, 1) := dk_46 (dk_at dksX8_seenBy_1 13 rfl rfl)
theorem dX8_seenBy_37 : decode cX8_seenBy 37 = .ok (.aload_n 0, 1) := dk_42 (dk_at dksX8_seenBy_1 14 rfl rfl)
theorem dX8_seenBy_38 : decode cX8_seenBy 38 = .ok (.getfield 7, 3) := dk_180 0 7 (dk_at dksX8_seenBy_1 15 rfl rfl)
theorem dX8_seenBy_41 : decode cX8_seenBy 41 = .ok (.iload_n 1, 1) := dk_27 (dk_at dksX8_seenBy_1 18 rfl rfl)
theorem dX8_seenBy_42 : decode cX8_seenBy 42 = .ok (.invokestatic 274, 3) := dk_184 1 18 (dk_at dksX8_seenBy_1 19 rfl rfl)
theorem dX8_seenBy_45 : decode cX8_seenBy 45 = .ok (.iaload, 1) := dk_46 (dk_at dksX8_seenBy_1 22 rfl rfl)
theorem dX8_seenBy_46 : decode cX8_seenBy 46 = .ok (.isub, 1) := dk_100 (dk_at dksX8_seenBy_1 23 rfl rfl)
theorem dX8_seenBy_47 : decode cX8_seenBy 47 = .ok (.invokestatic 280, 3) := dk_184 1 24 (dk_at dksX8_seenBy_2 0 rfl rfl)
theorem dX8_seenBy_50 : decode cX8_seenBy 50 = .ok (.iload_n 2, 1) := dk_28 (dk_at dksX8_seenBy_2 3 rfl rfl)
theorem dX8_seenBy_51 : decode cX8_seenBy 51 = .ok (.if_icmp .gt 10, 3) := dk_163 0 10 (dk_at dksX8_seenBy_2 4 rfl rfl)
theorem dX8_seenBy_54 : decode cX8_seenBy 54 = .ok (.iconst 1, 1) := dk_4 (dk_at dksX8_seenBy_2 7 rfl rfl)
theorem dX8_seenBy_55 : decode cX8_seenBy 55 = .ok (.iload 4, 2) := dk_21 4 (dk_at dksX8_seenBy_2 8 rfl rfl)
theorem dX8_seenBy_57 : decode cX8_seenBy 57 = .ok (.ishl, 1) := dk_120 (dk_at dksX8_seenBy_2 10 rfl rfl)
theorem dX8_seenBy_58 : decode cX8_seenBy 58 = .ok (.goto 4, 3) := dk_167 0 4 (dk_at dksX8_seenBy_2 11 rfl rfl)
theorem dX8_seenBy_61 : decode cX8_seenBy 61 = .ok (.iconst 0, 1) := dk_3 (dk_at dksX8_seenBy_2 14 rfl rfl)
theorem dX8_seenBy_62 : decode cX8_seenBy 62 = .ok (.ior, 1) := dk_128 (dk_at dksX8_seenBy_2 15 rfl rfl)
theorem dX8_seenBy_63 : decode cX8_seenBy 63 = .ok (.istore_n 3, 1) := dk_62 (dk_at dksX8_seenBy_2 16 rfl rfl)
theorem dX8_seenBy_64 : decode cX8_seenBy 64 = .ok (.iinc 4 1, 3) := dk_132 4 1 (dk_at dksX8_seenBy_2 17 rfl rfl)
theorem dX8_seenBy_67 : decode cX8_seenBy 67 = .ok (.goto (-62), 3) := dk_167 255 194 (dk_at dksX8_seenBy_2 20 rfl rfl)
theorem dX8_seenBy_70 : decode cX8_seenBy 70 = .ok (.iload_n 3, 1) := dk_29 (dk_at dksX8_seenBy_2 23 rfl rfl)
theorem dX8_seenBy_71 : decode cX8_seenBy 71 = .ok (.ireturn, 1) := dk_172 (dk_at dksX8_seenBy_3 0 rfl rfl)
abbrev cX8_tide : ByteArray := prog_17_method_123_code
def yX8_tide : MethodName := ⟨RX8, "tide", "()I"⟩
def dkwX8_tide_2 : List UInt8 := [182, 0, 82, 172]
abbrev dktX8_tide_2 : List UInt8 := dkwX8_tide_2 ++ []
def dkwX8_tide_1 : List UInt8 := [46, 154, 0, 10, 42, 16, 7, 182, 0, 78, 172, 42, 182, 1, 125, 42, 42, 180, 0, 7, 16, 6, 46]
abbrev dktX8_tide_1 : List UInt8 := dkwX8_tide_1 ++ dktX8_tide_2
def dkwX8_tide_0 : List UInt8 := [42, 180, 0, 7, 16, 6, 46, 16, 99, 160, 0, 9, 42, 7, 182, 0, 78, 172, 42, 180, 0, 7, 16, 7]
abbrev dktX8_tide_0 : List UInt8 := dkwX8_tide_0 ++ dktX8_tide_1
theorem dksX8_tide_0 : cX8_tide.data.toList.drop 0 = dktX8_tide_0 := by decide +kernel
theorem dksX8_tide_1 : cX8_tide.data.toList.drop 24 = dktX8_tide_1 := dk_seg dksX8_tide_0 24 rfl rfl
theorem dksX8_tide_2 : cX8_tide.data.toList.drop 47 = dktX8_tide_2 := dk_seg dksX8_tide_1 23 rfl rfl
theorem dX8_tide_0 : decode cX8_tide 0 = .ok (.aload_n 0, 1) := dk_42 (dk_at dksX8_tide_0 0 rfl rfl)
theorem dX8_tide_1 : decode cX8_tide 1 = .ok (.getfield 7, 3) := dk_180 0 7 (dk_at dksX8_tide_0 1 rfl rfl)
theorem dX8_tide_4 : decode cX8_tide 4 = .ok (.bipush 6, 2) := dk_16 6 (dk_at dksX8_tide_0 4 rfl rfl)
theorem dX8_tide_6 : decode cX8_tide 6 = .ok (.iaload, 1) := dk_46 (dk_at dksX8_tide_0 6 rfl rfl)
theorem dX8_tide_7 : decode cX8_tide 7 = .ok (.bipush 99, 2) := dk_16 99 (dk_at dksX8_tide_0 7 rfl rfl)
theorem dX8_tide_9 : decode cX8_tide 9 = .ok (.if_icmp .ne 9, 3) := dk_160 0 9 (dk_at dksX8_tide_0 9 rfl rfl)
theorem dX8_tide_12 : decode cX8_tide 12 = .ok (.aload_n 0, 1) := dk_42 (dk_at dksX8_tide_0 12 rfl rfl)
theorem dX8_tide_13 : decode cX8_tide 13 = .ok (.iconst 4, 1) := dk_7 (dk_at dksX8_tide_0 13 rfl rfl)
theorem dX8_tide_14 : decode cX8_tide 14 = .ok (.invokevirtual 78, 3) := dk_182 0 78 (dk_at dksX8_tide_0 14 rfl rfl)
theorem dX8_tide_17 : decode cX8_tide 17 = .ok (.ireturn, 1) := dk_172 (dk_at dksX8_tide_0 17 rfl rfl)
theorem dX8_tide_18 : decode cX8_tide 18 = .ok (.aload_n 0, 1) := dk_42 (dk_at dksX8_tide_0 18 rfl rfl)
theorem dX8_tide_19 : decode cX8_tide 19 = .ok (.getfield 7, 3) := dk_180 0 7 (dk_at dksX8_tide_0 19 rfl rfl)
theorem dX8_tide_22 : decode cX8_tide 22 = .ok (.bipush 7, 2) := dk_16 7 (dk_at dksX8_tide_0 22 rfl rfl)
theorem dX8_tide_24 : decode cX8_tide 24 = .ok (.iaload, 1) := dk_46 (dk_at dksX8_tide_1 0 rfl rfl)
theorem dX8_tide_25 : decode cX8_tide 25 = .ok (.ifCond .ne 10, 3) := dk_154 0 10 (dk_at dksX8_tide_1 1 rfl rfl)
theorem dX8_tide_28 : decode cX8_tide 28 = .ok (.aload_n 0, 1) := dk_42 (dk_at dksX8_tide_1 4 rfl rfl)
theorem dX8_tide_29 : decode cX8_tide 29 = .ok (.bipush 7, 2) := dk_16 7 (dk_at dksX8_tide_1 5 rfl rfl)
theorem dX8_tide_31 : decode cX8_tide 31 = .ok (.invokevirtual 78, 3) := dk_182 0 78 (dk_at dksX8_tide_1 7 rfl rfl)
theorem dX8_tide_34 : decode cX8_tide 34 = .ok (.ireturn, 1) := dk_172 (dk_at dksX8_tide_1 10 rfl rfl)
theorem dX8_tide_35 : decode cX8_tide 35 = .ok (.aload_n 0, 1) := dk_42 (dk_at dksX8_tide_1 11 rfl rfl)
theorem dX8_tide_36 : decode cX8_tide 36 = .ok (.invokevirtual 381, 3) := dk_182 1 125 (dk_at dksX8_tide_1 12 rfl rfl)
theorem dX8_tide_39 : decode cX8_tide 39 = .ok (.aload_n 0, 1) := dk_42 (dk_at dksX8_tide_1 15 rfl rfl)
theorem dX8_tide_40 : decode cX8_tide 40 = .ok (.aload_n 0, 1) := dk_42 (dk_at dksX8_tide_1 16 rfl rfl)
theorem dX8_tide_41 : decode cX8_tide 41 = .ok (.getfield 7, 3) := dk_180 0 7 (dk_at dksX8_tide_1 17 rfl rfl)
theorem dX8_tide_44 : decode cX8_tide 44 = .ok (.bipush 6, 2) := dk_16 6 (dk_at dksX8_tide_1 20 rfl rfl)
theorem dX8_tide_46 : decode cX8_tide 46 = .ok (.iaload, 1) := dk_46 (dk_at dksX8_tide_1 22 rfl rfl)
theorem dX8_tide_47 : decode cX8_tide 47 = .ok (.invokevirtual 82, 3) := dk_182 0 82 (dk_at dksX8_tide_2 0 rfl rfl)
theorem dX8_tide_50 : decode cX8_tide 50 = .ok (.ireturn, 1) := dk_172 (dk_at dksX8_tide_2 3 rfl rfl)
abbrev cX8_floods : ByteArray := prog_17_method_122_code
def yX8_floods : MethodName := ⟨RX8, "floods", "()V"⟩
def dkwX8_floods_10 : List UInt8 := [42, 180, 0, 7, 7, 46, 100, 184, 1, 119, 79, 177]
abbrev dktX8_floods_10 : List UInt8 := dkwX8_floods_10 ++ []
def dkwX8_floods_9 : List UInt8 := [79, 42, 180, 0, 7, 16, 6, 92, 46, 4, 96, 79, 42, 180, 0, 7, 6, 4, 42, 180, 0, 7, 6, 46]
abbrev dktX8_floods_9 : List UInt8 := dkwX8_floods_9 ++ dktX8_floods_10
def dkwX8_floods_8 : List UInt8 := [96, 3, 79, 132, 1, 1, 167, 255, 231, 42, 180, 0, 7, 16, 8, 3, 79, 42, 180, 0, 7, 16, 7, 3]
abbrev dktX8_floods_8 : List UInt8 := dkwX8_floods_8 ++ dktX8_floods_9
def dkwX8_floods_7 : List UInt8 := [167, 255, 193, 3, 60, 27, 42, 180, 0, 7, 4, 46, 162, 0, 21, 42, 180, 0, 7, 27, 184, 1, 18, 6]
abbrev dktX8_floods_7 : List UInt8 := dkwX8_floods_7 ++ dktX8_floods_8
def dkwX8_floods_6 : List UInt8 := [96, 79, 132, 2, 1, 167, 255, 224, 42, 180, 0, 7, 3, 27, 184, 0, 171, 5, 96, 3, 79, 132, 1, 1]
abbrev dktX8_floods_6 : List UInt8 := dkwX8_floods_6 ++ dktX8_floods_7
def dkwX8_floods_5 : List UInt8 := [182, 1, 21, 162, 0, 29, 42, 180, 0, 7, 42, 27, 28, 182, 1, 52, 184, 1, 18, 5, 96, 92, 46, 4]
abbrev dktX8_floods_5 : List UInt8 := dkwX8_floods_5 ++ dktX8_floods_6
def dkwX8_floods_4 : List UInt8 := [132, 1, 1, 167, 255, 163, 3, 60, 27, 42, 180, 0, 7, 5, 46, 162, 0, 59, 3, 61, 28, 42, 27]
abbrev dktX8_floods_4 : List UInt8 := dkwX8_floods_4 ++ dktX8_floods_5
def dkwX8_floods_3 : List UInt8 := [184, 0, 171, 4, 96, 46, 28, 184, 1, 84, 108, 167, 0, 4, 3, 96, 79, 132, 3, 1, 167, 255, 199]
abbrev dktX8_floods_3 : List UInt8 := dkwX8_floods_3 ++ dktX8_floods_4
def dkwX8_floods_2 : List UInt8 := [29, 184, 1, 18, 7, 96, 92, 46, 28, 29, 122, 4, 126, 4, 160, 0, 23, 42, 180, 0, 7, 3, 27]
abbrev dktX8_floods_2 : List UInt8 := dkwX8_floods_2 ++ dktX8_floods_3
def dkwX8_floods_1 : List UInt8 := [182, 1, 87, 167, 0, 4, 3, 61, 3, 62, 29, 42, 180, 0, 7, 4, 46, 162, 0, 53, 42, 180, 0, 7]
abbrev dktX8_floods_1 : List UInt8 := dkwX8_floods_1 ++ dktX8_floods_2
def dkwX8_floods_0 : List UInt8 := [3, 60, 27, 42, 180, 0, 7, 5, 46, 162, 0, 89, 42, 27, 182, 1, 12, 153, 0, 11, 42, 27]
abbrev dktX8_floods_0 : List UInt8 := dkwX8_floods_0 ++ dktX8_floods_1
theorem dksX8_floods_0 : cX8_floods.data.toList.drop 0 = dktX8_floods_0 := by decide +kernel
theorem dksX8_floods_1 : cX8_floods.data.toList.drop 22 = dktX8_floods_1 := dk_seg dksX8_floods_0 22 rfl rfl
theorem dksX8_floods_2 : cX8_floods.data.toList.drop 46 = dktX8_floods_2 := dk_seg dksX8_floods_1 24 rfl rfl
theorem dksX8_floods_3 : cX8_floods.data.toList.drop 69 = dktX8_floods_3 := dk_seg dksX8_floods_2 23 rfl rfl
theorem dksX8_floods_4 : cX8_floods.data.toList.drop 92 = dktX8_floods_4 := dk_seg dksX8_floods_3 23 rfl rfl
theorem dksX8_floods_5 : cX8_floods.data.toList.drop 115 = dktX8_floods_5 := dk_seg dksX8_floods_4 23 rfl rfl
theorem dksX8_floods_6 : cX8_floods.data.toList.drop 139 = dktX8_floods_6 := dk_seg dksX8_floods_5 24 rfl rfl
theorem dksX8_floods_7 : cX8_floods.data.toList.drop 163 = dktX8_floods_7 := dk_seg dksX8_floods_6 24 rfl rfl
theorem dksX8_floods_8 : cX8_floods.data.toList.drop 187 = dktX8_floods_8 := dk_seg dksX8_floods_7 24 rfl rfl
theorem dksX8_floods_9 : cX8_floods.data.toList.drop 211 = dktX8_floods_9 := dk_seg dksX8_floods_8 24 rfl rfl
theorem dksX8_floods_10 : cX8_floods.data.toList.drop 235 = dktX8_floods_10 := dk_seg dksX8_floods_9 24 rfl rfl
theorem dX8_floods_0 : decode cX8_floods 0 = .ok (.iconst 0, 1) := dk_3 (dk_at dksX8_floods_0 0 rfl rfl)
theorem dX8_floods_1 : decode cX8_floods 1 = .ok (.istore_n 1, 1) := dk_60 (dk_at dksX8_floods_0 1 rfl rfl)
theorem dX8_floods_2 : decode cX8_floods 2 = .ok (.iload_n 1, 1) := dk_27 (dk_at dksX8_floods_0 2 rfl rfl)
theorem dX8_floods_3 : decode cX8_floods 3 = .ok (.aload_n 0, 1) := dk_42 (dk_at dksX8_floods_0 3 rfl rfl)
theorem dX8_floods_4 : decode cX8_floods 4 = .ok (.getfield 7, 3) := dk_180 0 7 (dk_at dksX8_floods_0 4 rfl rfl)
theorem dX8_floods_7 : decode cX8_floods 7 = .ok (.iconst 2, 1) := dk_5 (dk_at dksX8_floods_0 7 rfl rfl)
theorem dX8_floods_8 : decode cX8_floods 8 = .ok (.iaload, 1) := dk_46 (dk_at dksX8_floods_0 8 rfl rfl)
theorem dX8_floods_9 : decode cX8_floods 9 = .ok (.if_icmp .ge 89, 3) := dk_162 0 89 (dk_at dksX8_floods_0 9 rfl rfl)
theorem dX8_floods_12 : decode cX8_floods 12 = .ok (.aload_n 0, 1) := dk_42 (dk_at dksX8_floods_0 12 rfl rfl)
theorem dX8_floods_13 : decode cX8_floods 13 = .ok (.iload_n 1, 1) := dk_27 (dk_at dksX8_floods_0 13 rfl rfl)
theorem dX8_floods_14 : decode cX8_floods 14 = .ok (.invokevirtual 268, 3) := dk_182 1 12 (dk_at dksX8_floods_0 14 rfl rfl)
theorem dX8_floods_17 : decode cX8_floods 17 = .ok (.ifCond .eq 11, 3) := dk_153 0 11 (dk_at dksX8_floods_0 17 rfl rfl)
theorem dX8_floods_20 : decode cX8_floods 20 = .ok (.aload_n 0, 1) := dk_42 (dk_at dksX8_floods_0 20 rfl rfl)
theorem dX8_floods_21 : decode cX8_floods 21 = .ok (.iload_n 1, 1) := dk_27 (dk_at dksX8_floods_0 21 rfl rfl)
theorem dX8_floods_22 : decode cX8_floods 22 = .ok (.invokevirtual 343, 3) := dk_182 1 87 (dk_at dksX8_floods_1 0 rfl rfl)
theorem dX8_floods_25 : decode cX8_floods 25 = .ok (.goto 4, 3) := dk_167 0 4 (dk_at dksX8_floods_1 3 rfl rfl)
theorem dX8_floods_28 : decode cX8_floods 28 = .ok (.iconst 0, 1) := dk_3 (dk_at dksX8_floods_1 6 rfl rfl)
theorem dX8_floods_29 : decode cX8_floods 29 = .ok (.istore_n 2, 1) := dk_61 (dk_at dksX8_floods_1 7 rfl rfl)
theorem dX8_floods_30 : decode cX8_floods 30 = .ok (.iconst 0, 1) := dk_3 (dk_at dksX8_floods_1 8 rfl rfl)
theorem dX8_floods_31 : decode cX8_floods 31 = .ok (.istore_n 3, 1) := dk_62 (dk_at dksX8_floods_1 9 rfl rfl)
theorem dX8_floods_32 : decode cX8_floods 32 = .ok (.iload_n 3, 1) := dk_29 (dk_at dksX8_floods_1 10 rfl rfl)
theorem dX8_floods_33 : decode cX8_floods 33 = .ok (.aload_n 0, 1) := dk_42 (dk_at dksX8_floods_1 11 rfl rfl)
theorem dX8_floods_34 : decode cX8_floods 34 = .ok (.getfield 7, 3) := dk_180 0 7 (dk_at dksX8_floods_1 12 rfl rfl)
theorem dX8_floods_37 : decode cX8_floods 37 = .ok (.iconst 1, 1) := dk_4 (dk_at dksX8_floods_1 15 rfl rfl)
theorem dX8_floods_38 : decode cX8_floods 38 = .ok (.iaload, 1) := dk_46 (dk_at dksX8_floods_1 16 rfl rfl)
theorem dX8_floods_39 : decode cX8_floods 39 = .ok (.if_icmp .ge 53, 3) := dk_162 0 53 (dk_at dksX8_floods_1 17 rfl rfl)
theorem dX8_floods_42 : decode cX8_floods 42 = .ok (.aload_n 0, 1) := dk_42 (dk_at dksX8_floods_1 20 rfl rfl)
theorem dX8_floods_43 : decode cX8_floods 43 = .ok (.getfield 7, 3) := dk_180 0 7 (dk_at dksX8_floods_1 21 rfl rfl)
theorem dX8_floods_46 : decode cX8_floods 46 = .ok (.iload_n 3, 1) := dk_29 (dk_at dksX8_floods_2 0 rfl rfl)
theorem dX8_floods_47 : decode cX8_floods 47 = .ok (.invokestatic 274, 3) := dk_184 1 18 (dk_at dksX8_floods_2 1 rfl rfl)
theorem dX8_floods_50 : decode cX8_floods 50 = .ok (.iconst 4, 1) := dk_7 (dk_at dksX8_floods_2 4 rfl rfl)
theorem dX8_floods_51 : decode cX8_floods 51 = .ok (.iadd, 1) := dk_96 (dk_at dksX8_floods_2 5 rfl rfl)
theorem dX8_floods_52 : decode cX8_floods 52 = .ok (.dup2, 1) := dk_92 (dk_at dksX8_floods_2 6 rfl rfl)
theorem dX8_floods_53 : decode cX8_floods 53 = .ok (.iaload, 1) := dk_46 (dk_at dksX8_floods_2 7 rfl rfl)
theorem dX8_floods_54 : decode cX8_floods 54 = .ok (.iload_n 2, 1) := dk_28 (dk_at dksX8_floods_2 8 rfl rfl)
theorem dX8_floods_55 : decode cX8_floods 55 = .ok (.iload_n 3, 1) := dk_29 (dk_at dksX8_floods_2 9 rfl rfl)
theorem dX8_floods_56 : decode cX8_floods 56 = .ok (.ishr, 1) := dk_122 (dk_at dksX8_floods_2 10 rfl rfl)
theorem dX8_floods_57 : decode cX8_floods 57 = .ok (.iconst 1, 1) := dk_4 (dk_at dksX8_floods_2 11 rfl rfl)
theorem dX8_floods_58 : decode cX8_floods 58 = .ok (.iand, 1) := dk_126 (dk_at dksX8_floods_2 12 rfl rfl)
theorem dX8_floods_59 : decode cX8_floods 59 = .ok (.iconst 1, 1) := dk_4 (dk_at dksX8_floods_2 13 rfl rfl)
theorem dX8_floods_60 : decode cX8_floods 60 = .ok (.if_icmp .ne 23, 3) := dk_160 0 23 (dk_at dksX8_floods_2 14 rfl rfl)
theorem dX8_floods_63 : decode cX8_floods 63 = .ok (.aload_n 0, 1) := dk_42 (dk_at dksX8_floods_2 17 rfl rfl)
theorem dX8_floods_64 : decode cX8_floods 64 = .ok (.getfield 7, 3) := dk_180 0 7 (dk_at dksX8_floods_2 18 rfl rfl)
theorem dX8_floods_67 : decode cX8_floods 67 = .ok (.iconst 0, 1) := dk_3 (dk_at dksX8_floods_2 21 rfl rfl)
theorem dX8_floods_68 : decode cX8_floods 68 = .ok (.iload_n 1, 1) := dk_27 (dk_at dksX8_floods_2 22 rfl rfl)
theorem dX8_floods_69 : decode cX8_floods 69 = .ok (.invokestatic 171, 3) := dk_184 0 171 (dk_at dksX8_floods_3 0 rfl rfl)
theorem dX8_floods_72 : decode cX8_floods 72 = .ok (.iconst 1, 1) := dk_4 (dk_at dksX8_floods_3 3 rfl rfl)
theorem dX8_floods_73 : decode cX8_floods 73 = .ok (.iadd, 1) := dk_96 (dk_at dksX8_floods_3 4 rfl rfl)
theorem dX8_floods_74 : decode cX8_floods 74 = .ok (.iaload, 1) := dk_46 (dk_at dksX8_floods_3 5 rfl rfl)
theorem dX8_floods_75 : decode cX8_floods 75 = .ok (.iload_n 2, 1) := dk_28 (dk_at dksX8_floods_3 6 rfl rfl)
theorem dX8_floods_76 : decode cX8_floods 76 = .ok (.invokestatic 340, 3) := dk_184 1 84 (dk_at dksX8_floods_3 7 rfl rfl)
theorem dX8_floods_79 : decode cX8_floods 79 = .ok (.idiv, 1) := dk_108 (dk_at dksX8_floods_3 10 rfl rfl)
theorem dX8_floods_80 : decode cX8_floods 80 = .ok (.goto 4, 3) := dk_167 0 4 (dk_at dksX8_floods_3 11 rfl rfl)
theorem dX8_floods_83 : decode cX8_floods 83 = .ok (.iconst 0, 1) := dk_3 (dk_at dksX8_floods_3 14 rfl rfl)
theorem dX8_floods_84 : decode cX8_floods 84 = .ok (.iadd, 1) := dk_96 (dk_at dksX8_floods_3 15 rfl rfl)
theorem dX8_floods_85 : decode cX8_floods 85 = .ok (.iastore, 1) := dk_79 (dk_at dksX8_floods_3 16 rfl rfl)
theorem dX8_floods_86 : decode cX8_floods 86 = .ok (.iinc 3 1, 3) := dk_132 3 1 (dk_at dksX8_floods_3 17 rfl rfl)
theorem dX8_floods_89 : decode cX8_floods 89 = .ok (.goto (-57), 3) := dk_167 255 199 (dk_at dksX8_floods_3 20 rfl rfl)
theorem dX8_floods_92 : decode cX8_floods 92 = .ok (.iinc 1 1, 3) := dk_132 1 1 (dk_at dksX8_floods_4 0 rfl rfl)
theorem dX8_floods_95 : decode cX8_floods 95 = .ok (.goto (-93), 3) := dk_167 255 163 (dk_at dksX8_floods_4 3 rfl rfl)
theorem dX8_floods_98 : decode cX8_floods 98 = .ok (.iconst 0, 1) := dk_3 (dk_at dksX8_floods_4 6 rfl rfl)
theorem dX8_floods_99 : decode cX8_floods 99 = .ok (.istore_n 1, 1) := dk_60 (dk_at dksX8_floods_4 7 rfl rfl)
theorem dX8_floods_100 : decode cX8_floods 100 = .ok (.iload_n 1, 1) := dk_27 (dk_at dksX8_floods_4 8 rfl rfl)
theorem dX8_floods_101 : decode cX8_floods 101 = .ok (.aload_n 0, 1) := dk_42 (dk_at dksX8_floods_4 9 rfl rfl)
theorem dX8_floods_102 : decode cX8_floods 102 = .ok (.getfield 7, 3) := dk_180 0 7 (dk_at dksX8_floods_4 10 rfl rfl)
theorem dX8_floods_105 : decode cX8_floods 105 = .ok (.iconst 2, 1) := dk_5 (dk_at dksX8_floods_4 13 rfl rfl)
theorem dX8_floods_106 : decode cX8_floods 106 = .ok (.iaload, 1) := dk_46 (dk_at dksX8_floods_4 14 rfl rfl)
theorem dX8_floods_107 : decode cX8_floods 107 = .ok (.if_icmp .ge 59, 3) := dk_162 0 59 (dk_at dksX8_floods_4 15 rfl rfl)
theorem dX8_floods_110 : decode cX8_floods 110 = .ok (.iconst 0, 1) := dk_3 (dk_at dksX8_floods_4 18 rfl rfl)
theorem dX8_floods_111 : decode cX8_floods 111 = .ok (.istore_n 2, 1) := dk_61 (dk_at dksX8_floods_4 19 rfl rfl)
theorem dX8_floods_112 : decode cX8_floods 112 = .ok (.iload_n 2, 1) := dk_28 (dk_at dksX8_floods_4 20 rfl rfl)
theorem dX8_floods_113 : decode cX8_floods 113 = .ok (.aload_n 0, 1) := dk_42 (dk_at dksX8_floods_4 21 rfl rfl)
theorem dX8_floods_114 : decode cX8_floods 114 = .ok (.iload_n 1, 1) := dk_27 (dk_at dksX8_floods_4 22 rfl rfl)
theorem dX8_floods_115 : decode cX8_floods 115 = .ok (.invokevirtual 277, 3) := dk_182 1 21 (dk_at dksX8_floods_5 0 rfl rfl)
theorem dX8_floods_118 : decode cX8_floods 118 = .ok (.if_icmp .ge 29, 3) := dk_162 0 29 (dk_at dksX8_floods_5 3 rfl rfl)
theorem dX8_floods_121 : decode cX8_floods 121 = .ok (.aload_n 0, 1) := dk_42 (dk_at dksX8_floods_5 6 rfl rfl)
theorem dX8_floods_122 : decode cX8_floods 122 = .ok (.getfield 7, 3) := dk_180 0 7 (dk_at dksX8_floods_5 7 rfl rfl)
theorem dX8_floods_125 : decode cX8_floods 125 = .ok (.aload_n 0, 1) := dk_42 (dk_at dksX8_floods_5 10 rfl rfl)
theorem dX8_floods_126 : decode cX8_floods 126 = .ok (.iload_n 1, 1) := dk_27 (dk_at dksX8_floods_5 11 rfl rfl)
theorem dX8_floods_127 : decode cX8_floods 127 = .ok (.iload_n 2, 1) := dk_28 (dk_at dksX8_floods_5 12 rfl rfl)
theorem dX8_floods_128 : decode cX8_floods 128 = .ok (.invokevirtual 308, 3) := dk_182 1 52 (dk_at dksX8_floods_5 13 rfl rfl)
theorem dX8_floods_131 : decode cX8_floods 131 = .ok (.invokestatic 274, 3) := dk_184 1 18 (dk_at dksX8_floods_5 16 rfl rfl)
theorem dX8_floods_134 : decode cX8_floods 134 = .ok (.iconst 2, 1) := dk_5 (dk_at dksX8_floods_5 19 rfl rfl)
theorem dX8_floods_135 : decode cX8_floods 135 = .ok (.iadd, 1) := dk_96 (dk_at dksX8_floods_5 20 rfl rfl)
theorem dX8_floods_136 : decode cX8_floods 136 = .ok (.dup2, 1) := dk_92 (dk_at dksX8_floods_5 21 rfl rfl)
theorem dX8_floods_137 : decode cX8_floods 137 = .ok (.iaload, 1) := dk_46 (dk_at dksX8_floods_5 22 rfl rfl)
theorem dX8_floods_138 : decode cX8_floods 138 = .ok (.iconst 1, 1) := dk_4 (dk_at dksX8_floods_5 23 rfl rfl)
theorem dX8_floods_139 : decode cX8_floods 139 = .ok (.iadd, 1) := dk_96 (dk_at dksX8_floods_6 0 rfl rfl)
theorem dX8_floods_140 : decode cX8_floods 140 = .ok (.iastore, 1) := dk_79 (dk_at dksX8_floods_6 1 rfl rfl)
theorem dX8_floods_141 : decode cX8_floods 141 = .ok (.iinc 2 1, 3) := dk_132 2 1 (dk_at dksX8_floods_6 2 rfl rfl)
theorem dX8_floods_144 : decode cX8_floods 144 = .ok (.goto (-32), 3) := dk_167 255 224 (dk_at dksX8_floods_6 5 rfl rfl)
theorem dX8_floods_147 : decode cX8_floods 147 = .ok (.aload_n 0, 1) := dk_42 (dk_at dksX8_floods_6 8 rfl rfl)
theorem dX8_floods_148 : decode cX8_floods 148 = .ok (.getfield 7, 3) := dk_180 0 7 (dk_at dksX8_floods_6 9 rfl rfl)
theorem dX8_floods_151 : decode cX8_floods 151 = .ok (.iconst 0, 1) := dk_3 (dk_at dksX8_floods_6 12 rfl rfl)
theorem dX8_floods_152 : decode cX8_floods 152 = .ok (.iload_n 1, 1) := dk_27 (dk_at dksX8_floods_6 13 rfl rfl)
theorem dX8_floods_153 : decode cX8_floods 153 = .ok (.invokestatic 171, 3) := dk_184 0 171 (dk_at dksX8_floods_6 14 rfl rfl)
theorem dX8_floods_156 : decode cX8_floods 156 = .ok (.iconst 2, 1) := dk_5 (dk_at dksX8_floods_6 17 rfl rfl)
theorem dX8_floods_157 : decode cX8_floods 157 = .ok (.iadd, 1) := dk_96 (dk_at dksX8_floods_6 18 rfl rfl)
theorem dX8_floods_158 : decode cX8_floods 158 = .ok (.iconst 0, 1) := dk_3 (dk_at dksX8_floods_6 19 rfl rfl)
theorem dX8_floods_159 : decode cX8_floods 159 = .ok (.iastore, 1) := dk_79 (dk_at dksX8_floods_6 20 rfl rfl)
theorem dX8_floods_160 : decode cX8_floods 160 = .ok (.iinc 1 1, 3) := dk_132 1 1 (dk_at dksX8_floods_6 21 rfl rfl)
theorem dX8_floods_163 : decode cX8_floods 163 = .ok (.goto (-63), 3) := dk_167 255 193 (dk_at dksX8_floods_7 0 rfl rfl)
theorem dX8_floods_166 : decode cX8_floods 166 = .ok (.iconst 0, 1) := dk_3 (dk_at dksX8_floods_7 3 rfl rfl)
theorem dX8_floods_167 : decode cX8_floods 167 = .ok (.istore_n 1, 1) := dk_60 (dk_at dksX8_floods_7 4 rfl rfl)
theorem dX8_floods_168 : decode cX8_floods 168 = .ok (.iload_n 1, 1) := dk_27 (dk_at dksX8_floods_7 5 rfl rfl)
theorem dX8_floods_169 : decode cX8_floods 169 = .ok (.aload_n 0, 1) := dk_42 (dk_at dksX8_floods_7 6 rfl rfl)
theorem dX8_floods_170 : decode cX8_floods 170 = .ok (.getfield 7, 3) := dk_180 0 7 (dk_at dksX8_floods_7 7 rfl rfl)
theorem dX8_floods_173 : decode cX8_floods 173 = .ok (.iconst 1, 1) := dk_4 (dk_at dksX8_floods_7 10 rfl rfl)
theorem dX8_floods_174 : decode cX8_floods 174 = .ok (.iaload, 1) := dk_46 (dk_at dksX8_floods_7 11 rfl rfl)
theorem dX8_floods_175 : decode cX8_floods 175 = .ok (.if_icmp .ge 21, 3) := dk_162 0 21 (dk_at dksX8_floods_7 12 rfl rfl)
theorem dX8_floods_178 : decode cX8_floods 178 = .ok (.aload_n 0, 1) := dk_42 (dk_at dksX8_floods_7 15 rfl rfl)
theorem dX8_floods_179 : decode cX8_floods 179 = .ok (.getfield 7, 3) := dk_180 0 7 (dk_at dksX8_floods_7 16 rfl rfl)
theorem dX8_floods_182 : decode cX8_floods 182 = .ok (.iload_n 1, 1) := dk_27 (dk_at dksX8_floods_7 19 rfl rfl)
theorem dX8_floods_183 : decode cX8_floods 183 = .ok (.invokestatic 274, 3) := dk_184 1 18 (dk_at dksX8_floods_7 20 rfl rfl)
theorem dX8_floods_186 : decode cX8_floods 186 = .ok (.iconst 3, 1) := dk_6 (dk_at dksX8_floods_7 23 rfl rfl)
theorem dX8_floods_187 : decode cX8_floods 187 = .ok (.iadd, 1) := dk_96 (dk_at dksX8_floods_8 0 rfl rfl)
theorem dX8_floods_188 : decode cX8_floods 188 = .ok (.iconst 0, 1) := dk_3 (dk_at dksX8_floods_8 1 rfl rfl)
theorem dX8_floods_189 : decode cX8_floods 189 = .ok (.iastore, 1) := dk_79 (dk_at dksX8_floods_8 2 rfl rfl)
theorem dX8_floods_190 : decode cX8_floods 190 = .ok (.iinc 1 1, 3) := dk_132 1 1 (dk_at dksX8_floods_8 3 rfl rfl)
theorem dX8_floods_193 : decode cX8_floods 193 = .ok (.goto (-25), 3) := dk_167 255 231 (dk_at dksX8_floods_8 6 rfl rfl)
theorem dX8_floods_196 : decode cX8_floods 196 = .ok (.aload_n 0, 1) := dk_42 (dk_at dksX8_floods_8 9 rfl rfl)
theorem dX8_floods_197 : decode cX8_floods 197 = .ok (.getfield 7, 3) := dk_180 0 7 (dk_at dksX8_floods_8 10 rfl rfl)
theorem dX8_floods_200 : decode cX8_floods 200 = .ok (.bipush 8, 2) := dk_16 8 (dk_at dksX8_floods_8 13 rfl rfl)
theorem dX8_floods_202 : decode cX8_floods 202 = .ok (.iconst 0, 1) := dk_3 (dk_at dksX8_floods_8 15 rfl rfl)
theorem dX8_floods_203 : decode cX8_floods 203 = .ok (.iastore, 1) := dk_79 (dk_at dksX8_floods_8 16 rfl rfl)
theorem dX8_floods_204 : decode cX8_floods 204 = .ok (.aload_n 0, 1) := dk_42 (dk_at dksX8_floods_8 17 rfl rfl)
theorem dX8_floods_205 : decode cX8_floods 205 = .ok (.getfield 7, 3) := dk_180 0 7 (dk_at dksX8_floods_8 18 rfl rfl)
theorem dX8_floods_208 : decode cX8_floods 208 = .ok (.bipush 7, 2) := dk_16 7 (dk_at dksX8_floods_8 21 rfl rfl)
theorem dX8_floods_210 : decode cX8_floods 210 = .ok (.iconst 0, 1) := dk_3 (dk_at dksX8_floods_8 23 rfl rfl)
theorem dX8_floods_211 : decode cX8_floods 211 = .ok (.iastore, 1) := dk_79 (dk_at dksX8_floods_9 0 rfl rfl)
theorem dX8_floods_212 : decode cX8_floods 212 = .ok (.aload_n 0, 1) := dk_42 (dk_at dksX8_floods_9 1 rfl rfl)
theorem dX8_floods_213 : decode cX8_floods 213 = .ok (.getfield 7, 3) := dk_180 0 7 (dk_at dksX8_floods_9 2 rfl rfl)
theorem dX8_floods_216 : decode cX8_floods 216 = .ok (.bipush 6, 2) := dk_16 6 (dk_at dksX8_floods_9 5 rfl rfl)
theorem dX8_floods_218 : decode cX8_floods 218 = .ok (.dup2, 1) := dk_92 (dk_at dksX8_floods_9 7 rfl rfl)
theorem dX8_floods_219 : decode cX8_floods 219 = .ok (.iaload, 1) := dk_46 (dk_at dksX8_floods_9 8 rfl rfl)
theorem dX8_floods_220 : decode cX8_floods 220 = .ok (.iconst 1, 1) := dk_4 (dk_at dksX8_floods_9 9 rfl rfl)
theorem dX8_floods_221 : decode cX8_floods 221 = .ok (.iadd, 1) := dk_96 (dk_at dksX8_floods_9 10 rfl rfl)
theorem dX8_floods_222 : decode cX8_floods 222 = .ok (.iastore, 1) := dk_79 (dk_at dksX8_floods_9 11 rfl rfl)
theorem dX8_floods_223 : decode cX8_floods 223 = .ok (.aload_n 0, 1) := dk_42 (dk_at dksX8_floods_9 12 rfl rfl)
theorem dX8_floods_224 : decode cX8_floods 224 = .ok (.getfield 7, 3) := dk_180 0 7 (dk_at dksX8_floods_9 13 rfl rfl)
theorem dX8_floods_227 : decode cX8_floods 227 = .ok (.iconst 3, 1) := dk_6 (dk_at dksX8_floods_9 16 rfl rfl)
theorem dX8_floods_228 : decode cX8_floods 228 = .ok (.iconst 1, 1) := dk_4 (dk_at dksX8_floods_9 17 rfl rfl)
theorem dX8_floods_229 : decode cX8_floods 229 = .ok (.aload_n 0, 1) := dk_42 (dk_at dksX8_floods_9 18 rfl rfl)
theorem dX8_floods_230 : decode cX8_floods 230 = .ok (.getfield 7, 3) := dk_180 0 7 (dk_at dksX8_floods_9 19 rfl rfl)
theorem dX8_floods_233 : decode cX8_floods 233 = .ok (.iconst 3, 1) := dk_6 (dk_at dksX8_floods_9 22 rfl rfl)
theorem dX8_floods_234 : decode cX8_floods 234 = .ok (.iaload, 1) := dk_46 (dk_at dksX8_floods_9 23 rfl rfl)
theorem dX8_floods_235 : decode cX8_floods 235 = .ok (.aload_n 0, 1) := dk_42 (dk_at dksX8_floods_10 0 rfl rfl)
theorem dX8_floods_236 : decode cX8_floods 236 = .ok (.getfield 7, 3) := dk_180 0 7 (dk_at dksX8_floods_10 1 rfl rfl)
theorem dX8_floods_239 : decode cX8_floods 239 = .ok (.iconst 4, 1) := dk_7 (dk_at dksX8_floods_10 4 rfl rfl)
theorem dX8_floods_240 : decode cX8_floods 240 = .ok (.iaload, 1) := dk_46 (dk_at dksX8_floods_10 5 rfl rfl)
theorem dX8_floods_241 : decode cX8_floods 241 = .ok (.isub, 1) := dk_100 (dk_at dksX8_floods_10 6 rfl rfl)
theorem dX8_floods_242 : decode cX8_floods 242 = .ok (.invokestatic 375, 3) := dk_184 1 119 (dk_at dksX8_floods_10 7 rfl rfl)
theorem dX8_floods_245 : decode cX8_floods 245 = .ok (.iastore, 1) := dk_79 (dk_at dksX8_floods_10 10 rfl rfl)
theorem dX8_floods_246 : decode cX8_floods 246 = .ok (.return_, 1) := dk_177 (dk_at dksX8_floods_10 11 rfl rfl)
abbrev cX8_dawn : ByteArray := prog_17_method_125_code
def yX8_dawn : MethodName := ⟨RX8, "dawn", "()I"⟩
def dkwX8_dawn_1 : List UInt8 := [180, 0, 7, 5, 46, 182, 0, 82, 172]
abbrev dktX8_dawn_1 : List UInt8 := dkwX8_dawn_1 ++ []
def dkwX8_dawn_0 : List UInt8 := [42, 180, 0, 7, 16, 7, 46, 153, 0, 10, 42, 16, 7, 182, 0, 78, 172, 42, 182, 1, 128, 42, 42]
abbrev dktX8_dawn_0 : List UInt8 := dkwX8_dawn_0 ++ dktX8_dawn_1
theorem dksX8_dawn_0 : cX8_dawn.data.toList.drop 0 = dktX8_dawn_0 := by decide +kernel
theorem dksX8_dawn_1 : cX8_dawn.data.toList.drop 23 = dktX8_dawn_1 := dk_seg dksX8_dawn_0 23 rfl rfl
theorem dX8_dawn_0 : decode cX8_dawn 0 = .ok (.aload_n 0, 1) := dk_42 (dk_at dksX8_dawn_0 0 rfl rfl)
theorem dX8_dawn_1 : decode cX8_dawn 1 = .ok (.getfield 7, 3) := dk_180 0 7 (dk_at dksX8_dawn_0 1 rfl rfl)
theorem dX8_dawn_4 : decode cX8_dawn 4 = .ok (.bipush 7, 2) := dk_16 7 (dk_at dksX8_dawn_0 4 rfl rfl)
theorem dX8_dawn_6 : decode cX8_dawn 6 = .ok (.iaload, 1) := dk_46 (dk_at dksX8_dawn_0 6 rfl rfl)
theorem dX8_dawn_7 : decode cX8_dawn 7 = .ok (.ifCond .eq 10, 3) := dk_153 0 10 (dk_at dksX8_dawn_0 7 rfl rfl)
theorem dX8_dawn_10 : decode cX8_dawn 10 = .ok (.aload_n 0, 1) := dk_42 (dk_at dksX8_dawn_0 10 rfl rfl)
theorem dX8_dawn_11 : decode cX8_dawn 11 = .ok (.bipush 7, 2) := dk_16 7 (dk_at dksX8_dawn_0 11 rfl rfl)
theorem dX8_dawn_13 : decode cX8_dawn 13 = .ok (.invokevirtual 78, 3) := dk_182 0 78 (dk_at dksX8_dawn_0 13 rfl rfl)
theorem dX8_dawn_16 : decode cX8_dawn 16 = .ok (.ireturn, 1) := dk_172 (dk_at dksX8_dawn_0 16 rfl rfl)
theorem dX8_dawn_17 : decode cX8_dawn 17 = .ok (.aload_n 0, 1) := dk_42 (dk_at dksX8_dawn_0 17 rfl rfl)
theorem dX8_dawn_18 : decode cX8_dawn 18 = .ok (.invokevirtual 384, 3) := dk_182 1 128 (dk_at dksX8_dawn_0 18 rfl rfl)
theorem dX8_dawn_21 : decode cX8_dawn 21 = .ok (.aload_n 0, 1) := dk_42 (dk_at dksX8_dawn_0 21 rfl rfl)
theorem dX8_dawn_22 : decode cX8_dawn 22 = .ok (.aload_n 0, 1) := dk_42 (dk_at dksX8_dawn_0 22 rfl rfl)
theorem dX8_dawn_23 : decode cX8_dawn 23 = .ok (.getfield 7, 3) := dk_180 0 7 (dk_at dksX8_dawn_1 0 rfl rfl)
theorem dX8_dawn_26 : decode cX8_dawn 26 = .ok (.iconst 2, 1) := dk_5 (dk_at dksX8_dawn_1 3 rfl rfl)
theorem dX8_dawn_27 : decode cX8_dawn 27 = .ok (.iaload, 1) := dk_46 (dk_at dksX8_dawn_1 4 rfl rfl)
theorem dX8_dawn_28 : decode cX8_dawn 28 = .ok (.invokevirtual 82, 3) := dk_182 0 82 (dk_at dksX8_dawn_1 5 rfl rfl)
theorem dX8_dawn_31 : decode cX8_dawn 31 = .ok (.ireturn, 1) := dk_172 (dk_at dksX8_dawn_1 8 rfl rfl)
abbrev cX8_dawns : ByteArray := prog_17_method_124_code
def yX8_dawns : MethodName := ⟨RX8, "dawns", "()V"⟩
def dkwX8_dawns_0 : List UInt8 := [42, 180, 0, 7, 16, 7, 4, 42, 180, 0, 7, 5, 46, 120, 4, 100, 79, 177]
abbrev dktX8_dawns_0 : List UInt8 := dkwX8_dawns_0 ++ []
theorem dksX8_dawns_0 : cX8_dawns.data.toList.drop 0 = dktX8_dawns_0 := by decide +kernel
theorem dX8_dawns_0 : decode cX8_dawns 0 = .ok (.aload_n 0, 1) := dk_42 (dk_at dksX8_dawns_0 0 rfl rfl)
theorem dX8_dawns_1 : decode cX8_dawns 1 = .ok (.getfield 7, 3) := dk_180 0 7 (dk_at dksX8_dawns_0 1 rfl rfl)
theorem dX8_dawns_4 : decode cX8_dawns 4 = .ok (.bipush 7, 2) := dk_16 7 (dk_at dksX8_dawns_0 4 rfl rfl)
theorem dX8_dawns_6 : decode cX8_dawns 6 = .ok (.iconst 1, 1) := dk_4 (dk_at dksX8_dawns_0 6 rfl rfl)
theorem dX8_dawns_7 : decode cX8_dawns 7 = .ok (.aload_n 0, 1) := dk_42 (dk_at dksX8_dawns_0 7 rfl rfl)
theorem dX8_dawns_8 : decode cX8_dawns 8 = .ok (.getfield 7, 3) := dk_180 0 7 (dk_at dksX8_dawns_0 8 rfl rfl)
theorem dX8_dawns_11 : decode cX8_dawns 11 = .ok (.iconst 2, 1) := dk_5 (dk_at dksX8_dawns_0 11 rfl rfl)
theorem dX8_dawns_12 : decode cX8_dawns 12 = .ok (.iaload, 1) := dk_46 (dk_at dksX8_dawns_0 12 rfl rfl)
theorem dX8_dawns_13 : decode cX8_dawns 13 = .ok (.ishl, 1) := dk_120 (dk_at dksX8_dawns_0 13 rfl rfl)
theorem dX8_dawns_14 : decode cX8_dawns 14 = .ok (.iconst 1, 1) := dk_4 (dk_at dksX8_dawns_0 14 rfl rfl)
theorem dX8_dawns_15 : decode cX8_dawns 15 = .ok (.isub, 1) := dk_100 (dk_at dksX8_dawns_0 15 rfl rfl)
theorem dX8_dawns_16 : decode cX8_dawns 16 = .ok (.iastore, 1) := dk_79 (dk_at dksX8_dawns_0 16 rfl rfl)
theorem dX8_dawns_17 : decode cX8_dawns 17 = .ok (.return_, 1) := dk_177 (dk_at dksX8_dawns_0 17 rfl rfl)
abbrev cX8_soonest : ByteArray := prog_17_method_128_code
def yX8_soonest : MethodName := ⟨RX8, "soonest", "(II)I"⟩
def dkwX8_soonest_2 : List UInt8 := [182, 0, 82, 172]
abbrev dktX8_soonest_2 : List UInt8 := dkwX8_soonest_2 ++ []
def dkwX8_soonest_1 : List UInt8 := [28, 182, 1, 134, 2, 160, 0, 12, 42, 16, 7, 182, 0, 78, 167, 0, 13, 42, 42, 27, 28, 182, 1, 134]
abbrev dktX8_soonest_1 : List UInt8 := dkwX8_soonest_1 ++ dktX8_soonest_2
def dkwX8_soonest_0 : List UInt8 := [42, 27, 182, 1, 15, 153, 0, 11, 42, 28, 182, 1, 9, 154, 0, 9, 42, 4, 182, 0, 78, 172, 42, 27]
abbrev dktX8_soonest_0 : List UInt8 := dkwX8_soonest_0 ++ dktX8_soonest_1
theorem dksX8_soonest_0 : cX8_soonest.data.toList.drop 0 = dktX8_soonest_0 := by decide +kernel
theorem dksX8_soonest_1 : cX8_soonest.data.toList.drop 24 = dktX8_soonest_1 := dk_seg dksX8_soonest_0 24 rfl rfl
theorem dksX8_soonest_2 : cX8_soonest.data.toList.drop 48 = dktX8_soonest_2 := dk_seg dksX8_soonest_1 24 rfl rfl
theorem dX8_soonest_0 : decode cX8_soonest 0 = .ok (.aload_n 0, 1) := dk_42 (dk_at dksX8_soonest_0 0 rfl rfl)
theorem dX8_soonest_1 : decode cX8_soonest 1 = .ok (.iload_n 1, 1) := dk_27 (dk_at dksX8_soonest_0 1 rfl rfl)
theorem dX8_soonest_2 : decode cX8_soonest 2 = .ok (.invokevirtual 271, 3) := dk_182 1 15 (dk_at dksX8_soonest_0 2 rfl rfl)
theorem dX8_soonest_5 : decode cX8_soonest 5 = .ok (.ifCond .eq 11, 3) := dk_153 0 11 (dk_at dksX8_soonest_0 5 rfl rfl)
theorem dX8_soonest_8 : decode cX8_soonest 8 = .ok (.aload_n 0, 1) := dk_42 (dk_at dksX8_soonest_0 8 rfl rfl)
theorem dX8_soonest_9 : decode cX8_soonest 9 = .ok (.iload_n 2, 1) := dk_28 (dk_at dksX8_soonest_0 9 rfl rfl)
theorem dX8_soonest_10 : decode cX8_soonest 10 = .ok (.invokevirtual 265, 3) := dk_182 1 9 (dk_at dksX8_soonest_0 10 rfl rfl)
theorem dX8_soonest_13 : decode cX8_soonest 13 = .ok (.ifCond .ne 9, 3) := dk_154 0 9 (dk_at dksX8_soonest_0 13 rfl rfl)
theorem dX8_soonest_16 : decode cX8_soonest 16 = .ok (.aload_n 0, 1) := dk_42 (dk_at dksX8_soonest_0 16 rfl rfl)
theorem dX8_soonest_17 : decode cX8_soonest 17 = .ok (.iconst 1, 1) := dk_4 (dk_at dksX8_soonest_0 17 rfl rfl)
theorem dX8_soonest_18 : decode cX8_soonest 18 = .ok (.invokevirtual 78, 3) := dk_182 0 78 (dk_at dksX8_soonest_0 18 rfl rfl)
theorem dX8_soonest_21 : decode cX8_soonest 21 = .ok (.ireturn, 1) := dk_172 (dk_at dksX8_soonest_0 21 rfl rfl)
theorem dX8_soonest_22 : decode cX8_soonest 22 = .ok (.aload_n 0, 1) := dk_42 (dk_at dksX8_soonest_0 22 rfl rfl)
theorem dX8_soonest_23 : decode cX8_soonest 23 = .ok (.iload_n 1, 1) := dk_27 (dk_at dksX8_soonest_0 23 rfl rfl)
theorem dX8_soonest_24 : decode cX8_soonest 24 = .ok (.iload_n 2, 1) := dk_28 (dk_at dksX8_soonest_1 0 rfl rfl)
theorem dX8_soonest_25 : decode cX8_soonest 25 = .ok (.invokevirtual 390, 3) := dk_182 1 134 (dk_at dksX8_soonest_1 1 rfl rfl)
theorem dX8_soonest_28 : decode cX8_soonest 28 = .ok (.iconst (-1), 1) := dk_2 (dk_at dksX8_soonest_1 4 rfl rfl)
theorem dX8_soonest_29 : decode cX8_soonest 29 = .ok (.if_icmp .ne 12, 3) := dk_160 0 12 (dk_at dksX8_soonest_1 5 rfl rfl)
theorem dX8_soonest_32 : decode cX8_soonest 32 = .ok (.aload_n 0, 1) := dk_42 (dk_at dksX8_soonest_1 8 rfl rfl)
theorem dX8_soonest_33 : decode cX8_soonest 33 = .ok (.bipush 7, 2) := dk_16 7 (dk_at dksX8_soonest_1 9 rfl rfl)
theorem dX8_soonest_35 : decode cX8_soonest 35 = .ok (.invokevirtual 78, 3) := dk_182 0 78 (dk_at dksX8_soonest_1 11 rfl rfl)
theorem dX8_soonest_38 : decode cX8_soonest 38 = .ok (.goto 13, 3) := dk_167 0 13 (dk_at dksX8_soonest_1 14 rfl rfl)
theorem dX8_soonest_41 : decode cX8_soonest 41 = .ok (.aload_n 0, 1) := dk_42 (dk_at dksX8_soonest_1 17 rfl rfl)
theorem dX8_soonest_42 : decode cX8_soonest 42 = .ok (.aload_n 0, 1) := dk_42 (dk_at dksX8_soonest_1 18 rfl rfl)
theorem dX8_soonest_43 : decode cX8_soonest 43 = .ok (.iload_n 1, 1) := dk_27 (dk_at dksX8_soonest_1 19 rfl rfl)
theorem dX8_soonest_44 : decode cX8_soonest 44 = .ok (.iload_n 2, 1) := dk_28 (dk_at dksX8_soonest_1 20 rfl rfl)
theorem dX8_soonest_45 : decode cX8_soonest 45 = .ok (.invokevirtual 390, 3) := dk_182 1 134 (dk_at dksX8_soonest_1 21 rfl rfl)
theorem dX8_soonest_48 : decode cX8_soonest 48 = .ok (.invokevirtual 82, 3) := dk_182 0 82 (dk_at dksX8_soonest_2 0 rfl rfl)
theorem dX8_soonest_51 : decode cX8_soonest 51 = .ok (.ireturn, 1) := dk_172 (dk_at dksX8_soonest_2 3 rfl rfl)
abbrev cX8_soonestOf : ByteArray := prog_17_method_127_code
def yX8_soonestOf : MethodName := ⟨RX8, "soonestOf", "(II)I"⟩
def dkwX8_soonestOf_3 : List UInt8 := [2, 167, 0, 4, 29, 172]
abbrev dktX8_soonestOf_3 : List UInt8 := dkwX8_soonestOf_3 ++ []
def dkwX8_soonestOf_2 : List UInt8 := [182, 1, 27, 96, 42, 27, 28, 182, 1, 131, 184, 1, 119, 62, 29, 42, 180, 0, 7, 6, 46, 164, 0, 7]
abbrev dktX8_soonestOf_2 : List UInt8 := dkwX8_soonestOf_2 ++ dktX8_soonestOf_3
def dkwX8_soonestOf_1 : List UInt8 := [42, 180, 0, 7, 27, 184, 1, 18, 6, 96, 46, 42, 27, 42, 180, 0, 7, 3, 28, 184, 0, 171, 46]
abbrev dktX8_soonestOf_1 : List UInt8 := dkwX8_soonestOf_1 ++ dktX8_soonestOf_2
def dkwX8_soonestOf_0 : List UInt8 := [42, 28, 182, 1, 12, 153, 0, 17, 42, 180, 0, 7, 27, 184, 1, 18, 5, 96, 46, 154, 0, 5, 2, 172]
abbrev dktX8_soonestOf_0 : List UInt8 := dkwX8_soonestOf_0 ++ dktX8_soonestOf_1
theorem dksX8_soonestOf_0 : cX8_soonestOf.data.toList.drop 0 = dktX8_soonestOf_0 := by decide +kernel
theorem dksX8_soonestOf_1 : cX8_soonestOf.data.toList.drop 24 = dktX8_soonestOf_1 := dk_seg dksX8_soonestOf_0 24 rfl rfl
theorem dksX8_soonestOf_2 : cX8_soonestOf.data.toList.drop 47 = dktX8_soonestOf_2 := dk_seg dksX8_soonestOf_1 23 rfl rfl
theorem dksX8_soonestOf_3 : cX8_soonestOf.data.toList.drop 71 = dktX8_soonestOf_3 := dk_seg dksX8_soonestOf_2 24 rfl rfl
theorem dX8_soonestOf_0 : decode cX8_soonestOf 0 = .ok (.aload_n 0, 1) := dk_42 (dk_at dksX8_soonestOf_0 0 rfl rfl)
theorem dX8_soonestOf_1 : decode cX8_soonestOf 1 = .ok (.iload_n 2, 1) := dk_28 (dk_at dksX8_soonestOf_0 1 rfl rfl)
theorem dX8_soonestOf_2 : decode cX8_soonestOf 2 = .ok (.invokevirtual 268, 3) := dk_182 1 12 (dk_at dksX8_soonestOf_0 2 rfl rfl)
theorem dX8_soonestOf_5 : decode cX8_soonestOf 5 = .ok (.ifCond .eq 17, 3) := dk_153 0 17 (dk_at dksX8_soonestOf_0 5 rfl rfl)
theorem dX8_soonestOf_8 : decode cX8_soonestOf 8 = .ok (.aload_n 0, 1) := dk_42 (dk_at dksX8_soonestOf_0 8 rfl rfl)
theorem dX8_soonestOf_9 : decode cX8_soonestOf 9 = .ok (.getfield 7, 3) := dk_180 0 7 (dk_at dksX8_soonestOf_0 9 rfl rfl)
theorem dX8_soonestOf_12 : decode cX8_soonestOf 12 = .ok (.iload_n 1, 1) := dk_27 (dk_at dksX8_soonestOf_0 12 rfl rfl)
theorem dX8_soonestOf_13 : decode cX8_soonestOf 13 = .ok (.invokestatic 274, 3) := dk_184 1 18 (dk_at dksX8_soonestOf_0 13 rfl rfl)
theorem dX8_soonestOf_16 : decode cX8_soonestOf 16 = .ok (.iconst 2, 1) := dk_5 (dk_at dksX8_soonestOf_0 16 rfl rfl)
theorem dX8_soonestOf_17 : decode cX8_soonestOf 17 = .ok (.iadd, 1) := dk_96 (dk_at dksX8_soonestOf_0 17 rfl rfl)
theorem dX8_soonestOf_18 : decode cX8_soonestOf 18 = .ok (.iaload, 1) := dk_46 (dk_at dksX8_soonestOf_0 18 rfl rfl)
theorem dX8_soonestOf_19 : decode cX8_soonestOf 19 = .ok (.ifCond .ne 5, 3) := dk_154 0 5 (dk_at dksX8_soonestOf_0 19 rfl rfl)
theorem dX8_soonestOf_22 : decode cX8_soonestOf 22 = .ok (.iconst (-1), 1) := dk_2 (dk_at dksX8_soonestOf_0 22 rfl rfl)
theorem dX8_soonestOf_23 : decode cX8_soonestOf 23 = .ok (.ireturn, 1) := dk_172 (dk_at dksX8_soonestOf_0 23 rfl rfl)
theorem dX8_soonestOf_24 : decode cX8_soonestOf 24 = .ok (.aload_n 0, 1) := dk_42 (dk_at dksX8_soonestOf_1 0 rfl rfl)
theorem dX8_soonestOf_25 : decode cX8_soonestOf 25 = .ok (.getfield 7, 3) := dk_180 0 7 (dk_at dksX8_soonestOf_1 1 rfl rfl)
theorem dX8_soonestOf_28 : decode cX8_soonestOf 28 = .ok (.iload_n 1, 1) := dk_27 (dk_at dksX8_soonestOf_1 4 rfl rfl)
theorem dX8_soonestOf_29 : decode cX8_soonestOf 29 = .ok (.invokestatic 274, 3) := dk_184 1 18 (dk_at dksX8_soonestOf_1 5 rfl rfl)
theorem dX8_soonestOf_32 : decode cX8_soonestOf 32 = .ok (.iconst 3, 1) := dk_6 (dk_at dksX8_soonestOf_1 8 rfl rfl)
theorem dX8_soonestOf_33 : decode cX8_soonestOf 33 = .ok (.iadd, 1) := dk_96 (dk_at dksX8_soonestOf_1 9 rfl rfl)
theorem dX8_soonestOf_34 : decode cX8_soonestOf 34 = .ok (.iaload, 1) := dk_46 (dk_at dksX8_soonestOf_1 10 rfl rfl)
theorem dX8_soonestOf_35 : decode cX8_soonestOf 35 = .ok (.aload_n 0, 1) := dk_42 (dk_at dksX8_soonestOf_1 11 rfl rfl)
theorem dX8_soonestOf_36 : decode cX8_soonestOf 36 = .ok (.iload_n 1, 1) := dk_27 (dk_at dksX8_soonestOf_1 12 rfl rfl)
theorem dX8_soonestOf_37 : decode cX8_soonestOf 37 = .ok (.aload_n 0, 1) := dk_42 (dk_at dksX8_soonestOf_1 13 rfl rfl)
theorem dX8_soonestOf_38 : decode cX8_soonestOf 38 = .ok (.getfield 7, 3) := dk_180 0 7 (dk_at dksX8_soonestOf_1 14 rfl rfl)
theorem dX8_soonestOf_41 : decode cX8_soonestOf 41 = .ok (.iconst 0, 1) := dk_3 (dk_at dksX8_soonestOf_1 17 rfl rfl)
theorem dX8_soonestOf_42 : decode cX8_soonestOf 42 = .ok (.iload_n 2, 1) := dk_28 (dk_at dksX8_soonestOf_1 18 rfl rfl)
theorem dX8_soonestOf_43 : decode cX8_soonestOf 43 = .ok (.invokestatic 171, 3) := dk_184 0 171 (dk_at dksX8_soonestOf_1 19 rfl rfl)
theorem dX8_soonestOf_46 : decode cX8_soonestOf 46 = .ok (.iaload, 1) := dk_46 (dk_at dksX8_soonestOf_1 22 rfl rfl)
theorem dX8_soonestOf_47 : decode cX8_soonestOf 47 = .ok (.invokevirtual 283, 3) := dk_182 1 27 (dk_at dksX8_soonestOf_2 0 rfl rfl)
theorem dX8_soonestOf_50 : decode cX8_soonestOf 50 = .ok (.iadd, 1) := dk_96 (dk_at dksX8_soonestOf_2 3 rfl rfl)
theorem dX8_soonestOf_51 : decode cX8_soonestOf 51 = .ok (.aload_n 0, 1) := dk_42 (dk_at dksX8_soonestOf_2 4 rfl rfl)
theorem dX8_soonestOf_52 : decode cX8_soonestOf 52 = .ok (.iload_n 1, 1) := dk_27 (dk_at dksX8_soonestOf_2 5 rfl rfl)
theorem dX8_soonestOf_53 : decode cX8_soonestOf 53 = .ok (.iload_n 2, 1) := dk_28 (dk_at dksX8_soonestOf_2 6 rfl rfl)
theorem dX8_soonestOf_54 : decode cX8_soonestOf 54 = .ok (.invokevirtual 387, 3) := dk_182 1 131 (dk_at dksX8_soonestOf_2 7 rfl rfl)
theorem dX8_soonestOf_57 : decode cX8_soonestOf 57 = .ok (.invokestatic 375, 3) := dk_184 1 119 (dk_at dksX8_soonestOf_2 10 rfl rfl)
theorem dX8_soonestOf_60 : decode cX8_soonestOf 60 = .ok (.istore_n 3, 1) := dk_62 (dk_at dksX8_soonestOf_2 13 rfl rfl)
theorem dX8_soonestOf_61 : decode cX8_soonestOf 61 = .ok (.iload_n 3, 1) := dk_29 (dk_at dksX8_soonestOf_2 14 rfl rfl)
theorem dX8_soonestOf_62 : decode cX8_soonestOf 62 = .ok (.aload_n 0, 1) := dk_42 (dk_at dksX8_soonestOf_2 15 rfl rfl)
theorem dX8_soonestOf_63 : decode cX8_soonestOf 63 = .ok (.getfield 7, 3) := dk_180 0 7 (dk_at dksX8_soonestOf_2 16 rfl rfl)
theorem dX8_soonestOf_66 : decode cX8_soonestOf 66 = .ok (.iconst 3, 1) := dk_6 (dk_at dksX8_soonestOf_2 19 rfl rfl)
theorem dX8_soonestOf_67 : decode cX8_soonestOf 67 = .ok (.iaload, 1) := dk_46 (dk_at dksX8_soonestOf_2 20 rfl rfl)
theorem dX8_soonestOf_68 : decode cX8_soonestOf 68 = .ok (.if_icmp .le 7, 3) := dk_164 0 7 (dk_at dksX8_soonestOf_2 21 rfl rfl)
theorem dX8_soonestOf_71 : decode cX8_soonestOf 71 = .ok (.iconst (-1), 1) := dk_2 (dk_at dksX8_soonestOf_3 0 rfl rfl)
theorem dX8_soonestOf_72 : decode cX8_soonestOf 72 = .ok (.goto 4, 3) := dk_167 0 4 (dk_at dksX8_soonestOf_3 1 rfl rfl)
theorem dX8_soonestOf_75 : decode cX8_soonestOf 75 = .ok (.iload_n 3, 1) := dk_29 (dk_at dksX8_soonestOf_3 4 rfl rfl)
theorem dX8_soonestOf_76 : decode cX8_soonestOf 76 = .ok (.ireturn, 1) := dk_172 (dk_at dksX8_soonestOf_3 5 rfl rfl)
abbrev cX8_behindOthers : ByteArray := prog_17_method_126_code
def yX8_behindOthers : MethodName := ⟨RX8, "behindOthers", "(II)I"⟩
def dkwX8_behindOthers_2 : List UInt8 := [172]
abbrev dktX8_behindOthers_2 : List UInt8 := dkwX8_behindOthers_2 ++ []
def dkwX8_behindOthers_1 : List UInt8 := [159, 0, 17, 29, 42, 28, 21, 4, 182, 1, 58, 4, 96, 184, 1, 119, 62, 132, 4, 1, 167, 255, 218, 29]
abbrev dktX8_behindOthers_1 : List UInt8 := dkwX8_behindOthers_1 ++ dktX8_behindOthers_2
def dkwX8_behindOthers_0 : List UInt8 := [3, 62, 3, 54, 4, 21, 4, 42, 28, 182, 1, 21, 162, 0, 34, 42, 28, 21, 4, 182, 1, 52, 27]
abbrev dktX8_behindOthers_0 : List UInt8 := dkwX8_behindOthers_0 ++ dktX8_behindOthers_1
theorem dksX8_behindOthers_0 : cX8_behindOthers.data.toList.drop 0 = dktX8_behindOthers_0 := by decide +kernel
theorem dksX8_behindOthers_1 : cX8_behindOthers.data.toList.drop 23 = dktX8_behindOthers_1 := dk_seg dksX8_behindOthers_0 23 rfl rfl
theorem dksX8_behindOthers_2 : cX8_behindOthers.data.toList.drop 47 = dktX8_behindOthers_2 := dk_seg dksX8_behindOthers_1 24 rfl rfl
theorem dX8_behindOthers_0 : decode cX8_behindOthers 0 = .ok (.iconst 0, 1) := dk_3 (dk_at dksX8_behindOthers_0 0 rfl rfl)
theorem dX8_behindOthers_1 : decode cX8_behindOthers 1 = .ok (.istore_n 3, 1) := dk_62 (dk_at dksX8_behindOthers_0 1 rfl rfl)
theorem dX8_behindOthers_2 : decode cX8_behindOthers 2 = .ok (.iconst 0, 1) := dk_3 (dk_at dksX8_behindOthers_0 2 rfl rfl)
theorem dX8_behindOthers_3 : decode cX8_behindOthers 3 = .ok (.istore 4, 2) := dk_54 4 (dk_at dksX8_behindOthers_0 3 rfl rfl)
theorem dX8_behindOthers_5 : decode cX8_behindOthers 5 = .ok (.iload 4, 2) := dk_21 4 (dk_at dksX8_behindOthers_0 5 rfl rfl)
theorem dX8_behindOthers_7 : decode cX8_behindOthers 7 = .ok (.aload_n 0, 1) := dk_42 (dk_at dksX8_behindOthers_0 7 rfl rfl)
theorem dX8_behindOthers_8 : decode cX8_behindOthers 8 = .ok (.iload_n 2, 1) := dk_28 (dk_at dksX8_behindOthers_0 8 rfl rfl)
theorem dX8_behindOthers_9 : decode cX8_behindOthers 9 = .ok (.invokevirtual 277, 3) := dk_182 1 21 (dk_at dksX8_behindOthers_0 9 rfl rfl)
theorem dX8_behindOthers_12 : decode cX8_behindOthers 12 = .ok (.if_icmp .ge 34, 3) := dk_162 0 34 (dk_at dksX8_behindOthers_0 12 rfl rfl)
theorem dX8_behindOthers_15 : decode cX8_behindOthers 15 = .ok (.aload_n 0, 1) := dk_42 (dk_at dksX8_behindOthers_0 15 rfl rfl)
theorem dX8_behindOthers_16 : decode cX8_behindOthers 16 = .ok (.iload_n 2, 1) := dk_28 (dk_at dksX8_behindOthers_0 16 rfl rfl)
theorem dX8_behindOthers_17 : decode cX8_behindOthers 17 = .ok (.iload 4, 2) := dk_21 4 (dk_at dksX8_behindOthers_0 17 rfl rfl)
theorem dX8_behindOthers_19 : decode cX8_behindOthers 19 = .ok (.invokevirtual 308, 3) := dk_182 1 52 (dk_at dksX8_behindOthers_0 19 rfl rfl)
theorem dX8_behindOthers_22 : decode cX8_behindOthers 22 = .ok (.iload_n 1, 1) := dk_27 (dk_at dksX8_behindOthers_0 22 rfl rfl)
theorem dX8_behindOthers_23 : decode cX8_behindOthers 23 = .ok (.if_icmp .eq 17, 3) := dk_159 0 17 (dk_at dksX8_behindOthers_1 0 rfl rfl)
theorem dX8_behindOthers_26 : decode cX8_behindOthers 26 = .ok (.iload_n 3, 1) := dk_29 (dk_at dksX8_behindOthers_1 3 rfl rfl)
theorem dX8_behindOthers_27 : decode cX8_behindOthers 27 = .ok (.aload_n 0, 1) := dk_42 (dk_at dksX8_behindOthers_1 4 rfl rfl)
theorem dX8_behindOthers_28 : decode cX8_behindOthers 28 = .ok (.iload_n 2, 1) := dk_28 (dk_at dksX8_behindOthers_1 5 rfl rfl)
theorem dX8_behindOthers_29 : decode cX8_behindOthers 29 = .ok (.iload 4, 2) := dk_21 4 (dk_at dksX8_behindOthers_1 6 rfl rfl)
theorem dX8_behindOthers_31 : decode cX8_behindOthers 31 = .ok (.invokevirtual 314, 3) := dk_182 1 58 (dk_at dksX8_behindOthers_1 8 rfl rfl)
theorem dX8_behindOthers_34 : decode cX8_behindOthers 34 = .ok (.iconst 1, 1) := dk_4 (dk_at dksX8_behindOthers_1 11 rfl rfl)
theorem dX8_behindOthers_35 : decode cX8_behindOthers 35 = .ok (.iadd, 1) := dk_96 (dk_at dksX8_behindOthers_1 12 rfl rfl)
theorem dX8_behindOthers_36 : decode cX8_behindOthers 36 = .ok (.invokestatic 375, 3) := dk_184 1 119 (dk_at dksX8_behindOthers_1 13 rfl rfl)
theorem dX8_behindOthers_39 : decode cX8_behindOthers 39 = .ok (.istore_n 3, 1) := dk_62 (dk_at dksX8_behindOthers_1 16 rfl rfl)
theorem dX8_behindOthers_40 : decode cX8_behindOthers 40 = .ok (.iinc 4 1, 3) := dk_132 4 1 (dk_at dksX8_behindOthers_1 17 rfl rfl)
theorem dX8_behindOthers_43 : decode cX8_behindOthers 43 = .ok (.goto (-38), 3) := dk_167 255 218 (dk_at dksX8_behindOthers_1 20 rfl rfl)
theorem dX8_behindOthers_46 : decode cX8_behindOthers 46 = .ok (.iload_n 3, 1) := dk_29 (dk_at dksX8_behindOthers_1 23 rfl rfl)
theorem dX8_behindOthers_47 : decode cX8_behindOthers 47 = .ok (.ireturn, 1) := dk_172 (dk_at dksX8_behindOthers_2 0 rfl rfl)
abbrev cX8_threat : ByteArray := prog_17_method_130_code
def yX8_threat : MethodName := ⟨RX8, "threat", "(I)I"⟩
def dkwX8_threat_1 : List UInt8 := [182, 0, 82, 172]
abbrev dktX8_threat_1 : List UInt8 := dkwX8_threat_1 ++ []
def dkwX8_threat_0 : List UInt8 := [42, 27, 182, 1, 93, 61, 28, 158, 0, 11, 42, 28, 182, 0, 78, 167, 0, 12, 42, 42, 27, 182, 1, 137]
abbrev dktX8_threat_0 : List UInt8 := dkwX8_threat_0 ++ dktX8_threat_1
theorem dksX8_threat_0 : cX8_threat.data.toList.drop 0 = dktX8_threat_0 := by decide +kernel
theorem dksX8_threat_1 : cX8_threat.data.toList.drop 24 = dktX8_threat_1 := dk_seg dksX8_threat_0 24 rfl rfl
theorem dX8_threat_0 : decode cX8_threat 0 = .ok (.aload_n 0, 1) := dk_42 (dk_at dksX8_threat_0 0 rfl rfl)
theorem dX8_threat_1 : decode cX8_threat 1 = .ok (.iload_n 1, 1) := dk_27 (dk_at dksX8_threat_0 1 rfl rfl)
theorem dX8_threat_2 : decode cX8_threat 2 = .ok (.invokevirtual 349, 3) := dk_182 1 93 (dk_at dksX8_threat_0 2 rfl rfl)
theorem dX8_threat_5 : decode cX8_threat 5 = .ok (.istore_n 2, 1) := dk_61 (dk_at dksX8_threat_0 5 rfl rfl)
theorem dX8_threat_6 : decode cX8_threat 6 = .ok (.iload_n 2, 1) := dk_28 (dk_at dksX8_threat_0 6 rfl rfl)
theorem dX8_threat_7 : decode cX8_threat 7 = .ok (.ifCond .le 11, 3) := dk_158 0 11 (dk_at dksX8_threat_0 7 rfl rfl)
theorem dX8_threat_10 : decode cX8_threat 10 = .ok (.aload_n 0, 1) := dk_42 (dk_at dksX8_threat_0 10 rfl rfl)
theorem dX8_threat_11 : decode cX8_threat 11 = .ok (.iload_n 2, 1) := dk_28 (dk_at dksX8_threat_0 11 rfl rfl)
theorem dX8_threat_12 : decode cX8_threat 12 = .ok (.invokevirtual 78, 3) := dk_182 0 78 (dk_at dksX8_threat_0 12 rfl rfl)
theorem dX8_threat_15 : decode cX8_threat 15 = .ok (.goto 12, 3) := dk_167 0 12 (dk_at dksX8_threat_0 15 rfl rfl)
theorem dX8_threat_18 : decode cX8_threat 18 = .ok (.aload_n 0, 1) := dk_42 (dk_at dksX8_threat_0 18 rfl rfl)
theorem dX8_threat_19 : decode cX8_threat 19 = .ok (.aload_n 0, 1) := dk_42 (dk_at dksX8_threat_0 19 rfl rfl)
theorem dX8_threat_20 : decode cX8_threat 20 = .ok (.iload_n 1, 1) := dk_27 (dk_at dksX8_threat_0 20 rfl rfl)
theorem dX8_threat_21 : decode cX8_threat 21 = .ok (.invokevirtual 393, 3) := dk_182 1 137 (dk_at dksX8_threat_0 21 rfl rfl)
theorem dX8_threat_24 : decode cX8_threat 24 = .ok (.invokevirtual 82, 3) := dk_182 0 82 (dk_at dksX8_threat_1 0 rfl rfl)
theorem dX8_threat_27 : decode cX8_threat 27 = .ok (.ireturn, 1) := dk_172 (dk_at dksX8_threat_1 3 rfl rfl)
abbrev cX8_threatTo : ByteArray := prog_17_method_129_code
def yX8_threatTo : MethodName := ⟨RX8, "threatTo", "(I)I"⟩
def dkwX8_threatTo_1 : List UInt8 := [160, 0, 7, 3, 167, 0, 6, 4, 29, 120, 128, 61, 132, 3, 1, 167, 255, 223, 28, 172]
abbrev dktX8_threatTo_1 : List UInt8 := dkwX8_threatTo_1 ++ []
def dkwX8_threatTo_0 : List UInt8 := [3, 61, 3, 62, 29, 42, 180, 0, 7, 4, 46, 162, 0, 29, 28, 42, 29, 27, 182, 1, 134, 2]
abbrev dktX8_threatTo_0 : List UInt8 := dkwX8_threatTo_0 ++ dktX8_threatTo_1
theorem dksX8_threatTo_0 : cX8_threatTo.data.toList.drop 0 = dktX8_threatTo_0 := by decide +kernel
theorem dksX8_threatTo_1 : cX8_threatTo.data.toList.drop 22 = dktX8_threatTo_1 := dk_seg dksX8_threatTo_0 22 rfl rfl
theorem dX8_threatTo_0 : decode cX8_threatTo 0 = .ok (.iconst 0, 1) := dk_3 (dk_at dksX8_threatTo_0 0 rfl rfl)
theorem dX8_threatTo_1 : decode cX8_threatTo 1 = .ok (.istore_n 2, 1) := dk_61 (dk_at dksX8_threatTo_0 1 rfl rfl)
theorem dX8_threatTo_2 : decode cX8_threatTo 2 = .ok (.iconst 0, 1) := dk_3 (dk_at dksX8_threatTo_0 2 rfl rfl)
theorem dX8_threatTo_3 : decode cX8_threatTo 3 = .ok (.istore_n 3, 1) := dk_62 (dk_at dksX8_threatTo_0 3 rfl rfl)
theorem dX8_threatTo_4 : decode cX8_threatTo 4 = .ok (.iload_n 3, 1) := dk_29 (dk_at dksX8_threatTo_0 4 rfl rfl)
theorem dX8_threatTo_5 : decode cX8_threatTo 5 = .ok (.aload_n 0, 1) := dk_42 (dk_at dksX8_threatTo_0 5 rfl rfl)
theorem dX8_threatTo_6 : decode cX8_threatTo 6 = .ok (.getfield 7, 3) := dk_180 0 7 (dk_at dksX8_threatTo_0 6 rfl rfl)
theorem dX8_threatTo_9 : decode cX8_threatTo 9 = .ok (.iconst 1, 1) := dk_4 (dk_at dksX8_threatTo_0 9 rfl rfl)
theorem dX8_threatTo_10 : decode cX8_threatTo 10 = .ok (.iaload, 1) := dk_46 (dk_at dksX8_threatTo_0 10 rfl rfl)
theorem dX8_threatTo_11 : decode cX8_threatTo 11 = .ok (.if_icmp .ge 29, 3) := dk_162 0 29 (dk_at dksX8_threatTo_0 11 rfl rfl)
theorem dX8_threatTo_14 : decode cX8_threatTo 14 = .ok (.iload_n 2, 1) := dk_28 (dk_at dksX8_threatTo_0 14 rfl rfl)
theorem dX8_threatTo_15 : decode cX8_threatTo 15 = .ok (.aload_n 0, 1) := dk_42 (dk_at dksX8_threatTo_0 15 rfl rfl)
theorem dX8_threatTo_16 : decode cX8_threatTo 16 = .ok (.iload_n 3, 1) := dk_29 (dk_at dksX8_threatTo_0 16 rfl rfl)
theorem dX8_threatTo_17 : decode cX8_threatTo 17 = .ok (.iload_n 1, 1) := dk_27 (dk_at dksX8_threatTo_0 17 rfl rfl)
theorem dX8_threatTo_18 : decode cX8_threatTo 18 = .ok (.invokevirtual 390, 3) := dk_182 1 134 (dk_at dksX8_threatTo_0 18 rfl rfl)
theorem dX8_threatTo_21 : decode cX8_threatTo 21 = .ok (.iconst (-1), 1) := dk_2 (dk_at dksX8_threatTo_0 21 rfl rfl)
theorem dX8_threatTo_22 : decode cX8_threatTo 22 = .ok (.if_icmp .ne 7, 3) := dk_160 0 7 (dk_at dksX8_threatTo_1 0 rfl rfl)
theorem dX8_threatTo_25 : decode cX8_threatTo 25 = .ok (.iconst 0, 1) := dk_3 (dk_at dksX8_threatTo_1 3 rfl rfl)
theorem dX8_threatTo_26 : decode cX8_threatTo 26 = .ok (.goto 6, 3) := dk_167 0 6 (dk_at dksX8_threatTo_1 4 rfl rfl)
theorem dX8_threatTo_29 : decode cX8_threatTo 29 = .ok (.iconst 1, 1) := dk_4 (dk_at dksX8_threatTo_1 7 rfl rfl)
theorem dX8_threatTo_30 : decode cX8_threatTo 30 = .ok (.iload_n 3, 1) := dk_29 (dk_at dksX8_threatTo_1 8 rfl rfl)
theorem dX8_threatTo_31 : decode cX8_threatTo 31 = .ok (.ishl, 1) := dk_120 (dk_at dksX8_threatTo_1 9 rfl rfl)
theorem dX8_threatTo_32 : decode cX8_threatTo 32 = .ok (.ior, 1) := dk_128 (dk_at dksX8_threatTo_1 10 rfl rfl)
theorem dX8_threatTo_33 : decode cX8_threatTo 33 = .ok (.istore_n 2, 1) := dk_61 (dk_at dksX8_threatTo_1 11 rfl rfl)
theorem dX8_threatTo_34 : decode cX8_threatTo 34 = .ok (.iinc 3 1, 3) := dk_132 3 1 (dk_at dksX8_threatTo_1 12 rfl rfl)
theorem dX8_threatTo_37 : decode cX8_threatTo 37 = .ok (.goto (-33), 3) := dk_167 255 223 (dk_at dksX8_threatTo_1 15 rfl rfl)
theorem dX8_threatTo_40 : decode cX8_threatTo 40 = .ok (.iload_n 2, 1) := dk_28 (dk_at dksX8_threatTo_1 18 rfl rfl)
theorem dX8_threatTo_41 : decode cX8_threatTo 41 = .ok (.ireturn, 1) := dk_172 (dk_at dksX8_threatTo_1 19 rfl rfl)
abbrev cX8_safe : ByteArray := prog_17_method_131_code
def yX8_safe : MethodName := ⟨RX8, "safe", "(I)I"⟩
def dkwX8_safe_3 : List UInt8 := [132, 3, 1, 167, 255, 200, 42, 28, 182, 0, 82, 172]
abbrev dktX8_safe_3 : List UInt8 := dkwX8_safe_3 ++ []
def dkwX8_safe_2 : List UInt8 := [42, 29, 182, 1, 137, 4, 27, 120, 2, 130, 126, 154, 0, 9, 4, 29, 120, 167, 0, 4, 3, 128, 61]
abbrev dktX8_safe_2 : List UInt8 := dkwX8_safe_2 ++ dktX8_safe_3
def dkwX8_safe_1 : List UInt8 := [46, 162, 0, 52, 28, 42, 29, 182, 1, 12, 153, 0, 34, 42, 29, 182, 1, 81, 4, 27, 120, 160, 0, 23]
abbrev dktX8_safe_1 : List UInt8 := dkwX8_safe_1 ++ dktX8_safe_2
def dkwX8_safe_0 : List UInt8 := [42, 27, 182, 1, 15, 154, 0, 9, 42, 4, 182, 0, 78, 172, 3, 61, 3, 62, 29, 42, 180, 0, 7, 5]
abbrev dktX8_safe_0 : List UInt8 := dkwX8_safe_0 ++ dktX8_safe_1
theorem dksX8_safe_0 : cX8_safe.data.toList.drop 0 = dktX8_safe_0 := by decide +kernel
theorem dksX8_safe_1 : cX8_safe.data.toList.drop 24 = dktX8_safe_1 := dk_seg dksX8_safe_0 24 rfl rfl
theorem dksX8_safe_2 : cX8_safe.data.toList.drop 48 = dktX8_safe_2 := dk_seg dksX8_safe_1 24 rfl rfl
theorem dksX8_safe_3 : cX8_safe.data.toList.drop 71 = dktX8_safe_3 := dk_seg dksX8_safe_2 23 rfl rfl
theorem dX8_safe_0 : decode cX8_safe 0 = .ok (.aload_n 0, 1) := dk_42 (dk_at dksX8_safe_0 0 rfl rfl)
theorem dX8_safe_1 : decode cX8_safe 1 = .ok (.iload_n 1, 1) := dk_27 (dk_at dksX8_safe_0 1 rfl rfl)
theorem dX8_safe_2 : decode cX8_safe 2 = .ok (.invokevirtual 271, 3) := dk_182 1 15 (dk_at dksX8_safe_0 2 rfl rfl)
theorem dX8_safe_5 : decode cX8_safe 5 = .ok (.ifCond .ne 9, 3) := dk_154 0 9 (dk_at dksX8_safe_0 5 rfl rfl)
theorem dX8_safe_8 : decode cX8_safe 8 = .ok (.aload_n 0, 1) := dk_42 (dk_at dksX8_safe_0 8 rfl rfl)
theorem dX8_safe_9 : decode cX8_safe 9 = .ok (.iconst 1, 1) := dk_4 (dk_at dksX8_safe_0 9 rfl rfl)
theorem dX8_safe_10 : decode cX8_safe 10 = .ok (.invokevirtual 78, 3) := dk_182 0 78 (dk_at dksX8_safe_0 10 rfl rfl)
theorem dX8_safe_13 : decode cX8_safe 13 = .ok (.ireturn, 1) := dk_172 (dk_at dksX8_safe_0 13 rfl rfl)
theorem dX8_safe_14 : decode cX8_safe 14 = .ok (.iconst 0, 1) := dk_3 (dk_at dksX8_safe_0 14 rfl rfl)
theorem dX8_safe_15 : decode cX8_safe 15 = .ok (.istore_n 2, 1) := dk_61 (dk_at dksX8_safe_0 15 rfl rfl)
theorem dX8_safe_16 : decode cX8_safe 16 = .ok (.iconst 0, 1) := dk_3 (dk_at dksX8_safe_0 16 rfl rfl)
theorem dX8_safe_17 : decode cX8_safe 17 = .ok (.istore_n 3, 1) := dk_62 (dk_at dksX8_safe_0 17 rfl rfl)
theorem dX8_safe_18 : decode cX8_safe 18 = .ok (.iload_n 3, 1) := dk_29 (dk_at dksX8_safe_0 18 rfl rfl)
theorem dX8_safe_19 : decode cX8_safe 19 = .ok (.aload_n 0, 1) := dk_42 (dk_at dksX8_safe_0 19 rfl rfl)
theorem dX8_safe_20 : decode cX8_safe 20 = .ok (.getfield 7, 3) := dk_180 0 7 (dk_at dksX8_safe_0 20 rfl rfl)
theorem dX8_safe_23 : decode cX8_safe 23 = .ok (.iconst 2, 1) := dk_5 (dk_at dksX8_safe_0 23 rfl rfl)
theorem dX8_safe_24 : decode cX8_safe 24 = .ok (.iaload, 1) := dk_46 (dk_at dksX8_safe_1 0 rfl rfl)
theorem dX8_safe_25 : decode cX8_safe 25 = .ok (.if_icmp .ge 52, 3) := dk_162 0 52 (dk_at dksX8_safe_1 1 rfl rfl)
theorem dX8_safe_28 : decode cX8_safe 28 = .ok (.iload_n 2, 1) := dk_28 (dk_at dksX8_safe_1 4 rfl rfl)
theorem dX8_safe_29 : decode cX8_safe 29 = .ok (.aload_n 0, 1) := dk_42 (dk_at dksX8_safe_1 5 rfl rfl)
theorem dX8_safe_30 : decode cX8_safe 30 = .ok (.iload_n 3, 1) := dk_29 (dk_at dksX8_safe_1 6 rfl rfl)
theorem dX8_safe_31 : decode cX8_safe 31 = .ok (.invokevirtual 268, 3) := dk_182 1 12 (dk_at dksX8_safe_1 7 rfl rfl)
theorem dX8_safe_34 : decode cX8_safe 34 = .ok (.ifCond .eq 34, 3) := dk_153 0 34 (dk_at dksX8_safe_1 10 rfl rfl)
theorem dX8_safe_37 : decode cX8_safe 37 = .ok (.aload_n 0, 1) := dk_42 (dk_at dksX8_safe_1 13 rfl rfl)
theorem dX8_safe_38 : decode cX8_safe 38 = .ok (.iload_n 3, 1) := dk_29 (dk_at dksX8_safe_1 14 rfl rfl)
theorem dX8_safe_39 : decode cX8_safe 39 = .ok (.invokevirtual 337, 3) := dk_182 1 81 (dk_at dksX8_safe_1 15 rfl rfl)
theorem dX8_safe_42 : decode cX8_safe 42 = .ok (.iconst 1, 1) := dk_4 (dk_at dksX8_safe_1 18 rfl rfl)
theorem dX8_safe_43 : decode cX8_safe 43 = .ok (.iload_n 1, 1) := dk_27 (dk_at dksX8_safe_1 19 rfl rfl)
theorem dX8_safe_44 : decode cX8_safe 44 = .ok (.ishl, 1) := dk_120 (dk_at dksX8_safe_1 20 rfl rfl)
theorem dX8_safe_45 : decode cX8_safe 45 = .ok (.if_icmp .ne 23, 3) := dk_160 0 23 (dk_at dksX8_safe_1 21 rfl rfl)
theorem dX8_safe_48 : decode cX8_safe 48 = .ok (.aload_n 0, 1) := dk_42 (dk_at dksX8_safe_2 0 rfl rfl)
theorem dX8_safe_49 : decode cX8_safe 49 = .ok (.iload_n 3, 1) := dk_29 (dk_at dksX8_safe_2 1 rfl rfl)
theorem dX8_safe_50 : decode cX8_safe 50 = .ok (.invokevirtual 393, 3) := dk_182 1 137 (dk_at dksX8_safe_2 2 rfl rfl)
theorem dX8_safe_53 : decode cX8_safe 53 = .ok (.iconst 1, 1) := dk_4 (dk_at dksX8_safe_2 5 rfl rfl)
theorem dX8_safe_54 : decode cX8_safe 54 = .ok (.iload_n 1, 1) := dk_27 (dk_at dksX8_safe_2 6 rfl rfl)
theorem dX8_safe_55 : decode cX8_safe 55 = .ok (.ishl, 1) := dk_120 (dk_at dksX8_safe_2 7 rfl rfl)
theorem dX8_safe_56 : decode cX8_safe 56 = .ok (.iconst (-1), 1) := dk_2 (dk_at dksX8_safe_2 8 rfl rfl)
theorem dX8_safe_57 : decode cX8_safe 57 = .ok (.ixor, 1) := dk_130 (dk_at dksX8_safe_2 9 rfl rfl)
theorem dX8_safe_58 : decode cX8_safe 58 = .ok (.iand, 1) := dk_126 (dk_at dksX8_safe_2 10 rfl rfl)
theorem dX8_safe_59 : decode cX8_safe 59 = .ok (.ifCond .ne 9, 3) := dk_154 0 9 (dk_at dksX8_safe_2 11 rfl rfl)
theorem dX8_safe_62 : decode cX8_safe 62 = .ok (.iconst 1, 1) := dk_4 (dk_at dksX8_safe_2 14 rfl rfl)
theorem dX8_safe_63 : decode cX8_safe 63 = .ok (.iload_n 3, 1) := dk_29 (dk_at dksX8_safe_2 15 rfl rfl)
theorem dX8_safe_64 : decode cX8_safe 64 = .ok (.ishl, 1) := dk_120 (dk_at dksX8_safe_2 16 rfl rfl)
theorem dX8_safe_65 : decode cX8_safe 65 = .ok (.goto 4, 3) := dk_167 0 4 (dk_at dksX8_safe_2 17 rfl rfl)
theorem dX8_safe_68 : decode cX8_safe 68 = .ok (.iconst 0, 1) := dk_3 (dk_at dksX8_safe_2 20 rfl rfl)
theorem dX8_safe_69 : decode cX8_safe 69 = .ok (.ior, 1) := dk_128 (dk_at dksX8_safe_2 21 rfl rfl)
theorem dX8_safe_70 : decode cX8_safe 70 = .ok (.istore_n 2, 1) := dk_61 (dk_at dksX8_safe_2 22 rfl rfl)
theorem dX8_safe_71 : decode cX8_safe 71 = .ok (.iinc 3 1, 3) := dk_132 3 1 (dk_at dksX8_safe_3 0 rfl rfl)
theorem dX8_safe_74 : decode cX8_safe 74 = .ok (.goto (-56), 3) := dk_167 255 200 (dk_at dksX8_safe_3 3 rfl rfl)
theorem dX8_safe_77 : decode cX8_safe 77 = .ok (.aload_n 0, 1) := dk_42 (dk_at dksX8_safe_3 6 rfl rfl)
theorem dX8_safe_78 : decode cX8_safe 78 = .ok (.iload_n 2, 1) := dk_28 (dk_at dksX8_safe_3 7 rfl rfl)
theorem dX8_safe_79 : decode cX8_safe 79 = .ok (.invokevirtual 82, 3) := dk_182 0 82 (dk_at dksX8_safe_3 8 rfl rfl)
theorem dX8_safe_82 : decode cX8_safe 82 = .ok (.ireturn, 1) := dk_172 (dk_at dksX8_safe_3 11 rfl rfl)
abbrev cX8_gain : ByteArray := prog_17_method_132_code
def yX8_gain : MethodName := ⟨RX8, "gain", "(II)I"⟩
def dkwX8_gain_2 : List UInt8 := [184, 0, 171, 4, 96, 46, 42, 27, 28, 182, 1, 90, 100, 182, 0, 82, 172]
abbrev dktX8_gain_2 : List UInt8 := dkwX8_gain_2 ++ []
def dkwX8_gain_1 : List UInt8 := [28, 182, 1, 134, 2, 160, 0, 12, 42, 16, 7, 182, 0, 78, 167, 0, 26, 42, 42, 180, 0, 7, 3, 28]
abbrev dktX8_gain_1 : List UInt8 := dkwX8_gain_1 ++ dktX8_gain_2
def dkwX8_gain_0 : List UInt8 := [42, 27, 182, 1, 15, 153, 0, 11, 42, 28, 182, 1, 9, 154, 0, 9, 42, 4, 182, 0, 78, 172, 42, 27]
abbrev dktX8_gain_0 : List UInt8 := dkwX8_gain_0 ++ dktX8_gain_1
theorem dksX8_gain_0 : cX8_gain.data.toList.drop 0 = dktX8_gain_0 := by decide +kernel
theorem dksX8_gain_1 : cX8_gain.data.toList.drop 24 = dktX8_gain_1 := dk_seg dksX8_gain_0 24 rfl rfl
theorem dksX8_gain_2 : cX8_gain.data.toList.drop 48 = dktX8_gain_2 := dk_seg dksX8_gain_1 24 rfl rfl
theorem dX8_gain_0 : decode cX8_gain 0 = .ok (.aload_n 0, 1) := dk_42 (dk_at dksX8_gain_0 0 rfl rfl)
theorem dX8_gain_1 : decode cX8_gain 1 = .ok (.iload_n 1, 1) := dk_27 (dk_at dksX8_gain_0 1 rfl rfl)
theorem dX8_gain_2 : decode cX8_gain 2 = .ok (.invokevirtual 271, 3) := dk_182 1 15 (dk_at dksX8_gain_0 2 rfl rfl)
theorem dX8_gain_5 : decode cX8_gain 5 = .ok (.ifCond .eq 11, 3) := dk_153 0 11 (dk_at dksX8_gain_0 5 rfl rfl)
theorem dX8_gain_8 : decode cX8_gain 8 = .ok (.aload_n 0, 1) := dk_42 (dk_at dksX8_gain_0 8 rfl rfl)
theorem dX8_gain_9 : decode cX8_gain 9 = .ok (.iload_n 2, 1) := dk_28 (dk_at dksX8_gain_0 9 rfl rfl)
theorem dX8_gain_10 : decode cX8_gain 10 = .ok (.invokevirtual 265, 3) := dk_182 1 9 (dk_at dksX8_gain_0 10 rfl rfl)
theorem dX8_gain_13 : decode cX8_gain 13 = .ok (.ifCond .ne 9, 3) := dk_154 0 9 (dk_at dksX8_gain_0 13 rfl rfl)
theorem dX8_gain_16 : decode cX8_gain 16 = .ok (.aload_n 0, 1) := dk_42 (dk_at dksX8_gain_0 16 rfl rfl)
theorem dX8_gain_17 : decode cX8_gain 17 = .ok (.iconst 1, 1) := dk_4 (dk_at dksX8_gain_0 17 rfl rfl)
theorem dX8_gain_18 : decode cX8_gain 18 = .ok (.invokevirtual 78, 3) := dk_182 0 78 (dk_at dksX8_gain_0 18 rfl rfl)
theorem dX8_gain_21 : decode cX8_gain 21 = .ok (.ireturn, 1) := dk_172 (dk_at dksX8_gain_0 21 rfl rfl)
theorem dX8_gain_22 : decode cX8_gain 22 = .ok (.aload_n 0, 1) := dk_42 (dk_at dksX8_gain_0 22 rfl rfl)
theorem dX8_gain_23 : decode cX8_gain 23 = .ok (.iload_n 1, 1) := dk_27 (dk_at dksX8_gain_0 23 rfl rfl)
theorem dX8_gain_24 : decode cX8_gain 24 = .ok (.iload_n 2, 1) := dk_28 (dk_at dksX8_gain_1 0 rfl rfl)
theorem dX8_gain_25 : decode cX8_gain 25 = .ok (.invokevirtual 390, 3) := dk_182 1 134 (dk_at dksX8_gain_1 1 rfl rfl)
theorem dX8_gain_28 : decode cX8_gain 28 = .ok (.iconst (-1), 1) := dk_2 (dk_at dksX8_gain_1 4 rfl rfl)
theorem dX8_gain_29 : decode cX8_gain 29 = .ok (.if_icmp .ne 12, 3) := dk_160 0 12 (dk_at dksX8_gain_1 5 rfl rfl)
theorem dX8_gain_32 : decode cX8_gain 32 = .ok (.aload_n 0, 1) := dk_42 (dk_at dksX8_gain_1 8 rfl rfl)
theorem dX8_gain_33 : decode cX8_gain 33 = .ok (.bipush 7, 2) := dk_16 7 (dk_at dksX8_gain_1 9 rfl rfl)
theorem dX8_gain_35 : decode cX8_gain 35 = .ok (.invokevirtual 78, 3) := dk_182 0 78 (dk_at dksX8_gain_1 11 rfl rfl)
theorem dX8_gain_38 : decode cX8_gain 38 = .ok (.goto 26, 3) := dk_167 0 26 (dk_at dksX8_gain_1 14 rfl rfl)
theorem dX8_gain_41 : decode cX8_gain 41 = .ok (.aload_n 0, 1) := dk_42 (dk_at dksX8_gain_1 17 rfl rfl)
theorem dX8_gain_42 : decode cX8_gain 42 = .ok (.aload_n 0, 1) := dk_42 (dk_at dksX8_gain_1 18 rfl rfl)
theorem dX8_gain_43 : decode cX8_gain 43 = .ok (.getfield 7, 3) := dk_180 0 7 (dk_at dksX8_gain_1 19 rfl rfl)
theorem dX8_gain_46 : decode cX8_gain 46 = .ok (.iconst 0, 1) := dk_3 (dk_at dksX8_gain_1 22 rfl rfl)
theorem dX8_gain_47 : decode cX8_gain 47 = .ok (.iload_n 2, 1) := dk_28 (dk_at dksX8_gain_1 23 rfl rfl)
theorem dX8_gain_48 : decode cX8_gain 48 = .ok (.invokestatic 171, 3) := dk_184 0 171 (dk_at dksX8_gain_2 0 rfl rfl)
theorem dX8_gain_51 : decode cX8_gain 51 = .ok (.iconst 1, 1) := dk_4 (dk_at dksX8_gain_2 3 rfl rfl)
theorem dX8_gain_52 : decode cX8_gain 52 = .ok (.iadd, 1) := dk_96 (dk_at dksX8_gain_2 4 rfl rfl)
theorem dX8_gain_53 : decode cX8_gain 53 = .ok (.iaload, 1) := dk_46 (dk_at dksX8_gain_2 5 rfl rfl)
theorem dX8_gain_54 : decode cX8_gain 54 = .ok (.aload_n 0, 1) := dk_42 (dk_at dksX8_gain_2 6 rfl rfl)
theorem dX8_gain_55 : decode cX8_gain 55 = .ok (.iload_n 1, 1) := dk_27 (dk_at dksX8_gain_2 7 rfl rfl)
theorem dX8_gain_56 : decode cX8_gain 56 = .ok (.iload_n 2, 1) := dk_28 (dk_at dksX8_gain_2 8 rfl rfl)
theorem dX8_gain_57 : decode cX8_gain 57 = .ok (.invokevirtual 346, 3) := dk_182 1 90 (dk_at dksX8_gain_2 9 rfl rfl)
theorem dX8_gain_60 : decode cX8_gain 60 = .ok (.isub, 1) := dk_100 (dk_at dksX8_gain_2 12 rfl rfl)
theorem dX8_gain_61 : decode cX8_gain 61 = .ok (.invokevirtual 82, 3) := dk_182 0 82 (dk_at dksX8_gain_2 13 rfl rfl)
theorem dX8_gain_64 : decode cX8_gain 64 = .ok (.ireturn, 1) := dk_172 (dk_at dksX8_gain_2 16 rfl rfl)
abbrev cX8_best : ByteArray := prog_17_method_134_code
def yX8_best : MethodName := ⟨RX8, "best", "(I)I"⟩
def dkwX8_best_2 : List UInt8 := [180, 0, 56, 29, 42, 180, 0, 53, 29, 46, 79, 132, 3, 1, 167, 255, 233, 42, 28, 182, 0, 82, 172]
abbrev dktX8_best_2 : List UInt8 := dkwX8_best_2 ++ []
def dkwX8_best_1 : List UInt8 := [182, 1, 143, 61, 42, 42, 180, 1, 140, 181, 1, 146, 3, 62, 29, 42, 180, 1, 140, 162, 0, 21, 42]
abbrev dktX8_best_1 : List UInt8 := dkwX8_best_1 ++ dktX8_best_2
def dkwX8_best_0 : List UInt8 := [42, 27, 182, 1, 15, 154, 0, 9, 42, 4, 182, 0, 78, 172, 42, 27, 42, 180, 0, 7, 6, 46]
abbrev dktX8_best_0 : List UInt8 := dkwX8_best_0 ++ dktX8_best_1
theorem dksX8_best_0 : cX8_best.data.toList.drop 0 = dktX8_best_0 := by decide +kernel
theorem dksX8_best_1 : cX8_best.data.toList.drop 22 = dktX8_best_1 := dk_seg dksX8_best_0 22 rfl rfl
theorem dksX8_best_2 : cX8_best.data.toList.drop 45 = dktX8_best_2 := dk_seg dksX8_best_1 23 rfl rfl
theorem dX8_best_0 : decode cX8_best 0 = .ok (.aload_n 0, 1) := dk_42 (dk_at dksX8_best_0 0 rfl rfl)
theorem dX8_best_1 : decode cX8_best 1 = .ok (.iload_n 1, 1) := dk_27 (dk_at dksX8_best_0 1 rfl rfl)
theorem dX8_best_2 : decode cX8_best 2 = .ok (.invokevirtual 271, 3) := dk_182 1 15 (dk_at dksX8_best_0 2 rfl rfl)
theorem dX8_best_5 : decode cX8_best 5 = .ok (.ifCond .ne 9, 3) := dk_154 0 9 (dk_at dksX8_best_0 5 rfl rfl)
theorem dX8_best_8 : decode cX8_best 8 = .ok (.aload_n 0, 1) := dk_42 (dk_at dksX8_best_0 8 rfl rfl)
theorem dX8_best_9 : decode cX8_best 9 = .ok (.iconst 1, 1) := dk_4 (dk_at dksX8_best_0 9 rfl rfl)
theorem dX8_best_10 : decode cX8_best 10 = .ok (.invokevirtual 78, 3) := dk_182 0 78 (dk_at dksX8_best_0 10 rfl rfl)
theorem dX8_best_13 : decode cX8_best 13 = .ok (.ireturn, 1) := dk_172 (dk_at dksX8_best_0 13 rfl rfl)
theorem dX8_best_14 : decode cX8_best 14 = .ok (.aload_n 0, 1) := dk_42 (dk_at dksX8_best_0 14 rfl rfl)
theorem dX8_best_15 : decode cX8_best 15 = .ok (.iload_n 1, 1) := dk_27 (dk_at dksX8_best_0 15 rfl rfl)
theorem dX8_best_16 : decode cX8_best 16 = .ok (.aload_n 0, 1) := dk_42 (dk_at dksX8_best_0 16 rfl rfl)
theorem dX8_best_17 : decode cX8_best 17 = .ok (.getfield 7, 3) := dk_180 0 7 (dk_at dksX8_best_0 17 rfl rfl)
theorem dX8_best_20 : decode cX8_best 20 = .ok (.iconst 3, 1) := dk_6 (dk_at dksX8_best_0 20 rfl rfl)
theorem dX8_best_21 : decode cX8_best 21 = .ok (.iaload, 1) := dk_46 (dk_at dksX8_best_0 21 rfl rfl)
theorem dX8_best_22 : decode cX8_best 22 = .ok (.invokevirtual 399, 3) := dk_182 1 143 (dk_at dksX8_best_1 0 rfl rfl)
theorem dX8_best_25 : decode cX8_best 25 = .ok (.istore_n 2, 1) := dk_61 (dk_at dksX8_best_1 3 rfl rfl)
theorem dX8_best_26 : decode cX8_best 26 = .ok (.aload_n 0, 1) := dk_42 (dk_at dksX8_best_1 4 rfl rfl)
theorem dX8_best_27 : decode cX8_best 27 = .ok (.aload_n 0, 1) := dk_42 (dk_at dksX8_best_1 5 rfl rfl)
theorem dX8_best_28 : decode cX8_best 28 = .ok (.getfield 396, 3) := dk_180 1 140 (dk_at dksX8_best_1 6 rfl rfl)
theorem dX8_best_31 : decode cX8_best 31 = .ok (.putfield 402, 3) := dk_181 1 146 (dk_at dksX8_best_1 9 rfl rfl)
theorem dX8_best_34 : decode cX8_best 34 = .ok (.iconst 0, 1) := dk_3 (dk_at dksX8_best_1 12 rfl rfl)
theorem dX8_best_35 : decode cX8_best 35 = .ok (.istore_n 3, 1) := dk_62 (dk_at dksX8_best_1 13 rfl rfl)
theorem dX8_best_36 : decode cX8_best 36 = .ok (.iload_n 3, 1) := dk_29 (dk_at dksX8_best_1 14 rfl rfl)
theorem dX8_best_37 : decode cX8_best 37 = .ok (.aload_n 0, 1) := dk_42 (dk_at dksX8_best_1 15 rfl rfl)
theorem dX8_best_38 : decode cX8_best 38 = .ok (.getfield 396, 3) := dk_180 1 140 (dk_at dksX8_best_1 16 rfl rfl)
theorem dX8_best_41 : decode cX8_best 41 = .ok (.if_icmp .ge 21, 3) := dk_162 0 21 (dk_at dksX8_best_1 19 rfl rfl)
theorem dX8_best_44 : decode cX8_best 44 = .ok (.aload_n 0, 1) := dk_42 (dk_at dksX8_best_1 22 rfl rfl)
theorem dX8_best_45 : decode cX8_best 45 = .ok (.getfield 56, 3) := dk_180 0 56 (dk_at dksX8_best_2 0 rfl rfl)
theorem dX8_best_48 : decode cX8_best 48 = .ok (.iload_n 3, 1) := dk_29 (dk_at dksX8_best_2 3 rfl rfl)
theorem dX8_best_49 : decode cX8_best 49 = .ok (.aload_n 0, 1) := dk_42 (dk_at dksX8_best_2 4 rfl rfl)
theorem dX8_best_50 : decode cX8_best 50 = .ok (.getfield 53, 3) := dk_180 0 53 (dk_at dksX8_best_2 5 rfl rfl)
theorem dX8_best_53 : decode cX8_best 53 = .ok (.iload_n 3, 1) := dk_29 (dk_at dksX8_best_2 8 rfl rfl)
theorem dX8_best_54 : decode cX8_best 54 = .ok (.iaload, 1) := dk_46 (dk_at dksX8_best_2 9 rfl rfl)
theorem dX8_best_55 : decode cX8_best 55 = .ok (.iastore, 1) := dk_79 (dk_at dksX8_best_2 10 rfl rfl)
theorem dX8_best_56 : decode cX8_best 56 = .ok (.iinc 3 1, 3) := dk_132 3 1 (dk_at dksX8_best_2 11 rfl rfl)
theorem dX8_best_59 : decode cX8_best 59 = .ok (.goto (-23), 3) := dk_167 255 233 (dk_at dksX8_best_2 14 rfl rfl)
theorem dX8_best_62 : decode cX8_best 62 = .ok (.aload_n 0, 1) := dk_42 (dk_at dksX8_best_2 17 rfl rfl)
theorem dX8_best_63 : decode cX8_best 63 = .ok (.iload_n 2, 1) := dk_28 (dk_at dksX8_best_2 18 rfl rfl)
theorem dX8_best_64 : decode cX8_best 64 = .ok (.invokevirtual 82, 3) := dk_182 0 82 (dk_at dksX8_best_2 19 rfl rfl)
theorem dX8_best_67 : decode cX8_best 67 = .ok (.ireturn, 1) := dk_172 (dk_at dksX8_best_2 22 rfl rfl)
abbrev cX8_rounds : ByteArray := prog_17_method_133_code
def yX8_rounds : MethodName := ⟨RX8, "rounds", "(II)I"⟩
def dkwX8_rounds_17 : List UInt8 := [21, 4, 172]
abbrev dktX8_rounds_17 : List UInt8 := dkwX8_rounds_17 ++ []
def dkwX8_rounds_16 : List UInt8 := [21, 11, 46, 79, 132, 11, 1, 167, 255, 232, 132, 7, 1, 42, 180, 0, 47, 21, 7, 2, 79, 167, 254, 145]
abbrev dktX8_rounds_16 : List UInt8 := dkwX8_rounds_16 ++ dktX8_rounds_17
def dkwX8_rounds_15 : List UInt8 := [96, 181, 1, 140, 3, 54, 11, 21, 11, 21, 7, 163, 0, 23, 42, 180, 0, 53, 21, 11, 42, 180, 0, 47]
abbrev dktX8_rounds_15 : List UInt8 := dkwX8_rounds_15 ++ dktX8_rounds_16
def dkwX8_rounds_14 : List UInt8 := [21, 4, 160, 0, 56, 21, 7, 4, 96, 42, 180, 1, 140, 162, 0, 45, 21, 5, 54, 4, 42, 21, 7, 4]
abbrev dktX8_rounds_14 : List UInt8 := dkwX8_rounds_14 ++ dktX8_rounds_15
def dkwX8_rounds_13 : List UInt8 := [180, 0, 7, 3, 21, 8, 184, 0, 171, 4, 96, 46, 96, 54, 5, 21, 5, 21, 4, 163, 0, 21, 21, 5]
abbrev dktX8_rounds_13 : List UInt8 := dkwX8_rounds_13 ++ dktX8_rounds_14
def dkwX8_rounds_12 : List UInt8 := [167, 255, 6, 42, 180, 0, 47, 21, 7, 21, 8, 79, 21, 6, 4, 21, 8, 120, 128, 54, 6, 21, 5, 42]
abbrev dktX8_rounds_12 : List UInt8 := dkwX8_rounds_12 ++ dktX8_rounds_13
def dkwX8_rounds_11 : List UInt8 := [180, 0, 7, 5, 46, 159, 0, 16, 21, 7, 42, 180, 0, 7, 29, 5, 96, 46, 160, 0, 9, 132, 7, 255]
abbrev dktX8_rounds_11 : List UInt8 := dkwX8_rounds_11 ++ dktX8_rounds_12
def dkwX8_rounds_10 : List UInt8 := [180, 0, 50, 21, 7, 46, 28, 163, 0, 6, 167, 0, 9, 132, 8, 1, 167, 255, 163, 21, 8, 42]
abbrev dktX8_rounds_10 : List UInt8 := dkwX8_rounds_10 ++ dktX8_rounds_11
def dkwX8_rounds_9 : List UInt8 := [184, 1, 119, 79, 42, 21, 8, 182, 1, 12, 153, 0, 27, 21, 6, 21, 8, 122, 4, 126, 154, 0, 17, 42]
abbrev dktX8_rounds_9 : List UInt8 := dkwX8_rounds_9 ++ dktX8_rounds_10
def dkwX8_rounds_8 : List UInt8 := [180, 0, 7, 3, 21, 8, 184, 0, 171, 46, 100, 184, 1, 24, 104, 96, 42, 27, 21, 8, 182, 1, 131]
abbrev dktX8_rounds_8 : List UInt8 := dkwX8_rounds_8 ++ dktX8_rounds_9
def dkwX8_rounds_7 : List UInt8 := [46, 162, 0, 88, 42, 180, 0, 50, 21, 7, 21, 10, 42, 180, 0, 7, 29, 4, 96, 46, 21, 9, 42]
abbrev dktX8_rounds_7 : List UInt8 := dkwX8_rounds_7 ++ dktX8_rounds_8
def dkwX8_rounds_6 : List UInt8 := [6, 96, 46, 167, 0, 12, 42, 180, 0, 50, 21, 7, 4, 100, 46, 54, 10, 21, 8, 42, 180, 0, 7, 5]
abbrev dktX8_rounds_6 : List UInt8 := dkwX8_rounds_6 ++ dktX8_rounds_7
def dkwX8_rounds_5 : List UInt8 := [180, 0, 47, 21, 7, 4, 100, 46, 184, 0, 171, 46, 54, 9, 21, 7, 154, 0, 14, 42, 180, 0, 7, 29]
abbrev dktX8_rounds_5 : List UInt8 := dkwX8_rounds_5 ++ dktX8_rounds_6
def dkwX8_rounds_4 : List UInt8 := [54, 8, 21, 7, 154, 0, 12, 42, 180, 0, 7, 29, 46, 167, 0, 21, 42, 180, 0, 7, 3, 42]
abbrev dktX8_rounds_4 : List UInt8 := dkwX8_rounds_4 ++ dktX8_rounds_5
def dkwX8_rounds_3 : List UInt8 := [180, 0, 47, 21, 7, 46, 184, 0, 171, 4, 96, 46, 100, 54, 5, 42, 180, 0, 47, 21, 7, 46, 4, 96]
abbrev dktX8_rounds_3 : List UInt8 := dkwX8_rounds_3 ++ dktX8_rounds_4
def dkwX8_rounds_2 : List UInt8 := [4, 42, 180, 0, 47, 21, 7, 46, 120, 2, 130, 126, 54, 6, 21, 5, 42, 180, 0, 7, 3, 42]
abbrev dktX8_rounds_2 : List UInt8 := dkwX8_rounds_2 ++ dktX8_rounds_3
def dkwX8_rounds_1 : List UInt8 := [180, 0, 47, 3, 2, 79, 21, 7, 155, 1, 112, 42, 180, 0, 47, 21, 7, 46, 2, 159, 0, 42, 21, 6]
abbrev dktX8_rounds_1 : List UInt8 := dkwX8_rounds_1 ++ dktX8_rounds_2
def dkwX8_rounds_0 : List UInt8 := [27, 184, 1, 18, 62, 3, 54, 4, 3, 54, 5, 3, 54, 6, 3, 54, 7, 42, 3, 181, 1, 140, 42]
abbrev dktX8_rounds_0 : List UInt8 := dkwX8_rounds_0 ++ dktX8_rounds_1
theorem dksX8_rounds_0 : cX8_rounds.data.toList.drop 0 = dktX8_rounds_0 := by decide +kernel
theorem dksX8_rounds_1 : cX8_rounds.data.toList.drop 23 = dktX8_rounds_1 := dk_seg dksX8_rounds_0 23 rfl rfl
theorem dksX8_rounds_2 : cX8_rounds.data.toList.drop 47 = dktX8_rounds_2 := dk_seg dksX8_rounds_1 24 rfl rfl
theorem dksX8_rounds_3 : cX8_rounds.data.toList.drop 69 = dktX8_rounds_3 := dk_seg dksX8_rounds_2 22 rfl rfl
theorem dksX8_rounds_4 : cX8_rounds.data.toList.drop 93 = dktX8_rounds_4 := dk_seg dksX8_rounds_3 24 rfl rfl
theorem dksX8_rounds_5 : cX8_rounds.data.toList.drop 115 = dktX8_rounds_5 := dk_seg dksX8_rounds_4 22 rfl rfl
theorem dksX8_rounds_6 : cX8_rounds.data.toList.drop 139 = dktX8_rounds_6 := dk_seg dksX8_rounds_5 24 rfl rfl
theorem dksX8_rounds_7 : cX8_rounds.data.toList.drop 163 = dktX8_rounds_7 := dk_seg dksX8_rounds_6 24 rfl rfl
theorem dksX8_rounds_8 : cX8_rounds.data.toList.drop 186 = dktX8_rounds_8 := dk_seg dksX8_rounds_7 23 rfl rfl
theorem dksX8_rounds_9 : cX8_rounds.data.toList.drop 209 = dktX8_rounds_9 := dk_seg dksX8_rounds_8 23 rfl rfl
theorem dksX8_rounds_10 : cX8_rounds.data.toList.drop 233 = dktX8_rounds_10 := dk_seg dksX8_rounds_9 24 rfl rfl
theorem dksX8_rounds_11 : cX8_rounds.data.toList.drop 255 = dktX8_rounds_11 := dk_seg dksX8_rounds_10 22 rfl rfl
theorem dksX8_rounds_12 : cX8_rounds.data.toList.drop 279 = dktX8_rounds_12 := dk_seg dksX8_rounds_11 24 rfl rfl
theorem dksX8_rounds_13 : cX8_rounds.data.toList.drop 303 = dktX8_rounds_13 := dk_seg dksX8_rounds_12 24 rfl rfl
theorem dksX8_rounds_14 : cX8_rounds.data.toList.drop 327 = dktX8_rounds_14 := dk_seg dksX8_rounds_13 24 rfl rfl
theorem dksX8_rounds_15 : cX8_rounds.data.toList.drop 351 = dktX8_rounds_15 := dk_seg dksX8_rounds_14 24 rfl rfl
theorem dksX8_rounds_16 : cX8_rounds.data.toList.drop 375 = dktX8_rounds_16 := dk_seg dksX8_rounds_15 24 rfl rfl
theorem dksX8_rounds_17 : cX8_rounds.data.toList.drop 399 = dktX8_rounds_17 := dk_seg dksX8_rounds_16 24 rfl rfl
theorem dX8_rounds_0 : decode cX8_rounds 0 = .ok (.iload_n 1, 1) := dk_27 (dk_at dksX8_rounds_0 0 rfl rfl)
theorem dX8_rounds_1 : decode cX8_rounds 1 = .ok (.invokestatic 274, 3) := dk_184 1 18 (dk_at dksX8_rounds_0 1 rfl rfl)
theorem dX8_rounds_4 : decode cX8_rounds 4 = .ok (.istore_n 3, 1) := dk_62 (dk_at dksX8_rounds_0 4 rfl rfl)
theorem dX8_rounds_5 : decode cX8_rounds 5 = .ok (.iconst 0, 1) := dk_3 (dk_at dksX8_rounds_0 5 rfl rfl)
theorem dX8_rounds_6 : decode cX8_rounds 6 = .ok (.istore 4, 2) := dk_54 4 (dk_at dksX8_rounds_0 6 rfl rfl)
theorem dX8_rounds_8 : decode cX8_rounds 8 = .ok (.iconst 0, 1) := dk_3 (dk_at dksX8_rounds_0 8 rfl rfl)
theorem dX8_rounds_9 : decode cX8_rounds 9 = .ok (.istore 5, 2) := dk_54 5 (dk_at dksX8_rounds_0 9 rfl rfl)
theorem dX8_rounds_11 : decode cX8_rounds 11 = .ok (.iconst 0, 1) := dk_3 (dk_at dksX8_rounds_0 11 rfl rfl)
theorem dX8_rounds_12 : decode cX8_rounds 12 = .ok (.istore 6, 2) := dk_54 6 (dk_at dksX8_rounds_0 12 rfl rfl)
theorem dX8_rounds_14 : decode cX8_rounds 14 = .ok (.iconst 0, 1) := dk_3 (dk_at dksX8_rounds_0 14 rfl rfl)
theorem dX8_rounds_15 : decode cX8_rounds 15 = .ok (.istore 7, 2) := dk_54 7 (dk_at dksX8_rounds_0 15 rfl rfl)
theorem dX8_rounds_17 : decode cX8_rounds 17 = .ok (.aload_n 0, 1) := dk_42 (dk_at dksX8_rounds_0 17 rfl rfl)
theorem dX8_rounds_18 : decode cX8_rounds 18 = .ok (.iconst 0, 1) := dk_3 (dk_at dksX8_rounds_0 18 rfl rfl)
theorem dX8_rounds_19 : decode cX8_rounds 19 = .ok (.putfield 396, 3) := dk_181 1 140 (dk_at dksX8_rounds_0 19 rfl rfl)
theorem dX8_rounds_22 : decode cX8_rounds 22 = .ok (.aload_n 0, 1) := dk_42 (dk_at dksX8_rounds_0 22 rfl rfl)
theorem dX8_rounds_23 : decode cX8_rounds 23 = .ok (.getfield 47, 3) := dk_180 0 47 (dk_at dksX8_rounds_1 0 rfl rfl)
theorem dX8_rounds_26 : decode cX8_rounds 26 = .ok (.iconst 0, 1) := dk_3 (dk_at dksX8_rounds_1 3 rfl rfl)
theorem dX8_rounds_27 : decode cX8_rounds 27 = .ok (.iconst (-1), 1) := dk_2 (dk_at dksX8_rounds_1 4 rfl rfl)
theorem dX8_rounds_28 : decode cX8_rounds 28 = .ok (.iastore, 1) := dk_79 (dk_at dksX8_rounds_1 5 rfl rfl)
theorem dX8_rounds_29 : decode cX8_rounds 29 = .ok (.iload 7, 2) := dk_21 7 (dk_at dksX8_rounds_1 6 rfl rfl)
theorem dX8_rounds_31 : decode cX8_rounds 31 = .ok (.ifCond .lt 368, 3) := dk_155 1 112 (dk_at dksX8_rounds_1 8 rfl rfl)
theorem dX8_rounds_34 : decode cX8_rounds 34 = .ok (.aload_n 0, 1) := dk_42 (dk_at dksX8_rounds_1 11 rfl rfl)
theorem dX8_rounds_35 : decode cX8_rounds 35 = .ok (.getfield 47, 3) := dk_180 0 47 (dk_at dksX8_rounds_1 12 rfl rfl)
theorem dX8_rounds_38 : decode cX8_rounds 38 = .ok (.iload 7, 2) := dk_21 7 (dk_at dksX8_rounds_1 15 rfl rfl)
theorem dX8_rounds_40 : decode cX8_rounds 40 = .ok (.iaload, 1) := dk_46 (dk_at dksX8_rounds_1 17 rfl rfl)
theorem dX8_rounds_41 : decode cX8_rounds 41 = .ok (.iconst (-1), 1) := dk_2 (dk_at dksX8_rounds_1 18 rfl rfl)
theorem dX8_rounds_42 : decode cX8_rounds 42 = .ok (.if_icmp .eq 42, 3) := dk_159 0 42 (dk_at dksX8_rounds_1 19 rfl rfl)
theorem dX8_rounds_45 : decode cX8_rounds 45 = .ok (.iload 6, 2) := dk_21 6 (dk_at dksX8_rounds_1 22 rfl rfl)
theorem dX8_rounds_47 : decode cX8_rounds 47 = .ok (.iconst 1, 1) := dk_4 (dk_at dksX8_rounds_2 0 rfl rfl)
theorem dX8_rounds_48 : decode cX8_rounds 48 = .ok (.aload_n 0, 1) := dk_42 (dk_at dksX8_rounds_2 1 rfl rfl)
theorem dX8_rounds_49 : decode cX8_rounds 49 = .ok (.getfield 47, 3) := dk_180 0 47 (dk_at dksX8_rounds_2 2 rfl rfl)
theorem dX8_rounds_52 : decode cX8_rounds 52 = .ok (.iload 7, 2) := dk_21 7 (dk_at dksX8_rounds_2 5 rfl rfl)
theorem dX8_rounds_54 : decode cX8_rounds 54 = .ok (.iaload, 1) := dk_46 (dk_at dksX8_rounds_2 7 rfl rfl)
theorem dX8_rounds_55 : decode cX8_rounds 55 = .ok (.ishl, 1) := dk_120 (dk_at dksX8_rounds_2 8 rfl rfl)
theorem dX8_rounds_56 : decode cX8_rounds 56 = .ok (.iconst (-1), 1) := dk_2 (dk_at dksX8_rounds_2 9 rfl rfl)
theorem dX8_rounds_57 : decode cX8_rounds 57 = .ok (.ixor, 1) := dk_130 (dk_at dksX8_rounds_2 10 rfl rfl)
theorem dX8_rounds_58 : decode cX8_rounds 58 = .ok (.iand, 1) := dk_126 (dk_at dksX8_rounds_2 11 rfl rfl)
theorem dX8_rounds_59 : decode cX8_rounds 59 = .ok (.istore 6, 2) := dk_54 6 (dk_at dksX8_rounds_2 12 rfl rfl)
theorem dX8_rounds_61 : decode cX8_rounds 61 = .ok (.iload 5, 2) := dk_21 5 (dk_at dksX8_rounds_2 14 rfl rfl)
theorem dX8_rounds_63 : decode cX8_rounds 63 = .ok (.aload_n 0, 1) := dk_42 (dk_at dksX8_rounds_2 16 rfl rfl)
theorem dX8_rounds_64 : decode cX8_rounds 64 = .ok (.getfield 7, 3) := dk_180 0 7 (dk_at dksX8_rounds_2 17 rfl rfl)
theorem dX8_rounds_67 : decode cX8_rounds 67 = .ok (.iconst 0, 1) := dk_3 (dk_at dksX8_rounds_2 20 rfl rfl)
theorem dX8_rounds_68 : decode cX8_rounds 68 = .ok (.aload_n 0, 1) := dk_42 (dk_at dksX8_rounds_2 21 rfl rfl)
theorem dX8_rounds_69 : decode cX8_rounds 69 = .ok (.getfield 47, 3) := dk_180 0 47 (dk_at dksX8_rounds_3 0 rfl rfl)
theorem dX8_rounds_72 : decode cX8_rounds 72 = .ok (.iload 7, 2) := dk_21 7 (dk_at dksX8_rounds_3 3 rfl rfl)
theorem dX8_rounds_74 : decode cX8_rounds 74 = .ok (.iaload, 1) := dk_46 (dk_at dksX8_rounds_3 5 rfl rfl)
theorem dX8_rounds_75 : decode cX8_rounds 75 = .ok (.invokestatic 171, 3) := dk_184 0 171 (dk_at dksX8_rounds_3 6 rfl rfl)
theorem dX8_rounds_78 : decode cX8_rounds 78 = .ok (.iconst 1, 1) := dk_4 (dk_at dksX8_rounds_3 9 rfl rfl)
theorem dX8_rounds_79 : decode cX8_rounds 79 = .ok (.iadd, 1) := dk_96 (dk_at dksX8_rounds_3 10 rfl rfl)
theorem dX8_rounds_80 : decode cX8_rounds 80 = .ok (.iaload, 1) := dk_46 (dk_at dksX8_rounds_3 11 rfl rfl)
theorem dX8_rounds_81 : decode cX8_rounds 81 = .ok (.isub, 1) := dk_100 (dk_at dksX8_rounds_3 12 rfl rfl)
theorem dX8_rounds_82 : decode cX8_rounds 82 = .ok (.istore 5, 2) := dk_54 5 (dk_at dksX8_rounds_3 13 rfl rfl)
theorem dX8_rounds_84 : decode cX8_rounds 84 = .ok (.aload_n 0, 1) := dk_42 (dk_at dksX8_rounds_3 15 rfl rfl)
theorem dX8_rounds_85 : decode cX8_rounds 85 = .ok (.getfield 47, 3) := dk_180 0 47 (dk_at dksX8_rounds_3 16 rfl rfl)
theorem dX8_rounds_88 : decode cX8_rounds 88 = .ok (.iload 7, 2) := dk_21 7 (dk_at dksX8_rounds_3 19 rfl rfl)
theorem dX8_rounds_90 : decode cX8_rounds 90 = .ok (.iaload, 1) := dk_46 (dk_at dksX8_rounds_3 21 rfl rfl)
theorem dX8_rounds_91 : decode cX8_rounds 91 = .ok (.iconst 1, 1) := dk_4 (dk_at dksX8_rounds_3 22 rfl rfl)
theorem dX8_rounds_92 : decode cX8_rounds 92 = .ok (.iadd, 1) := dk_96 (dk_at dksX8_rounds_3 23 rfl rfl)
theorem dX8_rounds_93 : decode cX8_rounds 93 = .ok (.istore 8, 2) := dk_54 8 (dk_at dksX8_rounds_4 0 rfl rfl)
theorem dX8_rounds_95 : decode cX8_rounds 95 = .ok (.iload 7, 2) := dk_21 7 (dk_at dksX8_rounds_4 2 rfl rfl)
theorem dX8_rounds_97 : decode cX8_rounds 97 = .ok (.ifCond .ne 12, 3) := dk_154 0 12 (dk_at dksX8_rounds_4 4 rfl rfl)
theorem dX8_rounds_100 : decode cX8_rounds 100 = .ok (.aload_n 0, 1) := dk_42 (dk_at dksX8_rounds_4 7 rfl rfl)
theorem dX8_rounds_101 : decode cX8_rounds 101 = .ok (.getfield 7, 3) := dk_180 0 7 (dk_at dksX8_rounds_4 8 rfl rfl)
theorem dX8_rounds_104 : decode cX8_rounds 104 = .ok (.iload_n 3, 1) := dk_29 (dk_at dksX8_rounds_4 11 rfl rfl)
theorem dX8_rounds_105 : decode cX8_rounds 105 = .ok (.iaload, 1) := dk_46 (dk_at dksX8_rounds_4 12 rfl rfl)
theorem dX8_rounds_106 : decode cX8_rounds 106 = .ok (.goto 21, 3) := dk_167 0 21 (dk_at dksX8_rounds_4 13 rfl rfl)
theorem dX8_rounds_109 : decode cX8_rounds 109 = .ok (.aload_n 0, 1) := dk_42 (dk_at dksX8_rounds_4 16 rfl rfl)
theorem dX8_rounds_110 : decode cX8_rounds 110 = .ok (.getfield 7, 3) := dk_180 0 7 (dk_at dksX8_rounds_4 17 rfl rfl)
theorem dX8_rounds_113 : decode cX8_rounds 113 = .ok (.iconst 0, 1) := dk_3 (dk_at dksX8_rounds_4 20 rfl rfl)
theorem dX8_rounds_114 : decode cX8_rounds 114 = .ok (.aload_n 0, 1) := dk_42 (dk_at dksX8_rounds_4 21 rfl rfl)
theorem dX8_rounds_115 : decode cX8_rounds 115 = .ok (.getfield 47, 3) := dk_180 0 47 (dk_at dksX8_rounds_5 0 rfl rfl)
theorem dX8_rounds_118 : decode cX8_rounds 118 = .ok (.iload 7, 2) := dk_21 7 (dk_at dksX8_rounds_5 3 rfl rfl)
theorem dX8_rounds_120 : decode cX8_rounds 120 = .ok (.iconst 1, 1) := dk_4 (dk_at dksX8_rounds_5 5 rfl rfl)
theorem dX8_rounds_121 : decode cX8_rounds 121 = .ok (.isub, 1) := dk_100 (dk_at dksX8_rounds_5 6 rfl rfl)
theorem dX8_rounds_122 : decode cX8_rounds 122 = .ok (.iaload, 1) := dk_46 (dk_at dksX8_rounds_5 7 rfl rfl)
theorem dX8_rounds_123 : decode cX8_rounds 123 = .ok (.invokestatic 171, 3) := dk_184 0 171 (dk_at dksX8_rounds_5 8 rfl rfl)
theorem dX8_rounds_126 : decode cX8_rounds 126 = .ok (.iaload, 1) := dk_46 (dk_at dksX8_rounds_5 11 rfl rfl)
theorem dX8_rounds_127 : decode cX8_rounds 127 = .ok (.istore 9, 2) := dk_54 9 (dk_at dksX8_rounds_5 12 rfl rfl)
theorem dX8_rounds_129 : decode cX8_rounds 129 = .ok (.iload 7, 2) := dk_21 7 (dk_at dksX8_rounds_5 14 rfl rfl)
theorem dX8_rounds_131 : decode cX8_rounds 131 = .ok (.ifCond .ne 14, 3) := dk_154 0 14 (dk_at dksX8_rounds_5 16 rfl rfl)
theorem dX8_rounds_134 : decode cX8_rounds 134 = .ok (.aload_n 0, 1) := dk_42 (dk_at dksX8_rounds_5 19 rfl rfl)
theorem dX8_rounds_135 : decode cX8_rounds 135 = .ok (.getfield 7, 3) := dk_180 0 7 (dk_at dksX8_rounds_5 20 rfl rfl)
theorem dX8_rounds_138 : decode cX8_rounds 138 = .ok (.iload_n 3, 1) := dk_29 (dk_at dksX8_rounds_5 23 rfl rfl)
theorem dX8_rounds_139 : decode cX8_rounds 139 = .ok (.iconst 3, 1) := dk_6 (dk_at dksX8_rounds_6 0 rfl rfl)
theorem dX8_rounds_140 : decode cX8_rounds 140 = .ok (.iadd, 1) := dk_96 (dk_at dksX8_rounds_6 1 rfl rfl)
theorem dX8_rounds_141 : decode cX8_rounds 141 = .ok (.iaload, 1) := dk_46 (dk_at dksX8_rounds_6 2 rfl rfl)
theorem dX8_rounds_142 : decode cX8_rounds 142 = .ok (.goto 12, 3) := dk_167 0 12 (dk_at dksX8_rounds_6 3 rfl rfl)
theorem dX8_rounds_145 : decode cX8_rounds 145 = .ok (.aload_n 0, 1) := dk_42 (dk_at dksX8_rounds_6 6 rfl rfl)
theorem dX8_rounds_146 : decode cX8_rounds 146 = .ok (.getfield 50, 3) := dk_180 0 50 (dk_at dksX8_rounds_6 7 rfl rfl)
theorem dX8_rounds_149 : decode cX8_rounds 149 = .ok (.iload 7, 2) := dk_21 7 (dk_at dksX8_rounds_6 10 rfl rfl)
theorem dX8_rounds_151 : decode cX8_rounds 151 = .ok (.iconst 1, 1) := dk_4 (dk_at dksX8_rounds_6 12 rfl rfl)
theorem dX8_rounds_152 : decode cX8_rounds 152 = .ok (.isub, 1) := dk_100 (dk_at dksX8_rounds_6 13 rfl rfl)
theorem dX8_rounds_153 : decode cX8_rounds 153 = .ok (.iaload, 1) := dk_46 (dk_at dksX8_rounds_6 14 rfl rfl)
theorem dX8_rounds_154 : decode cX8_rounds 154 = .ok (.istore 10, 2) := dk_54 10 (dk_at dksX8_rounds_6 15 rfl rfl)
theorem dX8_rounds_156 : decode cX8_rounds 156 = .ok (.iload 8, 2) := dk_21 8 (dk_at dksX8_rounds_6 17 rfl rfl)
theorem dX8_rounds_158 : decode cX8_rounds 158 = .ok (.aload_n 0, 1) := dk_42 (dk_at dksX8_rounds_6 19 rfl rfl)
theorem dX8_rounds_159 : decode cX8_rounds 159 = .ok (.getfield 7, 3) := dk_180 0 7 (dk_at dksX8_rounds_6 20 rfl rfl)
theorem dX8_rounds_162 : decode cX8_rounds 162 = .ok (.iconst 2, 1) := dk_5 (dk_at dksX8_rounds_6 23 rfl rfl)
theorem dX8_rounds_163 : decode cX8_rounds 163 = .ok (.iaload, 1) := dk_46 (dk_at dksX8_rounds_7 0 rfl rfl)
theorem dX8_rounds_164 : decode cX8_rounds 164 = .ok (.if_icmp .ge 88, 3) := dk_162 0 88 (dk_at dksX8_rounds_7 1 rfl rfl)
theorem dX8_rounds_167 : decode cX8_rounds 167 = .ok (.aload_n 0, 1) := dk_42 (dk_at dksX8_rounds_7 4 rfl rfl)
theorem dX8_rounds_168 : decode cX8_rounds 168 = .ok (.getfield 50, 3) := dk_180 0 50 (dk_at dksX8_rounds_7 5 rfl rfl)
theorem dX8_rounds_171 : decode cX8_rounds 171 = .ok (.iload 7, 2) := dk_21 7 (dk_at dksX8_rounds_7 8 rfl rfl)
theorem dX8_rounds_173 : decode cX8_rounds 173 = .ok (.iload 10, 2) := dk_21 10 (dk_at dksX8_rounds_7 10 rfl rfl)
theorem dX8_rounds_175 : decode cX8_rounds 175 = .ok (.aload_n 0, 1) := dk_42 (dk_at dksX8_rounds_7 12 rfl rfl)
theorem dX8_rounds_176 : decode cX8_rounds 176 = .ok (.getfield 7, 3) := dk_180 0 7 (dk_at dksX8_rounds_7 13 rfl rfl)
theorem dX8_rounds_179 : decode cX8_rounds 179 = .ok (.iload_n 3, 1) := dk_29 (dk_at dksX8_rounds_7 16 rfl rfl)
theorem dX8_rounds_180 : decode cX8_rounds 180 = .ok (.iconst 1, 1) := dk_4 (dk_at dksX8_rounds_7 17 rfl rfl)
theorem dX8_rounds_181 : decode cX8_rounds 181 = .ok (.iadd, 1) := dk_96 (dk_at dksX8_rounds_7 18 rfl rfl)
theorem dX8_rounds_182 : decode cX8_rounds 182 = .ok (.iaload, 1) := dk_46 (dk_at dksX8_rounds_7 19 rfl rfl)
theorem dX8_rounds_183 : decode cX8_rounds 183 = .ok (.iload 9, 2) := dk_21 9 (dk_at dksX8_rounds_7 20 rfl rfl)
theorem dX8_rounds_185 : decode cX8_rounds 185 = .ok (.aload_n 0, 1) := dk_42 (dk_at dksX8_rounds_7 22 rfl rfl)
theorem dX8_rounds_186 : decode cX8_rounds 186 = .ok (.getfield 7, 3) := dk_180 0 7 (dk_at dksX8_rounds_8 0 rfl rfl)
theorem dX8_rounds_189 : decode cX8_rounds 189 = .ok (.iconst 0, 1) := dk_3 (dk_at dksX8_rounds_8 3 rfl rfl)
theorem dX8_rounds_190 : decode cX8_rounds 190 = .ok (.iload 8, 2) := dk_21 8 (dk_at dksX8_rounds_8 4 rfl rfl)
theorem dX8_rounds_192 : decode cX8_rounds 192 = .ok (.invokestatic 171, 3) := dk_184 0 171 (dk_at dksX8_rounds_8 6 rfl rfl)
theorem dX8_rounds_195 : decode cX8_rounds 195 = .ok (.iaload, 1) := dk_46 (dk_at dksX8_rounds_8 9 rfl rfl)
theorem dX8_rounds_196 : decode cX8_rounds 196 = .ok (.isub, 1) := dk_100 (dk_at dksX8_rounds_8 10 rfl rfl)
theorem dX8_rounds_197 : decode cX8_rounds 197 = .ok (.invokestatic 280, 3) := dk_184 1 24 (dk_at dksX8_rounds_8 11 rfl rfl)
theorem dX8_rounds_200 : decode cX8_rounds 200 = .ok (.imul, 1) := dk_104 (dk_at dksX8_rounds_8 14 rfl rfl)
theorem dX8_rounds_201 : decode cX8_rounds 201 = .ok (.iadd, 1) := dk_96 (dk_at dksX8_rounds_8 15 rfl rfl)
theorem dX8_rounds_202 : decode cX8_rounds 202 = .ok (.aload_n 0, 1) := dk_42 (dk_at dksX8_rounds_8 16 rfl rfl)
theorem dX8_rounds_203 : decode cX8_rounds 203 = .ok (.iload_n 1, 1) := dk_27 (dk_at dksX8_rounds_8 17 rfl rfl)
theorem dX8_rounds_204 : decode cX8_rounds 204 = .ok (.iload 8, 2) := dk_21 8 (dk_at dksX8_rounds_8 18 rfl rfl)
theorem dX8_rounds_206 : decode cX8_rounds 206 = .ok (.invokevirtual 387, 3) := dk_182 1 131 (dk_at dksX8_rounds_8 20 rfl rfl)
theorem dX8_rounds_209 : decode cX8_rounds 209 = .ok (.invokestatic 375, 3) := dk_184 1 119 (dk_at dksX8_rounds_9 0 rfl rfl)
theorem dX8_rounds_212 : decode cX8_rounds 212 = .ok (.iastore, 1) := dk_79 (dk_at dksX8_rounds_9 3 rfl rfl)
theorem dX8_rounds_213 : decode cX8_rounds 213 = .ok (.aload_n 0, 1) := dk_42 (dk_at dksX8_rounds_9 4 rfl rfl)
theorem dX8_rounds_214 : decode cX8_rounds 214 = .ok (.iload 8, 2) := dk_21 8 (dk_at dksX8_rounds_9 5 rfl rfl)
theorem dX8_rounds_216 : decode cX8_rounds 216 = .ok (.invokevirtual 268, 3) := dk_182 1 12 (dk_at dksX8_rounds_9 7 rfl rfl)
theorem dX8_rounds_219 : decode cX8_rounds 219 = .ok (.ifCond .eq 27, 3) := dk_153 0 27 (dk_at dksX8_rounds_9 10 rfl rfl)
theorem dX8_rounds_222 : decode cX8_rounds 222 = .ok (.iload 6, 2) := dk_21 6 (dk_at dksX8_rounds_9 13 rfl rfl)
theorem dX8_rounds_224 : decode cX8_rounds 224 = .ok (.iload 8, 2) := dk_21 8 (dk_at dksX8_rounds_9 15 rfl rfl)
theorem dX8_rounds_226 : decode cX8_rounds 226 = .ok (.ishr, 1) := dk_122 (dk_at dksX8_rounds_9 17 rfl rfl)
theorem dX8_rounds_227 : decode cX8_rounds 227 = .ok (.iconst 1, 1) := dk_4 (dk_at dksX8_rounds_9 18 rfl rfl)
theorem dX8_rounds_228 : decode cX8_rounds 228 = .ok (.iand, 1) := dk_126 (dk_at dksX8_rounds_9 19 rfl rfl)
theorem dX8_rounds_229 : decode cX8_rounds 229 = .ok (.ifCond .ne 17, 3) := dk_154 0 17 (dk_at dksX8_rounds_9 20 rfl rfl)
theorem dX8_rounds_232 : decode cX8_rounds 232 = .ok (.aload_n 0, 1) := dk_42 (dk_at dksX8_rounds_9 23 rfl rfl)
theorem dX8_rounds_233 : decode cX8_rounds 233 = .ok (.getfield 50, 3) := dk_180 0 50 (dk_at dksX8_rounds_10 0 rfl rfl)
theorem dX8_rounds_236 : decode cX8_rounds 236 = .ok (.iload 7, 2) := dk_21 7 (dk_at dksX8_rounds_10 3 rfl rfl)
theorem dX8_rounds_238 : decode cX8_rounds 238 = .ok (.iaload, 1) := dk_46 (dk_at dksX8_rounds_10 5 rfl rfl)
theorem dX8_rounds_239 : decode cX8_rounds 239 = .ok (.iload_n 2, 1) := dk_28 (dk_at dksX8_rounds_10 6 rfl rfl)
theorem dX8_rounds_240 : decode cX8_rounds 240 = .ok (.if_icmp .gt 6, 3) := dk_163 0 6 (dk_at dksX8_rounds_10 7 rfl rfl)
theorem dX8_rounds_243 : decode cX8_rounds 243 = .ok (.goto 9, 3) := dk_167 0 9 (dk_at dksX8_rounds_10 10 rfl rfl)
theorem dX8_rounds_246 : decode cX8_rounds 246 = .ok (.iinc 8 1, 3) := dk_132 8 1 (dk_at dksX8_rounds_10 13 rfl rfl)
theorem dX8_rounds_249 : decode cX8_rounds 249 = .ok (.goto (-93), 3) := dk_167 255 163 (dk_at dksX8_rounds_10 16 rfl rfl)
theorem dX8_rounds_252 : decode cX8_rounds 252 = .ok (.iload 8, 2) := dk_21 8 (dk_at dksX8_rounds_10 19 rfl rfl)
theorem dX8_rounds_254 : decode cX8_rounds 254 = .ok (.aload_n 0, 1) := dk_42 (dk_at dksX8_rounds_10 21 rfl rfl)
theorem dX8_rounds_255 : decode cX8_rounds 255 = .ok (.getfield 7, 3) := dk_180 0 7 (dk_at dksX8_rounds_11 0 rfl rfl)
theorem dX8_rounds_258 : decode cX8_rounds 258 = .ok (.iconst 2, 1) := dk_5 (dk_at dksX8_rounds_11 3 rfl rfl)
theorem dX8_rounds_259 : decode cX8_rounds 259 = .ok (.iaload, 1) := dk_46 (dk_at dksX8_rounds_11 4 rfl rfl)
theorem dX8_rounds_260 : decode cX8_rounds 260 = .ok (.if_icmp .eq 16, 3) := dk_159 0 16 (dk_at dksX8_rounds_11 5 rfl rfl)
theorem dX8_rounds_263 : decode cX8_rounds 263 = .ok (.iload 7, 2) := dk_21 7 (dk_at dksX8_rounds_11 8 rfl rfl)
theorem dX8_rounds_265 : decode cX8_rounds 265 = .ok (.aload_n 0, 1) := dk_42 (dk_at dksX8_rounds_11 10 rfl rfl)
theorem dX8_rounds_266 : decode cX8_rounds 266 = .ok (.getfield 7, 3) := dk_180 0 7 (dk_at dksX8_rounds_11 11 rfl rfl)
theorem dX8_rounds_269 : decode cX8_rounds 269 = .ok (.iload_n 3, 1) := dk_29 (dk_at dksX8_rounds_11 14 rfl rfl)
theorem dX8_rounds_270 : decode cX8_rounds 270 = .ok (.iconst 2, 1) := dk_5 (dk_at dksX8_rounds_11 15 rfl rfl)
theorem dX8_rounds_271 : decode cX8_rounds 271 = .ok (.iadd, 1) := dk_96 (dk_at dksX8_rounds_11 16 rfl rfl)
theorem dX8_rounds_272 : decode cX8_rounds 272 = .ok (.iaload, 1) := dk_46 (dk_at dksX8_rounds_11 17 rfl rfl)
theorem dX8_rounds_273 : decode cX8_rounds 273 = .ok (.if_icmp .ne 9, 3) := dk_160 0 9 (dk_at dksX8_rounds_11 18 rfl rfl)
theorem dX8_rounds_276 : decode cX8_rounds 276 = .ok (.iinc 7 (-1), 3) := dk_132 7 255 (dk_at dksX8_rounds_11 21 rfl rfl)
theorem dX8_rounds_279 : decode cX8_rounds 279 = .ok (.goto (-250), 3) := dk_167 255 6 (dk_at dksX8_rounds_12 0 rfl rfl)
theorem dX8_rounds_282 : decode cX8_rounds 282 = .ok (.aload_n 0, 1) := dk_42 (dk_at dksX8_rounds_12 3 rfl rfl)
theorem dX8_rounds_283 : decode cX8_rounds 283 = .ok (.getfield 47, 3) := dk_180 0 47 (dk_at dksX8_rounds_12 4 rfl rfl)
theorem dX8_rounds_286 : decode cX8_rounds 286 = .ok (.iload 7, 2) := dk_21 7 (dk_at dksX8_rounds_12 7 rfl rfl)
theorem dX8_rounds_288 : decode cX8_rounds 288 = .ok (.iload 8, 2) := dk_21 8 (dk_at dksX8_rounds_12 9 rfl rfl)
theorem dX8_rounds_290 : decode cX8_rounds 290 = .ok (.iastore, 1) := dk_79 (dk_at dksX8_rounds_12 11 rfl rfl)
theorem dX8_rounds_291 : decode cX8_rounds 291 = .ok (.iload 6, 2) := dk_21 6 (dk_at dksX8_rounds_12 12 rfl rfl)
theorem dX8_rounds_293 : decode cX8_rounds 293 = .ok (.iconst 1, 1) := dk_4 (dk_at dksX8_rounds_12 14 rfl rfl)
theorem dX8_rounds_294 : decode cX8_rounds 294 = .ok (.iload 8, 2) := dk_21 8 (dk_at dksX8_rounds_12 15 rfl rfl)
theorem dX8_rounds_296 : decode cX8_rounds 296 = .ok (.ishl, 1) := dk_120 (dk_at dksX8_rounds_12 17 rfl rfl)
theorem dX8_rounds_297 : decode cX8_rounds 297 = .ok (.ior, 1) := dk_128 (dk_at dksX8_rounds_12 18 rfl rfl)
theorem dX8_rounds_298 : decode cX8_rounds 298 = .ok (.istore 6, 2) := dk_54 6 (dk_at dksX8_rounds_12 19 rfl rfl)
theorem dX8_rounds_300 : decode cX8_rounds 300 = .ok (.iload 5, 2) := dk_21 5 (dk_at dksX8_rounds_12 21 rfl rfl)
theorem dX8_rounds_302 : decode cX8_rounds 302 = .ok (.aload_n 0, 1) := dk_42 (dk_at dksX8_rounds_12 23 rfl rfl)
theorem dX8_rounds_303 : decode cX8_rounds 303 = .ok (.getfield 7, 3) := dk_180 0 7 (dk_at dksX8_rounds_13 0 rfl rfl)
theorem dX8_rounds_306 : decode cX8_rounds 306 = .ok (.iconst 0, 1) := dk_3 (dk_at dksX8_rounds_13 3 rfl rfl)
theorem dX8_rounds_307 : decode cX8_rounds 307 = .ok (.iload 8, 2) := dk_21 8 (dk_at dksX8_rounds_13 4 rfl rfl)
theorem dX8_rounds_309 : decode cX8_rounds 309 = .ok (.invokestatic 171, 3) := dk_184 0 171 (dk_at dksX8_rounds_13 6 rfl rfl)
theorem dX8_rounds_312 : decode cX8_rounds 312 = .ok (.iconst 1, 1) := dk_4 (dk_at dksX8_rounds_13 9 rfl rfl)
theorem dX8_rounds_313 : decode cX8_rounds 313 = .ok (.iadd, 1) := dk_96 (dk_at dksX8_rounds_13 10 rfl rfl)
theorem dX8_rounds_314 : decode cX8_rounds 314 = .ok (.iaload, 1) := dk_46 (dk_at dksX8_rounds_13 11 rfl rfl)
theorem dX8_rounds_315 : decode cX8_rounds 315 = .ok (.iadd, 1) := dk_96 (dk_at dksX8_rounds_13 12 rfl rfl)
theorem dX8_rounds_316 : decode cX8_rounds 316 = .ok (.istore 5, 2) := dk_54 5 (dk_at dksX8_rounds_13 13 rfl rfl)
theorem dX8_rounds_318 : decode cX8_rounds 318 = .ok (.iload 5, 2) := dk_21 5 (dk_at dksX8_rounds_13 15 rfl rfl)
theorem dX8_rounds_320 : decode cX8_rounds 320 = .ok (.iload 4, 2) := dk_21 4 (dk_at dksX8_rounds_13 17 rfl rfl)
theorem dX8_rounds_322 : decode cX8_rounds 322 = .ok (.if_icmp .gt 21, 3) := dk_163 0 21 (dk_at dksX8_rounds_13 19 rfl rfl)
theorem dX8_rounds_325 : decode cX8_rounds 325 = .ok (.iload 5, 2) := dk_21 5 (dk_at dksX8_rounds_13 22 rfl rfl)
theorem dX8_rounds_327 : decode cX8_rounds 327 = .ok (.iload 4, 2) := dk_21 4 (dk_at dksX8_rounds_14 0 rfl rfl)
theorem dX8_rounds_329 : decode cX8_rounds 329 = .ok (.if_icmp .ne 56, 3) := dk_160 0 56 (dk_at dksX8_rounds_14 2 rfl rfl)
theorem dX8_rounds_332 : decode cX8_rounds 332 = .ok (.iload 7, 2) := dk_21 7 (dk_at dksX8_rounds_14 5 rfl rfl)
theorem dX8_rounds_334 : decode cX8_rounds 334 = .ok (.iconst 1, 1) := dk_4 (dk_at dksX8_rounds_14 7 rfl rfl)
theorem dX8_rounds_335 : decode cX8_rounds 335 = .ok (.iadd, 1) := dk_96 (dk_at dksX8_rounds_14 8 rfl rfl)
theorem dX8_rounds_336 : decode cX8_rounds 336 = .ok (.aload_n 0, 1) := dk_42 (dk_at dksX8_rounds_14 9 rfl rfl)
theorem dX8_rounds_337 : decode cX8_rounds 337 = .ok (.getfield 396, 3) := dk_180 1 140 (dk_at dksX8_rounds_14 10 rfl rfl)
theorem dX8_rounds_340 : decode cX8_rounds 340 = .ok (.if_icmp .ge 45, 3) := dk_162 0 45 (dk_at dksX8_rounds_14 13 rfl rfl)
theorem dX8_rounds_343 : decode cX8_rounds 343 = .ok (.iload 5, 2) := dk_21 5 (dk_at dksX8_rounds_14 16 rfl rfl)
theorem dX8_rounds_345 : decode cX8_rounds 345 = .ok (.istore 4, 2) := dk_54 4 (dk_at dksX8_rounds_14 18 rfl rfl)
theorem dX8_rounds_347 : decode cX8_rounds 347 = .ok (.aload_n 0, 1) := dk_42 (dk_at dksX8_rounds_14 20 rfl rfl)
theorem dX8_rounds_348 : decode cX8_rounds 348 = .ok (.iload 7, 2) := dk_21 7 (dk_at dksX8_rounds_14 21 rfl rfl)
theorem dX8_rounds_350 : decode cX8_rounds 350 = .ok (.iconst 1, 1) := dk_4 (dk_at dksX8_rounds_14 23 rfl rfl)
theorem dX8_rounds_351 : decode cX8_rounds 351 = .ok (.iadd, 1) := dk_96 (dk_at dksX8_rounds_15 0 rfl rfl)
theorem dX8_rounds_352 : decode cX8_rounds 352 = .ok (.putfield 396, 3) := dk_181 1 140 (dk_at dksX8_rounds_15 1 rfl rfl)
theorem dX8_rounds_355 : decode cX8_rounds 355 = .ok (.iconst 0, 1) := dk_3 (dk_at dksX8_rounds_15 4 rfl rfl)
theorem dX8_rounds_356 : decode cX8_rounds 356 = .ok (.istore 11, 2) := dk_54 11 (dk_at dksX8_rounds_15 5 rfl rfl)
theorem dX8_rounds_358 : decode cX8_rounds 358 = .ok (.iload 11, 2) := dk_21 11 (dk_at dksX8_rounds_15 7 rfl rfl)
theorem dX8_rounds_360 : decode cX8_rounds 360 = .ok (.iload 7, 2) := dk_21 7 (dk_at dksX8_rounds_15 9 rfl rfl)
theorem dX8_rounds_362 : decode cX8_rounds 362 = .ok (.if_icmp .gt 23, 3) := dk_163 0 23 (dk_at dksX8_rounds_15 11 rfl rfl)
theorem dX8_rounds_365 : decode cX8_rounds 365 = .ok (.aload_n 0, 1) := dk_42 (dk_at dksX8_rounds_15 14 rfl rfl)
theorem dX8_rounds_366 : decode cX8_rounds 366 = .ok (.getfield 53, 3) := dk_180 0 53 (dk_at dksX8_rounds_15 15 rfl rfl)
theorem dX8_rounds_369 : decode cX8_rounds 369 = .ok (.iload 11, 2) := dk_21 11 (dk_at dksX8_rounds_15 18 rfl rfl)
theorem dX8_rounds_371 : decode cX8_rounds 371 = .ok (.aload_n 0, 1) := dk_42 (dk_at dksX8_rounds_15 20 rfl rfl)
theorem dX8_rounds_372 : decode cX8_rounds 372 = .ok (.getfield 47, 3) := dk_180 0 47 (dk_at dksX8_rounds_15 21 rfl rfl)
theorem dX8_rounds_375 : decode cX8_rounds 375 = .ok (.iload 11, 2) := dk_21 11 (dk_at dksX8_rounds_16 0 rfl rfl)
theorem dX8_rounds_377 : decode cX8_rounds 377 = .ok (.iaload, 1) := dk_46 (dk_at dksX8_rounds_16 2 rfl rfl)
theorem dX8_rounds_378 : decode cX8_rounds 378 = .ok (.iastore, 1) := dk_79 (dk_at dksX8_rounds_16 3 rfl rfl)
theorem dX8_rounds_379 : decode cX8_rounds 379 = .ok (.iinc 11 1, 3) := dk_132 11 1 (dk_at dksX8_rounds_16 4 rfl rfl)
theorem dX8_rounds_382 : decode cX8_rounds 382 = .ok (.goto (-24), 3) := dk_167 255 232 (dk_at dksX8_rounds_16 7 rfl rfl)
theorem dX8_rounds_385 : decode cX8_rounds 385 = .ok (.iinc 7 1, 3) := dk_132 7 1 (dk_at dksX8_rounds_16 10 rfl rfl)
theorem dX8_rounds_388 : decode cX8_rounds 388 = .ok (.aload_n 0, 1) := dk_42 (dk_at dksX8_rounds_16 13 rfl rfl)
theorem dX8_rounds_389 : decode cX8_rounds 389 = .ok (.getfield 47, 3) := dk_180 0 47 (dk_at dksX8_rounds_16 14 rfl rfl)
theorem dX8_rounds_392 : decode cX8_rounds 392 = .ok (.iload 7, 2) := dk_21 7 (dk_at dksX8_rounds_16 17 rfl rfl)
theorem dX8_rounds_394 : decode cX8_rounds 394 = .ok (.iconst (-1), 1) := dk_2 (dk_at dksX8_rounds_16 19 rfl rfl)
theorem dX8_rounds_395 : decode cX8_rounds 395 = .ok (.iastore, 1) := dk_79 (dk_at dksX8_rounds_16 20 rfl rfl)
theorem dX8_rounds_396 : decode cX8_rounds 396 = .ok (.goto (-367), 3) := dk_167 254 145 (dk_at dksX8_rounds_16 21 rfl rfl)
theorem dX8_rounds_399 : decode cX8_rounds 399 = .ok (.iload 4, 2) := dk_21 4 (dk_at dksX8_rounds_17 0 rfl rfl)
theorem dX8_rounds_401 : decode cX8_rounds 401 = .ok (.ireturn, 1) := dk_172 (dk_at dksX8_rounds_17 2 rfl rfl)
abbrev cX8_bestAt : ByteArray := prog_17_method_135_code
def yX8_bestAt : MethodName := ⟨RX8, "bestAt", "(I)I"⟩
def dkwX8_bestAt_1 : List UInt8 := [180, 0, 56, 27, 46, 182, 0, 82, 172]
abbrev dktX8_bestAt_1 : List UInt8 := dkwX8_bestAt_1 ++ []
def dkwX8_bestAt_0 : List UInt8 := [27, 155, 0, 11, 27, 42, 180, 1, 146, 161, 0, 12, 42, 16, 6, 182, 0, 78, 167, 0, 13, 42, 42]
abbrev dktX8_bestAt_0 : List UInt8 := dkwX8_bestAt_0 ++ dktX8_bestAt_1
theorem dksX8_bestAt_0 : cX8_bestAt.data.toList.drop 0 = dktX8_bestAt_0 := by decide +kernel
theorem dksX8_bestAt_1 : cX8_bestAt.data.toList.drop 23 = dktX8_bestAt_1 := dk_seg dksX8_bestAt_0 23 rfl rfl
theorem dX8_bestAt_0 : decode cX8_bestAt 0 = .ok (.iload_n 1, 1) := dk_27 (dk_at dksX8_bestAt_0 0 rfl rfl)
theorem dX8_bestAt_1 : decode cX8_bestAt 1 = .ok (.ifCond .lt 11, 3) := dk_155 0 11 (dk_at dksX8_bestAt_0 1 rfl rfl)
theorem dX8_bestAt_4 : decode cX8_bestAt 4 = .ok (.iload_n 1, 1) := dk_27 (dk_at dksX8_bestAt_0 4 rfl rfl)
theorem dX8_bestAt_5 : decode cX8_bestAt 5 = .ok (.aload_n 0, 1) := dk_42 (dk_at dksX8_bestAt_0 5 rfl rfl)
theorem dX8_bestAt_6 : decode cX8_bestAt 6 = .ok (.getfield 402, 3) := dk_180 1 146 (dk_at dksX8_bestAt_0 6 rfl rfl)
theorem dX8_bestAt_9 : decode cX8_bestAt 9 = .ok (.if_icmp .lt 12, 3) := dk_161 0 12 (dk_at dksX8_bestAt_0 9 rfl rfl)
theorem dX8_bestAt_12 : decode cX8_bestAt 12 = .ok (.aload_n 0, 1) := dk_42 (dk_at dksX8_bestAt_0 12 rfl rfl)
theorem dX8_bestAt_13 : decode cX8_bestAt 13 = .ok (.bipush 6, 2) := dk_16 6 (dk_at dksX8_bestAt_0 13 rfl rfl)
theorem dX8_bestAt_15 : decode cX8_bestAt 15 = .ok (.invokevirtual 78, 3) := dk_182 0 78 (dk_at dksX8_bestAt_0 15 rfl rfl)
theorem dX8_bestAt_18 : decode cX8_bestAt 18 = .ok (.goto 13, 3) := dk_167 0 13 (dk_at dksX8_bestAt_0 18 rfl rfl)
theorem dX8_bestAt_21 : decode cX8_bestAt 21 = .ok (.aload_n 0, 1) := dk_42 (dk_at dksX8_bestAt_0 21 rfl rfl)
theorem dX8_bestAt_22 : decode cX8_bestAt 22 = .ok (.aload_n 0, 1) := dk_42 (dk_at dksX8_bestAt_0 22 rfl rfl)
theorem dX8_bestAt_23 : decode cX8_bestAt 23 = .ok (.getfield 56, 3) := dk_180 0 56 (dk_at dksX8_bestAt_1 0 rfl rfl)
theorem dX8_bestAt_26 : decode cX8_bestAt 26 = .ok (.iload_n 1, 1) := dk_27 (dk_at dksX8_bestAt_1 3 rfl rfl)
theorem dX8_bestAt_27 : decode cX8_bestAt 27 = .ok (.iaload, 1) := dk_46 (dk_at dksX8_bestAt_1 4 rfl rfl)
theorem dX8_bestAt_28 : decode cX8_bestAt 28 = .ok (.invokevirtual 82, 3) := dk_182 0 82 (dk_at dksX8_bestAt_1 5 rfl rfl)
theorem dX8_bestAt_31 : decode cX8_bestAt 31 = .ok (.ireturn, 1) := dk_172 (dk_at dksX8_bestAt_1 8 rfl rfl)
abbrev cX8_lateness : ByteArray := prog_17_method_136_code
def yX8_lateness : MethodName := ⟨RX8, "lateness", "(II)I"⟩
def dkwX8_lateness_2 : List UInt8 := [6, 46, 182, 1, 143, 100, 182, 0, 82, 172]
abbrev dktX8_lateness_2 : List UInt8 := dkwX8_lateness_2 ++ []
def dkwX8_lateness_1 : List UInt8 := [182, 0, 78, 172, 42, 42, 27, 42, 180, 0, 7, 6, 46, 28, 96, 182, 1, 143, 42, 27, 42, 180, 0, 7]
abbrev dktX8_lateness_1 : List UInt8 := dkwX8_lateness_1 ++ dktX8_lateness_2
def dkwX8_lateness_0 : List UInt8 := [42, 27, 182, 1, 15, 153, 0, 15, 28, 133, 9, 20, 1, 40, 184, 1, 33, 154, 0, 9, 42, 4]
abbrev dktX8_lateness_0 : List UInt8 := dkwX8_lateness_0 ++ dktX8_lateness_1
theorem dksX8_lateness_0 : cX8_lateness.data.toList.drop 0 = dktX8_lateness_0 := by decide +kernel
theorem dksX8_lateness_1 : cX8_lateness.data.toList.drop 22 = dktX8_lateness_1 := dk_seg dksX8_lateness_0 22 rfl rfl
theorem dksX8_lateness_2 : cX8_lateness.data.toList.drop 46 = dktX8_lateness_2 := dk_seg dksX8_lateness_1 24 rfl rfl
theorem dX8_lateness_0 : decode cX8_lateness 0 = .ok (.aload_n 0, 1) := dk_42 (dk_at dksX8_lateness_0 0 rfl rfl)
theorem dX8_lateness_1 : decode cX8_lateness 1 = .ok (.iload_n 1, 1) := dk_27 (dk_at dksX8_lateness_0 1 rfl rfl)
theorem dX8_lateness_2 : decode cX8_lateness 2 = .ok (.invokevirtual 271, 3) := dk_182 1 15 (dk_at dksX8_lateness_0 2 rfl rfl)
theorem dX8_lateness_5 : decode cX8_lateness 5 = .ok (.ifCond .eq 15, 3) := dk_153 0 15 (dk_at dksX8_lateness_0 5 rfl rfl)
theorem dX8_lateness_8 : decode cX8_lateness 8 = .ok (.iload_n 2, 1) := dk_28 (dk_at dksX8_lateness_0 8 rfl rfl)
theorem dX8_lateness_9 : decode cX8_lateness 9 = .ok (.i2l, 1) := dk_133 (dk_at dksX8_lateness_0 9 rfl rfl)
theorem dX8_lateness_10 : decode cX8_lateness 10 = .ok (.lconst 0, 1) := dk_9 (dk_at dksX8_lateness_0 10 rfl rfl)
theorem dX8_lateness_11 : decode cX8_lateness 11 = .ok (.ldc2_w 296, 3) := dk_20 1 40 (dk_at dksX8_lateness_0 11 rfl rfl)
theorem dX8_lateness_14 : decode cX8_lateness 14 = .ok (.invokestatic 289, 3) := dk_184 1 33 (dk_at dksX8_lateness_0 14 rfl rfl)
theorem dX8_lateness_17 : decode cX8_lateness 17 = .ok (.ifCond .ne 9, 3) := dk_154 0 9 (dk_at dksX8_lateness_0 17 rfl rfl)
theorem dX8_lateness_20 : decode cX8_lateness 20 = .ok (.aload_n 0, 1) := dk_42 (dk_at dksX8_lateness_0 20 rfl rfl)
theorem dX8_lateness_21 : decode cX8_lateness 21 = .ok (.iconst 1, 1) := dk_4 (dk_at dksX8_lateness_0 21 rfl rfl)
theorem dX8_lateness_22 : decode cX8_lateness 22 = .ok (.invokevirtual 78, 3) := dk_182 0 78 (dk_at dksX8_lateness_1 0 rfl rfl)
theorem dX8_lateness_25 : decode cX8_lateness 25 = .ok (.ireturn, 1) := dk_172 (dk_at dksX8_lateness_1 3 rfl rfl)
theorem dX8_lateness_26 : decode cX8_lateness 26 = .ok (.aload_n 0, 1) := dk_42 (dk_at dksX8_lateness_1 4 rfl rfl)
theorem dX8_lateness_27 : decode cX8_lateness 27 = .ok (.aload_n 0, 1) := dk_42 (dk_at dksX8_lateness_1 5 rfl rfl)
theorem dX8_lateness_28 : decode cX8_lateness 28 = .ok (.iload_n 1, 1) := dk_27 (dk_at dksX8_lateness_1 6 rfl rfl)
theorem dX8_lateness_29 : decode cX8_lateness 29 = .ok (.aload_n 0, 1) := dk_42 (dk_at dksX8_lateness_1 7 rfl rfl)
theorem dX8_lateness_30 : decode cX8_lateness 30 = .ok (.getfield 7, 3) := dk_180 0 7 (dk_at dksX8_lateness_1 8 rfl rfl)
theorem dX8_lateness_33 : decode cX8_lateness 33 = .ok (.iconst 3, 1) := dk_6 (dk_at dksX8_lateness_1 11 rfl rfl)
theorem dX8_lateness_34 : decode cX8_lateness 34 = .ok (.iaload, 1) := dk_46 (dk_at dksX8_lateness_1 12 rfl rfl)
theorem dX8_lateness_35 : decode cX8_lateness 35 = .ok (.iload_n 2, 1) := dk_28 (dk_at dksX8_lateness_1 13 rfl rfl)
theorem dX8_lateness_36 : decode cX8_lateness 36 = .ok (.iadd, 1) := dk_96 (dk_at dksX8_lateness_1 14 rfl rfl)
theorem dX8_lateness_37 : decode cX8_lateness 37 = .ok (.invokevirtual 399, 3) := dk_182 1 143 (dk_at dksX8_lateness_1 15 rfl rfl)
theorem dX8_lateness_40 : decode cX8_lateness 40 = .ok (.aload_n 0, 1) := dk_42 (dk_at dksX8_lateness_1 18 rfl rfl)
theorem dX8_lateness_41 : decode cX8_lateness 41 = .ok (.iload_n 1, 1) := dk_27 (dk_at dksX8_lateness_1 19 rfl rfl)
theorem dX8_lateness_42 : decode cX8_lateness 42 = .ok (.aload_n 0, 1) := dk_42 (dk_at dksX8_lateness_1 20 rfl rfl)
theorem dX8_lateness_43 : decode cX8_lateness 43 = .ok (.getfield 7, 3) := dk_180 0 7 (dk_at dksX8_lateness_1 21 rfl rfl)
theorem dX8_lateness_46 : decode cX8_lateness 46 = .ok (.iconst 3, 1) := dk_6 (dk_at dksX8_lateness_2 0 rfl rfl)
theorem dX8_lateness_47 : decode cX8_lateness 47 = .ok (.iaload, 1) := dk_46 (dk_at dksX8_lateness_2 1 rfl rfl)
theorem dX8_lateness_48 : decode cX8_lateness 48 = .ok (.invokevirtual 399, 3) := dk_182 1 143 (dk_at dksX8_lateness_2 2 rfl rfl)
theorem dX8_lateness_51 : decode cX8_lateness 51 = .ok (.isub, 1) := dk_100 (dk_at dksX8_lateness_2 5 rfl rfl)
theorem dX8_lateness_52 : decode cX8_lateness 52 = .ok (.invokevirtual 82, 3) := dk_182 0 82 (dk_at dksX8_lateness_2 6 rfl rfl)
theorem dX8_lateness_55 : decode cX8_lateness 55 = .ok (.ireturn, 1) := dk_172 (dk_at dksX8_lateness_2 9 rfl rfl)
abbrev cX8_seen : ByteArray := prog_17_method_138_code
def yX8_seen : MethodName := ⟨RX8, "seen", "(II)I"⟩
def dkwX8_seen_1 : List UInt8 := [182, 1, 122, 182, 0, 82, 167, 0, 8, 42, 4, 182, 0, 78, 172]
abbrev dktX8_seen_1 : List UInt8 := dkwX8_seen_1 ++ []
def dkwX8_seen_0 : List UInt8 := [42, 27, 182, 1, 15, 153, 0, 28, 28, 133, 9, 20, 1, 76, 184, 1, 33, 153, 0, 16, 42, 42, 27, 28]
abbrev dktX8_seen_0 : List UInt8 := dkwX8_seen_0 ++ dktX8_seen_1
theorem dksX8_seen_0 : cX8_seen.data.toList.drop 0 = dktX8_seen_0 := by decide +kernel
theorem dksX8_seen_1 : cX8_seen.data.toList.drop 24 = dktX8_seen_1 := dk_seg dksX8_seen_0 24 rfl rfl
theorem dX8_seen_0 : decode cX8_seen 0 = .ok (.aload_n 0, 1) := dk_42 (dk_at dksX8_seen_0 0 rfl rfl)
theorem dX8_seen_1 : decode cX8_seen 1 = .ok (.iload_n 1, 1) := dk_27 (dk_at dksX8_seen_0 1 rfl rfl)
theorem dX8_seen_2 : decode cX8_seen 2 = .ok (.invokevirtual 271, 3) := dk_182 1 15 (dk_at dksX8_seen_0 2 rfl rfl)
theorem dX8_seen_5 : decode cX8_seen 5 = .ok (.ifCond .eq 28, 3) := dk_153 0 28 (dk_at dksX8_seen_0 5 rfl rfl)
theorem dX8_seen_8 : decode cX8_seen 8 = .ok (.iload_n 2, 1) := dk_28 (dk_at dksX8_seen_0 8 rfl rfl)
theorem dX8_seen_9 : decode cX8_seen 9 = .ok (.i2l, 1) := dk_133 (dk_at dksX8_seen_0 9 rfl rfl)
theorem dX8_seen_10 : decode cX8_seen 10 = .ok (.lconst 0, 1) := dk_9 (dk_at dksX8_seen_0 10 rfl rfl)
theorem dX8_seen_11 : decode cX8_seen 11 = .ok (.ldc2_w 332, 3) := dk_20 1 76 (dk_at dksX8_seen_0 11 rfl rfl)
theorem dX8_seen_14 : decode cX8_seen 14 = .ok (.invokestatic 289, 3) := dk_184 1 33 (dk_at dksX8_seen_0 14 rfl rfl)
theorem dX8_seen_17 : decode cX8_seen 17 = .ok (.ifCond .eq 16, 3) := dk_153 0 16 (dk_at dksX8_seen_0 17 rfl rfl)
theorem dX8_seen_20 : decode cX8_seen 20 = .ok (.aload_n 0, 1) := dk_42 (dk_at dksX8_seen_0 20 rfl rfl)
theorem dX8_seen_21 : decode cX8_seen 21 = .ok (.aload_n 0, 1) := dk_42 (dk_at dksX8_seen_0 21 rfl rfl)
theorem dX8_seen_22 : decode cX8_seen 22 = .ok (.iload_n 1, 1) := dk_27 (dk_at dksX8_seen_0 22 rfl rfl)
theorem dX8_seen_23 : decode cX8_seen 23 = .ok (.iload_n 2, 1) := dk_28 (dk_at dksX8_seen_0 23 rfl rfl)
theorem dX8_seen_24 : decode cX8_seen 24 = .ok (.invokevirtual 378, 3) := dk_182 1 122 (dk_at dksX8_seen_1 0 rfl rfl)
theorem dX8_seen_27 : decode cX8_seen 27 = .ok (.invokevirtual 82, 3) := dk_182 0 82 (dk_at dksX8_seen_1 3 rfl rfl)
theorem dX8_seen_30 : decode cX8_seen 30 = .ok (.goto 8, 3) := dk_167 0 8 (dk_at dksX8_seen_1 6 rfl rfl)
theorem dX8_seen_33 : decode cX8_seen 33 = .ok (.aload_n 0, 1) := dk_42 (dk_at dksX8_seen_1 9 rfl rfl)
theorem dX8_seen_34 : decode cX8_seen 34 = .ok (.iconst 1, 1) := dk_4 (dk_at dksX8_seen_1 10 rfl rfl)
theorem dX8_seen_35 : decode cX8_seen 35 = .ok (.invokevirtual 78, 3) := dk_182 0 78 (dk_at dksX8_seen_1 11 rfl rfl)
theorem dX8_seen_38 : decode cX8_seen 38 = .ok (.ireturn, 1) := dk_172 (dk_at dksX8_seen_1 14 rfl rfl)
abbrev cX8_boys : ByteArray := prog_17_method_141_code
def yX8_boys : MethodName := ⟨RX8, "boys", "(I)I"⟩
def dkwX8_boys_2 : List UInt8 := [172]
abbrev dktX8_boys_2 : List UInt8 := dkwX8_boys_2 ++ []
def dkwX8_boys_1 : List UInt8 := [162, 0, 19, 42, 27, 28, 182, 1, 152, 2, 159, 0, 9, 132, 2, 1, 167, 255, 237, 42, 28, 182, 0, 82]
abbrev dktX8_boys_1 : List UInt8 := dkwX8_boys_1 ++ dktX8_boys_2
def dkwX8_boys_0 : List UInt8 := [27, 133, 9, 20, 1, 76, 184, 1, 33, 154, 0, 9, 42, 4, 182, 0, 78, 172, 3, 61, 28, 16, 8]
abbrev dktX8_boys_0 : List UInt8 := dkwX8_boys_0 ++ dktX8_boys_1
theorem dksX8_boys_0 : cX8_boys.data.toList.drop 0 = dktX8_boys_0 := by decide +kernel
theorem dksX8_boys_1 : cX8_boys.data.toList.drop 23 = dktX8_boys_1 := dk_seg dksX8_boys_0 23 rfl rfl
theorem dksX8_boys_2 : cX8_boys.data.toList.drop 47 = dktX8_boys_2 := dk_seg dksX8_boys_1 24 rfl rfl
theorem dX8_boys_0 : decode cX8_boys 0 = .ok (.iload_n 1, 1) := dk_27 (dk_at dksX8_boys_0 0 rfl rfl)
theorem dX8_boys_1 : decode cX8_boys 1 = .ok (.i2l, 1) := dk_133 (dk_at dksX8_boys_0 1 rfl rfl)
theorem dX8_boys_2 : decode cX8_boys 2 = .ok (.lconst 0, 1) := dk_9 (dk_at dksX8_boys_0 2 rfl rfl)
theorem dX8_boys_3 : decode cX8_boys 3 = .ok (.ldc2_w 332, 3) := dk_20 1 76 (dk_at dksX8_boys_0 3 rfl rfl)
theorem dX8_boys_6 : decode cX8_boys 6 = .ok (.invokestatic 289, 3) := dk_184 1 33 (dk_at dksX8_boys_0 6 rfl rfl)
theorem dX8_boys_9 : decode cX8_boys 9 = .ok (.ifCond .ne 9, 3) := dk_154 0 9 (dk_at dksX8_boys_0 9 rfl rfl)
theorem dX8_boys_12 : decode cX8_boys 12 = .ok (.aload_n 0, 1) := dk_42 (dk_at dksX8_boys_0 12 rfl rfl)
theorem dX8_boys_13 : decode cX8_boys 13 = .ok (.iconst 1, 1) := dk_4 (dk_at dksX8_boys_0 13 rfl rfl)
theorem dX8_boys_14 : decode cX8_boys 14 = .ok (.invokevirtual 78, 3) := dk_182 0 78 (dk_at dksX8_boys_0 14 rfl rfl)
theorem dX8_boys_17 : decode cX8_boys 17 = .ok (.ireturn, 1) := dk_172 (dk_at dksX8_boys_0 17 rfl rfl)
theorem dX8_boys_18 : decode cX8_boys 18 = .ok (.iconst 0, 1) := dk_3 (dk_at dksX8_boys_0 18 rfl rfl)
theorem dX8_boys_19 : decode cX8_boys 19 = .ok (.istore_n 2, 1) := dk_61 (dk_at dksX8_boys_0 19 rfl rfl)
theorem dX8_boys_20 : decode cX8_boys 20 = .ok (.iload_n 2, 1) := dk_28 (dk_at dksX8_boys_0 20 rfl rfl)
theorem dX8_boys_21 : decode cX8_boys 21 = .ok (.bipush 8, 2) := dk_16 8 (dk_at dksX8_boys_0 21 rfl rfl)
theorem dX8_boys_23 : decode cX8_boys 23 = .ok (.if_icmp .ge 19, 3) := dk_162 0 19 (dk_at dksX8_boys_1 0 rfl rfl)
theorem dX8_boys_26 : decode cX8_boys 26 = .ok (.aload_n 0, 1) := dk_42 (dk_at dksX8_boys_1 3 rfl rfl)
theorem dX8_boys_27 : decode cX8_boys 27 = .ok (.iload_n 1, 1) := dk_27 (dk_at dksX8_boys_1 4 rfl rfl)
theorem dX8_boys_28 : decode cX8_boys 28 = .ok (.iload_n 2, 1) := dk_28 (dk_at dksX8_boys_1 5 rfl rfl)
theorem dX8_boys_29 : decode cX8_boys 29 = .ok (.invokevirtual 408, 3) := dk_182 1 152 (dk_at dksX8_boys_1 6 rfl rfl)
theorem dX8_boys_32 : decode cX8_boys 32 = .ok (.iconst (-1), 1) := dk_2 (dk_at dksX8_boys_1 9 rfl rfl)
theorem dX8_boys_33 : decode cX8_boys 33 = .ok (.if_icmp .eq 9, 3) := dk_159 0 9 (dk_at dksX8_boys_1 10 rfl rfl)
theorem dX8_boys_36 : decode cX8_boys 36 = .ok (.iinc 2 1, 3) := dk_132 2 1 (dk_at dksX8_boys_1 13 rfl rfl)
theorem dX8_boys_39 : decode cX8_boys 39 = .ok (.goto (-19), 3) := dk_167 255 237 (dk_at dksX8_boys_1 16 rfl rfl)
theorem dX8_boys_42 : decode cX8_boys 42 = .ok (.aload_n 0, 1) := dk_42 (dk_at dksX8_boys_1 19 rfl rfl)
theorem dX8_boys_43 : decode cX8_boys 43 = .ok (.iload_n 2, 1) := dk_28 (dk_at dksX8_boys_1 20 rfl rfl)
theorem dX8_boys_44 : decode cX8_boys 44 = .ok (.invokevirtual 82, 3) := dk_182 0 82 (dk_at dksX8_boys_1 21 rfl rfl)
theorem dX8_boys_47 : decode cX8_boys 47 = .ok (.ireturn, 1) := dk_172 (dk_at dksX8_boys_2 0 rfl rfl)
abbrev cX8_boy : ByteArray := prog_17_method_140_code
def yX8_boy : MethodName := ⟨RX8, "boy", "(II)I"⟩
def dkwX8_boy_1 : List UInt8 := [96, 4, 96, 27, 182, 1, 149, 62, 132, 4, 1, 167, 255, 231, 29, 172]
abbrev dktX8_boy_1 : List UInt8 := dkwX8_boy_1 ++ []
def dkwX8_boy_0 : List UInt8 := [42, 3, 27, 182, 1, 149, 62, 3, 54, 4, 21, 4, 28, 162, 0, 25, 29, 2, 159, 0, 20, 42, 29, 27]
abbrev dktX8_boy_0 : List UInt8 := dkwX8_boy_0 ++ dktX8_boy_1
theorem dksX8_boy_0 : cX8_boy.data.toList.drop 0 = dktX8_boy_0 := by decide +kernel
theorem dksX8_boy_1 : cX8_boy.data.toList.drop 24 = dktX8_boy_1 := dk_seg dksX8_boy_0 24 rfl rfl
theorem dX8_boy_0 : decode cX8_boy 0 = .ok (.aload_n 0, 1) := dk_42 (dk_at dksX8_boy_0 0 rfl rfl)
theorem dX8_boy_1 : decode cX8_boy 1 = .ok (.iconst 0, 1) := dk_3 (dk_at dksX8_boy_0 1 rfl rfl)
theorem dX8_boy_2 : decode cX8_boy 2 = .ok (.iload_n 1, 1) := dk_27 (dk_at dksX8_boy_0 2 rfl rfl)
theorem dX8_boy_3 : decode cX8_boy 3 = .ok (.invokevirtual 405, 3) := dk_182 1 149 (dk_at dksX8_boy_0 3 rfl rfl)
theorem dX8_boy_6 : decode cX8_boy 6 = .ok (.istore_n 3, 1) := dk_62 (dk_at dksX8_boy_0 6 rfl rfl)
theorem dX8_boy_7 : decode cX8_boy 7 = .ok (.iconst 0, 1) := dk_3 (dk_at dksX8_boy_0 7 rfl rfl)
theorem dX8_boy_8 : decode cX8_boy 8 = .ok (.istore 4, 2) := dk_54 4 (dk_at dksX8_boy_0 8 rfl rfl)
theorem dX8_boy_10 : decode cX8_boy 10 = .ok (.iload 4, 2) := dk_21 4 (dk_at dksX8_boy_0 10 rfl rfl)
theorem dX8_boy_12 : decode cX8_boy 12 = .ok (.iload_n 2, 1) := dk_28 (dk_at dksX8_boy_0 12 rfl rfl)
theorem dX8_boy_13 : decode cX8_boy 13 = .ok (.if_icmp .ge 25, 3) := dk_162 0 25 (dk_at dksX8_boy_0 13 rfl rfl)
theorem dX8_boy_16 : decode cX8_boy 16 = .ok (.iload_n 3, 1) := dk_29 (dk_at dksX8_boy_0 16 rfl rfl)
theorem dX8_boy_17 : decode cX8_boy 17 = .ok (.iconst (-1), 1) := dk_2 (dk_at dksX8_boy_0 17 rfl rfl)
theorem dX8_boy_18 : decode cX8_boy 18 = .ok (.if_icmp .eq 20, 3) := dk_159 0 20 (dk_at dksX8_boy_0 18 rfl rfl)
theorem dX8_boy_21 : decode cX8_boy 21 = .ok (.aload_n 0, 1) := dk_42 (dk_at dksX8_boy_0 21 rfl rfl)
theorem dX8_boy_22 : decode cX8_boy 22 = .ok (.iload_n 3, 1) := dk_29 (dk_at dksX8_boy_0 22 rfl rfl)
theorem dX8_boy_23 : decode cX8_boy 23 = .ok (.iload_n 1, 1) := dk_27 (dk_at dksX8_boy_0 23 rfl rfl)
theorem dX8_boy_24 : decode cX8_boy 24 = .ok (.iadd, 1) := dk_96 (dk_at dksX8_boy_1 0 rfl rfl)
theorem dX8_boy_25 : decode cX8_boy 25 = .ok (.iconst 1, 1) := dk_4 (dk_at dksX8_boy_1 1 rfl rfl)
theorem dX8_boy_26 : decode cX8_boy 26 = .ok (.iadd, 1) := dk_96 (dk_at dksX8_boy_1 2 rfl rfl)
theorem dX8_boy_27 : decode cX8_boy 27 = .ok (.iload_n 1, 1) := dk_27 (dk_at dksX8_boy_1 3 rfl rfl)
theorem dX8_boy_28 : decode cX8_boy 28 = .ok (.invokevirtual 405, 3) := dk_182 1 149 (dk_at dksX8_boy_1 4 rfl rfl)
theorem dX8_boy_31 : decode cX8_boy 31 = .ok (.istore_n 3, 1) := dk_62 (dk_at dksX8_boy_1 7 rfl rfl)
theorem dX8_boy_32 : decode cX8_boy 32 = .ok (.iinc 4 1, 3) := dk_132 4 1 (dk_at dksX8_boy_1 8 rfl rfl)
theorem dX8_boy_35 : decode cX8_boy 35 = .ok (.goto (-25), 3) := dk_167 255 231 (dk_at dksX8_boy_1 11 rfl rfl)
theorem dX8_boy_38 : decode cX8_boy 38 = .ok (.iload_n 3, 1) := dk_29 (dk_at dksX8_boy_1 14 rfl rfl)
theorem dX8_boy_39 : decode cX8_boy 39 = .ok (.ireturn, 1) := dk_172 (dk_at dksX8_boy_1 15 rfl rfl)
abbrev cX8_boyFrom : ByteArray := prog_17_method_139_code
def yX8_boyFrom : MethodName := ⟨RX8, "boyFrom", "(II)I"⟩
def dkwX8_boyFrom_4 : List UInt8 := [3, 46, 4, 100, 184, 0, 133, 172]
abbrev dktX8_boyFrom_4 : List UInt8 := dkwX8_boyFrom_4 ++ []
def dkwX8_boyFrom_3 : List UInt8 := [46, 62, 132, 4, 1, 167, 255, 186, 29, 2, 160, 0, 7, 2, 167, 0, 17, 29, 28, 96, 42, 180, 0, 7]
abbrev dktX8_boyFrom_3 : List UInt8 := dkwX8_boyFrom_3 ++ dktX8_boyFrom_4
def dkwX8_boyFrom_2 : List UInt8 := [180, 0, 7, 3, 21, 4, 184, 0, 171, 46, 29, 162, 0, 15, 42, 180, 0, 7, 3, 21, 4, 184, 0, 171]
abbrev dktX8_boyFrom_2 : List UInt8 := dkwX8_boyFrom_2 ++ dktX8_boyFrom_3
def dkwX8_boyFrom_1 : List UInt8 := [153, 0, 50, 42, 180, 0, 7, 3, 21, 4, 184, 0, 171, 46, 27, 161, 0, 35, 29, 2, 159, 0, 18, 42]
abbrev dktX8_boyFrom_1 : List UInt8 := dkwX8_boyFrom_1 ++ dktX8_boyFrom_2
def dkwX8_boyFrom_0 : List UInt8 := [2, 62, 3, 54, 4, 21, 4, 42, 180, 0, 7, 5, 46, 162, 0, 65, 42, 21, 4, 182, 1, 12]
abbrev dktX8_boyFrom_0 : List UInt8 := dkwX8_boyFrom_0 ++ dktX8_boyFrom_1
theorem dksX8_boyFrom_0 : cX8_boyFrom.data.toList.drop 0 = dktX8_boyFrom_0 := by decide +kernel
theorem dksX8_boyFrom_1 : cX8_boyFrom.data.toList.drop 22 = dktX8_boyFrom_1 := dk_seg dksX8_boyFrom_0 22 rfl rfl
theorem dksX8_boyFrom_2 : cX8_boyFrom.data.toList.drop 46 = dktX8_boyFrom_2 := dk_seg dksX8_boyFrom_1 24 rfl rfl
theorem dksX8_boyFrom_3 : cX8_boyFrom.data.toList.drop 70 = dktX8_boyFrom_3 := dk_seg dksX8_boyFrom_2 24 rfl rfl
theorem dksX8_boyFrom_4 : cX8_boyFrom.data.toList.drop 94 = dktX8_boyFrom_4 := dk_seg dksX8_boyFrom_3 24 rfl rfl
theorem dX8_boyFrom_0 : decode cX8_boyFrom 0 = .ok (.iconst (-1), 1) := dk_2 (dk_at dksX8_boyFrom_0 0 rfl rfl)
theorem dX8_boyFrom_1 : decode cX8_boyFrom 1 = .ok (.istore_n 3, 1) := dk_62 (dk_at dksX8_boyFrom_0 1 rfl rfl)
theorem dX8_boyFrom_2 : decode cX8_boyFrom 2 = .ok (.iconst 0, 1) := dk_3 (dk_at dksX8_boyFrom_0 2 rfl rfl)
theorem dX8_boyFrom_3 : decode cX8_boyFrom 3 = .ok (.istore 4, 2) := dk_54 4 (dk_at dksX8_boyFrom_0 3 rfl rfl)
theorem dX8_boyFrom_5 : decode cX8_boyFrom 5 = .ok (.iload 4, 2) := dk_21 4 (dk_at dksX8_boyFrom_0 5 rfl rfl)
theorem dX8_boyFrom_7 : decode cX8_boyFrom 7 = .ok (.aload_n 0, 1) := dk_42 (dk_at dksX8_boyFrom_0 7 rfl rfl)
theorem dX8_boyFrom_8 : decode cX8_boyFrom 8 = .ok (.getfield 7, 3) := dk_180 0 7 (dk_at dksX8_boyFrom_0 8 rfl rfl)
theorem dX8_boyFrom_11 : decode cX8_boyFrom 11 = .ok (.iconst 2, 1) := dk_5 (dk_at dksX8_boyFrom_0 11 rfl rfl)
theorem dX8_boyFrom_12 : decode cX8_boyFrom 12 = .ok (.iaload, 1) := dk_46 (dk_at dksX8_boyFrom_0 12 rfl rfl)
theorem dX8_boyFrom_13 : decode cX8_boyFrom 13 = .ok (.if_icmp .ge 65, 3) := dk_162 0 65 (dk_at dksX8_boyFrom_0 13 rfl rfl)
theorem dX8_boyFrom_16 : decode cX8_boyFrom 16 = .ok (.aload_n 0, 1) := dk_42 (dk_at dksX8_boyFrom_0 16 rfl rfl)
theorem dX8_boyFrom_17 : decode cX8_boyFrom 17 = .ok (.iload 4, 2) := dk_21 4 (dk_at dksX8_boyFrom_0 17 rfl rfl)
theorem dX8_boyFrom_19 : decode cX8_boyFrom 19 = .ok (.invokevirtual 268, 3) := dk_182 1 12 (dk_at dksX8_boyFrom_0 19 rfl rfl)
theorem dX8_boyFrom_22 : decode cX8_boyFrom 22 = .ok (.ifCond .eq 50, 3) := dk_153 0 50 (dk_at dksX8_boyFrom_1 0 rfl rfl)
theorem dX8_boyFrom_25 : decode cX8_boyFrom 25 = .ok (.aload_n 0, 1) := dk_42 (dk_at dksX8_boyFrom_1 3 rfl rfl)
theorem dX8_boyFrom_26 : decode cX8_boyFrom 26 = .ok (.getfield 7, 3) := dk_180 0 7 (dk_at dksX8_boyFrom_1 4 rfl rfl)
theorem dX8_boyFrom_29 : decode cX8_boyFrom 29 = .ok (.iconst 0, 1) := dk_3 (dk_at dksX8_boyFrom_1 7 rfl rfl)
theorem dX8_boyFrom_30 : decode cX8_boyFrom 30 = .ok (.iload 4, 2) := dk_21 4 (dk_at dksX8_boyFrom_1 8 rfl rfl)
theorem dX8_boyFrom_32 : decode cX8_boyFrom 32 = .ok (.invokestatic 171, 3) := dk_184 0 171 (dk_at dksX8_boyFrom_1 10 rfl rfl)
theorem dX8_boyFrom_35 : decode cX8_boyFrom 35 = .ok (.iaload, 1) := dk_46 (dk_at dksX8_boyFrom_1 13 rfl rfl)
theorem dX8_boyFrom_36 : decode cX8_boyFrom 36 = .ok (.iload_n 1, 1) := dk_27 (dk_at dksX8_boyFrom_1 14 rfl rfl)
theorem dX8_boyFrom_37 : decode cX8_boyFrom 37 = .ok (.if_icmp .lt 35, 3) := dk_161 0 35 (dk_at dksX8_boyFrom_1 15 rfl rfl)
theorem dX8_boyFrom_40 : decode cX8_boyFrom 40 = .ok (.iload_n 3, 1) := dk_29 (dk_at dksX8_boyFrom_1 18 rfl rfl)
theorem dX8_boyFrom_41 : decode cX8_boyFrom 41 = .ok (.iconst (-1), 1) := dk_2 (dk_at dksX8_boyFrom_1 19 rfl rfl)
theorem dX8_boyFrom_42 : decode cX8_boyFrom 42 = .ok (.if_icmp .eq 18, 3) := dk_159 0 18 (dk_at dksX8_boyFrom_1 20 rfl rfl)
theorem dX8_boyFrom_45 : decode cX8_boyFrom 45 = .ok (.aload_n 0, 1) := dk_42 (dk_at dksX8_boyFrom_1 23 rfl rfl)
theorem dX8_boyFrom_46 : decode cX8_boyFrom 46 = .ok (.getfield 7, 3) := dk_180 0 7 (dk_at dksX8_boyFrom_2 0 rfl rfl)
theorem dX8_boyFrom_49 : decode cX8_boyFrom 49 = .ok (.iconst 0, 1) := dk_3 (dk_at dksX8_boyFrom_2 3 rfl rfl)
theorem dX8_boyFrom_50 : decode cX8_boyFrom 50 = .ok (.iload 4, 2) := dk_21 4 (dk_at dksX8_boyFrom_2 4 rfl rfl)
theorem dX8_boyFrom_52 : decode cX8_boyFrom 52 = .ok (.invokestatic 171, 3) := dk_184 0 171 (dk_at dksX8_boyFrom_2 6 rfl rfl)
theorem dX8_boyFrom_55 : decode cX8_boyFrom 55 = .ok (.iaload, 1) := dk_46 (dk_at dksX8_boyFrom_2 9 rfl rfl)
theorem dX8_boyFrom_56 : decode cX8_boyFrom 56 = .ok (.iload_n 3, 1) := dk_29 (dk_at dksX8_boyFrom_2 10 rfl rfl)
theorem dX8_boyFrom_57 : decode cX8_boyFrom 57 = .ok (.if_icmp .ge 15, 3) := dk_162 0 15 (dk_at dksX8_boyFrom_2 11 rfl rfl)
theorem dX8_boyFrom_60 : decode cX8_boyFrom 60 = .ok (.aload_n 0, 1) := dk_42 (dk_at dksX8_boyFrom_2 14 rfl rfl)
theorem dX8_boyFrom_61 : decode cX8_boyFrom 61 = .ok (.getfield 7, 3) := dk_180 0 7 (dk_at dksX8_boyFrom_2 15 rfl rfl)
theorem dX8_boyFrom_64 : decode cX8_boyFrom 64 = .ok (.iconst 0, 1) := dk_3 (dk_at dksX8_boyFrom_2 18 rfl rfl)
theorem dX8_boyFrom_65 : decode cX8_boyFrom 65 = .ok (.iload 4, 2) := dk_21 4 (dk_at dksX8_boyFrom_2 19 rfl rfl)
theorem dX8_boyFrom_67 : decode cX8_boyFrom 67 = .ok (.invokestatic 171, 3) := dk_184 0 171 (dk_at dksX8_boyFrom_2 21 rfl rfl)
theorem dX8_boyFrom_70 : decode cX8_boyFrom 70 = .ok (.iaload, 1) := dk_46 (dk_at dksX8_boyFrom_3 0 rfl rfl)
theorem dX8_boyFrom_71 : decode cX8_boyFrom 71 = .ok (.istore_n 3, 1) := dk_62 (dk_at dksX8_boyFrom_3 1 rfl rfl)
theorem dX8_boyFrom_72 : decode cX8_boyFrom 72 = .ok (.iinc 4 1, 3) := dk_132 4 1 (dk_at dksX8_boyFrom_3 2 rfl rfl)
theorem dX8_boyFrom_75 : decode cX8_boyFrom 75 = .ok (.goto (-70), 3) := dk_167 255 186 (dk_at dksX8_boyFrom_3 5 rfl rfl)
theorem dX8_boyFrom_78 : decode cX8_boyFrom 78 = .ok (.iload_n 3, 1) := dk_29 (dk_at dksX8_boyFrom_3 8 rfl rfl)
theorem dX8_boyFrom_79 : decode cX8_boyFrom 79 = .ok (.iconst (-1), 1) := dk_2 (dk_at dksX8_boyFrom_3 9 rfl rfl)
theorem dX8_boyFrom_80 : decode cX8_boyFrom 80 = .ok (.if_icmp .ne 7, 3) := dk_160 0 7 (dk_at dksX8_boyFrom_3 10 rfl rfl)
theorem dX8_boyFrom_83 : decode cX8_boyFrom 83 = .ok (.iconst (-1), 1) := dk_2 (dk_at dksX8_boyFrom_3 13 rfl rfl)
theorem dX8_boyFrom_84 : decode cX8_boyFrom 84 = .ok (.goto 17, 3) := dk_167 0 17 (dk_at dksX8_boyFrom_3 14 rfl rfl)
theorem dX8_boyFrom_87 : decode cX8_boyFrom 87 = .ok (.iload_n 3, 1) := dk_29 (dk_at dksX8_boyFrom_3 17 rfl rfl)
theorem dX8_boyFrom_88 : decode cX8_boyFrom 88 = .ok (.iload_n 2, 1) := dk_28 (dk_at dksX8_boyFrom_3 18 rfl rfl)
theorem dX8_boyFrom_89 : decode cX8_boyFrom 89 = .ok (.iadd, 1) := dk_96 (dk_at dksX8_boyFrom_3 19 rfl rfl)
theorem dX8_boyFrom_90 : decode cX8_boyFrom 90 = .ok (.aload_n 0, 1) := dk_42 (dk_at dksX8_boyFrom_3 20 rfl rfl)
theorem dX8_boyFrom_91 : decode cX8_boyFrom 91 = .ok (.getfield 7, 3) := dk_180 0 7 (dk_at dksX8_boyFrom_3 21 rfl rfl)
theorem dX8_boyFrom_94 : decode cX8_boyFrom 94 = .ok (.iconst 0, 1) := dk_3 (dk_at dksX8_boyFrom_4 0 rfl rfl)
theorem dX8_boyFrom_95 : decode cX8_boyFrom 95 = .ok (.iaload, 1) := dk_46 (dk_at dksX8_boyFrom_4 1 rfl rfl)
theorem dX8_boyFrom_96 : decode cX8_boyFrom 96 = .ok (.iconst 1, 1) := dk_4 (dk_at dksX8_boyFrom_4 2 rfl rfl)
theorem dX8_boyFrom_97 : decode cX8_boyFrom 97 = .ok (.isub, 1) := dk_100 (dk_at dksX8_boyFrom_4 3 rfl rfl)
theorem dX8_boyFrom_98 : decode cX8_boyFrom 98 = .ok (.invokestatic 133, 3) := dk_184 0 133 (dk_at dksX8_boyFrom_4 4 rfl rfl)
theorem dX8_boyFrom_101 : decode cX8_boyFrom 101 = .ok (.ireturn, 1) := dk_172 (dk_at dksX8_boyFrom_4 7 rfl rfl)
abbrev cX8_boyAt : ByteArray := prog_17_method_142_code
def yX8_boyAt : MethodName := ⟨RX8, "boyAt", "(II)I"⟩
def dkwX8_boyAt_2 : List UInt8 := [172]
abbrev dktX8_boyAt_2 : List UInt8 := dkwX8_boyAt_2 ++ []
def dkwX8_boyAt_1 : List UInt8 := [16, 8, 164, 0, 12, 42, 16, 6, 182, 0, 78, 167, 0, 13, 42, 42, 27, 28, 182, 1, 152, 182, 1, 102]
abbrev dktX8_boyAt_1 : List UInt8 := dkwX8_boyAt_1 ++ dktX8_boyAt_2
def dkwX8_boyAt_0 : List UInt8 := [27, 133, 9, 20, 1, 76, 184, 1, 33, 154, 0, 9, 42, 4, 182, 0, 78, 172, 28, 155, 0, 9, 28]
abbrev dktX8_boyAt_0 : List UInt8 := dkwX8_boyAt_0 ++ dktX8_boyAt_1
theorem dksX8_boyAt_0 : cX8_boyAt.data.toList.drop 0 = dktX8_boyAt_0 := by decide +kernel
theorem dksX8_boyAt_1 : cX8_boyAt.data.toList.drop 23 = dktX8_boyAt_1 := dk_seg dksX8_boyAt_0 23 rfl rfl
theorem dksX8_boyAt_2 : cX8_boyAt.data.toList.drop 47 = dktX8_boyAt_2 := dk_seg dksX8_boyAt_1 24 rfl rfl
theorem dX8_boyAt_0 : decode cX8_boyAt 0 = .ok (.iload_n 1, 1) := dk_27 (dk_at dksX8_boyAt_0 0 rfl rfl)
theorem dX8_boyAt_1 : decode cX8_boyAt 1 = .ok (.i2l, 1) := dk_133 (dk_at dksX8_boyAt_0 1 rfl rfl)
theorem dX8_boyAt_2 : decode cX8_boyAt 2 = .ok (.lconst 0, 1) := dk_9 (dk_at dksX8_boyAt_0 2 rfl rfl)
theorem dX8_boyAt_3 : decode cX8_boyAt 3 = .ok (.ldc2_w 332, 3) := dk_20 1 76 (dk_at dksX8_boyAt_0 3 rfl rfl)
theorem dX8_boyAt_6 : decode cX8_boyAt 6 = .ok (.invokestatic 289, 3) := dk_184 1 33 (dk_at dksX8_boyAt_0 6 rfl rfl)
theorem dX8_boyAt_9 : decode cX8_boyAt 9 = .ok (.ifCond .ne 9, 3) := dk_154 0 9 (dk_at dksX8_boyAt_0 9 rfl rfl)
theorem dX8_boyAt_12 : decode cX8_boyAt 12 = .ok (.aload_n 0, 1) := dk_42 (dk_at dksX8_boyAt_0 12 rfl rfl)
theorem dX8_boyAt_13 : decode cX8_boyAt 13 = .ok (.iconst 1, 1) := dk_4 (dk_at dksX8_boyAt_0 13 rfl rfl)
theorem dX8_boyAt_14 : decode cX8_boyAt 14 = .ok (.invokevirtual 78, 3) := dk_182 0 78 (dk_at dksX8_boyAt_0 14 rfl rfl)
theorem dX8_boyAt_17 : decode cX8_boyAt 17 = .ok (.ireturn, 1) := dk_172 (dk_at dksX8_boyAt_0 17 rfl rfl)
theorem dX8_boyAt_18 : decode cX8_boyAt 18 = .ok (.iload_n 2, 1) := dk_28 (dk_at dksX8_boyAt_0 18 rfl rfl)
theorem dX8_boyAt_19 : decode cX8_boyAt 19 = .ok (.ifCond .lt 9, 3) := dk_155 0 9 (dk_at dksX8_boyAt_0 19 rfl rfl)
theorem dX8_boyAt_22 : decode cX8_boyAt 22 = .ok (.iload_n 2, 1) := dk_28 (dk_at dksX8_boyAt_0 22 rfl rfl)
theorem dX8_boyAt_23 : decode cX8_boyAt 23 = .ok (.bipush 8, 2) := dk_16 8 (dk_at dksX8_boyAt_1 0 rfl rfl)
theorem dX8_boyAt_25 : decode cX8_boyAt 25 = .ok (.if_icmp .le 12, 3) := dk_164 0 12 (dk_at dksX8_boyAt_1 2 rfl rfl)
theorem dX8_boyAt_28 : decode cX8_boyAt 28 = .ok (.aload_n 0, 1) := dk_42 (dk_at dksX8_boyAt_1 5 rfl rfl)
theorem dX8_boyAt_29 : decode cX8_boyAt 29 = .ok (.bipush 6, 2) := dk_16 6 (dk_at dksX8_boyAt_1 6 rfl rfl)
theorem dX8_boyAt_31 : decode cX8_boyAt 31 = .ok (.invokevirtual 78, 3) := dk_182 0 78 (dk_at dksX8_boyAt_1 8 rfl rfl)
theorem dX8_boyAt_34 : decode cX8_boyAt 34 = .ok (.goto 13, 3) := dk_167 0 13 (dk_at dksX8_boyAt_1 11 rfl rfl)
theorem dX8_boyAt_37 : decode cX8_boyAt 37 = .ok (.aload_n 0, 1) := dk_42 (dk_at dksX8_boyAt_1 14 rfl rfl)
theorem dX8_boyAt_38 : decode cX8_boyAt 38 = .ok (.aload_n 0, 1) := dk_42 (dk_at dksX8_boyAt_1 15 rfl rfl)
theorem dX8_boyAt_39 : decode cX8_boyAt 39 = .ok (.iload_n 1, 1) := dk_27 (dk_at dksX8_boyAt_1 16 rfl rfl)
theorem dX8_boyAt_40 : decode cX8_boyAt 40 = .ok (.iload_n 2, 1) := dk_28 (dk_at dksX8_boyAt_1 17 rfl rfl)
theorem dX8_boyAt_41 : decode cX8_boyAt 41 = .ok (.invokevirtual 408, 3) := dk_182 1 152 (dk_at dksX8_boyAt_1 18 rfl rfl)
theorem dX8_boyAt_44 : decode cX8_boyAt 44 = .ok (.invokevirtual 358, 3) := dk_182 1 102 (dk_at dksX8_boyAt_1 21 rfl rfl)
theorem dX8_boyAt_47 : decode cX8_boyAt 47 = .ok (.ireturn, 1) := dk_172 (dk_at dksX8_boyAt_2 0 rfl rfl)
