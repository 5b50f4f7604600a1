set_option maxRecDepth 100000
abbrev cX1_init : ByteArray := prog_14_method_1_code
def yX1_init : MethodName := ⟨RX1, "<init>", "()V"⟩
theorem dX1_init_0 : decode cX1_init 0 = .ok (.aload_n 0, 1) := by decide +kernel
theorem dX1_init_1 : decode cX1_init 1 = .ok (.invokespecial 1, 3) := by decide +kernel
theorem dX1_init_4 : decode cX1_init 4 = .ok (.return_, 1) := by decide +kernel
abbrev cJ0_init : ByteArray := prog_30_method_1_code
def yJ0_init : MethodName := ⟨RJ0, "<init>", "()V"⟩
def dkwJ0_init_1 : List UInt8 := [182, 0, 27, 87, 177]
abbrev dktJ0_init_1 : List UInt8 := dkwJ0_init_1 ++ []
def dkwJ0_init_0 : List UInt8 := [42, 183, 0, 1, 42, 42, 181, 0, 7, 42, 178, 0, 13, 181, 0, 17, 42, 178, 0, 20, 181, 0, 24, 42]
abbrev dktJ0_init_0 : List UInt8 := dkwJ0_init_0 ++ dktJ0_init_1
theorem dksJ0_init_0 : cJ0_init.data.toList.drop 0 = dktJ0_init_0 := by decide +kernel
theorem dksJ0_init_1 : cJ0_init.data.toList.drop 24 = dktJ0_init_1 := dk_seg dksJ0_init_0 24 rfl rfl
theorem dJ0_init_0 : decode cJ0_init 0 = .ok (.aload_n 0, 1) := dk_42 (dk_at dksJ0_init_0 0 rfl rfl)
theorem dJ0_init_1 : decode cJ0_init 1 = .ok (.invokespecial 1, 3) := dk_183 0 1 (dk_at dksJ0_init_0 1 rfl rfl)
theorem dJ0_init_4 : decode cJ0_init 4 = .ok (.aload_n 0, 1) := dk_42 (dk_at dksJ0_init_0 4 rfl rfl)
theorem dJ0_init_5 : decode cJ0_init 5 = .ok (.aload_n 0, 1) := dk_42 (dk_at dksJ0_init_0 5 rfl rfl)
theorem dJ0_init_6 : decode cJ0_init 6 = .ok (.putfield 7, 3) := dk_181 0 7 (dk_at dksJ0_init_0 6 rfl rfl)
theorem dJ0_init_9 : decode cJ0_init 9 = .ok (.aload_n 0, 1) := dk_42 (dk_at dksJ0_init_0 9 rfl rfl)
theorem dJ0_init_10 : decode cJ0_init 10 = .ok (.getstatic 13, 3) := dk_178 0 13 (dk_at dksJ0_init_0 10 rfl rfl)
theorem dJ0_init_13 : decode cJ0_init 13 = .ok (.putfield 17, 3) := dk_181 0 17 (dk_at dksJ0_init_0 13 rfl rfl)
theorem dJ0_init_16 : decode cJ0_init 16 = .ok (.aload_n 0, 1) := dk_42 (dk_at dksJ0_init_0 16 rfl rfl)
theorem dJ0_init_17 : decode cJ0_init 17 = .ok (.getstatic 20, 3) := dk_178 0 20 (dk_at dksJ0_init_0 17 rfl rfl)
theorem dJ0_init_20 : decode cJ0_init 20 = .ok (.putfield 24, 3) := dk_181 0 24 (dk_at dksJ0_init_0 20 rfl rfl)
theorem dJ0_init_23 : decode cJ0_init 23 = .ok (.aload_n 0, 1) := dk_42 (dk_at dksJ0_init_0 23 rfl rfl)
theorem dJ0_init_24 : decode cJ0_init 24 = .ok (.invokevirtual 27, 3) := dk_182 0 27 (dk_at dksJ0_init_1 0 rfl rfl)
theorem dJ0_init_27 : decode cJ0_init 27 = .ok (.pop, 1) := dk_87 (dk_at dksJ0_init_1 3 rfl rfl)
theorem dJ0_init_28 : decode cJ0_init 28 = .ok (.return_, 1) := dk_177 (dk_at dksJ0_init_1 4 rfl rfl)
abbrev cJ0_init_2 : ByteArray := prog_30_method_5_code
def yJ0_init_2 : MethodName := ⟨RJ0, "<init>", "(Ljava/lang/String;Ljava/lang/Throwable;ZZ)V"⟩
def dkwJ0_init_2_2 : List UInt8 := [44, 181, 0, 7, 29, 154, 0, 8, 42, 1, 181, 0, 24, 177]
abbrev dktJ0_init_2_2 : List UInt8 := dkwJ0_init_2_2 ++ []
def dkwJ0_init_2_1 : List UInt8 := [21, 4, 153, 0, 11, 42, 182, 0, 27, 87, 167, 0, 8, 42, 1, 181, 0, 17, 42, 43, 181, 0, 31, 42]
abbrev dktJ0_init_2_1 : List UInt8 := dkwJ0_init_2_1 ++ dktJ0_init_2_2
def dkwJ0_init_2_0 : List UInt8 := [42, 183, 0, 1, 42, 42, 181, 0, 7, 42, 178, 0, 13, 181, 0, 17, 42, 178, 0, 20, 181, 0, 24]
abbrev dktJ0_init_2_0 : List UInt8 := dkwJ0_init_2_0 ++ dktJ0_init_2_1
theorem dksJ0_init_2_0 : cJ0_init_2.data.toList.drop 0 = dktJ0_init_2_0 := by decide +kernel
theorem dksJ0_init_2_1 : cJ0_init_2.data.toList.drop 23 = dktJ0_init_2_1 := dk_seg dksJ0_init_2_0 23 rfl rfl
theorem dksJ0_init_2_2 : cJ0_init_2.data.toList.drop 47 = dktJ0_init_2_2 := dk_seg dksJ0_init_2_1 24 rfl rfl
theorem dJ0_init_2_0 : decode cJ0_init_2 0 = .ok (.aload_n 0, 1) := dk_42 (dk_at dksJ0_init_2_0 0 rfl rfl)
theorem dJ0_init_2_1 : decode cJ0_init_2 1 = .ok (.invokespecial 1, 3) := dk_183 0 1 (dk_at dksJ0_init_2_0 1 rfl rfl)
theorem dJ0_init_2_4 : decode cJ0_init_2 4 = .ok (.aload_n 0, 1) := dk_42 (dk_at dksJ0_init_2_0 4 rfl rfl)
theorem dJ0_init_2_5 : decode cJ0_init_2 5 = .ok (.aload_n 0, 1) := dk_42 (dk_at dksJ0_init_2_0 5 rfl rfl)
theorem dJ0_init_2_6 : decode cJ0_init_2 6 = .ok (.putfield 7, 3) := dk_181 0 7 (dk_at dksJ0_init_2_0 6 rfl rfl)
theorem dJ0_init_2_9 : decode cJ0_init_2 9 = .ok (.aload_n 0, 1) := dk_42 (dk_at dksJ0_init_2_0 9 rfl rfl)
theorem dJ0_init_2_10 : decode cJ0_init_2 10 = .ok (.getstatic 13, 3) := dk_178 0 13 (dk_at dksJ0_init_2_0 10 rfl rfl)
theorem dJ0_init_2_13 : decode cJ0_init_2 13 = .ok (.putfield 17, 3) := dk_181 0 17 (dk_at dksJ0_init_2_0 13 rfl rfl)
theorem dJ0_init_2_16 : decode cJ0_init_2 16 = .ok (.aload_n 0, 1) := dk_42 (dk_at dksJ0_init_2_0 16 rfl rfl)
theorem dJ0_init_2_17 : decode cJ0_init_2 17 = .ok (.getstatic 20, 3) := dk_178 0 20 (dk_at dksJ0_init_2_0 17 rfl rfl)
theorem dJ0_init_2_20 : decode cJ0_init_2 20 = .ok (.putfield 24, 3) := dk_181 0 24 (dk_at dksJ0_init_2_0 20 rfl rfl)
theorem dJ0_init_2_23 : decode cJ0_init_2 23 = .ok (.iload 4, 2) := dk_21 4 (dk_at dksJ0_init_2_1 0 rfl rfl)
theorem dJ0_init_2_25 : decode cJ0_init_2 25 = .ok (.ifCond .eq 11, 3) := dk_153 0 11 (dk_at dksJ0_init_2_1 2 rfl rfl)
theorem dJ0_init_2_28 : decode cJ0_init_2 28 = .ok (.aload_n 0, 1) := dk_42 (dk_at dksJ0_init_2_1 5 rfl rfl)
theorem dJ0_init_2_29 : decode cJ0_init_2 29 = .ok (.invokevirtual 27, 3) := dk_182 0 27 (dk_at dksJ0_init_2_1 6 rfl rfl)
theorem dJ0_init_2_32 : decode cJ0_init_2 32 = .ok (.pop, 1) := dk_87 (dk_at dksJ0_init_2_1 9 rfl rfl)
theorem dJ0_init_2_33 : decode cJ0_init_2 33 = .ok (.goto 8, 3) := dk_167 0 8 (dk_at dksJ0_init_2_1 10 rfl rfl)
theorem dJ0_init_2_36 : decode cJ0_init_2 36 = .ok (.aload_n 0, 1) := dk_42 (dk_at dksJ0_init_2_1 13 rfl rfl)
theorem dJ0_init_2_37 : decode cJ0_init_2 37 = .ok (.aconst_null, 1) := dk_1 (dk_at dksJ0_init_2_1 14 rfl rfl)
theorem dJ0_init_2_38 : decode cJ0_init_2 38 = .ok (.putfield 17, 3) := dk_181 0 17 (dk_at dksJ0_init_2_1 15 rfl rfl)
theorem dJ0_init_2_41 : decode cJ0_init_2 41 = .ok (.aload_n 0, 1) := dk_42 (dk_at dksJ0_init_2_1 18 rfl rfl)
theorem dJ0_init_2_42 : decode cJ0_init_2 42 = .ok (.aload_n 1, 1) := dk_43 (dk_at dksJ0_init_2_1 19 rfl rfl)
theorem dJ0_init_2_43 : decode cJ0_init_2 43 = .ok (.putfield 31, 3) := dk_181 0 31 (dk_at dksJ0_init_2_1 20 rfl rfl)
theorem dJ0_init_2_46 : decode cJ0_init_2 46 = .ok (.aload_n 0, 1) := dk_42 (dk_at dksJ0_init_2_1 23 rfl rfl)
theorem dJ0_init_2_47 : decode cJ0_init_2 47 = .ok (.aload_n 2, 1) := dk_44 (dk_at dksJ0_init_2_2 0 rfl rfl)
theorem dJ0_init_2_48 : decode cJ0_init_2 48 = .ok (.putfield 7, 3) := dk_181 0 7 (dk_at dksJ0_init_2_2 1 rfl rfl)
theorem dJ0_init_2_51 : decode cJ0_init_2 51 = .ok (.iload_n 3, 1) := dk_29 (dk_at dksJ0_init_2_2 4 rfl rfl)
theorem dJ0_init_2_52 : decode cJ0_init_2 52 = .ok (.ifCond .ne 8, 3) := dk_154 0 8 (dk_at dksJ0_init_2_2 5 rfl rfl)
theorem dJ0_init_2_55 : decode cJ0_init_2 55 = .ok (.aload_n 0, 1) := dk_42 (dk_at dksJ0_init_2_2 8 rfl rfl)
theorem dJ0_init_2_56 : decode cJ0_init_2 56 = .ok (.aconst_null, 1) := dk_1 (dk_at dksJ0_init_2_2 9 rfl rfl)
theorem dJ0_init_2_57 : decode cJ0_init_2 57 = .ok (.putfield 24, 3) := dk_181 0 24 (dk_at dksJ0_init_2_2 10 rfl rfl)
theorem dJ0_init_2_60 : decode cJ0_init_2 60 = .ok (.return_, 1) := dk_177 (dk_at dksJ0_init_2_2 13 rfl rfl)
abbrev cJ0_init_3 : ByteArray := prog_30_method_2_code
def yJ0_init_3 : MethodName := ⟨RJ0, "<init>", "(Ljava/lang/String;)V"⟩
def dkwJ0_init_3_1 : List UInt8 := [182, 0, 27, 87, 42, 43, 181, 0, 31, 177]
abbrev dktJ0_init_3_1 : List UInt8 := dkwJ0_init_3_1 ++ []
def dkwJ0_init_3_0 : List UInt8 := [42, 183, 0, 1, 42, 42, 181, 0, 7, 42, 178, 0, 13, 181, 0, 17, 42, 178, 0, 20, 181, 0, 24, 42]
abbrev dktJ0_init_3_0 : List UInt8 := dkwJ0_init_3_0 ++ dktJ0_init_3_1
theorem dksJ0_init_3_0 : cJ0_init_3.data.toList.drop 0 = dktJ0_init_3_0 := by decide +kernel
theorem dksJ0_init_3_1 : cJ0_init_3.data.toList.drop 24 = dktJ0_init_3_1 := dk_seg dksJ0_init_3_0 24 rfl rfl
theorem dJ0_init_3_0 : decode cJ0_init_3 0 = .ok (.aload_n 0, 1) := dk_42 (dk_at dksJ0_init_3_0 0 rfl rfl)
theorem dJ0_init_3_1 : decode cJ0_init_3 1 = .ok (.invokespecial 1, 3) := dk_183 0 1 (dk_at dksJ0_init_3_0 1 rfl rfl)
theorem dJ0_init_3_4 : decode cJ0_init_3 4 = .ok (.aload_n 0, 1) := dk_42 (dk_at dksJ0_init_3_0 4 rfl rfl)
theorem dJ0_init_3_5 : decode cJ0_init_3 5 = .ok (.aload_n 0, 1) := dk_42 (dk_at dksJ0_init_3_0 5 rfl rfl)
theorem dJ0_init_3_6 : decode cJ0_init_3 6 = .ok (.putfield 7, 3) := dk_181 0 7 (dk_at dksJ0_init_3_0 6 rfl rfl)
theorem dJ0_init_3_9 : decode cJ0_init_3 9 = .ok (.aload_n 0, 1) := dk_42 (dk_at dksJ0_init_3_0 9 rfl rfl)
theorem dJ0_init_3_10 : decode cJ0_init_3 10 = .ok (.getstatic 13, 3) := dk_178 0 13 (dk_at dksJ0_init_3_0 10 rfl rfl)
theorem dJ0_init_3_13 : decode cJ0_init_3 13 = .ok (.putfield 17, 3) := dk_181 0 17 (dk_at dksJ0_init_3_0 13 rfl rfl)
theorem dJ0_init_3_16 : decode cJ0_init_3 16 = .ok (.aload_n 0, 1) := dk_42 (dk_at dksJ0_init_3_0 16 rfl rfl)
theorem dJ0_init_3_17 : decode cJ0_init_3 17 = .ok (.getstatic 20, 3) := dk_178 0 20 (dk_at dksJ0_init_3_0 17 rfl rfl)
theorem dJ0_init_3_20 : decode cJ0_init_3 20 = .ok (.putfield 24, 3) := dk_181 0 24 (dk_at dksJ0_init_3_0 20 rfl rfl)
theorem dJ0_init_3_23 : decode cJ0_init_3 23 = .ok (.aload_n 0, 1) := dk_42 (dk_at dksJ0_init_3_0 23 rfl rfl)
theorem dJ0_init_3_24 : decode cJ0_init_3 24 = .ok (.invokevirtual 27, 3) := dk_182 0 27 (dk_at dksJ0_init_3_1 0 rfl rfl)
theorem dJ0_init_3_27 : decode cJ0_init_3 27 = .ok (.pop, 1) := dk_87 (dk_at dksJ0_init_3_1 3 rfl rfl)
theorem dJ0_init_3_28 : decode cJ0_init_3 28 = .ok (.aload_n 0, 1) := dk_42 (dk_at dksJ0_init_3_1 4 rfl rfl)
theorem dJ0_init_3_29 : decode cJ0_init_3 29 = .ok (.aload_n 1, 1) := dk_43 (dk_at dksJ0_init_3_1 5 rfl rfl)
theorem dJ0_init_3_30 : decode cJ0_init_3 30 = .ok (.putfield 31, 3) := dk_181 0 31 (dk_at dksJ0_init_3_1 6 rfl rfl)
theorem dJ0_init_3_33 : decode cJ0_init_3 33 = .ok (.return_, 1) := dk_177 (dk_at dksJ0_init_3_1 9 rfl rfl)
abbrev cJ1_init : ByteArray := prog_19_method_5_code
def yJ1_init : MethodName := ⟨RJ1, "<init>", "(Ljava/lang/String;Ljava/lang/Throwable;ZZ)V"⟩
def dkwJ1_init_0 : List UInt8 := [42, 43, 44, 29, 21, 4, 183, 0, 16, 177]
abbrev dktJ1_init_0 : List UInt8 := dkwJ1_init_0 ++ []
theorem dksJ1_init_0 : cJ1_init.data.toList.drop 0 = dktJ1_init_0 := by decide +kernel
theorem dJ1_init_0 : decode cJ1_init 0 = .ok (.aload_n 0, 1) := dk_42 (dk_at dksJ1_init_0 0 rfl rfl)
theorem dJ1_init_1 : decode cJ1_init 1 = .ok (.aload_n 1, 1) := dk_43 (dk_at dksJ1_init_0 1 rfl rfl)
theorem dJ1_init_2 : decode cJ1_init 2 = .ok (.aload_n 2, 1) := dk_44 (dk_at dksJ1_init_0 2 rfl rfl)
theorem dJ1_init_3 : decode cJ1_init 3 = .ok (.iload_n 3, 1) := dk_29 (dk_at dksJ1_init_0 3 rfl rfl)
theorem dJ1_init_4 : decode cJ1_init 4 = .ok (.iload 4, 2) := dk_21 4 (dk_at dksJ1_init_0 4 rfl rfl)
theorem dJ1_init_6 : decode cJ1_init 6 = .ok (.invokespecial 16, 3) := dk_183 0 16 (dk_at dksJ1_init_0 6 rfl rfl)
theorem dJ1_init_9 : decode cJ1_init 9 = .ok (.return_, 1) := dk_177 (dk_at dksJ1_init_0 9 rfl rfl)
abbrev cJ1_init_2 : ByteArray := prog_19_method_2_code
def yJ1_init_2 : MethodName := ⟨RJ1, "<init>", "(Ljava/lang/String;)V"⟩
def dkwJ1_init_2_0 : List UInt8 := [42, 43, 183, 0, 7, 177]
abbrev dktJ1_init_2_0 : List UInt8 := dkwJ1_init_2_0 ++ []
theorem dksJ1_init_2_0 : cJ1_init_2.data.toList.drop 0 = dktJ1_init_2_0 := by decide +kernel
theorem dJ1_init_2_0 : decode cJ1_init_2 0 = .ok (.aload_n 0, 1) := dk_42 (dk_at dksJ1_init_2_0 0 rfl rfl)
theorem dJ1_init_2_1 : decode cJ1_init_2 1 = .ok (.aload_n 1, 1) := dk_43 (dk_at dksJ1_init_2_0 1 rfl rfl)
theorem dJ1_init_2_2 : decode cJ1_init_2 2 = .ok (.invokespecial 7, 3) := dk_183 0 7 (dk_at dksJ1_init_2_0 2 rfl rfl)
theorem dJ1_init_2_5 : decode cJ1_init_2 5 = .ok (.return_, 1) := dk_177 (dk_at dksJ1_init_2_0 5 rfl rfl)
abbrev cX2_init : ByteArray := prog_3_method_1_code
def yX2_init : MethodName := ⟨RX2, "<init>", "()V"⟩
def dkwX2_init_0 : List UInt8 := [42, 1, 1, 3, 3, 183, 0, 1, 177]
abbrev dktX2_init_0 : List UInt8 := dkwX2_init_0 ++ []
theorem dksX2_init_0 : cX2_init.data.toList.drop 0 = dktX2_init_0 := by decide +kernel
theorem dX2_init_0 : decode cX2_init 0 = .ok (.aload_n 0, 1) := dk_42 (dk_at dksX2_init_0 0 rfl rfl)
theorem dX2_init_1 : decode cX2_init 1 = .ok (.aconst_null, 1) := dk_1 (dk_at dksX2_init_0 1 rfl rfl)
theorem dX2_init_2 : decode cX2_init 2 = .ok (.aconst_null, 1) := dk_1 (dk_at dksX2_init_0 2 rfl rfl)
theorem dX2_init_3 : decode cX2_init 3 = .ok (.iconst 0, 1) := dk_3 (dk_at dksX2_init_0 3 rfl rfl)
theorem dX2_init_4 : decode cX2_init 4 = .ok (.iconst 0, 1) := dk_3 (dk_at dksX2_init_0 4 rfl rfl)
theorem dX2_init_5 : decode cX2_init 5 = .ok (.invokespecial 1, 3) := dk_183 0 1 (dk_at dksX2_init_0 5 rfl rfl)
theorem dX2_init_8 : decode cX2_init 8 = .ok (.return_, 1) := dk_177 (dk_at dksX2_init_0 8 rfl rfl)
abbrev cX2_at : ByteArray := prog_3_method_2_code
def yX2_at : MethodName := ⟨RX2, "at", "(II)LLastPebble$Bad;"⟩
def dkwX2_at_0 : List UInt8 := [42, 27, 181, 0, 7, 42, 28, 181, 0, 13, 42, 176]
abbrev dktX2_at_0 : List UInt8 := dkwX2_at_0 ++ []
theorem dksX2_at_0 : cX2_at.data.toList.drop 0 = dktX2_at_0 := by decide +kernel
theorem dX2_at_0 : decode cX2_at 0 = .ok (.aload_n 0, 1) := dk_42 (dk_at dksX2_at_0 0 rfl rfl)
theorem dX2_at_1 : decode cX2_at 1 = .ok (.iload_n 1, 1) := dk_27 (dk_at dksX2_at_0 1 rfl rfl)
theorem dX2_at_2 : decode cX2_at 2 = .ok (.putfield 7, 3) := dk_181 0 7 (dk_at dksX2_at_0 2 rfl rfl)
theorem dX2_at_5 : decode cX2_at 5 = .ok (.aload_n 0, 1) := dk_42 (dk_at dksX2_at_0 5 rfl rfl)
theorem dX2_at_6 : decode cX2_at 6 = .ok (.iload_n 2, 1) := dk_28 (dk_at dksX2_at_0 6 rfl rfl)
theorem dX2_at_7 : decode cX2_at 7 = .ok (.putfield 13, 3) := dk_181 0 13 (dk_at dksX2_at_0 7 rfl rfl)
theorem dX2_at_10 : decode cX2_at 10 = .ok (.aload_n 0, 1) := dk_42 (dk_at dksX2_at_0 10 rfl rfl)
theorem dX2_at_11 : decode cX2_at 11 = .ok (.areturn, 1) := dk_176 (dk_at dksX2_at_0 11 rfl rfl)
abbrev cX3_init : ByteArray := prog_12_method_1_code
def yX3_init : MethodName := ⟨RX3, "<init>", "()V"⟩
def dkwX3_init_0 : List UInt8 := [42, 1, 1, 3, 3, 183, 0, 1, 177]
abbrev dktX3_init_0 : List UInt8 := dkwX3_init_0 ++ []
theorem dksX3_init_0 : cX3_init.data.toList.drop 0 = dktX3_init_0 := by decide +kernel
theorem dX3_init_0 : decode cX3_init 0 = .ok (.aload_n 0, 1) := dk_42 (dk_at dksX3_init_0 0 rfl rfl)
theorem dX3_init_1 : decode cX3_init 1 = .ok (.aconst_null, 1) := dk_1 (dk_at dksX3_init_0 1 rfl rfl)
theorem dX3_init_2 : decode cX3_init 2 = .ok (.aconst_null, 1) := dk_1 (dk_at dksX3_init_0 2 rfl rfl)
theorem dX3_init_3 : decode cX3_init 3 = .ok (.iconst 0, 1) := dk_3 (dk_at dksX3_init_0 3 rfl rfl)
theorem dX3_init_4 : decode cX3_init 4 = .ok (.iconst 0, 1) := dk_3 (dk_at dksX3_init_0 4 rfl rfl)
theorem dX3_init_5 : decode cX3_init 5 = .ok (.invokespecial 1, 3) := dk_183 0 1 (dk_at dksX3_init_0 5 rfl rfl)
theorem dX3_init_8 : decode cX3_init 8 = .ok (.return_, 1) := dk_177 (dk_at dksX3_init_0 8 rfl rfl)
abbrev cX3_by : ByteArray := prog_12_method_2_code
def yX3_by : MethodName := ⟨RX3, "by", "(I)LLastPebble$Refused;"⟩
def dkwX3_by_0 : List UInt8 := [42, 27, 181, 0, 7, 42, 176]
abbrev dktX3_by_0 : List UInt8 := dkwX3_by_0 ++ []
theorem dksX3_by_0 : cX3_by.data.toList.drop 0 = dktX3_by_0 := by decide +kernel
theorem dX3_by_0 : decode cX3_by 0 = .ok (.aload_n 0, 1) := dk_42 (dk_at dksX3_by_0 0 rfl rfl)
theorem dX3_by_1 : decode cX3_by 1 = .ok (.iload_n 1, 1) := dk_27 (dk_at dksX3_by_0 1 rfl rfl)
theorem dX3_by_2 : decode cX3_by 2 = .ok (.putfield 7, 3) := dk_181 0 7 (dk_at dksX3_by_0 2 rfl rfl)
theorem dX3_by_5 : decode cX3_by 5 = .ok (.aload_n 0, 1) := dk_42 (dk_at dksX3_by_0 5 rfl rfl)
theorem dX3_by_6 : decode cX3_by 6 = .ok (.areturn, 1) := dk_176 (dk_at dksX3_by_0 6 rfl rfl)
abbrev cX4_init : ByteArray := prog_8_method_1_code
def yX4_init : MethodName := ⟨RX4, "<init>", "()V"⟩
def dkwX4_init_0 : List UInt8 := [42, 183, 0, 1, 42, 187, 0, 7, 89, 183, 0, 9, 181, 0, 10, 177]
abbrev dktX4_init_0 : List UInt8 := dkwX4_init_0 ++ []
theorem dksX4_init_0 : cX4_init.data.toList.drop 0 = dktX4_init_0 := by decide +kernel
theorem dX4_init_0 : decode cX4_init 0 = .ok (.aload_n 0, 1) := dk_42 (dk_at dksX4_init_0 0 rfl rfl)
theorem dX4_init_1 : decode cX4_init 1 = .ok (.invokespecial 1, 3) := dk_183 0 1 (dk_at dksX4_init_0 1 rfl rfl)
theorem dX4_init_4 : decode cX4_init 4 = .ok (.aload_n 0, 1) := dk_42 (dk_at dksX4_init_0 4 rfl rfl)
theorem dX4_init_5 : decode cX4_init 5 = .ok (.new 7, 3) := dk_187 0 7 (dk_at dksX4_init_0 5 rfl rfl)
theorem dX4_init_8 : decode cX4_init 8 = .ok (.dup, 1) := dk_89 (dk_at dksX4_init_0 8 rfl rfl)
theorem dX4_init_9 : decode cX4_init 9 = .ok (.invokespecial 9, 3) := dk_183 0 9 (dk_at dksX4_init_0 9 rfl rfl)
theorem dX4_init_12 : decode cX4_init 12 = .ok (.putfield 10, 3) := dk_181 0 10 (dk_at dksX4_init_0 12 rfl rfl)
theorem dX4_init_15 : decode cX4_init 15 = .ok (.return_, 1) := dk_177 (dk_at dksX4_init_0 15 rfl rfl)
abbrev cX4_be : ByteArray := prog_8_method_2_code
def yX4_be : MethodName := ⟨RX4, "be", "(LLastPebble$House;)V"⟩
def dkwX4_be_0 : List UInt8 := [42, 180, 0, 10, 43, 180, 0, 10, 182, 0, 16, 42, 43, 180, 0, 20, 181, 0, 20, 177]
abbrev dktX4_be_0 : List UInt8 := dkwX4_be_0 ++ []
theorem dksX4_be_0 : cX4_be.data.toList.drop 0 = dktX4_be_0 := by decide +kernel
theorem dX4_be_0 : decode cX4_be 0 = .ok (.aload_n 0, 1) := dk_42 (dk_at dksX4_be_0 0 rfl rfl)
theorem dX4_be_1 : decode cX4_be 1 = .ok (.getfield 10, 3) := dk_180 0 10 (dk_at dksX4_be_0 1 rfl rfl)
theorem dX4_be_4 : decode cX4_be 4 = .ok (.aload_n 1, 1) := dk_43 (dk_at dksX4_be_0 4 rfl rfl)
theorem dX4_be_5 : decode cX4_be 5 = .ok (.getfield 10, 3) := dk_180 0 10 (dk_at dksX4_be_0 5 rfl rfl)
theorem dX4_be_8 : decode cX4_be 8 = .ok (.invokevirtual 16, 3) := dk_182 0 16 (dk_at dksX4_be_0 8 rfl rfl)
theorem dX4_be_11 : decode cX4_be 11 = .ok (.aload_n 0, 1) := dk_42 (dk_at dksX4_be_0 11 rfl rfl)
theorem dX4_be_12 : decode cX4_be 12 = .ok (.aload_n 1, 1) := dk_43 (dk_at dksX4_be_0 12 rfl rfl)
theorem dX4_be_13 : decode cX4_be 13 = .ok (.getfield 20, 3) := dk_180 0 20 (dk_at dksX4_be_0 13 rfl rfl)
theorem dX4_be_16 : decode cX4_be 16 = .ok (.putfield 20, 3) := dk_181 0 20 (dk_at dksX4_be_0 16 rfl rfl)
theorem dX4_be_19 : decode cX4_be 19 = .ok (.return_, 1) := dk_177 (dk_at dksX4_be_0 19 rfl rfl)
abbrev cX5_init : ByteArray := prog_6_method_1_code
def yX5_init : MethodName := ⟨RX5, "<init>", "()V"⟩
def dkwX5_init_3 : List UInt8 := [180, 0, 33, 27, 187, 0, 31, 89, 183, 0, 41, 83, 132, 1, 1, 167, 255, 234, 177]
abbrev dktX5_init_3 : List UInt8 := dkwX5_init_3 ++ []
def dkwX5_init_2 : List UInt8 := [16, 8, 189, 0, 31, 181, 0, 33, 42, 16, 60, 181, 0, 37, 3, 60, 27, 16, 8, 162, 0, 22, 42]
abbrev dktX5_init_2 : List UInt8 := dkwX5_init_2 ++ dktX5_init_3
def dkwX5_init_1 : List UInt8 := [16, 6, 188, 10, 181, 0, 22, 42, 16, 6, 188, 10, 181, 0, 25, 42, 16, 6, 188, 10, 181, 0, 28, 42]
abbrev dktX5_init_1 : List UInt8 := dkwX5_init_1 ++ dktX5_init_2
def dkwX5_init_0 : List UInt8 := [42, 183, 0, 3, 42, 187, 0, 9, 89, 183, 0, 11, 181, 0, 12, 42, 16, 6, 188, 10, 181, 0, 18, 42]
abbrev dktX5_init_0 : List UInt8 := dkwX5_init_0 ++ dktX5_init_1
theorem dksX5_init_0 : cX5_init.data.toList.drop 0 = dktX5_init_0 := by decide +kernel
theorem dksX5_init_1 : cX5_init.data.toList.drop 24 = dktX5_init_1 := dk_seg dksX5_init_0 24 rfl rfl
theorem dksX5_init_2 : cX5_init.data.toList.drop 48 = dktX5_init_2 := dk_seg dksX5_init_1 24 rfl rfl
theorem dksX5_init_3 : cX5_init.data.toList.drop 71 = dktX5_init_3 := dk_seg dksX5_init_2 23 rfl rfl
theorem dX5_init_0 : decode cX5_init 0 = .ok (.aload_n 0, 1) := dk_42 (dk_at dksX5_init_0 0 rfl rfl)
theorem dX5_init_1 : decode cX5_init 1 = .ok (.invokespecial 3, 3) := dk_183 0 3 (dk_at dksX5_init_0 1 rfl rfl)
theorem dX5_init_4 : decode cX5_init 4 = .ok (.aload_n 0, 1) := dk_42 (dk_at dksX5_init_0 4 rfl rfl)
theorem dX5_init_5 : decode cX5_init 5 = .ok (.new 9, 3) := dk_187 0 9 (dk_at dksX5_init_0 5 rfl rfl)
theorem dX5_init_8 : decode cX5_init 8 = .ok (.dup, 1) := dk_89 (dk_at dksX5_init_0 8 rfl rfl)
theorem dX5_init_9 : decode cX5_init 9 = .ok (.invokespecial 11, 3) := dk_183 0 11 (dk_at dksX5_init_0 9 rfl rfl)
theorem dX5_init_12 : decode cX5_init 12 = .ok (.putfield 12, 3) := dk_181 0 12 (dk_at dksX5_init_0 12 rfl rfl)
theorem dX5_init_15 : decode cX5_init 15 = .ok (.aload_n 0, 1) := dk_42 (dk_at dksX5_init_0 15 rfl rfl)
theorem dX5_init_16 : decode cX5_init 16 = .ok (.bipush 6, 2) := dk_16 6 (dk_at dksX5_init_0 16 rfl rfl)
theorem dX5_init_18 : decode cX5_init 18 = .ok (.newarray .int, 2) := dk_188_10 (dk_at dksX5_init_0 18 rfl rfl)
theorem dX5_init_20 : decode cX5_init 20 = .ok (.putfield 18, 3) := dk_181 0 18 (dk_at dksX5_init_0 20 rfl rfl)
theorem dX5_init_23 : decode cX5_init 23 = .ok (.aload_n 0, 1) := dk_42 (dk_at dksX5_init_0 23 rfl rfl)
theorem dX5_init_24 : decode cX5_init 24 = .ok (.bipush 6, 2) := dk_16 6 (dk_at dksX5_init_1 0 rfl rfl)
theorem dX5_init_26 : decode cX5_init 26 = .ok (.newarray .int, 2) := dk_188_10 (dk_at dksX5_init_1 2 rfl rfl)
theorem dX5_init_28 : decode cX5_init 28 = .ok (.putfield 22, 3) := dk_181 0 22 (dk_at dksX5_init_1 4 rfl rfl)
theorem dX5_init_31 : decode cX5_init 31 = .ok (.aload_n 0, 1) := dk_42 (dk_at dksX5_init_1 7 rfl rfl)
theorem dX5_init_32 : decode cX5_init 32 = .ok (.bipush 6, 2) := dk_16 6 (dk_at dksX5_init_1 8 rfl rfl)
theorem dX5_init_34 : decode cX5_init 34 = .ok (.newarray .int, 2) := dk_188_10 (dk_at dksX5_init_1 10 rfl rfl)
theorem dX5_init_36 : decode cX5_init 36 = .ok (.putfield 25, 3) := dk_181 0 25 (dk_at dksX5_init_1 12 rfl rfl)
theorem dX5_init_39 : decode cX5_init 39 = .ok (.aload_n 0, 1) := dk_42 (dk_at dksX5_init_1 15 rfl rfl)
theorem dX5_init_40 : decode cX5_init 40 = .ok (.bipush 6, 2) := dk_16 6 (dk_at dksX5_init_1 16 rfl rfl)
theorem dX5_init_42 : decode cX5_init 42 = .ok (.newarray .int, 2) := dk_188_10 (dk_at dksX5_init_1 18 rfl rfl)
theorem dX5_init_44 : decode cX5_init 44 = .ok (.putfield 28, 3) := dk_181 0 28 (dk_at dksX5_init_1 20 rfl rfl)
theorem dX5_init_47 : decode cX5_init 47 = .ok (.aload_n 0, 1) := dk_42 (dk_at dksX5_init_1 23 rfl rfl)
theorem dX5_init_48 : decode cX5_init 48 = .ok (.bipush 8, 2) := dk_16 8 (dk_at dksX5_init_2 0 rfl rfl)
theorem dX5_init_50 : decode cX5_init 50 = .ok (.anewarray 31, 3) := dk_189 0 31 (dk_at dksX5_init_2 2 rfl rfl)
theorem dX5_init_53 : decode cX5_init 53 = .ok (.putfield 33, 3) := dk_181 0 33 (dk_at dksX5_init_2 5 rfl rfl)
theorem dX5_init_56 : decode cX5_init 56 = .ok (.aload_n 0, 1) := dk_42 (dk_at dksX5_init_2 8 rfl rfl)
theorem dX5_init_57 : decode cX5_init 57 = .ok (.bipush 60, 2) := dk_16 60 (dk_at dksX5_init_2 9 rfl rfl)
theorem dX5_init_59 : decode cX5_init 59 = .ok (.putfield 37, 3) := dk_181 0 37 (dk_at dksX5_init_2 11 rfl rfl)
theorem dX5_init_62 : decode cX5_init 62 = .ok (.iconst 0, 1) := dk_3 (dk_at dksX5_init_2 14 rfl rfl)
theorem dX5_init_63 : decode cX5_init 63 = .ok (.istore_n 1, 1) := dk_60 (dk_at dksX5_init_2 15 rfl rfl)
theorem dX5_init_64 : decode cX5_init 64 = .ok (.iload_n 1, 1) := dk_27 (dk_at dksX5_init_2 16 rfl rfl)
theorem dX5_init_65 : decode cX5_init 65 = .ok (.bipush 8, 2) := dk_16 8 (dk_at dksX5_init_2 17 rfl rfl)
theorem dX5_init_67 : decode cX5_init 67 = .ok (.if_icmp .ge 22, 3) := dk_162 0 22 (dk_at dksX5_init_2 19 rfl rfl)
theorem dX5_init_70 : decode cX5_init 70 = .ok (.aload_n 0, 1) := dk_42 (dk_at dksX5_init_2 22 rfl rfl)
theorem dX5_init_71 : decode cX5_init 71 = .ok (.getfield 33, 3) := dk_180 0 33 (dk_at dksX5_init_3 0 rfl rfl)
theorem dX5_init_74 : decode cX5_init 74 = .ok (.iload_n 1, 1) := dk_27 (dk_at dksX5_init_3 3 rfl rfl)
theorem dX5_init_75 : decode cX5_init 75 = .ok (.new 31, 3) := dk_187 0 31 (dk_at dksX5_init_3 4 rfl rfl)
theorem dX5_init_78 : decode cX5_init 78 = .ok (.dup, 1) := dk_89 (dk_at dksX5_init_3 7 rfl rfl)
theorem dX5_init_79 : decode cX5_init 79 = .ok (.invokespecial 41, 3) := dk_183 0 41 (dk_at dksX5_init_3 8 rfl rfl)
theorem dX5_init_82 : decode cX5_init 82 = .ok (.aastore, 1) := dk_83 (dk_at dksX5_init_3 11 rfl rfl)
theorem dX5_init_83 : decode cX5_init 83 = .ok (.iinc 1 1, 3) := dk_132 1 1 (dk_at dksX5_init_3 12 rfl rfl)
theorem dX5_init_86 : decode cX5_init 86 = .ok (.goto (-22), 3) := dk_167 255 234 (dk_at dksX5_init_3 15 rfl rfl)
theorem dX5_init_89 : decode cX5_init 89 = .ok (.return_, 1) := dk_177 (dk_at dksX5_init_3 18 rfl rfl)
abbrev cX5_begin : ByteArray := prog_6_method_2_code
def yX5_begin : MethodName := ⟨RX5, "begin", "(LLastPebble$Beach;)V"⟩
def dkwX5_begin_6 : List UInt8 := [182, 0, 69, 132, 2, 1, 167, 255, 219, 177]
abbrev dktX5_begin_6 : List UInt8 := dkwX5_begin_6 ++ []
def dkwX5_begin_5 : List UInt8 := [180, 0, 33, 43, 180, 0, 60, 28, 46, 50, 43, 180, 0, 63, 28, 46, 43, 180, 0, 66, 28, 46]
abbrev dktX5_begin_5 : List UInt8 := dkwX5_begin_5 ++ dktX5_begin_6
def dkwX5_begin_4 : List UInt8 := [28, 50, 3, 181, 0, 54, 132, 2, 1, 167, 255, 237, 3, 61, 28, 43, 180, 0, 57, 162, 0, 35, 42]
abbrev dktX5_begin_4 : List UInt8 := dkwX5_begin_4 ++ dktX5_begin_5
def dkwX5_begin_3 : List UInt8 := [180, 0, 28, 28, 3, 79, 132, 2, 1, 167, 255, 209, 3, 61, 28, 16, 8, 162, 0, 19, 42, 180, 0, 33]
abbrev dktX5_begin_3 : List UInt8 := dkwX5_begin_3 ++ dktX5_begin_4
def dkwX5_begin_2 : List UInt8 := [46, 79, 42, 180, 0, 22, 28, 43, 180, 0, 53, 28, 46, 79, 42, 180, 0, 25, 28, 3, 79, 42]
abbrev dktX5_begin_2 : List UInt8 := dkwX5_begin_2 ++ dktX5_begin_3
def dkwX5_begin_1 : List UInt8 := [120, 4, 100, 181, 0, 49, 3, 61, 28, 16, 6, 162, 0, 47, 42, 180, 0, 18, 28, 43, 180, 0, 52, 28]
abbrev dktX5_begin_1 : List UInt8 := dkwX5_begin_1 ++ dktX5_begin_2
def dkwX5_begin_0 : List UInt8 := [42, 43, 181, 0, 12, 42, 43, 180, 0, 42, 181, 0, 37, 42, 3, 181, 0, 43, 42, 4, 43, 180, 0, 46]
abbrev dktX5_begin_0 : List UInt8 := dkwX5_begin_0 ++ dktX5_begin_1
theorem dksX5_begin_0 : cX5_begin.data.toList.drop 0 = dktX5_begin_0 := by decide +kernel
theorem dksX5_begin_1 : cX5_begin.data.toList.drop 24 = dktX5_begin_1 := dk_seg dksX5_begin_0 24 rfl rfl
theorem dksX5_begin_2 : cX5_begin.data.toList.drop 48 = dktX5_begin_2 := dk_seg dksX5_begin_1 24 rfl rfl
theorem dksX5_begin_3 : cX5_begin.data.toList.drop 70 = dktX5_begin_3 := dk_seg dksX5_begin_2 22 rfl rfl
theorem dksX5_begin_4 : cX5_begin.data.toList.drop 94 = dktX5_begin_4 := dk_seg dksX5_begin_3 24 rfl rfl
theorem dksX5_begin_5 : cX5_begin.data.toList.drop 117 = dktX5_begin_5 := dk_seg dksX5_begin_4 23 rfl rfl
theorem dksX5_begin_6 : cX5_begin.data.toList.drop 139 = dktX5_begin_6 := dk_seg dksX5_begin_5 22 rfl rfl
theorem dX5_begin_0 : decode cX5_begin 0 = .ok (.aload_n 0, 1) := dk_42 (dk_at dksX5_begin_0 0 rfl rfl)
theorem dX5_begin_1 : decode cX5_begin 1 = .ok (.aload_n 1, 1) := dk_43 (dk_at dksX5_begin_0 1 rfl rfl)
theorem dX5_begin_2 : decode cX5_begin 2 = .ok (.putfield 12, 3) := dk_181 0 12 (dk_at dksX5_begin_0 2 rfl rfl)
theorem dX5_begin_5 : decode cX5_begin 5 = .ok (.aload_n 0, 1) := dk_42 (dk_at dksX5_begin_0 5 rfl rfl)
theorem dX5_begin_6 : decode cX5_begin 6 = .ok (.aload_n 1, 1) := dk_43 (dk_at dksX5_begin_0 6 rfl rfl)
theorem dX5_begin_7 : decode cX5_begin 7 = .ok (.getfield 42, 3) := dk_180 0 42 (dk_at dksX5_begin_0 7 rfl rfl)
theorem dX5_begin_10 : decode cX5_begin 10 = .ok (.putfield 37, 3) := dk_181 0 37 (dk_at dksX5_begin_0 10 rfl rfl)
theorem dX5_begin_13 : decode cX5_begin 13 = .ok (.aload_n 0, 1) := dk_42 (dk_at dksX5_begin_0 13 rfl rfl)
theorem dX5_begin_14 : decode cX5_begin 14 = .ok (.iconst 0, 1) := dk_3 (dk_at dksX5_begin_0 14 rfl rfl)
theorem dX5_begin_15 : decode cX5_begin 15 = .ok (.putfield 43, 3) := dk_181 0 43 (dk_at dksX5_begin_0 15 rfl rfl)
theorem dX5_begin_18 : decode cX5_begin 18 = .ok (.aload_n 0, 1) := dk_42 (dk_at dksX5_begin_0 18 rfl rfl)
theorem dX5_begin_19 : decode cX5_begin 19 = .ok (.iconst 1, 1) := dk_4 (dk_at dksX5_begin_0 19 rfl rfl)
theorem dX5_begin_20 : decode cX5_begin 20 = .ok (.aload_n 1, 1) := dk_43 (dk_at dksX5_begin_0 20 rfl rfl)
theorem dX5_begin_21 : decode cX5_begin 21 = .ok (.getfield 46, 3) := dk_180 0 46 (dk_at dksX5_begin_0 21 rfl rfl)
theorem dX5_begin_24 : decode cX5_begin 24 = .ok (.ishl, 1) := dk_120 (dk_at dksX5_begin_1 0 rfl rfl)
theorem dX5_begin_25 : decode cX5_begin 25 = .ok (.iconst 1, 1) := dk_4 (dk_at dksX5_begin_1 1 rfl rfl)
theorem dX5_begin_26 : decode cX5_begin 26 = .ok (.isub, 1) := dk_100 (dk_at dksX5_begin_1 2 rfl rfl)
theorem dX5_begin_27 : decode cX5_begin 27 = .ok (.putfield 49, 3) := dk_181 0 49 (dk_at dksX5_begin_1 3 rfl rfl)
theorem dX5_begin_30 : decode cX5_begin 30 = .ok (.iconst 0, 1) := dk_3 (dk_at dksX5_begin_1 6 rfl rfl)
theorem dX5_begin_31 : decode cX5_begin 31 = .ok (.istore_n 2, 1) := dk_61 (dk_at dksX5_begin_1 7 rfl rfl)
theorem dX5_begin_32 : decode cX5_begin 32 = .ok (.iload_n 2, 1) := dk_28 (dk_at dksX5_begin_1 8 rfl rfl)
theorem dX5_begin_33 : decode cX5_begin 33 = .ok (.bipush 6, 2) := dk_16 6 (dk_at dksX5_begin_1 9 rfl rfl)
theorem dX5_begin_35 : decode cX5_begin 35 = .ok (.if_icmp .ge 47, 3) := dk_162 0 47 (dk_at dksX5_begin_1 11 rfl rfl)
theorem dX5_begin_38 : decode cX5_begin 38 = .ok (.aload_n 0, 1) := dk_42 (dk_at dksX5_begin_1 14 rfl rfl)
theorem dX5_begin_39 : decode cX5_begin 39 = .ok (.getfield 18, 3) := dk_180 0 18 (dk_at dksX5_begin_1 15 rfl rfl)
theorem dX5_begin_42 : decode cX5_begin 42 = .ok (.iload_n 2, 1) := dk_28 (dk_at dksX5_begin_1 18 rfl rfl)
theorem dX5_begin_43 : decode cX5_begin 43 = .ok (.aload_n 1, 1) := dk_43 (dk_at dksX5_begin_1 19 rfl rfl)
theorem dX5_begin_44 : decode cX5_begin 44 = .ok (.getfield 52, 3) := dk_180 0 52 (dk_at dksX5_begin_1 20 rfl rfl)
theorem dX5_begin_47 : decode cX5_begin 47 = .ok (.iload_n 2, 1) := dk_28 (dk_at dksX5_begin_1 23 rfl rfl)
theorem dX5_begin_48 : decode cX5_begin 48 = .ok (.iaload, 1) := dk_46 (dk_at dksX5_begin_2 0 rfl rfl)
theorem dX5_begin_49 : decode cX5_begin 49 = .ok (.iastore, 1) := dk_79 (dk_at dksX5_begin_2 1 rfl rfl)
theorem dX5_begin_50 : decode cX5_begin 50 = .ok (.aload_n 0, 1) := dk_42 (dk_at dksX5_begin_2 2 rfl rfl)
theorem dX5_begin_51 : decode cX5_begin 51 = .ok (.getfield 22, 3) := dk_180 0 22 (dk_at dksX5_begin_2 3 rfl rfl)
theorem dX5_begin_54 : decode cX5_begin 54 = .ok (.iload_n 2, 1) := dk_28 (dk_at dksX5_begin_2 6 rfl rfl)
theorem dX5_begin_55 : decode cX5_begin 55 = .ok (.aload_n 1, 1) := dk_43 (dk_at dksX5_begin_2 7 rfl rfl)
theorem dX5_begin_56 : decode cX5_begin 56 = .ok (.getfield 53, 3) := dk_180 0 53 (dk_at dksX5_begin_2 8 rfl rfl)
theorem dX5_begin_59 : decode cX5_begin 59 = .ok (.iload_n 2, 1) := dk_28 (dk_at dksX5_begin_2 11 rfl rfl)
theorem dX5_begin_60 : decode cX5_begin 60 = .ok (.iaload, 1) := dk_46 (dk_at dksX5_begin_2 12 rfl rfl)
theorem dX5_begin_61 : decode cX5_begin 61 = .ok (.iastore, 1) := dk_79 (dk_at dksX5_begin_2 13 rfl rfl)
theorem dX5_begin_62 : decode cX5_begin 62 = .ok (.aload_n 0, 1) := dk_42 (dk_at dksX5_begin_2 14 rfl rfl)
theorem dX5_begin_63 : decode cX5_begin 63 = .ok (.getfield 25, 3) := dk_180 0 25 (dk_at dksX5_begin_2 15 rfl rfl)
theorem dX5_begin_66 : decode cX5_begin 66 = .ok (.iload_n 2, 1) := dk_28 (dk_at dksX5_begin_2 18 rfl rfl)
theorem dX5_begin_67 : decode cX5_begin 67 = .ok (.iconst 0, 1) := dk_3 (dk_at dksX5_begin_2 19 rfl rfl)
theorem dX5_begin_68 : decode cX5_begin 68 = .ok (.iastore, 1) := dk_79 (dk_at dksX5_begin_2 20 rfl rfl)
theorem dX5_begin_69 : decode cX5_begin 69 = .ok (.aload_n 0, 1) := dk_42 (dk_at dksX5_begin_2 21 rfl rfl)
theorem dX5_begin_70 : decode cX5_begin 70 = .ok (.getfield 28, 3) := dk_180 0 28 (dk_at dksX5_begin_3 0 rfl rfl)
theorem dX5_begin_73 : decode cX5_begin 73 = .ok (.iload_n 2, 1) := dk_28 (dk_at dksX5_begin_3 3 rfl rfl)
theorem dX5_begin_74 : decode cX5_begin 74 = .ok (.iconst 0, 1) := dk_3 (dk_at dksX5_begin_3 4 rfl rfl)
theorem dX5_begin_75 : decode cX5_begin 75 = .ok (.iastore, 1) := dk_79 (dk_at dksX5_begin_3 5 rfl rfl)
theorem dX5_begin_76 : decode cX5_begin 76 = .ok (.iinc 2 1, 3) := dk_132 2 1 (dk_at dksX5_begin_3 6 rfl rfl)
theorem dX5_begin_79 : decode cX5_begin 79 = .ok (.goto (-47), 3) := dk_167 255 209 (dk_at dksX5_begin_3 9 rfl rfl)
theorem dX5_begin_82 : decode cX5_begin 82 = .ok (.iconst 0, 1) := dk_3 (dk_at dksX5_begin_3 12 rfl rfl)
theorem dX5_begin_83 : decode cX5_begin 83 = .ok (.istore_n 2, 1) := dk_61 (dk_at dksX5_begin_3 13 rfl rfl)
theorem dX5_begin_84 : decode cX5_begin 84 = .ok (.iload_n 2, 1) := dk_28 (dk_at dksX5_begin_3 14 rfl rfl)
theorem dX5_begin_85 : decode cX5_begin 85 = .ok (.bipush 8, 2) := dk_16 8 (dk_at dksX5_begin_3 15 rfl rfl)
theorem dX5_begin_87 : decode cX5_begin 87 = .ok (.if_icmp .ge 19, 3) := dk_162 0 19 (dk_at dksX5_begin_3 17 rfl rfl)
theorem dX5_begin_90 : decode cX5_begin 90 = .ok (.aload_n 0, 1) := dk_42 (dk_at dksX5_begin_3 20 rfl rfl)
theorem dX5_begin_91 : decode cX5_begin 91 = .ok (.getfield 33, 3) := dk_180 0 33 (dk_at dksX5_begin_3 21 rfl rfl)
theorem dX5_begin_94 : decode cX5_begin 94 = .ok (.iload_n 2, 1) := dk_28 (dk_at dksX5_begin_4 0 rfl rfl)
theorem dX5_begin_95 : decode cX5_begin 95 = .ok (.aaload, 1) := dk_50 (dk_at dksX5_begin_4 1 rfl rfl)
theorem dX5_begin_96 : decode cX5_begin 96 = .ok (.iconst 0, 1) := dk_3 (dk_at dksX5_begin_4 2 rfl rfl)
theorem dX5_begin_97 : decode cX5_begin 97 = .ok (.putfield 54, 3) := dk_181 0 54 (dk_at dksX5_begin_4 3 rfl rfl)
theorem dX5_begin_100 : decode cX5_begin 100 = .ok (.iinc 2 1, 3) := dk_132 2 1 (dk_at dksX5_begin_4 6 rfl rfl)
theorem dX5_begin_103 : decode cX5_begin 103 = .ok (.goto (-19), 3) := dk_167 255 237 (dk_at dksX5_begin_4 9 rfl rfl)
theorem dX5_begin_106 : decode cX5_begin 106 = .ok (.iconst 0, 1) := dk_3 (dk_at dksX5_begin_4 12 rfl rfl)
theorem dX5_begin_107 : decode cX5_begin 107 = .ok (.istore_n 2, 1) := dk_61 (dk_at dksX5_begin_4 13 rfl rfl)
theorem dX5_begin_108 : decode cX5_begin 108 = .ok (.iload_n 2, 1) := dk_28 (dk_at dksX5_begin_4 14 rfl rfl)
theorem dX5_begin_109 : decode cX5_begin 109 = .ok (.aload_n 1, 1) := dk_43 (dk_at dksX5_begin_4 15 rfl rfl)
theorem dX5_begin_110 : decode cX5_begin 110 = .ok (.getfield 57, 3) := dk_180 0 57 (dk_at dksX5_begin_4 16 rfl rfl)
theorem dX5_begin_113 : decode cX5_begin 113 = .ok (.if_icmp .ge 35, 3) := dk_162 0 35 (dk_at dksX5_begin_4 19 rfl rfl)
theorem dX5_begin_116 : decode cX5_begin 116 = .ok (.aload_n 0, 1) := dk_42 (dk_at dksX5_begin_4 22 rfl rfl)
theorem dX5_begin_117 : decode cX5_begin 117 = .ok (.getfield 33, 3) := dk_180 0 33 (dk_at dksX5_begin_5 0 rfl rfl)
theorem dX5_begin_120 : decode cX5_begin 120 = .ok (.aload_n 1, 1) := dk_43 (dk_at dksX5_begin_5 3 rfl rfl)
theorem dX5_begin_121 : decode cX5_begin 121 = .ok (.getfield 60, 3) := dk_180 0 60 (dk_at dksX5_begin_5 4 rfl rfl)
theorem dX5_begin_124 : decode cX5_begin 124 = .ok (.iload_n 2, 1) := dk_28 (dk_at dksX5_begin_5 7 rfl rfl)
theorem dX5_begin_125 : decode cX5_begin 125 = .ok (.iaload, 1) := dk_46 (dk_at dksX5_begin_5 8 rfl rfl)
theorem dX5_begin_126 : decode cX5_begin 126 = .ok (.aaload, 1) := dk_50 (dk_at dksX5_begin_5 9 rfl rfl)
theorem dX5_begin_127 : decode cX5_begin 127 = .ok (.aload_n 1, 1) := dk_43 (dk_at dksX5_begin_5 10 rfl rfl)
theorem dX5_begin_128 : decode cX5_begin 128 = .ok (.getfield 63, 3) := dk_180 0 63 (dk_at dksX5_begin_5 11 rfl rfl)
theorem dX5_begin_131 : decode cX5_begin 131 = .ok (.iload_n 2, 1) := dk_28 (dk_at dksX5_begin_5 14 rfl rfl)
theorem dX5_begin_132 : decode cX5_begin 132 = .ok (.iaload, 1) := dk_46 (dk_at dksX5_begin_5 15 rfl rfl)
theorem dX5_begin_133 : decode cX5_begin 133 = .ok (.aload_n 1, 1) := dk_43 (dk_at dksX5_begin_5 16 rfl rfl)
theorem dX5_begin_134 : decode cX5_begin 134 = .ok (.getfield 66, 3) := dk_180 0 66 (dk_at dksX5_begin_5 17 rfl rfl)
theorem dX5_begin_137 : decode cX5_begin 137 = .ok (.iload_n 2, 1) := dk_28 (dk_at dksX5_begin_5 20 rfl rfl)
theorem dX5_begin_138 : decode cX5_begin 138 = .ok (.iaload, 1) := dk_46 (dk_at dksX5_begin_5 21 rfl rfl)
theorem dX5_begin_139 : decode cX5_begin 139 = .ok (.invokevirtual 69, 3) := dk_182 0 69 (dk_at dksX5_begin_6 0 rfl rfl)
theorem dX5_begin_142 : decode cX5_begin 142 = .ok (.iinc 2 1, 3) := dk_132 2 1 (dk_at dksX5_begin_6 3 rfl rfl)
theorem dX5_begin_145 : decode cX5_begin 145 = .ok (.goto (-37), 3) := dk_167 255 219 (dk_at dksX5_begin_6 6 rfl rfl)
theorem dX5_begin_148 : decode cX5_begin 148 = .ok (.return_, 1) := dk_177 (dk_at dksX5_begin_6 9 rfl rfl)
abbrev cX5_pebbles : ByteArray := prog_6_method_5_code
def yX5_pebbles : MethodName := ⟨RX5, "pebbles", "()I"⟩
def dkwX5_pebbles_1 : List UInt8 := [132, 2, 1, 167, 255, 235, 27, 172]
abbrev dktX5_pebbles_1 : List UInt8 := dkwX5_pebbles_1 ++ []
def dkwX5_pebbles_0 : List UInt8 := [3, 60, 3, 61, 28, 16, 8, 162, 0, 21, 27, 42, 180, 0, 33, 28, 50, 180, 0, 54, 96, 60]
abbrev dktX5_pebbles_0 : List UInt8 := dkwX5_pebbles_0 ++ dktX5_pebbles_1
theorem dksX5_pebbles_0 : cX5_pebbles.data.toList.drop 0 = dktX5_pebbles_0 := by decide +kernel
theorem dksX5_pebbles_1 : cX5_pebbles.data.toList.drop 22 = dktX5_pebbles_1 := dk_seg dksX5_pebbles_0 22 rfl rfl
theorem dX5_pebbles_0 : decode cX5_pebbles 0 = .ok (.iconst 0, 1) := dk_3 (dk_at dksX5_pebbles_0 0 rfl rfl)
theorem dX5_pebbles_1 : decode cX5_pebbles 1 = .ok (.istore_n 1, 1) := dk_60 (dk_at dksX5_pebbles_0 1 rfl rfl)
theorem dX5_pebbles_2 : decode cX5_pebbles 2 = .ok (.iconst 0, 1) := dk_3 (dk_at dksX5_pebbles_0 2 rfl rfl)
theorem dX5_pebbles_3 : decode cX5_pebbles 3 = .ok (.istore_n 2, 1) := dk_61 (dk_at dksX5_pebbles_0 3 rfl rfl)
theorem dX5_pebbles_4 : decode cX5_pebbles 4 = .ok (.iload_n 2, 1) := dk_28 (dk_at dksX5_pebbles_0 4 rfl rfl)
theorem dX5_pebbles_5 : decode cX5_pebbles 5 = .ok (.bipush 8, 2) := dk_16 8 (dk_at dksX5_pebbles_0 5 rfl rfl)
theorem dX5_pebbles_7 : decode cX5_pebbles 7 = .ok (.if_icmp .ge 21, 3) := dk_162 0 21 (dk_at dksX5_pebbles_0 7 rfl rfl)
theorem dX5_pebbles_10 : decode cX5_pebbles 10 = .ok (.iload_n 1, 1) := dk_27 (dk_at dksX5_pebbles_0 10 rfl rfl)
theorem dX5_pebbles_11 : decode cX5_pebbles 11 = .ok (.aload_n 0, 1) := dk_42 (dk_at dksX5_pebbles_0 11 rfl rfl)
theorem dX5_pebbles_12 : decode cX5_pebbles 12 = .ok (.getfield 33, 3) := dk_180 0 33 (dk_at dksX5_pebbles_0 12 rfl rfl)
theorem dX5_pebbles_15 : decode cX5_pebbles 15 = .ok (.iload_n 2, 1) := dk_28 (dk_at dksX5_pebbles_0 15 rfl rfl)
theorem dX5_pebbles_16 : decode cX5_pebbles 16 = .ok (.aaload, 1) := dk_50 (dk_at dksX5_pebbles_0 16 rfl rfl)
theorem dX5_pebbles_17 : decode cX5_pebbles 17 = .ok (.getfield 54, 3) := dk_180 0 54 (dk_at dksX5_pebbles_0 17 rfl rfl)
theorem dX5_pebbles_20 : decode cX5_pebbles 20 = .ok (.iadd, 1) := dk_96 (dk_at dksX5_pebbles_0 20 rfl rfl)
theorem dX5_pebbles_21 : decode cX5_pebbles 21 = .ok (.istore_n 1, 1) := dk_60 (dk_at dksX5_pebbles_0 21 rfl rfl)
theorem dX5_pebbles_22 : decode cX5_pebbles 22 = .ok (.iinc 2 1, 3) := dk_132 2 1 (dk_at dksX5_pebbles_1 0 rfl rfl)
theorem dX5_pebbles_25 : decode cX5_pebbles 25 = .ok (.goto (-21), 3) := dk_167 255 235 (dk_at dksX5_pebbles_1 3 rfl rfl)
theorem dX5_pebbles_28 : decode cX5_pebbles 28 = .ok (.iload_n 1, 1) := dk_27 (dk_at dksX5_pebbles_1 6 rfl rfl)
theorem dX5_pebbles_29 : decode cX5_pebbles 29 = .ok (.ireturn, 1) := dk_172 (dk_at dksX5_pebbles_1 7 rfl rfl)
abbrev cX5_goes : ByteArray := prog_6_method_7_code
def yX5_goes : MethodName := ⟨RX5, "goes", "(II)Z"⟩
def dkwX5_goes_1 : List UInt8 := [42, 180, 0, 25, 27, 29, 79, 4, 172]
abbrev dktX5_goes_1 : List UInt8 := dkwX5_goes_1 ++ []
def dkwX5_goes_0 : List UInt8 := [42, 27, 28, 182, 0, 92, 62, 29, 42, 180, 0, 37, 164, 0, 5, 3, 172, 42, 180, 0, 18, 27, 28, 79]
abbrev dktX5_goes_0 : List UInt8 := dkwX5_goes_0 ++ dktX5_goes_1
theorem dksX5_goes_0 : cX5_goes.data.toList.drop 0 = dktX5_goes_0 := by decide +kernel
theorem dksX5_goes_1 : cX5_goes.data.toList.drop 24 = dktX5_goes_1 := dk_seg dksX5_goes_0 24 rfl rfl
theorem dX5_goes_0 : decode cX5_goes 0 = .ok (.aload_n 0, 1) := dk_42 (dk_at dksX5_goes_0 0 rfl rfl)
theorem dX5_goes_1 : decode cX5_goes 1 = .ok (.iload_n 1, 1) := dk_27 (dk_at dksX5_goes_0 1 rfl rfl)
theorem dX5_goes_2 : decode cX5_goes 2 = .ok (.iload_n 2, 1) := dk_28 (dk_at dksX5_goes_0 2 rfl rfl)
theorem dX5_goes_3 : decode cX5_goes 3 = .ok (.invokevirtual 92, 3) := dk_182 0 92 (dk_at dksX5_goes_0 3 rfl rfl)
theorem dX5_goes_6 : decode cX5_goes 6 = .ok (.istore_n 3, 1) := dk_62 (dk_at dksX5_goes_0 6 rfl rfl)
theorem dX5_goes_7 : decode cX5_goes 7 = .ok (.iload_n 3, 1) := dk_29 (dk_at dksX5_goes_0 7 rfl rfl)
theorem dX5_goes_8 : decode cX5_goes 8 = .ok (.aload_n 0, 1) := dk_42 (dk_at dksX5_goes_0 8 rfl rfl)
theorem dX5_goes_9 : decode cX5_goes 9 = .ok (.getfield 37, 3) := dk_180 0 37 (dk_at dksX5_goes_0 9 rfl rfl)
theorem dX5_goes_12 : decode cX5_goes 12 = .ok (.if_icmp .le 5, 3) := dk_164 0 5 (dk_at dksX5_goes_0 12 rfl rfl)
theorem dX5_goes_15 : decode cX5_goes 15 = .ok (.iconst 0, 1) := dk_3 (dk_at dksX5_goes_0 15 rfl rfl)
theorem dX5_goes_16 : decode cX5_goes 16 = .ok (.ireturn, 1) := dk_172 (dk_at dksX5_goes_0 16 rfl rfl)
theorem dX5_goes_17 : decode cX5_goes 17 = .ok (.aload_n 0, 1) := dk_42 (dk_at dksX5_goes_0 17 rfl rfl)
theorem dX5_goes_18 : decode cX5_goes 18 = .ok (.getfield 18, 3) := dk_180 0 18 (dk_at dksX5_goes_0 18 rfl rfl)
theorem dX5_goes_21 : decode cX5_goes 21 = .ok (.iload_n 1, 1) := dk_27 (dk_at dksX5_goes_0 21 rfl rfl)
theorem dX5_goes_22 : decode cX5_goes 22 = .ok (.iload_n 2, 1) := dk_28 (dk_at dksX5_goes_0 22 rfl rfl)
theorem dX5_goes_23 : decode cX5_goes 23 = .ok (.iastore, 1) := dk_79 (dk_at dksX5_goes_0 23 rfl rfl)
theorem dX5_goes_24 : decode cX5_goes 24 = .ok (.aload_n 0, 1) := dk_42 (dk_at dksX5_goes_1 0 rfl rfl)
theorem dX5_goes_25 : decode cX5_goes 25 = .ok (.getfield 25, 3) := dk_180 0 25 (dk_at dksX5_goes_1 1 rfl rfl)
theorem dX5_goes_28 : decode cX5_goes 28 = .ok (.iload_n 1, 1) := dk_27 (dk_at dksX5_goes_1 4 rfl rfl)
theorem dX5_goes_29 : decode cX5_goes 29 = .ok (.iload_n 3, 1) := dk_29 (dk_at dksX5_goes_1 5 rfl rfl)
theorem dX5_goes_30 : decode cX5_goes 30 = .ok (.iastore, 1) := dk_79 (dk_at dksX5_goes_1 6 rfl rfl)
theorem dX5_goes_31 : decode cX5_goes 31 = .ok (.iconst 1, 1) := dk_4 (dk_at dksX5_goes_1 7 rfl rfl)
theorem dX5_goes_32 : decode cX5_goes 32 = .ok (.ireturn, 1) := dk_172 (dk_at dksX5_goes_1 8 rfl rfl)
abbrev cX5_arrives : ByteArray := prog_6_method_6_code
def yX5_arrives : MethodName := ⟨RX5, "arrives", "(II)I"⟩
def dkwX5_arrives_1 : List UInt8 := [184, 0, 86, 104, 96, 172]
abbrev dktX5_arrives_1 : List UInt8 := dkwX5_arrives_1 ++ []
def dkwX5_arrives_0 : List UInt8 := [42, 180, 0, 25, 27, 46, 42, 180, 0, 12, 180, 0, 83, 27, 46, 28, 42, 180, 0, 18, 27, 46, 100]
abbrev dktX5_arrives_0 : List UInt8 := dkwX5_arrives_0 ++ dktX5_arrives_1
theorem dksX5_arrives_0 : cX5_arrives.data.toList.drop 0 = dktX5_arrives_0 := by decide +kernel
theorem dksX5_arrives_1 : cX5_arrives.data.toList.drop 23 = dktX5_arrives_1 := dk_seg dksX5_arrives_0 23 rfl rfl
theorem dX5_arrives_0 : decode cX5_arrives 0 = .ok (.aload_n 0, 1) := dk_42 (dk_at dksX5_arrives_0 0 rfl rfl)
theorem dX5_arrives_1 : decode cX5_arrives 1 = .ok (.getfield 25, 3) := dk_180 0 25 (dk_at dksX5_arrives_0 1 rfl rfl)
theorem dX5_arrives_4 : decode cX5_arrives 4 = .ok (.iload_n 1, 1) := dk_27 (dk_at dksX5_arrives_0 4 rfl rfl)
theorem dX5_arrives_5 : decode cX5_arrives 5 = .ok (.iaload, 1) := dk_46 (dk_at dksX5_arrives_0 5 rfl rfl)
theorem dX5_arrives_6 : decode cX5_arrives 6 = .ok (.aload_n 0, 1) := dk_42 (dk_at dksX5_arrives_0 6 rfl rfl)
theorem dX5_arrives_7 : decode cX5_arrives 7 = .ok (.getfield 12, 3) := dk_180 0 12 (dk_at dksX5_arrives_0 7 rfl rfl)
theorem dX5_arrives_10 : decode cX5_arrives 10 = .ok (.getfield 83, 3) := dk_180 0 83 (dk_at dksX5_arrives_0 10 rfl rfl)
theorem dX5_arrives_13 : decode cX5_arrives 13 = .ok (.iload_n 1, 1) := dk_27 (dk_at dksX5_arrives_0 13 rfl rfl)
theorem dX5_arrives_14 : decode cX5_arrives 14 = .ok (.iaload, 1) := dk_46 (dk_at dksX5_arrives_0 14 rfl rfl)
theorem dX5_arrives_15 : decode cX5_arrives 15 = .ok (.iload_n 2, 1) := dk_28 (dk_at dksX5_arrives_0 15 rfl rfl)
theorem dX5_arrives_16 : decode cX5_arrives 16 = .ok (.aload_n 0, 1) := dk_42 (dk_at dksX5_arrives_0 16 rfl rfl)
theorem dX5_arrives_17 : decode cX5_arrives 17 = .ok (.getfield 18, 3) := dk_180 0 18 (dk_at dksX5_arrives_0 17 rfl rfl)
theorem dX5_arrives_20 : decode cX5_arrives 20 = .ok (.iload_n 1, 1) := dk_27 (dk_at dksX5_arrives_0 20 rfl rfl)
theorem dX5_arrives_21 : decode cX5_arrives 21 = .ok (.iaload, 1) := dk_46 (dk_at dksX5_arrives_0 21 rfl rfl)
theorem dX5_arrives_22 : decode cX5_arrives 22 = .ok (.isub, 1) := dk_100 (dk_at dksX5_arrives_0 22 rfl rfl)
theorem dX5_arrives_23 : decode cX5_arrives 23 = .ok (.invokestatic 86, 3) := dk_184 0 86 (dk_at dksX5_arrives_1 0 rfl rfl)
theorem dX5_arrives_26 : decode cX5_arrives 26 = .ok (.imul, 1) := dk_104 (dk_at dksX5_arrives_1 3 rfl rfl)
theorem dX5_arrives_27 : decode cX5_arrives 27 = .ok (.iadd, 1) := dk_96 (dk_at dksX5_arrives_1 4 rfl rfl)
theorem dX5_arrives_28 : decode cX5_arrives 28 = .ok (.ireturn, 1) := dk_172 (dk_at dksX5_arrives_1 5 rfl rfl)
abbrev cX5_waits : ByteArray := prog_6_method_8_code
def yX5_waits : MethodName := ⟨RX5, "waits", "(II)Z"⟩
def dkwX5_waits_1 : List UInt8 := [28, 96, 79, 4, 172]
abbrev dktX5_waits_1 : List UInt8 := dkwX5_waits_1 ++ []
def dkwX5_waits_0 : List UInt8 := [42, 180, 0, 25, 27, 46, 28, 96, 42, 180, 0, 37, 164, 0, 5, 3, 172, 42, 180, 0, 25, 27, 92, 46]
abbrev dktX5_waits_0 : List UInt8 := dkwX5_waits_0 ++ dktX5_waits_1
theorem dksX5_waits_0 : cX5_waits.data.toList.drop 0 = dktX5_waits_0 := by decide +kernel
theorem dksX5_waits_1 : cX5_waits.data.toList.drop 24 = dktX5_waits_1 := dk_seg dksX5_waits_0 24 rfl rfl
theorem dX5_waits_0 : decode cX5_waits 0 = .ok (.aload_n 0, 1) := dk_42 (dk_at dksX5_waits_0 0 rfl rfl)
theorem dX5_waits_1 : decode cX5_waits 1 = .ok (.getfield 25, 3) := dk_180 0 25 (dk_at dksX5_waits_0 1 rfl rfl)
theorem dX5_waits_4 : decode cX5_waits 4 = .ok (.iload_n 1, 1) := dk_27 (dk_at dksX5_waits_0 4 rfl rfl)
theorem dX5_waits_5 : decode cX5_waits 5 = .ok (.iaload, 1) := dk_46 (dk_at dksX5_waits_0 5 rfl rfl)
theorem dX5_waits_6 : decode cX5_waits 6 = .ok (.iload_n 2, 1) := dk_28 (dk_at dksX5_waits_0 6 rfl rfl)
theorem dX5_waits_7 : decode cX5_waits 7 = .ok (.iadd, 1) := dk_96 (dk_at dksX5_waits_0 7 rfl rfl)
theorem dX5_waits_8 : decode cX5_waits 8 = .ok (.aload_n 0, 1) := dk_42 (dk_at dksX5_waits_0 8 rfl rfl)
theorem dX5_waits_9 : decode cX5_waits 9 = .ok (.getfield 37, 3) := dk_180 0 37 (dk_at dksX5_waits_0 9 rfl rfl)
theorem dX5_waits_12 : decode cX5_waits 12 = .ok (.if_icmp .le 5, 3) := dk_164 0 5 (dk_at dksX5_waits_0 12 rfl rfl)
theorem dX5_waits_15 : decode cX5_waits 15 = .ok (.iconst 0, 1) := dk_3 (dk_at dksX5_waits_0 15 rfl rfl)
theorem dX5_waits_16 : decode cX5_waits 16 = .ok (.ireturn, 1) := dk_172 (dk_at dksX5_waits_0 16 rfl rfl)
theorem dX5_waits_17 : decode cX5_waits 17 = .ok (.aload_n 0, 1) := dk_42 (dk_at dksX5_waits_0 17 rfl rfl)
theorem dX5_waits_18 : decode cX5_waits 18 = .ok (.getfield 25, 3) := dk_180 0 25 (dk_at dksX5_waits_0 18 rfl rfl)
theorem dX5_waits_21 : decode cX5_waits 21 = .ok (.iload_n 1, 1) := dk_27 (dk_at dksX5_waits_0 21 rfl rfl)
theorem dX5_waits_22 : decode cX5_waits 22 = .ok (.dup2, 1) := dk_92 (dk_at dksX5_waits_0 22 rfl rfl)
theorem dX5_waits_23 : decode cX5_waits 23 = .ok (.iaload, 1) := dk_46 (dk_at dksX5_waits_0 23 rfl rfl)
theorem dX5_waits_24 : decode cX5_waits 24 = .ok (.iload_n 2, 1) := dk_28 (dk_at dksX5_waits_1 0 rfl rfl)
theorem dX5_waits_25 : decode cX5_waits 25 = .ok (.iadd, 1) := dk_96 (dk_at dksX5_waits_1 1 rfl rfl)
theorem dX5_waits_26 : decode cX5_waits 26 = .ok (.iastore, 1) := dk_79 (dk_at dksX5_waits_1 2 rfl rfl)
theorem dX5_waits_27 : decode cX5_waits 27 = .ok (.iconst 1, 1) := dk_4 (dk_at dksX5_waits_1 3 rfl rfl)
theorem dX5_waits_28 : decode cX5_waits 28 = .ok (.ireturn, 1) := dk_172 (dk_at dksX5_waits_1 4 rfl rfl)
abbrev cX5_isAt : ByteArray := prog_6_method_9_code
def yX5_isAt : MethodName := ⟨RX5, "isAt", "(II)Z"⟩
def dkwX5_isAt_1 : List UInt8 := [160, 0, 7, 4, 167, 0, 4, 3, 172]
abbrev dktX5_isAt_1 : List UInt8 := dkwX5_isAt_1 ++ []
def dkwX5_isAt_0 : List UInt8 := [42, 28, 182, 0, 96, 153, 0, 25, 42, 180, 0, 18, 27, 46, 42, 180, 0, 12, 180, 0, 100, 28, 46]
abbrev dktX5_isAt_0 : List UInt8 := dkwX5_isAt_0 ++ dktX5_isAt_1
theorem dksX5_isAt_0 : cX5_isAt.data.toList.drop 0 = dktX5_isAt_0 := by decide +kernel
theorem dksX5_isAt_1 : cX5_isAt.data.toList.drop 23 = dktX5_isAt_1 := dk_seg dksX5_isAt_0 23 rfl rfl
theorem dX5_isAt_0 : decode cX5_isAt 0 = .ok (.aload_n 0, 1) := dk_42 (dk_at dksX5_isAt_0 0 rfl rfl)
theorem dX5_isAt_1 : decode cX5_isAt 1 = .ok (.iload_n 2, 1) := dk_28 (dk_at dksX5_isAt_0 1 rfl rfl)
theorem dX5_isAt_2 : decode cX5_isAt 2 = .ok (.invokevirtual 96, 3) := dk_182 0 96 (dk_at dksX5_isAt_0 2 rfl rfl)
theorem dX5_isAt_5 : decode cX5_isAt 5 = .ok (.ifCond .eq 25, 3) := dk_153 0 25 (dk_at dksX5_isAt_0 5 rfl rfl)
theorem dX5_isAt_8 : decode cX5_isAt 8 = .ok (.aload_n 0, 1) := dk_42 (dk_at dksX5_isAt_0 8 rfl rfl)
theorem dX5_isAt_9 : decode cX5_isAt 9 = .ok (.getfield 18, 3) := dk_180 0 18 (dk_at dksX5_isAt_0 9 rfl rfl)
theorem dX5_isAt_12 : decode cX5_isAt 12 = .ok (.iload_n 1, 1) := dk_27 (dk_at dksX5_isAt_0 12 rfl rfl)
theorem dX5_isAt_13 : decode cX5_isAt 13 = .ok (.iaload, 1) := dk_46 (dk_at dksX5_isAt_0 13 rfl rfl)
theorem dX5_isAt_14 : decode cX5_isAt 14 = .ok (.aload_n 0, 1) := dk_42 (dk_at dksX5_isAt_0 14 rfl rfl)
theorem dX5_isAt_15 : decode cX5_isAt 15 = .ok (.getfield 12, 3) := dk_180 0 12 (dk_at dksX5_isAt_0 15 rfl rfl)
theorem dX5_isAt_18 : decode cX5_isAt 18 = .ok (.getfield 100, 3) := dk_180 0 100 (dk_at dksX5_isAt_0 18 rfl rfl)
theorem dX5_isAt_21 : decode cX5_isAt 21 = .ok (.iload_n 2, 1) := dk_28 (dk_at dksX5_isAt_0 21 rfl rfl)
theorem dX5_isAt_22 : decode cX5_isAt 22 = .ok (.iaload, 1) := dk_46 (dk_at dksX5_isAt_0 22 rfl rfl)
theorem dX5_isAt_23 : decode cX5_isAt 23 = .ok (.if_icmp .ne 7, 3) := dk_160 0 7 (dk_at dksX5_isAt_1 0 rfl rfl)
theorem dX5_isAt_26 : decode cX5_isAt 26 = .ok (.iconst 1, 1) := dk_4 (dk_at dksX5_isAt_1 3 rfl rfl)
theorem dX5_isAt_27 : decode cX5_isAt 27 = .ok (.goto 4, 3) := dk_167 0 4 (dk_at dksX5_isAt_1 4 rfl rfl)
theorem dX5_isAt_30 : decode cX5_isAt 30 = .ok (.iconst 0, 1) := dk_3 (dk_at dksX5_isAt_1 7 rfl rfl)
theorem dX5_isAt_31 : decode cX5_isAt 31 = .ok (.ireturn, 1) := dk_172 (dk_at dksX5_isAt_1 8 rfl rfl)
abbrev cX5_isThere : ByteArray := prog_6_method_4_code
def yX5_isThere : MethodName := ⟨RX5, "isThere", "(I)Z"⟩
def dkwX5_isThere_0 : List UInt8 := [42, 180, 0, 49, 27, 122, 4, 126, 4, 160, 0, 7, 4, 167, 0, 4, 3, 172]
abbrev dktX5_isThere_0 : List UInt8 := dkwX5_isThere_0 ++ []
theorem dksX5_isThere_0 : cX5_isThere.data.toList.drop 0 = dktX5_isThere_0 := by decide +kernel
theorem dX5_isThere_0 : decode cX5_isThere 0 = .ok (.aload_n 0, 1) := dk_42 (dk_at dksX5_isThere_0 0 rfl rfl)
theorem dX5_isThere_1 : decode cX5_isThere 1 = .ok (.getfield 49, 3) := dk_180 0 49 (dk_at dksX5_isThere_0 1 rfl rfl)
theorem dX5_isThere_4 : decode cX5_isThere 4 = .ok (.iload_n 1, 1) := dk_27 (dk_at dksX5_isThere_0 4 rfl rfl)
theorem dX5_isThere_5 : decode cX5_isThere 5 = .ok (.ishr, 1) := dk_122 (dk_at dksX5_isThere_0 5 rfl rfl)
theorem dX5_isThere_6 : decode cX5_isThere 6 = .ok (.iconst 1, 1) := dk_4 (dk_at dksX5_isThere_0 6 rfl rfl)
theorem dX5_isThere_7 : decode cX5_isThere 7 = .ok (.iand, 1) := dk_126 (dk_at dksX5_isThere_0 7 rfl rfl)
theorem dX5_isThere_8 : decode cX5_isThere 8 = .ok (.iconst 1, 1) := dk_4 (dk_at dksX5_isThere_0 8 rfl rfl)
theorem dX5_isThere_9 : decode cX5_isThere 9 = .ok (.if_icmp .ne 7, 3) := dk_160 0 7 (dk_at dksX5_isThere_0 9 rfl rfl)
theorem dX5_isThere_12 : decode cX5_isThere 12 = .ok (.iconst 1, 1) := dk_4 (dk_at dksX5_isThere_0 12 rfl rfl)
theorem dX5_isThere_13 : decode cX5_isThere 13 = .ok (.goto 4, 3) := dk_167 0 4 (dk_at dksX5_isThere_0 13 rfl rfl)
theorem dX5_isThere_16 : decode cX5_isThere 16 = .ok (.iconst 0, 1) := dk_3 (dk_at dksX5_isThere_0 16 rfl rfl)
theorem dX5_isThere_17 : decode cX5_isThere 17 = .ok (.ireturn, 1) := dk_172 (dk_at dksX5_isThere_0 17 rfl rfl)
abbrev cX5_sets : ByteArray := prog_6_method_10_code
def yX5_sets : MethodName := ⟨RX5, "sets", "(II)V"⟩
def dkwX5_sets_1 : List UInt8 := [100, 79, 177]
abbrev dktX5_sets_1 : List UInt8 := dkwX5_sets_1 ++ []
def dkwX5_sets_0 : List UInt8 := [42, 180, 0, 33, 28, 50, 27, 42, 180, 0, 25, 27, 46, 182, 0, 69, 42, 180, 0, 22, 27, 92, 46, 4]
abbrev dktX5_sets_0 : List UInt8 := dkwX5_sets_0 ++ dktX5_sets_1
theorem dksX5_sets_0 : cX5_sets.data.toList.drop 0 = dktX5_sets_0 := by decide +kernel
theorem dksX5_sets_1 : cX5_sets.data.toList.drop 24 = dktX5_sets_1 := dk_seg dksX5_sets_0 24 rfl rfl
theorem dX5_sets_0 : decode cX5_sets 0 = .ok (.aload_n 0, 1) := dk_42 (dk_at dksX5_sets_0 0 rfl rfl)
theorem dX5_sets_1 : decode cX5_sets 1 = .ok (.getfield 33, 3) := dk_180 0 33 (dk_at dksX5_sets_0 1 rfl rfl)
theorem dX5_sets_4 : decode cX5_sets 4 = .ok (.iload_n 2, 1) := dk_28 (dk_at dksX5_sets_0 4 rfl rfl)
theorem dX5_sets_5 : decode cX5_sets 5 = .ok (.aaload, 1) := dk_50 (dk_at dksX5_sets_0 5 rfl rfl)
theorem dX5_sets_6 : decode cX5_sets 6 = .ok (.iload_n 1, 1) := dk_27 (dk_at dksX5_sets_0 6 rfl rfl)
theorem dX5_sets_7 : decode cX5_sets 7 = .ok (.aload_n 0, 1) := dk_42 (dk_at dksX5_sets_0 7 rfl rfl)
theorem dX5_sets_8 : decode cX5_sets 8 = .ok (.getfield 25, 3) := dk_180 0 25 (dk_at dksX5_sets_0 8 rfl rfl)
theorem dX5_sets_11 : decode cX5_sets 11 = .ok (.iload_n 1, 1) := dk_27 (dk_at dksX5_sets_0 11 rfl rfl)
theorem dX5_sets_12 : decode cX5_sets 12 = .ok (.iaload, 1) := dk_46 (dk_at dksX5_sets_0 12 rfl rfl)
theorem dX5_sets_13 : decode cX5_sets 13 = .ok (.invokevirtual 69, 3) := dk_182 0 69 (dk_at dksX5_sets_0 13 rfl rfl)
theorem dX5_sets_16 : decode cX5_sets 16 = .ok (.aload_n 0, 1) := dk_42 (dk_at dksX5_sets_0 16 rfl rfl)
theorem dX5_sets_17 : decode cX5_sets 17 = .ok (.getfield 22, 3) := dk_180 0 22 (dk_at dksX5_sets_0 17 rfl rfl)
theorem dX5_sets_20 : decode cX5_sets 20 = .ok (.iload_n 1, 1) := dk_27 (dk_at dksX5_sets_0 20 rfl rfl)
theorem dX5_sets_21 : decode cX5_sets 21 = .ok (.dup2, 1) := dk_92 (dk_at dksX5_sets_0 21 rfl rfl)
theorem dX5_sets_22 : decode cX5_sets 22 = .ok (.iaload, 1) := dk_46 (dk_at dksX5_sets_0 22 rfl rfl)
theorem dX5_sets_23 : decode cX5_sets 23 = .ok (.iconst 1, 1) := dk_4 (dk_at dksX5_sets_0 23 rfl rfl)
theorem dX5_sets_24 : decode cX5_sets 24 = .ok (.isub, 1) := dk_100 (dk_at dksX5_sets_1 0 rfl rfl)
theorem dX5_sets_25 : decode cX5_sets 25 = .ok (.iastore, 1) := dk_79 (dk_at dksX5_sets_1 1 rfl rfl)
theorem dX5_sets_26 : decode cX5_sets 26 = .ok (.return_, 1) := dk_177 (dk_at dksX5_sets_1 2 rfl rfl)
abbrev cX5_lifts : ByteArray := prog_6_method_11_code
def yX5_lifts : MethodName := ⟨RX5, "lifts", "(II)I"⟩
def dkwX5_lifts_1 : List UInt8 := [42, 180, 0, 33, 28, 50, 29, 182, 0, 109, 42, 180, 0, 22, 27, 92, 46, 4, 96, 79, 21, 4, 172]
abbrev dktX5_lifts_1 : List UInt8 := dkwX5_lifts_1 ++ []
def dkwX5_lifts_0 : List UInt8 := [42, 180, 0, 33, 28, 50, 27, 182, 0, 103, 62, 42, 180, 0, 33, 28, 50, 180, 0, 106, 29, 46, 54, 4]
abbrev dktX5_lifts_0 : List UInt8 := dkwX5_lifts_0 ++ dktX5_lifts_1
theorem dksX5_lifts_0 : cX5_lifts.data.toList.drop 0 = dktX5_lifts_0 := by decide +kernel
theorem dksX5_lifts_1 : cX5_lifts.data.toList.drop 24 = dktX5_lifts_1 := dk_seg dksX5_lifts_0 24 rfl rfl
theorem dX5_lifts_0 : decode cX5_lifts 0 = .ok (.aload_n 0, 1) := dk_42 (dk_at dksX5_lifts_0 0 rfl rfl)
theorem dX5_lifts_1 : decode cX5_lifts 1 = .ok (.getfield 33, 3) := dk_180 0 33 (dk_at dksX5_lifts_0 1 rfl rfl)
theorem dX5_lifts_4 : decode cX5_lifts 4 = .ok (.iload_n 2, 1) := dk_28 (dk_at dksX5_lifts_0 4 rfl rfl)
theorem dX5_lifts_5 : decode cX5_lifts 5 = .ok (.aaload, 1) := dk_50 (dk_at dksX5_lifts_0 5 rfl rfl)
theorem dX5_lifts_6 : decode cX5_lifts 6 = .ok (.iload_n 1, 1) := dk_27 (dk_at dksX5_lifts_0 6 rfl rfl)
theorem dX5_lifts_7 : decode cX5_lifts 7 = .ok (.invokevirtual 103, 3) := dk_182 0 103 (dk_at dksX5_lifts_0 7 rfl rfl)
theorem dX5_lifts_10 : decode cX5_lifts 10 = .ok (.istore_n 3, 1) := dk_62 (dk_at dksX5_lifts_0 10 rfl rfl)
theorem dX5_lifts_11 : decode cX5_lifts 11 = .ok (.aload_n 0, 1) := dk_42 (dk_at dksX5_lifts_0 11 rfl rfl)
theorem dX5_lifts_12 : decode cX5_lifts 12 = .ok (.getfield 33, 3) := dk_180 0 33 (dk_at dksX5_lifts_0 12 rfl rfl)
theorem dX5_lifts_15 : decode cX5_lifts 15 = .ok (.iload_n 2, 1) := dk_28 (dk_at dksX5_lifts_0 15 rfl rfl)
theorem dX5_lifts_16 : decode cX5_lifts 16 = .ok (.aaload, 1) := dk_50 (dk_at dksX5_lifts_0 16 rfl rfl)
theorem dX5_lifts_17 : decode cX5_lifts 17 = .ok (.getfield 106, 3) := dk_180 0 106 (dk_at dksX5_lifts_0 17 rfl rfl)
theorem dX5_lifts_20 : decode cX5_lifts 20 = .ok (.iload_n 3, 1) := dk_29 (dk_at dksX5_lifts_0 20 rfl rfl)
theorem dX5_lifts_21 : decode cX5_lifts 21 = .ok (.iaload, 1) := dk_46 (dk_at dksX5_lifts_0 21 rfl rfl)
theorem dX5_lifts_22 : decode cX5_lifts 22 = .ok (.istore 4, 2) := dk_54 4 (dk_at dksX5_lifts_0 22 rfl rfl)
theorem dX5_lifts_24 : decode cX5_lifts 24 = .ok (.aload_n 0, 1) := dk_42 (dk_at dksX5_lifts_1 0 rfl rfl)
theorem dX5_lifts_25 : decode cX5_lifts 25 = .ok (.getfield 33, 3) := dk_180 0 33 (dk_at dksX5_lifts_1 1 rfl rfl)
theorem dX5_lifts_28 : decode cX5_lifts 28 = .ok (.iload_n 2, 1) := dk_28 (dk_at dksX5_lifts_1 4 rfl rfl)
theorem dX5_lifts_29 : decode cX5_lifts 29 = .ok (.aaload, 1) := dk_50 (dk_at dksX5_lifts_1 5 rfl rfl)
theorem dX5_lifts_30 : decode cX5_lifts 30 = .ok (.iload_n 3, 1) := dk_29 (dk_at dksX5_lifts_1 6 rfl rfl)
theorem dX5_lifts_31 : decode cX5_lifts 31 = .ok (.invokevirtual 109, 3) := dk_182 0 109 (dk_at dksX5_lifts_1 7 rfl rfl)
theorem dX5_lifts_34 : decode cX5_lifts 34 = .ok (.aload_n 0, 1) := dk_42 (dk_at dksX5_lifts_1 10 rfl rfl)
theorem dX5_lifts_35 : decode cX5_lifts 35 = .ok (.getfield 22, 3) := dk_180 0 22 (dk_at dksX5_lifts_1 11 rfl rfl)
theorem dX5_lifts_38 : decode cX5_lifts 38 = .ok (.iload_n 1, 1) := dk_27 (dk_at dksX5_lifts_1 14 rfl rfl)
theorem dX5_lifts_39 : decode cX5_lifts 39 = .ok (.dup2, 1) := dk_92 (dk_at dksX5_lifts_1 15 rfl rfl)
theorem dX5_lifts_40 : decode cX5_lifts 40 = .ok (.iaload, 1) := dk_46 (dk_at dksX5_lifts_1 16 rfl rfl)
theorem dX5_lifts_41 : decode cX5_lifts 41 = .ok (.iconst 1, 1) := dk_4 (dk_at dksX5_lifts_1 17 rfl rfl)
theorem dX5_lifts_42 : decode cX5_lifts 42 = .ok (.iadd, 1) := dk_96 (dk_at dksX5_lifts_1 18 rfl rfl)
theorem dX5_lifts_43 : decode cX5_lifts 43 = .ok (.iastore, 1) := dk_79 (dk_at dksX5_lifts_1 19 rfl rfl)
theorem dX5_lifts_44 : decode cX5_lifts 44 = .ok (.iload 4, 2) := dk_21 4 (dk_at dksX5_lifts_1 20 rfl rfl)
theorem dX5_lifts_46 : decode cX5_lifts 46 = .ok (.ireturn, 1) := dk_172 (dk_at dksX5_lifts_1 22 rfl rfl)
abbrev cX5_canGull : ByteArray := prog_6_method_12_code
def yX5_canGull : MethodName := ⟨RX5, "canGull", "(II)Z"⟩
def dkwX5_canGull_1 : List UInt8 := [180, 0, 33, 27, 50, 180, 0, 54, 158, 0, 7, 4, 167, 0, 4, 3, 172]
abbrev dktX5_canGull_1 : List UInt8 := dkwX5_canGull_1 ++ []
def dkwX5_canGull_0 : List UInt8 := [27, 28, 159, 0, 35, 42, 27, 182, 0, 96, 153, 0, 27, 42, 28, 182, 0, 96, 153, 0, 19, 42]
abbrev dktX5_canGull_0 : List UInt8 := dkwX5_canGull_0 ++ dktX5_canGull_1
theorem dksX5_canGull_0 : cX5_canGull.data.toList.drop 0 = dktX5_canGull_0 := by decide +kernel
theorem dksX5_canGull_1 : cX5_canGull.data.toList.drop 22 = dktX5_canGull_1 := dk_seg dksX5_canGull_0 22 rfl rfl
theorem dX5_canGull_0 : decode cX5_canGull 0 = .ok (.iload_n 1, 1) := dk_27 (dk_at dksX5_canGull_0 0 rfl rfl)
theorem dX5_canGull_1 : decode cX5_canGull 1 = .ok (.iload_n 2, 1) := dk_28 (dk_at dksX5_canGull_0 1 rfl rfl)
theorem dX5_canGull_2 : decode cX5_canGull 2 = .ok (.if_icmp .eq 35, 3) := dk_159 0 35 (dk_at dksX5_canGull_0 2 rfl rfl)
theorem dX5_canGull_5 : decode cX5_canGull 5 = .ok (.aload_n 0, 1) := dk_42 (dk_at dksX5_canGull_0 5 rfl rfl)
theorem dX5_canGull_6 : decode cX5_canGull 6 = .ok (.iload_n 1, 1) := dk_27 (dk_at dksX5_canGull_0 6 rfl rfl)
theorem dX5_canGull_7 : decode cX5_canGull 7 = .ok (.invokevirtual 96, 3) := dk_182 0 96 (dk_at dksX5_canGull_0 7 rfl rfl)
theorem dX5_canGull_10 : decode cX5_canGull 10 = .ok (.ifCond .eq 27, 3) := dk_153 0 27 (dk_at dksX5_canGull_0 10 rfl rfl)
theorem dX5_canGull_13 : decode cX5_canGull 13 = .ok (.aload_n 0, 1) := dk_42 (dk_at dksX5_canGull_0 13 rfl rfl)
theorem dX5_canGull_14 : decode cX5_canGull 14 = .ok (.iload_n 2, 1) := dk_28 (dk_at dksX5_canGull_0 14 rfl rfl)
theorem dX5_canGull_15 : decode cX5_canGull 15 = .ok (.invokevirtual 96, 3) := dk_182 0 96 (dk_at dksX5_canGull_0 15 rfl rfl)
theorem dX5_canGull_18 : decode cX5_canGull 18 = .ok (.ifCond .eq 19, 3) := dk_153 0 19 (dk_at dksX5_canGull_0 18 rfl rfl)
theorem dX5_canGull_21 : decode cX5_canGull 21 = .ok (.aload_n 0, 1) := dk_42 (dk_at dksX5_canGull_0 21 rfl rfl)
theorem dX5_canGull_22 : decode cX5_canGull 22 = .ok (.getfield 33, 3) := dk_180 0 33 (dk_at dksX5_canGull_1 0 rfl rfl)
theorem dX5_canGull_25 : decode cX5_canGull 25 = .ok (.iload_n 1, 1) := dk_27 (dk_at dksX5_canGull_1 3 rfl rfl)
theorem dX5_canGull_26 : decode cX5_canGull 26 = .ok (.aaload, 1) := dk_50 (dk_at dksX5_canGull_1 4 rfl rfl)
theorem dX5_canGull_27 : decode cX5_canGull 27 = .ok (.getfield 54, 3) := dk_180 0 54 (dk_at dksX5_canGull_1 5 rfl rfl)
theorem dX5_canGull_30 : decode cX5_canGull 30 = .ok (.ifCond .le 7, 3) := dk_158 0 7 (dk_at dksX5_canGull_1 8 rfl rfl)
theorem dX5_canGull_33 : decode cX5_canGull 33 = .ok (.iconst 1, 1) := dk_4 (dk_at dksX5_canGull_1 11 rfl rfl)
theorem dX5_canGull_34 : decode cX5_canGull 34 = .ok (.goto 4, 3) := dk_167 0 4 (dk_at dksX5_canGull_1 12 rfl rfl)
theorem dX5_canGull_37 : decode cX5_canGull 37 = .ok (.iconst 0, 1) := dk_3 (dk_at dksX5_canGull_1 15 rfl rfl)
theorem dX5_canGull_38 : decode cX5_canGull 38 = .ok (.ireturn, 1) := dk_172 (dk_at dksX5_canGull_1 16 rfl rfl)
abbrev cX5_gull : ByteArray := prog_6_method_13_code
def yX5_gull : MethodName := ⟨RX5, "gull", "(II)I"⟩
def dkwX5_gull_2 : List UInt8 := [100, 182, 0, 109, 21, 4, 172]
abbrev dktX5_gull_2 : List UInt8 := dkwX5_gull_2 ++ []
def dkwX5_gull_1 : List UInt8 := [28, 50, 21, 4, 45, 180, 0, 106, 45, 180, 0, 54, 4, 100, 46, 182, 0, 69, 45, 45, 180, 0, 54, 4]
abbrev dktX5_gull_1 : List UInt8 := dkwX5_gull_1 ++ dktX5_gull_2
def dkwX5_gull_0 : List UInt8 := [42, 180, 0, 33, 27, 50, 78, 45, 180, 0, 113, 45, 180, 0, 54, 4, 100, 46, 54, 4, 42, 180, 0, 33]
abbrev dktX5_gull_0 : List UInt8 := dkwX5_gull_0 ++ dktX5_gull_1
theorem dksX5_gull_0 : cX5_gull.data.toList.drop 0 = dktX5_gull_0 := by decide +kernel
theorem dksX5_gull_1 : cX5_gull.data.toList.drop 24 = dktX5_gull_1 := dk_seg dksX5_gull_0 24 rfl rfl
theorem dksX5_gull_2 : cX5_gull.data.toList.drop 48 = dktX5_gull_2 := dk_seg dksX5_gull_1 24 rfl rfl
theorem dX5_gull_0 : decode cX5_gull 0 = .ok (.aload_n 0, 1) := dk_42 (dk_at dksX5_gull_0 0 rfl rfl)
theorem dX5_gull_1 : decode cX5_gull 1 = .ok (.getfield 33, 3) := dk_180 0 33 (dk_at dksX5_gull_0 1 rfl rfl)
theorem dX5_gull_4 : decode cX5_gull 4 = .ok (.iload_n 1, 1) := dk_27 (dk_at dksX5_gull_0 4 rfl rfl)
theorem dX5_gull_5 : decode cX5_gull 5 = .ok (.aaload, 1) := dk_50 (dk_at dksX5_gull_0 5 rfl rfl)
theorem dX5_gull_6 : decode cX5_gull 6 = .ok (.astore_n 3, 1) := dk_78 (dk_at dksX5_gull_0 6 rfl rfl)
theorem dX5_gull_7 : decode cX5_gull 7 = .ok (.aload_n 3, 1) := dk_45 (dk_at dksX5_gull_0 7 rfl rfl)
theorem dX5_gull_8 : decode cX5_gull 8 = .ok (.getfield 113, 3) := dk_180 0 113 (dk_at dksX5_gull_0 8 rfl rfl)
theorem dX5_gull_11 : decode cX5_gull 11 = .ok (.aload_n 3, 1) := dk_45 (dk_at dksX5_gull_0 11 rfl rfl)
theorem dX5_gull_12 : decode cX5_gull 12 = .ok (.getfield 54, 3) := dk_180 0 54 (dk_at dksX5_gull_0 12 rfl rfl)
theorem dX5_gull_15 : decode cX5_gull 15 = .ok (.iconst 1, 1) := dk_4 (dk_at dksX5_gull_0 15 rfl rfl)
theorem dX5_gull_16 : decode cX5_gull 16 = .ok (.isub, 1) := dk_100 (dk_at dksX5_gull_0 16 rfl rfl)
theorem dX5_gull_17 : decode cX5_gull 17 = .ok (.iaload, 1) := dk_46 (dk_at dksX5_gull_0 17 rfl rfl)
theorem dX5_gull_18 : decode cX5_gull 18 = .ok (.istore 4, 2) := dk_54 4 (dk_at dksX5_gull_0 18 rfl rfl)
theorem dX5_gull_20 : decode cX5_gull 20 = .ok (.aload_n 0, 1) := dk_42 (dk_at dksX5_gull_0 20 rfl rfl)
theorem dX5_gull_21 : decode cX5_gull 21 = .ok (.getfield 33, 3) := dk_180 0 33 (dk_at dksX5_gull_0 21 rfl rfl)
theorem dX5_gull_24 : decode cX5_gull 24 = .ok (.iload_n 2, 1) := dk_28 (dk_at dksX5_gull_1 0 rfl rfl)
theorem dX5_gull_25 : decode cX5_gull 25 = .ok (.aaload, 1) := dk_50 (dk_at dksX5_gull_1 1 rfl rfl)
theorem dX5_gull_26 : decode cX5_gull 26 = .ok (.iload 4, 2) := dk_21 4 (dk_at dksX5_gull_1 2 rfl rfl)
theorem dX5_gull_28 : decode cX5_gull 28 = .ok (.aload_n 3, 1) := dk_45 (dk_at dksX5_gull_1 4 rfl rfl)
theorem dX5_gull_29 : decode cX5_gull 29 = .ok (.getfield 106, 3) := dk_180 0 106 (dk_at dksX5_gull_1 5 rfl rfl)
theorem dX5_gull_32 : decode cX5_gull 32 = .ok (.aload_n 3, 1) := dk_45 (dk_at dksX5_gull_1 8 rfl rfl)
theorem dX5_gull_33 : decode cX5_gull 33 = .ok (.getfield 54, 3) := dk_180 0 54 (dk_at dksX5_gull_1 9 rfl rfl)
theorem dX5_gull_36 : decode cX5_gull 36 = .ok (.iconst 1, 1) := dk_4 (dk_at dksX5_gull_1 12 rfl rfl)
theorem dX5_gull_37 : decode cX5_gull 37 = .ok (.isub, 1) := dk_100 (dk_at dksX5_gull_1 13 rfl rfl)
theorem dX5_gull_38 : decode cX5_gull 38 = .ok (.iaload, 1) := dk_46 (dk_at dksX5_gull_1 14 rfl rfl)
theorem dX5_gull_39 : decode cX5_gull 39 = .ok (.invokevirtual 69, 3) := dk_182 0 69 (dk_at dksX5_gull_1 15 rfl rfl)
theorem dX5_gull_42 : decode cX5_gull 42 = .ok (.aload_n 3, 1) := dk_45 (dk_at dksX5_gull_1 18 rfl rfl)
theorem dX5_gull_43 : decode cX5_gull 43 = .ok (.aload_n 3, 1) := dk_45 (dk_at dksX5_gull_1 19 rfl rfl)
theorem dX5_gull_44 : decode cX5_gull 44 = .ok (.getfield 54, 3) := dk_180 0 54 (dk_at dksX5_gull_1 20 rfl rfl)
theorem dX5_gull_47 : decode cX5_gull 47 = .ok (.iconst 1, 1) := dk_4 (dk_at dksX5_gull_1 23 rfl rfl)
theorem dX5_gull_48 : decode cX5_gull 48 = .ok (.isub, 1) := dk_100 (dk_at dksX5_gull_2 0 rfl rfl)
theorem dX5_gull_49 : decode cX5_gull 49 = .ok (.invokevirtual 109, 3) := dk_182 0 109 (dk_at dksX5_gull_2 1 rfl rfl)
theorem dX5_gull_52 : decode cX5_gull 52 = .ok (.iload 4, 2) := dk_21 4 (dk_at dksX5_gull_2 4 rfl rfl)
theorem dX5_gull_54 : decode cX5_gull 54 = .ok (.ireturn, 1) := dk_172 (dk_at dksX5_gull_2 6 rfl rfl)
abbrev cX5_wave : ByteArray := prog_6_method_14_code
def yX5_wave : MethodName := ⟨RX5, "wave", "(I)I"⟩
def dkwX5_wave_2 : List UInt8 := [50, 3, 181, 0, 54, 132, 3, 1, 167, 255, 204, 28, 172]
abbrev dktX5_wave_2 : List UInt8 := dkwX5_wave_2 ++ []
def dkwX5_wave_1 : List UInt8 := [27, 161, 0, 6, 167, 0, 25, 28, 42, 180, 0, 33, 29, 50, 180, 0, 54, 96, 61, 42, 180, 0, 33, 29]
abbrev dktX5_wave_1 : List UInt8 := dkwX5_wave_1 ++ dktX5_wave_2
def dkwX5_wave_0 : List UInt8 := [3, 61, 3, 62, 29, 42, 180, 0, 12, 180, 0, 46, 162, 0, 47, 42, 180, 0, 12, 180, 0, 100, 29, 46]
abbrev dktX5_wave_0 : List UInt8 := dkwX5_wave_0 ++ dktX5_wave_1
theorem dksX5_wave_0 : cX5_wave.data.toList.drop 0 = dktX5_wave_0 := by decide +kernel
theorem dksX5_wave_1 : cX5_wave.data.toList.drop 24 = dktX5_wave_1 := dk_seg dksX5_wave_0 24 rfl rfl
theorem dksX5_wave_2 : cX5_wave.data.toList.drop 48 = dktX5_wave_2 := dk_seg dksX5_wave_1 24 rfl rfl
theorem dX5_wave_0 : decode cX5_wave 0 = .ok (.iconst 0, 1) := dk_3 (dk_at dksX5_wave_0 0 rfl rfl)
theorem dX5_wave_1 : decode cX5_wave 1 = .ok (.istore_n 2, 1) := dk_61 (dk_at dksX5_wave_0 1 rfl rfl)
theorem dX5_wave_2 : decode cX5_wave 2 = .ok (.iconst 0, 1) := dk_3 (dk_at dksX5_wave_0 2 rfl rfl)
theorem dX5_wave_3 : decode cX5_wave 3 = .ok (.istore_n 3, 1) := dk_62 (dk_at dksX5_wave_0 3 rfl rfl)
theorem dX5_wave_4 : decode cX5_wave 4 = .ok (.iload_n 3, 1) := dk_29 (dk_at dksX5_wave_0 4 rfl rfl)
theorem dX5_wave_5 : decode cX5_wave 5 = .ok (.aload_n 0, 1) := dk_42 (dk_at dksX5_wave_0 5 rfl rfl)
theorem dX5_wave_6 : decode cX5_wave 6 = .ok (.getfield 12, 3) := dk_180 0 12 (dk_at dksX5_wave_0 6 rfl rfl)
theorem dX5_wave_9 : decode cX5_wave 9 = .ok (.getfield 46, 3) := dk_180 0 46 (dk_at dksX5_wave_0 9 rfl rfl)
theorem dX5_wave_12 : decode cX5_wave 12 = .ok (.if_icmp .ge 47, 3) := dk_162 0 47 (dk_at dksX5_wave_0 12 rfl rfl)
theorem dX5_wave_15 : decode cX5_wave 15 = .ok (.aload_n 0, 1) := dk_42 (dk_at dksX5_wave_0 15 rfl rfl)
theorem dX5_wave_16 : decode cX5_wave 16 = .ok (.getfield 12, 3) := dk_180 0 12 (dk_at dksX5_wave_0 16 rfl rfl)
theorem dX5_wave_19 : decode cX5_wave 19 = .ok (.getfield 100, 3) := dk_180 0 100 (dk_at dksX5_wave_0 19 rfl rfl)
theorem dX5_wave_22 : decode cX5_wave 22 = .ok (.iload_n 3, 1) := dk_29 (dk_at dksX5_wave_0 22 rfl rfl)
theorem dX5_wave_23 : decode cX5_wave 23 = .ok (.iaload, 1) := dk_46 (dk_at dksX5_wave_0 23 rfl rfl)
theorem dX5_wave_24 : decode cX5_wave 24 = .ok (.iload_n 1, 1) := dk_27 (dk_at dksX5_wave_1 0 rfl rfl)
theorem dX5_wave_25 : decode cX5_wave 25 = .ok (.if_icmp .lt 6, 3) := dk_161 0 6 (dk_at dksX5_wave_1 1 rfl rfl)
theorem dX5_wave_28 : decode cX5_wave 28 = .ok (.goto 25, 3) := dk_167 0 25 (dk_at dksX5_wave_1 4 rfl rfl)
theorem dX5_wave_31 : decode cX5_wave 31 = .ok (.iload_n 2, 1) := dk_28 (dk_at dksX5_wave_1 7 rfl rfl)
theorem dX5_wave_32 : decode cX5_wave 32 = .ok (.aload_n 0, 1) := dk_42 (dk_at dksX5_wave_1 8 rfl rfl)
theorem dX5_wave_33 : decode cX5_wave 33 = .ok (.getfield 33, 3) := dk_180 0 33 (dk_at dksX5_wave_1 9 rfl rfl)
theorem dX5_wave_36 : decode cX5_wave 36 = .ok (.iload_n 3, 1) := dk_29 (dk_at dksX5_wave_1 12 rfl rfl)
theorem dX5_wave_37 : decode cX5_wave 37 = .ok (.aaload, 1) := dk_50 (dk_at dksX5_wave_1 13 rfl rfl)
theorem dX5_wave_38 : decode cX5_wave 38 = .ok (.getfield 54, 3) := dk_180 0 54 (dk_at dksX5_wave_1 14 rfl rfl)
theorem dX5_wave_41 : decode cX5_wave 41 = .ok (.iadd, 1) := dk_96 (dk_at dksX5_wave_1 17 rfl rfl)
theorem dX5_wave_42 : decode cX5_wave 42 = .ok (.istore_n 2, 1) := dk_61 (dk_at dksX5_wave_1 18 rfl rfl)
theorem dX5_wave_43 : decode cX5_wave 43 = .ok (.aload_n 0, 1) := dk_42 (dk_at dksX5_wave_1 19 rfl rfl)
theorem dX5_wave_44 : decode cX5_wave 44 = .ok (.getfield 33, 3) := dk_180 0 33 (dk_at dksX5_wave_1 20 rfl rfl)
theorem dX5_wave_47 : decode cX5_wave 47 = .ok (.iload_n 3, 1) := dk_29 (dk_at dksX5_wave_1 23 rfl rfl)
theorem dX5_wave_48 : decode cX5_wave 48 = .ok (.aaload, 1) := dk_50 (dk_at dksX5_wave_2 0 rfl rfl)
theorem dX5_wave_49 : decode cX5_wave 49 = .ok (.iconst 0, 1) := dk_3 (dk_at dksX5_wave_2 1 rfl rfl)
theorem dX5_wave_50 : decode cX5_wave 50 = .ok (.putfield 54, 3) := dk_181 0 54 (dk_at dksX5_wave_2 2 rfl rfl)
theorem dX5_wave_53 : decode cX5_wave 53 = .ok (.iinc 3 1, 3) := dk_132 3 1 (dk_at dksX5_wave_2 5 rfl rfl)
theorem dX5_wave_56 : decode cX5_wave 56 = .ok (.goto (-52), 3) := dk_167 255 204 (dk_at dksX5_wave_2 8 rfl rfl)
theorem dX5_wave_59 : decode cX5_wave 59 = .ok (.iload_n 2, 1) := dk_28 (dk_at dksX5_wave_2 11 rfl rfl)
theorem dX5_wave_60 : decode cX5_wave 60 = .ok (.ireturn, 1) := dk_172 (dk_at dksX5_wave_2 12 rfl rfl)
abbrev cX5_tide : ByteArray := prog_6_method_17_code
def yX5_tide : MethodName := ⟨RX5, "tide", "()V"⟩
def dkwX5_tide_6 : List UInt8 := [181, 0, 43, 42, 4, 42, 180, 0, 37, 42, 180, 0, 12, 180, 0, 143, 100, 184, 0, 146, 181, 0, 37, 177]
abbrev dktX5_tide_6 : List UInt8 := dkwX5_tide_6 ++ []
def dkwX5_tide_5 : List UInt8 := [180, 0, 25, 27, 3, 79, 132, 1, 1, 167, 255, 235, 42, 3, 181, 0, 49, 42, 89, 180, 0, 43, 4, 96]
abbrev dktX5_tide_5 : List UInt8 := dkwX5_tide_5 ++ dktX5_tide_6
def dkwX5_tide_4 : List UInt8 := [181, 0, 54, 132, 1, 1, 167, 255, 191, 3, 60, 27, 42, 180, 0, 12, 180, 0, 137, 162, 0, 16, 42]
abbrev dktX5_tide_4 : List UInt8 := dkwX5_tide_4 ++ dktX5_tide_5
def dkwX5_tide_3 : List UInt8 := [50, 180, 0, 113, 28, 46, 92, 46, 4, 96, 79, 132, 2, 1, 167, 255, 220, 42, 180, 0, 33, 27, 50, 3]
abbrev dktX5_tide_3 : List UInt8 := dkwX5_tide_3 ++ dktX5_tide_4
def dkwX5_tide_2 : List UInt8 := [3, 61, 28, 42, 180, 0, 33, 27, 50, 180, 0, 54, 162, 0, 29, 42, 180, 0, 22, 42, 180, 0, 33, 27]
abbrev dktX5_tide_2 : List UInt8 := dkwX5_tide_2 ++ dktX5_tide_3
def dkwX5_tide_1 : List UInt8 := [182, 0, 140, 96, 79, 132, 1, 1, 167, 255, 228, 3, 60, 27, 42, 180, 0, 12, 180, 0, 46, 162, 0, 60]
abbrev dktX5_tide_1 : List UInt8 := dkwX5_tide_1 ++ dktX5_tide_2
def dkwX5_tide_0 : List UInt8 := [3, 60, 27, 42, 180, 0, 12, 180, 0, 137, 162, 0, 23, 42, 180, 0, 28, 27, 92, 46, 42, 27]
abbrev dktX5_tide_0 : List UInt8 := dkwX5_tide_0 ++ dktX5_tide_1
theorem dksX5_tide_0 : cX5_tide.data.toList.drop 0 = dktX5_tide_0 := by decide +kernel
theorem dksX5_tide_1 : cX5_tide.data.toList.drop 22 = dktX5_tide_1 := dk_seg dksX5_tide_0 22 rfl rfl
theorem dksX5_tide_2 : cX5_tide.data.toList.drop 46 = dktX5_tide_2 := dk_seg dksX5_tide_1 24 rfl rfl
theorem dksX5_tide_3 : cX5_tide.data.toList.drop 70 = dktX5_tide_3 := dk_seg dksX5_tide_2 24 rfl rfl
theorem dksX5_tide_4 : cX5_tide.data.toList.drop 94 = dktX5_tide_4 := dk_seg dksX5_tide_3 24 rfl rfl
theorem dksX5_tide_5 : cX5_tide.data.toList.drop 117 = dktX5_tide_5 := dk_seg dksX5_tide_4 23 rfl rfl
theorem dksX5_tide_6 : cX5_tide.data.toList.drop 141 = dktX5_tide_6 := dk_seg dksX5_tide_5 24 rfl rfl
theorem dX5_tide_0 : decode cX5_tide 0 = .ok (.iconst 0, 1) := dk_3 (dk_at dksX5_tide_0 0 rfl rfl)
theorem dX5_tide_1 : decode cX5_tide 1 = .ok (.istore_n 1, 1) := dk_60 (dk_at dksX5_tide_0 1 rfl rfl)
theorem dX5_tide_2 : decode cX5_tide 2 = .ok (.iload_n 1, 1) := dk_27 (dk_at dksX5_tide_0 2 rfl rfl)
theorem dX5_tide_3 : decode cX5_tide 3 = .ok (.aload_n 0, 1) := dk_42 (dk_at dksX5_tide_0 3 rfl rfl)
theorem dX5_tide_4 : decode cX5_tide 4 = .ok (.getfield 12, 3) := dk_180 0 12 (dk_at dksX5_tide_0 4 rfl rfl)
theorem dX5_tide_7 : decode cX5_tide 7 = .ok (.getfield 137, 3) := dk_180 0 137 (dk_at dksX5_tide_0 7 rfl rfl)
theorem dX5_tide_10 : decode cX5_tide 10 = .ok (.if_icmp .ge 23, 3) := dk_162 0 23 (dk_at dksX5_tide_0 10 rfl rfl)
theorem dX5_tide_13 : decode cX5_tide 13 = .ok (.aload_n 0, 1) := dk_42 (dk_at dksX5_tide_0 13 rfl rfl)
theorem dX5_tide_14 : decode cX5_tide 14 = .ok (.getfield 28, 3) := dk_180 0 28 (dk_at dksX5_tide_0 14 rfl rfl)
theorem dX5_tide_17 : decode cX5_tide 17 = .ok (.iload_n 1, 1) := dk_27 (dk_at dksX5_tide_0 17 rfl rfl)
theorem dX5_tide_18 : decode cX5_tide 18 = .ok (.dup2, 1) := dk_92 (dk_at dksX5_tide_0 18 rfl rfl)
theorem dX5_tide_19 : decode cX5_tide 19 = .ok (.iaload, 1) := dk_46 (dk_at dksX5_tide_0 19 rfl rfl)
theorem dX5_tide_20 : decode cX5_tide 20 = .ok (.aload_n 0, 1) := dk_42 (dk_at dksX5_tide_0 20 rfl rfl)
theorem dX5_tide_21 : decode cX5_tide 21 = .ok (.iload_n 1, 1) := dk_27 (dk_at dksX5_tide_0 21 rfl rfl)
theorem dX5_tide_22 : decode cX5_tide 22 = .ok (.invokevirtual 140, 3) := dk_182 0 140 (dk_at dksX5_tide_1 0 rfl rfl)
theorem dX5_tide_25 : decode cX5_tide 25 = .ok (.iadd, 1) := dk_96 (dk_at dksX5_tide_1 3 rfl rfl)
theorem dX5_tide_26 : decode cX5_tide 26 = .ok (.iastore, 1) := dk_79 (dk_at dksX5_tide_1 4 rfl rfl)
theorem dX5_tide_27 : decode cX5_tide 27 = .ok (.iinc 1 1, 3) := dk_132 1 1 (dk_at dksX5_tide_1 5 rfl rfl)
theorem dX5_tide_30 : decode cX5_tide 30 = .ok (.goto (-28), 3) := dk_167 255 228 (dk_at dksX5_tide_1 8 rfl rfl)
theorem dX5_tide_33 : decode cX5_tide 33 = .ok (.iconst 0, 1) := dk_3 (dk_at dksX5_tide_1 11 rfl rfl)
theorem dX5_tide_34 : decode cX5_tide 34 = .ok (.istore_n 1, 1) := dk_60 (dk_at dksX5_tide_1 12 rfl rfl)
theorem dX5_tide_35 : decode cX5_tide 35 = .ok (.iload_n 1, 1) := dk_27 (dk_at dksX5_tide_1 13 rfl rfl)
theorem dX5_tide_36 : decode cX5_tide 36 = .ok (.aload_n 0, 1) := dk_42 (dk_at dksX5_tide_1 14 rfl rfl)
theorem dX5_tide_37 : decode cX5_tide 37 = .ok (.getfield 12, 3) := dk_180 0 12 (dk_at dksX5_tide_1 15 rfl rfl)
theorem dX5_tide_40 : decode cX5_tide 40 = .ok (.getfield 46, 3) := dk_180 0 46 (dk_at dksX5_tide_1 18 rfl rfl)
theorem dX5_tide_43 : decode cX5_tide 43 = .ok (.if_icmp .ge 60, 3) := dk_162 0 60 (dk_at dksX5_tide_1 21 rfl rfl)
theorem dX5_tide_46 : decode cX5_tide 46 = .ok (.iconst 0, 1) := dk_3 (dk_at dksX5_tide_2 0 rfl rfl)
theorem dX5_tide_47 : decode cX5_tide 47 = .ok (.istore_n 2, 1) := dk_61 (dk_at dksX5_tide_2 1 rfl rfl)
theorem dX5_tide_48 : decode cX5_tide 48 = .ok (.iload_n 2, 1) := dk_28 (dk_at dksX5_tide_2 2 rfl rfl)
theorem dX5_tide_49 : decode cX5_tide 49 = .ok (.aload_n 0, 1) := dk_42 (dk_at dksX5_tide_2 3 rfl rfl)
theorem dX5_tide_50 : decode cX5_tide 50 = .ok (.getfield 33, 3) := dk_180 0 33 (dk_at dksX5_tide_2 4 rfl rfl)
theorem dX5_tide_53 : decode cX5_tide 53 = .ok (.iload_n 1, 1) := dk_27 (dk_at dksX5_tide_2 7 rfl rfl)
theorem dX5_tide_54 : decode cX5_tide 54 = .ok (.aaload, 1) := dk_50 (dk_at dksX5_tide_2 8 rfl rfl)
theorem dX5_tide_55 : decode cX5_tide 55 = .ok (.getfield 54, 3) := dk_180 0 54 (dk_at dksX5_tide_2 9 rfl rfl)
theorem dX5_tide_58 : decode cX5_tide 58 = .ok (.if_icmp .ge 29, 3) := dk_162 0 29 (dk_at dksX5_tide_2 12 rfl rfl)
theorem dX5_tide_61 : decode cX5_tide 61 = .ok (.aload_n 0, 1) := dk_42 (dk_at dksX5_tide_2 15 rfl rfl)
theorem dX5_tide_62 : decode cX5_tide 62 = .ok (.getfield 22, 3) := dk_180 0 22 (dk_at dksX5_tide_2 16 rfl rfl)
theorem dX5_tide_65 : decode cX5_tide 65 = .ok (.aload_n 0, 1) := dk_42 (dk_at dksX5_tide_2 19 rfl rfl)
theorem dX5_tide_66 : decode cX5_tide 66 = .ok (.getfield 33, 3) := dk_180 0 33 (dk_at dksX5_tide_2 20 rfl rfl)
theorem dX5_tide_69 : decode cX5_tide 69 = .ok (.iload_n 1, 1) := dk_27 (dk_at dksX5_tide_2 23 rfl rfl)
theorem dX5_tide_70 : decode cX5_tide 70 = .ok (.aaload, 1) := dk_50 (dk_at dksX5_tide_3 0 rfl rfl)
theorem dX5_tide_71 : decode cX5_tide 71 = .ok (.getfield 113, 3) := dk_180 0 113 (dk_at dksX5_tide_3 1 rfl rfl)
theorem dX5_tide_74 : decode cX5_tide 74 = .ok (.iload_n 2, 1) := dk_28 (dk_at dksX5_tide_3 4 rfl rfl)
theorem dX5_tide_75 : decode cX5_tide 75 = .ok (.iaload, 1) := dk_46 (dk_at dksX5_tide_3 5 rfl rfl)
theorem dX5_tide_76 : decode cX5_tide 76 = .ok (.dup2, 1) := dk_92 (dk_at dksX5_tide_3 6 rfl rfl)
theorem dX5_tide_77 : decode cX5_tide 77 = .ok (.iaload, 1) := dk_46 (dk_at dksX5_tide_3 7 rfl rfl)
theorem dX5_tide_78 : decode cX5_tide 78 = .ok (.iconst 1, 1) := dk_4 (dk_at dksX5_tide_3 8 rfl rfl)
theorem dX5_tide_79 : decode cX5_tide 79 = .ok (.iadd, 1) := dk_96 (dk_at dksX5_tide_3 9 rfl rfl)
theorem dX5_tide_80 : decode cX5_tide 80 = .ok (.iastore, 1) := dk_79 (dk_at dksX5_tide_3 10 rfl rfl)
theorem dX5_tide_81 : decode cX5_tide 81 = .ok (.iinc 2 1, 3) := dk_132 2 1 (dk_at dksX5_tide_3 11 rfl rfl)
theorem dX5_tide_84 : decode cX5_tide 84 = .ok (.goto (-36), 3) := dk_167 255 220 (dk_at dksX5_tide_3 14 rfl rfl)
theorem dX5_tide_87 : decode cX5_tide 87 = .ok (.aload_n 0, 1) := dk_42 (dk_at dksX5_tide_3 17 rfl rfl)
theorem dX5_tide_88 : decode cX5_tide 88 = .ok (.getfield 33, 3) := dk_180 0 33 (dk_at dksX5_tide_3 18 rfl rfl)
theorem dX5_tide_91 : decode cX5_tide 91 = .ok (.iload_n 1, 1) := dk_27 (dk_at dksX5_tide_3 21 rfl rfl)
theorem dX5_tide_92 : decode cX5_tide 92 = .ok (.aaload, 1) := dk_50 (dk_at dksX5_tide_3 22 rfl rfl)
theorem dX5_tide_93 : decode cX5_tide 93 = .ok (.iconst 0, 1) := dk_3 (dk_at dksX5_tide_3 23 rfl rfl)
theorem dX5_tide_94 : decode cX5_tide 94 = .ok (.putfield 54, 3) := dk_181 0 54 (dk_at dksX5_tide_4 0 rfl rfl)
theorem dX5_tide_97 : decode cX5_tide 97 = .ok (.iinc 1 1, 3) := dk_132 1 1 (dk_at dksX5_tide_4 3 rfl rfl)
theorem dX5_tide_100 : decode cX5_tide 100 = .ok (.goto (-65), 3) := dk_167 255 191 (dk_at dksX5_tide_4 6 rfl rfl)
theorem dX5_tide_103 : decode cX5_tide 103 = .ok (.iconst 0, 1) := dk_3 (dk_at dksX5_tide_4 9 rfl rfl)
theorem dX5_tide_104 : decode cX5_tide 104 = .ok (.istore_n 1, 1) := dk_60 (dk_at dksX5_tide_4 10 rfl rfl)
theorem dX5_tide_105 : decode cX5_tide 105 = .ok (.iload_n 1, 1) := dk_27 (dk_at dksX5_tide_4 11 rfl rfl)
theorem dX5_tide_106 : decode cX5_tide 106 = .ok (.aload_n 0, 1) := dk_42 (dk_at dksX5_tide_4 12 rfl rfl)
theorem dX5_tide_107 : decode cX5_tide 107 = .ok (.getfield 12, 3) := dk_180 0 12 (dk_at dksX5_tide_4 13 rfl rfl)
theorem dX5_tide_110 : decode cX5_tide 110 = .ok (.getfield 137, 3) := dk_180 0 137 (dk_at dksX5_tide_4 16 rfl rfl)
theorem dX5_tide_113 : decode cX5_tide 113 = .ok (.if_icmp .ge 16, 3) := dk_162 0 16 (dk_at dksX5_tide_4 19 rfl rfl)
theorem dX5_tide_116 : decode cX5_tide 116 = .ok (.aload_n 0, 1) := dk_42 (dk_at dksX5_tide_4 22 rfl rfl)
theorem dX5_tide_117 : decode cX5_tide 117 = .ok (.getfield 25, 3) := dk_180 0 25 (dk_at dksX5_tide_5 0 rfl rfl)
theorem dX5_tide_120 : decode cX5_tide 120 = .ok (.iload_n 1, 1) := dk_27 (dk_at dksX5_tide_5 3 rfl rfl)
theorem dX5_tide_121 : decode cX5_tide 121 = .ok (.iconst 0, 1) := dk_3 (dk_at dksX5_tide_5 4 rfl rfl)
theorem dX5_tide_122 : decode cX5_tide 122 = .ok (.iastore, 1) := dk_79 (dk_at dksX5_tide_5 5 rfl rfl)
theorem dX5_tide_123 : decode cX5_tide 123 = .ok (.iinc 1 1, 3) := dk_132 1 1 (dk_at dksX5_tide_5 6 rfl rfl)
theorem dX5_tide_126 : decode cX5_tide 126 = .ok (.goto (-21), 3) := dk_167 255 235 (dk_at dksX5_tide_5 9 rfl rfl)
theorem dX5_tide_129 : decode cX5_tide 129 = .ok (.aload_n 0, 1) := dk_42 (dk_at dksX5_tide_5 12 rfl rfl)
theorem dX5_tide_130 : decode cX5_tide 130 = .ok (.iconst 0, 1) := dk_3 (dk_at dksX5_tide_5 13 rfl rfl)
theorem dX5_tide_131 : decode cX5_tide 131 = .ok (.putfield 49, 3) := dk_181 0 49 (dk_at dksX5_tide_5 14 rfl rfl)
theorem dX5_tide_134 : decode cX5_tide 134 = .ok (.aload_n 0, 1) := dk_42 (dk_at dksX5_tide_5 17 rfl rfl)
theorem dX5_tide_135 : decode cX5_tide 135 = .ok (.dup, 1) := dk_89 (dk_at dksX5_tide_5 18 rfl rfl)
theorem dX5_tide_136 : decode cX5_tide 136 = .ok (.getfield 43, 3) := dk_180 0 43 (dk_at dksX5_tide_5 19 rfl rfl)
theorem dX5_tide_139 : decode cX5_tide 139 = .ok (.iconst 1, 1) := dk_4 (dk_at dksX5_tide_5 22 rfl rfl)
theorem dX5_tide_140 : decode cX5_tide 140 = .ok (.iadd, 1) := dk_96 (dk_at dksX5_tide_5 23 rfl rfl)
theorem dX5_tide_141 : decode cX5_tide 141 = .ok (.putfield 43, 3) := dk_181 0 43 (dk_at dksX5_tide_6 0 rfl rfl)
theorem dX5_tide_144 : decode cX5_tide 144 = .ok (.aload_n 0, 1) := dk_42 (dk_at dksX5_tide_6 3 rfl rfl)
theorem dX5_tide_145 : decode cX5_tide 145 = .ok (.iconst 1, 1) := dk_4 (dk_at dksX5_tide_6 4 rfl rfl)
theorem dX5_tide_146 : decode cX5_tide 146 = .ok (.aload_n 0, 1) := dk_42 (dk_at dksX5_tide_6 5 rfl rfl)
theorem dX5_tide_147 : decode cX5_tide 147 = .ok (.getfield 37, 3) := dk_180 0 37 (dk_at dksX5_tide_6 6 rfl rfl)
theorem dX5_tide_150 : decode cX5_tide 150 = .ok (.aload_n 0, 1) := dk_42 (dk_at dksX5_tide_6 9 rfl rfl)
theorem dX5_tide_151 : decode cX5_tide 151 = .ok (.getfield 12, 3) := dk_180 0 12 (dk_at dksX5_tide_6 10 rfl rfl)
theorem dX5_tide_154 : decode cX5_tide 154 = .ok (.getfield 143, 3) := dk_180 0 143 (dk_at dksX5_tide_6 13 rfl rfl)
theorem dX5_tide_157 : decode cX5_tide 157 = .ok (.isub, 1) := dk_100 (dk_at dksX5_tide_6 16 rfl rfl)
theorem dX5_tide_158 : decode cX5_tide 158 = .ok (.invokestatic 146, 3) := dk_184 0 146 (dk_at dksX5_tide_6 17 rfl rfl)
theorem dX5_tide_161 : decode cX5_tide 161 = .ok (.putfield 37, 3) := dk_181 0 37 (dk_at dksX5_tide_6 20 rfl rfl)
theorem dX5_tide_164 : decode cX5_tide 164 = .ok (.return_, 1) := dk_177 (dk_at dksX5_tide_6 23 rfl rfl)
abbrev cX5_leads : ByteArray := prog_6_method_16_code
def yX5_leads : MethodName := ⟨RX5, "leads", "(I)I"⟩
def dkwX5_leads_3 : List UInt8 := [167, 255, 192, 28, 172]
abbrev dktX5_leads_3 : List UInt8 := dkwX5_leads_3 ++ []
def dkwX5_leads_2 : List UInt8 := [180, 0, 12, 180, 0, 134, 29, 46, 21, 4, 184, 0, 118, 108, 167, 0, 4, 3, 96, 61, 132, 3, 1]
abbrev dktX5_leads_2 : List UInt8 := dkwX5_leads_2 ++ dktX5_leads_3
def dkwX5_leads_1 : List UInt8 := [167, 0, 42, 42, 29, 182, 0, 132, 54, 4, 28, 21, 4, 27, 122, 4, 126, 4, 160, 0, 21, 42]
abbrev dktX5_leads_1 : List UInt8 := dkwX5_leads_1 ++ dktX5_leads_2
def dkwX5_leads_0 : List UInt8 := [3, 61, 3, 62, 29, 42, 180, 0, 12, 180, 0, 46, 162, 0, 59, 42, 29, 182, 0, 96, 154, 0, 6]
abbrev dktX5_leads_0 : List UInt8 := dkwX5_leads_0 ++ dktX5_leads_1
theorem dksX5_leads_0 : cX5_leads.data.toList.drop 0 = dktX5_leads_0 := by decide +kernel
theorem dksX5_leads_1 : cX5_leads.data.toList.drop 23 = dktX5_leads_1 := dk_seg dksX5_leads_0 23 rfl rfl
theorem dksX5_leads_2 : cX5_leads.data.toList.drop 45 = dktX5_leads_2 := dk_seg dksX5_leads_1 22 rfl rfl
theorem dksX5_leads_3 : cX5_leads.data.toList.drop 68 = dktX5_leads_3 := dk_seg dksX5_leads_2 23 rfl rfl
theorem dX5_leads_0 : decode cX5_leads 0 = .ok (.iconst 0, 1) := dk_3 (dk_at dksX5_leads_0 0 rfl rfl)
theorem dX5_leads_1 : decode cX5_leads 1 = .ok (.istore_n 2, 1) := dk_61 (dk_at dksX5_leads_0 1 rfl rfl)
theorem dX5_leads_2 : decode cX5_leads 2 = .ok (.iconst 0, 1) := dk_3 (dk_at dksX5_leads_0 2 rfl rfl)
theorem dX5_leads_3 : decode cX5_leads 3 = .ok (.istore_n 3, 1) := dk_62 (dk_at dksX5_leads_0 3 rfl rfl)
theorem dX5_leads_4 : decode cX5_leads 4 = .ok (.iload_n 3, 1) := dk_29 (dk_at dksX5_leads_0 4 rfl rfl)
theorem dX5_leads_5 : decode cX5_leads 5 = .ok (.aload_n 0, 1) := dk_42 (dk_at dksX5_leads_0 5 rfl rfl)
theorem dX5_leads_6 : decode cX5_leads 6 = .ok (.getfield 12, 3) := dk_180 0 12 (dk_at dksX5_leads_0 6 rfl rfl)
theorem dX5_leads_9 : decode cX5_leads 9 = .ok (.getfield 46, 3) := dk_180 0 46 (dk_at dksX5_leads_0 9 rfl rfl)
theorem dX5_leads_12 : decode cX5_leads 12 = .ok (.if_icmp .ge 59, 3) := dk_162 0 59 (dk_at dksX5_leads_0 12 rfl rfl)
theorem dX5_leads_15 : decode cX5_leads 15 = .ok (.aload_n 0, 1) := dk_42 (dk_at dksX5_leads_0 15 rfl rfl)
theorem dX5_leads_16 : decode cX5_leads 16 = .ok (.iload_n 3, 1) := dk_29 (dk_at dksX5_leads_0 16 rfl rfl)
theorem dX5_leads_17 : decode cX5_leads 17 = .ok (.invokevirtual 96, 3) := dk_182 0 96 (dk_at dksX5_leads_0 17 rfl rfl)
theorem dX5_leads_20 : decode cX5_leads 20 = .ok (.ifCond .ne 6, 3) := dk_154 0 6 (dk_at dksX5_leads_0 20 rfl rfl)
theorem dX5_leads_23 : decode cX5_leads 23 = .ok (.goto 42, 3) := dk_167 0 42 (dk_at dksX5_leads_1 0 rfl rfl)
theorem dX5_leads_26 : decode cX5_leads 26 = .ok (.aload_n 0, 1) := dk_42 (dk_at dksX5_leads_1 3 rfl rfl)
theorem dX5_leads_27 : decode cX5_leads 27 = .ok (.iload_n 3, 1) := dk_29 (dk_at dksX5_leads_1 4 rfl rfl)
theorem dX5_leads_28 : decode cX5_leads 28 = .ok (.invokevirtual 132, 3) := dk_182 0 132 (dk_at dksX5_leads_1 5 rfl rfl)
theorem dX5_leads_31 : decode cX5_leads 31 = .ok (.istore 4, 2) := dk_54 4 (dk_at dksX5_leads_1 8 rfl rfl)
theorem dX5_leads_33 : decode cX5_leads 33 = .ok (.iload_n 2, 1) := dk_28 (dk_at dksX5_leads_1 10 rfl rfl)
theorem dX5_leads_34 : decode cX5_leads 34 = .ok (.iload 4, 2) := dk_21 4 (dk_at dksX5_leads_1 11 rfl rfl)
theorem dX5_leads_36 : decode cX5_leads 36 = .ok (.iload_n 1, 1) := dk_27 (dk_at dksX5_leads_1 13 rfl rfl)
theorem dX5_leads_37 : decode cX5_leads 37 = .ok (.ishr, 1) := dk_122 (dk_at dksX5_leads_1 14 rfl rfl)
theorem dX5_leads_38 : decode cX5_leads 38 = .ok (.iconst 1, 1) := dk_4 (dk_at dksX5_leads_1 15 rfl rfl)
theorem dX5_leads_39 : decode cX5_leads 39 = .ok (.iand, 1) := dk_126 (dk_at dksX5_leads_1 16 rfl rfl)
theorem dX5_leads_40 : decode cX5_leads 40 = .ok (.iconst 1, 1) := dk_4 (dk_at dksX5_leads_1 17 rfl rfl)
theorem dX5_leads_41 : decode cX5_leads 41 = .ok (.if_icmp .ne 21, 3) := dk_160 0 21 (dk_at dksX5_leads_1 18 rfl rfl)
theorem dX5_leads_44 : decode cX5_leads 44 = .ok (.aload_n 0, 1) := dk_42 (dk_at dksX5_leads_1 21 rfl rfl)
theorem dX5_leads_45 : decode cX5_leads 45 = .ok (.getfield 12, 3) := dk_180 0 12 (dk_at dksX5_leads_2 0 rfl rfl)
theorem dX5_leads_48 : decode cX5_leads 48 = .ok (.getfield 134, 3) := dk_180 0 134 (dk_at dksX5_leads_2 3 rfl rfl)
theorem dX5_leads_51 : decode cX5_leads 51 = .ok (.iload_n 3, 1) := dk_29 (dk_at dksX5_leads_2 6 rfl rfl)
theorem dX5_leads_52 : decode cX5_leads 52 = .ok (.iaload, 1) := dk_46 (dk_at dksX5_leads_2 7 rfl rfl)
theorem dX5_leads_53 : decode cX5_leads 53 = .ok (.iload 4, 2) := dk_21 4 (dk_at dksX5_leads_2 8 rfl rfl)
theorem dX5_leads_55 : decode cX5_leads 55 = .ok (.invokestatic 118, 3) := dk_184 0 118 (dk_at dksX5_leads_2 10 rfl rfl)
theorem dX5_leads_58 : decode cX5_leads 58 = .ok (.idiv, 1) := dk_108 (dk_at dksX5_leads_2 13 rfl rfl)
theorem dX5_leads_59 : decode cX5_leads 59 = .ok (.goto 4, 3) := dk_167 0 4 (dk_at dksX5_leads_2 14 rfl rfl)
theorem dX5_leads_62 : decode cX5_leads 62 = .ok (.iconst 0, 1) := dk_3 (dk_at dksX5_leads_2 17 rfl rfl)
theorem dX5_leads_63 : decode cX5_leads 63 = .ok (.iadd, 1) := dk_96 (dk_at dksX5_leads_2 18 rfl rfl)
theorem dX5_leads_64 : decode cX5_leads 64 = .ok (.istore_n 2, 1) := dk_61 (dk_at dksX5_leads_2 19 rfl rfl)
theorem dX5_leads_65 : decode cX5_leads 65 = .ok (.iinc 3 1, 3) := dk_132 3 1 (dk_at dksX5_leads_2 20 rfl rfl)
theorem dX5_leads_68 : decode cX5_leads 68 = .ok (.goto (-64), 3) := dk_167 255 192 (dk_at dksX5_leads_3 0 rfl rfl)
theorem dX5_leads_71 : decode cX5_leads 71 = .ok (.iload_n 2, 1) := dk_28 (dk_at dksX5_leads_3 3 rfl rfl)
theorem dX5_leads_72 : decode cX5_leads 72 = .ok (.ireturn, 1) := dk_172 (dk_at dksX5_leads_3 4 rfl rfl)
abbrev cX5_whose : ByteArray := prog_6_method_15_code
def yX5_whose : MethodName := ⟨RX5, "whose", "(I)I"⟩
def dkwX5_whose_2 : List UInt8 := [180, 0, 12, 180, 0, 123, 4, 160, 0, 10, 28, 184, 0, 126, 167, 0, 7, 28, 184, 0, 129, 172]
abbrev dktX5_whose_2 : List UInt8 := dkwX5_whose_2 ++ []
def dkwX5_whose_1 : List UInt8 := [180, 0, 123, 6, 160, 0, 5, 28, 172, 42, 180, 0, 12, 180, 0, 123, 154, 0, 7, 3, 167, 0, 25, 42]
abbrev dktX5_whose_1 : List UInt8 := dkwX5_whose_1 ++ dktX5_whose_2
def dkwX5_whose_0 : List UInt8 := [42, 180, 0, 33, 27, 50, 182, 0, 114, 61, 28, 184, 0, 118, 5, 161, 0, 14, 42, 180, 0, 12]
abbrev dktX5_whose_0 : List UInt8 := dkwX5_whose_0 ++ dktX5_whose_1
theorem dksX5_whose_0 : cX5_whose.data.toList.drop 0 = dktX5_whose_0 := by decide +kernel
theorem dksX5_whose_1 : cX5_whose.data.toList.drop 22 = dktX5_whose_1 := dk_seg dksX5_whose_0 22 rfl rfl
theorem dksX5_whose_2 : cX5_whose.data.toList.drop 46 = dktX5_whose_2 := dk_seg dksX5_whose_1 24 rfl rfl
theorem dX5_whose_0 : decode cX5_whose 0 = .ok (.aload_n 0, 1) := dk_42 (dk_at dksX5_whose_0 0 rfl rfl)
theorem dX5_whose_1 : decode cX5_whose 1 = .ok (.getfield 33, 3) := dk_180 0 33 (dk_at dksX5_whose_0 1 rfl rfl)
theorem dX5_whose_4 : decode cX5_whose 4 = .ok (.iload_n 1, 1) := dk_27 (dk_at dksX5_whose_0 4 rfl rfl)
theorem dX5_whose_5 : decode cX5_whose 5 = .ok (.aaload, 1) := dk_50 (dk_at dksX5_whose_0 5 rfl rfl)
theorem dX5_whose_6 : decode cX5_whose 6 = .ok (.invokevirtual 114, 3) := dk_182 0 114 (dk_at dksX5_whose_0 6 rfl rfl)
theorem dX5_whose_9 : decode cX5_whose 9 = .ok (.istore_n 2, 1) := dk_61 (dk_at dksX5_whose_0 9 rfl rfl)
theorem dX5_whose_10 : decode cX5_whose 10 = .ok (.iload_n 2, 1) := dk_28 (dk_at dksX5_whose_0 10 rfl rfl)
theorem dX5_whose_11 : decode cX5_whose 11 = .ok (.invokestatic 118, 3) := dk_184 0 118 (dk_at dksX5_whose_0 11 rfl rfl)
theorem dX5_whose_14 : decode cX5_whose 14 = .ok (.iconst 2, 1) := dk_5 (dk_at dksX5_whose_0 14 rfl rfl)
theorem dX5_whose_15 : decode cX5_whose 15 = .ok (.if_icmp .lt 14, 3) := dk_161 0 14 (dk_at dksX5_whose_0 15 rfl rfl)
theorem dX5_whose_18 : decode cX5_whose 18 = .ok (.aload_n 0, 1) := dk_42 (dk_at dksX5_whose_0 18 rfl rfl)
theorem dX5_whose_19 : decode cX5_whose 19 = .ok (.getfield 12, 3) := dk_180 0 12 (dk_at dksX5_whose_0 19 rfl rfl)
theorem dX5_whose_22 : decode cX5_whose 22 = .ok (.getfield 123, 3) := dk_180 0 123 (dk_at dksX5_whose_1 0 rfl rfl)
theorem dX5_whose_25 : decode cX5_whose 25 = .ok (.iconst 3, 1) := dk_6 (dk_at dksX5_whose_1 3 rfl rfl)
theorem dX5_whose_26 : decode cX5_whose 26 = .ok (.if_icmp .ne 5, 3) := dk_160 0 5 (dk_at dksX5_whose_1 4 rfl rfl)
theorem dX5_whose_29 : decode cX5_whose 29 = .ok (.iload_n 2, 1) := dk_28 (dk_at dksX5_whose_1 7 rfl rfl)
theorem dX5_whose_30 : decode cX5_whose 30 = .ok (.ireturn, 1) := dk_172 (dk_at dksX5_whose_1 8 rfl rfl)
theorem dX5_whose_31 : decode cX5_whose 31 = .ok (.aload_n 0, 1) := dk_42 (dk_at dksX5_whose_1 9 rfl rfl)
theorem dX5_whose_32 : decode cX5_whose 32 = .ok (.getfield 12, 3) := dk_180 0 12 (dk_at dksX5_whose_1 10 rfl rfl)
theorem dX5_whose_35 : decode cX5_whose 35 = .ok (.getfield 123, 3) := dk_180 0 123 (dk_at dksX5_whose_1 13 rfl rfl)
theorem dX5_whose_38 : decode cX5_whose 38 = .ok (.ifCond .ne 7, 3) := dk_154 0 7 (dk_at dksX5_whose_1 16 rfl rfl)
theorem dX5_whose_41 : decode cX5_whose 41 = .ok (.iconst 0, 1) := dk_3 (dk_at dksX5_whose_1 19 rfl rfl)
theorem dX5_whose_42 : decode cX5_whose 42 = .ok (.goto 25, 3) := dk_167 0 25 (dk_at dksX5_whose_1 20 rfl rfl)
theorem dX5_whose_45 : decode cX5_whose 45 = .ok (.aload_n 0, 1) := dk_42 (dk_at dksX5_whose_1 23 rfl rfl)
theorem dX5_whose_46 : decode cX5_whose 46 = .ok (.getfield 12, 3) := dk_180 0 12 (dk_at dksX5_whose_2 0 rfl rfl)
theorem dX5_whose_49 : decode cX5_whose 49 = .ok (.getfield 123, 3) := dk_180 0 123 (dk_at dksX5_whose_2 3 rfl rfl)
theorem dX5_whose_52 : decode cX5_whose 52 = .ok (.iconst 1, 1) := dk_4 (dk_at dksX5_whose_2 6 rfl rfl)
theorem dX5_whose_53 : decode cX5_whose 53 = .ok (.if_icmp .ne 10, 3) := dk_160 0 10 (dk_at dksX5_whose_2 7 rfl rfl)
theorem dX5_whose_56 : decode cX5_whose 56 = .ok (.iload_n 2, 1) := dk_28 (dk_at dksX5_whose_2 10 rfl rfl)
theorem dX5_whose_57 : decode cX5_whose 57 = .ok (.invokestatic 126, 3) := dk_184 0 126 (dk_at dksX5_whose_2 11 rfl rfl)
theorem dX5_whose_60 : decode cX5_whose 60 = .ok (.goto 7, 3) := dk_167 0 7 (dk_at dksX5_whose_2 14 rfl rfl)
theorem dX5_whose_63 : decode cX5_whose 63 = .ok (.iload_n 2, 1) := dk_28 (dk_at dksX5_whose_2 17 rfl rfl)
theorem dX5_whose_64 : decode cX5_whose 64 = .ok (.invokestatic 129, 3) := dk_184 0 129 (dk_at dksX5_whose_2 18 rfl rfl)
theorem dX5_whose_67 : decode cX5_whose 67 = .ok (.ireturn, 1) := dk_172 (dk_at dksX5_whose_2 21 rfl rfl)
abbrev cX5_dawn : ByteArray := prog_6_method_18_code
def yX5_dawn : MethodName := ⟨RX5, "dawn", "()V"⟩
def dkwX5_dawn_0 : List UInt8 := [42, 4, 42, 180, 0, 12, 180, 0, 46, 120, 4, 100, 181, 0, 49, 177]
abbrev dktX5_dawn_0 : List UInt8 := dkwX5_dawn_0 ++ []
theorem dksX5_dawn_0 : cX5_dawn.data.toList.drop 0 = dktX5_dawn_0 := by decide +kernel
theorem dX5_dawn_0 : decode cX5_dawn 0 = .ok (.aload_n 0, 1) := dk_42 (dk_at dksX5_dawn_0 0 rfl rfl)
theorem dX5_dawn_1 : decode cX5_dawn 1 = .ok (.iconst 1, 1) := dk_4 (dk_at dksX5_dawn_0 1 rfl rfl)
theorem dX5_dawn_2 : decode cX5_dawn 2 = .ok (.aload_n 0, 1) := dk_42 (dk_at dksX5_dawn_0 2 rfl rfl)
theorem dX5_dawn_3 : decode cX5_dawn 3 = .ok (.getfield 12, 3) := dk_180 0 12 (dk_at dksX5_dawn_0 3 rfl rfl)
theorem dX5_dawn_6 : decode cX5_dawn 6 = .ok (.getfield 46, 3) := dk_180 0 46 (dk_at dksX5_dawn_0 6 rfl rfl)
theorem dX5_dawn_9 : decode cX5_dawn 9 = .ok (.ishl, 1) := dk_120 (dk_at dksX5_dawn_0 9 rfl rfl)
theorem dX5_dawn_10 : decode cX5_dawn 10 = .ok (.iconst 1, 1) := dk_4 (dk_at dksX5_dawn_0 10 rfl rfl)
theorem dX5_dawn_11 : decode cX5_dawn 11 = .ok (.isub, 1) := dk_100 (dk_at dksX5_dawn_0 11 rfl rfl)
theorem dX5_dawn_12 : decode cX5_dawn 12 = .ok (.putfield 49, 3) := dk_181 0 49 (dk_at dksX5_dawn_0 12 rfl rfl)
theorem dX5_dawn_15 : decode cX5_dawn 15 = .ok (.return_, 1) := dk_177 (dk_at dksX5_dawn_0 15 rfl rfl)
abbrev cX5_minute : ByteArray := prog_6_method_19_code
def yX5_minute : MethodName := ⟨RX5, "minute", "(III)I"⟩
def dkwX5_minute_0 : List UInt8 := [29, 42, 180, 0, 33, 28, 50, 27, 182, 0, 149, 4, 96, 184, 0, 146, 172]
abbrev dktX5_minute_0 : List UInt8 := dkwX5_minute_0 ++ []
theorem dksX5_minute_0 : cX5_minute.data.toList.drop 0 = dktX5_minute_0 := by decide +kernel
theorem dX5_minute_0 : decode cX5_minute 0 = .ok (.iload_n 3, 1) := dk_29 (dk_at dksX5_minute_0 0 rfl rfl)
theorem dX5_minute_1 : decode cX5_minute 1 = .ok (.aload_n 0, 1) := dk_42 (dk_at dksX5_minute_0 1 rfl rfl)
theorem dX5_minute_2 : decode cX5_minute 2 = .ok (.getfield 33, 3) := dk_180 0 33 (dk_at dksX5_minute_0 2 rfl rfl)
theorem dX5_minute_5 : decode cX5_minute 5 = .ok (.iload_n 2, 1) := dk_28 (dk_at dksX5_minute_0 5 rfl rfl)
theorem dX5_minute_6 : decode cX5_minute 6 = .ok (.aaload, 1) := dk_50 (dk_at dksX5_minute_0 6 rfl rfl)
theorem dX5_minute_7 : decode cX5_minute 7 = .ok (.iload_n 1, 1) := dk_27 (dk_at dksX5_minute_0 7 rfl rfl)
theorem dX5_minute_8 : decode cX5_minute 8 = .ok (.invokevirtual 149, 3) := dk_182 0 149 (dk_at dksX5_minute_0 8 rfl rfl)
theorem dX5_minute_11 : decode cX5_minute 11 = .ok (.iconst 1, 1) := dk_4 (dk_at dksX5_minute_0 11 rfl rfl)
theorem dX5_minute_12 : decode cX5_minute 12 = .ok (.iadd, 1) := dk_96 (dk_at dksX5_minute_0 12 rfl rfl)
theorem dX5_minute_13 : decode cX5_minute 13 = .ok (.invokestatic 146, 3) := dk_184 0 146 (dk_at dksX5_minute_0 13 rfl rfl)
theorem dX5_minute_16 : decode cX5_minute 16 = .ok (.ireturn, 1) := dk_172 (dk_at dksX5_minute_0 16 rfl rfl)
abbrev cX5_be : ByteArray := prog_6_method_3_code
def yX5_be : MethodName := ⟨RX5, "be", "(LLastPebble$Day;)V"⟩
def dkwX5_be_5 : List UInt8 := [167, 255, 232, 177]
abbrev dktX5_be_5 : List UInt8 := dkwX5_be_5 ++ []
def dkwX5_be_4 : List UInt8 := [16, 8, 162, 0, 24, 42, 180, 0, 33, 28, 50, 43, 180, 0, 33, 28, 50, 182, 0, 79, 132, 2, 1]
abbrev dktX5_be_4 : List UInt8 := dkwX5_be_4 ++ dktX5_be_5
def dkwX5_be_3 : List UInt8 := [16, 6, 184, 0, 73, 43, 180, 0, 28, 3, 42, 180, 0, 28, 3, 16, 6, 184, 0, 73, 3, 61, 28]
abbrev dktX5_be_3 : List UInt8 := dkwX5_be_3 ++ dktX5_be_4
def dkwX5_be_2 : List UInt8 := [180, 0, 22, 3, 42, 180, 0, 22, 3, 16, 6, 184, 0, 73, 43, 180, 0, 25, 3, 42, 180, 0, 25, 3]
abbrev dktX5_be_2 : List UInt8 := dkwX5_be_2 ++ dktX5_be_3
def dkwX5_be_1 : List UInt8 := [42, 43, 180, 0, 49, 181, 0, 49, 43, 180, 0, 18, 3, 42, 180, 0, 18, 3, 16, 6, 184, 0, 73, 43]
abbrev dktX5_be_1 : List UInt8 := dkwX5_be_1 ++ dktX5_be_2
def dkwX5_be_0 : List UInt8 := [42, 43, 180, 0, 12, 181, 0, 12, 42, 43, 180, 0, 37, 181, 0, 37, 42, 43, 180, 0, 43, 181, 0, 43]
abbrev dktX5_be_0 : List UInt8 := dkwX5_be_0 ++ dktX5_be_1
theorem dksX5_be_0 : cX5_be.data.toList.drop 0 = dktX5_be_0 := by decide +kernel
theorem dksX5_be_1 : cX5_be.data.toList.drop 24 = dktX5_be_1 := dk_seg dksX5_be_0 24 rfl rfl
theorem dksX5_be_2 : cX5_be.data.toList.drop 48 = dktX5_be_2 := dk_seg dksX5_be_1 24 rfl rfl
theorem dksX5_be_3 : cX5_be.data.toList.drop 72 = dktX5_be_3 := dk_seg dksX5_be_2 24 rfl rfl
theorem dksX5_be_4 : cX5_be.data.toList.drop 95 = dktX5_be_4 := dk_seg dksX5_be_3 23 rfl rfl
theorem dksX5_be_5 : cX5_be.data.toList.drop 118 = dktX5_be_5 := dk_seg dksX5_be_4 23 rfl rfl
theorem dX5_be_0 : decode cX5_be 0 = .ok (.aload_n 0, 1) := dk_42 (dk_at dksX5_be_0 0 rfl rfl)
theorem dX5_be_1 : decode cX5_be 1 = .ok (.aload_n 1, 1) := dk_43 (dk_at dksX5_be_0 1 rfl rfl)
theorem dX5_be_2 : decode cX5_be 2 = .ok (.getfield 12, 3) := dk_180 0 12 (dk_at dksX5_be_0 2 rfl rfl)
theorem dX5_be_5 : decode cX5_be 5 = .ok (.putfield 12, 3) := dk_181 0 12 (dk_at dksX5_be_0 5 rfl rfl)
theorem dX5_be_8 : decode cX5_be 8 = .ok (.aload_n 0, 1) := dk_42 (dk_at dksX5_be_0 8 rfl rfl)
theorem dX5_be_9 : decode cX5_be 9 = .ok (.aload_n 1, 1) := dk_43 (dk_at dksX5_be_0 9 rfl rfl)
theorem dX5_be_10 : decode cX5_be 10 = .ok (.getfield 37, 3) := dk_180 0 37 (dk_at dksX5_be_0 10 rfl rfl)
theorem dX5_be_13 : decode cX5_be 13 = .ok (.putfield 37, 3) := dk_181 0 37 (dk_at dksX5_be_0 13 rfl rfl)
theorem dX5_be_16 : decode cX5_be 16 = .ok (.aload_n 0, 1) := dk_42 (dk_at dksX5_be_0 16 rfl rfl)
theorem dX5_be_17 : decode cX5_be 17 = .ok (.aload_n 1, 1) := dk_43 (dk_at dksX5_be_0 17 rfl rfl)
theorem dX5_be_18 : decode cX5_be 18 = .ok (.getfield 43, 3) := dk_180 0 43 (dk_at dksX5_be_0 18 rfl rfl)
theorem dX5_be_21 : decode cX5_be 21 = .ok (.putfield 43, 3) := dk_181 0 43 (dk_at dksX5_be_0 21 rfl rfl)
theorem dX5_be_24 : decode cX5_be 24 = .ok (.aload_n 0, 1) := dk_42 (dk_at dksX5_be_1 0 rfl rfl)
theorem dX5_be_25 : decode cX5_be 25 = .ok (.aload_n 1, 1) := dk_43 (dk_at dksX5_be_1 1 rfl rfl)
theorem dX5_be_26 : decode cX5_be 26 = .ok (.getfield 49, 3) := dk_180 0 49 (dk_at dksX5_be_1 2 rfl rfl)
theorem dX5_be_29 : decode cX5_be 29 = .ok (.putfield 49, 3) := dk_181 0 49 (dk_at dksX5_be_1 5 rfl rfl)
theorem dX5_be_32 : decode cX5_be 32 = .ok (.aload_n 1, 1) := dk_43 (dk_at dksX5_be_1 8 rfl rfl)
theorem dX5_be_33 : decode cX5_be 33 = .ok (.getfield 18, 3) := dk_180 0 18 (dk_at dksX5_be_1 9 rfl rfl)
theorem dX5_be_36 : decode cX5_be 36 = .ok (.iconst 0, 1) := dk_3 (dk_at dksX5_be_1 12 rfl rfl)
theorem dX5_be_37 : decode cX5_be 37 = .ok (.aload_n 0, 1) := dk_42 (dk_at dksX5_be_1 13 rfl rfl)
theorem dX5_be_38 : decode cX5_be 38 = .ok (.getfield 18, 3) := dk_180 0 18 (dk_at dksX5_be_1 14 rfl rfl)
theorem dX5_be_41 : decode cX5_be 41 = .ok (.iconst 0, 1) := dk_3 (dk_at dksX5_be_1 17 rfl rfl)
theorem dX5_be_42 : decode cX5_be 42 = .ok (.bipush 6, 2) := dk_16 6 (dk_at dksX5_be_1 18 rfl rfl)
theorem dX5_be_44 : decode cX5_be 44 = .ok (.invokestatic 73, 3) := dk_184 0 73 (dk_at dksX5_be_1 20 rfl rfl)
theorem dX5_be_47 : decode cX5_be 47 = .ok (.aload_n 1, 1) := dk_43 (dk_at dksX5_be_1 23 rfl rfl)
theorem dX5_be_48 : decode cX5_be 48 = .ok (.getfield 22, 3) := dk_180 0 22 (dk_at dksX5_be_2 0 rfl rfl)
theorem dX5_be_51 : decode cX5_be 51 = .ok (.iconst 0, 1) := dk_3 (dk_at dksX5_be_2 3 rfl rfl)
theorem dX5_be_52 : decode cX5_be 52 = .ok (.aload_n 0, 1) := dk_42 (dk_at dksX5_be_2 4 rfl rfl)
theorem dX5_be_53 : decode cX5_be 53 = .ok (.getfield 22, 3) := dk_180 0 22 (dk_at dksX5_be_2 5 rfl rfl)
theorem dX5_be_56 : decode cX5_be 56 = .ok (.iconst 0, 1) := dk_3 (dk_at dksX5_be_2 8 rfl rfl)
theorem dX5_be_57 : decode cX5_be 57 = .ok (.bipush 6, 2) := dk_16 6 (dk_at dksX5_be_2 9 rfl rfl)
theorem dX5_be_59 : decode cX5_be 59 = .ok (.invokestatic 73, 3) := dk_184 0 73 (dk_at dksX5_be_2 11 rfl rfl)
theorem dX5_be_62 : decode cX5_be 62 = .ok (.aload_n 1, 1) := dk_43 (dk_at dksX5_be_2 14 rfl rfl)
theorem dX5_be_63 : decode cX5_be 63 = .ok (.getfield 25, 3) := dk_180 0 25 (dk_at dksX5_be_2 15 rfl rfl)
theorem dX5_be_66 : decode cX5_be 66 = .ok (.iconst 0, 1) := dk_3 (dk_at dksX5_be_2 18 rfl rfl)
theorem dX5_be_67 : decode cX5_be 67 = .ok (.aload_n 0, 1) := dk_42 (dk_at dksX5_be_2 19 rfl rfl)
theorem dX5_be_68 : decode cX5_be 68 = .ok (.getfield 25, 3) := dk_180 0 25 (dk_at dksX5_be_2 20 rfl rfl)
theorem dX5_be_71 : decode cX5_be 71 = .ok (.iconst 0, 1) := dk_3 (dk_at dksX5_be_2 23 rfl rfl)
theorem dX5_be_72 : decode cX5_be 72 = .ok (.bipush 6, 2) := dk_16 6 (dk_at dksX5_be_3 0 rfl rfl)
theorem dX5_be_74 : decode cX5_be 74 = .ok (.invokestatic 73, 3) := dk_184 0 73 (dk_at dksX5_be_3 2 rfl rfl)
theorem dX5_be_77 : decode cX5_be 77 = .ok (.aload_n 1, 1) := dk_43 (dk_at dksX5_be_3 5 rfl rfl)
theorem dX5_be_78 : decode cX5_be 78 = .ok (.getfield 28, 3) := dk_180 0 28 (dk_at dksX5_be_3 6 rfl rfl)
theorem dX5_be_81 : decode cX5_be 81 = .ok (.iconst 0, 1) := dk_3 (dk_at dksX5_be_3 9 rfl rfl)
theorem dX5_be_82 : decode cX5_be 82 = .ok (.aload_n 0, 1) := dk_42 (dk_at dksX5_be_3 10 rfl rfl)
theorem dX5_be_83 : decode cX5_be 83 = .ok (.getfield 28, 3) := dk_180 0 28 (dk_at dksX5_be_3 11 rfl rfl)
theorem dX5_be_86 : decode cX5_be 86 = .ok (.iconst 0, 1) := dk_3 (dk_at dksX5_be_3 14 rfl rfl)
theorem dX5_be_87 : decode cX5_be 87 = .ok (.bipush 6, 2) := dk_16 6 (dk_at dksX5_be_3 15 rfl rfl)
theorem dX5_be_89 : decode cX5_be 89 = .ok (.invokestatic 73, 3) := dk_184 0 73 (dk_at dksX5_be_3 17 rfl rfl)
theorem dX5_be_92 : decode cX5_be 92 = .ok (.iconst 0, 1) := dk_3 (dk_at dksX5_be_3 20 rfl rfl)
theorem dX5_be_93 : decode cX5_be 93 = .ok (.istore_n 2, 1) := dk_61 (dk_at dksX5_be_3 21 rfl rfl)
theorem dX5_be_94 : decode cX5_be 94 = .ok (.iload_n 2, 1) := dk_28 (dk_at dksX5_be_3 22 rfl rfl)
theorem dX5_be_95 : decode cX5_be 95 = .ok (.bipush 8, 2) := dk_16 8 (dk_at dksX5_be_4 0 rfl rfl)
theorem dX5_be_97 : decode cX5_be 97 = .ok (.if_icmp .ge 24, 3) := dk_162 0 24 (dk_at dksX5_be_4 2 rfl rfl)
theorem dX5_be_100 : decode cX5_be 100 = .ok (.aload_n 0, 1) := dk_42 (dk_at dksX5_be_4 5 rfl rfl)
theorem dX5_be_101 : decode cX5_be 101 = .ok (.getfield 33, 3) := dk_180 0 33 (dk_at dksX5_be_4 6 rfl rfl)
theorem dX5_be_104 : decode cX5_be 104 = .ok (.iload_n 2, 1) := dk_28 (dk_at dksX5_be_4 9 rfl rfl)
theorem dX5_be_105 : decode cX5_be 105 = .ok (.aaload, 1) := dk_50 (dk_at dksX5_be_4 10 rfl rfl)
theorem dX5_be_106 : decode cX5_be 106 = .ok (.aload_n 1, 1) := dk_43 (dk_at dksX5_be_4 11 rfl rfl)
theorem dX5_be_107 : decode cX5_be 107 = .ok (.getfield 33, 3) := dk_180 0 33 (dk_at dksX5_be_4 12 rfl rfl)
theorem dX5_be_110 : decode cX5_be 110 = .ok (.iload_n 2, 1) := dk_28 (dk_at dksX5_be_4 15 rfl rfl)
theorem dX5_be_111 : decode cX5_be 111 = .ok (.aaload, 1) := dk_50 (dk_at dksX5_be_4 16 rfl rfl)
theorem dX5_be_112 : decode cX5_be 112 = .ok (.invokevirtual 79, 3) := dk_182 0 79 (dk_at dksX5_be_4 17 rfl rfl)
theorem dX5_be_115 : decode cX5_be 115 = .ok (.iinc 2 1, 3) := dk_132 2 1 (dk_at dksX5_be_4 20 rfl rfl)
theorem dX5_be_118 : decode cX5_be 118 = .ok (.goto (-24), 3) := dk_167 255 232 (dk_at dksX5_be_5 0 rfl rfl)
theorem dX5_be_121 : decode cX5_be 121 = .ok (.return_, 1) := dk_177 (dk_at dksX5_be_5 3 rfl rfl)
abbrev cX6_init : ByteArray := prog_4_method_1_code
def yX6_init : MethodName := ⟨RX6, "<init>", "()V"⟩
def dkwX6_init_4 : List UInt8 := [188, 10, 181, 0, 50, 177]
abbrev dktX6_init_4 : List UInt8 := dkwX6_init_4 ++ []
def dkwX6_init_3 : List UInt8 := [188, 10, 181, 0, 41, 42, 16, 30, 188, 10, 181, 0, 44, 42, 16, 30, 188, 10, 181, 0, 47, 42, 16, 30]
abbrev dktX6_init_3 : List UInt8 := dkwX6_init_3 ++ dktX6_init_4
def dkwX6_init_2 : List UInt8 := [188, 10, 181, 0, 32, 42, 16, 6, 188, 10, 181, 0, 35, 42, 16, 8, 188, 10, 181, 0, 38, 42, 16, 8]
abbrev dktX6_init_2 : List UInt8 := dkwX6_init_2 ++ dktX6_init_3
def dkwX6_init_1 : List UInt8 := [188, 11, 181, 0, 21, 42, 16, 8, 188, 11, 181, 0, 25, 42, 16, 6, 188, 10, 181, 0, 28, 42, 16, 6]
abbrev dktX6_init_1 : List UInt8 := dkwX6_init_1 ++ dktX6_init_2
def dkwX6_init_0 : List UInt8 := [42, 183, 0, 3, 42, 5, 181, 0, 9, 42, 16, 60, 181, 0, 15, 42, 4, 181, 0, 18, 42, 16, 6]
abbrev dktX6_init_0 : List UInt8 := dkwX6_init_0 ++ dktX6_init_1
theorem dksX6_init_0 : cX6_init.data.toList.drop 0 = dktX6_init_0 := by decide +kernel
theorem dksX6_init_1 : cX6_init.data.toList.drop 23 = dktX6_init_1 := dk_seg dksX6_init_0 23 rfl rfl
theorem dksX6_init_2 : cX6_init.data.toList.drop 47 = dktX6_init_2 := dk_seg dksX6_init_1 24 rfl rfl
theorem dksX6_init_3 : cX6_init.data.toList.drop 71 = dktX6_init_3 := dk_seg dksX6_init_2 24 rfl rfl
theorem dksX6_init_4 : cX6_init.data.toList.drop 95 = dktX6_init_4 := dk_seg dksX6_init_3 24 rfl rfl
theorem dX6_init_0 : decode cX6_init 0 = .ok (.aload_n 0, 1) := dk_42 (dk_at dksX6_init_0 0 rfl rfl)
theorem dX6_init_1 : decode cX6_init 1 = .ok (.invokespecial 3, 3) := dk_183 0 3 (dk_at dksX6_init_0 1 rfl rfl)
theorem dX6_init_4 : decode cX6_init 4 = .ok (.aload_n 0, 1) := dk_42 (dk_at dksX6_init_0 4 rfl rfl)
theorem dX6_init_5 : decode cX6_init 5 = .ok (.iconst 2, 1) := dk_5 (dk_at dksX6_init_0 5 rfl rfl)
theorem dX6_init_6 : decode cX6_init 6 = .ok (.putfield 9, 3) := dk_181 0 9 (dk_at dksX6_init_0 6 rfl rfl)
theorem dX6_init_9 : decode cX6_init 9 = .ok (.aload_n 0, 1) := dk_42 (dk_at dksX6_init_0 9 rfl rfl)
theorem dX6_init_10 : decode cX6_init 10 = .ok (.bipush 60, 2) := dk_16 60 (dk_at dksX6_init_0 10 rfl rfl)
theorem dX6_init_12 : decode cX6_init 12 = .ok (.putfield 15, 3) := dk_181 0 15 (dk_at dksX6_init_0 12 rfl rfl)
theorem dX6_init_15 : decode cX6_init 15 = .ok (.aload_n 0, 1) := dk_42 (dk_at dksX6_init_0 15 rfl rfl)
theorem dX6_init_16 : decode cX6_init 16 = .ok (.iconst 1, 1) := dk_4 (dk_at dksX6_init_0 16 rfl rfl)
theorem dX6_init_17 : decode cX6_init 17 = .ok (.putfield 18, 3) := dk_181 0 18 (dk_at dksX6_init_0 17 rfl rfl)
theorem dX6_init_20 : decode cX6_init 20 = .ok (.aload_n 0, 1) := dk_42 (dk_at dksX6_init_0 20 rfl rfl)
theorem dX6_init_21 : decode cX6_init 21 = .ok (.bipush 6, 2) := dk_16 6 (dk_at dksX6_init_0 21 rfl rfl)
theorem dX6_init_23 : decode cX6_init 23 = .ok (.newarray .long, 2) := dk_188_11 (dk_at dksX6_init_1 0 rfl rfl)
theorem dX6_init_25 : decode cX6_init 25 = .ok (.putfield 21, 3) := dk_181 0 21 (dk_at dksX6_init_1 2 rfl rfl)
theorem dX6_init_28 : decode cX6_init 28 = .ok (.aload_n 0, 1) := dk_42 (dk_at dksX6_init_1 5 rfl rfl)
theorem dX6_init_29 : decode cX6_init 29 = .ok (.bipush 8, 2) := dk_16 8 (dk_at dksX6_init_1 6 rfl rfl)
theorem dX6_init_31 : decode cX6_init 31 = .ok (.newarray .long, 2) := dk_188_11 (dk_at dksX6_init_1 8 rfl rfl)
theorem dX6_init_33 : decode cX6_init 33 = .ok (.putfield 25, 3) := dk_181 0 25 (dk_at dksX6_init_1 10 rfl rfl)
theorem dX6_init_36 : decode cX6_init 36 = .ok (.aload_n 0, 1) := dk_42 (dk_at dksX6_init_1 13 rfl rfl)
theorem dX6_init_37 : decode cX6_init 37 = .ok (.bipush 6, 2) := dk_16 6 (dk_at dksX6_init_1 14 rfl rfl)
theorem dX6_init_39 : decode cX6_init 39 = .ok (.newarray .int, 2) := dk_188_10 (dk_at dksX6_init_1 16 rfl rfl)
theorem dX6_init_41 : decode cX6_init 41 = .ok (.putfield 28, 3) := dk_181 0 28 (dk_at dksX6_init_1 18 rfl rfl)
theorem dX6_init_44 : decode cX6_init 44 = .ok (.aload_n 0, 1) := dk_42 (dk_at dksX6_init_1 21 rfl rfl)
theorem dX6_init_45 : decode cX6_init 45 = .ok (.bipush 6, 2) := dk_16 6 (dk_at dksX6_init_1 22 rfl rfl)
theorem dX6_init_47 : decode cX6_init 47 = .ok (.newarray .int, 2) := dk_188_10 (dk_at dksX6_init_2 0 rfl rfl)
theorem dX6_init_49 : decode cX6_init 49 = .ok (.putfield 32, 3) := dk_181 0 32 (dk_at dksX6_init_2 2 rfl rfl)
theorem dX6_init_52 : decode cX6_init 52 = .ok (.aload_n 0, 1) := dk_42 (dk_at dksX6_init_2 5 rfl rfl)
theorem dX6_init_53 : decode cX6_init 53 = .ok (.bipush 6, 2) := dk_16 6 (dk_at dksX6_init_2 6 rfl rfl)
theorem dX6_init_55 : decode cX6_init 55 = .ok (.newarray .int, 2) := dk_188_10 (dk_at dksX6_init_2 8 rfl rfl)
theorem dX6_init_57 : decode cX6_init 57 = .ok (.putfield 35, 3) := dk_181 0 35 (dk_at dksX6_init_2 10 rfl rfl)
theorem dX6_init_60 : decode cX6_init 60 = .ok (.aload_n 0, 1) := dk_42 (dk_at dksX6_init_2 13 rfl rfl)
theorem dX6_init_61 : decode cX6_init 61 = .ok (.bipush 8, 2) := dk_16 8 (dk_at dksX6_init_2 14 rfl rfl)
theorem dX6_init_63 : decode cX6_init 63 = .ok (.newarray .int, 2) := dk_188_10 (dk_at dksX6_init_2 16 rfl rfl)
theorem dX6_init_65 : decode cX6_init 65 = .ok (.putfield 38, 3) := dk_181 0 38 (dk_at dksX6_init_2 18 rfl rfl)
theorem dX6_init_68 : decode cX6_init 68 = .ok (.aload_n 0, 1) := dk_42 (dk_at dksX6_init_2 21 rfl rfl)
theorem dX6_init_69 : decode cX6_init 69 = .ok (.bipush 8, 2) := dk_16 8 (dk_at dksX6_init_2 22 rfl rfl)
theorem dX6_init_71 : decode cX6_init 71 = .ok (.newarray .int, 2) := dk_188_10 (dk_at dksX6_init_3 0 rfl rfl)
theorem dX6_init_73 : decode cX6_init 73 = .ok (.putfield 41, 3) := dk_181 0 41 (dk_at dksX6_init_3 2 rfl rfl)
theorem dX6_init_76 : decode cX6_init 76 = .ok (.aload_n 0, 1) := dk_42 (dk_at dksX6_init_3 5 rfl rfl)
theorem dX6_init_77 : decode cX6_init 77 = .ok (.bipush 30, 2) := dk_16 30 (dk_at dksX6_init_3 6 rfl rfl)
theorem dX6_init_79 : decode cX6_init 79 = .ok (.newarray .int, 2) := dk_188_10 (dk_at dksX6_init_3 8 rfl rfl)
theorem dX6_init_81 : decode cX6_init 81 = .ok (.putfield 44, 3) := dk_181 0 44 (dk_at dksX6_init_3 10 rfl rfl)
theorem dX6_init_84 : decode cX6_init 84 = .ok (.aload_n 0, 1) := dk_42 (dk_at dksX6_init_3 13 rfl rfl)
theorem dX6_init_85 : decode cX6_init 85 = .ok (.bipush 30, 2) := dk_16 30 (dk_at dksX6_init_3 14 rfl rfl)
theorem dX6_init_87 : decode cX6_init 87 = .ok (.newarray .int, 2) := dk_188_10 (dk_at dksX6_init_3 16 rfl rfl)
theorem dX6_init_89 : decode cX6_init 89 = .ok (.putfield 47, 3) := dk_181 0 47 (dk_at dksX6_init_3 18 rfl rfl)
theorem dX6_init_92 : decode cX6_init 92 = .ok (.aload_n 0, 1) := dk_42 (dk_at dksX6_init_3 21 rfl rfl)
theorem dX6_init_93 : decode cX6_init 93 = .ok (.bipush 30, 2) := dk_16 30 (dk_at dksX6_init_3 22 rfl rfl)
theorem dX6_init_95 : decode cX6_init 95 = .ok (.newarray .int, 2) := dk_188_10 (dk_at dksX6_init_4 0 rfl rfl)
theorem dX6_init_97 : decode cX6_init 97 = .ok (.putfield 50, 3) := dk_181 0 50 (dk_at dksX6_init_4 2 rfl rfl)
theorem dX6_init_100 : decode cX6_init 100 = .ok (.return_, 1) := dk_177 (dk_at dksX6_init_4 5 rfl rfl)
abbrev cX6_finderNamed : ByteArray := prog_4_method_2_code
def yX6_finderNamed : MethodName := ⟨RX6, "finderNamed", "(J)I"⟩
def dkwX6_finderNamed_1 : List UInt8 := [132, 3, 1, 167, 255, 232, 2, 172]
abbrev dktX6_finderNamed_1 : List UInt8 := dkwX6_finderNamed_1 ++ []
def dkwX6_finderNamed_0 : List UInt8 := [3, 62, 29, 42, 180, 0, 53, 162, 0, 22, 42, 180, 0, 21, 29, 47, 31, 148, 154, 0, 5, 29, 172]
abbrev dktX6_finderNamed_0 : List UInt8 := dkwX6_finderNamed_0 ++ dktX6_finderNamed_1
theorem dksX6_finderNamed_0 : cX6_finderNamed.data.toList.drop 0 = dktX6_finderNamed_0 := by decide +kernel
theorem dksX6_finderNamed_1 : cX6_finderNamed.data.toList.drop 23 = dktX6_finderNamed_1 := dk_seg dksX6_finderNamed_0 23 rfl rfl
theorem dX6_finderNamed_0 : decode cX6_finderNamed 0 = .ok (.iconst 0, 1) := dk_3 (dk_at dksX6_finderNamed_0 0 rfl rfl)
theorem dX6_finderNamed_1 : decode cX6_finderNamed 1 = .ok (.istore_n 3, 1) := dk_62 (dk_at dksX6_finderNamed_0 1 rfl rfl)
theorem dX6_finderNamed_2 : decode cX6_finderNamed 2 = .ok (.iload_n 3, 1) := dk_29 (dk_at dksX6_finderNamed_0 2 rfl rfl)
theorem dX6_finderNamed_3 : decode cX6_finderNamed 3 = .ok (.aload_n 0, 1) := dk_42 (dk_at dksX6_finderNamed_0 3 rfl rfl)
theorem dX6_finderNamed_4 : decode cX6_finderNamed 4 = .ok (.getfield 53, 3) := dk_180 0 53 (dk_at dksX6_finderNamed_0 4 rfl rfl)
theorem dX6_finderNamed_7 : decode cX6_finderNamed 7 = .ok (.if_icmp .ge 22, 3) := dk_162 0 22 (dk_at dksX6_finderNamed_0 7 rfl rfl)
theorem dX6_finderNamed_10 : decode cX6_finderNamed 10 = .ok (.aload_n 0, 1) := dk_42 (dk_at dksX6_finderNamed_0 10 rfl rfl)
theorem dX6_finderNamed_11 : decode cX6_finderNamed 11 = .ok (.getfield 21, 3) := dk_180 0 21 (dk_at dksX6_finderNamed_0 11 rfl rfl)
theorem dX6_finderNamed_14 : decode cX6_finderNamed 14 = .ok (.iload_n 3, 1) := dk_29 (dk_at dksX6_finderNamed_0 14 rfl rfl)
theorem dX6_finderNamed_15 : decode cX6_finderNamed 15 = .ok (.laload, 1) := dk_47 (dk_at dksX6_finderNamed_0 15 rfl rfl)
theorem dX6_finderNamed_16 : decode cX6_finderNamed 16 = .ok (.lload_n 1, 1) := dk_31 (dk_at dksX6_finderNamed_0 16 rfl rfl)
theorem dX6_finderNamed_17 : decode cX6_finderNamed 17 = .ok (.lcmp, 1) := dk_148 (dk_at dksX6_finderNamed_0 17 rfl rfl)
theorem dX6_finderNamed_18 : decode cX6_finderNamed 18 = .ok (.ifCond .ne 5, 3) := dk_154 0 5 (dk_at dksX6_finderNamed_0 18 rfl rfl)
theorem dX6_finderNamed_21 : decode cX6_finderNamed 21 = .ok (.iload_n 3, 1) := dk_29 (dk_at dksX6_finderNamed_0 21 rfl rfl)
theorem dX6_finderNamed_22 : decode cX6_finderNamed 22 = .ok (.ireturn, 1) := dk_172 (dk_at dksX6_finderNamed_0 22 rfl rfl)
theorem dX6_finderNamed_23 : decode cX6_finderNamed 23 = .ok (.iinc 3 1, 3) := dk_132 3 1 (dk_at dksX6_finderNamed_1 0 rfl rfl)
theorem dX6_finderNamed_26 : decode cX6_finderNamed 26 = .ok (.goto (-24), 3) := dk_167 255 232 (dk_at dksX6_finderNamed_1 3 rfl rfl)
theorem dX6_finderNamed_29 : decode cX6_finderNamed 29 = .ok (.iconst (-1), 1) := dk_2 (dk_at dksX6_finderNamed_1 6 rfl rfl)
theorem dX6_finderNamed_30 : decode cX6_finderNamed 30 = .ok (.ireturn, 1) := dk_172 (dk_at dksX6_finderNamed_1 7 rfl rfl)
abbrev cX6_findNamed : ByteArray := prog_4_method_3_code
def yX6_findNamed : MethodName := ⟨RX6, "findNamed", "(J)I"⟩
def dkwX6_findNamed_1 : List UInt8 := [132, 3, 1, 167, 255, 232, 2, 172]
abbrev dktX6_findNamed_1 : List UInt8 := dkwX6_findNamed_1 ++ []
def dkwX6_findNamed_0 : List UInt8 := [3, 62, 29, 42, 180, 0, 56, 162, 0, 22, 42, 180, 0, 25, 29, 47, 31, 148, 154, 0, 5, 29, 172]
abbrev dktX6_findNamed_0 : List UInt8 := dkwX6_findNamed_0 ++ dktX6_findNamed_1
theorem dksX6_findNamed_0 : cX6_findNamed.data.toList.drop 0 = dktX6_findNamed_0 := by decide +kernel
theorem dksX6_findNamed_1 : cX6_findNamed.data.toList.drop 23 = dktX6_findNamed_1 := dk_seg dksX6_findNamed_0 23 rfl rfl
theorem dX6_findNamed_0 : decode cX6_findNamed 0 = .ok (.iconst 0, 1) := dk_3 (dk_at dksX6_findNamed_0 0 rfl rfl)
theorem dX6_findNamed_1 : decode cX6_findNamed 1 = .ok (.istore_n 3, 1) := dk_62 (dk_at dksX6_findNamed_0 1 rfl rfl)
theorem dX6_findNamed_2 : decode cX6_findNamed 2 = .ok (.iload_n 3, 1) := dk_29 (dk_at dksX6_findNamed_0 2 rfl rfl)
theorem dX6_findNamed_3 : decode cX6_findNamed 3 = .ok (.aload_n 0, 1) := dk_42 (dk_at dksX6_findNamed_0 3 rfl rfl)
theorem dX6_findNamed_4 : decode cX6_findNamed 4 = .ok (.getfield 56, 3) := dk_180 0 56 (dk_at dksX6_findNamed_0 4 rfl rfl)
theorem dX6_findNamed_7 : decode cX6_findNamed 7 = .ok (.if_icmp .ge 22, 3) := dk_162 0 22 (dk_at dksX6_findNamed_0 7 rfl rfl)
theorem dX6_findNamed_10 : decode cX6_findNamed 10 = .ok (.aload_n 0, 1) := dk_42 (dk_at dksX6_findNamed_0 10 rfl rfl)
theorem dX6_findNamed_11 : decode cX6_findNamed 11 = .ok (.getfield 25, 3) := dk_180 0 25 (dk_at dksX6_findNamed_0 11 rfl rfl)
theorem dX6_findNamed_14 : decode cX6_findNamed 14 = .ok (.iload_n 3, 1) := dk_29 (dk_at dksX6_findNamed_0 14 rfl rfl)
theorem dX6_findNamed_15 : decode cX6_findNamed 15 = .ok (.laload, 1) := dk_47 (dk_at dksX6_findNamed_0 15 rfl rfl)
theorem dX6_findNamed_16 : decode cX6_findNamed 16 = .ok (.lload_n 1, 1) := dk_31 (dk_at dksX6_findNamed_0 16 rfl rfl)
theorem dX6_findNamed_17 : decode cX6_findNamed 17 = .ok (.lcmp, 1) := dk_148 (dk_at dksX6_findNamed_0 17 rfl rfl)
theorem dX6_findNamed_18 : decode cX6_findNamed 18 = .ok (.ifCond .ne 5, 3) := dk_154 0 5 (dk_at dksX6_findNamed_0 18 rfl rfl)
theorem dX6_findNamed_21 : decode cX6_findNamed 21 = .ok (.iload_n 3, 1) := dk_29 (dk_at dksX6_findNamed_0 21 rfl rfl)
theorem dX6_findNamed_22 : decode cX6_findNamed 22 = .ok (.ireturn, 1) := dk_172 (dk_at dksX6_findNamed_0 22 rfl rfl)
theorem dX6_findNamed_23 : decode cX6_findNamed 23 = .ok (.iinc 3 1, 3) := dk_132 3 1 (dk_at dksX6_findNamed_1 0 rfl rfl)
theorem dX6_findNamed_26 : decode cX6_findNamed 26 = .ok (.goto (-24), 3) := dk_167 255 232 (dk_at dksX6_findNamed_1 3 rfl rfl)
theorem dX6_findNamed_29 : decode cX6_findNamed 29 = .ok (.iconst (-1), 1) := dk_2 (dk_at dksX6_findNamed_1 6 rfl rfl)
theorem dX6_findNamed_30 : decode cX6_findNamed 30 = .ok (.ireturn, 1) := dk_172 (dk_at dksX6_findNamed_1 7 rfl rfl)
abbrev cX7_init : ByteArray := prog_7_method_1_code
def yX7_init : MethodName := ⟨RX7, "<init>", "()V"⟩
def dkwX7_init_0 : List UInt8 := [42, 183, 0, 3, 42, 7, 188, 10, 181, 0, 9, 42, 7, 188, 10, 181, 0, 15, 177]
abbrev dktX7_init_0 : List UInt8 := dkwX7_init_0 ++ []
theorem dksX7_init_0 : cX7_init.data.toList.drop 0 = dktX7_init_0 := by decide +kernel
theorem dX7_init_0 : decode cX7_init 0 = .ok (.aload_n 0, 1) := dk_42 (dk_at dksX7_init_0 0 rfl rfl)
theorem dX7_init_1 : decode cX7_init 1 = .ok (.invokespecial 3, 3) := dk_183 0 3 (dk_at dksX7_init_0 1 rfl rfl)
theorem dX7_init_4 : decode cX7_init 4 = .ok (.aload_n 0, 1) := dk_42 (dk_at dksX7_init_0 4 rfl rfl)
theorem dX7_init_5 : decode cX7_init 5 = .ok (.iconst 4, 1) := dk_7 (dk_at dksX7_init_0 5 rfl rfl)
theorem dX7_init_6 : decode cX7_init 6 = .ok (.newarray .int, 2) := dk_188_10 (dk_at dksX7_init_0 6 rfl rfl)
theorem dX7_init_8 : decode cX7_init 8 = .ok (.putfield 9, 3) := dk_181 0 9 (dk_at dksX7_init_0 8 rfl rfl)
theorem dX7_init_11 : decode cX7_init 11 = .ok (.aload_n 0, 1) := dk_42 (dk_at dksX7_init_0 11 rfl rfl)
theorem dX7_init_12 : decode cX7_init 12 = .ok (.iconst 4, 1) := dk_7 (dk_at dksX7_init_0 12 rfl rfl)
theorem dX7_init_13 : decode cX7_init 13 = .ok (.newarray .int, 2) := dk_188_10 (dk_at dksX7_init_0 13 rfl rfl)
theorem dX7_init_15 : decode cX7_init 15 = .ok (.putfield 15, 3) := dk_181 0 15 (dk_at dksX7_init_0 15 rfl rfl)
theorem dX7_init_18 : decode cX7_init 18 = .ok (.return_, 1) := dk_177 (dk_at dksX7_init_0 18 rfl rfl)
abbrev cX7_add : ByteArray := prog_7_method_4_code
def yX7_add : MethodName := ⟨RX7, "add", "(II)V"⟩
def dkwX7_add_4 : List UInt8 := [27, 79, 42, 180, 0, 15, 29, 28, 79, 42, 89, 180, 0, 18, 4, 96, 181, 0, 18, 177]
abbrev dktX7_add_4 : List UInt8 := dkwX7_add_4 ++ []
def dkwX7_add_3 : List UInt8 := [180, 0, 15, 29, 42, 180, 0, 15, 29, 4, 100, 46, 79, 132, 3, 255, 167, 255, 209, 42, 180, 0, 9, 29]
abbrev dktX7_add_3 : List UInt8 := dkwX7_add_3 ++ dktX7_add_4
def dkwX7_add_2 : List UInt8 := [4, 100, 46, 28, 164, 0, 37, 42, 180, 0, 9, 29, 42, 180, 0, 9, 29, 4, 100, 46, 79, 42]
abbrev dktX7_add_2 : List UInt8 := dkwX7_add_2 ++ dktX7_add_3
def dkwX7_add_1 : List UInt8 := [42, 180, 0, 15, 184, 0, 28, 181, 0, 15, 42, 180, 0, 18, 62, 29, 158, 0, 49, 42, 180, 0, 15, 29]
abbrev dktX7_add_1 : List UInt8 := dkwX7_add_1 ++ dktX7_add_2
def dkwX7_add_0 : List UInt8 := [42, 180, 0, 18, 42, 180, 0, 9, 190, 160, 0, 25, 42, 42, 180, 0, 9, 184, 0, 28, 181, 0, 9, 42]
abbrev dktX7_add_0 : List UInt8 := dkwX7_add_0 ++ dktX7_add_1
theorem dksX7_add_0 : cX7_add.data.toList.drop 0 = dktX7_add_0 := by decide +kernel
theorem dksX7_add_1 : cX7_add.data.toList.drop 24 = dktX7_add_1 := dk_seg dksX7_add_0 24 rfl rfl
theorem dksX7_add_2 : cX7_add.data.toList.drop 48 = dktX7_add_2 := dk_seg dksX7_add_1 24 rfl rfl
theorem dksX7_add_3 : cX7_add.data.toList.drop 70 = dktX7_add_3 := dk_seg dksX7_add_2 22 rfl rfl
theorem dksX7_add_4 : cX7_add.data.toList.drop 94 = dktX7_add_4 := dk_seg dksX7_add_3 24 rfl rfl
theorem dX7_add_0 : decode cX7_add 0 = .ok (.aload_n 0, 1) := dk_42 (dk_at dksX7_add_0 0 rfl rfl)
theorem dX7_add_1 : decode cX7_add 1 = .ok (.getfield 18, 3) := dk_180 0 18 (dk_at dksX7_add_0 1 rfl rfl)
theorem dX7_add_4 : decode cX7_add 4 = .ok (.aload_n 0, 1) := dk_42 (dk_at dksX7_add_0 4 rfl rfl)
theorem dX7_add_5 : decode cX7_add 5 = .ok (.getfield 9, 3) := dk_180 0 9 (dk_at dksX7_add_0 5 rfl rfl)
theorem dX7_add_8 : decode cX7_add 8 = .ok (.arraylength, 1) := dk_190 (dk_at dksX7_add_0 8 rfl rfl)
theorem dX7_add_9 : decode cX7_add 9 = .ok (.if_icmp .ne 25, 3) := dk_160 0 25 (dk_at dksX7_add_0 9 rfl rfl)
theorem dX7_add_12 : decode cX7_add 12 = .ok (.aload_n 0, 1) := dk_42 (dk_at dksX7_add_0 12 rfl rfl)
theorem dX7_add_13 : decode cX7_add 13 = .ok (.aload_n 0, 1) := dk_42 (dk_at dksX7_add_0 13 rfl rfl)
theorem dX7_add_14 : decode cX7_add 14 = .ok (.getfield 9, 3) := dk_180 0 9 (dk_at dksX7_add_0 14 rfl rfl)
theorem dX7_add_17 : decode cX7_add 17 = .ok (.invokestatic 28, 3) := dk_184 0 28 (dk_at dksX7_add_0 17 rfl rfl)
theorem dX7_add_20 : decode cX7_add 20 = .ok (.putfield 9, 3) := dk_181 0 9 (dk_at dksX7_add_0 20 rfl rfl)
theorem dX7_add_23 : decode cX7_add 23 = .ok (.aload_n 0, 1) := dk_42 (dk_at dksX7_add_0 23 rfl rfl)
theorem dX7_add_24 : decode cX7_add 24 = .ok (.aload_n 0, 1) := dk_42 (dk_at dksX7_add_1 0 rfl rfl)
theorem dX7_add_25 : decode cX7_add 25 = .ok (.getfield 15, 3) := dk_180 0 15 (dk_at dksX7_add_1 1 rfl rfl)
theorem dX7_add_28 : decode cX7_add 28 = .ok (.invokestatic 28, 3) := dk_184 0 28 (dk_at dksX7_add_1 4 rfl rfl)
theorem dX7_add_31 : decode cX7_add 31 = .ok (.putfield 15, 3) := dk_181 0 15 (dk_at dksX7_add_1 7 rfl rfl)
theorem dX7_add_34 : decode cX7_add 34 = .ok (.aload_n 0, 1) := dk_42 (dk_at dksX7_add_1 10 rfl rfl)
theorem dX7_add_35 : decode cX7_add 35 = .ok (.getfield 18, 3) := dk_180 0 18 (dk_at dksX7_add_1 11 rfl rfl)
theorem dX7_add_38 : decode cX7_add 38 = .ok (.istore_n 3, 1) := dk_62 (dk_at dksX7_add_1 14 rfl rfl)
theorem dX7_add_39 : decode cX7_add 39 = .ok (.iload_n 3, 1) := dk_29 (dk_at dksX7_add_1 15 rfl rfl)
theorem dX7_add_40 : decode cX7_add 40 = .ok (.ifCond .le 49, 3) := dk_158 0 49 (dk_at dksX7_add_1 16 rfl rfl)
theorem dX7_add_43 : decode cX7_add 43 = .ok (.aload_n 0, 1) := dk_42 (dk_at dksX7_add_1 19 rfl rfl)
theorem dX7_add_44 : decode cX7_add 44 = .ok (.getfield 15, 3) := dk_180 0 15 (dk_at dksX7_add_1 20 rfl rfl)
theorem dX7_add_47 : decode cX7_add 47 = .ok (.iload_n 3, 1) := dk_29 (dk_at dksX7_add_1 23 rfl rfl)
theorem dX7_add_48 : decode cX7_add 48 = .ok (.iconst 1, 1) := dk_4 (dk_at dksX7_add_2 0 rfl rfl)
theorem dX7_add_49 : decode cX7_add 49 = .ok (.isub, 1) := dk_100 (dk_at dksX7_add_2 1 rfl rfl)
theorem dX7_add_50 : decode cX7_add 50 = .ok (.iaload, 1) := dk_46 (dk_at dksX7_add_2 2 rfl rfl)
theorem dX7_add_51 : decode cX7_add 51 = .ok (.iload_n 2, 1) := dk_28 (dk_at dksX7_add_2 3 rfl rfl)
theorem dX7_add_52 : decode cX7_add 52 = .ok (.if_icmp .le 37, 3) := dk_164 0 37 (dk_at dksX7_add_2 4 rfl rfl)
theorem dX7_add_55 : decode cX7_add 55 = .ok (.aload_n 0, 1) := dk_42 (dk_at dksX7_add_2 7 rfl rfl)
theorem dX7_add_56 : decode cX7_add 56 = .ok (.getfield 9, 3) := dk_180 0 9 (dk_at dksX7_add_2 8 rfl rfl)
theorem dX7_add_59 : decode cX7_add 59 = .ok (.iload_n 3, 1) := dk_29 (dk_at dksX7_add_2 11 rfl rfl)
theorem dX7_add_60 : decode cX7_add 60 = .ok (.aload_n 0, 1) := dk_42 (dk_at dksX7_add_2 12 rfl rfl)
theorem dX7_add_61 : decode cX7_add 61 = .ok (.getfield 9, 3) := dk_180 0 9 (dk_at dksX7_add_2 13 rfl rfl)
theorem dX7_add_64 : decode cX7_add 64 = .ok (.iload_n 3, 1) := dk_29 (dk_at dksX7_add_2 16 rfl rfl)
theorem dX7_add_65 : decode cX7_add 65 = .ok (.iconst 1, 1) := dk_4 (dk_at dksX7_add_2 17 rfl rfl)
theorem dX7_add_66 : decode cX7_add 66 = .ok (.isub, 1) := dk_100 (dk_at dksX7_add_2 18 rfl rfl)
theorem dX7_add_67 : decode cX7_add 67 = .ok (.iaload, 1) := dk_46 (dk_at dksX7_add_2 19 rfl rfl)
theorem dX7_add_68 : decode cX7_add 68 = .ok (.iastore, 1) := dk_79 (dk_at dksX7_add_2 20 rfl rfl)
theorem dX7_add_69 : decode cX7_add 69 = .ok (.aload_n 0, 1) := dk_42 (dk_at dksX7_add_2 21 rfl rfl)
theorem dX7_add_70 : decode cX7_add 70 = .ok (.getfield 15, 3) := dk_180 0 15 (dk_at dksX7_add_3 0 rfl rfl)
theorem dX7_add_73 : decode cX7_add 73 = .ok (.iload_n 3, 1) := dk_29 (dk_at dksX7_add_3 3 rfl rfl)
theorem dX7_add_74 : decode cX7_add 74 = .ok (.aload_n 0, 1) := dk_42 (dk_at dksX7_add_3 4 rfl rfl)
theorem dX7_add_75 : decode cX7_add 75 = .ok (.getfield 15, 3) := dk_180 0 15 (dk_at dksX7_add_3 5 rfl rfl)
theorem dX7_add_78 : decode cX7_add 78 = .ok (.iload_n 3, 1) := dk_29 (dk_at dksX7_add_3 8 rfl rfl)
theorem dX7_add_79 : decode cX7_add 79 = .ok (.iconst 1, 1) := dk_4 (dk_at dksX7_add_3 9 rfl rfl)
theorem dX7_add_80 : decode cX7_add 80 = .ok (.isub, 1) := dk_100 (dk_at dksX7_add_3 10 rfl rfl)
theorem dX7_add_81 : decode cX7_add 81 = .ok (.iaload, 1) := dk_46 (dk_at dksX7_add_3 11 rfl rfl)
theorem dX7_add_82 : decode cX7_add 82 = .ok (.iastore, 1) := dk_79 (dk_at dksX7_add_3 12 rfl rfl)
theorem dX7_add_83 : decode cX7_add 83 = .ok (.iinc 3 (-1), 3) := dk_132 3 255 (dk_at dksX7_add_3 13 rfl rfl)
theorem dX7_add_86 : decode cX7_add 86 = .ok (.goto (-47), 3) := dk_167 255 209 (dk_at dksX7_add_3 16 rfl rfl)
theorem dX7_add_89 : decode cX7_add 89 = .ok (.aload_n 0, 1) := dk_42 (dk_at dksX7_add_3 19 rfl rfl)
theorem dX7_add_90 : decode cX7_add 90 = .ok (.getfield 9, 3) := dk_180 0 9 (dk_at dksX7_add_3 20 rfl rfl)
theorem dX7_add_93 : decode cX7_add 93 = .ok (.iload_n 3, 1) := dk_29 (dk_at dksX7_add_3 23 rfl rfl)
theorem dX7_add_94 : decode cX7_add 94 = .ok (.iload_n 1, 1) := dk_27 (dk_at dksX7_add_4 0 rfl rfl)
theorem dX7_add_95 : decode cX7_add 95 = .ok (.iastore, 1) := dk_79 (dk_at dksX7_add_4 1 rfl rfl)
theorem dX7_add_96 : decode cX7_add 96 = .ok (.aload_n 0, 1) := dk_42 (dk_at dksX7_add_4 2 rfl rfl)
theorem dX7_add_97 : decode cX7_add 97 = .ok (.getfield 15, 3) := dk_180 0 15 (dk_at dksX7_add_4 3 rfl rfl)
theorem dX7_add_100 : decode cX7_add 100 = .ok (.iload_n 3, 1) := dk_29 (dk_at dksX7_add_4 6 rfl rfl)
theorem dX7_add_101 : decode cX7_add 101 = .ok (.iload_n 2, 1) := dk_28 (dk_at dksX7_add_4 7 rfl rfl)
theorem dX7_add_102 : decode cX7_add 102 = .ok (.iastore, 1) := dk_79 (dk_at dksX7_add_4 8 rfl rfl)
theorem dX7_add_103 : decode cX7_add 103 = .ok (.aload_n 0, 1) := dk_42 (dk_at dksX7_add_4 9 rfl rfl)
theorem dX7_add_104 : decode cX7_add 104 = .ok (.dup, 1) := dk_89 (dk_at dksX7_add_4 10 rfl rfl)
theorem dX7_add_105 : decode cX7_add 105 = .ok (.getfield 18, 3) := dk_180 0 18 (dk_at dksX7_add_4 11 rfl rfl)
theorem dX7_add_108 : decode cX7_add 108 = .ok (.iconst 1, 1) := dk_4 (dk_at dksX7_add_4 14 rfl rfl)
theorem dX7_add_109 : decode cX7_add 109 = .ok (.iadd, 1) := dk_96 (dk_at dksX7_add_4 15 rfl rfl)
theorem dX7_add_110 : decode cX7_add 110 = .ok (.putfield 18, 3) := dk_181 0 18 (dk_at dksX7_add_4 16 rfl rfl)
theorem dX7_add_113 : decode cX7_add 113 = .ok (.return_, 1) := dk_177 (dk_at dksX7_add_4 19 rfl rfl)
abbrev cX7_longer : ByteArray := prog_7_method_3_code
def yX7_longer : MethodName := ⟨RX7, "longer", "([I)[I"⟩
def dkwX7_longer_0 : List UInt8 := [5, 42, 190, 104, 188, 10, 76, 42, 3, 43, 3, 42, 190, 184, 0, 22, 43, 176]
abbrev dktX7_longer_0 : List UInt8 := dkwX7_longer_0 ++ []
theorem dksX7_longer_0 : cX7_longer.data.toList.drop 0 = dktX7_longer_0 := by decide +kernel
theorem dX7_longer_0 : decode cX7_longer 0 = .ok (.iconst 2, 1) := dk_5 (dk_at dksX7_longer_0 0 rfl rfl)
theorem dX7_longer_1 : decode cX7_longer 1 = .ok (.aload_n 0, 1) := dk_42 (dk_at dksX7_longer_0 1 rfl rfl)
theorem dX7_longer_2 : decode cX7_longer 2 = .ok (.arraylength, 1) := dk_190 (dk_at dksX7_longer_0 2 rfl rfl)
theorem dX7_longer_3 : decode cX7_longer 3 = .ok (.imul, 1) := dk_104 (dk_at dksX7_longer_0 3 rfl rfl)
theorem dX7_longer_4 : decode cX7_longer 4 = .ok (.newarray .int, 2) := dk_188_10 (dk_at dksX7_longer_0 4 rfl rfl)
theorem dX7_longer_6 : decode cX7_longer 6 = .ok (.astore_n 1, 1) := dk_76 (dk_at dksX7_longer_0 6 rfl rfl)
theorem dX7_longer_7 : decode cX7_longer 7 = .ok (.aload_n 0, 1) := dk_42 (dk_at dksX7_longer_0 7 rfl rfl)
theorem dX7_longer_8 : decode cX7_longer 8 = .ok (.iconst 0, 1) := dk_3 (dk_at dksX7_longer_0 8 rfl rfl)
theorem dX7_longer_9 : decode cX7_longer 9 = .ok (.aload_n 1, 1) := dk_43 (dk_at dksX7_longer_0 9 rfl rfl)
theorem dX7_longer_10 : decode cX7_longer 10 = .ok (.iconst 0, 1) := dk_3 (dk_at dksX7_longer_0 10 rfl rfl)
theorem dX7_longer_11 : decode cX7_longer 11 = .ok (.aload_n 0, 1) := dk_42 (dk_at dksX7_longer_0 11 rfl rfl)
theorem dX7_longer_12 : decode cX7_longer 12 = .ok (.arraylength, 1) := dk_190 (dk_at dksX7_longer_0 12 rfl rfl)
theorem dX7_longer_13 : decode cX7_longer 13 = .ok (.invokestatic 22, 3) := dk_184 0 22 (dk_at dksX7_longer_0 13 rfl rfl)
theorem dX7_longer_16 : decode cX7_longer 16 = .ok (.aload_n 1, 1) := dk_43 (dk_at dksX7_longer_0 16 rfl rfl)
theorem dX7_longer_17 : decode cX7_longer 17 = .ok (.areturn, 1) := dk_176 (dk_at dksX7_longer_0 17 rfl rfl)
abbrev cX7_latestOf : ByteArray := prog_7_method_7_code
def yX7_latestOf : MethodName := ⟨RX7, "latestOf", "(I)I"⟩
def dkwX7_latestOf_1 : List UInt8 := [167, 255, 239, 28, 172]
abbrev dktX7_latestOf_1 : List UInt8 := dkwX7_latestOf_1 ++ []
def dkwX7_latestOf_0 : List UInt8 := [42, 180, 0, 18, 4, 100, 61, 28, 155, 0, 19, 42, 180, 0, 9, 28, 46, 27, 159, 0, 9, 132, 2, 255]
abbrev dktX7_latestOf_0 : List UInt8 := dkwX7_latestOf_0 ++ dktX7_latestOf_1
theorem dksX7_latestOf_0 : cX7_latestOf.data.toList.drop 0 = dktX7_latestOf_0 := by decide +kernel
theorem dksX7_latestOf_1 : cX7_latestOf.data.toList.drop 24 = dktX7_latestOf_1 := dk_seg dksX7_latestOf_0 24 rfl rfl
theorem dX7_latestOf_0 : decode cX7_latestOf 0 = .ok (.aload_n 0, 1) := dk_42 (dk_at dksX7_latestOf_0 0 rfl rfl)
theorem dX7_latestOf_1 : decode cX7_latestOf 1 = .ok (.getfield 18, 3) := dk_180 0 18 (dk_at dksX7_latestOf_0 1 rfl rfl)
theorem dX7_latestOf_4 : decode cX7_latestOf 4 = .ok (.iconst 1, 1) := dk_4 (dk_at dksX7_latestOf_0 4 rfl rfl)
theorem dX7_latestOf_5 : decode cX7_latestOf 5 = .ok (.isub, 1) := dk_100 (dk_at dksX7_latestOf_0 5 rfl rfl)
theorem dX7_latestOf_6 : decode cX7_latestOf 6 = .ok (.istore_n 2, 1) := dk_61 (dk_at dksX7_latestOf_0 6 rfl rfl)
theorem dX7_latestOf_7 : decode cX7_latestOf 7 = .ok (.iload_n 2, 1) := dk_28 (dk_at dksX7_latestOf_0 7 rfl rfl)
theorem dX7_latestOf_8 : decode cX7_latestOf 8 = .ok (.ifCond .lt 19, 3) := dk_155 0 19 (dk_at dksX7_latestOf_0 8 rfl rfl)
theorem dX7_latestOf_11 : decode cX7_latestOf 11 = .ok (.aload_n 0, 1) := dk_42 (dk_at dksX7_latestOf_0 11 rfl rfl)
theorem dX7_latestOf_12 : decode cX7_latestOf 12 = .ok (.getfield 9, 3) := dk_180 0 9 (dk_at dksX7_latestOf_0 12 rfl rfl)
theorem dX7_latestOf_15 : decode cX7_latestOf 15 = .ok (.iload_n 2, 1) := dk_28 (dk_at dksX7_latestOf_0 15 rfl rfl)
theorem dX7_latestOf_16 : decode cX7_latestOf 16 = .ok (.iaload, 1) := dk_46 (dk_at dksX7_latestOf_0 16 rfl rfl)
theorem dX7_latestOf_17 : decode cX7_latestOf 17 = .ok (.iload_n 1, 1) := dk_27 (dk_at dksX7_latestOf_0 17 rfl rfl)
theorem dX7_latestOf_18 : decode cX7_latestOf 18 = .ok (.if_icmp .eq 9, 3) := dk_159 0 9 (dk_at dksX7_latestOf_0 18 rfl rfl)
theorem dX7_latestOf_21 : decode cX7_latestOf 21 = .ok (.iinc 2 (-1), 3) := dk_132 2 255 (dk_at dksX7_latestOf_0 21 rfl rfl)
theorem dX7_latestOf_24 : decode cX7_latestOf 24 = .ok (.goto (-17), 3) := dk_167 255 239 (dk_at dksX7_latestOf_1 0 rfl rfl)
theorem dX7_latestOf_27 : decode cX7_latestOf 27 = .ok (.iload_n 2, 1) := dk_28 (dk_at dksX7_latestOf_1 3 rfl rfl)
theorem dX7_latestOf_28 : decode cX7_latestOf 28 = .ok (.ireturn, 1) := dk_172 (dk_at dksX7_latestOf_1 4 rfl rfl)
abbrev cX7_takes : ByteArray := prog_7_method_5_code
def yX7_takes : MethodName := ⟨RX7, "takes", "(I)V"⟩
def dkwX7_takes_2 : List UInt8 := [180, 0, 18, 4, 100, 181, 0, 18, 177]
abbrev dktX7_takes_2 : List UInt8 := dkwX7_takes_2 ++ []
def dkwX7_takes_1 : List UInt8 := [46, 79, 42, 180, 0, 15, 28, 42, 180, 0, 15, 28, 4, 96, 46, 79, 132, 2, 1, 167, 255, 215, 42, 89]
abbrev dktX7_takes_1 : List UInt8 := dkwX7_takes_1 ++ dktX7_takes_2
def dkwX7_takes_0 : List UInt8 := [27, 61, 28, 4, 96, 42, 180, 0, 18, 162, 0, 37, 42, 180, 0, 9, 28, 42, 180, 0, 9, 28, 4, 96]
abbrev dktX7_takes_0 : List UInt8 := dkwX7_takes_0 ++ dktX7_takes_1
theorem dksX7_takes_0 : cX7_takes.data.toList.drop 0 = dktX7_takes_0 := by decide +kernel
theorem dksX7_takes_1 : cX7_takes.data.toList.drop 24 = dktX7_takes_1 := dk_seg dksX7_takes_0 24 rfl rfl
theorem dksX7_takes_2 : cX7_takes.data.toList.drop 48 = dktX7_takes_2 := dk_seg dksX7_takes_1 24 rfl rfl
theorem dX7_takes_0 : decode cX7_takes 0 = .ok (.iload_n 1, 1) := dk_27 (dk_at dksX7_takes_0 0 rfl rfl)
theorem dX7_takes_1 : decode cX7_takes 1 = .ok (.istore_n 2, 1) := dk_61 (dk_at dksX7_takes_0 1 rfl rfl)
theorem dX7_takes_2 : decode cX7_takes 2 = .ok (.iload_n 2, 1) := dk_28 (dk_at dksX7_takes_0 2 rfl rfl)
theorem dX7_takes_3 : decode cX7_takes 3 = .ok (.iconst 1, 1) := dk_4 (dk_at dksX7_takes_0 3 rfl rfl)
theorem dX7_takes_4 : decode cX7_takes 4 = .ok (.iadd, 1) := dk_96 (dk_at dksX7_takes_0 4 rfl rfl)
theorem dX7_takes_5 : decode cX7_takes 5 = .ok (.aload_n 0, 1) := dk_42 (dk_at dksX7_takes_0 5 rfl rfl)
theorem dX7_takes_6 : decode cX7_takes 6 = .ok (.getfield 18, 3) := dk_180 0 18 (dk_at dksX7_takes_0 6 rfl rfl)
theorem dX7_takes_9 : decode cX7_takes 9 = .ok (.if_icmp .ge 37, 3) := dk_162 0 37 (dk_at dksX7_takes_0 9 rfl rfl)
theorem dX7_takes_12 : decode cX7_takes 12 = .ok (.aload_n 0, 1) := dk_42 (dk_at dksX7_takes_0 12 rfl rfl)
theorem dX7_takes_13 : decode cX7_takes 13 = .ok (.getfield 9, 3) := dk_180 0 9 (dk_at dksX7_takes_0 13 rfl rfl)
theorem dX7_takes_16 : decode cX7_takes 16 = .ok (.iload_n 2, 1) := dk_28 (dk_at dksX7_takes_0 16 rfl rfl)
theorem dX7_takes_17 : decode cX7_takes 17 = .ok (.aload_n 0, 1) := dk_42 (dk_at dksX7_takes_0 17 rfl rfl)
theorem dX7_takes_18 : decode cX7_takes 18 = .ok (.getfield 9, 3) := dk_180 0 9 (dk_at dksX7_takes_0 18 rfl rfl)
theorem dX7_takes_21 : decode cX7_takes 21 = .ok (.iload_n 2, 1) := dk_28 (dk_at dksX7_takes_0 21 rfl rfl)
theorem dX7_takes_22 : decode cX7_takes 22 = .ok (.iconst 1, 1) := dk_4 (dk_at dksX7_takes_0 22 rfl rfl)
theorem dX7_takes_23 : decode cX7_takes 23 = .ok (.iadd, 1) := dk_96 (dk_at dksX7_takes_0 23 rfl rfl)
theorem dX7_takes_24 : decode cX7_takes 24 = .ok (.iaload, 1) := dk_46 (dk_at dksX7_takes_1 0 rfl rfl)
theorem dX7_takes_25 : decode cX7_takes 25 = .ok (.iastore, 1) := dk_79 (dk_at dksX7_takes_1 1 rfl rfl)
theorem dX7_takes_26 : decode cX7_takes 26 = .ok (.aload_n 0, 1) := dk_42 (dk_at dksX7_takes_1 2 rfl rfl)
theorem dX7_takes_27 : decode cX7_takes 27 = .ok (.getfield 15, 3) := dk_180 0 15 (dk_at dksX7_takes_1 3 rfl rfl)
theorem dX7_takes_30 : decode cX7_takes 30 = .ok (.iload_n 2, 1) := dk_28 (dk_at dksX7_takes_1 6 rfl rfl)
theorem dX7_takes_31 : decode cX7_takes 31 = .ok (.aload_n 0, 1) := dk_42 (dk_at dksX7_takes_1 7 rfl rfl)
theorem dX7_takes_32 : decode cX7_takes 32 = .ok (.getfield 15, 3) := dk_180 0 15 (dk_at dksX7_takes_1 8 rfl rfl)
theorem dX7_takes_35 : decode cX7_takes 35 = .ok (.iload_n 2, 1) := dk_28 (dk_at dksX7_takes_1 11 rfl rfl)
theorem dX7_takes_36 : decode cX7_takes 36 = .ok (.iconst 1, 1) := dk_4 (dk_at dksX7_takes_1 12 rfl rfl)
theorem dX7_takes_37 : decode cX7_takes 37 = .ok (.iadd, 1) := dk_96 (dk_at dksX7_takes_1 13 rfl rfl)
theorem dX7_takes_38 : decode cX7_takes 38 = .ok (.iaload, 1) := dk_46 (dk_at dksX7_takes_1 14 rfl rfl)
theorem dX7_takes_39 : decode cX7_takes 39 = .ok (.iastore, 1) := dk_79 (dk_at dksX7_takes_1 15 rfl rfl)
theorem dX7_takes_40 : decode cX7_takes 40 = .ok (.iinc 2 1, 3) := dk_132 2 1 (dk_at dksX7_takes_1 16 rfl rfl)
theorem dX7_takes_43 : decode cX7_takes 43 = .ok (.goto (-41), 3) := dk_167 255 215 (dk_at dksX7_takes_1 19 rfl rfl)
theorem dX7_takes_46 : decode cX7_takes 46 = .ok (.aload_n 0, 1) := dk_42 (dk_at dksX7_takes_1 22 rfl rfl)
theorem dX7_takes_47 : decode cX7_takes 47 = .ok (.dup, 1) := dk_89 (dk_at dksX7_takes_1 23 rfl rfl)
theorem dX7_takes_48 : decode cX7_takes 48 = .ok (.getfield 18, 3) := dk_180 0 18 (dk_at dksX7_takes_2 0 rfl rfl)
theorem dX7_takes_51 : decode cX7_takes 51 = .ok (.iconst 1, 1) := dk_4 (dk_at dksX7_takes_2 3 rfl rfl)
theorem dX7_takes_52 : decode cX7_takes 52 = .ok (.isub, 1) := dk_100 (dk_at dksX7_takes_2 4 rfl rfl)
theorem dX7_takes_53 : decode cX7_takes 53 = .ok (.putfield 18, 3) := dk_181 0 18 (dk_at dksX7_takes_2 5 rfl rfl)
theorem dX7_takes_56 : decode cX7_takes 56 = .ok (.return_, 1) := dk_177 (dk_at dksX7_takes_2 8 rfl rfl)
abbrev cX7_last : ByteArray := prog_7_method_6_code
def yX7_last : MethodName := ⟨RX7, "last", "()I"⟩
def dkwX7_last_2 : List UInt8 := [167, 255, 218, 27, 172]
abbrev dktX7_last_2 : List UInt8 := dkwX7_last_2 ++ []
def dkwX7_last_1 : List UInt8 := [180, 0, 18, 4, 100, 46, 160, 0, 20, 27, 4, 42, 180, 0, 9, 28, 46, 120, 128, 60, 132, 2, 255]
abbrev dktX7_last_1 : List UInt8 := dkwX7_last_1 ++ dktX7_last_2
def dkwX7_last_0 : List UInt8 := [3, 60, 42, 180, 0, 18, 4, 100, 61, 28, 155, 0, 40, 42, 180, 0, 15, 28, 46, 42, 180, 0, 15, 42]
abbrev dktX7_last_0 : List UInt8 := dkwX7_last_0 ++ dktX7_last_1
theorem dksX7_last_0 : cX7_last.data.toList.drop 0 = dktX7_last_0 := by decide +kernel
theorem dksX7_last_1 : cX7_last.data.toList.drop 24 = dktX7_last_1 := dk_seg dksX7_last_0 24 rfl rfl
theorem dksX7_last_2 : cX7_last.data.toList.drop 47 = dktX7_last_2 := dk_seg dksX7_last_1 23 rfl rfl
theorem dX7_last_0 : decode cX7_last 0 = .ok (.iconst 0, 1) := dk_3 (dk_at dksX7_last_0 0 rfl rfl)
theorem dX7_last_1 : decode cX7_last 1 = .ok (.istore_n 1, 1) := dk_60 (dk_at dksX7_last_0 1 rfl rfl)
theorem dX7_last_2 : decode cX7_last 2 = .ok (.aload_n 0, 1) := dk_42 (dk_at dksX7_last_0 2 rfl rfl)
theorem dX7_last_3 : decode cX7_last 3 = .ok (.getfield 18, 3) := dk_180 0 18 (dk_at dksX7_last_0 3 rfl rfl)
theorem dX7_last_6 : decode cX7_last 6 = .ok (.iconst 1, 1) := dk_4 (dk_at dksX7_last_0 6 rfl rfl)
theorem dX7_last_7 : decode cX7_last 7 = .ok (.isub, 1) := dk_100 (dk_at dksX7_last_0 7 rfl rfl)
theorem dX7_last_8 : decode cX7_last 8 = .ok (.istore_n 2, 1) := dk_61 (dk_at dksX7_last_0 8 rfl rfl)
theorem dX7_last_9 : decode cX7_last 9 = .ok (.iload_n 2, 1) := dk_28 (dk_at dksX7_last_0 9 rfl rfl)
theorem dX7_last_10 : decode cX7_last 10 = .ok (.ifCond .lt 40, 3) := dk_155 0 40 (dk_at dksX7_last_0 10 rfl rfl)
theorem dX7_last_13 : decode cX7_last 13 = .ok (.aload_n 0, 1) := dk_42 (dk_at dksX7_last_0 13 rfl rfl)
theorem dX7_last_14 : decode cX7_last 14 = .ok (.getfield 15, 3) := dk_180 0 15 (dk_at dksX7_last_0 14 rfl rfl)
theorem dX7_last_17 : decode cX7_last 17 = .ok (.iload_n 2, 1) := dk_28 (dk_at dksX7_last_0 17 rfl rfl)
theorem dX7_last_18 : decode cX7_last 18 = .ok (.iaload, 1) := dk_46 (dk_at dksX7_last_0 18 rfl rfl)
theorem dX7_last_19 : decode cX7_last 19 = .ok (.aload_n 0, 1) := dk_42 (dk_at dksX7_last_0 19 rfl rfl)
theorem dX7_last_20 : decode cX7_last 20 = .ok (.getfield 15, 3) := dk_180 0 15 (dk_at dksX7_last_0 20 rfl rfl)
theorem dX7_last_23 : decode cX7_last 23 = .ok (.aload_n 0, 1) := dk_42 (dk_at dksX7_last_0 23 rfl rfl)
theorem dX7_last_24 : decode cX7_last 24 = .ok (.getfield 18, 3) := dk_180 0 18 (dk_at dksX7_last_1 0 rfl rfl)
theorem dX7_last_27 : decode cX7_last 27 = .ok (.iconst 1, 1) := dk_4 (dk_at dksX7_last_1 3 rfl rfl)
theorem dX7_last_28 : decode cX7_last 28 = .ok (.isub, 1) := dk_100 (dk_at dksX7_last_1 4 rfl rfl)
theorem dX7_last_29 : decode cX7_last 29 = .ok (.iaload, 1) := dk_46 (dk_at dksX7_last_1 5 rfl rfl)
theorem dX7_last_30 : decode cX7_last 30 = .ok (.if_icmp .ne 20, 3) := dk_160 0 20 (dk_at dksX7_last_1 6 rfl rfl)
theorem dX7_last_33 : decode cX7_last 33 = .ok (.iload_n 1, 1) := dk_27 (dk_at dksX7_last_1 9 rfl rfl)
theorem dX7_last_34 : decode cX7_last 34 = .ok (.iconst 1, 1) := dk_4 (dk_at dksX7_last_1 10 rfl rfl)
theorem dX7_last_35 : decode cX7_last 35 = .ok (.aload_n 0, 1) := dk_42 (dk_at dksX7_last_1 11 rfl rfl)
theorem dX7_last_36 : decode cX7_last 36 = .ok (.getfield 9, 3) := dk_180 0 9 (dk_at dksX7_last_1 12 rfl rfl)
theorem dX7_last_39 : decode cX7_last 39 = .ok (.iload_n 2, 1) := dk_28 (dk_at dksX7_last_1 15 rfl rfl)
theorem dX7_last_40 : decode cX7_last 40 = .ok (.iaload, 1) := dk_46 (dk_at dksX7_last_1 16 rfl rfl)
theorem dX7_last_41 : decode cX7_last 41 = .ok (.ishl, 1) := dk_120 (dk_at dksX7_last_1 17 rfl rfl)
theorem dX7_last_42 : decode cX7_last 42 = .ok (.ior, 1) := dk_128 (dk_at dksX7_last_1 18 rfl rfl)
theorem dX7_last_43 : decode cX7_last 43 = .ok (.istore_n 1, 1) := dk_60 (dk_at dksX7_last_1 19 rfl rfl)
theorem dX7_last_44 : decode cX7_last 44 = .ok (.iinc 2 (-1), 3) := dk_132 2 255 (dk_at dksX7_last_1 20 rfl rfl)
theorem dX7_last_47 : decode cX7_last 47 = .ok (.goto (-38), 3) := dk_167 255 218 (dk_at dksX7_last_2 0 rfl rfl)
theorem dX7_last_50 : decode cX7_last 50 = .ok (.iload_n 1, 1) := dk_27 (dk_at dksX7_last_2 3 rfl rfl)
theorem dX7_last_51 : decode cX7_last 51 = .ok (.ireturn, 1) := dk_172 (dk_at dksX7_last_2 4 rfl rfl)
abbrev cX7_many : ByteArray := prog_7_method_9_code
def yX7_many : MethodName := ⟨RX7, "many", "(I)I"⟩
def dkwX7_many_1 : List UInt8 := [167, 0, 4, 3, 96, 61, 132, 3, 1, 167, 255, 227, 28, 172]
abbrev dktX7_many_1 : List UInt8 := dkwX7_many_1 ++ []
def dkwX7_many_0 : List UInt8 := [3, 61, 3, 62, 29, 42, 180, 0, 18, 162, 0, 27, 28, 42, 180, 0, 9, 29, 46, 27, 160, 0, 7, 4]
abbrev dktX7_many_0 : List UInt8 := dkwX7_many_0 ++ dktX7_many_1
theorem dksX7_many_0 : cX7_many.data.toList.drop 0 = dktX7_many_0 := by decide +kernel
theorem dksX7_many_1 : cX7_many.data.toList.drop 24 = dktX7_many_1 := dk_seg dksX7_many_0 24 rfl rfl
theorem dX7_many_0 : decode cX7_many 0 = .ok (.iconst 0, 1) := dk_3 (dk_at dksX7_many_0 0 rfl rfl)
theorem dX7_many_1 : decode cX7_many 1 = .ok (.istore_n 2, 1) := dk_61 (dk_at dksX7_many_0 1 rfl rfl)
theorem dX7_many_2 : decode cX7_many 2 = .ok (.iconst 0, 1) := dk_3 (dk_at dksX7_many_0 2 rfl rfl)
theorem dX7_many_3 : decode cX7_many 3 = .ok (.istore_n 3, 1) := dk_62 (dk_at dksX7_many_0 3 rfl rfl)
theorem dX7_many_4 : decode cX7_many 4 = .ok (.iload_n 3, 1) := dk_29 (dk_at dksX7_many_0 4 rfl rfl)
theorem dX7_many_5 : decode cX7_many 5 = .ok (.aload_n 0, 1) := dk_42 (dk_at dksX7_many_0 5 rfl rfl)
theorem dX7_many_6 : decode cX7_many 6 = .ok (.getfield 18, 3) := dk_180 0 18 (dk_at dksX7_many_0 6 rfl rfl)
theorem dX7_many_9 : decode cX7_many 9 = .ok (.if_icmp .ge 27, 3) := dk_162 0 27 (dk_at dksX7_many_0 9 rfl rfl)
theorem dX7_many_12 : decode cX7_many 12 = .ok (.iload_n 2, 1) := dk_28 (dk_at dksX7_many_0 12 rfl rfl)
theorem dX7_many_13 : decode cX7_many 13 = .ok (.aload_n 0, 1) := dk_42 (dk_at dksX7_many_0 13 rfl rfl)
theorem dX7_many_14 : decode cX7_many 14 = .ok (.getfield 9, 3) := dk_180 0 9 (dk_at dksX7_many_0 14 rfl rfl)
theorem dX7_many_17 : decode cX7_many 17 = .ok (.iload_n 3, 1) := dk_29 (dk_at dksX7_many_0 17 rfl rfl)
theorem dX7_many_18 : decode cX7_many 18 = .ok (.iaload, 1) := dk_46 (dk_at dksX7_many_0 18 rfl rfl)
theorem dX7_many_19 : decode cX7_many 19 = .ok (.iload_n 1, 1) := dk_27 (dk_at dksX7_many_0 19 rfl rfl)
theorem dX7_many_20 : decode cX7_many 20 = .ok (.if_icmp .ne 7, 3) := dk_160 0 7 (dk_at dksX7_many_0 20 rfl rfl)
theorem dX7_many_23 : decode cX7_many 23 = .ok (.iconst 1, 1) := dk_4 (dk_at dksX7_many_0 23 rfl rfl)
theorem dX7_many_24 : decode cX7_many 24 = .ok (.goto 4, 3) := dk_167 0 4 (dk_at dksX7_many_1 0 rfl rfl)
theorem dX7_many_27 : decode cX7_many 27 = .ok (.iconst 0, 1) := dk_3 (dk_at dksX7_many_1 3 rfl rfl)
theorem dX7_many_28 : decode cX7_many 28 = .ok (.iadd, 1) := dk_96 (dk_at dksX7_many_1 4 rfl rfl)
theorem dX7_many_29 : decode cX7_many 29 = .ok (.istore_n 2, 1) := dk_61 (dk_at dksX7_many_1 5 rfl rfl)
theorem dX7_many_30 : decode cX7_many 30 = .ok (.iinc 3 1, 3) := dk_132 3 1 (dk_at dksX7_many_1 6 rfl rfl)
theorem dX7_many_33 : decode cX7_many 33 = .ok (.goto (-29), 3) := dk_167 255 227 (dk_at dksX7_many_1 9 rfl rfl)
theorem dX7_many_36 : decode cX7_many 36 = .ok (.iload_n 2, 1) := dk_28 (dk_at dksX7_many_1 12 rfl rfl)
theorem dX7_many_37 : decode cX7_many 37 = .ok (.ireturn, 1) := dk_172 (dk_at dksX7_many_1 13 rfl rfl)
abbrev cX7_others : ByteArray := prog_7_method_8_code
def yX7_others : MethodName := ⟨RX7, "others", "(I)I"⟩
def dkwX7_others_1 : List UInt8 := [180, 0, 15, 28, 46, 172, 132, 2, 255, 167, 255, 232, 2, 172]
abbrev dktX7_others_1 : List UInt8 := dkwX7_others_1 ++ []
def dkwX7_others_0 : List UInt8 := [42, 180, 0, 18, 4, 100, 61, 28, 155, 0, 26, 42, 180, 0, 9, 28, 46, 27, 159, 0, 10, 42]
abbrev dktX7_others_0 : List UInt8 := dkwX7_others_0 ++ dktX7_others_1
theorem dksX7_others_0 : cX7_others.data.toList.drop 0 = dktX7_others_0 := by decide +kernel
theorem dksX7_others_1 : cX7_others.data.toList.drop 22 = dktX7_others_1 := dk_seg dksX7_others_0 22 rfl rfl
theorem dX7_others_0 : decode cX7_others 0 = .ok (.aload_n 0, 1) := dk_42 (dk_at dksX7_others_0 0 rfl rfl)
theorem dX7_others_1 : decode cX7_others 1 = .ok (.getfield 18, 3) := dk_180 0 18 (dk_at dksX7_others_0 1 rfl rfl)
theorem dX7_others_4 : decode cX7_others 4 = .ok (.iconst 1, 1) := dk_4 (dk_at dksX7_others_0 4 rfl rfl)
theorem dX7_others_5 : decode cX7_others 5 = .ok (.isub, 1) := dk_100 (dk_at dksX7_others_0 5 rfl rfl)
theorem dX7_others_6 : decode cX7_others 6 = .ok (.istore_n 2, 1) := dk_61 (dk_at dksX7_others_0 6 rfl rfl)
theorem dX7_others_7 : decode cX7_others 7 = .ok (.iload_n 2, 1) := dk_28 (dk_at dksX7_others_0 7 rfl rfl)
theorem dX7_others_8 : decode cX7_others 8 = .ok (.ifCond .lt 26, 3) := dk_155 0 26 (dk_at dksX7_others_0 8 rfl rfl)
theorem dX7_others_11 : decode cX7_others 11 = .ok (.aload_n 0, 1) := dk_42 (dk_at dksX7_others_0 11 rfl rfl)
theorem dX7_others_12 : decode cX7_others 12 = .ok (.getfield 9, 3) := dk_180 0 9 (dk_at dksX7_others_0 12 rfl rfl)
theorem dX7_others_15 : decode cX7_others 15 = .ok (.iload_n 2, 1) := dk_28 (dk_at dksX7_others_0 15 rfl rfl)
theorem dX7_others_16 : decode cX7_others 16 = .ok (.iaload, 1) := dk_46 (dk_at dksX7_others_0 16 rfl rfl)
theorem dX7_others_17 : decode cX7_others 17 = .ok (.iload_n 1, 1) := dk_27 (dk_at dksX7_others_0 17 rfl rfl)
theorem dX7_others_18 : decode cX7_others 18 = .ok (.if_icmp .eq 10, 3) := dk_159 0 10 (dk_at dksX7_others_0 18 rfl rfl)
theorem dX7_others_21 : decode cX7_others 21 = .ok (.aload_n 0, 1) := dk_42 (dk_at dksX7_others_0 21 rfl rfl)
theorem dX7_others_22 : decode cX7_others 22 = .ok (.getfield 15, 3) := dk_180 0 15 (dk_at dksX7_others_1 0 rfl rfl)
theorem dX7_others_25 : decode cX7_others 25 = .ok (.iload_n 2, 1) := dk_28 (dk_at dksX7_others_1 3 rfl rfl)
theorem dX7_others_26 : decode cX7_others 26 = .ok (.iaload, 1) := dk_46 (dk_at dksX7_others_1 4 rfl rfl)
theorem dX7_others_27 : decode cX7_others 27 = .ok (.ireturn, 1) := dk_172 (dk_at dksX7_others_1 5 rfl rfl)
theorem dX7_others_28 : decode cX7_others 28 = .ok (.iinc 2 (-1), 3) := dk_132 2 255 (dk_at dksX7_others_1 6 rfl rfl)
theorem dX7_others_31 : decode cX7_others 31 = .ok (.goto (-24), 3) := dk_167 255 232 (dk_at dksX7_others_1 9 rfl rfl)
theorem dX7_others_34 : decode cX7_others 34 = .ok (.iconst (-1), 1) := dk_2 (dk_at dksX7_others_1 12 rfl rfl)
theorem dX7_others_35 : decode cX7_others 35 = .ok (.ireturn, 1) := dk_172 (dk_at dksX7_others_1 13 rfl rfl)
abbrev cX7_be : ByteArray := prog_7_method_2_code
def yX7_be : MethodName := ⟨RX7, "be", "(LLastPebble$Heap;)V"⟩
def dkwX7_be_3 : List UInt8 := [180, 0, 18, 181, 0, 18, 177]
abbrev dktX7_be_3 : List UInt8 := dkwX7_be_3 ++ []
def dkwX7_be_2 : List UInt8 := [184, 0, 22, 43, 180, 0, 15, 3, 42, 180, 0, 15, 3, 43, 180, 0, 18, 184, 0, 22, 42, 43]
abbrev dktX7_be_2 : List UInt8 := dkwX7_be_2 ++ dktX7_be_3
def dkwX7_be_1 : List UInt8 := [43, 180, 0, 9, 190, 188, 10, 181, 0, 15, 43, 180, 0, 9, 3, 42, 180, 0, 9, 3, 43, 180, 0, 18]
abbrev dktX7_be_1 : List UInt8 := dkwX7_be_1 ++ dktX7_be_2
def dkwX7_be_0 : List UInt8 := [42, 180, 0, 9, 190, 43, 180, 0, 18, 162, 0, 25, 42, 43, 180, 0, 9, 190, 188, 10, 181, 0, 9, 42]
abbrev dktX7_be_0 : List UInt8 := dkwX7_be_0 ++ dktX7_be_1
theorem dksX7_be_0 : cX7_be.data.toList.drop 0 = dktX7_be_0 := by decide +kernel
theorem dksX7_be_1 : cX7_be.data.toList.drop 24 = dktX7_be_1 := dk_seg dksX7_be_0 24 rfl rfl
theorem dksX7_be_2 : cX7_be.data.toList.drop 48 = dktX7_be_2 := dk_seg dksX7_be_1 24 rfl rfl
theorem dksX7_be_3 : cX7_be.data.toList.drop 70 = dktX7_be_3 := dk_seg dksX7_be_2 22 rfl rfl
theorem dX7_be_0 : decode cX7_be 0 = .ok (.aload_n 0, 1) := dk_42 (dk_at dksX7_be_0 0 rfl rfl)
theorem dX7_be_1 : decode cX7_be 1 = .ok (.getfield 9, 3) := dk_180 0 9 (dk_at dksX7_be_0 1 rfl rfl)
theorem dX7_be_4 : decode cX7_be 4 = .ok (.arraylength, 1) := dk_190 (dk_at dksX7_be_0 4 rfl rfl)
theorem dX7_be_5 : decode cX7_be 5 = .ok (.aload_n 1, 1) := dk_43 (dk_at dksX7_be_0 5 rfl rfl)
theorem dX7_be_6 : decode cX7_be 6 = .ok (.getfield 18, 3) := dk_180 0 18 (dk_at dksX7_be_0 6 rfl rfl)
theorem dX7_be_9 : decode cX7_be 9 = .ok (.if_icmp .ge 25, 3) := dk_162 0 25 (dk_at dksX7_be_0 9 rfl rfl)
theorem dX7_be_12 : decode cX7_be 12 = .ok (.aload_n 0, 1) := dk_42 (dk_at dksX7_be_0 12 rfl rfl)
theorem dX7_be_13 : decode cX7_be 13 = .ok (.aload_n 1, 1) := dk_43 (dk_at dksX7_be_0 13 rfl rfl)
theorem dX7_be_14 : decode cX7_be 14 = .ok (.getfield 9, 3) := dk_180 0 9 (dk_at dksX7_be_0 14 rfl rfl)
theorem dX7_be_17 : decode cX7_be 17 = .ok (.arraylength, 1) := dk_190 (dk_at dksX7_be_0 17 rfl rfl)
theorem dX7_be_18 : decode cX7_be 18 = .ok (.newarray .int, 2) := dk_188_10 (dk_at dksX7_be_0 18 rfl rfl)
theorem dX7_be_20 : decode cX7_be 20 = .ok (.putfield 9, 3) := dk_181 0 9 (dk_at dksX7_be_0 20 rfl rfl)
theorem dX7_be_23 : decode cX7_be 23 = .ok (.aload_n 0, 1) := dk_42 (dk_at dksX7_be_0 23 rfl rfl)
theorem dX7_be_24 : decode cX7_be 24 = .ok (.aload_n 1, 1) := dk_43 (dk_at dksX7_be_1 0 rfl rfl)
theorem dX7_be_25 : decode cX7_be 25 = .ok (.getfield 9, 3) := dk_180 0 9 (dk_at dksX7_be_1 1 rfl rfl)
theorem dX7_be_28 : decode cX7_be 28 = .ok (.arraylength, 1) := dk_190 (dk_at dksX7_be_1 4 rfl rfl)
theorem dX7_be_29 : decode cX7_be 29 = .ok (.newarray .int, 2) := dk_188_10 (dk_at dksX7_be_1 5 rfl rfl)
theorem dX7_be_31 : decode cX7_be 31 = .ok (.putfield 15, 3) := dk_181 0 15 (dk_at dksX7_be_1 7 rfl rfl)
theorem dX7_be_34 : decode cX7_be 34 = .ok (.aload_n 1, 1) := dk_43 (dk_at dksX7_be_1 10 rfl rfl)
theorem dX7_be_35 : decode cX7_be 35 = .ok (.getfield 9, 3) := dk_180 0 9 (dk_at dksX7_be_1 11 rfl rfl)
theorem dX7_be_38 : decode cX7_be 38 = .ok (.iconst 0, 1) := dk_3 (dk_at dksX7_be_1 14 rfl rfl)
theorem dX7_be_39 : decode cX7_be 39 = .ok (.aload_n 0, 1) := dk_42 (dk_at dksX7_be_1 15 rfl rfl)
theorem dX7_be_40 : decode cX7_be 40 = .ok (.getfield 9, 3) := dk_180 0 9 (dk_at dksX7_be_1 16 rfl rfl)
theorem dX7_be_43 : decode cX7_be 43 = .ok (.iconst 0, 1) := dk_3 (dk_at dksX7_be_1 19 rfl rfl)
theorem dX7_be_44 : decode cX7_be 44 = .ok (.aload_n 1, 1) := dk_43 (dk_at dksX7_be_1 20 rfl rfl)
theorem dX7_be_45 : decode cX7_be 45 = .ok (.getfield 18, 3) := dk_180 0 18 (dk_at dksX7_be_1 21 rfl rfl)
theorem dX7_be_48 : decode cX7_be 48 = .ok (.invokestatic 22, 3) := dk_184 0 22 (dk_at dksX7_be_2 0 rfl rfl)
theorem dX7_be_51 : decode cX7_be 51 = .ok (.aload_n 1, 1) := dk_43 (dk_at dksX7_be_2 3 rfl rfl)
theorem dX7_be_52 : decode cX7_be 52 = .ok (.getfield 15, 3) := dk_180 0 15 (dk_at dksX7_be_2 4 rfl rfl)
theorem dX7_be_55 : decode cX7_be 55 = .ok (.iconst 0, 1) := dk_3 (dk_at dksX7_be_2 7 rfl rfl)
theorem dX7_be_56 : decode cX7_be 56 = .ok (.aload_n 0, 1) := dk_42 (dk_at dksX7_be_2 8 rfl rfl)
theorem dX7_be_57 : decode cX7_be 57 = .ok (.getfield 15, 3) := dk_180 0 15 (dk_at dksX7_be_2 9 rfl rfl)
theorem dX7_be_60 : decode cX7_be 60 = .ok (.iconst 0, 1) := dk_3 (dk_at dksX7_be_2 12 rfl rfl)
theorem dX7_be_61 : decode cX7_be 61 = .ok (.aload_n 1, 1) := dk_43 (dk_at dksX7_be_2 13 rfl rfl)
theorem dX7_be_62 : decode cX7_be 62 = .ok (.getfield 18, 3) := dk_180 0 18 (dk_at dksX7_be_2 14 rfl rfl)
theorem dX7_be_65 : decode cX7_be 65 = .ok (.invokestatic 22, 3) := dk_184 0 22 (dk_at dksX7_be_2 17 rfl rfl)
theorem dX7_be_68 : decode cX7_be 68 = .ok (.aload_n 0, 1) := dk_42 (dk_at dksX7_be_2 20 rfl rfl)
theorem dX7_be_69 : decode cX7_be 69 = .ok (.aload_n 1, 1) := dk_43 (dk_at dksX7_be_2 21 rfl rfl)
theorem dX7_be_70 : decode cX7_be 70 = .ok (.getfield 18, 3) := dk_180 0 18 (dk_at dksX7_be_3 0 rfl rfl)
theorem dX7_be_73 : decode cX7_be 73 = .ok (.putfield 18, 3) := dk_181 0 18 (dk_at dksX7_be_3 3 rfl rfl)
theorem dX7_be_76 : decode cX7_be 76 = .ok (.return_, 1) := dk_177 (dk_at dksX7_be_3 6 rfl rfl)
abbrev cJ2_init : ByteArray := prog_25_method_2_code
def yJ2_init : MethodName := ⟨RJ2, "<init>", "(Ljava/lang/String;)V"⟩
def dkwJ2_init_0 : List UInt8 := [42, 43, 183, 0, 7, 177]
abbrev dktJ2_init_0 : List UInt8 := dkwJ2_init_0 ++ []
theorem dksJ2_init_0 : cJ2_init.data.toList.drop 0 = dktJ2_init_0 := by decide +kernel
theorem dJ2_init_0 : decode cJ2_init 0 = .ok (.aload_n 0, 1) := dk_42 (dk_at dksJ2_init_0 0 rfl rfl)
theorem dJ2_init_1 : decode cJ2_init 1 = .ok (.aload_n 1, 1) := dk_43 (dk_at dksJ2_init_0 1 rfl rfl)
theorem dJ2_init_2 : decode cJ2_init 2 = .ok (.invokespecial 7, 3) := dk_183 0 7 (dk_at dksJ2_init_0 2 rfl rfl)
theorem dJ2_init_5 : decode cJ2_init 5 = .ok (.return_, 1) := dk_177 (dk_at dksJ2_init_0 5 rfl rfl)
abbrev cJ3_init : ByteArray := prog_24_method_2_code
def yJ3_init : MethodName := ⟨RJ3, "<init>", "(Ljava/lang/String;)V"⟩
def dkwJ3_init_0 : List UInt8 := [42, 43, 183, 0, 7, 177]
abbrev dktJ3_init_0 : List UInt8 := dkwJ3_init_0 ++ []
theorem dksJ3_init_0 : cJ3_init.data.toList.drop 0 = dktJ3_init_0 := by decide +kernel
theorem dJ3_init_0 : decode cJ3_init 0 = .ok (.aload_n 0, 1) := dk_42 (dk_at dksJ3_init_0 0 rfl rfl)
theorem dJ3_init_1 : decode cJ3_init 1 = .ok (.aload_n 1, 1) := dk_43 (dk_at dksJ3_init_0 1 rfl rfl)
theorem dJ3_init_2 : decode cJ3_init 2 = .ok (.invokespecial 7, 3) := dk_183 0 7 (dk_at dksJ3_init_0 2 rfl rfl)
theorem dJ3_init_5 : decode cJ3_init 5 = .ok (.return_, 1) := dk_177 (dk_at dksJ3_init_0 5 rfl rfl)
abbrev cJ4_length : ByteArray := prog_26_method_54_code
def yJ4_length : MethodName := ⟨RJ4, "length", "()I"⟩
def dkwJ4_length_0 : List UInt8 := [42, 180, 0, 9, 190, 42, 182, 1, 79, 122, 172]
abbrev dktJ4_length_0 : List UInt8 := dkwJ4_length_0 ++ []
theorem dksJ4_length_0 : cJ4_length.data.toList.drop 0 = dktJ4_length_0 := by decide +kernel
theorem dJ4_length_0 : decode cJ4_length 0 = .ok (.aload_n 0, 1) := dk_42 (dk_at dksJ4_length_0 0 rfl rfl)
theorem dJ4_length_1 : decode cJ4_length 1 = .ok (.getfield 9, 3) := dk_180 0 9 (dk_at dksJ4_length_0 1 rfl rfl)
theorem dJ4_length_4 : decode cJ4_length 4 = .ok (.arraylength, 1) := dk_190 (dk_at dksJ4_length_0 4 rfl rfl)
theorem dJ4_length_5 : decode cJ4_length 5 = .ok (.aload_n 0, 1) := dk_42 (dk_at dksJ4_length_0 5 rfl rfl)
theorem dJ4_length_6 : decode cJ4_length 6 = .ok (.invokevirtual 335, 3) := dk_182 1 79 (dk_at dksJ4_length_0 6 rfl rfl)
theorem dJ4_length_9 : decode cJ4_length 9 = .ok (.ishr, 1) := dk_122 (dk_at dksJ4_length_0 9 rfl rfl)
theorem dJ4_length_10 : decode cJ4_length 10 = .ok (.ireturn, 1) := dk_172 (dk_at dksJ4_length_0 10 rfl rfl)
abbrev cJ4_coder : ByteArray := prog_26_method_152_code
def yJ4_coder : MethodName := ⟨RJ4, "coder", "()B"⟩
def dkwJ4_coder_0 : List UInt8 := [178, 0, 38, 153, 0, 10, 42, 180, 0, 15, 167, 0, 4, 4, 172]
abbrev dktJ4_coder_0 : List UInt8 := dkwJ4_coder_0 ++ []
theorem dksJ4_coder_0 : cJ4_coder.data.toList.drop 0 = dktJ4_coder_0 := by decide +kernel
theorem dJ4_coder_0 : decode cJ4_coder 0 = .ok (.getstatic 38, 3) := dk_178 0 38 (dk_at dksJ4_coder_0 0 rfl rfl)
theorem dJ4_coder_3 : decode cJ4_coder 3 = .ok (.ifCond .eq 10, 3) := dk_153 0 10 (dk_at dksJ4_coder_0 3 rfl rfl)
theorem dJ4_coder_6 : decode cJ4_coder 6 = .ok (.aload_n 0, 1) := dk_42 (dk_at dksJ4_coder_0 6 rfl rfl)
theorem dJ4_coder_7 : decode cJ4_coder 7 = .ok (.getfield 15, 3) := dk_180 0 15 (dk_at dksJ4_coder_0 7 rfl rfl)
theorem dJ4_coder_10 : decode cJ4_coder 10 = .ok (.goto 4, 3) := dk_167 0 4 (dk_at dksJ4_coder_0 10 rfl rfl)
theorem dJ4_coder_13 : decode cJ4_coder 13 = .ok (.iconst 1, 1) := dk_4 (dk_at dksJ4_coder_0 13 rfl rfl)
theorem dJ4_coder_14 : decode cJ4_coder 14 = .ok (.ireturn, 1) := dk_172 (dk_at dksJ4_coder_0 14 rfl rfl)
abbrev cJ4_charAt : ByteArray := prog_26_method_56_code
def yJ4_charAt : MethodName := ⟨RJ4, "charAt", "(I)C"⟩
def dkwJ4_charAt_1 : List UInt8 := [172]
abbrev dktJ4_charAt_1 : List UInt8 := dkwJ4_charAt_1 ++ []
def dkwJ4_charAt_0 : List UInt8 := [42, 182, 1, 236, 153, 0, 12, 42, 180, 0, 9, 27, 184, 1, 239, 172, 42, 180, 0, 9, 27, 184, 1, 242]
abbrev dktJ4_charAt_0 : List UInt8 := dkwJ4_charAt_0 ++ dktJ4_charAt_1
theorem dksJ4_charAt_0 : cJ4_charAt.data.toList.drop 0 = dktJ4_charAt_0 := by decide +kernel
theorem dksJ4_charAt_1 : cJ4_charAt.data.toList.drop 24 = dktJ4_charAt_1 := dk_seg dksJ4_charAt_0 24 rfl rfl
theorem dJ4_charAt_0 : decode cJ4_charAt 0 = .ok (.aload_n 0, 1) := dk_42 (dk_at dksJ4_charAt_0 0 rfl rfl)
theorem dJ4_charAt_1 : decode cJ4_charAt 1 = .ok (.invokevirtual 492, 3) := dk_182 1 236 (dk_at dksJ4_charAt_0 1 rfl rfl)
theorem dJ4_charAt_4 : decode cJ4_charAt 4 = .ok (.ifCond .eq 12, 3) := dk_153 0 12 (dk_at dksJ4_charAt_0 4 rfl rfl)
theorem dJ4_charAt_7 : decode cJ4_charAt 7 = .ok (.aload_n 0, 1) := dk_42 (dk_at dksJ4_charAt_0 7 rfl rfl)
theorem dJ4_charAt_8 : decode cJ4_charAt 8 = .ok (.getfield 9, 3) := dk_180 0 9 (dk_at dksJ4_charAt_0 8 rfl rfl)
theorem dJ4_charAt_11 : decode cJ4_charAt 11 = .ok (.iload_n 1, 1) := dk_27 (dk_at dksJ4_charAt_0 11 rfl rfl)
theorem dJ4_charAt_12 : decode cJ4_charAt 12 = .ok (.invokestatic 495, 3) := dk_184 1 239 (dk_at dksJ4_charAt_0 12 rfl rfl)
theorem dJ4_charAt_15 : decode cJ4_charAt 15 = .ok (.ireturn, 1) := dk_172 (dk_at dksJ4_charAt_0 15 rfl rfl)
theorem dJ4_charAt_16 : decode cJ4_charAt 16 = .ok (.aload_n 0, 1) := dk_42 (dk_at dksJ4_charAt_0 16 rfl rfl)
theorem dJ4_charAt_17 : decode cJ4_charAt 17 = .ok (.getfield 9, 3) := dk_180 0 9 (dk_at dksJ4_charAt_0 17 rfl rfl)
theorem dJ4_charAt_20 : decode cJ4_charAt 20 = .ok (.iload_n 1, 1) := dk_27 (dk_at dksJ4_charAt_0 20 rfl rfl)
theorem dJ4_charAt_21 : decode cJ4_charAt 21 = .ok (.invokestatic 498, 3) := dk_184 1 242 (dk_at dksJ4_charAt_0 21 rfl rfl)
theorem dJ4_charAt_24 : decode cJ4_charAt 24 = .ok (.ireturn, 1) := dk_172 (dk_at dksJ4_charAt_1 0 rfl rfl)
abbrev cJ4_isLatin1 : ByteArray := prog_26_method_154_code
def yJ4_isLatin1 : MethodName := ⟨RJ4, "isLatin1", "()Z"⟩
def dkwJ4_isLatin1_0 : List UInt8 := [178, 0, 38, 153, 0, 14, 42, 180, 0, 15, 154, 0, 7, 4, 167, 0, 4, 3, 172]
abbrev dktJ4_isLatin1_0 : List UInt8 := dkwJ4_isLatin1_0 ++ []
theorem dksJ4_isLatin1_0 : cJ4_isLatin1.data.toList.drop 0 = dktJ4_isLatin1_0 := by decide +kernel
theorem dJ4_isLatin1_0 : decode cJ4_isLatin1 0 = .ok (.getstatic 38, 3) := dk_178 0 38 (dk_at dksJ4_isLatin1_0 0 rfl rfl)
theorem dJ4_isLatin1_3 : decode cJ4_isLatin1 3 = .ok (.ifCond .eq 14, 3) := dk_153 0 14 (dk_at dksJ4_isLatin1_0 3 rfl rfl)
theorem dJ4_isLatin1_6 : decode cJ4_isLatin1 6 = .ok (.aload_n 0, 1) := dk_42 (dk_at dksJ4_isLatin1_0 6 rfl rfl)
theorem dJ4_isLatin1_7 : decode cJ4_isLatin1 7 = .ok (.getfield 15, 3) := dk_180 0 15 (dk_at dksJ4_isLatin1_0 7 rfl rfl)
theorem dJ4_isLatin1_10 : decode cJ4_isLatin1 10 = .ok (.ifCond .ne 7, 3) := dk_154 0 7 (dk_at dksJ4_isLatin1_0 10 rfl rfl)
theorem dJ4_isLatin1_13 : decode cJ4_isLatin1 13 = .ok (.iconst 1, 1) := dk_4 (dk_at dksJ4_isLatin1_0 13 rfl rfl)
theorem dJ4_isLatin1_14 : decode cJ4_isLatin1 14 = .ok (.goto 4, 3) := dk_167 0 4 (dk_at dksJ4_isLatin1_0 14 rfl rfl)
theorem dJ4_isLatin1_17 : decode cJ4_isLatin1 17 = .ok (.iconst 0, 1) := dk_3 (dk_at dksJ4_isLatin1_0 17 rfl rfl)
theorem dJ4_isLatin1_18 : decode cJ4_isLatin1 18 = .ok (.ireturn, 1) := dk_172 (dk_at dksJ4_isLatin1_0 18 rfl rfl)
abbrev cJ4_checkIndex : ByteArray := prog_26_method_155_code
def yJ4_checkIndex : MethodName := ⟨RJ4, "checkIndex", "(II)V"⟩
def dkwJ4_checkIndex_0 : List UInt8 := [26, 27, 178, 4, 29, 184, 4, 35, 87, 177]
abbrev dktJ4_checkIndex_0 : List UInt8 := dkwJ4_checkIndex_0 ++ []
theorem dksJ4_checkIndex_0 : cJ4_checkIndex.data.toList.drop 0 = dktJ4_checkIndex_0 := by decide +kernel
theorem dJ4_checkIndex_0 : decode cJ4_checkIndex 0 = .ok (.iload_n 0, 1) := dk_26 (dk_at dksJ4_checkIndex_0 0 rfl rfl)
theorem dJ4_checkIndex_1 : decode cJ4_checkIndex 1 = .ok (.iload_n 1, 1) := dk_27 (dk_at dksJ4_checkIndex_0 1 rfl rfl)
theorem dJ4_checkIndex_2 : decode cJ4_checkIndex 2 = .ok (.getstatic 1053, 3) := dk_178 4 29 (dk_at dksJ4_checkIndex_0 2 rfl rfl)
theorem dJ4_checkIndex_5 : decode cJ4_checkIndex 5 = .ok (.invokestatic 1059, 3) := dk_184 4 35 (dk_at dksJ4_checkIndex_0 5 rfl rfl)
theorem dJ4_checkIndex_8 : decode cJ4_checkIndex 8 = .ok (.pop, 1) := dk_87 (dk_at dksJ4_checkIndex_0 8 rfl rfl)
theorem dJ4_checkIndex_9 : decode cJ4_checkIndex 9 = .ok (.return_, 1) := dk_177 (dk_at dksJ4_checkIndex_0 9 rfl rfl)
abbrev cJ5_init : ByteArray := prog_20_method_2_code
def yJ5_init : MethodName := ⟨RJ5, "<init>", "(Ljava/lang/String;)V"⟩
def dkwJ5_init_0 : List UInt8 := [42, 43, 183, 0, 7, 177]
abbrev dktJ5_init_0 : List UInt8 := dkwJ5_init_0 ++ []
theorem dksJ5_init_0 : cJ5_init.data.toList.drop 0 = dktJ5_init_0 := by decide +kernel
theorem dJ5_init_0 : decode cJ5_init 0 = .ok (.aload_n 0, 1) := dk_42 (dk_at dksJ5_init_0 0 rfl rfl)
theorem dJ5_init_1 : decode cJ5_init 1 = .ok (.aload_n 1, 1) := dk_43 (dk_at dksJ5_init_0 1 rfl rfl)
theorem dJ5_init_2 : decode cJ5_init 2 = .ok (.invokespecial 7, 3) := dk_183 0 7 (dk_at dksJ5_init_0 2 rfl rfl)
theorem dJ5_init_5 : decode cJ5_init 5 = .ok (.return_, 1) := dk_177 (dk_at dksJ5_init_0 5 rfl rfl)
abbrev cJ6_init : ByteArray := prog_18_method_2_code
def yJ6_init : MethodName := ⟨RJ6, "<init>", "(Ljava/lang/String;)V"⟩
def dkwJ6_init_0 : List UInt8 := [42, 43, 183, 0, 7, 177]
abbrev dktJ6_init_0 : List UInt8 := dkwJ6_init_0 ++ []
theorem dksJ6_init_0 : cJ6_init.data.toList.drop 0 = dktJ6_init_0 := by decide +kernel
theorem dJ6_init_0 : decode cJ6_init 0 = .ok (.aload_n 0, 1) := dk_42 (dk_at dksJ6_init_0 0 rfl rfl)
theorem dJ6_init_1 : decode cJ6_init 1 = .ok (.aload_n 1, 1) := dk_43 (dk_at dksJ6_init_0 1 rfl rfl)
theorem dJ6_init_2 : decode cJ6_init 2 = .ok (.invokespecial 7, 3) := dk_183 0 7 (dk_at dksJ6_init_0 2 rfl rfl)
theorem dJ6_init_5 : decode cJ6_init 5 = .ok (.return_, 1) := dk_177 (dk_at dksJ6_init_0 5 rfl rfl)
abbrev cX9_init : ByteArray := prog_11_method_1_code
def yX9_init : MethodName := ⟨RX9, "<init>", "(LLastPebble;I)V"⟩
def dkwX9_init_0 : List UInt8 := [42, 43, 181, 0, 3, 42, 183, 0, 9, 42, 28, 181, 0, 15, 42, 182, 0, 19, 177]
abbrev dktX9_init_0 : List UInt8 := dkwX9_init_0 ++ []
theorem dksX9_init_0 : cX9_init.data.toList.drop 0 = dktX9_init_0 := by decide +kernel
theorem dX9_init_0 : decode cX9_init 0 = .ok (.aload_n 0, 1) := dk_42 (dk_at dksX9_init_0 0 rfl rfl)
theorem dX9_init_1 : decode cX9_init 1 = .ok (.aload_n 1, 1) := dk_43 (dk_at dksX9_init_0 1 rfl rfl)
theorem dX9_init_2 : decode cX9_init 2 = .ok (.putfield 3, 3) := dk_181 0 3 (dk_at dksX9_init_0 2 rfl rfl)
theorem dX9_init_5 : decode cX9_init 5 = .ok (.aload_n 0, 1) := dk_42 (dk_at dksX9_init_0 5 rfl rfl)
theorem dX9_init_6 : decode cX9_init 6 = .ok (.invokespecial 9, 3) := dk_183 0 9 (dk_at dksX9_init_0 6 rfl rfl)
theorem dX9_init_9 : decode cX9_init 9 = .ok (.aload_n 0, 1) := dk_42 (dk_at dksX9_init_0 9 rfl rfl)
theorem dX9_init_10 : decode cX9_init 10 = .ok (.iload_n 2, 1) := dk_28 (dk_at dksX9_init_0 10 rfl rfl)
theorem dX9_init_11 : decode cX9_init 11 = .ok (.putfield 15, 3) := dk_181 0 15 (dk_at dksX9_init_0 11 rfl rfl)
theorem dX9_init_14 : decode cX9_init 14 = .ok (.aload_n 0, 1) := dk_42 (dk_at dksX9_init_0 14 rfl rfl)
theorem dX9_init_15 : decode cX9_init 15 = .ok (.invokevirtual 19, 3) := dk_182 0 19 (dk_at dksX9_init_0 15 rfl rfl)
theorem dX9_init_18 : decode cX9_init 18 = .ok (.return_, 1) := dk_177 (dk_at dksX9_init_0 18 rfl rfl)
abbrev cX9_next : ByteArray := prog_11_method_4_code
def yX9_next : MethodName := ⟨RX9, "next", "()V"⟩
def dkwX9_next_13 : List UInt8 := [180, 0, 22, 42, 180, 0, 29, 51, 16, 61, 160, 0, 7, 6, 167, 0, 4, 7, 181, 0, 32, 177]
abbrev dktX9_next_13 : List UInt8 := dkwX9_next_13 ++ []
def dkwX9_next_12 : List UInt8 := [159, 0, 37, 42, 180, 0, 3, 180, 0, 22, 42, 180, 0, 29, 51, 16, 62, 159, 0, 20, 42, 180, 0, 3]
abbrev dktX9_next_12 : List UInt8 := dkwX9_next_12 ++ dktX9_next_13
def dkwX9_next_11 : List UInt8 := [180, 0, 29, 51, 16, 59, 159, 0, 54, 42, 180, 0, 3, 180, 0, 22, 42, 180, 0, 29, 51, 16, 60]
abbrev dktX9_next_11 : List UInt8 := dkwX9_next_11 ++ dktX9_next_12
def dkwX9_next_10 : List UInt8 := [167, 0, 90, 42, 42, 180, 0, 29, 4, 96, 181, 0, 26, 42, 42, 180, 0, 3, 180, 0, 22, 42]
abbrev dktX9_next_10 : List UInt8 := dkwX9_next_10 ++ dktX9_next_11
def dkwX9_next_9 : List UInt8 := [42, 42, 180, 0, 26, 42, 180, 0, 29, 100, 7, 164, 0, 7, 7, 167, 0, 4, 5, 181, 0, 32]
abbrev dktX9_next_9 : List UInt8 := dkwX9_next_9 ++ dktX9_next_10
def dkwX9_next_8 : List UInt8 := [180, 0, 26, 51, 96, 16, 48, 100, 181, 0, 42, 42, 89, 180, 0, 26, 4, 96, 181, 0, 26, 167, 255, 195]
abbrev dktX9_next_8 : List UInt8 := dkwX9_next_8 ++ dktX9_next_9
def dkwX9_next_7 : List UInt8 := [180, 0, 29, 100, 7, 162, 0, 30, 42, 16, 10, 42, 180, 0, 42, 104, 42, 180, 0, 3, 180, 0, 22, 42]
abbrev dktX9_next_7 : List UInt8 := dkwX9_next_7 ++ dktX9_next_8
def dkwX9_next_6 : List UInt8 := [153, 0, 97, 42, 3, 181, 0, 42, 42, 42, 180, 0, 26, 182, 0, 39, 153, 0, 56, 42, 180, 0, 26, 42]
abbrev dktX9_next_6 : List UInt8 := dkwX9_next_6 ++ dktX9_next_7
def dkwX9_next_5 : List UInt8 := [153, 0, 208, 42, 89, 180, 0, 26, 4, 96, 181, 0, 26, 167, 255, 235, 42, 42, 180, 0, 29, 182, 0, 39]
abbrev dktX9_next_5 : List UInt8 := dkwX9_next_5 ++ dktX9_next_6
def dkwX9_next_4 : List UInt8 := [180, 0, 29, 182, 0, 35, 153, 0, 32, 42, 4, 181, 0, 32, 42, 42, 180, 0, 26, 182, 0, 35]
abbrev dktX9_next_4 : List UInt8 := dkwX9_next_4 ++ dktX9_next_5
def dkwX9_next_3 : List UInt8 := [181, 0, 26, 42, 3, 181, 0, 32, 42, 180, 0, 29, 42, 180, 0, 15, 161, 0, 4, 177, 42, 42]
abbrev dktX9_next_3 : List UInt8 := dkwX9_next_3 ++ dktX9_next_4
def dkwX9_next_2 : List UInt8 := [51, 16, 32, 160, 0, 16, 42, 89, 180, 0, 29, 4, 96, 181, 0, 29, 167, 255, 201, 42, 42, 180, 0, 29]
abbrev dktX9_next_2 : List UInt8 := dkwX9_next_2 ++ dktX9_next_3
def dkwX9_next_1 : List UInt8 := [180, 0, 22, 42, 180, 0, 29, 51, 16, 10, 159, 0, 20, 42, 180, 0, 3, 180, 0, 22, 42, 180, 0, 29]
abbrev dktX9_next_1 : List UInt8 := dkwX9_next_1 ++ dktX9_next_2
def dkwX9_next_0 : List UInt8 := [42, 42, 180, 0, 26, 181, 0, 29, 42, 180, 0, 29, 42, 180, 0, 15, 162, 0, 50, 42, 180, 0, 3]
abbrev dktX9_next_0 : List UInt8 := dkwX9_next_0 ++ dktX9_next_1
theorem dksX9_next_0 : cX9_next.data.toList.drop 0 = dktX9_next_0 := by decide +kernel
theorem dksX9_next_1 : cX9_next.data.toList.drop 23 = dktX9_next_1 := dk_seg dksX9_next_0 23 rfl rfl
theorem dksX9_next_2 : cX9_next.data.toList.drop 47 = dktX9_next_2 := dk_seg dksX9_next_1 24 rfl rfl
theorem dksX9_next_3 : cX9_next.data.toList.drop 71 = dktX9_next_3 := dk_seg dksX9_next_2 24 rfl rfl
theorem dksX9_next_4 : cX9_next.data.toList.drop 93 = dktX9_next_4 := dk_seg dksX9_next_3 22 rfl rfl
theorem dksX9_next_5 : cX9_next.data.toList.drop 115 = dktX9_next_5 := dk_seg dksX9_next_4 22 rfl rfl
theorem dksX9_next_6 : cX9_next.data.toList.drop 139 = dktX9_next_6 := dk_seg dksX9_next_5 24 rfl rfl
theorem dksX9_next_7 : cX9_next.data.toList.drop 163 = dktX9_next_7 := dk_seg dksX9_next_6 24 rfl rfl
theorem dksX9_next_8 : cX9_next.data.toList.drop 187 = dktX9_next_8 := dk_seg dksX9_next_7 24 rfl rfl
theorem dksX9_next_9 : cX9_next.data.toList.drop 211 = dktX9_next_9 := dk_seg dksX9_next_8 24 rfl rfl
theorem dksX9_next_10 : cX9_next.data.toList.drop 233 = dktX9_next_10 := dk_seg dksX9_next_9 22 rfl rfl
theorem dksX9_next_11 : cX9_next.data.toList.drop 255 = dktX9_next_11 := dk_seg dksX9_next_10 22 rfl rfl
theorem dksX9_next_12 : cX9_next.data.toList.drop 278 = dktX9_next_12 := dk_seg dksX9_next_11 23 rfl rfl
theorem dksX9_next_13 : cX9_next.data.toList.drop 302 = dktX9_next_13 := dk_seg dksX9_next_12 24 rfl rfl
theorem dX9_next_0 : decode cX9_next 0 = .ok (.aload_n 0, 1) := dk_42 (dk_at dksX9_next_0 0 rfl rfl)
theorem dX9_next_1 : decode cX9_next 1 = .ok (.aload_n 0, 1) := dk_42 (dk_at dksX9_next_0 1 rfl rfl)
theorem dX9_next_2 : decode cX9_next 2 = .ok (.getfield 26, 3) := dk_180 0 26 (dk_at dksX9_next_0 2 rfl rfl)
theorem dX9_next_5 : decode cX9_next 5 = .ok (.putfield 29, 3) := dk_181 0 29 (dk_at dksX9_next_0 5 rfl rfl)
theorem dX9_next_8 : decode cX9_next 8 = .ok (.aload_n 0, 1) := dk_42 (dk_at dksX9_next_0 8 rfl rfl)
theorem dX9_next_9 : decode cX9_next 9 = .ok (.getfield 29, 3) := dk_180 0 29 (dk_at dksX9_next_0 9 rfl rfl)
theorem dX9_next_12 : decode cX9_next 12 = .ok (.aload_n 0, 1) := dk_42 (dk_at dksX9_next_0 12 rfl rfl)
theorem dX9_next_13 : decode cX9_next 13 = .ok (.getfield 15, 3) := dk_180 0 15 (dk_at dksX9_next_0 13 rfl rfl)
theorem dX9_next_16 : decode cX9_next 16 = .ok (.if_icmp .ge 50, 3) := dk_162 0 50 (dk_at dksX9_next_0 16 rfl rfl)
theorem dX9_next_19 : decode cX9_next 19 = .ok (.aload_n 0, 1) := dk_42 (dk_at dksX9_next_0 19 rfl rfl)
theorem dX9_next_20 : decode cX9_next 20 = .ok (.getfield 3, 3) := dk_180 0 3 (dk_at dksX9_next_0 20 rfl rfl)
theorem dX9_next_23 : decode cX9_next 23 = .ok (.getfield 22, 3) := dk_180 0 22 (dk_at dksX9_next_1 0 rfl rfl)
theorem dX9_next_26 : decode cX9_next 26 = .ok (.aload_n 0, 1) := dk_42 (dk_at dksX9_next_1 3 rfl rfl)
theorem dX9_next_27 : decode cX9_next 27 = .ok (.getfield 29, 3) := dk_180 0 29 (dk_at dksX9_next_1 4 rfl rfl)
theorem dX9_next_30 : decode cX9_next 30 = .ok (.baload, 1) := dk_51 (dk_at dksX9_next_1 7 rfl rfl)
theorem dX9_next_31 : decode cX9_next 31 = .ok (.bipush 10, 2) := dk_16 10 (dk_at dksX9_next_1 8 rfl rfl)
theorem dX9_next_33 : decode cX9_next 33 = .ok (.if_icmp .eq 20, 3) := dk_159 0 20 (dk_at dksX9_next_1 10 rfl rfl)
theorem dX9_next_36 : decode cX9_next 36 = .ok (.aload_n 0, 1) := dk_42 (dk_at dksX9_next_1 13 rfl rfl)
theorem dX9_next_37 : decode cX9_next 37 = .ok (.getfield 3, 3) := dk_180 0 3 (dk_at dksX9_next_1 14 rfl rfl)
theorem dX9_next_40 : decode cX9_next 40 = .ok (.getfield 22, 3) := dk_180 0 22 (dk_at dksX9_next_1 17 rfl rfl)
theorem dX9_next_43 : decode cX9_next 43 = .ok (.aload_n 0, 1) := dk_42 (dk_at dksX9_next_1 20 rfl rfl)
theorem dX9_next_44 : decode cX9_next 44 = .ok (.getfield 29, 3) := dk_180 0 29 (dk_at dksX9_next_1 21 rfl rfl)
theorem dX9_next_47 : decode cX9_next 47 = .ok (.baload, 1) := dk_51 (dk_at dksX9_next_2 0 rfl rfl)
theorem dX9_next_48 : decode cX9_next 48 = .ok (.bipush 32, 2) := dk_16 32 (dk_at dksX9_next_2 1 rfl rfl)
theorem dX9_next_50 : decode cX9_next 50 = .ok (.if_icmp .ne 16, 3) := dk_160 0 16 (dk_at dksX9_next_2 3 rfl rfl)
theorem dX9_next_53 : decode cX9_next 53 = .ok (.aload_n 0, 1) := dk_42 (dk_at dksX9_next_2 6 rfl rfl)
theorem dX9_next_54 : decode cX9_next 54 = .ok (.dup, 1) := dk_89 (dk_at dksX9_next_2 7 rfl rfl)
theorem dX9_next_55 : decode cX9_next 55 = .ok (.getfield 29, 3) := dk_180 0 29 (dk_at dksX9_next_2 8 rfl rfl)
theorem dX9_next_58 : decode cX9_next 58 = .ok (.iconst 1, 1) := dk_4 (dk_at dksX9_next_2 11 rfl rfl)
theorem dX9_next_59 : decode cX9_next 59 = .ok (.iadd, 1) := dk_96 (dk_at dksX9_next_2 12 rfl rfl)
theorem dX9_next_60 : decode cX9_next 60 = .ok (.putfield 29, 3) := dk_181 0 29 (dk_at dksX9_next_2 13 rfl rfl)
theorem dX9_next_63 : decode cX9_next 63 = .ok (.goto (-55), 3) := dk_167 255 201 (dk_at dksX9_next_2 16 rfl rfl)
theorem dX9_next_66 : decode cX9_next 66 = .ok (.aload_n 0, 1) := dk_42 (dk_at dksX9_next_2 19 rfl rfl)
theorem dX9_next_67 : decode cX9_next 67 = .ok (.aload_n 0, 1) := dk_42 (dk_at dksX9_next_2 20 rfl rfl)
theorem dX9_next_68 : decode cX9_next 68 = .ok (.getfield 29, 3) := dk_180 0 29 (dk_at dksX9_next_2 21 rfl rfl)
theorem dX9_next_71 : decode cX9_next 71 = .ok (.putfield 26, 3) := dk_181 0 26 (dk_at dksX9_next_3 0 rfl rfl)
theorem dX9_next_74 : decode cX9_next 74 = .ok (.aload_n 0, 1) := dk_42 (dk_at dksX9_next_3 3 rfl rfl)
theorem dX9_next_75 : decode cX9_next 75 = .ok (.iconst 0, 1) := dk_3 (dk_at dksX9_next_3 4 rfl rfl)
theorem dX9_next_76 : decode cX9_next 76 = .ok (.putfield 32, 3) := dk_181 0 32 (dk_at dksX9_next_3 5 rfl rfl)
theorem dX9_next_79 : decode cX9_next 79 = .ok (.aload_n 0, 1) := dk_42 (dk_at dksX9_next_3 8 rfl rfl)
theorem dX9_next_80 : decode cX9_next 80 = .ok (.getfield 29, 3) := dk_180 0 29 (dk_at dksX9_next_3 9 rfl rfl)
theorem dX9_next_83 : decode cX9_next 83 = .ok (.aload_n 0, 1) := dk_42 (dk_at dksX9_next_3 12 rfl rfl)
theorem dX9_next_84 : decode cX9_next 84 = .ok (.getfield 15, 3) := dk_180 0 15 (dk_at dksX9_next_3 13 rfl rfl)
theorem dX9_next_87 : decode cX9_next 87 = .ok (.if_icmp .lt 4, 3) := dk_161 0 4 (dk_at dksX9_next_3 16 rfl rfl)
theorem dX9_next_90 : decode cX9_next 90 = .ok (.return_, 1) := dk_177 (dk_at dksX9_next_3 19 rfl rfl)
theorem dX9_next_91 : decode cX9_next 91 = .ok (.aload_n 0, 1) := dk_42 (dk_at dksX9_next_3 20 rfl rfl)
theorem dX9_next_92 : decode cX9_next 92 = .ok (.aload_n 0, 1) := dk_42 (dk_at dksX9_next_3 21 rfl rfl)
theorem dX9_next_93 : decode cX9_next 93 = .ok (.getfield 29, 3) := dk_180 0 29 (dk_at dksX9_next_4 0 rfl rfl)
theorem dX9_next_96 : decode cX9_next 96 = .ok (.invokevirtual 35, 3) := dk_182 0 35 (dk_at dksX9_next_4 3 rfl rfl)
theorem dX9_next_99 : decode cX9_next 99 = .ok (.ifCond .eq 32, 3) := dk_153 0 32 (dk_at dksX9_next_4 6 rfl rfl)
theorem dX9_next_102 : decode cX9_next 102 = .ok (.aload_n 0, 1) := dk_42 (dk_at dksX9_next_4 9 rfl rfl)
theorem dX9_next_103 : decode cX9_next 103 = .ok (.iconst 1, 1) := dk_4 (dk_at dksX9_next_4 10 rfl rfl)
theorem dX9_next_104 : decode cX9_next 104 = .ok (.putfield 32, 3) := dk_181 0 32 (dk_at dksX9_next_4 11 rfl rfl)
theorem dX9_next_107 : decode cX9_next 107 = .ok (.aload_n 0, 1) := dk_42 (dk_at dksX9_next_4 14 rfl rfl)
theorem dX9_next_108 : decode cX9_next 108 = .ok (.aload_n 0, 1) := dk_42 (dk_at dksX9_next_4 15 rfl rfl)
theorem dX9_next_109 : decode cX9_next 109 = .ok (.getfield 26, 3) := dk_180 0 26 (dk_at dksX9_next_4 16 rfl rfl)
theorem dX9_next_112 : decode cX9_next 112 = .ok (.invokevirtual 35, 3) := dk_182 0 35 (dk_at dksX9_next_4 19 rfl rfl)
theorem dX9_next_115 : decode cX9_next 115 = .ok (.ifCond .eq 208, 3) := dk_153 0 208 (dk_at dksX9_next_5 0 rfl rfl)
theorem dX9_next_118 : decode cX9_next 118 = .ok (.aload_n 0, 1) := dk_42 (dk_at dksX9_next_5 3 rfl rfl)
theorem dX9_next_119 : decode cX9_next 119 = .ok (.dup, 1) := dk_89 (dk_at dksX9_next_5 4 rfl rfl)
theorem dX9_next_120 : decode cX9_next 120 = .ok (.getfield 26, 3) := dk_180 0 26 (dk_at dksX9_next_5 5 rfl rfl)
theorem dX9_next_123 : decode cX9_next 123 = .ok (.iconst 1, 1) := dk_4 (dk_at dksX9_next_5 8 rfl rfl)
theorem dX9_next_124 : decode cX9_next 124 = .ok (.iadd, 1) := dk_96 (dk_at dksX9_next_5 9 rfl rfl)
theorem dX9_next_125 : decode cX9_next 125 = .ok (.putfield 26, 3) := dk_181 0 26 (dk_at dksX9_next_5 10 rfl rfl)
theorem dX9_next_128 : decode cX9_next 128 = .ok (.goto (-21), 3) := dk_167 255 235 (dk_at dksX9_next_5 13 rfl rfl)
theorem dX9_next_131 : decode cX9_next 131 = .ok (.aload_n 0, 1) := dk_42 (dk_at dksX9_next_5 16 rfl rfl)
theorem dX9_next_132 : decode cX9_next 132 = .ok (.aload_n 0, 1) := dk_42 (dk_at dksX9_next_5 17 rfl rfl)
theorem dX9_next_133 : decode cX9_next 133 = .ok (.getfield 29, 3) := dk_180 0 29 (dk_at dksX9_next_5 18 rfl rfl)
theorem dX9_next_136 : decode cX9_next 136 = .ok (.invokevirtual 39, 3) := dk_182 0 39 (dk_at dksX9_next_5 21 rfl rfl)
theorem dX9_next_139 : decode cX9_next 139 = .ok (.ifCond .eq 97, 3) := dk_153 0 97 (dk_at dksX9_next_6 0 rfl rfl)
theorem dX9_next_142 : decode cX9_next 142 = .ok (.aload_n 0, 1) := dk_42 (dk_at dksX9_next_6 3 rfl rfl)
theorem dX9_next_143 : decode cX9_next 143 = .ok (.iconst 0, 1) := dk_3 (dk_at dksX9_next_6 4 rfl rfl)
theorem dX9_next_144 : decode cX9_next 144 = .ok (.putfield 42, 3) := dk_181 0 42 (dk_at dksX9_next_6 5 rfl rfl)
theorem dX9_next_147 : decode cX9_next 147 = .ok (.aload_n 0, 1) := dk_42 (dk_at dksX9_next_6 8 rfl rfl)
theorem dX9_next_148 : decode cX9_next 148 = .ok (.aload_n 0, 1) := dk_42 (dk_at dksX9_next_6 9 rfl rfl)
theorem dX9_next_149 : decode cX9_next 149 = .ok (.getfield 26, 3) := dk_180 0 26 (dk_at dksX9_next_6 10 rfl rfl)
theorem dX9_next_152 : decode cX9_next 152 = .ok (.invokevirtual 39, 3) := dk_182 0 39 (dk_at dksX9_next_6 13 rfl rfl)
theorem dX9_next_155 : decode cX9_next 155 = .ok (.ifCond .eq 56, 3) := dk_153 0 56 (dk_at dksX9_next_6 16 rfl rfl)
theorem dX9_next_158 : decode cX9_next 158 = .ok (.aload_n 0, 1) := dk_42 (dk_at dksX9_next_6 19 rfl rfl)
theorem dX9_next_159 : decode cX9_next 159 = .ok (.getfield 26, 3) := dk_180 0 26 (dk_at dksX9_next_6 20 rfl rfl)
theorem dX9_next_162 : decode cX9_next 162 = .ok (.aload_n 0, 1) := dk_42 (dk_at dksX9_next_6 23 rfl rfl)
theorem dX9_next_163 : decode cX9_next 163 = .ok (.getfield 29, 3) := dk_180 0 29 (dk_at dksX9_next_7 0 rfl rfl)
theorem dX9_next_166 : decode cX9_next 166 = .ok (.isub, 1) := dk_100 (dk_at dksX9_next_7 3 rfl rfl)
theorem dX9_next_167 : decode cX9_next 167 = .ok (.iconst 4, 1) := dk_7 (dk_at dksX9_next_7 4 rfl rfl)
theorem dX9_next_168 : decode cX9_next 168 = .ok (.if_icmp .ge 30, 3) := dk_162 0 30 (dk_at dksX9_next_7 5 rfl rfl)
theorem dX9_next_171 : decode cX9_next 171 = .ok (.aload_n 0, 1) := dk_42 (dk_at dksX9_next_7 8 rfl rfl)
theorem dX9_next_172 : decode cX9_next 172 = .ok (.bipush 10, 2) := dk_16 10 (dk_at dksX9_next_7 9 rfl rfl)
theorem dX9_next_174 : decode cX9_next 174 = .ok (.aload_n 0, 1) := dk_42 (dk_at dksX9_next_7 11 rfl rfl)
theorem dX9_next_175 : decode cX9_next 175 = .ok (.getfield 42, 3) := dk_180 0 42 (dk_at dksX9_next_7 12 rfl rfl)
theorem dX9_next_178 : decode cX9_next 178 = .ok (.imul, 1) := dk_104 (dk_at dksX9_next_7 15 rfl rfl)
theorem dX9_next_179 : decode cX9_next 179 = .ok (.aload_n 0, 1) := dk_42 (dk_at dksX9_next_7 16 rfl rfl)
theorem dX9_next_180 : decode cX9_next 180 = .ok (.getfield 3, 3) := dk_180 0 3 (dk_at dksX9_next_7 17 rfl rfl)
theorem dX9_next_183 : decode cX9_next 183 = .ok (.getfield 22, 3) := dk_180 0 22 (dk_at dksX9_next_7 20 rfl rfl)
theorem dX9_next_186 : decode cX9_next 186 = .ok (.aload_n 0, 1) := dk_42 (dk_at dksX9_next_7 23 rfl rfl)
theorem dX9_next_187 : decode cX9_next 187 = .ok (.getfield 26, 3) := dk_180 0 26 (dk_at dksX9_next_8 0 rfl rfl)
theorem dX9_next_190 : decode cX9_next 190 = .ok (.baload, 1) := dk_51 (dk_at dksX9_next_8 3 rfl rfl)
theorem dX9_next_191 : decode cX9_next 191 = .ok (.iadd, 1) := dk_96 (dk_at dksX9_next_8 4 rfl rfl)
theorem dX9_next_192 : decode cX9_next 192 = .ok (.bipush 48, 2) := dk_16 48 (dk_at dksX9_next_8 5 rfl rfl)
theorem dX9_next_194 : decode cX9_next 194 = .ok (.isub, 1) := dk_100 (dk_at dksX9_next_8 7 rfl rfl)
theorem dX9_next_195 : decode cX9_next 195 = .ok (.putfield 42, 3) := dk_181 0 42 (dk_at dksX9_next_8 8 rfl rfl)
theorem dX9_next_198 : decode cX9_next 198 = .ok (.aload_n 0, 1) := dk_42 (dk_at dksX9_next_8 11 rfl rfl)
theorem dX9_next_199 : decode cX9_next 199 = .ok (.dup, 1) := dk_89 (dk_at dksX9_next_8 12 rfl rfl)
theorem dX9_next_200 : decode cX9_next 200 = .ok (.getfield 26, 3) := dk_180 0 26 (dk_at dksX9_next_8 13 rfl rfl)
theorem dX9_next_203 : decode cX9_next 203 = .ok (.iconst 1, 1) := dk_4 (dk_at dksX9_next_8 16 rfl rfl)
theorem dX9_next_204 : decode cX9_next 204 = .ok (.iadd, 1) := dk_96 (dk_at dksX9_next_8 17 rfl rfl)
theorem dX9_next_205 : decode cX9_next 205 = .ok (.putfield 26, 3) := dk_181 0 26 (dk_at dksX9_next_8 18 rfl rfl)
theorem dX9_next_208 : decode cX9_next 208 = .ok (.goto (-61), 3) := dk_167 255 195 (dk_at dksX9_next_8 21 rfl rfl)
theorem dX9_next_211 : decode cX9_next 211 = .ok (.aload_n 0, 1) := dk_42 (dk_at dksX9_next_9 0 rfl rfl)
theorem dX9_next_212 : decode cX9_next 212 = .ok (.aload_n 0, 1) := dk_42 (dk_at dksX9_next_9 1 rfl rfl)
theorem dX9_next_213 : decode cX9_next 213 = .ok (.getfield 26, 3) := dk_180 0 26 (dk_at dksX9_next_9 2 rfl rfl)
theorem dX9_next_216 : decode cX9_next 216 = .ok (.aload_n 0, 1) := dk_42 (dk_at dksX9_next_9 5 rfl rfl)
theorem dX9_next_217 : decode cX9_next 217 = .ok (.getfield 29, 3) := dk_180 0 29 (dk_at dksX9_next_9 6 rfl rfl)
theorem dX9_next_220 : decode cX9_next 220 = .ok (.isub, 1) := dk_100 (dk_at dksX9_next_9 9 rfl rfl)
theorem dX9_next_221 : decode cX9_next 221 = .ok (.iconst 4, 1) := dk_7 (dk_at dksX9_next_9 10 rfl rfl)
theorem dX9_next_222 : decode cX9_next 222 = .ok (.if_icmp .le 7, 3) := dk_164 0 7 (dk_at dksX9_next_9 11 rfl rfl)
theorem dX9_next_225 : decode cX9_next 225 = .ok (.iconst 4, 1) := dk_7 (dk_at dksX9_next_9 14 rfl rfl)
theorem dX9_next_226 : decode cX9_next 226 = .ok (.goto 4, 3) := dk_167 0 4 (dk_at dksX9_next_9 15 rfl rfl)
theorem dX9_next_229 : decode cX9_next 229 = .ok (.iconst 2, 1) := dk_5 (dk_at dksX9_next_9 18 rfl rfl)
theorem dX9_next_230 : decode cX9_next 230 = .ok (.putfield 32, 3) := dk_181 0 32 (dk_at dksX9_next_9 19 rfl rfl)
theorem dX9_next_233 : decode cX9_next 233 = .ok (.goto 90, 3) := dk_167 0 90 (dk_at dksX9_next_10 0 rfl rfl)
theorem dX9_next_236 : decode cX9_next 236 = .ok (.aload_n 0, 1) := dk_42 (dk_at dksX9_next_10 3 rfl rfl)
theorem dX9_next_237 : decode cX9_next 237 = .ok (.aload_n 0, 1) := dk_42 (dk_at dksX9_next_10 4 rfl rfl)
theorem dX9_next_238 : decode cX9_next 238 = .ok (.getfield 29, 3) := dk_180 0 29 (dk_at dksX9_next_10 5 rfl rfl)
theorem dX9_next_241 : decode cX9_next 241 = .ok (.iconst 1, 1) := dk_4 (dk_at dksX9_next_10 8 rfl rfl)
theorem dX9_next_242 : decode cX9_next 242 = .ok (.iadd, 1) := dk_96 (dk_at dksX9_next_10 9 rfl rfl)
theorem dX9_next_243 : decode cX9_next 243 = .ok (.putfield 26, 3) := dk_181 0 26 (dk_at dksX9_next_10 10 rfl rfl)
theorem dX9_next_246 : decode cX9_next 246 = .ok (.aload_n 0, 1) := dk_42 (dk_at dksX9_next_10 13 rfl rfl)
theorem dX9_next_247 : decode cX9_next 247 = .ok (.aload_n 0, 1) := dk_42 (dk_at dksX9_next_10 14 rfl rfl)
theorem dX9_next_248 : decode cX9_next 248 = .ok (.getfield 3, 3) := dk_180 0 3 (dk_at dksX9_next_10 15 rfl rfl)
theorem dX9_next_251 : decode cX9_next 251 = .ok (.getfield 22, 3) := dk_180 0 22 (dk_at dksX9_next_10 18 rfl rfl)
theorem dX9_next_254 : decode cX9_next 254 = .ok (.aload_n 0, 1) := dk_42 (dk_at dksX9_next_10 21 rfl rfl)
theorem dX9_next_255 : decode cX9_next 255 = .ok (.getfield 29, 3) := dk_180 0 29 (dk_at dksX9_next_11 0 rfl rfl)
theorem dX9_next_258 : decode cX9_next 258 = .ok (.baload, 1) := dk_51 (dk_at dksX9_next_11 3 rfl rfl)
theorem dX9_next_259 : decode cX9_next 259 = .ok (.bipush 59, 2) := dk_16 59 (dk_at dksX9_next_11 4 rfl rfl)
theorem dX9_next_261 : decode cX9_next 261 = .ok (.if_icmp .eq 54, 3) := dk_159 0 54 (dk_at dksX9_next_11 6 rfl rfl)
theorem dX9_next_264 : decode cX9_next 264 = .ok (.aload_n 0, 1) := dk_42 (dk_at dksX9_next_11 9 rfl rfl)
theorem dX9_next_265 : decode cX9_next 265 = .ok (.getfield 3, 3) := dk_180 0 3 (dk_at dksX9_next_11 10 rfl rfl)
theorem dX9_next_268 : decode cX9_next 268 = .ok (.getfield 22, 3) := dk_180 0 22 (dk_at dksX9_next_11 13 rfl rfl)
theorem dX9_next_271 : decode cX9_next 271 = .ok (.aload_n 0, 1) := dk_42 (dk_at dksX9_next_11 16 rfl rfl)
theorem dX9_next_272 : decode cX9_next 272 = .ok (.getfield 29, 3) := dk_180 0 29 (dk_at dksX9_next_11 17 rfl rfl)
theorem dX9_next_275 : decode cX9_next 275 = .ok (.baload, 1) := dk_51 (dk_at dksX9_next_11 20 rfl rfl)
theorem dX9_next_276 : decode cX9_next 276 = .ok (.bipush 60, 2) := dk_16 60 (dk_at dksX9_next_11 21 rfl rfl)
theorem dX9_next_278 : decode cX9_next 278 = .ok (.if_icmp .eq 37, 3) := dk_159 0 37 (dk_at dksX9_next_12 0 rfl rfl)
theorem dX9_next_281 : decode cX9_next 281 = .ok (.aload_n 0, 1) := dk_42 (dk_at dksX9_next_12 3 rfl rfl)
theorem dX9_next_282 : decode cX9_next 282 = .ok (.getfield 3, 3) := dk_180 0 3 (dk_at dksX9_next_12 4 rfl rfl)
theorem dX9_next_285 : decode cX9_next 285 = .ok (.getfield 22, 3) := dk_180 0 22 (dk_at dksX9_next_12 7 rfl rfl)
theorem dX9_next_288 : decode cX9_next 288 = .ok (.aload_n 0, 1) := dk_42 (dk_at dksX9_next_12 10 rfl rfl)
theorem dX9_next_289 : decode cX9_next 289 = .ok (.getfield 29, 3) := dk_180 0 29 (dk_at dksX9_next_12 11 rfl rfl)
theorem dX9_next_292 : decode cX9_next 292 = .ok (.baload, 1) := dk_51 (dk_at dksX9_next_12 14 rfl rfl)
theorem dX9_next_293 : decode cX9_next 293 = .ok (.bipush 62, 2) := dk_16 62 (dk_at dksX9_next_12 15 rfl rfl)
theorem dX9_next_295 : decode cX9_next 295 = .ok (.if_icmp .eq 20, 3) := dk_159 0 20 (dk_at dksX9_next_12 17 rfl rfl)
theorem dX9_next_298 : decode cX9_next 298 = .ok (.aload_n 0, 1) := dk_42 (dk_at dksX9_next_12 20 rfl rfl)
theorem dX9_next_299 : decode cX9_next 299 = .ok (.getfield 3, 3) := dk_180 0 3 (dk_at dksX9_next_12 21 rfl rfl)
theorem dX9_next_302 : decode cX9_next 302 = .ok (.getfield 22, 3) := dk_180 0 22 (dk_at dksX9_next_13 0 rfl rfl)
theorem dX9_next_305 : decode cX9_next 305 = .ok (.aload_n 0, 1) := dk_42 (dk_at dksX9_next_13 3 rfl rfl)
theorem dX9_next_306 : decode cX9_next 306 = .ok (.getfield 29, 3) := dk_180 0 29 (dk_at dksX9_next_13 4 rfl rfl)
theorem dX9_next_309 : decode cX9_next 309 = .ok (.baload, 1) := dk_51 (dk_at dksX9_next_13 7 rfl rfl)
theorem dX9_next_310 : decode cX9_next 310 = .ok (.bipush 61, 2) := dk_16 61 (dk_at dksX9_next_13 8 rfl rfl)
theorem dX9_next_312 : decode cX9_next 312 = .ok (.if_icmp .ne 7, 3) := dk_160 0 7 (dk_at dksX9_next_13 10 rfl rfl)
theorem dX9_next_315 : decode cX9_next 315 = .ok (.iconst 3, 1) := dk_6 (dk_at dksX9_next_13 13 rfl rfl)
theorem dX9_next_316 : decode cX9_next 316 = .ok (.goto 4, 3) := dk_167 0 4 (dk_at dksX9_next_13 14 rfl rfl)
theorem dX9_next_319 : decode cX9_next 319 = .ok (.iconst 4, 1) := dk_7 (dk_at dksX9_next_13 17 rfl rfl)
theorem dX9_next_320 : decode cX9_next 320 = .ok (.putfield 32, 3) := dk_181 0 32 (dk_at dksX9_next_13 18 rfl rfl)
theorem dX9_next_323 : decode cX9_next 323 = .ok (.return_, 1) := dk_177 (dk_at dksX9_next_13 21 rfl rfl)
abbrev cX9_isLetter : ByteArray := prog_11_method_2_code
def yX9_isLetter : MethodName := ⟨RX9, "isLetter", "(I)Z"⟩
def dkwX9_isLetter_1 : List UInt8 := [180, 0, 3, 180, 0, 22, 27, 51, 16, 122, 163, 0, 7, 4, 167, 0, 4, 3, 172]
abbrev dktX9_isLetter_1 : List UInt8 := dkwX9_isLetter_1 ++ []
def dkwX9_isLetter_0 : List UInt8 := [27, 42, 180, 0, 15, 162, 0, 35, 42, 180, 0, 3, 180, 0, 22, 27, 51, 16, 97, 161, 0, 21, 42]
abbrev dktX9_isLetter_0 : List UInt8 := dkwX9_isLetter_0 ++ dktX9_isLetter_1
theorem dksX9_isLetter_0 : cX9_isLetter.data.toList.drop 0 = dktX9_isLetter_0 := by decide +kernel
theorem dksX9_isLetter_1 : cX9_isLetter.data.toList.drop 23 = dktX9_isLetter_1 := dk_seg dksX9_isLetter_0 23 rfl rfl
theorem dX9_isLetter_0 : decode cX9_isLetter 0 = .ok (.iload_n 1, 1) := dk_27 (dk_at dksX9_isLetter_0 0 rfl rfl)
theorem dX9_isLetter_1 : decode cX9_isLetter 1 = .ok (.aload_n 0, 1) := dk_42 (dk_at dksX9_isLetter_0 1 rfl rfl)
theorem dX9_isLetter_2 : decode cX9_isLetter 2 = .ok (.getfield 15, 3) := dk_180 0 15 (dk_at dksX9_isLetter_0 2 rfl rfl)
theorem dX9_isLetter_5 : decode cX9_isLetter 5 = .ok (.if_icmp .ge 35, 3) := dk_162 0 35 (dk_at dksX9_isLetter_0 5 rfl rfl)
theorem dX9_isLetter_8 : decode cX9_isLetter 8 = .ok (.aload_n 0, 1) := dk_42 (dk_at dksX9_isLetter_0 8 rfl rfl)
theorem dX9_isLetter_9 : decode cX9_isLetter 9 = .ok (.getfield 3, 3) := dk_180 0 3 (dk_at dksX9_isLetter_0 9 rfl rfl)
theorem dX9_isLetter_12 : decode cX9_isLetter 12 = .ok (.getfield 22, 3) := dk_180 0 22 (dk_at dksX9_isLetter_0 12 rfl rfl)
theorem dX9_isLetter_15 : decode cX9_isLetter 15 = .ok (.iload_n 1, 1) := dk_27 (dk_at dksX9_isLetter_0 15 rfl rfl)
theorem dX9_isLetter_16 : decode cX9_isLetter 16 = .ok (.baload, 1) := dk_51 (dk_at dksX9_isLetter_0 16 rfl rfl)
theorem dX9_isLetter_17 : decode cX9_isLetter 17 = .ok (.bipush 97, 2) := dk_16 97 (dk_at dksX9_isLetter_0 17 rfl rfl)
theorem dX9_isLetter_19 : decode cX9_isLetter 19 = .ok (.if_icmp .lt 21, 3) := dk_161 0 21 (dk_at dksX9_isLetter_0 19 rfl rfl)
theorem dX9_isLetter_22 : decode cX9_isLetter 22 = .ok (.aload_n 0, 1) := dk_42 (dk_at dksX9_isLetter_0 22 rfl rfl)
theorem dX9_isLetter_23 : decode cX9_isLetter 23 = .ok (.getfield 3, 3) := dk_180 0 3 (dk_at dksX9_isLetter_1 0 rfl rfl)
theorem dX9_isLetter_26 : decode cX9_isLetter 26 = .ok (.getfield 22, 3) := dk_180 0 22 (dk_at dksX9_isLetter_1 3 rfl rfl)
theorem dX9_isLetter_29 : decode cX9_isLetter 29 = .ok (.iload_n 1, 1) := dk_27 (dk_at dksX9_isLetter_1 6 rfl rfl)
theorem dX9_isLetter_30 : decode cX9_isLetter 30 = .ok (.baload, 1) := dk_51 (dk_at dksX9_isLetter_1 7 rfl rfl)
theorem dX9_isLetter_31 : decode cX9_isLetter 31 = .ok (.bipush 122, 2) := dk_16 122 (dk_at dksX9_isLetter_1 8 rfl rfl)
theorem dX9_isLetter_33 : decode cX9_isLetter 33 = .ok (.if_icmp .gt 7, 3) := dk_163 0 7 (dk_at dksX9_isLetter_1 10 rfl rfl)
theorem dX9_isLetter_36 : decode cX9_isLetter 36 = .ok (.iconst 1, 1) := dk_4 (dk_at dksX9_isLetter_1 13 rfl rfl)
theorem dX9_isLetter_37 : decode cX9_isLetter 37 = .ok (.goto 4, 3) := dk_167 0 4 (dk_at dksX9_isLetter_1 14 rfl rfl)
theorem dX9_isLetter_40 : decode cX9_isLetter 40 = .ok (.iconst 0, 1) := dk_3 (dk_at dksX9_isLetter_1 17 rfl rfl)
theorem dX9_isLetter_41 : decode cX9_isLetter 41 = .ok (.ireturn, 1) := dk_172 (dk_at dksX9_isLetter_1 18 rfl rfl)
abbrev cX9_isDigit : ByteArray := prog_11_method_3_code
def yX9_isDigit : MethodName := ⟨RX9, "isDigit", "(I)Z"⟩
def dkwX9_isDigit_1 : List UInt8 := [180, 0, 3, 180, 0, 22, 27, 51, 16, 57, 163, 0, 7, 4, 167, 0, 4, 3, 172]
abbrev dktX9_isDigit_1 : List UInt8 := dkwX9_isDigit_1 ++ []
def dkwX9_isDigit_0 : List UInt8 := [27, 42, 180, 0, 15, 162, 0, 35, 42, 180, 0, 3, 180, 0, 22, 27, 51, 16, 48, 161, 0, 21, 42]
abbrev dktX9_isDigit_0 : List UInt8 := dkwX9_isDigit_0 ++ dktX9_isDigit_1
theorem dksX9_isDigit_0 : cX9_isDigit.data.toList.drop 0 = dktX9_isDigit_0 := by decide +kernel
theorem dksX9_isDigit_1 : cX9_isDigit.data.toList.drop 23 = dktX9_isDigit_1 := dk_seg dksX9_isDigit_0 23 rfl rfl
theorem dX9_isDigit_0 : decode cX9_isDigit 0 = .ok (.iload_n 1, 1) := dk_27 (dk_at dksX9_isDigit_0 0 rfl rfl)
theorem dX9_isDigit_1 : decode cX9_isDigit 1 = .ok (.aload_n 0, 1) := dk_42 (dk_at dksX9_isDigit_0 1 rfl rfl)
theorem dX9_isDigit_2 : decode cX9_isDigit 2 = .ok (.getfield 15, 3) := dk_180 0 15 (dk_at dksX9_isDigit_0 2 rfl rfl)
theorem dX9_isDigit_5 : decode cX9_isDigit 5 = .ok (.if_icmp .ge 35, 3) := dk_162 0 35 (dk_at dksX9_isDigit_0 5 rfl rfl)
theorem dX9_isDigit_8 : decode cX9_isDigit 8 = .ok (.aload_n 0, 1) := dk_42 (dk_at dksX9_isDigit_0 8 rfl rfl)
theorem dX9_isDigit_9 : decode cX9_isDigit 9 = .ok (.getfield 3, 3) := dk_180 0 3 (dk_at dksX9_isDigit_0 9 rfl rfl)
theorem dX9_isDigit_12 : decode cX9_isDigit 12 = .ok (.getfield 22, 3) := dk_180 0 22 (dk_at dksX9_isDigit_0 12 rfl rfl)
theorem dX9_isDigit_15 : decode cX9_isDigit 15 = .ok (.iload_n 1, 1) := dk_27 (dk_at dksX9_isDigit_0 15 rfl rfl)
theorem dX9_isDigit_16 : decode cX9_isDigit 16 = .ok (.baload, 1) := dk_51 (dk_at dksX9_isDigit_0 16 rfl rfl)
theorem dX9_isDigit_17 : decode cX9_isDigit 17 = .ok (.bipush 48, 2) := dk_16 48 (dk_at dksX9_isDigit_0 17 rfl rfl)
theorem dX9_isDigit_19 : decode cX9_isDigit 19 = .ok (.if_icmp .lt 21, 3) := dk_161 0 21 (dk_at dksX9_isDigit_0 19 rfl rfl)
theorem dX9_isDigit_22 : decode cX9_isDigit 22 = .ok (.aload_n 0, 1) := dk_42 (dk_at dksX9_isDigit_0 22 rfl rfl)
theorem dX9_isDigit_23 : decode cX9_isDigit 23 = .ok (.getfield 3, 3) := dk_180 0 3 (dk_at dksX9_isDigit_1 0 rfl rfl)
theorem dX9_isDigit_26 : decode cX9_isDigit 26 = .ok (.getfield 22, 3) := dk_180 0 22 (dk_at dksX9_isDigit_1 3 rfl rfl)
theorem dX9_isDigit_29 : decode cX9_isDigit 29 = .ok (.iload_n 1, 1) := dk_27 (dk_at dksX9_isDigit_1 6 rfl rfl)
theorem dX9_isDigit_30 : decode cX9_isDigit 30 = .ok (.baload, 1) := dk_51 (dk_at dksX9_isDigit_1 7 rfl rfl)
theorem dX9_isDigit_31 : decode cX9_isDigit 31 = .ok (.bipush 57, 2) := dk_16 57 (dk_at dksX9_isDigit_1 8 rfl rfl)
theorem dX9_isDigit_33 : decode cX9_isDigit 33 = .ok (.if_icmp .gt 7, 3) := dk_163 0 7 (dk_at dksX9_isDigit_1 10 rfl rfl)
theorem dX9_isDigit_36 : decode cX9_isDigit 36 = .ok (.iconst 1, 1) := dk_4 (dk_at dksX9_isDigit_1 13 rfl rfl)
theorem dX9_isDigit_37 : decode cX9_isDigit 37 = .ok (.goto 4, 3) := dk_167 0 4 (dk_at dksX9_isDigit_1 14 rfl rfl)
theorem dX9_isDigit_40 : decode cX9_isDigit 40 = .ok (.iconst 0, 1) := dk_3 (dk_at dksX9_isDigit_1 17 rfl rfl)
theorem dX9_isDigit_41 : decode cX9_isDigit 41 = .ok (.ireturn, 1) := dk_172 (dk_at dksX9_isDigit_1 18 rfl rfl)
abbrev cX9_beach : ByteArray := prog_11_method_20_code
def yX9_beach : MethodName := ⟨RX9, "beach", "(LLastPebble$Beach;)V"⟩
def dkwX9_beach_5 : List UInt8 := [153, 0, 11, 42, 43, 182, 0, 196, 167, 0, 8, 42, 182, 0, 68, 191, 42, 182, 0, 183, 167, 255, 172, 177]
abbrev dktX9_beach_5 : List UInt8 := dkwX9_beach_5 ++ []
def dkwX9_beach_4 : List UInt8 := [42, 18, 122, 182, 0, 72, 153, 0, 11, 42, 43, 182, 0, 193, 167, 0, 25, 42, 18, 128, 182, 0, 72]
abbrev dktX9_beach_4 : List UInt8 := dkwX9_beach_4 ++ dktX9_beach_5
def dkwX9_beach_3 : List UInt8 := [43, 182, 0, 186, 167, 0, 59, 42, 18, 118, 182, 0, 72, 153, 0, 11, 42, 43, 182, 0, 190, 167, 0, 42]
abbrev dktX9_beach_3 : List UInt8 := dkwX9_beach_3 ++ dktX9_beach_4
def dkwX9_beach_2 : List UInt8 := [181, 0, 181, 42, 182, 0, 183, 42, 180, 0, 32, 153, 0, 83, 42, 18, 111, 182, 0, 72, 153, 0, 11, 42]
abbrev dktX9_beach_2 : List UInt8 := dkwX9_beach_2 ++ dktX9_beach_3
def dkwX9_beach_1 : List UInt8 := [181, 0, 179, 42, 18, 109, 182, 0, 72, 153, 0, 16, 43, 42, 18, 109, 3, 16, 60, 182, 0, 173]
abbrev dktX9_beach_1 : List UInt8 := dkwX9_beach_1 ++ dktX9_beach_2
def dkwX9_beach_0 : List UInt8 := [43, 42, 18, 107, 5, 16, 40, 182, 0, 173, 181, 0, 176, 43, 42, 18, 95, 4, 17, 0, 240, 182, 0, 173]
abbrev dktX9_beach_0 : List UInt8 := dkwX9_beach_0 ++ dktX9_beach_1
theorem dksX9_beach_0 : cX9_beach.data.toList.drop 0 = dktX9_beach_0 := by decide +kernel
theorem dksX9_beach_1 : cX9_beach.data.toList.drop 24 = dktX9_beach_1 := dk_seg dksX9_beach_0 24 rfl rfl
theorem dksX9_beach_2 : cX9_beach.data.toList.drop 46 = dktX9_beach_2 := dk_seg dksX9_beach_1 22 rfl rfl
theorem dksX9_beach_3 : cX9_beach.data.toList.drop 70 = dktX9_beach_3 := dk_seg dksX9_beach_2 24 rfl rfl
theorem dksX9_beach_4 : cX9_beach.data.toList.drop 94 = dktX9_beach_4 := dk_seg dksX9_beach_3 24 rfl rfl
theorem dksX9_beach_5 : cX9_beach.data.toList.drop 117 = dktX9_beach_5 := dk_seg dksX9_beach_4 23 rfl rfl
theorem dX9_beach_0 : decode cX9_beach 0 = .ok (.aload_n 1, 1) := dk_43 (dk_at dksX9_beach_0 0 rfl rfl)
theorem dX9_beach_1 : decode cX9_beach 1 = .ok (.aload_n 0, 1) := dk_42 (dk_at dksX9_beach_0 1 rfl rfl)
theorem dX9_beach_2 : decode cX9_beach 2 = .ok (.ldc 107, 2) := dk_18 107 (dk_at dksX9_beach_0 2 rfl rfl)
theorem dX9_beach_4 : decode cX9_beach 4 = .ok (.iconst 2, 1) := dk_5 (dk_at dksX9_beach_0 4 rfl rfl)
theorem dX9_beach_5 : decode cX9_beach 5 = .ok (.bipush 40, 2) := dk_16 40 (dk_at dksX9_beach_0 5 rfl rfl)
theorem dX9_beach_7 : decode cX9_beach 7 = .ok (.invokevirtual 173, 3) := dk_182 0 173 (dk_at dksX9_beach_0 7 rfl rfl)
theorem dX9_beach_10 : decode cX9_beach 10 = .ok (.putfield 176, 3) := dk_181 0 176 (dk_at dksX9_beach_0 10 rfl rfl)
theorem dX9_beach_13 : decode cX9_beach 13 = .ok (.aload_n 1, 1) := dk_43 (dk_at dksX9_beach_0 13 rfl rfl)
theorem dX9_beach_14 : decode cX9_beach 14 = .ok (.aload_n 0, 1) := dk_42 (dk_at dksX9_beach_0 14 rfl rfl)
theorem dX9_beach_15 : decode cX9_beach 15 = .ok (.ldc 95, 2) := dk_18 95 (dk_at dksX9_beach_0 15 rfl rfl)
theorem dX9_beach_17 : decode cX9_beach 17 = .ok (.iconst 1, 1) := dk_4 (dk_at dksX9_beach_0 17 rfl rfl)
theorem dX9_beach_18 : decode cX9_beach 18 = .ok (.sipush 240, 3) := dk_17 0 240 (dk_at dksX9_beach_0 18 rfl rfl)
theorem dX9_beach_21 : decode cX9_beach 21 = .ok (.invokevirtual 173, 3) := dk_182 0 173 (dk_at dksX9_beach_0 21 rfl rfl)
theorem dX9_beach_24 : decode cX9_beach 24 = .ok (.putfield 179, 3) := dk_181 0 179 (dk_at dksX9_beach_1 0 rfl rfl)
theorem dX9_beach_27 : decode cX9_beach 27 = .ok (.aload_n 0, 1) := dk_42 (dk_at dksX9_beach_1 3 rfl rfl)
theorem dX9_beach_28 : decode cX9_beach 28 = .ok (.ldc 109, 2) := dk_18 109 (dk_at dksX9_beach_1 4 rfl rfl)
theorem dX9_beach_30 : decode cX9_beach 30 = .ok (.invokevirtual 72, 3) := dk_182 0 72 (dk_at dksX9_beach_1 6 rfl rfl)
theorem dX9_beach_33 : decode cX9_beach 33 = .ok (.ifCond .eq 16, 3) := dk_153 0 16 (dk_at dksX9_beach_1 9 rfl rfl)
theorem dX9_beach_36 : decode cX9_beach 36 = .ok (.aload_n 1, 1) := dk_43 (dk_at dksX9_beach_1 12 rfl rfl)
theorem dX9_beach_37 : decode cX9_beach 37 = .ok (.aload_n 0, 1) := dk_42 (dk_at dksX9_beach_1 13 rfl rfl)
theorem dX9_beach_38 : decode cX9_beach 38 = .ok (.ldc 109, 2) := dk_18 109 (dk_at dksX9_beach_1 14 rfl rfl)
theorem dX9_beach_40 : decode cX9_beach 40 = .ok (.iconst 0, 1) := dk_3 (dk_at dksX9_beach_1 16 rfl rfl)
theorem dX9_beach_41 : decode cX9_beach 41 = .ok (.bipush 60, 2) := dk_16 60 (dk_at dksX9_beach_1 17 rfl rfl)
theorem dX9_beach_43 : decode cX9_beach 43 = .ok (.invokevirtual 173, 3) := dk_182 0 173 (dk_at dksX9_beach_1 19 rfl rfl)
theorem dX9_beach_46 : decode cX9_beach 46 = .ok (.putfield 181, 3) := dk_181 0 181 (dk_at dksX9_beach_2 0 rfl rfl)
theorem dX9_beach_49 : decode cX9_beach 49 = .ok (.aload_n 0, 1) := dk_42 (dk_at dksX9_beach_2 3 rfl rfl)
theorem dX9_beach_50 : decode cX9_beach 50 = .ok (.invokevirtual 183, 3) := dk_182 0 183 (dk_at dksX9_beach_2 4 rfl rfl)
theorem dX9_beach_53 : decode cX9_beach 53 = .ok (.aload_n 0, 1) := dk_42 (dk_at dksX9_beach_2 7 rfl rfl)
theorem dX9_beach_54 : decode cX9_beach 54 = .ok (.getfield 32, 3) := dk_180 0 32 (dk_at dksX9_beach_2 8 rfl rfl)
theorem dX9_beach_57 : decode cX9_beach 57 = .ok (.ifCond .eq 83, 3) := dk_153 0 83 (dk_at dksX9_beach_2 11 rfl rfl)
theorem dX9_beach_60 : decode cX9_beach 60 = .ok (.aload_n 0, 1) := dk_42 (dk_at dksX9_beach_2 14 rfl rfl)
theorem dX9_beach_61 : decode cX9_beach 61 = .ok (.ldc 111, 2) := dk_18 111 (dk_at dksX9_beach_2 15 rfl rfl)
theorem dX9_beach_63 : decode cX9_beach 63 = .ok (.invokevirtual 72, 3) := dk_182 0 72 (dk_at dksX9_beach_2 17 rfl rfl)
theorem dX9_beach_66 : decode cX9_beach 66 = .ok (.ifCond .eq 11, 3) := dk_153 0 11 (dk_at dksX9_beach_2 20 rfl rfl)
theorem dX9_beach_69 : decode cX9_beach 69 = .ok (.aload_n 0, 1) := dk_42 (dk_at dksX9_beach_2 23 rfl rfl)
theorem dX9_beach_70 : decode cX9_beach 70 = .ok (.aload_n 1, 1) := dk_43 (dk_at dksX9_beach_3 0 rfl rfl)
theorem dX9_beach_71 : decode cX9_beach 71 = .ok (.invokevirtual 186, 3) := dk_182 0 186 (dk_at dksX9_beach_3 1 rfl rfl)
theorem dX9_beach_74 : decode cX9_beach 74 = .ok (.goto 59, 3) := dk_167 0 59 (dk_at dksX9_beach_3 4 rfl rfl)
theorem dX9_beach_77 : decode cX9_beach 77 = .ok (.aload_n 0, 1) := dk_42 (dk_at dksX9_beach_3 7 rfl rfl)
theorem dX9_beach_78 : decode cX9_beach 78 = .ok (.ldc 118, 2) := dk_18 118 (dk_at dksX9_beach_3 8 rfl rfl)
theorem dX9_beach_80 : decode cX9_beach 80 = .ok (.invokevirtual 72, 3) := dk_182 0 72 (dk_at dksX9_beach_3 10 rfl rfl)
theorem dX9_beach_83 : decode cX9_beach 83 = .ok (.ifCond .eq 11, 3) := dk_153 0 11 (dk_at dksX9_beach_3 13 rfl rfl)
theorem dX9_beach_86 : decode cX9_beach 86 = .ok (.aload_n 0, 1) := dk_42 (dk_at dksX9_beach_3 16 rfl rfl)
theorem dX9_beach_87 : decode cX9_beach 87 = .ok (.aload_n 1, 1) := dk_43 (dk_at dksX9_beach_3 17 rfl rfl)
theorem dX9_beach_88 : decode cX9_beach 88 = .ok (.invokevirtual 190, 3) := dk_182 0 190 (dk_at dksX9_beach_3 18 rfl rfl)
theorem dX9_beach_91 : decode cX9_beach 91 = .ok (.goto 42, 3) := dk_167 0 42 (dk_at dksX9_beach_3 21 rfl rfl)
theorem dX9_beach_94 : decode cX9_beach 94 = .ok (.aload_n 0, 1) := dk_42 (dk_at dksX9_beach_4 0 rfl rfl)
theorem dX9_beach_95 : decode cX9_beach 95 = .ok (.ldc 122, 2) := dk_18 122 (dk_at dksX9_beach_4 1 rfl rfl)
theorem dX9_beach_97 : decode cX9_beach 97 = .ok (.invokevirtual 72, 3) := dk_182 0 72 (dk_at dksX9_beach_4 3 rfl rfl)
theorem dX9_beach_100 : decode cX9_beach 100 = .ok (.ifCond .eq 11, 3) := dk_153 0 11 (dk_at dksX9_beach_4 6 rfl rfl)
theorem dX9_beach_103 : decode cX9_beach 103 = .ok (.aload_n 0, 1) := dk_42 (dk_at dksX9_beach_4 9 rfl rfl)
theorem dX9_beach_104 : decode cX9_beach 104 = .ok (.aload_n 1, 1) := dk_43 (dk_at dksX9_beach_4 10 rfl rfl)
theorem dX9_beach_105 : decode cX9_beach 105 = .ok (.invokevirtual 193, 3) := dk_182 0 193 (dk_at dksX9_beach_4 11 rfl rfl)
theorem dX9_beach_108 : decode cX9_beach 108 = .ok (.goto 25, 3) := dk_167 0 25 (dk_at dksX9_beach_4 14 rfl rfl)
theorem dX9_beach_111 : decode cX9_beach 111 = .ok (.aload_n 0, 1) := dk_42 (dk_at dksX9_beach_4 17 rfl rfl)
theorem dX9_beach_112 : decode cX9_beach 112 = .ok (.ldc 128, 2) := dk_18 128 (dk_at dksX9_beach_4 18 rfl rfl)
theorem dX9_beach_114 : decode cX9_beach 114 = .ok (.invokevirtual 72, 3) := dk_182 0 72 (dk_at dksX9_beach_4 20 rfl rfl)
theorem dX9_beach_117 : decode cX9_beach 117 = .ok (.ifCond .eq 11, 3) := dk_153 0 11 (dk_at dksX9_beach_5 0 rfl rfl)
theorem dX9_beach_120 : decode cX9_beach 120 = .ok (.aload_n 0, 1) := dk_42 (dk_at dksX9_beach_5 3 rfl rfl)
theorem dX9_beach_121 : decode cX9_beach 121 = .ok (.aload_n 1, 1) := dk_43 (dk_at dksX9_beach_5 4 rfl rfl)
theorem dX9_beach_122 : decode cX9_beach 122 = .ok (.invokevirtual 196, 3) := dk_182 0 196 (dk_at dksX9_beach_5 5 rfl rfl)
theorem dX9_beach_125 : decode cX9_beach 125 = .ok (.goto 8, 3) := dk_167 0 8 (dk_at dksX9_beach_5 8 rfl rfl)
theorem dX9_beach_128 : decode cX9_beach 128 = .ok (.aload_n 0, 1) := dk_42 (dk_at dksX9_beach_5 11 rfl rfl)
theorem dX9_beach_129 : decode cX9_beach 129 = .ok (.invokevirtual 68, 3) := dk_182 0 68 (dk_at dksX9_beach_5 12 rfl rfl)
theorem dX9_beach_132 : decode cX9_beach 132 = .ok (.athrow, 1) := dk_191 (dk_at dksX9_beach_5 15 rfl rfl)
theorem dX9_beach_133 : decode cX9_beach 133 = .ok (.aload_n 0, 1) := dk_42 (dk_at dksX9_beach_5 16 rfl rfl)
theorem dX9_beach_134 : decode cX9_beach 134 = .ok (.invokevirtual 183, 3) := dk_182 0 183 (dk_at dksX9_beach_5 17 rfl rfl)
theorem dX9_beach_137 : decode cX9_beach 137 = .ok (.goto (-84), 3) := dk_167 255 172 (dk_at dksX9_beach_5 20 rfl rfl)
theorem dX9_beach_140 : decode cX9_beach 140 = .ok (.return_, 1) := dk_177 (dk_at dksX9_beach_5 23 rfl rfl)
abbrev cX9_behind : ByteArray := prog_11_method_11_code
def yX9_behind : MethodName := ⟨RX9, "behind", "(Ljava/lang/String;II)I"⟩
def dkwX9_behind_0 : List UInt8 := [42, 43, 182, 0, 76, 42, 28, 29, 182, 0, 80, 172]
abbrev dktX9_behind_0 : List UInt8 := dkwX9_behind_0 ++ []
theorem dksX9_behind_0 : cX9_behind.data.toList.drop 0 = dktX9_behind_0 := by decide +kernel
theorem dX9_behind_0 : decode cX9_behind 0 = .ok (.aload_n 0, 1) := dk_42 (dk_at dksX9_behind_0 0 rfl rfl)
theorem dX9_behind_1 : decode cX9_behind 1 = .ok (.aload_n 1, 1) := dk_43 (dk_at dksX9_behind_0 1 rfl rfl)
theorem dX9_behind_2 : decode cX9_behind 2 = .ok (.invokevirtual 76, 3) := dk_182 0 76 (dk_at dksX9_behind_0 2 rfl rfl)
theorem dX9_behind_5 : decode cX9_behind 5 = .ok (.aload_n 0, 1) := dk_42 (dk_at dksX9_behind_0 5 rfl rfl)
theorem dX9_behind_6 : decode cX9_behind 6 = .ok (.iload_n 2, 1) := dk_28 (dk_at dksX9_behind_0 6 rfl rfl)
theorem dX9_behind_7 : decode cX9_behind 7 = .ok (.iload_n 3, 1) := dk_29 (dk_at dksX9_behind_0 7 rfl rfl)
theorem dX9_behind_8 : decode cX9_behind 8 = .ok (.invokevirtual 80, 3) := dk_182 0 80 (dk_at dksX9_behind_0 8 rfl rfl)
theorem dX9_behind_11 : decode cX9_behind 11 = .ok (.ireturn, 1) := dk_172 (dk_at dksX9_behind_0 11 rfl rfl)
abbrev cX9_word : ByteArray := prog_11_method_9_code
def yX9_word : MethodName := ⟨RX9, "word", "(Ljava/lang/String;)V"⟩
def dkwX9_word_0 : List UInt8 := [42, 43, 182, 0, 72, 154, 0, 8, 42, 182, 0, 68, 191, 42, 182, 0, 19, 177]
abbrev dktX9_word_0 : List UInt8 := dkwX9_word_0 ++ []
theorem dksX9_word_0 : cX9_word.data.toList.drop 0 = dktX9_word_0 := by decide +kernel
theorem dX9_word_0 : decode cX9_word 0 = .ok (.aload_n 0, 1) := dk_42 (dk_at dksX9_word_0 0 rfl rfl)
theorem dX9_word_1 : decode cX9_word 1 = .ok (.aload_n 1, 1) := dk_43 (dk_at dksX9_word_0 1 rfl rfl)
theorem dX9_word_2 : decode cX9_word 2 = .ok (.invokevirtual 72, 3) := dk_182 0 72 (dk_at dksX9_word_0 2 rfl rfl)
theorem dX9_word_5 : decode cX9_word 5 = .ok (.ifCond .ne 8, 3) := dk_154 0 8 (dk_at dksX9_word_0 5 rfl rfl)
theorem dX9_word_8 : decode cX9_word 8 = .ok (.aload_n 0, 1) := dk_42 (dk_at dksX9_word_0 8 rfl rfl)
theorem dX9_word_9 : decode cX9_word 9 = .ok (.invokevirtual 68, 3) := dk_182 0 68 (dk_at dksX9_word_0 9 rfl rfl)
theorem dX9_word_12 : decode cX9_word 12 = .ok (.athrow, 1) := dk_191 (dk_at dksX9_word_0 12 rfl rfl)
theorem dX9_word_13 : decode cX9_word 13 = .ok (.aload_n 0, 1) := dk_42 (dk_at dksX9_word_0 13 rfl rfl)
theorem dX9_word_14 : decode cX9_word 14 = .ok (.invokevirtual 19, 3) := dk_182 0 19 (dk_at dksX9_word_0 14 rfl rfl)
theorem dX9_word_17 : decode cX9_word 17 = .ok (.return_, 1) := dk_177 (dk_at dksX9_word_0 17 rfl rfl)
abbrev cX9_isWord : ByteArray := prog_11_method_5_code
def yX9_isWord : MethodName := ⟨RX9, "isWord", "(Ljava/lang/String;)Z"⟩
def dkwX9_isWord_2 : List UInt8 := [96, 51, 43, 28, 182, 0, 51, 159, 0, 5, 3, 172, 132, 2, 1, 167, 255, 221, 4, 172]
abbrev dktX9_isWord_2 : List UInt8 := dkwX9_isWord_2 ++ []
def dkwX9_isWord_1 : List UInt8 := [3, 172, 3, 61, 28, 43, 182, 0, 45, 162, 0, 33, 42, 180, 0, 3, 180, 0, 22, 42, 180, 0, 29, 28]
abbrev dktX9_isWord_1 : List UInt8 := dkwX9_isWord_1 ++ dktX9_isWord_2
def dkwX9_isWord_0 : List UInt8 := [42, 180, 0, 32, 4, 160, 0, 19, 42, 180, 0, 26, 42, 180, 0, 29, 100, 43, 182, 0, 45, 159, 0, 5]
abbrev dktX9_isWord_0 : List UInt8 := dkwX9_isWord_0 ++ dktX9_isWord_1
theorem dksX9_isWord_0 : cX9_isWord.data.toList.drop 0 = dktX9_isWord_0 := by decide +kernel
theorem dksX9_isWord_1 : cX9_isWord.data.toList.drop 24 = dktX9_isWord_1 := dk_seg dksX9_isWord_0 24 rfl rfl
theorem dksX9_isWord_2 : cX9_isWord.data.toList.drop 48 = dktX9_isWord_2 := dk_seg dksX9_isWord_1 24 rfl rfl
theorem dX9_isWord_0 : decode cX9_isWord 0 = .ok (.aload_n 0, 1) := dk_42 (dk_at dksX9_isWord_0 0 rfl rfl)
theorem dX9_isWord_1 : decode cX9_isWord 1 = .ok (.getfield 32, 3) := dk_180 0 32 (dk_at dksX9_isWord_0 1 rfl rfl)
theorem dX9_isWord_4 : decode cX9_isWord 4 = .ok (.iconst 1, 1) := dk_4 (dk_at dksX9_isWord_0 4 rfl rfl)
theorem dX9_isWord_5 : decode cX9_isWord 5 = .ok (.if_icmp .ne 19, 3) := dk_160 0 19 (dk_at dksX9_isWord_0 5 rfl rfl)
theorem dX9_isWord_8 : decode cX9_isWord 8 = .ok (.aload_n 0, 1) := dk_42 (dk_at dksX9_isWord_0 8 rfl rfl)
theorem dX9_isWord_9 : decode cX9_isWord 9 = .ok (.getfield 26, 3) := dk_180 0 26 (dk_at dksX9_isWord_0 9 rfl rfl)
theorem dX9_isWord_12 : decode cX9_isWord 12 = .ok (.aload_n 0, 1) := dk_42 (dk_at dksX9_isWord_0 12 rfl rfl)
theorem dX9_isWord_13 : decode cX9_isWord 13 = .ok (.getfield 29, 3) := dk_180 0 29 (dk_at dksX9_isWord_0 13 rfl rfl)
theorem dX9_isWord_16 : decode cX9_isWord 16 = .ok (.isub, 1) := dk_100 (dk_at dksX9_isWord_0 16 rfl rfl)
theorem dX9_isWord_17 : decode cX9_isWord 17 = .ok (.aload_n 1, 1) := dk_43 (dk_at dksX9_isWord_0 17 rfl rfl)
theorem dX9_isWord_18 : decode cX9_isWord 18 = .ok (.invokevirtual 45, 3) := dk_182 0 45 (dk_at dksX9_isWord_0 18 rfl rfl)
theorem dX9_isWord_21 : decode cX9_isWord 21 = .ok (.if_icmp .eq 5, 3) := dk_159 0 5 (dk_at dksX9_isWord_0 21 rfl rfl)
theorem dX9_isWord_24 : decode cX9_isWord 24 = .ok (.iconst 0, 1) := dk_3 (dk_at dksX9_isWord_1 0 rfl rfl)
theorem dX9_isWord_25 : decode cX9_isWord 25 = .ok (.ireturn, 1) := dk_172 (dk_at dksX9_isWord_1 1 rfl rfl)
theorem dX9_isWord_26 : decode cX9_isWord 26 = .ok (.iconst 0, 1) := dk_3 (dk_at dksX9_isWord_1 2 rfl rfl)
theorem dX9_isWord_27 : decode cX9_isWord 27 = .ok (.istore_n 2, 1) := dk_61 (dk_at dksX9_isWord_1 3 rfl rfl)
theorem dX9_isWord_28 : decode cX9_isWord 28 = .ok (.iload_n 2, 1) := dk_28 (dk_at dksX9_isWord_1 4 rfl rfl)
theorem dX9_isWord_29 : decode cX9_isWord 29 = .ok (.aload_n 1, 1) := dk_43 (dk_at dksX9_isWord_1 5 rfl rfl)
theorem dX9_isWord_30 : decode cX9_isWord 30 = .ok (.invokevirtual 45, 3) := dk_182 0 45 (dk_at dksX9_isWord_1 6 rfl rfl)
theorem dX9_isWord_33 : decode cX9_isWord 33 = .ok (.if_icmp .ge 33, 3) := dk_162 0 33 (dk_at dksX9_isWord_1 9 rfl rfl)
theorem dX9_isWord_36 : decode cX9_isWord 36 = .ok (.aload_n 0, 1) := dk_42 (dk_at dksX9_isWord_1 12 rfl rfl)
theorem dX9_isWord_37 : decode cX9_isWord 37 = .ok (.getfield 3, 3) := dk_180 0 3 (dk_at dksX9_isWord_1 13 rfl rfl)
theorem dX9_isWord_40 : decode cX9_isWord 40 = .ok (.getfield 22, 3) := dk_180 0 22 (dk_at dksX9_isWord_1 16 rfl rfl)
theorem dX9_isWord_43 : decode cX9_isWord 43 = .ok (.aload_n 0, 1) := dk_42 (dk_at dksX9_isWord_1 19 rfl rfl)
theorem dX9_isWord_44 : decode cX9_isWord 44 = .ok (.getfield 29, 3) := dk_180 0 29 (dk_at dksX9_isWord_1 20 rfl rfl)
theorem dX9_isWord_47 : decode cX9_isWord 47 = .ok (.iload_n 2, 1) := dk_28 (dk_at dksX9_isWord_1 23 rfl rfl)
theorem dX9_isWord_48 : decode cX9_isWord 48 = .ok (.iadd, 1) := dk_96 (dk_at dksX9_isWord_2 0 rfl rfl)
theorem dX9_isWord_49 : decode cX9_isWord 49 = .ok (.baload, 1) := dk_51 (dk_at dksX9_isWord_2 1 rfl rfl)
theorem dX9_isWord_50 : decode cX9_isWord 50 = .ok (.aload_n 1, 1) := dk_43 (dk_at dksX9_isWord_2 2 rfl rfl)
theorem dX9_isWord_51 : decode cX9_isWord 51 = .ok (.iload_n 2, 1) := dk_28 (dk_at dksX9_isWord_2 3 rfl rfl)
theorem dX9_isWord_52 : decode cX9_isWord 52 = .ok (.invokevirtual 51, 3) := dk_182 0 51 (dk_at dksX9_isWord_2 4 rfl rfl)
theorem dX9_isWord_55 : decode cX9_isWord 55 = .ok (.if_icmp .eq 5, 3) := dk_159 0 5 (dk_at dksX9_isWord_2 7 rfl rfl)
theorem dX9_isWord_58 : decode cX9_isWord 58 = .ok (.iconst 0, 1) := dk_3 (dk_at dksX9_isWord_2 10 rfl rfl)
theorem dX9_isWord_59 : decode cX9_isWord 59 = .ok (.ireturn, 1) := dk_172 (dk_at dksX9_isWord_2 11 rfl rfl)
theorem dX9_isWord_60 : decode cX9_isWord 60 = .ok (.iinc 2 1, 3) := dk_132 2 1 (dk_at dksX9_isWord_2 12 rfl rfl)
theorem dX9_isWord_63 : decode cX9_isWord 63 = .ok (.goto (-35), 3) := dk_167 255 221 (dk_at dksX9_isWord_2 15 rfl rfl)
theorem dX9_isWord_66 : decode cX9_isWord 66 = .ok (.iconst 1, 1) := dk_4 (dk_at dksX9_isWord_2 18 rfl rfl)
theorem dX9_isWord_67 : decode cX9_isWord 67 = .ok (.ireturn, 1) := dk_172 (dk_at dksX9_isWord_2 19 rfl rfl)
abbrev cX9_wrong : ByteArray := prog_11_method_7_code
def yX9_wrong : MethodName := ⟨RX9, "wrong", "()LLastPebble$Bad;"⟩
def dkwX9_wrong_1 : List UInt8 := [182, 0, 59, 176]
abbrev dktX9_wrong_1 : List UInt8 := dkwX9_wrong_1 ++ []
def dkwX9_wrong_0 : List UInt8 := [42, 180, 0, 3, 180, 0, 55, 42, 180, 0, 32, 7, 160, 0, 7, 4, 167, 0, 4, 5, 42, 180, 0, 29]
abbrev dktX9_wrong_0 : List UInt8 := dkwX9_wrong_0 ++ dktX9_wrong_1
theorem dksX9_wrong_0 : cX9_wrong.data.toList.drop 0 = dktX9_wrong_0 := by decide +kernel
theorem dksX9_wrong_1 : cX9_wrong.data.toList.drop 24 = dktX9_wrong_1 := dk_seg dksX9_wrong_0 24 rfl rfl
theorem dX9_wrong_0 : decode cX9_wrong 0 = .ok (.aload_n 0, 1) := dk_42 (dk_at dksX9_wrong_0 0 rfl rfl)
theorem dX9_wrong_1 : decode cX9_wrong 1 = .ok (.getfield 3, 3) := dk_180 0 3 (dk_at dksX9_wrong_0 1 rfl rfl)
theorem dX9_wrong_4 : decode cX9_wrong 4 = .ok (.getfield 55, 3) := dk_180 0 55 (dk_at dksX9_wrong_0 4 rfl rfl)
theorem dX9_wrong_7 : decode cX9_wrong 7 = .ok (.aload_n 0, 1) := dk_42 (dk_at dksX9_wrong_0 7 rfl rfl)
theorem dX9_wrong_8 : decode cX9_wrong 8 = .ok (.getfield 32, 3) := dk_180 0 32 (dk_at dksX9_wrong_0 8 rfl rfl)
theorem dX9_wrong_11 : decode cX9_wrong 11 = .ok (.iconst 4, 1) := dk_7 (dk_at dksX9_wrong_0 11 rfl rfl)
theorem dX9_wrong_12 : decode cX9_wrong 12 = .ok (.if_icmp .ne 7, 3) := dk_160 0 7 (dk_at dksX9_wrong_0 12 rfl rfl)
theorem dX9_wrong_15 : decode cX9_wrong 15 = .ok (.iconst 1, 1) := dk_4 (dk_at dksX9_wrong_0 15 rfl rfl)
theorem dX9_wrong_16 : decode cX9_wrong 16 = .ok (.goto 4, 3) := dk_167 0 4 (dk_at dksX9_wrong_0 16 rfl rfl)
theorem dX9_wrong_19 : decode cX9_wrong 19 = .ok (.iconst 2, 1) := dk_5 (dk_at dksX9_wrong_0 19 rfl rfl)
theorem dX9_wrong_20 : decode cX9_wrong 20 = .ok (.aload_n 0, 1) := dk_42 (dk_at dksX9_wrong_0 20 rfl rfl)
theorem dX9_wrong_21 : decode cX9_wrong 21 = .ok (.getfield 29, 3) := dk_180 0 29 (dk_at dksX9_wrong_0 21 rfl rfl)
theorem dX9_wrong_24 : decode cX9_wrong 24 = .ok (.invokevirtual 59, 3) := dk_182 0 59 (dk_at dksX9_wrong_1 0 rfl rfl)
theorem dX9_wrong_27 : decode cX9_wrong 27 = .ok (.areturn, 1) := dk_176 (dk_at dksX9_wrong_1 3 rfl rfl)
abbrev cX9_number : ByteArray := prog_11_method_10_code
def yX9_number : MethodName := ⟨RX9, "number", "(II)I"⟩
def dkwX9_number_2 : List UInt8 := [180, 0, 42, 62, 42, 182, 0, 19, 29, 172]
abbrev dktX9_number_2 : List UInt8 := dkwX9_number_2 ++ []
def dkwX9_number_1 : List UInt8 := [180, 0, 42, 28, 164, 0, 19, 42, 180, 0, 3, 180, 0, 55, 7, 42, 180, 0, 29, 182, 0, 59, 191, 42]
abbrev dktX9_number_1 : List UInt8 := dkwX9_number_1 ++ dktX9_number_2
def dkwX9_number_0 : List UInt8 := [42, 180, 0, 32, 5, 159, 0, 8, 42, 182, 0, 68, 191, 42, 180, 0, 42, 27, 161, 0, 11, 42]
abbrev dktX9_number_0 : List UInt8 := dkwX9_number_0 ++ dktX9_number_1
theorem dksX9_number_0 : cX9_number.data.toList.drop 0 = dktX9_number_0 := by decide +kernel
theorem dksX9_number_1 : cX9_number.data.toList.drop 22 = dktX9_number_1 := dk_seg dksX9_number_0 22 rfl rfl
theorem dksX9_number_2 : cX9_number.data.toList.drop 46 = dktX9_number_2 := dk_seg dksX9_number_1 24 rfl rfl
theorem dX9_number_0 : decode cX9_number 0 = .ok (.aload_n 0, 1) := dk_42 (dk_at dksX9_number_0 0 rfl rfl)
theorem dX9_number_1 : decode cX9_number 1 = .ok (.getfield 32, 3) := dk_180 0 32 (dk_at dksX9_number_0 1 rfl rfl)
theorem dX9_number_4 : decode cX9_number 4 = .ok (.iconst 2, 1) := dk_5 (dk_at dksX9_number_0 4 rfl rfl)
theorem dX9_number_5 : decode cX9_number 5 = .ok (.if_icmp .eq 8, 3) := dk_159 0 8 (dk_at dksX9_number_0 5 rfl rfl)
theorem dX9_number_8 : decode cX9_number 8 = .ok (.aload_n 0, 1) := dk_42 (dk_at dksX9_number_0 8 rfl rfl)
theorem dX9_number_9 : decode cX9_number 9 = .ok (.invokevirtual 68, 3) := dk_182 0 68 (dk_at dksX9_number_0 9 rfl rfl)
theorem dX9_number_12 : decode cX9_number 12 = .ok (.athrow, 1) := dk_191 (dk_at dksX9_number_0 12 rfl rfl)
theorem dX9_number_13 : decode cX9_number 13 = .ok (.aload_n 0, 1) := dk_42 (dk_at dksX9_number_0 13 rfl rfl)
theorem dX9_number_14 : decode cX9_number 14 = .ok (.getfield 42, 3) := dk_180 0 42 (dk_at dksX9_number_0 14 rfl rfl)
theorem dX9_number_17 : decode cX9_number 17 = .ok (.iload_n 1, 1) := dk_27 (dk_at dksX9_number_0 17 rfl rfl)
theorem dX9_number_18 : decode cX9_number 18 = .ok (.if_icmp .lt 11, 3) := dk_161 0 11 (dk_at dksX9_number_0 18 rfl rfl)
theorem dX9_number_21 : decode cX9_number 21 = .ok (.aload_n 0, 1) := dk_42 (dk_at dksX9_number_0 21 rfl rfl)
theorem dX9_number_22 : decode cX9_number 22 = .ok (.getfield 42, 3) := dk_180 0 42 (dk_at dksX9_number_1 0 rfl rfl)
theorem dX9_number_25 : decode cX9_number 25 = .ok (.iload_n 2, 1) := dk_28 (dk_at dksX9_number_1 3 rfl rfl)
theorem dX9_number_26 : decode cX9_number 26 = .ok (.if_icmp .le 19, 3) := dk_164 0 19 (dk_at dksX9_number_1 4 rfl rfl)
theorem dX9_number_29 : decode cX9_number 29 = .ok (.aload_n 0, 1) := dk_42 (dk_at dksX9_number_1 7 rfl rfl)
theorem dX9_number_30 : decode cX9_number 30 = .ok (.getfield 3, 3) := dk_180 0 3 (dk_at dksX9_number_1 8 rfl rfl)
theorem dX9_number_33 : decode cX9_number 33 = .ok (.getfield 55, 3) := dk_180 0 55 (dk_at dksX9_number_1 11 rfl rfl)
theorem dX9_number_36 : decode cX9_number 36 = .ok (.iconst 4, 1) := dk_7 (dk_at dksX9_number_1 14 rfl rfl)
theorem dX9_number_37 : decode cX9_number 37 = .ok (.aload_n 0, 1) := dk_42 (dk_at dksX9_number_1 15 rfl rfl)
theorem dX9_number_38 : decode cX9_number 38 = .ok (.getfield 29, 3) := dk_180 0 29 (dk_at dksX9_number_1 16 rfl rfl)
theorem dX9_number_41 : decode cX9_number 41 = .ok (.invokevirtual 59, 3) := dk_182 0 59 (dk_at dksX9_number_1 19 rfl rfl)
theorem dX9_number_44 : decode cX9_number 44 = .ok (.athrow, 1) := dk_191 (dk_at dksX9_number_1 22 rfl rfl)
theorem dX9_number_45 : decode cX9_number 45 = .ok (.aload_n 0, 1) := dk_42 (dk_at dksX9_number_1 23 rfl rfl)
theorem dX9_number_46 : decode cX9_number 46 = .ok (.getfield 42, 3) := dk_180 0 42 (dk_at dksX9_number_2 0 rfl rfl)
theorem dX9_number_49 : decode cX9_number 49 = .ok (.istore_n 3, 1) := dk_62 (dk_at dksX9_number_2 3 rfl rfl)
theorem dX9_number_50 : decode cX9_number 50 = .ok (.aload_n 0, 1) := dk_42 (dk_at dksX9_number_2 4 rfl rfl)
theorem dX9_number_51 : decode cX9_number 51 = .ok (.invokevirtual 19, 3) := dk_182 0 19 (dk_at dksX9_number_2 5 rfl rfl)
theorem dX9_number_54 : decode cX9_number 54 = .ok (.iload_n 3, 1) := dk_29 (dk_at dksX9_number_2 8 rfl rfl)
theorem dX9_number_55 : decode cX9_number 55 = .ok (.ireturn, 1) := dk_172 (dk_at dksX9_number_2 9 rfl rfl)
abbrev cX9_close : ByteArray := prog_11_method_8_code
def yX9_close : MethodName := ⟨RX9, "close", "()V"⟩
def dkwX9_close_0 : List UInt8 := [42, 16, 59, 182, 0, 64, 154, 0, 8, 42, 182, 0, 68, 191, 42, 182, 0, 19, 177]
abbrev dktX9_close_0 : List UInt8 := dkwX9_close_0 ++ []
theorem dksX9_close_0 : cX9_close.data.toList.drop 0 = dktX9_close_0 := by decide +kernel
theorem dX9_close_0 : decode cX9_close 0 = .ok (.aload_n 0, 1) := dk_42 (dk_at dksX9_close_0 0 rfl rfl)
theorem dX9_close_1 : decode cX9_close 1 = .ok (.bipush 59, 2) := dk_16 59 (dk_at dksX9_close_0 1 rfl rfl)
theorem dX9_close_3 : decode cX9_close 3 = .ok (.invokevirtual 64, 3) := dk_182 0 64 (dk_at dksX9_close_0 3 rfl rfl)
theorem dX9_close_6 : decode cX9_close 6 = .ok (.ifCond .ne 8, 3) := dk_154 0 8 (dk_at dksX9_close_0 6 rfl rfl)
theorem dX9_close_9 : decode cX9_close 9 = .ok (.aload_n 0, 1) := dk_42 (dk_at dksX9_close_0 9 rfl rfl)
theorem dX9_close_10 : decode cX9_close 10 = .ok (.invokevirtual 68, 3) := dk_182 0 68 (dk_at dksX9_close_0 10 rfl rfl)
theorem dX9_close_13 : decode cX9_close 13 = .ok (.athrow, 1) := dk_191 (dk_at dksX9_close_0 13 rfl rfl)
theorem dX9_close_14 : decode cX9_close 14 = .ok (.aload_n 0, 1) := dk_42 (dk_at dksX9_close_0 14 rfl rfl)
theorem dX9_close_15 : decode cX9_close 15 = .ok (.invokevirtual 19, 3) := dk_182 0 19 (dk_at dksX9_close_0 15 rfl rfl)
theorem dX9_close_18 : decode cX9_close 18 = .ok (.return_, 1) := dk_177 (dk_at dksX9_close_0 18 rfl rfl)
abbrev cX9_isSign : ByteArray := prog_11_method_6_code
def yX9_isSign : MethodName := ⟨RX9, "isSign", "(C)Z"⟩
def dkwX9_isSign_1 : List UInt8 := [4, 167, 0, 4, 3, 172]
abbrev dktX9_isSign_1 : List UInt8 := dkwX9_isSign_1 ++ []
def dkwX9_isSign_0 : List UInt8 := [42, 180, 0, 32, 6, 160, 0, 23, 42, 180, 0, 3, 180, 0, 22, 42, 180, 0, 29, 51, 27, 160, 0, 7]
abbrev dktX9_isSign_0 : List UInt8 := dkwX9_isSign_0 ++ dktX9_isSign_1
theorem dksX9_isSign_0 : cX9_isSign.data.toList.drop 0 = dktX9_isSign_0 := by decide +kernel
theorem dksX9_isSign_1 : cX9_isSign.data.toList.drop 24 = dktX9_isSign_1 := dk_seg dksX9_isSign_0 24 rfl rfl
theorem dX9_isSign_0 : decode cX9_isSign 0 = .ok (.aload_n 0, 1) := dk_42 (dk_at dksX9_isSign_0 0 rfl rfl)
theorem dX9_isSign_1 : decode cX9_isSign 1 = .ok (.getfield 32, 3) := dk_180 0 32 (dk_at dksX9_isSign_0 1 rfl rfl)
theorem dX9_isSign_4 : decode cX9_isSign 4 = .ok (.iconst 3, 1) := dk_6 (dk_at dksX9_isSign_0 4 rfl rfl)
theorem dX9_isSign_5 : decode cX9_isSign 5 = .ok (.if_icmp .ne 23, 3) := dk_160 0 23 (dk_at dksX9_isSign_0 5 rfl rfl)
theorem dX9_isSign_8 : decode cX9_isSign 8 = .ok (.aload_n 0, 1) := dk_42 (dk_at dksX9_isSign_0 8 rfl rfl)
theorem dX9_isSign_9 : decode cX9_isSign 9 = .ok (.getfield 3, 3) := dk_180 0 3 (dk_at dksX9_isSign_0 9 rfl rfl)
theorem dX9_isSign_12 : decode cX9_isSign 12 = .ok (.getfield 22, 3) := dk_180 0 22 (dk_at dksX9_isSign_0 12 rfl rfl)
theorem dX9_isSign_15 : decode cX9_isSign 15 = .ok (.aload_n 0, 1) := dk_42 (dk_at dksX9_isSign_0 15 rfl rfl)
theorem dX9_isSign_16 : decode cX9_isSign 16 = .ok (.getfield 29, 3) := dk_180 0 29 (dk_at dksX9_isSign_0 16 rfl rfl)
theorem dX9_isSign_19 : decode cX9_isSign 19 = .ok (.baload, 1) := dk_51 (dk_at dksX9_isSign_0 19 rfl rfl)
theorem dX9_isSign_20 : decode cX9_isSign 20 = .ok (.iload_n 1, 1) := dk_27 (dk_at dksX9_isSign_0 20 rfl rfl)
theorem dX9_isSign_21 : decode cX9_isSign 21 = .ok (.if_icmp .ne 7, 3) := dk_160 0 7 (dk_at dksX9_isSign_0 21 rfl rfl)
theorem dX9_isSign_24 : decode cX9_isSign 24 = .ok (.iconst 1, 1) := dk_4 (dk_at dksX9_isSign_1 0 rfl rfl)
theorem dX9_isSign_25 : decode cX9_isSign 25 = .ok (.goto 4, 3) := dk_167 0 4 (dk_at dksX9_isSign_1 1 rfl rfl)
theorem dX9_isSign_28 : decode cX9_isSign 28 = .ok (.iconst 0, 1) := dk_3 (dk_at dksX9_isSign_1 4 rfl rfl)
theorem dX9_isSign_29 : decode cX9_isSign 29 = .ok (.ireturn, 1) := dk_172 (dk_at dksX9_isSign_1 5 rfl rfl)
abbrev cX9_newFinder : ByteArray := prog_11_method_21_code
def yX9_newFinder : MethodName := ⟨RX9, "newFinder", "(LLastPebble$Beach;)V"⟩
def dkwX9_newFinder_4 : List UInt8 := [180, 0, 198, 4, 96, 181, 0, 198, 177]
abbrev dktX9_newFinder_4 : List UInt8 := dkwX9_newFinder_4 ++ []
def dkwX9_newFinder_3 : List UInt8 := [43, 180, 0, 210, 28, 42, 18, 116, 3, 16, 20, 182, 0, 173, 79, 43, 180, 0, 213, 28, 33, 80, 43, 89]
abbrev dktX9_newFinder_3 : List UInt8 := dkwX9_newFinder_3 ++ dktX9_newFinder_4
def dkwX9_newFinder_2 : List UInt8 := [180, 0, 176, 4, 100, 182, 0, 173, 79, 43, 180, 0, 208, 28, 42, 18, 114, 4, 16, 9, 182, 0, 173, 79]
abbrev dktX9_newFinder_2 : List UInt8 := dkwX9_newFinder_2 ++ dktX9_newFinder_3
def dkwX9_newFinder_1 : List UInt8 := [182, 0, 59, 191, 42, 182, 0, 19, 42, 43, 182, 0, 201, 66, 43, 180, 0, 205, 28, 42, 18, 113, 3, 43]
abbrev dktX9_newFinder_1 : List UInt8 := dkwX9_newFinder_1 ++ dktX9_newFinder_2
def dkwX9_newFinder_0 : List UInt8 := [43, 180, 0, 198, 61, 28, 16, 6, 160, 0, 20, 42, 180, 0, 3, 180, 0, 55, 16, 6, 42, 180, 0, 29]
abbrev dktX9_newFinder_0 : List UInt8 := dkwX9_newFinder_0 ++ dktX9_newFinder_1
theorem dksX9_newFinder_0 : cX9_newFinder.data.toList.drop 0 = dktX9_newFinder_0 := by decide +kernel
theorem dksX9_newFinder_1 : cX9_newFinder.data.toList.drop 24 = dktX9_newFinder_1 := dk_seg dksX9_newFinder_0 24 rfl rfl
theorem dksX9_newFinder_2 : cX9_newFinder.data.toList.drop 48 = dktX9_newFinder_2 := dk_seg dksX9_newFinder_1 24 rfl rfl
theorem dksX9_newFinder_3 : cX9_newFinder.data.toList.drop 72 = dktX9_newFinder_3 := dk_seg dksX9_newFinder_2 24 rfl rfl
theorem dksX9_newFinder_4 : cX9_newFinder.data.toList.drop 96 = dktX9_newFinder_4 := dk_seg dksX9_newFinder_3 24 rfl rfl
theorem dX9_newFinder_0 : decode cX9_newFinder 0 = .ok (.aload_n 1, 1) := dk_43 (dk_at dksX9_newFinder_0 0 rfl rfl)
theorem dX9_newFinder_1 : decode cX9_newFinder 1 = .ok (.getfield 198, 3) := dk_180 0 198 (dk_at dksX9_newFinder_0 1 rfl rfl)
theorem dX9_newFinder_4 : decode cX9_newFinder 4 = .ok (.istore_n 2, 1) := dk_61 (dk_at dksX9_newFinder_0 4 rfl rfl)
theorem dX9_newFinder_5 : decode cX9_newFinder 5 = .ok (.iload_n 2, 1) := dk_28 (dk_at dksX9_newFinder_0 5 rfl rfl)
theorem dX9_newFinder_6 : decode cX9_newFinder 6 = .ok (.bipush 6, 2) := dk_16 6 (dk_at dksX9_newFinder_0 6 rfl rfl)
theorem dX9_newFinder_8 : decode cX9_newFinder 8 = .ok (.if_icmp .ne 20, 3) := dk_160 0 20 (dk_at dksX9_newFinder_0 8 rfl rfl)
theorem dX9_newFinder_11 : decode cX9_newFinder 11 = .ok (.aload_n 0, 1) := dk_42 (dk_at dksX9_newFinder_0 11 rfl rfl)
theorem dX9_newFinder_12 : decode cX9_newFinder 12 = .ok (.getfield 3, 3) := dk_180 0 3 (dk_at dksX9_newFinder_0 12 rfl rfl)
theorem dX9_newFinder_15 : decode cX9_newFinder 15 = .ok (.getfield 55, 3) := dk_180 0 55 (dk_at dksX9_newFinder_0 15 rfl rfl)
theorem dX9_newFinder_18 : decode cX9_newFinder 18 = .ok (.bipush 6, 2) := dk_16 6 (dk_at dksX9_newFinder_0 18 rfl rfl)
theorem dX9_newFinder_20 : decode cX9_newFinder 20 = .ok (.aload_n 0, 1) := dk_42 (dk_at dksX9_newFinder_0 20 rfl rfl)
theorem dX9_newFinder_21 : decode cX9_newFinder 21 = .ok (.getfield 29, 3) := dk_180 0 29 (dk_at dksX9_newFinder_0 21 rfl rfl)
theorem dX9_newFinder_24 : decode cX9_newFinder 24 = .ok (.invokevirtual 59, 3) := dk_182 0 59 (dk_at dksX9_newFinder_1 0 rfl rfl)
theorem dX9_newFinder_27 : decode cX9_newFinder 27 = .ok (.athrow, 1) := dk_191 (dk_at dksX9_newFinder_1 3 rfl rfl)
theorem dX9_newFinder_28 : decode cX9_newFinder 28 = .ok (.aload_n 0, 1) := dk_42 (dk_at dksX9_newFinder_1 4 rfl rfl)
theorem dX9_newFinder_29 : decode cX9_newFinder 29 = .ok (.invokevirtual 19, 3) := dk_182 0 19 (dk_at dksX9_newFinder_1 5 rfl rfl)
theorem dX9_newFinder_32 : decode cX9_newFinder 32 = .ok (.aload_n 0, 1) := dk_42 (dk_at dksX9_newFinder_1 8 rfl rfl)
theorem dX9_newFinder_33 : decode cX9_newFinder 33 = .ok (.aload_n 1, 1) := dk_43 (dk_at dksX9_newFinder_1 9 rfl rfl)
theorem dX9_newFinder_34 : decode cX9_newFinder 34 = .ok (.invokevirtual 201, 3) := dk_182 0 201 (dk_at dksX9_newFinder_1 10 rfl rfl)
theorem dX9_newFinder_37 : decode cX9_newFinder 37 = .ok (.lstore_n 3, 1) := dk_66 (dk_at dksX9_newFinder_1 13 rfl rfl)
theorem dX9_newFinder_38 : decode cX9_newFinder 38 = .ok (.aload_n 1, 1) := dk_43 (dk_at dksX9_newFinder_1 14 rfl rfl)
theorem dX9_newFinder_39 : decode cX9_newFinder 39 = .ok (.getfield 205, 3) := dk_180 0 205 (dk_at dksX9_newFinder_1 15 rfl rfl)
theorem dX9_newFinder_42 : decode cX9_newFinder 42 = .ok (.iload_n 2, 1) := dk_28 (dk_at dksX9_newFinder_1 18 rfl rfl)
theorem dX9_newFinder_43 : decode cX9_newFinder 43 = .ok (.aload_n 0, 1) := dk_42 (dk_at dksX9_newFinder_1 19 rfl rfl)
theorem dX9_newFinder_44 : decode cX9_newFinder 44 = .ok (.ldc 113, 2) := dk_18 113 (dk_at dksX9_newFinder_1 20 rfl rfl)
theorem dX9_newFinder_46 : decode cX9_newFinder 46 = .ok (.iconst 0, 1) := dk_3 (dk_at dksX9_newFinder_1 22 rfl rfl)
theorem dX9_newFinder_47 : decode cX9_newFinder 47 = .ok (.aload_n 1, 1) := dk_43 (dk_at dksX9_newFinder_1 23 rfl rfl)
theorem dX9_newFinder_48 : decode cX9_newFinder 48 = .ok (.getfield 176, 3) := dk_180 0 176 (dk_at dksX9_newFinder_2 0 rfl rfl)
theorem dX9_newFinder_51 : decode cX9_newFinder 51 = .ok (.iconst 1, 1) := dk_4 (dk_at dksX9_newFinder_2 3 rfl rfl)
theorem dX9_newFinder_52 : decode cX9_newFinder 52 = .ok (.isub, 1) := dk_100 (dk_at dksX9_newFinder_2 4 rfl rfl)
theorem dX9_newFinder_53 : decode cX9_newFinder 53 = .ok (.invokevirtual 173, 3) := dk_182 0 173 (dk_at dksX9_newFinder_2 5 rfl rfl)
theorem dX9_newFinder_56 : decode cX9_newFinder 56 = .ok (.iastore, 1) := dk_79 (dk_at dksX9_newFinder_2 8 rfl rfl)
theorem dX9_newFinder_57 : decode cX9_newFinder 57 = .ok (.aload_n 1, 1) := dk_43 (dk_at dksX9_newFinder_2 9 rfl rfl)
theorem dX9_newFinder_58 : decode cX9_newFinder 58 = .ok (.getfield 208, 3) := dk_180 0 208 (dk_at dksX9_newFinder_2 10 rfl rfl)
theorem dX9_newFinder_61 : decode cX9_newFinder 61 = .ok (.iload_n 2, 1) := dk_28 (dk_at dksX9_newFinder_2 13 rfl rfl)
theorem dX9_newFinder_62 : decode cX9_newFinder 62 = .ok (.aload_n 0, 1) := dk_42 (dk_at dksX9_newFinder_2 14 rfl rfl)
theorem dX9_newFinder_63 : decode cX9_newFinder 63 = .ok (.ldc 114, 2) := dk_18 114 (dk_at dksX9_newFinder_2 15 rfl rfl)
theorem dX9_newFinder_65 : decode cX9_newFinder 65 = .ok (.iconst 1, 1) := dk_4 (dk_at dksX9_newFinder_2 17 rfl rfl)
theorem dX9_newFinder_66 : decode cX9_newFinder 66 = .ok (.bipush 9, 2) := dk_16 9 (dk_at dksX9_newFinder_2 18 rfl rfl)
theorem dX9_newFinder_68 : decode cX9_newFinder 68 = .ok (.invokevirtual 173, 3) := dk_182 0 173 (dk_at dksX9_newFinder_2 20 rfl rfl)
theorem dX9_newFinder_71 : decode cX9_newFinder 71 = .ok (.iastore, 1) := dk_79 (dk_at dksX9_newFinder_2 23 rfl rfl)
theorem dX9_newFinder_72 : decode cX9_newFinder 72 = .ok (.aload_n 1, 1) := dk_43 (dk_at dksX9_newFinder_3 0 rfl rfl)
theorem dX9_newFinder_73 : decode cX9_newFinder 73 = .ok (.getfield 210, 3) := dk_180 0 210 (dk_at dksX9_newFinder_3 1 rfl rfl)
theorem dX9_newFinder_76 : decode cX9_newFinder 76 = .ok (.iload_n 2, 1) := dk_28 (dk_at dksX9_newFinder_3 4 rfl rfl)
theorem dX9_newFinder_77 : decode cX9_newFinder 77 = .ok (.aload_n 0, 1) := dk_42 (dk_at dksX9_newFinder_3 5 rfl rfl)
theorem dX9_newFinder_78 : decode cX9_newFinder 78 = .ok (.ldc 116, 2) := dk_18 116 (dk_at dksX9_newFinder_3 6 rfl rfl)
theorem dX9_newFinder_80 : decode cX9_newFinder 80 = .ok (.iconst 0, 1) := dk_3 (dk_at dksX9_newFinder_3 8 rfl rfl)
theorem dX9_newFinder_81 : decode cX9_newFinder 81 = .ok (.bipush 20, 2) := dk_16 20 (dk_at dksX9_newFinder_3 9 rfl rfl)
theorem dX9_newFinder_83 : decode cX9_newFinder 83 = .ok (.invokevirtual 173, 3) := dk_182 0 173 (dk_at dksX9_newFinder_3 11 rfl rfl)
theorem dX9_newFinder_86 : decode cX9_newFinder 86 = .ok (.iastore, 1) := dk_79 (dk_at dksX9_newFinder_3 14 rfl rfl)
theorem dX9_newFinder_87 : decode cX9_newFinder 87 = .ok (.aload_n 1, 1) := dk_43 (dk_at dksX9_newFinder_3 15 rfl rfl)
theorem dX9_newFinder_88 : decode cX9_newFinder 88 = .ok (.getfield 213, 3) := dk_180 0 213 (dk_at dksX9_newFinder_3 16 rfl rfl)
theorem dX9_newFinder_91 : decode cX9_newFinder 91 = .ok (.iload_n 2, 1) := dk_28 (dk_at dksX9_newFinder_3 19 rfl rfl)
theorem dX9_newFinder_92 : decode cX9_newFinder 92 = .ok (.lload_n 3, 1) := dk_33 (dk_at dksX9_newFinder_3 20 rfl rfl)
theorem dX9_newFinder_93 : decode cX9_newFinder 93 = .ok (.lastore, 1) := dk_80 (dk_at dksX9_newFinder_3 21 rfl rfl)
theorem dX9_newFinder_94 : decode cX9_newFinder 94 = .ok (.aload_n 1, 1) := dk_43 (dk_at dksX9_newFinder_3 22 rfl rfl)
theorem dX9_newFinder_95 : decode cX9_newFinder 95 = .ok (.dup, 1) := dk_89 (dk_at dksX9_newFinder_3 23 rfl rfl)
theorem dX9_newFinder_96 : decode cX9_newFinder 96 = .ok (.getfield 198, 3) := dk_180 0 198 (dk_at dksX9_newFinder_4 0 rfl rfl)
theorem dX9_newFinder_99 : decode cX9_newFinder 99 = .ok (.iconst 1, 1) := dk_4 (dk_at dksX9_newFinder_4 3 rfl rfl)
theorem dX9_newFinder_100 : decode cX9_newFinder 100 = .ok (.iadd, 1) := dk_96 (dk_at dksX9_newFinder_4 4 rfl rfl)
theorem dX9_newFinder_101 : decode cX9_newFinder 101 = .ok (.putfield 198, 3) := dk_181 0 198 (dk_at dksX9_newFinder_4 5 rfl rfl)
theorem dX9_newFinder_104 : decode cX9_newFinder 104 = .ok (.return_, 1) := dk_177 (dk_at dksX9_newFinder_4 8 rfl rfl)
abbrev cX9_fresh : ByteArray := prog_11_method_16_code
def yX9_fresh : MethodName := ⟨RX9, "fresh", "(LLastPebble$Beach;)J"⟩
def dkwX9_fresh_1 : List UInt8 := [180, 0, 3, 180, 0, 55, 6, 42, 180, 0, 29, 182, 0, 59, 191, 42, 182, 0, 19, 32, 173]
abbrev dktX9_fresh_1 : List UInt8 := dkwX9_fresh_1 ++ []
def dkwX9_fresh_0 : List UInt8 := [42, 182, 0, 156, 65, 43, 32, 182, 0, 160, 156, 0, 11, 43, 32, 182, 0, 166, 155, 0, 19, 42]
abbrev dktX9_fresh_0 : List UInt8 := dkwX9_fresh_0 ++ dktX9_fresh_1
theorem dksX9_fresh_0 : cX9_fresh.data.toList.drop 0 = dktX9_fresh_0 := by decide +kernel
theorem dksX9_fresh_1 : cX9_fresh.data.toList.drop 22 = dktX9_fresh_1 := dk_seg dksX9_fresh_0 22 rfl rfl
theorem dX9_fresh_0 : decode cX9_fresh 0 = .ok (.aload_n 0, 1) := dk_42 (dk_at dksX9_fresh_0 0 rfl rfl)
theorem dX9_fresh_1 : decode cX9_fresh 1 = .ok (.invokevirtual 156, 3) := dk_182 0 156 (dk_at dksX9_fresh_0 1 rfl rfl)
theorem dX9_fresh_4 : decode cX9_fresh 4 = .ok (.lstore_n 2, 1) := dk_65 (dk_at dksX9_fresh_0 4 rfl rfl)
theorem dX9_fresh_5 : decode cX9_fresh 5 = .ok (.aload_n 1, 1) := dk_43 (dk_at dksX9_fresh_0 5 rfl rfl)
theorem dX9_fresh_6 : decode cX9_fresh 6 = .ok (.lload_n 2, 1) := dk_32 (dk_at dksX9_fresh_0 6 rfl rfl)
theorem dX9_fresh_7 : decode cX9_fresh 7 = .ok (.invokevirtual 160, 3) := dk_182 0 160 (dk_at dksX9_fresh_0 7 rfl rfl)
theorem dX9_fresh_10 : decode cX9_fresh 10 = .ok (.ifCond .ge 11, 3) := dk_156 0 11 (dk_at dksX9_fresh_0 10 rfl rfl)
theorem dX9_fresh_13 : decode cX9_fresh 13 = .ok (.aload_n 1, 1) := dk_43 (dk_at dksX9_fresh_0 13 rfl rfl)
theorem dX9_fresh_14 : decode cX9_fresh 14 = .ok (.lload_n 2, 1) := dk_32 (dk_at dksX9_fresh_0 14 rfl rfl)
theorem dX9_fresh_15 : decode cX9_fresh 15 = .ok (.invokevirtual 166, 3) := dk_182 0 166 (dk_at dksX9_fresh_0 15 rfl rfl)
theorem dX9_fresh_18 : decode cX9_fresh 18 = .ok (.ifCond .lt 19, 3) := dk_155 0 19 (dk_at dksX9_fresh_0 18 rfl rfl)
theorem dX9_fresh_21 : decode cX9_fresh 21 = .ok (.aload_n 0, 1) := dk_42 (dk_at dksX9_fresh_0 21 rfl rfl)
theorem dX9_fresh_22 : decode cX9_fresh 22 = .ok (.getfield 3, 3) := dk_180 0 3 (dk_at dksX9_fresh_1 0 rfl rfl)
theorem dX9_fresh_25 : decode cX9_fresh 25 = .ok (.getfield 55, 3) := dk_180 0 55 (dk_at dksX9_fresh_1 3 rfl rfl)
theorem dX9_fresh_28 : decode cX9_fresh 28 = .ok (.iconst 3, 1) := dk_6 (dk_at dksX9_fresh_1 6 rfl rfl)
theorem dX9_fresh_29 : decode cX9_fresh 29 = .ok (.aload_n 0, 1) := dk_42 (dk_at dksX9_fresh_1 7 rfl rfl)
theorem dX9_fresh_30 : decode cX9_fresh 30 = .ok (.getfield 29, 3) := dk_180 0 29 (dk_at dksX9_fresh_1 8 rfl rfl)
theorem dX9_fresh_33 : decode cX9_fresh 33 = .ok (.invokevirtual 59, 3) := dk_182 0 59 (dk_at dksX9_fresh_1 11 rfl rfl)
theorem dX9_fresh_36 : decode cX9_fresh 36 = .ok (.athrow, 1) := dk_191 (dk_at dksX9_fresh_1 14 rfl rfl)
theorem dX9_fresh_37 : decode cX9_fresh 37 = .ok (.aload_n 0, 1) := dk_42 (dk_at dksX9_fresh_1 15 rfl rfl)
theorem dX9_fresh_38 : decode cX9_fresh 38 = .ok (.invokevirtual 19, 3) := dk_182 0 19 (dk_at dksX9_fresh_1 16 rfl rfl)
theorem dX9_fresh_41 : decode cX9_fresh 41 = .ok (.lload_n 2, 1) := dk_32 (dk_at dksX9_fresh_1 19 rfl rfl)
theorem dX9_fresh_42 : decode cX9_fresh 42 = .ok (.lreturn, 1) := dk_173 (dk_at dksX9_fresh_1 20 rfl rfl)
abbrev cX9_name : ByteArray := prog_11_method_15_code
def yX9_name : MethodName := ⟨RX9, "name", "()J"⟩
def dkwX9_name_3 : List UInt8 := [132, 3, 1, 167, 255, 224, 31, 173]
abbrev dktX9_name_3 : List UInt8 := dkwX9_name_3 ++ []
def dkwX9_name_2 : List UInt8 := [162, 0, 30, 31, 20, 0, 152, 105, 42, 180, 0, 3, 180, 0, 22, 29, 51, 133, 97, 20, 0, 154, 101, 64]
abbrev dktX9_name_2 : List UInt8 := dkwX9_name_2 ++ dktX9_name_3
def dkwX9_name_1 : List UInt8 := [182, 0, 148, 153, 0, 8, 42, 182, 0, 68, 191, 9, 64, 42, 180, 0, 29, 62, 29, 42, 180, 0, 26]
abbrev dktX9_name_1 : List UInt8 := dkwX9_name_1 ++ dktX9_name_2
def dkwX9_name_0 : List UInt8 := [42, 180, 0, 32, 4, 160, 0, 24, 42, 180, 0, 26, 42, 180, 0, 29, 100, 16, 8, 163, 0, 10, 42]
abbrev dktX9_name_0 : List UInt8 := dkwX9_name_0 ++ dktX9_name_1
theorem dksX9_name_0 : cX9_name.data.toList.drop 0 = dktX9_name_0 := by decide +kernel
theorem dksX9_name_1 : cX9_name.data.toList.drop 23 = dktX9_name_1 := dk_seg dksX9_name_0 23 rfl rfl
theorem dksX9_name_2 : cX9_name.data.toList.drop 46 = dktX9_name_2 := dk_seg dksX9_name_1 23 rfl rfl
theorem dksX9_name_3 : cX9_name.data.toList.drop 70 = dktX9_name_3 := dk_seg dksX9_name_2 24 rfl rfl
theorem dX9_name_0 : decode cX9_name 0 = .ok (.aload_n 0, 1) := dk_42 (dk_at dksX9_name_0 0 rfl rfl)
theorem dX9_name_1 : decode cX9_name 1 = .ok (.getfield 32, 3) := dk_180 0 32 (dk_at dksX9_name_0 1 rfl rfl)
theorem dX9_name_4 : decode cX9_name 4 = .ok (.iconst 1, 1) := dk_4 (dk_at dksX9_name_0 4 rfl rfl)
theorem dX9_name_5 : decode cX9_name 5 = .ok (.if_icmp .ne 24, 3) := dk_160 0 24 (dk_at dksX9_name_0 5 rfl rfl)
theorem dX9_name_8 : decode cX9_name 8 = .ok (.aload_n 0, 1) := dk_42 (dk_at dksX9_name_0 8 rfl rfl)
theorem dX9_name_9 : decode cX9_name 9 = .ok (.getfield 26, 3) := dk_180 0 26 (dk_at dksX9_name_0 9 rfl rfl)
theorem dX9_name_12 : decode cX9_name 12 = .ok (.aload_n 0, 1) := dk_42 (dk_at dksX9_name_0 12 rfl rfl)
theorem dX9_name_13 : decode cX9_name 13 = .ok (.getfield 29, 3) := dk_180 0 29 (dk_at dksX9_name_0 13 rfl rfl)
theorem dX9_name_16 : decode cX9_name 16 = .ok (.isub, 1) := dk_100 (dk_at dksX9_name_0 16 rfl rfl)
theorem dX9_name_17 : decode cX9_name 17 = .ok (.bipush 8, 2) := dk_16 8 (dk_at dksX9_name_0 17 rfl rfl)
theorem dX9_name_19 : decode cX9_name 19 = .ok (.if_icmp .gt 10, 3) := dk_163 0 10 (dk_at dksX9_name_0 19 rfl rfl)
theorem dX9_name_22 : decode cX9_name 22 = .ok (.aload_n 0, 1) := dk_42 (dk_at dksX9_name_0 22 rfl rfl)
theorem dX9_name_23 : decode cX9_name 23 = .ok (.invokevirtual 148, 3) := dk_182 0 148 (dk_at dksX9_name_1 0 rfl rfl)
theorem dX9_name_26 : decode cX9_name 26 = .ok (.ifCond .eq 8, 3) := dk_153 0 8 (dk_at dksX9_name_1 3 rfl rfl)
theorem dX9_name_29 : decode cX9_name 29 = .ok (.aload_n 0, 1) := dk_42 (dk_at dksX9_name_1 6 rfl rfl)
theorem dX9_name_30 : decode cX9_name 30 = .ok (.invokevirtual 68, 3) := dk_182 0 68 (dk_at dksX9_name_1 7 rfl rfl)
theorem dX9_name_33 : decode cX9_name 33 = .ok (.athrow, 1) := dk_191 (dk_at dksX9_name_1 10 rfl rfl)
theorem dX9_name_34 : decode cX9_name 34 = .ok (.lconst 0, 1) := dk_9 (dk_at dksX9_name_1 11 rfl rfl)
theorem dX9_name_35 : decode cX9_name 35 = .ok (.lstore_n 1, 1) := dk_64 (dk_at dksX9_name_1 12 rfl rfl)
theorem dX9_name_36 : decode cX9_name 36 = .ok (.aload_n 0, 1) := dk_42 (dk_at dksX9_name_1 13 rfl rfl)
theorem dX9_name_37 : decode cX9_name 37 = .ok (.getfield 29, 3) := dk_180 0 29 (dk_at dksX9_name_1 14 rfl rfl)
theorem dX9_name_40 : decode cX9_name 40 = .ok (.istore_n 3, 1) := dk_62 (dk_at dksX9_name_1 17 rfl rfl)
theorem dX9_name_41 : decode cX9_name 41 = .ok (.iload_n 3, 1) := dk_29 (dk_at dksX9_name_1 18 rfl rfl)
theorem dX9_name_42 : decode cX9_name 42 = .ok (.aload_n 0, 1) := dk_42 (dk_at dksX9_name_1 19 rfl rfl)
theorem dX9_name_43 : decode cX9_name 43 = .ok (.getfield 26, 3) := dk_180 0 26 (dk_at dksX9_name_1 20 rfl rfl)
theorem dX9_name_46 : decode cX9_name 46 = .ok (.if_icmp .ge 30, 3) := dk_162 0 30 (dk_at dksX9_name_2 0 rfl rfl)
theorem dX9_name_49 : decode cX9_name 49 = .ok (.lload_n 1, 1) := dk_31 (dk_at dksX9_name_2 3 rfl rfl)
theorem dX9_name_50 : decode cX9_name 50 = .ok (.ldc2_w 152, 3) := dk_20 0 152 (dk_at dksX9_name_2 4 rfl rfl)
theorem dX9_name_53 : decode cX9_name 53 = .ok (.lmul, 1) := dk_105 (dk_at dksX9_name_2 7 rfl rfl)
theorem dX9_name_54 : decode cX9_name 54 = .ok (.aload_n 0, 1) := dk_42 (dk_at dksX9_name_2 8 rfl rfl)
theorem dX9_name_55 : decode cX9_name 55 = .ok (.getfield 3, 3) := dk_180 0 3 (dk_at dksX9_name_2 9 rfl rfl)
theorem dX9_name_58 : decode cX9_name 58 = .ok (.getfield 22, 3) := dk_180 0 22 (dk_at dksX9_name_2 12 rfl rfl)
theorem dX9_name_61 : decode cX9_name 61 = .ok (.iload_n 3, 1) := dk_29 (dk_at dksX9_name_2 15 rfl rfl)
theorem dX9_name_62 : decode cX9_name 62 = .ok (.baload, 1) := dk_51 (dk_at dksX9_name_2 16 rfl rfl)
theorem dX9_name_63 : decode cX9_name 63 = .ok (.i2l, 1) := dk_133 (dk_at dksX9_name_2 17 rfl rfl)
theorem dX9_name_64 : decode cX9_name 64 = .ok (.ladd, 1) := dk_97 (dk_at dksX9_name_2 18 rfl rfl)
theorem dX9_name_65 : decode cX9_name 65 = .ok (.ldc2_w 154, 3) := dk_20 0 154 (dk_at dksX9_name_2 19 rfl rfl)
theorem dX9_name_68 : decode cX9_name 68 = .ok (.lsub, 1) := dk_101 (dk_at dksX9_name_2 22 rfl rfl)
theorem dX9_name_69 : decode cX9_name 69 = .ok (.lstore_n 1, 1) := dk_64 (dk_at dksX9_name_2 23 rfl rfl)
theorem dX9_name_70 : decode cX9_name 70 = .ok (.iinc 3 1, 3) := dk_132 3 1 (dk_at dksX9_name_3 0 rfl rfl)
theorem dX9_name_73 : decode cX9_name 73 = .ok (.goto (-32), 3) := dk_167 255 224 (dk_at dksX9_name_3 3 rfl rfl)
theorem dX9_name_76 : decode cX9_name 76 = .ok (.lload_n 1, 1) := dk_31 (dk_at dksX9_name_3 6 rfl rfl)
theorem dX9_name_77 : decode cX9_name 77 = .ok (.lreturn, 1) := dk_173 (dk_at dksX9_name_3 7 rfl rfl)
abbrev cX9_isKept : ByteArray := prog_11_method_14_code
def yX9_isKept : MethodName := ⟨RX9, "isKept", "()Z"⟩
def dkwX9_isKept_8 : List UInt8 := [182, 0, 145, 155, 0, 7, 4, 167, 0, 4, 3, 172]
abbrev dktX9_isKept_8 : List UInt8 := dkwX9_isKept_8 ++ []
def dkwX9_isKept_7 : List UInt8 := [4, 167, 0, 4, 3, 61, 27, 154, 0, 21, 28, 154, 0, 17, 42, 182, 0, 142, 156, 0, 10, 42]
abbrev dktX9_isKept_7 : List UInt8 := dkwX9_isKept_7 ++ dktX9_isKept_8
def dkwX9_isKept_6 : List UInt8 := [182, 0, 72, 154, 0, 21, 42, 18, 138, 182, 0, 72, 154, 0, 12, 42, 18, 140, 182, 0, 72, 153, 0, 7]
abbrev dktX9_isKept_6 : List UInt8 := dkwX9_isKept_6 ++ dktX9_isKept_7
def dkwX9_isKept_5 : List UInt8 := [154, 0, 48, 42, 18, 132, 182, 0, 72, 154, 0, 39, 42, 18, 134, 182, 0, 72, 154, 0, 30, 42, 18, 136]
abbrev dktX9_isKept_5 : List UInt8 := dkwX9_isKept_5 ++ dktX9_isKept_6
def dkwX9_isKept_4 : List UInt8 := [42, 18, 126, 182, 0, 72, 154, 0, 66, 42, 18, 128, 182, 0, 72, 154, 0, 57, 42, 18, 130, 182, 0, 72]
abbrev dktX9_isKept_4 : List UInt8 := dkwX9_isKept_4 ++ dktX9_isKept_5
def dkwX9_isKept_3 : List UInt8 := [42, 18, 122, 182, 0, 72, 153, 0, 7, 4, 167, 0, 4, 3, 60, 42, 18, 124, 182, 0, 72, 154, 0, 75]
abbrev dktX9_isKept_3 : List UInt8 := dkwX9_isKept_3 ++ dktX9_isKept_4
def dkwX9_isKept_2 : List UInt8 := [182, 0, 72, 154, 0, 30, 42, 18, 118, 182, 0, 72, 154, 0, 21, 42, 18, 120, 182, 0, 72, 154, 0, 12]
abbrev dktX9_isKept_2 : List UInt8 := dkwX9_isKept_2 ++ dktX9_isKept_3
def dkwX9_isKept_1 : List UInt8 := [154, 0, 57, 42, 18, 113, 182, 0, 72, 154, 0, 48, 42, 18, 114, 182, 0, 72, 154, 0, 39, 42, 18, 116]
abbrev dktX9_isKept_1 : List UInt8 := dkwX9_isKept_1 ++ dktX9_isKept_2
def dkwX9_isKept_0 : List UInt8 := [42, 18, 107, 182, 0, 72, 154, 0, 75, 42, 18, 109, 182, 0, 72, 154, 0, 66, 42, 18, 111, 182, 0, 72]
abbrev dktX9_isKept_0 : List UInt8 := dkwX9_isKept_0 ++ dktX9_isKept_1
theorem dksX9_isKept_0 : cX9_isKept.data.toList.drop 0 = dktX9_isKept_0 := by decide +kernel
theorem dksX9_isKept_1 : cX9_isKept.data.toList.drop 24 = dktX9_isKept_1 := dk_seg dksX9_isKept_0 24 rfl rfl
theorem dksX9_isKept_2 : cX9_isKept.data.toList.drop 48 = dktX9_isKept_2 := dk_seg dksX9_isKept_1 24 rfl rfl
theorem dksX9_isKept_3 : cX9_isKept.data.toList.drop 72 = dktX9_isKept_3 := dk_seg dksX9_isKept_2 24 rfl rfl
theorem dksX9_isKept_4 : cX9_isKept.data.toList.drop 96 = dktX9_isKept_4 := dk_seg dksX9_isKept_3 24 rfl rfl
theorem dksX9_isKept_5 : cX9_isKept.data.toList.drop 120 = dktX9_isKept_5 := dk_seg dksX9_isKept_4 24 rfl rfl
theorem dksX9_isKept_6 : cX9_isKept.data.toList.drop 144 = dktX9_isKept_6 := dk_seg dksX9_isKept_5 24 rfl rfl
theorem dksX9_isKept_7 : cX9_isKept.data.toList.drop 168 = dktX9_isKept_7 := dk_seg dksX9_isKept_6 24 rfl rfl
theorem dksX9_isKept_8 : cX9_isKept.data.toList.drop 190 = dktX9_isKept_8 := dk_seg dksX9_isKept_7 22 rfl rfl
theorem dX9_isKept_0 : decode cX9_isKept 0 = .ok (.aload_n 0, 1) := dk_42 (dk_at dksX9_isKept_0 0 rfl rfl)
theorem dX9_isKept_1 : decode cX9_isKept 1 = .ok (.ldc 107, 2) := dk_18 107 (dk_at dksX9_isKept_0 1 rfl rfl)
theorem dX9_isKept_3 : decode cX9_isKept 3 = .ok (.invokevirtual 72, 3) := dk_182 0 72 (dk_at dksX9_isKept_0 3 rfl rfl)
theorem dX9_isKept_6 : decode cX9_isKept 6 = .ok (.ifCond .ne 75, 3) := dk_154 0 75 (dk_at dksX9_isKept_0 6 rfl rfl)
theorem dX9_isKept_9 : decode cX9_isKept 9 = .ok (.aload_n 0, 1) := dk_42 (dk_at dksX9_isKept_0 9 rfl rfl)
theorem dX9_isKept_10 : decode cX9_isKept 10 = .ok (.ldc 109, 2) := dk_18 109 (dk_at dksX9_isKept_0 10 rfl rfl)
theorem dX9_isKept_12 : decode cX9_isKept 12 = .ok (.invokevirtual 72, 3) := dk_182 0 72 (dk_at dksX9_isKept_0 12 rfl rfl)
theorem dX9_isKept_15 : decode cX9_isKept 15 = .ok (.ifCond .ne 66, 3) := dk_154 0 66 (dk_at dksX9_isKept_0 15 rfl rfl)
theorem dX9_isKept_18 : decode cX9_isKept 18 = .ok (.aload_n 0, 1) := dk_42 (dk_at dksX9_isKept_0 18 rfl rfl)
theorem dX9_isKept_19 : decode cX9_isKept 19 = .ok (.ldc 111, 2) := dk_18 111 (dk_at dksX9_isKept_0 19 rfl rfl)
theorem dX9_isKept_21 : decode cX9_isKept 21 = .ok (.invokevirtual 72, 3) := dk_182 0 72 (dk_at dksX9_isKept_0 21 rfl rfl)
theorem dX9_isKept_24 : decode cX9_isKept 24 = .ok (.ifCond .ne 57, 3) := dk_154 0 57 (dk_at dksX9_isKept_1 0 rfl rfl)
theorem dX9_isKept_27 : decode cX9_isKept 27 = .ok (.aload_n 0, 1) := dk_42 (dk_at dksX9_isKept_1 3 rfl rfl)
theorem dX9_isKept_28 : decode cX9_isKept 28 = .ok (.ldc 113, 2) := dk_18 113 (dk_at dksX9_isKept_1 4 rfl rfl)
theorem dX9_isKept_30 : decode cX9_isKept 30 = .ok (.invokevirtual 72, 3) := dk_182 0 72 (dk_at dksX9_isKept_1 6 rfl rfl)
theorem dX9_isKept_33 : decode cX9_isKept 33 = .ok (.ifCond .ne 48, 3) := dk_154 0 48 (dk_at dksX9_isKept_1 9 rfl rfl)
theorem dX9_isKept_36 : decode cX9_isKept 36 = .ok (.aload_n 0, 1) := dk_42 (dk_at dksX9_isKept_1 12 rfl rfl)
theorem dX9_isKept_37 : decode cX9_isKept 37 = .ok (.ldc 114, 2) := dk_18 114 (dk_at dksX9_isKept_1 13 rfl rfl)
theorem dX9_isKept_39 : decode cX9_isKept 39 = .ok (.invokevirtual 72, 3) := dk_182 0 72 (dk_at dksX9_isKept_1 15 rfl rfl)
theorem dX9_isKept_42 : decode cX9_isKept 42 = .ok (.ifCond .ne 39, 3) := dk_154 0 39 (dk_at dksX9_isKept_1 18 rfl rfl)
theorem dX9_isKept_45 : decode cX9_isKept 45 = .ok (.aload_n 0, 1) := dk_42 (dk_at dksX9_isKept_1 21 rfl rfl)
theorem dX9_isKept_46 : decode cX9_isKept 46 = .ok (.ldc 116, 2) := dk_18 116 (dk_at dksX9_isKept_1 22 rfl rfl)
theorem dX9_isKept_48 : decode cX9_isKept 48 = .ok (.invokevirtual 72, 3) := dk_182 0 72 (dk_at dksX9_isKept_2 0 rfl rfl)
theorem dX9_isKept_51 : decode cX9_isKept 51 = .ok (.ifCond .ne 30, 3) := dk_154 0 30 (dk_at dksX9_isKept_2 3 rfl rfl)
theorem dX9_isKept_54 : decode cX9_isKept 54 = .ok (.aload_n 0, 1) := dk_42 (dk_at dksX9_isKept_2 6 rfl rfl)
theorem dX9_isKept_55 : decode cX9_isKept 55 = .ok (.ldc 118, 2) := dk_18 118 (dk_at dksX9_isKept_2 7 rfl rfl)
theorem dX9_isKept_57 : decode cX9_isKept 57 = .ok (.invokevirtual 72, 3) := dk_182 0 72 (dk_at dksX9_isKept_2 9 rfl rfl)
theorem dX9_isKept_60 : decode cX9_isKept 60 = .ok (.ifCond .ne 21, 3) := dk_154 0 21 (dk_at dksX9_isKept_2 12 rfl rfl)
theorem dX9_isKept_63 : decode cX9_isKept 63 = .ok (.aload_n 0, 1) := dk_42 (dk_at dksX9_isKept_2 15 rfl rfl)
theorem dX9_isKept_64 : decode cX9_isKept 64 = .ok (.ldc 120, 2) := dk_18 120 (dk_at dksX9_isKept_2 16 rfl rfl)
theorem dX9_isKept_66 : decode cX9_isKept 66 = .ok (.invokevirtual 72, 3) := dk_182 0 72 (dk_at dksX9_isKept_2 18 rfl rfl)
theorem dX9_isKept_69 : decode cX9_isKept 69 = .ok (.ifCond .ne 12, 3) := dk_154 0 12 (dk_at dksX9_isKept_2 21 rfl rfl)
theorem dX9_isKept_72 : decode cX9_isKept 72 = .ok (.aload_n 0, 1) := dk_42 (dk_at dksX9_isKept_3 0 rfl rfl)
theorem dX9_isKept_73 : decode cX9_isKept 73 = .ok (.ldc 122, 2) := dk_18 122 (dk_at dksX9_isKept_3 1 rfl rfl)
theorem dX9_isKept_75 : decode cX9_isKept 75 = .ok (.invokevirtual 72, 3) := dk_182 0 72 (dk_at dksX9_isKept_3 3 rfl rfl)
theorem dX9_isKept_78 : decode cX9_isKept 78 = .ok (.ifCond .eq 7, 3) := dk_153 0 7 (dk_at dksX9_isKept_3 6 rfl rfl)
theorem dX9_isKept_81 : decode cX9_isKept 81 = .ok (.iconst 1, 1) := dk_4 (dk_at dksX9_isKept_3 9 rfl rfl)
theorem dX9_isKept_82 : decode cX9_isKept 82 = .ok (.goto 4, 3) := dk_167 0 4 (dk_at dksX9_isKept_3 10 rfl rfl)
theorem dX9_isKept_85 : decode cX9_isKept 85 = .ok (.iconst 0, 1) := dk_3 (dk_at dksX9_isKept_3 13 rfl rfl)
theorem dX9_isKept_86 : decode cX9_isKept 86 = .ok (.istore_n 1, 1) := dk_60 (dk_at dksX9_isKept_3 14 rfl rfl)
theorem dX9_isKept_87 : decode cX9_isKept 87 = .ok (.aload_n 0, 1) := dk_42 (dk_at dksX9_isKept_3 15 rfl rfl)
theorem dX9_isKept_88 : decode cX9_isKept 88 = .ok (.ldc 124, 2) := dk_18 124 (dk_at dksX9_isKept_3 16 rfl rfl)
theorem dX9_isKept_90 : decode cX9_isKept 90 = .ok (.invokevirtual 72, 3) := dk_182 0 72 (dk_at dksX9_isKept_3 18 rfl rfl)
theorem dX9_isKept_93 : decode cX9_isKept 93 = .ok (.ifCond .ne 75, 3) := dk_154 0 75 (dk_at dksX9_isKept_3 21 rfl rfl)
theorem dX9_isKept_96 : decode cX9_isKept 96 = .ok (.aload_n 0, 1) := dk_42 (dk_at dksX9_isKept_4 0 rfl rfl)
theorem dX9_isKept_97 : decode cX9_isKept 97 = .ok (.ldc 126, 2) := dk_18 126 (dk_at dksX9_isKept_4 1 rfl rfl)
theorem dX9_isKept_99 : decode cX9_isKept 99 = .ok (.invokevirtual 72, 3) := dk_182 0 72 (dk_at dksX9_isKept_4 3 rfl rfl)
theorem dX9_isKept_102 : decode cX9_isKept 102 = .ok (.ifCond .ne 66, 3) := dk_154 0 66 (dk_at dksX9_isKept_4 6 rfl rfl)
theorem dX9_isKept_105 : decode cX9_isKept 105 = .ok (.aload_n 0, 1) := dk_42 (dk_at dksX9_isKept_4 9 rfl rfl)
theorem dX9_isKept_106 : decode cX9_isKept 106 = .ok (.ldc 128, 2) := dk_18 128 (dk_at dksX9_isKept_4 10 rfl rfl)
theorem dX9_isKept_108 : decode cX9_isKept 108 = .ok (.invokevirtual 72, 3) := dk_182 0 72 (dk_at dksX9_isKept_4 12 rfl rfl)
theorem dX9_isKept_111 : decode cX9_isKept 111 = .ok (.ifCond .ne 57, 3) := dk_154 0 57 (dk_at dksX9_isKept_4 15 rfl rfl)
theorem dX9_isKept_114 : decode cX9_isKept 114 = .ok (.aload_n 0, 1) := dk_42 (dk_at dksX9_isKept_4 18 rfl rfl)
theorem dX9_isKept_115 : decode cX9_isKept 115 = .ok (.ldc 130, 2) := dk_18 130 (dk_at dksX9_isKept_4 19 rfl rfl)
theorem dX9_isKept_117 : decode cX9_isKept 117 = .ok (.invokevirtual 72, 3) := dk_182 0 72 (dk_at dksX9_isKept_4 21 rfl rfl)
theorem dX9_isKept_120 : decode cX9_isKept 120 = .ok (.ifCond .ne 48, 3) := dk_154 0 48 (dk_at dksX9_isKept_5 0 rfl rfl)
theorem dX9_isKept_123 : decode cX9_isKept 123 = .ok (.aload_n 0, 1) := dk_42 (dk_at dksX9_isKept_5 3 rfl rfl)
theorem dX9_isKept_124 : decode cX9_isKept 124 = .ok (.ldc 132, 2) := dk_18 132 (dk_at dksX9_isKept_5 4 rfl rfl)
theorem dX9_isKept_126 : decode cX9_isKept 126 = .ok (.invokevirtual 72, 3) := dk_182 0 72 (dk_at dksX9_isKept_5 6 rfl rfl)
theorem dX9_isKept_129 : decode cX9_isKept 129 = .ok (.ifCond .ne 39, 3) := dk_154 0 39 (dk_at dksX9_isKept_5 9 rfl rfl)
theorem dX9_isKept_132 : decode cX9_isKept 132 = .ok (.aload_n 0, 1) := dk_42 (dk_at dksX9_isKept_5 12 rfl rfl)
theorem dX9_isKept_133 : decode cX9_isKept 133 = .ok (.ldc 134, 2) := dk_18 134 (dk_at dksX9_isKept_5 13 rfl rfl)
theorem dX9_isKept_135 : decode cX9_isKept 135 = .ok (.invokevirtual 72, 3) := dk_182 0 72 (dk_at dksX9_isKept_5 15 rfl rfl)
theorem dX9_isKept_138 : decode cX9_isKept 138 = .ok (.ifCond .ne 30, 3) := dk_154 0 30 (dk_at dksX9_isKept_5 18 rfl rfl)
theorem dX9_isKept_141 : decode cX9_isKept 141 = .ok (.aload_n 0, 1) := dk_42 (dk_at dksX9_isKept_5 21 rfl rfl)
theorem dX9_isKept_142 : decode cX9_isKept 142 = .ok (.ldc 136, 2) := dk_18 136 (dk_at dksX9_isKept_5 22 rfl rfl)
theorem dX9_isKept_144 : decode cX9_isKept 144 = .ok (.invokevirtual 72, 3) := dk_182 0 72 (dk_at dksX9_isKept_6 0 rfl rfl)
theorem dX9_isKept_147 : decode cX9_isKept 147 = .ok (.ifCond .ne 21, 3) := dk_154 0 21 (dk_at dksX9_isKept_6 3 rfl rfl)
theorem dX9_isKept_150 : decode cX9_isKept 150 = .ok (.aload_n 0, 1) := dk_42 (dk_at dksX9_isKept_6 6 rfl rfl)
theorem dX9_isKept_151 : decode cX9_isKept 151 = .ok (.ldc 138, 2) := dk_18 138 (dk_at dksX9_isKept_6 7 rfl rfl)
theorem dX9_isKept_153 : decode cX9_isKept 153 = .ok (.invokevirtual 72, 3) := dk_182 0 72 (dk_at dksX9_isKept_6 9 rfl rfl)
theorem dX9_isKept_156 : decode cX9_isKept 156 = .ok (.ifCond .ne 12, 3) := dk_154 0 12 (dk_at dksX9_isKept_6 12 rfl rfl)
theorem dX9_isKept_159 : decode cX9_isKept 159 = .ok (.aload_n 0, 1) := dk_42 (dk_at dksX9_isKept_6 15 rfl rfl)
theorem dX9_isKept_160 : decode cX9_isKept 160 = .ok (.ldc 140, 2) := dk_18 140 (dk_at dksX9_isKept_6 16 rfl rfl)
theorem dX9_isKept_162 : decode cX9_isKept 162 = .ok (.invokevirtual 72, 3) := dk_182 0 72 (dk_at dksX9_isKept_6 18 rfl rfl)
theorem dX9_isKept_165 : decode cX9_isKept 165 = .ok (.ifCond .eq 7, 3) := dk_153 0 7 (dk_at dksX9_isKept_6 21 rfl rfl)
theorem dX9_isKept_168 : decode cX9_isKept 168 = .ok (.iconst 1, 1) := dk_4 (dk_at dksX9_isKept_7 0 rfl rfl)
theorem dX9_isKept_169 : decode cX9_isKept 169 = .ok (.goto 4, 3) := dk_167 0 4 (dk_at dksX9_isKept_7 1 rfl rfl)
theorem dX9_isKept_172 : decode cX9_isKept 172 = .ok (.iconst 0, 1) := dk_3 (dk_at dksX9_isKept_7 4 rfl rfl)
theorem dX9_isKept_173 : decode cX9_isKept 173 = .ok (.istore_n 2, 1) := dk_61 (dk_at dksX9_isKept_7 5 rfl rfl)
theorem dX9_isKept_174 : decode cX9_isKept 174 = .ok (.iload_n 1, 1) := dk_27 (dk_at dksX9_isKept_7 6 rfl rfl)
theorem dX9_isKept_175 : decode cX9_isKept 175 = .ok (.ifCond .ne 21, 3) := dk_154 0 21 (dk_at dksX9_isKept_7 7 rfl rfl)
theorem dX9_isKept_178 : decode cX9_isKept 178 = .ok (.iload_n 2, 1) := dk_28 (dk_at dksX9_isKept_7 10 rfl rfl)
theorem dX9_isKept_179 : decode cX9_isKept 179 = .ok (.ifCond .ne 17, 3) := dk_154 0 17 (dk_at dksX9_isKept_7 11 rfl rfl)
theorem dX9_isKept_182 : decode cX9_isKept 182 = .ok (.aload_n 0, 1) := dk_42 (dk_at dksX9_isKept_7 14 rfl rfl)
theorem dX9_isKept_183 : decode cX9_isKept 183 = .ok (.invokevirtual 142, 3) := dk_182 0 142 (dk_at dksX9_isKept_7 15 rfl rfl)
theorem dX9_isKept_186 : decode cX9_isKept 186 = .ok (.ifCond .ge 10, 3) := dk_156 0 10 (dk_at dksX9_isKept_7 18 rfl rfl)
theorem dX9_isKept_189 : decode cX9_isKept 189 = .ok (.aload_n 0, 1) := dk_42 (dk_at dksX9_isKept_7 21 rfl rfl)
theorem dX9_isKept_190 : decode cX9_isKept 190 = .ok (.invokevirtual 145, 3) := dk_182 0 145 (dk_at dksX9_isKept_8 0 rfl rfl)
theorem dX9_isKept_193 : decode cX9_isKept 193 = .ok (.ifCond .lt 7, 3) := dk_155 0 7 (dk_at dksX9_isKept_8 3 rfl rfl)
theorem dX9_isKept_196 : decode cX9_isKept 196 = .ok (.iconst 1, 1) := dk_4 (dk_at dksX9_isKept_8 6 rfl rfl)
theorem dX9_isKept_197 : decode cX9_isKept 197 = .ok (.goto 4, 3) := dk_167 0 4 (dk_at dksX9_isKept_8 7 rfl rfl)
theorem dX9_isKept_200 : decode cX9_isKept 200 = .ok (.iconst 0, 1) := dk_3 (dk_at dksX9_isKept_8 10 rfl rfl)
theorem dX9_isKept_201 : decode cX9_isKept 201 = .ok (.ireturn, 1) := dk_172 (dk_at dksX9_isKept_8 11 rfl rfl)
abbrev cX9_acts : ByteArray := prog_11_method_12_code
def yX9_acts : MethodName := ⟨RX9, "acts", "()I"⟩
def dkwX9_acts_4 : List UInt8 := [172]
abbrev dktX9_acts_4 : List UInt8 := dkwX9_acts_4 ++ []
def dkwX9_acts_3 : List UInt8 := [182, 0, 72, 153, 0, 6, 16, 6, 172, 42, 18, 97, 182, 0, 72, 153, 0, 8, 16, 7, 167, 0, 4, 2]
abbrev dktX9_acts_3 : List UInt8 := dkwX9_acts_3 ++ dktX9_acts_4
def dkwX9_acts_2 : List UInt8 := [182, 0, 72, 153, 0, 5, 7, 172, 42, 18, 93, 182, 0, 72, 153, 0, 5, 8, 172, 42, 18, 95]
abbrev dktX9_acts_2 : List UInt8 := dkwX9_acts_2 ++ dktX9_acts_3
def dkwX9_acts_1 : List UInt8 := [18, 87, 182, 0, 72, 153, 0, 5, 5, 172, 42, 18, 89, 182, 0, 72, 153, 0, 5, 6, 172, 42, 18, 91]
abbrev dktX9_acts_1 : List UInt8 := dkwX9_acts_1 ++ dktX9_acts_2
def dkwX9_acts_0 : List UInt8 := [42, 18, 83, 182, 0, 72, 153, 0, 5, 3, 172, 42, 18, 85, 182, 0, 72, 153, 0, 5, 4, 172, 42]
abbrev dktX9_acts_0 : List UInt8 := dkwX9_acts_0 ++ dktX9_acts_1
theorem dksX9_acts_0 : cX9_acts.data.toList.drop 0 = dktX9_acts_0 := by decide +kernel
theorem dksX9_acts_1 : cX9_acts.data.toList.drop 23 = dktX9_acts_1 := dk_seg dksX9_acts_0 23 rfl rfl
theorem dksX9_acts_2 : cX9_acts.data.toList.drop 47 = dktX9_acts_2 := dk_seg dksX9_acts_1 24 rfl rfl
theorem dksX9_acts_3 : cX9_acts.data.toList.drop 69 = dktX9_acts_3 := dk_seg dksX9_acts_2 22 rfl rfl
theorem dksX9_acts_4 : cX9_acts.data.toList.drop 93 = dktX9_acts_4 := dk_seg dksX9_acts_3 24 rfl rfl
theorem dX9_acts_0 : decode cX9_acts 0 = .ok (.aload_n 0, 1) := dk_42 (dk_at dksX9_acts_0 0 rfl rfl)
theorem dX9_acts_1 : decode cX9_acts 1 = .ok (.ldc 83, 2) := dk_18 83 (dk_at dksX9_acts_0 1 rfl rfl)
theorem dX9_acts_3 : decode cX9_acts 3 = .ok (.invokevirtual 72, 3) := dk_182 0 72 (dk_at dksX9_acts_0 3 rfl rfl)
theorem dX9_acts_6 : decode cX9_acts 6 = .ok (.ifCond .eq 5, 3) := dk_153 0 5 (dk_at dksX9_acts_0 6 rfl rfl)
theorem dX9_acts_9 : decode cX9_acts 9 = .ok (.iconst 0, 1) := dk_3 (dk_at dksX9_acts_0 9 rfl rfl)
theorem dX9_acts_10 : decode cX9_acts 10 = .ok (.ireturn, 1) := dk_172 (dk_at dksX9_acts_0 10 rfl rfl)
theorem dX9_acts_11 : decode cX9_acts 11 = .ok (.aload_n 0, 1) := dk_42 (dk_at dksX9_acts_0 11 rfl rfl)
theorem dX9_acts_12 : decode cX9_acts 12 = .ok (.ldc 85, 2) := dk_18 85 (dk_at dksX9_acts_0 12 rfl rfl)
theorem dX9_acts_14 : decode cX9_acts 14 = .ok (.invokevirtual 72, 3) := dk_182 0 72 (dk_at dksX9_acts_0 14 rfl rfl)
theorem dX9_acts_17 : decode cX9_acts 17 = .ok (.ifCond .eq 5, 3) := dk_153 0 5 (dk_at dksX9_acts_0 17 rfl rfl)
theorem dX9_acts_20 : decode cX9_acts 20 = .ok (.iconst 1, 1) := dk_4 (dk_at dksX9_acts_0 20 rfl rfl)
theorem dX9_acts_21 : decode cX9_acts 21 = .ok (.ireturn, 1) := dk_172 (dk_at dksX9_acts_0 21 rfl rfl)
theorem dX9_acts_22 : decode cX9_acts 22 = .ok (.aload_n 0, 1) := dk_42 (dk_at dksX9_acts_0 22 rfl rfl)
theorem dX9_acts_23 : decode cX9_acts 23 = .ok (.ldc 87, 2) := dk_18 87 (dk_at dksX9_acts_1 0 rfl rfl)
theorem dX9_acts_25 : decode cX9_acts 25 = .ok (.invokevirtual 72, 3) := dk_182 0 72 (dk_at dksX9_acts_1 2 rfl rfl)
theorem dX9_acts_28 : decode cX9_acts 28 = .ok (.ifCond .eq 5, 3) := dk_153 0 5 (dk_at dksX9_acts_1 5 rfl rfl)
theorem dX9_acts_31 : decode cX9_acts 31 = .ok (.iconst 2, 1) := dk_5 (dk_at dksX9_acts_1 8 rfl rfl)
theorem dX9_acts_32 : decode cX9_acts 32 = .ok (.ireturn, 1) := dk_172 (dk_at dksX9_acts_1 9 rfl rfl)
theorem dX9_acts_33 : decode cX9_acts 33 = .ok (.aload_n 0, 1) := dk_42 (dk_at dksX9_acts_1 10 rfl rfl)
theorem dX9_acts_34 : decode cX9_acts 34 = .ok (.ldc 89, 2) := dk_18 89 (dk_at dksX9_acts_1 11 rfl rfl)
theorem dX9_acts_36 : decode cX9_acts 36 = .ok (.invokevirtual 72, 3) := dk_182 0 72 (dk_at dksX9_acts_1 13 rfl rfl)
theorem dX9_acts_39 : decode cX9_acts 39 = .ok (.ifCond .eq 5, 3) := dk_153 0 5 (dk_at dksX9_acts_1 16 rfl rfl)
theorem dX9_acts_42 : decode cX9_acts 42 = .ok (.iconst 3, 1) := dk_6 (dk_at dksX9_acts_1 19 rfl rfl)
theorem dX9_acts_43 : decode cX9_acts 43 = .ok (.ireturn, 1) := dk_172 (dk_at dksX9_acts_1 20 rfl rfl)
theorem dX9_acts_44 : decode cX9_acts 44 = .ok (.aload_n 0, 1) := dk_42 (dk_at dksX9_acts_1 21 rfl rfl)
theorem dX9_acts_45 : decode cX9_acts 45 = .ok (.ldc 91, 2) := dk_18 91 (dk_at dksX9_acts_1 22 rfl rfl)
theorem dX9_acts_47 : decode cX9_acts 47 = .ok (.invokevirtual 72, 3) := dk_182 0 72 (dk_at dksX9_acts_2 0 rfl rfl)
theorem dX9_acts_50 : decode cX9_acts 50 = .ok (.ifCond .eq 5, 3) := dk_153 0 5 (dk_at dksX9_acts_2 3 rfl rfl)
theorem dX9_acts_53 : decode cX9_acts 53 = .ok (.iconst 4, 1) := dk_7 (dk_at dksX9_acts_2 6 rfl rfl)
theorem dX9_acts_54 : decode cX9_acts 54 = .ok (.ireturn, 1) := dk_172 (dk_at dksX9_acts_2 7 rfl rfl)
theorem dX9_acts_55 : decode cX9_acts 55 = .ok (.aload_n 0, 1) := dk_42 (dk_at dksX9_acts_2 8 rfl rfl)
theorem dX9_acts_56 : decode cX9_acts 56 = .ok (.ldc 93, 2) := dk_18 93 (dk_at dksX9_acts_2 9 rfl rfl)
theorem dX9_acts_58 : decode cX9_acts 58 = .ok (.invokevirtual 72, 3) := dk_182 0 72 (dk_at dksX9_acts_2 11 rfl rfl)
theorem dX9_acts_61 : decode cX9_acts 61 = .ok (.ifCond .eq 5, 3) := dk_153 0 5 (dk_at dksX9_acts_2 14 rfl rfl)
theorem dX9_acts_64 : decode cX9_acts 64 = .ok (.iconst 5, 1) := dk_8 (dk_at dksX9_acts_2 17 rfl rfl)
theorem dX9_acts_65 : decode cX9_acts 65 = .ok (.ireturn, 1) := dk_172 (dk_at dksX9_acts_2 18 rfl rfl)
theorem dX9_acts_66 : decode cX9_acts 66 = .ok (.aload_n 0, 1) := dk_42 (dk_at dksX9_acts_2 19 rfl rfl)
theorem dX9_acts_67 : decode cX9_acts 67 = .ok (.ldc 95, 2) := dk_18 95 (dk_at dksX9_acts_2 20 rfl rfl)
theorem dX9_acts_69 : decode cX9_acts 69 = .ok (.invokevirtual 72, 3) := dk_182 0 72 (dk_at dksX9_acts_3 0 rfl rfl)
theorem dX9_acts_72 : decode cX9_acts 72 = .ok (.ifCond .eq 6, 3) := dk_153 0 6 (dk_at dksX9_acts_3 3 rfl rfl)
theorem dX9_acts_75 : decode cX9_acts 75 = .ok (.bipush 6, 2) := dk_16 6 (dk_at dksX9_acts_3 6 rfl rfl)
theorem dX9_acts_77 : decode cX9_acts 77 = .ok (.ireturn, 1) := dk_172 (dk_at dksX9_acts_3 8 rfl rfl)
theorem dX9_acts_78 : decode cX9_acts 78 = .ok (.aload_n 0, 1) := dk_42 (dk_at dksX9_acts_3 9 rfl rfl)
theorem dX9_acts_79 : decode cX9_acts 79 = .ok (.ldc 97, 2) := dk_18 97 (dk_at dksX9_acts_3 10 rfl rfl)
theorem dX9_acts_81 : decode cX9_acts 81 = .ok (.invokevirtual 72, 3) := dk_182 0 72 (dk_at dksX9_acts_3 12 rfl rfl)
theorem dX9_acts_84 : decode cX9_acts 84 = .ok (.ifCond .eq 8, 3) := dk_153 0 8 (dk_at dksX9_acts_3 15 rfl rfl)
theorem dX9_acts_87 : decode cX9_acts 87 = .ok (.bipush 7, 2) := dk_16 7 (dk_at dksX9_acts_3 18 rfl rfl)
theorem dX9_acts_89 : decode cX9_acts 89 = .ok (.goto 4, 3) := dk_167 0 4 (dk_at dksX9_acts_3 20 rfl rfl)
theorem dX9_acts_92 : decode cX9_acts 92 = .ok (.iconst (-1), 1) := dk_2 (dk_at dksX9_acts_3 23 rfl rfl)
theorem dX9_acts_93 : decode cX9_acts 93 = .ok (.ireturn, 1) := dk_172 (dk_at dksX9_acts_4 0 rfl rfl)
abbrev cX9_duels : ByteArray := prog_11_method_13_code
def yX9_duels : MethodName := ⟨RX9, "duels", "()I"⟩
def dkwX9_duels_2 : List UInt8 := [153, 0, 7, 6, 167, 0, 4, 2, 172]
abbrev dktX9_duels_2 : List UInt8 := dkwX9_duels_2 ++ []
def dkwX9_duels_1 : List UInt8 := [167, 0, 30, 42, 18, 103, 182, 0, 72, 153, 0, 7, 5, 167, 0, 17, 42, 18, 105, 182, 0, 72]
abbrev dktX9_duels_1 : List UInt8 := dkwX9_duels_1 ++ dktX9_duels_2
def dkwX9_duels_0 : List UInt8 := [42, 18, 99, 182, 0, 72, 153, 0, 7, 3, 167, 0, 43, 42, 18, 101, 182, 0, 72, 153, 0, 7, 4]
abbrev dktX9_duels_0 : List UInt8 := dkwX9_duels_0 ++ dktX9_duels_1
theorem dksX9_duels_0 : cX9_duels.data.toList.drop 0 = dktX9_duels_0 := by decide +kernel
theorem dksX9_duels_1 : cX9_duels.data.toList.drop 23 = dktX9_duels_1 := dk_seg dksX9_duels_0 23 rfl rfl
theorem dksX9_duels_2 : cX9_duels.data.toList.drop 45 = dktX9_duels_2 := dk_seg dksX9_duels_1 22 rfl rfl
theorem dX9_duels_0 : decode cX9_duels 0 = .ok (.aload_n 0, 1) := dk_42 (dk_at dksX9_duels_0 0 rfl rfl)
theorem dX9_duels_1 : decode cX9_duels 1 = .ok (.ldc 99, 2) := dk_18 99 (dk_at dksX9_duels_0 1 rfl rfl)
theorem dX9_duels_3 : decode cX9_duels 3 = .ok (.invokevirtual 72, 3) := dk_182 0 72 (dk_at dksX9_duels_0 3 rfl rfl)
theorem dX9_duels_6 : decode cX9_duels 6 = .ok (.ifCond .eq 7, 3) := dk_153 0 7 (dk_at dksX9_duels_0 6 rfl rfl)
theorem dX9_duels_9 : decode cX9_duels 9 = .ok (.iconst 0, 1) := dk_3 (dk_at dksX9_duels_0 9 rfl rfl)
theorem dX9_duels_10 : decode cX9_duels 10 = .ok (.goto 43, 3) := dk_167 0 43 (dk_at dksX9_duels_0 10 rfl rfl)
theorem dX9_duels_13 : decode cX9_duels 13 = .ok (.aload_n 0, 1) := dk_42 (dk_at dksX9_duels_0 13 rfl rfl)
theorem dX9_duels_14 : decode cX9_duels 14 = .ok (.ldc 101, 2) := dk_18 101 (dk_at dksX9_duels_0 14 rfl rfl)
theorem dX9_duels_16 : decode cX9_duels 16 = .ok (.invokevirtual 72, 3) := dk_182 0 72 (dk_at dksX9_duels_0 16 rfl rfl)
theorem dX9_duels_19 : decode cX9_duels 19 = .ok (.ifCond .eq 7, 3) := dk_153 0 7 (dk_at dksX9_duels_0 19 rfl rfl)
theorem dX9_duels_22 : decode cX9_duels 22 = .ok (.iconst 1, 1) := dk_4 (dk_at dksX9_duels_0 22 rfl rfl)
theorem dX9_duels_23 : decode cX9_duels 23 = .ok (.goto 30, 3) := dk_167 0 30 (dk_at dksX9_duels_1 0 rfl rfl)
theorem dX9_duels_26 : decode cX9_duels 26 = .ok (.aload_n 0, 1) := dk_42 (dk_at dksX9_duels_1 3 rfl rfl)
theorem dX9_duels_27 : decode cX9_duels 27 = .ok (.ldc 103, 2) := dk_18 103 (dk_at dksX9_duels_1 4 rfl rfl)
theorem dX9_duels_29 : decode cX9_duels 29 = .ok (.invokevirtual 72, 3) := dk_182 0 72 (dk_at dksX9_duels_1 6 rfl rfl)
theorem dX9_duels_32 : decode cX9_duels 32 = .ok (.ifCond .eq 7, 3) := dk_153 0 7 (dk_at dksX9_duels_1 9 rfl rfl)
theorem dX9_duels_35 : decode cX9_duels 35 = .ok (.iconst 2, 1) := dk_5 (dk_at dksX9_duels_1 12 rfl rfl)
theorem dX9_duels_36 : decode cX9_duels 36 = .ok (.goto 17, 3) := dk_167 0 17 (dk_at dksX9_duels_1 13 rfl rfl)
theorem dX9_duels_39 : decode cX9_duels 39 = .ok (.aload_n 0, 1) := dk_42 (dk_at dksX9_duels_1 16 rfl rfl)
theorem dX9_duels_40 : decode cX9_duels 40 = .ok (.ldc 105, 2) := dk_18 105 (dk_at dksX9_duels_1 17 rfl rfl)
theorem dX9_duels_42 : decode cX9_duels 42 = .ok (.invokevirtual 72, 3) := dk_182 0 72 (dk_at dksX9_duels_1 19 rfl rfl)
theorem dX9_duels_45 : decode cX9_duels 45 = .ok (.ifCond .eq 7, 3) := dk_153 0 7 (dk_at dksX9_duels_2 0 rfl rfl)
theorem dX9_duels_48 : decode cX9_duels 48 = .ok (.iconst 3, 1) := dk_6 (dk_at dksX9_duels_2 3 rfl rfl)
theorem dX9_duels_49 : decode cX9_duels 49 = .ok (.goto 4, 3) := dk_167 0 4 (dk_at dksX9_duels_2 4 rfl rfl)
theorem dX9_duels_52 : decode cX9_duels 52 = .ok (.iconst (-1), 1) := dk_2 (dk_at dksX9_duels_2 7 rfl rfl)
theorem dX9_duels_53 : decode cX9_duels 53 = .ok (.ireturn, 1) := dk_172 (dk_at dksX9_duels_2 8 rfl rfl)
abbrev cX9_newFind : ByteArray := prog_11_method_22_code
def yX9_newFind : MethodName := ⟨RX9, "newFind", "(LLastPebble$Beach;)V"⟩
def dkwX9_newFind_3 : List UInt8 := [79, 43, 180, 0, 225, 28, 33, 80, 43, 89, 180, 0, 217, 4, 96, 181, 0, 217, 177]
abbrev dktX9_newFind_3 : List UInt8 := dkwX9_newFind_3 ++ []
def dkwX9_newFind_2 : List UInt8 := [180, 0, 176, 4, 100, 182, 0, 173, 79, 43, 180, 0, 223, 28, 42, 18, 120, 3, 17, 3, 231, 182, 0, 173]
abbrev dktX9_newFind_2 : List UInt8 := dkwX9_newFind_2 ++ dktX9_newFind_3
def dkwX9_newFind_1 : List UInt8 := [182, 0, 59, 191, 42, 182, 0, 19, 42, 43, 182, 0, 201, 66, 43, 180, 0, 220, 28, 42, 18, 113, 3, 43]
abbrev dktX9_newFind_1 : List UInt8 := dkwX9_newFind_1 ++ dktX9_newFind_2
def dkwX9_newFind_0 : List UInt8 := [43, 180, 0, 217, 61, 28, 16, 8, 160, 0, 20, 42, 180, 0, 3, 180, 0, 55, 16, 6, 42, 180, 0, 29]
abbrev dktX9_newFind_0 : List UInt8 := dkwX9_newFind_0 ++ dktX9_newFind_1
theorem dksX9_newFind_0 : cX9_newFind.data.toList.drop 0 = dktX9_newFind_0 := by decide +kernel
theorem dksX9_newFind_1 : cX9_newFind.data.toList.drop 24 = dktX9_newFind_1 := dk_seg dksX9_newFind_0 24 rfl rfl
theorem dksX9_newFind_2 : cX9_newFind.data.toList.drop 48 = dktX9_newFind_2 := dk_seg dksX9_newFind_1 24 rfl rfl
theorem dksX9_newFind_3 : cX9_newFind.data.toList.drop 72 = dktX9_newFind_3 := dk_seg dksX9_newFind_2 24 rfl rfl
theorem dX9_newFind_0 : decode cX9_newFind 0 = .ok (.aload_n 1, 1) := dk_43 (dk_at dksX9_newFind_0 0 rfl rfl)
theorem dX9_newFind_1 : decode cX9_newFind 1 = .ok (.getfield 217, 3) := dk_180 0 217 (dk_at dksX9_newFind_0 1 rfl rfl)
theorem dX9_newFind_4 : decode cX9_newFind 4 = .ok (.istore_n 2, 1) := dk_61 (dk_at dksX9_newFind_0 4 rfl rfl)
theorem dX9_newFind_5 : decode cX9_newFind 5 = .ok (.iload_n 2, 1) := dk_28 (dk_at dksX9_newFind_0 5 rfl rfl)
theorem dX9_newFind_6 : decode cX9_newFind 6 = .ok (.bipush 8, 2) := dk_16 8 (dk_at dksX9_newFind_0 6 rfl rfl)
theorem dX9_newFind_8 : decode cX9_newFind 8 = .ok (.if_icmp .ne 20, 3) := dk_160 0 20 (dk_at dksX9_newFind_0 8 rfl rfl)
theorem dX9_newFind_11 : decode cX9_newFind 11 = .ok (.aload_n 0, 1) := dk_42 (dk_at dksX9_newFind_0 11 rfl rfl)
theorem dX9_newFind_12 : decode cX9_newFind 12 = .ok (.getfield 3, 3) := dk_180 0 3 (dk_at dksX9_newFind_0 12 rfl rfl)
theorem dX9_newFind_15 : decode cX9_newFind 15 = .ok (.getfield 55, 3) := dk_180 0 55 (dk_at dksX9_newFind_0 15 rfl rfl)
theorem dX9_newFind_18 : decode cX9_newFind 18 = .ok (.bipush 6, 2) := dk_16 6 (dk_at dksX9_newFind_0 18 rfl rfl)
theorem dX9_newFind_20 : decode cX9_newFind 20 = .ok (.aload_n 0, 1) := dk_42 (dk_at dksX9_newFind_0 20 rfl rfl)
theorem dX9_newFind_21 : decode cX9_newFind 21 = .ok (.getfield 29, 3) := dk_180 0 29 (dk_at dksX9_newFind_0 21 rfl rfl)
theorem dX9_newFind_24 : decode cX9_newFind 24 = .ok (.invokevirtual 59, 3) := dk_182 0 59 (dk_at dksX9_newFind_1 0 rfl rfl)
theorem dX9_newFind_27 : decode cX9_newFind 27 = .ok (.athrow, 1) := dk_191 (dk_at dksX9_newFind_1 3 rfl rfl)
theorem dX9_newFind_28 : decode cX9_newFind 28 = .ok (.aload_n 0, 1) := dk_42 (dk_at dksX9_newFind_1 4 rfl rfl)
theorem dX9_newFind_29 : decode cX9_newFind 29 = .ok (.invokevirtual 19, 3) := dk_182 0 19 (dk_at dksX9_newFind_1 5 rfl rfl)
theorem dX9_newFind_32 : decode cX9_newFind 32 = .ok (.aload_n 0, 1) := dk_42 (dk_at dksX9_newFind_1 8 rfl rfl)
theorem dX9_newFind_33 : decode cX9_newFind 33 = .ok (.aload_n 1, 1) := dk_43 (dk_at dksX9_newFind_1 9 rfl rfl)
theorem dX9_newFind_34 : decode cX9_newFind 34 = .ok (.invokevirtual 201, 3) := dk_182 0 201 (dk_at dksX9_newFind_1 10 rfl rfl)
theorem dX9_newFind_37 : decode cX9_newFind 37 = .ok (.lstore_n 3, 1) := dk_66 (dk_at dksX9_newFind_1 13 rfl rfl)
theorem dX9_newFind_38 : decode cX9_newFind 38 = .ok (.aload_n 1, 1) := dk_43 (dk_at dksX9_newFind_1 14 rfl rfl)
theorem dX9_newFind_39 : decode cX9_newFind 39 = .ok (.getfield 220, 3) := dk_180 0 220 (dk_at dksX9_newFind_1 15 rfl rfl)
theorem dX9_newFind_42 : decode cX9_newFind 42 = .ok (.iload_n 2, 1) := dk_28 (dk_at dksX9_newFind_1 18 rfl rfl)
theorem dX9_newFind_43 : decode cX9_newFind 43 = .ok (.aload_n 0, 1) := dk_42 (dk_at dksX9_newFind_1 19 rfl rfl)
theorem dX9_newFind_44 : decode cX9_newFind 44 = .ok (.ldc 113, 2) := dk_18 113 (dk_at dksX9_newFind_1 20 rfl rfl)
theorem dX9_newFind_46 : decode cX9_newFind 46 = .ok (.iconst 0, 1) := dk_3 (dk_at dksX9_newFind_1 22 rfl rfl)
theorem dX9_newFind_47 : decode cX9_newFind 47 = .ok (.aload_n 1, 1) := dk_43 (dk_at dksX9_newFind_1 23 rfl rfl)
theorem dX9_newFind_48 : decode cX9_newFind 48 = .ok (.getfield 176, 3) := dk_180 0 176 (dk_at dksX9_newFind_2 0 rfl rfl)
theorem dX9_newFind_51 : decode cX9_newFind 51 = .ok (.iconst 1, 1) := dk_4 (dk_at dksX9_newFind_2 3 rfl rfl)
theorem dX9_newFind_52 : decode cX9_newFind 52 = .ok (.isub, 1) := dk_100 (dk_at dksX9_newFind_2 4 rfl rfl)
theorem dX9_newFind_53 : decode cX9_newFind 53 = .ok (.invokevirtual 173, 3) := dk_182 0 173 (dk_at dksX9_newFind_2 5 rfl rfl)
theorem dX9_newFind_56 : decode cX9_newFind 56 = .ok (.iastore, 1) := dk_79 (dk_at dksX9_newFind_2 8 rfl rfl)
theorem dX9_newFind_57 : decode cX9_newFind 57 = .ok (.aload_n 1, 1) := dk_43 (dk_at dksX9_newFind_2 9 rfl rfl)
theorem dX9_newFind_58 : decode cX9_newFind 58 = .ok (.getfield 223, 3) := dk_180 0 223 (dk_at dksX9_newFind_2 10 rfl rfl)
theorem dX9_newFind_61 : decode cX9_newFind 61 = .ok (.iload_n 2, 1) := dk_28 (dk_at dksX9_newFind_2 13 rfl rfl)
theorem dX9_newFind_62 : decode cX9_newFind 62 = .ok (.aload_n 0, 1) := dk_42 (dk_at dksX9_newFind_2 14 rfl rfl)
theorem dX9_newFind_63 : decode cX9_newFind 63 = .ok (.ldc 120, 2) := dk_18 120 (dk_at dksX9_newFind_2 15 rfl rfl)
theorem dX9_newFind_65 : decode cX9_newFind 65 = .ok (.iconst 0, 1) := dk_3 (dk_at dksX9_newFind_2 17 rfl rfl)
theorem dX9_newFind_66 : decode cX9_newFind 66 = .ok (.sipush 999, 3) := dk_17 3 231 (dk_at dksX9_newFind_2 18 rfl rfl)
theorem dX9_newFind_69 : decode cX9_newFind 69 = .ok (.invokevirtual 173, 3) := dk_182 0 173 (dk_at dksX9_newFind_2 21 rfl rfl)
theorem dX9_newFind_72 : decode cX9_newFind 72 = .ok (.iastore, 1) := dk_79 (dk_at dksX9_newFind_3 0 rfl rfl)
theorem dX9_newFind_73 : decode cX9_newFind 73 = .ok (.aload_n 1, 1) := dk_43 (dk_at dksX9_newFind_3 1 rfl rfl)
theorem dX9_newFind_74 : decode cX9_newFind 74 = .ok (.getfield 225, 3) := dk_180 0 225 (dk_at dksX9_newFind_3 2 rfl rfl)
theorem dX9_newFind_77 : decode cX9_newFind 77 = .ok (.iload_n 2, 1) := dk_28 (dk_at dksX9_newFind_3 5 rfl rfl)
theorem dX9_newFind_78 : decode cX9_newFind 78 = .ok (.lload_n 3, 1) := dk_33 (dk_at dksX9_newFind_3 6 rfl rfl)
theorem dX9_newFind_79 : decode cX9_newFind 79 = .ok (.lastore, 1) := dk_80 (dk_at dksX9_newFind_3 7 rfl rfl)
theorem dX9_newFind_80 : decode cX9_newFind 80 = .ok (.aload_n 1, 1) := dk_43 (dk_at dksX9_newFind_3 8 rfl rfl)
theorem dX9_newFind_81 : decode cX9_newFind 81 = .ok (.dup, 1) := dk_89 (dk_at dksX9_newFind_3 9 rfl rfl)
theorem dX9_newFind_82 : decode cX9_newFind 82 = .ok (.getfield 217, 3) := dk_180 0 217 (dk_at dksX9_newFind_3 10 rfl rfl)
theorem dX9_newFind_85 : decode cX9_newFind 85 = .ok (.iconst 1, 1) := dk_4 (dk_at dksX9_newFind_3 13 rfl rfl)
theorem dX9_newFind_86 : decode cX9_newFind 86 = .ok (.iadd, 1) := dk_96 (dk_at dksX9_newFind_3 14 rfl rfl)
theorem dX9_newFind_87 : decode cX9_newFind 87 = .ok (.putfield 217, 3) := dk_181 0 217 (dk_at dksX9_newFind_3 15 rfl rfl)
theorem dX9_newFind_90 : decode cX9_newFind 90 = .ok (.return_, 1) := dk_177 (dk_at dksX9_newFind_3 18 rfl rfl)
abbrev cX9_newPebble : ByteArray := prog_11_method_23_code
def yX9_newPebble : MethodName := ⟨RX9, "newPebble", "(LLastPebble$Beach;)V"⟩
def dkwX9_newPebble_3 : List UInt8 := [18, 113, 3, 43, 180, 0, 179, 182, 0, 173, 79, 43, 89, 180, 0, 228, 4, 96, 181, 0, 228, 177]
abbrev dktX9_newPebble_3 : List UInt8 := dkwX9_newPebble_3 ++ []
def dkwX9_newPebble_2 : List UInt8 := [79, 42, 18, 126, 182, 0, 76, 43, 180, 0, 236, 28, 42, 43, 182, 0, 238, 79, 43, 180, 0, 240, 28, 42]
abbrev dktX9_newPebble_2 : List UInt8 := dkwX9_newPebble_2 ++ dktX9_newPebble_3
def dkwX9_newPebble_1 : List UInt8 := [182, 0, 59, 191, 42, 182, 0, 19, 42, 18, 124, 182, 0, 76, 43, 180, 0, 230, 28, 42, 43, 182, 0, 233]
abbrev dktX9_newPebble_1 : List UInt8 := dkwX9_newPebble_1 ++ dktX9_newPebble_2
def dkwX9_newPebble_0 : List UInt8 := [43, 180, 0, 228, 61, 28, 16, 30, 160, 0, 20, 42, 180, 0, 3, 180, 0, 55, 16, 6, 42, 180, 0, 29]
abbrev dktX9_newPebble_0 : List UInt8 := dkwX9_newPebble_0 ++ dktX9_newPebble_1
theorem dksX9_newPebble_0 : cX9_newPebble.data.toList.drop 0 = dktX9_newPebble_0 := by decide +kernel
theorem dksX9_newPebble_1 : cX9_newPebble.data.toList.drop 24 = dktX9_newPebble_1 := dk_seg dksX9_newPebble_0 24 rfl rfl
theorem dksX9_newPebble_2 : cX9_newPebble.data.toList.drop 48 = dktX9_newPebble_2 := dk_seg dksX9_newPebble_1 24 rfl rfl
theorem dksX9_newPebble_3 : cX9_newPebble.data.toList.drop 72 = dktX9_newPebble_3 := dk_seg dksX9_newPebble_2 24 rfl rfl
theorem dX9_newPebble_0 : decode cX9_newPebble 0 = .ok (.aload_n 1, 1) := dk_43 (dk_at dksX9_newPebble_0 0 rfl rfl)
theorem dX9_newPebble_1 : decode cX9_newPebble 1 = .ok (.getfield 228, 3) := dk_180 0 228 (dk_at dksX9_newPebble_0 1 rfl rfl)
theorem dX9_newPebble_4 : decode cX9_newPebble 4 = .ok (.istore_n 2, 1) := dk_61 (dk_at dksX9_newPebble_0 4 rfl rfl)
theorem dX9_newPebble_5 : decode cX9_newPebble 5 = .ok (.iload_n 2, 1) := dk_28 (dk_at dksX9_newPebble_0 5 rfl rfl)
theorem dX9_newPebble_6 : decode cX9_newPebble 6 = .ok (.bipush 30, 2) := dk_16 30 (dk_at dksX9_newPebble_0 6 rfl rfl)
theorem dX9_newPebble_8 : decode cX9_newPebble 8 = .ok (.if_icmp .ne 20, 3) := dk_160 0 20 (dk_at dksX9_newPebble_0 8 rfl rfl)
theorem dX9_newPebble_11 : decode cX9_newPebble 11 = .ok (.aload_n 0, 1) := dk_42 (dk_at dksX9_newPebble_0 11 rfl rfl)
theorem dX9_newPebble_12 : decode cX9_newPebble 12 = .ok (.getfield 3, 3) := dk_180 0 3 (dk_at dksX9_newPebble_0 12 rfl rfl)
theorem dX9_newPebble_15 : decode cX9_newPebble 15 = .ok (.getfield 55, 3) := dk_180 0 55 (dk_at dksX9_newPebble_0 15 rfl rfl)
theorem dX9_newPebble_18 : decode cX9_newPebble 18 = .ok (.bipush 6, 2) := dk_16 6 (dk_at dksX9_newPebble_0 18 rfl rfl)
theorem dX9_newPebble_20 : decode cX9_newPebble 20 = .ok (.aload_n 0, 1) := dk_42 (dk_at dksX9_newPebble_0 20 rfl rfl)
theorem dX9_newPebble_21 : decode cX9_newPebble 21 = .ok (.getfield 29, 3) := dk_180 0 29 (dk_at dksX9_newPebble_0 21 rfl rfl)
theorem dX9_newPebble_24 : decode cX9_newPebble 24 = .ok (.invokevirtual 59, 3) := dk_182 0 59 (dk_at dksX9_newPebble_1 0 rfl rfl)
theorem dX9_newPebble_27 : decode cX9_newPebble 27 = .ok (.athrow, 1) := dk_191 (dk_at dksX9_newPebble_1 3 rfl rfl)
theorem dX9_newPebble_28 : decode cX9_newPebble 28 = .ok (.aload_n 0, 1) := dk_42 (dk_at dksX9_newPebble_1 4 rfl rfl)
theorem dX9_newPebble_29 : decode cX9_newPebble 29 = .ok (.invokevirtual 19, 3) := dk_182 0 19 (dk_at dksX9_newPebble_1 5 rfl rfl)
theorem dX9_newPebble_32 : decode cX9_newPebble 32 = .ok (.aload_n 0, 1) := dk_42 (dk_at dksX9_newPebble_1 8 rfl rfl)
theorem dX9_newPebble_33 : decode cX9_newPebble 33 = .ok (.ldc 124, 2) := dk_18 124 (dk_at dksX9_newPebble_1 9 rfl rfl)
theorem dX9_newPebble_35 : decode cX9_newPebble 35 = .ok (.invokevirtual 76, 3) := dk_182 0 76 (dk_at dksX9_newPebble_1 11 rfl rfl)
theorem dX9_newPebble_38 : decode cX9_newPebble 38 = .ok (.aload_n 1, 1) := dk_43 (dk_at dksX9_newPebble_1 14 rfl rfl)
theorem dX9_newPebble_39 : decode cX9_newPebble 39 = .ok (.getfield 230, 3) := dk_180 0 230 (dk_at dksX9_newPebble_1 15 rfl rfl)
theorem dX9_newPebble_42 : decode cX9_newPebble 42 = .ok (.iload_n 2, 1) := dk_28 (dk_at dksX9_newPebble_1 18 rfl rfl)
theorem dX9_newPebble_43 : decode cX9_newPebble 43 = .ok (.aload_n 0, 1) := dk_42 (dk_at dksX9_newPebble_1 19 rfl rfl)
theorem dX9_newPebble_44 : decode cX9_newPebble 44 = .ok (.aload_n 1, 1) := dk_43 (dk_at dksX9_newPebble_1 20 rfl rfl)
theorem dX9_newPebble_45 : decode cX9_newPebble 45 = .ok (.invokevirtual 233, 3) := dk_182 0 233 (dk_at dksX9_newPebble_1 21 rfl rfl)
theorem dX9_newPebble_48 : decode cX9_newPebble 48 = .ok (.iastore, 1) := dk_79 (dk_at dksX9_newPebble_2 0 rfl rfl)
theorem dX9_newPebble_49 : decode cX9_newPebble 49 = .ok (.aload_n 0, 1) := dk_42 (dk_at dksX9_newPebble_2 1 rfl rfl)
theorem dX9_newPebble_50 : decode cX9_newPebble 50 = .ok (.ldc 126, 2) := dk_18 126 (dk_at dksX9_newPebble_2 2 rfl rfl)
theorem dX9_newPebble_52 : decode cX9_newPebble 52 = .ok (.invokevirtual 76, 3) := dk_182 0 76 (dk_at dksX9_newPebble_2 4 rfl rfl)
theorem dX9_newPebble_55 : decode cX9_newPebble 55 = .ok (.aload_n 1, 1) := dk_43 (dk_at dksX9_newPebble_2 7 rfl rfl)
theorem dX9_newPebble_56 : decode cX9_newPebble 56 = .ok (.getfield 236, 3) := dk_180 0 236 (dk_at dksX9_newPebble_2 8 rfl rfl)
theorem dX9_newPebble_59 : decode cX9_newPebble 59 = .ok (.iload_n 2, 1) := dk_28 (dk_at dksX9_newPebble_2 11 rfl rfl)
theorem dX9_newPebble_60 : decode cX9_newPebble 60 = .ok (.aload_n 0, 1) := dk_42 (dk_at dksX9_newPebble_2 12 rfl rfl)
theorem dX9_newPebble_61 : decode cX9_newPebble 61 = .ok (.aload_n 1, 1) := dk_43 (dk_at dksX9_newPebble_2 13 rfl rfl)
theorem dX9_newPebble_62 : decode cX9_newPebble 62 = .ok (.invokevirtual 238, 3) := dk_182 0 238 (dk_at dksX9_newPebble_2 14 rfl rfl)
theorem dX9_newPebble_65 : decode cX9_newPebble 65 = .ok (.iastore, 1) := dk_79 (dk_at dksX9_newPebble_2 17 rfl rfl)
theorem dX9_newPebble_66 : decode cX9_newPebble 66 = .ok (.aload_n 1, 1) := dk_43 (dk_at dksX9_newPebble_2 18 rfl rfl)
theorem dX9_newPebble_67 : decode cX9_newPebble 67 = .ok (.getfield 240, 3) := dk_180 0 240 (dk_at dksX9_newPebble_2 19 rfl rfl)
theorem dX9_newPebble_70 : decode cX9_newPebble 70 = .ok (.iload_n 2, 1) := dk_28 (dk_at dksX9_newPebble_2 22 rfl rfl)
theorem dX9_newPebble_71 : decode cX9_newPebble 71 = .ok (.aload_n 0, 1) := dk_42 (dk_at dksX9_newPebble_2 23 rfl rfl)
theorem dX9_newPebble_72 : decode cX9_newPebble 72 = .ok (.ldc 113, 2) := dk_18 113 (dk_at dksX9_newPebble_3 0 rfl rfl)
theorem dX9_newPebble_74 : decode cX9_newPebble 74 = .ok (.iconst 0, 1) := dk_3 (dk_at dksX9_newPebble_3 2 rfl rfl)
theorem dX9_newPebble_75 : decode cX9_newPebble 75 = .ok (.aload_n 1, 1) := dk_43 (dk_at dksX9_newPebble_3 3 rfl rfl)
theorem dX9_newPebble_76 : decode cX9_newPebble 76 = .ok (.getfield 179, 3) := dk_180 0 179 (dk_at dksX9_newPebble_3 4 rfl rfl)
theorem dX9_newPebble_79 : decode cX9_newPebble 79 = .ok (.invokevirtual 173, 3) := dk_182 0 173 (dk_at dksX9_newPebble_3 7 rfl rfl)
theorem dX9_newPebble_82 : decode cX9_newPebble 82 = .ok (.iastore, 1) := dk_79 (dk_at dksX9_newPebble_3 10 rfl rfl)
theorem dX9_newPebble_83 : decode cX9_newPebble 83 = .ok (.aload_n 1, 1) := dk_43 (dk_at dksX9_newPebble_3 11 rfl rfl)
theorem dX9_newPebble_84 : decode cX9_newPebble 84 = .ok (.dup, 1) := dk_89 (dk_at dksX9_newPebble_3 12 rfl rfl)
theorem dX9_newPebble_85 : decode cX9_newPebble 85 = .ok (.getfield 228, 3) := dk_180 0 228 (dk_at dksX9_newPebble_3 13 rfl rfl)
theorem dX9_newPebble_88 : decode cX9_newPebble 88 = .ok (.iconst 1, 1) := dk_4 (dk_at dksX9_newPebble_3 16 rfl rfl)
theorem dX9_newPebble_89 : decode cX9_newPebble 89 = .ok (.iadd, 1) := dk_96 (dk_at dksX9_newPebble_3 17 rfl rfl)
theorem dX9_newPebble_90 : decode cX9_newPebble 90 = .ok (.putfield 228, 3) := dk_181 0 228 (dk_at dksX9_newPebble_3 18 rfl rfl)
theorem dX9_newPebble_93 : decode cX9_newPebble 93 = .ok (.return_, 1) := dk_177 (dk_at dksX9_newPebble_3 21 rfl rfl)
abbrev cX9_finder : ByteArray := prog_11_method_18_code
def yX9_finder : MethodName := ⟨RX9, "finder", "(LLastPebble$Beach;)I"⟩
def dkwX9_finder_0 : List UInt8 := [42, 43, 42, 182, 0, 156, 182, 0, 160, 182, 0, 169, 172]
abbrev dktX9_finder_0 : List UInt8 := dkwX9_finder_0 ++ []
theorem dksX9_finder_0 : cX9_finder.data.toList.drop 0 = dktX9_finder_0 := by decide +kernel
theorem dX9_finder_0 : decode cX9_finder 0 = .ok (.aload_n 0, 1) := dk_42 (dk_at dksX9_finder_0 0 rfl rfl)
theorem dX9_finder_1 : decode cX9_finder 1 = .ok (.aload_n 1, 1) := dk_43 (dk_at dksX9_finder_0 1 rfl rfl)
theorem dX9_finder_2 : decode cX9_finder 2 = .ok (.aload_n 0, 1) := dk_42 (dk_at dksX9_finder_0 2 rfl rfl)
theorem dX9_finder_3 : decode cX9_finder 3 = .ok (.invokevirtual 156, 3) := dk_182 0 156 (dk_at dksX9_finder_0 3 rfl rfl)
theorem dX9_finder_6 : decode cX9_finder 6 = .ok (.invokevirtual 160, 3) := dk_182 0 160 (dk_at dksX9_finder_0 6 rfl rfl)
theorem dX9_finder_9 : decode cX9_finder 9 = .ok (.invokevirtual 169, 3) := dk_182 0 169 (dk_at dksX9_finder_0 9 rfl rfl)
theorem dX9_finder_12 : decode cX9_finder 12 = .ok (.ireturn, 1) := dk_172 (dk_at dksX9_finder_0 12 rfl rfl)
abbrev cX9_known : ByteArray := prog_11_method_17_code
def yX9_known : MethodName := ⟨RX9, "known", "(I)I"⟩
def dkwX9_known_1 : List UInt8 := [27, 172]
abbrev dktX9_known_1 : List UInt8 := dkwX9_known_1 ++ []
def dkwX9_known_0 : List UInt8 := [27, 156, 0, 19, 42, 180, 0, 3, 180, 0, 55, 6, 42, 180, 0, 29, 182, 0, 59, 191, 42, 182, 0, 19]
abbrev dktX9_known_0 : List UInt8 := dkwX9_known_0 ++ dktX9_known_1
theorem dksX9_known_0 : cX9_known.data.toList.drop 0 = dktX9_known_0 := by decide +kernel
theorem dksX9_known_1 : cX9_known.data.toList.drop 24 = dktX9_known_1 := dk_seg dksX9_known_0 24 rfl rfl
theorem dX9_known_0 : decode cX9_known 0 = .ok (.iload_n 1, 1) := dk_27 (dk_at dksX9_known_0 0 rfl rfl)
theorem dX9_known_1 : decode cX9_known 1 = .ok (.ifCond .ge 19, 3) := dk_156 0 19 (dk_at dksX9_known_0 1 rfl rfl)
theorem dX9_known_4 : decode cX9_known 4 = .ok (.aload_n 0, 1) := dk_42 (dk_at dksX9_known_0 4 rfl rfl)
theorem dX9_known_5 : decode cX9_known 5 = .ok (.getfield 3, 3) := dk_180 0 3 (dk_at dksX9_known_0 5 rfl rfl)
theorem dX9_known_8 : decode cX9_known 8 = .ok (.getfield 55, 3) := dk_180 0 55 (dk_at dksX9_known_0 8 rfl rfl)
theorem dX9_known_11 : decode cX9_known 11 = .ok (.iconst 3, 1) := dk_6 (dk_at dksX9_known_0 11 rfl rfl)
theorem dX9_known_12 : decode cX9_known 12 = .ok (.aload_n 0, 1) := dk_42 (dk_at dksX9_known_0 12 rfl rfl)
theorem dX9_known_13 : decode cX9_known 13 = .ok (.getfield 29, 3) := dk_180 0 29 (dk_at dksX9_known_0 13 rfl rfl)
theorem dX9_known_16 : decode cX9_known 16 = .ok (.invokevirtual 59, 3) := dk_182 0 59 (dk_at dksX9_known_0 16 rfl rfl)
theorem dX9_known_19 : decode cX9_known 19 = .ok (.athrow, 1) := dk_191 (dk_at dksX9_known_0 19 rfl rfl)
theorem dX9_known_20 : decode cX9_known 20 = .ok (.aload_n 0, 1) := dk_42 (dk_at dksX9_known_0 20 rfl rfl)
theorem dX9_known_21 : decode cX9_known 21 = .ok (.invokevirtual 19, 3) := dk_182 0 19 (dk_at dksX9_known_0 21 rfl rfl)
theorem dX9_known_24 : decode cX9_known 24 = .ok (.iload_n 1, 1) := dk_27 (dk_at dksX9_known_1 0 rfl rfl)
theorem dX9_known_25 : decode cX9_known 25 = .ok (.ireturn, 1) := dk_172 (dk_at dksX9_known_1 1 rfl rfl)
abbrev cX9_find : ByteArray := prog_11_method_19_code
def yX9_find : MethodName := ⟨RX9, "find", "(LLastPebble$Beach;)I"⟩
def dkwX9_find_0 : List UInt8 := [42, 43, 42, 182, 0, 156, 182, 0, 166, 182, 0, 169, 172]
abbrev dktX9_find_0 : List UInt8 := dkwX9_find_0 ++ []
theorem dksX9_find_0 : cX9_find.data.toList.drop 0 = dktX9_find_0 := by decide +kernel
theorem dX9_find_0 : decode cX9_find 0 = .ok (.aload_n 0, 1) := dk_42 (dk_at dksX9_find_0 0 rfl rfl)
theorem dX9_find_1 : decode cX9_find 1 = .ok (.aload_n 1, 1) := dk_43 (dk_at dksX9_find_0 1 rfl rfl)
theorem dX9_find_2 : decode cX9_find 2 = .ok (.aload_n 0, 1) := dk_42 (dk_at dksX9_find_0 2 rfl rfl)
theorem dX9_find_3 : decode cX9_find 3 = .ok (.invokevirtual 156, 3) := dk_182 0 156 (dk_at dksX9_find_0 3 rfl rfl)
theorem dX9_find_6 : decode cX9_find 6 = .ok (.invokevirtual 166, 3) := dk_182 0 166 (dk_at dksX9_find_0 6 rfl rfl)
theorem dX9_find_9 : decode cX9_find 9 = .ok (.invokevirtual 169, 3) := dk_182 0 169 (dk_at dksX9_find_0 9 rfl rfl)
theorem dX9_find_12 : decode cX9_find 12 = .ok (.ireturn, 1) := dk_172 (dk_at dksX9_find_0 12 rfl rfl)
abbrev cX9_duel : ByteArray := prog_11_method_24_code
def yX9_duel : MethodName := ⟨RX9, "duel", "(LLastPebble$Beach;)V"⟩
def dkwX9_duel_2 : List UInt8 := [182, 0, 68, 191, 42, 182, 0, 19, 177]
abbrev dktX9_duel_2 : List UInt8 := dkwX9_duel_2 ++ []
def dkwX9_duel_1 : List UInt8 := [4, 181, 0, 243, 42, 182, 0, 19, 43, 42, 182, 0, 145, 181, 0, 247, 43, 180, 0, 247, 156, 0, 8, 42]
abbrev dktX9_duel_1 : List UInt8 := dkwX9_duel_1 ++ dktX9_duel_2
def dkwX9_duel_0 : List UInt8 := [42, 180, 0, 243, 153, 0, 19, 42, 180, 0, 3, 180, 0, 55, 8, 42, 180, 0, 29, 182, 0, 59, 191, 42]
abbrev dktX9_duel_0 : List UInt8 := dkwX9_duel_0 ++ dktX9_duel_1
theorem dksX9_duel_0 : cX9_duel.data.toList.drop 0 = dktX9_duel_0 := by decide +kernel
theorem dksX9_duel_1 : cX9_duel.data.toList.drop 24 = dktX9_duel_1 := dk_seg dksX9_duel_0 24 rfl rfl
theorem dksX9_duel_2 : cX9_duel.data.toList.drop 48 = dktX9_duel_2 := dk_seg dksX9_duel_1 24 rfl rfl
theorem dX9_duel_0 : decode cX9_duel 0 = .ok (.aload_n 0, 1) := dk_42 (dk_at dksX9_duel_0 0 rfl rfl)
theorem dX9_duel_1 : decode cX9_duel 1 = .ok (.getfield 243, 3) := dk_180 0 243 (dk_at dksX9_duel_0 1 rfl rfl)
theorem dX9_duel_4 : decode cX9_duel 4 = .ok (.ifCond .eq 19, 3) := dk_153 0 19 (dk_at dksX9_duel_0 4 rfl rfl)
theorem dX9_duel_7 : decode cX9_duel 7 = .ok (.aload_n 0, 1) := dk_42 (dk_at dksX9_duel_0 7 rfl rfl)
theorem dX9_duel_8 : decode cX9_duel 8 = .ok (.getfield 3, 3) := dk_180 0 3 (dk_at dksX9_duel_0 8 rfl rfl)
theorem dX9_duel_11 : decode cX9_duel 11 = .ok (.getfield 55, 3) := dk_180 0 55 (dk_at dksX9_duel_0 11 rfl rfl)
theorem dX9_duel_14 : decode cX9_duel 14 = .ok (.iconst 5, 1) := dk_8 (dk_at dksX9_duel_0 14 rfl rfl)
theorem dX9_duel_15 : decode cX9_duel 15 = .ok (.aload_n 0, 1) := dk_42 (dk_at dksX9_duel_0 15 rfl rfl)
theorem dX9_duel_16 : decode cX9_duel 16 = .ok (.getfield 29, 3) := dk_180 0 29 (dk_at dksX9_duel_0 16 rfl rfl)
theorem dX9_duel_19 : decode cX9_duel 19 = .ok (.invokevirtual 59, 3) := dk_182 0 59 (dk_at dksX9_duel_0 19 rfl rfl)
theorem dX9_duel_22 : decode cX9_duel 22 = .ok (.athrow, 1) := dk_191 (dk_at dksX9_duel_0 22 rfl rfl)
theorem dX9_duel_23 : decode cX9_duel 23 = .ok (.aload_n 0, 1) := dk_42 (dk_at dksX9_duel_0 23 rfl rfl)
theorem dX9_duel_24 : decode cX9_duel 24 = .ok (.iconst 1, 1) := dk_4 (dk_at dksX9_duel_1 0 rfl rfl)
theorem dX9_duel_25 : decode cX9_duel 25 = .ok (.putfield 243, 3) := dk_181 0 243 (dk_at dksX9_duel_1 1 rfl rfl)
theorem dX9_duel_28 : decode cX9_duel 28 = .ok (.aload_n 0, 1) := dk_42 (dk_at dksX9_duel_1 4 rfl rfl)
theorem dX9_duel_29 : decode cX9_duel 29 = .ok (.invokevirtual 19, 3) := dk_182 0 19 (dk_at dksX9_duel_1 5 rfl rfl)
theorem dX9_duel_32 : decode cX9_duel 32 = .ok (.aload_n 1, 1) := dk_43 (dk_at dksX9_duel_1 8 rfl rfl)
theorem dX9_duel_33 : decode cX9_duel 33 = .ok (.aload_n 0, 1) := dk_42 (dk_at dksX9_duel_1 9 rfl rfl)
theorem dX9_duel_34 : decode cX9_duel 34 = .ok (.invokevirtual 145, 3) := dk_182 0 145 (dk_at dksX9_duel_1 10 rfl rfl)
theorem dX9_duel_37 : decode cX9_duel 37 = .ok (.putfield 247, 3) := dk_181 0 247 (dk_at dksX9_duel_1 13 rfl rfl)
theorem dX9_duel_40 : decode cX9_duel 40 = .ok (.aload_n 1, 1) := dk_43 (dk_at dksX9_duel_1 16 rfl rfl)
theorem dX9_duel_41 : decode cX9_duel 41 = .ok (.getfield 247, 3) := dk_180 0 247 (dk_at dksX9_duel_1 17 rfl rfl)
theorem dX9_duel_44 : decode cX9_duel 44 = .ok (.ifCond .ge 8, 3) := dk_156 0 8 (dk_at dksX9_duel_1 20 rfl rfl)
theorem dX9_duel_47 : decode cX9_duel 47 = .ok (.aload_n 0, 1) := dk_42 (dk_at dksX9_duel_1 23 rfl rfl)
theorem dX9_duel_48 : decode cX9_duel 48 = .ok (.invokevirtual 68, 3) := dk_182 0 68 (dk_at dksX9_duel_2 0 rfl rfl)
theorem dX9_duel_51 : decode cX9_duel 51 = .ok (.athrow, 1) := dk_191 (dk_at dksX9_duel_2 3 rfl rfl)
theorem dX9_duel_52 : decode cX9_duel 52 = .ok (.aload_n 0, 1) := dk_42 (dk_at dksX9_duel_2 4 rfl rfl)
theorem dX9_duel_53 : decode cX9_duel 53 = .ok (.invokevirtual 19, 3) := dk_182 0 19 (dk_at dksX9_duel_2 5 rfl rfl)
theorem dX9_duel_56 : decode cX9_duel 56 = .ok (.return_, 1) := dk_177 (dk_at dksX9_duel_2 8 rfl rfl)
abbrev cX9_days : ByteArray := prog_11_method_25_code
def yX9_days : MethodName := ⟨RX9, "days", "(LLastPebble$Beach;LLastPebble$Block;)V"⟩
def dkwX9_days_0 : List UInt8 := [42, 180, 0, 32, 153, 0, 13, 42, 43, 44, 3, 182, 0, 249, 167, 255, 242, 177]
abbrev dktX9_days_0 : List UInt8 := dkwX9_days_0 ++ []
theorem dksX9_days_0 : cX9_days.data.toList.drop 0 = dktX9_days_0 := by decide +kernel
theorem dX9_days_0 : decode cX9_days 0 = .ok (.aload_n 0, 1) := dk_42 (dk_at dksX9_days_0 0 rfl rfl)
theorem dX9_days_1 : decode cX9_days 1 = .ok (.getfield 32, 3) := dk_180 0 32 (dk_at dksX9_days_0 1 rfl rfl)
theorem dX9_days_4 : decode cX9_days 4 = .ok (.ifCond .eq 13, 3) := dk_153 0 13 (dk_at dksX9_days_0 4 rfl rfl)
theorem dX9_days_7 : decode cX9_days 7 = .ok (.aload_n 0, 1) := dk_42 (dk_at dksX9_days_0 7 rfl rfl)
theorem dX9_days_8 : decode cX9_days 8 = .ok (.aload_n 1, 1) := dk_43 (dk_at dksX9_days_0 8 rfl rfl)
theorem dX9_days_9 : decode cX9_days 9 = .ok (.aload_n 2, 1) := dk_44 (dk_at dksX9_days_0 9 rfl rfl)
theorem dX9_days_10 : decode cX9_days 10 = .ok (.iconst 0, 1) := dk_3 (dk_at dksX9_days_0 10 rfl rfl)
theorem dX9_days_11 : decode cX9_days 11 = .ok (.invokevirtual 249, 3) := dk_182 0 249 (dk_at dksX9_days_0 11 rfl rfl)
theorem dX9_days_14 : decode cX9_days 14 = .ok (.goto (-14), 3) := dk_167 255 242 (dk_at dksX9_days_0 14 rfl rfl)
theorem dX9_days_17 : decode cX9_days 17 = .ok (.return_, 1) := dk_177 (dk_at dksX9_days_0 17 rfl rfl)
abbrev cX9_step : ByteArray := prog_11_method_26_code
def yX9_step : MethodName := ⟨RX9, "step", "(LLastPebble$Beach;LLastPebble$Block;I)V"⟩
def dkwX9_step_5 : List UInt8 := [182, 1, 0, 167, 0, 8, 42, 43, 182, 1, 4, 58, 6, 42, 182, 0, 183, 44, 25, 6, 182, 1, 8, 177]
abbrev dktX9_step_5 : List UInt8 := dkwX9_step_5 ++ []
def dkwX9_step_4 : List UInt8 := [182, 0, 59, 191, 42, 89, 180, 0, 253, 4, 96, 181, 0, 253, 21, 5, 153, 0, 14, 42, 43, 21, 4, 29]
abbrev dktX9_step_4 : List UInt8 := dkwX9_step_4 ++ dktX9_step_5
def dkwX9_step_3 : List UInt8 := [191, 21, 5, 153, 0, 25, 29, 6, 160, 0, 20, 42, 180, 0, 3, 180, 0, 55, 16, 7, 42, 180, 0, 29]
abbrev dktX9_step_3 : List UInt8 := dkwX9_step_3 ++ dktX9_step_4
def dkwX9_step_2 : List UInt8 := [180, 0, 253, 16, 30, 160, 0, 20, 42, 180, 0, 3, 180, 0, 55, 16, 6, 42, 180, 0, 29, 182, 0, 59]
abbrev dktX9_step_2 : List UInt8 := dkwX9_step_2 ++ dktX9_step_3
def dkwX9_step_1 : List UInt8 := [167, 0, 4, 3, 54, 5, 42, 182, 0, 142, 156, 0, 13, 21, 5, 154, 0, 8, 42, 182, 0, 68, 191, 42]
abbrev dktX9_step_1 : List UInt8 := dkwX9_step_1 ++ dktX9_step_2
def dkwX9_step_0 : List UInt8 := [42, 18, 132, 182, 0, 72, 54, 4, 21, 4, 154, 0, 12, 42, 18, 138, 182, 0, 72, 153, 0, 7, 4]
abbrev dktX9_step_0 : List UInt8 := dkwX9_step_0 ++ dktX9_step_1
theorem dksX9_step_0 : cX9_step.data.toList.drop 0 = dktX9_step_0 := by decide +kernel
theorem dksX9_step_1 : cX9_step.data.toList.drop 23 = dktX9_step_1 := dk_seg dksX9_step_0 23 rfl rfl
theorem dksX9_step_2 : cX9_step.data.toList.drop 47 = dktX9_step_2 := dk_seg dksX9_step_1 24 rfl rfl
theorem dksX9_step_3 : cX9_step.data.toList.drop 71 = dktX9_step_3 := dk_seg dksX9_step_2 24 rfl rfl
theorem dksX9_step_4 : cX9_step.data.toList.drop 95 = dktX9_step_4 := dk_seg dksX9_step_3 24 rfl rfl
theorem dksX9_step_5 : cX9_step.data.toList.drop 119 = dktX9_step_5 := dk_seg dksX9_step_4 24 rfl rfl
theorem dX9_step_0 : decode cX9_step 0 = .ok (.aload_n 0, 1) := dk_42 (dk_at dksX9_step_0 0 rfl rfl)
theorem dX9_step_1 : decode cX9_step 1 = .ok (.ldc 132, 2) := dk_18 132 (dk_at dksX9_step_0 1 rfl rfl)
theorem dX9_step_3 : decode cX9_step 3 = .ok (.invokevirtual 72, 3) := dk_182 0 72 (dk_at dksX9_step_0 3 rfl rfl)
theorem dX9_step_6 : decode cX9_step 6 = .ok (.istore 4, 2) := dk_54 4 (dk_at dksX9_step_0 6 rfl rfl)
theorem dX9_step_8 : decode cX9_step 8 = .ok (.iload 4, 2) := dk_21 4 (dk_at dksX9_step_0 8 rfl rfl)
theorem dX9_step_10 : decode cX9_step 10 = .ok (.ifCond .ne 12, 3) := dk_154 0 12 (dk_at dksX9_step_0 10 rfl rfl)
theorem dX9_step_13 : decode cX9_step 13 = .ok (.aload_n 0, 1) := dk_42 (dk_at dksX9_step_0 13 rfl rfl)
theorem dX9_step_14 : decode cX9_step 14 = .ok (.ldc 138, 2) := dk_18 138 (dk_at dksX9_step_0 14 rfl rfl)
theorem dX9_step_16 : decode cX9_step 16 = .ok (.invokevirtual 72, 3) := dk_182 0 72 (dk_at dksX9_step_0 16 rfl rfl)
theorem dX9_step_19 : decode cX9_step 19 = .ok (.ifCond .eq 7, 3) := dk_153 0 7 (dk_at dksX9_step_0 19 rfl rfl)
theorem dX9_step_22 : decode cX9_step 22 = .ok (.iconst 1, 1) := dk_4 (dk_at dksX9_step_0 22 rfl rfl)
theorem dX9_step_23 : decode cX9_step 23 = .ok (.goto 4, 3) := dk_167 0 4 (dk_at dksX9_step_1 0 rfl rfl)
theorem dX9_step_26 : decode cX9_step 26 = .ok (.iconst 0, 1) := dk_3 (dk_at dksX9_step_1 3 rfl rfl)
theorem dX9_step_27 : decode cX9_step 27 = .ok (.istore 5, 2) := dk_54 5 (dk_at dksX9_step_1 4 rfl rfl)
theorem dX9_step_29 : decode cX9_step 29 = .ok (.aload_n 0, 1) := dk_42 (dk_at dksX9_step_1 6 rfl rfl)
theorem dX9_step_30 : decode cX9_step 30 = .ok (.invokevirtual 142, 3) := dk_182 0 142 (dk_at dksX9_step_1 7 rfl rfl)
theorem dX9_step_33 : decode cX9_step 33 = .ok (.ifCond .ge 13, 3) := dk_156 0 13 (dk_at dksX9_step_1 10 rfl rfl)
theorem dX9_step_36 : decode cX9_step 36 = .ok (.iload 5, 2) := dk_21 5 (dk_at dksX9_step_1 13 rfl rfl)
theorem dX9_step_38 : decode cX9_step 38 = .ok (.ifCond .ne 8, 3) := dk_154 0 8 (dk_at dksX9_step_1 15 rfl rfl)
theorem dX9_step_41 : decode cX9_step 41 = .ok (.aload_n 0, 1) := dk_42 (dk_at dksX9_step_1 18 rfl rfl)
theorem dX9_step_42 : decode cX9_step 42 = .ok (.invokevirtual 68, 3) := dk_182 0 68 (dk_at dksX9_step_1 19 rfl rfl)
theorem dX9_step_45 : decode cX9_step 45 = .ok (.athrow, 1) := dk_191 (dk_at dksX9_step_1 22 rfl rfl)
theorem dX9_step_46 : decode cX9_step 46 = .ok (.aload_n 0, 1) := dk_42 (dk_at dksX9_step_1 23 rfl rfl)
theorem dX9_step_47 : decode cX9_step 47 = .ok (.getfield 253, 3) := dk_180 0 253 (dk_at dksX9_step_2 0 rfl rfl)
theorem dX9_step_50 : decode cX9_step 50 = .ok (.bipush 30, 2) := dk_16 30 (dk_at dksX9_step_2 3 rfl rfl)
theorem dX9_step_52 : decode cX9_step 52 = .ok (.if_icmp .ne 20, 3) := dk_160 0 20 (dk_at dksX9_step_2 5 rfl rfl)
theorem dX9_step_55 : decode cX9_step 55 = .ok (.aload_n 0, 1) := dk_42 (dk_at dksX9_step_2 8 rfl rfl)
theorem dX9_step_56 : decode cX9_step 56 = .ok (.getfield 3, 3) := dk_180 0 3 (dk_at dksX9_step_2 9 rfl rfl)
theorem dX9_step_59 : decode cX9_step 59 = .ok (.getfield 55, 3) := dk_180 0 55 (dk_at dksX9_step_2 12 rfl rfl)
theorem dX9_step_62 : decode cX9_step 62 = .ok (.bipush 6, 2) := dk_16 6 (dk_at dksX9_step_2 15 rfl rfl)
theorem dX9_step_64 : decode cX9_step 64 = .ok (.aload_n 0, 1) := dk_42 (dk_at dksX9_step_2 17 rfl rfl)
theorem dX9_step_65 : decode cX9_step 65 = .ok (.getfield 29, 3) := dk_180 0 29 (dk_at dksX9_step_2 18 rfl rfl)
theorem dX9_step_68 : decode cX9_step 68 = .ok (.invokevirtual 59, 3) := dk_182 0 59 (dk_at dksX9_step_2 21 rfl rfl)
theorem dX9_step_71 : decode cX9_step 71 = .ok (.athrow, 1) := dk_191 (dk_at dksX9_step_3 0 rfl rfl)
theorem dX9_step_72 : decode cX9_step 72 = .ok (.iload 5, 2) := dk_21 5 (dk_at dksX9_step_3 1 rfl rfl)
theorem dX9_step_74 : decode cX9_step 74 = .ok (.ifCond .eq 25, 3) := dk_153 0 25 (dk_at dksX9_step_3 3 rfl rfl)
theorem dX9_step_77 : decode cX9_step 77 = .ok (.iload_n 3, 1) := dk_29 (dk_at dksX9_step_3 6 rfl rfl)
theorem dX9_step_78 : decode cX9_step 78 = .ok (.iconst 3, 1) := dk_6 (dk_at dksX9_step_3 7 rfl rfl)
theorem dX9_step_79 : decode cX9_step 79 = .ok (.if_icmp .ne 20, 3) := dk_160 0 20 (dk_at dksX9_step_3 8 rfl rfl)
theorem dX9_step_82 : decode cX9_step 82 = .ok (.aload_n 0, 1) := dk_42 (dk_at dksX9_step_3 11 rfl rfl)
theorem dX9_step_83 : decode cX9_step 83 = .ok (.getfield 3, 3) := dk_180 0 3 (dk_at dksX9_step_3 12 rfl rfl)
theorem dX9_step_86 : decode cX9_step 86 = .ok (.getfield 55, 3) := dk_180 0 55 (dk_at dksX9_step_3 15 rfl rfl)
theorem dX9_step_89 : decode cX9_step 89 = .ok (.bipush 7, 2) := dk_16 7 (dk_at dksX9_step_3 18 rfl rfl)
theorem dX9_step_91 : decode cX9_step 91 = .ok (.aload_n 0, 1) := dk_42 (dk_at dksX9_step_3 20 rfl rfl)
theorem dX9_step_92 : decode cX9_step 92 = .ok (.getfield 29, 3) := dk_180 0 29 (dk_at dksX9_step_3 21 rfl rfl)
theorem dX9_step_95 : decode cX9_step 95 = .ok (.invokevirtual 59, 3) := dk_182 0 59 (dk_at dksX9_step_4 0 rfl rfl)
theorem dX9_step_98 : decode cX9_step 98 = .ok (.athrow, 1) := dk_191 (dk_at dksX9_step_4 3 rfl rfl)
theorem dX9_step_99 : decode cX9_step 99 = .ok (.aload_n 0, 1) := dk_42 (dk_at dksX9_step_4 4 rfl rfl)
theorem dX9_step_100 : decode cX9_step 100 = .ok (.dup, 1) := dk_89 (dk_at dksX9_step_4 5 rfl rfl)
theorem dX9_step_101 : decode cX9_step 101 = .ok (.getfield 253, 3) := dk_180 0 253 (dk_at dksX9_step_4 6 rfl rfl)
theorem dX9_step_104 : decode cX9_step 104 = .ok (.iconst 1, 1) := dk_4 (dk_at dksX9_step_4 9 rfl rfl)
theorem dX9_step_105 : decode cX9_step 105 = .ok (.iadd, 1) := dk_96 (dk_at dksX9_step_4 10 rfl rfl)
theorem dX9_step_106 : decode cX9_step 106 = .ok (.putfield 253, 3) := dk_181 0 253 (dk_at dksX9_step_4 11 rfl rfl)
theorem dX9_step_109 : decode cX9_step 109 = .ok (.iload 5, 2) := dk_21 5 (dk_at dksX9_step_4 14 rfl rfl)
theorem dX9_step_111 : decode cX9_step 111 = .ok (.ifCond .eq 14, 3) := dk_153 0 14 (dk_at dksX9_step_4 16 rfl rfl)
theorem dX9_step_114 : decode cX9_step 114 = .ok (.aload_n 0, 1) := dk_42 (dk_at dksX9_step_4 19 rfl rfl)
theorem dX9_step_115 : decode cX9_step 115 = .ok (.aload_n 1, 1) := dk_43 (dk_at dksX9_step_4 20 rfl rfl)
theorem dX9_step_116 : decode cX9_step 116 = .ok (.iload 4, 2) := dk_21 4 (dk_at dksX9_step_4 21 rfl rfl)
theorem dX9_step_118 : decode cX9_step 118 = .ok (.iload_n 3, 1) := dk_29 (dk_at dksX9_step_4 23 rfl rfl)
theorem dX9_step_119 : decode cX9_step 119 = .ok (.invokevirtual 256, 3) := dk_182 1 0 (dk_at dksX9_step_5 0 rfl rfl)
theorem dX9_step_122 : decode cX9_step 122 = .ok (.goto 8, 3) := dk_167 0 8 (dk_at dksX9_step_5 3 rfl rfl)
theorem dX9_step_125 : decode cX9_step 125 = .ok (.aload_n 0, 1) := dk_42 (dk_at dksX9_step_5 6 rfl rfl)
theorem dX9_step_126 : decode cX9_step 126 = .ok (.aload_n 1, 1) := dk_43 (dk_at dksX9_step_5 7 rfl rfl)
theorem dX9_step_127 : decode cX9_step 127 = .ok (.invokevirtual 260, 3) := dk_182 1 4 (dk_at dksX9_step_5 8 rfl rfl)
theorem dX9_step_130 : decode cX9_step 130 = .ok (.astore 6, 2) := dk_58 6 (dk_at dksX9_step_5 11 rfl rfl)
theorem dX9_step_132 : decode cX9_step 132 = .ok (.aload_n 0, 1) := dk_42 (dk_at dksX9_step_5 13 rfl rfl)
theorem dX9_step_133 : decode cX9_step 133 = .ok (.invokevirtual 183, 3) := dk_182 0 183 (dk_at dksX9_step_5 14 rfl rfl)
theorem dX9_step_136 : decode cX9_step 136 = .ok (.aload_n 2, 1) := dk_44 (dk_at dksX9_step_5 17 rfl rfl)
theorem dX9_step_137 : decode cX9_step 137 = .ok (.aload 6, 2) := dk_25 6 (dk_at dksX9_step_5 18 rfl rfl)
theorem dX9_step_139 : decode cX9_step 139 = .ok (.invokevirtual 264, 3) := dk_182 1 8 (dk_at dksX9_step_5 20 rfl rfl)
theorem dX9_step_142 : decode cX9_step 142 = .ok (.return_, 1) := dk_177 (dk_at dksX9_step_5 23 rfl rfl)
abbrev cX9_block : ByteArray := prog_11_method_28_code
def yX9_block : MethodName := ⟨RX9, "block", "(LLastPebble$Beach;ZI)LLastPebble$Block;"⟩
def dkwX9_block_2 : List UInt8 := [25, 4, 29, 4, 96, 182, 0, 249, 167, 255, 237, 42, 182, 0, 19, 25, 4, 176]
abbrev dktX9_block_2 : List UInt8 := dkwX9_block_2 ++ []
def dkwX9_block_1 : List UInt8 := [182, 0, 80, 183, 1, 24, 58, 4, 42, 182, 0, 183, 42, 18, 140, 182, 0, 72, 154, 0, 16, 42, 43]
abbrev dktX9_block_1 : List UInt8 := dkwX9_block_1 ++ dktX9_block_2
def dkwX9_block_0 : List UInt8 := [42, 182, 0, 19, 28, 153, 0, 11, 42, 43, 182, 1, 19, 167, 0, 17, 187, 1, 22, 89, 42, 4, 16, 99]
abbrev dktX9_block_0 : List UInt8 := dkwX9_block_0 ++ dktX9_block_1
theorem dksX9_block_0 : cX9_block.data.toList.drop 0 = dktX9_block_0 := by decide +kernel
theorem dksX9_block_1 : cX9_block.data.toList.drop 24 = dktX9_block_1 := dk_seg dksX9_block_0 24 rfl rfl
theorem dksX9_block_2 : cX9_block.data.toList.drop 47 = dktX9_block_2 := dk_seg dksX9_block_1 23 rfl rfl
theorem dX9_block_0 : decode cX9_block 0 = .ok (.aload_n 0, 1) := dk_42 (dk_at dksX9_block_0 0 rfl rfl)
theorem dX9_block_1 : decode cX9_block 1 = .ok (.invokevirtual 19, 3) := dk_182 0 19 (dk_at dksX9_block_0 1 rfl rfl)
theorem dX9_block_4 : decode cX9_block 4 = .ok (.iload_n 2, 1) := dk_28 (dk_at dksX9_block_0 4 rfl rfl)
theorem dX9_block_5 : decode cX9_block 5 = .ok (.ifCond .eq 11, 3) := dk_153 0 11 (dk_at dksX9_block_0 5 rfl rfl)
theorem dX9_block_8 : decode cX9_block 8 = .ok (.aload_n 0, 1) := dk_42 (dk_at dksX9_block_0 8 rfl rfl)
theorem dX9_block_9 : decode cX9_block 9 = .ok (.aload_n 1, 1) := dk_43 (dk_at dksX9_block_0 9 rfl rfl)
theorem dX9_block_10 : decode cX9_block 10 = .ok (.invokevirtual 275, 3) := dk_182 1 19 (dk_at dksX9_block_0 10 rfl rfl)
theorem dX9_block_13 : decode cX9_block 13 = .ok (.goto 17, 3) := dk_167 0 17 (dk_at dksX9_block_0 13 rfl rfl)
theorem dX9_block_16 : decode cX9_block 16 = .ok (.new 278, 3) := dk_187 1 22 (dk_at dksX9_block_0 16 rfl rfl)
theorem dX9_block_19 : decode cX9_block 19 = .ok (.dup, 1) := dk_89 (dk_at dksX9_block_0 19 rfl rfl)
theorem dX9_block_20 : decode cX9_block 20 = .ok (.aload_n 0, 1) := dk_42 (dk_at dksX9_block_0 20 rfl rfl)
theorem dX9_block_21 : decode cX9_block 21 = .ok (.iconst 1, 1) := dk_4 (dk_at dksX9_block_0 21 rfl rfl)
theorem dX9_block_22 : decode cX9_block 22 = .ok (.bipush 99, 2) := dk_16 99 (dk_at dksX9_block_0 22 rfl rfl)
theorem dX9_block_24 : decode cX9_block 24 = .ok (.invokevirtual 80, 3) := dk_182 0 80 (dk_at dksX9_block_1 0 rfl rfl)
theorem dX9_block_27 : decode cX9_block 27 = .ok (.invokespecial 280, 3) := dk_183 1 24 (dk_at dksX9_block_1 3 rfl rfl)
theorem dX9_block_30 : decode cX9_block 30 = .ok (.astore 4, 2) := dk_58 4 (dk_at dksX9_block_1 6 rfl rfl)
theorem dX9_block_32 : decode cX9_block 32 = .ok (.aload_n 0, 1) := dk_42 (dk_at dksX9_block_1 8 rfl rfl)
theorem dX9_block_33 : decode cX9_block 33 = .ok (.invokevirtual 183, 3) := dk_182 0 183 (dk_at dksX9_block_1 9 rfl rfl)
theorem dX9_block_36 : decode cX9_block 36 = .ok (.aload_n 0, 1) := dk_42 (dk_at dksX9_block_1 12 rfl rfl)
theorem dX9_block_37 : decode cX9_block 37 = .ok (.ldc 140, 2) := dk_18 140 (dk_at dksX9_block_1 13 rfl rfl)
theorem dX9_block_39 : decode cX9_block 39 = .ok (.invokevirtual 72, 3) := dk_182 0 72 (dk_at dksX9_block_1 15 rfl rfl)
theorem dX9_block_42 : decode cX9_block 42 = .ok (.ifCond .ne 16, 3) := dk_154 0 16 (dk_at dksX9_block_1 18 rfl rfl)
theorem dX9_block_45 : decode cX9_block 45 = .ok (.aload_n 0, 1) := dk_42 (dk_at dksX9_block_1 21 rfl rfl)
theorem dX9_block_46 : decode cX9_block 46 = .ok (.aload_n 1, 1) := dk_43 (dk_at dksX9_block_1 22 rfl rfl)
theorem dX9_block_47 : decode cX9_block 47 = .ok (.aload 4, 2) := dk_25 4 (dk_at dksX9_block_2 0 rfl rfl)
theorem dX9_block_49 : decode cX9_block 49 = .ok (.iload_n 3, 1) := dk_29 (dk_at dksX9_block_2 2 rfl rfl)
theorem dX9_block_50 : decode cX9_block 50 = .ok (.iconst 1, 1) := dk_4 (dk_at dksX9_block_2 3 rfl rfl)
theorem dX9_block_51 : decode cX9_block 51 = .ok (.iadd, 1) := dk_96 (dk_at dksX9_block_2 4 rfl rfl)
theorem dX9_block_52 : decode cX9_block 52 = .ok (.invokevirtual 249, 3) := dk_182 0 249 (dk_at dksX9_block_2 5 rfl rfl)
theorem dX9_block_55 : decode cX9_block 55 = .ok (.goto (-19), 3) := dk_167 255 237 (dk_at dksX9_block_2 8 rfl rfl)
theorem dX9_block_58 : decode cX9_block 58 = .ok (.aload_n 0, 1) := dk_42 (dk_at dksX9_block_2 11 rfl rfl)
theorem dX9_block_59 : decode cX9_block 59 = .ok (.invokevirtual 19, 3) := dk_182 0 19 (dk_at dksX9_block_2 12 rfl rfl)
theorem dX9_block_62 : decode cX9_block 62 = .ok (.aload 4, 2) := dk_25 4 (dk_at dksX9_block_2 15 rfl rfl)
theorem dX9_block_64 : decode cX9_block 64 = .ok (.areturn, 1) := dk_176 (dk_at dksX9_block_2 17 rfl rfl)
abbrev cX9_when : ByteArray := prog_11_method_29_code
def yX9_when : MethodName := ⟨RX9, "when", "(LLastPebble$Beach;)LLastPebble$When;"⟩
def dkwX9_when_7 : List UInt8 := [89, 28, 29, 2, 21, 4, 42, 3, 17, 39, 15, 182, 0, 80, 183, 1, 29, 176]
abbrev dktX9_when_7 : List UInt8 := dkwX9_when_7 ++ []
def dkwX9_when_6 : List UInt8 := [54, 4, 42, 21, 4, 146, 182, 0, 64, 154, 0, 8, 42, 182, 0, 68, 191, 42, 182, 0, 19, 187, 1, 27]
abbrev dktX9_when_6 : List UInt8 := dkwX9_when_6 ++ dktX9_when_7
def dkwX9_when_5 : List UInt8 := [153, 0, 8, 16, 60, 167, 0, 19, 42, 16, 62, 182, 0, 64, 153, 0, 8, 16, 62, 167, 0, 5, 16, 61]
abbrev dktX9_when_5 : List UInt8 := dkwX9_when_5 ++ dktX9_when_6
def dkwX9_when_4 : List UInt8 := [187, 1, 27, 89, 28, 29, 42, 43, 182, 0, 238, 3, 3, 183, 1, 29, 176, 42, 16, 60, 182, 0, 64]
abbrev dktX9_when_4 : List UInt8 := dkwX9_when_4 ++ dktX9_when_5
def dkwX9_when_3 : List UInt8 := [3, 3, 183, 1, 29, 176, 42, 43, 182, 0, 233, 62, 28, 4, 160, 0, 26, 42, 18, 126, 182, 0, 76]
abbrev dktX9_when_3 : List UInt8 := dkwX9_when_3 ++ dktX9_when_4
def dkwX9_when_2 : List UInt8 := [182, 0, 68, 191, 42, 182, 0, 19, 28, 5, 160, 0, 20, 187, 1, 27, 89, 28, 2, 42, 43, 182, 0, 238]
abbrev dktX9_when_2 : List UInt8 := dkwX9_when_2 ++ dktX9_when_3
def dkwX9_when_1 : List UInt8 := [167, 0, 17, 42, 18, 136, 182, 0, 72, 153, 0, 7, 5, 167, 0, 4, 2, 61, 28, 156, 0, 8, 42]
abbrev dktX9_when_1 : List UInt8 := dkwX9_when_1 ++ dktX9_when_2
def dkwX9_when_0 : List UInt8 := [42, 18, 134, 182, 0, 72, 153, 0, 7, 3, 167, 0, 30, 42, 18, 103, 182, 0, 72, 153, 0, 7, 4]
abbrev dktX9_when_0 : List UInt8 := dkwX9_when_0 ++ dktX9_when_1
theorem dksX9_when_0 : cX9_when.data.toList.drop 0 = dktX9_when_0 := by decide +kernel
theorem dksX9_when_1 : cX9_when.data.toList.drop 23 = dktX9_when_1 := dk_seg dksX9_when_0 23 rfl rfl
theorem dksX9_when_2 : cX9_when.data.toList.drop 46 = dktX9_when_2 := dk_seg dksX9_when_1 23 rfl rfl
theorem dksX9_when_3 : cX9_when.data.toList.drop 70 = dktX9_when_3 := dk_seg dksX9_when_2 24 rfl rfl
theorem dksX9_when_4 : cX9_when.data.toList.drop 93 = dktX9_when_4 := dk_seg dksX9_when_3 23 rfl rfl
theorem dksX9_when_5 : cX9_when.data.toList.drop 116 = dktX9_when_5 := dk_seg dksX9_when_4 23 rfl rfl
theorem dksX9_when_6 : cX9_when.data.toList.drop 140 = dktX9_when_6 := dk_seg dksX9_when_5 24 rfl rfl
theorem dksX9_when_7 : cX9_when.data.toList.drop 164 = dktX9_when_7 := dk_seg dksX9_when_6 24 rfl rfl
theorem dX9_when_0 : decode cX9_when 0 = .ok (.aload_n 0, 1) := dk_42 (dk_at dksX9_when_0 0 rfl rfl)
theorem dX9_when_1 : decode cX9_when 1 = .ok (.ldc 134, 2) := dk_18 134 (dk_at dksX9_when_0 1 rfl rfl)
theorem dX9_when_3 : decode cX9_when 3 = .ok (.invokevirtual 72, 3) := dk_182 0 72 (dk_at dksX9_when_0 3 rfl rfl)
theorem dX9_when_6 : decode cX9_when 6 = .ok (.ifCond .eq 7, 3) := dk_153 0 7 (dk_at dksX9_when_0 6 rfl rfl)
theorem dX9_when_9 : decode cX9_when 9 = .ok (.iconst 0, 1) := dk_3 (dk_at dksX9_when_0 9 rfl rfl)
theorem dX9_when_10 : decode cX9_when 10 = .ok (.goto 30, 3) := dk_167 0 30 (dk_at dksX9_when_0 10 rfl rfl)
theorem dX9_when_13 : decode cX9_when 13 = .ok (.aload_n 0, 1) := dk_42 (dk_at dksX9_when_0 13 rfl rfl)
theorem dX9_when_14 : decode cX9_when 14 = .ok (.ldc 103, 2) := dk_18 103 (dk_at dksX9_when_0 14 rfl rfl)
theorem dX9_when_16 : decode cX9_when 16 = .ok (.invokevirtual 72, 3) := dk_182 0 72 (dk_at dksX9_when_0 16 rfl rfl)
theorem dX9_when_19 : decode cX9_when 19 = .ok (.ifCond .eq 7, 3) := dk_153 0 7 (dk_at dksX9_when_0 19 rfl rfl)
theorem dX9_when_22 : decode cX9_when 22 = .ok (.iconst 1, 1) := dk_4 (dk_at dksX9_when_0 22 rfl rfl)
theorem dX9_when_23 : decode cX9_when 23 = .ok (.goto 17, 3) := dk_167 0 17 (dk_at dksX9_when_1 0 rfl rfl)
theorem dX9_when_26 : decode cX9_when 26 = .ok (.aload_n 0, 1) := dk_42 (dk_at dksX9_when_1 3 rfl rfl)
theorem dX9_when_27 : decode cX9_when 27 = .ok (.ldc 136, 2) := dk_18 136 (dk_at dksX9_when_1 4 rfl rfl)
theorem dX9_when_29 : decode cX9_when 29 = .ok (.invokevirtual 72, 3) := dk_182 0 72 (dk_at dksX9_when_1 6 rfl rfl)
theorem dX9_when_32 : decode cX9_when 32 = .ok (.ifCond .eq 7, 3) := dk_153 0 7 (dk_at dksX9_when_1 9 rfl rfl)
theorem dX9_when_35 : decode cX9_when 35 = .ok (.iconst 2, 1) := dk_5 (dk_at dksX9_when_1 12 rfl rfl)
theorem dX9_when_36 : decode cX9_when 36 = .ok (.goto 4, 3) := dk_167 0 4 (dk_at dksX9_when_1 13 rfl rfl)
theorem dX9_when_39 : decode cX9_when 39 = .ok (.iconst (-1), 1) := dk_2 (dk_at dksX9_when_1 16 rfl rfl)
theorem dX9_when_40 : decode cX9_when 40 = .ok (.istore_n 2, 1) := dk_61 (dk_at dksX9_when_1 17 rfl rfl)
theorem dX9_when_41 : decode cX9_when 41 = .ok (.iload_n 2, 1) := dk_28 (dk_at dksX9_when_1 18 rfl rfl)
theorem dX9_when_42 : decode cX9_when 42 = .ok (.ifCond .ge 8, 3) := dk_156 0 8 (dk_at dksX9_when_1 19 rfl rfl)
theorem dX9_when_45 : decode cX9_when 45 = .ok (.aload_n 0, 1) := dk_42 (dk_at dksX9_when_1 22 rfl rfl)
theorem dX9_when_46 : decode cX9_when 46 = .ok (.invokevirtual 68, 3) := dk_182 0 68 (dk_at dksX9_when_2 0 rfl rfl)
theorem dX9_when_49 : decode cX9_when 49 = .ok (.athrow, 1) := dk_191 (dk_at dksX9_when_2 3 rfl rfl)
theorem dX9_when_50 : decode cX9_when 50 = .ok (.aload_n 0, 1) := dk_42 (dk_at dksX9_when_2 4 rfl rfl)
theorem dX9_when_51 : decode cX9_when 51 = .ok (.invokevirtual 19, 3) := dk_182 0 19 (dk_at dksX9_when_2 5 rfl rfl)
theorem dX9_when_54 : decode cX9_when 54 = .ok (.iload_n 2, 1) := dk_28 (dk_at dksX9_when_2 8 rfl rfl)
theorem dX9_when_55 : decode cX9_when 55 = .ok (.iconst 2, 1) := dk_5 (dk_at dksX9_when_2 9 rfl rfl)
theorem dX9_when_56 : decode cX9_when 56 = .ok (.if_icmp .ne 20, 3) := dk_160 0 20 (dk_at dksX9_when_2 10 rfl rfl)
theorem dX9_when_59 : decode cX9_when 59 = .ok (.new 283, 3) := dk_187 1 27 (dk_at dksX9_when_2 13 rfl rfl)
theorem dX9_when_62 : decode cX9_when 62 = .ok (.dup, 1) := dk_89 (dk_at dksX9_when_2 16 rfl rfl)
theorem dX9_when_63 : decode cX9_when 63 = .ok (.iload_n 2, 1) := dk_28 (dk_at dksX9_when_2 17 rfl rfl)
theorem dX9_when_64 : decode cX9_when 64 = .ok (.iconst (-1), 1) := dk_2 (dk_at dksX9_when_2 18 rfl rfl)
theorem dX9_when_65 : decode cX9_when 65 = .ok (.aload_n 0, 1) := dk_42 (dk_at dksX9_when_2 19 rfl rfl)
theorem dX9_when_66 : decode cX9_when 66 = .ok (.aload_n 1, 1) := dk_43 (dk_at dksX9_when_2 20 rfl rfl)
theorem dX9_when_67 : decode cX9_when 67 = .ok (.invokevirtual 238, 3) := dk_182 0 238 (dk_at dksX9_when_2 21 rfl rfl)
theorem dX9_when_70 : decode cX9_when 70 = .ok (.iconst 0, 1) := dk_3 (dk_at dksX9_when_3 0 rfl rfl)
theorem dX9_when_71 : decode cX9_when 71 = .ok (.iconst 0, 1) := dk_3 (dk_at dksX9_when_3 1 rfl rfl)
theorem dX9_when_72 : decode cX9_when 72 = .ok (.invokespecial 285, 3) := dk_183 1 29 (dk_at dksX9_when_3 2 rfl rfl)
theorem dX9_when_75 : decode cX9_when 75 = .ok (.areturn, 1) := dk_176 (dk_at dksX9_when_3 5 rfl rfl)
theorem dX9_when_76 : decode cX9_when 76 = .ok (.aload_n 0, 1) := dk_42 (dk_at dksX9_when_3 6 rfl rfl)
theorem dX9_when_77 : decode cX9_when 77 = .ok (.aload_n 1, 1) := dk_43 (dk_at dksX9_when_3 7 rfl rfl)
theorem dX9_when_78 : decode cX9_when 78 = .ok (.invokevirtual 233, 3) := dk_182 0 233 (dk_at dksX9_when_3 8 rfl rfl)
theorem dX9_when_81 : decode cX9_when 81 = .ok (.istore_n 3, 1) := dk_62 (dk_at dksX9_when_3 11 rfl rfl)
theorem dX9_when_82 : decode cX9_when 82 = .ok (.iload_n 2, 1) := dk_28 (dk_at dksX9_when_3 12 rfl rfl)
theorem dX9_when_83 : decode cX9_when 83 = .ok (.iconst 1, 1) := dk_4 (dk_at dksX9_when_3 13 rfl rfl)
theorem dX9_when_84 : decode cX9_when 84 = .ok (.if_icmp .ne 26, 3) := dk_160 0 26 (dk_at dksX9_when_3 14 rfl rfl)
theorem dX9_when_87 : decode cX9_when 87 = .ok (.aload_n 0, 1) := dk_42 (dk_at dksX9_when_3 17 rfl rfl)
theorem dX9_when_88 : decode cX9_when 88 = .ok (.ldc 126, 2) := dk_18 126 (dk_at dksX9_when_3 18 rfl rfl)
theorem dX9_when_90 : decode cX9_when 90 = .ok (.invokevirtual 76, 3) := dk_182 0 76 (dk_at dksX9_when_3 20 rfl rfl)
theorem dX9_when_93 : decode cX9_when 93 = .ok (.new 283, 3) := dk_187 1 27 (dk_at dksX9_when_4 0 rfl rfl)
theorem dX9_when_96 : decode cX9_when 96 = .ok (.dup, 1) := dk_89 (dk_at dksX9_when_4 3 rfl rfl)
theorem dX9_when_97 : decode cX9_when 97 = .ok (.iload_n 2, 1) := dk_28 (dk_at dksX9_when_4 4 rfl rfl)
theorem dX9_when_98 : decode cX9_when 98 = .ok (.iload_n 3, 1) := dk_29 (dk_at dksX9_when_4 5 rfl rfl)
theorem dX9_when_99 : decode cX9_when 99 = .ok (.aload_n 0, 1) := dk_42 (dk_at dksX9_when_4 6 rfl rfl)
theorem dX9_when_100 : decode cX9_when 100 = .ok (.aload_n 1, 1) := dk_43 (dk_at dksX9_when_4 7 rfl rfl)
theorem dX9_when_101 : decode cX9_when 101 = .ok (.invokevirtual 238, 3) := dk_182 0 238 (dk_at dksX9_when_4 8 rfl rfl)
theorem dX9_when_104 : decode cX9_when 104 = .ok (.iconst 0, 1) := dk_3 (dk_at dksX9_when_4 11 rfl rfl)
theorem dX9_when_105 : decode cX9_when 105 = .ok (.iconst 0, 1) := dk_3 (dk_at dksX9_when_4 12 rfl rfl)
theorem dX9_when_106 : decode cX9_when 106 = .ok (.invokespecial 285, 3) := dk_183 1 29 (dk_at dksX9_when_4 13 rfl rfl)
theorem dX9_when_109 : decode cX9_when 109 = .ok (.areturn, 1) := dk_176 (dk_at dksX9_when_4 16 rfl rfl)
theorem dX9_when_110 : decode cX9_when 110 = .ok (.aload_n 0, 1) := dk_42 (dk_at dksX9_when_4 17 rfl rfl)
theorem dX9_when_111 : decode cX9_when 111 = .ok (.bipush 60, 2) := dk_16 60 (dk_at dksX9_when_4 18 rfl rfl)
theorem dX9_when_113 : decode cX9_when 113 = .ok (.invokevirtual 64, 3) := dk_182 0 64 (dk_at dksX9_when_4 20 rfl rfl)
theorem dX9_when_116 : decode cX9_when 116 = .ok (.ifCond .eq 8, 3) := dk_153 0 8 (dk_at dksX9_when_5 0 rfl rfl)
theorem dX9_when_119 : decode cX9_when 119 = .ok (.bipush 60, 2) := dk_16 60 (dk_at dksX9_when_5 3 rfl rfl)
theorem dX9_when_121 : decode cX9_when 121 = .ok (.goto 19, 3) := dk_167 0 19 (dk_at dksX9_when_5 5 rfl rfl)
theorem dX9_when_124 : decode cX9_when 124 = .ok (.aload_n 0, 1) := dk_42 (dk_at dksX9_when_5 8 rfl rfl)
theorem dX9_when_125 : decode cX9_when 125 = .ok (.bipush 62, 2) := dk_16 62 (dk_at dksX9_when_5 9 rfl rfl)
theorem dX9_when_127 : decode cX9_when 127 = .ok (.invokevirtual 64, 3) := dk_182 0 64 (dk_at dksX9_when_5 11 rfl rfl)
theorem dX9_when_130 : decode cX9_when 130 = .ok (.ifCond .eq 8, 3) := dk_153 0 8 (dk_at dksX9_when_5 14 rfl rfl)
theorem dX9_when_133 : decode cX9_when 133 = .ok (.bipush 62, 2) := dk_16 62 (dk_at dksX9_when_5 17 rfl rfl)
theorem dX9_when_135 : decode cX9_when 135 = .ok (.goto 5, 3) := dk_167 0 5 (dk_at dksX9_when_5 19 rfl rfl)
theorem dX9_when_138 : decode cX9_when 138 = .ok (.bipush 61, 2) := dk_16 61 (dk_at dksX9_when_5 22 rfl rfl)
theorem dX9_when_140 : decode cX9_when 140 = .ok (.istore 4, 2) := dk_54 4 (dk_at dksX9_when_6 0 rfl rfl)
theorem dX9_when_142 : decode cX9_when 142 = .ok (.aload_n 0, 1) := dk_42 (dk_at dksX9_when_6 2 rfl rfl)
theorem dX9_when_143 : decode cX9_when 143 = .ok (.iload 4, 2) := dk_21 4 (dk_at dksX9_when_6 3 rfl rfl)
theorem dX9_when_145 : decode cX9_when 145 = .ok (.i2c, 1) := dk_146 (dk_at dksX9_when_6 5 rfl rfl)
theorem dX9_when_146 : decode cX9_when 146 = .ok (.invokevirtual 64, 3) := dk_182 0 64 (dk_at dksX9_when_6 6 rfl rfl)
theorem dX9_when_149 : decode cX9_when 149 = .ok (.ifCond .ne 8, 3) := dk_154 0 8 (dk_at dksX9_when_6 9 rfl rfl)
theorem dX9_when_152 : decode cX9_when 152 = .ok (.aload_n 0, 1) := dk_42 (dk_at dksX9_when_6 12 rfl rfl)
theorem dX9_when_153 : decode cX9_when 153 = .ok (.invokevirtual 68, 3) := dk_182 0 68 (dk_at dksX9_when_6 13 rfl rfl)
theorem dX9_when_156 : decode cX9_when 156 = .ok (.athrow, 1) := dk_191 (dk_at dksX9_when_6 16 rfl rfl)
theorem dX9_when_157 : decode cX9_when 157 = .ok (.aload_n 0, 1) := dk_42 (dk_at dksX9_when_6 17 rfl rfl)
theorem dX9_when_158 : decode cX9_when 158 = .ok (.invokevirtual 19, 3) := dk_182 0 19 (dk_at dksX9_when_6 18 rfl rfl)
theorem dX9_when_161 : decode cX9_when 161 = .ok (.new 283, 3) := dk_187 1 27 (dk_at dksX9_when_6 21 rfl rfl)
theorem dX9_when_164 : decode cX9_when 164 = .ok (.dup, 1) := dk_89 (dk_at dksX9_when_7 0 rfl rfl)
theorem dX9_when_165 : decode cX9_when 165 = .ok (.iload_n 2, 1) := dk_28 (dk_at dksX9_when_7 1 rfl rfl)
theorem dX9_when_166 : decode cX9_when 166 = .ok (.iload_n 3, 1) := dk_29 (dk_at dksX9_when_7 2 rfl rfl)
theorem dX9_when_167 : decode cX9_when 167 = .ok (.iconst (-1), 1) := dk_2 (dk_at dksX9_when_7 3 rfl rfl)
theorem dX9_when_168 : decode cX9_when 168 = .ok (.iload 4, 2) := dk_21 4 (dk_at dksX9_when_7 4 rfl rfl)
theorem dX9_when_170 : decode cX9_when 170 = .ok (.aload_n 0, 1) := dk_42 (dk_at dksX9_when_7 6 rfl rfl)
theorem dX9_when_171 : decode cX9_when 171 = .ok (.iconst 0, 1) := dk_3 (dk_at dksX9_when_7 7 rfl rfl)
theorem dX9_when_172 : decode cX9_when 172 = .ok (.sipush 9999, 3) := dk_17 39 15 (dk_at dksX9_when_7 8 rfl rfl)
theorem dX9_when_175 : decode cX9_when 175 = .ok (.invokevirtual 80, 3) := dk_182 0 80 (dk_at dksX9_when_7 11 rfl rfl)
theorem dX9_when_178 : decode cX9_when 178 = .ok (.invokespecial 285, 3) := dk_183 1 29 (dk_at dksX9_when_7 14 rfl rfl)
theorem dX9_when_181 : decode cX9_when 181 = .ok (.areturn, 1) := dk_176 (dk_at dksX9_when_7 17 rfl rfl)
abbrev cX9_plain : ByteArray := prog_11_method_27_code
def yX9_plain : MethodName := ⟨RX9, "plain", "(LLastPebble$Beach;)LLastPebble$Step;"⟩
def dkwX9_plain_6 : List UInt8 := [183, 1, 16, 176]
abbrev dktX9_plain_6 : List UInt8 := dkwX9_plain_6 ++ []
def dkwX9_plain_5 : List UInt8 := [16, 16, 182, 0, 80, 167, 0, 19, 28, 8, 160, 0, 13, 42, 3, 16, 40, 182, 0, 80, 167, 0, 4, 3]
abbrev dktX9_plain_5 : List UInt8 := dkwX9_plain_5 ++ dktX9_plain_6
def dkwX9_plain_4 : List UInt8 := [28, 29, 42, 43, 182, 0, 238, 183, 1, 16, 176, 187, 1, 14, 89, 28, 2, 28, 7, 160, 0, 13, 42, 3]
abbrev dktX9_plain_4 : List UInt8 := dkwX9_plain_4 ++ dktX9_plain_5
def dkwX9_plain_3 : List UInt8 := [183, 1, 16, 176, 28, 4, 159, 0, 8, 28, 6, 160, 0, 24, 42, 18, 126, 182, 0, 76, 187, 1, 14, 89]
abbrev dktX9_plain_3 : List UInt8 := dkwX9_plain_3 ++ dktX9_plain_4
def dkwX9_plain_2 : List UInt8 := [183, 1, 16, 176, 28, 5, 160, 0, 21, 187, 1, 14, 89, 28, 29, 42, 4, 17, 0, 240, 182, 0, 80]
abbrev dktX9_plain_2 : List UInt8 := dkwX9_plain_2 ++ dktX9_plain_3
def dkwX9_plain_1 : List UInt8 := [28, 154, 0, 26, 187, 1, 14, 89, 28, 29, 42, 18, 130, 3, 43, 180, 0, 176, 4, 100, 182, 0, 173]
abbrev dktX9_plain_1 : List UInt8 := dkwX9_plain_1 ++ dktX9_plain_2
def dkwX9_plain_0 : List UInt8 := [42, 182, 0, 142, 61, 42, 182, 0, 19, 28, 6, 163, 0, 11, 42, 43, 182, 0, 233, 167, 0, 4, 2, 62]
abbrev dktX9_plain_0 : List UInt8 := dkwX9_plain_0 ++ dktX9_plain_1
theorem dksX9_plain_0 : cX9_plain.data.toList.drop 0 = dktX9_plain_0 := by decide +kernel
theorem dksX9_plain_1 : cX9_plain.data.toList.drop 24 = dktX9_plain_1 := dk_seg dksX9_plain_0 24 rfl rfl
theorem dksX9_plain_2 : cX9_plain.data.toList.drop 47 = dktX9_plain_2 := dk_seg dksX9_plain_1 23 rfl rfl
theorem dksX9_plain_3 : cX9_plain.data.toList.drop 70 = dktX9_plain_3 := dk_seg dksX9_plain_2 23 rfl rfl
theorem dksX9_plain_4 : cX9_plain.data.toList.drop 94 = dktX9_plain_4 := dk_seg dksX9_plain_3 24 rfl rfl
theorem dksX9_plain_5 : cX9_plain.data.toList.drop 118 = dktX9_plain_5 := dk_seg dksX9_plain_4 24 rfl rfl
theorem dksX9_plain_6 : cX9_plain.data.toList.drop 142 = dktX9_plain_6 := dk_seg dksX9_plain_5 24 rfl rfl
theorem dX9_plain_0 : decode cX9_plain 0 = .ok (.aload_n 0, 1) := dk_42 (dk_at dksX9_plain_0 0 rfl rfl)
theorem dX9_plain_1 : decode cX9_plain 1 = .ok (.invokevirtual 142, 3) := dk_182 0 142 (dk_at dksX9_plain_0 1 rfl rfl)
theorem dX9_plain_4 : decode cX9_plain 4 = .ok (.istore_n 2, 1) := dk_61 (dk_at dksX9_plain_0 4 rfl rfl)
theorem dX9_plain_5 : decode cX9_plain 5 = .ok (.aload_n 0, 1) := dk_42 (dk_at dksX9_plain_0 5 rfl rfl)
theorem dX9_plain_6 : decode cX9_plain 6 = .ok (.invokevirtual 19, 3) := dk_182 0 19 (dk_at dksX9_plain_0 6 rfl rfl)
theorem dX9_plain_9 : decode cX9_plain 9 = .ok (.iload_n 2, 1) := dk_28 (dk_at dksX9_plain_0 9 rfl rfl)
theorem dX9_plain_10 : decode cX9_plain 10 = .ok (.iconst 3, 1) := dk_6 (dk_at dksX9_plain_0 10 rfl rfl)
theorem dX9_plain_11 : decode cX9_plain 11 = .ok (.if_icmp .gt 11, 3) := dk_163 0 11 (dk_at dksX9_plain_0 11 rfl rfl)
theorem dX9_plain_14 : decode cX9_plain 14 = .ok (.aload_n 0, 1) := dk_42 (dk_at dksX9_plain_0 14 rfl rfl)
theorem dX9_plain_15 : decode cX9_plain 15 = .ok (.aload_n 1, 1) := dk_43 (dk_at dksX9_plain_0 15 rfl rfl)
theorem dX9_plain_16 : decode cX9_plain 16 = .ok (.invokevirtual 233, 3) := dk_182 0 233 (dk_at dksX9_plain_0 16 rfl rfl)
theorem dX9_plain_19 : decode cX9_plain 19 = .ok (.goto 4, 3) := dk_167 0 4 (dk_at dksX9_plain_0 19 rfl rfl)
theorem dX9_plain_22 : decode cX9_plain 22 = .ok (.iconst (-1), 1) := dk_2 (dk_at dksX9_plain_0 22 rfl rfl)
theorem dX9_plain_23 : decode cX9_plain 23 = .ok (.istore_n 3, 1) := dk_62 (dk_at dksX9_plain_0 23 rfl rfl)
theorem dX9_plain_24 : decode cX9_plain 24 = .ok (.iload_n 2, 1) := dk_28 (dk_at dksX9_plain_1 0 rfl rfl)
theorem dX9_plain_25 : decode cX9_plain 25 = .ok (.ifCond .ne 26, 3) := dk_154 0 26 (dk_at dksX9_plain_1 1 rfl rfl)
theorem dX9_plain_28 : decode cX9_plain 28 = .ok (.new 270, 3) := dk_187 1 14 (dk_at dksX9_plain_1 4 rfl rfl)
theorem dX9_plain_31 : decode cX9_plain 31 = .ok (.dup, 1) := dk_89 (dk_at dksX9_plain_1 7 rfl rfl)
theorem dX9_plain_32 : decode cX9_plain 32 = .ok (.iload_n 2, 1) := dk_28 (dk_at dksX9_plain_1 8 rfl rfl)
theorem dX9_plain_33 : decode cX9_plain 33 = .ok (.iload_n 3, 1) := dk_29 (dk_at dksX9_plain_1 9 rfl rfl)
theorem dX9_plain_34 : decode cX9_plain 34 = .ok (.aload_n 0, 1) := dk_42 (dk_at dksX9_plain_1 10 rfl rfl)
theorem dX9_plain_35 : decode cX9_plain 35 = .ok (.ldc 130, 2) := dk_18 130 (dk_at dksX9_plain_1 11 rfl rfl)
theorem dX9_plain_37 : decode cX9_plain 37 = .ok (.iconst 0, 1) := dk_3 (dk_at dksX9_plain_1 13 rfl rfl)
theorem dX9_plain_38 : decode cX9_plain 38 = .ok (.aload_n 1, 1) := dk_43 (dk_at dksX9_plain_1 14 rfl rfl)
theorem dX9_plain_39 : decode cX9_plain 39 = .ok (.getfield 176, 3) := dk_180 0 176 (dk_at dksX9_plain_1 15 rfl rfl)
theorem dX9_plain_42 : decode cX9_plain 42 = .ok (.iconst 1, 1) := dk_4 (dk_at dksX9_plain_1 18 rfl rfl)
theorem dX9_plain_43 : decode cX9_plain 43 = .ok (.isub, 1) := dk_100 (dk_at dksX9_plain_1 19 rfl rfl)
theorem dX9_plain_44 : decode cX9_plain 44 = .ok (.invokevirtual 173, 3) := dk_182 0 173 (dk_at dksX9_plain_1 20 rfl rfl)
theorem dX9_plain_47 : decode cX9_plain 47 = .ok (.invokespecial 272, 3) := dk_183 1 16 (dk_at dksX9_plain_2 0 rfl rfl)
theorem dX9_plain_50 : decode cX9_plain 50 = .ok (.areturn, 1) := dk_176 (dk_at dksX9_plain_2 3 rfl rfl)
theorem dX9_plain_51 : decode cX9_plain 51 = .ok (.iload_n 2, 1) := dk_28 (dk_at dksX9_plain_2 4 rfl rfl)
theorem dX9_plain_52 : decode cX9_plain 52 = .ok (.iconst 2, 1) := dk_5 (dk_at dksX9_plain_2 5 rfl rfl)
theorem dX9_plain_53 : decode cX9_plain 53 = .ok (.if_icmp .ne 21, 3) := dk_160 0 21 (dk_at dksX9_plain_2 6 rfl rfl)
theorem dX9_plain_56 : decode cX9_plain 56 = .ok (.new 270, 3) := dk_187 1 14 (dk_at dksX9_plain_2 9 rfl rfl)
theorem dX9_plain_59 : decode cX9_plain 59 = .ok (.dup, 1) := dk_89 (dk_at dksX9_plain_2 12 rfl rfl)
theorem dX9_plain_60 : decode cX9_plain 60 = .ok (.iload_n 2, 1) := dk_28 (dk_at dksX9_plain_2 13 rfl rfl)
theorem dX9_plain_61 : decode cX9_plain 61 = .ok (.iload_n 3, 1) := dk_29 (dk_at dksX9_plain_2 14 rfl rfl)
theorem dX9_plain_62 : decode cX9_plain 62 = .ok (.aload_n 0, 1) := dk_42 (dk_at dksX9_plain_2 15 rfl rfl)
theorem dX9_plain_63 : decode cX9_plain 63 = .ok (.iconst 1, 1) := dk_4 (dk_at dksX9_plain_2 16 rfl rfl)
theorem dX9_plain_64 : decode cX9_plain 64 = .ok (.sipush 240, 3) := dk_17 0 240 (dk_at dksX9_plain_2 17 rfl rfl)
theorem dX9_plain_67 : decode cX9_plain 67 = .ok (.invokevirtual 80, 3) := dk_182 0 80 (dk_at dksX9_plain_2 20 rfl rfl)
theorem dX9_plain_70 : decode cX9_plain 70 = .ok (.invokespecial 272, 3) := dk_183 1 16 (dk_at dksX9_plain_3 0 rfl rfl)
theorem dX9_plain_73 : decode cX9_plain 73 = .ok (.areturn, 1) := dk_176 (dk_at dksX9_plain_3 3 rfl rfl)
theorem dX9_plain_74 : decode cX9_plain 74 = .ok (.iload_n 2, 1) := dk_28 (dk_at dksX9_plain_3 4 rfl rfl)
theorem dX9_plain_75 : decode cX9_plain 75 = .ok (.iconst 1, 1) := dk_4 (dk_at dksX9_plain_3 5 rfl rfl)
theorem dX9_plain_76 : decode cX9_plain 76 = .ok (.if_icmp .eq 8, 3) := dk_159 0 8 (dk_at dksX9_plain_3 6 rfl rfl)
theorem dX9_plain_79 : decode cX9_plain 79 = .ok (.iload_n 2, 1) := dk_28 (dk_at dksX9_plain_3 9 rfl rfl)
theorem dX9_plain_80 : decode cX9_plain 80 = .ok (.iconst 3, 1) := dk_6 (dk_at dksX9_plain_3 10 rfl rfl)
theorem dX9_plain_81 : decode cX9_plain 81 = .ok (.if_icmp .ne 24, 3) := dk_160 0 24 (dk_at dksX9_plain_3 11 rfl rfl)
theorem dX9_plain_84 : decode cX9_plain 84 = .ok (.aload_n 0, 1) := dk_42 (dk_at dksX9_plain_3 14 rfl rfl)
theorem dX9_plain_85 : decode cX9_plain 85 = .ok (.ldc 126, 2) := dk_18 126 (dk_at dksX9_plain_3 15 rfl rfl)
theorem dX9_plain_87 : decode cX9_plain 87 = .ok (.invokevirtual 76, 3) := dk_182 0 76 (dk_at dksX9_plain_3 17 rfl rfl)
theorem dX9_plain_90 : decode cX9_plain 90 = .ok (.new 270, 3) := dk_187 1 14 (dk_at dksX9_plain_3 20 rfl rfl)
theorem dX9_plain_93 : decode cX9_plain 93 = .ok (.dup, 1) := dk_89 (dk_at dksX9_plain_3 23 rfl rfl)
theorem dX9_plain_94 : decode cX9_plain 94 = .ok (.iload_n 2, 1) := dk_28 (dk_at dksX9_plain_4 0 rfl rfl)
theorem dX9_plain_95 : decode cX9_plain 95 = .ok (.iload_n 3, 1) := dk_29 (dk_at dksX9_plain_4 1 rfl rfl)
theorem dX9_plain_96 : decode cX9_plain 96 = .ok (.aload_n 0, 1) := dk_42 (dk_at dksX9_plain_4 2 rfl rfl)
theorem dX9_plain_97 : decode cX9_plain 97 = .ok (.aload_n 1, 1) := dk_43 (dk_at dksX9_plain_4 3 rfl rfl)
theorem dX9_plain_98 : decode cX9_plain 98 = .ok (.invokevirtual 238, 3) := dk_182 0 238 (dk_at dksX9_plain_4 4 rfl rfl)
theorem dX9_plain_101 : decode cX9_plain 101 = .ok (.invokespecial 272, 3) := dk_183 1 16 (dk_at dksX9_plain_4 7 rfl rfl)
theorem dX9_plain_104 : decode cX9_plain 104 = .ok (.areturn, 1) := dk_176 (dk_at dksX9_plain_4 10 rfl rfl)
theorem dX9_plain_105 : decode cX9_plain 105 = .ok (.new 270, 3) := dk_187 1 14 (dk_at dksX9_plain_4 11 rfl rfl)
theorem dX9_plain_108 : decode cX9_plain 108 = .ok (.dup, 1) := dk_89 (dk_at dksX9_plain_4 14 rfl rfl)
theorem dX9_plain_109 : decode cX9_plain 109 = .ok (.iload_n 2, 1) := dk_28 (dk_at dksX9_plain_4 15 rfl rfl)
theorem dX9_plain_110 : decode cX9_plain 110 = .ok (.iconst (-1), 1) := dk_2 (dk_at dksX9_plain_4 16 rfl rfl)
theorem dX9_plain_111 : decode cX9_plain 111 = .ok (.iload_n 2, 1) := dk_28 (dk_at dksX9_plain_4 17 rfl rfl)
theorem dX9_plain_112 : decode cX9_plain 112 = .ok (.iconst 4, 1) := dk_7 (dk_at dksX9_plain_4 18 rfl rfl)
theorem dX9_plain_113 : decode cX9_plain 113 = .ok (.if_icmp .ne 13, 3) := dk_160 0 13 (dk_at dksX9_plain_4 19 rfl rfl)
theorem dX9_plain_116 : decode cX9_plain 116 = .ok (.aload_n 0, 1) := dk_42 (dk_at dksX9_plain_4 22 rfl rfl)
theorem dX9_plain_117 : decode cX9_plain 117 = .ok (.iconst 0, 1) := dk_3 (dk_at dksX9_plain_4 23 rfl rfl)
theorem dX9_plain_118 : decode cX9_plain 118 = .ok (.bipush 16, 2) := dk_16 16 (dk_at dksX9_plain_5 0 rfl rfl)
theorem dX9_plain_120 : decode cX9_plain 120 = .ok (.invokevirtual 80, 3) := dk_182 0 80 (dk_at dksX9_plain_5 2 rfl rfl)
theorem dX9_plain_123 : decode cX9_plain 123 = .ok (.goto 19, 3) := dk_167 0 19 (dk_at dksX9_plain_5 5 rfl rfl)
theorem dX9_plain_126 : decode cX9_plain 126 = .ok (.iload_n 2, 1) := dk_28 (dk_at dksX9_plain_5 8 rfl rfl)
theorem dX9_plain_127 : decode cX9_plain 127 = .ok (.iconst 5, 1) := dk_8 (dk_at dksX9_plain_5 9 rfl rfl)
theorem dX9_plain_128 : decode cX9_plain 128 = .ok (.if_icmp .ne 13, 3) := dk_160 0 13 (dk_at dksX9_plain_5 10 rfl rfl)
theorem dX9_plain_131 : decode cX9_plain 131 = .ok (.aload_n 0, 1) := dk_42 (dk_at dksX9_plain_5 13 rfl rfl)
theorem dX9_plain_132 : decode cX9_plain 132 = .ok (.iconst 0, 1) := dk_3 (dk_at dksX9_plain_5 14 rfl rfl)
theorem dX9_plain_133 : decode cX9_plain 133 = .ok (.bipush 40, 2) := dk_16 40 (dk_at dksX9_plain_5 15 rfl rfl)
theorem dX9_plain_135 : decode cX9_plain 135 = .ok (.invokevirtual 80, 3) := dk_182 0 80 (dk_at dksX9_plain_5 17 rfl rfl)
theorem dX9_plain_138 : decode cX9_plain 138 = .ok (.goto 4, 3) := dk_167 0 4 (dk_at dksX9_plain_5 20 rfl rfl)
theorem dX9_plain_141 : decode cX9_plain 141 = .ok (.iconst 0, 1) := dk_3 (dk_at dksX9_plain_5 23 rfl rfl)
theorem dX9_plain_142 : decode cX9_plain 142 = .ok (.invokespecial 272, 3) := dk_183 1 16 (dk_at dksX9_plain_6 0 rfl rfl)
theorem dX9_plain_145 : decode cX9_plain 145 = .ok (.areturn, 1) := dk_176 (dk_at dksX9_plain_6 3 rfl rfl)
abbrev cJ7_charAt : ByteArray := prog_27_method_2_code
def yJ7_charAt : MethodName := ⟨RJ7, "charAt", "([BI)C"⟩
def dkwJ7_charAt_0 : List UInt8 := [27, 42, 190, 184, 0, 9, 42, 27, 51, 17, 0, 255, 126, 146, 172]
abbrev dktJ7_charAt_0 : List UInt8 := dkwJ7_charAt_0 ++ []
theorem dksJ7_charAt_0 : cJ7_charAt.data.toList.drop 0 = dktJ7_charAt_0 := by decide +kernel
theorem dJ7_charAt_0 : decode cJ7_charAt 0 = .ok (.iload_n 1, 1) := dk_27 (dk_at dksJ7_charAt_0 0 rfl rfl)
theorem dJ7_charAt_1 : decode cJ7_charAt 1 = .ok (.aload_n 0, 1) := dk_42 (dk_at dksJ7_charAt_0 1 rfl rfl)
theorem dJ7_charAt_2 : decode cJ7_charAt 2 = .ok (.arraylength, 1) := dk_190 (dk_at dksJ7_charAt_0 2 rfl rfl)
theorem dJ7_charAt_3 : decode cJ7_charAt 3 = .ok (.invokestatic 9, 3) := dk_184 0 9 (dk_at dksJ7_charAt_0 3 rfl rfl)
theorem dJ7_charAt_6 : decode cJ7_charAt 6 = .ok (.aload_n 0, 1) := dk_42 (dk_at dksJ7_charAt_0 6 rfl rfl)
theorem dJ7_charAt_7 : decode cJ7_charAt 7 = .ok (.iload_n 1, 1) := dk_27 (dk_at dksJ7_charAt_0 7 rfl rfl)
theorem dJ7_charAt_8 : decode cJ7_charAt 8 = .ok (.baload, 1) := dk_51 (dk_at dksJ7_charAt_0 8 rfl rfl)
theorem dJ7_charAt_9 : decode cJ7_charAt 9 = .ok (.sipush 255, 3) := dk_17 0 255 (dk_at dksJ7_charAt_0 9 rfl rfl)
theorem dJ7_charAt_12 : decode cJ7_charAt 12 = .ok (.iand, 1) := dk_126 (dk_at dksJ7_charAt_0 12 rfl rfl)
theorem dJ7_charAt_13 : decode cJ7_charAt 13 = .ok (.i2c, 1) := dk_146 (dk_at dksJ7_charAt_0 13 rfl rfl)
theorem dJ7_charAt_14 : decode cJ7_charAt 14 = .ok (.ireturn, 1) := dk_172 (dk_at dksJ7_charAt_0 14 rfl rfl)
abbrev cJ8_checkIndex : ByteArray := prog_31_method_11_code
def yJ8_checkIndex : MethodName := ⟨RJ8, "checkIndex", "(IILjava/util/function/BiFunction;)I"⟩
def dkwJ8_checkIndex_0 : List UInt8 := [26, 155, 0, 8, 26, 27, 161, 0, 10, 44, 26, 27, 184, 0, 95, 191, 26, 172]
abbrev dktJ8_checkIndex_0 : List UInt8 := dkwJ8_checkIndex_0 ++ []
theorem dksJ8_checkIndex_0 : cJ8_checkIndex.data.toList.drop 0 = dktJ8_checkIndex_0 := by decide +kernel
theorem dJ8_checkIndex_0 : decode cJ8_checkIndex 0 = .ok (.iload_n 0, 1) := dk_26 (dk_at dksJ8_checkIndex_0 0 rfl rfl)
theorem dJ8_checkIndex_1 : decode cJ8_checkIndex 1 = .ok (.ifCond .lt 8, 3) := dk_155 0 8 (dk_at dksJ8_checkIndex_0 1 rfl rfl)
theorem dJ8_checkIndex_4 : decode cJ8_checkIndex 4 = .ok (.iload_n 0, 1) := dk_26 (dk_at dksJ8_checkIndex_0 4 rfl rfl)
theorem dJ8_checkIndex_5 : decode cJ8_checkIndex 5 = .ok (.iload_n 1, 1) := dk_27 (dk_at dksJ8_checkIndex_0 5 rfl rfl)
theorem dJ8_checkIndex_6 : decode cJ8_checkIndex 6 = .ok (.if_icmp .lt 10, 3) := dk_161 0 10 (dk_at dksJ8_checkIndex_0 6 rfl rfl)
theorem dJ8_checkIndex_9 : decode cJ8_checkIndex 9 = .ok (.aload_n 2, 1) := dk_44 (dk_at dksJ8_checkIndex_0 9 rfl rfl)
theorem dJ8_checkIndex_10 : decode cJ8_checkIndex 10 = .ok (.iload_n 0, 1) := dk_26 (dk_at dksJ8_checkIndex_0 10 rfl rfl)
theorem dJ8_checkIndex_11 : decode cJ8_checkIndex 11 = .ok (.iload_n 1, 1) := dk_27 (dk_at dksJ8_checkIndex_0 11 rfl rfl)
theorem dJ8_checkIndex_12 : decode cJ8_checkIndex 12 = .ok (.invokestatic 95, 3) := dk_184 0 95 (dk_at dksJ8_checkIndex_0 12 rfl rfl)
theorem dJ8_checkIndex_15 : decode cJ8_checkIndex 15 = .ok (.athrow, 1) := dk_191 (dk_at dksJ8_checkIndex_0 15 rfl rfl)
theorem dJ8_checkIndex_16 : decode cJ8_checkIndex 16 = .ok (.iload_n 0, 1) := dk_26 (dk_at dksJ8_checkIndex_0 16 rfl rfl)
theorem dJ8_checkIndex_17 : decode cJ8_checkIndex 17 = .ok (.ireturn, 1) := dk_172 (dk_at dksJ8_checkIndex_0 17 rfl rfl)
abbrev cJ9_charAt : ByteArray := prog_28_method_83_code
def yJ9_charAt : MethodName := ⟨RJ9, "charAt", "([BI)C"⟩
def dkwJ9_charAt_0 : List UInt8 := [27, 42, 184, 0, 67, 42, 27, 184, 0, 71, 172]
abbrev dktJ9_charAt_0 : List UInt8 := dkwJ9_charAt_0 ++ []
theorem dksJ9_charAt_0 : cJ9_charAt.data.toList.drop 0 = dktJ9_charAt_0 := by decide +kernel
theorem dJ9_charAt_0 : decode cJ9_charAt 0 = .ok (.iload_n 1, 1) := dk_27 (dk_at dksJ9_charAt_0 0 rfl rfl)
theorem dJ9_charAt_1 : decode cJ9_charAt 1 = .ok (.aload_n 0, 1) := dk_42 (dk_at dksJ9_charAt_0 1 rfl rfl)
theorem dJ9_charAt_2 : decode cJ9_charAt 2 = .ok (.invokestatic 67, 3) := dk_184 0 67 (dk_at dksJ9_charAt_0 2 rfl rfl)
theorem dJ9_charAt_5 : decode cJ9_charAt 5 = .ok (.aload_n 0, 1) := dk_42 (dk_at dksJ9_charAt_0 5 rfl rfl)
theorem dJ9_charAt_6 : decode cJ9_charAt 6 = .ok (.iload_n 1, 1) := dk_27 (dk_at dksJ9_charAt_0 6 rfl rfl)
theorem dJ9_charAt_7 : decode cJ9_charAt 7 = .ok (.invokestatic 71, 3) := dk_184 0 71 (dk_at dksJ9_charAt_0 7 rfl rfl)
theorem dJ9_charAt_10 : decode cJ9_charAt 10 = .ok (.ireturn, 1) := dk_172 (dk_at dksJ9_charAt_0 10 rfl rfl)
abbrev cJ9_checkIndex : ByteArray := prog_28_method_91_code
def yJ9_checkIndex : MethodName := ⟨RJ9, "checkIndex", "(I[B)V"⟩
def dkwJ9_checkIndex_0 : List UInt8 := [26, 43, 184, 0, 48, 184, 1, 158, 177]
abbrev dktJ9_checkIndex_0 : List UInt8 := dkwJ9_checkIndex_0 ++ []
theorem dksJ9_checkIndex_0 : cJ9_checkIndex.data.toList.drop 0 = dktJ9_checkIndex_0 := by decide +kernel
theorem dJ9_checkIndex_0 : decode cJ9_checkIndex 0 = .ok (.iload_n 0, 1) := dk_26 (dk_at dksJ9_checkIndex_0 0 rfl rfl)
theorem dJ9_checkIndex_1 : decode cJ9_checkIndex 1 = .ok (.aload_n 1, 1) := dk_43 (dk_at dksJ9_checkIndex_0 1 rfl rfl)
theorem dJ9_checkIndex_2 : decode cJ9_checkIndex 2 = .ok (.invokestatic 48, 3) := dk_184 0 48 (dk_at dksJ9_checkIndex_0 2 rfl rfl)
theorem dJ9_checkIndex_5 : decode cJ9_checkIndex 5 = .ok (.invokestatic 414, 3) := dk_184 1 158 (dk_at dksJ9_checkIndex_0 5 rfl rfl)
theorem dJ9_checkIndex_8 : decode cJ9_checkIndex 8 = .ok (.return_, 1) := dk_177 (dk_at dksJ9_checkIndex_0 8 rfl rfl)
abbrev cJ9_length : ByteArray := prog_28_method_6_code
def yJ9_length : MethodName := ⟨RJ9, "length", "([B)I"⟩
def dkwJ9_length_0 : List UInt8 := [42, 190, 4, 122, 172]
abbrev dktJ9_length_0 : List UInt8 := dkwJ9_length_0 ++ []
theorem dksJ9_length_0 : cJ9_length.data.toList.drop 0 = dktJ9_length_0 := by decide +kernel
theorem dJ9_length_0 : decode cJ9_length 0 = .ok (.aload_n 0, 1) := dk_42 (dk_at dksJ9_length_0 0 rfl rfl)
theorem dJ9_length_1 : decode cJ9_length 1 = .ok (.arraylength, 1) := dk_190 (dk_at dksJ9_length_0 1 rfl rfl)
theorem dJ9_length_2 : decode cJ9_length 2 = .ok (.iconst 1, 1) := dk_4 (dk_at dksJ9_length_0 2 rfl rfl)
theorem dJ9_length_3 : decode cJ9_length 3 = .ok (.ishr, 1) := dk_122 (dk_at dksJ9_length_0 3 rfl rfl)
theorem dJ9_length_4 : decode cJ9_length 4 = .ok (.ireturn, 1) := dk_172 (dk_at dksJ9_length_0 4 rfl rfl)
abbrev cJ9_getChar : ByteArray := prog_28_method_5_code
def yJ9_getChar : MethodName := ⟨RJ9, "getChar", "([BI)C"⟩
def dkwJ9_getChar_2 : List UInt8 := [51, 17, 0, 255, 126, 178, 0, 63, 120, 128, 146, 172]
abbrev dktJ9_getChar_2 : List UInt8 := dkwJ9_getChar_2 ++ []
def dkwJ9_getChar_1 : List UInt8 := [183, 0, 56, 191, 27, 4, 120, 60, 42, 27, 132, 1, 1, 51, 17, 0, 255, 126, 178, 0, 59, 120, 42, 27]
abbrev dktJ9_getChar_1 : List UInt8 := dkwJ9_getChar_1 ++ dktJ9_getChar_2
def dkwJ9_getChar_0 : List UInt8 := [178, 0, 44, 154, 0, 25, 27, 155, 0, 11, 27, 42, 184, 0, 48, 161, 0, 13, 187, 0, 52, 89, 18, 54]
abbrev dktJ9_getChar_0 : List UInt8 := dkwJ9_getChar_0 ++ dktJ9_getChar_1
theorem dksJ9_getChar_0 : cJ9_getChar.data.toList.drop 0 = dktJ9_getChar_0 := by decide +kernel
theorem dksJ9_getChar_1 : cJ9_getChar.data.toList.drop 24 = dktJ9_getChar_1 := dk_seg dksJ9_getChar_0 24 rfl rfl
theorem dksJ9_getChar_2 : cJ9_getChar.data.toList.drop 48 = dktJ9_getChar_2 := dk_seg dksJ9_getChar_1 24 rfl rfl
theorem dJ9_getChar_0 : decode cJ9_getChar 0 = .ok (.getstatic 44, 3) := dk_178 0 44 (dk_at dksJ9_getChar_0 0 rfl rfl)
theorem dJ9_getChar_3 : decode cJ9_getChar 3 = .ok (.ifCond .ne 25, 3) := dk_154 0 25 (dk_at dksJ9_getChar_0 3 rfl rfl)
theorem dJ9_getChar_6 : decode cJ9_getChar 6 = .ok (.iload_n 1, 1) := dk_27 (dk_at dksJ9_getChar_0 6 rfl rfl)
theorem dJ9_getChar_7 : decode cJ9_getChar 7 = .ok (.ifCond .lt 11, 3) := dk_155 0 11 (dk_at dksJ9_getChar_0 7 rfl rfl)
theorem dJ9_getChar_10 : decode cJ9_getChar 10 = .ok (.iload_n 1, 1) := dk_27 (dk_at dksJ9_getChar_0 10 rfl rfl)
theorem dJ9_getChar_11 : decode cJ9_getChar 11 = .ok (.aload_n 0, 1) := dk_42 (dk_at dksJ9_getChar_0 11 rfl rfl)
theorem dJ9_getChar_12 : decode cJ9_getChar 12 = .ok (.invokestatic 48, 3) := dk_184 0 48 (dk_at dksJ9_getChar_0 12 rfl rfl)
theorem dJ9_getChar_15 : decode cJ9_getChar 15 = .ok (.if_icmp .lt 13, 3) := dk_161 0 13 (dk_at dksJ9_getChar_0 15 rfl rfl)
theorem dJ9_getChar_18 : decode cJ9_getChar 18 = .ok (.new 52, 3) := dk_187 0 52 (dk_at dksJ9_getChar_0 18 rfl rfl)
theorem dJ9_getChar_21 : decode cJ9_getChar 21 = .ok (.dup, 1) := dk_89 (dk_at dksJ9_getChar_0 21 rfl rfl)
theorem dJ9_getChar_22 : decode cJ9_getChar 22 = .ok (.ldc 54, 2) := dk_18 54 (dk_at dksJ9_getChar_0 22 rfl rfl)
theorem dJ9_getChar_24 : decode cJ9_getChar 24 = .ok (.invokespecial 56, 3) := dk_183 0 56 (dk_at dksJ9_getChar_1 0 rfl rfl)
theorem dJ9_getChar_27 : decode cJ9_getChar 27 = .ok (.athrow, 1) := dk_191 (dk_at dksJ9_getChar_1 3 rfl rfl)
theorem dJ9_getChar_28 : decode cJ9_getChar 28 = .ok (.iload_n 1, 1) := dk_27 (dk_at dksJ9_getChar_1 4 rfl rfl)
theorem dJ9_getChar_29 : decode cJ9_getChar 29 = .ok (.iconst 1, 1) := dk_4 (dk_at dksJ9_getChar_1 5 rfl rfl)
theorem dJ9_getChar_30 : decode cJ9_getChar 30 = .ok (.ishl, 1) := dk_120 (dk_at dksJ9_getChar_1 6 rfl rfl)
theorem dJ9_getChar_31 : decode cJ9_getChar 31 = .ok (.istore_n 1, 1) := dk_60 (dk_at dksJ9_getChar_1 7 rfl rfl)
theorem dJ9_getChar_32 : decode cJ9_getChar 32 = .ok (.aload_n 0, 1) := dk_42 (dk_at dksJ9_getChar_1 8 rfl rfl)
theorem dJ9_getChar_33 : decode cJ9_getChar 33 = .ok (.iload_n 1, 1) := dk_27 (dk_at dksJ9_getChar_1 9 rfl rfl)
theorem dJ9_getChar_34 : decode cJ9_getChar 34 = .ok (.iinc 1 1, 3) := dk_132 1 1 (dk_at dksJ9_getChar_1 10 rfl rfl)
theorem dJ9_getChar_37 : decode cJ9_getChar 37 = .ok (.baload, 1) := dk_51 (dk_at dksJ9_getChar_1 13 rfl rfl)
theorem dJ9_getChar_38 : decode cJ9_getChar 38 = .ok (.sipush 255, 3) := dk_17 0 255 (dk_at dksJ9_getChar_1 14 rfl rfl)
theorem dJ9_getChar_41 : decode cJ9_getChar 41 = .ok (.iand, 1) := dk_126 (dk_at dksJ9_getChar_1 17 rfl rfl)
theorem dJ9_getChar_42 : decode cJ9_getChar 42 = .ok (.getstatic 59, 3) := dk_178 0 59 (dk_at dksJ9_getChar_1 18 rfl rfl)
theorem dJ9_getChar_45 : decode cJ9_getChar 45 = .ok (.ishl, 1) := dk_120 (dk_at dksJ9_getChar_1 21 rfl rfl)
theorem dJ9_getChar_46 : decode cJ9_getChar 46 = .ok (.aload_n 0, 1) := dk_42 (dk_at dksJ9_getChar_1 22 rfl rfl)
theorem dJ9_getChar_47 : decode cJ9_getChar 47 = .ok (.iload_n 1, 1) := dk_27 (dk_at dksJ9_getChar_1 23 rfl rfl)
theorem dJ9_getChar_48 : decode cJ9_getChar 48 = .ok (.baload, 1) := dk_51 (dk_at dksJ9_getChar_2 0 rfl rfl)
theorem dJ9_getChar_49 : decode cJ9_getChar 49 = .ok (.sipush 255, 3) := dk_17 0 255 (dk_at dksJ9_getChar_2 1 rfl rfl)
theorem dJ9_getChar_52 : decode cJ9_getChar 52 = .ok (.iand, 1) := dk_126 (dk_at dksJ9_getChar_2 4 rfl rfl)
theorem dJ9_getChar_53 : decode cJ9_getChar 53 = .ok (.getstatic 63, 3) := dk_178 0 63 (dk_at dksJ9_getChar_2 5 rfl rfl)
theorem dJ9_getChar_56 : decode cJ9_getChar 56 = .ok (.ishl, 1) := dk_120 (dk_at dksJ9_getChar_2 8 rfl rfl)
theorem dJ9_getChar_57 : decode cJ9_getChar 57 = .ok (.ior, 1) := dk_128 (dk_at dksJ9_getChar_2 9 rfl rfl)
theorem dJ9_getChar_58 : decode cJ9_getChar 58 = .ok (.i2c, 1) := dk_146 (dk_at dksJ9_getChar_2 10 rfl rfl)
theorem dJ9_getChar_59 : decode cJ9_getChar 59 = .ok (.ireturn, 1) := dk_172 (dk_at dksJ9_getChar_2 11 rfl rfl)
abbrev cJ10_abs : ByteArray := prog_23_method_59_code
def yJ10_abs : MethodName := ⟨RJ10, "abs", "(I)I"⟩
def dkwJ10_abs_0 : List UInt8 := [26, 156, 0, 8, 26, 116, 167, 0, 4, 26, 172]
abbrev dktJ10_abs_0 : List UInt8 := dkwJ10_abs_0 ++ []
theorem dksJ10_abs_0 : cJ10_abs.data.toList.drop 0 = dktJ10_abs_0 := by decide +kernel
theorem dJ10_abs_0 : decode cJ10_abs 0 = .ok (.iload_n 0, 1) := dk_26 (dk_at dksJ10_abs_0 0 rfl rfl)
theorem dJ10_abs_1 : decode cJ10_abs 1 = .ok (.ifCond .ge 8, 3) := dk_156 0 8 (dk_at dksJ10_abs_0 1 rfl rfl)
theorem dJ10_abs_4 : decode cJ10_abs 4 = .ok (.iload_n 0, 1) := dk_26 (dk_at dksJ10_abs_0 4 rfl rfl)
theorem dJ10_abs_5 : decode cJ10_abs 5 = .ok (.ineg, 1) := dk_116 (dk_at dksJ10_abs_0 5 rfl rfl)
theorem dJ10_abs_6 : decode cJ10_abs 6 = .ok (.goto 4, 3) := dk_167 0 4 (dk_at dksJ10_abs_0 6 rfl rfl)
theorem dJ10_abs_9 : decode cJ10_abs 9 = .ok (.iload_n 0, 1) := dk_26 (dk_at dksJ10_abs_0 9 rfl rfl)
theorem dJ10_abs_10 : decode cJ10_abs 10 = .ok (.ireturn, 1) := dk_172 (dk_at dksJ10_abs_0 10 rfl rfl)
abbrev cJ10_max : ByteArray := prog_23_method_65_code
def yJ10_max : MethodName := ⟨RJ10, "max", "(II)I"⟩
def dkwJ10_max_0 : List UInt8 := [26, 27, 161, 0, 7, 26, 167, 0, 4, 27, 172]
abbrev dktJ10_max_0 : List UInt8 := dkwJ10_max_0 ++ []
theorem dksJ10_max_0 : cJ10_max.data.toList.drop 0 = dktJ10_max_0 := by decide +kernel
theorem dJ10_max_0 : decode cJ10_max 0 = .ok (.iload_n 0, 1) := dk_26 (dk_at dksJ10_max_0 0 rfl rfl)
theorem dJ10_max_1 : decode cJ10_max 1 = .ok (.iload_n 1, 1) := dk_27 (dk_at dksJ10_max_0 1 rfl rfl)
theorem dJ10_max_2 : decode cJ10_max 2 = .ok (.if_icmp .lt 7, 3) := dk_161 0 7 (dk_at dksJ10_max_0 2 rfl rfl)
theorem dJ10_max_5 : decode cJ10_max 5 = .ok (.iload_n 0, 1) := dk_26 (dk_at dksJ10_max_0 5 rfl rfl)
theorem dJ10_max_6 : decode cJ10_max 6 = .ok (.goto 4, 3) := dk_167 0 4 (dk_at dksJ10_max_0 6 rfl rfl)
theorem dJ10_max_9 : decode cJ10_max 9 = .ok (.iload_n 1, 1) := dk_27 (dk_at dksJ10_max_0 9 rfl rfl)
theorem dJ10_max_10 : decode cJ10_max 10 = .ok (.ireturn, 1) := dk_172 (dk_at dksJ10_max_0 10 rfl rfl)
abbrev cJ10_min : ByteArray := prog_23_method_69_code
def yJ10_min : MethodName := ⟨RJ10, "min", "(II)I"⟩
def dkwJ10_min_0 : List UInt8 := [26, 27, 163, 0, 7, 26, 167, 0, 4, 27, 172]
abbrev dktJ10_min_0 : List UInt8 := dkwJ10_min_0 ++ []
theorem dksJ10_min_0 : cJ10_min.data.toList.drop 0 = dktJ10_min_0 := by decide +kernel
theorem dJ10_min_0 : decode cJ10_min 0 = .ok (.iload_n 0, 1) := dk_26 (dk_at dksJ10_min_0 0 rfl rfl)
theorem dJ10_min_1 : decode cJ10_min 1 = .ok (.iload_n 1, 1) := dk_27 (dk_at dksJ10_min_0 1 rfl rfl)
theorem dJ10_min_2 : decode cJ10_min 2 = .ok (.if_icmp .gt 7, 3) := dk_163 0 7 (dk_at dksJ10_min_0 2 rfl rfl)
theorem dJ10_min_5 : decode cJ10_min 5 = .ok (.iload_n 0, 1) := dk_26 (dk_at dksJ10_min_0 5 rfl rfl)
theorem dJ10_min_6 : decode cJ10_min 6 = .ok (.goto 4, 3) := dk_167 0 4 (dk_at dksJ10_min_0 6 rfl rfl)
theorem dJ10_min_9 : decode cJ10_min 9 = .ok (.iload_n 1, 1) := dk_27 (dk_at dksJ10_min_0 9 rfl rfl)
theorem dJ10_min_10 : decode cJ10_min 10 = .ok (.ireturn, 1) := dk_172 (dk_at dksJ10_min_0 10 rfl rfl)
abbrev cJ10_abs_2 : ByteArray := prog_23_method_61_code
def yJ10_abs_2 : MethodName := ⟨RJ10, "abs", "(J)J"⟩
def dkwJ10_abs_2_0 : List UInt8 := [30, 9, 148, 156, 0, 8, 30, 117, 167, 0, 4, 30, 173]
abbrev dktJ10_abs_2_0 : List UInt8 := dkwJ10_abs_2_0 ++ []
theorem dksJ10_abs_2_0 : cJ10_abs_2.data.toList.drop 0 = dktJ10_abs_2_0 := by decide +kernel
theorem dJ10_abs_2_0 : decode cJ10_abs_2 0 = .ok (.lload_n 0, 1) := dk_30 (dk_at dksJ10_abs_2_0 0 rfl rfl)
theorem dJ10_abs_2_1 : decode cJ10_abs_2 1 = .ok (.lconst 0, 1) := dk_9 (dk_at dksJ10_abs_2_0 1 rfl rfl)
theorem dJ10_abs_2_2 : decode cJ10_abs_2 2 = .ok (.lcmp, 1) := dk_148 (dk_at dksJ10_abs_2_0 2 rfl rfl)
theorem dJ10_abs_2_3 : decode cJ10_abs_2 3 = .ok (.ifCond .ge 8, 3) := dk_156 0 8 (dk_at dksJ10_abs_2_0 3 rfl rfl)
theorem dJ10_abs_2_6 : decode cJ10_abs_2 6 = .ok (.lload_n 0, 1) := dk_30 (dk_at dksJ10_abs_2_0 6 rfl rfl)
theorem dJ10_abs_2_7 : decode cJ10_abs_2 7 = .ok (.lneg, 1) := dk_117 (dk_at dksJ10_abs_2_0 7 rfl rfl)
theorem dJ10_abs_2_8 : decode cJ10_abs_2 8 = .ok (.goto 4, 3) := dk_167 0 4 (dk_at dksJ10_abs_2_0 8 rfl rfl)
theorem dJ10_abs_2_11 : decode cJ10_abs_2 11 = .ok (.lload_n 0, 1) := dk_30 (dk_at dksJ10_abs_2_0 11 rfl rfl)
theorem dJ10_abs_2_12 : decode cJ10_abs_2 12 = .ok (.lreturn, 1) := dk_173 (dk_at dksJ10_abs_2_0 12 rfl rfl)
abbrev cX10_init : ByteArray := prog_13_method_1_code
def yX10_init : MethodName := ⟨RX10, "<init>", "()V"⟩
theorem dX10_init_0 : decode cX10_init 0 = .ok (.aload_n 0, 1) := by decide +kernel
theorem dX10_init_1 : decode cX10_init 1 = .ok (.invokespecial 3, 3) := by decide +kernel
theorem dX10_init_4 : decode cX10_init 4 = .ok (.return_, 1) := by decide +kernel
abbrev cX10_go : ByteArray := prog_13_method_3_code
def yX10_go : MethodName := ⟨RX10, "go", "(LLastPebble$Living;)V"⟩
def dkwX10_go_1 : List UInt8 := [180, 0, 9, 4, 96, 181, 0, 9, 42, 43, 182, 0, 22, 177]
abbrev dktX10_go_1 : List UInt8 := dkwX10_go_1 ++ []
def dkwX10_go_0 : List UInt8 := [43, 180, 0, 9, 17, 1, 44, 160, 0, 14, 43, 4, 181, 0, 15, 43, 4, 181, 0, 19, 177, 43, 89]
abbrev dktX10_go_0 : List UInt8 := dkwX10_go_0 ++ dktX10_go_1
theorem dksX10_go_0 : cX10_go.data.toList.drop 0 = dktX10_go_0 := by decide +kernel
theorem dksX10_go_1 : cX10_go.data.toList.drop 23 = dktX10_go_1 := dk_seg dksX10_go_0 23 rfl rfl
theorem dX10_go_0 : decode cX10_go 0 = .ok (.aload_n 1, 1) := dk_43 (dk_at dksX10_go_0 0 rfl rfl)
theorem dX10_go_1 : decode cX10_go 1 = .ok (.getfield 9, 3) := dk_180 0 9 (dk_at dksX10_go_0 1 rfl rfl)
theorem dX10_go_4 : decode cX10_go 4 = .ok (.sipush 300, 3) := dk_17 1 44 (dk_at dksX10_go_0 4 rfl rfl)
theorem dX10_go_7 : decode cX10_go 7 = .ok (.if_icmp .ne 14, 3) := dk_160 0 14 (dk_at dksX10_go_0 7 rfl rfl)
theorem dX10_go_10 : decode cX10_go 10 = .ok (.aload_n 1, 1) := dk_43 (dk_at dksX10_go_0 10 rfl rfl)
theorem dX10_go_11 : decode cX10_go 11 = .ok (.iconst 1, 1) := dk_4 (dk_at dksX10_go_0 11 rfl rfl)
theorem dX10_go_12 : decode cX10_go 12 = .ok (.putfield 15, 3) := dk_181 0 15 (dk_at dksX10_go_0 12 rfl rfl)
theorem dX10_go_15 : decode cX10_go 15 = .ok (.aload_n 1, 1) := dk_43 (dk_at dksX10_go_0 15 rfl rfl)
theorem dX10_go_16 : decode cX10_go 16 = .ok (.iconst 1, 1) := dk_4 (dk_at dksX10_go_0 16 rfl rfl)
theorem dX10_go_17 : decode cX10_go 17 = .ok (.putfield 19, 3) := dk_181 0 19 (dk_at dksX10_go_0 17 rfl rfl)
theorem dX10_go_20 : decode cX10_go 20 = .ok (.return_, 1) := dk_177 (dk_at dksX10_go_0 20 rfl rfl)
theorem dX10_go_21 : decode cX10_go 21 = .ok (.aload_n 1, 1) := dk_43 (dk_at dksX10_go_0 21 rfl rfl)
theorem dX10_go_22 : decode cX10_go 22 = .ok (.dup, 1) := dk_89 (dk_at dksX10_go_0 22 rfl rfl)
theorem dX10_go_23 : decode cX10_go 23 = .ok (.getfield 9, 3) := dk_180 0 9 (dk_at dksX10_go_1 0 rfl rfl)
theorem dX10_go_26 : decode cX10_go 26 = .ok (.iconst 1, 1) := dk_4 (dk_at dksX10_go_1 3 rfl rfl)
theorem dX10_go_27 : decode cX10_go 27 = .ok (.iadd, 1) := dk_96 (dk_at dksX10_go_1 4 rfl rfl)
theorem dX10_go_28 : decode cX10_go 28 = .ok (.putfield 9, 3) := dk_181 0 9 (dk_at dksX10_go_1 5 rfl rfl)
theorem dX10_go_31 : decode cX10_go 31 = .ok (.aload_n 0, 1) := dk_42 (dk_at dksX10_go_1 8 rfl rfl)
theorem dX10_go_32 : decode cX10_go 32 = .ok (.aload_n 1, 1) := dk_43 (dk_at dksX10_go_1 9 rfl rfl)
theorem dX10_go_33 : decode cX10_go 33 = .ok (.invokevirtual 22, 3) := dk_182 0 22 (dk_at dksX10_go_1 10 rfl rfl)
theorem dX10_go_36 : decode cX10_go 36 = .ok (.return_, 1) := dk_177 (dk_at dksX10_go_1 13 rfl rfl)
abbrev cX11_init : ByteArray := prog_5_method_1_code
def yX11_init : MethodName := ⟨RX11, "<init>", "()V"⟩
def dkwX11_init_0 : List UInt8 := [42, 183, 0, 1, 42, 7, 189, 0, 2, 181, 0, 7, 177]
abbrev dktX11_init_0 : List UInt8 := dkwX11_init_0 ++ []
theorem dksX11_init_0 : cX11_init.data.toList.drop 0 = dktX11_init_0 := by decide +kernel
theorem dX11_init_0 : decode cX11_init 0 = .ok (.aload_n 0, 1) := dk_42 (dk_at dksX11_init_0 0 rfl rfl)
theorem dX11_init_1 : decode cX11_init 1 = .ok (.invokespecial 1, 3) := dk_183 0 1 (dk_at dksX11_init_0 1 rfl rfl)
theorem dX11_init_4 : decode cX11_init 4 = .ok (.aload_n 0, 1) := dk_42 (dk_at dksX11_init_0 4 rfl rfl)
theorem dX11_init_5 : decode cX11_init 5 = .ok (.iconst 4, 1) := dk_7 (dk_at dksX11_init_0 5 rfl rfl)
theorem dX11_init_6 : decode cX11_init 6 = .ok (.anewarray 2, 3) := dk_189 0 2 (dk_at dksX11_init_0 6 rfl rfl)
theorem dX11_init_9 : decode cX11_init 9 = .ok (.putfield 7, 3) := dk_181 0 7 (dk_at dksX11_init_0 9 rfl rfl)
theorem dX11_init_12 : decode cX11_init 12 = .ok (.return_, 1) := dk_177 (dk_at dksX11_init_0 12 rfl rfl)
abbrev cX11_add : ByteArray := prog_5_method_2_code
def yX11_add : MethodName := ⟨RX11, "add", "(LLastPebble$Step;)V"⟩
def dkwX11_add_2 : List UInt8 := [180, 0, 13, 43, 83, 42, 89, 180, 0, 13, 4, 96, 181, 0, 13, 177]
abbrev dktX11_add_2 : List UInt8 := dkwX11_add_2 ++ []
def dkwX11_add_1 : List UInt8 := [180, 0, 7, 3, 44, 3, 42, 180, 0, 13, 184, 0, 17, 42, 44, 181, 0, 7, 42, 180, 0, 7, 42]
abbrev dktX11_add_1 : List UInt8 := dkwX11_add_1 ++ dktX11_add_2
def dkwX11_add_0 : List UInt8 := [42, 180, 0, 13, 42, 180, 0, 7, 190, 160, 0, 32, 5, 42, 180, 0, 13, 104, 189, 0, 2, 77, 42]
abbrev dktX11_add_0 : List UInt8 := dkwX11_add_0 ++ dktX11_add_1
theorem dksX11_add_0 : cX11_add.data.toList.drop 0 = dktX11_add_0 := by decide +kernel
theorem dksX11_add_1 : cX11_add.data.toList.drop 23 = dktX11_add_1 := dk_seg dksX11_add_0 23 rfl rfl
theorem dksX11_add_2 : cX11_add.data.toList.drop 46 = dktX11_add_2 := dk_seg dksX11_add_1 23 rfl rfl
theorem dX11_add_0 : decode cX11_add 0 = .ok (.aload_n 0, 1) := dk_42 (dk_at dksX11_add_0 0 rfl rfl)
theorem dX11_add_1 : decode cX11_add 1 = .ok (.getfield 13, 3) := dk_180 0 13 (dk_at dksX11_add_0 1 rfl rfl)
theorem dX11_add_4 : decode cX11_add 4 = .ok (.aload_n 0, 1) := dk_42 (dk_at dksX11_add_0 4 rfl rfl)
theorem dX11_add_5 : decode cX11_add 5 = .ok (.getfield 7, 3) := dk_180 0 7 (dk_at dksX11_add_0 5 rfl rfl)
theorem dX11_add_8 : decode cX11_add 8 = .ok (.arraylength, 1) := dk_190 (dk_at dksX11_add_0 8 rfl rfl)
theorem dX11_add_9 : decode cX11_add 9 = .ok (.if_icmp .ne 32, 3) := dk_160 0 32 (dk_at dksX11_add_0 9 rfl rfl)
theorem dX11_add_12 : decode cX11_add 12 = .ok (.iconst 2, 1) := dk_5 (dk_at dksX11_add_0 12 rfl rfl)
theorem dX11_add_13 : decode cX11_add 13 = .ok (.aload_n 0, 1) := dk_42 (dk_at dksX11_add_0 13 rfl rfl)
theorem dX11_add_14 : decode cX11_add 14 = .ok (.getfield 13, 3) := dk_180 0 13 (dk_at dksX11_add_0 14 rfl rfl)
theorem dX11_add_17 : decode cX11_add 17 = .ok (.imul, 1) := dk_104 (dk_at dksX11_add_0 17 rfl rfl)
theorem dX11_add_18 : decode cX11_add 18 = .ok (.anewarray 2, 3) := dk_189 0 2 (dk_at dksX11_add_0 18 rfl rfl)
theorem dX11_add_21 : decode cX11_add 21 = .ok (.astore_n 2, 1) := dk_77 (dk_at dksX11_add_0 21 rfl rfl)
theorem dX11_add_22 : decode cX11_add 22 = .ok (.aload_n 0, 1) := dk_42 (dk_at dksX11_add_0 22 rfl rfl)
theorem dX11_add_23 : decode cX11_add 23 = .ok (.getfield 7, 3) := dk_180 0 7 (dk_at dksX11_add_1 0 rfl rfl)
theorem dX11_add_26 : decode cX11_add 26 = .ok (.iconst 0, 1) := dk_3 (dk_at dksX11_add_1 3 rfl rfl)
theorem dX11_add_27 : decode cX11_add 27 = .ok (.aload_n 2, 1) := dk_44 (dk_at dksX11_add_1 4 rfl rfl)
theorem dX11_add_28 : decode cX11_add 28 = .ok (.iconst 0, 1) := dk_3 (dk_at dksX11_add_1 5 rfl rfl)
theorem dX11_add_29 : decode cX11_add 29 = .ok (.aload_n 0, 1) := dk_42 (dk_at dksX11_add_1 6 rfl rfl)
theorem dX11_add_30 : decode cX11_add 30 = .ok (.getfield 13, 3) := dk_180 0 13 (dk_at dksX11_add_1 7 rfl rfl)
theorem dX11_add_33 : decode cX11_add 33 = .ok (.invokestatic 17, 3) := dk_184 0 17 (dk_at dksX11_add_1 10 rfl rfl)
theorem dX11_add_36 : decode cX11_add 36 = .ok (.aload_n 0, 1) := dk_42 (dk_at dksX11_add_1 13 rfl rfl)
theorem dX11_add_37 : decode cX11_add 37 = .ok (.aload_n 2, 1) := dk_44 (dk_at dksX11_add_1 14 rfl rfl)
theorem dX11_add_38 : decode cX11_add 38 = .ok (.putfield 7, 3) := dk_181 0 7 (dk_at dksX11_add_1 15 rfl rfl)
theorem dX11_add_41 : decode cX11_add 41 = .ok (.aload_n 0, 1) := dk_42 (dk_at dksX11_add_1 18 rfl rfl)
theorem dX11_add_42 : decode cX11_add 42 = .ok (.getfield 7, 3) := dk_180 0 7 (dk_at dksX11_add_1 19 rfl rfl)
theorem dX11_add_45 : decode cX11_add 45 = .ok (.aload_n 0, 1) := dk_42 (dk_at dksX11_add_1 22 rfl rfl)
theorem dX11_add_46 : decode cX11_add 46 = .ok (.getfield 13, 3) := dk_180 0 13 (dk_at dksX11_add_2 0 rfl rfl)
theorem dX11_add_49 : decode cX11_add 49 = .ok (.aload_n 1, 1) := dk_43 (dk_at dksX11_add_2 3 rfl rfl)
theorem dX11_add_50 : decode cX11_add 50 = .ok (.aastore, 1) := dk_83 (dk_at dksX11_add_2 4 rfl rfl)
theorem dX11_add_51 : decode cX11_add 51 = .ok (.aload_n 0, 1) := dk_42 (dk_at dksX11_add_2 5 rfl rfl)
theorem dX11_add_52 : decode cX11_add 52 = .ok (.dup, 1) := dk_89 (dk_at dksX11_add_2 6 rfl rfl)
theorem dX11_add_53 : decode cX11_add 53 = .ok (.getfield 13, 3) := dk_180 0 13 (dk_at dksX11_add_2 7 rfl rfl)
theorem dX11_add_56 : decode cX11_add 56 = .ok (.iconst 1, 1) := dk_4 (dk_at dksX11_add_2 10 rfl rfl)
theorem dX11_add_57 : decode cX11_add 57 = .ok (.iadd, 1) := dk_96 (dk_at dksX11_add_2 11 rfl rfl)
theorem dX11_add_58 : decode cX11_add 58 = .ok (.putfield 13, 3) := dk_181 0 13 (dk_at dksX11_add_2 12 rfl rfl)
theorem dX11_add_61 : decode cX11_add 61 = .ok (.return_, 1) := dk_177 (dk_at dksX11_add_2 15 rfl rfl)
abbrev cX11_all : ByteArray := prog_5_method_3_code
def yX11_all : MethodName := ⟨RX11, "all", "(LLastPebble$Living;)V"⟩
def dkwX11_all_1 : List UInt8 := [182, 0, 29, 132, 2, 1, 167, 255, 228, 177]
abbrev dktX11_all_1 : List UInt8 := dkwX11_all_1 ++ []
def dkwX11_all_0 : List UInt8 := [3, 61, 28, 42, 180, 0, 13, 162, 0, 26, 43, 180, 0, 23, 154, 0, 19, 42, 180, 0, 7, 28, 50, 43]
abbrev dktX11_all_0 : List UInt8 := dkwX11_all_0 ++ dktX11_all_1
theorem dksX11_all_0 : cX11_all.data.toList.drop 0 = dktX11_all_0 := by decide +kernel
theorem dksX11_all_1 : cX11_all.data.toList.drop 24 = dktX11_all_1 := dk_seg dksX11_all_0 24 rfl rfl
theorem dX11_all_0 : decode cX11_all 0 = .ok (.iconst 0, 1) := dk_3 (dk_at dksX11_all_0 0 rfl rfl)
theorem dX11_all_1 : decode cX11_all 1 = .ok (.istore_n 2, 1) := dk_61 (dk_at dksX11_all_0 1 rfl rfl)
theorem dX11_all_2 : decode cX11_all 2 = .ok (.iload_n 2, 1) := dk_28 (dk_at dksX11_all_0 2 rfl rfl)
theorem dX11_all_3 : decode cX11_all 3 = .ok (.aload_n 0, 1) := dk_42 (dk_at dksX11_all_0 3 rfl rfl)
theorem dX11_all_4 : decode cX11_all 4 = .ok (.getfield 13, 3) := dk_180 0 13 (dk_at dksX11_all_0 4 rfl rfl)
theorem dX11_all_7 : decode cX11_all 7 = .ok (.if_icmp .ge 26, 3) := dk_162 0 26 (dk_at dksX11_all_0 7 rfl rfl)
theorem dX11_all_10 : decode cX11_all 10 = .ok (.aload_n 1, 1) := dk_43 (dk_at dksX11_all_0 10 rfl rfl)
theorem dX11_all_11 : decode cX11_all 11 = .ok (.getfield 23, 3) := dk_180 0 23 (dk_at dksX11_all_0 11 rfl rfl)
theorem dX11_all_14 : decode cX11_all 14 = .ok (.ifCond .ne 19, 3) := dk_154 0 19 (dk_at dksX11_all_0 14 rfl rfl)
theorem dX11_all_17 : decode cX11_all 17 = .ok (.aload_n 0, 1) := dk_42 (dk_at dksX11_all_0 17 rfl rfl)
theorem dX11_all_18 : decode cX11_all 18 = .ok (.getfield 7, 3) := dk_180 0 7 (dk_at dksX11_all_0 18 rfl rfl)
theorem dX11_all_21 : decode cX11_all 21 = .ok (.iload_n 2, 1) := dk_28 (dk_at dksX11_all_0 21 rfl rfl)
theorem dX11_all_22 : decode cX11_all 22 = .ok (.aaload, 1) := dk_50 (dk_at dksX11_all_0 22 rfl rfl)
theorem dX11_all_23 : decode cX11_all 23 = .ok (.aload_n 1, 1) := dk_43 (dk_at dksX11_all_0 23 rfl rfl)
theorem dX11_all_24 : decode cX11_all 24 = .ok (.invokevirtual 29, 3) := dk_182 0 29 (dk_at dksX11_all_1 0 rfl rfl)
theorem dX11_all_27 : decode cX11_all 27 = .ok (.iinc 2 1, 3) := dk_132 2 1 (dk_at dksX11_all_1 3 rfl rfl)
theorem dX11_all_30 : decode cX11_all 30 = .ok (.goto (-28), 3) := dk_167 255 228 (dk_at dksX11_all_1 6 rfl rfl)
theorem dX11_all_33 : decode cX11_all 33 = .ok (.return_, 1) := dk_177 (dk_at dksX11_all_1 9 rfl rfl)
abbrev cX12_init : ByteArray := prog_10_method_1_code
def yX12_init : MethodName := ⟨RX12, "<init>", "(I)V"⟩
def dkwX12_init_0 : List UInt8 := [42, 183, 0, 1, 42, 27, 181, 0, 7, 177]
abbrev dktX12_init_0 : List UInt8 := dkwX12_init_0 ++ []
theorem dksX12_init_0 : cX12_init.data.toList.drop 0 = dktX12_init_0 := by decide +kernel
theorem dX12_init_0 : decode cX12_init 0 = .ok (.aload_n 0, 1) := dk_42 (dk_at dksX12_init_0 0 rfl rfl)
theorem dX12_init_1 : decode cX12_init 1 = .ok (.invokespecial 1, 3) := dk_183 0 1 (dk_at dksX12_init_0 1 rfl rfl)
theorem dX12_init_4 : decode cX12_init 4 = .ok (.aload_n 0, 1) := dk_42 (dk_at dksX12_init_0 4 rfl rfl)
theorem dX12_init_5 : decode cX12_init 5 = .ok (.iload_n 1, 1) := dk_27 (dk_at dksX12_init_0 5 rfl rfl)
theorem dX12_init_6 : decode cX12_init 6 = .ok (.putfield 7, 3) := dk_181 0 7 (dk_at dksX12_init_0 6 rfl rfl)
theorem dX12_init_9 : decode cX12_init 9 = .ok (.return_, 1) := dk_177 (dk_at dksX12_init_0 9 rfl rfl)
abbrev cX12_does : ByteArray := prog_10_method_2_code
def yX12_does : MethodName := ⟨RX12, "does", "(LLastPebble$Living;)V"⟩
def dkwX12_does_1 : List UInt8 := [132, 2, 1, 167, 255, 233, 177]
abbrev dktX12_does_1 : List UInt8 := dkwX12_does_1 ++ []
def dkwX12_does_0 : List UInt8 := [3, 61, 28, 42, 180, 0, 7, 162, 0, 21, 43, 180, 0, 13, 154, 0, 14, 42, 43, 182, 0, 19]
abbrev dktX12_does_0 : List UInt8 := dkwX12_does_0 ++ dktX12_does_1
theorem dksX12_does_0 : cX12_does.data.toList.drop 0 = dktX12_does_0 := by decide +kernel
theorem dksX12_does_1 : cX12_does.data.toList.drop 22 = dktX12_does_1 := dk_seg dksX12_does_0 22 rfl rfl
theorem dX12_does_0 : decode cX12_does 0 = .ok (.iconst 0, 1) := dk_3 (dk_at dksX12_does_0 0 rfl rfl)
theorem dX12_does_1 : decode cX12_does 1 = .ok (.istore_n 2, 1) := dk_61 (dk_at dksX12_does_0 1 rfl rfl)
theorem dX12_does_2 : decode cX12_does 2 = .ok (.iload_n 2, 1) := dk_28 (dk_at dksX12_does_0 2 rfl rfl)
theorem dX12_does_3 : decode cX12_does 3 = .ok (.aload_n 0, 1) := dk_42 (dk_at dksX12_does_0 3 rfl rfl)
theorem dX12_does_4 : decode cX12_does 4 = .ok (.getfield 7, 3) := dk_180 0 7 (dk_at dksX12_does_0 4 rfl rfl)
theorem dX12_does_7 : decode cX12_does 7 = .ok (.if_icmp .ge 21, 3) := dk_162 0 21 (dk_at dksX12_does_0 7 rfl rfl)
theorem dX12_does_10 : decode cX12_does 10 = .ok (.aload_n 1, 1) := dk_43 (dk_at dksX12_does_0 10 rfl rfl)
theorem dX12_does_11 : decode cX12_does 11 = .ok (.getfield 13, 3) := dk_180 0 13 (dk_at dksX12_does_0 11 rfl rfl)
theorem dX12_does_14 : decode cX12_does 14 = .ok (.ifCond .ne 14, 3) := dk_154 0 14 (dk_at dksX12_does_0 14 rfl rfl)
theorem dX12_does_17 : decode cX12_does 17 = .ok (.aload_n 0, 1) := dk_42 (dk_at dksX12_does_0 17 rfl rfl)
theorem dX12_does_18 : decode cX12_does 18 = .ok (.aload_n 1, 1) := dk_43 (dk_at dksX12_does_0 18 rfl rfl)
theorem dX12_does_19 : decode cX12_does 19 = .ok (.invokevirtual 19, 3) := dk_182 0 19 (dk_at dksX12_does_0 19 rfl rfl)
theorem dX12_does_22 : decode cX12_does 22 = .ok (.iinc 2 1, 3) := dk_132 2 1 (dk_at dksX12_does_1 0 rfl rfl)
theorem dX12_does_25 : decode cX12_does 25 = .ok (.goto (-23), 3) := dk_167 255 233 (dk_at dksX12_does_1 3 rfl rfl)
theorem dX12_does_28 : decode cX12_does 28 = .ok (.return_, 1) := dk_177 (dk_at dksX12_does_1 6 rfl rfl)
abbrev cX13_init : ByteArray := prog_15_method_1_code
def yX13_init : MethodName := ⟨RX13, "<init>", "(IIIII)V"⟩
def dkwX13_init_1 : List UInt8 := [181, 0, 21, 42, 21, 5, 181, 0, 24, 177]
abbrev dktX13_init_1 : List UInt8 := dkwX13_init_1 ++ []
def dkwX13_init_0 : List UInt8 := [42, 183, 0, 3, 42, 27, 181, 0, 9, 42, 28, 181, 0, 15, 42, 29, 181, 0, 18, 42, 21, 4]
abbrev dktX13_init_0 : List UInt8 := dkwX13_init_0 ++ dktX13_init_1
theorem dksX13_init_0 : cX13_init.data.toList.drop 0 = dktX13_init_0 := by decide +kernel
theorem dksX13_init_1 : cX13_init.data.toList.drop 22 = dktX13_init_1 := dk_seg dksX13_init_0 22 rfl rfl
theorem dX13_init_0 : decode cX13_init 0 = .ok (.aload_n 0, 1) := dk_42 (dk_at dksX13_init_0 0 rfl rfl)
theorem dX13_init_1 : decode cX13_init 1 = .ok (.invokespecial 3, 3) := dk_183 0 3 (dk_at dksX13_init_0 1 rfl rfl)
theorem dX13_init_4 : decode cX13_init 4 = .ok (.aload_n 0, 1) := dk_42 (dk_at dksX13_init_0 4 rfl rfl)
theorem dX13_init_5 : decode cX13_init 5 = .ok (.iload_n 1, 1) := dk_27 (dk_at dksX13_init_0 5 rfl rfl)
theorem dX13_init_6 : decode cX13_init 6 = .ok (.putfield 9, 3) := dk_181 0 9 (dk_at dksX13_init_0 6 rfl rfl)
theorem dX13_init_9 : decode cX13_init 9 = .ok (.aload_n 0, 1) := dk_42 (dk_at dksX13_init_0 9 rfl rfl)
theorem dX13_init_10 : decode cX13_init 10 = .ok (.iload_n 2, 1) := dk_28 (dk_at dksX13_init_0 10 rfl rfl)
theorem dX13_init_11 : decode cX13_init 11 = .ok (.putfield 15, 3) := dk_181 0 15 (dk_at dksX13_init_0 11 rfl rfl)
theorem dX13_init_14 : decode cX13_init 14 = .ok (.aload_n 0, 1) := dk_42 (dk_at dksX13_init_0 14 rfl rfl)
theorem dX13_init_15 : decode cX13_init 15 = .ok (.iload_n 3, 1) := dk_29 (dk_at dksX13_init_0 15 rfl rfl)
theorem dX13_init_16 : decode cX13_init 16 = .ok (.putfield 18, 3) := dk_181 0 18 (dk_at dksX13_init_0 16 rfl rfl)
theorem dX13_init_19 : decode cX13_init 19 = .ok (.aload_n 0, 1) := dk_42 (dk_at dksX13_init_0 19 rfl rfl)
theorem dX13_init_20 : decode cX13_init 20 = .ok (.iload 4, 2) := dk_21 4 (dk_at dksX13_init_0 20 rfl rfl)
theorem dX13_init_22 : decode cX13_init 22 = .ok (.putfield 21, 3) := dk_181 0 21 (dk_at dksX13_init_1 0 rfl rfl)
theorem dX13_init_25 : decode cX13_init 25 = .ok (.aload_n 0, 1) := dk_42 (dk_at dksX13_init_1 3 rfl rfl)
theorem dX13_init_26 : decode cX13_init 26 = .ok (.iload 5, 2) := dk_21 5 (dk_at dksX13_init_1 4 rfl rfl)
theorem dX13_init_28 : decode cX13_init 28 = .ok (.putfield 24, 3) := dk_181 0 24 (dk_at dksX13_init_1 6 rfl rfl)
theorem dX13_init_31 : decode cX13_init 31 = .ok (.return_, 1) := dk_177 (dk_at dksX13_init_1 9 rfl rfl)
abbrev cX13_does : ByteArray := prog_15_method_3_code
def yX13_does : MethodName := ⟨RX13, "does", "(LLastPebble$Living;)V"⟩
def dkwX13_does_0 : List UInt8 := [42, 43, 180, 0, 50, 182, 0, 56, 153, 0, 8, 42, 43, 182, 0, 60, 177]
abbrev dktX13_does_0 : List UInt8 := dkwX13_does_0 ++ []
theorem dksX13_does_0 : cX13_does.data.toList.drop 0 = dktX13_does_0 := by decide +kernel
theorem dX13_does_0 : decode cX13_does 0 = .ok (.aload_n 0, 1) := dk_42 (dk_at dksX13_does_0 0 rfl rfl)
theorem dX13_does_1 : decode cX13_does 1 = .ok (.aload_n 1, 1) := dk_43 (dk_at dksX13_does_0 1 rfl rfl)
theorem dX13_does_2 : decode cX13_does 2 = .ok (.getfield 50, 3) := dk_180 0 50 (dk_at dksX13_does_0 2 rfl rfl)
theorem dX13_does_5 : decode cX13_does 5 = .ok (.invokevirtual 56, 3) := dk_182 0 56 (dk_at dksX13_does_0 5 rfl rfl)
theorem dX13_does_8 : decode cX13_does 8 = .ok (.ifCond .eq 8, 3) := dk_153 0 8 (dk_at dksX13_does_0 8 rfl rfl)
theorem dX13_does_11 : decode cX13_does 11 = .ok (.aload_n 0, 1) := dk_42 (dk_at dksX13_does_0 11 rfl rfl)
theorem dX13_does_12 : decode cX13_does 12 = .ok (.aload_n 1, 1) := dk_43 (dk_at dksX13_does_0 12 rfl rfl)
theorem dX13_does_13 : decode cX13_does 13 = .ok (.invokevirtual 60, 3) := dk_182 0 60 (dk_at dksX13_does_0 13 rfl rfl)
theorem dX13_does_16 : decode cX13_does 16 = .ok (.return_, 1) := dk_177 (dk_at dksX13_does_0 16 rfl rfl)
abbrev cX13_is : ByteArray := prog_15_method_2_code
def yX13_is : MethodName := ⟨RX13, "is", "(LLastPebble$Day;)Z"⟩
def dkwX13_is_6 : List UInt8 := [160, 0, 7, 4, 167, 0, 4, 3, 172]
abbrev dktX13_is_6 : List UInt8 := dkwX13_is_6 ++ []
def dkwX13_is_5 : List UInt8 := [160, 0, 19, 28, 42, 180, 0, 24, 164, 0, 7, 4, 167, 0, 20, 3, 167, 0, 16, 28, 42, 180, 0, 24]
abbrev dktX13_is_5 : List UInt8 := dkwX13_is_5 ++ dktX13_is_6
def dkwX13_is_4 : List UInt8 := [28, 42, 180, 0, 24, 162, 0, 7, 4, 167, 0, 45, 3, 167, 0, 41, 42, 180, 0, 21, 16, 62]
abbrev dktX13_is_4 : List UInt8 := dkwX13_is_4 ++ dktX13_is_5
def dkwX13_is_3 : List UInt8 := [4, 167, 0, 4, 3, 172, 43, 42, 180, 0, 15, 182, 0, 46, 61, 42, 180, 0, 21, 16, 60, 160, 0, 19]
abbrev dktX13_is_3 : List UInt8 := dkwX13_is_3 ++ dktX13_is_4
def dkwX13_is_2 : List UInt8 := [180, 0, 18, 182, 0, 39, 153, 0, 22, 43, 180, 0, 27, 42, 180, 0, 18, 50, 180, 0, 43, 154, 0, 7]
abbrev dktX13_is_2 : List UInt8 := dkwX13_is_2 ++ dktX13_is_3
def dkwX13_is_1 : List UInt8 := [122, 4, 126, 4, 160, 0, 7, 4, 167, 0, 4, 3, 172, 42, 180, 0, 9, 5, 160, 0, 35, 43, 42]
abbrev dktX13_is_1 : List UInt8 := dkwX13_is_1 ++ dktX13_is_2
def dkwX13_is_0 : List UInt8 := [42, 180, 0, 9, 4, 160, 0, 32, 43, 180, 0, 27, 42, 180, 0, 18, 50, 182, 0, 33, 42, 180, 0, 15]
abbrev dktX13_is_0 : List UInt8 := dkwX13_is_0 ++ dktX13_is_1
theorem dksX13_is_0 : cX13_is.data.toList.drop 0 = dktX13_is_0 := by decide +kernel
theorem dksX13_is_1 : cX13_is.data.toList.drop 24 = dktX13_is_1 := dk_seg dksX13_is_0 24 rfl rfl
theorem dksX13_is_2 : cX13_is.data.toList.drop 47 = dktX13_is_2 := dk_seg dksX13_is_1 23 rfl rfl
theorem dksX13_is_3 : cX13_is.data.toList.drop 71 = dktX13_is_3 := dk_seg dksX13_is_2 24 rfl rfl
theorem dksX13_is_4 : cX13_is.data.toList.drop 95 = dktX13_is_4 := dk_seg dksX13_is_3 24 rfl rfl
theorem dksX13_is_5 : cX13_is.data.toList.drop 117 = dktX13_is_5 := dk_seg dksX13_is_4 22 rfl rfl
theorem dksX13_is_6 : cX13_is.data.toList.drop 141 = dktX13_is_6 := dk_seg dksX13_is_5 24 rfl rfl
theorem dX13_is_0 : decode cX13_is 0 = .ok (.aload_n 0, 1) := dk_42 (dk_at dksX13_is_0 0 rfl rfl)
theorem dX13_is_1 : decode cX13_is 1 = .ok (.getfield 9, 3) := dk_180 0 9 (dk_at dksX13_is_0 1 rfl rfl)
theorem dX13_is_4 : decode cX13_is 4 = .ok (.iconst 1, 1) := dk_4 (dk_at dksX13_is_0 4 rfl rfl)
theorem dX13_is_5 : decode cX13_is 5 = .ok (.if_icmp .ne 32, 3) := dk_160 0 32 (dk_at dksX13_is_0 5 rfl rfl)
theorem dX13_is_8 : decode cX13_is 8 = .ok (.aload_n 1, 1) := dk_43 (dk_at dksX13_is_0 8 rfl rfl)
theorem dX13_is_9 : decode cX13_is 9 = .ok (.getfield 27, 3) := dk_180 0 27 (dk_at dksX13_is_0 9 rfl rfl)
theorem dX13_is_12 : decode cX13_is 12 = .ok (.aload_n 0, 1) := dk_42 (dk_at dksX13_is_0 12 rfl rfl)
theorem dX13_is_13 : decode cX13_is 13 = .ok (.getfield 18, 3) := dk_180 0 18 (dk_at dksX13_is_0 13 rfl rfl)
theorem dX13_is_16 : decode cX13_is 16 = .ok (.aaload, 1) := dk_50 (dk_at dksX13_is_0 16 rfl rfl)
theorem dX13_is_17 : decode cX13_is 17 = .ok (.invokevirtual 33, 3) := dk_182 0 33 (dk_at dksX13_is_0 17 rfl rfl)
theorem dX13_is_20 : decode cX13_is 20 = .ok (.aload_n 0, 1) := dk_42 (dk_at dksX13_is_0 20 rfl rfl)
theorem dX13_is_21 : decode cX13_is 21 = .ok (.getfield 15, 3) := dk_180 0 15 (dk_at dksX13_is_0 21 rfl rfl)
theorem dX13_is_24 : decode cX13_is 24 = .ok (.ishr, 1) := dk_122 (dk_at dksX13_is_1 0 rfl rfl)
theorem dX13_is_25 : decode cX13_is 25 = .ok (.iconst 1, 1) := dk_4 (dk_at dksX13_is_1 1 rfl rfl)
theorem dX13_is_26 : decode cX13_is 26 = .ok (.iand, 1) := dk_126 (dk_at dksX13_is_1 2 rfl rfl)
theorem dX13_is_27 : decode cX13_is 27 = .ok (.iconst 1, 1) := dk_4 (dk_at dksX13_is_1 3 rfl rfl)
theorem dX13_is_28 : decode cX13_is 28 = .ok (.if_icmp .ne 7, 3) := dk_160 0 7 (dk_at dksX13_is_1 4 rfl rfl)
theorem dX13_is_31 : decode cX13_is 31 = .ok (.iconst 1, 1) := dk_4 (dk_at dksX13_is_1 7 rfl rfl)
theorem dX13_is_32 : decode cX13_is 32 = .ok (.goto 4, 3) := dk_167 0 4 (dk_at dksX13_is_1 8 rfl rfl)
theorem dX13_is_35 : decode cX13_is 35 = .ok (.iconst 0, 1) := dk_3 (dk_at dksX13_is_1 11 rfl rfl)
theorem dX13_is_36 : decode cX13_is 36 = .ok (.ireturn, 1) := dk_172 (dk_at dksX13_is_1 12 rfl rfl)
theorem dX13_is_37 : decode cX13_is 37 = .ok (.aload_n 0, 1) := dk_42 (dk_at dksX13_is_1 13 rfl rfl)
theorem dX13_is_38 : decode cX13_is 38 = .ok (.getfield 9, 3) := dk_180 0 9 (dk_at dksX13_is_1 14 rfl rfl)
theorem dX13_is_41 : decode cX13_is 41 = .ok (.iconst 2, 1) := dk_5 (dk_at dksX13_is_1 17 rfl rfl)
theorem dX13_is_42 : decode cX13_is 42 = .ok (.if_icmp .ne 35, 3) := dk_160 0 35 (dk_at dksX13_is_1 18 rfl rfl)
theorem dX13_is_45 : decode cX13_is 45 = .ok (.aload_n 1, 1) := dk_43 (dk_at dksX13_is_1 21 rfl rfl)
theorem dX13_is_46 : decode cX13_is 46 = .ok (.aload_n 0, 1) := dk_42 (dk_at dksX13_is_1 22 rfl rfl)
theorem dX13_is_47 : decode cX13_is 47 = .ok (.getfield 18, 3) := dk_180 0 18 (dk_at dksX13_is_2 0 rfl rfl)
theorem dX13_is_50 : decode cX13_is 50 = .ok (.invokevirtual 39, 3) := dk_182 0 39 (dk_at dksX13_is_2 3 rfl rfl)
theorem dX13_is_53 : decode cX13_is 53 = .ok (.ifCond .eq 22, 3) := dk_153 0 22 (dk_at dksX13_is_2 6 rfl rfl)
theorem dX13_is_56 : decode cX13_is 56 = .ok (.aload_n 1, 1) := dk_43 (dk_at dksX13_is_2 9 rfl rfl)
theorem dX13_is_57 : decode cX13_is 57 = .ok (.getfield 27, 3) := dk_180 0 27 (dk_at dksX13_is_2 10 rfl rfl)
theorem dX13_is_60 : decode cX13_is 60 = .ok (.aload_n 0, 1) := dk_42 (dk_at dksX13_is_2 13 rfl rfl)
theorem dX13_is_61 : decode cX13_is 61 = .ok (.getfield 18, 3) := dk_180 0 18 (dk_at dksX13_is_2 14 rfl rfl)
theorem dX13_is_64 : decode cX13_is 64 = .ok (.aaload, 1) := dk_50 (dk_at dksX13_is_2 17 rfl rfl)
theorem dX13_is_65 : decode cX13_is 65 = .ok (.getfield 43, 3) := dk_180 0 43 (dk_at dksX13_is_2 18 rfl rfl)
theorem dX13_is_68 : decode cX13_is 68 = .ok (.ifCond .ne 7, 3) := dk_154 0 7 (dk_at dksX13_is_2 21 rfl rfl)
theorem dX13_is_71 : decode cX13_is 71 = .ok (.iconst 1, 1) := dk_4 (dk_at dksX13_is_3 0 rfl rfl)
theorem dX13_is_72 : decode cX13_is 72 = .ok (.goto 4, 3) := dk_167 0 4 (dk_at dksX13_is_3 1 rfl rfl)
theorem dX13_is_75 : decode cX13_is 75 = .ok (.iconst 0, 1) := dk_3 (dk_at dksX13_is_3 4 rfl rfl)
theorem dX13_is_76 : decode cX13_is 76 = .ok (.ireturn, 1) := dk_172 (dk_at dksX13_is_3 5 rfl rfl)
theorem dX13_is_77 : decode cX13_is 77 = .ok (.aload_n 1, 1) := dk_43 (dk_at dksX13_is_3 6 rfl rfl)
theorem dX13_is_78 : decode cX13_is 78 = .ok (.aload_n 0, 1) := dk_42 (dk_at dksX13_is_3 7 rfl rfl)
theorem dX13_is_79 : decode cX13_is 79 = .ok (.getfield 15, 3) := dk_180 0 15 (dk_at dksX13_is_3 8 rfl rfl)
theorem dX13_is_82 : decode cX13_is 82 = .ok (.invokevirtual 46, 3) := dk_182 0 46 (dk_at dksX13_is_3 11 rfl rfl)
theorem dX13_is_85 : decode cX13_is 85 = .ok (.istore_n 2, 1) := dk_61 (dk_at dksX13_is_3 14 rfl rfl)
theorem dX13_is_86 : decode cX13_is 86 = .ok (.aload_n 0, 1) := dk_42 (dk_at dksX13_is_3 15 rfl rfl)
theorem dX13_is_87 : decode cX13_is 87 = .ok (.getfield 21, 3) := dk_180 0 21 (dk_at dksX13_is_3 16 rfl rfl)
theorem dX13_is_90 : decode cX13_is 90 = .ok (.bipush 60, 2) := dk_16 60 (dk_at dksX13_is_3 19 rfl rfl)
theorem dX13_is_92 : decode cX13_is 92 = .ok (.if_icmp .ne 19, 3) := dk_160 0 19 (dk_at dksX13_is_3 21 rfl rfl)
theorem dX13_is_95 : decode cX13_is 95 = .ok (.iload_n 2, 1) := dk_28 (dk_at dksX13_is_4 0 rfl rfl)
theorem dX13_is_96 : decode cX13_is 96 = .ok (.aload_n 0, 1) := dk_42 (dk_at dksX13_is_4 1 rfl rfl)
theorem dX13_is_97 : decode cX13_is 97 = .ok (.getfield 24, 3) := dk_180 0 24 (dk_at dksX13_is_4 2 rfl rfl)
theorem dX13_is_100 : decode cX13_is 100 = .ok (.if_icmp .ge 7, 3) := dk_162 0 7 (dk_at dksX13_is_4 5 rfl rfl)
theorem dX13_is_103 : decode cX13_is 103 = .ok (.iconst 1, 1) := dk_4 (dk_at dksX13_is_4 8 rfl rfl)
theorem dX13_is_104 : decode cX13_is 104 = .ok (.goto 45, 3) := dk_167 0 45 (dk_at dksX13_is_4 9 rfl rfl)
theorem dX13_is_107 : decode cX13_is 107 = .ok (.iconst 0, 1) := dk_3 (dk_at dksX13_is_4 12 rfl rfl)
theorem dX13_is_108 : decode cX13_is 108 = .ok (.goto 41, 3) := dk_167 0 41 (dk_at dksX13_is_4 13 rfl rfl)
theorem dX13_is_111 : decode cX13_is 111 = .ok (.aload_n 0, 1) := dk_42 (dk_at dksX13_is_4 16 rfl rfl)
theorem dX13_is_112 : decode cX13_is 112 = .ok (.getfield 21, 3) := dk_180 0 21 (dk_at dksX13_is_4 17 rfl rfl)
theorem dX13_is_115 : decode cX13_is 115 = .ok (.bipush 62, 2) := dk_16 62 (dk_at dksX13_is_4 20 rfl rfl)
theorem dX13_is_117 : decode cX13_is 117 = .ok (.if_icmp .ne 19, 3) := dk_160 0 19 (dk_at dksX13_is_5 0 rfl rfl)
theorem dX13_is_120 : decode cX13_is 120 = .ok (.iload_n 2, 1) := dk_28 (dk_at dksX13_is_5 3 rfl rfl)
theorem dX13_is_121 : decode cX13_is 121 = .ok (.aload_n 0, 1) := dk_42 (dk_at dksX13_is_5 4 rfl rfl)
theorem dX13_is_122 : decode cX13_is 122 = .ok (.getfield 24, 3) := dk_180 0 24 (dk_at dksX13_is_5 5 rfl rfl)
theorem dX13_is_125 : decode cX13_is 125 = .ok (.if_icmp .le 7, 3) := dk_164 0 7 (dk_at dksX13_is_5 8 rfl rfl)
theorem dX13_is_128 : decode cX13_is 128 = .ok (.iconst 1, 1) := dk_4 (dk_at dksX13_is_5 11 rfl rfl)
theorem dX13_is_129 : decode cX13_is 129 = .ok (.goto 20, 3) := dk_167 0 20 (dk_at dksX13_is_5 12 rfl rfl)
theorem dX13_is_132 : decode cX13_is 132 = .ok (.iconst 0, 1) := dk_3 (dk_at dksX13_is_5 15 rfl rfl)
theorem dX13_is_133 : decode cX13_is 133 = .ok (.goto 16, 3) := dk_167 0 16 (dk_at dksX13_is_5 16 rfl rfl)
theorem dX13_is_136 : decode cX13_is 136 = .ok (.iload_n 2, 1) := dk_28 (dk_at dksX13_is_5 19 rfl rfl)
theorem dX13_is_137 : decode cX13_is 137 = .ok (.aload_n 0, 1) := dk_42 (dk_at dksX13_is_5 20 rfl rfl)
theorem dX13_is_138 : decode cX13_is 138 = .ok (.getfield 24, 3) := dk_180 0 24 (dk_at dksX13_is_5 21 rfl rfl)
theorem dX13_is_141 : decode cX13_is 141 = .ok (.if_icmp .ne 7, 3) := dk_160 0 7 (dk_at dksX13_is_6 0 rfl rfl)
theorem dX13_is_144 : decode cX13_is 144 = .ok (.iconst 1, 1) := dk_4 (dk_at dksX13_is_6 3 rfl rfl)
theorem dX13_is_145 : decode cX13_is 145 = .ok (.goto 4, 3) := dk_167 0 4 (dk_at dksX13_is_6 4 rfl rfl)
theorem dX13_is_148 : decode cX13_is 148 = .ok (.iconst 0, 1) := dk_3 (dk_at dksX13_is_6 7 rfl rfl)
theorem dX13_is_149 : decode cX13_is 149 = .ok (.ireturn, 1) := dk_172 (dk_at dksX13_is_6 8 rfl rfl)
abbrev cX14_init : ByteArray := prog_2_method_1_code
def yX14_init : MethodName := ⟨RX14, "<init>", "(III)V"⟩
def dkwX14_init_0 : List UInt8 := [42, 183, 0, 3, 42, 27, 181, 0, 9, 42, 28, 181, 0, 15, 42, 29, 181, 0, 18, 177]
abbrev dktX14_init_0 : List UInt8 := dkwX14_init_0 ++ []
theorem dksX14_init_0 : cX14_init.data.toList.drop 0 = dktX14_init_0 := by decide +kernel
theorem dX14_init_0 : decode cX14_init 0 = .ok (.aload_n 0, 1) := dk_42 (dk_at dksX14_init_0 0 rfl rfl)
theorem dX14_init_1 : decode cX14_init 1 = .ok (.invokespecial 3, 3) := dk_183 0 3 (dk_at dksX14_init_0 1 rfl rfl)
theorem dX14_init_4 : decode cX14_init 4 = .ok (.aload_n 0, 1) := dk_42 (dk_at dksX14_init_0 4 rfl rfl)
theorem dX14_init_5 : decode cX14_init 5 = .ok (.iload_n 1, 1) := dk_27 (dk_at dksX14_init_0 5 rfl rfl)
theorem dX14_init_6 : decode cX14_init 6 = .ok (.putfield 9, 3) := dk_181 0 9 (dk_at dksX14_init_0 6 rfl rfl)
theorem dX14_init_9 : decode cX14_init 9 = .ok (.aload_n 0, 1) := dk_42 (dk_at dksX14_init_0 9 rfl rfl)
theorem dX14_init_10 : decode cX14_init 10 = .ok (.iload_n 2, 1) := dk_28 (dk_at dksX14_init_0 10 rfl rfl)
theorem dX14_init_11 : decode cX14_init 11 = .ok (.putfield 15, 3) := dk_181 0 15 (dk_at dksX14_init_0 11 rfl rfl)
theorem dX14_init_14 : decode cX14_init 14 = .ok (.aload_n 0, 1) := dk_42 (dk_at dksX14_init_0 14 rfl rfl)
theorem dX14_init_15 : decode cX14_init 15 = .ok (.iload_n 3, 1) := dk_29 (dk_at dksX14_init_0 15 rfl rfl)
theorem dX14_init_16 : decode cX14_init 16 = .ok (.putfield 18, 3) := dk_181 0 18 (dk_at dksX14_init_0 16 rfl rfl)
theorem dX14_init_19 : decode cX14_init 19 = .ok (.return_, 1) := dk_177 (dk_at dksX14_init_0 19 rfl rfl)
abbrev cX14_does : ByteArray := prog_2_method_4_code
def yX14_does : MethodName := ⟨RX14, "does", "(LLastPebble$Living;)V"⟩
def dkwX14_does_0 : List UInt8 := [42, 43, 182, 0, 113, 154, 0, 13, 43, 89, 180, 0, 117, 4, 96, 181, 0, 117, 177]
abbrev dktX14_does_0 : List UInt8 := dkwX14_does_0 ++ []
theorem dksX14_does_0 : cX14_does.data.toList.drop 0 = dktX14_does_0 := by decide +kernel
theorem dX14_does_0 : decode cX14_does 0 = .ok (.aload_n 0, 1) := dk_42 (dk_at dksX14_does_0 0 rfl rfl)
theorem dX14_does_1 : decode cX14_does 1 = .ok (.aload_n 1, 1) := dk_43 (dk_at dksX14_does_0 1 rfl rfl)
theorem dX14_does_2 : decode cX14_does 2 = .ok (.invokevirtual 113, 3) := dk_182 0 113 (dk_at dksX14_does_0 2 rfl rfl)
theorem dX14_does_5 : decode cX14_does 5 = .ok (.ifCond .ne 13, 3) := dk_154 0 13 (dk_at dksX14_does_0 5 rfl rfl)
theorem dX14_does_8 : decode cX14_does 8 = .ok (.aload_n 1, 1) := dk_43 (dk_at dksX14_does_0 8 rfl rfl)
theorem dX14_does_9 : decode cX14_does 9 = .ok (.dup, 1) := dk_89 (dk_at dksX14_does_0 9 rfl rfl)
theorem dX14_does_10 : decode cX14_does 10 = .ok (.getfield 117, 3) := dk_180 0 117 (dk_at dksX14_does_0 10 rfl rfl)
theorem dX14_does_13 : decode cX14_does 13 = .ok (.iconst 1, 1) := dk_4 (dk_at dksX14_does_0 13 rfl rfl)
theorem dX14_does_14 : decode cX14_does 14 = .ok (.iadd, 1) := dk_96 (dk_at dksX14_does_0 14 rfl rfl)
theorem dX14_does_15 : decode cX14_does 15 = .ok (.putfield 117, 3) := dk_181 0 117 (dk_at dksX14_does_0 15 rfl rfl)
theorem dX14_does_18 : decode cX14_does 18 = .ok (.return_, 1) := dk_177 (dk_at dksX14_does_0 18 rfl rfl)
abbrev cX14_can : ByteArray := prog_2_method_2_code
def yX14_can : MethodName := ⟨RX14, "can", "(LLastPebble$Living;)Z"⟩
def dkwX14_can_10 : List UInt8 := [180, 0, 86, 4, 96, 181, 0, 86, 4, 172, 43, 4, 181, 0, 89, 4, 172]
abbrev dktX14_can_10 : List UInt8 := dkwX14_can_10 ++ []
def dkwX14_can_9 : List UInt8 := [159, 0, 10, 44, 180, 0, 77, 154, 0, 5, 3, 172, 44, 182, 0, 80, 44, 182, 0, 83, 43, 89]
abbrev dktX14_can_9 : List UInt8 := dkwX14_can_9 ++ dktX14_can_10
def dkwX14_can_8 : List UInt8 := [180, 0, 69, 44, 42, 180, 0, 18, 182, 0, 72, 96, 181, 0, 69, 4, 172, 44, 180, 0, 75, 16, 99]
abbrev dktX14_can_8 : List UInt8 := dkwX14_can_8 ++ dktX14_can_9
def dkwX14_can_7 : List UInt8 := [180, 0, 15, 42, 180, 0, 18, 182, 0, 61, 87, 4, 172, 42, 43, 44, 182, 0, 65, 4, 172, 43, 89]
abbrev dktX14_can_7 : List UInt8 := dkwX14_can_7 ++ dktX14_can_8
def dkwX14_can_6 : List UInt8 := [180, 0, 51, 42, 180, 0, 18, 50, 42, 180, 0, 15, 182, 0, 55, 156, 0, 5, 3, 172, 44, 42]
abbrev dktX14_can_6 : List UInt8 := dkwX14_can_6 ++ dktX14_can_7
def dkwX14_can_5 : List UInt8 := [180, 0, 18, 182, 0, 47, 4, 172, 44, 42, 180, 0, 15, 42, 180, 0, 18, 182, 0, 36, 153, 0, 22, 44]
abbrev dktX14_can_5 : List UInt8 := dkwX14_can_5 ++ dktX14_can_6
def dkwX14_can_4 : List UInt8 := [180, 0, 15, 46, 153, 0, 12, 44, 182, 0, 43, 16, 60, 160, 0, 5, 3, 172, 44, 42, 180, 0, 15, 42]
abbrev dktX14_can_4 : List UInt8 := dkwX14_can_4 ++ dktX14_can_5
def dkwX14_can_3 : List UInt8 := [182, 0, 33, 172, 44, 42, 180, 0, 15, 42, 180, 0, 18, 182, 0, 36, 153, 0, 24, 44, 180, 0, 39, 42]
abbrev dktX14_can_3 : List UInt8 := dkwX14_can_3 ++ dktX14_can_4
def dkwX14_can_2 : List UInt8 := [44, 42, 180, 0, 15, 42, 180, 0, 18, 182, 0, 27, 172, 44, 42, 180, 0, 15, 42, 180, 0, 18]
abbrev dktX14_can_2 : List UInt8 := dkwX14_can_2 ++ dktX14_can_3
def dkwX14_can_1 : List UInt8 := [170, 0, 0, 0, 0, 0, 237, 0, 0, 0, 0, 0, 0, 0, 6, 0, 0, 0, 43, 0, 0, 0, 69, 0, 0, 0, 56, 0, 0, 0, 121, 0, 0, 0, 172, 0, 0, 0, 180, 0, 0, 0, 199]
abbrev dktX14_can_1 : List UInt8 := dkwX14_can_1 ++ dktX14_can_2
def dkwX14_can_0 : List UInt8 := [43, 180, 0, 21, 77, 42, 180, 0, 9]
abbrev dktX14_can_0 : List UInt8 := dkwX14_can_0 ++ dktX14_can_1
theorem dksX14_can_0 : cX14_can.data.toList.drop 0 = dktX14_can_0 := by decide +kernel
theorem dksX14_can_1 : cX14_can.data.toList.drop 9 = dktX14_can_1 := dk_seg dksX14_can_0 9 rfl rfl
theorem dksX14_can_2 : cX14_can.data.toList.drop 52 = dktX14_can_2 := dk_seg dksX14_can_1 43 rfl rfl
theorem dksX14_can_3 : cX14_can.data.toList.drop 74 = dktX14_can_3 := dk_seg dksX14_can_2 22 rfl rfl
theorem dksX14_can_4 : cX14_can.data.toList.drop 98 = dktX14_can_4 := dk_seg dksX14_can_3 24 rfl rfl
theorem dksX14_can_5 : cX14_can.data.toList.drop 122 = dktX14_can_5 := dk_seg dksX14_can_4 24 rfl rfl
theorem dksX14_can_6 : cX14_can.data.toList.drop 146 = dktX14_can_6 := dk_seg dksX14_can_5 24 rfl rfl
theorem dksX14_can_7 : cX14_can.data.toList.drop 168 = dktX14_can_7 := dk_seg dksX14_can_6 22 rfl rfl
theorem dksX14_can_8 : cX14_can.data.toList.drop 191 = dktX14_can_8 := dk_seg dksX14_can_7 23 rfl rfl
theorem dksX14_can_9 : cX14_can.data.toList.drop 214 = dktX14_can_9 := dk_seg dksX14_can_8 23 rfl rfl
theorem dksX14_can_10 : cX14_can.data.toList.drop 236 = dktX14_can_10 := dk_seg dksX14_can_9 22 rfl rfl
theorem dX14_can_0 : decode cX14_can 0 = .ok (.aload_n 1, 1) := dk_43 (dk_at dksX14_can_0 0 rfl rfl)
theorem dX14_can_1 : decode cX14_can 1 = .ok (.getfield 21, 3) := dk_180 0 21 (dk_at dksX14_can_0 1 rfl rfl)
theorem dX14_can_4 : decode cX14_can 4 = .ok (.astore_n 2, 1) := dk_77 (dk_at dksX14_can_0 4 rfl rfl)
theorem dX14_can_5 : decode cX14_can 5 = .ok (.aload_n 0, 1) := dk_42 (dk_at dksX14_can_0 5 rfl rfl)
theorem dX14_can_6 : decode cX14_can 6 = .ok (.getfield 9, 3) := dk_180 0 9 (dk_at dksX14_can_0 6 rfl rfl)
theorem dX14_can_9 : decode cX14_can 9 = .ok (.tableswitch 237 0 6 #[43, 69, 56, 121, 172, 180, 199], 43) := by decide +kernel
theorem dX14_can_52 : decode cX14_can 52 = .ok (.aload_n 2, 1) := dk_44 (dk_at dksX14_can_2 0 rfl rfl)
theorem dX14_can_53 : decode cX14_can 53 = .ok (.aload_n 0, 1) := dk_42 (dk_at dksX14_can_2 1 rfl rfl)
theorem dX14_can_54 : decode cX14_can 54 = .ok (.getfield 15, 3) := dk_180 0 15 (dk_at dksX14_can_2 2 rfl rfl)
theorem dX14_can_57 : decode cX14_can 57 = .ok (.aload_n 0, 1) := dk_42 (dk_at dksX14_can_2 5 rfl rfl)
theorem dX14_can_58 : decode cX14_can 58 = .ok (.getfield 18, 3) := dk_180 0 18 (dk_at dksX14_can_2 6 rfl rfl)
theorem dX14_can_61 : decode cX14_can 61 = .ok (.invokevirtual 27, 3) := dk_182 0 27 (dk_at dksX14_can_2 9 rfl rfl)
theorem dX14_can_64 : decode cX14_can 64 = .ok (.ireturn, 1) := dk_172 (dk_at dksX14_can_2 12 rfl rfl)
theorem dX14_can_65 : decode cX14_can 65 = .ok (.aload_n 2, 1) := dk_44 (dk_at dksX14_can_2 13 rfl rfl)
theorem dX14_can_66 : decode cX14_can 66 = .ok (.aload_n 0, 1) := dk_42 (dk_at dksX14_can_2 14 rfl rfl)
theorem dX14_can_67 : decode cX14_can 67 = .ok (.getfield 15, 3) := dk_180 0 15 (dk_at dksX14_can_2 15 rfl rfl)
theorem dX14_can_70 : decode cX14_can 70 = .ok (.aload_n 0, 1) := dk_42 (dk_at dksX14_can_2 18 rfl rfl)
theorem dX14_can_71 : decode cX14_can 71 = .ok (.getfield 18, 3) := dk_180 0 18 (dk_at dksX14_can_2 19 rfl rfl)
theorem dX14_can_74 : decode cX14_can 74 = .ok (.invokevirtual 33, 3) := dk_182 0 33 (dk_at dksX14_can_3 0 rfl rfl)
theorem dX14_can_77 : decode cX14_can 77 = .ok (.ireturn, 1) := dk_172 (dk_at dksX14_can_3 3 rfl rfl)
theorem dX14_can_78 : decode cX14_can 78 = .ok (.aload_n 2, 1) := dk_44 (dk_at dksX14_can_3 4 rfl rfl)
theorem dX14_can_79 : decode cX14_can 79 = .ok (.aload_n 0, 1) := dk_42 (dk_at dksX14_can_3 5 rfl rfl)
theorem dX14_can_80 : decode cX14_can 80 = .ok (.getfield 15, 3) := dk_180 0 15 (dk_at dksX14_can_3 6 rfl rfl)
theorem dX14_can_83 : decode cX14_can 83 = .ok (.aload_n 0, 1) := dk_42 (dk_at dksX14_can_3 9 rfl rfl)
theorem dX14_can_84 : decode cX14_can 84 = .ok (.getfield 18, 3) := dk_180 0 18 (dk_at dksX14_can_3 10 rfl rfl)
theorem dX14_can_87 : decode cX14_can 87 = .ok (.invokevirtual 36, 3) := dk_182 0 36 (dk_at dksX14_can_3 13 rfl rfl)
theorem dX14_can_90 : decode cX14_can 90 = .ok (.ifCond .eq 24, 3) := dk_153 0 24 (dk_at dksX14_can_3 16 rfl rfl)
theorem dX14_can_93 : decode cX14_can 93 = .ok (.aload_n 2, 1) := dk_44 (dk_at dksX14_can_3 19 rfl rfl)
theorem dX14_can_94 : decode cX14_can 94 = .ok (.getfield 39, 3) := dk_180 0 39 (dk_at dksX14_can_3 20 rfl rfl)
theorem dX14_can_97 : decode cX14_can 97 = .ok (.aload_n 0, 1) := dk_42 (dk_at dksX14_can_3 23 rfl rfl)
theorem dX14_can_98 : decode cX14_can 98 = .ok (.getfield 15, 3) := dk_180 0 15 (dk_at dksX14_can_4 0 rfl rfl)
theorem dX14_can_101 : decode cX14_can 101 = .ok (.iaload, 1) := dk_46 (dk_at dksX14_can_4 3 rfl rfl)
theorem dX14_can_102 : decode cX14_can 102 = .ok (.ifCond .eq 12, 3) := dk_153 0 12 (dk_at dksX14_can_4 4 rfl rfl)
theorem dX14_can_105 : decode cX14_can 105 = .ok (.aload_n 2, 1) := dk_44 (dk_at dksX14_can_4 7 rfl rfl)
theorem dX14_can_106 : decode cX14_can 106 = .ok (.invokevirtual 43, 3) := dk_182 0 43 (dk_at dksX14_can_4 8 rfl rfl)
theorem dX14_can_109 : decode cX14_can 109 = .ok (.bipush 60, 2) := dk_16 60 (dk_at dksX14_can_4 11 rfl rfl)
theorem dX14_can_111 : decode cX14_can 111 = .ok (.if_icmp .ne 5, 3) := dk_160 0 5 (dk_at dksX14_can_4 13 rfl rfl)
theorem dX14_can_114 : decode cX14_can 114 = .ok (.iconst 0, 1) := dk_3 (dk_at dksX14_can_4 16 rfl rfl)
theorem dX14_can_115 : decode cX14_can 115 = .ok (.ireturn, 1) := dk_172 (dk_at dksX14_can_4 17 rfl rfl)
theorem dX14_can_116 : decode cX14_can 116 = .ok (.aload_n 2, 1) := dk_44 (dk_at dksX14_can_4 18 rfl rfl)
theorem dX14_can_117 : decode cX14_can 117 = .ok (.aload_n 0, 1) := dk_42 (dk_at dksX14_can_4 19 rfl rfl)
theorem dX14_can_118 : decode cX14_can 118 = .ok (.getfield 15, 3) := dk_180 0 15 (dk_at dksX14_can_4 20 rfl rfl)
theorem dX14_can_121 : decode cX14_can 121 = .ok (.aload_n 0, 1) := dk_42 (dk_at dksX14_can_4 23 rfl rfl)
theorem dX14_can_122 : decode cX14_can 122 = .ok (.getfield 18, 3) := dk_180 0 18 (dk_at dksX14_can_5 0 rfl rfl)
theorem dX14_can_125 : decode cX14_can 125 = .ok (.invokevirtual 47, 3) := dk_182 0 47 (dk_at dksX14_can_5 3 rfl rfl)
theorem dX14_can_128 : decode cX14_can 128 = .ok (.iconst 1, 1) := dk_4 (dk_at dksX14_can_5 6 rfl rfl)
theorem dX14_can_129 : decode cX14_can 129 = .ok (.ireturn, 1) := dk_172 (dk_at dksX14_can_5 7 rfl rfl)
theorem dX14_can_130 : decode cX14_can 130 = .ok (.aload_n 2, 1) := dk_44 (dk_at dksX14_can_5 8 rfl rfl)
theorem dX14_can_131 : decode cX14_can 131 = .ok (.aload_n 0, 1) := dk_42 (dk_at dksX14_can_5 9 rfl rfl)
theorem dX14_can_132 : decode cX14_can 132 = .ok (.getfield 15, 3) := dk_180 0 15 (dk_at dksX14_can_5 10 rfl rfl)
theorem dX14_can_135 : decode cX14_can 135 = .ok (.aload_n 0, 1) := dk_42 (dk_at dksX14_can_5 13 rfl rfl)
theorem dX14_can_136 : decode cX14_can 136 = .ok (.getfield 18, 3) := dk_180 0 18 (dk_at dksX14_can_5 14 rfl rfl)
theorem dX14_can_139 : decode cX14_can 139 = .ok (.invokevirtual 36, 3) := dk_182 0 36 (dk_at dksX14_can_5 17 rfl rfl)
theorem dX14_can_142 : decode cX14_can 142 = .ok (.ifCond .eq 22, 3) := dk_153 0 22 (dk_at dksX14_can_5 20 rfl rfl)
theorem dX14_can_145 : decode cX14_can 145 = .ok (.aload_n 2, 1) := dk_44 (dk_at dksX14_can_5 23 rfl rfl)
theorem dX14_can_146 : decode cX14_can 146 = .ok (.getfield 51, 3) := dk_180 0 51 (dk_at dksX14_can_6 0 rfl rfl)
theorem dX14_can_149 : decode cX14_can 149 = .ok (.aload_n 0, 1) := dk_42 (dk_at dksX14_can_6 3 rfl rfl)
theorem dX14_can_150 : decode cX14_can 150 = .ok (.getfield 18, 3) := dk_180 0 18 (dk_at dksX14_can_6 4 rfl rfl)
theorem dX14_can_153 : decode cX14_can 153 = .ok (.aaload, 1) := dk_50 (dk_at dksX14_can_6 7 rfl rfl)
theorem dX14_can_154 : decode cX14_can 154 = .ok (.aload_n 0, 1) := dk_42 (dk_at dksX14_can_6 8 rfl rfl)
theorem dX14_can_155 : decode cX14_can 155 = .ok (.getfield 15, 3) := dk_180 0 15 (dk_at dksX14_can_6 9 rfl rfl)
theorem dX14_can_158 : decode cX14_can 158 = .ok (.invokevirtual 55, 3) := dk_182 0 55 (dk_at dksX14_can_6 12 rfl rfl)
theorem dX14_can_161 : decode cX14_can 161 = .ok (.ifCond .ge 5, 3) := dk_156 0 5 (dk_at dksX14_can_6 15 rfl rfl)
theorem dX14_can_164 : decode cX14_can 164 = .ok (.iconst 0, 1) := dk_3 (dk_at dksX14_can_6 18 rfl rfl)
theorem dX14_can_165 : decode cX14_can 165 = .ok (.ireturn, 1) := dk_172 (dk_at dksX14_can_6 19 rfl rfl)
theorem dX14_can_166 : decode cX14_can 166 = .ok (.aload_n 2, 1) := dk_44 (dk_at dksX14_can_6 20 rfl rfl)
theorem dX14_can_167 : decode cX14_can 167 = .ok (.aload_n 0, 1) := dk_42 (dk_at dksX14_can_6 21 rfl rfl)
theorem dX14_can_168 : decode cX14_can 168 = .ok (.getfield 15, 3) := dk_180 0 15 (dk_at dksX14_can_7 0 rfl rfl)
theorem dX14_can_171 : decode cX14_can 171 = .ok (.aload_n 0, 1) := dk_42 (dk_at dksX14_can_7 3 rfl rfl)
theorem dX14_can_172 : decode cX14_can 172 = .ok (.getfield 18, 3) := dk_180 0 18 (dk_at dksX14_can_7 4 rfl rfl)
theorem dX14_can_175 : decode cX14_can 175 = .ok (.invokevirtual 61, 3) := dk_182 0 61 (dk_at dksX14_can_7 7 rfl rfl)
theorem dX14_can_178 : decode cX14_can 178 = .ok (.pop, 1) := dk_87 (dk_at dksX14_can_7 10 rfl rfl)
theorem dX14_can_179 : decode cX14_can 179 = .ok (.iconst 1, 1) := dk_4 (dk_at dksX14_can_7 11 rfl rfl)
theorem dX14_can_180 : decode cX14_can 180 = .ok (.ireturn, 1) := dk_172 (dk_at dksX14_can_7 12 rfl rfl)
theorem dX14_can_181 : decode cX14_can 181 = .ok (.aload_n 0, 1) := dk_42 (dk_at dksX14_can_7 13 rfl rfl)
theorem dX14_can_182 : decode cX14_can 182 = .ok (.aload_n 1, 1) := dk_43 (dk_at dksX14_can_7 14 rfl rfl)
theorem dX14_can_183 : decode cX14_can 183 = .ok (.aload_n 2, 1) := dk_44 (dk_at dksX14_can_7 15 rfl rfl)
theorem dX14_can_184 : decode cX14_can 184 = .ok (.invokevirtual 65, 3) := dk_182 0 65 (dk_at dksX14_can_7 16 rfl rfl)
theorem dX14_can_187 : decode cX14_can 187 = .ok (.iconst 1, 1) := dk_4 (dk_at dksX14_can_7 19 rfl rfl)
theorem dX14_can_188 : decode cX14_can 188 = .ok (.ireturn, 1) := dk_172 (dk_at dksX14_can_7 20 rfl rfl)
theorem dX14_can_189 : decode cX14_can 189 = .ok (.aload_n 1, 1) := dk_43 (dk_at dksX14_can_7 21 rfl rfl)
theorem dX14_can_190 : decode cX14_can 190 = .ok (.dup, 1) := dk_89 (dk_at dksX14_can_7 22 rfl rfl)
theorem dX14_can_191 : decode cX14_can 191 = .ok (.getfield 69, 3) := dk_180 0 69 (dk_at dksX14_can_8 0 rfl rfl)
theorem dX14_can_194 : decode cX14_can 194 = .ok (.aload_n 2, 1) := dk_44 (dk_at dksX14_can_8 3 rfl rfl)
theorem dX14_can_195 : decode cX14_can 195 = .ok (.aload_n 0, 1) := dk_42 (dk_at dksX14_can_8 4 rfl rfl)
theorem dX14_can_196 : decode cX14_can 196 = .ok (.getfield 18, 3) := dk_180 0 18 (dk_at dksX14_can_8 5 rfl rfl)
theorem dX14_can_199 : decode cX14_can 199 = .ok (.invokevirtual 72, 3) := dk_182 0 72 (dk_at dksX14_can_8 8 rfl rfl)
theorem dX14_can_202 : decode cX14_can 202 = .ok (.iadd, 1) := dk_96 (dk_at dksX14_can_8 11 rfl rfl)
theorem dX14_can_203 : decode cX14_can 203 = .ok (.putfield 69, 3) := dk_181 0 69 (dk_at dksX14_can_8 12 rfl rfl)
theorem dX14_can_206 : decode cX14_can 206 = .ok (.iconst 1, 1) := dk_4 (dk_at dksX14_can_8 15 rfl rfl)
theorem dX14_can_207 : decode cX14_can 207 = .ok (.ireturn, 1) := dk_172 (dk_at dksX14_can_8 16 rfl rfl)
theorem dX14_can_208 : decode cX14_can 208 = .ok (.aload_n 2, 1) := dk_44 (dk_at dksX14_can_8 17 rfl rfl)
theorem dX14_can_209 : decode cX14_can 209 = .ok (.getfield 75, 3) := dk_180 0 75 (dk_at dksX14_can_8 18 rfl rfl)
theorem dX14_can_212 : decode cX14_can 212 = .ok (.bipush 99, 2) := dk_16 99 (dk_at dksX14_can_8 21 rfl rfl)
theorem dX14_can_214 : decode cX14_can 214 = .ok (.if_icmp .eq 10, 3) := dk_159 0 10 (dk_at dksX14_can_9 0 rfl rfl)
theorem dX14_can_217 : decode cX14_can 217 = .ok (.aload_n 2, 1) := dk_44 (dk_at dksX14_can_9 3 rfl rfl)
theorem dX14_can_218 : decode cX14_can 218 = .ok (.getfield 77, 3) := dk_180 0 77 (dk_at dksX14_can_9 4 rfl rfl)
theorem dX14_can_221 : decode cX14_can 221 = .ok (.ifCond .ne 5, 3) := dk_154 0 5 (dk_at dksX14_can_9 7 rfl rfl)
theorem dX14_can_224 : decode cX14_can 224 = .ok (.iconst 0, 1) := dk_3 (dk_at dksX14_can_9 10 rfl rfl)
theorem dX14_can_225 : decode cX14_can 225 = .ok (.ireturn, 1) := dk_172 (dk_at dksX14_can_9 11 rfl rfl)
theorem dX14_can_226 : decode cX14_can 226 = .ok (.aload_n 2, 1) := dk_44 (dk_at dksX14_can_9 12 rfl rfl)
theorem dX14_can_227 : decode cX14_can 227 = .ok (.invokevirtual 80, 3) := dk_182 0 80 (dk_at dksX14_can_9 13 rfl rfl)
theorem dX14_can_230 : decode cX14_can 230 = .ok (.aload_n 2, 1) := dk_44 (dk_at dksX14_can_9 16 rfl rfl)
theorem dX14_can_231 : decode cX14_can 231 = .ok (.invokevirtual 83, 3) := dk_182 0 83 (dk_at dksX14_can_9 17 rfl rfl)
theorem dX14_can_234 : decode cX14_can 234 = .ok (.aload_n 1, 1) := dk_43 (dk_at dksX14_can_9 20 rfl rfl)
theorem dX14_can_235 : decode cX14_can 235 = .ok (.dup, 1) := dk_89 (dk_at dksX14_can_9 21 rfl rfl)
theorem dX14_can_236 : decode cX14_can 236 = .ok (.getfield 86, 3) := dk_180 0 86 (dk_at dksX14_can_10 0 rfl rfl)
theorem dX14_can_239 : decode cX14_can 239 = .ok (.iconst 1, 1) := dk_4 (dk_at dksX14_can_10 3 rfl rfl)
theorem dX14_can_240 : decode cX14_can 240 = .ok (.iadd, 1) := dk_96 (dk_at dksX14_can_10 4 rfl rfl)
theorem dX14_can_241 : decode cX14_can 241 = .ok (.putfield 86, 3) := dk_181 0 86 (dk_at dksX14_can_10 5 rfl rfl)
theorem dX14_can_244 : decode cX14_can 244 = .ok (.iconst 1, 1) := dk_4 (dk_at dksX14_can_10 8 rfl rfl)
theorem dX14_can_245 : decode cX14_can 245 = .ok (.ireturn, 1) := dk_172 (dk_at dksX14_can_10 9 rfl rfl)
theorem dX14_can_246 : decode cX14_can 246 = .ok (.aload_n 1, 1) := dk_43 (dk_at dksX14_can_10 10 rfl rfl)
theorem dX14_can_247 : decode cX14_can 247 = .ok (.iconst 1, 1) := dk_4 (dk_at dksX14_can_10 11 rfl rfl)
theorem dX14_can_248 : decode cX14_can 248 = .ok (.putfield 89, 3) := dk_181 0 89 (dk_at dksX14_can_10 12 rfl rfl)
theorem dX14_can_251 : decode cX14_can 251 = .ok (.iconst 1, 1) := dk_4 (dk_at dksX14_can_10 15 rfl rfl)
theorem dX14_can_252 : decode cX14_can 252 = .ok (.ireturn, 1) := dk_172 (dk_at dksX14_can_10 16 rfl rfl)
abbrev cX14_gulls : ByteArray := prog_2_method_3_code
def yX14_gulls : MethodName := ⟨RX14, "gulls", "(LLastPebble$Living;LLastPebble$Day;)V"⟩
def dkwX14_gulls_3 : List UInt8 := [177, 44, 29, 21, 4, 182, 0, 108, 87, 43, 89, 180, 0, 111, 4, 96, 181, 0, 111, 177]
abbrev dktX14_gulls_3 : List UInt8 := dkwX14_gulls_3 ++ []
def dkwX14_gulls_2 : List UInt8 := [182, 0, 93, 54, 4, 21, 4, 29, 161, 0, 6, 132, 4, 1, 44, 29, 21, 4, 182, 0, 105, 154, 0, 4]
abbrev dktX14_gulls_2 : List UInt8 := dkwX14_gulls_2 ++ dktX14_gulls_3
def dkwX14_gulls_1 : List UInt8 := [177, 43, 44, 180, 0, 96, 180, 0, 100, 182, 0, 93, 62, 43, 44, 180, 0, 96, 180, 0, 100, 4, 100]
abbrev dktX14_gulls_1 : List UInt8 := dkwX14_gulls_1 ++ dktX14_gulls_2
def dkwX14_gulls_0 : List UInt8 := [43, 16, 16, 182, 0, 93, 42, 180, 0, 18, 162, 0, 14, 44, 180, 0, 96, 180, 0, 100, 5, 162, 0, 4]
abbrev dktX14_gulls_0 : List UInt8 := dkwX14_gulls_0 ++ dktX14_gulls_1
theorem dksX14_gulls_0 : cX14_gulls.data.toList.drop 0 = dktX14_gulls_0 := by decide +kernel
theorem dksX14_gulls_1 : cX14_gulls.data.toList.drop 24 = dktX14_gulls_1 := dk_seg dksX14_gulls_0 24 rfl rfl
theorem dksX14_gulls_2 : cX14_gulls.data.toList.drop 47 = dktX14_gulls_2 := dk_seg dksX14_gulls_1 23 rfl rfl
theorem dksX14_gulls_3 : cX14_gulls.data.toList.drop 71 = dktX14_gulls_3 := dk_seg dksX14_gulls_2 24 rfl rfl
theorem dX14_gulls_0 : decode cX14_gulls 0 = .ok (.aload_n 1, 1) := dk_43 (dk_at dksX14_gulls_0 0 rfl rfl)
theorem dX14_gulls_1 : decode cX14_gulls 1 = .ok (.bipush 16, 2) := dk_16 16 (dk_at dksX14_gulls_0 1 rfl rfl)
theorem dX14_gulls_3 : decode cX14_gulls 3 = .ok (.invokevirtual 93, 3) := dk_182 0 93 (dk_at dksX14_gulls_0 3 rfl rfl)
theorem dX14_gulls_6 : decode cX14_gulls 6 = .ok (.aload_n 0, 1) := dk_42 (dk_at dksX14_gulls_0 6 rfl rfl)
theorem dX14_gulls_7 : decode cX14_gulls 7 = .ok (.getfield 18, 3) := dk_180 0 18 (dk_at dksX14_gulls_0 7 rfl rfl)
theorem dX14_gulls_10 : decode cX14_gulls 10 = .ok (.if_icmp .ge 14, 3) := dk_162 0 14 (dk_at dksX14_gulls_0 10 rfl rfl)
theorem dX14_gulls_13 : decode cX14_gulls 13 = .ok (.aload_n 2, 1) := dk_44 (dk_at dksX14_gulls_0 13 rfl rfl)
theorem dX14_gulls_14 : decode cX14_gulls 14 = .ok (.getfield 96, 3) := dk_180 0 96 (dk_at dksX14_gulls_0 14 rfl rfl)
theorem dX14_gulls_17 : decode cX14_gulls 17 = .ok (.getfield 100, 3) := dk_180 0 100 (dk_at dksX14_gulls_0 17 rfl rfl)
theorem dX14_gulls_20 : decode cX14_gulls 20 = .ok (.iconst 2, 1) := dk_5 (dk_at dksX14_gulls_0 20 rfl rfl)
theorem dX14_gulls_21 : decode cX14_gulls 21 = .ok (.if_icmp .ge 4, 3) := dk_162 0 4 (dk_at dksX14_gulls_0 21 rfl rfl)
theorem dX14_gulls_24 : decode cX14_gulls 24 = .ok (.return_, 1) := dk_177 (dk_at dksX14_gulls_1 0 rfl rfl)
theorem dX14_gulls_25 : decode cX14_gulls 25 = .ok (.aload_n 1, 1) := dk_43 (dk_at dksX14_gulls_1 1 rfl rfl)
theorem dX14_gulls_26 : decode cX14_gulls 26 = .ok (.aload_n 2, 1) := dk_44 (dk_at dksX14_gulls_1 2 rfl rfl)
theorem dX14_gulls_27 : decode cX14_gulls 27 = .ok (.getfield 96, 3) := dk_180 0 96 (dk_at dksX14_gulls_1 3 rfl rfl)
theorem dX14_gulls_30 : decode cX14_gulls 30 = .ok (.getfield 100, 3) := dk_180 0 100 (dk_at dksX14_gulls_1 6 rfl rfl)
theorem dX14_gulls_33 : decode cX14_gulls 33 = .ok (.invokevirtual 93, 3) := dk_182 0 93 (dk_at dksX14_gulls_1 9 rfl rfl)
theorem dX14_gulls_36 : decode cX14_gulls 36 = .ok (.istore_n 3, 1) := dk_62 (dk_at dksX14_gulls_1 12 rfl rfl)
theorem dX14_gulls_37 : decode cX14_gulls 37 = .ok (.aload_n 1, 1) := dk_43 (dk_at dksX14_gulls_1 13 rfl rfl)
theorem dX14_gulls_38 : decode cX14_gulls 38 = .ok (.aload_n 2, 1) := dk_44 (dk_at dksX14_gulls_1 14 rfl rfl)
theorem dX14_gulls_39 : decode cX14_gulls 39 = .ok (.getfield 96, 3) := dk_180 0 96 (dk_at dksX14_gulls_1 15 rfl rfl)
theorem dX14_gulls_42 : decode cX14_gulls 42 = .ok (.getfield 100, 3) := dk_180 0 100 (dk_at dksX14_gulls_1 18 rfl rfl)
theorem dX14_gulls_45 : decode cX14_gulls 45 = .ok (.iconst 1, 1) := dk_4 (dk_at dksX14_gulls_1 21 rfl rfl)
theorem dX14_gulls_46 : decode cX14_gulls 46 = .ok (.isub, 1) := dk_100 (dk_at dksX14_gulls_1 22 rfl rfl)
theorem dX14_gulls_47 : decode cX14_gulls 47 = .ok (.invokevirtual 93, 3) := dk_182 0 93 (dk_at dksX14_gulls_2 0 rfl rfl)
theorem dX14_gulls_50 : decode cX14_gulls 50 = .ok (.istore 4, 2) := dk_54 4 (dk_at dksX14_gulls_2 3 rfl rfl)
theorem dX14_gulls_52 : decode cX14_gulls 52 = .ok (.iload 4, 2) := dk_21 4 (dk_at dksX14_gulls_2 5 rfl rfl)
theorem dX14_gulls_54 : decode cX14_gulls 54 = .ok (.iload_n 3, 1) := dk_29 (dk_at dksX14_gulls_2 7 rfl rfl)
theorem dX14_gulls_55 : decode cX14_gulls 55 = .ok (.if_icmp .lt 6, 3) := dk_161 0 6 (dk_at dksX14_gulls_2 8 rfl rfl)
theorem dX14_gulls_58 : decode cX14_gulls 58 = .ok (.iinc 4 1, 3) := dk_132 4 1 (dk_at dksX14_gulls_2 11 rfl rfl)
theorem dX14_gulls_61 : decode cX14_gulls 61 = .ok (.aload_n 2, 1) := dk_44 (dk_at dksX14_gulls_2 14 rfl rfl)
theorem dX14_gulls_62 : decode cX14_gulls 62 = .ok (.iload_n 3, 1) := dk_29 (dk_at dksX14_gulls_2 15 rfl rfl)
theorem dX14_gulls_63 : decode cX14_gulls 63 = .ok (.iload 4, 2) := dk_21 4 (dk_at dksX14_gulls_2 16 rfl rfl)
theorem dX14_gulls_65 : decode cX14_gulls 65 = .ok (.invokevirtual 105, 3) := dk_182 0 105 (dk_at dksX14_gulls_2 18 rfl rfl)
theorem dX14_gulls_68 : decode cX14_gulls 68 = .ok (.ifCond .ne 4, 3) := dk_154 0 4 (dk_at dksX14_gulls_2 21 rfl rfl)
theorem dX14_gulls_71 : decode cX14_gulls 71 = .ok (.return_, 1) := dk_177 (dk_at dksX14_gulls_3 0 rfl rfl)
theorem dX14_gulls_72 : decode cX14_gulls 72 = .ok (.aload_n 2, 1) := dk_44 (dk_at dksX14_gulls_3 1 rfl rfl)
theorem dX14_gulls_73 : decode cX14_gulls 73 = .ok (.iload_n 3, 1) := dk_29 (dk_at dksX14_gulls_3 2 rfl rfl)
theorem dX14_gulls_74 : decode cX14_gulls 74 = .ok (.iload 4, 2) := dk_21 4 (dk_at dksX14_gulls_3 3 rfl rfl)
theorem dX14_gulls_76 : decode cX14_gulls 76 = .ok (.invokevirtual 108, 3) := dk_182 0 108 (dk_at dksX14_gulls_3 5 rfl rfl)
theorem dX14_gulls_79 : decode cX14_gulls 79 = .ok (.pop, 1) := dk_87 (dk_at dksX14_gulls_3 8 rfl rfl)
theorem dX14_gulls_80 : decode cX14_gulls 80 = .ok (.aload_n 1, 1) := dk_43 (dk_at dksX14_gulls_3 9 rfl rfl)
theorem dX14_gulls_81 : decode cX14_gulls 81 = .ok (.dup, 1) := dk_89 (dk_at dksX14_gulls_3 10 rfl rfl)
theorem dX14_gulls_82 : decode cX14_gulls 82 = .ok (.getfield 111, 3) := dk_180 0 111 (dk_at dksX14_gulls_3 11 rfl rfl)
theorem dX14_gulls_85 : decode cX14_gulls 85 = .ok (.iconst 1, 1) := dk_4 (dk_at dksX14_gulls_3 14 rfl rfl)
theorem dX14_gulls_86 : decode cX14_gulls 86 = .ok (.iadd, 1) := dk_96 (dk_at dksX14_gulls_3 15 rfl rfl)
theorem dX14_gulls_87 : decode cX14_gulls 87 = .ok (.putfield 111, 3) := dk_181 0 111 (dk_at dksX14_gulls_3 16 rfl rfl)
theorem dX14_gulls_90 : decode cX14_gulls 90 = .ok (.return_, 1) := dk_177 (dk_at dksX14_gulls_3 19 rfl rfl)
abbrev cJ11_bitCount : ByteArray := prog_21_method_49_code
def yJ11_bitCount : MethodName := ⟨RJ11, "bitCount", "(I)I"⟩
def dkwJ11_bitCount_2 : List UInt8 := [26, 16, 63, 126, 172]
abbrev dktJ11_bitCount_2 : List UInt8 := dkwJ11_bitCount_2 ++ []
def dkwJ11_bitCount_1 : List UInt8 := [26, 26, 7, 124, 96, 19, 1, 11, 126, 59, 26, 26, 16, 8, 124, 96, 59, 26, 26, 16, 16, 124, 96, 59]
abbrev dktJ11_bitCount_1 : List UInt8 := dkwJ11_bitCount_1 ++ dktJ11_bitCount_2
def dkwJ11_bitCount_0 : List UInt8 := [26, 26, 4, 124, 19, 1, 9, 126, 100, 59, 26, 19, 1, 10, 126, 26, 5, 124, 19, 1, 10, 126, 96, 59]
abbrev dktJ11_bitCount_0 : List UInt8 := dkwJ11_bitCount_0 ++ dktJ11_bitCount_1
theorem dksJ11_bitCount_0 : cJ11_bitCount.data.toList.drop 0 = dktJ11_bitCount_0 := by decide +kernel
theorem dksJ11_bitCount_1 : cJ11_bitCount.data.toList.drop 24 = dktJ11_bitCount_1 := dk_seg dksJ11_bitCount_0 24 rfl rfl
theorem dksJ11_bitCount_2 : cJ11_bitCount.data.toList.drop 48 = dktJ11_bitCount_2 := dk_seg dksJ11_bitCount_1 24 rfl rfl
theorem dJ11_bitCount_0 : decode cJ11_bitCount 0 = .ok (.iload_n 0, 1) := dk_26 (dk_at dksJ11_bitCount_0 0 rfl rfl)
theorem dJ11_bitCount_1 : decode cJ11_bitCount 1 = .ok (.iload_n 0, 1) := dk_26 (dk_at dksJ11_bitCount_0 1 rfl rfl)
theorem dJ11_bitCount_2 : decode cJ11_bitCount 2 = .ok (.iconst 1, 1) := dk_4 (dk_at dksJ11_bitCount_0 2 rfl rfl)
theorem dJ11_bitCount_3 : decode cJ11_bitCount 3 = .ok (.iushr, 1) := dk_124 (dk_at dksJ11_bitCount_0 3 rfl rfl)
theorem dJ11_bitCount_4 : decode cJ11_bitCount 4 = .ok (.ldc_w 265, 3) := dk_19 1 9 (dk_at dksJ11_bitCount_0 4 rfl rfl)
theorem dJ11_bitCount_7 : decode cJ11_bitCount 7 = .ok (.iand, 1) := dk_126 (dk_at dksJ11_bitCount_0 7 rfl rfl)
theorem dJ11_bitCount_8 : decode cJ11_bitCount 8 = .ok (.isub, 1) := dk_100 (dk_at dksJ11_bitCount_0 8 rfl rfl)
theorem dJ11_bitCount_9 : decode cJ11_bitCount 9 = .ok (.istore_n 0, 1) := dk_59 (dk_at dksJ11_bitCount_0 9 rfl rfl)
theorem dJ11_bitCount_10 : decode cJ11_bitCount 10 = .ok (.iload_n 0, 1) := dk_26 (dk_at dksJ11_bitCount_0 10 rfl rfl)
theorem dJ11_bitCount_11 : decode cJ11_bitCount 11 = .ok (.ldc_w 266, 3) := dk_19 1 10 (dk_at dksJ11_bitCount_0 11 rfl rfl)
theorem dJ11_bitCount_14 : decode cJ11_bitCount 14 = .ok (.iand, 1) := dk_126 (dk_at dksJ11_bitCount_0 14 rfl rfl)
theorem dJ11_bitCount_15 : decode cJ11_bitCount 15 = .ok (.iload_n 0, 1) := dk_26 (dk_at dksJ11_bitCount_0 15 rfl rfl)
theorem dJ11_bitCount_16 : decode cJ11_bitCount 16 = .ok (.iconst 2, 1) := dk_5 (dk_at dksJ11_bitCount_0 16 rfl rfl)
theorem dJ11_bitCount_17 : decode cJ11_bitCount 17 = .ok (.iushr, 1) := dk_124 (dk_at dksJ11_bitCount_0 17 rfl rfl)
theorem dJ11_bitCount_18 : decode cJ11_bitCount 18 = .ok (.ldc_w 266, 3) := dk_19 1 10 (dk_at dksJ11_bitCount_0 18 rfl rfl)
theorem dJ11_bitCount_21 : decode cJ11_bitCount 21 = .ok (.iand, 1) := dk_126 (dk_at dksJ11_bitCount_0 21 rfl rfl)
theorem dJ11_bitCount_22 : decode cJ11_bitCount 22 = .ok (.iadd, 1) := dk_96 (dk_at dksJ11_bitCount_0 22 rfl rfl)
theorem dJ11_bitCount_23 : decode cJ11_bitCount 23 = .ok (.istore_n 0, 1) := dk_59 (dk_at dksJ11_bitCount_0 23 rfl rfl)
theorem dJ11_bitCount_24 : decode cJ11_bitCount 24 = .ok (.iload_n 0, 1) := dk_26 (dk_at dksJ11_bitCount_1 0 rfl rfl)
theorem dJ11_bitCount_25 : decode cJ11_bitCount 25 = .ok (.iload_n 0, 1) := dk_26 (dk_at dksJ11_bitCount_1 1 rfl rfl)
theorem dJ11_bitCount_26 : decode cJ11_bitCount 26 = .ok (.iconst 4, 1) := dk_7 (dk_at dksJ11_bitCount_1 2 rfl rfl)
theorem dJ11_bitCount_27 : decode cJ11_bitCount 27 = .ok (.iushr, 1) := dk_124 (dk_at dksJ11_bitCount_1 3 rfl rfl)
theorem dJ11_bitCount_28 : decode cJ11_bitCount 28 = .ok (.iadd, 1) := dk_96 (dk_at dksJ11_bitCount_1 4 rfl rfl)
theorem dJ11_bitCount_29 : decode cJ11_bitCount 29 = .ok (.ldc_w 267, 3) := dk_19 1 11 (dk_at dksJ11_bitCount_1 5 rfl rfl)
theorem dJ11_bitCount_32 : decode cJ11_bitCount 32 = .ok (.iand, 1) := dk_126 (dk_at dksJ11_bitCount_1 8 rfl rfl)
theorem dJ11_bitCount_33 : decode cJ11_bitCount 33 = .ok (.istore_n 0, 1) := dk_59 (dk_at dksJ11_bitCount_1 9 rfl rfl)
theorem dJ11_bitCount_34 : decode cJ11_bitCount 34 = .ok (.iload_n 0, 1) := dk_26 (dk_at dksJ11_bitCount_1 10 rfl rfl)
theorem dJ11_bitCount_35 : decode cJ11_bitCount 35 = .ok (.iload_n 0, 1) := dk_26 (dk_at dksJ11_bitCount_1 11 rfl rfl)
theorem dJ11_bitCount_36 : decode cJ11_bitCount 36 = .ok (.bipush 8, 2) := dk_16 8 (dk_at dksJ11_bitCount_1 12 rfl rfl)
theorem dJ11_bitCount_38 : decode cJ11_bitCount 38 = .ok (.iushr, 1) := dk_124 (dk_at dksJ11_bitCount_1 14 rfl rfl)
theorem dJ11_bitCount_39 : decode cJ11_bitCount 39 = .ok (.iadd, 1) := dk_96 (dk_at dksJ11_bitCount_1 15 rfl rfl)
theorem dJ11_bitCount_40 : decode cJ11_bitCount 40 = .ok (.istore_n 0, 1) := dk_59 (dk_at dksJ11_bitCount_1 16 rfl rfl)
theorem dJ11_bitCount_41 : decode cJ11_bitCount 41 = .ok (.iload_n 0, 1) := dk_26 (dk_at dksJ11_bitCount_1 17 rfl rfl)
theorem dJ11_bitCount_42 : decode cJ11_bitCount 42 = .ok (.iload_n 0, 1) := dk_26 (dk_at dksJ11_bitCount_1 18 rfl rfl)
theorem dJ11_bitCount_43 : decode cJ11_bitCount 43 = .ok (.bipush 16, 2) := dk_16 16 (dk_at dksJ11_bitCount_1 19 rfl rfl)
theorem dJ11_bitCount_45 : decode cJ11_bitCount 45 = .ok (.iushr, 1) := dk_124 (dk_at dksJ11_bitCount_1 21 rfl rfl)
theorem dJ11_bitCount_46 : decode cJ11_bitCount 46 = .ok (.iadd, 1) := dk_96 (dk_at dksJ11_bitCount_1 22 rfl rfl)
theorem dJ11_bitCount_47 : decode cJ11_bitCount 47 = .ok (.istore_n 0, 1) := dk_59 (dk_at dksJ11_bitCount_1 23 rfl rfl)
theorem dJ11_bitCount_48 : decode cJ11_bitCount 48 = .ok (.iload_n 0, 1) := dk_26 (dk_at dksJ11_bitCount_2 0 rfl rfl)
theorem dJ11_bitCount_49 : decode cJ11_bitCount 49 = .ok (.bipush 63, 2) := dk_16 63 (dk_at dksJ11_bitCount_2 1 rfl rfl)
theorem dJ11_bitCount_51 : decode cJ11_bitCount 51 = .ok (.iand, 1) := dk_126 (dk_at dksJ11_bitCount_2 3 rfl rfl)
theorem dJ11_bitCount_52 : decode cJ11_bitCount 52 = .ok (.ireturn, 1) := dk_172 (dk_at dksJ11_bitCount_2 4 rfl rfl)
abbrev cJ11_lowestOneBit : ByteArray := prog_21_method_46_code
def yJ11_lowestOneBit : MethodName := ⟨RJ11, "lowestOneBit", "(I)I"⟩
def dkwJ11_lowestOneBit_0 : List UInt8 := [26, 26, 116, 126, 172]
abbrev dktJ11_lowestOneBit_0 : List UInt8 := dkwJ11_lowestOneBit_0 ++ []
theorem dksJ11_lowestOneBit_0 : cJ11_lowestOneBit.data.toList.drop 0 = dktJ11_lowestOneBit_0 := by decide +kernel
theorem dJ11_lowestOneBit_0 : decode cJ11_lowestOneBit 0 = .ok (.iload_n 0, 1) := dk_26 (dk_at dksJ11_lowestOneBit_0 0 rfl rfl)
theorem dJ11_lowestOneBit_1 : decode cJ11_lowestOneBit 1 = .ok (.iload_n 0, 1) := dk_26 (dk_at dksJ11_lowestOneBit_0 1 rfl rfl)
theorem dJ11_lowestOneBit_2 : decode cJ11_lowestOneBit 2 = .ok (.ineg, 1) := dk_116 (dk_at dksJ11_lowestOneBit_0 2 rfl rfl)
theorem dJ11_lowestOneBit_3 : decode cJ11_lowestOneBit 3 = .ok (.iand, 1) := dk_126 (dk_at dksJ11_lowestOneBit_0 3 rfl rfl)
theorem dJ11_lowestOneBit_4 : decode cJ11_lowestOneBit 4 = .ok (.ireturn, 1) := dk_172 (dk_at dksJ11_lowestOneBit_0 4 rfl rfl)
abbrev cJ11_highestOneBit : ByteArray := prog_21_method_45_code
def yJ11_highestOneBit : MethodName := ⟨RJ11, "highestOneBit", "(I)I"⟩
def dkwJ11_highestOneBit_0 : List UInt8 := [26, 18, 127, 26, 184, 0, 51, 124, 126, 172]
abbrev dktJ11_highestOneBit_0 : List UInt8 := dkwJ11_highestOneBit_0 ++ []
theorem dksJ11_highestOneBit_0 : cJ11_highestOneBit.data.toList.drop 0 = dktJ11_highestOneBit_0 := by decide +kernel
theorem dJ11_highestOneBit_0 : decode cJ11_highestOneBit 0 = .ok (.iload_n 0, 1) := dk_26 (dk_at dksJ11_highestOneBit_0 0 rfl rfl)
theorem dJ11_highestOneBit_1 : decode cJ11_highestOneBit 1 = .ok (.ldc 127, 2) := dk_18 127 (dk_at dksJ11_highestOneBit_0 1 rfl rfl)
theorem dJ11_highestOneBit_3 : decode cJ11_highestOneBit 3 = .ok (.iload_n 0, 1) := dk_26 (dk_at dksJ11_highestOneBit_0 3 rfl rfl)
theorem dJ11_highestOneBit_4 : decode cJ11_highestOneBit 4 = .ok (.invokestatic 51, 3) := dk_184 0 51 (dk_at dksJ11_highestOneBit_0 4 rfl rfl)
theorem dJ11_highestOneBit_7 : decode cJ11_highestOneBit 7 = .ok (.iushr, 1) := dk_124 (dk_at dksJ11_highestOneBit_0 7 rfl rfl)
theorem dJ11_highestOneBit_8 : decode cJ11_highestOneBit 8 = .ok (.iand, 1) := dk_126 (dk_at dksJ11_highestOneBit_0 8 rfl rfl)
theorem dJ11_highestOneBit_9 : decode cJ11_highestOneBit 9 = .ok (.ireturn, 1) := dk_172 (dk_at dksJ11_highestOneBit_0 9 rfl rfl)
abbrev cJ11_numberOfLeadingZeros : ByteArray := prog_21_method_47_code
def yJ11_numberOfLeadingZeros : MethodName := ⟨RJ11, "numberOfLeadingZeros", "(I)I"⟩
def dkwJ11_numberOfLeadingZeros_3 : List UInt8 := [5, 124, 59, 27, 26, 4, 124, 100, 172]
abbrev dktJ11_numberOfLeadingZeros_3 : List UInt8 := dkwJ11_numberOfLeadingZeros_3 ++ []
def dkwJ11_numberOfLeadingZeros_2 : List UInt8 := [124, 59, 26, 16, 16, 161, 0, 10, 132, 1, 252, 26, 7, 124, 59, 26, 7, 161, 0, 10, 132, 1, 254, 26]
abbrev dktJ11_numberOfLeadingZeros_2 : List UInt8 := dkwJ11_numberOfLeadingZeros_2 ++ dktJ11_numberOfLeadingZeros_3
def dkwJ11_numberOfLeadingZeros_1 : List UInt8 := [161, 0, 11, 132, 1, 240, 26, 16, 16, 124, 59, 26, 17, 1, 0, 161, 0, 11, 132, 1, 248, 26, 16, 8]
abbrev dktJ11_numberOfLeadingZeros_1 : List UInt8 := dkwJ11_numberOfLeadingZeros_1 ++ dktJ11_numberOfLeadingZeros_2
def dkwJ11_numberOfLeadingZeros_0 : List UInt8 := [26, 157, 0, 14, 26, 154, 0, 8, 16, 32, 167, 0, 4, 3, 172, 16, 31, 60, 26, 19, 1, 8]
abbrev dktJ11_numberOfLeadingZeros_0 : List UInt8 := dkwJ11_numberOfLeadingZeros_0 ++ dktJ11_numberOfLeadingZeros_1
theorem dksJ11_numberOfLeadingZeros_0 : cJ11_numberOfLeadingZeros.data.toList.drop 0 = dktJ11_numberOfLeadingZeros_0 := by decide +kernel
theorem dksJ11_numberOfLeadingZeros_1 : cJ11_numberOfLeadingZeros.data.toList.drop 22 = dktJ11_numberOfLeadingZeros_1 := dk_seg dksJ11_numberOfLeadingZeros_0 22 rfl rfl
theorem dksJ11_numberOfLeadingZeros_2 : cJ11_numberOfLeadingZeros.data.toList.drop 46 = dktJ11_numberOfLeadingZeros_2 := dk_seg dksJ11_numberOfLeadingZeros_1 24 rfl rfl
theorem dksJ11_numberOfLeadingZeros_3 : cJ11_numberOfLeadingZeros.data.toList.drop 70 = dktJ11_numberOfLeadingZeros_3 := dk_seg dksJ11_numberOfLeadingZeros_2 24 rfl rfl
theorem dJ11_numberOfLeadingZeros_0 : decode cJ11_numberOfLeadingZeros 0 = .ok (.iload_n 0, 1) := dk_26 (dk_at dksJ11_numberOfLeadingZeros_0 0 rfl rfl)
theorem dJ11_numberOfLeadingZeros_1 : decode cJ11_numberOfLeadingZeros 1 = .ok (.ifCond .gt 14, 3) := dk_157 0 14 (dk_at dksJ11_numberOfLeadingZeros_0 1 rfl rfl)
theorem dJ11_numberOfLeadingZeros_4 : decode cJ11_numberOfLeadingZeros 4 = .ok (.iload_n 0, 1) := dk_26 (dk_at dksJ11_numberOfLeadingZeros_0 4 rfl rfl)
theorem dJ11_numberOfLeadingZeros_5 : decode cJ11_numberOfLeadingZeros 5 = .ok (.ifCond .ne 8, 3) := dk_154 0 8 (dk_at dksJ11_numberOfLeadingZeros_0 5 rfl rfl)
theorem dJ11_numberOfLeadingZeros_8 : decode cJ11_numberOfLeadingZeros 8 = .ok (.bipush 32, 2) := dk_16 32 (dk_at dksJ11_numberOfLeadingZeros_0 8 rfl rfl)
theorem dJ11_numberOfLeadingZeros_10 : decode cJ11_numberOfLeadingZeros 10 = .ok (.goto 4, 3) := dk_167 0 4 (dk_at dksJ11_numberOfLeadingZeros_0 10 rfl rfl)
theorem dJ11_numberOfLeadingZeros_13 : decode cJ11_numberOfLeadingZeros 13 = .ok (.iconst 0, 1) := dk_3 (dk_at dksJ11_numberOfLeadingZeros_0 13 rfl rfl)
theorem dJ11_numberOfLeadingZeros_14 : decode cJ11_numberOfLeadingZeros 14 = .ok (.ireturn, 1) := dk_172 (dk_at dksJ11_numberOfLeadingZeros_0 14 rfl rfl)
theorem dJ11_numberOfLeadingZeros_15 : decode cJ11_numberOfLeadingZeros 15 = .ok (.bipush 31, 2) := dk_16 31 (dk_at dksJ11_numberOfLeadingZeros_0 15 rfl rfl)
theorem dJ11_numberOfLeadingZeros_17 : decode cJ11_numberOfLeadingZeros 17 = .ok (.istore_n 1, 1) := dk_60 (dk_at dksJ11_numberOfLeadingZeros_0 17 rfl rfl)
theorem dJ11_numberOfLeadingZeros_18 : decode cJ11_numberOfLeadingZeros 18 = .ok (.iload_n 0, 1) := dk_26 (dk_at dksJ11_numberOfLeadingZeros_0 18 rfl rfl)
theorem dJ11_numberOfLeadingZeros_19 : decode cJ11_numberOfLeadingZeros 19 = .ok (.ldc_w 264, 3) := dk_19 1 8 (dk_at dksJ11_numberOfLeadingZeros_0 19 rfl rfl)
theorem dJ11_numberOfLeadingZeros_22 : decode cJ11_numberOfLeadingZeros 22 = .ok (.if_icmp .lt 11, 3) := dk_161 0 11 (dk_at dksJ11_numberOfLeadingZeros_1 0 rfl rfl)
theorem dJ11_numberOfLeadingZeros_25 : decode cJ11_numberOfLeadingZeros 25 = .ok (.iinc 1 (-16), 3) := dk_132 1 240 (dk_at dksJ11_numberOfLeadingZeros_1 3 rfl rfl)
theorem dJ11_numberOfLeadingZeros_28 : decode cJ11_numberOfLeadingZeros 28 = .ok (.iload_n 0, 1) := dk_26 (dk_at dksJ11_numberOfLeadingZeros_1 6 rfl rfl)
theorem dJ11_numberOfLeadingZeros_29 : decode cJ11_numberOfLeadingZeros 29 = .ok (.bipush 16, 2) := dk_16 16 (dk_at dksJ11_numberOfLeadingZeros_1 7 rfl rfl)
theorem dJ11_numberOfLeadingZeros_31 : decode cJ11_numberOfLeadingZeros 31 = .ok (.iushr, 1) := dk_124 (dk_at dksJ11_numberOfLeadingZeros_1 9 rfl rfl)
theorem dJ11_numberOfLeadingZeros_32 : decode cJ11_numberOfLeadingZeros 32 = .ok (.istore_n 0, 1) := dk_59 (dk_at dksJ11_numberOfLeadingZeros_1 10 rfl rfl)
theorem dJ11_numberOfLeadingZeros_33 : decode cJ11_numberOfLeadingZeros 33 = .ok (.iload_n 0, 1) := dk_26 (dk_at dksJ11_numberOfLeadingZeros_1 11 rfl rfl)
theorem dJ11_numberOfLeadingZeros_34 : decode cJ11_numberOfLeadingZeros 34 = .ok (.sipush 256, 3) := dk_17 1 0 (dk_at dksJ11_numberOfLeadingZeros_1 12 rfl rfl)
theorem dJ11_numberOfLeadingZeros_37 : decode cJ11_numberOfLeadingZeros 37 = .ok (.if_icmp .lt 11, 3) := dk_161 0 11 (dk_at dksJ11_numberOfLeadingZeros_1 15 rfl rfl)
theorem dJ11_numberOfLeadingZeros_40 : decode cJ11_numberOfLeadingZeros 40 = .ok (.iinc 1 (-8), 3) := dk_132 1 248 (dk_at dksJ11_numberOfLeadingZeros_1 18 rfl rfl)
theorem dJ11_numberOfLeadingZeros_43 : decode cJ11_numberOfLeadingZeros 43 = .ok (.iload_n 0, 1) := dk_26 (dk_at dksJ11_numberOfLeadingZeros_1 21 rfl rfl)
theorem dJ11_numberOfLeadingZeros_44 : decode cJ11_numberOfLeadingZeros 44 = .ok (.bipush 8, 2) := dk_16 8 (dk_at dksJ11_numberOfLeadingZeros_1 22 rfl rfl)
theorem dJ11_numberOfLeadingZeros_46 : decode cJ11_numberOfLeadingZeros 46 = .ok (.iushr, 1) := dk_124 (dk_at dksJ11_numberOfLeadingZeros_2 0 rfl rfl)
theorem dJ11_numberOfLeadingZeros_47 : decode cJ11_numberOfLeadingZeros 47 = .ok (.istore_n 0, 1) := dk_59 (dk_at dksJ11_numberOfLeadingZeros_2 1 rfl rfl)
theorem dJ11_numberOfLeadingZeros_48 : decode cJ11_numberOfLeadingZeros 48 = .ok (.iload_n 0, 1) := dk_26 (dk_at dksJ11_numberOfLeadingZeros_2 2 rfl rfl)
theorem dJ11_numberOfLeadingZeros_49 : decode cJ11_numberOfLeadingZeros 49 = .ok (.bipush 16, 2) := dk_16 16 (dk_at dksJ11_numberOfLeadingZeros_2 3 rfl rfl)
theorem dJ11_numberOfLeadingZeros_51 : decode cJ11_numberOfLeadingZeros 51 = .ok (.if_icmp .lt 10, 3) := dk_161 0 10 (dk_at dksJ11_numberOfLeadingZeros_2 5 rfl rfl)
theorem dJ11_numberOfLeadingZeros_54 : decode cJ11_numberOfLeadingZeros 54 = .ok (.iinc 1 (-4), 3) := dk_132 1 252 (dk_at dksJ11_numberOfLeadingZeros_2 8 rfl rfl)
theorem dJ11_numberOfLeadingZeros_57 : decode cJ11_numberOfLeadingZeros 57 = .ok (.iload_n 0, 1) := dk_26 (dk_at dksJ11_numberOfLeadingZeros_2 11 rfl rfl)
theorem dJ11_numberOfLeadingZeros_58 : decode cJ11_numberOfLeadingZeros 58 = .ok (.iconst 4, 1) := dk_7 (dk_at dksJ11_numberOfLeadingZeros_2 12 rfl rfl)
theorem dJ11_numberOfLeadingZeros_59 : decode cJ11_numberOfLeadingZeros 59 = .ok (.iushr, 1) := dk_124 (dk_at dksJ11_numberOfLeadingZeros_2 13 rfl rfl)
theorem dJ11_numberOfLeadingZeros_60 : decode cJ11_numberOfLeadingZeros 60 = .ok (.istore_n 0, 1) := dk_59 (dk_at dksJ11_numberOfLeadingZeros_2 14 rfl rfl)
theorem dJ11_numberOfLeadingZeros_61 : decode cJ11_numberOfLeadingZeros 61 = .ok (.iload_n 0, 1) := dk_26 (dk_at dksJ11_numberOfLeadingZeros_2 15 rfl rfl)
theorem dJ11_numberOfLeadingZeros_62 : decode cJ11_numberOfLeadingZeros 62 = .ok (.iconst 4, 1) := dk_7 (dk_at dksJ11_numberOfLeadingZeros_2 16 rfl rfl)
theorem dJ11_numberOfLeadingZeros_63 : decode cJ11_numberOfLeadingZeros 63 = .ok (.if_icmp .lt 10, 3) := dk_161 0 10 (dk_at dksJ11_numberOfLeadingZeros_2 17 rfl rfl)
theorem dJ11_numberOfLeadingZeros_66 : decode cJ11_numberOfLeadingZeros 66 = .ok (.iinc 1 (-2), 3) := dk_132 1 254 (dk_at dksJ11_numberOfLeadingZeros_2 20 rfl rfl)
theorem dJ11_numberOfLeadingZeros_69 : decode cJ11_numberOfLeadingZeros 69 = .ok (.iload_n 0, 1) := dk_26 (dk_at dksJ11_numberOfLeadingZeros_2 23 rfl rfl)
theorem dJ11_numberOfLeadingZeros_70 : decode cJ11_numberOfLeadingZeros 70 = .ok (.iconst 2, 1) := dk_5 (dk_at dksJ11_numberOfLeadingZeros_3 0 rfl rfl)
theorem dJ11_numberOfLeadingZeros_71 : decode cJ11_numberOfLeadingZeros 71 = .ok (.iushr, 1) := dk_124 (dk_at dksJ11_numberOfLeadingZeros_3 1 rfl rfl)
theorem dJ11_numberOfLeadingZeros_72 : decode cJ11_numberOfLeadingZeros 72 = .ok (.istore_n 0, 1) := dk_59 (dk_at dksJ11_numberOfLeadingZeros_3 2 rfl rfl)
theorem dJ11_numberOfLeadingZeros_73 : decode cJ11_numberOfLeadingZeros 73 = .ok (.iload_n 1, 1) := dk_27 (dk_at dksJ11_numberOfLeadingZeros_3 3 rfl rfl)
theorem dJ11_numberOfLeadingZeros_74 : decode cJ11_numberOfLeadingZeros 74 = .ok (.iload_n 0, 1) := dk_26 (dk_at dksJ11_numberOfLeadingZeros_3 4 rfl rfl)
theorem dJ11_numberOfLeadingZeros_75 : decode cJ11_numberOfLeadingZeros 75 = .ok (.iconst 1, 1) := dk_4 (dk_at dksJ11_numberOfLeadingZeros_3 5 rfl rfl)
theorem dJ11_numberOfLeadingZeros_76 : decode cJ11_numberOfLeadingZeros 76 = .ok (.iushr, 1) := dk_124 (dk_at dksJ11_numberOfLeadingZeros_3 6 rfl rfl)
theorem dJ11_numberOfLeadingZeros_77 : decode cJ11_numberOfLeadingZeros 77 = .ok (.isub, 1) := dk_100 (dk_at dksJ11_numberOfLeadingZeros_3 7 rfl rfl)
theorem dJ11_numberOfLeadingZeros_78 : decode cJ11_numberOfLeadingZeros 78 = .ok (.ireturn, 1) := dk_172 (dk_at dksJ11_numberOfLeadingZeros_3 8 rfl rfl)
abbrev cJ12_signum : ByteArray := prog_22_method_57_code
def yJ12_signum : MethodName := ⟨RJ12, "signum", "(J)I"⟩
def dkwJ12_signum_0 : List UInt8 := [30, 16, 63, 123, 30, 117, 16, 63, 125, 129, 136, 172]
abbrev dktJ12_signum_0 : List UInt8 := dkwJ12_signum_0 ++ []
theorem dksJ12_signum_0 : cJ12_signum.data.toList.drop 0 = dktJ12_signum_0 := by decide +kernel
theorem dJ12_signum_0 : decode cJ12_signum 0 = .ok (.lload_n 0, 1) := dk_30 (dk_at dksJ12_signum_0 0 rfl rfl)
theorem dJ12_signum_1 : decode cJ12_signum 1 = .ok (.bipush 63, 2) := dk_16 63 (dk_at dksJ12_signum_0 1 rfl rfl)
theorem dJ12_signum_3 : decode cJ12_signum 3 = .ok (.lshr, 1) := dk_123 (dk_at dksJ12_signum_0 3 rfl rfl)
theorem dJ12_signum_4 : decode cJ12_signum 4 = .ok (.lload_n 0, 1) := dk_30 (dk_at dksJ12_signum_0 4 rfl rfl)
theorem dJ12_signum_5 : decode cJ12_signum 5 = .ok (.lneg, 1) := dk_117 (dk_at dksJ12_signum_0 5 rfl rfl)
theorem dJ12_signum_6 : decode cJ12_signum 6 = .ok (.bipush 63, 2) := dk_16 63 (dk_at dksJ12_signum_0 6 rfl rfl)
theorem dJ12_signum_8 : decode cJ12_signum 8 = .ok (.lushr, 1) := dk_125 (dk_at dksJ12_signum_0 8 rfl rfl)
theorem dJ12_signum_9 : decode cJ12_signum 9 = .ok (.lor, 1) := dk_129 (dk_at dksJ12_signum_0 9 rfl rfl)
theorem dJ12_signum_10 : decode cJ12_signum 10 = .ok (.l2i, 1) := dk_136 (dk_at dksJ12_signum_0 10 rfl rfl)
theorem dJ12_signum_11 : decode cJ12_signum 11 = .ok (.ireturn, 1) := dk_172 (dk_at dksJ12_signum_0 11 rfl rfl)
abbrev cX15_init : ByteArray := prog_9_method_1_code
def yX15_init : MethodName := ⟨RX15, "<init>", "(LLastPebble$Day;I)V"⟩
def dkwX15_init_0 : List UInt8 := [42, 183, 0, 1, 42, 43, 181, 0, 7, 42, 28, 181, 0, 13, 177]
abbrev dktX15_init_0 : List UInt8 := dkwX15_init_0 ++ []
theorem dksX15_init_0 : cX15_init.data.toList.drop 0 = dktX15_init_0 := by decide +kernel
theorem dX15_init_0 : decode cX15_init 0 = .ok (.aload_n 0, 1) := dk_42 (dk_at dksX15_init_0 0 rfl rfl)
theorem dX15_init_1 : decode cX15_init 1 = .ok (.invokespecial 1, 3) := dk_183 0 1 (dk_at dksX15_init_0 1 rfl rfl)
theorem dX15_init_4 : decode cX15_init 4 = .ok (.aload_n 0, 1) := dk_42 (dk_at dksX15_init_0 4 rfl rfl)
theorem dX15_init_5 : decode cX15_init 5 = .ok (.aload_n 1, 1) := dk_43 (dk_at dksX15_init_0 5 rfl rfl)
theorem dX15_init_6 : decode cX15_init 6 = .ok (.putfield 7, 3) := dk_181 0 7 (dk_at dksX15_init_0 6 rfl rfl)
theorem dX15_init_9 : decode cX15_init 9 = .ok (.aload_n 0, 1) := dk_42 (dk_at dksX15_init_0 9 rfl rfl)
theorem dX15_init_10 : decode cX15_init 10 = .ok (.iload_n 2, 1) := dk_28 (dk_at dksX15_init_0 10 rfl rfl)
theorem dX15_init_11 : decode cX15_init 11 = .ok (.putfield 13, 3) := dk_181 0 13 (dk_at dksX15_init_0 11 rfl rfl)
theorem dX15_init_14 : decode cX15_init 14 = .ok (.return_, 1) := dk_177 (dk_at dksX15_init_0 14 rfl rfl)
abbrev cX15_draw : ByteArray := prog_9_method_2_code
def yX15_draw : MethodName := ⟨RX15, "draw", "(I)I"⟩
def dkwX15_draw_1 : List UInt8 := [16, 8, 108, 27, 112, 172]
abbrev dktX15_draw_1 : List UInt8 := dkwX15_draw_1 ++ []
def dkwX15_draw_0 : List UInt8 := [42, 42, 180, 0, 13, 17, 11, 27, 104, 17, 41, 213, 96, 18, 17, 112, 181, 0, 13, 42, 180, 0, 13]
abbrev dktX15_draw_0 : List UInt8 := dkwX15_draw_0 ++ dktX15_draw_1
theorem dksX15_draw_0 : cX15_draw.data.toList.drop 0 = dktX15_draw_0 := by decide +kernel
theorem dksX15_draw_1 : cX15_draw.data.toList.drop 23 = dktX15_draw_1 := dk_seg dksX15_draw_0 23 rfl rfl
theorem dX15_draw_0 : decode cX15_draw 0 = .ok (.aload_n 0, 1) := dk_42 (dk_at dksX15_draw_0 0 rfl rfl)
theorem dX15_draw_1 : decode cX15_draw 1 = .ok (.aload_n 0, 1) := dk_42 (dk_at dksX15_draw_0 1 rfl rfl)
theorem dX15_draw_2 : decode cX15_draw 2 = .ok (.getfield 13, 3) := dk_180 0 13 (dk_at dksX15_draw_0 2 rfl rfl)
theorem dX15_draw_5 : decode cX15_draw 5 = .ok (.sipush 2843, 3) := dk_17 11 27 (dk_at dksX15_draw_0 5 rfl rfl)
theorem dX15_draw_8 : decode cX15_draw 8 = .ok (.imul, 1) := dk_104 (dk_at dksX15_draw_0 8 rfl rfl)
theorem dX15_draw_9 : decode cX15_draw 9 = .ok (.sipush 10709, 3) := dk_17 41 213 (dk_at dksX15_draw_0 9 rfl rfl)
theorem dX15_draw_12 : decode cX15_draw 12 = .ok (.iadd, 1) := dk_96 (dk_at dksX15_draw_0 12 rfl rfl)
theorem dX15_draw_13 : decode cX15_draw 13 = .ok (.ldc 17, 2) := dk_18 17 (dk_at dksX15_draw_0 13 rfl rfl)
theorem dX15_draw_15 : decode cX15_draw 15 = .ok (.irem, 1) := dk_112 (dk_at dksX15_draw_0 15 rfl rfl)
theorem dX15_draw_16 : decode cX15_draw 16 = .ok (.putfield 13, 3) := dk_181 0 13 (dk_at dksX15_draw_0 16 rfl rfl)
theorem dX15_draw_19 : decode cX15_draw 19 = .ok (.aload_n 0, 1) := dk_42 (dk_at dksX15_draw_0 19 rfl rfl)
theorem dX15_draw_20 : decode cX15_draw 20 = .ok (.getfield 13, 3) := dk_180 0 13 (dk_at dksX15_draw_0 20 rfl rfl)
theorem dX15_draw_23 : decode cX15_draw 23 = .ok (.bipush 8, 2) := dk_16 8 (dk_at dksX15_draw_1 0 rfl rfl)
theorem dX15_draw_25 : decode cX15_draw 25 = .ok (.idiv, 1) := dk_108 (dk_at dksX15_draw_1 2 rfl rfl)
theorem dX15_draw_26 : decode cX15_draw 26 = .ok (.iload_n 1, 1) := dk_27 (dk_at dksX15_draw_1 3 rfl rfl)
theorem dX15_draw_27 : decode cX15_draw 27 = .ok (.irem, 1) := dk_112 (dk_at dksX15_draw_1 4 rfl rfl)
theorem dX15_draw_28 : decode cX15_draw 28 = .ok (.ireturn, 1) := dk_172 (dk_at dksX15_draw_1 5 rfl rfl)
abbrev cJ13_init : ByteArray := object_method_1_code
def yJ13_init : MethodName := ⟨RJ13, "<init>", "()V"⟩
theorem dJ13_init_0 : decode cJ13_init 0 = .ok (.return_, 1) := by decide +kernel
