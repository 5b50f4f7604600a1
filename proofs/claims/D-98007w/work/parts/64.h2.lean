set_option maxRecDepth 100000
set_option maxHeartbeats 4000000 in
theorem kInt_bitCount {g : GG} {s : Nat} (hs : s < 64) : Ms g miJ11_bitCount 1 [.int (nI s)] (some (.int (nI (pcnt s)))) := by
  refine Ms.start [some (.int (nI s))] plJ11 rfl (Nat.le_of_ble_eq_true rfl) rfl ?_
  intro σ
  refine w_iload_n dJ11_bitCount_0 rfl ?_
  refine w_iload_n dJ11_bitCount_1 rfl ?_
  refine w_iconst (v := nI 1) dJ11_bitCount_2 ki_1 ?_
  refine w_iushr dJ11_bitCount_3 rfl ?_
  refine w_ldcw dJ11_bitCount_4 q1150 ?_
  refine w_iand dJ11_bitCount_7 ?_
  refine w_isub dJ11_bitCount_8 ?_
  refine w_istore_n dJ11_bitCount_9 rfl (Nat.le_of_ble_eq_true rfl) ls_1_0 ?_
  refine w_iload_n dJ11_bitCount_10 rfl ?_
  refine w_ldcw dJ11_bitCount_11 q1151 ?_
  refine w_iand dJ11_bitCount_14 ?_
  refine w_iload_n dJ11_bitCount_15 rfl ?_
  refine w_iconst (v := nI 2) dJ11_bitCount_16 ki_2 ?_
  refine w_iushr dJ11_bitCount_17 rfl ?_
  refine w_ldcw dJ11_bitCount_18 q1151 ?_
  refine w_iand dJ11_bitCount_21 ?_
  refine w_iadd dJ11_bitCount_22 ?_
  refine w_istore_n dJ11_bitCount_23 rfl (Nat.le_of_ble_eq_true rfl) ls_1_0 ?_
  refine w_iload_n dJ11_bitCount_24 rfl ?_
  refine w_iload_n dJ11_bitCount_25 rfl ?_
  refine w_iconst (v := nI 4) dJ11_bitCount_26 ki_4 ?_
  refine w_iushr dJ11_bitCount_27 rfl ?_
  refine w_iadd dJ11_bitCount_28 ?_
  refine w_ldcw dJ11_bitCount_29 q1152 ?_
  refine w_iand dJ11_bitCount_32 ?_
  refine w_istore_n dJ11_bitCount_33 rfl (Nat.le_of_ble_eq_true rfl) ls_1_0 ?_
  refine w_iload_n dJ11_bitCount_34 rfl ?_
  refine w_iload_n dJ11_bitCount_35 rfl ?_
  refine w_bipush (v := nI 8) dJ11_bitCount_36 kb_8 ?_
  refine w_iushr dJ11_bitCount_38 rfl ?_
  refine w_iadd dJ11_bitCount_39 ?_
  refine w_istore_n dJ11_bitCount_40 rfl (Nat.le_of_ble_eq_true rfl) ls_1_0 ?_
  refine w_iload_n dJ11_bitCount_41 rfl ?_
  refine w_iload_n dJ11_bitCount_42 rfl ?_
  refine w_bipush (v := nI 16) dJ11_bitCount_43 kb_16 ?_
  refine w_iushr dJ11_bitCount_45 rfl ?_
  refine w_iadd dJ11_bitCount_46 ?_
  refine w_istore_n dJ11_bitCount_47 rfl (Nat.le_of_ble_eq_true rfl) ls_1_0 ?_
  refine w_iload_n dJ11_bitCount_48 rfl ?_
  refine w_bipush (v := nI 63) dJ11_bitCount_49 kb_63 ?_
  refine w_iand dJ11_bitCount_51 ?_
  exact w_iret dJ11_bitCount_52 rfl ⟨by refine congrArg (fun z => some (Value.int z)) ?_; revert hs; revert s; decide +kernel, rfl⟩
set_option maxHeartbeats 4000000 in
theorem kInt_lowestOneBit {g : GG} {s : Nat} (hs : s < 64) (h0 : 0 < s) : Ms g miJ11_lowestOneBit 1 [.int (nI s)] (some (.int (nI (lowB s)))) := by
  refine Ms.start [some (.int (nI s))] plJ11 rfl (Nat.le_of_ble_eq_true rfl) rfl ?_
  intro σ
  refine w_iload_n dJ11_lowestOneBit_0 rfl ?_
  refine w_iload_n dJ11_lowestOneBit_1 rfl ?_
  refine w_ineg dJ11_lowestOneBit_2 ?_
  refine w_iand dJ11_lowestOneBit_3 ?_
  exact w_iret dJ11_lowestOneBit_4 rfl ⟨by refine congrArg (fun z => some (Value.int z)) ?_; revert h0 hs; revert s; decide +kernel, rfl⟩
def nlzF (s : Nat) : Nat := 31 - (bestF 2 s 6 - 1)
set_option maxHeartbeats 4000000 in
theorem kInt_numberOfLeadingZeros {g : GG} {s : Nat} (hs : s < 64) (h0 : 0 < s) : Ms g miJ11_numberOfLeadingZeros 1 [.int (nI s)] (some (.int (nI (nlzF s)))) := by
  refine Ms.start [some (.int (nI s)), none] plJ11 rfl (Nat.le_of_ble_eq_true rfl) rfl ?_
  intro σ
  refine w_iload_n dJ11_numberOfLeadingZeros_0 rfl ?_
  refine w_ifN_gt dJ11_numberOfLeadingZeros_1 rfl (by omega) (fun h_1 => ?_) (fun h_1 => ?_)
  · refine w_bipush (v := nI 31) dJ11_numberOfLeadingZeros_15 kb_31 ?_
    refine w_istore_n dJ11_numberOfLeadingZeros_17 rfl (Nat.le_of_ble_eq_true rfl) ls_2_1 ?_
    refine w_iload_n dJ11_numberOfLeadingZeros_18 rfl ?_
    refine w_ldcw dJ11_numberOfLeadingZeros_19 q1163 ?_
    refine w_icmp_lt dJ11_numberOfLeadingZeros_22 rfl (fun h_22 => ?_) (fun h_22 => ?_)
    · refine w_iload_n dJ11_numberOfLeadingZeros_33 rfl ?_
      refine w_sipush (v := nI 256) dJ11_numberOfLeadingZeros_34 ks_256 ?_
      refine w_icmpN_lt dJ11_numberOfLeadingZeros_37 rfl (by omega) (by omega) (fun h_37 => ?_) (fun h_37 => ?_)
      · refine w_iload_n dJ11_numberOfLeadingZeros_48 rfl ?_
        refine w_bipush (v := nI 16) dJ11_numberOfLeadingZeros_49 kb_16 ?_
        refine w_icmpN_lt dJ11_numberOfLeadingZeros_51 rfl (by omega) (by omega) (fun h_51 => ?_) (fun h_51 => ?_)
        · refine w_iload_n dJ11_numberOfLeadingZeros_61 rfl ?_
          refine w_iconst (v := nI 4) dJ11_numberOfLeadingZeros_62 ki_4 ?_
          refine w_icmpN_lt dJ11_numberOfLeadingZeros_63 rfl (by omega) (by omega) (fun h_63 => ?_) (fun h_63 => ?_)
          · refine w_iload_n dJ11_numberOfLeadingZeros_73 rfl ?_
            refine w_iload_n dJ11_numberOfLeadingZeros_74 rfl ?_
            refine w_iconst (v := nI 1) dJ11_numberOfLeadingZeros_75 ki_1 ?_
            refine w_iushr dJ11_numberOfLeadingZeros_76 rfl ?_
            refine w_isub dJ11_numberOfLeadingZeros_77 ?_
            exact w_iret dJ11_numberOfLeadingZeros_78 rfl ⟨by refine congrArg (fun z => some (Value.int z)) ?_; clear h_1 h_22 h_37; revert h_63; revert h_51 h0 hs; revert s; decide +kernel, rfl⟩
          · refine w_iinc dJ11_numberOfLeadingZeros_66 rfl rfl rfl (Nat.le_of_ble_eq_true rfl) ls_2_1 ?_
            refine w_iload_n dJ11_numberOfLeadingZeros_69 rfl ?_
            refine w_iconst (v := nI 2) dJ11_numberOfLeadingZeros_70 ki_2 ?_
            refine w_iushr dJ11_numberOfLeadingZeros_71 rfl ?_
            refine w_istore_n dJ11_numberOfLeadingZeros_72 rfl (Nat.le_of_ble_eq_true rfl) ls_2_0 ?_
            refine w_iload_n dJ11_numberOfLeadingZeros_73 rfl ?_
            refine w_iload_n dJ11_numberOfLeadingZeros_74 rfl ?_
            refine w_iconst (v := nI 1) dJ11_numberOfLeadingZeros_75 ki_1 ?_
            refine w_iushr dJ11_numberOfLeadingZeros_76 rfl ?_
            refine w_isub dJ11_numberOfLeadingZeros_77 ?_
            exact w_iret dJ11_numberOfLeadingZeros_78 rfl ⟨by refine congrArg (fun z => some (Value.int z)) ?_; clear h_1 h_22 h_37; revert h_63; revert h_51 h0 hs; revert s; decide +kernel, rfl⟩
        · refine w_iinc dJ11_numberOfLeadingZeros_54 rfl rfl rfl (Nat.le_of_ble_eq_true rfl) ls_2_1 ?_
          refine w_iload_n dJ11_numberOfLeadingZeros_57 rfl ?_
          refine w_iconst (v := nI 4) dJ11_numberOfLeadingZeros_58 ki_4 ?_
          refine w_iushr dJ11_numberOfLeadingZeros_59 rfl ?_
          refine w_istore_n dJ11_numberOfLeadingZeros_60 rfl (Nat.le_of_ble_eq_true rfl) ls_2_0 ?_
          refine w_iload_n dJ11_numberOfLeadingZeros_61 rfl ?_
          refine w_iconst (v := nI 4) dJ11_numberOfLeadingZeros_62 ki_4 ?_
          refine w_icmp_lt dJ11_numberOfLeadingZeros_63 rfl (fun h_63 => ?_) (fun h_63 => ?_)
          · refine w_iload_n dJ11_numberOfLeadingZeros_73 rfl ?_
            refine w_iload_n dJ11_numberOfLeadingZeros_74 rfl ?_
            refine w_iconst (v := nI 1) dJ11_numberOfLeadingZeros_75 ki_1 ?_
            refine w_iushr dJ11_numberOfLeadingZeros_76 rfl ?_
            refine w_isub dJ11_numberOfLeadingZeros_77 ?_
            exact w_iret dJ11_numberOfLeadingZeros_78 rfl ⟨by refine congrArg (fun z => some (Value.int z)) ?_; clear h_1 h_22 h_37; revert h_63; revert h_51 h0 hs; revert s; decide +kernel, rfl⟩
          · refine w_iinc dJ11_numberOfLeadingZeros_66 rfl rfl rfl (Nat.le_of_ble_eq_true rfl) ls_2_1 ?_
            refine w_iload_n dJ11_numberOfLeadingZeros_69 rfl ?_
            refine w_iconst (v := nI 2) dJ11_numberOfLeadingZeros_70 ki_2 ?_
            refine w_iushr dJ11_numberOfLeadingZeros_71 rfl ?_
            refine w_istore_n dJ11_numberOfLeadingZeros_72 rfl (Nat.le_of_ble_eq_true rfl) ls_2_0 ?_
            refine w_iload_n dJ11_numberOfLeadingZeros_73 rfl ?_
            refine w_iload_n dJ11_numberOfLeadingZeros_74 rfl ?_
            refine w_iconst (v := nI 1) dJ11_numberOfLeadingZeros_75 ki_1 ?_
            refine w_iushr dJ11_numberOfLeadingZeros_76 rfl ?_
            refine w_isub dJ11_numberOfLeadingZeros_77 ?_
            exact w_iret dJ11_numberOfLeadingZeros_78 rfl ⟨by refine congrArg (fun z => some (Value.int z)) ?_; clear h_1 h_22 h_37; revert h_63; revert h_51 h0 hs; revert s; decide +kernel, rfl⟩
      · exact absurd h_37 (by omega)
    · exact absurd (show nI s < 65536 by revert hs; clear h0 h_1 h_22; revert s; decide +kernel) h_22
  · exact absurd h_1 (by omega)
set_option maxHeartbeats 4000000 in
theorem kInt_highestOneBit {g : GG} {s : Nat} (hs : s < 64) (h0 : 0 < s) : Ms g miJ11_highestOneBit 2 [.int (nI s)] (some (.int (nI (highB s)))) := by
  refine Ms.start [some (.int (nI s))] plJ11 rfl (Nat.le_of_ble_eq_true rfl) rfl ?_
  intro σ
  refine w_iload_n dJ11_highestOneBit_0 rfl ?_
  refine w_ldc dJ11_highestOneBit_1 q1159 ?_
  refine w_iload_n dJ11_highestOneBit_3 rfl ?_
  refine cs_call (mi := miJ11_numberOfLeadingZeros) dJ11_highestOneBit_4 q1160 okJ11_numberOfLeadingZeros (Nat.le_of_ble_eq_true rfl) (kInt_numberOfLeadingZeros (by first | assumption | omega) h0) rfl rfl (Nat.le_of_ble_eq_true rfl) ?_
  refine w_iushr dJ11_highestOneBit_7 rfl ?_
  refine w_iand dJ11_highestOneBit_8 ?_
  exact w_iret dJ11_highestOneBit_9 rfl ⟨by refine congrArg (fun z => some (Value.int z)) ?_; revert h0 hs; revert s; decide +kernel, rfl⟩
