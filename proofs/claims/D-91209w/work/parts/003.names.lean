set_option maxRecDepth 100000
theorem dX2_look_68 : decode cX2_look 68 = .ok (.iaload, 1) := by decide +kernel
theorem dX2_look_69 : decode cX2_look 69 = .ok (.iload_n 2, 1) := by decide +kernel
theorem dX2_look_70 : decode cX2_look 70 = .ok (.if_icmp .ne 70, 3) := by decide +kernel
theorem dX2_look_73 : decode cX2_look 73 = .ok (.aload_n 0, 1) := by decide +kernel
theorem dX2_look_74 : decode cX2_look 74 = .ok (.getfield 22, 3) := by decide +kernel
theorem dX2_look_77 : decode cX2_look 77 = .ok (.iload 5, 2) := by decide +kernel
theorem dX2_look_79 : decode cX2_look 79 = .ok (.iload 6, 2) := by decide +kernel
theorem dX2_look_81 : decode cX2_look 81 = .ok (.invokestatic 113, 3) := by decide +kernel
theorem dX2_look_84 : decode cX2_look 84 = .ok (.iaload, 1) := by decide +kernel
theorem dX2_look_85 : decode cX2_look 85 = .ok (.iload_n 3, 1) := by decide +kernel
theorem dX2_look_86 : decode cX2_look 86 = .ok (.if_icmp .ge 6, 3) := by decide +kernel
theorem dX2_look_89 : decode cX2_look 89 = .ok (.goto 51, 3) := by decide +kernel
theorem dX2_look_92 : decode cX2_look 92 = .ok (.iload 6, 2) := by decide +kernel
theorem dX2_look_94 : decode cX2_look 94 = .ok (.iconst 1, 1) := by decide +kernel
theorem dX2_look_95 : decode cX2_look 95 = .ok (.iadd, 1) := by decide +kernel
theorem dX2_look_96 : decode cX2_look 96 = .ok (.istore 7, 2) := by decide +kernel
theorem dX2_look_98 : decode cX2_look 98 = .ok (.iload 7, 2) := by decide +kernel
theorem dX2_look_100 : decode cX2_look 100 = .ok (.aload_n 0, 1) := by decide +kernel
theorem dX2_look_101 : decode cX2_look 101 = .ok (.getfield 16, 3) := by decide +kernel
theorem dX2_look_104 : decode cX2_look 104 = .ok (.iload 5, 2) := by decide +kernel
theorem dX2_look_106 : decode cX2_look 106 = .ok (.iaload, 1) := by decide +kernel
theorem dX2_look_107 : decode cX2_look 107 = .ok (.if_icmp .ge 33, 3) := by decide +kernel
theorem dX2_look_110 : decode cX2_look 110 = .ok (.aload_n 0, 1) := by decide +kernel
theorem dX2_look_111 : decode cX2_look 111 = .ok (.iload 5, 2) := by decide +kernel
theorem dX2_look_113 : decode cX2_look 113 = .ok (.iload 7, 2) := by decide +kernel
theorem dX2_look_115 : decode cX2_look 115 = .ok (.iconst 1, 1) := by decide +kernel
theorem dX2_look_116 : decode cX2_look 116 = .ok (.isub, 1) := by decide +kernel
theorem dX2_look_117 : decode cX2_look 117 = .ok (.invokevirtual 157, 3) := by decide +kernel
theorem dX2_look_120 : decode cX2_look 120 = .ok (.ifCond .eq 20, 3) := by decide +kernel
theorem dX2_look_123 : decode cX2_look 123 = .ok (.aload_n 0, 1) := by decide +kernel
theorem dX2_look_124 : decode cX2_look 124 = .ok (.iload_n 1, 1) := by decide +kernel
theorem dX2_look_125 : decode cX2_look 125 = .ok (.iload 5, 2) := by decide +kernel
theorem dX2_look_127 : decode cX2_look 127 = .ok (.iload 6, 2) := by decide +kernel
theorem dX2_look_129 : decode cX2_look 129 = .ok (.iload 7, 2) := by decide +kernel
theorem dX2_look_131 : decode cX2_look 131 = .ok (.invokevirtual 161, 3) := by decide +kernel
theorem dX2_look_134 : decode cX2_look 134 = .ok (.iinc 7 1, 3) := by decide +kernel
theorem dX2_look_137 : decode cX2_look 137 = .ok (.goto (-39), 3) := by decide +kernel
theorem dX2_look_140 : decode cX2_look 140 = .ok (.iinc 6 1, 3) := by decide +kernel
theorem dX2_look_143 : decode cX2_look 143 = .ok (.goto (-98), 3) := by decide +kernel
theorem dX2_look_146 : decode cX2_look 146 = .ok (.iinc 5 1, 3) := by decide +kernel
theorem dX2_look_149 : decode cX2_look 149 = .ok (.goto (-120), 3) := by decide +kernel
theorem dX2_look_152 : decode cX2_look 152 = .ok (.return_, 1) := by decide +kernel
abbrev cX2_isFree : ByteArray := prog_10_method_20_code
def yX2_isFree : MethodName := ⟨RX2, "isFree", "(II)Z"⟩
theorem dX2_isFree_0 : decode cX2_isFree 0 = .ok (.aload_n 0, 1) := by decide +kernel
theorem dX2_isFree_1 : decode cX2_isFree 1 = .ok (.getfield 31, 3) := by decide +kernel
theorem dX2_isFree_4 : decode cX2_isFree 4 = .ok (.iload_n 1, 1) := by decide +kernel
theorem dX2_isFree_5 : decode cX2_isFree 5 = .ok (.baload, 1) := by decide +kernel
theorem dX2_isFree_6 : decode cX2_isFree 6 = .ok (.ifCond .ne 26, 3) := by decide +kernel
theorem dX2_isFree_9 : decode cX2_isFree 9 = .ok (.aload_n 0, 1) := by decide +kernel
theorem dX2_isFree_10 : decode cX2_isFree 10 = .ok (.getfield 25, 3) := by decide +kernel
theorem dX2_isFree_13 : decode cX2_isFree 13 = .ok (.iload_n 1, 1) := by decide +kernel
theorem dX2_isFree_14 : decode cX2_isFree 14 = .ok (.iload_n 2, 1) := by decide +kernel
theorem dX2_isFree_15 : decode cX2_isFree 15 = .ok (.invokestatic 113, 3) := by decide +kernel
theorem dX2_isFree_18 : decode cX2_isFree 18 = .ok (.iaload, 1) := by decide +kernel
theorem dX2_isFree_19 : decode cX2_isFree 19 = .ok (.aload_n 0, 1) := by decide +kernel
theorem dX2_isFree_20 : decode cX2_isFree 20 = .ok (.getfield 13, 3) := by decide +kernel
theorem dX2_isFree_23 : decode cX2_isFree 23 = .ok (.iload_n 1, 1) := by decide +kernel
theorem dX2_isFree_24 : decode cX2_isFree 24 = .ok (.iaload, 1) := by decide +kernel
theorem dX2_isFree_25 : decode cX2_isFree 25 = .ok (.if_icmp .ge 7, 3) := by decide +kernel
theorem dX2_isFree_28 : decode cX2_isFree 28 = .ok (.iconst 1, 1) := by decide +kernel
theorem dX2_isFree_29 : decode cX2_isFree 29 = .ok (.goto 4, 3) := by decide +kernel
theorem dX2_isFree_32 : decode cX2_isFree 32 = .ok (.iconst 0, 1) := by decide +kernel
theorem dX2_isFree_33 : decode cX2_isFree 33 = .ok (.ireturn, 1) := by decide +kernel
abbrev cX2_lookLeg : ByteArray := prog_10_method_24_code
def yX2_lookLeg : MethodName := ⟨RX2, "lookLeg", "(IIII)V"⟩
theorem dX2_lookLeg_0 : decode cX2_lookLeg 0 = .ok (.sipush 160, 3) := by decide +kernel
theorem dX2_lookLeg_3 : decode cX2_lookLeg 3 = .ok (.iload_n 1, 1) := by decide +kernel
theorem dX2_lookLeg_4 : decode cX2_lookLeg 4 = .ok (.iconst 1, 1) := by decide +kernel
theorem dX2_lookLeg_5 : decode cX2_lookLeg 5 = .ok (.isub, 1) := by decide +kernel
theorem dX2_lookLeg_6 : decode cX2_lookLeg 6 = .ok (.imul, 1) := by decide +kernel
theorem dX2_lookLeg_7 : decode cX2_lookLeg 7 = .ok (.iload_n 2, 1) := by decide +kernel
theorem dX2_lookLeg_8 : decode cX2_lookLeg 8 = .ok (.iload 4, 2) := by decide +kernel
theorem dX2_lookLeg_10 : decode cX2_lookLeg 10 = .ok (.invokestatic 113, 3) := by decide +kernel
theorem dX2_lookLeg_13 : decode cX2_lookLeg 13 = .ok (.iadd, 1) := by decide +kernel
theorem dX2_lookLeg_14 : decode cX2_lookLeg 14 = .ok (.istore 5, 2) := by decide +kernel
theorem dX2_lookLeg_16 : decode cX2_lookLeg 16 = .ok (.aload_n 0, 1) := by decide +kernel
theorem dX2_lookLeg_17 : decode cX2_lookLeg 17 = .ok (.getfield 83, 3) := by decide +kernel
theorem dX2_lookLeg_20 : decode cX2_lookLeg 20 = .ok (.iload 5, 2) := by decide +kernel
theorem dX2_lookLeg_22 : decode cX2_lookLeg 22 = .ok (.iaload, 1) := by decide +kernel
theorem dX2_lookLeg_23 : decode cX2_lookLeg 23 = .ok (.istore 6, 2) := by decide +kernel
theorem dX2_lookLeg_25 : decode cX2_lookLeg 25 = .ok (.aload_n 0, 1) := by decide +kernel
theorem dX2_lookLeg_26 : decode cX2_lookLeg 26 = .ok (.getfield 86, 3) := by decide +kernel
theorem dX2_lookLeg_29 : decode cX2_lookLeg 29 = .ok (.iload 5, 2) := by decide +kernel
theorem dX2_lookLeg_31 : decode cX2_lookLeg 31 = .ok (.iaload, 1) := by decide +kernel
theorem dX2_lookLeg_32 : decode cX2_lookLeg 32 = .ok (.iconst 1, 1) := by decide +kernel
theorem dX2_lookLeg_33 : decode cX2_lookLeg 33 = .ok (.iadd, 1) := by decide +kernel
theorem dX2_lookLeg_34 : decode cX2_lookLeg 34 = .ok (.istore 7, 2) := by decide +kernel
theorem dX2_lookLeg_36 : decode cX2_lookLeg 36 = .ok (.iload 6, 2) := by decide +kernel
theorem dX2_lookLeg_38 : decode cX2_lookLeg 38 = .ok (.ldc 153, 2) := by decide +kernel
theorem dX2_lookLeg_40 : decode cX2_lookLeg 40 = .ok (.if_icmp .ge 30, 3) := by decide +kernel
theorem dX2_lookLeg_43 : decode cX2_lookLeg 43 = .ok (.iload 6, 2) := by decide +kernel
theorem dX2_lookLeg_45 : decode cX2_lookLeg 45 = .ok (.aload_n 0, 1) := by decide +kernel
theorem dX2_lookLeg_46 : decode cX2_lookLeg 46 = .ok (.getfield 147, 3) := by decide +kernel
theorem dX2_lookLeg_49 : decode cX2_lookLeg 49 = .ok (.if_icmp .gt 21, 3) := by decide +kernel
theorem dX2_lookLeg_52 : decode cX2_lookLeg 52 = .ok (.iload 6, 2) := by decide +kernel
theorem dX2_lookLeg_54 : decode cX2_lookLeg 54 = .ok (.aload_n 0, 1) := by decide +kernel
theorem dX2_lookLeg_55 : decode cX2_lookLeg 55 = .ok (.getfield 147, 3) := by decide +kernel
theorem dX2_lookLeg_58 : decode cX2_lookLeg 58 = .ok (.if_icmp .ne 13, 3) := by decide +kernel
theorem dX2_lookLeg_61 : decode cX2_lookLeg 61 = .ok (.iload 7, 2) := by decide +kernel
theorem dX2_lookLeg_63 : decode cX2_lookLeg 63 = .ok (.aload_n 0, 1) := by decide +kernel
theorem dX2_lookLeg_64 : decode cX2_lookLeg 64 = .ok (.getfield 150, 3) := by decide +kernel
theorem dX2_lookLeg_67 : decode cX2_lookLeg 67 = .ok (.if_icmp .lt 4, 3) := by decide +kernel
theorem dX2_lookLeg_70 : decode cX2_lookLeg 70 = .ok (.return_, 1) := by decide +kernel
theorem dX2_lookLeg_71 : decode cX2_lookLeg 71 = .ok (.aload_n 0, 1) := by decide +kernel
theorem dX2_lookLeg_72 : decode cX2_lookLeg 72 = .ok (.iload 6, 2) := by decide +kernel
theorem dX2_lookLeg_74 : decode cX2_lookLeg 74 = .ok (.putfield 147, 3) := by decide +kernel
theorem dX2_lookLeg_77 : decode cX2_lookLeg 77 = .ok (.aload_n 0, 1) := by decide +kernel
theorem dX2_lookLeg_78 : decode cX2_lookLeg 78 = .ok (.iload 7, 2) := by decide +kernel
theorem dX2_lookLeg_80 : decode cX2_lookLeg 80 = .ok (.putfield 150, 3) := by decide +kernel
theorem dX2_lookLeg_83 : decode cX2_lookLeg 83 = .ok (.aload_n 0, 1) := by decide +kernel
theorem dX2_lookLeg_84 : decode cX2_lookLeg 84 = .ok (.iload_n 2, 1) := by decide +kernel
theorem dX2_lookLeg_85 : decode cX2_lookLeg 85 = .ok (.putfield 154, 3) := by decide +kernel
theorem dX2_lookLeg_88 : decode cX2_lookLeg 88 = .ok (.aload_n 0, 1) := by decide +kernel
theorem dX2_lookLeg_89 : decode cX2_lookLeg 89 = .ok (.iload_n 3, 1) := by decide +kernel
theorem dX2_lookLeg_90 : decode cX2_lookLeg 90 = .ok (.putfield 164, 3) := by decide +kernel
theorem dX2_lookLeg_93 : decode cX2_lookLeg 93 = .ok (.aload_n 0, 1) := by decide +kernel
theorem dX2_lookLeg_94 : decode cX2_lookLeg 94 = .ok (.iload 4, 2) := by decide +kernel
theorem dX2_lookLeg_96 : decode cX2_lookLeg 96 = .ok (.putfield 167, 3) := by decide +kernel
theorem dX2_lookLeg_99 : decode cX2_lookLeg 99 = .ok (.return_, 1) := by decide +kernel
abbrev cX2_legAt : ByteArray := prog_10_method_16_code
def yX2_legAt : MethodName := ⟨RX2, "legAt", "(II)I"⟩
theorem dX2_legAt_0 : decode cX2_legAt 0 = .ok (.iconst 3, 1) := by decide +kernel
theorem dX2_legAt_1 : decode cX2_legAt 1 = .ok (.iload_n 0, 1) := by decide +kernel
theorem dX2_legAt_2 : decode cX2_legAt 2 = .ok (.imul, 1) := by decide +kernel
theorem dX2_legAt_3 : decode cX2_legAt 3 = .ok (.iload_n 1, 1) := by decide +kernel
theorem dX2_legAt_4 : decode cX2_legAt 4 = .ok (.iadd, 1) := by decide +kernel
theorem dX2_legAt_5 : decode cX2_legAt 5 = .ok (.ireturn, 1) := by decide +kernel
abbrev cX2_load0 : ByteArray := prog_10_method_26_code
def yX2_load0 : MethodName := ⟨RX2, "load0", "(III)V"⟩
theorem dX2_load0_0 : decode cX2_load0 0 = .ok (.iload_n 2, 1) := by decide +kernel
theorem dX2_load0_1 : decode cX2_load0 1 = .ok (.istore 4, 2) := by decide +kernel
theorem dX2_load0_3 : decode cX2_load0 3 = .ok (.iload 4, 2) := by decide +kernel
theorem dX2_load0_5 : decode cX2_load0 5 = .ok (.aload_n 0, 1) := by decide +kernel
theorem dX2_load0_6 : decode cX2_load0 6 = .ok (.getfield 65, 3) := by decide +kernel
theorem dX2_load0_9 : decode cX2_load0 9 = .ok (.iload_n 1, 1) := by decide +kernel
theorem dX2_load0_10 : decode cX2_load0 10 = .ok (.iaload, 1) := by decide +kernel
theorem dX2_load0_11 : decode cX2_load0 11 = .ok (.if_icmp .ge 65, 3) := by decide +kernel
theorem dX2_load0_14 : decode cX2_load0 14 = .ok (.iload_n 1, 1) := by decide +kernel
theorem dX2_load0_15 : decode cX2_load0 15 = .ok (.iload 4, 2) := by decide +kernel
theorem dX2_load0_17 : decode cX2_load0 17 = .ok (.invokestatic 127, 3) := by decide +kernel
theorem dX2_load0_20 : decode cX2_load0 20 = .ok (.istore 5, 2) := by decide +kernel
theorem dX2_load0_22 : decode cX2_load0 22 = .ok (.aload_n 0, 1) := by decide +kernel
theorem dX2_load0_23 : decode cX2_load0 23 = .ok (.getfield 77, 3) := by decide +kernel
theorem dX2_load0_26 : decode cX2_load0 26 = .ok (.iload 5, 2) := by decide +kernel
theorem dX2_load0_28 : decode cX2_load0 28 = .ok (.iaload, 1) := by decide +kernel
theorem dX2_load0_29 : decode cX2_load0 29 = .ok (.istore 6, 2) := by decide +kernel
theorem dX2_load0_31 : decode cX2_load0 31 = .ok (.iload 6, 2) := by decide +kernel
theorem dX2_load0_33 : decode cX2_load0 33 = .ok (.aload_n 0, 1) := by decide +kernel
theorem dX2_load0_34 : decode cX2_load0 34 = .ok (.getfield 80, 3) := by decide +kernel
theorem dX2_load0_37 : decode cX2_load0 37 = .ok (.iload 5, 2) := by decide +kernel
theorem dX2_load0_39 : decode cX2_load0 39 = .ok (.iaload, 1) := by decide +kernel
theorem dX2_load0_40 : decode cX2_load0 40 = .ok (.if_icmp .ge 30, 3) := by decide +kernel
theorem dX2_load0_43 : decode cX2_load0 43 = .ok (.aload_n 0, 1) := by decide +kernel
theorem dX2_load0_44 : decode cX2_load0 44 = .ok (.getfield 25, 3) := by decide +kernel
theorem dX2_load0_47 : decode cX2_load0 47 = .ok (.aload_n 0, 1) := by decide +kernel
theorem dX2_load0_48 : decode cX2_load0 48 = .ok (.getfield 74, 3) := by decide +kernel
theorem dX2_load0_51 : decode cX2_load0 51 = .ok (.iload 5, 2) := by decide +kernel
theorem dX2_load0_53 : decode cX2_load0 53 = .ok (.iaload, 1) := by decide +kernel
theorem dX2_load0_54 : decode cX2_load0 54 = .ok (.iload 6, 2) := by decide +kernel
theorem dX2_load0_56 : decode cX2_load0 56 = .ok (.invokestatic 113, 3) := by decide +kernel
theorem dX2_load0_59 : decode cX2_load0 59 = .ok (.dup2, 1) := by decide +kernel
theorem dX2_load0_60 : decode cX2_load0 60 = .ok (.iaload, 1) := by decide +kernel
theorem dX2_load0_61 : decode cX2_load0 61 = .ok (.iload_n 3, 1) := by decide +kernel
theorem dX2_load0_62 : decode cX2_load0 62 = .ok (.iadd, 1) := by decide +kernel
theorem dX2_load0_63 : decode cX2_load0 63 = .ok (.iastore, 1) := by decide +kernel
theorem dX2_load0_64 : decode cX2_load0 64 = .ok (.iinc 6 1, 3) := by decide +kernel
theorem dX2_load0_67 : decode cX2_load0 67 = .ok (.goto (-36), 3) := by decide +kernel
theorem dX2_load0_70 : decode cX2_load0 70 = .ok (.iinc 4 1, 3) := by decide +kernel
theorem dX2_load0_73 : decode cX2_load0 73 = .ok (.goto (-70), 3) := by decide +kernel
theorem dX2_load0_76 : decode cX2_load0 76 = .ok (.return_, 1) := by decide +kernel
abbrev cX2_readyOf : ByteArray := prog_10_method_14_code
def yX2_readyOf : MethodName := ⟨RX2, "readyOf", "(I)I"⟩
theorem dX2_readyOf_0 : decode cX2_readyOf 0 = .ok (.aload_n 0, 1) := by decide +kernel
theorem dX2_readyOf_1 : decode cX2_readyOf 1 = .ok (.getfield 56, 3) := by decide +kernel
theorem dX2_readyOf_4 : decode cX2_readyOf 4 = .ok (.iload_n 1, 1) := by decide +kernel
theorem dX2_readyOf_5 : decode cX2_readyOf 5 = .ok (.baload, 1) := by decide +kernel
theorem dX2_readyOf_6 : decode cX2_readyOf 6 = .ok (.ifCond .eq 12, 3) := by decide +kernel
theorem dX2_readyOf_9 : decode cX2_readyOf 9 = .ok (.aload_n 0, 1) := by decide +kernel
theorem dX2_readyOf_10 : decode cX2_readyOf 10 = .ok (.getfield 53, 3) := by decide +kernel
theorem dX2_readyOf_13 : decode cX2_readyOf 13 = .ok (.iload_n 1, 1) := by decide +kernel
theorem dX2_readyOf_14 : decode cX2_readyOf 14 = .ok (.iaload, 1) := by decide +kernel
theorem dX2_readyOf_15 : decode cX2_readyOf 15 = .ok (.goto 9, 3) := by decide +kernel
theorem dX2_readyOf_18 : decode cX2_readyOf 18 = .ok (.aload_n 0, 1) := by decide +kernel
theorem dX2_readyOf_19 : decode cX2_readyOf 19 = .ok (.getfield 41, 3) := by decide +kernel
theorem dX2_readyOf_22 : decode cX2_readyOf 22 = .ok (.iload_n 1, 1) := by decide +kernel
theorem dX2_readyOf_23 : decode cX2_readyOf 23 = .ok (.iaload, 1) := by decide +kernel
theorem dX2_readyOf_24 : decode cX2_readyOf 24 = .ok (.ireturn, 1) := by decide +kernel
abbrev cX2_fromOf : ByteArray := prog_10_method_12_code
def yX2_fromOf : MethodName := ⟨RX2, "fromOf", "(I)I"⟩
theorem dX2_fromOf_0 : decode cX2_fromOf 0 = .ok (.aload_n 0, 1) := by decide +kernel
theorem dX2_fromOf_1 : decode cX2_fromOf 1 = .ok (.getfield 56, 3) := by decide +kernel
theorem dX2_fromOf_4 : decode cX2_fromOf 4 = .ok (.iload_n 1, 1) := by decide +kernel
theorem dX2_fromOf_5 : decode cX2_fromOf 5 = .ok (.baload, 1) := by decide +kernel
theorem dX2_fromOf_6 : decode cX2_fromOf 6 = .ok (.ifCond .eq 12, 3) := by decide +kernel
theorem dX2_fromOf_9 : decode cX2_fromOf 9 = .ok (.aload_n 0, 1) := by decide +kernel
theorem dX2_fromOf_10 : decode cX2_fromOf 10 = .ok (.getfield 44, 3) := by decide +kernel
theorem dX2_fromOf_13 : decode cX2_fromOf 13 = .ok (.iload_n 1, 1) := by decide +kernel
theorem dX2_fromOf_14 : decode cX2_fromOf 14 = .ok (.iaload, 1) := by decide +kernel
theorem dX2_fromOf_15 : decode cX2_fromOf 15 = .ok (.goto 9, 3) := by decide +kernel
theorem dX2_fromOf_18 : decode cX2_fromOf 18 = .ok (.aload_n 0, 1) := by decide +kernel
theorem dX2_fromOf_19 : decode cX2_fromOf 19 = .ok (.getfield 35, 3) := by decide +kernel
theorem dX2_fromOf_22 : decode cX2_fromOf 22 = .ok (.iload_n 1, 1) := by decide +kernel
theorem dX2_fromOf_23 : decode cX2_fromOf 23 = .ok (.iaload, 1) := by decide +kernel
theorem dX2_fromOf_24 : decode cX2_fromOf 24 = .ok (.ireturn, 1) := by decide +kernel
abbrev cX2_sortedAt : ByteArray := prog_10_method_15_code
def yX2_sortedAt : MethodName := ⟨RX2, "sortedAt", "(I)I"⟩
theorem dX2_sortedAt_0 : decode cX2_sortedAt 0 = .ok (.aload_n 0, 1) := by decide +kernel
theorem dX2_sortedAt_1 : decode cX2_sortedAt 1 = .ok (.iload_n 1, 1) := by decide +kernel
theorem dX2_sortedAt_2 : decode cX2_sortedAt 2 = .ok (.invokevirtual 117, 3) := by decide +kernel
theorem dX2_sortedAt_5 : decode cX2_sortedAt 5 = .ok (.aload_n 0, 1) := by decide +kernel
theorem dX2_sortedAt_6 : decode cX2_sortedAt 6 = .ok (.getfield 56, 3) := by decide +kernel
theorem dX2_sortedAt_9 : decode cX2_sortedAt 9 = .ok (.iload_n 1, 1) := by decide +kernel
theorem dX2_sortedAt_10 : decode cX2_sortedAt 10 = .ok (.baload, 1) := by decide +kernel
theorem dX2_sortedAt_11 : decode cX2_sortedAt 11 = .ok (.ifCond .eq 12, 3) := by decide +kernel
theorem dX2_sortedAt_14 : decode cX2_sortedAt 14 = .ok (.aload_n 0, 1) := by decide +kernel
theorem dX2_sortedAt_15 : decode cX2_sortedAt 15 = .ok (.getfield 47, 3) := by decide +kernel
theorem dX2_sortedAt_18 : decode cX2_sortedAt 18 = .ok (.iload_n 1, 1) := by decide +kernel
theorem dX2_sortedAt_19 : decode cX2_sortedAt 19 = .ok (.iaload, 1) := by decide +kernel
theorem dX2_sortedAt_20 : decode cX2_sortedAt 20 = .ok (.goto 9, 3) := by decide +kernel
theorem dX2_sortedAt_23 : decode cX2_sortedAt 23 = .ok (.aload_n 0, 1) := by decide +kernel
theorem dX2_sortedAt_24 : decode cX2_sortedAt 24 = .ok (.getfield 38, 3) := by decide +kernel
theorem dX2_sortedAt_27 : decode cX2_sortedAt 27 = .ok (.iload_n 1, 1) := by decide +kernel
theorem dX2_sortedAt_28 : decode cX2_sortedAt 28 = .ok (.iaload, 1) := by decide +kernel
theorem dX2_sortedAt_29 : decode cX2_sortedAt 29 = .ok (.iadd, 1) := by decide +kernel
theorem dX2_sortedAt_30 : decode cX2_sortedAt 30 = .ok (.aload_n 0, 1) := by decide +kernel
theorem dX2_sortedAt_31 : decode cX2_sortedAt 31 = .ok (.getfield 9, 3) := by decide +kernel
theorem dX2_sortedAt_34 : decode cX2_sortedAt 34 = .ok (.aload_n 0, 1) := by decide +kernel
theorem dX2_sortedAt_35 : decode cX2_sortedAt 35 = .ok (.iload_n 1, 1) := by decide +kernel
theorem dX2_sortedAt_36 : decode cX2_sortedAt 36 = .ok (.invokevirtual 121, 3) := by decide +kernel
theorem dX2_sortedAt_39 : decode cX2_sortedAt 39 = .ok (.iaload, 1) := by decide +kernel
theorem dX2_sortedAt_40 : decode cX2_sortedAt 40 = .ok (.iadd, 1) := by decide +kernel
theorem dX2_sortedAt_41 : decode cX2_sortedAt 41 = .ok (.ireturn, 1) := by decide +kernel
abbrev cX2_minutes : ByteArray := prog_10_method_29_code
def yX2_minutes : MethodName := ⟨RX2, "minutes", "(I)I"⟩
theorem dX2_minutes_0 : decode cX2_minutes 0 = .ok (.aload_n 0, 1) := by decide +kernel
theorem dX2_minutes_1 : decode cX2_minutes 1 = .ok (.iconst 0, 1) := by decide +kernel
theorem dX2_minutes_2 : decode cX2_minutes 2 = .ok (.putfield 92, 3) := by decide +kernel
theorem dX2_minutes_5 : decode cX2_minutes 5 = .ok (.iload_n 1, 1) := by decide +kernel
theorem dX2_minutes_6 : decode cX2_minutes 6 = .ok (.ifCond .lt 15, 3) := by decide +kernel
theorem dX2_minutes_9 : decode cX2_minutes 9 = .ok (.iload_n 1, 1) := by decide +kernel
theorem dX2_minutes_10 : decode cX2_minutes 10 = .ok (.sipush 1439, 3) := by decide +kernel
theorem dX2_minutes_13 : decode cX2_minutes 13 = .ok (.aload_n 0, 1) := by decide +kernel
theorem dX2_minutes_14 : decode cX2_minutes 14 = .ok (.getfield 185, 3) := by decide +kernel
theorem dX2_minutes_17 : decode cX2_minutes 17 = .ok (.isub, 1) := by decide +kernel
theorem dX2_minutes_18 : decode cX2_minutes 18 = .ok (.if_icmp .le 8, 3) := by decide +kernel
theorem dX2_minutes_21 : decode cX2_minutes 21 = .ok (.aload_n 0, 1) := by decide +kernel
theorem dX2_minutes_22 : decode cX2_minutes 22 = .ok (.invokevirtual 109, 3) := by decide +kernel
theorem dX2_minutes_25 : decode cX2_minutes 25 = .ok (.ireturn, 1) := by decide +kernel
theorem dX2_minutes_26 : decode cX2_minutes 26 = .ok (.aload_n 0, 1) := by decide +kernel
theorem dX2_minutes_27 : decode cX2_minutes 27 = .ok (.dup, 1) := by decide +kernel
theorem dX2_minutes_28 : decode cX2_minutes 28 = .ok (.getfield 185, 3) := by decide +kernel
theorem dX2_minutes_31 : decode cX2_minutes 31 = .ok (.iload_n 1, 1) := by decide +kernel
theorem dX2_minutes_32 : decode cX2_minutes 32 = .ok (.iadd, 1) := by decide +kernel
theorem dX2_minutes_33 : decode cX2_minutes 33 = .ok (.putfield 185, 3) := by decide +kernel
theorem dX2_minutes_36 : decode cX2_minutes 36 = .ok (.aload_n 0, 1) := by decide +kernel
theorem dX2_minutes_37 : decode cX2_minutes 37 = .ok (.getfield 185, 3) := by decide +kernel
theorem dX2_minutes_40 : decode cX2_minutes 40 = .ok (.ireturn, 1) := by decide +kernel
abbrev cX2_cancel : ByteArray := prog_10_method_31_code
def yX2_cancel : MethodName := ⟨RX2, "cancel", "(I)I"⟩
theorem dX2_cancel_0 : decode cX2_cancel 0 = .ok (.aload_n 0, 1) := by decide +kernel
theorem dX2_cancel_1 : decode cX2_cancel 1 = .ok (.iconst 0, 1) := by decide +kernel
theorem dX2_cancel_2 : decode cX2_cancel 2 = .ok (.putfield 92, 3) := by decide +kernel
theorem dX2_cancel_5 : decode cX2_cancel 5 = .ok (.aload_n 0, 1) := by decide +kernel
theorem dX2_cancel_6 : decode cX2_cancel 6 = .ok (.iload_n 1, 1) := by decide +kernel
theorem dX2_cancel_7 : decode cX2_cancel 7 = .ok (.invokevirtual 105, 3) := by decide +kernel
theorem dX2_cancel_10 : decode cX2_cancel 10 = .ok (.ifCond .ne 8, 3) := by decide +kernel
theorem dX2_cancel_13 : decode cX2_cancel 13 = .ok (.aload_n 0, 1) := by decide +kernel
theorem dX2_cancel_14 : decode cX2_cancel 14 = .ok (.invokevirtual 109, 3) := by decide +kernel
theorem dX2_cancel_17 : decode cX2_cancel 17 = .ok (.ireturn, 1) := by decide +kernel
theorem dX2_cancel_18 : decode cX2_cancel 18 = .ok (.aload_n 0, 1) := by decide +kernel
theorem dX2_cancel_19 : decode cX2_cancel 19 = .ok (.getfield 31, 3) := by decide +kernel
theorem dX2_cancel_22 : decode cX2_cancel 22 = .ok (.iload_n 1, 1) := by decide +kernel
theorem dX2_cancel_23 : decode cX2_cancel 23 = .ok (.baload, 1) := by decide +kernel
theorem dX2_cancel_24 : decode cX2_cancel 24 = .ok (.ifCond .ne 29, 3) := by decide +kernel
theorem dX2_cancel_27 : decode cX2_cancel 27 = .ok (.aload_n 0, 1) := by decide +kernel
theorem dX2_cancel_28 : decode cX2_cancel 28 = .ok (.getfield 16, 3) := by decide +kernel
theorem dX2_cancel_31 : decode cX2_cancel 31 = .ok (.iload_n 1, 1) := by decide +kernel
theorem dX2_cancel_32 : decode cX2_cancel 32 = .ok (.iaload, 1) := by decide +kernel
theorem dX2_cancel_33 : decode cX2_cancel 33 = .ok (.ifCond .eq 20, 3) := by decide +kernel
theorem dX2_cancel_36 : decode cX2_cancel 36 = .ok (.aload_n 0, 1) := by decide +kernel
theorem dX2_cancel_37 : decode cX2_cancel 37 = .ok (.getfield 22, 3) := by decide +kernel
theorem dX2_cancel_40 : decode cX2_cancel 40 = .ok (.iload_n 1, 1) := by decide +kernel
theorem dX2_cancel_41 : decode cX2_cancel 41 = .ok (.iconst 0, 1) := by decide +kernel
theorem dX2_cancel_42 : decode cX2_cancel 42 = .ok (.invokestatic 113, 3) := by decide +kernel
theorem dX2_cancel_45 : decode cX2_cancel 45 = .ok (.iaload, 1) := by decide +kernel
theorem dX2_cancel_46 : decode cX2_cancel 46 = .ok (.aload_n 0, 1) := by decide +kernel
theorem dX2_cancel_47 : decode cX2_cancel 47 = .ok (.getfield 185, 3) := by decide +kernel
theorem dX2_cancel_50 : decode cX2_cancel 50 = .ok (.if_icmp .gt 5, 3) := by decide +kernel
theorem dX2_cancel_53 : decode cX2_cancel 53 = .ok (.iconst (-1), 1) := by decide +kernel
theorem dX2_cancel_54 : decode cX2_cancel 54 = .ok (.ireturn, 1) := by decide +kernel
theorem dX2_cancel_55 : decode cX2_cancel 55 = .ok (.aload_n 0, 1) := by decide +kernel
theorem dX2_cancel_56 : decode cX2_cancel 56 = .ok (.getfield 31, 3) := by decide +kernel
theorem dX2_cancel_59 : decode cX2_cancel 59 = .ok (.iload_n 1, 1) := by decide +kernel
theorem dX2_cancel_60 : decode cX2_cancel 60 = .ok (.iconst 1, 1) := by decide +kernel
theorem dX2_cancel_61 : decode cX2_cancel 61 = .ok (.bastore, 1) := by decide +kernel
theorem dX2_cancel_62 : decode cX2_cancel 62 = .ok (.iconst 0, 1) := by decide +kernel
theorem dX2_cancel_63 : decode cX2_cancel 63 = .ok (.istore_n 2, 1) := by decide +kernel
theorem dX2_cancel_64 : decode cX2_cancel 64 = .ok (.iconst 0, 1) := by decide +kernel
theorem dX2_cancel_65 : decode cX2_cancel 65 = .ok (.istore_n 3, 1) := by decide +kernel
theorem dX2_cancel_66 : decode cX2_cancel 66 = .ok (.iload_n 3, 1) := by decide +kernel
theorem dX2_cancel_67 : decode cX2_cancel 67 = .ok (.aload_n 0, 1) := by decide +kernel
theorem dX2_cancel_68 : decode cX2_cancel 68 = .ok (.getfield 99, 3) := by decide +kernel
theorem dX2_cancel_71 : decode cX2_cancel 71 = .ok (.if_icmp .ge 79, 3) := by decide +kernel
theorem dX2_cancel_74 : decode cX2_cancel 74 = .ok (.aload_n 0, 1) := by decide +kernel
theorem dX2_cancel_75 : decode cX2_cancel 75 = .ok (.iload_n 3, 1) := by decide +kernel
theorem dX2_cancel_76 : decode cX2_cancel 76 = .ok (.iload_n 1, 1) := by decide +kernel
theorem dX2_cancel_77 : decode cX2_cancel 77 = .ok (.invokevirtual 196, 3) := by decide +kernel
theorem dX2_cancel_80 : decode cX2_cancel 80 = .ok (.istore 4, 2) := by decide +kernel
theorem dX2_cancel_82 : decode cX2_cancel 82 = .ok (.aload_n 0, 1) := by decide +kernel
theorem dX2_cancel_83 : decode cX2_cancel 83 = .ok (.getfield 89, 3) := by decide +kernel
theorem dX2_cancel_86 : decode cX2_cancel 86 = .ok (.iload_n 3, 1) := by decide +kernel
theorem dX2_cancel_87 : decode cX2_cancel 87 = .ok (.iload 4, 2) := by decide +kernel
theorem dX2_cancel_89 : decode cX2_cancel 89 = .ok (.iconst (-1), 1) := by decide +kernel
theorem dX2_cancel_90 : decode cX2_cancel 90 = .ok (.if_icmp .eq 7, 3) := by decide +kernel
theorem dX2_cancel_93 : decode cX2_cancel 93 = .ok (.iconst 1, 1) := by decide +kernel
theorem dX2_cancel_94 : decode cX2_cancel 94 = .ok (.goto 4, 3) := by decide +kernel
theorem dX2_cancel_97 : decode cX2_cancel 97 = .ok (.iconst 0, 1) := by decide +kernel
theorem dX2_cancel_98 : decode cX2_cancel 98 = .ok (.bastore, 1) := by decide +kernel
theorem dX2_cancel_99 : decode cX2_cancel 99 = .ok (.iload 4, 2) := by decide +kernel
theorem dX2_cancel_101 : decode cX2_cancel 101 = .ok (.iconst (-1), 1) := by decide +kernel
theorem dX2_cancel_102 : decode cX2_cancel 102 = .ok (.if_icmp .ne 6, 3) := by decide +kernel
theorem dX2_cancel_105 : decode cX2_cancel 105 = .ok (.goto 39, 3) := by decide +kernel
theorem dX2_cancel_108 : decode cX2_cancel 108 = .ok (.aload_n 0, 1) := by decide +kernel
theorem dX2_cancel_109 : decode cX2_cancel 109 = .ok (.iload_n 3, 1) := by decide +kernel
theorem dX2_cancel_110 : decode cX2_cancel 110 = .ok (.invokevirtual 133, 3) := by decide +kernel
theorem dX2_cancel_113 : decode cX2_cancel 113 = .ok (.istore 5, 2) := by decide +kernel
theorem dX2_cancel_115 : decode cX2_cancel 115 = .ok (.aload_n 0, 1) := by decide +kernel
theorem dX2_cancel_116 : decode cX2_cancel 116 = .ok (.iload 5, 2) := by decide +kernel
theorem dX2_cancel_118 : decode cX2_cancel 118 = .ok (.iload 4, 2) := by decide +kernel
theorem dX2_cancel_120 : decode cX2_cancel 120 = .ok (.iconst (-1), 1) := by decide +kernel
theorem dX2_cancel_121 : decode cX2_cancel 121 = .ok (.invokevirtual 181, 3) := by decide +kernel
theorem dX2_cancel_124 : decode cX2_cancel 124 = .ok (.aload_n 0, 1) := by decide +kernel
theorem dX2_cancel_125 : decode cX2_cancel 125 = .ok (.getfield 65, 3) := by decide +kernel
theorem dX2_cancel_128 : decode cX2_cancel 128 = .ok (.iload 5, 2) := by decide +kernel
theorem dX2_cancel_130 : decode cX2_cancel 130 = .ok (.iload 4, 2) := by decide +kernel
theorem dX2_cancel_132 : decode cX2_cancel 132 = .ok (.iastore, 1) := by decide +kernel
theorem dX2_cancel_133 : decode cX2_cancel 133 = .ok (.aload_n 0, 1) := by decide +kernel
theorem dX2_cancel_134 : decode cX2_cancel 134 = .ok (.getfield 62, 3) := by decide +kernel
theorem dX2_cancel_137 : decode cX2_cancel 137 = .ok (.iload 5, 2) := by decide +kernel
theorem dX2_cancel_139 : decode cX2_cancel 139 = .ok (.iconst 0, 1) := by decide +kernel
theorem dX2_cancel_140 : decode cX2_cancel 140 = .ok (.bastore, 1) := by decide +kernel
theorem dX2_cancel_141 : decode cX2_cancel 141 = .ok (.iinc 2 1, 3) := by decide +kernel
theorem dX2_cancel_144 : decode cX2_cancel 144 = .ok (.iinc 3 1, 3) := by decide +kernel
theorem dX2_cancel_147 : decode cX2_cancel 147 = .ok (.goto (-81), 3) := by decide +kernel
theorem dX2_cancel_150 : decode cX2_cancel 150 = .ok (.iconst 0, 1) := by decide +kernel
theorem dX2_cancel_151 : decode cX2_cancel 151 = .ok (.istore_n 3, 1) := by decide +kernel
theorem dX2_cancel_152 : decode cX2_cancel 152 = .ok (.iload_n 3, 1) := by decide +kernel
theorem dX2_cancel_153 : decode cX2_cancel 153 = .ok (.aload_n 0, 1) := by decide +kernel
theorem dX2_cancel_154 : decode cX2_cancel 154 = .ok (.getfield 99, 3) := by decide +kernel
theorem dX2_cancel_157 : decode cX2_cancel 157 = .ok (.if_icmp .ge 135, 3) := by decide +kernel
theorem dX2_cancel_160 : decode cX2_cancel 160 = .ok (.aload_n 0, 1) := by decide +kernel
theorem dX2_cancel_161 : decode cX2_cancel 161 = .ok (.getfield 89, 3) := by decide +kernel
theorem dX2_cancel_164 : decode cX2_cancel 164 = .ok (.iload_n 3, 1) := by decide +kernel
theorem dX2_cancel_165 : decode cX2_cancel 165 = .ok (.baload, 1) := by decide +kernel
theorem dX2_cancel_166 : decode cX2_cancel 166 = .ok (.ifCond .ne 6, 3) := by decide +kernel
theorem dX2_cancel_169 : decode cX2_cancel 169 = .ok (.goto 117, 3) := by decide +kernel
theorem dX2_cancel_172 : decode cX2_cancel 172 = .ok (.aload_n 0, 1) := by decide +kernel
theorem dX2_cancel_173 : decode cX2_cancel 173 = .ok (.iload_n 3, 1) := by decide +kernel
theorem dX2_cancel_174 : decode cX2_cancel 174 = .ok (.invokevirtual 133, 3) := by decide +kernel
theorem dX2_cancel_177 : decode cX2_cancel 177 = .ok (.istore 4, 2) := by decide +kernel
theorem dX2_cancel_179 : decode cX2_cancel 179 = .ok (.iload 4, 2) := by decide +kernel
theorem dX2_cancel_181 : decode cX2_cancel 181 = .ok (.aload_n 0, 1) := by decide +kernel
theorem dX2_cancel_182 : decode cX2_cancel 182 = .ok (.getfield 65, 3) := by decide +kernel
theorem dX2_cancel_185 : decode cX2_cancel 185 = .ok (.iload 4, 2) := by decide +kernel
theorem dX2_cancel_187 : decode cX2_cancel 187 = .ok (.iaload, 1) := by decide +kernel
theorem dX2_cancel_188 : decode cX2_cancel 188 = .ok (.iconst 1, 1) := by decide +kernel
theorem dX2_cancel_189 : decode cX2_cancel 189 = .ok (.isub, 1) := by decide +kernel
theorem dX2_cancel_190 : decode cX2_cancel 190 = .ok (.invokestatic 127, 3) := by decide +kernel
theorem dX2_cancel_193 : decode cX2_cancel 193 = .ok (.istore 5, 2) := by decide +kernel
theorem dX2_cancel_195 : decode cX2_cancel 195 = .ok (.aload_n 0, 1) := by decide +kernel
theorem dX2_cancel_196 : decode cX2_cancel 196 = .ok (.getfield 65, 3) := by decide +kernel
theorem dX2_cancel_199 : decode cX2_cancel 199 = .ok (.iload 4, 2) := by decide +kernel
theorem dX2_cancel_201 : decode cX2_cancel 201 = .ok (.iaload, 1) := by decide +kernel
theorem dX2_cancel_202 : decode cX2_cancel 202 = .ok (.ifCond .ne 11, 3) := by decide +kernel
theorem dX2_cancel_205 : decode cX2_cancel 205 = .ok (.aload_n 0, 1) := by decide +kernel
theorem dX2_cancel_206 : decode cX2_cancel 206 = .ok (.iload_n 3, 1) := by decide +kernel
theorem dX2_cancel_207 : decode cX2_cancel 207 = .ok (.invokevirtual 121, 3) := by decide +kernel
theorem dX2_cancel_210 : decode cX2_cancel 210 = .ok (.goto 25, 3) := by decide +kernel
theorem dX2_cancel_213 : decode cX2_cancel 213 = .ok (.aload_n 0, 1) := by decide +kernel
theorem dX2_cancel_214 : decode cX2_cancel 214 = .ok (.getfield 19, 3) := by decide +kernel
theorem dX2_cancel_217 : decode cX2_cancel 217 = .ok (.aload_n 0, 1) := by decide +kernel
theorem dX2_cancel_218 : decode cX2_cancel 218 = .ok (.getfield 74, 3) := by decide +kernel
theorem dX2_cancel_221 : decode cX2_cancel 221 = .ok (.iload 5, 2) := by decide +kernel
theorem dX2_cancel_223 : decode cX2_cancel 223 = .ok (.iaload, 1) := by decide +kernel
theorem dX2_cancel_224 : decode cX2_cancel 224 = .ok (.aload_n 0, 1) := by decide +kernel
theorem dX2_cancel_225 : decode cX2_cancel 225 = .ok (.getfield 80, 3) := by decide +kernel
theorem dX2_cancel_228 : decode cX2_cancel 228 = .ok (.iload 5, 2) := by decide +kernel
theorem dX2_cancel_230 : decode cX2_cancel 230 = .ok (.iaload, 1) := by decide +kernel
theorem dX2_cancel_231 : decode cX2_cancel 231 = .ok (.invokestatic 113, 3) := by decide +kernel
theorem dX2_cancel_234 : decode cX2_cancel 234 = .ok (.iaload, 1) := by decide +kernel
theorem dX2_cancel_235 : decode cX2_cancel 235 = .ok (.istore 6, 2) := by decide +kernel
theorem dX2_cancel_237 : decode cX2_cancel 237 = .ok (.aload_n 0, 1) := by decide +kernel
theorem dX2_cancel_238 : decode cX2_cancel 238 = .ok (.getfield 185, 3) := by decide +kernel
theorem dX2_cancel_241 : decode cX2_cancel 241 = .ok (.aload_n 0, 1) := by decide +kernel
theorem dX2_cancel_242 : decode cX2_cancel 242 = .ok (.iload 4, 2) := by decide +kernel
theorem dX2_cancel_244 : decode cX2_cancel 244 = .ok (.iload_n 3, 1) := by decide +kernel
theorem dX2_cancel_245 : decode cX2_cancel 245 = .ok (.invokevirtual 136, 3) := by decide +kernel
theorem dX2_cancel_248 : decode cX2_cancel 248 = .ok (.invokestatic 188, 3) := by decide +kernel
theorem dX2_cancel_251 : decode cX2_cancel 251 = .ok (.istore 7, 2) := by decide +kernel
theorem dX2_cancel_253 : decode cX2_cancel 253 = .ok (.aload_n 0, 1) := by decide +kernel
theorem dX2_cancel_254 : decode cX2_cancel 254 = .ok (.iload_n 3, 1) := by decide +kernel
theorem dX2_cancel_255 : decode cX2_cancel 255 = .ok (.iload 6, 2) := by decide +kernel
theorem dX2_cancel_257 : decode cX2_cancel 257 = .ok (.iload 7, 2) := by decide +kernel
theorem dX2_cancel_259 : decode cX2_cancel 259 = .ok (.invokevirtual 193, 3) := by decide +kernel
theorem dX2_cancel_262 : decode cX2_cancel 262 = .ok (.ifCond .eq 6, 3) := by decide +kernel
theorem dX2_cancel_265 : decode cX2_cancel 265 = .ok (.goto 21, 3) := by decide +kernel
theorem dX2_cancel_268 : decode cX2_cancel 268 = .ok (.aload_n 0, 1) := by decide +kernel
theorem dX2_cancel_269 : decode cX2_cancel 269 = .ok (.getfield 68, 3) := by decide +kernel
theorem dX2_cancel_272 : decode cX2_cancel 272 = .ok (.iload 4, 2) := by decide +kernel
theorem dX2_cancel_274 : decode cX2_cancel 274 = .ok (.iload 6, 2) := by decide +kernel
theorem dX2_cancel_276 : decode cX2_cancel 276 = .ok (.iastore, 1) := by decide +kernel
theorem dX2_cancel_277 : decode cX2_cancel 277 = .ok (.aload_n 0, 1) := by decide +kernel
theorem dX2_cancel_278 : decode cX2_cancel 278 = .ok (.getfield 71, 3) := by decide +kernel
theorem dX2_cancel_281 : decode cX2_cancel 281 = .ok (.iload 4, 2) := by decide +kernel
theorem dX2_cancel_283 : decode cX2_cancel 283 = .ok (.iload 7, 2) := by decide +kernel
theorem dX2_cancel_285 : decode cX2_cancel 285 = .ok (.iastore, 1) := by decide +kernel
theorem dX2_cancel_286 : decode cX2_cancel 286 = .ok (.iinc 3 1, 3) := by decide +kernel
theorem dX2_cancel_289 : decode cX2_cancel 289 = .ok (.goto (-137), 3) := by decide +kernel
theorem dX2_cancel_292 : decode cX2_cancel 292 = .ok (.iload_n 2, 1) := by decide +kernel
theorem dX2_cancel_293 : decode cX2_cancel 293 = .ok (.ireturn, 1) := by decide +kernel
abbrev cX2_firstOn : ByteArray := prog_10_method_30_code
def yX2_firstOn : MethodName := ⟨RX2, "firstOn", "(II)I"⟩
theorem dX2_firstOn_0 : decode cX2_firstOn 0 = .ok (.aload_n 0, 1) := by decide +kernel
theorem dX2_firstOn_1 : decode cX2_firstOn 1 = .ok (.iload_n 1, 1) := by decide +kernel
theorem dX2_firstOn_2 : decode cX2_firstOn 2 = .ok (.invokevirtual 133, 3) := by decide +kernel
theorem dX2_firstOn_5 : decode cX2_firstOn 5 = .ok (.istore_n 3, 1) := by decide +kernel
theorem dX2_firstOn_6 : decode cX2_firstOn 6 = .ok (.iconst 0, 1) := by decide +kernel
theorem dX2_firstOn_7 : decode cX2_firstOn 7 = .ok (.istore 4, 2) := by decide +kernel
theorem dX2_firstOn_9 : decode cX2_firstOn 9 = .ok (.iload 4, 2) := by decide +kernel
theorem dX2_firstOn_11 : decode cX2_firstOn 11 = .ok (.aload_n 0, 1) := by decide +kernel
theorem dX2_firstOn_12 : decode cX2_firstOn 12 = .ok (.getfield 65, 3) := by decide +kernel
theorem dX2_firstOn_15 : decode cX2_firstOn 15 = .ok (.iload_n 3, 1) := by decide +kernel
theorem dX2_firstOn_16 : decode cX2_firstOn 16 = .ok (.iaload, 1) := by decide +kernel
theorem dX2_firstOn_17 : decode cX2_firstOn 17 = .ok (.if_icmp .ge 27, 3) := by decide +kernel
theorem dX2_firstOn_20 : decode cX2_firstOn 20 = .ok (.aload_n 0, 1) := by decide +kernel
theorem dX2_firstOn_21 : decode cX2_firstOn 21 = .ok (.getfield 74, 3) := by decide +kernel
theorem dX2_firstOn_24 : decode cX2_firstOn 24 = .ok (.iload_n 3, 1) := by decide +kernel
theorem dX2_firstOn_25 : decode cX2_firstOn 25 = .ok (.iload 4, 2) := by decide +kernel
theorem dX2_firstOn_27 : decode cX2_firstOn 27 = .ok (.invokestatic 127, 3) := by decide +kernel
theorem dX2_firstOn_30 : decode cX2_firstOn 30 = .ok (.iaload, 1) := by decide +kernel
theorem dX2_firstOn_31 : decode cX2_firstOn 31 = .ok (.iload_n 2, 1) := by decide +kernel
theorem dX2_firstOn_32 : decode cX2_firstOn 32 = .ok (.if_icmp .ne 6, 3) := by decide +kernel
theorem dX2_firstOn_35 : decode cX2_firstOn 35 = .ok (.iload 4, 2) := by decide +kernel
theorem dX2_firstOn_37 : decode cX2_firstOn 37 = .ok (.ireturn, 1) := by decide +kernel
theorem dX2_firstOn_38 : decode cX2_firstOn 38 = .ok (.iinc 4 1, 3) := by decide +kernel
theorem dX2_firstOn_41 : decode cX2_firstOn 41 = .ok (.goto (-32), 3) := by decide +kernel
theorem dX2_firstOn_44 : decode cX2_firstOn 44 = .ok (.iconst (-1), 1) := by decide +kernel
theorem dX2_firstOn_45 : decode cX2_firstOn 45 = .ok (.ireturn, 1) := by decide +kernel
abbrev cX2_there : ByteArray := prog_10_method_18_code
def yX2_there : MethodName := ⟨RX2, "there", "(II)I"⟩
theorem dX2_there_0 : decode cX2_there 0 = .ok (.aload_n 0, 1) := by decide +kernel
theorem dX2_there_1 : decode cX2_there 1 = .ok (.getfield 65, 3) := by decide +kernel
theorem dX2_there_4 : decode cX2_there 4 = .ok (.iload_n 1, 1) := by decide +kernel
theorem dX2_there_5 : decode cX2_there 5 = .ok (.iaload, 1) := by decide +kernel
theorem dX2_there_6 : decode cX2_there 6 = .ok (.ifCond .ne 11, 3) := by decide +kernel
theorem dX2_there_9 : decode cX2_there 9 = .ok (.aload_n 0, 1) := by decide +kernel
theorem dX2_there_10 : decode cX2_there 10 = .ok (.iload_n 2, 1) := by decide +kernel
theorem dX2_there_11 : decode cX2_there 11 = .ok (.invokevirtual 124, 3) := by decide +kernel
theorem dX2_there_14 : decode cX2_there 14 = .ok (.goto 19, 3) := by decide +kernel
theorem dX2_there_17 : decode cX2_there 17 = .ok (.aload_n 0, 1) := by decide +kernel
theorem dX2_there_18 : decode cX2_there 18 = .ok (.iload_n 1, 1) := by decide +kernel
theorem dX2_there_19 : decode cX2_there 19 = .ok (.aload_n 0, 1) := by decide +kernel
theorem dX2_there_20 : decode cX2_there 20 = .ok (.getfield 65, 3) := by decide +kernel
theorem dX2_there_23 : decode cX2_there 23 = .ok (.iload_n 1, 1) := by decide +kernel
theorem dX2_there_24 : decode cX2_there 24 = .ok (.iaload, 1) := by decide +kernel
theorem dX2_there_25 : decode cX2_there 25 = .ok (.iconst 1, 1) := by decide +kernel
theorem dX2_there_26 : decode cX2_there 26 = .ok (.isub, 1) := by decide +kernel
theorem dX2_there_27 : decode cX2_there 27 = .ok (.invokestatic 127, 3) := by decide +kernel
theorem dX2_there_30 : decode cX2_there 30 = .ok (.invokevirtual 130, 3) := by decide +kernel
theorem dX2_there_33 : decode cX2_there 33 = .ok (.ireturn, 1) := by decide +kernel
abbrev cX2_behind : ByteArray := prog_10_method_17_code
def yX2_behind : MethodName := ⟨RX2, "behind", "(I)I"⟩
theorem dX2_behind_0 : decode cX2_behind 0 = .ok (.aload_n 0, 1) := by decide +kernel
theorem dX2_behind_1 : decode cX2_behind 1 = .ok (.getfield 74, 3) := by decide +kernel
theorem dX2_behind_4 : decode cX2_behind 4 = .ok (.iload_n 1, 1) := by decide +kernel
theorem dX2_behind_5 : decode cX2_behind 5 = .ok (.iaload, 1) := by decide +kernel
theorem dX2_behind_6 : decode cX2_behind 6 = .ok (.aload_n 0, 1) := by decide +kernel
theorem dX2_behind_7 : decode cX2_behind 7 = .ok (.getfield 80, 3) := by decide +kernel
theorem dX2_behind_10 : decode cX2_behind 10 = .ok (.iload_n 1, 1) := by decide +kernel
theorem dX2_behind_11 : decode cX2_behind 11 = .ok (.iaload, 1) := by decide +kernel
theorem dX2_behind_12 : decode cX2_behind 12 = .ok (.invokestatic 113, 3) := by decide +kernel
theorem dX2_behind_15 : decode cX2_behind 15 = .ok (.istore_n 2, 1) := by decide +kernel
theorem dX2_behind_16 : decode cX2_behind 16 = .ok (.aload_n 0, 1) := by decide +kernel
theorem dX2_behind_17 : decode cX2_behind 17 = .ok (.getfield 22, 3) := by decide +kernel
theorem dX2_behind_20 : decode cX2_behind 20 = .ok (.iload_n 2, 1) := by decide +kernel
theorem dX2_behind_21 : decode cX2_behind 21 = .ok (.iaload, 1) := by decide +kernel
theorem dX2_behind_22 : decode cX2_behind 22 = .ok (.aload_n 0, 1) := by decide +kernel
theorem dX2_behind_23 : decode cX2_behind 23 = .ok (.getfield 9, 3) := by decide +kernel
theorem dX2_behind_26 : decode cX2_behind 26 = .ok (.aload_n 0, 1) := by decide +kernel
theorem dX2_behind_27 : decode cX2_behind 27 = .ok (.getfield 19, 3) := by decide +kernel
theorem dX2_behind_30 : decode cX2_behind 30 = .ok (.iload_n 2, 1) := by decide +kernel
theorem dX2_behind_31 : decode cX2_behind 31 = .ok (.iaload, 1) := by decide +kernel
theorem dX2_behind_32 : decode cX2_behind 32 = .ok (.iaload, 1) := by decide +kernel
theorem dX2_behind_33 : decode cX2_behind 33 = .ok (.iadd, 1) := by decide +kernel
theorem dX2_behind_34 : decode cX2_behind 34 = .ok (.ireturn, 1) := by decide +kernel
abbrev cX2_empty : ByteArray := prog_10_method_32_code
def yX2_empty : MethodName := ⟨RX2, "empty", "(II)Z"⟩
theorem dX2_empty_0 : decode cX2_empty 0 = .ok (.aload_n 0, 1) := by decide +kernel
theorem dX2_empty_1 : decode cX2_empty 1 = .ok (.iconst 0, 1) := by decide +kernel
theorem dX2_empty_2 : decode cX2_empty 2 = .ok (.putfield 92, 3) := by decide +kernel
theorem dX2_empty_5 : decode cX2_empty 5 = .ok (.aload_n 0, 1) := by decide +kernel
theorem dX2_empty_6 : decode cX2_empty 6 = .ok (.iload_n 1, 1) := by decide +kernel
theorem dX2_empty_7 : decode cX2_empty 7 = .ok (.invokevirtual 199, 3) := by decide +kernel
theorem dX2_empty_10 : decode cX2_empty 10 = .ok (.ifCond .ne 10, 3) := by decide +kernel
theorem dX2_empty_13 : decode cX2_empty 13 = .ok (.aload_n 0, 1) := by decide +kernel
theorem dX2_empty_14 : decode cX2_empty 14 = .ok (.invokevirtual 109, 3) := by decide +kernel
theorem dX2_empty_17 : decode cX2_empty 17 = .ok (.pop, 1) := by decide +kernel
theorem dX2_empty_18 : decode cX2_empty 18 = .ok (.iconst 0, 1) := by decide +kernel
theorem dX2_empty_19 : decode cX2_empty 19 = .ok (.ireturn, 1) := by decide +kernel
theorem dX2_empty_20 : decode cX2_empty 20 = .ok (.aload_n 0, 1) := by decide +kernel
theorem dX2_empty_21 : decode cX2_empty 21 = .ok (.getfield 56, 3) := by decide +kernel
theorem dX2_empty_24 : decode cX2_empty 24 = .ok (.iload_n 1, 1) := by decide +kernel
theorem dX2_empty_25 : decode cX2_empty 25 = .ok (.baload, 1) := by decide +kernel
theorem dX2_empty_26 : decode cX2_empty 26 = .ok (.ifCond .ne 39, 3) := by decide +kernel
theorem dX2_empty_29 : decode cX2_empty 29 = .ok (.aload_n 0, 1) := by decide +kernel
theorem dX2_empty_30 : decode cX2_empty 30 = .ok (.iload_n 1, 1) := by decide +kernel
theorem dX2_empty_31 : decode cX2_empty 31 = .ok (.invokevirtual 202, 3) := by decide +kernel
theorem dX2_empty_34 : decode cX2_empty 34 = .ok (.iconst (-1), 1) := by decide +kernel
theorem dX2_empty_35 : decode cX2_empty 35 = .ok (.if_icmp .eq 30, 3) := by decide +kernel
theorem dX2_empty_38 : decode cX2_empty 38 = .ok (.aload_n 0, 1) := by decide +kernel
theorem dX2_empty_39 : decode cX2_empty 39 = .ok (.iload_n 1, 1) := by decide +kernel
theorem dX2_empty_40 : decode cX2_empty 40 = .ok (.invokevirtual 202, 3) := by decide +kernel
theorem dX2_empty_43 : decode cX2_empty 43 = .ok (.aload_n 0, 1) := by decide +kernel
theorem dX2_empty_44 : decode cX2_empty 44 = .ok (.getfield 185, 3) := by decide +kernel
theorem dX2_empty_47 : decode cX2_empty 47 = .ok (.if_icmp .gt 18, 3) := by decide +kernel
theorem dX2_empty_50 : decode cX2_empty 50 = .ok (.iload_n 2, 1) := by decide +kernel
theorem dX2_empty_51 : decode cX2_empty 51 = .ok (.aload_n 0, 1) := by decide +kernel
theorem dX2_empty_52 : decode cX2_empty 52 = .ok (.getfield 185, 3) := by decide +kernel
theorem dX2_empty_55 : decode cX2_empty 55 = .ok (.if_icmp .lt 10, 3) := by decide +kernel
theorem dX2_empty_58 : decode cX2_empty 58 = .ok (.iload_n 2, 1) := by decide +kernel
theorem dX2_empty_59 : decode cX2_empty 59 = .ok (.sipush 1439, 3) := by decide +kernel
theorem dX2_empty_62 : decode cX2_empty 62 = .ok (.if_icmp .le 5, 3) := by decide +kernel
theorem dX2_empty_65 : decode cX2_empty 65 = .ok (.iconst 0, 1) := by decide +kernel
theorem dX2_empty_66 : decode cX2_empty 66 = .ok (.ireturn, 1) := by decide +kernel
theorem dX2_empty_67 : decode cX2_empty 67 = .ok (.aload_n 0, 1) := by decide +kernel
theorem dX2_empty_68 : decode cX2_empty 68 = .ok (.getfield 56, 3) := by decide +kernel
theorem dX2_empty_71 : decode cX2_empty 71 = .ok (.iload_n 1, 1) := by decide +kernel
theorem dX2_empty_72 : decode cX2_empty 72 = .ok (.iconst 1, 1) := by decide +kernel
theorem dX2_empty_73 : decode cX2_empty 73 = .ok (.bastore, 1) := by decide +kernel
theorem dX2_empty_74 : decode cX2_empty 74 = .ok (.aload_n 0, 1) := by decide +kernel
theorem dX2_empty_75 : decode cX2_empty 75 = .ok (.getfield 53, 3) := by decide +kernel
theorem dX2_empty_78 : decode cX2_empty 78 = .ok (.iload_n 1, 1) := by decide +kernel
theorem dX2_empty_79 : decode cX2_empty 79 = .ok (.iload_n 2, 1) := by decide +kernel
theorem dX2_empty_80 : decode cX2_empty 80 = .ok (.iastore, 1) := by decide +kernel
theorem dX2_empty_81 : decode cX2_empty 81 = .ok (.iconst 1, 1) := by decide +kernel
theorem dX2_empty_82 : decode cX2_empty 82 = .ok (.ireturn, 1) := by decide +kernel
abbrev cX2_isBox : ByteArray := prog_10_method_5_code
def yX2_isBox : MethodName := ⟨RX2, "isBox", "(I)Z"⟩
theorem dX2_isBox_0 : decode cX2_isBox 0 = .ok (.iload_n 1, 1) := by decide +kernel
theorem dX2_isBox_1 : decode cX2_isBox 1 = .ok (.ifCond .lt 15, 3) := by decide +kernel
theorem dX2_isBox_4 : decode cX2_isBox 4 = .ok (.iload_n 1, 1) := by decide +kernel
theorem dX2_isBox_5 : decode cX2_isBox 5 = .ok (.aload_n 0, 1) := by decide +kernel
theorem dX2_isBox_6 : decode cX2_isBox 6 = .ok (.getfield 99, 3) := by decide +kernel
theorem dX2_isBox_9 : decode cX2_isBox 9 = .ok (.if_icmp .ge 7, 3) := by decide +kernel
theorem dX2_isBox_12 : decode cX2_isBox 12 = .ok (.iconst 1, 1) := by decide +kernel
theorem dX2_isBox_13 : decode cX2_isBox 13 = .ok (.goto 4, 3) := by decide +kernel
theorem dX2_isBox_16 : decode cX2_isBox 16 = .ok (.iconst 0, 1) := by decide +kernel
theorem dX2_isBox_17 : decode cX2_isBox 17 = .ok (.ireturn, 1) := by decide +kernel
abbrev cX2_arrives : ByteArray := prog_10_method_19_code
def yX2_arrives : MethodName := ⟨RX2, "arrives", "(I)I"⟩
theorem dX2_arrives_0 : decode cX2_arrives 0 = .ok (.aload_n 0, 1) := by decide +kernel
theorem dX2_arrives_1 : decode cX2_arrives 1 = .ok (.iload_n 1, 1) := by decide +kernel
theorem dX2_arrives_2 : decode cX2_arrives 2 = .ok (.invokevirtual 133, 3) := by decide +kernel
theorem dX2_arrives_5 : decode cX2_arrives 5 = .ok (.istore_n 2, 1) := by decide +kernel
theorem dX2_arrives_6 : decode cX2_arrives 6 = .ok (.aload_n 0, 1) := by decide +kernel
theorem dX2_arrives_7 : decode cX2_arrives 7 = .ok (.getfield 62, 3) := by decide +kernel
theorem dX2_arrives_10 : decode cX2_arrives 10 = .ok (.iload_n 2, 1) := by decide +kernel
theorem dX2_arrives_11 : decode cX2_arrives 11 = .ok (.baload, 1) := by decide +kernel
theorem dX2_arrives_12 : decode cX2_arrives 12 = .ok (.ifCond .eq 37, 3) := by decide +kernel
theorem dX2_arrives_15 : decode cX2_arrives 15 = .ok (.aload_n 0, 1) := by decide +kernel
theorem dX2_arrives_16 : decode cX2_arrives 16 = .ok (.iload_n 2, 1) := by decide +kernel
theorem dX2_arrives_17 : decode cX2_arrives 17 = .ok (.iload_n 1, 1) := by decide +kernel
theorem dX2_arrives_18 : decode cX2_arrives 18 = .ok (.invokevirtual 136, 3) := by decide +kernel
theorem dX2_arrives_21 : decode cX2_arrives 21 = .ok (.aload_n 0, 1) := by decide +kernel
theorem dX2_arrives_22 : decode cX2_arrives 22 = .ok (.getfield 56, 3) := by decide +kernel
theorem dX2_arrives_25 : decode cX2_arrives 25 = .ok (.iload_n 1, 1) := by decide +kernel
theorem dX2_arrives_26 : decode cX2_arrives 26 = .ok (.baload, 1) := by decide +kernel
theorem dX2_arrives_27 : decode cX2_arrives 27 = .ok (.ifCond .eq 12, 3) := by decide +kernel
theorem dX2_arrives_30 : decode cX2_arrives 30 = .ok (.aload_n 0, 1) := by decide +kernel
theorem dX2_arrives_31 : decode cX2_arrives 31 = .ok (.getfield 38, 3) := by decide +kernel
theorem dX2_arrives_34 : decode cX2_arrives 34 = .ok (.iload_n 1, 1) := by decide +kernel
theorem dX2_arrives_35 : decode cX2_arrives 35 = .ok (.iaload, 1) := by decide +kernel
theorem dX2_arrives_36 : decode cX2_arrives 36 = .ok (.goto 9, 3) := by decide +kernel
theorem dX2_arrives_39 : decode cX2_arrives 39 = .ok (.aload_n 0, 1) := by decide +kernel
theorem dX2_arrives_40 : decode cX2_arrives 40 = .ok (.getfield 47, 3) := by decide +kernel
theorem dX2_arrives_43 : decode cX2_arrives 43 = .ok (.iload_n 1, 1) := by decide +kernel
theorem dX2_arrives_44 : decode cX2_arrives 44 = .ok (.iaload, 1) := by decide +kernel
theorem dX2_arrives_45 : decode cX2_arrives 45 = .ok (.iadd, 1) := by decide +kernel
theorem dX2_arrives_46 : decode cX2_arrives 46 = .ok (.goto 4, 3) := by decide +kernel
theorem dX2_arrives_49 : decode cX2_arrives 49 = .ok (.iconst (-1), 1) := by decide +kernel
theorem dX2_arrives_50 : decode cX2_arrives 50 = .ok (.ireturn, 1) := by decide +kernel
abbrev cX2_of : ByteArray := prog_10_method_35_code
def yX2_of : MethodName := ⟨RX2, "of", "(II)I"⟩
theorem dX2_of_0 : decode cX2_of 0 = .ok (.aload_n 0, 1) := by decide +kernel
theorem dX2_of_1 : decode cX2_of 1 = .ok (.iconst 0, 1) := by decide +kernel
theorem dX2_of_2 : decode cX2_of 2 = .ok (.putfield 92, 3) := by decide +kernel
theorem dX2_of_5 : decode cX2_of 5 = .ok (.aload_n 0, 1) := by decide +kernel
theorem dX2_of_6 : decode cX2_of 6 = .ok (.iload_n 1, 1) := by decide +kernel
theorem dX2_of_7 : decode cX2_of 7 = .ok (.invokevirtual 199, 3) := by decide +kernel
theorem dX2_of_10 : decode cX2_of 10 = .ok (.ifCond .ne 8, 3) := by decide +kernel
theorem dX2_of_13 : decode cX2_of 13 = .ok (.aload_n 0, 1) := by decide +kernel
theorem dX2_of_14 : decode cX2_of 14 = .ok (.invokevirtual 109, 3) := by decide +kernel
theorem dX2_of_17 : decode cX2_of 17 = .ok (.ireturn, 1) := by decide +kernel
theorem dX2_of_18 : decode cX2_of 18 = .ok (.aload_n 0, 1) := by decide +kernel
theorem dX2_of_19 : decode cX2_of 19 = .ok (.iload_n 1, 1) := by decide +kernel
theorem dX2_of_20 : decode cX2_of 20 = .ok (.invokevirtual 133, 3) := by decide +kernel
theorem dX2_of_23 : decode cX2_of 23 = .ok (.istore_n 3, 1) := by decide +kernel
theorem dX2_of_24 : decode cX2_of 24 = .ok (.iload_n 2, 1) := by decide +kernel
theorem dX2_of_25 : decode cX2_of 25 = .ok (.tableswitch 127 0 6 #[43, 50, 56, 70, 84, 91, 112], 43) := by decide +kernel
theorem dX2_of_68 : decode cX2_of 68 = .ok (.aload_n 0, 1) := by decide +kernel
theorem dX2_of_69 : decode cX2_of 69 = .ok (.getfield 65, 3) := by decide +kernel
theorem dX2_of_72 : decode cX2_of 72 = .ok (.iload_n 3, 1) := by decide +kernel
theorem dX2_of_73 : decode cX2_of 73 = .ok (.iaload, 1) := by decide +kernel
theorem dX2_of_74 : decode cX2_of 74 = .ok (.ireturn, 1) := by decide +kernel
theorem dX2_of_75 : decode cX2_of 75 = .ok (.aload_n 0, 1) := by decide +kernel
theorem dX2_of_76 : decode cX2_of 76 = .ok (.iload_n 1, 1) := by decide +kernel
theorem dX2_of_77 : decode cX2_of 77 = .ok (.invokevirtual 202, 3) := by decide +kernel
theorem dX2_of_80 : decode cX2_of 80 = .ok (.ireturn, 1) := by decide +kernel
theorem dX2_of_81 : decode cX2_of 81 = .ok (.aload_n 0, 1) := by decide +kernel
theorem dX2_of_82 : decode cX2_of 82 = .ok (.iload_n 1, 1) := by decide +kernel
theorem dX2_of_83 : decode cX2_of 83 = .ok (.invokevirtual 205, 3) := by decide +kernel
theorem dX2_of_86 : decode cX2_of 86 = .ok (.ifCond .eq 7, 3) := by decide +kernel
theorem dX2_of_89 : decode cX2_of 89 = .ok (.iconst 1, 1) := by decide +kernel
theorem dX2_of_90 : decode cX2_of 90 = .ok (.goto 4, 3) := by decide +kernel
theorem dX2_of_93 : decode cX2_of 93 = .ok (.iconst 0, 1) := by decide +kernel
theorem dX2_of_94 : decode cX2_of 94 = .ok (.ireturn, 1) := by decide +kernel
theorem dX2_of_95 : decode cX2_of 95 = .ok (.aload_n 0, 1) := by decide +kernel
theorem dX2_of_96 : decode cX2_of 96 = .ok (.iload_n 1, 1) := by decide +kernel
theorem dX2_of_97 : decode cX2_of 97 = .ok (.invokevirtual 208, 3) := by decide +kernel
theorem dX2_of_100 : decode cX2_of 100 = .ok (.ifCond .eq 7, 3) := by decide +kernel
theorem dX2_of_103 : decode cX2_of 103 = .ok (.iconst 1, 1) := by decide +kernel
theorem dX2_of_104 : decode cX2_of 104 = .ok (.goto 4, 3) := by decide +kernel
theorem dX2_of_107 : decode cX2_of 107 = .ok (.iconst 0, 1) := by decide +kernel
theorem dX2_of_108 : decode cX2_of 108 = .ok (.ireturn, 1) := by decide +kernel
theorem dX2_of_109 : decode cX2_of 109 = .ok (.aload_n 0, 1) := by decide +kernel
theorem dX2_of_110 : decode cX2_of 110 = .ok (.getfield 68, 3) := by decide +kernel
theorem dX2_of_113 : decode cX2_of 113 = .ok (.iload_n 3, 1) := by decide +kernel
theorem dX2_of_114 : decode cX2_of 114 = .ok (.iaload, 1) := by decide +kernel
theorem dX2_of_115 : decode cX2_of 115 = .ok (.ireturn, 1) := by decide +kernel
theorem dX2_of_116 : decode cX2_of 116 = .ok (.aload_n 0, 1) := by decide +kernel
theorem dX2_of_117 : decode cX2_of 117 = .ok (.getfield 68, 3) := by decide +kernel
theorem dX2_of_120 : decode cX2_of 120 = .ok (.iload_n 3, 1) := by decide +kernel
theorem dX2_of_121 : decode cX2_of 121 = .ok (.iaload, 1) := by decide +kernel
theorem dX2_of_122 : decode cX2_of 122 = .ok (.iconst (-1), 1) := by decide +kernel
theorem dX2_of_123 : decode cX2_of 123 = .ok (.if_icmp .ne 7, 3) := by decide +kernel
theorem dX2_of_126 : decode cX2_of 126 = .ok (.iconst (-1), 1) := by decide +kernel
theorem dX2_of_127 : decode cX2_of 127 = .ok (.goto 9, 3) := by decide +kernel
theorem dX2_of_130 : decode cX2_of 130 = .ok (.aload_n 0, 1) := by decide +kernel
theorem dX2_of_131 : decode cX2_of 131 = .ok (.getfield 71, 3) := by decide +kernel
theorem dX2_of_134 : decode cX2_of 134 = .ok (.iload_n 3, 1) := by decide +kernel
theorem dX2_of_135 : decode cX2_of 135 = .ok (.iaload, 1) := by decide +kernel
theorem dX2_of_136 : decode cX2_of 136 = .ok (.ireturn, 1) := by decide +kernel
theorem dX2_of_137 : decode cX2_of 137 = .ok (.aload_n 0, 1) := by decide +kernel
theorem dX2_of_138 : decode cX2_of 138 = .ok (.getfield 56, 3) := by decide +kernel
theorem dX2_of_141 : decode cX2_of 141 = .ok (.iload_n 1, 1) := by decide +kernel
theorem dX2_of_142 : decode cX2_of 142 = .ok (.baload, 1) := by decide +kernel
theorem dX2_of_143 : decode cX2_of 143 = .ok (.ifCond .eq 7, 3) := by decide +kernel
theorem dX2_of_146 : decode cX2_of 146 = .ok (.iconst 1, 1) := by decide +kernel
theorem dX2_of_147 : decode cX2_of 147 = .ok (.goto 4, 3) := by decide +kernel
theorem dX2_of_150 : decode cX2_of 150 = .ok (.iconst 0, 1) := by decide +kernel
theorem dX2_of_151 : decode cX2_of 151 = .ok (.ireturn, 1) := by decide +kernel
theorem dX2_of_152 : decode cX2_of 152 = .ok (.aload_n 0, 1) := by decide +kernel
theorem dX2_of_153 : decode cX2_of 153 = .ok (.invokevirtual 109, 3) := by decide +kernel
theorem dX2_of_156 : decode cX2_of 156 = .ok (.ireturn, 1) := by decide +kernel
abbrev cX2_isGone : ByteArray := prog_10_method_33_code
def yX2_isGone : MethodName := ⟨RX2, "isGone", "(I)Z"⟩
theorem dX2_isGone_0 : decode cX2_isGone 0 = .ok (.aload_n 0, 1) := by decide +kernel
theorem dX2_isGone_1 : decode cX2_isGone 1 = .ok (.iload_n 1, 1) := by decide +kernel
theorem dX2_isGone_2 : decode cX2_isGone 2 = .ok (.invokevirtual 117, 3) := by decide +kernel
theorem dX2_isGone_5 : decode cX2_isGone 5 = .ok (.aload_n 0, 1) := by decide +kernel
theorem dX2_isGone_6 : decode cX2_isGone 6 = .ok (.getfield 185, 3) := by decide +kernel
theorem dX2_isGone_9 : decode cX2_isGone 9 = .ok (.if_icmp .gt 20, 3) := by decide +kernel
theorem dX2_isGone_12 : decode cX2_isGone 12 = .ok (.aload_n 0, 1) := by decide +kernel
theorem dX2_isGone_13 : decode cX2_isGone 13 = .ok (.getfield 59, 3) := by decide +kernel
theorem dX2_isGone_16 : decode cX2_isGone 16 = .ok (.aload_n 0, 1) := by decide +kernel
theorem dX2_isGone_17 : decode cX2_isGone 17 = .ok (.iload_n 1, 1) := by decide +kernel
theorem dX2_isGone_18 : decode cX2_isGone 18 = .ok (.invokevirtual 133, 3) := by decide +kernel
theorem dX2_isGone_21 : decode cX2_isGone 21 = .ok (.baload, 1) := by decide +kernel
theorem dX2_isGone_22 : decode cX2_isGone 22 = .ok (.ifCond .eq 7, 3) := by decide +kernel
theorem dX2_isGone_25 : decode cX2_isGone 25 = .ok (.iconst 1, 1) := by decide +kernel
theorem dX2_isGone_26 : decode cX2_isGone 26 = .ok (.goto 4, 3) := by decide +kernel
theorem dX2_isGone_29 : decode cX2_isGone 29 = .ok (.iconst 0, 1) := by decide +kernel
theorem dX2_isGone_30 : decode cX2_isGone 30 = .ok (.ireturn, 1) := by decide +kernel
abbrev cX2_isLate : ByteArray := prog_10_method_34_code
def yX2_isLate : MethodName := ⟨RX2, "isLate", "(I)Z"⟩
theorem dX2_isLate_0 : decode cX2_isLate 0 = .ok (.aload_n 0, 1) := by decide +kernel
theorem dX2_isLate_1 : decode cX2_isLate 1 = .ok (.iload_n 1, 1) := by decide +kernel
theorem dX2_isLate_2 : decode cX2_isLate 2 = .ok (.invokevirtual 202, 3) := by decide +kernel
theorem dX2_isLate_5 : decode cX2_isLate 5 = .ok (.aload_n 0, 1) := by decide +kernel
theorem dX2_isLate_6 : decode cX2_isLate 6 = .ok (.getfield 56, 3) := by decide +kernel
theorem dX2_isLate_9 : decode cX2_isLate 9 = .ok (.iload_n 1, 1) := by decide +kernel
theorem dX2_isLate_10 : decode cX2_isLate 10 = .ok (.baload, 1) := by decide +kernel
theorem dX2_isLate_11 : decode cX2_isLate 11 = .ok (.ifCond .eq 9, 3) := by decide +kernel
theorem dX2_isLate_14 : decode cX2_isLate 14 = .ok (.sipush 1439, 3) := by decide +kernel
theorem dX2_isLate_17 : decode cX2_isLate 17 = .ok (.goto 9, 3) := by decide +kernel
theorem dX2_isLate_20 : decode cX2_isLate 20 = .ok (.aload_n 0, 1) := by decide +kernel
theorem dX2_isLate_21 : decode cX2_isLate 21 = .ok (.getfield 50, 3) := by decide +kernel
theorem dX2_isLate_24 : decode cX2_isLate 24 = .ok (.iload_n 1, 1) := by decide +kernel
theorem dX2_isLate_25 : decode cX2_isLate 25 = .ok (.iaload, 1) := by decide +kernel
theorem dX2_isLate_26 : decode cX2_isLate 26 = .ok (.if_icmp .le 7, 3) := by decide +kernel
theorem dX2_isLate_29 : decode cX2_isLate 29 = .ok (.iconst 1, 1) := by decide +kernel
theorem dX2_isLate_30 : decode cX2_isLate 30 = .ok (.goto 4, 3) := by decide +kernel
theorem dX2_isLate_33 : decode cX2_isLate 33 = .ok (.iconst 0, 1) := by decide +kernel
theorem dX2_isLate_34 : decode cX2_isLate 34 = .ok (.ireturn, 1) := by decide +kernel
abbrev cX2_leg : ByteArray := prog_10_method_36_code
def yX2_leg : MethodName := ⟨RX2, "leg", "(III)I"⟩
theorem dX2_leg_0 : decode cX2_leg 0 = .ok (.aload_n 0, 1) := by decide +kernel
theorem dX2_leg_1 : decode cX2_leg 1 = .ok (.iconst 0, 1) := by decide +kernel
theorem dX2_leg_2 : decode cX2_leg 2 = .ok (.putfield 92, 3) := by decide +kernel
theorem dX2_leg_5 : decode cX2_leg 5 = .ok (.aload_n 0, 1) := by decide +kernel
theorem dX2_leg_6 : decode cX2_leg 6 = .ok (.iload_n 1, 1) := by decide +kernel
theorem dX2_leg_7 : decode cX2_leg 7 = .ok (.invokevirtual 199, 3) := by decide +kernel
theorem dX2_leg_10 : decode cX2_leg 10 = .ok (.ifCond .eq 39, 3) := by decide +kernel
theorem dX2_leg_13 : decode cX2_leg 13 = .ok (.iload_n 2, 1) := by decide +kernel
theorem dX2_leg_14 : decode cX2_leg 14 = .ok (.ifCond .lt 35, 3) := by decide +kernel
theorem dX2_leg_17 : decode cX2_leg 17 = .ok (.iload_n 2, 1) := by decide +kernel
theorem dX2_leg_18 : decode cX2_leg 18 = .ok (.aload_n 0, 1) := by decide +kernel
theorem dX2_leg_19 : decode cX2_leg 19 = .ok (.getfield 65, 3) := by decide +kernel
theorem dX2_leg_22 : decode cX2_leg 22 = .ok (.iconst 2, 1) := by decide +kernel
theorem dX2_leg_23 : decode cX2_leg 23 = .ok (.iload_n 1, 1) := by decide +kernel
theorem dX2_leg_24 : decode cX2_leg 24 = .ok (.imul, 1) := by decide +kernel
theorem dX2_leg_25 : decode cX2_leg 25 = .ok (.iaload, 1) := by decide +kernel
theorem dX2_leg_26 : decode cX2_leg 26 = .ok (.aload_n 0, 1) := by decide +kernel
theorem dX2_leg_27 : decode cX2_leg 27 = .ok (.getfield 65, 3) := by decide +kernel
theorem dX2_leg_30 : decode cX2_leg 30 = .ok (.iconst 2, 1) := by decide +kernel
theorem dX2_leg_31 : decode cX2_leg 31 = .ok (.iload_n 1, 1) := by decide +kernel
theorem dX2_leg_32 : decode cX2_leg 32 = .ok (.imul, 1) := by decide +kernel
theorem dX2_leg_33 : decode cX2_leg 33 = .ok (.iconst 1, 1) := by decide +kernel
theorem dX2_leg_34 : decode cX2_leg 34 = .ok (.iadd, 1) := by decide +kernel
theorem dX2_leg_35 : decode cX2_leg 35 = .ok (.iaload, 1) := by decide +kernel
theorem dX2_leg_36 : decode cX2_leg 36 = .ok (.iadd, 1) := by decide +kernel
theorem dX2_leg_37 : decode cX2_leg 37 = .ok (.if_icmp .ge 12, 3) := by decide +kernel
theorem dX2_leg_40 : decode cX2_leg 40 = .ok (.iload_n 3, 1) := by decide +kernel
theorem dX2_leg_41 : decode cX2_leg 41 = .ok (.ifCond .lt 8, 3) := by decide +kernel
theorem dX2_leg_44 : decode cX2_leg 44 = .ok (.iload_n 3, 1) := by decide +kernel
theorem dX2_leg_45 : decode cX2_leg 45 = .ok (.iconst 2, 1) := by decide +kernel
theorem dX2_leg_46 : decode cX2_leg 46 = .ok (.if_icmp .le 8, 3) := by decide +kernel
theorem dX2_leg_49 : decode cX2_leg 49 = .ok (.aload_n 0, 1) := by decide +kernel
theorem dX2_leg_50 : decode cX2_leg 50 = .ok (.invokevirtual 109, 3) := by decide +kernel
theorem dX2_leg_53 : decode cX2_leg 53 = .ok (.ireturn, 1) := by decide +kernel
theorem dX2_leg_54 : decode cX2_leg 54 = .ok (.iload_n 2, 1) := by decide +kernel
theorem dX2_leg_55 : decode cX2_leg 55 = .ok (.aload_n 0, 1) := by decide +kernel
theorem dX2_leg_56 : decode cX2_leg 56 = .ok (.getfield 65, 3) := by decide +kernel
theorem dX2_leg_59 : decode cX2_leg 59 = .ok (.iconst 2, 1) := by decide +kernel
theorem dX2_leg_60 : decode cX2_leg 60 = .ok (.iload_n 1, 1) := by decide +kernel
theorem dX2_leg_61 : decode cX2_leg 61 = .ok (.imul, 1) := by decide +kernel
theorem dX2_leg_62 : decode cX2_leg 62 = .ok (.iaload, 1) := by decide +kernel
theorem dX2_leg_63 : decode cX2_leg 63 = .ok (.if_icmp .ge 13, 3) := by decide +kernel
theorem dX2_leg_66 : decode cX2_leg 66 = .ok (.iconst 2, 1) := by decide +kernel
theorem dX2_leg_67 : decode cX2_leg 67 = .ok (.iload_n 1, 1) := by decide +kernel
theorem dX2_leg_68 : decode cX2_leg 68 = .ok (.imul, 1) := by decide +kernel
theorem dX2_leg_69 : decode cX2_leg 69 = .ok (.iload_n 2, 1) := by decide +kernel
theorem dX2_leg_70 : decode cX2_leg 70 = .ok (.invokestatic 127, 3) := by decide +kernel
theorem dX2_leg_73 : decode cX2_leg 73 = .ok (.goto 21, 3) := by decide +kernel
theorem dX2_leg_76 : decode cX2_leg 76 = .ok (.iconst 2, 1) := by decide +kernel
theorem dX2_leg_77 : decode cX2_leg 77 = .ok (.iload_n 1, 1) := by decide +kernel
theorem dX2_leg_78 : decode cX2_leg 78 = .ok (.imul, 1) := by decide +kernel
theorem dX2_leg_79 : decode cX2_leg 79 = .ok (.iconst 1, 1) := by decide +kernel
theorem dX2_leg_80 : decode cX2_leg 80 = .ok (.iadd, 1) := by decide +kernel
theorem dX2_leg_81 : decode cX2_leg 81 = .ok (.iload_n 2, 1) := by decide +kernel
theorem dX2_leg_82 : decode cX2_leg 82 = .ok (.aload_n 0, 1) := by decide +kernel
theorem dX2_leg_83 : decode cX2_leg 83 = .ok (.getfield 65, 3) := by decide +kernel
theorem dX2_leg_86 : decode cX2_leg 86 = .ok (.iconst 2, 1) := by decide +kernel
theorem dX2_leg_87 : decode cX2_leg 87 = .ok (.iload_n 1, 1) := by decide +kernel
theorem dX2_leg_88 : decode cX2_leg 88 = .ok (.imul, 1) := by decide +kernel
theorem dX2_leg_89 : decode cX2_leg 89 = .ok (.iaload, 1) := by decide +kernel
theorem dX2_leg_90 : decode cX2_leg 90 = .ok (.isub, 1) := by decide +kernel
theorem dX2_leg_91 : decode cX2_leg 91 = .ok (.invokestatic 127, 3) := by decide +kernel
theorem dX2_leg_94 : decode cX2_leg 94 = .ok (.istore 4, 2) := by decide +kernel
theorem dX2_leg_96 : decode cX2_leg 96 = .ok (.iload_n 3, 1) := by decide +kernel
theorem dX2_leg_97 : decode cX2_leg 97 = .ok (.ifCond .ne 13, 3) := by decide +kernel
theorem dX2_leg_100 : decode cX2_leg 100 = .ok (.aload_n 0, 1) := by decide +kernel
theorem dX2_leg_101 : decode cX2_leg 101 = .ok (.getfield 74, 3) := by decide +kernel
theorem dX2_leg_104 : decode cX2_leg 104 = .ok (.iload 4, 2) := by decide +kernel
theorem dX2_leg_106 : decode cX2_leg 106 = .ok (.iaload, 1) := by decide +kernel
theorem dX2_leg_107 : decode cX2_leg 107 = .ok (.goto 25, 3) := by decide +kernel
theorem dX2_leg_110 : decode cX2_leg 110 = .ok (.iload_n 3, 1) := by decide +kernel
theorem dX2_leg_111 : decode cX2_leg 111 = .ok (.iconst 1, 1) := by decide +kernel
theorem dX2_leg_112 : decode cX2_leg 112 = .ok (.if_icmp .ne 13, 3) := by decide +kernel
theorem dX2_leg_115 : decode cX2_leg 115 = .ok (.aload_n 0, 1) := by decide +kernel
theorem dX2_leg_116 : decode cX2_leg 116 = .ok (.getfield 77, 3) := by decide +kernel
theorem dX2_leg_119 : decode cX2_leg 119 = .ok (.iload 4, 2) := by decide +kernel
theorem dX2_leg_121 : decode cX2_leg 121 = .ok (.iaload, 1) := by decide +kernel
theorem dX2_leg_122 : decode cX2_leg 122 = .ok (.goto 10, 3) := by decide +kernel
theorem dX2_leg_125 : decode cX2_leg 125 = .ok (.aload_n 0, 1) := by decide +kernel
theorem dX2_leg_126 : decode cX2_leg 126 = .ok (.getfield 80, 3) := by decide +kernel
theorem dX2_leg_129 : decode cX2_leg 129 = .ok (.iload 4, 2) := by decide +kernel
theorem dX2_leg_131 : decode cX2_leg 131 = .ok (.iaload, 1) := by decide +kernel
theorem dX2_leg_132 : decode cX2_leg 132 = .ok (.ireturn, 1) := by decide +kernel
abbrev cX2_load : ByteArray := prog_10_method_37_code
def yX2_load : MethodName := ⟨RX2, "load", "(II)I"⟩
theorem dX2_load_0 : decode cX2_load 0 = .ok (.aload_n 0, 1) := by decide +kernel
theorem dX2_load_1 : decode cX2_load 1 = .ok (.iconst 0, 1) := by decide +kernel
theorem dX2_load_2 : decode cX2_load 2 = .ok (.putfield 92, 3) := by decide +kernel
theorem dX2_load_5 : decode cX2_load 5 = .ok (.aload_n 0, 1) := by decide +kernel
theorem dX2_load_6 : decode cX2_load 6 = .ok (.iload_n 1, 1) := by decide +kernel
theorem dX2_load_7 : decode cX2_load 7 = .ok (.invokevirtual 105, 3) := by decide +kernel
theorem dX2_load_10 : decode cX2_load 10 = .ok (.ifCond .eq 32, 3) := by decide +kernel
theorem dX2_load_13 : decode cX2_load 13 = .ok (.iload_n 2, 1) := by decide +kernel
theorem dX2_load_14 : decode cX2_load 14 = .ok (.ifCond .lt 28, 3) := by decide +kernel
theorem dX2_load_17 : decode cX2_load 17 = .ok (.iload_n 2, 1) := by decide +kernel
theorem dX2_load_18 : decode cX2_load 18 = .ok (.aload_n 0, 1) := by decide +kernel
theorem dX2_load_19 : decode cX2_load 19 = .ok (.getfield 16, 3) := by decide +kernel
theorem dX2_load_22 : decode cX2_load 22 = .ok (.iload_n 1, 1) := by decide +kernel
theorem dX2_load_23 : decode cX2_load 23 = .ok (.iaload, 1) := by decide +kernel
theorem dX2_load_24 : decode cX2_load 24 = .ok (.iconst 1, 1) := by decide +kernel
theorem dX2_load_25 : decode cX2_load 25 = .ok (.isub, 1) := by decide +kernel
theorem dX2_load_26 : decode cX2_load 26 = .ok (.if_icmp .ge 16, 3) := by decide +kernel
theorem dX2_load_29 : decode cX2_load 29 = .ok (.aload_n 0, 1) := by decide +kernel
theorem dX2_load_30 : decode cX2_load 30 = .ok (.getfield 25, 3) := by decide +kernel
theorem dX2_load_33 : decode cX2_load 33 = .ok (.iload_n 1, 1) := by decide +kernel
theorem dX2_load_34 : decode cX2_load 34 = .ok (.iload_n 2, 1) := by decide +kernel
theorem dX2_load_35 : decode cX2_load 35 = .ok (.invokestatic 113, 3) := by decide +kernel
theorem dX2_load_38 : decode cX2_load 38 = .ok (.iaload, 1) := by decide +kernel
theorem dX2_load_39 : decode cX2_load 39 = .ok (.goto 7, 3) := by decide +kernel
theorem dX2_load_42 : decode cX2_load 42 = .ok (.aload_n 0, 1) := by decide +kernel
theorem dX2_load_43 : decode cX2_load 43 = .ok (.invokevirtual 109, 3) := by decide +kernel
theorem dX2_load_46 : decode cX2_load 46 = .ok (.ireturn, 1) := by decide +kernel
abbrev cX2_where : ByteArray := prog_10_method_38_code
def yX2_where : MethodName := ⟨RX2, "where", "(I)I"⟩
theorem dX2_where_0 : decode cX2_where 0 = .ok (.aload_n 0, 1) := by decide +kernel
theorem dX2_where_1 : decode cX2_where 1 = .ok (.iconst 0, 1) := by decide +kernel
theorem dX2_where_2 : decode cX2_where 2 = .ok (.putfield 92, 3) := by decide +kernel
theorem dX2_where_5 : decode cX2_where 5 = .ok (.aload_n 0, 1) := by decide +kernel
theorem dX2_where_6 : decode cX2_where 6 = .ok (.iload_n 1, 1) := by decide +kernel
theorem dX2_where_7 : decode cX2_where 7 = .ok (.invokevirtual 199, 3) := by decide +kernel
theorem dX2_where_10 : decode cX2_where 10 = .ok (.ifCond .ne 8, 3) := by decide +kernel
theorem dX2_where_13 : decode cX2_where 13 = .ok (.aload_n 0, 1) := by decide +kernel
theorem dX2_where_14 : decode cX2_where 14 = .ok (.invokevirtual 109, 3) := by decide +kernel
theorem dX2_where_17 : decode cX2_where 17 = .ok (.ireturn, 1) := by decide +kernel
theorem dX2_where_18 : decode cX2_where 18 = .ok (.aload_n 0, 1) := by decide +kernel
theorem dX2_where_19 : decode cX2_where 19 = .ok (.iload_n 1, 1) := by decide +kernel
theorem dX2_where_20 : decode cX2_where 20 = .ok (.invokevirtual 205, 3) := by decide +kernel
theorem dX2_where_23 : decode cX2_where 23 = .ok (.ifCond .ne 5, 3) := by decide +kernel
theorem dX2_where_26 : decode cX2_where 26 = .ok (.iconst 0, 1) := by decide +kernel
theorem dX2_where_27 : decode cX2_where 27 = .ok (.ireturn, 1) := by decide +kernel
theorem dX2_where_28 : decode cX2_where 28 = .ok (.aload_n 0, 1) := by decide +kernel
theorem dX2_where_29 : decode cX2_where 29 = .ok (.iload_n 1, 1) := by decide +kernel
theorem dX2_where_30 : decode cX2_where 30 = .ok (.invokevirtual 133, 3) := by decide +kernel
theorem dX2_where_33 : decode cX2_where 33 = .ok (.istore_n 2, 1) := by decide +kernel
theorem dX2_where_34 : decode cX2_where 34 = .ok (.iconst 0, 1) := by decide +kernel
theorem dX2_where_35 : decode cX2_where 35 = .ok (.istore_n 3, 1) := by decide +kernel
theorem dX2_where_36 : decode cX2_where 36 = .ok (.iload_n 3, 1) := by decide +kernel
theorem dX2_where_37 : decode cX2_where 37 = .ok (.aload_n 0, 1) := by decide +kernel
theorem dX2_where_38 : decode cX2_where 38 = .ok (.getfield 65, 3) := by decide +kernel
theorem dX2_where_41 : decode cX2_where 41 = .ok (.iload_n 2, 1) := by decide +kernel
theorem dX2_where_42 : decode cX2_where 42 = .ok (.iaload, 1) := by decide +kernel
theorem dX2_where_43 : decode cX2_where 43 = .ok (.if_icmp .ge 78, 3) := by decide +kernel
theorem dX2_where_46 : decode cX2_where 46 = .ok (.iload_n 2, 1) := by decide +kernel
theorem dX2_where_47 : decode cX2_where 47 = .ok (.iload_n 3, 1) := by decide +kernel
theorem dX2_where_48 : decode cX2_where 48 = .ok (.invokestatic 127, 3) := by decide +kernel
theorem dX2_where_51 : decode cX2_where 51 = .ok (.istore 4, 2) := by decide +kernel
theorem dX2_where_53 : decode cX2_where 53 = .ok (.aload_n 0, 1) := by decide +kernel
theorem dX2_where_54 : decode cX2_where 54 = .ok (.getfield 185, 3) := by decide +kernel
theorem dX2_where_57 : decode cX2_where 57 = .ok (.aload_n 0, 1) := by decide +kernel
theorem dX2_where_58 : decode cX2_where 58 = .ok (.getfield 22, 3) := by decide +kernel
theorem dX2_where_61 : decode cX2_where 61 = .ok (.aload_n 0, 1) := by decide +kernel
theorem dX2_where_62 : decode cX2_where 62 = .ok (.getfield 74, 3) := by decide +kernel
theorem dX2_where_65 : decode cX2_where 65 = .ok (.iload 4, 2) := by decide +kernel
theorem dX2_where_67 : decode cX2_where 67 = .ok (.iaload, 1) := by decide +kernel
theorem dX2_where_68 : decode cX2_where 68 = .ok (.aload_n 0, 1) := by decide +kernel
theorem dX2_where_69 : decode cX2_where 69 = .ok (.getfield 77, 3) := by decide +kernel
theorem dX2_where_72 : decode cX2_where 72 = .ok (.iload 4, 2) := by decide +kernel
theorem dX2_where_74 : decode cX2_where 74 = .ok (.iaload, 1) := by decide +kernel
theorem dX2_where_75 : decode cX2_where 75 = .ok (.invokestatic 113, 3) := by decide +kernel
theorem dX2_where_78 : decode cX2_where 78 = .ok (.iaload, 1) := by decide +kernel
theorem dX2_where_79 : decode cX2_where 79 = .ok (.if_icmp .ge 5, 3) := by decide +kernel
theorem dX2_where_82 : decode cX2_where 82 = .ok (.iconst 1, 1) := by decide +kernel
theorem dX2_where_83 : decode cX2_where 83 = .ok (.ireturn, 1) := by decide +kernel
theorem dX2_where_84 : decode cX2_where 84 = .ok (.aload_n 0, 1) := by decide +kernel
theorem dX2_where_85 : decode cX2_where 85 = .ok (.getfield 185, 3) := by decide +kernel
theorem dX2_where_88 : decode cX2_where 88 = .ok (.aload_n 0, 1) := by decide +kernel
theorem dX2_where_89 : decode cX2_where 89 = .ok (.getfield 22, 3) := by decide +kernel
theorem dX2_where_92 : decode cX2_where 92 = .ok (.aload_n 0, 1) := by decide +kernel
theorem dX2_where_93 : decode cX2_where 93 = .ok (.getfield 74, 3) := by decide +kernel
theorem dX2_where_96 : decode cX2_where 96 = .ok (.iload 4, 2) := by decide +kernel
theorem dX2_where_98 : decode cX2_where 98 = .ok (.iaload, 1) := by decide +kernel
theorem dX2_where_99 : decode cX2_where 99 = .ok (.aload_n 0, 1) := by decide +kernel
theorem dX2_where_100 : decode cX2_where 100 = .ok (.getfield 80, 3) := by decide +kernel
theorem dX2_where_103 : decode cX2_where 103 = .ok (.iload 4, 2) := by decide +kernel
theorem dX2_where_105 : decode cX2_where 105 = .ok (.iaload, 1) := by decide +kernel
theorem dX2_where_106 : decode cX2_where 106 = .ok (.invokestatic 113, 3) := by decide +kernel
theorem dX2_where_109 : decode cX2_where 109 = .ok (.iaload, 1) := by decide +kernel
theorem dX2_where_110 : decode cX2_where 110 = .ok (.if_icmp .ge 5, 3) := by decide +kernel
theorem dX2_where_113 : decode cX2_where 113 = .ok (.iconst 2, 1) := by decide +kernel
theorem dX2_where_114 : decode cX2_where 114 = .ok (.ireturn, 1) := by decide +kernel
theorem dX2_where_115 : decode cX2_where 115 = .ok (.iinc 3 1, 3) := by decide +kernel
theorem dX2_where_118 : decode cX2_where 118 = .ok (.goto (-82), 3) := by decide +kernel
theorem dX2_where_121 : decode cX2_where 121 = .ok (.aload_n 0, 1) := by decide +kernel
theorem dX2_where_122 : decode cX2_where 122 = .ok (.getfield 62, 3) := by decide +kernel
theorem dX2_where_125 : decode cX2_where 125 = .ok (.iload_n 2, 1) := by decide +kernel
theorem dX2_where_126 : decode cX2_where 126 = .ok (.baload, 1) := by decide +kernel
theorem dX2_where_127 : decode cX2_where 127 = .ok (.ifCond .eq 16, 3) := by decide +kernel
theorem dX2_where_130 : decode cX2_where 130 = .ok (.aload_n 0, 1) := by decide +kernel
theorem dX2_where_131 : decode cX2_where 131 = .ok (.getfield 185, 3) := by decide +kernel
theorem dX2_where_134 : decode cX2_where 134 = .ok (.aload_n 0, 1) := by decide +kernel
theorem dX2_where_135 : decode cX2_where 135 = .ok (.iload_n 2, 1) := by decide +kernel
theorem dX2_where_136 : decode cX2_where 136 = .ok (.iload_n 1, 1) := by decide +kernel
theorem dX2_where_137 : decode cX2_where 137 = .ok (.invokevirtual 136, 3) := by decide +kernel
