set_option maxRecDepth 100000
theorem dX2_where_140 : decode cX2_where 140 = .ok (.if_icmp .ge 7, 3) := by decide +kernel
theorem dX2_where_143 : decode cX2_where 143 = .ok (.iconst 1, 1) := by decide +kernel
theorem dX2_where_144 : decode cX2_where 144 = .ok (.goto 20, 3) := by decide +kernel
theorem dX2_where_147 : decode cX2_where 147 = .ok (.aload_n 0, 1) := by decide +kernel
theorem dX2_where_148 : decode cX2_where 148 = .ok (.getfield 185, 3) := by decide +kernel
theorem dX2_where_151 : decode cX2_where 151 = .ok (.aload_n 0, 1) := by decide +kernel
theorem dX2_where_152 : decode cX2_where 152 = .ok (.iload_n 1, 1) := by decide +kernel
theorem dX2_where_153 : decode cX2_where 153 = .ok (.invokevirtual 202, 3) := by decide +kernel
theorem dX2_where_156 : decode cX2_where 156 = .ok (.if_icmp .ge 7, 3) := by decide +kernel
theorem dX2_where_159 : decode cX2_where 159 = .ok (.iconst 3, 1) := by decide +kernel
theorem dX2_where_160 : decode cX2_where 160 = .ok (.goto 4, 3) := by decide +kernel
theorem dX2_where_163 : decode cX2_where 163 = .ok (.iconst 4, 1) := by decide +kernel
theorem dX2_where_164 : decode cX2_where 164 = .ok (.ireturn, 1) := by decide +kernel
abbrev cX2_mark : ByteArray := prog_10_method_42_code
def yX2_mark : MethodName := ⟨RX2, "mark", "(I)I"⟩
theorem dX2_mark_0 : decode cX2_mark 0 = .ok (.aload_n 0, 1) := by decide +kernel
theorem dX2_mark_1 : decode cX2_mark 1 = .ok (.iconst 0, 1) := by decide +kernel
theorem dX2_mark_2 : decode cX2_mark 2 = .ok (.putfield 92, 3) := by decide +kernel
theorem dX2_mark_5 : decode cX2_mark 5 = .ok (.aload_n 0, 1) := by decide +kernel
theorem dX2_mark_6 : decode cX2_mark 6 = .ok (.iload_n 1, 1) := by decide +kernel
theorem dX2_mark_7 : decode cX2_mark 7 = .ok (.invokevirtual 199, 3) := by decide +kernel
theorem dX2_mark_10 : decode cX2_mark 10 = .ok (.ifCond .ne 8, 3) := by decide +kernel
theorem dX2_mark_13 : decode cX2_mark 13 = .ok (.aload_n 0, 1) := by decide +kernel
theorem dX2_mark_14 : decode cX2_mark 14 = .ok (.invokevirtual 109, 3) := by decide +kernel
theorem dX2_mark_17 : decode cX2_mark 17 = .ok (.ireturn, 1) := by decide +kernel
theorem dX2_mark_18 : decode cX2_mark 18 = .ok (.aload_n 0, 1) := by decide +kernel
theorem dX2_mark_19 : decode cX2_mark 19 = .ok (.getfield 62, 3) := by decide +kernel
theorem dX2_mark_22 : decode cX2_mark 22 = .ok (.iconst 2, 1) := by decide +kernel
theorem dX2_mark_23 : decode cX2_mark 23 = .ok (.iload_n 1, 1) := by decide +kernel
theorem dX2_mark_24 : decode cX2_mark 24 = .ok (.imul, 1) := by decide +kernel
theorem dX2_mark_25 : decode cX2_mark 25 = .ok (.baload, 1) := by decide +kernel
theorem dX2_mark_26 : decode cX2_mark 26 = .ok (.ifCond .eq 15, 3) := by decide +kernel
theorem dX2_mark_29 : decode cX2_mark 29 = .ok (.aload_n 0, 1) := by decide +kernel
theorem dX2_mark_30 : decode cX2_mark 30 = .ok (.aload_n 0, 1) := by decide +kernel
theorem dX2_mark_31 : decode cX2_mark 31 = .ok (.iload_n 1, 1) := by decide +kernel
theorem dX2_mark_32 : decode cX2_mark 32 = .ok (.invokevirtual 214, 3) := by decide +kernel
theorem dX2_mark_35 : decode cX2_mark 35 = .ok (.invokevirtual 217, 3) := by decide +kernel
theorem dX2_mark_38 : decode cX2_mark 38 = .ok (.goto 4, 3) := by decide +kernel
theorem dX2_mark_41 : decode cX2_mark 41 = .ok (.iconst (-1), 1) := by decide +kernel
theorem dX2_mark_42 : decode cX2_mark 42 = .ok (.ireturn, 1) := by decide +kernel
abbrev cX2_firstLike : ByteArray := prog_10_method_40_code
def yX2_firstLike : MethodName := ⟨RX2, "firstLike", "(I)I"⟩
theorem dX2_firstLike_0 : decode cX2_firstLike 0 = .ok (.iconst 0, 1) := by decide +kernel
theorem dX2_firstLike_1 : decode cX2_firstLike 1 = .ok (.istore_n 2, 1) := by decide +kernel
theorem dX2_firstLike_2 : decode cX2_firstLike 2 = .ok (.aload_n 0, 1) := by decide +kernel
theorem dX2_firstLike_3 : decode cX2_firstLike 3 = .ok (.getfield 62, 3) := by decide +kernel
theorem dX2_firstLike_6 : decode cX2_firstLike 6 = .ok (.iconst 2, 1) := by decide +kernel
theorem dX2_firstLike_7 : decode cX2_firstLike 7 = .ok (.iload_n 2, 1) := by decide +kernel
theorem dX2_firstLike_8 : decode cX2_firstLike 8 = .ok (.imul, 1) := by decide +kernel
theorem dX2_firstLike_9 : decode cX2_firstLike 9 = .ok (.baload, 1) := by decide +kernel
theorem dX2_firstLike_10 : decode cX2_firstLike 10 = .ok (.ifCond .eq 12, 3) := by decide +kernel
theorem dX2_firstLike_13 : decode cX2_firstLike 13 = .ok (.aload_n 0, 1) := by decide +kernel
theorem dX2_firstLike_14 : decode cX2_firstLike 14 = .ok (.iload_n 2, 1) := by decide +kernel
theorem dX2_firstLike_15 : decode cX2_firstLike 15 = .ok (.iload_n 1, 1) := by decide +kernel
theorem dX2_firstLike_16 : decode cX2_firstLike 16 = .ok (.invokevirtual 211, 3) := by decide +kernel
theorem dX2_firstLike_19 : decode cX2_firstLike 19 = .ok (.ifCond .ne 9, 3) := by decide +kernel
theorem dX2_firstLike_22 : decode cX2_firstLike 22 = .ok (.iinc 2 1, 3) := by decide +kernel
theorem dX2_firstLike_25 : decode cX2_firstLike 25 = .ok (.goto (-23), 3) := by decide +kernel
theorem dX2_firstLike_28 : decode cX2_firstLike 28 = .ok (.iload_n 2, 1) := by decide +kernel
theorem dX2_firstLike_29 : decode cX2_firstLike 29 = .ok (.ireturn, 1) := by decide +kernel
abbrev cX2_isAlike : ByteArray := prog_10_method_39_code
def yX2_isAlike : MethodName := ⟨RX2, "isAlike", "(II)Z"⟩
theorem dX2_isAlike_0 : decode cX2_isAlike 0 = .ok (.aload_n 0, 1) := by decide +kernel
theorem dX2_isAlike_1 : decode cX2_isAlike 1 = .ok (.getfield 65, 3) := by decide +kernel
theorem dX2_isAlike_4 : decode cX2_isAlike 4 = .ok (.iconst 2, 1) := by decide +kernel
theorem dX2_isAlike_5 : decode cX2_isAlike 5 = .ok (.iload_n 1, 1) := by decide +kernel
theorem dX2_isAlike_6 : decode cX2_isAlike 6 = .ok (.imul, 1) := by decide +kernel
theorem dX2_isAlike_7 : decode cX2_isAlike 7 = .ok (.iaload, 1) := by decide +kernel
theorem dX2_isAlike_8 : decode cX2_isAlike 8 = .ok (.aload_n 0, 1) := by decide +kernel
theorem dX2_isAlike_9 : decode cX2_isAlike 9 = .ok (.getfield 65, 3) := by decide +kernel
theorem dX2_isAlike_12 : decode cX2_isAlike 12 = .ok (.iconst 2, 1) := by decide +kernel
theorem dX2_isAlike_13 : decode cX2_isAlike 13 = .ok (.iload_n 2, 1) := by decide +kernel
theorem dX2_isAlike_14 : decode cX2_isAlike 14 = .ok (.imul, 1) := by decide +kernel
theorem dX2_isAlike_15 : decode cX2_isAlike 15 = .ok (.iaload, 1) := by decide +kernel
theorem dX2_isAlike_16 : decode cX2_isAlike 16 = .ok (.if_icmp .ne 7, 3) := by decide +kernel
theorem dX2_isAlike_19 : decode cX2_isAlike 19 = .ok (.iconst 1, 1) := by decide +kernel
theorem dX2_isAlike_20 : decode cX2_isAlike 20 = .ok (.goto 4, 3) := by decide +kernel
theorem dX2_isAlike_23 : decode cX2_isAlike 23 = .ok (.iconst 0, 1) := by decide +kernel
theorem dX2_isAlike_24 : decode cX2_isAlike 24 = .ok (.istore_n 3, 1) := by decide +kernel
theorem dX2_isAlike_25 : decode cX2_isAlike 25 = .ok (.iconst 0, 1) := by decide +kernel
theorem dX2_isAlike_26 : decode cX2_isAlike 26 = .ok (.istore 4, 2) := by decide +kernel
theorem dX2_isAlike_28 : decode cX2_isAlike 28 = .ok (.iload_n 3, 1) := by decide +kernel
theorem dX2_isAlike_29 : decode cX2_isAlike 29 = .ok (.ifCond .eq 99, 3) := by decide +kernel
theorem dX2_isAlike_32 : decode cX2_isAlike 32 = .ok (.iload 4, 2) := by decide +kernel
theorem dX2_isAlike_34 : decode cX2_isAlike 34 = .ok (.aload_n 0, 1) := by decide +kernel
theorem dX2_isAlike_35 : decode cX2_isAlike 35 = .ok (.getfield 65, 3) := by decide +kernel
theorem dX2_isAlike_38 : decode cX2_isAlike 38 = .ok (.iconst 2, 1) := by decide +kernel
theorem dX2_isAlike_39 : decode cX2_isAlike 39 = .ok (.iload_n 1, 1) := by decide +kernel
theorem dX2_isAlike_40 : decode cX2_isAlike 40 = .ok (.imul, 1) := by decide +kernel
theorem dX2_isAlike_41 : decode cX2_isAlike 41 = .ok (.iaload, 1) := by decide +kernel
theorem dX2_isAlike_42 : decode cX2_isAlike 42 = .ok (.if_icmp .ge 86, 3) := by decide +kernel
theorem dX2_isAlike_45 : decode cX2_isAlike 45 = .ok (.iconst 2, 1) := by decide +kernel
theorem dX2_isAlike_46 : decode cX2_isAlike 46 = .ok (.iload_n 1, 1) := by decide +kernel
theorem dX2_isAlike_47 : decode cX2_isAlike 47 = .ok (.imul, 1) := by decide +kernel
theorem dX2_isAlike_48 : decode cX2_isAlike 48 = .ok (.iload 4, 2) := by decide +kernel
theorem dX2_isAlike_50 : decode cX2_isAlike 50 = .ok (.invokestatic 127, 3) := by decide +kernel
theorem dX2_isAlike_53 : decode cX2_isAlike 53 = .ok (.istore 5, 2) := by decide +kernel
theorem dX2_isAlike_55 : decode cX2_isAlike 55 = .ok (.iconst 2, 1) := by decide +kernel
theorem dX2_isAlike_56 : decode cX2_isAlike 56 = .ok (.iload_n 2, 1) := by decide +kernel
theorem dX2_isAlike_57 : decode cX2_isAlike 57 = .ok (.imul, 1) := by decide +kernel
theorem dX2_isAlike_58 : decode cX2_isAlike 58 = .ok (.iload 4, 2) := by decide +kernel
theorem dX2_isAlike_60 : decode cX2_isAlike 60 = .ok (.invokestatic 127, 3) := by decide +kernel
theorem dX2_isAlike_63 : decode cX2_isAlike 63 = .ok (.istore 6, 2) := by decide +kernel
theorem dX2_isAlike_65 : decode cX2_isAlike 65 = .ok (.aload_n 0, 1) := by decide +kernel
theorem dX2_isAlike_66 : decode cX2_isAlike 66 = .ok (.getfield 74, 3) := by decide +kernel
theorem dX2_isAlike_69 : decode cX2_isAlike 69 = .ok (.iload 5, 2) := by decide +kernel
theorem dX2_isAlike_71 : decode cX2_isAlike 71 = .ok (.iaload, 1) := by decide +kernel
theorem dX2_isAlike_72 : decode cX2_isAlike 72 = .ok (.aload_n 0, 1) := by decide +kernel
theorem dX2_isAlike_73 : decode cX2_isAlike 73 = .ok (.getfield 74, 3) := by decide +kernel
theorem dX2_isAlike_76 : decode cX2_isAlike 76 = .ok (.iload 6, 2) := by decide +kernel
theorem dX2_isAlike_78 : decode cX2_isAlike 78 = .ok (.iaload, 1) := by decide +kernel
theorem dX2_isAlike_79 : decode cX2_isAlike 79 = .ok (.if_icmp .ne 41, 3) := by decide +kernel
theorem dX2_isAlike_82 : decode cX2_isAlike 82 = .ok (.aload_n 0, 1) := by decide +kernel
theorem dX2_isAlike_83 : decode cX2_isAlike 83 = .ok (.getfield 77, 3) := by decide +kernel
theorem dX2_isAlike_86 : decode cX2_isAlike 86 = .ok (.iload 5, 2) := by decide +kernel
theorem dX2_isAlike_88 : decode cX2_isAlike 88 = .ok (.iaload, 1) := by decide +kernel
theorem dX2_isAlike_89 : decode cX2_isAlike 89 = .ok (.aload_n 0, 1) := by decide +kernel
theorem dX2_isAlike_90 : decode cX2_isAlike 90 = .ok (.getfield 77, 3) := by decide +kernel
theorem dX2_isAlike_93 : decode cX2_isAlike 93 = .ok (.iload 6, 2) := by decide +kernel
theorem dX2_isAlike_95 : decode cX2_isAlike 95 = .ok (.iaload, 1) := by decide +kernel
theorem dX2_isAlike_96 : decode cX2_isAlike 96 = .ok (.if_icmp .ne 24, 3) := by decide +kernel
theorem dX2_isAlike_99 : decode cX2_isAlike 99 = .ok (.aload_n 0, 1) := by decide +kernel
theorem dX2_isAlike_100 : decode cX2_isAlike 100 = .ok (.getfield 80, 3) := by decide +kernel
theorem dX2_isAlike_103 : decode cX2_isAlike 103 = .ok (.iload 5, 2) := by decide +kernel
theorem dX2_isAlike_105 : decode cX2_isAlike 105 = .ok (.iaload, 1) := by decide +kernel
theorem dX2_isAlike_106 : decode cX2_isAlike 106 = .ok (.aload_n 0, 1) := by decide +kernel
theorem dX2_isAlike_107 : decode cX2_isAlike 107 = .ok (.getfield 80, 3) := by decide +kernel
theorem dX2_isAlike_110 : decode cX2_isAlike 110 = .ok (.iload 6, 2) := by decide +kernel
theorem dX2_isAlike_112 : decode cX2_isAlike 112 = .ok (.iaload, 1) := by decide +kernel
theorem dX2_isAlike_113 : decode cX2_isAlike 113 = .ok (.if_icmp .ne 7, 3) := by decide +kernel
theorem dX2_isAlike_116 : decode cX2_isAlike 116 = .ok (.iconst 1, 1) := by decide +kernel
theorem dX2_isAlike_117 : decode cX2_isAlike 117 = .ok (.goto 4, 3) := by decide +kernel
theorem dX2_isAlike_120 : decode cX2_isAlike 120 = .ok (.iconst 0, 1) := by decide +kernel
theorem dX2_isAlike_121 : decode cX2_isAlike 121 = .ok (.istore_n 3, 1) := by decide +kernel
theorem dX2_isAlike_122 : decode cX2_isAlike 122 = .ok (.iinc 4 1, 3) := by decide +kernel
theorem dX2_isAlike_125 : decode cX2_isAlike 125 = .ok (.goto (-97), 3) := by decide +kernel
theorem dX2_isAlike_128 : decode cX2_isAlike 128 = .ok (.iload_n 3, 1) := by decide +kernel
theorem dX2_isAlike_129 : decode cX2_isAlike 129 = .ok (.ireturn, 1) := by decide +kernel
abbrev cX2_marksUpTo : ByteArray := prog_10_method_41_code
def yX2_marksUpTo : MethodName := ⟨RX2, "marksUpTo", "(I)I"⟩
theorem dX2_marksUpTo_0 : decode cX2_marksUpTo 0 = .ok (.iconst 0, 1) := by decide +kernel
theorem dX2_marksUpTo_1 : decode cX2_marksUpTo 1 = .ok (.istore_n 2, 1) := by decide +kernel
theorem dX2_marksUpTo_2 : decode cX2_marksUpTo 2 = .ok (.iconst 0, 1) := by decide +kernel
theorem dX2_marksUpTo_3 : decode cX2_marksUpTo 3 = .ok (.istore_n 3, 1) := by decide +kernel
theorem dX2_marksUpTo_4 : decode cX2_marksUpTo 4 = .ok (.iload_n 3, 1) := by decide +kernel
theorem dX2_marksUpTo_5 : decode cX2_marksUpTo 5 = .ok (.iload_n 1, 1) := by decide +kernel
theorem dX2_marksUpTo_6 : decode cX2_marksUpTo 6 = .ok (.if_icmp .ge 37, 3) := by decide +kernel
theorem dX2_marksUpTo_9 : decode cX2_marksUpTo 9 = .ok (.iload_n 2, 1) := by decide +kernel
theorem dX2_marksUpTo_10 : decode cX2_marksUpTo 10 = .ok (.aload_n 0, 1) := by decide +kernel
theorem dX2_marksUpTo_11 : decode cX2_marksUpTo 11 = .ok (.getfield 62, 3) := by decide +kernel
theorem dX2_marksUpTo_14 : decode cX2_marksUpTo 14 = .ok (.iconst 2, 1) := by decide +kernel
theorem dX2_marksUpTo_15 : decode cX2_marksUpTo 15 = .ok (.iload_n 3, 1) := by decide +kernel
theorem dX2_marksUpTo_16 : decode cX2_marksUpTo 16 = .ok (.imul, 1) := by decide +kernel
theorem dX2_marksUpTo_17 : decode cX2_marksUpTo 17 = .ok (.baload, 1) := by decide +kernel
theorem dX2_marksUpTo_18 : decode cX2_marksUpTo 18 = .ok (.ifCond .eq 16, 3) := by decide +kernel
theorem dX2_marksUpTo_21 : decode cX2_marksUpTo 21 = .ok (.aload_n 0, 1) := by decide +kernel
theorem dX2_marksUpTo_22 : decode cX2_marksUpTo 22 = .ok (.iload_n 3, 1) := by decide +kernel
theorem dX2_marksUpTo_23 : decode cX2_marksUpTo 23 = .ok (.invokevirtual 214, 3) := by decide +kernel
theorem dX2_marksUpTo_26 : decode cX2_marksUpTo 26 = .ok (.iload_n 3, 1) := by decide +kernel
theorem dX2_marksUpTo_27 : decode cX2_marksUpTo 27 = .ok (.if_icmp .ne 7, 3) := by decide +kernel
theorem dX2_marksUpTo_30 : decode cX2_marksUpTo 30 = .ok (.iconst 1, 1) := by decide +kernel
theorem dX2_marksUpTo_31 : decode cX2_marksUpTo 31 = .ok (.goto 4, 3) := by decide +kernel
theorem dX2_marksUpTo_34 : decode cX2_marksUpTo 34 = .ok (.iconst 0, 1) := by decide +kernel
theorem dX2_marksUpTo_35 : decode cX2_marksUpTo 35 = .ok (.iadd, 1) := by decide +kernel
theorem dX2_marksUpTo_36 : decode cX2_marksUpTo 36 = .ok (.istore_n 2, 1) := by decide +kernel
theorem dX2_marksUpTo_37 : decode cX2_marksUpTo 37 = .ok (.iinc 3 1, 3) := by decide +kernel
theorem dX2_marksUpTo_40 : decode cX2_marksUpTo 40 = .ok (.goto (-36), 3) := by decide +kernel
theorem dX2_marksUpTo_43 : decode cX2_marksUpTo 43 = .ok (.iload_n 2, 1) := by decide +kernel
theorem dX2_marksUpTo_44 : decode cX2_marksUpTo 44 = .ok (.ireturn, 1) := by decide +kernel
abbrev cX2_carrier : ByteArray := prog_10_method_43_code
def yX2_carrier : MethodName := ⟨RX2, "carrier", "(I)I"⟩
theorem dX2_carrier_0 : decode cX2_carrier 0 = .ok (.aload_n 0, 1) := by decide +kernel
theorem dX2_carrier_1 : decode cX2_carrier 1 = .ok (.iconst 0, 1) := by decide +kernel
theorem dX2_carrier_2 : decode cX2_carrier 2 = .ok (.putfield 92, 3) := by decide +kernel
theorem dX2_carrier_5 : decode cX2_carrier 5 = .ok (.aload_n 0, 1) := by decide +kernel
theorem dX2_carrier_6 : decode cX2_carrier 6 = .ok (.getfield 220, 3) := by decide +kernel
theorem dX2_carrier_9 : decode cX2_carrier 9 = .ok (.bipush 40, 2) := by decide +kernel
theorem dX2_carrier_11 : decode cX2_carrier 11 = .ok (.if_icmp .eq 13, 3) := by decide +kernel
theorem dX2_carrier_14 : decode cX2_carrier 14 = .ok (.iload_n 1, 1) := by decide +kernel
theorem dX2_carrier_15 : decode cX2_carrier 15 = .ok (.ifCond .lt 9, 3) := by decide +kernel
theorem dX2_carrier_18 : decode cX2_carrier 18 = .ok (.iload_n 1, 1) := by decide +kernel
theorem dX2_carrier_19 : decode cX2_carrier 19 = .ok (.bipush 31, 2) := by decide +kernel
theorem dX2_carrier_21 : decode cX2_carrier 21 = .ok (.if_icmp .le 5, 3) := by decide +kernel
theorem dX2_carrier_24 : decode cX2_carrier 24 = .ok (.iconst (-1), 1) := by decide +kernel
theorem dX2_carrier_25 : decode cX2_carrier 25 = .ok (.ireturn, 1) := by decide +kernel
theorem dX2_carrier_26 : decode cX2_carrier 26 = .ok (.aload_n 0, 1) := by decide +kernel
theorem dX2_carrier_27 : decode cX2_carrier 27 = .ok (.getfield 28, 3) := by decide +kernel
theorem dX2_carrier_30 : decode cX2_carrier 30 = .ok (.aload_n 0, 1) := by decide +kernel
theorem dX2_carrier_31 : decode cX2_carrier 31 = .ok (.getfield 220, 3) := by decide +kernel
theorem dX2_carrier_34 : decode cX2_carrier 34 = .ok (.iload_n 1, 1) := by decide +kernel
theorem dX2_carrier_35 : decode cX2_carrier 35 = .ok (.iastore, 1) := by decide +kernel
theorem dX2_carrier_36 : decode cX2_carrier 36 = .ok (.aload_n 0, 1) := by decide +kernel
theorem dX2_carrier_37 : decode cX2_carrier 37 = .ok (.dup, 1) := by decide +kernel
theorem dX2_carrier_38 : decode cX2_carrier 38 = .ok (.getfield 220, 3) := by decide +kernel
theorem dX2_carrier_41 : decode cX2_carrier 41 = .ok (.iconst 1, 1) := by decide +kernel
theorem dX2_carrier_42 : decode cX2_carrier 42 = .ok (.iadd, 1) := by decide +kernel
theorem dX2_carrier_43 : decode cX2_carrier 43 = .ok (.putfield 220, 3) := by decide +kernel
theorem dX2_carrier_46 : decode cX2_carrier 46 = .ok (.aload_n 0, 1) := by decide +kernel
theorem dX2_carrier_47 : decode cX2_carrier 47 = .ok (.getfield 220, 3) := by decide +kernel
theorem dX2_carrier_50 : decode cX2_carrier 50 = .ok (.iconst 1, 1) := by decide +kernel
theorem dX2_carrier_51 : decode cX2_carrier 51 = .ok (.isub, 1) := by decide +kernel
theorem dX2_carrier_52 : decode cX2_carrier 52 = .ok (.ireturn, 1) := by decide +kernel
abbrev cX2_share : ByteArray := prog_10_method_44_code
def yX2_share : MethodName := ⟨RX2, "share", "(II)I"⟩
theorem dX2_share_0 : decode cX2_share 0 = .ok (.aload_n 0, 1) := by decide +kernel
theorem dX2_share_1 : decode cX2_share 1 = .ok (.iconst 0, 1) := by decide +kernel
theorem dX2_share_2 : decode cX2_share 2 = .ok (.putfield 92, 3) := by decide +kernel
theorem dX2_share_5 : decode cX2_share 5 = .ok (.iload_n 1, 1) := by decide +kernel
theorem dX2_share_6 : decode cX2_share 6 = .ok (.ifCond .lt 11, 3) := by decide +kernel
theorem dX2_share_9 : decode cX2_share 9 = .ok (.iload_n 1, 1) := by decide +kernel
theorem dX2_share_10 : decode cX2_share 10 = .ok (.aload_n 0, 1) := by decide +kernel
theorem dX2_share_11 : decode cX2_share 11 = .ok (.getfield 220, 3) := by decide +kernel
theorem dX2_share_14 : decode cX2_share 14 = .ok (.if_icmp .lt 8, 3) := by decide +kernel
theorem dX2_share_17 : decode cX2_share 17 = .ok (.aload_n 0, 1) := by decide +kernel
theorem dX2_share_18 : decode cX2_share 18 = .ok (.invokevirtual 109, 3) := by decide +kernel
theorem dX2_share_21 : decode cX2_share 21 = .ok (.ireturn, 1) := by decide +kernel
theorem dX2_share_22 : decode cX2_share 22 = .ok (.iload_n 2, 1) := by decide +kernel
theorem dX2_share_23 : decode cX2_share 23 = .ok (.ifCond .lt 9, 3) := by decide +kernel
theorem dX2_share_26 : decode cX2_share 26 = .ok (.iload_n 2, 1) := by decide +kernel
theorem dX2_share_27 : decode cX2_share 27 = .ok (.ldc 223, 2) := by decide +kernel
theorem dX2_share_29 : decode cX2_share 29 = .ok (.if_icmp .le 10, 3) := by decide +kernel
theorem dX2_share_32 : decode cX2_share 32 = .ok (.aload_n 0, 1) := by decide +kernel
theorem dX2_share_33 : decode cX2_share 33 = .ok (.iconst 2, 1) := by decide +kernel
theorem dX2_share_34 : decode cX2_share 34 = .ok (.putfield 92, 3) := by decide +kernel
theorem dX2_share_37 : decode cX2_share 37 = .ok (.iconst 0, 1) := by decide +kernel
theorem dX2_share_38 : decode cX2_share 38 = .ok (.ireturn, 1) := by decide +kernel
theorem dX2_share_39 : decode cX2_share 39 = .ok (.iconst 0, 1) := by decide +kernel
theorem dX2_share_40 : decode cX2_share 40 = .ok (.istore_n 3, 1) := by decide +kernel
theorem dX2_share_41 : decode cX2_share 41 = .ok (.iconst 0, 1) := by decide +kernel
theorem dX2_share_42 : decode cX2_share 42 = .ok (.istore 4, 2) := by decide +kernel
theorem dX2_share_44 : decode cX2_share 44 = .ok (.iload 4, 2) := by decide +kernel
theorem dX2_share_46 : decode cX2_share 46 = .ok (.aload_n 0, 1) := by decide +kernel
theorem dX2_share_47 : decode cX2_share 47 = .ok (.getfield 220, 3) := by decide +kernel
theorem dX2_share_50 : decode cX2_share 50 = .ok (.if_icmp .ge 19, 3) := by decide +kernel
theorem dX2_share_53 : decode cX2_share 53 = .ok (.iload_n 3, 1) := by decide +kernel
theorem dX2_share_54 : decode cX2_share 54 = .ok (.aload_n 0, 1) := by decide +kernel
theorem dX2_share_55 : decode cX2_share 55 = .ok (.getfield 28, 3) := by decide +kernel
theorem dX2_share_58 : decode cX2_share 58 = .ok (.iload 4, 2) := by decide +kernel
theorem dX2_share_60 : decode cX2_share 60 = .ok (.iaload, 1) := by decide +kernel
theorem dX2_share_61 : decode cX2_share 61 = .ok (.iadd, 1) := by decide +kernel
theorem dX2_share_62 : decode cX2_share 62 = .ok (.istore_n 3, 1) := by decide +kernel
theorem dX2_share_63 : decode cX2_share 63 = .ok (.iinc 4 1, 3) := by decide +kernel
theorem dX2_share_66 : decode cX2_share 66 = .ok (.goto (-22), 3) := by decide +kernel
theorem dX2_share_69 : decode cX2_share 69 = .ok (.iload_n 3, 1) := by decide +kernel
theorem dX2_share_70 : decode cX2_share 70 = .ok (.ifCond .ne 7, 3) := by decide +kernel
theorem dX2_share_73 : decode cX2_share 73 = .ok (.iconst 1, 1) := by decide +kernel
theorem dX2_share_74 : decode cX2_share 74 = .ok (.goto 4, 3) := by decide +kernel
theorem dX2_share_77 : decode cX2_share 77 = .ok (.iconst 0, 1) := by decide +kernel
theorem dX2_share_78 : decode cX2_share 78 = .ok (.istore 4, 2) := by decide +kernel
theorem dX2_share_80 : decode cX2_share 80 = .ok (.iload 4, 2) := by decide +kernel
theorem dX2_share_82 : decode cX2_share 82 = .ok (.ifCond .eq 8, 3) := by decide +kernel
theorem dX2_share_85 : decode cX2_share 85 = .ok (.aload_n 0, 1) := by decide +kernel
theorem dX2_share_86 : decode cX2_share 86 = .ok (.getfield 220, 3) := by decide +kernel
theorem dX2_share_89 : decode cX2_share 89 = .ok (.istore_n 3, 1) := by decide +kernel
theorem dX2_share_90 : decode cX2_share 90 = .ok (.iload_n 2, 1) := by decide +kernel
theorem dX2_share_91 : decode cX2_share 91 = .ok (.istore 5, 2) := by decide +kernel
theorem dX2_share_93 : decode cX2_share 93 = .ok (.iconst 0, 1) := by decide +kernel
theorem dX2_share_94 : decode cX2_share 94 = .ok (.istore 6, 2) := by decide +kernel
theorem dX2_share_96 : decode cX2_share 96 = .ok (.iload 6, 2) := by decide +kernel
theorem dX2_share_98 : decode cX2_share 98 = .ok (.aload_n 0, 1) := by decide +kernel
theorem dX2_share_99 : decode cX2_share 99 = .ok (.getfield 220, 3) := by decide +kernel
theorem dX2_share_102 : decode cX2_share 102 = .ok (.if_icmp .ge 38, 3) := by decide +kernel
theorem dX2_share_105 : decode cX2_share 105 = .ok (.iload 5, 2) := by decide +kernel
theorem dX2_share_107 : decode cX2_share 107 = .ok (.iload_n 2, 1) := by decide +kernel
theorem dX2_share_108 : decode cX2_share 108 = .ok (.i2l, 1) := by decide +kernel
theorem dX2_share_109 : decode cX2_share 109 = .ok (.iload 4, 2) := by decide +kernel
theorem dX2_share_111 : decode cX2_share 111 = .ok (.ifCond .eq 7, 3) := by decide +kernel
theorem dX2_share_114 : decode cX2_share 114 = .ok (.iconst 1, 1) := by decide +kernel
theorem dX2_share_115 : decode cX2_share 115 = .ok (.goto 10, 3) := by decide +kernel
theorem dX2_share_118 : decode cX2_share 118 = .ok (.aload_n 0, 1) := by decide +kernel
theorem dX2_share_119 : decode cX2_share 119 = .ok (.getfield 28, 3) := by decide +kernel
theorem dX2_share_122 : decode cX2_share 122 = .ok (.iload 6, 2) := by decide +kernel
theorem dX2_share_124 : decode cX2_share 124 = .ok (.iaload, 1) := by decide +kernel
theorem dX2_share_125 : decode cX2_share 125 = .ok (.i2l, 1) := by decide +kernel
theorem dX2_share_126 : decode cX2_share 126 = .ok (.lmul, 1) := by decide +kernel
theorem dX2_share_127 : decode cX2_share 127 = .ok (.iload_n 3, 1) := by decide +kernel
theorem dX2_share_128 : decode cX2_share 128 = .ok (.i2l, 1) := by decide +kernel
theorem dX2_share_129 : decode cX2_share 129 = .ok (.ldiv, 1) := by decide +kernel
theorem dX2_share_130 : decode cX2_share 130 = .ok (.l2i, 1) := by decide +kernel
theorem dX2_share_131 : decode cX2_share 131 = .ok (.isub, 1) := by decide +kernel
theorem dX2_share_132 : decode cX2_share 132 = .ok (.istore 5, 2) := by decide +kernel
theorem dX2_share_134 : decode cX2_share 134 = .ok (.iinc 6 1, 3) := by decide +kernel
theorem dX2_share_137 : decode cX2_share 137 = .ok (.goto (-41), 3) := by decide +kernel
theorem dX2_share_140 : decode cX2_share 140 = .ok (.iload_n 2, 1) := by decide +kernel
theorem dX2_share_141 : decode cX2_share 141 = .ok (.i2l, 1) := by decide +kernel
theorem dX2_share_142 : decode cX2_share 142 = .ok (.iload 4, 2) := by decide +kernel
theorem dX2_share_144 : decode cX2_share 144 = .ok (.ifCond .eq 7, 3) := by decide +kernel
theorem dX2_share_147 : decode cX2_share 147 = .ok (.iconst 1, 1) := by decide +kernel
theorem dX2_share_148 : decode cX2_share 148 = .ok (.goto 9, 3) := by decide +kernel
theorem dX2_share_151 : decode cX2_share 151 = .ok (.aload_n 0, 1) := by decide +kernel
theorem dX2_share_152 : decode cX2_share 152 = .ok (.getfield 28, 3) := by decide +kernel
theorem dX2_share_155 : decode cX2_share 155 = .ok (.iload_n 1, 1) := by decide +kernel
theorem dX2_share_156 : decode cX2_share 156 = .ok (.iaload, 1) := by decide +kernel
theorem dX2_share_157 : decode cX2_share 157 = .ok (.i2l, 1) := by decide +kernel
theorem dX2_share_158 : decode cX2_share 158 = .ok (.lmul, 1) := by decide +kernel
theorem dX2_share_159 : decode cX2_share 159 = .ok (.lstore 6, 2) := by decide +kernel
theorem dX2_share_161 : decode cX2_share 161 = .ok (.iconst 0, 1) := by decide +kernel
theorem dX2_share_162 : decode cX2_share 162 = .ok (.istore 8, 2) := by decide +kernel
theorem dX2_share_164 : decode cX2_share 164 = .ok (.iconst 0, 1) := by decide +kernel
theorem dX2_share_165 : decode cX2_share 165 = .ok (.istore 9, 2) := by decide +kernel
theorem dX2_share_167 : decode cX2_share 167 = .ok (.iload 9, 2) := by decide +kernel
theorem dX2_share_169 : decode cX2_share 169 = .ok (.aload_n 0, 1) := by decide +kernel
theorem dX2_share_170 : decode cX2_share 170 = .ok (.getfield 220, 3) := by decide +kernel
theorem dX2_share_173 : decode cX2_share 173 = .ok (.if_icmp .ge 65, 3) := by decide +kernel
theorem dX2_share_176 : decode cX2_share 176 = .ok (.iload_n 2, 1) := by decide +kernel
theorem dX2_share_177 : decode cX2_share 177 = .ok (.i2l, 1) := by decide +kernel
theorem dX2_share_178 : decode cX2_share 178 = .ok (.iload 4, 2) := by decide +kernel
theorem dX2_share_180 : decode cX2_share 180 = .ok (.ifCond .eq 7, 3) := by decide +kernel
theorem dX2_share_183 : decode cX2_share 183 = .ok (.iconst 1, 1) := by decide +kernel
theorem dX2_share_184 : decode cX2_share 184 = .ok (.goto 10, 3) := by decide +kernel
theorem dX2_share_187 : decode cX2_share 187 = .ok (.aload_n 0, 1) := by decide +kernel
theorem dX2_share_188 : decode cX2_share 188 = .ok (.getfield 28, 3) := by decide +kernel
theorem dX2_share_191 : decode cX2_share 191 = .ok (.iload 9, 2) := by decide +kernel
theorem dX2_share_193 : decode cX2_share 193 = .ok (.iaload, 1) := by decide +kernel
theorem dX2_share_194 : decode cX2_share 194 = .ok (.i2l, 1) := by decide +kernel
theorem dX2_share_195 : decode cX2_share 195 = .ok (.lmul, 1) := by decide +kernel
theorem dX2_share_196 : decode cX2_share 196 = .ok (.iload_n 3, 1) := by decide +kernel
theorem dX2_share_197 : decode cX2_share 197 = .ok (.i2l, 1) := by decide +kernel
theorem dX2_share_198 : decode cX2_share 198 = .ok (.lrem, 1) := by decide +kernel
theorem dX2_share_199 : decode cX2_share 199 = .ok (.lstore 10, 2) := by decide +kernel
theorem dX2_share_201 : decode cX2_share 201 = .ok (.lload 10, 2) := by decide +kernel
theorem dX2_share_203 : decode cX2_share 203 = .ok (.lload 6, 2) := by decide +kernel
theorem dX2_share_205 : decode cX2_share 205 = .ok (.iload_n 3, 1) := by decide +kernel
theorem dX2_share_206 : decode cX2_share 206 = .ok (.i2l, 1) := by decide +kernel
theorem dX2_share_207 : decode cX2_share 207 = .ok (.lrem, 1) := by decide +kernel
theorem dX2_share_208 : decode cX2_share 208 = .ok (.lcmp, 1) := by decide +kernel
theorem dX2_share_209 : decode cX2_share 209 = .ok (.ifCond .gt 20, 3) := by decide +kernel
theorem dX2_share_212 : decode cX2_share 212 = .ok (.lload 10, 2) := by decide +kernel
theorem dX2_share_214 : decode cX2_share 214 = .ok (.lload 6, 2) := by decide +kernel
theorem dX2_share_216 : decode cX2_share 216 = .ok (.iload_n 3, 1) := by decide +kernel
theorem dX2_share_217 : decode cX2_share 217 = .ok (.i2l, 1) := by decide +kernel
theorem dX2_share_218 : decode cX2_share 218 = .ok (.lrem, 1) := by decide +kernel
theorem dX2_share_219 : decode cX2_share 219 = .ok (.lcmp, 1) := by decide +kernel
theorem dX2_share_220 : decode cX2_share 220 = .ok (.ifCond .ne 12, 3) := by decide +kernel
theorem dX2_share_223 : decode cX2_share 223 = .ok (.iload 9, 2) := by decide +kernel
theorem dX2_share_225 : decode cX2_share 225 = .ok (.iload_n 1, 1) := by decide +kernel
theorem dX2_share_226 : decode cX2_share 226 = .ok (.if_icmp .ge 6, 3) := by decide +kernel
theorem dX2_share_229 : decode cX2_share 229 = .ok (.iinc 8 1, 3) := by decide +kernel
theorem dX2_share_232 : decode cX2_share 232 = .ok (.iinc 9 1, 3) := by decide +kernel
theorem dX2_share_235 : decode cX2_share 235 = .ok (.goto (-68), 3) := by decide +kernel
theorem dX2_share_238 : decode cX2_share 238 = .ok (.lload 6, 2) := by decide +kernel
theorem dX2_share_240 : decode cX2_share 240 = .ok (.iload_n 3, 1) := by decide +kernel
theorem dX2_share_241 : decode cX2_share 241 = .ok (.i2l, 1) := by decide +kernel
theorem dX2_share_242 : decode cX2_share 242 = .ok (.ldiv, 1) := by decide +kernel
theorem dX2_share_243 : decode cX2_share 243 = .ok (.l2i, 1) := by decide +kernel
theorem dX2_share_244 : decode cX2_share 244 = .ok (.iload 8, 2) := by decide +kernel
theorem dX2_share_246 : decode cX2_share 246 = .ok (.iload 5, 2) := by decide +kernel
theorem dX2_share_248 : decode cX2_share 248 = .ok (.if_icmp .ge 7, 3) := by decide +kernel
theorem dX2_share_251 : decode cX2_share 251 = .ok (.iconst 1, 1) := by decide +kernel
theorem dX2_share_252 : decode cX2_share 252 = .ok (.goto 4, 3) := by decide +kernel
theorem dX2_share_255 : decode cX2_share 255 = .ok (.iconst 0, 1) := by decide +kernel
theorem dX2_share_256 : decode cX2_share 256 = .ok (.iadd, 1) := by decide +kernel
theorem dX2_share_257 : decode cX2_share 257 = .ok (.ireturn, 1) := by decide +kernel
abbrev cX2_count : ByteArray := prog_10_method_45_code
def yX2_count : MethodName := ⟨RX2, "count", "(I)I"⟩
theorem dX2_count_0 : decode cX2_count 0 = .ok (.aload_n 0, 1) := by decide +kernel
theorem dX2_count_1 : decode cX2_count 1 = .ok (.iconst 0, 1) := by decide +kernel
theorem dX2_count_2 : decode cX2_count 2 = .ok (.putfield 92, 3) := by decide +kernel
theorem dX2_count_5 : decode cX2_count 5 = .ok (.iconst 0, 1) := by decide +kernel
theorem dX2_count_6 : decode cX2_count 6 = .ok (.istore_n 2, 1) := by decide +kernel
theorem dX2_count_7 : decode cX2_count 7 = .ok (.iconst 0, 1) := by decide +kernel
theorem dX2_count_8 : decode cX2_count 8 = .ok (.istore_n 3, 1) := by decide +kernel
theorem dX2_count_9 : decode cX2_count 9 = .ok (.iconst 0, 1) := by decide +kernel
theorem dX2_count_10 : decode cX2_count 10 = .ok (.istore 4, 2) := by decide +kernel
theorem dX2_count_12 : decode cX2_count 12 = .ok (.iload 4, 2) := by decide +kernel
theorem dX2_count_14 : decode cX2_count 14 = .ok (.aload_n 0, 1) := by decide +kernel
theorem dX2_count_15 : decode cX2_count 15 = .ok (.getfield 99, 3) := by decide +kernel
theorem dX2_count_18 : decode cX2_count 18 = .ok (.if_icmp .ge 48, 3) := by decide +kernel
theorem dX2_count_21 : decode cX2_count 21 = .ok (.iload_n 2, 1) := by decide +kernel
theorem dX2_count_22 : decode cX2_count 22 = .ok (.aload_n 0, 1) := by decide +kernel
theorem dX2_count_23 : decode cX2_count 23 = .ok (.getfield 62, 3) := by decide +kernel
theorem dX2_count_26 : decode cX2_count 26 = .ok (.aload_n 0, 1) := by decide +kernel
theorem dX2_count_27 : decode cX2_count 27 = .ok (.iload 4, 2) := by decide +kernel
theorem dX2_count_29 : decode cX2_count 29 = .ok (.invokevirtual 133, 3) := by decide +kernel
theorem dX2_count_32 : decode cX2_count 32 = .ok (.baload, 1) := by decide +kernel
theorem dX2_count_33 : decode cX2_count 33 = .ok (.ifCond .eq 7, 3) := by decide +kernel
theorem dX2_count_36 : decode cX2_count 36 = .ok (.iconst 1, 1) := by decide +kernel
theorem dX2_count_37 : decode cX2_count 37 = .ok (.goto 4, 3) := by decide +kernel
theorem dX2_count_40 : decode cX2_count 40 = .ok (.iconst 0, 1) := by decide +kernel
theorem dX2_count_41 : decode cX2_count 41 = .ok (.iadd, 1) := by decide +kernel
theorem dX2_count_42 : decode cX2_count 42 = .ok (.istore_n 2, 1) := by decide +kernel
theorem dX2_count_43 : decode cX2_count 43 = .ok (.iload_n 3, 1) := by decide +kernel
theorem dX2_count_44 : decode cX2_count 44 = .ok (.aload_n 0, 1) := by decide +kernel
theorem dX2_count_45 : decode cX2_count 45 = .ok (.iload 4, 2) := by decide +kernel
theorem dX2_count_47 : decode cX2_count 47 = .ok (.invokevirtual 208, 3) := by decide +kernel
theorem dX2_count_50 : decode cX2_count 50 = .ok (.ifCond .eq 7, 3) := by decide +kernel
theorem dX2_count_53 : decode cX2_count 53 = .ok (.iconst 1, 1) := by decide +kernel
theorem dX2_count_54 : decode cX2_count 54 = .ok (.goto 4, 3) := by decide +kernel
theorem dX2_count_57 : decode cX2_count 57 = .ok (.iconst 0, 1) := by decide +kernel
theorem dX2_count_58 : decode cX2_count 58 = .ok (.iadd, 1) := by decide +kernel
theorem dX2_count_59 : decode cX2_count 59 = .ok (.istore_n 3, 1) := by decide +kernel
theorem dX2_count_60 : decode cX2_count 60 = .ok (.iinc 4 1, 3) := by decide +kernel
theorem dX2_count_63 : decode cX2_count 63 = .ok (.goto (-51), 3) := by decide +kernel
theorem dX2_count_66 : decode cX2_count 66 = .ok (.iload_n 1, 1) := by decide +kernel
theorem dX2_count_67 : decode cX2_count 67 = .ok (.tableswitch 83 0 7 #[45, 50, 55, 60, 65, 67, 69, 78], 45) := by decide +kernel
theorem dX2_count_112 : decode cX2_count 112 = .ok (.aload_n 0, 1) := by decide +kernel
theorem dX2_count_113 : decode cX2_count 113 = .ok (.getfield 102, 3) := by decide +kernel
theorem dX2_count_116 : decode cX2_count 116 = .ok (.ireturn, 1) := by decide +kernel
theorem dX2_count_117 : decode cX2_count 117 = .ok (.aload_n 0, 1) := by decide +kernel
theorem dX2_count_118 : decode cX2_count 118 = .ok (.getfield 96, 3) := by decide +kernel
theorem dX2_count_121 : decode cX2_count 121 = .ok (.ireturn, 1) := by decide +kernel
theorem dX2_count_122 : decode cX2_count 122 = .ok (.aload_n 0, 1) := by decide +kernel
theorem dX2_count_123 : decode cX2_count 123 = .ok (.getfield 99, 3) := by decide +kernel
theorem dX2_count_126 : decode cX2_count 126 = .ok (.ireturn, 1) := by decide +kernel
theorem dX2_count_127 : decode cX2_count 127 = .ok (.aload_n 0, 1) := by decide +kernel
theorem dX2_count_128 : decode cX2_count 128 = .ok (.getfield 185, 3) := by decide +kernel
theorem dX2_count_131 : decode cX2_count 131 = .ok (.ireturn, 1) := by decide +kernel
theorem dX2_count_132 : decode cX2_count 132 = .ok (.iload_n 2, 1) := by decide +kernel
theorem dX2_count_133 : decode cX2_count 133 = .ok (.ireturn, 1) := by decide +kernel
theorem dX2_count_134 : decode cX2_count 134 = .ok (.iload_n 3, 1) := by decide +kernel
theorem dX2_count_135 : decode cX2_count 135 = .ok (.ireturn, 1) := by decide +kernel
theorem dX2_count_136 : decode cX2_count 136 = .ok (.aload_n 0, 1) := by decide +kernel
theorem dX2_count_137 : decode cX2_count 137 = .ok (.aload_n 0, 1) := by decide +kernel
theorem dX2_count_138 : decode cX2_count 138 = .ok (.getfield 99, 3) := by decide +kernel
theorem dX2_count_141 : decode cX2_count 141 = .ok (.invokevirtual 217, 3) := by decide +kernel
theorem dX2_count_144 : decode cX2_count 144 = .ok (.ireturn, 1) := by decide +kernel
theorem dX2_count_145 : decode cX2_count 145 = .ok (.aload_n 0, 1) := by decide +kernel
theorem dX2_count_146 : decode cX2_count 146 = .ok (.getfield 220, 3) := by decide +kernel
theorem dX2_count_149 : decode cX2_count 149 = .ok (.ireturn, 1) := by decide +kernel
theorem dX2_count_150 : decode cX2_count 150 = .ok (.aload_n 0, 1) := by decide +kernel
theorem dX2_count_151 : decode cX2_count 151 = .ok (.invokevirtual 109, 3) := by decide +kernel
theorem dX2_count_154 : decode cX2_count 154 = .ok (.ireturn, 1) := by decide +kernel
theorem q62 : (Jvm.Cond.initialized "LunchMarksModel") ∈ lw_all := lw_g (lw_at lw_m1 21 rfl) rfl
theorem q501 : (Jvm.Cond.selects "LunchMarksModel" ({ cls := "java/lang/Object", name := "getClass", desc := "()Ljava/lang/Class;" } : Jvm.MethodName) ({ cls := "java/lang/Object", name := "getClass", desc := "()Ljava/lang/Class;" } : Jvm.MethodName)) ∈ lw_all := lw_g (lw_at lw_m2 220 rfl) rfl
theorem q969 : (Jvm.Cond.instantiable "LunchMarksModel" (38 : Nat)) ∈ lw_all := lw_g (lw_at lw_m4 208 rfl) rfl
theorem q971 : (Jvm.Cond.instanceMethod ({ cls := "LunchMarksModel", name := "<init>", desc := "()V" } : Jvm.MethodName)) ∈ lw_all := lw_g (lw_at lw_m4 210 rfl) rfl
theorem q972 : (Jvm.Cond.code ({ cls := "LunchMarksModel", name := "<init>", desc := "()V" } : Jvm.MethodName) prog_10_method_1_code (1 : Nat) (Option.none : Option Jvm.ClassFile.FieldType)) ∈ lw_all := lw_g (lw_at lw_m4 211 rfl) rfl
theorem q973 : (Jvm.Cond.methodLink "LunchMarksModel" (3 : Nat) ({ cls := "java/lang/Object", name := "<init>", desc := "()V" } : Jvm.MethodName)) ∈ lw_all := lw_g (lw_at lw_m4 212 rfl) rfl
theorem q974 : (Jvm.Cond.fieldLink "LunchMarksModel" (92 : Nat) "LunchMarksModel" "code" "I") ∈ lw_all := lw_g (lw_at lw_m4 213 rfl) rfl
theorem q975 : (Jvm.Cond.fieldLink "LunchMarksModel" (185 : Nat) "LunchMarksModel" "now" "I") ∈ lw_all := lw_g (lw_at lw_m4 214 rfl) rfl
theorem q976 : (Jvm.Cond.fieldLink "LunchMarksModel" (102 : Nat) "LunchMarksModel" "stations" "I") ∈ lw_all := lw_g (lw_at lw_m4 215 rfl) rfl
theorem q977 : (Jvm.Cond.fieldLink "LunchMarksModel" (96 : Nat) "LunchMarksModel" "trains" "I") ∈ lw_all := lw_g (lw_at lw_m4 216 rfl) rfl
theorem q978 : (Jvm.Cond.fieldLink "LunchMarksModel" (99 : Nat) "LunchMarksModel" "boxes" "I") ∈ lw_all := lw_g (lw_at lw_m4 217 rfl) rfl
theorem q979 : (Jvm.Cond.fieldLink "LunchMarksModel" (220 : Nat) "LunchMarksModel" "carriers" "I") ∈ lw_all := lw_g (lw_at lw_m4 218 rfl) rfl
theorem q980 : (Jvm.Cond.fieldLink "LunchMarksModel" (9 : Nat) "LunchMarksModel" "sorting" "[I") ∈ lw_all := lw_g (lw_at lw_m4 219 rfl) rfl
theorem q981 : (Jvm.Cond.fieldLink "LunchMarksModel" (13 : Nat) "LunchMarksModel" "room" "[I") ∈ lw_all := lw_g (lw_at lw_m4 220 rfl) rfl
theorem q982 : (Jvm.Cond.fieldLink "LunchMarksModel" (16 : Nat) "LunchMarksModel" "stops" "[I") ∈ lw_all := lw_g (lw_at lw_m4 221 rfl) rfl
theorem q983 : (Jvm.Cond.fieldLink "LunchMarksModel" (19 : Nat) "LunchMarksModel" "stopStation" "[I") ∈ lw_all := lw_g (lw_at lw_m4 222 rfl) rfl
theorem q984 : (Jvm.Cond.fieldLink "LunchMarksModel" (22 : Nat) "LunchMarksModel" "stopMinute" "[I") ∈ lw_all := lw_g (lw_at lw_m4 223 rfl) rfl
theorem q985 : (Jvm.Cond.fieldLink "LunchMarksModel" (25 : Nat) "LunchMarksModel" "loads" "[I") ∈ lw_all := lw_g (lw_at lw_m4 224 rfl) rfl
theorem q986 : (Jvm.Cond.fieldLink "LunchMarksModel" (28 : Nat) "LunchMarksModel" "days" "[I") ∈ lw_all := lw_g (lw_at lw_m4 225 rfl) rfl
theorem q987 : (Jvm.Cond.fieldLink "LunchMarksModel" (31 : Nat) "LunchMarksModel" "isCancelled" "[Z") ∈ lw_all := lw_g (lw_at lw_m4 226 rfl) rfl
theorem q988 : (Jvm.Cond.fieldLink "LunchMarksModel" (35 : Nat) "LunchMarksModel" "home" "[I") ∈ lw_all := lw_g (lw_at lw_m4 227 rfl) rfl
theorem q989 : (Jvm.Cond.fieldLink "LunchMarksModel" (38 : Nat) "LunchMarksModel" "walk" "[I") ∈ lw_all := lw_g (lw_at lw_m4 228 rfl) rfl
theorem q990 : (Jvm.Cond.fieldLink "LunchMarksModel" (41 : Nat) "LunchMarksModel" "ready" "[I") ∈ lw_all := lw_g (lw_at lw_m4 229 rfl) rfl
theorem q991 : (Jvm.Cond.fieldLink "LunchMarksModel" (44 : Nat) "LunchMarksModel" "desk" "[I") ∈ lw_all := lw_g (lw_at lw_m4 230 rfl) rfl
theorem q992 : (Jvm.Cond.fieldLink "LunchMarksModel" (47 : Nat) "LunchMarksModel" "walkThere" "[I") ∈ lw_all := lw_g (lw_at lw_m4 231 rfl) rfl
theorem q993 : (Jvm.Cond.fieldLink "LunchMarksModel" (50 : Nat) "LunchMarksModel" "due" "[I") ∈ lw_all := lw_g (lw_at lw_m4 232 rfl) rfl
theorem q994 : (Jvm.Cond.fieldLink "LunchMarksModel" (53 : Nat) "LunchMarksModel" "readyBack" "[I") ∈ lw_all := lw_g (lw_at lw_m4 233 rfl) rfl
theorem q995 : (Jvm.Cond.fieldLink "LunchMarksModel" (56 : Nat) "LunchMarksModel" "isEmpty" "[Z") ∈ lw_all := lw_g (lw_at lw_m4 234 rfl) rfl
theorem q996 : (Jvm.Cond.fieldLink "LunchMarksModel" (59 : Nat) "LunchMarksModel" "had" "[Z") ∈ lw_all := lw_g (lw_at lw_m4 235 rfl) rfl
theorem q997 : (Jvm.Cond.fieldLink "LunchMarksModel" (62 : Nat) "LunchMarksModel" "has" "[Z") ∈ lw_all := lw_g (lw_at lw_m4 236 rfl) rfl
theorem q998 : (Jvm.Cond.fieldLink "LunchMarksModel" (65 : Nat) "LunchMarksModel" "many" "[I") ∈ lw_all := lw_g (lw_at lw_m4 237 rfl) rfl
theorem q999 : (Jvm.Cond.fieldLink "LunchMarksModel" (68 : Nat) "LunchMarksModel" "stands" "[I") ∈ lw_all := lw_g (lw_at lw_m4 238 rfl) rfl
theorem q1000 : (Jvm.Cond.fieldLink "LunchMarksModel" (71 : Nat) "LunchMarksModel" "since" "[I") ∈ lw_all := lw_g (lw_at lw_m4 239 rfl) rfl
theorem q1001 : (Jvm.Cond.fieldLink "LunchMarksModel" (74 : Nat) "LunchMarksModel" "legTrain" "[I") ∈ lw_all := lw_g (lw_at lw_m5 0 rfl) rfl
theorem q1002 : (Jvm.Cond.fieldLink "LunchMarksModel" (77 : Nat) "LunchMarksModel" "legOn" "[I") ∈ lw_all := lw_g (lw_at lw_m5 1 rfl) rfl
theorem q1003 : (Jvm.Cond.fieldLink "LunchMarksModel" (80 : Nat) "LunchMarksModel" "legOff" "[I") ∈ lw_all := lw_g (lw_at lw_m5 2 rfl) rfl
theorem q1004 : (Jvm.Cond.fieldLink "LunchMarksModel" (83 : Nat) "LunchMarksModel" "early" "[I") ∈ lw_all := lw_g (lw_at lw_m5 3 rfl) rfl
theorem q1005 : (Jvm.Cond.fieldLink "LunchMarksModel" (86 : Nat) "LunchMarksModel" "few" "[I") ∈ lw_all := lw_g (lw_at lw_m5 4 rfl) rfl
theorem q1006 : (Jvm.Cond.fieldLink "LunchMarksModel" (147 : Nat) "LunchMarksModel" "bestTime" "I") ∈ lw_all := lw_g (lw_at lw_m5 5 rfl) rfl
theorem q1007 : (Jvm.Cond.fieldLink "LunchMarksModel" (150 : Nat) "LunchMarksModel" "bestLegs" "I") ∈ lw_all := lw_g (lw_at lw_m5 6 rfl) rfl
theorem q1008 : (Jvm.Cond.fieldLink "LunchMarksModel" (154 : Nat) "LunchMarksModel" "bestTrain" "I") ∈ lw_all := lw_g (lw_at lw_m5 7 rfl) rfl
theorem q1009 : (Jvm.Cond.fieldLink "LunchMarksModel" (164 : Nat) "LunchMarksModel" "bestOn" "I") ∈ lw_all := lw_g (lw_at lw_m5 8 rfl) rfl
theorem q1010 : (Jvm.Cond.fieldLink "LunchMarksModel" (167 : Nat) "LunchMarksModel" "bestOff" "I") ∈ lw_all := lw_g (lw_at lw_m5 9 rfl) rfl
theorem q1011 : (Jvm.Cond.fieldLink "LunchMarksModel" (89 : Nat) "LunchMarksModel" "gives" "[Z") ∈ lw_all := lw_g (lw_at lw_m5 10 rfl) rfl
theorem q1012 : (Jvm.Cond.lays "LunchMarksModel" "LunchMarksModel" "code" "I") ∈ lw_all := lw_g (lw_at lw_m5 11 rfl) rfl
theorem q1013 : (Jvm.Cond.soleField "LunchMarksModel" "code") ∈ lw_all := lw_g (lw_at lw_m5 12 rfl) rfl
theorem q1014 : (Jvm.Cond.lays "LunchMarksModel" "LunchMarksModel" "now" "I") ∈ lw_all := lw_g (lw_at lw_m5 13 rfl) rfl
theorem q1015 : (Jvm.Cond.soleField "LunchMarksModel" "now") ∈ lw_all := lw_g (lw_at lw_m5 14 rfl) rfl
theorem q1016 : (Jvm.Cond.lays "LunchMarksModel" "LunchMarksModel" "stations" "I") ∈ lw_all := lw_g (lw_at lw_m5 15 rfl) rfl
theorem q1017 : (Jvm.Cond.soleField "LunchMarksModel" "stations") ∈ lw_all := lw_g (lw_at lw_m5 16 rfl) rfl
theorem q1018 : (Jvm.Cond.lays "LunchMarksModel" "LunchMarksModel" "trains" "I") ∈ lw_all := lw_g (lw_at lw_m5 17 rfl) rfl
theorem q1019 : (Jvm.Cond.soleField "LunchMarksModel" "trains") ∈ lw_all := lw_g (lw_at lw_m5 18 rfl) rfl
theorem q1020 : (Jvm.Cond.lays "LunchMarksModel" "LunchMarksModel" "boxes" "I") ∈ lw_all := lw_g (lw_at lw_m5 19 rfl) rfl
theorem q1021 : (Jvm.Cond.soleField "LunchMarksModel" "boxes") ∈ lw_all := lw_g (lw_at lw_m5 20 rfl) rfl
theorem q1022 : (Jvm.Cond.lays "LunchMarksModel" "LunchMarksModel" "carriers" "I") ∈ lw_all := lw_g (lw_at lw_m5 21 rfl) rfl
theorem q1023 : (Jvm.Cond.soleField "LunchMarksModel" "carriers") ∈ lw_all := lw_g (lw_at lw_m5 22 rfl) rfl
theorem q1024 : (Jvm.Cond.laysFinal "LunchMarksModel" "LunchMarksModel" "sorting" "[I") ∈ lw_all := lw_g (lw_at lw_m5 23 rfl) rfl
theorem q1025 : (Jvm.Cond.soleField "LunchMarksModel" "sorting") ∈ lw_all := lw_g (lw_at lw_m5 24 rfl) rfl
theorem q1026 : (Jvm.Cond.laysFinal "LunchMarksModel" "LunchMarksModel" "room" "[I") ∈ lw_all := lw_g (lw_at lw_m5 25 rfl) rfl
theorem q1027 : (Jvm.Cond.soleField "LunchMarksModel" "room") ∈ lw_all := lw_g (lw_at lw_m5 26 rfl) rfl
theorem q1028 : (Jvm.Cond.laysFinal "LunchMarksModel" "LunchMarksModel" "stops" "[I") ∈ lw_all := lw_g (lw_at lw_m5 27 rfl) rfl
theorem q1029 : (Jvm.Cond.soleField "LunchMarksModel" "stops") ∈ lw_all := lw_g (lw_at lw_m5 28 rfl) rfl
theorem q1030 : (Jvm.Cond.laysFinal "LunchMarksModel" "LunchMarksModel" "stopStation" "[I") ∈ lw_all := lw_g (lw_at lw_m5 29 rfl) rfl
theorem q1031 : (Jvm.Cond.soleField "LunchMarksModel" "stopStation") ∈ lw_all := lw_g (lw_at lw_m5 30 rfl) rfl
theorem q1032 : (Jvm.Cond.laysFinal "LunchMarksModel" "LunchMarksModel" "stopMinute" "[I") ∈ lw_all := lw_g (lw_at lw_m5 31 rfl) rfl
theorem q1033 : (Jvm.Cond.soleField "LunchMarksModel" "stopMinute") ∈ lw_all := lw_g (lw_at lw_m5 32 rfl) rfl
theorem q1034 : (Jvm.Cond.laysFinal "LunchMarksModel" "LunchMarksModel" "loads" "[I") ∈ lw_all := lw_g (lw_at lw_m5 33 rfl) rfl
theorem q1035 : (Jvm.Cond.soleField "LunchMarksModel" "loads") ∈ lw_all := lw_g (lw_at lw_m5 34 rfl) rfl
theorem q1036 : (Jvm.Cond.laysFinal "LunchMarksModel" "LunchMarksModel" "days" "[I") ∈ lw_all := lw_g (lw_at lw_m5 35 rfl) rfl
theorem q1037 : (Jvm.Cond.soleField "LunchMarksModel" "days") ∈ lw_all := lw_g (lw_at lw_m5 36 rfl) rfl
theorem q1038 : (Jvm.Cond.laysFinal "LunchMarksModel" "LunchMarksModel" "isCancelled" "[Z") ∈ lw_all := lw_g (lw_at lw_m5 37 rfl) rfl
theorem q1039 : (Jvm.Cond.soleField "LunchMarksModel" "isCancelled") ∈ lw_all := lw_g (lw_at lw_m5 38 rfl) rfl
theorem q1040 : (Jvm.Cond.laysFinal "LunchMarksModel" "LunchMarksModel" "home" "[I") ∈ lw_all := lw_g (lw_at lw_m5 39 rfl) rfl
theorem q1041 : (Jvm.Cond.soleField "LunchMarksModel" "home") ∈ lw_all := lw_g (lw_at lw_m5 40 rfl) rfl
theorem q1042 : (Jvm.Cond.laysFinal "LunchMarksModel" "LunchMarksModel" "walk" "[I") ∈ lw_all := lw_g (lw_at lw_m5 41 rfl) rfl
theorem q1043 : (Jvm.Cond.soleField "LunchMarksModel" "walk") ∈ lw_all := lw_g (lw_at lw_m5 42 rfl) rfl
theorem q1044 : (Jvm.Cond.laysFinal "LunchMarksModel" "LunchMarksModel" "ready" "[I") ∈ lw_all := lw_g (lw_at lw_m5 43 rfl) rfl
theorem q1045 : (Jvm.Cond.soleField "LunchMarksModel" "ready") ∈ lw_all := lw_g (lw_at lw_m5 44 rfl) rfl
theorem q1046 : (Jvm.Cond.laysFinal "LunchMarksModel" "LunchMarksModel" "desk" "[I") ∈ lw_all := lw_g (lw_at lw_m5 45 rfl) rfl
theorem q1047 : (Jvm.Cond.soleField "LunchMarksModel" "desk") ∈ lw_all := lw_g (lw_at lw_m5 46 rfl) rfl
theorem q1048 : (Jvm.Cond.laysFinal "LunchMarksModel" "LunchMarksModel" "walkThere" "[I") ∈ lw_all := lw_g (lw_at lw_m5 47 rfl) rfl
theorem q1049 : (Jvm.Cond.soleField "LunchMarksModel" "walkThere") ∈ lw_all := lw_g (lw_at lw_m5 48 rfl) rfl
theorem q1050 : (Jvm.Cond.laysFinal "LunchMarksModel" "LunchMarksModel" "due" "[I") ∈ lw_all := lw_g (lw_at lw_m5 49 rfl) rfl
theorem q1051 : (Jvm.Cond.soleField "LunchMarksModel" "due") ∈ lw_all := lw_g (lw_at lw_m5 50 rfl) rfl
theorem q1052 : (Jvm.Cond.laysFinal "LunchMarksModel" "LunchMarksModel" "readyBack" "[I") ∈ lw_all := lw_g (lw_at lw_m5 51 rfl) rfl
theorem q1053 : (Jvm.Cond.soleField "LunchMarksModel" "readyBack") ∈ lw_all := lw_g (lw_at lw_m5 52 rfl) rfl
theorem q1054 : (Jvm.Cond.laysFinal "LunchMarksModel" "LunchMarksModel" "isEmpty" "[Z") ∈ lw_all := lw_g (lw_at lw_m5 53 rfl) rfl
theorem q1055 : (Jvm.Cond.soleField "LunchMarksModel" "isEmpty") ∈ lw_all := lw_g (lw_at lw_m5 54 rfl) rfl
theorem q1056 : (Jvm.Cond.laysFinal "LunchMarksModel" "LunchMarksModel" "had" "[Z") ∈ lw_all := lw_g (lw_at lw_m5 55 rfl) rfl
theorem q1057 : (Jvm.Cond.soleField "LunchMarksModel" "had") ∈ lw_all := lw_g (lw_at lw_m5 56 rfl) rfl
theorem q1058 : (Jvm.Cond.laysFinal "LunchMarksModel" "LunchMarksModel" "has" "[Z") ∈ lw_all := lw_g (lw_at lw_m5 57 rfl) rfl
theorem q1059 : (Jvm.Cond.soleField "LunchMarksModel" "has") ∈ lw_all := lw_g (lw_at lw_m5 58 rfl) rfl
theorem q1060 : (Jvm.Cond.laysFinal "LunchMarksModel" "LunchMarksModel" "many" "[I") ∈ lw_all := lw_g (lw_at lw_m5 59 rfl) rfl
theorem q1061 : (Jvm.Cond.soleField "LunchMarksModel" "many") ∈ lw_all := lw_g (lw_at lw_m5 60 rfl) rfl
theorem q1062 : (Jvm.Cond.laysFinal "LunchMarksModel" "LunchMarksModel" "stands" "[I") ∈ lw_all := lw_g (lw_at lw_m5 61 rfl) rfl
theorem q1063 : (Jvm.Cond.soleField "LunchMarksModel" "stands") ∈ lw_all := lw_g (lw_at lw_m5 62 rfl) rfl
theorem q1064 : (Jvm.Cond.laysFinal "LunchMarksModel" "LunchMarksModel" "since" "[I") ∈ lw_all := lw_g (lw_at lw_m5 63 rfl) rfl
theorem q1065 : (Jvm.Cond.soleField "LunchMarksModel" "since") ∈ lw_all := lw_g (lw_at lw_m5 64 rfl) rfl
theorem q1066 : (Jvm.Cond.laysFinal "LunchMarksModel" "LunchMarksModel" "legTrain" "[I") ∈ lw_all := lw_g (lw_at lw_m5 65 rfl) rfl
theorem q1067 : (Jvm.Cond.soleField "LunchMarksModel" "legTrain") ∈ lw_all := lw_g (lw_at lw_m5 66 rfl) rfl
theorem q1068 : (Jvm.Cond.laysFinal "LunchMarksModel" "LunchMarksModel" "legOn" "[I") ∈ lw_all := lw_g (lw_at lw_m5 67 rfl) rfl
theorem q1069 : (Jvm.Cond.soleField "LunchMarksModel" "legOn") ∈ lw_all := lw_g (lw_at lw_m5 68 rfl) rfl
theorem q1070 : (Jvm.Cond.laysFinal "LunchMarksModel" "LunchMarksModel" "legOff" "[I") ∈ lw_all := lw_g (lw_at lw_m5 69 rfl) rfl
theorem q1071 : (Jvm.Cond.soleField "LunchMarksModel" "legOff") ∈ lw_all := lw_g (lw_at lw_m5 70 rfl) rfl
theorem q1072 : (Jvm.Cond.laysFinal "LunchMarksModel" "LunchMarksModel" "early" "[I") ∈ lw_all := lw_g (lw_at lw_m5 71 rfl) rfl
theorem q1073 : (Jvm.Cond.soleField "LunchMarksModel" "early") ∈ lw_all := lw_g (lw_at lw_m5 72 rfl) rfl
theorem q1074 : (Jvm.Cond.laysFinal "LunchMarksModel" "LunchMarksModel" "few" "[I") ∈ lw_all := lw_g (lw_at lw_m5 73 rfl) rfl
theorem q1075 : (Jvm.Cond.soleField "LunchMarksModel" "few") ∈ lw_all := lw_g (lw_at lw_m5 74 rfl) rfl
theorem q1076 : (Jvm.Cond.lays "LunchMarksModel" "LunchMarksModel" "bestTime" "I") ∈ lw_all := lw_g (lw_at lw_m5 75 rfl) rfl
theorem q1077 : (Jvm.Cond.soleField "LunchMarksModel" "bestTime") ∈ lw_all := lw_g (lw_at lw_m5 76 rfl) rfl
theorem q1078 : (Jvm.Cond.lays "LunchMarksModel" "LunchMarksModel" "bestLegs" "I") ∈ lw_all := lw_g (lw_at lw_m5 77 rfl) rfl
theorem q1079 : (Jvm.Cond.soleField "LunchMarksModel" "bestLegs") ∈ lw_all := lw_g (lw_at lw_m5 78 rfl) rfl
theorem q1080 : (Jvm.Cond.lays "LunchMarksModel" "LunchMarksModel" "bestTrain" "I") ∈ lw_all := lw_g (lw_at lw_m5 79 rfl) rfl
theorem q1081 : (Jvm.Cond.soleField "LunchMarksModel" "bestTrain") ∈ lw_all := lw_g (lw_at lw_m5 80 rfl) rfl
theorem q1082 : (Jvm.Cond.lays "LunchMarksModel" "LunchMarksModel" "bestOn" "I") ∈ lw_all := lw_g (lw_at lw_m5 81 rfl) rfl
theorem q1083 : (Jvm.Cond.soleField "LunchMarksModel" "bestOn") ∈ lw_all := lw_g (lw_at lw_m5 82 rfl) rfl
theorem q1084 : (Jvm.Cond.lays "LunchMarksModel" "LunchMarksModel" "bestOff" "I") ∈ lw_all := lw_g (lw_at lw_m5 83 rfl) rfl
theorem q1085 : (Jvm.Cond.soleField "LunchMarksModel" "bestOff") ∈ lw_all := lw_g (lw_at lw_m5 84 rfl) rfl
theorem q1086 : (Jvm.Cond.laysFinal "LunchMarksModel" "LunchMarksModel" "gives" "[Z") ∈ lw_all := lw_g (lw_at lw_m5 85 rfl) rfl
theorem q1087 : (Jvm.Cond.soleField "LunchMarksModel" "gives") ∈ lw_all := lw_g (lw_at lw_m5 86 rfl) rfl
theorem q1088 : (Jvm.Cond.superclass "LunchMarksModel" "java/lang/Object") ∈ lw_all := lw_g (lw_at lw_m5 87 rfl) rfl
theorem q1091 : (Jvm.Cond.instanceMethod ({ cls := "LunchMarksModel", name := "thrown", desc := "()I" } : Jvm.MethodName)) ∈ lw_all := lw_g (lw_at lw_m5 90 rfl) rfl
theorem q1092 : (Jvm.Cond.selects "LunchMarksModel" ({ cls := "LunchMarksModel", name := "thrown", desc := "()I" } : Jvm.MethodName) ({ cls := "LunchMarksModel", name := "thrown", desc := "()I" } : Jvm.MethodName)) ∈ lw_all := lw_g (lw_at lw_m5 91 rfl) rfl
theorem q1093 : (Jvm.Cond.code ({ cls := "LunchMarksModel", name := "thrown", desc := "()I" } : Jvm.MethodName) prog_10_method_2_code (1 : Nat) (Option.some Jvm.ClassFile.FieldType.int)) ∈ lw_all := lw_g (lw_at lw_m5 92 rfl) rfl
theorem q1095 : (Jvm.Cond.instanceMethod ({ cls := "LunchMarksModel", name := "station", desc := "(I)I" } : Jvm.MethodName)) ∈ lw_all := lw_g (lw_at lw_m5 94 rfl) rfl
theorem q1096 : (Jvm.Cond.selects "LunchMarksModel" ({ cls := "LunchMarksModel", name := "station", desc := "(I)I" } : Jvm.MethodName) ({ cls := "LunchMarksModel", name := "station", desc := "(I)I" } : Jvm.MethodName)) ∈ lw_all := lw_g (lw_at lw_m5 95 rfl) rfl
theorem q1097 : (Jvm.Cond.code ({ cls := "LunchMarksModel", name := "station", desc := "(I)I" } : Jvm.MethodName) prog_10_method_6_code (2 : Nat) (Option.some Jvm.ClassFile.FieldType.int)) ∈ lw_all := lw_g (lw_at lw_m5 96 rfl) rfl
theorem q1099 : (Jvm.Cond.instanceMethod ({ cls := "LunchMarksModel", name := "train", desc := "(I)I" } : Jvm.MethodName)) ∈ lw_all := lw_g (lw_at lw_m5 98 rfl) rfl
theorem q1100 : (Jvm.Cond.selects "LunchMarksModel" ({ cls := "LunchMarksModel", name := "train", desc := "(I)I" } : Jvm.MethodName) ({ cls := "LunchMarksModel", name := "train", desc := "(I)I" } : Jvm.MethodName)) ∈ lw_all := lw_g (lw_at lw_m5 99 rfl) rfl
theorem q1101 : (Jvm.Cond.code ({ cls := "LunchMarksModel", name := "train", desc := "(I)I" } : Jvm.MethodName) prog_10_method_7_code (2 : Nat) (Option.some Jvm.ClassFile.FieldType.int)) ∈ lw_all := lw_g (lw_at lw_m5 100 rfl) rfl
theorem q1103 : (Jvm.Cond.instanceMethod ({ cls := "LunchMarksModel", name := "stop", desc := "(III)I" } : Jvm.MethodName)) ∈ lw_all := lw_g (lw_at lw_m5 102 rfl) rfl
theorem q1104 : (Jvm.Cond.selects "LunchMarksModel" ({ cls := "LunchMarksModel", name := "stop", desc := "(III)I" } : Jvm.MethodName) ({ cls := "LunchMarksModel", name := "stop", desc := "(III)I" } : Jvm.MethodName)) ∈ lw_all := lw_g (lw_at lw_m5 103 rfl) rfl
theorem q1105 : (Jvm.Cond.code ({ cls := "LunchMarksModel", name := "stop", desc := "(III)I" } : Jvm.MethodName) prog_10_method_9_code (7 : Nat) (Option.some Jvm.ClassFile.FieldType.int)) ∈ lw_all := lw_g (lw_at lw_m5 104 rfl) rfl
theorem q1106 : (Jvm.Cond.methodLink "LunchMarksModel" (105 : Nat) ({ cls := "LunchMarksModel", name := "isTrain", desc := "(I)Z" } : Jvm.MethodName)) ∈ lw_all := lw_g (lw_at lw_m5 105 rfl) rfl
theorem q1107 : (Jvm.Cond.privateMethod ({ cls := "LunchMarksModel", name := "isTrain", desc := "(I)Z" } : Jvm.MethodName)) ∈ lw_tbl := lw_at lw_m5 106 rfl
theorem q1108 : (Jvm.Cond.instanceMethod ({ cls := "LunchMarksModel", name := "isTrain", desc := "(I)Z" } : Jvm.MethodName)) ∈ lw_all := lw_g (lw_at lw_m5 107 rfl) rfl
theorem q1109 : (Jvm.Cond.code ({ cls := "LunchMarksModel", name := "isTrain", desc := "(I)Z" } : Jvm.MethodName) prog_10_method_4_code (2 : Nat) (Option.some Jvm.ClassFile.FieldType.boolean)) ∈ lw_all := lw_g (lw_at lw_m5 108 rfl) rfl
theorem q1110 : (Jvm.Cond.methodLink "LunchMarksModel" (109 : Nat) ({ cls := "LunchMarksModel", name := "fail", desc := "()I" } : Jvm.MethodName)) ∈ lw_all := lw_g (lw_at lw_m5 109 rfl) rfl
theorem q1111 : (Jvm.Cond.privateMethod ({ cls := "LunchMarksModel", name := "fail", desc := "()I" } : Jvm.MethodName)) ∈ lw_tbl := lw_at lw_m5 110 rfl
theorem q1112 : (Jvm.Cond.instanceMethod ({ cls := "LunchMarksModel", name := "fail", desc := "()I" } : Jvm.MethodName)) ∈ lw_all := lw_g (lw_at lw_m5 111 rfl) rfl
theorem q1113 : (Jvm.Cond.code ({ cls := "LunchMarksModel", name := "fail", desc := "()I" } : Jvm.MethodName) prog_10_method_3_code (1 : Nat) (Option.some Jvm.ClassFile.FieldType.int)) ∈ lw_all := lw_g (lw_at lw_m5 112 rfl) rfl
theorem q1114 : (Jvm.Cond.methodLink "LunchMarksModel" (113 : Nat) ({ cls := "LunchMarksModel", name := "node", desc := "(II)I" } : Jvm.MethodName)) ∈ lw_all := lw_g (lw_at lw_m5 113 rfl) rfl
theorem q1115 : (Jvm.Cond.static ({ cls := "LunchMarksModel", name := "node", desc := "(II)I" } : Jvm.MethodName)) ∈ lw_all := lw_g (lw_at lw_m5 114 rfl) rfl
theorem q1116 : (Jvm.Cond.code ({ cls := "LunchMarksModel", name := "node", desc := "(II)I" } : Jvm.MethodName) prog_10_method_8_code (2 : Nat) (Option.some Jvm.ClassFile.FieldType.int)) ∈ lw_all := lw_g (lw_at lw_m5 115 rfl) rfl
theorem q1118 : (Jvm.Cond.instanceMethod ({ cls := "LunchMarksModel", name := "box", desc := "(IIIIII)I" } : Jvm.MethodName)) ∈ lw_all := lw_g (lw_at lw_m5 117 rfl) rfl
theorem q1119 : (Jvm.Cond.selects "LunchMarksModel" ({ cls := "LunchMarksModel", name := "box", desc := "(IIIIII)I" } : Jvm.MethodName) ({ cls := "LunchMarksModel", name := "box", desc := "(IIIIII)I" } : Jvm.MethodName)) ∈ lw_all := lw_g (lw_at lw_m5 118 rfl) rfl
theorem q1120 : (Jvm.Cond.code ({ cls := "LunchMarksModel", name := "box", desc := "(IIIIII)I" } : Jvm.MethodName) prog_10_method_10_code (8 : Nat) (Option.some Jvm.ClassFile.FieldType.int)) ∈ lw_all := lw_g (lw_at lw_m5 119 rfl) rfl
theorem q1122 : (Jvm.Cond.instanceMethod ({ cls := "LunchMarksModel", name := "plan", desc := "()I" } : Jvm.MethodName)) ∈ lw_all := lw_g (lw_at lw_m5 121 rfl) rfl
theorem q1123 : (Jvm.Cond.selects "LunchMarksModel" ({ cls := "LunchMarksModel", name := "plan", desc := "()I" } : Jvm.MethodName) ({ cls := "LunchMarksModel", name := "plan", desc := "()I" } : Jvm.MethodName)) ∈ lw_all := lw_g (lw_at lw_m5 122 rfl) rfl
theorem q1124 : (Jvm.Cond.code ({ cls := "LunchMarksModel", name := "plan", desc := "()I" } : Jvm.MethodName) prog_10_method_28_code (4 : Nat) (Option.some Jvm.ClassFile.FieldType.int)) ∈ lw_all := lw_g (lw_at lw_m5 123 rfl) rfl
theorem q1125 : (Jvm.Cond.methodLink "LunchMarksModel" (133 : Nat) ({ cls := "LunchMarksModel", name := "wayOf", desc := "(I)I" } : Jvm.MethodName)) ∈ lw_all := lw_g (lw_at lw_m5 124 rfl) rfl
theorem q1126 : (Jvm.Cond.privateMethod ({ cls := "LunchMarksModel", name := "wayOf", desc := "(I)I" } : Jvm.MethodName)) ∈ lw_tbl := lw_at lw_m5 125 rfl
theorem q1127 : (Jvm.Cond.instanceMethod ({ cls := "LunchMarksModel", name := "wayOf", desc := "(I)I" } : Jvm.MethodName)) ∈ lw_all := lw_g (lw_at lw_m5 126 rfl) rfl
theorem q1128 : (Jvm.Cond.code ({ cls := "LunchMarksModel", name := "wayOf", desc := "(I)I" } : Jvm.MethodName) prog_10_method_11_code (2 : Nat) (Option.some Jvm.ClassFile.FieldType.int)) ∈ lw_all := lw_g (lw_at lw_m5 127 rfl) rfl
theorem q1129 : (Jvm.Cond.methodLink "LunchMarksModel" (188 : Nat) ({ cls := "java/lang/Math", name := "max", desc := "(II)I" } : Jvm.MethodName)) ∈ lw_all := lw_g (lw_at lw_m5 128 rfl) rfl
theorem q1130 : (Jvm.Cond.methodLink "LunchMarksModel" (193 : Nat) ({ cls := "LunchMarksModel", name := "leadOn", desc := "(III)Z" } : Jvm.MethodName)) ∈ lw_all := lw_g (lw_at lw_m5 129 rfl) rfl
theorem q1131 : (Jvm.Cond.privateMethod ({ cls := "LunchMarksModel", name := "leadOn", desc := "(III)Z" } : Jvm.MethodName)) ∈ lw_tbl := lw_at lw_m5 130 rfl
theorem q1132 : (Jvm.Cond.instanceMethod ({ cls := "LunchMarksModel", name := "leadOn", desc := "(III)Z" } : Jvm.MethodName)) ∈ lw_all := lw_g (lw_at lw_m5 131 rfl) rfl
theorem q1133 : (Jvm.Cond.code ({ cls := "LunchMarksModel", name := "leadOn", desc := "(III)Z" } : Jvm.MethodName) prog_10_method_27_code (7 : Nat) (Option.some Jvm.ClassFile.FieldType.boolean)) ∈ lw_all := lw_g (lw_at lw_m5 132 rfl) rfl
theorem q1134 : (Jvm.Cond.methodLink "LunchMarksModel" (177 : Nat) ({ cls := "LunchMarksModel", name := "lead", desc := "(III)Z" } : Jvm.MethodName)) ∈ lw_all := lw_g (lw_at lw_m5 133 rfl) rfl
theorem q1135 : (Jvm.Cond.privateMethod ({ cls := "LunchMarksModel", name := "lead", desc := "(III)Z" } : Jvm.MethodName)) ∈ lw_tbl := lw_at lw_m5 134 rfl
theorem q1136 : (Jvm.Cond.instanceMethod ({ cls := "LunchMarksModel", name := "lead", desc := "(III)Z" } : Jvm.MethodName)) ∈ lw_all := lw_g (lw_at lw_m5 135 rfl) rfl
theorem q1137 : (Jvm.Cond.code ({ cls := "LunchMarksModel", name := "lead", desc := "(III)Z" } : Jvm.MethodName) prog_10_method_25_code (9 : Nat) (Option.some Jvm.ClassFile.FieldType.boolean)) ∈ lw_all := lw_g (lw_at lw_m5 136 rfl) rfl
theorem q1138 : (Jvm.Cond.methodLink "LunchMarksModel" (170 : Nat) ({ cls := "LunchMarksModel", name := "toOf", desc := "(I)I" } : Jvm.MethodName)) ∈ lw_all := lw_g (lw_at lw_m5 137 rfl) rfl
theorem q1139 : (Jvm.Cond.privateMethod ({ cls := "LunchMarksModel", name := "toOf", desc := "(I)I" } : Jvm.MethodName)) ∈ lw_tbl := lw_at lw_m5 138 rfl
theorem q1140 : (Jvm.Cond.instanceMethod ({ cls := "LunchMarksModel", name := "toOf", desc := "(I)I" } : Jvm.MethodName)) ∈ lw_all := lw_g (lw_at lw_m5 139 rfl) rfl
theorem q1141 : (Jvm.Cond.code ({ cls := "LunchMarksModel", name := "toOf", desc := "(I)I" } : Jvm.MethodName) prog_10_method_13_code (2 : Nat) (Option.some Jvm.ClassFile.FieldType.int)) ∈ lw_all := lw_g (lw_at lw_m5 140 rfl) rfl
theorem q1142 : (Jvm.Cond.methodLink "LunchMarksModel" (173 : Nat) ({ cls := "LunchMarksModel", name := "reckon", desc := "(I)V" } : Jvm.MethodName)) ∈ lw_all := lw_g (lw_at lw_m5 141 rfl) rfl
theorem q1143 : (Jvm.Cond.privateMethod ({ cls := "LunchMarksModel", name := "reckon", desc := "(I)V" } : Jvm.MethodName)) ∈ lw_tbl := lw_at lw_m5 142 rfl
theorem q1144 : (Jvm.Cond.instanceMethod ({ cls := "LunchMarksModel", name := "reckon", desc := "(I)V" } : Jvm.MethodName)) ∈ lw_all := lw_g (lw_at lw_m5 143 rfl) rfl
theorem q1145 : (Jvm.Cond.code ({ cls := "LunchMarksModel", name := "reckon", desc := "(I)V" } : Jvm.MethodName) prog_10_method_21_code (6 : Nat) (Option.none : Option Jvm.ClassFile.FieldType)) ∈ lw_all := lw_g (lw_at lw_m5 144 rfl) rfl
theorem q1146 : (Jvm.Cond.methodLink "LunchMarksModel" (139 : Nat) ({ cls := "LunchMarksModel", name := "reckonOne", desc := "(IIIII)V" } : Jvm.MethodName)) ∈ lw_all := lw_g (lw_at lw_m5 145 rfl) rfl
theorem q1147 : (Jvm.Cond.privateMethod ({ cls := "LunchMarksModel", name := "reckonOne", desc := "(IIIII)V" } : Jvm.MethodName)) ∈ lw_tbl := lw_at lw_m5 146 rfl
theorem q1148 : (Jvm.Cond.instanceMethod ({ cls := "LunchMarksModel", name := "reckonOne", desc := "(IIIII)V" } : Jvm.MethodName)) ∈ lw_all := lw_g (lw_at lw_m5 147 rfl) rfl
theorem q1149 : (Jvm.Cond.code ({ cls := "LunchMarksModel", name := "reckonOne", desc := "(IIIII)V" } : Jvm.MethodName) prog_10_method_22_code (6 : Nat) (Option.none : Option Jvm.ClassFile.FieldType)) ∈ lw_all := lw_g (lw_at lw_m5 148 rfl) rfl
theorem q1150 : (Jvm.Cond.methodLink "LunchMarksModel" (143 : Nat) ({ cls := "LunchMarksModel", name := "look", desc := "(IIII)V" } : Jvm.MethodName)) ∈ lw_all := lw_g (lw_at lw_m5 149 rfl) rfl
theorem q1151 : (Jvm.Cond.privateMethod ({ cls := "LunchMarksModel", name := "look", desc := "(IIII)V" } : Jvm.MethodName)) ∈ lw_tbl := lw_at lw_m5 150 rfl
theorem q1152 : (Jvm.Cond.instanceMethod ({ cls := "LunchMarksModel", name := "look", desc := "(IIII)V" } : Jvm.MethodName)) ∈ lw_all := lw_g (lw_at lw_m5 151 rfl) rfl
theorem q1153 : (Jvm.Cond.code ({ cls := "LunchMarksModel", name := "look", desc := "(IIII)V" } : Jvm.MethodName) prog_10_method_23_code (8 : Nat) (Option.none : Option Jvm.ClassFile.FieldType)) ∈ lw_all := lw_g (lw_at lw_m5 152 rfl) rfl
theorem q1154 : (Jvm.Cond.constant "LunchMarksModel" (153 : Nat) (268435456 : Int32)) ∈ lw_all := lw_g (lw_at lw_m5 153 rfl) rfl
theorem q1155 : (Jvm.Cond.methodLink "LunchMarksModel" (157 : Nat) ({ cls := "LunchMarksModel", name := "isFree", desc := "(II)Z" } : Jvm.MethodName)) ∈ lw_all := lw_g (lw_at lw_m5 154 rfl) rfl
theorem q1156 : (Jvm.Cond.privateMethod ({ cls := "LunchMarksModel", name := "isFree", desc := "(II)Z" } : Jvm.MethodName)) ∈ lw_tbl := lw_at lw_m5 155 rfl
theorem q1157 : (Jvm.Cond.instanceMethod ({ cls := "LunchMarksModel", name := "isFree", desc := "(II)Z" } : Jvm.MethodName)) ∈ lw_all := lw_g (lw_at lw_m5 156 rfl) rfl
theorem q1158 : (Jvm.Cond.code ({ cls := "LunchMarksModel", name := "isFree", desc := "(II)Z" } : Jvm.MethodName) prog_10_method_20_code (3 : Nat) (Option.some Jvm.ClassFile.FieldType.boolean)) ∈ lw_all := lw_g (lw_at lw_m5 157 rfl) rfl
theorem q1159 : (Jvm.Cond.methodLink "LunchMarksModel" (161 : Nat) ({ cls := "LunchMarksModel", name := "lookLeg", desc := "(IIII)V" } : Jvm.MethodName)) ∈ lw_all := lw_g (lw_at lw_m5 158 rfl) rfl
theorem q1160 : (Jvm.Cond.privateMethod ({ cls := "LunchMarksModel", name := "lookLeg", desc := "(IIII)V" } : Jvm.MethodName)) ∈ lw_tbl := lw_at lw_m5 159 rfl
theorem q1161 : (Jvm.Cond.instanceMethod ({ cls := "LunchMarksModel", name := "lookLeg", desc := "(IIII)V" } : Jvm.MethodName)) ∈ lw_all := lw_g (lw_at lw_m5 160 rfl) rfl
theorem q1162 : (Jvm.Cond.code ({ cls := "LunchMarksModel", name := "lookLeg", desc := "(IIII)V" } : Jvm.MethodName) prog_10_method_24_code (8 : Nat) (Option.none : Option Jvm.ClassFile.FieldType)) ∈ lw_all := lw_g (lw_at lw_m5 161 rfl) rfl
theorem q1163 : (Jvm.Cond.methodLink "LunchMarksModel" (127 : Nat) ({ cls := "LunchMarksModel", name := "legAt", desc := "(II)I" } : Jvm.MethodName)) ∈ lw_all := lw_g (lw_at lw_m5 162 rfl) rfl
theorem q1164 : (Jvm.Cond.static ({ cls := "LunchMarksModel", name := "legAt", desc := "(II)I" } : Jvm.MethodName)) ∈ lw_all := lw_g (lw_at lw_m5 163 rfl) rfl
theorem q1165 : (Jvm.Cond.code ({ cls := "LunchMarksModel", name := "legAt", desc := "(II)I" } : Jvm.MethodName) prog_10_method_16_code (2 : Nat) (Option.some Jvm.ClassFile.FieldType.int)) ∈ lw_all := lw_g (lw_at lw_m5 164 rfl) rfl
theorem q1166 : (Jvm.Cond.methodLink "LunchMarksModel" (181 : Nat) ({ cls := "LunchMarksModel", name := "load0", desc := "(III)V" } : Jvm.MethodName)) ∈ lw_all := lw_g (lw_at lw_m5 165 rfl) rfl
theorem q1167 : (Jvm.Cond.privateMethod ({ cls := "LunchMarksModel", name := "load0", desc := "(III)V" } : Jvm.MethodName)) ∈ lw_tbl := lw_at lw_m5 166 rfl
theorem q1168 : (Jvm.Cond.instanceMethod ({ cls := "LunchMarksModel", name := "load0", desc := "(III)V" } : Jvm.MethodName)) ∈ lw_all := lw_g (lw_at lw_m5 167 rfl) rfl
theorem q1169 : (Jvm.Cond.code ({ cls := "LunchMarksModel", name := "load0", desc := "(III)V" } : Jvm.MethodName) prog_10_method_26_code (7 : Nat) (Option.none : Option Jvm.ClassFile.FieldType)) ∈ lw_all := lw_g (lw_at lw_m5 168 rfl) rfl
theorem q1170 : (Jvm.Cond.methodLink "LunchMarksModel" (117 : Nat) ({ cls := "LunchMarksModel", name := "readyOf", desc := "(I)I" } : Jvm.MethodName)) ∈ lw_all := lw_g (lw_at lw_m5 169 rfl) rfl
theorem q1171 : (Jvm.Cond.privateMethod ({ cls := "LunchMarksModel", name := "readyOf", desc := "(I)I" } : Jvm.MethodName)) ∈ lw_tbl := lw_at lw_m5 170 rfl
theorem q1172 : (Jvm.Cond.instanceMethod ({ cls := "LunchMarksModel", name := "readyOf", desc := "(I)I" } : Jvm.MethodName)) ∈ lw_all := lw_g (lw_at lw_m5 171 rfl) rfl
theorem q1173 : (Jvm.Cond.code ({ cls := "LunchMarksModel", name := "readyOf", desc := "(I)I" } : Jvm.MethodName) prog_10_method_14_code (2 : Nat) (Option.some Jvm.ClassFile.FieldType.int)) ∈ lw_all := lw_g (lw_at lw_m5 172 rfl) rfl
theorem q1174 : (Jvm.Cond.methodLink "LunchMarksModel" (121 : Nat) ({ cls := "LunchMarksModel", name := "fromOf", desc := "(I)I" } : Jvm.MethodName)) ∈ lw_all := lw_g (lw_at lw_m5 173 rfl) rfl
theorem q1175 : (Jvm.Cond.privateMethod ({ cls := "LunchMarksModel", name := "fromOf", desc := "(I)I" } : Jvm.MethodName)) ∈ lw_tbl := lw_at lw_m5 174 rfl
theorem q1176 : (Jvm.Cond.instanceMethod ({ cls := "LunchMarksModel", name := "fromOf", desc := "(I)I" } : Jvm.MethodName)) ∈ lw_all := lw_g (lw_at lw_m5 175 rfl) rfl
theorem q1177 : (Jvm.Cond.code ({ cls := "LunchMarksModel", name := "fromOf", desc := "(I)I" } : Jvm.MethodName) prog_10_method_12_code (2 : Nat) (Option.some Jvm.ClassFile.FieldType.int)) ∈ lw_all := lw_g (lw_at lw_m5 176 rfl) rfl
theorem q1178 : (Jvm.Cond.methodLink "LunchMarksModel" (124 : Nat) ({ cls := "LunchMarksModel", name := "sortedAt", desc := "(I)I" } : Jvm.MethodName)) ∈ lw_all := lw_g (lw_at lw_m5 177 rfl) rfl
theorem q1179 : (Jvm.Cond.privateMethod ({ cls := "LunchMarksModel", name := "sortedAt", desc := "(I)I" } : Jvm.MethodName)) ∈ lw_tbl := lw_at lw_m5 178 rfl
theorem q1180 : (Jvm.Cond.instanceMethod ({ cls := "LunchMarksModel", name := "sortedAt", desc := "(I)I" } : Jvm.MethodName)) ∈ lw_all := lw_g (lw_at lw_m5 179 rfl) rfl
theorem q1181 : (Jvm.Cond.code ({ cls := "LunchMarksModel", name := "sortedAt", desc := "(I)I" } : Jvm.MethodName) prog_10_method_15_code (2 : Nat) (Option.some Jvm.ClassFile.FieldType.int)) ∈ lw_all := lw_g (lw_at lw_m5 180 rfl) rfl
theorem q1183 : (Jvm.Cond.instanceMethod ({ cls := "LunchMarksModel", name := "minutes", desc := "(I)I" } : Jvm.MethodName)) ∈ lw_all := lw_g (lw_at lw_m5 182 rfl) rfl
theorem q1184 : (Jvm.Cond.selects "LunchMarksModel" ({ cls := "LunchMarksModel", name := "minutes", desc := "(I)I" } : Jvm.MethodName) ({ cls := "LunchMarksModel", name := "minutes", desc := "(I)I" } : Jvm.MethodName)) ∈ lw_all := lw_g (lw_at lw_m5 183 rfl) rfl
theorem q1185 : (Jvm.Cond.code ({ cls := "LunchMarksModel", name := "minutes", desc := "(I)I" } : Jvm.MethodName) prog_10_method_29_code (2 : Nat) (Option.some Jvm.ClassFile.FieldType.int)) ∈ lw_all := lw_g (lw_at lw_m5 184 rfl) rfl
theorem q1187 : (Jvm.Cond.instanceMethod ({ cls := "LunchMarksModel", name := "cancel", desc := "(I)I" } : Jvm.MethodName)) ∈ lw_all := lw_g (lw_at lw_m5 186 rfl) rfl
theorem q1188 : (Jvm.Cond.selects "LunchMarksModel" ({ cls := "LunchMarksModel", name := "cancel", desc := "(I)I" } : Jvm.MethodName) ({ cls := "LunchMarksModel", name := "cancel", desc := "(I)I" } : Jvm.MethodName)) ∈ lw_all := lw_g (lw_at lw_m5 187 rfl) rfl
theorem q1189 : (Jvm.Cond.code ({ cls := "LunchMarksModel", name := "cancel", desc := "(I)I" } : Jvm.MethodName) prog_10_method_31_code (8 : Nat) (Option.some Jvm.ClassFile.FieldType.int)) ∈ lw_all := lw_g (lw_at lw_m5 188 rfl) rfl
theorem q1190 : (Jvm.Cond.methodLink "LunchMarksModel" (196 : Nat) ({ cls := "LunchMarksModel", name := "firstOn", desc := "(II)I" } : Jvm.MethodName)) ∈ lw_all := lw_g (lw_at lw_m5 189 rfl) rfl
theorem q1191 : (Jvm.Cond.privateMethod ({ cls := "LunchMarksModel", name := "firstOn", desc := "(II)I" } : Jvm.MethodName)) ∈ lw_tbl := lw_at lw_m5 190 rfl
theorem q1192 : (Jvm.Cond.instanceMethod ({ cls := "LunchMarksModel", name := "firstOn", desc := "(II)I" } : Jvm.MethodName)) ∈ lw_all := lw_g (lw_at lw_m5 191 rfl) rfl
theorem q1193 : (Jvm.Cond.code ({ cls := "LunchMarksModel", name := "firstOn", desc := "(II)I" } : Jvm.MethodName) prog_10_method_30_code (5 : Nat) (Option.some Jvm.ClassFile.FieldType.int)) ∈ lw_all := lw_g (lw_at lw_m5 192 rfl) rfl
theorem q1194 : (Jvm.Cond.methodLink "LunchMarksModel" (136 : Nat) ({ cls := "LunchMarksModel", name := "there", desc := "(II)I" } : Jvm.MethodName)) ∈ lw_all := lw_g (lw_at lw_m5 193 rfl) rfl
theorem q1195 : (Jvm.Cond.privateMethod ({ cls := "LunchMarksModel", name := "there", desc := "(II)I" } : Jvm.MethodName)) ∈ lw_tbl := lw_at lw_m5 194 rfl
theorem q1196 : (Jvm.Cond.instanceMethod ({ cls := "LunchMarksModel", name := "there", desc := "(II)I" } : Jvm.MethodName)) ∈ lw_all := lw_g (lw_at lw_m5 195 rfl) rfl
theorem q1197 : (Jvm.Cond.code ({ cls := "LunchMarksModel", name := "there", desc := "(II)I" } : Jvm.MethodName) prog_10_method_18_code (3 : Nat) (Option.some Jvm.ClassFile.FieldType.int)) ∈ lw_all := lw_g (lw_at lw_m5 196 rfl) rfl
theorem q1198 : (Jvm.Cond.methodLink "LunchMarksModel" (130 : Nat) ({ cls := "LunchMarksModel", name := "behind", desc := "(I)I" } : Jvm.MethodName)) ∈ lw_all := lw_g (lw_at lw_m5 197 rfl) rfl
theorem q1199 : (Jvm.Cond.privateMethod ({ cls := "LunchMarksModel", name := "behind", desc := "(I)I" } : Jvm.MethodName)) ∈ lw_tbl := lw_at lw_m5 198 rfl
theorem q1200 : (Jvm.Cond.instanceMethod ({ cls := "LunchMarksModel", name := "behind", desc := "(I)I" } : Jvm.MethodName)) ∈ lw_all := lw_g (lw_at lw_m5 199 rfl) rfl
theorem q1201 : (Jvm.Cond.code ({ cls := "LunchMarksModel", name := "behind", desc := "(I)I" } : Jvm.MethodName) prog_10_method_17_code (3 : Nat) (Option.some Jvm.ClassFile.FieldType.int)) ∈ lw_all := lw_g (lw_at lw_m5 200 rfl) rfl
theorem q1203 : (Jvm.Cond.instanceMethod ({ cls := "LunchMarksModel", name := "empty", desc := "(II)Z" } : Jvm.MethodName)) ∈ lw_all := lw_g (lw_at lw_m5 202 rfl) rfl
theorem q1204 : (Jvm.Cond.selects "LunchMarksModel" ({ cls := "LunchMarksModel", name := "empty", desc := "(II)Z" } : Jvm.MethodName) ({ cls := "LunchMarksModel", name := "empty", desc := "(II)Z" } : Jvm.MethodName)) ∈ lw_all := lw_g (lw_at lw_m5 203 rfl) rfl
theorem q1205 : (Jvm.Cond.code ({ cls := "LunchMarksModel", name := "empty", desc := "(II)Z" } : Jvm.MethodName) prog_10_method_32_code (3 : Nat) (Option.some Jvm.ClassFile.FieldType.boolean)) ∈ lw_all := lw_g (lw_at lw_m5 204 rfl) rfl
theorem q1206 : (Jvm.Cond.methodLink "LunchMarksModel" (199 : Nat) ({ cls := "LunchMarksModel", name := "isBox", desc := "(I)Z" } : Jvm.MethodName)) ∈ lw_all := lw_g (lw_at lw_m5 205 rfl) rfl
theorem q1207 : (Jvm.Cond.privateMethod ({ cls := "LunchMarksModel", name := "isBox", desc := "(I)Z" } : Jvm.MethodName)) ∈ lw_tbl := lw_at lw_m5 206 rfl
theorem q1208 : (Jvm.Cond.instanceMethod ({ cls := "LunchMarksModel", name := "isBox", desc := "(I)Z" } : Jvm.MethodName)) ∈ lw_all := lw_g (lw_at lw_m5 207 rfl) rfl
theorem q1209 : (Jvm.Cond.code ({ cls := "LunchMarksModel", name := "isBox", desc := "(I)Z" } : Jvm.MethodName) prog_10_method_5_code (2 : Nat) (Option.some Jvm.ClassFile.FieldType.boolean)) ∈ lw_all := lw_g (lw_at lw_m5 208 rfl) rfl
theorem q1210 : (Jvm.Cond.methodLink "LunchMarksModel" (202 : Nat) ({ cls := "LunchMarksModel", name := "arrives", desc := "(I)I" } : Jvm.MethodName)) ∈ lw_all := lw_g (lw_at lw_m5 209 rfl) rfl
theorem q1211 : (Jvm.Cond.privateMethod ({ cls := "LunchMarksModel", name := "arrives", desc := "(I)I" } : Jvm.MethodName)) ∈ lw_tbl := lw_at lw_m5 210 rfl
theorem q1212 : (Jvm.Cond.instanceMethod ({ cls := "LunchMarksModel", name := "arrives", desc := "(I)I" } : Jvm.MethodName)) ∈ lw_all := lw_g (lw_at lw_m5 211 rfl) rfl
theorem q1213 : (Jvm.Cond.code ({ cls := "LunchMarksModel", name := "arrives", desc := "(I)I" } : Jvm.MethodName) prog_10_method_19_code (3 : Nat) (Option.some Jvm.ClassFile.FieldType.int)) ∈ lw_all := lw_g (lw_at lw_m5 212 rfl) rfl
theorem q1215 : (Jvm.Cond.instanceMethod ({ cls := "LunchMarksModel", name := "of", desc := "(II)I" } : Jvm.MethodName)) ∈ lw_all := lw_g (lw_at lw_m5 214 rfl) rfl
theorem q1216 : (Jvm.Cond.selects "LunchMarksModel" ({ cls := "LunchMarksModel", name := "of", desc := "(II)I" } : Jvm.MethodName) ({ cls := "LunchMarksModel", name := "of", desc := "(II)I" } : Jvm.MethodName)) ∈ lw_all := lw_g (lw_at lw_m5 215 rfl) rfl
theorem q1217 : (Jvm.Cond.code ({ cls := "LunchMarksModel", name := "of", desc := "(II)I" } : Jvm.MethodName) prog_10_method_35_code (4 : Nat) (Option.some Jvm.ClassFile.FieldType.int)) ∈ lw_all := lw_g (lw_at lw_m5 216 rfl) rfl
theorem q1218 : (Jvm.Cond.methodLink "LunchMarksModel" (205 : Nat) ({ cls := "LunchMarksModel", name := "isGone", desc := "(I)Z" } : Jvm.MethodName)) ∈ lw_all := lw_g (lw_at lw_m5 217 rfl) rfl
theorem q1219 : (Jvm.Cond.privateMethod ({ cls := "LunchMarksModel", name := "isGone", desc := "(I)Z" } : Jvm.MethodName)) ∈ lw_tbl := lw_at lw_m5 218 rfl
theorem q1220 : (Jvm.Cond.instanceMethod ({ cls := "LunchMarksModel", name := "isGone", desc := "(I)Z" } : Jvm.MethodName)) ∈ lw_all := lw_g (lw_at lw_m5 219 rfl) rfl
theorem q1221 : (Jvm.Cond.code ({ cls := "LunchMarksModel", name := "isGone", desc := "(I)Z" } : Jvm.MethodName) prog_10_method_33_code (2 : Nat) (Option.some Jvm.ClassFile.FieldType.boolean)) ∈ lw_all := lw_g (lw_at lw_m5 220 rfl) rfl
theorem q1222 : (Jvm.Cond.methodLink "LunchMarksModel" (208 : Nat) ({ cls := "LunchMarksModel", name := "isLate", desc := "(I)Z" } : Jvm.MethodName)) ∈ lw_all := lw_g (lw_at lw_m5 221 rfl) rfl
theorem q1223 : (Jvm.Cond.privateMethod ({ cls := "LunchMarksModel", name := "isLate", desc := "(I)Z" } : Jvm.MethodName)) ∈ lw_tbl := lw_at lw_m5 222 rfl
theorem q1224 : (Jvm.Cond.instanceMethod ({ cls := "LunchMarksModel", name := "isLate", desc := "(I)Z" } : Jvm.MethodName)) ∈ lw_all := lw_g (lw_at lw_m5 223 rfl) rfl
theorem q1225 : (Jvm.Cond.code ({ cls := "LunchMarksModel", name := "isLate", desc := "(I)Z" } : Jvm.MethodName) prog_10_method_34_code (2 : Nat) (Option.some Jvm.ClassFile.FieldType.boolean)) ∈ lw_all := lw_g (lw_at lw_m5 224 rfl) rfl
theorem q1227 : (Jvm.Cond.instanceMethod ({ cls := "LunchMarksModel", name := "leg", desc := "(III)I" } : Jvm.MethodName)) ∈ lw_all := lw_g (lw_at lw_m5 226 rfl) rfl
theorem q1228 : (Jvm.Cond.selects "LunchMarksModel" ({ cls := "LunchMarksModel", name := "leg", desc := "(III)I" } : Jvm.MethodName) ({ cls := "LunchMarksModel", name := "leg", desc := "(III)I" } : Jvm.MethodName)) ∈ lw_all := lw_g (lw_at lw_m5 227 rfl) rfl
theorem q1229 : (Jvm.Cond.code ({ cls := "LunchMarksModel", name := "leg", desc := "(III)I" } : Jvm.MethodName) prog_10_method_36_code (5 : Nat) (Option.some Jvm.ClassFile.FieldType.int)) ∈ lw_all := lw_g (lw_at lw_m5 228 rfl) rfl
theorem q1231 : (Jvm.Cond.instanceMethod ({ cls := "LunchMarksModel", name := "load", desc := "(II)I" } : Jvm.MethodName)) ∈ lw_all := lw_g (lw_at lw_m5 230 rfl) rfl
theorem q1232 : (Jvm.Cond.selects "LunchMarksModel" ({ cls := "LunchMarksModel", name := "load", desc := "(II)I" } : Jvm.MethodName) ({ cls := "LunchMarksModel", name := "load", desc := "(II)I" } : Jvm.MethodName)) ∈ lw_all := lw_g (lw_at lw_m5 231 rfl) rfl
theorem q1233 : (Jvm.Cond.code ({ cls := "LunchMarksModel", name := "load", desc := "(II)I" } : Jvm.MethodName) prog_10_method_37_code (3 : Nat) (Option.some Jvm.ClassFile.FieldType.int)) ∈ lw_all := lw_g (lw_at lw_m5 232 rfl) rfl
theorem q1235 : (Jvm.Cond.instanceMethod ({ cls := "LunchMarksModel", name := "where", desc := "(I)I" } : Jvm.MethodName)) ∈ lw_all := lw_g (lw_at lw_m5 234 rfl) rfl
theorem q1236 : (Jvm.Cond.selects "LunchMarksModel" ({ cls := "LunchMarksModel", name := "where", desc := "(I)I" } : Jvm.MethodName) ({ cls := "LunchMarksModel", name := "where", desc := "(I)I" } : Jvm.MethodName)) ∈ lw_all := lw_g (lw_at lw_m5 235 rfl) rfl
theorem q1237 : (Jvm.Cond.code ({ cls := "LunchMarksModel", name := "where", desc := "(I)I" } : Jvm.MethodName) prog_10_method_38_code (5 : Nat) (Option.some Jvm.ClassFile.FieldType.int)) ∈ lw_all := lw_g (lw_at lw_m5 236 rfl) rfl
theorem q1239 : (Jvm.Cond.instanceMethod ({ cls := "LunchMarksModel", name := "mark", desc := "(I)I" } : Jvm.MethodName)) ∈ lw_all := lw_g (lw_at lw_m5 238 rfl) rfl
theorem q1240 : (Jvm.Cond.selects "LunchMarksModel" ({ cls := "LunchMarksModel", name := "mark", desc := "(I)I" } : Jvm.MethodName) ({ cls := "LunchMarksModel", name := "mark", desc := "(I)I" } : Jvm.MethodName)) ∈ lw_all := lw_g (lw_at lw_m5 239 rfl) rfl
theorem q1241 : (Jvm.Cond.code ({ cls := "LunchMarksModel", name := "mark", desc := "(I)I" } : Jvm.MethodName) prog_10_method_42_code (2 : Nat) (Option.some Jvm.ClassFile.FieldType.int)) ∈ lw_all := lw_g (lw_at lw_m6 0 rfl) rfl
theorem q1242 : (Jvm.Cond.methodLink "LunchMarksModel" (214 : Nat) ({ cls := "LunchMarksModel", name := "firstLike", desc := "(I)I" } : Jvm.MethodName)) ∈ lw_all := lw_g (lw_at lw_m6 1 rfl) rfl
theorem q1243 : (Jvm.Cond.privateMethod ({ cls := "LunchMarksModel", name := "firstLike", desc := "(I)I" } : Jvm.MethodName)) ∈ lw_tbl := lw_at lw_m6 2 rfl
theorem q1244 : (Jvm.Cond.instanceMethod ({ cls := "LunchMarksModel", name := "firstLike", desc := "(I)I" } : Jvm.MethodName)) ∈ lw_all := lw_g (lw_at lw_m6 3 rfl) rfl
theorem q1245 : (Jvm.Cond.code ({ cls := "LunchMarksModel", name := "firstLike", desc := "(I)I" } : Jvm.MethodName) prog_10_method_40_code (3 : Nat) (Option.some Jvm.ClassFile.FieldType.int)) ∈ lw_all := lw_g (lw_at lw_m6 4 rfl) rfl
theorem q1246 : (Jvm.Cond.methodLink "LunchMarksModel" (211 : Nat) ({ cls := "LunchMarksModel", name := "isAlike", desc := "(II)Z" } : Jvm.MethodName)) ∈ lw_all := lw_g (lw_at lw_m6 5 rfl) rfl
theorem q1247 : (Jvm.Cond.privateMethod ({ cls := "LunchMarksModel", name := "isAlike", desc := "(II)Z" } : Jvm.MethodName)) ∈ lw_tbl := lw_at lw_m6 6 rfl
theorem q1248 : (Jvm.Cond.instanceMethod ({ cls := "LunchMarksModel", name := "isAlike", desc := "(II)Z" } : Jvm.MethodName)) ∈ lw_all := lw_g (lw_at lw_m6 7 rfl) rfl
theorem q1249 : (Jvm.Cond.code ({ cls := "LunchMarksModel", name := "isAlike", desc := "(II)Z" } : Jvm.MethodName) prog_10_method_39_code (7 : Nat) (Option.some Jvm.ClassFile.FieldType.boolean)) ∈ lw_all := lw_g (lw_at lw_m6 8 rfl) rfl
theorem q1250 : (Jvm.Cond.methodLink "LunchMarksModel" (217 : Nat) ({ cls := "LunchMarksModel", name := "marksUpTo", desc := "(I)I" } : Jvm.MethodName)) ∈ lw_all := lw_g (lw_at lw_m6 9 rfl) rfl
theorem q1251 : (Jvm.Cond.privateMethod ({ cls := "LunchMarksModel", name := "marksUpTo", desc := "(I)I" } : Jvm.MethodName)) ∈ lw_tbl := lw_at lw_m6 10 rfl
theorem q1252 : (Jvm.Cond.instanceMethod ({ cls := "LunchMarksModel", name := "marksUpTo", desc := "(I)I" } : Jvm.MethodName)) ∈ lw_all := lw_g (lw_at lw_m6 11 rfl) rfl
theorem q1253 : (Jvm.Cond.code ({ cls := "LunchMarksModel", name := "marksUpTo", desc := "(I)I" } : Jvm.MethodName) prog_10_method_41_code (4 : Nat) (Option.some Jvm.ClassFile.FieldType.int)) ∈ lw_all := lw_g (lw_at lw_m6 12 rfl) rfl
theorem q1255 : (Jvm.Cond.instanceMethod ({ cls := "LunchMarksModel", name := "carrier", desc := "(I)I" } : Jvm.MethodName)) ∈ lw_all := lw_g (lw_at lw_m6 14 rfl) rfl
theorem q1256 : (Jvm.Cond.selects "LunchMarksModel" ({ cls := "LunchMarksModel", name := "carrier", desc := "(I)I" } : Jvm.MethodName) ({ cls := "LunchMarksModel", name := "carrier", desc := "(I)I" } : Jvm.MethodName)) ∈ lw_all := lw_g (lw_at lw_m6 15 rfl) rfl
theorem q1257 : (Jvm.Cond.code ({ cls := "LunchMarksModel", name := "carrier", desc := "(I)I" } : Jvm.MethodName) prog_10_method_43_code (2 : Nat) (Option.some Jvm.ClassFile.FieldType.int)) ∈ lw_all := lw_g (lw_at lw_m6 16 rfl) rfl
theorem q1259 : (Jvm.Cond.instanceMethod ({ cls := "LunchMarksModel", name := "share", desc := "(II)I" } : Jvm.MethodName)) ∈ lw_all := lw_g (lw_at lw_m6 18 rfl) rfl
theorem q1260 : (Jvm.Cond.selects "LunchMarksModel" ({ cls := "LunchMarksModel", name := "share", desc := "(II)I" } : Jvm.MethodName) ({ cls := "LunchMarksModel", name := "share", desc := "(II)I" } : Jvm.MethodName)) ∈ lw_all := lw_g (lw_at lw_m6 19 rfl) rfl
theorem q1261 : (Jvm.Cond.code ({ cls := "LunchMarksModel", name := "share", desc := "(II)I" } : Jvm.MethodName) prog_10_method_44_code (12 : Nat) (Option.some Jvm.ClassFile.FieldType.int)) ∈ lw_all := lw_g (lw_at lw_m6 20 rfl) rfl
theorem q1262 : (Jvm.Cond.constant "LunchMarksModel" (223 : Nat) (10000000 : Int32)) ∈ lw_all := lw_g (lw_at lw_m6 21 rfl) rfl
theorem q1264 : (Jvm.Cond.instanceMethod ({ cls := "LunchMarksModel", name := "count", desc := "(I)I" } : Jvm.MethodName)) ∈ lw_all := lw_g (lw_at lw_m6 23 rfl) rfl
theorem q1265 : (Jvm.Cond.selects "LunchMarksModel" ({ cls := "LunchMarksModel", name := "count", desc := "(I)I" } : Jvm.MethodName) ({ cls := "LunchMarksModel", name := "count", desc := "(I)I" } : Jvm.MethodName)) ∈ lw_all := lw_g (lw_at lw_m6 24 rfl) rfl
theorem q1266 : (Jvm.Cond.code ({ cls := "LunchMarksModel", name := "count", desc := "(I)I" } : Jvm.MethodName) prog_10_method_45_code (5 : Nat) (Option.some Jvm.ClassFile.FieldType.int)) ∈ lw_all := lw_g (lw_at lw_m6 25 rfl) rfl
theorem q1282 : (Jvm.Cond.castable "LunchMarksModel" "java/lang/Object") ∈ lw_tbl := lw_at lw_m6 41 rfl
theorem in_X2 : ∀ w ∈ wsX20, w ∈ lw_all := lw_in wsX20 [1012, 1014, 1016, 1018, 1020, 1022, 1024, 1026, 1028, 1030, 1032, 1034, 1036, 1038, 1040, 1042, 1044, 1046, 1048, 1050, 1052, 1054, 1056, 1058, 1060, 1062, 1064, 1066, 1068, 1070, 1072, 1074, 1076, 1078, 1080, 1082, 1084, 1086] (by decide +kernel) (by decide +kernel)
/-! X1.LunchMarks -/
def RX1 : String := "LunchMarks"
def TX1 : u_T := fun k => match k with
  | 0 => ("LunchMarks", "stations", "Ljava/util/ArrayList;", true)
  | 1 => ("LunchMarks", "trains", "Ljava/util/ArrayList;", true)
  | 2 => ("LunchMarks", "boxes", "Ljava/util/ArrayList;", true)
  | 3 => ("LunchMarks", "carriers", "Ljava/util/ArrayList;", true)
  | 4 => ("LunchMarks", "now", "I", false)
  | 5 => ("LunchMarks", "early", "[I", true)
  | _ => ("LunchMarks", "late", "[I", true)
def tyX1 : Nat → FieldType := fun k => match k with
  | 0 => .object "java/util/ArrayList"
  | 1 => .object "java/util/ArrayList"
  | 2 => .object "java/util/ArrayList"
  | 3 => .object "java/util/ArrayList"
  | 4 => .int
  | 5 => .array .int
  | _ => .array .int
abbrev wsX10 : List Cond := u_ws RX1 TX1 7
theorem nmX1 : ∀ a, a < 7 → ∀ b, b < 7 → a ≠ b → (TX1 a).2.1 ≠ (TX1 b).2.1 := by decide +kernel
theorem tyX1_ok : ∀ k, k < 7 → parseFieldDescriptor (TX1 k).2.2.1 = some (tyX1 k) := by decide +kernel
abbrev cX1_init : ByteArray := prog_1_method_1_code
def yX1_init : MethodName := ⟨RX1, "<init>", "()V"⟩
theorem dX1_init_0 : decode cX1_init 0 = .ok (.aload_n 0, 1) := by decide +kernel
theorem dX1_init_1 : decode cX1_init 1 = .ok (.invokespecial 1, 3) := by decide +kernel
theorem dX1_init_4 : decode cX1_init 4 = .ok (.aload_n 0, 1) := by decide +kernel
theorem dX1_init_5 : decode cX1_init 5 = .ok (.new 7, 3) := by decide +kernel
theorem dX1_init_8 : decode cX1_init 8 = .ok (.dup, 1) := by decide +kernel
theorem dX1_init_9 : decode cX1_init 9 = .ok (.iconst 2, 1) := by decide +kernel
theorem dX1_init_10 : decode cX1_init 10 = .ok (.invokespecial 9, 3) := by decide +kernel
theorem dX1_init_13 : decode cX1_init 13 = .ok (.putfield 12, 3) := by decide +kernel
theorem dX1_init_16 : decode cX1_init 16 = .ok (.aload_n 0, 1) := by decide +kernel
theorem dX1_init_17 : decode cX1_init 17 = .ok (.new 7, 3) := by decide +kernel
theorem dX1_init_20 : decode cX1_init 20 = .ok (.dup, 1) := by decide +kernel
theorem dX1_init_21 : decode cX1_init 21 = .ok (.iconst 2, 1) := by decide +kernel
theorem dX1_init_22 : decode cX1_init 22 = .ok (.invokespecial 9, 3) := by decide +kernel
theorem dX1_init_25 : decode cX1_init 25 = .ok (.putfield 18, 3) := by decide +kernel
theorem dX1_init_28 : decode cX1_init 28 = .ok (.aload_n 0, 1) := by decide +kernel
theorem dX1_init_29 : decode cX1_init 29 = .ok (.new 7, 3) := by decide +kernel
theorem dX1_init_32 : decode cX1_init 32 = .ok (.dup, 1) := by decide +kernel
theorem dX1_init_33 : decode cX1_init 33 = .ok (.iconst 2, 1) := by decide +kernel
theorem dX1_init_34 : decode cX1_init 34 = .ok (.invokespecial 9, 3) := by decide +kernel
theorem dX1_init_37 : decode cX1_init 37 = .ok (.putfield 21, 3) := by decide +kernel
theorem dX1_init_40 : decode cX1_init 40 = .ok (.aload_n 0, 1) := by decide +kernel
theorem dX1_init_41 : decode cX1_init 41 = .ok (.new 7, 3) := by decide +kernel
theorem dX1_init_44 : decode cX1_init 44 = .ok (.dup, 1) := by decide +kernel
theorem dX1_init_45 : decode cX1_init 45 = .ok (.iconst 2, 1) := by decide +kernel
theorem dX1_init_46 : decode cX1_init 46 = .ok (.invokespecial 9, 3) := by decide +kernel
theorem dX1_init_49 : decode cX1_init 49 = .ok (.putfield 24, 3) := by decide +kernel
theorem dX1_init_52 : decode cX1_init 52 = .ok (.aload_n 0, 1) := by decide +kernel
theorem dX1_init_53 : decode cX1_init 53 = .ok (.bipush 40, 2) := by decide +kernel
theorem dX1_init_55 : decode cX1_init 55 = .ok (.newarray .int, 2) := by decide +kernel
theorem dX1_init_57 : decode cX1_init 57 = .ok (.putfield 27, 3) := by decide +kernel
theorem dX1_init_60 : decode cX1_init 60 = .ok (.aload_n 0, 1) := by decide +kernel
theorem dX1_init_61 : decode cX1_init 61 = .ok (.bipush 40, 2) := by decide +kernel
theorem dX1_init_63 : decode cX1_init 63 = .ok (.newarray .int, 2) := by decide +kernel
theorem dX1_init_65 : decode cX1_init 65 = .ok (.putfield 31, 3) := by decide +kernel
theorem dX1_init_68 : decode cX1_init 68 = .ok (.return_, 1) := by decide +kernel
abbrev cX1_station : ByteArray := prog_1_method_8_code
def yX1_station : MethodName := ⟨RX1, "station", "(I)I"⟩
theorem dX1_station_0 : decode cX1_station 0 = .ok (.aload_n 0, 1) := by decide +kernel
theorem dX1_station_1 : decode cX1_station 1 = .ok (.getfield 12, 3) := by decide +kernel
theorem dX1_station_4 : decode cX1_station 4 = .ok (.invokevirtual 40, 3) := by decide +kernel
theorem dX1_station_7 : decode cX1_station 7 = .ok (.bipush 10, 2) := by decide +kernel
theorem dX1_station_9 : decode cX1_station 9 = .ok (.if_icmp .eq 13, 3) := by decide +kernel
theorem dX1_station_12 : decode cX1_station 12 = .ok (.iload_n 1, 1) := by decide +kernel
theorem dX1_station_13 : decode cX1_station 13 = .ok (.ifCond .lt 9, 3) := by decide +kernel
theorem dX1_station_16 : decode cX1_station 16 = .ok (.iload_n 1, 1) := by decide +kernel
theorem dX1_station_17 : decode cX1_station 17 = .ok (.bipush 60, 2) := by decide +kernel
theorem dX1_station_19 : decode cX1_station 19 = .ok (.if_icmp .le 5, 3) := by decide +kernel
theorem dX1_station_22 : decode cX1_station 22 = .ok (.iconst (-1), 1) := by decide +kernel
theorem dX1_station_23 : decode cX1_station 23 = .ok (.ireturn, 1) := by decide +kernel
theorem dX1_station_24 : decode cX1_station 24 = .ok (.aload_n 0, 1) := by decide +kernel
theorem dX1_station_25 : decode cX1_station 25 = .ok (.getfield 12, 3) := by decide +kernel
theorem dX1_station_28 : decode cX1_station 28 = .ok (.new 56, 3) := by decide +kernel
theorem dX1_station_31 : decode cX1_station 31 = .ok (.dup, 1) := by decide +kernel
theorem dX1_station_32 : decode cX1_station 32 = .ok (.aload_n 0, 1) := by decide +kernel
theorem dX1_station_33 : decode cX1_station 33 = .ok (.getfield 12, 3) := by decide +kernel
theorem dX1_station_36 : decode cX1_station 36 = .ok (.invokevirtual 40, 3) := by decide +kernel
theorem dX1_station_39 : decode cX1_station 39 = .ok (.iload_n 1, 1) := by decide +kernel
theorem dX1_station_40 : decode cX1_station 40 = .ok (.invokespecial 58, 3) := by decide +kernel
theorem dX1_station_43 : decode cX1_station 43 = .ok (.invokevirtual 61, 3) := by decide +kernel
theorem dX1_station_46 : decode cX1_station 46 = .ok (.pop, 1) := by decide +kernel
theorem dX1_station_47 : decode cX1_station 47 = .ok (.aload_n 0, 1) := by decide +kernel
theorem dX1_station_48 : decode cX1_station 48 = .ok (.getfield 12, 3) := by decide +kernel
theorem dX1_station_51 : decode cX1_station 51 = .ok (.invokevirtual 40, 3) := by decide +kernel
theorem dX1_station_54 : decode cX1_station 54 = .ok (.iconst 1, 1) := by decide +kernel
theorem dX1_station_55 : decode cX1_station 55 = .ok (.isub, 1) := by decide +kernel
theorem dX1_station_56 : decode cX1_station 56 = .ok (.ireturn, 1) := by decide +kernel
abbrev cX1_train : ByteArray := prog_1_method_9_code
def yX1_train : MethodName := ⟨RX1, "train", "(I)I"⟩
theorem dX1_train_0 : decode cX1_train 0 = .ok (.aload_n 0, 1) := by decide +kernel
theorem dX1_train_1 : decode cX1_train 1 = .ok (.getfield 18, 3) := by decide +kernel
theorem dX1_train_4 : decode cX1_train 4 = .ok (.invokevirtual 40, 3) := by decide +kernel
theorem dX1_train_7 : decode cX1_train 7 = .ok (.bipush 16, 2) := by decide +kernel
theorem dX1_train_9 : decode cX1_train 9 = .ok (.if_icmp .eq 14, 3) := by decide +kernel
theorem dX1_train_12 : decode cX1_train 12 = .ok (.iload_n 1, 1) := by decide +kernel
theorem dX1_train_13 : decode cX1_train 13 = .ok (.iconst 1, 1) := by decide +kernel
theorem dX1_train_14 : decode cX1_train 14 = .ok (.if_icmp .lt 9, 3) := by decide +kernel
theorem dX1_train_17 : decode cX1_train 17 = .ok (.iload_n 1, 1) := by decide +kernel
theorem dX1_train_18 : decode cX1_train 18 = .ok (.bipush 40, 2) := by decide +kernel
theorem dX1_train_20 : decode cX1_train 20 = .ok (.if_icmp .le 5, 3) := by decide +kernel
theorem dX1_train_23 : decode cX1_train 23 = .ok (.iconst (-1), 1) := by decide +kernel
theorem dX1_train_24 : decode cX1_train 24 = .ok (.ireturn, 1) := by decide +kernel
theorem dX1_train_25 : decode cX1_train 25 = .ok (.aload_n 0, 1) := by decide +kernel
theorem dX1_train_26 : decode cX1_train 26 = .ok (.getfield 18, 3) := by decide +kernel
theorem dX1_train_29 : decode cX1_train 29 = .ok (.new 52, 3) := by decide +kernel
theorem dX1_train_32 : decode cX1_train 32 = .ok (.dup, 1) := by decide +kernel
theorem dX1_train_33 : decode cX1_train 33 = .ok (.aload_n 0, 1) := by decide +kernel
theorem dX1_train_34 : decode cX1_train 34 = .ok (.getfield 18, 3) := by decide +kernel
theorem dX1_train_37 : decode cX1_train 37 = .ok (.invokevirtual 40, 3) := by decide +kernel
theorem dX1_train_40 : decode cX1_train 40 = .ok (.iload_n 1, 1) := by decide +kernel
theorem dX1_train_41 : decode cX1_train 41 = .ok (.invokespecial 65, 3) := by decide +kernel
theorem dX1_train_44 : decode cX1_train 44 = .ok (.invokevirtual 61, 3) := by decide +kernel
theorem dX1_train_47 : decode cX1_train 47 = .ok (.pop, 1) := by decide +kernel
theorem dX1_train_48 : decode cX1_train 48 = .ok (.aload_n 0, 1) := by decide +kernel
theorem dX1_train_49 : decode cX1_train 49 = .ok (.getfield 18, 3) := by decide +kernel
theorem dX1_train_52 : decode cX1_train 52 = .ok (.invokevirtual 40, 3) := by decide +kernel
theorem dX1_train_55 : decode cX1_train 55 = .ok (.iconst 1, 1) := by decide +kernel
theorem dX1_train_56 : decode cX1_train 56 = .ok (.isub, 1) := by decide +kernel
theorem dX1_train_57 : decode cX1_train 57 = .ok (.ireturn, 1) := by decide +kernel
abbrev cX1_box : ByteArray := prog_1_method_12_code
def yX1_box : MethodName := ⟨RX1, "box", "(IIIIII)I"⟩
theorem dX1_box_0 : decode cX1_box 0 = .ok (.aload_n 0, 1) := by decide +kernel
theorem dX1_box_1 : decode cX1_box 1 = .ok (.iload_n 1, 1) := by decide +kernel
theorem dX1_box_2 : decode cX1_box 2 = .ok (.invokevirtual 73, 3) := by decide +kernel
theorem dX1_box_5 : decode cX1_box 5 = .ok (.ifCond .eq 53, 3) := by decide +kernel
theorem dX1_box_8 : decode cX1_box 8 = .ok (.aload_n 0, 1) := by decide +kernel
theorem dX1_box_9 : decode cX1_box 9 = .ok (.iload 4, 2) := by decide +kernel
theorem dX1_box_11 : decode cX1_box 11 = .ok (.invokevirtual 73, 3) := by decide +kernel
theorem dX1_box_14 : decode cX1_box 14 = .ok (.ifCond .eq 44, 3) := by decide +kernel
theorem dX1_box_17 : decode cX1_box 17 = .ok (.iload_n 2, 1) := by decide +kernel
theorem dX1_box_18 : decode cX1_box 18 = .ok (.ifCond .lt 40, 3) := by decide +kernel
theorem dX1_box_21 : decode cX1_box 21 = .ok (.iload_n 2, 1) := by decide +kernel
theorem dX1_box_22 : decode cX1_box 22 = .ok (.bipush 120, 2) := by decide +kernel
theorem dX1_box_24 : decode cX1_box 24 = .ok (.if_icmp .gt 34, 3) := by decide +kernel
theorem dX1_box_27 : decode cX1_box 27 = .ok (.iload 5, 2) := by decide +kernel
theorem dX1_box_29 : decode cX1_box 29 = .ok (.ifCond .lt 29, 3) := by decide +kernel
theorem dX1_box_32 : decode cX1_box 32 = .ok (.iload 5, 2) := by decide +kernel
theorem dX1_box_34 : decode cX1_box 34 = .ok (.bipush 120, 2) := by decide +kernel
theorem dX1_box_36 : decode cX1_box 36 = .ok (.if_icmp .gt 22, 3) := by decide +kernel
theorem dX1_box_39 : decode cX1_box 39 = .ok (.iload_n 3, 1) := by decide +kernel
theorem dX1_box_40 : decode cX1_box 40 = .ok (.invokestatic 77, 3) := by decide +kernel
theorem dX1_box_43 : decode cX1_box 43 = .ok (.ifCond .eq 15, 3) := by decide +kernel
theorem dX1_box_46 : decode cX1_box 46 = .ok (.iload 6, 2) := by decide +kernel
theorem dX1_box_48 : decode cX1_box 48 = .ok (.invokestatic 77, 3) := by decide +kernel
theorem dX1_box_51 : decode cX1_box 51 = .ok (.ifCond .eq 7, 3) := by decide +kernel
theorem dX1_box_54 : decode cX1_box 54 = .ok (.iconst 1, 1) := by decide +kernel
theorem dX1_box_55 : decode cX1_box 55 = .ok (.goto 4, 3) := by decide +kernel
theorem dX1_box_58 : decode cX1_box 58 = .ok (.iconst 0, 1) := by decide +kernel
theorem dX1_box_59 : decode cX1_box 59 = .ok (.istore 7, 2) := by decide +kernel
theorem dX1_box_61 : decode cX1_box 61 = .ok (.iload 7, 2) := by decide +kernel
theorem dX1_box_63 : decode cX1_box 63 = .ok (.ifCond .eq 15, 3) := by decide +kernel
theorem dX1_box_66 : decode cX1_box 66 = .ok (.aload_n 0, 1) := by decide +kernel
theorem dX1_box_67 : decode cX1_box 67 = .ok (.getfield 21, 3) := by decide +kernel
theorem dX1_box_70 : decode cX1_box 70 = .ok (.invokevirtual 40, 3) := by decide +kernel
theorem dX1_box_73 : decode cX1_box 73 = .ok (.bipush 60, 2) := by decide +kernel
theorem dX1_box_75 : decode cX1_box 75 = .ok (.if_icmp .ne 5, 3) := by decide +kernel
theorem dX1_box_78 : decode cX1_box 78 = .ok (.iconst (-1), 1) := by decide +kernel
theorem dX1_box_79 : decode cX1_box 79 = .ok (.ireturn, 1) := by decide +kernel
theorem dX1_box_80 : decode cX1_box 80 = .ok (.aload_n 0, 1) := by decide +kernel
theorem dX1_box_81 : decode cX1_box 81 = .ok (.getfield 21, 3) := by decide +kernel
theorem dX1_box_84 : decode cX1_box 84 = .ok (.new 54, 3) := by decide +kernel
theorem dX1_box_87 : decode cX1_box 87 = .ok (.dup, 1) := by decide +kernel
theorem dX1_box_88 : decode cX1_box 88 = .ok (.aload_n 0, 1) := by decide +kernel
theorem dX1_box_89 : decode cX1_box 89 = .ok (.getfield 12, 3) := by decide +kernel
theorem dX1_box_92 : decode cX1_box 92 = .ok (.iload_n 1, 1) := by decide +kernel
theorem dX1_box_93 : decode cX1_box 93 = .ok (.invokevirtual 48, 3) := by decide +kernel
theorem dX1_box_96 : decode cX1_box 96 = .ok (.checkcast 56, 3) := by decide +kernel
theorem dX1_box_99 : decode cX1_box 99 = .ok (.iload_n 2, 1) := by decide +kernel
theorem dX1_box_100 : decode cX1_box 100 = .ok (.iload_n 3, 1) := by decide +kernel
theorem dX1_box_101 : decode cX1_box 101 = .ok (.aload_n 0, 1) := by decide +kernel
theorem dX1_box_102 : decode cX1_box 102 = .ok (.getfield 12, 3) := by decide +kernel
theorem dX1_box_105 : decode cX1_box 105 = .ok (.iload 4, 2) := by decide +kernel
theorem dX1_box_107 : decode cX1_box 107 = .ok (.invokevirtual 48, 3) := by decide +kernel
theorem dX1_box_110 : decode cX1_box 110 = .ok (.checkcast 56, 3) := by decide +kernel
theorem dX1_box_113 : decode cX1_box 113 = .ok (.iload 5, 2) := by decide +kernel
theorem dX1_box_115 : decode cX1_box 115 = .ok (.iload 6, 2) := by decide +kernel
theorem dX1_box_117 : decode cX1_box 117 = .ok (.invokespecial 120, 3) := by decide +kernel
theorem dX1_box_120 : decode cX1_box 120 = .ok (.invokevirtual 61, 3) := by decide +kernel
theorem dX1_box_123 : decode cX1_box 123 = .ok (.pop, 1) := by decide +kernel
theorem dX1_box_124 : decode cX1_box 124 = .ok (.aload_n 0, 1) := by decide +kernel
theorem dX1_box_125 : decode cX1_box 125 = .ok (.getfield 21, 3) := by decide +kernel
theorem dX1_box_128 : decode cX1_box 128 = .ok (.invokevirtual 40, 3) := by decide +kernel
theorem dX1_box_131 : decode cX1_box 131 = .ok (.iconst 1, 1) := by decide +kernel
theorem dX1_box_132 : decode cX1_box 132 = .ok (.isub, 1) := by decide +kernel
theorem dX1_box_133 : decode cX1_box 133 = .ok (.ireturn, 1) := by decide +kernel
abbrev cX1_isStation : ByteArray := prog_1_method_6_code
def yX1_isStation : MethodName := ⟨RX1, "isStation", "(I)Z"⟩
theorem dX1_isStation_0 : decode cX1_isStation 0 = .ok (.iload_n 1, 1) := by decide +kernel
theorem dX1_isStation_1 : decode cX1_isStation 1 = .ok (.ifCond .lt 18, 3) := by decide +kernel
theorem dX1_isStation_4 : decode cX1_isStation 4 = .ok (.iload_n 1, 1) := by decide +kernel
theorem dX1_isStation_5 : decode cX1_isStation 5 = .ok (.aload_n 0, 1) := by decide +kernel
theorem dX1_isStation_6 : decode cX1_isStation 6 = .ok (.getfield 12, 3) := by decide +kernel
theorem dX1_isStation_9 : decode cX1_isStation 9 = .ok (.invokevirtual 40, 3) := by decide +kernel
theorem dX1_isStation_12 : decode cX1_isStation 12 = .ok (.if_icmp .ge 7, 3) := by decide +kernel
theorem dX1_isStation_15 : decode cX1_isStation 15 = .ok (.iconst 1, 1) := by decide +kernel
theorem dX1_isStation_16 : decode cX1_isStation 16 = .ok (.goto 4, 3) := by decide +kernel
theorem dX1_isStation_19 : decode cX1_isStation 19 = .ok (.iconst 0, 1) := by decide +kernel
theorem dX1_isStation_20 : decode cX1_isStation 20 = .ok (.ireturn, 1) := by decide +kernel
abbrev cX1_isMinute : ByteArray := prog_1_method_7_code
def yX1_isMinute : MethodName := ⟨RX1, "isMinute", "(I)Z"⟩
theorem dX1_isMinute_0 : decode cX1_isMinute 0 = .ok (.iload_n 0, 1) := by decide +kernel
theorem dX1_isMinute_1 : decode cX1_isMinute 1 = .ok (.ifCond .lt 14, 3) := by decide +kernel
theorem dX1_isMinute_4 : decode cX1_isMinute 4 = .ok (.iload_n 0, 1) := by decide +kernel
theorem dX1_isMinute_5 : decode cX1_isMinute 5 = .ok (.sipush 1439, 3) := by decide +kernel
theorem dX1_isMinute_8 : decode cX1_isMinute 8 = .ok (.if_icmp .gt 7, 3) := by decide +kernel
theorem dX1_isMinute_11 : decode cX1_isMinute 11 = .ok (.iconst 1, 1) := by decide +kernel
theorem dX1_isMinute_12 : decode cX1_isMinute 12 = .ok (.goto 4, 3) := by decide +kernel
theorem dX1_isMinute_15 : decode cX1_isMinute 15 = .ok (.iconst 0, 1) := by decide +kernel
