set_option maxRecDepth 100000
theorem dX1_of_90 : decode cX1_of 90 = .ok (.getfield 151, 3) := by decide +kernel
theorem dX1_of_93 : decode cX1_of 93 = .ok (.invokevirtual 40, 3) := by decide +kernel
theorem dX1_of_96 : decode cX1_of 96 = .ok (.ireturn, 1) := by decide +kernel
theorem dX1_of_97 : decode cX1_of 97 = .ok (.aload 4, 2) := by decide +kernel
theorem dX1_of_99 : decode cX1_of 99 = .ok (.invokevirtual 225, 3) := by decide +kernel
theorem dX1_of_102 : decode cX1_of 102 = .ok (.ireturn, 1) := by decide +kernel
theorem dX1_of_103 : decode cX1_of 103 = .ok (.aload_n 0, 1) := by decide +kernel
theorem dX1_of_104 : decode cX1_of 104 = .ok (.aload 4, 2) := by decide +kernel
theorem dX1_of_106 : decode cX1_of 106 = .ok (.invokevirtual 241, 3) := by decide +kernel
theorem dX1_of_109 : decode cX1_of 109 = .ok (.ifCond .eq 7, 3) := by decide +kernel
theorem dX1_of_112 : decode cX1_of 112 = .ok (.iconst 1, 1) := by decide +kernel
theorem dX1_of_113 : decode cX1_of 113 = .ok (.goto 4, 3) := by decide +kernel
theorem dX1_of_116 : decode cX1_of 116 = .ok (.iconst 0, 1) := by decide +kernel
theorem dX1_of_117 : decode cX1_of 117 = .ok (.ireturn, 1) := by decide +kernel
theorem dX1_of_118 : decode cX1_of 118 = .ok (.aload 4, 2) := by decide +kernel
theorem dX1_of_120 : decode cX1_of 120 = .ok (.invokevirtual 245, 3) := by decide +kernel
theorem dX1_of_123 : decode cX1_of 123 = .ok (.ifCond .eq 7, 3) := by decide +kernel
theorem dX1_of_126 : decode cX1_of 126 = .ok (.iconst 1, 1) := by decide +kernel
theorem dX1_of_127 : decode cX1_of 127 = .ok (.goto 4, 3) := by decide +kernel
theorem dX1_of_130 : decode cX1_of 130 = .ok (.iconst 0, 1) := by decide +kernel
theorem dX1_of_131 : decode cX1_of 131 = .ok (.ireturn, 1) := by decide +kernel
theorem dX1_of_132 : decode cX1_of 132 = .ok (.iload 5, 2) := by decide +kernel
theorem dX1_of_134 : decode cX1_of 134 = .ok (.ifCond .eq 14, 3) := by decide +kernel
theorem dX1_of_137 : decode cX1_of 137 = .ok (.aload 4, 2) := by decide +kernel
theorem dX1_of_139 : decode cX1_of 139 = .ok (.invokevirtual 154, 3) := by decide +kernel
theorem dX1_of_142 : decode cX1_of 142 = .ok (.getfield 102, 3) := by decide +kernel
theorem dX1_of_145 : decode cX1_of 145 = .ok (.goto 4, 3) := by decide +kernel
theorem dX1_of_148 : decode cX1_of 148 = .ok (.iconst (-1), 1) := by decide +kernel
theorem dX1_of_149 : decode cX1_of 149 = .ok (.ireturn, 1) := by decide +kernel
theorem dX1_of_150 : decode cX1_of 150 = .ok (.iload 5, 2) := by decide +kernel
theorem dX1_of_152 : decode cX1_of 152 = .ok (.ifCond .eq 11, 3) := by decide +kernel
theorem dX1_of_155 : decode cX1_of 155 = .ok (.aload 4, 2) := by decide +kernel
theorem dX1_of_157 : decode cX1_of 157 = .ok (.getfield 202, 3) := by decide +kernel
theorem dX1_of_160 : decode cX1_of 160 = .ok (.goto 4, 3) := by decide +kernel
theorem dX1_of_163 : decode cX1_of 163 = .ok (.iconst (-1), 1) := by decide +kernel
theorem dX1_of_164 : decode cX1_of 164 = .ok (.ireturn, 1) := by decide +kernel
theorem dX1_of_165 : decode cX1_of 165 = .ok (.aload_n 3, 1) := by decide +kernel
theorem dX1_of_166 : decode cX1_of 166 = .ok (.getfield 222, 3) := by decide +kernel
theorem dX1_of_169 : decode cX1_of 169 = .ok (.ifnonnull 7, 3) := by decide +kernel
theorem dX1_of_172 : decode cX1_of 172 = .ok (.iconst 0, 1) := by decide +kernel
theorem dX1_of_173 : decode cX1_of 173 = .ok (.goto 4, 3) := by decide +kernel
theorem dX1_of_176 : decode cX1_of 176 = .ok (.iconst 1, 1) := by decide +kernel
theorem dX1_of_177 : decode cX1_of 177 = .ok (.ireturn, 1) := by decide +kernel
abbrev cX1_isGone : ByteArray := prog_1_method_23_code
def yX1_isGone : MethodName := ⟨RX1, "isGone", "(LLunchMarks$Trip;)Z"⟩
theorem dX1_isGone_0 : decode cX1_isGone 0 = .ok (.aload_n 1, 1) := by decide +kernel
theorem dX1_isGone_1 : decode cX1_isGone 1 = .ok (.getfield 196, 3) := by decide +kernel
theorem dX1_isGone_4 : decode cX1_isGone 4 = .ok (.aload_n 0, 1) := by decide +kernel
theorem dX1_isGone_5 : decode cX1_isGone 5 = .ok (.getfield 199, 3) := by decide +kernel
theorem dX1_isGone_8 : decode cX1_isGone 8 = .ok (.if_icmp .gt 17, 3) := by decide +kernel
theorem dX1_isGone_11 : decode cX1_isGone 11 = .ok (.aload_n 1, 1) := by decide +kernel
theorem dX1_isGone_12 : decode cX1_isGone 12 = .ok (.getfield 187, 3) := by decide +kernel
theorem dX1_isGone_15 : decode cX1_isGone 15 = .ok (.getstatic 193, 3) := by decide +kernel
theorem dX1_isGone_18 : decode cX1_isGone 18 = .ok (.if_acmp .eq 7, 3) := by decide +kernel
theorem dX1_isGone_21 : decode cX1_isGone 21 = .ok (.iconst 1, 1) := by decide +kernel
theorem dX1_isGone_22 : decode cX1_isGone 22 = .ok (.goto 4, 3) := by decide +kernel
theorem dX1_isGone_25 : decode cX1_isGone 25 = .ok (.iconst 0, 1) := by decide +kernel
theorem dX1_isGone_26 : decode cX1_isGone 26 = .ok (.ireturn, 1) := by decide +kernel
abbrev cX1_leg : ByteArray := prog_1_method_25_code
def yX1_leg : MethodName := ⟨RX1, "leg", "(III)I"⟩
theorem dX1_leg_0 : decode cX1_leg 0 = .ok (.aload_n 0, 1) := by decide +kernel
theorem dX1_leg_1 : decode cX1_leg 1 = .ok (.iload_n 1, 1) := by decide +kernel
theorem dX1_leg_2 : decode cX1_leg 2 = .ok (.invokevirtual 218, 3) := by decide +kernel
theorem dX1_leg_5 : decode cX1_leg 5 = .ok (.astore 4, 2) := by decide +kernel
theorem dX1_leg_7 : decode cX1_leg 7 = .ok (.aload 4, 2) := by decide +kernel
theorem dX1_leg_9 : decode cX1_leg 9 = .ok (.getfield 108, 3) := by decide +kernel
theorem dX1_leg_12 : decode cX1_leg 12 = .ok (.getfield 151, 3) := by decide +kernel
theorem dX1_leg_15 : decode cX1_leg 15 = .ok (.invokevirtual 40, 3) := by decide +kernel
theorem dX1_leg_18 : decode cX1_leg 18 = .ok (.istore 5, 2) := by decide +kernel
theorem dX1_leg_20 : decode cX1_leg 20 = .ok (.aload 4, 2) := by decide +kernel
theorem dX1_leg_22 : decode cX1_leg 22 = .ok (.getfield 222, 3) := by decide +kernel
theorem dX1_leg_25 : decode cX1_leg 25 = .ok (.ifnonnull 8, 3) := by decide +kernel
theorem dX1_leg_28 : decode cX1_leg 28 = .ok (.iload 5, 2) := by decide +kernel
theorem dX1_leg_30 : decode cX1_leg 30 = .ok (.goto 17, 3) := by decide +kernel
theorem dX1_leg_33 : decode cX1_leg 33 = .ok (.iload 5, 2) := by decide +kernel
theorem dX1_leg_35 : decode cX1_leg 35 = .ok (.aload 4, 2) := by decide +kernel
theorem dX1_leg_37 : decode cX1_leg 37 = .ok (.getfield 222, 3) := by decide +kernel
theorem dX1_leg_40 : decode cX1_leg 40 = .ok (.getfield 151, 3) := by decide +kernel
theorem dX1_leg_43 : decode cX1_leg 43 = .ok (.invokevirtual 40, 3) := by decide +kernel
theorem dX1_leg_46 : decode cX1_leg 46 = .ok (.iadd, 1) := by decide +kernel
theorem dX1_leg_47 : decode cX1_leg 47 = .ok (.istore 6, 2) := by decide +kernel
theorem dX1_leg_49 : decode cX1_leg 49 = .ok (.iload_n 2, 1) := by decide +kernel
theorem dX1_leg_50 : decode cX1_leg 50 = .ok (.ifCond .lt 22, 3) := by decide +kernel
theorem dX1_leg_53 : decode cX1_leg 53 = .ok (.iload_n 2, 1) := by decide +kernel
theorem dX1_leg_54 : decode cX1_leg 54 = .ok (.iload 6, 2) := by decide +kernel
theorem dX1_leg_56 : decode cX1_leg 56 = .ok (.if_icmp .ge 16, 3) := by decide +kernel
theorem dX1_leg_59 : decode cX1_leg 59 = .ok (.iload_n 3, 1) := by decide +kernel
theorem dX1_leg_60 : decode cX1_leg 60 = .ok (.ifCond .lt 12, 3) := by decide +kernel
theorem dX1_leg_63 : decode cX1_leg 63 = .ok (.iload_n 3, 1) := by decide +kernel
theorem dX1_leg_64 : decode cX1_leg 64 = .ok (.iconst 2, 1) := by decide +kernel
theorem dX1_leg_65 : decode cX1_leg 65 = .ok (.if_icmp .gt 7, 3) := by decide +kernel
theorem dX1_leg_68 : decode cX1_leg 68 = .ok (.iconst 1, 1) := by decide +kernel
theorem dX1_leg_69 : decode cX1_leg 69 = .ok (.goto 4, 3) := by decide +kernel
theorem dX1_leg_72 : decode cX1_leg 72 = .ok (.iconst 0, 1) := by decide +kernel
theorem dX1_leg_73 : decode cX1_leg 73 = .ok (.invokestatic 44, 3) := by decide +kernel
theorem dX1_leg_76 : decode cX1_leg 76 = .ok (.iload_n 2, 1) := by decide +kernel
theorem dX1_leg_77 : decode cX1_leg 77 = .ok (.iload 5, 2) := by decide +kernel
theorem dX1_leg_79 : decode cX1_leg 79 = .ok (.if_icmp .ge 21, 3) := by decide +kernel
theorem dX1_leg_82 : decode cX1_leg 82 = .ok (.aload 4, 2) := by decide +kernel
theorem dX1_leg_84 : decode cX1_leg 84 = .ok (.getfield 108, 3) := by decide +kernel
theorem dX1_leg_87 : decode cX1_leg 87 = .ok (.getfield 151, 3) := by decide +kernel
theorem dX1_leg_90 : decode cX1_leg 90 = .ok (.iload_n 2, 1) := by decide +kernel
theorem dX1_leg_91 : decode cX1_leg 91 = .ok (.invokevirtual 48, 3) := by decide +kernel
theorem dX1_leg_94 : decode cX1_leg 94 = .ok (.checkcast 174, 3) := by decide +kernel
theorem dX1_leg_97 : decode cX1_leg 97 = .ok (.goto 21, 3) := by decide +kernel
theorem dX1_leg_100 : decode cX1_leg 100 = .ok (.aload 4, 2) := by decide +kernel
theorem dX1_leg_102 : decode cX1_leg 102 = .ok (.getfield 222, 3) := by decide +kernel
theorem dX1_leg_105 : decode cX1_leg 105 = .ok (.getfield 151, 3) := by decide +kernel
theorem dX1_leg_108 : decode cX1_leg 108 = .ok (.iload_n 2, 1) := by decide +kernel
theorem dX1_leg_109 : decode cX1_leg 109 = .ok (.iload 5, 2) := by decide +kernel
theorem dX1_leg_111 : decode cX1_leg 111 = .ok (.isub, 1) := by decide +kernel
theorem dX1_leg_112 : decode cX1_leg 112 = .ok (.invokevirtual 48, 3) := by decide +kernel
theorem dX1_leg_115 : decode cX1_leg 115 = .ok (.checkcast 174, 3) := by decide +kernel
theorem dX1_leg_118 : decode cX1_leg 118 = .ok (.astore 7, 2) := by decide +kernel
theorem dX1_leg_120 : decode cX1_leg 120 = .ok (.iload_n 3, 1) := by decide +kernel
theorem dX1_leg_121 : decode cX1_leg 121 = .ok (.ifCond .ne 14, 3) := by decide +kernel
theorem dX1_leg_124 : decode cX1_leg 124 = .ok (.aload 7, 2) := by decide +kernel
theorem dX1_leg_126 : decode cX1_leg 126 = .ok (.getfield 248, 3) := by decide +kernel
theorem dX1_leg_129 : decode cX1_leg 129 = .ok (.getfield 252, 3) := by decide +kernel
theorem dX1_leg_132 : decode cX1_leg 132 = .ok (.goto 21, 3) := by decide +kernel
theorem dX1_leg_135 : decode cX1_leg 135 = .ok (.iload_n 3, 1) := by decide +kernel
theorem dX1_leg_136 : decode cX1_leg 136 = .ok (.iconst 1, 1) := by decide +kernel
theorem dX1_leg_137 : decode cX1_leg 137 = .ok (.if_icmp .ne 11, 3) := by decide +kernel
theorem dX1_leg_140 : decode cX1_leg 140 = .ok (.aload 7, 2) := by decide +kernel
theorem dX1_leg_142 : decode cX1_leg 142 = .ok (.getfield 253, 3) := by decide +kernel
theorem dX1_leg_145 : decode cX1_leg 145 = .ok (.goto 8, 3) := by decide +kernel
theorem dX1_leg_148 : decode cX1_leg 148 = .ok (.aload 7, 2) := by decide +kernel
theorem dX1_leg_150 : decode cX1_leg 150 = .ok (.getfield 256, 3) := by decide +kernel
theorem dX1_leg_153 : decode cX1_leg 153 = .ok (.ireturn, 1) := by decide +kernel
abbrev cX1_load : ByteArray := prog_1_method_26_code
def yX1_load : MethodName := ⟨RX1, "load", "(II)I"⟩
theorem dX1_load_0 : decode cX1_load 0 = .ok (.aload_n 0, 1) := by decide +kernel
theorem dX1_load_1 : decode cX1_load 1 = .ok (.iload_n 1, 1) := by decide +kernel
theorem dX1_load_2 : decode cX1_load 2 = .ok (.invokevirtual 66, 3) := by decide +kernel
theorem dX1_load_5 : decode cX1_load 5 = .ok (.astore_n 3, 1) := by decide +kernel
theorem dX1_load_6 : decode cX1_load 6 = .ok (.iload_n 2, 1) := by decide +kernel
theorem dX1_load_7 : decode cX1_load 7 = .ok (.ifCond .lt 20, 3) := by decide +kernel
theorem dX1_load_10 : decode cX1_load 10 = .ok (.iload_n 2, 1) := by decide +kernel
theorem dX1_load_11 : decode cX1_load 11 = .ok (.aload_n 3, 1) := by decide +kernel
theorem dX1_load_12 : decode cX1_load 12 = .ok (.getfield 70, 3) := by decide +kernel
theorem dX1_load_15 : decode cX1_load 15 = .ok (.invokevirtual 40, 3) := by decide +kernel
theorem dX1_load_18 : decode cX1_load 18 = .ok (.iconst 1, 1) := by decide +kernel
theorem dX1_load_19 : decode cX1_load 19 = .ok (.isub, 1) := by decide +kernel
theorem dX1_load_20 : decode cX1_load 20 = .ok (.if_icmp .ge 7, 3) := by decide +kernel
theorem dX1_load_23 : decode cX1_load 23 = .ok (.iconst 1, 1) := by decide +kernel
theorem dX1_load_24 : decode cX1_load 24 = .ok (.goto 4, 3) := by decide +kernel
theorem dX1_load_27 : decode cX1_load 27 = .ok (.iconst 0, 1) := by decide +kernel
theorem dX1_load_28 : decode cX1_load 28 = .ok (.invokestatic 44, 3) := by decide +kernel
theorem dX1_load_31 : decode cX1_load 31 = .ok (.aload_n 3, 1) := by decide +kernel
theorem dX1_load_32 : decode cX1_load 32 = .ok (.getfield 130, 3) := by decide +kernel
theorem dX1_load_35 : decode cX1_load 35 = .ok (.iload_n 2, 1) := by decide +kernel
theorem dX1_load_36 : decode cX1_load 36 = .ok (.iaload, 1) := by decide +kernel
theorem dX1_load_37 : decode cX1_load 37 = .ok (.ireturn, 1) := by decide +kernel
abbrev cX1_where : ByteArray := prog_1_method_27_code
def yX1_where : MethodName := ⟨RX1, "where", "(I)I"⟩
theorem dX1_where_0 : decode cX1_where 0 = .ok (.aload_n 0, 1) := by decide +kernel
theorem dX1_where_1 : decode cX1_where 1 = .ok (.iload_n 1, 1) := by decide +kernel
theorem dX1_where_2 : decode cX1_where 2 = .ok (.invokevirtual 218, 3) := by decide +kernel
theorem dX1_where_5 : decode cX1_where 5 = .ok (.invokevirtual 116, 3) := by decide +kernel
theorem dX1_where_8 : decode cX1_where 8 = .ok (.astore_n 2, 1) := by decide +kernel
theorem dX1_where_9 : decode cX1_where 9 = .ok (.aload_n 0, 1) := by decide +kernel
theorem dX1_where_10 : decode cX1_where 10 = .ok (.aload_n 2, 1) := by decide +kernel
theorem dX1_where_11 : decode cX1_where 11 = .ok (.invokevirtual 241, 3) := by decide +kernel
theorem dX1_where_14 : decode cX1_where 14 = .ok (.ifCond .ne 5, 3) := by decide +kernel
theorem dX1_where_17 : decode cX1_where 17 = .ok (.iconst 0, 1) := by decide +kernel
theorem dX1_where_18 : decode cX1_where 18 = .ok (.ireturn, 1) := by decide +kernel
theorem dX1_where_19 : decode cX1_where 19 = .ok (.iconst 0, 1) := by decide +kernel
theorem dX1_where_20 : decode cX1_where 20 = .ok (.istore_n 3, 1) := by decide +kernel
theorem dX1_where_21 : decode cX1_where 21 = .ok (.iload_n 3, 1) := by decide +kernel
theorem dX1_where_22 : decode cX1_where 22 = .ok (.aload_n 2, 1) := by decide +kernel
theorem dX1_where_23 : decode cX1_where 23 = .ok (.getfield 151, 3) := by decide +kernel
theorem dX1_where_26 : decode cX1_where 26 = .ok (.invokevirtual 40, 3) := by decide +kernel
theorem dX1_where_29 : decode cX1_where 29 = .ok (.if_icmp .ge 59, 3) := by decide +kernel
theorem dX1_where_32 : decode cX1_where 32 = .ok (.aload_n 2, 1) := by decide +kernel
theorem dX1_where_33 : decode cX1_where 33 = .ok (.getfield 151, 3) := by decide +kernel
theorem dX1_where_36 : decode cX1_where 36 = .ok (.iload_n 3, 1) := by decide +kernel
theorem dX1_where_37 : decode cX1_where 37 = .ok (.invokevirtual 48, 3) := by decide +kernel
theorem dX1_where_40 : decode cX1_where 40 = .ok (.checkcast 174, 3) := by decide +kernel
theorem dX1_where_43 : decode cX1_where 43 = .ok (.invokevirtual 259, 3) := by decide +kernel
theorem dX1_where_46 : decode cX1_where 46 = .ok (.getfield 94, 3) := by decide +kernel
theorem dX1_where_49 : decode cX1_where 49 = .ok (.aload_n 0, 1) := by decide +kernel
theorem dX1_where_50 : decode cX1_where 50 = .ok (.getfield 199, 3) := by decide +kernel
theorem dX1_where_53 : decode cX1_where 53 = .ok (.if_icmp .gt 29, 3) := by decide +kernel
theorem dX1_where_56 : decode cX1_where 56 = .ok (.aload_n 0, 1) := by decide +kernel
theorem dX1_where_57 : decode cX1_where 57 = .ok (.getfield 199, 3) := by decide +kernel
theorem dX1_where_60 : decode cX1_where 60 = .ok (.aload_n 2, 1) := by decide +kernel
theorem dX1_where_61 : decode cX1_where 61 = .ok (.getfield 151, 3) := by decide +kernel
theorem dX1_where_64 : decode cX1_where 64 = .ok (.iload_n 3, 1) := by decide +kernel
theorem dX1_where_65 : decode cX1_where 65 = .ok (.invokevirtual 48, 3) := by decide +kernel
theorem dX1_where_68 : decode cX1_where 68 = .ok (.checkcast 174, 3) := by decide +kernel
theorem dX1_where_71 : decode cX1_where 71 = .ok (.invokevirtual 173, 3) := by decide +kernel
theorem dX1_where_74 : decode cX1_where 74 = .ok (.getfield 94, 3) := by decide +kernel
theorem dX1_where_77 : decode cX1_where 77 = .ok (.if_icmp .ge 5, 3) := by decide +kernel
theorem dX1_where_80 : decode cX1_where 80 = .ok (.iconst 2, 1) := by decide +kernel
theorem dX1_where_81 : decode cX1_where 81 = .ok (.ireturn, 1) := by decide +kernel
theorem dX1_where_82 : decode cX1_where 82 = .ok (.iinc 3 1, 3) := by decide +kernel
theorem dX1_where_85 : decode cX1_where 85 = .ok (.goto (-64), 3) := by decide +kernel
theorem dX1_where_88 : decode cX1_where 88 = .ok (.aload_n 2, 1) := by decide +kernel
theorem dX1_where_89 : decode cX1_where 89 = .ok (.getfield 187, 3) := by decide +kernel
theorem dX1_where_92 : decode cX1_where 92 = .ok (.getstatic 215, 3) := by decide +kernel
theorem dX1_where_95 : decode cX1_where 95 = .ok (.if_acmp .eq 14, 3) := by decide +kernel
theorem dX1_where_98 : decode cX1_where 98 = .ok (.aload_n 0, 1) := by decide +kernel
theorem dX1_where_99 : decode cX1_where 99 = .ok (.getfield 199, 3) := by decide +kernel
theorem dX1_where_102 : decode cX1_where 102 = .ok (.aload_n 2, 1) := by decide +kernel
theorem dX1_where_103 : decode cX1_where 103 = .ok (.invokevirtual 158, 3) := by decide +kernel
theorem dX1_where_106 : decode cX1_where 106 = .ok (.if_icmp .ge 5, 3) := by decide +kernel
theorem dX1_where_109 : decode cX1_where 109 = .ok (.iconst 1, 1) := by decide +kernel
theorem dX1_where_110 : decode cX1_where 110 = .ok (.ireturn, 1) := by decide +kernel
theorem dX1_where_111 : decode cX1_where 111 = .ok (.aload_n 0, 1) := by decide +kernel
theorem dX1_where_112 : decode cX1_where 112 = .ok (.getfield 199, 3) := by decide +kernel
theorem dX1_where_115 : decode cX1_where 115 = .ok (.aload_n 2, 1) := by decide +kernel
theorem dX1_where_116 : decode cX1_where 116 = .ok (.invokevirtual 225, 3) := by decide +kernel
theorem dX1_where_119 : decode cX1_where 119 = .ok (.if_icmp .ge 7, 3) := by decide +kernel
theorem dX1_where_122 : decode cX1_where 122 = .ok (.iconst 3, 1) := by decide +kernel
theorem dX1_where_123 : decode cX1_where 123 = .ok (.goto 4, 3) := by decide +kernel
theorem dX1_where_126 : decode cX1_where 126 = .ok (.iconst 4, 1) := by decide +kernel
theorem dX1_where_127 : decode cX1_where 127 = .ok (.ireturn, 1) := by decide +kernel
abbrev cX1_mark : ByteArray := prog_1_method_29_code
def yX1_mark : MethodName := ⟨RX1, "mark", "(I)I"⟩
theorem dX1_mark_0 : decode cX1_mark 0 = .ok (.aload_n 0, 1) := by decide +kernel
theorem dX1_mark_1 : decode cX1_mark 1 = .ok (.iload_n 1, 1) := by decide +kernel
theorem dX1_mark_2 : decode cX1_mark 2 = .ok (.invokevirtual 218, 3) := by decide +kernel
theorem dX1_mark_5 : decode cX1_mark 5 = .ok (.pop, 1) := by decide +kernel
theorem dX1_mark_6 : decode cX1_mark 6 = .ok (.aload_n 0, 1) := by decide +kernel
theorem dX1_mark_7 : decode cX1_mark 7 = .ok (.iload_n 1, 1) := by decide +kernel
theorem dX1_mark_8 : decode cX1_mark 8 = .ok (.invokevirtual 265, 3) := by decide +kernel
theorem dX1_mark_11 : decode cX1_mark 11 = .ok (.istore_n 2, 1) := by decide +kernel
theorem dX1_mark_12 : decode cX1_mark 12 = .ok (.iload_n 2, 1) := by decide +kernel
theorem dX1_mark_13 : decode cX1_mark 13 = .ok (.iconst (-1), 1) := by decide +kernel
theorem dX1_mark_14 : decode cX1_mark 14 = .ok (.if_icmp .ne 5, 3) := by decide +kernel
theorem dX1_mark_17 : decode cX1_mark 17 = .ok (.iconst (-1), 1) := by decide +kernel
theorem dX1_mark_18 : decode cX1_mark 18 = .ok (.ireturn, 1) := by decide +kernel
theorem dX1_mark_19 : decode cX1_mark 19 = .ok (.iconst 0, 1) := by decide +kernel
theorem dX1_mark_20 : decode cX1_mark 20 = .ok (.istore_n 3, 1) := by decide +kernel
theorem dX1_mark_21 : decode cX1_mark 21 = .ok (.iconst 0, 1) := by decide +kernel
theorem dX1_mark_22 : decode cX1_mark 22 = .ok (.istore 4, 2) := by decide +kernel
theorem dX1_mark_24 : decode cX1_mark 24 = .ok (.iload 4, 2) := by decide +kernel
theorem dX1_mark_26 : decode cX1_mark 26 = .ok (.iload_n 2, 1) := by decide +kernel
theorem dX1_mark_27 : decode cX1_mark 27 = .ok (.if_icmp .ge 23, 3) := by decide +kernel
theorem dX1_mark_30 : decode cX1_mark 30 = .ok (.aload_n 0, 1) := by decide +kernel
theorem dX1_mark_31 : decode cX1_mark 31 = .ok (.iload 4, 2) := by decide +kernel
theorem dX1_mark_33 : decode cX1_mark 33 = .ok (.invokevirtual 265, 3) := by decide +kernel
theorem dX1_mark_36 : decode cX1_mark 36 = .ok (.iload 4, 2) := by decide +kernel
theorem dX1_mark_38 : decode cX1_mark 38 = .ok (.if_icmp .ne 6, 3) := by decide +kernel
theorem dX1_mark_41 : decode cX1_mark 41 = .ok (.iinc 3 1, 3) := by decide +kernel
theorem dX1_mark_44 : decode cX1_mark 44 = .ok (.iinc 4 1, 3) := by decide +kernel
theorem dX1_mark_47 : decode cX1_mark 47 = .ok (.goto (-23), 3) := by decide +kernel
theorem dX1_mark_50 : decode cX1_mark 50 = .ok (.iload_n 3, 1) := by decide +kernel
theorem dX1_mark_51 : decode cX1_mark 51 = .ok (.ireturn, 1) := by decide +kernel
abbrev cX1_like : ByteArray := prog_1_method_28_code
def yX1_like : MethodName := ⟨RX1, "like", "(I)I"⟩
theorem dX1_like_0 : decode cX1_like 0 = .ok (.aload_n 0, 1) := by decide +kernel
theorem dX1_like_1 : decode cX1_like 1 = .ok (.getfield 21, 3) := by decide +kernel
theorem dX1_like_4 : decode cX1_like 4 = .ok (.iload_n 1, 1) := by decide +kernel
theorem dX1_like_5 : decode cX1_like 5 = .ok (.invokevirtual 48, 3) := by decide +kernel
theorem dX1_like_8 : decode cX1_like 8 = .ok (.checkcast 54, 3) := by decide +kernel
theorem dX1_like_11 : decode cX1_like 11 = .ok (.getfield 108, 3) := by decide +kernel
theorem dX1_like_14 : decode cX1_like 14 = .ok (.astore_n 2, 1) := by decide +kernel
theorem dX1_like_15 : decode cX1_like 15 = .ok (.aload_n 2, 1) := by decide +kernel
theorem dX1_like_16 : decode cX1_like 16 = .ok (.getfield 187, 3) := by decide +kernel
theorem dX1_like_19 : decode cX1_like 19 = .ok (.getstatic 181, 3) := by decide +kernel
theorem dX1_like_22 : decode cX1_like 22 = .ok (.if_acmp .eq 5, 3) := by decide +kernel
theorem dX1_like_25 : decode cX1_like 25 = .ok (.iconst (-1), 1) := by decide +kernel
theorem dX1_like_26 : decode cX1_like 26 = .ok (.ireturn, 1) := by decide +kernel
theorem dX1_like_27 : decode cX1_like 27 = .ok (.iconst 0, 1) := by decide +kernel
theorem dX1_like_28 : decode cX1_like 28 = .ok (.istore_n 3, 1) := by decide +kernel
theorem dX1_like_29 : decode cX1_like 29 = .ok (.aload_n 0, 1) := by decide +kernel
theorem dX1_like_30 : decode cX1_like 30 = .ok (.getfield 21, 3) := by decide +kernel
theorem dX1_like_33 : decode cX1_like 33 = .ok (.iload_n 3, 1) := by decide +kernel
theorem dX1_like_34 : decode cX1_like 34 = .ok (.invokevirtual 48, 3) := by decide +kernel
theorem dX1_like_37 : decode cX1_like 37 = .ok (.checkcast 54, 3) := by decide +kernel
theorem dX1_like_40 : decode cX1_like 40 = .ok (.getfield 108, 3) := by decide +kernel
theorem dX1_like_43 : decode cX1_like 43 = .ok (.getfield 187, 3) := by decide +kernel
theorem dX1_like_46 : decode cX1_like 46 = .ok (.getstatic 181, 3) := by decide +kernel
theorem dX1_like_49 : decode cX1_like 49 = .ok (.if_acmp .ne 24, 3) := by decide +kernel
theorem dX1_like_52 : decode cX1_like 52 = .ok (.aload_n 0, 1) := by decide +kernel
theorem dX1_like_53 : decode cX1_like 53 = .ok (.getfield 21, 3) := by decide +kernel
theorem dX1_like_56 : decode cX1_like 56 = .ok (.iload_n 3, 1) := by decide +kernel
theorem dX1_like_57 : decode cX1_like 57 = .ok (.invokevirtual 48, 3) := by decide +kernel
theorem dX1_like_60 : decode cX1_like 60 = .ok (.checkcast 54, 3) := by decide +kernel
theorem dX1_like_63 : decode cX1_like 63 = .ok (.getfield 108, 3) := by decide +kernel
theorem dX1_like_66 : decode cX1_like 66 = .ok (.aload_n 2, 1) := by decide +kernel
theorem dX1_like_67 : decode cX1_like 67 = .ok (.invokevirtual 262, 3) := by decide +kernel
theorem dX1_like_70 : decode cX1_like 70 = .ok (.ifCond .ne 9, 3) := by decide +kernel
theorem dX1_like_73 : decode cX1_like 73 = .ok (.iinc 3 1, 3) := by decide +kernel
theorem dX1_like_76 : decode cX1_like 76 = .ok (.goto (-47), 3) := by decide +kernel
theorem dX1_like_79 : decode cX1_like 79 = .ok (.iload_n 3, 1) := by decide +kernel
theorem dX1_like_80 : decode cX1_like 80 = .ok (.ireturn, 1) := by decide +kernel
abbrev cX1_share : ByteArray := prog_1_method_31_code
def yX1_share : MethodName := ⟨RX1, "share", "(II)I"⟩
theorem dX1_share_0 : decode cX1_share 0 = .ok (.iload_n 1, 1) := by decide +kernel
theorem dX1_share_1 : decode cX1_share 1 = .ok (.ifCond .lt 18, 3) := by decide +kernel
theorem dX1_share_4 : decode cX1_share 4 = .ok (.iload_n 1, 1) := by decide +kernel
theorem dX1_share_5 : decode cX1_share 5 = .ok (.aload_n 0, 1) := by decide +kernel
theorem dX1_share_6 : decode cX1_share 6 = .ok (.getfield 24, 3) := by decide +kernel
theorem dX1_share_9 : decode cX1_share 9 = .ok (.invokevirtual 40, 3) := by decide +kernel
theorem dX1_share_12 : decode cX1_share 12 = .ok (.if_icmp .ge 7, 3) := by decide +kernel
theorem dX1_share_15 : decode cX1_share 15 = .ok (.iconst 1, 1) := by decide +kernel
theorem dX1_share_16 : decode cX1_share 16 = .ok (.goto 4, 3) := by decide +kernel
theorem dX1_share_19 : decode cX1_share 19 = .ok (.iconst 0, 1) := by decide +kernel
theorem dX1_share_20 : decode cX1_share 20 = .ok (.invokestatic 44, 3) := by decide +kernel
theorem dX1_share_23 : decode cX1_share 23 = .ok (.iload_n 2, 1) := by decide +kernel
theorem dX1_share_24 : decode cX1_share 24 = .ok (.ifCond .lt 14, 3) := by decide +kernel
theorem dX1_share_27 : decode cX1_share 27 = .ok (.iload_n 2, 1) := by decide +kernel
theorem dX1_share_28 : decode cX1_share 28 = .ok (.ldc_w 275, 3) := by decide +kernel
theorem dX1_share_31 : decode cX1_share 31 = .ok (.if_icmp .gt 7, 3) := by decide +kernel
theorem dX1_share_34 : decode cX1_share 34 = .ok (.iconst 1, 1) := by decide +kernel
theorem dX1_share_35 : decode cX1_share 35 = .ok (.goto 4, 3) := by decide +kernel
theorem dX1_share_38 : decode cX1_share 38 = .ok (.iconst 0, 1) := by decide +kernel
theorem dX1_share_39 : decode cX1_share 39 = .ok (.invokestatic 208, 3) := by decide +kernel
theorem dX1_share_42 : decode cX1_share 42 = .ok (.iconst 0, 1) := by decide +kernel
theorem dX1_share_43 : decode cX1_share 43 = .ok (.istore_n 3, 1) := by decide +kernel
theorem dX1_share_44 : decode cX1_share 44 = .ok (.iconst 0, 1) := by decide +kernel
theorem dX1_share_45 : decode cX1_share 45 = .ok (.istore 4, 2) := by decide +kernel
theorem dX1_share_47 : decode cX1_share 47 = .ok (.iload 4, 2) := by decide +kernel
theorem dX1_share_49 : decode cX1_share 49 = .ok (.aload_n 0, 1) := by decide +kernel
theorem dX1_share_50 : decode cX1_share 50 = .ok (.getfield 24, 3) := by decide +kernel
theorem dX1_share_53 : decode cX1_share 53 = .ok (.invokevirtual 40, 3) := by decide +kernel
theorem dX1_share_56 : decode cX1_share 56 = .ok (.if_icmp .ge 27, 3) := by decide +kernel
theorem dX1_share_59 : decode cX1_share 59 = .ok (.iload_n 3, 1) := by decide +kernel
theorem dX1_share_60 : decode cX1_share 60 = .ok (.aload_n 0, 1) := by decide +kernel
theorem dX1_share_61 : decode cX1_share 61 = .ok (.getfield 24, 3) := by decide +kernel
theorem dX1_share_64 : decode cX1_share 64 = .ok (.iload 4, 2) := by decide +kernel
theorem dX1_share_66 : decode cX1_share 66 = .ok (.invokevirtual 48, 3) := by decide +kernel
theorem dX1_share_69 : decode cX1_share 69 = .ok (.checkcast 270, 3) := by decide +kernel
theorem dX1_share_72 : decode cX1_share 72 = .ok (.invokevirtual 276, 3) := by decide +kernel
theorem dX1_share_75 : decode cX1_share 75 = .ok (.iadd, 1) := by decide +kernel
theorem dX1_share_76 : decode cX1_share 76 = .ok (.istore_n 3, 1) := by decide +kernel
theorem dX1_share_77 : decode cX1_share 77 = .ok (.iinc 4 1, 3) := by decide +kernel
theorem dX1_share_80 : decode cX1_share 80 = .ok (.goto (-33), 3) := by decide +kernel
theorem dX1_share_83 : decode cX1_share 83 = .ok (.iload_n 3, 1) := by decide +kernel
theorem dX1_share_84 : decode cX1_share 84 = .ok (.ifCond .ne 7, 3) := by decide +kernel
theorem dX1_share_87 : decode cX1_share 87 = .ok (.iconst 1, 1) := by decide +kernel
theorem dX1_share_88 : decode cX1_share 88 = .ok (.goto 4, 3) := by decide +kernel
theorem dX1_share_91 : decode cX1_share 91 = .ok (.iconst 0, 1) := by decide +kernel
theorem dX1_share_92 : decode cX1_share 92 = .ok (.istore 4, 2) := by decide +kernel
theorem dX1_share_94 : decode cX1_share 94 = .ok (.iload_n 3, 1) := by decide +kernel
theorem dX1_share_95 : decode cX1_share 95 = .ok (.ifCond .ne 11, 3) := by decide +kernel
theorem dX1_share_98 : decode cX1_share 98 = .ok (.aload_n 0, 1) := by decide +kernel
theorem dX1_share_99 : decode cX1_share 99 = .ok (.getfield 24, 3) := by decide +kernel
theorem dX1_share_102 : decode cX1_share 102 = .ok (.invokevirtual 40, 3) := by decide +kernel
theorem dX1_share_105 : decode cX1_share 105 = .ok (.istore_n 3, 1) := by decide +kernel
theorem dX1_share_106 : decode cX1_share 106 = .ok (.iload_n 2, 1) := by decide +kernel
theorem dX1_share_107 : decode cX1_share 107 = .ok (.istore 5, 2) := by decide +kernel
theorem dX1_share_109 : decode cX1_share 109 = .ok (.iconst 0, 1) := by decide +kernel
theorem dX1_share_110 : decode cX1_share 110 = .ok (.istore 6, 2) := by decide +kernel
theorem dX1_share_112 : decode cX1_share 112 = .ok (.iload 6, 2) := by decide +kernel
theorem dX1_share_114 : decode cX1_share 114 = .ok (.aload_n 0, 1) := by decide +kernel
theorem dX1_share_115 : decode cX1_share 115 = .ok (.getfield 24, 3) := by decide +kernel
theorem dX1_share_118 : decode cX1_share 118 = .ok (.invokevirtual 40, 3) := by decide +kernel
theorem dX1_share_121 : decode cX1_share 121 = .ok (.if_icmp .ge 42, 3) := by decide +kernel
theorem dX1_share_124 : decode cX1_share 124 = .ok (.iload 5, 2) := by decide +kernel
theorem dX1_share_126 : decode cX1_share 126 = .ok (.iload_n 2, 1) := by decide +kernel
theorem dX1_share_127 : decode cX1_share 127 = .ok (.i2l, 1) := by decide +kernel
theorem dX1_share_128 : decode cX1_share 128 = .ok (.iload 4, 2) := by decide +kernel
theorem dX1_share_130 : decode cX1_share 130 = .ok (.aload_n 0, 1) := by decide +kernel
theorem dX1_share_131 : decode cX1_share 131 = .ok (.getfield 24, 3) := by decide +kernel
theorem dX1_share_134 : decode cX1_share 134 = .ok (.iload 6, 2) := by decide +kernel
theorem dX1_share_136 : decode cX1_share 136 = .ok (.invokevirtual 48, 3) := by decide +kernel
theorem dX1_share_139 : decode cX1_share 139 = .ok (.checkcast 270, 3) := by decide +kernel
theorem dX1_share_142 : decode cX1_share 142 = .ok (.invokevirtual 276, 3) := by decide +kernel
theorem dX1_share_145 : decode cX1_share 145 = .ok (.invokestatic 148, 3) := by decide +kernel
theorem dX1_share_148 : decode cX1_share 148 = .ok (.i2l, 1) := by decide +kernel
theorem dX1_share_149 : decode cX1_share 149 = .ok (.lmul, 1) := by decide +kernel
theorem dX1_share_150 : decode cX1_share 150 = .ok (.iload_n 3, 1) := by decide +kernel
theorem dX1_share_151 : decode cX1_share 151 = .ok (.i2l, 1) := by decide +kernel
theorem dX1_share_152 : decode cX1_share 152 = .ok (.ldiv, 1) := by decide +kernel
theorem dX1_share_153 : decode cX1_share 153 = .ok (.l2i, 1) := by decide +kernel
theorem dX1_share_154 : decode cX1_share 154 = .ok (.isub, 1) := by decide +kernel
theorem dX1_share_155 : decode cX1_share 155 = .ok (.istore 5, 2) := by decide +kernel
theorem dX1_share_157 : decode cX1_share 157 = .ok (.iinc 6 1, 3) := by decide +kernel
theorem dX1_share_160 : decode cX1_share 160 = .ok (.goto (-48), 3) := by decide +kernel
theorem dX1_share_163 : decode cX1_share 163 = .ok (.iload_n 2, 1) := by decide +kernel
theorem dX1_share_164 : decode cX1_share 164 = .ok (.i2l, 1) := by decide +kernel
theorem dX1_share_165 : decode cX1_share 165 = .ok (.iload 4, 2) := by decide +kernel
theorem dX1_share_167 : decode cX1_share 167 = .ok (.aload_n 0, 1) := by decide +kernel
theorem dX1_share_168 : decode cX1_share 168 = .ok (.getfield 24, 3) := by decide +kernel
theorem dX1_share_171 : decode cX1_share 171 = .ok (.iload_n 1, 1) := by decide +kernel
theorem dX1_share_172 : decode cX1_share 172 = .ok (.invokevirtual 48, 3) := by decide +kernel
theorem dX1_share_175 : decode cX1_share 175 = .ok (.checkcast 270, 3) := by decide +kernel
theorem dX1_share_178 : decode cX1_share 178 = .ok (.invokevirtual 276, 3) := by decide +kernel
theorem dX1_share_181 : decode cX1_share 181 = .ok (.invokestatic 148, 3) := by decide +kernel
theorem dX1_share_184 : decode cX1_share 184 = .ok (.i2l, 1) := by decide +kernel
theorem dX1_share_185 : decode cX1_share 185 = .ok (.lmul, 1) := by decide +kernel
theorem dX1_share_186 : decode cX1_share 186 = .ok (.lstore 6, 2) := by decide +kernel
theorem dX1_share_188 : decode cX1_share 188 = .ok (.iconst 0, 1) := by decide +kernel
theorem dX1_share_189 : decode cX1_share 189 = .ok (.istore 8, 2) := by decide +kernel
theorem dX1_share_191 : decode cX1_share 191 = .ok (.iconst 0, 1) := by decide +kernel
theorem dX1_share_192 : decode cX1_share 192 = .ok (.istore 9, 2) := by decide +kernel
theorem dX1_share_194 : decode cX1_share 194 = .ok (.iload 9, 2) := by decide +kernel
theorem dX1_share_196 : decode cX1_share 196 = .ok (.aload_n 0, 1) := by decide +kernel
theorem dX1_share_197 : decode cX1_share 197 = .ok (.getfield 24, 3) := by decide +kernel
theorem dX1_share_200 : decode cX1_share 200 = .ok (.invokevirtual 40, 3) := by decide +kernel
theorem dX1_share_203 : decode cX1_share 203 = .ok (.if_icmp .ge 69, 3) := by decide +kernel
theorem dX1_share_206 : decode cX1_share 206 = .ok (.iload_n 2, 1) := by decide +kernel
theorem dX1_share_207 : decode cX1_share 207 = .ok (.i2l, 1) := by decide +kernel
theorem dX1_share_208 : decode cX1_share 208 = .ok (.iload 4, 2) := by decide +kernel
theorem dX1_share_210 : decode cX1_share 210 = .ok (.aload_n 0, 1) := by decide +kernel
theorem dX1_share_211 : decode cX1_share 211 = .ok (.getfield 24, 3) := by decide +kernel
theorem dX1_share_214 : decode cX1_share 214 = .ok (.iload 9, 2) := by decide +kernel
theorem dX1_share_216 : decode cX1_share 216 = .ok (.invokevirtual 48, 3) := by decide +kernel
theorem dX1_share_219 : decode cX1_share 219 = .ok (.checkcast 270, 3) := by decide +kernel
theorem dX1_share_222 : decode cX1_share 222 = .ok (.invokevirtual 276, 3) := by decide +kernel
theorem dX1_share_225 : decode cX1_share 225 = .ok (.invokestatic 148, 3) := by decide +kernel
theorem dX1_share_228 : decode cX1_share 228 = .ok (.i2l, 1) := by decide +kernel
theorem dX1_share_229 : decode cX1_share 229 = .ok (.lmul, 1) := by decide +kernel
theorem dX1_share_230 : decode cX1_share 230 = .ok (.iload_n 3, 1) := by decide +kernel
theorem dX1_share_231 : decode cX1_share 231 = .ok (.i2l, 1) := by decide +kernel
theorem dX1_share_232 : decode cX1_share 232 = .ok (.lrem, 1) := by decide +kernel
theorem dX1_share_233 : decode cX1_share 233 = .ok (.lstore 10, 2) := by decide +kernel
theorem dX1_share_235 : decode cX1_share 235 = .ok (.lload 10, 2) := by decide +kernel
theorem dX1_share_237 : decode cX1_share 237 = .ok (.lload 6, 2) := by decide +kernel
theorem dX1_share_239 : decode cX1_share 239 = .ok (.iload_n 3, 1) := by decide +kernel
theorem dX1_share_240 : decode cX1_share 240 = .ok (.i2l, 1) := by decide +kernel
theorem dX1_share_241 : decode cX1_share 241 = .ok (.lrem, 1) := by decide +kernel
theorem dX1_share_242 : decode cX1_share 242 = .ok (.lcmp, 1) := by decide +kernel
theorem dX1_share_243 : decode cX1_share 243 = .ok (.ifCond .gt 20, 3) := by decide +kernel
theorem dX1_share_246 : decode cX1_share 246 = .ok (.lload 10, 2) := by decide +kernel
theorem dX1_share_248 : decode cX1_share 248 = .ok (.lload 6, 2) := by decide +kernel
theorem dX1_share_250 : decode cX1_share 250 = .ok (.iload_n 3, 1) := by decide +kernel
theorem dX1_share_251 : decode cX1_share 251 = .ok (.i2l, 1) := by decide +kernel
theorem dX1_share_252 : decode cX1_share 252 = .ok (.lrem, 1) := by decide +kernel
theorem dX1_share_253 : decode cX1_share 253 = .ok (.lcmp, 1) := by decide +kernel
theorem dX1_share_254 : decode cX1_share 254 = .ok (.ifCond .ne 12, 3) := by decide +kernel
theorem dX1_share_257 : decode cX1_share 257 = .ok (.iload 9, 2) := by decide +kernel
theorem dX1_share_259 : decode cX1_share 259 = .ok (.iload_n 1, 1) := by decide +kernel
theorem dX1_share_260 : decode cX1_share 260 = .ok (.if_icmp .ge 6, 3) := by decide +kernel
theorem dX1_share_263 : decode cX1_share 263 = .ok (.iinc 8 1, 3) := by decide +kernel
theorem dX1_share_266 : decode cX1_share 266 = .ok (.iinc 9 1, 3) := by decide +kernel
theorem dX1_share_269 : decode cX1_share 269 = .ok (.goto (-75), 3) := by decide +kernel
theorem dX1_share_272 : decode cX1_share 272 = .ok (.lload 6, 2) := by decide +kernel
theorem dX1_share_274 : decode cX1_share 274 = .ok (.iload_n 3, 1) := by decide +kernel
theorem dX1_share_275 : decode cX1_share 275 = .ok (.i2l, 1) := by decide +kernel
theorem dX1_share_276 : decode cX1_share 276 = .ok (.ldiv, 1) := by decide +kernel
theorem dX1_share_277 : decode cX1_share 277 = .ok (.l2i, 1) := by decide +kernel
theorem dX1_share_278 : decode cX1_share 278 = .ok (.iload 8, 2) := by decide +kernel
theorem dX1_share_280 : decode cX1_share 280 = .ok (.iload 5, 2) := by decide +kernel
theorem dX1_share_282 : decode cX1_share 282 = .ok (.if_icmp .ge 7, 3) := by decide +kernel
theorem dX1_share_285 : decode cX1_share 285 = .ok (.iconst 1, 1) := by decide +kernel
theorem dX1_share_286 : decode cX1_share 286 = .ok (.goto 4, 3) := by decide +kernel
theorem dX1_share_289 : decode cX1_share 289 = .ok (.iconst 0, 1) := by decide +kernel
theorem dX1_share_290 : decode cX1_share 290 = .ok (.iadd, 1) := by decide +kernel
theorem dX1_share_291 : decode cX1_share 291 = .ok (.ireturn, 1) := by decide +kernel
abbrev cX1_count : ByteArray := prog_1_method_32_code
def yX1_count : MethodName := ⟨RX1, "count", "(I)I"⟩
theorem dX1_count_0 : decode cX1_count 0 = .ok (.iload_n 1, 1) := by decide +kernel
theorem dX1_count_1 : decode cX1_count 1 = .ok (.ifCond .lt 13, 3) := by decide +kernel
theorem dX1_count_4 : decode cX1_count 4 = .ok (.iload_n 1, 1) := by decide +kernel
theorem dX1_count_5 : decode cX1_count 5 = .ok (.bipush 7, 2) := by decide +kernel
theorem dX1_count_7 : decode cX1_count 7 = .ok (.if_icmp .gt 7, 3) := by decide +kernel
theorem dX1_count_10 : decode cX1_count 10 = .ok (.iconst 1, 1) := by decide +kernel
theorem dX1_count_11 : decode cX1_count 11 = .ok (.goto 4, 3) := by decide +kernel
theorem dX1_count_14 : decode cX1_count 14 = .ok (.iconst 0, 1) := by decide +kernel
theorem dX1_count_15 : decode cX1_count 15 = .ok (.invokestatic 44, 3) := by decide +kernel
theorem dX1_count_18 : decode cX1_count 18 = .ok (.iconst 0, 1) := by decide +kernel
theorem dX1_count_19 : decode cX1_count 19 = .ok (.istore_n 2, 1) := by decide +kernel
theorem dX1_count_20 : decode cX1_count 20 = .ok (.iload_n 1, 1) := by decide +kernel
theorem dX1_count_21 : decode cX1_count 21 = .ok (.tableswitch 211 0 6 #[43, 51, 59, 67, 72, 124, 173], 43) := by decide +kernel
theorem dX1_count_64 : decode cX1_count 64 = .ok (.aload_n 0, 1) := by decide +kernel
theorem dX1_count_65 : decode cX1_count 65 = .ok (.getfield 12, 3) := by decide +kernel
theorem dX1_count_68 : decode cX1_count 68 = .ok (.invokevirtual 40, 3) := by decide +kernel
theorem dX1_count_71 : decode cX1_count 71 = .ok (.ireturn, 1) := by decide +kernel
theorem dX1_count_72 : decode cX1_count 72 = .ok (.aload_n 0, 1) := by decide +kernel
theorem dX1_count_73 : decode cX1_count 73 = .ok (.getfield 18, 3) := by decide +kernel
theorem dX1_count_76 : decode cX1_count 76 = .ok (.invokevirtual 40, 3) := by decide +kernel
theorem dX1_count_79 : decode cX1_count 79 = .ok (.ireturn, 1) := by decide +kernel
theorem dX1_count_80 : decode cX1_count 80 = .ok (.aload_n 0, 1) := by decide +kernel
theorem dX1_count_81 : decode cX1_count 81 = .ok (.getfield 21, 3) := by decide +kernel
theorem dX1_count_84 : decode cX1_count 84 = .ok (.invokevirtual 40, 3) := by decide +kernel
theorem dX1_count_87 : decode cX1_count 87 = .ok (.ireturn, 1) := by decide +kernel
theorem dX1_count_88 : decode cX1_count 88 = .ok (.aload_n 0, 1) := by decide +kernel
theorem dX1_count_89 : decode cX1_count 89 = .ok (.getfield 199, 3) := by decide +kernel
theorem dX1_count_92 : decode cX1_count 92 = .ok (.ireturn, 1) := by decide +kernel
theorem dX1_count_93 : decode cX1_count 93 = .ok (.iconst 0, 1) := by decide +kernel
theorem dX1_count_94 : decode cX1_count 94 = .ok (.istore_n 3, 1) := by decide +kernel
theorem dX1_count_95 : decode cX1_count 95 = .ok (.iload_n 3, 1) := by decide +kernel
theorem dX1_count_96 : decode cX1_count 96 = .ok (.aload_n 0, 1) := by decide +kernel
theorem dX1_count_97 : decode cX1_count 97 = .ok (.getfield 21, 3) := by decide +kernel
theorem dX1_count_100 : decode cX1_count 100 = .ok (.invokevirtual 40, 3) := by decide +kernel
theorem dX1_count_103 : decode cX1_count 103 = .ok (.if_icmp .ge 40, 3) := by decide +kernel
theorem dX1_count_106 : decode cX1_count 106 = .ok (.iload_n 2, 1) := by decide +kernel
theorem dX1_count_107 : decode cX1_count 107 = .ok (.aload_n 0, 1) := by decide +kernel
theorem dX1_count_108 : decode cX1_count 108 = .ok (.getfield 21, 3) := by decide +kernel
theorem dX1_count_111 : decode cX1_count 111 = .ok (.iload_n 3, 1) := by decide +kernel
theorem dX1_count_112 : decode cX1_count 112 = .ok (.invokevirtual 48, 3) := by decide +kernel
theorem dX1_count_115 : decode cX1_count 115 = .ok (.checkcast 54, 3) := by decide +kernel
theorem dX1_count_118 : decode cX1_count 118 = .ok (.invokevirtual 116, 3) := by decide +kernel
theorem dX1_count_121 : decode cX1_count 121 = .ok (.getfield 187, 3) := by decide +kernel
theorem dX1_count_124 : decode cX1_count 124 = .ok (.getstatic 181, 3) := by decide +kernel
theorem dX1_count_127 : decode cX1_count 127 = .ok (.if_acmp .ne 7, 3) := by decide +kernel
theorem dX1_count_130 : decode cX1_count 130 = .ok (.iconst 1, 1) := by decide +kernel
theorem dX1_count_131 : decode cX1_count 131 = .ok (.goto 4, 3) := by decide +kernel
theorem dX1_count_134 : decode cX1_count 134 = .ok (.iconst 0, 1) := by decide +kernel
theorem dX1_count_135 : decode cX1_count 135 = .ok (.iadd, 1) := by decide +kernel
theorem dX1_count_136 : decode cX1_count 136 = .ok (.istore_n 2, 1) := by decide +kernel
theorem dX1_count_137 : decode cX1_count 137 = .ok (.iinc 3 1, 3) := by decide +kernel
theorem dX1_count_140 : decode cX1_count 140 = .ok (.goto (-45), 3) := by decide +kernel
theorem dX1_count_143 : decode cX1_count 143 = .ok (.iload_n 2, 1) := by decide +kernel
theorem dX1_count_144 : decode cX1_count 144 = .ok (.ireturn, 1) := by decide +kernel
theorem dX1_count_145 : decode cX1_count 145 = .ok (.iconst 0, 1) := by decide +kernel
theorem dX1_count_146 : decode cX1_count 146 = .ok (.istore_n 3, 1) := by decide +kernel
theorem dX1_count_147 : decode cX1_count 147 = .ok (.iload_n 3, 1) := by decide +kernel
theorem dX1_count_148 : decode cX1_count 148 = .ok (.aload_n 0, 1) := by decide +kernel
theorem dX1_count_149 : decode cX1_count 149 = .ok (.getfield 21, 3) := by decide +kernel
theorem dX1_count_152 : decode cX1_count 152 = .ok (.invokevirtual 40, 3) := by decide +kernel
theorem dX1_count_155 : decode cX1_count 155 = .ok (.if_icmp .ge 37, 3) := by decide +kernel
theorem dX1_count_158 : decode cX1_count 158 = .ok (.iload_n 2, 1) := by decide +kernel
theorem dX1_count_159 : decode cX1_count 159 = .ok (.aload_n 0, 1) := by decide +kernel
theorem dX1_count_160 : decode cX1_count 160 = .ok (.getfield 21, 3) := by decide +kernel
theorem dX1_count_163 : decode cX1_count 163 = .ok (.iload_n 3, 1) := by decide +kernel
theorem dX1_count_164 : decode cX1_count 164 = .ok (.invokevirtual 48, 3) := by decide +kernel
theorem dX1_count_167 : decode cX1_count 167 = .ok (.checkcast 54, 3) := by decide +kernel
theorem dX1_count_170 : decode cX1_count 170 = .ok (.invokevirtual 116, 3) := by decide +kernel
theorem dX1_count_173 : decode cX1_count 173 = .ok (.invokevirtual 245, 3) := by decide +kernel
theorem dX1_count_176 : decode cX1_count 176 = .ok (.ifCond .eq 7, 3) := by decide +kernel
theorem dX1_count_179 : decode cX1_count 179 = .ok (.iconst 1, 1) := by decide +kernel
theorem dX1_count_180 : decode cX1_count 180 = .ok (.goto 4, 3) := by decide +kernel
theorem dX1_count_183 : decode cX1_count 183 = .ok (.iconst 0, 1) := by decide +kernel
theorem dX1_count_184 : decode cX1_count 184 = .ok (.iadd, 1) := by decide +kernel
theorem dX1_count_185 : decode cX1_count 185 = .ok (.istore_n 2, 1) := by decide +kernel
theorem dX1_count_186 : decode cX1_count 186 = .ok (.iinc 3 1, 3) := by decide +kernel
theorem dX1_count_189 : decode cX1_count 189 = .ok (.goto (-42), 3) := by decide +kernel
theorem dX1_count_192 : decode cX1_count 192 = .ok (.iload_n 2, 1) := by decide +kernel
theorem dX1_count_193 : decode cX1_count 193 = .ok (.ireturn, 1) := by decide +kernel
theorem dX1_count_194 : decode cX1_count 194 = .ok (.iconst 0, 1) := by decide +kernel
theorem dX1_count_195 : decode cX1_count 195 = .ok (.istore_n 3, 1) := by decide +kernel
theorem dX1_count_196 : decode cX1_count 196 = .ok (.iload_n 3, 1) := by decide +kernel
theorem dX1_count_197 : decode cX1_count 197 = .ok (.aload_n 0, 1) := by decide +kernel
theorem dX1_count_198 : decode cX1_count 198 = .ok (.getfield 21, 3) := by decide +kernel
theorem dX1_count_201 : decode cX1_count 201 = .ok (.invokevirtual 40, 3) := by decide +kernel
theorem dX1_count_204 : decode cX1_count 204 = .ok (.if_icmp .ge 26, 3) := by decide +kernel
theorem dX1_count_207 : decode cX1_count 207 = .ok (.iload_n 2, 1) := by decide +kernel
theorem dX1_count_208 : decode cX1_count 208 = .ok (.aload_n 0, 1) := by decide +kernel
theorem dX1_count_209 : decode cX1_count 209 = .ok (.iload_n 3, 1) := by decide +kernel
theorem dX1_count_210 : decode cX1_count 210 = .ok (.invokevirtual 265, 3) := by decide +kernel
theorem dX1_count_213 : decode cX1_count 213 = .ok (.iload_n 3, 1) := by decide +kernel
theorem dX1_count_214 : decode cX1_count 214 = .ok (.if_icmp .ne 7, 3) := by decide +kernel
theorem dX1_count_217 : decode cX1_count 217 = .ok (.iconst 1, 1) := by decide +kernel
theorem dX1_count_218 : decode cX1_count 218 = .ok (.goto 4, 3) := by decide +kernel
theorem dX1_count_221 : decode cX1_count 221 = .ok (.iconst 0, 1) := by decide +kernel
theorem dX1_count_222 : decode cX1_count 222 = .ok (.iadd, 1) := by decide +kernel
theorem dX1_count_223 : decode cX1_count 223 = .ok (.istore_n 2, 1) := by decide +kernel
theorem dX1_count_224 : decode cX1_count 224 = .ok (.iinc 3 1, 3) := by decide +kernel
theorem dX1_count_227 : decode cX1_count 227 = .ok (.goto (-31), 3) := by decide +kernel
theorem dX1_count_230 : decode cX1_count 230 = .ok (.iload_n 2, 1) := by decide +kernel
theorem dX1_count_231 : decode cX1_count 231 = .ok (.ireturn, 1) := by decide +kernel
theorem dX1_count_232 : decode cX1_count 232 = .ok (.aload_n 0, 1) := by decide +kernel
theorem dX1_count_233 : decode cX1_count 233 = .ok (.getfield 24, 3) := by decide +kernel
theorem dX1_count_236 : decode cX1_count 236 = .ok (.invokevirtual 40, 3) := by decide +kernel
theorem dX1_count_239 : decode cX1_count 239 = .ok (.ireturn, 1) := by decide +kernel
theorem q42 : (Jvm.Cond.initialized "LunchMarks") ∈ lw_all := lw_g (lw_at lw_m1 1 rfl) rfl
theorem q75 : (Jvm.Cond.instantiable "LunchMarks" (7 : Nat)) ∈ lw_all := lw_g (lw_at lw_m1 34 rfl) rfl
theorem q77 : (Jvm.Cond.instanceMethod ({ cls := "LunchMarks", name := "<init>", desc := "()V" } : Jvm.MethodName)) ∈ lw_all := lw_g (lw_at lw_m1 36 rfl) rfl
theorem q78 : (Jvm.Cond.code ({ cls := "LunchMarks", name := "<init>", desc := "()V" } : Jvm.MethodName) prog_1_method_1_code (1 : Nat) (Option.none : Option Jvm.ClassFile.FieldType)) ∈ lw_all := lw_g (lw_at lw_m1 37 rfl) rfl
theorem q79 : (Jvm.Cond.methodLink "LunchMarks" (1 : Nat) ({ cls := "java/lang/Object", name := "<init>", desc := "()V" } : Jvm.MethodName)) ∈ lw_all := lw_g (lw_at lw_m1 38 rfl) rfl
theorem q82 : (Jvm.Cond.classLink "LunchMarks" (7 : Nat) "java/util/ArrayList") ∈ lw_all := lw_g (lw_at lw_m1 41 rfl) rfl
theorem q84 : (Jvm.Cond.methodLink "LunchMarks" (9 : Nat) ({ cls := "java/util/ArrayList", name := "<init>", desc := "(I)V" } : Jvm.MethodName)) ∈ lw_all := lw_g (lw_at lw_m1 43 rfl) rfl
theorem q421 : (Jvm.Cond.fieldLink "LunchMarks" (12 : Nat) "LunchMarks" "stations" "Ljava/util/ArrayList;") ∈ lw_all := lw_g (lw_at lw_m2 140 rfl) rfl
theorem q422 : (Jvm.Cond.fieldLink "LunchMarks" (18 : Nat) "LunchMarks" "trains" "Ljava/util/ArrayList;") ∈ lw_all := lw_g (lw_at lw_m2 141 rfl) rfl
theorem q423 : (Jvm.Cond.fieldLink "LunchMarks" (21 : Nat) "LunchMarks" "boxes" "Ljava/util/ArrayList;") ∈ lw_all := lw_g (lw_at lw_m2 142 rfl) rfl
theorem q424 : (Jvm.Cond.fieldLink "LunchMarks" (24 : Nat) "LunchMarks" "carriers" "Ljava/util/ArrayList;") ∈ lw_all := lw_g (lw_at lw_m2 143 rfl) rfl
theorem q425 : (Jvm.Cond.fieldLink "LunchMarks" (199 : Nat) "LunchMarks" "now" "I") ∈ lw_all := lw_g (lw_at lw_m2 144 rfl) rfl
theorem q426 : (Jvm.Cond.fieldLink "LunchMarks" (27 : Nat) "LunchMarks" "early" "[I") ∈ lw_all := lw_g (lw_at lw_m2 145 rfl) rfl
theorem q427 : (Jvm.Cond.fieldLink "LunchMarks" (31 : Nat) "LunchMarks" "late" "[I") ∈ lw_all := lw_g (lw_at lw_m2 146 rfl) rfl
theorem q428 : (Jvm.Cond.laysFinal "LunchMarks" "LunchMarks" "stations" "Ljava/util/ArrayList;") ∈ lw_all := lw_g (lw_at lw_m2 147 rfl) rfl
theorem q429 : (Jvm.Cond.soleField "LunchMarks" "stations") ∈ lw_all := lw_g (lw_at lw_m2 148 rfl) rfl
theorem q430 : (Jvm.Cond.laysFinal "LunchMarks" "LunchMarks" "trains" "Ljava/util/ArrayList;") ∈ lw_all := lw_g (lw_at lw_m2 149 rfl) rfl
theorem q431 : (Jvm.Cond.soleField "LunchMarks" "trains") ∈ lw_all := lw_g (lw_at lw_m2 150 rfl) rfl
theorem q432 : (Jvm.Cond.laysFinal "LunchMarks" "LunchMarks" "boxes" "Ljava/util/ArrayList;") ∈ lw_all := lw_g (lw_at lw_m2 151 rfl) rfl
theorem q433 : (Jvm.Cond.soleField "LunchMarks" "boxes") ∈ lw_all := lw_g (lw_at lw_m2 152 rfl) rfl
theorem q434 : (Jvm.Cond.laysFinal "LunchMarks" "LunchMarks" "carriers" "Ljava/util/ArrayList;") ∈ lw_all := lw_g (lw_at lw_m2 153 rfl) rfl
theorem q435 : (Jvm.Cond.soleField "LunchMarks" "carriers") ∈ lw_all := lw_g (lw_at lw_m2 154 rfl) rfl
theorem q436 : (Jvm.Cond.lays "LunchMarks" "LunchMarks" "now" "I") ∈ lw_all := lw_g (lw_at lw_m2 155 rfl) rfl
theorem q437 : (Jvm.Cond.soleField "LunchMarks" "now") ∈ lw_all := lw_g (lw_at lw_m2 156 rfl) rfl
theorem q438 : (Jvm.Cond.laysFinal "LunchMarks" "LunchMarks" "early" "[I") ∈ lw_all := lw_g (lw_at lw_m2 157 rfl) rfl
theorem q439 : (Jvm.Cond.soleField "LunchMarks" "early") ∈ lw_all := lw_g (lw_at lw_m2 158 rfl) rfl
theorem q440 : (Jvm.Cond.laysFinal "LunchMarks" "LunchMarks" "late" "[I") ∈ lw_all := lw_g (lw_at lw_m2 159 rfl) rfl
theorem q441 : (Jvm.Cond.soleField "LunchMarks" "late") ∈ lw_all := lw_g (lw_at lw_m2 160 rfl) rfl
theorem q442 : (Jvm.Cond.superclass "LunchMarks" "java/lang/Object") ∈ lw_all := lw_g (lw_at lw_m2 161 rfl) rfl
theorem q445 : (Jvm.Cond.instanceMethod ({ cls := "LunchMarks", name := "station", desc := "(I)I" } : Jvm.MethodName)) ∈ lw_all := lw_g (lw_at lw_m2 164 rfl) rfl
theorem q446 : (Jvm.Cond.selects "LunchMarks" ({ cls := "LunchMarks", name := "station", desc := "(I)I" } : Jvm.MethodName) ({ cls := "LunchMarks", name := "station", desc := "(I)I" } : Jvm.MethodName)) ∈ lw_all := lw_g (lw_at lw_m2 165 rfl) rfl
theorem q447 : (Jvm.Cond.code ({ cls := "LunchMarks", name := "station", desc := "(I)I" } : Jvm.MethodName) prog_1_method_8_code (2 : Nat) (Option.some Jvm.ClassFile.FieldType.int)) ∈ lw_all := lw_g (lw_at lw_m2 166 rfl) rfl
theorem q448 : (Jvm.Cond.methodLink "LunchMarks" (40 : Nat) ({ cls := "java/util/ArrayList", name := "size", desc := "()I" } : Jvm.MethodName)) ∈ lw_all := lw_g (lw_at lw_m2 167 rfl) rfl
theorem q452 : (Jvm.Cond.classLink "LunchMarks" (56 : Nat) "LunchMarks$Station") ∈ lw_all := lw_g (lw_at lw_m2 171 rfl) rfl
theorem q454 : (Jvm.Cond.methodLink "LunchMarks" (58 : Nat) ({ cls := "LunchMarks$Station", name := "<init>", desc := "(II)V" } : Jvm.MethodName)) ∈ lw_all := lw_g (lw_at lw_m2 173 rfl) rfl
theorem q459 : (Jvm.Cond.fieldLinkNest "LunchMarks" (102 : Nat) "LunchMarks$Station" "number" "I" "LunchMarks") ∈ lw_tbl := lw_at lw_m2 178 rfl
theorem q468 : (Jvm.Cond.methodLink "LunchMarks" (61 : Nat) ({ cls := "java/util/ArrayList", name := "add", desc := "(Ljava/lang/Object;)Z" } : Jvm.MethodName)) ∈ lw_all := lw_g (lw_at lw_m2 187 rfl) rfl
theorem q493 : (Jvm.Cond.selects "LunchMarks" ({ cls := "java/lang/Object", name := "getClass", desc := "()Ljava/lang/Class;" } : Jvm.MethodName) ({ cls := "java/lang/Object", name := "getClass", desc := "()Ljava/lang/Class;" } : Jvm.MethodName)) ∈ lw_all := lw_g (lw_at lw_m2 212 rfl) rfl
theorem q516 : (Jvm.Cond.instanceMethod ({ cls := "LunchMarks", name := "train", desc := "(I)I" } : Jvm.MethodName)) ∈ lw_all := lw_g (lw_at lw_m2 235 rfl) rfl
theorem q517 : (Jvm.Cond.selects "LunchMarks" ({ cls := "LunchMarks", name := "train", desc := "(I)I" } : Jvm.MethodName) ({ cls := "LunchMarks", name := "train", desc := "(I)I" } : Jvm.MethodName)) ∈ lw_all := lw_g (lw_at lw_m2 236 rfl) rfl
theorem q518 : (Jvm.Cond.code ({ cls := "LunchMarks", name := "train", desc := "(I)I" } : Jvm.MethodName) prog_1_method_9_code (2 : Nat) (Option.some Jvm.ClassFile.FieldType.int)) ∈ lw_all := lw_g (lw_at lw_m2 237 rfl) rfl
theorem q519 : (Jvm.Cond.classLink "LunchMarks" (52 : Nat) "LunchMarks$Train") ∈ lw_all := lw_g (lw_at lw_m2 238 rfl) rfl
theorem q521 : (Jvm.Cond.methodLink "LunchMarks" (65 : Nat) ({ cls := "LunchMarks$Train", name := "<init>", desc := "(II)V" } : Jvm.MethodName)) ∈ lw_all := lw_g (lw_at lw_m3 0 rfl) rfl
theorem q528 : (Jvm.Cond.fieldLinkNest "LunchMarks" (252 : Nat) "LunchMarks$Train" "number" "I" "LunchMarks") ∈ lw_tbl := lw_at lw_m3 7 rfl
theorem q530 : (Jvm.Cond.fieldLinkNest "LunchMarks" (133 : Nat) "LunchMarks$Train" "room" "I" "LunchMarks") ∈ lw_tbl := lw_at lw_m3 9 rfl
theorem q533 : (Jvm.Cond.fieldLinkNest "LunchMarks" (70 : Nat) "LunchMarks$Train" "stops" "Ljava/util/ArrayList;" "LunchMarks") ∈ lw_tbl := lw_at lw_m3 12 rfl
theorem q535 : (Jvm.Cond.fieldLinkNest "LunchMarks" (130 : Nat) "LunchMarks$Train" "loads" "[I" "LunchMarks") ∈ lw_tbl := lw_at lw_m3 14 rfl
theorem q536 : (Jvm.Cond.fieldLinkNest "LunchMarks" (127 : Nat) "LunchMarks$Train" "isCancelled" "Z" "LunchMarks") ∈ lw_tbl := lw_at lw_m3 15 rfl
theorem q538 : (Jvm.Cond.fieldLinkNest "LunchMarks" (80 : Nat) "LunchMarks$Train" "isUsed" "Z" "LunchMarks") ∈ lw_tbl := lw_at lw_m3 17 rfl
theorem q553 : (Jvm.Cond.instanceMethod ({ cls := "LunchMarks", name := "box", desc := "(IIIIII)I" } : Jvm.MethodName)) ∈ lw_all := lw_g (lw_at lw_m3 32 rfl) rfl
theorem q554 : (Jvm.Cond.selects "LunchMarks" ({ cls := "LunchMarks", name := "box", desc := "(IIIIII)I" } : Jvm.MethodName) ({ cls := "LunchMarks", name := "box", desc := "(IIIIII)I" } : Jvm.MethodName)) ∈ lw_all := lw_g (lw_at lw_m3 33 rfl) rfl
theorem q555 : (Jvm.Cond.code ({ cls := "LunchMarks", name := "box", desc := "(IIIIII)I" } : Jvm.MethodName) prog_1_method_12_code (8 : Nat) (Option.some Jvm.ClassFile.FieldType.int)) ∈ lw_all := lw_g (lw_at lw_m3 34 rfl) rfl
theorem q556 : (Jvm.Cond.methodLink "LunchMarks" (73 : Nat) ({ cls := "LunchMarks", name := "isStation", desc := "(I)Z" } : Jvm.MethodName)) ∈ lw_all := lw_g (lw_at lw_m3 35 rfl) rfl
theorem q557 : (Jvm.Cond.privateMethod ({ cls := "LunchMarks", name := "isStation", desc := "(I)Z" } : Jvm.MethodName)) ∈ lw_tbl := lw_at lw_m3 36 rfl
theorem q558 : (Jvm.Cond.instanceMethod ({ cls := "LunchMarks", name := "isStation", desc := "(I)Z" } : Jvm.MethodName)) ∈ lw_all := lw_g (lw_at lw_m3 37 rfl) rfl
theorem q559 : (Jvm.Cond.code ({ cls := "LunchMarks", name := "isStation", desc := "(I)Z" } : Jvm.MethodName) prog_1_method_6_code (2 : Nat) (Option.some Jvm.ClassFile.FieldType.boolean)) ∈ lw_all := lw_g (lw_at lw_m3 38 rfl) rfl
theorem q560 : (Jvm.Cond.methodLink "LunchMarks" (77 : Nat) ({ cls := "LunchMarks", name := "isMinute", desc := "(I)Z" } : Jvm.MethodName)) ∈ lw_all := lw_g (lw_at lw_m3 39 rfl) rfl
theorem q561 : (Jvm.Cond.static ({ cls := "LunchMarks", name := "isMinute", desc := "(I)Z" } : Jvm.MethodName)) ∈ lw_all := lw_g (lw_at lw_m3 40 rfl) rfl
theorem q562 : (Jvm.Cond.code ({ cls := "LunchMarks", name := "isMinute", desc := "(I)Z" } : Jvm.MethodName) prog_1_method_7_code (1 : Nat) (Option.some Jvm.ClassFile.FieldType.boolean)) ∈ lw_all := lw_g (lw_at lw_m3 41 rfl) rfl
theorem q563 : (Jvm.Cond.classLink "LunchMarks" (54 : Nat) "LunchMarks$Box") ∈ lw_all := lw_g (lw_at lw_m3 42 rfl) rfl
theorem q565 : (Jvm.Cond.methodLink "LunchMarks" (48 : Nat) ({ cls := "java/util/ArrayList", name := "get", desc := "(I)Ljava/lang/Object;" } : Jvm.MethodName)) ∈ lw_all := lw_g (lw_at lw_m3 44 rfl) rfl
theorem q579 : (Jvm.Cond.methodLink "LunchMarks" (120 : Nat) ({ cls := "LunchMarks$Box", name := "<init>", desc := "(LLunchMarks$Station;IILLunchMarks$Station;II)V" } : Jvm.MethodName)) ∈ lw_all := lw_g (lw_at lw_m3 58 rfl) rfl
theorem q595 : (Jvm.Cond.fieldLinkNest "LunchMarks" (163 : Nat) "LunchMarks$Trip" "to" "LLunchMarks$Station;" "LunchMarks") ∈ lw_tbl := lw_at lw_m3 74 rfl
theorem q597 : (Jvm.Cond.fieldLinkNest "LunchMarks" (196 : Nat) "LunchMarks$Trip" "ready" "I" "LunchMarks") ∈ lw_tbl := lw_at lw_m3 76 rfl
theorem q602 : (Jvm.Cond.fieldLinkNest "LunchMarks" (151 : Nat) "LunchMarks$Trip" "legs" "Ljava/util/ArrayList;" "LunchMarks") ∈ lw_tbl := lw_at lw_m3 81 rfl
theorem q604 : (Jvm.Cond.fieldLinkNest "LunchMarks" (187 : Nat) "LunchMarks$Trip" "state" "LLunchMarks$State;" "LunchMarks") ∈ lw_tbl := lw_at lw_m3 83 rfl
theorem q605 : (Jvm.Cond.fieldLinkNest "LunchMarks" (202 : Nat) "LunchMarks$Trip" "since" "I" "LunchMarks") ∈ lw_tbl := lw_at lw_m3 84 rfl
theorem q626 : (Jvm.Cond.fieldLinkNest "LunchMarks" (108 : Nat) "LunchMarks$Box" "there" "LLunchMarks$Trip;" "LunchMarks") ∈ lw_tbl := lw_at lw_m3 105 rfl
theorem q628 : (Jvm.Cond.fieldLinkNest "LunchMarks" (234 : Nat) "LunchMarks$Box" "home" "LLunchMarks$Station;" "LunchMarks") ∈ lw_tbl := lw_at lw_m3 107 rfl
theorem q630 : (Jvm.Cond.fieldLinkNest "LunchMarks" (228 : Nat) "LunchMarks$Box" "desk" "LLunchMarks$Station;" "LunchMarks") ∈ lw_tbl := lw_at lw_m3 109 rfl
theorem q632 : (Jvm.Cond.fieldLinkNest "LunchMarks" (237 : Nat) "LunchMarks$Box" "walk" "I" "LunchMarks") ∈ lw_tbl := lw_at lw_m3 111 rfl
theorem q634 : (Jvm.Cond.fieldLinkNest "LunchMarks" (231 : Nat) "LunchMarks$Box" "walkThere" "I" "LunchMarks") ∈ lw_tbl := lw_at lw_m3 113 rfl
theorem q636 : (Jvm.Cond.fieldLinkNest "LunchMarks" (222 : Nat) "LunchMarks$Box" "back" "LLunchMarks$Trip;" "LunchMarks") ∈ lw_tbl := lw_at lw_m3 115 rfl
theorem q651 : (Jvm.Cond.instanceMethod ({ cls := "LunchMarks", name := "plan", desc := "()I" } : Jvm.MethodName)) ∈ lw_all := lw_g (lw_at lw_m3 130 rfl) rfl
theorem q652 : (Jvm.Cond.selects "LunchMarks" ({ cls := "LunchMarks", name := "plan", desc := "()I" } : Jvm.MethodName) ({ cls := "LunchMarks", name := "plan", desc := "()I" } : Jvm.MethodName)) ∈ lw_all := lw_g (lw_at lw_m3 131 rfl) rfl
theorem q653 : (Jvm.Cond.code ({ cls := "LunchMarks", name := "plan", desc := "()I" } : Jvm.MethodName) prog_1_method_19_code (4 : Nat) (Option.some Jvm.ClassFile.FieldType.int)) ∈ lw_all := lw_g (lw_at lw_m3 132 rfl) rfl
theorem q654 : (Jvm.Cond.methodLink "LunchMarks" (116 : Nat) ({ cls := "LunchMarks$Box", name := "trip", desc := "()LLunchMarks$Trip;" } : Jvm.MethodName)) ∈ lw_all := lw_g (lw_at lw_m3 133 rfl) rfl
theorem q658 : (Jvm.Cond.fieldLink "LunchMarks" (181 : Nat) "LunchMarks$State" "LED" "LLunchMarks$State;") ∈ lw_all := lw_g (lw_at lw_m3 137 rfl) rfl
theorem q660 : (Jvm.Cond.fieldLink "LunchMarks" (193 : Nat) "LunchMarks$State" "NEW" "LLunchMarks$State;") ∈ lw_all := lw_g (lw_at lw_m3 139 rfl) rfl
theorem q661 : (Jvm.Cond.methodLink "LunchMarks" (148 : Nat) ({ cls := "java/lang/Math", name := "max", desc := "(II)I" } : Jvm.MethodName)) ∈ lw_all := lw_g (lw_at lw_m3 140 rfl) rfl
theorem q662 : (Jvm.Cond.methodLink "LunchMarks" (205 : Nat) ({ cls := "LunchMarks", name := "leads", desc := "(LLunchMarks$Trip;I)Z" } : Jvm.MethodName)) ∈ lw_all := lw_g (lw_at lw_m3 141 rfl) rfl
theorem q663 : (Jvm.Cond.privateMethod ({ cls := "LunchMarks", name := "leads", desc := "(LLunchMarks$Trip;I)Z" } : Jvm.MethodName)) ∈ lw_tbl := lw_at lw_m3 142 rfl
theorem q664 : (Jvm.Cond.instanceMethod ({ cls := "LunchMarks", name := "leads", desc := "(LLunchMarks$Trip;I)Z" } : Jvm.MethodName)) ∈ lw_all := lw_g (lw_at lw_m3 143 rfl) rfl
theorem q665 : (Jvm.Cond.code ({ cls := "LunchMarks", name := "leads", desc := "(LLunchMarks$Trip;I)Z" } : Jvm.MethodName) prog_1_method_17_code (10 : Nat) (Option.some Jvm.ClassFile.FieldType.boolean)) ∈ lw_all := lw_g (lw_at lw_m3 144 rfl) rfl
theorem q666 : (Jvm.Cond.methodLink "LunchMarks" (154 : Nat) ({ cls := "LunchMarks$Trip", name := "end", desc := "()LLunchMarks$Station;" } : Jvm.MethodName)) ∈ lw_all := lw_g (lw_at lw_m3 145 rfl) rfl
theorem q683 : (Jvm.Cond.methodLink "LunchMarks" (158 : Nat) ({ cls := "LunchMarks$Trip", name := "sorted", desc := "()I" } : Jvm.MethodName)) ∈ lw_all := lw_g (lw_at lw_m3 162 rfl) rfl
theorem q691 : (Jvm.Cond.methodLink "LunchMarks" (159 : Nat) ({ cls := "LunchMarks", name := "goes", desc := "(III)V" } : Jvm.MethodName)) ∈ lw_all := lw_g (lw_at lw_m3 170 rfl) rfl
theorem q692 : (Jvm.Cond.privateMethod ({ cls := "LunchMarks", name := "goes", desc := "(III)V" } : Jvm.MethodName)) ∈ lw_tbl := lw_at lw_m3 171 rfl
theorem q693 : (Jvm.Cond.instanceMethod ({ cls := "LunchMarks", name := "goes", desc := "(III)V" } : Jvm.MethodName)) ∈ lw_all := lw_g (lw_at lw_m3 172 rfl) rfl
theorem q694 : (Jvm.Cond.code ({ cls := "LunchMarks", name := "goes", desc := "(III)V" } : Jvm.MethodName) prog_1_method_14_code (11 : Nat) (Option.none : Option Jvm.ClassFile.FieldType)) ∈ lw_all := lw_g (lw_at lw_m3 173 rfl) rfl
theorem q695 : (Jvm.Cond.constant "LunchMarks" (123 : Nat) (1000000 : Int32)) ∈ lw_all := lw_g (lw_at lw_m3 174 rfl) rfl
theorem q696 : (Jvm.Cond.methodLink "LunchMarks" (124 : Nat) ({ cls := "LunchMarks", name := "at", desc := "(II)I" } : Jvm.MethodName)) ∈ lw_all := lw_g (lw_at lw_m3 175 rfl) rfl
theorem q697 : (Jvm.Cond.static ({ cls := "LunchMarks", name := "at", desc := "(II)I" } : Jvm.MethodName)) ∈ lw_all := lw_g (lw_at lw_m3 176 rfl) rfl
theorem q698 : (Jvm.Cond.code ({ cls := "LunchMarks", name := "at", desc := "(II)I" } : Jvm.MethodName) prog_1_method_13_code (2 : Nat) (Option.some Jvm.ClassFile.FieldType.int)) ∈ lw_all := lw_g (lw_at lw_m3 177 rfl) rfl
theorem q699 : (Jvm.Cond.classLink "LunchMarks" (92 : Nat) "LunchMarks$Stop") ∈ lw_all := lw_g (lw_at lw_m3 178 rfl) rfl
theorem q700 : (Jvm.Cond.methodLink "LunchMarks" (136 : Nat) ({ cls := "LunchMarks$Stop", name := "sorted", desc := "()I" } : Jvm.MethodName)) ∈ lw_all := lw_g (lw_at lw_m3 179 rfl) rfl
theorem q701 : (Jvm.Cond.methodLink "LunchMarks" (139 : Nat) ({ cls := "java/lang/Math", name := "min", desc := "(II)I" } : Jvm.MethodName)) ∈ lw_all := lw_g (lw_at lw_m3 180 rfl) rfl
theorem q702 : (Jvm.Cond.methodLink "LunchMarks" (166 : Nat) ({ cls := "LunchMarks", name := "comes", desc := "(III)V" } : Jvm.MethodName)) ∈ lw_all := lw_g (lw_at lw_m3 181 rfl) rfl
theorem q703 : (Jvm.Cond.privateMethod ({ cls := "LunchMarks", name := "comes", desc := "(III)V" } : Jvm.MethodName)) ∈ lw_tbl := lw_at lw_m3 182 rfl
theorem q704 : (Jvm.Cond.instanceMethod ({ cls := "LunchMarks", name := "comes", desc := "(III)V" } : Jvm.MethodName)) ∈ lw_all := lw_g (lw_at lw_m3 183 rfl) rfl
theorem q705 : (Jvm.Cond.code ({ cls := "LunchMarks", name := "comes", desc := "(III)V" } : Jvm.MethodName) prog_1_method_15_code (8 : Nat) (Option.none : Option Jvm.ClassFile.FieldType)) ∈ lw_all := lw_g (lw_at lw_m3 184 rfl) rfl
theorem q706 : (Jvm.Cond.methodLink "LunchMarks" (144 : Nat) ({ cls := "LunchMarks", name := "leads", desc := "(LLunchMarks$Train;II)I" } : Jvm.MethodName)) ∈ lw_all := lw_g (lw_at lw_m3 185 rfl) rfl
theorem q707 : (Jvm.Cond.privateMethod ({ cls := "LunchMarks", name := "leads", desc := "(LLunchMarks$Train;II)I" } : Jvm.MethodName)) ∈ lw_tbl := lw_at lw_m3 186 rfl
theorem q708 : (Jvm.Cond.instanceMethod ({ cls := "LunchMarks", name := "leads", desc := "(LLunchMarks$Train;II)I" } : Jvm.MethodName)) ∈ lw_all := lw_g (lw_at lw_m3 187 rfl) rfl
theorem q709 : (Jvm.Cond.code ({ cls := "LunchMarks", name := "leads", desc := "(LLunchMarks$Train;II)I" } : Jvm.MethodName) prog_1_method_16_code (5 : Nat) (Option.some Jvm.ClassFile.FieldType.int)) ∈ lw_all := lw_g (lw_at lw_m3 188 rfl) rfl
theorem q710 : (Jvm.Cond.methodLink "LunchMarks" (169 : Nat) ({ cls := "LunchMarks", name := "first", desc := "(III)LLunchMarks$Leg;" } : Jvm.MethodName)) ∈ lw_all := lw_g (lw_at lw_m3 189 rfl) rfl
theorem q711 : (Jvm.Cond.privateMethod ({ cls := "LunchMarks", name := "first", desc := "(III)LLunchMarks$Leg;" } : Jvm.MethodName)) ∈ lw_tbl := lw_at lw_m3 190 rfl
theorem q712 : (Jvm.Cond.instanceMethod ({ cls := "LunchMarks", name := "first", desc := "(III)LLunchMarks$Leg;" } : Jvm.MethodName)) ∈ lw_all := lw_g (lw_at lw_m3 191 rfl) rfl
theorem q713 : (Jvm.Cond.code ({ cls := "LunchMarks", name := "first", desc := "(III)LLunchMarks$Leg;" } : Jvm.MethodName) prog_1_method_18_code (8 : Nat) (Option.some (Jvm.ClassFile.FieldType.object "LunchMarks$Leg"))) ∈ lw_all := lw_g (lw_at lw_m3 192 rfl) rfl
theorem q714 : (Jvm.Cond.classLink "LunchMarks" (174 : Nat) "LunchMarks$Leg") ∈ lw_all := lw_g (lw_at lw_m3 193 rfl) rfl
theorem q716 : (Jvm.Cond.methodLink "LunchMarks" (190 : Nat) ({ cls := "LunchMarks$Leg", name := "<init>", desc := "(LLunchMarks$Train;II)V" } : Jvm.MethodName)) ∈ lw_all := lw_g (lw_at lw_m3 195 rfl) rfl
theorem q722 : (Jvm.Cond.fieldLinkNest "LunchMarks" (248 : Nat) "LunchMarks$Leg" "train" "LLunchMarks$Train;" "LunchMarks") ∈ lw_tbl := lw_at lw_m3 201 rfl
theorem q724 : (Jvm.Cond.fieldLinkNest "LunchMarks" (253 : Nat) "LunchMarks$Leg" "on" "I" "LunchMarks") ∈ lw_tbl := lw_at lw_m3 203 rfl
theorem q726 : (Jvm.Cond.fieldLinkNest "LunchMarks" (256 : Nat) "LunchMarks$Leg" "off" "I" "LunchMarks") ∈ lw_tbl := lw_at lw_m3 205 rfl
theorem q734 : (Jvm.Cond.methodLink "LunchMarks" (173 : Nat) ({ cls := "LunchMarks$Leg", name := "to", desc := "()LLunchMarks$Stop;" } : Jvm.MethodName)) ∈ lw_all := lw_g (lw_at lw_m3 213 rfl) rfl
theorem q735 : (Jvm.Cond.methodLink "LunchMarks" (178 : Nat) ({ cls := "LunchMarks$Leg", name := "takes", desc := "()V" } : Jvm.MethodName)) ∈ lw_all := lw_g (lw_at lw_m3 214 rfl) rfl
theorem q744 : (Jvm.Cond.instanceMethod ({ cls := "LunchMarks", name := "carrier", desc := "(I)I" } : Jvm.MethodName)) ∈ lw_all := lw_g (lw_at lw_m3 223 rfl) rfl
theorem q745 : (Jvm.Cond.selects "LunchMarks" ({ cls := "LunchMarks", name := "carrier", desc := "(I)I" } : Jvm.MethodName) ({ cls := "LunchMarks", name := "carrier", desc := "(I)I" } : Jvm.MethodName)) ∈ lw_all := lw_g (lw_at lw_m3 224 rfl) rfl
theorem q746 : (Jvm.Cond.code ({ cls := "LunchMarks", name := "carrier", desc := "(I)I" } : Jvm.MethodName) prog_1_method_30_code (2 : Nat) (Option.some Jvm.ClassFile.FieldType.int)) ∈ lw_all := lw_g (lw_at lw_m3 225 rfl) rfl
theorem q747 : (Jvm.Cond.methodLink "LunchMarks" (269 : Nat) ({ cls := "java/lang/Integer", name := "valueOf", desc := "(I)Ljava/lang/Integer;" } : Jvm.MethodName)) ∈ lw_all := lw_g (lw_at lw_m3 226 rfl) rfl
theorem q772 : (Jvm.Cond.instanceMethod ({ cls := "LunchMarks", name := "stop", desc := "(III)I" } : Jvm.MethodName)) ∈ lw_all := lw_g (lw_at lw_m4 11 rfl) rfl
theorem q773 : (Jvm.Cond.selects "LunchMarks" ({ cls := "LunchMarks", name := "stop", desc := "(III)I" } : Jvm.MethodName) ({ cls := "LunchMarks", name := "stop", desc := "(III)I" } : Jvm.MethodName)) ∈ lw_all := lw_g (lw_at lw_m4 12 rfl) rfl
theorem q774 : (Jvm.Cond.code ({ cls := "LunchMarks", name := "stop", desc := "(III)I" } : Jvm.MethodName) prog_1_method_10_code (6 : Nat) (Option.some Jvm.ClassFile.FieldType.int)) ∈ lw_all := lw_g (lw_at lw_m4 13 rfl) rfl
theorem q775 : (Jvm.Cond.methodLink "LunchMarks" (66 : Nat) ({ cls := "LunchMarks", name := "trainAt", desc := "(I)LLunchMarks$Train;" } : Jvm.MethodName)) ∈ lw_all := lw_g (lw_at lw_m4 14 rfl) rfl
theorem q776 : (Jvm.Cond.privateMethod ({ cls := "LunchMarks", name := "trainAt", desc := "(I)LLunchMarks$Train;" } : Jvm.MethodName)) ∈ lw_tbl := lw_at lw_m4 15 rfl
theorem q777 : (Jvm.Cond.instanceMethod ({ cls := "LunchMarks", name := "trainAt", desc := "(I)LLunchMarks$Train;" } : Jvm.MethodName)) ∈ lw_all := lw_g (lw_at lw_m4 16 rfl) rfl
theorem q778 : (Jvm.Cond.code ({ cls := "LunchMarks", name := "trainAt", desc := "(I)LLunchMarks$Train;" } : Jvm.MethodName) prog_1_method_4_code (2 : Nat) (Option.some (Jvm.ClassFile.FieldType.object "LunchMarks$Train"))) ∈ lw_all := lw_g (lw_at lw_m4 17 rfl) rfl
theorem q779 : (Jvm.Cond.methodLink "LunchMarks" (44 : Nat) ({ cls := "LunchMarks", name := "there", desc := "(Z)V" } : Jvm.MethodName)) ∈ lw_all := lw_g (lw_at lw_m4 18 rfl) rfl
theorem q780 : (Jvm.Cond.static ({ cls := "LunchMarks", name := "there", desc := "(Z)V" } : Jvm.MethodName)) ∈ lw_all := lw_g (lw_at lw_m4 19 rfl) rfl
theorem q781 : (Jvm.Cond.code ({ cls := "LunchMarks", name := "there", desc := "(Z)V" } : Jvm.MethodName) prog_1_method_2_code (1 : Nat) (Option.none : Option Jvm.ClassFile.FieldType)) ∈ lw_all := lw_g (lw_at lw_m4 20 rfl) rfl
theorem q782 : (Jvm.Cond.classLink "LunchMarks" (34 : Nat) "java/util/NoSuchElementException") ∈ lw_all := lw_g (lw_at lw_m4 21 rfl) rfl
theorem q791 : (Jvm.Cond.methodLink "LunchMarks" (36 : Nat) ({ cls := "java/util/NoSuchElementException", name := "<init>", desc := "()V" } : Jvm.MethodName)) ∈ lw_all := lw_g (lw_at lw_m4 30 rfl) rfl
theorem q803 : (Jvm.Cond.methodLink "LunchMarks" (84 : Nat) ({ cls := "LunchMarks", name := "isPlanned", desc := "(LLunchMarks$Train;)Z" } : Jvm.MethodName)) ∈ lw_all := lw_g (lw_at lw_m4 42 rfl) rfl
theorem q804 : (Jvm.Cond.privateMethod ({ cls := "LunchMarks", name := "isPlanned", desc := "(LLunchMarks$Train;)Z" } : Jvm.MethodName)) ∈ lw_tbl := lw_at lw_m4 43 rfl
theorem q805 : (Jvm.Cond.instanceMethod ({ cls := "LunchMarks", name := "isPlanned", desc := "(LLunchMarks$Train;)Z" } : Jvm.MethodName)) ∈ lw_all := lw_g (lw_at lw_m4 44 rfl) rfl
theorem q806 : (Jvm.Cond.code ({ cls := "LunchMarks", name := "isPlanned", desc := "(LLunchMarks$Train;)Z" } : Jvm.MethodName) prog_1_method_11_code (4 : Nat) (Option.some Jvm.ClassFile.FieldType.boolean)) ∈ lw_all := lw_g (lw_at lw_m4 45 rfl) rfl
theorem q807 : (Jvm.Cond.methodLink "LunchMarks" (111 : Nat) ({ cls := "LunchMarks$Trip", name := "uses", desc := "(LLunchMarks$Train;)Z" } : Jvm.MethodName)) ∈ lw_all := lw_g (lw_at lw_m4 46 rfl) rfl
theorem q811 : (Jvm.Cond.methodLink "LunchMarks" (88 : Nat) ({ cls := "java/util/ArrayList", name := "isEmpty", desc := "()Z" } : Jvm.MethodName)) ∈ lw_all := lw_g (lw_at lw_m4 50 rfl) rfl
theorem q813 : (Jvm.Cond.methodLink "LunchMarks" (105 : Nat) ({ cls := "LunchMarks$Stop", name := "<init>", desc := "(LLunchMarks$Station;I)V" } : Jvm.MethodName)) ∈ lw_all := lw_g (lw_at lw_m4 52 rfl) rfl
theorem q819 : (Jvm.Cond.fieldLinkNest "LunchMarks" (98 : Nat) "LunchMarks$Stop" "at" "LLunchMarks$Station;" "LunchMarks") ∈ lw_tbl := lw_at lw_m4 58 rfl
theorem q821 : (Jvm.Cond.fieldLinkNest "LunchMarks" (94 : Nat) "LunchMarks$Stop" "minute" "I" "LunchMarks") ∈ lw_tbl := lw_at lw_m4 60 rfl
theorem q832 : (Jvm.Cond.instanceMethod ({ cls := "LunchMarks", name := "minutes", desc := "(I)I" } : Jvm.MethodName)) ∈ lw_all := lw_g (lw_at lw_m4 71 rfl) rfl
theorem q833 : (Jvm.Cond.selects "LunchMarks" ({ cls := "LunchMarks", name := "minutes", desc := "(I)I" } : Jvm.MethodName) ({ cls := "LunchMarks", name := "minutes", desc := "(I)I" } : Jvm.MethodName)) ∈ lw_all := lw_g (lw_at lw_m4 72 rfl) rfl
theorem q834 : (Jvm.Cond.code ({ cls := "LunchMarks", name := "minutes", desc := "(I)I" } : Jvm.MethodName) prog_1_method_20_code (2 : Nat) (Option.some Jvm.ClassFile.FieldType.int)) ∈ lw_all := lw_g (lw_at lw_m4 73 rfl) rfl
theorem q835 : (Jvm.Cond.methodLink "LunchMarks" (208 : Nat) ({ cls := "LunchMarks", name := "right", desc := "(Z)V" } : Jvm.MethodName)) ∈ lw_all := lw_g (lw_at lw_m4 74 rfl) rfl
theorem q836 : (Jvm.Cond.static ({ cls := "LunchMarks", name := "right", desc := "(Z)V" } : Jvm.MethodName)) ∈ lw_all := lw_g (lw_at lw_m4 75 rfl) rfl
theorem q837 : (Jvm.Cond.code ({ cls := "LunchMarks", name := "right", desc := "(Z)V" } : Jvm.MethodName) prog_1_method_3_code (1 : Nat) (Option.none : Option Jvm.ClassFile.FieldType)) ∈ lw_all := lw_g (lw_at lw_m4 76 rfl) rfl
theorem q838 : (Jvm.Cond.classLink "LunchMarks" (37 : Nat) "java/lang/IllegalArgumentException") ∈ lw_all := lw_g (lw_at lw_m4 77 rfl) rfl
theorem q839 : (Jvm.Cond.methodLink "LunchMarks" (39 : Nat) ({ cls := "java/lang/IllegalArgumentException", name := "<init>", desc := "()V" } : Jvm.MethodName)) ∈ lw_all := lw_g (lw_at lw_m4 78 rfl) rfl
theorem q847 : (Jvm.Cond.instanceMethod ({ cls := "LunchMarks", name := "cancel", desc := "(I)I" } : Jvm.MethodName)) ∈ lw_all := lw_g (lw_at lw_m4 86 rfl) rfl
theorem q848 : (Jvm.Cond.selects "LunchMarks" ({ cls := "LunchMarks", name := "cancel", desc := "(I)I" } : Jvm.MethodName) ({ cls := "LunchMarks", name := "cancel", desc := "(I)I" } : Jvm.MethodName)) ∈ lw_all := lw_g (lw_at lw_m4 87 rfl) rfl
theorem q849 : (Jvm.Cond.code ({ cls := "LunchMarks", name := "cancel", desc := "(I)I" } : Jvm.MethodName) prog_1_method_21_code (6 : Nat) (Option.some Jvm.ClassFile.FieldType.int)) ∈ lw_all := lw_g (lw_at lw_m4 88 rfl) rfl
theorem q850 : (Jvm.Cond.methodLink "LunchMarks" (211 : Nat) ({ cls := "LunchMarks$Trip", name := "leaves", desc := "(LLunchMarks$Train;)V" } : Jvm.MethodName)) ∈ lw_all := lw_g (lw_at lw_m4 89 rfl) rfl
theorem q867 : (Jvm.Cond.classLink "LunchMarks" (112 : Nat) "LunchMarks$Trip") ∈ lw_all := lw_g (lw_at lw_m4 106 rfl) rfl
theorem q868 : (Jvm.Cond.fieldLink "LunchMarks" (215 : Nat) "LunchMarks$State" "STANDS" "LLunchMarks$State;") ∈ lw_all := lw_g (lw_at lw_m4 107 rfl) rfl
theorem q874 : (Jvm.Cond.instanceMethod ({ cls := "LunchMarks", name := "empty", desc := "(II)Z" } : Jvm.MethodName)) ∈ lw_all := lw_g (lw_at lw_m4 113 rfl) rfl
theorem q875 : (Jvm.Cond.selects "LunchMarks" ({ cls := "LunchMarks", name := "empty", desc := "(II)Z" } : Jvm.MethodName) ({ cls := "LunchMarks", name := "empty", desc := "(II)Z" } : Jvm.MethodName)) ∈ lw_all := lw_g (lw_at lw_m4 114 rfl) rfl
theorem q876 : (Jvm.Cond.code ({ cls := "LunchMarks", name := "empty", desc := "(II)Z" } : Jvm.MethodName) prog_1_method_22_code (4 : Nat) (Option.some Jvm.ClassFile.FieldType.boolean)) ∈ lw_all := lw_g (lw_at lw_m4 115 rfl) rfl
theorem q877 : (Jvm.Cond.methodLink "LunchMarks" (218 : Nat) ({ cls := "LunchMarks", name := "boxAt", desc := "(I)LLunchMarks$Box;" } : Jvm.MethodName)) ∈ lw_all := lw_g (lw_at lw_m4 116 rfl) rfl
theorem q878 : (Jvm.Cond.privateMethod ({ cls := "LunchMarks", name := "boxAt", desc := "(I)LLunchMarks$Box;" } : Jvm.MethodName)) ∈ lw_tbl := lw_at lw_m4 117 rfl
theorem q879 : (Jvm.Cond.instanceMethod ({ cls := "LunchMarks", name := "boxAt", desc := "(I)LLunchMarks$Box;" } : Jvm.MethodName)) ∈ lw_all := lw_g (lw_at lw_m4 118 rfl) rfl
theorem q880 : (Jvm.Cond.code ({ cls := "LunchMarks", name := "boxAt", desc := "(I)LLunchMarks$Box;" } : Jvm.MethodName) prog_1_method_5_code (2 : Nat) (Option.some (Jvm.ClassFile.FieldType.object "LunchMarks$Box"))) ∈ lw_all := lw_g (lw_at lw_m4 119 rfl) rfl
theorem q881 : (Jvm.Cond.methodLink "LunchMarks" (225 : Nat) ({ cls := "LunchMarks$Trip", name := "arrives", desc := "()I" } : Jvm.MethodName)) ∈ lw_all := lw_g (lw_at lw_m4 120 rfl) rfl
theorem q887 : (Jvm.Cond.methodLink "LunchMarks" (240 : Nat) ({ cls := "LunchMarks$Trip", name := "<init>", desc := "(LLunchMarks$Station;IILLunchMarks$Station;II)V" } : Jvm.MethodName)) ∈ lw_all := lw_g (lw_at lw_m4 126 rfl) rfl
theorem q892 : (Jvm.Cond.instanceMethod ({ cls := "LunchMarks", name := "of", desc := "(II)I" } : Jvm.MethodName)) ∈ lw_all := lw_g (lw_at lw_m4 131 rfl) rfl
theorem q893 : (Jvm.Cond.selects "LunchMarks" ({ cls := "LunchMarks", name := "of", desc := "(II)I" } : Jvm.MethodName) ({ cls := "LunchMarks", name := "of", desc := "(II)I" } : Jvm.MethodName)) ∈ lw_all := lw_g (lw_at lw_m4 132 rfl) rfl
theorem q894 : (Jvm.Cond.code ({ cls := "LunchMarks", name := "of", desc := "(II)I" } : Jvm.MethodName) prog_1_method_24_code (6 : Nat) (Option.some Jvm.ClassFile.FieldType.int)) ∈ lw_all := lw_g (lw_at lw_m4 133 rfl) rfl
theorem q895 : (Jvm.Cond.methodLink "LunchMarks" (241 : Nat) ({ cls := "LunchMarks", name := "isGone", desc := "(LLunchMarks$Trip;)Z" } : Jvm.MethodName)) ∈ lw_all := lw_g (lw_at lw_m4 134 rfl) rfl
theorem q896 : (Jvm.Cond.privateMethod ({ cls := "LunchMarks", name := "isGone", desc := "(LLunchMarks$Trip;)Z" } : Jvm.MethodName)) ∈ lw_tbl := lw_at lw_m4 135 rfl
theorem q897 : (Jvm.Cond.instanceMethod ({ cls := "LunchMarks", name := "isGone", desc := "(LLunchMarks$Trip;)Z" } : Jvm.MethodName)) ∈ lw_all := lw_g (lw_at lw_m4 136 rfl) rfl
theorem q898 : (Jvm.Cond.code ({ cls := "LunchMarks", name := "isGone", desc := "(LLunchMarks$Trip;)Z" } : Jvm.MethodName) prog_1_method_23_code (2 : Nat) (Option.some Jvm.ClassFile.FieldType.boolean)) ∈ lw_all := lw_g (lw_at lw_m4 137 rfl) rfl
theorem q899 : (Jvm.Cond.methodLink "LunchMarks" (245 : Nat) ({ cls := "LunchMarks$Trip", name := "isLate", desc := "()Z" } : Jvm.MethodName)) ∈ lw_all := lw_g (lw_at lw_m4 138 rfl) rfl
theorem q908 : (Jvm.Cond.instanceMethod ({ cls := "LunchMarks", name := "leg", desc := "(III)I" } : Jvm.MethodName)) ∈ lw_all := lw_g (lw_at lw_m4 147 rfl) rfl
theorem q909 : (Jvm.Cond.selects "LunchMarks" ({ cls := "LunchMarks", name := "leg", desc := "(III)I" } : Jvm.MethodName) ({ cls := "LunchMarks", name := "leg", desc := "(III)I" } : Jvm.MethodName)) ∈ lw_all := lw_g (lw_at lw_m4 148 rfl) rfl
theorem q910 : (Jvm.Cond.code ({ cls := "LunchMarks", name := "leg", desc := "(III)I" } : Jvm.MethodName) prog_1_method_25_code (8 : Nat) (Option.some Jvm.ClassFile.FieldType.int)) ∈ lw_all := lw_g (lw_at lw_m4 149 rfl) rfl
theorem q915 : (Jvm.Cond.instanceMethod ({ cls := "LunchMarks", name := "load", desc := "(II)I" } : Jvm.MethodName)) ∈ lw_all := lw_g (lw_at lw_m4 154 rfl) rfl
theorem q916 : (Jvm.Cond.selects "LunchMarks" ({ cls := "LunchMarks", name := "load", desc := "(II)I" } : Jvm.MethodName) ({ cls := "LunchMarks", name := "load", desc := "(II)I" } : Jvm.MethodName)) ∈ lw_all := lw_g (lw_at lw_m4 155 rfl) rfl
theorem q917 : (Jvm.Cond.code ({ cls := "LunchMarks", name := "load", desc := "(II)I" } : Jvm.MethodName) prog_1_method_26_code (4 : Nat) (Option.some Jvm.ClassFile.FieldType.int)) ∈ lw_all := lw_g (lw_at lw_m4 156 rfl) rfl
theorem q922 : (Jvm.Cond.instanceMethod ({ cls := "LunchMarks", name := "where", desc := "(I)I" } : Jvm.MethodName)) ∈ lw_all := lw_g (lw_at lw_m4 161 rfl) rfl
theorem q923 : (Jvm.Cond.selects "LunchMarks" ({ cls := "LunchMarks", name := "where", desc := "(I)I" } : Jvm.MethodName) ({ cls := "LunchMarks", name := "where", desc := "(I)I" } : Jvm.MethodName)) ∈ lw_all := lw_g (lw_at lw_m4 162 rfl) rfl
theorem q924 : (Jvm.Cond.code ({ cls := "LunchMarks", name := "where", desc := "(I)I" } : Jvm.MethodName) prog_1_method_27_code (4 : Nat) (Option.some Jvm.ClassFile.FieldType.int)) ∈ lw_all := lw_g (lw_at lw_m4 163 rfl) rfl
theorem q925 : (Jvm.Cond.methodLink "LunchMarks" (259 : Nat) ({ cls := "LunchMarks$Leg", name := "from", desc := "()LLunchMarks$Stop;" } : Jvm.MethodName)) ∈ lw_all := lw_g (lw_at lw_m4 164 rfl) rfl
theorem q933 : (Jvm.Cond.instanceMethod ({ cls := "LunchMarks", name := "mark", desc := "(I)I" } : Jvm.MethodName)) ∈ lw_all := lw_g (lw_at lw_m4 172 rfl) rfl
theorem q934 : (Jvm.Cond.selects "LunchMarks" ({ cls := "LunchMarks", name := "mark", desc := "(I)I" } : Jvm.MethodName) ({ cls := "LunchMarks", name := "mark", desc := "(I)I" } : Jvm.MethodName)) ∈ lw_all := lw_g (lw_at lw_m4 173 rfl) rfl
theorem q935 : (Jvm.Cond.code ({ cls := "LunchMarks", name := "mark", desc := "(I)I" } : Jvm.MethodName) prog_1_method_29_code (5 : Nat) (Option.some Jvm.ClassFile.FieldType.int)) ∈ lw_all := lw_g (lw_at lw_m4 174 rfl) rfl
theorem q936 : (Jvm.Cond.methodLink "LunchMarks" (265 : Nat) ({ cls := "LunchMarks", name := "like", desc := "(I)I" } : Jvm.MethodName)) ∈ lw_all := lw_g (lw_at lw_m4 175 rfl) rfl
theorem q937 : (Jvm.Cond.privateMethod ({ cls := "LunchMarks", name := "like", desc := "(I)I" } : Jvm.MethodName)) ∈ lw_tbl := lw_at lw_m4 176 rfl
theorem q938 : (Jvm.Cond.instanceMethod ({ cls := "LunchMarks", name := "like", desc := "(I)I" } : Jvm.MethodName)) ∈ lw_all := lw_g (lw_at lw_m4 177 rfl) rfl
theorem q939 : (Jvm.Cond.code ({ cls := "LunchMarks", name := "like", desc := "(I)I" } : Jvm.MethodName) prog_1_method_28_code (4 : Nat) (Option.some Jvm.ClassFile.FieldType.int)) ∈ lw_all := lw_g (lw_at lw_m4 178 rfl) rfl
theorem q940 : (Jvm.Cond.methodLink "LunchMarks" (262 : Nat) ({ cls := "LunchMarks$Trip", name := "hasSame", desc := "(LLunchMarks$Trip;)Z" } : Jvm.MethodName)) ∈ lw_all := lw_g (lw_at lw_m4 179 rfl) rfl
theorem q952 : (Jvm.Cond.instanceMethod ({ cls := "LunchMarks", name := "share", desc := "(II)I" } : Jvm.MethodName)) ∈ lw_all := lw_g (lw_at lw_m4 191 rfl) rfl
theorem q953 : (Jvm.Cond.selects "LunchMarks" ({ cls := "LunchMarks", name := "share", desc := "(II)I" } : Jvm.MethodName) ({ cls := "LunchMarks", name := "share", desc := "(II)I" } : Jvm.MethodName)) ∈ lw_all := lw_g (lw_at lw_m4 192 rfl) rfl
theorem q954 : (Jvm.Cond.code ({ cls := "LunchMarks", name := "share", desc := "(II)I" } : Jvm.MethodName) prog_1_method_31_code (12 : Nat) (Option.some Jvm.ClassFile.FieldType.int)) ∈ lw_all := lw_g (lw_at lw_m4 193 rfl) rfl
theorem q955 : (Jvm.Cond.constant "LunchMarks" (275 : Nat) (10000000 : Int32)) ∈ lw_all := lw_g (lw_at lw_m4 194 rfl) rfl
theorem q956 : (Jvm.Cond.classLink "LunchMarks" (270 : Nat) "java/lang/Integer") ∈ lw_all := lw_g (lw_at lw_m4 195 rfl) rfl
theorem q957 : (Jvm.Cond.methodLink "LunchMarks" (276 : Nat) ({ cls := "java/lang/Integer", name := "intValue", desc := "()I" } : Jvm.MethodName)) ∈ lw_all := lw_g (lw_at lw_m4 196 rfl) rfl
theorem q965 : (Jvm.Cond.instanceMethod ({ cls := "LunchMarks", name := "count", desc := "(I)I" } : Jvm.MethodName)) ∈ lw_all := lw_g (lw_at lw_m4 204 rfl) rfl
theorem q966 : (Jvm.Cond.selects "LunchMarks" ({ cls := "LunchMarks", name := "count", desc := "(I)I" } : Jvm.MethodName) ({ cls := "LunchMarks", name := "count", desc := "(I)I" } : Jvm.MethodName)) ∈ lw_all := lw_g (lw_at lw_m4 205 rfl) rfl
theorem q967 : (Jvm.Cond.code ({ cls := "LunchMarks", name := "count", desc := "(I)I" } : Jvm.MethodName) prog_1_method_32_code (4 : Nat) (Option.some Jvm.ClassFile.FieldType.int)) ∈ lw_all := lw_g (lw_at lw_m4 206 rfl) rfl
theorem q1277 : (Jvm.Cond.castable "LunchMarks" "java/lang/Object") ∈ lw_tbl := lw_at lw_m6 36 rfl
theorem in_X1 : ∀ w ∈ wsX10, w ∈ lw_all := lw_in wsX10 [428, 430, 432, 434, 436, 438, 440] (by decide +kernel) (by decide +kernel)
/-! X3.LunchMarks_Station -/
def RX3 : String := "LunchMarks$Station"
def TX3 : u_T := fun k => match k with
  | 0 => ("LunchMarks$Station", "number", "I", true)
  | _ => ("LunchMarks$Station", "sorting", "I", true)
def tyX3 : Nat → FieldType := fun k => match k with
  | 0 => .int
  | _ => .int
abbrev wsX30 : List Cond := u_ws RX3 TX3 2
theorem nmX3 : ∀ a, a < 2 → ∀ b, b < 2 → a ≠ b → (TX3 a).2.1 ≠ (TX3 b).2.1 := by decide +kernel
theorem tyX3_ok : ∀ k, k < 2 → parseFieldDescriptor (TX3 k).2.2.1 = some (tyX3 k) := by decide +kernel
abbrev cX3_init : ByteArray := prog_5_method_1_code
def yX3_init : MethodName := ⟨RX3, "<init>", "(II)V"⟩
theorem dX3_init_0 : decode cX3_init 0 = .ok (.aload_n 0, 1) := by decide +kernel
theorem dX3_init_1 : decode cX3_init 1 = .ok (.invokespecial 1, 3) := by decide +kernel
theorem dX3_init_4 : decode cX3_init 4 = .ok (.aload_n 0, 1) := by decide +kernel
theorem dX3_init_5 : decode cX3_init 5 = .ok (.iload_n 1, 1) := by decide +kernel
theorem dX3_init_6 : decode cX3_init 6 = .ok (.putfield 7, 3) := by decide +kernel
theorem dX3_init_9 : decode cX3_init 9 = .ok (.aload_n 0, 1) := by decide +kernel
theorem dX3_init_10 : decode cX3_init 10 = .ok (.iload_n 2, 1) := by decide +kernel
theorem dX3_init_11 : decode cX3_init 11 = .ok (.putfield 13, 3) := by decide +kernel
theorem dX3_init_14 : decode cX3_init 14 = .ok (.return_, 1) := by decide +kernel
theorem q63 : (Jvm.Cond.initialized "LunchMarks$Station") ∈ lw_all := lw_g (lw_at lw_m1 22 rfl) rfl
theorem q453 : (Jvm.Cond.instantiable "LunchMarks$Station" (2 : Nat)) ∈ lw_all := lw_g (lw_at lw_m2 172 rfl) rfl
theorem q455 : (Jvm.Cond.instanceMethod ({ cls := "LunchMarks$Station", name := "<init>", desc := "(II)V" } : Jvm.MethodName)) ∈ lw_all := lw_g (lw_at lw_m2 174 rfl) rfl
theorem q456 : (Jvm.Cond.code ({ cls := "LunchMarks$Station", name := "<init>", desc := "(II)V" } : Jvm.MethodName) prog_5_method_1_code (3 : Nat) (Option.none : Option Jvm.ClassFile.FieldType)) ∈ lw_all := lw_g (lw_at lw_m2 175 rfl) rfl
theorem q457 : (Jvm.Cond.methodLink "LunchMarks$Station" (1 : Nat) ({ cls := "java/lang/Object", name := "<init>", desc := "()V" } : Jvm.MethodName)) ∈ lw_all := lw_g (lw_at lw_m2 176 rfl) rfl
theorem q458 : (Jvm.Cond.fieldLink "LunchMarks$Station" (7 : Nat) "LunchMarks$Station" "number" "I") ∈ lw_all := lw_g (lw_at lw_m2 177 rfl) rfl
theorem q460 : (Jvm.Cond.fieldLink "LunchMarks$Station" (13 : Nat) "LunchMarks$Station" "sorting" "I") ∈ lw_all := lw_g (lw_at lw_m2 179 rfl) rfl
theorem q463 : (Jvm.Cond.laysFinal "LunchMarks$Station" "LunchMarks$Station" "number" "I") ∈ lw_all := lw_g (lw_at lw_m2 182 rfl) rfl
theorem q464 : (Jvm.Cond.soleField "LunchMarks$Station" "number") ∈ lw_all := lw_g (lw_at lw_m2 183 rfl) rfl
theorem q465 : (Jvm.Cond.laysFinal "LunchMarks$Station" "LunchMarks$Station" "sorting" "I") ∈ lw_all := lw_g (lw_at lw_m2 184 rfl) rfl
theorem q466 : (Jvm.Cond.soleField "LunchMarks$Station" "sorting") ∈ lw_all := lw_g (lw_at lw_m2 185 rfl) rfl
theorem q467 : (Jvm.Cond.superclass "LunchMarks$Station" "java/lang/Object") ∈ lw_all := lw_g (lw_at lw_m2 186 rfl) rfl
theorem q497 : (Jvm.Cond.selects "LunchMarks$Station" ({ cls := "java/lang/Object", name := "getClass", desc := "()Ljava/lang/Class;" } : Jvm.MethodName) ({ cls := "java/lang/Object", name := "getClass", desc := "()Ljava/lang/Class;" } : Jvm.MethodName)) ∈ lw_all := lw_g (lw_at lw_m2 216 rfl) rfl
theorem q1283 : (Jvm.Cond.castable "LunchMarks$Station" "java/lang/Object") ∈ lw_tbl := lw_at lw_m6 42 rfl
theorem in_X3 : ∀ w ∈ wsX30, w ∈ lw_all := lw_in wsX30 [463, 465] (by decide +kernel) (by decide +kernel)
/-! X4.LunchMarks_Train -/
def RX4 : String := "LunchMarks$Train"
def TX4 : u_T := fun k => match k with
  | 0 => ("LunchMarks$Train", "number", "I", true)
  | 1 => ("LunchMarks$Train", "room", "I", true)
  | 2 => ("LunchMarks$Train", "stops", "Ljava/util/ArrayList;", true)
  | 3 => ("LunchMarks$Train", "loads", "[I", true)
  | 4 => ("LunchMarks$Train", "isCancelled", "Z", false)
  | _ => ("LunchMarks$Train", "isUsed", "Z", false)
def tyX4 : Nat → FieldType := fun k => match k with
  | 0 => .int
  | 1 => .int
  | 2 => .object "java/util/ArrayList"
  | 3 => .array .int
  | 4 => .boolean
  | _ => .boolean
abbrev wsX40 : List Cond := u_ws RX4 TX4 6
theorem nmX4 : ∀ a, a < 6 → ∀ b, b < 6 → a ≠ b → (TX4 a).2.1 ≠ (TX4 b).2.1 := by decide +kernel
theorem tyX4_ok : ∀ k, k < 6 → parseFieldDescriptor (TX4 k).2.2.1 = some (tyX4 k) := by decide +kernel
abbrev cX4_init : ByteArray := prog_7_method_1_code
def yX4_init : MethodName := ⟨RX4, "<init>", "(II)V"⟩
theorem dX4_init_0 : decode cX4_init 0 = .ok (.aload_n 0, 1) := by decide +kernel
theorem dX4_init_1 : decode cX4_init 1 = .ok (.invokespecial 3, 3) := by decide +kernel
theorem dX4_init_4 : decode cX4_init 4 = .ok (.aload_n 0, 1) := by decide +kernel
theorem dX4_init_5 : decode cX4_init 5 = .ok (.new 9, 3) := by decide +kernel
theorem dX4_init_8 : decode cX4_init 8 = .ok (.dup, 1) := by decide +kernel
theorem dX4_init_9 : decode cX4_init 9 = .ok (.iconst 2, 1) := by decide +kernel
theorem dX4_init_10 : decode cX4_init 10 = .ok (.invokespecial 11, 3) := by decide +kernel
theorem dX4_init_13 : decode cX4_init 13 = .ok (.putfield 14, 3) := by decide +kernel
theorem dX4_init_16 : decode cX4_init 16 = .ok (.aload_n 0, 1) := by decide +kernel
theorem dX4_init_17 : decode cX4_init 17 = .ok (.bipush 10, 2) := by decide +kernel
theorem dX4_init_19 : decode cX4_init 19 = .ok (.newarray .int, 2) := by decide +kernel
theorem dX4_init_21 : decode cX4_init 21 = .ok (.putfield 20, 3) := by decide +kernel
theorem dX4_init_24 : decode cX4_init 24 = .ok (.aload_n 0, 1) := by decide +kernel
theorem dX4_init_25 : decode cX4_init 25 = .ok (.iload_n 1, 1) := by decide +kernel
theorem dX4_init_26 : decode cX4_init 26 = .ok (.putfield 24, 3) := by decide +kernel
theorem dX4_init_29 : decode cX4_init 29 = .ok (.aload_n 0, 1) := by decide +kernel
theorem dX4_init_30 : decode cX4_init 30 = .ok (.iload_n 2, 1) := by decide +kernel
theorem dX4_init_31 : decode cX4_init 31 = .ok (.putfield 28, 3) := by decide +kernel
theorem dX4_init_34 : decode cX4_init 34 = .ok (.return_, 1) := by decide +kernel
abbrev cX4_loads : ByteArray := prog_7_method_3_code
def yX4_loads : MethodName := ⟨RX4, "loads", "(III)V"⟩
theorem dX4_loads_0 : decode cX4_loads 0 = .ok (.iload_n 1, 1) := by decide +kernel
theorem dX4_loads_1 : decode cX4_loads 1 = .ok (.istore 4, 2) := by decide +kernel
theorem dX4_loads_3 : decode cX4_loads 3 = .ok (.iload 4, 2) := by decide +kernel
theorem dX4_loads_5 : decode cX4_loads 5 = .ok (.iload_n 2, 1) := by decide +kernel
theorem dX4_loads_6 : decode cX4_loads 6 = .ok (.if_icmp .ge 20, 3) := by decide +kernel
theorem dX4_loads_9 : decode cX4_loads 9 = .ok (.aload_n 0, 1) := by decide +kernel
theorem dX4_loads_10 : decode cX4_loads 10 = .ok (.getfield 20, 3) := by decide +kernel
theorem dX4_loads_13 : decode cX4_loads 13 = .ok (.iload 4, 2) := by decide +kernel
theorem dX4_loads_15 : decode cX4_loads 15 = .ok (.dup2, 1) := by decide +kernel
theorem dX4_loads_16 : decode cX4_loads 16 = .ok (.iaload, 1) := by decide +kernel
theorem dX4_loads_17 : decode cX4_loads 17 = .ok (.iload_n 3, 1) := by decide +kernel
theorem dX4_loads_18 : decode cX4_loads 18 = .ok (.iadd, 1) := by decide +kernel
theorem dX4_loads_19 : decode cX4_loads 19 = .ok (.iastore, 1) := by decide +kernel
theorem dX4_loads_20 : decode cX4_loads 20 = .ok (.iinc 4 1, 3) := by decide +kernel
theorem dX4_loads_23 : decode cX4_loads 23 = .ok (.goto (-20), 3) := by decide +kernel
theorem dX4_loads_26 : decode cX4_loads 26 = .ok (.return_, 1) := by decide +kernel
theorem q64 : (Jvm.Cond.initialized "LunchMarks$Train") ∈ lw_all := lw_g (lw_at lw_m1 23 rfl) rfl
theorem q499 : (Jvm.Cond.selects "LunchMarks$Train" ({ cls := "java/lang/Object", name := "getClass", desc := "()Ljava/lang/Class;" } : Jvm.MethodName) ({ cls := "java/lang/Object", name := "getClass", desc := "()Ljava/lang/Class;" } : Jvm.MethodName)) ∈ lw_all := lw_g (lw_at lw_m2 218 rfl) rfl
theorem q520 : (Jvm.Cond.instantiable "LunchMarks$Train" (6 : Nat)) ∈ lw_all := lw_g (lw_at lw_m2 239 rfl) rfl
theorem q522 : (Jvm.Cond.instanceMethod ({ cls := "LunchMarks$Train", name := "<init>", desc := "(II)V" } : Jvm.MethodName)) ∈ lw_all := lw_g (lw_at lw_m3 1 rfl) rfl
theorem q523 : (Jvm.Cond.code ({ cls := "LunchMarks$Train", name := "<init>", desc := "(II)V" } : Jvm.MethodName) prog_7_method_1_code (3 : Nat) (Option.none : Option Jvm.ClassFile.FieldType)) ∈ lw_all := lw_g (lw_at lw_m3 2 rfl) rfl
theorem q524 : (Jvm.Cond.methodLink "LunchMarks$Train" (3 : Nat) ({ cls := "java/lang/Object", name := "<init>", desc := "()V" } : Jvm.MethodName)) ∈ lw_all := lw_g (lw_at lw_m3 3 rfl) rfl
theorem q525 : (Jvm.Cond.classLink "LunchMarks$Train" (9 : Nat) "java/util/ArrayList") ∈ lw_all := lw_g (lw_at lw_m3 4 rfl) rfl
theorem q526 : (Jvm.Cond.methodLink "LunchMarks$Train" (11 : Nat) ({ cls := "java/util/ArrayList", name := "<init>", desc := "(I)V" } : Jvm.MethodName)) ∈ lw_all := lw_g (lw_at lw_m3 5 rfl) rfl
theorem q527 : (Jvm.Cond.fieldLink "LunchMarks$Train" (24 : Nat) "LunchMarks$Train" "number" "I") ∈ lw_all := lw_g (lw_at lw_m3 6 rfl) rfl
theorem q529 : (Jvm.Cond.fieldLink "LunchMarks$Train" (28 : Nat) "LunchMarks$Train" "room" "I") ∈ lw_all := lw_g (lw_at lw_m3 8 rfl) rfl
theorem q531 : (Jvm.Cond.fieldLink "LunchMarks$Train" (14 : Nat) "LunchMarks$Train" "stops" "Ljava/util/ArrayList;") ∈ lw_all := lw_g (lw_at lw_m3 10 rfl) rfl
theorem q534 : (Jvm.Cond.fieldLink "LunchMarks$Train" (20 : Nat) "LunchMarks$Train" "loads" "[I") ∈ lw_all := lw_g (lw_at lw_m3 13 rfl) rfl
theorem q539 : (Jvm.Cond.laysFinal "LunchMarks$Train" "LunchMarks$Train" "number" "I") ∈ lw_all := lw_g (lw_at lw_m3 18 rfl) rfl
theorem q540 : (Jvm.Cond.soleField "LunchMarks$Train" "number") ∈ lw_all := lw_g (lw_at lw_m3 19 rfl) rfl
theorem q541 : (Jvm.Cond.laysFinal "LunchMarks$Train" "LunchMarks$Train" "room" "I") ∈ lw_all := lw_g (lw_at lw_m3 20 rfl) rfl
theorem q542 : (Jvm.Cond.soleField "LunchMarks$Train" "room") ∈ lw_all := lw_g (lw_at lw_m3 21 rfl) rfl
theorem q543 : (Jvm.Cond.laysFinal "LunchMarks$Train" "LunchMarks$Train" "stops" "Ljava/util/ArrayList;") ∈ lw_all := lw_g (lw_at lw_m3 22 rfl) rfl
theorem q544 : (Jvm.Cond.soleField "LunchMarks$Train" "stops") ∈ lw_all := lw_g (lw_at lw_m3 23 rfl) rfl
theorem q545 : (Jvm.Cond.laysFinal "LunchMarks$Train" "LunchMarks$Train" "loads" "[I") ∈ lw_all := lw_g (lw_at lw_m3 24 rfl) rfl
theorem q546 : (Jvm.Cond.soleField "LunchMarks$Train" "loads") ∈ lw_all := lw_g (lw_at lw_m3 25 rfl) rfl
theorem q547 : (Jvm.Cond.lays "LunchMarks$Train" "LunchMarks$Train" "isCancelled" "Z") ∈ lw_all := lw_g (lw_at lw_m3 26 rfl) rfl
theorem q548 : (Jvm.Cond.soleField "LunchMarks$Train" "isCancelled") ∈ lw_all := lw_g (lw_at lw_m3 27 rfl) rfl
theorem q549 : (Jvm.Cond.lays "LunchMarks$Train" "LunchMarks$Train" "isUsed" "Z") ∈ lw_all := lw_g (lw_at lw_m3 28 rfl) rfl
theorem q550 : (Jvm.Cond.soleField "LunchMarks$Train" "isUsed") ∈ lw_all := lw_g (lw_at lw_m3 29 rfl) rfl
theorem q551 : (Jvm.Cond.superclass "LunchMarks$Train" "java/lang/Object") ∈ lw_all := lw_g (lw_at lw_m3 30 rfl) rfl
theorem q740 : (Jvm.Cond.instanceMethod ({ cls := "LunchMarks$Train", name := "loads", desc := "(III)V" } : Jvm.MethodName)) ∈ lw_all := lw_g (lw_at lw_m3 219 rfl) rfl
theorem q741 : (Jvm.Cond.selects "LunchMarks$Train" ({ cls := "LunchMarks$Train", name := "loads", desc := "(III)V" } : Jvm.MethodName) ({ cls := "LunchMarks$Train", name := "loads", desc := "(III)V" } : Jvm.MethodName)) ∈ lw_all := lw_g (lw_at lw_m3 220 rfl) rfl
theorem q742 : (Jvm.Cond.code ({ cls := "LunchMarks$Train", name := "loads", desc := "(III)V" } : Jvm.MethodName) prog_7_method_3_code (5 : Nat) (Option.none : Option Jvm.ClassFile.FieldType)) ∈ lw_all := lw_g (lw_at lw_m3 221 rfl) rfl
theorem q1284 : (Jvm.Cond.castable "LunchMarks$Train" "java/lang/Object") ∈ lw_tbl := lw_at lw_m6 43 rfl
theorem in_X4 : ∀ w ∈ wsX40, w ∈ lw_all := lw_in wsX40 [539, 541, 543, 545, 547, 549] (by decide +kernel) (by decide +kernel)
/-! X5.LunchMarks_Stop -/
def RX5 : String := "LunchMarks$Stop"
def TX5 : u_T := fun k => match k with
  | 0 => ("LunchMarks$Stop", "at", "LLunchMarks$Station;", true)
  | _ => ("LunchMarks$Stop", "minute", "I", true)
def tyX5 : Nat → FieldType := fun k => match k with
  | 0 => .object "LunchMarks$Station"
  | _ => .int
abbrev wsX50 : List Cond := u_ws RX5 TX5 2
theorem nmX5 : ∀ a, a < 2 → ∀ b, b < 2 → a ≠ b → (TX5 a).2.1 ≠ (TX5 b).2.1 := by decide +kernel
theorem tyX5_ok : ∀ k, k < 2 → parseFieldDescriptor (TX5 k).2.2.1 = some (tyX5 k) := by decide +kernel
abbrev cX5_sorted : ByteArray := prog_6_method_2_code
def yX5_sorted : MethodName := ⟨RX5, "sorted", "()I"⟩
theorem dX5_sorted_0 : decode cX5_sorted 0 = .ok (.aload_n 0, 1) := by decide +kernel
theorem dX5_sorted_1 : decode cX5_sorted 1 = .ok (.getfield 13, 3) := by decide +kernel
theorem dX5_sorted_4 : decode cX5_sorted 4 = .ok (.aload_n 0, 1) := by decide +kernel
theorem dX5_sorted_5 : decode cX5_sorted 5 = .ok (.getfield 7, 3) := by decide +kernel
theorem dX5_sorted_8 : decode cX5_sorted 8 = .ok (.getfield 17, 3) := by decide +kernel
theorem dX5_sorted_11 : decode cX5_sorted 11 = .ok (.iadd, 1) := by decide +kernel
theorem dX5_sorted_12 : decode cX5_sorted 12 = .ok (.ireturn, 1) := by decide +kernel
abbrev cX5_init : ByteArray := prog_6_method_1_code
def yX5_init : MethodName := ⟨RX5, "<init>", "(LLunchMarks$Station;I)V"⟩
theorem dX5_init_0 : decode cX5_init 0 = .ok (.aload_n 0, 1) := by decide +kernel
theorem dX5_init_1 : decode cX5_init 1 = .ok (.invokespecial 1, 3) := by decide +kernel
theorem dX5_init_4 : decode cX5_init 4 = .ok (.aload_n 0, 1) := by decide +kernel
theorem dX5_init_5 : decode cX5_init 5 = .ok (.aload_n 1, 1) := by decide +kernel
theorem dX5_init_6 : decode cX5_init 6 = .ok (.putfield 7, 3) := by decide +kernel
theorem dX5_init_9 : decode cX5_init 9 = .ok (.aload_n 0, 1) := by decide +kernel
theorem dX5_init_10 : decode cX5_init 10 = .ok (.iload_n 2, 1) := by decide +kernel
theorem dX5_init_11 : decode cX5_init 11 = .ok (.putfield 13, 3) := by decide +kernel
theorem dX5_init_14 : decode cX5_init 14 = .ok (.return_, 1) := by decide +kernel
theorem q67 : (Jvm.Cond.initialized "LunchMarks$Stop") ∈ lw_all := lw_g (lw_at lw_m1 26 rfl) rfl
theorem q462 : (Jvm.Cond.fieldLinkNest "LunchMarks$Stop" (17 : Nat) "LunchMarks$Station" "sorting" "I" "LunchMarks") ∈ lw_tbl := lw_at lw_m2 181 rfl
theorem q498 : (Jvm.Cond.selects "LunchMarks$Stop" ({ cls := "java/lang/Object", name := "getClass", desc := "()Ljava/lang/Class;" } : Jvm.MethodName) ({ cls := "java/lang/Object", name := "getClass", desc := "()Ljava/lang/Class;" } : Jvm.MethodName)) ∈ lw_all := lw_g (lw_at lw_m2 217 rfl) rfl
theorem q688 : (Jvm.Cond.instanceMethod ({ cls := "LunchMarks$Stop", name := "sorted", desc := "()I" } : Jvm.MethodName)) ∈ lw_all := lw_g (lw_at lw_m3 167 rfl) rfl
theorem q689 : (Jvm.Cond.selects "LunchMarks$Stop" ({ cls := "LunchMarks$Stop", name := "sorted", desc := "()I" } : Jvm.MethodName) ({ cls := "LunchMarks$Stop", name := "sorted", desc := "()I" } : Jvm.MethodName)) ∈ lw_all := lw_g (lw_at lw_m3 168 rfl) rfl
theorem q690 : (Jvm.Cond.code ({ cls := "LunchMarks$Stop", name := "sorted", desc := "()I" } : Jvm.MethodName) prog_6_method_2_code (1 : Nat) (Option.some Jvm.ClassFile.FieldType.int)) ∈ lw_all := lw_g (lw_at lw_m3 169 rfl) rfl
theorem q812 : (Jvm.Cond.instantiable "LunchMarks$Stop" (2 : Nat)) ∈ lw_all := lw_g (lw_at lw_m4 51 rfl) rfl
theorem q814 : (Jvm.Cond.instanceMethod ({ cls := "LunchMarks$Stop", name := "<init>", desc := "(LLunchMarks$Station;I)V" } : Jvm.MethodName)) ∈ lw_all := lw_g (lw_at lw_m4 53 rfl) rfl
theorem q815 : (Jvm.Cond.code ({ cls := "LunchMarks$Stop", name := "<init>", desc := "(LLunchMarks$Station;I)V" } : Jvm.MethodName) prog_6_method_1_code (3 : Nat) (Option.none : Option Jvm.ClassFile.FieldType)) ∈ lw_all := lw_g (lw_at lw_m4 54 rfl) rfl
theorem q816 : (Jvm.Cond.methodLink "LunchMarks$Stop" (1 : Nat) ({ cls := "java/lang/Object", name := "<init>", desc := "()V" } : Jvm.MethodName)) ∈ lw_all := lw_g (lw_at lw_m4 55 rfl) rfl
theorem q817 : (Jvm.Cond.fieldLink "LunchMarks$Stop" (7 : Nat) "LunchMarks$Stop" "at" "LLunchMarks$Station;") ∈ lw_all := lw_g (lw_at lw_m4 56 rfl) rfl
theorem q820 : (Jvm.Cond.fieldLink "LunchMarks$Stop" (13 : Nat) "LunchMarks$Stop" "minute" "I") ∈ lw_all := lw_g (lw_at lw_m4 59 rfl) rfl
theorem q822 : (Jvm.Cond.laysFinal "LunchMarks$Stop" "LunchMarks$Stop" "at" "LLunchMarks$Station;") ∈ lw_all := lw_g (lw_at lw_m4 61 rfl) rfl
theorem q823 : (Jvm.Cond.soleField "LunchMarks$Stop" "at") ∈ lw_all := lw_g (lw_at lw_m4 62 rfl) rfl
theorem q824 : (Jvm.Cond.laysFinal "LunchMarks$Stop" "LunchMarks$Stop" "minute" "I") ∈ lw_all := lw_g (lw_at lw_m4 63 rfl) rfl
theorem q825 : (Jvm.Cond.soleField "LunchMarks$Stop" "minute") ∈ lw_all := lw_g (lw_at lw_m4 64 rfl) rfl
