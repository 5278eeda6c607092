set_option maxRecDepth 100000
theorem dX1_isMinute_16 : decode cX1_isMinute 16 = .ok (.ireturn, 1) := by decide +kernel
abbrev cX1_plan : ByteArray := prog_1_method_19_code
def yX1_plan : MethodName := ⟨RX1, "plan", "()I"⟩
theorem dX1_plan_0 : decode cX1_plan 0 = .ok (.iconst 0, 1) := by decide +kernel
theorem dX1_plan_1 : decode cX1_plan 1 = .ok (.istore_n 1, 1) := by decide +kernel
theorem dX1_plan_2 : decode cX1_plan 2 = .ok (.iconst 0, 1) := by decide +kernel
theorem dX1_plan_3 : decode cX1_plan 3 = .ok (.istore_n 2, 1) := by decide +kernel
theorem dX1_plan_4 : decode cX1_plan 4 = .ok (.iload_n 2, 1) := by decide +kernel
theorem dX1_plan_5 : decode cX1_plan 5 = .ok (.aload_n 0, 1) := by decide +kernel
theorem dX1_plan_6 : decode cX1_plan 6 = .ok (.getfield 21, 3) := by decide +kernel
theorem dX1_plan_9 : decode cX1_plan 9 = .ok (.invokevirtual 40, 3) := by decide +kernel
theorem dX1_plan_12 : decode cX1_plan 12 = .ok (.if_icmp .ge 94, 3) := by decide +kernel
theorem dX1_plan_15 : decode cX1_plan 15 = .ok (.aload_n 0, 1) := by decide +kernel
theorem dX1_plan_16 : decode cX1_plan 16 = .ok (.getfield 21, 3) := by decide +kernel
theorem dX1_plan_19 : decode cX1_plan 19 = .ok (.iload_n 2, 1) := by decide +kernel
theorem dX1_plan_20 : decode cX1_plan 20 = .ok (.invokevirtual 48, 3) := by decide +kernel
theorem dX1_plan_23 : decode cX1_plan 23 = .ok (.checkcast 54, 3) := by decide +kernel
theorem dX1_plan_26 : decode cX1_plan 26 = .ok (.invokevirtual 116, 3) := by decide +kernel
theorem dX1_plan_29 : decode cX1_plan 29 = .ok (.astore_n 3, 1) := by decide +kernel
theorem dX1_plan_30 : decode cX1_plan 30 = .ok (.aload_n 3, 1) := by decide +kernel
theorem dX1_plan_31 : decode cX1_plan 31 = .ok (.getfield 187, 3) := by decide +kernel
theorem dX1_plan_34 : decode cX1_plan 34 = .ok (.getstatic 181, 3) := by decide +kernel
theorem dX1_plan_37 : decode cX1_plan 37 = .ok (.if_acmp .eq 63, 3) := by decide +kernel
theorem dX1_plan_40 : decode cX1_plan 40 = .ok (.aload_n 3, 1) := by decide +kernel
theorem dX1_plan_41 : decode cX1_plan 41 = .ok (.getfield 187, 3) := by decide +kernel
theorem dX1_plan_44 : decode cX1_plan 44 = .ok (.getstatic 193, 3) := by decide +kernel
theorem dX1_plan_47 : decode cX1_plan 47 = .ok (.if_acmp .ne 17, 3) := by decide +kernel
theorem dX1_plan_50 : decode cX1_plan 50 = .ok (.aload_n 3, 1) := by decide +kernel
theorem dX1_plan_51 : decode cX1_plan 51 = .ok (.getfield 196, 3) := by decide +kernel
theorem dX1_plan_54 : decode cX1_plan 54 = .ok (.aload_n 0, 1) := by decide +kernel
theorem dX1_plan_55 : decode cX1_plan 55 = .ok (.getfield 199, 3) := by decide +kernel
theorem dX1_plan_58 : decode cX1_plan 58 = .ok (.if_icmp .ge 6, 3) := by decide +kernel
theorem dX1_plan_61 : decode cX1_plan 61 = .ok (.goto 39, 3) := by decide +kernel
theorem dX1_plan_64 : decode cX1_plan 64 = .ok (.aload_n 0, 1) := by decide +kernel
theorem dX1_plan_65 : decode cX1_plan 65 = .ok (.aload_n 3, 1) := by decide +kernel
theorem dX1_plan_66 : decode cX1_plan 66 = .ok (.aload_n 3, 1) := by decide +kernel
theorem dX1_plan_67 : decode cX1_plan 67 = .ok (.getfield 187, 3) := by decide +kernel
theorem dX1_plan_70 : decode cX1_plan 70 = .ok (.getstatic 193, 3) := by decide +kernel
theorem dX1_plan_73 : decode cX1_plan 73 = .ok (.if_acmp .ne 7, 3) := by decide +kernel
theorem dX1_plan_76 : decode cX1_plan 76 = .ok (.iconst 0, 1) := by decide +kernel
theorem dX1_plan_77 : decode cX1_plan 77 = .ok (.goto 14, 3) := by decide +kernel
theorem dX1_plan_80 : decode cX1_plan 80 = .ok (.aload_n 3, 1) := by decide +kernel
theorem dX1_plan_81 : decode cX1_plan 81 = .ok (.getfield 202, 3) := by decide +kernel
theorem dX1_plan_84 : decode cX1_plan 84 = .ok (.aload_n 0, 1) := by decide +kernel
theorem dX1_plan_85 : decode cX1_plan 85 = .ok (.getfield 199, 3) := by decide +kernel
theorem dX1_plan_88 : decode cX1_plan 88 = .ok (.invokestatic 148, 3) := by decide +kernel
theorem dX1_plan_91 : decode cX1_plan 91 = .ok (.invokevirtual 205, 3) := by decide +kernel
theorem dX1_plan_94 : decode cX1_plan 94 = .ok (.ifCond .eq 6, 3) := by decide +kernel
theorem dX1_plan_97 : decode cX1_plan 97 = .ok (.iinc 1 1, 3) := by decide +kernel
theorem dX1_plan_100 : decode cX1_plan 100 = .ok (.iinc 2 1, 3) := by decide +kernel
theorem dX1_plan_103 : decode cX1_plan 103 = .ok (.goto (-99), 3) := by decide +kernel
theorem dX1_plan_106 : decode cX1_plan 106 = .ok (.iload_n 1, 1) := by decide +kernel
theorem dX1_plan_107 : decode cX1_plan 107 = .ok (.ireturn, 1) := by decide +kernel
abbrev cX1_leads : ByteArray := prog_1_method_17_code
def yX1_leads : MethodName := ⟨RX1, "leads", "(LLunchMarks$Trip;I)Z"⟩
theorem dX1_leads_0 : decode cX1_leads 0 = .ok (.iconst 3, 1) := by decide +kernel
theorem dX1_leads_1 : decode cX1_leads 1 = .ok (.aload_n 1, 1) := by decide +kernel
theorem dX1_leads_2 : decode cX1_leads 2 = .ok (.getfield 151, 3) := by decide +kernel
theorem dX1_leads_5 : decode cX1_leads 5 = .ok (.invokevirtual 40, 3) := by decide +kernel
theorem dX1_leads_8 : decode cX1_leads 8 = .ok (.isub, 1) := by decide +kernel
theorem dX1_leads_9 : decode cX1_leads 9 = .ok (.istore_n 3, 1) := by decide +kernel
theorem dX1_leads_10 : decode cX1_leads 10 = .ok (.aload_n 1, 1) := by decide +kernel
theorem dX1_leads_11 : decode cX1_leads 11 = .ok (.invokevirtual 154, 3) := by decide +kernel
theorem dX1_leads_14 : decode cX1_leads 14 = .ok (.getfield 102, 3) := by decide +kernel
theorem dX1_leads_17 : decode cX1_leads 17 = .ok (.istore 4, 2) := by decide +kernel
theorem dX1_leads_19 : decode cX1_leads 19 = .ok (.aload_n 1, 1) := by decide +kernel
theorem dX1_leads_20 : decode cX1_leads 20 = .ok (.invokevirtual 158, 3) := by decide +kernel
theorem dX1_leads_23 : decode cX1_leads 23 = .ok (.iload_n 2, 1) := by decide +kernel
theorem dX1_leads_24 : decode cX1_leads 24 = .ok (.invokestatic 148, 3) := by decide +kernel
theorem dX1_leads_27 : decode cX1_leads 27 = .ok (.istore 5, 2) := by decide +kernel
theorem dX1_leads_29 : decode cX1_leads 29 = .ok (.aload_n 0, 1) := by decide +kernel
theorem dX1_leads_30 : decode cX1_leads 30 = .ok (.iload 4, 2) := by decide +kernel
theorem dX1_leads_32 : decode cX1_leads 32 = .ok (.iload 5, 2) := by decide +kernel
theorem dX1_leads_34 : decode cX1_leads 34 = .ok (.iload_n 3, 1) := by decide +kernel
theorem dX1_leads_35 : decode cX1_leads 35 = .ok (.invokevirtual 159, 3) := by decide +kernel
theorem dX1_leads_38 : decode cX1_leads 38 = .ok (.iconst 0, 1) := by decide +kernel
theorem dX1_leads_39 : decode cX1_leads 39 = .ok (.istore 6, 2) := by decide +kernel
theorem dX1_leads_41 : decode cX1_leads 41 = .ok (.iconst 1, 1) := by decide +kernel
theorem dX1_leads_42 : decode cX1_leads 42 = .ok (.istore 7, 2) := by decide +kernel
theorem dX1_leads_44 : decode cX1_leads 44 = .ok (.iload 7, 2) := by decide +kernel
theorem dX1_leads_46 : decode cX1_leads 46 = .ok (.iload_n 3, 1) := by decide +kernel
theorem dX1_leads_47 : decode cX1_leads 47 = .ok (.if_icmp .gt 50, 3) := by decide +kernel
theorem dX1_leads_50 : decode cX1_leads 50 = .ok (.aload_n 0, 1) := by decide +kernel
theorem dX1_leads_51 : decode cX1_leads 51 = .ok (.getfield 27, 3) := by decide +kernel
theorem dX1_leads_54 : decode cX1_leads 54 = .ok (.iload 7, 2) := by decide +kernel
theorem dX1_leads_56 : decode cX1_leads 56 = .ok (.aload_n 1, 1) := by decide +kernel
theorem dX1_leads_57 : decode cX1_leads 57 = .ok (.getfield 163, 3) := by decide +kernel
theorem dX1_leads_60 : decode cX1_leads 60 = .ok (.getfield 102, 3) := by decide +kernel
theorem dX1_leads_63 : decode cX1_leads 63 = .ok (.invokestatic 124, 3) := by decide +kernel
theorem dX1_leads_66 : decode cX1_leads 66 = .ok (.iaload, 1) := by decide +kernel
theorem dX1_leads_67 : decode cX1_leads 67 = .ok (.aload_n 0, 1) := by decide +kernel
theorem dX1_leads_68 : decode cX1_leads 68 = .ok (.getfield 27, 3) := by decide +kernel
theorem dX1_leads_71 : decode cX1_leads 71 = .ok (.iload 6, 2) := by decide +kernel
theorem dX1_leads_73 : decode cX1_leads 73 = .ok (.aload_n 1, 1) := by decide +kernel
theorem dX1_leads_74 : decode cX1_leads 74 = .ok (.getfield 163, 3) := by decide +kernel
theorem dX1_leads_77 : decode cX1_leads 77 = .ok (.getfield 102, 3) := by decide +kernel
theorem dX1_leads_80 : decode cX1_leads 80 = .ok (.invokestatic 124, 3) := by decide +kernel
theorem dX1_leads_83 : decode cX1_leads 83 = .ok (.iaload, 1) := by decide +kernel
theorem dX1_leads_84 : decode cX1_leads 84 = .ok (.if_icmp .ge 7, 3) := by decide +kernel
theorem dX1_leads_87 : decode cX1_leads 87 = .ok (.iload 7, 2) := by decide +kernel
theorem dX1_leads_89 : decode cX1_leads 89 = .ok (.istore 6, 2) := by decide +kernel
theorem dX1_leads_91 : decode cX1_leads 91 = .ok (.iinc 7 1, 3) := by decide +kernel
theorem dX1_leads_94 : decode cX1_leads 94 = .ok (.goto (-50), 3) := by decide +kernel
theorem dX1_leads_97 : decode cX1_leads 97 = .ok (.aload_n 0, 1) := by decide +kernel
theorem dX1_leads_98 : decode cX1_leads 98 = .ok (.getfield 27, 3) := by decide +kernel
theorem dX1_leads_101 : decode cX1_leads 101 = .ok (.iload 6, 2) := by decide +kernel
theorem dX1_leads_103 : decode cX1_leads 103 = .ok (.aload_n 1, 1) := by decide +kernel
theorem dX1_leads_104 : decode cX1_leads 104 = .ok (.getfield 163, 3) := by decide +kernel
theorem dX1_leads_107 : decode cX1_leads 107 = .ok (.getfield 102, 3) := by decide +kernel
theorem dX1_leads_110 : decode cX1_leads 110 = .ok (.invokestatic 124, 3) := by decide +kernel
theorem dX1_leads_113 : decode cX1_leads 113 = .ok (.iaload, 1) := by decide +kernel
theorem dX1_leads_114 : decode cX1_leads 114 = .ok (.istore 7, 2) := by decide +kernel
theorem dX1_leads_116 : decode cX1_leads 116 = .ok (.iload 7, 2) := by decide +kernel
theorem dX1_leads_118 : decode cX1_leads 118 = .ok (.ldc 123, 2) := by decide +kernel
theorem dX1_leads_120 : decode cX1_leads 120 = .ok (.if_icmp .ne 5, 3) := by decide +kernel
theorem dX1_leads_123 : decode cX1_leads 123 = .ok (.iconst 0, 1) := by decide +kernel
theorem dX1_leads_124 : decode cX1_leads 124 = .ok (.ireturn, 1) := by decide +kernel
theorem dX1_leads_125 : decode cX1_leads 125 = .ok (.aload_n 0, 1) := by decide +kernel
theorem dX1_leads_126 : decode cX1_leads 126 = .ok (.aload_n 1, 1) := by decide +kernel
theorem dX1_leads_127 : decode cX1_leads 127 = .ok (.getfield 163, 3) := by decide +kernel
theorem dX1_leads_130 : decode cX1_leads 130 = .ok (.getfield 102, 3) := by decide +kernel
theorem dX1_leads_133 : decode cX1_leads 133 = .ok (.iload 7, 2) := by decide +kernel
theorem dX1_leads_135 : decode cX1_leads 135 = .ok (.iload 6, 2) := by decide +kernel
theorem dX1_leads_137 : decode cX1_leads 137 = .ok (.invokevirtual 166, 3) := by decide +kernel
theorem dX1_leads_140 : decode cX1_leads 140 = .ok (.iload 6, 2) := by decide +kernel
theorem dX1_leads_142 : decode cX1_leads 142 = .ok (.istore 8, 2) := by decide +kernel
theorem dX1_leads_144 : decode cX1_leads 144 = .ok (.iload 8, 2) := by decide +kernel
theorem dX1_leads_146 : decode cX1_leads 146 = .ok (.ifCond .le 54, 3) := by decide +kernel
theorem dX1_leads_149 : decode cX1_leads 149 = .ok (.aload_n 0, 1) := by decide +kernel
theorem dX1_leads_150 : decode cX1_leads 150 = .ok (.iload 4, 2) := by decide +kernel
theorem dX1_leads_152 : decode cX1_leads 152 = .ok (.iload 5, 2) := by decide +kernel
theorem dX1_leads_154 : decode cX1_leads 154 = .ok (.iload 8, 2) := by decide +kernel
theorem dX1_leads_156 : decode cX1_leads 156 = .ok (.invokevirtual 169, 3) := by decide +kernel
theorem dX1_leads_159 : decode cX1_leads 159 = .ok (.astore 9, 2) := by decide +kernel
theorem dX1_leads_161 : decode cX1_leads 161 = .ok (.aload_n 1, 1) := by decide +kernel
theorem dX1_leads_162 : decode cX1_leads 162 = .ok (.getfield 151, 3) := by decide +kernel
theorem dX1_leads_165 : decode cX1_leads 165 = .ok (.aload 9, 2) := by decide +kernel
theorem dX1_leads_167 : decode cX1_leads 167 = .ok (.invokevirtual 61, 3) := by decide +kernel
theorem dX1_leads_170 : decode cX1_leads 170 = .ok (.pop, 1) := by decide +kernel
theorem dX1_leads_171 : decode cX1_leads 171 = .ok (.aload 9, 2) := by decide +kernel
theorem dX1_leads_173 : decode cX1_leads 173 = .ok (.invokevirtual 173, 3) := by decide +kernel
theorem dX1_leads_176 : decode cX1_leads 176 = .ok (.getfield 98, 3) := by decide +kernel
theorem dX1_leads_179 : decode cX1_leads 179 = .ok (.getfield 102, 3) := by decide +kernel
theorem dX1_leads_182 : decode cX1_leads 182 = .ok (.istore 4, 2) := by decide +kernel
theorem dX1_leads_184 : decode cX1_leads 184 = .ok (.aload 9, 2) := by decide +kernel
theorem dX1_leads_186 : decode cX1_leads 186 = .ok (.invokevirtual 173, 3) := by decide +kernel
theorem dX1_leads_189 : decode cX1_leads 189 = .ok (.invokevirtual 136, 3) := by decide +kernel
theorem dX1_leads_192 : decode cX1_leads 192 = .ok (.istore 5, 2) := by decide +kernel
theorem dX1_leads_194 : decode cX1_leads 194 = .ok (.iinc 8 (-1), 3) := by decide +kernel
theorem dX1_leads_197 : decode cX1_leads 197 = .ok (.goto (-53), 3) := by decide +kernel
theorem dX1_leads_200 : decode cX1_leads 200 = .ok (.aload_n 1, 1) := by decide +kernel
theorem dX1_leads_201 : decode cX1_leads 201 = .ok (.getfield 151, 3) := by decide +kernel
theorem dX1_leads_204 : decode cX1_leads 204 = .ok (.invokevirtual 40, 3) := by decide +kernel
theorem dX1_leads_207 : decode cX1_leads 207 = .ok (.iload 6, 2) := by decide +kernel
theorem dX1_leads_209 : decode cX1_leads 209 = .ok (.isub, 1) := by decide +kernel
theorem dX1_leads_210 : decode cX1_leads 210 = .ok (.istore 8, 2) := by decide +kernel
theorem dX1_leads_212 : decode cX1_leads 212 = .ok (.iload 8, 2) := by decide +kernel
theorem dX1_leads_214 : decode cX1_leads 214 = .ok (.aload_n 1, 1) := by decide +kernel
theorem dX1_leads_215 : decode cX1_leads 215 = .ok (.getfield 151, 3) := by decide +kernel
theorem dX1_leads_218 : decode cX1_leads 218 = .ok (.invokevirtual 40, 3) := by decide +kernel
theorem dX1_leads_221 : decode cX1_leads 221 = .ok (.if_icmp .ge 24, 3) := by decide +kernel
theorem dX1_leads_224 : decode cX1_leads 224 = .ok (.aload_n 1, 1) := by decide +kernel
theorem dX1_leads_225 : decode cX1_leads 225 = .ok (.getfield 151, 3) := by decide +kernel
theorem dX1_leads_228 : decode cX1_leads 228 = .ok (.iload 8, 2) := by decide +kernel
theorem dX1_leads_230 : decode cX1_leads 230 = .ok (.invokevirtual 48, 3) := by decide +kernel
theorem dX1_leads_233 : decode cX1_leads 233 = .ok (.checkcast 174, 3) := by decide +kernel
theorem dX1_leads_236 : decode cX1_leads 236 = .ok (.invokevirtual 178, 3) := by decide +kernel
theorem dX1_leads_239 : decode cX1_leads 239 = .ok (.iinc 8 1, 3) := by decide +kernel
theorem dX1_leads_242 : decode cX1_leads 242 = .ok (.goto (-30), 3) := by decide +kernel
theorem dX1_leads_245 : decode cX1_leads 245 = .ok (.aload_n 1, 1) := by decide +kernel
theorem dX1_leads_246 : decode cX1_leads 246 = .ok (.getstatic 181, 3) := by decide +kernel
theorem dX1_leads_249 : decode cX1_leads 249 = .ok (.putfield 187, 3) := by decide +kernel
theorem dX1_leads_252 : decode cX1_leads 252 = .ok (.iconst 1, 1) := by decide +kernel
theorem dX1_leads_253 : decode cX1_leads 253 = .ok (.ireturn, 1) := by decide +kernel
abbrev cX1_goes : ByteArray := prog_1_method_14_code
def yX1_goes : MethodName := ⟨RX1, "goes", "(III)V"⟩
theorem dX1_goes_0 : decode cX1_goes 0 = .ok (.iconst 0, 1) := by decide +kernel
theorem dX1_goes_1 : decode cX1_goes 1 = .ok (.istore 4, 2) := by decide +kernel
theorem dX1_goes_3 : decode cX1_goes 3 = .ok (.iload 4, 2) := by decide +kernel
theorem dX1_goes_5 : decode cX1_goes 5 = .ok (.aload_n 0, 1) := by decide +kernel
theorem dX1_goes_6 : decode cX1_goes 6 = .ok (.getfield 27, 3) := by decide +kernel
theorem dX1_goes_9 : decode cX1_goes 9 = .ok (.arraylength, 1) := by decide +kernel
theorem dX1_goes_10 : decode cX1_goes 10 = .ok (.if_icmp .ge 18, 3) := by decide +kernel
theorem dX1_goes_13 : decode cX1_goes 13 = .ok (.aload_n 0, 1) := by decide +kernel
theorem dX1_goes_14 : decode cX1_goes 14 = .ok (.getfield 27, 3) := by decide +kernel
theorem dX1_goes_17 : decode cX1_goes 17 = .ok (.iload 4, 2) := by decide +kernel
theorem dX1_goes_19 : decode cX1_goes 19 = .ok (.ldc 123, 2) := by decide +kernel
theorem dX1_goes_21 : decode cX1_goes 21 = .ok (.iastore, 1) := by decide +kernel
theorem dX1_goes_22 : decode cX1_goes 22 = .ok (.iinc 4 1, 3) := by decide +kernel
theorem dX1_goes_25 : decode cX1_goes 25 = .ok (.goto (-22), 3) := by decide +kernel
theorem dX1_goes_28 : decode cX1_goes 28 = .ok (.aload_n 0, 1) := by decide +kernel
theorem dX1_goes_29 : decode cX1_goes 29 = .ok (.getfield 27, 3) := by decide +kernel
theorem dX1_goes_32 : decode cX1_goes 32 = .ok (.iconst 0, 1) := by decide +kernel
theorem dX1_goes_33 : decode cX1_goes 33 = .ok (.iload_n 1, 1) := by decide +kernel
theorem dX1_goes_34 : decode cX1_goes 34 = .ok (.invokestatic 124, 3) := by decide +kernel
theorem dX1_goes_37 : decode cX1_goes 37 = .ok (.iload_n 2, 1) := by decide +kernel
theorem dX1_goes_38 : decode cX1_goes 38 = .ok (.iastore, 1) := by decide +kernel
theorem dX1_goes_39 : decode cX1_goes 39 = .ok (.iconst 1, 1) := by decide +kernel
theorem dX1_goes_40 : decode cX1_goes 40 = .ok (.istore 4, 2) := by decide +kernel
theorem dX1_goes_42 : decode cX1_goes 42 = .ok (.iload 4, 2) := by decide +kernel
theorem dX1_goes_44 : decode cX1_goes 44 = .ok (.iload_n 3, 1) := by decide +kernel
theorem dX1_goes_45 : decode cX1_goes 45 = .ok (.if_icmp .gt 222, 3) := by decide +kernel
theorem dX1_goes_48 : decode cX1_goes 48 = .ok (.iconst 0, 1) := by decide +kernel
theorem dX1_goes_49 : decode cX1_goes 49 = .ok (.istore 5, 2) := by decide +kernel
theorem dX1_goes_51 : decode cX1_goes 51 = .ok (.iload 5, 2) := by decide +kernel
theorem dX1_goes_53 : decode cX1_goes 53 = .ok (.aload_n 0, 1) := by decide +kernel
theorem dX1_goes_54 : decode cX1_goes 54 = .ok (.getfield 18, 3) := by decide +kernel
theorem dX1_goes_57 : decode cX1_goes 57 = .ok (.invokevirtual 40, 3) := by decide +kernel
theorem dX1_goes_60 : decode cX1_goes 60 = .ok (.if_icmp .ge 201, 3) := by decide +kernel
theorem dX1_goes_63 : decode cX1_goes 63 = .ok (.aload_n 0, 1) := by decide +kernel
theorem dX1_goes_64 : decode cX1_goes 64 = .ok (.getfield 18, 3) := by decide +kernel
theorem dX1_goes_67 : decode cX1_goes 67 = .ok (.iload 5, 2) := by decide +kernel
theorem dX1_goes_69 : decode cX1_goes 69 = .ok (.invokevirtual 48, 3) := by decide +kernel
theorem dX1_goes_72 : decode cX1_goes 72 = .ok (.checkcast 52, 3) := by decide +kernel
theorem dX1_goes_75 : decode cX1_goes 75 = .ok (.astore 6, 2) := by decide +kernel
theorem dX1_goes_77 : decode cX1_goes 77 = .ok (.iconst 0, 1) := by decide +kernel
theorem dX1_goes_78 : decode cX1_goes 78 = .ok (.istore 7, 2) := by decide +kernel
theorem dX1_goes_80 : decode cX1_goes 80 = .ok (.iload 7, 2) := by decide +kernel
theorem dX1_goes_82 : decode cX1_goes 82 = .ok (.aload 6, 2) := by decide +kernel
theorem dX1_goes_84 : decode cX1_goes 84 = .ok (.getfield 70, 3) := by decide +kernel
theorem dX1_goes_87 : decode cX1_goes 87 = .ok (.invokevirtual 40, 3) := by decide +kernel
theorem dX1_goes_90 : decode cX1_goes 90 = .ok (.if_icmp .ge 165, 3) := by decide +kernel
theorem dX1_goes_93 : decode cX1_goes 93 = .ok (.aload 6, 2) := by decide +kernel
theorem dX1_goes_95 : decode cX1_goes 95 = .ok (.getfield 127, 3) := by decide +kernel
theorem dX1_goes_98 : decode cX1_goes 98 = .ok (.ifCond .ne 157, 3) := by decide +kernel
theorem dX1_goes_101 : decode cX1_goes 101 = .ok (.aload 6, 2) := by decide +kernel
theorem dX1_goes_103 : decode cX1_goes 103 = .ok (.getfield 70, 3) := by decide +kernel
theorem dX1_goes_106 : decode cX1_goes 106 = .ok (.iload 7, 2) := by decide +kernel
theorem dX1_goes_108 : decode cX1_goes 108 = .ok (.invokevirtual 48, 3) := by decide +kernel
theorem dX1_goes_111 : decode cX1_goes 111 = .ok (.checkcast 92, 3) := by decide +kernel
theorem dX1_goes_114 : decode cX1_goes 114 = .ok (.astore 8, 2) := by decide +kernel
theorem dX1_goes_116 : decode cX1_goes 116 = .ok (.aload_n 0, 1) := by decide +kernel
theorem dX1_goes_117 : decode cX1_goes 117 = .ok (.getfield 27, 3) := by decide +kernel
theorem dX1_goes_120 : decode cX1_goes 120 = .ok (.iload 4, 2) := by decide +kernel
theorem dX1_goes_122 : decode cX1_goes 122 = .ok (.iconst 1, 1) := by decide +kernel
theorem dX1_goes_123 : decode cX1_goes 123 = .ok (.isub, 1) := by decide +kernel
theorem dX1_goes_124 : decode cX1_goes 124 = .ok (.aload 8, 2) := by decide +kernel
theorem dX1_goes_126 : decode cX1_goes 126 = .ok (.getfield 98, 3) := by decide +kernel
theorem dX1_goes_129 : decode cX1_goes 129 = .ok (.getfield 102, 3) := by decide +kernel
theorem dX1_goes_132 : decode cX1_goes 132 = .ok (.invokestatic 124, 3) := by decide +kernel
theorem dX1_goes_135 : decode cX1_goes 135 = .ok (.iaload, 1) := by decide +kernel
theorem dX1_goes_136 : decode cX1_goes 136 = .ok (.aload 8, 2) := by decide +kernel
theorem dX1_goes_138 : decode cX1_goes 138 = .ok (.getfield 94, 3) := by decide +kernel
theorem dX1_goes_141 : decode cX1_goes 141 = .ok (.if_icmp .le 6, 3) := by decide +kernel
theorem dX1_goes_144 : decode cX1_goes 144 = .ok (.goto 105, 3) := by decide +kernel
theorem dX1_goes_147 : decode cX1_goes 147 = .ok (.iload 7, 2) := by decide +kernel
theorem dX1_goes_149 : decode cX1_goes 149 = .ok (.iconst 1, 1) := by decide +kernel
theorem dX1_goes_150 : decode cX1_goes 150 = .ok (.iadd, 1) := by decide +kernel
theorem dX1_goes_151 : decode cX1_goes 151 = .ok (.istore 9, 2) := by decide +kernel
theorem dX1_goes_153 : decode cX1_goes 153 = .ok (.iload 9, 2) := by decide +kernel
theorem dX1_goes_155 : decode cX1_goes 155 = .ok (.aload 6, 2) := by decide +kernel
theorem dX1_goes_157 : decode cX1_goes 157 = .ok (.getfield 70, 3) := by decide +kernel
theorem dX1_goes_160 : decode cX1_goes 160 = .ok (.invokevirtual 40, 3) := by decide +kernel
theorem dX1_goes_163 : decode cX1_goes 163 = .ok (.if_icmp .ge 86, 3) := by decide +kernel
theorem dX1_goes_166 : decode cX1_goes 166 = .ok (.aload 6, 2) := by decide +kernel
theorem dX1_goes_168 : decode cX1_goes 168 = .ok (.getfield 130, 3) := by decide +kernel
theorem dX1_goes_171 : decode cX1_goes 171 = .ok (.iload 9, 2) := by decide +kernel
theorem dX1_goes_173 : decode cX1_goes 173 = .ok (.iconst 1, 1) := by decide +kernel
theorem dX1_goes_174 : decode cX1_goes 174 = .ok (.isub, 1) := by decide +kernel
theorem dX1_goes_175 : decode cX1_goes 175 = .ok (.iaload, 1) := by decide +kernel
theorem dX1_goes_176 : decode cX1_goes 176 = .ok (.aload 6, 2) := by decide +kernel
theorem dX1_goes_178 : decode cX1_goes 178 = .ok (.getfield 133, 3) := by decide +kernel
theorem dX1_goes_181 : decode cX1_goes 181 = .ok (.if_icmp .ge 68, 3) := by decide +kernel
theorem dX1_goes_184 : decode cX1_goes 184 = .ok (.aload 6, 2) := by decide +kernel
theorem dX1_goes_186 : decode cX1_goes 186 = .ok (.getfield 70, 3) := by decide +kernel
theorem dX1_goes_189 : decode cX1_goes 189 = .ok (.iload 9, 2) := by decide +kernel
theorem dX1_goes_191 : decode cX1_goes 191 = .ok (.invokevirtual 48, 3) := by decide +kernel
theorem dX1_goes_194 : decode cX1_goes 194 = .ok (.checkcast 92, 3) := by decide +kernel
theorem dX1_goes_197 : decode cX1_goes 197 = .ok (.astore 10, 2) := by decide +kernel
theorem dX1_goes_199 : decode cX1_goes 199 = .ok (.aload_n 0, 1) := by decide +kernel
theorem dX1_goes_200 : decode cX1_goes 200 = .ok (.getfield 27, 3) := by decide +kernel
theorem dX1_goes_203 : decode cX1_goes 203 = .ok (.iload 4, 2) := by decide +kernel
theorem dX1_goes_205 : decode cX1_goes 205 = .ok (.aload 10, 2) := by decide +kernel
theorem dX1_goes_207 : decode cX1_goes 207 = .ok (.getfield 98, 3) := by decide +kernel
theorem dX1_goes_210 : decode cX1_goes 210 = .ok (.getfield 102, 3) := by decide +kernel
theorem dX1_goes_213 : decode cX1_goes 213 = .ok (.invokestatic 124, 3) := by decide +kernel
theorem dX1_goes_216 : decode cX1_goes 216 = .ok (.aload_n 0, 1) := by decide +kernel
theorem dX1_goes_217 : decode cX1_goes 217 = .ok (.getfield 27, 3) := by decide +kernel
theorem dX1_goes_220 : decode cX1_goes 220 = .ok (.iload 4, 2) := by decide +kernel
theorem dX1_goes_222 : decode cX1_goes 222 = .ok (.aload 10, 2) := by decide +kernel
theorem dX1_goes_224 : decode cX1_goes 224 = .ok (.getfield 98, 3) := by decide +kernel
theorem dX1_goes_227 : decode cX1_goes 227 = .ok (.getfield 102, 3) := by decide +kernel
theorem dX1_goes_230 : decode cX1_goes 230 = .ok (.invokestatic 124, 3) := by decide +kernel
theorem dX1_goes_233 : decode cX1_goes 233 = .ok (.iaload, 1) := by decide +kernel
theorem dX1_goes_234 : decode cX1_goes 234 = .ok (.aload 10, 2) := by decide +kernel
theorem dX1_goes_236 : decode cX1_goes 236 = .ok (.invokevirtual 136, 3) := by decide +kernel
theorem dX1_goes_239 : decode cX1_goes 239 = .ok (.invokestatic 139, 3) := by decide +kernel
theorem dX1_goes_242 : decode cX1_goes 242 = .ok (.iastore, 1) := by decide +kernel
theorem dX1_goes_243 : decode cX1_goes 243 = .ok (.iinc 9 1, 3) := by decide +kernel
theorem dX1_goes_246 : decode cX1_goes 246 = .ok (.goto (-93), 3) := by decide +kernel
theorem dX1_goes_249 : decode cX1_goes 249 = .ok (.iinc 7 1, 3) := by decide +kernel
theorem dX1_goes_252 : decode cX1_goes 252 = .ok (.goto (-172), 3) := by decide +kernel
theorem dX1_goes_255 : decode cX1_goes 255 = .ok (.iinc 5 1, 3) := by decide +kernel
theorem dX1_goes_258 : decode cX1_goes 258 = .ok (.goto (-207), 3) := by decide +kernel
theorem dX1_goes_261 : decode cX1_goes 261 = .ok (.iinc 4 1, 3) := by decide +kernel
theorem dX1_goes_264 : decode cX1_goes 264 = .ok (.goto (-222), 3) := by decide +kernel
theorem dX1_goes_267 : decode cX1_goes 267 = .ok (.return_, 1) := by decide +kernel
abbrev cX1_at : ByteArray := prog_1_method_13_code
def yX1_at : MethodName := ⟨RX1, "at", "(II)I"⟩
theorem dX1_at_0 : decode cX1_at 0 = .ok (.bipush 10, 2) := by decide +kernel
theorem dX1_at_2 : decode cX1_at 2 = .ok (.iload_n 0, 1) := by decide +kernel
theorem dX1_at_3 : decode cX1_at 3 = .ok (.imul, 1) := by decide +kernel
theorem dX1_at_4 : decode cX1_at 4 = .ok (.iload_n 1, 1) := by decide +kernel
theorem dX1_at_5 : decode cX1_at 5 = .ok (.iadd, 1) := by decide +kernel
theorem dX1_at_6 : decode cX1_at 6 = .ok (.ireturn, 1) := by decide +kernel
abbrev cX1_comes : ByteArray := prog_1_method_15_code
def yX1_comes : MethodName := ⟨RX1, "comes", "(III)V"⟩
theorem dX1_comes_0 : decode cX1_comes 0 = .ok (.iconst 0, 1) := by decide +kernel
theorem dX1_comes_1 : decode cX1_comes 1 = .ok (.istore 4, 2) := by decide +kernel
theorem dX1_comes_3 : decode cX1_comes 3 = .ok (.iload 4, 2) := by decide +kernel
theorem dX1_comes_5 : decode cX1_comes 5 = .ok (.aload_n 0, 1) := by decide +kernel
theorem dX1_comes_6 : decode cX1_comes 6 = .ok (.getfield 31, 3) := by decide +kernel
theorem dX1_comes_9 : decode cX1_comes 9 = .ok (.arraylength, 1) := by decide +kernel
theorem dX1_comes_10 : decode cX1_comes 10 = .ok (.if_icmp .ge 17, 3) := by decide +kernel
theorem dX1_comes_13 : decode cX1_comes 13 = .ok (.aload_n 0, 1) := by decide +kernel
theorem dX1_comes_14 : decode cX1_comes 14 = .ok (.getfield 31, 3) := by decide +kernel
theorem dX1_comes_17 : decode cX1_comes 17 = .ok (.iload 4, 2) := by decide +kernel
theorem dX1_comes_19 : decode cX1_comes 19 = .ok (.iconst (-1), 1) := by decide +kernel
theorem dX1_comes_20 : decode cX1_comes 20 = .ok (.iastore, 1) := by decide +kernel
theorem dX1_comes_21 : decode cX1_comes 21 = .ok (.iinc 4 1, 3) := by decide +kernel
theorem dX1_comes_24 : decode cX1_comes 24 = .ok (.goto (-21), 3) := by decide +kernel
theorem dX1_comes_27 : decode cX1_comes 27 = .ok (.aload_n 0, 1) := by decide +kernel
theorem dX1_comes_28 : decode cX1_comes 28 = .ok (.getfield 31, 3) := by decide +kernel
theorem dX1_comes_31 : decode cX1_comes 31 = .ok (.iconst 0, 1) := by decide +kernel
theorem dX1_comes_32 : decode cX1_comes 32 = .ok (.iload_n 1, 1) := by decide +kernel
theorem dX1_comes_33 : decode cX1_comes 33 = .ok (.invokestatic 124, 3) := by decide +kernel
theorem dX1_comes_36 : decode cX1_comes 36 = .ok (.iload_n 2, 1) := by decide +kernel
theorem dX1_comes_37 : decode cX1_comes 37 = .ok (.iastore, 1) := by decide +kernel
theorem dX1_comes_38 : decode cX1_comes 38 = .ok (.iconst 1, 1) := by decide +kernel
theorem dX1_comes_39 : decode cX1_comes 39 = .ok (.istore 4, 2) := by decide +kernel
theorem dX1_comes_41 : decode cX1_comes 41 = .ok (.iload 4, 2) := by decide +kernel
theorem dX1_comes_43 : decode cX1_comes 43 = .ok (.iload_n 3, 1) := by decide +kernel
theorem dX1_comes_44 : decode cX1_comes 44 = .ok (.if_icmp .gt 166, 3) := by decide +kernel
theorem dX1_comes_47 : decode cX1_comes 47 = .ok (.iconst 0, 1) := by decide +kernel
theorem dX1_comes_48 : decode cX1_comes 48 = .ok (.istore 5, 2) := by decide +kernel
theorem dX1_comes_50 : decode cX1_comes 50 = .ok (.iload 5, 2) := by decide +kernel
theorem dX1_comes_52 : decode cX1_comes 52 = .ok (.aload_n 0, 1) := by decide +kernel
theorem dX1_comes_53 : decode cX1_comes 53 = .ok (.getfield 18, 3) := by decide +kernel
theorem dX1_comes_56 : decode cX1_comes 56 = .ok (.invokevirtual 40, 3) := by decide +kernel
theorem dX1_comes_59 : decode cX1_comes 59 = .ok (.if_icmp .ge 145, 3) := by decide +kernel
theorem dX1_comes_62 : decode cX1_comes 62 = .ok (.aload_n 0, 1) := by decide +kernel
theorem dX1_comes_63 : decode cX1_comes 63 = .ok (.getfield 18, 3) := by decide +kernel
theorem dX1_comes_66 : decode cX1_comes 66 = .ok (.iload 5, 2) := by decide +kernel
theorem dX1_comes_68 : decode cX1_comes 68 = .ok (.invokevirtual 48, 3) := by decide +kernel
theorem dX1_comes_71 : decode cX1_comes 71 = .ok (.checkcast 52, 3) := by decide +kernel
theorem dX1_comes_74 : decode cX1_comes 74 = .ok (.astore 6, 2) := by decide +kernel
theorem dX1_comes_76 : decode cX1_comes 76 = .ok (.iconst 0, 1) := by decide +kernel
theorem dX1_comes_77 : decode cX1_comes 77 = .ok (.istore 7, 2) := by decide +kernel
theorem dX1_comes_79 : decode cX1_comes 79 = .ok (.iload 7, 2) := by decide +kernel
theorem dX1_comes_81 : decode cX1_comes 81 = .ok (.aload 6, 2) := by decide +kernel
theorem dX1_comes_83 : decode cX1_comes 83 = .ok (.getfield 70, 3) := by decide +kernel
theorem dX1_comes_86 : decode cX1_comes 86 = .ok (.invokevirtual 40, 3) := by decide +kernel
theorem dX1_comes_89 : decode cX1_comes 89 = .ok (.if_icmp .ge 109, 3) := by decide +kernel
theorem dX1_comes_92 : decode cX1_comes 92 = .ok (.aload 6, 2) := by decide +kernel
theorem dX1_comes_94 : decode cX1_comes 94 = .ok (.getfield 127, 3) := by decide +kernel
theorem dX1_comes_97 : decode cX1_comes 97 = .ok (.ifCond .ne 101, 3) := by decide +kernel
theorem dX1_comes_100 : decode cX1_comes 100 = .ok (.aload_n 0, 1) := by decide +kernel
theorem dX1_comes_101 : decode cX1_comes 101 = .ok (.aload 6, 2) := by decide +kernel
theorem dX1_comes_103 : decode cX1_comes 103 = .ok (.iload 7, 2) := by decide +kernel
theorem dX1_comes_105 : decode cX1_comes 105 = .ok (.iload 4, 2) := by decide +kernel
theorem dX1_comes_107 : decode cX1_comes 107 = .ok (.invokevirtual 144, 3) := by decide +kernel
theorem dX1_comes_110 : decode cX1_comes 110 = .ok (.iload 7, 2) := by decide +kernel
theorem dX1_comes_112 : decode cX1_comes 112 = .ok (.if_icmp .le 80, 3) := by decide +kernel
theorem dX1_comes_115 : decode cX1_comes 115 = .ok (.aload_n 0, 1) := by decide +kernel
theorem dX1_comes_116 : decode cX1_comes 116 = .ok (.getfield 31, 3) := by decide +kernel
theorem dX1_comes_119 : decode cX1_comes 119 = .ok (.iload 4, 2) := by decide +kernel
theorem dX1_comes_121 : decode cX1_comes 121 = .ok (.aload 6, 2) := by decide +kernel
theorem dX1_comes_123 : decode cX1_comes 123 = .ok (.getfield 70, 3) := by decide +kernel
theorem dX1_comes_126 : decode cX1_comes 126 = .ok (.iload 7, 2) := by decide +kernel
theorem dX1_comes_128 : decode cX1_comes 128 = .ok (.invokevirtual 48, 3) := by decide +kernel
theorem dX1_comes_131 : decode cX1_comes 131 = .ok (.checkcast 92, 3) := by decide +kernel
theorem dX1_comes_134 : decode cX1_comes 134 = .ok (.getfield 98, 3) := by decide +kernel
theorem dX1_comes_137 : decode cX1_comes 137 = .ok (.getfield 102, 3) := by decide +kernel
theorem dX1_comes_140 : decode cX1_comes 140 = .ok (.invokestatic 124, 3) := by decide +kernel
theorem dX1_comes_143 : decode cX1_comes 143 = .ok (.aload_n 0, 1) := by decide +kernel
theorem dX1_comes_144 : decode cX1_comes 144 = .ok (.getfield 31, 3) := by decide +kernel
theorem dX1_comes_147 : decode cX1_comes 147 = .ok (.iload 4, 2) := by decide +kernel
theorem dX1_comes_149 : decode cX1_comes 149 = .ok (.aload 6, 2) := by decide +kernel
theorem dX1_comes_151 : decode cX1_comes 151 = .ok (.getfield 70, 3) := by decide +kernel
theorem dX1_comes_154 : decode cX1_comes 154 = .ok (.iload 7, 2) := by decide +kernel
theorem dX1_comes_156 : decode cX1_comes 156 = .ok (.invokevirtual 48, 3) := by decide +kernel
theorem dX1_comes_159 : decode cX1_comes 159 = .ok (.checkcast 92, 3) := by decide +kernel
theorem dX1_comes_162 : decode cX1_comes 162 = .ok (.getfield 98, 3) := by decide +kernel
theorem dX1_comes_165 : decode cX1_comes 165 = .ok (.getfield 102, 3) := by decide +kernel
theorem dX1_comes_168 : decode cX1_comes 168 = .ok (.invokestatic 124, 3) := by decide +kernel
theorem dX1_comes_171 : decode cX1_comes 171 = .ok (.iaload, 1) := by decide +kernel
theorem dX1_comes_172 : decode cX1_comes 172 = .ok (.aload 6, 2) := by decide +kernel
theorem dX1_comes_174 : decode cX1_comes 174 = .ok (.getfield 70, 3) := by decide +kernel
theorem dX1_comes_177 : decode cX1_comes 177 = .ok (.iload 7, 2) := by decide +kernel
theorem dX1_comes_179 : decode cX1_comes 179 = .ok (.invokevirtual 48, 3) := by decide +kernel
theorem dX1_comes_182 : decode cX1_comes 182 = .ok (.checkcast 92, 3) := by decide +kernel
theorem dX1_comes_185 : decode cX1_comes 185 = .ok (.getfield 94, 3) := by decide +kernel
theorem dX1_comes_188 : decode cX1_comes 188 = .ok (.invokestatic 148, 3) := by decide +kernel
theorem dX1_comes_191 : decode cX1_comes 191 = .ok (.iastore, 1) := by decide +kernel
theorem dX1_comes_192 : decode cX1_comes 192 = .ok (.iinc 7 1, 3) := by decide +kernel
theorem dX1_comes_195 : decode cX1_comes 195 = .ok (.goto (-116), 3) := by decide +kernel
theorem dX1_comes_198 : decode cX1_comes 198 = .ok (.iinc 5 1, 3) := by decide +kernel
theorem dX1_comes_201 : decode cX1_comes 201 = .ok (.goto (-151), 3) := by decide +kernel
theorem dX1_comes_204 : decode cX1_comes 204 = .ok (.iinc 4 1, 3) := by decide +kernel
theorem dX1_comes_207 : decode cX1_comes 207 = .ok (.goto (-166), 3) := by decide +kernel
theorem dX1_comes_210 : decode cX1_comes 210 = .ok (.return_, 1) := by decide +kernel
abbrev cX1_leads_2 : ByteArray := prog_1_method_16_code
def yX1_leads_2 : MethodName := ⟨RX1, "leads", "(LLunchMarks$Train;II)I"⟩
theorem dX1_leads_2_0 : decode cX1_leads_2 0 = .ok (.iload_n 2, 1) := by decide +kernel
theorem dX1_leads_2_1 : decode cX1_leads_2 1 = .ok (.iconst 1, 1) := by decide +kernel
theorem dX1_leads_2_2 : decode cX1_leads_2 2 = .ok (.iadd, 1) := by decide +kernel
theorem dX1_leads_2_3 : decode cX1_leads_2 3 = .ok (.istore 4, 2) := by decide +kernel
theorem dX1_leads_2_5 : decode cX1_leads_2 5 = .ok (.iload 4, 2) := by decide +kernel
theorem dX1_leads_2_7 : decode cX1_leads_2 7 = .ok (.aload_n 1, 1) := by decide +kernel
theorem dX1_leads_2_8 : decode cX1_leads_2 8 = .ok (.getfield 70, 3) := by decide +kernel
theorem dX1_leads_2_11 : decode cX1_leads_2 11 = .ok (.invokevirtual 40, 3) := by decide +kernel
theorem dX1_leads_2_14 : decode cX1_leads_2 14 = .ok (.if_icmp .ge 75, 3) := by decide +kernel
theorem dX1_leads_2_17 : decode cX1_leads_2 17 = .ok (.aload_n 1, 1) := by decide +kernel
theorem dX1_leads_2_18 : decode cX1_leads_2 18 = .ok (.getfield 130, 3) := by decide +kernel
theorem dX1_leads_2_21 : decode cX1_leads_2 21 = .ok (.iload 4, 2) := by decide +kernel
theorem dX1_leads_2_23 : decode cX1_leads_2 23 = .ok (.iconst 1, 1) := by decide +kernel
theorem dX1_leads_2_24 : decode cX1_leads_2 24 = .ok (.isub, 1) := by decide +kernel
theorem dX1_leads_2_25 : decode cX1_leads_2 25 = .ok (.iaload, 1) := by decide +kernel
theorem dX1_leads_2_26 : decode cX1_leads_2 26 = .ok (.aload_n 1, 1) := by decide +kernel
theorem dX1_leads_2_27 : decode cX1_leads_2 27 = .ok (.getfield 133, 3) := by decide +kernel
theorem dX1_leads_2_30 : decode cX1_leads_2 30 = .ok (.if_icmp .ge 59, 3) := by decide +kernel
theorem dX1_leads_2_33 : decode cX1_leads_2 33 = .ok (.aload_n 1, 1) := by decide +kernel
theorem dX1_leads_2_34 : decode cX1_leads_2 34 = .ok (.getfield 70, 3) := by decide +kernel
theorem dX1_leads_2_37 : decode cX1_leads_2 37 = .ok (.iload 4, 2) := by decide +kernel
theorem dX1_leads_2_39 : decode cX1_leads_2 39 = .ok (.invokevirtual 48, 3) := by decide +kernel
theorem dX1_leads_2_42 : decode cX1_leads_2 42 = .ok (.checkcast 92, 3) := by decide +kernel
theorem dX1_leads_2_45 : decode cX1_leads_2 45 = .ok (.invokevirtual 136, 3) := by decide +kernel
theorem dX1_leads_2_48 : decode cX1_leads_2 48 = .ok (.aload_n 0, 1) := by decide +kernel
theorem dX1_leads_2_49 : decode cX1_leads_2 49 = .ok (.getfield 31, 3) := by decide +kernel
theorem dX1_leads_2_52 : decode cX1_leads_2 52 = .ok (.iload_n 3, 1) := by decide +kernel
theorem dX1_leads_2_53 : decode cX1_leads_2 53 = .ok (.iconst 1, 1) := by decide +kernel
theorem dX1_leads_2_54 : decode cX1_leads_2 54 = .ok (.isub, 1) := by decide +kernel
theorem dX1_leads_2_55 : decode cX1_leads_2 55 = .ok (.aload_n 1, 1) := by decide +kernel
theorem dX1_leads_2_56 : decode cX1_leads_2 56 = .ok (.getfield 70, 3) := by decide +kernel
theorem dX1_leads_2_59 : decode cX1_leads_2 59 = .ok (.iload 4, 2) := by decide +kernel
theorem dX1_leads_2_61 : decode cX1_leads_2 61 = .ok (.invokevirtual 48, 3) := by decide +kernel
theorem dX1_leads_2_64 : decode cX1_leads_2 64 = .ok (.checkcast 92, 3) := by decide +kernel
theorem dX1_leads_2_67 : decode cX1_leads_2 67 = .ok (.getfield 98, 3) := by decide +kernel
theorem dX1_leads_2_70 : decode cX1_leads_2 70 = .ok (.getfield 102, 3) := by decide +kernel
theorem dX1_leads_2_73 : decode cX1_leads_2 73 = .ok (.invokestatic 124, 3) := by decide +kernel
theorem dX1_leads_2_76 : decode cX1_leads_2 76 = .ok (.iaload, 1) := by decide +kernel
theorem dX1_leads_2_77 : decode cX1_leads_2 77 = .ok (.if_icmp .gt 6, 3) := by decide +kernel
theorem dX1_leads_2_80 : decode cX1_leads_2 80 = .ok (.iload 4, 2) := by decide +kernel
theorem dX1_leads_2_82 : decode cX1_leads_2 82 = .ok (.ireturn, 1) := by decide +kernel
theorem dX1_leads_2_83 : decode cX1_leads_2 83 = .ok (.iinc 4 1, 3) := by decide +kernel
theorem dX1_leads_2_86 : decode cX1_leads_2 86 = .ok (.goto (-81), 3) := by decide +kernel
theorem dX1_leads_2_89 : decode cX1_leads_2 89 = .ok (.iconst (-1), 1) := by decide +kernel
theorem dX1_leads_2_90 : decode cX1_leads_2 90 = .ok (.ireturn, 1) := by decide +kernel
abbrev cX1_first : ByteArray := prog_1_method_18_code
def yX1_first : MethodName := ⟨RX1, "first", "(III)LLunchMarks$Leg;"⟩
theorem dX1_first_0 : decode cX1_first 0 = .ok (.iconst 0, 1) := by decide +kernel
theorem dX1_first_1 : decode cX1_first 1 = .ok (.istore 4, 2) := by decide +kernel
theorem dX1_first_3 : decode cX1_first 3 = .ok (.iload 4, 2) := by decide +kernel
theorem dX1_first_5 : decode cX1_first 5 = .ok (.aload_n 0, 1) := by decide +kernel
theorem dX1_first_6 : decode cX1_first 6 = .ok (.getfield 18, 3) := by decide +kernel
theorem dX1_first_9 : decode cX1_first 9 = .ok (.invokevirtual 40, 3) := by decide +kernel
theorem dX1_first_12 : decode cX1_first 12 = .ok (.if_icmp .ge 130, 3) := by decide +kernel
theorem dX1_first_15 : decode cX1_first 15 = .ok (.aload_n 0, 1) := by decide +kernel
theorem dX1_first_16 : decode cX1_first 16 = .ok (.getfield 18, 3) := by decide +kernel
theorem dX1_first_19 : decode cX1_first 19 = .ok (.iload 4, 2) := by decide +kernel
theorem dX1_first_21 : decode cX1_first 21 = .ok (.invokevirtual 48, 3) := by decide +kernel
theorem dX1_first_24 : decode cX1_first 24 = .ok (.checkcast 52, 3) := by decide +kernel
theorem dX1_first_27 : decode cX1_first 27 = .ok (.astore 5, 2) := by decide +kernel
theorem dX1_first_29 : decode cX1_first 29 = .ok (.iconst 0, 1) := by decide +kernel
theorem dX1_first_30 : decode cX1_first 30 = .ok (.istore 6, 2) := by decide +kernel
theorem dX1_first_32 : decode cX1_first 32 = .ok (.iload 6, 2) := by decide +kernel
theorem dX1_first_34 : decode cX1_first 34 = .ok (.aload 5, 2) := by decide +kernel
theorem dX1_first_36 : decode cX1_first 36 = .ok (.getfield 70, 3) := by decide +kernel
theorem dX1_first_39 : decode cX1_first 39 = .ok (.invokevirtual 40, 3) := by decide +kernel
theorem dX1_first_42 : decode cX1_first 42 = .ok (.if_icmp .ge 94, 3) := by decide +kernel
theorem dX1_first_45 : decode cX1_first 45 = .ok (.aload 5, 2) := by decide +kernel
theorem dX1_first_47 : decode cX1_first 47 = .ok (.getfield 127, 3) := by decide +kernel
theorem dX1_first_50 : decode cX1_first 50 = .ok (.ifCond .ne 86, 3) := by decide +kernel
theorem dX1_first_53 : decode cX1_first 53 = .ok (.aload 5, 2) := by decide +kernel
theorem dX1_first_55 : decode cX1_first 55 = .ok (.getfield 70, 3) := by decide +kernel
theorem dX1_first_58 : decode cX1_first 58 = .ok (.iload 6, 2) := by decide +kernel
theorem dX1_first_60 : decode cX1_first 60 = .ok (.invokevirtual 48, 3) := by decide +kernel
theorem dX1_first_63 : decode cX1_first 63 = .ok (.checkcast 92, 3) := by decide +kernel
theorem dX1_first_66 : decode cX1_first 66 = .ok (.getfield 98, 3) := by decide +kernel
theorem dX1_first_69 : decode cX1_first 69 = .ok (.getfield 102, 3) := by decide +kernel
theorem dX1_first_72 : decode cX1_first 72 = .ok (.iload_n 1, 1) := by decide +kernel
theorem dX1_first_73 : decode cX1_first 73 = .ok (.if_icmp .ne 57, 3) := by decide +kernel
theorem dX1_first_76 : decode cX1_first 76 = .ok (.aload 5, 2) := by decide +kernel
theorem dX1_first_78 : decode cX1_first 78 = .ok (.getfield 70, 3) := by decide +kernel
theorem dX1_first_81 : decode cX1_first 81 = .ok (.iload 6, 2) := by decide +kernel
theorem dX1_first_83 : decode cX1_first 83 = .ok (.invokevirtual 48, 3) := by decide +kernel
theorem dX1_first_86 : decode cX1_first 86 = .ok (.checkcast 92, 3) := by decide +kernel
theorem dX1_first_89 : decode cX1_first 89 = .ok (.getfield 94, 3) := by decide +kernel
theorem dX1_first_92 : decode cX1_first 92 = .ok (.iload_n 2, 1) := by decide +kernel
theorem dX1_first_93 : decode cX1_first 93 = .ok (.if_icmp .ge 6, 3) := by decide +kernel
theorem dX1_first_96 : decode cX1_first 96 = .ok (.goto 34, 3) := by decide +kernel
theorem dX1_first_99 : decode cX1_first 99 = .ok (.aload_n 0, 1) := by decide +kernel
theorem dX1_first_100 : decode cX1_first 100 = .ok (.aload 5, 2) := by decide +kernel
theorem dX1_first_102 : decode cX1_first 102 = .ok (.iload 6, 2) := by decide +kernel
theorem dX1_first_104 : decode cX1_first 104 = .ok (.iload_n 3, 1) := by decide +kernel
theorem dX1_first_105 : decode cX1_first 105 = .ok (.invokevirtual 144, 3) := by decide +kernel
theorem dX1_first_108 : decode cX1_first 108 = .ok (.istore 7, 2) := by decide +kernel
theorem dX1_first_110 : decode cX1_first 110 = .ok (.iload 7, 2) := by decide +kernel
theorem dX1_first_112 : decode cX1_first 112 = .ok (.iconst (-1), 1) := by decide +kernel
theorem dX1_first_113 : decode cX1_first 113 = .ok (.if_icmp .eq 17, 3) := by decide +kernel
theorem dX1_first_116 : decode cX1_first 116 = .ok (.new 174, 3) := by decide +kernel
theorem dX1_first_119 : decode cX1_first 119 = .ok (.dup, 1) := by decide +kernel
theorem dX1_first_120 : decode cX1_first 120 = .ok (.aload 5, 2) := by decide +kernel
theorem dX1_first_122 : decode cX1_first 122 = .ok (.iload 6, 2) := by decide +kernel
theorem dX1_first_124 : decode cX1_first 124 = .ok (.iload 7, 2) := by decide +kernel
theorem dX1_first_126 : decode cX1_first 126 = .ok (.invokespecial 190, 3) := by decide +kernel
theorem dX1_first_129 : decode cX1_first 129 = .ok (.areturn, 1) := by decide +kernel
theorem dX1_first_130 : decode cX1_first 130 = .ok (.iinc 6 1, 3) := by decide +kernel
theorem dX1_first_133 : decode cX1_first 133 = .ok (.goto (-101), 3) := by decide +kernel
theorem dX1_first_136 : decode cX1_first 136 = .ok (.iinc 4 1, 3) := by decide +kernel
theorem dX1_first_139 : decode cX1_first 139 = .ok (.goto (-136), 3) := by decide +kernel
theorem dX1_first_142 : decode cX1_first 142 = .ok (.aconst_null, 1) := by decide +kernel
theorem dX1_first_143 : decode cX1_first 143 = .ok (.areturn, 1) := by decide +kernel
abbrev cX1_carrier : ByteArray := prog_1_method_30_code
def yX1_carrier : MethodName := ⟨RX1, "carrier", "(I)I"⟩
theorem dX1_carrier_0 : decode cX1_carrier 0 = .ok (.aload_n 0, 1) := by decide +kernel
theorem dX1_carrier_1 : decode cX1_carrier 1 = .ok (.getfield 24, 3) := by decide +kernel
theorem dX1_carrier_4 : decode cX1_carrier 4 = .ok (.invokevirtual 40, 3) := by decide +kernel
theorem dX1_carrier_7 : decode cX1_carrier 7 = .ok (.bipush 40, 2) := by decide +kernel
theorem dX1_carrier_9 : decode cX1_carrier 9 = .ok (.if_icmp .eq 13, 3) := by decide +kernel
theorem dX1_carrier_12 : decode cX1_carrier 12 = .ok (.iload_n 1, 1) := by decide +kernel
theorem dX1_carrier_13 : decode cX1_carrier 13 = .ok (.ifCond .lt 9, 3) := by decide +kernel
theorem dX1_carrier_16 : decode cX1_carrier 16 = .ok (.iload_n 1, 1) := by decide +kernel
theorem dX1_carrier_17 : decode cX1_carrier 17 = .ok (.bipush 31, 2) := by decide +kernel
theorem dX1_carrier_19 : decode cX1_carrier 19 = .ok (.if_icmp .le 5, 3) := by decide +kernel
theorem dX1_carrier_22 : decode cX1_carrier 22 = .ok (.iconst (-1), 1) := by decide +kernel
theorem dX1_carrier_23 : decode cX1_carrier 23 = .ok (.ireturn, 1) := by decide +kernel
theorem dX1_carrier_24 : decode cX1_carrier 24 = .ok (.aload_n 0, 1) := by decide +kernel
theorem dX1_carrier_25 : decode cX1_carrier 25 = .ok (.getfield 24, 3) := by decide +kernel
theorem dX1_carrier_28 : decode cX1_carrier 28 = .ok (.iload_n 1, 1) := by decide +kernel
theorem dX1_carrier_29 : decode cX1_carrier 29 = .ok (.invokestatic 269, 3) := by decide +kernel
theorem dX1_carrier_32 : decode cX1_carrier 32 = .ok (.invokevirtual 61, 3) := by decide +kernel
theorem dX1_carrier_35 : decode cX1_carrier 35 = .ok (.pop, 1) := by decide +kernel
theorem dX1_carrier_36 : decode cX1_carrier 36 = .ok (.aload_n 0, 1) := by decide +kernel
theorem dX1_carrier_37 : decode cX1_carrier 37 = .ok (.getfield 24, 3) := by decide +kernel
theorem dX1_carrier_40 : decode cX1_carrier 40 = .ok (.invokevirtual 40, 3) := by decide +kernel
theorem dX1_carrier_43 : decode cX1_carrier 43 = .ok (.iconst 1, 1) := by decide +kernel
theorem dX1_carrier_44 : decode cX1_carrier 44 = .ok (.isub, 1) := by decide +kernel
theorem dX1_carrier_45 : decode cX1_carrier 45 = .ok (.ireturn, 1) := by decide +kernel
abbrev cX1_stop : ByteArray := prog_1_method_10_code
def yX1_stop : MethodName := ⟨RX1, "stop", "(III)I"⟩
theorem dX1_stop_0 : decode cX1_stop 0 = .ok (.aload_n 0, 1) := by decide +kernel
theorem dX1_stop_1 : decode cX1_stop 1 = .ok (.iload_n 1, 1) := by decide +kernel
theorem dX1_stop_2 : decode cX1_stop 2 = .ok (.invokevirtual 66, 3) := by decide +kernel
theorem dX1_stop_5 : decode cX1_stop 5 = .ok (.astore 4, 2) := by decide +kernel
theorem dX1_stop_7 : decode cX1_stop 7 = .ok (.aload 4, 2) := by decide +kernel
theorem dX1_stop_9 : decode cX1_stop 9 = .ok (.getfield 70, 3) := by decide +kernel
theorem dX1_stop_12 : decode cX1_stop 12 = .ok (.invokevirtual 40, 3) := by decide +kernel
theorem dX1_stop_15 : decode cX1_stop 15 = .ok (.bipush 10, 2) := by decide +kernel
theorem dX1_stop_17 : decode cX1_stop 17 = .ok (.if_icmp .eq 35, 3) := by decide +kernel
theorem dX1_stop_20 : decode cX1_stop 20 = .ok (.aload_n 0, 1) := by decide +kernel
theorem dX1_stop_21 : decode cX1_stop 21 = .ok (.iload_n 2, 1) := by decide +kernel
theorem dX1_stop_22 : decode cX1_stop 22 = .ok (.invokevirtual 73, 3) := by decide +kernel
theorem dX1_stop_25 : decode cX1_stop 25 = .ok (.ifCond .eq 27, 3) := by decide +kernel
theorem dX1_stop_28 : decode cX1_stop 28 = .ok (.iload_n 3, 1) := by decide +kernel
theorem dX1_stop_29 : decode cX1_stop 29 = .ok (.invokestatic 77, 3) := by decide +kernel
theorem dX1_stop_32 : decode cX1_stop 32 = .ok (.ifCond .eq 20, 3) := by decide +kernel
theorem dX1_stop_35 : decode cX1_stop 35 = .ok (.aload 4, 2) := by decide +kernel
theorem dX1_stop_37 : decode cX1_stop 37 = .ok (.getfield 80, 3) := by decide +kernel
theorem dX1_stop_40 : decode cX1_stop 40 = .ok (.ifCond .eq 14, 3) := by decide +kernel
theorem dX1_stop_43 : decode cX1_stop 43 = .ok (.aload_n 0, 1) := by decide +kernel
theorem dX1_stop_44 : decode cX1_stop 44 = .ok (.aload 4, 2) := by decide +kernel
theorem dX1_stop_46 : decode cX1_stop 46 = .ok (.invokevirtual 84, 3) := by decide +kernel
theorem dX1_stop_49 : decode cX1_stop 49 = .ok (.ifCond .eq 5, 3) := by decide +kernel
theorem dX1_stop_52 : decode cX1_stop 52 = .ok (.iconst (-1), 1) := by decide +kernel
theorem dX1_stop_53 : decode cX1_stop 53 = .ok (.ireturn, 1) := by decide +kernel
theorem dX1_stop_54 : decode cX1_stop 54 = .ok (.aload 4, 2) := by decide +kernel
theorem dX1_stop_56 : decode cX1_stop 56 = .ok (.getfield 70, 3) := by decide +kernel
theorem dX1_stop_59 : decode cX1_stop 59 = .ok (.invokevirtual 88, 3) := by decide +kernel
theorem dX1_stop_62 : decode cX1_stop 62 = .ok (.ifCond .eq 7, 3) := by decide +kernel
theorem dX1_stop_65 : decode cX1_stop 65 = .ok (.aconst_null, 1) := by decide +kernel
theorem dX1_stop_66 : decode cX1_stop 66 = .ok (.goto 24, 3) := by decide +kernel
theorem dX1_stop_69 : decode cX1_stop 69 = .ok (.aload 4, 2) := by decide +kernel
theorem dX1_stop_71 : decode cX1_stop 71 = .ok (.getfield 70, 3) := by decide +kernel
theorem dX1_stop_74 : decode cX1_stop 74 = .ok (.aload 4, 2) := by decide +kernel
theorem dX1_stop_76 : decode cX1_stop 76 = .ok (.getfield 70, 3) := by decide +kernel
theorem dX1_stop_79 : decode cX1_stop 79 = .ok (.invokevirtual 40, 3) := by decide +kernel
theorem dX1_stop_82 : decode cX1_stop 82 = .ok (.iconst 1, 1) := by decide +kernel
theorem dX1_stop_83 : decode cX1_stop 83 = .ok (.isub, 1) := by decide +kernel
theorem dX1_stop_84 : decode cX1_stop 84 = .ok (.invokevirtual 48, 3) := by decide +kernel
theorem dX1_stop_87 : decode cX1_stop 87 = .ok (.checkcast 92, 3) := by decide +kernel
theorem dX1_stop_90 : decode cX1_stop 90 = .ok (.astore 5, 2) := by decide +kernel
theorem dX1_stop_92 : decode cX1_stop 92 = .ok (.aload 5, 2) := by decide +kernel
theorem dX1_stop_94 : decode cX1_stop 94 = .ok (.ifnull 26, 3) := by decide +kernel
theorem dX1_stop_97 : decode cX1_stop 97 = .ok (.aload 5, 2) := by decide +kernel
theorem dX1_stop_99 : decode cX1_stop 99 = .ok (.getfield 94, 3) := by decide +kernel
theorem dX1_stop_102 : decode cX1_stop 102 = .ok (.iload_n 3, 1) := by decide +kernel
theorem dX1_stop_103 : decode cX1_stop 103 = .ok (.if_icmp .ge 15, 3) := by decide +kernel
theorem dX1_stop_106 : decode cX1_stop 106 = .ok (.aload 5, 2) := by decide +kernel
theorem dX1_stop_108 : decode cX1_stop 108 = .ok (.getfield 98, 3) := by decide +kernel
theorem dX1_stop_111 : decode cX1_stop 111 = .ok (.getfield 102, 3) := by decide +kernel
theorem dX1_stop_114 : decode cX1_stop 114 = .ok (.iload_n 2, 1) := by decide +kernel
theorem dX1_stop_115 : decode cX1_stop 115 = .ok (.if_icmp .ne 5, 3) := by decide +kernel
theorem dX1_stop_118 : decode cX1_stop 118 = .ok (.iconst (-1), 1) := by decide +kernel
theorem dX1_stop_119 : decode cX1_stop 119 = .ok (.ireturn, 1) := by decide +kernel
theorem dX1_stop_120 : decode cX1_stop 120 = .ok (.aload 4, 2) := by decide +kernel
theorem dX1_stop_122 : decode cX1_stop 122 = .ok (.getfield 70, 3) := by decide +kernel
theorem dX1_stop_125 : decode cX1_stop 125 = .ok (.new 92, 3) := by decide +kernel
theorem dX1_stop_128 : decode cX1_stop 128 = .ok (.dup, 1) := by decide +kernel
theorem dX1_stop_129 : decode cX1_stop 129 = .ok (.aload_n 0, 1) := by decide +kernel
theorem dX1_stop_130 : decode cX1_stop 130 = .ok (.getfield 12, 3) := by decide +kernel
theorem dX1_stop_133 : decode cX1_stop 133 = .ok (.iload_n 2, 1) := by decide +kernel
theorem dX1_stop_134 : decode cX1_stop 134 = .ok (.invokevirtual 48, 3) := by decide +kernel
theorem dX1_stop_137 : decode cX1_stop 137 = .ok (.checkcast 56, 3) := by decide +kernel
theorem dX1_stop_140 : decode cX1_stop 140 = .ok (.iload_n 3, 1) := by decide +kernel
theorem dX1_stop_141 : decode cX1_stop 141 = .ok (.invokespecial 105, 3) := by decide +kernel
theorem dX1_stop_144 : decode cX1_stop 144 = .ok (.invokevirtual 61, 3) := by decide +kernel
theorem dX1_stop_147 : decode cX1_stop 147 = .ok (.pop, 1) := by decide +kernel
theorem dX1_stop_148 : decode cX1_stop 148 = .ok (.aload 4, 2) := by decide +kernel
theorem dX1_stop_150 : decode cX1_stop 150 = .ok (.getfield 70, 3) := by decide +kernel
theorem dX1_stop_153 : decode cX1_stop 153 = .ok (.invokevirtual 40, 3) := by decide +kernel
theorem dX1_stop_156 : decode cX1_stop 156 = .ok (.iconst 1, 1) := by decide +kernel
theorem dX1_stop_157 : decode cX1_stop 157 = .ok (.isub, 1) := by decide +kernel
theorem dX1_stop_158 : decode cX1_stop 158 = .ok (.ireturn, 1) := by decide +kernel
abbrev cX1_trainAt : ByteArray := prog_1_method_4_code
def yX1_trainAt : MethodName := ⟨RX1, "trainAt", "(I)LLunchMarks$Train;"⟩
theorem dX1_trainAt_0 : decode cX1_trainAt 0 = .ok (.iload_n 1, 1) := by decide +kernel
theorem dX1_trainAt_1 : decode cX1_trainAt 1 = .ok (.ifCond .lt 18, 3) := by decide +kernel
theorem dX1_trainAt_4 : decode cX1_trainAt 4 = .ok (.iload_n 1, 1) := by decide +kernel
theorem dX1_trainAt_5 : decode cX1_trainAt 5 = .ok (.aload_n 0, 1) := by decide +kernel
theorem dX1_trainAt_6 : decode cX1_trainAt 6 = .ok (.getfield 18, 3) := by decide +kernel
theorem dX1_trainAt_9 : decode cX1_trainAt 9 = .ok (.invokevirtual 40, 3) := by decide +kernel
theorem dX1_trainAt_12 : decode cX1_trainAt 12 = .ok (.if_icmp .ge 7, 3) := by decide +kernel
theorem dX1_trainAt_15 : decode cX1_trainAt 15 = .ok (.iconst 1, 1) := by decide +kernel
theorem dX1_trainAt_16 : decode cX1_trainAt 16 = .ok (.goto 4, 3) := by decide +kernel
theorem dX1_trainAt_19 : decode cX1_trainAt 19 = .ok (.iconst 0, 1) := by decide +kernel
theorem dX1_trainAt_20 : decode cX1_trainAt 20 = .ok (.invokestatic 44, 3) := by decide +kernel
theorem dX1_trainAt_23 : decode cX1_trainAt 23 = .ok (.aload_n 0, 1) := by decide +kernel
theorem dX1_trainAt_24 : decode cX1_trainAt 24 = .ok (.getfield 18, 3) := by decide +kernel
theorem dX1_trainAt_27 : decode cX1_trainAt 27 = .ok (.iload_n 1, 1) := by decide +kernel
theorem dX1_trainAt_28 : decode cX1_trainAt 28 = .ok (.invokevirtual 48, 3) := by decide +kernel
theorem dX1_trainAt_31 : decode cX1_trainAt 31 = .ok (.checkcast 52, 3) := by decide +kernel
theorem dX1_trainAt_34 : decode cX1_trainAt 34 = .ok (.areturn, 1) := by decide +kernel
abbrev cX1_there : ByteArray := prog_1_method_2_code
def yX1_there : MethodName := ⟨RX1, "there", "(Z)V"⟩
theorem dX1_there_0 : decode cX1_there 0 = .ok (.iload_n 0, 1) := by decide +kernel
theorem dX1_there_1 : decode cX1_there 1 = .ok (.ifCond .ne 11, 3) := by decide +kernel
theorem dX1_there_4 : decode cX1_there 4 = .ok (.new 34, 3) := by decide +kernel
theorem dX1_there_7 : decode cX1_there 7 = .ok (.dup, 1) := by decide +kernel
theorem dX1_there_8 : decode cX1_there 8 = .ok (.invokespecial 36, 3) := by decide +kernel
theorem dX1_there_11 : decode cX1_there 11 = .ok (.athrow, 1) := by decide +kernel
theorem dX1_there_12 : decode cX1_there 12 = .ok (.return_, 1) := by decide +kernel
abbrev cX1_isPlanned : ByteArray := prog_1_method_11_code
def yX1_isPlanned : MethodName := ⟨RX1, "isPlanned", "(LLunchMarks$Train;)Z"⟩
theorem dX1_isPlanned_0 : decode cX1_isPlanned 0 = .ok (.iconst 0, 1) := by decide +kernel
theorem dX1_isPlanned_1 : decode cX1_isPlanned 1 = .ok (.istore_n 2, 1) := by decide +kernel
theorem dX1_isPlanned_2 : decode cX1_isPlanned 2 = .ok (.iconst 0, 1) := by decide +kernel
theorem dX1_isPlanned_3 : decode cX1_isPlanned 3 = .ok (.istore_n 3, 1) := by decide +kernel
theorem dX1_isPlanned_4 : decode cX1_isPlanned 4 = .ok (.iload_n 3, 1) := by decide +kernel
theorem dX1_isPlanned_5 : decode cX1_isPlanned 5 = .ok (.aload_n 0, 1) := by decide +kernel
theorem dX1_isPlanned_6 : decode cX1_isPlanned 6 = .ok (.getfield 21, 3) := by decide +kernel
theorem dX1_isPlanned_9 : decode cX1_isPlanned 9 = .ok (.invokevirtual 40, 3) := by decide +kernel
theorem dX1_isPlanned_12 : decode cX1_isPlanned 12 = .ok (.if_icmp .ge 61, 3) := by decide +kernel
theorem dX1_isPlanned_15 : decode cX1_isPlanned 15 = .ok (.iload_n 2, 1) := by decide +kernel
theorem dX1_isPlanned_16 : decode cX1_isPlanned 16 = .ok (.ifCond .ne 45, 3) := by decide +kernel
theorem dX1_isPlanned_19 : decode cX1_isPlanned 19 = .ok (.aload_n 0, 1) := by decide +kernel
theorem dX1_isPlanned_20 : decode cX1_isPlanned 20 = .ok (.getfield 21, 3) := by decide +kernel
theorem dX1_isPlanned_23 : decode cX1_isPlanned 23 = .ok (.iload_n 3, 1) := by decide +kernel
theorem dX1_isPlanned_24 : decode cX1_isPlanned 24 = .ok (.invokevirtual 48, 3) := by decide +kernel
theorem dX1_isPlanned_27 : decode cX1_isPlanned 27 = .ok (.checkcast 54, 3) := by decide +kernel
theorem dX1_isPlanned_30 : decode cX1_isPlanned 30 = .ok (.getfield 108, 3) := by decide +kernel
theorem dX1_isPlanned_33 : decode cX1_isPlanned 33 = .ok (.aload_n 1, 1) := by decide +kernel
theorem dX1_isPlanned_34 : decode cX1_isPlanned 34 = .ok (.invokevirtual 111, 3) := by decide +kernel
theorem dX1_isPlanned_37 : decode cX1_isPlanned 37 = .ok (.ifCond .ne 24, 3) := by decide +kernel
theorem dX1_isPlanned_40 : decode cX1_isPlanned 40 = .ok (.aload_n 0, 1) := by decide +kernel
theorem dX1_isPlanned_41 : decode cX1_isPlanned 41 = .ok (.getfield 21, 3) := by decide +kernel
theorem dX1_isPlanned_44 : decode cX1_isPlanned 44 = .ok (.iload_n 3, 1) := by decide +kernel
theorem dX1_isPlanned_45 : decode cX1_isPlanned 45 = .ok (.invokevirtual 48, 3) := by decide +kernel
theorem dX1_isPlanned_48 : decode cX1_isPlanned 48 = .ok (.checkcast 54, 3) := by decide +kernel
theorem dX1_isPlanned_51 : decode cX1_isPlanned 51 = .ok (.invokevirtual 116, 3) := by decide +kernel
theorem dX1_isPlanned_54 : decode cX1_isPlanned 54 = .ok (.aload_n 1, 1) := by decide +kernel
theorem dX1_isPlanned_55 : decode cX1_isPlanned 55 = .ok (.invokevirtual 111, 3) := by decide +kernel
theorem dX1_isPlanned_58 : decode cX1_isPlanned 58 = .ok (.ifCond .eq 7, 3) := by decide +kernel
theorem dX1_isPlanned_61 : decode cX1_isPlanned 61 = .ok (.iconst 1, 1) := by decide +kernel
theorem dX1_isPlanned_62 : decode cX1_isPlanned 62 = .ok (.goto 4, 3) := by decide +kernel
theorem dX1_isPlanned_65 : decode cX1_isPlanned 65 = .ok (.iconst 0, 1) := by decide +kernel
theorem dX1_isPlanned_66 : decode cX1_isPlanned 66 = .ok (.istore_n 2, 1) := by decide +kernel
theorem dX1_isPlanned_67 : decode cX1_isPlanned 67 = .ok (.iinc 3 1, 3) := by decide +kernel
theorem dX1_isPlanned_70 : decode cX1_isPlanned 70 = .ok (.goto (-66), 3) := by decide +kernel
theorem dX1_isPlanned_73 : decode cX1_isPlanned 73 = .ok (.iload_n 2, 1) := by decide +kernel
theorem dX1_isPlanned_74 : decode cX1_isPlanned 74 = .ok (.ireturn, 1) := by decide +kernel
abbrev cX1_minutes : ByteArray := prog_1_method_20_code
def yX1_minutes : MethodName := ⟨RX1, "minutes", "(I)I"⟩
theorem dX1_minutes_0 : decode cX1_minutes 0 = .ok (.iload_n 1, 1) := by decide +kernel
theorem dX1_minutes_1 : decode cX1_minutes 1 = .ok (.ifCond .lt 19, 3) := by decide +kernel
theorem dX1_minutes_4 : decode cX1_minutes 4 = .ok (.iload_n 1, 1) := by decide +kernel
theorem dX1_minutes_5 : decode cX1_minutes 5 = .ok (.sipush 1439, 3) := by decide +kernel
theorem dX1_minutes_8 : decode cX1_minutes 8 = .ok (.aload_n 0, 1) := by decide +kernel
theorem dX1_minutes_9 : decode cX1_minutes 9 = .ok (.getfield 199, 3) := by decide +kernel
theorem dX1_minutes_12 : decode cX1_minutes 12 = .ok (.isub, 1) := by decide +kernel
theorem dX1_minutes_13 : decode cX1_minutes 13 = .ok (.if_icmp .gt 7, 3) := by decide +kernel
theorem dX1_minutes_16 : decode cX1_minutes 16 = .ok (.iconst 1, 1) := by decide +kernel
theorem dX1_minutes_17 : decode cX1_minutes 17 = .ok (.goto 4, 3) := by decide +kernel
theorem dX1_minutes_20 : decode cX1_minutes 20 = .ok (.iconst 0, 1) := by decide +kernel
theorem dX1_minutes_21 : decode cX1_minutes 21 = .ok (.invokestatic 208, 3) := by decide +kernel
theorem dX1_minutes_24 : decode cX1_minutes 24 = .ok (.aload_n 0, 1) := by decide +kernel
theorem dX1_minutes_25 : decode cX1_minutes 25 = .ok (.dup, 1) := by decide +kernel
theorem dX1_minutes_26 : decode cX1_minutes 26 = .ok (.getfield 199, 3) := by decide +kernel
theorem dX1_minutes_29 : decode cX1_minutes 29 = .ok (.iload_n 1, 1) := by decide +kernel
theorem dX1_minutes_30 : decode cX1_minutes 30 = .ok (.iadd, 1) := by decide +kernel
theorem dX1_minutes_31 : decode cX1_minutes 31 = .ok (.putfield 199, 3) := by decide +kernel
theorem dX1_minutes_34 : decode cX1_minutes 34 = .ok (.aload_n 0, 1) := by decide +kernel
theorem dX1_minutes_35 : decode cX1_minutes 35 = .ok (.getfield 199, 3) := by decide +kernel
theorem dX1_minutes_38 : decode cX1_minutes 38 = .ok (.ireturn, 1) := by decide +kernel
abbrev cX1_right : ByteArray := prog_1_method_3_code
def yX1_right : MethodName := ⟨RX1, "right", "(Z)V"⟩
theorem dX1_right_0 : decode cX1_right 0 = .ok (.iload_n 0, 1) := by decide +kernel
theorem dX1_right_1 : decode cX1_right 1 = .ok (.ifCond .ne 11, 3) := by decide +kernel
theorem dX1_right_4 : decode cX1_right 4 = .ok (.new 37, 3) := by decide +kernel
theorem dX1_right_7 : decode cX1_right 7 = .ok (.dup, 1) := by decide +kernel
theorem dX1_right_8 : decode cX1_right 8 = .ok (.invokespecial 39, 3) := by decide +kernel
theorem dX1_right_11 : decode cX1_right 11 = .ok (.athrow, 1) := by decide +kernel
theorem dX1_right_12 : decode cX1_right 12 = .ok (.return_, 1) := by decide +kernel
abbrev cX1_cancel : ByteArray := prog_1_method_21_code
def yX1_cancel : MethodName := ⟨RX1, "cancel", "(I)I"⟩
theorem dX1_cancel_0 : decode cX1_cancel 0 = .ok (.aload_n 0, 1) := by decide +kernel
theorem dX1_cancel_1 : decode cX1_cancel 1 = .ok (.iload_n 1, 1) := by decide +kernel
theorem dX1_cancel_2 : decode cX1_cancel 2 = .ok (.invokevirtual 66, 3) := by decide +kernel
theorem dX1_cancel_5 : decode cX1_cancel 5 = .ok (.astore_n 2, 1) := by decide +kernel
theorem dX1_cancel_6 : decode cX1_cancel 6 = .ok (.aload_n 2, 1) := by decide +kernel
theorem dX1_cancel_7 : decode cX1_cancel 7 = .ok (.getfield 127, 3) := by decide +kernel
theorem dX1_cancel_10 : decode cX1_cancel 10 = .ok (.ifCond .ne 34, 3) := by decide +kernel
theorem dX1_cancel_13 : decode cX1_cancel 13 = .ok (.aload_n 2, 1) := by decide +kernel
theorem dX1_cancel_14 : decode cX1_cancel 14 = .ok (.getfield 70, 3) := by decide +kernel
theorem dX1_cancel_17 : decode cX1_cancel 17 = .ok (.invokevirtual 88, 3) := by decide +kernel
theorem dX1_cancel_20 : decode cX1_cancel 20 = .ok (.ifCond .ne 24, 3) := by decide +kernel
theorem dX1_cancel_23 : decode cX1_cancel 23 = .ok (.aload_n 2, 1) := by decide +kernel
theorem dX1_cancel_24 : decode cX1_cancel 24 = .ok (.getfield 70, 3) := by decide +kernel
theorem dX1_cancel_27 : decode cX1_cancel 27 = .ok (.iconst 0, 1) := by decide +kernel
theorem dX1_cancel_28 : decode cX1_cancel 28 = .ok (.invokevirtual 48, 3) := by decide +kernel
theorem dX1_cancel_31 : decode cX1_cancel 31 = .ok (.checkcast 92, 3) := by decide +kernel
theorem dX1_cancel_34 : decode cX1_cancel 34 = .ok (.getfield 94, 3) := by decide +kernel
theorem dX1_cancel_37 : decode cX1_cancel 37 = .ok (.aload_n 0, 1) := by decide +kernel
theorem dX1_cancel_38 : decode cX1_cancel 38 = .ok (.getfield 199, 3) := by decide +kernel
theorem dX1_cancel_41 : decode cX1_cancel 41 = .ok (.if_icmp .gt 5, 3) := by decide +kernel
theorem dX1_cancel_44 : decode cX1_cancel 44 = .ok (.iconst (-1), 1) := by decide +kernel
theorem dX1_cancel_45 : decode cX1_cancel 45 = .ok (.ireturn, 1) := by decide +kernel
theorem dX1_cancel_46 : decode cX1_cancel 46 = .ok (.aload_n 2, 1) := by decide +kernel
theorem dX1_cancel_47 : decode cX1_cancel 47 = .ok (.iconst 1, 1) := by decide +kernel
theorem dX1_cancel_48 : decode cX1_cancel 48 = .ok (.putfield 127, 3) := by decide +kernel
theorem dX1_cancel_51 : decode cX1_cancel 51 = .ok (.new 7, 3) := by decide +kernel
theorem dX1_cancel_54 : decode cX1_cancel 54 = .ok (.dup, 1) := by decide +kernel
theorem dX1_cancel_55 : decode cX1_cancel 55 = .ok (.iconst 2, 1) := by decide +kernel
theorem dX1_cancel_56 : decode cX1_cancel 56 = .ok (.invokespecial 9, 3) := by decide +kernel
theorem dX1_cancel_59 : decode cX1_cancel 59 = .ok (.astore_n 3, 1) := by decide +kernel
theorem dX1_cancel_60 : decode cX1_cancel 60 = .ok (.iconst 0, 1) := by decide +kernel
theorem dX1_cancel_61 : decode cX1_cancel 61 = .ok (.istore 4, 2) := by decide +kernel
theorem dX1_cancel_63 : decode cX1_cancel 63 = .ok (.iload 4, 2) := by decide +kernel
theorem dX1_cancel_65 : decode cX1_cancel 65 = .ok (.aload_n 0, 1) := by decide +kernel
theorem dX1_cancel_66 : decode cX1_cancel 66 = .ok (.getfield 21, 3) := by decide +kernel
theorem dX1_cancel_69 : decode cX1_cancel 69 = .ok (.invokevirtual 40, 3) := by decide +kernel
theorem dX1_cancel_72 : decode cX1_cancel 72 = .ok (.if_icmp .ge 51, 3) := by decide +kernel
theorem dX1_cancel_75 : decode cX1_cancel 75 = .ok (.aload_n 0, 1) := by decide +kernel
theorem dX1_cancel_76 : decode cX1_cancel 76 = .ok (.getfield 21, 3) := by decide +kernel
theorem dX1_cancel_79 : decode cX1_cancel 79 = .ok (.iload 4, 2) := by decide +kernel
theorem dX1_cancel_81 : decode cX1_cancel 81 = .ok (.invokevirtual 48, 3) := by decide +kernel
theorem dX1_cancel_84 : decode cX1_cancel 84 = .ok (.checkcast 54, 3) := by decide +kernel
theorem dX1_cancel_87 : decode cX1_cancel 87 = .ok (.invokevirtual 116, 3) := by decide +kernel
theorem dX1_cancel_90 : decode cX1_cancel 90 = .ok (.astore 5, 2) := by decide +kernel
theorem dX1_cancel_92 : decode cX1_cancel 92 = .ok (.aload 5, 2) := by decide +kernel
theorem dX1_cancel_94 : decode cX1_cancel 94 = .ok (.aload_n 2, 1) := by decide +kernel
theorem dX1_cancel_95 : decode cX1_cancel 95 = .ok (.invokevirtual 111, 3) := by decide +kernel
theorem dX1_cancel_98 : decode cX1_cancel 98 = .ok (.ifCond .ne 6, 3) := by decide +kernel
theorem dX1_cancel_101 : decode cX1_cancel 101 = .ok (.goto 16, 3) := by decide +kernel
theorem dX1_cancel_104 : decode cX1_cancel 104 = .ok (.aload 5, 2) := by decide +kernel
theorem dX1_cancel_106 : decode cX1_cancel 106 = .ok (.aload_n 2, 1) := by decide +kernel
theorem dX1_cancel_107 : decode cX1_cancel 107 = .ok (.invokevirtual 211, 3) := by decide +kernel
theorem dX1_cancel_110 : decode cX1_cancel 110 = .ok (.aload_n 3, 1) := by decide +kernel
theorem dX1_cancel_111 : decode cX1_cancel 111 = .ok (.aload 5, 2) := by decide +kernel
theorem dX1_cancel_113 : decode cX1_cancel 113 = .ok (.invokevirtual 61, 3) := by decide +kernel
theorem dX1_cancel_116 : decode cX1_cancel 116 = .ok (.pop, 1) := by decide +kernel
theorem dX1_cancel_117 : decode cX1_cancel 117 = .ok (.iinc 4 1, 3) := by decide +kernel
theorem dX1_cancel_120 : decode cX1_cancel 120 = .ok (.goto (-57), 3) := by decide +kernel
theorem dX1_cancel_123 : decode cX1_cancel 123 = .ok (.iconst 0, 1) := by decide +kernel
theorem dX1_cancel_124 : decode cX1_cancel 124 = .ok (.istore 4, 2) := by decide +kernel
theorem dX1_cancel_126 : decode cX1_cancel 126 = .ok (.iload 4, 2) := by decide +kernel
theorem dX1_cancel_128 : decode cX1_cancel 128 = .ok (.aload_n 3, 1) := by decide +kernel
theorem dX1_cancel_129 : decode cX1_cancel 129 = .ok (.invokevirtual 40, 3) := by decide +kernel
theorem dX1_cancel_132 : decode cX1_cancel 132 = .ok (.if_icmp .ge 61, 3) := by decide +kernel
theorem dX1_cancel_135 : decode cX1_cancel 135 = .ok (.aload_n 3, 1) := by decide +kernel
theorem dX1_cancel_136 : decode cX1_cancel 136 = .ok (.iload 4, 2) := by decide +kernel
theorem dX1_cancel_138 : decode cX1_cancel 138 = .ok (.invokevirtual 48, 3) := by decide +kernel
theorem dX1_cancel_141 : decode cX1_cancel 141 = .ok (.checkcast 112, 3) := by decide +kernel
theorem dX1_cancel_144 : decode cX1_cancel 144 = .ok (.astore 5, 2) := by decide +kernel
theorem dX1_cancel_146 : decode cX1_cancel 146 = .ok (.aload_n 0, 1) := by decide +kernel
theorem dX1_cancel_147 : decode cX1_cancel 147 = .ok (.aload 5, 2) := by decide +kernel
theorem dX1_cancel_149 : decode cX1_cancel 149 = .ok (.aload_n 0, 1) := by decide +kernel
theorem dX1_cancel_150 : decode cX1_cancel 150 = .ok (.getfield 199, 3) := by decide +kernel
theorem dX1_cancel_153 : decode cX1_cancel 153 = .ok (.invokevirtual 205, 3) := by decide +kernel
theorem dX1_cancel_156 : decode cX1_cancel 156 = .ok (.ifCond .eq 6, 3) := by decide +kernel
theorem dX1_cancel_159 : decode cX1_cancel 159 = .ok (.goto 28, 3) := by decide +kernel
theorem dX1_cancel_162 : decode cX1_cancel 162 = .ok (.aload 5, 2) := by decide +kernel
theorem dX1_cancel_164 : decode cX1_cancel 164 = .ok (.getstatic 215, 3) := by decide +kernel
theorem dX1_cancel_167 : decode cX1_cancel 167 = .ok (.putfield 187, 3) := by decide +kernel
theorem dX1_cancel_170 : decode cX1_cancel 170 = .ok (.aload 5, 2) := by decide +kernel
theorem dX1_cancel_172 : decode cX1_cancel 172 = .ok (.aload 5, 2) := by decide +kernel
theorem dX1_cancel_174 : decode cX1_cancel 174 = .ok (.invokevirtual 158, 3) := by decide +kernel
theorem dX1_cancel_177 : decode cX1_cancel 177 = .ok (.aload_n 0, 1) := by decide +kernel
theorem dX1_cancel_178 : decode cX1_cancel 178 = .ok (.getfield 199, 3) := by decide +kernel
theorem dX1_cancel_181 : decode cX1_cancel 181 = .ok (.invokestatic 148, 3) := by decide +kernel
theorem dX1_cancel_184 : decode cX1_cancel 184 = .ok (.putfield 202, 3) := by decide +kernel
theorem dX1_cancel_187 : decode cX1_cancel 187 = .ok (.iinc 4 1, 3) := by decide +kernel
theorem dX1_cancel_190 : decode cX1_cancel 190 = .ok (.goto (-64), 3) := by decide +kernel
theorem dX1_cancel_193 : decode cX1_cancel 193 = .ok (.aload_n 3, 1) := by decide +kernel
theorem dX1_cancel_194 : decode cX1_cancel 194 = .ok (.invokevirtual 40, 3) := by decide +kernel
theorem dX1_cancel_197 : decode cX1_cancel 197 = .ok (.ireturn, 1) := by decide +kernel
abbrev cX1_empty : ByteArray := prog_1_method_22_code
def yX1_empty : MethodName := ⟨RX1, "empty", "(II)Z"⟩
theorem dX1_empty_0 : decode cX1_empty 0 = .ok (.aload_n 0, 1) := by decide +kernel
theorem dX1_empty_1 : decode cX1_empty 1 = .ok (.iload_n 1, 1) := by decide +kernel
theorem dX1_empty_2 : decode cX1_empty 2 = .ok (.invokevirtual 218, 3) := by decide +kernel
theorem dX1_empty_5 : decode cX1_empty 5 = .ok (.astore_n 3, 1) := by decide +kernel
theorem dX1_empty_6 : decode cX1_empty 6 = .ok (.aload_n 3, 1) := by decide +kernel
theorem dX1_empty_7 : decode cX1_empty 7 = .ok (.getfield 222, 3) := by decide +kernel
theorem dX1_empty_10 : decode cX1_empty 10 = .ok (.ifnonnull 45, 3) := by decide +kernel
theorem dX1_empty_13 : decode cX1_empty 13 = .ok (.aload_n 3, 1) := by decide +kernel
theorem dX1_empty_14 : decode cX1_empty 14 = .ok (.getfield 108, 3) := by decide +kernel
theorem dX1_empty_17 : decode cX1_empty 17 = .ok (.getfield 187, 3) := by decide +kernel
theorem dX1_empty_20 : decode cX1_empty 20 = .ok (.getstatic 181, 3) := by decide +kernel
theorem dX1_empty_23 : decode cX1_empty 23 = .ok (.if_acmp .ne 32, 3) := by decide +kernel
theorem dX1_empty_26 : decode cX1_empty 26 = .ok (.aload_n 3, 1) := by decide +kernel
theorem dX1_empty_27 : decode cX1_empty 27 = .ok (.getfield 108, 3) := by decide +kernel
theorem dX1_empty_30 : decode cX1_empty 30 = .ok (.invokevirtual 225, 3) := by decide +kernel
theorem dX1_empty_33 : decode cX1_empty 33 = .ok (.aload_n 0, 1) := by decide +kernel
theorem dX1_empty_34 : decode cX1_empty 34 = .ok (.getfield 199, 3) := by decide +kernel
theorem dX1_empty_37 : decode cX1_empty 37 = .ok (.if_icmp .gt 18, 3) := by decide +kernel
theorem dX1_empty_40 : decode cX1_empty 40 = .ok (.iload_n 2, 1) := by decide +kernel
theorem dX1_empty_41 : decode cX1_empty 41 = .ok (.invokestatic 77, 3) := by decide +kernel
theorem dX1_empty_44 : decode cX1_empty 44 = .ok (.ifCond .eq 11, 3) := by decide +kernel
theorem dX1_empty_47 : decode cX1_empty 47 = .ok (.iload_n 2, 1) := by decide +kernel
theorem dX1_empty_48 : decode cX1_empty 48 = .ok (.aload_n 0, 1) := by decide +kernel
theorem dX1_empty_49 : decode cX1_empty 49 = .ok (.getfield 199, 3) := by decide +kernel
theorem dX1_empty_52 : decode cX1_empty 52 = .ok (.if_icmp .ge 5, 3) := by decide +kernel
theorem dX1_empty_55 : decode cX1_empty 55 = .ok (.iconst 0, 1) := by decide +kernel
theorem dX1_empty_56 : decode cX1_empty 56 = .ok (.ireturn, 1) := by decide +kernel
theorem dX1_empty_57 : decode cX1_empty 57 = .ok (.aload_n 3, 1) := by decide +kernel
theorem dX1_empty_58 : decode cX1_empty 58 = .ok (.new 112, 3) := by decide +kernel
theorem dX1_empty_61 : decode cX1_empty 61 = .ok (.dup, 1) := by decide +kernel
theorem dX1_empty_62 : decode cX1_empty 62 = .ok (.aload_n 3, 1) := by decide +kernel
theorem dX1_empty_63 : decode cX1_empty 63 = .ok (.getfield 228, 3) := by decide +kernel
theorem dX1_empty_66 : decode cX1_empty 66 = .ok (.aload_n 3, 1) := by decide +kernel
theorem dX1_empty_67 : decode cX1_empty 67 = .ok (.getfield 231, 3) := by decide +kernel
theorem dX1_empty_70 : decode cX1_empty 70 = .ok (.iload_n 2, 1) := by decide +kernel
theorem dX1_empty_71 : decode cX1_empty 71 = .ok (.aload_n 3, 1) := by decide +kernel
theorem dX1_empty_72 : decode cX1_empty 72 = .ok (.getfield 234, 3) := by decide +kernel
theorem dX1_empty_75 : decode cX1_empty 75 = .ok (.aload_n 3, 1) := by decide +kernel
theorem dX1_empty_76 : decode cX1_empty 76 = .ok (.getfield 237, 3) := by decide +kernel
theorem dX1_empty_79 : decode cX1_empty 79 = .ok (.sipush 1439, 3) := by decide +kernel
theorem dX1_empty_82 : decode cX1_empty 82 = .ok (.invokespecial 240, 3) := by decide +kernel
theorem dX1_empty_85 : decode cX1_empty 85 = .ok (.putfield 222, 3) := by decide +kernel
theorem dX1_empty_88 : decode cX1_empty 88 = .ok (.iconst 1, 1) := by decide +kernel
theorem dX1_empty_89 : decode cX1_empty 89 = .ok (.ireturn, 1) := by decide +kernel
abbrev cX1_boxAt : ByteArray := prog_1_method_5_code
def yX1_boxAt : MethodName := ⟨RX1, "boxAt", "(I)LLunchMarks$Box;"⟩
theorem dX1_boxAt_0 : decode cX1_boxAt 0 = .ok (.iload_n 1, 1) := by decide +kernel
theorem dX1_boxAt_1 : decode cX1_boxAt 1 = .ok (.ifCond .lt 18, 3) := by decide +kernel
theorem dX1_boxAt_4 : decode cX1_boxAt 4 = .ok (.iload_n 1, 1) := by decide +kernel
theorem dX1_boxAt_5 : decode cX1_boxAt 5 = .ok (.aload_n 0, 1) := by decide +kernel
theorem dX1_boxAt_6 : decode cX1_boxAt 6 = .ok (.getfield 21, 3) := by decide +kernel
theorem dX1_boxAt_9 : decode cX1_boxAt 9 = .ok (.invokevirtual 40, 3) := by decide +kernel
theorem dX1_boxAt_12 : decode cX1_boxAt 12 = .ok (.if_icmp .ge 7, 3) := by decide +kernel
theorem dX1_boxAt_15 : decode cX1_boxAt 15 = .ok (.iconst 1, 1) := by decide +kernel
theorem dX1_boxAt_16 : decode cX1_boxAt 16 = .ok (.goto 4, 3) := by decide +kernel
theorem dX1_boxAt_19 : decode cX1_boxAt 19 = .ok (.iconst 0, 1) := by decide +kernel
theorem dX1_boxAt_20 : decode cX1_boxAt 20 = .ok (.invokestatic 44, 3) := by decide +kernel
theorem dX1_boxAt_23 : decode cX1_boxAt 23 = .ok (.aload_n 0, 1) := by decide +kernel
theorem dX1_boxAt_24 : decode cX1_boxAt 24 = .ok (.getfield 21, 3) := by decide +kernel
theorem dX1_boxAt_27 : decode cX1_boxAt 27 = .ok (.iload_n 1, 1) := by decide +kernel
theorem dX1_boxAt_28 : decode cX1_boxAt 28 = .ok (.invokevirtual 48, 3) := by decide +kernel
theorem dX1_boxAt_31 : decode cX1_boxAt 31 = .ok (.checkcast 54, 3) := by decide +kernel
theorem dX1_boxAt_34 : decode cX1_boxAt 34 = .ok (.areturn, 1) := by decide +kernel
abbrev cX1_of : ByteArray := prog_1_method_24_code
def yX1_of : MethodName := ⟨RX1, "of", "(II)I"⟩
theorem dX1_of_0 : decode cX1_of 0 = .ok (.aload_n 0, 1) := by decide +kernel
theorem dX1_of_1 : decode cX1_of 1 = .ok (.iload_n 1, 1) := by decide +kernel
theorem dX1_of_2 : decode cX1_of 2 = .ok (.invokevirtual 218, 3) := by decide +kernel
theorem dX1_of_5 : decode cX1_of 5 = .ok (.astore_n 3, 1) := by decide +kernel
theorem dX1_of_6 : decode cX1_of 6 = .ok (.iload_n 2, 1) := by decide +kernel
theorem dX1_of_7 : decode cX1_of 7 = .ok (.ifCond .lt 13, 3) := by decide +kernel
theorem dX1_of_10 : decode cX1_of 10 = .ok (.iload_n 2, 1) := by decide +kernel
theorem dX1_of_11 : decode cX1_of 11 = .ok (.bipush 6, 2) := by decide +kernel
theorem dX1_of_13 : decode cX1_of 13 = .ok (.if_icmp .gt 7, 3) := by decide +kernel
theorem dX1_of_16 : decode cX1_of 16 = .ok (.iconst 1, 1) := by decide +kernel
theorem dX1_of_17 : decode cX1_of 17 = .ok (.goto 4, 3) := by decide +kernel
theorem dX1_of_20 : decode cX1_of 20 = .ok (.iconst 0, 1) := by decide +kernel
theorem dX1_of_21 : decode cX1_of 21 = .ok (.invokestatic 44, 3) := by decide +kernel
theorem dX1_of_24 : decode cX1_of 24 = .ok (.aload_n 3, 1) := by decide +kernel
theorem dX1_of_25 : decode cX1_of 25 = .ok (.invokevirtual 116, 3) := by decide +kernel
theorem dX1_of_28 : decode cX1_of 28 = .ok (.astore 4, 2) := by decide +kernel
theorem dX1_of_30 : decode cX1_of 30 = .ok (.aload 4, 2) := by decide +kernel
theorem dX1_of_32 : decode cX1_of 32 = .ok (.getfield 187, 3) := by decide +kernel
theorem dX1_of_35 : decode cX1_of 35 = .ok (.getstatic 215, 3) := by decide +kernel
theorem dX1_of_38 : decode cX1_of 38 = .ok (.if_acmp .ne 7, 3) := by decide +kernel
theorem dX1_of_41 : decode cX1_of 41 = .ok (.iconst 1, 1) := by decide +kernel
theorem dX1_of_42 : decode cX1_of 42 = .ok (.goto 4, 3) := by decide +kernel
theorem dX1_of_45 : decode cX1_of 45 = .ok (.iconst 0, 1) := by decide +kernel
theorem dX1_of_46 : decode cX1_of 46 = .ok (.istore 5, 2) := by decide +kernel
theorem dX1_of_48 : decode cX1_of 48 = .ok (.iload_n 2, 1) := by decide +kernel
theorem dX1_of_49 : decode cX1_of 49 = .ok (.tableswitch 116 0 5 #[39, 48, 54, 69, 83, 101], 39) := by decide +kernel
theorem dX1_of_88 : decode cX1_of 88 = .ok (.aload 4, 2) := by decide +kernel
