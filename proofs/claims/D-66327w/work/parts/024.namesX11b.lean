set_option maxRecDepth 100000
theorem dX11_init_0 : decode cX11_init 0 = .ok (.aload_n 0, 1) := by decide +kernel
theorem dX11_init_1 : decode cX11_init 1 = .ok (.invokespecial 1, 3) := by decide +kernel
theorem dX11_init_4 : decode cX11_init 4 = .ok (.aload_n 0, 1) := by decide +kernel
theorem dX11_init_5 : decode cX11_init 5 = .ok (.bipush 12, 2) := by decide +kernel
theorem dX11_init_7 : decode cX11_init 7 = .ok (.newarray .int, 2) := by decide +kernel
theorem dX11_init_9 : decode cX11_init 9 = .ok (.putfield 7, 3) := by decide +kernel
theorem dX11_init_12 : decode cX11_init 12 = .ok (.aload_n 0, 1) := by decide +kernel
theorem dX11_init_13 : decode cX11_init 13 = .ok (.bipush 12, 2) := by decide +kernel
theorem dX11_init_15 : decode cX11_init 15 = .ok (.newarray .int, 2) := by decide +kernel
theorem dX11_init_17 : decode cX11_init 17 = .ok (.putfield 13, 3) := by decide +kernel
theorem dX11_init_20 : decode cX11_init 20 = .ok (.aload_n 0, 1) := by decide +kernel
theorem dX11_init_21 : decode cX11_init 21 = .ok (.bipush 12, 2) := by decide +kernel
theorem dX11_init_23 : decode cX11_init 23 = .ok (.newarray .int, 2) := by decide +kernel
theorem dX11_init_25 : decode cX11_init 25 = .ok (.putfield 16, 3) := by decide +kernel
theorem dX11_init_28 : decode cX11_init 28 = .ok (.aload_n 0, 1) := by decide +kernel
theorem dX11_init_29 : decode cX11_init 29 = .ok (.bipush 12, 2) := by decide +kernel
theorem dX11_init_31 : decode cX11_init 31 = .ok (.newarray .int, 2) := by decide +kernel
theorem dX11_init_33 : decode cX11_init 33 = .ok (.putfield 19, 3) := by decide +kernel
theorem dX11_init_36 : decode cX11_init 36 = .ok (.aload_n 0, 1) := by decide +kernel
theorem dX11_init_37 : decode cX11_init 37 = .ok (.bipush 12, 2) := by decide +kernel
theorem dX11_init_39 : decode cX11_init 39 = .ok (.newarray .int, 2) := by decide +kernel
theorem dX11_init_41 : decode cX11_init 41 = .ok (.putfield 22, 3) := by decide +kernel
theorem dX11_init_44 : decode cX11_init 44 = .ok (.aload_n 0, 1) := by decide +kernel
theorem dX11_init_45 : decode cX11_init 45 = .ok (.bipush 12, 2) := by decide +kernel
theorem dX11_init_47 : decode cX11_init 47 = .ok (.newarray .int, 2) := by decide +kernel
theorem dX11_init_49 : decode cX11_init 49 = .ok (.putfield 25, 3) := by decide +kernel
theorem dX11_init_52 : decode cX11_init 52 = .ok (.aload_n 0, 1) := by decide +kernel
theorem dX11_init_53 : decode cX11_init 53 = .ok (.bipush 12, 2) := by decide +kernel
theorem dX11_init_55 : decode cX11_init 55 = .ok (.newarray .int, 2) := by decide +kernel
theorem dX11_init_57 : decode cX11_init 57 = .ok (.putfield 28, 3) := by decide +kernel
theorem dX11_init_60 : decode cX11_init 60 = .ok (.aload_n 0, 1) := by decide +kernel
theorem dX11_init_61 : decode cX11_init 61 = .ok (.bipush 12, 2) := by decide +kernel
theorem dX11_init_63 : decode cX11_init 63 = .ok (.newarray .int, 2) := by decide +kernel
theorem dX11_init_65 : decode cX11_init 65 = .ok (.putfield 31, 3) := by decide +kernel
theorem dX11_init_68 : decode cX11_init 68 = .ok (.aload_n 0, 1) := by decide +kernel
theorem dX11_init_69 : decode cX11_init 69 = .ok (.bipush 12, 2) := by decide +kernel
theorem dX11_init_71 : decode cX11_init 71 = .ok (.newarray .int, 2) := by decide +kernel
theorem dX11_init_73 : decode cX11_init 73 = .ok (.putfield 34, 3) := by decide +kernel
theorem dX11_init_76 : decode cX11_init 76 = .ok (.aload_n 0, 1) := by decide +kernel
theorem dX11_init_77 : decode cX11_init 77 = .ok (.bipush 12, 2) := by decide +kernel
theorem dX11_init_79 : decode cX11_init 79 = .ok (.newarray .int, 2) := by decide +kernel
theorem dX11_init_81 : decode cX11_init 81 = .ok (.putfield 37, 3) := by decide +kernel
theorem dX11_init_84 : decode cX11_init 84 = .ok (.aload_n 0, 1) := by decide +kernel
theorem dX11_init_85 : decode cX11_init 85 = .ok (.sipush 144, 3) := by decide +kernel
theorem dX11_init_88 : decode cX11_init 88 = .ok (.newarray .int, 2) := by decide +kernel
theorem dX11_init_90 : decode cX11_init 90 = .ok (.putfield 40, 3) := by decide +kernel
theorem dX11_init_93 : decode cX11_init 93 = .ok (.aload_n 0, 1) := by decide +kernel
theorem dX11_init_94 : decode cX11_init 94 = .ok (.sipush 144, 3) := by decide +kernel
theorem dX11_init_97 : decode cX11_init 97 = .ok (.newarray .int, 2) := by decide +kernel
theorem dX11_init_99 : decode cX11_init 99 = .ok (.putfield 43, 3) := by decide +kernel
theorem dX11_init_102 : decode cX11_init 102 = .ok (.aload_n 0, 1) := by decide +kernel
theorem dX11_init_103 : decode cX11_init 103 = .ok (.sipush 144, 3) := by decide +kernel
theorem dX11_init_106 : decode cX11_init 106 = .ok (.newarray .int, 2) := by decide +kernel
theorem dX11_init_108 : decode cX11_init 108 = .ok (.putfield 46, 3) := by decide +kernel
theorem dX11_init_111 : decode cX11_init 111 = .ok (.aload_n 0, 1) := by decide +kernel
theorem dX11_init_112 : decode cX11_init 112 = .ok (.iconst 3, 1) := by decide +kernel
theorem dX11_init_113 : decode cX11_init 113 = .ok (.newarray .int, 2) := by decide +kernel
theorem dX11_init_115 : decode cX11_init 115 = .ok (.putfield 49, 3) := by decide +kernel
theorem dX11_init_118 : decode cX11_init 118 = .ok (.aload_n 0, 1) := by decide +kernel
theorem dX11_init_119 : decode cX11_init 119 = .ok (.bipush 72, 2) := by decide +kernel
theorem dX11_init_121 : decode cX11_init 121 = .ok (.newarray .int, 2) := by decide +kernel
theorem dX11_init_123 : decode cX11_init 123 = .ok (.putfield 52, 3) := by decide +kernel
theorem dX11_init_126 : decode cX11_init 126 = .ok (.aload_n 0, 1) := by decide +kernel
theorem dX11_init_127 : decode cX11_init 127 = .ok (.bipush 72, 2) := by decide +kernel
theorem dX11_init_129 : decode cX11_init 129 = .ok (.newarray .int, 2) := by decide +kernel
theorem dX11_init_131 : decode cX11_init 131 = .ok (.putfield 55, 3) := by decide +kernel
theorem dX11_init_134 : decode cX11_init 134 = .ok (.aload_n 0, 1) := by decide +kernel
theorem dX11_init_135 : decode cX11_init 135 = .ok (.bipush 72, 2) := by decide +kernel
theorem dX11_init_137 : decode cX11_init 137 = .ok (.newarray .int, 2) := by decide +kernel
theorem dX11_init_139 : decode cX11_init 139 = .ok (.putfield 58, 3) := by decide +kernel
theorem dX11_init_142 : decode cX11_init 142 = .ok (.aload_n 0, 1) := by decide +kernel
theorem dX11_init_143 : decode cX11_init 143 = .ok (.iconst 1, 1) := by decide +kernel
theorem dX11_init_144 : decode cX11_init 144 = .ok (.putfield 61, 3) := by decide +kernel
theorem dX11_init_147 : decode cX11_init 147 = .ok (.aload_n 0, 1) := by decide +kernel
theorem dX11_init_148 : decode cX11_init 148 = .ok (.bipush 12, 2) := by decide +kernel
theorem dX11_init_150 : decode cX11_init 150 = .ok (.newarray .boolean, 2) := by decide +kernel
theorem dX11_init_152 : decode cX11_init 152 = .ok (.putfield 65, 3) := by decide +kernel
theorem dX11_init_155 : decode cX11_init 155 = .ok (.aload_n 0, 1) := by decide +kernel
theorem dX11_init_156 : decode cX11_init 156 = .ok (.sipush 144, 3) := by decide +kernel
theorem dX11_init_159 : decode cX11_init 159 = .ok (.newarray .long, 2) := by decide +kernel
theorem dX11_init_161 : decode cX11_init 161 = .ok (.putfield 69, 3) := by decide +kernel
theorem dX11_init_164 : decode cX11_init 164 = .ok (.aload_n 0, 1) := by decide +kernel
theorem dX11_init_165 : decode cX11_init 165 = .ok (.sipush 144, 3) := by decide +kernel
theorem dX11_init_168 : decode cX11_init 168 = .ok (.newarray .long, 2) := by decide +kernel
theorem dX11_init_170 : decode cX11_init 170 = .ok (.putfield 73, 3) := by decide +kernel
theorem dX11_init_173 : decode cX11_init 173 = .ok (.aload_n 0, 1) := by decide +kernel
theorem dX11_init_174 : decode cX11_init 174 = .ok (.bipush 12, 2) := by decide +kernel
theorem dX11_init_176 : decode cX11_init 176 = .ok (.newarray .long, 2) := by decide +kernel
theorem dX11_init_178 : decode cX11_init 178 = .ok (.putfield 76, 3) := by decide +kernel
theorem dX11_init_181 : decode cX11_init 181 = .ok (.aload_n 0, 1) := by decide +kernel
theorem dX11_init_182 : decode cX11_init 182 = .ok (.bipush 13, 2) := by decide +kernel
theorem dX11_init_184 : decode cX11_init 184 = .ok (.newarray .long, 2) := by decide +kernel
theorem dX11_init_186 : decode cX11_init 186 = .ok (.putfield 79, 3) := by decide +kernel
theorem dX11_init_189 : decode cX11_init 189 = .ok (.aload_n 0, 1) := by decide +kernel
theorem dX11_init_190 : decode cX11_init 190 = .ok (.bipush 13, 2) := by decide +kernel
theorem dX11_init_192 : decode cX11_init 192 = .ok (.newarray .long, 2) := by decide +kernel
theorem dX11_init_194 : decode cX11_init 194 = .ok (.putfield 82, 3) := by decide +kernel
theorem dX11_init_197 : decode cX11_init 197 = .ok (.iconst 0, 1) := by decide +kernel
theorem dX11_init_198 : decode cX11_init 198 = .ok (.istore_n 1, 1) := by decide +kernel
theorem dX11_init_199 : decode cX11_init 199 = .ok (.iload_n 1, 1) := by decide +kernel
theorem dX11_init_200 : decode cX11_init 200 = .ok (.bipush 12, 2) := by decide +kernel
theorem dX11_init_202 : decode cX11_init 202 = .ok (.if_icmp .ge 16, 3) := by decide +kernel
theorem dX11_init_205 : decode cX11_init 205 = .ok (.aload_n 0, 1) := by decide +kernel
theorem dX11_init_206 : decode cX11_init 206 = .ok (.getfield 13, 3) := by decide +kernel
theorem dX11_init_209 : decode cX11_init 209 = .ok (.iload_n 1, 1) := by decide +kernel
theorem dX11_init_210 : decode cX11_init 210 = .ok (.iconst 1, 1) := by decide +kernel
theorem dX11_init_211 : decode cX11_init 211 = .ok (.iastore, 1) := by decide +kernel
theorem dX11_init_212 : decode cX11_init 212 = .ok (.iinc 1 1, 3) := by decide +kernel
theorem dX11_init_215 : decode cX11_init 215 = .ok (.goto (-16), 3) := by decide +kernel
theorem dX11_init_218 : decode cX11_init 218 = .ok (.return_, 1) := by decide +kernel
theorem dX11_thrown_0 : decode cX11_thrown 0 = .ok (.aload_n 0, 1) := by decide +kernel
theorem dX11_thrown_1 : decode cX11_thrown 1 = .ok (.getfield 85, 3) := by decide +kernel
theorem dX11_thrown_4 : decode cX11_thrown 4 = .ok (.ireturn, 1) := by decide +kernel
theorem dX11_item_0 : decode cX11_item 0 = .ok (.iload_n 2, 1) := by decide +kernel
theorem dX11_item_1 : decode cX11_item 1 = .ok (.iconst 0, 1) := by decide +kernel
theorem dX11_item_2 : decode cX11_item 2 = .ok (.iconst 3, 1) := by decide +kernel
theorem dX11_item_3 : decode cX11_item 3 = .ok (.invokestatic 89, 3) := by decide +kernel
theorem dX11_item_6 : decode cX11_item 6 = .ok (.ifCond .eq 40, 3) := by decide +kernel
theorem dX11_item_9 : decode cX11_item 9 = .ok (.iload_n 3, 1) := by decide +kernel
theorem dX11_item_10 : decode cX11_item 10 = .ok (.iconst 1, 1) := by decide +kernel
theorem dX11_item_11 : decode cX11_item 11 = .ok (.sipush 1000, 3) := by decide +kernel
theorem dX11_item_14 : decode cX11_item 14 = .ok (.invokestatic 89, 3) := by decide +kernel
theorem dX11_item_17 : decode cX11_item 17 = .ok (.ifCond .eq 29, 3) := by decide +kernel
theorem dX11_item_20 : decode cX11_item 20 = .ok (.iload 4, 2) := by decide +kernel
theorem dX11_item_22 : decode cX11_item 22 = .ok (.iconst 0, 1) := by decide +kernel
theorem dX11_item_23 : decode cX11_item 23 = .ok (.iconst 4, 1) := by decide +kernel
theorem dX11_item_24 : decode cX11_item 24 = .ok (.invokestatic 89, 3) := by decide +kernel
theorem dX11_item_27 : decode cX11_item 27 = .ok (.ifCond .eq 19, 3) := by decide +kernel
theorem dX11_item_30 : decode cX11_item 30 = .ok (.iload 5, 2) := by decide +kernel
theorem dX11_item_32 : decode cX11_item 32 = .ok (.iconst 0, 1) := by decide +kernel
theorem dX11_item_33 : decode cX11_item 33 = .ok (.sipush 1000, 3) := by decide +kernel
theorem dX11_item_36 : decode cX11_item 36 = .ok (.invokestatic 89, 3) := by decide +kernel
theorem dX11_item_39 : decode cX11_item 39 = .ok (.ifCond .eq 7, 3) := by decide +kernel
theorem dX11_item_42 : decode cX11_item 42 = .ok (.iconst 1, 1) := by decide +kernel
theorem dX11_item_43 : decode cX11_item 43 = .ok (.goto 4, 3) := by decide +kernel
theorem dX11_item_46 : decode cX11_item 46 = .ok (.iconst 0, 1) := by decide +kernel
theorem dX11_item_47 : decode cX11_item 47 = .ok (.istore 6, 2) := by decide +kernel
theorem dX11_item_49 : decode cX11_item 49 = .ok (.aload_n 0, 1) := by decide +kernel
theorem dX11_item_50 : decode cX11_item 50 = .ok (.iload_n 1, 1) := by decide +kernel
theorem dX11_item_51 : decode cX11_item 51 = .ok (.invokestatic 93, 3) := by decide +kernel
theorem dX11_item_54 : decode cX11_item 54 = .ok (.ifCond .ne 7, 3) := by decide +kernel
theorem dX11_item_57 : decode cX11_item 57 = .ok (.iconst 1, 1) := by decide +kernel
theorem dX11_item_58 : decode cX11_item 58 = .ok (.goto 13, 3) := by decide +kernel
theorem dX11_item_61 : decode cX11_item 61 = .ok (.iload 6, 2) := by decide +kernel
theorem dX11_item_63 : decode cX11_item 63 = .ok (.ifCond .ne 7, 3) := by decide +kernel
theorem dX11_item_66 : decode cX11_item 66 = .ok (.iconst 2, 1) := by decide +kernel
theorem dX11_item_67 : decode cX11_item 67 = .ok (.goto 4, 3) := by decide +kernel
theorem dX11_item_70 : decode cX11_item 70 = .ok (.iconst 0, 1) := by decide +kernel
theorem dX11_item_71 : decode cX11_item 71 = .ok (.invokevirtual 97, 3) := by decide +kernel
theorem dX11_item_74 : decode cX11_item 74 = .ok (.ifCond .ne 38, 3) := by decide +kernel
theorem dX11_item_77 : decode cX11_item 77 = .ok (.aload_n 0, 1) := by decide +kernel
theorem dX11_item_78 : decode cX11_item 78 = .ok (.getfield 7, 3) := by decide +kernel
theorem dX11_item_81 : decode cX11_item 81 = .ok (.iload_n 1, 1) := by decide +kernel
theorem dX11_item_82 : decode cX11_item 82 = .ok (.iload_n 2, 1) := by decide +kernel
theorem dX11_item_83 : decode cX11_item 83 = .ok (.iastore, 1) := by decide +kernel
theorem dX11_item_84 : decode cX11_item 84 = .ok (.aload_n 0, 1) := by decide +kernel
theorem dX11_item_85 : decode cX11_item 85 = .ok (.getfield 13, 3) := by decide +kernel
theorem dX11_item_88 : decode cX11_item 88 = .ok (.iload_n 1, 1) := by decide +kernel
theorem dX11_item_89 : decode cX11_item 89 = .ok (.iload_n 3, 1) := by decide +kernel
theorem dX11_item_90 : decode cX11_item 90 = .ok (.iastore, 1) := by decide +kernel
theorem dX11_item_91 : decode cX11_item 91 = .ok (.aload_n 0, 1) := by decide +kernel
theorem dX11_item_92 : decode cX11_item 92 = .ok (.getfield 16, 3) := by decide +kernel
theorem dX11_item_95 : decode cX11_item 95 = .ok (.iload_n 1, 1) := by decide +kernel
theorem dX11_item_96 : decode cX11_item 96 = .ok (.iload 4, 2) := by decide +kernel
theorem dX11_item_98 : decode cX11_item 98 = .ok (.iastore, 1) := by decide +kernel
theorem dX11_item_99 : decode cX11_item 99 = .ok (.aload_n 0, 1) := by decide +kernel
theorem dX11_item_100 : decode cX11_item 100 = .ok (.getfield 19, 3) := by decide +kernel
theorem dX11_item_103 : decode cX11_item 103 = .ok (.iload_n 1, 1) := by decide +kernel
theorem dX11_item_104 : decode cX11_item 104 = .ok (.iload 5, 2) := by decide +kernel
theorem dX11_item_106 : decode cX11_item 106 = .ok (.iastore, 1) := by decide +kernel
theorem dX11_item_107 : decode cX11_item 107 = .ok (.aload_n 0, 1) := by decide +kernel
theorem dX11_item_108 : decode cX11_item 108 = .ok (.iload_n 1, 1) := by decide +kernel
theorem dX11_item_109 : decode cX11_item 109 = .ok (.invokevirtual 100, 3) := by decide +kernel
theorem dX11_item_112 : decode cX11_item 112 = .ok (.return_, 1) := by decide +kernel
theorem dX11_isIn_0 : decode cX11_isIn 0 = .ok (.iload_n 0, 1) := by decide +kernel
theorem dX11_isIn_1 : decode cX11_isIn 1 = .ok (.iload_n 1, 1) := by decide +kernel
theorem dX11_isIn_2 : decode cX11_isIn 2 = .ok (.if_icmp .lt 12, 3) := by decide +kernel
theorem dX11_isIn_5 : decode cX11_isIn 5 = .ok (.iload_n 0, 1) := by decide +kernel
theorem dX11_isIn_6 : decode cX11_isIn 6 = .ok (.iload_n 2, 1) := by decide +kernel
theorem dX11_isIn_7 : decode cX11_isIn 7 = .ok (.if_icmp .gt 7, 3) := by decide +kernel
theorem dX11_isIn_10 : decode cX11_isIn 10 = .ok (.iconst 1, 1) := by decide +kernel
theorem dX11_isIn_11 : decode cX11_isIn 11 = .ok (.goto 4, 3) := by decide +kernel
theorem dX11_isIn_14 : decode cX11_isIn 14 = .ok (.iconst 0, 1) := by decide +kernel
theorem dX11_isIn_15 : decode cX11_isIn 15 = .ok (.ireturn, 1) := by decide +kernel
theorem dX11_isTwelve_0 : decode cX11_isTwelve 0 = .ok (.iload_n 0, 1) := by decide +kernel
theorem dX11_isTwelve_1 : decode cX11_isTwelve 1 = .ok (.iconst 0, 1) := by decide +kernel
theorem dX11_isTwelve_2 : decode cX11_isTwelve 2 = .ok (.bipush 11, 2) := by decide +kernel
theorem dX11_isTwelve_4 : decode cX11_isTwelve 4 = .ok (.invokestatic 89, 3) := by decide +kernel
theorem dX11_isTwelve_7 : decode cX11_isTwelve 7 = .ok (.ireturn, 1) := by decide +kernel
theorem dX11_refused_0 : decode cX11_refused 0 = .ok (.aload_n 0, 1) := by decide +kernel
theorem dX11_refused_1 : decode cX11_refused 1 = .ok (.iload_n 1, 1) := by decide +kernel
theorem dX11_refused_2 : decode cX11_refused 2 = .ok (.putfield 85, 3) := by decide +kernel
theorem dX11_refused_5 : decode cX11_refused 5 = .ok (.iload_n 1, 1) := by decide +kernel
theorem dX11_refused_6 : decode cX11_refused 6 = .ok (.ifCond .le 7, 3) := by decide +kernel
theorem dX11_refused_9 : decode cX11_refused 9 = .ok (.iconst 1, 1) := by decide +kernel
theorem dX11_refused_10 : decode cX11_refused 10 = .ok (.goto 4, 3) := by decide +kernel
theorem dX11_refused_13 : decode cX11_refused 13 = .ok (.iconst 0, 1) := by decide +kernel
theorem dX11_refused_14 : decode cX11_refused 14 = .ok (.ireturn, 1) := by decide +kernel
theorem dX11_tell_0 : decode cX11_tell 0 = .ok (.aload_n 0, 1) := by decide +kernel
theorem dX11_tell_1 : decode cX11_tell 1 = .ok (.getfield 65, 3) := by decide +kernel
theorem dX11_tell_4 : decode cX11_tell 4 = .ok (.iload_n 1, 1) := by decide +kernel
theorem dX11_tell_5 : decode cX11_tell 5 = .ok (.iconst 1, 1) := by decide +kernel
theorem dX11_tell_6 : decode cX11_tell 6 = .ok (.bastore, 1) := by decide +kernel
theorem dX11_tell_7 : decode cX11_tell 7 = .ok (.aload_n 0, 1) := by decide +kernel
theorem dX11_tell_8 : decode cX11_tell 8 = .ok (.iconst 1, 1) := by decide +kernel
theorem dX11_tell_9 : decode cX11_tell 9 = .ok (.putfield 61, 3) := by decide +kernel
theorem dX11_tell_12 : decode cX11_tell 12 = .ok (.return_, 1) := by decide +kernel
theorem dX11_costs_0 : decode cX11_costs 0 = .ok (.iload_n 2, 1) := by decide +kernel
theorem dX11_costs_1 : decode cX11_costs 1 = .ok (.iconst 0, 1) := by decide +kernel
theorem dX11_costs_2 : decode cX11_costs 2 = .ok (.sipush 200, 3) := by decide +kernel
theorem dX11_costs_5 : decode cX11_costs 5 = .ok (.invokestatic 89, 3) := by decide +kernel
theorem dX11_costs_8 : decode cX11_costs 8 = .ok (.ifCond .eq 28, 3) := by decide +kernel
theorem dX11_costs_11 : decode cX11_costs 11 = .ok (.iload_n 3, 1) := by decide +kernel
theorem dX11_costs_12 : decode cX11_costs 12 = .ok (.iconst 0, 1) := by decide +kernel
theorem dX11_costs_13 : decode cX11_costs 13 = .ok (.ldc 104, 2) := by decide +kernel
theorem dX11_costs_15 : decode cX11_costs 15 = .ok (.invokestatic 89, 3) := by decide +kernel
theorem dX11_costs_18 : decode cX11_costs 18 = .ok (.ifCond .eq 18, 3) := by decide +kernel
theorem dX11_costs_21 : decode cX11_costs 21 = .ok (.iload 4, 2) := by decide +kernel
theorem dX11_costs_23 : decode cX11_costs 23 = .ok (.iconst 0, 1) := by decide +kernel
theorem dX11_costs_24 : decode cX11_costs 24 = .ok (.bipush 100, 2) := by decide +kernel
theorem dX11_costs_26 : decode cX11_costs 26 = .ok (.invokestatic 89, 3) := by decide +kernel
theorem dX11_costs_29 : decode cX11_costs 29 = .ok (.ifCond .eq 7, 3) := by decide +kernel
theorem dX11_costs_32 : decode cX11_costs 32 = .ok (.iconst 1, 1) := by decide +kernel
theorem dX11_costs_33 : decode cX11_costs 33 = .ok (.goto 4, 3) := by decide +kernel
theorem dX11_costs_36 : decode cX11_costs 36 = .ok (.iconst 0, 1) := by decide +kernel
theorem dX11_costs_37 : decode cX11_costs 37 = .ok (.istore 5, 2) := by decide +kernel
theorem dX11_costs_39 : decode cX11_costs 39 = .ok (.aload_n 0, 1) := by decide +kernel
theorem dX11_costs_40 : decode cX11_costs 40 = .ok (.iload_n 1, 1) := by decide +kernel
theorem dX11_costs_41 : decode cX11_costs 41 = .ok (.invokestatic 93, 3) := by decide +kernel
theorem dX11_costs_44 : decode cX11_costs 44 = .ok (.ifCond .ne 7, 3) := by decide +kernel
theorem dX11_costs_47 : decode cX11_costs 47 = .ok (.iconst 1, 1) := by decide +kernel
theorem dX11_costs_48 : decode cX11_costs 48 = .ok (.goto 13, 3) := by decide +kernel
theorem dX11_costs_51 : decode cX11_costs 51 = .ok (.iload 5, 2) := by decide +kernel
theorem dX11_costs_53 : decode cX11_costs 53 = .ok (.ifCond .ne 7, 3) := by decide +kernel
theorem dX11_costs_56 : decode cX11_costs 56 = .ok (.iconst 2, 1) := by decide +kernel
theorem dX11_costs_57 : decode cX11_costs 57 = .ok (.goto 4, 3) := by decide +kernel
theorem dX11_costs_60 : decode cX11_costs 60 = .ok (.iconst 0, 1) := by decide +kernel
theorem dX11_costs_61 : decode cX11_costs 61 = .ok (.invokevirtual 97, 3) := by decide +kernel
theorem dX11_costs_64 : decode cX11_costs 64 = .ok (.ifCond .ne 30, 3) := by decide +kernel
theorem dX11_costs_67 : decode cX11_costs 67 = .ok (.aload_n 0, 1) := by decide +kernel
theorem dX11_costs_68 : decode cX11_costs 68 = .ok (.getfield 22, 3) := by decide +kernel
theorem dX11_costs_71 : decode cX11_costs 71 = .ok (.iload_n 1, 1) := by decide +kernel
theorem dX11_costs_72 : decode cX11_costs 72 = .ok (.iload_n 2, 1) := by decide +kernel
theorem dX11_costs_73 : decode cX11_costs 73 = .ok (.iastore, 1) := by decide +kernel
theorem dX11_costs_74 : decode cX11_costs 74 = .ok (.aload_n 0, 1) := by decide +kernel
theorem dX11_costs_75 : decode cX11_costs 75 = .ok (.getfield 25, 3) := by decide +kernel
theorem dX11_costs_78 : decode cX11_costs 78 = .ok (.iload_n 1, 1) := by decide +kernel
theorem dX11_costs_79 : decode cX11_costs 79 = .ok (.iload_n 3, 1) := by decide +kernel
theorem dX11_costs_80 : decode cX11_costs 80 = .ok (.iastore, 1) := by decide +kernel
theorem dX11_costs_81 : decode cX11_costs 81 = .ok (.aload_n 0, 1) := by decide +kernel
theorem dX11_costs_82 : decode cX11_costs 82 = .ok (.getfield 28, 3) := by decide +kernel
theorem dX11_costs_85 : decode cX11_costs 85 = .ok (.iload_n 1, 1) := by decide +kernel
theorem dX11_costs_86 : decode cX11_costs 86 = .ok (.iload 4, 2) := by decide +kernel
theorem dX11_costs_88 : decode cX11_costs 88 = .ok (.iastore, 1) := by decide +kernel
theorem dX11_costs_89 : decode cX11_costs 89 = .ok (.aload_n 0, 1) := by decide +kernel
theorem dX11_costs_90 : decode cX11_costs 90 = .ok (.iload_n 1, 1) := by decide +kernel
theorem dX11_costs_91 : decode cX11_costs 91 = .ok (.invokevirtual 100, 3) := by decide +kernel
theorem dX11_costs_94 : decode cX11_costs 94 = .ok (.return_, 1) := by decide +kernel
theorem dX11_made_0 : decode cX11_made 0 = .ok (.aload_n 0, 1) := by decide +kernel
theorem dX11_made_1 : decode cX11_made 1 = .ok (.iload_n 1, 1) := by decide +kernel
theorem dX11_made_2 : decode cX11_made 2 = .ok (.invokestatic 93, 3) := by decide +kernel
theorem dX11_made_5 : decode cX11_made 5 = .ok (.ifCond .eq 12, 3) := by decide +kernel
theorem dX11_made_8 : decode cX11_made 8 = .ok (.iload_n 2, 1) := by decide +kernel
theorem dX11_made_9 : decode cX11_made 9 = .ok (.iconst 0, 1) := by decide +kernel
theorem dX11_made_10 : decode cX11_made 10 = .ok (.iconst 2, 1) := by decide +kernel
theorem dX11_made_11 : decode cX11_made 11 = .ok (.invokestatic 89, 3) := by decide +kernel
theorem dX11_made_14 : decode cX11_made 14 = .ok (.ifCond .ne 7, 3) := by decide +kernel
theorem dX11_made_17 : decode cX11_made 17 = .ok (.iconst 1, 1) := by decide +kernel
theorem dX11_made_18 : decode cX11_made 18 = .ok (.goto 18, 3) := by decide +kernel
theorem dX11_made_21 : decode cX11_made 21 = .ok (.iload_n 3, 1) := by decide +kernel
theorem dX11_made_22 : decode cX11_made 22 = .ok (.iconst 0, 1) := by decide +kernel
theorem dX11_made_23 : decode cX11_made 23 = .ok (.bipush 9, 2) := by decide +kernel
theorem dX11_made_25 : decode cX11_made 25 = .ok (.invokestatic 89, 3) := by decide +kernel
theorem dX11_made_28 : decode cX11_made 28 = .ok (.ifCond .ne 7, 3) := by decide +kernel
theorem dX11_made_31 : decode cX11_made 31 = .ok (.iconst 2, 1) := by decide +kernel
theorem dX11_made_32 : decode cX11_made 32 = .ok (.goto 4, 3) := by decide +kernel
theorem dX11_made_35 : decode cX11_made 35 = .ok (.iconst 0, 1) := by decide +kernel
theorem dX11_made_36 : decode cX11_made 36 = .ok (.invokevirtual 97, 3) := by decide +kernel
theorem dX11_made_39 : decode cX11_made 39 = .ok (.ifCond .ne 17, 3) := by decide +kernel
theorem dX11_made_42 : decode cX11_made 42 = .ok (.aload_n 0, 1) := by decide +kernel
theorem dX11_made_43 : decode cX11_made 43 = .ok (.getfield 34, 3) := by decide +kernel
theorem dX11_made_46 : decode cX11_made 46 = .ok (.iload_n 1, 1) := by decide +kernel
theorem dX11_made_47 : decode cX11_made 47 = .ok (.iload_n 2, 1) := by decide +kernel
theorem dX11_made_48 : decode cX11_made 48 = .ok (.iastore, 1) := by decide +kernel
theorem dX11_made_49 : decode cX11_made 49 = .ok (.aload_n 0, 1) := by decide +kernel
theorem dX11_made_50 : decode cX11_made 50 = .ok (.getfield 37, 3) := by decide +kernel
theorem dX11_made_53 : decode cX11_made 53 = .ok (.iload_n 1, 1) := by decide +kernel
theorem dX11_made_54 : decode cX11_made 54 = .ok (.iload_n 3, 1) := by decide +kernel
theorem dX11_made_55 : decode cX11_made 55 = .ok (.iastore, 1) := by decide +kernel
theorem dX11_made_56 : decode cX11_made 56 = .ok (.return_, 1) := by decide +kernel
theorem dX11_line_0 : decode cX11_line 0 = .ok (.iload_n 3, 1) := by decide +kernel
theorem dX11_line_1 : decode cX11_line 1 = .ok (.ifCond .eq 26, 3) := by decide +kernel
theorem dX11_line_4 : decode cX11_line 4 = .ok (.iload 4, 2) := by decide +kernel
theorem dX11_line_6 : decode cX11_line 6 = .ok (.invokestatic 93, 3) := by decide +kernel
theorem dX11_line_9 : decode cX11_line 9 = .ok (.ifCond .eq 22, 3) := by decide +kernel
theorem dX11_line_12 : decode cX11_line 12 = .ok (.iload 5, 2) := by decide +kernel
theorem dX11_line_14 : decode cX11_line 14 = .ok (.invokestatic 93, 3) := by decide +kernel
theorem dX11_line_17 : decode cX11_line 17 = .ok (.ifCond .eq 14, 3) := by decide +kernel
theorem dX11_line_20 : decode cX11_line 20 = .ok (.iload 4, 2) := by decide +kernel
theorem dX11_line_22 : decode cX11_line 22 = .ok (.iload 5, 2) := by decide +kernel
theorem dX11_line_24 : decode cX11_line 24 = .ok (.if_icmp .gt 7, 3) := by decide +kernel
theorem dX11_line_27 : decode cX11_line 27 = .ok (.iconst 1, 1) := by decide +kernel
theorem dX11_line_28 : decode cX11_line 28 = .ok (.goto 4, 3) := by decide +kernel
theorem dX11_line_31 : decode cX11_line 31 = .ok (.iconst 0, 1) := by decide +kernel
theorem dX11_line_32 : decode cX11_line 32 = .ok (.istore 6, 2) := by decide +kernel
theorem dX11_line_34 : decode cX11_line 34 = .ok (.aload_n 0, 1) := by decide +kernel
theorem dX11_line_35 : decode cX11_line 35 = .ok (.iload_n 1, 1) := by decide +kernel
theorem dX11_line_36 : decode cX11_line 36 = .ok (.invokestatic 93, 3) := by decide +kernel
theorem dX11_line_39 : decode cX11_line 39 = .ok (.ifCond .eq 10, 3) := by decide +kernel
theorem dX11_line_42 : decode cX11_line 42 = .ok (.iload_n 2, 1) := by decide +kernel
theorem dX11_line_43 : decode cX11_line 43 = .ok (.invokestatic 93, 3) := by decide +kernel
theorem dX11_line_46 : decode cX11_line 46 = .ok (.ifCond .ne 7, 3) := by decide +kernel
theorem dX11_line_49 : decode cX11_line 49 = .ok (.iconst 1, 1) := by decide +kernel
theorem dX11_line_50 : decode cX11_line 50 = .ok (.goto 23, 3) := by decide +kernel
theorem dX11_line_53 : decode cX11_line 53 = .ok (.iload_n 3, 1) := by decide +kernel
theorem dX11_line_54 : decode cX11_line 54 = .ok (.iconst 0, 1) := by decide +kernel
theorem dX11_line_55 : decode cX11_line 55 = .ok (.bipush 9, 2) := by decide +kernel
theorem dX11_line_57 : decode cX11_line 57 = .ok (.invokestatic 89, 3) := by decide +kernel
theorem dX11_line_60 : decode cX11_line 60 = .ok (.ifCond .eq 8, 3) := by decide +kernel
theorem dX11_line_63 : decode cX11_line 63 = .ok (.iload 6, 2) := by decide +kernel
theorem dX11_line_65 : decode cX11_line 65 = .ok (.ifCond .ne 7, 3) := by decide +kernel
theorem dX11_line_68 : decode cX11_line 68 = .ok (.iconst 2, 1) := by decide +kernel
theorem dX11_line_69 : decode cX11_line 69 = .ok (.goto 4, 3) := by decide +kernel
theorem dX11_line_72 : decode cX11_line 72 = .ok (.iconst 0, 1) := by decide +kernel
theorem dX11_line_73 : decode cX11_line 73 = .ok (.invokevirtual 97, 3) := by decide +kernel
theorem dX11_line_76 : decode cX11_line 76 = .ok (.ifCond .eq 4, 3) := by decide +kernel
theorem dX11_line_79 : decode cX11_line 79 = .ok (.return_, 1) := by decide +kernel
theorem dX11_line_80 : decode cX11_line 80 = .ok (.bipush 12, 2) := by decide +kernel
theorem dX11_line_82 : decode cX11_line 82 = .ok (.iload_n 1, 1) := by decide +kernel
theorem dX11_line_83 : decode cX11_line 83 = .ok (.imul, 1) := by decide +kernel
theorem dX11_line_84 : decode cX11_line 84 = .ok (.iload_n 2, 1) := by decide +kernel
theorem dX11_line_85 : decode cX11_line 85 = .ok (.iadd, 1) := by decide +kernel
theorem dX11_line_86 : decode cX11_line 86 = .ok (.istore 7, 2) := by decide +kernel
theorem dX11_line_88 : decode cX11_line 88 = .ok (.aload_n 0, 1) := by decide +kernel
theorem dX11_line_89 : decode cX11_line 89 = .ok (.getfield 40, 3) := by decide +kernel
theorem dX11_line_92 : decode cX11_line 92 = .ok (.iload 7, 2) := by decide +kernel
theorem dX11_line_94 : decode cX11_line 94 = .ok (.iaload, 1) := by decide +kernel
theorem dX11_line_95 : decode cX11_line 95 = .ok (.istore 8, 2) := by decide +kernel
theorem dX11_line_97 : decode cX11_line 97 = .ok (.aload_n 0, 1) := by decide +kernel
theorem dX11_line_98 : decode cX11_line 98 = .ok (.getfield 43, 3) := by decide +kernel
theorem dX11_line_101 : decode cX11_line 101 = .ok (.iload 7, 2) := by decide +kernel
theorem dX11_line_103 : decode cX11_line 103 = .ok (.iaload, 1) := by decide +kernel
theorem dX11_line_104 : decode cX11_line 104 = .ok (.istore 9, 2) := by decide +kernel
theorem dX11_line_106 : decode cX11_line 106 = .ok (.aload_n 0, 1) := by decide +kernel
theorem dX11_line_107 : decode cX11_line 107 = .ok (.getfield 46, 3) := by decide +kernel
theorem dX11_line_110 : decode cX11_line 110 = .ok (.iload 7, 2) := by decide +kernel
theorem dX11_line_112 : decode cX11_line 112 = .ok (.iaload, 1) := by decide +kernel
theorem dX11_line_113 : decode cX11_line 113 = .ok (.istore 10, 2) := by decide +kernel
theorem dX11_line_115 : decode cX11_line 115 = .ok (.aload_n 0, 1) := by decide +kernel
theorem dX11_line_116 : decode cX11_line 116 = .ok (.iload_n 3, 1) := by decide +kernel
theorem dX11_line_117 : decode cX11_line 117 = .ok (.ifCond .le 21, 3) := by decide +kernel
theorem dX11_line_120 : decode cX11_line 120 = .ok (.iload 8, 2) := by decide +kernel
theorem dX11_line_122 : decode cX11_line 122 = .ok (.ifCond .ne 16, 3) := by decide +kernel
theorem dX11_line_125 : decode cX11_line 125 = .ok (.aload_n 0, 1) := by decide +kernel
theorem dX11_line_126 : decode cX11_line 126 = .ok (.getfield 109, 3) := by decide +kernel
theorem dX11_line_129 : decode cX11_line 129 = .ok (.bipush 24, 2) := by decide +kernel
theorem dX11_line_131 : decode cX11_line 131 = .ok (.if_icmp .ne 7, 3) := by decide +kernel
theorem dX11_line_134 : decode cX11_line 134 = .ok (.iconst 3, 1) := by decide +kernel
theorem dX11_line_135 : decode cX11_line 135 = .ok (.goto 4, 3) := by decide +kernel
theorem dX11_line_138 : decode cX11_line 138 = .ok (.iconst 0, 1) := by decide +kernel
theorem dX11_line_139 : decode cX11_line 139 = .ok (.invokevirtual 97, 3) := by decide +kernel
theorem dX11_line_142 : decode cX11_line 142 = .ok (.ifCond .eq 4, 3) := by decide +kernel
theorem dX11_line_145 : decode cX11_line 145 = .ok (.return_, 1) := by decide +kernel
theorem dX11_line_146 : decode cX11_line 146 = .ok (.aload_n 0, 1) := by decide +kernel
theorem dX11_line_147 : decode cX11_line 147 = .ok (.iload 7, 2) := by decide +kernel
theorem dX11_line_149 : decode cX11_line 149 = .ok (.iload_n 3, 1) := by decide +kernel
theorem dX11_line_150 : decode cX11_line 150 = .ok (.iload 4, 2) := by decide +kernel
theorem dX11_line_152 : decode cX11_line 152 = .ok (.iload 5, 2) := by decide +kernel
theorem dX11_line_154 : decode cX11_line 154 = .ok (.invokevirtual 112, 3) := by decide +kernel
theorem dX11_line_157 : decode cX11_line 157 = .ok (.aload_n 0, 1) := by decide +kernel
theorem dX11_line_158 : decode cX11_line 158 = .ok (.invokevirtual 116, 3) := by decide +kernel
theorem dX11_line_161 : decode cX11_line 161 = .ok (.ifCond .ne 21, 3) := by decide +kernel
theorem dX11_line_164 : decode cX11_line 164 = .ok (.aload_n 0, 1) := by decide +kernel
theorem dX11_line_165 : decode cX11_line 165 = .ok (.iload 7, 2) := by decide +kernel
theorem dX11_line_167 : decode cX11_line 167 = .ok (.iload 8, 2) := by decide +kernel
theorem dX11_line_169 : decode cX11_line 169 = .ok (.iload 9, 2) := by decide +kernel
theorem dX11_line_171 : decode cX11_line 171 = .ok (.iload 10, 2) := by decide +kernel
theorem dX11_line_173 : decode cX11_line 173 = .ok (.invokevirtual 112, 3) := by decide +kernel
theorem dX11_line_176 : decode cX11_line 176 = .ok (.aload_n 0, 1) := by decide +kernel
theorem dX11_line_177 : decode cX11_line 177 = .ok (.iconst 3, 1) := by decide +kernel
theorem dX11_line_178 : decode cX11_line 178 = .ok (.putfield 85, 3) := by decide +kernel
theorem dX11_line_181 : decode cX11_line 181 = .ok (.return_, 1) := by decide +kernel
theorem dX11_line_182 : decode cX11_line 182 = .ok (.aload_n 0, 1) := by decide +kernel
theorem dX11_line_183 : decode cX11_line 183 = .ok (.iload_n 2, 1) := by decide +kernel
theorem dX11_line_184 : decode cX11_line 184 = .ok (.invokevirtual 100, 3) := by decide +kernel
theorem dX11_line_187 : decode cX11_line 187 = .ok (.return_, 1) := by decide +kernel
theorem dX11_setLine_0 : decode cX11_setLine 0 = .ok (.aload_n 0, 1) := by decide +kernel
theorem dX11_setLine_1 : decode cX11_setLine 1 = .ok (.aload_n 0, 1) := by decide +kernel
theorem dX11_setLine_2 : decode cX11_setLine 2 = .ok (.getfield 109, 3) := by decide +kernel
theorem dX11_setLine_5 : decode cX11_setLine 5 = .ok (.iload_n 2, 1) := by decide +kernel
theorem dX11_setLine_6 : decode cX11_setLine 6 = .ok (.ifCond .le 7, 3) := by decide +kernel
theorem dX11_setLine_9 : decode cX11_setLine 9 = .ok (.iconst 1, 1) := by decide +kernel
theorem dX11_setLine_10 : decode cX11_setLine 10 = .ok (.goto 4, 3) := by decide +kernel
theorem dX11_setLine_13 : decode cX11_setLine 13 = .ok (.iconst 0, 1) := by decide +kernel
theorem dX11_setLine_14 : decode cX11_setLine 14 = .ok (.iadd, 1) := by decide +kernel
theorem dX11_setLine_15 : decode cX11_setLine 15 = .ok (.aload_n 0, 1) := by decide +kernel
theorem dX11_setLine_16 : decode cX11_setLine 16 = .ok (.getfield 40, 3) := by decide +kernel
theorem dX11_setLine_19 : decode cX11_setLine 19 = .ok (.iload_n 1, 1) := by decide +kernel
theorem dX11_setLine_20 : decode cX11_setLine 20 = .ok (.iaload, 1) := by decide +kernel
theorem dX11_setLine_21 : decode cX11_setLine 21 = .ok (.ifCond .le 7, 3) := by decide +kernel
theorem dX11_setLine_24 : decode cX11_setLine 24 = .ok (.iconst 1, 1) := by decide +kernel
theorem dX11_setLine_25 : decode cX11_setLine 25 = .ok (.goto 4, 3) := by decide +kernel
theorem dX11_setLine_28 : decode cX11_setLine 28 = .ok (.iconst 0, 1) := by decide +kernel
theorem dX11_setLine_29 : decode cX11_setLine 29 = .ok (.isub, 1) := by decide +kernel
theorem dX11_setLine_30 : decode cX11_setLine 30 = .ok (.putfield 109, 3) := by decide +kernel
theorem dX11_setLine_33 : decode cX11_setLine 33 = .ok (.aload_n 0, 1) := by decide +kernel
theorem dX11_setLine_34 : decode cX11_setLine 34 = .ok (.getfield 40, 3) := by decide +kernel
theorem dX11_setLine_37 : decode cX11_setLine 37 = .ok (.iload_n 1, 1) := by decide +kernel
theorem dX11_setLine_38 : decode cX11_setLine 38 = .ok (.iload_n 2, 1) := by decide +kernel
theorem dX11_setLine_39 : decode cX11_setLine 39 = .ok (.iastore, 1) := by decide +kernel
theorem dX11_setLine_40 : decode cX11_setLine 40 = .ok (.aload_n 0, 1) := by decide +kernel
theorem dX11_setLine_41 : decode cX11_setLine 41 = .ok (.getfield 43, 3) := by decide +kernel
theorem dX11_setLine_44 : decode cX11_setLine 44 = .ok (.iload_n 1, 1) := by decide +kernel
theorem dX11_setLine_45 : decode cX11_setLine 45 = .ok (.iload_n 3, 1) := by decide +kernel
theorem dX11_setLine_46 : decode cX11_setLine 46 = .ok (.iastore, 1) := by decide +kernel
theorem dX11_setLine_47 : decode cX11_setLine 47 = .ok (.aload_n 0, 1) := by decide +kernel
theorem dX11_setLine_48 : decode cX11_setLine 48 = .ok (.getfield 46, 3) := by decide +kernel
theorem dX11_setLine_51 : decode cX11_setLine 51 = .ok (.iload_n 1, 1) := by decide +kernel
theorem dX11_setLine_52 : decode cX11_setLine 52 = .ok (.iload 4, 2) := by decide +kernel
theorem dX11_setLine_54 : decode cX11_setLine 54 = .ok (.iastore, 1) := by decide +kernel
theorem dX11_setLine_55 : decode cX11_setLine 55 = .ok (.return_, 1) := by decide +kernel
theorem dX11_isSound_0 : decode cX11_isSound 0 = .ok (.iconst 1, 1) := by decide +kernel
theorem dX11_isSound_1 : decode cX11_isSound 1 = .ok (.istore_n 1, 1) := by decide +kernel
theorem dX11_isSound_2 : decode cX11_isSound 2 = .ok (.iconst 0, 1) := by decide +kernel
theorem dX11_isSound_3 : decode cX11_isSound 3 = .ok (.istore_n 2, 1) := by decide +kernel
theorem dX11_isSound_4 : decode cX11_isSound 4 = .ok (.iload_n 2, 1) := by decide +kernel
theorem dX11_isSound_5 : decode cX11_isSound 5 = .ok (.bipush 12, 2) := by decide +kernel
theorem dX11_isSound_7 : decode cX11_isSound 7 = .ok (.if_icmp .ge 28, 3) := by decide +kernel
theorem dX11_isSound_10 : decode cX11_isSound 10 = .ok (.iload_n 1, 1) := by decide +kernel
theorem dX11_isSound_11 : decode cX11_isSound 11 = .ok (.ifCond .eq 16, 3) := by decide +kernel
theorem dX11_isSound_14 : decode cX11_isSound 14 = .ok (.aload_n 0, 1) := by decide +kernel
theorem dX11_isSound_15 : decode cX11_isSound 15 = .ok (.iload_n 2, 1) := by decide +kernel
theorem dX11_isSound_16 : decode cX11_isSound 16 = .ok (.invokevirtual 105, 3) := by decide +kernel
theorem dX11_isSound_19 : decode cX11_isSound 19 = .ok (.iconst 4, 1) := by decide +kernel
theorem dX11_isSound_20 : decode cX11_isSound 20 = .ok (.if_icmp .gt 7, 3) := by decide +kernel
theorem dX11_isSound_23 : decode cX11_isSound 23 = .ok (.iconst 1, 1) := by decide +kernel
theorem dX11_isSound_24 : decode cX11_isSound 24 = .ok (.goto 4, 3) := by decide +kernel
theorem dX11_isSound_27 : decode cX11_isSound 27 = .ok (.iconst 0, 1) := by decide +kernel
theorem dX11_isSound_28 : decode cX11_isSound 28 = .ok (.istore_n 1, 1) := by decide +kernel
theorem dX11_isSound_29 : decode cX11_isSound 29 = .ok (.iinc 2 1, 3) := by decide +kernel
theorem dX11_isSound_32 : decode cX11_isSound 32 = .ok (.goto (-28), 3) := by decide +kernel
theorem dX11_isSound_35 : decode cX11_isSound 35 = .ok (.iload_n 1, 1) := by decide +kernel
theorem dX11_isSound_36 : decode cX11_isSound 36 = .ok (.ireturn, 1) := by decide +kernel
theorem dX11_levelOf_0 : decode cX11_levelOf 0 = .ok (.iconst 1, 1) := by decide +kernel
theorem dX11_levelOf_1 : decode cX11_levelOf 1 = .ok (.iload_n 1, 1) := by decide +kernel
theorem dX11_levelOf_2 : decode cX11_levelOf 2 = .ok (.ishl, 1) := by decide +kernel
theorem dX11_levelOf_3 : decode cX11_levelOf 3 = .ok (.istore_n 2, 1) := by decide +kernel
theorem dX11_levelOf_4 : decode cX11_levelOf 4 = .ok (.iconst (-1), 1) := by decide +kernel
theorem dX11_levelOf_5 : decode cX11_levelOf 5 = .ok (.istore_n 3, 1) := by decide +kernel
theorem dX11_levelOf_6 : decode cX11_levelOf 6 = .ok (.iload_n 2, 1) := by decide +kernel
theorem dX11_levelOf_7 : decode cX11_levelOf 7 = .ok (.ifCond .eq 90, 3) := by decide +kernel
theorem dX11_levelOf_10 : decode cX11_levelOf 10 = .ok (.iload_n 3, 1) := by decide +kernel
theorem dX11_levelOf_11 : decode cX11_levelOf 11 = .ok (.bipush 20, 2) := by decide +kernel
theorem dX11_levelOf_13 : decode cX11_levelOf 13 = .ok (.if_icmp .ge 84, 3) := by decide +kernel
theorem dX11_levelOf_16 : decode cX11_levelOf 16 = .ok (.iconst 0, 1) := by decide +kernel
theorem dX11_levelOf_17 : decode cX11_levelOf 17 = .ok (.istore 4, 2) := by decide +kernel
theorem dX11_levelOf_19 : decode cX11_levelOf 19 = .ok (.iconst 0, 1) := by decide +kernel
theorem dX11_levelOf_20 : decode cX11_levelOf 20 = .ok (.istore 5, 2) := by decide +kernel
theorem dX11_levelOf_22 : decode cX11_levelOf 22 = .ok (.iload 5, 2) := by decide +kernel
theorem dX11_levelOf_24 : decode cX11_levelOf 24 = .ok (.sipush 144, 3) := by decide +kernel
theorem dX11_levelOf_27 : decode cX11_levelOf 27 = .ok (.if_icmp .ge 61, 3) := by decide +kernel
theorem dX11_levelOf_30 : decode cX11_levelOf 30 = .ok (.aload_n 0, 1) := by decide +kernel
theorem dX11_levelOf_31 : decode cX11_levelOf 31 = .ok (.getfield 40, 3) := by decide +kernel
theorem dX11_levelOf_34 : decode cX11_levelOf 34 = .ok (.iload 5, 2) := by decide +kernel
theorem dX11_levelOf_36 : decode cX11_levelOf 36 = .ok (.iaload, 1) := by decide +kernel
theorem dX11_levelOf_37 : decode cX11_levelOf 37 = .ok (.ifCond .le 20, 3) := by decide +kernel
theorem dX11_levelOf_40 : decode cX11_levelOf 40 = .ok (.iload_n 2, 1) := by decide +kernel
theorem dX11_levelOf_41 : decode cX11_levelOf 41 = .ok (.iload 5, 2) := by decide +kernel
theorem dX11_levelOf_43 : decode cX11_levelOf 43 = .ok (.bipush 12, 2) := by decide +kernel
theorem dX11_levelOf_45 : decode cX11_levelOf 45 = .ok (.irem, 1) := by decide +kernel
theorem dX11_levelOf_46 : decode cX11_levelOf 46 = .ok (.ishr, 1) := by decide +kernel
theorem dX11_levelOf_47 : decode cX11_levelOf 47 = .ok (.iconst 1, 1) := by decide +kernel
theorem dX11_levelOf_48 : decode cX11_levelOf 48 = .ok (.iand, 1) := by decide +kernel
theorem dX11_levelOf_49 : decode cX11_levelOf 49 = .ok (.iconst 1, 1) := by decide +kernel
theorem dX11_levelOf_50 : decode cX11_levelOf 50 = .ok (.if_icmp .ne 7, 3) := by decide +kernel
theorem dX11_levelOf_53 : decode cX11_levelOf 53 = .ok (.iconst 1, 1) := by decide +kernel
theorem dX11_levelOf_54 : decode cX11_levelOf 54 = .ok (.goto 4, 3) := by decide +kernel
theorem dX11_levelOf_57 : decode cX11_levelOf 57 = .ok (.iconst 0, 1) := by decide +kernel
theorem dX11_levelOf_58 : decode cX11_levelOf 58 = .ok (.istore 6, 2) := by decide +kernel
theorem dX11_levelOf_60 : decode cX11_levelOf 60 = .ok (.iload 6, 2) := by decide +kernel
theorem dX11_levelOf_62 : decode cX11_levelOf 62 = .ok (.ifCond .eq 16, 3) := by decide +kernel
theorem dX11_levelOf_65 : decode cX11_levelOf 65 = .ok (.iload 4, 2) := by decide +kernel
theorem dX11_levelOf_67 : decode cX11_levelOf 67 = .ok (.iconst 1, 1) := by decide +kernel
theorem dX11_levelOf_68 : decode cX11_levelOf 68 = .ok (.iload 5, 2) := by decide +kernel
theorem dX11_levelOf_70 : decode cX11_levelOf 70 = .ok (.bipush 12, 2) := by decide +kernel
theorem dX11_levelOf_72 : decode cX11_levelOf 72 = .ok (.idiv, 1) := by decide +kernel
theorem dX11_levelOf_73 : decode cX11_levelOf 73 = .ok (.ishl, 1) := by decide +kernel
theorem dX11_levelOf_74 : decode cX11_levelOf 74 = .ok (.ior, 1) := by decide +kernel
theorem dX11_levelOf_75 : decode cX11_levelOf 75 = .ok (.goto 5, 3) := by decide +kernel
theorem dX11_levelOf_78 : decode cX11_levelOf 78 = .ok (.iload 4, 2) := by decide +kernel
theorem dX11_levelOf_80 : decode cX11_levelOf 80 = .ok (.istore 4, 2) := by decide +kernel
theorem dX11_levelOf_82 : decode cX11_levelOf 82 = .ok (.iinc 5 1, 3) := by decide +kernel
theorem dX11_levelOf_85 : decode cX11_levelOf 85 = .ok (.goto (-63), 3) := by decide +kernel
theorem dX11_levelOf_88 : decode cX11_levelOf 88 = .ok (.iload 4, 2) := by decide +kernel
theorem dX11_levelOf_90 : decode cX11_levelOf 90 = .ok (.istore_n 2, 1) := by decide +kernel
theorem dX11_levelOf_91 : decode cX11_levelOf 91 = .ok (.iinc 3 1, 3) := by decide +kernel
theorem dX11_levelOf_94 : decode cX11_levelOf 94 = .ok (.goto (-88), 3) := by decide +kernel
theorem dX11_levelOf_97 : decode cX11_levelOf 97 = .ok (.iload_n 3, 1) := by decide +kernel
theorem dX11_levelOf_98 : decode cX11_levelOf 98 = .ok (.bipush 20, 2) := by decide +kernel
theorem dX11_levelOf_100 : decode cX11_levelOf 100 = .ok (.if_icmp .lt 8, 3) := by decide +kernel
theorem dX11_levelOf_103 : decode cX11_levelOf 103 = .ok (.bipush 99, 2) := by decide +kernel
theorem dX11_levelOf_105 : decode cX11_levelOf 105 = .ok (.goto 4, 3) := by decide +kernel
theorem dX11_levelOf_108 : decode cX11_levelOf 108 = .ok (.iload_n 3, 1) := by decide +kernel
theorem dX11_levelOf_109 : decode cX11_levelOf 109 = .ok (.ireturn, 1) := by decide +kernel
theorem dX11_stock_0 : decode cX11_stock 0 = .ok (.aload_n 0, 1) := by decide +kernel
theorem dX11_stock_1 : decode cX11_stock 1 = .ok (.iload_n 1, 1) := by decide +kernel
theorem dX11_stock_2 : decode cX11_stock 2 = .ok (.invokestatic 93, 3) := by decide +kernel
theorem dX11_stock_5 : decode cX11_stock 5 = .ok (.ifCond .ne 7, 3) := by decide +kernel
theorem dX11_stock_8 : decode cX11_stock 8 = .ok (.iconst 1, 1) := by decide +kernel
theorem dX11_stock_9 : decode cX11_stock 9 = .ok (.goto 19, 3) := by decide +kernel
theorem dX11_stock_12 : decode cX11_stock 12 = .ok (.iload_n 2, 1) := by decide +kernel
theorem dX11_stock_13 : decode cX11_stock 13 = .ok (.iconst 0, 1) := by decide +kernel
theorem dX11_stock_14 : decode cX11_stock 14 = .ok (.sipush 10000, 3) := by decide +kernel
theorem dX11_stock_17 : decode cX11_stock 17 = .ok (.invokestatic 89, 3) := by decide +kernel
theorem dX11_stock_20 : decode cX11_stock 20 = .ok (.ifCond .ne 7, 3) := by decide +kernel
theorem dX11_stock_23 : decode cX11_stock 23 = .ok (.iconst 2, 1) := by decide +kernel
theorem dX11_stock_24 : decode cX11_stock 24 = .ok (.goto 4, 3) := by decide +kernel
theorem dX11_stock_27 : decode cX11_stock 27 = .ok (.iconst 0, 1) := by decide +kernel
theorem dX11_stock_28 : decode cX11_stock 28 = .ok (.invokevirtual 97, 3) := by decide +kernel
theorem dX11_stock_31 : decode cX11_stock 31 = .ok (.ifCond .eq 5, 3) := by decide +kernel
theorem dX11_stock_34 : decode cX11_stock 34 = .ok (.iconst 0, 1) := by decide +kernel
theorem dX11_stock_35 : decode cX11_stock 35 = .ok (.ireturn, 1) := by decide +kernel
theorem dX11_stock_36 : decode cX11_stock 36 = .ok (.aload_n 0, 1) := by decide +kernel
theorem dX11_stock_37 : decode cX11_stock 37 = .ok (.getfield 31, 3) := by decide +kernel
theorem dX11_stock_40 : decode cX11_stock 40 = .ok (.iload_n 1, 1) := by decide +kernel
theorem dX11_stock_41 : decode cX11_stock 41 = .ok (.iaload, 1) := by decide +kernel
theorem dX11_stock_42 : decode cX11_stock 42 = .ok (.istore_n 3, 1) := by decide +kernel
theorem dX11_stock_43 : decode cX11_stock 43 = .ok (.aload_n 0, 1) := by decide +kernel
theorem dX11_stock_44 : decode cX11_stock 44 = .ok (.getfield 31, 3) := by decide +kernel
theorem dX11_stock_47 : decode cX11_stock 47 = .ok (.iload_n 1, 1) := by decide +kernel
theorem dX11_stock_48 : decode cX11_stock 48 = .ok (.iload_n 2, 1) := by decide +kernel
theorem dX11_stock_49 : decode cX11_stock 49 = .ok (.iastore, 1) := by decide +kernel
theorem dX11_stock_50 : decode cX11_stock 50 = .ok (.aload_n 0, 1) := by decide +kernel
theorem dX11_stock_51 : decode cX11_stock 51 = .ok (.iload_n 1, 1) := by decide +kernel
theorem dX11_stock_52 : decode cX11_stock 52 = .ok (.invokevirtual 100, 3) := by decide +kernel
theorem dX11_stock_55 : decode cX11_stock 55 = .ok (.iload_n 3, 1) := by decide +kernel
theorem dX11_stock_56 : decode cX11_stock 56 = .ok (.ireturn, 1) := by decide +kernel
theorem dX11_demand_0 : decode cX11_demand 0 = .ok (.aload_n 0, 1) := by decide +kernel
theorem dX11_demand_1 : decode cX11_demand 1 = .ok (.iconst 0, 1) := by decide +kernel
theorem dX11_demand_2 : decode cX11_demand 2 = .ok (.iload_n 1, 1) := by decide +kernel
theorem dX11_demand_3 : decode cX11_demand 3 = .ok (.iload_n 2, 1) := by decide +kernel
theorem dX11_demand_4 : decode cX11_demand 4 = .ok (.iload_n 3, 1) := by decide +kernel
theorem dX11_demand_5 : decode cX11_demand 5 = .ok (.invokevirtual 124, 3) := by decide +kernel
theorem dX11_demand_8 : decode cX11_demand 8 = .ok (.ireturn, 1) := by decide +kernel
theorem dX11_addTold_0 : decode cX11_addTold 0 = .ok (.aload_n 0, 1) := by decide +kernel
theorem dX11_addTold_1 : decode cX11_addTold 1 = .ok (.iload_n 2, 1) := by decide +kernel
theorem dX11_addTold_2 : decode cX11_addTold 2 = .ok (.invokestatic 93, 3) := by decide +kernel
theorem dX11_addTold_5 : decode cX11_addTold 5 = .ok (.ifCond .eq 10, 3) := by decide +kernel
theorem dX11_addTold_8 : decode cX11_addTold 8 = .ok (.iload_n 3, 1) := by decide +kernel
theorem dX11_addTold_9 : decode cX11_addTold 9 = .ok (.invokestatic 93, 3) := by decide +kernel
theorem dX11_addTold_12 : decode cX11_addTold 12 = .ok (.ifCond .ne 7, 3) := by decide +kernel
theorem dX11_addTold_15 : decode cX11_addTold 15 = .ok (.iconst 1, 1) := by decide +kernel
theorem dX11_addTold_16 : decode cX11_addTold 16 = .ok (.goto 35, 3) := by decide +kernel
theorem dX11_addTold_19 : decode cX11_addTold 19 = .ok (.iload 4, 2) := by decide +kernel
theorem dX11_addTold_21 : decode cX11_addTold 21 = .ok (.iconst 0, 1) := by decide +kernel
theorem dX11_addTold_22 : decode cX11_addTold 22 = .ok (.sipush 1000, 3) := by decide +kernel
theorem dX11_addTold_25 : decode cX11_addTold 25 = .ok (.invokestatic 89, 3) := by decide +kernel
theorem dX11_addTold_28 : decode cX11_addTold 28 = .ok (.ifCond .ne 7, 3) := by decide +kernel
theorem dX11_addTold_31 : decode cX11_addTold 31 = .ok (.iconst 2, 1) := by decide +kernel
theorem dX11_addTold_32 : decode cX11_addTold 32 = .ok (.goto 19, 3) := by decide +kernel
theorem dX11_addTold_35 : decode cX11_addTold 35 = .ok (.aload_n 0, 1) := by decide +kernel
theorem dX11_addTold_36 : decode cX11_addTold 36 = .ok (.getfield 49, 3) := by decide +kernel
theorem dX11_addTold_39 : decode cX11_addTold 39 = .ok (.iload_n 1, 1) := by decide +kernel
theorem dX11_addTold_40 : decode cX11_addTold 40 = .ok (.iaload, 1) := by decide +kernel
theorem dX11_addTold_41 : decode cX11_addTold 41 = .ok (.bipush 24, 2) := by decide +kernel
theorem dX11_addTold_43 : decode cX11_addTold 43 = .ok (.if_icmp .ne 7, 3) := by decide +kernel
theorem dX11_addTold_46 : decode cX11_addTold 46 = .ok (.iconst 3, 1) := by decide +kernel
theorem dX11_addTold_47 : decode cX11_addTold 47 = .ok (.goto 4, 3) := by decide +kernel
theorem dX11_addTold_50 : decode cX11_addTold 50 = .ok (.iconst 0, 1) := by decide +kernel
theorem dX11_addTold_51 : decode cX11_addTold 51 = .ok (.invokevirtual 97, 3) := by decide +kernel
theorem dX11_addTold_54 : decode cX11_addTold 54 = .ok (.ifCond .eq 5, 3) := by decide +kernel
theorem dX11_addTold_57 : decode cX11_addTold 57 = .ok (.iconst 0, 1) := by decide +kernel
theorem dX11_addTold_58 : decode cX11_addTold 58 = .ok (.ireturn, 1) := by decide +kernel
theorem dX11_addTold_59 : decode cX11_addTold 59 = .ok (.aload_n 0, 1) := by decide +kernel
theorem dX11_addTold_60 : decode cX11_addTold 60 = .ok (.iload_n 2, 1) := by decide +kernel
theorem dX11_addTold_61 : decode cX11_addTold 61 = .ok (.invokevirtual 100, 3) := by decide +kernel
theorem dX11_addTold_64 : decode cX11_addTold 64 = .ok (.aload_n 0, 1) := by decide +kernel
theorem dX11_addTold_65 : decode cX11_addTold 65 = .ok (.iload_n 1, 1) := by decide +kernel
theorem dX11_addTold_66 : decode cX11_addTold 66 = .ok (.iload_n 2, 1) := by decide +kernel
theorem dX11_addTold_67 : decode cX11_addTold 67 = .ok (.iload_n 3, 1) := by decide +kernel
theorem dX11_addTold_68 : decode cX11_addTold 68 = .ok (.iload 4, 2) := by decide +kernel
theorem dX11_addTold_70 : decode cX11_addTold 70 = .ok (.invokevirtual 120, 3) := by decide +kernel
theorem dX11_addTold_73 : decode cX11_addTold 73 = .ok (.ireturn, 1) := by decide +kernel
theorem dX11_add_0 : decode cX11_add 0 = .ok (.bipush 24, 2) := by decide +kernel
theorem dX11_add_2 : decode cX11_add 2 = .ok (.iload_n 1, 1) := by decide +kernel
theorem dX11_add_3 : decode cX11_add 3 = .ok (.imul, 1) := by decide +kernel
theorem dX11_add_4 : decode cX11_add 4 = .ok (.aload_n 0, 1) := by decide +kernel
theorem dX11_add_5 : decode cX11_add 5 = .ok (.getfield 49, 3) := by decide +kernel
theorem dX11_add_8 : decode cX11_add 8 = .ok (.iload_n 1, 1) := by decide +kernel
theorem dX11_add_9 : decode cX11_add 9 = .ok (.iaload, 1) := by decide +kernel
theorem dX11_add_10 : decode cX11_add 10 = .ok (.iadd, 1) := by decide +kernel
theorem dX11_add_11 : decode cX11_add 11 = .ok (.istore 5, 2) := by decide +kernel
theorem dX11_add_13 : decode cX11_add 13 = .ok (.aload_n 0, 1) := by decide +kernel
theorem dX11_add_14 : decode cX11_add 14 = .ok (.getfield 52, 3) := by decide +kernel
theorem dX11_add_17 : decode cX11_add 17 = .ok (.iload 5, 2) := by decide +kernel
theorem dX11_add_19 : decode cX11_add 19 = .ok (.iload_n 2, 1) := by decide +kernel
theorem dX11_add_20 : decode cX11_add 20 = .ok (.iastore, 1) := by decide +kernel
theorem dX11_add_21 : decode cX11_add 21 = .ok (.aload_n 0, 1) := by decide +kernel
theorem dX11_add_22 : decode cX11_add 22 = .ok (.getfield 55, 3) := by decide +kernel
theorem dX11_add_25 : decode cX11_add 25 = .ok (.iload 5, 2) := by decide +kernel
theorem dX11_add_27 : decode cX11_add 27 = .ok (.iload_n 3, 1) := by decide +kernel
theorem dX11_add_28 : decode cX11_add 28 = .ok (.iastore, 1) := by decide +kernel
theorem dX11_add_29 : decode cX11_add 29 = .ok (.aload_n 0, 1) := by decide +kernel
theorem dX11_add_30 : decode cX11_add 30 = .ok (.getfield 58, 3) := by decide +kernel
theorem dX11_add_33 : decode cX11_add 33 = .ok (.iload 5, 2) := by decide +kernel
theorem dX11_add_35 : decode cX11_add 35 = .ok (.iload 4, 2) := by decide +kernel
theorem dX11_add_37 : decode cX11_add 37 = .ok (.iastore, 1) := by decide +kernel
theorem dX11_add_38 : decode cX11_add 38 = .ok (.aload_n 0, 1) := by decide +kernel
theorem dX11_add_39 : decode cX11_add 39 = .ok (.getfield 49, 3) := by decide +kernel
theorem dX11_add_42 : decode cX11_add 42 = .ok (.iload_n 1, 1) := by decide +kernel
theorem dX11_add_43 : decode cX11_add 43 = .ok (.dup2, 1) := by decide +kernel
theorem dX11_add_44 : decode cX11_add 44 = .ok (.iaload, 1) := by decide +kernel
theorem dX11_add_45 : decode cX11_add 45 = .ok (.iconst 1, 1) := by decide +kernel
theorem dX11_add_46 : decode cX11_add 46 = .ok (.iadd, 1) := by decide +kernel
theorem dX11_add_47 : decode cX11_add 47 = .ok (.iastore, 1) := by decide +kernel
theorem dX11_add_48 : decode cX11_add 48 = .ok (.aload_n 0, 1) := by decide +kernel
theorem dX11_add_49 : decode cX11_add 49 = .ok (.getfield 49, 3) := by decide +kernel
theorem dX11_add_52 : decode cX11_add 52 = .ok (.iload_n 1, 1) := by decide +kernel
theorem dX11_add_53 : decode cX11_add 53 = .ok (.iaload, 1) := by decide +kernel
theorem dX11_add_54 : decode cX11_add 54 = .ok (.iconst 1, 1) := by decide +kernel
theorem dX11_add_55 : decode cX11_add 55 = .ok (.isub, 1) := by decide +kernel
theorem dX11_add_56 : decode cX11_add 56 = .ok (.ireturn, 1) := by decide +kernel
theorem dX11_order_0 : decode cX11_order 0 = .ok (.aload_n 0, 1) := by decide +kernel
theorem dX11_order_1 : decode cX11_order 1 = .ok (.iconst 1, 1) := by decide +kernel
theorem dX11_order_2 : decode cX11_order 2 = .ok (.iload_n 1, 1) := by decide +kernel
theorem dX11_order_3 : decode cX11_order 3 = .ok (.iload_n 2, 1) := by decide +kernel
theorem dX11_order_4 : decode cX11_order 4 = .ok (.iload_n 3, 1) := by decide +kernel
theorem dX11_order_5 : decode cX11_order 5 = .ok (.invokevirtual 124, 3) := by decide +kernel
theorem dX11_order_8 : decode cX11_order 8 = .ok (.ireturn, 1) := by decide +kernel
theorem dX11_change_0 : decode cX11_change 0 = .ok (.iload_n 1, 1) := by decide +kernel
theorem dX11_change_1 : decode cX11_change 1 = .ok (.ifCond .eq 8, 3) := by decide +kernel
theorem dX11_change_4 : decode cX11_change 4 = .ok (.iload_n 1, 1) := by decide +kernel
theorem dX11_change_5 : decode cX11_change 5 = .ok (.iconst 1, 1) := by decide +kernel
theorem dX11_change_6 : decode cX11_change 6 = .ok (.if_icmp .ne 7, 3) := by decide +kernel
theorem dX11_change_9 : decode cX11_change 9 = .ok (.iconst 1, 1) := by decide +kernel
theorem dX11_change_10 : decode cX11_change 10 = .ok (.goto 4, 3) := by decide +kernel
theorem dX11_change_13 : decode cX11_change 13 = .ok (.iconst 0, 1) := by decide +kernel
theorem dX11_change_14 : decode cX11_change 14 = .ok (.istore 4, 2) := by decide +kernel
theorem dX11_change_16 : decode cX11_change 16 = .ok (.aload_n 0, 1) := by decide +kernel
theorem dX11_change_17 : decode cX11_change 17 = .ok (.iload 4, 2) := by decide +kernel
theorem dX11_change_19 : decode cX11_change 19 = .ok (.ifCond .ne 7, 3) := by decide +kernel
theorem dX11_change_22 : decode cX11_change 22 = .ok (.iconst 1, 1) := by decide +kernel
theorem dX11_change_23 : decode cX11_change 23 = .ok (.goto 39, 3) := by decide +kernel
theorem dX11_change_26 : decode cX11_change 26 = .ok (.iload_n 2, 1) := by decide +kernel
theorem dX11_change_27 : decode cX11_change 27 = .ok (.iconst 0, 1) := by decide +kernel
theorem dX11_change_28 : decode cX11_change 28 = .ok (.aload_n 0, 1) := by decide +kernel
theorem dX11_change_29 : decode cX11_change 29 = .ok (.getfield 49, 3) := by decide +kernel
theorem dX11_change_32 : decode cX11_change 32 = .ok (.iload_n 1, 1) := by decide +kernel
theorem dX11_change_33 : decode cX11_change 33 = .ok (.iaload, 1) := by decide +kernel
theorem dX11_change_34 : decode cX11_change 34 = .ok (.iconst 1, 1) := by decide +kernel
theorem dX11_change_35 : decode cX11_change 35 = .ok (.isub, 1) := by decide +kernel
theorem dX11_change_36 : decode cX11_change 36 = .ok (.invokestatic 89, 3) := by decide +kernel
theorem dX11_change_39 : decode cX11_change 39 = .ok (.ifCond .ne 7, 3) := by decide +kernel
theorem dX11_change_42 : decode cX11_change 42 = .ok (.iconst 2, 1) := by decide +kernel
theorem dX11_change_43 : decode cX11_change 43 = .ok (.goto 19, 3) := by decide +kernel
theorem dX11_change_46 : decode cX11_change 46 = .ok (.iload_n 3, 1) := by decide +kernel
theorem dX11_change_47 : decode cX11_change 47 = .ok (.iconst 0, 1) := by decide +kernel
theorem dX11_change_48 : decode cX11_change 48 = .ok (.sipush 1000, 3) := by decide +kernel
theorem dX11_change_51 : decode cX11_change 51 = .ok (.invokestatic 89, 3) := by decide +kernel
theorem dX11_change_54 : decode cX11_change 54 = .ok (.ifCond .ne 7, 3) := by decide +kernel
theorem dX11_change_57 : decode cX11_change 57 = .ok (.iconst 1, 1) := by decide +kernel
theorem dX11_change_58 : decode cX11_change 58 = .ok (.goto 4, 3) := by decide +kernel
theorem dX11_change_61 : decode cX11_change 61 = .ok (.iconst 0, 1) := by decide +kernel
theorem dX11_change_62 : decode cX11_change 62 = .ok (.invokevirtual 97, 3) := by decide +kernel
theorem dX11_change_65 : decode cX11_change 65 = .ok (.ifCond .eq 5, 3) := by decide +kernel
theorem dX11_change_68 : decode cX11_change 68 = .ok (.iconst 0, 1) := by decide +kernel
theorem dX11_change_69 : decode cX11_change 69 = .ok (.ireturn, 1) := by decide +kernel
theorem dX11_change_70 : decode cX11_change 70 = .ok (.bipush 24, 2) := by decide +kernel
theorem dX11_change_72 : decode cX11_change 72 = .ok (.iload_n 1, 1) := by decide +kernel
theorem dX11_change_73 : decode cX11_change 73 = .ok (.imul, 1) := by decide +kernel
theorem dX11_change_74 : decode cX11_change 74 = .ok (.iload_n 2, 1) := by decide +kernel
theorem dX11_change_75 : decode cX11_change 75 = .ok (.iadd, 1) := by decide +kernel
theorem dX11_change_76 : decode cX11_change 76 = .ok (.istore 5, 2) := by decide +kernel
theorem dX11_change_78 : decode cX11_change 78 = .ok (.aload_n 0, 1) := by decide +kernel
theorem dX11_change_79 : decode cX11_change 79 = .ok (.getfield 58, 3) := by decide +kernel
theorem dX11_change_82 : decode cX11_change 82 = .ok (.iload 5, 2) := by decide +kernel
theorem dX11_change_84 : decode cX11_change 84 = .ok (.iaload, 1) := by decide +kernel
theorem dX11_change_85 : decode cX11_change 85 = .ok (.istore 6, 2) := by decide +kernel
theorem dX11_change_87 : decode cX11_change 87 = .ok (.aload_n 0, 1) := by decide +kernel
theorem dX11_change_88 : decode cX11_change 88 = .ok (.getfield 58, 3) := by decide +kernel
theorem dX11_change_91 : decode cX11_change 91 = .ok (.iload 5, 2) := by decide +kernel
theorem dX11_change_93 : decode cX11_change 93 = .ok (.iload_n 3, 1) := by decide +kernel
theorem dX11_change_94 : decode cX11_change 94 = .ok (.iastore, 1) := by decide +kernel
theorem dX11_change_95 : decode cX11_change 95 = .ok (.aload_n 0, 1) := by decide +kernel
theorem dX11_change_96 : decode cX11_change 96 = .ok (.aload_n 0, 1) := by decide +kernel
theorem dX11_change_97 : decode cX11_change 97 = .ok (.getfield 52, 3) := by decide +kernel
theorem dX11_change_100 : decode cX11_change 100 = .ok (.iload 5, 2) := by decide +kernel
theorem dX11_change_102 : decode cX11_change 102 = .ok (.iaload, 1) := by decide +kernel
theorem dX11_change_103 : decode cX11_change 103 = .ok (.invokevirtual 100, 3) := by decide +kernel
theorem dX11_change_106 : decode cX11_change 106 = .ok (.iload 6, 2) := by decide +kernel
theorem dX11_change_108 : decode cX11_change 108 = .ok (.ireturn, 1) := by decide +kernel
theorem dX11_replan_0 : decode cX11_replan 0 = .ok (.aload_n 0, 1) := by decide +kernel
theorem dX11_replan_1 : decode cX11_replan 1 = .ok (.iconst 0, 1) := by decide +kernel
theorem dX11_replan_2 : decode cX11_replan 2 = .ok (.putfield 85, 3) := by decide +kernel
theorem dX11_replan_5 : decode cX11_replan 5 = .ok (.iconst 0, 1) := by decide +kernel
theorem dX11_replan_6 : decode cX11_replan 6 = .ok (.istore_n 1, 1) := by decide +kernel
theorem dX11_replan_7 : decode cX11_replan 7 = .ok (.iconst 0, 1) := by decide +kernel
theorem dX11_replan_8 : decode cX11_replan 8 = .ok (.istore_n 2, 1) := by decide +kernel
theorem dX11_replan_9 : decode cX11_replan 9 = .ok (.iload_n 2, 1) := by decide +kernel
theorem dX11_replan_10 : decode cX11_replan 10 = .ok (.iconst 5, 1) := by decide +kernel
