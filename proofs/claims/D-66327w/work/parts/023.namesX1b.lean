set_option maxRecDepth 100000
theorem dX1_init_0 : decode cX1_init 0 = .ok (.aload_n 0, 1) := by decide +kernel
theorem dX1_init_1 : decode cX1_init 1 = .ok (.invokespecial 1, 3) := by decide +kernel
theorem dX1_init_4 : decode cX1_init 4 = .ok (.aload_n 0, 1) := by decide +kernel
theorem dX1_init_5 : decode cX1_init 5 = .ok (.bipush 12, 2) := by decide +kernel
theorem dX1_init_7 : decode cX1_init 7 = .ok (.anewarray 7, 3) := by decide +kernel
theorem dX1_init_10 : decode cX1_init 10 = .ok (.putfield 9, 3) := by decide +kernel
theorem dX1_init_13 : decode cX1_init 13 = .ok (.aload_n 0, 1) := by decide +kernel
theorem dX1_init_14 : decode cX1_init 14 = .ok (.new 15, 3) := by decide +kernel
theorem dX1_init_17 : decode cX1_init 17 = .ok (.dup, 1) := by decide +kernel
theorem dX1_init_18 : decode cX1_init 18 = .ok (.invokespecial 17, 3) := by decide +kernel
theorem dX1_init_21 : decode cX1_init 21 = .ok (.putfield 18, 3) := by decide +kernel
theorem dX1_init_24 : decode cX1_init 24 = .ok (.aload_n 0, 1) := by decide +kernel
theorem dX1_init_25 : decode cX1_init 25 = .ok (.new 22, 3) := by decide +kernel
theorem dX1_init_28 : decode cX1_init 28 = .ok (.dup, 1) := by decide +kernel
theorem dX1_init_29 : decode cX1_init 29 = .ok (.invokespecial 24, 3) := by decide +kernel
theorem dX1_init_32 : decode cX1_init 32 = .ok (.putfield 25, 3) := by decide +kernel
theorem dX1_init_35 : decode cX1_init 35 = .ok (.aload_n 0, 1) := by decide +kernel
theorem dX1_init_36 : decode cX1_init 36 = .ok (.new 22, 3) := by decide +kernel
theorem dX1_init_39 : decode cX1_init 39 = .ok (.dup, 1) := by decide +kernel
theorem dX1_init_40 : decode cX1_init 40 = .ok (.invokespecial 24, 3) := by decide +kernel
theorem dX1_init_43 : decode cX1_init 43 = .ok (.putfield 29, 3) := by decide +kernel
theorem dX1_init_46 : decode cX1_init 46 = .ok (.aload_n 0, 1) := by decide +kernel
theorem dX1_init_47 : decode cX1_init 47 = .ok (.new 22, 3) := by decide +kernel
theorem dX1_init_50 : decode cX1_init 50 = .ok (.dup, 1) := by decide +kernel
theorem dX1_init_51 : decode cX1_init 51 = .ok (.invokespecial 24, 3) := by decide +kernel
theorem dX1_init_54 : decode cX1_init 54 = .ok (.putfield 32, 3) := by decide +kernel
theorem dX1_init_57 : decode cX1_init 57 = .ok (.aload_n 0, 1) := by decide +kernel
theorem dX1_init_58 : decode cX1_init 58 = .ok (.iconst 4, 1) := by decide +kernel
theorem dX1_init_59 : decode cX1_init 59 = .ok (.anewarray 35, 3) := by decide +kernel
theorem dX1_init_62 : decode cX1_init 62 = .ok (.dup, 1) := by decide +kernel
theorem dX1_init_63 : decode cX1_init 63 = .ok (.iconst 0, 1) := by decide +kernel
theorem dX1_init_64 : decode cX1_init 64 = .ok (.new 37, 3) := by decide +kernel
theorem dX1_init_67 : decode cX1_init 67 = .ok (.dup, 1) := by decide +kernel
theorem dX1_init_68 : decode cX1_init 68 = .ok (.invokespecial 39, 3) := by decide +kernel
theorem dX1_init_71 : decode cX1_init 71 = .ok (.aastore, 1) := by decide +kernel
theorem dX1_init_72 : decode cX1_init 72 = .ok (.dup, 1) := by decide +kernel
theorem dX1_init_73 : decode cX1_init 73 = .ok (.iconst 1, 1) := by decide +kernel
theorem dX1_init_74 : decode cX1_init 74 = .ok (.new 40, 3) := by decide +kernel
theorem dX1_init_77 : decode cX1_init 77 = .ok (.dup, 1) := by decide +kernel
theorem dX1_init_78 : decode cX1_init 78 = .ok (.invokespecial 42, 3) := by decide +kernel
theorem dX1_init_81 : decode cX1_init 81 = .ok (.aastore, 1) := by decide +kernel
theorem dX1_init_82 : decode cX1_init 82 = .ok (.dup, 1) := by decide +kernel
theorem dX1_init_83 : decode cX1_init 83 = .ok (.iconst 2, 1) := by decide +kernel
theorem dX1_init_84 : decode cX1_init 84 = .ok (.new 43, 3) := by decide +kernel
theorem dX1_init_87 : decode cX1_init 87 = .ok (.dup, 1) := by decide +kernel
theorem dX1_init_88 : decode cX1_init 88 = .ok (.invokespecial 45, 3) := by decide +kernel
theorem dX1_init_91 : decode cX1_init 91 = .ok (.aastore, 1) := by decide +kernel
theorem dX1_init_92 : decode cX1_init 92 = .ok (.dup, 1) := by decide +kernel
theorem dX1_init_93 : decode cX1_init 93 = .ok (.iconst 3, 1) := by decide +kernel
theorem dX1_init_94 : decode cX1_init 94 = .ok (.new 46, 3) := by decide +kernel
theorem dX1_init_97 : decode cX1_init 97 = .ok (.dup, 1) := by decide +kernel
theorem dX1_init_98 : decode cX1_init 98 = .ok (.invokespecial 48, 3) := by decide +kernel
theorem dX1_init_101 : decode cX1_init 101 = .ok (.aastore, 1) := by decide +kernel
theorem dX1_init_102 : decode cX1_init 102 = .ok (.putfield 49, 3) := by decide +kernel
theorem dX1_init_105 : decode cX1_init 105 = .ok (.aload_n 0, 1) := by decide +kernel
theorem dX1_init_106 : decode cX1_init 106 = .ok (.new 53, 3) := by decide +kernel
theorem dX1_init_109 : decode cX1_init 109 = .ok (.dup, 1) := by decide +kernel
theorem dX1_init_110 : decode cX1_init 110 = .ok (.invokespecial 55, 3) := by decide +kernel
theorem dX1_init_113 : decode cX1_init 113 = .ok (.putfield 56, 3) := by decide +kernel
theorem dX1_init_116 : decode cX1_init 116 = .ok (.aload_n 0, 1) := by decide +kernel
theorem dX1_init_117 : decode cX1_init 117 = .ok (.bipush 12, 2) := by decide +kernel
theorem dX1_init_119 : decode cX1_init 119 = .ok (.anewarray 60, 3) := by decide +kernel
theorem dX1_init_122 : decode cX1_init 122 = .ok (.putfield 62, 3) := by decide +kernel
theorem dX1_init_125 : decode cX1_init 125 = .ok (.aload_n 0, 1) := by decide +kernel
theorem dX1_init_126 : decode cX1_init 126 = .ok (.iconst 1, 1) := by decide +kernel
theorem dX1_init_127 : decode cX1_init 127 = .ok (.putfield 66, 3) := by decide +kernel
theorem dX1_init_130 : decode cX1_init 130 = .ok (.aload_n 0, 1) := by decide +kernel
theorem dX1_init_131 : decode cX1_init 131 = .ok (.bipush 12, 2) := by decide +kernel
theorem dX1_init_133 : decode cX1_init 133 = .ok (.newarray .int, 2) := by decide +kernel
theorem dX1_init_135 : decode cX1_init 135 = .ok (.putfield 70, 3) := by decide +kernel
theorem dX1_init_138 : decode cX1_init 138 = .ok (.iconst 0, 1) := by decide +kernel
theorem dX1_init_139 : decode cX1_init 139 = .ok (.istore_n 1, 1) := by decide +kernel
theorem dX1_init_140 : decode cX1_init 140 = .ok (.iload_n 1, 1) := by decide +kernel
theorem dX1_init_141 : decode cX1_init 141 = .ok (.bipush 12, 2) := by decide +kernel
theorem dX1_init_143 : decode cX1_init 143 = .ok (.if_icmp .ge 42, 3) := by decide +kernel
theorem dX1_init_146 : decode cX1_init 146 = .ok (.aload_n 0, 1) := by decide +kernel
theorem dX1_init_147 : decode cX1_init 147 = .ok (.getfield 9, 3) := by decide +kernel
theorem dX1_init_150 : decode cX1_init 150 = .ok (.iload_n 1, 1) := by decide +kernel
theorem dX1_init_151 : decode cX1_init 151 = .ok (.new 7, 3) := by decide +kernel
theorem dX1_init_154 : decode cX1_init 154 = .ok (.dup, 1) := by decide +kernel
theorem dX1_init_155 : decode cX1_init 155 = .ok (.iload_n 1, 1) := by decide +kernel
theorem dX1_init_156 : decode cX1_init 156 = .ok (.invokespecial 74, 3) := by decide +kernel
theorem dX1_init_159 : decode cX1_init 159 = .ok (.aastore, 1) := by decide +kernel
theorem dX1_init_160 : decode cX1_init 160 = .ok (.aload_n 0, 1) := by decide +kernel
theorem dX1_init_161 : decode cX1_init 161 = .ok (.getfield 62, 3) := by decide +kernel
theorem dX1_init_164 : decode cX1_init 164 = .ok (.iload_n 1, 1) := by decide +kernel
theorem dX1_init_165 : decode cX1_init 165 = .ok (.new 60, 3) := by decide +kernel
theorem dX1_init_168 : decode cX1_init 168 = .ok (.dup, 1) := by decide +kernel
theorem dX1_init_169 : decode cX1_init 169 = .ok (.aload_n 0, 1) := by decide +kernel
theorem dX1_init_170 : decode cX1_init 170 = .ok (.getfield 9, 3) := by decide +kernel
theorem dX1_init_173 : decode cX1_init 173 = .ok (.iload_n 1, 1) := by decide +kernel
theorem dX1_init_174 : decode cX1_init 174 = .ok (.aaload, 1) := by decide +kernel
theorem dX1_init_175 : decode cX1_init 175 = .ok (.invokespecial 77, 3) := by decide +kernel
theorem dX1_init_178 : decode cX1_init 178 = .ok (.aastore, 1) := by decide +kernel
theorem dX1_init_179 : decode cX1_init 179 = .ok (.iinc 1 1, 3) := by decide +kernel
theorem dX1_init_182 : decode cX1_init 182 = .ok (.goto (-42), 3) := by decide +kernel
theorem dX1_init_185 : decode cX1_init 185 = .ok (.return_, 1) := by decide +kernel
theorem dX1_replan_0 : decode cX1_replan 0 = .ok (.aload_n 0, 1) := by decide +kernel
theorem dX1_replan_1 : decode cX1_replan 1 = .ok (.getfield 9, 3) := by decide +kernel
theorem dX1_replan_4 : decode cX1_replan 4 = .ok (.astore_n 1, 1) := by decide +kernel
theorem dX1_replan_5 : decode cX1_replan 5 = .ok (.aload_n 1, 1) := by decide +kernel
theorem dX1_replan_6 : decode cX1_replan 6 = .ok (.arraylength, 1) := by decide +kernel
theorem dX1_replan_7 : decode cX1_replan 7 = .ok (.istore_n 2, 1) := by decide +kernel
theorem dX1_replan_8 : decode cX1_replan 8 = .ok (.iconst 0, 1) := by decide +kernel
theorem dX1_replan_9 : decode cX1_replan 9 = .ok (.istore_n 3, 1) := by decide +kernel
theorem dX1_replan_10 : decode cX1_replan 10 = .ok (.iload_n 3, 1) := by decide +kernel
theorem dX1_replan_11 : decode cX1_replan 11 = .ok (.iload_n 2, 1) := by decide +kernel
theorem dX1_replan_12 : decode cX1_replan 12 = .ok (.if_icmp .ge 28, 3) := by decide +kernel
theorem dX1_replan_15 : decode cX1_replan 15 = .ok (.aload_n 1, 1) := by decide +kernel
theorem dX1_replan_16 : decode cX1_replan 16 = .ok (.iload_n 3, 1) := by decide +kernel
theorem dX1_replan_17 : decode cX1_replan 17 = .ok (.aaload, 1) := by decide +kernel
theorem dX1_replan_18 : decode cX1_replan 18 = .ok (.astore 4, 2) := by decide +kernel
theorem dX1_replan_20 : decode cX1_replan 20 = .ok (.aload 4, 2) := by decide +kernel
theorem dX1_replan_22 : decode cX1_replan 22 = .ok (.getfield 97, 3) := by decide +kernel
theorem dX1_replan_25 : decode cX1_replan 25 = .ok (.ifCond .eq 9, 3) := by decide +kernel
theorem dX1_replan_28 : decode cX1_replan 28 = .ok (.aload_n 0, 1) := by decide +kernel
theorem dX1_replan_29 : decode cX1_replan 29 = .ok (.aload 4, 2) := by decide +kernel
theorem dX1_replan_31 : decode cX1_replan 31 = .ok (.invokevirtual 266, 3) := by decide +kernel
theorem dX1_replan_34 : decode cX1_replan 34 = .ok (.iinc 3 1, 3) := by decide +kernel
theorem dX1_replan_37 : decode cX1_replan 37 = .ok (.goto (-27), 3) := by decide +kernel
theorem dX1_replan_40 : decode cX1_replan 40 = .ok (.iconst 0, 1) := by decide +kernel
theorem dX1_replan_41 : decode cX1_replan 41 = .ok (.istore_n 1, 1) := by decide +kernel
theorem dX1_replan_42 : decode cX1_replan 42 = .ok (.aload_n 0, 1) := by decide +kernel
theorem dX1_replan_43 : decode cX1_replan 43 = .ok (.getfield 56, 3) := by decide +kernel
theorem dX1_replan_46 : decode cX1_replan 46 = .ok (.invokevirtual 269, 3) := by decide +kernel
theorem dX1_replan_49 : decode cX1_replan 49 = .ok (.ifCond .ne 117, 3) := by decide +kernel
theorem dX1_replan_52 : decode cX1_replan 52 = .ok (.aload_n 0, 1) := by decide +kernel
theorem dX1_replan_53 : decode cX1_replan 53 = .ok (.getfield 56, 3) := by decide +kernel
theorem dX1_replan_56 : decode cX1_replan 56 = .ok (.invokevirtual 272, 3) := by decide +kernel
theorem dX1_replan_59 : decode cX1_replan 59 = .ok (.checkcast 60, 3) := by decide +kernel
theorem dX1_replan_62 : decode cX1_replan 62 = .ok (.invokevirtual 276, 3) := by decide +kernel
theorem dX1_replan_65 : decode cX1_replan 65 = .ok (.astore_n 2, 1) := by decide +kernel
theorem dX1_replan_66 : decode cX1_replan 66 = .ok (.aload_n 2, 1) := by decide +kernel
theorem dX1_replan_67 : decode cX1_replan 67 = .ok (.iconst 0, 1) := by decide +kernel
theorem dX1_replan_68 : decode cX1_replan 68 = .ok (.putfield 233, 3) := by decide +kernel
theorem dX1_replan_71 : decode cX1_replan 71 = .ok (.aload_n 0, 1) := by decide +kernel
theorem dX1_replan_72 : decode cX1_replan 72 = .ok (.aload_n 2, 1) := by decide +kernel
theorem dX1_replan_73 : decode cX1_replan 73 = .ok (.invokevirtual 279, 3) := by decide +kernel
theorem dX1_replan_76 : decode cX1_replan 76 = .ok (.istore_n 3, 1) := by decide +kernel
theorem dX1_replan_77 : decode cX1_replan 77 = .ok (.iload_n 3, 1) := by decide +kernel
theorem dX1_replan_78 : decode cX1_replan 78 = .ok (.ifCond .ne 13, 3) := by decide +kernel
theorem dX1_replan_81 : decode cX1_replan 81 = .ok (.aload_n 2, 1) := by decide +kernel
theorem dX1_replan_82 : decode cX1_replan 82 = .ok (.getfield 97, 3) := by decide +kernel
theorem dX1_replan_85 : decode cX1_replan 85 = .ok (.ifCond .ne 6, 3) := by decide +kernel
theorem dX1_replan_88 : decode cX1_replan 88 = .ok (.goto (-46), 3) := by decide +kernel
theorem dX1_replan_91 : decode cX1_replan 91 = .ok (.aload_n 2, 1) := by decide +kernel
theorem dX1_replan_92 : decode cX1_replan 92 = .ok (.iconst 0, 1) := by decide +kernel
theorem dX1_replan_93 : decode cX1_replan 93 = .ok (.putfield 97, 3) := by decide +kernel
theorem dX1_replan_96 : decode cX1_replan 96 = .ok (.aload_n 0, 1) := by decide +kernel
theorem dX1_replan_97 : decode cX1_replan 97 = .ok (.aload_n 2, 1) := by decide +kernel
theorem dX1_replan_98 : decode cX1_replan 98 = .ok (.invokevirtual 283, 3) := by decide +kernel
theorem dX1_replan_101 : decode cX1_replan 101 = .ok (.iinc 1 1, 3) := by decide +kernel
theorem dX1_replan_104 : decode cX1_replan 104 = .ok (.iconst 0, 1) := by decide +kernel
theorem dX1_replan_105 : decode cX1_replan 105 = .ok (.istore 4, 2) := by decide +kernel
theorem dX1_replan_107 : decode cX1_replan 107 = .ok (.iload 4, 2) := by decide +kernel
theorem dX1_replan_109 : decode cX1_replan 109 = .ok (.aload_n 0, 1) := by decide +kernel
theorem dX1_replan_110 : decode cX1_replan 110 = .ok (.getfield 18, 3) := by decide +kernel
theorem dX1_replan_113 : decode cX1_replan 113 = .ok (.invokevirtual 139, 3) := by decide +kernel
theorem dX1_replan_116 : decode cX1_replan 116 = .ok (.if_icmp .ge 47, 3) := by decide +kernel
theorem dX1_replan_119 : decode cX1_replan 119 = .ok (.aload_n 0, 1) := by decide +kernel
theorem dX1_replan_120 : decode cX1_replan 120 = .ok (.getfield 18, 3) := by decide +kernel
theorem dX1_replan_123 : decode cX1_replan 123 = .ok (.iload 4, 2) := by decide +kernel
theorem dX1_replan_125 : decode cX1_replan 125 = .ok (.invokevirtual 142, 3) := by decide +kernel
theorem dX1_replan_128 : decode cX1_replan 128 = .ok (.checkcast 146, 3) := by decide +kernel
theorem dX1_replan_131 : decode cX1_replan 131 = .ok (.invokevirtual 148, 3) := by decide +kernel
theorem dX1_replan_134 : decode cX1_replan 134 = .ok (.aload_n 2, 1) := by decide +kernel
theorem dX1_replan_135 : decode cX1_replan 135 = .ok (.if_acmp .ne 22, 3) := by decide +kernel
theorem dX1_replan_138 : decode cX1_replan 138 = .ok (.aload_n 0, 1) := by decide +kernel
theorem dX1_replan_139 : decode cX1_replan 139 = .ok (.aload_n 0, 1) := by decide +kernel
theorem dX1_replan_140 : decode cX1_replan 140 = .ok (.getfield 18, 3) := by decide +kernel
theorem dX1_replan_143 : decode cX1_replan 143 = .ok (.iload 4, 2) := by decide +kernel
theorem dX1_replan_145 : decode cX1_replan 145 = .ok (.invokevirtual 142, 3) := by decide +kernel
theorem dX1_replan_148 : decode cX1_replan 148 = .ok (.checkcast 146, 3) := by decide +kernel
theorem dX1_replan_151 : decode cX1_replan 151 = .ok (.invokevirtual 152, 3) := by decide +kernel
theorem dX1_replan_154 : decode cX1_replan 154 = .ok (.invokevirtual 266, 3) := by decide +kernel
theorem dX1_replan_157 : decode cX1_replan 157 = .ok (.iinc 4 1, 3) := by decide +kernel
theorem dX1_replan_160 : decode cX1_replan 160 = .ok (.goto (-53), 3) := by decide +kernel
theorem dX1_replan_163 : decode cX1_replan 163 = .ok (.goto (-121), 3) := by decide +kernel
theorem dX1_replan_166 : decode cX1_replan 166 = .ok (.aload_n 0, 1) := by decide +kernel
theorem dX1_replan_167 : decode cX1_replan 167 = .ok (.iconst 0, 1) := by decide +kernel
theorem dX1_replan_168 : decode cX1_replan 168 = .ok (.putfield 66, 3) := by decide +kernel
theorem dX1_replan_171 : decode cX1_replan 171 = .ok (.iload_n 1, 1) := by decide +kernel
theorem dX1_replan_172 : decode cX1_replan 172 = .ok (.ireturn, 1) := by decide +kernel
theorem dX1_await_0 : decode cX1_await 0 = .ok (.aload_n 1, 1) := by decide +kernel
theorem dX1_await_1 : decode cX1_await 1 = .ok (.getfield 233, 3) := by decide +kernel
theorem dX1_await_4 : decode cX1_await 4 = .ok (.ifCond .eq 4, 3) := by decide +kernel
theorem dX1_await_7 : decode cX1_await 7 = .ok (.return_, 1) := by decide +kernel
theorem dX1_await_8 : decode cX1_await 8 = .ok (.aload_n 1, 1) := by decide +kernel
theorem dX1_await_9 : decode cX1_await 9 = .ok (.iconst 1, 1) := by decide +kernel
theorem dX1_await_10 : decode cX1_await 10 = .ok (.putfield 233, 3) := by decide +kernel
theorem dX1_await_13 : decode cX1_await 13 = .ok (.aload_n 0, 1) := by decide +kernel
theorem dX1_await_14 : decode cX1_await 14 = .ok (.getfield 56, 3) := by decide +kernel
theorem dX1_await_17 : decode cX1_await 17 = .ok (.aload_n 0, 1) := by decide +kernel
theorem dX1_await_18 : decode cX1_await 18 = .ok (.getfield 62, 3) := by decide +kernel
theorem dX1_await_21 : decode cX1_await 21 = .ok (.aload_n 1, 1) := by decide +kernel
theorem dX1_await_22 : decode cX1_await 22 = .ok (.getfield 159, 3) := by decide +kernel
theorem dX1_await_25 : decode cX1_await 25 = .ok (.aaload, 1) := by decide +kernel
theorem dX1_await_26 : decode cX1_await 26 = .ok (.invokevirtual 236, 3) := by decide +kernel
theorem dX1_await_29 : decode cX1_await 29 = .ok (.return_, 1) := by decide +kernel
theorem dX1_grows_0 : decode cX1_grows 0 = .ok (.iconst 0, 1) := by decide +kernel
theorem dX1_grows_1 : decode cX1_grows 1 = .ok (.istore_n 2, 1) := by decide +kernel
theorem dX1_grows_2 : decode cX1_grows 2 = .ok (.iconst 0, 1) := by decide +kernel
theorem dX1_grows_3 : decode cX1_grows 3 = .ok (.istore_n 3, 1) := by decide +kernel
theorem dX1_grows_4 : decode cX1_grows 4 = .ok (.iload_n 3, 1) := by decide +kernel
theorem dX1_grows_5 : decode cX1_grows 5 = .ok (.bipush 12, 2) := by decide +kernel
theorem dX1_grows_7 : decode cX1_grows 7 = .ok (.if_icmp .ge 60, 3) := by decide +kernel
theorem dX1_grows_10 : decode cX1_grows 10 = .ok (.aload_n 0, 1) := by decide +kernel
theorem dX1_grows_11 : decode cX1_grows 11 = .ok (.getfield 25, 3) := by decide +kernel
theorem dX1_grows_14 : decode cX1_grows 14 = .ok (.aload_n 1, 1) := by decide +kernel
theorem dX1_grows_15 : decode cX1_grows 15 = .ok (.getfield 159, 3) := by decide +kernel
theorem dX1_grows_18 : decode cX1_grows 18 = .ok (.iload_n 3, 1) := by decide +kernel
theorem dX1_grows_19 : decode cX1_grows 19 = .ok (.invokevirtual 240, 3) := by decide +kernel
theorem dX1_grows_22 : decode cX1_grows 22 = .ok (.aload_n 0, 1) := by decide +kernel
theorem dX1_grows_23 : decode cX1_grows 23 = .ok (.aload_n 1, 1) := by decide +kernel
theorem dX1_grows_24 : decode cX1_grows 24 = .ok (.iload_n 3, 1) := by decide +kernel
theorem dX1_grows_25 : decode cX1_grows 25 = .ok (.invokevirtual 244, 3) := by decide +kernel
theorem dX1_grows_28 : decode cX1_grows 28 = .ok (.ladd, 1) := by decide +kernel
theorem dX1_grows_29 : decode cX1_grows 29 = .ok (.lstore 4, 2) := by decide +kernel
theorem dX1_grows_31 : decode cX1_grows 31 = .ok (.iload_n 2, 1) := by decide +kernel
theorem dX1_grows_32 : decode cX1_grows 32 = .ok (.ifCond .ne 15, 3) := by decide +kernel
theorem dX1_grows_35 : decode cX1_grows 35 = .ok (.lload 4, 2) := by decide +kernel
theorem dX1_grows_37 : decode cX1_grows 37 = .ok (.aload_n 1, 1) := by decide +kernel
theorem dX1_grows_38 : decode cX1_grows 38 = .ok (.getfield 248, 3) := by decide +kernel
theorem dX1_grows_41 : decode cX1_grows 41 = .ok (.iload_n 3, 1) := by decide +kernel
theorem dX1_grows_42 : decode cX1_grows 42 = .ok (.laload, 1) := by decide +kernel
theorem dX1_grows_43 : decode cX1_grows 43 = .ok (.lcmp, 1) := by decide +kernel
theorem dX1_grows_44 : decode cX1_grows 44 = .ok (.ifCond .eq 7, 3) := by decide +kernel
theorem dX1_grows_47 : decode cX1_grows 47 = .ok (.iconst 1, 1) := by decide +kernel
theorem dX1_grows_48 : decode cX1_grows 48 = .ok (.goto 4, 3) := by decide +kernel
theorem dX1_grows_51 : decode cX1_grows 51 = .ok (.iconst 0, 1) := by decide +kernel
theorem dX1_grows_52 : decode cX1_grows 52 = .ok (.istore_n 2, 1) := by decide +kernel
theorem dX1_grows_53 : decode cX1_grows 53 = .ok (.aload_n 1, 1) := by decide +kernel
theorem dX1_grows_54 : decode cX1_grows 54 = .ok (.getfield 248, 3) := by decide +kernel
theorem dX1_grows_57 : decode cX1_grows 57 = .ok (.iload_n 3, 1) := by decide +kernel
theorem dX1_grows_58 : decode cX1_grows 58 = .ok (.lload 4, 2) := by decide +kernel
theorem dX1_grows_60 : decode cX1_grows 60 = .ok (.lastore, 1) := by decide +kernel
theorem dX1_grows_61 : decode cX1_grows 61 = .ok (.iinc 3 1, 3) := by decide +kernel
theorem dX1_grows_64 : decode cX1_grows 64 = .ok (.goto (-60), 3) := by decide +kernel
theorem dX1_grows_67 : decode cX1_grows 67 = .ok (.iload_n 2, 1) := by decide +kernel
theorem dX1_grows_68 : decode cX1_grows 68 = .ok (.ireturn, 1) := by decide +kernel
theorem dX1_asks_0 : decode cX1_asks 0 = .ok (.lconst 0, 1) := by decide +kernel
theorem dX1_asks_1 : decode cX1_asks 1 = .ok (.lstore_n 3, 1) := by decide +kernel
theorem dX1_asks_2 : decode cX1_asks 2 = .ok (.iconst 0, 1) := by decide +kernel
theorem dX1_asks_3 : decode cX1_asks 3 = .ok (.istore 5, 2) := by decide +kernel
theorem dX1_asks_5 : decode cX1_asks 5 = .ok (.iload 5, 2) := by decide +kernel
theorem dX1_asks_7 : decode cX1_asks 7 = .ok (.aload_n 0, 1) := by decide +kernel
theorem dX1_asks_8 : decode cX1_asks 8 = .ok (.getfield 18, 3) := by decide +kernel
theorem dX1_asks_11 : decode cX1_asks 11 = .ok (.invokevirtual 139, 3) := by decide +kernel
theorem dX1_asks_14 : decode cX1_asks 14 = .ok (.if_icmp .ge 83, 3) := by decide +kernel
theorem dX1_asks_17 : decode cX1_asks 17 = .ok (.aload_n 0, 1) := by decide +kernel
theorem dX1_asks_18 : decode cX1_asks 18 = .ok (.getfield 18, 3) := by decide +kernel
theorem dX1_asks_21 : decode cX1_asks 21 = .ok (.iload 5, 2) := by decide +kernel
theorem dX1_asks_23 : decode cX1_asks 23 = .ok (.invokevirtual 142, 3) := by decide +kernel
theorem dX1_asks_26 : decode cX1_asks 26 = .ok (.checkcast 146, 3) := by decide +kernel
theorem dX1_asks_29 : decode cX1_asks 29 = .ok (.astore 6, 2) := by decide +kernel
theorem dX1_asks_31 : decode cX1_asks 31 = .ok (.iload_n 2, 1) := by decide +kernel
theorem dX1_asks_32 : decode cX1_asks 32 = .ok (.aload 6, 2) := by decide +kernel
theorem dX1_asks_34 : decode cX1_asks 34 = .ok (.invokevirtual 148, 3) := by decide +kernel
theorem dX1_asks_37 : decode cX1_asks 37 = .ok (.getfield 114, 3) := by decide +kernel
theorem dX1_asks_40 : decode cX1_asks 40 = .ok (.iadd, 1) := by decide +kernel
theorem dX1_asks_41 : decode cX1_asks 41 = .ok (.istore 7, 2) := by decide +kernel
theorem dX1_asks_43 : decode cX1_asks 43 = .ok (.lload_n 3, 1) := by decide +kernel
theorem dX1_asks_44 : decode cX1_asks 44 = .ok (.aload 6, 2) := by decide +kernel
theorem dX1_asks_46 : decode cX1_asks 46 = .ok (.invokevirtual 152, 3) := by decide +kernel
theorem dX1_asks_49 : decode cX1_asks 49 = .ok (.aload_n 1, 1) := by decide +kernel
theorem dX1_asks_50 : decode cX1_asks 50 = .ok (.if_acmp .ne 38, 3) := by decide +kernel
theorem dX1_asks_53 : decode cX1_asks 53 = .ok (.aload 6, 2) := by decide +kernel
theorem dX1_asks_55 : decode cX1_asks 55 = .ok (.iload_n 2, 1) := by decide +kernel
theorem dX1_asks_56 : decode cX1_asks 56 = .ok (.invokevirtual 223, 3) := by decide +kernel
theorem dX1_asks_59 : decode cX1_asks 59 = .ok (.ifCond .eq 29, 3) := by decide +kernel
theorem dX1_asks_62 : decode cX1_asks 62 = .ok (.iload 7, 2) := by decide +kernel
theorem dX1_asks_64 : decode cX1_asks 64 = .ok (.bipush 12, 2) := by decide +kernel
theorem dX1_asks_66 : decode cX1_asks 66 = .ok (.if_icmp .ge 22, 3) := by decide +kernel
theorem dX1_asks_69 : decode cX1_asks 69 = .ok (.aload 6, 2) := by decide +kernel
theorem dX1_asks_71 : decode cX1_asks 71 = .ok (.aload 6, 2) := by decide +kernel
theorem dX1_asks_73 : decode cX1_asks 73 = .ok (.invokevirtual 148, 3) := by decide +kernel
theorem dX1_asks_76 : decode cX1_asks 76 = .ok (.getfield 226, 3) := by decide +kernel
theorem dX1_asks_79 : decode cX1_asks 79 = .ok (.iload 7, 2) := by decide +kernel
theorem dX1_asks_81 : decode cX1_asks 81 = .ok (.laload, 1) := by decide +kernel
theorem dX1_asks_82 : decode cX1_asks 82 = .ok (.invokevirtual 230, 3) := by decide +kernel
theorem dX1_asks_85 : decode cX1_asks 85 = .ok (.goto 4, 3) := by decide +kernel
theorem dX1_asks_88 : decode cX1_asks 88 = .ok (.lconst 0, 1) := by decide +kernel
theorem dX1_asks_89 : decode cX1_asks 89 = .ok (.ladd, 1) := by decide +kernel
theorem dX1_asks_90 : decode cX1_asks 90 = .ok (.lstore_n 3, 1) := by decide +kernel
theorem dX1_asks_91 : decode cX1_asks 91 = .ok (.iinc 5 1, 3) := by decide +kernel
theorem dX1_asks_94 : decode cX1_asks 94 = .ok (.goto (-89), 3) := by decide +kernel
theorem dX1_asks_97 : decode cX1_asks 97 = .ok (.lload_n 3, 1) := by decide +kernel
theorem dX1_asks_98 : decode cX1_asks 98 = .ok (.lreturn, 1) := by decide +kernel
theorem dX1_net_0 : decode cX1_net 0 = .ok (.aload_n 1, 1) := by decide +kernel
theorem dX1_net_1 : decode cX1_net 1 = .ok (.getfield 188, 3) := by decide +kernel
theorem dX1_net_4 : decode cX1_net 4 = .ok (.i2l, 1) := by decide +kernel
theorem dX1_net_5 : decode cX1_net 5 = .ok (.lstore_n 2, 1) := by decide +kernel
theorem dX1_net_6 : decode cX1_net 6 = .ok (.lconst 0, 1) := by decide +kernel
theorem dX1_net_7 : decode cX1_net 7 = .ok (.lstore 4, 2) := by decide +kernel
theorem dX1_net_9 : decode cX1_net 9 = .ok (.iconst 0, 1) := by decide +kernel
theorem dX1_net_10 : decode cX1_net 10 = .ok (.istore 6, 2) := by decide +kernel
theorem dX1_net_12 : decode cX1_net 12 = .ok (.iload 6, 2) := by decide +kernel
theorem dX1_net_14 : decode cX1_net 14 = .ok (.bipush 12, 2) := by decide +kernel
theorem dX1_net_16 : decode cX1_net 16 = .ok (.if_icmp .ge 79, 3) := by decide +kernel
theorem dX1_net_19 : decode cX1_net 19 = .ok (.lload_n 2, 1) := by decide +kernel
theorem dX1_net_20 : decode cX1_net 20 = .ok (.aload_n 0, 1) := by decide +kernel
theorem dX1_net_21 : decode cX1_net 21 = .ok (.getfield 29, 3) := by decide +kernel
theorem dX1_net_24 : decode cX1_net 24 = .ok (.aload_n 1, 1) := by decide +kernel
theorem dX1_net_25 : decode cX1_net 25 = .ok (.getfield 159, 3) := by decide +kernel
theorem dX1_net_28 : decode cX1_net 28 = .ok (.iload 6, 2) := by decide +kernel
theorem dX1_net_30 : decode cX1_net 30 = .ok (.invokevirtual 240, 3) := by decide +kernel
theorem dX1_net_33 : decode cX1_net 33 = .ok (.aload_n 1, 1) := by decide +kernel
theorem dX1_net_34 : decode cX1_net 34 = .ok (.getfield 248, 3) := by decide +kernel
theorem dX1_net_37 : decode cX1_net 37 = .ok (.iload 6, 2) := by decide +kernel
theorem dX1_net_39 : decode cX1_net 39 = .ok (.laload, 1) := by decide +kernel
theorem dX1_net_40 : decode cX1_net 40 = .ok (.lsub, 1) := by decide +kernel
theorem dX1_net_41 : decode cX1_net 41 = .ok (.ladd, 1) := by decide +kernel
theorem dX1_net_42 : decode cX1_net 42 = .ok (.lstore_n 2, 1) := by decide +kernel
theorem dX1_net_43 : decode cX1_net 43 = .ok (.aload_n 1, 1) := by decide +kernel
theorem dX1_net_44 : decode cX1_net 44 = .ok (.getfield 251, 3) := by decide +kernel
theorem dX1_net_47 : decode cX1_net 47 = .ok (.iload 6, 2) := by decide +kernel
theorem dX1_net_49 : decode cX1_net 49 = .ok (.lload_n 2, 1) := by decide +kernel
theorem dX1_net_50 : decode cX1_net 50 = .ok (.lastore, 1) := by decide +kernel
theorem dX1_net_51 : decode cX1_net 51 = .ok (.lload 4, 2) := by decide +kernel
theorem dX1_net_53 : decode cX1_net 53 = .ok (.aload_n 1, 1) := by decide +kernel
theorem dX1_net_54 : decode cX1_net 54 = .ok (.getfield 117, 3) := by decide +kernel
theorem dX1_net_57 : decode cX1_net 57 = .ok (.i2l, 1) := by decide +kernel
theorem dX1_net_58 : decode cX1_net 58 = .ok (.lload_n 2, 1) := by decide +kernel
theorem dX1_net_59 : decode cX1_net 59 = .ok (.lsub, 1) := by decide +kernel
theorem dX1_net_60 : decode cX1_net 60 = .ok (.invokestatic 254, 3) := by decide +kernel
theorem dX1_net_63 : decode cX1_net 63 = .ok (.lstore 4, 2) := by decide +kernel
theorem dX1_net_65 : decode cX1_net 65 = .ok (.aload_n 1, 1) := by decide +kernel
theorem dX1_net_66 : decode cX1_net 66 = .ok (.getfield 260, 3) := by decide +kernel
theorem dX1_net_69 : decode cX1_net 69 = .ok (.iload 6, 2) := by decide +kernel
theorem dX1_net_71 : decode cX1_net 71 = .ok (.iconst 1, 1) := by decide +kernel
theorem dX1_net_72 : decode cX1_net 72 = .ok (.iadd, 1) := by decide +kernel
theorem dX1_net_73 : decode cX1_net 73 = .ok (.iload 6, 2) := by decide +kernel
theorem dX1_net_75 : decode cX1_net 75 = .ok (.aload_n 1, 1) := by decide +kernel
theorem dX1_net_76 : decode cX1_net 76 = .ok (.getfield 114, 3) := by decide +kernel
theorem dX1_net_79 : decode cX1_net 79 = .ok (.if_icmp .ge 7, 3) := by decide +kernel
theorem dX1_net_82 : decode cX1_net 82 = .ok (.lconst 0, 1) := by decide +kernel
theorem dX1_net_83 : decode cX1_net 83 = .ok (.goto 5, 3) := by decide +kernel
theorem dX1_net_86 : decode cX1_net 86 = .ok (.lload 4, 2) := by decide +kernel
theorem dX1_net_88 : decode cX1_net 88 = .ok (.lastore, 1) := by decide +kernel
theorem dX1_net_89 : decode cX1_net 89 = .ok (.iinc 6 1, 3) := by decide +kernel
theorem dX1_net_92 : decode cX1_net 92 = .ok (.goto (-80), 3) := by decide +kernel
theorem dX1_net_95 : decode cX1_net 95 = .ok (.aload_n 0, 1) := by decide +kernel
theorem dX1_net_96 : decode cX1_net 96 = .ok (.getfield 49, 3) := by decide +kernel
theorem dX1_net_99 : decode cX1_net 99 = .ok (.aload_n 1, 1) := by decide +kernel
theorem dX1_net_100 : decode cX1_net 100 = .ok (.getfield 107, 3) := by decide +kernel
theorem dX1_net_103 : decode cX1_net 103 = .ok (.aaload, 1) := by decide +kernel
theorem dX1_net_104 : decode cX1_net 104 = .ok (.aload_n 1, 1) := by decide +kernel
theorem dX1_net_105 : decode cX1_net 105 = .ok (.invokevirtual 263, 3) := by decide +kernel
theorem dX1_net_108 : decode cX1_net 108 = .ok (.lconst 0, 1) := by decide +kernel
theorem dX1_net_109 : decode cX1_net 109 = .ok (.lstore 6, 2) := by decide +kernel
theorem dX1_net_111 : decode cX1_net 111 = .ok (.iconst 0, 1) := by decide +kernel
theorem dX1_net_112 : decode cX1_net 112 = .ok (.istore 8, 2) := by decide +kernel
theorem dX1_net_114 : decode cX1_net 114 = .ok (.iload 8, 2) := by decide +kernel
theorem dX1_net_116 : decode cX1_net 116 = .ok (.bipush 12, 2) := by decide +kernel
theorem dX1_net_118 : decode cX1_net 118 = .ok (.if_icmp .ge 33, 3) := by decide +kernel
theorem dX1_net_121 : decode cX1_net 121 = .ok (.lload 6, 2) := by decide +kernel
theorem dX1_net_123 : decode cX1_net 123 = .ok (.aload_n 1, 1) := by decide +kernel
theorem dX1_net_124 : decode cX1_net 124 = .ok (.getfield 226, 3) := by decide +kernel
theorem dX1_net_127 : decode cX1_net 127 = .ok (.iload 8, 2) := by decide +kernel
theorem dX1_net_129 : decode cX1_net 129 = .ok (.laload, 1) := by decide +kernel
theorem dX1_net_130 : decode cX1_net 130 = .ok (.ladd, 1) := by decide +kernel
theorem dX1_net_131 : decode cX1_net 131 = .ok (.lstore 6, 2) := by decide +kernel
theorem dX1_net_133 : decode cX1_net 133 = .ok (.aload_n 1, 1) := by decide +kernel
theorem dX1_net_134 : decode cX1_net 134 = .ok (.getfield 251, 3) := by decide +kernel
theorem dX1_net_137 : decode cX1_net 137 = .ok (.iload 8, 2) := by decide +kernel
theorem dX1_net_139 : decode cX1_net 139 = .ok (.dup2, 1) := by decide +kernel
theorem dX1_net_140 : decode cX1_net 140 = .ok (.laload, 1) := by decide +kernel
theorem dX1_net_141 : decode cX1_net 141 = .ok (.lload 6, 2) := by decide +kernel
theorem dX1_net_143 : decode cX1_net 143 = .ok (.ladd, 1) := by decide +kernel
theorem dX1_net_144 : decode cX1_net 144 = .ok (.lastore, 1) := by decide +kernel
theorem dX1_net_145 : decode cX1_net 145 = .ok (.iinc 8 1, 3) := by decide +kernel
theorem dX1_net_148 : decode cX1_net 148 = .ok (.goto (-34), 3) := by decide +kernel
theorem dX1_net_151 : decode cX1_net 151 = .ok (.return_, 1) := by decide +kernel
theorem dX1_item_0 : decode cX1_item 0 = .ok (.aload_n 0, 1) := by decide +kernel
theorem dX1_item_1 : decode cX1_item 1 = .ok (.iload_n 1, 1) := by decide +kernel
theorem dX1_item_2 : decode cX1_item 2 = .ok (.invokevirtual 100, 3) := by decide +kernel
theorem dX1_item_5 : decode cX1_item 5 = .ok (.astore 6, 2) := by decide +kernel
theorem dX1_item_7 : decode cX1_item 7 = .ok (.iload_n 2, 1) := by decide +kernel
theorem dX1_item_8 : decode cX1_item 8 = .ok (.iconst 0, 1) := by decide +kernel
theorem dX1_item_9 : decode cX1_item 9 = .ok (.iconst 3, 1) := by decide +kernel
theorem dX1_item_10 : decode cX1_item 10 = .ok (.invokestatic 89, 3) := by decide +kernel
theorem dX1_item_13 : decode cX1_item 13 = .ok (.ifCond .eq 40, 3) := by decide +kernel
theorem dX1_item_16 : decode cX1_item 16 = .ok (.iload_n 3, 1) := by decide +kernel
theorem dX1_item_17 : decode cX1_item 17 = .ok (.iconst 1, 1) := by decide +kernel
theorem dX1_item_18 : decode cX1_item 18 = .ok (.sipush 1000, 3) := by decide +kernel
theorem dX1_item_21 : decode cX1_item 21 = .ok (.invokestatic 89, 3) := by decide +kernel
theorem dX1_item_24 : decode cX1_item 24 = .ok (.ifCond .eq 29, 3) := by decide +kernel
theorem dX1_item_27 : decode cX1_item 27 = .ok (.iload 4, 2) := by decide +kernel
theorem dX1_item_29 : decode cX1_item 29 = .ok (.iconst 0, 1) := by decide +kernel
theorem dX1_item_30 : decode cX1_item 30 = .ok (.iconst 4, 1) := by decide +kernel
theorem dX1_item_31 : decode cX1_item 31 = .ok (.invokestatic 89, 3) := by decide +kernel
theorem dX1_item_34 : decode cX1_item 34 = .ok (.ifCond .eq 19, 3) := by decide +kernel
theorem dX1_item_37 : decode cX1_item 37 = .ok (.iload 5, 2) := by decide +kernel
theorem dX1_item_39 : decode cX1_item 39 = .ok (.iconst 0, 1) := by decide +kernel
theorem dX1_item_40 : decode cX1_item 40 = .ok (.sipush 1000, 3) := by decide +kernel
theorem dX1_item_43 : decode cX1_item 43 = .ok (.invokestatic 89, 3) := by decide +kernel
theorem dX1_item_46 : decode cX1_item 46 = .ok (.ifCond .eq 7, 3) := by decide +kernel
theorem dX1_item_49 : decode cX1_item 49 = .ok (.iconst 1, 1) := by decide +kernel
theorem dX1_item_50 : decode cX1_item 50 = .ok (.goto 4, 3) := by decide +kernel
theorem dX1_item_53 : decode cX1_item 53 = .ok (.iconst 0, 1) := by decide +kernel
theorem dX1_item_54 : decode cX1_item 54 = .ok (.invokestatic 104, 3) := by decide +kernel
theorem dX1_item_57 : decode cX1_item 57 = .ok (.aload 6, 2) := by decide +kernel
theorem dX1_item_59 : decode cX1_item 59 = .ok (.iload_n 2, 1) := by decide +kernel
theorem dX1_item_60 : decode cX1_item 60 = .ok (.putfield 107, 3) := by decide +kernel
theorem dX1_item_63 : decode cX1_item 63 = .ok (.aload 6, 2) := by decide +kernel
theorem dX1_item_65 : decode cX1_item 65 = .ok (.iload_n 3, 1) := by decide +kernel
theorem dX1_item_66 : decode cX1_item 66 = .ok (.putfield 111, 3) := by decide +kernel
theorem dX1_item_69 : decode cX1_item 69 = .ok (.aload 6, 2) := by decide +kernel
theorem dX1_item_71 : decode cX1_item 71 = .ok (.iload 4, 2) := by decide +kernel
theorem dX1_item_73 : decode cX1_item 73 = .ok (.putfield 114, 3) := by decide +kernel
theorem dX1_item_76 : decode cX1_item 76 = .ok (.aload 6, 2) := by decide +kernel
theorem dX1_item_78 : decode cX1_item 78 = .ok (.iload 5, 2) := by decide +kernel
theorem dX1_item_80 : decode cX1_item 80 = .ok (.putfield 117, 3) := by decide +kernel
theorem dX1_item_83 : decode cX1_item 83 = .ok (.aload_n 0, 1) := by decide +kernel
theorem dX1_item_84 : decode cX1_item 84 = .ok (.aload 6, 2) := by decide +kernel
theorem dX1_item_86 : decode cX1_item 86 = .ok (.invokevirtual 120, 3) := by decide +kernel
theorem dX1_item_89 : decode cX1_item 89 = .ok (.return_, 1) := by decide +kernel
theorem dX1_of_0 : decode cX1_of 0 = .ok (.iload_n 1, 1) := by decide +kernel
theorem dX1_of_1 : decode cX1_of 1 = .ok (.iconst 0, 1) := by decide +kernel
theorem dX1_of_2 : decode cX1_of 2 = .ok (.bipush 11, 2) := by decide +kernel
theorem dX1_of_4 : decode cX1_of 4 = .ok (.invokestatic 89, 3) := by decide +kernel
theorem dX1_of_7 : decode cX1_of 7 = .ok (.invokestatic 93, 3) := by decide +kernel
theorem dX1_of_10 : decode cX1_of 10 = .ok (.aload_n 0, 1) := by decide +kernel
theorem dX1_of_11 : decode cX1_of 11 = .ok (.getfield 9, 3) := by decide +kernel
theorem dX1_of_14 : decode cX1_of 14 = .ok (.iload_n 1, 1) := by decide +kernel
theorem dX1_of_15 : decode cX1_of 15 = .ok (.aaload, 1) := by decide +kernel
theorem dX1_of_16 : decode cX1_of 16 = .ok (.areturn, 1) := by decide +kernel
theorem dX1_isIn_0 : decode cX1_isIn 0 = .ok (.iload_n 0, 1) := by decide +kernel
theorem dX1_isIn_1 : decode cX1_isIn 1 = .ok (.iload_n 1, 1) := by decide +kernel
theorem dX1_isIn_2 : decode cX1_isIn 2 = .ok (.if_icmp .lt 12, 3) := by decide +kernel
theorem dX1_isIn_5 : decode cX1_isIn 5 = .ok (.iload_n 0, 1) := by decide +kernel
theorem dX1_isIn_6 : decode cX1_isIn 6 = .ok (.iload_n 2, 1) := by decide +kernel
theorem dX1_isIn_7 : decode cX1_isIn 7 = .ok (.if_icmp .gt 7, 3) := by decide +kernel
theorem dX1_isIn_10 : decode cX1_isIn 10 = .ok (.iconst 1, 1) := by decide +kernel
theorem dX1_isIn_11 : decode cX1_isIn 11 = .ok (.goto 4, 3) := by decide +kernel
theorem dX1_isIn_14 : decode cX1_isIn 14 = .ok (.iconst 0, 1) := by decide +kernel
theorem dX1_isIn_15 : decode cX1_isIn 15 = .ok (.ireturn, 1) := by decide +kernel
theorem dX1_there_0 : decode cX1_there 0 = .ok (.iload_n 0, 1) := by decide +kernel
theorem dX1_there_1 : decode cX1_there 1 = .ok (.ifCond .ne 11, 3) := by decide +kernel
theorem dX1_there_4 : decode cX1_there 4 = .ok (.new 80, 3) := by decide +kernel
theorem dX1_there_7 : decode cX1_there 7 = .ok (.dup, 1) := by decide +kernel
theorem dX1_there_8 : decode cX1_there 8 = .ok (.invokespecial 82, 3) := by decide +kernel
theorem dX1_there_11 : decode cX1_there 11 = .ok (.athrow, 1) := by decide +kernel
theorem dX1_there_12 : decode cX1_there 12 = .ok (.return_, 1) := by decide +kernel
theorem dX1_argue_0 : decode cX1_argue 0 = .ok (.iload_n 0, 1) := by decide +kernel
theorem dX1_argue_1 : decode cX1_argue 1 = .ok (.ifCond .ne 11, 3) := by decide +kernel
theorem dX1_argue_4 : decode cX1_argue 4 = .ok (.new 83, 3) := by decide +kernel
theorem dX1_argue_7 : decode cX1_argue 7 = .ok (.dup, 1) := by decide +kernel
theorem dX1_argue_8 : decode cX1_argue 8 = .ok (.invokespecial 85, 3) := by decide +kernel
theorem dX1_argue_11 : decode cX1_argue 11 = .ok (.athrow, 1) := by decide +kernel
theorem dX1_argue_12 : decode cX1_argue 12 = .ok (.return_, 1) := by decide +kernel
theorem dX1_tell_0 : decode cX1_tell 0 = .ok (.aload_n 1, 1) := by decide +kernel
theorem dX1_tell_1 : decode cX1_tell 1 = .ok (.iconst 1, 1) := by decide +kernel
theorem dX1_tell_2 : decode cX1_tell 2 = .ok (.putfield 97, 3) := by decide +kernel
theorem dX1_tell_5 : decode cX1_tell 5 = .ok (.aload_n 0, 1) := by decide +kernel
theorem dX1_tell_6 : decode cX1_tell 6 = .ok (.iconst 1, 1) := by decide +kernel
theorem dX1_tell_7 : decode cX1_tell 7 = .ok (.putfield 66, 3) := by decide +kernel
theorem dX1_tell_10 : decode cX1_tell 10 = .ok (.return_, 1) := by decide +kernel
theorem dX1_costs_0 : decode cX1_costs 0 = .ok (.aload_n 0, 1) := by decide +kernel
theorem dX1_costs_1 : decode cX1_costs 1 = .ok (.iload_n 1, 1) := by decide +kernel
theorem dX1_costs_2 : decode cX1_costs 2 = .ok (.invokevirtual 100, 3) := by decide +kernel
theorem dX1_costs_5 : decode cX1_costs 5 = .ok (.astore 5, 2) := by decide +kernel
theorem dX1_costs_7 : decode cX1_costs 7 = .ok (.iload_n 2, 1) := by decide +kernel
theorem dX1_costs_8 : decode cX1_costs 8 = .ok (.iconst 0, 1) := by decide +kernel
theorem dX1_costs_9 : decode cX1_costs 9 = .ok (.sipush 200, 3) := by decide +kernel
theorem dX1_costs_12 : decode cX1_costs 12 = .ok (.invokestatic 89, 3) := by decide +kernel
theorem dX1_costs_15 : decode cX1_costs 15 = .ok (.ifCond .eq 28, 3) := by decide +kernel
theorem dX1_costs_18 : decode cX1_costs 18 = .ok (.iload_n 3, 1) := by decide +kernel
theorem dX1_costs_19 : decode cX1_costs 19 = .ok (.iconst 0, 1) := by decide +kernel
theorem dX1_costs_20 : decode cX1_costs 20 = .ok (.ldc 123, 2) := by decide +kernel
theorem dX1_costs_22 : decode cX1_costs 22 = .ok (.invokestatic 89, 3) := by decide +kernel
theorem dX1_costs_25 : decode cX1_costs 25 = .ok (.ifCond .eq 18, 3) := by decide +kernel
theorem dX1_costs_28 : decode cX1_costs 28 = .ok (.iload 4, 2) := by decide +kernel
theorem dX1_costs_30 : decode cX1_costs 30 = .ok (.iconst 0, 1) := by decide +kernel
theorem dX1_costs_31 : decode cX1_costs 31 = .ok (.bipush 100, 2) := by decide +kernel
theorem dX1_costs_33 : decode cX1_costs 33 = .ok (.invokestatic 89, 3) := by decide +kernel
theorem dX1_costs_36 : decode cX1_costs 36 = .ok (.ifCond .eq 7, 3) := by decide +kernel
theorem dX1_costs_39 : decode cX1_costs 39 = .ok (.iconst 1, 1) := by decide +kernel
theorem dX1_costs_40 : decode cX1_costs 40 = .ok (.goto 4, 3) := by decide +kernel
theorem dX1_costs_43 : decode cX1_costs 43 = .ok (.iconst 0, 1) := by decide +kernel
theorem dX1_costs_44 : decode cX1_costs 44 = .ok (.invokestatic 104, 3) := by decide +kernel
theorem dX1_costs_47 : decode cX1_costs 47 = .ok (.aload 5, 2) := by decide +kernel
theorem dX1_costs_49 : decode cX1_costs 49 = .ok (.iload_n 2, 1) := by decide +kernel
theorem dX1_costs_50 : decode cX1_costs 50 = .ok (.putfield 124, 3) := by decide +kernel
theorem dX1_costs_53 : decode cX1_costs 53 = .ok (.aload 5, 2) := by decide +kernel
theorem dX1_costs_55 : decode cX1_costs 55 = .ok (.iload_n 3, 1) := by decide +kernel
theorem dX1_costs_56 : decode cX1_costs 56 = .ok (.putfield 127, 3) := by decide +kernel
theorem dX1_costs_59 : decode cX1_costs 59 = .ok (.aload 5, 2) := by decide +kernel
theorem dX1_costs_61 : decode cX1_costs 61 = .ok (.iload 4, 2) := by decide +kernel
theorem dX1_costs_63 : decode cX1_costs 63 = .ok (.putfield 130, 3) := by decide +kernel
theorem dX1_costs_66 : decode cX1_costs 66 = .ok (.aload_n 0, 1) := by decide +kernel
theorem dX1_costs_67 : decode cX1_costs 67 = .ok (.aload 5, 2) := by decide +kernel
theorem dX1_costs_69 : decode cX1_costs 69 = .ok (.invokevirtual 120, 3) := by decide +kernel
theorem dX1_costs_72 : decode cX1_costs 72 = .ok (.return_, 1) := by decide +kernel
theorem dX1_made_0 : decode cX1_made 0 = .ok (.aload_n 0, 1) := by decide +kernel
theorem dX1_made_1 : decode cX1_made 1 = .ok (.iload_n 1, 1) := by decide +kernel
theorem dX1_made_2 : decode cX1_made 2 = .ok (.invokevirtual 100, 3) := by decide +kernel
theorem dX1_made_5 : decode cX1_made 5 = .ok (.astore 4, 2) := by decide +kernel
theorem dX1_made_7 : decode cX1_made 7 = .ok (.iload_n 2, 1) := by decide +kernel
theorem dX1_made_8 : decode cX1_made 8 = .ok (.iconst 0, 1) := by decide +kernel
theorem dX1_made_9 : decode cX1_made 9 = .ok (.iconst 2, 1) := by decide +kernel
theorem dX1_made_10 : decode cX1_made 10 = .ok (.invokestatic 89, 3) := by decide +kernel
theorem dX1_made_13 : decode cX1_made 13 = .ok (.invokestatic 93, 3) := by decide +kernel
theorem dX1_made_16 : decode cX1_made 16 = .ok (.iload_n 3, 1) := by decide +kernel
theorem dX1_made_17 : decode cX1_made 17 = .ok (.iconst 0, 1) := by decide +kernel
theorem dX1_made_18 : decode cX1_made 18 = .ok (.bipush 9, 2) := by decide +kernel
theorem dX1_made_20 : decode cX1_made 20 = .ok (.invokestatic 89, 3) := by decide +kernel
theorem dX1_made_23 : decode cX1_made 23 = .ok (.invokestatic 104, 3) := by decide +kernel
theorem dX1_made_26 : decode cX1_made 26 = .ok (.aload 4, 2) := by decide +kernel
theorem dX1_made_28 : decode cX1_made 28 = .ok (.iload_n 2, 1) := by decide +kernel
theorem dX1_made_29 : decode cX1_made 29 = .ok (.putfield 133, 3) := by decide +kernel
theorem dX1_made_32 : decode cX1_made 32 = .ok (.aload 4, 2) := by decide +kernel
theorem dX1_made_34 : decode cX1_made 34 = .ok (.iload_n 3, 1) := by decide +kernel
theorem dX1_made_35 : decode cX1_made 35 = .ok (.putfield 136, 3) := by decide +kernel
theorem dX1_made_38 : decode cX1_made 38 = .ok (.return_, 1) := by decide +kernel
theorem dX1_line_0 : decode cX1_line 0 = .ok (.aload_n 0, 1) := by decide +kernel
theorem dX1_line_1 : decode cX1_line 1 = .ok (.iload_n 1, 1) := by decide +kernel
theorem dX1_line_2 : decode cX1_line 2 = .ok (.invokevirtual 100, 3) := by decide +kernel
theorem dX1_line_5 : decode cX1_line 5 = .ok (.astore 6, 2) := by decide +kernel
theorem dX1_line_7 : decode cX1_line 7 = .ok (.aload_n 0, 1) := by decide +kernel
theorem dX1_line_8 : decode cX1_line 8 = .ok (.iload_n 2, 1) := by decide +kernel
theorem dX1_line_9 : decode cX1_line 9 = .ok (.invokevirtual 100, 3) := by decide +kernel
theorem dX1_line_12 : decode cX1_line 12 = .ok (.astore 7, 2) := by decide +kernel
theorem dX1_line_14 : decode cX1_line 14 = .ok (.iload_n 3, 1) := by decide +kernel
theorem dX1_line_15 : decode cX1_line 15 = .ok (.iconst 0, 1) := by decide +kernel
theorem dX1_line_16 : decode cX1_line 16 = .ok (.bipush 9, 2) := by decide +kernel
theorem dX1_line_18 : decode cX1_line 18 = .ok (.invokestatic 89, 3) := by decide +kernel
theorem dX1_line_21 : decode cX1_line 21 = .ok (.ifCond .eq 29, 3) := by decide +kernel
theorem dX1_line_24 : decode cX1_line 24 = .ok (.iload_n 3, 1) := by decide +kernel
theorem dX1_line_25 : decode cX1_line 25 = .ok (.ifCond .eq 21, 3) := by decide +kernel
theorem dX1_line_28 : decode cX1_line 28 = .ok (.iload 4, 2) := by decide +kernel
theorem dX1_line_30 : decode cX1_line 30 = .ok (.iconst 0, 1) := by decide +kernel
theorem dX1_line_31 : decode cX1_line 31 = .ok (.iload 5, 2) := by decide +kernel
theorem dX1_line_33 : decode cX1_line 33 = .ok (.invokestatic 89, 3) := by decide +kernel
theorem dX1_line_36 : decode cX1_line 36 = .ok (.ifCond .eq 14, 3) := by decide +kernel
theorem dX1_line_39 : decode cX1_line 39 = .ok (.iload 5, 2) := by decide +kernel
theorem dX1_line_41 : decode cX1_line 41 = .ok (.bipush 12, 2) := by decide +kernel
theorem dX1_line_43 : decode cX1_line 43 = .ok (.if_icmp .ge 7, 3) := by decide +kernel
theorem dX1_line_46 : decode cX1_line 46 = .ok (.iconst 1, 1) := by decide +kernel
theorem dX1_line_47 : decode cX1_line 47 = .ok (.goto 4, 3) := by decide +kernel
theorem dX1_line_50 : decode cX1_line 50 = .ok (.iconst 0, 1) := by decide +kernel
theorem dX1_line_51 : decode cX1_line 51 = .ok (.invokestatic 104, 3) := by decide +kernel
theorem dX1_line_54 : decode cX1_line 54 = .ok (.aload_n 0, 1) := by decide +kernel
theorem dX1_line_55 : decode cX1_line 55 = .ok (.aload 6, 2) := by decide +kernel
theorem dX1_line_57 : decode cX1_line 57 = .ok (.aload 7, 2) := by decide +kernel
theorem dX1_line_59 : decode cX1_line 59 = .ok (.invokevirtual 165, 3) := by decide +kernel
theorem dX1_line_62 : decode cX1_line 62 = .ok (.istore 8, 2) := by decide +kernel
theorem dX1_line_64 : decode cX1_line 64 = .ok (.iload_n 3, 1) := by decide +kernel
theorem dX1_line_65 : decode cX1_line 65 = .ok (.ifCond .le 39, 3) := by decide +kernel
theorem dX1_line_68 : decode cX1_line 68 = .ok (.aload_n 0, 1) := by decide +kernel
theorem dX1_line_69 : decode cX1_line 69 = .ok (.aload 6, 2) := by decide +kernel
theorem dX1_line_71 : decode cX1_line 71 = .ok (.aload 7, 2) := by decide +kernel
theorem dX1_line_73 : decode cX1_line 73 = .ok (.invokevirtual 169, 3) := by decide +kernel
theorem dX1_line_76 : decode cX1_line 76 = .ok (.ifCond .eq 24, 3) := by decide +kernel
theorem dX1_line_79 : decode cX1_line 79 = .ok (.iload 8, 2) := by decide +kernel
theorem dX1_line_81 : decode cX1_line 81 = .ok (.ifCond .ge 15, 3) := by decide +kernel
theorem dX1_line_84 : decode cX1_line 84 = .ok (.aload_n 0, 1) := by decide +kernel
theorem dX1_line_85 : decode cX1_line 85 = .ok (.getfield 18, 3) := by decide +kernel
theorem dX1_line_88 : decode cX1_line 88 = .ok (.invokevirtual 139, 3) := by decide +kernel
theorem dX1_line_91 : decode cX1_line 91 = .ok (.bipush 24, 2) := by decide +kernel
theorem dX1_line_93 : decode cX1_line 93 = .ok (.if_icmp .ge 7, 3) := by decide +kernel
theorem dX1_line_96 : decode cX1_line 96 = .ok (.iconst 1, 1) := by decide +kernel
theorem dX1_line_97 : decode cX1_line 97 = .ok (.goto 4, 3) := by decide +kernel
theorem dX1_line_100 : decode cX1_line 100 = .ok (.iconst 0, 1) := by decide +kernel
theorem dX1_line_101 : decode cX1_line 101 = .ok (.invokestatic 172, 3) := by decide +kernel
theorem dX1_line_104 : decode cX1_line 104 = .ok (.iload 8, 2) := by decide +kernel
theorem dX1_line_106 : decode cX1_line 106 = .ok (.ifCond .lt 13, 3) := by decide +kernel
theorem dX1_line_109 : decode cX1_line 109 = .ok (.aload_n 0, 1) := by decide +kernel
theorem dX1_line_110 : decode cX1_line 110 = .ok (.getfield 18, 3) := by decide +kernel
theorem dX1_line_113 : decode cX1_line 113 = .ok (.iload 8, 2) := by decide +kernel
theorem dX1_line_115 : decode cX1_line 115 = .ok (.invokevirtual 175, 3) := by decide +kernel
theorem dX1_line_118 : decode cX1_line 118 = .ok (.pop, 1) := by decide +kernel
theorem dX1_line_119 : decode cX1_line 119 = .ok (.iload_n 3, 1) := by decide +kernel
theorem dX1_line_120 : decode cX1_line 120 = .ok (.ifCond .le 27, 3) := by decide +kernel
theorem dX1_line_123 : decode cX1_line 123 = .ok (.aload_n 0, 1) := by decide +kernel
theorem dX1_line_124 : decode cX1_line 124 = .ok (.getfield 18, 3) := by decide +kernel
theorem dX1_line_127 : decode cX1_line 127 = .ok (.new 146, 3) := by decide +kernel
theorem dX1_line_130 : decode cX1_line 130 = .ok (.dup, 1) := by decide +kernel
theorem dX1_line_131 : decode cX1_line 131 = .ok (.aload 6, 2) := by decide +kernel
theorem dX1_line_133 : decode cX1_line 133 = .ok (.aload 7, 2) := by decide +kernel
theorem dX1_line_135 : decode cX1_line 135 = .ok (.iload_n 3, 1) := by decide +kernel
theorem dX1_line_136 : decode cX1_line 136 = .ok (.iload 4, 2) := by decide +kernel
theorem dX1_line_138 : decode cX1_line 138 = .ok (.iload 5, 2) := by decide +kernel
theorem dX1_line_140 : decode cX1_line 140 = .ok (.invokespecial 178, 3) := by decide +kernel
theorem dX1_line_143 : decode cX1_line 143 = .ok (.invokevirtual 181, 3) := by decide +kernel
theorem dX1_line_146 : decode cX1_line 146 = .ok (.pop, 1) := by decide +kernel
theorem dX1_line_147 : decode cX1_line 147 = .ok (.aload_n 0, 1) := by decide +kernel
theorem dX1_line_148 : decode cX1_line 148 = .ok (.aconst_null, 1) := by decide +kernel
theorem dX1_line_149 : decode cX1_line 149 = .ok (.aconst_null, 1) := by decide +kernel
theorem dX1_line_150 : decode cX1_line 150 = .ok (.invokevirtual 169, 3) := by decide +kernel
theorem dX1_line_153 : decode cX1_line 153 = .ok (.pop, 1) := by decide +kernel
theorem dX1_line_154 : decode cX1_line 154 = .ok (.aload_n 0, 1) := by decide +kernel
theorem dX1_line_155 : decode cX1_line 155 = .ok (.invokevirtual 185, 3) := by decide +kernel
theorem dX1_line_158 : decode cX1_line 158 = .ok (.aload_n 0, 1) := by decide +kernel
theorem dX1_line_159 : decode cX1_line 159 = .ok (.aload 7, 2) := by decide +kernel
theorem dX1_line_161 : decode cX1_line 161 = .ok (.invokevirtual 120, 3) := by decide +kernel
theorem dX1_line_164 : decode cX1_line 164 = .ok (.return_, 1) := by decide +kernel
theorem dX1_find_0 : decode cX1_find 0 = .ok (.iconst (-1), 1) := by decide +kernel
theorem dX1_find_1 : decode cX1_find 1 = .ok (.istore_n 3, 1) := by decide +kernel
theorem dX1_find_2 : decode cX1_find 2 = .ok (.iconst 0, 1) := by decide +kernel
theorem dX1_find_3 : decode cX1_find 3 = .ok (.istore 4, 2) := by decide +kernel
theorem dX1_find_5 : decode cX1_find 5 = .ok (.iload 4, 2) := by decide +kernel
theorem dX1_find_7 : decode cX1_find 7 = .ok (.aload_n 0, 1) := by decide +kernel
theorem dX1_find_8 : decode cX1_find 8 = .ok (.getfield 18, 3) := by decide +kernel
theorem dX1_find_11 : decode cX1_find 11 = .ok (.invokevirtual 139, 3) := by decide +kernel
theorem dX1_find_14 : decode cX1_find 14 = .ok (.if_icmp .ge 54, 3) := by decide +kernel
theorem dX1_find_17 : decode cX1_find 17 = .ok (.aload_n 0, 1) := by decide +kernel
theorem dX1_find_18 : decode cX1_find 18 = .ok (.getfield 18, 3) := by decide +kernel
theorem dX1_find_21 : decode cX1_find 21 = .ok (.iload 4, 2) := by decide +kernel
theorem dX1_find_23 : decode cX1_find 23 = .ok (.invokevirtual 142, 3) := by decide +kernel
theorem dX1_find_26 : decode cX1_find 26 = .ok (.checkcast 146, 3) := by decide +kernel
theorem dX1_find_29 : decode cX1_find 29 = .ok (.invokevirtual 148, 3) := by decide +kernel
theorem dX1_find_32 : decode cX1_find 32 = .ok (.aload_n 1, 1) := by decide +kernel
theorem dX1_find_33 : decode cX1_find 33 = .ok (.if_acmp .ne 27, 3) := by decide +kernel
theorem dX1_find_36 : decode cX1_find 36 = .ok (.aload_n 0, 1) := by decide +kernel
theorem dX1_find_37 : decode cX1_find 37 = .ok (.getfield 18, 3) := by decide +kernel
theorem dX1_find_40 : decode cX1_find 40 = .ok (.iload 4, 2) := by decide +kernel
theorem dX1_find_42 : decode cX1_find 42 = .ok (.invokevirtual 142, 3) := by decide +kernel
theorem dX1_find_45 : decode cX1_find 45 = .ok (.checkcast 146, 3) := by decide +kernel
theorem dX1_find_48 : decode cX1_find 48 = .ok (.invokevirtual 152, 3) := by decide +kernel
theorem dX1_find_51 : decode cX1_find 51 = .ok (.aload_n 2, 1) := by decide +kernel
theorem dX1_find_52 : decode cX1_find 52 = .ok (.if_acmp .ne 8, 3) := by decide +kernel
theorem dX1_find_55 : decode cX1_find 55 = .ok (.iload 4, 2) := by decide +kernel
theorem dX1_find_57 : decode cX1_find 57 = .ok (.goto 4, 3) := by decide +kernel
theorem dX1_find_60 : decode cX1_find 60 = .ok (.iload_n 3, 1) := by decide +kernel
theorem dX1_find_61 : decode cX1_find 61 = .ok (.istore_n 3, 1) := by decide +kernel
theorem dX1_find_62 : decode cX1_find 62 = .ok (.iinc 4 1, 3) := by decide +kernel
theorem dX1_find_65 : decode cX1_find 65 = .ok (.goto (-60), 3) := by decide +kernel
theorem dX1_find_68 : decode cX1_find 68 = .ok (.iload_n 3, 1) := by decide +kernel
theorem dX1_find_69 : decode cX1_find 69 = .ok (.ireturn, 1) := by decide +kernel
theorem dX1_levelled_0 : decode cX1_levelled 0 = .ok (.iconst 0, 1) := by decide +kernel
theorem dX1_levelled_1 : decode cX1_levelled 1 = .ok (.istore_n 3, 1) := by decide +kernel
theorem dX1_levelled_2 : decode cX1_levelled 2 = .ok (.iload_n 3, 1) := by decide +kernel
theorem dX1_levelled_3 : decode cX1_levelled 3 = .ok (.bipush 12, 2) := by decide +kernel
theorem dX1_levelled_5 : decode cX1_levelled 5 = .ok (.if_icmp .ge 16, 3) := by decide +kernel
theorem dX1_levelled_8 : decode cX1_levelled 8 = .ok (.aload_n 0, 1) := by decide +kernel
theorem dX1_levelled_9 : decode cX1_levelled 9 = .ok (.getfield 70, 3) := by decide +kernel
theorem dX1_levelled_12 : decode cX1_levelled 12 = .ok (.iload_n 3, 1) := by decide +kernel
theorem dX1_levelled_13 : decode cX1_levelled 13 = .ok (.iconst 0, 1) := by decide +kernel
theorem dX1_levelled_14 : decode cX1_levelled 14 = .ok (.iastore, 1) := by decide +kernel
theorem dX1_levelled_15 : decode cX1_levelled 15 = .ok (.iinc 3 1, 3) := by decide +kernel
theorem dX1_levelled_18 : decode cX1_levelled 18 = .ok (.goto (-16), 3) := by decide +kernel
theorem dX1_levelled_21 : decode cX1_levelled 21 = .ok (.iconst 1, 1) := by decide +kernel
theorem dX1_levelled_22 : decode cX1_levelled 22 = .ok (.istore_n 3, 1) := by decide +kernel
theorem dX1_levelled_23 : decode cX1_levelled 23 = .ok (.iload_n 3, 1) := by decide +kernel
theorem dX1_levelled_24 : decode cX1_levelled 24 = .ok (.ifCond .eq 125, 3) := by decide +kernel
theorem dX1_levelled_27 : decode cX1_levelled 27 = .ok (.aload_n 1, 1) := by decide +kernel
theorem dX1_levelled_28 : decode cX1_levelled 28 = .ok (.ifnull 16, 3) := by decide +kernel
theorem dX1_levelled_31 : decode cX1_levelled 31 = .ok (.aload_n 0, 1) := by decide +kernel
theorem dX1_levelled_32 : decode cX1_levelled 32 = .ok (.aload_n 1, 1) := by decide +kernel
theorem dX1_levelled_33 : decode cX1_levelled 33 = .ok (.aload_n 2, 1) := by decide +kernel
theorem dX1_levelled_34 : decode cX1_levelled 34 = .ok (.invokevirtual 155, 3) := by decide +kernel
theorem dX1_levelled_37 : decode cX1_levelled 37 = .ok (.ifCond .eq 7, 3) := by decide +kernel
theorem dX1_levelled_40 : decode cX1_levelled 40 = .ok (.iconst 1, 1) := by decide +kernel
theorem dX1_levelled_41 : decode cX1_levelled 41 = .ok (.goto 4, 3) := by decide +kernel
theorem dX1_levelled_44 : decode cX1_levelled 44 = .ok (.iconst 0, 1) := by decide +kernel
theorem dX1_levelled_45 : decode cX1_levelled 45 = .ok (.istore_n 3, 1) := by decide +kernel
theorem dX1_levelled_46 : decode cX1_levelled 46 = .ok (.iconst 0, 1) := by decide +kernel
theorem dX1_levelled_47 : decode cX1_levelled 47 = .ok (.istore 4, 2) := by decide +kernel
theorem dX1_levelled_49 : decode cX1_levelled 49 = .ok (.iload 4, 2) := by decide +kernel
theorem dX1_levelled_51 : decode cX1_levelled 51 = .ok (.aload_n 0, 1) := by decide +kernel
theorem dX1_levelled_52 : decode cX1_levelled 52 = .ok (.getfield 18, 3) := by decide +kernel
theorem dX1_levelled_55 : decode cX1_levelled 55 = .ok (.invokevirtual 139, 3) := by decide +kernel
theorem dX1_levelled_58 : decode cX1_levelled 58 = .ok (.if_icmp .ge 46, 3) := by decide +kernel
theorem dX1_levelled_61 : decode cX1_levelled 61 = .ok (.iload_n 3, 1) := by decide +kernel
theorem dX1_levelled_62 : decode cX1_levelled 62 = .ok (.aload_n 0, 1) := by decide +kernel
theorem dX1_levelled_63 : decode cX1_levelled 63 = .ok (.aload_n 0, 1) := by decide +kernel
theorem dX1_levelled_64 : decode cX1_levelled 64 = .ok (.getfield 18, 3) := by decide +kernel
theorem dX1_levelled_67 : decode cX1_levelled 67 = .ok (.iload 4, 2) := by decide +kernel
theorem dX1_levelled_69 : decode cX1_levelled 69 = .ok (.invokevirtual 142, 3) := by decide +kernel
theorem dX1_levelled_72 : decode cX1_levelled 72 = .ok (.checkcast 146, 3) := by decide +kernel
theorem dX1_levelled_75 : decode cX1_levelled 75 = .ok (.invokevirtual 148, 3) := by decide +kernel
theorem dX1_levelled_78 : decode cX1_levelled 78 = .ok (.aload_n 0, 1) := by decide +kernel
theorem dX1_levelled_79 : decode cX1_levelled 79 = .ok (.getfield 18, 3) := by decide +kernel
theorem dX1_levelled_82 : decode cX1_levelled 82 = .ok (.iload 4, 2) := by decide +kernel
theorem dX1_levelled_84 : decode cX1_levelled 84 = .ok (.invokevirtual 142, 3) := by decide +kernel
theorem dX1_levelled_87 : decode cX1_levelled 87 = .ok (.checkcast 146, 3) := by decide +kernel
theorem dX1_levelled_90 : decode cX1_levelled 90 = .ok (.invokevirtual 152, 3) := by decide +kernel
theorem dX1_levelled_93 : decode cX1_levelled 93 = .ok (.invokevirtual 155, 3) := by decide +kernel
theorem dX1_levelled_96 : decode cX1_levelled 96 = .ok (.ior, 1) := by decide +kernel
theorem dX1_levelled_97 : decode cX1_levelled 97 = .ok (.istore_n 3, 1) := by decide +kernel
theorem dX1_levelled_98 : decode cX1_levelled 98 = .ok (.iinc 4 1, 3) := by decide +kernel
theorem dX1_levelled_101 : decode cX1_levelled 101 = .ok (.goto (-52), 3) := by decide +kernel
theorem dX1_levelled_104 : decode cX1_levelled 104 = .ok (.aload_n 0, 1) := by decide +kernel
theorem dX1_levelled_105 : decode cX1_levelled 105 = .ok (.getfield 70, 3) := by decide +kernel
theorem dX1_levelled_108 : decode cX1_levelled 108 = .ok (.astore 4, 2) := by decide +kernel
theorem dX1_levelled_110 : decode cX1_levelled 110 = .ok (.aload 4, 2) := by decide +kernel
theorem dX1_levelled_112 : decode cX1_levelled 112 = .ok (.arraylength, 1) := by decide +kernel
theorem dX1_levelled_113 : decode cX1_levelled 113 = .ok (.istore 5, 2) := by decide +kernel
theorem dX1_levelled_115 : decode cX1_levelled 115 = .ok (.iconst 0, 1) := by decide +kernel
theorem dX1_levelled_116 : decode cX1_levelled 116 = .ok (.istore 6, 2) := by decide +kernel
theorem dX1_levelled_118 : decode cX1_levelled 118 = .ok (.iload 6, 2) := by decide +kernel
theorem dX1_levelled_120 : decode cX1_levelled 120 = .ok (.iload 5, 2) := by decide +kernel
theorem dX1_levelled_122 : decode cX1_levelled 122 = .ok (.if_icmp .ge 24, 3) := by decide +kernel
theorem dX1_levelled_125 : decode cX1_levelled 125 = .ok (.aload 4, 2) := by decide +kernel
theorem dX1_levelled_127 : decode cX1_levelled 127 = .ok (.iload 6, 2) := by decide +kernel
theorem dX1_levelled_129 : decode cX1_levelled 129 = .ok (.iaload, 1) := by decide +kernel
theorem dX1_levelled_130 : decode cX1_levelled 130 = .ok (.istore 7, 2) := by decide +kernel
theorem dX1_levelled_132 : decode cX1_levelled 132 = .ok (.iload 7, 2) := by decide +kernel
theorem dX1_levelled_134 : decode cX1_levelled 134 = .ok (.iconst 4, 1) := by decide +kernel
