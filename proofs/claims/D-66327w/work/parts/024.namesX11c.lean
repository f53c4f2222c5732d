set_option maxRecDepth 100000
theorem dX11_replan_11 : decode cX11_replan 11 = .ok (.if_icmp .ge 48, 3) := by decide +kernel
theorem dX11_replan_14 : decode cX11_replan 14 = .ok (.iconst 0, 1) := by decide +kernel
theorem dX11_replan_15 : decode cX11_replan 15 = .ok (.istore_n 3, 1) := by decide +kernel
theorem dX11_replan_16 : decode cX11_replan 16 = .ok (.iload_n 3, 1) := by decide +kernel
theorem dX11_replan_17 : decode cX11_replan 17 = .ok (.bipush 12, 2) := by decide +kernel
theorem dX11_replan_19 : decode cX11_replan 19 = .ok (.if_icmp .ge 34, 3) := by decide +kernel
theorem dX11_replan_22 : decode cX11_replan 22 = .ok (.aload_n 0, 1) := by decide +kernel
theorem dX11_replan_23 : decode cX11_replan 23 = .ok (.iload_n 3, 1) := by decide +kernel
theorem dX11_replan_24 : decode cX11_replan 24 = .ok (.invokevirtual 105, 3) := by decide +kernel
theorem dX11_replan_27 : decode cX11_replan 27 = .ok (.iload_n 2, 1) := by decide +kernel
theorem dX11_replan_28 : decode cX11_replan 28 = .ok (.if_icmp .ne 19, 3) := by decide +kernel
theorem dX11_replan_31 : decode cX11_replan 31 = .ok (.aload_n 0, 1) := by decide +kernel
theorem dX11_replan_32 : decode cX11_replan 32 = .ok (.iload_n 3, 1) := by decide +kernel
theorem dX11_replan_33 : decode cX11_replan 33 = .ok (.invokevirtual 176, 3) := by decide +kernel
theorem dX11_replan_36 : decode cX11_replan 36 = .ok (.ifCond .eq 9, 3) := by decide +kernel
theorem dX11_replan_39 : decode cX11_replan 39 = .ok (.iload_n 1, 1) := by decide +kernel
theorem dX11_replan_40 : decode cX11_replan 40 = .ok (.iconst 1, 1) := by decide +kernel
theorem dX11_replan_41 : decode cX11_replan 41 = .ok (.iadd, 1) := by decide +kernel
theorem dX11_replan_42 : decode cX11_replan 42 = .ok (.goto 4, 3) := by decide +kernel
theorem dX11_replan_45 : decode cX11_replan 45 = .ok (.iload_n 1, 1) := by decide +kernel
theorem dX11_replan_46 : decode cX11_replan 46 = .ok (.istore_n 1, 1) := by decide +kernel
theorem dX11_replan_47 : decode cX11_replan 47 = .ok (.iinc 3 1, 3) := by decide +kernel
theorem dX11_replan_50 : decode cX11_replan 50 = .ok (.goto (-34), 3) := by decide +kernel
theorem dX11_replan_53 : decode cX11_replan 53 = .ok (.iinc 2 1, 3) := by decide +kernel
theorem dX11_replan_56 : decode cX11_replan 56 = .ok (.goto (-47), 3) := by decide +kernel
theorem dX11_replan_59 : decode cX11_replan 59 = .ok (.aload_n 0, 1) := by decide +kernel
theorem dX11_replan_60 : decode cX11_replan 60 = .ok (.iconst 1, 1) := by decide +kernel
theorem dX11_replan_61 : decode cX11_replan 61 = .ok (.putfield 167, 3) := by decide +kernel
theorem dX11_replan_64 : decode cX11_replan 64 = .ok (.aload_n 0, 1) := by decide +kernel
theorem dX11_replan_65 : decode cX11_replan 65 = .ok (.iconst 0, 1) := by decide +kernel
theorem dX11_replan_66 : decode cX11_replan 66 = .ok (.putfield 61, 3) := by decide +kernel
theorem dX11_replan_69 : decode cX11_replan 69 = .ok (.iload_n 1, 1) := by decide +kernel
theorem dX11_replan_70 : decode cX11_replan 70 = .ok (.ireturn, 1) := by decide +kernel
theorem dX11_net_0 : decode cX11_net 0 = .ok (.aload_n 0, 1) := by decide +kernel
theorem dX11_net_1 : decode cX11_net 1 = .ok (.getfield 167, 3) := by decide +kernel
theorem dX11_net_4 : decode cX11_net 4 = .ok (.ifCond .eq 12, 3) := by decide +kernel
theorem dX11_net_7 : decode cX11_net 7 = .ok (.aload_n 0, 1) := by decide +kernel
theorem dX11_net_8 : decode cX11_net 8 = .ok (.getfield 65, 3) := by decide +kernel
theorem dX11_net_11 : decode cX11_net 11 = .ok (.iload_n 1, 1) := by decide +kernel
theorem dX11_net_12 : decode cX11_net 12 = .ok (.baload, 1) := by decide +kernel
theorem dX11_net_13 : decode cX11_net 13 = .ok (.ifCond .eq 7, 3) := by decide +kernel
theorem dX11_net_16 : decode cX11_net 16 = .ok (.iconst 1, 1) := by decide +kernel
theorem dX11_net_17 : decode cX11_net 17 = .ok (.goto 4, 3) := by decide +kernel
theorem dX11_net_20 : decode cX11_net 20 = .ok (.iconst 0, 1) := by decide +kernel
theorem dX11_net_21 : decode cX11_net 21 = .ok (.istore_n 2, 1) := by decide +kernel
theorem dX11_net_22 : decode cX11_net 22 = .ok (.iconst 0, 1) := by decide +kernel
theorem dX11_net_23 : decode cX11_net 23 = .ok (.istore_n 3, 1) := by decide +kernel
theorem dX11_net_24 : decode cX11_net 24 = .ok (.iload_n 3, 1) := by decide +kernel
theorem dX11_net_25 : decode cX11_net 25 = .ok (.bipush 12, 2) := by decide +kernel
theorem dX11_net_27 : decode cX11_net 27 = .ok (.if_icmp .ge 21, 3) := by decide +kernel
theorem dX11_net_30 : decode cX11_net 30 = .ok (.aload_n 0, 1) := by decide +kernel
theorem dX11_net_31 : decode cX11_net 31 = .ok (.getfield 76, 3) := by decide +kernel
theorem dX11_net_34 : decode cX11_net 34 = .ok (.iload_n 3, 1) := by decide +kernel
theorem dX11_net_35 : decode cX11_net 35 = .ok (.aload_n 0, 1) := by decide +kernel
theorem dX11_net_36 : decode cX11_net 36 = .ok (.iload_n 1, 1) := by decide +kernel
theorem dX11_net_37 : decode cX11_net 37 = .ok (.iload_n 3, 1) := by decide +kernel
theorem dX11_net_38 : decode cX11_net 38 = .ok (.invokevirtual 170, 3) := by decide +kernel
theorem dX11_net_41 : decode cX11_net 41 = .ok (.lastore, 1) := by decide +kernel
theorem dX11_net_42 : decode cX11_net 42 = .ok (.iinc 3 1, 3) := by decide +kernel
theorem dX11_net_45 : decode cX11_net 45 = .ok (.goto (-21), 3) := by decide +kernel
theorem dX11_net_48 : decode cX11_net 48 = .ok (.iconst 0, 1) := by decide +kernel
theorem dX11_net_49 : decode cX11_net 49 = .ok (.istore_n 3, 1) := by decide +kernel
theorem dX11_net_50 : decode cX11_net 50 = .ok (.iload_n 3, 1) := by decide +kernel
theorem dX11_net_51 : decode cX11_net 51 = .ok (.bipush 12, 2) := by decide +kernel
theorem dX11_net_53 : decode cX11_net 53 = .ok (.if_icmp .ge 57, 3) := by decide +kernel
theorem dX11_net_56 : decode cX11_net 56 = .ok (.iload_n 2, 1) := by decide +kernel
theorem dX11_net_57 : decode cX11_net 57 = .ok (.ifCond .ne 24, 3) := by decide +kernel
theorem dX11_net_60 : decode cX11_net 60 = .ok (.aload_n 0, 1) := by decide +kernel
theorem dX11_net_61 : decode cX11_net 61 = .ok (.getfield 76, 3) := by decide +kernel
theorem dX11_net_64 : decode cX11_net 64 = .ok (.iload_n 3, 1) := by decide +kernel
theorem dX11_net_65 : decode cX11_net 65 = .ok (.laload, 1) := by decide +kernel
theorem dX11_net_66 : decode cX11_net 66 = .ok (.aload_n 0, 1) := by decide +kernel
theorem dX11_net_67 : decode cX11_net 67 = .ok (.getfield 69, 3) := by decide +kernel
theorem dX11_net_70 : decode cX11_net 70 = .ok (.bipush 12, 2) := by decide +kernel
theorem dX11_net_72 : decode cX11_net 72 = .ok (.iload_n 1, 1) := by decide +kernel
theorem dX11_net_73 : decode cX11_net 73 = .ok (.imul, 1) := by decide +kernel
theorem dX11_net_74 : decode cX11_net 74 = .ok (.iload_n 3, 1) := by decide +kernel
theorem dX11_net_75 : decode cX11_net 75 = .ok (.iadd, 1) := by decide +kernel
theorem dX11_net_76 : decode cX11_net 76 = .ok (.laload, 1) := by decide +kernel
theorem dX11_net_77 : decode cX11_net 77 = .ok (.lcmp, 1) := by decide +kernel
theorem dX11_net_78 : decode cX11_net 78 = .ok (.ifCond .eq 7, 3) := by decide +kernel
theorem dX11_net_81 : decode cX11_net 81 = .ok (.iconst 1, 1) := by decide +kernel
theorem dX11_net_82 : decode cX11_net 82 = .ok (.goto 4, 3) := by decide +kernel
theorem dX11_net_85 : decode cX11_net 85 = .ok (.iconst 0, 1) := by decide +kernel
theorem dX11_net_86 : decode cX11_net 86 = .ok (.istore_n 2, 1) := by decide +kernel
theorem dX11_net_87 : decode cX11_net 87 = .ok (.aload_n 0, 1) := by decide +kernel
theorem dX11_net_88 : decode cX11_net 88 = .ok (.getfield 69, 3) := by decide +kernel
theorem dX11_net_91 : decode cX11_net 91 = .ok (.bipush 12, 2) := by decide +kernel
theorem dX11_net_93 : decode cX11_net 93 = .ok (.iload_n 1, 1) := by decide +kernel
theorem dX11_net_94 : decode cX11_net 94 = .ok (.imul, 1) := by decide +kernel
theorem dX11_net_95 : decode cX11_net 95 = .ok (.iload_n 3, 1) := by decide +kernel
theorem dX11_net_96 : decode cX11_net 96 = .ok (.iadd, 1) := by decide +kernel
theorem dX11_net_97 : decode cX11_net 97 = .ok (.aload_n 0, 1) := by decide +kernel
theorem dX11_net_98 : decode cX11_net 98 = .ok (.getfield 76, 3) := by decide +kernel
theorem dX11_net_101 : decode cX11_net 101 = .ok (.iload_n 3, 1) := by decide +kernel
theorem dX11_net_102 : decode cX11_net 102 = .ok (.laload, 1) := by decide +kernel
theorem dX11_net_103 : decode cX11_net 103 = .ok (.lastore, 1) := by decide +kernel
theorem dX11_net_104 : decode cX11_net 104 = .ok (.iinc 3 1, 3) := by decide +kernel
theorem dX11_net_107 : decode cX11_net 107 = .ok (.goto (-57), 3) := by decide +kernel
theorem dX11_net_110 : decode cX11_net 110 = .ok (.aload_n 0, 1) := by decide +kernel
theorem dX11_net_111 : decode cX11_net 111 = .ok (.iload_n 1, 1) := by decide +kernel
theorem dX11_net_112 : decode cX11_net 112 = .ok (.invokevirtual 173, 3) := by decide +kernel
theorem dX11_net_115 : decode cX11_net 115 = .ok (.aload_n 0, 1) := by decide +kernel
theorem dX11_net_116 : decode cX11_net 116 = .ok (.getfield 65, 3) := by decide +kernel
theorem dX11_net_119 : decode cX11_net 119 = .ok (.iload_n 1, 1) := by decide +kernel
theorem dX11_net_120 : decode cX11_net 120 = .ok (.iconst 0, 1) := by decide +kernel
theorem dX11_net_121 : decode cX11_net 121 = .ok (.bastore, 1) := by decide +kernel
theorem dX11_net_122 : decode cX11_net 122 = .ok (.iload_n 2, 1) := by decide +kernel
theorem dX11_net_123 : decode cX11_net 123 = .ok (.ireturn, 1) := by decide +kernel
theorem dX11_grossOf_0 : decode cX11_grossOf 0 = .ok (.aload_n 0, 1) := by decide +kernel
theorem dX11_grossOf_1 : decode cX11_grossOf 1 = .ok (.iconst 0, 1) := by decide +kernel
theorem dX11_grossOf_2 : decode cX11_grossOf 2 = .ok (.iload_n 1, 1) := by decide +kernel
theorem dX11_grossOf_3 : decode cX11_grossOf 3 = .ok (.iload_n 2, 1) := by decide +kernel
theorem dX11_grossOf_4 : decode cX11_grossOf 4 = .ok (.invokevirtual 127, 3) := by decide +kernel
theorem dX11_grossOf_7 : decode cX11_grossOf 7 = .ok (.iload_n 2, 1) := by decide +kernel
theorem dX11_grossOf_8 : decode cX11_grossOf 8 = .ok (.ifCond .le 15, 3) := by decide +kernel
theorem dX11_grossOf_11 : decode cX11_grossOf 11 = .ok (.aload_n 0, 1) := by decide +kernel
theorem dX11_grossOf_12 : decode cX11_grossOf 12 = .ok (.iconst 0, 1) := by decide +kernel
theorem dX11_grossOf_13 : decode cX11_grossOf 13 = .ok (.iload_n 1, 1) := by decide +kernel
theorem dX11_grossOf_14 : decode cX11_grossOf 14 = .ok (.iload_n 2, 1) := by decide +kernel
theorem dX11_grossOf_15 : decode cX11_grossOf 15 = .ok (.iconst 1, 1) := by decide +kernel
theorem dX11_grossOf_16 : decode cX11_grossOf 16 = .ok (.isub, 1) := by decide +kernel
theorem dX11_grossOf_17 : decode cX11_grossOf 17 = .ok (.invokevirtual 127, 3) := by decide +kernel
theorem dX11_grossOf_20 : decode cX11_grossOf 20 = .ok (.goto 4, 3) := by decide +kernel
theorem dX11_grossOf_23 : decode cX11_grossOf 23 = .ok (.lconst 0, 1) := by decide +kernel
theorem dX11_grossOf_24 : decode cX11_grossOf 24 = .ok (.lsub, 1) := by decide +kernel
theorem dX11_grossOf_25 : decode cX11_grossOf 25 = .ok (.lstore_n 3, 1) := by decide +kernel
theorem dX11_grossOf_26 : decode cX11_grossOf 26 = .ok (.iconst 0, 1) := by decide +kernel
theorem dX11_grossOf_27 : decode cX11_grossOf 27 = .ok (.istore 5, 2) := by decide +kernel
theorem dX11_grossOf_29 : decode cX11_grossOf 29 = .ok (.iload 5, 2) := by decide +kernel
theorem dX11_grossOf_31 : decode cX11_grossOf 31 = .ok (.bipush 12, 2) := by decide +kernel
theorem dX11_grossOf_33 : decode cX11_grossOf 33 = .ok (.if_icmp .ge 24, 3) := by decide +kernel
theorem dX11_grossOf_36 : decode cX11_grossOf 36 = .ok (.lload_n 3, 1) := by decide +kernel
theorem dX11_grossOf_37 : decode cX11_grossOf 37 = .ok (.aload_n 0, 1) := by decide +kernel
theorem dX11_grossOf_38 : decode cX11_grossOf 38 = .ok (.bipush 12, 2) := by decide +kernel
theorem dX11_grossOf_40 : decode cX11_grossOf 40 = .ok (.iload 5, 2) := by decide +kernel
theorem dX11_grossOf_42 : decode cX11_grossOf 42 = .ok (.imul, 1) := by decide +kernel
theorem dX11_grossOf_43 : decode cX11_grossOf 43 = .ok (.iload_n 1, 1) := by decide +kernel
theorem dX11_grossOf_44 : decode cX11_grossOf 44 = .ok (.iadd, 1) := by decide +kernel
theorem dX11_grossOf_45 : decode cX11_grossOf 45 = .ok (.iload_n 2, 1) := by decide +kernel
theorem dX11_grossOf_46 : decode cX11_grossOf 46 = .ok (.invokevirtual 139, 3) := by decide +kernel
theorem dX11_grossOf_49 : decode cX11_grossOf 49 = .ok (.ladd, 1) := by decide +kernel
theorem dX11_grossOf_50 : decode cX11_grossOf 50 = .ok (.lstore_n 3, 1) := by decide +kernel
theorem dX11_grossOf_51 : decode cX11_grossOf 51 = .ok (.iinc 5 1, 3) := by decide +kernel
theorem dX11_grossOf_54 : decode cX11_grossOf 54 = .ok (.goto (-25), 3) := by decide +kernel
theorem dX11_grossOf_57 : decode cX11_grossOf 57 = .ok (.lload_n 3, 1) := by decide +kernel
theorem dX11_grossOf_58 : decode cX11_grossOf 58 = .ok (.lreturn, 1) := by decide +kernel
theorem dX11_sumOf_0 : decode cX11_sumOf 0 = .ok (.lconst 0, 1) := by decide +kernel
theorem dX11_sumOf_1 : decode cX11_sumOf 1 = .ok (.lstore 4, 2) := by decide +kernel
theorem dX11_sumOf_3 : decode cX11_sumOf 3 = .ok (.bipush 24, 2) := by decide +kernel
theorem dX11_sumOf_5 : decode cX11_sumOf 5 = .ok (.iload_n 1, 1) := by decide +kernel
theorem dX11_sumOf_6 : decode cX11_sumOf 6 = .ok (.imul, 1) := by decide +kernel
theorem dX11_sumOf_7 : decode cX11_sumOf 7 = .ok (.istore 6, 2) := by decide +kernel
theorem dX11_sumOf_9 : decode cX11_sumOf 9 = .ok (.iload 6, 2) := by decide +kernel
theorem dX11_sumOf_11 : decode cX11_sumOf 11 = .ok (.bipush 24, 2) := by decide +kernel
theorem dX11_sumOf_13 : decode cX11_sumOf 13 = .ok (.iload_n 1, 1) := by decide +kernel
theorem dX11_sumOf_14 : decode cX11_sumOf 14 = .ok (.imul, 1) := by decide +kernel
theorem dX11_sumOf_15 : decode cX11_sumOf 15 = .ok (.aload_n 0, 1) := by decide +kernel
theorem dX11_sumOf_16 : decode cX11_sumOf 16 = .ok (.getfield 49, 3) := by decide +kernel
theorem dX11_sumOf_19 : decode cX11_sumOf 19 = .ok (.iload_n 1, 1) := by decide +kernel
theorem dX11_sumOf_20 : decode cX11_sumOf 20 = .ok (.iaload, 1) := by decide +kernel
theorem dX11_sumOf_21 : decode cX11_sumOf 21 = .ok (.iadd, 1) := by decide +kernel
theorem dX11_sumOf_22 : decode cX11_sumOf 22 = .ok (.if_icmp .ge 49, 3) := by decide +kernel
theorem dX11_sumOf_25 : decode cX11_sumOf 25 = .ok (.aload_n 0, 1) := by decide +kernel
theorem dX11_sumOf_26 : decode cX11_sumOf 26 = .ok (.getfield 52, 3) := by decide +kernel
theorem dX11_sumOf_29 : decode cX11_sumOf 29 = .ok (.iload 6, 2) := by decide +kernel
theorem dX11_sumOf_31 : decode cX11_sumOf 31 = .ok (.iaload, 1) := by decide +kernel
theorem dX11_sumOf_32 : decode cX11_sumOf 32 = .ok (.iload_n 2, 1) := by decide +kernel
theorem dX11_sumOf_33 : decode cX11_sumOf 33 = .ok (.if_icmp .ne 28, 3) := by decide +kernel
theorem dX11_sumOf_36 : decode cX11_sumOf 36 = .ok (.aload_n 0, 1) := by decide +kernel
theorem dX11_sumOf_37 : decode cX11_sumOf 37 = .ok (.getfield 55, 3) := by decide +kernel
theorem dX11_sumOf_40 : decode cX11_sumOf 40 = .ok (.iload 6, 2) := by decide +kernel
theorem dX11_sumOf_42 : decode cX11_sumOf 42 = .ok (.iaload, 1) := by decide +kernel
theorem dX11_sumOf_43 : decode cX11_sumOf 43 = .ok (.iload_n 3, 1) := by decide +kernel
theorem dX11_sumOf_44 : decode cX11_sumOf 44 = .ok (.if_icmp .gt 17, 3) := by decide +kernel
theorem dX11_sumOf_47 : decode cX11_sumOf 47 = .ok (.lload 4, 2) := by decide +kernel
theorem dX11_sumOf_49 : decode cX11_sumOf 49 = .ok (.aload_n 0, 1) := by decide +kernel
theorem dX11_sumOf_50 : decode cX11_sumOf 50 = .ok (.getfield 58, 3) := by decide +kernel
theorem dX11_sumOf_53 : decode cX11_sumOf 53 = .ok (.iload 6, 2) := by decide +kernel
theorem dX11_sumOf_55 : decode cX11_sumOf 55 = .ok (.iaload, 1) := by decide +kernel
theorem dX11_sumOf_56 : decode cX11_sumOf 56 = .ok (.i2l, 1) := by decide +kernel
theorem dX11_sumOf_57 : decode cX11_sumOf 57 = .ok (.ladd, 1) := by decide +kernel
theorem dX11_sumOf_58 : decode cX11_sumOf 58 = .ok (.goto 5, 3) := by decide +kernel
theorem dX11_sumOf_61 : decode cX11_sumOf 61 = .ok (.lload 4, 2) := by decide +kernel
theorem dX11_sumOf_63 : decode cX11_sumOf 63 = .ok (.lstore 4, 2) := by decide +kernel
theorem dX11_sumOf_65 : decode cX11_sumOf 65 = .ok (.iinc 6 1, 3) := by decide +kernel
theorem dX11_sumOf_68 : decode cX11_sumOf 68 = .ok (.goto (-59), 3) := by decide +kernel
theorem dX11_sumOf_71 : decode cX11_sumOf 71 = .ok (.lload 4, 2) := by decide +kernel
theorem dX11_sumOf_73 : decode cX11_sumOf 73 = .ok (.lreturn, 1) := by decide +kernel
theorem dX11_asks_0 : decode cX11_asks 0 = .ok (.iload_n 1, 1) := by decide +kernel
theorem dX11_asks_1 : decode cX11_asks 1 = .ok (.bipush 12, 2) := by decide +kernel
theorem dX11_asks_3 : decode cX11_asks 3 = .ok (.idiv, 1) := by decide +kernel
theorem dX11_asks_4 : decode cX11_asks 4 = .ok (.istore_n 3, 1) := by decide +kernel
theorem dX11_asks_5 : decode cX11_asks 5 = .ok (.iload_n 2, 1) := by decide +kernel
theorem dX11_asks_6 : decode cX11_asks 6 = .ok (.aload_n 0, 1) := by decide +kernel
theorem dX11_asks_7 : decode cX11_asks 7 = .ok (.getfield 16, 3) := by decide +kernel
theorem dX11_asks_10 : decode cX11_asks 10 = .ok (.iload_n 3, 1) := by decide +kernel
theorem dX11_asks_11 : decode cX11_asks 11 = .ok (.iaload, 1) := by decide +kernel
theorem dX11_asks_12 : decode cX11_asks 12 = .ok (.iadd, 1) := by decide +kernel
theorem dX11_asks_13 : decode cX11_asks 13 = .ok (.istore 4, 2) := by decide +kernel
theorem dX11_asks_15 : decode cX11_asks 15 = .ok (.aload_n 0, 1) := by decide +kernel
theorem dX11_asks_16 : decode cX11_asks 16 = .ok (.getfield 40, 3) := by decide +kernel
theorem dX11_asks_19 : decode cX11_asks 19 = .ok (.iload_n 1, 1) := by decide +kernel
theorem dX11_asks_20 : decode cX11_asks 20 = .ok (.iaload, 1) := by decide +kernel
theorem dX11_asks_21 : decode cX11_asks 21 = .ok (.ifCond .le 34, 3) := by decide +kernel
theorem dX11_asks_24 : decode cX11_asks 24 = .ok (.iload 4, 2) := by decide +kernel
theorem dX11_asks_26 : decode cX11_asks 26 = .ok (.bipush 12, 2) := by decide +kernel
theorem dX11_asks_28 : decode cX11_asks 28 = .ok (.if_icmp .ge 27, 3) := by decide +kernel
theorem dX11_asks_31 : decode cX11_asks 31 = .ok (.iload_n 2, 1) := by decide +kernel
theorem dX11_asks_32 : decode cX11_asks 32 = .ok (.aload_n 0, 1) := by decide +kernel
theorem dX11_asks_33 : decode cX11_asks 33 = .ok (.getfield 43, 3) := by decide +kernel
theorem dX11_asks_36 : decode cX11_asks 36 = .ok (.iload_n 1, 1) := by decide +kernel
theorem dX11_asks_37 : decode cX11_asks 37 = .ok (.iaload, 1) := by decide +kernel
theorem dX11_asks_38 : decode cX11_asks 38 = .ok (.if_icmp .lt 17, 3) := by decide +kernel
theorem dX11_asks_41 : decode cX11_asks 41 = .ok (.iload_n 2, 1) := by decide +kernel
theorem dX11_asks_42 : decode cX11_asks 42 = .ok (.aload_n 0, 1) := by decide +kernel
theorem dX11_asks_43 : decode cX11_asks 43 = .ok (.getfield 46, 3) := by decide +kernel
theorem dX11_asks_46 : decode cX11_asks 46 = .ok (.iload_n 1, 1) := by decide +kernel
theorem dX11_asks_47 : decode cX11_asks 47 = .ok (.iaload, 1) := by decide +kernel
theorem dX11_asks_48 : decode cX11_asks 48 = .ok (.if_icmp .gt 7, 3) := by decide +kernel
theorem dX11_asks_51 : decode cX11_asks 51 = .ok (.iconst 1, 1) := by decide +kernel
theorem dX11_asks_52 : decode cX11_asks 52 = .ok (.goto 4, 3) := by decide +kernel
theorem dX11_asks_55 : decode cX11_asks 55 = .ok (.iconst 0, 1) := by decide +kernel
theorem dX11_asks_56 : decode cX11_asks 56 = .ok (.istore 5, 2) := by decide +kernel
theorem dX11_asks_58 : decode cX11_asks 58 = .ok (.iload 5, 2) := by decide +kernel
theorem dX11_asks_60 : decode cX11_asks 60 = .ok (.ifCond .eq 18, 3) := by decide +kernel
theorem dX11_asks_63 : decode cX11_asks 63 = .ok (.aload_n 0, 1) := by decide +kernel
theorem dX11_asks_64 : decode cX11_asks 64 = .ok (.getfield 73, 3) := by decide +kernel
theorem dX11_asks_67 : decode cX11_asks 67 = .ok (.bipush 12, 2) := by decide +kernel
theorem dX11_asks_69 : decode cX11_asks 69 = .ok (.iload_n 3, 1) := by decide +kernel
theorem dX11_asks_70 : decode cX11_asks 70 = .ok (.imul, 1) := by decide +kernel
theorem dX11_asks_71 : decode cX11_asks 71 = .ok (.iload 4, 2) := by decide +kernel
theorem dX11_asks_73 : decode cX11_asks 73 = .ok (.iadd, 1) := by decide +kernel
theorem dX11_asks_74 : decode cX11_asks 74 = .ok (.laload, 1) := by decide +kernel
theorem dX11_asks_75 : decode cX11_asks 75 = .ok (.goto 4, 3) := by decide +kernel
theorem dX11_asks_78 : decode cX11_asks 78 = .ok (.lconst 0, 1) := by decide +kernel
theorem dX11_asks_79 : decode cX11_asks 79 = .ok (.lstore 6, 2) := by decide +kernel
theorem dX11_asks_81 : decode cX11_asks 81 = .ok (.lload 6, 2) := by decide +kernel
theorem dX11_asks_83 : decode cX11_asks 83 = .ok (.aload_n 0, 1) := by decide +kernel
theorem dX11_asks_84 : decode cX11_asks 84 = .ok (.getfield 40, 3) := by decide +kernel
theorem dX11_asks_87 : decode cX11_asks 87 = .ok (.iload_n 1, 1) := by decide +kernel
theorem dX11_asks_88 : decode cX11_asks 88 = .ok (.iaload, 1) := by decide +kernel
theorem dX11_asks_89 : decode cX11_asks 89 = .ok (.i2l, 1) := by decide +kernel
theorem dX11_asks_90 : decode cX11_asks 90 = .ok (.lmul, 1) := by decide +kernel
theorem dX11_asks_91 : decode cX11_asks 91 = .ok (.ldc2_w 135, 3) := by decide +kernel
theorem dX11_asks_94 : decode cX11_asks 94 = .ok (.aload_n 0, 1) := by decide +kernel
theorem dX11_asks_95 : decode cX11_asks 95 = .ok (.getfield 22, 3) := by decide +kernel
theorem dX11_asks_98 : decode cX11_asks 98 = .ok (.iload_n 1, 1) := by decide +kernel
theorem dX11_asks_99 : decode cX11_asks 99 = .ok (.bipush 12, 2) := by decide +kernel
theorem dX11_asks_101 : decode cX11_asks 101 = .ok (.irem, 1) := by decide +kernel
theorem dX11_asks_102 : decode cX11_asks 102 = .ok (.iaload, 1) := by decide +kernel
theorem dX11_asks_103 : decode cX11_asks 103 = .ok (.i2l, 1) := by decide +kernel
theorem dX11_asks_104 : decode cX11_asks 104 = .ok (.ladd, 1) := by decide +kernel
theorem dX11_asks_105 : decode cX11_asks 105 = .ok (.lmul, 1) := by decide +kernel
theorem dX11_asks_106 : decode cX11_asks 106 = .ok (.ldc2_w 137, 3) := by decide +kernel
theorem dX11_asks_109 : decode cX11_asks 109 = .ok (.ladd, 1) := by decide +kernel
theorem dX11_asks_110 : decode cX11_asks 110 = .ok (.ldc2_w 135, 3) := by decide +kernel
theorem dX11_asks_113 : decode cX11_asks 113 = .ok (.ldiv, 1) := by decide +kernel
theorem dX11_asks_114 : decode cX11_asks 114 = .ok (.lreturn, 1) := by decide +kernel
theorem dX11_plan_0 : decode cX11_plan 0 = .ok (.aload_n 0, 1) := by decide +kernel
theorem dX11_plan_1 : decode cX11_plan 1 = .ok (.iload_n 1, 1) := by decide +kernel
theorem dX11_plan_2 : decode cX11_plan 2 = .ok (.invokevirtual 157, 3) := by decide +kernel
theorem dX11_plan_5 : decode cX11_plan 5 = .ok (.aload_n 0, 1) := by decide +kernel
theorem dX11_plan_6 : decode cX11_plan 6 = .ok (.iload_n 1, 1) := by decide +kernel
theorem dX11_plan_7 : decode cX11_plan 7 = .ok (.invokevirtual 160, 3) := by decide +kernel
theorem dX11_plan_10 : decode cX11_plan 10 = .ok (.lconst 0, 1) := by decide +kernel
theorem dX11_plan_11 : decode cX11_plan 11 = .ok (.lstore_n 2, 1) := by decide +kernel
theorem dX11_plan_12 : decode cX11_plan 12 = .ok (.iconst 0, 1) := by decide +kernel
theorem dX11_plan_13 : decode cX11_plan 13 = .ok (.istore 4, 2) := by decide +kernel
theorem dX11_plan_15 : decode cX11_plan 15 = .ok (.iload 4, 2) := by decide +kernel
theorem dX11_plan_17 : decode cX11_plan 17 = .ok (.bipush 12, 2) := by decide +kernel
theorem dX11_plan_19 : decode cX11_plan 19 = .ok (.if_icmp .ge 65, 3) := by decide +kernel
theorem dX11_plan_22 : decode cX11_plan 22 = .ok (.iload 4, 2) := by decide +kernel
theorem dX11_plan_24 : decode cX11_plan 24 = .ok (.aload_n 0, 1) := by decide +kernel
theorem dX11_plan_25 : decode cX11_plan 25 = .ok (.getfield 16, 3) := by decide +kernel
theorem dX11_plan_28 : decode cX11_plan 28 = .ok (.iload_n 1, 1) := by decide +kernel
theorem dX11_plan_29 : decode cX11_plan 29 = .ok (.iaload, 1) := by decide +kernel
theorem dX11_plan_30 : decode cX11_plan 30 = .ok (.if_icmp .lt 26, 3) := by decide +kernel
theorem dX11_plan_33 : decode cX11_plan 33 = .ok (.aload_n 0, 1) := by decide +kernel
theorem dX11_plan_34 : decode cX11_plan 34 = .ok (.getfield 79, 3) := by decide +kernel
theorem dX11_plan_37 : decode cX11_plan 37 = .ok (.iload 4, 2) := by decide +kernel
theorem dX11_plan_39 : decode cX11_plan 39 = .ok (.laload, 1) := by decide +kernel
theorem dX11_plan_40 : decode cX11_plan 40 = .ok (.lload_n 2, 1) := by decide +kernel
theorem dX11_plan_41 : decode cX11_plan 41 = .ok (.lcmp, 1) := by decide +kernel
theorem dX11_plan_42 : decode cX11_plan 42 = .ok (.ifCond .le 14, 3) := by decide +kernel
theorem dX11_plan_45 : decode cX11_plan 45 = .ok (.aload_n 0, 1) := by decide +kernel
theorem dX11_plan_46 : decode cX11_plan 46 = .ok (.iload_n 1, 1) := by decide +kernel
theorem dX11_plan_47 : decode cX11_plan 47 = .ok (.iload 4, 2) := by decide +kernel
theorem dX11_plan_49 : decode cX11_plan 49 = .ok (.lload_n 2, 1) := by decide +kernel
theorem dX11_plan_50 : decode cX11_plan 50 = .ok (.invokevirtual 163, 3) := by decide +kernel
theorem dX11_plan_53 : decode cX11_plan 53 = .ok (.goto 4, 3) := by decide +kernel
theorem dX11_plan_56 : decode cX11_plan 56 = .ok (.lconst 0, 1) := by decide +kernel
theorem dX11_plan_57 : decode cX11_plan 57 = .ok (.lstore 5, 2) := by decide +kernel
theorem dX11_plan_59 : decode cX11_plan 59 = .ok (.aload_n 0, 1) := by decide +kernel
theorem dX11_plan_60 : decode cX11_plan 60 = .ok (.getfield 73, 3) := by decide +kernel
theorem dX11_plan_63 : decode cX11_plan 63 = .ok (.bipush 12, 2) := by decide +kernel
theorem dX11_plan_65 : decode cX11_plan 65 = .ok (.iload_n 1, 1) := by decide +kernel
theorem dX11_plan_66 : decode cX11_plan 66 = .ok (.imul, 1) := by decide +kernel
theorem dX11_plan_67 : decode cX11_plan 67 = .ok (.iload 4, 2) := by decide +kernel
theorem dX11_plan_69 : decode cX11_plan 69 = .ok (.iadd, 1) := by decide +kernel
theorem dX11_plan_70 : decode cX11_plan 70 = .ok (.lload 5, 2) := by decide +kernel
theorem dX11_plan_72 : decode cX11_plan 72 = .ok (.lastore, 1) := by decide +kernel
theorem dX11_plan_73 : decode cX11_plan 73 = .ok (.lload_n 2, 1) := by decide +kernel
theorem dX11_plan_74 : decode cX11_plan 74 = .ok (.lload 5, 2) := by decide +kernel
theorem dX11_plan_76 : decode cX11_plan 76 = .ok (.ladd, 1) := by decide +kernel
theorem dX11_plan_77 : decode cX11_plan 77 = .ok (.lstore_n 2, 1) := by decide +kernel
theorem dX11_plan_78 : decode cX11_plan 78 = .ok (.iinc 4 1, 3) := by decide +kernel
theorem dX11_plan_81 : decode cX11_plan 81 = .ok (.goto (-66), 3) := by decide +kernel
theorem dX11_plan_84 : decode cX11_plan 84 = .ok (.return_, 1) := by decide +kernel
theorem dX11_findNeeds_0 : decode cX11_findNeeds 0 = .ok (.iconst 0, 1) := by decide +kernel
theorem dX11_findNeeds_1 : decode cX11_findNeeds 1 = .ok (.istore_n 2, 1) := by decide +kernel
theorem dX11_findNeeds_2 : decode cX11_findNeeds 2 = .ok (.iload_n 2, 1) := by decide +kernel
theorem dX11_findNeeds_3 : decode cX11_findNeeds 3 = .ok (.bipush 12, 2) := by decide +kernel
theorem dX11_findNeeds_5 : decode cX11_findNeeds 5 = .ok (.if_icmp .ge 78, 3) := by decide +kernel
theorem dX11_findNeeds_8 : decode cX11_findNeeds 8 = .ok (.lconst 0, 1) := by decide +kernel
theorem dX11_findNeeds_9 : decode cX11_findNeeds 9 = .ok (.lstore_n 3, 1) := by decide +kernel
theorem dX11_findNeeds_10 : decode cX11_findNeeds 10 = .ok (.iconst 0, 1) := by decide +kernel
theorem dX11_findNeeds_11 : decode cX11_findNeeds 11 = .ok (.istore 5, 2) := by decide +kernel
theorem dX11_findNeeds_13 : decode cX11_findNeeds 13 = .ok (.iload 5, 2) := by decide +kernel
theorem dX11_findNeeds_15 : decode cX11_findNeeds 15 = .ok (.iload_n 2, 1) := by decide +kernel
theorem dX11_findNeeds_16 : decode cX11_findNeeds 16 = .ok (.if_icmp .gt 40, 3) := by decide +kernel
theorem dX11_findNeeds_19 : decode cX11_findNeeds 19 = .ok (.aload_n 0, 1) := by decide +kernel
theorem dX11_findNeeds_20 : decode cX11_findNeeds 20 = .ok (.getfield 19, 3) := by decide +kernel
theorem dX11_findNeeds_23 : decode cX11_findNeeds 23 = .ok (.iload_n 1, 1) := by decide +kernel
theorem dX11_findNeeds_24 : decode cX11_findNeeds 24 = .ok (.iaload, 1) := by decide +kernel
theorem dX11_findNeeds_25 : decode cX11_findNeeds 25 = .ok (.i2l, 1) := by decide +kernel
theorem dX11_findNeeds_26 : decode cX11_findNeeds 26 = .ok (.aload_n 0, 1) := by decide +kernel
theorem dX11_findNeeds_27 : decode cX11_findNeeds 27 = .ok (.iload_n 1, 1) := by decide +kernel
theorem dX11_findNeeds_28 : decode cX11_findNeeds 28 = .ok (.iload 5, 2) := by decide +kernel
theorem dX11_findNeeds_30 : decode cX11_findNeeds 30 = .ok (.invokevirtual 143, 3) := by decide +kernel
theorem dX11_findNeeds_33 : decode cX11_findNeeds 33 = .ok (.lsub, 1) := by decide +kernel
theorem dX11_findNeeds_34 : decode cX11_findNeeds 34 = .ok (.lstore 6, 2) := by decide +kernel
theorem dX11_findNeeds_36 : decode cX11_findNeeds 36 = .ok (.lload 6, 2) := by decide +kernel
theorem dX11_findNeeds_38 : decode cX11_findNeeds 38 = .ok (.lload_n 3, 1) := by decide +kernel
theorem dX11_findNeeds_39 : decode cX11_findNeeds 39 = .ok (.lcmp, 1) := by decide +kernel
theorem dX11_findNeeds_40 : decode cX11_findNeeds 40 = .ok (.ifCond .le 8, 3) := by decide +kernel
theorem dX11_findNeeds_43 : decode cX11_findNeeds 43 = .ok (.lload 6, 2) := by decide +kernel
theorem dX11_findNeeds_45 : decode cX11_findNeeds 45 = .ok (.goto 4, 3) := by decide +kernel
theorem dX11_findNeeds_48 : decode cX11_findNeeds 48 = .ok (.lload_n 3, 1) := by decide +kernel
theorem dX11_findNeeds_49 : decode cX11_findNeeds 49 = .ok (.lstore_n 3, 1) := by decide +kernel
theorem dX11_findNeeds_50 : decode cX11_findNeeds 50 = .ok (.iinc 5 1, 3) := by decide +kernel
theorem dX11_findNeeds_53 : decode cX11_findNeeds 53 = .ok (.goto (-40), 3) := by decide +kernel
theorem dX11_findNeeds_56 : decode cX11_findNeeds 56 = .ok (.aload_n 0, 1) := by decide +kernel
theorem dX11_findNeeds_57 : decode cX11_findNeeds 57 = .ok (.getfield 79, 3) := by decide +kernel
theorem dX11_findNeeds_60 : decode cX11_findNeeds 60 = .ok (.iload_n 2, 1) := by decide +kernel
theorem dX11_findNeeds_61 : decode cX11_findNeeds 61 = .ok (.iload_n 2, 1) := by decide +kernel
theorem dX11_findNeeds_62 : decode cX11_findNeeds 62 = .ok (.aload_n 0, 1) := by decide +kernel
theorem dX11_findNeeds_63 : decode cX11_findNeeds 63 = .ok (.getfield 16, 3) := by decide +kernel
theorem dX11_findNeeds_66 : decode cX11_findNeeds 66 = .ok (.iload_n 1, 1) := by decide +kernel
theorem dX11_findNeeds_67 : decode cX11_findNeeds 67 = .ok (.iaload, 1) := by decide +kernel
theorem dX11_findNeeds_68 : decode cX11_findNeeds 68 = .ok (.if_icmp .ge 7, 3) := by decide +kernel
theorem dX11_findNeeds_71 : decode cX11_findNeeds 71 = .ok (.lconst 0, 1) := by decide +kernel
theorem dX11_findNeeds_72 : decode cX11_findNeeds 72 = .ok (.goto 4, 3) := by decide +kernel
theorem dX11_findNeeds_75 : decode cX11_findNeeds 75 = .ok (.lload_n 3, 1) := by decide +kernel
theorem dX11_findNeeds_76 : decode cX11_findNeeds 76 = .ok (.lastore, 1) := by decide +kernel
theorem dX11_findNeeds_77 : decode cX11_findNeeds 77 = .ok (.iinc 2 1, 3) := by decide +kernel
theorem dX11_findNeeds_80 : decode cX11_findNeeds 80 = .ok (.goto (-78), 3) := by decide +kernel
theorem dX11_findNeeds_83 : decode cX11_findNeeds 83 = .ok (.return_, 1) := by decide +kernel
theorem dX11_bare_0 : decode cX11_bare 0 = .ok (.aload_n 0, 1) := by decide +kernel
theorem dX11_bare_1 : decode cX11_bare 1 = .ok (.getfield 31, 3) := by decide +kernel
theorem dX11_bare_4 : decode cX11_bare 4 = .ok (.iload_n 1, 1) := by decide +kernel
theorem dX11_bare_5 : decode cX11_bare 5 = .ok (.iaload, 1) := by decide +kernel
theorem dX11_bare_6 : decode cX11_bare 6 = .ok (.i2l, 1) := by decide +kernel
theorem dX11_bare_7 : decode cX11_bare 7 = .ok (.aload_n 0, 1) := by decide +kernel
theorem dX11_bare_8 : decode cX11_bare 8 = .ok (.iconst 1, 1) := by decide +kernel
theorem dX11_bare_9 : decode cX11_bare 9 = .ok (.iload_n 1, 1) := by decide +kernel
theorem dX11_bare_10 : decode cX11_bare 10 = .ok (.iload_n 2, 1) := by decide +kernel
theorem dX11_bare_11 : decode cX11_bare 11 = .ok (.invokevirtual 127, 3) := by decide +kernel
theorem dX11_bare_14 : decode cX11_bare 14 = .ok (.ladd, 1) := by decide +kernel
theorem dX11_bare_15 : decode cX11_bare 15 = .ok (.aload_n 0, 1) := by decide +kernel
theorem dX11_bare_16 : decode cX11_bare 16 = .ok (.getfield 69, 3) := by decide +kernel
theorem dX11_bare_19 : decode cX11_bare 19 = .ok (.iload_n 1, 1) := by decide +kernel
theorem dX11_bare_20 : decode cX11_bare 20 = .ok (.iload_n 2, 1) := by decide +kernel
theorem dX11_bare_21 : decode cX11_bare 21 = .ok (.invokestatic 131, 3) := by decide +kernel
theorem dX11_bare_24 : decode cX11_bare 24 = .ok (.lsub, 1) := by decide +kernel
theorem dX11_bare_25 : decode cX11_bare 25 = .ok (.lreturn, 1) := by decide +kernel
theorem dX11_upTo_0 : decode cX11_upTo 0 = .ok (.lconst 0, 1) := by decide +kernel
theorem dX11_upTo_1 : decode cX11_upTo 1 = .ok (.lstore_n 3, 1) := by decide +kernel
theorem dX11_upTo_2 : decode cX11_upTo 2 = .ok (.iconst 0, 1) := by decide +kernel
theorem dX11_upTo_3 : decode cX11_upTo 3 = .ok (.istore 5, 2) := by decide +kernel
theorem dX11_upTo_5 : decode cX11_upTo 5 = .ok (.iload 5, 2) := by decide +kernel
theorem dX11_upTo_7 : decode cX11_upTo 7 = .ok (.iload_n 2, 1) := by decide +kernel
theorem dX11_upTo_8 : decode cX11_upTo 8 = .ok (.if_icmp .gt 21, 3) := by decide +kernel
theorem dX11_upTo_11 : decode cX11_upTo 11 = .ok (.lload_n 3, 1) := by decide +kernel
theorem dX11_upTo_12 : decode cX11_upTo 12 = .ok (.aload_n 0, 1) := by decide +kernel
theorem dX11_upTo_13 : decode cX11_upTo 13 = .ok (.bipush 12, 2) := by decide +kernel
theorem dX11_upTo_15 : decode cX11_upTo 15 = .ok (.iload_n 1, 1) := by decide +kernel
theorem dX11_upTo_16 : decode cX11_upTo 16 = .ok (.imul, 1) := by decide +kernel
theorem dX11_upTo_17 : decode cX11_upTo 17 = .ok (.iload 5, 2) := by decide +kernel
theorem dX11_upTo_19 : decode cX11_upTo 19 = .ok (.iadd, 1) := by decide +kernel
theorem dX11_upTo_20 : decode cX11_upTo 20 = .ok (.laload, 1) := by decide +kernel
theorem dX11_upTo_21 : decode cX11_upTo 21 = .ok (.ladd, 1) := by decide +kernel
theorem dX11_upTo_22 : decode cX11_upTo 22 = .ok (.lstore_n 3, 1) := by decide +kernel
theorem dX11_upTo_23 : decode cX11_upTo 23 = .ok (.iinc 5 1, 3) := by decide +kernel
theorem dX11_upTo_26 : decode cX11_upTo 26 = .ok (.goto (-21), 3) := by decide +kernel
theorem dX11_upTo_29 : decode cX11_upTo 29 = .ok (.lload_n 3, 1) := by decide +kernel
theorem dX11_upTo_30 : decode cX11_upTo 30 = .ok (.lreturn, 1) := by decide +kernel
theorem dX11_findBest_0 : decode cX11_findBest 0 = .ok (.aload_n 0, 1) := by decide +kernel
theorem dX11_findBest_1 : decode cX11_findBest 1 = .ok (.getfield 82, 3) := by decide +kernel
theorem dX11_findBest_4 : decode cX11_findBest 4 = .ok (.bipush 12, 2) := by decide +kernel
theorem dX11_findBest_6 : decode cX11_findBest 6 = .ok (.lconst 0, 1) := by decide +kernel
theorem dX11_findBest_7 : decode cX11_findBest 7 = .ok (.lastore, 1) := by decide +kernel
theorem dX11_findBest_8 : decode cX11_findBest 8 = .ok (.bipush 11, 2) := by decide +kernel
theorem dX11_findBest_10 : decode cX11_findBest 10 = .ok (.istore_n 2, 1) := by decide +kernel
theorem dX11_findBest_11 : decode cX11_findBest 11 = .ok (.iload_n 2, 1) := by decide +kernel
theorem dX11_findBest_12 : decode cX11_findBest 12 = .ok (.aload_n 0, 1) := by decide +kernel
theorem dX11_findBest_13 : decode cX11_findBest 13 = .ok (.getfield 16, 3) := by decide +kernel
theorem dX11_findBest_16 : decode cX11_findBest 16 = .ok (.iload_n 1, 1) := by decide +kernel
theorem dX11_findBest_17 : decode cX11_findBest 17 = .ok (.iaload, 1) := by decide +kernel
theorem dX11_findBest_18 : decode cX11_findBest 18 = .ok (.if_icmp .lt 65, 3) := by decide +kernel
theorem dX11_findBest_21 : decode cX11_findBest 21 = .ok (.aload_n 0, 1) := by decide +kernel
theorem dX11_findBest_22 : decode cX11_findBest 22 = .ok (.iload_n 1, 1) := by decide +kernel
theorem dX11_findBest_23 : decode cX11_findBest 23 = .ok (.iload_n 2, 1) := by decide +kernel
theorem dX11_findBest_24 : decode cX11_findBest 24 = .ok (.invokevirtual 153, 3) := by decide +kernel
theorem dX11_findBest_27 : decode cX11_findBest 27 = .ok (.istore_n 3, 1) := by decide +kernel
theorem dX11_findBest_28 : decode cX11_findBest 28 = .ok (.aload_n 0, 1) := by decide +kernel
theorem dX11_findBest_29 : decode cX11_findBest 29 = .ok (.getfield 82, 3) := by decide +kernel
theorem dX11_findBest_32 : decode cX11_findBest 32 = .ok (.iload_n 2, 1) := by decide +kernel
theorem dX11_findBest_33 : decode cX11_findBest 33 = .ok (.aload_n 0, 1) := by decide +kernel
theorem dX11_findBest_34 : decode cX11_findBest 34 = .ok (.iload_n 2, 1) := by decide +kernel
theorem dX11_findBest_35 : decode cX11_findBest 35 = .ok (.invokevirtual 146, 3) := by decide +kernel
theorem dX11_findBest_38 : decode cX11_findBest 38 = .ok (.aload_n 0, 1) := by decide +kernel
theorem dX11_findBest_39 : decode cX11_findBest 39 = .ok (.iload_n 2, 1) := by decide +kernel
theorem dX11_findBest_40 : decode cX11_findBest 40 = .ok (.iconst 1, 1) := by decide +kernel
theorem dX11_findBest_41 : decode cX11_findBest 41 = .ok (.isub, 1) := by decide +kernel
theorem dX11_findBest_42 : decode cX11_findBest 42 = .ok (.invokevirtual 146, 3) := by decide +kernel
theorem dX11_findBest_45 : decode cX11_findBest 45 = .ok (.lcmp, 1) := by decide +kernel
theorem dX11_findBest_46 : decode cX11_findBest 46 = .ok (.ifCond .ne 14, 3) := by decide +kernel
theorem dX11_findBest_49 : decode cX11_findBest 49 = .ok (.aload_n 0, 1) := by decide +kernel
theorem dX11_findBest_50 : decode cX11_findBest 50 = .ok (.getfield 82, 3) := by decide +kernel
theorem dX11_findBest_53 : decode cX11_findBest 53 = .ok (.iload_n 2, 1) := by decide +kernel
theorem dX11_findBest_54 : decode cX11_findBest 54 = .ok (.iconst 1, 1) := by decide +kernel
theorem dX11_findBest_55 : decode cX11_findBest 55 = .ok (.iadd, 1) := by decide +kernel
theorem dX11_findBest_56 : decode cX11_findBest 56 = .ok (.laload, 1) := by decide +kernel
theorem dX11_findBest_57 : decode cX11_findBest 57 = .ok (.goto 19, 3) := by decide +kernel
theorem dX11_findBest_60 : decode cX11_findBest 60 = .ok (.aload_n 0, 1) := by decide +kernel
theorem dX11_findBest_61 : decode cX11_findBest 61 = .ok (.iload_n 1, 1) := by decide +kernel
theorem dX11_findBest_62 : decode cX11_findBest 62 = .ok (.iload_n 2, 1) := by decide +kernel
theorem dX11_findBest_63 : decode cX11_findBest 63 = .ok (.iload_n 3, 1) := by decide +kernel
theorem dX11_findBest_64 : decode cX11_findBest 64 = .ok (.invokevirtual 150, 3) := by decide +kernel
theorem dX11_findBest_67 : decode cX11_findBest 67 = .ok (.aload_n 0, 1) := by decide +kernel
theorem dX11_findBest_68 : decode cX11_findBest 68 = .ok (.getfield 82, 3) := by decide +kernel
theorem dX11_findBest_71 : decode cX11_findBest 71 = .ok (.iload_n 3, 1) := by decide +kernel
theorem dX11_findBest_72 : decode cX11_findBest 72 = .ok (.iconst 1, 1) := by decide +kernel
theorem dX11_findBest_73 : decode cX11_findBest 73 = .ok (.iadd, 1) := by decide +kernel
theorem dX11_findBest_74 : decode cX11_findBest 74 = .ok (.laload, 1) := by decide +kernel
theorem dX11_findBest_75 : decode cX11_findBest 75 = .ok (.ladd, 1) := by decide +kernel
theorem dX11_findBest_76 : decode cX11_findBest 76 = .ok (.lastore, 1) := by decide +kernel
theorem dX11_findBest_77 : decode cX11_findBest 77 = .ok (.iinc 2 (-1), 3) := by decide +kernel
theorem dX11_findBest_80 : decode cX11_findBest 80 = .ok (.goto (-69), 3) := by decide +kernel
theorem dX11_findBest_83 : decode cX11_findBest 83 = .ok (.return_, 1) := by decide +kernel
theorem dX11_lastOf_0 : decode cX11_lastOf 0 = .ok (.iload_n 2, 1) := by decide +kernel
theorem dX11_lastOf_1 : decode cX11_lastOf 1 = .ok (.istore_n 3, 1) := by decide +kernel
theorem dX11_lastOf_2 : decode cX11_lastOf 2 = .ok (.iload_n 2, 1) := by decide +kernel
theorem dX11_lastOf_3 : decode cX11_lastOf 3 = .ok (.istore 4, 2) := by decide +kernel
theorem dX11_lastOf_5 : decode cX11_lastOf 5 = .ok (.iload 4, 2) := by decide +kernel
theorem dX11_lastOf_7 : decode cX11_lastOf 7 = .ok (.bipush 12, 2) := by decide +kernel
theorem dX11_lastOf_9 : decode cX11_lastOf 9 = .ok (.if_icmp .ge 54, 3) := by decide +kernel
theorem dX11_lastOf_12 : decode cX11_lastOf 12 = .ok (.aload_n 0, 1) := by decide +kernel
theorem dX11_lastOf_13 : decode cX11_lastOf 13 = .ok (.iload_n 1, 1) := by decide +kernel
theorem dX11_lastOf_14 : decode cX11_lastOf 14 = .ok (.iload_n 2, 1) := by decide +kernel
theorem dX11_lastOf_15 : decode cX11_lastOf 15 = .ok (.iload 4, 2) := by decide +kernel
theorem dX11_lastOf_17 : decode cX11_lastOf 17 = .ok (.invokevirtual 150, 3) := by decide +kernel
theorem dX11_lastOf_20 : decode cX11_lastOf 20 = .ok (.aload_n 0, 1) := by decide +kernel
theorem dX11_lastOf_21 : decode cX11_lastOf 21 = .ok (.getfield 82, 3) := by decide +kernel
theorem dX11_lastOf_24 : decode cX11_lastOf 24 = .ok (.iload 4, 2) := by decide +kernel
theorem dX11_lastOf_26 : decode cX11_lastOf 26 = .ok (.iconst 1, 1) := by decide +kernel
theorem dX11_lastOf_27 : decode cX11_lastOf 27 = .ok (.iadd, 1) := by decide +kernel
theorem dX11_lastOf_28 : decode cX11_lastOf 28 = .ok (.laload, 1) := by decide +kernel
theorem dX11_lastOf_29 : decode cX11_lastOf 29 = .ok (.ladd, 1) := by decide +kernel
theorem dX11_lastOf_30 : decode cX11_lastOf 30 = .ok (.aload_n 0, 1) := by decide +kernel
theorem dX11_lastOf_31 : decode cX11_lastOf 31 = .ok (.iload_n 1, 1) := by decide +kernel
theorem dX11_lastOf_32 : decode cX11_lastOf 32 = .ok (.iload_n 2, 1) := by decide +kernel
theorem dX11_lastOf_33 : decode cX11_lastOf 33 = .ok (.iload_n 3, 1) := by decide +kernel
theorem dX11_lastOf_34 : decode cX11_lastOf 34 = .ok (.invokevirtual 150, 3) := by decide +kernel
theorem dX11_lastOf_37 : decode cX11_lastOf 37 = .ok (.aload_n 0, 1) := by decide +kernel
theorem dX11_lastOf_38 : decode cX11_lastOf 38 = .ok (.getfield 82, 3) := by decide +kernel
theorem dX11_lastOf_41 : decode cX11_lastOf 41 = .ok (.iload_n 3, 1) := by decide +kernel
theorem dX11_lastOf_42 : decode cX11_lastOf 42 = .ok (.iconst 1, 1) := by decide +kernel
theorem dX11_lastOf_43 : decode cX11_lastOf 43 = .ok (.iadd, 1) := by decide +kernel
theorem dX11_lastOf_44 : decode cX11_lastOf 44 = .ok (.laload, 1) := by decide +kernel
theorem dX11_lastOf_45 : decode cX11_lastOf 45 = .ok (.ladd, 1) := by decide +kernel
theorem dX11_lastOf_46 : decode cX11_lastOf 46 = .ok (.lcmp, 1) := by decide +kernel
theorem dX11_lastOf_47 : decode cX11_lastOf 47 = .ok (.ifCond .ge 8, 3) := by decide +kernel
theorem dX11_lastOf_50 : decode cX11_lastOf 50 = .ok (.iload 4, 2) := by decide +kernel
theorem dX11_lastOf_52 : decode cX11_lastOf 52 = .ok (.goto 4, 3) := by decide +kernel
theorem dX11_lastOf_55 : decode cX11_lastOf 55 = .ok (.iload_n 3, 1) := by decide +kernel
theorem dX11_lastOf_56 : decode cX11_lastOf 56 = .ok (.istore_n 3, 1) := by decide +kernel
theorem dX11_lastOf_57 : decode cX11_lastOf 57 = .ok (.iinc 4 1, 3) := by decide +kernel
theorem dX11_lastOf_60 : decode cX11_lastOf 60 = .ok (.goto (-55), 3) := by decide +kernel
theorem dX11_lastOf_63 : decode cX11_lastOf 63 = .ok (.iload_n 3, 1) := by decide +kernel
theorem dX11_lastOf_64 : decode cX11_lastOf 64 = .ok (.ireturn, 1) := by decide +kernel
theorem dX11_cost_0 : decode cX11_cost 0 = .ok (.lconst 0, 1) := by decide +kernel
theorem dX11_cost_1 : decode cX11_cost 1 = .ok (.lstore 4, 2) := by decide +kernel
theorem dX11_cost_3 : decode cX11_cost 3 = .ok (.iload_n 2, 1) := by decide +kernel
theorem dX11_cost_4 : decode cX11_cost 4 = .ok (.iconst 1, 1) := by decide +kernel
theorem dX11_cost_5 : decode cX11_cost 5 = .ok (.iadd, 1) := by decide +kernel
theorem dX11_cost_6 : decode cX11_cost 6 = .ok (.istore 6, 2) := by decide +kernel
theorem dX11_cost_8 : decode cX11_cost 8 = .ok (.iload 6, 2) := by decide +kernel
theorem dX11_cost_10 : decode cX11_cost 10 = .ok (.iload_n 3, 1) := by decide +kernel
theorem dX11_cost_11 : decode cX11_cost 11 = .ok (.if_icmp .gt 35, 3) := by decide +kernel
theorem dX11_cost_14 : decode cX11_cost 14 = .ok (.lload 4, 2) := by decide +kernel
theorem dX11_cost_16 : decode cX11_cost 16 = .ok (.iload 6, 2) := by decide +kernel
theorem dX11_cost_18 : decode cX11_cost 18 = .ok (.iload_n 2, 1) := by decide +kernel
theorem dX11_cost_19 : decode cX11_cost 19 = .ok (.isub, 1) := by decide +kernel
theorem dX11_cost_20 : decode cX11_cost 20 = .ok (.i2l, 1) := by decide +kernel
theorem dX11_cost_21 : decode cX11_cost 21 = .ok (.aload_n 0, 1) := by decide +kernel
theorem dX11_cost_22 : decode cX11_cost 22 = .ok (.iload 6, 2) := by decide +kernel
theorem dX11_cost_24 : decode cX11_cost 24 = .ok (.invokevirtual 146, 3) := by decide +kernel
theorem dX11_cost_27 : decode cX11_cost 27 = .ok (.aload_n 0, 1) := by decide +kernel
theorem dX11_cost_28 : decode cX11_cost 28 = .ok (.iload 6, 2) := by decide +kernel
theorem dX11_cost_30 : decode cX11_cost 30 = .ok (.iconst 1, 1) := by decide +kernel
theorem dX11_cost_31 : decode cX11_cost 31 = .ok (.isub, 1) := by decide +kernel
theorem dX11_cost_32 : decode cX11_cost 32 = .ok (.invokevirtual 146, 3) := by decide +kernel
theorem dX11_cost_35 : decode cX11_cost 35 = .ok (.lsub, 1) := by decide +kernel
theorem dX11_cost_36 : decode cX11_cost 36 = .ok (.lmul, 1) := by decide +kernel
theorem dX11_cost_37 : decode cX11_cost 37 = .ok (.ladd, 1) := by decide +kernel
theorem dX11_cost_38 : decode cX11_cost 38 = .ok (.lstore 4, 2) := by decide +kernel
theorem dX11_cost_40 : decode cX11_cost 40 = .ok (.iinc 6 1, 3) := by decide +kernel
theorem dX11_cost_43 : decode cX11_cost 43 = .ok (.goto (-35), 3) := by decide +kernel
theorem dX11_cost_46 : decode cX11_cost 46 = .ok (.aload_n 0, 1) := by decide +kernel
theorem dX11_cost_47 : decode cX11_cost 47 = .ok (.getfield 25, 3) := by decide +kernel
theorem dX11_cost_50 : decode cX11_cost 50 = .ok (.iload_n 1, 1) := by decide +kernel
theorem dX11_cost_51 : decode cX11_cost 51 = .ok (.iaload, 1) := by decide +kernel
theorem dX11_cost_52 : decode cX11_cost 52 = .ok (.i2l, 1) := by decide +kernel
theorem dX11_cost_53 : decode cX11_cost 53 = .ok (.aload_n 0, 1) := by decide +kernel
theorem dX11_cost_54 : decode cX11_cost 54 = .ok (.getfield 28, 3) := by decide +kernel
theorem dX11_cost_57 : decode cX11_cost 57 = .ok (.iload_n 1, 1) := by decide +kernel
theorem dX11_cost_58 : decode cX11_cost 58 = .ok (.iaload, 1) := by decide +kernel
theorem dX11_cost_59 : decode cX11_cost 59 = .ok (.i2l, 1) := by decide +kernel
theorem dX11_cost_60 : decode cX11_cost 60 = .ok (.lload 4, 2) := by decide +kernel
theorem dX11_cost_62 : decode cX11_cost 62 = .ok (.lmul, 1) := by decide +kernel
theorem dX11_cost_63 : decode cX11_cost 63 = .ok (.ladd, 1) := by decide +kernel
theorem dX11_cost_64 : decode cX11_cost 64 = .ok (.lreturn, 1) := by decide +kernel
theorem dX11_needOf_0 : decode cX11_needOf 0 = .ok (.iload_n 1, 1) := by decide +kernel
theorem dX11_needOf_1 : decode cX11_needOf 1 = .ok (.ifCond .ge 7, 3) := by decide +kernel
theorem dX11_needOf_4 : decode cX11_needOf 4 = .ok (.lconst 0, 1) := by decide +kernel
theorem dX11_needOf_5 : decode cX11_needOf 5 = .ok (.goto 9, 3) := by decide +kernel
theorem dX11_needOf_8 : decode cX11_needOf 8 = .ok (.aload_n 0, 1) := by decide +kernel
theorem dX11_needOf_9 : decode cX11_needOf 9 = .ok (.getfield 79, 3) := by decide +kernel
theorem dX11_needOf_12 : decode cX11_needOf 12 = .ok (.iload_n 1, 1) := by decide +kernel
theorem dX11_needOf_13 : decode cX11_needOf 13 = .ok (.laload, 1) := by decide +kernel
theorem dX11_needOf_14 : decode cX11_needOf 14 = .ok (.lreturn, 1) := by decide +kernel
theorem dX11_lot_0 : decode cX11_lot 0 = .ok (.aload_n 0, 1) := by decide +kernel
theorem dX11_lot_1 : decode cX11_lot 1 = .ok (.getfield 79, 3) := by decide +kernel
theorem dX11_lot_4 : decode cX11_lot 4 = .ok (.iload_n 2, 1) := by decide +kernel
theorem dX11_lot_5 : decode cX11_lot 5 = .ok (.laload, 1) := by decide +kernel
theorem dX11_lot_6 : decode cX11_lot 6 = .ok (.lload_n 3, 1) := by decide +kernel
theorem dX11_lot_7 : decode cX11_lot 7 = .ok (.lsub, 1) := by decide +kernel
theorem dX11_lot_8 : decode cX11_lot 8 = .ok (.lstore 5, 2) := by decide +kernel
theorem dX11_lot_10 : decode cX11_lot 10 = .ok (.aload_n 0, 1) := by decide +kernel
theorem dX11_lot_11 : decode cX11_lot 11 = .ok (.getfield 7, 3) := by decide +kernel
theorem dX11_lot_14 : decode cX11_lot 14 = .ok (.iload_n 1, 1) := by decide +kernel
theorem dX11_lot_15 : decode cX11_lot 15 = .ok (.iaload, 1) := by decide +kernel
theorem dX11_lot_16 : decode cX11_lot 16 = .ok (.tableswitch 98 0 2 #[28, 31, 60], 28) := by decide +kernel
theorem dX11_lot_44 : decode cX11_lot 44 = .ok (.lload 5, 2) := by decide +kernel
theorem dX11_lot_46 : decode cX11_lot 46 = .ok (.lreturn, 1) := by decide +kernel
theorem dX11_lot_47 : decode cX11_lot 47 = .ok (.lload 5, 2) := by decide +kernel
theorem dX11_lot_49 : decode cX11_lot 49 = .ok (.aload_n 0, 1) := by decide +kernel
theorem dX11_lot_50 : decode cX11_lot 50 = .ok (.getfield 13, 3) := by decide +kernel
theorem dX11_lot_53 : decode cX11_lot 53 = .ok (.iload_n 1, 1) := by decide +kernel
theorem dX11_lot_54 : decode cX11_lot 54 = .ok (.iaload, 1) := by decide +kernel
theorem dX11_lot_55 : decode cX11_lot 55 = .ok (.i2l, 1) := by decide +kernel
theorem dX11_lot_56 : decode cX11_lot 56 = .ok (.ladd, 1) := by decide +kernel
theorem dX11_lot_57 : decode cX11_lot 57 = .ok (.lconst 1, 1) := by decide +kernel
theorem dX11_lot_58 : decode cX11_lot 58 = .ok (.lsub, 1) := by decide +kernel
theorem dX11_lot_59 : decode cX11_lot 59 = .ok (.aload_n 0, 1) := by decide +kernel
theorem dX11_lot_60 : decode cX11_lot 60 = .ok (.getfield 13, 3) := by decide +kernel
theorem dX11_lot_63 : decode cX11_lot 63 = .ok (.iload_n 1, 1) := by decide +kernel
theorem dX11_lot_64 : decode cX11_lot 64 = .ok (.iaload, 1) := by decide +kernel
theorem dX11_lot_65 : decode cX11_lot 65 = .ok (.i2l, 1) := by decide +kernel
theorem dX11_lot_66 : decode cX11_lot 66 = .ok (.ldiv, 1) := by decide +kernel
theorem dX11_lot_67 : decode cX11_lot 67 = .ok (.aload_n 0, 1) := by decide +kernel
theorem dX11_lot_68 : decode cX11_lot 68 = .ok (.getfield 13, 3) := by decide +kernel
theorem dX11_lot_71 : decode cX11_lot 71 = .ok (.iload_n 1, 1) := by decide +kernel
theorem dX11_lot_72 : decode cX11_lot 72 = .ok (.iaload, 1) := by decide +kernel
theorem dX11_lot_73 : decode cX11_lot 73 = .ok (.i2l, 1) := by decide +kernel
theorem dX11_lot_74 : decode cX11_lot 74 = .ok (.lmul, 1) := by decide +kernel
theorem dX11_lot_75 : decode cX11_lot 75 = .ok (.lreturn, 1) := by decide +kernel
theorem dX11_lot_76 : decode cX11_lot 76 = .ok (.aload_n 0, 1) := by decide +kernel
theorem dX11_lot_77 : decode cX11_lot 77 = .ok (.getfield 79, 3) := by decide +kernel
theorem dX11_lot_80 : decode cX11_lot 80 = .ok (.iload_n 2, 1) := by decide +kernel
theorem dX11_lot_81 : decode cX11_lot 81 = .ok (.aload_n 0, 1) := by decide +kernel
theorem dX11_lot_82 : decode cX11_lot 82 = .ok (.getfield 13, 3) := by decide +kernel
theorem dX11_lot_85 : decode cX11_lot 85 = .ok (.iload_n 1, 1) := by decide +kernel
theorem dX11_lot_86 : decode cX11_lot 86 = .ok (.iaload, 1) := by decide +kernel
theorem dX11_lot_87 : decode cX11_lot 87 = .ok (.iadd, 1) := by decide +kernel
theorem dX11_lot_88 : decode cX11_lot 88 = .ok (.iconst 1, 1) := by decide +kernel
theorem dX11_lot_89 : decode cX11_lot 89 = .ok (.isub, 1) := by decide +kernel
theorem dX11_lot_90 : decode cX11_lot 90 = .ok (.bipush 12, 2) := by decide +kernel
theorem dX11_lot_92 : decode cX11_lot 92 = .ok (.if_icmp .ge 16, 3) := by decide +kernel
theorem dX11_lot_95 : decode cX11_lot 95 = .ok (.iload_n 2, 1) := by decide +kernel
theorem dX11_lot_96 : decode cX11_lot 96 = .ok (.aload_n 0, 1) := by decide +kernel
theorem dX11_lot_97 : decode cX11_lot 97 = .ok (.getfield 13, 3) := by decide +kernel
theorem dX11_lot_100 : decode cX11_lot 100 = .ok (.iload_n 1, 1) := by decide +kernel
theorem dX11_lot_101 : decode cX11_lot 101 = .ok (.iaload, 1) := by decide +kernel
theorem dX11_lot_102 : decode cX11_lot 102 = .ok (.iadd, 1) := by decide +kernel
theorem dX11_lot_103 : decode cX11_lot 103 = .ok (.iconst 1, 1) := by decide +kernel
theorem dX11_lot_104 : decode cX11_lot 104 = .ok (.isub, 1) := by decide +kernel
theorem dX11_lot_105 : decode cX11_lot 105 = .ok (.goto 5, 3) := by decide +kernel
theorem dX11_lot_108 : decode cX11_lot 108 = .ok (.bipush 11, 2) := by decide +kernel
theorem dX11_lot_110 : decode cX11_lot 110 = .ok (.laload, 1) := by decide +kernel
theorem dX11_lot_111 : decode cX11_lot 111 = .ok (.lload_n 3, 1) := by decide +kernel
theorem dX11_lot_112 : decode cX11_lot 112 = .ok (.lsub, 1) := by decide +kernel
theorem dX11_lot_113 : decode cX11_lot 113 = .ok (.lreturn, 1) := by decide +kernel
theorem dX11_lot_114 : decode cX11_lot 114 = .ok (.aload_n 0, 1) := by decide +kernel
theorem dX11_lot_115 : decode cX11_lot 115 = .ok (.getfield 79, 3) := by decide +kernel
theorem dX11_lot_118 : decode cX11_lot 118 = .ok (.aload_n 0, 1) := by decide +kernel
theorem dX11_lot_119 : decode cX11_lot 119 = .ok (.iload_n 1, 1) := by decide +kernel
theorem dX11_lot_120 : decode cX11_lot 120 = .ok (.iload_n 2, 1) := by decide +kernel
theorem dX11_lot_121 : decode cX11_lot 121 = .ok (.invokevirtual 153, 3) := by decide +kernel
theorem dX11_lot_124 : decode cX11_lot 124 = .ok (.laload, 1) := by decide +kernel
theorem dX11_lot_125 : decode cX11_lot 125 = .ok (.lload_n 3, 1) := by decide +kernel
theorem dX11_lot_126 : decode cX11_lot 126 = .ok (.lsub, 1) := by decide +kernel
theorem dX11_lot_127 : decode cX11_lot 127 = .ok (.lreturn, 1) := by decide +kernel
theorem dX11_level_0 : decode cX11_level 0 = .ok (.aload_n 0, 1) := by decide +kernel
theorem dX11_level_1 : decode cX11_level 1 = .ok (.iload_n 1, 1) := by decide +kernel
theorem dX11_level_2 : decode cX11_level 2 = .ok (.invokestatic 93, 3) := by decide +kernel
theorem dX11_level_5 : decode cX11_level 5 = .ok (.ifCond .eq 7, 3) := by decide +kernel
theorem dX11_level_8 : decode cX11_level 8 = .ok (.iconst 0, 1) := by decide +kernel
theorem dX11_level_9 : decode cX11_level 9 = .ok (.goto 4, 3) := by decide +kernel
theorem dX11_level_12 : decode cX11_level 12 = .ok (.iconst 1, 1) := by decide +kernel
theorem dX11_level_13 : decode cX11_level 13 = .ok (.invokevirtual 97, 3) := by decide +kernel
theorem dX11_level_16 : decode cX11_level 16 = .ok (.ifCond .eq 7, 3) := by decide +kernel
theorem dX11_level_19 : decode cX11_level 19 = .ok (.iconst 0, 1) := by decide +kernel
theorem dX11_level_20 : decode cX11_level 20 = .ok (.goto 8, 3) := by decide +kernel
theorem dX11_level_23 : decode cX11_level 23 = .ok (.aload_n 0, 1) := by decide +kernel
theorem dX11_level_24 : decode cX11_level 24 = .ok (.iload_n 1, 1) := by decide +kernel
theorem dX11_level_25 : decode cX11_level 25 = .ok (.invokevirtual 105, 3) := by decide +kernel
theorem dX11_level_28 : decode cX11_level 28 = .ok (.ireturn, 1) := by decide +kernel
theorem dX11_gross_0 : decode cX11_gross 0 = .ok (.aload_n 0, 1) := by decide +kernel
theorem dX11_gross_1 : decode cX11_gross 1 = .ok (.iload_n 1, 1) := by decide +kernel
theorem dX11_gross_2 : decode cX11_gross 2 = .ok (.iload_n 2, 1) := by decide +kernel
theorem dX11_gross_3 : decode cX11_gross 3 = .ok (.invokevirtual 179, 3) := by decide +kernel
theorem dX11_gross_6 : decode cX11_gross 6 = .ok (.ifCond .eq 7, 3) := by decide +kernel
theorem dX11_gross_9 : decode cX11_gross 9 = .ok (.lconst 0, 1) := by decide +kernel
theorem dX11_gross_10 : decode cX11_gross 10 = .ok (.goto 14, 3) := by decide +kernel
theorem dX11_gross_13 : decode cX11_gross 13 = .ok (.aload_n 0, 1) := by decide +kernel
theorem dX11_gross_14 : decode cX11_gross 14 = .ok (.getfield 69, 3) := by decide +kernel
theorem dX11_gross_17 : decode cX11_gross 17 = .ok (.bipush 12, 2) := by decide +kernel
theorem dX11_gross_19 : decode cX11_gross 19 = .ok (.iload_n 1, 1) := by decide +kernel
theorem dX11_gross_20 : decode cX11_gross 20 = .ok (.imul, 1) := by decide +kernel
theorem dX11_gross_21 : decode cX11_gross 21 = .ok (.iload_n 2, 1) := by decide +kernel
theorem dX11_gross_22 : decode cX11_gross 22 = .ok (.iadd, 1) := by decide +kernel
theorem dX11_gross_23 : decode cX11_gross 23 = .ok (.laload, 1) := by decide +kernel
theorem dX11_gross_24 : decode cX11_gross 24 = .ok (.lreturn, 1) := by decide +kernel
theorem dX11_isWrong_0 : decode cX11_isWrong 0 = .ok (.aload_n 0, 1) := by decide +kernel
theorem dX11_isWrong_1 : decode cX11_isWrong 1 = .ok (.iload_n 1, 1) := by decide +kernel
theorem dX11_isWrong_2 : decode cX11_isWrong 2 = .ok (.invokestatic 93, 3) := by decide +kernel
theorem dX11_isWrong_5 : decode cX11_isWrong 5 = .ok (.ifCond .eq 10, 3) := by decide +kernel
theorem dX11_isWrong_8 : decode cX11_isWrong 8 = .ok (.iload_n 2, 1) := by decide +kernel
theorem dX11_isWrong_9 : decode cX11_isWrong 9 = .ok (.invokestatic 93, 3) := by decide +kernel
theorem dX11_isWrong_12 : decode cX11_isWrong 12 = .ok (.ifCond .ne 7, 3) := by decide +kernel
theorem dX11_isWrong_15 : decode cX11_isWrong 15 = .ok (.iconst 1, 1) := by decide +kernel
theorem dX11_isWrong_16 : decode cX11_isWrong 16 = .ok (.goto 15, 3) := by decide +kernel
theorem dX11_isWrong_19 : decode cX11_isWrong 19 = .ok (.aload_n 0, 1) := by decide +kernel
theorem dX11_isWrong_20 : decode cX11_isWrong 20 = .ok (.getfield 61, 3) := by decide +kernel
theorem dX11_isWrong_23 : decode cX11_isWrong 23 = .ok (.ifCond .eq 7, 3) := by decide +kernel
theorem dX11_isWrong_26 : decode cX11_isWrong 26 = .ok (.iconst 2, 1) := by decide +kernel
theorem dX11_isWrong_27 : decode cX11_isWrong 27 = .ok (.goto 4, 3) := by decide +kernel
theorem dX11_isWrong_30 : decode cX11_isWrong 30 = .ok (.iconst 0, 1) := by decide +kernel
theorem dX11_isWrong_31 : decode cX11_isWrong 31 = .ok (.invokevirtual 97, 3) := by decide +kernel
theorem dX11_isWrong_34 : decode cX11_isWrong 34 = .ok (.ireturn, 1) := by decide +kernel
theorem dX11_planned_0 : decode cX11_planned 0 = .ok (.aload_n 0, 1) := by decide +kernel
theorem dX11_planned_1 : decode cX11_planned 1 = .ok (.iload_n 1, 1) := by decide +kernel
theorem dX11_planned_2 : decode cX11_planned 2 = .ok (.iload_n 2, 1) := by decide +kernel
theorem dX11_planned_3 : decode cX11_planned 3 = .ok (.invokevirtual 179, 3) := by decide +kernel
theorem dX11_planned_6 : decode cX11_planned 6 = .ok (.ifCond .eq 7, 3) := by decide +kernel
theorem dX11_planned_9 : decode cX11_planned 9 = .ok (.lconst 0, 1) := by decide +kernel
theorem dX11_planned_10 : decode cX11_planned 10 = .ok (.goto 14, 3) := by decide +kernel
theorem dX11_planned_13 : decode cX11_planned 13 = .ok (.aload_n 0, 1) := by decide +kernel
theorem dX11_planned_14 : decode cX11_planned 14 = .ok (.getfield 73, 3) := by decide +kernel
theorem dX11_planned_17 : decode cX11_planned 17 = .ok (.bipush 12, 2) := by decide +kernel
theorem dX11_planned_19 : decode cX11_planned 19 = .ok (.iload_n 1, 1) := by decide +kernel
theorem dX11_planned_20 : decode cX11_planned 20 = .ok (.imul, 1) := by decide +kernel
theorem dX11_planned_21 : decode cX11_planned 21 = .ok (.iload_n 2, 1) := by decide +kernel
theorem dX11_planned_22 : decode cX11_planned 22 = .ok (.iadd, 1) := by decide +kernel
theorem dX11_planned_23 : decode cX11_planned 23 = .ok (.laload, 1) := by decide +kernel
theorem dX11_planned_24 : decode cX11_planned 24 = .ok (.lreturn, 1) := by decide +kernel
theorem dX11_balance_0 : decode cX11_balance 0 = .ok (.aload_n 0, 1) := by decide +kernel
theorem dX11_balance_1 : decode cX11_balance 1 = .ok (.iload_n 1, 1) := by decide +kernel
theorem dX11_balance_2 : decode cX11_balance 2 = .ok (.iload_n 2, 1) := by decide +kernel
theorem dX11_balance_3 : decode cX11_balance 3 = .ok (.invokevirtual 179, 3) := by decide +kernel
theorem dX11_balance_6 : decode cX11_balance 6 = .ok (.ifCond .eq 7, 3) := by decide +kernel
theorem dX11_balance_9 : decode cX11_balance 9 = .ok (.lconst 0, 1) := by decide +kernel
theorem dX11_balance_10 : decode cX11_balance 10 = .ok (.goto 19, 3) := by decide +kernel
theorem dX11_balance_13 : decode cX11_balance 13 = .ok (.aload_n 0, 1) := by decide +kernel
theorem dX11_balance_14 : decode cX11_balance 14 = .ok (.iload_n 1, 1) := by decide +kernel
theorem dX11_balance_15 : decode cX11_balance 15 = .ok (.iload_n 2, 1) := by decide +kernel
theorem dX11_balance_16 : decode cX11_balance 16 = .ok (.invokevirtual 143, 3) := by decide +kernel
theorem dX11_balance_19 : decode cX11_balance 19 = .ok (.aload_n 0, 1) := by decide +kernel
theorem dX11_balance_20 : decode cX11_balance 20 = .ok (.getfield 73, 3) := by decide +kernel
theorem dX11_balance_23 : decode cX11_balance 23 = .ok (.iload_n 1, 1) := by decide +kernel
theorem dX11_balance_24 : decode cX11_balance 24 = .ok (.iload_n 2, 1) := by decide +kernel
theorem dX11_balance_25 : decode cX11_balance 25 = .ok (.invokestatic 131, 3) := by decide +kernel
theorem dX11_balance_28 : decode cX11_balance 28 = .ok (.ladd, 1) := by decide +kernel
theorem dX11_balance_29 : decode cX11_balance 29 = .ok (.lreturn, 1) := by decide +kernel
theorem dX11_peg_0 : decode cX11_peg 0 = .ok (.iload_n 1, 1) := by decide +kernel
theorem dX11_peg_1 : decode cX11_peg 1 = .ok (.iconst 0, 1) := by decide +kernel
theorem dX11_peg_2 : decode cX11_peg 2 = .ok (.aload_n 0, 1) := by decide +kernel
