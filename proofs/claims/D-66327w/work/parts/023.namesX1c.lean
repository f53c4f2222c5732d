set_option maxRecDepth 100000
theorem dX1_levelled_135 : decode cX1_levelled 135 = .ok (.if_icmp .le 5, 3) := by decide +kernel
theorem dX1_levelled_138 : decode cX1_levelled 138 = .ok (.iconst 0, 1) := by decide +kernel
theorem dX1_levelled_139 : decode cX1_levelled 139 = .ok (.ireturn, 1) := by decide +kernel
theorem dX1_levelled_140 : decode cX1_levelled 140 = .ok (.iinc 6 1, 3) := by decide +kernel
theorem dX1_levelled_143 : decode cX1_levelled 143 = .ok (.goto (-25), 3) := by decide +kernel
theorem dX1_levelled_146 : decode cX1_levelled 146 = .ok (.goto (-123), 3) := by decide +kernel
theorem dX1_levelled_149 : decode cX1_levelled 149 = .ok (.iconst 1, 1) := by decide +kernel
theorem dX1_levelled_150 : decode cX1_levelled 150 = .ok (.ireturn, 1) := by decide +kernel
theorem dX1_raise_0 : decode cX1_raise 0 = .ok (.aload_n 0, 1) := by decide +kernel
theorem dX1_raise_1 : decode cX1_raise 1 = .ok (.getfield 70, 3) := by decide +kernel
theorem dX1_raise_4 : decode cX1_raise 4 = .ok (.aload_n 2, 1) := by decide +kernel
theorem dX1_raise_5 : decode cX1_raise 5 = .ok (.getfield 159, 3) := by decide +kernel
theorem dX1_raise_8 : decode cX1_raise 8 = .ok (.iaload, 1) := by decide +kernel
theorem dX1_raise_9 : decode cX1_raise 9 = .ok (.aload_n 0, 1) := by decide +kernel
theorem dX1_raise_10 : decode cX1_raise 10 = .ok (.getfield 70, 3) := by decide +kernel
theorem dX1_raise_13 : decode cX1_raise 13 = .ok (.aload_n 1, 1) := by decide +kernel
theorem dX1_raise_14 : decode cX1_raise 14 = .ok (.getfield 159, 3) := by decide +kernel
theorem dX1_raise_17 : decode cX1_raise 17 = .ok (.iaload, 1) := by decide +kernel
theorem dX1_raise_18 : decode cX1_raise 18 = .ok (.if_icmp .gt 7, 3) := by decide +kernel
theorem dX1_raise_21 : decode cX1_raise 21 = .ok (.iconst 1, 1) := by decide +kernel
theorem dX1_raise_22 : decode cX1_raise 22 = .ok (.goto 4, 3) := by decide +kernel
theorem dX1_raise_25 : decode cX1_raise 25 = .ok (.iconst 0, 1) := by decide +kernel
theorem dX1_raise_26 : decode cX1_raise 26 = .ok (.istore_n 3, 1) := by decide +kernel
theorem dX1_raise_27 : decode cX1_raise 27 = .ok (.iload_n 3, 1) := by decide +kernel
theorem dX1_raise_28 : decode cX1_raise 28 = .ok (.ifCond .eq 23, 3) := by decide +kernel
theorem dX1_raise_31 : decode cX1_raise 31 = .ok (.aload_n 0, 1) := by decide +kernel
theorem dX1_raise_32 : decode cX1_raise 32 = .ok (.getfield 70, 3) := by decide +kernel
theorem dX1_raise_35 : decode cX1_raise 35 = .ok (.aload_n 2, 1) := by decide +kernel
theorem dX1_raise_36 : decode cX1_raise 36 = .ok (.getfield 159, 3) := by decide +kernel
theorem dX1_raise_39 : decode cX1_raise 39 = .ok (.aload_n 0, 1) := by decide +kernel
theorem dX1_raise_40 : decode cX1_raise 40 = .ok (.getfield 70, 3) := by decide +kernel
theorem dX1_raise_43 : decode cX1_raise 43 = .ok (.aload_n 1, 1) := by decide +kernel
theorem dX1_raise_44 : decode cX1_raise 44 = .ok (.getfield 159, 3) := by decide +kernel
theorem dX1_raise_47 : decode cX1_raise 47 = .ok (.iaload, 1) := by decide +kernel
theorem dX1_raise_48 : decode cX1_raise 48 = .ok (.iconst 1, 1) := by decide +kernel
theorem dX1_raise_49 : decode cX1_raise 49 = .ok (.iadd, 1) := by decide +kernel
theorem dX1_raise_50 : decode cX1_raise 50 = .ok (.iastore, 1) := by decide +kernel
theorem dX1_raise_51 : decode cX1_raise 51 = .ok (.iload_n 3, 1) := by decide +kernel
theorem dX1_raise_52 : decode cX1_raise 52 = .ok (.ireturn, 1) := by decide +kernel
theorem dX1_allow_0 : decode cX1_allow 0 = .ok (.iload_n 0, 1) := by decide +kernel
theorem dX1_allow_1 : decode cX1_allow 1 = .ok (.ifCond .ne 11, 3) := by decide +kernel
theorem dX1_allow_4 : decode cX1_allow 4 = .ok (.new 86, 3) := by decide +kernel
theorem dX1_allow_7 : decode cX1_allow 7 = .ok (.dup, 1) := by decide +kernel
theorem dX1_allow_8 : decode cX1_allow 8 = .ok (.invokespecial 88, 3) := by decide +kernel
theorem dX1_allow_11 : decode cX1_allow 11 = .ok (.athrow, 1) := by decide +kernel
theorem dX1_allow_12 : decode cX1_allow 12 = .ok (.return_, 1) := by decide +kernel
theorem dX1_keepLevels_0 : decode cX1_keepLevels 0 = .ok (.aload_n 0, 1) := by decide +kernel
theorem dX1_keepLevels_1 : decode cX1_keepLevels 1 = .ok (.getfield 9, 3) := by decide +kernel
theorem dX1_keepLevels_4 : decode cX1_keepLevels 4 = .ok (.astore_n 1, 1) := by decide +kernel
theorem dX1_keepLevels_5 : decode cX1_keepLevels 5 = .ok (.aload_n 1, 1) := by decide +kernel
theorem dX1_keepLevels_6 : decode cX1_keepLevels 6 = .ok (.arraylength, 1) := by decide +kernel
theorem dX1_keepLevels_7 : decode cX1_keepLevels 7 = .ok (.istore_n 2, 1) := by decide +kernel
theorem dX1_keepLevels_8 : decode cX1_keepLevels 8 = .ok (.iconst 0, 1) := by decide +kernel
theorem dX1_keepLevels_9 : decode cX1_keepLevels 9 = .ok (.istore_n 3, 1) := by decide +kernel
theorem dX1_keepLevels_10 : decode cX1_keepLevels 10 = .ok (.iload_n 3, 1) := by decide +kernel
theorem dX1_keepLevels_11 : decode cX1_keepLevels 11 = .ok (.iload_n 2, 1) := by decide +kernel
theorem dX1_keepLevels_12 : decode cX1_keepLevels 12 = .ok (.if_icmp .ge 29, 3) := by decide +kernel
theorem dX1_keepLevels_15 : decode cX1_keepLevels 15 = .ok (.aload_n 1, 1) := by decide +kernel
theorem dX1_keepLevels_16 : decode cX1_keepLevels 16 = .ok (.iload_n 3, 1) := by decide +kernel
theorem dX1_keepLevels_17 : decode cX1_keepLevels 17 = .ok (.aaload, 1) := by decide +kernel
theorem dX1_keepLevels_18 : decode cX1_keepLevels 18 = .ok (.astore 4, 2) := by decide +kernel
theorem dX1_keepLevels_20 : decode cX1_keepLevels 20 = .ok (.aload 4, 2) := by decide +kernel
theorem dX1_keepLevels_22 : decode cX1_keepLevels 22 = .ok (.aload_n 0, 1) := by decide +kernel
theorem dX1_keepLevels_23 : decode cX1_keepLevels 23 = .ok (.getfield 70, 3) := by decide +kernel
theorem dX1_keepLevels_26 : decode cX1_keepLevels 26 = .ok (.aload 4, 2) := by decide +kernel
theorem dX1_keepLevels_28 : decode cX1_keepLevels 28 = .ok (.getfield 159, 3) := by decide +kernel
theorem dX1_keepLevels_31 : decode cX1_keepLevels 31 = .ok (.iaload, 1) := by decide +kernel
theorem dX1_keepLevels_32 : decode cX1_keepLevels 32 = .ok (.putfield 162, 3) := by decide +kernel
theorem dX1_keepLevels_35 : decode cX1_keepLevels 35 = .ok (.iinc 3 1, 3) := by decide +kernel
theorem dX1_keepLevels_38 : decode cX1_keepLevels 38 = .ok (.goto (-28), 3) := by decide +kernel
theorem dX1_keepLevels_41 : decode cX1_keepLevels 41 = .ok (.return_, 1) := by decide +kernel
theorem dX1_stock_0 : decode cX1_stock 0 = .ok (.aload_n 0, 1) := by decide +kernel
theorem dX1_stock_1 : decode cX1_stock 1 = .ok (.iload_n 1, 1) := by decide +kernel
theorem dX1_stock_2 : decode cX1_stock 2 = .ok (.invokevirtual 100, 3) := by decide +kernel
theorem dX1_stock_5 : decode cX1_stock 5 = .ok (.astore_n 3, 1) := by decide +kernel
theorem dX1_stock_6 : decode cX1_stock 6 = .ok (.iload_n 2, 1) := by decide +kernel
theorem dX1_stock_7 : decode cX1_stock 7 = .ok (.iconst 0, 1) := by decide +kernel
theorem dX1_stock_8 : decode cX1_stock 8 = .ok (.sipush 10000, 3) := by decide +kernel
theorem dX1_stock_11 : decode cX1_stock 11 = .ok (.invokestatic 89, 3) := by decide +kernel
theorem dX1_stock_14 : decode cX1_stock 14 = .ok (.invokestatic 104, 3) := by decide +kernel
theorem dX1_stock_17 : decode cX1_stock 17 = .ok (.aload_n 3, 1) := by decide +kernel
theorem dX1_stock_18 : decode cX1_stock 18 = .ok (.getfield 188, 3) := by decide +kernel
theorem dX1_stock_21 : decode cX1_stock 21 = .ok (.istore 4, 2) := by decide +kernel
theorem dX1_stock_23 : decode cX1_stock 23 = .ok (.aload_n 3, 1) := by decide +kernel
theorem dX1_stock_24 : decode cX1_stock 24 = .ok (.iload_n 2, 1) := by decide +kernel
theorem dX1_stock_25 : decode cX1_stock 25 = .ok (.putfield 188, 3) := by decide +kernel
theorem dX1_stock_28 : decode cX1_stock 28 = .ok (.aload_n 0, 1) := by decide +kernel
theorem dX1_stock_29 : decode cX1_stock 29 = .ok (.aload_n 3, 1) := by decide +kernel
theorem dX1_stock_30 : decode cX1_stock 30 = .ok (.invokevirtual 120, 3) := by decide +kernel
theorem dX1_stock_33 : decode cX1_stock 33 = .ok (.iload 4, 2) := by decide +kernel
theorem dX1_stock_35 : decode cX1_stock 35 = .ok (.ireturn, 1) := by decide +kernel
theorem dX1_demand_0 : decode cX1_demand 0 = .ok (.aload_n 0, 1) := by decide +kernel
theorem dX1_demand_1 : decode cX1_demand 1 = .ok (.aload_n 0, 1) := by decide +kernel
theorem dX1_demand_2 : decode cX1_demand 2 = .ok (.getfield 25, 3) := by decide +kernel
theorem dX1_demand_5 : decode cX1_demand 5 = .ok (.iload_n 1, 1) := by decide +kernel
theorem dX1_demand_6 : decode cX1_demand 6 = .ok (.iload_n 2, 1) := by decide +kernel
theorem dX1_demand_7 : decode cX1_demand 7 = .ok (.iload_n 3, 1) := by decide +kernel
theorem dX1_demand_8 : decode cX1_demand 8 = .ok (.invokevirtual 206, 3) := by decide +kernel
theorem dX1_demand_11 : decode cX1_demand 11 = .ok (.ireturn, 1) := by decide +kernel
theorem dX1_enter_0 : decode cX1_enter 0 = .ok (.aload_n 0, 1) := by decide +kernel
theorem dX1_enter_1 : decode cX1_enter 1 = .ok (.iload_n 2, 1) := by decide +kernel
theorem dX1_enter_2 : decode cX1_enter 2 = .ok (.invokevirtual 100, 3) := by decide +kernel
theorem dX1_enter_5 : decode cX1_enter 5 = .ok (.astore 5, 2) := by decide +kernel
theorem dX1_enter_7 : decode cX1_enter 7 = .ok (.iload_n 3, 1) := by decide +kernel
theorem dX1_enter_8 : decode cX1_enter 8 = .ok (.invokestatic 191, 3) := by decide +kernel
theorem dX1_enter_11 : decode cX1_enter 11 = .ok (.iload 4, 2) := by decide +kernel
theorem dX1_enter_13 : decode cX1_enter 13 = .ok (.iconst 0, 1) := by decide +kernel
theorem dX1_enter_14 : decode cX1_enter 14 = .ok (.sipush 1000, 3) := by decide +kernel
theorem dX1_enter_17 : decode cX1_enter 17 = .ok (.invokestatic 89, 3) := by decide +kernel
theorem dX1_enter_20 : decode cX1_enter 20 = .ok (.invokestatic 104, 3) := by decide +kernel
theorem dX1_enter_23 : decode cX1_enter 23 = .ok (.aload_n 1, 1) := by decide +kernel
theorem dX1_enter_24 : decode cX1_enter 24 = .ok (.invokevirtual 194, 3) := by decide +kernel
theorem dX1_enter_27 : decode cX1_enter 27 = .ok (.ifCond .ne 7, 3) := by decide +kernel
theorem dX1_enter_30 : decode cX1_enter 30 = .ok (.iconst 1, 1) := by decide +kernel
theorem dX1_enter_31 : decode cX1_enter 31 = .ok (.goto 4, 3) := by decide +kernel
theorem dX1_enter_34 : decode cX1_enter 34 = .ok (.iconst 0, 1) := by decide +kernel
theorem dX1_enter_35 : decode cX1_enter 35 = .ok (.invokestatic 172, 3) := by decide +kernel
theorem dX1_enter_38 : decode cX1_enter 38 = .ok (.aload_n 0, 1) := by decide +kernel
theorem dX1_enter_39 : decode cX1_enter 39 = .ok (.aload 5, 2) := by decide +kernel
theorem dX1_enter_41 : decode cX1_enter 41 = .ok (.invokevirtual 120, 3) := by decide +kernel
theorem dX1_enter_44 : decode cX1_enter 44 = .ok (.aload_n 1, 1) := by decide +kernel
theorem dX1_enter_45 : decode cX1_enter 45 = .ok (.new 198, 3) := by decide +kernel
theorem dX1_enter_48 : decode cX1_enter 48 = .ok (.dup, 1) := by decide +kernel
theorem dX1_enter_49 : decode cX1_enter 49 = .ok (.iload_n 2, 1) := by decide +kernel
theorem dX1_enter_50 : decode cX1_enter 50 = .ok (.iload_n 3, 1) := by decide +kernel
theorem dX1_enter_51 : decode cX1_enter 51 = .ok (.iload 4, 2) := by decide +kernel
theorem dX1_enter_53 : decode cX1_enter 53 = .ok (.invokespecial 200, 3) := by decide +kernel
theorem dX1_enter_56 : decode cX1_enter 56 = .ok (.invokevirtual 203, 3) := by decide +kernel
theorem dX1_enter_59 : decode cX1_enter 59 = .ok (.ireturn, 1) := by decide +kernel
theorem dX1_week_0 : decode cX1_week 0 = .ok (.iload_n 0, 1) := by decide +kernel
theorem dX1_week_1 : decode cX1_week 1 = .ok (.iconst 0, 1) := by decide +kernel
theorem dX1_week_2 : decode cX1_week 2 = .ok (.bipush 11, 2) := by decide +kernel
theorem dX1_week_4 : decode cX1_week 4 = .ok (.invokestatic 89, 3) := by decide +kernel
theorem dX1_week_7 : decode cX1_week 7 = .ok (.invokestatic 93, 3) := by decide +kernel
theorem dX1_week_10 : decode cX1_week 10 = .ok (.return_, 1) := by decide +kernel
theorem dX1_change_0 : decode cX1_change 0 = .ok (.iload_n 1, 1) := by decide +kernel
theorem dX1_change_1 : decode cX1_change 1 = .ok (.iconst 0, 1) := by decide +kernel
theorem dX1_change_2 : decode cX1_change 2 = .ok (.iconst 1, 1) := by decide +kernel
theorem dX1_change_3 : decode cX1_change 3 = .ok (.invokestatic 89, 3) := by decide +kernel
theorem dX1_change_6 : decode cX1_change 6 = .ok (.invokestatic 104, 3) := by decide +kernel
theorem dX1_change_9 : decode cX1_change 9 = .ok (.iload_n 1, 1) := by decide +kernel
theorem dX1_change_10 : decode cX1_change 10 = .ok (.ifCond .ne 10, 3) := by decide +kernel
theorem dX1_change_13 : decode cX1_change 13 = .ok (.aload_n 0, 1) := by decide +kernel
theorem dX1_change_14 : decode cX1_change 14 = .ok (.getfield 25, 3) := by decide +kernel
theorem dX1_change_17 : decode cX1_change 17 = .ok (.goto 7, 3) := by decide +kernel
theorem dX1_change_20 : decode cX1_change 20 = .ok (.aload_n 0, 1) := by decide +kernel
theorem dX1_change_21 : decode cX1_change 21 = .ok (.getfield 29, 3) := by decide +kernel
theorem dX1_change_24 : decode cX1_change 24 = .ok (.iload_n 2, 1) := by decide +kernel
theorem dX1_change_25 : decode cX1_change 25 = .ok (.invokestatic 213, 3) := by decide +kernel
theorem dX1_change_28 : decode cX1_change 28 = .ok (.astore 4, 2) := by decide +kernel
theorem dX1_change_30 : decode cX1_change 30 = .ok (.iload_n 3, 1) := by decide +kernel
theorem dX1_change_31 : decode cX1_change 31 = .ok (.iconst 0, 1) := by decide +kernel
theorem dX1_change_32 : decode cX1_change 32 = .ok (.sipush 1000, 3) := by decide +kernel
theorem dX1_change_35 : decode cX1_change 35 = .ok (.invokestatic 89, 3) := by decide +kernel
theorem dX1_change_38 : decode cX1_change 38 = .ok (.invokestatic 104, 3) := by decide +kernel
theorem dX1_change_41 : decode cX1_change 41 = .ok (.aload 4, 2) := by decide +kernel
theorem dX1_change_43 : decode cX1_change 43 = .ok (.getfield 217, 3) := by decide +kernel
theorem dX1_change_46 : decode cX1_change 46 = .ok (.istore 5, 2) := by decide +kernel
theorem dX1_change_48 : decode cX1_change 48 = .ok (.aload 4, 2) := by decide +kernel
theorem dX1_change_50 : decode cX1_change 50 = .ok (.iload_n 3, 1) := by decide +kernel
theorem dX1_change_51 : decode cX1_change 51 = .ok (.putfield 217, 3) := by decide +kernel
theorem dX1_change_54 : decode cX1_change 54 = .ok (.aload_n 0, 1) := by decide +kernel
theorem dX1_change_55 : decode cX1_change 55 = .ok (.aload_n 0, 1) := by decide +kernel
theorem dX1_change_56 : decode cX1_change 56 = .ok (.getfield 9, 3) := by decide +kernel
theorem dX1_change_59 : decode cX1_change 59 = .ok (.aload 4, 2) := by decide +kernel
theorem dX1_change_61 : decode cX1_change 61 = .ok (.getfield 220, 3) := by decide +kernel
theorem dX1_change_64 : decode cX1_change 64 = .ok (.aaload, 1) := by decide +kernel
theorem dX1_change_65 : decode cX1_change 65 = .ok (.invokevirtual 120, 3) := by decide +kernel
theorem dX1_change_68 : decode cX1_change 68 = .ok (.iload 5, 2) := by decide +kernel
theorem dX1_change_70 : decode cX1_change 70 = .ok (.ireturn, 1) := by decide +kernel
theorem dX1_entry_0 : decode cX1_entry 0 = .ok (.iload_n 1, 1) := by decide +kernel
theorem dX1_entry_1 : decode cX1_entry 1 = .ok (.iconst 0, 1) := by decide +kernel
theorem dX1_entry_2 : decode cX1_entry 2 = .ok (.aload_n 0, 1) := by decide +kernel
theorem dX1_entry_3 : decode cX1_entry 3 = .ok (.getfield 210, 3) := by decide +kernel
theorem dX1_entry_6 : decode cX1_entry 6 = .ok (.invokevirtual 139, 3) := by decide +kernel
theorem dX1_entry_9 : decode cX1_entry 9 = .ok (.iconst 1, 1) := by decide +kernel
theorem dX1_entry_10 : decode cX1_entry 10 = .ok (.isub, 1) := by decide +kernel
theorem dX1_entry_11 : decode cX1_entry 11 = .ok (.invokestatic 89, 3) := by decide +kernel
theorem dX1_entry_14 : decode cX1_entry 14 = .ok (.invokestatic 93, 3) := by decide +kernel
theorem dX1_entry_17 : decode cX1_entry 17 = .ok (.aload_n 0, 1) := by decide +kernel
theorem dX1_entry_18 : decode cX1_entry 18 = .ok (.getfield 210, 3) := by decide +kernel
theorem dX1_entry_21 : decode cX1_entry 21 = .ok (.iload_n 1, 1) := by decide +kernel
theorem dX1_entry_22 : decode cX1_entry 22 = .ok (.invokevirtual 142, 3) := by decide +kernel
theorem dX1_entry_25 : decode cX1_entry 25 = .ok (.checkcast 198, 3) := by decide +kernel
theorem dX1_entry_28 : decode cX1_entry 28 = .ok (.areturn, 1) := by decide +kernel
theorem dX1_order_0 : decode cX1_order 0 = .ok (.aload_n 0, 1) := by decide +kernel
theorem dX1_order_1 : decode cX1_order 1 = .ok (.aload_n 0, 1) := by decide +kernel
theorem dX1_order_2 : decode cX1_order 2 = .ok (.getfield 29, 3) := by decide +kernel
theorem dX1_order_5 : decode cX1_order 5 = .ok (.iload_n 1, 1) := by decide +kernel
theorem dX1_order_6 : decode cX1_order 6 = .ok (.iload_n 2, 1) := by decide +kernel
theorem dX1_order_7 : decode cX1_order 7 = .ok (.iload_n 3, 1) := by decide +kernel
theorem dX1_order_8 : decode cX1_order 8 = .ok (.invokevirtual 206, 3) := by decide +kernel
theorem dX1_order_11 : decode cX1_order 11 = .ok (.ireturn, 1) := by decide +kernel
theorem dX1_level_0 : decode cX1_level 0 = .ok (.aload_n 0, 1) := by decide +kernel
theorem dX1_level_1 : decode cX1_level 1 = .ok (.iload_n 1, 1) := by decide +kernel
theorem dX1_level_2 : decode cX1_level 2 = .ok (.invokevirtual 100, 3) := by decide +kernel
theorem dX1_level_5 : decode cX1_level 5 = .ok (.getfield 162, 3) := by decide +kernel
theorem dX1_level_8 : decode cX1_level 8 = .ok (.ireturn, 1) := by decide +kernel
theorem dX1_gross_0 : decode cX1_gross 0 = .ok (.aload_n 0, 1) := by decide +kernel
theorem dX1_gross_1 : decode cX1_gross 1 = .ok (.iload_n 1, 1) := by decide +kernel
theorem dX1_gross_2 : decode cX1_gross 2 = .ok (.invokevirtual 100, 3) := by decide +kernel
theorem dX1_gross_5 : decode cX1_gross 5 = .ok (.pop, 1) := by decide +kernel
theorem dX1_gross_6 : decode cX1_gross 6 = .ok (.iload_n 2, 1) := by decide +kernel
theorem dX1_gross_7 : decode cX1_gross 7 = .ok (.invokestatic 191, 3) := by decide +kernel
theorem dX1_gross_10 : decode cX1_gross 10 = .ok (.aload_n 0, 1) := by decide +kernel
theorem dX1_gross_11 : decode cX1_gross 11 = .ok (.iload_n 1, 1) := by decide +kernel
theorem dX1_gross_12 : decode cX1_gross 12 = .ok (.invokevirtual 286, 3) := by decide +kernel
theorem dX1_gross_15 : decode cX1_gross 15 = .ok (.getfield 248, 3) := by decide +kernel
theorem dX1_gross_18 : decode cX1_gross 18 = .ok (.iload_n 2, 1) := by decide +kernel
theorem dX1_gross_19 : decode cX1_gross 19 = .ok (.laload, 1) := by decide +kernel
theorem dX1_gross_20 : decode cX1_gross 20 = .ok (.lreturn, 1) := by decide +kernel
theorem dX1_current_0 : decode cX1_current 0 = .ok (.aload_n 0, 1) := by decide +kernel
theorem dX1_current_1 : decode cX1_current 1 = .ok (.iload_n 1, 1) := by decide +kernel
theorem dX1_current_2 : decode cX1_current 2 = .ok (.invokevirtual 100, 3) := by decide +kernel
theorem dX1_current_5 : decode cX1_current 5 = .ok (.astore_n 2, 1) := by decide +kernel
theorem dX1_current_6 : decode cX1_current 6 = .ok (.aload_n 0, 1) := by decide +kernel
theorem dX1_current_7 : decode cX1_current 7 = .ok (.getfield 66, 3) := by decide +kernel
theorem dX1_current_10 : decode cX1_current 10 = .ok (.ifCond .ne 7, 3) := by decide +kernel
theorem dX1_current_13 : decode cX1_current 13 = .ok (.iconst 1, 1) := by decide +kernel
theorem dX1_current_14 : decode cX1_current 14 = .ok (.goto 4, 3) := by decide +kernel
theorem dX1_current_17 : decode cX1_current 17 = .ok (.iconst 0, 1) := by decide +kernel
theorem dX1_current_18 : decode cX1_current 18 = .ok (.invokestatic 172, 3) := by decide +kernel
theorem dX1_current_21 : decode cX1_current 21 = .ok (.aload_n 2, 1) := by decide +kernel
theorem dX1_current_22 : decode cX1_current 22 = .ok (.areturn, 1) := by decide +kernel
theorem dX1_planned_0 : decode cX1_planned 0 = .ok (.aload_n 0, 1) := by decide +kernel
theorem dX1_planned_1 : decode cX1_planned 1 = .ok (.iload_n 1, 1) := by decide +kernel
theorem dX1_planned_2 : decode cX1_planned 2 = .ok (.invokevirtual 100, 3) := by decide +kernel
theorem dX1_planned_5 : decode cX1_planned 5 = .ok (.pop, 1) := by decide +kernel
theorem dX1_planned_6 : decode cX1_planned 6 = .ok (.iload_n 2, 1) := by decide +kernel
theorem dX1_planned_7 : decode cX1_planned 7 = .ok (.invokestatic 191, 3) := by decide +kernel
theorem dX1_planned_10 : decode cX1_planned 10 = .ok (.aload_n 0, 1) := by decide +kernel
theorem dX1_planned_11 : decode cX1_planned 11 = .ok (.iload_n 1, 1) := by decide +kernel
theorem dX1_planned_12 : decode cX1_planned 12 = .ok (.invokevirtual 286, 3) := by decide +kernel
theorem dX1_planned_15 : decode cX1_planned 15 = .ok (.getfield 226, 3) := by decide +kernel
theorem dX1_planned_18 : decode cX1_planned 18 = .ok (.iload_n 2, 1) := by decide +kernel
theorem dX1_planned_19 : decode cX1_planned 19 = .ok (.laload, 1) := by decide +kernel
theorem dX1_planned_20 : decode cX1_planned 20 = .ok (.lreturn, 1) := by decide +kernel
theorem dX1_balance_0 : decode cX1_balance 0 = .ok (.aload_n 0, 1) := by decide +kernel
theorem dX1_balance_1 : decode cX1_balance 1 = .ok (.iload_n 1, 1) := by decide +kernel
theorem dX1_balance_2 : decode cX1_balance 2 = .ok (.invokevirtual 100, 3) := by decide +kernel
theorem dX1_balance_5 : decode cX1_balance 5 = .ok (.pop, 1) := by decide +kernel
theorem dX1_balance_6 : decode cX1_balance 6 = .ok (.iload_n 2, 1) := by decide +kernel
theorem dX1_balance_7 : decode cX1_balance 7 = .ok (.invokestatic 191, 3) := by decide +kernel
theorem dX1_balance_10 : decode cX1_balance 10 = .ok (.aload_n 0, 1) := by decide +kernel
theorem dX1_balance_11 : decode cX1_balance 11 = .ok (.iload_n 1, 1) := by decide +kernel
theorem dX1_balance_12 : decode cX1_balance 12 = .ok (.invokevirtual 286, 3) := by decide +kernel
theorem dX1_balance_15 : decode cX1_balance 15 = .ok (.getfield 251, 3) := by decide +kernel
theorem dX1_balance_18 : decode cX1_balance 18 = .ok (.iload_n 2, 1) := by decide +kernel
theorem dX1_balance_19 : decode cX1_balance 19 = .ok (.laload, 1) := by decide +kernel
theorem dX1_balance_20 : decode cX1_balance 20 = .ok (.lreturn, 1) := by decide +kernel
theorem dX1_peg_0 : decode cX1_peg 0 = .ok (.aload_n 0, 1) := by decide +kernel
theorem dX1_peg_1 : decode cX1_peg 1 = .ok (.getfield 25, 3) := by decide +kernel
theorem dX1_peg_4 : decode cX1_peg 4 = .ok (.iload_n 1, 1) := by decide +kernel
theorem dX1_peg_5 : decode cX1_peg 5 = .ok (.invokestatic 213, 3) := by decide +kernel
theorem dX1_peg_8 : decode cX1_peg 8 = .ok (.astore 4, 2) := by decide +kernel
theorem dX1_peg_10 : decode cX1_peg 10 = .ok (.iload_n 2, 1) := by decide +kernel
theorem dX1_peg_11 : decode cX1_peg 11 = .ok (.iconst 0, 1) := by decide +kernel
theorem dX1_peg_12 : decode cX1_peg 12 = .ok (.iconst 2, 1) := by decide +kernel
theorem dX1_peg_13 : decode cX1_peg 13 = .ok (.invokestatic 89, 3) := by decide +kernel
theorem dX1_peg_16 : decode cX1_peg 16 = .ok (.invokestatic 104, 3) := by decide +kernel
theorem dX1_peg_19 : decode cX1_peg 19 = .ok (.iload_n 2, 1) := by decide +kernel
theorem dX1_peg_20 : decode cX1_peg 20 = .ok (.iconst 1, 1) := by decide +kernel
theorem dX1_peg_21 : decode cX1_peg 21 = .ok (.if_icmp .ne 12, 3) := by decide +kernel
theorem dX1_peg_24 : decode cX1_peg 24 = .ok (.aload_n 0, 1) := by decide +kernel
theorem dX1_peg_25 : decode cX1_peg 25 = .ok (.getfield 29, 3) := by decide +kernel
theorem dX1_peg_28 : decode cX1_peg 28 = .ok (.iload_n 3, 1) := by decide +kernel
theorem dX1_peg_29 : decode cX1_peg 29 = .ok (.invokestatic 213, 3) := by decide +kernel
theorem dX1_peg_32 : decode cX1_peg 32 = .ok (.pop, 1) := by decide +kernel
theorem dX1_peg_33 : decode cX1_peg 33 = .ok (.iload_n 2, 1) := by decide +kernel
theorem dX1_peg_34 : decode cX1_peg 34 = .ok (.iconst 2, 1) := by decide +kernel
theorem dX1_peg_35 : decode cX1_peg 35 = .ok (.if_icmp .ne 7, 3) := by decide +kernel
theorem dX1_peg_38 : decode cX1_peg 38 = .ok (.iload_n 3, 1) := by decide +kernel
theorem dX1_peg_39 : decode cX1_peg 39 = .ok (.invokestatic 191, 3) := by decide +kernel
theorem dX1_peg_42 : decode cX1_peg 42 = .ok (.aload_n 0, 1) := by decide +kernel
theorem dX1_peg_43 : decode cX1_peg 43 = .ok (.getfield 66, 3) := by decide +kernel
theorem dX1_peg_46 : decode cX1_peg 46 = .ok (.ifCond .ne 7, 3) := by decide +kernel
theorem dX1_peg_49 : decode cX1_peg 49 = .ok (.iconst 1, 1) := by decide +kernel
theorem dX1_peg_50 : decode cX1_peg 50 = .ok (.goto 4, 3) := by decide +kernel
theorem dX1_peg_53 : decode cX1_peg 53 = .ok (.iconst 0, 1) := by decide +kernel
theorem dX1_peg_54 : decode cX1_peg 54 = .ok (.invokestatic 172, 3) := by decide +kernel
theorem dX1_peg_57 : decode cX1_peg 57 = .ok (.aload_n 0, 1) := by decide +kernel
theorem dX1_peg_58 : decode cX1_peg 58 = .ok (.getfield 9, 3) := by decide +kernel
theorem dX1_peg_61 : decode cX1_peg 61 = .ok (.aload 4, 2) := by decide +kernel
theorem dX1_peg_63 : decode cX1_peg 63 = .ok (.getfield 220, 3) := by decide +kernel
theorem dX1_peg_66 : decode cX1_peg 66 = .ok (.aaload, 1) := by decide +kernel
theorem dX1_peg_67 : decode cX1_peg 67 = .ok (.astore 5, 2) := by decide +kernel
theorem dX1_peg_69 : decode cX1_peg 69 = .ok (.aload_n 0, 1) := by decide +kernel
theorem dX1_peg_70 : decode cX1_peg 70 = .ok (.aload 5, 2) := by decide +kernel
theorem dX1_peg_72 : decode cX1_peg 72 = .ok (.aload 4, 2) := by decide +kernel
theorem dX1_peg_74 : decode cX1_peg 74 = .ok (.getfield 292, 3) := by decide +kernel
theorem dX1_peg_77 : decode cX1_peg 77 = .ok (.invokevirtual 294, 3) := by decide +kernel
theorem dX1_peg_80 : decode cX1_peg 80 = .ok (.aload_n 0, 1) := by decide +kernel
theorem dX1_peg_81 : decode cX1_peg 81 = .ok (.getfield 25, 3) := by decide +kernel
theorem dX1_peg_84 : decode cX1_peg 84 = .ok (.iload_n 1, 1) := by decide +kernel
theorem dX1_peg_85 : decode cX1_peg 85 = .ok (.invokevirtual 297, 3) := by decide +kernel
theorem dX1_peg_88 : decode cX1_peg 88 = .ok (.ladd, 1) := by decide +kernel
theorem dX1_peg_89 : decode cX1_peg 89 = .ok (.lstore 6, 2) := by decide +kernel
theorem dX1_peg_91 : decode cX1_peg 91 = .ok (.iload_n 2, 1) := by decide +kernel
theorem dX1_peg_92 : decode cX1_peg 92 = .ok (.ifCond .ne 22, 3) := by decide +kernel
theorem dX1_peg_95 : decode cX1_peg 95 = .ok (.lload 6, 2) := by decide +kernel
theorem dX1_peg_97 : decode cX1_peg 97 = .ok (.aload 4, 2) := by decide +kernel
theorem dX1_peg_99 : decode cX1_peg 99 = .ok (.getfield 217, 3) := by decide +kernel
theorem dX1_peg_102 : decode cX1_peg 102 = .ok (.i2l, 1) := by decide +kernel
theorem dX1_peg_103 : decode cX1_peg 103 = .ok (.lconst 0, 1) := by decide +kernel
theorem dX1_peg_104 : decode cX1_peg 104 = .ok (.aload 5, 2) := by decide +kernel
theorem dX1_peg_106 : decode cX1_peg 106 = .ok (.getfield 188, 3) := by decide +kernel
theorem dX1_peg_109 : decode cX1_peg 109 = .ok (.i2l, 1) := by decide +kernel
theorem dX1_peg_110 : decode cX1_peg 110 = .ok (.invokestatic 301, 3) := by decide +kernel
theorem dX1_peg_113 : decode cX1_peg 113 = .ok (.lreturn, 1) := by decide +kernel
theorem dX1_peg_114 : decode cX1_peg 114 = .ok (.iload_n 2, 1) := by decide +kernel
theorem dX1_peg_115 : decode cX1_peg 115 = .ok (.iconst 2, 1) := by decide +kernel
theorem dX1_peg_116 : decode cX1_peg 116 = .ok (.if_icmp .ne 43, 3) := by decide +kernel
theorem dX1_peg_119 : decode cX1_peg 119 = .ok (.lload 6, 2) := by decide +kernel
theorem dX1_peg_121 : decode cX1_peg 121 = .ok (.aload 4, 2) := by decide +kernel
theorem dX1_peg_123 : decode cX1_peg 123 = .ok (.getfield 217, 3) := by decide +kernel
theorem dX1_peg_126 : decode cX1_peg 126 = .ok (.i2l, 1) := by decide +kernel
theorem dX1_peg_127 : decode cX1_peg 127 = .ok (.aload_n 0, 1) := by decide +kernel
theorem dX1_peg_128 : decode cX1_peg 128 = .ok (.aload 5, 2) := by decide +kernel
theorem dX1_peg_130 : decode cX1_peg 130 = .ok (.iload_n 3, 1) := by decide +kernel
theorem dX1_peg_131 : decode cX1_peg 131 = .ok (.invokevirtual 305, 3) := by decide +kernel
theorem dX1_peg_134 : decode cX1_peg 134 = .ok (.aload_n 0, 1) := by decide +kernel
theorem dX1_peg_135 : decode cX1_peg 135 = .ok (.getfield 29, 3) := by decide +kernel
theorem dX1_peg_138 : decode cX1_peg 138 = .ok (.aload 5, 2) := by decide +kernel
theorem dX1_peg_140 : decode cX1_peg 140 = .ok (.getfield 159, 3) := by decide +kernel
theorem dX1_peg_143 : decode cX1_peg 143 = .ok (.iload_n 3, 1) := by decide +kernel
theorem dX1_peg_144 : decode cX1_peg 144 = .ok (.invokevirtual 240, 3) := by decide +kernel
theorem dX1_peg_147 : decode cX1_peg 147 = .ok (.ladd, 1) := by decide +kernel
theorem dX1_peg_148 : decode cX1_peg 148 = .ok (.aload 5, 2) := by decide +kernel
theorem dX1_peg_150 : decode cX1_peg 150 = .ok (.getfield 226, 3) := by decide +kernel
theorem dX1_peg_153 : decode cX1_peg 153 = .ok (.iload_n 3, 1) := by decide +kernel
theorem dX1_peg_154 : decode cX1_peg 154 = .ok (.laload, 1) := by decide +kernel
theorem dX1_peg_155 : decode cX1_peg 155 = .ok (.invokestatic 301, 3) := by decide +kernel
theorem dX1_peg_158 : decode cX1_peg 158 = .ok (.lreturn, 1) := by decide +kernel
theorem dX1_peg_159 : decode cX1_peg 159 = .ok (.aload_n 0, 1) := by decide +kernel
theorem dX1_peg_160 : decode cX1_peg 160 = .ok (.getfield 29, 3) := by decide +kernel
theorem dX1_peg_163 : decode cX1_peg 163 = .ok (.getfield 210, 3) := by decide +kernel
theorem dX1_peg_166 : decode cX1_peg 166 = .ok (.iload_n 3, 1) := by decide +kernel
theorem dX1_peg_167 : decode cX1_peg 167 = .ok (.invokevirtual 142, 3) := by decide +kernel
theorem dX1_peg_170 : decode cX1_peg 170 = .ok (.checkcast 198, 3) := by decide +kernel
theorem dX1_peg_173 : decode cX1_peg 173 = .ok (.astore 8, 2) := by decide +kernel
theorem dX1_peg_175 : decode cX1_peg 175 = .ok (.aload 8, 2) := by decide +kernel
theorem dX1_peg_177 : decode cX1_peg 177 = .ok (.getfield 220, 3) := by decide +kernel
theorem dX1_peg_180 : decode cX1_peg 180 = .ok (.aload 4, 2) := by decide +kernel
theorem dX1_peg_182 : decode cX1_peg 182 = .ok (.getfield 220, 3) := by decide +kernel
theorem dX1_peg_185 : decode cX1_peg 185 = .ok (.if_icmp .ne 43, 3) := by decide +kernel
theorem dX1_peg_188 : decode cX1_peg 188 = .ok (.lload 6, 2) := by decide +kernel
theorem dX1_peg_190 : decode cX1_peg 190 = .ok (.aload 4, 2) := by decide +kernel
theorem dX1_peg_192 : decode cX1_peg 192 = .ok (.getfield 217, 3) := by decide +kernel
theorem dX1_peg_195 : decode cX1_peg 195 = .ok (.i2l, 1) := by decide +kernel
theorem dX1_peg_196 : decode cX1_peg 196 = .ok (.aload_n 0, 1) := by decide +kernel
theorem dX1_peg_197 : decode cX1_peg 197 = .ok (.aload 5, 2) := by decide +kernel
theorem dX1_peg_199 : decode cX1_peg 199 = .ok (.aload 8, 2) := by decide +kernel
theorem dX1_peg_201 : decode cX1_peg 201 = .ok (.getfield 292, 3) := by decide +kernel
theorem dX1_peg_204 : decode cX1_peg 204 = .ok (.invokevirtual 305, 3) := by decide +kernel
theorem dX1_peg_207 : decode cX1_peg 207 = .ok (.aload_n 0, 1) := by decide +kernel
theorem dX1_peg_208 : decode cX1_peg 208 = .ok (.getfield 29, 3) := by decide +kernel
theorem dX1_peg_211 : decode cX1_peg 211 = .ok (.iload_n 3, 1) := by decide +kernel
theorem dX1_peg_212 : decode cX1_peg 212 = .ok (.invokevirtual 297, 3) := by decide +kernel
theorem dX1_peg_215 : decode cX1_peg 215 = .ok (.ladd, 1) := by decide +kernel
theorem dX1_peg_216 : decode cX1_peg 216 = .ok (.aload 8, 2) := by decide +kernel
theorem dX1_peg_218 : decode cX1_peg 218 = .ok (.getfield 217, 3) := by decide +kernel
theorem dX1_peg_221 : decode cX1_peg 221 = .ok (.i2l, 1) := by decide +kernel
theorem dX1_peg_222 : decode cX1_peg 222 = .ok (.invokestatic 301, 3) := by decide +kernel
theorem dX1_peg_225 : decode cX1_peg 225 = .ok (.goto 4, 3) := by decide +kernel
theorem dX1_peg_228 : decode cX1_peg 228 = .ok (.lconst 0, 1) := by decide +kernel
theorem dX1_peg_229 : decode cX1_peg 229 = .ok (.lreturn, 1) := by decide +kernel
theorem dX1_claimedBefore_0 : decode cX1_claimedBefore 0 = .ok (.lconst 0, 1) := by decide +kernel
theorem dX1_claimedBefore_1 : decode cX1_claimedBefore 1 = .ok (.lstore_n 3, 1) := by decide +kernel
theorem dX1_claimedBefore_2 : decode cX1_claimedBefore 2 = .ok (.iconst 0, 1) := by decide +kernel
theorem dX1_claimedBefore_3 : decode cX1_claimedBefore 3 = .ok (.istore 5, 2) := by decide +kernel
theorem dX1_claimedBefore_5 : decode cX1_claimedBefore 5 = .ok (.iload 5, 2) := by decide +kernel
theorem dX1_claimedBefore_7 : decode cX1_claimedBefore 7 = .ok (.iload_n 2, 1) := by decide +kernel
theorem dX1_claimedBefore_8 : decode cX1_claimedBefore 8 = .ok (.if_icmp .ge 19, 3) := by decide +kernel
theorem dX1_claimedBefore_11 : decode cX1_claimedBefore 11 = .ok (.lload_n 3, 1) := by decide +kernel
theorem dX1_claimedBefore_12 : decode cX1_claimedBefore 12 = .ok (.aload_n 1, 1) := by decide +kernel
theorem dX1_claimedBefore_13 : decode cX1_claimedBefore 13 = .ok (.getfield 248, 3) := by decide +kernel
theorem dX1_claimedBefore_16 : decode cX1_claimedBefore 16 = .ok (.iload 5, 2) := by decide +kernel
theorem dX1_claimedBefore_18 : decode cX1_claimedBefore 18 = .ok (.laload, 1) := by decide +kernel
theorem dX1_claimedBefore_19 : decode cX1_claimedBefore 19 = .ok (.ladd, 1) := by decide +kernel
theorem dX1_claimedBefore_20 : decode cX1_claimedBefore 20 = .ok (.lstore_n 3, 1) := by decide +kernel
theorem dX1_claimedBefore_21 : decode cX1_claimedBefore 21 = .ok (.iinc 5 1, 3) := by decide +kernel
theorem dX1_claimedBefore_24 : decode cX1_claimedBefore 24 = .ok (.goto (-19), 3) := by decide +kernel
theorem dX1_claimedBefore_27 : decode cX1_claimedBefore 27 = .ok (.lload_n 3, 1) := by decide +kernel
theorem dX1_claimedBefore_28 : decode cX1_claimedBefore 28 = .ok (.lreturn, 1) := by decide +kernel
theorem dX1_overlap_0 : decode cX1_overlap 0 = .ok (.lconst 0, 1) := by decide +kernel
theorem dX1_overlap_1 : decode cX1_overlap 1 = .ok (.lload_n 0, 1) := by decide +kernel
theorem dX1_overlap_2 : decode cX1_overlap 2 = .ok (.lload_n 2, 1) := by decide +kernel
theorem dX1_overlap_3 : decode cX1_overlap 3 = .ok (.ladd, 1) := by decide +kernel
theorem dX1_overlap_4 : decode cX1_overlap 4 = .ok (.lload 4, 2) := by decide +kernel
theorem dX1_overlap_6 : decode cX1_overlap 6 = .ok (.lload 6, 2) := by decide +kernel
theorem dX1_overlap_8 : decode cX1_overlap 8 = .ok (.ladd, 1) := by decide +kernel
theorem dX1_overlap_9 : decode cX1_overlap 9 = .ok (.invokestatic 289, 3) := by decide +kernel
theorem dX1_overlap_12 : decode cX1_overlap 12 = .ok (.lload_n 0, 1) := by decide +kernel
theorem dX1_overlap_13 : decode cX1_overlap 13 = .ok (.lload 4, 2) := by decide +kernel
theorem dX1_overlap_15 : decode cX1_overlap 15 = .ok (.invokestatic 254, 3) := by decide +kernel
theorem dX1_overlap_18 : decode cX1_overlap 18 = .ok (.lsub, 1) := by decide +kernel
theorem dX1_overlap_19 : decode cX1_overlap 19 = .ok (.invokestatic 254, 3) := by decide +kernel
theorem dX1_overlap_22 : decode cX1_overlap 22 = .ok (.lreturn, 1) := by decide +kernel
theorem dX1_suppliedBefore_0 : decode cX1_suppliedBefore 0 = .ok (.aload_n 1, 1) := by decide +kernel
theorem dX1_suppliedBefore_1 : decode cX1_suppliedBefore 1 = .ok (.getfield 188, 3) := by decide +kernel
theorem dX1_suppliedBefore_4 : decode cX1_suppliedBefore 4 = .ok (.i2l, 1) := by decide +kernel
theorem dX1_suppliedBefore_5 : decode cX1_suppliedBefore 5 = .ok (.lstore_n 3, 1) := by decide +kernel
theorem dX1_suppliedBefore_6 : decode cX1_suppliedBefore 6 = .ok (.iconst 0, 1) := by decide +kernel
theorem dX1_suppliedBefore_7 : decode cX1_suppliedBefore 7 = .ok (.istore 5, 2) := by decide +kernel
theorem dX1_suppliedBefore_9 : decode cX1_suppliedBefore 9 = .ok (.iload 5, 2) := by decide +kernel
theorem dX1_suppliedBefore_11 : decode cX1_suppliedBefore 11 = .ok (.iload_n 2, 1) := by decide +kernel
theorem dX1_suppliedBefore_12 : decode cX1_suppliedBefore 12 = .ok (.if_icmp .ge 33, 3) := by decide +kernel
theorem dX1_suppliedBefore_15 : decode cX1_suppliedBefore 15 = .ok (.lload_n 3, 1) := by decide +kernel
theorem dX1_suppliedBefore_16 : decode cX1_suppliedBefore 16 = .ok (.aload_n 0, 1) := by decide +kernel
theorem dX1_suppliedBefore_17 : decode cX1_suppliedBefore 17 = .ok (.getfield 29, 3) := by decide +kernel
theorem dX1_suppliedBefore_20 : decode cX1_suppliedBefore 20 = .ok (.aload_n 1, 1) := by decide +kernel
theorem dX1_suppliedBefore_21 : decode cX1_suppliedBefore 21 = .ok (.getfield 159, 3) := by decide +kernel
theorem dX1_suppliedBefore_24 : decode cX1_suppliedBefore 24 = .ok (.iload 5, 2) := by decide +kernel
theorem dX1_suppliedBefore_26 : decode cX1_suppliedBefore 26 = .ok (.invokevirtual 240, 3) := by decide +kernel
theorem dX1_suppliedBefore_29 : decode cX1_suppliedBefore 29 = .ok (.aload_n 1, 1) := by decide +kernel
theorem dX1_suppliedBefore_30 : decode cX1_suppliedBefore 30 = .ok (.getfield 226, 3) := by decide +kernel
theorem dX1_suppliedBefore_33 : decode cX1_suppliedBefore 33 = .ok (.iload 5, 2) := by decide +kernel
theorem dX1_suppliedBefore_35 : decode cX1_suppliedBefore 35 = .ok (.laload, 1) := by decide +kernel
theorem dX1_suppliedBefore_36 : decode cX1_suppliedBefore 36 = .ok (.ladd, 1) := by decide +kernel
theorem dX1_suppliedBefore_37 : decode cX1_suppliedBefore 37 = .ok (.ladd, 1) := by decide +kernel
theorem dX1_suppliedBefore_38 : decode cX1_suppliedBefore 38 = .ok (.lstore_n 3, 1) := by decide +kernel
theorem dX1_suppliedBefore_39 : decode cX1_suppliedBefore 39 = .ok (.iinc 5 1, 3) := by decide +kernel
theorem dX1_suppliedBefore_42 : decode cX1_suppliedBefore 42 = .ok (.goto (-33), 3) := by decide +kernel
theorem dX1_suppliedBefore_45 : decode cX1_suppliedBefore 45 = .ok (.lload_n 3, 1) := by decide +kernel
theorem dX1_suppliedBefore_46 : decode cX1_suppliedBefore 46 = .ok (.lreturn, 1) := by decide +kernel
theorem dX1_promise_0 : decode cX1_promise 0 = .ok (.aload_n 0, 1) := by decide +kernel
theorem dX1_promise_1 : decode cX1_promise 1 = .ok (.iload_n 1, 1) := by decide +kernel
theorem dX1_promise_2 : decode cX1_promise 2 = .ok (.invokevirtual 100, 3) := by decide +kernel
theorem dX1_promise_5 : decode cX1_promise 5 = .ok (.pop, 1) := by decide +kernel
theorem dX1_promise_6 : decode cX1_promise 6 = .ok (.iload_n 3, 1) := by decide +kernel
theorem dX1_promise_7 : decode cX1_promise 7 = .ok (.invokestatic 191, 3) := by decide +kernel
theorem dX1_promise_10 : decode cX1_promise 10 = .ok (.iload_n 2, 1) := by decide +kernel
theorem dX1_promise_11 : decode cX1_promise 11 = .ok (.iconst 1, 1) := by decide +kernel
theorem dX1_promise_12 : decode cX1_promise 12 = .ok (.sipush 1000, 3) := by decide +kernel
theorem dX1_promise_15 : decode cX1_promise 15 = .ok (.invokestatic 89, 3) := by decide +kernel
theorem dX1_promise_18 : decode cX1_promise 18 = .ok (.invokestatic 104, 3) := by decide +kernel
theorem dX1_promise_21 : decode cX1_promise 21 = .ok (.aload_n 0, 1) := by decide +kernel
theorem dX1_promise_22 : decode cX1_promise 22 = .ok (.iload_n 1, 1) := by decide +kernel
theorem dX1_promise_23 : decode cX1_promise 23 = .ok (.invokevirtual 286, 3) := by decide +kernel
theorem dX1_promise_26 : decode cX1_promise 26 = .ok (.astore 4, 2) := by decide +kernel
theorem dX1_promise_28 : decode cX1_promise 28 = .ok (.iload_n 3, 1) := by decide +kernel
theorem dX1_promise_29 : decode cX1_promise 29 = .ok (.istore 5, 2) := by decide +kernel
theorem dX1_promise_31 : decode cX1_promise 31 = .ok (.iload 5, 2) := by decide +kernel
theorem dX1_promise_33 : decode cX1_promise 33 = .ok (.bipush 12, 2) := by decide +kernel
theorem dX1_promise_35 : decode cX1_promise 35 = .ok (.if_icmp .ge 21, 3) := by decide +kernel
theorem dX1_promise_38 : decode cX1_promise 38 = .ok (.aload_n 0, 1) := by decide +kernel
theorem dX1_promise_39 : decode cX1_promise 39 = .ok (.aload 4, 2) := by decide +kernel
theorem dX1_promise_41 : decode cX1_promise 41 = .ok (.iload_n 2, 1) := by decide +kernel
theorem dX1_promise_42 : decode cX1_promise 42 = .ok (.iload 5, 2) := by decide +kernel
theorem dX1_promise_44 : decode cX1_promise 44 = .ok (.invokevirtual 308, 3) := by decide +kernel
theorem dX1_promise_47 : decode cX1_promise 47 = .ok (.ifCond .ne 9, 3) := by decide +kernel
theorem dX1_promise_50 : decode cX1_promise 50 = .ok (.iinc 5 1, 3) := by decide +kernel
theorem dX1_promise_53 : decode cX1_promise 53 = .ok (.goto (-22), 3) := by decide +kernel
theorem dX1_promise_56 : decode cX1_promise 56 = .ok (.iload 5, 2) := by decide +kernel
theorem dX1_promise_58 : decode cX1_promise 58 = .ok (.bipush 12, 2) := by decide +kernel
theorem dX1_promise_60 : decode cX1_promise 60 = .ok (.if_icmp .ge 8, 3) := by decide +kernel
theorem dX1_promise_63 : decode cX1_promise 63 = .ok (.iload 5, 2) := by decide +kernel
theorem dX1_promise_65 : decode cX1_promise 65 = .ok (.goto 4, 3) := by decide +kernel
theorem dX1_promise_68 : decode cX1_promise 68 = .ok (.iconst (-1), 1) := by decide +kernel
theorem dX1_promise_69 : decode cX1_promise 69 = .ok (.ireturn, 1) := by decide +kernel
theorem dX1_isTrue_0 : decode cX1_isTrue 0 = .ok (.aload_n 1, 1) := by decide +kernel
theorem dX1_isTrue_1 : decode cX1_isTrue 1 = .ok (.getfield 188, 3) := by decide +kernel
theorem dX1_isTrue_4 : decode cX1_isTrue 4 = .ok (.i2l, 1) := by decide +kernel
theorem dX1_isTrue_5 : decode cX1_isTrue 5 = .ok (.lstore 4, 2) := by decide +kernel
theorem dX1_isTrue_7 : decode cX1_isTrue 7 = .ok (.iconst 1, 1) := by decide +kernel
theorem dX1_isTrue_8 : decode cX1_isTrue 8 = .ok (.istore 6, 2) := by decide +kernel
theorem dX1_isTrue_10 : decode cX1_isTrue 10 = .ok (.iconst 0, 1) := by decide +kernel
theorem dX1_isTrue_11 : decode cX1_isTrue 11 = .ok (.istore 7, 2) := by decide +kernel
theorem dX1_isTrue_13 : decode cX1_isTrue 13 = .ok (.iload 7, 2) := by decide +kernel
theorem dX1_isTrue_15 : decode cX1_isTrue 15 = .ok (.bipush 12, 2) := by decide +kernel
theorem dX1_isTrue_17 : decode cX1_isTrue 17 = .ok (.if_icmp .ge 83, 3) := by decide +kernel
theorem dX1_isTrue_20 : decode cX1_isTrue 20 = .ok (.lload 4, 2) := by decide +kernel
theorem dX1_isTrue_22 : decode cX1_isTrue 22 = .ok (.aload_n 0, 1) := by decide +kernel
theorem dX1_isTrue_23 : decode cX1_isTrue 23 = .ok (.getfield 29, 3) := by decide +kernel
theorem dX1_isTrue_26 : decode cX1_isTrue 26 = .ok (.aload_n 1, 1) := by decide +kernel
theorem dX1_isTrue_27 : decode cX1_isTrue 27 = .ok (.getfield 159, 3) := by decide +kernel
theorem dX1_isTrue_30 : decode cX1_isTrue 30 = .ok (.iload 7, 2) := by decide +kernel
theorem dX1_isTrue_32 : decode cX1_isTrue 32 = .ok (.invokevirtual 240, 3) := by decide +kernel
theorem dX1_isTrue_35 : decode cX1_isTrue 35 = .ok (.aload_n 1, 1) := by decide +kernel
theorem dX1_isTrue_36 : decode cX1_isTrue 36 = .ok (.getfield 226, 3) := by decide +kernel
theorem dX1_isTrue_39 : decode cX1_isTrue 39 = .ok (.iload 7, 2) := by decide +kernel
theorem dX1_isTrue_41 : decode cX1_isTrue 41 = .ok (.laload, 1) := by decide +kernel
theorem dX1_isTrue_42 : decode cX1_isTrue 42 = .ok (.ladd, 1) := by decide +kernel
theorem dX1_isTrue_43 : decode cX1_isTrue 43 = .ok (.aload_n 1, 1) := by decide +kernel
theorem dX1_isTrue_44 : decode cX1_isTrue 44 = .ok (.getfield 248, 3) := by decide +kernel
theorem dX1_isTrue_47 : decode cX1_isTrue 47 = .ok (.iload 7, 2) := by decide +kernel
theorem dX1_isTrue_49 : decode cX1_isTrue 49 = .ok (.laload, 1) := by decide +kernel
theorem dX1_isTrue_50 : decode cX1_isTrue 50 = .ok (.lsub, 1) := by decide +kernel
theorem dX1_isTrue_51 : decode cX1_isTrue 51 = .ok (.aload_n 0, 1) := by decide +kernel
theorem dX1_isTrue_52 : decode cX1_isTrue 52 = .ok (.getfield 32, 3) := by decide +kernel
theorem dX1_isTrue_55 : decode cX1_isTrue 55 = .ok (.aload_n 1, 1) := by decide +kernel
theorem dX1_isTrue_56 : decode cX1_isTrue 56 = .ok (.getfield 159, 3) := by decide +kernel
theorem dX1_isTrue_59 : decode cX1_isTrue 59 = .ok (.iload 7, 2) := by decide +kernel
theorem dX1_isTrue_61 : decode cX1_isTrue 61 = .ok (.invokevirtual 240, 3) := by decide +kernel
theorem dX1_isTrue_64 : decode cX1_isTrue 64 = .ok (.lsub, 1) := by decide +kernel
theorem dX1_isTrue_65 : decode cX1_isTrue 65 = .ok (.ladd, 1) := by decide +kernel
theorem dX1_isTrue_66 : decode cX1_isTrue 66 = .ok (.lstore 4, 2) := by decide +kernel
theorem dX1_isTrue_68 : decode cX1_isTrue 68 = .ok (.iload 6, 2) := by decide +kernel
theorem dX1_isTrue_70 : decode cX1_isTrue 70 = .ok (.ifCond .eq 21, 3) := by decide +kernel
theorem dX1_isTrue_73 : decode cX1_isTrue 73 = .ok (.iload 7, 2) := by decide +kernel
theorem dX1_isTrue_75 : decode cX1_isTrue 75 = .ok (.iload_n 3, 1) := by decide +kernel
theorem dX1_isTrue_76 : decode cX1_isTrue 76 = .ok (.if_icmp .lt 11, 3) := by decide +kernel
theorem dX1_isTrue_79 : decode cX1_isTrue 79 = .ok (.lload 4, 2) := by decide +kernel
theorem dX1_isTrue_81 : decode cX1_isTrue 81 = .ok (.iload_n 2, 1) := by decide +kernel
theorem dX1_isTrue_82 : decode cX1_isTrue 82 = .ok (.i2l, 1) := by decide +kernel
theorem dX1_isTrue_83 : decode cX1_isTrue 83 = .ok (.lcmp, 1) := by decide +kernel
theorem dX1_isTrue_84 : decode cX1_isTrue 84 = .ok (.ifCond .lt 7, 3) := by decide +kernel
theorem dX1_isTrue_87 : decode cX1_isTrue 87 = .ok (.iconst 1, 1) := by decide +kernel
theorem dX1_isTrue_88 : decode cX1_isTrue 88 = .ok (.goto 4, 3) := by decide +kernel
theorem dX1_isTrue_91 : decode cX1_isTrue 91 = .ok (.iconst 0, 1) := by decide +kernel
theorem dX1_isTrue_92 : decode cX1_isTrue 92 = .ok (.istore 6, 2) := by decide +kernel
theorem dX1_isTrue_94 : decode cX1_isTrue 94 = .ok (.iinc 7 1, 3) := by decide +kernel
theorem dX1_isTrue_97 : decode cX1_isTrue 97 = .ok (.goto (-84), 3) := by decide +kernel
theorem dX1_isTrue_100 : decode cX1_isTrue 100 = .ok (.iload 6, 2) := by decide +kernel
theorem dX1_isTrue_102 : decode cX1_isTrue 102 = .ok (.ireturn, 1) := by decide +kernel
theorem dX1_reserve_0 : decode cX1_reserve 0 = .ok (.aload_n 0, 1) := by decide +kernel
theorem dX1_reserve_1 : decode cX1_reserve 1 = .ok (.iload_n 1, 1) := by decide +kernel
theorem dX1_reserve_2 : decode cX1_reserve 2 = .ok (.invokevirtual 100, 3) := by decide +kernel
theorem dX1_reserve_5 : decode cX1_reserve 5 = .ok (.pop, 1) := by decide +kernel
theorem dX1_reserve_6 : decode cX1_reserve 6 = .ok (.iload_n 3, 1) := by decide +kernel
theorem dX1_reserve_7 : decode cX1_reserve 7 = .ok (.invokestatic 191, 3) := by decide +kernel
theorem dX1_reserve_10 : decode cX1_reserve 10 = .ok (.iload_n 2, 1) := by decide +kernel
theorem dX1_reserve_11 : decode cX1_reserve 11 = .ok (.iconst 1, 1) := by decide +kernel
theorem dX1_reserve_12 : decode cX1_reserve 12 = .ok (.sipush 1000, 3) := by decide +kernel
theorem dX1_reserve_15 : decode cX1_reserve 15 = .ok (.invokestatic 89, 3) := by decide +kernel
theorem dX1_reserve_18 : decode cX1_reserve 18 = .ok (.invokestatic 104, 3) := by decide +kernel
theorem dX1_reserve_21 : decode cX1_reserve 21 = .ok (.aload_n 0, 1) := by decide +kernel
theorem dX1_reserve_22 : decode cX1_reserve 22 = .ok (.iload_n 1, 1) := by decide +kernel
theorem dX1_reserve_23 : decode cX1_reserve 23 = .ok (.invokevirtual 286, 3) := by decide +kernel
theorem dX1_reserve_26 : decode cX1_reserve 26 = .ok (.astore 4, 2) := by decide +kernel
theorem dX1_reserve_28 : decode cX1_reserve 28 = .ok (.aload_n 0, 1) := by decide +kernel
theorem dX1_reserve_29 : decode cX1_reserve 29 = .ok (.getfield 32, 3) := by decide +kernel
theorem dX1_reserve_32 : decode cX1_reserve 32 = .ok (.invokevirtual 194, 3) := by decide +kernel
theorem dX1_reserve_35 : decode cX1_reserve 35 = .ok (.ifCond .ne 7, 3) := by decide +kernel
theorem dX1_reserve_38 : decode cX1_reserve 38 = .ok (.iconst 1, 1) := by decide +kernel
theorem dX1_reserve_39 : decode cX1_reserve 39 = .ok (.goto 4, 3) := by decide +kernel
theorem dX1_reserve_42 : decode cX1_reserve 42 = .ok (.iconst 0, 1) := by decide +kernel
theorem dX1_reserve_43 : decode cX1_reserve 43 = .ok (.invokestatic 172, 3) := by decide +kernel
theorem dX1_reserve_46 : decode cX1_reserve 46 = .ok (.aload_n 0, 1) := by decide +kernel
theorem dX1_reserve_47 : decode cX1_reserve 47 = .ok (.aload 4, 2) := by decide +kernel
theorem dX1_reserve_49 : decode cX1_reserve 49 = .ok (.iload_n 2, 1) := by decide +kernel
theorem dX1_reserve_50 : decode cX1_reserve 50 = .ok (.iload_n 3, 1) := by decide +kernel
theorem dX1_reserve_51 : decode cX1_reserve 51 = .ok (.invokevirtual 308, 3) := by decide +kernel
theorem dX1_reserve_54 : decode cX1_reserve 54 = .ok (.ifCond .eq 23, 3) := by decide +kernel
theorem dX1_reserve_57 : decode cX1_reserve 57 = .ok (.aload_n 0, 1) := by decide +kernel
theorem dX1_reserve_58 : decode cX1_reserve 58 = .ok (.getfield 32, 3) := by decide +kernel
theorem dX1_reserve_61 : decode cX1_reserve 61 = .ok (.new 198, 3) := by decide +kernel
theorem dX1_reserve_64 : decode cX1_reserve 64 = .ok (.dup, 1) := by decide +kernel
theorem dX1_reserve_65 : decode cX1_reserve 65 = .ok (.iload_n 1, 1) := by decide +kernel
theorem dX1_reserve_66 : decode cX1_reserve 66 = .ok (.iload_n 3, 1) := by decide +kernel
theorem dX1_reserve_67 : decode cX1_reserve 67 = .ok (.iload_n 2, 1) := by decide +kernel
theorem dX1_reserve_68 : decode cX1_reserve 68 = .ok (.invokespecial 200, 3) := by decide +kernel
theorem dX1_reserve_71 : decode cX1_reserve 71 = .ok (.invokevirtual 203, 3) := by decide +kernel
theorem dX1_reserve_74 : decode cX1_reserve 74 = .ok (.goto 4, 3) := by decide +kernel
theorem dX1_reserve_77 : decode cX1_reserve 77 = .ok (.iconst (-1), 1) := by decide +kernel
theorem dX1_reserve_78 : decode cX1_reserve 78 = .ok (.ireturn, 1) := by decide +kernel
theorem dX1_giveBack_0 : decode cX1_giveBack 0 = .ok (.aload_n 0, 1) := by decide +kernel
theorem dX1_giveBack_1 : decode cX1_giveBack 1 = .ok (.getfield 32, 3) := by decide +kernel
theorem dX1_giveBack_4 : decode cX1_giveBack 4 = .ok (.iload_n 1, 1) := by decide +kernel
theorem dX1_giveBack_5 : decode cX1_giveBack 5 = .ok (.invokestatic 213, 3) := by decide +kernel
theorem dX1_giveBack_8 : decode cX1_giveBack 8 = .ok (.astore_n 2, 1) := by decide +kernel
theorem dX1_giveBack_9 : decode cX1_giveBack 9 = .ok (.aload_n 2, 1) := by decide +kernel
theorem dX1_giveBack_10 : decode cX1_giveBack 10 = .ok (.getfield 217, 3) := by decide +kernel
theorem dX1_giveBack_13 : decode cX1_giveBack 13 = .ok (.istore_n 3, 1) := by decide +kernel
theorem dX1_giveBack_14 : decode cX1_giveBack 14 = .ok (.aload_n 2, 1) := by decide +kernel
theorem dX1_giveBack_15 : decode cX1_giveBack 15 = .ok (.iconst 0, 1) := by decide +kernel
theorem dX1_giveBack_16 : decode cX1_giveBack 16 = .ok (.putfield 217, 3) := by decide +kernel
theorem dX1_giveBack_19 : decode cX1_giveBack 19 = .ok (.iload_n 3, 1) := by decide +kernel
theorem dX1_giveBack_20 : decode cX1_giveBack 20 = .ok (.ireturn, 1) := by decide +kernel
theorem dX1_load_0 : decode cX1_load 0 = .ok (.iload_n 1, 1) := by decide +kernel
theorem dX1_load_1 : decode cX1_load 1 = .ok (.iconst 0, 1) := by decide +kernel
theorem dX1_load_2 : decode cX1_load 2 = .ok (.iconst 2, 1) := by decide +kernel
theorem dX1_load_3 : decode cX1_load 3 = .ok (.invokestatic 89, 3) := by decide +kernel
theorem dX1_load_6 : decode cX1_load 6 = .ok (.invokestatic 93, 3) := by decide +kernel
theorem dX1_load_9 : decode cX1_load 9 = .ok (.iload_n 2, 1) := by decide +kernel
theorem dX1_load_10 : decode cX1_load 10 = .ok (.invokestatic 191, 3) := by decide +kernel
theorem dX1_load_13 : decode cX1_load 13 = .ok (.aload_n 0, 1) := by decide +kernel
theorem dX1_load_14 : decode cX1_load 14 = .ok (.getfield 66, 3) := by decide +kernel
theorem dX1_load_17 : decode cX1_load 17 = .ok (.ifCond .ne 7, 3) := by decide +kernel
theorem dX1_load_20 : decode cX1_load 20 = .ok (.iconst 1, 1) := by decide +kernel
theorem dX1_load_21 : decode cX1_load 21 = .ok (.goto 4, 3) := by decide +kernel
theorem dX1_load_24 : decode cX1_load 24 = .ok (.iconst 0, 1) := by decide +kernel
theorem dX1_load_25 : decode cX1_load 25 = .ok (.invokestatic 172, 3) := by decide +kernel
theorem dX1_load_28 : decode cX1_load 28 = .ok (.lconst 0, 1) := by decide +kernel
theorem dX1_load_29 : decode cX1_load 29 = .ok (.lstore_n 3, 1) := by decide +kernel
theorem dX1_load_30 : decode cX1_load 30 = .ok (.aload_n 0, 1) := by decide +kernel
theorem dX1_load_31 : decode cX1_load 31 = .ok (.getfield 9, 3) := by decide +kernel
theorem dX1_load_34 : decode cX1_load 34 = .ok (.astore 5, 2) := by decide +kernel
theorem dX1_load_36 : decode cX1_load 36 = .ok (.aload 5, 2) := by decide +kernel
theorem dX1_load_38 : decode cX1_load 38 = .ok (.arraylength, 1) := by decide +kernel
theorem dX1_load_39 : decode cX1_load 39 = .ok (.istore 6, 2) := by decide +kernel
theorem dX1_load_41 : decode cX1_load 41 = .ok (.iconst 0, 1) := by decide +kernel
theorem dX1_load_42 : decode cX1_load 42 = .ok (.istore 7, 2) := by decide +kernel
theorem dX1_load_44 : decode cX1_load 44 = .ok (.iload 7, 2) := by decide +kernel
theorem dX1_load_46 : decode cX1_load 46 = .ok (.iload 6, 2) := by decide +kernel
theorem dX1_load_48 : decode cX1_load 48 = .ok (.if_icmp .ge 63, 3) := by decide +kernel
theorem dX1_load_51 : decode cX1_load 51 = .ok (.aload 5, 2) := by decide +kernel
theorem dX1_load_53 : decode cX1_load 53 = .ok (.iload 7, 2) := by decide +kernel
theorem dX1_load_55 : decode cX1_load 55 = .ok (.aaload, 1) := by decide +kernel
theorem dX1_load_56 : decode cX1_load 56 = .ok (.astore 8, 2) := by decide +kernel
theorem dX1_load_58 : decode cX1_load 58 = .ok (.iload_n 2, 1) := by decide +kernel
theorem dX1_load_59 : decode cX1_load 59 = .ok (.aload 8, 2) := by decide +kernel
theorem dX1_load_61 : decode cX1_load 61 = .ok (.getfield 114, 3) := by decide +kernel
theorem dX1_load_64 : decode cX1_load 64 = .ok (.iadd, 1) := by decide +kernel
theorem dX1_load_65 : decode cX1_load 65 = .ok (.istore 9, 2) := by decide +kernel
theorem dX1_load_67 : decode cX1_load 67 = .ok (.lload_n 3, 1) := by decide +kernel
theorem dX1_load_68 : decode cX1_load 68 = .ok (.aload 8, 2) := by decide +kernel
theorem dX1_load_70 : decode cX1_load 70 = .ok (.getfield 133, 3) := by decide +kernel
theorem dX1_load_73 : decode cX1_load 73 = .ok (.iload_n 1, 1) := by decide +kernel
theorem dX1_load_74 : decode cX1_load 74 = .ok (.if_icmp .ne 28, 3) := by decide +kernel
theorem dX1_load_77 : decode cX1_load 77 = .ok (.iload 9, 2) := by decide +kernel
theorem dX1_load_79 : decode cX1_load 79 = .ok (.bipush 12, 2) := by decide +kernel
theorem dX1_load_81 : decode cX1_load 81 = .ok (.if_icmp .ge 21, 3) := by decide +kernel
theorem dX1_load_84 : decode cX1_load 84 = .ok (.aload 8, 2) := by decide +kernel
theorem dX1_load_86 : decode cX1_load 86 = .ok (.getfield 136, 3) := by decide +kernel
theorem dX1_load_89 : decode cX1_load 89 = .ok (.i2l, 1) := by decide +kernel
theorem dX1_load_90 : decode cX1_load 90 = .ok (.aload 8, 2) := by decide +kernel
theorem dX1_load_92 : decode cX1_load 92 = .ok (.getfield 226, 3) := by decide +kernel
theorem dX1_load_95 : decode cX1_load 95 = .ok (.iload 9, 2) := by decide +kernel
theorem dX1_load_97 : decode cX1_load 97 = .ok (.laload, 1) := by decide +kernel
theorem dX1_load_98 : decode cX1_load 98 = .ok (.lmul, 1) := by decide +kernel
theorem dX1_load_99 : decode cX1_load 99 = .ok (.goto 4, 3) := by decide +kernel
theorem dX1_load_102 : decode cX1_load 102 = .ok (.lconst 0, 1) := by decide +kernel
theorem dX1_load_103 : decode cX1_load 103 = .ok (.ladd, 1) := by decide +kernel
theorem dX1_load_104 : decode cX1_load 104 = .ok (.lstore_n 3, 1) := by decide +kernel
theorem dX1_load_105 : decode cX1_load 105 = .ok (.iinc 7 1, 3) := by decide +kernel
theorem dX1_load_108 : decode cX1_load 108 = .ok (.goto (-64), 3) := by decide +kernel
theorem dX1_load_111 : decode cX1_load 111 = .ok (.lload_n 3, 1) := by decide +kernel
theorem dX1_load_112 : decode cX1_load 112 = .ok (.lreturn, 1) := by decide +kernel
theorem dX1_count_0 : decode cX1_count 0 = .ok (.iload_n 1, 1) := by decide +kernel
theorem dX1_count_1 : decode cX1_count 1 = .ok (.tableswitch 159 0 5 #[39, 47, 58, 69, 80, 146], 39) := by decide +kernel
theorem dX1_count_40 : decode cX1_count 40 = .ok (.aload_n 0, 1) := by decide +kernel
theorem dX1_count_41 : decode cX1_count 41 = .ok (.getfield 18, 3) := by decide +kernel
theorem dX1_count_44 : decode cX1_count 44 = .ok (.invokevirtual 139, 3) := by decide +kernel
theorem dX1_count_47 : decode cX1_count 47 = .ok (.ireturn, 1) := by decide +kernel
theorem dX1_count_48 : decode cX1_count 48 = .ok (.aload_n 0, 1) := by decide +kernel
theorem dX1_count_49 : decode cX1_count 49 = .ok (.getfield 25, 3) := by decide +kernel
theorem dX1_count_52 : decode cX1_count 52 = .ok (.getfield 210, 3) := by decide +kernel
theorem dX1_count_55 : decode cX1_count 55 = .ok (.invokevirtual 139, 3) := by decide +kernel
theorem dX1_count_58 : decode cX1_count 58 = .ok (.ireturn, 1) := by decide +kernel
theorem dX1_count_59 : decode cX1_count 59 = .ok (.aload_n 0, 1) := by decide +kernel
theorem dX1_count_60 : decode cX1_count 60 = .ok (.getfield 29, 3) := by decide +kernel
theorem dX1_count_63 : decode cX1_count 63 = .ok (.getfield 210, 3) := by decide +kernel
theorem dX1_count_66 : decode cX1_count 66 = .ok (.invokevirtual 139, 3) := by decide +kernel
theorem dX1_count_69 : decode cX1_count 69 = .ok (.ireturn, 1) := by decide +kernel
theorem dX1_count_70 : decode cX1_count 70 = .ok (.aload_n 0, 1) := by decide +kernel
theorem dX1_count_71 : decode cX1_count 71 = .ok (.getfield 32, 3) := by decide +kernel
theorem dX1_count_74 : decode cX1_count 74 = .ok (.getfield 210, 3) := by decide +kernel
theorem dX1_count_77 : decode cX1_count 77 = .ok (.invokevirtual 139, 3) := by decide +kernel
theorem dX1_count_80 : decode cX1_count 80 = .ok (.ireturn, 1) := by decide +kernel
theorem dX1_count_81 : decode cX1_count 81 = .ok (.aload_n 0, 1) := by decide +kernel
theorem dX1_count_82 : decode cX1_count 82 = .ok (.getfield 66, 3) := by decide +kernel
theorem dX1_count_85 : decode cX1_count 85 = .ok (.ifCond .ne 7, 3) := by decide +kernel
theorem dX1_count_88 : decode cX1_count 88 = .ok (.iconst 1, 1) := by decide +kernel
theorem dX1_count_89 : decode cX1_count 89 = .ok (.goto 4, 3) := by decide +kernel
theorem dX1_count_92 : decode cX1_count 92 = .ok (.iconst 0, 1) := by decide +kernel
theorem dX1_count_93 : decode cX1_count 93 = .ok (.invokestatic 172, 3) := by decide +kernel
theorem dX1_count_96 : decode cX1_count 96 = .ok (.iconst 0, 1) := by decide +kernel
theorem dX1_count_97 : decode cX1_count 97 = .ok (.istore_n 2, 1) := by decide +kernel
theorem dX1_count_98 : decode cX1_count 98 = .ok (.aload_n 0, 1) := by decide +kernel
theorem dX1_count_99 : decode cX1_count 99 = .ok (.getfield 9, 3) := by decide +kernel
theorem dX1_count_102 : decode cX1_count 102 = .ok (.astore_n 3, 1) := by decide +kernel
theorem dX1_count_103 : decode cX1_count 103 = .ok (.aload_n 3, 1) := by decide +kernel
theorem dX1_count_104 : decode cX1_count 104 = .ok (.arraylength, 1) := by decide +kernel
theorem dX1_count_105 : decode cX1_count 105 = .ok (.istore 4, 2) := by decide +kernel
theorem dX1_count_107 : decode cX1_count 107 = .ok (.iconst 0, 1) := by decide +kernel
theorem dX1_count_108 : decode cX1_count 108 = .ok (.istore 5, 2) := by decide +kernel
theorem dX1_count_110 : decode cX1_count 110 = .ok (.iload 5, 2) := by decide +kernel
theorem dX1_count_112 : decode cX1_count 112 = .ok (.iload 4, 2) := by decide +kernel
theorem dX1_count_114 : decode cX1_count 114 = .ok (.if_icmp .ge 31, 3) := by decide +kernel
theorem dX1_count_117 : decode cX1_count 117 = .ok (.aload_n 3, 1) := by decide +kernel
theorem dX1_count_118 : decode cX1_count 118 = .ok (.iload 5, 2) := by decide +kernel
theorem dX1_count_120 : decode cX1_count 120 = .ok (.aaload, 1) := by decide +kernel
theorem dX1_count_121 : decode cX1_count 121 = .ok (.astore 6, 2) := by decide +kernel
theorem dX1_count_123 : decode cX1_count 123 = .ok (.iload_n 2, 1) := by decide +kernel
theorem dX1_count_124 : decode cX1_count 124 = .ok (.aload 6, 2) := by decide +kernel
theorem dX1_count_126 : decode cX1_count 126 = .ok (.invokevirtual 312, 3) := by decide +kernel
theorem dX1_count_129 : decode cX1_count 129 = .ok (.ifCond .eq 7, 3) := by decide +kernel
theorem dX1_count_132 : decode cX1_count 132 = .ok (.iconst 1, 1) := by decide +kernel
theorem dX1_count_133 : decode cX1_count 133 = .ok (.goto 4, 3) := by decide +kernel
theorem dX1_count_136 : decode cX1_count 136 = .ok (.iconst 0, 1) := by decide +kernel
theorem dX1_count_137 : decode cX1_count 137 = .ok (.iadd, 1) := by decide +kernel
theorem dX1_count_138 : decode cX1_count 138 = .ok (.istore_n 2, 1) := by decide +kernel
theorem dX1_count_139 : decode cX1_count 139 = .ok (.iinc 5 1, 3) := by decide +kernel
theorem dX1_count_142 : decode cX1_count 142 = .ok (.goto (-32), 3) := by decide +kernel
theorem dX1_count_145 : decode cX1_count 145 = .ok (.iload_n 2, 1) := by decide +kernel
theorem dX1_count_146 : decode cX1_count 146 = .ok (.ireturn, 1) := by decide +kernel
theorem dX1_count_147 : decode cX1_count 147 = .ok (.aload_n 0, 1) := by decide +kernel
theorem dX1_count_148 : decode cX1_count 148 = .ok (.getfield 66, 3) := by decide +kernel
theorem dX1_count_151 : decode cX1_count 151 = .ok (.ifCond .eq 7, 3) := by decide +kernel
theorem dX1_count_154 : decode cX1_count 154 = .ok (.iconst 1, 1) := by decide +kernel
theorem dX1_count_155 : decode cX1_count 155 = .ok (.goto 4, 3) := by decide +kernel
theorem dX1_count_158 : decode cX1_count 158 = .ok (.iconst 0, 1) := by decide +kernel
theorem dX1_count_159 : decode cX1_count 159 = .ok (.ireturn, 1) := by decide +kernel
theorem dX1_count_160 : decode cX1_count 160 = .ok (.iconst (-1), 1) := by decide +kernel
theorem dX1_count_161 : decode cX1_count 161 = .ok (.ireturn, 1) := by decide +kernel
