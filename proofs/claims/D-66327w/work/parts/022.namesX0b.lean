set_option maxRecDepth 100000
theorem dX0_item_0 : decode cX0_item 0 = .ok (.aload_n 0, 1) := by decide +kernel
theorem dX0_item_1 : decode cX0_item 1 = .ok (.iload_n 1, 1) := by decide +kernel
theorem dX0_item_2 : decode cX0_item 2 = .ok (.iload_n 2, 1) := by decide +kernel
theorem dX0_item_3 : decode cX0_item 3 = .ok (.iload_n 3, 1) := by decide +kernel
theorem dX0_item_4 : decode cX0_item 4 = .ok (.iload 4, 2) := by decide +kernel
theorem dX0_item_6 : decode cX0_item 6 = .ok (.iload 5, 2) := by decide +kernel
theorem dX0_item_8 : decode cX0_item 8 = .ok (.invokevirtual 7, 3) := by decide +kernel
theorem dX0_item_11 : decode cX0_item 11 = .ok (.goto 11, 3) := by decide +kernel
theorem dX0_item_14 : decode cX0_item 14 = .ok (.astore 6, 2) := by decide +kernel
theorem dX0_item_16 : decode cX0_item 16 = .ok (.iconst 1, 1) := by decide +kernel
theorem dX0_item_17 : decode cX0_item 17 = .ok (.ireturn, 1) := by decide +kernel
theorem dX0_item_18 : decode cX0_item 18 = .ok (.astore 6, 2) := by decide +kernel
theorem dX0_item_20 : decode cX0_item 20 = .ok (.iconst 2, 1) := by decide +kernel
theorem dX0_item_21 : decode cX0_item 21 = .ok (.ireturn, 1) := by decide +kernel
theorem dX0_item_22 : decode cX0_item 22 = .ok (.iconst 0, 1) := by decide +kernel
theorem dX0_item_23 : decode cX0_item 23 = .ok (.ireturn, 1) := by decide +kernel
theorem dX0_costs_0 : decode cX0_costs 0 = .ok (.aload_n 0, 1) := by decide +kernel
theorem dX0_costs_1 : decode cX0_costs 1 = .ok (.iload_n 1, 1) := by decide +kernel
theorem dX0_costs_2 : decode cX0_costs 2 = .ok (.iload_n 2, 1) := by decide +kernel
theorem dX0_costs_3 : decode cX0_costs 3 = .ok (.iload_n 3, 1) := by decide +kernel
theorem dX0_costs_4 : decode cX0_costs 4 = .ok (.iload 4, 2) := by decide +kernel
theorem dX0_costs_6 : decode cX0_costs 6 = .ok (.invokevirtual 17, 3) := by decide +kernel
theorem dX0_costs_9 : decode cX0_costs 9 = .ok (.goto 11, 3) := by decide +kernel
theorem dX0_costs_12 : decode cX0_costs 12 = .ok (.astore 5, 2) := by decide +kernel
theorem dX0_costs_14 : decode cX0_costs 14 = .ok (.iconst 1, 1) := by decide +kernel
theorem dX0_costs_15 : decode cX0_costs 15 = .ok (.ireturn, 1) := by decide +kernel
theorem dX0_costs_16 : decode cX0_costs 16 = .ok (.astore 5, 2) := by decide +kernel
theorem dX0_costs_18 : decode cX0_costs 18 = .ok (.iconst 2, 1) := by decide +kernel
theorem dX0_costs_19 : decode cX0_costs 19 = .ok (.ireturn, 1) := by decide +kernel
theorem dX0_costs_20 : decode cX0_costs 20 = .ok (.iconst 0, 1) := by decide +kernel
theorem dX0_costs_21 : decode cX0_costs 21 = .ok (.ireturn, 1) := by decide +kernel
theorem dX0_made_0 : decode cX0_made 0 = .ok (.aload_n 0, 1) := by decide +kernel
theorem dX0_made_1 : decode cX0_made 1 = .ok (.iload_n 1, 1) := by decide +kernel
theorem dX0_made_2 : decode cX0_made 2 = .ok (.iload_n 2, 1) := by decide +kernel
theorem dX0_made_3 : decode cX0_made 3 = .ok (.iload_n 3, 1) := by decide +kernel
theorem dX0_made_4 : decode cX0_made 4 = .ok (.invokevirtual 21, 3) := by decide +kernel
theorem dX0_made_7 : decode cX0_made 7 = .ok (.goto 11, 3) := by decide +kernel
theorem dX0_made_10 : decode cX0_made 10 = .ok (.astore 4, 2) := by decide +kernel
theorem dX0_made_12 : decode cX0_made 12 = .ok (.iconst 1, 1) := by decide +kernel
theorem dX0_made_13 : decode cX0_made 13 = .ok (.ireturn, 1) := by decide +kernel
theorem dX0_made_14 : decode cX0_made 14 = .ok (.astore 4, 2) := by decide +kernel
theorem dX0_made_16 : decode cX0_made 16 = .ok (.iconst 2, 1) := by decide +kernel
theorem dX0_made_17 : decode cX0_made 17 = .ok (.ireturn, 1) := by decide +kernel
theorem dX0_made_18 : decode cX0_made 18 = .ok (.iconst 0, 1) := by decide +kernel
theorem dX0_made_19 : decode cX0_made 19 = .ok (.ireturn, 1) := by decide +kernel
theorem dX0_line_0 : decode cX0_line 0 = .ok (.aload_n 0, 1) := by decide +kernel
theorem dX0_line_1 : decode cX0_line 1 = .ok (.iload_n 1, 1) := by decide +kernel
theorem dX0_line_2 : decode cX0_line 2 = .ok (.iload_n 2, 1) := by decide +kernel
theorem dX0_line_3 : decode cX0_line 3 = .ok (.iload_n 3, 1) := by decide +kernel
theorem dX0_line_4 : decode cX0_line 4 = .ok (.iload 4, 2) := by decide +kernel
theorem dX0_line_6 : decode cX0_line 6 = .ok (.iload 5, 2) := by decide +kernel
theorem dX0_line_8 : decode cX0_line 8 = .ok (.invokevirtual 25, 3) := by decide +kernel
theorem dX0_line_11 : decode cX0_line 11 = .ok (.goto 15, 3) := by decide +kernel
theorem dX0_line_14 : decode cX0_line 14 = .ok (.astore 6, 2) := by decide +kernel
theorem dX0_line_16 : decode cX0_line 16 = .ok (.iconst 1, 1) := by decide +kernel
theorem dX0_line_17 : decode cX0_line 17 = .ok (.ireturn, 1) := by decide +kernel
theorem dX0_line_18 : decode cX0_line 18 = .ok (.astore 6, 2) := by decide +kernel
theorem dX0_line_20 : decode cX0_line 20 = .ok (.iconst 2, 1) := by decide +kernel
theorem dX0_line_21 : decode cX0_line 21 = .ok (.ireturn, 1) := by decide +kernel
theorem dX0_line_22 : decode cX0_line 22 = .ok (.astore 6, 2) := by decide +kernel
theorem dX0_line_24 : decode cX0_line 24 = .ok (.iconst 3, 1) := by decide +kernel
theorem dX0_line_25 : decode cX0_line 25 = .ok (.ireturn, 1) := by decide +kernel
theorem dX0_line_26 : decode cX0_line 26 = .ok (.iconst 0, 1) := by decide +kernel
theorem dX0_line_27 : decode cX0_line 27 = .ok (.ireturn, 1) := by decide +kernel
theorem dX0_stock_0 : decode cX0_stock 0 = .ok (.aload_n 3, 1) := by decide +kernel
theorem dX0_stock_1 : decode cX0_stock 1 = .ok (.iconst 0, 1) := by decide +kernel
theorem dX0_stock_2 : decode cX0_stock 2 = .ok (.aload_n 0, 1) := by decide +kernel
theorem dX0_stock_3 : decode cX0_stock 3 = .ok (.iload_n 1, 1) := by decide +kernel
theorem dX0_stock_4 : decode cX0_stock 4 = .ok (.iload_n 2, 1) := by decide +kernel
theorem dX0_stock_5 : decode cX0_stock 5 = .ok (.invokevirtual 30, 3) := by decide +kernel
theorem dX0_stock_8 : decode cX0_stock 8 = .ok (.i2l, 1) := by decide +kernel
theorem dX0_stock_9 : decode cX0_stock 9 = .ok (.lastore, 1) := by decide +kernel
theorem dX0_stock_10 : decode cX0_stock 10 = .ok (.goto 11, 3) := by decide +kernel
theorem dX0_stock_13 : decode cX0_stock 13 = .ok (.astore 4, 2) := by decide +kernel
theorem dX0_stock_15 : decode cX0_stock 15 = .ok (.iconst 1, 1) := by decide +kernel
theorem dX0_stock_16 : decode cX0_stock 16 = .ok (.ireturn, 1) := by decide +kernel
theorem dX0_stock_17 : decode cX0_stock 17 = .ok (.astore 4, 2) := by decide +kernel
theorem dX0_stock_19 : decode cX0_stock 19 = .ok (.iconst 2, 1) := by decide +kernel
theorem dX0_stock_20 : decode cX0_stock 20 = .ok (.ireturn, 1) := by decide +kernel
theorem dX0_stock_21 : decode cX0_stock 21 = .ok (.iconst 0, 1) := by decide +kernel
theorem dX0_stock_22 : decode cX0_stock 22 = .ok (.ireturn, 1) := by decide +kernel
theorem dX0_demand_0 : decode cX0_demand 0 = .ok (.aload 4, 2) := by decide +kernel
theorem dX0_demand_2 : decode cX0_demand 2 = .ok (.iconst 0, 1) := by decide +kernel
theorem dX0_demand_3 : decode cX0_demand 3 = .ok (.aload_n 0, 1) := by decide +kernel
theorem dX0_demand_4 : decode cX0_demand 4 = .ok (.iload_n 1, 1) := by decide +kernel
theorem dX0_demand_5 : decode cX0_demand 5 = .ok (.iload_n 2, 1) := by decide +kernel
theorem dX0_demand_6 : decode cX0_demand 6 = .ok (.iload_n 3, 1) := by decide +kernel
theorem dX0_demand_7 : decode cX0_demand 7 = .ok (.invokevirtual 34, 3) := by decide +kernel
theorem dX0_demand_10 : decode cX0_demand 10 = .ok (.i2l, 1) := by decide +kernel
theorem dX0_demand_11 : decode cX0_demand 11 = .ok (.lastore, 1) := by decide +kernel
theorem dX0_demand_12 : decode cX0_demand 12 = .ok (.goto 15, 3) := by decide +kernel
theorem dX0_demand_15 : decode cX0_demand 15 = .ok (.astore 5, 2) := by decide +kernel
theorem dX0_demand_17 : decode cX0_demand 17 = .ok (.iconst 1, 1) := by decide +kernel
theorem dX0_demand_18 : decode cX0_demand 18 = .ok (.ireturn, 1) := by decide +kernel
theorem dX0_demand_19 : decode cX0_demand 19 = .ok (.astore 5, 2) := by decide +kernel
theorem dX0_demand_21 : decode cX0_demand 21 = .ok (.iconst 2, 1) := by decide +kernel
theorem dX0_demand_22 : decode cX0_demand 22 = .ok (.ireturn, 1) := by decide +kernel
theorem dX0_demand_23 : decode cX0_demand 23 = .ok (.astore 5, 2) := by decide +kernel
theorem dX0_demand_25 : decode cX0_demand 25 = .ok (.iconst 3, 1) := by decide +kernel
theorem dX0_demand_26 : decode cX0_demand 26 = .ok (.ireturn, 1) := by decide +kernel
theorem dX0_demand_27 : decode cX0_demand 27 = .ok (.iconst 0, 1) := by decide +kernel
theorem dX0_demand_28 : decode cX0_demand 28 = .ok (.ireturn, 1) := by decide +kernel
theorem dX0_change_0 : decode cX0_change 0 = .ok (.aload 4, 2) := by decide +kernel
theorem dX0_change_2 : decode cX0_change 2 = .ok (.iconst 0, 1) := by decide +kernel
theorem dX0_change_3 : decode cX0_change 3 = .ok (.aload_n 0, 1) := by decide +kernel
theorem dX0_change_4 : decode cX0_change 4 = .ok (.iload_n 1, 1) := by decide +kernel
theorem dX0_change_5 : decode cX0_change 5 = .ok (.iload_n 2, 1) := by decide +kernel
theorem dX0_change_6 : decode cX0_change 6 = .ok (.iload_n 3, 1) := by decide +kernel
theorem dX0_change_7 : decode cX0_change 7 = .ok (.invokevirtual 38, 3) := by decide +kernel
theorem dX0_change_10 : decode cX0_change 10 = .ok (.i2l, 1) := by decide +kernel
theorem dX0_change_11 : decode cX0_change 11 = .ok (.lastore, 1) := by decide +kernel
theorem dX0_change_12 : decode cX0_change 12 = .ok (.goto 11, 3) := by decide +kernel
theorem dX0_change_15 : decode cX0_change 15 = .ok (.astore 5, 2) := by decide +kernel
theorem dX0_change_17 : decode cX0_change 17 = .ok (.iconst 1, 1) := by decide +kernel
theorem dX0_change_18 : decode cX0_change 18 = .ok (.ireturn, 1) := by decide +kernel
theorem dX0_change_19 : decode cX0_change 19 = .ok (.astore 5, 2) := by decide +kernel
theorem dX0_change_21 : decode cX0_change 21 = .ok (.iconst 2, 1) := by decide +kernel
theorem dX0_change_22 : decode cX0_change 22 = .ok (.ireturn, 1) := by decide +kernel
theorem dX0_change_23 : decode cX0_change 23 = .ok (.iconst 0, 1) := by decide +kernel
theorem dX0_change_24 : decode cX0_change 24 = .ok (.ireturn, 1) := by decide +kernel
theorem dX0_order_0 : decode cX0_order 0 = .ok (.aload 4, 2) := by decide +kernel
theorem dX0_order_2 : decode cX0_order 2 = .ok (.iconst 0, 1) := by decide +kernel
theorem dX0_order_3 : decode cX0_order 3 = .ok (.aload_n 0, 1) := by decide +kernel
theorem dX0_order_4 : decode cX0_order 4 = .ok (.iload_n 1, 1) := by decide +kernel
theorem dX0_order_5 : decode cX0_order 5 = .ok (.iload_n 2, 1) := by decide +kernel
theorem dX0_order_6 : decode cX0_order 6 = .ok (.iload_n 3, 1) := by decide +kernel
theorem dX0_order_7 : decode cX0_order 7 = .ok (.invokevirtual 41, 3) := by decide +kernel
theorem dX0_order_10 : decode cX0_order 10 = .ok (.i2l, 1) := by decide +kernel
theorem dX0_order_11 : decode cX0_order 11 = .ok (.lastore, 1) := by decide +kernel
theorem dX0_order_12 : decode cX0_order 12 = .ok (.goto 15, 3) := by decide +kernel
theorem dX0_order_15 : decode cX0_order 15 = .ok (.astore 5, 2) := by decide +kernel
theorem dX0_order_17 : decode cX0_order 17 = .ok (.iconst 1, 1) := by decide +kernel
theorem dX0_order_18 : decode cX0_order 18 = .ok (.ireturn, 1) := by decide +kernel
theorem dX0_order_19 : decode cX0_order 19 = .ok (.astore 5, 2) := by decide +kernel
theorem dX0_order_21 : decode cX0_order 21 = .ok (.iconst 2, 1) := by decide +kernel
theorem dX0_order_22 : decode cX0_order 22 = .ok (.ireturn, 1) := by decide +kernel
theorem dX0_order_23 : decode cX0_order 23 = .ok (.astore 5, 2) := by decide +kernel
theorem dX0_order_25 : decode cX0_order 25 = .ok (.iconst 3, 1) := by decide +kernel
theorem dX0_order_26 : decode cX0_order 26 = .ok (.ireturn, 1) := by decide +kernel
theorem dX0_order_27 : decode cX0_order 27 = .ok (.iconst 0, 1) := by decide +kernel
theorem dX0_order_28 : decode cX0_order 28 = .ok (.ireturn, 1) := by decide +kernel
theorem dX0_level_0 : decode cX0_level 0 = .ok (.aload_n 2, 1) := by decide +kernel
theorem dX0_level_1 : decode cX0_level 1 = .ok (.iconst 0, 1) := by decide +kernel
theorem dX0_level_2 : decode cX0_level 2 = .ok (.aload_n 0, 1) := by decide +kernel
theorem dX0_level_3 : decode cX0_level 3 = .ok (.iload_n 1, 1) := by decide +kernel
theorem dX0_level_4 : decode cX0_level 4 = .ok (.invokevirtual 44, 3) := by decide +kernel
theorem dX0_level_7 : decode cX0_level 7 = .ok (.i2l, 1) := by decide +kernel
theorem dX0_level_8 : decode cX0_level 8 = .ok (.lastore, 1) := by decide +kernel
theorem dX0_level_9 : decode cX0_level 9 = .ok (.goto 6, 3) := by decide +kernel
theorem dX0_level_12 : decode cX0_level 12 = .ok (.astore_n 3, 1) := by decide +kernel
theorem dX0_level_13 : decode cX0_level 13 = .ok (.iconst 1, 1) := by decide +kernel
theorem dX0_level_14 : decode cX0_level 14 = .ok (.ireturn, 1) := by decide +kernel
theorem dX0_level_15 : decode cX0_level 15 = .ok (.iconst 0, 1) := by decide +kernel
theorem dX0_level_16 : decode cX0_level 16 = .ok (.ireturn, 1) := by decide +kernel
theorem dX0_gross_0 : decode cX0_gross 0 = .ok (.aload_n 3, 1) := by decide +kernel
theorem dX0_gross_1 : decode cX0_gross 1 = .ok (.iconst 0, 1) := by decide +kernel
theorem dX0_gross_2 : decode cX0_gross 2 = .ok (.aload_n 0, 1) := by decide +kernel
theorem dX0_gross_3 : decode cX0_gross 3 = .ok (.iload_n 1, 1) := by decide +kernel
theorem dX0_gross_4 : decode cX0_gross 4 = .ok (.iload_n 2, 1) := by decide +kernel
theorem dX0_gross_5 : decode cX0_gross 5 = .ok (.invokevirtual 48, 3) := by decide +kernel
theorem dX0_gross_8 : decode cX0_gross 8 = .ok (.lastore, 1) := by decide +kernel
theorem dX0_gross_9 : decode cX0_gross 9 = .ok (.goto 11, 3) := by decide +kernel
theorem dX0_gross_12 : decode cX0_gross 12 = .ok (.astore 4, 2) := by decide +kernel
theorem dX0_gross_14 : decode cX0_gross 14 = .ok (.iconst 1, 1) := by decide +kernel
theorem dX0_gross_15 : decode cX0_gross 15 = .ok (.ireturn, 1) := by decide +kernel
theorem dX0_gross_16 : decode cX0_gross 16 = .ok (.astore 4, 2) := by decide +kernel
theorem dX0_gross_18 : decode cX0_gross 18 = .ok (.iconst 2, 1) := by decide +kernel
theorem dX0_gross_19 : decode cX0_gross 19 = .ok (.ireturn, 1) := by decide +kernel
theorem dX0_gross_20 : decode cX0_gross 20 = .ok (.iconst 0, 1) := by decide +kernel
theorem dX0_gross_21 : decode cX0_gross 21 = .ok (.ireturn, 1) := by decide +kernel
theorem dX0_planned_0 : decode cX0_planned 0 = .ok (.aload_n 3, 1) := by decide +kernel
theorem dX0_planned_1 : decode cX0_planned 1 = .ok (.iconst 0, 1) := by decide +kernel
theorem dX0_planned_2 : decode cX0_planned 2 = .ok (.aload_n 0, 1) := by decide +kernel
theorem dX0_planned_3 : decode cX0_planned 3 = .ok (.iload_n 1, 1) := by decide +kernel
theorem dX0_planned_4 : decode cX0_planned 4 = .ok (.iload_n 2, 1) := by decide +kernel
theorem dX0_planned_5 : decode cX0_planned 5 = .ok (.invokevirtual 52, 3) := by decide +kernel
theorem dX0_planned_8 : decode cX0_planned 8 = .ok (.lastore, 1) := by decide +kernel
theorem dX0_planned_9 : decode cX0_planned 9 = .ok (.goto 11, 3) := by decide +kernel
theorem dX0_planned_12 : decode cX0_planned 12 = .ok (.astore 4, 2) := by decide +kernel
theorem dX0_planned_14 : decode cX0_planned 14 = .ok (.iconst 1, 1) := by decide +kernel
theorem dX0_planned_15 : decode cX0_planned 15 = .ok (.ireturn, 1) := by decide +kernel
theorem dX0_planned_16 : decode cX0_planned 16 = .ok (.astore 4, 2) := by decide +kernel
theorem dX0_planned_18 : decode cX0_planned 18 = .ok (.iconst 2, 1) := by decide +kernel
theorem dX0_planned_19 : decode cX0_planned 19 = .ok (.ireturn, 1) := by decide +kernel
theorem dX0_planned_20 : decode cX0_planned 20 = .ok (.iconst 0, 1) := by decide +kernel
theorem dX0_planned_21 : decode cX0_planned 21 = .ok (.ireturn, 1) := by decide +kernel
theorem dX0_balance_0 : decode cX0_balance 0 = .ok (.aload_n 3, 1) := by decide +kernel
theorem dX0_balance_1 : decode cX0_balance 1 = .ok (.iconst 0, 1) := by decide +kernel
theorem dX0_balance_2 : decode cX0_balance 2 = .ok (.aload_n 0, 1) := by decide +kernel
theorem dX0_balance_3 : decode cX0_balance 3 = .ok (.iload_n 1, 1) := by decide +kernel
theorem dX0_balance_4 : decode cX0_balance 4 = .ok (.iload_n 2, 1) := by decide +kernel
theorem dX0_balance_5 : decode cX0_balance 5 = .ok (.invokevirtual 55, 3) := by decide +kernel
theorem dX0_balance_8 : decode cX0_balance 8 = .ok (.lastore, 1) := by decide +kernel
theorem dX0_balance_9 : decode cX0_balance 9 = .ok (.goto 11, 3) := by decide +kernel
theorem dX0_balance_12 : decode cX0_balance 12 = .ok (.astore 4, 2) := by decide +kernel
theorem dX0_balance_14 : decode cX0_balance 14 = .ok (.iconst 1, 1) := by decide +kernel
theorem dX0_balance_15 : decode cX0_balance 15 = .ok (.ireturn, 1) := by decide +kernel
theorem dX0_balance_16 : decode cX0_balance 16 = .ok (.astore 4, 2) := by decide +kernel
theorem dX0_balance_18 : decode cX0_balance 18 = .ok (.iconst 2, 1) := by decide +kernel
theorem dX0_balance_19 : decode cX0_balance 19 = .ok (.ireturn, 1) := by decide +kernel
theorem dX0_balance_20 : decode cX0_balance 20 = .ok (.iconst 0, 1) := by decide +kernel
theorem dX0_balance_21 : decode cX0_balance 21 = .ok (.ireturn, 1) := by decide +kernel
theorem dX0_peg_0 : decode cX0_peg 0 = .ok (.aload 4, 2) := by decide +kernel
theorem dX0_peg_2 : decode cX0_peg 2 = .ok (.iconst 0, 1) := by decide +kernel
theorem dX0_peg_3 : decode cX0_peg 3 = .ok (.aload_n 0, 1) := by decide +kernel
theorem dX0_peg_4 : decode cX0_peg 4 = .ok (.iload_n 1, 1) := by decide +kernel
theorem dX0_peg_5 : decode cX0_peg 5 = .ok (.iload_n 2, 1) := by decide +kernel
theorem dX0_peg_6 : decode cX0_peg 6 = .ok (.iload_n 3, 1) := by decide +kernel
theorem dX0_peg_7 : decode cX0_peg 7 = .ok (.invokevirtual 58, 3) := by decide +kernel
theorem dX0_peg_10 : decode cX0_peg 10 = .ok (.lastore, 1) := by decide +kernel
theorem dX0_peg_11 : decode cX0_peg 11 = .ok (.goto 15, 3) := by decide +kernel
theorem dX0_peg_14 : decode cX0_peg 14 = .ok (.astore 5, 2) := by decide +kernel
theorem dX0_peg_16 : decode cX0_peg 16 = .ok (.iconst 1, 1) := by decide +kernel
theorem dX0_peg_17 : decode cX0_peg 17 = .ok (.ireturn, 1) := by decide +kernel
theorem dX0_peg_18 : decode cX0_peg 18 = .ok (.astore 5, 2) := by decide +kernel
theorem dX0_peg_20 : decode cX0_peg 20 = .ok (.iconst 2, 1) := by decide +kernel
theorem dX0_peg_21 : decode cX0_peg 21 = .ok (.ireturn, 1) := by decide +kernel
theorem dX0_peg_22 : decode cX0_peg 22 = .ok (.astore 5, 2) := by decide +kernel
theorem dX0_peg_24 : decode cX0_peg 24 = .ok (.iconst 3, 1) := by decide +kernel
theorem dX0_peg_25 : decode cX0_peg 25 = .ok (.ireturn, 1) := by decide +kernel
theorem dX0_peg_26 : decode cX0_peg 26 = .ok (.iconst 0, 1) := by decide +kernel
theorem dX0_peg_27 : decode cX0_peg 27 = .ok (.ireturn, 1) := by decide +kernel
theorem dX0_promise_0 : decode cX0_promise 0 = .ok (.aload 4, 2) := by decide +kernel
theorem dX0_promise_2 : decode cX0_promise 2 = .ok (.iconst 0, 1) := by decide +kernel
theorem dX0_promise_3 : decode cX0_promise 3 = .ok (.aload_n 0, 1) := by decide +kernel
theorem dX0_promise_4 : decode cX0_promise 4 = .ok (.iload_n 1, 1) := by decide +kernel
theorem dX0_promise_5 : decode cX0_promise 5 = .ok (.iload_n 2, 1) := by decide +kernel
theorem dX0_promise_6 : decode cX0_promise 6 = .ok (.iload_n 3, 1) := by decide +kernel
theorem dX0_promise_7 : decode cX0_promise 7 = .ok (.invokevirtual 62, 3) := by decide +kernel
theorem dX0_promise_10 : decode cX0_promise 10 = .ok (.i2l, 1) := by decide +kernel
theorem dX0_promise_11 : decode cX0_promise 11 = .ok (.lastore, 1) := by decide +kernel
theorem dX0_promise_12 : decode cX0_promise 12 = .ok (.goto 15, 3) := by decide +kernel
theorem dX0_promise_15 : decode cX0_promise 15 = .ok (.astore 5, 2) := by decide +kernel
theorem dX0_promise_17 : decode cX0_promise 17 = .ok (.iconst 1, 1) := by decide +kernel
theorem dX0_promise_18 : decode cX0_promise 18 = .ok (.ireturn, 1) := by decide +kernel
theorem dX0_promise_19 : decode cX0_promise 19 = .ok (.astore 5, 2) := by decide +kernel
theorem dX0_promise_21 : decode cX0_promise 21 = .ok (.iconst 2, 1) := by decide +kernel
theorem dX0_promise_22 : decode cX0_promise 22 = .ok (.ireturn, 1) := by decide +kernel
theorem dX0_promise_23 : decode cX0_promise 23 = .ok (.astore 5, 2) := by decide +kernel
theorem dX0_promise_25 : decode cX0_promise 25 = .ok (.iconst 3, 1) := by decide +kernel
theorem dX0_promise_26 : decode cX0_promise 26 = .ok (.ireturn, 1) := by decide +kernel
theorem dX0_promise_27 : decode cX0_promise 27 = .ok (.iconst 0, 1) := by decide +kernel
theorem dX0_promise_28 : decode cX0_promise 28 = .ok (.ireturn, 1) := by decide +kernel
theorem dX0_reserve_0 : decode cX0_reserve 0 = .ok (.aload 4, 2) := by decide +kernel
theorem dX0_reserve_2 : decode cX0_reserve 2 = .ok (.iconst 0, 1) := by decide +kernel
theorem dX0_reserve_3 : decode cX0_reserve 3 = .ok (.aload_n 0, 1) := by decide +kernel
theorem dX0_reserve_4 : decode cX0_reserve 4 = .ok (.iload_n 1, 1) := by decide +kernel
theorem dX0_reserve_5 : decode cX0_reserve 5 = .ok (.iload_n 2, 1) := by decide +kernel
theorem dX0_reserve_6 : decode cX0_reserve 6 = .ok (.iload_n 3, 1) := by decide +kernel
theorem dX0_reserve_7 : decode cX0_reserve 7 = .ok (.invokevirtual 65, 3) := by decide +kernel
theorem dX0_reserve_10 : decode cX0_reserve 10 = .ok (.i2l, 1) := by decide +kernel
theorem dX0_reserve_11 : decode cX0_reserve 11 = .ok (.lastore, 1) := by decide +kernel
theorem dX0_reserve_12 : decode cX0_reserve 12 = .ok (.goto 15, 3) := by decide +kernel
theorem dX0_reserve_15 : decode cX0_reserve 15 = .ok (.astore 5, 2) := by decide +kernel
theorem dX0_reserve_17 : decode cX0_reserve 17 = .ok (.iconst 1, 1) := by decide +kernel
theorem dX0_reserve_18 : decode cX0_reserve 18 = .ok (.ireturn, 1) := by decide +kernel
theorem dX0_reserve_19 : decode cX0_reserve 19 = .ok (.astore 5, 2) := by decide +kernel
theorem dX0_reserve_21 : decode cX0_reserve 21 = .ok (.iconst 2, 1) := by decide +kernel
theorem dX0_reserve_22 : decode cX0_reserve 22 = .ok (.ireturn, 1) := by decide +kernel
theorem dX0_reserve_23 : decode cX0_reserve 23 = .ok (.astore 5, 2) := by decide +kernel
theorem dX0_reserve_25 : decode cX0_reserve 25 = .ok (.iconst 3, 1) := by decide +kernel
theorem dX0_reserve_26 : decode cX0_reserve 26 = .ok (.ireturn, 1) := by decide +kernel
theorem dX0_reserve_27 : decode cX0_reserve 27 = .ok (.iconst 0, 1) := by decide +kernel
theorem dX0_reserve_28 : decode cX0_reserve 28 = .ok (.ireturn, 1) := by decide +kernel
theorem dX0_giveBack_0 : decode cX0_giveBack 0 = .ok (.aload_n 2, 1) := by decide +kernel
theorem dX0_giveBack_1 : decode cX0_giveBack 1 = .ok (.iconst 0, 1) := by decide +kernel
theorem dX0_giveBack_2 : decode cX0_giveBack 2 = .ok (.aload_n 0, 1) := by decide +kernel
theorem dX0_giveBack_3 : decode cX0_giveBack 3 = .ok (.iload_n 1, 1) := by decide +kernel
theorem dX0_giveBack_4 : decode cX0_giveBack 4 = .ok (.invokevirtual 68, 3) := by decide +kernel
theorem dX0_giveBack_7 : decode cX0_giveBack 7 = .ok (.i2l, 1) := by decide +kernel
theorem dX0_giveBack_8 : decode cX0_giveBack 8 = .ok (.lastore, 1) := by decide +kernel
theorem dX0_giveBack_9 : decode cX0_giveBack 9 = .ok (.goto 6, 3) := by decide +kernel
theorem dX0_giveBack_12 : decode cX0_giveBack 12 = .ok (.astore_n 3, 1) := by decide +kernel
theorem dX0_giveBack_13 : decode cX0_giveBack 13 = .ok (.iconst 1, 1) := by decide +kernel
theorem dX0_giveBack_14 : decode cX0_giveBack 14 = .ok (.ireturn, 1) := by decide +kernel
theorem dX0_giveBack_15 : decode cX0_giveBack 15 = .ok (.iconst 0, 1) := by decide +kernel
theorem dX0_giveBack_16 : decode cX0_giveBack 16 = .ok (.ireturn, 1) := by decide +kernel
theorem dX0_load_0 : decode cX0_load 0 = .ok (.aload_n 3, 1) := by decide +kernel
theorem dX0_load_1 : decode cX0_load 1 = .ok (.iconst 0, 1) := by decide +kernel
theorem dX0_load_2 : decode cX0_load 2 = .ok (.aload_n 0, 1) := by decide +kernel
theorem dX0_load_3 : decode cX0_load 3 = .ok (.iload_n 1, 1) := by decide +kernel
theorem dX0_load_4 : decode cX0_load 4 = .ok (.iload_n 2, 1) := by decide +kernel
theorem dX0_load_5 : decode cX0_load 5 = .ok (.invokevirtual 71, 3) := by decide +kernel
theorem dX0_load_8 : decode cX0_load 8 = .ok (.lastore, 1) := by decide +kernel
theorem dX0_load_9 : decode cX0_load 9 = .ok (.goto 11, 3) := by decide +kernel
theorem dX0_load_12 : decode cX0_load 12 = .ok (.astore 4, 2) := by decide +kernel
theorem dX0_load_14 : decode cX0_load 14 = .ok (.iconst 1, 1) := by decide +kernel
theorem dX0_load_15 : decode cX0_load 15 = .ok (.ireturn, 1) := by decide +kernel
theorem dX0_load_16 : decode cX0_load 16 = .ok (.astore 4, 2) := by decide +kernel
theorem dX0_load_18 : decode cX0_load 18 = .ok (.iconst 2, 1) := by decide +kernel
theorem dX0_load_19 : decode cX0_load 19 = .ok (.ireturn, 1) := by decide +kernel
theorem dX0_load_20 : decode cX0_load 20 = .ok (.iconst 0, 1) := by decide +kernel
theorem dX0_load_21 : decode cX0_load 21 = .ok (.ireturn, 1) := by decide +kernel
theorem dX0_count_0 : decode cX0_count 0 = .ok (.aload_n 2, 1) := by decide +kernel
theorem dX0_count_1 : decode cX0_count 1 = .ok (.iconst 0, 1) := by decide +kernel
theorem dX0_count_2 : decode cX0_count 2 = .ok (.aload_n 0, 1) := by decide +kernel
theorem dX0_count_3 : decode cX0_count 3 = .ok (.iload_n 1, 1) := by decide +kernel
theorem dX0_count_4 : decode cX0_count 4 = .ok (.invokevirtual 74, 3) := by decide +kernel
theorem dX0_count_7 : decode cX0_count 7 = .ok (.i2l, 1) := by decide +kernel
theorem dX0_count_8 : decode cX0_count 8 = .ok (.lastore, 1) := by decide +kernel
theorem dX0_count_9 : decode cX0_count 9 = .ok (.goto 6, 3) := by decide +kernel
theorem dX0_count_12 : decode cX0_count 12 = .ok (.astore_n 3, 1) := by decide +kernel
theorem dX0_count_13 : decode cX0_count 13 = .ok (.iconst 1, 1) := by decide +kernel
theorem dX0_count_14 : decode cX0_count 14 = .ok (.ireturn, 1) := by decide +kernel
theorem dX0_count_15 : decode cX0_count 15 = .ok (.iconst 0, 1) := by decide +kernel
theorem dX0_count_16 : decode cX0_count 16 = .ok (.ireturn, 1) := by decide +kernel
