theorem d_Mon_init_0 : decode b_Mon_init 0 = .ok (.aload_n 0, 1) := by decide +kernel
theorem d_Mon_init_1 : decode b_Mon_init 1 = .ok (.invokespecial 9, 3) := by decide +kernel
theorem d_Mon_init_4 : decode b_Mon_init 4 = .ok (.aload_n 0, 1) := by decide +kernel
theorem d_Mon_init_5 : decode b_Mon_init 5 = .ok (.new 15, 3) := by decide +kernel
theorem d_Mon_init_8 : decode b_Mon_init 8 = .ok (.dup, 1) := by decide +kernel
theorem d_Mon_init_9 : decode b_Mon_init 9 = .ok (.invokespecial 17, 3) := by decide +kernel
theorem d_Mon_init_12 : decode b_Mon_init 12 = .ok (.putfield 18, 3) := by decide +kernel
theorem d_Mon_init_15 : decode b_Mon_init 15 = .ok (.aload_n 0, 1) := by decide +kernel
theorem d_Mon_init_16 : decode b_Mon_init 16 = .ok (.new 22, 3) := by decide +kernel
theorem d_Mon_init_19 : decode b_Mon_init 19 = .ok (.dup, 1) := by decide +kernel
theorem d_Mon_init_20 : decode b_Mon_init 20 = .ok (.invokespecial 24, 3) := by decide +kernel
theorem d_Mon_init_23 : decode b_Mon_init 23 = .ok (.putfield 25, 3) := by decide +kernel
theorem d_Mon_init_26 : decode b_Mon_init 26 = .ok (.return_, 1) := by decide +kernel
theorem d_Log_init_0 : decode b_Log_init 0 = .ok (.aload_n 0, 1) := by decide +kernel
theorem d_Log_init_1 : decode b_Log_init 1 = .ok (.invokespecial 1, 3) := by decide +kernel
theorem d_Log_init_4 : decode b_Log_init 4 = .ok (.aload_n 0, 1) := by decide +kernel
theorem d_Log_init_5 : decode b_Log_init 5 = .ok (.bipush 24, 2) := by decide +kernel
theorem d_Log_init_7 : decode b_Log_init 7 = .ok (.newarray .int, 2) := by decide +kernel
theorem d_Log_init_9 : decode b_Log_init 9 = .ok (.putfield 7, 3) := by decide +kernel
theorem d_Log_init_12 : decode b_Log_init 12 = .ok (.aload_n 0, 1) := by decide +kernel
theorem d_Log_init_13 : decode b_Log_init 13 = .ok (.iconst 3, 1) := by decide +kernel
theorem d_Log_init_14 : decode b_Log_init 14 = .ok (.newarray .char, 2) := by decide +kernel
theorem d_Log_init_16 : decode b_Log_init 16 = .ok (.putfield 13, 3) := by decide +kernel
theorem d_Log_init_19 : decode b_Log_init 19 = .ok (.return_, 1) := by decide +kernel
theorem d_Mon_atom_0 : decode b_Mon_atom 0 = .ok (.aload_n 0, 1) := by decide +kernel
theorem d_Mon_atom_1 : decode b_Mon_atom 1 = .ok (.invokevirtual 47, 3) := by decide +kernel
theorem d_Mon_atom_4 : decode b_Mon_atom 4 = .ok (.ifCond .ne 26, 3) := by decide +kernel
theorem d_Mon_atom_7 : decode b_Mon_atom 7 = .ok (.iload_n 1, 1) := by decide +kernel
theorem d_Mon_atom_8 : decode b_Mon_atom 8 = .ok (.ifCond .lt 22, 3) := by decide +kernel
theorem d_Mon_atom_11 : decode b_Mon_atom 11 = .ok (.iload_n 1, 1) := by decide +kernel
theorem d_Mon_atom_12 : decode b_Mon_atom 12 = .ok (.iconst 2, 1) := by decide +kernel
theorem d_Mon_atom_13 : decode b_Mon_atom 13 = .ok (.if_icmp .gt 17, 3) := by decide +kernel
theorem d_Mon_atom_16 : decode b_Mon_atom 16 = .ok (.iload_n 2, 1) := by decide +kernel
theorem d_Mon_atom_17 : decode b_Mon_atom 17 = .ok (.invokestatic 51, 3) := by decide +kernel
theorem d_Mon_atom_20 : decode b_Mon_atom 20 = .ok (.ifCond .eq 10, 3) := by decide +kernel
theorem d_Mon_atom_23 : decode b_Mon_atom 23 = .ok (.iload_n 3, 1) := by decide +kernel
theorem d_Mon_atom_24 : decode b_Mon_atom 24 = .ok (.invokestatic 51, 3) := by decide +kernel
theorem d_Mon_atom_27 : decode b_Mon_atom 27 = .ok (.ifCond .ne 5, 3) := by decide +kernel
theorem d_Mon_atom_30 : decode b_Mon_atom 30 = .ok (.iconst (-1), 1) := by decide +kernel
theorem d_Mon_atom_31 : decode b_Mon_atom 31 = .ok (.ireturn, 1) := by decide +kernel
theorem d_Mon_atom_32 : decode b_Mon_atom 32 = .ok (.aload_n 0, 1) := by decide +kernel
theorem d_Mon_atom_33 : decode b_Mon_atom 33 = .ok (.new 55, 3) := by decide +kernel
theorem d_Mon_atom_36 : decode b_Mon_atom 36 = .ok (.dup, 1) := by decide +kernel
theorem d_Mon_atom_37 : decode b_Mon_atom 37 = .ok (.iload_n 1, 1) := by decide +kernel
theorem d_Mon_atom_38 : decode b_Mon_atom 38 = .ok (.iload_n 2, 1) := by decide +kernel
theorem d_Mon_atom_39 : decode b_Mon_atom 39 = .ok (.iload_n 3, 1) := by decide +kernel
theorem d_Mon_atom_40 : decode b_Mon_atom 40 = .ok (.invokespecial 57, 3) := by decide +kernel
theorem d_Mon_atom_43 : decode b_Mon_atom 43 = .ok (.invokevirtual 60, 3) := by decide +kernel
theorem d_Mon_atom_46 : decode b_Mon_atom 46 = .ok (.ireturn, 1) := by decide +kernel
theorem d_Mon_isFull_0 : decode b_Mon_isFull 0 = .ok (.aload_n 0, 1) := by decide +kernel
theorem d_Mon_isFull_1 : decode b_Mon_isFull 1 = .ok (.getfield 39, 3) := by decide +kernel
theorem d_Mon_isFull_4 : decode b_Mon_isFull 4 = .ok (.ifCond .ne 15, 3) := by decide +kernel
theorem d_Mon_isFull_7 : decode b_Mon_isFull 7 = .ok (.aload_n 0, 1) := by decide +kernel
theorem d_Mon_isFull_8 : decode b_Mon_isFull 8 = .ok (.getfield 18, 3) := by decide +kernel
theorem d_Mon_isFull_11 : decode b_Mon_isFull 11 = .ok (.invokevirtual 29, 3) := by decide +kernel
theorem d_Mon_isFull_14 : decode b_Mon_isFull 14 = .ok (.bipush 12, 2) := by decide +kernel
theorem d_Mon_isFull_16 : decode b_Mon_isFull 16 = .ok (.if_icmp .lt 7, 3) := by decide +kernel
theorem d_Mon_isFull_19 : decode b_Mon_isFull 19 = .ok (.iconst 1, 1) := by decide +kernel
theorem d_Mon_isFull_20 : decode b_Mon_isFull 20 = .ok (.goto 4, 3) := by decide +kernel
theorem d_Mon_isFull_23 : decode b_Mon_isFull 23 = .ok (.iconst 0, 1) := by decide +kernel
theorem d_Mon_isFull_24 : decode b_Mon_isFull 24 = .ok (.ireturn, 1) := by decide +kernel
theorem d_Mon_isTerm_0 : decode b_Mon_isTerm 0 = .ok (.iload_n 0, 1) := by decide +kernel
theorem d_Mon_isTerm_1 : decode b_Mon_isTerm 1 = .ok (.ifCond .lt 18, 3) := by decide +kernel
theorem d_Mon_isTerm_4 : decode b_Mon_isTerm 4 = .ok (.iload_n 0, 1) := by decide +kernel
theorem d_Mon_isTerm_5 : decode b_Mon_isTerm 5 = .ok (.bipush 7, 2) := by decide +kernel
theorem d_Mon_isTerm_7 : decode b_Mon_isTerm 7 = .ok (.if_icmp .gt 12, 3) := by decide +kernel
theorem d_Mon_isTerm_10 : decode b_Mon_isTerm 10 = .ok (.iload_n 0, 1) := by decide +kernel
theorem d_Mon_isTerm_11 : decode b_Mon_isTerm 11 = .ok (.iconst 3, 1) := by decide +kernel
theorem d_Mon_isTerm_12 : decode b_Mon_isTerm 12 = .ok (.if_icmp .eq 7, 3) := by decide +kernel
theorem d_Mon_isTerm_15 : decode b_Mon_isTerm 15 = .ok (.iconst 1, 1) := by decide +kernel
theorem d_Mon_isTerm_16 : decode b_Mon_isTerm 16 = .ok (.goto 4, 3) := by decide +kernel
theorem d_Mon_isTerm_19 : decode b_Mon_isTerm 19 = .ok (.iconst 0, 1) := by decide +kernel
theorem d_Mon_isTerm_20 : decode b_Mon_isTerm 20 = .ok (.ireturn, 1) := by decide +kernel
theorem d_Atom_init_0 : decode b_Atom_init 0 = .ok (.aload_n 0, 1) := by decide +kernel
theorem d_Atom_init_1 : decode b_Atom_init 1 = .ok (.aconst_null, 1) := by decide +kernel
theorem d_Atom_init_2 : decode b_Atom_init 2 = .ok (.aconst_null, 1) := by decide +kernel
theorem d_Atom_init_3 : decode b_Atom_init 3 = .ok (.iload_n 2, 1) := by decide +kernel
theorem d_Atom_init_4 : decode b_Atom_init 4 = .ok (.invokestatic 1, 3) := by decide +kernel
theorem d_Atom_init_7 : decode b_Atom_init 7 = .ok (.iload_n 3, 1) := by decide +kernel
theorem d_Atom_init_8 : decode b_Atom_init 8 = .ok (.invokestatic 1, 3) := by decide +kernel
theorem d_Atom_init_11 : decode b_Atom_init 11 = .ok (.ior, 1) := by decide +kernel
theorem d_Atom_init_12 : decode b_Atom_init 12 = .ok (.invokespecial 7, 3) := by decide +kernel
theorem d_Atom_init_15 : decode b_Atom_init 15 = .ok (.aload_n 0, 1) := by decide +kernel
theorem d_Atom_init_16 : decode b_Atom_init 16 = .ok (.iload_n 1, 1) := by decide +kernel
theorem d_Atom_init_17 : decode b_Atom_init 17 = .ok (.putfield 13, 3) := by decide +kernel
theorem d_Atom_init_20 : decode b_Atom_init 20 = .ok (.aload_n 0, 1) := by decide +kernel
theorem d_Atom_init_21 : decode b_Atom_init 21 = .ok (.iload_n 2, 1) := by decide +kernel
theorem d_Atom_init_22 : decode b_Atom_init 22 = .ok (.putfield 19, 3) := by decide +kernel
theorem d_Atom_init_25 : decode b_Atom_init 25 = .ok (.aload_n 0, 1) := by decide +kernel
theorem d_Atom_init_26 : decode b_Atom_init 26 = .ok (.iload_n 3, 1) := by decide +kernel
theorem d_Atom_init_27 : decode b_Atom_init 27 = .ok (.putfield 22, 3) := by decide +kernel
theorem d_Atom_init_30 : decode b_Atom_init 30 = .ok (.aload_n 0, 1) := by decide +kernel
theorem d_Atom_init_31 : decode b_Atom_init 31 = .ok (.aload_n 0, 1) := by decide +kernel
theorem d_Atom_init_32 : decode b_Atom_init 32 = .ok (.getfield 25, 3) := by decide +kernel
theorem d_Atom_init_35 : decode b_Atom_init 35 = .ok (.putfield 28, 3) := by decide +kernel
theorem d_Atom_init_38 : decode b_Atom_init 38 = .ok (.return_, 1) := by decide +kernel
theorem d_Mon_variables_0 : decode b_Mon_variables 0 = .ok (.iload_n 0, 1) := by decide +kernel
theorem d_Mon_variables_1 : decode b_Mon_variables 1 = .ok (.iconst 3, 1) := by decide +kernel
theorem d_Mon_variables_2 : decode b_Mon_variables 2 = .ok (.if_icmp .ge 9, 3) := by decide +kernel
theorem d_Mon_variables_5 : decode b_Mon_variables 5 = .ok (.iconst 1, 1) := by decide +kernel
theorem d_Mon_variables_6 : decode b_Mon_variables 6 = .ok (.iload_n 0, 1) := by decide +kernel
theorem d_Mon_variables_7 : decode b_Mon_variables 7 = .ok (.ishl, 1) := by decide +kernel
theorem d_Mon_variables_8 : decode b_Mon_variables 8 = .ok (.goto 4, 3) := by decide +kernel
theorem d_Mon_variables_11 : decode b_Mon_variables 11 = .ok (.iconst 0, 1) := by decide +kernel
theorem d_Mon_variables_12 : decode b_Mon_variables 12 = .ok (.ireturn, 1) := by decide +kernel
theorem d_Formula_init_0 : decode b_Formula_init 0 = .ok (.aload_n 0, 1) := by decide +kernel
theorem d_Formula_init_1 : decode b_Formula_init 1 = .ok (.invokespecial 1, 3) := by decide +kernel
theorem d_Formula_init_4 : decode b_Formula_init 4 = .ok (.aload_n 0, 1) := by decide +kernel
theorem d_Formula_init_5 : decode b_Formula_init 5 = .ok (.iconst 1, 1) := by decide +kernel
theorem d_Formula_init_6 : decode b_Formula_init 6 = .ok (.putfield 7, 3) := by decide +kernel
theorem d_Formula_init_9 : decode b_Formula_init 9 = .ok (.aload_n 0, 1) := by decide +kernel
theorem d_Formula_init_10 : decode b_Formula_init 10 = .ok (.bipush 24, 2) := by decide +kernel
theorem d_Formula_init_12 : decode b_Formula_init 12 = .ok (.newarray .long, 2) := by decide +kernel
theorem d_Formula_init_14 : decode b_Formula_init 14 = .ok (.putfield 13, 3) := by decide +kernel
theorem d_Formula_init_17 : decode b_Formula_init 17 = .ok (.aload_n 0, 1) := by decide +kernel
theorem d_Formula_init_18 : decode b_Formula_init 18 = .ok (.aload_n 1, 1) := by decide +kernel
theorem d_Formula_init_19 : decode b_Formula_init 19 = .ok (.putfield 17, 3) := by decide +kernel
theorem d_Formula_init_22 : decode b_Formula_init 22 = .ok (.aload_n 0, 1) := by decide +kernel
theorem d_Formula_init_23 : decode b_Formula_init 23 = .ok (.aload_n 2, 1) := by decide +kernel
theorem d_Formula_init_24 : decode b_Formula_init 24 = .ok (.putfield 21, 3) := by decide +kernel
theorem d_Formula_init_27 : decode b_Formula_init 27 = .ok (.aload_n 0, 1) := by decide +kernel
theorem d_Formula_init_28 : decode b_Formula_init 28 = .ok (.iload_n 3, 1) := by decide +kernel
theorem d_Formula_init_29 : decode b_Formula_init 29 = .ok (.putfield 24, 3) := by decide +kernel
theorem d_Formula_init_32 : decode b_Formula_init 32 = .ok (.aload_n 1, 1) := by decide +kernel
theorem d_Formula_init_33 : decode b_Formula_init 33 = .ok (.ifnull 30, 3) := by decide +kernel
theorem d_Formula_init_36 : decode b_Formula_init 36 = .ok (.aload_n 0, 1) := by decide +kernel
theorem d_Formula_init_37 : decode b_Formula_init 37 = .ok (.aload_n 1, 1) := by decide +kernel
theorem d_Formula_init_38 : decode b_Formula_init 38 = .ok (.getfield 7, 3) := by decide +kernel
theorem d_Formula_init_41 : decode b_Formula_init 41 = .ok (.ifCond .eq 18, 3) := by decide +kernel
theorem d_Formula_init_44 : decode b_Formula_init 44 = .ok (.aload_n 2, 1) := by decide +kernel
theorem d_Formula_init_45 : decode b_Formula_init 45 = .ok (.ifnull 10, 3) := by decide +kernel
theorem d_Formula_init_48 : decode b_Formula_init 48 = .ok (.aload_n 2, 1) := by decide +kernel
theorem d_Formula_init_49 : decode b_Formula_init 49 = .ok (.getfield 7, 3) := by decide +kernel
theorem d_Formula_init_52 : decode b_Formula_init 52 = .ok (.ifCond .eq 7, 3) := by decide +kernel
theorem d_Formula_init_55 : decode b_Formula_init 55 = .ok (.iconst 1, 1) := by decide +kernel
theorem d_Formula_init_56 : decode b_Formula_init 56 = .ok (.goto 4, 3) := by decide +kernel
theorem d_Formula_init_59 : decode b_Formula_init 59 = .ok (.iconst 0, 1) := by decide +kernel
theorem d_Formula_init_60 : decode b_Formula_init 60 = .ok (.putfield 7, 3) := by decide +kernel
theorem d_Formula_init_63 : decode b_Formula_init 63 = .ok (.return_, 1) := by decide +kernel
theorem d_Mon_made_0 : decode b_Mon_made 0 = .ok (.aload_n 0, 1) := by decide +kernel
theorem d_Mon_made_1 : decode b_Mon_made 1 = .ok (.getfield 18, 3) := by decide +kernel
theorem d_Mon_made_4 : decode b_Mon_made 4 = .ok (.aload_n 1, 1) := by decide +kernel
theorem d_Mon_made_5 : decode b_Mon_made 5 = .ok (.invokevirtual 43, 3) := by decide +kernel
theorem d_Mon_made_8 : decode b_Mon_made 8 = .ok (.pop, 1) := by decide +kernel
theorem d_Mon_made_9 : decode b_Mon_made 9 = .ok (.aload_n 0, 1) := by decide +kernel
theorem d_Mon_made_10 : decode b_Mon_made 10 = .ok (.getfield 18, 3) := by decide +kernel
theorem d_Mon_made_13 : decode b_Mon_made 13 = .ok (.invokevirtual 29, 3) := by decide +kernel
theorem d_Mon_made_16 : decode b_Mon_made 16 = .ok (.iconst 1, 1) := by decide +kernel
theorem d_Mon_made_17 : decode b_Mon_made 17 = .ok (.isub, 1) := by decide +kernel
theorem d_Mon_made_18 : decode b_Mon_made 18 = .ok (.ireturn, 1) := by decide +kernel
theorem d_Mon_compare_0 : decode b_Mon_compare 0 = .ok (.aload_n 0, 1) := by decide +kernel
theorem d_Mon_compare_1 : decode b_Mon_compare 1 = .ok (.invokevirtual 47, 3) := by decide +kernel
theorem d_Mon_compare_4 : decode b_Mon_compare 4 = .ok (.ifCond .ne 17, 3) := by decide +kernel
theorem d_Mon_compare_7 : decode b_Mon_compare 7 = .ok (.iload_n 2, 1) := by decide +kernel
theorem d_Mon_compare_8 : decode b_Mon_compare 8 = .ok (.invokestatic 51, 3) := by decide +kernel
theorem d_Mon_compare_11 : decode b_Mon_compare 11 = .ok (.ifCond .eq 10, 3) := by decide +kernel
theorem d_Mon_compare_14 : decode b_Mon_compare 14 = .ok (.iload_n 3, 1) := by decide +kernel
theorem d_Mon_compare_15 : decode b_Mon_compare 15 = .ok (.invokestatic 51, 3) := by decide +kernel
theorem d_Mon_compare_18 : decode b_Mon_compare 18 = .ok (.ifCond .ne 7, 3) := by decide +kernel
theorem d_Mon_compare_21 : decode b_Mon_compare 21 = .ok (.iconst (-1), 1) := by decide +kernel
theorem d_Mon_compare_22 : decode b_Mon_compare 22 = .ok (.goto 17, 3) := by decide +kernel
theorem d_Mon_compare_25 : decode b_Mon_compare 25 = .ok (.aload_n 0, 1) := by decide +kernel
theorem d_Mon_compare_26 : decode b_Mon_compare 26 = .ok (.new 64, 3) := by decide +kernel
theorem d_Mon_compare_29 : decode b_Mon_compare 29 = .ok (.dup, 1) := by decide +kernel
theorem d_Mon_compare_30 : decode b_Mon_compare 30 = .ok (.iload_n 1, 1) := by decide +kernel
theorem d_Mon_compare_31 : decode b_Mon_compare 31 = .ok (.iload_n 2, 1) := by decide +kernel
theorem d_Mon_compare_32 : decode b_Mon_compare 32 = .ok (.iload_n 3, 1) := by decide +kernel
theorem d_Mon_compare_33 : decode b_Mon_compare 33 = .ok (.invokespecial 66, 3) := by decide +kernel
theorem d_Mon_compare_36 : decode b_Mon_compare 36 = .ok (.invokevirtual 60, 3) := by decide +kernel
theorem d_Mon_compare_39 : decode b_Mon_compare 39 = .ok (.ireturn, 1) := by decide +kernel
theorem d_Compare_init_0 : decode b_Compare_init 0 = .ok (.aload_n 0, 1) := by decide +kernel
theorem d_Compare_init_1 : decode b_Compare_init 1 = .ok (.aconst_null, 1) := by decide +kernel
theorem d_Compare_init_2 : decode b_Compare_init 2 = .ok (.aconst_null, 1) := by decide +kernel
theorem d_Compare_init_3 : decode b_Compare_init 3 = .ok (.iload_n 2, 1) := by decide +kernel
theorem d_Compare_init_4 : decode b_Compare_init 4 = .ok (.invokestatic 1, 3) := by decide +kernel
theorem d_Compare_init_7 : decode b_Compare_init 7 = .ok (.iload_n 3, 1) := by decide +kernel
theorem d_Compare_init_8 : decode b_Compare_init 8 = .ok (.invokestatic 1, 3) := by decide +kernel
theorem d_Compare_init_11 : decode b_Compare_init 11 = .ok (.ior, 1) := by decide +kernel
theorem d_Compare_init_12 : decode b_Compare_init 12 = .ok (.invokespecial 7, 3) := by decide +kernel
theorem d_Compare_init_15 : decode b_Compare_init 15 = .ok (.lconst 0, 1) := by decide +kernel
theorem d_Compare_init_16 : decode b_Compare_init 16 = .ok (.lstore 4, 2) := by decide +kernel
theorem d_Compare_init_18 : decode b_Compare_init 18 = .ok (.iconst 0, 1) := by decide +kernel
theorem d_Compare_init_19 : decode b_Compare_init 19 = .ok (.istore 6, 2) := by decide +kernel
theorem d_Compare_init_21 : decode b_Compare_init 21 = .ok (.iload 6, 2) := by decide +kernel
theorem d_Compare_init_23 : decode b_Compare_init 23 = .ok (.bipush 16, 2) := by decide +kernel
theorem d_Compare_init_25 : decode b_Compare_init 25 = .ok (.if_icmp .ge 60, 3) := by decide +kernel
theorem d_Compare_init_28 : decode b_Compare_init 28 = .ok (.iload 6, 2) := by decide +kernel
theorem d_Compare_init_30 : decode b_Compare_init 30 = .ok (.iconst 2, 1) := by decide +kernel
theorem d_Compare_init_31 : decode b_Compare_init 31 = .ok (.ishr, 1) := by decide +kernel
theorem d_Compare_init_32 : decode b_Compare_init 32 = .ok (.istore 7, 2) := by decide +kernel
theorem d_Compare_init_34 : decode b_Compare_init 34 = .ok (.iload 6, 2) := by decide +kernel
theorem d_Compare_init_36 : decode b_Compare_init 36 = .ok (.iconst 3, 1) := by decide +kernel
theorem d_Compare_init_37 : decode b_Compare_init 37 = .ok (.iand, 1) := by decide +kernel
theorem d_Compare_init_38 : decode b_Compare_init 38 = .ok (.istore 8, 2) := by decide +kernel
theorem d_Compare_init_40 : decode b_Compare_init 40 = .ok (.iload_n 1, 1) := by decide +kernel
theorem d_Compare_init_41 : decode b_Compare_init 41 = .ok (.ifCond .eq 13, 3) := by decide +kernel
theorem d_Compare_init_44 : decode b_Compare_init 44 = .ok (.iload 7, 2) := by decide +kernel
theorem d_Compare_init_46 : decode b_Compare_init 46 = .ok (.iload 8, 2) := by decide +kernel
theorem d_Compare_init_48 : decode b_Compare_init 48 = .ok (.if_icmp .ge 31, 3) := by decide +kernel
theorem d_Compare_init_51 : decode b_Compare_init 51 = .ok (.goto 10, 3) := by decide +kernel
theorem d_Compare_init_54 : decode b_Compare_init 54 = .ok (.iload 7, 2) := by decide +kernel
theorem d_Compare_init_56 : decode b_Compare_init 56 = .ok (.iload 8, 2) := by decide +kernel
theorem d_Compare_init_58 : decode b_Compare_init 58 = .ok (.if_icmp .ne 21, 3) := by decide +kernel
theorem d_Compare_init_61 : decode b_Compare_init 61 = .ok (.lload 4, 2) := by decide +kernel
theorem d_Compare_init_63 : decode b_Compare_init 63 = .ok (.iload_n 2, 1) := by decide +kernel
theorem d_Compare_init_64 : decode b_Compare_init 64 = .ok (.iload 7, 2) := by decide +kernel
theorem d_Compare_init_66 : decode b_Compare_init 66 = .ok (.invokestatic 13, 3) := by decide +kernel
theorem d_Compare_init_69 : decode b_Compare_init 69 = .ok (.iload_n 3, 1) := by decide +kernel
theorem d_Compare_init_70 : decode b_Compare_init 70 = .ok (.iload 8, 2) := by decide +kernel
theorem d_Compare_init_72 : decode b_Compare_init 72 = .ok (.invokestatic 13, 3) := by decide +kernel
theorem d_Compare_init_75 : decode b_Compare_init 75 = .ok (.land, 1) := by decide +kernel
theorem d_Compare_init_76 : decode b_Compare_init 76 = .ok (.lor, 1) := by decide +kernel
theorem d_Compare_init_77 : decode b_Compare_init 77 = .ok (.lstore 4, 2) := by decide +kernel
theorem d_Compare_init_79 : decode b_Compare_init 79 = .ok (.iinc 6 1, 3) := by decide +kernel
theorem d_Compare_init_82 : decode b_Compare_init 82 = .ok (.goto (-61), 3) := by decide +kernel
theorem d_Compare_init_85 : decode b_Compare_init 85 = .ok (.aload_n 0, 1) := by decide +kernel
theorem d_Compare_init_86 : decode b_Compare_init 86 = .ok (.lload 4, 2) := by decide +kernel
theorem d_Compare_init_88 : decode b_Compare_init 88 = .ok (.putfield 17, 3) := by decide +kernel
theorem d_Compare_init_91 : decode b_Compare_init 91 = .ok (.iload_n 2, 1) := by decide +kernel
theorem d_Compare_init_92 : decode b_Compare_init 92 = .ok (.iconst 3, 1) := by decide +kernel
theorem d_Compare_init_93 : decode b_Compare_init 93 = .ok (.if_icmp .ge 7, 3) := by decide +kernel
theorem d_Compare_init_96 : decode b_Compare_init 96 = .ok (.iconst 1, 1) := by decide +kernel
theorem d_Compare_init_97 : decode b_Compare_init 97 = .ok (.goto 4, 3) := by decide +kernel
theorem d_Compare_init_100 : decode b_Compare_init 100 = .ok (.iconst 0, 1) := by decide +kernel
theorem d_Compare_init_101 : decode b_Compare_init 101 = .ok (.iload_n 3, 1) := by decide +kernel
theorem d_Compare_init_102 : decode b_Compare_init 102 = .ok (.iconst 3, 1) := by decide +kernel
theorem d_Compare_init_103 : decode b_Compare_init 103 = .ok (.if_icmp .ge 7, 3) := by decide +kernel
theorem d_Compare_init_106 : decode b_Compare_init 106 = .ok (.iconst 1, 1) := by decide +kernel
theorem d_Compare_init_107 : decode b_Compare_init 107 = .ok (.goto 4, 3) := by decide +kernel
theorem d_Compare_init_110 : decode b_Compare_init 110 = .ok (.iconst 0, 1) := by decide +kernel
theorem d_Compare_init_111 : decode b_Compare_init 111 = .ok (.if_icmp .eq 7, 3) := by decide +kernel
theorem d_Compare_init_114 : decode b_Compare_init 114 = .ok (.iconst 1, 1) := by decide +kernel
theorem d_Compare_init_115 : decode b_Compare_init 115 = .ok (.goto 4, 3) := by decide +kernel
theorem d_Compare_init_118 : decode b_Compare_init 118 = .ok (.iconst 0, 1) := by decide +kernel
theorem d_Compare_init_119 : decode b_Compare_init 119 = .ok (.istore 6, 2) := by decide +kernel
theorem d_Compare_init_121 : decode b_Compare_init 121 = .ok (.aload_n 0, 1) := by decide +kernel
theorem d_Compare_init_122 : decode b_Compare_init 122 = .ok (.iload_n 1, 1) := by decide +kernel
theorem d_Compare_init_123 : decode b_Compare_init 123 = .ok (.ifCond .ne 15, 3) := by decide +kernel
theorem d_Compare_init_126 : decode b_Compare_init 126 = .ok (.iload 6, 2) := by decide +kernel
theorem d_Compare_init_128 : decode b_Compare_init 128 = .ok (.ifCond .eq 10, 3) := by decide +kernel
theorem d_Compare_init_131 : decode b_Compare_init 131 = .ok (.aload_n 0, 1) := by decide +kernel
theorem d_Compare_init_132 : decode b_Compare_init 132 = .ok (.getfield 23, 3) := by decide +kernel
theorem d_Compare_init_135 : decode b_Compare_init 135 = .ok (.goto 4, 3) := by decide +kernel
theorem d_Compare_init_138 : decode b_Compare_init 138 = .ok (.iconst 0, 1) := by decide +kernel
theorem d_Compare_init_139 : decode b_Compare_init 139 = .ok (.putfield 27, 3) := by decide +kernel
theorem d_Compare_init_142 : decode b_Compare_init 142 = .ok (.return_, 1) := by decide +kernel
theorem d_Mon_where_0 : decode b_Mon_where 0 = .ok (.iload_n 0, 1) := by decide +kernel
theorem d_Mon_where_1 : decode b_Mon_where 1 = .ok (.iconst 3, 1) := by decide +kernel
theorem d_Mon_where_2 : decode b_Mon_where 2 = .ok (.if_icmp .le 18, 3) := by decide +kernel
theorem d_Mon_where_5 : decode b_Mon_where 5 = .ok (.iload_n 0, 1) := by decide +kernel
theorem d_Mon_where_6 : decode b_Mon_where 6 = .ok (.iconst 4, 1) := by decide +kernel
theorem d_Mon_where_7 : decode b_Mon_where 7 = .ok (.isub, 1) := by decide +kernel
theorem d_Mon_where_8 : decode b_Mon_where 8 = .ok (.iload_n 1, 1) := by decide +kernel
theorem d_Mon_where_9 : decode b_Mon_where 9 = .ok (.if_icmp .ne 9, 3) := by decide +kernel
theorem d_Mon_where_12 : decode b_Mon_where 12 = .ok (.ldc2_w 1, 3) := by decide +kernel
theorem d_Mon_where_15 : decode b_Mon_where 15 = .ok (.goto 4, 3) := by decide +kernel
theorem d_Mon_where_18 : decode b_Mon_where 18 = .ok (.lconst 0, 1) := by decide +kernel
theorem d_Mon_where_19 : decode b_Mon_where 19 = .ok (.lreturn, 1) := by decide +kernel
theorem d_Mon_where_20 : decode b_Mon_where 20 = .ok (.getstatic 3, 3) := by decide +kernel
theorem d_Mon_where_23 : decode b_Mon_where 23 = .ok (.iload_n 0, 1) := by decide +kernel
theorem d_Mon_where_24 : decode b_Mon_where 24 = .ok (.laload, 1) := by decide +kernel
theorem d_Mon_where_25 : decode b_Mon_where 25 = .ok (.iload_n 1, 1) := by decide +kernel
theorem d_Mon_where_26 : decode b_Mon_where 26 = .ok (.iconst 2, 1) := by decide +kernel
theorem d_Mon_where_27 : decode b_Mon_where 27 = .ok (.iload_n 0, 1) := by decide +kernel
theorem d_Mon_where_28 : decode b_Mon_where 28 = .ok (.imul, 1) := by decide +kernel
theorem d_Mon_where_29 : decode b_Mon_where 29 = .ok (.ishl, 1) := by decide +kernel
theorem d_Mon_where_30 : decode b_Mon_where 30 = .ok (.lshl, 1) := by decide +kernel
theorem d_Mon_where_31 : decode b_Mon_where 31 = .ok (.lreturn, 1) := by decide +kernel
theorem d_Mon_not_0 : decode b_Mon_not 0 = .ok (.aload_n 0, 1) := by decide +kernel
theorem d_Mon_not_1 : decode b_Mon_not 1 = .ok (.iload_n 1, 1) := by decide +kernel
theorem d_Mon_not_2 : decode b_Mon_not 2 = .ok (.invokevirtual 69, 3) := by decide +kernel
theorem d_Mon_not_5 : decode b_Mon_not 5 = .ok (.astore_n 2, 1) := by decide +kernel
theorem d_Mon_not_6 : decode b_Mon_not 6 = .ok (.aload_n 0, 1) := by decide +kernel
theorem d_Mon_not_7 : decode b_Mon_not 7 = .ok (.invokevirtual 47, 3) := by decide +kernel
theorem d_Mon_not_10 : decode b_Mon_not 10 = .ok (.ifCond .ne 7, 3) := by decide +kernel
theorem d_Mon_not_13 : decode b_Mon_not 13 = .ok (.aload_n 2, 1) := by decide +kernel
theorem d_Mon_not_14 : decode b_Mon_not 14 = .ok (.ifnonnull 7, 3) := by decide +kernel
theorem d_Mon_not_17 : decode b_Mon_not 17 = .ok (.iconst (-1), 1) := by decide +kernel
theorem d_Mon_not_18 : decode b_Mon_not 18 = .ok (.goto 15, 3) := by decide +kernel
theorem d_Mon_not_21 : decode b_Mon_not 21 = .ok (.aload_n 0, 1) := by decide +kernel
theorem d_Mon_not_22 : decode b_Mon_not 22 = .ok (.new 73, 3) := by decide +kernel
theorem d_Mon_not_25 : decode b_Mon_not 25 = .ok (.dup, 1) := by decide +kernel
theorem d_Mon_not_26 : decode b_Mon_not 26 = .ok (.aload_n 2, 1) := by decide +kernel
theorem d_Mon_not_27 : decode b_Mon_not 27 = .ok (.invokespecial 75, 3) := by decide +kernel
theorem d_Mon_not_30 : decode b_Mon_not 30 = .ok (.invokevirtual 60, 3) := by decide +kernel
theorem d_Mon_not_33 : decode b_Mon_not 33 = .ok (.ireturn, 1) := by decide +kernel
theorem d_Mon_formula_0 : decode b_Mon_formula 0 = .ok (.iload_n 1, 1) := by decide +kernel
theorem d_Mon_formula_1 : decode b_Mon_formula 1 = .ok (.ifCond .lt 28, 3) := by decide +kernel
theorem d_Mon_formula_4 : decode b_Mon_formula 4 = .ok (.iload_n 1, 1) := by decide +kernel
theorem d_Mon_formula_5 : decode b_Mon_formula 5 = .ok (.aload_n 0, 1) := by decide +kernel
theorem d_Mon_formula_6 : decode b_Mon_formula 6 = .ok (.getfield 18, 3) := by decide +kernel
theorem d_Mon_formula_9 : decode b_Mon_formula 9 = .ok (.invokevirtual 29, 3) := by decide +kernel
theorem d_Mon_formula_12 : decode b_Mon_formula 12 = .ok (.if_icmp .ge 17, 3) := by decide +kernel
theorem d_Mon_formula_15 : decode b_Mon_formula 15 = .ok (.aload_n 0, 1) := by decide +kernel
theorem d_Mon_formula_16 : decode b_Mon_formula 16 = .ok (.getfield 18, 3) := by decide +kernel
theorem d_Mon_formula_19 : decode b_Mon_formula 19 = .ok (.iload_n 1, 1) := by decide +kernel
theorem d_Mon_formula_20 : decode b_Mon_formula 20 = .ok (.invokevirtual 33, 3) := by decide +kernel
theorem d_Mon_formula_23 : decode b_Mon_formula 23 = .ok (.checkcast 37, 3) := by decide +kernel
theorem d_Mon_formula_26 : decode b_Mon_formula 26 = .ok (.goto 4, 3) := by decide +kernel
theorem d_Mon_formula_29 : decode b_Mon_formula 29 = .ok (.aconst_null, 1) := by decide +kernel
theorem d_Mon_formula_30 : decode b_Mon_formula 30 = .ok (.areturn, 1) := by decide +kernel
theorem d_Not_init_0 : decode b_Not_init 0 = .ok (.aload_n 0, 1) := by decide +kernel
theorem d_Not_init_1 : decode b_Not_init 1 = .ok (.aload_n 1, 1) := by decide +kernel
theorem d_Not_init_2 : decode b_Not_init 2 = .ok (.aconst_null, 1) := by decide +kernel
theorem d_Not_init_3 : decode b_Not_init 3 = .ok (.aload_n 1, 1) := by decide +kernel
theorem d_Not_init_4 : decode b_Not_init 4 = .ok (.getfield 1, 3) := by decide +kernel
theorem d_Not_init_7 : decode b_Not_init 7 = .ok (.invokespecial 7, 3) := by decide +kernel
theorem d_Not_init_10 : decode b_Not_init 10 = .ok (.return_, 1) := by decide +kernel
theorem d_Mon_join_0 : decode b_Mon_join 0 = .ok (.aload_n 0, 1) := by decide +kernel
theorem d_Mon_join_1 : decode b_Mon_join 1 = .ok (.iload_n 2, 1) := by decide +kernel
theorem d_Mon_join_2 : decode b_Mon_join 2 = .ok (.invokevirtual 69, 3) := by decide +kernel
theorem d_Mon_join_5 : decode b_Mon_join 5 = .ok (.astore 4, 2) := by decide +kernel
theorem d_Mon_join_7 : decode b_Mon_join 7 = .ok (.aload_n 0, 1) := by decide +kernel
theorem d_Mon_join_8 : decode b_Mon_join 8 = .ok (.iload_n 3, 1) := by decide +kernel
theorem d_Mon_join_9 : decode b_Mon_join 9 = .ok (.invokevirtual 69, 3) := by decide +kernel
theorem d_Mon_join_12 : decode b_Mon_join 12 = .ok (.astore 5, 2) := by decide +kernel
theorem d_Mon_join_14 : decode b_Mon_join 14 = .ok (.aload_n 0, 1) := by decide +kernel
theorem d_Mon_join_15 : decode b_Mon_join 15 = .ok (.invokevirtual 47, 3) := by decide +kernel
theorem d_Mon_join_18 : decode b_Mon_join 18 = .ok (.ifCond .ne 13, 3) := by decide +kernel
theorem d_Mon_join_21 : decode b_Mon_join 21 = .ok (.aload 4, 2) := by decide +kernel
theorem d_Mon_join_23 : decode b_Mon_join 23 = .ok (.ifnull 8, 3) := by decide +kernel
theorem d_Mon_join_26 : decode b_Mon_join 26 = .ok (.aload 5, 2) := by decide +kernel
theorem d_Mon_join_28 : decode b_Mon_join 28 = .ok (.ifnonnull 7, 3) := by decide +kernel
theorem d_Mon_join_31 : decode b_Mon_join 31 = .ok (.iconst (-1), 1) := by decide +kernel
theorem d_Mon_join_32 : decode b_Mon_join 32 = .ok (.goto 19, 3) := by decide +kernel
theorem d_Mon_join_35 : decode b_Mon_join 35 = .ok (.aload_n 0, 1) := by decide +kernel
theorem d_Mon_join_36 : decode b_Mon_join 36 = .ok (.new 78, 3) := by decide +kernel
theorem d_Mon_join_39 : decode b_Mon_join 39 = .ok (.dup, 1) := by decide +kernel
theorem d_Mon_join_40 : decode b_Mon_join 40 = .ok (.iload_n 1, 1) := by decide +kernel
theorem d_Mon_join_41 : decode b_Mon_join 41 = .ok (.aload 4, 2) := by decide +kernel
theorem d_Mon_join_43 : decode b_Mon_join 43 = .ok (.aload 5, 2) := by decide +kernel
theorem d_Mon_join_45 : decode b_Mon_join 45 = .ok (.invokespecial 80, 3) := by decide +kernel
theorem d_Mon_join_48 : decode b_Mon_join 48 = .ok (.invokevirtual 60, 3) := by decide +kernel
theorem d_Mon_join_51 : decode b_Mon_join 51 = .ok (.ireturn, 1) := by decide +kernel
theorem d_Join_init_0 : decode b_Join_init 0 = .ok (.aload_n 0, 1) := by decide +kernel
theorem d_Join_init_1 : decode b_Join_init 1 = .ok (.aload_n 2, 1) := by decide +kernel
theorem d_Join_init_2 : decode b_Join_init 2 = .ok (.aload_n 3, 1) := by decide +kernel
theorem d_Join_init_3 : decode b_Join_init 3 = .ok (.aload_n 2, 1) := by decide +kernel
theorem d_Join_init_4 : decode b_Join_init 4 = .ok (.getfield 1, 3) := by decide +kernel
theorem d_Join_init_7 : decode b_Join_init 7 = .ok (.aload_n 3, 1) := by decide +kernel
theorem d_Join_init_8 : decode b_Join_init 8 = .ok (.getfield 1, 3) := by decide +kernel
theorem d_Join_init_11 : decode b_Join_init 11 = .ok (.ior, 1) := by decide +kernel
theorem d_Join_init_12 : decode b_Join_init 12 = .ok (.invokespecial 7, 3) := by decide +kernel
theorem d_Join_init_15 : decode b_Join_init 15 = .ok (.aload_n 0, 1) := by decide +kernel
theorem d_Join_init_16 : decode b_Join_init 16 = .ok (.iload_n 1, 1) := by decide +kernel
theorem d_Join_init_17 : decode b_Join_init 17 = .ok (.putfield 11, 3) := by decide +kernel
theorem d_Join_init_20 : decode b_Join_init 20 = .ok (.aload_n 0, 1) := by decide +kernel
theorem d_Join_init_21 : decode b_Join_init 21 = .ok (.iload_n 1, 1) := by decide +kernel
theorem d_Join_init_22 : decode b_Join_init 22 = .ok (.ifCond .eq 15, 3) := by decide +kernel
theorem d_Join_init_25 : decode b_Join_init 25 = .ok (.aload_n 2, 1) := by decide +kernel
theorem d_Join_init_26 : decode b_Join_init 26 = .ok (.getfield 17, 3) := by decide +kernel
theorem d_Join_init_29 : decode b_Join_init 29 = .ok (.aload_n 3, 1) := by decide +kernel
theorem d_Join_init_30 : decode b_Join_init 30 = .ok (.getfield 17, 3) := by decide +kernel
theorem d_Join_init_33 : decode b_Join_init 33 = .ok (.ior, 1) := by decide +kernel
theorem d_Join_init_34 : decode b_Join_init 34 = .ok (.goto 12, 3) := by decide +kernel
theorem d_Join_init_37 : decode b_Join_init 37 = .ok (.aload_n 2, 1) := by decide +kernel
theorem d_Join_init_38 : decode b_Join_init 38 = .ok (.getfield 17, 3) := by decide +kernel
theorem d_Join_init_41 : decode b_Join_init 41 = .ok (.aload_n 3, 1) := by decide +kernel
theorem d_Join_init_42 : decode b_Join_init 42 = .ok (.getfield 17, 3) := by decide +kernel
theorem d_Join_init_45 : decode b_Join_init 45 = .ok (.iand, 1) := by decide +kernel
theorem d_Join_init_46 : decode b_Join_init 46 = .ok (.putfield 20, 3) := by decide +kernel
theorem d_Join_init_49 : decode b_Join_init 49 = .ok (.return_, 1) := by decide +kernel
theorem d_Mon_exists_0 : decode b_Mon_exists 0 = .ok (.aload_n 0, 1) := by decide +kernel
theorem d_Mon_exists_1 : decode b_Mon_exists 1 = .ok (.iload_n 2, 1) := by decide +kernel
theorem d_Mon_exists_2 : decode b_Mon_exists 2 = .ok (.invokevirtual 69, 3) := by decide +kernel
theorem d_Mon_exists_5 : decode b_Mon_exists 5 = .ok (.astore_n 3, 1) := by decide +kernel
theorem d_Mon_exists_6 : decode b_Mon_exists 6 = .ok (.aload_n 0, 1) := by decide +kernel
theorem d_Mon_exists_7 : decode b_Mon_exists 7 = .ok (.invokevirtual 47, 3) := by decide +kernel
theorem d_Mon_exists_10 : decode b_Mon_exists 10 = .ok (.ifCond .ne 16, 3) := by decide +kernel
theorem d_Mon_exists_13 : decode b_Mon_exists 13 = .ok (.iload_n 1, 1) := by decide +kernel
theorem d_Mon_exists_14 : decode b_Mon_exists 14 = .ok (.ifCond .lt 12, 3) := by decide +kernel
theorem d_Mon_exists_17 : decode b_Mon_exists 17 = .ok (.iload_n 1, 1) := by decide +kernel
theorem d_Mon_exists_18 : decode b_Mon_exists 18 = .ok (.iconst 2, 1) := by decide +kernel
theorem d_Mon_exists_19 : decode b_Mon_exists 19 = .ok (.if_icmp .gt 7, 3) := by decide +kernel
theorem d_Mon_exists_22 : decode b_Mon_exists 22 = .ok (.aload_n 3, 1) := by decide +kernel
theorem d_Mon_exists_23 : decode b_Mon_exists 23 = .ok (.ifnonnull 7, 3) := by decide +kernel
theorem d_Mon_exists_26 : decode b_Mon_exists 26 = .ok (.iconst (-1), 1) := by decide +kernel
theorem d_Mon_exists_27 : decode b_Mon_exists 27 = .ok (.goto 16, 3) := by decide +kernel
theorem d_Mon_exists_30 : decode b_Mon_exists 30 = .ok (.aload_n 0, 1) := by decide +kernel
theorem d_Mon_exists_31 : decode b_Mon_exists 31 = .ok (.new 83, 3) := by decide +kernel
theorem d_Mon_exists_34 : decode b_Mon_exists 34 = .ok (.dup, 1) := by decide +kernel
theorem d_Mon_exists_35 : decode b_Mon_exists 35 = .ok (.iload_n 1, 1) := by decide +kernel
theorem d_Mon_exists_36 : decode b_Mon_exists 36 = .ok (.aload_n 3, 1) := by decide +kernel
theorem d_Mon_exists_37 : decode b_Mon_exists 37 = .ok (.invokespecial 85, 3) := by decide +kernel
theorem d_Mon_exists_40 : decode b_Mon_exists 40 = .ok (.invokevirtual 60, 3) := by decide +kernel
theorem d_Mon_exists_43 : decode b_Mon_exists 43 = .ok (.ireturn, 1) := by decide +kernel
theorem d_Exists_init_0 : decode b_Exists_init 0 = .ok (.aload_n 0, 1) := by decide +kernel
theorem d_Exists_init_1 : decode b_Exists_init 1 = .ok (.aload_n 2, 1) := by decide +kernel
theorem d_Exists_init_2 : decode b_Exists_init 2 = .ok (.aconst_null, 1) := by decide +kernel
theorem d_Exists_init_3 : decode b_Exists_init 3 = .ok (.aload_n 2, 1) := by decide +kernel
theorem d_Exists_init_4 : decode b_Exists_init 4 = .ok (.getfield 1, 3) := by decide +kernel
theorem d_Exists_init_7 : decode b_Exists_init 7 = .ok (.iconst 1, 1) := by decide +kernel
theorem d_Exists_init_8 : decode b_Exists_init 8 = .ok (.iload_n 1, 1) := by decide +kernel
theorem d_Exists_init_9 : decode b_Exists_init 9 = .ok (.ishl, 1) := by decide +kernel
theorem d_Exists_init_10 : decode b_Exists_init 10 = .ok (.iconst (-1), 1) := by decide +kernel
theorem d_Exists_init_11 : decode b_Exists_init 11 = .ok (.ixor, 1) := by decide +kernel
theorem d_Exists_init_12 : decode b_Exists_init 12 = .ok (.iand, 1) := by decide +kernel
theorem d_Exists_init_13 : decode b_Exists_init 13 = .ok (.invokespecial 7, 3) := by decide +kernel
theorem d_Exists_init_16 : decode b_Exists_init 16 = .ok (.aload_n 0, 1) := by decide +kernel
theorem d_Exists_init_17 : decode b_Exists_init 17 = .ok (.iload_n 1, 1) := by decide +kernel
theorem d_Exists_init_18 : decode b_Exists_init 18 = .ok (.putfield 11, 3) := by decide +kernel
theorem d_Exists_init_21 : decode b_Exists_init 21 = .ok (.aload_n 0, 1) := by decide +kernel
theorem d_Exists_init_22 : decode b_Exists_init 22 = .ok (.aload_n 2, 1) := by decide +kernel
theorem d_Exists_init_23 : decode b_Exists_init 23 = .ok (.getfield 16, 3) := by decide +kernel
theorem d_Exists_init_26 : decode b_Exists_init 26 = .ok (.iconst 1, 1) := by decide +kernel
theorem d_Exists_init_27 : decode b_Exists_init 27 = .ok (.iload_n 1, 1) := by decide +kernel
theorem d_Exists_init_28 : decode b_Exists_init 28 = .ok (.ishl, 1) := by decide +kernel
theorem d_Exists_init_29 : decode b_Exists_init 29 = .ok (.iconst (-1), 1) := by decide +kernel
theorem d_Exists_init_30 : decode b_Exists_init 30 = .ok (.ixor, 1) := by decide +kernel
theorem d_Exists_init_31 : decode b_Exists_init 31 = .ok (.iand, 1) := by decide +kernel
theorem d_Exists_init_32 : decode b_Exists_init 32 = .ok (.putfield 19, 3) := by decide +kernel
theorem d_Exists_init_35 : decode b_Exists_init 35 = .ok (.aload_n 0, 1) := by decide +kernel
theorem d_Exists_init_36 : decode b_Exists_init 36 = .ok (.aload_n 0, 1) := by decide +kernel
theorem d_Exists_init_37 : decode b_Exists_init 37 = .ok (.getfield 20, 3) := by decide +kernel
theorem d_Exists_init_40 : decode b_Exists_init 40 = .ok (.ifCond .eq 18, 3) := by decide +kernel
theorem d_Exists_init_43 : decode b_Exists_init 43 = .ok (.aload_n 2, 1) := by decide +kernel
theorem d_Exists_init_44 : decode b_Exists_init 44 = .ok (.getfield 16, 3) := by decide +kernel
theorem d_Exists_init_47 : decode b_Exists_init 47 = .ok (.iload_n 1, 1) := by decide +kernel
theorem d_Exists_init_48 : decode b_Exists_init 48 = .ok (.ishr, 1) := by decide +kernel
theorem d_Exists_init_49 : decode b_Exists_init 49 = .ok (.iconst 1, 1) := by decide +kernel
theorem d_Exists_init_50 : decode b_Exists_init 50 = .ok (.iand, 1) := by decide +kernel
theorem d_Exists_init_51 : decode b_Exists_init 51 = .ok (.ifCond .eq 7, 3) := by decide +kernel
theorem d_Exists_init_54 : decode b_Exists_init 54 = .ok (.iconst 1, 1) := by decide +kernel
theorem d_Exists_init_55 : decode b_Exists_init 55 = .ok (.goto 4, 3) := by decide +kernel
theorem d_Exists_init_58 : decode b_Exists_init 58 = .ok (.iconst 0, 1) := by decide +kernel
theorem d_Exists_init_59 : decode b_Exists_init 59 = .ok (.putfield 20, 3) := by decide +kernel
theorem d_Exists_init_62 : decode b_Exists_init 62 = .ok (.return_, 1) := by decide +kernel
theorem d_Mon_previous_0 : decode b_Mon_previous 0 = .ok (.new 88, 3) := by decide +kernel
theorem d_Mon_previous_3 : decode b_Mon_previous 3 = .ok (.dup, 1) := by decide +kernel
theorem d_Mon_previous_4 : decode b_Mon_previous 4 = .ok (.iload_n 1, 1) := by decide +kernel
theorem d_Mon_previous_5 : decode b_Mon_previous 5 = .ok (.iload_n 2, 1) := by decide +kernel
theorem d_Mon_previous_6 : decode b_Mon_previous 6 = .ok (.invokespecial 90, 3) := by decide +kernel
theorem d_Mon_previous_9 : decode b_Mon_previous 9 = .ok (.astore 4, 2) := by decide +kernel
theorem d_Mon_previous_11 : decode b_Mon_previous 11 = .ok (.aload_n 0, 1) := by decide +kernel
theorem d_Mon_previous_12 : decode b_Mon_previous 12 = .ok (.iload_n 3, 1) := by decide +kernel
theorem d_Mon_previous_13 : decode b_Mon_previous 13 = .ok (.invokevirtual 69, 3) := by decide +kernel
theorem d_Mon_previous_16 : decode b_Mon_previous 16 = .ok (.astore 5, 2) := by decide +kernel
theorem d_Mon_previous_18 : decode b_Mon_previous 18 = .ok (.aload_n 0, 1) := by decide +kernel
theorem d_Mon_previous_19 : decode b_Mon_previous 19 = .ok (.invokevirtual 47, 3) := by decide +kernel
theorem d_Mon_previous_22 : decode b_Mon_previous 22 = .ok (.ifCond .ne 17, 3) := by decide +kernel
theorem d_Mon_previous_25 : decode b_Mon_previous 25 = .ok (.aload 4, 2) := by decide +kernel
theorem d_Mon_previous_27 : decode b_Mon_previous 27 = .ok (.iconst 0, 1) := by decide +kernel
theorem d_Mon_previous_28 : decode b_Mon_previous 28 = .ok (.invokevirtual 93, 3) := by decide +kernel
theorem d_Mon_previous_31 : decode b_Mon_previous 31 = .ok (.ifCond .eq 8, 3) := by decide +kernel
theorem d_Mon_previous_34 : decode b_Mon_previous 34 = .ok (.aload 5, 2) := by decide +kernel
theorem d_Mon_previous_36 : decode b_Mon_previous 36 = .ok (.ifnonnull 7, 3) := by decide +kernel
theorem d_Mon_previous_39 : decode b_Mon_previous 39 = .ok (.iconst (-1), 1) := by decide +kernel
theorem d_Mon_previous_40 : decode b_Mon_previous 40 = .ok (.goto 18, 3) := by decide +kernel
theorem d_Mon_previous_43 : decode b_Mon_previous 43 = .ok (.aload_n 0, 1) := by decide +kernel
theorem d_Mon_previous_44 : decode b_Mon_previous 44 = .ok (.new 97, 3) := by decide +kernel
theorem d_Mon_previous_47 : decode b_Mon_previous 47 = .ok (.dup, 1) := by decide +kernel
theorem d_Mon_previous_48 : decode b_Mon_previous 48 = .ok (.aload 4, 2) := by decide +kernel
theorem d_Mon_previous_50 : decode b_Mon_previous 50 = .ok (.aload 5, 2) := by decide +kernel
theorem d_Mon_previous_52 : decode b_Mon_previous 52 = .ok (.invokespecial 99, 3) := by decide +kernel
theorem d_Mon_previous_55 : decode b_Mon_previous 55 = .ok (.invokevirtual 60, 3) := by decide +kernel
theorem d_Mon_previous_58 : decode b_Mon_previous 58 = .ok (.ireturn, 1) := by decide +kernel
theorem d_Interval_init_0 : decode b_Interval_init 0 = .ok (.aload_n 0, 1) := by decide +kernel
theorem d_Interval_init_1 : decode b_Interval_init 1 = .ok (.invokespecial 3, 3) := by decide +kernel
theorem d_Interval_init_4 : decode b_Interval_init 4 = .ok (.aload_n 0, 1) := by decide +kernel
theorem d_Interval_init_5 : decode b_Interval_init 5 = .ok (.iload_n 1, 1) := by decide +kernel
theorem d_Interval_init_6 : decode b_Interval_init 6 = .ok (.putfield 9, 3) := by decide +kernel
theorem d_Interval_init_9 : decode b_Interval_init 9 = .ok (.aload_n 0, 1) := by decide +kernel
theorem d_Interval_init_10 : decode b_Interval_init 10 = .ok (.iload_n 2, 1) := by decide +kernel
theorem d_Interval_init_11 : decode b_Interval_init 11 = .ok (.putfield 15, 3) := by decide +kernel
theorem d_Interval_init_14 : decode b_Interval_init 14 = .ok (.return_, 1) := by decide +kernel
theorem d_Interval_isGood_0 : decode b_Interval_isGood 0 = .ok (.aload_n 0, 1) := by decide +kernel
theorem d_Interval_isGood_1 : decode b_Interval_isGood 1 = .ok (.getfield 9, 3) := by decide +kernel
theorem d_Interval_isGood_4 : decode b_Interval_isGood 4 = .ok (.ifCond .lt 51, 3) := by decide +kernel
theorem d_Interval_isGood_7 : decode b_Interval_isGood 7 = .ok (.aload_n 0, 1) := by decide +kernel
theorem d_Interval_isGood_8 : decode b_Interval_isGood 8 = .ok (.getfield 9, 3) := by decide +kernel
theorem d_Interval_isGood_11 : decode b_Interval_isGood 11 = .ok (.ldc 18, 2) := by decide +kernel
theorem d_Interval_isGood_13 : decode b_Interval_isGood 13 = .ok (.if_icmp .gt 42, 3) := by decide +kernel
theorem d_Interval_isGood_16 : decode b_Interval_isGood 16 = .ok (.aload_n 0, 1) := by decide +kernel
theorem d_Interval_isGood_17 : decode b_Interval_isGood 17 = .ok (.getfield 15, 3) := by decide +kernel
theorem d_Interval_isGood_20 : decode b_Interval_isGood 20 = .ok (.iconst (-1), 1) := by decide +kernel
theorem d_Interval_isGood_21 : decode b_Interval_isGood 21 = .ok (.if_icmp .ne 10, 3) := by decide +kernel
theorem d_Interval_isGood_24 : decode b_Interval_isGood 24 = .ok (.iload_n 1, 1) := by decide +kernel
theorem d_Interval_isGood_25 : decode b_Interval_isGood 25 = .ok (.ifCond .ne 30, 3) := by decide +kernel
theorem d_Interval_isGood_28 : decode b_Interval_isGood 28 = .ok (.goto 23, 3) := by decide +kernel
theorem d_Interval_isGood_31 : decode b_Interval_isGood 31 = .ok (.aload_n 0, 1) := by decide +kernel
theorem d_Interval_isGood_32 : decode b_Interval_isGood 32 = .ok (.getfield 9, 3) := by decide +kernel
theorem d_Interval_isGood_35 : decode b_Interval_isGood 35 = .ok (.aload_n 0, 1) := by decide +kernel
theorem d_Interval_isGood_36 : decode b_Interval_isGood 36 = .ok (.getfield 15, 3) := by decide +kernel
theorem d_Interval_isGood_39 : decode b_Interval_isGood 39 = .ok (.if_icmp .gt 16, 3) := by decide +kernel
theorem d_Interval_isGood_42 : decode b_Interval_isGood 42 = .ok (.aload_n 0, 1) := by decide +kernel
theorem d_Interval_isGood_43 : decode b_Interval_isGood 43 = .ok (.getfield 15, 3) := by decide +kernel
theorem d_Interval_isGood_46 : decode b_Interval_isGood 46 = .ok (.ldc 18, 2) := by decide +kernel
theorem d_Interval_isGood_48 : decode b_Interval_isGood 48 = .ok (.if_icmp .gt 7, 3) := by decide +kernel
theorem d_Interval_isGood_51 : decode b_Interval_isGood 51 = .ok (.iconst 1, 1) := by decide +kernel
theorem d_Interval_isGood_52 : decode b_Interval_isGood 52 = .ok (.goto 4, 3) := by decide +kernel
theorem d_Interval_isGood_55 : decode b_Interval_isGood 55 = .ok (.iconst 0, 1) := by decide +kernel
theorem d_Interval_isGood_56 : decode b_Interval_isGood 56 = .ok (.ireturn, 1) := by decide +kernel
theorem d_Previous_init_0 : decode b_Previous_init 0 = .ok (.aload_n 0, 1) := by decide +kernel
theorem d_Previous_init_1 : decode b_Previous_init 1 = .ok (.aload_n 2, 1) := by decide +kernel
theorem d_Previous_init_2 : decode b_Previous_init 2 = .ok (.aconst_null, 1) := by decide +kernel
theorem d_Previous_init_3 : decode b_Previous_init 3 = .ok (.aload_n 2, 1) := by decide +kernel
theorem d_Previous_init_4 : decode b_Previous_init 4 = .ok (.getfield 1, 3) := by decide +kernel
theorem d_Previous_init_7 : decode b_Previous_init 7 = .ok (.invokespecial 7, 3) := by decide +kernel
theorem d_Previous_init_10 : decode b_Previous_init 10 = .ok (.aload_n 0, 1) := by decide +kernel
theorem d_Previous_init_11 : decode b_Previous_init 11 = .ok (.aload_n 1, 1) := by decide +kernel
theorem d_Previous_init_12 : decode b_Previous_init 12 = .ok (.putfield 11, 3) := by decide +kernel
theorem d_Previous_init_15 : decode b_Previous_init 15 = .ok (.aload_n 0, 1) := by decide +kernel
theorem d_Previous_init_16 : decode b_Previous_init 16 = .ok (.aload_n 2, 1) := by decide +kernel
theorem d_Previous_init_17 : decode b_Previous_init 17 = .ok (.getfield 17, 3) := by decide +kernel
theorem d_Previous_init_20 : decode b_Previous_init 20 = .ok (.putfield 20, 3) := by decide +kernel
theorem d_Previous_init_23 : decode b_Previous_init 23 = .ok (.return_, 1) := by decide +kernel
theorem d_Mon_since_0 : decode b_Mon_since 0 = .ok (.new 88, 3) := by decide +kernel
theorem d_Mon_since_3 : decode b_Mon_since 3 = .ok (.dup, 1) := by decide +kernel
theorem d_Mon_since_4 : decode b_Mon_since 4 = .ok (.iload_n 1, 1) := by decide +kernel
theorem d_Mon_since_5 : decode b_Mon_since 5 = .ok (.iload_n 2, 1) := by decide +kernel
theorem d_Mon_since_6 : decode b_Mon_since 6 = .ok (.invokespecial 90, 3) := by decide +kernel
theorem d_Mon_since_9 : decode b_Mon_since 9 = .ok (.astore 5, 2) := by decide +kernel
theorem d_Mon_since_11 : decode b_Mon_since 11 = .ok (.aload_n 0, 1) := by decide +kernel
theorem d_Mon_since_12 : decode b_Mon_since 12 = .ok (.iload_n 3, 1) := by decide +kernel
theorem d_Mon_since_13 : decode b_Mon_since 13 = .ok (.invokevirtual 69, 3) := by decide +kernel
theorem d_Mon_since_16 : decode b_Mon_since 16 = .ok (.astore 6, 2) := by decide +kernel
theorem d_Mon_since_18 : decode b_Mon_since 18 = .ok (.aload_n 0, 1) := by decide +kernel
theorem d_Mon_since_19 : decode b_Mon_since 19 = .ok (.iload 4, 2) := by decide +kernel
theorem d_Mon_since_21 : decode b_Mon_since 21 = .ok (.invokevirtual 69, 3) := by decide +kernel
theorem d_Mon_since_24 : decode b_Mon_since 24 = .ok (.astore 7, 2) := by decide +kernel
theorem d_Mon_since_26 : decode b_Mon_since 26 = .ok (.aload_n 0, 1) := by decide +kernel
theorem d_Mon_since_27 : decode b_Mon_since 27 = .ok (.invokevirtual 47, 3) := by decide +kernel
theorem d_Mon_since_30 : decode b_Mon_since 30 = .ok (.ifCond .ne 22, 3) := by decide +kernel
theorem d_Mon_since_33 : decode b_Mon_since 33 = .ok (.aload 5, 2) := by decide +kernel
theorem d_Mon_since_35 : decode b_Mon_since 35 = .ok (.iconst 0, 1) := by decide +kernel
theorem d_Mon_since_36 : decode b_Mon_since 36 = .ok (.invokevirtual 93, 3) := by decide +kernel
theorem d_Mon_since_39 : decode b_Mon_since 39 = .ok (.ifCond .eq 13, 3) := by decide +kernel
theorem d_Mon_since_42 : decode b_Mon_since 42 = .ok (.aload 6, 2) := by decide +kernel
theorem d_Mon_since_44 : decode b_Mon_since 44 = .ok (.ifnull 8, 3) := by decide +kernel
theorem d_Mon_since_47 : decode b_Mon_since 47 = .ok (.aload 7, 2) := by decide +kernel
theorem d_Mon_since_49 : decode b_Mon_since 49 = .ok (.ifnonnull 7, 3) := by decide +kernel
theorem d_Mon_since_52 : decode b_Mon_since 52 = .ok (.iconst (-1), 1) := by decide +kernel
theorem d_Mon_since_53 : decode b_Mon_since 53 = .ok (.goto 20, 3) := by decide +kernel
theorem d_Mon_since_56 : decode b_Mon_since 56 = .ok (.aload_n 0, 1) := by decide +kernel
theorem d_Mon_since_57 : decode b_Mon_since 57 = .ok (.new 102, 3) := by decide +kernel
theorem d_Mon_since_60 : decode b_Mon_since 60 = .ok (.dup, 1) := by decide +kernel
theorem d_Mon_since_61 : decode b_Mon_since 61 = .ok (.aload 5, 2) := by decide +kernel
theorem d_Mon_since_63 : decode b_Mon_since 63 = .ok (.aload 6, 2) := by decide +kernel
theorem d_Mon_since_65 : decode b_Mon_since 65 = .ok (.aload 7, 2) := by decide +kernel
theorem d_Mon_since_67 : decode b_Mon_since 67 = .ok (.invokespecial 104, 3) := by decide +kernel
theorem d_Mon_since_70 : decode b_Mon_since 70 = .ok (.invokevirtual 60, 3) := by decide +kernel
theorem d_Mon_since_73 : decode b_Mon_since 73 = .ok (.ireturn, 1) := by decide +kernel
theorem d_Since_init_0 : decode b_Since_init 0 = .ok (.aload_n 0, 1) := by decide +kernel
theorem d_Since_init_1 : decode b_Since_init 1 = .ok (.aload_n 2, 1) := by decide +kernel
theorem d_Since_init_2 : decode b_Since_init 2 = .ok (.aload_n 3, 1) := by decide +kernel
theorem d_Since_init_3 : decode b_Since_init 3 = .ok (.aload_n 2, 1) := by decide +kernel
theorem d_Since_init_4 : decode b_Since_init 4 = .ok (.getfield 3, 3) := by decide +kernel
theorem d_Since_init_7 : decode b_Since_init 7 = .ok (.aload_n 3, 1) := by decide +kernel
theorem d_Since_init_8 : decode b_Since_init 8 = .ok (.getfield 3, 3) := by decide +kernel
theorem d_Since_init_11 : decode b_Since_init 11 = .ok (.ior, 1) := by decide +kernel
theorem d_Since_init_12 : decode b_Since_init 12 = .ok (.invokespecial 9, 3) := by decide +kernel
theorem d_Since_init_15 : decode b_Since_init 15 = .ok (.aload_n 0, 1) := by decide +kernel
theorem d_Since_init_16 : decode b_Since_init 16 = .ok (.bipush 24, 2) := by decide +kernel
theorem d_Since_init_18 : decode b_Since_init 18 = .ok (.newarray .long, 2) := by decide +kernel
theorem d_Since_init_20 : decode b_Since_init 20 = .ok (.putfield 13, 3) := by decide +kernel
theorem d_Since_init_23 : decode b_Since_init 23 = .ok (.aload_n 0, 1) := by decide +kernel
theorem d_Since_init_24 : decode b_Since_init 24 = .ok (.aload_n 1, 1) := by decide +kernel
theorem d_Since_init_25 : decode b_Since_init 25 = .ok (.putfield 19, 3) := by decide +kernel
theorem d_Since_init_28 : decode b_Since_init 28 = .ok (.aload_n 0, 1) := by decide +kernel
theorem d_Since_init_29 : decode b_Since_init 29 = .ok (.aload_n 3, 1) := by decide +kernel
theorem d_Since_init_30 : decode b_Since_init 30 = .ok (.getfield 23, 3) := by decide +kernel
theorem d_Since_init_33 : decode b_Since_init 33 = .ok (.putfield 26, 3) := by decide +kernel
theorem d_Since_init_36 : decode b_Since_init 36 = .ok (.return_, 1) := by decide +kernel
theorem d_Mon_until_0 : decode b_Mon_until 0 = .ok (.new 88, 3) := by decide +kernel
theorem d_Mon_until_3 : decode b_Mon_until 3 = .ok (.dup, 1) := by decide +kernel
theorem d_Mon_until_4 : decode b_Mon_until 4 = .ok (.iload_n 1, 1) := by decide +kernel
theorem d_Mon_until_5 : decode b_Mon_until 5 = .ok (.iload_n 2, 1) := by decide +kernel
theorem d_Mon_until_6 : decode b_Mon_until 6 = .ok (.invokespecial 90, 3) := by decide +kernel
theorem d_Mon_until_9 : decode b_Mon_until 9 = .ok (.astore 5, 2) := by decide +kernel
theorem d_Mon_until_11 : decode b_Mon_until 11 = .ok (.aload_n 0, 1) := by decide +kernel
theorem d_Mon_until_12 : decode b_Mon_until 12 = .ok (.iload_n 3, 1) := by decide +kernel
theorem d_Mon_until_13 : decode b_Mon_until 13 = .ok (.invokevirtual 69, 3) := by decide +kernel
theorem d_Mon_until_16 : decode b_Mon_until 16 = .ok (.astore 6, 2) := by decide +kernel
theorem d_Mon_until_18 : decode b_Mon_until 18 = .ok (.aload_n 0, 1) := by decide +kernel
theorem d_Mon_until_19 : decode b_Mon_until 19 = .ok (.iload 4, 2) := by decide +kernel
theorem d_Mon_until_21 : decode b_Mon_until 21 = .ok (.invokevirtual 69, 3) := by decide +kernel
theorem d_Mon_until_24 : decode b_Mon_until 24 = .ok (.astore 7, 2) := by decide +kernel
theorem d_Mon_until_26 : decode b_Mon_until 26 = .ok (.aload_n 0, 1) := by decide +kernel
theorem d_Mon_until_27 : decode b_Mon_until 27 = .ok (.invokevirtual 47, 3) := by decide +kernel
theorem d_Mon_until_30 : decode b_Mon_until 30 = .ok (.ifCond .ne 22, 3) := by decide +kernel
theorem d_Mon_until_33 : decode b_Mon_until 33 = .ok (.aload 5, 2) := by decide +kernel
theorem d_Mon_until_35 : decode b_Mon_until 35 = .ok (.iconst 1, 1) := by decide +kernel
theorem d_Mon_until_36 : decode b_Mon_until 36 = .ok (.invokevirtual 93, 3) := by decide +kernel
theorem d_Mon_until_39 : decode b_Mon_until 39 = .ok (.ifCond .eq 13, 3) := by decide +kernel
theorem d_Mon_until_42 : decode b_Mon_until 42 = .ok (.aload 6, 2) := by decide +kernel
theorem d_Mon_until_44 : decode b_Mon_until 44 = .ok (.ifnull 8, 3) := by decide +kernel
theorem d_Mon_until_47 : decode b_Mon_until 47 = .ok (.aload 7, 2) := by decide +kernel
theorem d_Mon_until_49 : decode b_Mon_until 49 = .ok (.ifnonnull 7, 3) := by decide +kernel
theorem d_Mon_until_52 : decode b_Mon_until 52 = .ok (.iconst (-1), 1) := by decide +kernel
theorem d_Mon_until_53 : decode b_Mon_until 53 = .ok (.goto 20, 3) := by decide +kernel
theorem d_Mon_until_56 : decode b_Mon_until 56 = .ok (.aload_n 0, 1) := by decide +kernel
theorem d_Mon_until_57 : decode b_Mon_until 57 = .ok (.new 107, 3) := by decide +kernel
theorem d_Mon_until_60 : decode b_Mon_until 60 = .ok (.dup, 1) := by decide +kernel
theorem d_Mon_until_61 : decode b_Mon_until 61 = .ok (.aload 5, 2) := by decide +kernel
theorem d_Mon_until_63 : decode b_Mon_until 63 = .ok (.aload 6, 2) := by decide +kernel
theorem d_Mon_until_65 : decode b_Mon_until 65 = .ok (.aload 7, 2) := by decide +kernel
theorem d_Mon_until_67 : decode b_Mon_until 67 = .ok (.invokespecial 109, 3) := by decide +kernel
theorem d_Mon_until_70 : decode b_Mon_until 70 = .ok (.invokevirtual 60, 3) := by decide +kernel
theorem d_Mon_until_73 : decode b_Mon_until 73 = .ok (.ireturn, 1) := by decide +kernel
theorem d_Until_init_0 : decode b_Until_init 0 = .ok (.aload_n 0, 1) := by decide +kernel
theorem d_Until_init_1 : decode b_Until_init 1 = .ok (.aload_n 2, 1) := by decide +kernel
theorem d_Until_init_2 : decode b_Until_init 2 = .ok (.aload_n 3, 1) := by decide +kernel
theorem d_Until_init_3 : decode b_Until_init 3 = .ok (.aload_n 2, 1) := by decide +kernel
theorem d_Until_init_4 : decode b_Until_init 4 = .ok (.getfield 1, 3) := by decide +kernel
theorem d_Until_init_7 : decode b_Until_init 7 = .ok (.aload_n 3, 1) := by decide +kernel
theorem d_Until_init_8 : decode b_Until_init 8 = .ok (.getfield 1, 3) := by decide +kernel
theorem d_Until_init_11 : decode b_Until_init 11 = .ok (.ior, 1) := by decide +kernel
theorem d_Until_init_12 : decode b_Until_init 12 = .ok (.invokespecial 7, 3) := by decide +kernel
theorem d_Until_init_15 : decode b_Until_init 15 = .ok (.aload_n 0, 1) := by decide +kernel
theorem d_Until_init_16 : decode b_Until_init 16 = .ok (.bipush 24, 2) := by decide +kernel
theorem d_Until_init_18 : decode b_Until_init 18 = .ok (.newarray .long, 2) := by decide +kernel
theorem d_Until_init_20 : decode b_Until_init 20 = .ok (.putfield 11, 3) := by decide +kernel
theorem d_Until_init_23 : decode b_Until_init 23 = .ok (.aload_n 0, 1) := by decide +kernel
theorem d_Until_init_24 : decode b_Until_init 24 = .ok (.aload_n 1, 1) := by decide +kernel
theorem d_Until_init_25 : decode b_Until_init 25 = .ok (.putfield 17, 3) := by decide +kernel
theorem d_Until_init_28 : decode b_Until_init 28 = .ok (.aload_n 0, 1) := by decide +kernel
theorem d_Until_init_29 : decode b_Until_init 29 = .ok (.aload_n 3, 1) := by decide +kernel
theorem d_Until_init_30 : decode b_Until_init 30 = .ok (.getfield 21, 3) := by decide +kernel
theorem d_Until_init_33 : decode b_Until_init 33 = .ok (.putfield 24, 3) := by decide +kernel
theorem d_Until_init_36 : decode b_Until_init 36 = .ok (.return_, 1) := by decide +kernel
theorem d_Mon_free_0 : decode b_Mon_free 0 = .ok (.aload_n 0, 1) := by decide +kernel
theorem d_Mon_free_1 : decode b_Mon_free 1 = .ok (.iload_n 1, 1) := by decide +kernel
theorem d_Mon_free_2 : decode b_Mon_free 2 = .ok (.invokevirtual 69, 3) := by decide +kernel
theorem d_Mon_free_5 : decode b_Mon_free 5 = .ok (.astore_n 2, 1) := by decide +kernel
theorem d_Mon_free_6 : decode b_Mon_free 6 = .ok (.aload_n 2, 1) := by decide +kernel
theorem d_Mon_free_7 : decode b_Mon_free 7 = .ok (.ifnonnull 7, 3) := by decide +kernel
theorem d_Mon_free_10 : decode b_Mon_free 10 = .ok (.iconst (-1), 1) := by decide +kernel
theorem d_Mon_free_11 : decode b_Mon_free 11 = .ok (.goto 7, 3) := by decide +kernel
theorem d_Mon_free_14 : decode b_Mon_free 14 = .ok (.aload_n 2, 1) := by decide +kernel
theorem d_Mon_free_15 : decode b_Mon_free 15 = .ok (.getfield 110, 3) := by decide +kernel
theorem d_Mon_free_18 : decode b_Mon_free 18 = .ok (.ireturn, 1) := by decide +kernel
theorem d_Mon_ranged_0 : decode b_Mon_ranged 0 = .ok (.aload_n 0, 1) := by decide +kernel
theorem d_Mon_ranged_1 : decode b_Mon_ranged 1 = .ok (.iload_n 1, 1) := by decide +kernel
theorem d_Mon_ranged_2 : decode b_Mon_ranged 2 = .ok (.invokevirtual 69, 3) := by decide +kernel
theorem d_Mon_ranged_5 : decode b_Mon_ranged 5 = .ok (.astore_n 2, 1) := by decide +kernel
theorem d_Mon_ranged_6 : decode b_Mon_ranged 6 = .ok (.aload_n 2, 1) := by decide +kernel
theorem d_Mon_ranged_7 : decode b_Mon_ranged 7 = .ok (.ifnonnull 7, 3) := by decide +kernel
theorem d_Mon_ranged_10 : decode b_Mon_ranged 10 = .ok (.iconst (-1), 1) := by decide +kernel
theorem d_Mon_ranged_11 : decode b_Mon_ranged 11 = .ok (.goto 7, 3) := by decide +kernel
theorem d_Mon_ranged_14 : decode b_Mon_ranged 14 = .ok (.aload_n 2, 1) := by decide +kernel
theorem d_Mon_ranged_15 : decode b_Mon_ranged 15 = .ok (.getfield 114, 3) := by decide +kernel
theorem d_Mon_ranged_18 : decode b_Mon_ranged 18 = .ok (.ireturn, 1) := by decide +kernel
theorem d_Mon_bounded_0 : decode b_Mon_bounded 0 = .ok (.aload_n 0, 1) := by decide +kernel
theorem d_Mon_bounded_1 : decode b_Mon_bounded 1 = .ok (.iload_n 1, 1) := by decide +kernel
theorem d_Mon_bounded_2 : decode b_Mon_bounded 2 = .ok (.invokevirtual 69, 3) := by decide +kernel
theorem d_Mon_bounded_5 : decode b_Mon_bounded 5 = .ok (.astore_n 2, 1) := by decide +kernel
theorem d_Mon_bounded_6 : decode b_Mon_bounded 6 = .ok (.aload_n 2, 1) := by decide +kernel
theorem d_Mon_bounded_7 : decode b_Mon_bounded 7 = .ok (.ifnull 28, 3) := by decide +kernel
theorem d_Mon_bounded_10 : decode b_Mon_bounded 10 = .ok (.aload_n 2, 1) := by decide +kernel
theorem d_Mon_bounded_11 : decode b_Mon_bounded 11 = .ok (.getfield 117, 3) := by decide +kernel
theorem d_Mon_bounded_14 : decode b_Mon_bounded 14 = .ok (.ifCond .eq 21, 3) := by decide +kernel
theorem d_Mon_bounded_17 : decode b_Mon_bounded 17 = .ok (.aload_n 2, 1) := by decide +kernel
theorem d_Mon_bounded_18 : decode b_Mon_bounded 18 = .ok (.getfield 110, 3) := by decide +kernel
theorem d_Mon_bounded_21 : decode b_Mon_bounded 21 = .ok (.aload_n 2, 1) := by decide +kernel
theorem d_Mon_bounded_22 : decode b_Mon_bounded 22 = .ok (.getfield 114, 3) := by decide +kernel
theorem d_Mon_bounded_25 : decode b_Mon_bounded 25 = .ok (.iconst (-1), 1) := by decide +kernel
theorem d_Mon_bounded_26 : decode b_Mon_bounded 26 = .ok (.ixor, 1) := by decide +kernel
theorem d_Mon_bounded_27 : decode b_Mon_bounded 27 = .ok (.iand, 1) := by decide +kernel
theorem d_Mon_bounded_28 : decode b_Mon_bounded 28 = .ok (.ifCond .ne 7, 3) := by decide +kernel
theorem d_Mon_bounded_31 : decode b_Mon_bounded 31 = .ok (.iconst 1, 1) := by decide +kernel
theorem d_Mon_bounded_32 : decode b_Mon_bounded 32 = .ok (.goto 4, 3) := by decide +kernel
theorem d_Mon_bounded_35 : decode b_Mon_bounded 35 = .ok (.iconst 0, 1) := by decide +kernel
theorem d_Mon_bounded_36 : decode b_Mon_bounded 36 = .ok (.ireturn, 1) := by decide +kernel
theorem d_Mon_watch_0 : decode b_Mon_watch 0 = .ok (.aload_n 0, 1) := by decide +kernel
theorem d_Mon_watch_1 : decode b_Mon_watch 1 = .ok (.getfield 39, 3) := by decide +kernel
theorem d_Mon_watch_4 : decode b_Mon_watch 4 = .ok (.ifCond .ne 13, 3) := by decide +kernel
theorem d_Mon_watch_7 : decode b_Mon_watch 7 = .ok (.aload_n 0, 1) := by decide +kernel
theorem d_Mon_watch_8 : decode b_Mon_watch 8 = .ok (.getfield 18, 3) := by decide +kernel
theorem d_Mon_watch_11 : decode b_Mon_watch 11 = .ok (.invokevirtual 126, 3) := by decide +kernel
theorem d_Mon_watch_14 : decode b_Mon_watch 14 = .ok (.ifCond .eq 5, 3) := by decide +kernel
theorem d_Mon_watch_17 : decode b_Mon_watch 17 = .ok (.iconst 0, 1) := by decide +kernel
theorem d_Mon_watch_18 : decode b_Mon_watch 18 = .ok (.ireturn, 1) := by decide +kernel
theorem d_Mon_watch_19 : decode b_Mon_watch 19 = .ok (.aload_n 0, 1) := by decide +kernel
theorem d_Mon_watch_20 : decode b_Mon_watch 20 = .ok (.invokevirtual 129, 3) := by decide +kernel
theorem d_Mon_watch_23 : decode b_Mon_watch 23 = .ok (.aload_n 0, 1) := by decide +kernel
theorem d_Mon_watch_24 : decode b_Mon_watch 24 = .ok (.iconst 1, 1) := by decide +kernel
theorem d_Mon_watch_25 : decode b_Mon_watch 25 = .ok (.putfield 39, 3) := by decide +kernel
theorem d_Mon_watch_28 : decode b_Mon_watch 28 = .ok (.iconst 1, 1) := by decide +kernel
theorem d_Mon_watch_29 : decode b_Mon_watch 29 = .ok (.ireturn, 1) := by decide +kernel
theorem d_Mon_begin_0 : decode b_Mon_begin 0 = .ok (.aload_n 0, 1) := by decide +kernel
theorem d_Mon_begin_1 : decode b_Mon_begin 1 = .ok (.getfield 25, 3) := by decide +kernel
theorem d_Mon_begin_4 : decode b_Mon_begin 4 = .ok (.invokevirtual 120, 3) := by decide +kernel
theorem d_Mon_begin_7 : decode b_Mon_begin 7 = .ok (.iconst 0, 1) := by decide +kernel
theorem d_Mon_begin_8 : decode b_Mon_begin 8 = .ok (.istore_n 1, 1) := by decide +kernel
theorem d_Mon_begin_9 : decode b_Mon_begin 9 = .ok (.iload_n 1, 1) := by decide +kernel
theorem d_Mon_begin_10 : decode b_Mon_begin 10 = .ok (.aload_n 0, 1) := by decide +kernel
theorem d_Mon_begin_11 : decode b_Mon_begin 11 = .ok (.getfield 18, 3) := by decide +kernel
theorem d_Mon_begin_14 : decode b_Mon_begin 14 = .ok (.invokevirtual 29, 3) := by decide +kernel
theorem d_Mon_begin_17 : decode b_Mon_begin 17 = .ok (.if_icmp .ge 23, 3) := by decide +kernel
theorem d_Mon_begin_20 : decode b_Mon_begin 20 = .ok (.aload_n 0, 1) := by decide +kernel
theorem d_Mon_begin_21 : decode b_Mon_begin 21 = .ok (.getfield 18, 3) := by decide +kernel
theorem d_Mon_begin_24 : decode b_Mon_begin 24 = .ok (.iload_n 1, 1) := by decide +kernel
theorem d_Mon_begin_25 : decode b_Mon_begin 25 = .ok (.invokevirtual 33, 3) := by decide +kernel
theorem d_Mon_begin_28 : decode b_Mon_begin 28 = .ok (.checkcast 37, 3) := by decide +kernel
theorem d_Mon_begin_31 : decode b_Mon_begin 31 = .ok (.invokevirtual 123, 3) := by decide +kernel
theorem d_Mon_begin_34 : decode b_Mon_begin 34 = .ok (.iinc 1 1, 3) := by decide +kernel
theorem d_Mon_begin_37 : decode b_Mon_begin 37 = .ok (.goto (-28), 3) := by decide +kernel
theorem d_Mon_begin_40 : decode b_Mon_begin 40 = .ok (.return_, 1) := by decide +kernel
theorem d_Log_empty_0 : decode b_Log_empty 0 = .ok (.aload_n 0, 1) := by decide +kernel
theorem d_Log_empty_1 : decode b_Log_empty 1 = .ok (.iconst 0, 1) := by decide +kernel
theorem d_Log_empty_2 : decode b_Log_empty 2 = .ok (.putfield 17, 3) := by decide +kernel
theorem d_Log_empty_5 : decode b_Log_empty 5 = .ok (.aload_n 0, 1) := by decide +kernel
theorem d_Log_empty_6 : decode b_Log_empty 6 = .ok (.invokevirtual 21, 3) := by decide +kernel
theorem d_Log_empty_9 : decode b_Log_empty 9 = .ok (.return_, 1) := by decide +kernel
theorem d_Log_forget_0 : decode b_Log_forget 0 = .ok (.iconst 0, 1) := by decide +kernel
theorem d_Log_forget_1 : decode b_Log_forget 1 = .ok (.istore_n 1, 1) := by decide +kernel
theorem d_Log_forget_2 : decode b_Log_forget 2 = .ok (.iload_n 1, 1) := by decide +kernel
theorem d_Log_forget_3 : decode b_Log_forget 3 = .ok (.iconst 3, 1) := by decide +kernel
theorem d_Log_forget_4 : decode b_Log_forget 4 = .ok (.if_icmp .ge 16, 3) := by decide +kernel
theorem d_Log_forget_7 : decode b_Log_forget 7 = .ok (.aload_n 0, 1) := by decide +kernel
theorem d_Log_forget_8 : decode b_Log_forget 8 = .ok (.getfield 13, 3) := by decide +kernel
theorem d_Log_forget_11 : decode b_Log_forget 11 = .ok (.iload_n 1, 1) := by decide +kernel
theorem d_Log_forget_12 : decode b_Log_forget 12 = .ok (.iconst 0, 1) := by decide +kernel
theorem d_Log_forget_13 : decode b_Log_forget 13 = .ok (.castore, 1) := by decide +kernel
theorem d_Log_forget_14 : decode b_Log_forget 14 = .ok (.iinc 1 1, 3) := by decide +kernel
theorem d_Log_forget_17 : decode b_Log_forget 17 = .ok (.goto (-15), 3) := by decide +kernel
theorem d_Log_forget_20 : decode b_Log_forget 20 = .ok (.return_, 1) := by decide +kernel
theorem d_Since_reset_0 : decode b_Since_reset 0 = .ok (.aload_n 0, 1) := by decide +kernel
theorem d_Since_reset_1 : decode b_Since_reset 1 = .ok (.iconst 0, 1) := by decide +kernel
theorem d_Since_reset_2 : decode b_Since_reset 2 = .ok (.putfield 27, 3) := by decide +kernel
theorem d_Since_reset_5 : decode b_Since_reset 5 = .ok (.aload_n 0, 1) := by decide +kernel
theorem d_Since_reset_6 : decode b_Since_reset 6 = .ok (.iconst 0, 1) := by decide +kernel
theorem d_Since_reset_7 : decode b_Since_reset 7 = .ok (.putfield 30, 3) := by decide +kernel
theorem d_Since_reset_10 : decode b_Since_reset 10 = .ok (.return_, 1) := by decide +kernel
theorem d_Until_reset_0 : decode b_Until_reset 0 = .ok (.aload_n 0, 1) := by decide +kernel
theorem d_Until_reset_1 : decode b_Until_reset 1 = .ok (.iconst 0, 1) := by decide +kernel
theorem d_Until_reset_2 : decode b_Until_reset 2 = .ok (.putfield 25, 3) := by decide +kernel
theorem d_Until_reset_5 : decode b_Until_reset 5 = .ok (.aload_n 0, 1) := by decide +kernel
theorem d_Until_reset_6 : decode b_Until_reset 6 = .ok (.iconst 0, 1) := by decide +kernel
theorem d_Until_reset_7 : decode b_Until_reset 7 = .ok (.putfield 28, 3) := by decide +kernel
theorem d_Until_reset_10 : decode b_Until_reset 10 = .ok (.return_, 1) := by decide +kernel
theorem d_Formula_reset_0 : decode b_Formula_reset 0 = .ok (.aload_n 0, 1) := by decide +kernel
theorem d_Formula_reset_1 : decode b_Formula_reset 1 = .ok (.iconst 0, 1) := by decide +kernel
theorem d_Formula_reset_2 : decode b_Formula_reset 2 = .ok (.putfield 28, 3) := by decide +kernel
theorem d_Formula_reset_5 : decode b_Formula_reset 5 = .ok (.return_, 1) := by decide +kernel
theorem d_Mon_gather_0 : decode b_Mon_gather 0 = .ok (.aload_n 0, 1) := by decide +kernel
theorem d_Mon_gather_1 : decode b_Mon_gather 1 = .ok (.getfield 39, 3) := by decide +kernel
theorem d_Mon_gather_4 : decode b_Mon_gather 4 = .ok (.ifCond .eq 30, 3) := by decide +kernel
theorem d_Mon_gather_7 : decode b_Mon_gather 7 = .ok (.iload_n 1, 1) := by decide +kernel
theorem d_Mon_gather_8 : decode b_Mon_gather 8 = .ok (.ifCond .lt 26, 3) := by decide +kernel
theorem d_Mon_gather_11 : decode b_Mon_gather 11 = .ok (.iload_n 1, 1) := by decide +kernel
theorem d_Mon_gather_12 : decode b_Mon_gather 12 = .ok (.iconst 2, 1) := by decide +kernel
theorem d_Mon_gather_13 : decode b_Mon_gather 13 = .ok (.if_icmp .gt 21, 3) := by decide +kernel
theorem d_Mon_gather_16 : decode b_Mon_gather 16 = .ok (.iload_n 2, 1) := by decide +kernel
theorem d_Mon_gather_17 : decode b_Mon_gather 17 = .ok (.ifCond .lt 17, 3) := by decide +kernel
theorem d_Mon_gather_20 : decode b_Mon_gather 20 = .ok (.iload_n 2, 1) := by decide +kernel
theorem d_Mon_gather_21 : decode b_Mon_gather 21 = .ok (.iconst 3, 1) := by decide +kernel
theorem d_Mon_gather_22 : decode b_Mon_gather 22 = .ok (.if_icmp .gt 12, 3) := by decide +kernel
theorem d_Mon_gather_25 : decode b_Mon_gather 25 = .ok (.iload_n 3, 1) := by decide +kernel
theorem d_Mon_gather_26 : decode b_Mon_gather 26 = .ok (.ifCond .lt 8, 3) := by decide +kernel
theorem d_Mon_gather_29 : decode b_Mon_gather 29 = .ok (.iload_n 3, 1) := by decide +kernel
theorem d_Mon_gather_30 : decode b_Mon_gather 30 = .ok (.iconst 3, 1) := by decide +kernel
theorem d_Mon_gather_31 : decode b_Mon_gather 31 = .ok (.if_icmp .le 5, 3) := by decide +kernel
theorem d_Mon_gather_34 : decode b_Mon_gather 34 = .ok (.iconst 0, 1) := by decide +kernel
theorem d_Mon_gather_35 : decode b_Mon_gather 35 = .ok (.ireturn, 1) := by decide +kernel
theorem d_Mon_gather_36 : decode b_Mon_gather 36 = .ok (.iconst 1, 1) := by decide +kernel
theorem d_Mon_gather_37 : decode b_Mon_gather 37 = .ok (.iconst 4, 1) := by decide +kernel
theorem d_Mon_gather_38 : decode b_Mon_gather 38 = .ok (.iload_n 2, 1) := by decide +kernel
theorem d_Mon_gather_39 : decode b_Mon_gather 39 = .ok (.imul, 1) := by decide +kernel
theorem d_Mon_gather_40 : decode b_Mon_gather 40 = .ok (.iload_n 3, 1) := by decide +kernel
theorem d_Mon_gather_41 : decode b_Mon_gather 41 = .ok (.iadd, 1) := by decide +kernel
theorem d_Mon_gather_42 : decode b_Mon_gather 42 = .ok (.ishl, 1) := by decide +kernel
theorem d_Mon_gather_43 : decode b_Mon_gather 43 = .ok (.istore 4, 2) := by decide +kernel
theorem d_Mon_gather_45 : decode b_Mon_gather 45 = .ok (.aload_n 0, 1) := by decide +kernel
theorem d_Mon_gather_46 : decode b_Mon_gather 46 = .ok (.getfield 25, 3) := by decide +kernel
theorem d_Mon_gather_49 : decode b_Mon_gather 49 = .ok (.getfield 132, 3) := by decide +kernel
theorem d_Mon_gather_52 : decode b_Mon_gather 52 = .ok (.iload_n 1, 1) := by decide +kernel
theorem d_Mon_gather_53 : decode b_Mon_gather 53 = .ok (.caload, 1) := by decide +kernel
theorem d_Mon_gather_54 : decode b_Mon_gather 54 = .ok (.iload 4, 2) := by decide +kernel
theorem d_Mon_gather_56 : decode b_Mon_gather 56 = .ok (.iand, 1) := by decide +kernel
theorem d_Mon_gather_57 : decode b_Mon_gather 57 = .ok (.ifCond .ne 7, 3) := by decide +kernel
theorem d_Mon_gather_60 : decode b_Mon_gather 60 = .ok (.iconst 1, 1) := by decide +kernel
theorem d_Mon_gather_61 : decode b_Mon_gather 61 = .ok (.goto 4, 3) := by decide +kernel
theorem d_Mon_gather_64 : decode b_Mon_gather 64 = .ok (.iconst 0, 1) := by decide +kernel
theorem d_Mon_gather_65 : decode b_Mon_gather 65 = .ok (.istore 5, 2) := by decide +kernel
theorem d_Mon_gather_67 : decode b_Mon_gather 67 = .ok (.aload_n 0, 1) := by decide +kernel
theorem d_Mon_gather_68 : decode b_Mon_gather 68 = .ok (.getfield 25, 3) := by decide +kernel
theorem d_Mon_gather_71 : decode b_Mon_gather 71 = .ok (.getfield 132, 3) := by decide +kernel
theorem d_Mon_gather_74 : decode b_Mon_gather 74 = .ok (.iload_n 1, 1) := by decide +kernel
theorem d_Mon_gather_75 : decode b_Mon_gather 75 = .ok (.dup2, 1) := by decide +kernel
theorem d_Mon_gather_76 : decode b_Mon_gather 76 = .ok (.caload, 1) := by decide +kernel
theorem d_Mon_gather_77 : decode b_Mon_gather 77 = .ok (.iload 4, 2) := by decide +kernel
theorem d_Mon_gather_79 : decode b_Mon_gather 79 = .ok (.ior, 1) := by decide +kernel
theorem d_Mon_gather_80 : decode b_Mon_gather 80 = .ok (.i2c, 1) := by decide +kernel
theorem d_Mon_gather_81 : decode b_Mon_gather 81 = .ok (.castore, 1) := by decide +kernel
theorem d_Mon_gather_82 : decode b_Mon_gather 82 = .ok (.iload 5, 2) := by decide +kernel
theorem d_Mon_gather_84 : decode b_Mon_gather 84 = .ok (.ireturn, 1) := by decide +kernel
theorem d_Mon_place_0 : decode b_Mon_place 0 = .ok (.aload_n 0, 1) := by decide +kernel
theorem d_Mon_place_1 : decode b_Mon_place 1 = .ok (.getfield 25, 3) := by decide +kernel
theorem d_Mon_place_4 : decode b_Mon_place 4 = .ok (.getfield 136, 3) := by decide +kernel
theorem d_Mon_place_7 : decode b_Mon_place 7 = .ok (.istore_n 2, 1) := by decide +kernel
theorem d_Mon_place_8 : decode b_Mon_place 8 = .ok (.aload_n 0, 1) := by decide +kernel
theorem d_Mon_place_9 : decode b_Mon_place 9 = .ok (.getfield 39, 3) := by decide +kernel
theorem d_Mon_place_12 : decode b_Mon_place 12 = .ok (.ifCond .eq 38, 3) := by decide +kernel
theorem d_Mon_place_15 : decode b_Mon_place 15 = .ok (.iload_n 1, 1) := by decide +kernel
theorem d_Mon_place_16 : decode b_Mon_place 16 = .ok (.ifCond .lt 34, 3) := by decide +kernel
theorem d_Mon_place_19 : decode b_Mon_place 19 = .ok (.iload_n 1, 1) := by decide +kernel
theorem d_Mon_place_20 : decode b_Mon_place 20 = .ok (.ldc 139, 2) := by decide +kernel
theorem d_Mon_place_22 : decode b_Mon_place 22 = .ok (.if_icmp .gt 28, 3) := by decide +kernel
theorem d_Mon_place_25 : decode b_Mon_place 25 = .ok (.iload_n 2, 1) := by decide +kernel
theorem d_Mon_place_26 : decode b_Mon_place 26 = .ok (.bipush 24, 2) := by decide +kernel
theorem d_Mon_place_28 : decode b_Mon_place 28 = .ok (.if_icmp .ge 22, 3) := by decide +kernel
theorem d_Mon_place_31 : decode b_Mon_place 31 = .ok (.iload_n 2, 1) := by decide +kernel
theorem d_Mon_place_32 : decode b_Mon_place 32 = .ok (.ifCond .le 20, 3) := by decide +kernel
theorem d_Mon_place_35 : decode b_Mon_place 35 = .ok (.iload_n 1, 1) := by decide +kernel
theorem d_Mon_place_36 : decode b_Mon_place 36 = .ok (.aload_n 0, 1) := by decide +kernel
theorem d_Mon_place_37 : decode b_Mon_place 37 = .ok (.getfield 25, 3) := by decide +kernel
theorem d_Mon_place_40 : decode b_Mon_place 40 = .ok (.getfield 140, 3) := by decide +kernel
theorem d_Mon_place_43 : decode b_Mon_place 43 = .ok (.iload_n 2, 1) := by decide +kernel
theorem d_Mon_place_44 : decode b_Mon_place 44 = .ok (.iconst 1, 1) := by decide +kernel
theorem d_Mon_place_45 : decode b_Mon_place 45 = .ok (.isub, 1) := by decide +kernel
theorem d_Mon_place_46 : decode b_Mon_place 46 = .ok (.iaload, 1) := by decide +kernel
theorem d_Mon_place_47 : decode b_Mon_place 47 = .ok (.if_icmp .ge 5, 3) := by decide +kernel
theorem d_Mon_place_50 : decode b_Mon_place 50 = .ok (.iconst (-1), 1) := by decide +kernel
theorem d_Mon_place_51 : decode b_Mon_place 51 = .ok (.ireturn, 1) := by decide +kernel
theorem d_Mon_place_52 : decode b_Mon_place 52 = .ok (.aload_n 0, 1) := by decide +kernel
theorem d_Mon_place_53 : decode b_Mon_place 53 = .ok (.getfield 25, 3) := by decide +kernel
theorem d_Mon_place_56 : decode b_Mon_place 56 = .ok (.getfield 140, 3) := by decide +kernel
theorem d_Mon_place_59 : decode b_Mon_place 59 = .ok (.iload_n 2, 1) := by decide +kernel
theorem d_Mon_place_60 : decode b_Mon_place 60 = .ok (.iload_n 1, 1) := by decide +kernel
theorem d_Mon_place_61 : decode b_Mon_place 61 = .ok (.iastore, 1) := by decide +kernel
theorem d_Mon_place_62 : decode b_Mon_place 62 = .ok (.aload_n 0, 1) := by decide +kernel
theorem d_Mon_place_63 : decode b_Mon_place 63 = .ok (.getfield 25, 3) := by decide +kernel
theorem d_Mon_place_66 : decode b_Mon_place 66 = .ok (.dup, 1) := by decide +kernel
theorem d_Mon_place_67 : decode b_Mon_place 67 = .ok (.getfield 136, 3) := by decide +kernel
theorem d_Mon_place_70 : decode b_Mon_place 70 = .ok (.iconst 1, 1) := by decide +kernel
theorem d_Mon_place_71 : decode b_Mon_place 71 = .ok (.iadd, 1) := by decide +kernel
theorem d_Mon_place_72 : decode b_Mon_place 72 = .ok (.putfield 136, 3) := by decide +kernel
theorem d_Mon_place_75 : decode b_Mon_place 75 = .ok (.aload_n 0, 1) := by decide +kernel
theorem d_Mon_place_76 : decode b_Mon_place 76 = .ok (.getfield 18, 3) := by decide +kernel
theorem d_Mon_place_79 : decode b_Mon_place 79 = .ok (.invokevirtual 144, 3) := by decide +kernel
theorem d_Mon_place_82 : decode b_Mon_place 82 = .ok (.astore_n 3, 1) := by decide +kernel
theorem d_Mon_place_83 : decode b_Mon_place 83 = .ok (.aload_n 3, 1) := by decide +kernel
theorem d_Mon_place_84 : decode b_Mon_place 84 = .ok (.invokeinterface 148 1, 5) := by decide +kernel
theorem d_Mon_place_89 : decode b_Mon_place 89 = .ok (.ifCond .eq 26, 3) := by decide +kernel
theorem d_Mon_place_92 : decode b_Mon_place 92 = .ok (.aload_n 3, 1) := by decide +kernel
theorem d_Mon_place_93 : decode b_Mon_place 93 = .ok (.invokeinterface 153 1, 5) := by decide +kernel
theorem d_Mon_place_98 : decode b_Mon_place 98 = .ok (.checkcast 37, 3) := by decide +kernel
theorem d_Mon_place_101 : decode b_Mon_place 101 = .ok (.astore 4, 2) := by decide +kernel
theorem d_Mon_place_103 : decode b_Mon_place 103 = .ok (.aload 4, 2) := by decide +kernel
theorem d_Mon_place_105 : decode b_Mon_place 105 = .ok (.aload_n 0, 1) := by decide +kernel
theorem d_Mon_place_106 : decode b_Mon_place 106 = .ok (.getfield 25, 3) := by decide +kernel
theorem d_Mon_place_109 : decode b_Mon_place 109 = .ok (.invokevirtual 157, 3) := by decide +kernel
theorem d_Mon_place_112 : decode b_Mon_place 112 = .ok (.goto (-29), 3) := by decide +kernel
theorem d_Mon_place_115 : decode b_Mon_place 115 = .ok (.aload_n 0, 1) := by decide +kernel
theorem d_Mon_place_116 : decode b_Mon_place 116 = .ok (.getfield 25, 3) := by decide +kernel
theorem d_Mon_place_119 : decode b_Mon_place 119 = .ok (.invokevirtual 161, 3) := by decide +kernel
theorem d_Mon_place_122 : decode b_Mon_place 122 = .ok (.iload_n 2, 1) := by decide +kernel
theorem d_Mon_place_123 : decode b_Mon_place 123 = .ok (.ireturn, 1) := by decide +kernel
theorem d_Atom_advance_0 : decode b_Atom_advance 0 = .ok (.lconst 0, 1) := by decide +kernel
theorem d_Atom_advance_1 : decode b_Atom_advance 1 = .ok (.lstore_n 2, 1) := by decide +kernel
theorem d_Atom_advance_2 : decode b_Atom_advance 2 = .ok (.iconst 0, 1) := by decide +kernel
theorem d_Atom_advance_3 : decode b_Atom_advance 3 = .ok (.istore 4, 2) := by decide +kernel
theorem d_Atom_advance_5 : decode b_Atom_advance 5 = .ok (.iload 4, 2) := by decide +kernel
theorem d_Atom_advance_7 : decode b_Atom_advance 7 = .ok (.bipush 16, 2) := by decide +kernel
theorem d_Atom_advance_9 : decode b_Atom_advance 9 = .ok (.if_icmp .ge 52, 3) := by decide +kernel
theorem d_Atom_advance_12 : decode b_Atom_advance 12 = .ok (.aload_n 1, 1) := by decide +kernel
theorem d_Atom_advance_13 : decode b_Atom_advance 13 = .ok (.getfield 31, 3) := by decide +kernel
theorem d_Atom_advance_16 : decode b_Atom_advance 16 = .ok (.aload_n 0, 1) := by decide +kernel
theorem d_Atom_advance_17 : decode b_Atom_advance 17 = .ok (.getfield 13, 3) := by decide +kernel
theorem d_Atom_advance_20 : decode b_Atom_advance 20 = .ok (.caload, 1) := by decide +kernel
theorem d_Atom_advance_21 : decode b_Atom_advance 21 = .ok (.iload 4, 2) := by decide +kernel
theorem d_Atom_advance_23 : decode b_Atom_advance 23 = .ok (.ishr, 1) := by decide +kernel
theorem d_Atom_advance_24 : decode b_Atom_advance 24 = .ok (.iconst 1, 1) := by decide +kernel
theorem d_Atom_advance_25 : decode b_Atom_advance 25 = .ok (.iand, 1) := by decide +kernel
theorem d_Atom_advance_26 : decode b_Atom_advance 26 = .ok (.ifCond .eq 29, 3) := by decide +kernel
theorem d_Atom_advance_29 : decode b_Atom_advance 29 = .ok (.lload_n 2, 1) := by decide +kernel
theorem d_Atom_advance_30 : decode b_Atom_advance 30 = .ok (.aload_n 0, 1) := by decide +kernel
theorem d_Atom_advance_31 : decode b_Atom_advance 31 = .ok (.getfield 19, 3) := by decide +kernel
theorem d_Atom_advance_34 : decode b_Atom_advance 34 = .ok (.iload 4, 2) := by decide +kernel
theorem d_Atom_advance_36 : decode b_Atom_advance 36 = .ok (.iconst 2, 1) := by decide +kernel
theorem d_Atom_advance_37 : decode b_Atom_advance 37 = .ok (.ishr, 1) := by decide +kernel
theorem d_Atom_advance_38 : decode b_Atom_advance 38 = .ok (.invokestatic 37, 3) := by decide +kernel
theorem d_Atom_advance_41 : decode b_Atom_advance 41 = .ok (.aload_n 0, 1) := by decide +kernel
theorem d_Atom_advance_42 : decode b_Atom_advance 42 = .ok (.getfield 22, 3) := by decide +kernel
theorem d_Atom_advance_45 : decode b_Atom_advance 45 = .ok (.iload 4, 2) := by decide +kernel
theorem d_Atom_advance_47 : decode b_Atom_advance 47 = .ok (.iconst 3, 1) := by decide +kernel
theorem d_Atom_advance_48 : decode b_Atom_advance 48 = .ok (.iand, 1) := by decide +kernel
theorem d_Atom_advance_49 : decode b_Atom_advance 49 = .ok (.invokestatic 37, 3) := by decide +kernel
theorem d_Atom_advance_52 : decode b_Atom_advance 52 = .ok (.land, 1) := by decide +kernel
theorem d_Atom_advance_53 : decode b_Atom_advance 53 = .ok (.lor, 1) := by decide +kernel
theorem d_Atom_advance_54 : decode b_Atom_advance 54 = .ok (.lstore_n 2, 1) := by decide +kernel
theorem d_Atom_advance_55 : decode b_Atom_advance 55 = .ok (.iinc 4 1, 3) := by decide +kernel
theorem d_Atom_advance_58 : decode b_Atom_advance 58 = .ok (.goto (-53), 3) := by decide +kernel
theorem d_Atom_advance_61 : decode b_Atom_advance 61 = .ok (.aload_n 0, 1) := by decide +kernel
theorem d_Atom_advance_62 : decode b_Atom_advance 62 = .ok (.getfield 41, 3) := by decide +kernel
theorem d_Atom_advance_65 : decode b_Atom_advance 65 = .ok (.aload_n 0, 1) := by decide +kernel
theorem d_Atom_advance_66 : decode b_Atom_advance 66 = .ok (.dup, 1) := by decide +kernel
theorem d_Atom_advance_67 : decode b_Atom_advance 67 = .ok (.getfield 45, 3) := by decide +kernel
theorem d_Atom_advance_70 : decode b_Atom_advance 70 = .ok (.dup_x1, 1) := by decide +kernel
theorem d_Atom_advance_71 : decode b_Atom_advance 71 = .ok (.iconst 1, 1) := by decide +kernel
theorem d_Atom_advance_72 : decode b_Atom_advance 72 = .ok (.iadd, 1) := by decide +kernel
theorem d_Atom_advance_73 : decode b_Atom_advance 73 = .ok (.putfield 45, 3) := by decide +kernel
theorem d_Atom_advance_76 : decode b_Atom_advance 76 = .ok (.lload_n 2, 1) := by decide +kernel
theorem d_Atom_advance_77 : decode b_Atom_advance 77 = .ok (.lastore, 1) := by decide +kernel
theorem d_Atom_advance_78 : decode b_Atom_advance 78 = .ok (.return_, 1) := by decide +kernel
theorem d_Compare_advance_0 : decode b_Compare_advance 0 = .ok (.aload_n 0, 1) := by decide +kernel
theorem d_Compare_advance_1 : decode b_Compare_advance 1 = .ok (.getfield 30, 3) := by decide +kernel
theorem d_Compare_advance_4 : decode b_Compare_advance 4 = .ok (.aload_n 0, 1) := by decide +kernel
theorem d_Compare_advance_5 : decode b_Compare_advance 5 = .ok (.dup, 1) := by decide +kernel
theorem d_Compare_advance_6 : decode b_Compare_advance 6 = .ok (.getfield 34, 3) := by decide +kernel
theorem d_Compare_advance_9 : decode b_Compare_advance 9 = .ok (.dup_x1, 1) := by decide +kernel
theorem d_Compare_advance_10 : decode b_Compare_advance 10 = .ok (.iconst 1, 1) := by decide +kernel
theorem d_Compare_advance_11 : decode b_Compare_advance 11 = .ok (.iadd, 1) := by decide +kernel
theorem d_Compare_advance_12 : decode b_Compare_advance 12 = .ok (.putfield 34, 3) := by decide +kernel
theorem d_Compare_advance_15 : decode b_Compare_advance 15 = .ok (.aload_n 0, 1) := by decide +kernel
theorem d_Compare_advance_16 : decode b_Compare_advance 16 = .ok (.getfield 17, 3) := by decide +kernel
theorem d_Compare_advance_19 : decode b_Compare_advance 19 = .ok (.lastore, 1) := by decide +kernel
theorem d_Compare_advance_20 : decode b_Compare_advance 20 = .ok (.return_, 1) := by decide +kernel
theorem d_Exists_advance_0 : decode b_Exists_advance 0 = .ok (.aload_n 0, 1) := by decide +kernel
theorem d_Exists_advance_1 : decode b_Exists_advance 1 = .ok (.getfield 30, 3) := by decide +kernel
theorem d_Exists_advance_4 : decode b_Exists_advance 4 = .ok (.aload_n 0, 1) := by decide +kernel
theorem d_Exists_advance_5 : decode b_Exists_advance 5 = .ok (.getfield 33, 3) := by decide +kernel
theorem d_Exists_advance_8 : decode b_Exists_advance 8 = .ok (.getfield 37, 3) := by decide +kernel
theorem d_Exists_advance_11 : decode b_Exists_advance 11 = .ok (.if_icmp .ge 41, 3) := by decide +kernel
theorem d_Exists_advance_14 : decode b_Exists_advance 14 = .ok (.aload_n 0, 1) := by decide +kernel
theorem d_Exists_advance_15 : decode b_Exists_advance 15 = .ok (.getfield 38, 3) := by decide +kernel
theorem d_Exists_advance_18 : decode b_Exists_advance 18 = .ok (.aload_n 0, 1) := by decide +kernel
theorem d_Exists_advance_19 : decode b_Exists_advance 19 = .ok (.getfield 30, 3) := by decide +kernel
theorem d_Exists_advance_22 : decode b_Exists_advance 22 = .ok (.aload_n 0, 1) := by decide +kernel
theorem d_Exists_advance_23 : decode b_Exists_advance 23 = .ok (.aload_n 0, 1) := by decide +kernel
theorem d_Exists_advance_24 : decode b_Exists_advance 24 = .ok (.getfield 33, 3) := by decide +kernel
theorem d_Exists_advance_27 : decode b_Exists_advance 27 = .ok (.getfield 41, 3) := by decide +kernel
theorem d_Exists_advance_30 : decode b_Exists_advance 30 = .ok (.aload_n 0, 1) := by decide +kernel
theorem d_Exists_advance_31 : decode b_Exists_advance 31 = .ok (.getfield 30, 3) := by decide +kernel
theorem d_Exists_advance_34 : decode b_Exists_advance 34 = .ok (.laload, 1) := by decide +kernel
theorem d_Exists_advance_35 : decode b_Exists_advance 35 = .ok (.invokevirtual 42, 3) := by decide +kernel
theorem d_Exists_advance_38 : decode b_Exists_advance 38 = .ok (.lastore, 1) := by decide +kernel
theorem d_Exists_advance_39 : decode b_Exists_advance 39 = .ok (.aload_n 0, 1) := by decide +kernel
theorem d_Exists_advance_40 : decode b_Exists_advance 40 = .ok (.dup, 1) := by decide +kernel
theorem d_Exists_advance_41 : decode b_Exists_advance 41 = .ok (.getfield 30, 3) := by decide +kernel
theorem d_Exists_advance_44 : decode b_Exists_advance 44 = .ok (.iconst 1, 1) := by decide +kernel
theorem d_Exists_advance_45 : decode b_Exists_advance 45 = .ok (.iadd, 1) := by decide +kernel
theorem d_Exists_advance_46 : decode b_Exists_advance 46 = .ok (.putfield 30, 3) := by decide +kernel
theorem d_Exists_advance_49 : decode b_Exists_advance 49 = .ok (.goto (-49), 3) := by decide +kernel
theorem d_Exists_advance_52 : decode b_Exists_advance 52 = .ok (.return_, 1) := by decide +kernel
theorem d_Exists_any_0 : decode b_Exists_any 0 = .ok (.iconst 1, 1) := by decide +kernel
theorem d_Exists_any_1 : decode b_Exists_any 1 = .ok (.iconst 2, 1) := by decide +kernel
theorem d_Exists_any_2 : decode b_Exists_any 2 = .ok (.aload_n 0, 1) := by decide +kernel
theorem d_Exists_any_3 : decode b_Exists_any 3 = .ok (.getfield 11, 3) := by decide +kernel
theorem d_Exists_any_6 : decode b_Exists_any 6 = .ok (.imul, 1) := by decide +kernel
theorem d_Exists_any_7 : decode b_Exists_any 7 = .ok (.ishl, 1) := by decide +kernel
theorem d_Exists_any_8 : decode b_Exists_any 8 = .ok (.istore_n 3, 1) := by decide +kernel
theorem d_Exists_any_9 : decode b_Exists_any 9 = .ok (.lload_n 1, 1) := by decide +kernel
theorem d_Exists_any_10 : decode b_Exists_any 10 = .ok (.lload_n 1, 1) := by decide +kernel
theorem d_Exists_any_11 : decode b_Exists_any 11 = .ok (.iload_n 3, 1) := by decide +kernel
theorem d_Exists_any_12 : decode b_Exists_any 12 = .ok (.lushr, 1) := by decide +kernel
theorem d_Exists_any_13 : decode b_Exists_any 13 = .ok (.lor, 1) := by decide +kernel
theorem d_Exists_any_14 : decode b_Exists_any 14 = .ok (.lload_n 1, 1) := by decide +kernel
theorem d_Exists_any_15 : decode b_Exists_any 15 = .ok (.iconst 2, 1) := by decide +kernel
theorem d_Exists_any_16 : decode b_Exists_any 16 = .ok (.iload_n 3, 1) := by decide +kernel
theorem d_Exists_any_17 : decode b_Exists_any 17 = .ok (.imul, 1) := by decide +kernel
theorem d_Exists_any_18 : decode b_Exists_any 18 = .ok (.lushr, 1) := by decide +kernel
theorem d_Exists_any_19 : decode b_Exists_any 19 = .ok (.lor, 1) := by decide +kernel
theorem d_Exists_any_20 : decode b_Exists_any 20 = .ok (.lload_n 1, 1) := by decide +kernel
theorem d_Exists_any_21 : decode b_Exists_any 21 = .ok (.iconst 3, 1) := by decide +kernel
theorem d_Exists_any_22 : decode b_Exists_any 22 = .ok (.iload_n 3, 1) := by decide +kernel
theorem d_Exists_any_23 : decode b_Exists_any 23 = .ok (.imul, 1) := by decide +kernel
theorem d_Exists_any_24 : decode b_Exists_any 24 = .ok (.lushr, 1) := by decide +kernel
theorem d_Exists_any_25 : decode b_Exists_any 25 = .ok (.lor, 1) := by decide +kernel
theorem d_Exists_any_26 : decode b_Exists_any 26 = .ok (.getstatic 24, 3) := by decide +kernel
theorem d_Exists_any_29 : decode b_Exists_any 29 = .ok (.aload_n 0, 1) := by decide +kernel
theorem d_Exists_any_30 : decode b_Exists_any 30 = .ok (.getfield 11, 3) := by decide +kernel
theorem d_Exists_any_33 : decode b_Exists_any 33 = .ok (.laload, 1) := by decide +kernel
theorem d_Exists_any_34 : decode b_Exists_any 34 = .ok (.land, 1) := by decide +kernel
theorem d_Exists_any_35 : decode b_Exists_any 35 = .ok (.lstore 4, 2) := by decide +kernel
theorem d_Exists_any_37 : decode b_Exists_any 37 = .ok (.lload 4, 2) := by decide +kernel
theorem d_Exists_any_39 : decode b_Exists_any 39 = .ok (.lload 4, 2) := by decide +kernel
theorem d_Exists_any_41 : decode b_Exists_any 41 = .ok (.iload_n 3, 1) := by decide +kernel
theorem d_Exists_any_42 : decode b_Exists_any 42 = .ok (.lshl, 1) := by decide +kernel
theorem d_Exists_any_43 : decode b_Exists_any 43 = .ok (.lor, 1) := by decide +kernel
theorem d_Exists_any_44 : decode b_Exists_any 44 = .ok (.lload 4, 2) := by decide +kernel
theorem d_Exists_any_46 : decode b_Exists_any 46 = .ok (.iconst 2, 1) := by decide +kernel
theorem d_Exists_any_47 : decode b_Exists_any 47 = .ok (.iload_n 3, 1) := by decide +kernel
theorem d_Exists_any_48 : decode b_Exists_any 48 = .ok (.imul, 1) := by decide +kernel
theorem d_Exists_any_49 : decode b_Exists_any 49 = .ok (.lshl, 1) := by decide +kernel
theorem d_Exists_any_50 : decode b_Exists_any 50 = .ok (.lor, 1) := by decide +kernel
theorem d_Exists_any_51 : decode b_Exists_any 51 = .ok (.lload 4, 2) := by decide +kernel
theorem d_Exists_any_53 : decode b_Exists_any 53 = .ok (.iconst 3, 1) := by decide +kernel
theorem d_Exists_any_54 : decode b_Exists_any 54 = .ok (.iload_n 3, 1) := by decide +kernel
theorem d_Exists_any_55 : decode b_Exists_any 55 = .ok (.imul, 1) := by decide +kernel
theorem d_Exists_any_56 : decode b_Exists_any 56 = .ok (.lshl, 1) := by decide +kernel
theorem d_Exists_any_57 : decode b_Exists_any 57 = .ok (.lor, 1) := by decide +kernel
theorem d_Exists_any_58 : decode b_Exists_any 58 = .ok (.lreturn, 1) := by decide +kernel
theorem d_Join_advance_0 : decode b_Join_advance 0 = .ok (.aload_n 0, 1) := by decide +kernel
theorem d_Join_advance_1 : decode b_Join_advance 1 = .ok (.invokevirtual 21, 3) := by decide +kernel
theorem d_Join_advance_4 : decode b_Join_advance 4 = .ok (.istore_n 2, 1) := by decide +kernel
theorem d_Join_advance_5 : decode b_Join_advance 5 = .ok (.aload_n 0, 1) := by decide +kernel
theorem d_Join_advance_6 : decode b_Join_advance 6 = .ok (.getfield 25, 3) := by decide +kernel
theorem d_Join_advance_9 : decode b_Join_advance 9 = .ok (.iload_n 2, 1) := by decide +kernel
theorem d_Join_advance_10 : decode b_Join_advance 10 = .ok (.if_icmp .ge 70, 3) := by decide +kernel
theorem d_Join_advance_13 : decode b_Join_advance 13 = .ok (.aload_n 0, 1) := by decide +kernel
theorem d_Join_advance_14 : decode b_Join_advance 14 = .ok (.getfield 28, 3) := by decide +kernel
theorem d_Join_advance_17 : decode b_Join_advance 17 = .ok (.getfield 32, 3) := by decide +kernel
theorem d_Join_advance_20 : decode b_Join_advance 20 = .ok (.aload_n 0, 1) := by decide +kernel
theorem d_Join_advance_21 : decode b_Join_advance 21 = .ok (.getfield 25, 3) := by decide +kernel
theorem d_Join_advance_24 : decode b_Join_advance 24 = .ok (.laload, 1) := by decide +kernel
theorem d_Join_advance_25 : decode b_Join_advance 25 = .ok (.lstore_n 3, 1) := by decide +kernel
theorem d_Join_advance_26 : decode b_Join_advance 26 = .ok (.aload_n 0, 1) := by decide +kernel
theorem d_Join_advance_27 : decode b_Join_advance 27 = .ok (.getfield 36, 3) := by decide +kernel
theorem d_Join_advance_30 : decode b_Join_advance 30 = .ok (.getfield 32, 3) := by decide +kernel
theorem d_Join_advance_33 : decode b_Join_advance 33 = .ok (.aload_n 0, 1) := by decide +kernel
theorem d_Join_advance_34 : decode b_Join_advance 34 = .ok (.getfield 25, 3) := by decide +kernel
theorem d_Join_advance_37 : decode b_Join_advance 37 = .ok (.laload, 1) := by decide +kernel
theorem d_Join_advance_38 : decode b_Join_advance 38 = .ok (.lstore 5, 2) := by decide +kernel
theorem d_Join_advance_40 : decode b_Join_advance 40 = .ok (.aload_n 0, 1) := by decide +kernel
theorem d_Join_advance_41 : decode b_Join_advance 41 = .ok (.getfield 39, 3) := by decide +kernel
theorem d_Join_advance_44 : decode b_Join_advance 44 = .ok (.aload_n 0, 1) := by decide +kernel
theorem d_Join_advance_45 : decode b_Join_advance 45 = .ok (.getfield 25, 3) := by decide +kernel
theorem d_Join_advance_48 : decode b_Join_advance 48 = .ok (.aload_n 0, 1) := by decide +kernel
theorem d_Join_advance_49 : decode b_Join_advance 49 = .ok (.getfield 11, 3) := by decide +kernel
theorem d_Join_advance_52 : decode b_Join_advance 52 = .ok (.ifCond .eq 10, 3) := by decide +kernel
theorem d_Join_advance_55 : decode b_Join_advance 55 = .ok (.lload_n 3, 1) := by decide +kernel
theorem d_Join_advance_56 : decode b_Join_advance 56 = .ok (.lload 5, 2) := by decide +kernel
theorem d_Join_advance_58 : decode b_Join_advance 58 = .ok (.land, 1) := by decide +kernel
theorem d_Join_advance_59 : decode b_Join_advance 59 = .ok (.goto 7, 3) := by decide +kernel
theorem d_Join_advance_62 : decode b_Join_advance 62 = .ok (.lload_n 3, 1) := by decide +kernel
theorem d_Join_advance_63 : decode b_Join_advance 63 = .ok (.lload 5, 2) := by decide +kernel
theorem d_Join_advance_65 : decode b_Join_advance 65 = .ok (.lor, 1) := by decide +kernel
theorem d_Join_advance_66 : decode b_Join_advance 66 = .ok (.lastore, 1) := by decide +kernel
theorem d_Join_advance_67 : decode b_Join_advance 67 = .ok (.aload_n 0, 1) := by decide +kernel
theorem d_Join_advance_68 : decode b_Join_advance 68 = .ok (.dup, 1) := by decide +kernel
theorem d_Join_advance_69 : decode b_Join_advance 69 = .ok (.getfield 25, 3) := by decide +kernel
theorem d_Join_advance_72 : decode b_Join_advance 72 = .ok (.iconst 1, 1) := by decide +kernel
theorem d_Join_advance_73 : decode b_Join_advance 73 = .ok (.iadd, 1) := by decide +kernel
theorem d_Join_advance_74 : decode b_Join_advance 74 = .ok (.putfield 25, 3) := by decide +kernel
theorem d_Join_advance_77 : decode b_Join_advance 77 = .ok (.goto (-72), 3) := by decide +kernel
theorem d_Join_advance_80 : decode b_Join_advance 80 = .ok (.return_, 1) := by decide +kernel
theorem d_Formula_both_0 : decode b_Formula_both 0 = .ok (.aload_n 0, 1) := by decide +kernel
theorem d_Formula_both_1 : decode b_Formula_both 1 = .ok (.getfield 17, 3) := by decide +kernel
theorem d_Formula_both_4 : decode b_Formula_both 4 = .ok (.getfield 28, 3) := by decide +kernel
theorem d_Formula_both_7 : decode b_Formula_both 7 = .ok (.aload_n 0, 1) := by decide +kernel
theorem d_Formula_both_8 : decode b_Formula_both 8 = .ok (.getfield 21, 3) := by decide +kernel
theorem d_Formula_both_11 : decode b_Formula_both 11 = .ok (.getfield 28, 3) := by decide +kernel
theorem d_Formula_both_14 : decode b_Formula_both 14 = .ok (.invokestatic 31, 3) := by decide +kernel
theorem d_Formula_both_17 : decode b_Formula_both 17 = .ok (.ireturn, 1) := by decide +kernel
theorem d_Not_advance_0 : decode b_Not_advance 0 = .ok (.aload_n 0, 1) := by decide +kernel
theorem d_Not_advance_1 : decode b_Not_advance 1 = .ok (.getfield 11, 3) := by decide +kernel
theorem d_Not_advance_4 : decode b_Not_advance 4 = .ok (.aload_n 0, 1) := by decide +kernel
theorem d_Not_advance_5 : decode b_Not_advance 5 = .ok (.getfield 16, 3) := by decide +kernel
theorem d_Not_advance_8 : decode b_Not_advance 8 = .ok (.getfield 20, 3) := by decide +kernel
theorem d_Not_advance_11 : decode b_Not_advance 11 = .ok (.if_icmp .ge 41, 3) := by decide +kernel
theorem d_Not_advance_14 : decode b_Not_advance 14 = .ok (.aload_n 0, 1) := by decide +kernel
theorem d_Not_advance_15 : decode b_Not_advance 15 = .ok (.getfield 21, 3) := by decide +kernel
theorem d_Not_advance_18 : decode b_Not_advance 18 = .ok (.aload_n 0, 1) := by decide +kernel
theorem d_Not_advance_19 : decode b_Not_advance 19 = .ok (.getfield 11, 3) := by decide +kernel
theorem d_Not_advance_22 : decode b_Not_advance 22 = .ok (.aload_n 0, 1) := by decide +kernel
theorem d_Not_advance_23 : decode b_Not_advance 23 = .ok (.getfield 16, 3) := by decide +kernel
theorem d_Not_advance_26 : decode b_Not_advance 26 = .ok (.getfield 25, 3) := by decide +kernel
theorem d_Not_advance_29 : decode b_Not_advance 29 = .ok (.aload_n 0, 1) := by decide +kernel
theorem d_Not_advance_30 : decode b_Not_advance 30 = .ok (.getfield 11, 3) := by decide +kernel
theorem d_Not_advance_33 : decode b_Not_advance 33 = .ok (.laload, 1) := by decide +kernel
theorem d_Not_advance_34 : decode b_Not_advance 34 = .ok (.ldc2_w 26, 3) := by decide +kernel
theorem d_Not_advance_37 : decode b_Not_advance 37 = .ok (.lxor, 1) := by decide +kernel
theorem d_Not_advance_38 : decode b_Not_advance 38 = .ok (.lastore, 1) := by decide +kernel
theorem d_Not_advance_39 : decode b_Not_advance 39 = .ok (.aload_n 0, 1) := by decide +kernel
theorem d_Not_advance_40 : decode b_Not_advance 40 = .ok (.dup, 1) := by decide +kernel
theorem d_Not_advance_41 : decode b_Not_advance 41 = .ok (.getfield 11, 3) := by decide +kernel
theorem d_Not_advance_44 : decode b_Not_advance 44 = .ok (.iconst 1, 1) := by decide +kernel
theorem d_Not_advance_45 : decode b_Not_advance 45 = .ok (.iadd, 1) := by decide +kernel
theorem d_Not_advance_46 : decode b_Not_advance 46 = .ok (.putfield 11, 3) := by decide +kernel
theorem d_Not_advance_49 : decode b_Not_advance 49 = .ok (.goto (-49), 3) := by decide +kernel
theorem d_Not_advance_52 : decode b_Not_advance 52 = .ok (.return_, 1) := by decide +kernel
theorem d_Previous_advance_0 : decode b_Previous_advance 0 = .ok (.aload_n 0, 1) := by decide +kernel
theorem d_Previous_advance_1 : decode b_Previous_advance 1 = .ok (.getfield 21, 3) := by decide +kernel
theorem d_Previous_advance_4 : decode b_Previous_advance 4 = .ok (.aload_n 1, 1) := by decide +kernel
theorem d_Previous_advance_5 : decode b_Previous_advance 5 = .ok (.getfield 24, 3) := by decide +kernel
theorem d_Previous_advance_8 : decode b_Previous_advance 8 = .ok (.if_icmp .ge 98, 3) := by decide +kernel
theorem d_Previous_advance_11 : decode b_Previous_advance 11 = .ok (.aload_n 0, 1) := by decide +kernel
theorem d_Previous_advance_12 : decode b_Previous_advance 12 = .ok (.getfield 21, 3) := by decide +kernel
theorem d_Previous_advance_15 : decode b_Previous_advance 15 = .ok (.aload_n 0, 1) := by decide +kernel
theorem d_Previous_advance_16 : decode b_Previous_advance 16 = .ok (.getfield 29, 3) := by decide +kernel
theorem d_Previous_advance_19 : decode b_Previous_advance 19 = .ok (.getfield 33, 3) := by decide +kernel
theorem d_Previous_advance_22 : decode b_Previous_advance 22 = .ok (.if_icmp .gt 84, 3) := by decide +kernel
theorem d_Previous_advance_25 : decode b_Previous_advance 25 = .ok (.aload_n 0, 1) := by decide +kernel
theorem d_Previous_advance_26 : decode b_Previous_advance 26 = .ok (.getfield 21, 3) := by decide +kernel
theorem d_Previous_advance_29 : decode b_Previous_advance 29 = .ok (.ifCond .le 31, 3) := by decide +kernel
theorem d_Previous_advance_32 : decode b_Previous_advance 32 = .ok (.aload_n 0, 1) := by decide +kernel
theorem d_Previous_advance_33 : decode b_Previous_advance 33 = .ok (.getfield 11, 3) := by decide +kernel
theorem d_Previous_advance_36 : decode b_Previous_advance 36 = .ok (.aload_n 1, 1) := by decide +kernel
theorem d_Previous_advance_37 : decode b_Previous_advance 37 = .ok (.aload_n 0, 1) := by decide +kernel
theorem d_Previous_advance_38 : decode b_Previous_advance 38 = .ok (.getfield 21, 3) := by decide +kernel
theorem d_Previous_advance_41 : decode b_Previous_advance 41 = .ok (.iconst 1, 1) := by decide +kernel
theorem d_Previous_advance_42 : decode b_Previous_advance 42 = .ok (.isub, 1) := by decide +kernel
theorem d_Previous_advance_43 : decode b_Previous_advance 43 = .ok (.aload_n 0, 1) := by decide +kernel
theorem d_Previous_advance_44 : decode b_Previous_advance 44 = .ok (.getfield 21, 3) := by decide +kernel
theorem d_Previous_advance_47 : decode b_Previous_advance 47 = .ok (.invokevirtual 34, 3) := by decide +kernel
theorem d_Previous_advance_50 : decode b_Previous_advance 50 = .ok (.invokevirtual 38, 3) := by decide +kernel
theorem d_Previous_advance_53 : decode b_Previous_advance 53 = .ok (.ifCond .eq 7, 3) := by decide +kernel
theorem d_Previous_advance_56 : decode b_Previous_advance 56 = .ok (.iconst 1, 1) := by decide +kernel
theorem d_Previous_advance_57 : decode b_Previous_advance 57 = .ok (.goto 4, 3) := by decide +kernel
theorem d_Previous_advance_60 : decode b_Previous_advance 60 = .ok (.iconst 0, 1) := by decide +kernel
theorem d_Previous_advance_61 : decode b_Previous_advance 61 = .ok (.istore_n 2, 1) := by decide +kernel
theorem d_Previous_advance_62 : decode b_Previous_advance 62 = .ok (.aload_n 0, 1) := by decide +kernel
theorem d_Previous_advance_63 : decode b_Previous_advance 63 = .ok (.getfield 44, 3) := by decide +kernel
theorem d_Previous_advance_66 : decode b_Previous_advance 66 = .ok (.aload_n 0, 1) := by decide +kernel
theorem d_Previous_advance_67 : decode b_Previous_advance 67 = .ok (.getfield 21, 3) := by decide +kernel
theorem d_Previous_advance_70 : decode b_Previous_advance 70 = .ok (.iload_n 2, 1) := by decide +kernel
theorem d_Previous_advance_71 : decode b_Previous_advance 71 = .ok (.ifCond .eq 20, 3) := by decide +kernel
theorem d_Previous_advance_74 : decode b_Previous_advance 74 = .ok (.aload_n 0, 1) := by decide +kernel
theorem d_Previous_advance_75 : decode b_Previous_advance 75 = .ok (.getfield 29, 3) := by decide +kernel
theorem d_Previous_advance_78 : decode b_Previous_advance 78 = .ok (.getfield 48, 3) := by decide +kernel
theorem d_Previous_advance_81 : decode b_Previous_advance 81 = .ok (.aload_n 0, 1) := by decide +kernel
theorem d_Previous_advance_82 : decode b_Previous_advance 82 = .ok (.getfield 21, 3) := by decide +kernel
theorem d_Previous_advance_85 : decode b_Previous_advance 85 = .ok (.iconst 1, 1) := by decide +kernel
theorem d_Previous_advance_86 : decode b_Previous_advance 86 = .ok (.isub, 1) := by decide +kernel
theorem d_Previous_advance_87 : decode b_Previous_advance 87 = .ok (.laload, 1) := by decide +kernel
theorem d_Previous_advance_88 : decode b_Previous_advance 88 = .ok (.goto 4, 3) := by decide +kernel
theorem d_Previous_advance_91 : decode b_Previous_advance 91 = .ok (.lconst 0, 1) := by decide +kernel
theorem d_Previous_advance_92 : decode b_Previous_advance 92 = .ok (.lastore, 1) := by decide +kernel
theorem d_Previous_advance_93 : decode b_Previous_advance 93 = .ok (.aload_n 0, 1) := by decide +kernel
theorem d_Previous_advance_94 : decode b_Previous_advance 94 = .ok (.dup, 1) := by decide +kernel
theorem d_Previous_advance_95 : decode b_Previous_advance 95 = .ok (.getfield 21, 3) := by decide +kernel
theorem d_Previous_advance_98 : decode b_Previous_advance 98 = .ok (.iconst 1, 1) := by decide +kernel
theorem d_Previous_advance_99 : decode b_Previous_advance 99 = .ok (.iadd, 1) := by decide +kernel
theorem d_Previous_advance_100 : decode b_Previous_advance 100 = .ok (.putfield 21, 3) := by decide +kernel
theorem d_Previous_advance_103 : decode b_Previous_advance 103 = .ok (.goto (-103), 3) := by decide +kernel
theorem d_Previous_advance_106 : decode b_Previous_advance 106 = .ok (.return_, 1) := by decide +kernel
theorem d_Log_between_0 : decode b_Log_between 0 = .ok (.aload_n 0, 1) := by decide +kernel
theorem d_Log_between_1 : decode b_Log_between 1 = .ok (.getfield 7, 3) := by decide +kernel
theorem d_Log_between_4 : decode b_Log_between 4 = .ok (.iload_n 2, 1) := by decide +kernel
theorem d_Log_between_5 : decode b_Log_between 5 = .ok (.iaload, 1) := by decide +kernel
theorem d_Log_between_6 : decode b_Log_between 6 = .ok (.aload_n 0, 1) := by decide +kernel
theorem d_Log_between_7 : decode b_Log_between 7 = .ok (.getfield 7, 3) := by decide +kernel
theorem d_Log_between_10 : decode b_Log_between 10 = .ok (.iload_n 1, 1) := by decide +kernel
theorem d_Log_between_11 : decode b_Log_between 11 = .ok (.iaload, 1) := by decide +kernel
theorem d_Log_between_12 : decode b_Log_between 12 = .ok (.isub, 1) := by decide +kernel
theorem d_Log_between_13 : decode b_Log_between 13 = .ok (.ireturn, 1) := by decide +kernel
theorem d_Interval_has_0 : decode b_Interval_has 0 = .ok (.iload_n 1, 1) := by decide +kernel
theorem d_Interval_has_1 : decode b_Interval_has 1 = .ok (.aload_n 0, 1) := by decide +kernel
theorem d_Interval_has_2 : decode b_Interval_has 2 = .ok (.getfield 9, 3) := by decide +kernel
theorem d_Interval_has_5 : decode b_Interval_has 5 = .ok (.if_icmp .lt 23, 3) := by decide +kernel
theorem d_Interval_has_8 : decode b_Interval_has 8 = .ok (.aload_n 0, 1) := by decide +kernel
theorem d_Interval_has_9 : decode b_Interval_has 9 = .ok (.getfield 15, 3) := by decide +kernel
theorem d_Interval_has_12 : decode b_Interval_has 12 = .ok (.iconst (-1), 1) := by decide +kernel
theorem d_Interval_has_13 : decode b_Interval_has 13 = .ok (.if_icmp .eq 11, 3) := by decide +kernel
theorem d_Interval_has_16 : decode b_Interval_has 16 = .ok (.iload_n 1, 1) := by decide +kernel
theorem d_Interval_has_17 : decode b_Interval_has 17 = .ok (.aload_n 0, 1) := by decide +kernel
theorem d_Interval_has_18 : decode b_Interval_has 18 = .ok (.getfield 15, 3) := by decide +kernel
theorem d_Interval_has_21 : decode b_Interval_has 21 = .ok (.if_icmp .gt 7, 3) := by decide +kernel
theorem d_Interval_has_24 : decode b_Interval_has 24 = .ok (.iconst 1, 1) := by decide +kernel
theorem d_Interval_has_25 : decode b_Interval_has 25 = .ok (.goto 4, 3) := by decide +kernel
theorem d_Interval_has_28 : decode b_Interval_has 28 = .ok (.iconst 0, 1) := by decide +kernel
theorem d_Interval_has_29 : decode b_Interval_has 29 = .ok (.ireturn, 1) := by decide +kernel
theorem d_Since_advance_0 : decode b_Since_advance 0 = .ok (.aload_n 0, 1) := by decide +kernel
theorem d_Since_advance_1 : decode b_Since_advance 1 = .ok (.invokevirtual 33, 3) := by decide +kernel
theorem d_Since_advance_4 : decode b_Since_advance 4 = .ok (.istore_n 2, 1) := by decide +kernel
theorem d_Since_advance_5 : decode b_Since_advance 5 = .ok (.aload_n 0, 1) := by decide +kernel
theorem d_Since_advance_6 : decode b_Since_advance 6 = .ok (.getfield 27, 3) := by decide +kernel
theorem d_Since_advance_9 : decode b_Since_advance 9 = .ok (.iload_n 2, 1) := by decide +kernel
theorem d_Since_advance_10 : decode b_Since_advance 10 = .ok (.if_icmp .ge 187, 3) := by decide +kernel
theorem d_Since_advance_13 : decode b_Since_advance 13 = .ok (.aload_n 0, 1) := by decide +kernel
theorem d_Since_advance_14 : decode b_Since_advance 14 = .ok (.getfield 13, 3) := by decide +kernel
theorem d_Since_advance_17 : decode b_Since_advance 17 = .ok (.aload_n 0, 1) := by decide +kernel
theorem d_Since_advance_18 : decode b_Since_advance 18 = .ok (.getfield 27, 3) := by decide +kernel
theorem d_Since_advance_21 : decode b_Since_advance 21 = .ok (.aload_n 0, 1) := by decide +kernel
theorem d_Since_advance_22 : decode b_Since_advance 22 = .ok (.getfield 37, 3) := by decide +kernel
theorem d_Since_advance_25 : decode b_Since_advance 25 = .ok (.getfield 41, 3) := by decide +kernel
theorem d_Since_advance_28 : decode b_Since_advance 28 = .ok (.aload_n 0, 1) := by decide +kernel
theorem d_Since_advance_29 : decode b_Since_advance 29 = .ok (.getfield 27, 3) := by decide +kernel
theorem d_Since_advance_32 : decode b_Since_advance 32 = .ok (.laload, 1) := by decide +kernel
theorem d_Since_advance_33 : decode b_Since_advance 33 = .ok (.lastore, 1) := by decide +kernel
theorem d_Since_advance_34 : decode b_Since_advance 34 = .ok (.aload_n 0, 1) := by decide +kernel
theorem d_Since_advance_35 : decode b_Since_advance 35 = .ok (.getfield 19, 3) := by decide +kernel
theorem d_Since_advance_38 : decode b_Since_advance 38 = .ok (.invokevirtual 44, 3) := by decide +kernel
theorem d_Since_advance_41 : decode b_Since_advance 41 = .ok (.iconst (-1), 1) := by decide +kernel
theorem d_Since_advance_42 : decode b_Since_advance 42 = .ok (.if_icmp .eq 38, 3) := by decide +kernel
theorem d_Since_advance_45 : decode b_Since_advance 45 = .ok (.aload_n 1, 1) := by decide +kernel
theorem d_Since_advance_46 : decode b_Since_advance 46 = .ok (.aload_n 0, 1) := by decide +kernel
theorem d_Since_advance_47 : decode b_Since_advance 47 = .ok (.getfield 30, 3) := by decide +kernel
theorem d_Since_advance_50 : decode b_Since_advance 50 = .ok (.aload_n 0, 1) := by decide +kernel
theorem d_Since_advance_51 : decode b_Since_advance 51 = .ok (.getfield 27, 3) := by decide +kernel
theorem d_Since_advance_54 : decode b_Since_advance 54 = .ok (.invokevirtual 49, 3) := by decide +kernel
theorem d_Since_advance_57 : decode b_Since_advance 57 = .ok (.aload_n 0, 1) := by decide +kernel
theorem d_Since_advance_58 : decode b_Since_advance 58 = .ok (.getfield 19, 3) := by decide +kernel
theorem d_Since_advance_61 : decode b_Since_advance 61 = .ok (.invokevirtual 44, 3) := by decide +kernel
theorem d_Since_advance_64 : decode b_Since_advance 64 = .ok (.if_icmp .le 16, 3) := by decide +kernel
theorem d_Since_advance_67 : decode b_Since_advance 67 = .ok (.aload_n 0, 1) := by decide +kernel
theorem d_Since_advance_68 : decode b_Since_advance 68 = .ok (.dup, 1) := by decide +kernel
theorem d_Since_advance_69 : decode b_Since_advance 69 = .ok (.getfield 30, 3) := by decide +kernel
theorem d_Since_advance_72 : decode b_Since_advance 72 = .ok (.iconst 1, 1) := by decide +kernel
theorem d_Since_advance_73 : decode b_Since_advance 73 = .ok (.iadd, 1) := by decide +kernel
theorem d_Since_advance_74 : decode b_Since_advance 74 = .ok (.putfield 30, 3) := by decide +kernel
theorem d_Since_advance_77 : decode b_Since_advance 77 = .ok (.goto (-43), 3) := by decide +kernel
theorem d_Since_advance_80 : decode b_Since_advance 80 = .ok (.lconst 0, 1) := by decide +kernel
theorem d_Since_advance_81 : decode b_Since_advance 81 = .ok (.lstore_n 3, 1) := by decide +kernel
theorem d_Since_advance_82 : decode b_Since_advance 82 = .ok (.aload_n 0, 1) := by decide +kernel
theorem d_Since_advance_83 : decode b_Since_advance 83 = .ok (.getfield 30, 3) := by decide +kernel
theorem d_Since_advance_86 : decode b_Since_advance 86 = .ok (.istore 5, 2) := by decide +kernel
theorem d_Since_advance_88 : decode b_Since_advance 88 = .ok (.iload 5, 2) := by decide +kernel
theorem d_Since_advance_90 : decode b_Since_advance 90 = .ok (.aload_n 0, 1) := by decide +kernel
theorem d_Since_advance_91 : decode b_Since_advance 91 = .ok (.getfield 27, 3) := by decide +kernel
theorem d_Since_advance_94 : decode b_Since_advance 94 = .ok (.if_icmp .gt 80, 3) := by decide +kernel
theorem d_Since_advance_97 : decode b_Since_advance 97 = .ok (.aload_n 0, 1) := by decide +kernel
theorem d_Since_advance_98 : decode b_Since_advance 98 = .ok (.getfield 13, 3) := by decide +kernel
theorem d_Since_advance_101 : decode b_Since_advance 101 = .ok (.iload 5, 2) := by decide +kernel
theorem d_Since_advance_103 : decode b_Since_advance 103 = .ok (.dup2, 1) := by decide +kernel
theorem d_Since_advance_104 : decode b_Since_advance 104 = .ok (.laload, 1) := by decide +kernel
theorem d_Since_advance_105 : decode b_Since_advance 105 = .ok (.iload 5, 2) := by decide +kernel
theorem d_Since_advance_107 : decode b_Since_advance 107 = .ok (.aload_n 0, 1) := by decide +kernel
theorem d_Since_advance_108 : decode b_Since_advance 108 = .ok (.getfield 27, 3) := by decide +kernel
theorem d_Since_advance_111 : decode b_Since_advance 111 = .ok (.if_icmp .ge 18, 3) := by decide +kernel
theorem d_Since_advance_114 : decode b_Since_advance 114 = .ok (.aload_n 0, 1) := by decide +kernel
theorem d_Since_advance_115 : decode b_Since_advance 115 = .ok (.getfield 55, 3) := by decide +kernel
theorem d_Since_advance_118 : decode b_Since_advance 118 = .ok (.getfield 41, 3) := by decide +kernel
theorem d_Since_advance_121 : decode b_Since_advance 121 = .ok (.aload_n 0, 1) := by decide +kernel
theorem d_Since_advance_122 : decode b_Since_advance 122 = .ok (.getfield 27, 3) := by decide +kernel
theorem d_Since_advance_125 : decode b_Since_advance 125 = .ok (.laload, 1) := by decide +kernel
theorem d_Since_advance_126 : decode b_Since_advance 126 = .ok (.goto 6, 3) := by decide +kernel
theorem d_Since_advance_129 : decode b_Since_advance 129 = .ok (.ldc2_w 58, 3) := by decide +kernel
theorem d_Since_advance_132 : decode b_Since_advance 132 = .ok (.land, 1) := by decide +kernel
theorem d_Since_advance_133 : decode b_Since_advance 133 = .ok (.lastore, 1) := by decide +kernel
theorem d_Since_advance_134 : decode b_Since_advance 134 = .ok (.lload_n 3, 1) := by decide +kernel
theorem d_Since_advance_135 : decode b_Since_advance 135 = .ok (.aload_n 0, 1) := by decide +kernel
theorem d_Since_advance_136 : decode b_Since_advance 136 = .ok (.getfield 19, 3) := by decide +kernel
theorem d_Since_advance_139 : decode b_Since_advance 139 = .ok (.aload_n 1, 1) := by decide +kernel
theorem d_Since_advance_140 : decode b_Since_advance 140 = .ok (.iload 5, 2) := by decide +kernel
theorem d_Since_advance_142 : decode b_Since_advance 142 = .ok (.aload_n 0, 1) := by decide +kernel
theorem d_Since_advance_143 : decode b_Since_advance 143 = .ok (.getfield 27, 3) := by decide +kernel
theorem d_Since_advance_146 : decode b_Since_advance 146 = .ok (.invokevirtual 49, 3) := by decide +kernel
theorem d_Since_advance_149 : decode b_Since_advance 149 = .ok (.invokevirtual 60, 3) := by decide +kernel
theorem d_Since_advance_152 : decode b_Since_advance 152 = .ok (.ifCond .eq 13, 3) := by decide +kernel
theorem d_Since_advance_155 : decode b_Since_advance 155 = .ok (.aload_n 0, 1) := by decide +kernel
theorem d_Since_advance_156 : decode b_Since_advance 156 = .ok (.getfield 13, 3) := by decide +kernel
theorem d_Since_advance_159 : decode b_Since_advance 159 = .ok (.iload 5, 2) := by decide +kernel
theorem d_Since_advance_161 : decode b_Since_advance 161 = .ok (.laload, 1) := by decide +kernel
theorem d_Since_advance_162 : decode b_Since_advance 162 = .ok (.goto 4, 3) := by decide +kernel
theorem d_Since_advance_165 : decode b_Since_advance 165 = .ok (.lconst 0, 1) := by decide +kernel
theorem d_Since_advance_166 : decode b_Since_advance 166 = .ok (.lor, 1) := by decide +kernel
theorem d_Since_advance_167 : decode b_Since_advance 167 = .ok (.lstore_n 3, 1) := by decide +kernel
theorem d_Since_advance_168 : decode b_Since_advance 168 = .ok (.iinc 5 1, 3) := by decide +kernel
theorem d_Since_advance_171 : decode b_Since_advance 171 = .ok (.goto (-83), 3) := by decide +kernel
theorem d_Since_advance_174 : decode b_Since_advance 174 = .ok (.aload_n 0, 1) := by decide +kernel
theorem d_Since_advance_175 : decode b_Since_advance 175 = .ok (.getfield 64, 3) := by decide +kernel
theorem d_Since_advance_178 : decode b_Since_advance 178 = .ok (.aload_n 0, 1) := by decide +kernel
theorem d_Since_advance_179 : decode b_Since_advance 179 = .ok (.getfield 27, 3) := by decide +kernel
theorem d_Since_advance_182 : decode b_Since_advance 182 = .ok (.lload_n 3, 1) := by decide +kernel
theorem d_Since_advance_183 : decode b_Since_advance 183 = .ok (.lastore, 1) := by decide +kernel
theorem d_Since_advance_184 : decode b_Since_advance 184 = .ok (.aload_n 0, 1) := by decide +kernel
theorem d_Since_advance_185 : decode b_Since_advance 185 = .ok (.dup, 1) := by decide +kernel
theorem d_Since_advance_186 : decode b_Since_advance 186 = .ok (.getfield 27, 3) := by decide +kernel
theorem d_Since_advance_189 : decode b_Since_advance 189 = .ok (.iconst 1, 1) := by decide +kernel
theorem d_Since_advance_190 : decode b_Since_advance 190 = .ok (.iadd, 1) := by decide +kernel
theorem d_Since_advance_191 : decode b_Since_advance 191 = .ok (.putfield 27, 3) := by decide +kernel
theorem d_Since_advance_194 : decode b_Since_advance 194 = .ok (.goto (-189), 3) := by decide +kernel
theorem d_Since_advance_197 : decode b_Since_advance 197 = .ok (.return_, 1) := by decide +kernel
theorem d_Interval_hi_0 : decode b_Interval_hi 0 = .ok (.aload_n 0, 1) := by decide +kernel
theorem d_Interval_hi_1 : decode b_Interval_hi 1 = .ok (.getfield 15, 3) := by decide +kernel
theorem d_Interval_hi_4 : decode b_Interval_hi 4 = .ok (.ireturn, 1) := by decide +kernel
theorem d_Until_advance_0 : decode b_Until_advance 0 = .ok (.aload_n 0, 1) := by decide +kernel
theorem d_Until_advance_1 : decode b_Until_advance 1 = .ok (.invokevirtual 56, 3) := by decide +kernel
theorem d_Until_advance_4 : decode b_Until_advance 4 = .ok (.istore_n 2, 1) := by decide +kernel
theorem d_Until_advance_5 : decode b_Until_advance 5 = .ok (.aload_n 0, 1) := by decide +kernel
theorem d_Until_advance_6 : decode b_Until_advance 6 = .ok (.getfield 28, 3) := by decide +kernel
theorem d_Until_advance_9 : decode b_Until_advance 9 = .ok (.iload_n 2, 1) := by decide +kernel
theorem d_Until_advance_10 : decode b_Until_advance 10 = .ok (.if_icmp .ge 21, 3) := by decide +kernel
theorem d_Until_advance_13 : decode b_Until_advance 13 = .ok (.aload_n 0, 1) := by decide +kernel
theorem d_Until_advance_14 : decode b_Until_advance 14 = .ok (.aload_n 1, 1) := by decide +kernel
theorem d_Until_advance_15 : decode b_Until_advance 15 = .ok (.invokevirtual 60, 3) := by decide +kernel
theorem d_Until_advance_18 : decode b_Until_advance 18 = .ok (.aload_n 0, 1) := by decide +kernel
theorem d_Until_advance_19 : decode b_Until_advance 19 = .ok (.dup, 1) := by decide +kernel
theorem d_Until_advance_20 : decode b_Until_advance 20 = .ok (.getfield 28, 3) := by decide +kernel
theorem d_Until_advance_23 : decode b_Until_advance 23 = .ok (.iconst 1, 1) := by decide +kernel
theorem d_Until_advance_24 : decode b_Until_advance 24 = .ok (.iadd, 1) := by decide +kernel
theorem d_Until_advance_25 : decode b_Until_advance 25 = .ok (.putfield 28, 3) := by decide +kernel
theorem d_Until_advance_28 : decode b_Until_advance 28 = .ok (.goto (-23), 3) := by decide +kernel
theorem d_Until_advance_31 : decode b_Until_advance 31 = .ok (.aload_n 0, 1) := by decide +kernel
theorem d_Until_advance_32 : decode b_Until_advance 32 = .ok (.getfield 28, 3) := by decide +kernel
theorem d_Until_advance_35 : decode b_Until_advance 35 = .ok (.aload_n 1, 1) := by decide +kernel
theorem d_Until_advance_36 : decode b_Until_advance 36 = .ok (.getfield 64, 3) := by decide +kernel
theorem d_Until_advance_39 : decode b_Until_advance 39 = .ok (.if_icmp .ge 10, 3) := by decide +kernel
theorem d_Until_advance_42 : decode b_Until_advance 42 = .ok (.aload_n 0, 1) := by decide +kernel
theorem d_Until_advance_43 : decode b_Until_advance 43 = .ok (.getfield 28, 3) := by decide +kernel
theorem d_Until_advance_46 : decode b_Until_advance 46 = .ok (.goto 9, 3) := by decide +kernel
theorem d_Until_advance_49 : decode b_Until_advance 49 = .ok (.aload_n 1, 1) := by decide +kernel
theorem d_Until_advance_50 : decode b_Until_advance 50 = .ok (.getfield 64, 3) := by decide +kernel
theorem d_Until_advance_53 : decode b_Until_advance 53 = .ok (.iconst 1, 1) := by decide +kernel
theorem d_Until_advance_54 : decode b_Until_advance 54 = .ok (.isub, 1) := by decide +kernel
theorem d_Until_advance_55 : decode b_Until_advance 55 = .ok (.istore_n 2, 1) := by decide +kernel
theorem d_Until_advance_56 : decode b_Until_advance 56 = .ok (.aload_n 0, 1) := by decide +kernel
theorem d_Until_advance_57 : decode b_Until_advance 57 = .ok (.getfield 25, 3) := by decide +kernel
theorem d_Until_advance_60 : decode b_Until_advance 60 = .ok (.iload_n 2, 1) := by decide +kernel
theorem d_Until_advance_61 : decode b_Until_advance 61 = .ok (.if_icmp .ge 35, 3) := by decide +kernel
theorem d_Until_advance_64 : decode b_Until_advance 64 = .ok (.aload_n 1, 1) := by decide +kernel
theorem d_Until_advance_65 : decode b_Until_advance 65 = .ok (.aload_n 0, 1) := by decide +kernel
theorem d_Until_advance_66 : decode b_Until_advance 66 = .ok (.getfield 25, 3) := by decide +kernel
theorem d_Until_advance_69 : decode b_Until_advance 69 = .ok (.iload_n 2, 1) := by decide +kernel
theorem d_Until_advance_70 : decode b_Until_advance 70 = .ok (.invokevirtual 36, 3) := by decide +kernel
theorem d_Until_advance_73 : decode b_Until_advance 73 = .ok (.aload_n 0, 1) := by decide +kernel
theorem d_Until_advance_74 : decode b_Until_advance 74 = .ok (.getfield 17, 3) := by decide +kernel
theorem d_Until_advance_77 : decode b_Until_advance 77 = .ok (.invokevirtual 67, 3) := by decide +kernel
theorem d_Until_advance_80 : decode b_Until_advance 80 = .ok (.if_icmp .le 16, 3) := by decide +kernel
theorem d_Until_advance_83 : decode b_Until_advance 83 = .ok (.aload_n 0, 1) := by decide +kernel
theorem d_Until_advance_84 : decode b_Until_advance 84 = .ok (.dup, 1) := by decide +kernel
theorem d_Until_advance_85 : decode b_Until_advance 85 = .ok (.getfield 25, 3) := by decide +kernel
theorem d_Until_advance_88 : decode b_Until_advance 88 = .ok (.iconst 1, 1) := by decide +kernel
theorem d_Until_advance_89 : decode b_Until_advance 89 = .ok (.iadd, 1) := by decide +kernel
theorem d_Until_advance_90 : decode b_Until_advance 90 = .ok (.putfield 25, 3) := by decide +kernel
theorem d_Until_advance_93 : decode b_Until_advance 93 = .ok (.goto (-37), 3) := by decide +kernel
theorem d_Until_advance_96 : decode b_Until_advance 96 = .ok (.return_, 1) := by decide +kernel
theorem d_Until_see_0 : decode b_Until_see 0 = .ok (.aload_n 0, 1) := by decide +kernel
theorem d_Until_see_1 : decode b_Until_see 1 = .ok (.getfield 11, 3) := by decide +kernel
theorem d_Until_see_4 : decode b_Until_see 4 = .ok (.aload_n 0, 1) := by decide +kernel
theorem d_Until_see_5 : decode b_Until_see 5 = .ok (.getfield 28, 3) := by decide +kernel
theorem d_Until_see_8 : decode b_Until_see 8 = .ok (.ldc2_w 31, 3) := by decide +kernel
theorem d_Until_see_11 : decode b_Until_see 11 = .ok (.lastore, 1) := by decide +kernel
theorem d_Until_see_12 : decode b_Until_see 12 = .ok (.aload_n 0, 1) := by decide +kernel
theorem d_Until_see_13 : decode b_Until_see 13 = .ok (.getfield 33, 3) := by decide +kernel
theorem d_Until_see_16 : decode b_Until_see 16 = .ok (.aload_n 0, 1) := by decide +kernel
theorem d_Until_see_17 : decode b_Until_see 17 = .ok (.getfield 28, 3) := by decide +kernel
theorem d_Until_see_20 : decode b_Until_see 20 = .ok (.lconst 0, 1) := by decide +kernel
theorem d_Until_see_21 : decode b_Until_see 21 = .ok (.lastore, 1) := by decide +kernel
theorem d_Until_see_22 : decode b_Until_see 22 = .ok (.aload_n 0, 1) := by decide +kernel
theorem d_Until_see_23 : decode b_Until_see 23 = .ok (.getfield 25, 3) := by decide +kernel
theorem d_Until_see_26 : decode b_Until_see 26 = .ok (.istore_n 2, 1) := by decide +kernel
theorem d_Until_see_27 : decode b_Until_see 27 = .ok (.iload_n 2, 1) := by decide +kernel
theorem d_Until_see_28 : decode b_Until_see 28 = .ok (.aload_n 0, 1) := by decide +kernel
theorem d_Until_see_29 : decode b_Until_see 29 = .ok (.getfield 28, 3) := by decide +kernel
theorem d_Until_see_32 : decode b_Until_see 32 = .ok (.if_icmp .gt 77, 3) := by decide +kernel
theorem d_Until_see_35 : decode b_Until_see 35 = .ok (.aload_n 0, 1) := by decide +kernel
theorem d_Until_see_36 : decode b_Until_see 36 = .ok (.getfield 17, 3) := by decide +kernel
theorem d_Until_see_39 : decode b_Until_see 39 = .ok (.aload_n 1, 1) := by decide +kernel
theorem d_Until_see_40 : decode b_Until_see 40 = .ok (.iload_n 2, 1) := by decide +kernel
theorem d_Until_see_41 : decode b_Until_see 41 = .ok (.aload_n 0, 1) := by decide +kernel
theorem d_Until_see_42 : decode b_Until_see 42 = .ok (.getfield 28, 3) := by decide +kernel
theorem d_Until_see_45 : decode b_Until_see 45 = .ok (.invokevirtual 36, 3) := by decide +kernel
theorem d_Until_see_48 : decode b_Until_see 48 = .ok (.invokevirtual 42, 3) := by decide +kernel
theorem d_Until_see_51 : decode b_Until_see 51 = .ok (.ifCond .eq 31, 3) := by decide +kernel
theorem d_Until_see_54 : decode b_Until_see 54 = .ok (.aload_n 0, 1) := by decide +kernel
theorem d_Until_see_55 : decode b_Until_see 55 = .ok (.getfield 33, 3) := by decide +kernel
theorem d_Until_see_58 : decode b_Until_see 58 = .ok (.iload_n 2, 1) := by decide +kernel
theorem d_Until_see_59 : decode b_Until_see 59 = .ok (.dup2, 1) := by decide +kernel
theorem d_Until_see_60 : decode b_Until_see 60 = .ok (.laload, 1) := by decide +kernel
theorem d_Until_see_61 : decode b_Until_see 61 = .ok (.aload_n 0, 1) := by decide +kernel
theorem d_Until_see_62 : decode b_Until_see 62 = .ok (.getfield 11, 3) := by decide +kernel
theorem d_Until_see_65 : decode b_Until_see 65 = .ok (.iload_n 2, 1) := by decide +kernel
theorem d_Until_see_66 : decode b_Until_see 66 = .ok (.laload, 1) := by decide +kernel
theorem d_Until_see_67 : decode b_Until_see 67 = .ok (.aload_n 0, 1) := by decide +kernel
theorem d_Until_see_68 : decode b_Until_see 68 = .ok (.getfield 48, 3) := by decide +kernel
theorem d_Until_see_71 : decode b_Until_see 71 = .ok (.getfield 52, 3) := by decide +kernel
theorem d_Until_see_74 : decode b_Until_see 74 = .ok (.aload_n 0, 1) := by decide +kernel
theorem d_Until_see_75 : decode b_Until_see 75 = .ok (.getfield 28, 3) := by decide +kernel
theorem d_Until_see_78 : decode b_Until_see 78 = .ok (.laload, 1) := by decide +kernel
theorem d_Until_see_79 : decode b_Until_see 79 = .ok (.land, 1) := by decide +kernel
theorem d_Until_see_80 : decode b_Until_see 80 = .ok (.lor, 1) := by decide +kernel
theorem d_Until_see_81 : decode b_Until_see 81 = .ok (.lastore, 1) := by decide +kernel
theorem d_Until_see_82 : decode b_Until_see 82 = .ok (.aload_n 0, 1) := by decide +kernel
theorem d_Until_see_83 : decode b_Until_see 83 = .ok (.getfield 11, 3) := by decide +kernel
theorem d_Until_see_86 : decode b_Until_see 86 = .ok (.iload_n 2, 1) := by decide +kernel
theorem d_Until_see_87 : decode b_Until_see 87 = .ok (.dup2, 1) := by decide +kernel
theorem d_Until_see_88 : decode b_Until_see 88 = .ok (.laload, 1) := by decide +kernel
theorem d_Until_see_89 : decode b_Until_see 89 = .ok (.aload_n 0, 1) := by decide +kernel
theorem d_Until_see_90 : decode b_Until_see 90 = .ok (.getfield 53, 3) := by decide +kernel
theorem d_Until_see_93 : decode b_Until_see 93 = .ok (.getfield 52, 3) := by decide +kernel
theorem d_Until_see_96 : decode b_Until_see 96 = .ok (.aload_n 0, 1) := by decide +kernel
theorem d_Until_see_97 : decode b_Until_see 97 = .ok (.getfield 28, 3) := by decide +kernel
theorem d_Until_see_100 : decode b_Until_see 100 = .ok (.laload, 1) := by decide +kernel
theorem d_Until_see_101 : decode b_Until_see 101 = .ok (.land, 1) := by decide +kernel
theorem d_Until_see_102 : decode b_Until_see 102 = .ok (.lastore, 1) := by decide +kernel
theorem d_Until_see_103 : decode b_Until_see 103 = .ok (.iinc 2 1, 3) := by decide +kernel
theorem d_Until_see_106 : decode b_Until_see 106 = .ok (.goto (-79), 3) := by decide +kernel
theorem d_Until_see_109 : decode b_Until_see 109 = .ok (.return_, 1) := by decide +kernel
theorem d_Mon_stop_0 : decode b_Mon_stop 0 = .ok (.aload_n 0, 1) := by decide +kernel
theorem d_Mon_stop_1 : decode b_Mon_stop 1 = .ok (.iconst 0, 1) := by decide +kernel
theorem d_Mon_stop_2 : decode b_Mon_stop 2 = .ok (.putfield 39, 3) := by decide +kernel
theorem d_Mon_stop_5 : decode b_Mon_stop 5 = .ok (.iload_n 1, 1) := by decide +kernel
theorem d_Mon_stop_6 : decode b_Mon_stop 6 = .ok (.ifCond .eq 10, 3) := by decide +kernel
theorem d_Mon_stop_9 : decode b_Mon_stop 9 = .ok (.aload_n 0, 1) := by decide +kernel
theorem d_Mon_stop_10 : decode b_Mon_stop 10 = .ok (.getfield 18, 3) := by decide +kernel
theorem d_Mon_stop_13 : decode b_Mon_stop 13 = .ok (.invokevirtual 164, 3) := by decide +kernel
theorem d_Mon_stop_16 : decode b_Mon_stop 16 = .ok (.aload_n 0, 1) := by decide +kernel
theorem d_Mon_stop_17 : decode b_Mon_stop 17 = .ok (.invokevirtual 129, 3) := by decide +kernel
theorem d_Mon_stop_20 : decode b_Mon_stop 20 = .ok (.return_, 1) := by decide +kernel
theorem d_Mon_progress_0 : decode b_Mon_progress 0 = .ok (.aload_n 0, 1) := by decide +kernel
theorem d_Mon_progress_1 : decode b_Mon_progress 1 = .ok (.iload_n 1, 1) := by decide +kernel
theorem d_Mon_progress_2 : decode b_Mon_progress 2 = .ok (.invokevirtual 69, 3) := by decide +kernel
theorem d_Mon_progress_5 : decode b_Mon_progress 5 = .ok (.astore_n 2, 1) := by decide +kernel
theorem d_Mon_progress_6 : decode b_Mon_progress 6 = .ok (.aload_n 2, 1) := by decide +kernel
theorem d_Mon_progress_7 : decode b_Mon_progress 7 = .ok (.ifnonnull 7, 3) := by decide +kernel
theorem d_Mon_progress_10 : decode b_Mon_progress 10 = .ok (.iconst (-1), 1) := by decide +kernel
theorem d_Mon_progress_11 : decode b_Mon_progress 11 = .ok (.goto 7, 3) := by decide +kernel
theorem d_Mon_progress_14 : decode b_Mon_progress 14 = .ok (.aload_n 2, 1) := by decide +kernel
theorem d_Mon_progress_15 : decode b_Mon_progress 15 = .ok (.getfield 167, 3) := by decide +kernel
theorem d_Mon_progress_18 : decode b_Mon_progress 18 = .ok (.ireturn, 1) := by decide +kernel
theorem d_Mon_satisfied_0 : decode b_Mon_satisfied 0 = .ok (.aload_n 0, 1) := by decide +kernel
theorem d_Mon_satisfied_1 : decode b_Mon_satisfied 1 = .ok (.iload_n 1, 1) := by decide +kernel
theorem d_Mon_satisfied_2 : decode b_Mon_satisfied 2 = .ok (.invokevirtual 69, 3) := by decide +kernel
theorem d_Mon_satisfied_5 : decode b_Mon_satisfied 5 = .ok (.astore_n 3, 1) := by decide +kernel
theorem d_Mon_satisfied_6 : decode b_Mon_satisfied 6 = .ok (.aload_n 3, 1) := by decide +kernel
theorem d_Mon_satisfied_7 : decode b_Mon_satisfied 7 = .ok (.ifnull 15, 3) := by decide +kernel
theorem d_Mon_satisfied_10 : decode b_Mon_satisfied 10 = .ok (.iload_n 2, 1) := by decide +kernel
theorem d_Mon_satisfied_11 : decode b_Mon_satisfied 11 = .ok (.ifCond .lt 11, 3) := by decide +kernel
theorem d_Mon_satisfied_14 : decode b_Mon_satisfied 14 = .ok (.iload_n 2, 1) := by decide +kernel
theorem d_Mon_satisfied_15 : decode b_Mon_satisfied 15 = .ok (.aload_n 3, 1) := by decide +kernel
theorem d_Mon_satisfied_16 : decode b_Mon_satisfied 16 = .ok (.getfield 167, 3) := by decide +kernel
theorem d_Mon_satisfied_19 : decode b_Mon_satisfied 19 = .ok (.if_icmp .lt 7, 3) := by decide +kernel
theorem d_Mon_satisfied_22 : decode b_Mon_satisfied 22 = .ok (.lconst 0, 1) := by decide +kernel
theorem d_Mon_satisfied_23 : decode b_Mon_satisfied 23 = .ok (.goto 9, 3) := by decide +kernel
theorem d_Mon_satisfied_26 : decode b_Mon_satisfied 26 = .ok (.aload_n 3, 1) := by decide +kernel
theorem d_Mon_satisfied_27 : decode b_Mon_satisfied 27 = .ok (.getfield 170, 3) := by decide +kernel
theorem d_Mon_satisfied_30 : decode b_Mon_satisfied 30 = .ok (.iload_n 2, 1) := by decide +kernel
theorem d_Mon_satisfied_31 : decode b_Mon_satisfied 31 = .ok (.laload, 1) := by decide +kernel
theorem d_Mon_satisfied_32 : decode b_Mon_satisfied 32 = .ok (.lreturn, 1) := by decide +kernel
theorem d_Mon_rows_0 : decode b_Mon_rows 0 = .ok (.aload_n 0, 1) := by decide +kernel
theorem d_Mon_rows_1 : decode b_Mon_rows 1 = .ok (.iload_n 1, 1) := by decide +kernel
theorem d_Mon_rows_2 : decode b_Mon_rows 2 = .ok (.invokevirtual 69, 3) := by decide +kernel
theorem d_Mon_rows_5 : decode b_Mon_rows 5 = .ok (.astore_n 3, 1) := by decide +kernel
theorem d_Mon_rows_6 : decode b_Mon_rows 6 = .ok (.aload_n 3, 1) := by decide +kernel
theorem d_Mon_rows_7 : decode b_Mon_rows 7 = .ok (.ifnull 15, 3) := by decide +kernel
theorem d_Mon_rows_10 : decode b_Mon_rows 10 = .ok (.iload_n 2, 1) := by decide +kernel
theorem d_Mon_rows_11 : decode b_Mon_rows 11 = .ok (.ifCond .lt 11, 3) := by decide +kernel
theorem d_Mon_rows_14 : decode b_Mon_rows 14 = .ok (.iload_n 2, 1) := by decide +kernel
theorem d_Mon_rows_15 : decode b_Mon_rows 15 = .ok (.aload_n 3, 1) := by decide +kernel
theorem d_Mon_rows_16 : decode b_Mon_rows 16 = .ok (.getfield 167, 3) := by decide +kernel
theorem d_Mon_rows_19 : decode b_Mon_rows 19 = .ok (.if_icmp .lt 5, 3) := by decide +kernel
theorem d_Mon_rows_22 : decode b_Mon_rows 22 = .ok (.iconst (-1), 1) := by decide +kernel
theorem d_Mon_rows_23 : decode b_Mon_rows 23 = .ok (.ireturn, 1) := by decide +kernel
theorem d_Mon_rows_24 : decode b_Mon_rows 24 = .ok (.aload_n 3, 1) := by decide +kernel
theorem d_Mon_rows_25 : decode b_Mon_rows 25 = .ok (.getfield 170, 3) := by decide +kernel
theorem d_Mon_rows_28 : decode b_Mon_rows 28 = .ok (.iload_n 2, 1) := by decide +kernel
theorem d_Mon_rows_29 : decode b_Mon_rows 29 = .ok (.laload, 1) := by decide +kernel
theorem d_Mon_rows_30 : decode b_Mon_rows 30 = .ok (.invokestatic 173, 3) := by decide +kernel
theorem d_Mon_rows_33 : decode b_Mon_rows 33 = .ok (.istore 4, 2) := by decide +kernel
theorem d_Mon_rows_35 : decode b_Mon_rows 35 = .ok (.iload 4, 2) := by decide +kernel
theorem d_Mon_rows_37 : decode b_Mon_rows 37 = .ok (.iconst 2, 1) := by decide +kernel
theorem d_Mon_rows_38 : decode b_Mon_rows 38 = .ok (.iconst 3, 1) := by decide +kernel
theorem d_Mon_rows_39 : decode b_Mon_rows 39 = .ok (.aload_n 3, 1) := by decide +kernel
theorem d_Mon_rows_40 : decode b_Mon_rows 40 = .ok (.getfield 110, 3) := by decide +kernel
theorem d_Mon_rows_43 : decode b_Mon_rows 43 = .ok (.invokestatic 179, 3) := by decide +kernel
theorem d_Mon_rows_46 : decode b_Mon_rows 46 = .ok (.isub, 1) := by decide +kernel
theorem d_Mon_rows_47 : decode b_Mon_rows 47 = .ok (.imul, 1) := by decide +kernel
theorem d_Mon_rows_48 : decode b_Mon_rows 48 = .ok (.ishr, 1) := by decide +kernel
theorem d_Mon_rows_49 : decode b_Mon_rows 49 = .ok (.ireturn, 1) := by decide +kernel
