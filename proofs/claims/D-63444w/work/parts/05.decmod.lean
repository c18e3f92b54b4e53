theorem d_Mod_init_0 : decode b_Mod_init 0 = .ok (.aload_n 0, 1) := by decide +kernel
theorem d_Mod_init_1 : decode b_Mod_init 1 = .ok (.invokespecial 1, 3) := by decide +kernel
theorem d_Mod_init_4 : decode b_Mod_init 4 = .ok (.aload_n 0, 1) := by decide +kernel
theorem d_Mod_init_5 : decode b_Mod_init 5 = .ok (.bipush 12, 2) := by decide +kernel
theorem d_Mod_init_7 : decode b_Mod_init 7 = .ok (.newarray .int, 2) := by decide +kernel
theorem d_Mod_init_9 : decode b_Mod_init 9 = .ok (.putfield 7, 3) := by decide +kernel
theorem d_Mod_init_12 : decode b_Mod_init 12 = .ok (.aload_n 0, 1) := by decide +kernel
theorem d_Mod_init_13 : decode b_Mod_init 13 = .ok (.bipush 12, 2) := by decide +kernel
theorem d_Mod_init_15 : decode b_Mod_init 15 = .ok (.newarray .int, 2) := by decide +kernel
theorem d_Mod_init_17 : decode b_Mod_init 17 = .ok (.putfield 13, 3) := by decide +kernel
theorem d_Mod_init_20 : decode b_Mod_init 20 = .ok (.aload_n 0, 1) := by decide +kernel
theorem d_Mod_init_21 : decode b_Mod_init 21 = .ok (.bipush 12, 2) := by decide +kernel
theorem d_Mod_init_23 : decode b_Mod_init 23 = .ok (.newarray .int, 2) := by decide +kernel
theorem d_Mod_init_25 : decode b_Mod_init 25 = .ok (.putfield 16, 3) := by decide +kernel
theorem d_Mod_init_28 : decode b_Mod_init 28 = .ok (.aload_n 0, 1) := by decide +kernel
theorem d_Mod_init_29 : decode b_Mod_init 29 = .ok (.bipush 12, 2) := by decide +kernel
theorem d_Mod_init_31 : decode b_Mod_init 31 = .ok (.newarray .int, 2) := by decide +kernel
theorem d_Mod_init_33 : decode b_Mod_init 33 = .ok (.putfield 19, 3) := by decide +kernel
theorem d_Mod_init_36 : decode b_Mod_init 36 = .ok (.aload_n 0, 1) := by decide +kernel
theorem d_Mod_init_37 : decode b_Mod_init 37 = .ok (.bipush 12, 2) := by decide +kernel
theorem d_Mod_init_39 : decode b_Mod_init 39 = .ok (.newarray .int, 2) := by decide +kernel
theorem d_Mod_init_41 : decode b_Mod_init 41 = .ok (.putfield 22, 3) := by decide +kernel
theorem d_Mod_init_44 : decode b_Mod_init 44 = .ok (.aload_n 0, 1) := by decide +kernel
theorem d_Mod_init_45 : decode b_Mod_init 45 = .ok (.bipush 12, 2) := by decide +kernel
theorem d_Mod_init_47 : decode b_Mod_init 47 = .ok (.newarray .int, 2) := by decide +kernel
theorem d_Mod_init_49 : decode b_Mod_init 49 = .ok (.putfield 25, 3) := by decide +kernel
theorem d_Mod_init_52 : decode b_Mod_init 52 = .ok (.aload_n 0, 1) := by decide +kernel
theorem d_Mod_init_53 : decode b_Mod_init 53 = .ok (.bipush 24, 2) := by decide +kernel
theorem d_Mod_init_55 : decode b_Mod_init 55 = .ok (.newarray .int, 2) := by decide +kernel
theorem d_Mod_init_57 : decode b_Mod_init 57 = .ok (.putfield 28, 3) := by decide +kernel
theorem d_Mod_init_60 : decode b_Mod_init 60 = .ok (.aload_n 0, 1) := by decide +kernel
theorem d_Mod_init_61 : decode b_Mod_init 61 = .ok (.bipush 72, 2) := by decide +kernel
theorem d_Mod_init_63 : decode b_Mod_init 63 = .ok (.newarray .int, 2) := by decide +kernel
theorem d_Mod_init_65 : decode b_Mod_init 65 = .ok (.putfield 31, 3) := by decide +kernel
theorem d_Mod_init_68 : decode b_Mod_init 68 = .ok (.aload_n 0, 1) := by decide +kernel
theorem d_Mod_init_69 : decode b_Mod_init 69 = .ok (.iconst 3, 1) := by decide +kernel
theorem d_Mod_init_70 : decode b_Mod_init 70 = .ok (.newarray .int, 2) := by decide +kernel
theorem d_Mod_init_72 : decode b_Mod_init 72 = .ok (.putfield 34, 3) := by decide +kernel
theorem d_Mod_init_75 : decode b_Mod_init 75 = .ok (.aload_n 0, 1) := by decide +kernel
theorem d_Mod_init_76 : decode b_Mod_init 76 = .ok (.sipush 288, 3) := by decide +kernel
theorem d_Mod_init_79 : decode b_Mod_init 79 = .ok (.newarray .long, 2) := by decide +kernel
theorem d_Mod_init_81 : decode b_Mod_init 81 = .ok (.putfield 37, 3) := by decide +kernel
theorem d_Mod_init_84 : decode b_Mod_init 84 = .ok (.aload_n 0, 1) := by decide +kernel
theorem d_Mod_init_85 : decode b_Mod_init 85 = .ok (.bipush 12, 2) := by decide +kernel
theorem d_Mod_init_87 : decode b_Mod_init 87 = .ok (.newarray .boolean, 2) := by decide +kernel
theorem d_Mod_init_89 : decode b_Mod_init 89 = .ok (.putfield 41, 3) := by decide +kernel
theorem d_Mod_init_92 : decode b_Mod_init 92 = .ok (.aload_n 0, 1) := by decide +kernel
theorem d_Mod_init_93 : decode b_Mod_init 93 = .ok (.bipush 12, 2) := by decide +kernel
theorem d_Mod_init_95 : decode b_Mod_init 95 = .ok (.newarray .int, 2) := by decide +kernel
theorem d_Mod_init_97 : decode b_Mod_init 97 = .ok (.putfield 45, 3) := by decide +kernel
theorem d_Mod_init_100 : decode b_Mod_init 100 = .ok (.aload_n 0, 1) := by decide +kernel
theorem d_Mod_init_101 : decode b_Mod_init 101 = .ok (.bipush 12, 2) := by decide +kernel
theorem d_Mod_init_103 : decode b_Mod_init 103 = .ok (.newarray .int, 2) := by decide +kernel
theorem d_Mod_init_105 : decode b_Mod_init 105 = .ok (.putfield 48, 3) := by decide +kernel
theorem d_Mod_init_108 : decode b_Mod_init 108 = .ok (.aload_n 0, 1) := by decide +kernel
theorem d_Mod_init_109 : decode b_Mod_init 109 = .ok (.bipush 12, 2) := by decide +kernel
theorem d_Mod_init_111 : decode b_Mod_init 111 = .ok (.newarray .int, 2) := by decide +kernel
theorem d_Mod_init_113 : decode b_Mod_init 113 = .ok (.putfield 51, 3) := by decide +kernel
theorem d_Mod_init_116 : decode b_Mod_init 116 = .ok (.return_, 1) := by decide +kernel
theorem d_Mod_atom_0 : decode b_Mod_atom 0 = .ok (.aload_n 0, 1) := by decide +kernel
theorem d_Mod_atom_1 : decode b_Mod_atom 1 = .ok (.invokevirtual 67, 3) := by decide +kernel
theorem d_Mod_atom_4 : decode b_Mod_atom 4 = .ok (.ifCond .eq 37, 3) := by decide +kernel
theorem d_Mod_atom_7 : decode b_Mod_atom 7 = .ok (.iload_n 1, 1) := by decide +kernel
theorem d_Mod_atom_8 : decode b_Mod_atom 8 = .ok (.ifCond .lt 33, 3) := by decide +kernel
theorem d_Mod_atom_11 : decode b_Mod_atom 11 = .ok (.iload_n 1, 1) := by decide +kernel
theorem d_Mod_atom_12 : decode b_Mod_atom 12 = .ok (.iconst 2, 1) := by decide +kernel
theorem d_Mod_atom_13 : decode b_Mod_atom 13 = .ok (.if_icmp .gt 28, 3) := by decide +kernel
theorem d_Mod_atom_16 : decode b_Mod_atom 16 = .ok (.iload_n 2, 1) := by decide +kernel
theorem d_Mod_atom_17 : decode b_Mod_atom 17 = .ok (.invokestatic 71, 3) := by decide +kernel
theorem d_Mod_atom_20 : decode b_Mod_atom 20 = .ok (.ifCond .eq 21, 3) := by decide +kernel
theorem d_Mod_atom_23 : decode b_Mod_atom 23 = .ok (.iload_n 3, 1) := by decide +kernel
theorem d_Mod_atom_24 : decode b_Mod_atom 24 = .ok (.invokestatic 71, 3) := by decide +kernel
theorem d_Mod_atom_27 : decode b_Mod_atom 27 = .ok (.ifCond .eq 14, 3) := by decide +kernel
theorem d_Mod_atom_30 : decode b_Mod_atom 30 = .ok (.aload_n 0, 1) := by decide +kernel
theorem d_Mod_atom_31 : decode b_Mod_atom 31 = .ok (.iconst 0, 1) := by decide +kernel
theorem d_Mod_atom_32 : decode b_Mod_atom 32 = .ok (.iload_n 1, 1) := by decide +kernel
theorem d_Mod_atom_33 : decode b_Mod_atom 33 = .ok (.iload_n 2, 1) := by decide +kernel
theorem d_Mod_atom_34 : decode b_Mod_atom 34 = .ok (.iload_n 3, 1) := by decide +kernel
theorem d_Mod_atom_35 : decode b_Mod_atom 35 = .ok (.invokevirtual 63, 3) := by decide +kernel
theorem d_Mod_atom_38 : decode b_Mod_atom 38 = .ok (.goto 4, 3) := by decide +kernel
theorem d_Mod_atom_41 : decode b_Mod_atom 41 = .ok (.iconst (-1), 1) := by decide +kernel
theorem d_Mod_atom_42 : decode b_Mod_atom 42 = .ok (.ireturn, 1) := by decide +kernel
theorem d_Mod_mayMake_0 : decode b_Mod_mayMake 0 = .ok (.aload_n 0, 1) := by decide +kernel
theorem d_Mod_mayMake_1 : decode b_Mod_mayMake 1 = .ok (.getfield 58, 3) := by decide +kernel
theorem d_Mod_mayMake_4 : decode b_Mod_mayMake 4 = .ok (.ifCond .ne 16, 3) := by decide +kernel
theorem d_Mod_mayMake_7 : decode b_Mod_mayMake 7 = .ok (.aload_n 0, 1) := by decide +kernel
theorem d_Mod_mayMake_8 : decode b_Mod_mayMake 8 = .ok (.getfield 54, 3) := by decide +kernel
theorem d_Mod_mayMake_11 : decode b_Mod_mayMake 11 = .ok (.bipush 12, 2) := by decide +kernel
theorem d_Mod_mayMake_13 : decode b_Mod_mayMake 13 = .ok (.if_icmp .ge 7, 3) := by decide +kernel
theorem d_Mod_mayMake_16 : decode b_Mod_mayMake 16 = .ok (.iconst 1, 1) := by decide +kernel
theorem d_Mod_mayMake_17 : decode b_Mod_mayMake 17 = .ok (.goto 4, 3) := by decide +kernel
theorem d_Mod_mayMake_20 : decode b_Mod_mayMake 20 = .ok (.iconst 0, 1) := by decide +kernel
theorem d_Mod_mayMake_21 : decode b_Mod_mayMake 21 = .ok (.ireturn, 1) := by decide +kernel
theorem d_Mod_isTerm_0 : decode b_Mod_isTerm 0 = .ok (.iload_n 0, 1) := by decide +kernel
theorem d_Mod_isTerm_1 : decode b_Mod_isTerm 1 = .ok (.ifCond .lt 8, 3) := by decide +kernel
theorem d_Mod_isTerm_4 : decode b_Mod_isTerm 4 = .ok (.iload_n 0, 1) := by decide +kernel
theorem d_Mod_isTerm_5 : decode b_Mod_isTerm 5 = .ok (.iconst 2, 1) := by decide +kernel
theorem d_Mod_isTerm_6 : decode b_Mod_isTerm 6 = .ok (.if_icmp .le 14, 3) := by decide +kernel
theorem d_Mod_isTerm_9 : decode b_Mod_isTerm 9 = .ok (.iload_n 0, 1) := by decide +kernel
theorem d_Mod_isTerm_10 : decode b_Mod_isTerm 10 = .ok (.iconst 4, 1) := by decide +kernel
theorem d_Mod_isTerm_11 : decode b_Mod_isTerm 11 = .ok (.if_icmp .lt 13, 3) := by decide +kernel
theorem d_Mod_isTerm_14 : decode b_Mod_isTerm 14 = .ok (.iload_n 0, 1) := by decide +kernel
theorem d_Mod_isTerm_15 : decode b_Mod_isTerm 15 = .ok (.bipush 7, 2) := by decide +kernel
theorem d_Mod_isTerm_17 : decode b_Mod_isTerm 17 = .ok (.if_icmp .gt 7, 3) := by decide +kernel
theorem d_Mod_isTerm_20 : decode b_Mod_isTerm 20 = .ok (.iconst 1, 1) := by decide +kernel
theorem d_Mod_isTerm_21 : decode b_Mod_isTerm 21 = .ok (.goto 4, 3) := by decide +kernel
theorem d_Mod_isTerm_24 : decode b_Mod_isTerm 24 = .ok (.iconst 0, 1) := by decide +kernel
theorem d_Mod_isTerm_25 : decode b_Mod_isTerm 25 = .ok (.ireturn, 1) := by decide +kernel
theorem d_Mod_make_0 : decode b_Mod_make 0 = .ok (.aload_n 0, 1) := by decide +kernel
theorem d_Mod_make_1 : decode b_Mod_make 1 = .ok (.getfield 7, 3) := by decide +kernel
theorem d_Mod_make_4 : decode b_Mod_make 4 = .ok (.aload_n 0, 1) := by decide +kernel
theorem d_Mod_make_5 : decode b_Mod_make 5 = .ok (.getfield 54, 3) := by decide +kernel
theorem d_Mod_make_8 : decode b_Mod_make 8 = .ok (.iload_n 1, 1) := by decide +kernel
theorem d_Mod_make_9 : decode b_Mod_make 9 = .ok (.iastore, 1) := by decide +kernel
theorem d_Mod_make_10 : decode b_Mod_make 10 = .ok (.aload_n 0, 1) := by decide +kernel
theorem d_Mod_make_11 : decode b_Mod_make 11 = .ok (.getfield 13, 3) := by decide +kernel
theorem d_Mod_make_14 : decode b_Mod_make 14 = .ok (.aload_n 0, 1) := by decide +kernel
theorem d_Mod_make_15 : decode b_Mod_make 15 = .ok (.getfield 54, 3) := by decide +kernel
theorem d_Mod_make_18 : decode b_Mod_make 18 = .ok (.iload_n 2, 1) := by decide +kernel
theorem d_Mod_make_19 : decode b_Mod_make 19 = .ok (.iastore, 1) := by decide +kernel
theorem d_Mod_make_20 : decode b_Mod_make 20 = .ok (.aload_n 0, 1) := by decide +kernel
theorem d_Mod_make_21 : decode b_Mod_make 21 = .ok (.getfield 16, 3) := by decide +kernel
theorem d_Mod_make_24 : decode b_Mod_make 24 = .ok (.aload_n 0, 1) := by decide +kernel
theorem d_Mod_make_25 : decode b_Mod_make 25 = .ok (.getfield 54, 3) := by decide +kernel
theorem d_Mod_make_28 : decode b_Mod_make 28 = .ok (.iload_n 3, 1) := by decide +kernel
theorem d_Mod_make_29 : decode b_Mod_make 29 = .ok (.iastore, 1) := by decide +kernel
theorem d_Mod_make_30 : decode b_Mod_make 30 = .ok (.aload_n 0, 1) := by decide +kernel
theorem d_Mod_make_31 : decode b_Mod_make 31 = .ok (.getfield 19, 3) := by decide +kernel
theorem d_Mod_make_34 : decode b_Mod_make 34 = .ok (.aload_n 0, 1) := by decide +kernel
theorem d_Mod_make_35 : decode b_Mod_make 35 = .ok (.getfield 54, 3) := by decide +kernel
theorem d_Mod_make_38 : decode b_Mod_make 38 = .ok (.iload 4, 2) := by decide +kernel
theorem d_Mod_make_40 : decode b_Mod_make 40 = .ok (.iastore, 1) := by decide +kernel
theorem d_Mod_make_41 : decode b_Mod_make 41 = .ok (.aload_n 0, 1) := by decide +kernel
theorem d_Mod_make_42 : decode b_Mod_make 42 = .ok (.getfield 22, 3) := by decide +kernel
theorem d_Mod_make_45 : decode b_Mod_make 45 = .ok (.aload_n 0, 1) := by decide +kernel
theorem d_Mod_make_46 : decode b_Mod_make 46 = .ok (.getfield 54, 3) := by decide +kernel
theorem d_Mod_make_49 : decode b_Mod_make 49 = .ok (.iconst 0, 1) := by decide +kernel
theorem d_Mod_make_50 : decode b_Mod_make 50 = .ok (.iastore, 1) := by decide +kernel
theorem d_Mod_make_51 : decode b_Mod_make 51 = .ok (.aload_n 0, 1) := by decide +kernel
theorem d_Mod_make_52 : decode b_Mod_make 52 = .ok (.getfield 25, 3) := by decide +kernel
theorem d_Mod_make_55 : decode b_Mod_make 55 = .ok (.aload_n 0, 1) := by decide +kernel
theorem d_Mod_make_56 : decode b_Mod_make 56 = .ok (.getfield 54, 3) := by decide +kernel
theorem d_Mod_make_59 : decode b_Mod_make 59 = .ok (.iconst (-1), 1) := by decide +kernel
theorem d_Mod_make_60 : decode b_Mod_make 60 = .ok (.iastore, 1) := by decide +kernel
theorem d_Mod_make_61 : decode b_Mod_make 61 = .ok (.aload_n 0, 1) := by decide +kernel
theorem d_Mod_make_62 : decode b_Mod_make 62 = .ok (.dup, 1) := by decide +kernel
theorem d_Mod_make_63 : decode b_Mod_make 63 = .ok (.getfield 54, 3) := by decide +kernel
theorem d_Mod_make_66 : decode b_Mod_make 66 = .ok (.iconst 1, 1) := by decide +kernel
theorem d_Mod_make_67 : decode b_Mod_make 67 = .ok (.iadd, 1) := by decide +kernel
theorem d_Mod_make_68 : decode b_Mod_make 68 = .ok (.putfield 54, 3) := by decide +kernel
theorem d_Mod_make_71 : decode b_Mod_make 71 = .ok (.aload_n 0, 1) := by decide +kernel
theorem d_Mod_make_72 : decode b_Mod_make 72 = .ok (.getfield 54, 3) := by decide +kernel
theorem d_Mod_make_75 : decode b_Mod_make 75 = .ok (.iconst 1, 1) := by decide +kernel
theorem d_Mod_make_76 : decode b_Mod_make 76 = .ok (.isub, 1) := by decide +kernel
theorem d_Mod_make_77 : decode b_Mod_make 77 = .ok (.ireturn, 1) := by decide +kernel
theorem d_Mod_compare_0 : decode b_Mod_compare 0 = .ok (.aload_n 0, 1) := by decide +kernel
theorem d_Mod_compare_1 : decode b_Mod_compare 1 = .ok (.invokevirtual 67, 3) := by decide +kernel
theorem d_Mod_compare_4 : decode b_Mod_compare 4 = .ok (.ifCond .eq 36, 3) := by decide +kernel
theorem d_Mod_compare_7 : decode b_Mod_compare 7 = .ok (.iload_n 2, 1) := by decide +kernel
theorem d_Mod_compare_8 : decode b_Mod_compare 8 = .ok (.invokestatic 71, 3) := by decide +kernel
theorem d_Mod_compare_11 : decode b_Mod_compare 11 = .ok (.ifCond .eq 29, 3) := by decide +kernel
theorem d_Mod_compare_14 : decode b_Mod_compare 14 = .ok (.iload_n 3, 1) := by decide +kernel
theorem d_Mod_compare_15 : decode b_Mod_compare 15 = .ok (.invokestatic 71, 3) := by decide +kernel
theorem d_Mod_compare_18 : decode b_Mod_compare 18 = .ok (.ifCond .eq 22, 3) := by decide +kernel
theorem d_Mod_compare_21 : decode b_Mod_compare 21 = .ok (.aload_n 0, 1) := by decide +kernel
theorem d_Mod_compare_22 : decode b_Mod_compare 22 = .ok (.iload_n 1, 1) := by decide +kernel
theorem d_Mod_compare_23 : decode b_Mod_compare 23 = .ok (.ifCond .eq 7, 3) := by decide +kernel
theorem d_Mod_compare_26 : decode b_Mod_compare 26 = .ok (.iconst 2, 1) := by decide +kernel
theorem d_Mod_compare_27 : decode b_Mod_compare 27 = .ok (.goto 4, 3) := by decide +kernel
theorem d_Mod_compare_30 : decode b_Mod_compare 30 = .ok (.iconst 1, 1) := by decide +kernel
theorem d_Mod_compare_31 : decode b_Mod_compare 31 = .ok (.iconst 0, 1) := by decide +kernel
theorem d_Mod_compare_32 : decode b_Mod_compare 32 = .ok (.iload_n 2, 1) := by decide +kernel
theorem d_Mod_compare_33 : decode b_Mod_compare 33 = .ok (.iload_n 3, 1) := by decide +kernel
theorem d_Mod_compare_34 : decode b_Mod_compare 34 = .ok (.invokevirtual 63, 3) := by decide +kernel
theorem d_Mod_compare_37 : decode b_Mod_compare 37 = .ok (.goto 4, 3) := by decide +kernel
theorem d_Mod_compare_40 : decode b_Mod_compare 40 = .ok (.iconst (-1), 1) := by decide +kernel
theorem d_Mod_compare_41 : decode b_Mod_compare 41 = .ok (.ireturn, 1) := by decide +kernel
theorem d_Mod_not_0 : decode b_Mod_not 0 = .ok (.aload_n 0, 1) := by decide +kernel
theorem d_Mod_not_1 : decode b_Mod_not 1 = .ok (.invokevirtual 67, 3) := by decide +kernel
theorem d_Mod_not_4 : decode b_Mod_not 4 = .ok (.ifCond .eq 22, 3) := by decide +kernel
theorem d_Mod_not_7 : decode b_Mod_not 7 = .ok (.aload_n 0, 1) := by decide +kernel
theorem d_Mod_not_8 : decode b_Mod_not 8 = .ok (.iload_n 1, 1) := by decide +kernel
theorem d_Mod_not_9 : decode b_Mod_not 9 = .ok (.invokevirtual 75, 3) := by decide +kernel
theorem d_Mod_not_12 : decode b_Mod_not 12 = .ok (.ifCond .eq 14, 3) := by decide +kernel
theorem d_Mod_not_15 : decode b_Mod_not 15 = .ok (.aload_n 0, 1) := by decide +kernel
theorem d_Mod_not_16 : decode b_Mod_not 16 = .ok (.iconst 3, 1) := by decide +kernel
theorem d_Mod_not_17 : decode b_Mod_not 17 = .ok (.iconst 0, 1) := by decide +kernel
theorem d_Mod_not_18 : decode b_Mod_not 18 = .ok (.iload_n 1, 1) := by decide +kernel
theorem d_Mod_not_19 : decode b_Mod_not 19 = .ok (.iload_n 1, 1) := by decide +kernel
theorem d_Mod_not_20 : decode b_Mod_not 20 = .ok (.invokevirtual 63, 3) := by decide +kernel
theorem d_Mod_not_23 : decode b_Mod_not 23 = .ok (.goto 4, 3) := by decide +kernel
theorem d_Mod_not_26 : decode b_Mod_not 26 = .ok (.iconst (-1), 1) := by decide +kernel
theorem d_Mod_not_27 : decode b_Mod_not 27 = .ok (.ireturn, 1) := by decide +kernel
theorem d_Mod_isFormula_0 : decode b_Mod_isFormula 0 = .ok (.iload_n 1, 1) := by decide +kernel
theorem d_Mod_isFormula_1 : decode b_Mod_isFormula 1 = .ok (.ifCond .lt 15, 3) := by decide +kernel
theorem d_Mod_isFormula_4 : decode b_Mod_isFormula 4 = .ok (.iload_n 1, 1) := by decide +kernel
theorem d_Mod_isFormula_5 : decode b_Mod_isFormula 5 = .ok (.aload_n 0, 1) := by decide +kernel
theorem d_Mod_isFormula_6 : decode b_Mod_isFormula 6 = .ok (.getfield 54, 3) := by decide +kernel
theorem d_Mod_isFormula_9 : decode b_Mod_isFormula 9 = .ok (.if_icmp .ge 7, 3) := by decide +kernel
theorem d_Mod_isFormula_12 : decode b_Mod_isFormula 12 = .ok (.iconst 1, 1) := by decide +kernel
theorem d_Mod_isFormula_13 : decode b_Mod_isFormula 13 = .ok (.goto 4, 3) := by decide +kernel
theorem d_Mod_isFormula_16 : decode b_Mod_isFormula 16 = .ok (.iconst 0, 1) := by decide +kernel
theorem d_Mod_isFormula_17 : decode b_Mod_isFormula 17 = .ok (.ireturn, 1) := by decide +kernel
theorem d_Mod_join_0 : decode b_Mod_join 0 = .ok (.aload_n 0, 1) := by decide +kernel
theorem d_Mod_join_1 : decode b_Mod_join 1 = .ok (.invokevirtual 67, 3) := by decide +kernel
theorem d_Mod_join_4 : decode b_Mod_join 4 = .ok (.ifCond .eq 38, 3) := by decide +kernel
theorem d_Mod_join_7 : decode b_Mod_join 7 = .ok (.aload_n 0, 1) := by decide +kernel
theorem d_Mod_join_8 : decode b_Mod_join 8 = .ok (.iload_n 2, 1) := by decide +kernel
theorem d_Mod_join_9 : decode b_Mod_join 9 = .ok (.invokevirtual 75, 3) := by decide +kernel
theorem d_Mod_join_12 : decode b_Mod_join 12 = .ok (.ifCond .eq 30, 3) := by decide +kernel
theorem d_Mod_join_15 : decode b_Mod_join 15 = .ok (.aload_n 0, 1) := by decide +kernel
theorem d_Mod_join_16 : decode b_Mod_join 16 = .ok (.iload_n 3, 1) := by decide +kernel
theorem d_Mod_join_17 : decode b_Mod_join 17 = .ok (.invokevirtual 75, 3) := by decide +kernel
theorem d_Mod_join_20 : decode b_Mod_join 20 = .ok (.ifCond .eq 22, 3) := by decide +kernel
theorem d_Mod_join_23 : decode b_Mod_join 23 = .ok (.aload_n 0, 1) := by decide +kernel
theorem d_Mod_join_24 : decode b_Mod_join 24 = .ok (.iload_n 1, 1) := by decide +kernel
theorem d_Mod_join_25 : decode b_Mod_join 25 = .ok (.ifCond .eq 7, 3) := by decide +kernel
theorem d_Mod_join_28 : decode b_Mod_join 28 = .ok (.iconst 4, 1) := by decide +kernel
theorem d_Mod_join_29 : decode b_Mod_join 29 = .ok (.goto 4, 3) := by decide +kernel
theorem d_Mod_join_32 : decode b_Mod_join 32 = .ok (.iconst 5, 1) := by decide +kernel
theorem d_Mod_join_33 : decode b_Mod_join 33 = .ok (.iconst 0, 1) := by decide +kernel
theorem d_Mod_join_34 : decode b_Mod_join 34 = .ok (.iload_n 2, 1) := by decide +kernel
theorem d_Mod_join_35 : decode b_Mod_join 35 = .ok (.iload_n 3, 1) := by decide +kernel
theorem d_Mod_join_36 : decode b_Mod_join 36 = .ok (.invokevirtual 63, 3) := by decide +kernel
theorem d_Mod_join_39 : decode b_Mod_join 39 = .ok (.goto 4, 3) := by decide +kernel
theorem d_Mod_join_42 : decode b_Mod_join 42 = .ok (.iconst (-1), 1) := by decide +kernel
theorem d_Mod_join_43 : decode b_Mod_join 43 = .ok (.ireturn, 1) := by decide +kernel
theorem d_Mod_exists_0 : decode b_Mod_exists 0 = .ok (.aload_n 0, 1) := by decide +kernel
theorem d_Mod_exists_1 : decode b_Mod_exists 1 = .ok (.invokevirtual 67, 3) := by decide +kernel
theorem d_Mod_exists_4 : decode b_Mod_exists 4 = .ok (.ifCond .eq 32, 3) := by decide +kernel
theorem d_Mod_exists_7 : decode b_Mod_exists 7 = .ok (.iload_n 1, 1) := by decide +kernel
theorem d_Mod_exists_8 : decode b_Mod_exists 8 = .ok (.ifCond .lt 28, 3) := by decide +kernel
theorem d_Mod_exists_11 : decode b_Mod_exists 11 = .ok (.iload_n 1, 1) := by decide +kernel
theorem d_Mod_exists_12 : decode b_Mod_exists 12 = .ok (.iconst 2, 1) := by decide +kernel
theorem d_Mod_exists_13 : decode b_Mod_exists 13 = .ok (.if_icmp .gt 23, 3) := by decide +kernel
theorem d_Mod_exists_16 : decode b_Mod_exists 16 = .ok (.aload_n 0, 1) := by decide +kernel
theorem d_Mod_exists_17 : decode b_Mod_exists 17 = .ok (.iload_n 2, 1) := by decide +kernel
theorem d_Mod_exists_18 : decode b_Mod_exists 18 = .ok (.invokevirtual 75, 3) := by decide +kernel
theorem d_Mod_exists_21 : decode b_Mod_exists 21 = .ok (.ifCond .eq 15, 3) := by decide +kernel
theorem d_Mod_exists_24 : decode b_Mod_exists 24 = .ok (.aload_n 0, 1) := by decide +kernel
theorem d_Mod_exists_25 : decode b_Mod_exists 25 = .ok (.bipush 6, 2) := by decide +kernel
theorem d_Mod_exists_27 : decode b_Mod_exists 27 = .ok (.iload_n 1, 1) := by decide +kernel
theorem d_Mod_exists_28 : decode b_Mod_exists 28 = .ok (.iload_n 2, 1) := by decide +kernel
theorem d_Mod_exists_29 : decode b_Mod_exists 29 = .ok (.iload_n 2, 1) := by decide +kernel
theorem d_Mod_exists_30 : decode b_Mod_exists 30 = .ok (.invokevirtual 63, 3) := by decide +kernel
theorem d_Mod_exists_33 : decode b_Mod_exists 33 = .ok (.goto 4, 3) := by decide +kernel
theorem d_Mod_exists_36 : decode b_Mod_exists 36 = .ok (.iconst (-1), 1) := by decide +kernel
theorem d_Mod_exists_37 : decode b_Mod_exists 37 = .ok (.ireturn, 1) := by decide +kernel
theorem d_Mod_previous_0 : decode b_Mod_previous 0 = .ok (.aload_n 0, 1) := by decide +kernel
theorem d_Mod_previous_1 : decode b_Mod_previous 1 = .ok (.invokevirtual 67, 3) := by decide +kernel
theorem d_Mod_previous_4 : decode b_Mod_previous 4 = .ok (.ifCond .eq 33, 3) := by decide +kernel
theorem d_Mod_previous_7 : decode b_Mod_previous 7 = .ok (.iload_n 1, 1) := by decide +kernel
theorem d_Mod_previous_8 : decode b_Mod_previous 8 = .ok (.iload_n 2, 1) := by decide +kernel
theorem d_Mod_previous_9 : decode b_Mod_previous 9 = .ok (.iconst 1, 1) := by decide +kernel
theorem d_Mod_previous_10 : decode b_Mod_previous 10 = .ok (.invokestatic 78, 3) := by decide +kernel
theorem d_Mod_previous_13 : decode b_Mod_previous 13 = .ok (.ifCond .eq 24, 3) := by decide +kernel
theorem d_Mod_previous_16 : decode b_Mod_previous 16 = .ok (.aload_n 0, 1) := by decide +kernel
theorem d_Mod_previous_17 : decode b_Mod_previous 17 = .ok (.iload_n 3, 1) := by decide +kernel
theorem d_Mod_previous_18 : decode b_Mod_previous 18 = .ok (.invokevirtual 75, 3) := by decide +kernel
theorem d_Mod_previous_21 : decode b_Mod_previous 21 = .ok (.ifCond .eq 16, 3) := by decide +kernel
theorem d_Mod_previous_24 : decode b_Mod_previous 24 = .ok (.aload_n 0, 1) := by decide +kernel
theorem d_Mod_previous_25 : decode b_Mod_previous 25 = .ok (.bipush 7, 2) := by decide +kernel
theorem d_Mod_previous_27 : decode b_Mod_previous 27 = .ok (.iload_n 1, 1) := by decide +kernel
theorem d_Mod_previous_28 : decode b_Mod_previous 28 = .ok (.iload_n 2, 1) := by decide +kernel
theorem d_Mod_previous_29 : decode b_Mod_previous 29 = .ok (.iload_n 3, 1) := by decide +kernel
theorem d_Mod_previous_30 : decode b_Mod_previous 30 = .ok (.iload_n 3, 1) := by decide +kernel
theorem d_Mod_previous_31 : decode b_Mod_previous 31 = .ok (.invokevirtual 82, 3) := by decide +kernel
theorem d_Mod_previous_34 : decode b_Mod_previous 34 = .ok (.goto 4, 3) := by decide +kernel
theorem d_Mod_previous_37 : decode b_Mod_previous 37 = .ok (.iconst (-1), 1) := by decide +kernel
theorem d_Mod_previous_38 : decode b_Mod_previous 38 = .ok (.ireturn, 1) := by decide +kernel
theorem d_Mod_isInterval_0 : decode b_Mod_isInterval 0 = .ok (.iload_n 0, 1) := by decide +kernel
theorem d_Mod_isInterval_1 : decode b_Mod_isInterval 1 = .ok (.ifCond .lt 33, 3) := by decide +kernel
theorem d_Mod_isInterval_4 : decode b_Mod_isInterval 4 = .ok (.iload_n 0, 1) := by decide +kernel
theorem d_Mod_isInterval_5 : decode b_Mod_isInterval 5 = .ok (.ldc 62, 2) := by decide +kernel
theorem d_Mod_isInterval_7 : decode b_Mod_isInterval 7 = .ok (.if_icmp .gt 27, 3) := by decide +kernel
theorem d_Mod_isInterval_10 : decode b_Mod_isInterval 10 = .ok (.iload_n 1, 1) := by decide +kernel
theorem d_Mod_isInterval_11 : decode b_Mod_isInterval 11 = .ok (.iload_n 0, 1) := by decide +kernel
theorem d_Mod_isInterval_12 : decode b_Mod_isInterval 12 = .ok (.if_icmp .lt 9, 3) := by decide +kernel
theorem d_Mod_isInterval_15 : decode b_Mod_isInterval 15 = .ok (.iload_n 1, 1) := by decide +kernel
theorem d_Mod_isInterval_16 : decode b_Mod_isInterval 16 = .ok (.ldc 62, 2) := by decide +kernel
theorem d_Mod_isInterval_18 : decode b_Mod_isInterval 18 = .ok (.if_icmp .le 12, 3) := by decide +kernel
theorem d_Mod_isInterval_21 : decode b_Mod_isInterval 21 = .ok (.iload_n 2, 1) := by decide +kernel
theorem d_Mod_isInterval_22 : decode b_Mod_isInterval 22 = .ok (.ifCond .eq 12, 3) := by decide +kernel
theorem d_Mod_isInterval_25 : decode b_Mod_isInterval 25 = .ok (.iload_n 1, 1) := by decide +kernel
theorem d_Mod_isInterval_26 : decode b_Mod_isInterval 26 = .ok (.iconst (-1), 1) := by decide +kernel
theorem d_Mod_isInterval_27 : decode b_Mod_isInterval 27 = .ok (.if_icmp .ne 7, 3) := by decide +kernel
theorem d_Mod_isInterval_30 : decode b_Mod_isInterval 30 = .ok (.iconst 1, 1) := by decide +kernel
theorem d_Mod_isInterval_31 : decode b_Mod_isInterval 31 = .ok (.goto 4, 3) := by decide +kernel
theorem d_Mod_isInterval_34 : decode b_Mod_isInterval 34 = .ok (.iconst 0, 1) := by decide +kernel
theorem d_Mod_isInterval_35 : decode b_Mod_isInterval 35 = .ok (.ireturn, 1) := by decide +kernel
theorem d_Mod_makeTimed_0 : decode b_Mod_makeTimed 0 = .ok (.aload_n 0, 1) := by decide +kernel
theorem d_Mod_makeTimed_1 : decode b_Mod_makeTimed 1 = .ok (.iload_n 1, 1) := by decide +kernel
theorem d_Mod_makeTimed_2 : decode b_Mod_makeTimed 2 = .ok (.iconst 0, 1) := by decide +kernel
theorem d_Mod_makeTimed_3 : decode b_Mod_makeTimed 3 = .ok (.iload 4, 2) := by decide +kernel
theorem d_Mod_makeTimed_5 : decode b_Mod_makeTimed 5 = .ok (.iload 5, 2) := by decide +kernel
theorem d_Mod_makeTimed_7 : decode b_Mod_makeTimed 7 = .ok (.invokevirtual 63, 3) := by decide +kernel
theorem d_Mod_makeTimed_10 : decode b_Mod_makeTimed 10 = .ok (.istore 6, 2) := by decide +kernel
theorem d_Mod_makeTimed_12 : decode b_Mod_makeTimed 12 = .ok (.aload_n 0, 1) := by decide +kernel
theorem d_Mod_makeTimed_13 : decode b_Mod_makeTimed 13 = .ok (.getfield 22, 3) := by decide +kernel
theorem d_Mod_makeTimed_16 : decode b_Mod_makeTimed 16 = .ok (.iload 6, 2) := by decide +kernel
theorem d_Mod_makeTimed_18 : decode b_Mod_makeTimed 18 = .ok (.iload_n 2, 1) := by decide +kernel
theorem d_Mod_makeTimed_19 : decode b_Mod_makeTimed 19 = .ok (.iastore, 1) := by decide +kernel
theorem d_Mod_makeTimed_20 : decode b_Mod_makeTimed 20 = .ok (.aload_n 0, 1) := by decide +kernel
theorem d_Mod_makeTimed_21 : decode b_Mod_makeTimed 21 = .ok (.getfield 25, 3) := by decide +kernel
theorem d_Mod_makeTimed_24 : decode b_Mod_makeTimed 24 = .ok (.iload 6, 2) := by decide +kernel
theorem d_Mod_makeTimed_26 : decode b_Mod_makeTimed 26 = .ok (.iload_n 3, 1) := by decide +kernel
theorem d_Mod_makeTimed_27 : decode b_Mod_makeTimed 27 = .ok (.iastore, 1) := by decide +kernel
theorem d_Mod_makeTimed_28 : decode b_Mod_makeTimed 28 = .ok (.iload 6, 2) := by decide +kernel
theorem d_Mod_makeTimed_30 : decode b_Mod_makeTimed 30 = .ok (.ireturn, 1) := by decide +kernel
theorem d_Mod_since_0 : decode b_Mod_since 0 = .ok (.aload_n 0, 1) := by decide +kernel
theorem d_Mod_since_1 : decode b_Mod_since 1 = .ok (.invokevirtual 67, 3) := by decide +kernel
theorem d_Mod_since_4 : decode b_Mod_since 4 = .ok (.ifCond .eq 43, 3) := by decide +kernel
theorem d_Mod_since_7 : decode b_Mod_since 7 = .ok (.iload_n 1, 1) := by decide +kernel
theorem d_Mod_since_8 : decode b_Mod_since 8 = .ok (.iload_n 2, 1) := by decide +kernel
theorem d_Mod_since_9 : decode b_Mod_since 9 = .ok (.iconst 1, 1) := by decide +kernel
theorem d_Mod_since_10 : decode b_Mod_since 10 = .ok (.invokestatic 78, 3) := by decide +kernel
theorem d_Mod_since_13 : decode b_Mod_since 13 = .ok (.ifCond .eq 34, 3) := by decide +kernel
theorem d_Mod_since_16 : decode b_Mod_since 16 = .ok (.aload_n 0, 1) := by decide +kernel
theorem d_Mod_since_17 : decode b_Mod_since 17 = .ok (.iload_n 3, 1) := by decide +kernel
theorem d_Mod_since_18 : decode b_Mod_since 18 = .ok (.invokevirtual 75, 3) := by decide +kernel
theorem d_Mod_since_21 : decode b_Mod_since 21 = .ok (.ifCond .eq 26, 3) := by decide +kernel
theorem d_Mod_since_24 : decode b_Mod_since 24 = .ok (.aload_n 0, 1) := by decide +kernel
theorem d_Mod_since_25 : decode b_Mod_since 25 = .ok (.iload 4, 2) := by decide +kernel
theorem d_Mod_since_27 : decode b_Mod_since 27 = .ok (.invokevirtual 75, 3) := by decide +kernel
theorem d_Mod_since_30 : decode b_Mod_since 30 = .ok (.ifCond .eq 17, 3) := by decide +kernel
theorem d_Mod_since_33 : decode b_Mod_since 33 = .ok (.aload_n 0, 1) := by decide +kernel
theorem d_Mod_since_34 : decode b_Mod_since 34 = .ok (.bipush 8, 2) := by decide +kernel
theorem d_Mod_since_36 : decode b_Mod_since 36 = .ok (.iload_n 1, 1) := by decide +kernel
theorem d_Mod_since_37 : decode b_Mod_since 37 = .ok (.iload_n 2, 1) := by decide +kernel
theorem d_Mod_since_38 : decode b_Mod_since 38 = .ok (.iload_n 3, 1) := by decide +kernel
theorem d_Mod_since_39 : decode b_Mod_since 39 = .ok (.iload 4, 2) := by decide +kernel
theorem d_Mod_since_41 : decode b_Mod_since 41 = .ok (.invokevirtual 82, 3) := by decide +kernel
theorem d_Mod_since_44 : decode b_Mod_since 44 = .ok (.goto 4, 3) := by decide +kernel
theorem d_Mod_since_47 : decode b_Mod_since 47 = .ok (.iconst (-1), 1) := by decide +kernel
theorem d_Mod_since_48 : decode b_Mod_since 48 = .ok (.ireturn, 1) := by decide +kernel
theorem d_Mod_until_0 : decode b_Mod_until 0 = .ok (.aload_n 0, 1) := by decide +kernel
theorem d_Mod_until_1 : decode b_Mod_until 1 = .ok (.invokevirtual 67, 3) := by decide +kernel
theorem d_Mod_until_4 : decode b_Mod_until 4 = .ok (.ifCond .eq 43, 3) := by decide +kernel
theorem d_Mod_until_7 : decode b_Mod_until 7 = .ok (.iload_n 1, 1) := by decide +kernel
theorem d_Mod_until_8 : decode b_Mod_until 8 = .ok (.iload_n 2, 1) := by decide +kernel
theorem d_Mod_until_9 : decode b_Mod_until 9 = .ok (.iconst 0, 1) := by decide +kernel
theorem d_Mod_until_10 : decode b_Mod_until 10 = .ok (.invokestatic 78, 3) := by decide +kernel
theorem d_Mod_until_13 : decode b_Mod_until 13 = .ok (.ifCond .eq 34, 3) := by decide +kernel
theorem d_Mod_until_16 : decode b_Mod_until 16 = .ok (.aload_n 0, 1) := by decide +kernel
theorem d_Mod_until_17 : decode b_Mod_until 17 = .ok (.iload_n 3, 1) := by decide +kernel
theorem d_Mod_until_18 : decode b_Mod_until 18 = .ok (.invokevirtual 75, 3) := by decide +kernel
theorem d_Mod_until_21 : decode b_Mod_until 21 = .ok (.ifCond .eq 26, 3) := by decide +kernel
theorem d_Mod_until_24 : decode b_Mod_until 24 = .ok (.aload_n 0, 1) := by decide +kernel
theorem d_Mod_until_25 : decode b_Mod_until 25 = .ok (.iload 4, 2) := by decide +kernel
theorem d_Mod_until_27 : decode b_Mod_until 27 = .ok (.invokevirtual 75, 3) := by decide +kernel
theorem d_Mod_until_30 : decode b_Mod_until 30 = .ok (.ifCond .eq 17, 3) := by decide +kernel
theorem d_Mod_until_33 : decode b_Mod_until 33 = .ok (.aload_n 0, 1) := by decide +kernel
theorem d_Mod_until_34 : decode b_Mod_until 34 = .ok (.bipush 9, 2) := by decide +kernel
theorem d_Mod_until_36 : decode b_Mod_until 36 = .ok (.iload_n 1, 1) := by decide +kernel
theorem d_Mod_until_37 : decode b_Mod_until 37 = .ok (.iload_n 2, 1) := by decide +kernel
theorem d_Mod_until_38 : decode b_Mod_until 38 = .ok (.iload_n 3, 1) := by decide +kernel
theorem d_Mod_until_39 : decode b_Mod_until 39 = .ok (.iload 4, 2) := by decide +kernel
theorem d_Mod_until_41 : decode b_Mod_until 41 = .ok (.invokevirtual 82, 3) := by decide +kernel
theorem d_Mod_until_44 : decode b_Mod_until 44 = .ok (.goto 4, 3) := by decide +kernel
theorem d_Mod_until_47 : decode b_Mod_until 47 = .ok (.iconst (-1), 1) := by decide +kernel
theorem d_Mod_until_48 : decode b_Mod_until 48 = .ok (.ireturn, 1) := by decide +kernel
theorem d_Mod_free_0 : decode b_Mod_free 0 = .ok (.aload_n 0, 1) := by decide +kernel
theorem d_Mod_free_1 : decode b_Mod_free 1 = .ok (.iload_n 1, 1) := by decide +kernel
theorem d_Mod_free_2 : decode b_Mod_free 2 = .ok (.invokevirtual 75, 3) := by decide +kernel
theorem d_Mod_free_5 : decode b_Mod_free 5 = .ok (.ifCond .eq 11, 3) := by decide +kernel
theorem d_Mod_free_8 : decode b_Mod_free 8 = .ok (.aload_n 0, 1) := by decide +kernel
theorem d_Mod_free_9 : decode b_Mod_free 9 = .ok (.iload_n 1, 1) := by decide +kernel
theorem d_Mod_free_10 : decode b_Mod_free 10 = .ok (.invokevirtual 90, 3) := by decide +kernel
theorem d_Mod_free_13 : decode b_Mod_free 13 = .ok (.goto 4, 3) := by decide +kernel
theorem d_Mod_free_16 : decode b_Mod_free 16 = .ok (.iconst (-1), 1) := by decide +kernel
theorem d_Mod_free_17 : decode b_Mod_free 17 = .ok (.ireturn, 1) := by decide +kernel
theorem d_Mod_freeOf_0 : decode b_Mod_freeOf 0 = .ok (.iconst 0, 1) := by decide +kernel
theorem d_Mod_freeOf_1 : decode b_Mod_freeOf 1 = .ok (.istore_n 2, 1) := by decide +kernel
theorem d_Mod_freeOf_2 : decode b_Mod_freeOf 2 = .ok (.iload_n 2, 1) := by decide +kernel
theorem d_Mod_freeOf_3 : decode b_Mod_freeOf 3 = .ok (.iload_n 1, 1) := by decide +kernel
theorem d_Mod_freeOf_4 : decode b_Mod_freeOf 4 = .ok (.if_icmp .gt 110, 3) := by decide +kernel
theorem d_Mod_freeOf_7 : decode b_Mod_freeOf 7 = .ok (.aload_n 0, 1) := by decide +kernel
theorem d_Mod_freeOf_8 : decode b_Mod_freeOf 8 = .ok (.getfield 7, 3) := by decide +kernel
theorem d_Mod_freeOf_11 : decode b_Mod_freeOf 11 = .ok (.iload_n 2, 1) := by decide +kernel
theorem d_Mod_freeOf_12 : decode b_Mod_freeOf 12 = .ok (.iaload, 1) := by decide +kernel
theorem d_Mod_freeOf_13 : decode b_Mod_freeOf 13 = .ok (.iconst 2, 1) := by decide +kernel
theorem d_Mod_freeOf_14 : decode b_Mod_freeOf 14 = .ok (.if_icmp .gt 31, 3) := by decide +kernel
theorem d_Mod_freeOf_17 : decode b_Mod_freeOf 17 = .ok (.aload_n 0, 1) := by decide +kernel
theorem d_Mod_freeOf_18 : decode b_Mod_freeOf 18 = .ok (.getfield 45, 3) := by decide +kernel
theorem d_Mod_freeOf_21 : decode b_Mod_freeOf 21 = .ok (.iload_n 2, 1) := by decide +kernel
theorem d_Mod_freeOf_22 : decode b_Mod_freeOf 22 = .ok (.aload_n 0, 1) := by decide +kernel
theorem d_Mod_freeOf_23 : decode b_Mod_freeOf 23 = .ok (.getfield 16, 3) := by decide +kernel
theorem d_Mod_freeOf_26 : decode b_Mod_freeOf 26 = .ok (.iload_n 2, 1) := by decide +kernel
theorem d_Mod_freeOf_27 : decode b_Mod_freeOf 27 = .ok (.iaload, 1) := by decide +kernel
theorem d_Mod_freeOf_28 : decode b_Mod_freeOf 28 = .ok (.invokestatic 86, 3) := by decide +kernel
theorem d_Mod_freeOf_31 : decode b_Mod_freeOf 31 = .ok (.aload_n 0, 1) := by decide +kernel
theorem d_Mod_freeOf_32 : decode b_Mod_freeOf 32 = .ok (.getfield 19, 3) := by decide +kernel
theorem d_Mod_freeOf_35 : decode b_Mod_freeOf 35 = .ok (.iload_n 2, 1) := by decide +kernel
theorem d_Mod_freeOf_36 : decode b_Mod_freeOf 36 = .ok (.iaload, 1) := by decide +kernel
theorem d_Mod_freeOf_37 : decode b_Mod_freeOf 37 = .ok (.invokestatic 86, 3) := by decide +kernel
theorem d_Mod_freeOf_40 : decode b_Mod_freeOf 40 = .ok (.ior, 1) := by decide +kernel
theorem d_Mod_freeOf_41 : decode b_Mod_freeOf 41 = .ok (.iastore, 1) := by decide +kernel
theorem d_Mod_freeOf_42 : decode b_Mod_freeOf 42 = .ok (.goto 32, 3) := by decide +kernel
theorem d_Mod_freeOf_45 : decode b_Mod_freeOf 45 = .ok (.aload_n 0, 1) := by decide +kernel
theorem d_Mod_freeOf_46 : decode b_Mod_freeOf 46 = .ok (.getfield 45, 3) := by decide +kernel
theorem d_Mod_freeOf_49 : decode b_Mod_freeOf 49 = .ok (.iload_n 2, 1) := by decide +kernel
theorem d_Mod_freeOf_50 : decode b_Mod_freeOf 50 = .ok (.aload_n 0, 1) := by decide +kernel
theorem d_Mod_freeOf_51 : decode b_Mod_freeOf 51 = .ok (.getfield 45, 3) := by decide +kernel
theorem d_Mod_freeOf_54 : decode b_Mod_freeOf 54 = .ok (.aload_n 0, 1) := by decide +kernel
theorem d_Mod_freeOf_55 : decode b_Mod_freeOf 55 = .ok (.getfield 16, 3) := by decide +kernel
theorem d_Mod_freeOf_58 : decode b_Mod_freeOf 58 = .ok (.iload_n 2, 1) := by decide +kernel
theorem d_Mod_freeOf_59 : decode b_Mod_freeOf 59 = .ok (.iaload, 1) := by decide +kernel
theorem d_Mod_freeOf_60 : decode b_Mod_freeOf 60 = .ok (.iaload, 1) := by decide +kernel
theorem d_Mod_freeOf_61 : decode b_Mod_freeOf 61 = .ok (.aload_n 0, 1) := by decide +kernel
theorem d_Mod_freeOf_62 : decode b_Mod_freeOf 62 = .ok (.getfield 45, 3) := by decide +kernel
theorem d_Mod_freeOf_65 : decode b_Mod_freeOf 65 = .ok (.aload_n 0, 1) := by decide +kernel
theorem d_Mod_freeOf_66 : decode b_Mod_freeOf 66 = .ok (.getfield 19, 3) := by decide +kernel
theorem d_Mod_freeOf_69 : decode b_Mod_freeOf 69 = .ok (.iload_n 2, 1) := by decide +kernel
theorem d_Mod_freeOf_70 : decode b_Mod_freeOf 70 = .ok (.iaload, 1) := by decide +kernel
theorem d_Mod_freeOf_71 : decode b_Mod_freeOf 71 = .ok (.iaload, 1) := by decide +kernel
theorem d_Mod_freeOf_72 : decode b_Mod_freeOf 72 = .ok (.ior, 1) := by decide +kernel
theorem d_Mod_freeOf_73 : decode b_Mod_freeOf 73 = .ok (.iastore, 1) := by decide +kernel
theorem d_Mod_freeOf_74 : decode b_Mod_freeOf 74 = .ok (.aload_n 0, 1) := by decide +kernel
theorem d_Mod_freeOf_75 : decode b_Mod_freeOf 75 = .ok (.getfield 7, 3) := by decide +kernel
theorem d_Mod_freeOf_78 : decode b_Mod_freeOf 78 = .ok (.iload_n 2, 1) := by decide +kernel
theorem d_Mod_freeOf_79 : decode b_Mod_freeOf 79 = .ok (.iaload, 1) := by decide +kernel
theorem d_Mod_freeOf_80 : decode b_Mod_freeOf 80 = .ok (.bipush 6, 2) := by decide +kernel
theorem d_Mod_freeOf_82 : decode b_Mod_freeOf 82 = .ok (.if_icmp .ne 26, 3) := by decide +kernel
theorem d_Mod_freeOf_85 : decode b_Mod_freeOf 85 = .ok (.aload_n 0, 1) := by decide +kernel
theorem d_Mod_freeOf_86 : decode b_Mod_freeOf 86 = .ok (.getfield 45, 3) := by decide +kernel
theorem d_Mod_freeOf_89 : decode b_Mod_freeOf 89 = .ok (.iload_n 2, 1) := by decide +kernel
theorem d_Mod_freeOf_90 : decode b_Mod_freeOf 90 = .ok (.aload_n 0, 1) := by decide +kernel
theorem d_Mod_freeOf_91 : decode b_Mod_freeOf 91 = .ok (.getfield 45, 3) := by decide +kernel
theorem d_Mod_freeOf_94 : decode b_Mod_freeOf 94 = .ok (.iload_n 2, 1) := by decide +kernel
theorem d_Mod_freeOf_95 : decode b_Mod_freeOf 95 = .ok (.iaload, 1) := by decide +kernel
theorem d_Mod_freeOf_96 : decode b_Mod_freeOf 96 = .ok (.iconst 1, 1) := by decide +kernel
theorem d_Mod_freeOf_97 : decode b_Mod_freeOf 97 = .ok (.aload_n 0, 1) := by decide +kernel
theorem d_Mod_freeOf_98 : decode b_Mod_freeOf 98 = .ok (.getfield 13, 3) := by decide +kernel
theorem d_Mod_freeOf_101 : decode b_Mod_freeOf 101 = .ok (.iload_n 2, 1) := by decide +kernel
theorem d_Mod_freeOf_102 : decode b_Mod_freeOf 102 = .ok (.iaload, 1) := by decide +kernel
theorem d_Mod_freeOf_103 : decode b_Mod_freeOf 103 = .ok (.ishl, 1) := by decide +kernel
theorem d_Mod_freeOf_104 : decode b_Mod_freeOf 104 = .ok (.iconst (-1), 1) := by decide +kernel
theorem d_Mod_freeOf_105 : decode b_Mod_freeOf 105 = .ok (.ixor, 1) := by decide +kernel
theorem d_Mod_freeOf_106 : decode b_Mod_freeOf 106 = .ok (.iand, 1) := by decide +kernel
theorem d_Mod_freeOf_107 : decode b_Mod_freeOf 107 = .ok (.iastore, 1) := by decide +kernel
theorem d_Mod_freeOf_108 : decode b_Mod_freeOf 108 = .ok (.iinc 2 1, 3) := by decide +kernel
theorem d_Mod_freeOf_111 : decode b_Mod_freeOf 111 = .ok (.goto (-109), 3) := by decide +kernel
theorem d_Mod_freeOf_114 : decode b_Mod_freeOf 114 = .ok (.aload_n 0, 1) := by decide +kernel
theorem d_Mod_freeOf_115 : decode b_Mod_freeOf 115 = .ok (.getfield 45, 3) := by decide +kernel
theorem d_Mod_freeOf_118 : decode b_Mod_freeOf 118 = .ok (.iload_n 1, 1) := by decide +kernel
theorem d_Mod_freeOf_119 : decode b_Mod_freeOf 119 = .ok (.iaload, 1) := by decide +kernel
theorem d_Mod_freeOf_120 : decode b_Mod_freeOf 120 = .ok (.ireturn, 1) := by decide +kernel
theorem d_Mod_variable_0 : decode b_Mod_variable 0 = .ok (.iload_n 0, 1) := by decide +kernel
theorem d_Mod_variable_1 : decode b_Mod_variable 1 = .ok (.iconst 2, 1) := by decide +kernel
theorem d_Mod_variable_2 : decode b_Mod_variable 2 = .ok (.if_icmp .gt 9, 3) := by decide +kernel
theorem d_Mod_variable_5 : decode b_Mod_variable 5 = .ok (.iconst 1, 1) := by decide +kernel
theorem d_Mod_variable_6 : decode b_Mod_variable 6 = .ok (.iload_n 0, 1) := by decide +kernel
theorem d_Mod_variable_7 : decode b_Mod_variable 7 = .ok (.ishl, 1) := by decide +kernel
theorem d_Mod_variable_8 : decode b_Mod_variable 8 = .ok (.goto 4, 3) := by decide +kernel
theorem d_Mod_variable_11 : decode b_Mod_variable 11 = .ok (.iconst 0, 1) := by decide +kernel
theorem d_Mod_variable_12 : decode b_Mod_variable 12 = .ok (.ireturn, 1) := by decide +kernel
theorem d_Mod_ranged_0 : decode b_Mod_ranged 0 = .ok (.aload_n 0, 1) := by decide +kernel
theorem d_Mod_ranged_1 : decode b_Mod_ranged 1 = .ok (.iload_n 1, 1) := by decide +kernel
theorem d_Mod_ranged_2 : decode b_Mod_ranged 2 = .ok (.invokevirtual 75, 3) := by decide +kernel
theorem d_Mod_ranged_5 : decode b_Mod_ranged 5 = .ok (.ifCond .eq 11, 3) := by decide +kernel
theorem d_Mod_ranged_8 : decode b_Mod_ranged 8 = .ok (.aload_n 0, 1) := by decide +kernel
theorem d_Mod_ranged_9 : decode b_Mod_ranged 9 = .ok (.iload_n 1, 1) := by decide +kernel
theorem d_Mod_ranged_10 : decode b_Mod_ranged 10 = .ok (.invokevirtual 93, 3) := by decide +kernel
theorem d_Mod_ranged_13 : decode b_Mod_ranged 13 = .ok (.goto 4, 3) := by decide +kernel
theorem d_Mod_ranged_16 : decode b_Mod_ranged 16 = .ok (.iconst (-1), 1) := by decide +kernel
theorem d_Mod_ranged_17 : decode b_Mod_ranged 17 = .ok (.ireturn, 1) := by decide +kernel
theorem d_Mod_rangedOf_0 : decode b_Mod_rangedOf 0 = .ok (.iconst 0, 1) := by decide +kernel
theorem d_Mod_rangedOf_1 : decode b_Mod_rangedOf 1 = .ok (.istore_n 2, 1) := by decide +kernel
theorem d_Mod_rangedOf_2 : decode b_Mod_rangedOf 2 = .ok (.iload_n 2, 1) := by decide +kernel
theorem d_Mod_rangedOf_3 : decode b_Mod_rangedOf 3 = .ok (.iload_n 1, 1) := by decide +kernel
theorem d_Mod_rangedOf_4 : decode b_Mod_rangedOf 4 = .ok (.if_icmp .gt 239, 3) := by decide +kernel
theorem d_Mod_rangedOf_7 : decode b_Mod_rangedOf 7 = .ok (.aload_n 0, 1) := by decide +kernel
theorem d_Mod_rangedOf_8 : decode b_Mod_rangedOf 8 = .ok (.getfield 7, 3) := by decide +kernel
theorem d_Mod_rangedOf_11 : decode b_Mod_rangedOf 11 = .ok (.iload_n 2, 1) := by decide +kernel
theorem d_Mod_rangedOf_12 : decode b_Mod_rangedOf 12 = .ok (.iaload, 1) := by decide +kernel
theorem d_Mod_rangedOf_13 : decode b_Mod_rangedOf 13 = .ok (.iconst 2, 1) := by decide +kernel
theorem d_Mod_rangedOf_14 : decode b_Mod_rangedOf 14 = .ok (.if_icmp .gt 15, 3) := by decide +kernel
theorem d_Mod_rangedOf_17 : decode b_Mod_rangedOf 17 = .ok (.aload_n 0, 1) := by decide +kernel
theorem d_Mod_rangedOf_18 : decode b_Mod_rangedOf 18 = .ok (.getfield 16, 3) := by decide +kernel
theorem d_Mod_rangedOf_21 : decode b_Mod_rangedOf 21 = .ok (.iload_n 2, 1) := by decide +kernel
theorem d_Mod_rangedOf_22 : decode b_Mod_rangedOf 22 = .ok (.iaload, 1) := by decide +kernel
theorem d_Mod_rangedOf_23 : decode b_Mod_rangedOf 23 = .ok (.invokestatic 86, 3) := by decide +kernel
theorem d_Mod_rangedOf_26 : decode b_Mod_rangedOf 26 = .ok (.goto 14, 3) := by decide +kernel
theorem d_Mod_rangedOf_29 : decode b_Mod_rangedOf 29 = .ok (.aload_n 0, 1) := by decide +kernel
theorem d_Mod_rangedOf_30 : decode b_Mod_rangedOf 30 = .ok (.getfield 48, 3) := by decide +kernel
theorem d_Mod_rangedOf_33 : decode b_Mod_rangedOf 33 = .ok (.aload_n 0, 1) := by decide +kernel
theorem d_Mod_rangedOf_34 : decode b_Mod_rangedOf 34 = .ok (.getfield 16, 3) := by decide +kernel
theorem d_Mod_rangedOf_37 : decode b_Mod_rangedOf 37 = .ok (.iload_n 2, 1) := by decide +kernel
theorem d_Mod_rangedOf_38 : decode b_Mod_rangedOf 38 = .ok (.iaload, 1) := by decide +kernel
theorem d_Mod_rangedOf_39 : decode b_Mod_rangedOf 39 = .ok (.iaload, 1) := by decide +kernel
theorem d_Mod_rangedOf_40 : decode b_Mod_rangedOf 40 = .ok (.istore_n 3, 1) := by decide +kernel
theorem d_Mod_rangedOf_41 : decode b_Mod_rangedOf 41 = .ok (.aload_n 0, 1) := by decide +kernel
theorem d_Mod_rangedOf_42 : decode b_Mod_rangedOf 42 = .ok (.getfield 7, 3) := by decide +kernel
theorem d_Mod_rangedOf_45 : decode b_Mod_rangedOf 45 = .ok (.iload_n 2, 1) := by decide +kernel
theorem d_Mod_rangedOf_46 : decode b_Mod_rangedOf 46 = .ok (.iaload, 1) := by decide +kernel
theorem d_Mod_rangedOf_47 : decode b_Mod_rangedOf 47 = .ok (.iconst 2, 1) := by decide +kernel
theorem d_Mod_rangedOf_48 : decode b_Mod_rangedOf 48 = .ok (.if_icmp .gt 15, 3) := by decide +kernel
theorem d_Mod_rangedOf_51 : decode b_Mod_rangedOf 51 = .ok (.aload_n 0, 1) := by decide +kernel
theorem d_Mod_rangedOf_52 : decode b_Mod_rangedOf 52 = .ok (.getfield 19, 3) := by decide +kernel
theorem d_Mod_rangedOf_55 : decode b_Mod_rangedOf 55 = .ok (.iload_n 2, 1) := by decide +kernel
theorem d_Mod_rangedOf_56 : decode b_Mod_rangedOf 56 = .ok (.iaload, 1) := by decide +kernel
theorem d_Mod_rangedOf_57 : decode b_Mod_rangedOf 57 = .ok (.invokestatic 86, 3) := by decide +kernel
theorem d_Mod_rangedOf_60 : decode b_Mod_rangedOf 60 = .ok (.goto 14, 3) := by decide +kernel
theorem d_Mod_rangedOf_63 : decode b_Mod_rangedOf 63 = .ok (.aload_n 0, 1) := by decide +kernel
theorem d_Mod_rangedOf_64 : decode b_Mod_rangedOf 64 = .ok (.getfield 48, 3) := by decide +kernel
theorem d_Mod_rangedOf_67 : decode b_Mod_rangedOf 67 = .ok (.aload_n 0, 1) := by decide +kernel
theorem d_Mod_rangedOf_68 : decode b_Mod_rangedOf 68 = .ok (.getfield 19, 3) := by decide +kernel
theorem d_Mod_rangedOf_71 : decode b_Mod_rangedOf 71 = .ok (.iload_n 2, 1) := by decide +kernel
theorem d_Mod_rangedOf_72 : decode b_Mod_rangedOf 72 = .ok (.iaload, 1) := by decide +kernel
theorem d_Mod_rangedOf_73 : decode b_Mod_rangedOf 73 = .ok (.iaload, 1) := by decide +kernel
theorem d_Mod_rangedOf_74 : decode b_Mod_rangedOf 74 = .ok (.istore 4, 2) := by decide +kernel
theorem d_Mod_rangedOf_76 : decode b_Mod_rangedOf 76 = .ok (.aload_n 0, 1) := by decide +kernel
theorem d_Mod_rangedOf_77 : decode b_Mod_rangedOf 77 = .ok (.getfield 7, 3) := by decide +kernel
theorem d_Mod_rangedOf_80 : decode b_Mod_rangedOf 80 = .ok (.iload_n 2, 1) := by decide +kernel
theorem d_Mod_rangedOf_81 : decode b_Mod_rangedOf 81 = .ok (.iaload, 1) := by decide +kernel
theorem d_Mod_rangedOf_82 : decode b_Mod_rangedOf 82 = .ok (.ifCond .eq 13, 3) := by decide +kernel
theorem d_Mod_rangedOf_85 : decode b_Mod_rangedOf 85 = .ok (.aload_n 0, 1) := by decide +kernel
theorem d_Mod_rangedOf_86 : decode b_Mod_rangedOf 86 = .ok (.getfield 7, 3) := by decide +kernel
theorem d_Mod_rangedOf_89 : decode b_Mod_rangedOf 89 = .ok (.iload_n 2, 1) := by decide +kernel
theorem d_Mod_rangedOf_90 : decode b_Mod_rangedOf 90 = .ok (.iaload, 1) := by decide +kernel
theorem d_Mod_rangedOf_91 : decode b_Mod_rangedOf 91 = .ok (.iconst 4, 1) := by decide +kernel
theorem d_Mod_rangedOf_92 : decode b_Mod_rangedOf 92 = .ok (.if_icmp .ne 16, 3) := by decide +kernel
theorem d_Mod_rangedOf_95 : decode b_Mod_rangedOf 95 = .ok (.aload_n 0, 1) := by decide +kernel
theorem d_Mod_rangedOf_96 : decode b_Mod_rangedOf 96 = .ok (.getfield 48, 3) := by decide +kernel
theorem d_Mod_rangedOf_99 : decode b_Mod_rangedOf 99 = .ok (.iload_n 2, 1) := by decide +kernel
theorem d_Mod_rangedOf_100 : decode b_Mod_rangedOf 100 = .ok (.iload_n 3, 1) := by decide +kernel
theorem d_Mod_rangedOf_101 : decode b_Mod_rangedOf 101 = .ok (.iload 4, 2) := by decide +kernel
theorem d_Mod_rangedOf_103 : decode b_Mod_rangedOf 103 = .ok (.ior, 1) := by decide +kernel
theorem d_Mod_rangedOf_104 : decode b_Mod_rangedOf 104 = .ok (.iastore, 1) := by decide +kernel
theorem d_Mod_rangedOf_105 : decode b_Mod_rangedOf 105 = .ok (.goto 132, 3) := by decide +kernel
theorem d_Mod_rangedOf_108 : decode b_Mod_rangedOf 108 = .ok (.aload_n 0, 1) := by decide +kernel
theorem d_Mod_rangedOf_109 : decode b_Mod_rangedOf 109 = .ok (.getfield 7, 3) := by decide +kernel
theorem d_Mod_rangedOf_112 : decode b_Mod_rangedOf 112 = .ok (.iload_n 2, 1) := by decide +kernel
theorem d_Mod_rangedOf_113 : decode b_Mod_rangedOf 113 = .ok (.iaload, 1) := by decide +kernel
theorem d_Mod_rangedOf_114 : decode b_Mod_rangedOf 114 = .ok (.iconst 1, 1) := by decide +kernel
theorem d_Mod_rangedOf_115 : decode b_Mod_rangedOf 115 = .ok (.if_icmp .ne 29, 3) := by decide +kernel
theorem d_Mod_rangedOf_118 : decode b_Mod_rangedOf 118 = .ok (.aload_n 0, 1) := by decide +kernel
theorem d_Mod_rangedOf_119 : decode b_Mod_rangedOf 119 = .ok (.getfield 48, 3) := by decide +kernel
theorem d_Mod_rangedOf_122 : decode b_Mod_rangedOf 122 = .ok (.iload_n 2, 1) := by decide +kernel
theorem d_Mod_rangedOf_123 : decode b_Mod_rangedOf 123 = .ok (.iload_n 3, 1) := by decide +kernel
theorem d_Mod_rangedOf_124 : decode b_Mod_rangedOf 124 = .ok (.ifCond .eq 8, 3) := by decide +kernel
theorem d_Mod_rangedOf_127 : decode b_Mod_rangedOf 127 = .ok (.iload 4, 2) := by decide +kernel
theorem d_Mod_rangedOf_129 : decode b_Mod_rangedOf 129 = .ok (.ifCond .ne 10, 3) := by decide +kernel
theorem d_Mod_rangedOf_132 : decode b_Mod_rangedOf 132 = .ok (.iload_n 3, 1) := by decide +kernel
theorem d_Mod_rangedOf_133 : decode b_Mod_rangedOf 133 = .ok (.iload 4, 2) := by decide +kernel
theorem d_Mod_rangedOf_135 : decode b_Mod_rangedOf 135 = .ok (.ior, 1) := by decide +kernel
theorem d_Mod_rangedOf_136 : decode b_Mod_rangedOf 136 = .ok (.goto 4, 3) := by decide +kernel
theorem d_Mod_rangedOf_139 : decode b_Mod_rangedOf 139 = .ok (.iconst 0, 1) := by decide +kernel
theorem d_Mod_rangedOf_140 : decode b_Mod_rangedOf 140 = .ok (.iastore, 1) := by decide +kernel
theorem d_Mod_rangedOf_141 : decode b_Mod_rangedOf 141 = .ok (.goto 96, 3) := by decide +kernel
theorem d_Mod_rangedOf_144 : decode b_Mod_rangedOf 144 = .ok (.aload_n 0, 1) := by decide +kernel
theorem d_Mod_rangedOf_145 : decode b_Mod_rangedOf 145 = .ok (.getfield 7, 3) := by decide +kernel
theorem d_Mod_rangedOf_148 : decode b_Mod_rangedOf 148 = .ok (.iload_n 2, 1) := by decide +kernel
theorem d_Mod_rangedOf_149 : decode b_Mod_rangedOf 149 = .ok (.iaload, 1) := by decide +kernel
theorem d_Mod_rangedOf_150 : decode b_Mod_rangedOf 150 = .ok (.iconst 2, 1) := by decide +kernel
theorem d_Mod_rangedOf_151 : decode b_Mod_rangedOf 151 = .ok (.if_icmp .eq 13, 3) := by decide +kernel
theorem d_Mod_rangedOf_154 : decode b_Mod_rangedOf 154 = .ok (.aload_n 0, 1) := by decide +kernel
theorem d_Mod_rangedOf_155 : decode b_Mod_rangedOf 155 = .ok (.getfield 7, 3) := by decide +kernel
theorem d_Mod_rangedOf_158 : decode b_Mod_rangedOf 158 = .ok (.iload_n 2, 1) := by decide +kernel
theorem d_Mod_rangedOf_159 : decode b_Mod_rangedOf 159 = .ok (.iaload, 1) := by decide +kernel
theorem d_Mod_rangedOf_160 : decode b_Mod_rangedOf 160 = .ok (.iconst 3, 1) := by decide +kernel
theorem d_Mod_rangedOf_161 : decode b_Mod_rangedOf 161 = .ok (.if_icmp .ne 13, 3) := by decide +kernel
theorem d_Mod_rangedOf_164 : decode b_Mod_rangedOf 164 = .ok (.aload_n 0, 1) := by decide +kernel
theorem d_Mod_rangedOf_165 : decode b_Mod_rangedOf 165 = .ok (.getfield 48, 3) := by decide +kernel
theorem d_Mod_rangedOf_168 : decode b_Mod_rangedOf 168 = .ok (.iload_n 2, 1) := by decide +kernel
theorem d_Mod_rangedOf_169 : decode b_Mod_rangedOf 169 = .ok (.iconst 0, 1) := by decide +kernel
theorem d_Mod_rangedOf_170 : decode b_Mod_rangedOf 170 = .ok (.iastore, 1) := by decide +kernel
theorem d_Mod_rangedOf_171 : decode b_Mod_rangedOf 171 = .ok (.goto 66, 3) := by decide +kernel
theorem d_Mod_rangedOf_174 : decode b_Mod_rangedOf 174 = .ok (.aload_n 0, 1) := by decide +kernel
theorem d_Mod_rangedOf_175 : decode b_Mod_rangedOf 175 = .ok (.getfield 7, 3) := by decide +kernel
theorem d_Mod_rangedOf_178 : decode b_Mod_rangedOf 178 = .ok (.iload_n 2, 1) := by decide +kernel
theorem d_Mod_rangedOf_179 : decode b_Mod_rangedOf 179 = .ok (.iaload, 1) := by decide +kernel
theorem d_Mod_rangedOf_180 : decode b_Mod_rangedOf 180 = .ok (.iconst 5, 1) := by decide +kernel
theorem d_Mod_rangedOf_181 : decode b_Mod_rangedOf 181 = .ok (.if_icmp .ne 16, 3) := by decide +kernel
theorem d_Mod_rangedOf_184 : decode b_Mod_rangedOf 184 = .ok (.aload_n 0, 1) := by decide +kernel
theorem d_Mod_rangedOf_185 : decode b_Mod_rangedOf 185 = .ok (.getfield 48, 3) := by decide +kernel
theorem d_Mod_rangedOf_188 : decode b_Mod_rangedOf 188 = .ok (.iload_n 2, 1) := by decide +kernel
theorem d_Mod_rangedOf_189 : decode b_Mod_rangedOf 189 = .ok (.iload_n 3, 1) := by decide +kernel
theorem d_Mod_rangedOf_190 : decode b_Mod_rangedOf 190 = .ok (.iload 4, 2) := by decide +kernel
theorem d_Mod_rangedOf_192 : decode b_Mod_rangedOf 192 = .ok (.iand, 1) := by decide +kernel
theorem d_Mod_rangedOf_193 : decode b_Mod_rangedOf 193 = .ok (.iastore, 1) := by decide +kernel
theorem d_Mod_rangedOf_194 : decode b_Mod_rangedOf 194 = .ok (.goto 43, 3) := by decide +kernel
theorem d_Mod_rangedOf_197 : decode b_Mod_rangedOf 197 = .ok (.aload_n 0, 1) := by decide +kernel
theorem d_Mod_rangedOf_198 : decode b_Mod_rangedOf 198 = .ok (.getfield 7, 3) := by decide +kernel
theorem d_Mod_rangedOf_201 : decode b_Mod_rangedOf 201 = .ok (.iload_n 2, 1) := by decide +kernel
theorem d_Mod_rangedOf_202 : decode b_Mod_rangedOf 202 = .ok (.iaload, 1) := by decide +kernel
theorem d_Mod_rangedOf_203 : decode b_Mod_rangedOf 203 = .ok (.bipush 6, 2) := by decide +kernel
theorem d_Mod_rangedOf_205 : decode b_Mod_rangedOf 205 = .ok (.if_icmp .ne 24, 3) := by decide +kernel
theorem d_Mod_rangedOf_208 : decode b_Mod_rangedOf 208 = .ok (.aload_n 0, 1) := by decide +kernel
theorem d_Mod_rangedOf_209 : decode b_Mod_rangedOf 209 = .ok (.getfield 48, 3) := by decide +kernel
theorem d_Mod_rangedOf_212 : decode b_Mod_rangedOf 212 = .ok (.iload_n 2, 1) := by decide +kernel
theorem d_Mod_rangedOf_213 : decode b_Mod_rangedOf 213 = .ok (.iload_n 3, 1) := by decide +kernel
theorem d_Mod_rangedOf_214 : decode b_Mod_rangedOf 214 = .ok (.iconst 1, 1) := by decide +kernel
theorem d_Mod_rangedOf_215 : decode b_Mod_rangedOf 215 = .ok (.aload_n 0, 1) := by decide +kernel
theorem d_Mod_rangedOf_216 : decode b_Mod_rangedOf 216 = .ok (.getfield 13, 3) := by decide +kernel
theorem d_Mod_rangedOf_219 : decode b_Mod_rangedOf 219 = .ok (.iload_n 2, 1) := by decide +kernel
theorem d_Mod_rangedOf_220 : decode b_Mod_rangedOf 220 = .ok (.iaload, 1) := by decide +kernel
theorem d_Mod_rangedOf_221 : decode b_Mod_rangedOf 221 = .ok (.ishl, 1) := by decide +kernel
theorem d_Mod_rangedOf_222 : decode b_Mod_rangedOf 222 = .ok (.iconst (-1), 1) := by decide +kernel
theorem d_Mod_rangedOf_223 : decode b_Mod_rangedOf 223 = .ok (.ixor, 1) := by decide +kernel
theorem d_Mod_rangedOf_224 : decode b_Mod_rangedOf 224 = .ok (.iand, 1) := by decide +kernel
theorem d_Mod_rangedOf_225 : decode b_Mod_rangedOf 225 = .ok (.iastore, 1) := by decide +kernel
theorem d_Mod_rangedOf_226 : decode b_Mod_rangedOf 226 = .ok (.goto 11, 3) := by decide +kernel
theorem d_Mod_rangedOf_229 : decode b_Mod_rangedOf 229 = .ok (.aload_n 0, 1) := by decide +kernel
theorem d_Mod_rangedOf_230 : decode b_Mod_rangedOf 230 = .ok (.getfield 48, 3) := by decide +kernel
theorem d_Mod_rangedOf_233 : decode b_Mod_rangedOf 233 = .ok (.iload_n 2, 1) := by decide +kernel
theorem d_Mod_rangedOf_234 : decode b_Mod_rangedOf 234 = .ok (.iload 4, 2) := by decide +kernel
theorem d_Mod_rangedOf_236 : decode b_Mod_rangedOf 236 = .ok (.iastore, 1) := by decide +kernel
theorem d_Mod_rangedOf_237 : decode b_Mod_rangedOf 237 = .ok (.iinc 2 1, 3) := by decide +kernel
theorem d_Mod_rangedOf_240 : decode b_Mod_rangedOf 240 = .ok (.goto (-238), 3) := by decide +kernel
theorem d_Mod_rangedOf_243 : decode b_Mod_rangedOf 243 = .ok (.aload_n 0, 1) := by decide +kernel
theorem d_Mod_rangedOf_244 : decode b_Mod_rangedOf 244 = .ok (.getfield 48, 3) := by decide +kernel
theorem d_Mod_rangedOf_247 : decode b_Mod_rangedOf 247 = .ok (.iload_n 1, 1) := by decide +kernel
theorem d_Mod_rangedOf_248 : decode b_Mod_rangedOf 248 = .ok (.iaload, 1) := by decide +kernel
theorem d_Mod_rangedOf_249 : decode b_Mod_rangedOf 249 = .ok (.ireturn, 1) := by decide +kernel
theorem d_Mod_bounded_0 : decode b_Mod_bounded 0 = .ok (.aload_n 0, 1) := by decide +kernel
theorem d_Mod_bounded_1 : decode b_Mod_bounded 1 = .ok (.iload_n 1, 1) := by decide +kernel
theorem d_Mod_bounded_2 : decode b_Mod_bounded 2 = .ok (.invokevirtual 75, 3) := by decide +kernel
theorem d_Mod_bounded_5 : decode b_Mod_bounded 5 = .ok (.ifCond .eq 19, 3) := by decide +kernel
theorem d_Mod_bounded_8 : decode b_Mod_bounded 8 = .ok (.aload_n 0, 1) := by decide +kernel
theorem d_Mod_bounded_9 : decode b_Mod_bounded 9 = .ok (.iload_n 1, 1) := by decide +kernel
theorem d_Mod_bounded_10 : decode b_Mod_bounded 10 = .ok (.invokevirtual 90, 3) := by decide +kernel
theorem d_Mod_bounded_13 : decode b_Mod_bounded 13 = .ok (.aload_n 0, 1) := by decide +kernel
theorem d_Mod_bounded_14 : decode b_Mod_bounded 14 = .ok (.iload_n 1, 1) := by decide +kernel
theorem d_Mod_bounded_15 : decode b_Mod_bounded 15 = .ok (.invokevirtual 93, 3) := by decide +kernel
theorem d_Mod_bounded_18 : decode b_Mod_bounded 18 = .ok (.iconst (-1), 1) := by decide +kernel
theorem d_Mod_bounded_19 : decode b_Mod_bounded 19 = .ok (.ixor, 1) := by decide +kernel
theorem d_Mod_bounded_20 : decode b_Mod_bounded 20 = .ok (.iand, 1) := by decide +kernel
theorem d_Mod_bounded_21 : decode b_Mod_bounded 21 = .ok (.ifCond .eq 5, 3) := by decide +kernel
theorem d_Mod_bounded_24 : decode b_Mod_bounded 24 = .ok (.iconst 0, 1) := by decide +kernel
theorem d_Mod_bounded_25 : decode b_Mod_bounded 25 = .ok (.ireturn, 1) := by decide +kernel
theorem d_Mod_bounded_26 : decode b_Mod_bounded 26 = .ok (.iconst 0, 1) := by decide +kernel
theorem d_Mod_bounded_27 : decode b_Mod_bounded 27 = .ok (.istore_n 2, 1) := by decide +kernel
theorem d_Mod_bounded_28 : decode b_Mod_bounded 28 = .ok (.iload_n 2, 1) := by decide +kernel
theorem d_Mod_bounded_29 : decode b_Mod_bounded 29 = .ok (.bipush 12, 2) := by decide +kernel
theorem d_Mod_bounded_31 : decode b_Mod_bounded 31 = .ok (.if_icmp .ge 25, 3) := by decide +kernel
theorem d_Mod_bounded_34 : decode b_Mod_bounded 34 = .ok (.aload_n 0, 1) := by decide +kernel
theorem d_Mod_bounded_35 : decode b_Mod_bounded 35 = .ok (.getfield 41, 3) := by decide +kernel
theorem d_Mod_bounded_38 : decode b_Mod_bounded 38 = .ok (.iload_n 2, 1) := by decide +kernel
theorem d_Mod_bounded_39 : decode b_Mod_bounded 39 = .ok (.iload_n 2, 1) := by decide +kernel
theorem d_Mod_bounded_40 : decode b_Mod_bounded 40 = .ok (.iload_n 1, 1) := by decide +kernel
theorem d_Mod_bounded_41 : decode b_Mod_bounded 41 = .ok (.if_icmp .ne 7, 3) := by decide +kernel
theorem d_Mod_bounded_44 : decode b_Mod_bounded 44 = .ok (.iconst 1, 1) := by decide +kernel
theorem d_Mod_bounded_45 : decode b_Mod_bounded 45 = .ok (.goto 4, 3) := by decide +kernel
theorem d_Mod_bounded_48 : decode b_Mod_bounded 48 = .ok (.iconst 0, 1) := by decide +kernel
theorem d_Mod_bounded_49 : decode b_Mod_bounded 49 = .ok (.bastore, 1) := by decide +kernel
theorem d_Mod_bounded_50 : decode b_Mod_bounded 50 = .ok (.iinc 2 1, 3) := by decide +kernel
theorem d_Mod_bounded_53 : decode b_Mod_bounded 53 = .ok (.goto (-25), 3) := by decide +kernel
theorem d_Mod_bounded_56 : decode b_Mod_bounded 56 = .ok (.iload_n 1, 1) := by decide +kernel
theorem d_Mod_bounded_57 : decode b_Mod_bounded 57 = .ok (.istore_n 2, 1) := by decide +kernel
theorem d_Mod_bounded_58 : decode b_Mod_bounded 58 = .ok (.iload_n 2, 1) := by decide +kernel
theorem d_Mod_bounded_59 : decode b_Mod_bounded 59 = .ok (.ifCond .lt 88, 3) := by decide +kernel
theorem d_Mod_bounded_62 : decode b_Mod_bounded 62 = .ok (.aload_n 0, 1) := by decide +kernel
theorem d_Mod_bounded_63 : decode b_Mod_bounded 63 = .ok (.getfield 41, 3) := by decide +kernel
theorem d_Mod_bounded_66 : decode b_Mod_bounded 66 = .ok (.iload_n 2, 1) := by decide +kernel
theorem d_Mod_bounded_67 : decode b_Mod_bounded 67 = .ok (.baload, 1) := by decide +kernel
theorem d_Mod_bounded_68 : decode b_Mod_bounded 68 = .ok (.ifCond .eq 73, 3) := by decide +kernel
theorem d_Mod_bounded_71 : decode b_Mod_bounded 71 = .ok (.aload_n 0, 1) := by decide +kernel
theorem d_Mod_bounded_72 : decode b_Mod_bounded 72 = .ok (.getfield 7, 3) := by decide +kernel
theorem d_Mod_bounded_75 : decode b_Mod_bounded 75 = .ok (.iload_n 2, 1) := by decide +kernel
theorem d_Mod_bounded_76 : decode b_Mod_bounded 76 = .ok (.iaload, 1) := by decide +kernel
theorem d_Mod_bounded_77 : decode b_Mod_bounded 77 = .ok (.iconst 2, 1) := by decide +kernel
theorem d_Mod_bounded_78 : decode b_Mod_bounded 78 = .ok (.if_icmp .le 63, 3) := by decide +kernel
theorem d_Mod_bounded_81 : decode b_Mod_bounded 81 = .ok (.aload_n 0, 1) := by decide +kernel
theorem d_Mod_bounded_82 : decode b_Mod_bounded 82 = .ok (.getfield 7, 3) := by decide +kernel
theorem d_Mod_bounded_85 : decode b_Mod_bounded 85 = .ok (.iload_n 2, 1) := by decide +kernel
theorem d_Mod_bounded_86 : decode b_Mod_bounded 86 = .ok (.iaload, 1) := by decide +kernel
theorem d_Mod_bounded_87 : decode b_Mod_bounded 87 = .ok (.bipush 6, 2) := by decide +kernel
theorem d_Mod_bounded_89 : decode b_Mod_bounded 89 = .ok (.if_icmp .ne 28, 3) := by decide +kernel
theorem d_Mod_bounded_92 : decode b_Mod_bounded 92 = .ok (.aload_n 0, 1) := by decide +kernel
theorem d_Mod_bounded_93 : decode b_Mod_bounded 93 = .ok (.getfield 48, 3) := by decide +kernel
theorem d_Mod_bounded_96 : decode b_Mod_bounded 96 = .ok (.aload_n 0, 1) := by decide +kernel
theorem d_Mod_bounded_97 : decode b_Mod_bounded 97 = .ok (.getfield 16, 3) := by decide +kernel
theorem d_Mod_bounded_100 : decode b_Mod_bounded 100 = .ok (.iload_n 2, 1) := by decide +kernel
theorem d_Mod_bounded_101 : decode b_Mod_bounded 101 = .ok (.iaload, 1) := by decide +kernel
theorem d_Mod_bounded_102 : decode b_Mod_bounded 102 = .ok (.iaload, 1) := by decide +kernel
theorem d_Mod_bounded_103 : decode b_Mod_bounded 103 = .ok (.aload_n 0, 1) := by decide +kernel
theorem d_Mod_bounded_104 : decode b_Mod_bounded 104 = .ok (.getfield 13, 3) := by decide +kernel
theorem d_Mod_bounded_107 : decode b_Mod_bounded 107 = .ok (.iload_n 2, 1) := by decide +kernel
theorem d_Mod_bounded_108 : decode b_Mod_bounded 108 = .ok (.iaload, 1) := by decide +kernel
theorem d_Mod_bounded_109 : decode b_Mod_bounded 109 = .ok (.ishr, 1) := by decide +kernel
theorem d_Mod_bounded_110 : decode b_Mod_bounded 110 = .ok (.iconst 1, 1) := by decide +kernel
theorem d_Mod_bounded_111 : decode b_Mod_bounded 111 = .ok (.iand, 1) := by decide +kernel
theorem d_Mod_bounded_112 : decode b_Mod_bounded 112 = .ok (.ifCond .ne 5, 3) := by decide +kernel
theorem d_Mod_bounded_115 : decode b_Mod_bounded 115 = .ok (.iconst 0, 1) := by decide +kernel
theorem d_Mod_bounded_116 : decode b_Mod_bounded 116 = .ok (.ireturn, 1) := by decide +kernel
theorem d_Mod_bounded_117 : decode b_Mod_bounded 117 = .ok (.aload_n 0, 1) := by decide +kernel
theorem d_Mod_bounded_118 : decode b_Mod_bounded 118 = .ok (.getfield 41, 3) := by decide +kernel
theorem d_Mod_bounded_121 : decode b_Mod_bounded 121 = .ok (.aload_n 0, 1) := by decide +kernel
theorem d_Mod_bounded_122 : decode b_Mod_bounded 122 = .ok (.getfield 16, 3) := by decide +kernel
theorem d_Mod_bounded_125 : decode b_Mod_bounded 125 = .ok (.iload_n 2, 1) := by decide +kernel
theorem d_Mod_bounded_126 : decode b_Mod_bounded 126 = .ok (.iaload, 1) := by decide +kernel
theorem d_Mod_bounded_127 : decode b_Mod_bounded 127 = .ok (.iconst 1, 1) := by decide +kernel
theorem d_Mod_bounded_128 : decode b_Mod_bounded 128 = .ok (.bastore, 1) := by decide +kernel
theorem d_Mod_bounded_129 : decode b_Mod_bounded 129 = .ok (.aload_n 0, 1) := by decide +kernel
theorem d_Mod_bounded_130 : decode b_Mod_bounded 130 = .ok (.getfield 41, 3) := by decide +kernel
theorem d_Mod_bounded_133 : decode b_Mod_bounded 133 = .ok (.aload_n 0, 1) := by decide +kernel
theorem d_Mod_bounded_134 : decode b_Mod_bounded 134 = .ok (.getfield 19, 3) := by decide +kernel
theorem d_Mod_bounded_137 : decode b_Mod_bounded 137 = .ok (.iload_n 2, 1) := by decide +kernel
theorem d_Mod_bounded_138 : decode b_Mod_bounded 138 = .ok (.iaload, 1) := by decide +kernel
theorem d_Mod_bounded_139 : decode b_Mod_bounded 139 = .ok (.iconst 1, 1) := by decide +kernel
theorem d_Mod_bounded_140 : decode b_Mod_bounded 140 = .ok (.bastore, 1) := by decide +kernel
theorem d_Mod_bounded_141 : decode b_Mod_bounded 141 = .ok (.iinc 2 (-1), 3) := by decide +kernel
theorem d_Mod_bounded_144 : decode b_Mod_bounded 144 = .ok (.goto (-86), 3) := by decide +kernel
theorem d_Mod_bounded_147 : decode b_Mod_bounded 147 = .ok (.iconst 1, 1) := by decide +kernel
theorem d_Mod_bounded_148 : decode b_Mod_bounded 148 = .ok (.ireturn, 1) := by decide +kernel
theorem d_Mod_watch_0 : decode b_Mod_watch 0 = .ok (.aload_n 0, 1) := by decide +kernel
theorem d_Mod_watch_1 : decode b_Mod_watch 1 = .ok (.getfield 58, 3) := by decide +kernel
theorem d_Mod_watch_4 : decode b_Mod_watch 4 = .ok (.ifCond .ne 10, 3) := by decide +kernel
theorem d_Mod_watch_7 : decode b_Mod_watch 7 = .ok (.aload_n 0, 1) := by decide +kernel
theorem d_Mod_watch_8 : decode b_Mod_watch 8 = .ok (.getfield 54, 3) := by decide +kernel
theorem d_Mod_watch_11 : decode b_Mod_watch 11 = .ok (.ifCond .ne 5, 3) := by decide +kernel
theorem d_Mod_watch_14 : decode b_Mod_watch 14 = .ok (.iconst 0, 1) := by decide +kernel
theorem d_Mod_watch_15 : decode b_Mod_watch 15 = .ok (.ireturn, 1) := by decide +kernel
theorem d_Mod_watch_16 : decode b_Mod_watch 16 = .ok (.aload_n 0, 1) := by decide +kernel
theorem d_Mod_watch_17 : decode b_Mod_watch 17 = .ok (.invokevirtual 99, 3) := by decide +kernel
theorem d_Mod_watch_20 : decode b_Mod_watch 20 = .ok (.aload_n 0, 1) := by decide +kernel
theorem d_Mod_watch_21 : decode b_Mod_watch 21 = .ok (.iconst 1, 1) := by decide +kernel
theorem d_Mod_watch_22 : decode b_Mod_watch 22 = .ok (.putfield 58, 3) := by decide +kernel
theorem d_Mod_watch_25 : decode b_Mod_watch 25 = .ok (.iconst 1, 1) := by decide +kernel
theorem d_Mod_watch_26 : decode b_Mod_watch 26 = .ok (.ireturn, 1) := by decide +kernel
theorem d_Mod_empty_0 : decode b_Mod_empty 0 = .ok (.aload_n 0, 1) := by decide +kernel
theorem d_Mod_empty_1 : decode b_Mod_empty 1 = .ok (.iconst 0, 1) := by decide +kernel
theorem d_Mod_empty_2 : decode b_Mod_empty 2 = .ok (.putfield 96, 3) := by decide +kernel
theorem d_Mod_empty_5 : decode b_Mod_empty 5 = .ok (.iconst 0, 1) := by decide +kernel
theorem d_Mod_empty_6 : decode b_Mod_empty 6 = .ok (.istore_n 1, 1) := by decide +kernel
theorem d_Mod_empty_7 : decode b_Mod_empty 7 = .ok (.iload_n 1, 1) := by decide +kernel
theorem d_Mod_empty_8 : decode b_Mod_empty 8 = .ok (.iconst 3, 1) := by decide +kernel
theorem d_Mod_empty_9 : decode b_Mod_empty 9 = .ok (.if_icmp .ge 16, 3) := by decide +kernel
theorem d_Mod_empty_12 : decode b_Mod_empty 12 = .ok (.aload_n 0, 1) := by decide +kernel
theorem d_Mod_empty_13 : decode b_Mod_empty 13 = .ok (.getfield 34, 3) := by decide +kernel
theorem d_Mod_empty_16 : decode b_Mod_empty 16 = .ok (.iload_n 1, 1) := by decide +kernel
theorem d_Mod_empty_17 : decode b_Mod_empty 17 = .ok (.iconst 0, 1) := by decide +kernel
theorem d_Mod_empty_18 : decode b_Mod_empty 18 = .ok (.iastore, 1) := by decide +kernel
theorem d_Mod_empty_19 : decode b_Mod_empty 19 = .ok (.iinc 1 1, 3) := by decide +kernel
theorem d_Mod_empty_22 : decode b_Mod_empty 22 = .ok (.goto (-15), 3) := by decide +kernel
theorem d_Mod_empty_25 : decode b_Mod_empty 25 = .ok (.return_, 1) := by decide +kernel
theorem d_Mod_gather_0 : decode b_Mod_gather 0 = .ok (.aload_n 0, 1) := by decide +kernel
theorem d_Mod_gather_1 : decode b_Mod_gather 1 = .ok (.getfield 58, 3) := by decide +kernel
theorem d_Mod_gather_4 : decode b_Mod_gather 4 = .ok (.ifCond .eq 30, 3) := by decide +kernel
theorem d_Mod_gather_7 : decode b_Mod_gather 7 = .ok (.iload_n 1, 1) := by decide +kernel
theorem d_Mod_gather_8 : decode b_Mod_gather 8 = .ok (.ifCond .lt 26, 3) := by decide +kernel
theorem d_Mod_gather_11 : decode b_Mod_gather 11 = .ok (.iload_n 1, 1) := by decide +kernel
theorem d_Mod_gather_12 : decode b_Mod_gather 12 = .ok (.iconst 2, 1) := by decide +kernel
theorem d_Mod_gather_13 : decode b_Mod_gather 13 = .ok (.if_icmp .gt 21, 3) := by decide +kernel
theorem d_Mod_gather_16 : decode b_Mod_gather 16 = .ok (.iload_n 2, 1) := by decide +kernel
theorem d_Mod_gather_17 : decode b_Mod_gather 17 = .ok (.ifCond .lt 17, 3) := by decide +kernel
theorem d_Mod_gather_20 : decode b_Mod_gather 20 = .ok (.iload_n 2, 1) := by decide +kernel
theorem d_Mod_gather_21 : decode b_Mod_gather 21 = .ok (.iconst 3, 1) := by decide +kernel
theorem d_Mod_gather_22 : decode b_Mod_gather 22 = .ok (.if_icmp .gt 12, 3) := by decide +kernel
theorem d_Mod_gather_25 : decode b_Mod_gather 25 = .ok (.iload_n 3, 1) := by decide +kernel
theorem d_Mod_gather_26 : decode b_Mod_gather 26 = .ok (.ifCond .lt 8, 3) := by decide +kernel
theorem d_Mod_gather_29 : decode b_Mod_gather 29 = .ok (.iload_n 3, 1) := by decide +kernel
theorem d_Mod_gather_30 : decode b_Mod_gather 30 = .ok (.iconst 3, 1) := by decide +kernel
theorem d_Mod_gather_31 : decode b_Mod_gather 31 = .ok (.if_icmp .le 5, 3) := by decide +kernel
theorem d_Mod_gather_34 : decode b_Mod_gather 34 = .ok (.iconst 0, 1) := by decide +kernel
theorem d_Mod_gather_35 : decode b_Mod_gather 35 = .ok (.ireturn, 1) := by decide +kernel
theorem d_Mod_gather_36 : decode b_Mod_gather 36 = .ok (.aload_n 0, 1) := by decide +kernel
theorem d_Mod_gather_37 : decode b_Mod_gather 37 = .ok (.getfield 34, 3) := by decide +kernel
theorem d_Mod_gather_40 : decode b_Mod_gather 40 = .ok (.iload_n 1, 1) := by decide +kernel
theorem d_Mod_gather_41 : decode b_Mod_gather 41 = .ok (.iaload, 1) := by decide +kernel
theorem d_Mod_gather_42 : decode b_Mod_gather 42 = .ok (.iload_n 2, 1) := by decide +kernel
theorem d_Mod_gather_43 : decode b_Mod_gather 43 = .ok (.iconst 4, 1) := by decide +kernel
theorem d_Mod_gather_44 : decode b_Mod_gather 44 = .ok (.iload_n 3, 1) := by decide +kernel
theorem d_Mod_gather_45 : decode b_Mod_gather 45 = .ok (.imul, 1) := by decide +kernel
theorem d_Mod_gather_46 : decode b_Mod_gather 46 = .ok (.iadd, 1) := by decide +kernel
theorem d_Mod_gather_47 : decode b_Mod_gather 47 = .ok (.ishr, 1) := by decide +kernel
theorem d_Mod_gather_48 : decode b_Mod_gather 48 = .ok (.iconst 1, 1) := by decide +kernel
theorem d_Mod_gather_49 : decode b_Mod_gather 49 = .ok (.iand, 1) := by decide +kernel
theorem d_Mod_gather_50 : decode b_Mod_gather 50 = .ok (.iconst 1, 1) := by decide +kernel
theorem d_Mod_gather_51 : decode b_Mod_gather 51 = .ok (.if_icmp .ne 7, 3) := by decide +kernel
theorem d_Mod_gather_54 : decode b_Mod_gather 54 = .ok (.iconst 1, 1) := by decide +kernel
theorem d_Mod_gather_55 : decode b_Mod_gather 55 = .ok (.goto 4, 3) := by decide +kernel
theorem d_Mod_gather_58 : decode b_Mod_gather 58 = .ok (.iconst 0, 1) := by decide +kernel
theorem d_Mod_gather_59 : decode b_Mod_gather 59 = .ok (.istore 4, 2) := by decide +kernel
theorem d_Mod_gather_61 : decode b_Mod_gather 61 = .ok (.aload_n 0, 1) := by decide +kernel
theorem d_Mod_gather_62 : decode b_Mod_gather 62 = .ok (.getfield 34, 3) := by decide +kernel
theorem d_Mod_gather_65 : decode b_Mod_gather 65 = .ok (.iload_n 1, 1) := by decide +kernel
theorem d_Mod_gather_66 : decode b_Mod_gather 66 = .ok (.aload_n 0, 1) := by decide +kernel
theorem d_Mod_gather_67 : decode b_Mod_gather 67 = .ok (.getfield 34, 3) := by decide +kernel
theorem d_Mod_gather_70 : decode b_Mod_gather 70 = .ok (.iload_n 1, 1) := by decide +kernel
theorem d_Mod_gather_71 : decode b_Mod_gather 71 = .ok (.iaload, 1) := by decide +kernel
theorem d_Mod_gather_72 : decode b_Mod_gather 72 = .ok (.iconst 1, 1) := by decide +kernel
theorem d_Mod_gather_73 : decode b_Mod_gather 73 = .ok (.iload_n 2, 1) := by decide +kernel
theorem d_Mod_gather_74 : decode b_Mod_gather 74 = .ok (.iconst 4, 1) := by decide +kernel
theorem d_Mod_gather_75 : decode b_Mod_gather 75 = .ok (.iload_n 3, 1) := by decide +kernel
theorem d_Mod_gather_76 : decode b_Mod_gather 76 = .ok (.imul, 1) := by decide +kernel
theorem d_Mod_gather_77 : decode b_Mod_gather 77 = .ok (.iadd, 1) := by decide +kernel
theorem d_Mod_gather_78 : decode b_Mod_gather 78 = .ok (.ishl, 1) := by decide +kernel
theorem d_Mod_gather_79 : decode b_Mod_gather 79 = .ok (.ior, 1) := by decide +kernel
theorem d_Mod_gather_80 : decode b_Mod_gather 80 = .ok (.iastore, 1) := by decide +kernel
theorem d_Mod_gather_81 : decode b_Mod_gather 81 = .ok (.iload 4, 2) := by decide +kernel
theorem d_Mod_gather_83 : decode b_Mod_gather 83 = .ok (.ifCond .ne 7, 3) := by decide +kernel
theorem d_Mod_gather_86 : decode b_Mod_gather 86 = .ok (.iconst 1, 1) := by decide +kernel
theorem d_Mod_gather_87 : decode b_Mod_gather 87 = .ok (.goto 4, 3) := by decide +kernel
theorem d_Mod_gather_90 : decode b_Mod_gather 90 = .ok (.iconst 0, 1) := by decide +kernel
theorem d_Mod_gather_91 : decode b_Mod_gather 91 = .ok (.ireturn, 1) := by decide +kernel
theorem d_Mod_place_0 : decode b_Mod_place 0 = .ok (.aload_n 0, 1) := by decide +kernel
theorem d_Mod_place_1 : decode b_Mod_place 1 = .ok (.getfield 58, 3) := by decide +kernel
theorem d_Mod_place_4 : decode b_Mod_place 4 = .ok (.ifCond .eq 44, 3) := by decide +kernel
theorem d_Mod_place_7 : decode b_Mod_place 7 = .ok (.iload_n 1, 1) := by decide +kernel
theorem d_Mod_place_8 : decode b_Mod_place 8 = .ok (.ifCond .lt 40, 3) := by decide +kernel
theorem d_Mod_place_11 : decode b_Mod_place 11 = .ok (.iload_n 1, 1) := by decide +kernel
theorem d_Mod_place_12 : decode b_Mod_place 12 = .ok (.ldc 62, 2) := by decide +kernel
theorem d_Mod_place_14 : decode b_Mod_place 14 = .ok (.if_icmp .gt 34, 3) := by decide +kernel
theorem d_Mod_place_17 : decode b_Mod_place 17 = .ok (.aload_n 0, 1) := by decide +kernel
theorem d_Mod_place_18 : decode b_Mod_place 18 = .ok (.getfield 96, 3) := by decide +kernel
theorem d_Mod_place_21 : decode b_Mod_place 21 = .ok (.bipush 24, 2) := by decide +kernel
theorem d_Mod_place_23 : decode b_Mod_place 23 = .ok (.if_icmp .ge 25, 3) := by decide +kernel
theorem d_Mod_place_26 : decode b_Mod_place 26 = .ok (.aload_n 0, 1) := by decide +kernel
theorem d_Mod_place_27 : decode b_Mod_place 27 = .ok (.getfield 96, 3) := by decide +kernel
theorem d_Mod_place_30 : decode b_Mod_place 30 = .ok (.ifCond .le 20, 3) := by decide +kernel
theorem d_Mod_place_33 : decode b_Mod_place 33 = .ok (.iload_n 1, 1) := by decide +kernel
theorem d_Mod_place_34 : decode b_Mod_place 34 = .ok (.aload_n 0, 1) := by decide +kernel
theorem d_Mod_place_35 : decode b_Mod_place 35 = .ok (.getfield 28, 3) := by decide +kernel
theorem d_Mod_place_38 : decode b_Mod_place 38 = .ok (.aload_n 0, 1) := by decide +kernel
theorem d_Mod_place_39 : decode b_Mod_place 39 = .ok (.getfield 96, 3) := by decide +kernel
theorem d_Mod_place_42 : decode b_Mod_place 42 = .ok (.iconst 1, 1) := by decide +kernel
theorem d_Mod_place_43 : decode b_Mod_place 43 = .ok (.isub, 1) := by decide +kernel
theorem d_Mod_place_44 : decode b_Mod_place 44 = .ok (.iaload, 1) := by decide +kernel
theorem d_Mod_place_45 : decode b_Mod_place 45 = .ok (.if_icmp .ge 5, 3) := by decide +kernel
theorem d_Mod_place_48 : decode b_Mod_place 48 = .ok (.iconst (-1), 1) := by decide +kernel
theorem d_Mod_place_49 : decode b_Mod_place 49 = .ok (.ireturn, 1) := by decide +kernel
theorem d_Mod_place_50 : decode b_Mod_place 50 = .ok (.aload_n 0, 1) := by decide +kernel
theorem d_Mod_place_51 : decode b_Mod_place 51 = .ok (.getfield 28, 3) := by decide +kernel
theorem d_Mod_place_54 : decode b_Mod_place 54 = .ok (.aload_n 0, 1) := by decide +kernel
theorem d_Mod_place_55 : decode b_Mod_place 55 = .ok (.getfield 96, 3) := by decide +kernel
theorem d_Mod_place_58 : decode b_Mod_place 58 = .ok (.iload_n 1, 1) := by decide +kernel
theorem d_Mod_place_59 : decode b_Mod_place 59 = .ok (.iastore, 1) := by decide +kernel
theorem d_Mod_place_60 : decode b_Mod_place 60 = .ok (.iconst 0, 1) := by decide +kernel
theorem d_Mod_place_61 : decode b_Mod_place 61 = .ok (.istore_n 2, 1) := by decide +kernel
theorem d_Mod_place_62 : decode b_Mod_place 62 = .ok (.iload_n 2, 1) := by decide +kernel
theorem d_Mod_place_63 : decode b_Mod_place 63 = .ok (.iconst 3, 1) := by decide +kernel
theorem d_Mod_place_64 : decode b_Mod_place 64 = .ok (.if_icmp .ge 36, 3) := by decide +kernel
theorem d_Mod_place_67 : decode b_Mod_place 67 = .ok (.aload_n 0, 1) := by decide +kernel
theorem d_Mod_place_68 : decode b_Mod_place 68 = .ok (.getfield 31, 3) := by decide +kernel
theorem d_Mod_place_71 : decode b_Mod_place 71 = .ok (.bipush 24, 2) := by decide +kernel
theorem d_Mod_place_73 : decode b_Mod_place 73 = .ok (.iload_n 2, 1) := by decide +kernel
theorem d_Mod_place_74 : decode b_Mod_place 74 = .ok (.imul, 1) := by decide +kernel
theorem d_Mod_place_75 : decode b_Mod_place 75 = .ok (.aload_n 0, 1) := by decide +kernel
theorem d_Mod_place_76 : decode b_Mod_place 76 = .ok (.getfield 96, 3) := by decide +kernel
theorem d_Mod_place_79 : decode b_Mod_place 79 = .ok (.iadd, 1) := by decide +kernel
theorem d_Mod_place_80 : decode b_Mod_place 80 = .ok (.aload_n 0, 1) := by decide +kernel
theorem d_Mod_place_81 : decode b_Mod_place 81 = .ok (.getfield 34, 3) := by decide +kernel
theorem d_Mod_place_84 : decode b_Mod_place 84 = .ok (.iload_n 2, 1) := by decide +kernel
theorem d_Mod_place_85 : decode b_Mod_place 85 = .ok (.iaload, 1) := by decide +kernel
theorem d_Mod_place_86 : decode b_Mod_place 86 = .ok (.iastore, 1) := by decide +kernel
theorem d_Mod_place_87 : decode b_Mod_place 87 = .ok (.aload_n 0, 1) := by decide +kernel
theorem d_Mod_place_88 : decode b_Mod_place 88 = .ok (.getfield 34, 3) := by decide +kernel
theorem d_Mod_place_91 : decode b_Mod_place 91 = .ok (.iload_n 2, 1) := by decide +kernel
theorem d_Mod_place_92 : decode b_Mod_place 92 = .ok (.iconst 0, 1) := by decide +kernel
theorem d_Mod_place_93 : decode b_Mod_place 93 = .ok (.iastore, 1) := by decide +kernel
theorem d_Mod_place_94 : decode b_Mod_place 94 = .ok (.iinc 2 1, 3) := by decide +kernel
theorem d_Mod_place_97 : decode b_Mod_place 97 = .ok (.goto (-35), 3) := by decide +kernel
theorem d_Mod_place_100 : decode b_Mod_place 100 = .ok (.aload_n 0, 1) := by decide +kernel
theorem d_Mod_place_101 : decode b_Mod_place 101 = .ok (.dup, 1) := by decide +kernel
theorem d_Mod_place_102 : decode b_Mod_place 102 = .ok (.getfield 96, 3) := by decide +kernel
theorem d_Mod_place_105 : decode b_Mod_place 105 = .ok (.iconst 1, 1) := by decide +kernel
theorem d_Mod_place_106 : decode b_Mod_place 106 = .ok (.iadd, 1) := by decide +kernel
theorem d_Mod_place_107 : decode b_Mod_place 107 = .ok (.putfield 96, 3) := by decide +kernel
theorem d_Mod_place_110 : decode b_Mod_place 110 = .ok (.iconst 0, 1) := by decide +kernel
theorem d_Mod_place_111 : decode b_Mod_place 111 = .ok (.istore_n 2, 1) := by decide +kernel
theorem d_Mod_place_112 : decode b_Mod_place 112 = .ok (.iload_n 2, 1) := by decide +kernel
theorem d_Mod_place_113 : decode b_Mod_place 113 = .ok (.aload_n 0, 1) := by decide +kernel
theorem d_Mod_place_114 : decode b_Mod_place 114 = .ok (.getfield 54, 3) := by decide +kernel
theorem d_Mod_place_117 : decode b_Mod_place 117 = .ok (.if_icmp .ge 31, 3) := by decide +kernel
theorem d_Mod_place_120 : decode b_Mod_place 120 = .ok (.iconst 0, 1) := by decide +kernel
theorem d_Mod_place_121 : decode b_Mod_place 121 = .ok (.istore_n 3, 1) := by decide +kernel
theorem d_Mod_place_122 : decode b_Mod_place 122 = .ok (.iload_n 3, 1) := by decide +kernel
theorem d_Mod_place_123 : decode b_Mod_place 123 = .ok (.aload_n 0, 1) := by decide +kernel
theorem d_Mod_place_124 : decode b_Mod_place 124 = .ok (.getfield 96, 3) := by decide +kernel
theorem d_Mod_place_127 : decode b_Mod_place 127 = .ok (.if_icmp .ge 15, 3) := by decide +kernel
theorem d_Mod_place_130 : decode b_Mod_place 130 = .ok (.aload_n 0, 1) := by decide +kernel
theorem d_Mod_place_131 : decode b_Mod_place 131 = .ok (.iload_n 2, 1) := by decide +kernel
theorem d_Mod_place_132 : decode b_Mod_place 132 = .ok (.iload_n 3, 1) := by decide +kernel
theorem d_Mod_place_133 : decode b_Mod_place 133 = .ok (.invokevirtual 102, 3) := by decide +kernel
theorem d_Mod_place_136 : decode b_Mod_place 136 = .ok (.iinc 3 1, 3) := by decide +kernel
theorem d_Mod_place_139 : decode b_Mod_place 139 = .ok (.goto (-17), 3) := by decide +kernel
theorem d_Mod_place_142 : decode b_Mod_place 142 = .ok (.iinc 2 1, 3) := by decide +kernel
theorem d_Mod_place_145 : decode b_Mod_place 145 = .ok (.goto (-33), 3) := by decide +kernel
theorem d_Mod_place_148 : decode b_Mod_place 148 = .ok (.aload_n 0, 1) := by decide +kernel
theorem d_Mod_place_149 : decode b_Mod_place 149 = .ok (.getfield 96, 3) := by decide +kernel
theorem d_Mod_place_152 : decode b_Mod_place 152 = .ok (.iconst 1, 1) := by decide +kernel
theorem d_Mod_place_153 : decode b_Mod_place 153 = .ok (.isub, 1) := by decide +kernel
theorem d_Mod_place_154 : decode b_Mod_place 154 = .ok (.ireturn, 1) := by decide +kernel
theorem d_Mod_look_0 : decode b_Mod_look 0 = .ok (.lconst 0, 1) := by decide +kernel
theorem d_Mod_look_1 : decode b_Mod_look 1 = .ok (.lstore_n 3, 1) := by decide +kernel
theorem d_Mod_look_2 : decode b_Mod_look 2 = .ok (.iconst 0, 1) := by decide +kernel
theorem d_Mod_look_3 : decode b_Mod_look 3 = .ok (.istore 5, 2) := by decide +kernel
theorem d_Mod_look_5 : decode b_Mod_look 5 = .ok (.iload 5, 2) := by decide +kernel
theorem d_Mod_look_7 : decode b_Mod_look 7 = .ok (.bipush 64, 2) := by decide +kernel
theorem d_Mod_look_9 : decode b_Mod_look 9 = .ok (.if_icmp .ge 31, 3) := by decide +kernel
theorem d_Mod_look_12 : decode b_Mod_look 12 = .ok (.aload_n 0, 1) := by decide +kernel
theorem d_Mod_look_13 : decode b_Mod_look 13 = .ok (.iload_n 1, 1) := by decide +kernel
theorem d_Mod_look_14 : decode b_Mod_look 14 = .ok (.iload_n 2, 1) := by decide +kernel
theorem d_Mod_look_15 : decode b_Mod_look 15 = .ok (.iload 5, 2) := by decide +kernel
theorem d_Mod_look_17 : decode b_Mod_look 17 = .ok (.invokevirtual 127, 3) := by decide +kernel
theorem d_Mod_look_20 : decode b_Mod_look 20 = .ok (.ifCond .eq 12, 3) := by decide +kernel
theorem d_Mod_look_23 : decode b_Mod_look 23 = .ok (.lload_n 3, 1) := by decide +kernel
theorem d_Mod_look_24 : decode b_Mod_look 24 = .ok (.lconst 1, 1) := by decide +kernel
theorem d_Mod_look_25 : decode b_Mod_look 25 = .ok (.iload 5, 2) := by decide +kernel
theorem d_Mod_look_27 : decode b_Mod_look 27 = .ok (.lshl, 1) := by decide +kernel
theorem d_Mod_look_28 : decode b_Mod_look 28 = .ok (.lor, 1) := by decide +kernel
theorem d_Mod_look_29 : decode b_Mod_look 29 = .ok (.goto 4, 3) := by decide +kernel
theorem d_Mod_look_32 : decode b_Mod_look 32 = .ok (.lload_n 3, 1) := by decide +kernel
theorem d_Mod_look_33 : decode b_Mod_look 33 = .ok (.lstore_n 3, 1) := by decide +kernel
theorem d_Mod_look_34 : decode b_Mod_look 34 = .ok (.iinc 5 1, 3) := by decide +kernel
theorem d_Mod_look_37 : decode b_Mod_look 37 = .ok (.goto (-32), 3) := by decide +kernel
theorem d_Mod_look_40 : decode b_Mod_look 40 = .ok (.aload_n 0, 1) := by decide +kernel
theorem d_Mod_look_41 : decode b_Mod_look 41 = .ok (.getfield 37, 3) := by decide +kernel
theorem d_Mod_look_44 : decode b_Mod_look 44 = .ok (.bipush 24, 2) := by decide +kernel
theorem d_Mod_look_46 : decode b_Mod_look 46 = .ok (.iload_n 1, 1) := by decide +kernel
theorem d_Mod_look_47 : decode b_Mod_look 47 = .ok (.imul, 1) := by decide +kernel
theorem d_Mod_look_48 : decode b_Mod_look 48 = .ok (.iload_n 2, 1) := by decide +kernel
theorem d_Mod_look_49 : decode b_Mod_look 49 = .ok (.iadd, 1) := by decide +kernel
theorem d_Mod_look_50 : decode b_Mod_look 50 = .ok (.lload_n 3, 1) := by decide +kernel
theorem d_Mod_look_51 : decode b_Mod_look 51 = .ok (.lastore, 1) := by decide +kernel
theorem d_Mod_look_52 : decode b_Mod_look 52 = .ok (.return_, 1) := by decide +kernel
theorem d_Mod_satisfies_0 : decode b_Mod_satisfies 0 = .ok (.aload_n 0, 1) := by decide +kernel
theorem d_Mod_satisfies_1 : decode b_Mod_satisfies 1 = .ok (.getfield 16, 3) := by decide +kernel
theorem d_Mod_satisfies_4 : decode b_Mod_satisfies 4 = .ok (.iload_n 1, 1) := by decide +kernel
theorem d_Mod_satisfies_5 : decode b_Mod_satisfies 5 = .ok (.iaload, 1) := by decide +kernel
theorem d_Mod_satisfies_6 : decode b_Mod_satisfies 6 = .ok (.istore 4, 2) := by decide +kernel
theorem d_Mod_satisfies_8 : decode b_Mod_satisfies 8 = .ok (.aload_n 0, 1) := by decide +kernel
theorem d_Mod_satisfies_9 : decode b_Mod_satisfies 9 = .ok (.getfield 19, 3) := by decide +kernel
theorem d_Mod_satisfies_12 : decode b_Mod_satisfies 12 = .ok (.iload_n 1, 1) := by decide +kernel
theorem d_Mod_satisfies_13 : decode b_Mod_satisfies 13 = .ok (.iaload, 1) := by decide +kernel
theorem d_Mod_satisfies_14 : decode b_Mod_satisfies 14 = .ok (.istore 5, 2) := by decide +kernel
theorem d_Mod_satisfies_16 : decode b_Mod_satisfies 16 = .ok (.aload_n 0, 1) := by decide +kernel
theorem d_Mod_satisfies_17 : decode b_Mod_satisfies 17 = .ok (.getfield 7, 3) := by decide +kernel
theorem d_Mod_satisfies_20 : decode b_Mod_satisfies 20 = .ok (.iload_n 1, 1) := by decide +kernel
theorem d_Mod_satisfies_21 : decode b_Mod_satisfies 21 = .ok (.iaload, 1) := by decide +kernel
theorem d_Mod_satisfies_22 : decode b_Mod_satisfies 22 = .ok (.tableswitch 271 0 8 #[50, 94, 115, 136, 153, 181, 209, 217, 263], 50) := by decide +kernel
theorem d_Mod_satisfies_72 : decode b_Mod_satisfies 72 = .ok (.aload_n 0, 1) := by decide +kernel
theorem d_Mod_satisfies_73 : decode b_Mod_satisfies 73 = .ok (.getfield 31, 3) := by decide +kernel
theorem d_Mod_satisfies_76 : decode b_Mod_satisfies 76 = .ok (.bipush 24, 2) := by decide +kernel
theorem d_Mod_satisfies_78 : decode b_Mod_satisfies 78 = .ok (.aload_n 0, 1) := by decide +kernel
theorem d_Mod_satisfies_79 : decode b_Mod_satisfies 79 = .ok (.getfield 13, 3) := by decide +kernel
theorem d_Mod_satisfies_82 : decode b_Mod_satisfies 82 = .ok (.iload_n 1, 1) := by decide +kernel
theorem d_Mod_satisfies_83 : decode b_Mod_satisfies 83 = .ok (.iaload, 1) := by decide +kernel
theorem d_Mod_satisfies_84 : decode b_Mod_satisfies 84 = .ok (.imul, 1) := by decide +kernel
theorem d_Mod_satisfies_85 : decode b_Mod_satisfies 85 = .ok (.iload_n 2, 1) := by decide +kernel
theorem d_Mod_satisfies_86 : decode b_Mod_satisfies 86 = .ok (.iadd, 1) := by decide +kernel
theorem d_Mod_satisfies_87 : decode b_Mod_satisfies 87 = .ok (.iaload, 1) := by decide +kernel
theorem d_Mod_satisfies_88 : decode b_Mod_satisfies 88 = .ok (.iload 4, 2) := by decide +kernel
theorem d_Mod_satisfies_90 : decode b_Mod_satisfies 90 = .ok (.iload_n 3, 1) := by decide +kernel
theorem d_Mod_satisfies_91 : decode b_Mod_satisfies 91 = .ok (.invokestatic 114, 3) := by decide +kernel
theorem d_Mod_satisfies_94 : decode b_Mod_satisfies 94 = .ok (.iconst 4, 1) := by decide +kernel
theorem d_Mod_satisfies_95 : decode b_Mod_satisfies 95 = .ok (.iload 5, 2) := by decide +kernel
theorem d_Mod_satisfies_97 : decode b_Mod_satisfies 97 = .ok (.iload_n 3, 1) := by decide +kernel
theorem d_Mod_satisfies_98 : decode b_Mod_satisfies 98 = .ok (.invokestatic 114, 3) := by decide +kernel
theorem d_Mod_satisfies_101 : decode b_Mod_satisfies 101 = .ok (.imul, 1) := by decide +kernel
theorem d_Mod_satisfies_102 : decode b_Mod_satisfies 102 = .ok (.iadd, 1) := by decide +kernel
theorem d_Mod_satisfies_103 : decode b_Mod_satisfies 103 = .ok (.ishr, 1) := by decide +kernel
theorem d_Mod_satisfies_104 : decode b_Mod_satisfies 104 = .ok (.iconst 1, 1) := by decide +kernel
theorem d_Mod_satisfies_105 : decode b_Mod_satisfies 105 = .ok (.iand, 1) := by decide +kernel
theorem d_Mod_satisfies_106 : decode b_Mod_satisfies 106 = .ok (.iconst 1, 1) := by decide +kernel
theorem d_Mod_satisfies_107 : decode b_Mod_satisfies 107 = .ok (.if_icmp .ne 7, 3) := by decide +kernel
theorem d_Mod_satisfies_110 : decode b_Mod_satisfies 110 = .ok (.iconst 1, 1) := by decide +kernel
theorem d_Mod_satisfies_111 : decode b_Mod_satisfies 111 = .ok (.goto 4, 3) := by decide +kernel
theorem d_Mod_satisfies_114 : decode b_Mod_satisfies 114 = .ok (.iconst 0, 1) := by decide +kernel
theorem d_Mod_satisfies_115 : decode b_Mod_satisfies 115 = .ok (.ireturn, 1) := by decide +kernel
theorem d_Mod_satisfies_116 : decode b_Mod_satisfies 116 = .ok (.iload 4, 2) := by decide +kernel
theorem d_Mod_satisfies_118 : decode b_Mod_satisfies 118 = .ok (.iload_n 3, 1) := by decide +kernel
theorem d_Mod_satisfies_119 : decode b_Mod_satisfies 119 = .ok (.invokestatic 114, 3) := by decide +kernel
theorem d_Mod_satisfies_122 : decode b_Mod_satisfies 122 = .ok (.iload 5, 2) := by decide +kernel
theorem d_Mod_satisfies_124 : decode b_Mod_satisfies 124 = .ok (.iload_n 3, 1) := by decide +kernel
theorem d_Mod_satisfies_125 : decode b_Mod_satisfies 125 = .ok (.invokestatic 114, 3) := by decide +kernel
theorem d_Mod_satisfies_128 : decode b_Mod_satisfies 128 = .ok (.if_icmp .ne 7, 3) := by decide +kernel
theorem d_Mod_satisfies_131 : decode b_Mod_satisfies 131 = .ok (.iconst 1, 1) := by decide +kernel
theorem d_Mod_satisfies_132 : decode b_Mod_satisfies 132 = .ok (.goto 4, 3) := by decide +kernel
theorem d_Mod_satisfies_135 : decode b_Mod_satisfies 135 = .ok (.iconst 0, 1) := by decide +kernel
theorem d_Mod_satisfies_136 : decode b_Mod_satisfies 136 = .ok (.ireturn, 1) := by decide +kernel
theorem d_Mod_satisfies_137 : decode b_Mod_satisfies 137 = .ok (.iload 4, 2) := by decide +kernel
theorem d_Mod_satisfies_139 : decode b_Mod_satisfies 139 = .ok (.iload_n 3, 1) := by decide +kernel
theorem d_Mod_satisfies_140 : decode b_Mod_satisfies 140 = .ok (.invokestatic 114, 3) := by decide +kernel
theorem d_Mod_satisfies_143 : decode b_Mod_satisfies 143 = .ok (.iload 5, 2) := by decide +kernel
theorem d_Mod_satisfies_145 : decode b_Mod_satisfies 145 = .ok (.iload_n 3, 1) := by decide +kernel
theorem d_Mod_satisfies_146 : decode b_Mod_satisfies 146 = .ok (.invokestatic 114, 3) := by decide +kernel
theorem d_Mod_satisfies_149 : decode b_Mod_satisfies 149 = .ok (.if_icmp .ge 7, 3) := by decide +kernel
theorem d_Mod_satisfies_152 : decode b_Mod_satisfies 152 = .ok (.iconst 1, 1) := by decide +kernel
theorem d_Mod_satisfies_153 : decode b_Mod_satisfies 153 = .ok (.goto 4, 3) := by decide +kernel
theorem d_Mod_satisfies_156 : decode b_Mod_satisfies 156 = .ok (.iconst 0, 1) := by decide +kernel
theorem d_Mod_satisfies_157 : decode b_Mod_satisfies 157 = .ok (.ireturn, 1) := by decide +kernel
theorem d_Mod_satisfies_158 : decode b_Mod_satisfies 158 = .ok (.aload_n 0, 1) := by decide +kernel
theorem d_Mod_satisfies_159 : decode b_Mod_satisfies 159 = .ok (.iload 4, 2) := by decide +kernel
theorem d_Mod_satisfies_161 : decode b_Mod_satisfies 161 = .ok (.iload_n 2, 1) := by decide +kernel
theorem d_Mod_satisfies_162 : decode b_Mod_satisfies 162 = .ok (.iload_n 3, 1) := by decide +kernel
theorem d_Mod_satisfies_163 : decode b_Mod_satisfies 163 = .ok (.invokevirtual 110, 3) := by decide +kernel
theorem d_Mod_satisfies_166 : decode b_Mod_satisfies 166 = .ok (.ifCond .ne 7, 3) := by decide +kernel
theorem d_Mod_satisfies_169 : decode b_Mod_satisfies 169 = .ok (.iconst 1, 1) := by decide +kernel
theorem d_Mod_satisfies_170 : decode b_Mod_satisfies 170 = .ok (.goto 4, 3) := by decide +kernel
theorem d_Mod_satisfies_173 : decode b_Mod_satisfies 173 = .ok (.iconst 0, 1) := by decide +kernel
theorem d_Mod_satisfies_174 : decode b_Mod_satisfies 174 = .ok (.ireturn, 1) := by decide +kernel
theorem d_Mod_satisfies_175 : decode b_Mod_satisfies 175 = .ok (.aload_n 0, 1) := by decide +kernel
theorem d_Mod_satisfies_176 : decode b_Mod_satisfies 176 = .ok (.iload 4, 2) := by decide +kernel
theorem d_Mod_satisfies_178 : decode b_Mod_satisfies 178 = .ok (.iload_n 2, 1) := by decide +kernel
theorem d_Mod_satisfies_179 : decode b_Mod_satisfies 179 = .ok (.iload_n 3, 1) := by decide +kernel
theorem d_Mod_satisfies_180 : decode b_Mod_satisfies 180 = .ok (.invokevirtual 110, 3) := by decide +kernel
theorem d_Mod_satisfies_183 : decode b_Mod_satisfies 183 = .ok (.ifCond .eq 18, 3) := by decide +kernel
theorem d_Mod_satisfies_186 : decode b_Mod_satisfies 186 = .ok (.aload_n 0, 1) := by decide +kernel
theorem d_Mod_satisfies_187 : decode b_Mod_satisfies 187 = .ok (.iload 5, 2) := by decide +kernel
theorem d_Mod_satisfies_189 : decode b_Mod_satisfies 189 = .ok (.iload_n 2, 1) := by decide +kernel
theorem d_Mod_satisfies_190 : decode b_Mod_satisfies 190 = .ok (.iload_n 3, 1) := by decide +kernel
theorem d_Mod_satisfies_191 : decode b_Mod_satisfies 191 = .ok (.invokevirtual 110, 3) := by decide +kernel
theorem d_Mod_satisfies_194 : decode b_Mod_satisfies 194 = .ok (.ifCond .eq 7, 3) := by decide +kernel
theorem d_Mod_satisfies_197 : decode b_Mod_satisfies 197 = .ok (.iconst 1, 1) := by decide +kernel
theorem d_Mod_satisfies_198 : decode b_Mod_satisfies 198 = .ok (.goto 4, 3) := by decide +kernel
theorem d_Mod_satisfies_201 : decode b_Mod_satisfies 201 = .ok (.iconst 0, 1) := by decide +kernel
theorem d_Mod_satisfies_202 : decode b_Mod_satisfies 202 = .ok (.ireturn, 1) := by decide +kernel
theorem d_Mod_satisfies_203 : decode b_Mod_satisfies 203 = .ok (.aload_n 0, 1) := by decide +kernel
theorem d_Mod_satisfies_204 : decode b_Mod_satisfies 204 = .ok (.iload 4, 2) := by decide +kernel
theorem d_Mod_satisfies_206 : decode b_Mod_satisfies 206 = .ok (.iload_n 2, 1) := by decide +kernel
theorem d_Mod_satisfies_207 : decode b_Mod_satisfies 207 = .ok (.iload_n 3, 1) := by decide +kernel
theorem d_Mod_satisfies_208 : decode b_Mod_satisfies 208 = .ok (.invokevirtual 110, 3) := by decide +kernel
theorem d_Mod_satisfies_211 : decode b_Mod_satisfies 211 = .ok (.ifCond .ne 14, 3) := by decide +kernel
theorem d_Mod_satisfies_214 : decode b_Mod_satisfies 214 = .ok (.aload_n 0, 1) := by decide +kernel
theorem d_Mod_satisfies_215 : decode b_Mod_satisfies 215 = .ok (.iload 5, 2) := by decide +kernel
theorem d_Mod_satisfies_217 : decode b_Mod_satisfies 217 = .ok (.iload_n 2, 1) := by decide +kernel
theorem d_Mod_satisfies_218 : decode b_Mod_satisfies 218 = .ok (.iload_n 3, 1) := by decide +kernel
theorem d_Mod_satisfies_219 : decode b_Mod_satisfies 219 = .ok (.invokevirtual 110, 3) := by decide +kernel
theorem d_Mod_satisfies_222 : decode b_Mod_satisfies 222 = .ok (.ifCond .eq 7, 3) := by decide +kernel
theorem d_Mod_satisfies_225 : decode b_Mod_satisfies 225 = .ok (.iconst 1, 1) := by decide +kernel
theorem d_Mod_satisfies_226 : decode b_Mod_satisfies 226 = .ok (.goto 4, 3) := by decide +kernel
theorem d_Mod_satisfies_229 : decode b_Mod_satisfies 229 = .ok (.iconst 0, 1) := by decide +kernel
theorem d_Mod_satisfies_230 : decode b_Mod_satisfies 230 = .ok (.ireturn, 1) := by decide +kernel
theorem d_Mod_satisfies_231 : decode b_Mod_satisfies 231 = .ok (.aload_n 0, 1) := by decide +kernel
theorem d_Mod_satisfies_232 : decode b_Mod_satisfies 232 = .ok (.iload_n 1, 1) := by decide +kernel
theorem d_Mod_satisfies_233 : decode b_Mod_satisfies 233 = .ok (.iload_n 2, 1) := by decide +kernel
theorem d_Mod_satisfies_234 : decode b_Mod_satisfies 234 = .ok (.iload_n 3, 1) := by decide +kernel
theorem d_Mod_satisfies_235 : decode b_Mod_satisfies 235 = .ok (.invokevirtual 118, 3) := by decide +kernel
theorem d_Mod_satisfies_238 : decode b_Mod_satisfies 238 = .ok (.ireturn, 1) := by decide +kernel
theorem d_Mod_satisfies_239 : decode b_Mod_satisfies 239 = .ok (.iload_n 2, 1) := by decide +kernel
theorem d_Mod_satisfies_240 : decode b_Mod_satisfies 240 = .ok (.ifCond .le 43, 3) := by decide +kernel
theorem d_Mod_satisfies_243 : decode b_Mod_satisfies 243 = .ok (.aload_n 0, 1) := by decide +kernel
theorem d_Mod_satisfies_244 : decode b_Mod_satisfies 244 = .ok (.iload_n 1, 1) := by decide +kernel
theorem d_Mod_satisfies_245 : decode b_Mod_satisfies 245 = .ok (.aload_n 0, 1) := by decide +kernel
theorem d_Mod_satisfies_246 : decode b_Mod_satisfies 246 = .ok (.getfield 28, 3) := by decide +kernel
theorem d_Mod_satisfies_249 : decode b_Mod_satisfies 249 = .ok (.iload_n 2, 1) := by decide +kernel
theorem d_Mod_satisfies_250 : decode b_Mod_satisfies 250 = .ok (.iaload, 1) := by decide +kernel
theorem d_Mod_satisfies_251 : decode b_Mod_satisfies 251 = .ok (.aload_n 0, 1) := by decide +kernel
theorem d_Mod_satisfies_252 : decode b_Mod_satisfies 252 = .ok (.getfield 28, 3) := by decide +kernel
theorem d_Mod_satisfies_255 : decode b_Mod_satisfies 255 = .ok (.iload_n 2, 1) := by decide +kernel
theorem d_Mod_satisfies_256 : decode b_Mod_satisfies 256 = .ok (.iconst 1, 1) := by decide +kernel
theorem d_Mod_satisfies_257 : decode b_Mod_satisfies 257 = .ok (.isub, 1) := by decide +kernel
theorem d_Mod_satisfies_258 : decode b_Mod_satisfies 258 = .ok (.iaload, 1) := by decide +kernel
theorem d_Mod_satisfies_259 : decode b_Mod_satisfies 259 = .ok (.isub, 1) := by decide +kernel
theorem d_Mod_satisfies_260 : decode b_Mod_satisfies 260 = .ok (.invokevirtual 106, 3) := by decide +kernel
theorem d_Mod_satisfies_263 : decode b_Mod_satisfies 263 = .ok (.ifCond .eq 20, 3) := by decide +kernel
theorem d_Mod_satisfies_266 : decode b_Mod_satisfies 266 = .ok (.aload_n 0, 1) := by decide +kernel
theorem d_Mod_satisfies_267 : decode b_Mod_satisfies 267 = .ok (.iload 4, 2) := by decide +kernel
theorem d_Mod_satisfies_269 : decode b_Mod_satisfies 269 = .ok (.iload_n 2, 1) := by decide +kernel
theorem d_Mod_satisfies_270 : decode b_Mod_satisfies 270 = .ok (.iconst 1, 1) := by decide +kernel
theorem d_Mod_satisfies_271 : decode b_Mod_satisfies 271 = .ok (.isub, 1) := by decide +kernel
theorem d_Mod_satisfies_272 : decode b_Mod_satisfies 272 = .ok (.iload_n 3, 1) := by decide +kernel
theorem d_Mod_satisfies_273 : decode b_Mod_satisfies 273 = .ok (.invokevirtual 110, 3) := by decide +kernel
theorem d_Mod_satisfies_276 : decode b_Mod_satisfies 276 = .ok (.ifCond .eq 7, 3) := by decide +kernel
theorem d_Mod_satisfies_279 : decode b_Mod_satisfies 279 = .ok (.iconst 1, 1) := by decide +kernel
theorem d_Mod_satisfies_280 : decode b_Mod_satisfies 280 = .ok (.goto 4, 3) := by decide +kernel
theorem d_Mod_satisfies_283 : decode b_Mod_satisfies 283 = .ok (.iconst 0, 1) := by decide +kernel
theorem d_Mod_satisfies_284 : decode b_Mod_satisfies 284 = .ok (.ireturn, 1) := by decide +kernel
theorem d_Mod_satisfies_285 : decode b_Mod_satisfies 285 = .ok (.aload_n 0, 1) := by decide +kernel
theorem d_Mod_satisfies_286 : decode b_Mod_satisfies 286 = .ok (.iload_n 1, 1) := by decide +kernel
theorem d_Mod_satisfies_287 : decode b_Mod_satisfies 287 = .ok (.iload_n 2, 1) := by decide +kernel
theorem d_Mod_satisfies_288 : decode b_Mod_satisfies 288 = .ok (.iload_n 3, 1) := by decide +kernel
theorem d_Mod_satisfies_289 : decode b_Mod_satisfies 289 = .ok (.invokevirtual 121, 3) := by decide +kernel
theorem d_Mod_satisfies_292 : decode b_Mod_satisfies 292 = .ok (.ireturn, 1) := by decide +kernel
theorem d_Mod_satisfies_293 : decode b_Mod_satisfies 293 = .ok (.aload_n 0, 1) := by decide +kernel
theorem d_Mod_satisfies_294 : decode b_Mod_satisfies 294 = .ok (.iload_n 1, 1) := by decide +kernel
theorem d_Mod_satisfies_295 : decode b_Mod_satisfies 295 = .ok (.iload_n 2, 1) := by decide +kernel
theorem d_Mod_satisfies_296 : decode b_Mod_satisfies 296 = .ok (.iload_n 3, 1) := by decide +kernel
theorem d_Mod_satisfies_297 : decode b_Mod_satisfies 297 = .ok (.invokevirtual 124, 3) := by decide +kernel
theorem d_Mod_satisfies_300 : decode b_Mod_satisfies 300 = .ok (.ireturn, 1) := by decide +kernel
theorem d_Mod_value_0 : decode b_Mod_value 0 = .ok (.iload_n 0, 1) := by decide +kernel
theorem d_Mod_value_1 : decode b_Mod_value 1 = .ok (.iconst 2, 1) := by decide +kernel
theorem d_Mod_value_2 : decode b_Mod_value 2 = .ok (.if_icmp .gt 13, 3) := by decide +kernel
theorem d_Mod_value_5 : decode b_Mod_value 5 = .ok (.iload_n 1, 1) := by decide +kernel
theorem d_Mod_value_6 : decode b_Mod_value 6 = .ok (.iconst 2, 1) := by decide +kernel
theorem d_Mod_value_7 : decode b_Mod_value 7 = .ok (.iload_n 0, 1) := by decide +kernel
theorem d_Mod_value_8 : decode b_Mod_value 8 = .ok (.imul, 1) := by decide +kernel
theorem d_Mod_value_9 : decode b_Mod_value 9 = .ok (.ishr, 1) := by decide +kernel
theorem d_Mod_value_10 : decode b_Mod_value 10 = .ok (.iconst 3, 1) := by decide +kernel
theorem d_Mod_value_11 : decode b_Mod_value 11 = .ok (.iand, 1) := by decide +kernel
theorem d_Mod_value_12 : decode b_Mod_value 12 = .ok (.goto 6, 3) := by decide +kernel
theorem d_Mod_value_15 : decode b_Mod_value 15 = .ok (.iload_n 0, 1) := by decide +kernel
theorem d_Mod_value_16 : decode b_Mod_value 16 = .ok (.iconst 4, 1) := by decide +kernel
theorem d_Mod_value_17 : decode b_Mod_value 17 = .ok (.isub, 1) := by decide +kernel
theorem d_Mod_value_18 : decode b_Mod_value 18 = .ok (.ireturn, 1) := by decide +kernel
theorem d_Mod_at_0 : decode b_Mod_at 0 = .ok (.aload_n 0, 1) := by decide +kernel
theorem d_Mod_at_1 : decode b_Mod_at 1 = .ok (.getfield 37, 3) := by decide +kernel
theorem d_Mod_at_4 : decode b_Mod_at 4 = .ok (.bipush 24, 2) := by decide +kernel
theorem d_Mod_at_6 : decode b_Mod_at 6 = .ok (.iload_n 1, 1) := by decide +kernel
theorem d_Mod_at_7 : decode b_Mod_at 7 = .ok (.imul, 1) := by decide +kernel
theorem d_Mod_at_8 : decode b_Mod_at 8 = .ok (.iload_n 2, 1) := by decide +kernel
theorem d_Mod_at_9 : decode b_Mod_at 9 = .ok (.iadd, 1) := by decide +kernel
theorem d_Mod_at_10 : decode b_Mod_at 10 = .ok (.laload, 1) := by decide +kernel
theorem d_Mod_at_11 : decode b_Mod_at 11 = .ok (.iload_n 3, 1) := by decide +kernel
theorem d_Mod_at_12 : decode b_Mod_at 12 = .ok (.lshr, 1) := by decide +kernel
theorem d_Mod_at_13 : decode b_Mod_at 13 = .ok (.lconst 1, 1) := by decide +kernel
theorem d_Mod_at_14 : decode b_Mod_at 14 = .ok (.land, 1) := by decide +kernel
theorem d_Mod_at_15 : decode b_Mod_at 15 = .ok (.lconst 1, 1) := by decide +kernel
theorem d_Mod_at_16 : decode b_Mod_at 16 = .ok (.lcmp, 1) := by decide +kernel
theorem d_Mod_at_17 : decode b_Mod_at 17 = .ok (.ifCond .ne 7, 3) := by decide +kernel
theorem d_Mod_at_20 : decode b_Mod_at 20 = .ok (.iconst 1, 1) := by decide +kernel
theorem d_Mod_at_21 : decode b_Mod_at 21 = .ok (.goto 4, 3) := by decide +kernel
theorem d_Mod_at_24 : decode b_Mod_at 24 = .ok (.iconst 0, 1) := by decide +kernel
theorem d_Mod_at_25 : decode b_Mod_at 25 = .ok (.ireturn, 1) := by decide +kernel
theorem d_Mod_existsAt_0 : decode b_Mod_existsAt 0 = .ok (.iconst 2, 1) := by decide +kernel
theorem d_Mod_existsAt_1 : decode b_Mod_existsAt 1 = .ok (.aload_n 0, 1) := by decide +kernel
theorem d_Mod_existsAt_2 : decode b_Mod_existsAt 2 = .ok (.getfield 13, 3) := by decide +kernel
theorem d_Mod_existsAt_5 : decode b_Mod_existsAt 5 = .ok (.iload_n 1, 1) := by decide +kernel
theorem d_Mod_existsAt_6 : decode b_Mod_existsAt 6 = .ok (.iaload, 1) := by decide +kernel
theorem d_Mod_existsAt_7 : decode b_Mod_existsAt 7 = .ok (.imul, 1) := by decide +kernel
theorem d_Mod_existsAt_8 : decode b_Mod_existsAt 8 = .ok (.istore 4, 2) := by decide +kernel
theorem d_Mod_existsAt_10 : decode b_Mod_existsAt 10 = .ok (.iconst 0, 1) := by decide +kernel
theorem d_Mod_existsAt_11 : decode b_Mod_existsAt 11 = .ok (.istore 5, 2) := by decide +kernel
theorem d_Mod_existsAt_13 : decode b_Mod_existsAt 13 = .ok (.iconst 0, 1) := by decide +kernel
theorem d_Mod_existsAt_14 : decode b_Mod_existsAt 14 = .ok (.istore 6, 2) := by decide +kernel
theorem d_Mod_existsAt_16 : decode b_Mod_existsAt 16 = .ok (.iload 6, 2) := by decide +kernel
theorem d_Mod_existsAt_18 : decode b_Mod_existsAt 18 = .ok (.iconst 4, 1) := by decide +kernel
theorem d_Mod_existsAt_19 : decode b_Mod_existsAt 19 = .ok (.if_icmp .ge 49, 3) := by decide +kernel
theorem d_Mod_existsAt_22 : decode b_Mod_existsAt 22 = .ok (.iload 5, 2) := by decide +kernel
theorem d_Mod_existsAt_24 : decode b_Mod_existsAt 24 = .ok (.ifCond .ne 31, 3) := by decide +kernel
theorem d_Mod_existsAt_27 : decode b_Mod_existsAt 27 = .ok (.aload_n 0, 1) := by decide +kernel
theorem d_Mod_existsAt_28 : decode b_Mod_existsAt 28 = .ok (.aload_n 0, 1) := by decide +kernel
theorem d_Mod_existsAt_29 : decode b_Mod_existsAt 29 = .ok (.getfield 16, 3) := by decide +kernel
theorem d_Mod_existsAt_32 : decode b_Mod_existsAt 32 = .ok (.iload_n 1, 1) := by decide +kernel
theorem d_Mod_existsAt_33 : decode b_Mod_existsAt 33 = .ok (.iaload, 1) := by decide +kernel
theorem d_Mod_existsAt_34 : decode b_Mod_existsAt 34 = .ok (.iload_n 2, 1) := by decide +kernel
theorem d_Mod_existsAt_35 : decode b_Mod_existsAt 35 = .ok (.iload_n 3, 1) := by decide +kernel
theorem d_Mod_existsAt_36 : decode b_Mod_existsAt 36 = .ok (.iconst 3, 1) := by decide +kernel
theorem d_Mod_existsAt_37 : decode b_Mod_existsAt 37 = .ok (.iload 4, 2) := by decide +kernel
theorem d_Mod_existsAt_39 : decode b_Mod_existsAt 39 = .ok (.ishl, 1) := by decide +kernel
theorem d_Mod_existsAt_40 : decode b_Mod_existsAt 40 = .ok (.iconst (-1), 1) := by decide +kernel
theorem d_Mod_existsAt_41 : decode b_Mod_existsAt 41 = .ok (.ixor, 1) := by decide +kernel
theorem d_Mod_existsAt_42 : decode b_Mod_existsAt 42 = .ok (.iand, 1) := by decide +kernel
theorem d_Mod_existsAt_43 : decode b_Mod_existsAt 43 = .ok (.iload 6, 2) := by decide +kernel
theorem d_Mod_existsAt_45 : decode b_Mod_existsAt 45 = .ok (.iload 4, 2) := by decide +kernel
theorem d_Mod_existsAt_47 : decode b_Mod_existsAt 47 = .ok (.ishl, 1) := by decide +kernel
theorem d_Mod_existsAt_48 : decode b_Mod_existsAt 48 = .ok (.ior, 1) := by decide +kernel
theorem d_Mod_existsAt_49 : decode b_Mod_existsAt 49 = .ok (.invokevirtual 110, 3) := by decide +kernel
theorem d_Mod_existsAt_52 : decode b_Mod_existsAt 52 = .ok (.ifCond .eq 7, 3) := by decide +kernel
theorem d_Mod_existsAt_55 : decode b_Mod_existsAt 55 = .ok (.iconst 1, 1) := by decide +kernel
theorem d_Mod_existsAt_56 : decode b_Mod_existsAt 56 = .ok (.goto 4, 3) := by decide +kernel
theorem d_Mod_existsAt_59 : decode b_Mod_existsAt 59 = .ok (.iconst 0, 1) := by decide +kernel
theorem d_Mod_existsAt_60 : decode b_Mod_existsAt 60 = .ok (.istore 5, 2) := by decide +kernel
theorem d_Mod_existsAt_62 : decode b_Mod_existsAt 62 = .ok (.iinc 6 1, 3) := by decide +kernel
theorem d_Mod_existsAt_65 : decode b_Mod_existsAt 65 = .ok (.goto (-49), 3) := by decide +kernel
theorem d_Mod_existsAt_68 : decode b_Mod_existsAt 68 = .ok (.iload 5, 2) := by decide +kernel
theorem d_Mod_existsAt_70 : decode b_Mod_existsAt 70 = .ok (.ireturn, 1) := by decide +kernel
theorem d_Mod_lies_0 : decode b_Mod_lies 0 = .ok (.iload_n 2, 1) := by decide +kernel
theorem d_Mod_lies_1 : decode b_Mod_lies 1 = .ok (.aload_n 0, 1) := by decide +kernel
theorem d_Mod_lies_2 : decode b_Mod_lies 2 = .ok (.getfield 22, 3) := by decide +kernel
theorem d_Mod_lies_5 : decode b_Mod_lies 5 = .ok (.iload_n 1, 1) := by decide +kernel
theorem d_Mod_lies_6 : decode b_Mod_lies 6 = .ok (.iaload, 1) := by decide +kernel
theorem d_Mod_lies_7 : decode b_Mod_lies 7 = .ok (.if_icmp .lt 27, 3) := by decide +kernel
theorem d_Mod_lies_10 : decode b_Mod_lies 10 = .ok (.aload_n 0, 1) := by decide +kernel
theorem d_Mod_lies_11 : decode b_Mod_lies 11 = .ok (.getfield 25, 3) := by decide +kernel
theorem d_Mod_lies_14 : decode b_Mod_lies 14 = .ok (.iload_n 1, 1) := by decide +kernel
theorem d_Mod_lies_15 : decode b_Mod_lies 15 = .ok (.iaload, 1) := by decide +kernel
theorem d_Mod_lies_16 : decode b_Mod_lies 16 = .ok (.iconst (-1), 1) := by decide +kernel
theorem d_Mod_lies_17 : decode b_Mod_lies 17 = .ok (.if_icmp .eq 13, 3) := by decide +kernel
theorem d_Mod_lies_20 : decode b_Mod_lies 20 = .ok (.iload_n 2, 1) := by decide +kernel
theorem d_Mod_lies_21 : decode b_Mod_lies 21 = .ok (.aload_n 0, 1) := by decide +kernel
theorem d_Mod_lies_22 : decode b_Mod_lies 22 = .ok (.getfield 25, 3) := by decide +kernel
theorem d_Mod_lies_25 : decode b_Mod_lies 25 = .ok (.iload_n 1, 1) := by decide +kernel
theorem d_Mod_lies_26 : decode b_Mod_lies 26 = .ok (.iaload, 1) := by decide +kernel
theorem d_Mod_lies_27 : decode b_Mod_lies 27 = .ok (.if_icmp .gt 7, 3) := by decide +kernel
theorem d_Mod_lies_30 : decode b_Mod_lies 30 = .ok (.iconst 1, 1) := by decide +kernel
theorem d_Mod_lies_31 : decode b_Mod_lies 31 = .ok (.goto 4, 3) := by decide +kernel
theorem d_Mod_lies_34 : decode b_Mod_lies 34 = .ok (.iconst 0, 1) := by decide +kernel
theorem d_Mod_lies_35 : decode b_Mod_lies 35 = .ok (.ireturn, 1) := by decide +kernel
theorem d_Mod_sinceAt_0 : decode b_Mod_sinceAt 0 = .ok (.iload_n 2, 1) := by decide +kernel
theorem d_Mod_sinceAt_1 : decode b_Mod_sinceAt 1 = .ok (.istore 4, 2) := by decide +kernel
theorem d_Mod_sinceAt_3 : decode b_Mod_sinceAt 3 = .ok (.iload 4, 2) := by decide +kernel
theorem d_Mod_sinceAt_5 : decode b_Mod_sinceAt 5 = .ok (.ifCond .lt 67, 3) := by decide +kernel
theorem d_Mod_sinceAt_8 : decode b_Mod_sinceAt 8 = .ok (.aload_n 0, 1) := by decide +kernel
theorem d_Mod_sinceAt_9 : decode b_Mod_sinceAt 9 = .ok (.iload_n 1, 1) := by decide +kernel
theorem d_Mod_sinceAt_10 : decode b_Mod_sinceAt 10 = .ok (.aload_n 0, 1) := by decide +kernel
theorem d_Mod_sinceAt_11 : decode b_Mod_sinceAt 11 = .ok (.getfield 28, 3) := by decide +kernel
theorem d_Mod_sinceAt_14 : decode b_Mod_sinceAt 14 = .ok (.iload_n 2, 1) := by decide +kernel
theorem d_Mod_sinceAt_15 : decode b_Mod_sinceAt 15 = .ok (.iaload, 1) := by decide +kernel
theorem d_Mod_sinceAt_16 : decode b_Mod_sinceAt 16 = .ok (.aload_n 0, 1) := by decide +kernel
theorem d_Mod_sinceAt_17 : decode b_Mod_sinceAt 17 = .ok (.getfield 28, 3) := by decide +kernel
theorem d_Mod_sinceAt_20 : decode b_Mod_sinceAt 20 = .ok (.iload 4, 2) := by decide +kernel
theorem d_Mod_sinceAt_22 : decode b_Mod_sinceAt 22 = .ok (.iaload, 1) := by decide +kernel
theorem d_Mod_sinceAt_23 : decode b_Mod_sinceAt 23 = .ok (.isub, 1) := by decide +kernel
theorem d_Mod_sinceAt_24 : decode b_Mod_sinceAt 24 = .ok (.invokevirtual 106, 3) := by decide +kernel
theorem d_Mod_sinceAt_27 : decode b_Mod_sinceAt 27 = .ok (.ifCond .eq 21, 3) := by decide +kernel
theorem d_Mod_sinceAt_30 : decode b_Mod_sinceAt 30 = .ok (.aload_n 0, 1) := by decide +kernel
theorem d_Mod_sinceAt_31 : decode b_Mod_sinceAt 31 = .ok (.aload_n 0, 1) := by decide +kernel
theorem d_Mod_sinceAt_32 : decode b_Mod_sinceAt 32 = .ok (.getfield 19, 3) := by decide +kernel
theorem d_Mod_sinceAt_35 : decode b_Mod_sinceAt 35 = .ok (.iload_n 1, 1) := by decide +kernel
theorem d_Mod_sinceAt_36 : decode b_Mod_sinceAt 36 = .ok (.iaload, 1) := by decide +kernel
theorem d_Mod_sinceAt_37 : decode b_Mod_sinceAt 37 = .ok (.iload 4, 2) := by decide +kernel
theorem d_Mod_sinceAt_39 : decode b_Mod_sinceAt 39 = .ok (.iload_n 3, 1) := by decide +kernel
theorem d_Mod_sinceAt_40 : decode b_Mod_sinceAt 40 = .ok (.invokevirtual 110, 3) := by decide +kernel
theorem d_Mod_sinceAt_43 : decode b_Mod_sinceAt 43 = .ok (.ifCond .eq 5, 3) := by decide +kernel
theorem d_Mod_sinceAt_46 : decode b_Mod_sinceAt 46 = .ok (.iconst 1, 1) := by decide +kernel
theorem d_Mod_sinceAt_47 : decode b_Mod_sinceAt 47 = .ok (.ireturn, 1) := by decide +kernel
theorem d_Mod_sinceAt_48 : decode b_Mod_sinceAt 48 = .ok (.aload_n 0, 1) := by decide +kernel
theorem d_Mod_sinceAt_49 : decode b_Mod_sinceAt 49 = .ok (.aload_n 0, 1) := by decide +kernel
theorem d_Mod_sinceAt_50 : decode b_Mod_sinceAt 50 = .ok (.getfield 16, 3) := by decide +kernel
theorem d_Mod_sinceAt_53 : decode b_Mod_sinceAt 53 = .ok (.iload_n 1, 1) := by decide +kernel
theorem d_Mod_sinceAt_54 : decode b_Mod_sinceAt 54 = .ok (.iaload, 1) := by decide +kernel
theorem d_Mod_sinceAt_55 : decode b_Mod_sinceAt 55 = .ok (.iload 4, 2) := by decide +kernel
theorem d_Mod_sinceAt_57 : decode b_Mod_sinceAt 57 = .ok (.iload_n 3, 1) := by decide +kernel
theorem d_Mod_sinceAt_58 : decode b_Mod_sinceAt 58 = .ok (.invokevirtual 110, 3) := by decide +kernel
theorem d_Mod_sinceAt_61 : decode b_Mod_sinceAt 61 = .ok (.ifCond .ne 5, 3) := by decide +kernel
theorem d_Mod_sinceAt_64 : decode b_Mod_sinceAt 64 = .ok (.iconst 0, 1) := by decide +kernel
theorem d_Mod_sinceAt_65 : decode b_Mod_sinceAt 65 = .ok (.ireturn, 1) := by decide +kernel
theorem d_Mod_sinceAt_66 : decode b_Mod_sinceAt 66 = .ok (.iinc 4 (-1), 3) := by decide +kernel
theorem d_Mod_sinceAt_69 : decode b_Mod_sinceAt 69 = .ok (.goto (-66), 3) := by decide +kernel
theorem d_Mod_sinceAt_72 : decode b_Mod_sinceAt 72 = .ok (.iconst 0, 1) := by decide +kernel
theorem d_Mod_sinceAt_73 : decode b_Mod_sinceAt 73 = .ok (.ireturn, 1) := by decide +kernel
theorem d_Mod_untilAt_0 : decode b_Mod_untilAt 0 = .ok (.iload_n 2, 1) := by decide +kernel
theorem d_Mod_untilAt_1 : decode b_Mod_untilAt 1 = .ok (.istore 4, 2) := by decide +kernel
theorem d_Mod_untilAt_3 : decode b_Mod_untilAt 3 = .ok (.iload 4, 2) := by decide +kernel
theorem d_Mod_untilAt_5 : decode b_Mod_untilAt 5 = .ok (.aload_n 0, 1) := by decide +kernel
theorem d_Mod_untilAt_6 : decode b_Mod_untilAt 6 = .ok (.getfield 96, 3) := by decide +kernel
theorem d_Mod_untilAt_9 : decode b_Mod_untilAt 9 = .ok (.if_icmp .ge 67, 3) := by decide +kernel
theorem d_Mod_untilAt_12 : decode b_Mod_untilAt 12 = .ok (.aload_n 0, 1) := by decide +kernel
theorem d_Mod_untilAt_13 : decode b_Mod_untilAt 13 = .ok (.iload_n 1, 1) := by decide +kernel
theorem d_Mod_untilAt_14 : decode b_Mod_untilAt 14 = .ok (.aload_n 0, 1) := by decide +kernel
theorem d_Mod_untilAt_15 : decode b_Mod_untilAt 15 = .ok (.getfield 28, 3) := by decide +kernel
theorem d_Mod_untilAt_18 : decode b_Mod_untilAt 18 = .ok (.iload 4, 2) := by decide +kernel
theorem d_Mod_untilAt_20 : decode b_Mod_untilAt 20 = .ok (.iaload, 1) := by decide +kernel
theorem d_Mod_untilAt_21 : decode b_Mod_untilAt 21 = .ok (.aload_n 0, 1) := by decide +kernel
theorem d_Mod_untilAt_22 : decode b_Mod_untilAt 22 = .ok (.getfield 28, 3) := by decide +kernel
theorem d_Mod_untilAt_25 : decode b_Mod_untilAt 25 = .ok (.iload_n 2, 1) := by decide +kernel
theorem d_Mod_untilAt_26 : decode b_Mod_untilAt 26 = .ok (.iaload, 1) := by decide +kernel
theorem d_Mod_untilAt_27 : decode b_Mod_untilAt 27 = .ok (.isub, 1) := by decide +kernel
theorem d_Mod_untilAt_28 : decode b_Mod_untilAt 28 = .ok (.invokevirtual 106, 3) := by decide +kernel
theorem d_Mod_untilAt_31 : decode b_Mod_untilAt 31 = .ok (.ifCond .eq 21, 3) := by decide +kernel
theorem d_Mod_untilAt_34 : decode b_Mod_untilAt 34 = .ok (.aload_n 0, 1) := by decide +kernel
theorem d_Mod_untilAt_35 : decode b_Mod_untilAt 35 = .ok (.aload_n 0, 1) := by decide +kernel
theorem d_Mod_untilAt_36 : decode b_Mod_untilAt 36 = .ok (.getfield 19, 3) := by decide +kernel
theorem d_Mod_untilAt_39 : decode b_Mod_untilAt 39 = .ok (.iload_n 1, 1) := by decide +kernel
theorem d_Mod_untilAt_40 : decode b_Mod_untilAt 40 = .ok (.iaload, 1) := by decide +kernel
theorem d_Mod_untilAt_41 : decode b_Mod_untilAt 41 = .ok (.iload 4, 2) := by decide +kernel
theorem d_Mod_untilAt_43 : decode b_Mod_untilAt 43 = .ok (.iload_n 3, 1) := by decide +kernel
theorem d_Mod_untilAt_44 : decode b_Mod_untilAt 44 = .ok (.invokevirtual 110, 3) := by decide +kernel
theorem d_Mod_untilAt_47 : decode b_Mod_untilAt 47 = .ok (.ifCond .eq 5, 3) := by decide +kernel
theorem d_Mod_untilAt_50 : decode b_Mod_untilAt 50 = .ok (.iconst 1, 1) := by decide +kernel
theorem d_Mod_untilAt_51 : decode b_Mod_untilAt 51 = .ok (.ireturn, 1) := by decide +kernel
theorem d_Mod_untilAt_52 : decode b_Mod_untilAt 52 = .ok (.aload_n 0, 1) := by decide +kernel
theorem d_Mod_untilAt_53 : decode b_Mod_untilAt 53 = .ok (.aload_n 0, 1) := by decide +kernel
theorem d_Mod_untilAt_54 : decode b_Mod_untilAt 54 = .ok (.getfield 16, 3) := by decide +kernel
theorem d_Mod_untilAt_57 : decode b_Mod_untilAt 57 = .ok (.iload_n 1, 1) := by decide +kernel
theorem d_Mod_untilAt_58 : decode b_Mod_untilAt 58 = .ok (.iaload, 1) := by decide +kernel
theorem d_Mod_untilAt_59 : decode b_Mod_untilAt 59 = .ok (.iload 4, 2) := by decide +kernel
theorem d_Mod_untilAt_61 : decode b_Mod_untilAt 61 = .ok (.iload_n 3, 1) := by decide +kernel
theorem d_Mod_untilAt_62 : decode b_Mod_untilAt 62 = .ok (.invokevirtual 110, 3) := by decide +kernel
theorem d_Mod_untilAt_65 : decode b_Mod_untilAt 65 = .ok (.ifCond .ne 5, 3) := by decide +kernel
theorem d_Mod_untilAt_68 : decode b_Mod_untilAt 68 = .ok (.iconst 0, 1) := by decide +kernel
theorem d_Mod_untilAt_69 : decode b_Mod_untilAt 69 = .ok (.ireturn, 1) := by decide +kernel
theorem d_Mod_untilAt_70 : decode b_Mod_untilAt 70 = .ok (.iinc 4 1, 3) := by decide +kernel
theorem d_Mod_untilAt_73 : decode b_Mod_untilAt 73 = .ok (.goto (-70), 3) := by decide +kernel
theorem d_Mod_untilAt_76 : decode b_Mod_untilAt 76 = .ok (.iconst 0, 1) := by decide +kernel
theorem d_Mod_untilAt_77 : decode b_Mod_untilAt 77 = .ok (.ireturn, 1) := by decide +kernel
theorem d_Mod_stop_0 : decode b_Mod_stop 0 = .ok (.aload_n 0, 1) := by decide +kernel
theorem d_Mod_stop_1 : decode b_Mod_stop 1 = .ok (.iconst 0, 1) := by decide +kernel
theorem d_Mod_stop_2 : decode b_Mod_stop 2 = .ok (.putfield 58, 3) := by decide +kernel
theorem d_Mod_stop_5 : decode b_Mod_stop 5 = .ok (.aload_n 0, 1) := by decide +kernel
theorem d_Mod_stop_6 : decode b_Mod_stop 6 = .ok (.invokevirtual 99, 3) := by decide +kernel
theorem d_Mod_stop_9 : decode b_Mod_stop 9 = .ok (.aload_n 0, 1) := by decide +kernel
theorem d_Mod_stop_10 : decode b_Mod_stop 10 = .ok (.iload_n 1, 1) := by decide +kernel
theorem d_Mod_stop_11 : decode b_Mod_stop 11 = .ok (.ifCond .eq 7, 3) := by decide +kernel
theorem d_Mod_stop_14 : decode b_Mod_stop 14 = .ok (.iconst 0, 1) := by decide +kernel
theorem d_Mod_stop_15 : decode b_Mod_stop 15 = .ok (.goto 7, 3) := by decide +kernel
theorem d_Mod_stop_18 : decode b_Mod_stop 18 = .ok (.aload_n 0, 1) := by decide +kernel
theorem d_Mod_stop_19 : decode b_Mod_stop 19 = .ok (.getfield 54, 3) := by decide +kernel
theorem d_Mod_stop_22 : decode b_Mod_stop 22 = .ok (.putfield 54, 3) := by decide +kernel
theorem d_Mod_stop_25 : decode b_Mod_stop 25 = .ok (.return_, 1) := by decide +kernel
theorem d_Mod_progress_0 : decode b_Mod_progress 0 = .ok (.aload_n 0, 1) := by decide +kernel
theorem d_Mod_progress_1 : decode b_Mod_progress 1 = .ok (.iload_n 1, 1) := by decide +kernel
theorem d_Mod_progress_2 : decode b_Mod_progress 2 = .ok (.invokevirtual 75, 3) := by decide +kernel
theorem d_Mod_progress_5 : decode b_Mod_progress 5 = .ok (.ifCond .ne 5, 3) := by decide +kernel
theorem d_Mod_progress_8 : decode b_Mod_progress 8 = .ok (.iconst (-1), 1) := by decide +kernel
theorem d_Mod_progress_9 : decode b_Mod_progress 9 = .ok (.ireturn, 1) := by decide +kernel
theorem d_Mod_progress_10 : decode b_Mod_progress 10 = .ok (.iconst 0, 1) := by decide +kernel
theorem d_Mod_progress_11 : decode b_Mod_progress 11 = .ok (.istore_n 2, 1) := by decide +kernel
theorem d_Mod_progress_12 : decode b_Mod_progress 12 = .ok (.iload_n 2, 1) := by decide +kernel
theorem d_Mod_progress_13 : decode b_Mod_progress 13 = .ok (.iload_n 1, 1) := by decide +kernel
theorem d_Mod_progress_14 : decode b_Mod_progress 14 = .ok (.if_icmp .gt 105, 3) := by decide +kernel
theorem d_Mod_progress_17 : decode b_Mod_progress 17 = .ok (.aload_n 0, 1) := by decide +kernel
theorem d_Mod_progress_18 : decode b_Mod_progress 18 = .ok (.getfield 7, 3) := by decide +kernel
theorem d_Mod_progress_21 : decode b_Mod_progress 21 = .ok (.iload_n 2, 1) := by decide +kernel
theorem d_Mod_progress_22 : decode b_Mod_progress 22 = .ok (.iaload, 1) := by decide +kernel
theorem d_Mod_progress_23 : decode b_Mod_progress 23 = .ok (.iconst 2, 1) := by decide +kernel
theorem d_Mod_progress_24 : decode b_Mod_progress 24 = .ok (.if_icmp .gt 10, 3) := by decide +kernel
theorem d_Mod_progress_27 : decode b_Mod_progress 27 = .ok (.aload_n 0, 1) := by decide +kernel
theorem d_Mod_progress_28 : decode b_Mod_progress 28 = .ok (.getfield 96, 3) := by decide +kernel
theorem d_Mod_progress_31 : decode b_Mod_progress 31 = .ok (.goto 29, 3) := by decide +kernel
theorem d_Mod_progress_34 : decode b_Mod_progress 34 = .ok (.aload_n 0, 1) := by decide +kernel
theorem d_Mod_progress_35 : decode b_Mod_progress 35 = .ok (.aload_n 0, 1) := by decide +kernel
theorem d_Mod_progress_36 : decode b_Mod_progress 36 = .ok (.getfield 51, 3) := by decide +kernel
theorem d_Mod_progress_39 : decode b_Mod_progress 39 = .ok (.aload_n 0, 1) := by decide +kernel
theorem d_Mod_progress_40 : decode b_Mod_progress 40 = .ok (.getfield 16, 3) := by decide +kernel
theorem d_Mod_progress_43 : decode b_Mod_progress 43 = .ok (.iload_n 2, 1) := by decide +kernel
theorem d_Mod_progress_44 : decode b_Mod_progress 44 = .ok (.iaload, 1) := by decide +kernel
theorem d_Mod_progress_45 : decode b_Mod_progress 45 = .ok (.iaload, 1) := by decide +kernel
theorem d_Mod_progress_46 : decode b_Mod_progress 46 = .ok (.aload_n 0, 1) := by decide +kernel
theorem d_Mod_progress_47 : decode b_Mod_progress 47 = .ok (.getfield 51, 3) := by decide +kernel
theorem d_Mod_progress_50 : decode b_Mod_progress 50 = .ok (.aload_n 0, 1) := by decide +kernel
theorem d_Mod_progress_51 : decode b_Mod_progress 51 = .ok (.getfield 19, 3) := by decide +kernel
theorem d_Mod_progress_54 : decode b_Mod_progress 54 = .ok (.iload_n 2, 1) := by decide +kernel
theorem d_Mod_progress_55 : decode b_Mod_progress 55 = .ok (.iaload, 1) := by decide +kernel
theorem d_Mod_progress_56 : decode b_Mod_progress 56 = .ok (.iaload, 1) := by decide +kernel
theorem d_Mod_progress_57 : decode b_Mod_progress 57 = .ok (.invokevirtual 130, 3) := by decide +kernel
theorem d_Mod_progress_60 : decode b_Mod_progress 60 = .ok (.istore_n 3, 1) := by decide +kernel
theorem d_Mod_progress_61 : decode b_Mod_progress 61 = .ok (.aload_n 0, 1) := by decide +kernel
theorem d_Mod_progress_62 : decode b_Mod_progress 62 = .ok (.getfield 51, 3) := by decide +kernel
theorem d_Mod_progress_65 : decode b_Mod_progress 65 = .ok (.iload_n 2, 1) := by decide +kernel
theorem d_Mod_progress_66 : decode b_Mod_progress 66 = .ok (.aload_n 0, 1) := by decide +kernel
theorem d_Mod_progress_67 : decode b_Mod_progress 67 = .ok (.getfield 7, 3) := by decide +kernel
theorem d_Mod_progress_70 : decode b_Mod_progress 70 = .ok (.iload_n 2, 1) := by decide +kernel
theorem d_Mod_progress_71 : decode b_Mod_progress 71 = .ok (.iaload, 1) := by decide +kernel
theorem d_Mod_progress_72 : decode b_Mod_progress 72 = .ok (.bipush 7, 2) := by decide +kernel
theorem d_Mod_progress_74 : decode b_Mod_progress 74 = .ok (.if_icmp .ne 17, 3) := by decide +kernel
theorem d_Mod_progress_77 : decode b_Mod_progress 77 = .ok (.aload_n 0, 1) := by decide +kernel
theorem d_Mod_progress_78 : decode b_Mod_progress 78 = .ok (.aload_n 0, 1) := by decide +kernel
theorem d_Mod_progress_79 : decode b_Mod_progress 79 = .ok (.getfield 96, 3) := by decide +kernel
theorem d_Mod_progress_82 : decode b_Mod_progress 82 = .ok (.iload_n 3, 1) := by decide +kernel
theorem d_Mod_progress_83 : decode b_Mod_progress 83 = .ok (.iconst 1, 1) := by decide +kernel
theorem d_Mod_progress_84 : decode b_Mod_progress 84 = .ok (.iadd, 1) := by decide +kernel
theorem d_Mod_progress_85 : decode b_Mod_progress 85 = .ok (.invokevirtual 130, 3) := by decide +kernel
theorem d_Mod_progress_88 : decode b_Mod_progress 88 = .ok (.goto 24, 3) := by decide +kernel
theorem d_Mod_progress_91 : decode b_Mod_progress 91 = .ok (.aload_n 0, 1) := by decide +kernel
theorem d_Mod_progress_92 : decode b_Mod_progress 92 = .ok (.getfield 7, 3) := by decide +kernel
theorem d_Mod_progress_95 : decode b_Mod_progress 95 = .ok (.iload_n 2, 1) := by decide +kernel
theorem d_Mod_progress_96 : decode b_Mod_progress 96 = .ok (.iaload, 1) := by decide +kernel
theorem d_Mod_progress_97 : decode b_Mod_progress 97 = .ok (.bipush 9, 2) := by decide +kernel
theorem d_Mod_progress_99 : decode b_Mod_progress 99 = .ok (.if_icmp .ne 12, 3) := by decide +kernel
theorem d_Mod_progress_102 : decode b_Mod_progress 102 = .ok (.aload_n 0, 1) := by decide +kernel
theorem d_Mod_progress_103 : decode b_Mod_progress 103 = .ok (.iload_n 2, 1) := by decide +kernel
theorem d_Mod_progress_104 : decode b_Mod_progress 104 = .ok (.iload_n 3, 1) := by decide +kernel
theorem d_Mod_progress_105 : decode b_Mod_progress 105 = .ok (.invokevirtual 133, 3) := by decide +kernel
theorem d_Mod_progress_108 : decode b_Mod_progress 108 = .ok (.goto 4, 3) := by decide +kernel
theorem d_Mod_progress_111 : decode b_Mod_progress 111 = .ok (.iload_n 3, 1) := by decide +kernel
theorem d_Mod_progress_112 : decode b_Mod_progress 112 = .ok (.iastore, 1) := by decide +kernel
theorem d_Mod_progress_113 : decode b_Mod_progress 113 = .ok (.iinc 2 1, 3) := by decide +kernel
theorem d_Mod_progress_116 : decode b_Mod_progress 116 = .ok (.goto (-104), 3) := by decide +kernel
theorem d_Mod_progress_119 : decode b_Mod_progress 119 = .ok (.aload_n 0, 1) := by decide +kernel
theorem d_Mod_progress_120 : decode b_Mod_progress 120 = .ok (.getfield 51, 3) := by decide +kernel
theorem d_Mod_progress_123 : decode b_Mod_progress 123 = .ok (.iload_n 1, 1) := by decide +kernel
theorem d_Mod_progress_124 : decode b_Mod_progress 124 = .ok (.iaload, 1) := by decide +kernel
theorem d_Mod_progress_125 : decode b_Mod_progress 125 = .ok (.ireturn, 1) := by decide +kernel
theorem d_Mod_lesser_0 : decode b_Mod_lesser 0 = .ok (.iload_n 1, 1) := by decide +kernel
theorem d_Mod_lesser_1 : decode b_Mod_lesser 1 = .ok (.iload_n 2, 1) := by decide +kernel
theorem d_Mod_lesser_2 : decode b_Mod_lesser 2 = .ok (.if_icmp .ge 7, 3) := by decide +kernel
theorem d_Mod_lesser_5 : decode b_Mod_lesser 5 = .ok (.iload_n 1, 1) := by decide +kernel
theorem d_Mod_lesser_6 : decode b_Mod_lesser 6 = .ok (.goto 4, 3) := by decide +kernel
theorem d_Mod_lesser_9 : decode b_Mod_lesser 9 = .ok (.iload_n 2, 1) := by decide +kernel
theorem d_Mod_lesser_10 : decode b_Mod_lesser 10 = .ok (.ireturn, 1) := by decide +kernel
theorem d_Mod_decided_0 : decode b_Mod_decided 0 = .ok (.iconst 0, 1) := by decide +kernel
theorem d_Mod_decided_1 : decode b_Mod_decided 1 = .ok (.istore_n 3, 1) := by decide +kernel
theorem d_Mod_decided_2 : decode b_Mod_decided 2 = .ok (.iconst 0, 1) := by decide +kernel
theorem d_Mod_decided_3 : decode b_Mod_decided 3 = .ok (.istore 4, 2) := by decide +kernel
theorem d_Mod_decided_5 : decode b_Mod_decided 5 = .ok (.iload 4, 2) := by decide +kernel
theorem d_Mod_decided_7 : decode b_Mod_decided 7 = .ok (.aload_n 0, 1) := by decide +kernel
theorem d_Mod_decided_8 : decode b_Mod_decided 8 = .ok (.getfield 96, 3) := by decide +kernel
theorem d_Mod_decided_11 : decode b_Mod_decided 11 = .ok (.if_icmp .ge 85, 3) := by decide +kernel
theorem d_Mod_decided_14 : decode b_Mod_decided 14 = .ok (.iconst 0, 1) := by decide +kernel
theorem d_Mod_decided_15 : decode b_Mod_decided 15 = .ok (.istore 5, 2) := by decide +kernel
theorem d_Mod_decided_17 : decode b_Mod_decided 17 = .ok (.iconst 0, 1) := by decide +kernel
theorem d_Mod_decided_18 : decode b_Mod_decided 18 = .ok (.istore 6, 2) := by decide +kernel
theorem d_Mod_decided_20 : decode b_Mod_decided 20 = .ok (.iload 6, 2) := by decide +kernel
theorem d_Mod_decided_22 : decode b_Mod_decided 22 = .ok (.iload_n 2, 1) := by decide +kernel
theorem d_Mod_decided_23 : decode b_Mod_decided 23 = .ok (.if_icmp .gt 54, 3) := by decide +kernel
theorem d_Mod_decided_26 : decode b_Mod_decided 26 = .ok (.iload 6, 2) := by decide +kernel
theorem d_Mod_decided_28 : decode b_Mod_decided 28 = .ok (.aload_n 0, 1) := by decide +kernel
theorem d_Mod_decided_29 : decode b_Mod_decided 29 = .ok (.getfield 96, 3) := by decide +kernel
theorem d_Mod_decided_32 : decode b_Mod_decided 32 = .ok (.if_icmp .ge 45, 3) := by decide +kernel
theorem d_Mod_decided_35 : decode b_Mod_decided 35 = .ok (.iload 5, 2) := by decide +kernel
theorem d_Mod_decided_37 : decode b_Mod_decided 37 = .ok (.ifCond .ne 27, 3) := by decide +kernel
theorem d_Mod_decided_40 : decode b_Mod_decided 40 = .ok (.aload_n 0, 1) := by decide +kernel
theorem d_Mod_decided_41 : decode b_Mod_decided 41 = .ok (.getfield 28, 3) := by decide +kernel
theorem d_Mod_decided_44 : decode b_Mod_decided 44 = .ok (.iload 6, 2) := by decide +kernel
theorem d_Mod_decided_46 : decode b_Mod_decided 46 = .ok (.iaload, 1) := by decide +kernel
theorem d_Mod_decided_47 : decode b_Mod_decided 47 = .ok (.aload_n 0, 1) := by decide +kernel
theorem d_Mod_decided_48 : decode b_Mod_decided 48 = .ok (.getfield 28, 3) := by decide +kernel
theorem d_Mod_decided_51 : decode b_Mod_decided 51 = .ok (.iload 4, 2) := by decide +kernel
theorem d_Mod_decided_53 : decode b_Mod_decided 53 = .ok (.iaload, 1) := by decide +kernel
theorem d_Mod_decided_54 : decode b_Mod_decided 54 = .ok (.aload_n 0, 1) := by decide +kernel
theorem d_Mod_decided_55 : decode b_Mod_decided 55 = .ok (.getfield 25, 3) := by decide +kernel
theorem d_Mod_decided_58 : decode b_Mod_decided 58 = .ok (.iload_n 1, 1) := by decide +kernel
theorem d_Mod_decided_59 : decode b_Mod_decided 59 = .ok (.iaload, 1) := by decide +kernel
theorem d_Mod_decided_60 : decode b_Mod_decided 60 = .ok (.iadd, 1) := by decide +kernel
theorem d_Mod_decided_61 : decode b_Mod_decided 61 = .ok (.if_icmp .le 7, 3) := by decide +kernel
theorem d_Mod_decided_64 : decode b_Mod_decided 64 = .ok (.iconst 1, 1) := by decide +kernel
theorem d_Mod_decided_65 : decode b_Mod_decided 65 = .ok (.goto 4, 3) := by decide +kernel
theorem d_Mod_decided_68 : decode b_Mod_decided 68 = .ok (.iconst 0, 1) := by decide +kernel
theorem d_Mod_decided_69 : decode b_Mod_decided 69 = .ok (.istore 5, 2) := by decide +kernel
theorem d_Mod_decided_71 : decode b_Mod_decided 71 = .ok (.iinc 6 1, 3) := by decide +kernel
theorem d_Mod_decided_74 : decode b_Mod_decided 74 = .ok (.goto (-54), 3) := by decide +kernel
theorem d_Mod_decided_77 : decode b_Mod_decided 77 = .ok (.iload 5, 2) := by decide +kernel
theorem d_Mod_decided_79 : decode b_Mod_decided 79 = .ok (.ifCond .eq 9, 3) := by decide +kernel
theorem d_Mod_decided_82 : decode b_Mod_decided 82 = .ok (.iload_n 3, 1) := by decide +kernel
theorem d_Mod_decided_83 : decode b_Mod_decided 83 = .ok (.iconst 1, 1) := by decide +kernel
theorem d_Mod_decided_84 : decode b_Mod_decided 84 = .ok (.iadd, 1) := by decide +kernel
theorem d_Mod_decided_85 : decode b_Mod_decided 85 = .ok (.goto 4, 3) := by decide +kernel
theorem d_Mod_decided_88 : decode b_Mod_decided 88 = .ok (.iload_n 3, 1) := by decide +kernel
theorem d_Mod_decided_89 : decode b_Mod_decided 89 = .ok (.istore_n 3, 1) := by decide +kernel
theorem d_Mod_decided_90 : decode b_Mod_decided 90 = .ok (.iinc 4 1, 3) := by decide +kernel
theorem d_Mod_decided_93 : decode b_Mod_decided 93 = .ok (.goto (-88), 3) := by decide +kernel
theorem d_Mod_decided_96 : decode b_Mod_decided 96 = .ok (.iload_n 3, 1) := by decide +kernel
theorem d_Mod_decided_97 : decode b_Mod_decided 97 = .ok (.ireturn, 1) := by decide +kernel
theorem d_Mod_satisfied_0 : decode b_Mod_satisfied 0 = .ok (.aload_n 0, 1) := by decide +kernel
theorem d_Mod_satisfied_1 : decode b_Mod_satisfied 1 = .ok (.iload_n 1, 1) := by decide +kernel
theorem d_Mod_satisfied_2 : decode b_Mod_satisfied 2 = .ok (.iload_n 2, 1) := by decide +kernel
theorem d_Mod_satisfied_3 : decode b_Mod_satisfied 3 = .ok (.invokevirtual 139, 3) := by decide +kernel
theorem d_Mod_satisfied_6 : decode b_Mod_satisfied 6 = .ok (.ifCond .eq 17, 3) := by decide +kernel
theorem d_Mod_satisfied_9 : decode b_Mod_satisfied 9 = .ok (.aload_n 0, 1) := by decide +kernel
theorem d_Mod_satisfied_10 : decode b_Mod_satisfied 10 = .ok (.getfield 37, 3) := by decide +kernel
theorem d_Mod_satisfied_13 : decode b_Mod_satisfied 13 = .ok (.bipush 24, 2) := by decide +kernel
theorem d_Mod_satisfied_15 : decode b_Mod_satisfied 15 = .ok (.iload_n 1, 1) := by decide +kernel
theorem d_Mod_satisfied_16 : decode b_Mod_satisfied 16 = .ok (.imul, 1) := by decide +kernel
theorem d_Mod_satisfied_17 : decode b_Mod_satisfied 17 = .ok (.iload_n 2, 1) := by decide +kernel
theorem d_Mod_satisfied_18 : decode b_Mod_satisfied 18 = .ok (.iadd, 1) := by decide +kernel
theorem d_Mod_satisfied_19 : decode b_Mod_satisfied 19 = .ok (.laload, 1) := by decide +kernel
theorem d_Mod_satisfied_20 : decode b_Mod_satisfied 20 = .ok (.goto 4, 3) := by decide +kernel
theorem d_Mod_satisfied_23 : decode b_Mod_satisfied 23 = .ok (.lconst 0, 1) := by decide +kernel
theorem d_Mod_satisfied_24 : decode b_Mod_satisfied 24 = .ok (.lreturn, 1) := by decide +kernel
theorem d_Mod_isKnown_0 : decode b_Mod_isKnown 0 = .ok (.aload_n 0, 1) := by decide +kernel
theorem d_Mod_isKnown_1 : decode b_Mod_isKnown 1 = .ok (.iload_n 1, 1) := by decide +kernel
theorem d_Mod_isKnown_2 : decode b_Mod_isKnown 2 = .ok (.invokevirtual 75, 3) := by decide +kernel
theorem d_Mod_isKnown_5 : decode b_Mod_isKnown 5 = .ok (.ifCond .eq 20, 3) := by decide +kernel
theorem d_Mod_isKnown_8 : decode b_Mod_isKnown 8 = .ok (.iload_n 2, 1) := by decide +kernel
theorem d_Mod_isKnown_9 : decode b_Mod_isKnown 9 = .ok (.ifCond .lt 16, 3) := by decide +kernel
theorem d_Mod_isKnown_12 : decode b_Mod_isKnown 12 = .ok (.iload_n 2, 1) := by decide +kernel
theorem d_Mod_isKnown_13 : decode b_Mod_isKnown 13 = .ok (.aload_n 0, 1) := by decide +kernel
theorem d_Mod_isKnown_14 : decode b_Mod_isKnown 14 = .ok (.iload_n 1, 1) := by decide +kernel
theorem d_Mod_isKnown_15 : decode b_Mod_isKnown 15 = .ok (.invokevirtual 136, 3) := by decide +kernel
theorem d_Mod_isKnown_18 : decode b_Mod_isKnown 18 = .ok (.if_icmp .ge 7, 3) := by decide +kernel
theorem d_Mod_isKnown_21 : decode b_Mod_isKnown 21 = .ok (.iconst 1, 1) := by decide +kernel
theorem d_Mod_isKnown_22 : decode b_Mod_isKnown 22 = .ok (.goto 4, 3) := by decide +kernel
theorem d_Mod_isKnown_25 : decode b_Mod_isKnown 25 = .ok (.iconst 0, 1) := by decide +kernel
theorem d_Mod_isKnown_26 : decode b_Mod_isKnown 26 = .ok (.ireturn, 1) := by decide +kernel
theorem d_Mod_rows_0 : decode b_Mod_rows 0 = .ok (.aload_n 0, 1) := by decide +kernel
theorem d_Mod_rows_1 : decode b_Mod_rows 1 = .ok (.iload_n 1, 1) := by decide +kernel
theorem d_Mod_rows_2 : decode b_Mod_rows 2 = .ok (.iload_n 2, 1) := by decide +kernel
theorem d_Mod_rows_3 : decode b_Mod_rows 3 = .ok (.invokevirtual 139, 3) := by decide +kernel
theorem d_Mod_rows_6 : decode b_Mod_rows 6 = .ok (.ifCond .ne 5, 3) := by decide +kernel
theorem d_Mod_rows_9 : decode b_Mod_rows 9 = .ok (.iconst (-1), 1) := by decide +kernel
theorem d_Mod_rows_10 : decode b_Mod_rows 10 = .ok (.ireturn, 1) := by decide +kernel
theorem d_Mod_rows_11 : decode b_Mod_rows 11 = .ok (.aload_n 0, 1) := by decide +kernel
theorem d_Mod_rows_12 : decode b_Mod_rows 12 = .ok (.iload_n 1, 1) := by decide +kernel
theorem d_Mod_rows_13 : decode b_Mod_rows 13 = .ok (.invokevirtual 142, 3) := by decide +kernel
theorem d_Mod_rows_16 : decode b_Mod_rows 16 = .ok (.istore_n 3, 1) := by decide +kernel
theorem d_Mod_rows_17 : decode b_Mod_rows 17 = .ok (.iconst 0, 1) := by decide +kernel
theorem d_Mod_rows_18 : decode b_Mod_rows 18 = .ok (.istore 4, 2) := by decide +kernel
theorem d_Mod_rows_20 : decode b_Mod_rows 20 = .ok (.iconst 0, 1) := by decide +kernel
theorem d_Mod_rows_21 : decode b_Mod_rows 21 = .ok (.istore 5, 2) := by decide +kernel
theorem d_Mod_rows_23 : decode b_Mod_rows 23 = .ok (.iload 5, 2) := by decide +kernel
theorem d_Mod_rows_25 : decode b_Mod_rows 25 = .ok (.bipush 64, 2) := by decide +kernel
theorem d_Mod_rows_27 : decode b_Mod_rows 27 = .ok (.if_icmp .ge 85, 3) := by decide +kernel
theorem d_Mod_rows_30 : decode b_Mod_rows 30 = .ok (.aload_n 0, 1) := by decide +kernel
theorem d_Mod_rows_31 : decode b_Mod_rows 31 = .ok (.iload_n 1, 1) := by decide +kernel
theorem d_Mod_rows_32 : decode b_Mod_rows 32 = .ok (.iload_n 2, 1) := by decide +kernel
theorem d_Mod_rows_33 : decode b_Mod_rows 33 = .ok (.iload 5, 2) := by decide +kernel
theorem d_Mod_rows_35 : decode b_Mod_rows 35 = .ok (.invokevirtual 110, 3) := by decide +kernel
theorem d_Mod_rows_38 : decode b_Mod_rows 38 = .ok (.istore 6, 2) := by decide +kernel
theorem d_Mod_rows_40 : decode b_Mod_rows 40 = .ok (.iconst 0, 1) := by decide +kernel
theorem d_Mod_rows_41 : decode b_Mod_rows 41 = .ok (.istore 7, 2) := by decide +kernel
theorem d_Mod_rows_43 : decode b_Mod_rows 43 = .ok (.iload 7, 2) := by decide +kernel
theorem d_Mod_rows_45 : decode b_Mod_rows 45 = .ok (.iload 5, 2) := by decide +kernel
theorem d_Mod_rows_47 : decode b_Mod_rows 47 = .ok (.if_icmp .ge 43, 3) := by decide +kernel
theorem d_Mod_rows_50 : decode b_Mod_rows 50 = .ok (.iload 6, 2) := by decide +kernel
theorem d_Mod_rows_52 : decode b_Mod_rows 52 = .ok (.ifCond .eq 29, 3) := by decide +kernel
theorem d_Mod_rows_55 : decode b_Mod_rows 55 = .ok (.aload_n 0, 1) := by decide +kernel
theorem d_Mod_rows_56 : decode b_Mod_rows 56 = .ok (.iload_n 1, 1) := by decide +kernel
theorem d_Mod_rows_57 : decode b_Mod_rows 57 = .ok (.iload_n 2, 1) := by decide +kernel
theorem d_Mod_rows_58 : decode b_Mod_rows 58 = .ok (.iload 7, 2) := by decide +kernel
theorem d_Mod_rows_60 : decode b_Mod_rows 60 = .ok (.invokevirtual 110, 3) := by decide +kernel
theorem d_Mod_rows_63 : decode b_Mod_rows 63 = .ok (.ifCond .eq 14, 3) := by decide +kernel
theorem d_Mod_rows_66 : decode b_Mod_rows 66 = .ok (.iload 5, 2) := by decide +kernel
theorem d_Mod_rows_68 : decode b_Mod_rows 68 = .ok (.iload 7, 2) := by decide +kernel
theorem d_Mod_rows_70 : decode b_Mod_rows 70 = .ok (.iload_n 3, 1) := by decide +kernel
theorem d_Mod_rows_71 : decode b_Mod_rows 71 = .ok (.invokestatic 145, 3) := by decide +kernel
theorem d_Mod_rows_74 : decode b_Mod_rows 74 = .ok (.ifCond .ne 7, 3) := by decide +kernel
theorem d_Mod_rows_77 : decode b_Mod_rows 77 = .ok (.iconst 1, 1) := by decide +kernel
theorem d_Mod_rows_78 : decode b_Mod_rows 78 = .ok (.goto 4, 3) := by decide +kernel
theorem d_Mod_rows_81 : decode b_Mod_rows 81 = .ok (.iconst 0, 1) := by decide +kernel
theorem d_Mod_rows_82 : decode b_Mod_rows 82 = .ok (.istore 6, 2) := by decide +kernel
theorem d_Mod_rows_84 : decode b_Mod_rows 84 = .ok (.iinc 7 1, 3) := by decide +kernel
theorem d_Mod_rows_87 : decode b_Mod_rows 87 = .ok (.goto (-44), 3) := by decide +kernel
theorem d_Mod_rows_90 : decode b_Mod_rows 90 = .ok (.iload 6, 2) := by decide +kernel
theorem d_Mod_rows_92 : decode b_Mod_rows 92 = .ok (.ifCond .eq 10, 3) := by decide +kernel
theorem d_Mod_rows_95 : decode b_Mod_rows 95 = .ok (.iload 4, 2) := by decide +kernel
theorem d_Mod_rows_97 : decode b_Mod_rows 97 = .ok (.iconst 1, 1) := by decide +kernel
theorem d_Mod_rows_98 : decode b_Mod_rows 98 = .ok (.iadd, 1) := by decide +kernel
theorem d_Mod_rows_99 : decode b_Mod_rows 99 = .ok (.goto 5, 3) := by decide +kernel
theorem d_Mod_rows_102 : decode b_Mod_rows 102 = .ok (.iload 4, 2) := by decide +kernel
theorem d_Mod_rows_104 : decode b_Mod_rows 104 = .ok (.istore 4, 2) := by decide +kernel
theorem d_Mod_rows_106 : decode b_Mod_rows 106 = .ok (.iinc 5 1, 3) := by decide +kernel
theorem d_Mod_rows_109 : decode b_Mod_rows 109 = .ok (.goto (-86), 3) := by decide +kernel
theorem d_Mod_rows_112 : decode b_Mod_rows 112 = .ok (.iload 4, 2) := by decide +kernel
theorem d_Mod_rows_114 : decode b_Mod_rows 114 = .ok (.ireturn, 1) := by decide +kernel
theorem d_Mod_agree_0 : decode b_Mod_agree 0 = .ok (.iconst 1, 1) := by decide +kernel
theorem d_Mod_agree_1 : decode b_Mod_agree 1 = .ok (.istore_n 3, 1) := by decide +kernel
theorem d_Mod_agree_2 : decode b_Mod_agree 2 = .ok (.iconst 0, 1) := by decide +kernel
theorem d_Mod_agree_3 : decode b_Mod_agree 3 = .ok (.istore 4, 2) := by decide +kernel
theorem d_Mod_agree_5 : decode b_Mod_agree 5 = .ok (.iload 4, 2) := by decide +kernel
theorem d_Mod_agree_7 : decode b_Mod_agree 7 = .ok (.iconst 3, 1) := by decide +kernel
theorem d_Mod_agree_8 : decode b_Mod_agree 8 = .ok (.if_icmp .ge 43, 3) := by decide +kernel
theorem d_Mod_agree_11 : decode b_Mod_agree 11 = .ok (.iload_n 3, 1) := by decide +kernel
theorem d_Mod_agree_12 : decode b_Mod_agree 12 = .ok (.ifCond .eq 31, 3) := by decide +kernel
theorem d_Mod_agree_15 : decode b_Mod_agree 15 = .ok (.iload_n 2, 1) := by decide +kernel
theorem d_Mod_agree_16 : decode b_Mod_agree 16 = .ok (.iload 4, 2) := by decide +kernel
theorem d_Mod_agree_18 : decode b_Mod_agree 18 = .ok (.ishr, 1) := by decide +kernel
theorem d_Mod_agree_19 : decode b_Mod_agree 19 = .ok (.iconst 1, 1) := by decide +kernel
theorem d_Mod_agree_20 : decode b_Mod_agree 20 = .ok (.iand, 1) := by decide +kernel
theorem d_Mod_agree_21 : decode b_Mod_agree 21 = .ok (.ifCond .eq 18, 3) := by decide +kernel
theorem d_Mod_agree_24 : decode b_Mod_agree 24 = .ok (.iload 4, 2) := by decide +kernel
theorem d_Mod_agree_26 : decode b_Mod_agree 26 = .ok (.iload_n 0, 1) := by decide +kernel
theorem d_Mod_agree_27 : decode b_Mod_agree 27 = .ok (.invokestatic 114, 3) := by decide +kernel
theorem d_Mod_agree_30 : decode b_Mod_agree 30 = .ok (.iload 4, 2) := by decide +kernel
theorem d_Mod_agree_32 : decode b_Mod_agree 32 = .ok (.iload_n 1, 1) := by decide +kernel
theorem d_Mod_agree_33 : decode b_Mod_agree 33 = .ok (.invokestatic 114, 3) := by decide +kernel
theorem d_Mod_agree_36 : decode b_Mod_agree 36 = .ok (.if_icmp .ne 7, 3) := by decide +kernel
theorem d_Mod_agree_39 : decode b_Mod_agree 39 = .ok (.iconst 1, 1) := by decide +kernel
theorem d_Mod_agree_40 : decode b_Mod_agree 40 = .ok (.goto 4, 3) := by decide +kernel
theorem d_Mod_agree_43 : decode b_Mod_agree 43 = .ok (.iconst 0, 1) := by decide +kernel
theorem d_Mod_agree_44 : decode b_Mod_agree 44 = .ok (.istore_n 3, 1) := by decide +kernel
theorem d_Mod_agree_45 : decode b_Mod_agree 45 = .ok (.iinc 4 1, 3) := by decide +kernel
theorem d_Mod_agree_48 : decode b_Mod_agree 48 = .ok (.goto (-43), 3) := by decide +kernel
theorem d_Mod_agree_51 : decode b_Mod_agree 51 = .ok (.iload_n 3, 1) := by decide +kernel
theorem d_Mod_agree_52 : decode b_Mod_agree 52 = .ok (.ireturn, 1) := by decide +kernel
