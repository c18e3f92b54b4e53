theorem d_AL_init_0 : decode b_AL_init 0 = .ok (.aload_n 0, 1) := by decide +kernel
theorem d_AL_init_1 : decode b_AL_init 1 = .ok (.invokespecial 1, 3) := by decide +kernel
theorem d_AL_init_4 : decode b_AL_init 4 = .ok (.aload_n 0, 1) := by decide +kernel
theorem d_AL_init_5 : decode b_AL_init 5 = .ok (.getstatic 39, 3) := by decide +kernel
theorem d_AL_init_8 : decode b_AL_init 8 = .ok (.putfield 9, 3) := by decide +kernel
theorem d_AL_init_11 : decode b_AL_init 11 = .ok (.return_, 1) := by decide +kernel
theorem d_AbL_init_0 : decode b_AbL_init 0 = .ok (.aload_n 0, 1) := by decide +kernel
theorem d_AbL_init_1 : decode b_AbL_init 1 = .ok (.invokespecial 1, 3) := by decide +kernel
theorem d_AbL_init_4 : decode b_AbL_init 4 = .ok (.aload_n 0, 1) := by decide +kernel
theorem d_AbL_init_5 : decode b_AbL_init 5 = .ok (.iconst 0, 1) := by decide +kernel
theorem d_AbL_init_6 : decode b_AbL_init 6 = .ok (.putfield 7, 3) := by decide +kernel
theorem d_AbL_init_9 : decode b_AbL_init 9 = .ok (.return_, 1) := by decide +kernel
theorem d_AbC_init_0 : decode b_AbC_init 0 = .ok (.aload_n 0, 1) := by decide +kernel
theorem d_AbC_init_1 : decode b_AbC_init 1 = .ok (.invokespecial 1, 3) := by decide +kernel
theorem d_AbC_init_4 : decode b_AbC_init 4 = .ok (.return_, 1) := by decide +kernel
theorem d_AL_size_0 : decode b_AL_size 0 = .ok (.aload_n 0, 1) := by decide +kernel
theorem d_AL_size_1 : decode b_AL_size 1 = .ok (.getfield 48, 3) := by decide +kernel
theorem d_AL_size_4 : decode b_AL_size 4 = .ok (.ireturn, 1) := by decide +kernel
theorem d_AL_add1_0 : decode b_AL_add1 0 = .ok (.aload_n 0, 1) := by decide +kernel
theorem d_AL_add1_1 : decode b_AL_add1 1 = .ok (.dup, 1) := by decide +kernel
theorem d_AL_add1_2 : decode b_AL_add1 2 = .ok (.getfield 63, 3) := by decide +kernel
theorem d_AL_add1_5 : decode b_AL_add1 5 = .ok (.iconst 1, 1) := by decide +kernel
theorem d_AL_add1_6 : decode b_AL_add1 6 = .ok (.iadd, 1) := by decide +kernel
theorem d_AL_add1_7 : decode b_AL_add1 7 = .ok (.putfield 63, 3) := by decide +kernel
theorem d_AL_add1_10 : decode b_AL_add1 10 = .ok (.aload_n 0, 1) := by decide +kernel
theorem d_AL_add1_11 : decode b_AL_add1 11 = .ok (.aload_n 1, 1) := by decide +kernel
theorem d_AL_add1_12 : decode b_AL_add1 12 = .ok (.aload_n 0, 1) := by decide +kernel
theorem d_AL_add1_13 : decode b_AL_add1 13 = .ok (.getfield 9, 3) := by decide +kernel
theorem d_AL_add1_16 : decode b_AL_add1 16 = .ok (.aload_n 0, 1) := by decide +kernel
theorem d_AL_add1_17 : decode b_AL_add1 17 = .ok (.getfield 48, 3) := by decide +kernel
theorem d_AL_add1_20 : decode b_AL_add1 20 = .ok (.invokevirtual 131, 3) := by decide +kernel
theorem d_AL_add1_23 : decode b_AL_add1 23 = .ok (.iconst 1, 1) := by decide +kernel
theorem d_AL_add1_24 : decode b_AL_add1 24 = .ok (.ireturn, 1) := by decide +kernel
theorem d_AL_add2_0 : decode b_AL_add2 0 = .ok (.iload_n 3, 1) := by decide +kernel
theorem d_AL_add2_1 : decode b_AL_add2 1 = .ok (.aload_n 2, 1) := by decide +kernel
theorem d_AL_add2_2 : decode b_AL_add2 2 = .ok (.arraylength, 1) := by decide +kernel
theorem d_AL_add2_3 : decode b_AL_add2 3 = .ok (.if_icmp .ne 8, 3) := by decide +kernel
theorem d_AL_add2_6 : decode b_AL_add2 6 = .ok (.aload_n 0, 1) := by decide +kernel
theorem d_AL_add2_7 : decode b_AL_add2 7 = .ok (.invokevirtual 129, 3) := by decide +kernel
theorem d_AL_add2_10 : decode b_AL_add2 10 = .ok (.astore_n 2, 1) := by decide +kernel
theorem d_AL_add2_11 : decode b_AL_add2 11 = .ok (.aload_n 2, 1) := by decide +kernel
theorem d_AL_add2_12 : decode b_AL_add2 12 = .ok (.iload_n 3, 1) := by decide +kernel
theorem d_AL_add2_13 : decode b_AL_add2 13 = .ok (.aload_n 1, 1) := by decide +kernel
theorem d_AL_add2_14 : decode b_AL_add2 14 = .ok (.aastore, 1) := by decide +kernel
theorem d_AL_add2_15 : decode b_AL_add2 15 = .ok (.aload_n 0, 1) := by decide +kernel
theorem d_AL_add2_16 : decode b_AL_add2 16 = .ok (.iload_n 3, 1) := by decide +kernel
theorem d_AL_add2_17 : decode b_AL_add2 17 = .ok (.iconst 1, 1) := by decide +kernel
theorem d_AL_add2_18 : decode b_AL_add2 18 = .ok (.iadd, 1) := by decide +kernel
theorem d_AL_add2_19 : decode b_AL_add2 19 = .ok (.putfield 48, 3) := by decide +kernel
theorem d_AL_add2_22 : decode b_AL_add2 22 = .ok (.return_, 1) := by decide +kernel
theorem d_AL_grow1_0 : decode b_AL_grow1 0 = .ok (.aload_n 0, 1) := by decide +kernel
theorem d_AL_grow1_1 : decode b_AL_grow1 1 = .ok (.aload_n 0, 1) := by decide +kernel
theorem d_AL_grow1_2 : decode b_AL_grow1 2 = .ok (.getfield 48, 3) := by decide +kernel
theorem d_AL_grow1_5 : decode b_AL_grow1 5 = .ok (.iconst 1, 1) := by decide +kernel
theorem d_AL_grow1_6 : decode b_AL_grow1 6 = .ok (.iadd, 1) := by decide +kernel
theorem d_AL_grow1_7 : decode b_AL_grow1 7 = .ok (.invokevirtual 69, 3) := by decide +kernel
theorem d_AL_grow1_10 : decode b_AL_grow1 10 = .ok (.areturn, 1) := by decide +kernel
theorem d_AL_grow2_0 : decode b_AL_grow2 0 = .ok (.aload_n 0, 1) := by decide +kernel
theorem d_AL_grow2_1 : decode b_AL_grow2 1 = .ok (.getfield 9, 3) := by decide +kernel
theorem d_AL_grow2_4 : decode b_AL_grow2 4 = .ok (.arraylength, 1) := by decide +kernel
theorem d_AL_grow2_5 : decode b_AL_grow2 5 = .ok (.istore_n 2, 1) := by decide +kernel
theorem d_AL_grow2_6 : decode b_AL_grow2 6 = .ok (.iload_n 2, 1) := by decide +kernel
theorem d_AL_grow2_7 : decode b_AL_grow2 7 = .ok (.ifCond .gt 13, 3) := by decide +kernel
theorem d_AL_grow2_10 : decode b_AL_grow2 10 = .ok (.aload_n 0, 1) := by decide +kernel
theorem d_AL_grow2_11 : decode b_AL_grow2 11 = .ok (.getfield 9, 3) := by decide +kernel
theorem d_AL_grow2_14 : decode b_AL_grow2 14 = .ok (.getstatic 39, 3) := by decide +kernel
theorem d_AL_grow2_17 : decode b_AL_grow2 17 = .ok (.if_acmp .eq 28, 3) := by decide +kernel
theorem d_AL_grow2_20 : decode b_AL_grow2 20 = .ok (.iload_n 2, 1) := by decide +kernel
theorem d_AL_grow2_21 : decode b_AL_grow2 21 = .ok (.iload_n 1, 1) := by decide +kernel
theorem d_AL_grow2_22 : decode b_AL_grow2 22 = .ok (.iload_n 2, 1) := by decide +kernel
theorem d_AL_grow2_23 : decode b_AL_grow2 23 = .ok (.isub, 1) := by decide +kernel
theorem d_AL_grow2_24 : decode b_AL_grow2 24 = .ok (.iload_n 2, 1) := by decide +kernel
theorem d_AL_grow2_25 : decode b_AL_grow2 25 = .ok (.iconst 1, 1) := by decide +kernel
theorem d_AL_grow2_26 : decode b_AL_grow2 26 = .ok (.ishr, 1) := by decide +kernel
theorem d_AL_grow2_27 : decode b_AL_grow2 27 = .ok (.invokestatic 73, 3) := by decide +kernel
theorem d_AL_grow2_30 : decode b_AL_grow2 30 = .ok (.istore_n 3, 1) := by decide +kernel
theorem d_AL_grow2_31 : decode b_AL_grow2 31 = .ok (.aload_n 0, 1) := by decide +kernel
theorem d_AL_grow2_32 : decode b_AL_grow2 32 = .ok (.aload_n 0, 1) := by decide +kernel
theorem d_AL_grow2_33 : decode b_AL_grow2 33 = .ok (.getfield 9, 3) := by decide +kernel
theorem d_AL_grow2_36 : decode b_AL_grow2 36 = .ok (.iload_n 3, 1) := by decide +kernel
theorem d_AL_grow2_37 : decode b_AL_grow2 37 = .ok (.invokestatic 66, 3) := by decide +kernel
theorem d_AL_grow2_40 : decode b_AL_grow2 40 = .ok (.dup_x1, 1) := by decide +kernel
theorem d_AL_grow2_41 : decode b_AL_grow2 41 = .ok (.putfield 9, 3) := by decide +kernel
theorem d_AL_grow2_44 : decode b_AL_grow2 44 = .ok (.areturn, 1) := by decide +kernel
theorem d_AL_grow2_45 : decode b_AL_grow2 45 = .ok (.aload_n 0, 1) := by decide +kernel
theorem d_AL_grow2_46 : decode b_AL_grow2 46 = .ok (.bipush 10, 2) := by decide +kernel
theorem d_AL_grow2_48 : decode b_AL_grow2 48 = .ok (.iload_n 1, 1) := by decide +kernel
theorem d_AL_grow2_49 : decode b_AL_grow2 49 = .ok (.invokestatic 79, 3) := by decide +kernel
theorem d_AL_grow2_52 : decode b_AL_grow2 52 = .ok (.anewarray 7, 3) := by decide +kernel
theorem d_AL_grow2_55 : decode b_AL_grow2 55 = .ok (.dup_x1, 1) := by decide +kernel
theorem d_AL_grow2_56 : decode b_AL_grow2 56 = .ok (.putfield 9, 3) := by decide +kernel
theorem d_AL_grow2_59 : decode b_AL_grow2 59 = .ok (.areturn, 1) := by decide +kernel
theorem d_ASup_newLength_0 : decode b_ASup_newLength 0 = .ok (.iload_n 0, 1) := by decide +kernel
theorem d_ASup_newLength_1 : decode b_ASup_newLength 1 = .ok (.iload_n 1, 1) := by decide +kernel
theorem d_ASup_newLength_2 : decode b_ASup_newLength 2 = .ok (.iload_n 2, 1) := by decide +kernel
theorem d_ASup_newLength_3 : decode b_ASup_newLength 3 = .ok (.invokestatic 194, 3) := by decide +kernel
theorem d_ASup_newLength_6 : decode b_ASup_newLength 6 = .ok (.iadd, 1) := by decide +kernel
theorem d_ASup_newLength_7 : decode b_ASup_newLength 7 = .ok (.istore_n 3, 1) := by decide +kernel
theorem d_ASup_newLength_8 : decode b_ASup_newLength 8 = .ok (.iconst 0, 1) := by decide +kernel
theorem d_ASup_newLength_9 : decode b_ASup_newLength 9 = .ok (.iload_n 3, 1) := by decide +kernel
theorem d_ASup_newLength_10 : decode b_ASup_newLength 10 = .ok (.if_icmp .ge 11, 3) := by decide +kernel
theorem d_ASup_newLength_13 : decode b_ASup_newLength 13 = .ok (.iload_n 3, 1) := by decide +kernel
theorem d_ASup_newLength_14 : decode b_ASup_newLength 14 = .ok (.ldc 200, 2) := by decide +kernel
theorem d_ASup_newLength_16 : decode b_ASup_newLength 16 = .ok (.if_icmp .gt 5, 3) := by decide +kernel
theorem d_ASup_newLength_19 : decode b_ASup_newLength 19 = .ok (.iload_n 3, 1) := by decide +kernel
theorem d_ASup_newLength_20 : decode b_ASup_newLength 20 = .ok (.ireturn, 1) := by decide +kernel
theorem d_ASup_newLength_21 : decode b_ASup_newLength 21 = .ok (.iload_n 0, 1) := by decide +kernel
theorem d_ASup_newLength_22 : decode b_ASup_newLength 22 = .ok (.iload_n 1, 1) := by decide +kernel
theorem d_ASup_newLength_23 : decode b_ASup_newLength 23 = .ok (.invokestatic 201, 3) := by decide +kernel
theorem d_ASup_newLength_26 : decode b_ASup_newLength 26 = .ok (.ireturn, 1) := by decide +kernel
theorem d_Math_max_0 : decode b_Math_max 0 = .ok (.iload_n 0, 1) := by decide +kernel
theorem d_Math_max_1 : decode b_Math_max 1 = .ok (.iload_n 1, 1) := by decide +kernel
theorem d_Math_max_2 : decode b_Math_max 2 = .ok (.if_icmp .lt 7, 3) := by decide +kernel
theorem d_Math_max_5 : decode b_Math_max 5 = .ok (.iload_n 0, 1) := by decide +kernel
theorem d_Math_max_6 : decode b_Math_max 6 = .ok (.goto 4, 3) := by decide +kernel
theorem d_Math_max_9 : decode b_Math_max 9 = .ok (.iload_n 1, 1) := by decide +kernel
theorem d_Math_max_10 : decode b_Math_max 10 = .ok (.ireturn, 1) := by decide +kernel
theorem d_Arr_copyOf1_0 : decode b_Arr_copyOf1 0 = .ok (.aload_n 0, 1) := by decide +kernel
theorem d_Arr_copyOf1_1 : decode b_Arr_copyOf1 1 = .ok (.iload_n 1, 1) := by decide +kernel
theorem d_Arr_copyOf1_2 : decode b_Arr_copyOf1 2 = .ok (.aload_n 0, 1) := by decide +kernel
theorem d_Arr_copyOf1_3 : decode b_Arr_copyOf1 3 = .ok (.invokevirtual 86, 3) := by decide +kernel
theorem d_Arr_copyOf1_6 : decode b_Arr_copyOf1 6 = .ok (.invokestatic 300, 3) := by decide +kernel
theorem d_Arr_copyOf1_9 : decode b_Arr_copyOf1 9 = .ok (.areturn, 1) := by decide +kernel
theorem d_Arr_copyOf2_0 : decode b_Arr_copyOf2 0 = .ok (.aload_n 2, 1) := by decide +kernel
theorem d_Arr_copyOf2_1 : decode b_Arr_copyOf2 1 = .ok (.ldc 110, 2) := by decide +kernel
theorem d_Arr_copyOf2_3 : decode b_Arr_copyOf2 3 = .ok (.if_acmp .ne 10, 3) := by decide +kernel
theorem d_Arr_copyOf2_6 : decode b_Arr_copyOf2 6 = .ok (.iload_n 1, 1) := by decide +kernel
theorem d_Arr_copyOf2_7 : decode b_Arr_copyOf2 7 = .ok (.anewarray 2, 3) := by decide +kernel
theorem d_Arr_copyOf2_10 : decode b_Arr_copyOf2 10 = .ok (.goto 14, 3) := by decide +kernel
theorem d_Arr_copyOf2_13 : decode b_Arr_copyOf2 13 = .ok (.aload_n 2, 1) := by decide +kernel
theorem d_Arr_copyOf2_14 : decode b_Arr_copyOf2 14 = .ok (.invokevirtual 90, 3) := by decide +kernel
theorem d_Arr_copyOf2_17 : decode b_Arr_copyOf2 17 = .ok (.iload_n 1, 1) := by decide +kernel
theorem d_Arr_copyOf2_18 : decode b_Arr_copyOf2 18 = .ok (.invokestatic 95, 3) := by decide +kernel
theorem d_Arr_copyOf2_21 : decode b_Arr_copyOf2 21 = .ok (.checkcast 110, 3) := by decide +kernel
theorem d_Arr_copyOf2_24 : decode b_Arr_copyOf2 24 = .ok (.astore_n 3, 1) := by decide +kernel
theorem d_Arr_copyOf2_25 : decode b_Arr_copyOf2 25 = .ok (.aload_n 0, 1) := by decide +kernel
theorem d_Arr_copyOf2_26 : decode b_Arr_copyOf2 26 = .ok (.iconst 0, 1) := by decide +kernel
theorem d_Arr_copyOf2_27 : decode b_Arr_copyOf2 27 = .ok (.aload_n 3, 1) := by decide +kernel
theorem d_Arr_copyOf2_28 : decode b_Arr_copyOf2 28 = .ok (.iconst 0, 1) := by decide +kernel
theorem d_Arr_copyOf2_29 : decode b_Arr_copyOf2 29 = .ok (.aload_n 0, 1) := by decide +kernel
theorem d_Arr_copyOf2_30 : decode b_Arr_copyOf2 30 = .ok (.arraylength, 1) := by decide +kernel
theorem d_Arr_copyOf2_31 : decode b_Arr_copyOf2 31 = .ok (.iload_n 1, 1) := by decide +kernel
theorem d_Arr_copyOf2_32 : decode b_Arr_copyOf2 32 = .ok (.invokestatic 304, 3) := by decide +kernel
theorem d_Arr_copyOf2_35 : decode b_Arr_copyOf2 35 = .ok (.invokestatic 150, 3) := by decide +kernel
theorem d_Arr_copyOf2_38 : decode b_Arr_copyOf2 38 = .ok (.aload_n 3, 1) := by decide +kernel
theorem d_Arr_copyOf2_39 : decode b_Arr_copyOf2 39 = .ok (.areturn, 1) := by decide +kernel
theorem d_Math_min_0 : decode b_Math_min 0 = .ok (.iload_n 0, 1) := by decide +kernel
theorem d_Math_min_1 : decode b_Math_min 1 = .ok (.iload_n 1, 1) := by decide +kernel
theorem d_Math_min_2 : decode b_Math_min 2 = .ok (.if_icmp .gt 7, 3) := by decide +kernel
theorem d_Math_min_5 : decode b_Math_min 5 = .ok (.iload_n 0, 1) := by decide +kernel
theorem d_Math_min_6 : decode b_Math_min 6 = .ok (.goto 4, 3) := by decide +kernel
theorem d_Math_min_9 : decode b_Math_min 9 = .ok (.iload_n 1, 1) := by decide +kernel
theorem d_Math_min_10 : decode b_Math_min 10 = .ok (.ireturn, 1) := by decide +kernel
theorem d_AL_get_0 : decode b_AL_get 0 = .ok (.iload_n 1, 1) := by decide +kernel
theorem d_AL_get_1 : decode b_AL_get 1 = .ok (.aload_n 0, 1) := by decide +kernel
theorem d_AL_get_2 : decode b_AL_get 2 = .ok (.getfield 48, 3) := by decide +kernel
theorem d_AL_get_5 : decode b_AL_get 5 = .ok (.invokestatic 118, 3) := by decide +kernel
theorem d_AL_get_8 : decode b_AL_get 8 = .ok (.pop, 1) := by decide +kernel
theorem d_AL_get_9 : decode b_AL_get 9 = .ok (.aload_n 0, 1) := by decide +kernel
theorem d_AL_get_10 : decode b_AL_get 10 = .ok (.iload_n 1, 1) := by decide +kernel
theorem d_AL_get_11 : decode b_AL_get 11 = .ok (.invokevirtual 123, 3) := by decide +kernel
theorem d_AL_get_14 : decode b_AL_get 14 = .ok (.areturn, 1) := by decide +kernel
theorem d_Objs_checkIndex_0 : decode b_Objs_checkIndex 0 = .ok (.iload_n 0, 1) := by decide +kernel
theorem d_Objs_checkIndex_1 : decode b_Objs_checkIndex 1 = .ok (.iload_n 1, 1) := by decide +kernel
theorem d_Objs_checkIndex_2 : decode b_Objs_checkIndex 2 = .ok (.aconst_null, 1) := by decide +kernel
theorem d_Objs_checkIndex_3 : decode b_Objs_checkIndex 3 = .ok (.invokestatic 105, 3) := by decide +kernel
theorem d_Objs_checkIndex_6 : decode b_Objs_checkIndex 6 = .ok (.ireturn, 1) := by decide +kernel
theorem d_Pre_checkIndex_0 : decode b_Pre_checkIndex 0 = .ok (.iload_n 0, 1) := by decide +kernel
theorem d_Pre_checkIndex_1 : decode b_Pre_checkIndex 1 = .ok (.ifCond .lt 8, 3) := by decide +kernel
theorem d_Pre_checkIndex_4 : decode b_Pre_checkIndex 4 = .ok (.iload_n 0, 1) := by decide +kernel
theorem d_Pre_checkIndex_5 : decode b_Pre_checkIndex 5 = .ok (.iload_n 1, 1) := by decide +kernel
theorem d_Pre_checkIndex_6 : decode b_Pre_checkIndex 6 = .ok (.if_icmp .lt 10, 3) := by decide +kernel
theorem d_Pre_checkIndex_9 : decode b_Pre_checkIndex 9 = .ok (.aload_n 2, 1) := by decide +kernel
theorem d_Pre_checkIndex_10 : decode b_Pre_checkIndex 10 = .ok (.iload_n 0, 1) := by decide +kernel
theorem d_Pre_checkIndex_11 : decode b_Pre_checkIndex 11 = .ok (.iload_n 1, 1) := by decide +kernel
theorem d_Pre_checkIndex_12 : decode b_Pre_checkIndex 12 = .ok (.invokestatic 95, 3) := by decide +kernel
theorem d_Pre_checkIndex_15 : decode b_Pre_checkIndex 15 = .ok (.athrow, 1) := by decide +kernel
theorem d_Pre_checkIndex_16 : decode b_Pre_checkIndex 16 = .ok (.iload_n 0, 1) := by decide +kernel
theorem d_Pre_checkIndex_17 : decode b_Pre_checkIndex 17 = .ok (.ireturn, 1) := by decide +kernel
theorem d_AL_elementData_0 : decode b_AL_elementData 0 = .ok (.aload_n 0, 1) := by decide +kernel
theorem d_AL_elementData_1 : decode b_AL_elementData 1 = .ok (.getfield 9, 3) := by decide +kernel
theorem d_AL_elementData_4 : decode b_AL_elementData 4 = .ok (.iload_n 1, 1) := by decide +kernel
theorem d_AL_elementData_5 : decode b_AL_elementData 5 = .ok (.aaload, 1) := by decide +kernel
theorem d_AL_elementData_6 : decode b_AL_elementData 6 = .ok (.areturn, 1) := by decide +kernel
theorem d_Rec_init_0 : decode b_Rec_init 0 = .ok (.aload_n 0, 1) := by decide +kernel
theorem d_Rec_init_1 : decode b_Rec_init 1 = .ok (.invokespecial 1, 3) := by decide +kernel
theorem d_Rec_init_4 : decode b_Rec_init 4 = .ok (.return_, 1) := by decide +kernel
theorem d_AL_isEmpty_0 : decode b_AL_isEmpty 0 = .ok (.aload_n 0, 1) := by decide +kernel
theorem d_AL_isEmpty_1 : decode b_AL_isEmpty 1 = .ok (.getfield 48, 3) := by decide +kernel
theorem d_AL_isEmpty_4 : decode b_AL_isEmpty 4 = .ok (.ifCond .ne 7, 3) := by decide +kernel
theorem d_AL_isEmpty_7 : decode b_AL_isEmpty 7 = .ok (.iconst 1, 1) := by decide +kernel
theorem d_AL_isEmpty_8 : decode b_AL_isEmpty 8 = .ok (.goto 4, 3) := by decide +kernel
theorem d_AL_isEmpty_11 : decode b_AL_isEmpty 11 = .ok (.iconst 0, 1) := by decide +kernel
theorem d_AL_isEmpty_12 : decode b_AL_isEmpty 12 = .ok (.ireturn, 1) := by decide +kernel
theorem d_AL_iterator_0 : decode b_AL_iterator 0 = .ok (.new 267, 3) := by decide +kernel
theorem d_AL_iterator_3 : decode b_AL_iterator 3 = .ok (.dup, 1) := by decide +kernel
theorem d_AL_iterator_4 : decode b_AL_iterator 4 = .ok (.aload_n 0, 1) := by decide +kernel
theorem d_AL_iterator_5 : decode b_AL_iterator 5 = .ok (.invokespecial 269, 3) := by decide +kernel
theorem d_AL_iterator_8 : decode b_AL_iterator 8 = .ok (.areturn, 1) := by decide +kernel
theorem d_Itr_init_0 : decode b_Itr_init 0 = .ok (.aload_n 0, 1) := by decide +kernel
theorem d_Itr_init_1 : decode b_Itr_init 1 = .ok (.aload_n 1, 1) := by decide +kernel
theorem d_Itr_init_2 : decode b_Itr_init 2 = .ok (.putfield 1, 3) := by decide +kernel
theorem d_Itr_init_5 : decode b_Itr_init 5 = .ok (.aload_n 0, 1) := by decide +kernel
theorem d_Itr_init_6 : decode b_Itr_init 6 = .ok (.invokespecial 7, 3) := by decide +kernel
theorem d_Itr_init_9 : decode b_Itr_init 9 = .ok (.aload_n 0, 1) := by decide +kernel
theorem d_Itr_init_10 : decode b_Itr_init 10 = .ok (.iconst (-1), 1) := by decide +kernel
theorem d_Itr_init_11 : decode b_Itr_init 11 = .ok (.putfield 13, 3) := by decide +kernel
theorem d_Itr_init_14 : decode b_Itr_init 14 = .ok (.aload_n 0, 1) := by decide +kernel
theorem d_Itr_init_15 : decode b_Itr_init 15 = .ok (.aload_n 0, 1) := by decide +kernel
theorem d_Itr_init_16 : decode b_Itr_init 16 = .ok (.getfield 1, 3) := by decide +kernel
theorem d_Itr_init_19 : decode b_Itr_init 19 = .ok (.getfield 17, 3) := by decide +kernel
theorem d_Itr_init_22 : decode b_Itr_init 22 = .ok (.putfield 22, 3) := by decide +kernel
theorem d_Itr_init_25 : decode b_Itr_init 25 = .ok (.return_, 1) := by decide +kernel
theorem d_Itr_hasNext_0 : decode b_Itr_hasNext 0 = .ok (.aload_n 0, 1) := by decide +kernel
theorem d_Itr_hasNext_1 : decode b_Itr_hasNext 1 = .ok (.getfield 25, 3) := by decide +kernel
theorem d_Itr_hasNext_4 : decode b_Itr_hasNext 4 = .ok (.aload_n 0, 1) := by decide +kernel
theorem d_Itr_hasNext_5 : decode b_Itr_hasNext 5 = .ok (.getfield 1, 3) := by decide +kernel
theorem d_Itr_hasNext_8 : decode b_Itr_hasNext 8 = .ok (.getfield 28, 3) := by decide +kernel
theorem d_Itr_hasNext_11 : decode b_Itr_hasNext 11 = .ok (.if_icmp .eq 7, 3) := by decide +kernel
theorem d_Itr_hasNext_14 : decode b_Itr_hasNext 14 = .ok (.iconst 1, 1) := by decide +kernel
theorem d_Itr_hasNext_15 : decode b_Itr_hasNext 15 = .ok (.goto 4, 3) := by decide +kernel
theorem d_Itr_hasNext_18 : decode b_Itr_hasNext 18 = .ok (.iconst 0, 1) := by decide +kernel
theorem d_Itr_hasNext_19 : decode b_Itr_hasNext 19 = .ok (.ireturn, 1) := by decide +kernel
theorem d_Itr_next_0 : decode b_Itr_next 0 = .ok (.aload_n 0, 1) := by decide +kernel
theorem d_Itr_next_1 : decode b_Itr_next 1 = .ok (.invokevirtual 31, 3) := by decide +kernel
theorem d_Itr_next_4 : decode b_Itr_next 4 = .ok (.aload_n 0, 1) := by decide +kernel
theorem d_Itr_next_5 : decode b_Itr_next 5 = .ok (.getfield 25, 3) := by decide +kernel
theorem d_Itr_next_8 : decode b_Itr_next 8 = .ok (.istore_n 1, 1) := by decide +kernel
theorem d_Itr_next_9 : decode b_Itr_next 9 = .ok (.iload_n 1, 1) := by decide +kernel
theorem d_Itr_next_10 : decode b_Itr_next 10 = .ok (.aload_n 0, 1) := by decide +kernel
theorem d_Itr_next_11 : decode b_Itr_next 11 = .ok (.getfield 1, 3) := by decide +kernel
theorem d_Itr_next_14 : decode b_Itr_next 14 = .ok (.getfield 28, 3) := by decide +kernel
theorem d_Itr_next_17 : decode b_Itr_next 17 = .ok (.if_icmp .lt 11, 3) := by decide +kernel
theorem d_Itr_next_20 : decode b_Itr_next 20 = .ok (.new 34, 3) := by decide +kernel
theorem d_Itr_next_23 : decode b_Itr_next 23 = .ok (.dup, 1) := by decide +kernel
theorem d_Itr_next_24 : decode b_Itr_next 24 = .ok (.invokespecial 36, 3) := by decide +kernel
theorem d_Itr_next_27 : decode b_Itr_next 27 = .ok (.athrow, 1) := by decide +kernel
theorem d_Itr_next_28 : decode b_Itr_next 28 = .ok (.aload_n 0, 1) := by decide +kernel
theorem d_Itr_next_29 : decode b_Itr_next 29 = .ok (.getfield 1, 3) := by decide +kernel
theorem d_Itr_next_32 : decode b_Itr_next 32 = .ok (.getfield 37, 3) := by decide +kernel
theorem d_Itr_next_35 : decode b_Itr_next 35 = .ok (.astore_n 2, 1) := by decide +kernel
theorem d_Itr_next_36 : decode b_Itr_next 36 = .ok (.iload_n 1, 1) := by decide +kernel
theorem d_Itr_next_37 : decode b_Itr_next 37 = .ok (.aload_n 2, 1) := by decide +kernel
theorem d_Itr_next_38 : decode b_Itr_next 38 = .ok (.arraylength, 1) := by decide +kernel
theorem d_Itr_next_39 : decode b_Itr_next 39 = .ok (.if_icmp .lt 11, 3) := by decide +kernel
theorem d_Itr_next_42 : decode b_Itr_next 42 = .ok (.new 41, 3) := by decide +kernel
theorem d_Itr_next_45 : decode b_Itr_next 45 = .ok (.dup, 1) := by decide +kernel
theorem d_Itr_next_46 : decode b_Itr_next 46 = .ok (.invokespecial 43, 3) := by decide +kernel
theorem d_Itr_next_49 : decode b_Itr_next 49 = .ok (.athrow, 1) := by decide +kernel
theorem d_Itr_next_50 : decode b_Itr_next 50 = .ok (.aload_n 0, 1) := by decide +kernel
theorem d_Itr_next_51 : decode b_Itr_next 51 = .ok (.iload_n 1, 1) := by decide +kernel
theorem d_Itr_next_52 : decode b_Itr_next 52 = .ok (.iconst 1, 1) := by decide +kernel
theorem d_Itr_next_53 : decode b_Itr_next 53 = .ok (.iadd, 1) := by decide +kernel
theorem d_Itr_next_54 : decode b_Itr_next 54 = .ok (.putfield 25, 3) := by decide +kernel
theorem d_Itr_next_57 : decode b_Itr_next 57 = .ok (.aload_n 2, 1) := by decide +kernel
theorem d_Itr_next_58 : decode b_Itr_next 58 = .ok (.aload_n 0, 1) := by decide +kernel
theorem d_Itr_next_59 : decode b_Itr_next 59 = .ok (.iload_n 1, 1) := by decide +kernel
theorem d_Itr_next_60 : decode b_Itr_next 60 = .ok (.dup_x1, 1) := by decide +kernel
theorem d_Itr_next_61 : decode b_Itr_next 61 = .ok (.putfield 13, 3) := by decide +kernel
theorem d_Itr_next_64 : decode b_Itr_next 64 = .ok (.aaload, 1) := by decide +kernel
theorem d_Itr_next_65 : decode b_Itr_next 65 = .ok (.areturn, 1) := by decide +kernel
theorem d_Itr_checkForComodification_0 : decode b_Itr_checkForComodification 0 = .ok (.aload_n 0, 1) := by decide +kernel
theorem d_Itr_checkForComodification_1 : decode b_Itr_checkForComodification 1 = .ok (.getfield 1, 3) := by decide +kernel
theorem d_Itr_checkForComodification_4 : decode b_Itr_checkForComodification 4 = .ok (.getfield 17, 3) := by decide +kernel
theorem d_Itr_checkForComodification_7 : decode b_Itr_checkForComodification 7 = .ok (.aload_n 0, 1) := by decide +kernel
theorem d_Itr_checkForComodification_8 : decode b_Itr_checkForComodification 8 = .ok (.getfield 22, 3) := by decide +kernel
theorem d_Itr_checkForComodification_11 : decode b_Itr_checkForComodification 11 = .ok (.if_icmp .eq 11, 3) := by decide +kernel
theorem d_Itr_checkForComodification_14 : decode b_Itr_checkForComodification 14 = .ok (.new 41, 3) := by decide +kernel
theorem d_Itr_checkForComodification_17 : decode b_Itr_checkForComodification 17 = .ok (.dup, 1) := by decide +kernel
theorem d_Itr_checkForComodification_18 : decode b_Itr_checkForComodification 18 = .ok (.invokespecial 43, 3) := by decide +kernel
theorem d_Itr_checkForComodification_21 : decode b_Itr_checkForComodification 21 = .ok (.athrow, 1) := by decide +kernel
theorem d_Itr_checkForComodification_22 : decode b_Itr_checkForComodification 22 = .ok (.return_, 1) := by decide +kernel
theorem d_AL_clear_0 : decode b_AL_clear 0 = .ok (.aload_n 0, 1) := by decide +kernel
theorem d_AL_clear_1 : decode b_AL_clear 1 = .ok (.dup, 1) := by decide +kernel
theorem d_AL_clear_2 : decode b_AL_clear 2 = .ok (.getfield 63, 3) := by decide +kernel
theorem d_AL_clear_5 : decode b_AL_clear 5 = .ok (.iconst 1, 1) := by decide +kernel
theorem d_AL_clear_6 : decode b_AL_clear 6 = .ok (.iadd, 1) := by decide +kernel
theorem d_AL_clear_7 : decode b_AL_clear 7 = .ok (.putfield 63, 3) := by decide +kernel
theorem d_AL_clear_10 : decode b_AL_clear 10 = .ok (.aload_n 0, 1) := by decide +kernel
theorem d_AL_clear_11 : decode b_AL_clear 11 = .ok (.getfield 9, 3) := by decide +kernel
theorem d_AL_clear_14 : decode b_AL_clear 14 = .ok (.astore_n 1, 1) := by decide +kernel
theorem d_AL_clear_15 : decode b_AL_clear 15 = .ok (.aload_n 0, 1) := by decide +kernel
theorem d_AL_clear_16 : decode b_AL_clear 16 = .ok (.getfield 48, 3) := by decide +kernel
theorem d_AL_clear_19 : decode b_AL_clear 19 = .ok (.istore_n 2, 1) := by decide +kernel
theorem d_AL_clear_20 : decode b_AL_clear 20 = .ok (.aload_n 0, 1) := by decide +kernel
theorem d_AL_clear_21 : decode b_AL_clear 21 = .ok (.iconst 0, 1) := by decide +kernel
theorem d_AL_clear_22 : decode b_AL_clear 22 = .ok (.dup_x1, 1) := by decide +kernel
theorem d_AL_clear_23 : decode b_AL_clear 23 = .ok (.putfield 48, 3) := by decide +kernel
theorem d_AL_clear_26 : decode b_AL_clear 26 = .ok (.istore_n 3, 1) := by decide +kernel
theorem d_AL_clear_27 : decode b_AL_clear 27 = .ok (.iload_n 3, 1) := by decide +kernel
theorem d_AL_clear_28 : decode b_AL_clear 28 = .ok (.iload_n 2, 1) := by decide +kernel
theorem d_AL_clear_29 : decode b_AL_clear 29 = .ok (.if_icmp .ge 13, 3) := by decide +kernel
theorem d_AL_clear_32 : decode b_AL_clear 32 = .ok (.aload_n 1, 1) := by decide +kernel
theorem d_AL_clear_33 : decode b_AL_clear 33 = .ok (.iload_n 3, 1) := by decide +kernel
theorem d_AL_clear_34 : decode b_AL_clear 34 = .ok (.aconst_null, 1) := by decide +kernel
theorem d_AL_clear_35 : decode b_AL_clear 35 = .ok (.aastore, 1) := by decide +kernel
theorem d_AL_clear_36 : decode b_AL_clear 36 = .ok (.iinc 3 1, 3) := by decide +kernel
theorem d_AL_clear_39 : decode b_AL_clear 39 = .ok (.goto (-12), 3) := by decide +kernel
theorem d_AL_clear_42 : decode b_AL_clear 42 = .ok (.return_, 1) := by decide +kernel
theorem d_Long_bitCount_0 : decode b_Long_bitCount 0 = .ok (.lload_n 0, 1) := by decide +kernel
theorem d_Long_bitCount_1 : decode b_Long_bitCount 1 = .ok (.lload_n 0, 1) := by decide +kernel
theorem d_Long_bitCount_2 : decode b_Long_bitCount 2 = .ok (.iconst 1, 1) := by decide +kernel
theorem d_Long_bitCount_3 : decode b_Long_bitCount 3 = .ok (.lushr, 1) := by decide +kernel
theorem d_Long_bitCount_4 : decode b_Long_bitCount 4 = .ok (.ldc2_w 314, 3) := by decide +kernel
theorem d_Long_bitCount_7 : decode b_Long_bitCount 7 = .ok (.land, 1) := by decide +kernel
theorem d_Long_bitCount_8 : decode b_Long_bitCount 8 = .ok (.lsub, 1) := by decide +kernel
theorem d_Long_bitCount_9 : decode b_Long_bitCount 9 = .ok (.lstore_n 0, 1) := by decide +kernel
theorem d_Long_bitCount_10 : decode b_Long_bitCount 10 = .ok (.lload_n 0, 1) := by decide +kernel
theorem d_Long_bitCount_11 : decode b_Long_bitCount 11 = .ok (.ldc2_w 316, 3) := by decide +kernel
theorem d_Long_bitCount_14 : decode b_Long_bitCount 14 = .ok (.land, 1) := by decide +kernel
theorem d_Long_bitCount_15 : decode b_Long_bitCount 15 = .ok (.lload_n 0, 1) := by decide +kernel
theorem d_Long_bitCount_16 : decode b_Long_bitCount 16 = .ok (.iconst 2, 1) := by decide +kernel
theorem d_Long_bitCount_17 : decode b_Long_bitCount 17 = .ok (.lushr, 1) := by decide +kernel
theorem d_Long_bitCount_18 : decode b_Long_bitCount 18 = .ok (.ldc2_w 316, 3) := by decide +kernel
theorem d_Long_bitCount_21 : decode b_Long_bitCount 21 = .ok (.land, 1) := by decide +kernel
theorem d_Long_bitCount_22 : decode b_Long_bitCount 22 = .ok (.ladd, 1) := by decide +kernel
theorem d_Long_bitCount_23 : decode b_Long_bitCount 23 = .ok (.lstore_n 0, 1) := by decide +kernel
theorem d_Long_bitCount_24 : decode b_Long_bitCount 24 = .ok (.lload_n 0, 1) := by decide +kernel
theorem d_Long_bitCount_25 : decode b_Long_bitCount 25 = .ok (.lload_n 0, 1) := by decide +kernel
theorem d_Long_bitCount_26 : decode b_Long_bitCount 26 = .ok (.iconst 4, 1) := by decide +kernel
theorem d_Long_bitCount_27 : decode b_Long_bitCount 27 = .ok (.lushr, 1) := by decide +kernel
theorem d_Long_bitCount_28 : decode b_Long_bitCount 28 = .ok (.ladd, 1) := by decide +kernel
theorem d_Long_bitCount_29 : decode b_Long_bitCount 29 = .ok (.ldc2_w 318, 3) := by decide +kernel
theorem d_Long_bitCount_32 : decode b_Long_bitCount 32 = .ok (.land, 1) := by decide +kernel
theorem d_Long_bitCount_33 : decode b_Long_bitCount 33 = .ok (.lstore_n 0, 1) := by decide +kernel
theorem d_Long_bitCount_34 : decode b_Long_bitCount 34 = .ok (.lload_n 0, 1) := by decide +kernel
theorem d_Long_bitCount_35 : decode b_Long_bitCount 35 = .ok (.lload_n 0, 1) := by decide +kernel
theorem d_Long_bitCount_36 : decode b_Long_bitCount 36 = .ok (.bipush 8, 2) := by decide +kernel
theorem d_Long_bitCount_38 : decode b_Long_bitCount 38 = .ok (.lushr, 1) := by decide +kernel
theorem d_Long_bitCount_39 : decode b_Long_bitCount 39 = .ok (.ladd, 1) := by decide +kernel
theorem d_Long_bitCount_40 : decode b_Long_bitCount 40 = .ok (.lstore_n 0, 1) := by decide +kernel
theorem d_Long_bitCount_41 : decode b_Long_bitCount 41 = .ok (.lload_n 0, 1) := by decide +kernel
theorem d_Long_bitCount_42 : decode b_Long_bitCount 42 = .ok (.lload_n 0, 1) := by decide +kernel
theorem d_Long_bitCount_43 : decode b_Long_bitCount 43 = .ok (.bipush 16, 2) := by decide +kernel
theorem d_Long_bitCount_45 : decode b_Long_bitCount 45 = .ok (.lushr, 1) := by decide +kernel
theorem d_Long_bitCount_46 : decode b_Long_bitCount 46 = .ok (.ladd, 1) := by decide +kernel
theorem d_Long_bitCount_47 : decode b_Long_bitCount 47 = .ok (.lstore_n 0, 1) := by decide +kernel
theorem d_Long_bitCount_48 : decode b_Long_bitCount 48 = .ok (.lload_n 0, 1) := by decide +kernel
theorem d_Long_bitCount_49 : decode b_Long_bitCount 49 = .ok (.lload_n 0, 1) := by decide +kernel
theorem d_Long_bitCount_50 : decode b_Long_bitCount 50 = .ok (.bipush 32, 2) := by decide +kernel
theorem d_Long_bitCount_52 : decode b_Long_bitCount 52 = .ok (.lushr, 1) := by decide +kernel
theorem d_Long_bitCount_53 : decode b_Long_bitCount 53 = .ok (.ladd, 1) := by decide +kernel
theorem d_Long_bitCount_54 : decode b_Long_bitCount 54 = .ok (.lstore_n 0, 1) := by decide +kernel
theorem d_Long_bitCount_55 : decode b_Long_bitCount 55 = .ok (.lload_n 0, 1) := by decide +kernel
theorem d_Long_bitCount_56 : decode b_Long_bitCount 56 = .ok (.l2i, 1) := by decide +kernel
theorem d_Long_bitCount_57 : decode b_Long_bitCount 57 = .ok (.bipush 127, 2) := by decide +kernel
theorem d_Long_bitCount_59 : decode b_Long_bitCount 59 = .ok (.iand, 1) := by decide +kernel
theorem d_Long_bitCount_60 : decode b_Long_bitCount 60 = .ok (.ireturn, 1) := by decide +kernel
theorem d_Int_bitCount_0 : decode b_Int_bitCount 0 = .ok (.iload_n 0, 1) := by decide +kernel
theorem d_Int_bitCount_1 : decode b_Int_bitCount 1 = .ok (.iload_n 0, 1) := by decide +kernel
theorem d_Int_bitCount_2 : decode b_Int_bitCount 2 = .ok (.iconst 1, 1) := by decide +kernel
theorem d_Int_bitCount_3 : decode b_Int_bitCount 3 = .ok (.iushr, 1) := by decide +kernel
theorem d_Int_bitCount_4 : decode b_Int_bitCount 4 = .ok (.ldc_w 265, 3) := by decide +kernel
theorem d_Int_bitCount_7 : decode b_Int_bitCount 7 = .ok (.iand, 1) := by decide +kernel
theorem d_Int_bitCount_8 : decode b_Int_bitCount 8 = .ok (.isub, 1) := by decide +kernel
theorem d_Int_bitCount_9 : decode b_Int_bitCount 9 = .ok (.istore_n 0, 1) := by decide +kernel
theorem d_Int_bitCount_10 : decode b_Int_bitCount 10 = .ok (.iload_n 0, 1) := by decide +kernel
theorem d_Int_bitCount_11 : decode b_Int_bitCount 11 = .ok (.ldc_w 266, 3) := by decide +kernel
theorem d_Int_bitCount_14 : decode b_Int_bitCount 14 = .ok (.iand, 1) := by decide +kernel
theorem d_Int_bitCount_15 : decode b_Int_bitCount 15 = .ok (.iload_n 0, 1) := by decide +kernel
theorem d_Int_bitCount_16 : decode b_Int_bitCount 16 = .ok (.iconst 2, 1) := by decide +kernel
theorem d_Int_bitCount_17 : decode b_Int_bitCount 17 = .ok (.iushr, 1) := by decide +kernel
theorem d_Int_bitCount_18 : decode b_Int_bitCount 18 = .ok (.ldc_w 266, 3) := by decide +kernel
theorem d_Int_bitCount_21 : decode b_Int_bitCount 21 = .ok (.iand, 1) := by decide +kernel
theorem d_Int_bitCount_22 : decode b_Int_bitCount 22 = .ok (.iadd, 1) := by decide +kernel
theorem d_Int_bitCount_23 : decode b_Int_bitCount 23 = .ok (.istore_n 0, 1) := by decide +kernel
theorem d_Int_bitCount_24 : decode b_Int_bitCount 24 = .ok (.iload_n 0, 1) := by decide +kernel
theorem d_Int_bitCount_25 : decode b_Int_bitCount 25 = .ok (.iload_n 0, 1) := by decide +kernel
theorem d_Int_bitCount_26 : decode b_Int_bitCount 26 = .ok (.iconst 4, 1) := by decide +kernel
theorem d_Int_bitCount_27 : decode b_Int_bitCount 27 = .ok (.iushr, 1) := by decide +kernel
theorem d_Int_bitCount_28 : decode b_Int_bitCount 28 = .ok (.iadd, 1) := by decide +kernel
theorem d_Int_bitCount_29 : decode b_Int_bitCount 29 = .ok (.ldc_w 267, 3) := by decide +kernel
theorem d_Int_bitCount_32 : decode b_Int_bitCount 32 = .ok (.iand, 1) := by decide +kernel
theorem d_Int_bitCount_33 : decode b_Int_bitCount 33 = .ok (.istore_n 0, 1) := by decide +kernel
theorem d_Int_bitCount_34 : decode b_Int_bitCount 34 = .ok (.iload_n 0, 1) := by decide +kernel
theorem d_Int_bitCount_35 : decode b_Int_bitCount 35 = .ok (.iload_n 0, 1) := by decide +kernel
theorem d_Int_bitCount_36 : decode b_Int_bitCount 36 = .ok (.bipush 8, 2) := by decide +kernel
theorem d_Int_bitCount_38 : decode b_Int_bitCount 38 = .ok (.iushr, 1) := by decide +kernel
theorem d_Int_bitCount_39 : decode b_Int_bitCount 39 = .ok (.iadd, 1) := by decide +kernel
theorem d_Int_bitCount_40 : decode b_Int_bitCount 40 = .ok (.istore_n 0, 1) := by decide +kernel
theorem d_Int_bitCount_41 : decode b_Int_bitCount 41 = .ok (.iload_n 0, 1) := by decide +kernel
theorem d_Int_bitCount_42 : decode b_Int_bitCount 42 = .ok (.iload_n 0, 1) := by decide +kernel
theorem d_Int_bitCount_43 : decode b_Int_bitCount 43 = .ok (.bipush 16, 2) := by decide +kernel
theorem d_Int_bitCount_45 : decode b_Int_bitCount 45 = .ok (.iushr, 1) := by decide +kernel
theorem d_Int_bitCount_46 : decode b_Int_bitCount 46 = .ok (.iadd, 1) := by decide +kernel
theorem d_Int_bitCount_47 : decode b_Int_bitCount 47 = .ok (.istore_n 0, 1) := by decide +kernel
theorem d_Int_bitCount_48 : decode b_Int_bitCount 48 = .ok (.iload_n 0, 1) := by decide +kernel
theorem d_Int_bitCount_49 : decode b_Int_bitCount 49 = .ok (.bipush 63, 2) := by decide +kernel
theorem d_Int_bitCount_51 : decode b_Int_bitCount 51 = .ok (.iand, 1) := by decide +kernel
theorem d_Int_bitCount_52 : decode b_Int_bitCount 52 = .ok (.ireturn, 1) := by decide +kernel
