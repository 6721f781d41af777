set_option maxRecDepth 100000
theorem dJ0_init_0 : decode (mk_c MJ0_init) 0 = .ok (.aload_n 0, 1) := by decide +kernel
theorem dJ0_init_1 : decode (mk_c MJ0_init) 1 = .ok (.invokespecial 1, 3) := by decide +kernel
theorem dJ0_init_4 : decode (mk_c MJ0_init) 4 = .ok (.aload_n 0, 1) := by decide +kernel
theorem dJ0_init_5 : decode (mk_c MJ0_init) 5 = .ok (.aload_n 0, 1) := by decide +kernel
theorem dJ0_init_6 : decode (mk_c MJ0_init) 6 = .ok (.putfield 7, 3) := by decide +kernel
theorem dJ0_init_9 : decode (mk_c MJ0_init) 9 = .ok (.aload_n 0, 1) := by decide +kernel
theorem dJ0_init_10 : decode (mk_c MJ0_init) 10 = .ok (.getstatic 13, 3) := by decide +kernel
theorem dJ0_init_13 : decode (mk_c MJ0_init) 13 = .ok (.putfield 17, 3) := by decide +kernel
theorem dJ0_init_16 : decode (mk_c MJ0_init) 16 = .ok (.aload_n 0, 1) := by decide +kernel
theorem dJ0_init_17 : decode (mk_c MJ0_init) 17 = .ok (.getstatic 20, 3) := by decide +kernel
theorem dJ0_init_20 : decode (mk_c MJ0_init) 20 = .ok (.putfield 24, 3) := by decide +kernel
theorem dJ0_init_23 : decode (mk_c MJ0_init) 23 = .ok (.aload_n 0, 1) := by decide +kernel
theorem dJ0_init_24 : decode (mk_c MJ0_init) 24 = .ok (.invokevirtual 27, 3) := by decide +kernel
theorem dJ0_init_27 : decode (mk_c MJ0_init) 27 = .ok (.pop, 1) := by decide +kernel
theorem dJ0_init_28 : decode (mk_c MJ0_init) 28 = .ok (.return_, 1) := by decide +kernel
theorem dJ0_init_2_0 : decode (mk_c MJ0_init_2) 0 = .ok (.aload_n 0, 1) := by decide +kernel
theorem dJ0_init_2_1 : decode (mk_c MJ0_init_2) 1 = .ok (.invokespecial 1, 3) := by decide +kernel
theorem dJ0_init_2_4 : decode (mk_c MJ0_init_2) 4 = .ok (.aload_n 0, 1) := by decide +kernel
theorem dJ0_init_2_5 : decode (mk_c MJ0_init_2) 5 = .ok (.aload_n 0, 1) := by decide +kernel
theorem dJ0_init_2_6 : decode (mk_c MJ0_init_2) 6 = .ok (.putfield 7, 3) := by decide +kernel
theorem dJ0_init_2_9 : decode (mk_c MJ0_init_2) 9 = .ok (.aload_n 0, 1) := by decide +kernel
theorem dJ0_init_2_10 : decode (mk_c MJ0_init_2) 10 = .ok (.getstatic 13, 3) := by decide +kernel
theorem dJ0_init_2_13 : decode (mk_c MJ0_init_2) 13 = .ok (.putfield 17, 3) := by decide +kernel
theorem dJ0_init_2_16 : decode (mk_c MJ0_init_2) 16 = .ok (.aload_n 0, 1) := by decide +kernel
theorem dJ0_init_2_17 : decode (mk_c MJ0_init_2) 17 = .ok (.getstatic 20, 3) := by decide +kernel
theorem dJ0_init_2_20 : decode (mk_c MJ0_init_2) 20 = .ok (.putfield 24, 3) := by decide +kernel
theorem dJ0_init_2_23 : decode (mk_c MJ0_init_2) 23 = .ok (.iload 4, 2) := by decide +kernel
theorem dJ0_init_2_25 : decode (mk_c MJ0_init_2) 25 = .ok (.ifCond .eq 11, 3) := by decide +kernel
theorem dJ0_init_2_28 : decode (mk_c MJ0_init_2) 28 = .ok (.aload_n 0, 1) := by decide +kernel
theorem dJ0_init_2_29 : decode (mk_c MJ0_init_2) 29 = .ok (.invokevirtual 27, 3) := by decide +kernel
theorem dJ0_init_2_32 : decode (mk_c MJ0_init_2) 32 = .ok (.pop, 1) := by decide +kernel
theorem dJ0_init_2_33 : decode (mk_c MJ0_init_2) 33 = .ok (.goto 8, 3) := by decide +kernel
theorem dJ0_init_2_36 : decode (mk_c MJ0_init_2) 36 = .ok (.aload_n 0, 1) := by decide +kernel
theorem dJ0_init_2_37 : decode (mk_c MJ0_init_2) 37 = .ok (.aconst_null, 1) := by decide +kernel
theorem dJ0_init_2_38 : decode (mk_c MJ0_init_2) 38 = .ok (.putfield 17, 3) := by decide +kernel
theorem dJ0_init_2_41 : decode (mk_c MJ0_init_2) 41 = .ok (.aload_n 0, 1) := by decide +kernel
theorem dJ0_init_2_42 : decode (mk_c MJ0_init_2) 42 = .ok (.aload_n 1, 1) := by decide +kernel
theorem dJ0_init_2_43 : decode (mk_c MJ0_init_2) 43 = .ok (.putfield 31, 3) := by decide +kernel
theorem dJ0_init_2_46 : decode (mk_c MJ0_init_2) 46 = .ok (.aload_n 0, 1) := by decide +kernel
theorem dJ0_init_2_47 : decode (mk_c MJ0_init_2) 47 = .ok (.aload_n 2, 1) := by decide +kernel
theorem dJ0_init_2_48 : decode (mk_c MJ0_init_2) 48 = .ok (.putfield 7, 3) := by decide +kernel
theorem dJ0_init_2_51 : decode (mk_c MJ0_init_2) 51 = .ok (.iload_n 3, 1) := by decide +kernel
theorem dJ0_init_2_52 : decode (mk_c MJ0_init_2) 52 = .ok (.ifCond .ne 8, 3) := by decide +kernel
theorem dJ0_init_2_55 : decode (mk_c MJ0_init_2) 55 = .ok (.aload_n 0, 1) := by decide +kernel
theorem dJ0_init_2_56 : decode (mk_c MJ0_init_2) 56 = .ok (.aconst_null, 1) := by decide +kernel
theorem dJ0_init_2_57 : decode (mk_c MJ0_init_2) 57 = .ok (.putfield 24, 3) := by decide +kernel
theorem dJ0_init_2_60 : decode (mk_c MJ0_init_2) 60 = .ok (.return_, 1) := by decide +kernel
theorem dJ1_init_0 : decode (mk_c MJ1_init) 0 = .ok (.aload_n 0, 1) := by decide +kernel
theorem dJ1_init_1 : decode (mk_c MJ1_init) 1 = .ok (.aload_n 1, 1) := by decide +kernel
theorem dJ1_init_2 : decode (mk_c MJ1_init) 2 = .ok (.aload_n 2, 1) := by decide +kernel
theorem dJ1_init_3 : decode (mk_c MJ1_init) 3 = .ok (.iload_n 3, 1) := by decide +kernel
theorem dJ1_init_4 : decode (mk_c MJ1_init) 4 = .ok (.iload 4, 2) := by decide +kernel
theorem dJ1_init_6 : decode (mk_c MJ1_init) 6 = .ok (.invokespecial 16, 3) := by decide +kernel
theorem dJ1_init_9 : decode (mk_c MJ1_init) 9 = .ok (.return_, 1) := by decide +kernel
theorem dJ1_init_2_0 : decode (mk_c MJ1_init_2) 0 = .ok (.aload_n 0, 1) := by decide +kernel
theorem dJ1_init_2_1 : decode (mk_c MJ1_init_2) 1 = .ok (.invokespecial 1, 3) := by decide +kernel
theorem dJ1_init_2_4 : decode (mk_c MJ1_init_2) 4 = .ok (.return_, 1) := by decide +kernel
theorem dJ2_init_0 : decode (mk_c MJ2_init) 0 = .ok (.aload_n 0, 1) := by decide +kernel
theorem dJ2_init_1 : decode (mk_c MJ2_init) 1 = .ok (.aload_n 1, 1) := by decide +kernel
theorem dJ2_init_2 : decode (mk_c MJ2_init) 2 = .ok (.aload_n 2, 1) := by decide +kernel
theorem dJ2_init_3 : decode (mk_c MJ2_init) 3 = .ok (.iload_n 3, 1) := by decide +kernel
theorem dJ2_init_4 : decode (mk_c MJ2_init) 4 = .ok (.iload 4, 2) := by decide +kernel
theorem dJ2_init_6 : decode (mk_c MJ2_init) 6 = .ok (.invokespecial 16, 3) := by decide +kernel
theorem dJ2_init_9 : decode (mk_c MJ2_init) 9 = .ok (.return_, 1) := by decide +kernel
theorem dJ2_init_2_0 : decode (mk_c MJ2_init_2) 0 = .ok (.aload_n 0, 1) := by decide +kernel
theorem dJ2_init_2_1 : decode (mk_c MJ2_init_2) 1 = .ok (.invokespecial 1, 3) := by decide +kernel
theorem dJ2_init_2_4 : decode (mk_c MJ2_init_2) 4 = .ok (.return_, 1) := by decide +kernel
theorem dJ3_init_0 : decode (mk_c MJ3_init) 0 = .ok (.aload_n 0, 1) := by decide +kernel
theorem dJ3_init_1 : decode (mk_c MJ3_init) 1 = .ok (.aload_n 1, 1) := by decide +kernel
theorem dJ3_init_2 : decode (mk_c MJ3_init) 2 = .ok (.iload_n 2, 1) := by decide +kernel
theorem dJ3_init_3 : decode (mk_c MJ3_init) 3 = .ok (.iload_n 3, 1) := by decide +kernel
theorem dJ3_init_4 : decode (mk_c MJ3_init) 4 = .ok (.aload_n 1, 1) := by decide +kernel
theorem dJ3_init_5 : decode (mk_c MJ3_init) 5 = .ok (.iload_n 2, 1) := by decide +kernel
theorem dJ3_init_6 : decode (mk_c MJ3_init) 6 = .ok (.iload_n 3, 1) := by decide +kernel
theorem dJ3_init_7 : decode (mk_c MJ3_init) 7 = .ok (.invokestatic 30, 3) := by decide +kernel
theorem dJ3_init_10 : decode (mk_c MJ3_init) 10 = .ok (.invokespecial 27, 3) := by decide +kernel
theorem dJ3_init_13 : decode (mk_c MJ3_init) 13 = .ok (.return_, 1) := by decide +kernel
theorem dJ3_rangeCheck_0 : decode (mk_c MJ3_rangeCheck) 0 = .ok (.iload_n 1, 1) := by decide +kernel
theorem dJ3_rangeCheck_1 : decode (mk_c MJ3_rangeCheck) 1 = .ok (.iload_n 2, 1) := by decide +kernel
theorem dJ3_rangeCheck_2 : decode (mk_c MJ3_rangeCheck) 2 = .ok (.aload_n 0, 1) := by decide +kernel
theorem dJ3_rangeCheck_3 : decode (mk_c MJ3_rangeCheck) 3 = .ok (.arraylength, 1) := by decide +kernel
theorem dJ3_rangeCheck_4 : decode (mk_c MJ3_rangeCheck) 4 = .ok (.invokestatic 34, 3) := by decide +kernel
theorem dJ3_rangeCheck_7 : decode (mk_c MJ3_rangeCheck) 7 = .ok (.pop, 1) := by decide +kernel
theorem dJ3_rangeCheck_8 : decode (mk_c MJ3_rangeCheck) 8 = .ok (.aconst_null, 1) := by decide +kernel
theorem dJ3_rangeCheck_9 : decode (mk_c MJ3_rangeCheck) 9 = .ok (.areturn, 1) := by decide +kernel
theorem dJ3_checkBoundsOffCount_0 : decode (mk_c MJ3_checkBoundsOffCount) 0 = .ok (.iload_n 0, 1) := by decide +kernel
theorem dJ3_checkBoundsOffCount_1 : decode (mk_c MJ3_checkBoundsOffCount) 1 = .ok (.iload_n 1, 1) := by decide +kernel
theorem dJ3_checkBoundsOffCount_2 : decode (mk_c MJ3_checkBoundsOffCount) 2 = .ok (.iload_n 2, 1) := by decide +kernel
theorem dJ3_checkBoundsOffCount_3 : decode (mk_c MJ3_checkBoundsOffCount) 3 = .ok (.getstatic 1053, 3) := by decide +kernel
theorem dJ3_checkBoundsOffCount_6 : decode (mk_c MJ3_checkBoundsOffCount) 6 = .ok (.invokestatic 1065, 3) := by decide +kernel
theorem dJ3_checkBoundsOffCount_9 : decode (mk_c MJ3_checkBoundsOffCount) 9 = .ok (.ireturn, 1) := by decide +kernel
theorem dJ3_init_2_0 : decode (mk_c MJ3_init_2) 0 = .ok (.aload_n 0, 1) := by decide +kernel
theorem dJ3_init_2_1 : decode (mk_c MJ3_init_2) 1 = .ok (.invokespecial 1, 3) := by decide +kernel
theorem dJ3_init_2_4 : decode (mk_c MJ3_init_2) 4 = .ok (.iload_n 3, 1) := by decide +kernel
theorem dJ3_init_2_5 : decode (mk_c MJ3_init_2) 5 = .ok (.ifCond .ne 22, 3) := by decide +kernel
theorem dJ3_init_2_8 : decode (mk_c MJ3_init_2) 8 = .ok (.aload_n 0, 1) := by decide +kernel
theorem dJ3_init_2_9 : decode (mk_c MJ3_init_2) 9 = .ok (.ldc 7, 2) := by decide +kernel
theorem dJ3_init_2_11 : decode (mk_c MJ3_init_2) 11 = .ok (.getfield 9, 3) := by decide +kernel
theorem dJ3_init_2_14 : decode (mk_c MJ3_init_2) 14 = .ok (.putfield 9, 3) := by decide +kernel
theorem dJ3_init_2_17 : decode (mk_c MJ3_init_2) 17 = .ok (.aload_n 0, 1) := by decide +kernel
theorem dJ3_init_2_18 : decode (mk_c MJ3_init_2) 18 = .ok (.ldc 7, 2) := by decide +kernel
theorem dJ3_init_2_20 : decode (mk_c MJ3_init_2) 20 = .ok (.getfield 15, 3) := by decide +kernel
theorem dJ3_init_2_23 : decode (mk_c MJ3_init_2) 23 = .ok (.putfield 15, 3) := by decide +kernel
theorem dJ3_init_2_26 : decode (mk_c MJ3_init_2) 26 = .ok (.return_, 1) := by decide +kernel
theorem dJ3_init_2_27 : decode (mk_c MJ3_init_2) 27 = .ok (.getstatic 38, 3) := by decide +kernel
theorem dJ3_init_2_30 : decode (mk_c MJ3_init_2) 30 = .ok (.ifCond .eq 28, 3) := by decide +kernel
theorem dJ3_init_2_33 : decode (mk_c MJ3_init_2) 33 = .ok (.aload_n 1, 1) := by decide +kernel
theorem dJ3_init_2_34 : decode (mk_c MJ3_init_2) 34 = .ok (.iload_n 2, 1) := by decide +kernel
theorem dJ3_init_2_35 : decode (mk_c MJ3_init_2) 35 = .ok (.iload_n 3, 1) := by decide +kernel
theorem dJ3_init_2_36 : decode (mk_c MJ3_init_2) 36 = .ok (.invokestatic 177, 3) := by decide +kernel
theorem dJ3_init_2_39 : decode (mk_c MJ3_init_2) 39 = .ok (.astore 5, 2) := by decide +kernel
theorem dJ3_init_2_41 : decode (mk_c MJ3_init_2) 41 = .ok (.aload_n 0, 1) := by decide +kernel
theorem dJ3_init_2_42 : decode (mk_c MJ3_init_2) 42 = .ok (.aload 5, 2) := by decide +kernel
theorem dJ3_init_2_44 : decode (mk_c MJ3_init_2) 44 = .ok (.iload_n 3, 1) := by decide +kernel
theorem dJ3_init_2_45 : decode (mk_c MJ3_init_2) 45 = .ok (.invokestatic 47, 3) := by decide +kernel
theorem dJ3_init_2_48 : decode (mk_c MJ3_init_2) 48 = .ok (.putfield 15, 3) := by decide +kernel
theorem dJ3_init_2_51 : decode (mk_c MJ3_init_2) 51 = .ok (.aload_n 0, 1) := by decide +kernel
theorem dJ3_init_2_52 : decode (mk_c MJ3_init_2) 52 = .ok (.aload 5, 2) := by decide +kernel
theorem dJ3_init_2_54 : decode (mk_c MJ3_init_2) 54 = .ok (.putfield 9, 3) := by decide +kernel
theorem dJ3_init_2_57 : decode (mk_c MJ3_init_2) 57 = .ok (.return_, 1) := by decide +kernel
theorem dJ3_init_2_58 : decode (mk_c MJ3_init_2) 58 = .ok (.aload_n 0, 1) := by decide +kernel
theorem dJ3_init_2_59 : decode (mk_c MJ3_init_2) 59 = .ok (.iconst 1, 1) := by decide +kernel
theorem dJ3_init_2_60 : decode (mk_c MJ3_init_2) 60 = .ok (.putfield 15, 3) := by decide +kernel
theorem dJ3_init_2_63 : decode (mk_c MJ3_init_2) 63 = .ok (.aload_n 0, 1) := by decide +kernel
theorem dJ3_init_2_64 : decode (mk_c MJ3_init_2) 64 = .ok (.aload_n 1, 1) := by decide +kernel
theorem dJ3_init_2_65 : decode (mk_c MJ3_init_2) 65 = .ok (.iload_n 2, 1) := by decide +kernel
theorem dJ3_init_2_66 : decode (mk_c MJ3_init_2) 66 = .ok (.iload_n 3, 1) := by decide +kernel
theorem dJ3_init_2_67 : decode (mk_c MJ3_init_2) 67 = .ok (.invokestatic 180, 3) := by decide +kernel
theorem dJ3_init_2_70 : decode (mk_c MJ3_init_2) 70 = .ok (.putfield 9, 3) := by decide +kernel
theorem dJ3_init_2_73 : decode (mk_c MJ3_init_2) 73 = .ok (.return_, 1) := by decide +kernel
theorem dJ3_hashCode_0 : decode (mk_c MJ3_hashCode) 0 = .ok (.aload_n 0, 1) := by decide +kernel
theorem dJ3_hashCode_1 : decode (mk_c MJ3_hashCode) 1 = .ok (.getfield 19, 3) := by decide +kernel
theorem dJ3_hashCode_4 : decode (mk_c MJ3_hashCode) 4 = .ok (.istore_n 1, 1) := by decide +kernel
theorem dJ3_hashCode_5 : decode (mk_c MJ3_hashCode) 5 = .ok (.iload_n 1, 1) := by decide +kernel
theorem dJ3_hashCode_6 : decode (mk_c MJ3_hashCode) 6 = .ok (.ifCond .ne 52, 3) := by decide +kernel
theorem dJ3_hashCode_9 : decode (mk_c MJ3_hashCode) 9 = .ok (.aload_n 0, 1) := by decide +kernel
theorem dJ3_hashCode_10 : decode (mk_c MJ3_hashCode) 10 = .ok (.getfield 23, 3) := by decide +kernel
theorem dJ3_hashCode_13 : decode (mk_c MJ3_hashCode) 13 = .ok (.ifCond .ne 45, 3) := by decide +kernel
theorem dJ3_hashCode_16 : decode (mk_c MJ3_hashCode) 16 = .ok (.aload_n 0, 1) := by decide +kernel
theorem dJ3_hashCode_17 : decode (mk_c MJ3_hashCode) 17 = .ok (.invokevirtual 492, 3) := by decide +kernel
theorem dJ3_hashCode_20 : decode (mk_c MJ3_hashCode) 20 = .ok (.ifCond .eq 13, 3) := by decide +kernel
theorem dJ3_hashCode_23 : decode (mk_c MJ3_hashCode) 23 = .ok (.aload_n 0, 1) := by decide +kernel
theorem dJ3_hashCode_24 : decode (mk_c MJ3_hashCode) 24 = .ok (.getfield 9, 3) := by decide +kernel
theorem dJ3_hashCode_27 : decode (mk_c MJ3_hashCode) 27 = .ok (.invokestatic 628, 3) := by decide +kernel
theorem dJ3_hashCode_30 : decode (mk_c MJ3_hashCode) 30 = .ok (.goto 10, 3) := by decide +kernel
theorem dJ3_hashCode_33 : decode (mk_c MJ3_hashCode) 33 = .ok (.aload_n 0, 1) := by decide +kernel
theorem dJ3_hashCode_34 : decode (mk_c MJ3_hashCode) 34 = .ok (.getfield 9, 3) := by decide +kernel
theorem dJ3_hashCode_37 : decode (mk_c MJ3_hashCode) 37 = .ok (.invokestatic 632, 3) := by decide +kernel
theorem dJ3_hashCode_40 : decode (mk_c MJ3_hashCode) 40 = .ok (.istore_n 1, 1) := by decide +kernel
theorem dJ3_hashCode_41 : decode (mk_c MJ3_hashCode) 41 = .ok (.iload_n 1, 1) := by decide +kernel
theorem dJ3_hashCode_42 : decode (mk_c MJ3_hashCode) 42 = .ok (.ifCond .ne 11, 3) := by decide +kernel
theorem dJ3_hashCode_45 : decode (mk_c MJ3_hashCode) 45 = .ok (.aload_n 0, 1) := by decide +kernel
theorem dJ3_hashCode_46 : decode (mk_c MJ3_hashCode) 46 = .ok (.iconst 1, 1) := by decide +kernel
theorem dJ3_hashCode_47 : decode (mk_c MJ3_hashCode) 47 = .ok (.putfield 23, 3) := by decide +kernel
theorem dJ3_hashCode_50 : decode (mk_c MJ3_hashCode) 50 = .ok (.goto 8, 3) := by decide +kernel
theorem dJ3_hashCode_53 : decode (mk_c MJ3_hashCode) 53 = .ok (.aload_n 0, 1) := by decide +kernel
theorem dJ3_hashCode_54 : decode (mk_c MJ3_hashCode) 54 = .ok (.iload_n 1, 1) := by decide +kernel
theorem dJ3_hashCode_55 : decode (mk_c MJ3_hashCode) 55 = .ok (.putfield 19, 3) := by decide +kernel
theorem dJ3_hashCode_58 : decode (mk_c MJ3_hashCode) 58 = .ok (.iload_n 1, 1) := by decide +kernel
theorem dJ3_hashCode_59 : decode (mk_c MJ3_hashCode) 59 = .ok (.ireturn, 1) := by decide +kernel
theorem dJ3_isLatin1_0 : decode (mk_c MJ3_isLatin1) 0 = .ok (.getstatic 38, 3) := by decide +kernel
theorem dJ3_isLatin1_3 : decode (mk_c MJ3_isLatin1) 3 = .ok (.ifCond .eq 14, 3) := by decide +kernel
theorem dJ3_isLatin1_6 : decode (mk_c MJ3_isLatin1) 6 = .ok (.aload_n 0, 1) := by decide +kernel
theorem dJ3_isLatin1_7 : decode (mk_c MJ3_isLatin1) 7 = .ok (.getfield 15, 3) := by decide +kernel
theorem dJ3_isLatin1_10 : decode (mk_c MJ3_isLatin1) 10 = .ok (.ifCond .ne 7, 3) := by decide +kernel
theorem dJ3_isLatin1_13 : decode (mk_c MJ3_isLatin1) 13 = .ok (.iconst 1, 1) := by decide +kernel
theorem dJ3_isLatin1_14 : decode (mk_c MJ3_isLatin1) 14 = .ok (.goto 4, 3) := by decide +kernel
theorem dJ3_isLatin1_17 : decode (mk_c MJ3_isLatin1) 17 = .ok (.iconst 0, 1) := by decide +kernel
theorem dJ3_isLatin1_18 : decode (mk_c MJ3_isLatin1) 18 = .ok (.ireturn, 1) := by decide +kernel
theorem dJ3_equals_0 : decode (mk_c MJ3_equals) 0 = .ok (.aload_n 0, 1) := by decide +kernel
theorem dJ3_equals_1 : decode (mk_c MJ3_equals) 1 = .ok (.aload_n 1, 1) := by decide +kernel
theorem dJ3_equals_2 : decode (mk_c MJ3_equals) 2 = .ok (.if_acmp .ne 5, 3) := by decide +kernel
theorem dJ3_equals_5 : decode (mk_c MJ3_equals) 5 = .ok (.iconst 1, 1) := by decide +kernel
theorem dJ3_equals_6 : decode (mk_c MJ3_equals) 6 = .ok (.ireturn, 1) := by decide +kernel
theorem dJ3_equals_7 : decode (mk_c MJ3_equals) 7 = .ok (.aload_n 1, 1) := by decide +kernel
theorem dJ3_equals_8 : decode (mk_c MJ3_equals) 8 = .ok (.instanceof 10, 3) := by decide +kernel
theorem dJ3_equals_11 : decode (mk_c MJ3_equals) 11 = .ok (.ifCond .eq 43, 3) := by decide +kernel
theorem dJ3_equals_14 : decode (mk_c MJ3_equals) 14 = .ok (.aload_n 1, 1) := by decide +kernel
theorem dJ3_equals_15 : decode (mk_c MJ3_equals) 15 = .ok (.checkcast 10, 3) := by decide +kernel
theorem dJ3_equals_18 : decode (mk_c MJ3_equals) 18 = .ok (.astore_n 2, 1) := by decide +kernel
theorem dJ3_equals_19 : decode (mk_c MJ3_equals) 19 = .ok (.getstatic 38, 3) := by decide +kernel
theorem dJ3_equals_22 : decode (mk_c MJ3_equals) 22 = .ok (.ifCond .eq 14, 3) := by decide +kernel
theorem dJ3_equals_25 : decode (mk_c MJ3_equals) 25 = .ok (.aload_n 0, 1) := by decide +kernel
theorem dJ3_equals_26 : decode (mk_c MJ3_equals) 26 = .ok (.getfield 15, 3) := by decide +kernel
theorem dJ3_equals_29 : decode (mk_c MJ3_equals) 29 = .ok (.aload_n 2, 1) := by decide +kernel
theorem dJ3_equals_30 : decode (mk_c MJ3_equals) 30 = .ok (.getfield 15, 3) := by decide +kernel
theorem dJ3_equals_33 : decode (mk_c MJ3_equals) 33 = .ok (.if_icmp .ne 21, 3) := by decide +kernel
theorem dJ3_equals_36 : decode (mk_c MJ3_equals) 36 = .ok (.aload_n 0, 1) := by decide +kernel
theorem dJ3_equals_37 : decode (mk_c MJ3_equals) 37 = .ok (.getfield 9, 3) := by decide +kernel
theorem dJ3_equals_40 : decode (mk_c MJ3_equals) 40 = .ok (.aload_n 2, 1) := by decide +kernel
theorem dJ3_equals_41 : decode (mk_c MJ3_equals) 41 = .ok (.getfield 9, 3) := by decide +kernel
theorem dJ3_equals_44 : decode (mk_c MJ3_equals) 44 = .ok (.invokestatic 541, 3) := by decide +kernel
theorem dJ3_equals_47 : decode (mk_c MJ3_equals) 47 = .ok (.ifCond .eq 7, 3) := by decide +kernel
theorem dJ3_equals_50 : decode (mk_c MJ3_equals) 50 = .ok (.iconst 1, 1) := by decide +kernel
theorem dJ3_equals_51 : decode (mk_c MJ3_equals) 51 = .ok (.goto 4, 3) := by decide +kernel
theorem dJ3_equals_54 : decode (mk_c MJ3_equals) 54 = .ok (.iconst 0, 1) := by decide +kernel
theorem dJ3_equals_55 : decode (mk_c MJ3_equals) 55 = .ok (.ireturn, 1) := by decide +kernel
theorem dJ3_length_0 : decode (mk_c MJ3_length) 0 = .ok (.aload_n 0, 1) := by decide +kernel
theorem dJ3_length_1 : decode (mk_c MJ3_length) 1 = .ok (.getfield 9, 3) := by decide +kernel
theorem dJ3_length_4 : decode (mk_c MJ3_length) 4 = .ok (.arraylength, 1) := by decide +kernel
theorem dJ3_length_5 : decode (mk_c MJ3_length) 5 = .ok (.aload_n 0, 1) := by decide +kernel
theorem dJ3_length_6 : decode (mk_c MJ3_length) 6 = .ok (.invokevirtual 335, 3) := by decide +kernel
theorem dJ3_length_9 : decode (mk_c MJ3_length) 9 = .ok (.ishr, 1) := by decide +kernel
theorem dJ3_length_10 : decode (mk_c MJ3_length) 10 = .ok (.ireturn, 1) := by decide +kernel
theorem dJ3_coder_0 : decode (mk_c MJ3_coder) 0 = .ok (.getstatic 38, 3) := by decide +kernel
theorem dJ3_coder_3 : decode (mk_c MJ3_coder) 3 = .ok (.ifCond .eq 10, 3) := by decide +kernel
theorem dJ3_coder_6 : decode (mk_c MJ3_coder) 6 = .ok (.aload_n 0, 1) := by decide +kernel
theorem dJ3_coder_7 : decode (mk_c MJ3_coder) 7 = .ok (.getfield 15, 3) := by decide +kernel
theorem dJ3_coder_10 : decode (mk_c MJ3_coder) 10 = .ok (.goto 4, 3) := by decide +kernel
theorem dJ3_coder_13 : decode (mk_c MJ3_coder) 13 = .ok (.iconst 1, 1) := by decide +kernel
theorem dJ3_coder_14 : decode (mk_c MJ3_coder) 14 = .ok (.ireturn, 1) := by decide +kernel
theorem dJ3_charAt_0 : decode (mk_c MJ3_charAt) 0 = .ok (.aload_n 0, 1) := by decide +kernel
theorem dJ3_charAt_1 : decode (mk_c MJ3_charAt) 1 = .ok (.invokevirtual 492, 3) := by decide +kernel
theorem dJ3_charAt_4 : decode (mk_c MJ3_charAt) 4 = .ok (.ifCond .eq 12, 3) := by decide +kernel
theorem dJ3_charAt_7 : decode (mk_c MJ3_charAt) 7 = .ok (.aload_n 0, 1) := by decide +kernel
theorem dJ3_charAt_8 : decode (mk_c MJ3_charAt) 8 = .ok (.getfield 9, 3) := by decide +kernel
theorem dJ3_charAt_11 : decode (mk_c MJ3_charAt) 11 = .ok (.iload_n 1, 1) := by decide +kernel
theorem dJ3_charAt_12 : decode (mk_c MJ3_charAt) 12 = .ok (.invokestatic 495, 3) := by decide +kernel
theorem dJ3_charAt_15 : decode (mk_c MJ3_charAt) 15 = .ok (.ireturn, 1) := by decide +kernel
theorem dJ3_charAt_16 : decode (mk_c MJ3_charAt) 16 = .ok (.aload_n 0, 1) := by decide +kernel
theorem dJ3_charAt_17 : decode (mk_c MJ3_charAt) 17 = .ok (.getfield 9, 3) := by decide +kernel
theorem dJ3_charAt_20 : decode (mk_c MJ3_charAt) 20 = .ok (.iload_n 1, 1) := by decide +kernel
theorem dJ3_charAt_21 : decode (mk_c MJ3_charAt) 21 = .ok (.invokestatic 498, 3) := by decide +kernel
theorem dJ3_charAt_24 : decode (mk_c MJ3_charAt) 24 = .ok (.ireturn, 1) := by decide +kernel
theorem dJ3_checkIndex_0 : decode (mk_c MJ3_checkIndex) 0 = .ok (.iload_n 0, 1) := by decide +kernel
theorem dJ3_checkIndex_1 : decode (mk_c MJ3_checkIndex) 1 = .ok (.iload_n 1, 1) := by decide +kernel
theorem dJ3_checkIndex_2 : decode (mk_c MJ3_checkIndex) 2 = .ok (.getstatic 1053, 3) := by decide +kernel
theorem dJ3_checkIndex_5 : decode (mk_c MJ3_checkIndex) 5 = .ok (.invokestatic 1059, 3) := by decide +kernel
theorem dJ3_checkIndex_8 : decode (mk_c MJ3_checkIndex) 8 = .ok (.pop, 1) := by decide +kernel
theorem dJ3_checkIndex_9 : decode (mk_c MJ3_checkIndex) 9 = .ok (.return_, 1) := by decide +kernel
theorem dJ4_checkFromIndexSize_0 : decode (mk_c MJ4_checkFromIndexSize) 0 = .ok (.iload_n 2, 1) := by decide +kernel
theorem dJ4_checkFromIndexSize_1 : decode (mk_c MJ4_checkFromIndexSize) 1 = .ok (.iload_n 0, 1) := by decide +kernel
theorem dJ4_checkFromIndexSize_2 : decode (mk_c MJ4_checkFromIndexSize) 2 = .ok (.ior, 1) := by decide +kernel
theorem dJ4_checkFromIndexSize_3 : decode (mk_c MJ4_checkFromIndexSize) 3 = .ok (.iload_n 1, 1) := by decide +kernel
theorem dJ4_checkFromIndexSize_4 : decode (mk_c MJ4_checkFromIndexSize) 4 = .ok (.ior, 1) := by decide +kernel
theorem dJ4_checkFromIndexSize_5 : decode (mk_c MJ4_checkFromIndexSize) 5 = .ok (.ifCond .lt 10, 3) := by decide +kernel
theorem dJ4_checkFromIndexSize_8 : decode (mk_c MJ4_checkFromIndexSize) 8 = .ok (.iload_n 1, 1) := by decide +kernel
theorem dJ4_checkFromIndexSize_9 : decode (mk_c MJ4_checkFromIndexSize) 9 = .ok (.iload_n 2, 1) := by decide +kernel
theorem dJ4_checkFromIndexSize_10 : decode (mk_c MJ4_checkFromIndexSize) 10 = .ok (.iload_n 0, 1) := by decide +kernel
theorem dJ4_checkFromIndexSize_11 : decode (mk_c MJ4_checkFromIndexSize) 11 = .ok (.isub, 1) := by decide +kernel
theorem dJ4_checkFromIndexSize_12 : decode (mk_c MJ4_checkFromIndexSize) 12 = .ok (.if_icmp .le 11, 3) := by decide +kernel
theorem dJ4_checkFromIndexSize_15 : decode (mk_c MJ4_checkFromIndexSize) 15 = .ok (.aload_n 3, 1) := by decide +kernel
theorem dJ4_checkFromIndexSize_16 : decode (mk_c MJ4_checkFromIndexSize) 16 = .ok (.iload_n 0, 1) := by decide +kernel
theorem dJ4_checkFromIndexSize_17 : decode (mk_c MJ4_checkFromIndexSize) 17 = .ok (.iload_n 1, 1) := by decide +kernel
theorem dJ4_checkFromIndexSize_18 : decode (mk_c MJ4_checkFromIndexSize) 18 = .ok (.iload_n 2, 1) := by decide +kernel
theorem dJ4_checkFromIndexSize_19 : decode (mk_c MJ4_checkFromIndexSize) 19 = .ok (.invokestatic 103, 3) := by decide +kernel
theorem dJ4_checkFromIndexSize_22 : decode (mk_c MJ4_checkFromIndexSize) 22 = .ok (.athrow, 1) := by decide +kernel
theorem dJ4_checkFromIndexSize_23 : decode (mk_c MJ4_checkFromIndexSize) 23 = .ok (.iload_n 0, 1) := by decide +kernel
theorem dJ4_checkFromIndexSize_24 : decode (mk_c MJ4_checkFromIndexSize) 24 = .ok (.ireturn, 1) := by decide +kernel
theorem dJ4_checkIndex_0 : decode (mk_c MJ4_checkIndex) 0 = .ok (.iload_n 0, 1) := by decide +kernel
theorem dJ4_checkIndex_1 : decode (mk_c MJ4_checkIndex) 1 = .ok (.ifCond .lt 8, 3) := by decide +kernel
theorem dJ4_checkIndex_4 : decode (mk_c MJ4_checkIndex) 4 = .ok (.iload_n 0, 1) := by decide +kernel
theorem dJ4_checkIndex_5 : decode (mk_c MJ4_checkIndex) 5 = .ok (.iload_n 1, 1) := by decide +kernel
theorem dJ4_checkIndex_6 : decode (mk_c MJ4_checkIndex) 6 = .ok (.if_icmp .lt 10, 3) := by decide +kernel
theorem dJ4_checkIndex_9 : decode (mk_c MJ4_checkIndex) 9 = .ok (.aload_n 2, 1) := by decide +kernel
theorem dJ4_checkIndex_10 : decode (mk_c MJ4_checkIndex) 10 = .ok (.iload_n 0, 1) := by decide +kernel
theorem dJ4_checkIndex_11 : decode (mk_c MJ4_checkIndex) 11 = .ok (.iload_n 1, 1) := by decide +kernel
theorem dJ4_checkIndex_12 : decode (mk_c MJ4_checkIndex) 12 = .ok (.invokestatic 95, 3) := by decide +kernel
theorem dJ4_checkIndex_15 : decode (mk_c MJ4_checkIndex) 15 = .ok (.athrow, 1) := by decide +kernel
theorem dJ4_checkIndex_16 : decode (mk_c MJ4_checkIndex) 16 = .ok (.iload_n 0, 1) := by decide +kernel
theorem dJ4_checkIndex_17 : decode (mk_c MJ4_checkIndex) 17 = .ok (.ireturn, 1) := by decide +kernel
theorem dJ5_compress_0 : decode (mk_c MJ5_compress) 0 = .ok (.iload_n 2, 1) := by decide +kernel
theorem dJ5_compress_1 : decode (mk_c MJ5_compress) 1 = .ok (.newarray .byte, 2) := by decide +kernel
theorem dJ5_compress_3 : decode (mk_c MJ5_compress) 3 = .ok (.astore_n 3, 1) := by decide +kernel
theorem dJ5_compress_4 : decode (mk_c MJ5_compress) 4 = .ok (.aload_n 0, 1) := by decide +kernel
theorem dJ5_compress_5 : decode (mk_c MJ5_compress) 5 = .ok (.iload_n 1, 1) := by decide +kernel
theorem dJ5_compress_6 : decode (mk_c MJ5_compress) 6 = .ok (.aload_n 3, 1) := by decide +kernel
theorem dJ5_compress_7 : decode (mk_c MJ5_compress) 7 = .ok (.iconst 0, 1) := by decide +kernel
theorem dJ5_compress_8 : decode (mk_c MJ5_compress) 8 = .ok (.iload_n 2, 1) := by decide +kernel
theorem dJ5_compress_9 : decode (mk_c MJ5_compress) 9 = .ok (.invokestatic 115, 3) := by decide +kernel
theorem dJ5_compress_12 : decode (mk_c MJ5_compress) 12 = .ok (.istore 4, 2) := by decide +kernel
theorem dJ5_compress_14 : decode (mk_c MJ5_compress) 14 = .ok (.iload 4, 2) := by decide +kernel
theorem dJ5_compress_16 : decode (mk_c MJ5_compress) 16 = .ok (.iload_n 2, 1) := by decide +kernel
theorem dJ5_compress_17 : decode (mk_c MJ5_compress) 17 = .ok (.if_icmp .eq 40, 3) := by decide +kernel
theorem dJ5_compress_20 : decode (mk_c MJ5_compress) 20 = .ok (.aload_n 0, 1) := by decide +kernel
theorem dJ5_compress_21 : decode (mk_c MJ5_compress) 21 = .ok (.iload_n 1, 1) := by decide +kernel
theorem dJ5_compress_22 : decode (mk_c MJ5_compress) 22 = .ok (.iload_n 2, 1) := by decide +kernel
theorem dJ5_compress_23 : decode (mk_c MJ5_compress) 23 = .ok (.invokestatic 119, 3) := by decide +kernel
theorem dJ5_compress_26 : decode (mk_c MJ5_compress) 26 = .ok (.astore 5, 2) := by decide +kernel
theorem dJ5_compress_28 : decode (mk_c MJ5_compress) 28 = .ok (.aload 5, 2) := by decide +kernel
theorem dJ5_compress_30 : decode (mk_c MJ5_compress) 30 = .ok (.iload 4, 2) := by decide +kernel
theorem dJ5_compress_32 : decode (mk_c MJ5_compress) 32 = .ok (.invokestatic 71, 3) := by decide +kernel
theorem dJ5_compress_35 : decode (mk_c MJ5_compress) 35 = .ok (.sipush 255, 3) := by decide +kernel
theorem dJ5_compress_38 : decode (mk_c MJ5_compress) 38 = .ok (.if_icmp .gt 16, 3) := by decide +kernel
theorem dJ5_compress_41 : decode (mk_c MJ5_compress) 41 = .ok (.aload 5, 2) := by decide +kernel
theorem dJ5_compress_43 : decode (mk_c MJ5_compress) 43 = .ok (.iconst 0, 1) := by decide +kernel
theorem dJ5_compress_44 : decode (mk_c MJ5_compress) 44 = .ok (.aload_n 3, 1) := by decide +kernel
theorem dJ5_compress_45 : decode (mk_c MJ5_compress) 45 = .ok (.iconst 0, 1) := by decide +kernel
theorem dJ5_compress_46 : decode (mk_c MJ5_compress) 46 = .ok (.iload_n 2, 1) := by decide +kernel
theorem dJ5_compress_47 : decode (mk_c MJ5_compress) 47 = .ok (.invokestatic 123, 3) := by decide +kernel
theorem dJ5_compress_50 : decode (mk_c MJ5_compress) 50 = .ok (.iload_n 2, 1) := by decide +kernel
theorem dJ5_compress_51 : decode (mk_c MJ5_compress) 51 = .ok (.if_icmp .eq 6, 3) := by decide +kernel
theorem dJ5_compress_54 : decode (mk_c MJ5_compress) 54 = .ok (.aload 5, 2) := by decide +kernel
theorem dJ5_compress_56 : decode (mk_c MJ5_compress) 56 = .ok (.areturn, 1) := by decide +kernel
theorem dJ5_compress_57 : decode (mk_c MJ5_compress) 57 = .ok (.aload_n 3, 1) := by decide +kernel
theorem dJ5_compress_58 : decode (mk_c MJ5_compress) 58 = .ok (.areturn, 1) := by decide +kernel
theorem dJ5_compress_2_0 : decode (mk_c MJ5_compress_2) 0 = .ok (.iconst 0, 1) := by decide +kernel
theorem dJ5_compress_2_1 : decode (mk_c MJ5_compress_2) 1 = .ok (.istore 5, 2) := by decide +kernel
theorem dJ5_compress_2_3 : decode (mk_c MJ5_compress_2) 3 = .ok (.iload 5, 2) := by decide +kernel
theorem dJ5_compress_2_5 : decode (mk_c MJ5_compress_2) 5 = .ok (.iload 4, 2) := by decide +kernel
theorem dJ5_compress_2_7 : decode (mk_c MJ5_compress_2) 7 = .ok (.if_icmp .ge 37, 3) := by decide +kernel
theorem dJ5_compress_2_10 : decode (mk_c MJ5_compress_2) 10 = .ok (.aload_n 0, 1) := by decide +kernel
theorem dJ5_compress_2_11 : decode (mk_c MJ5_compress_2) 11 = .ok (.iload_n 1, 1) := by decide +kernel
theorem dJ5_compress_2_12 : decode (mk_c MJ5_compress_2) 12 = .ok (.caload, 1) := by decide +kernel
theorem dJ5_compress_2_13 : decode (mk_c MJ5_compress_2) 13 = .ok (.istore 6, 2) := by decide +kernel
theorem dJ5_compress_2_15 : decode (mk_c MJ5_compress_2) 15 = .ok (.iload 6, 2) := by decide +kernel
theorem dJ5_compress_2_17 : decode (mk_c MJ5_compress_2) 17 = .ok (.sipush 255, 3) := by decide +kernel
theorem dJ5_compress_2_20 : decode (mk_c MJ5_compress_2) 20 = .ok (.if_icmp .le 6, 3) := by decide +kernel
theorem dJ5_compress_2_23 : decode (mk_c MJ5_compress_2) 23 = .ok (.iload 5, 2) := by decide +kernel
theorem dJ5_compress_2_25 : decode (mk_c MJ5_compress_2) 25 = .ok (.ireturn, 1) := by decide +kernel
theorem dJ5_compress_2_26 : decode (mk_c MJ5_compress_2) 26 = .ok (.aload_n 2, 1) := by decide +kernel
theorem dJ5_compress_2_27 : decode (mk_c MJ5_compress_2) 27 = .ok (.iload_n 3, 1) := by decide +kernel
theorem dJ5_compress_2_28 : decode (mk_c MJ5_compress_2) 28 = .ok (.iload 6, 2) := by decide +kernel
theorem dJ5_compress_2_30 : decode (mk_c MJ5_compress_2) 30 = .ok (.i2b, 1) := by decide +kernel
theorem dJ5_compress_2_31 : decode (mk_c MJ5_compress_2) 31 = .ok (.bastore, 1) := by decide +kernel
theorem dJ5_compress_2_32 : decode (mk_c MJ5_compress_2) 32 = .ok (.iinc 1 1, 3) := by decide +kernel
theorem dJ5_compress_2_35 : decode (mk_c MJ5_compress_2) 35 = .ok (.iinc 3 1, 3) := by decide +kernel
theorem dJ5_compress_2_38 : decode (mk_c MJ5_compress_2) 38 = .ok (.iinc 5 1, 3) := by decide +kernel
theorem dJ5_compress_2_41 : decode (mk_c MJ5_compress_2) 41 = .ok (.goto (-38), 3) := by decide +kernel
theorem dJ5_compress_2_44 : decode (mk_c MJ5_compress_2) 44 = .ok (.iload 4, 2) := by decide +kernel
theorem dJ5_compress_2_46 : decode (mk_c MJ5_compress_2) 46 = .ok (.ireturn, 1) := by decide +kernel
theorem dJ5_toBytes_0 : decode (mk_c MJ5_toBytes) 0 = .ok (.iload_n 2, 1) := by decide +kernel
theorem dJ5_toBytes_1 : decode (mk_c MJ5_toBytes) 1 = .ok (.invokestatic 107, 3) := by decide +kernel
theorem dJ5_toBytes_4 : decode (mk_c MJ5_toBytes) 4 = .ok (.astore_n 3, 1) := by decide +kernel
theorem dJ5_toBytes_5 : decode (mk_c MJ5_toBytes) 5 = .ok (.iconst 0, 1) := by decide +kernel
theorem dJ5_toBytes_6 : decode (mk_c MJ5_toBytes) 6 = .ok (.istore 4, 2) := by decide +kernel
theorem dJ5_toBytes_8 : decode (mk_c MJ5_toBytes) 8 = .ok (.iload 4, 2) := by decide +kernel
theorem dJ5_toBytes_10 : decode (mk_c MJ5_toBytes) 10 = .ok (.iload_n 2, 1) := by decide +kernel
theorem dJ5_toBytes_11 : decode (mk_c MJ5_toBytes) 11 = .ok (.if_icmp .ge 21, 3) := by decide +kernel
theorem dJ5_toBytes_14 : decode (mk_c MJ5_toBytes) 14 = .ok (.aload_n 3, 1) := by decide +kernel
theorem dJ5_toBytes_15 : decode (mk_c MJ5_toBytes) 15 = .ok (.iload 4, 2) := by decide +kernel
theorem dJ5_toBytes_17 : decode (mk_c MJ5_toBytes) 17 = .ok (.aload_n 0, 1) := by decide +kernel
theorem dJ5_toBytes_18 : decode (mk_c MJ5_toBytes) 18 = .ok (.iload_n 1, 1) := by decide +kernel
theorem dJ5_toBytes_19 : decode (mk_c MJ5_toBytes) 19 = .ok (.caload, 1) := by decide +kernel
theorem dJ5_toBytes_20 : decode (mk_c MJ5_toBytes) 20 = .ok (.invokestatic 111, 3) := by decide +kernel
theorem dJ5_toBytes_23 : decode (mk_c MJ5_toBytes) 23 = .ok (.iinc 1 1, 3) := by decide +kernel
theorem dJ5_toBytes_26 : decode (mk_c MJ5_toBytes) 26 = .ok (.iinc 4 1, 3) := by decide +kernel
theorem dJ5_toBytes_29 : decode (mk_c MJ5_toBytes) 29 = .ok (.goto (-21), 3) := by decide +kernel
theorem dJ5_toBytes_32 : decode (mk_c MJ5_toBytes) 32 = .ok (.aload_n 3, 1) := by decide +kernel
theorem dJ5_toBytes_33 : decode (mk_c MJ5_toBytes) 33 = .ok (.areturn, 1) := by decide +kernel
theorem dJ5_newBytesFor_0 : decode (mk_c MJ5_newBytesFor) 0 = .ok (.iload_n 0, 1) := by decide +kernel
theorem dJ5_newBytesFor_1 : decode (mk_c MJ5_newBytesFor) 1 = .ok (.invokestatic 11, 3) := by decide +kernel
theorem dJ5_newBytesFor_4 : decode (mk_c MJ5_newBytesFor) 4 = .ok (.newarray .byte, 2) := by decide +kernel
theorem dJ5_newBytesFor_6 : decode (mk_c MJ5_newBytesFor) 6 = .ok (.areturn, 1) := by decide +kernel
theorem dJ5_newBytesLength_0 : decode (mk_c MJ5_newBytesLength) 0 = .ok (.iload_n 0, 1) := by decide +kernel
theorem dJ5_newBytesLength_1 : decode (mk_c MJ5_newBytesLength) 1 = .ok (.ifCond .ge 11, 3) := by decide +kernel
theorem dJ5_newBytesLength_4 : decode (mk_c MJ5_newBytesLength) 4 = .ok (.new 17, 3) := by decide +kernel
theorem dJ5_newBytesLength_7 : decode (mk_c MJ5_newBytesLength) 7 = .ok (.dup, 1) := by decide +kernel
theorem dJ5_newBytesLength_8 : decode (mk_c MJ5_newBytesLength) 8 = .ok (.invokespecial 19, 3) := by decide +kernel
theorem dJ5_newBytesLength_11 : decode (mk_c MJ5_newBytesLength) 11 = .ok (.athrow, 1) := by decide +kernel
theorem dJ5_newBytesLength_12 : decode (mk_c MJ5_newBytesLength) 12 = .ok (.iload_n 0, 1) := by decide +kernel
theorem dJ5_newBytesLength_13 : decode (mk_c MJ5_newBytesLength) 13 = .ok (.ldc 20, 2) := by decide +kernel
theorem dJ5_newBytesLength_15 : decode (mk_c MJ5_newBytesLength) 15 = .ok (.if_icmp .lt 40, 3) := by decide +kernel
theorem dJ5_newBytesLength_18 : decode (mk_c MJ5_newBytesLength) 18 = .ok (.new 21, 3) := by decide +kernel
theorem dJ5_newBytesLength_21 : decode (mk_c MJ5_newBytesLength) 21 = .ok (.dup, 1) := by decide +kernel
theorem dJ5_newBytesLength_22 : decode (mk_c MJ5_newBytesLength) 22 = .ok (.new 23, 3) := by decide +kernel
theorem dJ5_newBytesLength_25 : decode (mk_c MJ5_newBytesLength) 25 = .ok (.dup, 1) := by decide +kernel
theorem dJ5_newBytesLength_26 : decode (mk_c MJ5_newBytesLength) 26 = .ok (.invokespecial 25, 3) := by decide +kernel
theorem dJ5_newBytesLength_29 : decode (mk_c MJ5_newBytesLength) 29 = .ok (.ldc 26, 2) := by decide +kernel
theorem dJ5_newBytesLength_31 : decode (mk_c MJ5_newBytesLength) 31 = .ok (.invokevirtual 28, 3) := by decide +kernel
theorem dJ5_newBytesLength_34 : decode (mk_c MJ5_newBytesLength) 34 = .ok (.iload_n 0, 1) := by decide +kernel
theorem dJ5_newBytesLength_35 : decode (mk_c MJ5_newBytesLength) 35 = .ok (.invokevirtual 32, 3) := by decide +kernel
theorem dJ5_newBytesLength_38 : decode (mk_c MJ5_newBytesLength) 38 = .ok (.ldc 35, 2) := by decide +kernel
theorem dJ5_newBytesLength_40 : decode (mk_c MJ5_newBytesLength) 40 = .ok (.invokevirtual 28, 3) := by decide +kernel
theorem dJ5_newBytesLength_43 : decode (mk_c MJ5_newBytesLength) 43 = .ok (.ldc 20, 2) := by decide +kernel
theorem dJ5_newBytesLength_45 : decode (mk_c MJ5_newBytesLength) 45 = .ok (.invokevirtual 32, 3) := by decide +kernel
theorem dJ5_newBytesLength_48 : decode (mk_c MJ5_newBytesLength) 48 = .ok (.invokevirtual 37, 3) := by decide +kernel
theorem dJ5_newBytesLength_51 : decode (mk_c MJ5_newBytesLength) 51 = .ok (.invokespecial 41, 3) := by decide +kernel
theorem dJ5_newBytesLength_54 : decode (mk_c MJ5_newBytesLength) 54 = .ok (.athrow, 1) := by decide +kernel
theorem dJ5_newBytesLength_55 : decode (mk_c MJ5_newBytesLength) 55 = .ok (.iload_n 0, 1) := by decide +kernel
theorem dJ5_newBytesLength_56 : decode (mk_c MJ5_newBytesLength) 56 = .ok (.iconst 1, 1) := by decide +kernel
theorem dJ5_newBytesLength_57 : decode (mk_c MJ5_newBytesLength) 57 = .ok (.ishl, 1) := by decide +kernel
theorem dJ5_newBytesLength_58 : decode (mk_c MJ5_newBytesLength) 58 = .ok (.ireturn, 1) := by decide +kernel
theorem dJ5_putChar_0 : decode (mk_c MJ5_putChar) 0 = .ok (.getstatic 44, 3) := by decide +kernel
theorem dJ5_putChar_3 : decode (mk_c MJ5_putChar) 3 = .ok (.ifCond .ne 25, 3) := by decide +kernel
theorem dJ5_putChar_6 : decode (mk_c MJ5_putChar) 6 = .ok (.iload_n 1, 1) := by decide +kernel
theorem dJ5_putChar_7 : decode (mk_c MJ5_putChar) 7 = .ok (.ifCond .lt 11, 3) := by decide +kernel
theorem dJ5_putChar_10 : decode (mk_c MJ5_putChar) 10 = .ok (.iload_n 1, 1) := by decide +kernel
theorem dJ5_putChar_11 : decode (mk_c MJ5_putChar) 11 = .ok (.aload_n 0, 1) := by decide +kernel
theorem dJ5_putChar_12 : decode (mk_c MJ5_putChar) 12 = .ok (.invokestatic 48, 3) := by decide +kernel
theorem dJ5_putChar_15 : decode (mk_c MJ5_putChar) 15 = .ok (.if_icmp .lt 13, 3) := by decide +kernel
theorem dJ5_putChar_18 : decode (mk_c MJ5_putChar) 18 = .ok (.new 52, 3) := by decide +kernel
theorem dJ5_putChar_21 : decode (mk_c MJ5_putChar) 21 = .ok (.dup, 1) := by decide +kernel
theorem dJ5_putChar_22 : decode (mk_c MJ5_putChar) 22 = .ok (.ldc 54, 2) := by decide +kernel
theorem dJ5_putChar_24 : decode (mk_c MJ5_putChar) 24 = .ok (.invokespecial 56, 3) := by decide +kernel
theorem dJ5_putChar_27 : decode (mk_c MJ5_putChar) 27 = .ok (.athrow, 1) := by decide +kernel
theorem dJ5_putChar_28 : decode (mk_c MJ5_putChar) 28 = .ok (.iload_n 1, 1) := by decide +kernel
theorem dJ5_putChar_29 : decode (mk_c MJ5_putChar) 29 = .ok (.iconst 1, 1) := by decide +kernel
theorem dJ5_putChar_30 : decode (mk_c MJ5_putChar) 30 = .ok (.ishl, 1) := by decide +kernel
theorem dJ5_putChar_31 : decode (mk_c MJ5_putChar) 31 = .ok (.istore_n 1, 1) := by decide +kernel
theorem dJ5_putChar_32 : decode (mk_c MJ5_putChar) 32 = .ok (.aload_n 0, 1) := by decide +kernel
theorem dJ5_putChar_33 : decode (mk_c MJ5_putChar) 33 = .ok (.iload_n 1, 1) := by decide +kernel
theorem dJ5_putChar_34 : decode (mk_c MJ5_putChar) 34 = .ok (.iinc 1 1, 3) := by decide +kernel
theorem dJ5_putChar_37 : decode (mk_c MJ5_putChar) 37 = .ok (.iload_n 2, 1) := by decide +kernel
theorem dJ5_putChar_38 : decode (mk_c MJ5_putChar) 38 = .ok (.getstatic 59, 3) := by decide +kernel
theorem dJ5_putChar_41 : decode (mk_c MJ5_putChar) 41 = .ok (.ishr, 1) := by decide +kernel
theorem dJ5_putChar_42 : decode (mk_c MJ5_putChar) 42 = .ok (.i2b, 1) := by decide +kernel
theorem dJ5_putChar_43 : decode (mk_c MJ5_putChar) 43 = .ok (.bastore, 1) := by decide +kernel
theorem dJ5_putChar_44 : decode (mk_c MJ5_putChar) 44 = .ok (.aload_n 0, 1) := by decide +kernel
theorem dJ5_putChar_45 : decode (mk_c MJ5_putChar) 45 = .ok (.iload_n 1, 1) := by decide +kernel
theorem dJ5_putChar_46 : decode (mk_c MJ5_putChar) 46 = .ok (.iload_n 2, 1) := by decide +kernel
theorem dJ5_putChar_47 : decode (mk_c MJ5_putChar) 47 = .ok (.getstatic 63, 3) := by decide +kernel
theorem dJ5_putChar_50 : decode (mk_c MJ5_putChar) 50 = .ok (.ishr, 1) := by decide +kernel
theorem dJ5_putChar_51 : decode (mk_c MJ5_putChar) 51 = .ok (.i2b, 1) := by decide +kernel
theorem dJ5_putChar_52 : decode (mk_c MJ5_putChar) 52 = .ok (.bastore, 1) := by decide +kernel
theorem dJ5_putChar_53 : decode (mk_c MJ5_putChar) 53 = .ok (.return_, 1) := by decide +kernel
theorem dJ5_length_0 : decode (mk_c MJ5_length) 0 = .ok (.aload_n 0, 1) := by decide +kernel
theorem dJ5_length_1 : decode (mk_c MJ5_length) 1 = .ok (.arraylength, 1) := by decide +kernel
theorem dJ5_length_2 : decode (mk_c MJ5_length) 2 = .ok (.iconst 1, 1) := by decide +kernel
theorem dJ5_length_3 : decode (mk_c MJ5_length) 3 = .ok (.ishr, 1) := by decide +kernel
theorem dJ5_length_4 : decode (mk_c MJ5_length) 4 = .ok (.ireturn, 1) := by decide +kernel
theorem dJ5_getChar_0 : decode (mk_c MJ5_getChar) 0 = .ok (.getstatic 44, 3) := by decide +kernel
theorem dJ5_getChar_3 : decode (mk_c MJ5_getChar) 3 = .ok (.ifCond .ne 25, 3) := by decide +kernel
theorem dJ5_getChar_6 : decode (mk_c MJ5_getChar) 6 = .ok (.iload_n 1, 1) := by decide +kernel
theorem dJ5_getChar_7 : decode (mk_c MJ5_getChar) 7 = .ok (.ifCond .lt 11, 3) := by decide +kernel
theorem dJ5_getChar_10 : decode (mk_c MJ5_getChar) 10 = .ok (.iload_n 1, 1) := by decide +kernel
theorem dJ5_getChar_11 : decode (mk_c MJ5_getChar) 11 = .ok (.aload_n 0, 1) := by decide +kernel
theorem dJ5_getChar_12 : decode (mk_c MJ5_getChar) 12 = .ok (.invokestatic 48, 3) := by decide +kernel
theorem dJ5_getChar_15 : decode (mk_c MJ5_getChar) 15 = .ok (.if_icmp .lt 13, 3) := by decide +kernel
theorem dJ5_getChar_18 : decode (mk_c MJ5_getChar) 18 = .ok (.new 52, 3) := by decide +kernel
theorem dJ5_getChar_21 : decode (mk_c MJ5_getChar) 21 = .ok (.dup, 1) := by decide +kernel
theorem dJ5_getChar_22 : decode (mk_c MJ5_getChar) 22 = .ok (.ldc 54, 2) := by decide +kernel
theorem dJ5_getChar_24 : decode (mk_c MJ5_getChar) 24 = .ok (.invokespecial 56, 3) := by decide +kernel
theorem dJ5_getChar_27 : decode (mk_c MJ5_getChar) 27 = .ok (.athrow, 1) := by decide +kernel
theorem dJ5_getChar_28 : decode (mk_c MJ5_getChar) 28 = .ok (.iload_n 1, 1) := by decide +kernel
theorem dJ5_getChar_29 : decode (mk_c MJ5_getChar) 29 = .ok (.iconst 1, 1) := by decide +kernel
theorem dJ5_getChar_30 : decode (mk_c MJ5_getChar) 30 = .ok (.ishl, 1) := by decide +kernel
theorem dJ5_getChar_31 : decode (mk_c MJ5_getChar) 31 = .ok (.istore_n 1, 1) := by decide +kernel
theorem dJ5_getChar_32 : decode (mk_c MJ5_getChar) 32 = .ok (.aload_n 0, 1) := by decide +kernel
theorem dJ5_getChar_33 : decode (mk_c MJ5_getChar) 33 = .ok (.iload_n 1, 1) := by decide +kernel
theorem dJ5_getChar_34 : decode (mk_c MJ5_getChar) 34 = .ok (.iinc 1 1, 3) := by decide +kernel
theorem dJ5_getChar_37 : decode (mk_c MJ5_getChar) 37 = .ok (.baload, 1) := by decide +kernel
theorem dJ5_getChar_38 : decode (mk_c MJ5_getChar) 38 = .ok (.sipush 255, 3) := by decide +kernel
theorem dJ5_getChar_41 : decode (mk_c MJ5_getChar) 41 = .ok (.iand, 1) := by decide +kernel
theorem dJ5_getChar_42 : decode (mk_c MJ5_getChar) 42 = .ok (.getstatic 59, 3) := by decide +kernel
theorem dJ5_getChar_45 : decode (mk_c MJ5_getChar) 45 = .ok (.ishl, 1) := by decide +kernel
theorem dJ5_getChar_46 : decode (mk_c MJ5_getChar) 46 = .ok (.aload_n 0, 1) := by decide +kernel
theorem dJ5_getChar_47 : decode (mk_c MJ5_getChar) 47 = .ok (.iload_n 1, 1) := by decide +kernel
theorem dJ5_getChar_48 : decode (mk_c MJ5_getChar) 48 = .ok (.baload, 1) := by decide +kernel
theorem dJ5_getChar_49 : decode (mk_c MJ5_getChar) 49 = .ok (.sipush 255, 3) := by decide +kernel
theorem dJ5_getChar_52 : decode (mk_c MJ5_getChar) 52 = .ok (.iand, 1) := by decide +kernel
theorem dJ5_getChar_53 : decode (mk_c MJ5_getChar) 53 = .ok (.getstatic 63, 3) := by decide +kernel
theorem dJ5_getChar_56 : decode (mk_c MJ5_getChar) 56 = .ok (.ishl, 1) := by decide +kernel
theorem dJ5_getChar_57 : decode (mk_c MJ5_getChar) 57 = .ok (.ior, 1) := by decide +kernel
theorem dJ5_getChar_58 : decode (mk_c MJ5_getChar) 58 = .ok (.i2c, 1) := by decide +kernel
theorem dJ5_getChar_59 : decode (mk_c MJ5_getChar) 59 = .ok (.ireturn, 1) := by decide +kernel
theorem dJ5_compress_3_0 : decode (mk_c MJ5_compress_3) 0 = .ok (.iload_n 1, 1) := by decide +kernel
theorem dJ5_compress_3_1 : decode (mk_c MJ5_compress_3) 1 = .ok (.iload 4, 2) := by decide +kernel
theorem dJ5_compress_3_3 : decode (mk_c MJ5_compress_3) 3 = .ok (.aload_n 0, 1) := by decide +kernel
theorem dJ5_compress_3_4 : decode (mk_c MJ5_compress_3) 4 = .ok (.invokestatic 173, 3) := by decide +kernel
theorem dJ5_compress_3_7 : decode (mk_c MJ5_compress_3) 7 = .ok (.iconst 0, 1) := by decide +kernel
theorem dJ5_compress_3_8 : decode (mk_c MJ5_compress_3) 8 = .ok (.istore 5, 2) := by decide +kernel
theorem dJ5_compress_3_10 : decode (mk_c MJ5_compress_3) 10 = .ok (.iload 5, 2) := by decide +kernel
theorem dJ5_compress_3_12 : decode (mk_c MJ5_compress_3) 12 = .ok (.iload 4, 2) := by decide +kernel
theorem dJ5_compress_3_14 : decode (mk_c MJ5_compress_3) 14 = .ok (.if_icmp .ge 39, 3) := by decide +kernel
theorem dJ5_compress_3_17 : decode (mk_c MJ5_compress_3) 17 = .ok (.aload_n 0, 1) := by decide +kernel
theorem dJ5_compress_3_18 : decode (mk_c MJ5_compress_3) 18 = .ok (.iload_n 1, 1) := by decide +kernel
theorem dJ5_compress_3_19 : decode (mk_c MJ5_compress_3) 19 = .ok (.invokestatic 71, 3) := by decide +kernel
theorem dJ5_compress_3_22 : decode (mk_c MJ5_compress_3) 22 = .ok (.istore 6, 2) := by decide +kernel
theorem dJ5_compress_3_24 : decode (mk_c MJ5_compress_3) 24 = .ok (.iload 6, 2) := by decide +kernel
theorem dJ5_compress_3_26 : decode (mk_c MJ5_compress_3) 26 = .ok (.sipush 255, 3) := by decide +kernel
theorem dJ5_compress_3_29 : decode (mk_c MJ5_compress_3) 29 = .ok (.if_icmp .le 6, 3) := by decide +kernel
theorem dJ5_compress_3_32 : decode (mk_c MJ5_compress_3) 32 = .ok (.iload 5, 2) := by decide +kernel
theorem dJ5_compress_3_34 : decode (mk_c MJ5_compress_3) 34 = .ok (.ireturn, 1) := by decide +kernel
theorem dJ5_compress_3_35 : decode (mk_c MJ5_compress_3) 35 = .ok (.aload_n 2, 1) := by decide +kernel
theorem dJ5_compress_3_36 : decode (mk_c MJ5_compress_3) 36 = .ok (.iload_n 3, 1) := by decide +kernel
theorem dJ5_compress_3_37 : decode (mk_c MJ5_compress_3) 37 = .ok (.iload 6, 2) := by decide +kernel
theorem dJ5_compress_3_39 : decode (mk_c MJ5_compress_3) 39 = .ok (.i2b, 1) := by decide +kernel
theorem dJ5_compress_3_40 : decode (mk_c MJ5_compress_3) 40 = .ok (.bastore, 1) := by decide +kernel
theorem dJ5_compress_3_41 : decode (mk_c MJ5_compress_3) 41 = .ok (.iinc 1 1, 3) := by decide +kernel
theorem dJ5_compress_3_44 : decode (mk_c MJ5_compress_3) 44 = .ok (.iinc 3 1, 3) := by decide +kernel
theorem dJ5_compress_3_47 : decode (mk_c MJ5_compress_3) 47 = .ok (.iinc 5 1, 3) := by decide +kernel
theorem dJ5_compress_3_50 : decode (mk_c MJ5_compress_3) 50 = .ok (.goto (-40), 3) := by decide +kernel
theorem dJ5_compress_3_53 : decode (mk_c MJ5_compress_3) 53 = .ok (.iload 4, 2) := by decide +kernel
theorem dJ5_compress_3_55 : decode (mk_c MJ5_compress_3) 55 = .ok (.ireturn, 1) := by decide +kernel
theorem dJ5_checkBoundsOffCount_0 : decode (mk_c MJ5_checkBoundsOffCount) 0 = .ok (.iload_n 0, 1) := by decide +kernel
theorem dJ5_checkBoundsOffCount_1 : decode (mk_c MJ5_checkBoundsOffCount) 1 = .ok (.iload_n 1, 1) := by decide +kernel
theorem dJ5_checkBoundsOffCount_2 : decode (mk_c MJ5_checkBoundsOffCount) 2 = .ok (.aload_n 2, 1) := by decide +kernel
theorem dJ5_checkBoundsOffCount_3 : decode (mk_c MJ5_checkBoundsOffCount) 3 = .ok (.invokestatic 48, 3) := by decide +kernel
theorem dJ5_checkBoundsOffCount_6 : decode (mk_c MJ5_checkBoundsOffCount) 6 = .ok (.invokestatic 419, 3) := by decide +kernel
theorem dJ5_checkBoundsOffCount_9 : decode (mk_c MJ5_checkBoundsOffCount) 9 = .ok (.pop, 1) := by decide +kernel
theorem dJ5_checkBoundsOffCount_10 : decode (mk_c MJ5_checkBoundsOffCount) 10 = .ok (.return_, 1) := by decide +kernel
theorem dJ5_coderFromArrayLen_0 : decode (mk_c MJ5_coderFromArrayLen) 0 = .ok (.iload_n 1, 1) := by decide +kernel
theorem dJ5_coderFromArrayLen_1 : decode (mk_c MJ5_coderFromArrayLen) 1 = .ok (.aload_n 0, 1) := by decide +kernel
theorem dJ5_coderFromArrayLen_2 : decode (mk_c MJ5_coderFromArrayLen) 2 = .ok (.arraylength, 1) := by decide +kernel
theorem dJ5_coderFromArrayLen_3 : decode (mk_c MJ5_coderFromArrayLen) 3 = .ok (.isub, 1) := by decide +kernel
theorem dJ5_coderFromArrayLen_4 : decode (mk_c MJ5_coderFromArrayLen) 4 = .ok (.bipush 31, 2) := by decide +kernel
theorem dJ5_coderFromArrayLen_6 : decode (mk_c MJ5_coderFromArrayLen) 6 = .ok (.iushr, 1) := by decide +kernel
theorem dJ5_coderFromArrayLen_7 : decode (mk_c MJ5_coderFromArrayLen) 7 = .ok (.i2b, 1) := by decide +kernel
theorem dJ5_coderFromArrayLen_8 : decode (mk_c MJ5_coderFromArrayLen) 8 = .ok (.ireturn, 1) := by decide +kernel
theorem dJ5_hashCode_0 : decode (mk_c MJ5_hashCode) 0 = .ok (.aload_n 0, 1) := by decide +kernel
theorem dJ5_hashCode_1 : decode (mk_c MJ5_hashCode) 1 = .ok (.arraylength, 1) := by decide +kernel
theorem dJ5_hashCode_2 : decode (mk_c MJ5_hashCode) 2 = .ok (.lookupswitch 38 #[(0, 26), (2, 30)], 26) := by decide +kernel
theorem dJ5_hashCode_28 : decode (mk_c MJ5_hashCode) 28 = .ok (.iconst 0, 1) := by decide +kernel
theorem dJ5_hashCode_29 : decode (mk_c MJ5_hashCode) 29 = .ok (.goto 22, 3) := by decide +kernel
theorem dJ5_hashCode_32 : decode (mk_c MJ5_hashCode) 32 = .ok (.aload_n 0, 1) := by decide +kernel
theorem dJ5_hashCode_33 : decode (mk_c MJ5_hashCode) 33 = .ok (.iconst 0, 1) := by decide +kernel
theorem dJ5_hashCode_34 : decode (mk_c MJ5_hashCode) 34 = .ok (.invokestatic 71, 3) := by decide +kernel
theorem dJ5_hashCode_37 : decode (mk_c MJ5_hashCode) 37 = .ok (.goto 14, 3) := by decide +kernel
theorem dJ5_hashCode_40 : decode (mk_c MJ5_hashCode) 40 = .ok (.aload_n 0, 1) := by decide +kernel
theorem dJ5_hashCode_41 : decode (mk_c MJ5_hashCode) 41 = .ok (.iconst 0, 1) := by decide +kernel
theorem dJ5_hashCode_42 : decode (mk_c MJ5_hashCode) 42 = .ok (.aload_n 0, 1) := by decide +kernel
theorem dJ5_hashCode_43 : decode (mk_c MJ5_hashCode) 43 = .ok (.arraylength, 1) := by decide +kernel
theorem dJ5_hashCode_44 : decode (mk_c MJ5_hashCode) 44 = .ok (.iconst 1, 1) := by decide +kernel
theorem dJ5_hashCode_45 : decode (mk_c MJ5_hashCode) 45 = .ok (.ishr, 1) := by decide +kernel
theorem dJ5_hashCode_46 : decode (mk_c MJ5_hashCode) 46 = .ok (.iconst 0, 1) := by decide +kernel
theorem dJ5_hashCode_47 : decode (mk_c MJ5_hashCode) 47 = .ok (.iconst 5, 1) := by decide +kernel
theorem dJ5_hashCode_48 : decode (mk_c MJ5_hashCode) 48 = .ok (.invokestatic 220, 3) := by decide +kernel
theorem dJ5_hashCode_51 : decode (mk_c MJ5_hashCode) 51 = .ok (.ireturn, 1) := by decide +kernel
theorem dJ5_charAt_0 : decode (mk_c MJ5_charAt) 0 = .ok (.iload_n 1, 1) := by decide +kernel
theorem dJ5_charAt_1 : decode (mk_c MJ5_charAt) 1 = .ok (.aload_n 0, 1) := by decide +kernel
theorem dJ5_charAt_2 : decode (mk_c MJ5_charAt) 2 = .ok (.invokestatic 67, 3) := by decide +kernel
theorem dJ5_charAt_5 : decode (mk_c MJ5_charAt) 5 = .ok (.aload_n 0, 1) := by decide +kernel
theorem dJ5_charAt_6 : decode (mk_c MJ5_charAt) 6 = .ok (.iload_n 1, 1) := by decide +kernel
theorem dJ5_charAt_7 : decode (mk_c MJ5_charAt) 7 = .ok (.invokestatic 71, 3) := by decide +kernel
theorem dJ5_charAt_10 : decode (mk_c MJ5_charAt) 10 = .ok (.ireturn, 1) := by decide +kernel
theorem dJ5_checkIndex_0 : decode (mk_c MJ5_checkIndex) 0 = .ok (.iload_n 0, 1) := by decide +kernel
theorem dJ5_checkIndex_1 : decode (mk_c MJ5_checkIndex) 1 = .ok (.aload_n 1, 1) := by decide +kernel
theorem dJ5_checkIndex_2 : decode (mk_c MJ5_checkIndex) 2 = .ok (.invokestatic 48, 3) := by decide +kernel
theorem dJ5_checkIndex_5 : decode (mk_c MJ5_checkIndex) 5 = .ok (.invokestatic 414, 3) := by decide +kernel
theorem dJ5_checkIndex_8 : decode (mk_c MJ5_checkIndex) 8 = .ok (.return_, 1) := by decide +kernel
theorem dJ6_hashCode_0 : decode (mk_c MJ6_hashCode) 0 = .ok (.aload_n 0, 1) := by decide +kernel
theorem dJ6_hashCode_1 : decode (mk_c MJ6_hashCode) 1 = .ok (.arraylength, 1) := by decide +kernel
theorem dJ6_hashCode_2 : decode (mk_c MJ6_hashCode) 2 = .ok (.lookupswitch 40 #[(0, 26), (1, 30)], 26) := by decide +kernel
theorem dJ6_hashCode_28 : decode (mk_c MJ6_hashCode) 28 = .ok (.iconst 0, 1) := by decide +kernel
theorem dJ6_hashCode_29 : decode (mk_c MJ6_hashCode) 29 = .ok (.goto 22, 3) := by decide +kernel
theorem dJ6_hashCode_32 : decode (mk_c MJ6_hashCode) 32 = .ok (.aload_n 0, 1) := by decide +kernel
theorem dJ6_hashCode_33 : decode (mk_c MJ6_hashCode) 33 = .ok (.iconst 0, 1) := by decide +kernel
theorem dJ6_hashCode_34 : decode (mk_c MJ6_hashCode) 34 = .ok (.baload, 1) := by decide +kernel
theorem dJ6_hashCode_35 : decode (mk_c MJ6_hashCode) 35 = .ok (.sipush 255, 3) := by decide +kernel
theorem dJ6_hashCode_38 : decode (mk_c MJ6_hashCode) 38 = .ok (.iand, 1) := by decide +kernel
theorem dJ6_hashCode_39 : decode (mk_c MJ6_hashCode) 39 = .ok (.goto 12, 3) := by decide +kernel
theorem dJ6_hashCode_42 : decode (mk_c MJ6_hashCode) 42 = .ok (.aload_n 0, 1) := by decide +kernel
theorem dJ6_hashCode_43 : decode (mk_c MJ6_hashCode) 43 = .ok (.iconst 0, 1) := by decide +kernel
theorem dJ6_hashCode_44 : decode (mk_c MJ6_hashCode) 44 = .ok (.aload_n 0, 1) := by decide +kernel
theorem dJ6_hashCode_45 : decode (mk_c MJ6_hashCode) 45 = .ok (.arraylength, 1) := by decide +kernel
theorem dJ6_hashCode_46 : decode (mk_c MJ6_hashCode) 46 = .ok (.iconst 0, 1) := by decide +kernel
theorem dJ6_hashCode_47 : decode (mk_c MJ6_hashCode) 47 = .ok (.iconst 4, 1) := by decide +kernel
theorem dJ6_hashCode_48 : decode (mk_c MJ6_hashCode) 48 = .ok (.invokestatic 84, 3) := by decide +kernel
theorem dJ6_hashCode_51 : decode (mk_c MJ6_hashCode) 51 = .ok (.ireturn, 1) := by decide +kernel
theorem dJ6_equals_0 : decode (mk_c MJ6_equals) 0 = .ok (.aload_n 0, 1) := by decide +kernel
theorem dJ6_equals_1 : decode (mk_c MJ6_equals) 1 = .ok (.arraylength, 1) := by decide +kernel
theorem dJ6_equals_2 : decode (mk_c MJ6_equals) 2 = .ok (.aload_n 1, 1) := by decide +kernel
theorem dJ6_equals_3 : decode (mk_c MJ6_equals) 3 = .ok (.arraylength, 1) := by decide +kernel
theorem dJ6_equals_4 : decode (mk_c MJ6_equals) 4 = .ok (.if_icmp .ne 30, 3) := by decide +kernel
theorem dJ6_equals_7 : decode (mk_c MJ6_equals) 7 = .ok (.iconst 0, 1) := by decide +kernel
theorem dJ6_equals_8 : decode (mk_c MJ6_equals) 8 = .ok (.istore_n 2, 1) := by decide +kernel
theorem dJ6_equals_9 : decode (mk_c MJ6_equals) 9 = .ok (.iload_n 2, 1) := by decide +kernel
theorem dJ6_equals_10 : decode (mk_c MJ6_equals) 10 = .ok (.aload_n 0, 1) := by decide +kernel
theorem dJ6_equals_11 : decode (mk_c MJ6_equals) 11 = .ok (.arraylength, 1) := by decide +kernel
theorem dJ6_equals_12 : decode (mk_c MJ6_equals) 12 = .ok (.if_icmp .ge 20, 3) := by decide +kernel
theorem dJ6_equals_15 : decode (mk_c MJ6_equals) 15 = .ok (.aload_n 0, 1) := by decide +kernel
theorem dJ6_equals_16 : decode (mk_c MJ6_equals) 16 = .ok (.iload_n 2, 1) := by decide +kernel
theorem dJ6_equals_17 : decode (mk_c MJ6_equals) 17 = .ok (.baload, 1) := by decide +kernel
theorem dJ6_equals_18 : decode (mk_c MJ6_equals) 18 = .ok (.aload_n 1, 1) := by decide +kernel
theorem dJ6_equals_19 : decode (mk_c MJ6_equals) 19 = .ok (.iload_n 2, 1) := by decide +kernel
theorem dJ6_equals_20 : decode (mk_c MJ6_equals) 20 = .ok (.baload, 1) := by decide +kernel
theorem dJ6_equals_21 : decode (mk_c MJ6_equals) 21 = .ok (.if_icmp .eq 5, 3) := by decide +kernel
theorem dJ6_equals_24 : decode (mk_c MJ6_equals) 24 = .ok (.iconst 0, 1) := by decide +kernel
theorem dJ6_equals_25 : decode (mk_c MJ6_equals) 25 = .ok (.ireturn, 1) := by decide +kernel
theorem dJ6_equals_26 : decode (mk_c MJ6_equals) 26 = .ok (.iinc 2 1, 3) := by decide +kernel
theorem dJ6_equals_29 : decode (mk_c MJ6_equals) 29 = .ok (.goto (-20), 3) := by decide +kernel
theorem dJ6_equals_32 : decode (mk_c MJ6_equals) 32 = .ok (.iconst 1, 1) := by decide +kernel
theorem dJ6_equals_33 : decode (mk_c MJ6_equals) 33 = .ok (.ireturn, 1) := by decide +kernel
theorem dJ6_equals_34 : decode (mk_c MJ6_equals) 34 = .ok (.iconst 0, 1) := by decide +kernel
theorem dJ6_equals_35 : decode (mk_c MJ6_equals) 35 = .ok (.ireturn, 1) := by decide +kernel
theorem dJ6_charAt_0 : decode (mk_c MJ6_charAt) 0 = .ok (.iload_n 1, 1) := by decide +kernel
theorem dJ6_charAt_1 : decode (mk_c MJ6_charAt) 1 = .ok (.aload_n 0, 1) := by decide +kernel
theorem dJ6_charAt_2 : decode (mk_c MJ6_charAt) 2 = .ok (.arraylength, 1) := by decide +kernel
theorem dJ6_charAt_3 : decode (mk_c MJ6_charAt) 3 = .ok (.invokestatic 9, 3) := by decide +kernel
theorem dJ6_charAt_6 : decode (mk_c MJ6_charAt) 6 = .ok (.aload_n 0, 1) := by decide +kernel
theorem dJ6_charAt_7 : decode (mk_c MJ6_charAt) 7 = .ok (.iload_n 1, 1) := by decide +kernel
theorem dJ6_charAt_8 : decode (mk_c MJ6_charAt) 8 = .ok (.baload, 1) := by decide +kernel
theorem dJ6_charAt_9 : decode (mk_c MJ6_charAt) 9 = .ok (.sipush 255, 3) := by decide +kernel
theorem dJ6_charAt_12 : decode (mk_c MJ6_charAt) 12 = .ok (.iand, 1) := by decide +kernel
theorem dJ6_charAt_13 : decode (mk_c MJ6_charAt) 13 = .ok (.i2c, 1) := by decide +kernel
theorem dJ6_charAt_14 : decode (mk_c MJ6_charAt) 14 = .ok (.ireturn, 1) := by decide +kernel
theorem dJ7_vectorizedHashCode_0 : decode (mk_c MJ7_vectorizedHashCode) 0 = .ok (.iload 4, 2) := by decide +kernel
theorem dJ7_vectorizedHashCode_2 : decode (mk_c MJ7_vectorizedHashCode) 2 = .ok (.tableswitch 127 4 10 #[42, 55, 127, 127, 88, 101, 114], 42) := by decide +kernel
theorem dJ7_vectorizedHashCode_44 : decode (mk_c MJ7_vectorizedHashCode) 44 = .ok (.iload_n 3, 1) := by decide +kernel
theorem dJ7_vectorizedHashCode_45 : decode (mk_c MJ7_vectorizedHashCode) 45 = .ok (.aload_n 0, 1) := by decide +kernel
theorem dJ7_vectorizedHashCode_46 : decode (mk_c MJ7_vectorizedHashCode) 46 = .ok (.checkcast 60, 3) := by decide +kernel
theorem dJ7_vectorizedHashCode_49 : decode (mk_c MJ7_vectorizedHashCode) 49 = .ok (.iload_n 1, 1) := by decide +kernel
theorem dJ7_vectorizedHashCode_50 : decode (mk_c MJ7_vectorizedHashCode) 50 = .ok (.iload_n 2, 1) := by decide +kernel
theorem dJ7_vectorizedHashCode_51 : decode (mk_c MJ7_vectorizedHashCode) 51 = .ok (.invokestatic 62, 3) := by decide +kernel
theorem dJ7_vectorizedHashCode_54 : decode (mk_c MJ7_vectorizedHashCode) 54 = .ok (.goto 103, 3) := by decide +kernel
theorem dJ7_vectorizedHashCode_57 : decode (mk_c MJ7_vectorizedHashCode) 57 = .ok (.aload_n 0, 1) := by decide +kernel
theorem dJ7_vectorizedHashCode_58 : decode (mk_c MJ7_vectorizedHashCode) 58 = .ok (.instanceof 60, 3) := by decide +kernel
theorem dJ7_vectorizedHashCode_61 : decode (mk_c MJ7_vectorizedHashCode) 61 = .ok (.ifCond .eq 16, 3) := by decide +kernel
theorem dJ7_vectorizedHashCode_64 : decode (mk_c MJ7_vectorizedHashCode) 64 = .ok (.iload_n 3, 1) := by decide +kernel
theorem dJ7_vectorizedHashCode_65 : decode (mk_c MJ7_vectorizedHashCode) 65 = .ok (.aload_n 0, 1) := by decide +kernel
theorem dJ7_vectorizedHashCode_66 : decode (mk_c MJ7_vectorizedHashCode) 66 = .ok (.checkcast 60, 3) := by decide +kernel
theorem dJ7_vectorizedHashCode_69 : decode (mk_c MJ7_vectorizedHashCode) 69 = .ok (.iload_n 1, 1) := by decide +kernel
theorem dJ7_vectorizedHashCode_70 : decode (mk_c MJ7_vectorizedHashCode) 70 = .ok (.iload_n 2, 1) := by decide +kernel
theorem dJ7_vectorizedHashCode_71 : decode (mk_c MJ7_vectorizedHashCode) 71 = .ok (.invokestatic 66, 3) := by decide +kernel
theorem dJ7_vectorizedHashCode_74 : decode (mk_c MJ7_vectorizedHashCode) 74 = .ok (.goto 83, 3) := by decide +kernel
theorem dJ7_vectorizedHashCode_77 : decode (mk_c MJ7_vectorizedHashCode) 77 = .ok (.iload_n 3, 1) := by decide +kernel
theorem dJ7_vectorizedHashCode_78 : decode (mk_c MJ7_vectorizedHashCode) 78 = .ok (.aload_n 0, 1) := by decide +kernel
theorem dJ7_vectorizedHashCode_79 : decode (mk_c MJ7_vectorizedHashCode) 79 = .ok (.checkcast 69, 3) := by decide +kernel
theorem dJ7_vectorizedHashCode_82 : decode (mk_c MJ7_vectorizedHashCode) 82 = .ok (.iload_n 1, 1) := by decide +kernel
theorem dJ7_vectorizedHashCode_83 : decode (mk_c MJ7_vectorizedHashCode) 83 = .ok (.iload_n 2, 1) := by decide +kernel
theorem dJ7_vectorizedHashCode_84 : decode (mk_c MJ7_vectorizedHashCode) 84 = .ok (.invokestatic 71, 3) := by decide +kernel
theorem dJ7_vectorizedHashCode_87 : decode (mk_c MJ7_vectorizedHashCode) 87 = .ok (.goto 70, 3) := by decide +kernel
theorem dJ7_vectorizedHashCode_90 : decode (mk_c MJ7_vectorizedHashCode) 90 = .ok (.iload_n 3, 1) := by decide +kernel
theorem dJ7_vectorizedHashCode_91 : decode (mk_c MJ7_vectorizedHashCode) 91 = .ok (.aload_n 0, 1) := by decide +kernel
theorem dJ7_vectorizedHashCode_92 : decode (mk_c MJ7_vectorizedHashCode) 92 = .ok (.checkcast 60, 3) := by decide +kernel
theorem dJ7_vectorizedHashCode_95 : decode (mk_c MJ7_vectorizedHashCode) 95 = .ok (.iload_n 1, 1) := by decide +kernel
theorem dJ7_vectorizedHashCode_96 : decode (mk_c MJ7_vectorizedHashCode) 96 = .ok (.iload_n 2, 1) := by decide +kernel
theorem dJ7_vectorizedHashCode_97 : decode (mk_c MJ7_vectorizedHashCode) 97 = .ok (.invokestatic 75, 3) := by decide +kernel
theorem dJ7_vectorizedHashCode_100 : decode (mk_c MJ7_vectorizedHashCode) 100 = .ok (.goto 57, 3) := by decide +kernel
theorem dJ7_vectorizedHashCode_103 : decode (mk_c MJ7_vectorizedHashCode) 103 = .ok (.iload_n 3, 1) := by decide +kernel
theorem dJ7_vectorizedHashCode_104 : decode (mk_c MJ7_vectorizedHashCode) 104 = .ok (.aload_n 0, 1) := by decide +kernel
theorem dJ7_vectorizedHashCode_105 : decode (mk_c MJ7_vectorizedHashCode) 105 = .ok (.checkcast 77, 3) := by decide +kernel
theorem dJ7_vectorizedHashCode_108 : decode (mk_c MJ7_vectorizedHashCode) 108 = .ok (.iload_n 1, 1) := by decide +kernel
theorem dJ7_vectorizedHashCode_109 : decode (mk_c MJ7_vectorizedHashCode) 109 = .ok (.iload_n 2, 1) := by decide +kernel
theorem dJ7_vectorizedHashCode_110 : decode (mk_c MJ7_vectorizedHashCode) 110 = .ok (.invokestatic 79, 3) := by decide +kernel
theorem dJ7_vectorizedHashCode_113 : decode (mk_c MJ7_vectorizedHashCode) 113 = .ok (.goto 44, 3) := by decide +kernel
theorem dJ7_vectorizedHashCode_116 : decode (mk_c MJ7_vectorizedHashCode) 116 = .ok (.iload_n 3, 1) := by decide +kernel
theorem dJ7_vectorizedHashCode_117 : decode (mk_c MJ7_vectorizedHashCode) 117 = .ok (.aload_n 0, 1) := by decide +kernel
theorem dJ7_vectorizedHashCode_118 : decode (mk_c MJ7_vectorizedHashCode) 118 = .ok (.checkcast 82, 3) := by decide +kernel
theorem dJ7_vectorizedHashCode_121 : decode (mk_c MJ7_vectorizedHashCode) 121 = .ok (.iload_n 1, 1) := by decide +kernel
theorem dJ7_vectorizedHashCode_122 : decode (mk_c MJ7_vectorizedHashCode) 122 = .ok (.iload_n 2, 1) := by decide +kernel
theorem dJ7_vectorizedHashCode_123 : decode (mk_c MJ7_vectorizedHashCode) 123 = .ok (.invokestatic 84, 3) := by decide +kernel
theorem dJ7_vectorizedHashCode_126 : decode (mk_c MJ7_vectorizedHashCode) 126 = .ok (.goto 31, 3) := by decide +kernel
theorem dJ7_vectorizedHashCode_129 : decode (mk_c MJ7_vectorizedHashCode) 129 = .ok (.new 87, 3) := by decide +kernel
theorem dJ7_vectorizedHashCode_132 : decode (mk_c MJ7_vectorizedHashCode) 132 = .ok (.dup, 1) := by decide +kernel
theorem dJ7_vectorizedHashCode_133 : decode (mk_c MJ7_vectorizedHashCode) 133 = .ok (.new 89, 3) := by decide +kernel
theorem dJ7_vectorizedHashCode_136 : decode (mk_c MJ7_vectorizedHashCode) 136 = .ok (.dup, 1) := by decide +kernel
theorem dJ7_vectorizedHashCode_137 : decode (mk_c MJ7_vectorizedHashCode) 137 = .ok (.invokespecial 91, 3) := by decide +kernel
theorem dJ7_vectorizedHashCode_140 : decode (mk_c MJ7_vectorizedHashCode) 140 = .ok (.ldc 92, 2) := by decide +kernel
theorem dJ7_vectorizedHashCode_142 : decode (mk_c MJ7_vectorizedHashCode) 142 = .ok (.invokevirtual 94, 3) := by decide +kernel
theorem dJ7_vectorizedHashCode_145 : decode (mk_c MJ7_vectorizedHashCode) 145 = .ok (.iload 4, 2) := by decide +kernel
theorem dJ7_vectorizedHashCode_147 : decode (mk_c MJ7_vectorizedHashCode) 147 = .ok (.invokevirtual 98, 3) := by decide +kernel
theorem dJ7_vectorizedHashCode_150 : decode (mk_c MJ7_vectorizedHashCode) 150 = .ok (.invokevirtual 101, 3) := by decide +kernel
theorem dJ7_vectorizedHashCode_153 : decode (mk_c MJ7_vectorizedHashCode) 153 = .ok (.invokespecial 105, 3) := by decide +kernel
theorem dJ7_vectorizedHashCode_156 : decode (mk_c MJ7_vectorizedHashCode) 156 = .ok (.athrow, 1) := by decide +kernel
theorem dJ7_vectorizedHashCode_157 : decode (mk_c MJ7_vectorizedHashCode) 157 = .ok (.ireturn, 1) := by decide +kernel
theorem dJ7_signedHashCode_0 : decode (mk_c MJ7_signedHashCode) 0 = .ok (.iload_n 2, 1) := by decide +kernel
theorem dJ7_signedHashCode_1 : decode (mk_c MJ7_signedHashCode) 1 = .ok (.iload_n 3, 1) := by decide +kernel
theorem dJ7_signedHashCode_2 : decode (mk_c MJ7_signedHashCode) 2 = .ok (.iadd, 1) := by decide +kernel
theorem dJ7_signedHashCode_3 : decode (mk_c MJ7_signedHashCode) 3 = .ok (.istore 4, 2) := by decide +kernel
theorem dJ7_signedHashCode_5 : decode (mk_c MJ7_signedHashCode) 5 = .ok (.iload_n 2, 1) := by decide +kernel
theorem dJ7_signedHashCode_6 : decode (mk_c MJ7_signedHashCode) 6 = .ok (.istore 5, 2) := by decide +kernel
theorem dJ7_signedHashCode_8 : decode (mk_c MJ7_signedHashCode) 8 = .ok (.iload 5, 2) := by decide +kernel
theorem dJ7_signedHashCode_10 : decode (mk_c MJ7_signedHashCode) 10 = .ok (.iload 4, 2) := by decide +kernel
theorem dJ7_signedHashCode_12 : decode (mk_c MJ7_signedHashCode) 12 = .ok (.if_icmp .ge 23, 3) := by decide +kernel
theorem dJ7_signedHashCode_15 : decode (mk_c MJ7_signedHashCode) 15 = .ok (.bipush 31, 2) := by decide +kernel
theorem dJ7_signedHashCode_17 : decode (mk_c MJ7_signedHashCode) 17 = .ok (.iload_n 0, 1) := by decide +kernel
theorem dJ7_signedHashCode_18 : decode (mk_c MJ7_signedHashCode) 18 = .ok (.imul, 1) := by decide +kernel
theorem dJ7_signedHashCode_19 : decode (mk_c MJ7_signedHashCode) 19 = .ok (.aload_n 1, 1) := by decide +kernel
theorem dJ7_signedHashCode_20 : decode (mk_c MJ7_signedHashCode) 20 = .ok (.iload 5, 2) := by decide +kernel
theorem dJ7_signedHashCode_22 : decode (mk_c MJ7_signedHashCode) 22 = .ok (.baload, 1) := by decide +kernel
theorem dJ7_signedHashCode_23 : decode (mk_c MJ7_signedHashCode) 23 = .ok (.sipush 255, 3) := by decide +kernel
theorem dJ7_signedHashCode_26 : decode (mk_c MJ7_signedHashCode) 26 = .ok (.iand, 1) := by decide +kernel
theorem dJ7_signedHashCode_27 : decode (mk_c MJ7_signedHashCode) 27 = .ok (.iadd, 1) := by decide +kernel
theorem dJ7_signedHashCode_28 : decode (mk_c MJ7_signedHashCode) 28 = .ok (.istore_n 0, 1) := by decide +kernel
theorem dJ7_signedHashCode_29 : decode (mk_c MJ7_signedHashCode) 29 = .ok (.iinc 5 1, 3) := by decide +kernel
theorem dJ7_signedHashCode_32 : decode (mk_c MJ7_signedHashCode) 32 = .ok (.goto (-24), 3) := by decide +kernel
theorem dJ7_signedHashCode_35 : decode (mk_c MJ7_signedHashCode) 35 = .ok (.iload_n 0, 1) := by decide +kernel
theorem dJ7_signedHashCode_36 : decode (mk_c MJ7_signedHashCode) 36 = .ok (.ireturn, 1) := by decide +kernel
theorem dJ7_utf16hashCode_0 : decode (mk_c MJ7_utf16hashCode) 0 = .ok (.iload_n 2, 1) := by decide +kernel
theorem dJ7_utf16hashCode_1 : decode (mk_c MJ7_utf16hashCode) 1 = .ok (.iload_n 3, 1) := by decide +kernel
theorem dJ7_utf16hashCode_2 : decode (mk_c MJ7_utf16hashCode) 2 = .ok (.iadd, 1) := by decide +kernel
theorem dJ7_utf16hashCode_3 : decode (mk_c MJ7_utf16hashCode) 3 = .ok (.istore 4, 2) := by decide +kernel
theorem dJ7_utf16hashCode_5 : decode (mk_c MJ7_utf16hashCode) 5 = .ok (.iload_n 2, 1) := by decide +kernel
theorem dJ7_utf16hashCode_6 : decode (mk_c MJ7_utf16hashCode) 6 = .ok (.istore 5, 2) := by decide +kernel
theorem dJ7_utf16hashCode_8 : decode (mk_c MJ7_utf16hashCode) 8 = .ok (.iload 5, 2) := by decide +kernel
theorem dJ7_utf16hashCode_10 : decode (mk_c MJ7_utf16hashCode) 10 = .ok (.iload 4, 2) := by decide +kernel
theorem dJ7_utf16hashCode_12 : decode (mk_c MJ7_utf16hashCode) 12 = .ok (.if_icmp .ge 26, 3) := by decide +kernel
theorem dJ7_utf16hashCode_15 : decode (mk_c MJ7_utf16hashCode) 15 = .ok (.bipush 31, 2) := by decide +kernel
theorem dJ7_utf16hashCode_17 : decode (mk_c MJ7_utf16hashCode) 17 = .ok (.iload_n 0, 1) := by decide +kernel
theorem dJ7_utf16hashCode_18 : decode (mk_c MJ7_utf16hashCode) 18 = .ok (.imul, 1) := by decide +kernel
theorem dJ7_utf16hashCode_19 : decode (mk_c MJ7_utf16hashCode) 19 = .ok (.getstatic 106, 3) := by decide +kernel
theorem dJ7_utf16hashCode_22 : decode (mk_c MJ7_utf16hashCode) 22 = .ok (.aload_n 1, 1) := by decide +kernel
theorem dJ7_utf16hashCode_23 : decode (mk_c MJ7_utf16hashCode) 23 = .ok (.iload 5, 2) := by decide +kernel
theorem dJ7_utf16hashCode_25 : decode (mk_c MJ7_utf16hashCode) 25 = .ok (.invokeinterface 110 3, 5) := by decide +kernel
theorem dJ7_utf16hashCode_30 : decode (mk_c MJ7_utf16hashCode) 30 = .ok (.iadd, 1) := by decide +kernel
theorem dJ7_utf16hashCode_31 : decode (mk_c MJ7_utf16hashCode) 31 = .ok (.istore_n 0, 1) := by decide +kernel
theorem dJ7_utf16hashCode_32 : decode (mk_c MJ7_utf16hashCode) 32 = .ok (.iinc 5 1, 3) := by decide +kernel
theorem dJ7_utf16hashCode_35 : decode (mk_c MJ7_utf16hashCode) 35 = .ok (.goto (-27), 3) := by decide +kernel
theorem dJ7_utf16hashCode_38 : decode (mk_c MJ7_utf16hashCode) 38 = .ok (.iload_n 0, 1) := by decide +kernel
theorem dJ7_utf16hashCode_39 : decode (mk_c MJ7_utf16hashCode) 39 = .ok (.ireturn, 1) := by decide +kernel
theorem dJ7_hashCode_0 : decode (mk_c MJ7_hashCode) 0 = .ok (.iload_n 2, 1) := by decide +kernel
theorem dJ7_hashCode_1 : decode (mk_c MJ7_hashCode) 1 = .ok (.iload_n 3, 1) := by decide +kernel
theorem dJ7_hashCode_2 : decode (mk_c MJ7_hashCode) 2 = .ok (.iadd, 1) := by decide +kernel
theorem dJ7_hashCode_3 : decode (mk_c MJ7_hashCode) 3 = .ok (.istore 4, 2) := by decide +kernel
theorem dJ7_hashCode_5 : decode (mk_c MJ7_hashCode) 5 = .ok (.iload_n 2, 1) := by decide +kernel
theorem dJ7_hashCode_6 : decode (mk_c MJ7_hashCode) 6 = .ok (.istore 5, 2) := by decide +kernel
theorem dJ7_hashCode_8 : decode (mk_c MJ7_hashCode) 8 = .ok (.iload 5, 2) := by decide +kernel
theorem dJ7_hashCode_10 : decode (mk_c MJ7_hashCode) 10 = .ok (.iload 4, 2) := by decide +kernel
theorem dJ7_hashCode_12 : decode (mk_c MJ7_hashCode) 12 = .ok (.if_icmp .ge 19, 3) := by decide +kernel
theorem dJ7_hashCode_15 : decode (mk_c MJ7_hashCode) 15 = .ok (.bipush 31, 2) := by decide +kernel
theorem dJ7_hashCode_17 : decode (mk_c MJ7_hashCode) 17 = .ok (.iload_n 0, 1) := by decide +kernel
theorem dJ7_hashCode_18 : decode (mk_c MJ7_hashCode) 18 = .ok (.imul, 1) := by decide +kernel
theorem dJ7_hashCode_19 : decode (mk_c MJ7_hashCode) 19 = .ok (.aload_n 1, 1) := by decide +kernel
theorem dJ7_hashCode_20 : decode (mk_c MJ7_hashCode) 20 = .ok (.iload 5, 2) := by decide +kernel
theorem dJ7_hashCode_22 : decode (mk_c MJ7_hashCode) 22 = .ok (.caload, 1) := by decide +kernel
theorem dJ7_hashCode_23 : decode (mk_c MJ7_hashCode) 23 = .ok (.iadd, 1) := by decide +kernel
theorem dJ7_hashCode_24 : decode (mk_c MJ7_hashCode) 24 = .ok (.istore_n 0, 1) := by decide +kernel
theorem dJ7_hashCode_25 : decode (mk_c MJ7_hashCode) 25 = .ok (.iinc 5 1, 3) := by decide +kernel
theorem dJ7_hashCode_28 : decode (mk_c MJ7_hashCode) 28 = .ok (.goto (-20), 3) := by decide +kernel
theorem dJ7_hashCode_31 : decode (mk_c MJ7_hashCode) 31 = .ok (.iload_n 0, 1) := by decide +kernel
theorem dJ7_hashCode_32 : decode (mk_c MJ7_hashCode) 32 = .ok (.ireturn, 1) := by decide +kernel
theorem dJ7_hashCode_2_0 : decode (mk_c MJ7_hashCode_2) 0 = .ok (.iload_n 2, 1) := by decide +kernel
theorem dJ7_hashCode_2_1 : decode (mk_c MJ7_hashCode_2) 1 = .ok (.iload_n 3, 1) := by decide +kernel
theorem dJ7_hashCode_2_2 : decode (mk_c MJ7_hashCode_2) 2 = .ok (.iadd, 1) := by decide +kernel
theorem dJ7_hashCode_2_3 : decode (mk_c MJ7_hashCode_2) 3 = .ok (.istore 4, 2) := by decide +kernel
theorem dJ7_hashCode_2_5 : decode (mk_c MJ7_hashCode_2) 5 = .ok (.iload_n 2, 1) := by decide +kernel
theorem dJ7_hashCode_2_6 : decode (mk_c MJ7_hashCode_2) 6 = .ok (.istore 5, 2) := by decide +kernel
theorem dJ7_hashCode_2_8 : decode (mk_c MJ7_hashCode_2) 8 = .ok (.iload 5, 2) := by decide +kernel
theorem dJ7_hashCode_2_10 : decode (mk_c MJ7_hashCode_2) 10 = .ok (.iload 4, 2) := by decide +kernel
theorem dJ7_hashCode_2_12 : decode (mk_c MJ7_hashCode_2) 12 = .ok (.if_icmp .ge 19, 3) := by decide +kernel
theorem dJ7_hashCode_2_15 : decode (mk_c MJ7_hashCode_2) 15 = .ok (.bipush 31, 2) := by decide +kernel
theorem dJ7_hashCode_2_17 : decode (mk_c MJ7_hashCode_2) 17 = .ok (.iload_n 0, 1) := by decide +kernel
theorem dJ7_hashCode_2_18 : decode (mk_c MJ7_hashCode_2) 18 = .ok (.imul, 1) := by decide +kernel
theorem dJ7_hashCode_2_19 : decode (mk_c MJ7_hashCode_2) 19 = .ok (.aload_n 1, 1) := by decide +kernel
theorem dJ7_hashCode_2_20 : decode (mk_c MJ7_hashCode_2) 20 = .ok (.iload 5, 2) := by decide +kernel
theorem dJ7_hashCode_2_22 : decode (mk_c MJ7_hashCode_2) 22 = .ok (.baload, 1) := by decide +kernel
theorem dJ7_hashCode_2_23 : decode (mk_c MJ7_hashCode_2) 23 = .ok (.iadd, 1) := by decide +kernel
theorem dJ7_hashCode_2_24 : decode (mk_c MJ7_hashCode_2) 24 = .ok (.istore_n 0, 1) := by decide +kernel
theorem dJ7_hashCode_2_25 : decode (mk_c MJ7_hashCode_2) 25 = .ok (.iinc 5 1, 3) := by decide +kernel
theorem dJ7_hashCode_2_28 : decode (mk_c MJ7_hashCode_2) 28 = .ok (.goto (-20), 3) := by decide +kernel
theorem dJ7_hashCode_2_31 : decode (mk_c MJ7_hashCode_2) 31 = .ok (.iload_n 0, 1) := by decide +kernel
theorem dJ7_hashCode_2_32 : decode (mk_c MJ7_hashCode_2) 32 = .ok (.ireturn, 1) := by decide +kernel
theorem dJ7_hashCode_3_0 : decode (mk_c MJ7_hashCode_3) 0 = .ok (.iload_n 2, 1) := by decide +kernel
theorem dJ7_hashCode_3_1 : decode (mk_c MJ7_hashCode_3) 1 = .ok (.iload_n 3, 1) := by decide +kernel
theorem dJ7_hashCode_3_2 : decode (mk_c MJ7_hashCode_3) 2 = .ok (.iadd, 1) := by decide +kernel
theorem dJ7_hashCode_3_3 : decode (mk_c MJ7_hashCode_3) 3 = .ok (.istore 4, 2) := by decide +kernel
theorem dJ7_hashCode_3_5 : decode (mk_c MJ7_hashCode_3) 5 = .ok (.iload_n 2, 1) := by decide +kernel
theorem dJ7_hashCode_3_6 : decode (mk_c MJ7_hashCode_3) 6 = .ok (.istore 5, 2) := by decide +kernel
theorem dJ7_hashCode_3_8 : decode (mk_c MJ7_hashCode_3) 8 = .ok (.iload 5, 2) := by decide +kernel
theorem dJ7_hashCode_3_10 : decode (mk_c MJ7_hashCode_3) 10 = .ok (.iload 4, 2) := by decide +kernel
theorem dJ7_hashCode_3_12 : decode (mk_c MJ7_hashCode_3) 12 = .ok (.if_icmp .ge 19, 3) := by decide +kernel
theorem dJ7_hashCode_3_15 : decode (mk_c MJ7_hashCode_3) 15 = .ok (.bipush 31, 2) := by decide +kernel
theorem dJ7_hashCode_3_17 : decode (mk_c MJ7_hashCode_3) 17 = .ok (.iload_n 0, 1) := by decide +kernel
theorem dJ7_hashCode_3_18 : decode (mk_c MJ7_hashCode_3) 18 = .ok (.imul, 1) := by decide +kernel
theorem dJ7_hashCode_3_19 : decode (mk_c MJ7_hashCode_3) 19 = .ok (.aload_n 1, 1) := by decide +kernel
theorem dJ7_hashCode_3_20 : decode (mk_c MJ7_hashCode_3) 20 = .ok (.iload 5, 2) := by decide +kernel
theorem dJ7_hashCode_3_22 : decode (mk_c MJ7_hashCode_3) 22 = .ok (.saload, 1) := by decide +kernel
theorem dJ7_hashCode_3_23 : decode (mk_c MJ7_hashCode_3) 23 = .ok (.iadd, 1) := by decide +kernel
theorem dJ7_hashCode_3_24 : decode (mk_c MJ7_hashCode_3) 24 = .ok (.istore_n 0, 1) := by decide +kernel
theorem dJ7_hashCode_3_25 : decode (mk_c MJ7_hashCode_3) 25 = .ok (.iinc 5 1, 3) := by decide +kernel
theorem dJ7_hashCode_3_28 : decode (mk_c MJ7_hashCode_3) 28 = .ok (.goto (-20), 3) := by decide +kernel
theorem dJ7_hashCode_3_31 : decode (mk_c MJ7_hashCode_3) 31 = .ok (.iload_n 0, 1) := by decide +kernel
theorem dJ7_hashCode_3_32 : decode (mk_c MJ7_hashCode_3) 32 = .ok (.ireturn, 1) := by decide +kernel
theorem dJ7_hashCode_4_0 : decode (mk_c MJ7_hashCode_4) 0 = .ok (.iload_n 2, 1) := by decide +kernel
theorem dJ7_hashCode_4_1 : decode (mk_c MJ7_hashCode_4) 1 = .ok (.iload_n 3, 1) := by decide +kernel
theorem dJ7_hashCode_4_2 : decode (mk_c MJ7_hashCode_4) 2 = .ok (.iadd, 1) := by decide +kernel
theorem dJ7_hashCode_4_3 : decode (mk_c MJ7_hashCode_4) 3 = .ok (.istore 4, 2) := by decide +kernel
theorem dJ7_hashCode_4_5 : decode (mk_c MJ7_hashCode_4) 5 = .ok (.iload_n 2, 1) := by decide +kernel
theorem dJ7_hashCode_4_6 : decode (mk_c MJ7_hashCode_4) 6 = .ok (.istore 5, 2) := by decide +kernel
theorem dJ7_hashCode_4_8 : decode (mk_c MJ7_hashCode_4) 8 = .ok (.iload 5, 2) := by decide +kernel
theorem dJ7_hashCode_4_10 : decode (mk_c MJ7_hashCode_4) 10 = .ok (.iload 4, 2) := by decide +kernel
theorem dJ7_hashCode_4_12 : decode (mk_c MJ7_hashCode_4) 12 = .ok (.if_icmp .ge 19, 3) := by decide +kernel
theorem dJ7_hashCode_4_15 : decode (mk_c MJ7_hashCode_4) 15 = .ok (.bipush 31, 2) := by decide +kernel
theorem dJ7_hashCode_4_17 : decode (mk_c MJ7_hashCode_4) 17 = .ok (.iload_n 0, 1) := by decide +kernel
theorem dJ7_hashCode_4_18 : decode (mk_c MJ7_hashCode_4) 18 = .ok (.imul, 1) := by decide +kernel
theorem dJ7_hashCode_4_19 : decode (mk_c MJ7_hashCode_4) 19 = .ok (.aload_n 1, 1) := by decide +kernel
theorem dJ7_hashCode_4_20 : decode (mk_c MJ7_hashCode_4) 20 = .ok (.iload 5, 2) := by decide +kernel
theorem dJ7_hashCode_4_22 : decode (mk_c MJ7_hashCode_4) 22 = .ok (.iaload, 1) := by decide +kernel
theorem dJ7_hashCode_4_23 : decode (mk_c MJ7_hashCode_4) 23 = .ok (.iadd, 1) := by decide +kernel
theorem dJ7_hashCode_4_24 : decode (mk_c MJ7_hashCode_4) 24 = .ok (.istore_n 0, 1) := by decide +kernel
theorem dJ7_hashCode_4_25 : decode (mk_c MJ7_hashCode_4) 25 = .ok (.iinc 5 1, 3) := by decide +kernel
theorem dJ7_hashCode_4_28 : decode (mk_c MJ7_hashCode_4) 28 = .ok (.goto (-20), 3) := by decide +kernel
theorem dJ7_hashCode_4_31 : decode (mk_c MJ7_hashCode_4) 31 = .ok (.iload_n 0, 1) := by decide +kernel
theorem dJ7_hashCode_4_32 : decode (mk_c MJ7_hashCode_4) 32 = .ok (.ireturn, 1) := by decide +kernel
theorem dJ8_init_0 : decode (mk_c MJ8_init) 0 = .ok (.aload_n 0, 1) := by decide +kernel
theorem dJ8_init_1 : decode (mk_c MJ8_init) 1 = .ok (.invokespecial 1, 3) := by decide +kernel
theorem dJ8_init_4 : decode (mk_c MJ8_init) 4 = .ok (.return_, 1) := by decide +kernel
