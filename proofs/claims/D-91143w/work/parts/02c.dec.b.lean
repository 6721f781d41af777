set_option maxRecDepth 100000
theorem d1_init_0 : decode (mk_c M1_init) 0 = .ok (.aload_n 0, 1) := by decide +kernel
theorem d1_init_1 : decode (mk_c M1_init) 1 = .ok (.invokespecial 3, 3) := by decide +kernel
theorem d1_init_4 : decode (mk_c M1_init) 4 = .ok (.aload_n 0, 1) := by decide +kernel
theorem d1_init_5 : decode (mk_c M1_init) 5 = .ok (.sipush 300, 3) := by decide +kernel
theorem d1_init_8 : decode (mk_c M1_init) 8 = .ok (.newarray .byte, 2) := by decide +kernel
theorem d1_init_10 : decode (mk_c M1_init) 10 = .ok (.putfield 9, 3) := by decide +kernel
theorem d1_init_13 : decode (mk_c M1_init) 13 = .ok (.aload_n 0, 1) := by decide +kernel
theorem d1_init_14 : decode (mk_c M1_init) 14 = .ok (.new 13, 3) := by decide +kernel
theorem d1_init_17 : decode (mk_c M1_init) 17 = .ok (.dup, 1) := by decide +kernel
theorem d1_init_18 : decode (mk_c M1_init) 18 = .ok (.aload_n 0, 1) := by decide +kernel
theorem d1_init_19 : decode (mk_c M1_init) 19 = .ok (.getfield 9, 3) := by decide +kernel
theorem d1_init_22 : decode (mk_c M1_init) 22 = .ok (.invokespecial 15, 3) := by decide +kernel
theorem d1_init_25 : decode (mk_c M1_init) 25 = .ok (.putfield 18, 3) := by decide +kernel
theorem d1_init_28 : decode (mk_c M1_init) 28 = .ok (.aload_n 0, 1) := by decide +kernel
theorem d1_init_29 : decode (mk_c M1_init) 29 = .ok (.bipush 10, 2) := by decide +kernel
theorem d1_init_31 : decode (mk_c M1_init) 31 = .ok (.anewarray 22, 3) := by decide +kernel
theorem d1_init_34 : decode (mk_c M1_init) 34 = .ok (.putfield 24, 3) := by decide +kernel
theorem d1_init_37 : decode (mk_c M1_init) 37 = .ok (.aload_n 0, 1) := by decide +kernel
theorem d1_init_38 : decode (mk_c M1_init) 38 = .ok (.bipush 16, 2) := by decide +kernel
theorem d1_init_40 : decode (mk_c M1_init) 40 = .ok (.newarray .int, 2) := by decide +kernel
theorem d1_init_42 : decode (mk_c M1_init) 42 = .ok (.putfield 28, 3) := by decide +kernel
theorem d1_init_45 : decode (mk_c M1_init) 45 = .ok (.aload_n 0, 1) := by decide +kernel
theorem d1_init_46 : decode (mk_c M1_init) 46 = .ok (.new 32, 3) := by decide +kernel
theorem d1_init_49 : decode (mk_c M1_init) 49 = .ok (.dup, 1) := by decide +kernel
theorem d1_init_50 : decode (mk_c M1_init) 50 = .ok (.aload_n 0, 1) := by decide +kernel
theorem d1_init_51 : decode (mk_c M1_init) 51 = .ok (.getfield 24, 3) := by decide +kernel
theorem d1_init_54 : decode (mk_c M1_init) 54 = .ok (.invokespecial 34, 3) := by decide +kernel
theorem d1_init_57 : decode (mk_c M1_init) 57 = .ok (.putfield 37, 3) := by decide +kernel
theorem d1_init_60 : decode (mk_c M1_init) 60 = .ok (.aload_n 0, 1) := by decide +kernel
theorem d1_init_61 : decode (mk_c M1_init) 61 = .ok (.new 32, 3) := by decide +kernel
theorem d1_init_64 : decode (mk_c M1_init) 64 = .ok (.dup, 1) := by decide +kernel
theorem d1_init_65 : decode (mk_c M1_init) 65 = .ok (.aload_n 0, 1) := by decide +kernel
theorem d1_init_66 : decode (mk_c M1_init) 66 = .ok (.getfield 24, 3) := by decide +kernel
theorem d1_init_69 : decode (mk_c M1_init) 69 = .ok (.invokespecial 34, 3) := by decide +kernel
theorem d1_init_72 : decode (mk_c M1_init) 72 = .ok (.putfield 41, 3) := by decide +kernel
theorem d1_init_75 : decode (mk_c M1_init) 75 = .ok (.aload_n 0, 1) := by decide +kernel
theorem d1_init_76 : decode (mk_c M1_init) 76 = .ok (.new 44, 3) := by decide +kernel
theorem d1_init_79 : decode (mk_c M1_init) 79 = .ok (.dup, 1) := by decide +kernel
theorem d1_init_80 : decode (mk_c M1_init) 80 = .ok (.invokespecial 46, 3) := by decide +kernel
theorem d1_init_83 : decode (mk_c M1_init) 83 = .ok (.putfield 47, 3) := by decide +kernel
theorem d1_init_86 : decode (mk_c M1_init) 86 = .ok (.aload_n 0, 1) := by decide +kernel
theorem d1_init_87 : decode (mk_c M1_init) 87 = .ok (.iconst (-1), 1) := by decide +kernel
theorem d1_init_88 : decode (mk_c M1_init) 88 = .ok (.putfield 51, 3) := by decide +kernel
theorem d1_init_91 : decode (mk_c M1_init) 91 = .ok (.aload_n 0, 1) := by decide +kernel
theorem d1_init_92 : decode (mk_c M1_init) 92 = .ok (.bipush 90, 2) := by decide +kernel
theorem d1_init_94 : decode (mk_c M1_init) 94 = .ok (.newarray .int, 2) := by decide +kernel
theorem d1_init_96 : decode (mk_c M1_init) 96 = .ok (.putfield 55, 3) := by decide +kernel
theorem d1_init_99 : decode (mk_c M1_init) 99 = .ok (.aload_n 0, 1) := by decide +kernel
theorem d1_init_100 : decode (mk_c M1_init) 100 = .ok (.bipush 92, 2) := by decide +kernel
theorem d1_init_102 : decode (mk_c M1_init) 102 = .ok (.newarray .int, 2) := by decide +kernel
theorem d1_init_104 : decode (mk_c M1_init) 104 = .ok (.putfield 58, 3) := by decide +kernel
theorem d1_init_107 : decode (mk_c M1_init) 107 = .ok (.aload_n 0, 1) := by decide +kernel
theorem d1_init_108 : decode (mk_c M1_init) 108 = .ok (.bipush 10, 2) := by decide +kernel
theorem d1_init_110 : decode (mk_c M1_init) 110 = .ok (.newarray .int, 2) := by decide +kernel
theorem d1_init_112 : decode (mk_c M1_init) 112 = .ok (.putfield 61, 3) := by decide +kernel
theorem d1_init_115 : decode (mk_c M1_init) 115 = .ok (.aload_n 0, 1) := by decide +kernel
theorem d1_init_116 : decode (mk_c M1_init) 116 = .ok (.bipush 10, 2) := by decide +kernel
theorem d1_init_118 : decode (mk_c M1_init) 118 = .ok (.newarray .int, 2) := by decide +kernel
theorem d1_init_120 : decode (mk_c M1_init) 120 = .ok (.putfield 64, 3) := by decide +kernel
theorem d1_init_123 : decode (mk_c M1_init) 123 = .ok (.aload_n 0, 1) := by decide +kernel
theorem d1_init_124 : decode (mk_c M1_init) 124 = .ok (.bipush 10, 2) := by decide +kernel
theorem d1_init_126 : decode (mk_c M1_init) 126 = .ok (.newarray .int, 2) := by decide +kernel
theorem d1_init_128 : decode (mk_c M1_init) 128 = .ok (.putfield 67, 3) := by decide +kernel
theorem d1_init_131 : decode (mk_c M1_init) 131 = .ok (.return_, 1) := by decide +kernel
theorem d1_part_0 : decode (mk_c M1_part) 0 = .ok (.aload_n 0, 1) := by decide +kernel
theorem d1_part_1 : decode (mk_c M1_part) 1 = .ok (.invokevirtual 91, 3) := by decide +kernel
theorem d1_part_4 : decode (mk_c M1_part) 4 = .ok (.iload_n 1, 1) := by decide +kernel
theorem d1_part_5 : decode (mk_c M1_part) 5 = .ok (.iconst 0, 1) := by decide +kernel
theorem d1_part_6 : decode (mk_c M1_part) 6 = .ok (.ldc 94, 2) := by decide +kernel
theorem d1_part_8 : decode (mk_c M1_part) 8 = .ok (.invokestatic 76, 3) := by decide +kernel
theorem d1_part_11 : decode (mk_c M1_part) 11 = .ok (.ifCond .ne 9, 3) := by decide +kernel
theorem d1_part_14 : decode (mk_c M1_part) 14 = .ok (.aload_n 0, 1) := by decide +kernel
theorem d1_part_15 : decode (mk_c M1_part) 15 = .ok (.iconst 2, 1) := by decide +kernel
theorem d1_part_16 : decode (mk_c M1_part) 16 = .ok (.invokevirtual 95, 3) := by decide +kernel
theorem d1_part_19 : decode (mk_c M1_part) 19 = .ok (.ireturn, 1) := by decide +kernel
theorem d1_part_20 : decode (mk_c M1_part) 20 = .ok (.aload_n 0, 1) := by decide +kernel
theorem d1_part_21 : decode (mk_c M1_part) 21 = .ok (.getfield 73, 3) := by decide +kernel
theorem d1_part_24 : decode (mk_c M1_part) 24 = .ok (.bipush 10, 2) := by decide +kernel
theorem d1_part_26 : decode (mk_c M1_part) 26 = .ok (.if_icmp .ne 9, 3) := by decide +kernel
theorem d1_part_29 : decode (mk_c M1_part) 29 = .ok (.aload_n 0, 1) := by decide +kernel
theorem d1_part_30 : decode (mk_c M1_part) 30 = .ok (.iconst 3, 1) := by decide +kernel
theorem d1_part_31 : decode (mk_c M1_part) 31 = .ok (.invokevirtual 95, 3) := by decide +kernel
theorem d1_part_34 : decode (mk_c M1_part) 34 = .ok (.ireturn, 1) := by decide +kernel
theorem d1_part_35 : decode (mk_c M1_part) 35 = .ok (.aload_n 0, 1) := by decide +kernel
theorem d1_part_36 : decode (mk_c M1_part) 36 = .ok (.getfield 24, 3) := by decide +kernel
theorem d1_part_39 : decode (mk_c M1_part) 39 = .ok (.aload_n 0, 1) := by decide +kernel
theorem d1_part_40 : decode (mk_c M1_part) 40 = .ok (.getfield 73, 3) := by decide +kernel
theorem d1_part_43 : decode (mk_c M1_part) 43 = .ok (.new 22, 3) := by decide +kernel
theorem d1_part_46 : decode (mk_c M1_part) 46 = .ok (.dup, 1) := by decide +kernel
theorem d1_part_47 : decode (mk_c M1_part) 47 = .ok (.invokespecial 99, 3) := by decide +kernel
theorem d1_part_50 : decode (mk_c M1_part) 50 = .ok (.aastore, 1) := by decide +kernel
theorem d1_part_51 : decode (mk_c M1_part) 51 = .ok (.aload_n 0, 1) := by decide +kernel
theorem d1_part_52 : decode (mk_c M1_part) 52 = .ok (.getfield 24, 3) := by decide +kernel
theorem d1_part_55 : decode (mk_c M1_part) 55 = .ok (.aload_n 0, 1) := by decide +kernel
theorem d1_part_56 : decode (mk_c M1_part) 56 = .ok (.getfield 73, 3) := by decide +kernel
theorem d1_part_59 : decode (mk_c M1_part) 59 = .ok (.aaload, 1) := by decide +kernel
theorem d1_part_60 : decode (mk_c M1_part) 60 = .ok (.iload_n 1, 1) := by decide +kernel
theorem d1_part_61 : decode (mk_c M1_part) 61 = .ok (.putfield 100, 3) := by decide +kernel
theorem d1_part_64 : decode (mk_c M1_part) 64 = .ok (.aload_n 0, 1) := by decide +kernel
theorem d1_part_65 : decode (mk_c M1_part) 65 = .ok (.dup, 1) := by decide +kernel
theorem d1_part_66 : decode (mk_c M1_part) 66 = .ok (.getfield 73, 3) := by decide +kernel
theorem d1_part_69 : decode (mk_c M1_part) 69 = .ok (.iconst 1, 1) := by decide +kernel
theorem d1_part_70 : decode (mk_c M1_part) 70 = .ok (.iadd, 1) := by decide +kernel
theorem d1_part_71 : decode (mk_c M1_part) 71 = .ok (.putfield 73, 3) := by decide +kernel
theorem d1_part_74 : decode (mk_c M1_part) 74 = .ok (.aload_n 0, 1) := by decide +kernel
theorem d1_part_75 : decode (mk_c M1_part) 75 = .ok (.iconst 0, 1) := by decide +kernel
theorem d1_part_76 : decode (mk_c M1_part) 76 = .ok (.putfield 80, 3) := by decide +kernel
theorem d1_part_79 : decode (mk_c M1_part) 79 = .ok (.aload_n 0, 1) := by decide +kernel
theorem d1_part_80 : decode (mk_c M1_part) 80 = .ok (.getfield 73, 3) := by decide +kernel
theorem d1_part_83 : decode (mk_c M1_part) 83 = .ok (.iconst 1, 1) := by decide +kernel
theorem d1_part_84 : decode (mk_c M1_part) 84 = .ok (.isub, 1) := by decide +kernel
theorem d1_part_85 : decode (mk_c M1_part) 85 = .ok (.ireturn, 1) := by decide +kernel
theorem d1_begins_0 : decode (mk_c M1_begins) 0 = .ok (.aload_n 0, 1) := by decide +kernel
theorem d1_begins_1 : decode (mk_c M1_begins) 1 = .ok (.iconst 0, 1) := by decide +kernel
theorem d1_begins_2 : decode (mk_c M1_begins) 2 = .ok (.putfield 70, 3) := by decide +kernel
theorem d1_begins_5 : decode (mk_c M1_begins) 5 = .ok (.aload_n 0, 1) := by decide +kernel
theorem d1_begins_6 : decode (mk_c M1_begins) 6 = .ok (.iconst (-1), 1) := by decide +kernel
theorem d1_begins_7 : decode (mk_c M1_begins) 7 = .ok (.putfield 51, 3) := by decide +kernel
theorem d1_begins_10 : decode (mk_c M1_begins) 10 = .ok (.return_, 1) := by decide +kernel
theorem d1_in_0 : decode (mk_c M1_in) 0 = .ok (.iload_n 0, 1) := by decide +kernel
theorem d1_in_1 : decode (mk_c M1_in) 1 = .ok (.iload_n 1, 1) := by decide +kernel
theorem d1_in_2 : decode (mk_c M1_in) 2 = .ok (.if_icmp .lt 12, 3) := by decide +kernel
theorem d1_in_5 : decode (mk_c M1_in) 5 = .ok (.iload_n 0, 1) := by decide +kernel
theorem d1_in_6 : decode (mk_c M1_in) 6 = .ok (.iload_n 2, 1) := by decide +kernel
theorem d1_in_7 : decode (mk_c M1_in) 7 = .ok (.if_icmp .gt 7, 3) := by decide +kernel
theorem d1_in_10 : decode (mk_c M1_in) 10 = .ok (.iconst 1, 1) := by decide +kernel
theorem d1_in_11 : decode (mk_c M1_in) 11 = .ok (.goto 4, 3) := by decide +kernel
theorem d1_in_14 : decode (mk_c M1_in) 14 = .ok (.iconst 0, 1) := by decide +kernel
theorem d1_in_15 : decode (mk_c M1_in) 15 = .ok (.ireturn, 1) := by decide +kernel
theorem d1_no_0 : decode (mk_c M1_no) 0 = .ok (.aload_n 0, 1) := by decide +kernel
theorem d1_no_1 : decode (mk_c M1_no) 1 = .ok (.iload_n 1, 1) := by decide +kernel
theorem d1_no_2 : decode (mk_c M1_no) 2 = .ok (.putfield 70, 3) := by decide +kernel
theorem d1_no_5 : decode (mk_c M1_no) 5 = .ok (.iconst (-1), 1) := by decide +kernel
theorem d1_no_6 : decode (mk_c M1_no) 6 = .ok (.ireturn, 1) := by decide +kernel
theorem d1_grant_0 : decode (mk_c M1_grant) 0 = .ok (.aload_n 0, 1) := by decide +kernel
theorem d1_grant_1 : decode (mk_c M1_grant) 1 = .ok (.invokevirtual 91, 3) := by decide +kernel
theorem d1_grant_4 : decode (mk_c M1_grant) 4 = .ok (.aload_n 0, 1) := by decide +kernel
theorem d1_grant_5 : decode (mk_c M1_grant) 5 = .ok (.aload_n 0, 1) := by decide +kernel
theorem d1_grant_6 : decode (mk_c M1_grant) 6 = .ok (.iload_n 1, 1) := by decide +kernel
theorem d1_grant_7 : decode (mk_c M1_grant) 7 = .ok (.invokevirtual 103, 3) := by decide +kernel
theorem d1_grant_10 : decode (mk_c M1_grant) 10 = .ok (.ifCond .ne 7, 3) := by decide +kernel
theorem d1_grant_13 : decode (mk_c M1_grant) 13 = .ok (.iconst 1, 1) := by decide +kernel
theorem d1_grant_14 : decode (mk_c M1_grant) 14 = .ok (.goto 18, 3) := by decide +kernel
theorem d1_grant_17 : decode (mk_c M1_grant) 17 = .ok (.iload_n 2, 1) := by decide +kernel
theorem d1_grant_18 : decode (mk_c M1_grant) 18 = .ok (.iconst 0, 1) := by decide +kernel
theorem d1_grant_19 : decode (mk_c M1_grant) 19 = .ok (.ldc 94, 2) := by decide +kernel
theorem d1_grant_21 : decode (mk_c M1_grant) 21 = .ok (.invokestatic 76, 3) := by decide +kernel
theorem d1_grant_24 : decode (mk_c M1_grant) 24 = .ok (.ifCond .eq 7, 3) := by decide +kernel
theorem d1_grant_27 : decode (mk_c M1_grant) 27 = .ok (.iconst 0, 1) := by decide +kernel
theorem d1_grant_28 : decode (mk_c M1_grant) 28 = .ok (.goto 4, 3) := by decide +kernel
theorem d1_grant_31 : decode (mk_c M1_grant) 31 = .ok (.iconst 2, 1) := by decide +kernel
theorem d1_grant_32 : decode (mk_c M1_grant) 32 = .ok (.putfield 70, 3) := by decide +kernel
theorem d1_grant_35 : decode (mk_c M1_grant) 35 = .ok (.aload_n 0, 1) := by decide +kernel
theorem d1_grant_36 : decode (mk_c M1_grant) 36 = .ok (.getfield 70, 3) := by decide +kernel
theorem d1_grant_39 : decode (mk_c M1_grant) 39 = .ok (.ifCond .eq 5, 3) := by decide +kernel
theorem d1_grant_42 : decode (mk_c M1_grant) 42 = .ok (.iconst 0, 1) := by decide +kernel
theorem d1_grant_43 : decode (mk_c M1_grant) 43 = .ok (.ireturn, 1) := by decide +kernel
theorem d1_grant_44 : decode (mk_c M1_grant) 44 = .ok (.aload_n 0, 1) := by decide +kernel
theorem d1_grant_45 : decode (mk_c M1_grant) 45 = .ok (.getfield 24, 3) := by decide +kernel
theorem d1_grant_48 : decode (mk_c M1_grant) 48 = .ok (.iload_n 1, 1) := by decide +kernel
theorem d1_grant_49 : decode (mk_c M1_grant) 49 = .ok (.aaload, 1) := by decide +kernel
theorem d1_grant_50 : decode (mk_c M1_grant) 50 = .ok (.iload_n 2, 1) := by decide +kernel
theorem d1_grant_51 : decode (mk_c M1_grant) 51 = .ok (.putfield 100, 3) := by decide +kernel
theorem d1_grant_54 : decode (mk_c M1_grant) 54 = .ok (.aload_n 0, 1) := by decide +kernel
theorem d1_grant_55 : decode (mk_c M1_grant) 55 = .ok (.iconst 0, 1) := by decide +kernel
theorem d1_grant_56 : decode (mk_c M1_grant) 56 = .ok (.putfield 80, 3) := by decide +kernel
theorem d1_grant_59 : decode (mk_c M1_grant) 59 = .ok (.iconst 1, 1) := by decide +kernel
theorem d1_grant_60 : decode (mk_c M1_grant) 60 = .ok (.ireturn, 1) := by decide +kernel
theorem d1_isPart_0 : decode (mk_c M1_isPart) 0 = .ok (.iload_n 1, 1) := by decide +kernel
theorem d1_isPart_1 : decode (mk_c M1_isPart) 1 = .ok (.iconst 0, 1) := by decide +kernel
theorem d1_isPart_2 : decode (mk_c M1_isPart) 2 = .ok (.aload_n 0, 1) := by decide +kernel
theorem d1_isPart_3 : decode (mk_c M1_isPart) 3 = .ok (.getfield 73, 3) := by decide +kernel
theorem d1_isPart_6 : decode (mk_c M1_isPart) 6 = .ok (.iconst 1, 1) := by decide +kernel
theorem d1_isPart_7 : decode (mk_c M1_isPart) 7 = .ok (.isub, 1) := by decide +kernel
theorem d1_isPart_8 : decode (mk_c M1_isPart) 8 = .ok (.invokestatic 76, 3) := by decide +kernel
theorem d1_isPart_11 : decode (mk_c M1_isPart) 11 = .ok (.ireturn, 1) := by decide +kernel
theorem d1_feed_0 : decode (mk_c M1_feed) 0 = .ok (.aload_n 0, 1) := by decide +kernel
theorem d1_feed_1 : decode (mk_c M1_feed) 1 = .ok (.getfield 107, 3) := by decide +kernel
theorem d1_feed_4 : decode (mk_c M1_feed) 4 = .ok (.bipush 20, 2) := by decide +kernel
theorem d1_feed_6 : decode (mk_c M1_feed) 6 = .ok (.iadd, 1) := by decide +kernel
theorem d1_feed_7 : decode (mk_c M1_feed) 7 = .ok (.sipush 300, 3) := by decide +kernel
theorem d1_feed_10 : decode (mk_c M1_feed) 10 = .ok (.if_icmp .le 5, 3) := by decide +kernel
theorem d1_feed_13 : decode (mk_c M1_feed) 13 = .ok (.iconst (-1), 1) := by decide +kernel
theorem d1_feed_14 : decode (mk_c M1_feed) 14 = .ok (.ireturn, 1) := by decide +kernel
theorem d1_feed_15 : decode (mk_c M1_feed) 15 = .ok (.aload_n 0, 1) := by decide +kernel
theorem d1_feed_16 : decode (mk_c M1_feed) 16 = .ok (.iload_n 1, 1) := by decide +kernel
theorem d1_feed_17 : decode (mk_c M1_feed) 17 = .ok (.invokevirtual 110, 3) := by decide +kernel
theorem d1_feed_20 : decode (mk_c M1_feed) 20 = .ok (.aload_n 0, 1) := by decide +kernel
theorem d1_feed_21 : decode (mk_c M1_feed) 21 = .ok (.iload_n 2, 1) := by decide +kernel
theorem d1_feed_22 : decode (mk_c M1_feed) 22 = .ok (.invokevirtual 110, 3) := by decide +kernel
theorem d1_feed_25 : decode (mk_c M1_feed) 25 = .ok (.aload_n 0, 1) := by decide +kernel
theorem d1_feed_26 : decode (mk_c M1_feed) 26 = .ok (.iload_n 3, 1) := by decide +kernel
theorem d1_feed_27 : decode (mk_c M1_feed) 27 = .ok (.invokevirtual 110, 3) := by decide +kernel
theorem d1_feed_30 : decode (mk_c M1_feed) 30 = .ok (.aload_n 0, 1) := by decide +kernel
theorem d1_feed_31 : decode (mk_c M1_feed) 31 = .ok (.iload 4, 2) := by decide +kernel
theorem d1_feed_33 : decode (mk_c M1_feed) 33 = .ok (.invokevirtual 110, 3) := by decide +kernel
theorem d1_feed_36 : decode (mk_c M1_feed) 36 = .ok (.aload_n 0, 1) := by decide +kernel
theorem d1_feed_37 : decode (mk_c M1_feed) 37 = .ok (.iload 5, 2) := by decide +kernel
theorem d1_feed_39 : decode (mk_c M1_feed) 39 = .ok (.invokevirtual 110, 3) := by decide +kernel
theorem d1_feed_42 : decode (mk_c M1_feed) 42 = .ok (.aload_n 0, 1) := by decide +kernel
theorem d1_feed_43 : decode (mk_c M1_feed) 43 = .ok (.getfield 107, 3) := by decide +kernel
theorem d1_feed_46 : decode (mk_c M1_feed) 46 = .ok (.ireturn, 1) := by decide +kernel
theorem d1_bytes_0 : decode (mk_c M1_bytes) 0 = .ok (.bipush 24, 2) := by decide +kernel
theorem d1_bytes_2 : decode (mk_c M1_bytes) 2 = .ok (.istore_n 2, 1) := by decide +kernel
theorem d1_bytes_3 : decode (mk_c M1_bytes) 3 = .ok (.iload_n 2, 1) := by decide +kernel
theorem d1_bytes_4 : decode (mk_c M1_bytes) 4 = .ok (.ifCond .lt 32, 3) := by decide +kernel
theorem d1_bytes_7 : decode (mk_c M1_bytes) 7 = .ok (.aload_n 0, 1) := by decide +kernel
theorem d1_bytes_8 : decode (mk_c M1_bytes) 8 = .ok (.getfield 9, 3) := by decide +kernel
theorem d1_bytes_11 : decode (mk_c M1_bytes) 11 = .ok (.aload_n 0, 1) := by decide +kernel
theorem d1_bytes_12 : decode (mk_c M1_bytes) 12 = .ok (.getfield 107, 3) := by decide +kernel
theorem d1_bytes_15 : decode (mk_c M1_bytes) 15 = .ok (.iload_n 1, 1) := by decide +kernel
theorem d1_bytes_16 : decode (mk_c M1_bytes) 16 = .ok (.iload_n 2, 1) := by decide +kernel
theorem d1_bytes_17 : decode (mk_c M1_bytes) 17 = .ok (.ishr, 1) := by decide +kernel
theorem d1_bytes_18 : decode (mk_c M1_bytes) 18 = .ok (.i2b, 1) := by decide +kernel
theorem d1_bytes_19 : decode (mk_c M1_bytes) 19 = .ok (.bastore, 1) := by decide +kernel
theorem d1_bytes_20 : decode (mk_c M1_bytes) 20 = .ok (.aload_n 0, 1) := by decide +kernel
theorem d1_bytes_21 : decode (mk_c M1_bytes) 21 = .ok (.dup, 1) := by decide +kernel
theorem d1_bytes_22 : decode (mk_c M1_bytes) 22 = .ok (.getfield 107, 3) := by decide +kernel
theorem d1_bytes_25 : decode (mk_c M1_bytes) 25 = .ok (.iconst 1, 1) := by decide +kernel
theorem d1_bytes_26 : decode (mk_c M1_bytes) 26 = .ok (.iadd, 1) := by decide +kernel
theorem d1_bytes_27 : decode (mk_c M1_bytes) 27 = .ok (.putfield 107, 3) := by decide +kernel
theorem d1_bytes_30 : decode (mk_c M1_bytes) 30 = .ok (.iinc 2 (-8), 3) := by decide +kernel
theorem d1_bytes_33 : decode (mk_c M1_bytes) 33 = .ok (.goto (-30), 3) := by decide +kernel
theorem d1_bytes_36 : decode (mk_c M1_bytes) 36 = .ok (.return_, 1) := by decide +kernel
theorem d1_lines_0 : decode (mk_c M1_lines) 0 = .ok (.aload_n 0, 1) := by decide +kernel
theorem d1_lines_1 : decode (mk_c M1_lines) 1 = .ok (.invokevirtual 91, 3) := by decide +kernel
theorem d1_lines_4 : decode (mk_c M1_lines) 4 = .ok (.aload_n 0, 1) := by decide +kernel
theorem d1_lines_5 : decode (mk_c M1_lines) 5 = .ok (.iload_n 1, 1) := by decide +kernel
theorem d1_lines_6 : decode (mk_c M1_lines) 6 = .ok (.invokevirtual 103, 3) := by decide +kernel
theorem d1_lines_9 : decode (mk_c M1_lines) 9 = .ok (.ifCond .ne 9, 3) := by decide +kernel
theorem d1_lines_12 : decode (mk_c M1_lines) 12 = .ok (.aload_n 0, 1) := by decide +kernel
theorem d1_lines_13 : decode (mk_c M1_lines) 13 = .ok (.iconst 1, 1) := by decide +kernel
theorem d1_lines_14 : decode (mk_c M1_lines) 14 = .ok (.invokevirtual 95, 3) := by decide +kernel
theorem d1_lines_17 : decode (mk_c M1_lines) 17 = .ok (.ireturn, 1) := by decide +kernel
theorem d1_lines_18 : decode (mk_c M1_lines) 18 = .ok (.iload_n 2, 1) := by decide +kernel
theorem d1_lines_19 : decode (mk_c M1_lines) 19 = .ok (.iconst 0, 1) := by decide +kernel
theorem d1_lines_20 : decode (mk_c M1_lines) 20 = .ok (.aload_n 0, 1) := by decide +kernel
theorem d1_lines_21 : decode (mk_c M1_lines) 21 = .ok (.getfield 107, 3) := by decide +kernel
theorem d1_lines_24 : decode (mk_c M1_lines) 24 = .ok (.invokestatic 76, 3) := by decide +kernel
theorem d1_lines_27 : decode (mk_c M1_lines) 27 = .ok (.ifCond .ne 9, 3) := by decide +kernel
theorem d1_lines_30 : decode (mk_c M1_lines) 30 = .ok (.aload_n 0, 1) := by decide +kernel
theorem d1_lines_31 : decode (mk_c M1_lines) 31 = .ok (.iconst 2, 1) := by decide +kernel
theorem d1_lines_32 : decode (mk_c M1_lines) 32 = .ok (.invokevirtual 95, 3) := by decide +kernel
theorem d1_lines_35 : decode (mk_c M1_lines) 35 = .ok (.ireturn, 1) := by decide +kernel
theorem d1_lines_36 : decode (mk_c M1_lines) 36 = .ok (.aload_n 0, 1) := by decide +kernel
theorem d1_lines_37 : decode (mk_c M1_lines) 37 = .ok (.iconst 0, 1) := by decide +kernel
theorem d1_lines_38 : decode (mk_c M1_lines) 38 = .ok (.putfield 107, 3) := by decide +kernel
theorem d1_lines_41 : decode (mk_c M1_lines) 41 = .ok (.aload_n 0, 1) := by decide +kernel
theorem d1_lines_42 : decode (mk_c M1_lines) 42 = .ok (.iconst 0, 1) := by decide +kernel
theorem d1_lines_43 : decode (mk_c M1_lines) 43 = .ok (.putfield 113, 3) := by decide +kernel
theorem d1_lines_46 : decode (mk_c M1_lines) 46 = .ok (.bipush 12, 2) := by decide +kernel
theorem d1_lines_48 : decode (mk_c M1_lines) 48 = .ok (.anewarray 116, 3) := by decide +kernel
theorem d1_lines_51 : decode (mk_c M1_lines) 51 = .ok (.astore_n 3, 1) := by decide +kernel
theorem d1_lines_52 : decode (mk_c M1_lines) 52 = .ok (.aload_n 0, 1) := by decide +kernel
theorem d1_lines_53 : decode (mk_c M1_lines) 53 = .ok (.getfield 18, 3) := by decide +kernel
theorem d1_lines_56 : decode (mk_c M1_lines) 56 = .ok (.iload_n 2, 1) := by decide +kernel
theorem d1_lines_57 : decode (mk_c M1_lines) 57 = .ok (.aload_n 0, 1) := by decide +kernel
theorem d1_lines_58 : decode (mk_c M1_lines) 58 = .ok (.getfield 73, 3) := by decide +kernel
theorem d1_lines_61 : decode (mk_c M1_lines) 61 = .ok (.aload_n 3, 1) := by decide +kernel
theorem d1_lines_62 : decode (mk_c M1_lines) 62 = .ok (.invokevirtual 118, 3) := by decide +kernel
theorem d1_lines_65 : decode (mk_c M1_lines) 65 = .ok (.istore 4, 2) := by decide +kernel
theorem d1_lines_67 : decode (mk_c M1_lines) 67 = .ok (.aload_n 0, 1) := by decide +kernel
theorem d1_lines_68 : decode (mk_c M1_lines) 68 = .ok (.getfield 24, 3) := by decide +kernel
theorem d1_lines_71 : decode (mk_c M1_lines) 71 = .ok (.iload_n 1, 1) := by decide +kernel
theorem d1_lines_72 : decode (mk_c M1_lines) 72 = .ok (.aaload, 1) := by decide +kernel
theorem d1_lines_73 : decode (mk_c M1_lines) 73 = .ok (.aload_n 3, 1) := by decide +kernel
theorem d1_lines_74 : decode (mk_c M1_lines) 74 = .ok (.iload 4, 2) := by decide +kernel
theorem d1_lines_76 : decode (mk_c M1_lines) 76 = .ok (.invokevirtual 122, 3) := by decide +kernel
theorem d1_lines_79 : decode (mk_c M1_lines) 79 = .ok (.aload_n 0, 1) := by decide +kernel
theorem d1_lines_80 : decode (mk_c M1_lines) 80 = .ok (.iconst 0, 1) := by decide +kernel
theorem d1_lines_81 : decode (mk_c M1_lines) 81 = .ok (.putfield 80, 3) := by decide +kernel
theorem d1_lines_84 : decode (mk_c M1_lines) 84 = .ok (.iload 4, 2) := by decide +kernel
theorem d1_lines_86 : decode (mk_c M1_lines) 86 = .ok (.ireturn, 1) := by decide +kernel
theorem d1_lines_87 : decode (mk_c M1_lines) 87 = .ok (.astore_n 3, 1) := by decide +kernel
theorem d1_lines_88 : decode (mk_c M1_lines) 88 = .ok (.aload_n 0, 1) := by decide +kernel
theorem d1_lines_89 : decode (mk_c M1_lines) 89 = .ok (.aload_n 3, 1) := by decide +kernel
theorem d1_lines_90 : decode (mk_c M1_lines) 90 = .ok (.getfield 126, 3) := by decide +kernel
theorem d1_lines_93 : decode (mk_c M1_lines) 93 = .ok (.putfield 113, 3) := by decide +kernel
theorem d1_lines_96 : decode (mk_c M1_lines) 96 = .ok (.aload_n 0, 1) := by decide +kernel
theorem d1_lines_97 : decode (mk_c M1_lines) 97 = .ok (.aload_n 3, 1) := by decide +kernel
theorem d1_lines_98 : decode (mk_c M1_lines) 98 = .ok (.getfield 127, 3) := by decide +kernel
theorem d1_lines_101 : decode (mk_c M1_lines) 101 = .ok (.putfield 51, 3) := by decide +kernel
theorem d1_lines_104 : decode (mk_c M1_lines) 104 = .ok (.aload_n 0, 1) := by decide +kernel
theorem d1_lines_105 : decode (mk_c M1_lines) 105 = .ok (.aload_n 3, 1) := by decide +kernel
theorem d1_lines_106 : decode (mk_c M1_lines) 106 = .ok (.getfield 130, 3) := by decide +kernel
theorem d1_lines_109 : decode (mk_c M1_lines) 109 = .ok (.invokevirtual 95, 3) := by decide +kernel
theorem d1_lines_112 : decode (mk_c M1_lines) 112 = .ok (.ireturn, 1) := by decide +kernel
theorem d1_fault_0 : decode (mk_c M1_fault) 0 = .ok (.aload_n 0, 1) := by decide +kernel
theorem d1_fault_1 : decode (mk_c M1_fault) 1 = .ok (.getfield 113, 3) := by decide +kernel
theorem d1_fault_4 : decode (mk_c M1_fault) 4 = .ok (.ireturn, 1) := by decide +kernel
theorem d1_where_0 : decode (mk_c M1_where) 0 = .ok (.aload_n 0, 1) := by decide +kernel
theorem d1_where_1 : decode (mk_c M1_where) 1 = .ok (.getfield 70, 3) := by decide +kernel
theorem d1_where_4 : decode (mk_c M1_where) 4 = .ok (.iconst 4, 1) := by decide +kernel
theorem d1_where_5 : decode (mk_c M1_where) 5 = .ok (.if_icmp .ne 10, 3) := by decide +kernel
theorem d1_where_8 : decode (mk_c M1_where) 8 = .ok (.aload_n 0, 1) := by decide +kernel
theorem d1_where_9 : decode (mk_c M1_where) 9 = .ok (.getfield 51, 3) := by decide +kernel
theorem d1_where_12 : decode (mk_c M1_where) 12 = .ok (.goto 4, 3) := by decide +kernel
theorem d1_where_15 : decode (mk_c M1_where) 15 = .ok (.iconst (-1), 1) := by decide +kernel
theorem d1_where_16 : decode (mk_c M1_where) 16 = .ok (.ireturn, 1) := by decide +kernel
theorem d1_line_0 : decode (mk_c M1_line) 0 = .ok (.aload_n 0, 1) := by decide +kernel
theorem d1_line_1 : decode (mk_c M1_line) 1 = .ok (.iload_n 1, 1) := by decide +kernel
theorem d1_line_2 : decode (mk_c M1_line) 2 = .ok (.invokevirtual 103, 3) := by decide +kernel
theorem d1_line_5 : decode (mk_c M1_line) 5 = .ok (.ifCond .eq 22, 3) := by decide +kernel
theorem d1_line_8 : decode (mk_c M1_line) 8 = .ok (.iload_n 2, 1) := by decide +kernel
theorem d1_line_9 : decode (mk_c M1_line) 9 = .ok (.iconst 0, 1) := by decide +kernel
theorem d1_line_10 : decode (mk_c M1_line) 10 = .ok (.aload_n 0, 1) := by decide +kernel
theorem d1_line_11 : decode (mk_c M1_line) 11 = .ok (.getfield 24, 3) := by decide +kernel
theorem d1_line_14 : decode (mk_c M1_line) 14 = .ok (.iload_n 1, 1) := by decide +kernel
theorem d1_line_15 : decode (mk_c M1_line) 15 = .ok (.aaload, 1) := by decide +kernel
theorem d1_line_16 : decode (mk_c M1_line) 16 = .ok (.getfield 133, 3) := by decide +kernel
theorem d1_line_19 : decode (mk_c M1_line) 19 = .ok (.iconst 1, 1) := by decide +kernel
theorem d1_line_20 : decode (mk_c M1_line) 20 = .ok (.isub, 1) := by decide +kernel
theorem d1_line_21 : decode (mk_c M1_line) 21 = .ok (.invokestatic 76, 3) := by decide +kernel
theorem d1_line_24 : decode (mk_c M1_line) 24 = .ok (.ifCond .ne 5, 3) := by decide +kernel
theorem d1_line_27 : decode (mk_c M1_line) 27 = .ok (.iconst (-1), 1) := by decide +kernel
theorem d1_line_28 : decode (mk_c M1_line) 28 = .ok (.ireturn, 1) := by decide +kernel
theorem d1_line_29 : decode (mk_c M1_line) 29 = .ok (.aload_n 0, 1) := by decide +kernel
theorem d1_line_30 : decode (mk_c M1_line) 30 = .ok (.getfield 24, 3) := by decide +kernel
theorem d1_line_33 : decode (mk_c M1_line) 33 = .ok (.iload_n 1, 1) := by decide +kernel
theorem d1_line_34 : decode (mk_c M1_line) 34 = .ok (.aaload, 1) := by decide +kernel
theorem d1_line_35 : decode (mk_c M1_line) 35 = .ok (.getfield 136, 3) := by decide +kernel
theorem d1_line_38 : decode (mk_c M1_line) 38 = .ok (.iload_n 2, 1) := by decide +kernel
theorem d1_line_39 : decode (mk_c M1_line) 39 = .ok (.aaload, 1) := by decide +kernel
theorem d1_line_40 : decode (mk_c M1_line) 40 = .ok (.astore 4, 2) := by decide +kernel
theorem d1_line_42 : decode (mk_c M1_line) 42 = .ok (.iload_n 3, 1) := by decide +kernel
theorem d1_line_43 : decode (mk_c M1_line) 43 = .ok (.tableswitch 53 0 3 #[29, 35, 41, 47], 29) := by decide +kernel
theorem d1_line_72 : decode (mk_c M1_line) 72 = .ok (.aload 4, 2) := by decide +kernel
theorem d1_line_74 : decode (mk_c M1_line) 74 = .ok (.getfield 140, 3) := by decide +kernel
theorem d1_line_77 : decode (mk_c M1_line) 77 = .ok (.ireturn, 1) := by decide +kernel
theorem d1_line_78 : decode (mk_c M1_line) 78 = .ok (.aload 4, 2) := by decide +kernel
theorem d1_line_80 : decode (mk_c M1_line) 80 = .ok (.getfield 143, 3) := by decide +kernel
theorem d1_line_83 : decode (mk_c M1_line) 83 = .ok (.ireturn, 1) := by decide +kernel
theorem d1_line_84 : decode (mk_c M1_line) 84 = .ok (.aload 4, 2) := by decide +kernel
theorem d1_line_86 : decode (mk_c M1_line) 86 = .ok (.getfield 146, 3) := by decide +kernel
theorem d1_line_89 : decode (mk_c M1_line) 89 = .ok (.ireturn, 1) := by decide +kernel
theorem d1_line_90 : decode (mk_c M1_line) 90 = .ok (.aload 4, 2) := by decide +kernel
theorem d1_line_92 : decode (mk_c M1_line) 92 = .ok (.invokevirtual 149, 3) := by decide +kernel
theorem d1_line_95 : decode (mk_c M1_line) 95 = .ok (.ireturn, 1) := by decide +kernel
theorem d1_line_96 : decode (mk_c M1_line) 96 = .ok (.iconst (-1), 1) := by decide +kernel
theorem d1_line_97 : decode (mk_c M1_line) 97 = .ok (.ireturn, 1) := by decide +kernel
theorem d1_meant_0 : decode (mk_c M1_meant) 0 = .ok (.aload_n 0, 1) := by decide +kernel
theorem d1_meant_1 : decode (mk_c M1_meant) 1 = .ok (.invokevirtual 91, 3) := by decide +kernel
theorem d1_meant_4 : decode (mk_c M1_meant) 4 = .ok (.iload_n 1, 1) := by decide +kernel
theorem d1_meant_5 : decode (mk_c M1_meant) 5 = .ok (.invokestatic 153, 3) := by decide +kernel
theorem d1_meant_8 : decode (mk_c M1_meant) 8 = .ok (.ifCond .eq 10, 3) := by decide +kernel
theorem d1_meant_11 : decode (mk_c M1_meant) 11 = .ok (.iload_n 2, 1) := by decide +kernel
theorem d1_meant_12 : decode (mk_c M1_meant) 12 = .ok (.invokestatic 153, 3) := by decide +kernel
theorem d1_meant_15 : decode (mk_c M1_meant) 15 = .ok (.ifCond .ne 10, 3) := by decide +kernel
theorem d1_meant_18 : decode (mk_c M1_meant) 18 = .ok (.aload_n 0, 1) := by decide +kernel
theorem d1_meant_19 : decode (mk_c M1_meant) 19 = .ok (.iconst 2, 1) := by decide +kernel
theorem d1_meant_20 : decode (mk_c M1_meant) 20 = .ok (.putfield 70, 3) := by decide +kernel
theorem d1_meant_23 : decode (mk_c M1_meant) 23 = .ok (.iconst 0, 1) := by decide +kernel
theorem d1_meant_24 : decode (mk_c M1_meant) 24 = .ok (.ireturn, 1) := by decide +kernel
theorem d1_meant_25 : decode (mk_c M1_meant) 25 = .ok (.aload_n 0, 1) := by decide +kernel
theorem d1_meant_26 : decode (mk_c M1_meant) 26 = .ok (.getfield 28, 3) := by decide +kernel
theorem d1_meant_29 : decode (mk_c M1_meant) 29 = .ok (.iload_n 2, 1) := by decide +kernel
theorem d1_meant_30 : decode (mk_c M1_meant) 30 = .ok (.iload_n 3, 1) := by decide +kernel
theorem d1_meant_31 : decode (mk_c M1_meant) 31 = .ok (.ifCond .eq 16, 3) := by decide +kernel
theorem d1_meant_34 : decode (mk_c M1_meant) 34 = .ok (.aload_n 0, 1) := by decide +kernel
theorem d1_meant_35 : decode (mk_c M1_meant) 35 = .ok (.getfield 28, 3) := by decide +kernel
theorem d1_meant_38 : decode (mk_c M1_meant) 38 = .ok (.iload_n 2, 1) := by decide +kernel
theorem d1_meant_39 : decode (mk_c M1_meant) 39 = .ok (.iaload, 1) := by decide +kernel
theorem d1_meant_40 : decode (mk_c M1_meant) 40 = .ok (.iconst 1, 1) := by decide +kernel
theorem d1_meant_41 : decode (mk_c M1_meant) 41 = .ok (.iload_n 1, 1) := by decide +kernel
theorem d1_meant_42 : decode (mk_c M1_meant) 42 = .ok (.ishl, 1) := by decide +kernel
theorem d1_meant_43 : decode (mk_c M1_meant) 43 = .ok (.ior, 1) := by decide +kernel
theorem d1_meant_44 : decode (mk_c M1_meant) 44 = .ok (.goto 15, 3) := by decide +kernel
theorem d1_meant_47 : decode (mk_c M1_meant) 47 = .ok (.aload_n 0, 1) := by decide +kernel
theorem d1_meant_48 : decode (mk_c M1_meant) 48 = .ok (.getfield 28, 3) := by decide +kernel
theorem d1_meant_51 : decode (mk_c M1_meant) 51 = .ok (.iload_n 2, 1) := by decide +kernel
theorem d1_meant_52 : decode (mk_c M1_meant) 52 = .ok (.iaload, 1) := by decide +kernel
theorem d1_meant_53 : decode (mk_c M1_meant) 53 = .ok (.iconst 1, 1) := by decide +kernel
theorem d1_meant_54 : decode (mk_c M1_meant) 54 = .ok (.iload_n 1, 1) := by decide +kernel
theorem d1_meant_55 : decode (mk_c M1_meant) 55 = .ok (.ishl, 1) := by decide +kernel
theorem d1_meant_56 : decode (mk_c M1_meant) 56 = .ok (.iconst (-1), 1) := by decide +kernel
theorem d1_meant_57 : decode (mk_c M1_meant) 57 = .ok (.ixor, 1) := by decide +kernel
theorem d1_meant_58 : decode (mk_c M1_meant) 58 = .ok (.iand, 1) := by decide +kernel
theorem d1_meant_59 : decode (mk_c M1_meant) 59 = .ok (.iastore, 1) := by decide +kernel
theorem d1_meant_60 : decode (mk_c M1_meant) 60 = .ok (.iconst 1, 1) := by decide +kernel
theorem d1_meant_61 : decode (mk_c M1_meant) 61 = .ok (.ireturn, 1) := by decide +kernel
theorem d1_isRight_0 : decode (mk_c M1_isRight) 0 = .ok (.iload_n 0, 1) := by decide +kernel
theorem d1_isRight_1 : decode (mk_c M1_isRight) 1 = .ok (.iconst 0, 1) := by decide +kernel
theorem d1_isRight_2 : decode (mk_c M1_isRight) 2 = .ok (.bipush 15, 2) := by decide +kernel
theorem d1_isRight_4 : decode (mk_c M1_isRight) 4 = .ok (.invokestatic 76, 3) := by decide +kernel
theorem d1_isRight_7 : decode (mk_c M1_isRight) 7 = .ok (.ireturn, 1) := by decide +kernel
theorem d1_holds_0 : decode (mk_c M1_holds) 0 = .ok (.aload_n 0, 1) := by decide +kernel
theorem d1_holds_1 : decode (mk_c M1_holds) 1 = .ok (.iload_n 1, 1) := by decide +kernel
theorem d1_holds_2 : decode (mk_c M1_holds) 2 = .ok (.invokevirtual 103, 3) := by decide +kernel
theorem d1_holds_5 : decode (mk_c M1_holds) 5 = .ok (.ifCond .eq 29, 3) := by decide +kernel
theorem d1_holds_8 : decode (mk_c M1_holds) 8 = .ok (.iload_n 2, 1) := by decide +kernel
theorem d1_holds_9 : decode (mk_c M1_holds) 9 = .ok (.iconst 0, 1) := by decide +kernel
theorem d1_holds_10 : decode (mk_c M1_holds) 10 = .ok (.bipush 7, 2) := by decide +kernel
theorem d1_holds_12 : decode (mk_c M1_holds) 12 = .ok (.invokestatic 76, 3) := by decide +kernel
theorem d1_holds_15 : decode (mk_c M1_holds) 15 = .ok (.ifCond .eq 19, 3) := by decide +kernel
theorem d1_holds_18 : decode (mk_c M1_holds) 18 = .ok (.aload_n 0, 1) := by decide +kernel
theorem d1_holds_19 : decode (mk_c M1_holds) 19 = .ok (.invokevirtual 156, 3) := by decide +kernel
theorem d1_holds_22 : decode (mk_c M1_holds) 22 = .ok (.getfield 159, 3) := by decide +kernel
theorem d1_holds_25 : decode (mk_c M1_holds) 25 = .ok (.iload_n 1, 1) := by decide +kernel
theorem d1_holds_26 : decode (mk_c M1_holds) 26 = .ok (.iload_n 2, 1) := by decide +kernel
theorem d1_holds_27 : decode (mk_c M1_holds) 27 = .ok (.invokestatic 162, 3) := by decide +kernel
theorem d1_holds_30 : decode (mk_c M1_holds) 30 = .ok (.iaload, 1) := by decide +kernel
theorem d1_holds_31 : decode (mk_c M1_holds) 31 = .ok (.goto 4, 3) := by decide +kernel
theorem d1_holds_34 : decode (mk_c M1_holds) 34 = .ok (.iconst (-1), 1) := by decide +kernel
theorem d1_holds_35 : decode (mk_c M1_holds) 35 = .ok (.ireturn, 1) := by decide +kernel
theorem d1_flow_0 : decode (mk_c M1_flow) 0 = .ok (.aload_n 0, 1) := by decide +kernel
theorem d1_flow_1 : decode (mk_c M1_flow) 1 = .ok (.getfield 80, 3) := by decide +kernel
theorem d1_flow_4 : decode (mk_c M1_flow) 4 = .ok (.ifCond .ne 21, 3) := by decide +kernel
theorem d1_flow_7 : decode (mk_c M1_flow) 7 = .ok (.aload_n 0, 1) := by decide +kernel
theorem d1_flow_8 : decode (mk_c M1_flow) 8 = .ok (.getfield 37, 3) := by decide +kernel
theorem d1_flow_11 : decode (mk_c M1_flow) 11 = .ok (.invokevirtual 84, 3) := by decide +kernel
theorem d1_flow_14 : decode (mk_c M1_flow) 14 = .ok (.aload_n 0, 1) := by decide +kernel
theorem d1_flow_15 : decode (mk_c M1_flow) 15 = .ok (.getfield 37, 3) := by decide +kernel
theorem d1_flow_18 : decode (mk_c M1_flow) 18 = .ok (.aload_n 0, 1) := by decide +kernel
theorem d1_flow_19 : decode (mk_c M1_flow) 19 = .ok (.getfield 73, 3) := by decide +kernel
theorem d1_flow_22 : decode (mk_c M1_flow) 22 = .ok (.invokevirtual 87, 3) := by decide +kernel
theorem d1_flow_25 : decode (mk_c M1_flow) 25 = .ok (.aload_n 0, 1) := by decide +kernel
theorem d1_flow_26 : decode (mk_c M1_flow) 26 = .ok (.iconst 1, 1) := by decide +kernel
theorem d1_flow_27 : decode (mk_c M1_flow) 27 = .ok (.putfield 80, 3) := by decide +kernel
theorem d1_flow_30 : decode (mk_c M1_flow) 30 = .ok (.aload_n 0, 1) := by decide +kernel
theorem d1_flow_31 : decode (mk_c M1_flow) 31 = .ok (.getfield 37, 3) := by decide +kernel
theorem d1_flow_34 : decode (mk_c M1_flow) 34 = .ok (.areturn, 1) := by decide +kernel
theorem d1_place_0 : decode (mk_c M1_place) 0 = .ok (.bipush 8, 2) := by decide +kernel
theorem d1_place_2 : decode (mk_c M1_place) 2 = .ok (.iload_n 0, 1) := by decide +kernel
theorem d1_place_3 : decode (mk_c M1_place) 3 = .ok (.imul, 1) := by decide +kernel
theorem d1_place_4 : decode (mk_c M1_place) 4 = .ok (.iload_n 1, 1) := by decide +kernel
theorem d1_place_5 : decode (mk_c M1_place) 5 = .ok (.iadd, 1) := by decide +kernel
theorem d1_place_6 : decode (mk_c M1_place) 6 = .ok (.ireturn, 1) := by decide +kernel
theorem d1_resultOf_0 : decode (mk_c M1_resultOf) 0 = .ok (.bipush 80, 2) := by decide +kernel
theorem d1_resultOf_2 : decode (mk_c M1_resultOf) 2 = .ok (.iload_n 0, 1) := by decide +kernel
theorem d1_resultOf_3 : decode (mk_c M1_resultOf) 3 = .ok (.iadd, 1) := by decide +kernel
theorem d1_resultOf_4 : decode (mk_c M1_resultOf) 4 = .ok (.ireturn, 1) := by decide +kernel
theorem d1_result_0 : decode (mk_c M1_result) 0 = .ok (.aload_n 0, 1) := by decide +kernel
theorem d1_result_1 : decode (mk_c M1_result) 1 = .ok (.iload_n 1, 1) := by decide +kernel
theorem d1_result_2 : decode (mk_c M1_result) 2 = .ok (.invokevirtual 103, 3) := by decide +kernel
theorem d1_result_5 : decode (mk_c M1_result) 5 = .ok (.ifCond .eq 18, 3) := by decide +kernel
theorem d1_result_8 : decode (mk_c M1_result) 8 = .ok (.aload_n 0, 1) := by decide +kernel
theorem d1_result_9 : decode (mk_c M1_result) 9 = .ok (.invokevirtual 156, 3) := by decide +kernel
theorem d1_result_12 : decode (mk_c M1_result) 12 = .ok (.getfield 159, 3) := by decide +kernel
theorem d1_result_15 : decode (mk_c M1_result) 15 = .ok (.iload_n 1, 1) := by decide +kernel
theorem d1_result_16 : decode (mk_c M1_result) 16 = .ok (.invokestatic 165, 3) := by decide +kernel
theorem d1_result_19 : decode (mk_c M1_result) 19 = .ok (.iaload, 1) := by decide +kernel
theorem d1_result_20 : decode (mk_c M1_result) 20 = .ok (.goto 4, 3) := by decide +kernel
theorem d1_result_23 : decode (mk_c M1_result) 23 = .ok (.iconst (-1), 1) := by decide +kernel
theorem d1_result_24 : decode (mk_c M1_result) 24 = .ok (.ireturn, 1) := by decide +kernel
theorem d1_asked_0 : decode (mk_c M1_asked) 0 = .ok (.aload_n 0, 1) := by decide +kernel
theorem d1_asked_1 : decode (mk_c M1_asked) 1 = .ok (.iload_n 1, 1) := by decide +kernel
theorem d1_asked_2 : decode (mk_c M1_asked) 2 = .ok (.invokevirtual 103, 3) := by decide +kernel
theorem d1_asked_5 : decode (mk_c M1_asked) 5 = .ok (.ifCond .eq 17, 3) := by decide +kernel
theorem d1_asked_8 : decode (mk_c M1_asked) 8 = .ok (.aload_n 0, 1) := by decide +kernel
theorem d1_asked_9 : decode (mk_c M1_asked) 9 = .ok (.invokevirtual 156, 3) := by decide +kernel
theorem d1_asked_12 : decode (mk_c M1_asked) 12 = .ok (.getfield 168, 3) := by decide +kernel
theorem d1_asked_15 : decode (mk_c M1_asked) 15 = .ok (.iload_n 1, 1) := by decide +kernel
theorem d1_asked_16 : decode (mk_c M1_asked) 16 = .ok (.ishr, 1) := by decide +kernel
theorem d1_asked_17 : decode (mk_c M1_asked) 17 = .ok (.iconst 1, 1) := by decide +kernel
theorem d1_asked_18 : decode (mk_c M1_asked) 18 = .ok (.iand, 1) := by decide +kernel
theorem d1_asked_19 : decode (mk_c M1_asked) 19 = .ok (.goto 4, 3) := by decide +kernel
theorem d1_asked_22 : decode (mk_c M1_asked) 22 = .ok (.iconst (-1), 1) := by decide +kernel
theorem d1_asked_23 : decode (mk_c M1_asked) 23 = .ok (.ireturn, 1) := by decide +kernel
theorem d1_door_0 : decode (mk_c M1_door) 0 = .ok (.iload_n 1, 1) := by decide +kernel
theorem d1_door_1 : decode (mk_c M1_door) 1 = .ok (.invokestatic 153, 3) := by decide +kernel
theorem d1_door_4 : decode (mk_c M1_door) 4 = .ok (.ifCond .eq 15, 3) := by decide +kernel
theorem d1_door_7 : decode (mk_c M1_door) 7 = .ok (.aload_n 0, 1) := by decide +kernel
theorem d1_door_8 : decode (mk_c M1_door) 8 = .ok (.invokevirtual 156, 3) := by decide +kernel
theorem d1_door_11 : decode (mk_c M1_door) 11 = .ok (.getfield 171, 3) := by decide +kernel
theorem d1_door_14 : decode (mk_c M1_door) 14 = .ok (.iload_n 1, 1) := by decide +kernel
theorem d1_door_15 : decode (mk_c M1_door) 15 = .ok (.iaload, 1) := by decide +kernel
theorem d1_door_16 : decode (mk_c M1_door) 16 = .ok (.goto 4, 3) := by decide +kernel
theorem d1_door_19 : decode (mk_c M1_door) 19 = .ok (.iconst (-1), 1) := by decide +kernel
theorem d1_door_20 : decode (mk_c M1_door) 20 = .ok (.ireturn, 1) := by decide +kernel
theorem d1_leaks_0 : decode (mk_c M1_leaks) 0 = .ok (.iconst 0, 1) := by decide +kernel
theorem d1_leaks_1 : decode (mk_c M1_leaks) 1 = .ok (.istore_n 1, 1) := by decide +kernel
theorem d1_leaks_2 : decode (mk_c M1_leaks) 2 = .ok (.iconst 0, 1) := by decide +kernel
theorem d1_leaks_3 : decode (mk_c M1_leaks) 3 = .ok (.istore_n 2, 1) := by decide +kernel
theorem d1_leaks_4 : decode (mk_c M1_leaks) 4 = .ok (.iload_n 2, 1) := by decide +kernel
theorem d1_leaks_5 : decode (mk_c M1_leaks) 5 = .ok (.bipush 16, 2) := by decide +kernel
theorem d1_leaks_7 : decode (mk_c M1_leaks) 7 = .ok (.if_icmp .ge 24, 3) := by decide +kernel
theorem d1_leaks_10 : decode (mk_c M1_leaks) 10 = .ok (.iload_n 1, 1) := by decide +kernel
theorem d1_leaks_11 : decode (mk_c M1_leaks) 11 = .ok (.aload_n 0, 1) := by decide +kernel
theorem d1_leaks_12 : decode (mk_c M1_leaks) 12 = .ok (.invokevirtual 156, 3) := by decide +kernel
theorem d1_leaks_15 : decode (mk_c M1_leaks) 15 = .ok (.getfield 171, 3) := by decide +kernel
theorem d1_leaks_18 : decode (mk_c M1_leaks) 18 = .ok (.iload_n 2, 1) := by decide +kernel
theorem d1_leaks_19 : decode (mk_c M1_leaks) 19 = .ok (.iaload, 1) := by decide +kernel
theorem d1_leaks_20 : decode (mk_c M1_leaks) 20 = .ok (.invokestatic 174, 3) := by decide +kernel
theorem d1_leaks_23 : decode (mk_c M1_leaks) 23 = .ok (.iadd, 1) := by decide +kernel
theorem d1_leaks_24 : decode (mk_c M1_leaks) 24 = .ok (.istore_n 1, 1) := by decide +kernel
theorem d1_leaks_25 : decode (mk_c M1_leaks) 25 = .ok (.iinc 2 1, 3) := by decide +kernel
theorem d1_leaks_28 : decode (mk_c M1_leaks) 28 = .ok (.goto (-24), 3) := by decide +kernel
theorem d1_leaks_31 : decode (mk_c M1_leaks) 31 = .ok (.iload_n 1, 1) := by decide +kernel
theorem d1_leaks_32 : decode (mk_c M1_leaks) 32 = .ok (.ireturn, 1) := by decide +kernel
theorem d1_ones_0 : decode (mk_c M1_ones) 0 = .ok (.iconst 0, 1) := by decide +kernel
theorem d1_ones_1 : decode (mk_c M1_ones) 1 = .ok (.istore_n 1, 1) := by decide +kernel
theorem d1_ones_2 : decode (mk_c M1_ones) 2 = .ok (.iload_n 0, 1) := by decide +kernel
theorem d1_ones_3 : decode (mk_c M1_ones) 3 = .ok (.istore_n 2, 1) := by decide +kernel
theorem d1_ones_4 : decode (mk_c M1_ones) 4 = .ok (.iload_n 2, 1) := by decide +kernel
theorem d1_ones_5 : decode (mk_c M1_ones) 5 = .ok (.ifCond .eq 15, 3) := by decide +kernel
theorem d1_ones_8 : decode (mk_c M1_ones) 8 = .ok (.iinc 1 1, 3) := by decide +kernel
theorem d1_ones_11 : decode (mk_c M1_ones) 11 = .ok (.iload_n 2, 1) := by decide +kernel
theorem d1_ones_12 : decode (mk_c M1_ones) 12 = .ok (.iload_n 2, 1) := by decide +kernel
theorem d1_ones_13 : decode (mk_c M1_ones) 13 = .ok (.iconst 1, 1) := by decide +kernel
theorem d1_ones_14 : decode (mk_c M1_ones) 14 = .ok (.isub, 1) := by decide +kernel
theorem d1_ones_15 : decode (mk_c M1_ones) 15 = .ok (.iand, 1) := by decide +kernel
theorem d1_ones_16 : decode (mk_c M1_ones) 16 = .ok (.istore_n 2, 1) := by decide +kernel
theorem d1_ones_17 : decode (mk_c M1_ones) 17 = .ok (.goto (-13), 3) := by decide +kernel
theorem d1_ones_20 : decode (mk_c M1_ones) 20 = .ok (.iload_n 1, 1) := by decide +kernel
theorem d1_ones_21 : decode (mk_c M1_ones) 21 = .ok (.ireturn, 1) := by decide +kernel
theorem d1_misuse_0 : decode (mk_c M1_misuse) 0 = .ok (.iload_n 1, 1) := by decide +kernel
theorem d1_misuse_1 : decode (mk_c M1_misuse) 1 = .ok (.ifCond .eq 19, 3) := by decide +kernel
theorem d1_misuse_4 : decode (mk_c M1_misuse) 4 = .ok (.aload_n 0, 1) := by decide +kernel
theorem d1_misuse_5 : decode (mk_c M1_misuse) 5 = .ok (.invokevirtual 177, 3) := by decide +kernel
theorem d1_misuse_8 : decode (mk_c M1_misuse) 8 = .ok (.aload_n 0, 1) := by decide +kernel
theorem d1_misuse_9 : decode (mk_c M1_misuse) 9 = .ok (.aload_n 0, 1) := by decide +kernel
theorem d1_misuse_10 : decode (mk_c M1_misuse) 10 = .ok (.invokevirtual 156, 3) := by decide +kernel
theorem d1_misuse_13 : decode (mk_c M1_misuse) 13 = .ok (.invokevirtual 180, 3) := by decide +kernel
theorem d1_misuse_16 : decode (mk_c M1_misuse) 16 = .ok (.isub, 1) := by decide +kernel
theorem d1_misuse_17 : decode (mk_c M1_misuse) 17 = .ok (.goto 11, 3) := by decide +kernel
theorem d1_misuse_20 : decode (mk_c M1_misuse) 20 = .ok (.aload_n 0, 1) := by decide +kernel
theorem d1_misuse_21 : decode (mk_c M1_misuse) 21 = .ok (.aload_n 0, 1) := by decide +kernel
theorem d1_misuse_22 : decode (mk_c M1_misuse) 22 = .ok (.invokevirtual 156, 3) := by decide +kernel
theorem d1_misuse_25 : decode (mk_c M1_misuse) 25 = .ok (.invokevirtual 180, 3) := by decide +kernel
theorem d1_misuse_28 : decode (mk_c M1_misuse) 28 = .ok (.ireturn, 1) := by decide +kernel
theorem d1_misuses_0 : decode (mk_c M1_misuses) 0 = .ok (.iconst 0, 1) := by decide +kernel
theorem d1_misuses_1 : decode (mk_c M1_misuses) 1 = .ok (.istore_n 2, 1) := by decide +kernel
theorem d1_misuses_2 : decode (mk_c M1_misuses) 2 = .ok (.iconst 0, 1) := by decide +kernel
theorem d1_misuses_3 : decode (mk_c M1_misuses) 3 = .ok (.istore_n 3, 1) := by decide +kernel
theorem d1_misuses_4 : decode (mk_c M1_misuses) 4 = .ok (.iload_n 3, 1) := by decide +kernel
theorem d1_misuses_5 : decode (mk_c M1_misuses) 5 = .ok (.bipush 16, 2) := by decide +kernel
theorem d1_misuses_7 : decode (mk_c M1_misuses) 7 = .ok (.if_icmp .ge 30, 3) := by decide +kernel
theorem d1_misuses_10 : decode (mk_c M1_misuses) 10 = .ok (.iload_n 2, 1) := by decide +kernel
theorem d1_misuses_11 : decode (mk_c M1_misuses) 11 = .ok (.aload_n 1, 1) := by decide +kernel
theorem d1_misuses_12 : decode (mk_c M1_misuses) 12 = .ok (.getfield 171, 3) := by decide +kernel
theorem d1_misuses_15 : decode (mk_c M1_misuses) 15 = .ok (.iload_n 3, 1) := by decide +kernel
theorem d1_misuses_16 : decode (mk_c M1_misuses) 16 = .ok (.iaload, 1) := by decide +kernel
theorem d1_misuses_17 : decode (mk_c M1_misuses) 17 = .ok (.aload_n 0, 1) := by decide +kernel
theorem d1_misuses_18 : decode (mk_c M1_misuses) 18 = .ok (.getfield 28, 3) := by decide +kernel
theorem d1_misuses_21 : decode (mk_c M1_misuses) 21 = .ok (.iload_n 3, 1) := by decide +kernel
theorem d1_misuses_22 : decode (mk_c M1_misuses) 22 = .ok (.iaload, 1) := by decide +kernel
theorem d1_misuses_23 : decode (mk_c M1_misuses) 23 = .ok (.iconst (-1), 1) := by decide +kernel
theorem d1_misuses_24 : decode (mk_c M1_misuses) 24 = .ok (.ixor, 1) := by decide +kernel
theorem d1_misuses_25 : decode (mk_c M1_misuses) 25 = .ok (.iand, 1) := by decide +kernel
theorem d1_misuses_26 : decode (mk_c M1_misuses) 26 = .ok (.invokestatic 174, 3) := by decide +kernel
theorem d1_misuses_29 : decode (mk_c M1_misuses) 29 = .ok (.iadd, 1) := by decide +kernel
theorem d1_misuses_30 : decode (mk_c M1_misuses) 30 = .ok (.istore_n 2, 1) := by decide +kernel
theorem d1_misuses_31 : decode (mk_c M1_misuses) 31 = .ok (.iinc 3 1, 3) := by decide +kernel
theorem d1_misuses_34 : decode (mk_c M1_misuses) 34 = .ok (.goto (-30), 3) := by decide +kernel
theorem d1_misuses_37 : decode (mk_c M1_misuses) 37 = .ok (.iload_n 2, 1) := by decide +kernel
theorem d1_misuses_38 : decode (mk_c M1_misuses) 38 = .ok (.ireturn, 1) := by decide +kernel
theorem d1_wrong_0 : decode (mk_c M1_wrong) 0 = .ok (.iload_n 1, 1) := by decide +kernel
theorem d1_wrong_1 : decode (mk_c M1_wrong) 1 = .ok (.istore_n 2, 1) := by decide +kernel
theorem d1_wrong_2 : decode (mk_c M1_wrong) 2 = .ok (.iconst 0, 1) := by decide +kernel
theorem d1_wrong_3 : decode (mk_c M1_wrong) 3 = .ok (.istore_n 3, 1) := by decide +kernel
theorem d1_wrong_4 : decode (mk_c M1_wrong) 4 = .ok (.iload_n 3, 1) := by decide +kernel
theorem d1_wrong_5 : decode (mk_c M1_wrong) 5 = .ok (.bipush 16, 2) := by decide +kernel
theorem d1_wrong_7 : decode (mk_c M1_wrong) 7 = .ok (.if_icmp .ge 70, 3) := by decide +kernel
theorem d1_wrong_10 : decode (mk_c M1_wrong) 10 = .ok (.iconst 0, 1) := by decide +kernel
theorem d1_wrong_11 : decode (mk_c M1_wrong) 11 = .ok (.istore 4, 2) := by decide +kernel
theorem d1_wrong_13 : decode (mk_c M1_wrong) 13 = .ok (.iload 4, 2) := by decide +kernel
theorem d1_wrong_15 : decode (mk_c M1_wrong) 15 = .ok (.bipush 16, 2) := by decide +kernel
theorem d1_wrong_17 : decode (mk_c M1_wrong) 17 = .ok (.if_icmp .ge 54, 3) := by decide +kernel
theorem d1_wrong_20 : decode (mk_c M1_wrong) 20 = .ok (.aload_n 0, 1) := by decide +kernel
theorem d1_wrong_21 : decode (mk_c M1_wrong) 21 = .ok (.invokevirtual 156, 3) := by decide +kernel
theorem d1_wrong_24 : decode (mk_c M1_wrong) 24 = .ok (.getfield 171, 3) := by decide +kernel
theorem d1_wrong_27 : decode (mk_c M1_wrong) 27 = .ok (.iload 4, 2) := by decide +kernel
theorem d1_wrong_29 : decode (mk_c M1_wrong) 29 = .ok (.iaload, 1) := by decide +kernel
theorem d1_wrong_30 : decode (mk_c M1_wrong) 30 = .ok (.aload_n 0, 1) := by decide +kernel
theorem d1_wrong_31 : decode (mk_c M1_wrong) 31 = .ok (.getfield 28, 3) := by decide +kernel
theorem d1_wrong_34 : decode (mk_c M1_wrong) 34 = .ok (.iload 4, 2) := by decide +kernel
theorem d1_wrong_36 : decode (mk_c M1_wrong) 36 = .ok (.iaload, 1) := by decide +kernel
theorem d1_wrong_37 : decode (mk_c M1_wrong) 37 = .ok (.iconst (-1), 1) := by decide +kernel
theorem d1_wrong_38 : decode (mk_c M1_wrong) 38 = .ok (.ixor, 1) := by decide +kernel
theorem d1_wrong_39 : decode (mk_c M1_wrong) 39 = .ok (.iand, 1) := by decide +kernel
theorem d1_wrong_40 : decode (mk_c M1_wrong) 40 = .ok (.iconst 1, 1) := by decide +kernel
theorem d1_wrong_41 : decode (mk_c M1_wrong) 41 = .ok (.iload_n 3, 1) := by decide +kernel
theorem d1_wrong_42 : decode (mk_c M1_wrong) 42 = .ok (.ishl, 1) := by decide +kernel
theorem d1_wrong_43 : decode (mk_c M1_wrong) 43 = .ok (.iand, 1) := by decide +kernel
theorem d1_wrong_44 : decode (mk_c M1_wrong) 44 = .ok (.ifCond .ne 6, 3) := by decide +kernel
theorem d1_wrong_47 : decode (mk_c M1_wrong) 47 = .ok (.goto 18, 3) := by decide +kernel
theorem d1_wrong_50 : decode (mk_c M1_wrong) 50 = .ok (.iload_n 2, 1) := by decide +kernel
theorem d1_wrong_51 : decode (mk_c M1_wrong) 51 = .ok (.ifCond .ne 11, 3) := by decide +kernel
theorem d1_wrong_54 : decode (mk_c M1_wrong) 54 = .ok (.bipush 100, 2) := by decide +kernel
theorem d1_wrong_56 : decode (mk_c M1_wrong) 56 = .ok (.iload_n 3, 1) := by decide +kernel
theorem d1_wrong_57 : decode (mk_c M1_wrong) 57 = .ok (.imul, 1) := by decide +kernel
theorem d1_wrong_58 : decode (mk_c M1_wrong) 58 = .ok (.iload 4, 2) := by decide +kernel
theorem d1_wrong_60 : decode (mk_c M1_wrong) 60 = .ok (.iadd, 1) := by decide +kernel
theorem d1_wrong_61 : decode (mk_c M1_wrong) 61 = .ok (.ireturn, 1) := by decide +kernel
theorem d1_wrong_62 : decode (mk_c M1_wrong) 62 = .ok (.iinc 2 (-1), 3) := by decide +kernel
theorem d1_wrong_65 : decode (mk_c M1_wrong) 65 = .ok (.iinc 4 1, 3) := by decide +kernel
theorem d1_wrong_68 : decode (mk_c M1_wrong) 68 = .ok (.goto (-55), 3) := by decide +kernel
theorem d1_wrong_71 : decode (mk_c M1_wrong) 71 = .ok (.iinc 3 1, 3) := by decide +kernel
theorem d1_wrong_74 : decode (mk_c M1_wrong) 74 = .ok (.goto (-70), 3) := by decide +kernel
theorem d1_wrong_77 : decode (mk_c M1_wrong) 77 = .ok (.iconst (-1), 1) := by decide +kernel
theorem d1_wrong_78 : decode (mk_c M1_wrong) 78 = .ok (.ireturn, 1) := by decide +kernel
theorem d1_way_0 : decode (mk_c M1_way) 0 = .ok (.aload_n 0, 1) := by decide +kernel
theorem d1_way_1 : decode (mk_c M1_way) 1 = .ok (.invokevirtual 91, 3) := by decide +kernel
theorem d1_way_4 : decode (mk_c M1_way) 4 = .ok (.iload_n 1, 1) := by decide +kernel
theorem d1_way_5 : decode (mk_c M1_way) 5 = .ok (.invokestatic 153, 3) := by decide +kernel
theorem d1_way_8 : decode (mk_c M1_way) 8 = .ok (.ifCond .eq 10, 3) := by decide +kernel
theorem d1_way_11 : decode (mk_c M1_way) 11 = .ok (.iload_n 2, 1) := by decide +kernel
theorem d1_way_12 : decode (mk_c M1_way) 12 = .ok (.invokestatic 153, 3) := by decide +kernel
theorem d1_way_15 : decode (mk_c M1_way) 15 = .ok (.ifCond .ne 9, 3) := by decide +kernel
theorem d1_way_18 : decode (mk_c M1_way) 18 = .ok (.aload_n 0, 1) := by decide +kernel
theorem d1_way_19 : decode (mk_c M1_way) 19 = .ok (.iconst 2, 1) := by decide +kernel
theorem d1_way_20 : decode (mk_c M1_way) 20 = .ok (.invokevirtual 95, 3) := by decide +kernel
theorem d1_way_23 : decode (mk_c M1_way) 23 = .ok (.ireturn, 1) := by decide +kernel
theorem d1_way_24 : decode (mk_c M1_way) 24 = .ok (.aload_n 0, 1) := by decide +kernel
theorem d1_way_25 : decode (mk_c M1_way) 25 = .ok (.invokevirtual 156, 3) := by decide +kernel
theorem d1_way_28 : decode (mk_c M1_way) 28 = .ok (.pop, 1) := by decide +kernel
theorem d1_way_29 : decode (mk_c M1_way) 29 = .ok (.aload_n 0, 1) := by decide +kernel
theorem d1_way_30 : decode (mk_c M1_way) 30 = .ok (.iload_n 1, 1) := by decide +kernel
theorem d1_way_31 : decode (mk_c M1_way) 31 = .ok (.iload_n 2, 1) := by decide +kernel
theorem d1_way_32 : decode (mk_c M1_way) 32 = .ok (.invokevirtual 199, 3) := by decide +kernel
theorem d1_way_35 : decode (mk_c M1_way) 35 = .ok (.iconst (-1), 1) := by decide +kernel
theorem d1_way_36 : decode (mk_c M1_way) 36 = .ok (.istore_n 3, 1) := by decide +kernel
theorem d1_way_37 : decode (mk_c M1_way) 37 = .ok (.iconst (-1), 1) := by decide +kernel
theorem d1_way_38 : decode (mk_c M1_way) 38 = .ok (.istore 4, 2) := by decide +kernel
theorem d1_way_40 : decode (mk_c M1_way) 40 = .ok (.iconst 0, 1) := by decide +kernel
theorem d1_way_41 : decode (mk_c M1_way) 41 = .ok (.istore 5, 2) := by decide +kernel
theorem d1_way_43 : decode (mk_c M1_way) 43 = .ok (.iload 5, 2) := by decide +kernel
theorem d1_way_45 : decode (mk_c M1_way) 45 = .ok (.aload_n 0, 1) := by decide +kernel
theorem d1_way_46 : decode (mk_c M1_way) 46 = .ok (.getfield 73, 3) := by decide +kernel
theorem d1_way_49 : decode (mk_c M1_way) 49 = .ok (.if_icmp .ge 143, 3) := by decide +kernel
theorem d1_way_52 : decode (mk_c M1_way) 52 = .ok (.iconst 0, 1) := by decide +kernel
theorem d1_way_53 : decode (mk_c M1_way) 53 = .ok (.istore 6, 2) := by decide +kernel
theorem d1_way_55 : decode (mk_c M1_way) 55 = .ok (.iload 6, 2) := by decide +kernel
theorem d1_way_57 : decode (mk_c M1_way) 57 = .ok (.aload_n 0, 1) := by decide +kernel
theorem d1_way_58 : decode (mk_c M1_way) 58 = .ok (.getfield 24, 3) := by decide +kernel
theorem d1_way_61 : decode (mk_c M1_way) 61 = .ok (.iload 5, 2) := by decide +kernel
theorem d1_way_63 : decode (mk_c M1_way) 63 = .ok (.aaload, 1) := by decide +kernel
theorem d1_way_64 : decode (mk_c M1_way) 64 = .ok (.getfield 133, 3) := by decide +kernel
theorem d1_way_67 : decode (mk_c M1_way) 67 = .ok (.if_icmp .ge 119, 3) := by decide +kernel
theorem d1_way_70 : decode (mk_c M1_way) 70 = .ok (.aload_n 0, 1) := by decide +kernel
theorem d1_way_71 : decode (mk_c M1_way) 71 = .ok (.iload 5, 2) := by decide +kernel
theorem d1_way_73 : decode (mk_c M1_way) 73 = .ok (.invokevirtual 188, 3) := by decide +kernel
theorem d1_way_76 : decode (mk_c M1_way) 76 = .ok (.ifCond .eq 110, 3) := by decide +kernel
theorem d1_way_79 : decode (mk_c M1_way) 79 = .ok (.aload_n 0, 1) := by decide +kernel
theorem d1_way_80 : decode (mk_c M1_way) 80 = .ok (.getfield 24, 3) := by decide +kernel
theorem d1_way_83 : decode (mk_c M1_way) 83 = .ok (.iload 5, 2) := by decide +kernel
theorem d1_way_85 : decode (mk_c M1_way) 85 = .ok (.aaload, 1) := by decide +kernel
theorem d1_way_86 : decode (mk_c M1_way) 86 = .ok (.getfield 136, 3) := by decide +kernel
theorem d1_way_89 : decode (mk_c M1_way) 89 = .ok (.iload 6, 2) := by decide +kernel
theorem d1_way_91 : decode (mk_c M1_way) 91 = .ok (.aaload, 1) := by decide +kernel
theorem d1_way_92 : decode (mk_c M1_way) 92 = .ok (.astore 7, 2) := by decide +kernel
theorem d1_way_94 : decode (mk_c M1_way) 94 = .ok (.aload 7, 2) := by decide +kernel
theorem d1_way_96 : decode (mk_c M1_way) 96 = .ok (.getfield 140, 3) := by decide +kernel
theorem d1_way_99 : decode (mk_c M1_way) 99 = .ok (.ifCond .ne 81, 3) := by decide +kernel
theorem d1_way_102 : decode (mk_c M1_way) 102 = .ok (.aload 7, 2) := by decide +kernel
theorem d1_way_104 : decode (mk_c M1_way) 104 = .ok (.getfield 143, 3) := by decide +kernel
theorem d1_way_107 : decode (mk_c M1_way) 107 = .ok (.iload_n 1, 1) := by decide +kernel
theorem d1_way_108 : decode (mk_c M1_way) 108 = .ok (.if_icmp .ne 72, 3) := by decide +kernel
theorem d1_way_111 : decode (mk_c M1_way) 111 = .ok (.aload_n 0, 1) := by decide +kernel
theorem d1_way_112 : decode (mk_c M1_way) 112 = .ok (.getfield 24, 3) := by decide +kernel
theorem d1_way_115 : decode (mk_c M1_way) 115 = .ok (.iload 5, 2) := by decide +kernel
theorem d1_way_117 : decode (mk_c M1_way) 117 = .ok (.aaload, 1) := by decide +kernel
theorem d1_way_118 : decode (mk_c M1_way) 118 = .ok (.getfield 100, 3) := by decide +kernel
theorem d1_way_121 : decode (mk_c M1_way) 121 = .ok (.iload_n 1, 1) := by decide +kernel
theorem d1_way_122 : decode (mk_c M1_way) 122 = .ok (.ishr, 1) := by decide +kernel
theorem d1_way_123 : decode (mk_c M1_way) 123 = .ok (.iconst 1, 1) := by decide +kernel
theorem d1_way_124 : decode (mk_c M1_way) 124 = .ok (.iand, 1) := by decide +kernel
theorem d1_way_125 : decode (mk_c M1_way) 125 = .ok (.ifCond .ne 6, 3) := by decide +kernel
theorem d1_way_128 : decode (mk_c M1_way) 128 = .ok (.goto 52, 3) := by decide +kernel
theorem d1_way_131 : decode (mk_c M1_way) 131 = .ok (.aload_n 0, 1) := by decide +kernel
theorem d1_way_132 : decode (mk_c M1_way) 132 = .ok (.getfield 55, 3) := by decide +kernel
theorem d1_way_135 : decode (mk_c M1_way) 135 = .ok (.iload 5, 2) := by decide +kernel
theorem d1_way_137 : decode (mk_c M1_way) 137 = .ok (.aload 7, 2) := by decide +kernel
theorem d1_way_139 : decode (mk_c M1_way) 139 = .ok (.getfield 146, 3) := by decide +kernel
theorem d1_way_142 : decode (mk_c M1_way) 142 = .ok (.invokestatic 162, 3) := by decide +kernel
theorem d1_way_145 : decode (mk_c M1_way) 145 = .ok (.iaload, 1) := by decide +kernel
theorem d1_way_146 : decode (mk_c M1_way) 146 = .ok (.istore 8, 2) := by decide +kernel
theorem d1_way_148 : decode (mk_c M1_way) 148 = .ok (.iload 8, 2) := by decide +kernel
theorem d1_way_150 : decode (mk_c M1_way) 150 = .ok (.ifCond .eq 30, 3) := by decide +kernel
theorem d1_way_153 : decode (mk_c M1_way) 153 = .ok (.iload_n 3, 1) := by decide +kernel
theorem d1_way_154 : decode (mk_c M1_way) 154 = .ok (.iconst (-1), 1) := by decide +kernel
theorem d1_way_155 : decode (mk_c M1_way) 155 = .ok (.if_icmp .eq 12, 3) := by decide +kernel
theorem d1_way_158 : decode (mk_c M1_way) 158 = .ok (.iload 8, 2) := by decide +kernel
theorem d1_way_160 : decode (mk_c M1_way) 160 = .ok (.iload_n 3, 1) := by decide +kernel
theorem d1_way_161 : decode (mk_c M1_way) 161 = .ok (.if_icmp .lt 6, 3) := by decide +kernel
theorem d1_way_164 : decode (mk_c M1_way) 164 = .ok (.goto 16, 3) := by decide +kernel
theorem d1_way_167 : decode (mk_c M1_way) 167 = .ok (.iload 8, 2) := by decide +kernel
theorem d1_way_169 : decode (mk_c M1_way) 169 = .ok (.istore_n 3, 1) := by decide +kernel
theorem d1_way_170 : decode (mk_c M1_way) 170 = .ok (.bipush 100, 2) := by decide +kernel
theorem d1_way_172 : decode (mk_c M1_way) 172 = .ok (.iload 5, 2) := by decide +kernel
theorem d1_way_174 : decode (mk_c M1_way) 174 = .ok (.imul, 1) := by decide +kernel
theorem d1_way_175 : decode (mk_c M1_way) 175 = .ok (.iload 6, 2) := by decide +kernel
theorem d1_way_177 : decode (mk_c M1_way) 177 = .ok (.iadd, 1) := by decide +kernel
theorem d1_way_178 : decode (mk_c M1_way) 178 = .ok (.istore 4, 2) := by decide +kernel
theorem d1_way_180 : decode (mk_c M1_way) 180 = .ok (.iinc 6 1, 3) := by decide +kernel
theorem d1_way_183 : decode (mk_c M1_way) 183 = .ok (.goto (-128), 3) := by decide +kernel
theorem d1_way_186 : decode (mk_c M1_way) 186 = .ok (.iinc 5 1, 3) := by decide +kernel
theorem d1_way_189 : decode (mk_c M1_way) 189 = .ok (.goto (-146), 3) := by decide +kernel
theorem d1_way_192 : decode (mk_c M1_way) 192 = .ok (.iload_n 3, 1) := by decide +kernel
theorem d1_way_193 : decode (mk_c M1_way) 193 = .ok (.iconst (-1), 1) := by decide +kernel
theorem d1_way_194 : decode (mk_c M1_way) 194 = .ok (.if_icmp .ne 6, 3) := by decide +kernel
theorem d1_way_197 : decode (mk_c M1_way) 197 = .ok (.bipush (-2), 2) := by decide +kernel
theorem d1_way_199 : decode (mk_c M1_way) 199 = .ok (.ireturn, 1) := by decide +kernel
theorem d1_way_200 : decode (mk_c M1_way) 200 = .ok (.aload_n 0, 1) := by decide +kernel
theorem d1_way_201 : decode (mk_c M1_way) 201 = .ok (.iconst 0, 1) := by decide +kernel
theorem d1_way_202 : decode (mk_c M1_way) 202 = .ok (.putfield 203, 3) := by decide +kernel
theorem d1_way_205 : decode (mk_c M1_way) 205 = .ok (.aload_n 0, 1) := by decide +kernel
theorem d1_way_206 : decode (mk_c M1_way) 206 = .ok (.getfield 58, 3) := by decide +kernel
theorem d1_way_209 : decode (mk_c M1_way) 209 = .ok (.aload_n 0, 1) := by decide +kernel
theorem d1_way_210 : decode (mk_c M1_way) 210 = .ok (.getfield 203, 3) := by decide +kernel
theorem d1_way_213 : decode (mk_c M1_way) 213 = .ok (.iload 4, 2) := by decide +kernel
theorem d1_way_215 : decode (mk_c M1_way) 215 = .ok (.iastore, 1) := by decide +kernel
theorem d1_way_216 : decode (mk_c M1_way) 216 = .ok (.aload_n 0, 1) := by decide +kernel
theorem d1_way_217 : decode (mk_c M1_way) 217 = .ok (.dup, 1) := by decide +kernel
theorem d1_way_218 : decode (mk_c M1_way) 218 = .ok (.getfield 203, 3) := by decide +kernel
theorem d1_way_221 : decode (mk_c M1_way) 221 = .ok (.iconst 1, 1) := by decide +kernel
theorem d1_way_222 : decode (mk_c M1_way) 222 = .ok (.iadd, 1) := by decide +kernel
theorem d1_way_223 : decode (mk_c M1_way) 223 = .ok (.putfield 203, 3) := by decide +kernel
theorem d1_way_226 : decode (mk_c M1_way) 226 = .ok (.aload_n 0, 1) := by decide +kernel
theorem d1_way_227 : decode (mk_c M1_way) 227 = .ok (.iload 4, 2) := by decide +kernel
theorem d1_way_229 : decode (mk_c M1_way) 229 = .ok (.iload_n 3, 1) := by decide +kernel
theorem d1_way_230 : decode (mk_c M1_way) 230 = .ok (.iload_n 1, 1) := by decide +kernel
theorem d1_way_231 : decode (mk_c M1_way) 231 = .ok (.iload_n 2, 1) := by decide +kernel
theorem d1_way_232 : decode (mk_c M1_way) 232 = .ok (.invokevirtual 206, 3) := by decide +kernel
theorem d1_way_235 : decode (mk_c M1_way) 235 = .ok (.aload_n 0, 1) := by decide +kernel
theorem d1_way_236 : decode (mk_c M1_way) 236 = .ok (.getfield 203, 3) := by decide +kernel
theorem d1_way_239 : decode (mk_c M1_way) 239 = .ok (.ireturn, 1) := by decide +kernel
theorem d1_measures_0 : decode (mk_c M1_measures) 0 = .ok (.iconst 0, 1) := by decide +kernel
theorem d1_measures_1 : decode (mk_c M1_measures) 1 = .ok (.istore_n 3, 1) := by decide +kernel
theorem d1_measures_2 : decode (mk_c M1_measures) 2 = .ok (.iload_n 3, 1) := by decide +kernel
theorem d1_measures_3 : decode (mk_c M1_measures) 3 = .ok (.bipush 90, 2) := by decide +kernel
theorem d1_measures_5 : decode (mk_c M1_measures) 5 = .ok (.if_icmp .ge 16, 3) := by decide +kernel
theorem d1_measures_8 : decode (mk_c M1_measures) 8 = .ok (.aload_n 0, 1) := by decide +kernel
theorem d1_measures_9 : decode (mk_c M1_measures) 9 = .ok (.getfield 55, 3) := by decide +kernel
theorem d1_measures_12 : decode (mk_c M1_measures) 12 = .ok (.iload_n 3, 1) := by decide +kernel
theorem d1_measures_13 : decode (mk_c M1_measures) 13 = .ok (.iconst 0, 1) := by decide +kernel
theorem d1_measures_14 : decode (mk_c M1_measures) 14 = .ok (.iastore, 1) := by decide +kernel
theorem d1_measures_15 : decode (mk_c M1_measures) 15 = .ok (.iinc 3 1, 3) := by decide +kernel
theorem d1_measures_18 : decode (mk_c M1_measures) 18 = .ok (.goto (-16), 3) := by decide +kernel
theorem d1_measures_21 : decode (mk_c M1_measures) 21 = .ok (.iconst 1, 1) := by decide +kernel
theorem d1_measures_22 : decode (mk_c M1_measures) 22 = .ok (.istore_n 3, 1) := by decide +kernel
theorem d1_measures_23 : decode (mk_c M1_measures) 23 = .ok (.iconst 1, 1) := by decide +kernel
theorem d1_measures_24 : decode (mk_c M1_measures) 24 = .ok (.istore 4, 2) := by decide +kernel
theorem d1_measures_26 : decode (mk_c M1_measures) 26 = .ok (.iload_n 3, 1) := by decide +kernel
theorem d1_measures_27 : decode (mk_c M1_measures) 27 = .ok (.ifCond .eq 67, 3) := by decide +kernel
theorem d1_measures_30 : decode (mk_c M1_measures) 30 = .ok (.iconst 0, 1) := by decide +kernel
theorem d1_measures_31 : decode (mk_c M1_measures) 31 = .ok (.istore_n 3, 1) := by decide +kernel
theorem d1_measures_32 : decode (mk_c M1_measures) 32 = .ok (.iconst 0, 1) := by decide +kernel
theorem d1_measures_33 : decode (mk_c M1_measures) 33 = .ok (.istore 5, 2) := by decide +kernel
theorem d1_measures_35 : decode (mk_c M1_measures) 35 = .ok (.iload 5, 2) := by decide +kernel
theorem d1_measures_37 : decode (mk_c M1_measures) 37 = .ok (.bipush 90, 2) := by decide +kernel
theorem d1_measures_39 : decode (mk_c M1_measures) 39 = .ok (.if_icmp .ge 49, 3) := by decide +kernel
theorem d1_measures_42 : decode (mk_c M1_measures) 42 = .ok (.aload_n 0, 1) := by decide +kernel
theorem d1_measures_43 : decode (mk_c M1_measures) 43 = .ok (.getfield 55, 3) := by decide +kernel
theorem d1_measures_46 : decode (mk_c M1_measures) 46 = .ok (.iload 5, 2) := by decide +kernel
theorem d1_measures_48 : decode (mk_c M1_measures) 48 = .ok (.iaload, 1) := by decide +kernel
theorem d1_measures_49 : decode (mk_c M1_measures) 49 = .ok (.ifCond .ne 33, 3) := by decide +kernel
theorem d1_measures_52 : decode (mk_c M1_measures) 52 = .ok (.aload_n 0, 1) := by decide +kernel
theorem d1_measures_53 : decode (mk_c M1_measures) 53 = .ok (.iload 5, 2) := by decide +kernel
theorem d1_measures_55 : decode (mk_c M1_measures) 55 = .ok (.iload 4, 2) := by decide +kernel
theorem d1_measures_57 : decode (mk_c M1_measures) 57 = .ok (.iconst 1, 1) := by decide +kernel
theorem d1_measures_58 : decode (mk_c M1_measures) 58 = .ok (.isub, 1) := by decide +kernel
theorem d1_measures_59 : decode (mk_c M1_measures) 59 = .ok (.iload_n 1, 1) := by decide +kernel
theorem d1_measures_60 : decode (mk_c M1_measures) 60 = .ok (.iload_n 2, 1) := by decide +kernel
theorem d1_measures_61 : decode (mk_c M1_measures) 61 = .ok (.invokevirtual 184, 3) := by decide +kernel
theorem d1_measures_64 : decode (mk_c M1_measures) 64 = .ok (.iconst (-1), 1) := by decide +kernel
theorem d1_measures_65 : decode (mk_c M1_measures) 65 = .ok (.if_icmp .ne 6, 3) := by decide +kernel
theorem d1_measures_68 : decode (mk_c M1_measures) 68 = .ok (.goto 14, 3) := by decide +kernel
theorem d1_measures_71 : decode (mk_c M1_measures) 71 = .ok (.aload_n 0, 1) := by decide +kernel
theorem d1_measures_72 : decode (mk_c M1_measures) 72 = .ok (.getfield 55, 3) := by decide +kernel
theorem d1_measures_75 : decode (mk_c M1_measures) 75 = .ok (.iload 5, 2) := by decide +kernel
theorem d1_measures_77 : decode (mk_c M1_measures) 77 = .ok (.iload 4, 2) := by decide +kernel
theorem d1_measures_79 : decode (mk_c M1_measures) 79 = .ok (.iastore, 1) := by decide +kernel
theorem d1_measures_80 : decode (mk_c M1_measures) 80 = .ok (.iconst 1, 1) := by decide +kernel
theorem d1_measures_81 : decode (mk_c M1_measures) 81 = .ok (.istore_n 3, 1) := by decide +kernel
theorem d1_measures_82 : decode (mk_c M1_measures) 82 = .ok (.iinc 5 1, 3) := by decide +kernel
theorem d1_measures_85 : decode (mk_c M1_measures) 85 = .ok (.goto (-50), 3) := by decide +kernel
theorem d1_measures_88 : decode (mk_c M1_measures) 88 = .ok (.iinc 4 1, 3) := by decide +kernel
theorem d1_measures_91 : decode (mk_c M1_measures) 91 = .ok (.goto (-65), 3) := by decide +kernel
theorem d1_measures_94 : decode (mk_c M1_measures) 94 = .ok (.return_, 1) := by decide +kernel
theorem d1_next_0 : decode (mk_c M1_next) 0 = .ok (.iconst 0, 1) := by decide +kernel
theorem d1_next_1 : decode (mk_c M1_next) 1 = .ok (.istore 5, 2) := by decide +kernel
theorem d1_next_3 : decode (mk_c M1_next) 3 = .ok (.iload 5, 2) := by decide +kernel
theorem d1_next_5 : decode (mk_c M1_next) 5 = .ok (.aload_n 0, 1) := by decide +kernel
theorem d1_next_6 : decode (mk_c M1_next) 6 = .ok (.getfield 73, 3) := by decide +kernel
theorem d1_next_9 : decode (mk_c M1_next) 9 = .ok (.if_icmp .ge 132, 3) := by decide +kernel
theorem d1_next_12 : decode (mk_c M1_next) 12 = .ok (.aload_n 0, 1) := by decide +kernel
theorem d1_next_13 : decode (mk_c M1_next) 13 = .ok (.iload 5, 2) := by decide +kernel
theorem d1_next_15 : decode (mk_c M1_next) 15 = .ok (.invokevirtual 188, 3) := by decide +kernel
theorem d1_next_18 : decode (mk_c M1_next) 18 = .ok (.ifCond .ne 6, 3) := by decide +kernel
theorem d1_next_21 : decode (mk_c M1_next) 21 = .ok (.goto 114, 3) := by decide +kernel
theorem d1_next_24 : decode (mk_c M1_next) 24 = .ok (.iconst 0, 1) := by decide +kernel
theorem d1_next_25 : decode (mk_c M1_next) 25 = .ok (.istore 6, 2) := by decide +kernel
theorem d1_next_27 : decode (mk_c M1_next) 27 = .ok (.iload 6, 2) := by decide +kernel
theorem d1_next_29 : decode (mk_c M1_next) 29 = .ok (.aload_n 0, 1) := by decide +kernel
theorem d1_next_30 : decode (mk_c M1_next) 30 = .ok (.getfield 24, 3) := by decide +kernel
theorem d1_next_33 : decode (mk_c M1_next) 33 = .ok (.iload 5, 2) := by decide +kernel
theorem d1_next_35 : decode (mk_c M1_next) 35 = .ok (.aaload, 1) := by decide +kernel
theorem d1_next_36 : decode (mk_c M1_next) 36 = .ok (.getfield 133, 3) := by decide +kernel
theorem d1_next_39 : decode (mk_c M1_next) 39 = .ok (.if_icmp .ge 96, 3) := by decide +kernel
theorem d1_next_42 : decode (mk_c M1_next) 42 = .ok (.aload_n 0, 1) := by decide +kernel
theorem d1_next_43 : decode (mk_c M1_next) 43 = .ok (.getfield 24, 3) := by decide +kernel
theorem d1_next_46 : decode (mk_c M1_next) 46 = .ok (.iload 5, 2) := by decide +kernel
theorem d1_next_48 : decode (mk_c M1_next) 48 = .ok (.aaload, 1) := by decide +kernel
theorem d1_next_49 : decode (mk_c M1_next) 49 = .ok (.getfield 136, 3) := by decide +kernel
theorem d1_next_52 : decode (mk_c M1_next) 52 = .ok (.iload 6, 2) := by decide +kernel
theorem d1_next_54 : decode (mk_c M1_next) 54 = .ok (.aaload, 1) := by decide +kernel
theorem d1_next_55 : decode (mk_c M1_next) 55 = .ok (.astore 7, 2) := by decide +kernel
theorem d1_next_57 : decode (mk_c M1_next) 57 = .ok (.iload_n 2, 1) := by decide +kernel
theorem d1_next_58 : decode (mk_c M1_next) 58 = .ok (.ifCond .ne 26, 3) := by decide +kernel
theorem d1_next_61 : decode (mk_c M1_next) 61 = .ok (.aload_n 0, 1) := by decide +kernel
theorem d1_next_62 : decode (mk_c M1_next) 62 = .ok (.aload 7, 2) := by decide +kernel
theorem d1_next_64 : decode (mk_c M1_next) 64 = .ok (.iload 5, 2) := by decide +kernel
theorem d1_next_66 : decode (mk_c M1_next) 66 = .ok (.iload_n 1, 1) := by decide +kernel
theorem d1_next_67 : decode (mk_c M1_next) 67 = .ok (.iload 4, 2) := by decide +kernel
theorem d1_next_69 : decode (mk_c M1_next) 69 = .ok (.invokevirtual 191, 3) := by decide +kernel
theorem d1_next_72 : decode (mk_c M1_next) 72 = .ok (.ifCond .eq 12, 3) := by decide +kernel
theorem d1_next_75 : decode (mk_c M1_next) 75 = .ok (.bipush 100, 2) := by decide +kernel
theorem d1_next_77 : decode (mk_c M1_next) 77 = .ok (.iload 5, 2) := by decide +kernel
theorem d1_next_79 : decode (mk_c M1_next) 79 = .ok (.imul, 1) := by decide +kernel
theorem d1_next_80 : decode (mk_c M1_next) 80 = .ok (.iload 6, 2) := by decide +kernel
theorem d1_next_82 : decode (mk_c M1_next) 82 = .ok (.iadd, 1) := by decide +kernel
theorem d1_next_83 : decode (mk_c M1_next) 83 = .ok (.ireturn, 1) := by decide +kernel
theorem d1_next_84 : decode (mk_c M1_next) 84 = .ok (.aload 7, 2) := by decide +kernel
theorem d1_next_86 : decode (mk_c M1_next) 86 = .ok (.aload_n 0, 1) := by decide +kernel
theorem d1_next_87 : decode (mk_c M1_next) 87 = .ok (.getfield 37, 3) := by decide +kernel
theorem d1_next_90 : decode (mk_c M1_next) 90 = .ok (.iload 5, 2) := by decide +kernel
theorem d1_next_92 : decode (mk_c M1_next) 92 = .ok (.iload_n 1, 1) := by decide +kernel
theorem d1_next_93 : decode (mk_c M1_next) 93 = .ok (.iload_n 3, 1) := by decide +kernel
theorem d1_next_94 : decode (mk_c M1_next) 94 = .ok (.invokevirtual 195, 3) := by decide +kernel
theorem d1_next_97 : decode (mk_c M1_next) 97 = .ok (.istore 8, 2) := by decide +kernel
theorem d1_next_99 : decode (mk_c M1_next) 99 = .ok (.iload_n 2, 1) := by decide +kernel
theorem d1_next_100 : decode (mk_c M1_next) 100 = .ok (.ifCond .le 29, 3) := by decide +kernel
theorem d1_next_103 : decode (mk_c M1_next) 103 = .ok (.iload 8, 2) := by decide +kernel
theorem d1_next_105 : decode (mk_c M1_next) 105 = .ok (.iconst (-1), 1) := by decide +kernel
theorem d1_next_106 : decode (mk_c M1_next) 106 = .ok (.if_icmp .eq 23, 3) := by decide +kernel
theorem d1_next_109 : decode (mk_c M1_next) 109 = .ok (.aload_n 0, 1) := by decide +kernel
theorem d1_next_110 : decode (mk_c M1_next) 110 = .ok (.getfield 55, 3) := by decide +kernel
theorem d1_next_113 : decode (mk_c M1_next) 113 = .ok (.iload 8, 2) := by decide +kernel
theorem d1_next_115 : decode (mk_c M1_next) 115 = .ok (.iaload, 1) := by decide +kernel
theorem d1_next_116 : decode (mk_c M1_next) 116 = .ok (.iload_n 2, 1) := by decide +kernel
theorem d1_next_117 : decode (mk_c M1_next) 117 = .ok (.if_icmp .ne 12, 3) := by decide +kernel
theorem d1_next_120 : decode (mk_c M1_next) 120 = .ok (.bipush 100, 2) := by decide +kernel
theorem d1_next_122 : decode (mk_c M1_next) 122 = .ok (.iload 5, 2) := by decide +kernel
theorem d1_next_124 : decode (mk_c M1_next) 124 = .ok (.imul, 1) := by decide +kernel
theorem d1_next_125 : decode (mk_c M1_next) 125 = .ok (.iload 6, 2) := by decide +kernel
theorem d1_next_127 : decode (mk_c M1_next) 127 = .ok (.iadd, 1) := by decide +kernel
theorem d1_next_128 : decode (mk_c M1_next) 128 = .ok (.ireturn, 1) := by decide +kernel
theorem d1_next_129 : decode (mk_c M1_next) 129 = .ok (.iinc 6 1, 3) := by decide +kernel
theorem d1_next_132 : decode (mk_c M1_next) 132 = .ok (.goto (-105), 3) := by decide +kernel
theorem d1_next_135 : decode (mk_c M1_next) 135 = .ok (.iinc 5 1, 3) := by decide +kernel
theorem d1_next_138 : decode (mk_c M1_next) 138 = .ok (.goto (-135), 3) := by decide +kernel
theorem d1_next_141 : decode (mk_c M1_next) 141 = .ok (.iconst (-1), 1) := by decide +kernel
theorem d1_next_142 : decode (mk_c M1_next) 142 = .ok (.ireturn, 1) := by decide +kernel
theorem d1_isAsked_0 : decode (mk_c M1_isAsked) 0 = .ok (.aload_n 0, 1) := by decide +kernel
theorem d1_isAsked_1 : decode (mk_c M1_isAsked) 1 = .ok (.invokevirtual 156, 3) := by decide +kernel
theorem d1_isAsked_4 : decode (mk_c M1_isAsked) 4 = .ok (.getfield 168, 3) := by decide +kernel
theorem d1_isAsked_7 : decode (mk_c M1_isAsked) 7 = .ok (.iload_n 1, 1) := by decide +kernel
theorem d1_isAsked_8 : decode (mk_c M1_isAsked) 8 = .ok (.ishr, 1) := by decide +kernel
theorem d1_isAsked_9 : decode (mk_c M1_isAsked) 9 = .ok (.iconst 1, 1) := by decide +kernel
theorem d1_isAsked_10 : decode (mk_c M1_isAsked) 10 = .ok (.iand, 1) := by decide +kernel
theorem d1_isAsked_11 : decode (mk_c M1_isAsked) 11 = .ok (.iconst 1, 1) := by decide +kernel
theorem d1_isAsked_12 : decode (mk_c M1_isAsked) 12 = .ok (.if_icmp .ne 7, 3) := by decide +kernel
theorem d1_isAsked_15 : decode (mk_c M1_isAsked) 15 = .ok (.iconst 1, 1) := by decide +kernel
theorem d1_isAsked_16 : decode (mk_c M1_isAsked) 16 = .ok (.goto 4, 3) := by decide +kernel
theorem d1_isAsked_19 : decode (mk_c M1_isAsked) 19 = .ok (.iconst 0, 1) := by decide +kernel
theorem d1_isAsked_20 : decode (mk_c M1_isAsked) 20 = .ok (.ireturn, 1) := by decide +kernel
theorem d1_isOut_0 : decode (mk_c M1_isOut) 0 = .ok (.aload_n 1, 1) := by decide +kernel
theorem d1_isOut_1 : decode (mk_c M1_isOut) 1 = .ok (.getfield 140, 3) := by decide +kernel
theorem d1_isOut_4 : decode (mk_c M1_isOut) 4 = .ok (.iconst 3, 1) := by decide +kernel
theorem d1_isOut_5 : decode (mk_c M1_isOut) 5 = .ok (.if_icmp .ne 46, 3) := by decide +kernel
theorem d1_isOut_8 : decode (mk_c M1_isOut) 8 = .ok (.aload_n 1, 1) := by decide +kernel
theorem d1_isOut_9 : decode (mk_c M1_isOut) 9 = .ok (.getfield 143, 3) := by decide +kernel
theorem d1_isOut_12 : decode (mk_c M1_isOut) 12 = .ok (.iload 4, 2) := by decide +kernel
theorem d1_isOut_14 : decode (mk_c M1_isOut) 14 = .ok (.if_icmp .ne 37, 3) := by decide +kernel
theorem d1_isOut_17 : decode (mk_c M1_isOut) 17 = .ok (.iload_n 3, 1) := by decide +kernel
theorem d1_isOut_18 : decode (mk_c M1_isOut) 18 = .ok (.iload_n 2, 1) := by decide +kernel
theorem d1_isOut_19 : decode (mk_c M1_isOut) 19 = .ok (.aload_n 1, 1) := by decide +kernel
theorem d1_isOut_20 : decode (mk_c M1_isOut) 20 = .ok (.getfield 146, 3) := by decide +kernel
theorem d1_isOut_23 : decode (mk_c M1_isOut) 23 = .ok (.invokestatic 162, 3) := by decide +kernel
theorem d1_isOut_26 : decode (mk_c M1_isOut) 26 = .ok (.if_icmp .ne 25, 3) := by decide +kernel
theorem d1_isOut_29 : decode (mk_c M1_isOut) 29 = .ok (.aload_n 0, 1) := by decide +kernel
theorem d1_isOut_30 : decode (mk_c M1_isOut) 30 = .ok (.getfield 24, 3) := by decide +kernel
theorem d1_isOut_33 : decode (mk_c M1_isOut) 33 = .ok (.iload_n 2, 1) := by decide +kernel
theorem d1_isOut_34 : decode (mk_c M1_isOut) 34 = .ok (.aaload, 1) := by decide +kernel
theorem d1_isOut_35 : decode (mk_c M1_isOut) 35 = .ok (.getfield 100, 3) := by decide +kernel
theorem d1_isOut_38 : decode (mk_c M1_isOut) 38 = .ok (.iload 4, 2) := by decide +kernel
theorem d1_isOut_40 : decode (mk_c M1_isOut) 40 = .ok (.ishr, 1) := by decide +kernel
theorem d1_isOut_41 : decode (mk_c M1_isOut) 41 = .ok (.iconst 1, 1) := by decide +kernel
theorem d1_isOut_42 : decode (mk_c M1_isOut) 42 = .ok (.iand, 1) := by decide +kernel
theorem d1_isOut_43 : decode (mk_c M1_isOut) 43 = .ok (.iconst 1, 1) := by decide +kernel
theorem d1_isOut_44 : decode (mk_c M1_isOut) 44 = .ok (.if_icmp .ne 7, 3) := by decide +kernel
theorem d1_isOut_47 : decode (mk_c M1_isOut) 47 = .ok (.iconst 1, 1) := by decide +kernel
theorem d1_isOut_48 : decode (mk_c M1_isOut) 48 = .ok (.goto 4, 3) := by decide +kernel
theorem d1_isOut_51 : decode (mk_c M1_isOut) 51 = .ok (.iconst 0, 1) := by decide +kernel
theorem d1_isOut_52 : decode (mk_c M1_isOut) 52 = .ok (.ireturn, 1) := by decide +kernel
theorem d1_lays_0 : decode (mk_c M1_lays) 0 = .ok (.iload_n 1, 1) := by decide +kernel
theorem d1_lays_1 : decode (mk_c M1_lays) 1 = .ok (.bipush 100, 2) := by decide +kernel
theorem d1_lays_3 : decode (mk_c M1_lays) 3 = .ok (.idiv, 1) := by decide +kernel
theorem d1_lays_4 : decode (mk_c M1_lays) 4 = .ok (.aload_n 0, 1) := by decide +kernel
theorem d1_lays_5 : decode (mk_c M1_lays) 5 = .ok (.iload_n 1, 1) := by decide +kernel
theorem d1_lays_6 : decode (mk_c M1_lays) 6 = .ok (.invokevirtual 210, 3) := by decide +kernel
theorem d1_lays_9 : decode (mk_c M1_lays) 9 = .ok (.getfield 146, 3) := by decide +kernel
theorem d1_lays_12 : decode (mk_c M1_lays) 12 = .ok (.invokestatic 162, 3) := by decide +kernel
theorem d1_lays_15 : decode (mk_c M1_lays) 15 = .ok (.istore 5, 2) := by decide +kernel
theorem d1_lays_17 : decode (mk_c M1_lays) 17 = .ok (.iload_n 2, 1) := by decide +kernel
theorem d1_lays_18 : decode (mk_c M1_lays) 18 = .ok (.iconst 1, 1) := by decide +kernel
theorem d1_lays_19 : decode (mk_c M1_lays) 19 = .ok (.isub, 1) := by decide +kernel
theorem d1_lays_20 : decode (mk_c M1_lays) 20 = .ok (.istore 6, 2) := by decide +kernel
theorem d1_lays_22 : decode (mk_c M1_lays) 22 = .ok (.iload 6, 2) := by decide +kernel
theorem d1_lays_24 : decode (mk_c M1_lays) 24 = .ok (.ifCond .lt 71, 3) := by decide +kernel
theorem d1_lays_27 : decode (mk_c M1_lays) 27 = .ok (.aload_n 0, 1) := by decide +kernel
theorem d1_lays_28 : decode (mk_c M1_lays) 28 = .ok (.iload 5, 2) := by decide +kernel
theorem d1_lays_30 : decode (mk_c M1_lays) 30 = .ok (.iload 6, 2) := by decide +kernel
theorem d1_lays_32 : decode (mk_c M1_lays) 32 = .ok (.iload_n 3, 1) := by decide +kernel
theorem d1_lays_33 : decode (mk_c M1_lays) 33 = .ok (.iload 4, 2) := by decide +kernel
theorem d1_lays_35 : decode (mk_c M1_lays) 35 = .ok (.invokevirtual 184, 3) := by decide +kernel
theorem d1_lays_38 : decode (mk_c M1_lays) 38 = .ok (.istore 7, 2) := by decide +kernel
theorem d1_lays_40 : decode (mk_c M1_lays) 40 = .ok (.aload_n 0, 1) := by decide +kernel
theorem d1_lays_41 : decode (mk_c M1_lays) 41 = .ok (.getfield 58, 3) := by decide +kernel
theorem d1_lays_44 : decode (mk_c M1_lays) 44 = .ok (.aload_n 0, 1) := by decide +kernel
theorem d1_lays_45 : decode (mk_c M1_lays) 45 = .ok (.getfield 203, 3) := by decide +kernel
theorem d1_lays_48 : decode (mk_c M1_lays) 48 = .ok (.iload 7, 2) := by decide +kernel
theorem d1_lays_50 : decode (mk_c M1_lays) 50 = .ok (.iastore, 1) := by decide +kernel
theorem d1_lays_51 : decode (mk_c M1_lays) 51 = .ok (.aload_n 0, 1) := by decide +kernel
theorem d1_lays_52 : decode (mk_c M1_lays) 52 = .ok (.dup, 1) := by decide +kernel
theorem d1_lays_53 : decode (mk_c M1_lays) 53 = .ok (.getfield 203, 3) := by decide +kernel
theorem d1_lays_56 : decode (mk_c M1_lays) 56 = .ok (.iconst 1, 1) := by decide +kernel
theorem d1_lays_57 : decode (mk_c M1_lays) 57 = .ok (.iadd, 1) := by decide +kernel
theorem d1_lays_58 : decode (mk_c M1_lays) 58 = .ok (.putfield 203, 3) := by decide +kernel
theorem d1_lays_61 : decode (mk_c M1_lays) 61 = .ok (.iload 6, 2) := by decide +kernel
theorem d1_lays_63 : decode (mk_c M1_lays) 63 = .ok (.ifCond .le 26, 3) := by decide +kernel
theorem d1_lays_66 : decode (mk_c M1_lays) 66 = .ok (.aload_n 0, 1) := by decide +kernel
theorem d1_lays_67 : decode (mk_c M1_lays) 67 = .ok (.iload 7, 2) := by decide +kernel
theorem d1_lays_69 : decode (mk_c M1_lays) 69 = .ok (.invokevirtual 210, 3) := by decide +kernel
theorem d1_lays_72 : decode (mk_c M1_lays) 72 = .ok (.aload_n 0, 1) := by decide +kernel
theorem d1_lays_73 : decode (mk_c M1_lays) 73 = .ok (.getfield 37, 3) := by decide +kernel
theorem d1_lays_76 : decode (mk_c M1_lays) 76 = .ok (.iload 7, 2) := by decide +kernel
theorem d1_lays_78 : decode (mk_c M1_lays) 78 = .ok (.bipush 100, 2) := by decide +kernel
theorem d1_lays_80 : decode (mk_c M1_lays) 80 = .ok (.idiv, 1) := by decide +kernel
theorem d1_lays_81 : decode (mk_c M1_lays) 81 = .ok (.iload 5, 2) := by decide +kernel
theorem d1_lays_83 : decode (mk_c M1_lays) 83 = .ok (.iload_n 3, 1) := by decide +kernel
theorem d1_lays_84 : decode (mk_c M1_lays) 84 = .ok (.invokevirtual 195, 3) := by decide +kernel
theorem d1_lays_87 : decode (mk_c M1_lays) 87 = .ok (.istore 5, 2) := by decide +kernel
theorem d1_lays_89 : decode (mk_c M1_lays) 89 = .ok (.iinc 6 (-1), 3) := by decide +kernel
theorem d1_lays_92 : decode (mk_c M1_lays) 92 = .ok (.goto (-70), 3) := by decide +kernel
theorem d1_lays_95 : decode (mk_c M1_lays) 95 = .ok (.return_, 1) := by decide +kernel
theorem d1_lineAt_0 : decode (mk_c M1_lineAt) 0 = .ok (.aload_n 0, 1) := by decide +kernel
theorem d1_lineAt_1 : decode (mk_c M1_lineAt) 1 = .ok (.getfield 24, 3) := by decide +kernel
theorem d1_lineAt_4 : decode (mk_c M1_lineAt) 4 = .ok (.iload_n 1, 1) := by decide +kernel
theorem d1_lineAt_5 : decode (mk_c M1_lineAt) 5 = .ok (.bipush 100, 2) := by decide +kernel
theorem d1_lineAt_7 : decode (mk_c M1_lineAt) 7 = .ok (.idiv, 1) := by decide +kernel
theorem d1_lineAt_8 : decode (mk_c M1_lineAt) 8 = .ok (.aaload, 1) := by decide +kernel
theorem d1_lineAt_9 : decode (mk_c M1_lineAt) 9 = .ok (.getfield 136, 3) := by decide +kernel
theorem d1_lineAt_12 : decode (mk_c M1_lineAt) 12 = .ok (.iload_n 1, 1) := by decide +kernel
theorem d1_lineAt_13 : decode (mk_c M1_lineAt) 13 = .ok (.bipush 100, 2) := by decide +kernel
theorem d1_lineAt_15 : decode (mk_c M1_lineAt) 15 = .ok (.irem, 1) := by decide +kernel
theorem d1_lineAt_16 : decode (mk_c M1_lineAt) 16 = .ok (.aaload, 1) := by decide +kernel
theorem d1_lineAt_17 : decode (mk_c M1_lineAt) 17 = .ok (.areturn, 1) := by decide +kernel
theorem d1_needed_0 : decode (mk_c M1_needed) 0 = .ok (.aload_n 0, 1) := by decide +kernel
theorem d1_needed_1 : decode (mk_c M1_needed) 1 = .ok (.iload_n 1, 1) := by decide +kernel
theorem d1_needed_2 : decode (mk_c M1_needed) 2 = .ok (.invokevirtual 103, 3) := by decide +kernel
theorem d1_needed_5 : decode (mk_c M1_needed) 5 = .ok (.ifCond .eq 11, 3) := by decide +kernel
theorem d1_needed_8 : decode (mk_c M1_needed) 8 = .ok (.aload_n 0, 1) := by decide +kernel
theorem d1_needed_9 : decode (mk_c M1_needed) 9 = .ok (.iload_n 1, 1) := by decide +kernel
theorem d1_needed_10 : decode (mk_c M1_needed) 10 = .ok (.invokevirtual 220, 3) := by decide +kernel
theorem d1_needed_13 : decode (mk_c M1_needed) 13 = .ok (.goto 4, 3) := by decide +kernel
theorem d1_needed_16 : decode (mk_c M1_needed) 16 = .ok (.iconst (-1), 1) := by decide +kernel
theorem d1_needed_17 : decode (mk_c M1_needed) 17 = .ok (.ireturn, 1) := by decide +kernel
theorem d1_needs_0 : decode (mk_c M1_needs) 0 = .ok (.aload_n 0, 1) := by decide +kernel
theorem d1_needs_1 : decode (mk_c M1_needs) 1 = .ok (.iload_n 1, 1) := by decide +kernel
theorem d1_needs_2 : decode (mk_c M1_needs) 2 = .ok (.invokevirtual 188, 3) := by decide +kernel
theorem d1_needs_5 : decode (mk_c M1_needs) 5 = .ok (.ifCond .eq 15, 3) := by decide +kernel
theorem d1_needs_8 : decode (mk_c M1_needs) 8 = .ok (.aload_n 0, 1) := by decide +kernel
theorem d1_needs_9 : decode (mk_c M1_needs) 9 = .ok (.getfield 24, 3) := by decide +kernel
theorem d1_needs_12 : decode (mk_c M1_needs) 12 = .ok (.iload_n 1, 1) := by decide +kernel
theorem d1_needs_13 : decode (mk_c M1_needs) 13 = .ok (.aaload, 1) := by decide +kernel
theorem d1_needs_14 : decode (mk_c M1_needs) 14 = .ok (.invokevirtual 217, 3) := by decide +kernel
theorem d1_needs_17 : decode (mk_c M1_needs) 17 = .ok (.goto 4, 3) := by decide +kernel
theorem d1_needs_20 : decode (mk_c M1_needs) 20 = .ok (.iconst 0, 1) := by decide +kernel
theorem d1_needs_21 : decode (mk_c M1_needs) 21 = .ok (.ireturn, 1) := by decide +kernel
theorem d1_idle_0 : decode (mk_c M1_idle) 0 = .ok (.aload_n 0, 1) := by decide +kernel
theorem d1_idle_1 : decode (mk_c M1_idle) 1 = .ok (.iload_n 1, 1) := by decide +kernel
theorem d1_idle_2 : decode (mk_c M1_idle) 2 = .ok (.invokevirtual 103, 3) := by decide +kernel
theorem d1_idle_5 : decode (mk_c M1_idle) 5 = .ok (.ifCond .eq 23, 3) := by decide +kernel
theorem d1_idle_8 : decode (mk_c M1_idle) 8 = .ok (.aload_n 0, 1) := by decide +kernel
theorem d1_idle_9 : decode (mk_c M1_idle) 9 = .ok (.getfield 24, 3) := by decide +kernel
theorem d1_idle_12 : decode (mk_c M1_idle) 12 = .ok (.iload_n 1, 1) := by decide +kernel
theorem d1_idle_13 : decode (mk_c M1_idle) 13 = .ok (.aaload, 1) := by decide +kernel
theorem d1_idle_14 : decode (mk_c M1_idle) 14 = .ok (.getfield 100, 3) := by decide +kernel
theorem d1_idle_17 : decode (mk_c M1_idle) 17 = .ok (.aload_n 0, 1) := by decide +kernel
theorem d1_idle_18 : decode (mk_c M1_idle) 18 = .ok (.iload_n 1, 1) := by decide +kernel
theorem d1_idle_19 : decode (mk_c M1_idle) 19 = .ok (.invokevirtual 220, 3) := by decide +kernel
theorem d1_idle_22 : decode (mk_c M1_idle) 22 = .ok (.iconst (-1), 1) := by decide +kernel
theorem d1_idle_23 : decode (mk_c M1_idle) 23 = .ok (.ixor, 1) := by decide +kernel
theorem d1_idle_24 : decode (mk_c M1_idle) 24 = .ok (.iand, 1) := by decide +kernel
theorem d1_idle_25 : decode (mk_c M1_idle) 25 = .ok (.goto 4, 3) := by decide +kernel
theorem d1_idle_28 : decode (mk_c M1_idle) 28 = .ok (.iconst (-1), 1) := by decide +kernel
theorem d1_idle_29 : decode (mk_c M1_idle) 29 = .ok (.ireturn, 1) := by decide +kernel
theorem d1_lacking_0 : decode (mk_c M1_lacking) 0 = .ok (.aload_n 0, 1) := by decide +kernel
theorem d1_lacking_1 : decode (mk_c M1_lacking) 1 = .ok (.iload_n 1, 1) := by decide +kernel
theorem d1_lacking_2 : decode (mk_c M1_lacking) 2 = .ok (.invokevirtual 103, 3) := by decide +kernel
theorem d1_lacking_5 : decode (mk_c M1_lacking) 5 = .ok (.ifCond .eq 23, 3) := by decide +kernel
theorem d1_lacking_8 : decode (mk_c M1_lacking) 8 = .ok (.aload_n 0, 1) := by decide +kernel
theorem d1_lacking_9 : decode (mk_c M1_lacking) 9 = .ok (.iload_n 1, 1) := by decide +kernel
theorem d1_lacking_10 : decode (mk_c M1_lacking) 10 = .ok (.invokevirtual 220, 3) := by decide +kernel
theorem d1_lacking_13 : decode (mk_c M1_lacking) 13 = .ok (.aload_n 0, 1) := by decide +kernel
theorem d1_lacking_14 : decode (mk_c M1_lacking) 14 = .ok (.getfield 24, 3) := by decide +kernel
theorem d1_lacking_17 : decode (mk_c M1_lacking) 17 = .ok (.iload_n 1, 1) := by decide +kernel
theorem d1_lacking_18 : decode (mk_c M1_lacking) 18 = .ok (.aaload, 1) := by decide +kernel
theorem d1_lacking_19 : decode (mk_c M1_lacking) 19 = .ok (.getfield 100, 3) := by decide +kernel
theorem d1_lacking_22 : decode (mk_c M1_lacking) 22 = .ok (.iconst (-1), 1) := by decide +kernel
theorem d1_lacking_23 : decode (mk_c M1_lacking) 23 = .ok (.ixor, 1) := by decide +kernel
theorem d1_lacking_24 : decode (mk_c M1_lacking) 24 = .ok (.iand, 1) := by decide +kernel
theorem d1_lacking_25 : decode (mk_c M1_lacking) 25 = .ok (.goto 4, 3) := by decide +kernel
theorem d1_lacking_28 : decode (mk_c M1_lacking) 28 = .ok (.iconst (-1), 1) := by decide +kernel
theorem d1_lacking_29 : decode (mk_c M1_lacking) 29 = .ok (.ireturn, 1) := by decide +kernel
theorem d1_helped_0 : decode (mk_c M1_helped) 0 = .ok (.aload_n 0, 1) := by decide +kernel
theorem d1_helped_1 : decode (mk_c M1_helped) 1 = .ok (.iload_n 1, 1) := by decide +kernel
theorem d1_helped_2 : decode (mk_c M1_helped) 2 = .ok (.invokevirtual 103, 3) := by decide +kernel
theorem d1_helped_5 : decode (mk_c M1_helped) 5 = .ok (.ifCond .ne 5, 3) := by decide +kernel
theorem d1_helped_8 : decode (mk_c M1_helped) 8 = .ok (.iconst (-1), 1) := by decide +kernel
theorem d1_helped_9 : decode (mk_c M1_helped) 9 = .ok (.ireturn, 1) := by decide +kernel
theorem d1_helped_10 : decode (mk_c M1_helped) 10 = .ok (.aload_n 0, 1) := by decide +kernel
theorem d1_helped_11 : decode (mk_c M1_helped) 11 = .ok (.iload_n 1, 1) := by decide +kernel
theorem d1_helped_12 : decode (mk_c M1_helped) 12 = .ok (.invokevirtual 188, 3) := by decide +kernel
theorem d1_helped_15 : decode (mk_c M1_helped) 15 = .ok (.ifCond .ne 5, 3) := by decide +kernel
theorem d1_helped_18 : decode (mk_c M1_helped) 18 = .ok (.iconst 0, 1) := by decide +kernel
theorem d1_helped_19 : decode (mk_c M1_helped) 19 = .ok (.ireturn, 1) := by decide +kernel
theorem d1_helped_20 : decode (mk_c M1_helped) 20 = .ok (.aload_n 0, 1) := by decide +kernel
theorem d1_helped_21 : decode (mk_c M1_helped) 21 = .ok (.iload_n 1, 1) := by decide +kernel
theorem d1_helped_22 : decode (mk_c M1_helped) 22 = .ok (.invokevirtual 222, 3) := by decide +kernel
theorem d1_helped_25 : decode (mk_c M1_helped) 25 = .ok (.istore_n 2, 1) := by decide +kernel
theorem d1_helped_26 : decode (mk_c M1_helped) 26 = .ok (.iconst 0, 1) := by decide +kernel
theorem d1_helped_27 : decode (mk_c M1_helped) 27 = .ok (.istore_n 3, 1) := by decide +kernel
theorem d1_helped_28 : decode (mk_c M1_helped) 28 = .ok (.iload_n 2, 1) := by decide +kernel
theorem d1_helped_29 : decode (mk_c M1_helped) 29 = .ok (.iload_n 3, 1) := by decide +kernel
theorem d1_helped_30 : decode (mk_c M1_helped) 30 = .ok (.if_icmp .eq 45, 3) := by decide +kernel
theorem d1_helped_33 : decode (mk_c M1_helped) 33 = .ok (.iload_n 2, 1) := by decide +kernel
theorem d1_helped_34 : decode (mk_c M1_helped) 34 = .ok (.istore_n 3, 1) := by decide +kernel
theorem d1_helped_35 : decode (mk_c M1_helped) 35 = .ok (.iconst 0, 1) := by decide +kernel
theorem d1_helped_36 : decode (mk_c M1_helped) 36 = .ok (.istore 4, 2) := by decide +kernel
theorem d1_helped_38 : decode (mk_c M1_helped) 38 = .ok (.iload 4, 2) := by decide +kernel
theorem d1_helped_40 : decode (mk_c M1_helped) 40 = .ok (.aload_n 0, 1) := by decide +kernel
theorem d1_helped_41 : decode (mk_c M1_helped) 41 = .ok (.getfield 73, 3) := by decide +kernel
theorem d1_helped_44 : decode (mk_c M1_helped) 44 = .ok (.if_icmp .ge 28, 3) := by decide +kernel
theorem d1_helped_47 : decode (mk_c M1_helped) 47 = .ok (.iload_n 3, 1) := by decide +kernel
theorem d1_helped_48 : decode (mk_c M1_helped) 48 = .ok (.iload 4, 2) := by decide +kernel
theorem d1_helped_50 : decode (mk_c M1_helped) 50 = .ok (.ishr, 1) := by decide +kernel
theorem d1_helped_51 : decode (mk_c M1_helped) 51 = .ok (.iconst 1, 1) := by decide +kernel
theorem d1_helped_52 : decode (mk_c M1_helped) 52 = .ok (.iand, 1) := by decide +kernel
theorem d1_helped_53 : decode (mk_c M1_helped) 53 = .ok (.iconst 1, 1) := by decide +kernel
theorem d1_helped_54 : decode (mk_c M1_helped) 54 = .ok (.if_icmp .ne 12, 3) := by decide +kernel
theorem d1_helped_57 : decode (mk_c M1_helped) 57 = .ok (.iload_n 2, 1) := by decide +kernel
theorem d1_helped_58 : decode (mk_c M1_helped) 58 = .ok (.aload_n 0, 1) := by decide +kernel
theorem d1_helped_59 : decode (mk_c M1_helped) 59 = .ok (.iload 4, 2) := by decide +kernel
theorem d1_helped_61 : decode (mk_c M1_helped) 61 = .ok (.invokevirtual 222, 3) := by decide +kernel
theorem d1_helped_64 : decode (mk_c M1_helped) 64 = .ok (.ior, 1) := by decide +kernel
theorem d1_helped_65 : decode (mk_c M1_helped) 65 = .ok (.istore_n 2, 1) := by decide +kernel
theorem d1_helped_66 : decode (mk_c M1_helped) 66 = .ok (.iinc 4 1, 3) := by decide +kernel
theorem d1_helped_69 : decode (mk_c M1_helped) 69 = .ok (.goto (-31), 3) := by decide +kernel
theorem d1_helped_72 : decode (mk_c M1_helped) 72 = .ok (.goto (-44), 3) := by decide +kernel
theorem d1_helped_75 : decode (mk_c M1_helped) 75 = .ok (.iconst 0, 1) := by decide +kernel
theorem d1_helped_76 : decode (mk_c M1_helped) 76 = .ok (.istore 4, 2) := by decide +kernel
theorem d1_helped_78 : decode (mk_c M1_helped) 78 = .ok (.iconst 0, 1) := by decide +kernel
theorem d1_helped_79 : decode (mk_c M1_helped) 79 = .ok (.istore 5, 2) := by decide +kernel
theorem d1_helped_81 : decode (mk_c M1_helped) 81 = .ok (.iload 5, 2) := by decide +kernel
theorem d1_helped_83 : decode (mk_c M1_helped) 83 = .ok (.aload_n 0, 1) := by decide +kernel
theorem d1_helped_84 : decode (mk_c M1_helped) 84 = .ok (.getfield 73, 3) := by decide +kernel
theorem d1_helped_87 : decode (mk_c M1_helped) 87 = .ok (.if_icmp .ge 41, 3) := by decide +kernel
theorem d1_helped_90 : decode (mk_c M1_helped) 90 = .ok (.iload_n 2, 1) := by decide +kernel
theorem d1_helped_91 : decode (mk_c M1_helped) 91 = .ok (.iload 5, 2) := by decide +kernel
theorem d1_helped_93 : decode (mk_c M1_helped) 93 = .ok (.ishr, 1) := by decide +kernel
theorem d1_helped_94 : decode (mk_c M1_helped) 94 = .ok (.iconst 1, 1) := by decide +kernel
theorem d1_helped_95 : decode (mk_c M1_helped) 95 = .ok (.iand, 1) := by decide +kernel
theorem d1_helped_96 : decode (mk_c M1_helped) 96 = .ok (.iconst 1, 1) := by decide +kernel
theorem d1_helped_97 : decode (mk_c M1_helped) 97 = .ok (.if_icmp .ne 25, 3) := by decide +kernel
theorem d1_helped_100 : decode (mk_c M1_helped) 100 = .ok (.iload 4, 2) := by decide +kernel
theorem d1_helped_102 : decode (mk_c M1_helped) 102 = .ok (.aload_n 0, 1) := by decide +kernel
theorem d1_helped_103 : decode (mk_c M1_helped) 103 = .ok (.getfield 24, 3) := by decide +kernel
theorem d1_helped_106 : decode (mk_c M1_helped) 106 = .ok (.iload 5, 2) := by decide +kernel
theorem d1_helped_108 : decode (mk_c M1_helped) 108 = .ok (.aaload, 1) := by decide +kernel
theorem d1_helped_109 : decode (mk_c M1_helped) 109 = .ok (.getfield 100, 3) := by decide +kernel
theorem d1_helped_112 : decode (mk_c M1_helped) 112 = .ok (.aload_n 0, 1) := by decide +kernel
theorem d1_helped_113 : decode (mk_c M1_helped) 113 = .ok (.iload 5, 2) := by decide +kernel
theorem d1_helped_115 : decode (mk_c M1_helped) 115 = .ok (.invokevirtual 220, 3) := by decide +kernel
theorem d1_helped_118 : decode (mk_c M1_helped) 118 = .ok (.iand, 1) := by decide +kernel
theorem d1_helped_119 : decode (mk_c M1_helped) 119 = .ok (.ior, 1) := by decide +kernel
theorem d1_helped_120 : decode (mk_c M1_helped) 120 = .ok (.istore 4, 2) := by decide +kernel
theorem d1_helped_122 : decode (mk_c M1_helped) 122 = .ok (.iinc 5 1, 3) := by decide +kernel
theorem d1_helped_125 : decode (mk_c M1_helped) 125 = .ok (.goto (-44), 3) := by decide +kernel
theorem d1_helped_128 : decode (mk_c M1_helped) 128 = .ok (.iload 4, 2) := by decide +kernel
theorem d1_helped_130 : decode (mk_c M1_helped) 130 = .ok (.aload_n 0, 1) := by decide +kernel
theorem d1_helped_131 : decode (mk_c M1_helped) 131 = .ok (.getfield 24, 3) := by decide +kernel
theorem d1_helped_134 : decode (mk_c M1_helped) 134 = .ok (.iload_n 1, 1) := by decide +kernel
theorem d1_helped_135 : decode (mk_c M1_helped) 135 = .ok (.aaload, 1) := by decide +kernel
theorem d1_helped_136 : decode (mk_c M1_helped) 136 = .ok (.getfield 100, 3) := by decide +kernel
theorem d1_helped_139 : decode (mk_c M1_helped) 139 = .ok (.iconst (-1), 1) := by decide +kernel
theorem d1_helped_140 : decode (mk_c M1_helped) 140 = .ok (.ixor, 1) := by decide +kernel
theorem d1_helped_141 : decode (mk_c M1_helped) 141 = .ok (.iand, 1) := by decide +kernel
theorem d1_helped_142 : decode (mk_c M1_helped) 142 = .ok (.ireturn, 1) := by decide +kernel
theorem d1_asks_0 : decode (mk_c M1_asks) 0 = .ok (.iconst 0, 1) := by decide +kernel
theorem d1_asks_1 : decode (mk_c M1_asks) 1 = .ok (.istore_n 2, 1) := by decide +kernel
theorem d1_asks_2 : decode (mk_c M1_asks) 2 = .ok (.iconst 0, 1) := by decide +kernel
theorem d1_asks_3 : decode (mk_c M1_asks) 3 = .ok (.istore_n 3, 1) := by decide +kernel
theorem d1_asks_4 : decode (mk_c M1_asks) 4 = .ok (.iload_n 3, 1) := by decide +kernel
theorem d1_asks_5 : decode (mk_c M1_asks) 5 = .ok (.aload_n 0, 1) := by decide +kernel
theorem d1_asks_6 : decode (mk_c M1_asks) 6 = .ok (.getfield 24, 3) := by decide +kernel
theorem d1_asks_9 : decode (mk_c M1_asks) 9 = .ok (.iload_n 1, 1) := by decide +kernel
theorem d1_asks_10 : decode (mk_c M1_asks) 10 = .ok (.aaload, 1) := by decide +kernel
theorem d1_asks_11 : decode (mk_c M1_asks) 11 = .ok (.getfield 133, 3) := by decide +kernel
theorem d1_asks_14 : decode (mk_c M1_asks) 14 = .ok (.if_icmp .ge 46, 3) := by decide +kernel
theorem d1_asks_17 : decode (mk_c M1_asks) 17 = .ok (.aload_n 0, 1) := by decide +kernel
theorem d1_asks_18 : decode (mk_c M1_asks) 18 = .ok (.getfield 24, 3) := by decide +kernel
theorem d1_asks_21 : decode (mk_c M1_asks) 21 = .ok (.iload_n 1, 1) := by decide +kernel
theorem d1_asks_22 : decode (mk_c M1_asks) 22 = .ok (.aaload, 1) := by decide +kernel
theorem d1_asks_23 : decode (mk_c M1_asks) 23 = .ok (.getfield 136, 3) := by decide +kernel
theorem d1_asks_26 : decode (mk_c M1_asks) 26 = .ok (.iload_n 3, 1) := by decide +kernel
theorem d1_asks_27 : decode (mk_c M1_asks) 27 = .ok (.aaload, 1) := by decide +kernel
theorem d1_asks_28 : decode (mk_c M1_asks) 28 = .ok (.getfield 140, 3) := by decide +kernel
theorem d1_asks_31 : decode (mk_c M1_asks) 31 = .ok (.iconst 2, 1) := by decide +kernel
theorem d1_asks_32 : decode (mk_c M1_asks) 32 = .ok (.if_icmp .ne 22, 3) := by decide +kernel
theorem d1_asks_35 : decode (mk_c M1_asks) 35 = .ok (.iload_n 2, 1) := by decide +kernel
theorem d1_asks_36 : decode (mk_c M1_asks) 36 = .ok (.iconst 1, 1) := by decide +kernel
theorem d1_asks_37 : decode (mk_c M1_asks) 37 = .ok (.aload_n 0, 1) := by decide +kernel
theorem d1_asks_38 : decode (mk_c M1_asks) 38 = .ok (.getfield 24, 3) := by decide +kernel
theorem d1_asks_41 : decode (mk_c M1_asks) 41 = .ok (.iload_n 1, 1) := by decide +kernel
theorem d1_asks_42 : decode (mk_c M1_asks) 42 = .ok (.aaload, 1) := by decide +kernel
theorem d1_asks_43 : decode (mk_c M1_asks) 43 = .ok (.getfield 136, 3) := by decide +kernel
theorem d1_asks_46 : decode (mk_c M1_asks) 46 = .ok (.iload_n 3, 1) := by decide +kernel
theorem d1_asks_47 : decode (mk_c M1_asks) 47 = .ok (.aaload, 1) := by decide +kernel
theorem d1_asks_48 : decode (mk_c M1_asks) 48 = .ok (.getfield 143, 3) := by decide +kernel
theorem d1_asks_51 : decode (mk_c M1_asks) 51 = .ok (.ishl, 1) := by decide +kernel
theorem d1_asks_52 : decode (mk_c M1_asks) 52 = .ok (.ior, 1) := by decide +kernel
theorem d1_asks_53 : decode (mk_c M1_asks) 53 = .ok (.istore_n 2, 1) := by decide +kernel
theorem d1_asks_54 : decode (mk_c M1_asks) 54 = .ok (.iinc 3 1, 3) := by decide +kernel
theorem d1_asks_57 : decode (mk_c M1_asks) 57 = .ok (.goto (-53), 3) := by decide +kernel
theorem d1_asks_60 : decode (mk_c M1_asks) 60 = .ok (.iload_n 2, 1) := by decide +kernel
theorem d1_asks_61 : decode (mk_c M1_asks) 61 = .ok (.ireturn, 1) := by decide +kernel
theorem d1_trim_0 : decode (mk_c M1_trim) 0 = .ok (.iconst 0, 1) := by decide +kernel
theorem d1_trim_1 : decode (mk_c M1_trim) 1 = .ok (.istore_n 1, 1) := by decide +kernel
theorem d1_trim_2 : decode (mk_c M1_trim) 2 = .ok (.bipush 10, 2) := by decide +kernel
theorem d1_trim_4 : decode (mk_c M1_trim) 4 = .ok (.newarray .int, 2) := by decide +kernel
theorem d1_trim_6 : decode (mk_c M1_trim) 6 = .ok (.astore_n 2, 1) := by decide +kernel
theorem d1_trim_7 : decode (mk_c M1_trim) 7 = .ok (.iconst 0, 1) := by decide +kernel
theorem d1_trim_8 : decode (mk_c M1_trim) 8 = .ok (.istore_n 3, 1) := by decide +kernel
theorem d1_trim_9 : decode (mk_c M1_trim) 9 = .ok (.iload_n 3, 1) := by decide +kernel
theorem d1_trim_10 : decode (mk_c M1_trim) 10 = .ok (.aload_n 0, 1) := by decide +kernel
theorem d1_trim_11 : decode (mk_c M1_trim) 11 = .ok (.getfield 73, 3) := by decide +kernel
theorem d1_trim_14 : decode (mk_c M1_trim) 14 = .ok (.if_icmp .ge 17, 3) := by decide +kernel
theorem d1_trim_17 : decode (mk_c M1_trim) 17 = .ok (.aload_n 2, 1) := by decide +kernel
theorem d1_trim_18 : decode (mk_c M1_trim) 18 = .ok (.iload_n 3, 1) := by decide +kernel
theorem d1_trim_19 : decode (mk_c M1_trim) 19 = .ok (.aload_n 0, 1) := by decide +kernel
theorem d1_trim_20 : decode (mk_c M1_trim) 20 = .ok (.iload_n 3, 1) := by decide +kernel
theorem d1_trim_21 : decode (mk_c M1_trim) 21 = .ok (.invokevirtual 225, 3) := by decide +kernel
theorem d1_trim_24 : decode (mk_c M1_trim) 24 = .ok (.iastore, 1) := by decide +kernel
theorem d1_trim_25 : decode (mk_c M1_trim) 25 = .ok (.iinc 3 1, 3) := by decide +kernel
theorem d1_trim_28 : decode (mk_c M1_trim) 28 = .ok (.goto (-19), 3) := by decide +kernel
theorem d1_trim_31 : decode (mk_c M1_trim) 31 = .ok (.iconst 0, 1) := by decide +kernel
theorem d1_trim_32 : decode (mk_c M1_trim) 32 = .ok (.istore_n 3, 1) := by decide +kernel
theorem d1_trim_33 : decode (mk_c M1_trim) 33 = .ok (.iload_n 3, 1) := by decide +kernel
theorem d1_trim_34 : decode (mk_c M1_trim) 34 = .ok (.aload_n 0, 1) := by decide +kernel
theorem d1_trim_35 : decode (mk_c M1_trim) 35 = .ok (.getfield 73, 3) := by decide +kernel
theorem d1_trim_38 : decode (mk_c M1_trim) 38 = .ok (.if_icmp .ge 37, 3) := by decide +kernel
theorem d1_trim_41 : decode (mk_c M1_trim) 41 = .ok (.iload_n 1, 1) := by decide +kernel
theorem d1_trim_42 : decode (mk_c M1_trim) 42 = .ok (.aload_n 2, 1) := by decide +kernel
theorem d1_trim_43 : decode (mk_c M1_trim) 43 = .ok (.iload_n 3, 1) := by decide +kernel
theorem d1_trim_44 : decode (mk_c M1_trim) 44 = .ok (.iaload, 1) := by decide +kernel
theorem d1_trim_45 : decode (mk_c M1_trim) 45 = .ok (.invokestatic 174, 3) := by decide +kernel
theorem d1_trim_48 : decode (mk_c M1_trim) 48 = .ok (.iadd, 1) := by decide +kernel
theorem d1_trim_49 : decode (mk_c M1_trim) 49 = .ok (.istore_n 1, 1) := by decide +kernel
theorem d1_trim_50 : decode (mk_c M1_trim) 50 = .ok (.aload_n 0, 1) := by decide +kernel
theorem d1_trim_51 : decode (mk_c M1_trim) 51 = .ok (.getfield 24, 3) := by decide +kernel
theorem d1_trim_54 : decode (mk_c M1_trim) 54 = .ok (.iload_n 3, 1) := by decide +kernel
theorem d1_trim_55 : decode (mk_c M1_trim) 55 = .ok (.aaload, 1) := by decide +kernel
theorem d1_trim_56 : decode (mk_c M1_trim) 56 = .ok (.dup, 1) := by decide +kernel
theorem d1_trim_57 : decode (mk_c M1_trim) 57 = .ok (.getfield 100, 3) := by decide +kernel
theorem d1_trim_60 : decode (mk_c M1_trim) 60 = .ok (.aload_n 2, 1) := by decide +kernel
theorem d1_trim_61 : decode (mk_c M1_trim) 61 = .ok (.iload_n 3, 1) := by decide +kernel
theorem d1_trim_62 : decode (mk_c M1_trim) 62 = .ok (.iaload, 1) := by decide +kernel
theorem d1_trim_63 : decode (mk_c M1_trim) 63 = .ok (.iconst (-1), 1) := by decide +kernel
theorem d1_trim_64 : decode (mk_c M1_trim) 64 = .ok (.ixor, 1) := by decide +kernel
theorem d1_trim_65 : decode (mk_c M1_trim) 65 = .ok (.iand, 1) := by decide +kernel
theorem d1_trim_66 : decode (mk_c M1_trim) 66 = .ok (.putfield 100, 3) := by decide +kernel
theorem d1_trim_69 : decode (mk_c M1_trim) 69 = .ok (.iinc 3 1, 3) := by decide +kernel
theorem d1_trim_72 : decode (mk_c M1_trim) 72 = .ok (.goto (-39), 3) := by decide +kernel
theorem d1_trim_75 : decode (mk_c M1_trim) 75 = .ok (.aload_n 0, 1) := by decide +kernel
theorem d1_trim_76 : decode (mk_c M1_trim) 76 = .ok (.iconst 0, 1) := by decide +kernel
theorem d1_trim_77 : decode (mk_c M1_trim) 77 = .ok (.putfield 80, 3) := by decide +kernel
theorem d1_trim_80 : decode (mk_c M1_trim) 80 = .ok (.iload_n 1, 1) := by decide +kernel
theorem d1_trim_81 : decode (mk_c M1_trim) 81 = .ok (.ireturn, 1) := by decide +kernel
theorem d1_cure_0 : decode (mk_c M1_cure) 0 = .ok (.aload_n 0, 1) := by decide +kernel
theorem d1_cure_1 : decode (mk_c M1_cure) 1 = .ok (.invokevirtual 91, 3) := by decide +kernel
theorem d1_cure_4 : decode (mk_c M1_cure) 4 = .ok (.aload_n 0, 1) := by decide +kernel
theorem d1_cure_5 : decode (mk_c M1_cure) 5 = .ok (.aload_n 0, 1) := by decide +kernel
theorem d1_cure_6 : decode (mk_c M1_cure) 6 = .ok (.invokevirtual 156, 3) := by decide +kernel
theorem d1_cure_9 : decode (mk_c M1_cure) 9 = .ok (.invokevirtual 180, 3) := by decide +kernel
theorem d1_cure_12 : decode (mk_c M1_cure) 12 = .ok (.ifCond .ne 10, 3) := by decide +kernel
theorem d1_cure_15 : decode (mk_c M1_cure) 15 = .ok (.aload_n 0, 1) := by decide +kernel
theorem d1_cure_16 : decode (mk_c M1_cure) 16 = .ok (.iconst 0, 1) := by decide +kernel
theorem d1_cure_17 : decode (mk_c M1_cure) 17 = .ok (.putfield 239, 3) := by decide +kernel
theorem d1_cure_20 : decode (mk_c M1_cure) 20 = .ok (.iconst 0, 1) := by decide +kernel
theorem d1_cure_21 : decode (mk_c M1_cure) 21 = .ok (.ireturn, 1) := by decide +kernel
theorem d1_cure_22 : decode (mk_c M1_cure) 22 = .ok (.aload_n 0, 1) := by decide +kernel
theorem d1_cure_23 : decode (mk_c M1_cure) 23 = .ok (.iconst 0, 1) := by decide +kernel
theorem d1_cure_24 : decode (mk_c M1_cure) 24 = .ok (.putfield 233, 3) := by decide +kernel
theorem d1_cure_27 : decode (mk_c M1_cure) 27 = .ok (.iconst 0, 1) := by decide +kernel
theorem d1_cure_28 : decode (mk_c M1_cure) 28 = .ok (.istore_n 1, 1) := by decide +kernel
theorem d1_cure_29 : decode (mk_c M1_cure) 29 = .ok (.iconst 0, 1) := by decide +kernel
theorem d1_cure_30 : decode (mk_c M1_cure) 30 = .ok (.istore_n 2, 1) := by decide +kernel
theorem d1_cure_31 : decode (mk_c M1_cure) 31 = .ok (.iload_n 2, 1) := by decide +kernel
theorem d1_cure_32 : decode (mk_c M1_cure) 32 = .ok (.aload_n 0, 1) := by decide +kernel
theorem d1_cure_33 : decode (mk_c M1_cure) 33 = .ok (.getfield 73, 3) := by decide +kernel
theorem d1_cure_36 : decode (mk_c M1_cure) 36 = .ok (.if_icmp .ge 95, 3) := by decide +kernel
theorem d1_cure_39 : decode (mk_c M1_cure) 39 = .ok (.aload_n 0, 1) := by decide +kernel
theorem d1_cure_40 : decode (mk_c M1_cure) 40 = .ok (.getfield 24, 3) := by decide +kernel
theorem d1_cure_43 : decode (mk_c M1_cure) 43 = .ok (.iload_n 2, 1) := by decide +kernel
theorem d1_cure_44 : decode (mk_c M1_cure) 44 = .ok (.aaload, 1) := by decide +kernel
theorem d1_cure_45 : decode (mk_c M1_cure) 45 = .ok (.getfield 100, 3) := by decide +kernel
theorem d1_cure_48 : decode (mk_c M1_cure) 48 = .ok (.aload_n 0, 1) := by decide +kernel
theorem d1_cure_49 : decode (mk_c M1_cure) 49 = .ok (.iload_n 2, 1) := by decide +kernel
theorem d1_cure_50 : decode (mk_c M1_cure) 50 = .ok (.invokevirtual 220, 3) := by decide +kernel
theorem d1_cure_53 : decode (mk_c M1_cure) 53 = .ok (.iand, 1) := by decide +kernel
theorem d1_cure_54 : decode (mk_c M1_cure) 54 = .ok (.istore_n 3, 1) := by decide +kernel
theorem d1_cure_55 : decode (mk_c M1_cure) 55 = .ok (.iload_n 1, 1) := by decide +kernel
theorem d1_cure_56 : decode (mk_c M1_cure) 56 = .ok (.iload_n 3, 1) := by decide +kernel
theorem d1_cure_57 : decode (mk_c M1_cure) 57 = .ok (.invokestatic 174, 3) := by decide +kernel
theorem d1_cure_60 : decode (mk_c M1_cure) 60 = .ok (.iadd, 1) := by decide +kernel
theorem d1_cure_61 : decode (mk_c M1_cure) 61 = .ok (.istore_n 1, 1) := by decide +kernel
theorem d1_cure_62 : decode (mk_c M1_cure) 62 = .ok (.iconst 0, 1) := by decide +kernel
theorem d1_cure_63 : decode (mk_c M1_cure) 63 = .ok (.istore 4, 2) := by decide +kernel
theorem d1_cure_65 : decode (mk_c M1_cure) 65 = .ok (.iload 4, 2) := by decide +kernel
theorem d1_cure_67 : decode (mk_c M1_cure) 67 = .ok (.bipush 16, 2) := by decide +kernel
theorem d1_cure_69 : decode (mk_c M1_cure) 69 = .ok (.if_icmp .ge 56, 3) := by decide +kernel
theorem d1_cure_72 : decode (mk_c M1_cure) 72 = .ok (.iload_n 3, 1) := by decide +kernel
theorem d1_cure_73 : decode (mk_c M1_cure) 73 = .ok (.iload 4, 2) := by decide +kernel
theorem d1_cure_75 : decode (mk_c M1_cure) 75 = .ok (.ishr, 1) := by decide +kernel
theorem d1_cure_76 : decode (mk_c M1_cure) 76 = .ok (.iconst 1, 1) := by decide +kernel
theorem d1_cure_77 : decode (mk_c M1_cure) 77 = .ok (.iand, 1) := by decide +kernel
theorem d1_cure_78 : decode (mk_c M1_cure) 78 = .ok (.ifCond .eq 41, 3) := by decide +kernel
theorem d1_cure_81 : decode (mk_c M1_cure) 81 = .ok (.aload_n 0, 1) := by decide +kernel
theorem d1_cure_82 : decode (mk_c M1_cure) 82 = .ok (.getfield 233, 3) := by decide +kernel
theorem d1_cure_85 : decode (mk_c M1_cure) 85 = .ok (.bipush 10, 2) := by decide +kernel
theorem d1_cure_87 : decode (mk_c M1_cure) 87 = .ok (.if_icmp .ne 6, 3) := by decide +kernel
theorem d1_cure_90 : decode (mk_c M1_cure) 90 = .ok (.goto 29, 3) := by decide +kernel
theorem d1_cure_93 : decode (mk_c M1_cure) 93 = .ok (.aload_n 0, 1) := by decide +kernel
theorem d1_cure_94 : decode (mk_c M1_cure) 94 = .ok (.getfield 61, 3) := by decide +kernel
theorem d1_cure_97 : decode (mk_c M1_cure) 97 = .ok (.aload_n 0, 1) := by decide +kernel
theorem d1_cure_98 : decode (mk_c M1_cure) 98 = .ok (.getfield 233, 3) := by decide +kernel
theorem d1_cure_101 : decode (mk_c M1_cure) 101 = .ok (.bipush 100, 2) := by decide +kernel
theorem d1_cure_103 : decode (mk_c M1_cure) 103 = .ok (.iload_n 2, 1) := by decide +kernel
theorem d1_cure_104 : decode (mk_c M1_cure) 104 = .ok (.imul, 1) := by decide +kernel
theorem d1_cure_105 : decode (mk_c M1_cure) 105 = .ok (.iload 4, 2) := by decide +kernel
theorem d1_cure_107 : decode (mk_c M1_cure) 107 = .ok (.iadd, 1) := by decide +kernel
theorem d1_cure_108 : decode (mk_c M1_cure) 108 = .ok (.iastore, 1) := by decide +kernel
theorem d1_cure_109 : decode (mk_c M1_cure) 109 = .ok (.aload_n 0, 1) := by decide +kernel
theorem d1_cure_110 : decode (mk_c M1_cure) 110 = .ok (.dup, 1) := by decide +kernel
theorem d1_cure_111 : decode (mk_c M1_cure) 111 = .ok (.getfield 233, 3) := by decide +kernel
theorem d1_cure_114 : decode (mk_c M1_cure) 114 = .ok (.iconst 1, 1) := by decide +kernel
theorem d1_cure_115 : decode (mk_c M1_cure) 115 = .ok (.iadd, 1) := by decide +kernel
theorem d1_cure_116 : decode (mk_c M1_cure) 116 = .ok (.putfield 233, 3) := by decide +kernel
theorem d1_cure_119 : decode (mk_c M1_cure) 119 = .ok (.iinc 4 1, 3) := by decide +kernel
theorem d1_cure_122 : decode (mk_c M1_cure) 122 = .ok (.goto (-57), 3) := by decide +kernel
theorem d1_cure_125 : decode (mk_c M1_cure) 125 = .ok (.iinc 2 1, 3) := by decide +kernel
theorem d1_cure_128 : decode (mk_c M1_cure) 128 = .ok (.goto (-97), 3) := by decide +kernel
theorem d1_cure_131 : decode (mk_c M1_cure) 131 = .ok (.iload_n 1, 1) := by decide +kernel
theorem d1_cure_132 : decode (mk_c M1_cure) 132 = .ok (.bipush 10, 2) := by decide +kernel
theorem d1_cure_134 : decode (mk_c M1_cure) 134 = .ok (.if_icmp .le 10, 3) := by decide +kernel
theorem d1_cure_137 : decode (mk_c M1_cure) 137 = .ok (.aload_n 0, 1) := by decide +kernel
theorem d1_cure_138 : decode (mk_c M1_cure) 138 = .ok (.bipush 6, 2) := by decide +kernel
theorem d1_cure_140 : decode (mk_c M1_cure) 140 = .ok (.invokevirtual 95, 3) := by decide +kernel
theorem d1_cure_143 : decode (mk_c M1_cure) 143 = .ok (.ireturn, 1) := by decide +kernel
theorem d1_cure_144 : decode (mk_c M1_cure) 144 = .ok (.iconst 1, 1) := by decide +kernel
theorem d1_cure_145 : decode (mk_c M1_cure) 145 = .ok (.istore_n 2, 1) := by decide +kernel
theorem d1_cure_146 : decode (mk_c M1_cure) 146 = .ok (.iload_n 2, 1) := by decide +kernel
theorem d1_cure_147 : decode (mk_c M1_cure) 147 = .ok (.aload_n 0, 1) := by decide +kernel
theorem d1_cure_148 : decode (mk_c M1_cure) 148 = .ok (.getfield 233, 3) := by decide +kernel
theorem d1_cure_151 : decode (mk_c M1_cure) 151 = .ok (.if_icmp .gt 59, 3) := by decide +kernel
theorem d1_cure_154 : decode (mk_c M1_cure) 154 = .ok (.aload_n 0, 1) := by decide +kernel
theorem d1_cure_155 : decode (mk_c M1_cure) 155 = .ok (.iconst 0, 1) := by decide +kernel
theorem d1_cure_156 : decode (mk_c M1_cure) 156 = .ok (.iconst 0, 1) := by decide +kernel
theorem d1_cure_157 : decode (mk_c M1_cure) 157 = .ok (.iload_n 2, 1) := by decide +kernel
theorem d1_cure_158 : decode (mk_c M1_cure) 158 = .ok (.invokevirtual 236, 3) := by decide +kernel
theorem d1_cure_161 : decode (mk_c M1_cure) 161 = .ok (.ifCond .ne 6, 3) := by decide +kernel
theorem d1_cure_164 : decode (mk_c M1_cure) 164 = .ok (.goto 40, 3) := by decide +kernel
theorem d1_cure_167 : decode (mk_c M1_cure) 167 = .ok (.aload_n 0, 1) := by decide +kernel
theorem d1_cure_168 : decode (mk_c M1_cure) 168 = .ok (.iload_n 2, 1) := by decide +kernel
theorem d1_cure_169 : decode (mk_c M1_cure) 169 = .ok (.putfield 239, 3) := by decide +kernel
theorem d1_cure_172 : decode (mk_c M1_cure) 172 = .ok (.iconst 0, 1) := by decide +kernel
theorem d1_cure_173 : decode (mk_c M1_cure) 173 = .ok (.istore_n 3, 1) := by decide +kernel
theorem d1_cure_174 : decode (mk_c M1_cure) 174 = .ok (.iload_n 3, 1) := by decide +kernel
theorem d1_cure_175 : decode (mk_c M1_cure) 175 = .ok (.iload_n 2, 1) := by decide +kernel
theorem d1_cure_176 : decode (mk_c M1_cure) 176 = .ok (.if_icmp .ge 26, 3) := by decide +kernel
theorem d1_cure_179 : decode (mk_c M1_cure) 179 = .ok (.aload_n 0, 1) := by decide +kernel
theorem d1_cure_180 : decode (mk_c M1_cure) 180 = .ok (.getfield 64, 3) := by decide +kernel
theorem d1_cure_183 : decode (mk_c M1_cure) 183 = .ok (.iload_n 3, 1) := by decide +kernel
theorem d1_cure_184 : decode (mk_c M1_cure) 184 = .ok (.aload_n 0, 1) := by decide +kernel
theorem d1_cure_185 : decode (mk_c M1_cure) 185 = .ok (.getfield 61, 3) := by decide +kernel
theorem d1_cure_188 : decode (mk_c M1_cure) 188 = .ok (.aload_n 0, 1) := by decide +kernel
theorem d1_cure_189 : decode (mk_c M1_cure) 189 = .ok (.getfield 67, 3) := by decide +kernel
theorem d1_cure_192 : decode (mk_c M1_cure) 192 = .ok (.iload_n 3, 1) := by decide +kernel
theorem d1_cure_193 : decode (mk_c M1_cure) 193 = .ok (.iaload, 1) := by decide +kernel
theorem d1_cure_194 : decode (mk_c M1_cure) 194 = .ok (.iaload, 1) := by decide +kernel
theorem d1_cure_195 : decode (mk_c M1_cure) 195 = .ok (.iastore, 1) := by decide +kernel
theorem d1_cure_196 : decode (mk_c M1_cure) 196 = .ok (.iinc 3 1, 3) := by decide +kernel
theorem d1_cure_199 : decode (mk_c M1_cure) 199 = .ok (.goto (-25), 3) := by decide +kernel
theorem d1_cure_202 : decode (mk_c M1_cure) 202 = .ok (.iload_n 2, 1) := by decide +kernel
theorem d1_cure_203 : decode (mk_c M1_cure) 203 = .ok (.ireturn, 1) := by decide +kernel
theorem d1_cure_204 : decode (mk_c M1_cure) 204 = .ok (.iinc 2 1, 3) := by decide +kernel
theorem d1_cure_207 : decode (mk_c M1_cure) 207 = .ok (.goto (-61), 3) := by decide +kernel
theorem d1_cure_210 : decode (mk_c M1_cure) 210 = .ok (.aload_n 0, 1) := by decide +kernel
theorem d1_cure_211 : decode (mk_c M1_cure) 211 = .ok (.iconst 5, 1) := by decide +kernel
theorem d1_cure_212 : decode (mk_c M1_cure) 212 = .ok (.invokevirtual 95, 3) := by decide +kernel
theorem d1_cure_215 : decode (mk_c M1_cure) 215 = .ok (.ireturn, 1) := by decide +kernel
theorem d1_picks_0 : decode (mk_c M1_picks) 0 = .ok (.iload_n 1, 1) := by decide +kernel
theorem d1_picks_1 : decode (mk_c M1_picks) 1 = .ok (.iload_n 3, 1) := by decide +kernel
theorem d1_picks_2 : decode (mk_c M1_picks) 2 = .ok (.if_icmp .ne 9, 3) := by decide +kernel
theorem d1_picks_5 : decode (mk_c M1_picks) 5 = .ok (.aload_n 0, 1) := by decide +kernel
theorem d1_picks_6 : decode (mk_c M1_picks) 6 = .ok (.iload_n 3, 1) := by decide +kernel
theorem d1_picks_7 : decode (mk_c M1_picks) 7 = .ok (.invokevirtual 230, 3) := by decide +kernel
theorem d1_picks_10 : decode (mk_c M1_picks) 10 = .ok (.ireturn, 1) := by decide +kernel
theorem d1_picks_11 : decode (mk_c M1_picks) 11 = .ok (.iload_n 2, 1) := by decide +kernel
theorem d1_picks_12 : decode (mk_c M1_picks) 12 = .ok (.istore 4, 2) := by decide +kernel
theorem d1_picks_14 : decode (mk_c M1_picks) 14 = .ok (.iload 4, 2) := by decide +kernel
theorem d1_picks_16 : decode (mk_c M1_picks) 16 = .ok (.aload_n 0, 1) := by decide +kernel
theorem d1_picks_17 : decode (mk_c M1_picks) 17 = .ok (.getfield 233, 3) := by decide +kernel
theorem d1_picks_20 : decode (mk_c M1_picks) 20 = .ok (.if_icmp .ge 34, 3) := by decide +kernel
theorem d1_picks_23 : decode (mk_c M1_picks) 23 = .ok (.aload_n 0, 1) := by decide +kernel
theorem d1_picks_24 : decode (mk_c M1_picks) 24 = .ok (.getfield 67, 3) := by decide +kernel
theorem d1_picks_27 : decode (mk_c M1_picks) 27 = .ok (.iload_n 1, 1) := by decide +kernel
theorem d1_picks_28 : decode (mk_c M1_picks) 28 = .ok (.iload 4, 2) := by decide +kernel
theorem d1_picks_30 : decode (mk_c M1_picks) 30 = .ok (.iastore, 1) := by decide +kernel
theorem d1_picks_31 : decode (mk_c M1_picks) 31 = .ok (.aload_n 0, 1) := by decide +kernel
theorem d1_picks_32 : decode (mk_c M1_picks) 32 = .ok (.iload_n 1, 1) := by decide +kernel
theorem d1_picks_33 : decode (mk_c M1_picks) 33 = .ok (.iconst 1, 1) := by decide +kernel
theorem d1_picks_34 : decode (mk_c M1_picks) 34 = .ok (.iadd, 1) := by decide +kernel
theorem d1_picks_35 : decode (mk_c M1_picks) 35 = .ok (.iload 4, 2) := by decide +kernel
theorem d1_picks_37 : decode (mk_c M1_picks) 37 = .ok (.iconst 1, 1) := by decide +kernel
theorem d1_picks_38 : decode (mk_c M1_picks) 38 = .ok (.iadd, 1) := by decide +kernel
theorem d1_picks_39 : decode (mk_c M1_picks) 39 = .ok (.iload_n 3, 1) := by decide +kernel
theorem d1_picks_40 : decode (mk_c M1_picks) 40 = .ok (.invokevirtual 236, 3) := by decide +kernel
theorem d1_picks_43 : decode (mk_c M1_picks) 43 = .ok (.ifCond .eq 5, 3) := by decide +kernel
theorem d1_picks_46 : decode (mk_c M1_picks) 46 = .ok (.iconst 1, 1) := by decide +kernel
theorem d1_picks_47 : decode (mk_c M1_picks) 47 = .ok (.ireturn, 1) := by decide +kernel
theorem d1_picks_48 : decode (mk_c M1_picks) 48 = .ok (.iinc 4 1, 3) := by decide +kernel
theorem d1_picks_51 : decode (mk_c M1_picks) 51 = .ok (.goto (-37), 3) := by decide +kernel
theorem d1_picks_54 : decode (mk_c M1_picks) 54 = .ok (.iconst 0, 1) := by decide +kernel
theorem d1_picks_55 : decode (mk_c M1_picks) 55 = .ok (.ireturn, 1) := by decide +kernel
theorem d1_cures_0 : decode (mk_c M1_cures) 0 = .ok (.aload_n 0, 1) := by decide +kernel
theorem d1_cures_1 : decode (mk_c M1_cures) 1 = .ok (.getfield 41, 3) := by decide +kernel
theorem d1_cures_4 : decode (mk_c M1_cures) 4 = .ok (.invokevirtual 84, 3) := by decide +kernel
theorem d1_cures_7 : decode (mk_c M1_cures) 7 = .ok (.iconst 0, 1) := by decide +kernel
theorem d1_cures_8 : decode (mk_c M1_cures) 8 = .ok (.istore_n 2, 1) := by decide +kernel
theorem d1_cures_9 : decode (mk_c M1_cures) 9 = .ok (.iload_n 2, 1) := by decide +kernel
theorem d1_cures_10 : decode (mk_c M1_cures) 10 = .ok (.iload_n 1, 1) := by decide +kernel
theorem d1_cures_11 : decode (mk_c M1_cures) 11 = .ok (.if_icmp .ge 52, 3) := by decide +kernel
theorem d1_cures_14 : decode (mk_c M1_cures) 14 = .ok (.aload_n 0, 1) := by decide +kernel
theorem d1_cures_15 : decode (mk_c M1_cures) 15 = .ok (.getfield 41, 3) := by decide +kernel
theorem d1_cures_18 : decode (mk_c M1_cures) 18 = .ok (.getfield 228, 3) := by decide +kernel
theorem d1_cures_21 : decode (mk_c M1_cures) 21 = .ok (.aload_n 0, 1) := by decide +kernel
theorem d1_cures_22 : decode (mk_c M1_cures) 22 = .ok (.getfield 61, 3) := by decide +kernel
theorem d1_cures_25 : decode (mk_c M1_cures) 25 = .ok (.aload_n 0, 1) := by decide +kernel
theorem d1_cures_26 : decode (mk_c M1_cures) 26 = .ok (.getfield 67, 3) := by decide +kernel
theorem d1_cures_29 : decode (mk_c M1_cures) 29 = .ok (.iload_n 2, 1) := by decide +kernel
theorem d1_cures_30 : decode (mk_c M1_cures) 30 = .ok (.iaload, 1) := by decide +kernel
theorem d1_cures_31 : decode (mk_c M1_cures) 31 = .ok (.iaload, 1) := by decide +kernel
theorem d1_cures_32 : decode (mk_c M1_cures) 32 = .ok (.bipush 100, 2) := by decide +kernel
theorem d1_cures_34 : decode (mk_c M1_cures) 34 = .ok (.idiv, 1) := by decide +kernel
theorem d1_cures_35 : decode (mk_c M1_cures) 35 = .ok (.dup2, 1) := by decide +kernel
theorem d1_cures_36 : decode (mk_c M1_cures) 36 = .ok (.iaload, 1) := by decide +kernel
theorem d1_cures_37 : decode (mk_c M1_cures) 37 = .ok (.iconst 1, 1) := by decide +kernel
theorem d1_cures_38 : decode (mk_c M1_cures) 38 = .ok (.aload_n 0, 1) := by decide +kernel
theorem d1_cures_39 : decode (mk_c M1_cures) 39 = .ok (.getfield 61, 3) := by decide +kernel
theorem d1_cures_42 : decode (mk_c M1_cures) 42 = .ok (.aload_n 0, 1) := by decide +kernel
theorem d1_cures_43 : decode (mk_c M1_cures) 43 = .ok (.getfield 67, 3) := by decide +kernel
theorem d1_cures_46 : decode (mk_c M1_cures) 46 = .ok (.iload_n 2, 1) := by decide +kernel
theorem d1_cures_47 : decode (mk_c M1_cures) 47 = .ok (.iaload, 1) := by decide +kernel
theorem d1_cures_48 : decode (mk_c M1_cures) 48 = .ok (.iaload, 1) := by decide +kernel
theorem d1_cures_49 : decode (mk_c M1_cures) 49 = .ok (.bipush 100, 2) := by decide +kernel
theorem d1_cures_51 : decode (mk_c M1_cures) 51 = .ok (.irem, 1) := by decide +kernel
theorem d1_cures_52 : decode (mk_c M1_cures) 52 = .ok (.ishl, 1) := by decide +kernel
theorem d1_cures_53 : decode (mk_c M1_cures) 53 = .ok (.iconst (-1), 1) := by decide +kernel
theorem d1_cures_54 : decode (mk_c M1_cures) 54 = .ok (.ixor, 1) := by decide +kernel
theorem d1_cures_55 : decode (mk_c M1_cures) 55 = .ok (.iand, 1) := by decide +kernel
theorem d1_cures_56 : decode (mk_c M1_cures) 56 = .ok (.iastore, 1) := by decide +kernel
theorem d1_cures_57 : decode (mk_c M1_cures) 57 = .ok (.iinc 2 1, 3) := by decide +kernel
theorem d1_cures_60 : decode (mk_c M1_cures) 60 = .ok (.goto (-51), 3) := by decide +kernel
theorem d1_cures_63 : decode (mk_c M1_cures) 63 = .ok (.aload_n 0, 1) := by decide +kernel
theorem d1_cures_64 : decode (mk_c M1_cures) 64 = .ok (.getfield 41, 3) := by decide +kernel
theorem d1_cures_67 : decode (mk_c M1_cures) 67 = .ok (.aload_n 0, 1) := by decide +kernel
theorem d1_cures_68 : decode (mk_c M1_cures) 68 = .ok (.getfield 73, 3) := by decide +kernel
theorem d1_cures_71 : decode (mk_c M1_cures) 71 = .ok (.invokevirtual 87, 3) := by decide +kernel
theorem d1_cures_74 : decode (mk_c M1_cures) 74 = .ok (.aload_n 0, 1) := by decide +kernel
theorem d1_cures_75 : decode (mk_c M1_cures) 75 = .ok (.aload_n 0, 1) := by decide +kernel
theorem d1_cures_76 : decode (mk_c M1_cures) 76 = .ok (.getfield 41, 3) := by decide +kernel
theorem d1_cures_79 : decode (mk_c M1_cures) 79 = .ok (.invokevirtual 180, 3) := by decide +kernel
theorem d1_cures_82 : decode (mk_c M1_cures) 82 = .ok (.ifCond .ne 7, 3) := by decide +kernel
theorem d1_cures_85 : decode (mk_c M1_cures) 85 = .ok (.iconst 1, 1) := by decide +kernel
theorem d1_cures_86 : decode (mk_c M1_cures) 86 = .ok (.goto 4, 3) := by decide +kernel
theorem d1_cures_89 : decode (mk_c M1_cures) 89 = .ok (.iconst 0, 1) := by decide +kernel
theorem d1_cures_90 : decode (mk_c M1_cures) 90 = .ok (.istore_n 2, 1) := by decide +kernel
theorem d1_cures_91 : decode (mk_c M1_cures) 91 = .ok (.iconst 0, 1) := by decide +kernel
theorem d1_cures_92 : decode (mk_c M1_cures) 92 = .ok (.istore_n 3, 1) := by decide +kernel
theorem d1_cures_93 : decode (mk_c M1_cures) 93 = .ok (.iload_n 3, 1) := by decide +kernel
theorem d1_cures_94 : decode (mk_c M1_cures) 94 = .ok (.bipush 16, 2) := by decide +kernel
theorem d1_cures_96 : decode (mk_c M1_cures) 96 = .ok (.if_icmp .ge 50, 3) := by decide +kernel
theorem d1_cures_99 : decode (mk_c M1_cures) 99 = .ok (.iload_n 2, 1) := by decide +kernel
theorem d1_cures_100 : decode (mk_c M1_cures) 100 = .ok (.ifCond .eq 46, 3) := by decide +kernel
theorem d1_cures_103 : decode (mk_c M1_cures) 103 = .ok (.aload_n 0, 1) := by decide +kernel
theorem d1_cures_104 : decode (mk_c M1_cures) 104 = .ok (.getfield 37, 3) := by decide +kernel
theorem d1_cures_107 : decode (mk_c M1_cures) 107 = .ok (.getfield 171, 3) := by decide +kernel
theorem d1_cures_110 : decode (mk_c M1_cures) 110 = .ok (.iload_n 3, 1) := by decide +kernel
theorem d1_cures_111 : decode (mk_c M1_cures) 111 = .ok (.iaload, 1) := by decide +kernel
theorem d1_cures_112 : decode (mk_c M1_cures) 112 = .ok (.aload_n 0, 1) := by decide +kernel
theorem d1_cures_113 : decode (mk_c M1_cures) 113 = .ok (.getfield 28, 3) := by decide +kernel
theorem d1_cures_116 : decode (mk_c M1_cures) 116 = .ok (.iload_n 3, 1) := by decide +kernel
theorem d1_cures_117 : decode (mk_c M1_cures) 117 = .ok (.iaload, 1) := by decide +kernel
theorem d1_cures_118 : decode (mk_c M1_cures) 118 = .ok (.iand, 1) := by decide +kernel
theorem d1_cures_119 : decode (mk_c M1_cures) 119 = .ok (.aload_n 0, 1) := by decide +kernel
theorem d1_cures_120 : decode (mk_c M1_cures) 120 = .ok (.getfield 41, 3) := by decide +kernel
theorem d1_cures_123 : decode (mk_c M1_cures) 123 = .ok (.getfield 171, 3) := by decide +kernel
theorem d1_cures_126 : decode (mk_c M1_cures) 126 = .ok (.iload_n 3, 1) := by decide +kernel
theorem d1_cures_127 : decode (mk_c M1_cures) 127 = .ok (.iaload, 1) := by decide +kernel
theorem d1_cures_128 : decode (mk_c M1_cures) 128 = .ok (.iconst (-1), 1) := by decide +kernel
theorem d1_cures_129 : decode (mk_c M1_cures) 129 = .ok (.ixor, 1) := by decide +kernel
theorem d1_cures_130 : decode (mk_c M1_cures) 130 = .ok (.iand, 1) := by decide +kernel
theorem d1_cures_131 : decode (mk_c M1_cures) 131 = .ok (.ifCond .ne 7, 3) := by decide +kernel
theorem d1_cures_134 : decode (mk_c M1_cures) 134 = .ok (.iconst 1, 1) := by decide +kernel
theorem d1_cures_135 : decode (mk_c M1_cures) 135 = .ok (.goto 4, 3) := by decide +kernel
theorem d1_cures_138 : decode (mk_c M1_cures) 138 = .ok (.iconst 0, 1) := by decide +kernel
theorem d1_cures_139 : decode (mk_c M1_cures) 139 = .ok (.istore_n 2, 1) := by decide +kernel
theorem d1_cures_140 : decode (mk_c M1_cures) 140 = .ok (.iinc 3 1, 3) := by decide +kernel
theorem d1_cures_143 : decode (mk_c M1_cures) 143 = .ok (.goto (-50), 3) := by decide +kernel
theorem d1_cures_146 : decode (mk_c M1_cures) 146 = .ok (.iload_n 2, 1) := by decide +kernel
theorem d1_cures_147 : decode (mk_c M1_cures) 147 = .ok (.ireturn, 1) := by decide +kernel
theorem d1_cured_0 : decode (mk_c M1_cured) 0 = .ok (.iload_n 1, 1) := by decide +kernel
theorem d1_cured_1 : decode (mk_c M1_cured) 1 = .ok (.iconst 0, 1) := by decide +kernel
theorem d1_cured_2 : decode (mk_c M1_cured) 2 = .ok (.aload_n 0, 1) := by decide +kernel
theorem d1_cured_3 : decode (mk_c M1_cured) 3 = .ok (.getfield 239, 3) := by decide +kernel
theorem d1_cured_6 : decode (mk_c M1_cured) 6 = .ok (.iconst 1, 1) := by decide +kernel
theorem d1_cured_7 : decode (mk_c M1_cured) 7 = .ok (.isub, 1) := by decide +kernel
theorem d1_cured_8 : decode (mk_c M1_cured) 8 = .ok (.invokestatic 76, 3) := by decide +kernel
theorem d1_cured_11 : decode (mk_c M1_cured) 11 = .ok (.ifCond .eq 12, 3) := by decide +kernel
theorem d1_cured_14 : decode (mk_c M1_cured) 14 = .ok (.aload_n 0, 1) := by decide +kernel
theorem d1_cured_15 : decode (mk_c M1_cured) 15 = .ok (.getfield 64, 3) := by decide +kernel
theorem d1_cured_18 : decode (mk_c M1_cured) 18 = .ok (.iload_n 1, 1) := by decide +kernel
theorem d1_cured_19 : decode (mk_c M1_cured) 19 = .ok (.iaload, 1) := by decide +kernel
theorem d1_cured_20 : decode (mk_c M1_cured) 20 = .ok (.goto 4, 3) := by decide +kernel
theorem d1_cured_23 : decode (mk_c M1_cured) 23 = .ok (.iconst (-1), 1) := by decide +kernel
theorem d1_cured_24 : decode (mk_c M1_cured) 24 = .ok (.ireturn, 1) := by decide +kernel
theorem d1_without_0 : decode (mk_c M1_without) 0 = .ok (.aload_n 0, 1) := by decide +kernel
theorem d1_without_1 : decode (mk_c M1_without) 1 = .ok (.invokevirtual 91, 3) := by decide +kernel
theorem d1_without_4 : decode (mk_c M1_without) 4 = .ok (.aload_n 0, 1) := by decide +kernel
theorem d1_without_5 : decode (mk_c M1_without) 5 = .ok (.iload_n 1, 1) := by decide +kernel
theorem d1_without_6 : decode (mk_c M1_without) 6 = .ok (.invokevirtual 103, 3) := by decide +kernel
theorem d1_without_9 : decode (mk_c M1_without) 9 = .ok (.ifCond .ne 9, 3) := by decide +kernel
theorem d1_without_12 : decode (mk_c M1_without) 12 = .ok (.aload_n 0, 1) := by decide +kernel
theorem d1_without_13 : decode (mk_c M1_without) 13 = .ok (.iconst 1, 1) := by decide +kernel
theorem d1_without_14 : decode (mk_c M1_without) 14 = .ok (.invokevirtual 95, 3) := by decide +kernel
theorem d1_without_17 : decode (mk_c M1_without) 17 = .ok (.ireturn, 1) := by decide +kernel
theorem d1_without_18 : decode (mk_c M1_without) 18 = .ok (.iload_n 2, 1) := by decide +kernel
theorem d1_without_19 : decode (mk_c M1_without) 19 = .ok (.invokestatic 153, 3) := by decide +kernel
theorem d1_without_22 : decode (mk_c M1_without) 22 = .ok (.ifCond .ne 9, 3) := by decide +kernel
theorem d1_without_25 : decode (mk_c M1_without) 25 = .ok (.aload_n 0, 1) := by decide +kernel
theorem d1_without_26 : decode (mk_c M1_without) 26 = .ok (.iconst 2, 1) := by decide +kernel
theorem d1_without_27 : decode (mk_c M1_without) 27 = .ok (.invokevirtual 95, 3) := by decide +kernel
theorem d1_without_30 : decode (mk_c M1_without) 30 = .ok (.ireturn, 1) := by decide +kernel
theorem d1_without_31 : decode (mk_c M1_without) 31 = .ok (.aload_n 0, 1) := by decide +kernel
theorem d1_without_32 : decode (mk_c M1_without) 32 = .ok (.iload_n 1, 1) := by decide +kernel
theorem d1_without_33 : decode (mk_c M1_without) 33 = .ok (.iload_n 2, 1) := by decide +kernel
theorem d1_without_34 : decode (mk_c M1_without) 34 = .ok (.invokevirtual 242, 3) := by decide +kernel
theorem d1_without_37 : decode (mk_c M1_without) 37 = .ok (.ireturn, 1) := by decide +kernel
theorem d1_misusesBy_0 : decode (mk_c M1_misusesBy) 0 = .ok (.aload_n 0, 1) := by decide +kernel
theorem d1_misusesBy_1 : decode (mk_c M1_misusesBy) 1 = .ok (.getfield 41, 3) := by decide +kernel
theorem d1_misusesBy_4 : decode (mk_c M1_misusesBy) 4 = .ok (.invokevirtual 84, 3) := by decide +kernel
theorem d1_misusesBy_7 : decode (mk_c M1_misusesBy) 7 = .ok (.aload_n 0, 1) := by decide +kernel
theorem d1_misusesBy_8 : decode (mk_c M1_misusesBy) 8 = .ok (.getfield 41, 3) := by decide +kernel
theorem d1_misusesBy_11 : decode (mk_c M1_misusesBy) 11 = .ok (.getfield 228, 3) := by decide +kernel
theorem d1_misusesBy_14 : decode (mk_c M1_misusesBy) 14 = .ok (.iload_n 1, 1) := by decide +kernel
theorem d1_misusesBy_15 : decode (mk_c M1_misusesBy) 15 = .ok (.dup2, 1) := by decide +kernel
theorem d1_misusesBy_16 : decode (mk_c M1_misusesBy) 16 = .ok (.iaload, 1) := by decide +kernel
theorem d1_misusesBy_17 : decode (mk_c M1_misusesBy) 17 = .ok (.iconst 1, 1) := by decide +kernel
theorem d1_misusesBy_18 : decode (mk_c M1_misusesBy) 18 = .ok (.iload_n 2, 1) := by decide +kernel
theorem d1_misusesBy_19 : decode (mk_c M1_misusesBy) 19 = .ok (.ishl, 1) := by decide +kernel
theorem d1_misusesBy_20 : decode (mk_c M1_misusesBy) 20 = .ok (.ixor, 1) := by decide +kernel
theorem d1_misusesBy_21 : decode (mk_c M1_misusesBy) 21 = .ok (.iastore, 1) := by decide +kernel
theorem d1_misusesBy_22 : decode (mk_c M1_misusesBy) 22 = .ok (.aload_n 0, 1) := by decide +kernel
theorem d1_misusesBy_23 : decode (mk_c M1_misusesBy) 23 = .ok (.getfield 41, 3) := by decide +kernel
theorem d1_misusesBy_26 : decode (mk_c M1_misusesBy) 26 = .ok (.aload_n 0, 1) := by decide +kernel
theorem d1_misusesBy_27 : decode (mk_c M1_misusesBy) 27 = .ok (.getfield 73, 3) := by decide +kernel
theorem d1_misusesBy_30 : decode (mk_c M1_misusesBy) 30 = .ok (.invokevirtual 87, 3) := by decide +kernel
theorem d1_misusesBy_33 : decode (mk_c M1_misusesBy) 33 = .ok (.aload_n 0, 1) := by decide +kernel
theorem d1_misusesBy_34 : decode (mk_c M1_misusesBy) 34 = .ok (.aload_n 0, 1) := by decide +kernel
theorem d1_misusesBy_35 : decode (mk_c M1_misusesBy) 35 = .ok (.getfield 41, 3) := by decide +kernel
theorem d1_misusesBy_38 : decode (mk_c M1_misusesBy) 38 = .ok (.invokevirtual 180, 3) := by decide +kernel
theorem d1_misusesBy_41 : decode (mk_c M1_misusesBy) 41 = .ok (.ireturn, 1) := by decide +kernel
theorem d1_key_0 : decode (mk_c M1_key) 0 = .ok (.aload_n 0, 1) := by decide +kernel
theorem d1_key_1 : decode (mk_c M1_key) 1 = .ok (.invokevirtual 91, 3) := by decide +kernel
theorem d1_key_4 : decode (mk_c M1_key) 4 = .ok (.aload_n 0, 1) := by decide +kernel
theorem d1_key_5 : decode (mk_c M1_key) 5 = .ok (.aload_n 0, 1) := by decide +kernel
theorem d1_key_6 : decode (mk_c M1_key) 6 = .ok (.invokevirtual 156, 3) := by decide +kernel
theorem d1_key_9 : decode (mk_c M1_key) 9 = .ok (.invokevirtual 180, 3) := by decide +kernel
theorem d1_key_12 : decode (mk_c M1_key) 12 = .ok (.istore_n 1, 1) := by decide +kernel
theorem d1_key_13 : decode (mk_c M1_key) 13 = .ok (.iload_n 1, 1) := by decide +kernel
theorem d1_key_14 : decode (mk_c M1_key) 14 = .ok (.ifCond .ne 9, 3) := by decide +kernel
theorem d1_key_17 : decode (mk_c M1_key) 17 = .ok (.aload_n 0, 1) := by decide +kernel
theorem d1_key_18 : decode (mk_c M1_key) 18 = .ok (.iconst 5, 1) := by decide +kernel
theorem d1_key_19 : decode (mk_c M1_key) 19 = .ok (.invokevirtual 95, 3) := by decide +kernel
theorem d1_key_22 : decode (mk_c M1_key) 22 = .ok (.ireturn, 1) := by decide +kernel
theorem d1_key_23 : decode (mk_c M1_key) 23 = .ok (.bipush (-2), 2) := by decide +kernel
theorem d1_key_25 : decode (mk_c M1_key) 25 = .ok (.istore_n 2, 1) := by decide +kernel
theorem d1_key_26 : decode (mk_c M1_key) 26 = .ok (.iconst 0, 1) := by decide +kernel
theorem d1_key_27 : decode (mk_c M1_key) 27 = .ok (.istore_n 3, 1) := by decide +kernel
theorem d1_key_28 : decode (mk_c M1_key) 28 = .ok (.iload_n 3, 1) := by decide +kernel
theorem d1_key_29 : decode (mk_c M1_key) 29 = .ok (.aload_n 0, 1) := by decide +kernel
theorem d1_key_30 : decode (mk_c M1_key) 30 = .ok (.getfield 73, 3) := by decide +kernel
theorem d1_key_33 : decode (mk_c M1_key) 33 = .ok (.if_icmp .ge 74, 3) := by decide +kernel
theorem d1_key_36 : decode (mk_c M1_key) 36 = .ok (.iconst 0, 1) := by decide +kernel
theorem d1_key_37 : decode (mk_c M1_key) 37 = .ok (.istore 4, 2) := by decide +kernel
theorem d1_key_39 : decode (mk_c M1_key) 39 = .ok (.iload 4, 2) := by decide +kernel
theorem d1_key_41 : decode (mk_c M1_key) 41 = .ok (.bipush 16, 2) := by decide +kernel
theorem d1_key_43 : decode (mk_c M1_key) 43 = .ok (.if_icmp .ge 58, 3) := by decide +kernel
theorem d1_key_46 : decode (mk_c M1_key) 46 = .ok (.aload_n 0, 1) := by decide +kernel
theorem d1_key_47 : decode (mk_c M1_key) 47 = .ok (.getfield 24, 3) := by decide +kernel
theorem d1_key_50 : decode (mk_c M1_key) 50 = .ok (.iload_n 3, 1) := by decide +kernel
theorem d1_key_51 : decode (mk_c M1_key) 51 = .ok (.aaload, 1) := by decide +kernel
theorem d1_key_52 : decode (mk_c M1_key) 52 = .ok (.getfield 100, 3) := by decide +kernel
theorem d1_key_55 : decode (mk_c M1_key) 55 = .ok (.iload 4, 2) := by decide +kernel
theorem d1_key_57 : decode (mk_c M1_key) 57 = .ok (.ishr, 1) := by decide +kernel
theorem d1_key_58 : decode (mk_c M1_key) 58 = .ok (.iconst 1, 1) := by decide +kernel
theorem d1_key_59 : decode (mk_c M1_key) 59 = .ok (.iand, 1) := by decide +kernel
theorem d1_key_60 : decode (mk_c M1_key) 60 = .ok (.ifCond .ne 6, 3) := by decide +kernel
theorem d1_key_63 : decode (mk_c M1_key) 63 = .ok (.goto 32, 3) := by decide +kernel
theorem d1_key_66 : decode (mk_c M1_key) 66 = .ok (.aload_n 0, 1) := by decide +kernel
theorem d1_key_67 : decode (mk_c M1_key) 67 = .ok (.iload_n 3, 1) := by decide +kernel
theorem d1_key_68 : decode (mk_c M1_key) 68 = .ok (.iload 4, 2) := by decide +kernel
theorem d1_key_70 : decode (mk_c M1_key) 70 = .ok (.invokevirtual 242, 3) := by decide +kernel
theorem d1_key_73 : decode (mk_c M1_key) 73 = .ok (.istore 5, 2) := by decide +kernel
theorem d1_key_75 : decode (mk_c M1_key) 75 = .ok (.iload 5, 2) := by decide +kernel
theorem d1_key_77 : decode (mk_c M1_key) 77 = .ok (.iload_n 1, 1) := by decide +kernel
theorem d1_key_78 : decode (mk_c M1_key) 78 = .ok (.if_icmp .lt 6, 3) := by decide +kernel
theorem d1_key_81 : decode (mk_c M1_key) 81 = .ok (.goto 14, 3) := by decide +kernel
theorem d1_key_84 : decode (mk_c M1_key) 84 = .ok (.iload 5, 2) := by decide +kernel
theorem d1_key_86 : decode (mk_c M1_key) 86 = .ok (.istore_n 1, 1) := by decide +kernel
theorem d1_key_87 : decode (mk_c M1_key) 87 = .ok (.bipush 100, 2) := by decide +kernel
theorem d1_key_89 : decode (mk_c M1_key) 89 = .ok (.iload_n 3, 1) := by decide +kernel
theorem d1_key_90 : decode (mk_c M1_key) 90 = .ok (.imul, 1) := by decide +kernel
theorem d1_key_91 : decode (mk_c M1_key) 91 = .ok (.iload 4, 2) := by decide +kernel
theorem d1_key_93 : decode (mk_c M1_key) 93 = .ok (.iadd, 1) := by decide +kernel
theorem d1_key_94 : decode (mk_c M1_key) 94 = .ok (.istore_n 2, 1) := by decide +kernel
theorem d1_key_95 : decode (mk_c M1_key) 95 = .ok (.iinc 4 1, 3) := by decide +kernel
theorem d1_key_98 : decode (mk_c M1_key) 98 = .ok (.goto (-59), 3) := by decide +kernel
theorem d1_key_101 : decode (mk_c M1_key) 101 = .ok (.iinc 3 1, 3) := by decide +kernel
theorem d1_key_104 : decode (mk_c M1_key) 104 = .ok (.goto (-76), 3) := by decide +kernel
theorem d1_key_107 : decode (mk_c M1_key) 107 = .ok (.iload_n 2, 1) := by decide +kernel
theorem d1_key_108 : decode (mk_c M1_key) 108 = .ok (.ireturn, 1) := by decide +kernel
theorem d1_count_0 : decode (mk_c M1_count) 0 = .ok (.iconst 0, 1) := by decide +kernel
theorem d1_count_1 : decode (mk_c M1_count) 1 = .ok (.istore_n 2, 1) := by decide +kernel
theorem d1_count_2 : decode (mk_c M1_count) 2 = .ok (.iload_n 1, 1) := by decide +kernel
theorem d1_count_3 : decode (mk_c M1_count) 3 = .ok (.tableswitch 134 0 4 #[33, 38, 68, 101, 129], 33) := by decide +kernel
theorem d1_count_36 : decode (mk_c M1_count) 36 = .ok (.aload_n 0, 1) := by decide +kernel
theorem d1_count_37 : decode (mk_c M1_count) 37 = .ok (.getfield 73, 3) := by decide +kernel
theorem d1_count_40 : decode (mk_c M1_count) 40 = .ok (.ireturn, 1) := by decide +kernel
theorem d1_count_41 : decode (mk_c M1_count) 41 = .ok (.iconst 0, 1) := by decide +kernel
theorem d1_count_42 : decode (mk_c M1_count) 42 = .ok (.istore_n 3, 1) := by decide +kernel
theorem d1_count_43 : decode (mk_c M1_count) 43 = .ok (.iload_n 3, 1) := by decide +kernel
theorem d1_count_44 : decode (mk_c M1_count) 44 = .ok (.aload_n 0, 1) := by decide +kernel
theorem d1_count_45 : decode (mk_c M1_count) 45 = .ok (.getfield 73, 3) := by decide +kernel
theorem d1_count_48 : decode (mk_c M1_count) 48 = .ok (.if_icmp .ge 21, 3) := by decide +kernel
theorem d1_count_51 : decode (mk_c M1_count) 51 = .ok (.iload_n 2, 1) := by decide +kernel
theorem d1_count_52 : decode (mk_c M1_count) 52 = .ok (.aload_n 0, 1) := by decide +kernel
theorem d1_count_53 : decode (mk_c M1_count) 53 = .ok (.getfield 24, 3) := by decide +kernel
theorem d1_count_56 : decode (mk_c M1_count) 56 = .ok (.iload_n 3, 1) := by decide +kernel
theorem d1_count_57 : decode (mk_c M1_count) 57 = .ok (.aaload, 1) := by decide +kernel
theorem d1_count_58 : decode (mk_c M1_count) 58 = .ok (.getfield 133, 3) := by decide +kernel
theorem d1_count_61 : decode (mk_c M1_count) 61 = .ok (.iadd, 1) := by decide +kernel
theorem d1_count_62 : decode (mk_c M1_count) 62 = .ok (.istore_n 2, 1) := by decide +kernel
theorem d1_count_63 : decode (mk_c M1_count) 63 = .ok (.iinc 3 1, 3) := by decide +kernel
theorem d1_count_66 : decode (mk_c M1_count) 66 = .ok (.goto (-23), 3) := by decide +kernel
theorem d1_count_69 : decode (mk_c M1_count) 69 = .ok (.iload_n 2, 1) := by decide +kernel
theorem d1_count_70 : decode (mk_c M1_count) 70 = .ok (.ireturn, 1) := by decide +kernel
theorem d1_count_71 : decode (mk_c M1_count) 71 = .ok (.iconst 0, 1) := by decide +kernel
theorem d1_count_72 : decode (mk_c M1_count) 72 = .ok (.istore_n 3, 1) := by decide +kernel
theorem d1_count_73 : decode (mk_c M1_count) 73 = .ok (.iload_n 3, 1) := by decide +kernel
theorem d1_count_74 : decode (mk_c M1_count) 74 = .ok (.aload_n 0, 1) := by decide +kernel
theorem d1_count_75 : decode (mk_c M1_count) 75 = .ok (.getfield 73, 3) := by decide +kernel
theorem d1_count_78 : decode (mk_c M1_count) 78 = .ok (.if_icmp .ge 24, 3) := by decide +kernel
theorem d1_count_81 : decode (mk_c M1_count) 81 = .ok (.iload_n 2, 1) := by decide +kernel
theorem d1_count_82 : decode (mk_c M1_count) 82 = .ok (.aload_n 0, 1) := by decide +kernel
theorem d1_count_83 : decode (mk_c M1_count) 83 = .ok (.getfield 24, 3) := by decide +kernel
theorem d1_count_86 : decode (mk_c M1_count) 86 = .ok (.iload_n 3, 1) := by decide +kernel
theorem d1_count_87 : decode (mk_c M1_count) 87 = .ok (.aaload, 1) := by decide +kernel
theorem d1_count_88 : decode (mk_c M1_count) 88 = .ok (.getfield 100, 3) := by decide +kernel
theorem d1_count_91 : decode (mk_c M1_count) 91 = .ok (.invokestatic 174, 3) := by decide +kernel
theorem d1_count_94 : decode (mk_c M1_count) 94 = .ok (.iadd, 1) := by decide +kernel
theorem d1_count_95 : decode (mk_c M1_count) 95 = .ok (.istore_n 2, 1) := by decide +kernel
theorem d1_count_96 : decode (mk_c M1_count) 96 = .ok (.iinc 3 1, 3) := by decide +kernel
theorem d1_count_99 : decode (mk_c M1_count) 99 = .ok (.goto (-26), 3) := by decide +kernel
theorem d1_count_102 : decode (mk_c M1_count) 102 = .ok (.iload_n 2, 1) := by decide +kernel
theorem d1_count_103 : decode (mk_c M1_count) 103 = .ok (.ireturn, 1) := by decide +kernel
theorem d1_count_104 : decode (mk_c M1_count) 104 = .ok (.iconst 0, 1) := by decide +kernel
theorem d1_count_105 : decode (mk_c M1_count) 105 = .ok (.istore_n 3, 1) := by decide +kernel
theorem d1_count_106 : decode (mk_c M1_count) 106 = .ok (.iload_n 3, 1) := by decide +kernel
theorem d1_count_107 : decode (mk_c M1_count) 107 = .ok (.bipush 16, 2) := by decide +kernel
theorem d1_count_109 : decode (mk_c M1_count) 109 = .ok (.if_icmp .ge 21, 3) := by decide +kernel
theorem d1_count_112 : decode (mk_c M1_count) 112 = .ok (.iload_n 2, 1) := by decide +kernel
theorem d1_count_113 : decode (mk_c M1_count) 113 = .ok (.aload_n 0, 1) := by decide +kernel
theorem d1_count_114 : decode (mk_c M1_count) 114 = .ok (.getfield 28, 3) := by decide +kernel
theorem d1_count_117 : decode (mk_c M1_count) 117 = .ok (.iload_n 3, 1) := by decide +kernel
theorem d1_count_118 : decode (mk_c M1_count) 118 = .ok (.iaload, 1) := by decide +kernel
theorem d1_count_119 : decode (mk_c M1_count) 119 = .ok (.invokestatic 174, 3) := by decide +kernel
theorem d1_count_122 : decode (mk_c M1_count) 122 = .ok (.iadd, 1) := by decide +kernel
theorem d1_count_123 : decode (mk_c M1_count) 123 = .ok (.istore_n 2, 1) := by decide +kernel
theorem d1_count_124 : decode (mk_c M1_count) 124 = .ok (.iinc 3 1, 3) := by decide +kernel
theorem d1_count_127 : decode (mk_c M1_count) 127 = .ok (.goto (-21), 3) := by decide +kernel
theorem d1_count_130 : decode (mk_c M1_count) 130 = .ok (.iload_n 2, 1) := by decide +kernel
theorem d1_count_131 : decode (mk_c M1_count) 131 = .ok (.ireturn, 1) := by decide +kernel
theorem d1_count_132 : decode (mk_c M1_count) 132 = .ok (.aload_n 0, 1) := by decide +kernel
theorem d1_count_133 : decode (mk_c M1_count) 133 = .ok (.getfield 107, 3) := by decide +kernel
theorem d1_count_136 : decode (mk_c M1_count) 136 = .ok (.ireturn, 1) := by decide +kernel
theorem d1_count_137 : decode (mk_c M1_count) 137 = .ok (.iconst (-1), 1) := by decide +kernel
theorem d1_count_138 : decode (mk_c M1_count) 138 = .ok (.ireturn, 1) := by decide +kernel
theorem d1_trouble_0 : decode (mk_c M1_trouble) 0 = .ok (.aload_n 0, 1) := by decide +kernel
theorem d1_trouble_1 : decode (mk_c M1_trouble) 1 = .ok (.getfield 70, 3) := by decide +kernel
theorem d1_trouble_4 : decode (mk_c M1_trouble) 4 = .ok (.ireturn, 1) := by decide +kernel
theorem d1_step_0 : decode (mk_c M1_step) 0 = .ok (.iload_n 1, 1) := by decide +kernel
theorem d1_step_1 : decode (mk_c M1_step) 1 = .ok (.iconst 0, 1) := by decide +kernel
theorem d1_step_2 : decode (mk_c M1_step) 2 = .ok (.aload_n 0, 1) := by decide +kernel
theorem d1_step_3 : decode (mk_c M1_step) 3 = .ok (.getfield 203, 3) := by decide +kernel
theorem d1_step_6 : decode (mk_c M1_step) 6 = .ok (.iconst 1, 1) := by decide +kernel
theorem d1_step_7 : decode (mk_c M1_step) 7 = .ok (.isub, 1) := by decide +kernel
theorem d1_step_8 : decode (mk_c M1_step) 8 = .ok (.invokestatic 76, 3) := by decide +kernel
theorem d1_step_11 : decode (mk_c M1_step) 11 = .ok (.ifCond .ne 11, 3) := by decide +kernel
theorem d1_step_14 : decode (mk_c M1_step) 14 = .ok (.new 214, 3) := by decide +kernel
theorem d1_step_17 : decode (mk_c M1_step) 17 = .ok (.dup, 1) := by decide +kernel
theorem d1_step_18 : decode (mk_c M1_step) 18 = .ok (.invokespecial 216, 3) := by decide +kernel
theorem d1_step_21 : decode (mk_c M1_step) 21 = .ok (.athrow, 1) := by decide +kernel
theorem d1_step_22 : decode (mk_c M1_step) 22 = .ok (.aload_n 0, 1) := by decide +kernel
theorem d1_step_23 : decode (mk_c M1_step) 23 = .ok (.getfield 58, 3) := by decide +kernel
theorem d1_step_26 : decode (mk_c M1_step) 26 = .ok (.iload_n 1, 1) := by decide +kernel
theorem d1_step_27 : decode (mk_c M1_step) 27 = .ok (.iaload, 1) := by decide +kernel
theorem d1_step_28 : decode (mk_c M1_step) 28 = .ok (.ireturn, 1) := by decide +kernel
