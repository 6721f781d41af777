set_option maxRecDepth 100000
theorem d5_init_0 : decode (mk_c M5_init) 0 = .ok (.aload_n 0, 1) := by decide +kernel
theorem d5_init_1 : decode (mk_c M5_init) 1 = .ok (.invokespecial 3, 3) := by decide +kernel
theorem d5_init_4 : decode (mk_c M5_init) 4 = .ok (.aload_n 0, 1) := by decide +kernel
theorem d5_init_5 : decode (mk_c M5_init) 5 = .ok (.iconst (-1), 1) := by decide +kernel
theorem d5_init_6 : decode (mk_c M5_init) 6 = .ok (.putfield 9, 3) := by decide +kernel
theorem d5_init_9 : decode (mk_c M5_init) 9 = .ok (.aload_n 0, 1) := by decide +kernel
theorem d5_init_10 : decode (mk_c M5_init) 10 = .ok (.bipush 10, 2) := by decide +kernel
theorem d5_init_12 : decode (mk_c M5_init) 12 = .ok (.newarray .int, 2) := by decide +kernel
theorem d5_init_14 : decode (mk_c M5_init) 14 = .ok (.putfield 13, 3) := by decide +kernel
theorem d5_init_17 : decode (mk_c M5_init) 17 = .ok (.aload_n 0, 1) := by decide +kernel
theorem d5_init_18 : decode (mk_c M5_init) 18 = .ok (.bipush 11, 2) := by decide +kernel
theorem d5_init_20 : decode (mk_c M5_init) 20 = .ok (.newarray .int, 2) := by decide +kernel
theorem d5_init_22 : decode (mk_c M5_init) 22 = .ok (.putfield 17, 3) := by decide +kernel
theorem d5_init_25 : decode (mk_c M5_init) 25 = .ok (.aload_n 0, 1) := by decide +kernel
theorem d5_init_26 : decode (mk_c M5_init) 26 = .ok (.bipush 16, 2) := by decide +kernel
theorem d5_init_28 : decode (mk_c M5_init) 28 = .ok (.newarray .int, 2) := by decide +kernel
theorem d5_init_30 : decode (mk_c M5_init) 30 = .ok (.putfield 20, 3) := by decide +kernel
theorem d5_init_33 : decode (mk_c M5_init) 33 = .ok (.aload_n 0, 1) := by decide +kernel
theorem d5_init_34 : decode (mk_c M5_init) 34 = .ok (.sipush 132, 3) := by decide +kernel
theorem d5_init_37 : decode (mk_c M5_init) 37 = .ok (.newarray .int, 2) := by decide +kernel
theorem d5_init_39 : decode (mk_c M5_init) 39 = .ok (.putfield 23, 3) := by decide +kernel
theorem d5_init_42 : decode (mk_c M5_init) 42 = .ok (.aload_n 0, 1) := by decide +kernel
theorem d5_init_43 : decode (mk_c M5_init) 43 = .ok (.sipush 132, 3) := by decide +kernel
theorem d5_init_46 : decode (mk_c M5_init) 46 = .ok (.newarray .int, 2) := by decide +kernel
theorem d5_init_48 : decode (mk_c M5_init) 48 = .ok (.putfield 26, 3) := by decide +kernel
theorem d5_init_51 : decode (mk_c M5_init) 51 = .ok (.aload_n 0, 1) := by decide +kernel
theorem d5_init_52 : decode (mk_c M5_init) 52 = .ok (.sipush 132, 3) := by decide +kernel
theorem d5_init_55 : decode (mk_c M5_init) 55 = .ok (.newarray .int, 2) := by decide +kernel
theorem d5_init_57 : decode (mk_c M5_init) 57 = .ok (.putfield 29, 3) := by decide +kernel
theorem d5_init_60 : decode (mk_c M5_init) 60 = .ok (.aload_n 0, 1) := by decide +kernel
theorem d5_init_61 : decode (mk_c M5_init) 61 = .ok (.sipush 132, 3) := by decide +kernel
theorem d5_init_64 : decode (mk_c M5_init) 64 = .ok (.newarray .int, 2) := by decide +kernel
theorem d5_init_66 : decode (mk_c M5_init) 66 = .ok (.putfield 32, 3) := by decide +kernel
theorem d5_init_69 : decode (mk_c M5_init) 69 = .ok (.aload_n 0, 1) := by decide +kernel
theorem d5_init_70 : decode (mk_c M5_init) 70 = .ok (.sipush 528, 3) := by decide +kernel
theorem d5_init_73 : decode (mk_c M5_init) 73 = .ok (.newarray .int, 2) := by decide +kernel
theorem d5_init_75 : decode (mk_c M5_init) 75 = .ok (.putfield 35, 3) := by decide +kernel
theorem d5_init_78 : decode (mk_c M5_init) 78 = .ok (.aload_n 0, 1) := by decide +kernel
theorem d5_init_79 : decode (mk_c M5_init) 79 = .ok (.new 38, 3) := by decide +kernel
theorem d5_init_82 : decode (mk_c M5_init) 82 = .ok (.dup, 1) := by decide +kernel
theorem d5_init_83 : decode (mk_c M5_init) 83 = .ok (.invokespecial 40, 3) := by decide +kernel
theorem d5_init_86 : decode (mk_c M5_init) 86 = .ok (.putfield 41, 3) := by decide +kernel
theorem d5_init_89 : decode (mk_c M5_init) 89 = .ok (.aload_n 0, 1) := by decide +kernel
theorem d5_init_90 : decode (mk_c M5_init) 90 = .ok (.sipush 300, 3) := by decide +kernel
theorem d5_init_93 : decode (mk_c M5_init) 93 = .ok (.newarray .byte, 2) := by decide +kernel
theorem d5_init_95 : decode (mk_c M5_init) 95 = .ok (.putfield 45, 3) := by decide +kernel
theorem d5_init_98 : decode (mk_c M5_init) 98 = .ok (.aload_n 0, 1) := by decide +kernel
theorem d5_init_99 : decode (mk_c M5_init) 99 = .ok (.bipush 80, 2) := by decide +kernel
theorem d5_init_101 : decode (mk_c M5_init) 101 = .ok (.newarray .int, 2) := by decide +kernel
theorem d5_init_103 : decode (mk_c M5_init) 103 = .ok (.putfield 49, 3) := by decide +kernel
theorem d5_init_106 : decode (mk_c M5_init) 106 = .ok (.aload_n 0, 1) := by decide +kernel
theorem d5_init_107 : decode (mk_c M5_init) 107 = .ok (.bipush 80, 2) := by decide +kernel
theorem d5_init_109 : decode (mk_c M5_init) 109 = .ok (.newarray .int, 2) := by decide +kernel
theorem d5_init_111 : decode (mk_c M5_init) 111 = .ok (.putfield 52, 3) := by decide +kernel
theorem d5_init_114 : decode (mk_c M5_init) 114 = .ok (.aload_n 0, 1) := by decide +kernel
theorem d5_init_115 : decode (mk_c M5_init) 115 = .ok (.bipush 10, 2) := by decide +kernel
theorem d5_init_117 : decode (mk_c M5_init) 117 = .ok (.newarray .int, 2) := by decide +kernel
theorem d5_init_119 : decode (mk_c M5_init) 119 = .ok (.putfield 55, 3) := by decide +kernel
theorem d5_init_122 : decode (mk_c M5_init) 122 = .ok (.aload_n 0, 1) := by decide +kernel
theorem d5_init_123 : decode (mk_c M5_init) 123 = .ok (.bipush 16, 2) := by decide +kernel
theorem d5_init_125 : decode (mk_c M5_init) 125 = .ok (.newarray .int, 2) := by decide +kernel
theorem d5_init_127 : decode (mk_c M5_init) 127 = .ok (.putfield 58, 3) := by decide +kernel
theorem d5_init_130 : decode (mk_c M5_init) 130 = .ok (.aload_n 0, 1) := by decide +kernel
theorem d5_init_131 : decode (mk_c M5_init) 131 = .ok (.bipush 10, 2) := by decide +kernel
theorem d5_init_133 : decode (mk_c M5_init) 133 = .ok (.newarray .boolean, 2) := by decide +kernel
theorem d5_init_135 : decode (mk_c M5_init) 135 = .ok (.putfield 61, 3) := by decide +kernel
theorem d5_init_138 : decode (mk_c M5_init) 138 = .ok (.aload_n 0, 1) := by decide +kernel
theorem d5_init_139 : decode (mk_c M5_init) 139 = .ok (.bipush 91, 2) := by decide +kernel
theorem d5_init_141 : decode (mk_c M5_init) 141 = .ok (.newarray .int, 2) := by decide +kernel
theorem d5_init_143 : decode (mk_c M5_init) 143 = .ok (.putfield 65, 3) := by decide +kernel
theorem d5_init_146 : decode (mk_c M5_init) 146 = .ok (.aload_n 0, 1) := by decide +kernel
theorem d5_init_147 : decode (mk_c M5_init) 147 = .ok (.bipush 92, 2) := by decide +kernel
theorem d5_init_149 : decode (mk_c M5_init) 149 = .ok (.newarray .int, 2) := by decide +kernel
theorem d5_init_151 : decode (mk_c M5_init) 151 = .ok (.putfield 68, 3) := by decide +kernel
theorem d5_init_154 : decode (mk_c M5_init) 154 = .ok (.aload_n 0, 1) := by decide +kernel
theorem d5_init_155 : decode (mk_c M5_init) 155 = .ok (.bipush 10, 2) := by decide +kernel
theorem d5_init_157 : decode (mk_c M5_init) 157 = .ok (.newarray .int, 2) := by decide +kernel
theorem d5_init_159 : decode (mk_c M5_init) 159 = .ok (.putfield 71, 3) := by decide +kernel
theorem d5_init_162 : decode (mk_c M5_init) 162 = .ok (.aload_n 0, 1) := by decide +kernel
theorem d5_init_163 : decode (mk_c M5_init) 163 = .ok (.bipush 10, 2) := by decide +kernel
theorem d5_init_165 : decode (mk_c M5_init) 165 = .ok (.newarray .int, 2) := by decide +kernel
theorem d5_init_167 : decode (mk_c M5_init) 167 = .ok (.putfield 74, 3) := by decide +kernel
theorem d5_init_170 : decode (mk_c M5_init) 170 = .ok (.aload_n 0, 1) := by decide +kernel
theorem d5_init_171 : decode (mk_c M5_init) 171 = .ok (.bipush 16, 2) := by decide +kernel
theorem d5_init_173 : decode (mk_c M5_init) 173 = .ok (.newarray .int, 2) := by decide +kernel
theorem d5_init_175 : decode (mk_c M5_init) 175 = .ok (.putfield 77, 3) := by decide +kernel
theorem d5_init_178 : decode (mk_c M5_init) 178 = .ok (.return_, 1) := by decide +kernel
theorem d5_thrown_0 : decode (mk_c M5_thrown) 0 = .ok (.aload_n 0, 1) := by decide +kernel
theorem d5_thrown_1 : decode (mk_c M5_thrown) 1 = .ok (.getfield 80, 3) := by decide +kernel
theorem d5_thrown_4 : decode (mk_c M5_thrown) 4 = .ok (.ireturn, 1) := by decide +kernel
theorem d5_part_0 : decode (mk_c M5_part) 0 = .ok (.aload_n 0, 1) := by decide +kernel
theorem d5_part_1 : decode (mk_c M5_part) 1 = .ok (.iconst 0, 1) := by decide +kernel
theorem d5_part_2 : decode (mk_c M5_part) 2 = .ok (.putfield 80, 3) := by decide +kernel
theorem d5_part_5 : decode (mk_c M5_part) 5 = .ok (.iload_n 1, 1) := by decide +kernel
theorem d5_part_6 : decode (mk_c M5_part) 6 = .ok (.iconst 0, 1) := by decide +kernel
theorem d5_part_7 : decode (mk_c M5_part) 7 = .ok (.ldc 89, 2) := by decide +kernel
theorem d5_part_9 : decode (mk_c M5_part) 9 = .ok (.invokestatic 90, 3) := by decide +kernel
theorem d5_part_12 : decode (mk_c M5_part) 12 = .ok (.ifCond .ne 9, 3) := by decide +kernel
theorem d5_part_15 : decode (mk_c M5_part) 15 = .ok (.aload_n 0, 1) := by decide +kernel
theorem d5_part_16 : decode (mk_c M5_part) 16 = .ok (.iconst 2, 1) := by decide +kernel
theorem d5_part_17 : decode (mk_c M5_part) 17 = .ok (.invokevirtual 94, 3) := by decide +kernel
theorem d5_part_20 : decode (mk_c M5_part) 20 = .ok (.ireturn, 1) := by decide +kernel
theorem d5_part_21 : decode (mk_c M5_part) 21 = .ok (.aload_n 0, 1) := by decide +kernel
theorem d5_part_22 : decode (mk_c M5_part) 22 = .ok (.getfield 86, 3) := by decide +kernel
theorem d5_part_25 : decode (mk_c M5_part) 25 = .ok (.bipush 10, 2) := by decide +kernel
theorem d5_part_27 : decode (mk_c M5_part) 27 = .ok (.if_icmp .ne 9, 3) := by decide +kernel
theorem d5_part_30 : decode (mk_c M5_part) 30 = .ok (.aload_n 0, 1) := by decide +kernel
theorem d5_part_31 : decode (mk_c M5_part) 31 = .ok (.iconst 3, 1) := by decide +kernel
theorem d5_part_32 : decode (mk_c M5_part) 32 = .ok (.invokevirtual 94, 3) := by decide +kernel
theorem d5_part_35 : decode (mk_c M5_part) 35 = .ok (.ireturn, 1) := by decide +kernel
theorem d5_part_36 : decode (mk_c M5_part) 36 = .ok (.aload_n 0, 1) := by decide +kernel
theorem d5_part_37 : decode (mk_c M5_part) 37 = .ok (.getfield 13, 3) := by decide +kernel
theorem d5_part_40 : decode (mk_c M5_part) 40 = .ok (.aload_n 0, 1) := by decide +kernel
theorem d5_part_41 : decode (mk_c M5_part) 41 = .ok (.getfield 86, 3) := by decide +kernel
theorem d5_part_44 : decode (mk_c M5_part) 44 = .ok (.iload_n 1, 1) := by decide +kernel
theorem d5_part_45 : decode (mk_c M5_part) 45 = .ok (.iastore, 1) := by decide +kernel
theorem d5_part_46 : decode (mk_c M5_part) 46 = .ok (.aload_n 0, 1) := by decide +kernel
theorem d5_part_47 : decode (mk_c M5_part) 47 = .ok (.getfield 17, 3) := by decide +kernel
theorem d5_part_50 : decode (mk_c M5_part) 50 = .ok (.aload_n 0, 1) := by decide +kernel
theorem d5_part_51 : decode (mk_c M5_part) 51 = .ok (.getfield 86, 3) := by decide +kernel
theorem d5_part_54 : decode (mk_c M5_part) 54 = .ok (.iconst 0, 1) := by decide +kernel
theorem d5_part_55 : decode (mk_c M5_part) 55 = .ok (.iastore, 1) := by decide +kernel
theorem d5_part_56 : decode (mk_c M5_part) 56 = .ok (.aload_n 0, 1) := by decide +kernel
theorem d5_part_57 : decode (mk_c M5_part) 57 = .ok (.dup, 1) := by decide +kernel
theorem d5_part_58 : decode (mk_c M5_part) 58 = .ok (.getfield 86, 3) := by decide +kernel
theorem d5_part_61 : decode (mk_c M5_part) 61 = .ok (.iconst 1, 1) := by decide +kernel
theorem d5_part_62 : decode (mk_c M5_part) 62 = .ok (.iadd, 1) := by decide +kernel
theorem d5_part_63 : decode (mk_c M5_part) 63 = .ok (.putfield 86, 3) := by decide +kernel
theorem d5_part_66 : decode (mk_c M5_part) 66 = .ok (.aload_n 0, 1) := by decide +kernel
theorem d5_part_67 : decode (mk_c M5_part) 67 = .ok (.aload_n 0, 1) := by decide +kernel
theorem d5_part_68 : decode (mk_c M5_part) 68 = .ok (.getfield 86, 3) := by decide +kernel
theorem d5_part_71 : decode (mk_c M5_part) 71 = .ok (.iconst 1, 1) := by decide +kernel
theorem d5_part_72 : decode (mk_c M5_part) 72 = .ok (.isub, 1) := by decide +kernel
theorem d5_part_73 : decode (mk_c M5_part) 73 = .ok (.invokevirtual 98, 3) := by decide +kernel
theorem d5_part_76 : decode (mk_c M5_part) 76 = .ok (.ireturn, 1) := by decide +kernel
theorem d5_in_0 : decode (mk_c M5_in) 0 = .ok (.iload_n 0, 1) := by decide +kernel
theorem d5_in_1 : decode (mk_c M5_in) 1 = .ok (.iload_n 1, 1) := by decide +kernel
theorem d5_in_2 : decode (mk_c M5_in) 2 = .ok (.if_icmp .lt 12, 3) := by decide +kernel
theorem d5_in_5 : decode (mk_c M5_in) 5 = .ok (.iload_n 0, 1) := by decide +kernel
theorem d5_in_6 : decode (mk_c M5_in) 6 = .ok (.iload_n 2, 1) := by decide +kernel
theorem d5_in_7 : decode (mk_c M5_in) 7 = .ok (.if_icmp .gt 7, 3) := by decide +kernel
theorem d5_in_10 : decode (mk_c M5_in) 10 = .ok (.iconst 1, 1) := by decide +kernel
theorem d5_in_11 : decode (mk_c M5_in) 11 = .ok (.goto 4, 3) := by decide +kernel
theorem d5_in_14 : decode (mk_c M5_in) 14 = .ok (.iconst 0, 1) := by decide +kernel
theorem d5_in_15 : decode (mk_c M5_in) 15 = .ok (.ireturn, 1) := by decide +kernel
theorem d5_refused_0 : decode (mk_c M5_refused) 0 = .ok (.aload_n 0, 1) := by decide +kernel
theorem d5_refused_1 : decode (mk_c M5_refused) 1 = .ok (.iload_n 1, 1) := by decide +kernel
theorem d5_refused_2 : decode (mk_c M5_refused) 2 = .ok (.putfield 83, 3) := by decide +kernel
theorem d5_refused_5 : decode (mk_c M5_refused) 5 = .ok (.aload_n 0, 1) := by decide +kernel
theorem d5_refused_6 : decode (mk_c M5_refused) 6 = .ok (.iconst (-1), 1) := by decide +kernel
theorem d5_refused_7 : decode (mk_c M5_refused) 7 = .ok (.putfield 9, 3) := by decide +kernel
theorem d5_refused_10 : decode (mk_c M5_refused) 10 = .ok (.iconst (-1), 1) := by decide +kernel
theorem d5_refused_11 : decode (mk_c M5_refused) 11 = .ok (.ireturn, 1) := by decide +kernel
theorem d5_done_0 : decode (mk_c M5_done) 0 = .ok (.aload_n 0, 1) := by decide +kernel
theorem d5_done_1 : decode (mk_c M5_done) 1 = .ok (.iconst 0, 1) := by decide +kernel
theorem d5_done_2 : decode (mk_c M5_done) 2 = .ok (.putfield 83, 3) := by decide +kernel
theorem d5_done_5 : decode (mk_c M5_done) 5 = .ok (.aload_n 0, 1) := by decide +kernel
theorem d5_done_6 : decode (mk_c M5_done) 6 = .ok (.iconst (-1), 1) := by decide +kernel
theorem d5_done_7 : decode (mk_c M5_done) 7 = .ok (.putfield 9, 3) := by decide +kernel
theorem d5_done_10 : decode (mk_c M5_done) 10 = .ok (.iload_n 1, 1) := by decide +kernel
theorem d5_done_11 : decode (mk_c M5_done) 11 = .ok (.ireturn, 1) := by decide +kernel
theorem d5_grant_0 : decode (mk_c M5_grant) 0 = .ok (.aload_n 0, 1) := by decide +kernel
theorem d5_grant_1 : decode (mk_c M5_grant) 1 = .ok (.iconst 0, 1) := by decide +kernel
theorem d5_grant_2 : decode (mk_c M5_grant) 2 = .ok (.putfield 80, 3) := by decide +kernel
theorem d5_grant_5 : decode (mk_c M5_grant) 5 = .ok (.aload_n 0, 1) := by decide +kernel
theorem d5_grant_6 : decode (mk_c M5_grant) 6 = .ok (.iload_n 1, 1) := by decide +kernel
theorem d5_grant_7 : decode (mk_c M5_grant) 7 = .ok (.invokevirtual 101, 3) := by decide +kernel
theorem d5_grant_10 : decode (mk_c M5_grant) 10 = .ok (.ifCond .ne 9, 3) := by decide +kernel
theorem d5_grant_13 : decode (mk_c M5_grant) 13 = .ok (.aload_n 0, 1) := by decide +kernel
theorem d5_grant_14 : decode (mk_c M5_grant) 14 = .ok (.iconst 1, 1) := by decide +kernel
theorem d5_grant_15 : decode (mk_c M5_grant) 15 = .ok (.invokevirtual 105, 3) := by decide +kernel
theorem d5_grant_18 : decode (mk_c M5_grant) 18 = .ok (.ireturn, 1) := by decide +kernel
theorem d5_grant_19 : decode (mk_c M5_grant) 19 = .ok (.iload_n 2, 1) := by decide +kernel
theorem d5_grant_20 : decode (mk_c M5_grant) 20 = .ok (.iconst 0, 1) := by decide +kernel
theorem d5_grant_21 : decode (mk_c M5_grant) 21 = .ok (.ldc 89, 2) := by decide +kernel
theorem d5_grant_23 : decode (mk_c M5_grant) 23 = .ok (.invokestatic 90, 3) := by decide +kernel
theorem d5_grant_26 : decode (mk_c M5_grant) 26 = .ok (.ifCond .ne 9, 3) := by decide +kernel
theorem d5_grant_29 : decode (mk_c M5_grant) 29 = .ok (.aload_n 0, 1) := by decide +kernel
theorem d5_grant_30 : decode (mk_c M5_grant) 30 = .ok (.iconst 2, 1) := by decide +kernel
theorem d5_grant_31 : decode (mk_c M5_grant) 31 = .ok (.invokevirtual 105, 3) := by decide +kernel
theorem d5_grant_34 : decode (mk_c M5_grant) 34 = .ok (.ireturn, 1) := by decide +kernel
theorem d5_grant_35 : decode (mk_c M5_grant) 35 = .ok (.aload_n 0, 1) := by decide +kernel
theorem d5_grant_36 : decode (mk_c M5_grant) 36 = .ok (.getfield 13, 3) := by decide +kernel
theorem d5_grant_39 : decode (mk_c M5_grant) 39 = .ok (.iload_n 1, 1) := by decide +kernel
theorem d5_grant_40 : decode (mk_c M5_grant) 40 = .ok (.iload_n 2, 1) := by decide +kernel
theorem d5_grant_41 : decode (mk_c M5_grant) 41 = .ok (.iastore, 1) := by decide +kernel
theorem d5_grant_42 : decode (mk_c M5_grant) 42 = .ok (.aload_n 0, 1) := by decide +kernel
theorem d5_grant_43 : decode (mk_c M5_grant) 43 = .ok (.invokevirtual 108, 3) := by decide +kernel
theorem d5_grant_46 : decode (mk_c M5_grant) 46 = .ok (.ireturn, 1) := by decide +kernel
theorem d5_isPart_0 : decode (mk_c M5_isPart) 0 = .ok (.iload_n 1, 1) := by decide +kernel
theorem d5_isPart_1 : decode (mk_c M5_isPart) 1 = .ok (.ifCond .lt 15, 3) := by decide +kernel
theorem d5_isPart_4 : decode (mk_c M5_isPart) 4 = .ok (.iload_n 1, 1) := by decide +kernel
theorem d5_isPart_5 : decode (mk_c M5_isPart) 5 = .ok (.aload_n 0, 1) := by decide +kernel
theorem d5_isPart_6 : decode (mk_c M5_isPart) 6 = .ok (.getfield 86, 3) := by decide +kernel
theorem d5_isPart_9 : decode (mk_c M5_isPart) 9 = .ok (.if_icmp .ge 7, 3) := by decide +kernel
theorem d5_isPart_12 : decode (mk_c M5_isPart) 12 = .ok (.iconst 1, 1) := by decide +kernel
theorem d5_isPart_13 : decode (mk_c M5_isPart) 13 = .ok (.goto 4, 3) := by decide +kernel
theorem d5_isPart_16 : decode (mk_c M5_isPart) 16 = .ok (.iconst 0, 1) := by decide +kernel
theorem d5_isPart_17 : decode (mk_c M5_isPart) 17 = .ok (.ireturn, 1) := by decide +kernel
theorem d5_denied_0 : decode (mk_c M5_denied) 0 = .ok (.aload_n 0, 1) := by decide +kernel
theorem d5_denied_1 : decode (mk_c M5_denied) 1 = .ok (.iload_n 1, 1) := by decide +kernel
theorem d5_denied_2 : decode (mk_c M5_denied) 2 = .ok (.putfield 83, 3) := by decide +kernel
theorem d5_denied_5 : decode (mk_c M5_denied) 5 = .ok (.aload_n 0, 1) := by decide +kernel
theorem d5_denied_6 : decode (mk_c M5_denied) 6 = .ok (.iconst (-1), 1) := by decide +kernel
theorem d5_denied_7 : decode (mk_c M5_denied) 7 = .ok (.putfield 9, 3) := by decide +kernel
theorem d5_denied_10 : decode (mk_c M5_denied) 10 = .ok (.iconst 0, 1) := by decide +kernel
theorem d5_denied_11 : decode (mk_c M5_denied) 11 = .ok (.ireturn, 1) := by decide +kernel
theorem d5_granted_0 : decode (mk_c M5_granted) 0 = .ok (.aload_n 0, 1) := by decide +kernel
theorem d5_granted_1 : decode (mk_c M5_granted) 1 = .ok (.iconst 0, 1) := by decide +kernel
theorem d5_granted_2 : decode (mk_c M5_granted) 2 = .ok (.putfield 83, 3) := by decide +kernel
theorem d5_granted_5 : decode (mk_c M5_granted) 5 = .ok (.aload_n 0, 1) := by decide +kernel
theorem d5_granted_6 : decode (mk_c M5_granted) 6 = .ok (.iconst (-1), 1) := by decide +kernel
theorem d5_granted_7 : decode (mk_c M5_granted) 7 = .ok (.putfield 9, 3) := by decide +kernel
theorem d5_granted_10 : decode (mk_c M5_granted) 10 = .ok (.iconst 1, 1) := by decide +kernel
theorem d5_granted_11 : decode (mk_c M5_granted) 11 = .ok (.ireturn, 1) := by decide +kernel
theorem d5_feed_0 : decode (mk_c M5_feed) 0 = .ok (.aload_n 0, 1) := by decide +kernel
theorem d5_feed_1 : decode (mk_c M5_feed) 1 = .ok (.iconst 0, 1) := by decide +kernel
theorem d5_feed_2 : decode (mk_c M5_feed) 2 = .ok (.putfield 80, 3) := by decide +kernel
theorem d5_feed_5 : decode (mk_c M5_feed) 5 = .ok (.aload_n 0, 1) := by decide +kernel
theorem d5_feed_6 : decode (mk_c M5_feed) 6 = .ok (.getfield 219, 3) := by decide +kernel
theorem d5_feed_9 : decode (mk_c M5_feed) 9 = .ok (.bipush 20, 2) := by decide +kernel
theorem d5_feed_11 : decode (mk_c M5_feed) 11 = .ok (.iadd, 1) := by decide +kernel
theorem d5_feed_12 : decode (mk_c M5_feed) 12 = .ok (.sipush 300, 3) := by decide +kernel
theorem d5_feed_15 : decode (mk_c M5_feed) 15 = .ok (.if_icmp .le 5, 3) := by decide +kernel
theorem d5_feed_18 : decode (mk_c M5_feed) 18 = .ok (.iconst (-1), 1) := by decide +kernel
theorem d5_feed_19 : decode (mk_c M5_feed) 19 = .ok (.ireturn, 1) := by decide +kernel
theorem d5_feed_20 : decode (mk_c M5_feed) 20 = .ok (.iconst 0, 1) := by decide +kernel
theorem d5_feed_21 : decode (mk_c M5_feed) 21 = .ok (.istore 6, 2) := by decide +kernel
theorem d5_feed_23 : decode (mk_c M5_feed) 23 = .ok (.iload 6, 2) := by decide +kernel
theorem d5_feed_25 : decode (mk_c M5_feed) 25 = .ok (.bipush 20, 2) := by decide +kernel
theorem d5_feed_27 : decode (mk_c M5_feed) 27 = .ok (.if_icmp .ge 90, 3) := by decide +kernel
theorem d5_feed_30 : decode (mk_c M5_feed) 30 = .ok (.iload 6, 2) := by decide +kernel
theorem d5_feed_32 : decode (mk_c M5_feed) 32 = .ok (.iconst 4, 1) := by decide +kernel
theorem d5_feed_33 : decode (mk_c M5_feed) 33 = .ok (.if_icmp .ge 7, 3) := by decide +kernel
theorem d5_feed_36 : decode (mk_c M5_feed) 36 = .ok (.iload_n 1, 1) := by decide +kernel
theorem d5_feed_37 : decode (mk_c M5_feed) 37 = .ok (.goto 39, 3) := by decide +kernel
theorem d5_feed_40 : decode (mk_c M5_feed) 40 = .ok (.iload 6, 2) := by decide +kernel
theorem d5_feed_42 : decode (mk_c M5_feed) 42 = .ok (.bipush 8, 2) := by decide +kernel
theorem d5_feed_44 : decode (mk_c M5_feed) 44 = .ok (.if_icmp .ge 7, 3) := by decide +kernel
theorem d5_feed_47 : decode (mk_c M5_feed) 47 = .ok (.iload_n 2, 1) := by decide +kernel
theorem d5_feed_48 : decode (mk_c M5_feed) 48 = .ok (.goto 28, 3) := by decide +kernel
theorem d5_feed_51 : decode (mk_c M5_feed) 51 = .ok (.iload 6, 2) := by decide +kernel
theorem d5_feed_53 : decode (mk_c M5_feed) 53 = .ok (.bipush 12, 2) := by decide +kernel
theorem d5_feed_55 : decode (mk_c M5_feed) 55 = .ok (.if_icmp .ge 7, 3) := by decide +kernel
theorem d5_feed_58 : decode (mk_c M5_feed) 58 = .ok (.iload_n 3, 1) := by decide +kernel
theorem d5_feed_59 : decode (mk_c M5_feed) 59 = .ok (.goto 17, 3) := by decide +kernel
theorem d5_feed_62 : decode (mk_c M5_feed) 62 = .ok (.iload 6, 2) := by decide +kernel
theorem d5_feed_64 : decode (mk_c M5_feed) 64 = .ok (.bipush 16, 2) := by decide +kernel
theorem d5_feed_66 : decode (mk_c M5_feed) 66 = .ok (.if_icmp .ge 8, 3) := by decide +kernel
theorem d5_feed_69 : decode (mk_c M5_feed) 69 = .ok (.iload 4, 2) := by decide +kernel
theorem d5_feed_71 : decode (mk_c M5_feed) 71 = .ok (.goto 5, 3) := by decide +kernel
theorem d5_feed_74 : decode (mk_c M5_feed) 74 = .ok (.iload 5, 2) := by decide +kernel
theorem d5_feed_76 : decode (mk_c M5_feed) 76 = .ok (.istore 7, 2) := by decide +kernel
theorem d5_feed_78 : decode (mk_c M5_feed) 78 = .ok (.aload_n 0, 1) := by decide +kernel
theorem d5_feed_79 : decode (mk_c M5_feed) 79 = .ok (.getfield 45, 3) := by decide +kernel
theorem d5_feed_82 : decode (mk_c M5_feed) 82 = .ok (.aload_n 0, 1) := by decide +kernel
theorem d5_feed_83 : decode (mk_c M5_feed) 83 = .ok (.getfield 219, 3) := by decide +kernel
theorem d5_feed_86 : decode (mk_c M5_feed) 86 = .ok (.iload 7, 2) := by decide +kernel
theorem d5_feed_88 : decode (mk_c M5_feed) 88 = .ok (.bipush 24, 2) := by decide +kernel
theorem d5_feed_90 : decode (mk_c M5_feed) 90 = .ok (.bipush 8, 2) := by decide +kernel
theorem d5_feed_92 : decode (mk_c M5_feed) 92 = .ok (.iload 6, 2) := by decide +kernel
theorem d5_feed_94 : decode (mk_c M5_feed) 94 = .ok (.iconst 4, 1) := by decide +kernel
theorem d5_feed_95 : decode (mk_c M5_feed) 95 = .ok (.irem, 1) := by decide +kernel
theorem d5_feed_96 : decode (mk_c M5_feed) 96 = .ok (.imul, 1) := by decide +kernel
theorem d5_feed_97 : decode (mk_c M5_feed) 97 = .ok (.isub, 1) := by decide +kernel
theorem d5_feed_98 : decode (mk_c M5_feed) 98 = .ok (.ishr, 1) := by decide +kernel
theorem d5_feed_99 : decode (mk_c M5_feed) 99 = .ok (.i2b, 1) := by decide +kernel
theorem d5_feed_100 : decode (mk_c M5_feed) 100 = .ok (.bastore, 1) := by decide +kernel
theorem d5_feed_101 : decode (mk_c M5_feed) 101 = .ok (.aload_n 0, 1) := by decide +kernel
theorem d5_feed_102 : decode (mk_c M5_feed) 102 = .ok (.dup, 1) := by decide +kernel
theorem d5_feed_103 : decode (mk_c M5_feed) 103 = .ok (.getfield 219, 3) := by decide +kernel
theorem d5_feed_106 : decode (mk_c M5_feed) 106 = .ok (.iconst 1, 1) := by decide +kernel
theorem d5_feed_107 : decode (mk_c M5_feed) 107 = .ok (.iadd, 1) := by decide +kernel
theorem d5_feed_108 : decode (mk_c M5_feed) 108 = .ok (.putfield 219, 3) := by decide +kernel
theorem d5_feed_111 : decode (mk_c M5_feed) 111 = .ok (.iinc 6 1, 3) := by decide +kernel
theorem d5_feed_114 : decode (mk_c M5_feed) 114 = .ok (.goto (-91), 3) := by decide +kernel
theorem d5_feed_117 : decode (mk_c M5_feed) 117 = .ok (.aload_n 0, 1) := by decide +kernel
theorem d5_feed_118 : decode (mk_c M5_feed) 118 = .ok (.getfield 219, 3) := by decide +kernel
theorem d5_feed_121 : decode (mk_c M5_feed) 121 = .ok (.ireturn, 1) := by decide +kernel
theorem d5_lines_0 : decode (mk_c M5_lines) 0 = .ok (.aload_n 0, 1) := by decide +kernel
theorem d5_lines_1 : decode (mk_c M5_lines) 1 = .ok (.iconst 0, 1) := by decide +kernel
theorem d5_lines_2 : decode (mk_c M5_lines) 2 = .ok (.putfield 80, 3) := by decide +kernel
theorem d5_lines_5 : decode (mk_c M5_lines) 5 = .ok (.aload_n 0, 1) := by decide +kernel
theorem d5_lines_6 : decode (mk_c M5_lines) 6 = .ok (.iload_n 1, 1) := by decide +kernel
theorem d5_lines_7 : decode (mk_c M5_lines) 7 = .ok (.invokevirtual 101, 3) := by decide +kernel
theorem d5_lines_10 : decode (mk_c M5_lines) 10 = .ok (.ifCond .ne 9, 3) := by decide +kernel
theorem d5_lines_13 : decode (mk_c M5_lines) 13 = .ok (.aload_n 0, 1) := by decide +kernel
theorem d5_lines_14 : decode (mk_c M5_lines) 14 = .ok (.iconst 1, 1) := by decide +kernel
theorem d5_lines_15 : decode (mk_c M5_lines) 15 = .ok (.invokevirtual 94, 3) := by decide +kernel
theorem d5_lines_18 : decode (mk_c M5_lines) 18 = .ok (.ireturn, 1) := by decide +kernel
theorem d5_lines_19 : decode (mk_c M5_lines) 19 = .ok (.iload_n 2, 1) := by decide +kernel
theorem d5_lines_20 : decode (mk_c M5_lines) 20 = .ok (.ifCond .lt 11, 3) := by decide +kernel
theorem d5_lines_23 : decode (mk_c M5_lines) 23 = .ok (.iload_n 2, 1) := by decide +kernel
theorem d5_lines_24 : decode (mk_c M5_lines) 24 = .ok (.aload_n 0, 1) := by decide +kernel
theorem d5_lines_25 : decode (mk_c M5_lines) 25 = .ok (.getfield 219, 3) := by decide +kernel
theorem d5_lines_28 : decode (mk_c M5_lines) 28 = .ok (.if_icmp .le 9, 3) := by decide +kernel
theorem d5_lines_31 : decode (mk_c M5_lines) 31 = .ok (.aload_n 0, 1) := by decide +kernel
theorem d5_lines_32 : decode (mk_c M5_lines) 32 = .ok (.iconst 2, 1) := by decide +kernel
theorem d5_lines_33 : decode (mk_c M5_lines) 33 = .ok (.invokevirtual 94, 3) := by decide +kernel
theorem d5_lines_36 : decode (mk_c M5_lines) 36 = .ok (.ireturn, 1) := by decide +kernel
theorem d5_lines_37 : decode (mk_c M5_lines) 37 = .ok (.aload_n 0, 1) := by decide +kernel
theorem d5_lines_38 : decode (mk_c M5_lines) 38 = .ok (.iload_n 2, 1) := by decide +kernel
theorem d5_lines_39 : decode (mk_c M5_lines) 39 = .ok (.putfield 118, 3) := by decide +kernel
theorem d5_lines_42 : decode (mk_c M5_lines) 42 = .ok (.aload_n 0, 1) := by decide +kernel
theorem d5_lines_43 : decode (mk_c M5_lines) 43 = .ok (.iconst 0, 1) := by decide +kernel
theorem d5_lines_44 : decode (mk_c M5_lines) 44 = .ok (.putfield 219, 3) := by decide +kernel
theorem d5_lines_47 : decode (mk_c M5_lines) 47 = .ok (.aload_n 0, 1) := by decide +kernel
theorem d5_lines_48 : decode (mk_c M5_lines) 48 = .ok (.iconst 0, 1) := by decide +kernel
theorem d5_lines_49 : decode (mk_c M5_lines) 49 = .ok (.putfield 133, 3) := by decide +kernel
theorem d5_lines_52 : decode (mk_c M5_lines) 52 = .ok (.aload_n 0, 1) := by decide +kernel
theorem d5_lines_53 : decode (mk_c M5_lines) 53 = .ok (.iconst 0, 1) := by decide +kernel
theorem d5_lines_54 : decode (mk_c M5_lines) 54 = .ok (.putfield 222, 3) := by decide +kernel
theorem d5_lines_57 : decode (mk_c M5_lines) 57 = .ok (.aload_n 0, 1) := by decide +kernel
theorem d5_lines_58 : decode (mk_c M5_lines) 58 = .ok (.invokevirtual 225, 3) := by decide +kernel
theorem d5_lines_61 : decode (mk_c M5_lines) 61 = .ok (.goto 27, 3) := by decide +kernel
theorem d5_lines_64 : decode (mk_c M5_lines) 64 = .ok (.astore_n 3, 1) := by decide +kernel
theorem d5_lines_65 : decode (mk_c M5_lines) 65 = .ok (.aload_n 0, 1) := by decide +kernel
theorem d5_lines_66 : decode (mk_c M5_lines) 66 = .ok (.aload_n 3, 1) := by decide +kernel
theorem d5_lines_67 : decode (mk_c M5_lines) 67 = .ok (.getfield 112, 3) := by decide +kernel
theorem d5_lines_70 : decode (mk_c M5_lines) 70 = .ok (.putfield 222, 3) := by decide +kernel
theorem d5_lines_73 : decode (mk_c M5_lines) 73 = .ok (.aload_n 0, 1) := by decide +kernel
theorem d5_lines_74 : decode (mk_c M5_lines) 74 = .ok (.iconst 4, 1) := by decide +kernel
theorem d5_lines_75 : decode (mk_c M5_lines) 75 = .ok (.putfield 83, 3) := by decide +kernel
theorem d5_lines_78 : decode (mk_c M5_lines) 78 = .ok (.aload_n 0, 1) := by decide +kernel
theorem d5_lines_79 : decode (mk_c M5_lines) 79 = .ok (.aload_n 3, 1) := by decide +kernel
theorem d5_lines_80 : decode (mk_c M5_lines) 80 = .ok (.getfield 117, 3) := by decide +kernel
theorem d5_lines_83 : decode (mk_c M5_lines) 83 = .ok (.putfield 9, 3) := by decide +kernel
theorem d5_lines_86 : decode (mk_c M5_lines) 86 = .ok (.iconst (-1), 1) := by decide +kernel
theorem d5_lines_87 : decode (mk_c M5_lines) 87 = .ok (.ireturn, 1) := by decide +kernel
theorem d5_lines_88 : decode (mk_c M5_lines) 88 = .ok (.aload_n 0, 1) := by decide +kernel
theorem d5_lines_89 : decode (mk_c M5_lines) 89 = .ok (.getfield 17, 3) := by decide +kernel
theorem d5_lines_92 : decode (mk_c M5_lines) 92 = .ok (.iload_n 1, 1) := by decide +kernel
theorem d5_lines_93 : decode (mk_c M5_lines) 93 = .ok (.aload_n 0, 1) := by decide +kernel
theorem d5_lines_94 : decode (mk_c M5_lines) 94 = .ok (.getfield 17, 3) := by decide +kernel
theorem d5_lines_97 : decode (mk_c M5_lines) 97 = .ok (.bipush 10, 2) := by decide +kernel
theorem d5_lines_99 : decode (mk_c M5_lines) 99 = .ok (.iaload, 1) := by decide +kernel
theorem d5_lines_100 : decode (mk_c M5_lines) 100 = .ok (.iastore, 1) := by decide +kernel
theorem d5_lines_101 : decode (mk_c M5_lines) 101 = .ok (.iconst 0, 1) := by decide +kernel
theorem d5_lines_102 : decode (mk_c M5_lines) 102 = .ok (.istore_n 3, 1) := by decide +kernel
theorem d5_lines_103 : decode (mk_c M5_lines) 103 = .ok (.iload_n 3, 1) := by decide +kernel
theorem d5_lines_104 : decode (mk_c M5_lines) 104 = .ok (.bipush 12, 2) := by decide +kernel
theorem d5_lines_106 : decode (mk_c M5_lines) 106 = .ok (.if_icmp .ge 134, 3) := by decide +kernel
theorem d5_lines_109 : decode (mk_c M5_lines) 109 = .ok (.aload_n 0, 1) := by decide +kernel
theorem d5_lines_110 : decode (mk_c M5_lines) 110 = .ok (.getfield 23, 3) := by decide +kernel
theorem d5_lines_113 : decode (mk_c M5_lines) 113 = .ok (.bipush 12, 2) := by decide +kernel
theorem d5_lines_115 : decode (mk_c M5_lines) 115 = .ok (.iload_n 1, 1) := by decide +kernel
theorem d5_lines_116 : decode (mk_c M5_lines) 116 = .ok (.imul, 1) := by decide +kernel
theorem d5_lines_117 : decode (mk_c M5_lines) 117 = .ok (.iload_n 3, 1) := by decide +kernel
theorem d5_lines_118 : decode (mk_c M5_lines) 118 = .ok (.iadd, 1) := by decide +kernel
theorem d5_lines_119 : decode (mk_c M5_lines) 119 = .ok (.aload_n 0, 1) := by decide +kernel
theorem d5_lines_120 : decode (mk_c M5_lines) 120 = .ok (.getfield 23, 3) := by decide +kernel
theorem d5_lines_123 : decode (mk_c M5_lines) 123 = .ok (.bipush 120, 2) := by decide +kernel
theorem d5_lines_125 : decode (mk_c M5_lines) 125 = .ok (.iload_n 3, 1) := by decide +kernel
theorem d5_lines_126 : decode (mk_c M5_lines) 126 = .ok (.iadd, 1) := by decide +kernel
theorem d5_lines_127 : decode (mk_c M5_lines) 127 = .ok (.iaload, 1) := by decide +kernel
theorem d5_lines_128 : decode (mk_c M5_lines) 128 = .ok (.iastore, 1) := by decide +kernel
theorem d5_lines_129 : decode (mk_c M5_lines) 129 = .ok (.aload_n 0, 1) := by decide +kernel
theorem d5_lines_130 : decode (mk_c M5_lines) 130 = .ok (.getfield 26, 3) := by decide +kernel
theorem d5_lines_133 : decode (mk_c M5_lines) 133 = .ok (.bipush 12, 2) := by decide +kernel
theorem d5_lines_135 : decode (mk_c M5_lines) 135 = .ok (.iload_n 1, 1) := by decide +kernel
theorem d5_lines_136 : decode (mk_c M5_lines) 136 = .ok (.imul, 1) := by decide +kernel
theorem d5_lines_137 : decode (mk_c M5_lines) 137 = .ok (.iload_n 3, 1) := by decide +kernel
theorem d5_lines_138 : decode (mk_c M5_lines) 138 = .ok (.iadd, 1) := by decide +kernel
theorem d5_lines_139 : decode (mk_c M5_lines) 139 = .ok (.aload_n 0, 1) := by decide +kernel
theorem d5_lines_140 : decode (mk_c M5_lines) 140 = .ok (.getfield 26, 3) := by decide +kernel
theorem d5_lines_143 : decode (mk_c M5_lines) 143 = .ok (.bipush 120, 2) := by decide +kernel
theorem d5_lines_145 : decode (mk_c M5_lines) 145 = .ok (.iload_n 3, 1) := by decide +kernel
theorem d5_lines_146 : decode (mk_c M5_lines) 146 = .ok (.iadd, 1) := by decide +kernel
theorem d5_lines_147 : decode (mk_c M5_lines) 147 = .ok (.iaload, 1) := by decide +kernel
theorem d5_lines_148 : decode (mk_c M5_lines) 148 = .ok (.iastore, 1) := by decide +kernel
theorem d5_lines_149 : decode (mk_c M5_lines) 149 = .ok (.aload_n 0, 1) := by decide +kernel
theorem d5_lines_150 : decode (mk_c M5_lines) 150 = .ok (.getfield 29, 3) := by decide +kernel
theorem d5_lines_153 : decode (mk_c M5_lines) 153 = .ok (.bipush 12, 2) := by decide +kernel
theorem d5_lines_155 : decode (mk_c M5_lines) 155 = .ok (.iload_n 1, 1) := by decide +kernel
theorem d5_lines_156 : decode (mk_c M5_lines) 156 = .ok (.imul, 1) := by decide +kernel
theorem d5_lines_157 : decode (mk_c M5_lines) 157 = .ok (.iload_n 3, 1) := by decide +kernel
theorem d5_lines_158 : decode (mk_c M5_lines) 158 = .ok (.iadd, 1) := by decide +kernel
theorem d5_lines_159 : decode (mk_c M5_lines) 159 = .ok (.aload_n 0, 1) := by decide +kernel
theorem d5_lines_160 : decode (mk_c M5_lines) 160 = .ok (.getfield 29, 3) := by decide +kernel
theorem d5_lines_163 : decode (mk_c M5_lines) 163 = .ok (.bipush 120, 2) := by decide +kernel
theorem d5_lines_165 : decode (mk_c M5_lines) 165 = .ok (.iload_n 3, 1) := by decide +kernel
theorem d5_lines_166 : decode (mk_c M5_lines) 166 = .ok (.iadd, 1) := by decide +kernel
theorem d5_lines_167 : decode (mk_c M5_lines) 167 = .ok (.iaload, 1) := by decide +kernel
theorem d5_lines_168 : decode (mk_c M5_lines) 168 = .ok (.iastore, 1) := by decide +kernel
theorem d5_lines_169 : decode (mk_c M5_lines) 169 = .ok (.aload_n 0, 1) := by decide +kernel
theorem d5_lines_170 : decode (mk_c M5_lines) 170 = .ok (.getfield 32, 3) := by decide +kernel
theorem d5_lines_173 : decode (mk_c M5_lines) 173 = .ok (.bipush 12, 2) := by decide +kernel
theorem d5_lines_175 : decode (mk_c M5_lines) 175 = .ok (.iload_n 1, 1) := by decide +kernel
theorem d5_lines_176 : decode (mk_c M5_lines) 176 = .ok (.imul, 1) := by decide +kernel
theorem d5_lines_177 : decode (mk_c M5_lines) 177 = .ok (.iload_n 3, 1) := by decide +kernel
theorem d5_lines_178 : decode (mk_c M5_lines) 178 = .ok (.iadd, 1) := by decide +kernel
theorem d5_lines_179 : decode (mk_c M5_lines) 179 = .ok (.aload_n 0, 1) := by decide +kernel
theorem d5_lines_180 : decode (mk_c M5_lines) 180 = .ok (.getfield 32, 3) := by decide +kernel
theorem d5_lines_183 : decode (mk_c M5_lines) 183 = .ok (.bipush 120, 2) := by decide +kernel
theorem d5_lines_185 : decode (mk_c M5_lines) 185 = .ok (.iload_n 3, 1) := by decide +kernel
theorem d5_lines_186 : decode (mk_c M5_lines) 186 = .ok (.iadd, 1) := by decide +kernel
theorem d5_lines_187 : decode (mk_c M5_lines) 187 = .ok (.iaload, 1) := by decide +kernel
theorem d5_lines_188 : decode (mk_c M5_lines) 188 = .ok (.iastore, 1) := by decide +kernel
theorem d5_lines_189 : decode (mk_c M5_lines) 189 = .ok (.iconst 0, 1) := by decide +kernel
theorem d5_lines_190 : decode (mk_c M5_lines) 190 = .ok (.istore 4, 2) := by decide +kernel
theorem d5_lines_192 : decode (mk_c M5_lines) 192 = .ok (.iload 4, 2) := by decide +kernel
theorem d5_lines_194 : decode (mk_c M5_lines) 194 = .ok (.iconst 4, 1) := by decide +kernel
theorem d5_lines_195 : decode (mk_c M5_lines) 195 = .ok (.if_icmp .ge 39, 3) := by decide +kernel
theorem d5_lines_198 : decode (mk_c M5_lines) 198 = .ok (.aload_n 0, 1) := by decide +kernel
theorem d5_lines_199 : decode (mk_c M5_lines) 199 = .ok (.getfield 35, 3) := by decide +kernel
theorem d5_lines_202 : decode (mk_c M5_lines) 202 = .ok (.iconst 4, 1) := by decide +kernel
theorem d5_lines_203 : decode (mk_c M5_lines) 203 = .ok (.bipush 12, 2) := by decide +kernel
theorem d5_lines_205 : decode (mk_c M5_lines) 205 = .ok (.iload_n 1, 1) := by decide +kernel
theorem d5_lines_206 : decode (mk_c M5_lines) 206 = .ok (.imul, 1) := by decide +kernel
theorem d5_lines_207 : decode (mk_c M5_lines) 207 = .ok (.iload_n 3, 1) := by decide +kernel
theorem d5_lines_208 : decode (mk_c M5_lines) 208 = .ok (.iadd, 1) := by decide +kernel
theorem d5_lines_209 : decode (mk_c M5_lines) 209 = .ok (.imul, 1) := by decide +kernel
theorem d5_lines_210 : decode (mk_c M5_lines) 210 = .ok (.iload 4, 2) := by decide +kernel
theorem d5_lines_212 : decode (mk_c M5_lines) 212 = .ok (.iadd, 1) := by decide +kernel
theorem d5_lines_213 : decode (mk_c M5_lines) 213 = .ok (.aload_n 0, 1) := by decide +kernel
theorem d5_lines_214 : decode (mk_c M5_lines) 214 = .ok (.getfield 35, 3) := by decide +kernel
theorem d5_lines_217 : decode (mk_c M5_lines) 217 = .ok (.iconst 4, 1) := by decide +kernel
theorem d5_lines_218 : decode (mk_c M5_lines) 218 = .ok (.bipush 120, 2) := by decide +kernel
theorem d5_lines_220 : decode (mk_c M5_lines) 220 = .ok (.iload_n 3, 1) := by decide +kernel
theorem d5_lines_221 : decode (mk_c M5_lines) 221 = .ok (.iadd, 1) := by decide +kernel
theorem d5_lines_222 : decode (mk_c M5_lines) 222 = .ok (.imul, 1) := by decide +kernel
theorem d5_lines_223 : decode (mk_c M5_lines) 223 = .ok (.iload 4, 2) := by decide +kernel
theorem d5_lines_225 : decode (mk_c M5_lines) 225 = .ok (.iadd, 1) := by decide +kernel
theorem d5_lines_226 : decode (mk_c M5_lines) 226 = .ok (.iaload, 1) := by decide +kernel
theorem d5_lines_227 : decode (mk_c M5_lines) 227 = .ok (.iastore, 1) := by decide +kernel
theorem d5_lines_228 : decode (mk_c M5_lines) 228 = .ok (.iinc 4 1, 3) := by decide +kernel
theorem d5_lines_231 : decode (mk_c M5_lines) 231 = .ok (.goto (-39), 3) := by decide +kernel
theorem d5_lines_234 : decode (mk_c M5_lines) 234 = .ok (.iinc 3 1, 3) := by decide +kernel
theorem d5_lines_237 : decode (mk_c M5_lines) 237 = .ok (.goto (-134), 3) := by decide +kernel
theorem d5_lines_240 : decode (mk_c M5_lines) 240 = .ok (.aload_n 0, 1) := by decide +kernel
theorem d5_lines_241 : decode (mk_c M5_lines) 241 = .ok (.aload_n 0, 1) := by decide +kernel
theorem d5_lines_242 : decode (mk_c M5_lines) 242 = .ok (.getfield 17, 3) := by decide +kernel
theorem d5_lines_245 : decode (mk_c M5_lines) 245 = .ok (.iload_n 1, 1) := by decide +kernel
theorem d5_lines_246 : decode (mk_c M5_lines) 246 = .ok (.iaload, 1) := by decide +kernel
theorem d5_lines_247 : decode (mk_c M5_lines) 247 = .ok (.invokevirtual 98, 3) := by decide +kernel
theorem d5_lines_250 : decode (mk_c M5_lines) 250 = .ok (.ireturn, 1) := by decide +kernel
theorem d5_reads_0 : decode (mk_c M5_reads) 0 = .ok (.aload_n 0, 1) := by decide +kernel
theorem d5_reads_1 : decode (mk_c M5_reads) 1 = .ok (.getfield 17, 3) := by decide +kernel
theorem d5_reads_4 : decode (mk_c M5_reads) 4 = .ok (.bipush 10, 2) := by decide +kernel
theorem d5_reads_6 : decode (mk_c M5_reads) 6 = .ok (.iconst 0, 1) := by decide +kernel
theorem d5_reads_7 : decode (mk_c M5_reads) 7 = .ok (.iastore, 1) := by decide +kernel
theorem d5_reads_8 : decode (mk_c M5_reads) 8 = .ok (.aload_n 0, 1) := by decide +kernel
theorem d5_reads_9 : decode (mk_c M5_reads) 9 = .ok (.invokevirtual 169, 3) := by decide +kernel
theorem d5_reads_12 : decode (mk_c M5_reads) 12 = .ok (.iconst 1, 1) := by decide +kernel
theorem d5_reads_13 : decode (mk_c M5_reads) 13 = .ok (.istore_n 1, 1) := by decide +kernel
theorem d5_reads_14 : decode (mk_c M5_reads) 14 = .ok (.iload_n 1, 1) := by decide +kernel
theorem d5_reads_15 : decode (mk_c M5_reads) 15 = .ok (.ifCond .eq 160, 3) := by decide +kernel
theorem d5_reads_18 : decode (mk_c M5_reads) 18 = .ok (.aload_n 0, 1) := by decide +kernel
theorem d5_reads_19 : decode (mk_c M5_reads) 19 = .ok (.ldc 177, 2) := by decide +kernel
theorem d5_reads_21 : decode (mk_c M5_reads) 21 = .ok (.invokevirtual 162, 3) := by decide +kernel
theorem d5_reads_24 : decode (mk_c M5_reads) 24 = .ok (.ifCond .eq 7, 3) := by decide +kernel
theorem d5_reads_27 : decode (mk_c M5_reads) 27 = .ok (.iconst 0, 1) := by decide +kernel
theorem d5_reads_28 : decode (mk_c M5_reads) 28 = .ok (.goto 69, 3) := by decide +kernel
theorem d5_reads_31 : decode (mk_c M5_reads) 31 = .ok (.aload_n 0, 1) := by decide +kernel
theorem d5_reads_32 : decode (mk_c M5_reads) 32 = .ok (.ldc 179, 2) := by decide +kernel
theorem d5_reads_34 : decode (mk_c M5_reads) 34 = .ok (.invokevirtual 162, 3) := by decide +kernel
theorem d5_reads_37 : decode (mk_c M5_reads) 37 = .ok (.ifCond .eq 7, 3) := by decide +kernel
theorem d5_reads_40 : decode (mk_c M5_reads) 40 = .ok (.iconst 1, 1) := by decide +kernel
theorem d5_reads_41 : decode (mk_c M5_reads) 41 = .ok (.goto 56, 3) := by decide +kernel
theorem d5_reads_44 : decode (mk_c M5_reads) 44 = .ok (.aload_n 0, 1) := by decide +kernel
theorem d5_reads_45 : decode (mk_c M5_reads) 45 = .ok (.ldc 181, 2) := by decide +kernel
theorem d5_reads_47 : decode (mk_c M5_reads) 47 = .ok (.invokevirtual 162, 3) := by decide +kernel
theorem d5_reads_50 : decode (mk_c M5_reads) 50 = .ok (.ifCond .eq 7, 3) := by decide +kernel
theorem d5_reads_53 : decode (mk_c M5_reads) 53 = .ok (.iconst 2, 1) := by decide +kernel
theorem d5_reads_54 : decode (mk_c M5_reads) 54 = .ok (.goto 43, 3) := by decide +kernel
theorem d5_reads_57 : decode (mk_c M5_reads) 57 = .ok (.aload_n 0, 1) := by decide +kernel
theorem d5_reads_58 : decode (mk_c M5_reads) 58 = .ok (.ldc 183, 2) := by decide +kernel
theorem d5_reads_60 : decode (mk_c M5_reads) 60 = .ok (.invokevirtual 162, 3) := by decide +kernel
theorem d5_reads_63 : decode (mk_c M5_reads) 63 = .ok (.ifCond .eq 7, 3) := by decide +kernel
theorem d5_reads_66 : decode (mk_c M5_reads) 66 = .ok (.iconst 3, 1) := by decide +kernel
theorem d5_reads_67 : decode (mk_c M5_reads) 67 = .ok (.goto 30, 3) := by decide +kernel
theorem d5_reads_70 : decode (mk_c M5_reads) 70 = .ok (.aload_n 0, 1) := by decide +kernel
theorem d5_reads_71 : decode (mk_c M5_reads) 71 = .ok (.ldc 185, 2) := by decide +kernel
theorem d5_reads_73 : decode (mk_c M5_reads) 73 = .ok (.invokevirtual 162, 3) := by decide +kernel
theorem d5_reads_76 : decode (mk_c M5_reads) 76 = .ok (.ifCond .eq 7, 3) := by decide +kernel
theorem d5_reads_79 : decode (mk_c M5_reads) 79 = .ok (.iconst 4, 1) := by decide +kernel
theorem d5_reads_80 : decode (mk_c M5_reads) 80 = .ok (.goto 17, 3) := by decide +kernel
theorem d5_reads_83 : decode (mk_c M5_reads) 83 = .ok (.aload_n 0, 1) := by decide +kernel
theorem d5_reads_84 : decode (mk_c M5_reads) 84 = .ok (.ldc 187, 2) := by decide +kernel
theorem d5_reads_86 : decode (mk_c M5_reads) 86 = .ok (.invokevirtual 162, 3) := by decide +kernel
theorem d5_reads_89 : decode (mk_c M5_reads) 89 = .ok (.ifCond .eq 7, 3) := by decide +kernel
theorem d5_reads_92 : decode (mk_c M5_reads) 92 = .ok (.iconst 5, 1) := by decide +kernel
theorem d5_reads_93 : decode (mk_c M5_reads) 93 = .ok (.goto 4, 3) := by decide +kernel
theorem d5_reads_96 : decode (mk_c M5_reads) 96 = .ok (.iconst (-1), 1) := by decide +kernel
theorem d5_reads_97 : decode (mk_c M5_reads) 97 = .ok (.istore_n 2, 1) := by decide +kernel
theorem d5_reads_98 : decode (mk_c M5_reads) 98 = .ok (.iload_n 2, 1) := by decide +kernel
theorem d5_reads_99 : decode (mk_c M5_reads) 99 = .ok (.iconst (-1), 1) := by decide +kernel
theorem d5_reads_100 : decode (mk_c M5_reads) 100 = .ok (.if_icmp .ne 9, 3) := by decide +kernel
theorem d5_reads_103 : decode (mk_c M5_reads) 103 = .ok (.aload_n 0, 1) := by decide +kernel
theorem d5_reads_104 : decode (mk_c M5_reads) 104 = .ok (.iconst 1, 1) := by decide +kernel
theorem d5_reads_105 : decode (mk_c M5_reads) 105 = .ok (.invokevirtual 166, 3) := by decide +kernel
theorem d5_reads_108 : decode (mk_c M5_reads) 108 = .ok (.athrow, 1) := by decide +kernel
theorem d5_reads_109 : decode (mk_c M5_reads) 109 = .ok (.aload_n 0, 1) := by decide +kernel
theorem d5_reads_110 : decode (mk_c M5_reads) 110 = .ok (.getfield 17, 3) := by decide +kernel
theorem d5_reads_113 : decode (mk_c M5_reads) 113 = .ok (.bipush 10, 2) := by decide +kernel
theorem d5_reads_115 : decode (mk_c M5_reads) 115 = .ok (.iaload, 1) := by decide +kernel
theorem d5_reads_116 : decode (mk_c M5_reads) 116 = .ok (.bipush 12, 2) := by decide +kernel
theorem d5_reads_118 : decode (mk_c M5_reads) 118 = .ok (.if_icmp .ne 9, 3) := by decide +kernel
theorem d5_reads_121 : decode (mk_c M5_reads) 121 = .ok (.aload_n 0, 1) := by decide +kernel
theorem d5_reads_122 : decode (mk_c M5_reads) 122 = .ok (.iconst 4, 1) := by decide +kernel
theorem d5_reads_123 : decode (mk_c M5_reads) 123 = .ok (.invokevirtual 166, 3) := by decide +kernel
theorem d5_reads_126 : decode (mk_c M5_reads) 126 = .ok (.athrow, 1) := by decide +kernel
theorem d5_reads_127 : decode (mk_c M5_reads) 127 = .ok (.aload_n 0, 1) := by decide +kernel
theorem d5_reads_128 : decode (mk_c M5_reads) 128 = .ok (.invokevirtual 169, 3) := by decide +kernel
theorem d5_reads_131 : decode (mk_c M5_reads) 131 = .ok (.aload_n 0, 1) := by decide +kernel
theorem d5_reads_132 : decode (mk_c M5_reads) 132 = .ok (.bipush 120, 2) := by decide +kernel
theorem d5_reads_134 : decode (mk_c M5_reads) 134 = .ok (.aload_n 0, 1) := by decide +kernel
theorem d5_reads_135 : decode (mk_c M5_reads) 135 = .ok (.getfield 17, 3) := by decide +kernel
theorem d5_reads_138 : decode (mk_c M5_reads) 138 = .ok (.bipush 10, 2) := by decide +kernel
theorem d5_reads_140 : decode (mk_c M5_reads) 140 = .ok (.iaload, 1) := by decide +kernel
theorem d5_reads_141 : decode (mk_c M5_reads) 141 = .ok (.iadd, 1) := by decide +kernel
theorem d5_reads_142 : decode (mk_c M5_reads) 142 = .ok (.iload_n 2, 1) := by decide +kernel
theorem d5_reads_143 : decode (mk_c M5_reads) 143 = .ok (.invokevirtual 189, 3) := by decide +kernel
theorem d5_reads_146 : decode (mk_c M5_reads) 146 = .ok (.aload_n 0, 1) := by decide +kernel
theorem d5_reads_147 : decode (mk_c M5_reads) 147 = .ok (.getfield 17, 3) := by decide +kernel
theorem d5_reads_150 : decode (mk_c M5_reads) 150 = .ok (.bipush 10, 2) := by decide +kernel
theorem d5_reads_152 : decode (mk_c M5_reads) 152 = .ok (.dup2, 1) := by decide +kernel
theorem d5_reads_153 : decode (mk_c M5_reads) 153 = .ok (.iaload, 1) := by decide +kernel
theorem d5_reads_154 : decode (mk_c M5_reads) 154 = .ok (.iconst 1, 1) := by decide +kernel
theorem d5_reads_155 : decode (mk_c M5_reads) 155 = .ok (.iadd, 1) := by decide +kernel
theorem d5_reads_156 : decode (mk_c M5_reads) 156 = .ok (.iastore, 1) := by decide +kernel
theorem d5_reads_157 : decode (mk_c M5_reads) 157 = .ok (.aload_n 0, 1) := by decide +kernel
theorem d5_reads_158 : decode (mk_c M5_reads) 158 = .ok (.bipush 59, 2) := by decide +kernel
theorem d5_reads_160 : decode (mk_c M5_reads) 160 = .ok (.invokevirtual 193, 3) := by decide +kernel
theorem d5_reads_163 : decode (mk_c M5_reads) 163 = .ok (.istore_n 1, 1) := by decide +kernel
theorem d5_reads_164 : decode (mk_c M5_reads) 164 = .ok (.iload_n 1, 1) := by decide +kernel
theorem d5_reads_165 : decode (mk_c M5_reads) 165 = .ok (.ifCond .eq 7, 3) := by decide +kernel
theorem d5_reads_168 : decode (mk_c M5_reads) 168 = .ok (.aload_n 0, 1) := by decide +kernel
theorem d5_reads_169 : decode (mk_c M5_reads) 169 = .ok (.invokevirtual 169, 3) := by decide +kernel
theorem d5_reads_172 : decode (mk_c M5_reads) 172 = .ok (.goto (-158), 3) := by decide +kernel
theorem d5_reads_175 : decode (mk_c M5_reads) 175 = .ok (.aload_n 0, 1) := by decide +kernel
theorem d5_reads_176 : decode (mk_c M5_reads) 176 = .ok (.getfield 139, 3) := by decide +kernel
theorem d5_reads_179 : decode (mk_c M5_reads) 179 = .ok (.iconst 1, 1) := by decide +kernel
theorem d5_reads_180 : decode (mk_c M5_reads) 180 = .ok (.if_icmp .eq 9, 3) := by decide +kernel
theorem d5_reads_183 : decode (mk_c M5_reads) 183 = .ok (.aload_n 0, 1) := by decide +kernel
theorem d5_reads_184 : decode (mk_c M5_reads) 184 = .ok (.iconst 1, 1) := by decide +kernel
theorem d5_reads_185 : decode (mk_c M5_reads) 185 = .ok (.invokevirtual 166, 3) := by decide +kernel
theorem d5_reads_188 : decode (mk_c M5_reads) 188 = .ok (.athrow, 1) := by decide +kernel
theorem d5_reads_189 : decode (mk_c M5_reads) 189 = .ok (.return_, 1) := by decide +kernel
theorem d5_next_0 : decode (mk_c M5_next) 0 = .ok (.aload_n 0, 1) := by decide +kernel
theorem d5_next_1 : decode (mk_c M5_next) 1 = .ok (.aload_n 0, 1) := by decide +kernel
theorem d5_next_2 : decode (mk_c M5_next) 2 = .ok (.getfield 133, 3) := by decide +kernel
theorem d5_next_5 : decode (mk_c M5_next) 5 = .ok (.invokevirtual 136, 3) := by decide +kernel
theorem d5_next_8 : decode (mk_c M5_next) 8 = .ok (.bipush 32, 2) := by decide +kernel
theorem d5_next_10 : decode (mk_c M5_next) 10 = .ok (.if_icmp .ne 16, 3) := by decide +kernel
theorem d5_next_13 : decode (mk_c M5_next) 13 = .ok (.aload_n 0, 1) := by decide +kernel
theorem d5_next_14 : decode (mk_c M5_next) 14 = .ok (.dup, 1) := by decide +kernel
theorem d5_next_15 : decode (mk_c M5_next) 15 = .ok (.getfield 133, 3) := by decide +kernel
theorem d5_next_18 : decode (mk_c M5_next) 18 = .ok (.iconst 1, 1) := by decide +kernel
theorem d5_next_19 : decode (mk_c M5_next) 19 = .ok (.iadd, 1) := by decide +kernel
theorem d5_next_20 : decode (mk_c M5_next) 20 = .ok (.putfield 133, 3) := by decide +kernel
theorem d5_next_23 : decode (mk_c M5_next) 23 = .ok (.goto (-23), 3) := by decide +kernel
theorem d5_next_26 : decode (mk_c M5_next) 26 = .ok (.aload_n 0, 1) := by decide +kernel
theorem d5_next_27 : decode (mk_c M5_next) 27 = .ok (.aload_n 0, 1) := by decide +kernel
theorem d5_next_28 : decode (mk_c M5_next) 28 = .ok (.getfield 133, 3) := by decide +kernel
theorem d5_next_31 : decode (mk_c M5_next) 31 = .ok (.putfield 114, 3) := by decide +kernel
theorem d5_next_34 : decode (mk_c M5_next) 34 = .ok (.aload_n 0, 1) := by decide +kernel
theorem d5_next_35 : decode (mk_c M5_next) 35 = .ok (.iconst 0, 1) := by decide +kernel
theorem d5_next_36 : decode (mk_c M5_next) 36 = .ok (.putfield 139, 3) := by decide +kernel
theorem d5_next_39 : decode (mk_c M5_next) 39 = .ok (.aload_n 0, 1) := by decide +kernel
theorem d5_next_40 : decode (mk_c M5_next) 40 = .ok (.iconst 0, 1) := by decide +kernel
theorem d5_next_41 : decode (mk_c M5_next) 41 = .ok (.putfield 142, 3) := by decide +kernel
theorem d5_next_44 : decode (mk_c M5_next) 44 = .ok (.aload_n 0, 1) := by decide +kernel
theorem d5_next_45 : decode (mk_c M5_next) 45 = .ok (.aload_n 0, 1) := by decide +kernel
theorem d5_next_46 : decode (mk_c M5_next) 46 = .ok (.getfield 133, 3) := by decide +kernel
theorem d5_next_49 : decode (mk_c M5_next) 49 = .ok (.invokevirtual 136, 3) := by decide +kernel
theorem d5_next_52 : decode (mk_c M5_next) 52 = .ok (.istore_n 1, 1) := by decide +kernel
theorem d5_next_53 : decode (mk_c M5_next) 53 = .ok (.iconst 0, 1) := by decide +kernel
theorem d5_next_54 : decode (mk_c M5_next) 54 = .ok (.istore_n 2, 1) := by decide +kernel
theorem d5_next_55 : decode (mk_c M5_next) 55 = .ok (.iload_n 1, 1) := by decide +kernel
theorem d5_next_56 : decode (mk_c M5_next) 56 = .ok (.iconst (-1), 1) := by decide +kernel
theorem d5_next_57 : decode (mk_c M5_next) 57 = .ok (.if_icmp .ne 11, 3) := by decide +kernel
theorem d5_next_60 : decode (mk_c M5_next) 60 = .ok (.aload_n 0, 1) := by decide +kernel
theorem d5_next_61 : decode (mk_c M5_next) 61 = .ok (.iconst 1, 1) := by decide +kernel
theorem d5_next_62 : decode (mk_c M5_next) 62 = .ok (.putfield 139, 3) := by decide +kernel
theorem d5_next_65 : decode (mk_c M5_next) 65 = .ok (.goto 207, 3) := by decide +kernel
theorem d5_next_68 : decode (mk_c M5_next) 68 = .ok (.iload_n 1, 1) := by decide +kernel
theorem d5_next_69 : decode (mk_c M5_next) 69 = .ok (.invokestatic 145, 3) := by decide +kernel
theorem d5_next_72 : decode (mk_c M5_next) 72 = .ok (.ifCond .eq 85, 3) := by decide +kernel
theorem d5_next_75 : decode (mk_c M5_next) 75 = .ok (.aload_n 0, 1) := by decide +kernel
theorem d5_next_76 : decode (mk_c M5_next) 76 = .ok (.lconst 0, 1) := by decide +kernel
theorem d5_next_77 : decode (mk_c M5_next) 77 = .ok (.putfield 148, 3) := by decide +kernel
theorem d5_next_80 : decode (mk_c M5_next) 80 = .ok (.aload_n 0, 1) := by decide +kernel
theorem d5_next_81 : decode (mk_c M5_next) 81 = .ok (.aload_n 0, 1) := by decide +kernel
theorem d5_next_82 : decode (mk_c M5_next) 82 = .ok (.getfield 133, 3) := by decide +kernel
theorem d5_next_85 : decode (mk_c M5_next) 85 = .ok (.invokevirtual 136, 3) := by decide +kernel
theorem d5_next_88 : decode (mk_c M5_next) 88 = .ok (.invokestatic 145, 3) := by decide +kernel
theorem d5_next_91 : decode (mk_c M5_next) 91 = .ok (.ifCond .eq 52, 3) := by decide +kernel
theorem d5_next_94 : decode (mk_c M5_next) 94 = .ok (.iload_n 2, 1) := by decide +kernel
theorem d5_next_95 : decode (mk_c M5_next) 95 = .ok (.bipush 8, 2) := by decide +kernel
theorem d5_next_97 : decode (mk_c M5_next) 97 = .ok (.if_icmp .ge 30, 3) := by decide +kernel
theorem d5_next_100 : decode (mk_c M5_next) 100 = .ok (.aload_n 0, 1) := by decide +kernel
theorem d5_next_101 : decode (mk_c M5_next) 101 = .ok (.ldc2_w 127, 3) := by decide +kernel
theorem d5_next_104 : decode (mk_c M5_next) 104 = .ok (.aload_n 0, 1) := by decide +kernel
theorem d5_next_105 : decode (mk_c M5_next) 105 = .ok (.getfield 148, 3) := by decide +kernel
theorem d5_next_108 : decode (mk_c M5_next) 108 = .ok (.lmul, 1) := by decide +kernel
theorem d5_next_109 : decode (mk_c M5_next) 109 = .ok (.aload_n 0, 1) := by decide +kernel
theorem d5_next_110 : decode (mk_c M5_next) 110 = .ok (.aload_n 0, 1) := by decide +kernel
theorem d5_next_111 : decode (mk_c M5_next) 111 = .ok (.getfield 133, 3) := by decide +kernel
theorem d5_next_114 : decode (mk_c M5_next) 114 = .ok (.invokevirtual 136, 3) := by decide +kernel
theorem d5_next_117 : decode (mk_c M5_next) 117 = .ok (.bipush 97, 2) := by decide +kernel
theorem d5_next_119 : decode (mk_c M5_next) 119 = .ok (.isub, 1) := by decide +kernel
theorem d5_next_120 : decode (mk_c M5_next) 120 = .ok (.iconst 1, 1) := by decide +kernel
theorem d5_next_121 : decode (mk_c M5_next) 121 = .ok (.iadd, 1) := by decide +kernel
theorem d5_next_122 : decode (mk_c M5_next) 122 = .ok (.i2l, 1) := by decide +kernel
theorem d5_next_123 : decode (mk_c M5_next) 123 = .ok (.ladd, 1) := by decide +kernel
theorem d5_next_124 : decode (mk_c M5_next) 124 = .ok (.putfield 148, 3) := by decide +kernel
theorem d5_next_127 : decode (mk_c M5_next) 127 = .ok (.iinc 2 1, 3) := by decide +kernel
theorem d5_next_130 : decode (mk_c M5_next) 130 = .ok (.aload_n 0, 1) := by decide +kernel
theorem d5_next_131 : decode (mk_c M5_next) 131 = .ok (.dup, 1) := by decide +kernel
theorem d5_next_132 : decode (mk_c M5_next) 132 = .ok (.getfield 133, 3) := by decide +kernel
theorem d5_next_135 : decode (mk_c M5_next) 135 = .ok (.iconst 1, 1) := by decide +kernel
theorem d5_next_136 : decode (mk_c M5_next) 136 = .ok (.iadd, 1) := by decide +kernel
theorem d5_next_137 : decode (mk_c M5_next) 137 = .ok (.putfield 133, 3) := by decide +kernel
theorem d5_next_140 : decode (mk_c M5_next) 140 = .ok (.goto (-60), 3) := by decide +kernel
theorem d5_next_143 : decode (mk_c M5_next) 143 = .ok (.iload_n 2, 1) := by decide +kernel
theorem d5_next_144 : decode (mk_c M5_next) 144 = .ok (.bipush 9, 2) := by decide +kernel
theorem d5_next_146 : decode (mk_c M5_next) 146 = .ok (.if_icmp .ge 126, 3) := by decide +kernel
theorem d5_next_149 : decode (mk_c M5_next) 149 = .ok (.aload_n 0, 1) := by decide +kernel
theorem d5_next_150 : decode (mk_c M5_next) 150 = .ok (.iconst 2, 1) := by decide +kernel
theorem d5_next_151 : decode (mk_c M5_next) 151 = .ok (.putfield 139, 3) := by decide +kernel
theorem d5_next_154 : decode (mk_c M5_next) 154 = .ok (.goto 118, 3) := by decide +kernel
theorem d5_next_157 : decode (mk_c M5_next) 157 = .ok (.iload_n 1, 1) := by decide +kernel
theorem d5_next_158 : decode (mk_c M5_next) 158 = .ok (.invokestatic 152, 3) := by decide +kernel
theorem d5_next_161 : decode (mk_c M5_next) 161 = .ok (.ifCond .eq 79, 3) := by decide +kernel
theorem d5_next_164 : decode (mk_c M5_next) 164 = .ok (.aload_n 0, 1) := by decide +kernel
theorem d5_next_165 : decode (mk_c M5_next) 165 = .ok (.iconst 0, 1) := by decide +kernel
theorem d5_next_166 : decode (mk_c M5_next) 166 = .ok (.putfield 155, 3) := by decide +kernel
theorem d5_next_169 : decode (mk_c M5_next) 169 = .ok (.aload_n 0, 1) := by decide +kernel
theorem d5_next_170 : decode (mk_c M5_next) 170 = .ok (.aload_n 0, 1) := by decide +kernel
theorem d5_next_171 : decode (mk_c M5_next) 171 = .ok (.getfield 133, 3) := by decide +kernel
theorem d5_next_174 : decode (mk_c M5_next) 174 = .ok (.invokevirtual 136, 3) := by decide +kernel
theorem d5_next_177 : decode (mk_c M5_next) 177 = .ok (.invokestatic 152, 3) := by decide +kernel
theorem d5_next_180 : decode (mk_c M5_next) 180 = .ok (.ifCond .eq 47, 3) := by decide +kernel
theorem d5_next_183 : decode (mk_c M5_next) 183 = .ok (.iload_n 2, 1) := by decide +kernel
theorem d5_next_184 : decode (mk_c M5_next) 184 = .ok (.iconst 2, 1) := by decide +kernel
theorem d5_next_185 : decode (mk_c M5_next) 185 = .ok (.if_icmp .ge 26, 3) := by decide +kernel
theorem d5_next_188 : decode (mk_c M5_next) 188 = .ok (.aload_n 0, 1) := by decide +kernel
theorem d5_next_189 : decode (mk_c M5_next) 189 = .ok (.bipush 10, 2) := by decide +kernel
theorem d5_next_191 : decode (mk_c M5_next) 191 = .ok (.aload_n 0, 1) := by decide +kernel
theorem d5_next_192 : decode (mk_c M5_next) 192 = .ok (.getfield 155, 3) := by decide +kernel
theorem d5_next_195 : decode (mk_c M5_next) 195 = .ok (.imul, 1) := by decide +kernel
theorem d5_next_196 : decode (mk_c M5_next) 196 = .ok (.aload_n 0, 1) := by decide +kernel
theorem d5_next_197 : decode (mk_c M5_next) 197 = .ok (.aload_n 0, 1) := by decide +kernel
theorem d5_next_198 : decode (mk_c M5_next) 198 = .ok (.getfield 133, 3) := by decide +kernel
theorem d5_next_201 : decode (mk_c M5_next) 201 = .ok (.invokevirtual 136, 3) := by decide +kernel
theorem d5_next_204 : decode (mk_c M5_next) 204 = .ok (.iadd, 1) := by decide +kernel
theorem d5_next_205 : decode (mk_c M5_next) 205 = .ok (.bipush 48, 2) := by decide +kernel
theorem d5_next_207 : decode (mk_c M5_next) 207 = .ok (.isub, 1) := by decide +kernel
theorem d5_next_208 : decode (mk_c M5_next) 208 = .ok (.putfield 155, 3) := by decide +kernel
theorem d5_next_211 : decode (mk_c M5_next) 211 = .ok (.iinc 2 1, 3) := by decide +kernel
theorem d5_next_214 : decode (mk_c M5_next) 214 = .ok (.aload_n 0, 1) := by decide +kernel
theorem d5_next_215 : decode (mk_c M5_next) 215 = .ok (.dup, 1) := by decide +kernel
theorem d5_next_216 : decode (mk_c M5_next) 216 = .ok (.getfield 133, 3) := by decide +kernel
theorem d5_next_219 : decode (mk_c M5_next) 219 = .ok (.iconst 1, 1) := by decide +kernel
theorem d5_next_220 : decode (mk_c M5_next) 220 = .ok (.iadd, 1) := by decide +kernel
theorem d5_next_221 : decode (mk_c M5_next) 221 = .ok (.putfield 133, 3) := by decide +kernel
theorem d5_next_224 : decode (mk_c M5_next) 224 = .ok (.goto (-55), 3) := by decide +kernel
theorem d5_next_227 : decode (mk_c M5_next) 227 = .ok (.iload_n 2, 1) := by decide +kernel
theorem d5_next_228 : decode (mk_c M5_next) 228 = .ok (.iconst 3, 1) := by decide +kernel
theorem d5_next_229 : decode (mk_c M5_next) 229 = .ok (.if_icmp .ge 43, 3) := by decide +kernel
theorem d5_next_232 : decode (mk_c M5_next) 232 = .ok (.aload_n 0, 1) := by decide +kernel
theorem d5_next_233 : decode (mk_c M5_next) 233 = .ok (.iconst 3, 1) := by decide +kernel
theorem d5_next_234 : decode (mk_c M5_next) 234 = .ok (.putfield 139, 3) := by decide +kernel
theorem d5_next_237 : decode (mk_c M5_next) 237 = .ok (.goto 35, 3) := by decide +kernel
theorem d5_next_240 : decode (mk_c M5_next) 240 = .ok (.iload_n 1, 1) := by decide +kernel
theorem d5_next_241 : decode (mk_c M5_next) 241 = .ok (.bipush 44, 2) := by decide +kernel
theorem d5_next_243 : decode (mk_c M5_next) 243 = .ok (.if_icmp .eq 9, 3) := by decide +kernel
theorem d5_next_246 : decode (mk_c M5_next) 246 = .ok (.iload_n 1, 1) := by decide +kernel
theorem d5_next_247 : decode (mk_c M5_next) 247 = .ok (.bipush 59, 2) := by decide +kernel
theorem d5_next_249 : decode (mk_c M5_next) 249 = .ok (.if_icmp .ne 23, 3) := by decide +kernel
theorem d5_next_252 : decode (mk_c M5_next) 252 = .ok (.aload_n 0, 1) := by decide +kernel
theorem d5_next_253 : decode (mk_c M5_next) 253 = .ok (.iconst 4, 1) := by decide +kernel
theorem d5_next_254 : decode (mk_c M5_next) 254 = .ok (.putfield 139, 3) := by decide +kernel
theorem d5_next_257 : decode (mk_c M5_next) 257 = .ok (.aload_n 0, 1) := by decide +kernel
theorem d5_next_258 : decode (mk_c M5_next) 258 = .ok (.iload_n 1, 1) := by decide +kernel
theorem d5_next_259 : decode (mk_c M5_next) 259 = .ok (.putfield 142, 3) := by decide +kernel
theorem d5_next_262 : decode (mk_c M5_next) 262 = .ok (.aload_n 0, 1) := by decide +kernel
theorem d5_next_263 : decode (mk_c M5_next) 263 = .ok (.dup, 1) := by decide +kernel
theorem d5_next_264 : decode (mk_c M5_next) 264 = .ok (.getfield 133, 3) := by decide +kernel
theorem d5_next_267 : decode (mk_c M5_next) 267 = .ok (.iconst 1, 1) := by decide +kernel
theorem d5_next_268 : decode (mk_c M5_next) 268 = .ok (.iadd, 1) := by decide +kernel
theorem d5_next_269 : decode (mk_c M5_next) 269 = .ok (.putfield 133, 3) := by decide +kernel
theorem d5_next_272 : decode (mk_c M5_next) 272 = .ok (.return_, 1) := by decide +kernel
theorem d5_byteAt_0 : decode (mk_c M5_byteAt) 0 = .ok (.iload_n 1, 1) := by decide +kernel
theorem d5_byteAt_1 : decode (mk_c M5_byteAt) 1 = .ok (.aload_n 0, 1) := by decide +kernel
theorem d5_byteAt_2 : decode (mk_c M5_byteAt) 2 = .ok (.getfield 118, 3) := by decide +kernel
theorem d5_byteAt_5 : decode (mk_c M5_byteAt) 5 = .ok (.if_icmp .ge 16, 3) := by decide +kernel
theorem d5_byteAt_8 : decode (mk_c M5_byteAt) 8 = .ok (.aload_n 0, 1) := by decide +kernel
theorem d5_byteAt_9 : decode (mk_c M5_byteAt) 9 = .ok (.getfield 45, 3) := by decide +kernel
theorem d5_byteAt_12 : decode (mk_c M5_byteAt) 12 = .ok (.iload_n 1, 1) := by decide +kernel
theorem d5_byteAt_13 : decode (mk_c M5_byteAt) 13 = .ok (.baload, 1) := by decide +kernel
theorem d5_byteAt_14 : decode (mk_c M5_byteAt) 14 = .ok (.sipush 255, 3) := by decide +kernel
theorem d5_byteAt_17 : decode (mk_c M5_byteAt) 17 = .ok (.iand, 1) := by decide +kernel
theorem d5_byteAt_18 : decode (mk_c M5_byteAt) 18 = .ok (.goto 4, 3) := by decide +kernel
theorem d5_byteAt_21 : decode (mk_c M5_byteAt) 21 = .ok (.iconst (-1), 1) := by decide +kernel
theorem d5_byteAt_22 : decode (mk_c M5_byteAt) 22 = .ok (.ireturn, 1) := by decide +kernel
theorem d5_isLetter_0 : decode (mk_c M5_isLetter) 0 = .ok (.iload_n 0, 1) := by decide +kernel
theorem d5_isLetter_1 : decode (mk_c M5_isLetter) 1 = .ok (.bipush 97, 2) := by decide +kernel
theorem d5_isLetter_3 : decode (mk_c M5_isLetter) 3 = .ok (.if_icmp .lt 13, 3) := by decide +kernel
theorem d5_isLetter_6 : decode (mk_c M5_isLetter) 6 = .ok (.iload_n 0, 1) := by decide +kernel
theorem d5_isLetter_7 : decode (mk_c M5_isLetter) 7 = .ok (.bipush 122, 2) := by decide +kernel
theorem d5_isLetter_9 : decode (mk_c M5_isLetter) 9 = .ok (.if_icmp .gt 7, 3) := by decide +kernel
theorem d5_isLetter_12 : decode (mk_c M5_isLetter) 12 = .ok (.iconst 1, 1) := by decide +kernel
theorem d5_isLetter_13 : decode (mk_c M5_isLetter) 13 = .ok (.goto 4, 3) := by decide +kernel
theorem d5_isLetter_16 : decode (mk_c M5_isLetter) 16 = .ok (.iconst 0, 1) := by decide +kernel
theorem d5_isLetter_17 : decode (mk_c M5_isLetter) 17 = .ok (.ireturn, 1) := by decide +kernel
theorem d5_isDigit_0 : decode (mk_c M5_isDigit) 0 = .ok (.iload_n 0, 1) := by decide +kernel
theorem d5_isDigit_1 : decode (mk_c M5_isDigit) 1 = .ok (.bipush 48, 2) := by decide +kernel
theorem d5_isDigit_3 : decode (mk_c M5_isDigit) 3 = .ok (.if_icmp .lt 13, 3) := by decide +kernel
theorem d5_isDigit_6 : decode (mk_c M5_isDigit) 6 = .ok (.iload_n 0, 1) := by decide +kernel
theorem d5_isDigit_7 : decode (mk_c M5_isDigit) 7 = .ok (.bipush 57, 2) := by decide +kernel
theorem d5_isDigit_9 : decode (mk_c M5_isDigit) 9 = .ok (.if_icmp .gt 7, 3) := by decide +kernel
theorem d5_isDigit_12 : decode (mk_c M5_isDigit) 12 = .ok (.iconst 1, 1) := by decide +kernel
theorem d5_isDigit_13 : decode (mk_c M5_isDigit) 13 = .ok (.goto 4, 3) := by decide +kernel
theorem d5_isDigit_16 : decode (mk_c M5_isDigit) 16 = .ok (.iconst 0, 1) := by decide +kernel
theorem d5_isDigit_17 : decode (mk_c M5_isDigit) 17 = .ok (.ireturn, 1) := by decide +kernel
theorem d5_isWord_0 : decode (mk_c M5_isWord) 0 = .ok (.aload_n 0, 1) := by decide +kernel
theorem d5_isWord_1 : decode (mk_c M5_isWord) 1 = .ok (.getfield 139, 3) := by decide +kernel
theorem d5_isWord_4 : decode (mk_c M5_isWord) 4 = .ok (.iconst 2, 1) := by decide +kernel
theorem d5_isWord_5 : decode (mk_c M5_isWord) 5 = .ok (.if_icmp .ne 19, 3) := by decide +kernel
theorem d5_isWord_8 : decode (mk_c M5_isWord) 8 = .ok (.aload_n 0, 1) := by decide +kernel
theorem d5_isWord_9 : decode (mk_c M5_isWord) 9 = .ok (.getfield 148, 3) := by decide +kernel
theorem d5_isWord_12 : decode (mk_c M5_isWord) 12 = .ok (.aload_n 1, 1) := by decide +kernel
theorem d5_isWord_13 : decode (mk_c M5_isWord) 13 = .ok (.invokestatic 158, 3) := by decide +kernel
theorem d5_isWord_16 : decode (mk_c M5_isWord) 16 = .ok (.lcmp, 1) := by decide +kernel
theorem d5_isWord_17 : decode (mk_c M5_isWord) 17 = .ok (.ifCond .ne 7, 3) := by decide +kernel
theorem d5_isWord_20 : decode (mk_c M5_isWord) 20 = .ok (.iconst 1, 1) := by decide +kernel
theorem d5_isWord_21 : decode (mk_c M5_isWord) 21 = .ok (.goto 4, 3) := by decide +kernel
theorem d5_isWord_24 : decode (mk_c M5_isWord) 24 = .ok (.iconst 0, 1) := by decide +kernel
theorem d5_isWord_25 : decode (mk_c M5_isWord) 25 = .ok (.ireturn, 1) := by decide +kernel
theorem d5_wordOf_0 : decode (mk_c M5_wordOf) 0 = .ok (.lconst 0, 1) := by decide +kernel
theorem d5_wordOf_1 : decode (mk_c M5_wordOf) 1 = .ok (.lstore_n 1, 1) := by decide +kernel
theorem d5_wordOf_2 : decode (mk_c M5_wordOf) 2 = .ok (.iconst 0, 1) := by decide +kernel
theorem d5_wordOf_3 : decode (mk_c M5_wordOf) 3 = .ok (.istore_n 3, 1) := by decide +kernel
theorem d5_wordOf_4 : decode (mk_c M5_wordOf) 4 = .ok (.iload_n 3, 1) := by decide +kernel
theorem d5_wordOf_5 : decode (mk_c M5_wordOf) 5 = .ok (.aload_n 0, 1) := by decide +kernel
theorem d5_wordOf_6 : decode (mk_c M5_wordOf) 6 = .ok (.invokevirtual 121, 3) := by decide +kernel
theorem d5_wordOf_9 : decode (mk_c M5_wordOf) 9 = .ok (.if_icmp .ge 27, 3) := by decide +kernel
theorem d5_wordOf_12 : decode (mk_c M5_wordOf) 12 = .ok (.ldc2_w 127, 3) := by decide +kernel
theorem d5_wordOf_15 : decode (mk_c M5_wordOf) 15 = .ok (.lload_n 1, 1) := by decide +kernel
theorem d5_wordOf_16 : decode (mk_c M5_wordOf) 16 = .ok (.lmul, 1) := by decide +kernel
theorem d5_wordOf_17 : decode (mk_c M5_wordOf) 17 = .ok (.aload_n 0, 1) := by decide +kernel
theorem d5_wordOf_18 : decode (mk_c M5_wordOf) 18 = .ok (.iload_n 3, 1) := by decide +kernel
theorem d5_wordOf_19 : decode (mk_c M5_wordOf) 19 = .ok (.invokevirtual 129, 3) := by decide +kernel
theorem d5_wordOf_22 : decode (mk_c M5_wordOf) 22 = .ok (.bipush 97, 2) := by decide +kernel
theorem d5_wordOf_24 : decode (mk_c M5_wordOf) 24 = .ok (.isub, 1) := by decide +kernel
theorem d5_wordOf_25 : decode (mk_c M5_wordOf) 25 = .ok (.iconst 1, 1) := by decide +kernel
theorem d5_wordOf_26 : decode (mk_c M5_wordOf) 26 = .ok (.iadd, 1) := by decide +kernel
theorem d5_wordOf_27 : decode (mk_c M5_wordOf) 27 = .ok (.i2l, 1) := by decide +kernel
theorem d5_wordOf_28 : decode (mk_c M5_wordOf) 28 = .ok (.ladd, 1) := by decide +kernel
theorem d5_wordOf_29 : decode (mk_c M5_wordOf) 29 = .ok (.lstore_n 1, 1) := by decide +kernel
theorem d5_wordOf_30 : decode (mk_c M5_wordOf) 30 = .ok (.iinc 3 1, 3) := by decide +kernel
theorem d5_wordOf_33 : decode (mk_c M5_wordOf) 33 = .ok (.goto (-29), 3) := by decide +kernel
theorem d5_wordOf_36 : decode (mk_c M5_wordOf) 36 = .ok (.lload_n 1, 1) := by decide +kernel
theorem d5_wordOf_37 : decode (mk_c M5_wordOf) 37 = .ok (.lreturn, 1) := by decide +kernel
theorem d5_stop_0 : decode (mk_c M5_stop) 0 = .ok (.aload_n 0, 1) := by decide +kernel
theorem d5_stop_1 : decode (mk_c M5_stop) 1 = .ok (.getfield 41, 3) := by decide +kernel
theorem d5_stop_4 : decode (mk_c M5_stop) 4 = .ok (.iload_n 1, 1) := by decide +kernel
theorem d5_stop_5 : decode (mk_c M5_stop) 5 = .ok (.putfield 112, 3) := by decide +kernel
theorem d5_stop_8 : decode (mk_c M5_stop) 8 = .ok (.aload_n 0, 1) := by decide +kernel
theorem d5_stop_9 : decode (mk_c M5_stop) 9 = .ok (.getfield 41, 3) := by decide +kernel
theorem d5_stop_12 : decode (mk_c M5_stop) 12 = .ok (.aload_n 0, 1) := by decide +kernel
theorem d5_stop_13 : decode (mk_c M5_stop) 13 = .ok (.getfield 114, 3) := by decide +kernel
theorem d5_stop_16 : decode (mk_c M5_stop) 16 = .ok (.putfield 117, 3) := by decide +kernel
theorem d5_stop_19 : decode (mk_c M5_stop) 19 = .ok (.aload_n 0, 1) := by decide +kernel
theorem d5_stop_20 : decode (mk_c M5_stop) 20 = .ok (.getfield 41, 3) := by decide +kernel
theorem d5_stop_23 : decode (mk_c M5_stop) 23 = .ok (.areturn, 1) := by decide +kernel
theorem d5_readLine_0 : decode (mk_c M5_readLine) 0 = .ok (.aload_n 0, 1) := by decide +kernel
theorem d5_readLine_1 : decode (mk_c M5_readLine) 1 = .ok (.getfield 23, 3) := by decide +kernel
theorem d5_readLine_4 : decode (mk_c M5_readLine) 4 = .ok (.iload_n 1, 1) := by decide +kernel
theorem d5_readLine_5 : decode (mk_c M5_readLine) 5 = .ok (.iload_n 2, 1) := by decide +kernel
theorem d5_readLine_6 : decode (mk_c M5_readLine) 6 = .ok (.iastore, 1) := by decide +kernel
theorem d5_readLine_7 : decode (mk_c M5_readLine) 7 = .ok (.aload_n 0, 1) := by decide +kernel
theorem d5_readLine_8 : decode (mk_c M5_readLine) 8 = .ok (.getfield 26, 3) := by decide +kernel
theorem d5_readLine_11 : decode (mk_c M5_readLine) 11 = .ok (.iload_n 1, 1) := by decide +kernel
theorem d5_readLine_12 : decode (mk_c M5_readLine) 12 = .ok (.iconst 0, 1) := by decide +kernel
theorem d5_readLine_13 : decode (mk_c M5_readLine) 13 = .ok (.iastore, 1) := by decide +kernel
theorem d5_readLine_14 : decode (mk_c M5_readLine) 14 = .ok (.aload_n 0, 1) := by decide +kernel
theorem d5_readLine_15 : decode (mk_c M5_readLine) 15 = .ok (.getfield 32, 3) := by decide +kernel
theorem d5_readLine_18 : decode (mk_c M5_readLine) 18 = .ok (.iload_n 1, 1) := by decide +kernel
theorem d5_readLine_19 : decode (mk_c M5_readLine) 19 = .ok (.iconst (-1), 1) := by decide +kernel
theorem d5_readLine_20 : decode (mk_c M5_readLine) 20 = .ok (.iastore, 1) := by decide +kernel
theorem d5_readLine_21 : decode (mk_c M5_readLine) 21 = .ok (.iload_n 2, 1) := by decide +kernel
theorem d5_readLine_22 : decode (mk_c M5_readLine) 22 = .ok (.tableswitch 214 0 4 #[34, 65, 103, 152, 183], 34) := by decide +kernel
theorem d5_readLine_56 : decode (mk_c M5_readLine) 56 = .ok (.aload_n 0, 1) := by decide +kernel
theorem d5_readLine_57 : decode (mk_c M5_readLine) 57 = .ok (.getfield 26, 3) := by decide +kernel
theorem d5_readLine_60 : decode (mk_c M5_readLine) 60 = .ok (.iload_n 1, 1) := by decide +kernel
theorem d5_readLine_61 : decode (mk_c M5_readLine) 61 = .ok (.aload_n 0, 1) := by decide +kernel
theorem d5_readLine_62 : decode (mk_c M5_readLine) 62 = .ok (.bipush 16, 2) := by decide +kernel
theorem d5_readLine_64 : decode (mk_c M5_readLine) 64 = .ok (.invokevirtual 196, 3) := by decide +kernel
theorem d5_readLine_67 : decode (mk_c M5_readLine) 67 = .ok (.iastore, 1) := by decide +kernel
theorem d5_readLine_68 : decode (mk_c M5_readLine) 68 = .ok (.aload_n 0, 1) := by decide +kernel
theorem d5_readLine_69 : decode (mk_c M5_readLine) 69 = .ok (.ldc 199, 2) := by decide +kernel
theorem d5_readLine_71 : decode (mk_c M5_readLine) 71 = .ok (.invokevirtual 201, 3) := by decide +kernel
theorem d5_readLine_74 : decode (mk_c M5_readLine) 74 = .ok (.aload_n 0, 1) := by decide +kernel
theorem d5_readLine_75 : decode (mk_c M5_readLine) 75 = .ok (.getfield 29, 3) := by decide +kernel
theorem d5_readLine_78 : decode (mk_c M5_readLine) 78 = .ok (.iload_n 1, 1) := by decide +kernel
theorem d5_readLine_79 : decode (mk_c M5_readLine) 79 = .ok (.aload_n 0, 1) := by decide +kernel
theorem d5_readLine_80 : decode (mk_c M5_readLine) 80 = .ok (.invokevirtual 205, 3) := by decide +kernel
theorem d5_readLine_83 : decode (mk_c M5_readLine) 83 = .ok (.iastore, 1) := by decide +kernel
theorem d5_readLine_84 : decode (mk_c M5_readLine) 84 = .ok (.goto 162, 3) := by decide +kernel
theorem d5_readLine_87 : decode (mk_c M5_readLine) 87 = .ok (.aload_n 0, 1) := by decide +kernel
theorem d5_readLine_88 : decode (mk_c M5_readLine) 88 = .ok (.getfield 29, 3) := by decide +kernel
theorem d5_readLine_91 : decode (mk_c M5_readLine) 91 = .ok (.iload_n 1, 1) := by decide +kernel
theorem d5_readLine_92 : decode (mk_c M5_readLine) 92 = .ok (.aload_n 0, 1) := by decide +kernel
theorem d5_readLine_93 : decode (mk_c M5_readLine) 93 = .ok (.invokevirtual 205, 3) := by decide +kernel
theorem d5_readLine_96 : decode (mk_c M5_readLine) 96 = .ok (.iastore, 1) := by decide +kernel
theorem d5_readLine_97 : decode (mk_c M5_readLine) 97 = .ok (.aload_n 0, 1) := by decide +kernel
theorem d5_readLine_98 : decode (mk_c M5_readLine) 98 = .ok (.ldc 208, 2) := by decide +kernel
theorem d5_readLine_100 : decode (mk_c M5_readLine) 100 = .ok (.invokevirtual 201, 3) := by decide +kernel
theorem d5_readLine_103 : decode (mk_c M5_readLine) 103 = .ok (.aload_n 0, 1) := by decide +kernel
theorem d5_readLine_104 : decode (mk_c M5_readLine) 104 = .ok (.iload_n 1, 1) := by decide +kernel
theorem d5_readLine_105 : decode (mk_c M5_readLine) 105 = .ok (.invokevirtual 209, 3) := by decide +kernel
theorem d5_readLine_108 : decode (mk_c M5_readLine) 108 = .ok (.aload_n 0, 1) := by decide +kernel
theorem d5_readLine_109 : decode (mk_c M5_readLine) 109 = .ok (.getfield 32, 3) := by decide +kernel
theorem d5_readLine_112 : decode (mk_c M5_readLine) 112 = .ok (.iload_n 1, 1) := by decide +kernel
theorem d5_readLine_113 : decode (mk_c M5_readLine) 113 = .ok (.aload_n 0, 1) := by decide +kernel
theorem d5_readLine_114 : decode (mk_c M5_readLine) 114 = .ok (.getfield 35, 3) := by decide +kernel
theorem d5_readLine_117 : decode (mk_c M5_readLine) 117 = .ok (.iconst 4, 1) := by decide +kernel
theorem d5_readLine_118 : decode (mk_c M5_readLine) 118 = .ok (.iload_n 1, 1) := by decide +kernel
theorem d5_readLine_119 : decode (mk_c M5_readLine) 119 = .ok (.imul, 1) := by decide +kernel
theorem d5_readLine_120 : decode (mk_c M5_readLine) 120 = .ok (.iaload, 1) := by decide +kernel
theorem d5_readLine_121 : decode (mk_c M5_readLine) 121 = .ok (.iastore, 1) := by decide +kernel
theorem d5_readLine_122 : decode (mk_c M5_readLine) 122 = .ok (.goto 124, 3) := by decide +kernel
theorem d5_readLine_125 : decode (mk_c M5_readLine) 125 = .ok (.aload_n 0, 1) := by decide +kernel
theorem d5_readLine_126 : decode (mk_c M5_readLine) 126 = .ok (.getfield 26, 3) := by decide +kernel
theorem d5_readLine_129 : decode (mk_c M5_readLine) 129 = .ok (.iload_n 1, 1) := by decide +kernel
theorem d5_readLine_130 : decode (mk_c M5_readLine) 130 = .ok (.aload_n 0, 1) := by decide +kernel
theorem d5_readLine_131 : decode (mk_c M5_readLine) 131 = .ok (.aload_n 0, 1) := by decide +kernel
theorem d5_readLine_132 : decode (mk_c M5_readLine) 132 = .ok (.getfield 86, 3) := by decide +kernel
theorem d5_readLine_135 : decode (mk_c M5_readLine) 135 = .ok (.invokevirtual 196, 3) := by decide +kernel
theorem d5_readLine_138 : decode (mk_c M5_readLine) 138 = .ok (.iastore, 1) := by decide +kernel
theorem d5_readLine_139 : decode (mk_c M5_readLine) 139 = .ok (.aload_n 0, 1) := by decide +kernel
theorem d5_readLine_140 : decode (mk_c M5_readLine) 140 = .ok (.ldc 213, 2) := by decide +kernel
theorem d5_readLine_142 : decode (mk_c M5_readLine) 142 = .ok (.invokevirtual 201, 3) := by decide +kernel
theorem d5_readLine_145 : decode (mk_c M5_readLine) 145 = .ok (.aload_n 0, 1) := by decide +kernel
theorem d5_readLine_146 : decode (mk_c M5_readLine) 146 = .ok (.getfield 29, 3) := by decide +kernel
theorem d5_readLine_149 : decode (mk_c M5_readLine) 149 = .ok (.iload_n 1, 1) := by decide +kernel
theorem d5_readLine_150 : decode (mk_c M5_readLine) 150 = .ok (.aload_n 0, 1) := by decide +kernel
theorem d5_readLine_151 : decode (mk_c M5_readLine) 151 = .ok (.invokevirtual 205, 3) := by decide +kernel
theorem d5_readLine_154 : decode (mk_c M5_readLine) 154 = .ok (.iastore, 1) := by decide +kernel
theorem d5_readLine_155 : decode (mk_c M5_readLine) 155 = .ok (.aload_n 0, 1) := by decide +kernel
theorem d5_readLine_156 : decode (mk_c M5_readLine) 156 = .ok (.ldc 199, 2) := by decide +kernel
theorem d5_readLine_158 : decode (mk_c M5_readLine) 158 = .ok (.invokevirtual 201, 3) := by decide +kernel
theorem d5_readLine_161 : decode (mk_c M5_readLine) 161 = .ok (.aload_n 0, 1) := by decide +kernel
theorem d5_readLine_162 : decode (mk_c M5_readLine) 162 = .ok (.getfield 32, 3) := by decide +kernel
theorem d5_readLine_165 : decode (mk_c M5_readLine) 165 = .ok (.iload_n 1, 1) := by decide +kernel
theorem d5_readLine_166 : decode (mk_c M5_readLine) 166 = .ok (.aload_n 0, 1) := by decide +kernel
theorem d5_readLine_167 : decode (mk_c M5_readLine) 167 = .ok (.invokevirtual 205, 3) := by decide +kernel
theorem d5_readLine_170 : decode (mk_c M5_readLine) 170 = .ok (.iastore, 1) := by decide +kernel
theorem d5_readLine_171 : decode (mk_c M5_readLine) 171 = .ok (.goto 75, 3) := by decide +kernel
theorem d5_readLine_174 : decode (mk_c M5_readLine) 174 = .ok (.aload_n 0, 1) := by decide +kernel
theorem d5_readLine_175 : decode (mk_c M5_readLine) 175 = .ok (.getfield 29, 3) := by decide +kernel
theorem d5_readLine_178 : decode (mk_c M5_readLine) 178 = .ok (.iload_n 1, 1) := by decide +kernel
theorem d5_readLine_179 : decode (mk_c M5_readLine) 179 = .ok (.aload_n 0, 1) := by decide +kernel
theorem d5_readLine_180 : decode (mk_c M5_readLine) 180 = .ok (.invokevirtual 205, 3) := by decide +kernel
theorem d5_readLine_183 : decode (mk_c M5_readLine) 183 = .ok (.iastore, 1) := by decide +kernel
theorem d5_readLine_184 : decode (mk_c M5_readLine) 184 = .ok (.aload_n 0, 1) := by decide +kernel
theorem d5_readLine_185 : decode (mk_c M5_readLine) 185 = .ok (.ldc 215, 2) := by decide +kernel
theorem d5_readLine_187 : decode (mk_c M5_readLine) 187 = .ok (.invokevirtual 201, 3) := by decide +kernel
theorem d5_readLine_190 : decode (mk_c M5_readLine) 190 = .ok (.aload_n 0, 1) := by decide +kernel
theorem d5_readLine_191 : decode (mk_c M5_readLine) 191 = .ok (.getfield 26, 3) := by decide +kernel
theorem d5_readLine_194 : decode (mk_c M5_readLine) 194 = .ok (.iload_n 1, 1) := by decide +kernel
theorem d5_readLine_195 : decode (mk_c M5_readLine) 195 = .ok (.aload_n 0, 1) := by decide +kernel
theorem d5_readLine_196 : decode (mk_c M5_readLine) 196 = .ok (.bipush 16, 2) := by decide +kernel
theorem d5_readLine_198 : decode (mk_c M5_readLine) 198 = .ok (.invokevirtual 196, 3) := by decide +kernel
theorem d5_readLine_201 : decode (mk_c M5_readLine) 201 = .ok (.iastore, 1) := by decide +kernel
theorem d5_readLine_202 : decode (mk_c M5_readLine) 202 = .ok (.goto 44, 3) := by decide +kernel
theorem d5_readLine_205 : decode (mk_c M5_readLine) 205 = .ok (.aload_n 0, 1) := by decide +kernel
theorem d5_readLine_206 : decode (mk_c M5_readLine) 206 = .ok (.getfield 29, 3) := by decide +kernel
theorem d5_readLine_209 : decode (mk_c M5_readLine) 209 = .ok (.iload_n 1, 1) := by decide +kernel
theorem d5_readLine_210 : decode (mk_c M5_readLine) 210 = .ok (.aload_n 0, 1) := by decide +kernel
theorem d5_readLine_211 : decode (mk_c M5_readLine) 211 = .ok (.invokevirtual 205, 3) := by decide +kernel
theorem d5_readLine_214 : decode (mk_c M5_readLine) 214 = .ok (.iastore, 1) := by decide +kernel
theorem d5_readLine_215 : decode (mk_c M5_readLine) 215 = .ok (.aload_n 0, 1) := by decide +kernel
theorem d5_readLine_216 : decode (mk_c M5_readLine) 216 = .ok (.ldc 217, 2) := by decide +kernel
theorem d5_readLine_218 : decode (mk_c M5_readLine) 218 = .ok (.invokevirtual 201, 3) := by decide +kernel
theorem d5_readLine_221 : decode (mk_c M5_readLine) 221 = .ok (.aload_n 0, 1) := by decide +kernel
theorem d5_readLine_222 : decode (mk_c M5_readLine) 222 = .ok (.getfield 26, 3) := by decide +kernel
theorem d5_readLine_225 : decode (mk_c M5_readLine) 225 = .ok (.iload_n 1, 1) := by decide +kernel
theorem d5_readLine_226 : decode (mk_c M5_readLine) 226 = .ok (.aload_n 0, 1) := by decide +kernel
theorem d5_readLine_227 : decode (mk_c M5_readLine) 227 = .ok (.bipush 16, 2) := by decide +kernel
theorem d5_readLine_229 : decode (mk_c M5_readLine) 229 = .ok (.invokevirtual 196, 3) := by decide +kernel
theorem d5_readLine_232 : decode (mk_c M5_readLine) 232 = .ok (.iastore, 1) := by decide +kernel
theorem d5_readLine_233 : decode (mk_c M5_readLine) 233 = .ok (.goto 13, 3) := by decide +kernel
theorem d5_readLine_236 : decode (mk_c M5_readLine) 236 = .ok (.aload_n 0, 1) := by decide +kernel
theorem d5_readLine_237 : decode (mk_c M5_readLine) 237 = .ok (.getfield 29, 3) := by decide +kernel
theorem d5_readLine_240 : decode (mk_c M5_readLine) 240 = .ok (.iload_n 1, 1) := by decide +kernel
theorem d5_readLine_241 : decode (mk_c M5_readLine) 241 = .ok (.aload_n 0, 1) := by decide +kernel
theorem d5_readLine_242 : decode (mk_c M5_readLine) 242 = .ok (.invokevirtual 205, 3) := by decide +kernel
theorem d5_readLine_245 : decode (mk_c M5_readLine) 245 = .ok (.iastore, 1) := by decide +kernel
theorem d5_readLine_246 : decode (mk_c M5_readLine) 246 = .ok (.return_, 1) := by decide +kernel
theorem d5_needWhole_0 : decode (mk_c M5_needWhole) 0 = .ok (.aload_n 0, 1) := by decide +kernel
theorem d5_needWhole_1 : decode (mk_c M5_needWhole) 1 = .ok (.getfield 139, 3) := by decide +kernel
theorem d5_needWhole_4 : decode (mk_c M5_needWhole) 4 = .ok (.iconst 3, 1) := by decide +kernel
theorem d5_needWhole_5 : decode (mk_c M5_needWhole) 5 = .ok (.if_icmp .eq 9, 3) := by decide +kernel
theorem d5_needWhole_8 : decode (mk_c M5_needWhole) 8 = .ok (.aload_n 0, 1) := by decide +kernel
theorem d5_needWhole_9 : decode (mk_c M5_needWhole) 9 = .ok (.iconst 1, 1) := by decide +kernel
theorem d5_needWhole_10 : decode (mk_c M5_needWhole) 10 = .ok (.invokevirtual 166, 3) := by decide +kernel
theorem d5_needWhole_13 : decode (mk_c M5_needWhole) 13 = .ok (.athrow, 1) := by decide +kernel
theorem d5_needWhole_14 : decode (mk_c M5_needWhole) 14 = .ok (.aload_n 0, 1) := by decide +kernel
theorem d5_needWhole_15 : decode (mk_c M5_needWhole) 15 = .ok (.getfield 155, 3) := by decide +kernel
theorem d5_needWhole_18 : decode (mk_c M5_needWhole) 18 = .ok (.iload_n 1, 1) := by decide +kernel
theorem d5_needWhole_19 : decode (mk_c M5_needWhole) 19 = .ok (.if_icmp .lt 9, 3) := by decide +kernel
theorem d5_needWhole_22 : decode (mk_c M5_needWhole) 22 = .ok (.aload_n 0, 1) := by decide +kernel
theorem d5_needWhole_23 : decode (mk_c M5_needWhole) 23 = .ok (.iconst 3, 1) := by decide +kernel
theorem d5_needWhole_24 : decode (mk_c M5_needWhole) 24 = .ok (.invokevirtual 166, 3) := by decide +kernel
theorem d5_needWhole_27 : decode (mk_c M5_needWhole) 27 = .ok (.athrow, 1) := by decide +kernel
theorem d5_needWhole_28 : decode (mk_c M5_needWhole) 28 = .ok (.aload_n 0, 1) := by decide +kernel
theorem d5_needWhole_29 : decode (mk_c M5_needWhole) 29 = .ok (.getfield 155, 3) := by decide +kernel
theorem d5_needWhole_32 : decode (mk_c M5_needWhole) 32 = .ok (.istore_n 2, 1) := by decide +kernel
theorem d5_needWhole_33 : decode (mk_c M5_needWhole) 33 = .ok (.aload_n 0, 1) := by decide +kernel
theorem d5_needWhole_34 : decode (mk_c M5_needWhole) 34 = .ok (.invokevirtual 169, 3) := by decide +kernel
theorem d5_needWhole_37 : decode (mk_c M5_needWhole) 37 = .ok (.iload_n 2, 1) := by decide +kernel
theorem d5_needWhole_38 : decode (mk_c M5_needWhole) 38 = .ok (.ireturn, 1) := by decide +kernel
theorem d5_needWord_0 : decode (mk_c M5_needWord) 0 = .ok (.aload_n 0, 1) := by decide +kernel
theorem d5_needWord_1 : decode (mk_c M5_needWord) 1 = .ok (.aload_n 1, 1) := by decide +kernel
theorem d5_needWord_2 : decode (mk_c M5_needWord) 2 = .ok (.invokevirtual 162, 3) := by decide +kernel
theorem d5_needWord_5 : decode (mk_c M5_needWord) 5 = .ok (.ifCond .ne 9, 3) := by decide +kernel
theorem d5_needWord_8 : decode (mk_c M5_needWord) 8 = .ok (.aload_n 0, 1) := by decide +kernel
theorem d5_needWord_9 : decode (mk_c M5_needWord) 9 = .ok (.iconst 1, 1) := by decide +kernel
theorem d5_needWord_10 : decode (mk_c M5_needWord) 10 = .ok (.invokevirtual 166, 3) := by decide +kernel
theorem d5_needWord_13 : decode (mk_c M5_needWord) 13 = .ok (.athrow, 1) := by decide +kernel
theorem d5_needWord_14 : decode (mk_c M5_needWord) 14 = .ok (.aload_n 0, 1) := by decide +kernel
theorem d5_needWord_15 : decode (mk_c M5_needWord) 15 = .ok (.invokevirtual 169, 3) := by decide +kernel
theorem d5_needWord_18 : decode (mk_c M5_needWord) 18 = .ok (.return_, 1) := by decide +kernel
theorem d5_needName_0 : decode (mk_c M5_needName) 0 = .ok (.aload_n 0, 1) := by decide +kernel
theorem d5_needName_1 : decode (mk_c M5_needName) 1 = .ok (.invokevirtual 174, 3) := by decide +kernel
theorem d5_needName_4 : decode (mk_c M5_needName) 4 = .ok (.istore_n 1, 1) := by decide +kernel
theorem d5_needName_5 : decode (mk_c M5_needName) 5 = .ok (.aload_n 0, 1) := by decide +kernel
theorem d5_needName_6 : decode (mk_c M5_needName) 6 = .ok (.invokevirtual 169, 3) := by decide +kernel
theorem d5_needName_9 : decode (mk_c M5_needName) 9 = .ok (.iload_n 1, 1) := by decide +kernel
theorem d5_needName_10 : decode (mk_c M5_needName) 10 = .ok (.ireturn, 1) := by decide +kernel
theorem d5_nameHere_0 : decode (mk_c M5_nameHere) 0 = .ok (.aload_n 0, 1) := by decide +kernel
theorem d5_nameHere_1 : decode (mk_c M5_nameHere) 1 = .ok (.getfield 139, 3) := by decide +kernel
theorem d5_nameHere_4 : decode (mk_c M5_nameHere) 4 = .ok (.iconst 2, 1) := by decide +kernel
theorem d5_nameHere_5 : decode (mk_c M5_nameHere) 5 = .ok (.if_icmp .eq 9, 3) := by decide +kernel
theorem d5_nameHere_8 : decode (mk_c M5_nameHere) 8 = .ok (.aload_n 0, 1) := by decide +kernel
theorem d5_nameHere_9 : decode (mk_c M5_nameHere) 9 = .ok (.iconst 1, 1) := by decide +kernel
theorem d5_nameHere_10 : decode (mk_c M5_nameHere) 10 = .ok (.invokevirtual 166, 3) := by decide +kernel
theorem d5_nameHere_13 : decode (mk_c M5_nameHere) 13 = .ok (.athrow, 1) := by decide +kernel
theorem d5_nameHere_14 : decode (mk_c M5_nameHere) 14 = .ok (.aload_n 0, 1) := by decide +kernel
theorem d5_nameHere_15 : decode (mk_c M5_nameHere) 15 = .ok (.getfield 148, 3) := by decide +kernel
theorem d5_nameHere_18 : decode (mk_c M5_nameHere) 18 = .ok (.lconst 1, 1) := by decide +kernel
theorem d5_nameHere_19 : decode (mk_c M5_nameHere) 19 = .ok (.lcmp, 1) := by decide +kernel
theorem d5_nameHere_20 : decode (mk_c M5_nameHere) 20 = .ok (.ifCond .lt 14, 3) := by decide +kernel
theorem d5_nameHere_23 : decode (mk_c M5_nameHere) 23 = .ok (.aload_n 0, 1) := by decide +kernel
theorem d5_nameHere_24 : decode (mk_c M5_nameHere) 24 = .ok (.getfield 148, 3) := by decide +kernel
theorem d5_nameHere_27 : decode (mk_c M5_nameHere) 27 = .ok (.ldc2_w 172, 3) := by decide +kernel
theorem d5_nameHere_30 : decode (mk_c M5_nameHere) 30 = .ok (.lcmp, 1) := by decide +kernel
theorem d5_nameHere_31 : decode (mk_c M5_nameHere) 31 = .ok (.ifCond .le 9, 3) := by decide +kernel
theorem d5_nameHere_34 : decode (mk_c M5_nameHere) 34 = .ok (.aload_n 0, 1) := by decide +kernel
theorem d5_nameHere_35 : decode (mk_c M5_nameHere) 35 = .ok (.iconst 2, 1) := by decide +kernel
theorem d5_nameHere_36 : decode (mk_c M5_nameHere) 36 = .ok (.invokevirtual 166, 3) := by decide +kernel
theorem d5_nameHere_39 : decode (mk_c M5_nameHere) 39 = .ok (.athrow, 1) := by decide +kernel
theorem d5_nameHere_40 : decode (mk_c M5_nameHere) 40 = .ok (.aload_n 0, 1) := by decide +kernel
theorem d5_nameHere_41 : decode (mk_c M5_nameHere) 41 = .ok (.getfield 148, 3) := by decide +kernel
theorem d5_nameHere_44 : decode (mk_c M5_nameHere) 44 = .ok (.l2i, 1) := by decide +kernel
theorem d5_nameHere_45 : decode (mk_c M5_nameHere) 45 = .ok (.iconst 1, 1) := by decide +kernel
theorem d5_nameHere_46 : decode (mk_c M5_nameHere) 46 = .ok (.isub, 1) := by decide +kernel
theorem d5_nameHere_47 : decode (mk_c M5_nameHere) 47 = .ok (.ireturn, 1) := by decide +kernel
theorem d5_readFrom_0 : decode (mk_c M5_readFrom) 0 = .ok (.iconst 1, 1) := by decide +kernel
theorem d5_readFrom_1 : decode (mk_c M5_readFrom) 1 = .ok (.istore_n 2, 1) := by decide +kernel
theorem d5_readFrom_2 : decode (mk_c M5_readFrom) 2 = .ok (.iload_n 2, 1) := by decide +kernel
theorem d5_readFrom_3 : decode (mk_c M5_readFrom) 3 = .ok (.ifCond .eq 72, 3) := by decide +kernel
theorem d5_readFrom_6 : decode (mk_c M5_readFrom) 6 = .ok (.aload_n 0, 1) := by decide +kernel
theorem d5_readFrom_7 : decode (mk_c M5_readFrom) 7 = .ok (.invokevirtual 174, 3) := by decide +kernel
theorem d5_readFrom_10 : decode (mk_c M5_readFrom) 10 = .ok (.istore_n 3, 1) := by decide +kernel
theorem d5_readFrom_11 : decode (mk_c M5_readFrom) 11 = .ok (.aload_n 0, 1) := by decide +kernel
theorem d5_readFrom_12 : decode (mk_c M5_readFrom) 12 = .ok (.getfield 26, 3) := by decide +kernel
theorem d5_readFrom_15 : decode (mk_c M5_readFrom) 15 = .ok (.iload_n 1, 1) := by decide +kernel
theorem d5_readFrom_16 : decode (mk_c M5_readFrom) 16 = .ok (.iaload, 1) := by decide +kernel
theorem d5_readFrom_17 : decode (mk_c M5_readFrom) 17 = .ok (.iconst 4, 1) := by decide +kernel
theorem d5_readFrom_18 : decode (mk_c M5_readFrom) 18 = .ok (.if_icmp .ne 9, 3) := by decide +kernel
theorem d5_readFrom_21 : decode (mk_c M5_readFrom) 21 = .ok (.aload_n 0, 1) := by decide +kernel
theorem d5_readFrom_22 : decode (mk_c M5_readFrom) 22 = .ok (.iconst 4, 1) := by decide +kernel
theorem d5_readFrom_23 : decode (mk_c M5_readFrom) 23 = .ok (.invokevirtual 166, 3) := by decide +kernel
theorem d5_readFrom_26 : decode (mk_c M5_readFrom) 26 = .ok (.athrow, 1) := by decide +kernel
theorem d5_readFrom_27 : decode (mk_c M5_readFrom) 27 = .ok (.aload_n 0, 1) := by decide +kernel
theorem d5_readFrom_28 : decode (mk_c M5_readFrom) 28 = .ok (.getfield 35, 3) := by decide +kernel
theorem d5_readFrom_31 : decode (mk_c M5_readFrom) 31 = .ok (.iconst 4, 1) := by decide +kernel
theorem d5_readFrom_32 : decode (mk_c M5_readFrom) 32 = .ok (.iload_n 1, 1) := by decide +kernel
theorem d5_readFrom_33 : decode (mk_c M5_readFrom) 33 = .ok (.imul, 1) := by decide +kernel
theorem d5_readFrom_34 : decode (mk_c M5_readFrom) 34 = .ok (.aload_n 0, 1) := by decide +kernel
theorem d5_readFrom_35 : decode (mk_c M5_readFrom) 35 = .ok (.getfield 26, 3) := by decide +kernel
theorem d5_readFrom_38 : decode (mk_c M5_readFrom) 38 = .ok (.iload_n 1, 1) := by decide +kernel
theorem d5_readFrom_39 : decode (mk_c M5_readFrom) 39 = .ok (.iaload, 1) := by decide +kernel
theorem d5_readFrom_40 : decode (mk_c M5_readFrom) 40 = .ok (.iadd, 1) := by decide +kernel
theorem d5_readFrom_41 : decode (mk_c M5_readFrom) 41 = .ok (.iload_n 3, 1) := by decide +kernel
theorem d5_readFrom_42 : decode (mk_c M5_readFrom) 42 = .ok (.iastore, 1) := by decide +kernel
theorem d5_readFrom_43 : decode (mk_c M5_readFrom) 43 = .ok (.aload_n 0, 1) := by decide +kernel
theorem d5_readFrom_44 : decode (mk_c M5_readFrom) 44 = .ok (.getfield 26, 3) := by decide +kernel
theorem d5_readFrom_47 : decode (mk_c M5_readFrom) 47 = .ok (.iload_n 1, 1) := by decide +kernel
theorem d5_readFrom_48 : decode (mk_c M5_readFrom) 48 = .ok (.dup2, 1) := by decide +kernel
theorem d5_readFrom_49 : decode (mk_c M5_readFrom) 49 = .ok (.iaload, 1) := by decide +kernel
theorem d5_readFrom_50 : decode (mk_c M5_readFrom) 50 = .ok (.iconst 1, 1) := by decide +kernel
theorem d5_readFrom_51 : decode (mk_c M5_readFrom) 51 = .ok (.iadd, 1) := by decide +kernel
theorem d5_readFrom_52 : decode (mk_c M5_readFrom) 52 = .ok (.iastore, 1) := by decide +kernel
theorem d5_readFrom_53 : decode (mk_c M5_readFrom) 53 = .ok (.aload_n 0, 1) := by decide +kernel
theorem d5_readFrom_54 : decode (mk_c M5_readFrom) 54 = .ok (.invokevirtual 169, 3) := by decide +kernel
theorem d5_readFrom_57 : decode (mk_c M5_readFrom) 57 = .ok (.aload_n 0, 1) := by decide +kernel
theorem d5_readFrom_58 : decode (mk_c M5_readFrom) 58 = .ok (.bipush 44, 2) := by decide +kernel
theorem d5_readFrom_60 : decode (mk_c M5_readFrom) 60 = .ok (.invokevirtual 193, 3) := by decide +kernel
theorem d5_readFrom_63 : decode (mk_c M5_readFrom) 63 = .ok (.istore_n 2, 1) := by decide +kernel
theorem d5_readFrom_64 : decode (mk_c M5_readFrom) 64 = .ok (.iload_n 2, 1) := by decide +kernel
theorem d5_readFrom_65 : decode (mk_c M5_readFrom) 65 = .ok (.ifCond .eq 7, 3) := by decide +kernel
theorem d5_readFrom_68 : decode (mk_c M5_readFrom) 68 = .ok (.aload_n 0, 1) := by decide +kernel
theorem d5_readFrom_69 : decode (mk_c M5_readFrom) 69 = .ok (.invokevirtual 169, 3) := by decide +kernel
theorem d5_readFrom_72 : decode (mk_c M5_readFrom) 72 = .ok (.goto (-70), 3) := by decide +kernel
theorem d5_readFrom_75 : decode (mk_c M5_readFrom) 75 = .ok (.return_, 1) := by decide +kernel
theorem d5_is_0 : decode (mk_c M5_is) 0 = .ok (.aload_n 0, 1) := by decide +kernel
theorem d5_is_1 : decode (mk_c M5_is) 1 = .ok (.getfield 139, 3) := by decide +kernel
theorem d5_is_4 : decode (mk_c M5_is) 4 = .ok (.iconst 4, 1) := by decide +kernel
theorem d5_is_5 : decode (mk_c M5_is) 5 = .ok (.if_icmp .ne 15, 3) := by decide +kernel
theorem d5_is_8 : decode (mk_c M5_is) 8 = .ok (.aload_n 0, 1) := by decide +kernel
theorem d5_is_9 : decode (mk_c M5_is) 9 = .ok (.getfield 142, 3) := by decide +kernel
theorem d5_is_12 : decode (mk_c M5_is) 12 = .ok (.iload_n 1, 1) := by decide +kernel
theorem d5_is_13 : decode (mk_c M5_is) 13 = .ok (.if_icmp .ne 7, 3) := by decide +kernel
theorem d5_is_16 : decode (mk_c M5_is) 16 = .ok (.iconst 1, 1) := by decide +kernel
theorem d5_is_17 : decode (mk_c M5_is) 17 = .ok (.goto 4, 3) := by decide +kernel
theorem d5_is_20 : decode (mk_c M5_is) 20 = .ok (.iconst 0, 1) := by decide +kernel
theorem d5_is_21 : decode (mk_c M5_is) 21 = .ok (.ireturn, 1) := by decide +kernel
theorem d5_fault_0 : decode (mk_c M5_fault) 0 = .ok (.aload_n 0, 1) := by decide +kernel
theorem d5_fault_1 : decode (mk_c M5_fault) 1 = .ok (.iconst 0, 1) := by decide +kernel
theorem d5_fault_2 : decode (mk_c M5_fault) 2 = .ok (.putfield 80, 3) := by decide +kernel
theorem d5_fault_5 : decode (mk_c M5_fault) 5 = .ok (.aload_n 0, 1) := by decide +kernel
theorem d5_fault_6 : decode (mk_c M5_fault) 6 = .ok (.getfield 222, 3) := by decide +kernel
theorem d5_fault_9 : decode (mk_c M5_fault) 9 = .ok (.ireturn, 1) := by decide +kernel
theorem d5_where_0 : decode (mk_c M5_where) 0 = .ok (.aload_n 0, 1) := by decide +kernel
theorem d5_where_1 : decode (mk_c M5_where) 1 = .ok (.iconst 0, 1) := by decide +kernel
theorem d5_where_2 : decode (mk_c M5_where) 2 = .ok (.putfield 80, 3) := by decide +kernel
theorem d5_where_5 : decode (mk_c M5_where) 5 = .ok (.aload_n 0, 1) := by decide +kernel
theorem d5_where_6 : decode (mk_c M5_where) 6 = .ok (.getfield 9, 3) := by decide +kernel
theorem d5_where_9 : decode (mk_c M5_where) 9 = .ok (.ireturn, 1) := by decide +kernel
theorem d5_line_0 : decode (mk_c M5_line) 0 = .ok (.aload_n 0, 1) := by decide +kernel
theorem d5_line_1 : decode (mk_c M5_line) 1 = .ok (.iconst 0, 1) := by decide +kernel
theorem d5_line_2 : decode (mk_c M5_line) 2 = .ok (.putfield 80, 3) := by decide +kernel
theorem d5_line_5 : decode (mk_c M5_line) 5 = .ok (.aload_n 0, 1) := by decide +kernel
theorem d5_line_6 : decode (mk_c M5_line) 6 = .ok (.iload_n 1, 1) := by decide +kernel
theorem d5_line_7 : decode (mk_c M5_line) 7 = .ok (.invokevirtual 101, 3) := by decide +kernel
theorem d5_line_10 : decode (mk_c M5_line) 10 = .ok (.ifCond .eq 17, 3) := by decide +kernel
theorem d5_line_13 : decode (mk_c M5_line) 13 = .ok (.iload_n 2, 1) := by decide +kernel
theorem d5_line_14 : decode (mk_c M5_line) 14 = .ok (.ifCond .lt 13, 3) := by decide +kernel
theorem d5_line_17 : decode (mk_c M5_line) 17 = .ok (.iload_n 2, 1) := by decide +kernel
theorem d5_line_18 : decode (mk_c M5_line) 18 = .ok (.aload_n 0, 1) := by decide +kernel
theorem d5_line_19 : decode (mk_c M5_line) 19 = .ok (.getfield 17, 3) := by decide +kernel
theorem d5_line_22 : decode (mk_c M5_line) 22 = .ok (.iload_n 1, 1) := by decide +kernel
theorem d5_line_23 : decode (mk_c M5_line) 23 = .ok (.iaload, 1) := by decide +kernel
theorem d5_line_24 : decode (mk_c M5_line) 24 = .ok (.if_icmp .lt 5, 3) := by decide +kernel
theorem d5_line_27 : decode (mk_c M5_line) 27 = .ok (.iconst (-1), 1) := by decide +kernel
theorem d5_line_28 : decode (mk_c M5_line) 28 = .ok (.ireturn, 1) := by decide +kernel
theorem d5_line_29 : decode (mk_c M5_line) 29 = .ok (.bipush 12, 2) := by decide +kernel
theorem d5_line_31 : decode (mk_c M5_line) 31 = .ok (.iload_n 1, 1) := by decide +kernel
theorem d5_line_32 : decode (mk_c M5_line) 32 = .ok (.imul, 1) := by decide +kernel
theorem d5_line_33 : decode (mk_c M5_line) 33 = .ok (.iload_n 2, 1) := by decide +kernel
theorem d5_line_34 : decode (mk_c M5_line) 34 = .ok (.iadd, 1) := by decide +kernel
theorem d5_line_35 : decode (mk_c M5_line) 35 = .ok (.istore 4, 2) := by decide +kernel
theorem d5_line_37 : decode (mk_c M5_line) 37 = .ok (.iload_n 3, 1) := by decide +kernel
theorem d5_line_38 : decode (mk_c M5_line) 38 = .ok (.tableswitch 62 0 3 #[30, 38, 46, 54], 30) := by decide +kernel
theorem d5_line_68 : decode (mk_c M5_line) 68 = .ok (.aload_n 0, 1) := by decide +kernel
theorem d5_line_69 : decode (mk_c M5_line) 69 = .ok (.getfield 23, 3) := by decide +kernel
theorem d5_line_72 : decode (mk_c M5_line) 72 = .ok (.iload 4, 2) := by decide +kernel
theorem d5_line_74 : decode (mk_c M5_line) 74 = .ok (.iaload, 1) := by decide +kernel
theorem d5_line_75 : decode (mk_c M5_line) 75 = .ok (.ireturn, 1) := by decide +kernel
theorem d5_line_76 : decode (mk_c M5_line) 76 = .ok (.aload_n 0, 1) := by decide +kernel
theorem d5_line_77 : decode (mk_c M5_line) 77 = .ok (.getfield 26, 3) := by decide +kernel
theorem d5_line_80 : decode (mk_c M5_line) 80 = .ok (.iload 4, 2) := by decide +kernel
theorem d5_line_82 : decode (mk_c M5_line) 82 = .ok (.iaload, 1) := by decide +kernel
theorem d5_line_83 : decode (mk_c M5_line) 83 = .ok (.ireturn, 1) := by decide +kernel
theorem d5_line_84 : decode (mk_c M5_line) 84 = .ok (.aload_n 0, 1) := by decide +kernel
theorem d5_line_85 : decode (mk_c M5_line) 85 = .ok (.getfield 29, 3) := by decide +kernel
theorem d5_line_88 : decode (mk_c M5_line) 88 = .ok (.iload 4, 2) := by decide +kernel
theorem d5_line_90 : decode (mk_c M5_line) 90 = .ok (.iaload, 1) := by decide +kernel
theorem d5_line_91 : decode (mk_c M5_line) 91 = .ok (.ireturn, 1) := by decide +kernel
theorem d5_line_92 : decode (mk_c M5_line) 92 = .ok (.aload_n 0, 1) := by decide +kernel
theorem d5_line_93 : decode (mk_c M5_line) 93 = .ok (.getfield 32, 3) := by decide +kernel
theorem d5_line_96 : decode (mk_c M5_line) 96 = .ok (.iload 4, 2) := by decide +kernel
theorem d5_line_98 : decode (mk_c M5_line) 98 = .ok (.iaload, 1) := by decide +kernel
theorem d5_line_99 : decode (mk_c M5_line) 99 = .ok (.ireturn, 1) := by decide +kernel
theorem d5_line_100 : decode (mk_c M5_line) 100 = .ok (.iconst (-1), 1) := by decide +kernel
theorem d5_line_101 : decode (mk_c M5_line) 101 = .ok (.ireturn, 1) := by decide +kernel
theorem d5_meant_0 : decode (mk_c M5_meant) 0 = .ok (.aload_n 0, 1) := by decide +kernel
theorem d5_meant_1 : decode (mk_c M5_meant) 1 = .ok (.iconst 0, 1) := by decide +kernel
theorem d5_meant_2 : decode (mk_c M5_meant) 2 = .ok (.putfield 80, 3) := by decide +kernel
theorem d5_meant_5 : decode (mk_c M5_meant) 5 = .ok (.iload_n 1, 1) := by decide +kernel
theorem d5_meant_6 : decode (mk_c M5_meant) 6 = .ok (.invokestatic 228, 3) := by decide +kernel
theorem d5_meant_9 : decode (mk_c M5_meant) 9 = .ok (.ifCond .eq 10, 3) := by decide +kernel
theorem d5_meant_12 : decode (mk_c M5_meant) 12 = .ok (.iload_n 2, 1) := by decide +kernel
theorem d5_meant_13 : decode (mk_c M5_meant) 13 = .ok (.invokestatic 228, 3) := by decide +kernel
theorem d5_meant_16 : decode (mk_c M5_meant) 16 = .ok (.ifCond .ne 9, 3) := by decide +kernel
theorem d5_meant_19 : decode (mk_c M5_meant) 19 = .ok (.aload_n 0, 1) := by decide +kernel
theorem d5_meant_20 : decode (mk_c M5_meant) 20 = .ok (.iconst 2, 1) := by decide +kernel
theorem d5_meant_21 : decode (mk_c M5_meant) 21 = .ok (.invokevirtual 105, 3) := by decide +kernel
theorem d5_meant_24 : decode (mk_c M5_meant) 24 = .ok (.ireturn, 1) := by decide +kernel
theorem d5_meant_25 : decode (mk_c M5_meant) 25 = .ok (.aload_n 0, 1) := by decide +kernel
theorem d5_meant_26 : decode (mk_c M5_meant) 26 = .ok (.getfield 20, 3) := by decide +kernel
theorem d5_meant_29 : decode (mk_c M5_meant) 29 = .ok (.iload_n 1, 1) := by decide +kernel
theorem d5_meant_30 : decode (mk_c M5_meant) 30 = .ok (.iload_n 3, 1) := by decide +kernel
theorem d5_meant_31 : decode (mk_c M5_meant) 31 = .ok (.ifCond .eq 16, 3) := by decide +kernel
theorem d5_meant_34 : decode (mk_c M5_meant) 34 = .ok (.aload_n 0, 1) := by decide +kernel
theorem d5_meant_35 : decode (mk_c M5_meant) 35 = .ok (.getfield 20, 3) := by decide +kernel
theorem d5_meant_38 : decode (mk_c M5_meant) 38 = .ok (.iload_n 1, 1) := by decide +kernel
theorem d5_meant_39 : decode (mk_c M5_meant) 39 = .ok (.iaload, 1) := by decide +kernel
theorem d5_meant_40 : decode (mk_c M5_meant) 40 = .ok (.iconst 1, 1) := by decide +kernel
theorem d5_meant_41 : decode (mk_c M5_meant) 41 = .ok (.iload_n 2, 1) := by decide +kernel
theorem d5_meant_42 : decode (mk_c M5_meant) 42 = .ok (.ishl, 1) := by decide +kernel
theorem d5_meant_43 : decode (mk_c M5_meant) 43 = .ok (.ior, 1) := by decide +kernel
theorem d5_meant_44 : decode (mk_c M5_meant) 44 = .ok (.goto 15, 3) := by decide +kernel
theorem d5_meant_47 : decode (mk_c M5_meant) 47 = .ok (.aload_n 0, 1) := by decide +kernel
theorem d5_meant_48 : decode (mk_c M5_meant) 48 = .ok (.getfield 20, 3) := by decide +kernel
theorem d5_meant_51 : decode (mk_c M5_meant) 51 = .ok (.iload_n 1, 1) := by decide +kernel
theorem d5_meant_52 : decode (mk_c M5_meant) 52 = .ok (.iaload, 1) := by decide +kernel
theorem d5_meant_53 : decode (mk_c M5_meant) 53 = .ok (.iconst 1, 1) := by decide +kernel
theorem d5_meant_54 : decode (mk_c M5_meant) 54 = .ok (.iload_n 2, 1) := by decide +kernel
theorem d5_meant_55 : decode (mk_c M5_meant) 55 = .ok (.ishl, 1) := by decide +kernel
theorem d5_meant_56 : decode (mk_c M5_meant) 56 = .ok (.iconst (-1), 1) := by decide +kernel
theorem d5_meant_57 : decode (mk_c M5_meant) 57 = .ok (.ixor, 1) := by decide +kernel
theorem d5_meant_58 : decode (mk_c M5_meant) 58 = .ok (.iand, 1) := by decide +kernel
theorem d5_meant_59 : decode (mk_c M5_meant) 59 = .ok (.iastore, 1) := by decide +kernel
theorem d5_meant_60 : decode (mk_c M5_meant) 60 = .ok (.aload_n 0, 1) := by decide +kernel
theorem d5_meant_61 : decode (mk_c M5_meant) 61 = .ok (.invokevirtual 108, 3) := by decide +kernel
theorem d5_meant_64 : decode (mk_c M5_meant) 64 = .ok (.ireturn, 1) := by decide +kernel
theorem d5_isRight_0 : decode (mk_c M5_isRight) 0 = .ok (.iload_n 0, 1) := by decide +kernel
theorem d5_isRight_1 : decode (mk_c M5_isRight) 1 = .ok (.ifCond .lt 13, 3) := by decide +kernel
theorem d5_isRight_4 : decode (mk_c M5_isRight) 4 = .ok (.iload_n 0, 1) := by decide +kernel
theorem d5_isRight_5 : decode (mk_c M5_isRight) 5 = .ok (.bipush 16, 2) := by decide +kernel
theorem d5_isRight_7 : decode (mk_c M5_isRight) 7 = .ok (.if_icmp .ge 7, 3) := by decide +kernel
theorem d5_isRight_10 : decode (mk_c M5_isRight) 10 = .ok (.iconst 1, 1) := by decide +kernel
theorem d5_isRight_11 : decode (mk_c M5_isRight) 11 = .ok (.goto 4, 3) := by decide +kernel
theorem d5_isRight_14 : decode (mk_c M5_isRight) 14 = .ok (.iconst 0, 1) := by decide +kernel
theorem d5_isRight_15 : decode (mk_c M5_isRight) 15 = .ok (.ireturn, 1) := by decide +kernel
theorem d5_holds_0 : decode (mk_c M5_holds) 0 = .ok (.aload_n 0, 1) := by decide +kernel
theorem d5_holds_1 : decode (mk_c M5_holds) 1 = .ok (.iconst 0, 1) := by decide +kernel
theorem d5_holds_2 : decode (mk_c M5_holds) 2 = .ok (.putfield 80, 3) := by decide +kernel
theorem d5_holds_5 : decode (mk_c M5_holds) 5 = .ok (.aload_n 0, 1) := by decide +kernel
theorem d5_holds_6 : decode (mk_c M5_holds) 6 = .ok (.iload_n 1, 1) := by decide +kernel
theorem d5_holds_7 : decode (mk_c M5_holds) 7 = .ok (.invokevirtual 101, 3) := by decide +kernel
theorem d5_holds_10 : decode (mk_c M5_holds) 10 = .ok (.ifCond .eq 13, 3) := by decide +kernel
theorem d5_holds_13 : decode (mk_c M5_holds) 13 = .ok (.iload_n 2, 1) := by decide +kernel
theorem d5_holds_14 : decode (mk_c M5_holds) 14 = .ok (.iconst 0, 1) := by decide +kernel
theorem d5_holds_15 : decode (mk_c M5_holds) 15 = .ok (.bipush 7, 2) := by decide +kernel
theorem d5_holds_17 : decode (mk_c M5_holds) 17 = .ok (.invokestatic 90, 3) := by decide +kernel
theorem d5_holds_20 : decode (mk_c M5_holds) 20 = .ok (.ifCond .ne 5, 3) := by decide +kernel
theorem d5_holds_23 : decode (mk_c M5_holds) 23 = .ok (.iconst (-1), 1) := by decide +kernel
theorem d5_holds_24 : decode (mk_c M5_holds) 24 = .ok (.ireturn, 1) := by decide +kernel
theorem d5_holds_25 : decode (mk_c M5_holds) 25 = .ok (.aload_n 0, 1) := by decide +kernel
theorem d5_holds_26 : decode (mk_c M5_holds) 26 = .ok (.invokevirtual 241, 3) := by decide +kernel
theorem d5_holds_29 : decode (mk_c M5_holds) 29 = .ok (.aload_n 0, 1) := by decide +kernel
theorem d5_holds_30 : decode (mk_c M5_holds) 30 = .ok (.getfield 49, 3) := by decide +kernel
theorem d5_holds_33 : decode (mk_c M5_holds) 33 = .ok (.bipush 8, 2) := by decide +kernel
theorem d5_holds_35 : decode (mk_c M5_holds) 35 = .ok (.iload_n 1, 1) := by decide +kernel
theorem d5_holds_36 : decode (mk_c M5_holds) 36 = .ok (.imul, 1) := by decide +kernel
theorem d5_holds_37 : decode (mk_c M5_holds) 37 = .ok (.iload_n 2, 1) := by decide +kernel
theorem d5_holds_38 : decode (mk_c M5_holds) 38 = .ok (.iadd, 1) := by decide +kernel
theorem d5_holds_39 : decode (mk_c M5_holds) 39 = .ok (.iaload, 1) := by decide +kernel
theorem d5_holds_40 : decode (mk_c M5_holds) 40 = .ok (.ireturn, 1) := by decide +kernel
theorem d5_works_0 : decode (mk_c M5_works) 0 = .ok (.aload_n 0, 1) := by decide +kernel
theorem d5_works_1 : decode (mk_c M5_works) 1 = .ok (.invokevirtual 231, 3) := by decide +kernel
theorem d5_works_4 : decode (mk_c M5_works) 4 = .ok (.iconst 0, 1) := by decide +kernel
theorem d5_works_5 : decode (mk_c M5_works) 5 = .ok (.istore_n 1, 1) := by decide +kernel
theorem d5_works_6 : decode (mk_c M5_works) 6 = .ok (.iload_n 1, 1) := by decide +kernel
theorem d5_works_7 : decode (mk_c M5_works) 7 = .ok (.bipush 80, 2) := by decide +kernel
theorem d5_works_9 : decode (mk_c M5_works) 9 = .ok (.if_icmp .ge 23, 3) := by decide +kernel
theorem d5_works_12 : decode (mk_c M5_works) 12 = .ok (.aload_n 0, 1) := by decide +kernel
theorem d5_works_13 : decode (mk_c M5_works) 13 = .ok (.getfield 49, 3) := by decide +kernel
theorem d5_works_16 : decode (mk_c M5_works) 16 = .ok (.iload_n 1, 1) := by decide +kernel
theorem d5_works_17 : decode (mk_c M5_works) 17 = .ok (.iconst 0, 1) := by decide +kernel
theorem d5_works_18 : decode (mk_c M5_works) 18 = .ok (.iastore, 1) := by decide +kernel
theorem d5_works_19 : decode (mk_c M5_works) 19 = .ok (.aload_n 0, 1) := by decide +kernel
theorem d5_works_20 : decode (mk_c M5_works) 20 = .ok (.getfield 52, 3) := by decide +kernel
theorem d5_works_23 : decode (mk_c M5_works) 23 = .ok (.iload_n 1, 1) := by decide +kernel
theorem d5_works_24 : decode (mk_c M5_works) 24 = .ok (.iconst 0, 1) := by decide +kernel
theorem d5_works_25 : decode (mk_c M5_works) 25 = .ok (.iastore, 1) := by decide +kernel
theorem d5_works_26 : decode (mk_c M5_works) 26 = .ok (.iinc 1 1, 3) := by decide +kernel
theorem d5_works_29 : decode (mk_c M5_works) 29 = .ok (.goto (-23), 3) := by decide +kernel
theorem d5_works_32 : decode (mk_c M5_works) 32 = .ok (.iconst 0, 1) := by decide +kernel
theorem d5_works_33 : decode (mk_c M5_works) 33 = .ok (.istore_n 1, 1) := by decide +kernel
theorem d5_works_34 : decode (mk_c M5_works) 34 = .ok (.iload_n 1, 1) := by decide +kernel
theorem d5_works_35 : decode (mk_c M5_works) 35 = .ok (.bipush 10, 2) := by decide +kernel
theorem d5_works_37 : decode (mk_c M5_works) 37 = .ok (.if_icmp .ge 16, 3) := by decide +kernel
theorem d5_works_40 : decode (mk_c M5_works) 40 = .ok (.aload_n 0, 1) := by decide +kernel
theorem d5_works_41 : decode (mk_c M5_works) 41 = .ok (.getfield 55, 3) := by decide +kernel
theorem d5_works_44 : decode (mk_c M5_works) 44 = .ok (.iload_n 1, 1) := by decide +kernel
theorem d5_works_45 : decode (mk_c M5_works) 45 = .ok (.iconst 0, 1) := by decide +kernel
theorem d5_works_46 : decode (mk_c M5_works) 46 = .ok (.iastore, 1) := by decide +kernel
theorem d5_works_47 : decode (mk_c M5_works) 47 = .ok (.iinc 1 1, 3) := by decide +kernel
theorem d5_works_50 : decode (mk_c M5_works) 50 = .ok (.goto (-16), 3) := by decide +kernel
theorem d5_works_53 : decode (mk_c M5_works) 53 = .ok (.iconst 0, 1) := by decide +kernel
theorem d5_works_54 : decode (mk_c M5_works) 54 = .ok (.istore_n 1, 1) := by decide +kernel
theorem d5_works_55 : decode (mk_c M5_works) 55 = .ok (.iload_n 1, 1) := by decide +kernel
theorem d5_works_56 : decode (mk_c M5_works) 56 = .ok (.aload_n 0, 1) := by decide +kernel
theorem d5_works_57 : decode (mk_c M5_works) 57 = .ok (.getfield 86, 3) := by decide +kernel
theorem d5_works_60 : decode (mk_c M5_works) 60 = .ok (.if_icmp .ge 124, 3) := by decide +kernel
theorem d5_works_63 : decode (mk_c M5_works) 63 = .ok (.bipush 12, 2) := by decide +kernel
theorem d5_works_65 : decode (mk_c M5_works) 65 = .ok (.iload_n 1, 1) := by decide +kernel
theorem d5_works_66 : decode (mk_c M5_works) 66 = .ok (.imul, 1) := by decide +kernel
theorem d5_works_67 : decode (mk_c M5_works) 67 = .ok (.istore_n 2, 1) := by decide +kernel
theorem d5_works_68 : decode (mk_c M5_works) 68 = .ok (.iload_n 2, 1) := by decide +kernel
theorem d5_works_69 : decode (mk_c M5_works) 69 = .ok (.bipush 12, 2) := by decide +kernel
theorem d5_works_71 : decode (mk_c M5_works) 71 = .ok (.iload_n 1, 1) := by decide +kernel
theorem d5_works_72 : decode (mk_c M5_works) 72 = .ok (.imul, 1) := by decide +kernel
theorem d5_works_73 : decode (mk_c M5_works) 73 = .ok (.aload_n 0, 1) := by decide +kernel
theorem d5_works_74 : decode (mk_c M5_works) 74 = .ok (.getfield 17, 3) := by decide +kernel
theorem d5_works_77 : decode (mk_c M5_works) 77 = .ok (.iload_n 1, 1) := by decide +kernel
theorem d5_works_78 : decode (mk_c M5_works) 78 = .ok (.iaload, 1) := by decide +kernel
theorem d5_works_79 : decode (mk_c M5_works) 79 = .ok (.iadd, 1) := by decide +kernel
theorem d5_works_80 : decode (mk_c M5_works) 80 = .ok (.if_icmp .ge 98, 3) := by decide +kernel
theorem d5_works_83 : decode (mk_c M5_works) 83 = .ok (.aload_n 0, 1) := by decide +kernel
theorem d5_works_84 : decode (mk_c M5_works) 84 = .ok (.getfield 61, 3) := by decide +kernel
theorem d5_works_87 : decode (mk_c M5_works) 87 = .ok (.iload_n 1, 1) := by decide +kernel
theorem d5_works_88 : decode (mk_c M5_works) 88 = .ok (.baload, 1) := by decide +kernel
theorem d5_works_89 : decode (mk_c M5_works) 89 = .ok (.ifCond .eq 89, 3) := by decide +kernel
theorem d5_works_92 : decode (mk_c M5_works) 92 = .ok (.aload_n 0, 1) := by decide +kernel
theorem d5_works_93 : decode (mk_c M5_works) 93 = .ok (.getfield 23, 3) := by decide +kernel
theorem d5_works_96 : decode (mk_c M5_works) 96 = .ok (.iload_n 2, 1) := by decide +kernel
theorem d5_works_97 : decode (mk_c M5_works) 97 = .ok (.iaload, 1) := by decide +kernel
theorem d5_works_98 : decode (mk_c M5_works) 98 = .ok (.iconst 4, 1) := by decide +kernel
theorem d5_works_99 : decode (mk_c M5_works) 99 = .ok (.if_icmp .ne 30, 3) := by decide +kernel
theorem d5_works_102 : decode (mk_c M5_works) 102 = .ok (.aload_n 0, 1) := by decide +kernel
theorem d5_works_103 : decode (mk_c M5_works) 103 = .ok (.getfield 52, 3) := by decide +kernel
theorem d5_works_106 : decode (mk_c M5_works) 106 = .ok (.bipush 8, 2) := by decide +kernel
theorem d5_works_108 : decode (mk_c M5_works) 108 = .ok (.iload_n 1, 1) := by decide +kernel
theorem d5_works_109 : decode (mk_c M5_works) 109 = .ok (.imul, 1) := by decide +kernel
theorem d5_works_110 : decode (mk_c M5_works) 110 = .ok (.aload_n 0, 1) := by decide +kernel
theorem d5_works_111 : decode (mk_c M5_works) 111 = .ok (.getfield 29, 3) := by decide +kernel
theorem d5_works_114 : decode (mk_c M5_works) 114 = .ok (.iload_n 2, 1) := by decide +kernel
theorem d5_works_115 : decode (mk_c M5_works) 115 = .ok (.iaload, 1) := by decide +kernel
theorem d5_works_116 : decode (mk_c M5_works) 116 = .ok (.iadd, 1) := by decide +kernel
theorem d5_works_117 : decode (mk_c M5_works) 117 = .ok (.dup2, 1) := by decide +kernel
theorem d5_works_118 : decode (mk_c M5_works) 118 = .ok (.iaload, 1) := by decide +kernel
theorem d5_works_119 : decode (mk_c M5_works) 119 = .ok (.iconst 1, 1) := by decide +kernel
theorem d5_works_120 : decode (mk_c M5_works) 120 = .ok (.aload_n 0, 1) := by decide +kernel
theorem d5_works_121 : decode (mk_c M5_works) 121 = .ok (.getfield 26, 3) := by decide +kernel
theorem d5_works_124 : decode (mk_c M5_works) 124 = .ok (.iload_n 2, 1) := by decide +kernel
theorem d5_works_125 : decode (mk_c M5_works) 125 = .ok (.iaload, 1) := by decide +kernel
theorem d5_works_126 : decode (mk_c M5_works) 126 = .ok (.ishl, 1) := by decide +kernel
theorem d5_works_127 : decode (mk_c M5_works) 127 = .ok (.ior, 1) := by decide +kernel
theorem d5_works_128 : decode (mk_c M5_works) 128 = .ok (.iastore, 1) := by decide +kernel
theorem d5_works_129 : decode (mk_c M5_works) 129 = .ok (.aload_n 0, 1) := by decide +kernel
theorem d5_works_130 : decode (mk_c M5_works) 130 = .ok (.getfield 23, 3) := by decide +kernel
theorem d5_works_133 : decode (mk_c M5_works) 133 = .ok (.iload_n 2, 1) := by decide +kernel
theorem d5_works_134 : decode (mk_c M5_works) 134 = .ok (.iaload, 1) := by decide +kernel
theorem d5_works_135 : decode (mk_c M5_works) 135 = .ok (.ifCond .ne 37, 3) := by decide +kernel
theorem d5_works_138 : decode (mk_c M5_works) 138 = .ok (.aload_n 0, 1) := by decide +kernel
theorem d5_works_139 : decode (mk_c M5_works) 139 = .ok (.getfield 49, 3) := by decide +kernel
theorem d5_works_142 : decode (mk_c M5_works) 142 = .ok (.bipush 8, 2) := by decide +kernel
theorem d5_works_144 : decode (mk_c M5_works) 144 = .ok (.iload_n 1, 1) := by decide +kernel
theorem d5_works_145 : decode (mk_c M5_works) 145 = .ok (.imul, 1) := by decide +kernel
theorem d5_works_146 : decode (mk_c M5_works) 146 = .ok (.aload_n 0, 1) := by decide +kernel
theorem d5_works_147 : decode (mk_c M5_works) 147 = .ok (.getfield 29, 3) := by decide +kernel
theorem d5_works_150 : decode (mk_c M5_works) 150 = .ok (.iload_n 2, 1) := by decide +kernel
theorem d5_works_151 : decode (mk_c M5_works) 151 = .ok (.iaload, 1) := by decide +kernel
theorem d5_works_152 : decode (mk_c M5_works) 152 = .ok (.iadd, 1) := by decide +kernel
theorem d5_works_153 : decode (mk_c M5_works) 153 = .ok (.dup2, 1) := by decide +kernel
theorem d5_works_154 : decode (mk_c M5_works) 154 = .ok (.iaload, 1) := by decide +kernel
theorem d5_works_155 : decode (mk_c M5_works) 155 = .ok (.aload_n 0, 1) := by decide +kernel
theorem d5_works_156 : decode (mk_c M5_works) 156 = .ok (.getfield 13, 3) := by decide +kernel
theorem d5_works_159 : decode (mk_c M5_works) 159 = .ok (.iload_n 1, 1) := by decide +kernel
theorem d5_works_160 : decode (mk_c M5_works) 160 = .ok (.iaload, 1) := by decide +kernel
theorem d5_works_161 : decode (mk_c M5_works) 161 = .ok (.iconst 1, 1) := by decide +kernel
theorem d5_works_162 : decode (mk_c M5_works) 162 = .ok (.aload_n 0, 1) := by decide +kernel
theorem d5_works_163 : decode (mk_c M5_works) 163 = .ok (.getfield 26, 3) := by decide +kernel
theorem d5_works_166 : decode (mk_c M5_works) 166 = .ok (.iload_n 2, 1) := by decide +kernel
theorem d5_works_167 : decode (mk_c M5_works) 167 = .ok (.iaload, 1) := by decide +kernel
theorem d5_works_168 : decode (mk_c M5_works) 168 = .ok (.ishl, 1) := by decide +kernel
theorem d5_works_169 : decode (mk_c M5_works) 169 = .ok (.iand, 1) := by decide +kernel
theorem d5_works_170 : decode (mk_c M5_works) 170 = .ok (.ior, 1) := by decide +kernel
theorem d5_works_171 : decode (mk_c M5_works) 171 = .ok (.iastore, 1) := by decide +kernel
theorem d5_works_172 : decode (mk_c M5_works) 172 = .ok (.iinc 2 1, 3) := by decide +kernel
theorem d5_works_175 : decode (mk_c M5_works) 175 = .ok (.goto (-107), 3) := by decide +kernel
theorem d5_works_178 : decode (mk_c M5_works) 178 = .ok (.iinc 1 1, 3) := by decide +kernel
theorem d5_works_181 : decode (mk_c M5_works) 181 = .ok (.goto (-126), 3) := by decide +kernel
theorem d5_works_184 : decode (mk_c M5_works) 184 = .ok (.iconst 1, 1) := by decide +kernel
theorem d5_works_185 : decode (mk_c M5_works) 185 = .ok (.istore_n 1, 1) := by decide +kernel
theorem d5_works_186 : decode (mk_c M5_works) 186 = .ok (.iload_n 1, 1) := by decide +kernel
theorem d5_works_187 : decode (mk_c M5_works) 187 = .ok (.ifCond .eq 82, 3) := by decide +kernel
theorem d5_works_190 : decode (mk_c M5_works) 190 = .ok (.iconst 0, 1) := by decide +kernel
theorem d5_works_191 : decode (mk_c M5_works) 191 = .ok (.istore_n 1, 1) := by decide +kernel
theorem d5_works_192 : decode (mk_c M5_works) 192 = .ok (.iconst 0, 1) := by decide +kernel
theorem d5_works_193 : decode (mk_c M5_works) 193 = .ok (.istore_n 2, 1) := by decide +kernel
theorem d5_works_194 : decode (mk_c M5_works) 194 = .ok (.iload_n 2, 1) := by decide +kernel
theorem d5_works_195 : decode (mk_c M5_works) 195 = .ok (.aload_n 0, 1) := by decide +kernel
theorem d5_works_196 : decode (mk_c M5_works) 196 = .ok (.getfield 86, 3) := by decide +kernel
theorem d5_works_199 : decode (mk_c M5_works) 199 = .ok (.if_icmp .ge 67, 3) := by decide +kernel
theorem d5_works_202 : decode (mk_c M5_works) 202 = .ok (.bipush 12, 2) := by decide +kernel
theorem d5_works_204 : decode (mk_c M5_works) 204 = .ok (.iload_n 2, 1) := by decide +kernel
theorem d5_works_205 : decode (mk_c M5_works) 205 = .ok (.imul, 1) := by decide +kernel
theorem d5_works_206 : decode (mk_c M5_works) 206 = .ok (.istore_n 3, 1) := by decide +kernel
theorem d5_works_207 : decode (mk_c M5_works) 207 = .ok (.iload_n 3, 1) := by decide +kernel
theorem d5_works_208 : decode (mk_c M5_works) 208 = .ok (.bipush 12, 2) := by decide +kernel
theorem d5_works_210 : decode (mk_c M5_works) 210 = .ok (.iload_n 2, 1) := by decide +kernel
theorem d5_works_211 : decode (mk_c M5_works) 211 = .ok (.imul, 1) := by decide +kernel
theorem d5_works_212 : decode (mk_c M5_works) 212 = .ok (.aload_n 0, 1) := by decide +kernel
theorem d5_works_213 : decode (mk_c M5_works) 213 = .ok (.getfield 17, 3) := by decide +kernel
theorem d5_works_216 : decode (mk_c M5_works) 216 = .ok (.iload_n 2, 1) := by decide +kernel
theorem d5_works_217 : decode (mk_c M5_works) 217 = .ok (.iaload, 1) := by decide +kernel
theorem d5_works_218 : decode (mk_c M5_works) 218 = .ok (.iadd, 1) := by decide +kernel
theorem d5_works_219 : decode (mk_c M5_works) 219 = .ok (.if_icmp .ge 41, 3) := by decide +kernel
theorem d5_works_222 : decode (mk_c M5_works) 222 = .ok (.aload_n 0, 1) := by decide +kernel
theorem d5_works_223 : decode (mk_c M5_works) 223 = .ok (.getfield 61, 3) := by decide +kernel
theorem d5_works_226 : decode (mk_c M5_works) 226 = .ok (.iload_n 2, 1) := by decide +kernel
theorem d5_works_227 : decode (mk_c M5_works) 227 = .ok (.baload, 1) := by decide +kernel
theorem d5_works_228 : decode (mk_c M5_works) 228 = .ok (.ifCond .eq 32, 3) := by decide +kernel
theorem d5_works_231 : decode (mk_c M5_works) 231 = .ok (.aload_n 0, 1) := by decide +kernel
theorem d5_works_232 : decode (mk_c M5_works) 232 = .ok (.iload_n 2, 1) := by decide +kernel
theorem d5_works_233 : decode (mk_c M5_works) 233 = .ok (.iload_n 3, 1) := by decide +kernel
theorem d5_works_234 : decode (mk_c M5_works) 234 = .ok (.invokevirtual 234, 3) := by decide +kernel
theorem d5_works_237 : decode (mk_c M5_works) 237 = .ok (.istore 4, 2) := by decide +kernel
theorem d5_works_239 : decode (mk_c M5_works) 239 = .ok (.iload_n 1, 1) := by decide +kernel
theorem d5_works_240 : decode (mk_c M5_works) 240 = .ok (.ifCond .ne 8, 3) := by decide +kernel
theorem d5_works_243 : decode (mk_c M5_works) 243 = .ok (.iload 4, 2) := by decide +kernel
theorem d5_works_245 : decode (mk_c M5_works) 245 = .ok (.ifCond .eq 7, 3) := by decide +kernel
theorem d5_works_248 : decode (mk_c M5_works) 248 = .ok (.iconst 1, 1) := by decide +kernel
theorem d5_works_249 : decode (mk_c M5_works) 249 = .ok (.goto 4, 3) := by decide +kernel
theorem d5_works_252 : decode (mk_c M5_works) 252 = .ok (.iconst 0, 1) := by decide +kernel
theorem d5_works_253 : decode (mk_c M5_works) 253 = .ok (.istore_n 1, 1) := by decide +kernel
theorem d5_works_254 : decode (mk_c M5_works) 254 = .ok (.iinc 3 1, 3) := by decide +kernel
theorem d5_works_257 : decode (mk_c M5_works) 257 = .ok (.goto (-50), 3) := by decide +kernel
theorem d5_works_260 : decode (mk_c M5_works) 260 = .ok (.iinc 2 1, 3) := by decide +kernel
theorem d5_works_263 : decode (mk_c M5_works) 263 = .ok (.goto (-69), 3) := by decide +kernel
theorem d5_works_266 : decode (mk_c M5_works) 266 = .ok (.goto (-80), 3) := by decide +kernel
theorem d5_works_269 : decode (mk_c M5_works) 269 = .ok (.iconst 0, 1) := by decide +kernel
theorem d5_works_270 : decode (mk_c M5_works) 270 = .ok (.istore_n 2, 1) := by decide +kernel
theorem d5_works_271 : decode (mk_c M5_works) 271 = .ok (.iload_n 2, 1) := by decide +kernel
theorem d5_works_272 : decode (mk_c M5_works) 272 = .ok (.bipush 16, 2) := by decide +kernel
theorem d5_works_274 : decode (mk_c M5_works) 274 = .ok (.if_icmp .ge 16, 3) := by decide +kernel
theorem d5_works_277 : decode (mk_c M5_works) 277 = .ok (.aload_n 0, 1) := by decide +kernel
theorem d5_works_278 : decode (mk_c M5_works) 278 = .ok (.getfield 58, 3) := by decide +kernel
theorem d5_works_281 : decode (mk_c M5_works) 281 = .ok (.iload_n 2, 1) := by decide +kernel
theorem d5_works_282 : decode (mk_c M5_works) 282 = .ok (.iconst 0, 1) := by decide +kernel
theorem d5_works_283 : decode (mk_c M5_works) 283 = .ok (.iastore, 1) := by decide +kernel
theorem d5_works_284 : decode (mk_c M5_works) 284 = .ok (.iinc 2 1, 3) := by decide +kernel
theorem d5_works_287 : decode (mk_c M5_works) 287 = .ok (.goto (-16), 3) := by decide +kernel
theorem d5_works_290 : decode (mk_c M5_works) 290 = .ok (.iconst 0, 1) := by decide +kernel
theorem d5_works_291 : decode (mk_c M5_works) 291 = .ok (.istore_n 2, 1) := by decide +kernel
theorem d5_works_292 : decode (mk_c M5_works) 292 = .ok (.iload_n 2, 1) := by decide +kernel
theorem d5_works_293 : decode (mk_c M5_works) 293 = .ok (.aload_n 0, 1) := by decide +kernel
theorem d5_works_294 : decode (mk_c M5_works) 294 = .ok (.getfield 86, 3) := by decide +kernel
theorem d5_works_297 : decode (mk_c M5_works) 297 = .ok (.if_icmp .ge 129, 3) := by decide +kernel
theorem d5_works_300 : decode (mk_c M5_works) 300 = .ok (.bipush 12, 2) := by decide +kernel
theorem d5_works_302 : decode (mk_c M5_works) 302 = .ok (.iload_n 2, 1) := by decide +kernel
theorem d5_works_303 : decode (mk_c M5_works) 303 = .ok (.imul, 1) := by decide +kernel
theorem d5_works_304 : decode (mk_c M5_works) 304 = .ok (.istore_n 3, 1) := by decide +kernel
theorem d5_works_305 : decode (mk_c M5_works) 305 = .ok (.iload_n 3, 1) := by decide +kernel
theorem d5_works_306 : decode (mk_c M5_works) 306 = .ok (.bipush 12, 2) := by decide +kernel
theorem d5_works_308 : decode (mk_c M5_works) 308 = .ok (.iload_n 2, 1) := by decide +kernel
theorem d5_works_309 : decode (mk_c M5_works) 309 = .ok (.imul, 1) := by decide +kernel
theorem d5_works_310 : decode (mk_c M5_works) 310 = .ok (.aload_n 0, 1) := by decide +kernel
theorem d5_works_311 : decode (mk_c M5_works) 311 = .ok (.getfield 17, 3) := by decide +kernel
theorem d5_works_314 : decode (mk_c M5_works) 314 = .ok (.iload_n 2, 1) := by decide +kernel
theorem d5_works_315 : decode (mk_c M5_works) 315 = .ok (.iaload, 1) := by decide +kernel
theorem d5_works_316 : decode (mk_c M5_works) 316 = .ok (.iadd, 1) := by decide +kernel
theorem d5_works_317 : decode (mk_c M5_works) 317 = .ok (.if_icmp .ge 103, 3) := by decide +kernel
theorem d5_works_320 : decode (mk_c M5_works) 320 = .ok (.aload_n 0, 1) := by decide +kernel
theorem d5_works_321 : decode (mk_c M5_works) 321 = .ok (.getfield 61, 3) := by decide +kernel
theorem d5_works_324 : decode (mk_c M5_works) 324 = .ok (.iload_n 2, 1) := by decide +kernel
theorem d5_works_325 : decode (mk_c M5_works) 325 = .ok (.baload, 1) := by decide +kernel
theorem d5_works_326 : decode (mk_c M5_works) 326 = .ok (.ifCond .eq 94, 3) := by decide +kernel
theorem d5_works_329 : decode (mk_c M5_works) 329 = .ok (.aload_n 0, 1) := by decide +kernel
theorem d5_works_330 : decode (mk_c M5_works) 330 = .ok (.getfield 23, 3) := by decide +kernel
theorem d5_works_333 : decode (mk_c M5_works) 333 = .ok (.iload_n 3, 1) := by decide +kernel
theorem d5_works_334 : decode (mk_c M5_works) 334 = .ok (.iaload, 1) := by decide +kernel
theorem d5_works_335 : decode (mk_c M5_works) 335 = .ok (.iconst 3, 1) := by decide +kernel
theorem d5_works_336 : decode (mk_c M5_works) 336 = .ok (.if_icmp .ne 78, 3) := by decide +kernel
theorem d5_works_339 : decode (mk_c M5_works) 339 = .ok (.aload_n 0, 1) := by decide +kernel
theorem d5_works_340 : decode (mk_c M5_works) 340 = .ok (.getfield 13, 3) := by decide +kernel
theorem d5_works_343 : decode (mk_c M5_works) 343 = .ok (.iload_n 2, 1) := by decide +kernel
theorem d5_works_344 : decode (mk_c M5_works) 344 = .ok (.iaload, 1) := by decide +kernel
theorem d5_works_345 : decode (mk_c M5_works) 345 = .ok (.aload_n 0, 1) := by decide +kernel
theorem d5_works_346 : decode (mk_c M5_works) 346 = .ok (.getfield 26, 3) := by decide +kernel
theorem d5_works_349 : decode (mk_c M5_works) 349 = .ok (.iload_n 3, 1) := by decide +kernel
theorem d5_works_350 : decode (mk_c M5_works) 350 = .ok (.iaload, 1) := by decide +kernel
theorem d5_works_351 : decode (mk_c M5_works) 351 = .ok (.ishr, 1) := by decide +kernel
theorem d5_works_352 : decode (mk_c M5_works) 352 = .ok (.iconst 1, 1) := by decide +kernel
theorem d5_works_353 : decode (mk_c M5_works) 353 = .ok (.iand, 1) := by decide +kernel
theorem d5_works_354 : decode (mk_c M5_works) 354 = .ok (.ifCond .ne 6, 3) := by decide +kernel
theorem d5_works_357 : decode (mk_c M5_works) 357 = .ok (.goto 57, 3) := by decide +kernel
theorem d5_works_360 : decode (mk_c M5_works) 360 = .ok (.iconst 0, 1) := by decide +kernel
theorem d5_works_361 : decode (mk_c M5_works) 361 = .ok (.istore 4, 2) := by decide +kernel
theorem d5_works_363 : decode (mk_c M5_works) 363 = .ok (.iload 4, 2) := by decide +kernel
theorem d5_works_365 : decode (mk_c M5_works) 365 = .ok (.bipush 16, 2) := by decide +kernel
theorem d5_works_367 : decode (mk_c M5_works) 367 = .ok (.if_icmp .ge 47, 3) := by decide +kernel
theorem d5_works_370 : decode (mk_c M5_works) 370 = .ok (.aload_n 0, 1) := by decide +kernel
theorem d5_works_371 : decode (mk_c M5_works) 371 = .ok (.getfield 58, 3) := by decide +kernel
theorem d5_works_374 : decode (mk_c M5_works) 374 = .ok (.iload 4, 2) := by decide +kernel
theorem d5_works_376 : decode (mk_c M5_works) 376 = .ok (.dup2, 1) := by decide +kernel
theorem d5_works_377 : decode (mk_c M5_works) 377 = .ok (.iaload, 1) := by decide +kernel
theorem d5_works_378 : decode (mk_c M5_works) 378 = .ok (.aload_n 0, 1) := by decide +kernel
theorem d5_works_379 : decode (mk_c M5_works) 379 = .ok (.getfield 49, 3) := by decide +kernel
theorem d5_works_382 : decode (mk_c M5_works) 382 = .ok (.bipush 8, 2) := by decide +kernel
theorem d5_works_384 : decode (mk_c M5_works) 384 = .ok (.iload_n 2, 1) := by decide +kernel
theorem d5_works_385 : decode (mk_c M5_works) 385 = .ok (.imul, 1) := by decide +kernel
theorem d5_works_386 : decode (mk_c M5_works) 386 = .ok (.aload_n 0, 1) := by decide +kernel
theorem d5_works_387 : decode (mk_c M5_works) 387 = .ok (.getfield 29, 3) := by decide +kernel
theorem d5_works_390 : decode (mk_c M5_works) 390 = .ok (.iload_n 3, 1) := by decide +kernel
theorem d5_works_391 : decode (mk_c M5_works) 391 = .ok (.iaload, 1) := by decide +kernel
theorem d5_works_392 : decode (mk_c M5_works) 392 = .ok (.iadd, 1) := by decide +kernel
theorem d5_works_393 : decode (mk_c M5_works) 393 = .ok (.iaload, 1) := by decide +kernel
theorem d5_works_394 : decode (mk_c M5_works) 394 = .ok (.iload 4, 2) := by decide +kernel
theorem d5_works_396 : decode (mk_c M5_works) 396 = .ok (.ishr, 1) := by decide +kernel
theorem d5_works_397 : decode (mk_c M5_works) 397 = .ok (.iconst 1, 1) := by decide +kernel
theorem d5_works_398 : decode (mk_c M5_works) 398 = .ok (.iand, 1) := by decide +kernel
theorem d5_works_399 : decode (mk_c M5_works) 399 = .ok (.aload_n 0, 1) := by decide +kernel
theorem d5_works_400 : decode (mk_c M5_works) 400 = .ok (.getfield 26, 3) := by decide +kernel
theorem d5_works_403 : decode (mk_c M5_works) 403 = .ok (.iload_n 3, 1) := by decide +kernel
theorem d5_works_404 : decode (mk_c M5_works) 404 = .ok (.iaload, 1) := by decide +kernel
theorem d5_works_405 : decode (mk_c M5_works) 405 = .ok (.ishl, 1) := by decide +kernel
theorem d5_works_406 : decode (mk_c M5_works) 406 = .ok (.ior, 1) := by decide +kernel
theorem d5_works_407 : decode (mk_c M5_works) 407 = .ok (.iastore, 1) := by decide +kernel
theorem d5_works_408 : decode (mk_c M5_works) 408 = .ok (.iinc 4 1, 3) := by decide +kernel
theorem d5_works_411 : decode (mk_c M5_works) 411 = .ok (.goto (-48), 3) := by decide +kernel
theorem d5_works_414 : decode (mk_c M5_works) 414 = .ok (.iinc 3 1, 3) := by decide +kernel
theorem d5_works_417 : decode (mk_c M5_works) 417 = .ok (.goto (-112), 3) := by decide +kernel
theorem d5_works_420 : decode (mk_c M5_works) 420 = .ok (.iinc 2 1, 3) := by decide +kernel
theorem d5_works_423 : decode (mk_c M5_works) 423 = .ok (.goto (-131), 3) := by decide +kernel
theorem d5_works_426 : decode (mk_c M5_works) 426 = .ok (.return_, 1) := by decide +kernel
theorem d5_asks_0 : decode (mk_c M5_asks) 0 = .ok (.iconst 0, 1) := by decide +kernel
theorem d5_asks_1 : decode (mk_c M5_asks) 1 = .ok (.istore_n 1, 1) := by decide +kernel
theorem d5_asks_2 : decode (mk_c M5_asks) 2 = .ok (.iload_n 1, 1) := by decide +kernel
theorem d5_asks_3 : decode (mk_c M5_asks) 3 = .ok (.bipush 10, 2) := by decide +kernel
theorem d5_asks_5 : decode (mk_c M5_asks) 5 = .ok (.if_icmp .ge 31, 3) := by decide +kernel
theorem d5_asks_8 : decode (mk_c M5_asks) 8 = .ok (.aload_n 0, 1) := by decide +kernel
theorem d5_asks_9 : decode (mk_c M5_asks) 9 = .ok (.getfield 61, 3) := by decide +kernel
theorem d5_asks_12 : decode (mk_c M5_asks) 12 = .ok (.iload_n 1, 1) := by decide +kernel
theorem d5_asks_13 : decode (mk_c M5_asks) 13 = .ok (.iload_n 1, 1) := by decide +kernel
theorem d5_asks_14 : decode (mk_c M5_asks) 14 = .ok (.ifCond .ne 14, 3) := by decide +kernel
theorem d5_asks_17 : decode (mk_c M5_asks) 17 = .ok (.aload_n 0, 1) := by decide +kernel
theorem d5_asks_18 : decode (mk_c M5_asks) 18 = .ok (.getfield 86, 3) := by decide +kernel
theorem d5_asks_21 : decode (mk_c M5_asks) 21 = .ok (.ifCond .le 7, 3) := by decide +kernel
theorem d5_asks_24 : decode (mk_c M5_asks) 24 = .ok (.iconst 1, 1) := by decide +kernel
theorem d5_asks_25 : decode (mk_c M5_asks) 25 = .ok (.goto 4, 3) := by decide +kernel
theorem d5_asks_28 : decode (mk_c M5_asks) 28 = .ok (.iconst 0, 1) := by decide +kernel
theorem d5_asks_29 : decode (mk_c M5_asks) 29 = .ok (.bastore, 1) := by decide +kernel
theorem d5_asks_30 : decode (mk_c M5_asks) 30 = .ok (.iinc 1 1, 3) := by decide +kernel
theorem d5_asks_33 : decode (mk_c M5_asks) 33 = .ok (.goto (-31), 3) := by decide +kernel
theorem d5_asks_36 : decode (mk_c M5_asks) 36 = .ok (.iconst 1, 1) := by decide +kernel
theorem d5_asks_37 : decode (mk_c M5_asks) 37 = .ok (.istore_n 1, 1) := by decide +kernel
theorem d5_asks_38 : decode (mk_c M5_asks) 38 = .ok (.iload_n 1, 1) := by decide +kernel
theorem d5_asks_39 : decode (mk_c M5_asks) 39 = .ok (.ifCond .eq 100, 3) := by decide +kernel
theorem d5_asks_42 : decode (mk_c M5_asks) 42 = .ok (.iconst 0, 1) := by decide +kernel
theorem d5_asks_43 : decode (mk_c M5_asks) 43 = .ok (.istore_n 1, 1) := by decide +kernel
theorem d5_asks_44 : decode (mk_c M5_asks) 44 = .ok (.iconst 0, 1) := by decide +kernel
theorem d5_asks_45 : decode (mk_c M5_asks) 45 = .ok (.istore_n 2, 1) := by decide +kernel
theorem d5_asks_46 : decode (mk_c M5_asks) 46 = .ok (.iload_n 2, 1) := by decide +kernel
theorem d5_asks_47 : decode (mk_c M5_asks) 47 = .ok (.aload_n 0, 1) := by decide +kernel
theorem d5_asks_48 : decode (mk_c M5_asks) 48 = .ok (.getfield 86, 3) := by decide +kernel
theorem d5_asks_51 : decode (mk_c M5_asks) 51 = .ok (.if_icmp .ge 85, 3) := by decide +kernel
theorem d5_asks_54 : decode (mk_c M5_asks) 54 = .ok (.bipush 12, 2) := by decide +kernel
theorem d5_asks_56 : decode (mk_c M5_asks) 56 = .ok (.iload_n 2, 1) := by decide +kernel
theorem d5_asks_57 : decode (mk_c M5_asks) 57 = .ok (.imul, 1) := by decide +kernel
theorem d5_asks_58 : decode (mk_c M5_asks) 58 = .ok (.istore_n 3, 1) := by decide +kernel
theorem d5_asks_59 : decode (mk_c M5_asks) 59 = .ok (.iload_n 3, 1) := by decide +kernel
theorem d5_asks_60 : decode (mk_c M5_asks) 60 = .ok (.bipush 12, 2) := by decide +kernel
theorem d5_asks_62 : decode (mk_c M5_asks) 62 = .ok (.iload_n 2, 1) := by decide +kernel
theorem d5_asks_63 : decode (mk_c M5_asks) 63 = .ok (.imul, 1) := by decide +kernel
theorem d5_asks_64 : decode (mk_c M5_asks) 64 = .ok (.aload_n 0, 1) := by decide +kernel
theorem d5_asks_65 : decode (mk_c M5_asks) 65 = .ok (.getfield 17, 3) := by decide +kernel
theorem d5_asks_68 : decode (mk_c M5_asks) 68 = .ok (.iload_n 2, 1) := by decide +kernel
theorem d5_asks_69 : decode (mk_c M5_asks) 69 = .ok (.iaload, 1) := by decide +kernel
theorem d5_asks_70 : decode (mk_c M5_asks) 70 = .ok (.iadd, 1) := by decide +kernel
theorem d5_asks_71 : decode (mk_c M5_asks) 71 = .ok (.if_icmp .ge 59, 3) := by decide +kernel
theorem d5_asks_74 : decode (mk_c M5_asks) 74 = .ok (.aload_n 0, 1) := by decide +kernel
theorem d5_asks_75 : decode (mk_c M5_asks) 75 = .ok (.getfield 61, 3) := by decide +kernel
theorem d5_asks_78 : decode (mk_c M5_asks) 78 = .ok (.iload_n 2, 1) := by decide +kernel
theorem d5_asks_79 : decode (mk_c M5_asks) 79 = .ok (.baload, 1) := by decide +kernel
theorem d5_asks_80 : decode (mk_c M5_asks) 80 = .ok (.ifCond .eq 50, 3) := by decide +kernel
theorem d5_asks_83 : decode (mk_c M5_asks) 83 = .ok (.aload_n 0, 1) := by decide +kernel
theorem d5_asks_84 : decode (mk_c M5_asks) 84 = .ok (.getfield 23, 3) := by decide +kernel
theorem d5_asks_87 : decode (mk_c M5_asks) 87 = .ok (.iload_n 3, 1) := by decide +kernel
theorem d5_asks_88 : decode (mk_c M5_asks) 88 = .ok (.iaload, 1) := by decide +kernel
theorem d5_asks_89 : decode (mk_c M5_asks) 89 = .ok (.iconst 2, 1) := by decide +kernel
theorem d5_asks_90 : decode (mk_c M5_asks) 90 = .ok (.if_icmp .ne 34, 3) := by decide +kernel
theorem d5_asks_93 : decode (mk_c M5_asks) 93 = .ok (.aload_n 0, 1) := by decide +kernel
theorem d5_asks_94 : decode (mk_c M5_asks) 94 = .ok (.getfield 61, 3) := by decide +kernel
theorem d5_asks_97 : decode (mk_c M5_asks) 97 = .ok (.aload_n 0, 1) := by decide +kernel
theorem d5_asks_98 : decode (mk_c M5_asks) 98 = .ok (.getfield 26, 3) := by decide +kernel
theorem d5_asks_101 : decode (mk_c M5_asks) 101 = .ok (.iload_n 3, 1) := by decide +kernel
theorem d5_asks_102 : decode (mk_c M5_asks) 102 = .ok (.iaload, 1) := by decide +kernel
theorem d5_asks_103 : decode (mk_c M5_asks) 103 = .ok (.baload, 1) := by decide +kernel
theorem d5_asks_104 : decode (mk_c M5_asks) 104 = .ok (.ifCond .eq 6, 3) := by decide +kernel
theorem d5_asks_107 : decode (mk_c M5_asks) 107 = .ok (.goto 17, 3) := by decide +kernel
theorem d5_asks_110 : decode (mk_c M5_asks) 110 = .ok (.aload_n 0, 1) := by decide +kernel
theorem d5_asks_111 : decode (mk_c M5_asks) 111 = .ok (.getfield 61, 3) := by decide +kernel
theorem d5_asks_114 : decode (mk_c M5_asks) 114 = .ok (.aload_n 0, 1) := by decide +kernel
theorem d5_asks_115 : decode (mk_c M5_asks) 115 = .ok (.getfield 26, 3) := by decide +kernel
theorem d5_asks_118 : decode (mk_c M5_asks) 118 = .ok (.iload_n 3, 1) := by decide +kernel
theorem d5_asks_119 : decode (mk_c M5_asks) 119 = .ok (.iaload, 1) := by decide +kernel
theorem d5_asks_120 : decode (mk_c M5_asks) 120 = .ok (.iconst 1, 1) := by decide +kernel
theorem d5_asks_121 : decode (mk_c M5_asks) 121 = .ok (.bastore, 1) := by decide +kernel
theorem d5_asks_122 : decode (mk_c M5_asks) 122 = .ok (.iconst 1, 1) := by decide +kernel
theorem d5_asks_123 : decode (mk_c M5_asks) 123 = .ok (.istore_n 1, 1) := by decide +kernel
theorem d5_asks_124 : decode (mk_c M5_asks) 124 = .ok (.iinc 3 1, 3) := by decide +kernel
theorem d5_asks_127 : decode (mk_c M5_asks) 127 = .ok (.goto (-68), 3) := by decide +kernel
theorem d5_asks_130 : decode (mk_c M5_asks) 130 = .ok (.iinc 2 1, 3) := by decide +kernel
theorem d5_asks_133 : decode (mk_c M5_asks) 133 = .ok (.goto (-87), 3) := by decide +kernel
theorem d5_asks_136 : decode (mk_c M5_asks) 136 = .ok (.goto (-98), 3) := by decide +kernel
theorem d5_asks_139 : decode (mk_c M5_asks) 139 = .ok (.return_, 1) := by decide +kernel
theorem d5_goes_0 : decode (mk_c M5_goes) 0 = .ok (.aload_n 0, 1) := by decide +kernel
theorem d5_goes_1 : decode (mk_c M5_goes) 1 = .ok (.getfield 23, 3) := by decide +kernel
theorem d5_goes_4 : decode (mk_c M5_goes) 4 = .ok (.iload_n 2, 1) := by decide +kernel
theorem d5_goes_5 : decode (mk_c M5_goes) 5 = .ok (.iaload, 1) := by decide +kernel
theorem d5_goes_6 : decode (mk_c M5_goes) 6 = .ok (.iconst 1, 1) := by decide +kernel
theorem d5_goes_7 : decode (mk_c M5_goes) 7 = .ok (.if_icmp .ne 66, 3) := by decide +kernel
theorem d5_goes_10 : decode (mk_c M5_goes) 10 = .ok (.iconst 0, 1) := by decide +kernel
theorem d5_goes_11 : decode (mk_c M5_goes) 11 = .ok (.istore_n 3, 1) := by decide +kernel
theorem d5_goes_12 : decode (mk_c M5_goes) 12 = .ok (.iconst 0, 1) := by decide +kernel
theorem d5_goes_13 : decode (mk_c M5_goes) 13 = .ok (.istore 4, 2) := by decide +kernel
theorem d5_goes_15 : decode (mk_c M5_goes) 15 = .ok (.iload 4, 2) := by decide +kernel
theorem d5_goes_17 : decode (mk_c M5_goes) 17 = .ok (.aload_n 0, 1) := by decide +kernel
theorem d5_goes_18 : decode (mk_c M5_goes) 18 = .ok (.getfield 26, 3) := by decide +kernel
theorem d5_goes_21 : decode (mk_c M5_goes) 21 = .ok (.iload_n 2, 1) := by decide +kernel
theorem d5_goes_22 : decode (mk_c M5_goes) 22 = .ok (.iaload, 1) := by decide +kernel
theorem d5_goes_23 : decode (mk_c M5_goes) 23 = .ok (.if_icmp .ge 33, 3) := by decide +kernel
theorem d5_goes_26 : decode (mk_c M5_goes) 26 = .ok (.iload_n 3, 1) := by decide +kernel
theorem d5_goes_27 : decode (mk_c M5_goes) 27 = .ok (.aload_n 0, 1) := by decide +kernel
theorem d5_goes_28 : decode (mk_c M5_goes) 28 = .ok (.getfield 49, 3) := by decide +kernel
theorem d5_goes_31 : decode (mk_c M5_goes) 31 = .ok (.bipush 8, 2) := by decide +kernel
theorem d5_goes_33 : decode (mk_c M5_goes) 33 = .ok (.iload_n 1, 1) := by decide +kernel
theorem d5_goes_34 : decode (mk_c M5_goes) 34 = .ok (.imul, 1) := by decide +kernel
theorem d5_goes_35 : decode (mk_c M5_goes) 35 = .ok (.aload_n 0, 1) := by decide +kernel
theorem d5_goes_36 : decode (mk_c M5_goes) 36 = .ok (.getfield 35, 3) := by decide +kernel
theorem d5_goes_39 : decode (mk_c M5_goes) 39 = .ok (.iconst 4, 1) := by decide +kernel
theorem d5_goes_40 : decode (mk_c M5_goes) 40 = .ok (.iload_n 2, 1) := by decide +kernel
theorem d5_goes_41 : decode (mk_c M5_goes) 41 = .ok (.imul, 1) := by decide +kernel
theorem d5_goes_42 : decode (mk_c M5_goes) 42 = .ok (.iload 4, 2) := by decide +kernel
theorem d5_goes_44 : decode (mk_c M5_goes) 44 = .ok (.iadd, 1) := by decide +kernel
theorem d5_goes_45 : decode (mk_c M5_goes) 45 = .ok (.iaload, 1) := by decide +kernel
theorem d5_goes_46 : decode (mk_c M5_goes) 46 = .ok (.iadd, 1) := by decide +kernel
theorem d5_goes_47 : decode (mk_c M5_goes) 47 = .ok (.iaload, 1) := by decide +kernel
theorem d5_goes_48 : decode (mk_c M5_goes) 48 = .ok (.ior, 1) := by decide +kernel
theorem d5_goes_49 : decode (mk_c M5_goes) 49 = .ok (.istore_n 3, 1) := by decide +kernel
theorem d5_goes_50 : decode (mk_c M5_goes) 50 = .ok (.iinc 4 1, 3) := by decide +kernel
theorem d5_goes_53 : decode (mk_c M5_goes) 53 = .ok (.goto (-38), 3) := by decide +kernel
theorem d5_goes_56 : decode (mk_c M5_goes) 56 = .ok (.aload_n 0, 1) := by decide +kernel
theorem d5_goes_57 : decode (mk_c M5_goes) 57 = .ok (.bipush 8, 2) := by decide +kernel
theorem d5_goes_59 : decode (mk_c M5_goes) 59 = .ok (.iload_n 1, 1) := by decide +kernel
theorem d5_goes_60 : decode (mk_c M5_goes) 60 = .ok (.imul, 1) := by decide +kernel
theorem d5_goes_61 : decode (mk_c M5_goes) 61 = .ok (.aload_n 0, 1) := by decide +kernel
theorem d5_goes_62 : decode (mk_c M5_goes) 62 = .ok (.getfield 29, 3) := by decide +kernel
theorem d5_goes_65 : decode (mk_c M5_goes) 65 = .ok (.iload_n 2, 1) := by decide +kernel
theorem d5_goes_66 : decode (mk_c M5_goes) 66 = .ok (.iaload, 1) := by decide +kernel
theorem d5_goes_67 : decode (mk_c M5_goes) 67 = .ok (.iadd, 1) := by decide +kernel
theorem d5_goes_68 : decode (mk_c M5_goes) 68 = .ok (.iload_n 3, 1) := by decide +kernel
theorem d5_goes_69 : decode (mk_c M5_goes) 69 = .ok (.invokevirtual 238, 3) := by decide +kernel
theorem d5_goes_72 : decode (mk_c M5_goes) 72 = .ok (.ireturn, 1) := by decide +kernel
theorem d5_goes_73 : decode (mk_c M5_goes) 73 = .ok (.aload_n 0, 1) := by decide +kernel
theorem d5_goes_74 : decode (mk_c M5_goes) 74 = .ok (.getfield 23, 3) := by decide +kernel
theorem d5_goes_77 : decode (mk_c M5_goes) 77 = .ok (.iload_n 2, 1) := by decide +kernel
theorem d5_goes_78 : decode (mk_c M5_goes) 78 = .ok (.iaload, 1) := by decide +kernel
theorem d5_goes_79 : decode (mk_c M5_goes) 79 = .ok (.iconst 2, 1) := by decide +kernel
theorem d5_goes_80 : decode (mk_c M5_goes) 80 = .ok (.if_icmp .ne 76, 3) := by decide +kernel
theorem d5_goes_83 : decode (mk_c M5_goes) 83 = .ok (.aload_n 0, 1) := by decide +kernel
theorem d5_goes_84 : decode (mk_c M5_goes) 84 = .ok (.bipush 8, 2) := by decide +kernel
theorem d5_goes_86 : decode (mk_c M5_goes) 86 = .ok (.aload_n 0, 1) := by decide +kernel
theorem d5_goes_87 : decode (mk_c M5_goes) 87 = .ok (.getfield 26, 3) := by decide +kernel
theorem d5_goes_90 : decode (mk_c M5_goes) 90 = .ok (.iload_n 2, 1) := by decide +kernel
theorem d5_goes_91 : decode (mk_c M5_goes) 91 = .ok (.iaload, 1) := by decide +kernel
theorem d5_goes_92 : decode (mk_c M5_goes) 92 = .ok (.imul, 1) := by decide +kernel
theorem d5_goes_93 : decode (mk_c M5_goes) 93 = .ok (.aload_n 0, 1) := by decide +kernel
theorem d5_goes_94 : decode (mk_c M5_goes) 94 = .ok (.getfield 49, 3) := by decide +kernel
theorem d5_goes_97 : decode (mk_c M5_goes) 97 = .ok (.bipush 8, 2) := by decide +kernel
theorem d5_goes_99 : decode (mk_c M5_goes) 99 = .ok (.iload_n 1, 1) := by decide +kernel
theorem d5_goes_100 : decode (mk_c M5_goes) 100 = .ok (.imul, 1) := by decide +kernel
theorem d5_goes_101 : decode (mk_c M5_goes) 101 = .ok (.aload_n 0, 1) := by decide +kernel
theorem d5_goes_102 : decode (mk_c M5_goes) 102 = .ok (.getfield 29, 3) := by decide +kernel
theorem d5_goes_105 : decode (mk_c M5_goes) 105 = .ok (.iload_n 2, 1) := by decide +kernel
theorem d5_goes_106 : decode (mk_c M5_goes) 106 = .ok (.iaload, 1) := by decide +kernel
theorem d5_goes_107 : decode (mk_c M5_goes) 107 = .ok (.iadd, 1) := by decide +kernel
theorem d5_goes_108 : decode (mk_c M5_goes) 108 = .ok (.iaload, 1) := by decide +kernel
theorem d5_goes_109 : decode (mk_c M5_goes) 109 = .ok (.invokevirtual 238, 3) := by decide +kernel
theorem d5_goes_112 : decode (mk_c M5_goes) 112 = .ok (.istore_n 3, 1) := by decide +kernel
theorem d5_goes_113 : decode (mk_c M5_goes) 113 = .ok (.aload_n 0, 1) := by decide +kernel
theorem d5_goes_114 : decode (mk_c M5_goes) 114 = .ok (.bipush 8, 2) := by decide +kernel
theorem d5_goes_116 : decode (mk_c M5_goes) 116 = .ok (.iload_n 1, 1) := by decide +kernel
theorem d5_goes_117 : decode (mk_c M5_goes) 117 = .ok (.imul, 1) := by decide +kernel
theorem d5_goes_118 : decode (mk_c M5_goes) 118 = .ok (.aload_n 0, 1) := by decide +kernel
theorem d5_goes_119 : decode (mk_c M5_goes) 119 = .ok (.getfield 32, 3) := by decide +kernel
theorem d5_goes_122 : decode (mk_c M5_goes) 122 = .ok (.iload_n 2, 1) := by decide +kernel
theorem d5_goes_123 : decode (mk_c M5_goes) 123 = .ok (.iaload, 1) := by decide +kernel
theorem d5_goes_124 : decode (mk_c M5_goes) 124 = .ok (.iadd, 1) := by decide +kernel
theorem d5_goes_125 : decode (mk_c M5_goes) 125 = .ok (.aload_n 0, 1) := by decide +kernel
theorem d5_goes_126 : decode (mk_c M5_goes) 126 = .ok (.getfield 55, 3) := by decide +kernel
theorem d5_goes_129 : decode (mk_c M5_goes) 129 = .ok (.aload_n 0, 1) := by decide +kernel
theorem d5_goes_130 : decode (mk_c M5_goes) 130 = .ok (.getfield 26, 3) := by decide +kernel
theorem d5_goes_133 : decode (mk_c M5_goes) 133 = .ok (.iload_n 2, 1) := by decide +kernel
theorem d5_goes_134 : decode (mk_c M5_goes) 134 = .ok (.iaload, 1) := by decide +kernel
theorem d5_goes_135 : decode (mk_c M5_goes) 135 = .ok (.iaload, 1) := by decide +kernel
theorem d5_goes_136 : decode (mk_c M5_goes) 136 = .ok (.invokevirtual 238, 3) := by decide +kernel
theorem d5_goes_139 : decode (mk_c M5_goes) 139 = .ok (.istore 4, 2) := by decide +kernel
theorem d5_goes_141 : decode (mk_c M5_goes) 141 = .ok (.iload_n 3, 1) := by decide +kernel
theorem d5_goes_142 : decode (mk_c M5_goes) 142 = .ok (.ifCond .ne 8, 3) := by decide +kernel
theorem d5_goes_145 : decode (mk_c M5_goes) 145 = .ok (.iload 4, 2) := by decide +kernel
theorem d5_goes_147 : decode (mk_c M5_goes) 147 = .ok (.ifCond .eq 7, 3) := by decide +kernel
theorem d5_goes_150 : decode (mk_c M5_goes) 150 = .ok (.iconst 1, 1) := by decide +kernel
theorem d5_goes_151 : decode (mk_c M5_goes) 151 = .ok (.goto 4, 3) := by decide +kernel
theorem d5_goes_154 : decode (mk_c M5_goes) 154 = .ok (.iconst 0, 1) := by decide +kernel
theorem d5_goes_155 : decode (mk_c M5_goes) 155 = .ok (.ireturn, 1) := by decide +kernel
theorem d5_goes_156 : decode (mk_c M5_goes) 156 = .ok (.aload_n 0, 1) := by decide +kernel
theorem d5_goes_157 : decode (mk_c M5_goes) 157 = .ok (.getfield 23, 3) := by decide +kernel
theorem d5_goes_160 : decode (mk_c M5_goes) 160 = .ok (.iload_n 2, 1) := by decide +kernel
theorem d5_goes_161 : decode (mk_c M5_goes) 161 = .ok (.iaload, 1) := by decide +kernel
theorem d5_goes_162 : decode (mk_c M5_goes) 162 = .ok (.iconst 5, 1) := by decide +kernel
theorem d5_goes_163 : decode (mk_c M5_goes) 163 = .ok (.if_icmp .eq 5, 3) := by decide +kernel
theorem d5_goes_166 : decode (mk_c M5_goes) 166 = .ok (.iconst 0, 1) := by decide +kernel
theorem d5_goes_167 : decode (mk_c M5_goes) 167 = .ok (.ireturn, 1) := by decide +kernel
theorem d5_goes_168 : decode (mk_c M5_goes) 168 = .ok (.aload_n 0, 1) := by decide +kernel
theorem d5_goes_169 : decode (mk_c M5_goes) 169 = .ok (.getfield 55, 3) := by decide +kernel
theorem d5_goes_172 : decode (mk_c M5_goes) 172 = .ok (.iload_n 1, 1) := by decide +kernel
theorem d5_goes_173 : decode (mk_c M5_goes) 173 = .ok (.iaload, 1) := by decide +kernel
theorem d5_goes_174 : decode (mk_c M5_goes) 174 = .ok (.istore_n 3, 1) := by decide +kernel
theorem d5_goes_175 : decode (mk_c M5_goes) 175 = .ok (.aload_n 0, 1) := by decide +kernel
theorem d5_goes_176 : decode (mk_c M5_goes) 176 = .ok (.getfield 55, 3) := by decide +kernel
theorem d5_goes_179 : decode (mk_c M5_goes) 179 = .ok (.iload_n 1, 1) := by decide +kernel
theorem d5_goes_180 : decode (mk_c M5_goes) 180 = .ok (.dup2, 1) := by decide +kernel
theorem d5_goes_181 : decode (mk_c M5_goes) 181 = .ok (.iaload, 1) := by decide +kernel
theorem d5_goes_182 : decode (mk_c M5_goes) 182 = .ok (.aload_n 0, 1) := by decide +kernel
theorem d5_goes_183 : decode (mk_c M5_goes) 183 = .ok (.getfield 49, 3) := by decide +kernel
theorem d5_goes_186 : decode (mk_c M5_goes) 186 = .ok (.bipush 8, 2) := by decide +kernel
theorem d5_goes_188 : decode (mk_c M5_goes) 188 = .ok (.iload_n 1, 1) := by decide +kernel
theorem d5_goes_189 : decode (mk_c M5_goes) 189 = .ok (.imul, 1) := by decide +kernel
theorem d5_goes_190 : decode (mk_c M5_goes) 190 = .ok (.aload_n 0, 1) := by decide +kernel
theorem d5_goes_191 : decode (mk_c M5_goes) 191 = .ok (.getfield 29, 3) := by decide +kernel
theorem d5_goes_194 : decode (mk_c M5_goes) 194 = .ok (.iload_n 2, 1) := by decide +kernel
theorem d5_goes_195 : decode (mk_c M5_goes) 195 = .ok (.iaload, 1) := by decide +kernel
theorem d5_goes_196 : decode (mk_c M5_goes) 196 = .ok (.iadd, 1) := by decide +kernel
theorem d5_goes_197 : decode (mk_c M5_goes) 197 = .ok (.iaload, 1) := by decide +kernel
theorem d5_goes_198 : decode (mk_c M5_goes) 198 = .ok (.ior, 1) := by decide +kernel
theorem d5_goes_199 : decode (mk_c M5_goes) 199 = .ok (.iastore, 1) := by decide +kernel
theorem d5_goes_200 : decode (mk_c M5_goes) 200 = .ok (.aload_n 0, 1) := by decide +kernel
theorem d5_goes_201 : decode (mk_c M5_goes) 201 = .ok (.getfield 55, 3) := by decide +kernel
theorem d5_goes_204 : decode (mk_c M5_goes) 204 = .ok (.iload_n 1, 1) := by decide +kernel
theorem d5_goes_205 : decode (mk_c M5_goes) 205 = .ok (.iaload, 1) := by decide +kernel
theorem d5_goes_206 : decode (mk_c M5_goes) 206 = .ok (.iload_n 3, 1) := by decide +kernel
theorem d5_goes_207 : decode (mk_c M5_goes) 207 = .ok (.if_icmp .eq 7, 3) := by decide +kernel
theorem d5_goes_210 : decode (mk_c M5_goes) 210 = .ok (.iconst 1, 1) := by decide +kernel
theorem d5_goes_211 : decode (mk_c M5_goes) 211 = .ok (.goto 4, 3) := by decide +kernel
theorem d5_goes_214 : decode (mk_c M5_goes) 214 = .ok (.iconst 0, 1) := by decide +kernel
theorem d5_goes_215 : decode (mk_c M5_goes) 215 = .ok (.ireturn, 1) := by decide +kernel
theorem d5_comes_0 : decode (mk_c M5_comes) 0 = .ok (.aload_n 0, 1) := by decide +kernel
theorem d5_comes_1 : decode (mk_c M5_comes) 1 = .ok (.getfield 49, 3) := by decide +kernel
theorem d5_comes_4 : decode (mk_c M5_comes) 4 = .ok (.iload_n 1, 1) := by decide +kernel
theorem d5_comes_5 : decode (mk_c M5_comes) 5 = .ok (.iaload, 1) := by decide +kernel
theorem d5_comes_6 : decode (mk_c M5_comes) 6 = .ok (.istore_n 3, 1) := by decide +kernel
theorem d5_comes_7 : decode (mk_c M5_comes) 7 = .ok (.aload_n 0, 1) := by decide +kernel
theorem d5_comes_8 : decode (mk_c M5_comes) 8 = .ok (.getfield 49, 3) := by decide +kernel
theorem d5_comes_11 : decode (mk_c M5_comes) 11 = .ok (.iload_n 1, 1) := by decide +kernel
theorem d5_comes_12 : decode (mk_c M5_comes) 12 = .ok (.dup2, 1) := by decide +kernel
theorem d5_comes_13 : decode (mk_c M5_comes) 13 = .ok (.iaload, 1) := by decide +kernel
theorem d5_comes_14 : decode (mk_c M5_comes) 14 = .ok (.iload_n 2, 1) := by decide +kernel
theorem d5_comes_15 : decode (mk_c M5_comes) 15 = .ok (.aload_n 0, 1) := by decide +kernel
theorem d5_comes_16 : decode (mk_c M5_comes) 16 = .ok (.getfield 52, 3) := by decide +kernel
theorem d5_comes_19 : decode (mk_c M5_comes) 19 = .ok (.iload_n 1, 1) := by decide +kernel
theorem d5_comes_20 : decode (mk_c M5_comes) 20 = .ok (.iaload, 1) := by decide +kernel
theorem d5_comes_21 : decode (mk_c M5_comes) 21 = .ok (.iconst (-1), 1) := by decide +kernel
theorem d5_comes_22 : decode (mk_c M5_comes) 22 = .ok (.ixor, 1) := by decide +kernel
theorem d5_comes_23 : decode (mk_c M5_comes) 23 = .ok (.iand, 1) := by decide +kernel
theorem d5_comes_24 : decode (mk_c M5_comes) 24 = .ok (.ior, 1) := by decide +kernel
theorem d5_comes_25 : decode (mk_c M5_comes) 25 = .ok (.iastore, 1) := by decide +kernel
theorem d5_comes_26 : decode (mk_c M5_comes) 26 = .ok (.aload_n 0, 1) := by decide +kernel
theorem d5_comes_27 : decode (mk_c M5_comes) 27 = .ok (.getfield 49, 3) := by decide +kernel
theorem d5_comes_30 : decode (mk_c M5_comes) 30 = .ok (.iload_n 1, 1) := by decide +kernel
theorem d5_comes_31 : decode (mk_c M5_comes) 31 = .ok (.iaload, 1) := by decide +kernel
theorem d5_comes_32 : decode (mk_c M5_comes) 32 = .ok (.iload_n 3, 1) := by decide +kernel
theorem d5_comes_33 : decode (mk_c M5_comes) 33 = .ok (.if_icmp .eq 7, 3) := by decide +kernel
theorem d5_comes_36 : decode (mk_c M5_comes) 36 = .ok (.iconst 1, 1) := by decide +kernel
theorem d5_comes_37 : decode (mk_c M5_comes) 37 = .ok (.goto 4, 3) := by decide +kernel
theorem d5_comes_40 : decode (mk_c M5_comes) 40 = .ok (.iconst 0, 1) := by decide +kernel
theorem d5_comes_41 : decode (mk_c M5_comes) 41 = .ok (.ireturn, 1) := by decide +kernel
theorem d5_result_0 : decode (mk_c M5_result) 0 = .ok (.aload_n 0, 1) := by decide +kernel
theorem d5_result_1 : decode (mk_c M5_result) 1 = .ok (.iconst 0, 1) := by decide +kernel
theorem d5_result_2 : decode (mk_c M5_result) 2 = .ok (.putfield 80, 3) := by decide +kernel
theorem d5_result_5 : decode (mk_c M5_result) 5 = .ok (.aload_n 0, 1) := by decide +kernel
theorem d5_result_6 : decode (mk_c M5_result) 6 = .ok (.iload_n 1, 1) := by decide +kernel
theorem d5_result_7 : decode (mk_c M5_result) 7 = .ok (.invokevirtual 101, 3) := by decide +kernel
theorem d5_result_10 : decode (mk_c M5_result) 10 = .ok (.ifCond .ne 5, 3) := by decide +kernel
theorem d5_result_13 : decode (mk_c M5_result) 13 = .ok (.iconst (-1), 1) := by decide +kernel
theorem d5_result_14 : decode (mk_c M5_result) 14 = .ok (.ireturn, 1) := by decide +kernel
theorem d5_result_15 : decode (mk_c M5_result) 15 = .ok (.aload_n 0, 1) := by decide +kernel
theorem d5_result_16 : decode (mk_c M5_result) 16 = .ok (.invokevirtual 241, 3) := by decide +kernel
theorem d5_result_19 : decode (mk_c M5_result) 19 = .ok (.aload_n 0, 1) := by decide +kernel
theorem d5_result_20 : decode (mk_c M5_result) 20 = .ok (.getfield 55, 3) := by decide +kernel
theorem d5_result_23 : decode (mk_c M5_result) 23 = .ok (.iload_n 1, 1) := by decide +kernel
theorem d5_result_24 : decode (mk_c M5_result) 24 = .ok (.iaload, 1) := by decide +kernel
theorem d5_result_25 : decode (mk_c M5_result) 25 = .ok (.ireturn, 1) := by decide +kernel
theorem d5_asked_0 : decode (mk_c M5_asked) 0 = .ok (.aload_n 0, 1) := by decide +kernel
theorem d5_asked_1 : decode (mk_c M5_asked) 1 = .ok (.iconst 0, 1) := by decide +kernel
theorem d5_asked_2 : decode (mk_c M5_asked) 2 = .ok (.putfield 80, 3) := by decide +kernel
theorem d5_asked_5 : decode (mk_c M5_asked) 5 = .ok (.aload_n 0, 1) := by decide +kernel
theorem d5_asked_6 : decode (mk_c M5_asked) 6 = .ok (.iload_n 1, 1) := by decide +kernel
theorem d5_asked_7 : decode (mk_c M5_asked) 7 = .ok (.invokevirtual 101, 3) := by decide +kernel
theorem d5_asked_10 : decode (mk_c M5_asked) 10 = .ok (.ifCond .ne 5, 3) := by decide +kernel
theorem d5_asked_13 : decode (mk_c M5_asked) 13 = .ok (.iconst (-1), 1) := by decide +kernel
theorem d5_asked_14 : decode (mk_c M5_asked) 14 = .ok (.ireturn, 1) := by decide +kernel
theorem d5_asked_15 : decode (mk_c M5_asked) 15 = .ok (.aload_n 0, 1) := by decide +kernel
theorem d5_asked_16 : decode (mk_c M5_asked) 16 = .ok (.invokevirtual 231, 3) := by decide +kernel
theorem d5_asked_19 : decode (mk_c M5_asked) 19 = .ok (.aload_n 0, 1) := by decide +kernel
theorem d5_asked_20 : decode (mk_c M5_asked) 20 = .ok (.getfield 61, 3) := by decide +kernel
theorem d5_asked_23 : decode (mk_c M5_asked) 23 = .ok (.iload_n 1, 1) := by decide +kernel
theorem d5_asked_24 : decode (mk_c M5_asked) 24 = .ok (.baload, 1) := by decide +kernel
theorem d5_asked_25 : decode (mk_c M5_asked) 25 = .ok (.ifCond .eq 7, 3) := by decide +kernel
theorem d5_asked_28 : decode (mk_c M5_asked) 28 = .ok (.iconst 1, 1) := by decide +kernel
theorem d5_asked_29 : decode (mk_c M5_asked) 29 = .ok (.goto 4, 3) := by decide +kernel
theorem d5_asked_32 : decode (mk_c M5_asked) 32 = .ok (.iconst 0, 1) := by decide +kernel
theorem d5_asked_33 : decode (mk_c M5_asked) 33 = .ok (.ireturn, 1) := by decide +kernel
theorem d5_door_0 : decode (mk_c M5_door) 0 = .ok (.aload_n 0, 1) := by decide +kernel
theorem d5_door_1 : decode (mk_c M5_door) 1 = .ok (.iconst 0, 1) := by decide +kernel
theorem d5_door_2 : decode (mk_c M5_door) 2 = .ok (.putfield 80, 3) := by decide +kernel
theorem d5_door_5 : decode (mk_c M5_door) 5 = .ok (.iload_n 1, 1) := by decide +kernel
theorem d5_door_6 : decode (mk_c M5_door) 6 = .ok (.invokestatic 228, 3) := by decide +kernel
theorem d5_door_9 : decode (mk_c M5_door) 9 = .ok (.ifCond .ne 5, 3) := by decide +kernel
theorem d5_door_12 : decode (mk_c M5_door) 12 = .ok (.iconst (-1), 1) := by decide +kernel
theorem d5_door_13 : decode (mk_c M5_door) 13 = .ok (.ireturn, 1) := by decide +kernel
theorem d5_door_14 : decode (mk_c M5_door) 14 = .ok (.aload_n 0, 1) := by decide +kernel
theorem d5_door_15 : decode (mk_c M5_door) 15 = .ok (.invokevirtual 241, 3) := by decide +kernel
theorem d5_door_18 : decode (mk_c M5_door) 18 = .ok (.iconst 0, 1) := by decide +kernel
theorem d5_door_19 : decode (mk_c M5_door) 19 = .ok (.istore_n 2, 1) := by decide +kernel
theorem d5_door_20 : decode (mk_c M5_door) 20 = .ok (.iconst 0, 1) := by decide +kernel
theorem d5_door_21 : decode (mk_c M5_door) 21 = .ok (.istore_n 3, 1) := by decide +kernel
theorem d5_door_22 : decode (mk_c M5_door) 22 = .ok (.iload_n 3, 1) := by decide +kernel
theorem d5_door_23 : decode (mk_c M5_door) 23 = .ok (.bipush 16, 2) := by decide +kernel
theorem d5_door_25 : decode (mk_c M5_door) 25 = .ok (.if_icmp .ge 24, 3) := by decide +kernel
theorem d5_door_28 : decode (mk_c M5_door) 28 = .ok (.iload_n 2, 1) := by decide +kernel
theorem d5_door_29 : decode (mk_c M5_door) 29 = .ok (.aload_n 0, 1) := by decide +kernel
theorem d5_door_30 : decode (mk_c M5_door) 30 = .ok (.getfield 58, 3) := by decide +kernel
theorem d5_door_33 : decode (mk_c M5_door) 33 = .ok (.iload_n 3, 1) := by decide +kernel
theorem d5_door_34 : decode (mk_c M5_door) 34 = .ok (.iaload, 1) := by decide +kernel
theorem d5_door_35 : decode (mk_c M5_door) 35 = .ok (.iload_n 1, 1) := by decide +kernel
theorem d5_door_36 : decode (mk_c M5_door) 36 = .ok (.ishr, 1) := by decide +kernel
theorem d5_door_37 : decode (mk_c M5_door) 37 = .ok (.iconst 1, 1) := by decide +kernel
theorem d5_door_38 : decode (mk_c M5_door) 38 = .ok (.iand, 1) := by decide +kernel
theorem d5_door_39 : decode (mk_c M5_door) 39 = .ok (.iload_n 3, 1) := by decide +kernel
theorem d5_door_40 : decode (mk_c M5_door) 40 = .ok (.ishl, 1) := by decide +kernel
theorem d5_door_41 : decode (mk_c M5_door) 41 = .ok (.ior, 1) := by decide +kernel
theorem d5_door_42 : decode (mk_c M5_door) 42 = .ok (.istore_n 2, 1) := by decide +kernel
theorem d5_door_43 : decode (mk_c M5_door) 43 = .ok (.iinc 3 1, 3) := by decide +kernel
theorem d5_door_46 : decode (mk_c M5_door) 46 = .ok (.goto (-24), 3) := by decide +kernel
theorem d5_door_49 : decode (mk_c M5_door) 49 = .ok (.iload_n 2, 1) := by decide +kernel
theorem d5_door_50 : decode (mk_c M5_door) 50 = .ok (.ireturn, 1) := by decide +kernel
theorem d5_leaks_0 : decode (mk_c M5_leaks) 0 = .ok (.aload_n 0, 1) := by decide +kernel
theorem d5_leaks_1 : decode (mk_c M5_leaks) 1 = .ok (.iconst 0, 1) := by decide +kernel
theorem d5_leaks_2 : decode (mk_c M5_leaks) 2 = .ok (.putfield 80, 3) := by decide +kernel
theorem d5_leaks_5 : decode (mk_c M5_leaks) 5 = .ok (.aload_n 0, 1) := by decide +kernel
theorem d5_leaks_6 : decode (mk_c M5_leaks) 6 = .ok (.invokevirtual 241, 3) := by decide +kernel
theorem d5_leaks_9 : decode (mk_c M5_leaks) 9 = .ok (.iconst 0, 1) := by decide +kernel
theorem d5_leaks_10 : decode (mk_c M5_leaks) 10 = .ok (.istore_n 1, 1) := by decide +kernel
theorem d5_leaks_11 : decode (mk_c M5_leaks) 11 = .ok (.iconst 0, 1) := by decide +kernel
theorem d5_leaks_12 : decode (mk_c M5_leaks) 12 = .ok (.istore_n 2, 1) := by decide +kernel
theorem d5_leaks_13 : decode (mk_c M5_leaks) 13 = .ok (.iload_n 2, 1) := by decide +kernel
theorem d5_leaks_14 : decode (mk_c M5_leaks) 14 = .ok (.bipush 16, 2) := by decide +kernel
theorem d5_leaks_16 : decode (mk_c M5_leaks) 16 = .ok (.if_icmp .ge 21, 3) := by decide +kernel
theorem d5_leaks_19 : decode (mk_c M5_leaks) 19 = .ok (.iload_n 1, 1) := by decide +kernel
theorem d5_leaks_20 : decode (mk_c M5_leaks) 20 = .ok (.aload_n 0, 1) := by decide +kernel
theorem d5_leaks_21 : decode (mk_c M5_leaks) 21 = .ok (.getfield 58, 3) := by decide +kernel
theorem d5_leaks_24 : decode (mk_c M5_leaks) 24 = .ok (.iload_n 2, 1) := by decide +kernel
theorem d5_leaks_25 : decode (mk_c M5_leaks) 25 = .ok (.iaload, 1) := by decide +kernel
theorem d5_leaks_26 : decode (mk_c M5_leaks) 26 = .ok (.invokestatic 244, 3) := by decide +kernel
theorem d5_leaks_29 : decode (mk_c M5_leaks) 29 = .ok (.iadd, 1) := by decide +kernel
theorem d5_leaks_30 : decode (mk_c M5_leaks) 30 = .ok (.istore_n 1, 1) := by decide +kernel
theorem d5_leaks_31 : decode (mk_c M5_leaks) 31 = .ok (.iinc 2 1, 3) := by decide +kernel
theorem d5_leaks_34 : decode (mk_c M5_leaks) 34 = .ok (.goto (-21), 3) := by decide +kernel
theorem d5_leaks_37 : decode (mk_c M5_leaks) 37 = .ok (.iload_n 1, 1) := by decide +kernel
theorem d5_leaks_38 : decode (mk_c M5_leaks) 38 = .ok (.ireturn, 1) := by decide +kernel
theorem d5_bits_0 : decode (mk_c M5_bits) 0 = .ok (.iconst 0, 1) := by decide +kernel
theorem d5_bits_1 : decode (mk_c M5_bits) 1 = .ok (.istore_n 1, 1) := by decide +kernel
theorem d5_bits_2 : decode (mk_c M5_bits) 2 = .ok (.iload_n 0, 1) := by decide +kernel
theorem d5_bits_3 : decode (mk_c M5_bits) 3 = .ok (.istore_n 2, 1) := by decide +kernel
theorem d5_bits_4 : decode (mk_c M5_bits) 4 = .ok (.iload_n 2, 1) := by decide +kernel
theorem d5_bits_5 : decode (mk_c M5_bits) 5 = .ok (.ifCond .eq 15, 3) := by decide +kernel
theorem d5_bits_8 : decode (mk_c M5_bits) 8 = .ok (.iinc 1 1, 3) := by decide +kernel
theorem d5_bits_11 : decode (mk_c M5_bits) 11 = .ok (.iload_n 2, 1) := by decide +kernel
theorem d5_bits_12 : decode (mk_c M5_bits) 12 = .ok (.iload_n 2, 1) := by decide +kernel
theorem d5_bits_13 : decode (mk_c M5_bits) 13 = .ok (.iconst 1, 1) := by decide +kernel
theorem d5_bits_14 : decode (mk_c M5_bits) 14 = .ok (.isub, 1) := by decide +kernel
theorem d5_bits_15 : decode (mk_c M5_bits) 15 = .ok (.iand, 1) := by decide +kernel
theorem d5_bits_16 : decode (mk_c M5_bits) 16 = .ok (.istore_n 2, 1) := by decide +kernel
theorem d5_bits_17 : decode (mk_c M5_bits) 17 = .ok (.goto (-13), 3) := by decide +kernel
theorem d5_bits_20 : decode (mk_c M5_bits) 20 = .ok (.iload_n 1, 1) := by decide +kernel
theorem d5_bits_21 : decode (mk_c M5_bits) 21 = .ok (.ireturn, 1) := by decide +kernel
theorem d5_misuse_0 : decode (mk_c M5_misuse) 0 = .ok (.aload_n 0, 1) := by decide +kernel
theorem d5_misuse_1 : decode (mk_c M5_misuse) 1 = .ok (.iconst 0, 1) := by decide +kernel
theorem d5_misuse_2 : decode (mk_c M5_misuse) 2 = .ok (.putfield 80, 3) := by decide +kernel
theorem d5_misuse_5 : decode (mk_c M5_misuse) 5 = .ok (.aload_n 0, 1) := by decide +kernel
theorem d5_misuse_6 : decode (mk_c M5_misuse) 6 = .ok (.invokevirtual 241, 3) := by decide +kernel
theorem d5_misuse_9 : decode (mk_c M5_misuse) 9 = .ok (.iconst 0, 1) := by decide +kernel
theorem d5_misuse_10 : decode (mk_c M5_misuse) 10 = .ok (.istore_n 2, 1) := by decide +kernel
theorem d5_misuse_11 : decode (mk_c M5_misuse) 11 = .ok (.iconst 0, 1) := by decide +kernel
theorem d5_misuse_12 : decode (mk_c M5_misuse) 12 = .ok (.istore_n 3, 1) := by decide +kernel
theorem d5_misuse_13 : decode (mk_c M5_misuse) 13 = .ok (.iload_n 3, 1) := by decide +kernel
theorem d5_misuse_14 : decode (mk_c M5_misuse) 14 = .ok (.bipush 16, 2) := by decide +kernel
theorem d5_misuse_16 : decode (mk_c M5_misuse) 16 = .ok (.if_icmp .ge 28, 3) := by decide +kernel
theorem d5_misuse_19 : decode (mk_c M5_misuse) 19 = .ok (.iload_n 2, 1) := by decide +kernel
theorem d5_misuse_20 : decode (mk_c M5_misuse) 20 = .ok (.aload_n 0, 1) := by decide +kernel
theorem d5_misuse_21 : decode (mk_c M5_misuse) 21 = .ok (.getfield 58, 3) := by decide +kernel
theorem d5_misuse_24 : decode (mk_c M5_misuse) 24 = .ok (.iload_n 3, 1) := by decide +kernel
theorem d5_misuse_25 : decode (mk_c M5_misuse) 25 = .ok (.iaload, 1) := by decide +kernel
theorem d5_misuse_26 : decode (mk_c M5_misuse) 26 = .ok (.aload_n 0, 1) := by decide +kernel
theorem d5_misuse_27 : decode (mk_c M5_misuse) 27 = .ok (.getfield 20, 3) := by decide +kernel
theorem d5_misuse_30 : decode (mk_c M5_misuse) 30 = .ok (.iload_n 3, 1) := by decide +kernel
theorem d5_misuse_31 : decode (mk_c M5_misuse) 31 = .ok (.iaload, 1) := by decide +kernel
theorem d5_misuse_32 : decode (mk_c M5_misuse) 32 = .ok (.iand, 1) := by decide +kernel
theorem d5_misuse_33 : decode (mk_c M5_misuse) 33 = .ok (.invokestatic 244, 3) := by decide +kernel
theorem d5_misuse_36 : decode (mk_c M5_misuse) 36 = .ok (.iadd, 1) := by decide +kernel
theorem d5_misuse_37 : decode (mk_c M5_misuse) 37 = .ok (.istore_n 2, 1) := by decide +kernel
theorem d5_misuse_38 : decode (mk_c M5_misuse) 38 = .ok (.iinc 3 1, 3) := by decide +kernel
theorem d5_misuse_41 : decode (mk_c M5_misuse) 41 = .ok (.goto (-28), 3) := by decide +kernel
theorem d5_misuse_44 : decode (mk_c M5_misuse) 44 = .ok (.iload_n 1, 1) := by decide +kernel
theorem d5_misuse_45 : decode (mk_c M5_misuse) 45 = .ok (.ifCond .eq 7, 3) := by decide +kernel
theorem d5_misuse_48 : decode (mk_c M5_misuse) 48 = .ok (.iload_n 2, 1) := by decide +kernel
theorem d5_misuse_49 : decode (mk_c M5_misuse) 49 = .ok (.goto 7, 3) := by decide +kernel
theorem d5_misuse_52 : decode (mk_c M5_misuse) 52 = .ok (.aload_n 0, 1) := by decide +kernel
theorem d5_misuse_53 : decode (mk_c M5_misuse) 53 = .ok (.invokevirtual 247, 3) := by decide +kernel
theorem d5_misuse_56 : decode (mk_c M5_misuse) 56 = .ok (.ireturn, 1) := by decide +kernel
theorem d5_misuses_0 : decode (mk_c M5_misuses) 0 = .ok (.iconst 0, 1) := by decide +kernel
theorem d5_misuses_1 : decode (mk_c M5_misuses) 1 = .ok (.istore_n 1, 1) := by decide +kernel
theorem d5_misuses_2 : decode (mk_c M5_misuses) 2 = .ok (.iconst 0, 1) := by decide +kernel
theorem d5_misuses_3 : decode (mk_c M5_misuses) 3 = .ok (.istore_n 2, 1) := by decide +kernel
theorem d5_misuses_4 : decode (mk_c M5_misuses) 4 = .ok (.iload_n 2, 1) := by decide +kernel
theorem d5_misuses_5 : decode (mk_c M5_misuses) 5 = .ok (.bipush 16, 2) := by decide +kernel
theorem d5_misuses_7 : decode (mk_c M5_misuses) 7 = .ok (.if_icmp .ge 30, 3) := by decide +kernel
theorem d5_misuses_10 : decode (mk_c M5_misuses) 10 = .ok (.iload_n 1, 1) := by decide +kernel
theorem d5_misuses_11 : decode (mk_c M5_misuses) 11 = .ok (.aload_n 0, 1) := by decide +kernel
theorem d5_misuses_12 : decode (mk_c M5_misuses) 12 = .ok (.getfield 58, 3) := by decide +kernel
theorem d5_misuses_15 : decode (mk_c M5_misuses) 15 = .ok (.iload_n 2, 1) := by decide +kernel
theorem d5_misuses_16 : decode (mk_c M5_misuses) 16 = .ok (.iaload, 1) := by decide +kernel
theorem d5_misuses_17 : decode (mk_c M5_misuses) 17 = .ok (.aload_n 0, 1) := by decide +kernel
theorem d5_misuses_18 : decode (mk_c M5_misuses) 18 = .ok (.getfield 20, 3) := by decide +kernel
theorem d5_misuses_21 : decode (mk_c M5_misuses) 21 = .ok (.iload_n 2, 1) := by decide +kernel
theorem d5_misuses_22 : decode (mk_c M5_misuses) 22 = .ok (.iaload, 1) := by decide +kernel
theorem d5_misuses_23 : decode (mk_c M5_misuses) 23 = .ok (.iconst (-1), 1) := by decide +kernel
theorem d5_misuses_24 : decode (mk_c M5_misuses) 24 = .ok (.ixor, 1) := by decide +kernel
theorem d5_misuses_25 : decode (mk_c M5_misuses) 25 = .ok (.iand, 1) := by decide +kernel
theorem d5_misuses_26 : decode (mk_c M5_misuses) 26 = .ok (.invokestatic 244, 3) := by decide +kernel
theorem d5_misuses_29 : decode (mk_c M5_misuses) 29 = .ok (.iadd, 1) := by decide +kernel
theorem d5_misuses_30 : decode (mk_c M5_misuses) 30 = .ok (.istore_n 1, 1) := by decide +kernel
theorem d5_misuses_31 : decode (mk_c M5_misuses) 31 = .ok (.iinc 2 1, 3) := by decide +kernel
theorem d5_misuses_34 : decode (mk_c M5_misuses) 34 = .ok (.goto (-30), 3) := by decide +kernel
theorem d5_misuses_37 : decode (mk_c M5_misuses) 37 = .ok (.iload_n 1, 1) := by decide +kernel
theorem d5_misuses_38 : decode (mk_c M5_misuses) 38 = .ok (.ireturn, 1) := by decide +kernel
theorem d5_wrong_0 : decode (mk_c M5_wrong) 0 = .ok (.aload_n 0, 1) := by decide +kernel
theorem d5_wrong_1 : decode (mk_c M5_wrong) 1 = .ok (.iconst 0, 1) := by decide +kernel
theorem d5_wrong_2 : decode (mk_c M5_wrong) 2 = .ok (.putfield 80, 3) := by decide +kernel
theorem d5_wrong_5 : decode (mk_c M5_wrong) 5 = .ok (.aload_n 0, 1) := by decide +kernel
theorem d5_wrong_6 : decode (mk_c M5_wrong) 6 = .ok (.invokevirtual 241, 3) := by decide +kernel
theorem d5_wrong_9 : decode (mk_c M5_wrong) 9 = .ok (.iconst 0, 1) := by decide +kernel
theorem d5_wrong_10 : decode (mk_c M5_wrong) 10 = .ok (.istore_n 2, 1) := by decide +kernel
theorem d5_wrong_11 : decode (mk_c M5_wrong) 11 = .ok (.iconst 0, 1) := by decide +kernel
theorem d5_wrong_12 : decode (mk_c M5_wrong) 12 = .ok (.istore_n 3, 1) := by decide +kernel
theorem d5_wrong_13 : decode (mk_c M5_wrong) 13 = .ok (.iload_n 3, 1) := by decide +kernel
theorem d5_wrong_14 : decode (mk_c M5_wrong) 14 = .ok (.bipush 16, 2) := by decide +kernel
theorem d5_wrong_16 : decode (mk_c M5_wrong) 16 = .ok (.if_icmp .ge 67, 3) := by decide +kernel
theorem d5_wrong_19 : decode (mk_c M5_wrong) 19 = .ok (.iconst 0, 1) := by decide +kernel
theorem d5_wrong_20 : decode (mk_c M5_wrong) 20 = .ok (.istore 4, 2) := by decide +kernel
theorem d5_wrong_22 : decode (mk_c M5_wrong) 22 = .ok (.iload 4, 2) := by decide +kernel
theorem d5_wrong_24 : decode (mk_c M5_wrong) 24 = .ok (.bipush 16, 2) := by decide +kernel
theorem d5_wrong_26 : decode (mk_c M5_wrong) 26 = .ok (.if_icmp .ge 51, 3) := by decide +kernel
theorem d5_wrong_29 : decode (mk_c M5_wrong) 29 = .ok (.aload_n 0, 1) := by decide +kernel
theorem d5_wrong_30 : decode (mk_c M5_wrong) 30 = .ok (.getfield 58, 3) := by decide +kernel
theorem d5_wrong_33 : decode (mk_c M5_wrong) 33 = .ok (.iload_n 3, 1) := by decide +kernel
theorem d5_wrong_34 : decode (mk_c M5_wrong) 34 = .ok (.iaload, 1) := by decide +kernel
theorem d5_wrong_35 : decode (mk_c M5_wrong) 35 = .ok (.aload_n 0, 1) := by decide +kernel
theorem d5_wrong_36 : decode (mk_c M5_wrong) 36 = .ok (.getfield 20, 3) := by decide +kernel
theorem d5_wrong_39 : decode (mk_c M5_wrong) 39 = .ok (.iload_n 3, 1) := by decide +kernel
theorem d5_wrong_40 : decode (mk_c M5_wrong) 40 = .ok (.iaload, 1) := by decide +kernel
theorem d5_wrong_41 : decode (mk_c M5_wrong) 41 = .ok (.iconst (-1), 1) := by decide +kernel
theorem d5_wrong_42 : decode (mk_c M5_wrong) 42 = .ok (.ixor, 1) := by decide +kernel
theorem d5_wrong_43 : decode (mk_c M5_wrong) 43 = .ok (.iand, 1) := by decide +kernel
theorem d5_wrong_44 : decode (mk_c M5_wrong) 44 = .ok (.iconst 1, 1) := by decide +kernel
theorem d5_wrong_45 : decode (mk_c M5_wrong) 45 = .ok (.iload 4, 2) := by decide +kernel
theorem d5_wrong_47 : decode (mk_c M5_wrong) 47 = .ok (.ishl, 1) := by decide +kernel
theorem d5_wrong_48 : decode (mk_c M5_wrong) 48 = .ok (.iand, 1) := by decide +kernel
theorem d5_wrong_49 : decode (mk_c M5_wrong) 49 = .ok (.ifCond .ne 6, 3) := by decide +kernel
theorem d5_wrong_52 : decode (mk_c M5_wrong) 52 = .ok (.goto 19, 3) := by decide +kernel
theorem d5_wrong_55 : decode (mk_c M5_wrong) 55 = .ok (.iload_n 2, 1) := by decide +kernel
theorem d5_wrong_56 : decode (mk_c M5_wrong) 56 = .ok (.iload_n 1, 1) := by decide +kernel
theorem d5_wrong_57 : decode (mk_c M5_wrong) 57 = .ok (.if_icmp .ne 11, 3) := by decide +kernel
theorem d5_wrong_60 : decode (mk_c M5_wrong) 60 = .ok (.bipush 100, 2) := by decide +kernel
theorem d5_wrong_62 : decode (mk_c M5_wrong) 62 = .ok (.iload_n 3, 1) := by decide +kernel
theorem d5_wrong_63 : decode (mk_c M5_wrong) 63 = .ok (.imul, 1) := by decide +kernel
theorem d5_wrong_64 : decode (mk_c M5_wrong) 64 = .ok (.iload 4, 2) := by decide +kernel
theorem d5_wrong_66 : decode (mk_c M5_wrong) 66 = .ok (.iadd, 1) := by decide +kernel
theorem d5_wrong_67 : decode (mk_c M5_wrong) 67 = .ok (.ireturn, 1) := by decide +kernel
theorem d5_wrong_68 : decode (mk_c M5_wrong) 68 = .ok (.iinc 2 1, 3) := by decide +kernel
theorem d5_wrong_71 : decode (mk_c M5_wrong) 71 = .ok (.iinc 4 1, 3) := by decide +kernel
theorem d5_wrong_74 : decode (mk_c M5_wrong) 74 = .ok (.goto (-52), 3) := by decide +kernel
theorem d5_wrong_77 : decode (mk_c M5_wrong) 77 = .ok (.iinc 3 1, 3) := by decide +kernel
theorem d5_wrong_80 : decode (mk_c M5_wrong) 80 = .ok (.goto (-67), 3) := by decide +kernel
theorem d5_wrong_83 : decode (mk_c M5_wrong) 83 = .ok (.iconst (-1), 1) := by decide +kernel
theorem d5_wrong_84 : decode (mk_c M5_wrong) 84 = .ok (.ireturn, 1) := by decide +kernel
theorem d5_way_0 : decode (mk_c M5_way) 0 = .ok (.aload_n 0, 1) := by decide +kernel
theorem d5_way_1 : decode (mk_c M5_way) 1 = .ok (.iconst 0, 1) := by decide +kernel
theorem d5_way_2 : decode (mk_c M5_way) 2 = .ok (.putfield 80, 3) := by decide +kernel
theorem d5_way_5 : decode (mk_c M5_way) 5 = .ok (.iload_n 1, 1) := by decide +kernel
theorem d5_way_6 : decode (mk_c M5_way) 6 = .ok (.invokestatic 228, 3) := by decide +kernel
theorem d5_way_9 : decode (mk_c M5_way) 9 = .ok (.ifCond .eq 10, 3) := by decide +kernel
theorem d5_way_12 : decode (mk_c M5_way) 12 = .ok (.iload_n 2, 1) := by decide +kernel
theorem d5_way_13 : decode (mk_c M5_way) 13 = .ok (.invokestatic 228, 3) := by decide +kernel
theorem d5_way_16 : decode (mk_c M5_way) 16 = .ok (.ifCond .ne 9, 3) := by decide +kernel
theorem d5_way_19 : decode (mk_c M5_way) 19 = .ok (.aload_n 0, 1) := by decide +kernel
theorem d5_way_20 : decode (mk_c M5_way) 20 = .ok (.iconst 2, 1) := by decide +kernel
theorem d5_way_21 : decode (mk_c M5_way) 21 = .ok (.invokevirtual 94, 3) := by decide +kernel
theorem d5_way_24 : decode (mk_c M5_way) 24 = .ok (.ireturn, 1) := by decide +kernel
theorem d5_way_25 : decode (mk_c M5_way) 25 = .ok (.aload_n 0, 1) := by decide +kernel
theorem d5_way_26 : decode (mk_c M5_way) 26 = .ok (.invokevirtual 241, 3) := by decide +kernel
theorem d5_way_29 : decode (mk_c M5_way) 29 = .ok (.aload_n 0, 1) := by decide +kernel
theorem d5_way_30 : decode (mk_c M5_way) 30 = .ok (.iload_n 1, 1) := by decide +kernel
theorem d5_way_31 : decode (mk_c M5_way) 31 = .ok (.iload_n 2, 1) := by decide +kernel
theorem d5_way_32 : decode (mk_c M5_way) 32 = .ok (.invokevirtual 259, 3) := by decide +kernel
theorem d5_way_35 : decode (mk_c M5_way) 35 = .ok (.ldc 254, 2) := by decide +kernel
theorem d5_way_37 : decode (mk_c M5_way) 37 = .ok (.istore_n 3, 1) := by decide +kernel
theorem d5_way_38 : decode (mk_c M5_way) 38 = .ok (.iconst (-1), 1) := by decide +kernel
theorem d5_way_39 : decode (mk_c M5_way) 39 = .ok (.istore 4, 2) := by decide +kernel
theorem d5_way_41 : decode (mk_c M5_way) 41 = .ok (.bipush (-2), 2) := by decide +kernel
theorem d5_way_43 : decode (mk_c M5_way) 43 = .ok (.istore 5, 2) := by decide +kernel
theorem d5_way_45 : decode (mk_c M5_way) 45 = .ok (.iconst 0, 1) := by decide +kernel
theorem d5_way_46 : decode (mk_c M5_way) 46 = .ok (.istore 6, 2) := by decide +kernel
theorem d5_way_48 : decode (mk_c M5_way) 48 = .ok (.iload 6, 2) := by decide +kernel
theorem d5_way_50 : decode (mk_c M5_way) 50 = .ok (.aload_n 0, 1) := by decide +kernel
theorem d5_way_51 : decode (mk_c M5_way) 51 = .ok (.getfield 86, 3) := by decide +kernel
theorem d5_way_54 : decode (mk_c M5_way) 54 = .ok (.if_icmp .ge 164, 3) := by decide +kernel
theorem d5_way_57 : decode (mk_c M5_way) 57 = .ok (.bipush 12, 2) := by decide +kernel
theorem d5_way_59 : decode (mk_c M5_way) 59 = .ok (.iload 6, 2) := by decide +kernel
theorem d5_way_61 : decode (mk_c M5_way) 61 = .ok (.imul, 1) := by decide +kernel
theorem d5_way_62 : decode (mk_c M5_way) 62 = .ok (.istore 7, 2) := by decide +kernel
theorem d5_way_64 : decode (mk_c M5_way) 64 = .ok (.iload 7, 2) := by decide +kernel
theorem d5_way_66 : decode (mk_c M5_way) 66 = .ok (.bipush 12, 2) := by decide +kernel
theorem d5_way_68 : decode (mk_c M5_way) 68 = .ok (.iload 6, 2) := by decide +kernel
theorem d5_way_70 : decode (mk_c M5_way) 70 = .ok (.imul, 1) := by decide +kernel
theorem d5_way_71 : decode (mk_c M5_way) 71 = .ok (.aload_n 0, 1) := by decide +kernel
theorem d5_way_72 : decode (mk_c M5_way) 72 = .ok (.getfield 17, 3) := by decide +kernel
theorem d5_way_75 : decode (mk_c M5_way) 75 = .ok (.iload 6, 2) := by decide +kernel
theorem d5_way_77 : decode (mk_c M5_way) 77 = .ok (.iaload, 1) := by decide +kernel
theorem d5_way_78 : decode (mk_c M5_way) 78 = .ok (.iadd, 1) := by decide +kernel
theorem d5_way_79 : decode (mk_c M5_way) 79 = .ok (.if_icmp .ge 133, 3) := by decide +kernel
theorem d5_way_82 : decode (mk_c M5_way) 82 = .ok (.aload_n 0, 1) := by decide +kernel
theorem d5_way_83 : decode (mk_c M5_way) 83 = .ok (.getfield 61, 3) := by decide +kernel
theorem d5_way_86 : decode (mk_c M5_way) 86 = .ok (.iload 6, 2) := by decide +kernel
theorem d5_way_88 : decode (mk_c M5_way) 88 = .ok (.baload, 1) := by decide +kernel
theorem d5_way_89 : decode (mk_c M5_way) 89 = .ok (.ifCond .eq 123, 3) := by decide +kernel
theorem d5_way_92 : decode (mk_c M5_way) 92 = .ok (.aload_n 0, 1) := by decide +kernel
theorem d5_way_93 : decode (mk_c M5_way) 93 = .ok (.getfield 23, 3) := by decide +kernel
theorem d5_way_96 : decode (mk_c M5_way) 96 = .ok (.iload 7, 2) := by decide +kernel
theorem d5_way_98 : decode (mk_c M5_way) 98 = .ok (.iaload, 1) := by decide +kernel
theorem d5_way_99 : decode (mk_c M5_way) 99 = .ok (.ifCond .ne 107, 3) := by decide +kernel
theorem d5_way_102 : decode (mk_c M5_way) 102 = .ok (.aload_n 0, 1) := by decide +kernel
theorem d5_way_103 : decode (mk_c M5_way) 103 = .ok (.getfield 26, 3) := by decide +kernel
theorem d5_way_106 : decode (mk_c M5_way) 106 = .ok (.iload 7, 2) := by decide +kernel
theorem d5_way_108 : decode (mk_c M5_way) 108 = .ok (.iaload, 1) := by decide +kernel
theorem d5_way_109 : decode (mk_c M5_way) 109 = .ok (.iload_n 1, 1) := by decide +kernel
theorem d5_way_110 : decode (mk_c M5_way) 110 = .ok (.if_icmp .ne 96, 3) := by decide +kernel
theorem d5_way_113 : decode (mk_c M5_way) 113 = .ok (.aload_n 0, 1) := by decide +kernel
theorem d5_way_114 : decode (mk_c M5_way) 114 = .ok (.getfield 13, 3) := by decide +kernel
theorem d5_way_117 : decode (mk_c M5_way) 117 = .ok (.iload 6, 2) := by decide +kernel
theorem d5_way_119 : decode (mk_c M5_way) 119 = .ok (.iaload, 1) := by decide +kernel
theorem d5_way_120 : decode (mk_c M5_way) 120 = .ok (.iload_n 1, 1) := by decide +kernel
theorem d5_way_121 : decode (mk_c M5_way) 121 = .ok (.ishr, 1) := by decide +kernel
theorem d5_way_122 : decode (mk_c M5_way) 122 = .ok (.iconst 1, 1) := by decide +kernel
theorem d5_way_123 : decode (mk_c M5_way) 123 = .ok (.iand, 1) := by decide +kernel
theorem d5_way_124 : decode (mk_c M5_way) 124 = .ok (.ifCond .eq 82, 3) := by decide +kernel
theorem d5_way_127 : decode (mk_c M5_way) 127 = .ok (.aload_n 0, 1) := by decide +kernel
theorem d5_way_128 : decode (mk_c M5_way) 128 = .ok (.getfield 65, 3) := by decide +kernel
theorem d5_way_131 : decode (mk_c M5_way) 131 = .ok (.bipush 8, 2) := by decide +kernel
theorem d5_way_133 : decode (mk_c M5_way) 133 = .ok (.iload 6, 2) := by decide +kernel
theorem d5_way_135 : decode (mk_c M5_way) 135 = .ok (.imul, 1) := by decide +kernel
theorem d5_way_136 : decode (mk_c M5_way) 136 = .ok (.aload_n 0, 1) := by decide +kernel
theorem d5_way_137 : decode (mk_c M5_way) 137 = .ok (.getfield 29, 3) := by decide +kernel
theorem d5_way_140 : decode (mk_c M5_way) 140 = .ok (.iload 7, 2) := by decide +kernel
theorem d5_way_142 : decode (mk_c M5_way) 142 = .ok (.iaload, 1) := by decide +kernel
theorem d5_way_143 : decode (mk_c M5_way) 143 = .ok (.iadd, 1) := by decide +kernel
theorem d5_way_144 : decode (mk_c M5_way) 144 = .ok (.iaload, 1) := by decide +kernel
theorem d5_way_145 : decode (mk_c M5_way) 145 = .ok (.iconst 1, 1) := by decide +kernel
theorem d5_way_146 : decode (mk_c M5_way) 146 = .ok (.iadd, 1) := by decide +kernel
theorem d5_way_147 : decode (mk_c M5_way) 147 = .ok (.iload_n 3, 1) := by decide +kernel
theorem d5_way_148 : decode (mk_c M5_way) 148 = .ok (.if_icmp .lt 6, 3) := by decide +kernel
theorem d5_way_151 : decode (mk_c M5_way) 151 = .ok (.goto 55, 3) := by decide +kernel
theorem d5_way_154 : decode (mk_c M5_way) 154 = .ok (.aload_n 0, 1) := by decide +kernel
theorem d5_way_155 : decode (mk_c M5_way) 155 = .ok (.getfield 65, 3) := by decide +kernel
theorem d5_way_158 : decode (mk_c M5_way) 158 = .ok (.bipush 8, 2) := by decide +kernel
theorem d5_way_160 : decode (mk_c M5_way) 160 = .ok (.iload 6, 2) := by decide +kernel
theorem d5_way_162 : decode (mk_c M5_way) 162 = .ok (.imul, 1) := by decide +kernel
theorem d5_way_163 : decode (mk_c M5_way) 163 = .ok (.aload_n 0, 1) := by decide +kernel
theorem d5_way_164 : decode (mk_c M5_way) 164 = .ok (.getfield 29, 3) := by decide +kernel
theorem d5_way_167 : decode (mk_c M5_way) 167 = .ok (.iload 7, 2) := by decide +kernel
theorem d5_way_169 : decode (mk_c M5_way) 169 = .ok (.iaload, 1) := by decide +kernel
theorem d5_way_170 : decode (mk_c M5_way) 170 = .ok (.iadd, 1) := by decide +kernel
theorem d5_way_171 : decode (mk_c M5_way) 171 = .ok (.iaload, 1) := by decide +kernel
theorem d5_way_172 : decode (mk_c M5_way) 172 = .ok (.iconst 1, 1) := by decide +kernel
theorem d5_way_173 : decode (mk_c M5_way) 173 = .ok (.iadd, 1) := by decide +kernel
theorem d5_way_174 : decode (mk_c M5_way) 174 = .ok (.istore_n 3, 1) := by decide +kernel
theorem d5_way_175 : decode (mk_c M5_way) 175 = .ok (.bipush 100, 2) := by decide +kernel
theorem d5_way_177 : decode (mk_c M5_way) 177 = .ok (.iload 6, 2) := by decide +kernel
theorem d5_way_179 : decode (mk_c M5_way) 179 = .ok (.imul, 1) := by decide +kernel
theorem d5_way_180 : decode (mk_c M5_way) 180 = .ok (.iload 7, 2) := by decide +kernel
theorem d5_way_182 : decode (mk_c M5_way) 182 = .ok (.iadd, 1) := by decide +kernel
theorem d5_way_183 : decode (mk_c M5_way) 183 = .ok (.bipush 12, 2) := by decide +kernel
theorem d5_way_185 : decode (mk_c M5_way) 185 = .ok (.iload 6, 2) := by decide +kernel
theorem d5_way_187 : decode (mk_c M5_way) 187 = .ok (.imul, 1) := by decide +kernel
theorem d5_way_188 : decode (mk_c M5_way) 188 = .ok (.isub, 1) := by decide +kernel
theorem d5_way_189 : decode (mk_c M5_way) 189 = .ok (.istore 4, 2) := by decide +kernel
theorem d5_way_191 : decode (mk_c M5_way) 191 = .ok (.bipush 8, 2) := by decide +kernel
theorem d5_way_193 : decode (mk_c M5_way) 193 = .ok (.iload 6, 2) := by decide +kernel
theorem d5_way_195 : decode (mk_c M5_way) 195 = .ok (.imul, 1) := by decide +kernel
theorem d5_way_196 : decode (mk_c M5_way) 196 = .ok (.aload_n 0, 1) := by decide +kernel
theorem d5_way_197 : decode (mk_c M5_way) 197 = .ok (.getfield 29, 3) := by decide +kernel
theorem d5_way_200 : decode (mk_c M5_way) 200 = .ok (.iload 7, 2) := by decide +kernel
theorem d5_way_202 : decode (mk_c M5_way) 202 = .ok (.iaload, 1) := by decide +kernel
theorem d5_way_203 : decode (mk_c M5_way) 203 = .ok (.iadd, 1) := by decide +kernel
theorem d5_way_204 : decode (mk_c M5_way) 204 = .ok (.istore 5, 2) := by decide +kernel
theorem d5_way_206 : decode (mk_c M5_way) 206 = .ok (.iinc 7 1, 3) := by decide +kernel
theorem d5_way_209 : decode (mk_c M5_way) 209 = .ok (.goto (-145), 3) := by decide +kernel
theorem d5_way_212 : decode (mk_c M5_way) 212 = .ok (.iinc 6 1, 3) := by decide +kernel
theorem d5_way_215 : decode (mk_c M5_way) 215 = .ok (.goto (-167), 3) := by decide +kernel
theorem d5_way_218 : decode (mk_c M5_way) 218 = .ok (.iload_n 3, 1) := by decide +kernel
theorem d5_way_219 : decode (mk_c M5_way) 219 = .ok (.ldc 254, 2) := by decide +kernel
theorem d5_way_221 : decode (mk_c M5_way) 221 = .ok (.if_icmp .lt 10, 3) := by decide +kernel
theorem d5_way_224 : decode (mk_c M5_way) 224 = .ok (.aload_n 0, 1) := by decide +kernel
theorem d5_way_225 : decode (mk_c M5_way) 225 = .ok (.bipush (-2), 2) := by decide +kernel
theorem d5_way_227 : decode (mk_c M5_way) 227 = .ok (.invokevirtual 98, 3) := by decide +kernel
theorem d5_way_230 : decode (mk_c M5_way) 230 = .ok (.ireturn, 1) := by decide +kernel
theorem d5_way_231 : decode (mk_c M5_way) 231 = .ok (.aload_n 0, 1) := by decide +kernel
theorem d5_way_232 : decode (mk_c M5_way) 232 = .ok (.iconst 0, 1) := by decide +kernel
theorem d5_way_233 : decode (mk_c M5_way) 233 = .ok (.putfield 262, 3) := by decide +kernel
theorem d5_way_236 : decode (mk_c M5_way) 236 = .ok (.aload_n 0, 1) := by decide +kernel
theorem d5_way_237 : decode (mk_c M5_way) 237 = .ok (.getfield 68, 3) := by decide +kernel
theorem d5_way_240 : decode (mk_c M5_way) 240 = .ok (.aload_n 0, 1) := by decide +kernel
theorem d5_way_241 : decode (mk_c M5_way) 241 = .ok (.getfield 262, 3) := by decide +kernel
theorem d5_way_244 : decode (mk_c M5_way) 244 = .ok (.iload 4, 2) := by decide +kernel
theorem d5_way_246 : decode (mk_c M5_way) 246 = .ok (.iastore, 1) := by decide +kernel
theorem d5_way_247 : decode (mk_c M5_way) 247 = .ok (.aload_n 0, 1) := by decide +kernel
theorem d5_way_248 : decode (mk_c M5_way) 248 = .ok (.dup, 1) := by decide +kernel
theorem d5_way_249 : decode (mk_c M5_way) 249 = .ok (.getfield 262, 3) := by decide +kernel
theorem d5_way_252 : decode (mk_c M5_way) 252 = .ok (.iconst 1, 1) := by decide +kernel
theorem d5_way_253 : decode (mk_c M5_way) 253 = .ok (.iadd, 1) := by decide +kernel
theorem d5_way_254 : decode (mk_c M5_way) 254 = .ok (.putfield 262, 3) := by decide +kernel
theorem d5_way_257 : decode (mk_c M5_way) 257 = .ok (.iload 5, 2) := by decide +kernel
theorem d5_way_259 : decode (mk_c M5_way) 259 = .ok (.bipush 90, 2) := by decide +kernel
theorem d5_way_261 : decode (mk_c M5_way) 261 = .ok (.if_icmp .eq 26, 3) := by decide +kernel
theorem d5_way_264 : decode (mk_c M5_way) 264 = .ok (.aload_n 0, 1) := by decide +kernel
theorem d5_way_265 : decode (mk_c M5_way) 265 = .ok (.iload 5, 2) := by decide +kernel
theorem d5_way_267 : decode (mk_c M5_way) 267 = .ok (.iload_n 1, 1) := by decide +kernel
theorem d5_way_268 : decode (mk_c M5_way) 268 = .ok (.iload_n 2, 1) := by decide +kernel
theorem d5_way_269 : decode (mk_c M5_way) 269 = .ok (.invokevirtual 265, 3) := by decide +kernel
theorem d5_way_272 : decode (mk_c M5_way) 272 = .ok (.istore 5, 2) := by decide +kernel
theorem d5_way_274 : decode (mk_c M5_way) 274 = .ok (.aload_n 0, 1) := by decide +kernel
theorem d5_way_275 : decode (mk_c M5_way) 275 = .ok (.dup, 1) := by decide +kernel
theorem d5_way_276 : decode (mk_c M5_way) 276 = .ok (.getfield 262, 3) := by decide +kernel
theorem d5_way_279 : decode (mk_c M5_way) 279 = .ok (.iconst 1, 1) := by decide +kernel
theorem d5_way_280 : decode (mk_c M5_way) 280 = .ok (.iadd, 1) := by decide +kernel
theorem d5_way_281 : decode (mk_c M5_way) 281 = .ok (.putfield 262, 3) := by decide +kernel
theorem d5_way_284 : decode (mk_c M5_way) 284 = .ok (.goto (-27), 3) := by decide +kernel
theorem d5_way_287 : decode (mk_c M5_way) 287 = .ok (.aload_n 0, 1) := by decide +kernel
theorem d5_way_288 : decode (mk_c M5_way) 288 = .ok (.iload_n 3, 1) := by decide +kernel
theorem d5_way_289 : decode (mk_c M5_way) 289 = .ok (.invokevirtual 98, 3) := by decide +kernel
theorem d5_way_292 : decode (mk_c M5_way) 292 = .ok (.ireturn, 1) := by decide +kernel
theorem d5_measures_0 : decode (mk_c M5_measures) 0 = .ok (.iconst 0, 1) := by decide +kernel
theorem d5_measures_1 : decode (mk_c M5_measures) 1 = .ok (.istore_n 3, 1) := by decide +kernel
theorem d5_measures_2 : decode (mk_c M5_measures) 2 = .ok (.iload_n 3, 1) := by decide +kernel
theorem d5_measures_3 : decode (mk_c M5_measures) 3 = .ok (.bipush 90, 2) := by decide +kernel
theorem d5_measures_5 : decode (mk_c M5_measures) 5 = .ok (.if_icmp .ge 17, 3) := by decide +kernel
theorem d5_measures_8 : decode (mk_c M5_measures) 8 = .ok (.aload_n 0, 1) := by decide +kernel
theorem d5_measures_9 : decode (mk_c M5_measures) 9 = .ok (.getfield 65, 3) := by decide +kernel
theorem d5_measures_12 : decode (mk_c M5_measures) 12 = .ok (.iload_n 3, 1) := by decide +kernel
theorem d5_measures_13 : decode (mk_c M5_measures) 13 = .ok (.ldc 254, 2) := by decide +kernel
theorem d5_measures_15 : decode (mk_c M5_measures) 15 = .ok (.iastore, 1) := by decide +kernel
theorem d5_measures_16 : decode (mk_c M5_measures) 16 = .ok (.iinc 3 1, 3) := by decide +kernel
theorem d5_measures_19 : decode (mk_c M5_measures) 19 = .ok (.goto (-17), 3) := by decide +kernel
theorem d5_measures_22 : decode (mk_c M5_measures) 22 = .ok (.aload_n 0, 1) := by decide +kernel
theorem d5_measures_23 : decode (mk_c M5_measures) 23 = .ok (.getfield 65, 3) := by decide +kernel
theorem d5_measures_26 : decode (mk_c M5_measures) 26 = .ok (.bipush 90, 2) := by decide +kernel
theorem d5_measures_28 : decode (mk_c M5_measures) 28 = .ok (.iconst 0, 1) := by decide +kernel
theorem d5_measures_29 : decode (mk_c M5_measures) 29 = .ok (.iastore, 1) := by decide +kernel
theorem d5_measures_30 : decode (mk_c M5_measures) 30 = .ok (.iconst 1, 1) := by decide +kernel
theorem d5_measures_31 : decode (mk_c M5_measures) 31 = .ok (.istore_n 3, 1) := by decide +kernel
theorem d5_measures_32 : decode (mk_c M5_measures) 32 = .ok (.iload_n 3, 1) := by decide +kernel
theorem d5_measures_33 : decode (mk_c M5_measures) 33 = .ok (.ifCond .eq 144, 3) := by decide +kernel
theorem d5_measures_36 : decode (mk_c M5_measures) 36 = .ok (.iconst 0, 1) := by decide +kernel
theorem d5_measures_37 : decode (mk_c M5_measures) 37 = .ok (.istore_n 3, 1) := by decide +kernel
theorem d5_measures_38 : decode (mk_c M5_measures) 38 = .ok (.iconst 0, 1) := by decide +kernel
theorem d5_measures_39 : decode (mk_c M5_measures) 39 = .ok (.istore 4, 2) := by decide +kernel
theorem d5_measures_41 : decode (mk_c M5_measures) 41 = .ok (.iload 4, 2) := by decide +kernel
theorem d5_measures_43 : decode (mk_c M5_measures) 43 = .ok (.bipush 90, 2) := by decide +kernel
theorem d5_measures_45 : decode (mk_c M5_measures) 45 = .ok (.if_icmp .ge 129, 3) := by decide +kernel
theorem d5_measures_48 : decode (mk_c M5_measures) 48 = .ok (.iconst 0, 1) := by decide +kernel
theorem d5_measures_49 : decode (mk_c M5_measures) 49 = .ok (.istore 5, 2) := by decide +kernel
theorem d5_measures_51 : decode (mk_c M5_measures) 51 = .ok (.iload 5, 2) := by decide +kernel
theorem d5_measures_53 : decode (mk_c M5_measures) 53 = .ok (.aload_n 0, 1) := by decide +kernel
theorem d5_measures_54 : decode (mk_c M5_measures) 54 = .ok (.getfield 86, 3) := by decide +kernel
theorem d5_measures_57 : decode (mk_c M5_measures) 57 = .ok (.if_icmp .ge 111, 3) := by decide +kernel
theorem d5_measures_60 : decode (mk_c M5_measures) 60 = .ok (.bipush 12, 2) := by decide +kernel
theorem d5_measures_62 : decode (mk_c M5_measures) 62 = .ok (.iload 5, 2) := by decide +kernel
theorem d5_measures_64 : decode (mk_c M5_measures) 64 = .ok (.imul, 1) := by decide +kernel
theorem d5_measures_65 : decode (mk_c M5_measures) 65 = .ok (.istore 6, 2) := by decide +kernel
theorem d5_measures_67 : decode (mk_c M5_measures) 67 = .ok (.iload 6, 2) := by decide +kernel
theorem d5_measures_69 : decode (mk_c M5_measures) 69 = .ok (.bipush 12, 2) := by decide +kernel
theorem d5_measures_71 : decode (mk_c M5_measures) 71 = .ok (.iload 5, 2) := by decide +kernel
theorem d5_measures_73 : decode (mk_c M5_measures) 73 = .ok (.imul, 1) := by decide +kernel
theorem d5_measures_74 : decode (mk_c M5_measures) 74 = .ok (.aload_n 0, 1) := by decide +kernel
theorem d5_measures_75 : decode (mk_c M5_measures) 75 = .ok (.getfield 17, 3) := by decide +kernel
theorem d5_measures_78 : decode (mk_c M5_measures) 78 = .ok (.iload 5, 2) := by decide +kernel
theorem d5_measures_80 : decode (mk_c M5_measures) 80 = .ok (.iaload, 1) := by decide +kernel
theorem d5_measures_81 : decode (mk_c M5_measures) 81 = .ok (.iadd, 1) := by decide +kernel
theorem d5_measures_82 : decode (mk_c M5_measures) 82 = .ok (.if_icmp .ge 80, 3) := by decide +kernel
theorem d5_measures_85 : decode (mk_c M5_measures) 85 = .ok (.aload_n 0, 1) := by decide +kernel
theorem d5_measures_86 : decode (mk_c M5_measures) 86 = .ok (.getfield 61, 3) := by decide +kernel
theorem d5_measures_89 : decode (mk_c M5_measures) 89 = .ok (.iload 5, 2) := by decide +kernel
theorem d5_measures_91 : decode (mk_c M5_measures) 91 = .ok (.baload, 1) := by decide +kernel
theorem d5_measures_92 : decode (mk_c M5_measures) 92 = .ok (.ifCond .eq 70, 3) := by decide +kernel
theorem d5_measures_95 : decode (mk_c M5_measures) 95 = .ok (.aload_n 0, 1) := by decide +kernel
theorem d5_measures_96 : decode (mk_c M5_measures) 96 = .ok (.iload 4, 2) := by decide +kernel
theorem d5_measures_98 : decode (mk_c M5_measures) 98 = .ok (.iload 5, 2) := by decide +kernel
theorem d5_measures_100 : decode (mk_c M5_measures) 100 = .ok (.iload 6, 2) := by decide +kernel
theorem d5_measures_102 : decode (mk_c M5_measures) 102 = .ok (.iload_n 1, 1) := by decide +kernel
theorem d5_measures_103 : decode (mk_c M5_measures) 103 = .ok (.iload_n 2, 1) := by decide +kernel
theorem d5_measures_104 : decode (mk_c M5_measures) 104 = .ok (.invokevirtual 255, 3) := by decide +kernel
theorem d5_measures_107 : decode (mk_c M5_measures) 107 = .ok (.istore 7, 2) := by decide +kernel
theorem d5_measures_109 : decode (mk_c M5_measures) 109 = .ok (.iload 7, 2) := by decide +kernel
theorem d5_measures_111 : decode (mk_c M5_measures) 111 = .ok (.bipush (-2), 2) := by decide +kernel
theorem d5_measures_113 : decode (mk_c M5_measures) 113 = .ok (.if_icmp .eq 43, 3) := by decide +kernel
theorem d5_measures_116 : decode (mk_c M5_measures) 116 = .ok (.aload_n 0, 1) := by decide +kernel
theorem d5_measures_117 : decode (mk_c M5_measures) 117 = .ok (.getfield 65, 3) := by decide +kernel
theorem d5_measures_120 : decode (mk_c M5_measures) 120 = .ok (.iload 7, 2) := by decide +kernel
theorem d5_measures_122 : decode (mk_c M5_measures) 122 = .ok (.iaload, 1) := by decide +kernel
theorem d5_measures_123 : decode (mk_c M5_measures) 123 = .ok (.iconst 1, 1) := by decide +kernel
theorem d5_measures_124 : decode (mk_c M5_measures) 124 = .ok (.iadd, 1) := by decide +kernel
theorem d5_measures_125 : decode (mk_c M5_measures) 125 = .ok (.aload_n 0, 1) := by decide +kernel
theorem d5_measures_126 : decode (mk_c M5_measures) 126 = .ok (.getfield 65, 3) := by decide +kernel
theorem d5_measures_129 : decode (mk_c M5_measures) 129 = .ok (.iload 4, 2) := by decide +kernel
theorem d5_measures_131 : decode (mk_c M5_measures) 131 = .ok (.iaload, 1) := by decide +kernel
theorem d5_measures_132 : decode (mk_c M5_measures) 132 = .ok (.if_icmp .lt 6, 3) := by decide +kernel
theorem d5_measures_135 : decode (mk_c M5_measures) 135 = .ok (.goto 21, 3) := by decide +kernel
theorem d5_measures_138 : decode (mk_c M5_measures) 138 = .ok (.aload_n 0, 1) := by decide +kernel
theorem d5_measures_139 : decode (mk_c M5_measures) 139 = .ok (.getfield 65, 3) := by decide +kernel
theorem d5_measures_142 : decode (mk_c M5_measures) 142 = .ok (.iload 4, 2) := by decide +kernel
theorem d5_measures_144 : decode (mk_c M5_measures) 144 = .ok (.aload_n 0, 1) := by decide +kernel
theorem d5_measures_145 : decode (mk_c M5_measures) 145 = .ok (.getfield 65, 3) := by decide +kernel
theorem d5_measures_148 : decode (mk_c M5_measures) 148 = .ok (.iload 7, 2) := by decide +kernel
theorem d5_measures_150 : decode (mk_c M5_measures) 150 = .ok (.iaload, 1) := by decide +kernel
theorem d5_measures_151 : decode (mk_c M5_measures) 151 = .ok (.iconst 1, 1) := by decide +kernel
theorem d5_measures_152 : decode (mk_c M5_measures) 152 = .ok (.iadd, 1) := by decide +kernel
theorem d5_measures_153 : decode (mk_c M5_measures) 153 = .ok (.iastore, 1) := by decide +kernel
theorem d5_measures_154 : decode (mk_c M5_measures) 154 = .ok (.iconst 1, 1) := by decide +kernel
theorem d5_measures_155 : decode (mk_c M5_measures) 155 = .ok (.istore_n 3, 1) := by decide +kernel
theorem d5_measures_156 : decode (mk_c M5_measures) 156 = .ok (.iinc 6 1, 3) := by decide +kernel
theorem d5_measures_159 : decode (mk_c M5_measures) 159 = .ok (.goto (-92), 3) := by decide +kernel
theorem d5_measures_162 : decode (mk_c M5_measures) 162 = .ok (.iinc 5 1, 3) := by decide +kernel
theorem d5_measures_165 : decode (mk_c M5_measures) 165 = .ok (.goto (-114), 3) := by decide +kernel
theorem d5_measures_168 : decode (mk_c M5_measures) 168 = .ok (.iinc 4 1, 3) := by decide +kernel
theorem d5_measures_171 : decode (mk_c M5_measures) 171 = .ok (.goto (-130), 3) := by decide +kernel
theorem d5_measures_174 : decode (mk_c M5_measures) 174 = .ok (.goto (-142), 3) := by decide +kernel
theorem d5_measures_177 : decode (mk_c M5_measures) 177 = .ok (.return_, 1) := by decide +kernel
theorem d5_leads_0 : decode (mk_c M5_leads) 0 = .ok (.bipush 8, 2) := by decide +kernel
theorem d5_leads_2 : decode (mk_c M5_leads) 2 = .ok (.iload_n 2, 1) := by decide +kernel
theorem d5_leads_3 : decode (mk_c M5_leads) 3 = .ok (.imul, 1) := by decide +kernel
theorem d5_leads_4 : decode (mk_c M5_leads) 4 = .ok (.istore 6, 2) := by decide +kernel
theorem d5_leads_6 : decode (mk_c M5_leads) 6 = .ok (.aload_n 0, 1) := by decide +kernel
theorem d5_leads_7 : decode (mk_c M5_leads) 7 = .ok (.getfield 23, 3) := by decide +kernel
theorem d5_leads_10 : decode (mk_c M5_leads) 10 = .ok (.iload_n 3, 1) := by decide +kernel
theorem d5_leads_11 : decode (mk_c M5_leads) 11 = .ok (.iaload, 1) := by decide +kernel
theorem d5_leads_12 : decode (mk_c M5_leads) 12 = .ok (.tableswitch 248 1 5 #[36, 115, 178, 248, 225], 36) := by decide +kernel
theorem d5_leads_48 : decode (mk_c M5_leads) 48 = .ok (.iconst 0, 1) := by decide +kernel
theorem d5_leads_49 : decode (mk_c M5_leads) 49 = .ok (.istore 7, 2) := by decide +kernel
theorem d5_leads_51 : decode (mk_c M5_leads) 51 = .ok (.iconst 0, 1) := by decide +kernel
theorem d5_leads_52 : decode (mk_c M5_leads) 52 = .ok (.istore 8, 2) := by decide +kernel
theorem d5_leads_54 : decode (mk_c M5_leads) 54 = .ok (.iload 8, 2) := by decide +kernel
theorem d5_leads_56 : decode (mk_c M5_leads) 56 = .ok (.aload_n 0, 1) := by decide +kernel
theorem d5_leads_57 : decode (mk_c M5_leads) 57 = .ok (.getfield 26, 3) := by decide +kernel
theorem d5_leads_60 : decode (mk_c M5_leads) 60 = .ok (.iload_n 3, 1) := by decide +kernel
theorem d5_leads_61 : decode (mk_c M5_leads) 61 = .ok (.iaload, 1) := by decide +kernel
theorem d5_leads_62 : decode (mk_c M5_leads) 62 = .ok (.if_icmp .ge 39, 3) := by decide +kernel
theorem d5_leads_65 : decode (mk_c M5_leads) 65 = .ok (.iload 7, 2) := by decide +kernel
theorem d5_leads_67 : decode (mk_c M5_leads) 67 = .ok (.ifCond .ne 21, 3) := by decide +kernel
theorem d5_leads_70 : decode (mk_c M5_leads) 70 = .ok (.iload_n 1, 1) := by decide +kernel
theorem d5_leads_71 : decode (mk_c M5_leads) 71 = .ok (.iload 6, 2) := by decide +kernel
theorem d5_leads_73 : decode (mk_c M5_leads) 73 = .ok (.aload_n 0, 1) := by decide +kernel
theorem d5_leads_74 : decode (mk_c M5_leads) 74 = .ok (.getfield 35, 3) := by decide +kernel
theorem d5_leads_77 : decode (mk_c M5_leads) 77 = .ok (.iconst 4, 1) := by decide +kernel
theorem d5_leads_78 : decode (mk_c M5_leads) 78 = .ok (.iload_n 3, 1) := by decide +kernel
theorem d5_leads_79 : decode (mk_c M5_leads) 79 = .ok (.imul, 1) := by decide +kernel
theorem d5_leads_80 : decode (mk_c M5_leads) 80 = .ok (.iload 8, 2) := by decide +kernel
theorem d5_leads_82 : decode (mk_c M5_leads) 82 = .ok (.iadd, 1) := by decide +kernel
theorem d5_leads_83 : decode (mk_c M5_leads) 83 = .ok (.iaload, 1) := by decide +kernel
theorem d5_leads_84 : decode (mk_c M5_leads) 84 = .ok (.iadd, 1) := by decide +kernel
theorem d5_leads_85 : decode (mk_c M5_leads) 85 = .ok (.if_icmp .ne 7, 3) := by decide +kernel
theorem d5_leads_88 : decode (mk_c M5_leads) 88 = .ok (.iconst 1, 1) := by decide +kernel
theorem d5_leads_89 : decode (mk_c M5_leads) 89 = .ok (.goto 4, 3) := by decide +kernel
theorem d5_leads_92 : decode (mk_c M5_leads) 92 = .ok (.iconst 0, 1) := by decide +kernel
theorem d5_leads_93 : decode (mk_c M5_leads) 93 = .ok (.istore 7, 2) := by decide +kernel
theorem d5_leads_95 : decode (mk_c M5_leads) 95 = .ok (.iinc 8 1, 3) := by decide +kernel
theorem d5_leads_98 : decode (mk_c M5_leads) 98 = .ok (.goto (-44), 3) := by decide +kernel
theorem d5_leads_101 : decode (mk_c M5_leads) 101 = .ok (.iload 7, 2) := by decide +kernel
theorem d5_leads_103 : decode (mk_c M5_leads) 103 = .ok (.ifCond .eq 21, 3) := by decide +kernel
theorem d5_leads_106 : decode (mk_c M5_leads) 106 = .ok (.aload_n 0, 1) := by decide +kernel
theorem d5_leads_107 : decode (mk_c M5_leads) 107 = .ok (.iload 6, 2) := by decide +kernel
theorem d5_leads_109 : decode (mk_c M5_leads) 109 = .ok (.aload_n 0, 1) := by decide +kernel
theorem d5_leads_110 : decode (mk_c M5_leads) 110 = .ok (.getfield 29, 3) := by decide +kernel
theorem d5_leads_113 : decode (mk_c M5_leads) 113 = .ok (.iload_n 3, 1) := by decide +kernel
theorem d5_leads_114 : decode (mk_c M5_leads) 114 = .ok (.iaload, 1) := by decide +kernel
theorem d5_leads_115 : decode (mk_c M5_leads) 115 = .ok (.iadd, 1) := by decide +kernel
theorem d5_leads_116 : decode (mk_c M5_leads) 116 = .ok (.iload 4, 2) := by decide +kernel
theorem d5_leads_118 : decode (mk_c M5_leads) 118 = .ok (.invokevirtual 250, 3) := by decide +kernel
theorem d5_leads_121 : decode (mk_c M5_leads) 121 = .ok (.goto 5, 3) := by decide +kernel
theorem d5_leads_124 : decode (mk_c M5_leads) 124 = .ok (.bipush (-2), 2) := by decide +kernel
theorem d5_leads_126 : decode (mk_c M5_leads) 126 = .ok (.ireturn, 1) := by decide +kernel
theorem d5_leads_127 : decode (mk_c M5_leads) 127 = .ok (.iload_n 1, 1) := by decide +kernel
theorem d5_leads_128 : decode (mk_c M5_leads) 128 = .ok (.bipush 80, 2) := by decide +kernel
theorem d5_leads_130 : decode (mk_c M5_leads) 130 = .ok (.aload_n 0, 1) := by decide +kernel
theorem d5_leads_131 : decode (mk_c M5_leads) 131 = .ok (.getfield 26, 3) := by decide +kernel
theorem d5_leads_134 : decode (mk_c M5_leads) 134 = .ok (.iload_n 3, 1) := by decide +kernel
theorem d5_leads_135 : decode (mk_c M5_leads) 135 = .ok (.iaload, 1) := by decide +kernel
theorem d5_leads_136 : decode (mk_c M5_leads) 136 = .ok (.iadd, 1) := by decide +kernel
theorem d5_leads_137 : decode (mk_c M5_leads) 137 = .ok (.if_icmp .ne 19, 3) := by decide +kernel
theorem d5_leads_140 : decode (mk_c M5_leads) 140 = .ok (.aload_n 0, 1) := by decide +kernel
theorem d5_leads_141 : decode (mk_c M5_leads) 141 = .ok (.iload 6, 2) := by decide +kernel
theorem d5_leads_143 : decode (mk_c M5_leads) 143 = .ok (.aload_n 0, 1) := by decide +kernel
theorem d5_leads_144 : decode (mk_c M5_leads) 144 = .ok (.getfield 32, 3) := by decide +kernel
theorem d5_leads_147 : decode (mk_c M5_leads) 147 = .ok (.iload_n 3, 1) := by decide +kernel
theorem d5_leads_148 : decode (mk_c M5_leads) 148 = .ok (.iaload, 1) := by decide +kernel
theorem d5_leads_149 : decode (mk_c M5_leads) 149 = .ok (.iadd, 1) := by decide +kernel
theorem d5_leads_150 : decode (mk_c M5_leads) 150 = .ok (.iload 4, 2) := by decide +kernel
theorem d5_leads_152 : decode (mk_c M5_leads) 152 = .ok (.invokevirtual 250, 3) := by decide +kernel
theorem d5_leads_155 : decode (mk_c M5_leads) 155 = .ok (.ireturn, 1) := by decide +kernel
theorem d5_leads_156 : decode (mk_c M5_leads) 156 = .ok (.iload_n 1, 1) := by decide +kernel
theorem d5_leads_157 : decode (mk_c M5_leads) 157 = .ok (.iload 6, 2) := by decide +kernel
theorem d5_leads_159 : decode (mk_c M5_leads) 159 = .ok (.aload_n 0, 1) := by decide +kernel
theorem d5_leads_160 : decode (mk_c M5_leads) 160 = .ok (.getfield 29, 3) := by decide +kernel
theorem d5_leads_163 : decode (mk_c M5_leads) 163 = .ok (.iload_n 3, 1) := by decide +kernel
theorem d5_leads_164 : decode (mk_c M5_leads) 164 = .ok (.iaload, 1) := by decide +kernel
theorem d5_leads_165 : decode (mk_c M5_leads) 165 = .ok (.iadd, 1) := by decide +kernel
theorem d5_leads_166 : decode (mk_c M5_leads) 166 = .ok (.if_icmp .ne 21, 3) := by decide +kernel
theorem d5_leads_169 : decode (mk_c M5_leads) 169 = .ok (.aload_n 0, 1) := by decide +kernel
theorem d5_leads_170 : decode (mk_c M5_leads) 170 = .ok (.bipush 8, 2) := by decide +kernel
theorem d5_leads_172 : decode (mk_c M5_leads) 172 = .ok (.aload_n 0, 1) := by decide +kernel
theorem d5_leads_173 : decode (mk_c M5_leads) 173 = .ok (.getfield 26, 3) := by decide +kernel
theorem d5_leads_176 : decode (mk_c M5_leads) 176 = .ok (.iload_n 3, 1) := by decide +kernel
theorem d5_leads_177 : decode (mk_c M5_leads) 177 = .ok (.iaload, 1) := by decide +kernel
theorem d5_leads_178 : decode (mk_c M5_leads) 178 = .ok (.imul, 1) := by decide +kernel
theorem d5_leads_179 : decode (mk_c M5_leads) 179 = .ok (.iload 4, 2) := by decide +kernel
theorem d5_leads_181 : decode (mk_c M5_leads) 181 = .ok (.invokevirtual 250, 3) := by decide +kernel
theorem d5_leads_184 : decode (mk_c M5_leads) 184 = .ok (.goto 5, 3) := by decide +kernel
theorem d5_leads_187 : decode (mk_c M5_leads) 187 = .ok (.bipush (-2), 2) := by decide +kernel
theorem d5_leads_189 : decode (mk_c M5_leads) 189 = .ok (.ireturn, 1) := by decide +kernel
theorem d5_leads_190 : decode (mk_c M5_leads) 190 = .ok (.iload_n 1, 1) := by decide +kernel
theorem d5_leads_191 : decode (mk_c M5_leads) 191 = .ok (.iload 6, 2) := by decide +kernel
theorem d5_leads_193 : decode (mk_c M5_leads) 193 = .ok (.aload_n 0, 1) := by decide +kernel
theorem d5_leads_194 : decode (mk_c M5_leads) 194 = .ok (.getfield 29, 3) := by decide +kernel
theorem d5_leads_197 : decode (mk_c M5_leads) 197 = .ok (.iload_n 3, 1) := by decide +kernel
theorem d5_leads_198 : decode (mk_c M5_leads) 198 = .ok (.iaload, 1) := by decide +kernel
theorem d5_leads_199 : decode (mk_c M5_leads) 199 = .ok (.iadd, 1) := by decide +kernel
theorem d5_leads_200 : decode (mk_c M5_leads) 200 = .ok (.if_icmp .ne 34, 3) := by decide +kernel
theorem d5_leads_203 : decode (mk_c M5_leads) 203 = .ok (.aload_n 0, 1) := by decide +kernel
theorem d5_leads_204 : decode (mk_c M5_leads) 204 = .ok (.getfield 26, 3) := by decide +kernel
theorem d5_leads_207 : decode (mk_c M5_leads) 207 = .ok (.iload_n 3, 1) := by decide +kernel
theorem d5_leads_208 : decode (mk_c M5_leads) 208 = .ok (.iaload, 1) := by decide +kernel
theorem d5_leads_209 : decode (mk_c M5_leads) 209 = .ok (.iload 5, 2) := by decide +kernel
theorem d5_leads_211 : decode (mk_c M5_leads) 211 = .ok (.if_icmp .ne 23, 3) := by decide +kernel
theorem d5_leads_214 : decode (mk_c M5_leads) 214 = .ok (.aload_n 0, 1) := by decide +kernel
theorem d5_leads_215 : decode (mk_c M5_leads) 215 = .ok (.getfield 13, 3) := by decide +kernel
theorem d5_leads_218 : decode (mk_c M5_leads) 218 = .ok (.iload_n 2, 1) := by decide +kernel
theorem d5_leads_219 : decode (mk_c M5_leads) 219 = .ok (.iaload, 1) := by decide +kernel
theorem d5_leads_220 : decode (mk_c M5_leads) 220 = .ok (.iload 5, 2) := by decide +kernel
theorem d5_leads_222 : decode (mk_c M5_leads) 222 = .ok (.ishr, 1) := by decide +kernel
theorem d5_leads_223 : decode (mk_c M5_leads) 223 = .ok (.iconst 1, 1) := by decide +kernel
theorem d5_leads_224 : decode (mk_c M5_leads) 224 = .ok (.iand, 1) := by decide +kernel
theorem d5_leads_225 : decode (mk_c M5_leads) 225 = .ok (.iconst 1, 1) := by decide +kernel
theorem d5_leads_226 : decode (mk_c M5_leads) 226 = .ok (.if_icmp .ne 8, 3) := by decide +kernel
theorem d5_leads_229 : decode (mk_c M5_leads) 229 = .ok (.bipush 90, 2) := by decide +kernel
theorem d5_leads_231 : decode (mk_c M5_leads) 231 = .ok (.goto 5, 3) := by decide +kernel
theorem d5_leads_234 : decode (mk_c M5_leads) 234 = .ok (.bipush (-2), 2) := by decide +kernel
theorem d5_leads_236 : decode (mk_c M5_leads) 236 = .ok (.ireturn, 1) := by decide +kernel
theorem d5_leads_237 : decode (mk_c M5_leads) 237 = .ok (.iload_n 1, 1) := by decide +kernel
theorem d5_leads_238 : decode (mk_c M5_leads) 238 = .ok (.iload 6, 2) := by decide +kernel
theorem d5_leads_240 : decode (mk_c M5_leads) 240 = .ok (.aload_n 0, 1) := by decide +kernel
theorem d5_leads_241 : decode (mk_c M5_leads) 241 = .ok (.getfield 29, 3) := by decide +kernel
theorem d5_leads_244 : decode (mk_c M5_leads) 244 = .ok (.iload_n 3, 1) := by decide +kernel
theorem d5_leads_245 : decode (mk_c M5_leads) 245 = .ok (.iaload, 1) := by decide +kernel
theorem d5_leads_246 : decode (mk_c M5_leads) 246 = .ok (.iadd, 1) := by decide +kernel
theorem d5_leads_247 : decode (mk_c M5_leads) 247 = .ok (.if_icmp .ne 10, 3) := by decide +kernel
theorem d5_leads_250 : decode (mk_c M5_leads) 250 = .ok (.bipush 80, 2) := by decide +kernel
theorem d5_leads_252 : decode (mk_c M5_leads) 252 = .ok (.iload_n 2, 1) := by decide +kernel
theorem d5_leads_253 : decode (mk_c M5_leads) 253 = .ok (.iadd, 1) := by decide +kernel
theorem d5_leads_254 : decode (mk_c M5_leads) 254 = .ok (.goto 5, 3) := by decide +kernel
theorem d5_leads_257 : decode (mk_c M5_leads) 257 = .ok (.bipush (-2), 2) := by decide +kernel
theorem d5_leads_259 : decode (mk_c M5_leads) 259 = .ok (.ireturn, 1) := by decide +kernel
theorem d5_leads_260 : decode (mk_c M5_leads) 260 = .ok (.bipush (-2), 2) := by decide +kernel
theorem d5_leads_262 : decode (mk_c M5_leads) 262 = .ok (.ireturn, 1) := by decide +kernel
theorem d5_into_0 : decode (mk_c M5_into) 0 = .ok (.aload_n 0, 1) := by decide +kernel
theorem d5_into_1 : decode (mk_c M5_into) 1 = .ok (.getfield 52, 3) := by decide +kernel
theorem d5_into_4 : decode (mk_c M5_into) 4 = .ok (.iload_n 1, 1) := by decide +kernel
theorem d5_into_5 : decode (mk_c M5_into) 5 = .ok (.iaload, 1) := by decide +kernel
theorem d5_into_6 : decode (mk_c M5_into) 6 = .ok (.iload_n 2, 1) := by decide +kernel
theorem d5_into_7 : decode (mk_c M5_into) 7 = .ok (.ishr, 1) := by decide +kernel
theorem d5_into_8 : decode (mk_c M5_into) 8 = .ok (.iconst 1, 1) := by decide +kernel
theorem d5_into_9 : decode (mk_c M5_into) 9 = .ok (.iand, 1) := by decide +kernel
theorem d5_into_10 : decode (mk_c M5_into) 10 = .ok (.iconst 1, 1) := by decide +kernel
theorem d5_into_11 : decode (mk_c M5_into) 11 = .ok (.if_icmp .ne 8, 3) := by decide +kernel
theorem d5_into_14 : decode (mk_c M5_into) 14 = .ok (.bipush (-2), 2) := by decide +kernel
theorem d5_into_16 : decode (mk_c M5_into) 16 = .ok (.goto 4, 3) := by decide +kernel
theorem d5_into_19 : decode (mk_c M5_into) 19 = .ok (.iload_n 1, 1) := by decide +kernel
theorem d5_into_20 : decode (mk_c M5_into) 20 = .ok (.ireturn, 1) := by decide +kernel
theorem d5_follows_0 : decode (mk_c M5_follows) 0 = .ok (.iconst 0, 1) := by decide +kernel
theorem d5_follows_1 : decode (mk_c M5_follows) 1 = .ok (.istore 4, 2) := by decide +kernel
theorem d5_follows_3 : decode (mk_c M5_follows) 3 = .ok (.iload 4, 2) := by decide +kernel
theorem d5_follows_5 : decode (mk_c M5_follows) 5 = .ok (.aload_n 0, 1) := by decide +kernel
theorem d5_follows_6 : decode (mk_c M5_follows) 6 = .ok (.getfield 86, 3) := by decide +kernel
theorem d5_follows_9 : decode (mk_c M5_follows) 9 = .ok (.if_icmp .ge 117, 3) := by decide +kernel
theorem d5_follows_12 : decode (mk_c M5_follows) 12 = .ok (.bipush 12, 2) := by decide +kernel
theorem d5_follows_14 : decode (mk_c M5_follows) 14 = .ok (.iload 4, 2) := by decide +kernel
theorem d5_follows_16 : decode (mk_c M5_follows) 16 = .ok (.imul, 1) := by decide +kernel
theorem d5_follows_17 : decode (mk_c M5_follows) 17 = .ok (.istore 5, 2) := by decide +kernel
theorem d5_follows_19 : decode (mk_c M5_follows) 19 = .ok (.iload 5, 2) := by decide +kernel
theorem d5_follows_21 : decode (mk_c M5_follows) 21 = .ok (.bipush 12, 2) := by decide +kernel
theorem d5_follows_23 : decode (mk_c M5_follows) 23 = .ok (.iload 4, 2) := by decide +kernel
theorem d5_follows_25 : decode (mk_c M5_follows) 25 = .ok (.imul, 1) := by decide +kernel
theorem d5_follows_26 : decode (mk_c M5_follows) 26 = .ok (.aload_n 0, 1) := by decide +kernel
theorem d5_follows_27 : decode (mk_c M5_follows) 27 = .ok (.getfield 17, 3) := by decide +kernel
theorem d5_follows_30 : decode (mk_c M5_follows) 30 = .ok (.iload 4, 2) := by decide +kernel
theorem d5_follows_32 : decode (mk_c M5_follows) 32 = .ok (.iaload, 1) := by decide +kernel
theorem d5_follows_33 : decode (mk_c M5_follows) 33 = .ok (.iadd, 1) := by decide +kernel
theorem d5_follows_34 : decode (mk_c M5_follows) 34 = .ok (.if_icmp .ge 86, 3) := by decide +kernel
theorem d5_follows_37 : decode (mk_c M5_follows) 37 = .ok (.aload_n 0, 1) := by decide +kernel
theorem d5_follows_38 : decode (mk_c M5_follows) 38 = .ok (.getfield 61, 3) := by decide +kernel
theorem d5_follows_41 : decode (mk_c M5_follows) 41 = .ok (.iload 4, 2) := by decide +kernel
theorem d5_follows_43 : decode (mk_c M5_follows) 43 = .ok (.baload, 1) := by decide +kernel
theorem d5_follows_44 : decode (mk_c M5_follows) 44 = .ok (.ifCond .eq 76, 3) := by decide +kernel
theorem d5_follows_47 : decode (mk_c M5_follows) 47 = .ok (.aload_n 0, 1) := by decide +kernel
theorem d5_follows_48 : decode (mk_c M5_follows) 48 = .ok (.iload_n 1, 1) := by decide +kernel
theorem d5_follows_49 : decode (mk_c M5_follows) 49 = .ok (.iload 4, 2) := by decide +kernel
theorem d5_follows_51 : decode (mk_c M5_follows) 51 = .ok (.iload 5, 2) := by decide +kernel
theorem d5_follows_53 : decode (mk_c M5_follows) 53 = .ok (.iload_n 2, 1) := by decide +kernel
theorem d5_follows_54 : decode (mk_c M5_follows) 54 = .ok (.iload_n 3, 1) := by decide +kernel
theorem d5_follows_55 : decode (mk_c M5_follows) 55 = .ok (.invokevirtual 255, 3) := by decide +kernel
theorem d5_follows_58 : decode (mk_c M5_follows) 58 = .ok (.istore 6, 2) := by decide +kernel
theorem d5_follows_60 : decode (mk_c M5_follows) 60 = .ok (.iload 6, 2) := by decide +kernel
theorem d5_follows_62 : decode (mk_c M5_follows) 62 = .ok (.bipush (-2), 2) := by decide +kernel
theorem d5_follows_64 : decode (mk_c M5_follows) 64 = .ok (.if_icmp .eq 50, 3) := by decide +kernel
theorem d5_follows_67 : decode (mk_c M5_follows) 67 = .ok (.aload_n 0, 1) := by decide +kernel
theorem d5_follows_68 : decode (mk_c M5_follows) 68 = .ok (.getfield 65, 3) := by decide +kernel
theorem d5_follows_71 : decode (mk_c M5_follows) 71 = .ok (.iload 6, 2) := by decide +kernel
theorem d5_follows_73 : decode (mk_c M5_follows) 73 = .ok (.iaload, 1) := by decide +kernel
theorem d5_follows_74 : decode (mk_c M5_follows) 74 = .ok (.iconst 1, 1) := by decide +kernel
theorem d5_follows_75 : decode (mk_c M5_follows) 75 = .ok (.iadd, 1) := by decide +kernel
theorem d5_follows_76 : decode (mk_c M5_follows) 76 = .ok (.aload_n 0, 1) := by decide +kernel
theorem d5_follows_77 : decode (mk_c M5_follows) 77 = .ok (.getfield 65, 3) := by decide +kernel
theorem d5_follows_80 : decode (mk_c M5_follows) 80 = .ok (.iload_n 1, 1) := by decide +kernel
theorem d5_follows_81 : decode (mk_c M5_follows) 81 = .ok (.iaload, 1) := by decide +kernel
theorem d5_follows_82 : decode (mk_c M5_follows) 82 = .ok (.if_icmp .eq 6, 3) := by decide +kernel
theorem d5_follows_85 : decode (mk_c M5_follows) 85 = .ok (.goto 29, 3) := by decide +kernel
theorem d5_follows_88 : decode (mk_c M5_follows) 88 = .ok (.aload_n 0, 1) := by decide +kernel
theorem d5_follows_89 : decode (mk_c M5_follows) 89 = .ok (.getfield 68, 3) := by decide +kernel
theorem d5_follows_92 : decode (mk_c M5_follows) 92 = .ok (.aload_n 0, 1) := by decide +kernel
theorem d5_follows_93 : decode (mk_c M5_follows) 93 = .ok (.getfield 262, 3) := by decide +kernel
theorem d5_follows_96 : decode (mk_c M5_follows) 96 = .ok (.bipush 100, 2) := by decide +kernel
theorem d5_follows_98 : decode (mk_c M5_follows) 98 = .ok (.iload 4, 2) := by decide +kernel
theorem d5_follows_100 : decode (mk_c M5_follows) 100 = .ok (.imul, 1) := by decide +kernel
theorem d5_follows_101 : decode (mk_c M5_follows) 101 = .ok (.iload 5, 2) := by decide +kernel
theorem d5_follows_103 : decode (mk_c M5_follows) 103 = .ok (.iadd, 1) := by decide +kernel
theorem d5_follows_104 : decode (mk_c M5_follows) 104 = .ok (.bipush 12, 2) := by decide +kernel
theorem d5_follows_106 : decode (mk_c M5_follows) 106 = .ok (.iload 4, 2) := by decide +kernel
theorem d5_follows_108 : decode (mk_c M5_follows) 108 = .ok (.imul, 1) := by decide +kernel
theorem d5_follows_109 : decode (mk_c M5_follows) 109 = .ok (.isub, 1) := by decide +kernel
theorem d5_follows_110 : decode (mk_c M5_follows) 110 = .ok (.iastore, 1) := by decide +kernel
theorem d5_follows_111 : decode (mk_c M5_follows) 111 = .ok (.iload 6, 2) := by decide +kernel
theorem d5_follows_113 : decode (mk_c M5_follows) 113 = .ok (.ireturn, 1) := by decide +kernel
theorem d5_follows_114 : decode (mk_c M5_follows) 114 = .ok (.iinc 5 1, 3) := by decide +kernel
theorem d5_follows_117 : decode (mk_c M5_follows) 117 = .ok (.goto (-98), 3) := by decide +kernel
theorem d5_follows_120 : decode (mk_c M5_follows) 120 = .ok (.iinc 4 1, 3) := by decide +kernel
theorem d5_follows_123 : decode (mk_c M5_follows) 123 = .ok (.goto (-120), 3) := by decide +kernel
theorem d5_follows_126 : decode (mk_c M5_follows) 126 = .ok (.bipush 90, 2) := by decide +kernel
theorem d5_follows_128 : decode (mk_c M5_follows) 128 = .ok (.ireturn, 1) := by decide +kernel
theorem d5_step_0 : decode (mk_c M5_step) 0 = .ok (.aload_n 0, 1) := by decide +kernel
theorem d5_step_1 : decode (mk_c M5_step) 1 = .ok (.iload_n 1, 1) := by decide +kernel
theorem d5_step_2 : decode (mk_c M5_step) 2 = .ok (.ifCond .lt 11, 3) := by decide +kernel
theorem d5_step_5 : decode (mk_c M5_step) 5 = .ok (.iload_n 1, 1) := by decide +kernel
theorem d5_step_6 : decode (mk_c M5_step) 6 = .ok (.aload_n 0, 1) := by decide +kernel
theorem d5_step_7 : decode (mk_c M5_step) 7 = .ok (.getfield 262, 3) := by decide +kernel
theorem d5_step_10 : decode (mk_c M5_step) 10 = .ok (.if_icmp .lt 7, 3) := by decide +kernel
theorem d5_step_13 : decode (mk_c M5_step) 13 = .ok (.iconst 1, 1) := by decide +kernel
theorem d5_step_14 : decode (mk_c M5_step) 14 = .ok (.goto 4, 3) := by decide +kernel
theorem d5_step_17 : decode (mk_c M5_step) 17 = .ok (.iconst 0, 1) := by decide +kernel
theorem d5_step_18 : decode (mk_c M5_step) 18 = .ok (.putfield 80, 3) := by decide +kernel
theorem d5_step_21 : decode (mk_c M5_step) 21 = .ok (.aload_n 0, 1) := by decide +kernel
theorem d5_step_22 : decode (mk_c M5_step) 22 = .ok (.getfield 80, 3) := by decide +kernel
theorem d5_step_25 : decode (mk_c M5_step) 25 = .ok (.ifCond .le 7, 3) := by decide +kernel
theorem d5_step_28 : decode (mk_c M5_step) 28 = .ok (.iconst 0, 1) := by decide +kernel
theorem d5_step_29 : decode (mk_c M5_step) 29 = .ok (.goto 9, 3) := by decide +kernel
theorem d5_step_32 : decode (mk_c M5_step) 32 = .ok (.aload_n 0, 1) := by decide +kernel
theorem d5_step_33 : decode (mk_c M5_step) 33 = .ok (.getfield 68, 3) := by decide +kernel
theorem d5_step_36 : decode (mk_c M5_step) 36 = .ok (.iload_n 1, 1) := by decide +kernel
theorem d5_step_37 : decode (mk_c M5_step) 37 = .ok (.iaload, 1) := by decide +kernel
theorem d5_step_38 : decode (mk_c M5_step) 38 = .ok (.ireturn, 1) := by decide +kernel
theorem d5_needed_0 : decode (mk_c M5_needed) 0 = .ok (.aload_n 0, 1) := by decide +kernel
theorem d5_needed_1 : decode (mk_c M5_needed) 1 = .ok (.iconst 0, 1) := by decide +kernel
theorem d5_needed_2 : decode (mk_c M5_needed) 2 = .ok (.putfield 80, 3) := by decide +kernel
theorem d5_needed_5 : decode (mk_c M5_needed) 5 = .ok (.aload_n 0, 1) := by decide +kernel
theorem d5_needed_6 : decode (mk_c M5_needed) 6 = .ok (.iload_n 1, 1) := by decide +kernel
theorem d5_needed_7 : decode (mk_c M5_needed) 7 = .ok (.invokevirtual 101, 3) := by decide +kernel
theorem d5_needed_10 : decode (mk_c M5_needed) 10 = .ok (.ifCond .ne 5, 3) := by decide +kernel
theorem d5_needed_13 : decode (mk_c M5_needed) 13 = .ok (.iconst (-1), 1) := by decide +kernel
theorem d5_needed_14 : decode (mk_c M5_needed) 14 = .ok (.ireturn, 1) := by decide +kernel
theorem d5_needed_15 : decode (mk_c M5_needed) 15 = .ok (.aload_n 0, 1) := by decide +kernel
theorem d5_needed_16 : decode (mk_c M5_needed) 16 = .ok (.invokevirtual 231, 3) := by decide +kernel
theorem d5_needed_19 : decode (mk_c M5_needed) 19 = .ok (.aload_n 0, 1) := by decide +kernel
theorem d5_needed_20 : decode (mk_c M5_needed) 20 = .ok (.iload_n 1, 1) := by decide +kernel
theorem d5_needed_21 : decode (mk_c M5_needed) 21 = .ok (.invokevirtual 269, 3) := by decide +kernel
theorem d5_needed_24 : decode (mk_c M5_needed) 24 = .ok (.ireturn, 1) := by decide +kernel
theorem d5_neededOf_0 : decode (mk_c M5_neededOf) 0 = .ok (.iconst 0, 1) := by decide +kernel
theorem d5_neededOf_1 : decode (mk_c M5_neededOf) 1 = .ok (.istore_n 2, 1) := by decide +kernel
theorem d5_neededOf_2 : decode (mk_c M5_neededOf) 2 = .ok (.bipush 12, 2) := by decide +kernel
theorem d5_neededOf_4 : decode (mk_c M5_neededOf) 4 = .ok (.iload_n 1, 1) := by decide +kernel
theorem d5_neededOf_5 : decode (mk_c M5_neededOf) 5 = .ok (.imul, 1) := by decide +kernel
theorem d5_neededOf_6 : decode (mk_c M5_neededOf) 6 = .ok (.istore_n 3, 1) := by decide +kernel
theorem d5_neededOf_7 : decode (mk_c M5_neededOf) 7 = .ok (.iload_n 3, 1) := by decide +kernel
theorem d5_neededOf_8 : decode (mk_c M5_neededOf) 8 = .ok (.bipush 12, 2) := by decide +kernel
theorem d5_neededOf_10 : decode (mk_c M5_neededOf) 10 = .ok (.iload_n 1, 1) := by decide +kernel
theorem d5_neededOf_11 : decode (mk_c M5_neededOf) 11 = .ok (.imul, 1) := by decide +kernel
theorem d5_neededOf_12 : decode (mk_c M5_neededOf) 12 = .ok (.aload_n 0, 1) := by decide +kernel
theorem d5_neededOf_13 : decode (mk_c M5_neededOf) 13 = .ok (.getfield 17, 3) := by decide +kernel
theorem d5_neededOf_16 : decode (mk_c M5_neededOf) 16 = .ok (.iload_n 1, 1) := by decide +kernel
theorem d5_neededOf_17 : decode (mk_c M5_neededOf) 17 = .ok (.iaload, 1) := by decide +kernel
theorem d5_neededOf_18 : decode (mk_c M5_neededOf) 18 = .ok (.iadd, 1) := by decide +kernel
theorem d5_neededOf_19 : decode (mk_c M5_neededOf) 19 = .ok (.if_icmp .ge 52, 3) := by decide +kernel
theorem d5_neededOf_22 : decode (mk_c M5_neededOf) 22 = .ok (.aload_n 0, 1) := by decide +kernel
theorem d5_neededOf_23 : decode (mk_c M5_neededOf) 23 = .ok (.getfield 61, 3) := by decide +kernel
theorem d5_neededOf_26 : decode (mk_c M5_neededOf) 26 = .ok (.iload_n 1, 1) := by decide +kernel
theorem d5_neededOf_27 : decode (mk_c M5_neededOf) 27 = .ok (.baload, 1) := by decide +kernel
theorem d5_neededOf_28 : decode (mk_c M5_neededOf) 28 = .ok (.ifCond .eq 43, 3) := by decide +kernel
theorem d5_neededOf_31 : decode (mk_c M5_neededOf) 31 = .ok (.iload_n 2, 1) := by decide +kernel
theorem d5_neededOf_32 : decode (mk_c M5_neededOf) 32 = .ok (.aload_n 0, 1) := by decide +kernel
theorem d5_neededOf_33 : decode (mk_c M5_neededOf) 33 = .ok (.getfield 23, 3) := by decide +kernel
theorem d5_neededOf_36 : decode (mk_c M5_neededOf) 36 = .ok (.iload_n 3, 1) := by decide +kernel
theorem d5_neededOf_37 : decode (mk_c M5_neededOf) 37 = .ok (.iaload, 1) := by decide +kernel
theorem d5_neededOf_38 : decode (mk_c M5_neededOf) 38 = .ok (.ifCond .eq 13, 3) := by decide +kernel
theorem d5_neededOf_41 : decode (mk_c M5_neededOf) 41 = .ok (.aload_n 0, 1) := by decide +kernel
theorem d5_neededOf_42 : decode (mk_c M5_neededOf) 42 = .ok (.getfield 23, 3) := by decide +kernel
theorem d5_neededOf_45 : decode (mk_c M5_neededOf) 45 = .ok (.iload_n 3, 1) := by decide +kernel
theorem d5_neededOf_46 : decode (mk_c M5_neededOf) 46 = .ok (.iaload, 1) := by decide +kernel
theorem d5_neededOf_47 : decode (mk_c M5_neededOf) 47 = .ok (.iconst 3, 1) := by decide +kernel
theorem d5_neededOf_48 : decode (mk_c M5_neededOf) 48 = .ok (.if_icmp .ne 14, 3) := by decide +kernel
theorem d5_neededOf_51 : decode (mk_c M5_neededOf) 51 = .ok (.iconst 1, 1) := by decide +kernel
theorem d5_neededOf_52 : decode (mk_c M5_neededOf) 52 = .ok (.aload_n 0, 1) := by decide +kernel
theorem d5_neededOf_53 : decode (mk_c M5_neededOf) 53 = .ok (.getfield 26, 3) := by decide +kernel
theorem d5_neededOf_56 : decode (mk_c M5_neededOf) 56 = .ok (.iload_n 3, 1) := by decide +kernel
theorem d5_neededOf_57 : decode (mk_c M5_neededOf) 57 = .ok (.iaload, 1) := by decide +kernel
theorem d5_neededOf_58 : decode (mk_c M5_neededOf) 58 = .ok (.ishl, 1) := by decide +kernel
theorem d5_neededOf_59 : decode (mk_c M5_neededOf) 59 = .ok (.goto 4, 3) := by decide +kernel
theorem d5_neededOf_62 : decode (mk_c M5_neededOf) 62 = .ok (.iconst 0, 1) := by decide +kernel
theorem d5_neededOf_63 : decode (mk_c M5_neededOf) 63 = .ok (.ior, 1) := by decide +kernel
theorem d5_neededOf_64 : decode (mk_c M5_neededOf) 64 = .ok (.istore_n 2, 1) := by decide +kernel
theorem d5_neededOf_65 : decode (mk_c M5_neededOf) 65 = .ok (.iinc 3 1, 3) := by decide +kernel
theorem d5_neededOf_68 : decode (mk_c M5_neededOf) 68 = .ok (.goto (-61), 3) := by decide +kernel
theorem d5_neededOf_71 : decode (mk_c M5_neededOf) 71 = .ok (.iload_n 2, 1) := by decide +kernel
theorem d5_neededOf_72 : decode (mk_c M5_neededOf) 72 = .ok (.ireturn, 1) := by decide +kernel
theorem d5_idle_0 : decode (mk_c M5_idle) 0 = .ok (.aload_n 0, 1) := by decide +kernel
theorem d5_idle_1 : decode (mk_c M5_idle) 1 = .ok (.iconst 0, 1) := by decide +kernel
theorem d5_idle_2 : decode (mk_c M5_idle) 2 = .ok (.putfield 80, 3) := by decide +kernel
theorem d5_idle_5 : decode (mk_c M5_idle) 5 = .ok (.aload_n 0, 1) := by decide +kernel
theorem d5_idle_6 : decode (mk_c M5_idle) 6 = .ok (.iload_n 1, 1) := by decide +kernel
theorem d5_idle_7 : decode (mk_c M5_idle) 7 = .ok (.invokevirtual 101, 3) := by decide +kernel
theorem d5_idle_10 : decode (mk_c M5_idle) 10 = .ok (.ifCond .ne 5, 3) := by decide +kernel
theorem d5_idle_13 : decode (mk_c M5_idle) 13 = .ok (.iconst (-1), 1) := by decide +kernel
theorem d5_idle_14 : decode (mk_c M5_idle) 14 = .ok (.ireturn, 1) := by decide +kernel
theorem d5_idle_15 : decode (mk_c M5_idle) 15 = .ok (.aload_n 0, 1) := by decide +kernel
theorem d5_idle_16 : decode (mk_c M5_idle) 16 = .ok (.invokevirtual 231, 3) := by decide +kernel
theorem d5_idle_19 : decode (mk_c M5_idle) 19 = .ok (.aload_n 0, 1) := by decide +kernel
theorem d5_idle_20 : decode (mk_c M5_idle) 20 = .ok (.getfield 13, 3) := by decide +kernel
theorem d5_idle_23 : decode (mk_c M5_idle) 23 = .ok (.iload_n 1, 1) := by decide +kernel
theorem d5_idle_24 : decode (mk_c M5_idle) 24 = .ok (.iaload, 1) := by decide +kernel
theorem d5_idle_25 : decode (mk_c M5_idle) 25 = .ok (.aload_n 0, 1) := by decide +kernel
theorem d5_idle_26 : decode (mk_c M5_idle) 26 = .ok (.iload_n 1, 1) := by decide +kernel
theorem d5_idle_27 : decode (mk_c M5_idle) 27 = .ok (.invokevirtual 269, 3) := by decide +kernel
theorem d5_idle_30 : decode (mk_c M5_idle) 30 = .ok (.iconst (-1), 1) := by decide +kernel
theorem d5_idle_31 : decode (mk_c M5_idle) 31 = .ok (.ixor, 1) := by decide +kernel
theorem d5_idle_32 : decode (mk_c M5_idle) 32 = .ok (.iand, 1) := by decide +kernel
theorem d5_idle_33 : decode (mk_c M5_idle) 33 = .ok (.ireturn, 1) := by decide +kernel
theorem d5_lacking_0 : decode (mk_c M5_lacking) 0 = .ok (.aload_n 0, 1) := by decide +kernel
theorem d5_lacking_1 : decode (mk_c M5_lacking) 1 = .ok (.iconst 0, 1) := by decide +kernel
theorem d5_lacking_2 : decode (mk_c M5_lacking) 2 = .ok (.putfield 80, 3) := by decide +kernel
theorem d5_lacking_5 : decode (mk_c M5_lacking) 5 = .ok (.aload_n 0, 1) := by decide +kernel
theorem d5_lacking_6 : decode (mk_c M5_lacking) 6 = .ok (.iload_n 1, 1) := by decide +kernel
theorem d5_lacking_7 : decode (mk_c M5_lacking) 7 = .ok (.invokevirtual 101, 3) := by decide +kernel
theorem d5_lacking_10 : decode (mk_c M5_lacking) 10 = .ok (.ifCond .ne 5, 3) := by decide +kernel
theorem d5_lacking_13 : decode (mk_c M5_lacking) 13 = .ok (.iconst (-1), 1) := by decide +kernel
theorem d5_lacking_14 : decode (mk_c M5_lacking) 14 = .ok (.ireturn, 1) := by decide +kernel
theorem d5_lacking_15 : decode (mk_c M5_lacking) 15 = .ok (.aload_n 0, 1) := by decide +kernel
theorem d5_lacking_16 : decode (mk_c M5_lacking) 16 = .ok (.invokevirtual 231, 3) := by decide +kernel
theorem d5_lacking_19 : decode (mk_c M5_lacking) 19 = .ok (.aload_n 0, 1) := by decide +kernel
theorem d5_lacking_20 : decode (mk_c M5_lacking) 20 = .ok (.iload_n 1, 1) := by decide +kernel
theorem d5_lacking_21 : decode (mk_c M5_lacking) 21 = .ok (.invokevirtual 269, 3) := by decide +kernel
theorem d5_lacking_24 : decode (mk_c M5_lacking) 24 = .ok (.aload_n 0, 1) := by decide +kernel
theorem d5_lacking_25 : decode (mk_c M5_lacking) 25 = .ok (.getfield 13, 3) := by decide +kernel
theorem d5_lacking_28 : decode (mk_c M5_lacking) 28 = .ok (.iload_n 1, 1) := by decide +kernel
theorem d5_lacking_29 : decode (mk_c M5_lacking) 29 = .ok (.iaload, 1) := by decide +kernel
theorem d5_lacking_30 : decode (mk_c M5_lacking) 30 = .ok (.iconst (-1), 1) := by decide +kernel
theorem d5_lacking_31 : decode (mk_c M5_lacking) 31 = .ok (.ixor, 1) := by decide +kernel
theorem d5_lacking_32 : decode (mk_c M5_lacking) 32 = .ok (.iand, 1) := by decide +kernel
theorem d5_lacking_33 : decode (mk_c M5_lacking) 33 = .ok (.ireturn, 1) := by decide +kernel
theorem d5_helped_0 : decode (mk_c M5_helped) 0 = .ok (.aload_n 0, 1) := by decide +kernel
theorem d5_helped_1 : decode (mk_c M5_helped) 1 = .ok (.iconst 0, 1) := by decide +kernel
theorem d5_helped_2 : decode (mk_c M5_helped) 2 = .ok (.putfield 80, 3) := by decide +kernel
theorem d5_helped_5 : decode (mk_c M5_helped) 5 = .ok (.aload_n 0, 1) := by decide +kernel
theorem d5_helped_6 : decode (mk_c M5_helped) 6 = .ok (.iload_n 1, 1) := by decide +kernel
theorem d5_helped_7 : decode (mk_c M5_helped) 7 = .ok (.invokevirtual 101, 3) := by decide +kernel
theorem d5_helped_10 : decode (mk_c M5_helped) 10 = .ok (.ifCond .ne 5, 3) := by decide +kernel
theorem d5_helped_13 : decode (mk_c M5_helped) 13 = .ok (.iconst (-1), 1) := by decide +kernel
theorem d5_helped_14 : decode (mk_c M5_helped) 14 = .ok (.ireturn, 1) := by decide +kernel
theorem d5_helped_15 : decode (mk_c M5_helped) 15 = .ok (.aload_n 0, 1) := by decide +kernel
theorem d5_helped_16 : decode (mk_c M5_helped) 16 = .ok (.invokevirtual 231, 3) := by decide +kernel
theorem d5_helped_19 : decode (mk_c M5_helped) 19 = .ok (.aload_n 0, 1) := by decide +kernel
theorem d5_helped_20 : decode (mk_c M5_helped) 20 = .ok (.getfield 61, 3) := by decide +kernel
theorem d5_helped_23 : decode (mk_c M5_helped) 23 = .ok (.iload_n 1, 1) := by decide +kernel
theorem d5_helped_24 : decode (mk_c M5_helped) 24 = .ok (.baload, 1) := by decide +kernel
theorem d5_helped_25 : decode (mk_c M5_helped) 25 = .ok (.ifCond .ne 5, 3) := by decide +kernel
theorem d5_helped_28 : decode (mk_c M5_helped) 28 = .ok (.iconst 0, 1) := by decide +kernel
theorem d5_helped_29 : decode (mk_c M5_helped) 29 = .ok (.ireturn, 1) := by decide +kernel
theorem d5_helped_30 : decode (mk_c M5_helped) 30 = .ok (.iconst 0, 1) := by decide +kernel
theorem d5_helped_31 : decode (mk_c M5_helped) 31 = .ok (.istore_n 2, 1) := by decide +kernel
theorem d5_helped_32 : decode (mk_c M5_helped) 32 = .ok (.iconst (-1), 1) := by decide +kernel
theorem d5_helped_33 : decode (mk_c M5_helped) 33 = .ok (.istore_n 3, 1) := by decide +kernel
theorem d5_helped_34 : decode (mk_c M5_helped) 34 = .ok (.iload_n 2, 1) := by decide +kernel
theorem d5_helped_35 : decode (mk_c M5_helped) 35 = .ok (.iload_n 3, 1) := by decide +kernel
theorem d5_helped_36 : decode (mk_c M5_helped) 36 = .ok (.if_icmp .eq 102, 3) := by decide +kernel
theorem d5_helped_39 : decode (mk_c M5_helped) 39 = .ok (.iload_n 2, 1) := by decide +kernel
theorem d5_helped_40 : decode (mk_c M5_helped) 40 = .ok (.istore_n 3, 1) := by decide +kernel
theorem d5_helped_41 : decode (mk_c M5_helped) 41 = .ok (.iconst 0, 1) := by decide +kernel
theorem d5_helped_42 : decode (mk_c M5_helped) 42 = .ok (.istore 4, 2) := by decide +kernel
theorem d5_helped_44 : decode (mk_c M5_helped) 44 = .ok (.iload 4, 2) := by decide +kernel
theorem d5_helped_46 : decode (mk_c M5_helped) 46 = .ok (.aload_n 0, 1) := by decide +kernel
theorem d5_helped_47 : decode (mk_c M5_helped) 47 = .ok (.getfield 86, 3) := by decide +kernel
theorem d5_helped_50 : decode (mk_c M5_helped) 50 = .ok (.if_icmp .ge 85, 3) := by decide +kernel
theorem d5_helped_53 : decode (mk_c M5_helped) 53 = .ok (.iload 4, 2) := by decide +kernel
theorem d5_helped_55 : decode (mk_c M5_helped) 55 = .ok (.iload_n 1, 1) := by decide +kernel
theorem d5_helped_56 : decode (mk_c M5_helped) 56 = .ok (.if_icmp .eq 15, 3) := by decide +kernel
theorem d5_helped_59 : decode (mk_c M5_helped) 59 = .ok (.iload_n 2, 1) := by decide +kernel
theorem d5_helped_60 : decode (mk_c M5_helped) 60 = .ok (.iload 4, 2) := by decide +kernel
theorem d5_helped_62 : decode (mk_c M5_helped) 62 = .ok (.ishr, 1) := by decide +kernel
theorem d5_helped_63 : decode (mk_c M5_helped) 63 = .ok (.iconst 1, 1) := by decide +kernel
theorem d5_helped_64 : decode (mk_c M5_helped) 64 = .ok (.iand, 1) := by decide +kernel
theorem d5_helped_65 : decode (mk_c M5_helped) 65 = .ok (.ifCond .ne 6, 3) := by decide +kernel
theorem d5_helped_68 : decode (mk_c M5_helped) 68 = .ok (.goto 61, 3) := by decide +kernel
theorem d5_helped_71 : decode (mk_c M5_helped) 71 = .ok (.bipush 12, 2) := by decide +kernel
theorem d5_helped_73 : decode (mk_c M5_helped) 73 = .ok (.iload 4, 2) := by decide +kernel
theorem d5_helped_75 : decode (mk_c M5_helped) 75 = .ok (.imul, 1) := by decide +kernel
theorem d5_helped_76 : decode (mk_c M5_helped) 76 = .ok (.istore 5, 2) := by decide +kernel
theorem d5_helped_78 : decode (mk_c M5_helped) 78 = .ok (.iload 5, 2) := by decide +kernel
theorem d5_helped_80 : decode (mk_c M5_helped) 80 = .ok (.bipush 12, 2) := by decide +kernel
theorem d5_helped_82 : decode (mk_c M5_helped) 82 = .ok (.iload 4, 2) := by decide +kernel
theorem d5_helped_84 : decode (mk_c M5_helped) 84 = .ok (.imul, 1) := by decide +kernel
theorem d5_helped_85 : decode (mk_c M5_helped) 85 = .ok (.aload_n 0, 1) := by decide +kernel
theorem d5_helped_86 : decode (mk_c M5_helped) 86 = .ok (.getfield 17, 3) := by decide +kernel
theorem d5_helped_89 : decode (mk_c M5_helped) 89 = .ok (.iload 4, 2) := by decide +kernel
theorem d5_helped_91 : decode (mk_c M5_helped) 91 = .ok (.iaload, 1) := by decide +kernel
theorem d5_helped_92 : decode (mk_c M5_helped) 92 = .ok (.iadd, 1) := by decide +kernel
theorem d5_helped_93 : decode (mk_c M5_helped) 93 = .ok (.if_icmp .ge 36, 3) := by decide +kernel
theorem d5_helped_96 : decode (mk_c M5_helped) 96 = .ok (.iload_n 2, 1) := by decide +kernel
theorem d5_helped_97 : decode (mk_c M5_helped) 97 = .ok (.aload_n 0, 1) := by decide +kernel
theorem d5_helped_98 : decode (mk_c M5_helped) 98 = .ok (.getfield 23, 3) := by decide +kernel
theorem d5_helped_101 : decode (mk_c M5_helped) 101 = .ok (.iload 5, 2) := by decide +kernel
theorem d5_helped_103 : decode (mk_c M5_helped) 103 = .ok (.iaload, 1) := by decide +kernel
theorem d5_helped_104 : decode (mk_c M5_helped) 104 = .ok (.iconst 2, 1) := by decide +kernel
theorem d5_helped_105 : decode (mk_c M5_helped) 105 = .ok (.if_icmp .ne 15, 3) := by decide +kernel
theorem d5_helped_108 : decode (mk_c M5_helped) 108 = .ok (.iconst 1, 1) := by decide +kernel
theorem d5_helped_109 : decode (mk_c M5_helped) 109 = .ok (.aload_n 0, 1) := by decide +kernel
theorem d5_helped_110 : decode (mk_c M5_helped) 110 = .ok (.getfield 26, 3) := by decide +kernel
theorem d5_helped_113 : decode (mk_c M5_helped) 113 = .ok (.iload 5, 2) := by decide +kernel
theorem d5_helped_115 : decode (mk_c M5_helped) 115 = .ok (.iaload, 1) := by decide +kernel
theorem d5_helped_116 : decode (mk_c M5_helped) 116 = .ok (.ishl, 1) := by decide +kernel
theorem d5_helped_117 : decode (mk_c M5_helped) 117 = .ok (.goto 4, 3) := by decide +kernel
theorem d5_helped_120 : decode (mk_c M5_helped) 120 = .ok (.iconst 0, 1) := by decide +kernel
theorem d5_helped_121 : decode (mk_c M5_helped) 121 = .ok (.ior, 1) := by decide +kernel
theorem d5_helped_122 : decode (mk_c M5_helped) 122 = .ok (.istore_n 2, 1) := by decide +kernel
theorem d5_helped_123 : decode (mk_c M5_helped) 123 = .ok (.iinc 5 1, 3) := by decide +kernel
theorem d5_helped_126 : decode (mk_c M5_helped) 126 = .ok (.goto (-48), 3) := by decide +kernel
theorem d5_helped_129 : decode (mk_c M5_helped) 129 = .ok (.iinc 4 1, 3) := by decide +kernel
theorem d5_helped_132 : decode (mk_c M5_helped) 132 = .ok (.goto (-88), 3) := by decide +kernel
theorem d5_helped_135 : decode (mk_c M5_helped) 135 = .ok (.goto (-101), 3) := by decide +kernel
theorem d5_helped_138 : decode (mk_c M5_helped) 138 = .ok (.iconst 0, 1) := by decide +kernel
theorem d5_helped_139 : decode (mk_c M5_helped) 139 = .ok (.istore 4, 2) := by decide +kernel
theorem d5_helped_141 : decode (mk_c M5_helped) 141 = .ok (.iconst 0, 1) := by decide +kernel
theorem d5_helped_142 : decode (mk_c M5_helped) 142 = .ok (.istore 5, 2) := by decide +kernel
theorem d5_helped_144 : decode (mk_c M5_helped) 144 = .ok (.iload 5, 2) := by decide +kernel
theorem d5_helped_146 : decode (mk_c M5_helped) 146 = .ok (.aload_n 0, 1) := by decide +kernel
theorem d5_helped_147 : decode (mk_c M5_helped) 147 = .ok (.getfield 86, 3) := by decide +kernel
theorem d5_helped_150 : decode (mk_c M5_helped) 150 = .ok (.if_icmp .ge 42, 3) := by decide +kernel
theorem d5_helped_153 : decode (mk_c M5_helped) 153 = .ok (.iload 4, 2) := by decide +kernel
theorem d5_helped_155 : decode (mk_c M5_helped) 155 = .ok (.iload_n 2, 1) := by decide +kernel
theorem d5_helped_156 : decode (mk_c M5_helped) 156 = .ok (.iload 5, 2) := by decide +kernel
theorem d5_helped_158 : decode (mk_c M5_helped) 158 = .ok (.ishr, 1) := by decide +kernel
theorem d5_helped_159 : decode (mk_c M5_helped) 159 = .ok (.iconst 1, 1) := by decide +kernel
theorem d5_helped_160 : decode (mk_c M5_helped) 160 = .ok (.iand, 1) := by decide +kernel
theorem d5_helped_161 : decode (mk_c M5_helped) 161 = .ok (.iconst 1, 1) := by decide +kernel
theorem d5_helped_162 : decode (mk_c M5_helped) 162 = .ok (.if_icmp .ne 20, 3) := by decide +kernel
theorem d5_helped_165 : decode (mk_c M5_helped) 165 = .ok (.aload_n 0, 1) := by decide +kernel
theorem d5_helped_166 : decode (mk_c M5_helped) 166 = .ok (.getfield 13, 3) := by decide +kernel
theorem d5_helped_169 : decode (mk_c M5_helped) 169 = .ok (.iload 5, 2) := by decide +kernel
theorem d5_helped_171 : decode (mk_c M5_helped) 171 = .ok (.iaload, 1) := by decide +kernel
theorem d5_helped_172 : decode (mk_c M5_helped) 172 = .ok (.aload_n 0, 1) := by decide +kernel
theorem d5_helped_173 : decode (mk_c M5_helped) 173 = .ok (.iload 5, 2) := by decide +kernel
theorem d5_helped_175 : decode (mk_c M5_helped) 175 = .ok (.invokevirtual 269, 3) := by decide +kernel
theorem d5_helped_178 : decode (mk_c M5_helped) 178 = .ok (.iand, 1) := by decide +kernel
theorem d5_helped_179 : decode (mk_c M5_helped) 179 = .ok (.goto 4, 3) := by decide +kernel
theorem d5_helped_182 : decode (mk_c M5_helped) 182 = .ok (.iconst 0, 1) := by decide +kernel
theorem d5_helped_183 : decode (mk_c M5_helped) 183 = .ok (.ior, 1) := by decide +kernel
theorem d5_helped_184 : decode (mk_c M5_helped) 184 = .ok (.istore 4, 2) := by decide +kernel
theorem d5_helped_186 : decode (mk_c M5_helped) 186 = .ok (.iinc 5 1, 3) := by decide +kernel
theorem d5_helped_189 : decode (mk_c M5_helped) 189 = .ok (.goto (-45), 3) := by decide +kernel
theorem d5_helped_192 : decode (mk_c M5_helped) 192 = .ok (.iload 4, 2) := by decide +kernel
theorem d5_helped_194 : decode (mk_c M5_helped) 194 = .ok (.aload_n 0, 1) := by decide +kernel
theorem d5_helped_195 : decode (mk_c M5_helped) 195 = .ok (.getfield 13, 3) := by decide +kernel
theorem d5_helped_198 : decode (mk_c M5_helped) 198 = .ok (.iload_n 1, 1) := by decide +kernel
theorem d5_helped_199 : decode (mk_c M5_helped) 199 = .ok (.iaload, 1) := by decide +kernel
theorem d5_helped_200 : decode (mk_c M5_helped) 200 = .ok (.iconst (-1), 1) := by decide +kernel
theorem d5_helped_201 : decode (mk_c M5_helped) 201 = .ok (.ixor, 1) := by decide +kernel
theorem d5_helped_202 : decode (mk_c M5_helped) 202 = .ok (.iand, 1) := by decide +kernel
theorem d5_helped_203 : decode (mk_c M5_helped) 203 = .ok (.ireturn, 1) := by decide +kernel
theorem d5_trim_0 : decode (mk_c M5_trim) 0 = .ok (.aload_n 0, 1) := by decide +kernel
theorem d5_trim_1 : decode (mk_c M5_trim) 1 = .ok (.iconst 0, 1) := by decide +kernel
theorem d5_trim_2 : decode (mk_c M5_trim) 2 = .ok (.putfield 80, 3) := by decide +kernel
theorem d5_trim_5 : decode (mk_c M5_trim) 5 = .ok (.aload_n 0, 1) := by decide +kernel
theorem d5_trim_6 : decode (mk_c M5_trim) 6 = .ok (.invokevirtual 231, 3) := by decide +kernel
theorem d5_trim_9 : decode (mk_c M5_trim) 9 = .ok (.iconst 0, 1) := by decide +kernel
theorem d5_trim_10 : decode (mk_c M5_trim) 10 = .ok (.istore_n 1, 1) := by decide +kernel
theorem d5_trim_11 : decode (mk_c M5_trim) 11 = .ok (.iconst 0, 1) := by decide +kernel
theorem d5_trim_12 : decode (mk_c M5_trim) 12 = .ok (.istore_n 2, 1) := by decide +kernel
theorem d5_trim_13 : decode (mk_c M5_trim) 13 = .ok (.iload_n 2, 1) := by decide +kernel
theorem d5_trim_14 : decode (mk_c M5_trim) 14 = .ok (.aload_n 0, 1) := by decide +kernel
theorem d5_trim_15 : decode (mk_c M5_trim) 15 = .ok (.getfield 86, 3) := by decide +kernel
theorem d5_trim_18 : decode (mk_c M5_trim) 18 = .ok (.if_icmp .ge 43, 3) := by decide +kernel
theorem d5_trim_21 : decode (mk_c M5_trim) 21 = .ok (.aload_n 0, 1) := by decide +kernel
theorem d5_trim_22 : decode (mk_c M5_trim) 22 = .ok (.getfield 13, 3) := by decide +kernel
theorem d5_trim_25 : decode (mk_c M5_trim) 25 = .ok (.iload_n 2, 1) := by decide +kernel
theorem d5_trim_26 : decode (mk_c M5_trim) 26 = .ok (.iaload, 1) := by decide +kernel
theorem d5_trim_27 : decode (mk_c M5_trim) 27 = .ok (.aload_n 0, 1) := by decide +kernel
theorem d5_trim_28 : decode (mk_c M5_trim) 28 = .ok (.iload_n 2, 1) := by decide +kernel
theorem d5_trim_29 : decode (mk_c M5_trim) 29 = .ok (.invokevirtual 269, 3) := by decide +kernel
theorem d5_trim_32 : decode (mk_c M5_trim) 32 = .ok (.iconst (-1), 1) := by decide +kernel
theorem d5_trim_33 : decode (mk_c M5_trim) 33 = .ok (.ixor, 1) := by decide +kernel
theorem d5_trim_34 : decode (mk_c M5_trim) 34 = .ok (.iand, 1) := by decide +kernel
theorem d5_trim_35 : decode (mk_c M5_trim) 35 = .ok (.istore_n 3, 1) := by decide +kernel
theorem d5_trim_36 : decode (mk_c M5_trim) 36 = .ok (.iload_n 1, 1) := by decide +kernel
theorem d5_trim_37 : decode (mk_c M5_trim) 37 = .ok (.iload_n 3, 1) := by decide +kernel
theorem d5_trim_38 : decode (mk_c M5_trim) 38 = .ok (.invokestatic 244, 3) := by decide +kernel
theorem d5_trim_41 : decode (mk_c M5_trim) 41 = .ok (.iadd, 1) := by decide +kernel
theorem d5_trim_42 : decode (mk_c M5_trim) 42 = .ok (.istore_n 1, 1) := by decide +kernel
theorem d5_trim_43 : decode (mk_c M5_trim) 43 = .ok (.aload_n 0, 1) := by decide +kernel
theorem d5_trim_44 : decode (mk_c M5_trim) 44 = .ok (.getfield 13, 3) := by decide +kernel
theorem d5_trim_47 : decode (mk_c M5_trim) 47 = .ok (.iload_n 2, 1) := by decide +kernel
theorem d5_trim_48 : decode (mk_c M5_trim) 48 = .ok (.dup2, 1) := by decide +kernel
theorem d5_trim_49 : decode (mk_c M5_trim) 49 = .ok (.iaload, 1) := by decide +kernel
theorem d5_trim_50 : decode (mk_c M5_trim) 50 = .ok (.iload_n 3, 1) := by decide +kernel
theorem d5_trim_51 : decode (mk_c M5_trim) 51 = .ok (.iconst (-1), 1) := by decide +kernel
theorem d5_trim_52 : decode (mk_c M5_trim) 52 = .ok (.ixor, 1) := by decide +kernel
theorem d5_trim_53 : decode (mk_c M5_trim) 53 = .ok (.iand, 1) := by decide +kernel
theorem d5_trim_54 : decode (mk_c M5_trim) 54 = .ok (.iastore, 1) := by decide +kernel
theorem d5_trim_55 : decode (mk_c M5_trim) 55 = .ok (.iinc 2 1, 3) := by decide +kernel
theorem d5_trim_58 : decode (mk_c M5_trim) 58 = .ok (.goto (-45), 3) := by decide +kernel
theorem d5_trim_61 : decode (mk_c M5_trim) 61 = .ok (.iload_n 1, 1) := by decide +kernel
theorem d5_trim_62 : decode (mk_c M5_trim) 62 = .ok (.ireturn, 1) := by decide +kernel
theorem d5_cure_0 : decode (mk_c M5_cure) 0 = .ok (.aload_n 0, 1) := by decide +kernel
theorem d5_cure_1 : decode (mk_c M5_cure) 1 = .ok (.iconst 0, 1) := by decide +kernel
theorem d5_cure_2 : decode (mk_c M5_cure) 2 = .ok (.putfield 80, 3) := by decide +kernel
theorem d5_cure_5 : decode (mk_c M5_cure) 5 = .ok (.aload_n 0, 1) := by decide +kernel
theorem d5_cure_6 : decode (mk_c M5_cure) 6 = .ok (.invokevirtual 241, 3) := by decide +kernel
theorem d5_cure_9 : decode (mk_c M5_cure) 9 = .ok (.iconst 0, 1) := by decide +kernel
theorem d5_cure_10 : decode (mk_c M5_cure) 10 = .ok (.istore_n 1, 1) := by decide +kernel
theorem d5_cure_11 : decode (mk_c M5_cure) 11 = .ok (.iload_n 1, 1) := by decide +kernel
theorem d5_cure_12 : decode (mk_c M5_cure) 12 = .ok (.bipush 16, 2) := by decide +kernel
theorem d5_cure_14 : decode (mk_c M5_cure) 14 = .ok (.if_icmp .ge 28, 3) := by decide +kernel
theorem d5_cure_17 : decode (mk_c M5_cure) 17 = .ok (.aload_n 0, 1) := by decide +kernel
theorem d5_cure_18 : decode (mk_c M5_cure) 18 = .ok (.getfield 77, 3) := by decide +kernel
theorem d5_cure_21 : decode (mk_c M5_cure) 21 = .ok (.iload_n 1, 1) := by decide +kernel
theorem d5_cure_22 : decode (mk_c M5_cure) 22 = .ok (.aload_n 0, 1) := by decide +kernel
theorem d5_cure_23 : decode (mk_c M5_cure) 23 = .ok (.getfield 58, 3) := by decide +kernel
theorem d5_cure_26 : decode (mk_c M5_cure) 26 = .ok (.iload_n 1, 1) := by decide +kernel
theorem d5_cure_27 : decode (mk_c M5_cure) 27 = .ok (.iaload, 1) := by decide +kernel
theorem d5_cure_28 : decode (mk_c M5_cure) 28 = .ok (.aload_n 0, 1) := by decide +kernel
theorem d5_cure_29 : decode (mk_c M5_cure) 29 = .ok (.getfield 20, 3) := by decide +kernel
theorem d5_cure_32 : decode (mk_c M5_cure) 32 = .ok (.iload_n 1, 1) := by decide +kernel
theorem d5_cure_33 : decode (mk_c M5_cure) 33 = .ok (.iaload, 1) := by decide +kernel
theorem d5_cure_34 : decode (mk_c M5_cure) 34 = .ok (.iand, 1) := by decide +kernel
theorem d5_cure_35 : decode (mk_c M5_cure) 35 = .ok (.iastore, 1) := by decide +kernel
theorem d5_cure_36 : decode (mk_c M5_cure) 36 = .ok (.iinc 1 1, 3) := by decide +kernel
theorem d5_cure_39 : decode (mk_c M5_cure) 39 = .ok (.goto (-28), 3) := by decide +kernel
theorem d5_cure_42 : decode (mk_c M5_cure) 42 = .ok (.aload_n 0, 1) := by decide +kernel
theorem d5_cure_43 : decode (mk_c M5_cure) 43 = .ok (.invokevirtual 247, 3) := by decide +kernel
theorem d5_cure_46 : decode (mk_c M5_cure) 46 = .ok (.ifCond .ne 14, 3) := by decide +kernel
theorem d5_cure_49 : decode (mk_c M5_cure) 49 = .ok (.aload_n 0, 1) := by decide +kernel
theorem d5_cure_50 : decode (mk_c M5_cure) 50 = .ok (.iconst 0, 1) := by decide +kernel
theorem d5_cure_51 : decode (mk_c M5_cure) 51 = .ok (.putfield 272, 3) := by decide +kernel
theorem d5_cure_54 : decode (mk_c M5_cure) 54 = .ok (.aload_n 0, 1) := by decide +kernel
theorem d5_cure_55 : decode (mk_c M5_cure) 55 = .ok (.iconst 0, 1) := by decide +kernel
theorem d5_cure_56 : decode (mk_c M5_cure) 56 = .ok (.invokevirtual 98, 3) := by decide +kernel
theorem d5_cure_59 : decode (mk_c M5_cure) 59 = .ok (.ireturn, 1) := by decide +kernel
theorem d5_cure_60 : decode (mk_c M5_cure) 60 = .ok (.iconst 0, 1) := by decide +kernel
theorem d5_cure_61 : decode (mk_c M5_cure) 61 = .ok (.istore_n 1, 1) := by decide +kernel
theorem d5_cure_62 : decode (mk_c M5_cure) 62 = .ok (.iconst 0, 1) := by decide +kernel
theorem d5_cure_63 : decode (mk_c M5_cure) 63 = .ok (.istore_n 2, 1) := by decide +kernel
theorem d5_cure_64 : decode (mk_c M5_cure) 64 = .ok (.iload_n 2, 1) := by decide +kernel
theorem d5_cure_65 : decode (mk_c M5_cure) 65 = .ok (.aload_n 0, 1) := by decide +kernel
theorem d5_cure_66 : decode (mk_c M5_cure) 66 = .ok (.getfield 86, 3) := by decide +kernel
theorem d5_cure_69 : decode (mk_c M5_cure) 69 = .ok (.if_icmp .ge 79, 3) := by decide +kernel
theorem d5_cure_72 : decode (mk_c M5_cure) 72 = .ok (.aload_n 0, 1) := by decide +kernel
theorem d5_cure_73 : decode (mk_c M5_cure) 73 = .ok (.getfield 13, 3) := by decide +kernel
theorem d5_cure_76 : decode (mk_c M5_cure) 76 = .ok (.iload_n 2, 1) := by decide +kernel
theorem d5_cure_77 : decode (mk_c M5_cure) 77 = .ok (.iaload, 1) := by decide +kernel
theorem d5_cure_78 : decode (mk_c M5_cure) 78 = .ok (.aload_n 0, 1) := by decide +kernel
theorem d5_cure_79 : decode (mk_c M5_cure) 79 = .ok (.iload_n 2, 1) := by decide +kernel
theorem d5_cure_80 : decode (mk_c M5_cure) 80 = .ok (.invokevirtual 269, 3) := by decide +kernel
theorem d5_cure_83 : decode (mk_c M5_cure) 83 = .ok (.iand, 1) := by decide +kernel
theorem d5_cure_84 : decode (mk_c M5_cure) 84 = .ok (.istore_n 3, 1) := by decide +kernel
theorem d5_cure_85 : decode (mk_c M5_cure) 85 = .ok (.iconst 0, 1) := by decide +kernel
theorem d5_cure_86 : decode (mk_c M5_cure) 86 = .ok (.istore 4, 2) := by decide +kernel
theorem d5_cure_88 : decode (mk_c M5_cure) 88 = .ok (.iload 4, 2) := by decide +kernel
theorem d5_cure_90 : decode (mk_c M5_cure) 90 = .ok (.bipush 16, 2) := by decide +kernel
theorem d5_cure_92 : decode (mk_c M5_cure) 92 = .ok (.if_icmp .ge 50, 3) := by decide +kernel
theorem d5_cure_95 : decode (mk_c M5_cure) 95 = .ok (.iload_n 3, 1) := by decide +kernel
theorem d5_cure_96 : decode (mk_c M5_cure) 96 = .ok (.iload 4, 2) := by decide +kernel
theorem d5_cure_98 : decode (mk_c M5_cure) 98 = .ok (.ishr, 1) := by decide +kernel
theorem d5_cure_99 : decode (mk_c M5_cure) 99 = .ok (.iconst 1, 1) := by decide +kernel
theorem d5_cure_100 : decode (mk_c M5_cure) 100 = .ok (.iand, 1) := by decide +kernel
theorem d5_cure_101 : decode (mk_c M5_cure) 101 = .ok (.ifCond .ne 6, 3) := by decide +kernel
theorem d5_cure_104 : decode (mk_c M5_cure) 104 = .ok (.goto 32, 3) := by decide +kernel
theorem d5_cure_107 : decode (mk_c M5_cure) 107 = .ok (.iload_n 1, 1) := by decide +kernel
theorem d5_cure_108 : decode (mk_c M5_cure) 108 = .ok (.bipush 10, 2) := by decide +kernel
theorem d5_cure_110 : decode (mk_c M5_cure) 110 = .ok (.if_icmp .ne 10, 3) := by decide +kernel
theorem d5_cure_113 : decode (mk_c M5_cure) 113 = .ok (.aload_n 0, 1) := by decide +kernel
theorem d5_cure_114 : decode (mk_c M5_cure) 114 = .ok (.bipush 6, 2) := by decide +kernel
theorem d5_cure_116 : decode (mk_c M5_cure) 116 = .ok (.invokevirtual 94, 3) := by decide +kernel
theorem d5_cure_119 : decode (mk_c M5_cure) 119 = .ok (.ireturn, 1) := by decide +kernel
theorem d5_cure_120 : decode (mk_c M5_cure) 120 = .ok (.aload_n 0, 1) := by decide +kernel
theorem d5_cure_121 : decode (mk_c M5_cure) 121 = .ok (.getfield 71, 3) := by decide +kernel
theorem d5_cure_124 : decode (mk_c M5_cure) 124 = .ok (.iload_n 1, 1) := by decide +kernel
theorem d5_cure_125 : decode (mk_c M5_cure) 125 = .ok (.bipush 100, 2) := by decide +kernel
theorem d5_cure_127 : decode (mk_c M5_cure) 127 = .ok (.iload_n 2, 1) := by decide +kernel
theorem d5_cure_128 : decode (mk_c M5_cure) 128 = .ok (.imul, 1) := by decide +kernel
theorem d5_cure_129 : decode (mk_c M5_cure) 129 = .ok (.iload 4, 2) := by decide +kernel
theorem d5_cure_131 : decode (mk_c M5_cure) 131 = .ok (.iadd, 1) := by decide +kernel
theorem d5_cure_132 : decode (mk_c M5_cure) 132 = .ok (.iastore, 1) := by decide +kernel
theorem d5_cure_133 : decode (mk_c M5_cure) 133 = .ok (.iinc 1 1, 3) := by decide +kernel
theorem d5_cure_136 : decode (mk_c M5_cure) 136 = .ok (.iinc 4 1, 3) := by decide +kernel
theorem d5_cure_139 : decode (mk_c M5_cure) 139 = .ok (.goto (-51), 3) := by decide +kernel
theorem d5_cure_142 : decode (mk_c M5_cure) 142 = .ok (.iinc 2 1, 3) := by decide +kernel
theorem d5_cure_145 : decode (mk_c M5_cure) 145 = .ok (.goto (-81), 3) := by decide +kernel
theorem d5_cure_148 : decode (mk_c M5_cure) 148 = .ok (.iconst (-1), 1) := by decide +kernel
theorem d5_cure_149 : decode (mk_c M5_cure) 149 = .ok (.istore_n 2, 1) := by decide +kernel
theorem d5_cure_150 : decode (mk_c M5_cure) 150 = .ok (.iconst 1, 1) := by decide +kernel
theorem d5_cure_151 : decode (mk_c M5_cure) 151 = .ok (.istore_n 3, 1) := by decide +kernel
theorem d5_cure_152 : decode (mk_c M5_cure) 152 = .ok (.iload_n 3, 1) := by decide +kernel
theorem d5_cure_153 : decode (mk_c M5_cure) 153 = .ok (.iconst 1, 1) := by decide +kernel
theorem d5_cure_154 : decode (mk_c M5_cure) 154 = .ok (.iload_n 1, 1) := by decide +kernel
theorem d5_cure_155 : decode (mk_c M5_cure) 155 = .ok (.ishl, 1) := by decide +kernel
theorem d5_cure_156 : decode (mk_c M5_cure) 156 = .ok (.if_icmp .ge 128, 3) := by decide +kernel
theorem d5_cure_159 : decode (mk_c M5_cure) 159 = .ok (.iload_n 2, 1) := by decide +kernel
theorem d5_cure_160 : decode (mk_c M5_cure) 160 = .ok (.iconst (-1), 1) := by decide +kernel
theorem d5_cure_161 : decode (mk_c M5_cure) 161 = .ok (.if_icmp .eq 36, 3) := by decide +kernel
theorem d5_cure_164 : decode (mk_c M5_cure) 164 = .ok (.iload_n 3, 1) := by decide +kernel
theorem d5_cure_165 : decode (mk_c M5_cure) 165 = .ok (.invokestatic 244, 3) := by decide +kernel
theorem d5_cure_168 : decode (mk_c M5_cure) 168 = .ok (.iload_n 2, 1) := by decide +kernel
theorem d5_cure_169 : decode (mk_c M5_cure) 169 = .ok (.invokestatic 244, 3) := by decide +kernel
theorem d5_cure_172 : decode (mk_c M5_cure) 172 = .ok (.if_icmp .gt 106, 3) := by decide +kernel
theorem d5_cure_175 : decode (mk_c M5_cure) 175 = .ok (.iload_n 3, 1) := by decide +kernel
theorem d5_cure_176 : decode (mk_c M5_cure) 176 = .ok (.invokestatic 244, 3) := by decide +kernel
theorem d5_cure_179 : decode (mk_c M5_cure) 179 = .ok (.iload_n 2, 1) := by decide +kernel
theorem d5_cure_180 : decode (mk_c M5_cure) 180 = .ok (.invokestatic 244, 3) := by decide +kernel
theorem d5_cure_183 : decode (mk_c M5_cure) 183 = .ok (.if_icmp .ne 14, 3) := by decide +kernel
theorem d5_cure_186 : decode (mk_c M5_cure) 186 = .ok (.iload_n 3, 1) := by decide +kernel
theorem d5_cure_187 : decode (mk_c M5_cure) 187 = .ok (.iload_n 2, 1) := by decide +kernel
theorem d5_cure_188 : decode (mk_c M5_cure) 188 = .ok (.invokestatic 275, 3) := by decide +kernel
theorem d5_cure_191 : decode (mk_c M5_cure) 191 = .ok (.ifCond .ne 6, 3) := by decide +kernel
theorem d5_cure_194 : decode (mk_c M5_cure) 194 = .ok (.goto 84, 3) := by decide +kernel
theorem d5_cure_197 : decode (mk_c M5_cure) 197 = .ok (.iconst 0, 1) := by decide +kernel
theorem d5_cure_198 : decode (mk_c M5_cure) 198 = .ok (.istore 4, 2) := by decide +kernel
theorem d5_cure_200 : decode (mk_c M5_cure) 200 = .ok (.iload 4, 2) := by decide +kernel
theorem d5_cure_202 : decode (mk_c M5_cure) 202 = .ok (.iload_n 1, 1) := by decide +kernel
theorem d5_cure_203 : decode (mk_c M5_cure) 203 = .ok (.if_icmp .ge 30, 3) := by decide +kernel
theorem d5_cure_206 : decode (mk_c M5_cure) 206 = .ok (.iload_n 3, 1) := by decide +kernel
theorem d5_cure_207 : decode (mk_c M5_cure) 207 = .ok (.iload 4, 2) := by decide +kernel
theorem d5_cure_209 : decode (mk_c M5_cure) 209 = .ok (.ishr, 1) := by decide +kernel
theorem d5_cure_210 : decode (mk_c M5_cure) 210 = .ok (.iconst 1, 1) := by decide +kernel
theorem d5_cure_211 : decode (mk_c M5_cure) 211 = .ok (.iand, 1) := by decide +kernel
theorem d5_cure_212 : decode (mk_c M5_cure) 212 = .ok (.iconst 1, 1) := by decide +kernel
theorem d5_cure_213 : decode (mk_c M5_cure) 213 = .ok (.if_icmp .ne 14, 3) := by decide +kernel
theorem d5_cure_216 : decode (mk_c M5_cure) 216 = .ok (.aload_n 0, 1) := by decide +kernel
theorem d5_cure_217 : decode (mk_c M5_cure) 217 = .ok (.aload_n 0, 1) := by decide +kernel
theorem d5_cure_218 : decode (mk_c M5_cure) 218 = .ok (.getfield 71, 3) := by decide +kernel
theorem d5_cure_221 : decode (mk_c M5_cure) 221 = .ok (.iload 4, 2) := by decide +kernel
theorem d5_cure_223 : decode (mk_c M5_cure) 223 = .ok (.iaload, 1) := by decide +kernel
theorem d5_cure_224 : decode (mk_c M5_cure) 224 = .ok (.invokevirtual 278, 3) := by decide +kernel
theorem d5_cure_227 : decode (mk_c M5_cure) 227 = .ok (.iinc 4 1, 3) := by decide +kernel
theorem d5_cure_230 : decode (mk_c M5_cure) 230 = .ok (.goto (-30), 3) := by decide +kernel
theorem d5_cure_233 : decode (mk_c M5_cure) 233 = .ok (.aload_n 0, 1) := by decide +kernel
theorem d5_cure_234 : decode (mk_c M5_cure) 234 = .ok (.invokevirtual 281, 3) := by decide +kernel
theorem d5_cure_237 : decode (mk_c M5_cure) 237 = .ok (.ifCond .eq 5, 3) := by decide +kernel
theorem d5_cure_240 : decode (mk_c M5_cure) 240 = .ok (.iload_n 3, 1) := by decide +kernel
theorem d5_cure_241 : decode (mk_c M5_cure) 241 = .ok (.istore_n 2, 1) := by decide +kernel
theorem d5_cure_242 : decode (mk_c M5_cure) 242 = .ok (.iconst 0, 1) := by decide +kernel
theorem d5_cure_243 : decode (mk_c M5_cure) 243 = .ok (.istore 4, 2) := by decide +kernel
theorem d5_cure_245 : decode (mk_c M5_cure) 245 = .ok (.iload 4, 2) := by decide +kernel
theorem d5_cure_247 : decode (mk_c M5_cure) 247 = .ok (.iload_n 1, 1) := by decide +kernel
theorem d5_cure_248 : decode (mk_c M5_cure) 248 = .ok (.if_icmp .ge 30, 3) := by decide +kernel
theorem d5_cure_251 : decode (mk_c M5_cure) 251 = .ok (.iload_n 3, 1) := by decide +kernel
theorem d5_cure_252 : decode (mk_c M5_cure) 252 = .ok (.iload 4, 2) := by decide +kernel
theorem d5_cure_254 : decode (mk_c M5_cure) 254 = .ok (.ishr, 1) := by decide +kernel
theorem d5_cure_255 : decode (mk_c M5_cure) 255 = .ok (.iconst 1, 1) := by decide +kernel
theorem d5_cure_256 : decode (mk_c M5_cure) 256 = .ok (.iand, 1) := by decide +kernel
theorem d5_cure_257 : decode (mk_c M5_cure) 257 = .ok (.iconst 1, 1) := by decide +kernel
theorem d5_cure_258 : decode (mk_c M5_cure) 258 = .ok (.if_icmp .ne 14, 3) := by decide +kernel
theorem d5_cure_261 : decode (mk_c M5_cure) 261 = .ok (.aload_n 0, 1) := by decide +kernel
theorem d5_cure_262 : decode (mk_c M5_cure) 262 = .ok (.aload_n 0, 1) := by decide +kernel
theorem d5_cure_263 : decode (mk_c M5_cure) 263 = .ok (.getfield 71, 3) := by decide +kernel
theorem d5_cure_266 : decode (mk_c M5_cure) 266 = .ok (.iload 4, 2) := by decide +kernel
theorem d5_cure_268 : decode (mk_c M5_cure) 268 = .ok (.iaload, 1) := by decide +kernel
theorem d5_cure_269 : decode (mk_c M5_cure) 269 = .ok (.invokevirtual 278, 3) := by decide +kernel
theorem d5_cure_272 : decode (mk_c M5_cure) 272 = .ok (.iinc 4 1, 3) := by decide +kernel
theorem d5_cure_275 : decode (mk_c M5_cure) 275 = .ok (.goto (-30), 3) := by decide +kernel
theorem d5_cure_278 : decode (mk_c M5_cure) 278 = .ok (.iinc 3 1, 3) := by decide +kernel
theorem d5_cure_281 : decode (mk_c M5_cure) 281 = .ok (.goto (-129), 3) := by decide +kernel
theorem d5_cure_284 : decode (mk_c M5_cure) 284 = .ok (.iload_n 2, 1) := by decide +kernel
theorem d5_cure_285 : decode (mk_c M5_cure) 285 = .ok (.iconst (-1), 1) := by decide +kernel
theorem d5_cure_286 : decode (mk_c M5_cure) 286 = .ok (.if_icmp .ne 9, 3) := by decide +kernel
theorem d5_cure_289 : decode (mk_c M5_cure) 289 = .ok (.aload_n 0, 1) := by decide +kernel
theorem d5_cure_290 : decode (mk_c M5_cure) 290 = .ok (.iconst 5, 1) := by decide +kernel
theorem d5_cure_291 : decode (mk_c M5_cure) 291 = .ok (.invokevirtual 94, 3) := by decide +kernel
theorem d5_cure_294 : decode (mk_c M5_cure) 294 = .ok (.ireturn, 1) := by decide +kernel
theorem d5_cure_295 : decode (mk_c M5_cure) 295 = .ok (.aload_n 0, 1) := by decide +kernel
theorem d5_cure_296 : decode (mk_c M5_cure) 296 = .ok (.iconst 0, 1) := by decide +kernel
theorem d5_cure_297 : decode (mk_c M5_cure) 297 = .ok (.putfield 272, 3) := by decide +kernel
theorem d5_cure_300 : decode (mk_c M5_cure) 300 = .ok (.iconst 0, 1) := by decide +kernel
theorem d5_cure_301 : decode (mk_c M5_cure) 301 = .ok (.istore_n 3, 1) := by decide +kernel
theorem d5_cure_302 : decode (mk_c M5_cure) 302 = .ok (.iload_n 3, 1) := by decide +kernel
theorem d5_cure_303 : decode (mk_c M5_cure) 303 = .ok (.iload_n 1, 1) := by decide +kernel
theorem d5_cure_304 : decode (mk_c M5_cure) 304 = .ok (.if_icmp .ge 45, 3) := by decide +kernel
theorem d5_cure_307 : decode (mk_c M5_cure) 307 = .ok (.iload_n 2, 1) := by decide +kernel
theorem d5_cure_308 : decode (mk_c M5_cure) 308 = .ok (.iload_n 3, 1) := by decide +kernel
theorem d5_cure_309 : decode (mk_c M5_cure) 309 = .ok (.ishr, 1) := by decide +kernel
theorem d5_cure_310 : decode (mk_c M5_cure) 310 = .ok (.iconst 1, 1) := by decide +kernel
theorem d5_cure_311 : decode (mk_c M5_cure) 311 = .ok (.iand, 1) := by decide +kernel
theorem d5_cure_312 : decode (mk_c M5_cure) 312 = .ok (.ifCond .ne 6, 3) := by decide +kernel
theorem d5_cure_315 : decode (mk_c M5_cure) 315 = .ok (.goto 28, 3) := by decide +kernel
theorem d5_cure_318 : decode (mk_c M5_cure) 318 = .ok (.aload_n 0, 1) := by decide +kernel
theorem d5_cure_319 : decode (mk_c M5_cure) 319 = .ok (.getfield 74, 3) := by decide +kernel
theorem d5_cure_322 : decode (mk_c M5_cure) 322 = .ok (.aload_n 0, 1) := by decide +kernel
theorem d5_cure_323 : decode (mk_c M5_cure) 323 = .ok (.getfield 272, 3) := by decide +kernel
theorem d5_cure_326 : decode (mk_c M5_cure) 326 = .ok (.aload_n 0, 1) := by decide +kernel
theorem d5_cure_327 : decode (mk_c M5_cure) 327 = .ok (.getfield 71, 3) := by decide +kernel
theorem d5_cure_330 : decode (mk_c M5_cure) 330 = .ok (.iload_n 3, 1) := by decide +kernel
theorem d5_cure_331 : decode (mk_c M5_cure) 331 = .ok (.iaload, 1) := by decide +kernel
theorem d5_cure_332 : decode (mk_c M5_cure) 332 = .ok (.iastore, 1) := by decide +kernel
theorem d5_cure_333 : decode (mk_c M5_cure) 333 = .ok (.aload_n 0, 1) := by decide +kernel
theorem d5_cure_334 : decode (mk_c M5_cure) 334 = .ok (.dup, 1) := by decide +kernel
theorem d5_cure_335 : decode (mk_c M5_cure) 335 = .ok (.getfield 272, 3) := by decide +kernel
theorem d5_cure_338 : decode (mk_c M5_cure) 338 = .ok (.iconst 1, 1) := by decide +kernel
theorem d5_cure_339 : decode (mk_c M5_cure) 339 = .ok (.iadd, 1) := by decide +kernel
theorem d5_cure_340 : decode (mk_c M5_cure) 340 = .ok (.putfield 272, 3) := by decide +kernel
theorem d5_cure_343 : decode (mk_c M5_cure) 343 = .ok (.iinc 3 1, 3) := by decide +kernel
theorem d5_cure_346 : decode (mk_c M5_cure) 346 = .ok (.goto (-44), 3) := by decide +kernel
theorem d5_cure_349 : decode (mk_c M5_cure) 349 = .ok (.aload_n 0, 1) := by decide +kernel
theorem d5_cure_350 : decode (mk_c M5_cure) 350 = .ok (.aload_n 0, 1) := by decide +kernel
theorem d5_cure_351 : decode (mk_c M5_cure) 351 = .ok (.getfield 272, 3) := by decide +kernel
theorem d5_cure_354 : decode (mk_c M5_cure) 354 = .ok (.invokevirtual 98, 3) := by decide +kernel
theorem d5_cure_357 : decode (mk_c M5_cure) 357 = .ok (.ireturn, 1) := by decide +kernel
theorem d5_isAhead_0 : decode (mk_c M5_isAhead) 0 = .ok (.iload_n 0, 1) := by decide +kernel
theorem d5_isAhead_1 : decode (mk_c M5_isAhead) 1 = .ok (.iload_n 1, 1) := by decide +kernel
theorem d5_isAhead_2 : decode (mk_c M5_isAhead) 2 = .ok (.ixor, 1) := by decide +kernel
theorem d5_isAhead_3 : decode (mk_c M5_isAhead) 3 = .ok (.istore_n 2, 1) := by decide +kernel
theorem d5_isAhead_4 : decode (mk_c M5_isAhead) 4 = .ok (.iload_n 2, 1) := by decide +kernel
theorem d5_isAhead_5 : decode (mk_c M5_isAhead) 5 = .ok (.iload_n 2, 1) := by decide +kernel
theorem d5_isAhead_6 : decode (mk_c M5_isAhead) 6 = .ok (.ineg, 1) := by decide +kernel
theorem d5_isAhead_7 : decode (mk_c M5_isAhead) 7 = .ok (.iand, 1) := by decide +kernel
theorem d5_isAhead_8 : decode (mk_c M5_isAhead) 8 = .ok (.iload_n 0, 1) := by decide +kernel
theorem d5_isAhead_9 : decode (mk_c M5_isAhead) 9 = .ok (.iand, 1) := by decide +kernel
theorem d5_isAhead_10 : decode (mk_c M5_isAhead) 10 = .ok (.ifCond .eq 7, 3) := by decide +kernel
theorem d5_isAhead_13 : decode (mk_c M5_isAhead) 13 = .ok (.iconst 1, 1) := by decide +kernel
theorem d5_isAhead_14 : decode (mk_c M5_isAhead) 14 = .ok (.goto 4, 3) := by decide +kernel
theorem d5_isAhead_17 : decode (mk_c M5_isAhead) 17 = .ok (.iconst 0, 1) := by decide +kernel
theorem d5_isAhead_18 : decode (mk_c M5_isAhead) 18 = .ok (.ireturn, 1) := by decide +kernel
theorem d5_turns_0 : decode (mk_c M5_turns) 0 = .ok (.aload_n 0, 1) := by decide +kernel
theorem d5_turns_1 : decode (mk_c M5_turns) 1 = .ok (.getfield 13, 3) := by decide +kernel
theorem d5_turns_4 : decode (mk_c M5_turns) 4 = .ok (.iload_n 1, 1) := by decide +kernel
theorem d5_turns_5 : decode (mk_c M5_turns) 5 = .ok (.bipush 100, 2) := by decide +kernel
theorem d5_turns_7 : decode (mk_c M5_turns) 7 = .ok (.idiv, 1) := by decide +kernel
theorem d5_turns_8 : decode (mk_c M5_turns) 8 = .ok (.dup2, 1) := by decide +kernel
theorem d5_turns_9 : decode (mk_c M5_turns) 9 = .ok (.iaload, 1) := by decide +kernel
theorem d5_turns_10 : decode (mk_c M5_turns) 10 = .ok (.iconst 1, 1) := by decide +kernel
theorem d5_turns_11 : decode (mk_c M5_turns) 11 = .ok (.iload_n 1, 1) := by decide +kernel
theorem d5_turns_12 : decode (mk_c M5_turns) 12 = .ok (.bipush 100, 2) := by decide +kernel
theorem d5_turns_14 : decode (mk_c M5_turns) 14 = .ok (.irem, 1) := by decide +kernel
theorem d5_turns_15 : decode (mk_c M5_turns) 15 = .ok (.ishl, 1) := by decide +kernel
theorem d5_turns_16 : decode (mk_c M5_turns) 16 = .ok (.ixor, 1) := by decide +kernel
theorem d5_turns_17 : decode (mk_c M5_turns) 17 = .ok (.iastore, 1) := by decide +kernel
theorem d5_turns_18 : decode (mk_c M5_turns) 18 = .ok (.return_, 1) := by decide +kernel
theorem d5_isWell_0 : decode (mk_c M5_isWell) 0 = .ok (.aload_n 0, 1) := by decide +kernel
theorem d5_isWell_1 : decode (mk_c M5_isWell) 1 = .ok (.invokevirtual 241, 3) := by decide +kernel
theorem d5_isWell_4 : decode (mk_c M5_isWell) 4 = .ok (.iconst 1, 1) := by decide +kernel
theorem d5_isWell_5 : decode (mk_c M5_isWell) 5 = .ok (.istore_n 1, 1) := by decide +kernel
theorem d5_isWell_6 : decode (mk_c M5_isWell) 6 = .ok (.iconst 0, 1) := by decide +kernel
theorem d5_isWell_7 : decode (mk_c M5_isWell) 7 = .ok (.istore_n 2, 1) := by decide +kernel
theorem d5_isWell_8 : decode (mk_c M5_isWell) 8 = .ok (.iload_n 2, 1) := by decide +kernel
theorem d5_isWell_9 : decode (mk_c M5_isWell) 9 = .ok (.bipush 16, 2) := by decide +kernel
theorem d5_isWell_11 : decode (mk_c M5_isWell) 11 = .ok (.if_icmp .ge 34, 3) := by decide +kernel
theorem d5_isWell_14 : decode (mk_c M5_isWell) 14 = .ok (.iload_n 1, 1) := by decide +kernel
theorem d5_isWell_15 : decode (mk_c M5_isWell) 15 = .ok (.ifCond .eq 22, 3) := by decide +kernel
theorem d5_isWell_18 : decode (mk_c M5_isWell) 18 = .ok (.aload_n 0, 1) := by decide +kernel
theorem d5_isWell_19 : decode (mk_c M5_isWell) 19 = .ok (.getfield 58, 3) := by decide +kernel
theorem d5_isWell_22 : decode (mk_c M5_isWell) 22 = .ok (.iload_n 2, 1) := by decide +kernel
theorem d5_isWell_23 : decode (mk_c M5_isWell) 23 = .ok (.iaload, 1) := by decide +kernel
theorem d5_isWell_24 : decode (mk_c M5_isWell) 24 = .ok (.aload_n 0, 1) := by decide +kernel
theorem d5_isWell_25 : decode (mk_c M5_isWell) 25 = .ok (.getfield 77, 3) := by decide +kernel
theorem d5_isWell_28 : decode (mk_c M5_isWell) 28 = .ok (.iload_n 2, 1) := by decide +kernel
theorem d5_isWell_29 : decode (mk_c M5_isWell) 29 = .ok (.iaload, 1) := by decide +kernel
theorem d5_isWell_30 : decode (mk_c M5_isWell) 30 = .ok (.if_icmp .ne 7, 3) := by decide +kernel
theorem d5_isWell_33 : decode (mk_c M5_isWell) 33 = .ok (.iconst 1, 1) := by decide +kernel
theorem d5_isWell_34 : decode (mk_c M5_isWell) 34 = .ok (.goto 4, 3) := by decide +kernel
theorem d5_isWell_37 : decode (mk_c M5_isWell) 37 = .ok (.iconst 0, 1) := by decide +kernel
theorem d5_isWell_38 : decode (mk_c M5_isWell) 38 = .ok (.istore_n 1, 1) := by decide +kernel
theorem d5_isWell_39 : decode (mk_c M5_isWell) 39 = .ok (.iinc 2 1, 3) := by decide +kernel
theorem d5_isWell_42 : decode (mk_c M5_isWell) 42 = .ok (.goto (-34), 3) := by decide +kernel
theorem d5_isWell_45 : decode (mk_c M5_isWell) 45 = .ok (.iload_n 1, 1) := by decide +kernel
theorem d5_isWell_46 : decode (mk_c M5_isWell) 46 = .ok (.ireturn, 1) := by decide +kernel
theorem d5_cured_0 : decode (mk_c M5_cured) 0 = .ok (.aload_n 0, 1) := by decide +kernel
theorem d5_cured_1 : decode (mk_c M5_cured) 1 = .ok (.iconst 0, 1) := by decide +kernel
theorem d5_cured_2 : decode (mk_c M5_cured) 2 = .ok (.putfield 80, 3) := by decide +kernel
theorem d5_cured_5 : decode (mk_c M5_cured) 5 = .ok (.iload_n 1, 1) := by decide +kernel
theorem d5_cured_6 : decode (mk_c M5_cured) 6 = .ok (.ifCond .lt 20, 3) := by decide +kernel
theorem d5_cured_9 : decode (mk_c M5_cured) 9 = .ok (.iload_n 1, 1) := by decide +kernel
theorem d5_cured_10 : decode (mk_c M5_cured) 10 = .ok (.aload_n 0, 1) := by decide +kernel
theorem d5_cured_11 : decode (mk_c M5_cured) 11 = .ok (.getfield 272, 3) := by decide +kernel
theorem d5_cured_14 : decode (mk_c M5_cured) 14 = .ok (.if_icmp .ge 12, 3) := by decide +kernel
theorem d5_cured_17 : decode (mk_c M5_cured) 17 = .ok (.aload_n 0, 1) := by decide +kernel
theorem d5_cured_18 : decode (mk_c M5_cured) 18 = .ok (.getfield 74, 3) := by decide +kernel
theorem d5_cured_21 : decode (mk_c M5_cured) 21 = .ok (.iload_n 1, 1) := by decide +kernel
theorem d5_cured_22 : decode (mk_c M5_cured) 22 = .ok (.iaload, 1) := by decide +kernel
theorem d5_cured_23 : decode (mk_c M5_cured) 23 = .ok (.goto 4, 3) := by decide +kernel
theorem d5_cured_26 : decode (mk_c M5_cured) 26 = .ok (.iconst (-1), 1) := by decide +kernel
theorem d5_cured_27 : decode (mk_c M5_cured) 27 = .ok (.ireturn, 1) := by decide +kernel
theorem d5_without_0 : decode (mk_c M5_without) 0 = .ok (.aload_n 0, 1) := by decide +kernel
theorem d5_without_1 : decode (mk_c M5_without) 1 = .ok (.iconst 0, 1) := by decide +kernel
theorem d5_without_2 : decode (mk_c M5_without) 2 = .ok (.putfield 80, 3) := by decide +kernel
theorem d5_without_5 : decode (mk_c M5_without) 5 = .ok (.aload_n 0, 1) := by decide +kernel
theorem d5_without_6 : decode (mk_c M5_without) 6 = .ok (.iload_n 1, 1) := by decide +kernel
theorem d5_without_7 : decode (mk_c M5_without) 7 = .ok (.invokevirtual 101, 3) := by decide +kernel
theorem d5_without_10 : decode (mk_c M5_without) 10 = .ok (.ifCond .ne 9, 3) := by decide +kernel
theorem d5_without_13 : decode (mk_c M5_without) 13 = .ok (.aload_n 0, 1) := by decide +kernel
theorem d5_without_14 : decode (mk_c M5_without) 14 = .ok (.iconst 1, 1) := by decide +kernel
theorem d5_without_15 : decode (mk_c M5_without) 15 = .ok (.invokevirtual 94, 3) := by decide +kernel
theorem d5_without_18 : decode (mk_c M5_without) 18 = .ok (.ireturn, 1) := by decide +kernel
theorem d5_without_19 : decode (mk_c M5_without) 19 = .ok (.iload_n 2, 1) := by decide +kernel
theorem d5_without_20 : decode (mk_c M5_without) 20 = .ok (.invokestatic 228, 3) := by decide +kernel
theorem d5_without_23 : decode (mk_c M5_without) 23 = .ok (.ifCond .ne 9, 3) := by decide +kernel
theorem d5_without_26 : decode (mk_c M5_without) 26 = .ok (.aload_n 0, 1) := by decide +kernel
theorem d5_without_27 : decode (mk_c M5_without) 27 = .ok (.iconst 2, 1) := by decide +kernel
theorem d5_without_28 : decode (mk_c M5_without) 28 = .ok (.invokevirtual 94, 3) := by decide +kernel
theorem d5_without_31 : decode (mk_c M5_without) 31 = .ok (.ireturn, 1) := by decide +kernel
theorem d5_without_32 : decode (mk_c M5_without) 32 = .ok (.aload_n 0, 1) := by decide +kernel
theorem d5_without_33 : decode (mk_c M5_without) 33 = .ok (.bipush 100, 2) := by decide +kernel
theorem d5_without_35 : decode (mk_c M5_without) 35 = .ok (.iload_n 1, 1) := by decide +kernel
theorem d5_without_36 : decode (mk_c M5_without) 36 = .ok (.imul, 1) := by decide +kernel
theorem d5_without_37 : decode (mk_c M5_without) 37 = .ok (.iload_n 2, 1) := by decide +kernel
theorem d5_without_38 : decode (mk_c M5_without) 38 = .ok (.iadd, 1) := by decide +kernel
theorem d5_without_39 : decode (mk_c M5_without) 39 = .ok (.invokevirtual 278, 3) := by decide +kernel
theorem d5_without_42 : decode (mk_c M5_without) 42 = .ok (.aload_n 0, 1) := by decide +kernel
theorem d5_without_43 : decode (mk_c M5_without) 43 = .ok (.invokevirtual 241, 3) := by decide +kernel
theorem d5_without_46 : decode (mk_c M5_without) 46 = .ok (.aload_n 0, 1) := by decide +kernel
theorem d5_without_47 : decode (mk_c M5_without) 47 = .ok (.invokevirtual 247, 3) := by decide +kernel
theorem d5_without_50 : decode (mk_c M5_without) 50 = .ok (.istore_n 3, 1) := by decide +kernel
theorem d5_without_51 : decode (mk_c M5_without) 51 = .ok (.aload_n 0, 1) := by decide +kernel
theorem d5_without_52 : decode (mk_c M5_without) 52 = .ok (.bipush 100, 2) := by decide +kernel
theorem d5_without_54 : decode (mk_c M5_without) 54 = .ok (.iload_n 1, 1) := by decide +kernel
theorem d5_without_55 : decode (mk_c M5_without) 55 = .ok (.imul, 1) := by decide +kernel
theorem d5_without_56 : decode (mk_c M5_without) 56 = .ok (.iload_n 2, 1) := by decide +kernel
theorem d5_without_57 : decode (mk_c M5_without) 57 = .ok (.iadd, 1) := by decide +kernel
theorem d5_without_58 : decode (mk_c M5_without) 58 = .ok (.invokevirtual 278, 3) := by decide +kernel
theorem d5_without_61 : decode (mk_c M5_without) 61 = .ok (.aload_n 0, 1) := by decide +kernel
theorem d5_without_62 : decode (mk_c M5_without) 62 = .ok (.iload_n 3, 1) := by decide +kernel
theorem d5_without_63 : decode (mk_c M5_without) 63 = .ok (.invokevirtual 98, 3) := by decide +kernel
theorem d5_without_66 : decode (mk_c M5_without) 66 = .ok (.ireturn, 1) := by decide +kernel
theorem d5_key_0 : decode (mk_c M5_key) 0 = .ok (.aload_n 0, 1) := by decide +kernel
theorem d5_key_1 : decode (mk_c M5_key) 1 = .ok (.iconst 0, 1) := by decide +kernel
theorem d5_key_2 : decode (mk_c M5_key) 2 = .ok (.putfield 80, 3) := by decide +kernel
theorem d5_key_5 : decode (mk_c M5_key) 5 = .ok (.aload_n 0, 1) := by decide +kernel
theorem d5_key_6 : decode (mk_c M5_key) 6 = .ok (.invokevirtual 241, 3) := by decide +kernel
theorem d5_key_9 : decode (mk_c M5_key) 9 = .ok (.aload_n 0, 1) := by decide +kernel
theorem d5_key_10 : decode (mk_c M5_key) 10 = .ok (.invokevirtual 247, 3) := by decide +kernel
theorem d5_key_13 : decode (mk_c M5_key) 13 = .ok (.istore_n 1, 1) := by decide +kernel
theorem d5_key_14 : decode (mk_c M5_key) 14 = .ok (.iload_n 1, 1) := by decide +kernel
theorem d5_key_15 : decode (mk_c M5_key) 15 = .ok (.ifCond .ne 9, 3) := by decide +kernel
theorem d5_key_18 : decode (mk_c M5_key) 18 = .ok (.aload_n 0, 1) := by decide +kernel
theorem d5_key_19 : decode (mk_c M5_key) 19 = .ok (.iconst 5, 1) := by decide +kernel
theorem d5_key_20 : decode (mk_c M5_key) 20 = .ok (.invokevirtual 94, 3) := by decide +kernel
theorem d5_key_23 : decode (mk_c M5_key) 23 = .ok (.ireturn, 1) := by decide +kernel
theorem d5_key_24 : decode (mk_c M5_key) 24 = .ok (.bipush (-2), 2) := by decide +kernel
theorem d5_key_26 : decode (mk_c M5_key) 26 = .ok (.istore_n 2, 1) := by decide +kernel
theorem d5_key_27 : decode (mk_c M5_key) 27 = .ok (.iconst 0, 1) := by decide +kernel
theorem d5_key_28 : decode (mk_c M5_key) 28 = .ok (.istore_n 3, 1) := by decide +kernel
theorem d5_key_29 : decode (mk_c M5_key) 29 = .ok (.iconst 0, 1) := by decide +kernel
theorem d5_key_30 : decode (mk_c M5_key) 30 = .ok (.istore 4, 2) := by decide +kernel
theorem d5_key_32 : decode (mk_c M5_key) 32 = .ok (.iload 4, 2) := by decide +kernel
theorem d5_key_34 : decode (mk_c M5_key) 34 = .ok (.aload_n 0, 1) := by decide +kernel
theorem d5_key_35 : decode (mk_c M5_key) 35 = .ok (.getfield 86, 3) := by decide +kernel
theorem d5_key_38 : decode (mk_c M5_key) 38 = .ok (.if_icmp .ge 100, 3) := by decide +kernel
theorem d5_key_41 : decode (mk_c M5_key) 41 = .ok (.iconst 0, 1) := by decide +kernel
theorem d5_key_42 : decode (mk_c M5_key) 42 = .ok (.istore 5, 2) := by decide +kernel
theorem d5_key_44 : decode (mk_c M5_key) 44 = .ok (.iload 5, 2) := by decide +kernel
theorem d5_key_46 : decode (mk_c M5_key) 46 = .ok (.bipush 16, 2) := by decide +kernel
theorem d5_key_48 : decode (mk_c M5_key) 48 = .ok (.if_icmp .ge 84, 3) := by decide +kernel
theorem d5_key_51 : decode (mk_c M5_key) 51 = .ok (.aload_n 0, 1) := by decide +kernel
theorem d5_key_52 : decode (mk_c M5_key) 52 = .ok (.getfield 13, 3) := by decide +kernel
theorem d5_key_55 : decode (mk_c M5_key) 55 = .ok (.iload 4, 2) := by decide +kernel
theorem d5_key_57 : decode (mk_c M5_key) 57 = .ok (.iaload, 1) := by decide +kernel
theorem d5_key_58 : decode (mk_c M5_key) 58 = .ok (.iload 5, 2) := by decide +kernel
theorem d5_key_60 : decode (mk_c M5_key) 60 = .ok (.ishr, 1) := by decide +kernel
theorem d5_key_61 : decode (mk_c M5_key) 61 = .ok (.iconst 1, 1) := by decide +kernel
theorem d5_key_62 : decode (mk_c M5_key) 62 = .ok (.iand, 1) := by decide +kernel
theorem d5_key_63 : decode (mk_c M5_key) 63 = .ok (.ifCond .ne 6, 3) := by decide +kernel
theorem d5_key_66 : decode (mk_c M5_key) 66 = .ok (.goto 60, 3) := by decide +kernel
theorem d5_key_69 : decode (mk_c M5_key) 69 = .ok (.aload_n 0, 1) := by decide +kernel
theorem d5_key_70 : decode (mk_c M5_key) 70 = .ok (.bipush 100, 2) := by decide +kernel
theorem d5_key_72 : decode (mk_c M5_key) 72 = .ok (.iload 4, 2) := by decide +kernel
theorem d5_key_74 : decode (mk_c M5_key) 74 = .ok (.imul, 1) := by decide +kernel
theorem d5_key_75 : decode (mk_c M5_key) 75 = .ok (.iload 5, 2) := by decide +kernel
theorem d5_key_77 : decode (mk_c M5_key) 77 = .ok (.iadd, 1) := by decide +kernel
theorem d5_key_78 : decode (mk_c M5_key) 78 = .ok (.invokevirtual 278, 3) := by decide +kernel
theorem d5_key_81 : decode (mk_c M5_key) 81 = .ok (.aload_n 0, 1) := by decide +kernel
theorem d5_key_82 : decode (mk_c M5_key) 82 = .ok (.invokevirtual 241, 3) := by decide +kernel
theorem d5_key_85 : decode (mk_c M5_key) 85 = .ok (.iload_n 1, 1) := by decide +kernel
theorem d5_key_86 : decode (mk_c M5_key) 86 = .ok (.aload_n 0, 1) := by decide +kernel
theorem d5_key_87 : decode (mk_c M5_key) 87 = .ok (.invokevirtual 247, 3) := by decide +kernel
theorem d5_key_90 : decode (mk_c M5_key) 90 = .ok (.isub, 1) := by decide +kernel
theorem d5_key_91 : decode (mk_c M5_key) 91 = .ok (.istore 6, 2) := by decide +kernel
theorem d5_key_93 : decode (mk_c M5_key) 93 = .ok (.aload_n 0, 1) := by decide +kernel
theorem d5_key_94 : decode (mk_c M5_key) 94 = .ok (.bipush 100, 2) := by decide +kernel
theorem d5_key_96 : decode (mk_c M5_key) 96 = .ok (.iload 4, 2) := by decide +kernel
theorem d5_key_98 : decode (mk_c M5_key) 98 = .ok (.imul, 1) := by decide +kernel
theorem d5_key_99 : decode (mk_c M5_key) 99 = .ok (.iload 5, 2) := by decide +kernel
theorem d5_key_101 : decode (mk_c M5_key) 101 = .ok (.iadd, 1) := by decide +kernel
theorem d5_key_102 : decode (mk_c M5_key) 102 = .ok (.invokevirtual 278, 3) := by decide +kernel
theorem d5_key_105 : decode (mk_c M5_key) 105 = .ok (.iload 6, 2) := by decide +kernel
theorem d5_key_107 : decode (mk_c M5_key) 107 = .ok (.iload_n 3, 1) := by decide +kernel
theorem d5_key_108 : decode (mk_c M5_key) 108 = .ok (.if_icmp .gt 6, 3) := by decide +kernel
theorem d5_key_111 : decode (mk_c M5_key) 111 = .ok (.goto 15, 3) := by decide +kernel
theorem d5_key_114 : decode (mk_c M5_key) 114 = .ok (.iload 6, 2) := by decide +kernel
theorem d5_key_116 : decode (mk_c M5_key) 116 = .ok (.istore_n 3, 1) := by decide +kernel
theorem d5_key_117 : decode (mk_c M5_key) 117 = .ok (.bipush 100, 2) := by decide +kernel
theorem d5_key_119 : decode (mk_c M5_key) 119 = .ok (.iload 4, 2) := by decide +kernel
theorem d5_key_121 : decode (mk_c M5_key) 121 = .ok (.imul, 1) := by decide +kernel
theorem d5_key_122 : decode (mk_c M5_key) 122 = .ok (.iload 5, 2) := by decide +kernel
theorem d5_key_124 : decode (mk_c M5_key) 124 = .ok (.iadd, 1) := by decide +kernel
theorem d5_key_125 : decode (mk_c M5_key) 125 = .ok (.istore_n 2, 1) := by decide +kernel
theorem d5_key_126 : decode (mk_c M5_key) 126 = .ok (.iinc 5 1, 3) := by decide +kernel
theorem d5_key_129 : decode (mk_c M5_key) 129 = .ok (.goto (-85), 3) := by decide +kernel
theorem d5_key_132 : decode (mk_c M5_key) 132 = .ok (.iinc 4 1, 3) := by decide +kernel
theorem d5_key_135 : decode (mk_c M5_key) 135 = .ok (.goto (-103), 3) := by decide +kernel
theorem d5_key_138 : decode (mk_c M5_key) 138 = .ok (.aload_n 0, 1) := by decide +kernel
theorem d5_key_139 : decode (mk_c M5_key) 139 = .ok (.iload_n 2, 1) := by decide +kernel
theorem d5_key_140 : decode (mk_c M5_key) 140 = .ok (.invokevirtual 98, 3) := by decide +kernel
theorem d5_key_143 : decode (mk_c M5_key) 143 = .ok (.ireturn, 1) := by decide +kernel
theorem d5_count_0 : decode (mk_c M5_count) 0 = .ok (.aload_n 0, 1) := by decide +kernel
theorem d5_count_1 : decode (mk_c M5_count) 1 = .ok (.iconst 0, 1) := by decide +kernel
theorem d5_count_2 : decode (mk_c M5_count) 2 = .ok (.putfield 80, 3) := by decide +kernel
theorem d5_count_5 : decode (mk_c M5_count) 5 = .ok (.iconst 0, 1) := by decide +kernel
theorem d5_count_6 : decode (mk_c M5_count) 6 = .ok (.istore_n 2, 1) := by decide +kernel
theorem d5_count_7 : decode (mk_c M5_count) 7 = .ok (.iload_n 1, 1) := by decide +kernel
theorem d5_count_8 : decode (mk_c M5_count) 8 = .ok (.tableswitch 131 0 4 #[36, 41, 68, 98, 126], 36) := by decide +kernel
theorem d5_count_44 : decode (mk_c M5_count) 44 = .ok (.aload_n 0, 1) := by decide +kernel
theorem d5_count_45 : decode (mk_c M5_count) 45 = .ok (.getfield 86, 3) := by decide +kernel
theorem d5_count_48 : decode (mk_c M5_count) 48 = .ok (.ireturn, 1) := by decide +kernel
theorem d5_count_49 : decode (mk_c M5_count) 49 = .ok (.iconst 0, 1) := by decide +kernel
theorem d5_count_50 : decode (mk_c M5_count) 50 = .ok (.istore_n 3, 1) := by decide +kernel
theorem d5_count_51 : decode (mk_c M5_count) 51 = .ok (.iload_n 3, 1) := by decide +kernel
theorem d5_count_52 : decode (mk_c M5_count) 52 = .ok (.aload_n 0, 1) := by decide +kernel
theorem d5_count_53 : decode (mk_c M5_count) 53 = .ok (.getfield 86, 3) := by decide +kernel
theorem d5_count_56 : decode (mk_c M5_count) 56 = .ok (.if_icmp .ge 18, 3) := by decide +kernel
theorem d5_count_59 : decode (mk_c M5_count) 59 = .ok (.iload_n 2, 1) := by decide +kernel
theorem d5_count_60 : decode (mk_c M5_count) 60 = .ok (.aload_n 0, 1) := by decide +kernel
theorem d5_count_61 : decode (mk_c M5_count) 61 = .ok (.getfield 17, 3) := by decide +kernel
theorem d5_count_64 : decode (mk_c M5_count) 64 = .ok (.iload_n 3, 1) := by decide +kernel
theorem d5_count_65 : decode (mk_c M5_count) 65 = .ok (.iaload, 1) := by decide +kernel
theorem d5_count_66 : decode (mk_c M5_count) 66 = .ok (.iadd, 1) := by decide +kernel
theorem d5_count_67 : decode (mk_c M5_count) 67 = .ok (.istore_n 2, 1) := by decide +kernel
theorem d5_count_68 : decode (mk_c M5_count) 68 = .ok (.iinc 3 1, 3) := by decide +kernel
theorem d5_count_71 : decode (mk_c M5_count) 71 = .ok (.goto (-20), 3) := by decide +kernel
theorem d5_count_74 : decode (mk_c M5_count) 74 = .ok (.iload_n 2, 1) := by decide +kernel
theorem d5_count_75 : decode (mk_c M5_count) 75 = .ok (.ireturn, 1) := by decide +kernel
theorem d5_count_76 : decode (mk_c M5_count) 76 = .ok (.iconst 0, 1) := by decide +kernel
theorem d5_count_77 : decode (mk_c M5_count) 77 = .ok (.istore_n 3, 1) := by decide +kernel
theorem d5_count_78 : decode (mk_c M5_count) 78 = .ok (.iload_n 3, 1) := by decide +kernel
theorem d5_count_79 : decode (mk_c M5_count) 79 = .ok (.aload_n 0, 1) := by decide +kernel
theorem d5_count_80 : decode (mk_c M5_count) 80 = .ok (.getfield 86, 3) := by decide +kernel
theorem d5_count_83 : decode (mk_c M5_count) 83 = .ok (.if_icmp .ge 21, 3) := by decide +kernel
theorem d5_count_86 : decode (mk_c M5_count) 86 = .ok (.iload_n 2, 1) := by decide +kernel
theorem d5_count_87 : decode (mk_c M5_count) 87 = .ok (.aload_n 0, 1) := by decide +kernel
theorem d5_count_88 : decode (mk_c M5_count) 88 = .ok (.getfield 13, 3) := by decide +kernel
theorem d5_count_91 : decode (mk_c M5_count) 91 = .ok (.iload_n 3, 1) := by decide +kernel
theorem d5_count_92 : decode (mk_c M5_count) 92 = .ok (.iaload, 1) := by decide +kernel
theorem d5_count_93 : decode (mk_c M5_count) 93 = .ok (.invokestatic 244, 3) := by decide +kernel
theorem d5_count_96 : decode (mk_c M5_count) 96 = .ok (.iadd, 1) := by decide +kernel
theorem d5_count_97 : decode (mk_c M5_count) 97 = .ok (.istore_n 2, 1) := by decide +kernel
theorem d5_count_98 : decode (mk_c M5_count) 98 = .ok (.iinc 3 1, 3) := by decide +kernel
theorem d5_count_101 : decode (mk_c M5_count) 101 = .ok (.goto (-23), 3) := by decide +kernel
theorem d5_count_104 : decode (mk_c M5_count) 104 = .ok (.iload_n 2, 1) := by decide +kernel
theorem d5_count_105 : decode (mk_c M5_count) 105 = .ok (.ireturn, 1) := by decide +kernel
theorem d5_count_106 : decode (mk_c M5_count) 106 = .ok (.iconst 0, 1) := by decide +kernel
theorem d5_count_107 : decode (mk_c M5_count) 107 = .ok (.istore_n 3, 1) := by decide +kernel
theorem d5_count_108 : decode (mk_c M5_count) 108 = .ok (.iload_n 3, 1) := by decide +kernel
theorem d5_count_109 : decode (mk_c M5_count) 109 = .ok (.bipush 16, 2) := by decide +kernel
theorem d5_count_111 : decode (mk_c M5_count) 111 = .ok (.if_icmp .ge 21, 3) := by decide +kernel
theorem d5_count_114 : decode (mk_c M5_count) 114 = .ok (.iload_n 2, 1) := by decide +kernel
theorem d5_count_115 : decode (mk_c M5_count) 115 = .ok (.aload_n 0, 1) := by decide +kernel
theorem d5_count_116 : decode (mk_c M5_count) 116 = .ok (.getfield 20, 3) := by decide +kernel
theorem d5_count_119 : decode (mk_c M5_count) 119 = .ok (.iload_n 3, 1) := by decide +kernel
theorem d5_count_120 : decode (mk_c M5_count) 120 = .ok (.iaload, 1) := by decide +kernel
theorem d5_count_121 : decode (mk_c M5_count) 121 = .ok (.invokestatic 244, 3) := by decide +kernel
theorem d5_count_124 : decode (mk_c M5_count) 124 = .ok (.iadd, 1) := by decide +kernel
theorem d5_count_125 : decode (mk_c M5_count) 125 = .ok (.istore_n 2, 1) := by decide +kernel
theorem d5_count_126 : decode (mk_c M5_count) 126 = .ok (.iinc 3 1, 3) := by decide +kernel
theorem d5_count_129 : decode (mk_c M5_count) 129 = .ok (.goto (-21), 3) := by decide +kernel
theorem d5_count_132 : decode (mk_c M5_count) 132 = .ok (.iload_n 2, 1) := by decide +kernel
theorem d5_count_133 : decode (mk_c M5_count) 133 = .ok (.ireturn, 1) := by decide +kernel
theorem d5_count_134 : decode (mk_c M5_count) 134 = .ok (.aload_n 0, 1) := by decide +kernel
theorem d5_count_135 : decode (mk_c M5_count) 135 = .ok (.getfield 219, 3) := by decide +kernel
theorem d5_count_138 : decode (mk_c M5_count) 138 = .ok (.ireturn, 1) := by decide +kernel
theorem d5_count_139 : decode (mk_c M5_count) 139 = .ok (.iconst (-1), 1) := by decide +kernel
theorem d5_count_140 : decode (mk_c M5_count) 140 = .ok (.ireturn, 1) := by decide +kernel
theorem d5_trouble_0 : decode (mk_c M5_trouble) 0 = .ok (.aload_n 0, 1) := by decide +kernel
theorem d5_trouble_1 : decode (mk_c M5_trouble) 1 = .ok (.iconst 0, 1) := by decide +kernel
theorem d5_trouble_2 : decode (mk_c M5_trouble) 2 = .ok (.putfield 80, 3) := by decide +kernel
theorem d5_trouble_5 : decode (mk_c M5_trouble) 5 = .ok (.aload_n 0, 1) := by decide +kernel
theorem d5_trouble_6 : decode (mk_c M5_trouble) 6 = .ok (.getfield 83, 3) := by decide +kernel
theorem d5_trouble_9 : decode (mk_c M5_trouble) 9 = .ok (.ireturn, 1) := by decide +kernel
