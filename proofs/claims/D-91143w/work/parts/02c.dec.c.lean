set_option maxRecDepth 100000
theorem d0_step_0 : decode (mk_c M0_step) 0 = .ok (.aload_n 2, 1) := by decide +kernel
theorem d0_step_1 : decode (mk_c M0_step) 1 = .ok (.iconst 0, 1) := by decide +kernel
theorem d0_step_2 : decode (mk_c M0_step) 2 = .ok (.aload_n 0, 1) := by decide +kernel
theorem d0_step_3 : decode (mk_c M0_step) 3 = .ok (.iload_n 1, 1) := by decide +kernel
theorem d0_step_4 : decode (mk_c M0_step) 4 = .ok (.invokevirtual 7, 3) := by decide +kernel
theorem d0_step_7 : decode (mk_c M0_step) 7 = .ok (.i2l, 1) := by decide +kernel
theorem d0_step_8 : decode (mk_c M0_step) 8 = .ok (.lastore, 1) := by decide +kernel
theorem d0_step_9 : decode (mk_c M0_step) 9 = .ok (.goto 6, 3) := by decide +kernel
theorem d0_step_12 : decode (mk_c M0_step) 12 = .ok (.astore_n 3, 1) := by decide +kernel
theorem d0_step_13 : decode (mk_c M0_step) 13 = .ok (.iconst 1, 1) := by decide +kernel
theorem d0_step_14 : decode (mk_c M0_step) 14 = .ok (.ireturn, 1) := by decide +kernel
theorem d0_step_15 : decode (mk_c M0_step) 15 = .ok (.iconst 0, 1) := by decide +kernel
theorem d0_step_16 : decode (mk_c M0_step) 16 = .ok (.ireturn, 1) := by decide +kernel
theorem d2_init_0 : decode (mk_c M2_init) 0 = .ok (.aload_n 0, 1) := by decide +kernel
theorem d2_init_1 : decode (mk_c M2_init) 1 = .ok (.invokespecial 3, 3) := by decide +kernel
theorem d2_init_4 : decode (mk_c M2_init) 4 = .ok (.aload_n 0, 1) := by decide +kernel
theorem d2_init_5 : decode (mk_c M2_init) 5 = .ok (.new 9, 3) := by decide +kernel
theorem d2_init_8 : decode (mk_c M2_init) 8 = .ok (.dup, 1) := by decide +kernel
theorem d2_init_9 : decode (mk_c M2_init) 9 = .ok (.invokespecial 11, 3) := by decide +kernel
theorem d2_init_12 : decode (mk_c M2_init) 12 = .ok (.putfield 12, 3) := by decide +kernel
theorem d2_init_15 : decode (mk_c M2_init) 15 = .ok (.aload_n 0, 1) := by decide +kernel
theorem d2_init_16 : decode (mk_c M2_init) 16 = .ok (.bipush 8, 2) := by decide +kernel
theorem d2_init_18 : decode (mk_c M2_init) 18 = .ok (.newarray .char, 2) := by decide +kernel
theorem d2_init_20 : decode (mk_c M2_init) 20 = .ok (.putfield 18, 3) := by decide +kernel
theorem d2_init_23 : decode (mk_c M2_init) 23 = .ok (.aload_n 0, 1) := by decide +kernel
theorem d2_init_24 : decode (mk_c M2_init) 24 = .ok (.iconst 4, 1) := by decide +kernel
theorem d2_init_25 : decode (mk_c M2_init) 25 = .ok (.newarray .int, 2) := by decide +kernel
theorem d2_init_27 : decode (mk_c M2_init) 27 = .ok (.putfield 22, 3) := by decide +kernel
theorem d2_init_30 : decode (mk_c M2_init) 30 = .ok (.aload_n 0, 1) := by decide +kernel
theorem d2_init_31 : decode (mk_c M2_init) 31 = .ok (.aload_n 1, 1) := by decide +kernel
theorem d2_init_32 : decode (mk_c M2_init) 32 = .ok (.putfield 26, 3) := by decide +kernel
theorem d2_init_35 : decode (mk_c M2_init) 35 = .ok (.return_, 1) := by decide +kernel
theorem d2_read_0 : decode (mk_c M2_read) 0 = .ok (.aload_n 0, 1) := by decide +kernel
theorem d2_read_1 : decode (mk_c M2_read) 1 = .ok (.iload_n 1, 1) := by decide +kernel
theorem d2_read_2 : decode (mk_c M2_read) 2 = .ok (.putfield 37, 3) := by decide +kernel
theorem d2_read_5 : decode (mk_c M2_read) 5 = .ok (.aload_n 0, 1) := by decide +kernel
theorem d2_read_6 : decode (mk_c M2_read) 6 = .ok (.iconst 0, 1) := by decide +kernel
theorem d2_read_7 : decode (mk_c M2_read) 7 = .ok (.putfield 40, 3) := by decide +kernel
theorem d2_read_10 : decode (mk_c M2_read) 10 = .ok (.aload_n 0, 1) := by decide +kernel
theorem d2_read_11 : decode (mk_c M2_read) 11 = .ok (.invokevirtual 71, 3) := by decide +kernel
theorem d2_read_14 : decode (mk_c M2_read) 14 = .ok (.iconst 0, 1) := by decide +kernel
theorem d2_read_15 : decode (mk_c M2_read) 15 = .ok (.istore 4, 2) := by decide +kernel
theorem d2_read_17 : decode (mk_c M2_read) 17 = .ok (.iconst 1, 1) := by decide +kernel
theorem d2_read_18 : decode (mk_c M2_read) 18 = .ok (.istore 5, 2) := by decide +kernel
theorem d2_read_20 : decode (mk_c M2_read) 20 = .ok (.iload 5, 2) := by decide +kernel
theorem d2_read_22 : decode (mk_c M2_read) 22 = .ok (.ifCond .eq 52, 3) := by decide +kernel
theorem d2_read_25 : decode (mk_c M2_read) 25 = .ok (.aload_n 0, 1) := by decide +kernel
theorem d2_read_26 : decode (mk_c M2_read) 26 = .ok (.invokevirtual 108, 3) := by decide +kernel
theorem d2_read_29 : decode (mk_c M2_read) 29 = .ok (.ifCond .ne 9, 3) := by decide +kernel
theorem d2_read_32 : decode (mk_c M2_read) 32 = .ok (.aload_n 0, 1) := by decide +kernel
theorem d2_read_33 : decode (mk_c M2_read) 33 = .ok (.iconst 1, 1) := by decide +kernel
theorem d2_read_34 : decode (mk_c M2_read) 34 = .ok (.invokevirtual 78, 3) := by decide +kernel
theorem d2_read_37 : decode (mk_c M2_read) 37 = .ok (.athrow, 1) := by decide +kernel
theorem d2_read_38 : decode (mk_c M2_read) 38 = .ok (.iload 4, 2) := by decide +kernel
theorem d2_read_40 : decode (mk_c M2_read) 40 = .ok (.bipush 12, 2) := by decide +kernel
theorem d2_read_42 : decode (mk_c M2_read) 42 = .ok (.if_icmp .ne 9, 3) := by decide +kernel
theorem d2_read_45 : decode (mk_c M2_read) 45 = .ok (.aload_n 0, 1) := by decide +kernel
theorem d2_read_46 : decode (mk_c M2_read) 46 = .ok (.iconst 4, 1) := by decide +kernel
theorem d2_read_47 : decode (mk_c M2_read) 47 = .ok (.invokevirtual 78, 3) := by decide +kernel
theorem d2_read_50 : decode (mk_c M2_read) 50 = .ok (.athrow, 1) := by decide +kernel
theorem d2_read_51 : decode (mk_c M2_read) 51 = .ok (.aload_n 3, 1) := by decide +kernel
theorem d2_read_52 : decode (mk_c M2_read) 52 = .ok (.iload 4, 2) := by decide +kernel
theorem d2_read_54 : decode (mk_c M2_read) 54 = .ok (.aload_n 0, 1) := by decide +kernel
theorem d2_read_55 : decode (mk_c M2_read) 55 = .ok (.iload_n 2, 1) := by decide +kernel
theorem d2_read_56 : decode (mk_c M2_read) 56 = .ok (.invokevirtual 112, 3) := by decide +kernel
theorem d2_read_59 : decode (mk_c M2_read) 59 = .ok (.aastore, 1) := by decide +kernel
theorem d2_read_60 : decode (mk_c M2_read) 60 = .ok (.iinc 4 1, 3) := by decide +kernel
theorem d2_read_63 : decode (mk_c M2_read) 63 = .ok (.aload_n 0, 1) := by decide +kernel
theorem d2_read_64 : decode (mk_c M2_read) 64 = .ok (.bipush 59, 2) := by decide +kernel
theorem d2_read_66 : decode (mk_c M2_read) 66 = .ok (.invokevirtual 116, 3) := by decide +kernel
theorem d2_read_69 : decode (mk_c M2_read) 69 = .ok (.istore 5, 2) := by decide +kernel
theorem d2_read_71 : decode (mk_c M2_read) 71 = .ok (.goto (-51), 3) := by decide +kernel
theorem d2_read_74 : decode (mk_c M2_read) 74 = .ok (.aload_n 0, 1) := by decide +kernel
theorem d2_read_75 : decode (mk_c M2_read) 75 = .ok (.getfield 47, 3) := by decide +kernel
theorem d2_read_78 : decode (mk_c M2_read) 78 = .ok (.ifCond .eq 9, 3) := by decide +kernel
theorem d2_read_81 : decode (mk_c M2_read) 81 = .ok (.aload_n 0, 1) := by decide +kernel
theorem d2_read_82 : decode (mk_c M2_read) 82 = .ok (.iconst 1, 1) := by decide +kernel
theorem d2_read_83 : decode (mk_c M2_read) 83 = .ok (.invokevirtual 78, 3) := by decide +kernel
theorem d2_read_86 : decode (mk_c M2_read) 86 = .ok (.athrow, 1) := by decide +kernel
theorem d2_read_87 : decode (mk_c M2_read) 87 = .ok (.iload 4, 2) := by decide +kernel
theorem d2_read_89 : decode (mk_c M2_read) 89 = .ok (.ireturn, 1) := by decide +kernel
theorem d2_next_0 : decode (mk_c M2_next) 0 = .ok (.aload_n 0, 1) := by decide +kernel
theorem d2_next_1 : decode (mk_c M2_next) 1 = .ok (.getfield 40, 3) := by decide +kernel
theorem d2_next_4 : decode (mk_c M2_next) 4 = .ok (.istore_n 1, 1) := by decide +kernel
theorem d2_next_5 : decode (mk_c M2_next) 5 = .ok (.aload_n 0, 1) := by decide +kernel
theorem d2_next_6 : decode (mk_c M2_next) 6 = .ok (.iload_n 1, 1) := by decide +kernel
theorem d2_next_7 : decode (mk_c M2_next) 7 = .ok (.invokevirtual 43, 3) := by decide +kernel
theorem d2_next_10 : decode (mk_c M2_next) 10 = .ok (.bipush 32, 2) := by decide +kernel
theorem d2_next_12 : decode (mk_c M2_next) 12 = .ok (.if_icmp .ne 9, 3) := by decide +kernel
theorem d2_next_15 : decode (mk_c M2_next) 15 = .ok (.iinc 1 1, 3) := by decide +kernel
theorem d2_next_18 : decode (mk_c M2_next) 18 = .ok (.goto (-13), 3) := by decide +kernel
theorem d2_next_21 : decode (mk_c M2_next) 21 = .ok (.aload_n 0, 1) := by decide +kernel
theorem d2_next_22 : decode (mk_c M2_next) 22 = .ok (.iload_n 1, 1) := by decide +kernel
theorem d2_next_23 : decode (mk_c M2_next) 23 = .ok (.putfield 30, 3) := by decide +kernel
theorem d2_next_26 : decode (mk_c M2_next) 26 = .ok (.aload_n 0, 1) := by decide +kernel
theorem d2_next_27 : decode (mk_c M2_next) 27 = .ok (.iload_n 1, 1) := by decide +kernel
theorem d2_next_28 : decode (mk_c M2_next) 28 = .ok (.iconst 1, 1) := by decide +kernel
theorem d2_next_29 : decode (mk_c M2_next) 29 = .ok (.iadd, 1) := by decide +kernel
theorem d2_next_30 : decode (mk_c M2_next) 30 = .ok (.putfield 40, 3) := by decide +kernel
theorem d2_next_33 : decode (mk_c M2_next) 33 = .ok (.aload_n 0, 1) := by decide +kernel
theorem d2_next_34 : decode (mk_c M2_next) 34 = .ok (.iload_n 1, 1) := by decide +kernel
theorem d2_next_35 : decode (mk_c M2_next) 35 = .ok (.invokevirtual 43, 3) := by decide +kernel
theorem d2_next_38 : decode (mk_c M2_next) 38 = .ok (.istore_n 2, 1) := by decide +kernel
theorem d2_next_39 : decode (mk_c M2_next) 39 = .ok (.iload_n 2, 1) := by decide +kernel
theorem d2_next_40 : decode (mk_c M2_next) 40 = .ok (.iconst (-1), 1) := by decide +kernel
theorem d2_next_41 : decode (mk_c M2_next) 41 = .ok (.if_icmp .ne 16, 3) := by decide +kernel
theorem d2_next_44 : decode (mk_c M2_next) 44 = .ok (.aload_n 0, 1) := by decide +kernel
theorem d2_next_45 : decode (mk_c M2_next) 45 = .ok (.iconst 0, 1) := by decide +kernel
theorem d2_next_46 : decode (mk_c M2_next) 46 = .ok (.putfield 47, 3) := by decide +kernel
theorem d2_next_49 : decode (mk_c M2_next) 49 = .ok (.aload_n 0, 1) := by decide +kernel
theorem d2_next_50 : decode (mk_c M2_next) 50 = .ok (.iload_n 1, 1) := by decide +kernel
theorem d2_next_51 : decode (mk_c M2_next) 51 = .ok (.putfield 40, 3) := by decide +kernel
theorem d2_next_54 : decode (mk_c M2_next) 54 = .ok (.goto 251, 3) := by decide +kernel
theorem d2_next_57 : decode (mk_c M2_next) 57 = .ok (.iload_n 2, 1) := by decide +kernel
theorem d2_next_58 : decode (mk_c M2_next) 58 = .ok (.invokestatic 50, 3) := by decide +kernel
theorem d2_next_61 : decode (mk_c M2_next) 61 = .ok (.ifCond .eq 124, 3) := by decide +kernel
theorem d2_next_64 : decode (mk_c M2_next) 64 = .ok (.aload_n 0, 1) := by decide +kernel
theorem d2_next_65 : decode (mk_c M2_next) 65 = .ok (.iload_n 1, 1) := by decide +kernel
theorem d2_next_66 : decode (mk_c M2_next) 66 = .ok (.putfield 40, 3) := by decide +kernel
theorem d2_next_69 : decode (mk_c M2_next) 69 = .ok (.aload_n 0, 1) := by decide +kernel
theorem d2_next_70 : decode (mk_c M2_next) 70 = .ok (.aload_n 0, 1) := by decide +kernel
theorem d2_next_71 : decode (mk_c M2_next) 71 = .ok (.getfield 40, 3) := by decide +kernel
theorem d2_next_74 : decode (mk_c M2_next) 74 = .ok (.invokevirtual 43, 3) := by decide +kernel
theorem d2_next_77 : decode (mk_c M2_next) 77 = .ok (.invokestatic 50, 3) := by decide +kernel
theorem d2_next_80 : decode (mk_c M2_next) 80 = .ok (.ifCond .eq 47, 3) := by decide +kernel
theorem d2_next_83 : decode (mk_c M2_next) 83 = .ok (.aload_n 0, 1) := by decide +kernel
theorem d2_next_84 : decode (mk_c M2_next) 84 = .ok (.getfield 40, 3) := by decide +kernel
theorem d2_next_87 : decode (mk_c M2_next) 87 = .ok (.iload_n 1, 1) := by decide +kernel
theorem d2_next_88 : decode (mk_c M2_next) 88 = .ok (.isub, 1) := by decide +kernel
theorem d2_next_89 : decode (mk_c M2_next) 89 = .ok (.bipush 8, 2) := by decide +kernel
theorem d2_next_91 : decode (mk_c M2_next) 91 = .ok (.if_icmp .ge 23, 3) := by decide +kernel
theorem d2_next_94 : decode (mk_c M2_next) 94 = .ok (.aload_n 0, 1) := by decide +kernel
theorem d2_next_95 : decode (mk_c M2_next) 95 = .ok (.getfield 18, 3) := by decide +kernel
theorem d2_next_98 : decode (mk_c M2_next) 98 = .ok (.aload_n 0, 1) := by decide +kernel
theorem d2_next_99 : decode (mk_c M2_next) 99 = .ok (.getfield 40, 3) := by decide +kernel
theorem d2_next_102 : decode (mk_c M2_next) 102 = .ok (.iload_n 1, 1) := by decide +kernel
theorem d2_next_103 : decode (mk_c M2_next) 103 = .ok (.isub, 1) := by decide +kernel
theorem d2_next_104 : decode (mk_c M2_next) 104 = .ok (.aload_n 0, 1) := by decide +kernel
theorem d2_next_105 : decode (mk_c M2_next) 105 = .ok (.aload_n 0, 1) := by decide +kernel
theorem d2_next_106 : decode (mk_c M2_next) 106 = .ok (.getfield 40, 3) := by decide +kernel
theorem d2_next_109 : decode (mk_c M2_next) 109 = .ok (.invokevirtual 43, 3) := by decide +kernel
theorem d2_next_112 : decode (mk_c M2_next) 112 = .ok (.i2c, 1) := by decide +kernel
theorem d2_next_113 : decode (mk_c M2_next) 113 = .ok (.castore, 1) := by decide +kernel
theorem d2_next_114 : decode (mk_c M2_next) 114 = .ok (.aload_n 0, 1) := by decide +kernel
theorem d2_next_115 : decode (mk_c M2_next) 115 = .ok (.dup, 1) := by decide +kernel
theorem d2_next_116 : decode (mk_c M2_next) 116 = .ok (.getfield 40, 3) := by decide +kernel
theorem d2_next_119 : decode (mk_c M2_next) 119 = .ok (.iconst 1, 1) := by decide +kernel
theorem d2_next_120 : decode (mk_c M2_next) 120 = .ok (.iadd, 1) := by decide +kernel
theorem d2_next_121 : decode (mk_c M2_next) 121 = .ok (.putfield 40, 3) := by decide +kernel
theorem d2_next_124 : decode (mk_c M2_next) 124 = .ok (.goto (-55), 3) := by decide +kernel
theorem d2_next_127 : decode (mk_c M2_next) 127 = .ok (.aload_n 0, 1) := by decide +kernel
theorem d2_next_128 : decode (mk_c M2_next) 128 = .ok (.aload_n 0, 1) := by decide +kernel
theorem d2_next_129 : decode (mk_c M2_next) 129 = .ok (.getfield 40, 3) := by decide +kernel
theorem d2_next_132 : decode (mk_c M2_next) 132 = .ok (.iload_n 1, 1) := by decide +kernel
theorem d2_next_133 : decode (mk_c M2_next) 133 = .ok (.isub, 1) := by decide +kernel
theorem d2_next_134 : decode (mk_c M2_next) 134 = .ok (.bipush 8, 2) := by decide +kernel
theorem d2_next_136 : decode (mk_c M2_next) 136 = .ok (.if_icmp .le 7, 3) := by decide +kernel
theorem d2_next_139 : decode (mk_c M2_next) 139 = .ok (.iconst 1, 1) := by decide +kernel
theorem d2_next_140 : decode (mk_c M2_next) 140 = .ok (.goto 4, 3) := by decide +kernel
theorem d2_next_143 : decode (mk_c M2_next) 143 = .ok (.iconst 2, 1) := by decide +kernel
theorem d2_next_144 : decode (mk_c M2_next) 144 = .ok (.putfield 47, 3) := by decide +kernel
theorem d2_next_147 : decode (mk_c M2_next) 147 = .ok (.aload_n 0, 1) := by decide +kernel
theorem d2_next_148 : decode (mk_c M2_next) 148 = .ok (.aload_n 0, 1) := by decide +kernel
theorem d2_next_149 : decode (mk_c M2_next) 149 = .ok (.getfield 47, 3) := by decide +kernel
theorem d2_next_152 : decode (mk_c M2_next) 152 = .ok (.iconst 2, 1) := by decide +kernel
theorem d2_next_153 : decode (mk_c M2_next) 153 = .ok (.if_icmp .ne 24, 3) := by decide +kernel
theorem d2_next_156 : decode (mk_c M2_next) 156 = .ok (.new 54, 3) := by decide +kernel
theorem d2_next_159 : decode (mk_c M2_next) 159 = .ok (.dup, 1) := by decide +kernel
theorem d2_next_160 : decode (mk_c M2_next) 160 = .ok (.aload_n 0, 1) := by decide +kernel
theorem d2_next_161 : decode (mk_c M2_next) 161 = .ok (.getfield 18, 3) := by decide +kernel
theorem d2_next_164 : decode (mk_c M2_next) 164 = .ok (.iconst 0, 1) := by decide +kernel
theorem d2_next_165 : decode (mk_c M2_next) 165 = .ok (.aload_n 0, 1) := by decide +kernel
theorem d2_next_166 : decode (mk_c M2_next) 166 = .ok (.getfield 40, 3) := by decide +kernel
theorem d2_next_169 : decode (mk_c M2_next) 169 = .ok (.iload_n 1, 1) := by decide +kernel
theorem d2_next_170 : decode (mk_c M2_next) 170 = .ok (.isub, 1) := by decide +kernel
theorem d2_next_171 : decode (mk_c M2_next) 171 = .ok (.invokespecial 56, 3) := by decide +kernel
theorem d2_next_174 : decode (mk_c M2_next) 174 = .ok (.goto 5, 3) := by decide +kernel
theorem d2_next_177 : decode (mk_c M2_next) 177 = .ok (.ldc 59, 2) := by decide +kernel
theorem d2_next_179 : decode (mk_c M2_next) 179 = .ok (.putfield 61, 3) := by decide +kernel
theorem d2_next_182 : decode (mk_c M2_next) 182 = .ok (.goto 123, 3) := by decide +kernel
theorem d2_next_185 : decode (mk_c M2_next) 185 = .ok (.iload_n 2, 1) := by decide +kernel
theorem d2_next_186 : decode (mk_c M2_next) 186 = .ok (.invokestatic 65, 3) := by decide +kernel
theorem d2_next_189 : decode (mk_c M2_next) 189 = .ok (.ifCond .eq 95, 3) := by decide +kernel
theorem d2_next_192 : decode (mk_c M2_next) 192 = .ok (.aload_n 0, 1) := by decide +kernel
theorem d2_next_193 : decode (mk_c M2_next) 193 = .ok (.iconst 0, 1) := by decide +kernel
theorem d2_next_194 : decode (mk_c M2_next) 194 = .ok (.putfield 68, 3) := by decide +kernel
theorem d2_next_197 : decode (mk_c M2_next) 197 = .ok (.aload_n 0, 1) := by decide +kernel
theorem d2_next_198 : decode (mk_c M2_next) 198 = .ok (.iload_n 1, 1) := by decide +kernel
theorem d2_next_199 : decode (mk_c M2_next) 199 = .ok (.putfield 40, 3) := by decide +kernel
theorem d2_next_202 : decode (mk_c M2_next) 202 = .ok (.aload_n 0, 1) := by decide +kernel
theorem d2_next_203 : decode (mk_c M2_next) 203 = .ok (.aload_n 0, 1) := by decide +kernel
theorem d2_next_204 : decode (mk_c M2_next) 204 = .ok (.getfield 40, 3) := by decide +kernel
theorem d2_next_207 : decode (mk_c M2_next) 207 = .ok (.invokevirtual 43, 3) := by decide +kernel
theorem d2_next_210 : decode (mk_c M2_next) 210 = .ok (.invokestatic 65, 3) := by decide +kernel
theorem d2_next_213 : decode (mk_c M2_next) 213 = .ok (.ifCond .eq 49, 3) := by decide +kernel
theorem d2_next_216 : decode (mk_c M2_next) 216 = .ok (.aload_n 0, 1) := by decide +kernel
theorem d2_next_217 : decode (mk_c M2_next) 217 = .ok (.getfield 40, 3) := by decide +kernel
theorem d2_next_220 : decode (mk_c M2_next) 220 = .ok (.iload_n 1, 1) := by decide +kernel
theorem d2_next_221 : decode (mk_c M2_next) 221 = .ok (.isub, 1) := by decide +kernel
theorem d2_next_222 : decode (mk_c M2_next) 222 = .ok (.iconst 2, 1) := by decide +kernel
theorem d2_next_223 : decode (mk_c M2_next) 223 = .ok (.if_icmp .ge 26, 3) := by decide +kernel
theorem d2_next_226 : decode (mk_c M2_next) 226 = .ok (.aload_n 0, 1) := by decide +kernel
theorem d2_next_227 : decode (mk_c M2_next) 227 = .ok (.bipush 10, 2) := by decide +kernel
theorem d2_next_229 : decode (mk_c M2_next) 229 = .ok (.aload_n 0, 1) := by decide +kernel
theorem d2_next_230 : decode (mk_c M2_next) 230 = .ok (.getfield 68, 3) := by decide +kernel
theorem d2_next_233 : decode (mk_c M2_next) 233 = .ok (.imul, 1) := by decide +kernel
theorem d2_next_234 : decode (mk_c M2_next) 234 = .ok (.aload_n 0, 1) := by decide +kernel
theorem d2_next_235 : decode (mk_c M2_next) 235 = .ok (.aload_n 0, 1) := by decide +kernel
theorem d2_next_236 : decode (mk_c M2_next) 236 = .ok (.getfield 40, 3) := by decide +kernel
theorem d2_next_239 : decode (mk_c M2_next) 239 = .ok (.invokevirtual 43, 3) := by decide +kernel
theorem d2_next_242 : decode (mk_c M2_next) 242 = .ok (.iadd, 1) := by decide +kernel
theorem d2_next_243 : decode (mk_c M2_next) 243 = .ok (.bipush 48, 2) := by decide +kernel
theorem d2_next_245 : decode (mk_c M2_next) 245 = .ok (.isub, 1) := by decide +kernel
theorem d2_next_246 : decode (mk_c M2_next) 246 = .ok (.putfield 68, 3) := by decide +kernel
theorem d2_next_249 : decode (mk_c M2_next) 249 = .ok (.aload_n 0, 1) := by decide +kernel
theorem d2_next_250 : decode (mk_c M2_next) 250 = .ok (.dup, 1) := by decide +kernel
theorem d2_next_251 : decode (mk_c M2_next) 251 = .ok (.getfield 40, 3) := by decide +kernel
theorem d2_next_254 : decode (mk_c M2_next) 254 = .ok (.iconst 1, 1) := by decide +kernel
theorem d2_next_255 : decode (mk_c M2_next) 255 = .ok (.iadd, 1) := by decide +kernel
theorem d2_next_256 : decode (mk_c M2_next) 256 = .ok (.putfield 40, 3) := by decide +kernel
theorem d2_next_259 : decode (mk_c M2_next) 259 = .ok (.goto (-57), 3) := by decide +kernel
theorem d2_next_262 : decode (mk_c M2_next) 262 = .ok (.aload_n 0, 1) := by decide +kernel
theorem d2_next_263 : decode (mk_c M2_next) 263 = .ok (.aload_n 0, 1) := by decide +kernel
theorem d2_next_264 : decode (mk_c M2_next) 264 = .ok (.getfield 40, 3) := by decide +kernel
theorem d2_next_267 : decode (mk_c M2_next) 267 = .ok (.iload_n 1, 1) := by decide +kernel
theorem d2_next_268 : decode (mk_c M2_next) 268 = .ok (.isub, 1) := by decide +kernel
theorem d2_next_269 : decode (mk_c M2_next) 269 = .ok (.iconst 2, 1) := by decide +kernel
theorem d2_next_270 : decode (mk_c M2_next) 270 = .ok (.if_icmp .le 7, 3) := by decide +kernel
theorem d2_next_273 : decode (mk_c M2_next) 273 = .ok (.iconst 1, 1) := by decide +kernel
theorem d2_next_274 : decode (mk_c M2_next) 274 = .ok (.goto 4, 3) := by decide +kernel
theorem d2_next_277 : decode (mk_c M2_next) 277 = .ok (.iconst 3, 1) := by decide +kernel
theorem d2_next_278 : decode (mk_c M2_next) 278 = .ok (.putfield 47, 3) := by decide +kernel
theorem d2_next_281 : decode (mk_c M2_next) 281 = .ok (.goto 24, 3) := by decide +kernel
theorem d2_next_284 : decode (mk_c M2_next) 284 = .ok (.aload_n 0, 1) := by decide +kernel
theorem d2_next_285 : decode (mk_c M2_next) 285 = .ok (.iload_n 2, 1) := by decide +kernel
theorem d2_next_286 : decode (mk_c M2_next) 286 = .ok (.bipush 44, 2) := by decide +kernel
theorem d2_next_288 : decode (mk_c M2_next) 288 = .ok (.if_icmp .eq 9, 3) := by decide +kernel
theorem d2_next_291 : decode (mk_c M2_next) 291 = .ok (.iload_n 2, 1) := by decide +kernel
theorem d2_next_292 : decode (mk_c M2_next) 292 = .ok (.bipush 59, 2) := by decide +kernel
theorem d2_next_294 : decode (mk_c M2_next) 294 = .ok (.if_icmp .ne 7, 3) := by decide +kernel
theorem d2_next_297 : decode (mk_c M2_next) 297 = .ok (.iload_n 2, 1) := by decide +kernel
theorem d2_next_298 : decode (mk_c M2_next) 298 = .ok (.goto 4, 3) := by decide +kernel
theorem d2_next_301 : decode (mk_c M2_next) 301 = .ok (.iconst 1, 1) := by decide +kernel
theorem d2_next_302 : decode (mk_c M2_next) 302 = .ok (.putfield 47, 3) := by decide +kernel
theorem d2_next_305 : decode (mk_c M2_next) 305 = .ok (.return_, 1) := by decide +kernel
theorem d2_see_0 : decode (mk_c M2_see) 0 = .ok (.iload_n 1, 1) := by decide +kernel
theorem d2_see_1 : decode (mk_c M2_see) 1 = .ok (.aload_n 0, 1) := by decide +kernel
theorem d2_see_2 : decode (mk_c M2_see) 2 = .ok (.getfield 37, 3) := by decide +kernel
theorem d2_see_5 : decode (mk_c M2_see) 5 = .ok (.if_icmp .ge 16, 3) := by decide +kernel
theorem d2_see_8 : decode (mk_c M2_see) 8 = .ok (.aload_n 0, 1) := by decide +kernel
theorem d2_see_9 : decode (mk_c M2_see) 9 = .ok (.getfield 26, 3) := by decide +kernel
theorem d2_see_12 : decode (mk_c M2_see) 12 = .ok (.iload_n 1, 1) := by decide +kernel
theorem d2_see_13 : decode (mk_c M2_see) 13 = .ok (.baload, 1) := by decide +kernel
theorem d2_see_14 : decode (mk_c M2_see) 14 = .ok (.sipush 255, 3) := by decide +kernel
theorem d2_see_17 : decode (mk_c M2_see) 17 = .ok (.iand, 1) := by decide +kernel
theorem d2_see_18 : decode (mk_c M2_see) 18 = .ok (.goto 4, 3) := by decide +kernel
theorem d2_see_21 : decode (mk_c M2_see) 21 = .ok (.iconst (-1), 1) := by decide +kernel
theorem d2_see_22 : decode (mk_c M2_see) 22 = .ok (.ireturn, 1) := by decide +kernel
theorem d2_isSmall_0 : decode (mk_c M2_isSmall) 0 = .ok (.iload_n 0, 1) := by decide +kernel
theorem d2_isSmall_1 : decode (mk_c M2_isSmall) 1 = .ok (.bipush 97, 2) := by decide +kernel
theorem d2_isSmall_3 : decode (mk_c M2_isSmall) 3 = .ok (.if_icmp .lt 13, 3) := by decide +kernel
theorem d2_isSmall_6 : decode (mk_c M2_isSmall) 6 = .ok (.iload_n 0, 1) := by decide +kernel
theorem d2_isSmall_7 : decode (mk_c M2_isSmall) 7 = .ok (.bipush 122, 2) := by decide +kernel
theorem d2_isSmall_9 : decode (mk_c M2_isSmall) 9 = .ok (.if_icmp .gt 7, 3) := by decide +kernel
theorem d2_isSmall_12 : decode (mk_c M2_isSmall) 12 = .ok (.iconst 1, 1) := by decide +kernel
theorem d2_isSmall_13 : decode (mk_c M2_isSmall) 13 = .ok (.goto 4, 3) := by decide +kernel
theorem d2_isSmall_16 : decode (mk_c M2_isSmall) 16 = .ok (.iconst 0, 1) := by decide +kernel
theorem d2_isSmall_17 : decode (mk_c M2_isSmall) 17 = .ok (.ireturn, 1) := by decide +kernel
theorem d2_isDigit_0 : decode (mk_c M2_isDigit) 0 = .ok (.iload_n 0, 1) := by decide +kernel
theorem d2_isDigit_1 : decode (mk_c M2_isDigit) 1 = .ok (.bipush 48, 2) := by decide +kernel
theorem d2_isDigit_3 : decode (mk_c M2_isDigit) 3 = .ok (.if_icmp .lt 13, 3) := by decide +kernel
theorem d2_isDigit_6 : decode (mk_c M2_isDigit) 6 = .ok (.iload_n 0, 1) := by decide +kernel
theorem d2_isDigit_7 : decode (mk_c M2_isDigit) 7 = .ok (.bipush 57, 2) := by decide +kernel
theorem d2_isDigit_9 : decode (mk_c M2_isDigit) 9 = .ok (.if_icmp .gt 7, 3) := by decide +kernel
theorem d2_isDigit_12 : decode (mk_c M2_isDigit) 12 = .ok (.iconst 1, 1) := by decide +kernel
theorem d2_isDigit_13 : decode (mk_c M2_isDigit) 13 = .ok (.goto 4, 3) := by decide +kernel
theorem d2_isDigit_16 : decode (mk_c M2_isDigit) 16 = .ok (.iconst 0, 1) := by decide +kernel
theorem d2_isDigit_17 : decode (mk_c M2_isDigit) 17 = .ok (.ireturn, 1) := by decide +kernel
theorem d2_begins_0 : decode (mk_c M2_begins) 0 = .ok (.aload_n 0, 1) := by decide +kernel
theorem d2_begins_1 : decode (mk_c M2_begins) 1 = .ok (.getfield 47, 3) := by decide +kernel
theorem d2_begins_4 : decode (mk_c M2_begins) 4 = .ok (.iconst 2, 1) := by decide +kernel
theorem d2_begins_5 : decode (mk_c M2_begins) 5 = .ok (.if_icmp .eq 5, 3) := by decide +kernel
theorem d2_begins_8 : decode (mk_c M2_begins) 8 = .ok (.iconst 0, 1) := by decide +kernel
theorem d2_begins_9 : decode (mk_c M2_begins) 9 = .ok (.ireturn, 1) := by decide +kernel
theorem d2_begins_10 : decode (mk_c M2_begins) 10 = .ok (.aload_n 0, 1) := by decide +kernel
theorem d2_begins_11 : decode (mk_c M2_begins) 11 = .ok (.getfield 61, 3) := by decide +kernel
theorem d2_begins_14 : decode (mk_c M2_begins) 14 = .ok (.astore_n 1, 1) := by decide +kernel
theorem d2_begins_15 : decode (mk_c M2_begins) 15 = .ok (.iconst (-1), 1) := by decide +kernel
theorem d2_begins_16 : decode (mk_c M2_begins) 16 = .ok (.istore_n 2, 1) := by decide +kernel
theorem d2_begins_17 : decode (mk_c M2_begins) 17 = .ok (.aload_n 1, 1) := by decide +kernel
theorem d2_begins_18 : decode (mk_c M2_begins) 18 = .ok (.invokevirtual 93, 3) := by decide +kernel
theorem d2_begins_21 : decode (mk_c M2_begins) 21 = .ok (.lookupswitch 140 #[(-934426595, 129), (96889, 87), (102230, 59), (107035, 73), (111375, 101), (3642015, 115)], 59) := by decide +kernel
theorem d2_begins_80 : decode (mk_c M2_begins) 80 = .ok (.aload_n 1, 1) := by decide +kernel
theorem d2_begins_81 : decode (mk_c M2_begins) 81 = .ok (.ldc 96, 2) := by decide +kernel
theorem d2_begins_83 : decode (mk_c M2_begins) 83 = .ok (.invokevirtual 74, 3) := by decide +kernel
theorem d2_begins_86 : decode (mk_c M2_begins) 86 = .ok (.ifCond .eq 75, 3) := by decide +kernel
theorem d2_begins_89 : decode (mk_c M2_begins) 89 = .ok (.iconst 0, 1) := by decide +kernel
theorem d2_begins_90 : decode (mk_c M2_begins) 90 = .ok (.istore_n 2, 1) := by decide +kernel
theorem d2_begins_91 : decode (mk_c M2_begins) 91 = .ok (.goto 70, 3) := by decide +kernel
theorem d2_begins_94 : decode (mk_c M2_begins) 94 = .ok (.aload_n 1, 1) := by decide +kernel
theorem d2_begins_95 : decode (mk_c M2_begins) 95 = .ok (.ldc 98, 2) := by decide +kernel
theorem d2_begins_97 : decode (mk_c M2_begins) 97 = .ok (.invokevirtual 74, 3) := by decide +kernel
theorem d2_begins_100 : decode (mk_c M2_begins) 100 = .ok (.ifCond .eq 61, 3) := by decide +kernel
theorem d2_begins_103 : decode (mk_c M2_begins) 103 = .ok (.iconst 1, 1) := by decide +kernel
theorem d2_begins_104 : decode (mk_c M2_begins) 104 = .ok (.istore_n 2, 1) := by decide +kernel
theorem d2_begins_105 : decode (mk_c M2_begins) 105 = .ok (.goto 56, 3) := by decide +kernel
theorem d2_begins_108 : decode (mk_c M2_begins) 108 = .ok (.aload_n 1, 1) := by decide +kernel
theorem d2_begins_109 : decode (mk_c M2_begins) 109 = .ok (.ldc 100, 2) := by decide +kernel
theorem d2_begins_111 : decode (mk_c M2_begins) 111 = .ok (.invokevirtual 74, 3) := by decide +kernel
theorem d2_begins_114 : decode (mk_c M2_begins) 114 = .ok (.ifCond .eq 47, 3) := by decide +kernel
theorem d2_begins_117 : decode (mk_c M2_begins) 117 = .ok (.iconst 2, 1) := by decide +kernel
theorem d2_begins_118 : decode (mk_c M2_begins) 118 = .ok (.istore_n 2, 1) := by decide +kernel
theorem d2_begins_119 : decode (mk_c M2_begins) 119 = .ok (.goto 42, 3) := by decide +kernel
theorem d2_begins_122 : decode (mk_c M2_begins) 122 = .ok (.aload_n 1, 1) := by decide +kernel
theorem d2_begins_123 : decode (mk_c M2_begins) 123 = .ok (.ldc 102, 2) := by decide +kernel
theorem d2_begins_125 : decode (mk_c M2_begins) 125 = .ok (.invokevirtual 74, 3) := by decide +kernel
theorem d2_begins_128 : decode (mk_c M2_begins) 128 = .ok (.ifCond .eq 33, 3) := by decide +kernel
theorem d2_begins_131 : decode (mk_c M2_begins) 131 = .ok (.iconst 3, 1) := by decide +kernel
theorem d2_begins_132 : decode (mk_c M2_begins) 132 = .ok (.istore_n 2, 1) := by decide +kernel
theorem d2_begins_133 : decode (mk_c M2_begins) 133 = .ok (.goto 28, 3) := by decide +kernel
theorem d2_begins_136 : decode (mk_c M2_begins) 136 = .ok (.aload_n 1, 1) := by decide +kernel
theorem d2_begins_137 : decode (mk_c M2_begins) 137 = .ok (.ldc 104, 2) := by decide +kernel
theorem d2_begins_139 : decode (mk_c M2_begins) 139 = .ok (.invokevirtual 74, 3) := by decide +kernel
theorem d2_begins_142 : decode (mk_c M2_begins) 142 = .ok (.ifCond .eq 19, 3) := by decide +kernel
theorem d2_begins_145 : decode (mk_c M2_begins) 145 = .ok (.iconst 4, 1) := by decide +kernel
theorem d2_begins_146 : decode (mk_c M2_begins) 146 = .ok (.istore_n 2, 1) := by decide +kernel
theorem d2_begins_147 : decode (mk_c M2_begins) 147 = .ok (.goto 14, 3) := by decide +kernel
theorem d2_begins_150 : decode (mk_c M2_begins) 150 = .ok (.aload_n 1, 1) := by decide +kernel
theorem d2_begins_151 : decode (mk_c M2_begins) 151 = .ok (.ldc 106, 2) := by decide +kernel
theorem d2_begins_153 : decode (mk_c M2_begins) 153 = .ok (.invokevirtual 74, 3) := by decide +kernel
theorem d2_begins_156 : decode (mk_c M2_begins) 156 = .ok (.ifCond .eq 5, 3) := by decide +kernel
theorem d2_begins_159 : decode (mk_c M2_begins) 159 = .ok (.iconst 5, 1) := by decide +kernel
theorem d2_begins_160 : decode (mk_c M2_begins) 160 = .ok (.istore_n 2, 1) := by decide +kernel
theorem d2_begins_161 : decode (mk_c M2_begins) 161 = .ok (.iload_n 2, 1) := by decide +kernel
theorem d2_begins_162 : decode (mk_c M2_begins) 162 = .ok (.tableswitch 40 0 5 #[38, 38, 38, 38, 38, 38], 38) := by decide +kernel
theorem d2_begins_200 : decode (mk_c M2_begins) 200 = .ok (.iconst 1, 1) := by decide +kernel
theorem d2_begins_201 : decode (mk_c M2_begins) 201 = .ok (.ireturn, 1) := by decide +kernel
theorem d2_begins_202 : decode (mk_c M2_begins) 202 = .ok (.iconst 0, 1) := by decide +kernel
theorem d2_begins_203 : decode (mk_c M2_begins) 203 = .ok (.ireturn, 1) := by decide +kernel
theorem d2_fail_0 : decode (mk_c M2_fail) 0 = .ok (.aload_n 0, 1) := by decide +kernel
theorem d2_fail_1 : decode (mk_c M2_fail) 1 = .ok (.getfield 12, 3) := by decide +kernel
theorem d2_fail_4 : decode (mk_c M2_fail) 4 = .ok (.iload_n 1, 1) := by decide +kernel
theorem d2_fail_5 : decode (mk_c M2_fail) 5 = .ok (.aload_n 0, 1) := by decide +kernel
theorem d2_fail_6 : decode (mk_c M2_fail) 6 = .ok (.getfield 30, 3) := by decide +kernel
theorem d2_fail_9 : decode (mk_c M2_fail) 9 = .ok (.invokevirtual 34, 3) := by decide +kernel
theorem d2_fail_12 : decode (mk_c M2_fail) 12 = .ok (.areturn, 1) := by decide +kernel
theorem d2_line_0 : decode (mk_c M2_line) 0 = .ok (.aload_n 0, 1) := by decide +kernel
theorem d2_line_1 : decode (mk_c M2_line) 1 = .ok (.getfield 61, 3) := by decide +kernel
theorem d2_line_4 : decode (mk_c M2_line) 4 = .ok (.astore_n 2, 1) := by decide +kernel
theorem d2_line_5 : decode (mk_c M2_line) 5 = .ok (.aload_n 0, 1) := by decide +kernel
theorem d2_line_6 : decode (mk_c M2_line) 6 = .ok (.invokevirtual 71, 3) := by decide +kernel
theorem d2_line_9 : decode (mk_c M2_line) 9 = .ok (.aload_n 2, 1) := by decide +kernel
theorem d2_line_10 : decode (mk_c M2_line) 10 = .ok (.astore_n 3, 1) := by decide +kernel
theorem d2_line_11 : decode (mk_c M2_line) 11 = .ok (.iconst (-1), 1) := by decide +kernel
theorem d2_line_12 : decode (mk_c M2_line) 12 = .ok (.istore 4, 2) := by decide +kernel
theorem d2_line_14 : decode (mk_c M2_line) 14 = .ok (.aload_n 3, 1) := by decide +kernel
theorem d2_line_15 : decode (mk_c M2_line) 15 = .ok (.invokevirtual 93, 3) := by decide +kernel
theorem d2_line_18 : decode (mk_c M2_line) 18 = .ok (.lookupswitch 122 #[(96889, 80), (102230, 50), (107035, 65), (111375, 95), (3642015, 110)], 50) := by decide +kernel
theorem d2_line_68 : decode (mk_c M2_line) 68 = .ok (.aload_n 3, 1) := by decide +kernel
theorem d2_line_69 : decode (mk_c M2_line) 69 = .ok (.ldc 96, 2) := by decide +kernel
theorem d2_line_71 : decode (mk_c M2_line) 71 = .ok (.invokevirtual 74, 3) := by decide +kernel
theorem d2_line_74 : decode (mk_c M2_line) 74 = .ok (.ifCond .eq 66, 3) := by decide +kernel
theorem d2_line_77 : decode (mk_c M2_line) 77 = .ok (.iconst 0, 1) := by decide +kernel
theorem d2_line_78 : decode (mk_c M2_line) 78 = .ok (.istore 4, 2) := by decide +kernel
theorem d2_line_80 : decode (mk_c M2_line) 80 = .ok (.goto 60, 3) := by decide +kernel
theorem d2_line_83 : decode (mk_c M2_line) 83 = .ok (.aload_n 3, 1) := by decide +kernel
theorem d2_line_84 : decode (mk_c M2_line) 84 = .ok (.ldc 98, 2) := by decide +kernel
theorem d2_line_86 : decode (mk_c M2_line) 86 = .ok (.invokevirtual 74, 3) := by decide +kernel
theorem d2_line_89 : decode (mk_c M2_line) 89 = .ok (.ifCond .eq 51, 3) := by decide +kernel
theorem d2_line_92 : decode (mk_c M2_line) 92 = .ok (.iconst 1, 1) := by decide +kernel
theorem d2_line_93 : decode (mk_c M2_line) 93 = .ok (.istore 4, 2) := by decide +kernel
theorem d2_line_95 : decode (mk_c M2_line) 95 = .ok (.goto 45, 3) := by decide +kernel
theorem d2_line_98 : decode (mk_c M2_line) 98 = .ok (.aload_n 3, 1) := by decide +kernel
theorem d2_line_99 : decode (mk_c M2_line) 99 = .ok (.ldc 100, 2) := by decide +kernel
theorem d2_line_101 : decode (mk_c M2_line) 101 = .ok (.invokevirtual 74, 3) := by decide +kernel
theorem d2_line_104 : decode (mk_c M2_line) 104 = .ok (.ifCond .eq 36, 3) := by decide +kernel
theorem d2_line_107 : decode (mk_c M2_line) 107 = .ok (.iconst 2, 1) := by decide +kernel
theorem d2_line_108 : decode (mk_c M2_line) 108 = .ok (.istore 4, 2) := by decide +kernel
theorem d2_line_110 : decode (mk_c M2_line) 110 = .ok (.goto 30, 3) := by decide +kernel
theorem d2_line_113 : decode (mk_c M2_line) 113 = .ok (.aload_n 3, 1) := by decide +kernel
theorem d2_line_114 : decode (mk_c M2_line) 114 = .ok (.ldc 102, 2) := by decide +kernel
theorem d2_line_116 : decode (mk_c M2_line) 116 = .ok (.invokevirtual 74, 3) := by decide +kernel
theorem d2_line_119 : decode (mk_c M2_line) 119 = .ok (.ifCond .eq 21, 3) := by decide +kernel
theorem d2_line_122 : decode (mk_c M2_line) 122 = .ok (.iconst 3, 1) := by decide +kernel
theorem d2_line_123 : decode (mk_c M2_line) 123 = .ok (.istore 4, 2) := by decide +kernel
theorem d2_line_125 : decode (mk_c M2_line) 125 = .ok (.goto 15, 3) := by decide +kernel
theorem d2_line_128 : decode (mk_c M2_line) 128 = .ok (.aload_n 3, 1) := by decide +kernel
theorem d2_line_129 : decode (mk_c M2_line) 129 = .ok (.ldc 104, 2) := by decide +kernel
theorem d2_line_131 : decode (mk_c M2_line) 131 = .ok (.invokevirtual 74, 3) := by decide +kernel
theorem d2_line_134 : decode (mk_c M2_line) 134 = .ok (.ifCond .eq 6, 3) := by decide +kernel
theorem d2_line_137 : decode (mk_c M2_line) 137 = .ok (.iconst 4, 1) := by decide +kernel
theorem d2_line_138 : decode (mk_c M2_line) 138 = .ok (.istore 4, 2) := by decide +kernel
theorem d2_line_140 : decode (mk_c M2_line) 140 = .ok (.iload 4, 2) := by decide +kernel
theorem d2_line_142 : decode (mk_c M2_line) 142 = .ok (.tableswitch 166 0 4 #[34, 62, 67, 110, 138], 34) := by decide +kernel
theorem d2_line_176 : decode (mk_c M2_line) 176 = .ok (.aload_n 0, 1) := by decide +kernel
theorem d2_line_177 : decode (mk_c M2_line) 177 = .ok (.bipush 15, 2) := by decide +kernel
theorem d2_line_179 : decode (mk_c M2_line) 179 = .ok (.invokevirtual 119, 3) := by decide +kernel
theorem d2_line_182 : decode (mk_c M2_line) 182 = .ok (.istore 5, 2) := by decide +kernel
theorem d2_line_184 : decode (mk_c M2_line) 184 = .ok (.aload_n 0, 1) := by decide +kernel
theorem d2_line_185 : decode (mk_c M2_line) 185 = .ok (.ldc 121, 2) := by decide +kernel
theorem d2_line_187 : decode (mk_c M2_line) 187 = .ok (.invokevirtual 123, 3) := by decide +kernel
theorem d2_line_190 : decode (mk_c M2_line) 190 = .ok (.new 127, 3) := by decide +kernel
theorem d2_line_193 : decode (mk_c M2_line) 193 = .ok (.dup, 1) := by decide +kernel
theorem d2_line_194 : decode (mk_c M2_line) 194 = .ok (.iload 5, 2) := by decide +kernel
theorem d2_line_196 : decode (mk_c M2_line) 196 = .ok (.aload_n 0, 1) := by decide +kernel
theorem d2_line_197 : decode (mk_c M2_line) 197 = .ok (.invokevirtual 129, 3) := by decide +kernel
theorem d2_line_200 : decode (mk_c M2_line) 200 = .ok (.invokespecial 132, 3) := by decide +kernel
theorem d2_line_203 : decode (mk_c M2_line) 203 = .ok (.areturn, 1) := by decide +kernel
theorem d2_line_204 : decode (mk_c M2_line) 204 = .ok (.aload_n 0, 1) := by decide +kernel
theorem d2_line_205 : decode (mk_c M2_line) 205 = .ok (.invokevirtual 135, 3) := by decide +kernel
theorem d2_line_208 : decode (mk_c M2_line) 208 = .ok (.areturn, 1) := by decide +kernel
theorem d2_line_209 : decode (mk_c M2_line) 209 = .ok (.aload_n 0, 1) := by decide +kernel
theorem d2_line_210 : decode (mk_c M2_line) 210 = .ok (.iload_n 1, 1) := by decide +kernel
theorem d2_line_211 : decode (mk_c M2_line) 211 = .ok (.iconst 1, 1) := by decide +kernel
theorem d2_line_212 : decode (mk_c M2_line) 212 = .ok (.isub, 1) := by decide +kernel
theorem d2_line_213 : decode (mk_c M2_line) 213 = .ok (.invokevirtual 119, 3) := by decide +kernel
theorem d2_line_216 : decode (mk_c M2_line) 216 = .ok (.istore 5, 2) := by decide +kernel
theorem d2_line_218 : decode (mk_c M2_line) 218 = .ok (.aload_n 0, 1) := by decide +kernel
theorem d2_line_219 : decode (mk_c M2_line) 219 = .ok (.ldc 138, 2) := by decide +kernel
theorem d2_line_221 : decode (mk_c M2_line) 221 = .ok (.invokevirtual 123, 3) := by decide +kernel
theorem d2_line_224 : decode (mk_c M2_line) 224 = .ok (.aload_n 0, 1) := by decide +kernel
theorem d2_line_225 : decode (mk_c M2_line) 225 = .ok (.invokevirtual 129, 3) := by decide +kernel
theorem d2_line_228 : decode (mk_c M2_line) 228 = .ok (.istore 6, 2) := by decide +kernel
theorem d2_line_230 : decode (mk_c M2_line) 230 = .ok (.aload_n 0, 1) := by decide +kernel
theorem d2_line_231 : decode (mk_c M2_line) 231 = .ok (.ldc 121, 2) := by decide +kernel
theorem d2_line_233 : decode (mk_c M2_line) 233 = .ok (.invokevirtual 123, 3) := by decide +kernel
theorem d2_line_236 : decode (mk_c M2_line) 236 = .ok (.new 140, 3) := by decide +kernel
theorem d2_line_239 : decode (mk_c M2_line) 239 = .ok (.dup, 1) := by decide +kernel
theorem d2_line_240 : decode (mk_c M2_line) 240 = .ok (.iload 5, 2) := by decide +kernel
theorem d2_line_242 : decode (mk_c M2_line) 242 = .ok (.iload 6, 2) := by decide +kernel
theorem d2_line_244 : decode (mk_c M2_line) 244 = .ok (.aload_n 0, 1) := by decide +kernel
theorem d2_line_245 : decode (mk_c M2_line) 245 = .ok (.invokevirtual 129, 3) := by decide +kernel
theorem d2_line_248 : decode (mk_c M2_line) 248 = .ok (.invokespecial 142, 3) := by decide +kernel
theorem d2_line_251 : decode (mk_c M2_line) 251 = .ok (.areturn, 1) := by decide +kernel
theorem d2_line_252 : decode (mk_c M2_line) 252 = .ok (.aload_n 0, 1) := by decide +kernel
theorem d2_line_253 : decode (mk_c M2_line) 253 = .ok (.invokevirtual 129, 3) := by decide +kernel
theorem d2_line_256 : decode (mk_c M2_line) 256 = .ok (.istore 5, 2) := by decide +kernel
theorem d2_line_258 : decode (mk_c M2_line) 258 = .ok (.aload_n 0, 1) := by decide +kernel
theorem d2_line_259 : decode (mk_c M2_line) 259 = .ok (.ldc 145, 2) := by decide +kernel
theorem d2_line_261 : decode (mk_c M2_line) 261 = .ok (.invokevirtual 123, 3) := by decide +kernel
theorem d2_line_264 : decode (mk_c M2_line) 264 = .ok (.new 147, 3) := by decide +kernel
theorem d2_line_267 : decode (mk_c M2_line) 267 = .ok (.dup, 1) := by decide +kernel
theorem d2_line_268 : decode (mk_c M2_line) 268 = .ok (.iload 5, 2) := by decide +kernel
theorem d2_line_270 : decode (mk_c M2_line) 270 = .ok (.aload_n 0, 1) := by decide +kernel
theorem d2_line_271 : decode (mk_c M2_line) 271 = .ok (.bipush 15, 2) := by decide +kernel
theorem d2_line_273 : decode (mk_c M2_line) 273 = .ok (.invokevirtual 119, 3) := by decide +kernel
theorem d2_line_276 : decode (mk_c M2_line) 276 = .ok (.invokespecial 149, 3) := by decide +kernel
theorem d2_line_279 : decode (mk_c M2_line) 279 = .ok (.areturn, 1) := by decide +kernel
theorem d2_line_280 : decode (mk_c M2_line) 280 = .ok (.aload_n 0, 1) := by decide +kernel
theorem d2_line_281 : decode (mk_c M2_line) 281 = .ok (.invokevirtual 129, 3) := by decide +kernel
theorem d2_line_284 : decode (mk_c M2_line) 284 = .ok (.istore 5, 2) := by decide +kernel
theorem d2_line_286 : decode (mk_c M2_line) 286 = .ok (.aload_n 0, 1) := by decide +kernel
theorem d2_line_287 : decode (mk_c M2_line) 287 = .ok (.ldc 150, 2) := by decide +kernel
theorem d2_line_289 : decode (mk_c M2_line) 289 = .ok (.invokevirtual 123, 3) := by decide +kernel
theorem d2_line_292 : decode (mk_c M2_line) 292 = .ok (.new 152, 3) := by decide +kernel
theorem d2_line_295 : decode (mk_c M2_line) 295 = .ok (.dup, 1) := by decide +kernel
theorem d2_line_296 : decode (mk_c M2_line) 296 = .ok (.iload 5, 2) := by decide +kernel
theorem d2_line_298 : decode (mk_c M2_line) 298 = .ok (.aload_n 0, 1) := by decide +kernel
theorem d2_line_299 : decode (mk_c M2_line) 299 = .ok (.bipush 15, 2) := by decide +kernel
theorem d2_line_301 : decode (mk_c M2_line) 301 = .ok (.invokevirtual 119, 3) := by decide +kernel
theorem d2_line_304 : decode (mk_c M2_line) 304 = .ok (.invokespecial 154, 3) := by decide +kernel
theorem d2_line_307 : decode (mk_c M2_line) 307 = .ok (.areturn, 1) := by decide +kernel
theorem d2_line_308 : decode (mk_c M2_line) 308 = .ok (.new 155, 3) := by decide +kernel
theorem d2_line_311 : decode (mk_c M2_line) 311 = .ok (.dup, 1) := by decide +kernel
theorem d2_line_312 : decode (mk_c M2_line) 312 = .ok (.aload_n 0, 1) := by decide +kernel
theorem d2_line_313 : decode (mk_c M2_line) 313 = .ok (.invokevirtual 129, 3) := by decide +kernel
theorem d2_line_316 : decode (mk_c M2_line) 316 = .ok (.invokespecial 157, 3) := by decide +kernel
theorem d2_line_319 : decode (mk_c M2_line) 319 = .ok (.areturn, 1) := by decide +kernel
theorem d2_whole_0 : decode (mk_c M2_whole) 0 = .ok (.aload_n 0, 1) := by decide +kernel
theorem d2_whole_1 : decode (mk_c M2_whole) 1 = .ok (.getfield 47, 3) := by decide +kernel
theorem d2_whole_4 : decode (mk_c M2_whole) 4 = .ok (.iconst 3, 1) := by decide +kernel
theorem d2_whole_5 : decode (mk_c M2_whole) 5 = .ok (.if_icmp .eq 9, 3) := by decide +kernel
theorem d2_whole_8 : decode (mk_c M2_whole) 8 = .ok (.aload_n 0, 1) := by decide +kernel
theorem d2_whole_9 : decode (mk_c M2_whole) 9 = .ok (.iconst 1, 1) := by decide +kernel
theorem d2_whole_10 : decode (mk_c M2_whole) 10 = .ok (.invokevirtual 78, 3) := by decide +kernel
theorem d2_whole_13 : decode (mk_c M2_whole) 13 = .ok (.athrow, 1) := by decide +kernel
theorem d2_whole_14 : decode (mk_c M2_whole) 14 = .ok (.aload_n 0, 1) := by decide +kernel
theorem d2_whole_15 : decode (mk_c M2_whole) 15 = .ok (.getfield 68, 3) := by decide +kernel
theorem d2_whole_18 : decode (mk_c M2_whole) 18 = .ok (.iload_n 1, 1) := by decide +kernel
theorem d2_whole_19 : decode (mk_c M2_whole) 19 = .ok (.if_icmp .le 9, 3) := by decide +kernel
theorem d2_whole_22 : decode (mk_c M2_whole) 22 = .ok (.aload_n 0, 1) := by decide +kernel
theorem d2_whole_23 : decode (mk_c M2_whole) 23 = .ok (.iconst 3, 1) := by decide +kernel
theorem d2_whole_24 : decode (mk_c M2_whole) 24 = .ok (.invokevirtual 78, 3) := by decide +kernel
theorem d2_whole_27 : decode (mk_c M2_whole) 27 = .ok (.athrow, 1) := by decide +kernel
theorem d2_whole_28 : decode (mk_c M2_whole) 28 = .ok (.aload_n 0, 1) := by decide +kernel
theorem d2_whole_29 : decode (mk_c M2_whole) 29 = .ok (.getfield 68, 3) := by decide +kernel
theorem d2_whole_32 : decode (mk_c M2_whole) 32 = .ok (.istore_n 2, 1) := by decide +kernel
theorem d2_whole_33 : decode (mk_c M2_whole) 33 = .ok (.aload_n 0, 1) := by decide +kernel
theorem d2_whole_34 : decode (mk_c M2_whole) 34 = .ok (.invokevirtual 71, 3) := by decide +kernel
theorem d2_whole_37 : decode (mk_c M2_whole) 37 = .ok (.iload_n 2, 1) := by decide +kernel
theorem d2_whole_38 : decode (mk_c M2_whole) 38 = .ok (.ireturn, 1) := by decide +kernel
theorem d2_must_0 : decode (mk_c M2_must) 0 = .ok (.aload_n 0, 1) := by decide +kernel
theorem d2_must_1 : decode (mk_c M2_must) 1 = .ok (.getfield 47, 3) := by decide +kernel
theorem d2_must_4 : decode (mk_c M2_must) 4 = .ok (.iconst 2, 1) := by decide +kernel
theorem d2_must_5 : decode (mk_c M2_must) 5 = .ok (.if_icmp .ne 14, 3) := by decide +kernel
theorem d2_must_8 : decode (mk_c M2_must) 8 = .ok (.aload_n 0, 1) := by decide +kernel
theorem d2_must_9 : decode (mk_c M2_must) 9 = .ok (.getfield 61, 3) := by decide +kernel
theorem d2_must_12 : decode (mk_c M2_must) 12 = .ok (.aload_n 1, 1) := by decide +kernel
theorem d2_must_13 : decode (mk_c M2_must) 13 = .ok (.invokevirtual 74, 3) := by decide +kernel
theorem d2_must_16 : decode (mk_c M2_must) 16 = .ok (.ifCond .ne 9, 3) := by decide +kernel
theorem d2_must_19 : decode (mk_c M2_must) 19 = .ok (.aload_n 0, 1) := by decide +kernel
theorem d2_must_20 : decode (mk_c M2_must) 20 = .ok (.iconst 1, 1) := by decide +kernel
theorem d2_must_21 : decode (mk_c M2_must) 21 = .ok (.invokevirtual 78, 3) := by decide +kernel
theorem d2_must_24 : decode (mk_c M2_must) 24 = .ok (.athrow, 1) := by decide +kernel
theorem d2_must_25 : decode (mk_c M2_must) 25 = .ok (.aload_n 0, 1) := by decide +kernel
theorem d2_must_26 : decode (mk_c M2_must) 26 = .ok (.invokevirtual 71, 3) := by decide +kernel
theorem d2_must_29 : decode (mk_c M2_must) 29 = .ok (.return_, 1) := by decide +kernel
theorem d2_name_0 : decode (mk_c M2_name) 0 = .ok (.aload_n 0, 1) := by decide +kernel
theorem d2_name_1 : decode (mk_c M2_name) 1 = .ok (.invokevirtual 90, 3) := by decide +kernel
theorem d2_name_4 : decode (mk_c M2_name) 4 = .ok (.istore_n 1, 1) := by decide +kernel
theorem d2_name_5 : decode (mk_c M2_name) 5 = .ok (.aload_n 0, 1) := by decide +kernel
theorem d2_name_6 : decode (mk_c M2_name) 6 = .ok (.invokevirtual 71, 3) := by decide +kernel
theorem d2_name_9 : decode (mk_c M2_name) 9 = .ok (.iload_n 1, 1) := by decide +kernel
theorem d2_name_10 : decode (mk_c M2_name) 10 = .ok (.ireturn, 1) := by decide +kernel
theorem d2_seeName_0 : decode (mk_c M2_seeName) 0 = .ok (.aload_n 0, 1) := by decide +kernel
theorem d2_seeName_1 : decode (mk_c M2_seeName) 1 = .ok (.getfield 47, 3) := by decide +kernel
theorem d2_seeName_4 : decode (mk_c M2_seeName) 4 = .ok (.iconst 2, 1) := by decide +kernel
theorem d2_seeName_5 : decode (mk_c M2_seeName) 5 = .ok (.if_icmp .eq 9, 3) := by decide +kernel
theorem d2_seeName_8 : decode (mk_c M2_seeName) 8 = .ok (.aload_n 0, 1) := by decide +kernel
theorem d2_seeName_9 : decode (mk_c M2_seeName) 9 = .ok (.iconst 1, 1) := by decide +kernel
theorem d2_seeName_10 : decode (mk_c M2_seeName) 10 = .ok (.invokevirtual 78, 3) := by decide +kernel
theorem d2_seeName_13 : decode (mk_c M2_seeName) 13 = .ok (.athrow, 1) := by decide +kernel
theorem d2_seeName_14 : decode (mk_c M2_seeName) 14 = .ok (.aload_n 0, 1) := by decide +kernel
theorem d2_seeName_15 : decode (mk_c M2_seeName) 15 = .ok (.getfield 61, 3) := by decide +kernel
theorem d2_seeName_18 : decode (mk_c M2_seeName) 18 = .ok (.invokevirtual 82, 3) := by decide +kernel
theorem d2_seeName_21 : decode (mk_c M2_seeName) 21 = .ok (.iconst 1, 1) := by decide +kernel
theorem d2_seeName_22 : decode (mk_c M2_seeName) 22 = .ok (.if_icmp .ne 16, 3) := by decide +kernel
theorem d2_seeName_25 : decode (mk_c M2_seeName) 25 = .ok (.aload_n 0, 1) := by decide +kernel
theorem d2_seeName_26 : decode (mk_c M2_seeName) 26 = .ok (.getfield 61, 3) := by decide +kernel
theorem d2_seeName_29 : decode (mk_c M2_seeName) 29 = .ok (.iconst 0, 1) := by decide +kernel
theorem d2_seeName_30 : decode (mk_c M2_seeName) 30 = .ok (.invokevirtual 86, 3) := by decide +kernel
theorem d2_seeName_33 : decode (mk_c M2_seeName) 33 = .ok (.bipush 104, 2) := by decide +kernel
theorem d2_seeName_35 : decode (mk_c M2_seeName) 35 = .ok (.if_icmp .le 9, 3) := by decide +kernel
theorem d2_seeName_38 : decode (mk_c M2_seeName) 38 = .ok (.aload_n 0, 1) := by decide +kernel
theorem d2_seeName_39 : decode (mk_c M2_seeName) 39 = .ok (.iconst 2, 1) := by decide +kernel
theorem d2_seeName_40 : decode (mk_c M2_seeName) 40 = .ok (.invokevirtual 78, 3) := by decide +kernel
theorem d2_seeName_43 : decode (mk_c M2_seeName) 43 = .ok (.athrow, 1) := by decide +kernel
theorem d2_seeName_44 : decode (mk_c M2_seeName) 44 = .ok (.aload_n 0, 1) := by decide +kernel
theorem d2_seeName_45 : decode (mk_c M2_seeName) 45 = .ok (.getfield 61, 3) := by decide +kernel
theorem d2_seeName_48 : decode (mk_c M2_seeName) 48 = .ok (.iconst 0, 1) := by decide +kernel
theorem d2_seeName_49 : decode (mk_c M2_seeName) 49 = .ok (.invokevirtual 86, 3) := by decide +kernel
theorem d2_seeName_52 : decode (mk_c M2_seeName) 52 = .ok (.bipush 97, 2) := by decide +kernel
theorem d2_seeName_54 : decode (mk_c M2_seeName) 54 = .ok (.isub, 1) := by decide +kernel
theorem d2_seeName_55 : decode (mk_c M2_seeName) 55 = .ok (.ireturn, 1) := by decide +kernel
theorem d2_let_0 : decode (mk_c M2_let) 0 = .ok (.aload_n 0, 1) := by decide +kernel
theorem d2_let_1 : decode (mk_c M2_let) 1 = .ok (.invokevirtual 129, 3) := by decide +kernel
theorem d2_let_4 : decode (mk_c M2_let) 4 = .ok (.istore_n 1, 1) := by decide +kernel
theorem d2_let_5 : decode (mk_c M2_let) 5 = .ok (.aload_n 0, 1) := by decide +kernel
theorem d2_let_6 : decode (mk_c M2_let) 6 = .ok (.ldc 160, 2) := by decide +kernel
theorem d2_let_8 : decode (mk_c M2_let) 8 = .ok (.invokevirtual 123, 3) := by decide +kernel
theorem d2_let_11 : decode (mk_c M2_let) 11 = .ok (.iconst 0, 1) := by decide +kernel
theorem d2_let_12 : decode (mk_c M2_let) 12 = .ok (.istore_n 2, 1) := by decide +kernel
theorem d2_let_13 : decode (mk_c M2_let) 13 = .ok (.iconst 1, 1) := by decide +kernel
theorem d2_let_14 : decode (mk_c M2_let) 14 = .ok (.istore_n 3, 1) := by decide +kernel
theorem d2_let_15 : decode (mk_c M2_let) 15 = .ok (.iload_n 3, 1) := by decide +kernel
theorem d2_let_16 : decode (mk_c M2_let) 16 = .ok (.ifCond .eq 45, 3) := by decide +kernel
theorem d2_let_19 : decode (mk_c M2_let) 19 = .ok (.aload_n 0, 1) := by decide +kernel
theorem d2_let_20 : decode (mk_c M2_let) 20 = .ok (.invokevirtual 90, 3) := by decide +kernel
theorem d2_let_23 : decode (mk_c M2_let) 23 = .ok (.istore 4, 2) := by decide +kernel
theorem d2_let_25 : decode (mk_c M2_let) 25 = .ok (.iload_n 2, 1) := by decide +kernel
theorem d2_let_26 : decode (mk_c M2_let) 26 = .ok (.iconst 4, 1) := by decide +kernel
theorem d2_let_27 : decode (mk_c M2_let) 27 = .ok (.if_icmp .ne 9, 3) := by decide +kernel
theorem d2_let_30 : decode (mk_c M2_let) 30 = .ok (.aload_n 0, 1) := by decide +kernel
theorem d2_let_31 : decode (mk_c M2_let) 31 = .ok (.iconst 4, 1) := by decide +kernel
theorem d2_let_32 : decode (mk_c M2_let) 32 = .ok (.invokevirtual 78, 3) := by decide +kernel
theorem d2_let_35 : decode (mk_c M2_let) 35 = .ok (.athrow, 1) := by decide +kernel
theorem d2_let_36 : decode (mk_c M2_let) 36 = .ok (.aload_n 0, 1) := by decide +kernel
theorem d2_let_37 : decode (mk_c M2_let) 37 = .ok (.getfield 22, 3) := by decide +kernel
theorem d2_let_40 : decode (mk_c M2_let) 40 = .ok (.iload_n 2, 1) := by decide +kernel
theorem d2_let_41 : decode (mk_c M2_let) 41 = .ok (.iload 4, 2) := by decide +kernel
theorem d2_let_43 : decode (mk_c M2_let) 43 = .ok (.iastore, 1) := by decide +kernel
theorem d2_let_44 : decode (mk_c M2_let) 44 = .ok (.iinc 2 1, 3) := by decide +kernel
theorem d2_let_47 : decode (mk_c M2_let) 47 = .ok (.aload_n 0, 1) := by decide +kernel
theorem d2_let_48 : decode (mk_c M2_let) 48 = .ok (.invokevirtual 71, 3) := by decide +kernel
theorem d2_let_51 : decode (mk_c M2_let) 51 = .ok (.aload_n 0, 1) := by decide +kernel
theorem d2_let_52 : decode (mk_c M2_let) 52 = .ok (.bipush 44, 2) := by decide +kernel
theorem d2_let_54 : decode (mk_c M2_let) 54 = .ok (.invokevirtual 116, 3) := by decide +kernel
theorem d2_let_57 : decode (mk_c M2_let) 57 = .ok (.istore_n 3, 1) := by decide +kernel
theorem d2_let_58 : decode (mk_c M2_let) 58 = .ok (.goto (-43), 3) := by decide +kernel
theorem d2_let_61 : decode (mk_c M2_let) 61 = .ok (.new 162, 3) := by decide +kernel
theorem d2_let_64 : decode (mk_c M2_let) 64 = .ok (.dup, 1) := by decide +kernel
theorem d2_let_65 : decode (mk_c M2_let) 65 = .ok (.iload_n 1, 1) := by decide +kernel
theorem d2_let_66 : decode (mk_c M2_let) 66 = .ok (.aload_n 0, 1) := by decide +kernel
theorem d2_let_67 : decode (mk_c M2_let) 67 = .ok (.getfield 22, 3) := by decide +kernel
theorem d2_let_70 : decode (mk_c M2_let) 70 = .ok (.iload_n 2, 1) := by decide +kernel
theorem d2_let_71 : decode (mk_c M2_let) 71 = .ok (.invokespecial 164, 3) := by decide +kernel
theorem d2_let_74 : decode (mk_c M2_let) 74 = .ok (.areturn, 1) := by decide +kernel
theorem d2_takes_0 : decode (mk_c M2_takes) 0 = .ok (.aload_n 0, 1) := by decide +kernel
theorem d2_takes_1 : decode (mk_c M2_takes) 1 = .ok (.getfield 47, 3) := by decide +kernel
theorem d2_takes_4 : decode (mk_c M2_takes) 4 = .ok (.iload_n 1, 1) := by decide +kernel
theorem d2_takes_5 : decode (mk_c M2_takes) 5 = .ok (.if_icmp .eq 5, 3) := by decide +kernel
theorem d2_takes_8 : decode (mk_c M2_takes) 8 = .ok (.iconst 0, 1) := by decide +kernel
theorem d2_takes_9 : decode (mk_c M2_takes) 9 = .ok (.ireturn, 1) := by decide +kernel
theorem d2_takes_10 : decode (mk_c M2_takes) 10 = .ok (.aload_n 0, 1) := by decide +kernel
theorem d2_takes_11 : decode (mk_c M2_takes) 11 = .ok (.invokevirtual 71, 3) := by decide +kernel
theorem d2_takes_14 : decode (mk_c M2_takes) 14 = .ok (.iconst 1, 1) := by decide +kernel
theorem d2_takes_15 : decode (mk_c M2_takes) 15 = .ok (.ireturn, 1) := by decide +kernel
theorem d3_init_0 : decode (mk_c M3_init) 0 = .ok (.aload_n 0, 1) := by decide +kernel
theorem d3_init_1 : decode (mk_c M3_init) 1 = .ok (.aconst_null, 1) := by decide +kernel
theorem d3_init_2 : decode (mk_c M3_init) 2 = .ok (.aconst_null, 1) := by decide +kernel
theorem d3_init_3 : decode (mk_c M3_init) 3 = .ok (.iconst 0, 1) := by decide +kernel
theorem d3_init_4 : decode (mk_c M3_init) 4 = .ok (.iconst 0, 1) := by decide +kernel
theorem d3_init_5 : decode (mk_c M3_init) 5 = .ok (.invokespecial 3, 3) := by decide +kernel
theorem d3_init_8 : decode (mk_c M3_init) 8 = .ok (.aload_n 0, 1) := by decide +kernel
theorem d3_init_9 : decode (mk_c M3_init) 9 = .ok (.iconst (-1), 1) := by decide +kernel
theorem d3_init_10 : decode (mk_c M3_init) 10 = .ok (.putfield 9, 3) := by decide +kernel
theorem d3_init_13 : decode (mk_c M3_init) 13 = .ok (.return_, 1) := by decide +kernel
theorem d3_at_0 : decode (mk_c M3_at) 0 = .ok (.aload_n 0, 1) := by decide +kernel
theorem d3_at_1 : decode (mk_c M3_at) 1 = .ok (.iconst 4, 1) := by decide +kernel
theorem d3_at_2 : decode (mk_c M3_at) 2 = .ok (.invokevirtual 21, 3) := by decide +kernel
theorem d3_at_5 : decode (mk_c M3_at) 5 = .ok (.pop, 1) := by decide +kernel
theorem d3_at_6 : decode (mk_c M3_at) 6 = .ok (.aload_n 0, 1) := by decide +kernel
theorem d3_at_7 : decode (mk_c M3_at) 7 = .ok (.iload_n 1, 1) := by decide +kernel
theorem d3_at_8 : decode (mk_c M3_at) 8 = .ok (.putfield 18, 3) := by decide +kernel
theorem d3_at_11 : decode (mk_c M3_at) 11 = .ok (.aload_n 0, 1) := by decide +kernel
theorem d3_at_12 : decode (mk_c M3_at) 12 = .ok (.iload_n 2, 1) := by decide +kernel
theorem d3_at_13 : decode (mk_c M3_at) 13 = .ok (.putfield 9, 3) := by decide +kernel
theorem d3_at_16 : decode (mk_c M3_at) 16 = .ok (.aload_n 0, 1) := by decide +kernel
theorem d3_at_17 : decode (mk_c M3_at) 17 = .ok (.areturn, 1) := by decide +kernel
theorem d3_by_0 : decode (mk_c M3_by) 0 = .ok (.aload_n 0, 1) := by decide +kernel
theorem d3_by_1 : decode (mk_c M3_by) 1 = .ok (.iload_n 1, 1) := by decide +kernel
theorem d3_by_2 : decode (mk_c M3_by) 2 = .ok (.putfield 15, 3) := by decide +kernel
theorem d3_by_5 : decode (mk_c M3_by) 5 = .ok (.aload_n 0, 1) := by decide +kernel
theorem d3_by_6 : decode (mk_c M3_by) 6 = .ok (.iconst 0, 1) := by decide +kernel
theorem d3_by_7 : decode (mk_c M3_by) 7 = .ok (.putfield 18, 3) := by decide +kernel
theorem d3_by_10 : decode (mk_c M3_by) 10 = .ok (.aload_n 0, 1) := by decide +kernel
theorem d3_by_11 : decode (mk_c M3_by) 11 = .ok (.iconst (-1), 1) := by decide +kernel
theorem d3_by_12 : decode (mk_c M3_by) 12 = .ok (.putfield 9, 3) := by decide +kernel
theorem d3_by_15 : decode (mk_c M3_by) 15 = .ok (.aload_n 0, 1) := by decide +kernel
theorem d3_by_16 : decode (mk_c M3_by) 16 = .ok (.areturn, 1) := by decide +kernel
theorem d4_init_0 : decode (mk_c M4_init) 0 = .ok (.aload_n 0, 1) := by decide +kernel
theorem d4_init_1 : decode (mk_c M4_init) 1 = .ok (.invokespecial 3, 3) := by decide +kernel
theorem d4_init_4 : decode (mk_c M4_init) 4 = .ok (.aload_n 0, 1) := by decide +kernel
theorem d4_init_5 : decode (mk_c M4_init) 5 = .ok (.bipush 10, 2) := by decide +kernel
theorem d4_init_7 : decode (mk_c M4_init) 7 = .ok (.newarray .int, 2) := by decide +kernel
theorem d4_init_9 : decode (mk_c M4_init) 9 = .ok (.putfield 9, 3) := by decide +kernel
theorem d4_init_12 : decode (mk_c M4_init) 12 = .ok (.aload_n 0, 1) := by decide +kernel
theorem d4_init_13 : decode (mk_c M4_init) 13 = .ok (.bipush 90, 2) := by decide +kernel
theorem d4_init_15 : decode (mk_c M4_init) 15 = .ok (.newarray .int, 2) := by decide +kernel
theorem d4_init_17 : decode (mk_c M4_init) 17 = .ok (.putfield 15, 3) := by decide +kernel
theorem d4_init_20 : decode (mk_c M4_init) 20 = .ok (.aload_n 0, 1) := by decide +kernel
theorem d4_init_21 : decode (mk_c M4_init) 21 = .ok (.bipush 16, 2) := by decide +kernel
theorem d4_init_23 : decode (mk_c M4_init) 23 = .ok (.newarray .int, 2) := by decide +kernel
theorem d4_init_25 : decode (mk_c M4_init) 25 = .ok (.putfield 18, 3) := by decide +kernel
theorem d4_init_28 : decode (mk_c M4_init) 28 = .ok (.aload_n 0, 1) := by decide +kernel
theorem d4_init_29 : decode (mk_c M4_init) 29 = .ok (.aload_n 1, 1) := by decide +kernel
theorem d4_init_30 : decode (mk_c M4_init) 30 = .ok (.putfield 21, 3) := by decide +kernel
theorem d4_init_33 : decode (mk_c M4_init) 33 = .ok (.return_, 1) := by decide +kernel
theorem d4_takesGrants_0 : decode (mk_c M4_takesGrants) 0 = .ok (.iconst 0, 1) := by decide +kernel
theorem d4_takesGrants_1 : decode (mk_c M4_takesGrants) 1 = .ok (.istore_n 1, 1) := by decide +kernel
theorem d4_takesGrants_2 : decode (mk_c M4_takesGrants) 2 = .ok (.iload_n 1, 1) := by decide +kernel
theorem d4_takesGrants_3 : decode (mk_c M4_takesGrants) 3 = .ok (.bipush 10, 2) := by decide +kernel
theorem d4_takesGrants_5 : decode (mk_c M4_takesGrants) 5 = .ok (.if_icmp .ge 37, 3) := by decide +kernel
theorem d4_takesGrants_8 : decode (mk_c M4_takesGrants) 8 = .ok (.aload_n 0, 1) := by decide +kernel
theorem d4_takesGrants_9 : decode (mk_c M4_takesGrants) 9 = .ok (.getfield 9, 3) := by decide +kernel
theorem d4_takesGrants_12 : decode (mk_c M4_takesGrants) 12 = .ok (.iload_n 1, 1) := by decide +kernel
theorem d4_takesGrants_13 : decode (mk_c M4_takesGrants) 13 = .ok (.aload_n 0, 1) := by decide +kernel
theorem d4_takesGrants_14 : decode (mk_c M4_takesGrants) 14 = .ok (.getfield 21, 3) := by decide +kernel
theorem d4_takesGrants_17 : decode (mk_c M4_takesGrants) 17 = .ok (.iload_n 1, 1) := by decide +kernel
theorem d4_takesGrants_18 : decode (mk_c M4_takesGrants) 18 = .ok (.aaload, 1) := by decide +kernel
theorem d4_takesGrants_19 : decode (mk_c M4_takesGrants) 19 = .ok (.ifnonnull 7, 3) := by decide +kernel
theorem d4_takesGrants_22 : decode (mk_c M4_takesGrants) 22 = .ok (.iconst 0, 1) := by decide +kernel
theorem d4_takesGrants_23 : decode (mk_c M4_takesGrants) 23 = .ok (.goto 12, 3) := by decide +kernel
theorem d4_takesGrants_26 : decode (mk_c M4_takesGrants) 26 = .ok (.aload_n 0, 1) := by decide +kernel
theorem d4_takesGrants_27 : decode (mk_c M4_takesGrants) 27 = .ok (.getfield 21, 3) := by decide +kernel
theorem d4_takesGrants_30 : decode (mk_c M4_takesGrants) 30 = .ok (.iload_n 1, 1) := by decide +kernel
theorem d4_takesGrants_31 : decode (mk_c M4_takesGrants) 31 = .ok (.aaload, 1) := by decide +kernel
theorem d4_takesGrants_32 : decode (mk_c M4_takesGrants) 32 = .ok (.getfield 58, 3) := by decide +kernel
theorem d4_takesGrants_35 : decode (mk_c M4_takesGrants) 35 = .ok (.iastore, 1) := by decide +kernel
theorem d4_takesGrants_36 : decode (mk_c M4_takesGrants) 36 = .ok (.iinc 1 1, 3) := by decide +kernel
theorem d4_takesGrants_39 : decode (mk_c M4_takesGrants) 39 = .ok (.goto (-37), 3) := by decide +kernel
theorem d4_takesGrants_42 : decode (mk_c M4_takesGrants) 42 = .ok (.return_, 1) := by decide +kernel
theorem d4_goes_0 : decode (mk_c M4_goes) 0 = .ok (.aload_n 0, 1) := by decide +kernel
theorem d4_goes_1 : decode (mk_c M4_goes) 1 = .ok (.iload_n 1, 1) := by decide +kernel
theorem d4_goes_2 : decode (mk_c M4_goes) 2 = .ok (.putfield 42, 3) := by decide +kernel
theorem d4_goes_5 : decode (mk_c M4_goes) 5 = .ok (.aload_n 0, 1) := by decide +kernel
theorem d4_goes_6 : decode (mk_c M4_goes) 6 = .ok (.iload_n 1, 1) := by decide +kernel
theorem d4_goes_7 : decode (mk_c M4_goes) 7 = .ok (.ifCond .le 7, 3) := by decide +kernel
theorem d4_goes_10 : decode (mk_c M4_goes) 10 = .ok (.iconst 1, 1) := by decide +kernel
theorem d4_goes_11 : decode (mk_c M4_goes) 11 = .ok (.goto 4, 3) := by decide +kernel
theorem d4_goes_14 : decode (mk_c M4_goes) 14 = .ok (.iconst 0, 1) := by decide +kernel
theorem d4_goes_15 : decode (mk_c M4_goes) 15 = .ok (.putfield 38, 3) := by decide +kernel
theorem d4_goes_18 : decode (mk_c M4_goes) 18 = .ok (.iconst 0, 1) := by decide +kernel
theorem d4_goes_19 : decode (mk_c M4_goes) 19 = .ok (.istore_n 2, 1) := by decide +kernel
theorem d4_goes_20 : decode (mk_c M4_goes) 20 = .ok (.iload_n 2, 1) := by decide +kernel
theorem d4_goes_21 : decode (mk_c M4_goes) 21 = .ok (.bipush 90, 2) := by decide +kernel
theorem d4_goes_23 : decode (mk_c M4_goes) 23 = .ok (.if_icmp .ge 16, 3) := by decide +kernel
theorem d4_goes_26 : decode (mk_c M4_goes) 26 = .ok (.aload_n 0, 1) := by decide +kernel
theorem d4_goes_27 : decode (mk_c M4_goes) 27 = .ok (.getfield 15, 3) := by decide +kernel
theorem d4_goes_30 : decode (mk_c M4_goes) 30 = .ok (.iload_n 2, 1) := by decide +kernel
theorem d4_goes_31 : decode (mk_c M4_goes) 31 = .ok (.iconst 0, 1) := by decide +kernel
theorem d4_goes_32 : decode (mk_c M4_goes) 32 = .ok (.iastore, 1) := by decide +kernel
theorem d4_goes_33 : decode (mk_c M4_goes) 33 = .ok (.iinc 2 1, 3) := by decide +kernel
theorem d4_goes_36 : decode (mk_c M4_goes) 36 = .ok (.goto (-16), 3) := by decide +kernel
theorem d4_goes_39 : decode (mk_c M4_goes) 39 = .ok (.iconst 0, 1) := by decide +kernel
theorem d4_goes_40 : decode (mk_c M4_goes) 40 = .ok (.istore_n 2, 1) := by decide +kernel
theorem d4_goes_41 : decode (mk_c M4_goes) 41 = .ok (.iload_n 2, 1) := by decide +kernel
theorem d4_goes_42 : decode (mk_c M4_goes) 42 = .ok (.bipush 16, 2) := by decide +kernel
theorem d4_goes_44 : decode (mk_c M4_goes) 44 = .ok (.if_icmp .ge 16, 3) := by decide +kernel
theorem d4_goes_47 : decode (mk_c M4_goes) 47 = .ok (.aload_n 0, 1) := by decide +kernel
theorem d4_goes_48 : decode (mk_c M4_goes) 48 = .ok (.getfield 18, 3) := by decide +kernel
theorem d4_goes_51 : decode (mk_c M4_goes) 51 = .ok (.iload_n 2, 1) := by decide +kernel
theorem d4_goes_52 : decode (mk_c M4_goes) 52 = .ok (.iconst 0, 1) := by decide +kernel
theorem d4_goes_53 : decode (mk_c M4_goes) 53 = .ok (.iastore, 1) := by decide +kernel
theorem d4_goes_54 : decode (mk_c M4_goes) 54 = .ok (.iinc 2 1, 3) := by decide +kernel
theorem d4_goes_57 : decode (mk_c M4_goes) 57 = .ok (.goto (-16), 3) := by decide +kernel
theorem d4_goes_60 : decode (mk_c M4_goes) 60 = .ok (.iconst 1, 1) := by decide +kernel
theorem d4_goes_61 : decode (mk_c M4_goes) 61 = .ok (.istore_n 2, 1) := by decide +kernel
theorem d4_goes_62 : decode (mk_c M4_goes) 62 = .ok (.iload_n 2, 1) := by decide +kernel
theorem d4_goes_63 : decode (mk_c M4_goes) 63 = .ok (.ifCond .eq 81, 3) := by decide +kernel
theorem d4_goes_66 : decode (mk_c M4_goes) 66 = .ok (.iconst 0, 1) := by decide +kernel
theorem d4_goes_67 : decode (mk_c M4_goes) 67 = .ok (.istore_n 2, 1) := by decide +kernel
theorem d4_goes_68 : decode (mk_c M4_goes) 68 = .ok (.iconst 0, 1) := by decide +kernel
theorem d4_goes_69 : decode (mk_c M4_goes) 69 = .ok (.istore_n 3, 1) := by decide +kernel
theorem d4_goes_70 : decode (mk_c M4_goes) 70 = .ok (.iload_n 3, 1) := by decide +kernel
theorem d4_goes_71 : decode (mk_c M4_goes) 71 = .ok (.aload_n 0, 1) := by decide +kernel
theorem d4_goes_72 : decode (mk_c M4_goes) 72 = .ok (.getfield 42, 3) := by decide +kernel
theorem d4_goes_75 : decode (mk_c M4_goes) 75 = .ok (.if_icmp .ge 66, 3) := by decide +kernel
theorem d4_goes_78 : decode (mk_c M4_goes) 78 = .ok (.aload_n 0, 1) := by decide +kernel
theorem d4_goes_79 : decode (mk_c M4_goes) 79 = .ok (.getfield 38, 3) := by decide +kernel
theorem d4_goes_82 : decode (mk_c M4_goes) 82 = .ok (.iload_n 3, 1) := by decide +kernel
theorem d4_goes_83 : decode (mk_c M4_goes) 83 = .ok (.ishr, 1) := by decide +kernel
theorem d4_goes_84 : decode (mk_c M4_goes) 84 = .ok (.iconst 1, 1) := by decide +kernel
theorem d4_goes_85 : decode (mk_c M4_goes) 85 = .ok (.iand, 1) := by decide +kernel
theorem d4_goes_86 : decode (mk_c M4_goes) 86 = .ok (.ifCond .ne 6, 3) := by decide +kernel
theorem d4_goes_89 : decode (mk_c M4_goes) 89 = .ok (.goto 46, 3) := by decide +kernel
theorem d4_goes_92 : decode (mk_c M4_goes) 92 = .ok (.iconst 0, 1) := by decide +kernel
theorem d4_goes_93 : decode (mk_c M4_goes) 93 = .ok (.istore 4, 2) := by decide +kernel
theorem d4_goes_95 : decode (mk_c M4_goes) 95 = .ok (.iload 4, 2) := by decide +kernel
theorem d4_goes_97 : decode (mk_c M4_goes) 97 = .ok (.aload_n 0, 1) := by decide +kernel
theorem d4_goes_98 : decode (mk_c M4_goes) 98 = .ok (.getfield 21, 3) := by decide +kernel
theorem d4_goes_101 : decode (mk_c M4_goes) 101 = .ok (.iload_n 3, 1) := by decide +kernel
theorem d4_goes_102 : decode (mk_c M4_goes) 102 = .ok (.aaload, 1) := by decide +kernel
theorem d4_goes_103 : decode (mk_c M4_goes) 103 = .ok (.getfield 45, 3) := by decide +kernel
theorem d4_goes_106 : decode (mk_c M4_goes) 106 = .ok (.if_icmp .ge 29, 3) := by decide +kernel
theorem d4_goes_109 : decode (mk_c M4_goes) 109 = .ok (.iload_n 2, 1) := by decide +kernel
theorem d4_goes_110 : decode (mk_c M4_goes) 110 = .ok (.aload_n 0, 1) := by decide +kernel
theorem d4_goes_111 : decode (mk_c M4_goes) 111 = .ok (.getfield 21, 3) := by decide +kernel
theorem d4_goes_114 : decode (mk_c M4_goes) 114 = .ok (.iload_n 3, 1) := by decide +kernel
theorem d4_goes_115 : decode (mk_c M4_goes) 115 = .ok (.aaload, 1) := by decide +kernel
theorem d4_goes_116 : decode (mk_c M4_goes) 116 = .ok (.getfield 48, 3) := by decide +kernel
theorem d4_goes_119 : decode (mk_c M4_goes) 119 = .ok (.iload 4, 2) := by decide +kernel
theorem d4_goes_121 : decode (mk_c M4_goes) 121 = .ok (.aaload, 1) := by decide +kernel
theorem d4_goes_122 : decode (mk_c M4_goes) 122 = .ok (.aload_n 0, 1) := by decide +kernel
theorem d4_goes_123 : decode (mk_c M4_goes) 123 = .ok (.iload_n 3, 1) := by decide +kernel
theorem d4_goes_124 : decode (mk_c M4_goes) 124 = .ok (.invokevirtual 52, 3) := by decide +kernel
theorem d4_goes_127 : decode (mk_c M4_goes) 127 = .ok (.ior, 1) := by decide +kernel
theorem d4_goes_128 : decode (mk_c M4_goes) 128 = .ok (.istore_n 2, 1) := by decide +kernel
theorem d4_goes_129 : decode (mk_c M4_goes) 129 = .ok (.iinc 4 1, 3) := by decide +kernel
theorem d4_goes_132 : decode (mk_c M4_goes) 132 = .ok (.goto (-37), 3) := by decide +kernel
theorem d4_goes_135 : decode (mk_c M4_goes) 135 = .ok (.iinc 3 1, 3) := by decide +kernel
theorem d4_goes_138 : decode (mk_c M4_goes) 138 = .ok (.goto (-68), 3) := by decide +kernel
theorem d4_goes_141 : decode (mk_c M4_goes) 141 = .ok (.goto (-79), 3) := by decide +kernel
theorem d4_goes_144 : decode (mk_c M4_goes) 144 = .ok (.return_, 1) := by decide +kernel
theorem d4_asks_0 : decode (mk_c M4_asks) 0 = .ok (.aload_n 0, 1) := by decide +kernel
theorem d4_asks_1 : decode (mk_c M4_asks) 1 = .ok (.getfield 38, 3) := by decide +kernel
theorem d4_asks_4 : decode (mk_c M4_asks) 4 = .ok (.istore_n 2, 1) := by decide +kernel
theorem d4_asks_5 : decode (mk_c M4_asks) 5 = .ok (.aload_n 0, 1) := by decide +kernel
theorem d4_asks_6 : decode (mk_c M4_asks) 6 = .ok (.dup, 1) := by decide +kernel
theorem d4_asks_7 : decode (mk_c M4_asks) 7 = .ok (.getfield 38, 3) := by decide +kernel
theorem d4_asks_10 : decode (mk_c M4_asks) 10 = .ok (.iconst 1, 1) := by decide +kernel
theorem d4_asks_11 : decode (mk_c M4_asks) 11 = .ok (.iload_n 1, 1) := by decide +kernel
theorem d4_asks_12 : decode (mk_c M4_asks) 12 = .ok (.ishl, 1) := by decide +kernel
theorem d4_asks_13 : decode (mk_c M4_asks) 13 = .ok (.ior, 1) := by decide +kernel
theorem d4_asks_14 : decode (mk_c M4_asks) 14 = .ok (.putfield 38, 3) := by decide +kernel
theorem d4_asks_17 : decode (mk_c M4_asks) 17 = .ok (.aload_n 0, 1) := by decide +kernel
theorem d4_asks_18 : decode (mk_c M4_asks) 18 = .ok (.getfield 38, 3) := by decide +kernel
theorem d4_asks_21 : decode (mk_c M4_asks) 21 = .ok (.iload_n 2, 1) := by decide +kernel
theorem d4_asks_22 : decode (mk_c M4_asks) 22 = .ok (.if_icmp .eq 7, 3) := by decide +kernel
theorem d4_asks_25 : decode (mk_c M4_asks) 25 = .ok (.iconst 1, 1) := by decide +kernel
theorem d4_asks_26 : decode (mk_c M4_asks) 26 = .ok (.goto 4, 3) := by decide +kernel
theorem d4_asks_29 : decode (mk_c M4_asks) 29 = .ok (.iconst 0, 1) := by decide +kernel
theorem d4_asks_30 : decode (mk_c M4_asks) 30 = .ok (.ireturn, 1) := by decide +kernel
theorem d4_passes_0 : decode (mk_c M4_passes) 0 = .ok (.aload_n 0, 1) := by decide +kernel
theorem d4_passes_1 : decode (mk_c M4_passes) 1 = .ok (.iload_n 1, 1) := by decide +kernel
theorem d4_passes_2 : decode (mk_c M4_passes) 2 = .ok (.iload_n 2, 1) := by decide +kernel
theorem d4_passes_3 : decode (mk_c M4_passes) 3 = .ok (.invokestatic 25, 3) := by decide +kernel
theorem d4_passes_6 : decode (mk_c M4_passes) 6 = .ok (.iload_n 3, 1) := by decide +kernel
theorem d4_passes_7 : decode (mk_c M4_passes) 7 = .ok (.aload_n 0, 1) := by decide +kernel
theorem d4_passes_8 : decode (mk_c M4_passes) 8 = .ok (.getfield 21, 3) := by decide +kernel
theorem d4_passes_11 : decode (mk_c M4_passes) 11 = .ok (.iload_n 1, 1) := by decide +kernel
theorem d4_passes_12 : decode (mk_c M4_passes) 12 = .ok (.aaload, 1) := by decide +kernel
theorem d4_passes_13 : decode (mk_c M4_passes) 13 = .ok (.getfield 29, 3) := by decide +kernel
theorem d4_passes_16 : decode (mk_c M4_passes) 16 = .ok (.iload_n 2, 1) := by decide +kernel
theorem d4_passes_17 : decode (mk_c M4_passes) 17 = .ok (.iaload, 1) := by decide +kernel
theorem d4_passes_18 : decode (mk_c M4_passes) 18 = .ok (.iconst (-1), 1) := by decide +kernel
theorem d4_passes_19 : decode (mk_c M4_passes) 19 = .ok (.ixor, 1) := by decide +kernel
theorem d4_passes_20 : decode (mk_c M4_passes) 20 = .ok (.iand, 1) := by decide +kernel
theorem d4_passes_21 : decode (mk_c M4_passes) 21 = .ok (.invokevirtual 34, 3) := by decide +kernel
theorem d4_passes_24 : decode (mk_c M4_passes) 24 = .ok (.ireturn, 1) := by decide +kernel
theorem d4_adds_0 : decode (mk_c M4_adds) 0 = .ok (.aload_n 0, 1) := by decide +kernel
theorem d4_adds_1 : decode (mk_c M4_adds) 1 = .ok (.getfield 15, 3) := by decide +kernel
theorem d4_adds_4 : decode (mk_c M4_adds) 4 = .ok (.iload_n 1, 1) := by decide +kernel
theorem d4_adds_5 : decode (mk_c M4_adds) 5 = .ok (.iaload, 1) := by decide +kernel
theorem d4_adds_6 : decode (mk_c M4_adds) 6 = .ok (.istore_n 3, 1) := by decide +kernel
theorem d4_adds_7 : decode (mk_c M4_adds) 7 = .ok (.aload_n 0, 1) := by decide +kernel
theorem d4_adds_8 : decode (mk_c M4_adds) 8 = .ok (.getfield 15, 3) := by decide +kernel
theorem d4_adds_11 : decode (mk_c M4_adds) 11 = .ok (.iload_n 1, 1) := by decide +kernel
theorem d4_adds_12 : decode (mk_c M4_adds) 12 = .ok (.dup2, 1) := by decide +kernel
theorem d4_adds_13 : decode (mk_c M4_adds) 13 = .ok (.iaload, 1) := by decide +kernel
theorem d4_adds_14 : decode (mk_c M4_adds) 14 = .ok (.iload_n 2, 1) := by decide +kernel
theorem d4_adds_15 : decode (mk_c M4_adds) 15 = .ok (.ior, 1) := by decide +kernel
theorem d4_adds_16 : decode (mk_c M4_adds) 16 = .ok (.iastore, 1) := by decide +kernel
theorem d4_adds_17 : decode (mk_c M4_adds) 17 = .ok (.aload_n 0, 1) := by decide +kernel
theorem d4_adds_18 : decode (mk_c M4_adds) 18 = .ok (.getfield 15, 3) := by decide +kernel
theorem d4_adds_21 : decode (mk_c M4_adds) 21 = .ok (.iload_n 1, 1) := by decide +kernel
theorem d4_adds_22 : decode (mk_c M4_adds) 22 = .ok (.iaload, 1) := by decide +kernel
theorem d4_adds_23 : decode (mk_c M4_adds) 23 = .ok (.iload_n 3, 1) := by decide +kernel
theorem d4_adds_24 : decode (mk_c M4_adds) 24 = .ok (.if_icmp .eq 7, 3) := by decide +kernel
theorem d4_adds_27 : decode (mk_c M4_adds) 27 = .ok (.iconst 1, 1) := by decide +kernel
theorem d4_adds_28 : decode (mk_c M4_adds) 28 = .ok (.goto 4, 3) := by decide +kernel
theorem d4_adds_31 : decode (mk_c M4_adds) 31 = .ok (.iconst 0, 1) := by decide +kernel
theorem d4_adds_32 : decode (mk_c M4_adds) 32 = .ok (.ireturn, 1) := by decide +kernel
theorem d4_out_0 : decode (mk_c M4_out) 0 = .ok (.aload_n 0, 1) := by decide +kernel
theorem d4_out_1 : decode (mk_c M4_out) 1 = .ok (.getfield 18, 3) := by decide +kernel
theorem d4_out_4 : decode (mk_c M4_out) 4 = .ok (.iload_n 1, 1) := by decide +kernel
theorem d4_out_5 : decode (mk_c M4_out) 5 = .ok (.iaload, 1) := by decide +kernel
theorem d4_out_6 : decode (mk_c M4_out) 6 = .ok (.istore_n 3, 1) := by decide +kernel
theorem d4_out_7 : decode (mk_c M4_out) 7 = .ok (.aload_n 0, 1) := by decide +kernel
theorem d4_out_8 : decode (mk_c M4_out) 8 = .ok (.getfield 18, 3) := by decide +kernel
theorem d4_out_11 : decode (mk_c M4_out) 11 = .ok (.iload_n 1, 1) := by decide +kernel
theorem d4_out_12 : decode (mk_c M4_out) 12 = .ok (.dup2, 1) := by decide +kernel
theorem d4_out_13 : decode (mk_c M4_out) 13 = .ok (.iaload, 1) := by decide +kernel
theorem d4_out_14 : decode (mk_c M4_out) 14 = .ok (.iload_n 2, 1) := by decide +kernel
theorem d4_out_15 : decode (mk_c M4_out) 15 = .ok (.ior, 1) := by decide +kernel
theorem d4_out_16 : decode (mk_c M4_out) 16 = .ok (.iastore, 1) := by decide +kernel
theorem d4_out_17 : decode (mk_c M4_out) 17 = .ok (.aload_n 0, 1) := by decide +kernel
theorem d4_out_18 : decode (mk_c M4_out) 18 = .ok (.getfield 18, 3) := by decide +kernel
theorem d4_out_21 : decode (mk_c M4_out) 21 = .ok (.iload_n 1, 1) := by decide +kernel
theorem d4_out_22 : decode (mk_c M4_out) 22 = .ok (.iaload, 1) := by decide +kernel
theorem d4_out_23 : decode (mk_c M4_out) 23 = .ok (.iload_n 3, 1) := by decide +kernel
theorem d4_out_24 : decode (mk_c M4_out) 24 = .ok (.if_icmp .eq 7, 3) := by decide +kernel
theorem d4_out_27 : decode (mk_c M4_out) 27 = .ok (.iconst 1, 1) := by decide +kernel
theorem d4_out_28 : decode (mk_c M4_out) 28 = .ok (.goto 4, 3) := by decide +kernel
theorem d4_out_31 : decode (mk_c M4_out) 31 = .ok (.iconst 0, 1) := by decide +kernel
theorem d4_out_32 : decode (mk_c M4_out) 32 = .ok (.ireturn, 1) := by decide +kernel
theorem d4_isWashed_0 : decode (mk_c M4_isWashed) 0 = .ok (.aload_n 0, 1) := by decide +kernel
theorem d4_isWashed_1 : decode (mk_c M4_isWashed) 1 = .ok (.getfield 21, 3) := by decide +kernel
theorem d4_isWashed_4 : decode (mk_c M4_isWashed) 4 = .ok (.iload_n 1, 1) := by decide +kernel
theorem d4_isWashed_5 : decode (mk_c M4_isWashed) 5 = .ok (.aaload, 1) := by decide +kernel
theorem d4_isWashed_6 : decode (mk_c M4_isWashed) 6 = .ok (.getfield 29, 3) := by decide +kernel
theorem d4_isWashed_9 : decode (mk_c M4_isWashed) 9 = .ok (.iload_n 2, 1) := by decide +kernel
theorem d4_isWashed_10 : decode (mk_c M4_isWashed) 10 = .ok (.iaload, 1) := by decide +kernel
theorem d4_isWashed_11 : decode (mk_c M4_isWashed) 11 = .ok (.iload_n 3, 1) := by decide +kernel
theorem d4_isWashed_12 : decode (mk_c M4_isWashed) 12 = .ok (.ishr, 1) := by decide +kernel
theorem d4_isWashed_13 : decode (mk_c M4_isWashed) 13 = .ok (.iconst 1, 1) := by decide +kernel
theorem d4_isWashed_14 : decode (mk_c M4_isWashed) 14 = .ok (.iand, 1) := by decide +kernel
theorem d4_isWashed_15 : decode (mk_c M4_isWashed) 15 = .ok (.iconst 1, 1) := by decide +kernel
theorem d4_isWashed_16 : decode (mk_c M4_isWashed) 16 = .ok (.if_icmp .ne 7, 3) := by decide +kernel
theorem d4_isWashed_19 : decode (mk_c M4_isWashed) 19 = .ok (.iconst 1, 1) := by decide +kernel
theorem d4_isWashed_20 : decode (mk_c M4_isWashed) 20 = .ok (.goto 4, 3) := by decide +kernel
theorem d4_isWashed_23 : decode (mk_c M4_isWashed) 23 = .ok (.iconst 0, 1) := by decide +kernel
theorem d4_isWashed_24 : decode (mk_c M4_isWashed) 24 = .ok (.ireturn, 1) := by decide +kernel
theorem d6_init_0 : decode (mk_c M6_init) 0 = .ok (.aload_n 0, 1) := by decide +kernel
theorem d6_init_1 : decode (mk_c M6_init) 1 = .ok (.aconst_null, 1) := by decide +kernel
theorem d6_init_2 : decode (mk_c M6_init) 2 = .ok (.aconst_null, 1) := by decide +kernel
theorem d6_init_3 : decode (mk_c M6_init) 3 = .ok (.iconst 0, 1) := by decide +kernel
theorem d6_init_4 : decode (mk_c M6_init) 4 = .ok (.iconst 0, 1) := by decide +kernel
theorem d6_init_5 : decode (mk_c M6_init) 5 = .ok (.invokespecial 1, 3) := by decide +kernel
theorem d6_init_8 : decode (mk_c M6_init) 8 = .ok (.return_, 1) := by decide +kernel
theorem d7_init_0 : decode (mk_c M7_init) 0 = .ok (.aload_n 0, 1) := by decide +kernel
theorem d7_init_1 : decode (mk_c M7_init) 1 = .ok (.invokespecial 3, 3) := by decide +kernel
theorem d7_init_4 : decode (mk_c M7_init) 4 = .ok (.aload_n 0, 1) := by decide +kernel
theorem d7_init_5 : decode (mk_c M7_init) 5 = .ok (.bipush 12, 2) := by decide +kernel
theorem d7_init_7 : decode (mk_c M7_init) 7 = .ok (.anewarray 9, 3) := by decide +kernel
theorem d7_init_10 : decode (mk_c M7_init) 10 = .ok (.putfield 11, 3) := by decide +kernel
theorem d7_init_13 : decode (mk_c M7_init) 13 = .ok (.aload_n 0, 1) := by decide +kernel
theorem d7_init_14 : decode (mk_c M7_init) 14 = .ok (.bipush 8, 2) := by decide +kernel
theorem d7_init_16 : decode (mk_c M7_init) 16 = .ok (.newarray .int, 2) := by decide +kernel
theorem d7_init_18 : decode (mk_c M7_init) 18 = .ok (.putfield 17, 3) := by decide +kernel
theorem d7_init_21 : decode (mk_c M7_init) 21 = .ok (.return_, 1) := by decide +kernel
theorem d7_becomes_0 : decode (mk_c M7_becomes) 0 = .ok (.aload_n 0, 1) := by decide +kernel
theorem d7_becomes_1 : decode (mk_c M7_becomes) 1 = .ok (.aload_n 1, 1) := by decide +kernel
theorem d7_becomes_2 : decode (mk_c M7_becomes) 2 = .ok (.putfield 11, 3) := by decide +kernel
theorem d7_becomes_5 : decode (mk_c M7_becomes) 5 = .ok (.aload_n 0, 1) := by decide +kernel
theorem d7_becomes_6 : decode (mk_c M7_becomes) 6 = .ok (.iload_n 2, 1) := by decide +kernel
theorem d7_becomes_7 : decode (mk_c M7_becomes) 7 = .ok (.putfield 21, 3) := by decide +kernel
theorem d7_becomes_10 : decode (mk_c M7_becomes) 10 = .ok (.iconst 0, 1) := by decide +kernel
theorem d7_becomes_11 : decode (mk_c M7_becomes) 11 = .ok (.istore_n 3, 1) := by decide +kernel
theorem d7_becomes_12 : decode (mk_c M7_becomes) 12 = .ok (.iload_n 3, 1) := by decide +kernel
theorem d7_becomes_13 : decode (mk_c M7_becomes) 13 = .ok (.bipush 8, 2) := by decide +kernel
theorem d7_becomes_15 : decode (mk_c M7_becomes) 15 = .ok (.if_icmp .ge 16, 3) := by decide +kernel
theorem d7_becomes_18 : decode (mk_c M7_becomes) 18 = .ok (.aload_n 0, 1) := by decide +kernel
theorem d7_becomes_19 : decode (mk_c M7_becomes) 19 = .ok (.getfield 17, 3) := by decide +kernel
theorem d7_becomes_22 : decode (mk_c M7_becomes) 22 = .ok (.iload_n 3, 1) := by decide +kernel
theorem d7_becomes_23 : decode (mk_c M7_becomes) 23 = .ok (.iconst 0, 1) := by decide +kernel
theorem d7_becomes_24 : decode (mk_c M7_becomes) 24 = .ok (.iastore, 1) := by decide +kernel
theorem d7_becomes_25 : decode (mk_c M7_becomes) 25 = .ok (.iinc 3 1, 3) := by decide +kernel
theorem d7_becomes_28 : decode (mk_c M7_becomes) 28 = .ok (.goto (-16), 3) := by decide +kernel
theorem d7_becomes_31 : decode (mk_c M7_becomes) 31 = .ok (.iconst 0, 1) := by decide +kernel
theorem d7_becomes_32 : decode (mk_c M7_becomes) 32 = .ok (.istore_n 3, 1) := by decide +kernel
theorem d7_becomes_33 : decode (mk_c M7_becomes) 33 = .ok (.iload_n 3, 1) := by decide +kernel
theorem d7_becomes_34 : decode (mk_c M7_becomes) 34 = .ok (.iload_n 2, 1) := by decide +kernel
theorem d7_becomes_35 : decode (mk_c M7_becomes) 35 = .ok (.if_icmp .ge 41, 3) := by decide +kernel
theorem d7_becomes_38 : decode (mk_c M7_becomes) 38 = .ok (.aload_n 1, 1) := by decide +kernel
theorem d7_becomes_39 : decode (mk_c M7_becomes) 39 = .ok (.iload_n 3, 1) := by decide +kernel
theorem d7_becomes_40 : decode (mk_c M7_becomes) 40 = .ok (.aaload, 1) := by decide +kernel
theorem d7_becomes_41 : decode (mk_c M7_becomes) 41 = .ok (.getfield 25, 3) := by decide +kernel
theorem d7_becomes_44 : decode (mk_c M7_becomes) 44 = .ok (.iconst 4, 1) := by decide +kernel
theorem d7_becomes_45 : decode (mk_c M7_becomes) 45 = .ok (.if_icmp .ne 25, 3) := by decide +kernel
theorem d7_becomes_48 : decode (mk_c M7_becomes) 48 = .ok (.aload_n 0, 1) := by decide +kernel
theorem d7_becomes_49 : decode (mk_c M7_becomes) 49 = .ok (.getfield 17, 3) := by decide +kernel
theorem d7_becomes_52 : decode (mk_c M7_becomes) 52 = .ok (.aload_n 1, 1) := by decide +kernel
theorem d7_becomes_53 : decode (mk_c M7_becomes) 53 = .ok (.iload_n 3, 1) := by decide +kernel
theorem d7_becomes_54 : decode (mk_c M7_becomes) 54 = .ok (.aaload, 1) := by decide +kernel
theorem d7_becomes_55 : decode (mk_c M7_becomes) 55 = .ok (.getfield 28, 3) := by decide +kernel
theorem d7_becomes_58 : decode (mk_c M7_becomes) 58 = .ok (.dup2, 1) := by decide +kernel
theorem d7_becomes_59 : decode (mk_c M7_becomes) 59 = .ok (.iaload, 1) := by decide +kernel
theorem d7_becomes_60 : decode (mk_c M7_becomes) 60 = .ok (.iconst 1, 1) := by decide +kernel
theorem d7_becomes_61 : decode (mk_c M7_becomes) 61 = .ok (.aload_n 1, 1) := by decide +kernel
theorem d7_becomes_62 : decode (mk_c M7_becomes) 62 = .ok (.iload_n 3, 1) := by decide +kernel
theorem d7_becomes_63 : decode (mk_c M7_becomes) 63 = .ok (.aaload, 1) := by decide +kernel
theorem d7_becomes_64 : decode (mk_c M7_becomes) 64 = .ok (.getfield 31, 3) := by decide +kernel
theorem d7_becomes_67 : decode (mk_c M7_becomes) 67 = .ok (.ishl, 1) := by decide +kernel
theorem d7_becomes_68 : decode (mk_c M7_becomes) 68 = .ok (.ior, 1) := by decide +kernel
theorem d7_becomes_69 : decode (mk_c M7_becomes) 69 = .ok (.iastore, 1) := by decide +kernel
theorem d7_becomes_70 : decode (mk_c M7_becomes) 70 = .ok (.iinc 3 1, 3) := by decide +kernel
theorem d7_becomes_73 : decode (mk_c M7_becomes) 73 = .ok (.goto (-40), 3) := by decide +kernel
theorem d7_becomes_76 : decode (mk_c M7_becomes) 76 = .ok (.return_, 1) := by decide +kernel
theorem d7_needs_0 : decode (mk_c M7_needs) 0 = .ok (.iconst 0, 1) := by decide +kernel
theorem d7_needs_1 : decode (mk_c M7_needs) 1 = .ok (.istore_n 1, 1) := by decide +kernel
theorem d7_needs_2 : decode (mk_c M7_needs) 2 = .ok (.iconst 0, 1) := by decide +kernel
theorem d7_needs_3 : decode (mk_c M7_needs) 3 = .ok (.istore_n 2, 1) := by decide +kernel
theorem d7_needs_4 : decode (mk_c M7_needs) 4 = .ok (.iload_n 2, 1) := by decide +kernel
theorem d7_needs_5 : decode (mk_c M7_needs) 5 = .ok (.aload_n 0, 1) := by decide +kernel
theorem d7_needs_6 : decode (mk_c M7_needs) 6 = .ok (.getfield 21, 3) := by decide +kernel
theorem d7_needs_9 : decode (mk_c M7_needs) 9 = .ok (.if_icmp .ge 21, 3) := by decide +kernel
theorem d7_needs_12 : decode (mk_c M7_needs) 12 = .ok (.iload_n 1, 1) := by decide +kernel
theorem d7_needs_13 : decode (mk_c M7_needs) 13 = .ok (.aload_n 0, 1) := by decide +kernel
theorem d7_needs_14 : decode (mk_c M7_needs) 14 = .ok (.getfield 11, 3) := by decide +kernel
theorem d7_needs_17 : decode (mk_c M7_needs) 17 = .ok (.iload_n 2, 1) := by decide +kernel
theorem d7_needs_18 : decode (mk_c M7_needs) 18 = .ok (.aaload, 1) := by decide +kernel
theorem d7_needs_19 : decode (mk_c M7_needs) 19 = .ok (.invokevirtual 34, 3) := by decide +kernel
theorem d7_needs_22 : decode (mk_c M7_needs) 22 = .ok (.ior, 1) := by decide +kernel
theorem d7_needs_23 : decode (mk_c M7_needs) 23 = .ok (.istore_n 1, 1) := by decide +kernel
theorem d7_needs_24 : decode (mk_c M7_needs) 24 = .ok (.iinc 2 1, 3) := by decide +kernel
theorem d7_needs_27 : decode (mk_c M7_needs) 27 = .ok (.goto (-23), 3) := by decide +kernel
theorem d7_needs_30 : decode (mk_c M7_needs) 30 = .ok (.iload_n 1, 1) := by decide +kernel
theorem d7_needs_31 : decode (mk_c M7_needs) 31 = .ok (.ireturn, 1) := by decide +kernel
theorem d8_init_0 : decode (mk_c M8_init) 0 = .ok (.aload_n 0, 1) := by decide +kernel
theorem d8_init_1 : decode (mk_c M8_init) 1 = .ok (.invokespecial 3, 3) := by decide +kernel
theorem d8_init_4 : decode (mk_c M8_init) 4 = .ok (.aload_n 0, 1) := by decide +kernel
theorem d8_init_5 : decode (mk_c M8_init) 5 = .ok (.iload_n 1, 1) := by decide +kernel
theorem d8_init_6 : decode (mk_c M8_init) 6 = .ok (.putfield 9, 3) := by decide +kernel
theorem d8_init_9 : decode (mk_c M8_init) 9 = .ok (.aload_n 0, 1) := by decide +kernel
theorem d8_init_10 : decode (mk_c M8_init) 10 = .ok (.iload_n 2, 1) := by decide +kernel
theorem d8_init_11 : decode (mk_c M8_init) 11 = .ok (.putfield 15, 3) := by decide +kernel
theorem d8_init_14 : decode (mk_c M8_init) 14 = .ok (.aload_n 0, 1) := by decide +kernel
theorem d8_init_15 : decode (mk_c M8_init) 15 = .ok (.iload_n 3, 1) := by decide +kernel
theorem d8_init_16 : decode (mk_c M8_init) 16 = .ok (.putfield 18, 3) := by decide +kernel
theorem d8_init_19 : decode (mk_c M8_init) 19 = .ok (.return_, 1) := by decide +kernel
theorem d8_second_0 : decode (mk_c M8_second) 0 = .ok (.iconst (-1), 1) := by decide +kernel
theorem d8_second_1 : decode (mk_c M8_second) 1 = .ok (.ireturn, 1) := by decide +kernel
theorem d8_goes_0 : decode (mk_c M8_goes) 0 = .ok (.iconst 0, 1) := by decide +kernel
theorem d8_goes_1 : decode (mk_c M8_goes) 1 = .ok (.ireturn, 1) := by decide +kernel
theorem d8_leads_0 : decode (mk_c M8_leads) 0 = .ok (.iconst (-1), 1) := by decide +kernel
theorem d8_leads_1 : decode (mk_c M8_leads) 1 = .ok (.ireturn, 1) := by decide +kernel
theorem d8_needs_0 : decode (mk_c M8_needs) 0 = .ok (.iconst 0, 1) := by decide +kernel
theorem d8_needs_1 : decode (mk_c M8_needs) 1 = .ok (.ireturn, 1) := by decide +kernel
theorem d9_init_0 : decode (mk_c M9_init) 0 = .ok (.aload_n 0, 1) := by decide +kernel
theorem d9_init_1 : decode (mk_c M9_init) 1 = .ok (.iconst 0, 1) := by decide +kernel
theorem d9_init_2 : decode (mk_c M9_init) 2 = .ok (.iload_n 1, 1) := by decide +kernel
theorem d9_init_3 : decode (mk_c M9_init) 3 = .ok (.iload_n 2, 1) := by decide +kernel
theorem d9_init_4 : decode (mk_c M9_init) 4 = .ok (.invokespecial 3, 3) := by decide +kernel
theorem d9_init_7 : decode (mk_c M9_init) 7 = .ok (.return_, 1) := by decide +kernel
theorem d9_goes_0 : decode (mk_c M9_goes) 0 = .ok (.aload_n 1, 1) := by decide +kernel
theorem d9_goes_1 : decode (mk_c M9_goes) 1 = .ok (.getfield 9, 3) := by decide +kernel
theorem d9_goes_4 : decode (mk_c M9_goes) 4 = .ok (.iload_n 2, 1) := by decide +kernel
theorem d9_goes_5 : decode (mk_c M9_goes) 5 = .ok (.iaload, 1) := by decide +kernel
theorem d9_goes_6 : decode (mk_c M9_goes) 6 = .ok (.aload_n 0, 1) := by decide +kernel
theorem d9_goes_7 : decode (mk_c M9_goes) 7 = .ok (.getfield 15, 3) := by decide +kernel
theorem d9_goes_10 : decode (mk_c M9_goes) 10 = .ok (.ishr, 1) := by decide +kernel
theorem d9_goes_11 : decode (mk_c M9_goes) 11 = .ok (.iconst 1, 1) := by decide +kernel
theorem d9_goes_12 : decode (mk_c M9_goes) 12 = .ok (.iand, 1) := by decide +kernel
theorem d9_goes_13 : decode (mk_c M9_goes) 13 = .ok (.iconst 1, 1) := by decide +kernel
theorem d9_goes_14 : decode (mk_c M9_goes) 14 = .ok (.if_icmp .ne 28, 3) := by decide +kernel
theorem d9_goes_17 : decode (mk_c M9_goes) 17 = .ok (.aload_n 1, 1) := by decide +kernel
theorem d9_goes_18 : decode (mk_c M9_goes) 18 = .ok (.iload_n 2, 1) := by decide +kernel
theorem d9_goes_19 : decode (mk_c M9_goes) 19 = .ok (.aload_n 0, 1) := by decide +kernel
theorem d9_goes_20 : decode (mk_c M9_goes) 20 = .ok (.getfield 21, 3) := by decide +kernel
theorem d9_goes_23 : decode (mk_c M9_goes) 23 = .ok (.invokestatic 24, 3) := by decide +kernel
theorem d9_goes_26 : decode (mk_c M9_goes) 26 = .ok (.iconst 1, 1) := by decide +kernel
theorem d9_goes_27 : decode (mk_c M9_goes) 27 = .ok (.aload_n 0, 1) := by decide +kernel
theorem d9_goes_28 : decode (mk_c M9_goes) 28 = .ok (.getfield 15, 3) := by decide +kernel
theorem d9_goes_31 : decode (mk_c M9_goes) 31 = .ok (.ishl, 1) := by decide +kernel
theorem d9_goes_32 : decode (mk_c M9_goes) 32 = .ok (.invokevirtual 28, 3) := by decide +kernel
theorem d9_goes_35 : decode (mk_c M9_goes) 35 = .ok (.ifCond .eq 7, 3) := by decide +kernel
theorem d9_goes_38 : decode (mk_c M9_goes) 38 = .ok (.iconst 1, 1) := by decide +kernel
theorem d9_goes_39 : decode (mk_c M9_goes) 39 = .ok (.goto 4, 3) := by decide +kernel
theorem d9_goes_42 : decode (mk_c M9_goes) 42 = .ok (.iconst 0, 1) := by decide +kernel
theorem d9_goes_43 : decode (mk_c M9_goes) 43 = .ok (.ireturn, 1) := by decide +kernel
theorem d9_needs_0 : decode (mk_c M9_needs) 0 = .ok (.iconst 1, 1) := by decide +kernel
theorem d9_needs_1 : decode (mk_c M9_needs) 1 = .ok (.aload_n 0, 1) := by decide +kernel
theorem d9_needs_2 : decode (mk_c M9_needs) 2 = .ok (.getfield 15, 3) := by decide +kernel
theorem d9_needs_5 : decode (mk_c M9_needs) 5 = .ok (.ishl, 1) := by decide +kernel
theorem d9_needs_6 : decode (mk_c M9_needs) 6 = .ok (.ireturn, 1) := by decide +kernel
theorem d10_init_0 : decode (mk_c M10_init) 0 = .ok (.aload_n 0, 1) := by decide +kernel
theorem d10_init_1 : decode (mk_c M10_init) 1 = .ok (.iconst 1, 1) := by decide +kernel
theorem d10_init_2 : decode (mk_c M10_init) 2 = .ok (.iload_n 3, 1) := by decide +kernel
theorem d10_init_3 : decode (mk_c M10_init) 3 = .ok (.iload_n 1, 1) := by decide +kernel
theorem d10_init_4 : decode (mk_c M10_init) 4 = .ok (.invokespecial 3, 3) := by decide +kernel
theorem d10_init_7 : decode (mk_c M10_init) 7 = .ok (.aload_n 0, 1) := by decide +kernel
theorem d10_init_8 : decode (mk_c M10_init) 8 = .ok (.iconst 4, 1) := by decide +kernel
theorem d10_init_9 : decode (mk_c M10_init) 9 = .ok (.newarray .int, 2) := by decide +kernel
theorem d10_init_11 : decode (mk_c M10_init) 11 = .ok (.putfield 9, 3) := by decide +kernel
theorem d10_init_14 : decode (mk_c M10_init) 14 = .ok (.aload_n 2, 1) := by decide +kernel
theorem d10_init_15 : decode (mk_c M10_init) 15 = .ok (.iconst 0, 1) := by decide +kernel
theorem d10_init_16 : decode (mk_c M10_init) 16 = .ok (.aload_n 0, 1) := by decide +kernel
theorem d10_init_17 : decode (mk_c M10_init) 17 = .ok (.getfield 9, 3) := by decide +kernel
theorem d10_init_20 : decode (mk_c M10_init) 20 = .ok (.iconst 0, 1) := by decide +kernel
theorem d10_init_21 : decode (mk_c M10_init) 21 = .ok (.iload_n 3, 1) := by decide +kernel
theorem d10_init_22 : decode (mk_c M10_init) 22 = .ok (.invokestatic 15, 3) := by decide +kernel
theorem d10_init_25 : decode (mk_c M10_init) 25 = .ok (.return_, 1) := by decide +kernel
theorem d10_second_0 : decode (mk_c M10_second) 0 = .ok (.aload_n 0, 1) := by decide +kernel
theorem d10_second_1 : decode (mk_c M10_second) 1 = .ok (.getfield 9, 3) := by decide +kernel
theorem d10_second_4 : decode (mk_c M10_second) 4 = .ok (.iconst 0, 1) := by decide +kernel
theorem d10_second_5 : decode (mk_c M10_second) 5 = .ok (.iaload, 1) := by decide +kernel
theorem d10_second_6 : decode (mk_c M10_second) 6 = .ok (.ireturn, 1) := by decide +kernel
theorem d10_goes_0 : decode (mk_c M10_goes) 0 = .ok (.iconst 0, 1) := by decide +kernel
theorem d10_goes_1 : decode (mk_c M10_goes) 1 = .ok (.istore_n 3, 1) := by decide +kernel
theorem d10_goes_2 : decode (mk_c M10_goes) 2 = .ok (.iconst 0, 1) := by decide +kernel
theorem d10_goes_3 : decode (mk_c M10_goes) 3 = .ok (.istore 4, 2) := by decide +kernel
theorem d10_goes_5 : decode (mk_c M10_goes) 5 = .ok (.iload 4, 2) := by decide +kernel
theorem d10_goes_7 : decode (mk_c M10_goes) 7 = .ok (.aload_n 0, 1) := by decide +kernel
theorem d10_goes_8 : decode (mk_c M10_goes) 8 = .ok (.getfield 21, 3) := by decide +kernel
theorem d10_goes_11 : decode (mk_c M10_goes) 11 = .ok (.if_icmp .ge 28, 3) := by decide +kernel
theorem d10_goes_14 : decode (mk_c M10_goes) 14 = .ok (.iload_n 3, 1) := by decide +kernel
theorem d10_goes_15 : decode (mk_c M10_goes) 15 = .ok (.aload_n 1, 1) := by decide +kernel
theorem d10_goes_16 : decode (mk_c M10_goes) 16 = .ok (.getfield 25, 3) := by decide +kernel
theorem d10_goes_19 : decode (mk_c M10_goes) 19 = .ok (.iload_n 2, 1) := by decide +kernel
theorem d10_goes_20 : decode (mk_c M10_goes) 20 = .ok (.aload_n 0, 1) := by decide +kernel
theorem d10_goes_21 : decode (mk_c M10_goes) 21 = .ok (.getfield 9, 3) := by decide +kernel
theorem d10_goes_24 : decode (mk_c M10_goes) 24 = .ok (.iload 4, 2) := by decide +kernel
theorem d10_goes_26 : decode (mk_c M10_goes) 26 = .ok (.iaload, 1) := by decide +kernel
theorem d10_goes_27 : decode (mk_c M10_goes) 27 = .ok (.invokestatic 30, 3) := by decide +kernel
theorem d10_goes_30 : decode (mk_c M10_goes) 30 = .ok (.iaload, 1) := by decide +kernel
theorem d10_goes_31 : decode (mk_c M10_goes) 31 = .ok (.ior, 1) := by decide +kernel
theorem d10_goes_32 : decode (mk_c M10_goes) 32 = .ok (.istore_n 3, 1) := by decide +kernel
theorem d10_goes_33 : decode (mk_c M10_goes) 33 = .ok (.iinc 4 1, 3) := by decide +kernel
theorem d10_goes_36 : decode (mk_c M10_goes) 36 = .ok (.goto (-31), 3) := by decide +kernel
theorem d10_goes_39 : decode (mk_c M10_goes) 39 = .ok (.aload_n 1, 1) := by decide +kernel
theorem d10_goes_40 : decode (mk_c M10_goes) 40 = .ok (.iload_n 2, 1) := by decide +kernel
theorem d10_goes_41 : decode (mk_c M10_goes) 41 = .ok (.aload_n 0, 1) := by decide +kernel
theorem d10_goes_42 : decode (mk_c M10_goes) 42 = .ok (.getfield 34, 3) := by decide +kernel
theorem d10_goes_45 : decode (mk_c M10_goes) 45 = .ok (.iload_n 3, 1) := by decide +kernel
theorem d10_goes_46 : decode (mk_c M10_goes) 46 = .ok (.invokevirtual 37, 3) := by decide +kernel
theorem d10_goes_49 : decode (mk_c M10_goes) 49 = .ok (.ireturn, 1) := by decide +kernel
theorem d10_leads_0 : decode (mk_c M10_leads) 0 = .ok (.iconst 0, 1) := by decide +kernel
theorem d10_leads_1 : decode (mk_c M10_leads) 1 = .ok (.istore 5, 2) := by decide +kernel
theorem d10_leads_3 : decode (mk_c M10_leads) 3 = .ok (.iconst 0, 1) := by decide +kernel
theorem d10_leads_4 : decode (mk_c M10_leads) 4 = .ok (.istore 6, 2) := by decide +kernel
theorem d10_leads_6 : decode (mk_c M10_leads) 6 = .ok (.iload 6, 2) := by decide +kernel
theorem d10_leads_8 : decode (mk_c M10_leads) 8 = .ok (.aload_n 0, 1) := by decide +kernel
theorem d10_leads_9 : decode (mk_c M10_leads) 9 = .ok (.getfield 21, 3) := by decide +kernel
theorem d10_leads_12 : decode (mk_c M10_leads) 12 = .ok (.if_icmp .ge 36, 3) := by decide +kernel
theorem d10_leads_15 : decode (mk_c M10_leads) 15 = .ok (.iload 5, 2) := by decide +kernel
theorem d10_leads_17 : decode (mk_c M10_leads) 17 = .ok (.ifCond .ne 18, 3) := by decide +kernel
theorem d10_leads_20 : decode (mk_c M10_leads) 20 = .ok (.iload_n 3, 1) := by decide +kernel
theorem d10_leads_21 : decode (mk_c M10_leads) 21 = .ok (.iload_n 2, 1) := by decide +kernel
theorem d10_leads_22 : decode (mk_c M10_leads) 22 = .ok (.aload_n 0, 1) := by decide +kernel
theorem d10_leads_23 : decode (mk_c M10_leads) 23 = .ok (.getfield 9, 3) := by decide +kernel
theorem d10_leads_26 : decode (mk_c M10_leads) 26 = .ok (.iload 6, 2) := by decide +kernel
theorem d10_leads_28 : decode (mk_c M10_leads) 28 = .ok (.iaload, 1) := by decide +kernel
theorem d10_leads_29 : decode (mk_c M10_leads) 29 = .ok (.invokestatic 30, 3) := by decide +kernel
theorem d10_leads_32 : decode (mk_c M10_leads) 32 = .ok (.if_icmp .ne 7, 3) := by decide +kernel
theorem d10_leads_35 : decode (mk_c M10_leads) 35 = .ok (.iconst 1, 1) := by decide +kernel
theorem d10_leads_36 : decode (mk_c M10_leads) 36 = .ok (.goto 4, 3) := by decide +kernel
theorem d10_leads_39 : decode (mk_c M10_leads) 39 = .ok (.iconst 0, 1) := by decide +kernel
theorem d10_leads_40 : decode (mk_c M10_leads) 40 = .ok (.istore 5, 2) := by decide +kernel
theorem d10_leads_42 : decode (mk_c M10_leads) 42 = .ok (.iinc 6 1, 3) := by decide +kernel
theorem d10_leads_45 : decode (mk_c M10_leads) 45 = .ok (.goto (-39), 3) := by decide +kernel
theorem d10_leads_48 : decode (mk_c M10_leads) 48 = .ok (.iload 5, 2) := by decide +kernel
theorem d10_leads_50 : decode (mk_c M10_leads) 50 = .ok (.ifCond .eq 28, 3) := by decide +kernel
theorem d10_leads_53 : decode (mk_c M10_leads) 53 = .ok (.aload_n 1, 1) := by decide +kernel
theorem d10_leads_54 : decode (mk_c M10_leads) 54 = .ok (.iload_n 2, 1) := by decide +kernel
theorem d10_leads_55 : decode (mk_c M10_leads) 55 = .ok (.aload_n 0, 1) := by decide +kernel
theorem d10_leads_56 : decode (mk_c M10_leads) 56 = .ok (.getfield 34, 3) := by decide +kernel
theorem d10_leads_59 : decode (mk_c M10_leads) 59 = .ok (.iload 4, 2) := by decide +kernel
theorem d10_leads_61 : decode (mk_c M10_leads) 61 = .ok (.invokevirtual 41, 3) := by decide +kernel
theorem d10_leads_64 : decode (mk_c M10_leads) 64 = .ok (.ifCond .ne 14, 3) := by decide +kernel
theorem d10_leads_67 : decode (mk_c M10_leads) 67 = .ok (.iload_n 2, 1) := by decide +kernel
theorem d10_leads_68 : decode (mk_c M10_leads) 68 = .ok (.aload_n 0, 1) := by decide +kernel
theorem d10_leads_69 : decode (mk_c M10_leads) 69 = .ok (.getfield 34, 3) := by decide +kernel
theorem d10_leads_72 : decode (mk_c M10_leads) 72 = .ok (.invokestatic 30, 3) := by decide +kernel
theorem d10_leads_75 : decode (mk_c M10_leads) 75 = .ok (.goto 4, 3) := by decide +kernel
theorem d10_leads_78 : decode (mk_c M10_leads) 78 = .ok (.iconst (-1), 1) := by decide +kernel
theorem d10_leads_79 : decode (mk_c M10_leads) 79 = .ok (.ireturn, 1) := by decide +kernel
theorem d11_init_0 : decode (mk_c M11_init) 0 = .ok (.aload_n 0, 1) := by decide +kernel
theorem d11_init_1 : decode (mk_c M11_init) 1 = .ok (.iconst 2, 1) := by decide +kernel
theorem d11_init_2 : decode (mk_c M11_init) 2 = .ok (.iload_n 1, 1) := by decide +kernel
theorem d11_init_3 : decode (mk_c M11_init) 3 = .ok (.iload_n 2, 1) := by decide +kernel
theorem d11_init_4 : decode (mk_c M11_init) 4 = .ok (.invokespecial 3, 3) := by decide +kernel
theorem d11_init_7 : decode (mk_c M11_init) 7 = .ok (.aload_n 0, 1) := by decide +kernel
theorem d11_init_8 : decode (mk_c M11_init) 8 = .ok (.iload_n 3, 1) := by decide +kernel
theorem d11_init_9 : decode (mk_c M11_init) 9 = .ok (.putfield 9, 3) := by decide +kernel
theorem d11_init_12 : decode (mk_c M11_init) 12 = .ok (.return_, 1) := by decide +kernel
theorem d11_second_0 : decode (mk_c M11_second) 0 = .ok (.aload_n 0, 1) := by decide +kernel
theorem d11_second_1 : decode (mk_c M11_second) 1 = .ok (.getfield 9, 3) := by decide +kernel
theorem d11_second_4 : decode (mk_c M11_second) 4 = .ok (.ireturn, 1) := by decide +kernel
theorem d11_goes_0 : decode (mk_c M11_goes) 0 = .ok (.aload_n 1, 1) := by decide +kernel
theorem d11_goes_1 : decode (mk_c M11_goes) 1 = .ok (.aload_n 0, 1) := by decide +kernel
theorem d11_goes_2 : decode (mk_c M11_goes) 2 = .ok (.getfield 15, 3) := by decide +kernel
theorem d11_goes_5 : decode (mk_c M11_goes) 5 = .ok (.invokevirtual 18, 3) := by decide +kernel
theorem d11_goes_8 : decode (mk_c M11_goes) 8 = .ok (.istore_n 3, 1) := by decide +kernel
theorem d11_goes_9 : decode (mk_c M11_goes) 9 = .ok (.iload_n 3, 1) := by decide +kernel
theorem d11_goes_10 : decode (mk_c M11_goes) 10 = .ok (.aload_n 1, 1) := by decide +kernel
theorem d11_goes_11 : decode (mk_c M11_goes) 11 = .ok (.aload_n 0, 1) := by decide +kernel
theorem d11_goes_12 : decode (mk_c M11_goes) 12 = .ok (.getfield 15, 3) := by decide +kernel
theorem d11_goes_15 : decode (mk_c M11_goes) 15 = .ok (.iconst 0, 1) := by decide +kernel
theorem d11_goes_16 : decode (mk_c M11_goes) 16 = .ok (.aload_n 1, 1) := by decide +kernel
theorem d11_goes_17 : decode (mk_c M11_goes) 17 = .ok (.getfield 24, 3) := by decide +kernel
theorem d11_goes_20 : decode (mk_c M11_goes) 20 = .ok (.iload_n 2, 1) := by decide +kernel
theorem d11_goes_21 : decode (mk_c M11_goes) 21 = .ok (.aload_n 0, 1) := by decide +kernel
theorem d11_goes_22 : decode (mk_c M11_goes) 22 = .ok (.getfield 28, 3) := by decide +kernel
theorem d11_goes_25 : decode (mk_c M11_goes) 25 = .ok (.invokestatic 31, 3) := by decide +kernel
theorem d11_goes_28 : decode (mk_c M11_goes) 28 = .ok (.iaload, 1) := by decide +kernel
theorem d11_goes_29 : decode (mk_c M11_goes) 29 = .ok (.invokevirtual 35, 3) := by decide +kernel
theorem d11_goes_32 : decode (mk_c M11_goes) 32 = .ok (.ior, 1) := by decide +kernel
theorem d11_goes_33 : decode (mk_c M11_goes) 33 = .ok (.istore_n 3, 1) := by decide +kernel
theorem d11_goes_34 : decode (mk_c M11_goes) 34 = .ok (.aload_n 1, 1) := by decide +kernel
theorem d11_goes_35 : decode (mk_c M11_goes) 35 = .ok (.iload_n 2, 1) := by decide +kernel
theorem d11_goes_36 : decode (mk_c M11_goes) 36 = .ok (.aload_n 0, 1) := by decide +kernel
theorem d11_goes_37 : decode (mk_c M11_goes) 37 = .ok (.getfield 9, 3) := by decide +kernel
theorem d11_goes_40 : decode (mk_c M11_goes) 40 = .ok (.aload_n 1, 1) := by decide +kernel
theorem d11_goes_41 : decode (mk_c M11_goes) 41 = .ok (.getfield 24, 3) := by decide +kernel
theorem d11_goes_44 : decode (mk_c M11_goes) 44 = .ok (.aload_n 0, 1) := by decide +kernel
theorem d11_goes_45 : decode (mk_c M11_goes) 45 = .ok (.getfield 15, 3) := by decide +kernel
theorem d11_goes_48 : decode (mk_c M11_goes) 48 = .ok (.invokestatic 39, 3) := by decide +kernel
theorem d11_goes_51 : decode (mk_c M11_goes) 51 = .ok (.iaload, 1) := by decide +kernel
theorem d11_goes_52 : decode (mk_c M11_goes) 52 = .ok (.invokevirtual 35, 3) := by decide +kernel
theorem d11_goes_55 : decode (mk_c M11_goes) 55 = .ok (.iload_n 3, 1) := by decide +kernel
theorem d11_goes_56 : decode (mk_c M11_goes) 56 = .ok (.ior, 1) := by decide +kernel
theorem d11_goes_57 : decode (mk_c M11_goes) 57 = .ok (.ireturn, 1) := by decide +kernel
theorem d11_leads_0 : decode (mk_c M11_leads) 0 = .ok (.iload_n 3, 1) := by decide +kernel
theorem d11_leads_1 : decode (mk_c M11_leads) 1 = .ok (.iload_n 2, 1) := by decide +kernel
theorem d11_leads_2 : decode (mk_c M11_leads) 2 = .ok (.aload_n 0, 1) := by decide +kernel
theorem d11_leads_3 : decode (mk_c M11_leads) 3 = .ok (.getfield 28, 3) := by decide +kernel
theorem d11_leads_6 : decode (mk_c M11_leads) 6 = .ok (.invokestatic 31, 3) := by decide +kernel
theorem d11_leads_9 : decode (mk_c M11_leads) 9 = .ok (.if_icmp .ne 30, 3) := by decide +kernel
theorem d11_leads_12 : decode (mk_c M11_leads) 12 = .ok (.aload_n 1, 1) := by decide +kernel
theorem d11_leads_13 : decode (mk_c M11_leads) 13 = .ok (.aload_n 0, 1) := by decide +kernel
theorem d11_leads_14 : decode (mk_c M11_leads) 14 = .ok (.getfield 15, 3) := by decide +kernel
theorem d11_leads_17 : decode (mk_c M11_leads) 17 = .ok (.iconst 0, 1) := by decide +kernel
theorem d11_leads_18 : decode (mk_c M11_leads) 18 = .ok (.iload 4, 2) := by decide +kernel
theorem d11_leads_20 : decode (mk_c M11_leads) 20 = .ok (.invokevirtual 43, 3) := by decide +kernel
theorem d11_leads_23 : decode (mk_c M11_leads) 23 = .ok (.ifCond .eq 7, 3) := by decide +kernel
theorem d11_leads_26 : decode (mk_c M11_leads) 26 = .ok (.iconst (-1), 1) := by decide +kernel
theorem d11_leads_27 : decode (mk_c M11_leads) 27 = .ok (.goto 11, 3) := by decide +kernel
theorem d11_leads_30 : decode (mk_c M11_leads) 30 = .ok (.aload_n 0, 1) := by decide +kernel
theorem d11_leads_31 : decode (mk_c M11_leads) 31 = .ok (.getfield 15, 3) := by decide +kernel
theorem d11_leads_34 : decode (mk_c M11_leads) 34 = .ok (.iconst 0, 1) := by decide +kernel
theorem d11_leads_35 : decode (mk_c M11_leads) 35 = .ok (.invokestatic 31, 3) := by decide +kernel
theorem d11_leads_38 : decode (mk_c M11_leads) 38 = .ok (.ireturn, 1) := by decide +kernel
theorem d11_leads_39 : decode (mk_c M11_leads) 39 = .ok (.iload_n 3, 1) := by decide +kernel
theorem d11_leads_40 : decode (mk_c M11_leads) 40 = .ok (.aload_n 0, 1) := by decide +kernel
theorem d11_leads_41 : decode (mk_c M11_leads) 41 = .ok (.getfield 15, 3) := by decide +kernel
theorem d11_leads_44 : decode (mk_c M11_leads) 44 = .ok (.invokestatic 39, 3) := by decide +kernel
theorem d11_leads_47 : decode (mk_c M11_leads) 47 = .ok (.if_icmp .ne 28, 3) := by decide +kernel
theorem d11_leads_50 : decode (mk_c M11_leads) 50 = .ok (.aload_n 1, 1) := by decide +kernel
theorem d11_leads_51 : decode (mk_c M11_leads) 51 = .ok (.iload_n 2, 1) := by decide +kernel
theorem d11_leads_52 : decode (mk_c M11_leads) 52 = .ok (.aload_n 0, 1) := by decide +kernel
theorem d11_leads_53 : decode (mk_c M11_leads) 53 = .ok (.getfield 9, 3) := by decide +kernel
theorem d11_leads_56 : decode (mk_c M11_leads) 56 = .ok (.iload 4, 2) := by decide +kernel
theorem d11_leads_58 : decode (mk_c M11_leads) 58 = .ok (.invokevirtual 43, 3) := by decide +kernel
theorem d11_leads_61 : decode (mk_c M11_leads) 61 = .ok (.ifCond .ne 14, 3) := by decide +kernel
theorem d11_leads_64 : decode (mk_c M11_leads) 64 = .ok (.iload_n 2, 1) := by decide +kernel
theorem d11_leads_65 : decode (mk_c M11_leads) 65 = .ok (.aload_n 0, 1) := by decide +kernel
theorem d11_leads_66 : decode (mk_c M11_leads) 66 = .ok (.getfield 9, 3) := by decide +kernel
theorem d11_leads_69 : decode (mk_c M11_leads) 69 = .ok (.invokestatic 31, 3) := by decide +kernel
theorem d11_leads_72 : decode (mk_c M11_leads) 72 = .ok (.goto 4, 3) := by decide +kernel
theorem d11_leads_75 : decode (mk_c M11_leads) 75 = .ok (.iconst (-1), 1) := by decide +kernel
theorem d11_leads_76 : decode (mk_c M11_leads) 76 = .ok (.ireturn, 1) := by decide +kernel
theorem d12_init_0 : decode (mk_c M12_init) 0 = .ok (.aload_n 0, 1) := by decide +kernel
theorem d12_init_1 : decode (mk_c M12_init) 1 = .ok (.iconst 3, 1) := by decide +kernel
theorem d12_init_2 : decode (mk_c M12_init) 2 = .ok (.iload_n 2, 1) := by decide +kernel
theorem d12_init_3 : decode (mk_c M12_init) 3 = .ok (.iload_n 1, 1) := by decide +kernel
theorem d12_init_4 : decode (mk_c M12_init) 4 = .ok (.invokespecial 3, 3) := by decide +kernel
theorem d12_init_7 : decode (mk_c M12_init) 7 = .ok (.return_, 1) := by decide +kernel
theorem d12_goes_0 : decode (mk_c M12_goes) 0 = .ok (.aload_n 1, 1) := by decide +kernel
theorem d12_goes_1 : decode (mk_c M12_goes) 1 = .ok (.getfield 15, 3) := by decide +kernel
theorem d12_goes_4 : decode (mk_c M12_goes) 4 = .ok (.iload_n 2, 1) := by decide +kernel
theorem d12_goes_5 : decode (mk_c M12_goes) 5 = .ok (.iaload, 1) := by decide +kernel
theorem d12_goes_6 : decode (mk_c M12_goes) 6 = .ok (.aload_n 0, 1) := by decide +kernel
theorem d12_goes_7 : decode (mk_c M12_goes) 7 = .ok (.getfield 9, 3) := by decide +kernel
theorem d12_goes_10 : decode (mk_c M12_goes) 10 = .ok (.ishr, 1) := by decide +kernel
theorem d12_goes_11 : decode (mk_c M12_goes) 11 = .ok (.iconst 1, 1) := by decide +kernel
theorem d12_goes_12 : decode (mk_c M12_goes) 12 = .ok (.iand, 1) := by decide +kernel
theorem d12_goes_13 : decode (mk_c M12_goes) 13 = .ok (.iconst 1, 1) := by decide +kernel
theorem d12_goes_14 : decode (mk_c M12_goes) 14 = .ok (.if_icmp .ne 31, 3) := by decide +kernel
theorem d12_goes_17 : decode (mk_c M12_goes) 17 = .ok (.aload_n 1, 1) := by decide +kernel
theorem d12_goes_18 : decode (mk_c M12_goes) 18 = .ok (.aload_n 0, 1) := by decide +kernel
theorem d12_goes_19 : decode (mk_c M12_goes) 19 = .ok (.getfield 9, 3) := by decide +kernel
theorem d12_goes_22 : decode (mk_c M12_goes) 22 = .ok (.aload_n 1, 1) := by decide +kernel
theorem d12_goes_23 : decode (mk_c M12_goes) 23 = .ok (.getfield 21, 3) := by decide +kernel
theorem d12_goes_26 : decode (mk_c M12_goes) 26 = .ok (.iload_n 2, 1) := by decide +kernel
theorem d12_goes_27 : decode (mk_c M12_goes) 27 = .ok (.aload_n 0, 1) := by decide +kernel
theorem d12_goes_28 : decode (mk_c M12_goes) 28 = .ok (.getfield 24, 3) := by decide +kernel
theorem d12_goes_31 : decode (mk_c M12_goes) 31 = .ok (.invokestatic 27, 3) := by decide +kernel
theorem d12_goes_34 : decode (mk_c M12_goes) 34 = .ok (.iaload, 1) := by decide +kernel
theorem d12_goes_35 : decode (mk_c M12_goes) 35 = .ok (.invokevirtual 31, 3) := by decide +kernel
theorem d12_goes_38 : decode (mk_c M12_goes) 38 = .ok (.ifCond .eq 7, 3) := by decide +kernel
theorem d12_goes_41 : decode (mk_c M12_goes) 41 = .ok (.iconst 1, 1) := by decide +kernel
theorem d12_goes_42 : decode (mk_c M12_goes) 42 = .ok (.goto 4, 3) := by decide +kernel
theorem d12_goes_45 : decode (mk_c M12_goes) 45 = .ok (.iconst 0, 1) := by decide +kernel
theorem d12_goes_46 : decode (mk_c M12_goes) 46 = .ok (.ireturn, 1) := by decide +kernel
theorem d12_needs_0 : decode (mk_c M12_needs) 0 = .ok (.iconst 1, 1) := by decide +kernel
theorem d12_needs_1 : decode (mk_c M12_needs) 1 = .ok (.aload_n 0, 1) := by decide +kernel
theorem d12_needs_2 : decode (mk_c M12_needs) 2 = .ok (.getfield 9, 3) := by decide +kernel
theorem d12_needs_5 : decode (mk_c M12_needs) 5 = .ok (.ishl, 1) := by decide +kernel
theorem d12_needs_6 : decode (mk_c M12_needs) 6 = .ok (.ireturn, 1) := by decide +kernel
theorem d13_init_0 : decode (mk_c M13_init) 0 = .ok (.aload_n 0, 1) := by decide +kernel
theorem d13_init_1 : decode (mk_c M13_init) 1 = .ok (.iconst 4, 1) := by decide +kernel
theorem d13_init_2 : decode (mk_c M13_init) 2 = .ok (.iload_n 2, 1) := by decide +kernel
theorem d13_init_3 : decode (mk_c M13_init) 3 = .ok (.iload_n 1, 1) := by decide +kernel
theorem d13_init_4 : decode (mk_c M13_init) 4 = .ok (.invokespecial 3, 3) := by decide +kernel
theorem d13_init_7 : decode (mk_c M13_init) 7 = .ok (.return_, 1) := by decide +kernel
theorem d14_init_0 : decode (mk_c M14_init) 0 = .ok (.aload_n 0, 1) := by decide +kernel
theorem d14_init_1 : decode (mk_c M14_init) 1 = .ok (.iconst 5, 1) := by decide +kernel
theorem d14_init_2 : decode (mk_c M14_init) 2 = .ok (.iconst 0, 1) := by decide +kernel
theorem d14_init_3 : decode (mk_c M14_init) 3 = .ok (.iload_n 1, 1) := by decide +kernel
theorem d14_init_4 : decode (mk_c M14_init) 4 = .ok (.invokespecial 3, 3) := by decide +kernel
theorem d14_init_7 : decode (mk_c M14_init) 7 = .ok (.return_, 1) := by decide +kernel
theorem d14_goes_0 : decode (mk_c M14_goes) 0 = .ok (.aload_n 1, 1) := by decide +kernel
theorem d14_goes_1 : decode (mk_c M14_goes) 1 = .ok (.iload_n 2, 1) := by decide +kernel
theorem d14_goes_2 : decode (mk_c M14_goes) 2 = .ok (.invokestatic 9, 3) := by decide +kernel
theorem d14_goes_5 : decode (mk_c M14_goes) 5 = .ok (.aload_n 1, 1) := by decide +kernel
theorem d14_goes_6 : decode (mk_c M14_goes) 6 = .ok (.getfield 13, 3) := by decide +kernel
theorem d14_goes_9 : decode (mk_c M14_goes) 9 = .ok (.iload_n 2, 1) := by decide +kernel
theorem d14_goes_10 : decode (mk_c M14_goes) 10 = .ok (.aload_n 0, 1) := by decide +kernel
theorem d14_goes_11 : decode (mk_c M14_goes) 11 = .ok (.getfield 19, 3) := by decide +kernel
theorem d14_goes_14 : decode (mk_c M14_goes) 14 = .ok (.invokestatic 25, 3) := by decide +kernel
theorem d14_goes_17 : decode (mk_c M14_goes) 17 = .ok (.iaload, 1) := by decide +kernel
theorem d14_goes_18 : decode (mk_c M14_goes) 18 = .ok (.invokevirtual 29, 3) := by decide +kernel
theorem d14_goes_21 : decode (mk_c M14_goes) 21 = .ok (.ireturn, 1) := by decide +kernel
theorem d14_leads_0 : decode (mk_c M14_leads) 0 = .ok (.iload_n 3, 1) := by decide +kernel
theorem d14_leads_1 : decode (mk_c M14_leads) 1 = .ok (.iload_n 2, 1) := by decide +kernel
theorem d14_leads_2 : decode (mk_c M14_leads) 2 = .ok (.aload_n 0, 1) := by decide +kernel
theorem d14_leads_3 : decode (mk_c M14_leads) 3 = .ok (.getfield 19, 3) := by decide +kernel
theorem d14_leads_6 : decode (mk_c M14_leads) 6 = .ok (.invokestatic 25, 3) := by decide +kernel
theorem d14_leads_9 : decode (mk_c M14_leads) 9 = .ok (.if_icmp .ne 10, 3) := by decide +kernel
theorem d14_leads_12 : decode (mk_c M14_leads) 12 = .ok (.iload_n 2, 1) := by decide +kernel
theorem d14_leads_13 : decode (mk_c M14_leads) 13 = .ok (.invokestatic 9, 3) := by decide +kernel
theorem d14_leads_16 : decode (mk_c M14_leads) 16 = .ok (.goto 4, 3) := by decide +kernel
theorem d14_leads_19 : decode (mk_c M14_leads) 19 = .ok (.iconst (-1), 1) := by decide +kernel
theorem d14_leads_20 : decode (mk_c M14_leads) 20 = .ok (.ireturn, 1) := by decide +kernel
theorem dL_law_0 : decode (mk_c ML_law) 0 = .ok (.new 8, 3) := by decide +kernel
theorem dL_law_3 : decode (mk_c ML_law) 3 = .ok (.dup, 1) := by decide +kernel
theorem dL_law_4 : decode (mk_c ML_law) 4 = .ok (.invokespecial 15, 3) := by decide +kernel
theorem dL_law_7 : decode (mk_c ML_law) 7 = .ok (.astore_n 1, 1) := by decide +kernel
theorem dL_law_8 : decode (mk_c ML_law) 8 = .ok (.new 16, 3) := by decide +kernel
theorem dL_law_11 : decode (mk_c ML_law) 11 = .ok (.dup, 1) := by decide +kernel
theorem dL_law_12 : decode (mk_c ML_law) 12 = .ok (.invokespecial 18, 3) := by decide +kernel
theorem dL_law_15 : decode (mk_c ML_law) 15 = .ok (.astore_n 2, 1) := by decide +kernel
theorem dL_law_16 : decode (mk_c ML_law) 16 = .ok (.iconst 1, 1) := by decide +kernel
theorem dL_law_17 : decode (mk_c ML_law) 17 = .ok (.newarray .long, 2) := by decide +kernel
theorem dL_law_19 : decode (mk_c ML_law) 19 = .ok (.astore_n 3, 1) := by decide +kernel
theorem dL_law_20 : decode (mk_c ML_law) 20 = .ok (.iconst 0, 1) := by decide +kernel
theorem dL_law_21 : decode (mk_c ML_law) 21 = .ok (.istore 4, 2) := by decide +kernel
theorem dL_law_23 : decode (mk_c ML_law) 23 = .ok (.iload 4, 2) := by decide +kernel
theorem dL_law_25 : decode (mk_c ML_law) 25 = .ok (.aload_n 0, 1) := by decide +kernel
theorem dL_law_26 : decode (mk_c ML_law) 26 = .ok (.arraylength, 1) := by decide +kernel
theorem dL_law_27 : decode (mk_c ML_law) 27 = .ok (.bipush 6, 2) := by decide +kernel
theorem dL_law_29 : decode (mk_c ML_law) 29 = .ok (.isub, 1) := by decide +kernel
theorem dL_law_30 : decode (mk_c ML_law) 30 = .ok (.if_icmp .gt 979, 3) := by decide +kernel
theorem dL_law_33 : decode (mk_c ML_law) 33 = .ok (.aload_n 0, 1) := by decide +kernel
theorem dL_law_34 : decode (mk_c ML_law) 34 = .ok (.iload 4, 2) := by decide +kernel
theorem dL_law_36 : decode (mk_c ML_law) 36 = .ok (.iaload, 1) := by decide +kernel
theorem dL_law_37 : decode (mk_c ML_law) 37 = .ok (.bipush 31, 2) := by decide +kernel
theorem dL_law_39 : decode (mk_c ML_law) 39 = .ok (.iand, 1) := by decide +kernel
theorem dL_law_40 : decode (mk_c ML_law) 40 = .ok (.tableswitch 963 0 27 #[128, 153, 190, 263, 300, 313, 326, 375, 440, 477, 502, 527, 552, 565, 606, 631, 668, 724, 749, 774, 799, 824, 837, 850, 875, 912, 925, 950], 128) := by decide +kernel
theorem dL_law_168 : decode (mk_c ML_law) 168 = .ok (.aload_n 1, 1) := by decide +kernel
theorem dL_law_169 : decode (mk_c ML_law) 169 = .ok (.aload_n 0, 1) := by decide +kernel
theorem dL_law_170 : decode (mk_c ML_law) 170 = .ok (.iload 4, 2) := by decide +kernel
theorem dL_law_172 : decode (mk_c ML_law) 172 = .ok (.iconst 1, 1) := by decide +kernel
theorem dL_law_173 : decode (mk_c ML_law) 173 = .ok (.iadd, 1) := by decide +kernel
theorem dL_law_174 : decode (mk_c ML_law) 174 = .ok (.iaload, 1) := by decide +kernel
theorem dL_law_175 : decode (mk_c ML_law) 175 = .ok (.invokevirtual 19, 3) := by decide +kernel
theorem dL_law_178 : decode (mk_c ML_law) 178 = .ok (.aload_n 2, 1) := by decide +kernel
theorem dL_law_179 : decode (mk_c ML_law) 179 = .ok (.aload_n 0, 1) := by decide +kernel
theorem dL_law_180 : decode (mk_c ML_law) 180 = .ok (.iload 4, 2) := by decide +kernel
theorem dL_law_182 : decode (mk_c ML_law) 182 = .ok (.iconst 1, 1) := by decide +kernel
theorem dL_law_183 : decode (mk_c ML_law) 183 = .ok (.iadd, 1) := by decide +kernel
theorem dL_law_184 : decode (mk_c ML_law) 184 = .ok (.iaload, 1) := by decide +kernel
theorem dL_law_185 : decode (mk_c ML_law) 185 = .ok (.invokevirtual 22, 3) := by decide +kernel
theorem dL_law_188 : decode (mk_c ML_law) 188 = .ok (.if_icmp .eq 815, 3) := by decide +kernel
theorem dL_law_191 : decode (mk_c ML_law) 191 = .ok (.iconst 0, 1) := by decide +kernel
theorem dL_law_192 : decode (mk_c ML_law) 192 = .ok (.ireturn, 1) := by decide +kernel
theorem dL_law_193 : decode (mk_c ML_law) 193 = .ok (.aload_n 1, 1) := by decide +kernel
theorem dL_law_194 : decode (mk_c ML_law) 194 = .ok (.aload_n 0, 1) := by decide +kernel
theorem dL_law_195 : decode (mk_c ML_law) 195 = .ok (.iload 4, 2) := by decide +kernel
theorem dL_law_197 : decode (mk_c ML_law) 197 = .ok (.iconst 1, 1) := by decide +kernel
theorem dL_law_198 : decode (mk_c ML_law) 198 = .ok (.iadd, 1) := by decide +kernel
theorem dL_law_199 : decode (mk_c ML_law) 199 = .ok (.iaload, 1) := by decide +kernel
theorem dL_law_200 : decode (mk_c ML_law) 200 = .ok (.aload_n 0, 1) := by decide +kernel
theorem dL_law_201 : decode (mk_c ML_law) 201 = .ok (.iload 4, 2) := by decide +kernel
theorem dL_law_203 : decode (mk_c ML_law) 203 = .ok (.iconst 2, 1) := by decide +kernel
theorem dL_law_204 : decode (mk_c ML_law) 204 = .ok (.iadd, 1) := by decide +kernel
theorem dL_law_205 : decode (mk_c ML_law) 205 = .ok (.iaload, 1) := by decide +kernel
theorem dL_law_206 : decode (mk_c ML_law) 206 = .ok (.invokevirtual 23, 3) := by decide +kernel
theorem dL_law_209 : decode (mk_c ML_law) 209 = .ok (.aload_n 2, 1) := by decide +kernel
theorem dL_law_210 : decode (mk_c ML_law) 210 = .ok (.aload_n 0, 1) := by decide +kernel
theorem dL_law_211 : decode (mk_c ML_law) 211 = .ok (.iload 4, 2) := by decide +kernel
theorem dL_law_213 : decode (mk_c ML_law) 213 = .ok (.iconst 1, 1) := by decide +kernel
theorem dL_law_214 : decode (mk_c ML_law) 214 = .ok (.iadd, 1) := by decide +kernel
theorem dL_law_215 : decode (mk_c ML_law) 215 = .ok (.iaload, 1) := by decide +kernel
theorem dL_law_216 : decode (mk_c ML_law) 216 = .ok (.aload_n 0, 1) := by decide +kernel
theorem dL_law_217 : decode (mk_c ML_law) 217 = .ok (.iload 4, 2) := by decide +kernel
theorem dL_law_219 : decode (mk_c ML_law) 219 = .ok (.iconst 2, 1) := by decide +kernel
theorem dL_law_220 : decode (mk_c ML_law) 220 = .ok (.iadd, 1) := by decide +kernel
theorem dL_law_221 : decode (mk_c ML_law) 221 = .ok (.iaload, 1) := by decide +kernel
theorem dL_law_222 : decode (mk_c ML_law) 222 = .ok (.invokevirtual 27, 3) := by decide +kernel
theorem dL_law_225 : decode (mk_c ML_law) 225 = .ok (.if_icmp .eq 778, 3) := by decide +kernel
theorem dL_law_228 : decode (mk_c ML_law) 228 = .ok (.iconst 0, 1) := by decide +kernel
theorem dL_law_229 : decode (mk_c ML_law) 229 = .ok (.ireturn, 1) := by decide +kernel
theorem dL_law_230 : decode (mk_c ML_law) 230 = .ok (.aload_n 1, 1) := by decide +kernel
theorem dL_law_231 : decode (mk_c ML_law) 231 = .ok (.aload_n 0, 1) := by decide +kernel
theorem dL_law_232 : decode (mk_c ML_law) 232 = .ok (.iload 4, 2) := by decide +kernel
theorem dL_law_234 : decode (mk_c ML_law) 234 = .ok (.iconst 1, 1) := by decide +kernel
theorem dL_law_235 : decode (mk_c ML_law) 235 = .ok (.iadd, 1) := by decide +kernel
theorem dL_law_236 : decode (mk_c ML_law) 236 = .ok (.iaload, 1) := by decide +kernel
theorem dL_law_237 : decode (mk_c ML_law) 237 = .ok (.aload_n 0, 1) := by decide +kernel
theorem dL_law_238 : decode (mk_c ML_law) 238 = .ok (.iload 4, 2) := by decide +kernel
theorem dL_law_240 : decode (mk_c ML_law) 240 = .ok (.iconst 2, 1) := by decide +kernel
theorem dL_law_241 : decode (mk_c ML_law) 241 = .ok (.iadd, 1) := by decide +kernel
theorem dL_law_242 : decode (mk_c ML_law) 242 = .ok (.iaload, 1) := by decide +kernel
theorem dL_law_243 : decode (mk_c ML_law) 243 = .ok (.aload_n 0, 1) := by decide +kernel
theorem dL_law_244 : decode (mk_c ML_law) 244 = .ok (.iload 4, 2) := by decide +kernel
theorem dL_law_246 : decode (mk_c ML_law) 246 = .ok (.iconst 3, 1) := by decide +kernel
theorem dL_law_247 : decode (mk_c ML_law) 247 = .ok (.iadd, 1) := by decide +kernel
theorem dL_law_248 : decode (mk_c ML_law) 248 = .ok (.iaload, 1) := by decide +kernel
theorem dL_law_249 : decode (mk_c ML_law) 249 = .ok (.aload_n 0, 1) := by decide +kernel
theorem dL_law_250 : decode (mk_c ML_law) 250 = .ok (.iload 4, 2) := by decide +kernel
theorem dL_law_252 : decode (mk_c ML_law) 252 = .ok (.iconst 4, 1) := by decide +kernel
theorem dL_law_253 : decode (mk_c ML_law) 253 = .ok (.iadd, 1) := by decide +kernel
theorem dL_law_254 : decode (mk_c ML_law) 254 = .ok (.iaload, 1) := by decide +kernel
theorem dL_law_255 : decode (mk_c ML_law) 255 = .ok (.aload_n 0, 1) := by decide +kernel
theorem dL_law_256 : decode (mk_c ML_law) 256 = .ok (.iload 4, 2) := by decide +kernel
theorem dL_law_258 : decode (mk_c ML_law) 258 = .ok (.iconst 5, 1) := by decide +kernel
theorem dL_law_259 : decode (mk_c ML_law) 259 = .ok (.iadd, 1) := by decide +kernel
theorem dL_law_260 : decode (mk_c ML_law) 260 = .ok (.iaload, 1) := by decide +kernel
theorem dL_law_261 : decode (mk_c ML_law) 261 = .ok (.invokevirtual 28, 3) := by decide +kernel
theorem dL_law_264 : decode (mk_c ML_law) 264 = .ok (.aload_n 2, 1) := by decide +kernel
theorem dL_law_265 : decode (mk_c ML_law) 265 = .ok (.aload_n 0, 1) := by decide +kernel
theorem dL_law_266 : decode (mk_c ML_law) 266 = .ok (.iload 4, 2) := by decide +kernel
theorem dL_law_268 : decode (mk_c ML_law) 268 = .ok (.iconst 1, 1) := by decide +kernel
theorem dL_law_269 : decode (mk_c ML_law) 269 = .ok (.iadd, 1) := by decide +kernel
theorem dL_law_270 : decode (mk_c ML_law) 270 = .ok (.iaload, 1) := by decide +kernel
theorem dL_law_271 : decode (mk_c ML_law) 271 = .ok (.aload_n 0, 1) := by decide +kernel
theorem dL_law_272 : decode (mk_c ML_law) 272 = .ok (.iload 4, 2) := by decide +kernel
theorem dL_law_274 : decode (mk_c ML_law) 274 = .ok (.iconst 2, 1) := by decide +kernel
theorem dL_law_275 : decode (mk_c ML_law) 275 = .ok (.iadd, 1) := by decide +kernel
theorem dL_law_276 : decode (mk_c ML_law) 276 = .ok (.iaload, 1) := by decide +kernel
theorem dL_law_277 : decode (mk_c ML_law) 277 = .ok (.aload_n 0, 1) := by decide +kernel
theorem dL_law_278 : decode (mk_c ML_law) 278 = .ok (.iload 4, 2) := by decide +kernel
theorem dL_law_280 : decode (mk_c ML_law) 280 = .ok (.iconst 3, 1) := by decide +kernel
theorem dL_law_281 : decode (mk_c ML_law) 281 = .ok (.iadd, 1) := by decide +kernel
theorem dL_law_282 : decode (mk_c ML_law) 282 = .ok (.iaload, 1) := by decide +kernel
theorem dL_law_283 : decode (mk_c ML_law) 283 = .ok (.aload_n 0, 1) := by decide +kernel
theorem dL_law_284 : decode (mk_c ML_law) 284 = .ok (.iload 4, 2) := by decide +kernel
theorem dL_law_286 : decode (mk_c ML_law) 286 = .ok (.iconst 4, 1) := by decide +kernel
theorem dL_law_287 : decode (mk_c ML_law) 287 = .ok (.iadd, 1) := by decide +kernel
theorem dL_law_288 : decode (mk_c ML_law) 288 = .ok (.iaload, 1) := by decide +kernel
theorem dL_law_289 : decode (mk_c ML_law) 289 = .ok (.aload_n 0, 1) := by decide +kernel
theorem dL_law_290 : decode (mk_c ML_law) 290 = .ok (.iload 4, 2) := by decide +kernel
theorem dL_law_292 : decode (mk_c ML_law) 292 = .ok (.iconst 5, 1) := by decide +kernel
theorem dL_law_293 : decode (mk_c ML_law) 293 = .ok (.iadd, 1) := by decide +kernel
theorem dL_law_294 : decode (mk_c ML_law) 294 = .ok (.iaload, 1) := by decide +kernel
theorem dL_law_295 : decode (mk_c ML_law) 295 = .ok (.invokevirtual 32, 3) := by decide +kernel
theorem dL_law_298 : decode (mk_c ML_law) 298 = .ok (.if_icmp .eq 705, 3) := by decide +kernel
theorem dL_law_301 : decode (mk_c ML_law) 301 = .ok (.iconst 0, 1) := by decide +kernel
theorem dL_law_302 : decode (mk_c ML_law) 302 = .ok (.ireturn, 1) := by decide +kernel
theorem dL_law_303 : decode (mk_c ML_law) 303 = .ok (.aload_n 1, 1) := by decide +kernel
theorem dL_law_304 : decode (mk_c ML_law) 304 = .ok (.aload_n 0, 1) := by decide +kernel
theorem dL_law_305 : decode (mk_c ML_law) 305 = .ok (.iload 4, 2) := by decide +kernel
theorem dL_law_307 : decode (mk_c ML_law) 307 = .ok (.iconst 1, 1) := by decide +kernel
theorem dL_law_308 : decode (mk_c ML_law) 308 = .ok (.iadd, 1) := by decide +kernel
theorem dL_law_309 : decode (mk_c ML_law) 309 = .ok (.iaload, 1) := by decide +kernel
theorem dL_law_310 : decode (mk_c ML_law) 310 = .ok (.aload_n 0, 1) := by decide +kernel
theorem dL_law_311 : decode (mk_c ML_law) 311 = .ok (.iload 4, 2) := by decide +kernel
theorem dL_law_313 : decode (mk_c ML_law) 313 = .ok (.iconst 2, 1) := by decide +kernel
theorem dL_law_314 : decode (mk_c ML_law) 314 = .ok (.iadd, 1) := by decide +kernel
theorem dL_law_315 : decode (mk_c ML_law) 315 = .ok (.iaload, 1) := by decide +kernel
theorem dL_law_316 : decode (mk_c ML_law) 316 = .ok (.invokevirtual 33, 3) := by decide +kernel
theorem dL_law_319 : decode (mk_c ML_law) 319 = .ok (.aload_n 2, 1) := by decide +kernel
theorem dL_law_320 : decode (mk_c ML_law) 320 = .ok (.aload_n 0, 1) := by decide +kernel
theorem dL_law_321 : decode (mk_c ML_law) 321 = .ok (.iload 4, 2) := by decide +kernel
theorem dL_law_323 : decode (mk_c ML_law) 323 = .ok (.iconst 1, 1) := by decide +kernel
theorem dL_law_324 : decode (mk_c ML_law) 324 = .ok (.iadd, 1) := by decide +kernel
theorem dL_law_325 : decode (mk_c ML_law) 325 = .ok (.iaload, 1) := by decide +kernel
theorem dL_law_326 : decode (mk_c ML_law) 326 = .ok (.aload_n 0, 1) := by decide +kernel
theorem dL_law_327 : decode (mk_c ML_law) 327 = .ok (.iload 4, 2) := by decide +kernel
theorem dL_law_329 : decode (mk_c ML_law) 329 = .ok (.iconst 2, 1) := by decide +kernel
theorem dL_law_330 : decode (mk_c ML_law) 330 = .ok (.iadd, 1) := by decide +kernel
theorem dL_law_331 : decode (mk_c ML_law) 331 = .ok (.iaload, 1) := by decide +kernel
theorem dL_law_332 : decode (mk_c ML_law) 332 = .ok (.invokevirtual 37, 3) := by decide +kernel
theorem dL_law_335 : decode (mk_c ML_law) 335 = .ok (.if_icmp .eq 668, 3) := by decide +kernel
theorem dL_law_338 : decode (mk_c ML_law) 338 = .ok (.iconst 0, 1) := by decide +kernel
theorem dL_law_339 : decode (mk_c ML_law) 339 = .ok (.ireturn, 1) := by decide +kernel
theorem dL_law_340 : decode (mk_c ML_law) 340 = .ok (.aload_n 1, 1) := by decide +kernel
theorem dL_law_341 : decode (mk_c ML_law) 341 = .ok (.invokevirtual 38, 3) := by decide +kernel
theorem dL_law_344 : decode (mk_c ML_law) 344 = .ok (.aload_n 2, 1) := by decide +kernel
theorem dL_law_345 : decode (mk_c ML_law) 345 = .ok (.invokevirtual 42, 3) := by decide +kernel
theorem dL_law_348 : decode (mk_c ML_law) 348 = .ok (.if_icmp .eq 655, 3) := by decide +kernel
theorem dL_law_351 : decode (mk_c ML_law) 351 = .ok (.iconst 0, 1) := by decide +kernel
theorem dL_law_352 : decode (mk_c ML_law) 352 = .ok (.ireturn, 1) := by decide +kernel
theorem dL_law_353 : decode (mk_c ML_law) 353 = .ok (.aload_n 1, 1) := by decide +kernel
theorem dL_law_354 : decode (mk_c ML_law) 354 = .ok (.invokevirtual 43, 3) := by decide +kernel
theorem dL_law_357 : decode (mk_c ML_law) 357 = .ok (.aload_n 2, 1) := by decide +kernel
theorem dL_law_358 : decode (mk_c ML_law) 358 = .ok (.invokevirtual 46, 3) := by decide +kernel
theorem dL_law_361 : decode (mk_c ML_law) 361 = .ok (.if_icmp .eq 642, 3) := by decide +kernel
theorem dL_law_364 : decode (mk_c ML_law) 364 = .ok (.iconst 0, 1) := by decide +kernel
theorem dL_law_365 : decode (mk_c ML_law) 365 = .ok (.ireturn, 1) := by decide +kernel
theorem dL_law_366 : decode (mk_c ML_law) 366 = .ok (.aload_n 1, 1) := by decide +kernel
theorem dL_law_367 : decode (mk_c ML_law) 367 = .ok (.aload_n 0, 1) := by decide +kernel
theorem dL_law_368 : decode (mk_c ML_law) 368 = .ok (.iload 4, 2) := by decide +kernel
theorem dL_law_370 : decode (mk_c ML_law) 370 = .ok (.iconst 1, 1) := by decide +kernel
theorem dL_law_371 : decode (mk_c ML_law) 371 = .ok (.iadd, 1) := by decide +kernel
theorem dL_law_372 : decode (mk_c ML_law) 372 = .ok (.iaload, 1) := by decide +kernel
theorem dL_law_373 : decode (mk_c ML_law) 373 = .ok (.aload_n 0, 1) := by decide +kernel
theorem dL_law_374 : decode (mk_c ML_law) 374 = .ok (.iload 4, 2) := by decide +kernel
theorem dL_law_376 : decode (mk_c ML_law) 376 = .ok (.iconst 2, 1) := by decide +kernel
theorem dL_law_377 : decode (mk_c ML_law) 377 = .ok (.iadd, 1) := by decide +kernel
theorem dL_law_378 : decode (mk_c ML_law) 378 = .ok (.iaload, 1) := by decide +kernel
theorem dL_law_379 : decode (mk_c ML_law) 379 = .ok (.aload_n 0, 1) := by decide +kernel
theorem dL_law_380 : decode (mk_c ML_law) 380 = .ok (.iload 4, 2) := by decide +kernel
theorem dL_law_382 : decode (mk_c ML_law) 382 = .ok (.iconst 3, 1) := by decide +kernel
theorem dL_law_383 : decode (mk_c ML_law) 383 = .ok (.iadd, 1) := by decide +kernel
theorem dL_law_384 : decode (mk_c ML_law) 384 = .ok (.iaload, 1) := by decide +kernel
theorem dL_law_385 : decode (mk_c ML_law) 385 = .ok (.invokevirtual 47, 3) := by decide +kernel
theorem dL_law_388 : decode (mk_c ML_law) 388 = .ok (.aload_n 2, 1) := by decide +kernel
theorem dL_law_389 : decode (mk_c ML_law) 389 = .ok (.aload_n 0, 1) := by decide +kernel
theorem dL_law_390 : decode (mk_c ML_law) 390 = .ok (.iload 4, 2) := by decide +kernel
theorem dL_law_392 : decode (mk_c ML_law) 392 = .ok (.iconst 1, 1) := by decide +kernel
theorem dL_law_393 : decode (mk_c ML_law) 393 = .ok (.iadd, 1) := by decide +kernel
theorem dL_law_394 : decode (mk_c ML_law) 394 = .ok (.iaload, 1) := by decide +kernel
theorem dL_law_395 : decode (mk_c ML_law) 395 = .ok (.aload_n 0, 1) := by decide +kernel
theorem dL_law_396 : decode (mk_c ML_law) 396 = .ok (.iload 4, 2) := by decide +kernel
theorem dL_law_398 : decode (mk_c ML_law) 398 = .ok (.iconst 2, 1) := by decide +kernel
theorem dL_law_399 : decode (mk_c ML_law) 399 = .ok (.iadd, 1) := by decide +kernel
theorem dL_law_400 : decode (mk_c ML_law) 400 = .ok (.iaload, 1) := by decide +kernel
theorem dL_law_401 : decode (mk_c ML_law) 401 = .ok (.aload_n 0, 1) := by decide +kernel
theorem dL_law_402 : decode (mk_c ML_law) 402 = .ok (.iload 4, 2) := by decide +kernel
theorem dL_law_404 : decode (mk_c ML_law) 404 = .ok (.iconst 3, 1) := by decide +kernel
theorem dL_law_405 : decode (mk_c ML_law) 405 = .ok (.iadd, 1) := by decide +kernel
theorem dL_law_406 : decode (mk_c ML_law) 406 = .ok (.iaload, 1) := by decide +kernel
theorem dL_law_407 : decode (mk_c ML_law) 407 = .ok (.invokevirtual 51, 3) := by decide +kernel
theorem dL_law_410 : decode (mk_c ML_law) 410 = .ok (.if_icmp .eq 593, 3) := by decide +kernel
theorem dL_law_413 : decode (mk_c ML_law) 413 = .ok (.iconst 0, 1) := by decide +kernel
theorem dL_law_414 : decode (mk_c ML_law) 414 = .ok (.ireturn, 1) := by decide +kernel
theorem dL_law_415 : decode (mk_c ML_law) 415 = .ok (.aload_n 1, 1) := by decide +kernel
theorem dL_law_416 : decode (mk_c ML_law) 416 = .ok (.aload_n 0, 1) := by decide +kernel
theorem dL_law_417 : decode (mk_c ML_law) 417 = .ok (.iload 4, 2) := by decide +kernel
theorem dL_law_419 : decode (mk_c ML_law) 419 = .ok (.iconst 1, 1) := by decide +kernel
theorem dL_law_420 : decode (mk_c ML_law) 420 = .ok (.iadd, 1) := by decide +kernel
theorem dL_law_421 : decode (mk_c ML_law) 421 = .ok (.iaload, 1) := by decide +kernel
theorem dL_law_422 : decode (mk_c ML_law) 422 = .ok (.aload_n 0, 1) := by decide +kernel
theorem dL_law_423 : decode (mk_c ML_law) 423 = .ok (.iload 4, 2) := by decide +kernel
theorem dL_law_425 : decode (mk_c ML_law) 425 = .ok (.iconst 2, 1) := by decide +kernel
theorem dL_law_426 : decode (mk_c ML_law) 426 = .ok (.iadd, 1) := by decide +kernel
theorem dL_law_427 : decode (mk_c ML_law) 427 = .ok (.iaload, 1) := by decide +kernel
theorem dL_law_428 : decode (mk_c ML_law) 428 = .ok (.aload_n 0, 1) := by decide +kernel
theorem dL_law_429 : decode (mk_c ML_law) 429 = .ok (.iload 4, 2) := by decide +kernel
theorem dL_law_431 : decode (mk_c ML_law) 431 = .ok (.iconst 3, 1) := by decide +kernel
theorem dL_law_432 : decode (mk_c ML_law) 432 = .ok (.iadd, 1) := by decide +kernel
theorem dL_law_433 : decode (mk_c ML_law) 433 = .ok (.iaload, 1) := by decide +kernel
theorem dL_law_434 : decode (mk_c ML_law) 434 = .ok (.ifCond .eq 7, 3) := by decide +kernel
theorem dL_law_437 : decode (mk_c ML_law) 437 = .ok (.iconst 1, 1) := by decide +kernel
theorem dL_law_438 : decode (mk_c ML_law) 438 = .ok (.goto 4, 3) := by decide +kernel
theorem dL_law_441 : decode (mk_c ML_law) 441 = .ok (.iconst 0, 1) := by decide +kernel
theorem dL_law_442 : decode (mk_c ML_law) 442 = .ok (.invokevirtual 52, 3) := by decide +kernel
theorem dL_law_445 : decode (mk_c ML_law) 445 = .ok (.aload_n 2, 1) := by decide +kernel
theorem dL_law_446 : decode (mk_c ML_law) 446 = .ok (.aload_n 0, 1) := by decide +kernel
theorem dL_law_447 : decode (mk_c ML_law) 447 = .ok (.iload 4, 2) := by decide +kernel
theorem dL_law_449 : decode (mk_c ML_law) 449 = .ok (.iconst 1, 1) := by decide +kernel
theorem dL_law_450 : decode (mk_c ML_law) 450 = .ok (.iadd, 1) := by decide +kernel
theorem dL_law_451 : decode (mk_c ML_law) 451 = .ok (.iaload, 1) := by decide +kernel
theorem dL_law_452 : decode (mk_c ML_law) 452 = .ok (.aload_n 0, 1) := by decide +kernel
theorem dL_law_453 : decode (mk_c ML_law) 453 = .ok (.iload 4, 2) := by decide +kernel
theorem dL_law_455 : decode (mk_c ML_law) 455 = .ok (.iconst 2, 1) := by decide +kernel
theorem dL_law_456 : decode (mk_c ML_law) 456 = .ok (.iadd, 1) := by decide +kernel
theorem dL_law_457 : decode (mk_c ML_law) 457 = .ok (.iaload, 1) := by decide +kernel
theorem dL_law_458 : decode (mk_c ML_law) 458 = .ok (.aload_n 0, 1) := by decide +kernel
theorem dL_law_459 : decode (mk_c ML_law) 459 = .ok (.iload 4, 2) := by decide +kernel
theorem dL_law_461 : decode (mk_c ML_law) 461 = .ok (.iconst 3, 1) := by decide +kernel
theorem dL_law_462 : decode (mk_c ML_law) 462 = .ok (.iadd, 1) := by decide +kernel
theorem dL_law_463 : decode (mk_c ML_law) 463 = .ok (.iaload, 1) := by decide +kernel
theorem dL_law_464 : decode (mk_c ML_law) 464 = .ok (.ifCond .eq 7, 3) := by decide +kernel
theorem dL_law_467 : decode (mk_c ML_law) 467 = .ok (.iconst 1, 1) := by decide +kernel
theorem dL_law_468 : decode (mk_c ML_law) 468 = .ok (.goto 4, 3) := by decide +kernel
theorem dL_law_471 : decode (mk_c ML_law) 471 = .ok (.iconst 0, 1) := by decide +kernel
theorem dL_law_472 : decode (mk_c ML_law) 472 = .ok (.invokevirtual 56, 3) := by decide +kernel
theorem dL_law_475 : decode (mk_c ML_law) 475 = .ok (.if_icmp .eq 528, 3) := by decide +kernel
theorem dL_law_478 : decode (mk_c ML_law) 478 = .ok (.iconst 0, 1) := by decide +kernel
theorem dL_law_479 : decode (mk_c ML_law) 479 = .ok (.ireturn, 1) := by decide +kernel
theorem dL_law_480 : decode (mk_c ML_law) 480 = .ok (.aload_n 1, 1) := by decide +kernel
theorem dL_law_481 : decode (mk_c ML_law) 481 = .ok (.aload_n 0, 1) := by decide +kernel
theorem dL_law_482 : decode (mk_c ML_law) 482 = .ok (.iload 4, 2) := by decide +kernel
theorem dL_law_484 : decode (mk_c ML_law) 484 = .ok (.iconst 1, 1) := by decide +kernel
theorem dL_law_485 : decode (mk_c ML_law) 485 = .ok (.iadd, 1) := by decide +kernel
theorem dL_law_486 : decode (mk_c ML_law) 486 = .ok (.iaload, 1) := by decide +kernel
theorem dL_law_487 : decode (mk_c ML_law) 487 = .ok (.aload_n 0, 1) := by decide +kernel
theorem dL_law_488 : decode (mk_c ML_law) 488 = .ok (.iload 4, 2) := by decide +kernel
theorem dL_law_490 : decode (mk_c ML_law) 490 = .ok (.iconst 2, 1) := by decide +kernel
theorem dL_law_491 : decode (mk_c ML_law) 491 = .ok (.iadd, 1) := by decide +kernel
theorem dL_law_492 : decode (mk_c ML_law) 492 = .ok (.iaload, 1) := by decide +kernel
theorem dL_law_493 : decode (mk_c ML_law) 493 = .ok (.invokevirtual 57, 3) := by decide +kernel
theorem dL_law_496 : decode (mk_c ML_law) 496 = .ok (.aload_n 2, 1) := by decide +kernel
theorem dL_law_497 : decode (mk_c ML_law) 497 = .ok (.aload_n 0, 1) := by decide +kernel
theorem dL_law_498 : decode (mk_c ML_law) 498 = .ok (.iload 4, 2) := by decide +kernel
theorem dL_law_500 : decode (mk_c ML_law) 500 = .ok (.iconst 1, 1) := by decide +kernel
theorem dL_law_501 : decode (mk_c ML_law) 501 = .ok (.iadd, 1) := by decide +kernel
theorem dL_law_502 : decode (mk_c ML_law) 502 = .ok (.iaload, 1) := by decide +kernel
theorem dL_law_503 : decode (mk_c ML_law) 503 = .ok (.aload_n 0, 1) := by decide +kernel
theorem dL_law_504 : decode (mk_c ML_law) 504 = .ok (.iload 4, 2) := by decide +kernel
theorem dL_law_506 : decode (mk_c ML_law) 506 = .ok (.iconst 2, 1) := by decide +kernel
theorem dL_law_507 : decode (mk_c ML_law) 507 = .ok (.iadd, 1) := by decide +kernel
theorem dL_law_508 : decode (mk_c ML_law) 508 = .ok (.iaload, 1) := by decide +kernel
theorem dL_law_509 : decode (mk_c ML_law) 509 = .ok (.invokevirtual 60, 3) := by decide +kernel
theorem dL_law_512 : decode (mk_c ML_law) 512 = .ok (.if_icmp .eq 491, 3) := by decide +kernel
theorem dL_law_515 : decode (mk_c ML_law) 515 = .ok (.iconst 0, 1) := by decide +kernel
theorem dL_law_516 : decode (mk_c ML_law) 516 = .ok (.ireturn, 1) := by decide +kernel
theorem dL_law_517 : decode (mk_c ML_law) 517 = .ok (.aload_n 1, 1) := by decide +kernel
theorem dL_law_518 : decode (mk_c ML_law) 518 = .ok (.aload_n 0, 1) := by decide +kernel
theorem dL_law_519 : decode (mk_c ML_law) 519 = .ok (.iload 4, 2) := by decide +kernel
theorem dL_law_521 : decode (mk_c ML_law) 521 = .ok (.iconst 1, 1) := by decide +kernel
theorem dL_law_522 : decode (mk_c ML_law) 522 = .ok (.iadd, 1) := by decide +kernel
theorem dL_law_523 : decode (mk_c ML_law) 523 = .ok (.iaload, 1) := by decide +kernel
theorem dL_law_524 : decode (mk_c ML_law) 524 = .ok (.invokevirtual 61, 3) := by decide +kernel
theorem dL_law_527 : decode (mk_c ML_law) 527 = .ok (.aload_n 2, 1) := by decide +kernel
theorem dL_law_528 : decode (mk_c ML_law) 528 = .ok (.aload_n 0, 1) := by decide +kernel
theorem dL_law_529 : decode (mk_c ML_law) 529 = .ok (.iload 4, 2) := by decide +kernel
theorem dL_law_531 : decode (mk_c ML_law) 531 = .ok (.iconst 1, 1) := by decide +kernel
theorem dL_law_532 : decode (mk_c ML_law) 532 = .ok (.iadd, 1) := by decide +kernel
theorem dL_law_533 : decode (mk_c ML_law) 533 = .ok (.iaload, 1) := by decide +kernel
theorem dL_law_534 : decode (mk_c ML_law) 534 = .ok (.invokevirtual 64, 3) := by decide +kernel
theorem dL_law_537 : decode (mk_c ML_law) 537 = .ok (.if_icmp .eq 466, 3) := by decide +kernel
theorem dL_law_540 : decode (mk_c ML_law) 540 = .ok (.iconst 0, 1) := by decide +kernel
theorem dL_law_541 : decode (mk_c ML_law) 541 = .ok (.ireturn, 1) := by decide +kernel
theorem dL_law_542 : decode (mk_c ML_law) 542 = .ok (.aload_n 1, 1) := by decide +kernel
theorem dL_law_543 : decode (mk_c ML_law) 543 = .ok (.aload_n 0, 1) := by decide +kernel
theorem dL_law_544 : decode (mk_c ML_law) 544 = .ok (.iload 4, 2) := by decide +kernel
theorem dL_law_546 : decode (mk_c ML_law) 546 = .ok (.iconst 1, 1) := by decide +kernel
theorem dL_law_547 : decode (mk_c ML_law) 547 = .ok (.iadd, 1) := by decide +kernel
theorem dL_law_548 : decode (mk_c ML_law) 548 = .ok (.iaload, 1) := by decide +kernel
theorem dL_law_549 : decode (mk_c ML_law) 549 = .ok (.invokevirtual 65, 3) := by decide +kernel
theorem dL_law_552 : decode (mk_c ML_law) 552 = .ok (.aload_n 2, 1) := by decide +kernel
theorem dL_law_553 : decode (mk_c ML_law) 553 = .ok (.aload_n 0, 1) := by decide +kernel
theorem dL_law_554 : decode (mk_c ML_law) 554 = .ok (.iload 4, 2) := by decide +kernel
theorem dL_law_556 : decode (mk_c ML_law) 556 = .ok (.iconst 1, 1) := by decide +kernel
theorem dL_law_557 : decode (mk_c ML_law) 557 = .ok (.iadd, 1) := by decide +kernel
theorem dL_law_558 : decode (mk_c ML_law) 558 = .ok (.iaload, 1) := by decide +kernel
theorem dL_law_559 : decode (mk_c ML_law) 559 = .ok (.invokevirtual 68, 3) := by decide +kernel
theorem dL_law_562 : decode (mk_c ML_law) 562 = .ok (.if_icmp .eq 441, 3) := by decide +kernel
theorem dL_law_565 : decode (mk_c ML_law) 565 = .ok (.iconst 0, 1) := by decide +kernel
theorem dL_law_566 : decode (mk_c ML_law) 566 = .ok (.ireturn, 1) := by decide +kernel
theorem dL_law_567 : decode (mk_c ML_law) 567 = .ok (.aload_n 1, 1) := by decide +kernel
theorem dL_law_568 : decode (mk_c ML_law) 568 = .ok (.aload_n 0, 1) := by decide +kernel
theorem dL_law_569 : decode (mk_c ML_law) 569 = .ok (.iload 4, 2) := by decide +kernel
theorem dL_law_571 : decode (mk_c ML_law) 571 = .ok (.iconst 1, 1) := by decide +kernel
theorem dL_law_572 : decode (mk_c ML_law) 572 = .ok (.iadd, 1) := by decide +kernel
theorem dL_law_573 : decode (mk_c ML_law) 573 = .ok (.iaload, 1) := by decide +kernel
theorem dL_law_574 : decode (mk_c ML_law) 574 = .ok (.invokevirtual 69, 3) := by decide +kernel
theorem dL_law_577 : decode (mk_c ML_law) 577 = .ok (.aload_n 2, 1) := by decide +kernel
theorem dL_law_578 : decode (mk_c ML_law) 578 = .ok (.aload_n 0, 1) := by decide +kernel
theorem dL_law_579 : decode (mk_c ML_law) 579 = .ok (.iload 4, 2) := by decide +kernel
theorem dL_law_581 : decode (mk_c ML_law) 581 = .ok (.iconst 1, 1) := by decide +kernel
theorem dL_law_582 : decode (mk_c ML_law) 582 = .ok (.iadd, 1) := by decide +kernel
theorem dL_law_583 : decode (mk_c ML_law) 583 = .ok (.iaload, 1) := by decide +kernel
theorem dL_law_584 : decode (mk_c ML_law) 584 = .ok (.invokevirtual 72, 3) := by decide +kernel
theorem dL_law_587 : decode (mk_c ML_law) 587 = .ok (.if_icmp .eq 416, 3) := by decide +kernel
theorem dL_law_590 : decode (mk_c ML_law) 590 = .ok (.iconst 0, 1) := by decide +kernel
theorem dL_law_591 : decode (mk_c ML_law) 591 = .ok (.ireturn, 1) := by decide +kernel
theorem dL_law_592 : decode (mk_c ML_law) 592 = .ok (.aload_n 1, 1) := by decide +kernel
theorem dL_law_593 : decode (mk_c ML_law) 593 = .ok (.invokevirtual 73, 3) := by decide +kernel
theorem dL_law_596 : decode (mk_c ML_law) 596 = .ok (.aload_n 2, 1) := by decide +kernel
theorem dL_law_597 : decode (mk_c ML_law) 597 = .ok (.invokevirtual 76, 3) := by decide +kernel
theorem dL_law_600 : decode (mk_c ML_law) 600 = .ok (.if_icmp .eq 403, 3) := by decide +kernel
theorem dL_law_603 : decode (mk_c ML_law) 603 = .ok (.iconst 0, 1) := by decide +kernel
theorem dL_law_604 : decode (mk_c ML_law) 604 = .ok (.ireturn, 1) := by decide +kernel
theorem dL_law_605 : decode (mk_c ML_law) 605 = .ok (.aload_n 1, 1) := by decide +kernel
theorem dL_law_606 : decode (mk_c ML_law) 606 = .ok (.aload_n 0, 1) := by decide +kernel
theorem dL_law_607 : decode (mk_c ML_law) 607 = .ok (.iload 4, 2) := by decide +kernel
theorem dL_law_609 : decode (mk_c ML_law) 609 = .ok (.iconst 1, 1) := by decide +kernel
theorem dL_law_610 : decode (mk_c ML_law) 610 = .ok (.iadd, 1) := by decide +kernel
theorem dL_law_611 : decode (mk_c ML_law) 611 = .ok (.iaload, 1) := by decide +kernel
theorem dL_law_612 : decode (mk_c ML_law) 612 = .ok (.ifCond .eq 7, 3) := by decide +kernel
theorem dL_law_615 : decode (mk_c ML_law) 615 = .ok (.iconst 1, 1) := by decide +kernel
theorem dL_law_616 : decode (mk_c ML_law) 616 = .ok (.goto 4, 3) := by decide +kernel
theorem dL_law_619 : decode (mk_c ML_law) 619 = .ok (.iconst 0, 1) := by decide +kernel
theorem dL_law_620 : decode (mk_c ML_law) 620 = .ok (.invokevirtual 77, 3) := by decide +kernel
theorem dL_law_623 : decode (mk_c ML_law) 623 = .ok (.aload_n 2, 1) := by decide +kernel
theorem dL_law_624 : decode (mk_c ML_law) 624 = .ok (.aload_n 0, 1) := by decide +kernel
theorem dL_law_625 : decode (mk_c ML_law) 625 = .ok (.iload 4, 2) := by decide +kernel
theorem dL_law_627 : decode (mk_c ML_law) 627 = .ok (.iconst 1, 1) := by decide +kernel
theorem dL_law_628 : decode (mk_c ML_law) 628 = .ok (.iadd, 1) := by decide +kernel
theorem dL_law_629 : decode (mk_c ML_law) 629 = .ok (.iaload, 1) := by decide +kernel
theorem dL_law_630 : decode (mk_c ML_law) 630 = .ok (.ifCond .eq 7, 3) := by decide +kernel
theorem dL_law_633 : decode (mk_c ML_law) 633 = .ok (.iconst 1, 1) := by decide +kernel
theorem dL_law_634 : decode (mk_c ML_law) 634 = .ok (.goto 4, 3) := by decide +kernel
theorem dL_law_637 : decode (mk_c ML_law) 637 = .ok (.iconst 0, 1) := by decide +kernel
theorem dL_law_638 : decode (mk_c ML_law) 638 = .ok (.invokevirtual 81, 3) := by decide +kernel
theorem dL_law_641 : decode (mk_c ML_law) 641 = .ok (.if_icmp .eq 362, 3) := by decide +kernel
theorem dL_law_644 : decode (mk_c ML_law) 644 = .ok (.iconst 0, 1) := by decide +kernel
theorem dL_law_645 : decode (mk_c ML_law) 645 = .ok (.ireturn, 1) := by decide +kernel
theorem dL_law_646 : decode (mk_c ML_law) 646 = .ok (.aload_n 1, 1) := by decide +kernel
theorem dL_law_647 : decode (mk_c ML_law) 647 = .ok (.aload_n 0, 1) := by decide +kernel
theorem dL_law_648 : decode (mk_c ML_law) 648 = .ok (.iload 4, 2) := by decide +kernel
theorem dL_law_650 : decode (mk_c ML_law) 650 = .ok (.iconst 1, 1) := by decide +kernel
theorem dL_law_651 : decode (mk_c ML_law) 651 = .ok (.iadd, 1) := by decide +kernel
theorem dL_law_652 : decode (mk_c ML_law) 652 = .ok (.iaload, 1) := by decide +kernel
theorem dL_law_653 : decode (mk_c ML_law) 653 = .ok (.invokevirtual 82, 3) := by decide +kernel
theorem dL_law_656 : decode (mk_c ML_law) 656 = .ok (.aload_n 2, 1) := by decide +kernel
theorem dL_law_657 : decode (mk_c ML_law) 657 = .ok (.aload_n 0, 1) := by decide +kernel
theorem dL_law_658 : decode (mk_c ML_law) 658 = .ok (.iload 4, 2) := by decide +kernel
theorem dL_law_660 : decode (mk_c ML_law) 660 = .ok (.iconst 1, 1) := by decide +kernel
theorem dL_law_661 : decode (mk_c ML_law) 661 = .ok (.iadd, 1) := by decide +kernel
theorem dL_law_662 : decode (mk_c ML_law) 662 = .ok (.iaload, 1) := by decide +kernel
theorem dL_law_663 : decode (mk_c ML_law) 663 = .ok (.invokevirtual 85, 3) := by decide +kernel
theorem dL_law_666 : decode (mk_c ML_law) 666 = .ok (.if_icmp .eq 337, 3) := by decide +kernel
theorem dL_law_669 : decode (mk_c ML_law) 669 = .ok (.iconst 0, 1) := by decide +kernel
theorem dL_law_670 : decode (mk_c ML_law) 670 = .ok (.ireturn, 1) := by decide +kernel
theorem dL_law_671 : decode (mk_c ML_law) 671 = .ok (.aload_n 1, 1) := by decide +kernel
theorem dL_law_672 : decode (mk_c ML_law) 672 = .ok (.aload_n 0, 1) := by decide +kernel
theorem dL_law_673 : decode (mk_c ML_law) 673 = .ok (.iload 4, 2) := by decide +kernel
theorem dL_law_675 : decode (mk_c ML_law) 675 = .ok (.iconst 1, 1) := by decide +kernel
theorem dL_law_676 : decode (mk_c ML_law) 676 = .ok (.iadd, 1) := by decide +kernel
theorem dL_law_677 : decode (mk_c ML_law) 677 = .ok (.iaload, 1) := by decide +kernel
theorem dL_law_678 : decode (mk_c ML_law) 678 = .ok (.aload_n 0, 1) := by decide +kernel
theorem dL_law_679 : decode (mk_c ML_law) 679 = .ok (.iload 4, 2) := by decide +kernel
theorem dL_law_681 : decode (mk_c ML_law) 681 = .ok (.iconst 2, 1) := by decide +kernel
theorem dL_law_682 : decode (mk_c ML_law) 682 = .ok (.iadd, 1) := by decide +kernel
theorem dL_law_683 : decode (mk_c ML_law) 683 = .ok (.iaload, 1) := by decide +kernel
theorem dL_law_684 : decode (mk_c ML_law) 684 = .ok (.invokevirtual 86, 3) := by decide +kernel
theorem dL_law_687 : decode (mk_c ML_law) 687 = .ok (.aload_n 2, 1) := by decide +kernel
theorem dL_law_688 : decode (mk_c ML_law) 688 = .ok (.aload_n 0, 1) := by decide +kernel
theorem dL_law_689 : decode (mk_c ML_law) 689 = .ok (.iload 4, 2) := by decide +kernel
theorem dL_law_691 : decode (mk_c ML_law) 691 = .ok (.iconst 1, 1) := by decide +kernel
theorem dL_law_692 : decode (mk_c ML_law) 692 = .ok (.iadd, 1) := by decide +kernel
theorem dL_law_693 : decode (mk_c ML_law) 693 = .ok (.iaload, 1) := by decide +kernel
theorem dL_law_694 : decode (mk_c ML_law) 694 = .ok (.aload_n 0, 1) := by decide +kernel
theorem dL_law_695 : decode (mk_c ML_law) 695 = .ok (.iload 4, 2) := by decide +kernel
theorem dL_law_697 : decode (mk_c ML_law) 697 = .ok (.iconst 2, 1) := by decide +kernel
theorem dL_law_698 : decode (mk_c ML_law) 698 = .ok (.iadd, 1) := by decide +kernel
theorem dL_law_699 : decode (mk_c ML_law) 699 = .ok (.iaload, 1) := by decide +kernel
theorem dL_law_700 : decode (mk_c ML_law) 700 = .ok (.invokevirtual 89, 3) := by decide +kernel
theorem dL_law_703 : decode (mk_c ML_law) 703 = .ok (.if_icmp .eq 300, 3) := by decide +kernel
theorem dL_law_706 : decode (mk_c ML_law) 706 = .ok (.iconst 0, 1) := by decide +kernel
theorem dL_law_707 : decode (mk_c ML_law) 707 = .ok (.ireturn, 1) := by decide +kernel
theorem dL_law_708 : decode (mk_c ML_law) 708 = .ok (.aload_n 1, 1) := by decide +kernel
theorem dL_law_709 : decode (mk_c ML_law) 709 = .ok (.aload_n 0, 1) := by decide +kernel
theorem dL_law_710 : decode (mk_c ML_law) 710 = .ok (.iload 4, 2) := by decide +kernel
theorem dL_law_712 : decode (mk_c ML_law) 712 = .ok (.iconst 1, 1) := by decide +kernel
theorem dL_law_713 : decode (mk_c ML_law) 713 = .ok (.iadd, 1) := by decide +kernel
theorem dL_law_714 : decode (mk_c ML_law) 714 = .ok (.iaload, 1) := by decide +kernel
theorem dL_law_715 : decode (mk_c ML_law) 715 = .ok (.aload_n 3, 1) := by decide +kernel
theorem dL_law_716 : decode (mk_c ML_law) 716 = .ok (.invokestatic 90, 3) := by decide +kernel
theorem dL_law_719 : decode (mk_c ML_law) 719 = .ok (.istore 5, 2) := by decide +kernel
theorem dL_law_721 : decode (mk_c ML_law) 721 = .ok (.aload_n 2, 1) := by decide +kernel
theorem dL_law_722 : decode (mk_c ML_law) 722 = .ok (.aload_n 0, 1) := by decide +kernel
theorem dL_law_723 : decode (mk_c ML_law) 723 = .ok (.iload 4, 2) := by decide +kernel
theorem dL_law_725 : decode (mk_c ML_law) 725 = .ok (.iconst 1, 1) := by decide +kernel
theorem dL_law_726 : decode (mk_c ML_law) 726 = .ok (.iadd, 1) := by decide +kernel
theorem dL_law_727 : decode (mk_c ML_law) 727 = .ok (.iaload, 1) := by decide +kernel
theorem dL_law_728 : decode (mk_c ML_law) 728 = .ok (.invokevirtual 95, 3) := by decide +kernel
theorem dL_law_731 : decode (mk_c ML_law) 731 = .ok (.istore 6, 2) := by decide +kernel
theorem dL_law_733 : decode (mk_c ML_law) 733 = .ok (.aload_n 2, 1) := by decide +kernel
theorem dL_law_734 : decode (mk_c ML_law) 734 = .ok (.invokevirtual 96, 3) := by decide +kernel
theorem dL_law_737 : decode (mk_c ML_law) 737 = .ok (.iload 5, 2) := by decide +kernel
theorem dL_law_739 : decode (mk_c ML_law) 739 = .ok (.if_icmp .eq 5, 3) := by decide +kernel
theorem dL_law_742 : decode (mk_c ML_law) 742 = .ok (.iconst 0, 1) := by decide +kernel
theorem dL_law_743 : decode (mk_c ML_law) 743 = .ok (.ireturn, 1) := by decide +kernel
theorem dL_law_744 : decode (mk_c ML_law) 744 = .ok (.iload 5, 2) := by decide +kernel
theorem dL_law_746 : decode (mk_c ML_law) 746 = .ok (.ifCond .ne 15, 3) := by decide +kernel
theorem dL_law_749 : decode (mk_c ML_law) 749 = .ok (.aload_n 3, 1) := by decide +kernel
theorem dL_law_750 : decode (mk_c ML_law) 750 = .ok (.iconst 0, 1) := by decide +kernel
theorem dL_law_751 : decode (mk_c ML_law) 751 = .ok (.laload, 1) := by decide +kernel
theorem dL_law_752 : decode (mk_c ML_law) 752 = .ok (.iload 6, 2) := by decide +kernel
theorem dL_law_754 : decode (mk_c ML_law) 754 = .ok (.i2l, 1) := by decide +kernel
theorem dL_law_755 : decode (mk_c ML_law) 755 = .ok (.lcmp, 1) := by decide +kernel
theorem dL_law_756 : decode (mk_c ML_law) 756 = .ok (.ifCond .eq 5, 3) := by decide +kernel
theorem dL_law_759 : decode (mk_c ML_law) 759 = .ok (.iconst 0, 1) := by decide +kernel
theorem dL_law_760 : decode (mk_c ML_law) 760 = .ok (.ireturn, 1) := by decide +kernel
theorem dL_law_761 : decode (mk_c ML_law) 761 = .ok (.goto 242, 3) := by decide +kernel
theorem dL_law_764 : decode (mk_c ML_law) 764 = .ok (.aload_n 1, 1) := by decide +kernel
theorem dL_law_765 : decode (mk_c ML_law) 765 = .ok (.aload_n 0, 1) := by decide +kernel
theorem dL_law_766 : decode (mk_c ML_law) 766 = .ok (.iload 4, 2) := by decide +kernel
theorem dL_law_768 : decode (mk_c ML_law) 768 = .ok (.iconst 1, 1) := by decide +kernel
theorem dL_law_769 : decode (mk_c ML_law) 769 = .ok (.iadd, 1) := by decide +kernel
theorem dL_law_770 : decode (mk_c ML_law) 770 = .ok (.iaload, 1) := by decide +kernel
theorem dL_law_771 : decode (mk_c ML_law) 771 = .ok (.invokevirtual 99, 3) := by decide +kernel
theorem dL_law_774 : decode (mk_c ML_law) 774 = .ok (.aload_n 2, 1) := by decide +kernel
theorem dL_law_775 : decode (mk_c ML_law) 775 = .ok (.aload_n 0, 1) := by decide +kernel
theorem dL_law_776 : decode (mk_c ML_law) 776 = .ok (.iload 4, 2) := by decide +kernel
theorem dL_law_778 : decode (mk_c ML_law) 778 = .ok (.iconst 1, 1) := by decide +kernel
theorem dL_law_779 : decode (mk_c ML_law) 779 = .ok (.iadd, 1) := by decide +kernel
theorem dL_law_780 : decode (mk_c ML_law) 780 = .ok (.iaload, 1) := by decide +kernel
theorem dL_law_781 : decode (mk_c ML_law) 781 = .ok (.invokevirtual 102, 3) := by decide +kernel
theorem dL_law_784 : decode (mk_c ML_law) 784 = .ok (.if_icmp .eq 219, 3) := by decide +kernel
theorem dL_law_787 : decode (mk_c ML_law) 787 = .ok (.iconst 0, 1) := by decide +kernel
theorem dL_law_788 : decode (mk_c ML_law) 788 = .ok (.ireturn, 1) := by decide +kernel
theorem dL_law_789 : decode (mk_c ML_law) 789 = .ok (.aload_n 1, 1) := by decide +kernel
theorem dL_law_790 : decode (mk_c ML_law) 790 = .ok (.aload_n 0, 1) := by decide +kernel
theorem dL_law_791 : decode (mk_c ML_law) 791 = .ok (.iload 4, 2) := by decide +kernel
theorem dL_law_793 : decode (mk_c ML_law) 793 = .ok (.iconst 1, 1) := by decide +kernel
theorem dL_law_794 : decode (mk_c ML_law) 794 = .ok (.iadd, 1) := by decide +kernel
theorem dL_law_795 : decode (mk_c ML_law) 795 = .ok (.iaload, 1) := by decide +kernel
theorem dL_law_796 : decode (mk_c ML_law) 796 = .ok (.invokevirtual 103, 3) := by decide +kernel
theorem dL_law_799 : decode (mk_c ML_law) 799 = .ok (.aload_n 2, 1) := by decide +kernel
theorem dL_law_800 : decode (mk_c ML_law) 800 = .ok (.aload_n 0, 1) := by decide +kernel
theorem dL_law_801 : decode (mk_c ML_law) 801 = .ok (.iload 4, 2) := by decide +kernel
theorem dL_law_803 : decode (mk_c ML_law) 803 = .ok (.iconst 1, 1) := by decide +kernel
theorem dL_law_804 : decode (mk_c ML_law) 804 = .ok (.iadd, 1) := by decide +kernel
theorem dL_law_805 : decode (mk_c ML_law) 805 = .ok (.iaload, 1) := by decide +kernel
theorem dL_law_806 : decode (mk_c ML_law) 806 = .ok (.invokevirtual 106, 3) := by decide +kernel
theorem dL_law_809 : decode (mk_c ML_law) 809 = .ok (.if_icmp .eq 194, 3) := by decide +kernel
theorem dL_law_812 : decode (mk_c ML_law) 812 = .ok (.iconst 0, 1) := by decide +kernel
theorem dL_law_813 : decode (mk_c ML_law) 813 = .ok (.ireturn, 1) := by decide +kernel
theorem dL_law_814 : decode (mk_c ML_law) 814 = .ok (.aload_n 1, 1) := by decide +kernel
theorem dL_law_815 : decode (mk_c ML_law) 815 = .ok (.aload_n 0, 1) := by decide +kernel
theorem dL_law_816 : decode (mk_c ML_law) 816 = .ok (.iload 4, 2) := by decide +kernel
theorem dL_law_818 : decode (mk_c ML_law) 818 = .ok (.iconst 1, 1) := by decide +kernel
theorem dL_law_819 : decode (mk_c ML_law) 819 = .ok (.iadd, 1) := by decide +kernel
theorem dL_law_820 : decode (mk_c ML_law) 820 = .ok (.iaload, 1) := by decide +kernel
theorem dL_law_821 : decode (mk_c ML_law) 821 = .ok (.invokevirtual 107, 3) := by decide +kernel
theorem dL_law_824 : decode (mk_c ML_law) 824 = .ok (.aload_n 2, 1) := by decide +kernel
theorem dL_law_825 : decode (mk_c ML_law) 825 = .ok (.aload_n 0, 1) := by decide +kernel
theorem dL_law_826 : decode (mk_c ML_law) 826 = .ok (.iload 4, 2) := by decide +kernel
theorem dL_law_828 : decode (mk_c ML_law) 828 = .ok (.iconst 1, 1) := by decide +kernel
theorem dL_law_829 : decode (mk_c ML_law) 829 = .ok (.iadd, 1) := by decide +kernel
theorem dL_law_830 : decode (mk_c ML_law) 830 = .ok (.iaload, 1) := by decide +kernel
theorem dL_law_831 : decode (mk_c ML_law) 831 = .ok (.invokevirtual 110, 3) := by decide +kernel
theorem dL_law_834 : decode (mk_c ML_law) 834 = .ok (.if_icmp .eq 169, 3) := by decide +kernel
theorem dL_law_837 : decode (mk_c ML_law) 837 = .ok (.iconst 0, 1) := by decide +kernel
theorem dL_law_838 : decode (mk_c ML_law) 838 = .ok (.ireturn, 1) := by decide +kernel
theorem dL_law_839 : decode (mk_c ML_law) 839 = .ok (.aload_n 1, 1) := by decide +kernel
theorem dL_law_840 : decode (mk_c ML_law) 840 = .ok (.aload_n 0, 1) := by decide +kernel
theorem dL_law_841 : decode (mk_c ML_law) 841 = .ok (.iload 4, 2) := by decide +kernel
theorem dL_law_843 : decode (mk_c ML_law) 843 = .ok (.iconst 1, 1) := by decide +kernel
theorem dL_law_844 : decode (mk_c ML_law) 844 = .ok (.iadd, 1) := by decide +kernel
theorem dL_law_845 : decode (mk_c ML_law) 845 = .ok (.iaload, 1) := by decide +kernel
theorem dL_law_846 : decode (mk_c ML_law) 846 = .ok (.invokevirtual 111, 3) := by decide +kernel
theorem dL_law_849 : decode (mk_c ML_law) 849 = .ok (.aload_n 2, 1) := by decide +kernel
theorem dL_law_850 : decode (mk_c ML_law) 850 = .ok (.aload_n 0, 1) := by decide +kernel
theorem dL_law_851 : decode (mk_c ML_law) 851 = .ok (.iload 4, 2) := by decide +kernel
theorem dL_law_853 : decode (mk_c ML_law) 853 = .ok (.iconst 1, 1) := by decide +kernel
theorem dL_law_854 : decode (mk_c ML_law) 854 = .ok (.iadd, 1) := by decide +kernel
theorem dL_law_855 : decode (mk_c ML_law) 855 = .ok (.iaload, 1) := by decide +kernel
theorem dL_law_856 : decode (mk_c ML_law) 856 = .ok (.invokevirtual 114, 3) := by decide +kernel
theorem dL_law_859 : decode (mk_c ML_law) 859 = .ok (.if_icmp .eq 144, 3) := by decide +kernel
theorem dL_law_862 : decode (mk_c ML_law) 862 = .ok (.iconst 0, 1) := by decide +kernel
theorem dL_law_863 : decode (mk_c ML_law) 863 = .ok (.ireturn, 1) := by decide +kernel
theorem dL_law_864 : decode (mk_c ML_law) 864 = .ok (.aload_n 1, 1) := by decide +kernel
theorem dL_law_865 : decode (mk_c ML_law) 865 = .ok (.invokevirtual 115, 3) := by decide +kernel
theorem dL_law_868 : decode (mk_c ML_law) 868 = .ok (.aload_n 2, 1) := by decide +kernel
theorem dL_law_869 : decode (mk_c ML_law) 869 = .ok (.invokevirtual 118, 3) := by decide +kernel
theorem dL_law_872 : decode (mk_c ML_law) 872 = .ok (.if_icmp .eq 131, 3) := by decide +kernel
theorem dL_law_875 : decode (mk_c ML_law) 875 = .ok (.iconst 0, 1) := by decide +kernel
theorem dL_law_876 : decode (mk_c ML_law) 876 = .ok (.ireturn, 1) := by decide +kernel
theorem dL_law_877 : decode (mk_c ML_law) 877 = .ok (.aload_n 1, 1) := by decide +kernel
theorem dL_law_878 : decode (mk_c ML_law) 878 = .ok (.invokevirtual 119, 3) := by decide +kernel
theorem dL_law_881 : decode (mk_c ML_law) 881 = .ok (.aload_n 2, 1) := by decide +kernel
theorem dL_law_882 : decode (mk_c ML_law) 882 = .ok (.invokevirtual 122, 3) := by decide +kernel
theorem dL_law_885 : decode (mk_c ML_law) 885 = .ok (.if_icmp .eq 118, 3) := by decide +kernel
theorem dL_law_888 : decode (mk_c ML_law) 888 = .ok (.iconst 0, 1) := by decide +kernel
theorem dL_law_889 : decode (mk_c ML_law) 889 = .ok (.ireturn, 1) := by decide +kernel
theorem dL_law_890 : decode (mk_c ML_law) 890 = .ok (.aload_n 1, 1) := by decide +kernel
theorem dL_law_891 : decode (mk_c ML_law) 891 = .ok (.aload_n 0, 1) := by decide +kernel
theorem dL_law_892 : decode (mk_c ML_law) 892 = .ok (.iload 4, 2) := by decide +kernel
theorem dL_law_894 : decode (mk_c ML_law) 894 = .ok (.iconst 1, 1) := by decide +kernel
theorem dL_law_895 : decode (mk_c ML_law) 895 = .ok (.iadd, 1) := by decide +kernel
theorem dL_law_896 : decode (mk_c ML_law) 896 = .ok (.iaload, 1) := by decide +kernel
theorem dL_law_897 : decode (mk_c ML_law) 897 = .ok (.invokevirtual 123, 3) := by decide +kernel
theorem dL_law_900 : decode (mk_c ML_law) 900 = .ok (.aload_n 2, 1) := by decide +kernel
theorem dL_law_901 : decode (mk_c ML_law) 901 = .ok (.aload_n 0, 1) := by decide +kernel
theorem dL_law_902 : decode (mk_c ML_law) 902 = .ok (.iload 4, 2) := by decide +kernel
theorem dL_law_904 : decode (mk_c ML_law) 904 = .ok (.iconst 1, 1) := by decide +kernel
theorem dL_law_905 : decode (mk_c ML_law) 905 = .ok (.iadd, 1) := by decide +kernel
theorem dL_law_906 : decode (mk_c ML_law) 906 = .ok (.iaload, 1) := by decide +kernel
theorem dL_law_907 : decode (mk_c ML_law) 907 = .ok (.invokevirtual 126, 3) := by decide +kernel
theorem dL_law_910 : decode (mk_c ML_law) 910 = .ok (.if_icmp .eq 93, 3) := by decide +kernel
theorem dL_law_913 : decode (mk_c ML_law) 913 = .ok (.iconst 0, 1) := by decide +kernel
theorem dL_law_914 : decode (mk_c ML_law) 914 = .ok (.ireturn, 1) := by decide +kernel
theorem dL_law_915 : decode (mk_c ML_law) 915 = .ok (.aload_n 1, 1) := by decide +kernel
theorem dL_law_916 : decode (mk_c ML_law) 916 = .ok (.aload_n 0, 1) := by decide +kernel
theorem dL_law_917 : decode (mk_c ML_law) 917 = .ok (.iload 4, 2) := by decide +kernel
theorem dL_law_919 : decode (mk_c ML_law) 919 = .ok (.iconst 1, 1) := by decide +kernel
theorem dL_law_920 : decode (mk_c ML_law) 920 = .ok (.iadd, 1) := by decide +kernel
theorem dL_law_921 : decode (mk_c ML_law) 921 = .ok (.iaload, 1) := by decide +kernel
theorem dL_law_922 : decode (mk_c ML_law) 922 = .ok (.aload_n 0, 1) := by decide +kernel
theorem dL_law_923 : decode (mk_c ML_law) 923 = .ok (.iload 4, 2) := by decide +kernel
theorem dL_law_925 : decode (mk_c ML_law) 925 = .ok (.iconst 2, 1) := by decide +kernel
theorem dL_law_926 : decode (mk_c ML_law) 926 = .ok (.iadd, 1) := by decide +kernel
theorem dL_law_927 : decode (mk_c ML_law) 927 = .ok (.iaload, 1) := by decide +kernel
theorem dL_law_928 : decode (mk_c ML_law) 928 = .ok (.invokevirtual 127, 3) := by decide +kernel
theorem dL_law_931 : decode (mk_c ML_law) 931 = .ok (.aload_n 2, 1) := by decide +kernel
theorem dL_law_932 : decode (mk_c ML_law) 932 = .ok (.aload_n 0, 1) := by decide +kernel
theorem dL_law_933 : decode (mk_c ML_law) 933 = .ok (.iload 4, 2) := by decide +kernel
theorem dL_law_935 : decode (mk_c ML_law) 935 = .ok (.iconst 1, 1) := by decide +kernel
theorem dL_law_936 : decode (mk_c ML_law) 936 = .ok (.iadd, 1) := by decide +kernel
theorem dL_law_937 : decode (mk_c ML_law) 937 = .ok (.iaload, 1) := by decide +kernel
theorem dL_law_938 : decode (mk_c ML_law) 938 = .ok (.aload_n 0, 1) := by decide +kernel
theorem dL_law_939 : decode (mk_c ML_law) 939 = .ok (.iload 4, 2) := by decide +kernel
theorem dL_law_941 : decode (mk_c ML_law) 941 = .ok (.iconst 2, 1) := by decide +kernel
theorem dL_law_942 : decode (mk_c ML_law) 942 = .ok (.iadd, 1) := by decide +kernel
theorem dL_law_943 : decode (mk_c ML_law) 943 = .ok (.iaload, 1) := by decide +kernel
theorem dL_law_944 : decode (mk_c ML_law) 944 = .ok (.invokevirtual 130, 3) := by decide +kernel
theorem dL_law_947 : decode (mk_c ML_law) 947 = .ok (.if_icmp .eq 56, 3) := by decide +kernel
theorem dL_law_950 : decode (mk_c ML_law) 950 = .ok (.iconst 0, 1) := by decide +kernel
theorem dL_law_951 : decode (mk_c ML_law) 951 = .ok (.ireturn, 1) := by decide +kernel
theorem dL_law_952 : decode (mk_c ML_law) 952 = .ok (.aload_n 1, 1) := by decide +kernel
theorem dL_law_953 : decode (mk_c ML_law) 953 = .ok (.invokevirtual 131, 3) := by decide +kernel
theorem dL_law_956 : decode (mk_c ML_law) 956 = .ok (.aload_n 2, 1) := by decide +kernel
theorem dL_law_957 : decode (mk_c ML_law) 957 = .ok (.invokevirtual 134, 3) := by decide +kernel
theorem dL_law_960 : decode (mk_c ML_law) 960 = .ok (.if_icmp .eq 43, 3) := by decide +kernel
theorem dL_law_963 : decode (mk_c ML_law) 963 = .ok (.iconst 0, 1) := by decide +kernel
theorem dL_law_964 : decode (mk_c ML_law) 964 = .ok (.ireturn, 1) := by decide +kernel
theorem dL_law_965 : decode (mk_c ML_law) 965 = .ok (.aload_n 1, 1) := by decide +kernel
theorem dL_law_966 : decode (mk_c ML_law) 966 = .ok (.aload_n 0, 1) := by decide +kernel
theorem dL_law_967 : decode (mk_c ML_law) 967 = .ok (.iload 4, 2) := by decide +kernel
theorem dL_law_969 : decode (mk_c ML_law) 969 = .ok (.iconst 1, 1) := by decide +kernel
theorem dL_law_970 : decode (mk_c ML_law) 970 = .ok (.iadd, 1) := by decide +kernel
theorem dL_law_971 : decode (mk_c ML_law) 971 = .ok (.iaload, 1) := by decide +kernel
theorem dL_law_972 : decode (mk_c ML_law) 972 = .ok (.invokevirtual 135, 3) := by decide +kernel
theorem dL_law_975 : decode (mk_c ML_law) 975 = .ok (.aload_n 2, 1) := by decide +kernel
theorem dL_law_976 : decode (mk_c ML_law) 976 = .ok (.aload_n 0, 1) := by decide +kernel
theorem dL_law_977 : decode (mk_c ML_law) 977 = .ok (.iload 4, 2) := by decide +kernel
theorem dL_law_979 : decode (mk_c ML_law) 979 = .ok (.iconst 1, 1) := by decide +kernel
theorem dL_law_980 : decode (mk_c ML_law) 980 = .ok (.iadd, 1) := by decide +kernel
theorem dL_law_981 : decode (mk_c ML_law) 981 = .ok (.iaload, 1) := by decide +kernel
theorem dL_law_982 : decode (mk_c ML_law) 982 = .ok (.invokevirtual 138, 3) := by decide +kernel
theorem dL_law_985 : decode (mk_c ML_law) 985 = .ok (.if_icmp .eq 18, 3) := by decide +kernel
theorem dL_law_988 : decode (mk_c ML_law) 988 = .ok (.iconst 0, 1) := by decide +kernel
theorem dL_law_989 : decode (mk_c ML_law) 989 = .ok (.ireturn, 1) := by decide +kernel
theorem dL_law_990 : decode (mk_c ML_law) 990 = .ok (.aload_n 1, 1) := by decide +kernel
theorem dL_law_991 : decode (mk_c ML_law) 991 = .ok (.invokevirtual 139, 3) := by decide +kernel
theorem dL_law_994 : decode (mk_c ML_law) 994 = .ok (.aload_n 2, 1) := by decide +kernel
theorem dL_law_995 : decode (mk_c ML_law) 995 = .ok (.invokevirtual 142, 3) := by decide +kernel
theorem dL_law_998 : decode (mk_c ML_law) 998 = .ok (.if_icmp .eq 5, 3) := by decide +kernel
theorem dL_law_1001 : decode (mk_c ML_law) 1001 = .ok (.iconst 0, 1) := by decide +kernel
theorem dL_law_1002 : decode (mk_c ML_law) 1002 = .ok (.ireturn, 1) := by decide +kernel
theorem dL_law_1003 : decode (mk_c ML_law) 1003 = .ok (.iinc 4 6, 3) := by decide +kernel
theorem dL_law_1006 : decode (mk_c ML_law) 1006 = .ok (.goto (-983), 3) := by decide +kernel
theorem dL_law_1009 : decode (mk_c ML_law) 1009 = .ok (.iconst 1, 1) := by decide +kernel
theorem dL_law_1010 : decode (mk_c ML_law) 1010 = .ok (.ireturn, 1) := by decide +kernel
