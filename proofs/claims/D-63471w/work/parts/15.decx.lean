theorem d_HD_init_0 : decode b_HD_init 0 = .ok (.aload_n 0, 1) := by decide +kernel
theorem d_HD_init_1 : decode b_HD_init 1 = .ok (.invokespecial 1, 3) := by decide +kernel
theorem d_HD_init_4 : decode b_HD_init 4 = .ok (.aload_n 0, 1) := by decide +kernel
theorem d_HD_init_5 : decode b_HD_init 5 = .ok (.invokestatic 7, 3) := by decide +kernel
theorem d_HD_init_8 : decode b_HD_init 8 = .ok (.putfield 13, 3) := by decide +kernel
theorem d_HD_init_11 : decode b_HD_init 11 = .ok (.aload_n 0, 1) := by decide +kernel
theorem d_HD_init_12 : decode b_HD_init 12 = .ok (.new 19, 3) := by decide +kernel
theorem d_HD_init_15 : decode b_HD_init 15 = .ok (.dup, 1) := by decide +kernel
theorem d_HD_init_16 : decode b_HD_init 16 = .ok (.invokespecial 21, 3) := by decide +kernel
theorem d_HD_init_19 : decode b_HD_init 19 = .ok (.putfield 22, 3) := by decide +kernel
theorem d_HD_init_22 : decode b_HD_init 22 = .ok (.aload_n 0, 1) := by decide +kernel
theorem d_HD_init_23 : decode b_HD_init 23 = .ok (.new 26, 3) := by decide +kernel
theorem d_HD_init_26 : decode b_HD_init 26 = .ok (.dup, 1) := by decide +kernel
theorem d_HD_init_27 : decode b_HD_init 27 = .ok (.invokespecial 28, 3) := by decide +kernel
theorem d_HD_init_30 : decode b_HD_init 30 = .ok (.putfield 29, 3) := by decide +kernel
theorem d_HD_init_33 : decode b_HD_init 33 = .ok (.aload_n 0, 1) := by decide +kernel
theorem d_HD_init_34 : decode b_HD_init 34 = .ok (.iconst 4, 1) := by decide +kernel
theorem d_HD_init_35 : decode b_HD_init 35 = .ok (.anewarray 33, 3) := by decide +kernel
theorem d_HD_init_38 : decode b_HD_init 38 = .ok (.putfield 35, 3) := by decide +kernel
theorem d_HD_init_41 : decode b_HD_init 41 = .ok (.aload_n 0, 1) := by decide +kernel
theorem d_HD_init_42 : decode b_HD_init 42 = .ok (.bipush 16, 2) := by decide +kernel
theorem d_HD_init_44 : decode b_HD_init 44 = .ok (.anewarray 39, 3) := by decide +kernel
theorem d_HD_init_47 : decode b_HD_init 47 = .ok (.putfield 41, 3) := by decide +kernel
theorem d_HD_init_50 : decode b_HD_init 50 = .ok (.aload_n 0, 1) := by decide +kernel
theorem d_HD_init_51 : decode b_HD_init 51 = .ok (.iconst 4, 1) := by decide +kernel
theorem d_HD_init_52 : decode b_HD_init 52 = .ok (.anewarray 45, 3) := by decide +kernel
theorem d_HD_init_55 : decode b_HD_init 55 = .ok (.putfield 47, 3) := by decide +kernel
theorem d_HD_init_58 : decode b_HD_init 58 = .ok (.aload_n 0, 1) := by decide +kernel
theorem d_HD_init_59 : decode b_HD_init 59 = .ok (.iconst 2, 1) := by decide +kernel
theorem d_HD_init_60 : decode b_HD_init 60 = .ok (.iconst 4, 1) := by decide +kernel
theorem d_HD_init_61 : decode b_HD_init 61 = .ok (.iload_n 1, 1) := by decide +kernel
theorem d_HD_init_62 : decode b_HD_init 62 = .ok (.invokestatic 51, 3) := by decide +kernel
theorem d_HD_init_65 : decode b_HD_init 65 = .ok (.invokestatic 57, 3) := by decide +kernel
theorem d_HD_init_68 : decode b_HD_init 68 = .ok (.putfield 60, 3) := by decide +kernel
theorem d_HD_init_71 : decode b_HD_init 71 = .ok (.aload_n 0, 1) := by decide +kernel
theorem d_HD_init_72 : decode b_HD_init 72 = .ok (.iconst 1, 1) := by decide +kernel
theorem d_HD_init_73 : decode b_HD_init 73 = .ok (.iconst 3, 1) := by decide +kernel
theorem d_HD_init_74 : decode b_HD_init 74 = .ok (.iload_n 2, 1) := by decide +kernel
theorem d_HD_init_75 : decode b_HD_init 75 = .ok (.invokestatic 51, 3) := by decide +kernel
theorem d_HD_init_78 : decode b_HD_init 78 = .ok (.invokestatic 57, 3) := by decide +kernel
theorem d_HD_init_81 : decode b_HD_init 81 = .ok (.putfield 64, 3) := by decide +kernel
theorem d_HD_init_84 : decode b_HD_init 84 = .ok (.iconst 0, 1) := by decide +kernel
theorem d_HD_init_85 : decode b_HD_init 85 = .ok (.istore_n 3, 1) := by decide +kernel
theorem d_HD_init_86 : decode b_HD_init 86 = .ok (.iload_n 3, 1) := by decide +kernel
theorem d_HD_init_87 : decode b_HD_init 87 = .ok (.iconst 4, 1) := by decide +kernel
theorem d_HD_init_88 : decode b_HD_init 88 = .ok (.if_icmp .ge 27, 3) := by decide +kernel
theorem d_HD_init_91 : decode b_HD_init 91 = .ok (.aload_n 0, 1) := by decide +kernel
theorem d_HD_init_92 : decode b_HD_init 92 = .ok (.getfield 47, 3) := by decide +kernel
theorem d_HD_init_95 : decode b_HD_init 95 = .ok (.iload_n 3, 1) := by decide +kernel
theorem d_HD_init_96 : decode b_HD_init 96 = .ok (.new 45, 3) := by decide +kernel
theorem d_HD_init_99 : decode b_HD_init 99 = .ok (.dup, 1) := by decide +kernel
theorem d_HD_init_100 : decode b_HD_init 100 = .ok (.iload_n 3, 1) := by decide +kernel
theorem d_HD_init_101 : decode b_HD_init 101 = .ok (.aload_n 0, 1) := by decide +kernel
theorem d_HD_init_102 : decode b_HD_init 102 = .ok (.getfield 22, 3) := by decide +kernel
theorem d_HD_init_105 : decode b_HD_init 105 = .ok (.invokespecial 67, 3) := by decide +kernel
theorem d_HD_init_108 : decode b_HD_init 108 = .ok (.aastore, 1) := by decide +kernel
theorem d_HD_init_109 : decode b_HD_init 109 = .ok (.iinc 3 1, 3) := by decide +kernel
theorem d_HD_init_112 : decode b_HD_init 112 = .ok (.goto (-26), 3) := by decide +kernel
theorem d_HD_init_115 : decode b_HD_init 115 = .ok (.iconst 0, 1) := by decide +kernel
theorem d_HD_init_116 : decode b_HD_init 116 = .ok (.istore_n 3, 1) := by decide +kernel
theorem d_HD_init_117 : decode b_HD_init 117 = .ok (.iload_n 3, 1) := by decide +kernel
theorem d_HD_init_118 : decode b_HD_init 118 = .ok (.aload_n 0, 1) := by decide +kernel
theorem d_HD_init_119 : decode b_HD_init 119 = .ok (.getfield 60, 3) := by decide +kernel
theorem d_HD_init_122 : decode b_HD_init 122 = .ok (.if_icmp .ge 66, 3) := by decide +kernel
theorem d_HD_init_125 : decode b_HD_init 125 = .ok (.aload_n 0, 1) := by decide +kernel
theorem d_HD_init_126 : decode b_HD_init 126 = .ok (.getfield 35, 3) := by decide +kernel
theorem d_HD_init_129 : decode b_HD_init 129 = .ok (.iload_n 3, 1) := by decide +kernel
theorem d_HD_init_130 : decode b_HD_init 130 = .ok (.new 33, 3) := by decide +kernel
theorem d_HD_init_133 : decode b_HD_init 133 = .ok (.dup, 1) := by decide +kernel
theorem d_HD_init_134 : decode b_HD_init 134 = .ok (.invokespecial 70, 3) := by decide +kernel
theorem d_HD_init_137 : decode b_HD_init 137 = .ok (.aastore, 1) := by decide +kernel
theorem d_HD_init_138 : decode b_HD_init 138 = .ok (.iconst 0, 1) := by decide +kernel
theorem d_HD_init_139 : decode b_HD_init 139 = .ok (.istore 4, 2) := by decide +kernel
theorem d_HD_init_141 : decode b_HD_init 141 = .ok (.iload 4, 2) := by decide +kernel
theorem d_HD_init_143 : decode b_HD_init 143 = .ok (.iconst 4, 1) := by decide +kernel
theorem d_HD_init_144 : decode b_HD_init 144 = .ok (.if_icmp .ge 38, 3) := by decide +kernel
theorem d_HD_init_147 : decode b_HD_init 147 = .ok (.aload_n 0, 1) := by decide +kernel
theorem d_HD_init_148 : decode b_HD_init 148 = .ok (.getfield 41, 3) := by decide +kernel
theorem d_HD_init_151 : decode b_HD_init 151 = .ok (.iconst 4, 1) := by decide +kernel
theorem d_HD_init_152 : decode b_HD_init 152 = .ok (.iload_n 3, 1) := by decide +kernel
theorem d_HD_init_153 : decode b_HD_init 153 = .ok (.imul, 1) := by decide +kernel
theorem d_HD_init_154 : decode b_HD_init 154 = .ok (.iload 4, 2) := by decide +kernel
theorem d_HD_init_156 : decode b_HD_init 156 = .ok (.iadd, 1) := by decide +kernel
theorem d_HD_init_157 : decode b_HD_init 157 = .ok (.new 39, 3) := by decide +kernel
theorem d_HD_init_160 : decode b_HD_init 160 = .ok (.dup, 1) := by decide +kernel
theorem d_HD_init_161 : decode b_HD_init 161 = .ok (.iload_n 3, 1) := by decide +kernel
theorem d_HD_init_162 : decode b_HD_init 162 = .ok (.iload 4, 2) := by decide +kernel
theorem d_HD_init_164 : decode b_HD_init 164 = .ok (.aload_n 0, 1) := by decide +kernel
theorem d_HD_init_165 : decode b_HD_init 165 = .ok (.getfield 22, 3) := by decide +kernel
theorem d_HD_init_168 : decode b_HD_init 168 = .ok (.aload_n 0, 1) := by decide +kernel
theorem d_HD_init_169 : decode b_HD_init 169 = .ok (.getfield 29, 3) := by decide +kernel
theorem d_HD_init_172 : decode b_HD_init 172 = .ok (.invokespecial 71, 3) := by decide +kernel
theorem d_HD_init_175 : decode b_HD_init 175 = .ok (.aastore, 1) := by decide +kernel
theorem d_HD_init_176 : decode b_HD_init 176 = .ok (.iinc 4 1, 3) := by decide +kernel
theorem d_HD_init_179 : decode b_HD_init 179 = .ok (.goto (-38), 3) := by decide +kernel
theorem d_HD_init_182 : decode b_HD_init 182 = .ok (.iinc 3 1, 3) := by decide +kernel
theorem d_HD_init_185 : decode b_HD_init 185 = .ok (.goto (-68), 3) := by decide +kernel
theorem d_HD_init_188 : decode b_HD_init 188 = .ok (.return_, 1) := by decide +kernel
theorem d_HD_core_0 : decode b_HD_core 0 = .ok (.iload_n 1, 1) := by decide +kernel
theorem d_HD_core_1 : decode b_HD_core 1 = .ok (.ifCond .lt 11, 3) := by decide +kernel
theorem d_HD_core_4 : decode b_HD_core 4 = .ok (.iload_n 1, 1) := by decide +kernel
theorem d_HD_core_5 : decode b_HD_core 5 = .ok (.aload_n 0, 1) := by decide +kernel
theorem d_HD_core_6 : decode b_HD_core 6 = .ok (.getfield 60, 3) := by decide +kernel
theorem d_HD_core_9 : decode b_HD_core 9 = .ok (.if_icmp .lt 7, 3) := by decide +kernel
theorem d_HD_core_12 : decode b_HD_core 12 = .ok (.aconst_null, 1) := by decide +kernel
theorem d_HD_core_13 : decode b_HD_core 13 = .ok (.goto 9, 3) := by decide +kernel
theorem d_HD_core_16 : decode b_HD_core 16 = .ok (.aload_n 0, 1) := by decide +kernel
theorem d_HD_core_17 : decode b_HD_core 17 = .ok (.getfield 35, 3) := by decide +kernel
theorem d_HD_core_20 : decode b_HD_core 20 = .ok (.iload_n 1, 1) := by decide +kernel
theorem d_HD_core_21 : decode b_HD_core 21 = .ok (.aaload, 1) := by decide +kernel
theorem d_HD_core_22 : decode b_HD_core 22 = .ok (.areturn, 1) := by decide +kernel
theorem d_HD_isBlock_0 : decode b_HD_isBlock 0 = .ok (.iload_n 0, 1) := by decide +kernel
theorem d_HD_isBlock_1 : decode b_HD_isBlock 1 = .ok (.ifCond .lt 12, 3) := by decide +kernel
theorem d_HD_isBlock_4 : decode b_HD_isBlock 4 = .ok (.iload_n 0, 1) := by decide +kernel
theorem d_HD_isBlock_5 : decode b_HD_isBlock 5 = .ok (.iconst 4, 1) := by decide +kernel
theorem d_HD_isBlock_6 : decode b_HD_isBlock 6 = .ok (.if_icmp .ge 7, 3) := by decide +kernel
theorem d_HD_isBlock_9 : decode b_HD_isBlock 9 = .ok (.iconst 1, 1) := by decide +kernel
theorem d_HD_isBlock_10 : decode b_HD_isBlock 10 = .ok (.goto 4, 3) := by decide +kernel
theorem d_HD_isBlock_13 : decode b_HD_isBlock 13 = .ok (.iconst 0, 1) := by decide +kernel
theorem d_HD_isBlock_14 : decode b_HD_isBlock 14 = .ok (.ireturn, 1) := by decide +kernel
theorem d_HD_code_0 : decode b_HD_code 0 = .ok (.aload_n 0, 1) := by decide +kernel
theorem d_HD_code_1 : decode b_HD_code 1 = .ok (.iload_n 1, 1) := by decide +kernel
theorem d_HD_code_2 : decode b_HD_code 2 = .ok (.invokevirtual 74, 3) := by decide +kernel
theorem d_HD_code_5 : decode b_HD_code 5 = .ok (.astore 4, 2) := by decide +kernel
theorem d_HD_code_7 : decode b_HD_code 7 = .ok (.aload 4, 2) := by decide +kernel
theorem d_HD_code_9 : decode b_HD_code 9 = .ok (.ifnull 22, 3) := by decide +kernel
theorem d_HD_code_12 : decode b_HD_code 12 = .ok (.iload_n 2, 1) := by decide +kernel
theorem d_HD_code_13 : decode b_HD_code 13 = .ok (.ifCond .lt 18, 3) := by decide +kernel
theorem d_HD_code_16 : decode b_HD_code 16 = .ok (.iload_n 2, 1) := by decide +kernel
theorem d_HD_code_17 : decode b_HD_code 17 = .ok (.iconst 5, 1) := by decide +kernel
theorem d_HD_code_18 : decode b_HD_code 18 = .ok (.if_icmp .gt 13, 3) := by decide +kernel
theorem d_HD_code_21 : decode b_HD_code 21 = .ok (.aload 4, 2) := by decide +kernel
theorem d_HD_code_23 : decode b_HD_code 23 = .ok (.getfield 78, 3) := by decide +kernel
theorem d_HD_code_26 : decode b_HD_code 26 = .ok (.bipush 16, 2) := by decide +kernel
theorem d_HD_code_28 : decode b_HD_code 28 = .ok (.if_icmp .lt 5, 3) := by decide +kernel
theorem d_HD_code_31 : decode b_HD_code 31 = .ok (.iconst 0, 1) := by decide +kernel
theorem d_HD_code_32 : decode b_HD_code 32 = .ok (.ireturn, 1) := by decide +kernel
theorem d_HD_code_33 : decode b_HD_code 33 = .ok (.aload_n 0, 1) := by decide +kernel
theorem d_HD_code_34 : decode b_HD_code 34 = .ok (.getfield 13, 3) := by decide +kernel
theorem d_HD_code_37 : decode b_HD_code 37 = .ok (.iload_n 2, 1) := by decide +kernel
theorem d_HD_code_38 : decode b_HD_code 38 = .ok (.aaload, 1) := by decide +kernel
theorem d_HD_code_39 : decode b_HD_code 39 = .ok (.astore 5, 2) := by decide +kernel
theorem d_HD_code_41 : decode b_HD_code 41 = .ok (.aload 5, 2) := by decide +kernel
theorem d_HD_code_43 : decode b_HD_code 43 = .ok (.invokevirtual 81, 3) := by decide +kernel
theorem d_HD_code_46 : decode b_HD_code 46 = .ok (.ifCond .eq 13, 3) := by decide +kernel
theorem d_HD_code_49 : decode b_HD_code 49 = .ok (.iload_n 3, 1) := by decide +kernel
theorem d_HD_code_50 : decode b_HD_code 50 = .ok (.invokestatic 85, 3) := by decide +kernel
theorem d_HD_code_53 : decode b_HD_code 53 = .ok (.ifCond .ne 26, 3) := by decide +kernel
theorem d_HD_code_56 : decode b_HD_code 56 = .ok (.goto 21, 3) := by decide +kernel
theorem d_HD_code_59 : decode b_HD_code 59 = .ok (.aload 5, 2) := by decide +kernel
theorem d_HD_code_61 : decode b_HD_code 61 = .ok (.getstatic 89, 3) := by decide +kernel
theorem d_HD_code_64 : decode b_HD_code 64 = .ok (.if_acmp .ne 15, 3) := by decide +kernel
theorem d_HD_code_67 : decode b_HD_code 67 = .ok (.iload_n 3, 1) := by decide +kernel
theorem d_HD_code_68 : decode b_HD_code 68 = .ok (.ifCond .lt 9, 3) := by decide +kernel
theorem d_HD_code_71 : decode b_HD_code 71 = .ok (.iload_n 3, 1) := by decide +kernel
theorem d_HD_code_72 : decode b_HD_code 72 = .ok (.bipush 16, 2) := by decide +kernel
theorem d_HD_code_74 : decode b_HD_code 74 = .ok (.if_icmp .lt 5, 3) := by decide +kernel
theorem d_HD_code_77 : decode b_HD_code 77 = .ok (.iconst 0, 1) := by decide +kernel
theorem d_HD_code_78 : decode b_HD_code 78 = .ok (.ireturn, 1) := by decide +kernel
theorem d_HD_code_79 : decode b_HD_code 79 = .ok (.aload 4, 2) := by decide +kernel
theorem d_HD_code_81 : decode b_HD_code 81 = .ok (.getfield 93, 3) := by decide +kernel
theorem d_HD_code_84 : decode b_HD_code 84 = .ok (.aload 4, 2) := by decide +kernel
theorem d_HD_code_86 : decode b_HD_code 86 = .ok (.getfield 78, 3) := by decide +kernel
theorem d_HD_code_89 : decode b_HD_code 89 = .ok (.iload_n 2, 1) := by decide +kernel
theorem d_HD_code_90 : decode b_HD_code 90 = .ok (.i2b, 1) := by decide +kernel
theorem d_HD_code_91 : decode b_HD_code 91 = .ok (.bastore, 1) := by decide +kernel
theorem d_HD_code_92 : decode b_HD_code 92 = .ok (.aload 4, 2) := by decide +kernel
theorem d_HD_code_94 : decode b_HD_code 94 = .ok (.getfield 96, 3) := by decide +kernel
theorem d_HD_code_97 : decode b_HD_code 97 = .ok (.aload 4, 2) := by decide +kernel
theorem d_HD_code_99 : decode b_HD_code 99 = .ok (.dup, 1) := by decide +kernel
theorem d_HD_code_100 : decode b_HD_code 100 = .ok (.getfield 78, 3) := by decide +kernel
theorem d_HD_code_103 : decode b_HD_code 103 = .ok (.dup_x1, 1) := by decide +kernel
theorem d_HD_code_104 : decode b_HD_code 104 = .ok (.iconst 1, 1) := by decide +kernel
theorem d_HD_code_105 : decode b_HD_code 105 = .ok (.iadd, 1) := by decide +kernel
theorem d_HD_code_106 : decode b_HD_code 106 = .ok (.putfield 78, 3) := by decide +kernel
theorem d_HD_code_109 : decode b_HD_code 109 = .ok (.iload_n 3, 1) := by decide +kernel
theorem d_HD_code_110 : decode b_HD_code 110 = .ok (.iastore, 1) := by decide +kernel
theorem d_HD_code_111 : decode b_HD_code 111 = .ok (.iconst 1, 1) := by decide +kernel
theorem d_HD_code_112 : decode b_HD_code 112 = .ok (.ireturn, 1) := by decide +kernel
theorem d_HD_go_0 : decode b_HD_go 0 = .ok (.aload_n 0, 1) := by decide +kernel
theorem d_HD_go_1 : decode b_HD_go 1 = .ok (.iload_n 1, 1) := by decide +kernel
theorem d_HD_go_2 : decode b_HD_go 2 = .ok (.invokevirtual 74, 3) := by decide +kernel
theorem d_HD_go_5 : decode b_HD_go 5 = .ok (.astore_n 3, 1) := by decide +kernel
theorem d_HD_go_6 : decode b_HD_go 6 = .ok (.aload_n 3, 1) := by decide +kernel
theorem d_HD_go_7 : decode b_HD_go 7 = .ok (.ifnull 20, 3) := by decide +kernel
theorem d_HD_go_10 : decode b_HD_go 10 = .ok (.aload_n 3, 1) := by decide +kernel
theorem d_HD_go_11 : decode b_HD_go 11 = .ok (.getfield 100, 3) := by decide +kernel
theorem d_HD_go_14 : decode b_HD_go 14 = .ok (.ifCond .ne 13, 3) := by decide +kernel
theorem d_HD_go_17 : decode b_HD_go 17 = .ok (.iload_n 2, 1) := by decide +kernel
theorem d_HD_go_18 : decode b_HD_go 18 = .ok (.ifCond .lt 9, 3) := by decide +kernel
theorem d_HD_go_21 : decode b_HD_go 21 = .ok (.iload_n 2, 1) := by decide +kernel
theorem d_HD_go_22 : decode b_HD_go 22 = .ok (.bipush 16, 2) := by decide +kernel
theorem d_HD_go_24 : decode b_HD_go 24 = .ok (.if_icmp .le 5, 3) := by decide +kernel
theorem d_HD_go_27 : decode b_HD_go 27 = .ok (.iconst 0, 1) := by decide +kernel
theorem d_HD_go_28 : decode b_HD_go 28 = .ok (.ireturn, 1) := by decide +kernel
theorem d_HD_go_29 : decode b_HD_go 29 = .ok (.aload_n 3, 1) := by decide +kernel
theorem d_HD_go_30 : decode b_HD_go 30 = .ok (.iload_n 2, 1) := by decide +kernel
theorem d_HD_go_31 : decode b_HD_go 31 = .ok (.putfield 103, 3) := by decide +kernel
theorem d_HD_go_34 : decode b_HD_go 34 = .ok (.iconst 1, 1) := by decide +kernel
theorem d_HD_go_35 : decode b_HD_go 35 = .ok (.ireturn, 1) := by decide +kernel
theorem d_HD_step_0 : decode b_HD_step 0 = .ok (.aload_n 0, 1) := by decide +kernel
theorem d_HD_step_1 : decode b_HD_step 1 = .ok (.iload_n 1, 1) := by decide +kernel
theorem d_HD_step_2 : decode b_HD_step 2 = .ok (.invokevirtual 74, 3) := by decide +kernel
theorem d_HD_step_5 : decode b_HD_step 5 = .ok (.astore_n 2, 1) := by decide +kernel
theorem d_HD_step_6 : decode b_HD_step 6 = .ok (.aload_n 2, 1) := by decide +kernel
theorem d_HD_step_7 : decode b_HD_step 7 = .ok (.ifnonnull 5, 3) := by decide +kernel
theorem d_HD_step_10 : decode b_HD_step 10 = .ok (.iconst (-1), 1) := by decide +kernel
theorem d_HD_step_11 : decode b_HD_step 11 = .ok (.ireturn, 1) := by decide +kernel
theorem d_HD_step_12 : decode b_HD_step 12 = .ok (.aload_n 2, 1) := by decide +kernel
theorem d_HD_step_13 : decode b_HD_step 13 = .ok (.getfield 100, 3) := by decide +kernel
theorem d_HD_step_16 : decode b_HD_step 16 = .ok (.ifCond .eq 5, 3) := by decide +kernel
theorem d_HD_step_19 : decode b_HD_step 19 = .ok (.iconst 0, 1) := by decide +kernel
theorem d_HD_step_20 : decode b_HD_step 20 = .ok (.ireturn, 1) := by decide +kernel
theorem d_HD_step_21 : decode b_HD_step 21 = .ok (.aload_n 2, 1) := by decide +kernel
theorem d_HD_step_22 : decode b_HD_step 22 = .ok (.getfield 103, 3) := by decide +kernel
theorem d_HD_step_25 : decode b_HD_step 25 = .ok (.aload_n 2, 1) := by decide +kernel
theorem d_HD_step_26 : decode b_HD_step 26 = .ok (.getfield 78, 3) := by decide +kernel
theorem d_HD_step_29 : decode b_HD_step 29 = .ok (.if_icmp .lt 5, 3) := by decide +kernel
theorem d_HD_step_32 : decode b_HD_step 32 = .ok (.iconst 4, 1) := by decide +kernel
theorem d_HD_step_33 : decode b_HD_step 33 = .ok (.ireturn, 1) := by decide +kernel
theorem d_HD_step_34 : decode b_HD_step 34 = .ok (.aload_n 0, 1) := by decide +kernel
theorem d_HD_step_35 : decode b_HD_step 35 = .ok (.getfield 13, 3) := by decide +kernel
theorem d_HD_step_38 : decode b_HD_step 38 = .ok (.aload_n 2, 1) := by decide +kernel
theorem d_HD_step_39 : decode b_HD_step 39 = .ok (.getfield 93, 3) := by decide +kernel
theorem d_HD_step_42 : decode b_HD_step 42 = .ok (.aload_n 2, 1) := by decide +kernel
theorem d_HD_step_43 : decode b_HD_step 43 = .ok (.getfield 103, 3) := by decide +kernel
theorem d_HD_step_46 : decode b_HD_step 46 = .ok (.baload, 1) := by decide +kernel
theorem d_HD_step_47 : decode b_HD_step 47 = .ok (.aaload, 1) := by decide +kernel
theorem d_HD_step_48 : decode b_HD_step 48 = .ok (.astore_n 3, 1) := by decide +kernel
theorem d_HD_step_49 : decode b_HD_step 49 = .ok (.aload_n 2, 1) := by decide +kernel
theorem d_HD_step_50 : decode b_HD_step 50 = .ok (.getfield 96, 3) := by decide +kernel
theorem d_HD_step_53 : decode b_HD_step 53 = .ok (.aload_n 2, 1) := by decide +kernel
theorem d_HD_step_54 : decode b_HD_step 54 = .ok (.getfield 103, 3) := by decide +kernel
theorem d_HD_step_57 : decode b_HD_step 57 = .ok (.iaload, 1) := by decide +kernel
theorem d_HD_step_58 : decode b_HD_step 58 = .ok (.istore 4, 2) := by decide +kernel
theorem d_HD_step_60 : decode b_HD_step 60 = .ok (.aload_n 3, 1) := by decide +kernel
theorem d_HD_step_61 : decode b_HD_step 61 = .ok (.invokevirtual 81, 3) := by decide +kernel
theorem d_HD_step_64 : decode b_HD_step 64 = .ok (.ifCond .ne 12, 3) := by decide +kernel
theorem d_HD_step_67 : decode b_HD_step 67 = .ok (.aload_n 2, 1) := by decide +kernel
theorem d_HD_step_68 : decode b_HD_step 68 = .ok (.aload_n 3, 1) := by decide +kernel
theorem d_HD_step_69 : decode b_HD_step 69 = .ok (.iload 4, 2) := by decide +kernel
theorem d_HD_step_71 : decode b_HD_step 71 = .ok (.invokevirtual 106, 3) := by decide +kernel
theorem d_HD_step_74 : decode b_HD_step 74 = .ok (.iconst 1, 1) := by decide +kernel
theorem d_HD_step_75 : decode b_HD_step 75 = .ok (.ireturn, 1) := by decide +kernel
theorem d_HD_step_76 : decode b_HD_step 76 = .ok (.aload_n 0, 1) := by decide +kernel
theorem d_HD_step_77 : decode b_HD_step 77 = .ok (.aload_n 2, 1) := by decide +kernel
theorem d_HD_step_78 : decode b_HD_step 78 = .ok (.aload_n 3, 1) := by decide +kernel
theorem d_HD_step_79 : decode b_HD_step 79 = .ok (.iload_n 1, 1) := by decide +kernel
theorem d_HD_step_80 : decode b_HD_step 80 = .ok (.iload 4, 2) := by decide +kernel
theorem d_HD_step_82 : decode b_HD_step 82 = .ok (.invokevirtual 110, 3) := by decide +kernel
theorem d_HD_step_85 : decode b_HD_step 85 = .ok (.ireturn, 1) := by decide +kernel
theorem d_HD_access_0 : decode b_HD_access 0 = .ok (.aload_n 0, 1) := by decide +kernel
theorem d_HD_access_1 : decode b_HD_access 1 = .ok (.getfield 41, 3) := by decide +kernel
theorem d_HD_access_4 : decode b_HD_access 4 = .ok (.iconst 4, 1) := by decide +kernel
theorem d_HD_access_5 : decode b_HD_access 5 = .ok (.iload_n 3, 1) := by decide +kernel
theorem d_HD_access_6 : decode b_HD_access 6 = .ok (.imul, 1) := by decide +kernel
theorem d_HD_access_7 : decode b_HD_access 7 = .ok (.iload 4, 2) := by decide +kernel
theorem d_HD_access_9 : decode b_HD_access 9 = .ok (.iadd, 1) := by decide +kernel
theorem d_HD_access_10 : decode b_HD_access 10 = .ok (.aaload, 1) := by decide +kernel
theorem d_HD_access_11 : decode b_HD_access 11 = .ok (.astore 5, 2) := by decide +kernel
theorem d_HD_access_13 : decode b_HD_access 13 = .ok (.aload 5, 2) := by decide +kernel
theorem d_HD_access_15 : decode b_HD_access 15 = .ok (.getfield 114, 3) := by decide +kernel
theorem d_HD_access_18 : decode b_HD_access 18 = .ok (.aload_n 0, 1) := by decide +kernel
theorem d_HD_access_19 : decode b_HD_access 19 = .ok (.getfield 29, 3) := by decide +kernel
theorem d_HD_access_22 : decode b_HD_access 22 = .ok (.getfield 118, 3) := by decide +kernel
theorem d_HD_access_25 : decode b_HD_access 25 = .ok (.if_acmp .eq 25, 3) := by decide +kernel
theorem d_HD_access_28 : decode b_HD_access 28 = .ok (.aload 5, 2) := by decide +kernel
theorem d_HD_access_30 : decode b_HD_access 30 = .ok (.getfield 114, 3) := by decide +kernel
theorem d_HD_access_33 : decode b_HD_access 33 = .ok (.aload_n 0, 1) := by decide +kernel
theorem d_HD_access_34 : decode b_HD_access 34 = .ok (.getfield 29, 3) := by decide +kernel
theorem d_HD_access_37 : decode b_HD_access 37 = .ok (.getfield 121, 3) := by decide +kernel
theorem d_HD_access_40 : decode b_HD_access 40 = .ok (.if_acmp .ne 20, 3) := by decide +kernel
theorem d_HD_access_43 : decode b_HD_access 43 = .ok (.aload_n 2, 1) := by decide +kernel
theorem d_HD_access_44 : decode b_HD_access 44 = .ok (.getstatic 124, 3) := by decide +kernel
theorem d_HD_access_47 : decode b_HD_access 47 = .ok (.if_acmp .ne 13, 3) := by decide +kernel
theorem d_HD_access_50 : decode b_HD_access 50 = .ok (.aload_n 0, 1) := by decide +kernel
theorem d_HD_access_51 : decode b_HD_access 51 = .ok (.aload_n 1, 1) := by decide +kernel
theorem d_HD_access_52 : decode b_HD_access 52 = .ok (.aload_n 2, 1) := by decide +kernel
theorem d_HD_access_53 : decode b_HD_access 53 = .ok (.aload 5, 2) := by decide +kernel
theorem d_HD_access_55 : decode b_HD_access 55 = .ok (.invokevirtual 127, 3) := by decide +kernel
theorem d_HD_access_58 : decode b_HD_access 58 = .ok (.iconst 1, 1) := by decide +kernel
theorem d_HD_access_59 : decode b_HD_access 59 = .ok (.ireturn, 1) := by decide +kernel
theorem d_HD_access_60 : decode b_HD_access 60 = .ok (.aload 5, 2) := by decide +kernel
theorem d_HD_access_62 : decode b_HD_access 62 = .ok (.getfield 114, 3) := by decide +kernel
theorem d_HD_access_65 : decode b_HD_access 65 = .ok (.aload_n 0, 1) := by decide +kernel
theorem d_HD_access_66 : decode b_HD_access 66 = .ok (.getfield 29, 3) := by decide +kernel
theorem d_HD_access_69 : decode b_HD_access 69 = .ok (.getfield 131, 3) := by decide +kernel
theorem d_HD_access_72 : decode b_HD_access 72 = .ok (.if_acmp .ne 107, 3) := by decide +kernel
theorem d_HD_access_75 : decode b_HD_access 75 = .ok (.aconst_null, 1) := by decide +kernel
theorem d_HD_access_76 : decode b_HD_access 76 = .ok (.astore 6, 2) := by decide +kernel
theorem d_HD_access_78 : decode b_HD_access 78 = .ok (.iconst 0, 1) := by decide +kernel
theorem d_HD_access_79 : decode b_HD_access 79 = .ok (.istore 7, 2) := by decide +kernel
theorem d_HD_access_81 : decode b_HD_access 81 = .ok (.iconst 0, 1) := by decide +kernel
theorem d_HD_access_82 : decode b_HD_access 82 = .ok (.istore 8, 2) := by decide +kernel
theorem d_HD_access_84 : decode b_HD_access 84 = .ok (.iload 8, 2) := by decide +kernel
theorem d_HD_access_86 : decode b_HD_access 86 = .ok (.iconst 4, 1) := by decide +kernel
theorem d_HD_access_87 : decode b_HD_access 87 = .ok (.if_icmp .ge 65, 3) := by decide +kernel
theorem d_HD_access_90 : decode b_HD_access 90 = .ok (.aload_n 0, 1) := by decide +kernel
theorem d_HD_access_91 : decode b_HD_access 91 = .ok (.getfield 41, 3) := by decide +kernel
theorem d_HD_access_94 : decode b_HD_access 94 = .ok (.iconst 4, 1) := by decide +kernel
theorem d_HD_access_95 : decode b_HD_access 95 = .ok (.iload_n 3, 1) := by decide +kernel
theorem d_HD_access_96 : decode b_HD_access 96 = .ok (.imul, 1) := by decide +kernel
theorem d_HD_access_97 : decode b_HD_access 97 = .ok (.iload 8, 2) := by decide +kernel
theorem d_HD_access_99 : decode b_HD_access 99 = .ok (.iadd, 1) := by decide +kernel
theorem d_HD_access_100 : decode b_HD_access 100 = .ok (.aaload, 1) := by decide +kernel
theorem d_HD_access_101 : decode b_HD_access 101 = .ok (.astore 9, 2) := by decide +kernel
theorem d_HD_access_103 : decode b_HD_access 103 = .ok (.aload 9, 2) := by decide +kernel
theorem d_HD_access_105 : decode b_HD_access 105 = .ok (.getfield 114, 3) := by decide +kernel
theorem d_HD_access_108 : decode b_HD_access 108 = .ok (.aload_n 0, 1) := by decide +kernel
theorem d_HD_access_109 : decode b_HD_access 109 = .ok (.getfield 29, 3) := by decide +kernel
theorem d_HD_access_112 : decode b_HD_access 112 = .ok (.getfield 131, 3) := by decide +kernel
theorem d_HD_access_115 : decode b_HD_access 115 = .ok (.if_acmp .ne 6, 3) := by decide +kernel
theorem d_HD_access_118 : decode b_HD_access 118 = .ok (.goto 28, 3) := by decide +kernel
theorem d_HD_access_121 : decode b_HD_access 121 = .ok (.iinc 7 1, 3) := by decide +kernel
theorem d_HD_access_124 : decode b_HD_access 124 = .ok (.aload 6, 2) := by decide +kernel
theorem d_HD_access_126 : decode b_HD_access 126 = .ok (.ifnull 16, 3) := by decide +kernel
theorem d_HD_access_129 : decode b_HD_access 129 = .ok (.aload 9, 2) := by decide +kernel
theorem d_HD_access_131 : decode b_HD_access 131 = .ok (.getfield 134, 3) := by decide +kernel
theorem d_HD_access_134 : decode b_HD_access 134 = .ok (.aload 6, 2) := by decide +kernel
theorem d_HD_access_136 : decode b_HD_access 136 = .ok (.getfield 134, 3) := by decide +kernel
theorem d_HD_access_139 : decode b_HD_access 139 = .ok (.if_icmp .ge 7, 3) := by decide +kernel
theorem d_HD_access_142 : decode b_HD_access 142 = .ok (.aload 9, 2) := by decide +kernel
theorem d_HD_access_144 : decode b_HD_access 144 = .ok (.astore 6, 2) := by decide +kernel
theorem d_HD_access_146 : decode b_HD_access 146 = .ok (.iinc 8 1, 3) := by decide +kernel
theorem d_HD_access_149 : decode b_HD_access 149 = .ok (.goto (-65), 3) := by decide +kernel
theorem d_HD_access_152 : decode b_HD_access 152 = .ok (.aload 6, 2) := by decide +kernel
theorem d_HD_access_154 : decode b_HD_access 154 = .ok (.ifnull 25, 3) := by decide +kernel
theorem d_HD_access_157 : decode b_HD_access 157 = .ok (.iload 7, 2) := by decide +kernel
theorem d_HD_access_159 : decode b_HD_access 159 = .ok (.aload_n 0, 1) := by decide +kernel
theorem d_HD_access_160 : decode b_HD_access 160 = .ok (.getfield 64, 3) := by decide +kernel
theorem d_HD_access_163 : decode b_HD_access 163 = .ok (.if_icmp .lt 16, 3) := by decide +kernel
theorem d_HD_access_166 : decode b_HD_access 166 = .ok (.aload 6, 2) := by decide +kernel
theorem d_HD_access_168 : decode b_HD_access 168 = .ok (.invokevirtual 137, 3) := by decide +kernel
theorem d_HD_access_171 : decode b_HD_access 171 = .ok (.aload_n 1, 1) := by decide +kernel
theorem d_HD_access_172 : decode b_HD_access 172 = .ok (.bipush 64, 2) := by decide +kernel
theorem d_HD_access_174 : decode b_HD_access 174 = .ok (.putfield 100, 3) := by decide +kernel
theorem d_HD_access_177 : decode b_HD_access 177 = .ok (.iconst 3, 1) := by decide +kernel
theorem d_HD_access_178 : decode b_HD_access 178 = .ok (.ireturn, 1) := by decide +kernel
theorem d_HD_access_179 : decode b_HD_access 179 = .ok (.aload_n 2, 1) := by decide +kernel
theorem d_HD_access_180 : decode b_HD_access 180 = .ok (.getstatic 124, 3) := by decide +kernel
theorem d_HD_access_183 : decode b_HD_access 183 = .ok (.if_acmp .ne 11, 3) := by decide +kernel
theorem d_HD_access_186 : decode b_HD_access 186 = .ok (.aload 5, 2) := by decide +kernel
theorem d_HD_access_188 : decode b_HD_access 188 = .ok (.invokevirtual 140, 3) := by decide +kernel
theorem d_HD_access_191 : decode b_HD_access 191 = .ok (.goto 8, 3) := by decide +kernel
theorem d_HD_access_194 : decode b_HD_access 194 = .ok (.aload 5, 2) := by decide +kernel
theorem d_HD_access_196 : decode b_HD_access 196 = .ok (.invokevirtual 143, 3) := by decide +kernel
theorem d_HD_access_199 : decode b_HD_access 199 = .ok (.aload_n 1, 1) := by decide +kernel
theorem d_HD_access_200 : decode b_HD_access 200 = .ok (.bipush 32, 2) := by decide +kernel
theorem d_HD_access_202 : decode b_HD_access 202 = .ok (.putfield 100, 3) := by decide +kernel
theorem d_HD_access_205 : decode b_HD_access 205 = .ok (.iconst 2, 1) := by decide +kernel
theorem d_HD_access_206 : decode b_HD_access 206 = .ok (.ireturn, 1) := by decide +kernel
theorem d_HD_perform_0 : decode b_HD_perform 0 = .ok (.aload_n 1, 1) := by decide +kernel
theorem d_HD_perform_1 : decode b_HD_perform 1 = .ok (.aload_n 2, 1) := by decide +kernel
theorem d_HD_perform_2 : decode b_HD_perform 2 = .ok (.aload_n 3, 1) := by decide +kernel
theorem d_HD_perform_3 : decode b_HD_perform 3 = .ok (.invokevirtual 146, 3) := by decide +kernel
theorem d_HD_perform_6 : decode b_HD_perform 6 = .ok (.aload_n 3, 1) := by decide +kernel
theorem d_HD_perform_7 : decode b_HD_perform 7 = .ok (.aload_n 0, 1) := by decide +kernel
theorem d_HD_perform_8 : decode b_HD_perform 8 = .ok (.dup, 1) := by decide +kernel
theorem d_HD_perform_9 : decode b_HD_perform 9 = .ok (.getfield 149, 3) := by decide +kernel
theorem d_HD_perform_12 : decode b_HD_perform 12 = .ok (.iconst 1, 1) := by decide +kernel
theorem d_HD_perform_13 : decode b_HD_perform 13 = .ok (.iadd, 1) := by decide +kernel
theorem d_HD_perform_14 : decode b_HD_perform 14 = .ok (.dup_x1, 1) := by decide +kernel
theorem d_HD_perform_15 : decode b_HD_perform 15 = .ok (.putfield 149, 3) := by decide +kernel
theorem d_HD_perform_18 : decode b_HD_perform 18 = .ok (.putfield 134, 3) := by decide +kernel
theorem d_HD_perform_21 : decode b_HD_perform 21 = .ok (.return_, 1) := by decide +kernel
theorem d_HD_deliver_0 : decode b_HD_deliver 0 = .ok (.aload_n 0, 1) := by decide +kernel
theorem d_HD_deliver_1 : decode b_HD_deliver 1 = .ok (.getfield 22, 3) := by decide +kernel
theorem d_HD_deliver_4 : decode b_HD_deliver 4 = .ok (.iload_n 1, 1) := by decide +kernel
theorem d_HD_deliver_5 : decode b_HD_deliver 5 = .ok (.invokevirtual 152, 3) := by decide +kernel
theorem d_HD_deliver_8 : decode b_HD_deliver 8 = .ok (.astore_n 2, 1) := by decide +kernel
theorem d_HD_deliver_9 : decode b_HD_deliver 9 = .ok (.aload_n 2, 1) := by decide +kernel
theorem d_HD_deliver_10 : decode b_HD_deliver 10 = .ok (.ifnonnull 5, 3) := by decide +kernel
theorem d_HD_deliver_13 : decode b_HD_deliver 13 = .ok (.iconst (-1), 1) := by decide +kernel
theorem d_HD_deliver_14 : decode b_HD_deliver 14 = .ok (.ireturn, 1) := by decide +kernel
theorem d_HD_deliver_15 : decode b_HD_deliver 15 = .ok (.aload_n 2, 1) := by decide +kernel
theorem d_HD_deliver_16 : decode b_HD_deliver 16 = .ok (.getfield 156, 3) := by decide +kernel
theorem d_HD_deliver_19 : decode b_HD_deliver 19 = .ok (.getfield 162, 3) := by decide +kernel
theorem d_HD_deliver_22 : decode b_HD_deliver 22 = .ok (.ifCond .eq 17, 3) := by decide +kernel
theorem d_HD_deliver_25 : decode b_HD_deliver 25 = .ok (.aload_n 0, 1) := by decide +kernel
theorem d_HD_deliver_26 : decode b_HD_deliver 26 = .ok (.getfield 22, 3) := by decide +kernel
theorem d_HD_deliver_29 : decode b_HD_deliver 29 = .ok (.aload_n 2, 1) := by decide +kernel
theorem d_HD_deliver_30 : decode b_HD_deliver 30 = .ok (.invokevirtual 168, 3) := by decide +kernel
theorem d_HD_deliver_33 : decode b_HD_deliver 33 = .ok (.ifCond .eq 6, 3) := by decide +kernel
theorem d_HD_deliver_36 : decode b_HD_deliver 36 = .ok (.bipush (-2), 2) := by decide +kernel
theorem d_HD_deliver_38 : decode b_HD_deliver 38 = .ok (.ireturn, 1) := by decide +kernel
theorem d_HD_deliver_39 : decode b_HD_deliver 39 = .ok (.aload_n 2, 1) := by decide +kernel
theorem d_HD_deliver_40 : decode b_HD_deliver 40 = .ok (.getfield 172, 3) := by decide +kernel
theorem d_HD_deliver_43 : decode b_HD_deliver 43 = .ok (.iconst 4, 1) := by decide +kernel
theorem d_HD_deliver_44 : decode b_HD_deliver 44 = .ok (.if_icmp .ne 15, 3) := by decide +kernel
theorem d_HD_deliver_47 : decode b_HD_deliver 47 = .ok (.aload_n 0, 1) := by decide +kernel
theorem d_HD_deliver_48 : decode b_HD_deliver 48 = .ok (.getfield 47, 3) := by decide +kernel
theorem d_HD_deliver_51 : decode b_HD_deliver 51 = .ok (.aload_n 2, 1) := by decide +kernel
theorem d_HD_deliver_52 : decode b_HD_deliver 52 = .ok (.getfield 175, 3) := by decide +kernel
theorem d_HD_deliver_55 : decode b_HD_deliver 55 = .ok (.aaload, 1) := by decide +kernel
theorem d_HD_deliver_56 : decode b_HD_deliver 56 = .ok (.goto 19, 3) := by decide +kernel
theorem d_HD_deliver_59 : decode b_HD_deliver 59 = .ok (.aload_n 0, 1) := by decide +kernel
theorem d_HD_deliver_60 : decode b_HD_deliver 60 = .ok (.getfield 41, 3) := by decide +kernel
theorem d_HD_deliver_63 : decode b_HD_deliver 63 = .ok (.iconst 4, 1) := by decide +kernel
theorem d_HD_deliver_64 : decode b_HD_deliver 64 = .ok (.aload_n 2, 1) := by decide +kernel
theorem d_HD_deliver_65 : decode b_HD_deliver 65 = .ok (.getfield 172, 3) := by decide +kernel
theorem d_HD_deliver_68 : decode b_HD_deliver 68 = .ok (.imul, 1) := by decide +kernel
theorem d_HD_deliver_69 : decode b_HD_deliver 69 = .ok (.aload_n 2, 1) := by decide +kernel
theorem d_HD_deliver_70 : decode b_HD_deliver 70 = .ok (.getfield 175, 3) := by decide +kernel
theorem d_HD_deliver_73 : decode b_HD_deliver 73 = .ok (.iadd, 1) := by decide +kernel
theorem d_HD_deliver_74 : decode b_HD_deliver 74 = .ok (.aaload, 1) := by decide +kernel
theorem d_HD_deliver_75 : decode b_HD_deliver 75 = .ok (.astore_n 3, 1) := by decide +kernel
theorem d_HD_deliver_76 : decode b_HD_deliver 76 = .ok (.aload_n 3, 1) := by decide +kernel
theorem d_HD_deliver_77 : decode b_HD_deliver 77 = .ok (.aload_n 2, 1) := by decide +kernel
theorem d_HD_deliver_78 : decode b_HD_deliver 78 = .ok (.invokeinterface 178 2, 5) := by decide +kernel
theorem d_HD_deliver_83 : decode b_HD_deliver 83 = .ok (.ifCond .ne 6, 3) := by decide +kernel
theorem d_HD_deliver_86 : decode b_HD_deliver 86 = .ok (.bipush (-3), 2) := by decide +kernel
theorem d_HD_deliver_88 : decode b_HD_deliver 88 = .ok (.ireturn, 1) := by decide +kernel
theorem d_HD_deliver_89 : decode b_HD_deliver 89 = .ok (.aload_n 3, 1) := by decide +kernel
theorem d_HD_deliver_90 : decode b_HD_deliver 90 = .ok (.instanceof 39, 3) := by decide +kernel
theorem d_HD_deliver_93 : decode b_HD_deliver 93 = .ok (.ifCond .eq 15, 3) := by decide +kernel
theorem d_HD_deliver_96 : decode b_HD_deliver 96 = .ok (.aload_n 0, 1) := by decide +kernel
theorem d_HD_deliver_97 : decode b_HD_deliver 97 = .ok (.aload_n 3, 1) := by decide +kernel
theorem d_HD_deliver_98 : decode b_HD_deliver 98 = .ok (.checkcast 39, 3) := by decide +kernel
theorem d_HD_deliver_101 : decode b_HD_deliver 101 = .ok (.aload_n 2, 1) := by decide +kernel
theorem d_HD_deliver_102 : decode b_HD_deliver 102 = .ok (.getfield 156, 3) := by decide +kernel
theorem d_HD_deliver_105 : decode b_HD_deliver 105 = .ok (.invokevirtual 183, 3) := by decide +kernel
theorem d_HD_deliver_108 : decode b_HD_deliver 108 = .ok (.aload_n 0, 1) := by decide +kernel
theorem d_HD_deliver_109 : decode b_HD_deliver 109 = .ok (.getfield 22, 3) := by decide +kernel
theorem d_HD_deliver_112 : decode b_HD_deliver 112 = .ok (.aload_n 2, 1) := by decide +kernel
theorem d_HD_deliver_113 : decode b_HD_deliver 113 = .ok (.invokevirtual 187, 3) := by decide +kernel
theorem d_HD_deliver_116 : decode b_HD_deliver 116 = .ok (.aload_n 0, 1) := by decide +kernel
theorem d_HD_deliver_117 : decode b_HD_deliver 117 = .ok (.getfield 22, 3) := by decide +kernel
theorem d_HD_deliver_120 : decode b_HD_deliver 120 = .ok (.getfield 191, 3) := by decide +kernel
theorem d_HD_deliver_123 : decode b_HD_deliver 123 = .ok (.ireturn, 1) := by decide +kernel
theorem d_HD_wake_0 : decode b_HD_wake 0 = .ok (.aload_n 0, 1) := by decide +kernel
theorem d_HD_wake_1 : decode b_HD_wake 1 = .ok (.getfield 35, 3) := by decide +kernel
theorem d_HD_wake_4 : decode b_HD_wake 4 = .ok (.aload_n 1, 1) := by decide +kernel
theorem d_HD_wake_5 : decode b_HD_wake 5 = .ok (.getfield 192, 3) := by decide +kernel
theorem d_HD_wake_8 : decode b_HD_wake 8 = .ok (.aaload, 1) := by decide +kernel
theorem d_HD_wake_9 : decode b_HD_wake 9 = .ok (.astore_n 3, 1) := by decide +kernel
theorem d_HD_wake_10 : decode b_HD_wake 10 = .ok (.aload_n 2, 1) := by decide +kernel
theorem d_HD_wake_11 : decode b_HD_wake 11 = .ok (.getstatic 194, 3) := by decide +kernel
theorem d_HD_wake_14 : decode b_HD_wake 14 = .ok (.if_acmp .ne 8, 3) := by decide +kernel
theorem d_HD_wake_17 : decode b_HD_wake 17 = .ok (.aload_n 3, 1) := by decide +kernel
theorem d_HD_wake_18 : decode b_HD_wake 18 = .ok (.iconst 0, 1) := by decide +kernel
theorem d_HD_wake_19 : decode b_HD_wake 19 = .ok (.putfield 100, 3) := by decide +kernel
theorem d_HD_wake_22 : decode b_HD_wake 22 = .ok (.aload_n 3, 1) := by decide +kernel
theorem d_HD_wake_23 : decode b_HD_wake 23 = .ok (.getfield 100, 3) := by decide +kernel
theorem d_HD_wake_26 : decode b_HD_wake 26 = .ok (.bipush 32, 2) := by decide +kernel
theorem d_HD_wake_28 : decode b_HD_wake 28 = .ok (.if_icmp .ne 19, 3) := by decide +kernel
theorem d_HD_wake_31 : decode b_HD_wake 31 = .ok (.aload_n 3, 1) := by decide +kernel
theorem d_HD_wake_32 : decode b_HD_wake 32 = .ok (.getfield 96, 3) := by decide +kernel
theorem d_HD_wake_35 : decode b_HD_wake 35 = .ok (.aload_n 3, 1) := by decide +kernel
theorem d_HD_wake_36 : decode b_HD_wake 36 = .ok (.getfield 103, 3) := by decide +kernel
theorem d_HD_wake_39 : decode b_HD_wake 39 = .ok (.iaload, 1) := by decide +kernel
theorem d_HD_wake_40 : decode b_HD_wake 40 = .ok (.aload_n 1, 1) := by decide +kernel
theorem d_HD_wake_41 : decode b_HD_wake 41 = .ok (.getfield 197, 3) := by decide +kernel
theorem d_HD_wake_44 : decode b_HD_wake 44 = .ok (.if_icmp .eq 4, 3) := by decide +kernel
theorem d_HD_wake_47 : decode b_HD_wake 47 = .ok (.return_, 1) := by decide +kernel
theorem d_HD_wake_48 : decode b_HD_wake 48 = .ok (.aload_n 0, 1) := by decide +kernel
theorem d_HD_wake_49 : decode b_HD_wake 49 = .ok (.getfield 13, 3) := by decide +kernel
theorem d_HD_wake_52 : decode b_HD_wake 52 = .ok (.aload_n 3, 1) := by decide +kernel
theorem d_HD_wake_53 : decode b_HD_wake 53 = .ok (.getfield 93, 3) := by decide +kernel
theorem d_HD_wake_56 : decode b_HD_wake 56 = .ok (.aload_n 3, 1) := by decide +kernel
theorem d_HD_wake_57 : decode b_HD_wake 57 = .ok (.getfield 103, 3) := by decide +kernel
theorem d_HD_wake_60 : decode b_HD_wake 60 = .ok (.baload, 1) := by decide +kernel
theorem d_HD_wake_61 : decode b_HD_wake 61 = .ok (.aaload, 1) := by decide +kernel
theorem d_HD_wake_62 : decode b_HD_wake 62 = .ok (.astore 4, 2) := by decide +kernel
theorem d_HD_wake_64 : decode b_HD_wake 64 = .ok (.aload_n 1, 1) := by decide +kernel
theorem d_HD_wake_65 : decode b_HD_wake 65 = .ok (.getfield 114, 3) := by decide +kernel
theorem d_HD_wake_68 : decode b_HD_wake 68 = .ok (.aload_n 0, 1) := by decide +kernel
theorem d_HD_wake_69 : decode b_HD_wake 69 = .ok (.getfield 29, 3) := by decide +kernel
theorem d_HD_wake_72 : decode b_HD_wake 72 = .ok (.getfield 118, 3) := by decide +kernel
theorem d_HD_wake_75 : decode b_HD_wake 75 = .ok (.if_acmp .eq 25, 3) := by decide +kernel
theorem d_HD_wake_78 : decode b_HD_wake 78 = .ok (.aload_n 1, 1) := by decide +kernel
theorem d_HD_wake_79 : decode b_HD_wake 79 = .ok (.getfield 114, 3) := by decide +kernel
theorem d_HD_wake_82 : decode b_HD_wake 82 = .ok (.aload_n 0, 1) := by decide +kernel
theorem d_HD_wake_83 : decode b_HD_wake 83 = .ok (.getfield 29, 3) := by decide +kernel
theorem d_HD_wake_86 : decode b_HD_wake 86 = .ok (.getfield 121, 3) := by decide +kernel
theorem d_HD_wake_89 : decode b_HD_wake 89 = .ok (.if_acmp .ne 24, 3) := by decide +kernel
theorem d_HD_wake_92 : decode b_HD_wake 92 = .ok (.aload 4, 2) := by decide +kernel
theorem d_HD_wake_94 : decode b_HD_wake 94 = .ok (.getstatic 124, 3) := by decide +kernel
theorem d_HD_wake_97 : decode b_HD_wake 97 = .ok (.if_acmp .ne 16, 3) := by decide +kernel
theorem d_HD_wake_100 : decode b_HD_wake 100 = .ok (.aload_n 3, 1) := by decide +kernel
theorem d_HD_wake_101 : decode b_HD_wake 101 = .ok (.iconst 0, 1) := by decide +kernel
theorem d_HD_wake_102 : decode b_HD_wake 102 = .ok (.putfield 100, 3) := by decide +kernel
theorem d_HD_wake_105 : decode b_HD_wake 105 = .ok (.aload_n 0, 1) := by decide +kernel
theorem d_HD_wake_106 : decode b_HD_wake 106 = .ok (.aload_n 3, 1) := by decide +kernel
theorem d_HD_wake_107 : decode b_HD_wake 107 = .ok (.aload 4, 2) := by decide +kernel
theorem d_HD_wake_109 : decode b_HD_wake 109 = .ok (.aload_n 1, 1) := by decide +kernel
theorem d_HD_wake_110 : decode b_HD_wake 110 = .ok (.invokevirtual 127, 3) := by decide +kernel
theorem d_HD_wake_113 : decode b_HD_wake 113 = .ok (.return_, 1) := by decide +kernel
theorem d_HD_messages_0 : decode b_HD_messages 0 = .ok (.aload_n 0, 1) := by decide +kernel
theorem d_HD_messages_1 : decode b_HD_messages 1 = .ok (.getfield 22, 3) := by decide +kernel
theorem d_HD_messages_4 : decode b_HD_messages 4 = .ok (.getfield 191, 3) := by decide +kernel
theorem d_HD_messages_7 : decode b_HD_messages 7 = .ok (.ireturn, 1) := by decide +kernel
theorem d_HD_message_0 : decode b_HD_message 0 = .ok (.aload_n 0, 1) := by decide +kernel
theorem d_HD_message_1 : decode b_HD_message 1 = .ok (.getfield 22, 3) := by decide +kernel
theorem d_HD_message_4 : decode b_HD_message 4 = .ok (.iload_n 1, 1) := by decide +kernel
theorem d_HD_message_5 : decode b_HD_message 5 = .ok (.invokevirtual 152, 3) := by decide +kernel
theorem d_HD_message_8 : decode b_HD_message 8 = .ok (.astore_n 3, 1) := by decide +kernel
theorem d_HD_message_9 : decode b_HD_message 9 = .ok (.aload_n 3, 1) := by decide +kernel
theorem d_HD_message_10 : decode b_HD_message 10 = .ok (.ifnonnull 5, 3) := by decide +kernel
theorem d_HD_message_13 : decode b_HD_message 13 = .ok (.iconst (-1), 1) := by decide +kernel
theorem d_HD_message_14 : decode b_HD_message 14 = .ok (.ireturn, 1) := by decide +kernel
theorem d_HD_message_15 : decode b_HD_message 15 = .ok (.iload_n 2, 1) := by decide +kernel
theorem d_HD_message_16 : decode b_HD_message 16 = .ok (.tableswitch 82 0 6 #[44, 52, 57, 62, 67, 72, 77], 44) := by decide +kernel
theorem d_HD_message_60 : decode b_HD_message 60 = .ok (.aload_n 3, 1) := by decide +kernel
theorem d_HD_message_61 : decode b_HD_message 61 = .ok (.getfield 156, 3) := by decide +kernel
theorem d_HD_message_64 : decode b_HD_message 64 = .ok (.invokevirtual 198, 3) := by decide +kernel
theorem d_HD_message_67 : decode b_HD_message 67 = .ok (.ireturn, 1) := by decide +kernel
theorem d_HD_message_68 : decode b_HD_message 68 = .ok (.aload_n 3, 1) := by decide +kernel
theorem d_HD_message_69 : decode b_HD_message 69 = .ok (.getfield 202, 3) := by decide +kernel
theorem d_HD_message_72 : decode b_HD_message 72 = .ok (.ireturn, 1) := by decide +kernel
theorem d_HD_message_73 : decode b_HD_message 73 = .ok (.aload_n 3, 1) := by decide +kernel
theorem d_HD_message_74 : decode b_HD_message 74 = .ok (.getfield 172, 3) := by decide +kernel
theorem d_HD_message_77 : decode b_HD_message 77 = .ok (.ireturn, 1) := by decide +kernel
theorem d_HD_message_78 : decode b_HD_message 78 = .ok (.aload_n 3, 1) := by decide +kernel
theorem d_HD_message_79 : decode b_HD_message 79 = .ok (.getfield 175, 3) := by decide +kernel
theorem d_HD_message_82 : decode b_HD_message 82 = .ok (.ireturn, 1) := by decide +kernel
theorem d_HD_message_83 : decode b_HD_message 83 = .ok (.aload_n 3, 1) := by decide +kernel
theorem d_HD_message_84 : decode b_HD_message 84 = .ok (.getfield 205, 3) := by decide +kernel
theorem d_HD_message_87 : decode b_HD_message 87 = .ok (.ireturn, 1) := by decide +kernel
theorem d_HD_message_88 : decode b_HD_message 88 = .ok (.aload_n 3, 1) := by decide +kernel
theorem d_HD_message_89 : decode b_HD_message 89 = .ok (.getfield 208, 3) := by decide +kernel
theorem d_HD_message_92 : decode b_HD_message 92 = .ok (.ireturn, 1) := by decide +kernel
theorem d_HD_message_93 : decode b_HD_message 93 = .ok (.aload_n 3, 1) := by decide +kernel
theorem d_HD_message_94 : decode b_HD_message 94 = .ok (.getfield 211, 3) := by decide +kernel
theorem d_HD_message_97 : decode b_HD_message 97 = .ok (.ireturn, 1) := by decide +kernel
theorem d_HD_message_98 : decode b_HD_message 98 = .ok (.iconst (-1), 1) := by decide +kernel
theorem d_HD_message_99 : decode b_HD_message 99 = .ok (.ireturn, 1) := by decide +kernel
theorem d_HD_lineOf_0 : decode b_HD_lineOf 0 = .ok (.aload_n 0, 1) := by decide +kernel
theorem d_HD_lineOf_1 : decode b_HD_lineOf 1 = .ok (.iload_n 1, 1) := by decide +kernel
theorem d_HD_lineOf_2 : decode b_HD_lineOf 2 = .ok (.invokevirtual 74, 3) := by decide +kernel
theorem d_HD_lineOf_5 : decode b_HD_lineOf 5 = .ok (.ifnull 10, 3) := by decide +kernel
theorem d_HD_lineOf_8 : decode b_HD_lineOf 8 = .ok (.iload_n 2, 1) := by decide +kernel
theorem d_HD_lineOf_9 : decode b_HD_lineOf 9 = .ok (.invokestatic 85, 3) := by decide +kernel
theorem d_HD_lineOf_12 : decode b_HD_lineOf 12 = .ok (.ifCond .ne 7, 3) := by decide +kernel
theorem d_HD_lineOf_15 : decode b_HD_lineOf 15 = .ok (.aconst_null, 1) := by decide +kernel
theorem d_HD_lineOf_16 : decode b_HD_lineOf 16 = .ok (.goto 13, 3) := by decide +kernel
theorem d_HD_lineOf_19 : decode b_HD_lineOf 19 = .ok (.aload_n 0, 1) := by decide +kernel
theorem d_HD_lineOf_20 : decode b_HD_lineOf 20 = .ok (.getfield 41, 3) := by decide +kernel
theorem d_HD_lineOf_23 : decode b_HD_lineOf 23 = .ok (.iconst 4, 1) := by decide +kernel
theorem d_HD_lineOf_24 : decode b_HD_lineOf 24 = .ok (.iload_n 1, 1) := by decide +kernel
theorem d_HD_lineOf_25 : decode b_HD_lineOf 25 = .ok (.imul, 1) := by decide +kernel
theorem d_HD_lineOf_26 : decode b_HD_lineOf 26 = .ok (.iload_n 2, 1) := by decide +kernel
theorem d_HD_lineOf_27 : decode b_HD_lineOf 27 = .ok (.iadd, 1) := by decide +kernel
theorem d_HD_lineOf_28 : decode b_HD_lineOf 28 = .ok (.aaload, 1) := by decide +kernel
theorem d_HD_lineOf_29 : decode b_HD_lineOf 29 = .ok (.areturn, 1) := by decide +kernel
theorem d_HD_line_0 : decode b_HD_line 0 = .ok (.aload_n 0, 1) := by decide +kernel
theorem d_HD_line_1 : decode b_HD_line 1 = .ok (.iload_n 1, 1) := by decide +kernel
theorem d_HD_line_2 : decode b_HD_line 2 = .ok (.iload_n 2, 1) := by decide +kernel
theorem d_HD_line_3 : decode b_HD_line 3 = .ok (.invokevirtual 214, 3) := by decide +kernel
theorem d_HD_line_6 : decode b_HD_line 6 = .ok (.astore_n 3, 1) := by decide +kernel
theorem d_HD_line_7 : decode b_HD_line 7 = .ok (.aload_n 3, 1) := by decide +kernel
theorem d_HD_line_8 : decode b_HD_line 8 = .ok (.ifnonnull 7, 3) := by decide +kernel
theorem d_HD_line_11 : decode b_HD_line 11 = .ok (.iconst (-1), 1) := by decide +kernel
theorem d_HD_line_12 : decode b_HD_line 12 = .ok (.goto 10, 3) := by decide +kernel
theorem d_HD_line_15 : decode b_HD_line 15 = .ok (.aload_n 3, 1) := by decide +kernel
theorem d_HD_line_16 : decode b_HD_line 16 = .ok (.getfield 114, 3) := by decide +kernel
theorem d_HD_line_19 : decode b_HD_line 19 = .ok (.getfield 218, 3) := by decide +kernel
theorem d_HD_line_22 : decode b_HD_line 22 = .ok (.ireturn, 1) := by decide +kernel
theorem d_HD_word_0 : decode b_HD_word 0 = .ok (.aload_n 0, 1) := by decide +kernel
theorem d_HD_word_1 : decode b_HD_word 1 = .ok (.iload_n 1, 1) := by decide +kernel
theorem d_HD_word_2 : decode b_HD_word 2 = .ok (.iload_n 2, 1) := by decide +kernel
theorem d_HD_word_3 : decode b_HD_word 3 = .ok (.invokevirtual 214, 3) := by decide +kernel
theorem d_HD_word_6 : decode b_HD_word 6 = .ok (.astore_n 3, 1) := by decide +kernel
theorem d_HD_word_7 : decode b_HD_word 7 = .ok (.aload_n 3, 1) := by decide +kernel
theorem d_HD_word_8 : decode b_HD_word 8 = .ok (.ifnull 13, 3) := by decide +kernel
theorem d_HD_word_11 : decode b_HD_word 11 = .ok (.aload_n 3, 1) := by decide +kernel
theorem d_HD_word_12 : decode b_HD_word 12 = .ok (.getfield 114, 3) := by decide +kernel
theorem d_HD_word_15 : decode b_HD_word 15 = .ok (.getfield 223, 3) := by decide +kernel
theorem d_HD_word_18 : decode b_HD_word 18 = .ok (.ifCond .ne 7, 3) := by decide +kernel
theorem d_HD_word_21 : decode b_HD_word 21 = .ok (.iconst 0, 1) := by decide +kernel
theorem d_HD_word_22 : decode b_HD_word 22 = .ok (.goto 7, 3) := by decide +kernel
theorem d_HD_word_25 : decode b_HD_word 25 = .ok (.aload_n 3, 1) := by decide +kernel
theorem d_HD_word_26 : decode b_HD_word 26 = .ok (.getfield 226, 3) := by decide +kernel
theorem d_HD_word_29 : decode b_HD_word 29 = .ok (.ireturn, 1) := by decide +kernel
theorem d_HD_home_0 : decode b_HD_home 0 = .ok (.iload_n 1, 1) := by decide +kernel
theorem d_HD_home_1 : decode b_HD_home 1 = .ok (.invokestatic 85, 3) := by decide +kernel
theorem d_HD_home_4 : decode b_HD_home 4 = .ok (.ifCond .ne 5, 3) := by decide +kernel
theorem d_HD_home_7 : decode b_HD_home 7 = .ok (.iconst (-1), 1) := by decide +kernel
theorem d_HD_home_8 : decode b_HD_home 8 = .ok (.ireturn, 1) := by decide +kernel
theorem d_HD_home_9 : decode b_HD_home 9 = .ok (.aload_n 0, 1) := by decide +kernel
theorem d_HD_home_10 : decode b_HD_home 10 = .ok (.getfield 47, 3) := by decide +kernel
theorem d_HD_home_13 : decode b_HD_home 13 = .ok (.iload_n 1, 1) := by decide +kernel
theorem d_HD_home_14 : decode b_HD_home 14 = .ok (.aaload, 1) := by decide +kernel
theorem d_HD_home_15 : decode b_HD_home 15 = .ok (.astore_n 2, 1) := by decide +kernel
theorem d_HD_home_16 : decode b_HD_home 16 = .ok (.aload_n 2, 1) := by decide +kernel
theorem d_HD_home_17 : decode b_HD_home 17 = .ok (.getfield 227, 3) := by decide +kernel
theorem d_HD_home_20 : decode b_HD_home 20 = .ok (.invokevirtual 231, 3) := by decide +kernel
theorem d_HD_home_23 : decode b_HD_home 23 = .ok (.iconst 4, 1) := by decide +kernel
theorem d_HD_home_24 : decode b_HD_home 24 = .ok (.aload_n 2, 1) := by decide +kernel
theorem d_HD_home_25 : decode b_HD_home 25 = .ok (.getfield 234, 3) := by decide +kernel
theorem d_HD_home_28 : decode b_HD_home 28 = .ok (.iconst 1, 1) := by decide +kernel
theorem d_HD_home_29 : decode b_HD_home 29 = .ok (.iadd, 1) := by decide +kernel
theorem d_HD_home_30 : decode b_HD_home 30 = .ok (.imul, 1) := by decide +kernel
theorem d_HD_home_31 : decode b_HD_home 31 = .ok (.iadd, 1) := by decide +kernel
theorem d_HD_home_32 : decode b_HD_home 32 = .ok (.bipush 32, 2) := by decide +kernel
theorem d_HD_home_34 : decode b_HD_home 34 = .ok (.aload_n 2, 1) := by decide +kernel
theorem d_HD_home_35 : decode b_HD_home 35 = .ok (.getfield 237, 3) := by decide +kernel
theorem d_HD_home_38 : decode b_HD_home 38 = .ok (.imul, 1) := by decide +kernel
theorem d_HD_home_39 : decode b_HD_home 39 = .ok (.iadd, 1) := by decide +kernel
theorem d_HD_home_40 : decode b_HD_home 40 = .ok (.ireturn, 1) := by decide +kernel
theorem d_HD_memory_0 : decode b_HD_memory 0 = .ok (.iload_n 1, 1) := by decide +kernel
theorem d_HD_memory_1 : decode b_HD_memory 1 = .ok (.invokestatic 85, 3) := by decide +kernel
theorem d_HD_memory_4 : decode b_HD_memory 4 = .ok (.ifCond .eq 15, 3) := by decide +kernel
theorem d_HD_memory_7 : decode b_HD_memory 7 = .ok (.aload_n 0, 1) := by decide +kernel
theorem d_HD_memory_8 : decode b_HD_memory 8 = .ok (.getfield 47, 3) := by decide +kernel
theorem d_HD_memory_11 : decode b_HD_memory 11 = .ok (.iload_n 1, 1) := by decide +kernel
theorem d_HD_memory_12 : decode b_HD_memory 12 = .ok (.aaload, 1) := by decide +kernel
theorem d_HD_memory_13 : decode b_HD_memory 13 = .ok (.getfield 240, 3) := by decide +kernel
theorem d_HD_memory_16 : decode b_HD_memory 16 = .ok (.goto 4, 3) := by decide +kernel
theorem d_HD_memory_19 : decode b_HD_memory 19 = .ok (.iconst 0, 1) := by decide +kernel
theorem d_HD_memory_20 : decode b_HD_memory 20 = .ok (.ireturn, 1) := by decide +kernel
theorem d_HD_accumulator_0 : decode b_HD_accumulator 0 = .ok (.aload_n 0, 1) := by decide +kernel
theorem d_HD_accumulator_1 : decode b_HD_accumulator 1 = .ok (.iload_n 1, 1) := by decide +kernel
theorem d_HD_accumulator_2 : decode b_HD_accumulator 2 = .ok (.invokevirtual 74, 3) := by decide +kernel
theorem d_HD_accumulator_5 : decode b_HD_accumulator 5 = .ok (.astore_n 2, 1) := by decide +kernel
theorem d_HD_accumulator_6 : decode b_HD_accumulator 6 = .ok (.aload_n 2, 1) := by decide +kernel
theorem d_HD_accumulator_7 : decode b_HD_accumulator 7 = .ok (.ifnonnull 7, 3) := by decide +kernel
theorem d_HD_accumulator_10 : decode b_HD_accumulator 10 = .ok (.iconst 0, 1) := by decide +kernel
theorem d_HD_accumulator_11 : decode b_HD_accumulator 11 = .ok (.goto 7, 3) := by decide +kernel
theorem d_HD_accumulator_14 : decode b_HD_accumulator 14 = .ok (.aload_n 2, 1) := by decide +kernel
theorem d_HD_accumulator_15 : decode b_HD_accumulator 15 = .ok (.getfield 243, 3) := by decide +kernel
theorem d_HD_accumulator_18 : decode b_HD_accumulator 18 = .ok (.ireturn, 1) := by decide +kernel
theorem d_HD_place_0 : decode b_HD_place 0 = .ok (.aload_n 0, 1) := by decide +kernel
theorem d_HD_place_1 : decode b_HD_place 1 = .ok (.iload_n 1, 1) := by decide +kernel
theorem d_HD_place_2 : decode b_HD_place 2 = .ok (.invokevirtual 74, 3) := by decide +kernel
theorem d_HD_place_5 : decode b_HD_place 5 = .ok (.astore_n 2, 1) := by decide +kernel
theorem d_HD_place_6 : decode b_HD_place 6 = .ok (.aload_n 2, 1) := by decide +kernel
theorem d_HD_place_7 : decode b_HD_place 7 = .ok (.ifnonnull 7, 3) := by decide +kernel
theorem d_HD_place_10 : decode b_HD_place 10 = .ok (.iconst (-1), 1) := by decide +kernel
theorem d_HD_place_11 : decode b_HD_place 11 = .ok (.goto 12, 3) := by decide +kernel
theorem d_HD_place_14 : decode b_HD_place 14 = .ok (.aload_n 2, 1) := by decide +kernel
theorem d_HD_place_15 : decode b_HD_place 15 = .ok (.getfield 103, 3) := by decide +kernel
theorem d_HD_place_18 : decode b_HD_place 18 = .ok (.aload_n 2, 1) := by decide +kernel
theorem d_HD_place_19 : decode b_HD_place 19 = .ok (.getfield 100, 3) := by decide +kernel
theorem d_HD_place_22 : decode b_HD_place 22 = .ok (.iadd, 1) := by decide +kernel
theorem d_HD_place_23 : decode b_HD_place 23 = .ok (.ireturn, 1) := by decide +kernel
theorem d_HD_sent_0 : decode b_HD_sent 0 = .ok (.aload_n 0, 1) := by decide +kernel
theorem d_HD_sent_1 : decode b_HD_sent 1 = .ok (.getfield 22, 3) := by decide +kernel
theorem d_HD_sent_4 : decode b_HD_sent 4 = .ok (.getfield 246, 3) := by decide +kernel
theorem d_HD_sent_7 : decode b_HD_sent 7 = .ok (.ireturn, 1) := by decide +kernel
theorem d_HD_performed_0 : decode b_HD_performed 0 = .ok (.aload_n 0, 1) := by decide +kernel
theorem d_HD_performed_1 : decode b_HD_performed 1 = .ok (.getfield 149, 3) := by decide +kernel
theorem d_HD_performed_4 : decode b_HD_performed 4 = .ok (.ireturn, 1) := by decide +kernel
theorem d_Chart_init_0 : decode b_Chart_init 0 = .ok (.aload_n 0, 1) := by decide +kernel
theorem d_Chart_init_1 : decode b_Chart_init 1 = .ok (.invokespecial 1, 3) := by decide +kernel
theorem d_Chart_init_4 : decode b_Chart_init 4 = .ok (.aload_n 0, 1) := by decide +kernel
theorem d_Chart_init_5 : decode b_Chart_init 5 = .ok (.new 7, 3) := by decide +kernel
theorem d_Chart_init_8 : decode b_Chart_init 8 = .ok (.dup, 1) := by decide +kernel
theorem d_Chart_init_9 : decode b_Chart_init 9 = .ok (.iconst 0, 1) := by decide +kernel
theorem d_Chart_init_10 : decode b_Chart_init 10 = .ok (.invokespecial 9, 3) := by decide +kernel
theorem d_Chart_init_13 : decode b_Chart_init 13 = .ok (.putfield 12, 3) := by decide +kernel
theorem d_Chart_init_16 : decode b_Chart_init 16 = .ok (.aload_n 0, 1) := by decide +kernel
theorem d_Chart_init_17 : decode b_Chart_init 17 = .ok (.new 18, 3) := by decide +kernel
theorem d_Chart_init_20 : decode b_Chart_init 20 = .ok (.dup, 1) := by decide +kernel
theorem d_Chart_init_21 : decode b_Chart_init 21 = .ok (.iconst 1, 1) := by decide +kernel
theorem d_Chart_init_22 : decode b_Chart_init 22 = .ok (.invokespecial 20, 3) := by decide +kernel
theorem d_Chart_init_25 : decode b_Chart_init 25 = .ok (.putfield 21, 3) := by decide +kernel
theorem d_Chart_init_28 : decode b_Chart_init 28 = .ok (.aload_n 0, 1) := by decide +kernel
theorem d_Chart_init_29 : decode b_Chart_init 29 = .ok (.new 24, 3) := by decide +kernel
theorem d_Chart_init_32 : decode b_Chart_init 32 = .ok (.dup, 1) := by decide +kernel
theorem d_Chart_init_33 : decode b_Chart_init 33 = .ok (.iconst 2, 1) := by decide +kernel
theorem d_Chart_init_34 : decode b_Chart_init 34 = .ok (.invokespecial 26, 3) := by decide +kernel
theorem d_Chart_init_37 : decode b_Chart_init 37 = .ok (.putfield 27, 3) := by decide +kernel
theorem d_Chart_init_40 : decode b_Chart_init 40 = .ok (.aload_n 0, 1) := by decide +kernel
theorem d_Chart_init_41 : decode b_Chart_init 41 = .ok (.new 30, 3) := by decide +kernel
theorem d_Chart_init_44 : decode b_Chart_init 44 = .ok (.dup, 1) := by decide +kernel
theorem d_Chart_init_45 : decode b_Chart_init 45 = .ok (.invokespecial 32, 3) := by decide +kernel
theorem d_Chart_init_48 : decode b_Chart_init 48 = .ok (.putfield 33, 3) := by decide +kernel
theorem d_Chart_init_51 : decode b_Chart_init 51 = .ok (.aload_n 0, 1) := by decide +kernel
theorem d_Chart_init_52 : decode b_Chart_init 52 = .ok (.new 36, 3) := by decide +kernel
theorem d_Chart_init_55 : decode b_Chart_init 55 = .ok (.dup, 1) := by decide +kernel
theorem d_Chart_init_56 : decode b_Chart_init 56 = .ok (.iconst 4, 1) := by decide +kernel
theorem d_Chart_init_57 : decode b_Chart_init 57 = .ok (.iconst 0, 1) := by decide +kernel
theorem d_Chart_init_58 : decode b_Chart_init 58 = .ok (.iconst 0, 1) := by decide +kernel
theorem d_Chart_init_59 : decode b_Chart_init 59 = .ok (.invokespecial 38, 3) := by decide +kernel
theorem d_Chart_init_62 : decode b_Chart_init 62 = .ok (.putfield 41, 3) := by decide +kernel
theorem d_Chart_init_65 : decode b_Chart_init 65 = .ok (.aload_n 0, 1) := by decide +kernel
theorem d_Chart_init_66 : decode b_Chart_init 66 = .ok (.new 36, 3) := by decide +kernel
theorem d_Chart_init_69 : decode b_Chart_init 69 = .ok (.dup, 1) := by decide +kernel
theorem d_Chart_init_70 : decode b_Chart_init 70 = .ok (.iconst 5, 1) := by decide +kernel
theorem d_Chart_init_71 : decode b_Chart_init 71 = .ok (.iconst 0, 1) := by decide +kernel
theorem d_Chart_init_72 : decode b_Chart_init 72 = .ok (.iconst 1, 1) := by decide +kernel
theorem d_Chart_init_73 : decode b_Chart_init 73 = .ok (.invokespecial 38, 3) := by decide +kernel
theorem d_Chart_init_76 : decode b_Chart_init 76 = .ok (.putfield 44, 3) := by decide +kernel
theorem d_Chart_init_79 : decode b_Chart_init 79 = .ok (.aload_n 0, 1) := by decide +kernel
theorem d_Chart_init_80 : decode b_Chart_init 80 = .ok (.new 36, 3) := by decide +kernel
theorem d_Chart_init_83 : decode b_Chart_init 83 = .ok (.dup, 1) := by decide +kernel
theorem d_Chart_init_84 : decode b_Chart_init 84 = .ok (.bipush 6, 2) := by decide +kernel
theorem d_Chart_init_86 : decode b_Chart_init 86 = .ok (.iconst 1, 1) := by decide +kernel
theorem d_Chart_init_87 : decode b_Chart_init 87 = .ok (.iconst 0, 1) := by decide +kernel
theorem d_Chart_init_88 : decode b_Chart_init 88 = .ok (.invokespecial 38, 3) := by decide +kernel
theorem d_Chart_init_91 : decode b_Chart_init 91 = .ok (.putfield 47, 3) := by decide +kernel
theorem d_Chart_init_94 : decode b_Chart_init 94 = .ok (.aload_n 0, 1) := by decide +kernel
theorem d_Chart_init_95 : decode b_Chart_init 95 = .ok (.new 36, 3) := by decide +kernel
theorem d_Chart_init_98 : decode b_Chart_init 98 = .ok (.dup, 1) := by decide +kernel
theorem d_Chart_init_99 : decode b_Chart_init 99 = .ok (.bipush 7, 2) := by decide +kernel
theorem d_Chart_init_101 : decode b_Chart_init 101 = .ok (.iconst 1, 1) := by decide +kernel
theorem d_Chart_init_102 : decode b_Chart_init 102 = .ok (.iconst 1, 1) := by decide +kernel
theorem d_Chart_init_103 : decode b_Chart_init 103 = .ok (.invokespecial 38, 3) := by decide +kernel
theorem d_Chart_init_106 : decode b_Chart_init 106 = .ok (.putfield 50, 3) := by decide +kernel
theorem d_Chart_init_109 : decode b_Chart_init 109 = .ok (.aload_n 0, 1) := by decide +kernel
theorem d_Chart_init_110 : decode b_Chart_init 110 = .ok (.new 24, 3) := by decide +kernel
theorem d_Chart_init_113 : decode b_Chart_init 113 = .ok (.dup, 1) := by decide +kernel
theorem d_Chart_init_114 : decode b_Chart_init 114 = .ok (.bipush 8, 2) := by decide +kernel
theorem d_Chart_init_116 : decode b_Chart_init 116 = .ok (.invokespecial 26, 3) := by decide +kernel
theorem d_Chart_init_119 : decode b_Chart_init 119 = .ok (.putfield 53, 3) := by decide +kernel
theorem d_Chart_init_122 : decode b_Chart_init 122 = .ok (.aload_n 0, 1) := by decide +kernel
theorem d_Chart_init_123 : decode b_Chart_init 123 = .ok (.new 18, 3) := by decide +kernel
theorem d_Chart_init_126 : decode b_Chart_init 126 = .ok (.dup, 1) := by decide +kernel
theorem d_Chart_init_127 : decode b_Chart_init 127 = .ok (.bipush 9, 2) := by decide +kernel
theorem d_Chart_init_129 : decode b_Chart_init 129 = .ok (.invokespecial 20, 3) := by decide +kernel
theorem d_Chart_init_132 : decode b_Chart_init 132 = .ok (.putfield 56, 3) := by decide +kernel
theorem d_Chart_init_135 : decode b_Chart_init 135 = .ok (.aload_n 0, 1) := by decide +kernel
theorem d_Chart_init_136 : decode b_Chart_init 136 = .ok (.new 7, 3) := by decide +kernel
theorem d_Chart_init_139 : decode b_Chart_init 139 = .ok (.dup, 1) := by decide +kernel
theorem d_Chart_init_140 : decode b_Chart_init 140 = .ok (.bipush 10, 2) := by decide +kernel
theorem d_Chart_init_142 : decode b_Chart_init 142 = .ok (.invokespecial 9, 3) := by decide +kernel
theorem d_Chart_init_145 : decode b_Chart_init 145 = .ok (.putfield 59, 3) := by decide +kernel
theorem d_Chart_init_148 : decode b_Chart_init 148 = .ok (.return_, 1) := by decide +kernel
theorem d_Core_init_0 : decode b_Core_init 0 = .ok (.aload_n 0, 1) := by decide +kernel
theorem d_Core_init_1 : decode b_Core_init 1 = .ok (.invokespecial 1, 3) := by decide +kernel
theorem d_Core_init_4 : decode b_Core_init 4 = .ok (.aload_n 0, 1) := by decide +kernel
theorem d_Core_init_5 : decode b_Core_init 5 = .ok (.bipush 16, 2) := by decide +kernel
theorem d_Core_init_7 : decode b_Core_init 7 = .ok (.newarray .byte, 2) := by decide +kernel
theorem d_Core_init_9 : decode b_Core_init 9 = .ok (.putfield 7, 3) := by decide +kernel
theorem d_Core_init_12 : decode b_Core_init 12 = .ok (.aload_n 0, 1) := by decide +kernel
theorem d_Core_init_13 : decode b_Core_init 13 = .ok (.bipush 16, 2) := by decide +kernel
theorem d_Core_init_15 : decode b_Core_init 15 = .ok (.newarray .int, 2) := by decide +kernel
theorem d_Core_init_17 : decode b_Core_init 17 = .ok (.putfield 13, 3) := by decide +kernel
theorem d_Core_init_20 : decode b_Core_init 20 = .ok (.return_, 1) := by decide +kernel
theorem d_Core_compute_0 : decode b_Core_compute 0 = .ok (.aload_n 1, 1) := by decide +kernel
theorem d_Core_compute_1 : decode b_Core_compute 1 = .ok (.getstatic 17, 3) := by decide +kernel
theorem d_Core_compute_4 : decode b_Core_compute 4 = .ok (.if_acmp .ne 14, 3) := by decide +kernel
theorem d_Core_compute_7 : decode b_Core_compute 7 = .ok (.aload_n 0, 1) := by decide +kernel
theorem d_Core_compute_8 : decode b_Core_compute 8 = .ok (.getfield 23, 3) := by decide +kernel
theorem d_Core_compute_11 : decode b_Core_compute 11 = .ok (.ifCond .eq 7, 3) := by decide +kernel
theorem d_Core_compute_14 : decode b_Core_compute 14 = .ok (.iconst 1, 1) := by decide +kernel
theorem d_Core_compute_15 : decode b_Core_compute 15 = .ok (.goto 4, 3) := by decide +kernel
theorem d_Core_compute_18 : decode b_Core_compute 18 = .ok (.iconst 0, 1) := by decide +kernel
theorem d_Core_compute_19 : decode b_Core_compute 19 = .ok (.istore_n 3, 1) := by decide +kernel
theorem d_Core_compute_20 : decode b_Core_compute 20 = .ok (.aload_n 0, 1) := by decide +kernel
theorem d_Core_compute_21 : decode b_Core_compute 21 = .ok (.aload_n 1, 1) := by decide +kernel
theorem d_Core_compute_22 : decode b_Core_compute 22 = .ok (.getstatic 27, 3) := by decide +kernel
theorem d_Core_compute_25 : decode b_Core_compute 25 = .ok (.if_acmp .ne 12, 3) := by decide +kernel
theorem d_Core_compute_28 : decode b_Core_compute 28 = .ok (.aload_n 0, 1) := by decide +kernel
theorem d_Core_compute_29 : decode b_Core_compute 29 = .ok (.getfield 23, 3) := by decide +kernel
theorem d_Core_compute_32 : decode b_Core_compute 32 = .ok (.iload_n 2, 1) := by decide +kernel
theorem d_Core_compute_33 : decode b_Core_compute 33 = .ok (.iadd, 1) := by decide +kernel
theorem d_Core_compute_34 : decode b_Core_compute 34 = .ok (.goto 18, 3) := by decide +kernel
theorem d_Core_compute_37 : decode b_Core_compute 37 = .ok (.aload_n 1, 1) := by decide +kernel
theorem d_Core_compute_38 : decode b_Core_compute 38 = .ok (.getstatic 30, 3) := by decide +kernel
theorem d_Core_compute_41 : decode b_Core_compute 41 = .ok (.if_acmp .ne 7, 3) := by decide +kernel
theorem d_Core_compute_44 : decode b_Core_compute 44 = .ok (.iload_n 2, 1) := by decide +kernel
theorem d_Core_compute_45 : decode b_Core_compute 45 = .ok (.goto 7, 3) := by decide +kernel
theorem d_Core_compute_48 : decode b_Core_compute 48 = .ok (.aload_n 0, 1) := by decide +kernel
theorem d_Core_compute_49 : decode b_Core_compute 49 = .ok (.getfield 23, 3) := by decide +kernel
theorem d_Core_compute_52 : decode b_Core_compute 52 = .ok (.putfield 23, 3) := by decide +kernel
theorem d_Core_compute_55 : decode b_Core_compute 55 = .ok (.aload_n 0, 1) := by decide +kernel
theorem d_Core_compute_56 : decode b_Core_compute 56 = .ok (.iload_n 3, 1) := by decide +kernel
theorem d_Core_compute_57 : decode b_Core_compute 57 = .ok (.ifCond .eq 7, 3) := by decide +kernel
theorem d_Core_compute_60 : decode b_Core_compute 60 = .ok (.iload_n 2, 1) := by decide +kernel
theorem d_Core_compute_61 : decode b_Core_compute 61 = .ok (.goto 9, 3) := by decide +kernel
theorem d_Core_compute_64 : decode b_Core_compute 64 = .ok (.aload_n 0, 1) := by decide +kernel
theorem d_Core_compute_65 : decode b_Core_compute 65 = .ok (.getfield 33, 3) := by decide +kernel
theorem d_Core_compute_68 : decode b_Core_compute 68 = .ok (.iconst 1, 1) := by decide +kernel
theorem d_Core_compute_69 : decode b_Core_compute 69 = .ok (.iadd, 1) := by decide +kernel
theorem d_Core_compute_70 : decode b_Core_compute 70 = .ok (.putfield 33, 3) := by decide +kernel
theorem d_Core_compute_73 : decode b_Core_compute 73 = .ok (.return_, 1) := by decide +kernel
theorem d_Core_perform_0 : decode b_Core_perform 0 = .ok (.aload_n 2, 1) := by decide +kernel
theorem d_Core_perform_1 : decode b_Core_perform 1 = .ok (.getfield 36, 3) := by decide +kernel
theorem d_Core_perform_4 : decode b_Core_perform 4 = .ok (.istore_n 3, 1) := by decide +kernel
theorem d_Core_perform_5 : decode b_Core_perform 5 = .ok (.aload_n 1, 1) := by decide +kernel
theorem d_Core_perform_6 : decode b_Core_perform 6 = .ok (.getstatic 41, 3) := by decide +kernel
theorem d_Core_perform_9 : decode b_Core_perform 9 = .ok (.if_acmp .eq 11, 3) := by decide +kernel
theorem d_Core_perform_12 : decode b_Core_perform 12 = .ok (.aload_n 2, 1) := by decide +kernel
theorem d_Core_perform_13 : decode b_Core_perform 13 = .ok (.aload_n 0, 1) := by decide +kernel
theorem d_Core_perform_14 : decode b_Core_perform 14 = .ok (.getfield 23, 3) := by decide +kernel
theorem d_Core_perform_17 : decode b_Core_perform 17 = .ok (.putfield 36, 3) := by decide +kernel
theorem d_Core_perform_20 : decode b_Core_perform 20 = .ok (.aload_n 1, 1) := by decide +kernel
theorem d_Core_perform_21 : decode b_Core_perform 21 = .ok (.getstatic 44, 3) := by decide +kernel
theorem d_Core_perform_24 : decode b_Core_perform 24 = .ok (.if_acmp .eq 8, 3) := by decide +kernel
theorem d_Core_perform_27 : decode b_Core_perform 27 = .ok (.aload_n 0, 1) := by decide +kernel
theorem d_Core_perform_28 : decode b_Core_perform 28 = .ok (.iload_n 3, 1) := by decide +kernel
theorem d_Core_perform_29 : decode b_Core_perform 29 = .ok (.putfield 23, 3) := by decide +kernel
theorem d_Core_perform_32 : decode b_Core_perform 32 = .ok (.aload_n 0, 1) := by decide +kernel
theorem d_Core_perform_33 : decode b_Core_perform 33 = .ok (.dup, 1) := by decide +kernel
theorem d_Core_perform_34 : decode b_Core_perform 34 = .ok (.getfield 33, 3) := by decide +kernel
theorem d_Core_perform_37 : decode b_Core_perform 37 = .ok (.iconst 1, 1) := by decide +kernel
theorem d_Core_perform_38 : decode b_Core_perform 38 = .ok (.iadd, 1) := by decide +kernel
theorem d_Core_perform_39 : decode b_Core_perform 39 = .ok (.putfield 33, 3) := by decide +kernel
theorem d_Core_perform_42 : decode b_Core_perform 42 = .ok (.return_, 1) := by decide +kernel
theorem d_Emp_init_0 : decode b_Emp_init 0 = .ok (.aload_n 0, 1) := by decide +kernel
theorem d_Emp_init_1 : decode b_Emp_init 1 = .ok (.iload_n 1, 1) := by decide +kernel
theorem d_Emp_init_2 : decode b_Emp_init 2 = .ok (.iconst 0, 1) := by decide +kernel
theorem d_Emp_init_3 : decode b_Emp_init 3 = .ok (.invokespecial 1, 3) := by decide +kernel
theorem d_Emp_init_6 : decode b_Emp_init 6 = .ok (.return_, 1) := by decide +kernel
theorem d_Emp_take_0 : decode b_Emp_take 0 = .ok (.aload_n 2, 1) := by decide +kernel
theorem d_Emp_take_1 : decode b_Emp_take 1 = .ok (.getfield 7, 3) := by decide +kernel
theorem d_Emp_take_4 : decode b_Emp_take 4 = .ok (.getstatic 13, 3) := by decide +kernel
theorem d_Emp_take_7 : decode b_Emp_take 7 = .ok (.if_acmp .ne 7, 3) := by decide +kernel
theorem d_Emp_take_10 : decode b_Emp_take 10 = .ok (.aload_n 1, 1) := by decide +kernel
theorem d_Emp_take_11 : decode b_Emp_take 11 = .ok (.invokevirtual 18, 3) := by decide +kernel
theorem d_Emp_take_14 : decode b_Emp_take 14 = .ok (.iconst 1, 1) := by decide +kernel
theorem d_Emp_take_15 : decode b_Emp_take 15 = .ok (.ireturn, 1) := by decide +kernel
theorem d_Fet_init_0 : decode b_Fet_init 0 = .ok (.aload_n 0, 1) := by decide +kernel
theorem d_Fet_init_1 : decode b_Fet_init 1 = .ok (.iconst 3, 1) := by decide +kernel
theorem d_Fet_init_2 : decode b_Fet_init 2 = .ok (.iconst 0, 1) := by decide +kernel
theorem d_Fet_init_3 : decode b_Fet_init 3 = .ok (.invokespecial 1, 3) := by decide +kernel
theorem d_Fet_init_6 : decode b_Fet_init 6 = .ok (.return_, 1) := by decide +kernel
theorem d_Fet_take_0 : decode b_Fet_take 0 = .ok (.aload_n 2, 1) := by decide +kernel
theorem d_Fet_take_1 : decode b_Fet_take 1 = .ok (.getfield 7, 3) := by decide +kernel
theorem d_Fet_take_4 : decode b_Fet_take 4 = .ok (.getstatic 13, 3) := by decide +kernel
theorem d_Fet_take_7 : decode b_Fet_take 7 = .ok (.if_acmp .eq 5, 3) := by decide +kernel
theorem d_Fet_take_10 : decode b_Fet_take 10 = .ok (.iconst 0, 1) := by decide +kernel
theorem d_Fet_take_11 : decode b_Fet_take 11 = .ok (.ireturn, 1) := by decide +kernel
theorem d_Fet_take_12 : decode b_Fet_take 12 = .ok (.aload_n 1, 1) := by decide +kernel
theorem d_Fet_take_13 : decode b_Fet_take 13 = .ok (.aload_n 2, 1) := by decide +kernel
theorem d_Fet_take_14 : decode b_Fet_take 14 = .ok (.getfield 18, 3) := by decide +kernel
theorem d_Fet_take_17 : decode b_Fet_take 17 = .ok (.putfield 22, 3) := by decide +kernel
theorem d_Fet_take_20 : decode b_Fet_take 20 = .ok (.aload_n 1, 1) := by decide +kernel
theorem d_Fet_take_21 : decode b_Fet_take 21 = .ok (.aload_n 1, 1) := by decide +kernel
theorem d_Fet_take_22 : decode b_Fet_take 22 = .ok (.getfield 25, 3) := by decide +kernel
theorem d_Fet_take_25 : decode b_Fet_take 25 = .ok (.getfield 29, 3) := by decide +kernel
theorem d_Fet_take_28 : decode b_Fet_take 28 = .ok (.putfield 35, 3) := by decide +kernel
theorem d_Fet_take_31 : decode b_Fet_take 31 = .ok (.iconst 1, 1) := by decide +kernel
theorem d_Fet_take_32 : decode b_Fet_take 32 = .ok (.ireturn, 1) := by decide +kernel
theorem d_Gai_init_0 : decode b_Gai_init 0 = .ok (.aload_n 0, 1) := by decide +kernel
theorem d_Gai_init_1 : decode b_Gai_init 1 = .ok (.iload_n 1, 1) := by decide +kernel
theorem d_Gai_init_2 : decode b_Gai_init 2 = .ok (.iload_n 2, 1) := by decide +kernel
theorem d_Gai_init_3 : decode b_Gai_init 3 = .ok (.invokespecial 1, 3) := by decide +kernel
theorem d_Gai_init_6 : decode b_Gai_init 6 = .ok (.aload_n 0, 1) := by decide +kernel
theorem d_Gai_init_7 : decode b_Gai_init 7 = .ok (.iload_n 3, 1) := by decide +kernel
theorem d_Gai_init_8 : decode b_Gai_init 8 = .ok (.putfield 7, 3) := by decide +kernel
theorem d_Gai_init_11 : decode b_Gai_init 11 = .ok (.return_, 1) := by decide +kernel
theorem d_Gai_take_0 : decode b_Gai_take 0 = .ok (.aload_n 2, 1) := by decide +kernel
theorem d_Gai_take_1 : decode b_Gai_take 1 = .ok (.getfield 13, 3) := by decide +kernel
theorem d_Gai_take_4 : decode b_Gai_take 4 = .ok (.invokevirtual 19, 3) := by decide +kernel
theorem d_Gai_take_7 : decode b_Gai_take 7 = .ok (.tableswitch 152 6 9 #[134, 152, 29, 97], 29) := by decide +kernel
theorem d_Gai_take_36 : decode b_Gai_take 36 = .ok (.aload_n 1, 1) := by decide +kernel
theorem d_Gai_take_37 : decode b_Gai_take 37 = .ok (.aload_n 2, 1) := by decide +kernel
theorem d_Gai_take_38 : decode b_Gai_take 38 = .ok (.getfield 25, 3) := by decide +kernel
theorem d_Gai_take_41 : decode b_Gai_take 41 = .ok (.putfield 29, 3) := by decide +kernel
theorem d_Gai_take_44 : decode b_Gai_take 44 = .ok (.aload_n 1, 1) := by decide +kernel
theorem d_Gai_take_45 : decode b_Gai_take 45 = .ok (.dup, 1) := by decide +kernel
theorem d_Gai_take_46 : decode b_Gai_take 46 = .ok (.getfield 32, 3) := by decide +kernel
theorem d_Gai_take_49 : decode b_Gai_take 49 = .ok (.aload_n 2, 1) := by decide +kernel
theorem d_Gai_take_50 : decode b_Gai_take 50 = .ok (.getfield 35, 3) := by decide +kernel
theorem d_Gai_take_53 : decode b_Gai_take 53 = .ok (.iadd, 1) := by decide +kernel
theorem d_Gai_take_54 : decode b_Gai_take 54 = .ok (.putfield 32, 3) := by decide +kernel
theorem d_Gai_take_57 : decode b_Gai_take 57 = .ok (.aload_n 1, 1) := by decide +kernel
theorem d_Gai_take_58 : decode b_Gai_take 58 = .ok (.aload_n 1, 1) := by decide +kernel
theorem d_Gai_take_59 : decode b_Gai_take 59 = .ok (.getfield 32, 3) := by decide +kernel
theorem d_Gai_take_62 : decode b_Gai_take 62 = .ok (.ifCond .ne 13, 3) := by decide +kernel
theorem d_Gai_take_65 : decode b_Gai_take 65 = .ok (.aload_n 1, 1) := by decide +kernel
theorem d_Gai_take_66 : decode b_Gai_take 66 = .ok (.getfield 38, 3) := by decide +kernel
theorem d_Gai_take_69 : decode b_Gai_take 69 = .ok (.getfield 42, 3) := by decide +kernel
theorem d_Gai_take_72 : decode b_Gai_take 72 = .ok (.goto 27, 3) := by decide +kernel
theorem d_Gai_take_75 : decode b_Gai_take 75 = .ok (.aload_n 0, 1) := by decide +kernel
theorem d_Gai_take_76 : decode b_Gai_take 76 = .ok (.getfield 48, 3) := by decide +kernel
theorem d_Gai_take_79 : decode b_Gai_take 79 = .ok (.ifCond .eq 13, 3) := by decide +kernel
theorem d_Gai_take_82 : decode b_Gai_take 82 = .ok (.aload_n 1, 1) := by decide +kernel
theorem d_Gai_take_83 : decode b_Gai_take 83 = .ok (.getfield 38, 3) := by decide +kernel
theorem d_Gai_take_86 : decode b_Gai_take 86 = .ok (.getfield 51, 3) := by decide +kernel
theorem d_Gai_take_89 : decode b_Gai_take 89 = .ok (.goto 10, 3) := by decide +kernel
theorem d_Gai_take_92 : decode b_Gai_take 92 = .ok (.aload_n 1, 1) := by decide +kernel
theorem d_Gai_take_93 : decode b_Gai_take 93 = .ok (.getfield 38, 3) := by decide +kernel
theorem d_Gai_take_96 : decode b_Gai_take 96 = .ok (.getfield 54, 3) := by decide +kernel
theorem d_Gai_take_99 : decode b_Gai_take 99 = .ok (.putfield 57, 3) := by decide +kernel
theorem d_Gai_take_102 : decode b_Gai_take 102 = .ok (.iconst 1, 1) := by decide +kernel
theorem d_Gai_take_103 : decode b_Gai_take 103 = .ok (.ireturn, 1) := by decide +kernel
theorem d_Gai_take_104 : decode b_Gai_take 104 = .ok (.aload_n 1, 1) := by decide +kernel
theorem d_Gai_take_105 : decode b_Gai_take 105 = .ok (.dup, 1) := by decide +kernel
theorem d_Gai_take_106 : decode b_Gai_take 106 = .ok (.getfield 32, 3) := by decide +kernel
theorem d_Gai_take_109 : decode b_Gai_take 109 = .ok (.iconst 1, 1) := by decide +kernel
theorem d_Gai_take_110 : decode b_Gai_take 110 = .ok (.isub, 1) := by decide +kernel
theorem d_Gai_take_111 : decode b_Gai_take 111 = .ok (.putfield 32, 3) := by decide +kernel
theorem d_Gai_take_114 : decode b_Gai_take 114 = .ok (.aload_n 0, 1) := by decide +kernel
theorem d_Gai_take_115 : decode b_Gai_take 115 = .ok (.getfield 7, 3) := by decide +kernel
theorem d_Gai_take_118 : decode b_Gai_take 118 = .ok (.ifCond .eq 21, 3) := by decide +kernel
theorem d_Gai_take_121 : decode b_Gai_take 121 = .ok (.aload_n 1, 1) := by decide +kernel
theorem d_Gai_take_122 : decode b_Gai_take 122 = .ok (.getfield 32, 3) := by decide +kernel
theorem d_Gai_take_125 : decode b_Gai_take 125 = .ok (.ifCond .ne 14, 3) := by decide +kernel
theorem d_Gai_take_128 : decode b_Gai_take 128 = .ok (.aload_n 1, 1) := by decide +kernel
theorem d_Gai_take_129 : decode b_Gai_take 129 = .ok (.aload_n 1, 1) := by decide +kernel
theorem d_Gai_take_130 : decode b_Gai_take 130 = .ok (.getfield 38, 3) := by decide +kernel
theorem d_Gai_take_133 : decode b_Gai_take 133 = .ok (.getfield 42, 3) := by decide +kernel
theorem d_Gai_take_136 : decode b_Gai_take 136 = .ok (.putfield 57, 3) := by decide +kernel
theorem d_Gai_take_139 : decode b_Gai_take 139 = .ok (.iconst 1, 1) := by decide +kernel
theorem d_Gai_take_140 : decode b_Gai_take 140 = .ok (.ireturn, 1) := by decide +kernel
theorem d_Gai_take_141 : decode b_Gai_take 141 = .ok (.aload_n 1, 1) := by decide +kernel
theorem d_Gai_take_142 : decode b_Gai_take 142 = .ok (.aload_n 2, 1) := by decide +kernel
theorem d_Gai_take_143 : decode b_Gai_take 143 = .ok (.invokevirtual 60, 3) := by decide +kernel
theorem d_Gai_take_146 : decode b_Gai_take 146 = .ok (.aload_n 1, 1) := by decide +kernel
theorem d_Gai_take_147 : decode b_Gai_take 147 = .ok (.aload_n 1, 1) := by decide +kernel
theorem d_Gai_take_148 : decode b_Gai_take 148 = .ok (.getfield 38, 3) := by decide +kernel
theorem d_Gai_take_151 : decode b_Gai_take 151 = .ok (.getfield 64, 3) := by decide +kernel
theorem d_Gai_take_154 : decode b_Gai_take 154 = .ok (.putfield 57, 3) := by decide +kernel
theorem d_Gai_take_157 : decode b_Gai_take 157 = .ok (.iconst 1, 1) := by decide +kernel
theorem d_Gai_take_158 : decode b_Gai_take 158 = .ok (.ireturn, 1) := by decide +kernel
theorem d_Gai_take_159 : decode b_Gai_take 159 = .ok (.iconst 0, 1) := by decide +kernel
theorem d_Gai_take_160 : decode b_Gai_take 160 = .ok (.ireturn, 1) := by decide +kernel
theorem d_Home_init_0 : decode b_Home_init 0 = .ok (.aload_n 0, 1) := by decide +kernel
theorem d_Home_init_1 : decode b_Home_init 1 = .ok (.invokespecial 3, 3) := by decide +kernel
theorem d_Home_init_4 : decode b_Home_init 4 = .ok (.aload_n 0, 1) := by decide +kernel
theorem d_Home_init_5 : decode b_Home_init 5 = .ok (.getstatic 9, 3) := by decide +kernel
theorem d_Home_init_8 : decode b_Home_init 8 = .ok (.putfield 15, 3) := by decide +kernel
theorem d_Home_init_11 : decode b_Home_init 11 = .ok (.aload_n 0, 1) := by decide +kernel
theorem d_Home_init_12 : decode b_Home_init 12 = .ok (.iconst (-1), 1) := by decide +kernel
theorem d_Home_init_13 : decode b_Home_init 13 = .ok (.putfield 20, 3) := by decide +kernel
theorem d_Home_init_16 : decode b_Home_init 16 = .ok (.aload_n 0, 1) := by decide +kernel
theorem d_Home_init_17 : decode b_Home_init 17 = .ok (.iload_n 1, 1) := by decide +kernel
theorem d_Home_init_18 : decode b_Home_init 18 = .ok (.putfield 23, 3) := by decide +kernel
theorem d_Home_init_21 : decode b_Home_init 21 = .ok (.aload_n 0, 1) := by decide +kernel
theorem d_Home_init_22 : decode b_Home_init 22 = .ok (.aload_n 2, 1) := by decide +kernel
theorem d_Home_init_23 : decode b_Home_init 23 = .ok (.putfield 26, 3) := by decide +kernel
theorem d_Home_init_26 : decode b_Home_init 26 = .ok (.return_, 1) := by decide +kernel
theorem d_Home_take_0 : decode b_Home_take 0 = .ok (.aload_n 1, 1) := by decide +kernel
theorem d_Home_take_1 : decode b_Home_take 1 = .ok (.getfield 30, 3) := by decide +kernel
theorem d_Home_take_4 : decode b_Home_take 4 = .ok (.istore_n 2, 1) := by decide +kernel
theorem d_Home_take_5 : decode b_Home_take 5 = .ok (.aload_n 1, 1) := by decide +kernel
theorem d_Home_take_6 : decode b_Home_take 6 = .ok (.getfield 35, 3) := by decide +kernel
theorem d_Home_take_9 : decode b_Home_take 9 = .ok (.invokevirtual 39, 3) := by decide +kernel
theorem d_Home_take_12 : decode b_Home_take 12 = .ok (.lookupswitch 78 #[(0, 36), (1, 42), (8, 48)], 36) := by decide +kernel
theorem d_Home_take_48 : decode b_Home_take 48 = .ok (.aload_n 0, 1) := by decide +kernel
theorem d_Home_take_49 : decode b_Home_take 49 = .ok (.iload_n 2, 1) := by decide +kernel
theorem d_Home_take_50 : decode b_Home_take 50 = .ok (.invokevirtual 45, 3) := by decide +kernel
theorem d_Home_take_53 : decode b_Home_take 53 = .ok (.ireturn, 1) := by decide +kernel
theorem d_Home_take_54 : decode b_Home_take 54 = .ok (.aload_n 0, 1) := by decide +kernel
theorem d_Home_take_55 : decode b_Home_take 55 = .ok (.iload_n 2, 1) := by decide +kernel
theorem d_Home_take_56 : decode b_Home_take 56 = .ok (.invokevirtual 49, 3) := by decide +kernel
theorem d_Home_take_59 : decode b_Home_take 59 = .ok (.ireturn, 1) := by decide +kernel
theorem d_Home_take_60 : decode b_Home_take 60 = .ok (.aload_n 0, 1) := by decide +kernel
theorem d_Home_take_61 : decode b_Home_take 61 = .ok (.aload_n 1, 1) := by decide +kernel
theorem d_Home_take_62 : decode b_Home_take 62 = .ok (.getfield 52, 3) := by decide +kernel
theorem d_Home_take_65 : decode b_Home_take 65 = .ok (.putfield 55, 3) := by decide +kernel
theorem d_Home_take_68 : decode b_Home_take 68 = .ok (.aload_n 0, 1) := by decide +kernel
theorem d_Home_take_69 : decode b_Home_take 69 = .ok (.aload_n 0, 1) := by decide +kernel
theorem d_Home_take_70 : decode b_Home_take 70 = .ok (.getfield 58, 3) := by decide +kernel
theorem d_Home_take_73 : decode b_Home_take 73 = .ok (.ifCond .ne 9, 3) := by decide +kernel
theorem d_Home_take_76 : decode b_Home_take 76 = .ok (.getstatic 9, 3) := by decide +kernel
theorem d_Home_take_79 : decode b_Home_take 79 = .ok (.goto 6, 3) := by decide +kernel
theorem d_Home_take_82 : decode b_Home_take 82 = .ok (.getstatic 61, 3) := by decide +kernel
theorem d_Home_take_85 : decode b_Home_take 85 = .ok (.putfield 15, 3) := by decide +kernel
theorem d_Home_take_88 : decode b_Home_take 88 = .ok (.iconst 1, 1) := by decide +kernel
theorem d_Home_take_89 : decode b_Home_take 89 = .ok (.ireturn, 1) := by decide +kernel
theorem d_Home_take_90 : decode b_Home_take 90 = .ok (.aload_n 0, 1) := by decide +kernel
theorem d_Home_take_91 : decode b_Home_take 91 = .ok (.iload_n 2, 1) := by decide +kernel
theorem d_Home_take_92 : decode b_Home_take 92 = .ok (.aload_n 1, 1) := by decide +kernel
theorem d_Home_take_93 : decode b_Home_take 93 = .ok (.invokevirtual 64, 3) := by decide +kernel
theorem d_Home_take_96 : decode b_Home_take 96 = .ok (.iconst 1, 1) := by decide +kernel
theorem d_Home_take_97 : decode b_Home_take 97 = .ok (.ireturn, 1) := by decide +kernel
theorem d_Home_shares_0 : decode b_Home_shares 0 = .ok (.aload_n 0, 1) := by decide +kernel
theorem d_Home_shares_1 : decode b_Home_shares 1 = .ok (.getfield 15, 3) := by decide +kernel
theorem d_Home_shares_4 : decode b_Home_shares 4 = .ok (.getstatic 68, 3) := by decide +kernel
theorem d_Home_shares_7 : decode b_Home_shares 7 = .ok (.if_acmp .ne 5, 3) := by decide +kernel
theorem d_Home_shares_10 : decode b_Home_shares 10 = .ok (.iconst 0, 1) := by decide +kernel
theorem d_Home_shares_11 : decode b_Home_shares 11 = .ok (.ireturn, 1) := by decide +kernel
theorem d_Home_shares_12 : decode b_Home_shares 12 = .ok (.aload_n 0, 1) := by decide +kernel
theorem d_Home_shares_13 : decode b_Home_shares 13 = .ok (.dup, 1) := by decide +kernel
theorem d_Home_shares_14 : decode b_Home_shares 14 = .ok (.getfield 58, 3) := by decide +kernel
theorem d_Home_shares_17 : decode b_Home_shares 17 = .ok (.iconst 1, 1) := by decide +kernel
theorem d_Home_shares_18 : decode b_Home_shares 18 = .ok (.iload_n 1, 1) := by decide +kernel
theorem d_Home_shares_19 : decode b_Home_shares 19 = .ok (.ishl, 1) := by decide +kernel
theorem d_Home_shares_20 : decode b_Home_shares 20 = .ok (.ior, 1) := by decide +kernel
theorem d_Home_shares_21 : decode b_Home_shares 21 = .ok (.putfield 58, 3) := by decide +kernel
theorem d_Home_shares_24 : decode b_Home_shares 24 = .ok (.aload_n 0, 1) := by decide +kernel
theorem d_Home_shares_25 : decode b_Home_shares 25 = .ok (.getfield 15, 3) := by decide +kernel
theorem d_Home_shares_28 : decode b_Home_shares 28 = .ok (.getstatic 71, 3) := by decide +kernel
theorem d_Home_shares_31 : decode b_Home_shares 31 = .ok (.if_acmp .ne 52, 3) := by decide +kernel
theorem d_Home_shares_34 : decode b_Home_shares 34 = .ok (.aload_n 0, 1) := by decide +kernel
theorem d_Home_shares_35 : decode b_Home_shares 35 = .ok (.getfield 26, 3) := by decide +kernel
theorem d_Home_shares_38 : decode b_Home_shares 38 = .ok (.getstatic 74, 3) := by decide +kernel
theorem d_Home_shares_41 : decode b_Home_shares 41 = .ok (.aload_n 0, 1) := by decide +kernel
theorem d_Home_shares_42 : decode b_Home_shares 42 = .ok (.getfield 20, 3) := by decide +kernel
theorem d_Home_shares_45 : decode b_Home_shares 45 = .ok (.aload_n 0, 1) := by decide +kernel
theorem d_Home_shares_46 : decode b_Home_shares 46 = .ok (.getfield 23, 3) := by decide +kernel
theorem d_Home_shares_49 : decode b_Home_shares 49 = .ok (.iload_n 1, 1) := by decide +kernel
theorem d_Home_shares_50 : decode b_Home_shares 50 = .ok (.invokevirtual 77, 3) := by decide +kernel
theorem d_Home_shares_53 : decode b_Home_shares 53 = .ok (.aload_n 0, 1) := by decide +kernel
theorem d_Home_shares_54 : decode b_Home_shares 54 = .ok (.dup, 1) := by decide +kernel
theorem d_Home_shares_55 : decode b_Home_shares 55 = .ok (.getfield 58, 3) := by decide +kernel
theorem d_Home_shares_58 : decode b_Home_shares 58 = .ok (.iconst 1, 1) := by decide +kernel
theorem d_Home_shares_59 : decode b_Home_shares 59 = .ok (.aload_n 0, 1) := by decide +kernel
theorem d_Home_shares_60 : decode b_Home_shares 60 = .ok (.getfield 20, 3) := by decide +kernel
theorem d_Home_shares_63 : decode b_Home_shares 63 = .ok (.ishl, 1) := by decide +kernel
theorem d_Home_shares_64 : decode b_Home_shares 64 = .ok (.ior, 1) := by decide +kernel
theorem d_Home_shares_65 : decode b_Home_shares 65 = .ok (.putfield 58, 3) := by decide +kernel
theorem d_Home_shares_68 : decode b_Home_shares 68 = .ok (.aload_n 0, 1) := by decide +kernel
theorem d_Home_shares_69 : decode b_Home_shares 69 = .ok (.iconst (-1), 1) := by decide +kernel
theorem d_Home_shares_70 : decode b_Home_shares 70 = .ok (.putfield 20, 3) := by decide +kernel
theorem d_Home_shares_73 : decode b_Home_shares 73 = .ok (.aload_n 0, 1) := by decide +kernel
theorem d_Home_shares_74 : decode b_Home_shares 74 = .ok (.getstatic 68, 3) := by decide +kernel
theorem d_Home_shares_77 : decode b_Home_shares 77 = .ok (.putfield 15, 3) := by decide +kernel
theorem d_Home_shares_80 : decode b_Home_shares 80 = .ok (.goto 30, 3) := by decide +kernel
theorem d_Home_shares_83 : decode b_Home_shares 83 = .ok (.aload_n 0, 1) := by decide +kernel
theorem d_Home_shares_84 : decode b_Home_shares 84 = .ok (.getfield 26, 3) := by decide +kernel
theorem d_Home_shares_87 : decode b_Home_shares 87 = .ok (.getstatic 83, 3) := by decide +kernel
theorem d_Home_shares_90 : decode b_Home_shares 90 = .ok (.iconst 4, 1) := by decide +kernel
theorem d_Home_shares_91 : decode b_Home_shares 91 = .ok (.iload_n 1, 1) := by decide +kernel
theorem d_Home_shares_92 : decode b_Home_shares 92 = .ok (.aload_n 0, 1) := by decide +kernel
theorem d_Home_shares_93 : decode b_Home_shares 93 = .ok (.getfield 23, 3) := by decide +kernel
theorem d_Home_shares_96 : decode b_Home_shares 96 = .ok (.aload_n 0, 1) := by decide +kernel
theorem d_Home_shares_97 : decode b_Home_shares 97 = .ok (.getfield 55, 3) := by decide +kernel
theorem d_Home_shares_100 : decode b_Home_shares 100 = .ok (.invokevirtual 86, 3) := by decide +kernel
theorem d_Home_shares_103 : decode b_Home_shares 103 = .ok (.aload_n 0, 1) := by decide +kernel
theorem d_Home_shares_104 : decode b_Home_shares 104 = .ok (.getstatic 61, 3) := by decide +kernel
theorem d_Home_shares_107 : decode b_Home_shares 107 = .ok (.putfield 15, 3) := by decide +kernel
theorem d_Home_shares_110 : decode b_Home_shares 110 = .ok (.iconst 1, 1) := by decide +kernel
theorem d_Home_shares_111 : decode b_Home_shares 111 = .ok (.ireturn, 1) := by decide +kernel
theorem d_Home_gives_0 : decode b_Home_gives 0 = .ok (.aload_n 0, 1) := by decide +kernel
theorem d_Home_gives_1 : decode b_Home_gives 1 = .ok (.getfield 15, 3) := by decide +kernel
theorem d_Home_gives_4 : decode b_Home_gives 4 = .ok (.getstatic 68, 3) := by decide +kernel
theorem d_Home_gives_7 : decode b_Home_gives 7 = .ok (.if_acmp .ne 5, 3) := by decide +kernel
theorem d_Home_gives_10 : decode b_Home_gives 10 = .ok (.iconst 0, 1) := by decide +kernel
theorem d_Home_gives_11 : decode b_Home_gives 11 = .ok (.ireturn, 1) := by decide +kernel
theorem d_Home_gives_12 : decode b_Home_gives 12 = .ok (.aload_n 0, 1) := by decide +kernel
theorem d_Home_gives_13 : decode b_Home_gives 13 = .ok (.getfield 15, 3) := by decide +kernel
theorem d_Home_gives_16 : decode b_Home_gives 16 = .ok (.getstatic 71, 3) := by decide +kernel
theorem d_Home_gives_19 : decode b_Home_gives 19 = .ok (.if_acmp .ne 25, 3) := by decide +kernel
theorem d_Home_gives_22 : decode b_Home_gives 22 = .ok (.aload_n 0, 1) := by decide +kernel
theorem d_Home_gives_23 : decode b_Home_gives 23 = .ok (.getfield 26, 3) := by decide +kernel
theorem d_Home_gives_26 : decode b_Home_gives 26 = .ok (.getstatic 90, 3) := by decide +kernel
theorem d_Home_gives_29 : decode b_Home_gives 29 = .ok (.aload_n 0, 1) := by decide +kernel
theorem d_Home_gives_30 : decode b_Home_gives 30 = .ok (.getfield 20, 3) := by decide +kernel
theorem d_Home_gives_33 : decode b_Home_gives 33 = .ok (.aload_n 0, 1) := by decide +kernel
theorem d_Home_gives_34 : decode b_Home_gives 34 = .ok (.getfield 23, 3) := by decide +kernel
theorem d_Home_gives_37 : decode b_Home_gives 37 = .ok (.iload_n 1, 1) := by decide +kernel
theorem d_Home_gives_38 : decode b_Home_gives 38 = .ok (.invokevirtual 77, 3) := by decide +kernel
theorem d_Home_gives_41 : decode b_Home_gives 41 = .ok (.goto 92, 3) := by decide +kernel
theorem d_Home_gives_44 : decode b_Home_gives 44 = .ok (.aload_n 0, 1) := by decide +kernel
theorem d_Home_gives_45 : decode b_Home_gives 45 = .ok (.getfield 58, 3) := by decide +kernel
theorem d_Home_gives_48 : decode b_Home_gives 48 = .ok (.iconst 1, 1) := by decide +kernel
theorem d_Home_gives_49 : decode b_Home_gives 49 = .ok (.iload_n 1, 1) := by decide +kernel
theorem d_Home_gives_50 : decode b_Home_gives 50 = .ok (.ishl, 1) := by decide +kernel
theorem d_Home_gives_51 : decode b_Home_gives 51 = .ok (.iconst (-1), 1) := by decide +kernel
theorem d_Home_gives_52 : decode b_Home_gives 52 = .ok (.ixor, 1) := by decide +kernel
theorem d_Home_gives_53 : decode b_Home_gives 53 = .ok (.iand, 1) := by decide +kernel
theorem d_Home_gives_54 : decode b_Home_gives 54 = .ok (.istore_n 2, 1) := by decide +kernel
theorem d_Home_gives_55 : decode b_Home_gives 55 = .ok (.aload_n 0, 1) := by decide +kernel
theorem d_Home_gives_56 : decode b_Home_gives 56 = .ok (.getfield 26, 3) := by decide +kernel
theorem d_Home_gives_59 : decode b_Home_gives 59 = .ok (.getstatic 83, 3) := by decide +kernel
theorem d_Home_gives_62 : decode b_Home_gives 62 = .ok (.iconst 4, 1) := by decide +kernel
theorem d_Home_gives_63 : decode b_Home_gives 63 = .ok (.iload_n 1, 1) := by decide +kernel
theorem d_Home_gives_64 : decode b_Home_gives 64 = .ok (.aload_n 0, 1) := by decide +kernel
theorem d_Home_gives_65 : decode b_Home_gives 65 = .ok (.getfield 23, 3) := by decide +kernel
theorem d_Home_gives_68 : decode b_Home_gives 68 = .ok (.invokevirtual 93, 3) := by decide +kernel
theorem d_Home_gives_71 : decode b_Home_gives 71 = .ok (.astore_n 3, 1) := by decide +kernel
theorem d_Home_gives_72 : decode b_Home_gives 72 = .ok (.aload_n 3, 1) := by decide +kernel
theorem d_Home_gives_73 : decode b_Home_gives 73 = .ok (.aload_n 0, 1) := by decide +kernel
theorem d_Home_gives_74 : decode b_Home_gives 74 = .ok (.getfield 55, 3) := by decide +kernel
theorem d_Home_gives_77 : decode b_Home_gives 77 = .ok (.putfield 52, 3) := by decide +kernel
theorem d_Home_gives_80 : decode b_Home_gives 80 = .ok (.aload_n 3, 1) := by decide +kernel
theorem d_Home_gives_81 : decode b_Home_gives 81 = .ok (.iload_n 2, 1) := by decide +kernel
theorem d_Home_gives_82 : decode b_Home_gives 82 = .ok (.invokestatic 97, 3) := by decide +kernel
theorem d_Home_gives_85 : decode b_Home_gives 85 = .ok (.putfield 103, 3) := by decide +kernel
theorem d_Home_gives_88 : decode b_Home_gives 88 = .ok (.iload_n 2, 1) := by decide +kernel
theorem d_Home_gives_89 : decode b_Home_gives 89 = .ok (.istore 4, 2) := by decide +kernel
theorem d_Home_gives_91 : decode b_Home_gives 91 = .ok (.iload 4, 2) := by decide +kernel
theorem d_Home_gives_93 : decode b_Home_gives 93 = .ok (.ifCond .eq 35, 3) := by decide +kernel
theorem d_Home_gives_96 : decode b_Home_gives 96 = .ok (.aload_n 0, 1) := by decide +kernel
theorem d_Home_gives_97 : decode b_Home_gives 97 = .ok (.getfield 26, 3) := by decide +kernel
theorem d_Home_gives_100 : decode b_Home_gives 100 = .ok (.getstatic 106, 3) := by decide +kernel
theorem d_Home_gives_103 : decode b_Home_gives 103 = .ok (.iload 4, 2) := by decide +kernel
theorem d_Home_gives_105 : decode b_Home_gives 105 = .ok (.invokestatic 109, 3) := by decide +kernel
theorem d_Home_gives_108 : decode b_Home_gives 108 = .ok (.aload_n 0, 1) := by decide +kernel
theorem d_Home_gives_109 : decode b_Home_gives 109 = .ok (.getfield 23, 3) := by decide +kernel
theorem d_Home_gives_112 : decode b_Home_gives 112 = .ok (.iload_n 1, 1) := by decide +kernel
theorem d_Home_gives_113 : decode b_Home_gives 113 = .ok (.invokevirtual 77, 3) := by decide +kernel
theorem d_Home_gives_116 : decode b_Home_gives 116 = .ok (.iload 4, 2) := by decide +kernel
theorem d_Home_gives_118 : decode b_Home_gives 118 = .ok (.iload 4, 2) := by decide +kernel
theorem d_Home_gives_120 : decode b_Home_gives 120 = .ok (.iconst 1, 1) := by decide +kernel
theorem d_Home_gives_121 : decode b_Home_gives 121 = .ok (.isub, 1) := by decide +kernel
theorem d_Home_gives_122 : decode b_Home_gives 122 = .ok (.iand, 1) := by decide +kernel
theorem d_Home_gives_123 : decode b_Home_gives 123 = .ok (.istore 4, 2) := by decide +kernel
theorem d_Home_gives_125 : decode b_Home_gives 125 = .ok (.goto (-34), 3) := by decide +kernel
theorem d_Home_gives_128 : decode b_Home_gives 128 = .ok (.aload_n 0, 1) := by decide +kernel
theorem d_Home_gives_129 : decode b_Home_gives 129 = .ok (.iconst 0, 1) := by decide +kernel
theorem d_Home_gives_130 : decode b_Home_gives 130 = .ok (.putfield 58, 3) := by decide +kernel
theorem d_Home_gives_133 : decode b_Home_gives 133 = .ok (.aload_n 0, 1) := by decide +kernel
theorem d_Home_gives_134 : decode b_Home_gives 134 = .ok (.iload_n 1, 1) := by decide +kernel
theorem d_Home_gives_135 : decode b_Home_gives 135 = .ok (.putfield 20, 3) := by decide +kernel
theorem d_Home_gives_138 : decode b_Home_gives 138 = .ok (.aload_n 0, 1) := by decide +kernel
theorem d_Home_gives_139 : decode b_Home_gives 139 = .ok (.getstatic 71, 3) := by decide +kernel
theorem d_Home_gives_142 : decode b_Home_gives 142 = .ok (.putfield 15, 3) := by decide +kernel
theorem d_Home_gives_145 : decode b_Home_gives 145 = .ok (.iconst 1, 1) := by decide +kernel
theorem d_Home_gives_146 : decode b_Home_gives 146 = .ok (.ireturn, 1) := by decide +kernel
theorem d_Home_takesBack_0 : decode b_Home_takesBack 0 = .ok (.aload_n 2, 1) := by decide +kernel
theorem d_Home_takesBack_1 : decode b_Home_takesBack 1 = .ok (.getfield 35, 3) := by decide +kernel
theorem d_Home_takesBack_4 : decode b_Home_takesBack 4 = .ok (.getstatic 112, 3) := by decide +kernel
theorem d_Home_takesBack_7 : decode b_Home_takesBack 7 = .ok (.if_acmp .ne 34, 3) := by decide +kernel
theorem d_Home_takesBack_10 : decode b_Home_takesBack 10 = .ok (.aload_n 0, 1) := by decide +kernel
theorem d_Home_takesBack_11 : decode b_Home_takesBack 11 = .ok (.getfield 20, 3) := by decide +kernel
theorem d_Home_takesBack_14 : decode b_Home_takesBack 14 = .ok (.iload_n 1, 1) := by decide +kernel
theorem d_Home_takesBack_15 : decode b_Home_takesBack 15 = .ok (.if_icmp .ne 26, 3) := by decide +kernel
theorem d_Home_takesBack_18 : decode b_Home_takesBack 18 = .ok (.aload_n 0, 1) := by decide +kernel
theorem d_Home_takesBack_19 : decode b_Home_takesBack 19 = .ok (.aload_n 2, 1) := by decide +kernel
theorem d_Home_takesBack_20 : decode b_Home_takesBack 20 = .ok (.getfield 52, 3) := by decide +kernel
theorem d_Home_takesBack_23 : decode b_Home_takesBack 23 = .ok (.putfield 55, 3) := by decide +kernel
theorem d_Home_takesBack_26 : decode b_Home_takesBack 26 = .ok (.aload_n 0, 1) := by decide +kernel
theorem d_Home_takesBack_27 : decode b_Home_takesBack 27 = .ok (.iconst (-1), 1) := by decide +kernel
theorem d_Home_takesBack_28 : decode b_Home_takesBack 28 = .ok (.putfield 20, 3) := by decide +kernel
theorem d_Home_takesBack_31 : decode b_Home_takesBack 31 = .ok (.aload_n 0, 1) := by decide +kernel
theorem d_Home_takesBack_32 : decode b_Home_takesBack 32 = .ok (.getstatic 9, 3) := by decide +kernel
theorem d_Home_takesBack_35 : decode b_Home_takesBack 35 = .ok (.putfield 15, 3) := by decide +kernel
theorem d_Home_takesBack_38 : decode b_Home_takesBack 38 = .ok (.goto 41, 3) := by decide +kernel
theorem d_Home_takesBack_41 : decode b_Home_takesBack 41 = .ok (.aload_n 0, 1) := by decide +kernel
theorem d_Home_takesBack_42 : decode b_Home_takesBack 42 = .ok (.dup, 1) := by decide +kernel
theorem d_Home_takesBack_43 : decode b_Home_takesBack 43 = .ok (.getfield 58, 3) := by decide +kernel
theorem d_Home_takesBack_46 : decode b_Home_takesBack 46 = .ok (.iconst 1, 1) := by decide +kernel
theorem d_Home_takesBack_47 : decode b_Home_takesBack 47 = .ok (.iload_n 1, 1) := by decide +kernel
theorem d_Home_takesBack_48 : decode b_Home_takesBack 48 = .ok (.ishl, 1) := by decide +kernel
theorem d_Home_takesBack_49 : decode b_Home_takesBack 49 = .ok (.iconst (-1), 1) := by decide +kernel
theorem d_Home_takesBack_50 : decode b_Home_takesBack 50 = .ok (.ixor, 1) := by decide +kernel
theorem d_Home_takesBack_51 : decode b_Home_takesBack 51 = .ok (.iand, 1) := by decide +kernel
theorem d_Home_takesBack_52 : decode b_Home_takesBack 52 = .ok (.putfield 58, 3) := by decide +kernel
theorem d_Home_takesBack_55 : decode b_Home_takesBack 55 = .ok (.aload_n 0, 1) := by decide +kernel
theorem d_Home_takesBack_56 : decode b_Home_takesBack 56 = .ok (.getfield 15, 3) := by decide +kernel
theorem d_Home_takesBack_59 : decode b_Home_takesBack 59 = .ok (.getstatic 61, 3) := by decide +kernel
theorem d_Home_takesBack_62 : decode b_Home_takesBack 62 = .ok (.if_acmp .ne 17, 3) := by decide +kernel
theorem d_Home_takesBack_65 : decode b_Home_takesBack 65 = .ok (.aload_n 0, 1) := by decide +kernel
theorem d_Home_takesBack_66 : decode b_Home_takesBack 66 = .ok (.getfield 58, 3) := by decide +kernel
theorem d_Home_takesBack_69 : decode b_Home_takesBack 69 = .ok (.ifCond .ne 10, 3) := by decide +kernel
theorem d_Home_takesBack_72 : decode b_Home_takesBack 72 = .ok (.aload_n 0, 1) := by decide +kernel
theorem d_Home_takesBack_73 : decode b_Home_takesBack 73 = .ok (.getstatic 9, 3) := by decide +kernel
theorem d_Home_takesBack_76 : decode b_Home_takesBack 76 = .ok (.putfield 15, 3) := by decide +kernel
theorem d_Home_takesBack_79 : decode b_Home_takesBack 79 = .ok (.aload_n 0, 1) := by decide +kernel
theorem d_Home_takesBack_80 : decode b_Home_takesBack 80 = .ok (.getfield 26, 3) := by decide +kernel
theorem d_Home_takesBack_83 : decode b_Home_takesBack 83 = .ok (.getstatic 115, 3) := by decide +kernel
theorem d_Home_takesBack_86 : decode b_Home_takesBack 86 = .ok (.iconst 4, 1) := by decide +kernel
theorem d_Home_takesBack_87 : decode b_Home_takesBack 87 = .ok (.iload_n 1, 1) := by decide +kernel
theorem d_Home_takesBack_88 : decode b_Home_takesBack 88 = .ok (.aload_n 0, 1) := by decide +kernel
theorem d_Home_takesBack_89 : decode b_Home_takesBack 89 = .ok (.getfield 23, 3) := by decide +kernel
theorem d_Home_takesBack_92 : decode b_Home_takesBack 92 = .ok (.invokevirtual 93, 3) := by decide +kernel
theorem d_Home_takesBack_95 : decode b_Home_takesBack 95 = .ok (.pop, 1) := by decide +kernel
theorem d_Home_takesBack_96 : decode b_Home_takesBack 96 = .ok (.return_, 1) := by decide +kernel
theorem d_Line_init_0 : decode b_Line_init 0 = .ok (.aload_n 0, 1) := by decide +kernel
theorem d_Line_init_1 : decode b_Line_init 1 = .ok (.invokespecial 3, 3) := by decide +kernel
theorem d_Line_init_4 : decode b_Line_init 4 = .ok (.aload_n 0, 1) := by decide +kernel
theorem d_Line_init_5 : decode b_Line_init 5 = .ok (.iload_n 1, 1) := by decide +kernel
theorem d_Line_init_6 : decode b_Line_init 6 = .ok (.putfield 9, 3) := by decide +kernel
theorem d_Line_init_9 : decode b_Line_init 9 = .ok (.aload_n 0, 1) := by decide +kernel
theorem d_Line_init_10 : decode b_Line_init 10 = .ok (.iload_n 2, 1) := by decide +kernel
theorem d_Line_init_11 : decode b_Line_init 11 = .ok (.putfield 15, 3) := by decide +kernel
theorem d_Line_init_14 : decode b_Line_init 14 = .ok (.aload_n 0, 1) := by decide +kernel
theorem d_Line_init_15 : decode b_Line_init 15 = .ok (.aload_n 3, 1) := by decide +kernel
theorem d_Line_init_16 : decode b_Line_init 16 = .ok (.putfield 18, 3) := by decide +kernel
theorem d_Line_init_19 : decode b_Line_init 19 = .ok (.aload_n 0, 1) := by decide +kernel
theorem d_Line_init_20 : decode b_Line_init 20 = .ok (.aload 4, 2) := by decide +kernel
theorem d_Line_init_22 : decode b_Line_init 22 = .ok (.putfield 22, 3) := by decide +kernel
theorem d_Line_init_25 : decode b_Line_init 25 = .ok (.aload_n 0, 1) := by decide +kernel
theorem d_Line_init_26 : decode b_Line_init 26 = .ok (.aload 4, 2) := by decide +kernel
theorem d_Line_init_28 : decode b_Line_init 28 = .ok (.getfield 26, 3) := by decide +kernel
theorem d_Line_init_31 : decode b_Line_init 31 = .ok (.putfield 32, 3) := by decide +kernel
theorem d_Line_init_34 : decode b_Line_init 34 = .ok (.return_, 1) := by decide +kernel
theorem d_Line_take_0 : decode b_Line_take 0 = .ok (.aload_n 0, 1) := by decide +kernel
theorem d_Line_take_1 : decode b_Line_take 1 = .ok (.getfield 32, 3) := by decide +kernel
theorem d_Line_take_4 : decode b_Line_take 4 = .ok (.aload_n 0, 1) := by decide +kernel
theorem d_Line_take_5 : decode b_Line_take 5 = .ok (.aload_n 1, 1) := by decide +kernel
theorem d_Line_take_6 : decode b_Line_take 6 = .ok (.invokevirtual 35, 3) := by decide +kernel
theorem d_Line_take_9 : decode b_Line_take 9 = .ok (.ireturn, 1) := by decide +kernel
theorem d_Line_answer_0 : decode b_Line_answer 0 = .ok (.aload_n 0, 1) := by decide +kernel
theorem d_Line_answer_1 : decode b_Line_answer 1 = .ok (.getfield 18, 3) := by decide +kernel
theorem d_Line_answer_4 : decode b_Line_answer 4 = .ok (.getstatic 41, 3) := by decide +kernel
theorem d_Line_answer_7 : decode b_Line_answer 7 = .ok (.aload_n 0, 1) := by decide +kernel
theorem d_Line_answer_8 : decode b_Line_answer 8 = .ok (.getfield 9, 3) := by decide +kernel
theorem d_Line_answer_11 : decode b_Line_answer 11 = .ok (.aload_n 1, 1) := by decide +kernel
theorem d_Line_answer_12 : decode b_Line_answer 12 = .ok (.getfield 47, 3) := by decide +kernel
theorem d_Line_answer_15 : decode b_Line_answer 15 = .ok (.aload_n 0, 1) := by decide +kernel
theorem d_Line_answer_16 : decode b_Line_answer 16 = .ok (.getfield 15, 3) := by decide +kernel
theorem d_Line_answer_19 : decode b_Line_answer 19 = .ok (.invokevirtual 52, 3) := by decide +kernel
theorem d_Line_answer_22 : decode b_Line_answer 22 = .ok (.pop, 1) := by decide +kernel
theorem d_Line_answer_23 : decode b_Line_answer 23 = .ok (.return_, 1) := by decide +kernel
theorem d_Line_release_0 : decode b_Line_release 0 = .ok (.aload_n 0, 1) := by decide +kernel
theorem d_Line_release_1 : decode b_Line_release 1 = .ok (.aload_n 0, 1) := by decide +kernel
theorem d_Line_release_2 : decode b_Line_release 2 = .ok (.getfield 22, 3) := by decide +kernel
theorem d_Line_release_5 : decode b_Line_release 5 = .ok (.getfield 26, 3) := by decide +kernel
theorem d_Line_release_8 : decode b_Line_release 8 = .ok (.putfield 32, 3) := by decide +kernel
theorem d_Line_release_11 : decode b_Line_release 11 = .ok (.return_, 1) := by decide +kernel
theorem d_Line_fetch_0 : decode b_Line_fetch 0 = .ok (.aload_n 0, 1) := by decide +kernel
theorem d_Line_fetch_1 : decode b_Line_fetch 1 = .ok (.getfield 18, 3) := by decide +kernel
theorem d_Line_fetch_4 : decode b_Line_fetch 4 = .ok (.getstatic 58, 3) := by decide +kernel
theorem d_Line_fetch_7 : decode b_Line_fetch 7 = .ok (.aload_n 0, 1) := by decide +kernel
theorem d_Line_fetch_8 : decode b_Line_fetch 8 = .ok (.getfield 9, 3) := by decide +kernel
theorem d_Line_fetch_11 : decode b_Line_fetch 11 = .ok (.iconst 4, 1) := by decide +kernel
theorem d_Line_fetch_12 : decode b_Line_fetch 12 = .ok (.aload_n 0, 1) := by decide +kernel
theorem d_Line_fetch_13 : decode b_Line_fetch 13 = .ok (.getfield 15, 3) := by decide +kernel
theorem d_Line_fetch_16 : decode b_Line_fetch 16 = .ok (.invokevirtual 52, 3) := by decide +kernel
theorem d_Line_fetch_19 : decode b_Line_fetch 19 = .ok (.pop, 1) := by decide +kernel
theorem d_Line_fetch_20 : decode b_Line_fetch 20 = .ok (.aload_n 0, 1) := by decide +kernel
theorem d_Line_fetch_21 : decode b_Line_fetch 21 = .ok (.aload_n 0, 1) := by decide +kernel
theorem d_Line_fetch_22 : decode b_Line_fetch 22 = .ok (.getfield 22, 3) := by decide +kernel
theorem d_Line_fetch_25 : decode b_Line_fetch 25 = .ok (.getfield 61, 3) := by decide +kernel
theorem d_Line_fetch_28 : decode b_Line_fetch 28 = .ok (.putfield 32, 3) := by decide +kernel
theorem d_Line_fetch_31 : decode b_Line_fetch 31 = .ok (.return_, 1) := by decide +kernel
theorem d_Line_gain_0 : decode b_Line_gain 0 = .ok (.aload_n 0, 1) := by decide +kernel
theorem d_Line_gain_1 : decode b_Line_gain 1 = .ok (.getfield 18, 3) := by decide +kernel
theorem d_Line_gain_4 : decode b_Line_gain 4 = .ok (.getstatic 64, 3) := by decide +kernel
theorem d_Line_gain_7 : decode b_Line_gain 7 = .ok (.aload_n 0, 1) := by decide +kernel
theorem d_Line_gain_8 : decode b_Line_gain 8 = .ok (.getfield 9, 3) := by decide +kernel
theorem d_Line_gain_11 : decode b_Line_gain 11 = .ok (.iconst 4, 1) := by decide +kernel
theorem d_Line_gain_12 : decode b_Line_gain 12 = .ok (.aload_n 0, 1) := by decide +kernel
theorem d_Line_gain_13 : decode b_Line_gain 13 = .ok (.getfield 15, 3) := by decide +kernel
theorem d_Line_gain_16 : decode b_Line_gain 16 = .ok (.invokevirtual 52, 3) := by decide +kernel
theorem d_Line_gain_19 : decode b_Line_gain 19 = .ok (.pop, 1) := by decide +kernel
theorem d_Line_gain_20 : decode b_Line_gain 20 = .ok (.aload_n 0, 1) := by decide +kernel
theorem d_Line_gain_21 : decode b_Line_gain 21 = .ok (.iconst 0, 1) := by decide +kernel
theorem d_Line_gain_22 : decode b_Line_gain 22 = .ok (.putfield 67, 3) := by decide +kernel
theorem d_Line_gain_25 : decode b_Line_gain 25 = .ok (.aload_n 0, 1) := by decide +kernel
theorem d_Line_gain_26 : decode b_Line_gain 26 = .ok (.aload_n 0, 1) := by decide +kernel
theorem d_Line_gain_27 : decode b_Line_gain 27 = .ok (.getfield 32, 3) := by decide +kernel
theorem d_Line_gain_30 : decode b_Line_gain 30 = .ok (.aload_n 0, 1) := by decide +kernel
theorem d_Line_gain_31 : decode b_Line_gain 31 = .ok (.getfield 22, 3) := by decide +kernel
theorem d_Line_gain_34 : decode b_Line_gain 34 = .ok (.getfield 70, 3) := by decide +kernel
theorem d_Line_gain_37 : decode b_Line_gain 37 = .ok (.if_acmp .ne 13, 3) := by decide +kernel
theorem d_Line_gain_40 : decode b_Line_gain 40 = .ok (.aload_n 0, 1) := by decide +kernel
theorem d_Line_gain_41 : decode b_Line_gain 41 = .ok (.getfield 22, 3) := by decide +kernel
theorem d_Line_gain_44 : decode b_Line_gain 44 = .ok (.getfield 73, 3) := by decide +kernel
theorem d_Line_gain_47 : decode b_Line_gain 47 = .ok (.goto 10, 3) := by decide +kernel
theorem d_Line_gain_50 : decode b_Line_gain 50 = .ok (.aload_n 0, 1) := by decide +kernel
theorem d_Line_gain_51 : decode b_Line_gain 51 = .ok (.getfield 22, 3) := by decide +kernel
theorem d_Line_gain_54 : decode b_Line_gain 54 = .ok (.getfield 76, 3) := by decide +kernel
theorem d_Line_gain_57 : decode b_Line_gain 57 = .ok (.putfield 32, 3) := by decide +kernel
theorem d_Line_gain_60 : decode b_Line_gain 60 = .ok (.return_, 1) := by decide +kernel
theorem d_Line_leave_0 : decode b_Line_leave 0 = .ok (.aload_n 0, 1) := by decide +kernel
theorem d_Line_leave_1 : decode b_Line_leave 1 = .ok (.getfield 32, 3) := by decide +kernel
theorem d_Line_leave_4 : decode b_Line_leave 4 = .ok (.aload_n 0, 1) := by decide +kernel
theorem d_Line_leave_5 : decode b_Line_leave 5 = .ok (.getfield 22, 3) := by decide +kernel
theorem d_Line_leave_8 : decode b_Line_leave 8 = .ok (.getfield 70, 3) := by decide +kernel
theorem d_Line_leave_11 : decode b_Line_leave 11 = .ok (.if_acmp .ne 37, 3) := by decide +kernel
theorem d_Line_leave_14 : decode b_Line_leave 14 = .ok (.aload_n 0, 1) := by decide +kernel
theorem d_Line_leave_15 : decode b_Line_leave 15 = .ok (.getfield 18, 3) := by decide +kernel
theorem d_Line_leave_18 : decode b_Line_leave 18 = .ok (.getstatic 79, 3) := by decide +kernel
theorem d_Line_leave_21 : decode b_Line_leave 21 = .ok (.aload_n 0, 1) := by decide +kernel
theorem d_Line_leave_22 : decode b_Line_leave 22 = .ok (.getfield 9, 3) := by decide +kernel
theorem d_Line_leave_25 : decode b_Line_leave 25 = .ok (.iconst 4, 1) := by decide +kernel
theorem d_Line_leave_26 : decode b_Line_leave 26 = .ok (.aload_n 0, 1) := by decide +kernel
theorem d_Line_leave_27 : decode b_Line_leave 27 = .ok (.getfield 15, 3) := by decide +kernel
theorem d_Line_leave_30 : decode b_Line_leave 30 = .ok (.invokevirtual 52, 3) := by decide +kernel
theorem d_Line_leave_33 : decode b_Line_leave 33 = .ok (.pop, 1) := by decide +kernel
theorem d_Line_leave_34 : decode b_Line_leave 34 = .ok (.aload_n 0, 1) := by decide +kernel
theorem d_Line_leave_35 : decode b_Line_leave 35 = .ok (.aload_n 0, 1) := by decide +kernel
theorem d_Line_leave_36 : decode b_Line_leave 36 = .ok (.getfield 22, 3) := by decide +kernel
theorem d_Line_leave_39 : decode b_Line_leave 39 = .ok (.getfield 82, 3) := by decide +kernel
theorem d_Line_leave_42 : decode b_Line_leave 42 = .ok (.putfield 32, 3) := by decide +kernel
theorem d_Line_leave_45 : decode b_Line_leave 45 = .ok (.goto 37, 3) := by decide +kernel
theorem d_Line_leave_48 : decode b_Line_leave 48 = .ok (.aload_n 0, 1) := by decide +kernel
theorem d_Line_leave_49 : decode b_Line_leave 49 = .ok (.getfield 18, 3) := by decide +kernel
theorem d_Line_leave_52 : decode b_Line_leave 52 = .ok (.getstatic 85, 3) := by decide +kernel
theorem d_Line_leave_55 : decode b_Line_leave 55 = .ok (.aload_n 0, 1) := by decide +kernel
theorem d_Line_leave_56 : decode b_Line_leave 56 = .ok (.getfield 9, 3) := by decide +kernel
theorem d_Line_leave_59 : decode b_Line_leave 59 = .ok (.iconst 4, 1) := by decide +kernel
theorem d_Line_leave_60 : decode b_Line_leave 60 = .ok (.aload_n 0, 1) := by decide +kernel
theorem d_Line_leave_61 : decode b_Line_leave 61 = .ok (.getfield 15, 3) := by decide +kernel
theorem d_Line_leave_64 : decode b_Line_leave 64 = .ok (.aload_n 0, 1) := by decide +kernel
theorem d_Line_leave_65 : decode b_Line_leave 65 = .ok (.getfield 88, 3) := by decide +kernel
theorem d_Line_leave_68 : decode b_Line_leave 68 = .ok (.invokevirtual 91, 3) := by decide +kernel
theorem d_Line_leave_71 : decode b_Line_leave 71 = .ok (.aload_n 0, 1) := by decide +kernel
theorem d_Line_leave_72 : decode b_Line_leave 72 = .ok (.aload_n 0, 1) := by decide +kernel
theorem d_Line_leave_73 : decode b_Line_leave 73 = .ok (.getfield 22, 3) := by decide +kernel
theorem d_Line_leave_76 : decode b_Line_leave 76 = .ok (.getfield 95, 3) := by decide +kernel
theorem d_Line_leave_79 : decode b_Line_leave 79 = .ok (.putfield 32, 3) := by decide +kernel
theorem d_Line_leave_82 : decode b_Line_leave 82 = .ok (.return_, 1) := by decide +kernel
theorem d_Msg_init_0 : decode b_Msg_init 0 = .ok (.aload_n 0, 1) := by decide +kernel
theorem d_Msg_init_1 : decode b_Msg_init 1 = .ok (.invokespecial 1, 3) := by decide +kernel
theorem d_Msg_init_4 : decode b_Msg_init 4 = .ok (.return_, 1) := by decide +kernel
theorem d_Msg_sameWay_0 : decode b_Msg_sameWay 0 = .ok (.aload_n 0, 1) := by decide +kernel
theorem d_Msg_sameWay_1 : decode b_Msg_sameWay 1 = .ok (.getfield 7, 3) := by decide +kernel
theorem d_Msg_sameWay_4 : decode b_Msg_sameWay 4 = .ok (.getfield 13, 3) := by decide +kernel
theorem d_Msg_sameWay_7 : decode b_Msg_sameWay 7 = .ok (.ifCond .eq 29, 3) := by decide +kernel
theorem d_Msg_sameWay_10 : decode b_Msg_sameWay 10 = .ok (.aload_n 1, 1) := by decide +kernel
theorem d_Msg_sameWay_11 : decode b_Msg_sameWay 11 = .ok (.getfield 19, 3) := by decide +kernel
theorem d_Msg_sameWay_14 : decode b_Msg_sameWay 14 = .ok (.aload_n 0, 1) := by decide +kernel
theorem d_Msg_sameWay_15 : decode b_Msg_sameWay 15 = .ok (.getfield 19, 3) := by decide +kernel
theorem d_Msg_sameWay_18 : decode b_Msg_sameWay 18 = .ok (.if_icmp .ne 18, 3) := by decide +kernel
theorem d_Msg_sameWay_21 : decode b_Msg_sameWay 21 = .ok (.aload_n 1, 1) := by decide +kernel
theorem d_Msg_sameWay_22 : decode b_Msg_sameWay 22 = .ok (.getfield 23, 3) := by decide +kernel
theorem d_Msg_sameWay_25 : decode b_Msg_sameWay 25 = .ok (.aload_n 0, 1) := by decide +kernel
theorem d_Msg_sameWay_26 : decode b_Msg_sameWay 26 = .ok (.getfield 23, 3) := by decide +kernel
theorem d_Msg_sameWay_29 : decode b_Msg_sameWay 29 = .ok (.if_icmp .ne 7, 3) := by decide +kernel
theorem d_Msg_sameWay_32 : decode b_Msg_sameWay 32 = .ok (.iconst 1, 1) := by decide +kernel
theorem d_Msg_sameWay_33 : decode b_Msg_sameWay 33 = .ok (.goto 4, 3) := by decide +kernel
theorem d_Msg_sameWay_36 : decode b_Msg_sameWay 36 = .ok (.iconst 0, 1) := by decide +kernel
theorem d_Msg_sameWay_37 : decode b_Msg_sameWay 37 = .ok (.ireturn, 1) := by decide +kernel
theorem d_Mode_init_0 : decode b_Mode_init 0 = .ok (.aload_n 0, 1) := by decide +kernel
theorem d_Mode_init_1 : decode b_Mode_init 1 = .ok (.invokespecial 1, 3) := by decide +kernel
theorem d_Mode_init_4 : decode b_Mode_init 4 = .ok (.aload_n 0, 1) := by decide +kernel
theorem d_Mode_init_5 : decode b_Mode_init 5 = .ok (.iload_n 1, 1) := by decide +kernel
theorem d_Mode_init_6 : decode b_Mode_init 6 = .ok (.putfield 7, 3) := by decide +kernel
theorem d_Mode_init_9 : decode b_Mode_init 9 = .ok (.aload_n 0, 1) := by decide +kernel
theorem d_Mode_init_10 : decode b_Mode_init 10 = .ok (.iload_n 2, 1) := by decide +kernel
theorem d_Mode_init_11 : decode b_Mode_init 11 = .ok (.putfield 13, 3) := by decide +kernel
theorem d_Mode_init_14 : decode b_Mode_init 14 = .ok (.return_, 1) := by decide +kernel
theorem d_Net_init_0 : decode b_Net_init 0 = .ok (.aload_n 0, 1) := by decide +kernel
theorem d_Net_init_1 : decode b_Net_init 1 = .ok (.invokespecial 3, 3) := by decide +kernel
theorem d_Net_init_4 : decode b_Net_init 4 = .ok (.return_, 1) := by decide +kernel
theorem d_Net_send_0 : decode b_Net_send 0 = .ok (.aload_n 0, 1) := by decide +kernel
theorem d_Net_send_1 : decode b_Net_send 1 = .ok (.getfield 9, 3) := by decide +kernel
theorem d_Net_send_4 : decode b_Net_send 4 = .ok (.astore 5, 2) := by decide +kernel
theorem d_Net_send_6 : decode b_Net_send 6 = .ok (.aload 5, 2) := by decide +kernel
theorem d_Net_send_8 : decode b_Net_send 8 = .ok (.ifnonnull 15, 3) := by decide +kernel
theorem d_Net_send_11 : decode b_Net_send 11 = .ok (.new 15, 3) := by decide +kernel
theorem d_Net_send_14 : decode b_Net_send 14 = .ok (.dup, 1) := by decide +kernel
theorem d_Net_send_15 : decode b_Net_send 15 = .ok (.invokespecial 17, 3) := by decide +kernel
theorem d_Net_send_18 : decode b_Net_send 18 = .ok (.astore 5, 2) := by decide +kernel
theorem d_Net_send_20 : decode b_Net_send 20 = .ok (.goto 12, 3) := by decide +kernel
theorem d_Net_send_23 : decode b_Net_send 23 = .ok (.aload_n 0, 1) := by decide +kernel
theorem d_Net_send_24 : decode b_Net_send 24 = .ok (.aload 5, 2) := by decide +kernel
theorem d_Net_send_26 : decode b_Net_send 26 = .ok (.getfield 18, 3) := by decide +kernel
theorem d_Net_send_29 : decode b_Net_send 29 = .ok (.putfield 9, 3) := by decide +kernel
theorem d_Net_send_32 : decode b_Net_send 32 = .ok (.aload 5, 2) := by decide +kernel
theorem d_Net_send_34 : decode b_Net_send 34 = .ok (.aload_n 1, 1) := by decide +kernel
theorem d_Net_send_35 : decode b_Net_send 35 = .ok (.putfield 21, 3) := by decide +kernel
theorem d_Net_send_38 : decode b_Net_send 38 = .ok (.aload 5, 2) := by decide +kernel
theorem d_Net_send_40 : decode b_Net_send 40 = .ok (.iload_n 2, 1) := by decide +kernel
theorem d_Net_send_41 : decode b_Net_send 41 = .ok (.putfield 25, 3) := by decide +kernel
theorem d_Net_send_44 : decode b_Net_send 44 = .ok (.aload 5, 2) := by decide +kernel
theorem d_Net_send_46 : decode b_Net_send 46 = .ok (.iload_n 3, 1) := by decide +kernel
theorem d_Net_send_47 : decode b_Net_send 47 = .ok (.putfield 29, 3) := by decide +kernel
theorem d_Net_send_50 : decode b_Net_send 50 = .ok (.aload 5, 2) := by decide +kernel
theorem d_Net_send_52 : decode b_Net_send 52 = .ok (.iload 4, 2) := by decide +kernel
theorem d_Net_send_54 : decode b_Net_send 54 = .ok (.putfield 32, 3) := by decide +kernel
theorem d_Net_send_57 : decode b_Net_send 57 = .ok (.aload 5, 2) := by decide +kernel
theorem d_Net_send_59 : decode b_Net_send 59 = .ok (.iconst 0, 1) := by decide +kernel
theorem d_Net_send_60 : decode b_Net_send 60 = .ok (.putfield 35, 3) := by decide +kernel
theorem d_Net_send_63 : decode b_Net_send 63 = .ok (.aload 5, 2) := by decide +kernel
theorem d_Net_send_65 : decode b_Net_send 65 = .ok (.iconst 0, 1) := by decide +kernel
theorem d_Net_send_66 : decode b_Net_send 66 = .ok (.putfield 38, 3) := by decide +kernel
theorem d_Net_send_69 : decode b_Net_send 69 = .ok (.aload 5, 2) := by decide +kernel
theorem d_Net_send_71 : decode b_Net_send 71 = .ok (.iconst (-1), 1) := by decide +kernel
theorem d_Net_send_72 : decode b_Net_send 72 = .ok (.putfield 41, 3) := by decide +kernel
theorem d_Net_send_75 : decode b_Net_send 75 = .ok (.aload 5, 2) := by decide +kernel
theorem d_Net_send_77 : decode b_Net_send 77 = .ok (.aconst_null, 1) := by decide +kernel
theorem d_Net_send_78 : decode b_Net_send 78 = .ok (.putfield 18, 3) := by decide +kernel
theorem d_Net_send_81 : decode b_Net_send 81 = .ok (.aload_n 0, 1) := by decide +kernel
theorem d_Net_send_82 : decode b_Net_send 82 = .ok (.getfield 44, 3) := by decide +kernel
theorem d_Net_send_85 : decode b_Net_send 85 = .ok (.ifnonnull 12, 3) := by decide +kernel
theorem d_Net_send_88 : decode b_Net_send 88 = .ok (.aload_n 0, 1) := by decide +kernel
theorem d_Net_send_89 : decode b_Net_send 89 = .ok (.aload 5, 2) := by decide +kernel
theorem d_Net_send_91 : decode b_Net_send 91 = .ok (.putfield 44, 3) := by decide +kernel
theorem d_Net_send_94 : decode b_Net_send 94 = .ok (.goto 12, 3) := by decide +kernel
theorem d_Net_send_97 : decode b_Net_send 97 = .ok (.aload_n 0, 1) := by decide +kernel
theorem d_Net_send_98 : decode b_Net_send 98 = .ok (.getfield 47, 3) := by decide +kernel
theorem d_Net_send_101 : decode b_Net_send 101 = .ok (.aload 5, 2) := by decide +kernel
theorem d_Net_send_103 : decode b_Net_send 103 = .ok (.putfield 18, 3) := by decide +kernel
theorem d_Net_send_106 : decode b_Net_send 106 = .ok (.aload_n 0, 1) := by decide +kernel
theorem d_Net_send_107 : decode b_Net_send 107 = .ok (.aload 5, 2) := by decide +kernel
theorem d_Net_send_109 : decode b_Net_send 109 = .ok (.putfield 47, 3) := by decide +kernel
theorem d_Net_send_112 : decode b_Net_send 112 = .ok (.aload_n 0, 1) := by decide +kernel
theorem d_Net_send_113 : decode b_Net_send 113 = .ok (.dup, 1) := by decide +kernel
theorem d_Net_send_114 : decode b_Net_send 114 = .ok (.getfield 50, 3) := by decide +kernel
theorem d_Net_send_117 : decode b_Net_send 117 = .ok (.iconst 1, 1) := by decide +kernel
theorem d_Net_send_118 : decode b_Net_send 118 = .ok (.iadd, 1) := by decide +kernel
theorem d_Net_send_119 : decode b_Net_send 119 = .ok (.putfield 50, 3) := by decide +kernel
theorem d_Net_send_122 : decode b_Net_send 122 = .ok (.aload_n 0, 1) := by decide +kernel
theorem d_Net_send_123 : decode b_Net_send 123 = .ok (.dup, 1) := by decide +kernel
theorem d_Net_send_124 : decode b_Net_send 124 = .ok (.getfield 53, 3) := by decide +kernel
theorem d_Net_send_127 : decode b_Net_send 127 = .ok (.iconst 1, 1) := by decide +kernel
theorem d_Net_send_128 : decode b_Net_send 128 = .ok (.iadd, 1) := by decide +kernel
theorem d_Net_send_129 : decode b_Net_send 129 = .ok (.putfield 53, 3) := by decide +kernel
theorem d_Net_send_132 : decode b_Net_send 132 = .ok (.aload 5, 2) := by decide +kernel
theorem d_Net_send_134 : decode b_Net_send 134 = .ok (.areturn, 1) := by decide +kernel
theorem d_Net_sendWord_0 : decode b_Net_sendWord 0 = .ok (.aload_n 0, 1) := by decide +kernel
theorem d_Net_sendWord_1 : decode b_Net_sendWord 1 = .ok (.aload_n 1, 1) := by decide +kernel
theorem d_Net_sendWord_2 : decode b_Net_sendWord 2 = .ok (.iload_n 2, 1) := by decide +kernel
theorem d_Net_sendWord_3 : decode b_Net_sendWord 3 = .ok (.iload_n 3, 1) := by decide +kernel
theorem d_Net_sendWord_4 : decode b_Net_sendWord 4 = .ok (.iload 4, 2) := by decide +kernel
theorem d_Net_sendWord_6 : decode b_Net_sendWord 6 = .ok (.invokevirtual 56, 3) := by decide +kernel
theorem d_Net_sendWord_9 : decode b_Net_sendWord 9 = .ok (.iload 5, 2) := by decide +kernel
theorem d_Net_sendWord_11 : decode b_Net_sendWord 11 = .ok (.putfield 35, 3) := by decide +kernel
theorem d_Net_sendWord_14 : decode b_Net_sendWord 14 = .ok (.return_, 1) := by decide +kernel
theorem d_Net_sendFor_0 : decode b_Net_sendFor 0 = .ok (.aload_n 0, 1) := by decide +kernel
theorem d_Net_sendFor_1 : decode b_Net_sendFor 1 = .ok (.aload_n 1, 1) := by decide +kernel
theorem d_Net_sendFor_2 : decode b_Net_sendFor 2 = .ok (.iconst 4, 1) := by decide +kernel
theorem d_Net_sendFor_3 : decode b_Net_sendFor 3 = .ok (.iload_n 2, 1) := by decide +kernel
theorem d_Net_sendFor_4 : decode b_Net_sendFor 4 = .ok (.iload_n 3, 1) := by decide +kernel
theorem d_Net_sendFor_5 : decode b_Net_sendFor 5 = .ok (.invokevirtual 56, 3) := by decide +kernel
theorem d_Net_sendFor_8 : decode b_Net_sendFor 8 = .ok (.iload 4, 2) := by decide +kernel
theorem d_Net_sendFor_10 : decode b_Net_sendFor 10 = .ok (.putfield 41, 3) := by decide +kernel
theorem d_Net_sendFor_13 : decode b_Net_sendFor 13 = .ok (.return_, 1) := by decide +kernel
theorem d_Net_at_0 : decode b_Net_at 0 = .ok (.iload_n 1, 1) := by decide +kernel
theorem d_Net_at_1 : decode b_Net_at 1 = .ok (.ifCond .ge 7, 3) := by decide +kernel
theorem d_Net_at_4 : decode b_Net_at 4 = .ok (.aconst_null, 1) := by decide +kernel
theorem d_Net_at_5 : decode b_Net_at 5 = .ok (.goto 7, 3) := by decide +kernel
theorem d_Net_at_8 : decode b_Net_at 8 = .ok (.aload_n 0, 1) := by decide +kernel
theorem d_Net_at_9 : decode b_Net_at 9 = .ok (.getfield 44, 3) := by decide +kernel
theorem d_Net_at_12 : decode b_Net_at 12 = .ok (.astore_n 2, 1) := by decide +kernel
theorem d_Net_at_13 : decode b_Net_at 13 = .ok (.iconst 0, 1) := by decide +kernel
theorem d_Net_at_14 : decode b_Net_at 14 = .ok (.istore_n 3, 1) := by decide +kernel
theorem d_Net_at_15 : decode b_Net_at 15 = .ok (.iload_n 3, 1) := by decide +kernel
theorem d_Net_at_16 : decode b_Net_at 16 = .ok (.iload_n 1, 1) := by decide +kernel
theorem d_Net_at_17 : decode b_Net_at 17 = .ok (.if_icmp .ge 18, 3) := by decide +kernel
theorem d_Net_at_20 : decode b_Net_at 20 = .ok (.aload_n 2, 1) := by decide +kernel
theorem d_Net_at_21 : decode b_Net_at 21 = .ok (.ifnull 14, 3) := by decide +kernel
theorem d_Net_at_24 : decode b_Net_at 24 = .ok (.aload_n 2, 1) := by decide +kernel
theorem d_Net_at_25 : decode b_Net_at 25 = .ok (.getfield 18, 3) := by decide +kernel
theorem d_Net_at_28 : decode b_Net_at 28 = .ok (.astore_n 2, 1) := by decide +kernel
theorem d_Net_at_29 : decode b_Net_at 29 = .ok (.iinc 3 1, 3) := by decide +kernel
theorem d_Net_at_32 : decode b_Net_at 32 = .ok (.goto (-17), 3) := by decide +kernel
theorem d_Net_at_35 : decode b_Net_at 35 = .ok (.aload_n 2, 1) := by decide +kernel
theorem d_Net_at_36 : decode b_Net_at 36 = .ok (.areturn, 1) := by decide +kernel
theorem d_Net_behind_0 : decode b_Net_behind 0 = .ok (.aload_n 0, 1) := by decide +kernel
theorem d_Net_behind_1 : decode b_Net_behind 1 = .ok (.getfield 44, 3) := by decide +kernel
theorem d_Net_behind_4 : decode b_Net_behind 4 = .ok (.astore_n 2, 1) := by decide +kernel
theorem d_Net_behind_5 : decode b_Net_behind 5 = .ok (.aload_n 2, 1) := by decide +kernel
theorem d_Net_behind_6 : decode b_Net_behind 6 = .ok (.aload_n 1, 1) := by decide +kernel
theorem d_Net_behind_7 : decode b_Net_behind 7 = .ok (.if_acmp .eq 19, 3) := by decide +kernel
theorem d_Net_behind_10 : decode b_Net_behind 10 = .ok (.aload_n 2, 1) := by decide +kernel
theorem d_Net_behind_11 : decode b_Net_behind 11 = .ok (.aload_n 1, 1) := by decide +kernel
theorem d_Net_behind_12 : decode b_Net_behind 12 = .ok (.invokevirtual 60, 3) := by decide +kernel
theorem d_Net_behind_15 : decode b_Net_behind 15 = .ok (.ifCond .ne 11, 3) := by decide +kernel
theorem d_Net_behind_18 : decode b_Net_behind 18 = .ok (.aload_n 2, 1) := by decide +kernel
theorem d_Net_behind_19 : decode b_Net_behind 19 = .ok (.getfield 18, 3) := by decide +kernel
theorem d_Net_behind_22 : decode b_Net_behind 22 = .ok (.astore_n 2, 1) := by decide +kernel
theorem d_Net_behind_23 : decode b_Net_behind 23 = .ok (.goto (-18), 3) := by decide +kernel
theorem d_Net_behind_26 : decode b_Net_behind 26 = .ok (.aload_n 2, 1) := by decide +kernel
theorem d_Net_behind_27 : decode b_Net_behind 27 = .ok (.aload_n 1, 1) := by decide +kernel
theorem d_Net_behind_28 : decode b_Net_behind 28 = .ok (.if_acmp .eq 7, 3) := by decide +kernel
theorem d_Net_behind_31 : decode b_Net_behind 31 = .ok (.iconst 1, 1) := by decide +kernel
theorem d_Net_behind_32 : decode b_Net_behind 32 = .ok (.goto 4, 3) := by decide +kernel
theorem d_Net_behind_35 : decode b_Net_behind 35 = .ok (.iconst 0, 1) := by decide +kernel
theorem d_Net_behind_36 : decode b_Net_behind 36 = .ok (.ireturn, 1) := by decide +kernel
theorem d_Net_remove_0 : decode b_Net_remove 0 = .ok (.aconst_null, 1) := by decide +kernel
theorem d_Net_remove_1 : decode b_Net_remove 1 = .ok (.astore_n 2, 1) := by decide +kernel
theorem d_Net_remove_2 : decode b_Net_remove 2 = .ok (.aload_n 0, 1) := by decide +kernel
theorem d_Net_remove_3 : decode b_Net_remove 3 = .ok (.getfield 44, 3) := by decide +kernel
theorem d_Net_remove_6 : decode b_Net_remove 6 = .ok (.astore_n 3, 1) := by decide +kernel
theorem d_Net_remove_7 : decode b_Net_remove 7 = .ok (.aload_n 3, 1) := by decide +kernel
theorem d_Net_remove_8 : decode b_Net_remove 8 = .ok (.aload_n 1, 1) := by decide +kernel
theorem d_Net_remove_9 : decode b_Net_remove 9 = .ok (.if_acmp .eq 13, 3) := by decide +kernel
theorem d_Net_remove_12 : decode b_Net_remove 12 = .ok (.aload_n 3, 1) := by decide +kernel
theorem d_Net_remove_13 : decode b_Net_remove 13 = .ok (.astore_n 2, 1) := by decide +kernel
theorem d_Net_remove_14 : decode b_Net_remove 14 = .ok (.aload_n 3, 1) := by decide +kernel
theorem d_Net_remove_15 : decode b_Net_remove 15 = .ok (.getfield 18, 3) := by decide +kernel
theorem d_Net_remove_18 : decode b_Net_remove 18 = .ok (.astore_n 3, 1) := by decide +kernel
theorem d_Net_remove_19 : decode b_Net_remove 19 = .ok (.goto (-12), 3) := by decide +kernel
theorem d_Net_remove_22 : decode b_Net_remove 22 = .ok (.aload_n 2, 1) := by decide +kernel
theorem d_Net_remove_23 : decode b_Net_remove 23 = .ok (.ifnonnull 14, 3) := by decide +kernel
theorem d_Net_remove_26 : decode b_Net_remove 26 = .ok (.aload_n 0, 1) := by decide +kernel
theorem d_Net_remove_27 : decode b_Net_remove 27 = .ok (.aload_n 1, 1) := by decide +kernel
theorem d_Net_remove_28 : decode b_Net_remove 28 = .ok (.getfield 18, 3) := by decide +kernel
theorem d_Net_remove_31 : decode b_Net_remove 31 = .ok (.putfield 44, 3) := by decide +kernel
theorem d_Net_remove_34 : decode b_Net_remove 34 = .ok (.goto 11, 3) := by decide +kernel
theorem d_Net_remove_37 : decode b_Net_remove 37 = .ok (.aload_n 2, 1) := by decide +kernel
theorem d_Net_remove_38 : decode b_Net_remove 38 = .ok (.aload_n 1, 1) := by decide +kernel
theorem d_Net_remove_39 : decode b_Net_remove 39 = .ok (.getfield 18, 3) := by decide +kernel
theorem d_Net_remove_42 : decode b_Net_remove 42 = .ok (.putfield 18, 3) := by decide +kernel
theorem d_Net_remove_45 : decode b_Net_remove 45 = .ok (.aload_n 0, 1) := by decide +kernel
theorem d_Net_remove_46 : decode b_Net_remove 46 = .ok (.getfield 47, 3) := by decide +kernel
theorem d_Net_remove_49 : decode b_Net_remove 49 = .ok (.aload_n 1, 1) := by decide +kernel
theorem d_Net_remove_50 : decode b_Net_remove 50 = .ok (.if_acmp .ne 8, 3) := by decide +kernel
theorem d_Net_remove_53 : decode b_Net_remove 53 = .ok (.aload_n 0, 1) := by decide +kernel
theorem d_Net_remove_54 : decode b_Net_remove 54 = .ok (.aload_n 2, 1) := by decide +kernel
theorem d_Net_remove_55 : decode b_Net_remove 55 = .ok (.putfield 47, 3) := by decide +kernel
theorem d_Net_remove_58 : decode b_Net_remove 58 = .ok (.aload_n 1, 1) := by decide +kernel
theorem d_Net_remove_59 : decode b_Net_remove 59 = .ok (.aload_n 0, 1) := by decide +kernel
theorem d_Net_remove_60 : decode b_Net_remove 60 = .ok (.getfield 9, 3) := by decide +kernel
theorem d_Net_remove_63 : decode b_Net_remove 63 = .ok (.putfield 18, 3) := by decide +kernel
theorem d_Net_remove_66 : decode b_Net_remove 66 = .ok (.aload_n 0, 1) := by decide +kernel
theorem d_Net_remove_67 : decode b_Net_remove 67 = .ok (.aload_n 1, 1) := by decide +kernel
theorem d_Net_remove_68 : decode b_Net_remove 68 = .ok (.putfield 9, 3) := by decide +kernel
theorem d_Net_remove_71 : decode b_Net_remove 71 = .ok (.aload_n 0, 1) := by decide +kernel
theorem d_Net_remove_72 : decode b_Net_remove 72 = .ok (.dup, 1) := by decide +kernel
theorem d_Net_remove_73 : decode b_Net_remove 73 = .ok (.getfield 50, 3) := by decide +kernel
theorem d_Net_remove_76 : decode b_Net_remove 76 = .ok (.iconst 1, 1) := by decide +kernel
theorem d_Net_remove_77 : decode b_Net_remove 77 = .ok (.isub, 1) := by decide +kernel
theorem d_Net_remove_78 : decode b_Net_remove 78 = .ok (.putfield 50, 3) := by decide +kernel
theorem d_Net_remove_81 : decode b_Net_remove 81 = .ok (.return_, 1) := by decide +kernel
theorem d_Op_values_0 : decode b_Op_values 0 = .ok (.getstatic 22, 3) := by decide +kernel
theorem d_Op_values_3 : decode b_Op_values 3 = .ok (.invokevirtual 26, 3) := by decide +kernel
theorem d_Op_values_6 : decode b_Op_values 6 = .ok (.checkcast 27, 3) := by decide +kernel
theorem d_Op_values_9 : decode b_Op_values 9 = .ok (.areturn, 1) := by decide +kernel
theorem d_Op_accesses_0 : decode b_Op_accesses 0 = .ok (.aload_n 0, 1) := by decide +kernel
theorem d_Op_accesses_1 : decode b_Op_accesses 1 = .ok (.getstatic 3, 3) := by decide +kernel
theorem d_Op_accesses_4 : decode b_Op_accesses 4 = .ok (.if_acmp .eq 17, 3) := by decide +kernel
theorem d_Op_accesses_7 : decode b_Op_accesses 7 = .ok (.aload_n 0, 1) := by decide +kernel
theorem d_Op_accesses_8 : decode b_Op_accesses 8 = .ok (.getstatic 7, 3) := by decide +kernel
theorem d_Op_accesses_11 : decode b_Op_accesses 11 = .ok (.if_acmp .eq 10, 3) := by decide +kernel
theorem d_Op_accesses_14 : decode b_Op_accesses 14 = .ok (.aload_n 0, 1) := by decide +kernel
theorem d_Op_accesses_15 : decode b_Op_accesses 15 = .ok (.getstatic 19, 3) := by decide +kernel
theorem d_Op_accesses_18 : decode b_Op_accesses 18 = .ok (.if_acmp .ne 7, 3) := by decide +kernel
theorem d_Op_accesses_21 : decode b_Op_accesses 21 = .ok (.iconst 1, 1) := by decide +kernel
theorem d_Op_accesses_22 : decode b_Op_accesses 22 = .ok (.goto 4, 3) := by decide +kernel
theorem d_Op_accesses_25 : decode b_Op_accesses 25 = .ok (.iconst 0, 1) := by decide +kernel
theorem d_Op_accesses_26 : decode b_Op_accesses 26 = .ok (.ireturn, 1) := by decide +kernel
theorem d_Own_init_0 : decode b_Own_init 0 = .ok (.aload_n 0, 1) := by decide +kernel
theorem d_Own_init_1 : decode b_Own_init 1 = .ok (.iload_n 1, 1) := by decide +kernel
theorem d_Own_init_2 : decode b_Own_init 2 = .ok (.iconst 1, 1) := by decide +kernel
theorem d_Own_init_3 : decode b_Own_init 3 = .ok (.invokespecial 3, 3) := by decide +kernel
theorem d_Own_init_6 : decode b_Own_init 6 = .ok (.return_, 1) := by decide +kernel
theorem d_Own_take_0 : decode b_Own_take 0 = .ok (.aload_n 0, 1) := by decide +kernel
theorem d_Own_take_1 : decode b_Own_take 1 = .ok (.aload_n 1, 1) := by decide +kernel
theorem d_Own_take_2 : decode b_Own_take 2 = .ok (.getfield 9, 3) := by decide +kernel
theorem d_Own_take_5 : decode b_Own_take 5 = .ok (.getfield 15, 3) := by decide +kernel
theorem d_Own_take_8 : decode b_Own_take 8 = .ok (.if_acmp .ne 7, 3) := by decide +kernel
theorem d_Own_take_11 : decode b_Own_take 11 = .ok (.iconst 1, 1) := by decide +kernel
theorem d_Own_take_12 : decode b_Own_take 12 = .ok (.goto 4, 3) := by decide +kernel
theorem d_Own_take_15 : decode b_Own_take 15 = .ok (.iconst 0, 1) := by decide +kernel
theorem d_Own_take_16 : decode b_Own_take 16 = .ok (.istore_n 3, 1) := by decide +kernel
theorem d_Own_take_17 : decode b_Own_take 17 = .ok (.aload_n 2, 1) := by decide +kernel
theorem d_Own_take_18 : decode b_Own_take 18 = .ok (.getfield 21, 3) := by decide +kernel
theorem d_Own_take_21 : decode b_Own_take 21 = .ok (.invokevirtual 27, 3) := by decide +kernel
theorem d_Own_take_24 : decode b_Own_take 24 = .ok (.lookupswitch 157 #[(4, 28), (5, 104)], 28) := by decide +kernel
theorem d_Own_take_52 : decode b_Own_take 52 = .ok (.aload_n 1, 1) := by decide +kernel
theorem d_Own_take_53 : decode b_Own_take 53 = .ok (.getfield 33, 3) := by decide +kernel
theorem d_Own_take_56 : decode b_Own_take 56 = .ok (.getstatic 37, 3) := by decide +kernel
theorem d_Own_take_59 : decode b_Own_take 59 = .ok (.aload_n 1, 1) := by decide +kernel
theorem d_Own_take_60 : decode b_Own_take 60 = .ok (.getfield 40, 3) := by decide +kernel
theorem d_Own_take_63 : decode b_Own_take 63 = .ok (.aload_n 2, 1) := by decide +kernel
theorem d_Own_take_64 : decode b_Own_take 64 = .ok (.getfield 44, 3) := by decide +kernel
theorem d_Own_take_67 : decode b_Own_take 67 = .ok (.aload_n 1, 1) := by decide +kernel
theorem d_Own_take_68 : decode b_Own_take 68 = .ok (.getfield 47, 3) := by decide +kernel
theorem d_Own_take_71 : decode b_Own_take 71 = .ok (.aload_n 1, 1) := by decide +kernel
theorem d_Own_take_72 : decode b_Own_take 72 = .ok (.getfield 50, 3) := by decide +kernel
theorem d_Own_take_75 : decode b_Own_take 75 = .ok (.invokevirtual 53, 3) := by decide +kernel
theorem d_Own_take_78 : decode b_Own_take 78 = .ok (.aload_n 1, 1) := by decide +kernel
theorem d_Own_take_79 : decode b_Own_take 79 = .ok (.getfield 33, 3) := by decide +kernel
theorem d_Own_take_82 : decode b_Own_take 82 = .ok (.getstatic 37, 3) := by decide +kernel
theorem d_Own_take_85 : decode b_Own_take 85 = .ok (.aload_n 1, 1) := by decide +kernel
theorem d_Own_take_86 : decode b_Own_take 86 = .ok (.getfield 40, 3) := by decide +kernel
theorem d_Own_take_89 : decode b_Own_take 89 = .ok (.iconst 4, 1) := by decide +kernel
theorem d_Own_take_90 : decode b_Own_take 90 = .ok (.aload_n 1, 1) := by decide +kernel
theorem d_Own_take_91 : decode b_Own_take 91 = .ok (.getfield 47, 3) := by decide +kernel
theorem d_Own_take_94 : decode b_Own_take 94 = .ok (.aload_n 1, 1) := by decide +kernel
theorem d_Own_take_95 : decode b_Own_take 95 = .ok (.getfield 50, 3) := by decide +kernel
theorem d_Own_take_98 : decode b_Own_take 98 = .ok (.invokevirtual 53, 3) := by decide +kernel
theorem d_Own_take_101 : decode b_Own_take 101 = .ok (.aload_n 1, 1) := by decide +kernel
theorem d_Own_take_102 : decode b_Own_take 102 = .ok (.iload_n 3, 1) := by decide +kernel
theorem d_Own_take_103 : decode b_Own_take 103 = .ok (.ifCond .eq 13, 3) := by decide +kernel
theorem d_Own_take_106 : decode b_Own_take 106 = .ok (.aload_n 1, 1) := by decide +kernel
theorem d_Own_take_107 : decode b_Own_take 107 = .ok (.getfield 9, 3) := by decide +kernel
theorem d_Own_take_110 : decode b_Own_take 110 = .ok (.getfield 59, 3) := by decide +kernel
theorem d_Own_take_113 : decode b_Own_take 113 = .ok (.goto 10, 3) := by decide +kernel
theorem d_Own_take_116 : decode b_Own_take 116 = .ok (.aload_n 1, 1) := by decide +kernel
theorem d_Own_take_117 : decode b_Own_take 117 = .ok (.getfield 9, 3) := by decide +kernel
theorem d_Own_take_120 : decode b_Own_take 120 = .ok (.getfield 62, 3) := by decide +kernel
theorem d_Own_take_123 : decode b_Own_take 123 = .ok (.putfield 65, 3) := by decide +kernel
theorem d_Own_take_126 : decode b_Own_take 126 = .ok (.iconst 1, 1) := by decide +kernel
theorem d_Own_take_127 : decode b_Own_take 127 = .ok (.ireturn, 1) := by decide +kernel
theorem d_Own_take_128 : decode b_Own_take 128 = .ok (.aload_n 1, 1) := by decide +kernel
theorem d_Own_take_129 : decode b_Own_take 129 = .ok (.getfield 33, 3) := by decide +kernel
theorem d_Own_take_132 : decode b_Own_take 132 = .ok (.getstatic 37, 3) := by decide +kernel
theorem d_Own_take_135 : decode b_Own_take 135 = .ok (.aload_n 1, 1) := by decide +kernel
theorem d_Own_take_136 : decode b_Own_take 136 = .ok (.getfield 40, 3) := by decide +kernel
theorem d_Own_take_139 : decode b_Own_take 139 = .ok (.aload_n 2, 1) := by decide +kernel
theorem d_Own_take_140 : decode b_Own_take 140 = .ok (.getfield 44, 3) := by decide +kernel
theorem d_Own_take_143 : decode b_Own_take 143 = .ok (.aload_n 1, 1) := by decide +kernel
theorem d_Own_take_144 : decode b_Own_take 144 = .ok (.getfield 47, 3) := by decide +kernel
theorem d_Own_take_147 : decode b_Own_take 147 = .ok (.aload_n 1, 1) := by decide +kernel
theorem d_Own_take_148 : decode b_Own_take 148 = .ok (.getfield 50, 3) := by decide +kernel
theorem d_Own_take_151 : decode b_Own_take 151 = .ok (.invokevirtual 53, 3) := by decide +kernel
theorem d_Own_take_154 : decode b_Own_take 154 = .ok (.aload_n 1, 1) := by decide +kernel
theorem d_Own_take_155 : decode b_Own_take 155 = .ok (.iload_n 3, 1) := by decide +kernel
theorem d_Own_take_156 : decode b_Own_take 156 = .ok (.ifCond .eq 13, 3) := by decide +kernel
theorem d_Own_take_159 : decode b_Own_take 159 = .ok (.aload_n 1, 1) := by decide +kernel
theorem d_Own_take_160 : decode b_Own_take 160 = .ok (.getfield 9, 3) := by decide +kernel
theorem d_Own_take_163 : decode b_Own_take 163 = .ok (.getfield 68, 3) := by decide +kernel
theorem d_Own_take_166 : decode b_Own_take 166 = .ok (.goto 10, 3) := by decide +kernel
theorem d_Own_take_169 : decode b_Own_take 169 = .ok (.aload_n 1, 1) := by decide +kernel
theorem d_Own_take_170 : decode b_Own_take 170 = .ok (.getfield 9, 3) := by decide +kernel
theorem d_Own_take_173 : decode b_Own_take 173 = .ok (.getfield 71, 3) := by decide +kernel
theorem d_Own_take_176 : decode b_Own_take 176 = .ok (.putfield 65, 3) := by decide +kernel
theorem d_Own_take_179 : decode b_Own_take 179 = .ok (.iconst 1, 1) := by decide +kernel
theorem d_Own_take_180 : decode b_Own_take 180 = .ok (.ireturn, 1) := by decide +kernel
theorem d_Own_take_181 : decode b_Own_take 181 = .ok (.aload_n 2, 1) := by decide +kernel
theorem d_Own_take_182 : decode b_Own_take 182 = .ok (.getfield 21, 3) := by decide +kernel
theorem d_Own_take_185 : decode b_Own_take 185 = .ok (.getstatic 74, 3) := by decide +kernel
theorem d_Own_take_188 : decode b_Own_take 188 = .ok (.if_acmp .ne 7, 3) := by decide +kernel
theorem d_Own_take_191 : decode b_Own_take 191 = .ok (.aload_n 1, 1) := by decide +kernel
theorem d_Own_take_192 : decode b_Own_take 192 = .ok (.invokevirtual 77, 3) := by decide +kernel
theorem d_Own_take_195 : decode b_Own_take 195 = .ok (.iconst 1, 1) := by decide +kernel
theorem d_Own_take_196 : decode b_Own_take 196 = .ok (.ireturn, 1) := by decide +kernel
theorem d_Sha_init_0 : decode b_Sha_init 0 = .ok (.aload_n 0, 1) := by decide +kernel
theorem d_Sha_init_1 : decode b_Sha_init 1 = .ok (.iload_n 1, 1) := by decide +kernel
theorem d_Sha_init_2 : decode b_Sha_init 2 = .ok (.iconst 1, 1) := by decide +kernel
theorem d_Sha_init_3 : decode b_Sha_init 3 = .ok (.invokespecial 1, 3) := by decide +kernel
theorem d_Sha_init_6 : decode b_Sha_init 6 = .ok (.return_, 1) := by decide +kernel
theorem d_Sha_take_0 : decode b_Sha_take 0 = .ok (.aload_n 2, 1) := by decide +kernel
theorem d_Sha_take_1 : decode b_Sha_take 1 = .ok (.getfield 7, 3) := by decide +kernel
theorem d_Sha_take_4 : decode b_Sha_take 4 = .ok (.getstatic 13, 3) := by decide +kernel
theorem d_Sha_take_7 : decode b_Sha_take 7 = .ok (.if_acmp .ne 10, 3) := by decide +kernel
theorem d_Sha_take_10 : decode b_Sha_take 10 = .ok (.aload_n 1, 1) := by decide +kernel
theorem d_Sha_take_11 : decode b_Sha_take 11 = .ok (.invokevirtual 18, 3) := by decide +kernel
theorem d_Sha_take_14 : decode b_Sha_take 14 = .ok (.goto 50, 3) := by decide +kernel
theorem d_Sha_take_17 : decode b_Sha_take 17 = .ok (.aload_n 2, 1) := by decide +kernel
theorem d_Sha_take_18 : decode b_Sha_take 18 = .ok (.getfield 7, 3) := by decide +kernel
theorem d_Sha_take_21 : decode b_Sha_take 21 = .ok (.getstatic 24, 3) := by decide +kernel
theorem d_Sha_take_24 : decode b_Sha_take 24 = .ok (.if_acmp .ne 40, 3) := by decide +kernel
theorem d_Sha_take_27 : decode b_Sha_take 27 = .ok (.aload_n 1, 1) := by decide +kernel
theorem d_Sha_take_28 : decode b_Sha_take 28 = .ok (.aload_n 2, 1) := by decide +kernel
theorem d_Sha_take_29 : decode b_Sha_take 29 = .ok (.invokevirtual 27, 3) := by decide +kernel
theorem d_Sha_take_32 : decode b_Sha_take 32 = .ok (.aload_n 1, 1) := by decide +kernel
theorem d_Sha_take_33 : decode b_Sha_take 33 = .ok (.aload_n 0, 1) := by decide +kernel
theorem d_Sha_take_34 : decode b_Sha_take 34 = .ok (.aload_n 1, 1) := by decide +kernel
theorem d_Sha_take_35 : decode b_Sha_take 35 = .ok (.getfield 31, 3) := by decide +kernel
theorem d_Sha_take_38 : decode b_Sha_take 38 = .ok (.getfield 35, 3) := by decide +kernel
theorem d_Sha_take_41 : decode b_Sha_take 41 = .ok (.if_acmp .ne 13, 3) := by decide +kernel
theorem d_Sha_take_44 : decode b_Sha_take 44 = .ok (.aload_n 1, 1) := by decide +kernel
theorem d_Sha_take_45 : decode b_Sha_take 45 = .ok (.getfield 31, 3) := by decide +kernel
theorem d_Sha_take_48 : decode b_Sha_take 48 = .ok (.getfield 41, 3) := by decide +kernel
theorem d_Sha_take_51 : decode b_Sha_take 51 = .ok (.goto 10, 3) := by decide +kernel
theorem d_Sha_take_54 : decode b_Sha_take 54 = .ok (.aload_n 1, 1) := by decide +kernel
theorem d_Sha_take_55 : decode b_Sha_take 55 = .ok (.getfield 31, 3) := by decide +kernel
theorem d_Sha_take_58 : decode b_Sha_take 58 = .ok (.getfield 44, 3) := by decide +kernel
theorem d_Sha_take_61 : decode b_Sha_take 61 = .ok (.putfield 47, 3) := by decide +kernel
theorem d_Sha_take_64 : decode b_Sha_take 64 = .ok (.iconst 1, 1) := by decide +kernel
theorem d_Sha_take_65 : decode b_Sha_take 65 = .ok (.ireturn, 1) := by decide +kernel
theorem d_Int_bitCount_0 : decode b_Int_bitCount 0 = .ok (.iload_n 0, 1) := by decide +kernel
theorem d_Int_bitCount_1 : decode b_Int_bitCount 1 = .ok (.iload_n 0, 1) := by decide +kernel
theorem d_Int_bitCount_2 : decode b_Int_bitCount 2 = .ok (.iconst 1, 1) := by decide +kernel
theorem d_Int_bitCount_3 : decode b_Int_bitCount 3 = .ok (.iushr, 1) := by decide +kernel
theorem d_Int_bitCount_4 : decode b_Int_bitCount 4 = .ok (.ldc_w 265, 3) := by decide +kernel
theorem d_Int_bitCount_7 : decode b_Int_bitCount 7 = .ok (.iand, 1) := by decide +kernel
theorem d_Int_bitCount_8 : decode b_Int_bitCount 8 = .ok (.isub, 1) := by decide +kernel
theorem d_Int_bitCount_9 : decode b_Int_bitCount 9 = .ok (.istore_n 0, 1) := by decide +kernel
theorem d_Int_bitCount_10 : decode b_Int_bitCount 10 = .ok (.iload_n 0, 1) := by decide +kernel
theorem d_Int_bitCount_11 : decode b_Int_bitCount 11 = .ok (.ldc_w 266, 3) := by decide +kernel
theorem d_Int_bitCount_14 : decode b_Int_bitCount 14 = .ok (.iand, 1) := by decide +kernel
theorem d_Int_bitCount_15 : decode b_Int_bitCount 15 = .ok (.iload_n 0, 1) := by decide +kernel
theorem d_Int_bitCount_16 : decode b_Int_bitCount 16 = .ok (.iconst 2, 1) := by decide +kernel
theorem d_Int_bitCount_17 : decode b_Int_bitCount 17 = .ok (.iushr, 1) := by decide +kernel
theorem d_Int_bitCount_18 : decode b_Int_bitCount 18 = .ok (.ldc_w 266, 3) := by decide +kernel
theorem d_Int_bitCount_21 : decode b_Int_bitCount 21 = .ok (.iand, 1) := by decide +kernel
theorem d_Int_bitCount_22 : decode b_Int_bitCount 22 = .ok (.iadd, 1) := by decide +kernel
theorem d_Int_bitCount_23 : decode b_Int_bitCount 23 = .ok (.istore_n 0, 1) := by decide +kernel
theorem d_Int_bitCount_24 : decode b_Int_bitCount 24 = .ok (.iload_n 0, 1) := by decide +kernel
theorem d_Int_bitCount_25 : decode b_Int_bitCount 25 = .ok (.iload_n 0, 1) := by decide +kernel
theorem d_Int_bitCount_26 : decode b_Int_bitCount 26 = .ok (.iconst 4, 1) := by decide +kernel
theorem d_Int_bitCount_27 : decode b_Int_bitCount 27 = .ok (.iushr, 1) := by decide +kernel
theorem d_Int_bitCount_28 : decode b_Int_bitCount 28 = .ok (.iadd, 1) := by decide +kernel
theorem d_Int_bitCount_29 : decode b_Int_bitCount 29 = .ok (.ldc_w 267, 3) := by decide +kernel
theorem d_Int_bitCount_32 : decode b_Int_bitCount 32 = .ok (.iand, 1) := by decide +kernel
theorem d_Int_bitCount_33 : decode b_Int_bitCount 33 = .ok (.istore_n 0, 1) := by decide +kernel
theorem d_Int_bitCount_34 : decode b_Int_bitCount 34 = .ok (.iload_n 0, 1) := by decide +kernel
theorem d_Int_bitCount_35 : decode b_Int_bitCount 35 = .ok (.iload_n 0, 1) := by decide +kernel
theorem d_Int_bitCount_36 : decode b_Int_bitCount 36 = .ok (.bipush 8, 2) := by decide +kernel
theorem d_Int_bitCount_38 : decode b_Int_bitCount 38 = .ok (.iushr, 1) := by decide +kernel
theorem d_Int_bitCount_39 : decode b_Int_bitCount 39 = .ok (.iadd, 1) := by decide +kernel
theorem d_Int_bitCount_40 : decode b_Int_bitCount 40 = .ok (.istore_n 0, 1) := by decide +kernel
theorem d_Int_bitCount_41 : decode b_Int_bitCount 41 = .ok (.iload_n 0, 1) := by decide +kernel
theorem d_Int_bitCount_42 : decode b_Int_bitCount 42 = .ok (.iload_n 0, 1) := by decide +kernel
theorem d_Int_bitCount_43 : decode b_Int_bitCount 43 = .ok (.bipush 16, 2) := by decide +kernel
theorem d_Int_bitCount_45 : decode b_Int_bitCount 45 = .ok (.iushr, 1) := by decide +kernel
theorem d_Int_bitCount_46 : decode b_Int_bitCount 46 = .ok (.iadd, 1) := by decide +kernel
theorem d_Int_bitCount_47 : decode b_Int_bitCount 47 = .ok (.istore_n 0, 1) := by decide +kernel
theorem d_Int_bitCount_48 : decode b_Int_bitCount 48 = .ok (.iload_n 0, 1) := by decide +kernel
theorem d_Int_bitCount_49 : decode b_Int_bitCount 49 = .ok (.bipush 63, 2) := by decide +kernel
theorem d_Int_bitCount_51 : decode b_Int_bitCount 51 = .ok (.iand, 1) := by decide +kernel
theorem d_Int_bitCount_52 : decode b_Int_bitCount 52 = .ok (.ireturn, 1) := by decide +kernel
theorem d_Int_numberOfTrailingZeros_0 : decode b_Int_numberOfTrailingZeros 0 = .ok (.iload_n 0, 1) := by decide +kernel
theorem d_Int_numberOfTrailingZeros_1 : decode b_Int_numberOfTrailingZeros 1 = .ok (.iconst (-1), 1) := by decide +kernel
theorem d_Int_numberOfTrailingZeros_2 : decode b_Int_numberOfTrailingZeros 2 = .ok (.ixor, 1) := by decide +kernel
theorem d_Int_numberOfTrailingZeros_3 : decode b_Int_numberOfTrailingZeros 3 = .ok (.iload_n 0, 1) := by decide +kernel
theorem d_Int_numberOfTrailingZeros_4 : decode b_Int_numberOfTrailingZeros 4 = .ok (.iconst 1, 1) := by decide +kernel
theorem d_Int_numberOfTrailingZeros_5 : decode b_Int_numberOfTrailingZeros 5 = .ok (.isub, 1) := by decide +kernel
theorem d_Int_numberOfTrailingZeros_6 : decode b_Int_numberOfTrailingZeros 6 = .ok (.iand, 1) := by decide +kernel
theorem d_Int_numberOfTrailingZeros_7 : decode b_Int_numberOfTrailingZeros 7 = .ok (.istore_n 0, 1) := by decide +kernel
theorem d_Int_numberOfTrailingZeros_8 : decode b_Int_numberOfTrailingZeros 8 = .ok (.iload_n 0, 1) := by decide +kernel
theorem d_Int_numberOfTrailingZeros_9 : decode b_Int_numberOfTrailingZeros 9 = .ok (.ifCond .gt 8, 3) := by decide +kernel
theorem d_Int_numberOfTrailingZeros_12 : decode b_Int_numberOfTrailingZeros 12 = .ok (.iload_n 0, 1) := by decide +kernel
theorem d_Int_numberOfTrailingZeros_13 : decode b_Int_numberOfTrailingZeros 13 = .ok (.bipush 32, 2) := by decide +kernel
theorem d_Int_numberOfTrailingZeros_15 : decode b_Int_numberOfTrailingZeros 15 = .ok (.iand, 1) := by decide +kernel
theorem d_Int_numberOfTrailingZeros_16 : decode b_Int_numberOfTrailingZeros 16 = .ok (.ireturn, 1) := by decide +kernel
theorem d_Int_numberOfTrailingZeros_17 : decode b_Int_numberOfTrailingZeros 17 = .ok (.iconst 1, 1) := by decide +kernel
theorem d_Int_numberOfTrailingZeros_18 : decode b_Int_numberOfTrailingZeros 18 = .ok (.istore_n 1, 1) := by decide +kernel
theorem d_Int_numberOfTrailingZeros_19 : decode b_Int_numberOfTrailingZeros 19 = .ok (.iload_n 0, 1) := by decide +kernel
theorem d_Int_numberOfTrailingZeros_20 : decode b_Int_numberOfTrailingZeros 20 = .ok (.ldc_w 264, 3) := by decide +kernel
theorem d_Int_numberOfTrailingZeros_23 : decode b_Int_numberOfTrailingZeros 23 = .ok (.if_icmp .le 11, 3) := by decide +kernel
theorem d_Int_numberOfTrailingZeros_26 : decode b_Int_numberOfTrailingZeros 26 = .ok (.iinc 1 16, 3) := by decide +kernel
theorem d_Int_numberOfTrailingZeros_29 : decode b_Int_numberOfTrailingZeros 29 = .ok (.iload_n 0, 1) := by decide +kernel
theorem d_Int_numberOfTrailingZeros_30 : decode b_Int_numberOfTrailingZeros 30 = .ok (.bipush 16, 2) := by decide +kernel
theorem d_Int_numberOfTrailingZeros_32 : decode b_Int_numberOfTrailingZeros 32 = .ok (.iushr, 1) := by decide +kernel
theorem d_Int_numberOfTrailingZeros_33 : decode b_Int_numberOfTrailingZeros 33 = .ok (.istore_n 0, 1) := by decide +kernel
theorem d_Int_numberOfTrailingZeros_34 : decode b_Int_numberOfTrailingZeros 34 = .ok (.iload_n 0, 1) := by decide +kernel
theorem d_Int_numberOfTrailingZeros_35 : decode b_Int_numberOfTrailingZeros 35 = .ok (.sipush 256, 3) := by decide +kernel
theorem d_Int_numberOfTrailingZeros_38 : decode b_Int_numberOfTrailingZeros 38 = .ok (.if_icmp .le 11, 3) := by decide +kernel
theorem d_Int_numberOfTrailingZeros_41 : decode b_Int_numberOfTrailingZeros 41 = .ok (.iinc 1 8, 3) := by decide +kernel
theorem d_Int_numberOfTrailingZeros_44 : decode b_Int_numberOfTrailingZeros 44 = .ok (.iload_n 0, 1) := by decide +kernel
theorem d_Int_numberOfTrailingZeros_45 : decode b_Int_numberOfTrailingZeros 45 = .ok (.bipush 8, 2) := by decide +kernel
theorem d_Int_numberOfTrailingZeros_47 : decode b_Int_numberOfTrailingZeros 47 = .ok (.iushr, 1) := by decide +kernel
theorem d_Int_numberOfTrailingZeros_48 : decode b_Int_numberOfTrailingZeros 48 = .ok (.istore_n 0, 1) := by decide +kernel
theorem d_Int_numberOfTrailingZeros_49 : decode b_Int_numberOfTrailingZeros 49 = .ok (.iload_n 0, 1) := by decide +kernel
theorem d_Int_numberOfTrailingZeros_50 : decode b_Int_numberOfTrailingZeros 50 = .ok (.bipush 16, 2) := by decide +kernel
theorem d_Int_numberOfTrailingZeros_52 : decode b_Int_numberOfTrailingZeros 52 = .ok (.if_icmp .le 10, 3) := by decide +kernel
theorem d_Int_numberOfTrailingZeros_55 : decode b_Int_numberOfTrailingZeros 55 = .ok (.iinc 1 4, 3) := by decide +kernel
theorem d_Int_numberOfTrailingZeros_58 : decode b_Int_numberOfTrailingZeros 58 = .ok (.iload_n 0, 1) := by decide +kernel
theorem d_Int_numberOfTrailingZeros_59 : decode b_Int_numberOfTrailingZeros 59 = .ok (.iconst 4, 1) := by decide +kernel
theorem d_Int_numberOfTrailingZeros_60 : decode b_Int_numberOfTrailingZeros 60 = .ok (.iushr, 1) := by decide +kernel
theorem d_Int_numberOfTrailingZeros_61 : decode b_Int_numberOfTrailingZeros 61 = .ok (.istore_n 0, 1) := by decide +kernel
theorem d_Int_numberOfTrailingZeros_62 : decode b_Int_numberOfTrailingZeros 62 = .ok (.iload_n 0, 1) := by decide +kernel
theorem d_Int_numberOfTrailingZeros_63 : decode b_Int_numberOfTrailingZeros 63 = .ok (.iconst 4, 1) := by decide +kernel
theorem d_Int_numberOfTrailingZeros_64 : decode b_Int_numberOfTrailingZeros 64 = .ok (.if_icmp .le 10, 3) := by decide +kernel
theorem d_Int_numberOfTrailingZeros_67 : decode b_Int_numberOfTrailingZeros 67 = .ok (.iinc 1 2, 3) := by decide +kernel
theorem d_Int_numberOfTrailingZeros_70 : decode b_Int_numberOfTrailingZeros 70 = .ok (.iload_n 0, 1) := by decide +kernel
theorem d_Int_numberOfTrailingZeros_71 : decode b_Int_numberOfTrailingZeros 71 = .ok (.iconst 2, 1) := by decide +kernel
theorem d_Int_numberOfTrailingZeros_72 : decode b_Int_numberOfTrailingZeros 72 = .ok (.iushr, 1) := by decide +kernel
theorem d_Int_numberOfTrailingZeros_73 : decode b_Int_numberOfTrailingZeros 73 = .ok (.istore_n 0, 1) := by decide +kernel
theorem d_Int_numberOfTrailingZeros_74 : decode b_Int_numberOfTrailingZeros 74 = .ok (.iload_n 1, 1) := by decide +kernel
theorem d_Int_numberOfTrailingZeros_75 : decode b_Int_numberOfTrailingZeros 75 = .ok (.iload_n 0, 1) := by decide +kernel
theorem d_Int_numberOfTrailingZeros_76 : decode b_Int_numberOfTrailingZeros 76 = .ok (.iconst 1, 1) := by decide +kernel
theorem d_Int_numberOfTrailingZeros_77 : decode b_Int_numberOfTrailingZeros 77 = .ok (.iushr, 1) := by decide +kernel
theorem d_Int_numberOfTrailingZeros_78 : decode b_Int_numberOfTrailingZeros 78 = .ok (.iadd, 1) := by decide +kernel
theorem d_Int_numberOfTrailingZeros_79 : decode b_Int_numberOfTrailingZeros 79 = .ok (.ireturn, 1) := by decide +kernel
theorem d_Enum_ordinal_0 : decode b_Enum_ordinal 0 = .ok (.aload_n 0, 1) := by decide +kernel
theorem d_Enum_ordinal_1 : decode b_Enum_ordinal 1 = .ok (.getfield 7, 3) := by decide +kernel
theorem d_Enum_ordinal_4 : decode b_Enum_ordinal 4 = .ok (.ireturn, 1) := by decide +kernel
