theorem d_Tw_init_0 : decode b_Tw_init 0 = .ok (.aload_n 0, 1) := by decide +kernel
theorem d_Tw_init_1 : decode b_Tw_init 1 = .ok (.invokespecial 1, 3) := by decide +kernel
theorem d_Tw_init_4 : decode b_Tw_init 4 = .ok (.aload_n 0, 1) := by decide +kernel
theorem d_Tw_init_5 : decode b_Tw_init 5 = .ok (.iconst 4, 1) := by decide +kernel
theorem d_Tw_init_6 : decode b_Tw_init 6 = .ok (.newarray .int, 2) := by decide +kernel
theorem d_Tw_init_8 : decode b_Tw_init 8 = .ok (.putfield 7, 3) := by decide +kernel
theorem d_Tw_init_11 : decode b_Tw_init 11 = .ok (.aload_n 0, 1) := by decide +kernel
theorem d_Tw_init_12 : decode b_Tw_init 12 = .ok (.bipush 64, 2) := by decide +kernel
theorem d_Tw_init_14 : decode b_Tw_init 14 = .ok (.newarray .int, 2) := by decide +kernel
theorem d_Tw_init_16 : decode b_Tw_init 16 = .ok (.putfield 13, 3) := by decide +kernel
theorem d_Tw_init_19 : decode b_Tw_init 19 = .ok (.aload_n 0, 1) := by decide +kernel
theorem d_Tw_init_20 : decode b_Tw_init 20 = .ok (.bipush 64, 2) := by decide +kernel
theorem d_Tw_init_22 : decode b_Tw_init 22 = .ok (.newarray .int, 2) := by decide +kernel
theorem d_Tw_init_24 : decode b_Tw_init 24 = .ok (.putfield 16, 3) := by decide +kernel
theorem d_Tw_init_27 : decode b_Tw_init 27 = .ok (.aload_n 0, 1) := by decide +kernel
theorem d_Tw_init_28 : decode b_Tw_init 28 = .ok (.iconst 4, 1) := by decide +kernel
theorem d_Tw_init_29 : decode b_Tw_init 29 = .ok (.newarray .int, 2) := by decide +kernel
theorem d_Tw_init_31 : decode b_Tw_init 31 = .ok (.putfield 19, 3) := by decide +kernel
theorem d_Tw_init_34 : decode b_Tw_init 34 = .ok (.aload_n 0, 1) := by decide +kernel
theorem d_Tw_init_35 : decode b_Tw_init 35 = .ok (.iconst 4, 1) := by decide +kernel
theorem d_Tw_init_36 : decode b_Tw_init 36 = .ok (.newarray .int, 2) := by decide +kernel
theorem d_Tw_init_38 : decode b_Tw_init 38 = .ok (.putfield 22, 3) := by decide +kernel
theorem d_Tw_init_41 : decode b_Tw_init 41 = .ok (.aload_n 0, 1) := by decide +kernel
theorem d_Tw_init_42 : decode b_Tw_init 42 = .ok (.iconst 4, 1) := by decide +kernel
theorem d_Tw_init_43 : decode b_Tw_init 43 = .ok (.newarray .int, 2) := by decide +kernel
theorem d_Tw_init_45 : decode b_Tw_init 45 = .ok (.putfield 25, 3) := by decide +kernel
theorem d_Tw_init_48 : decode b_Tw_init 48 = .ok (.aload_n 0, 1) := by decide +kernel
theorem d_Tw_init_49 : decode b_Tw_init 49 = .ok (.bipush 16, 2) := by decide +kernel
theorem d_Tw_init_51 : decode b_Tw_init 51 = .ok (.newarray .int, 2) := by decide +kernel
theorem d_Tw_init_53 : decode b_Tw_init 53 = .ok (.putfield 28, 3) := by decide +kernel
theorem d_Tw_init_56 : decode b_Tw_init 56 = .ok (.aload_n 0, 1) := by decide +kernel
theorem d_Tw_init_57 : decode b_Tw_init 57 = .ok (.bipush 16, 2) := by decide +kernel
theorem d_Tw_init_59 : decode b_Tw_init 59 = .ok (.newarray .int, 2) := by decide +kernel
theorem d_Tw_init_61 : decode b_Tw_init 61 = .ok (.putfield 31, 3) := by decide +kernel
theorem d_Tw_init_64 : decode b_Tw_init 64 = .ok (.aload_n 0, 1) := by decide +kernel
theorem d_Tw_init_65 : decode b_Tw_init 65 = .ok (.bipush 16, 2) := by decide +kernel
theorem d_Tw_init_67 : decode b_Tw_init 67 = .ok (.newarray .int, 2) := by decide +kernel
theorem d_Tw_init_69 : decode b_Tw_init 69 = .ok (.putfield 34, 3) := by decide +kernel
theorem d_Tw_init_72 : decode b_Tw_init 72 = .ok (.aload_n 0, 1) := by decide +kernel
theorem d_Tw_init_73 : decode b_Tw_init 73 = .ok (.bipush 16, 2) := by decide +kernel
theorem d_Tw_init_75 : decode b_Tw_init 75 = .ok (.newarray .int, 2) := by decide +kernel
theorem d_Tw_init_77 : decode b_Tw_init 77 = .ok (.putfield 37, 3) := by decide +kernel
theorem d_Tw_init_80 : decode b_Tw_init 80 = .ok (.aload_n 0, 1) := by decide +kernel
theorem d_Tw_init_81 : decode b_Tw_init 81 = .ok (.iconst 4, 1) := by decide +kernel
theorem d_Tw_init_82 : decode b_Tw_init 82 = .ok (.newarray .int, 2) := by decide +kernel
theorem d_Tw_init_84 : decode b_Tw_init 84 = .ok (.putfield 40, 3) := by decide +kernel
theorem d_Tw_init_87 : decode b_Tw_init 87 = .ok (.aload_n 0, 1) := by decide +kernel
theorem d_Tw_init_88 : decode b_Tw_init 88 = .ok (.iconst 4, 1) := by decide +kernel
theorem d_Tw_init_89 : decode b_Tw_init 89 = .ok (.newarray .int, 2) := by decide +kernel
theorem d_Tw_init_91 : decode b_Tw_init 91 = .ok (.putfield 43, 3) := by decide +kernel
theorem d_Tw_init_94 : decode b_Tw_init 94 = .ok (.aload_n 0, 1) := by decide +kernel
theorem d_Tw_init_95 : decode b_Tw_init 95 = .ok (.iconst 4, 1) := by decide +kernel
theorem d_Tw_init_96 : decode b_Tw_init 96 = .ok (.newarray .int, 2) := by decide +kernel
theorem d_Tw_init_98 : decode b_Tw_init 98 = .ok (.putfield 46, 3) := by decide +kernel
theorem d_Tw_init_101 : decode b_Tw_init 101 = .ok (.aload_n 0, 1) := by decide +kernel
theorem d_Tw_init_102 : decode b_Tw_init 102 = .ok (.bipush 16, 2) := by decide +kernel
theorem d_Tw_init_104 : decode b_Tw_init 104 = .ok (.newarray .boolean, 2) := by decide +kernel
theorem d_Tw_init_106 : decode b_Tw_init 106 = .ok (.putfield 49, 3) := by decide +kernel
theorem d_Tw_init_109 : decode b_Tw_init 109 = .ok (.aload_n 0, 1) := by decide +kernel
theorem d_Tw_init_110 : decode b_Tw_init 110 = .ok (.bipush 64, 2) := by decide +kernel
theorem d_Tw_init_112 : decode b_Tw_init 112 = .ok (.newarray .int, 2) := by decide +kernel
theorem d_Tw_init_114 : decode b_Tw_init 114 = .ok (.putfield 53, 3) := by decide +kernel
theorem d_Tw_init_117 : decode b_Tw_init 117 = .ok (.aload_n 0, 1) := by decide +kernel
theorem d_Tw_init_118 : decode b_Tw_init 118 = .ok (.bipush 64, 2) := by decide +kernel
theorem d_Tw_init_120 : decode b_Tw_init 120 = .ok (.newarray .int, 2) := by decide +kernel
theorem d_Tw_init_122 : decode b_Tw_init 122 = .ok (.putfield 56, 3) := by decide +kernel
theorem d_Tw_init_125 : decode b_Tw_init 125 = .ok (.aload_n 0, 1) := by decide +kernel
theorem d_Tw_init_126 : decode b_Tw_init 126 = .ok (.bipush 64, 2) := by decide +kernel
theorem d_Tw_init_128 : decode b_Tw_init 128 = .ok (.newarray .int, 2) := by decide +kernel
theorem d_Tw_init_130 : decode b_Tw_init 130 = .ok (.putfield 59, 3) := by decide +kernel
theorem d_Tw_init_133 : decode b_Tw_init 133 = .ok (.aload_n 0, 1) := by decide +kernel
theorem d_Tw_init_134 : decode b_Tw_init 134 = .ok (.bipush 64, 2) := by decide +kernel
theorem d_Tw_init_136 : decode b_Tw_init 136 = .ok (.newarray .int, 2) := by decide +kernel
theorem d_Tw_init_138 : decode b_Tw_init 138 = .ok (.putfield 62, 3) := by decide +kernel
theorem d_Tw_init_141 : decode b_Tw_init 141 = .ok (.aload_n 0, 1) := by decide +kernel
theorem d_Tw_init_142 : decode b_Tw_init 142 = .ok (.bipush 64, 2) := by decide +kernel
theorem d_Tw_init_144 : decode b_Tw_init 144 = .ok (.newarray .int, 2) := by decide +kernel
theorem d_Tw_init_146 : decode b_Tw_init 146 = .ok (.putfield 65, 3) := by decide +kernel
theorem d_Tw_init_149 : decode b_Tw_init 149 = .ok (.aload_n 0, 1) := by decide +kernel
theorem d_Tw_init_150 : decode b_Tw_init 150 = .ok (.bipush 64, 2) := by decide +kernel
theorem d_Tw_init_152 : decode b_Tw_init 152 = .ok (.newarray .int, 2) := by decide +kernel
theorem d_Tw_init_154 : decode b_Tw_init 154 = .ok (.putfield 68, 3) := by decide +kernel
theorem d_Tw_init_157 : decode b_Tw_init 157 = .ok (.aload_n 0, 1) := by decide +kernel
theorem d_Tw_init_158 : decode b_Tw_init 158 = .ok (.bipush 64, 2) := by decide +kernel
theorem d_Tw_init_160 : decode b_Tw_init 160 = .ok (.newarray .int, 2) := by decide +kernel
theorem d_Tw_init_162 : decode b_Tw_init 162 = .ok (.putfield 71, 3) := by decide +kernel
theorem d_Tw_init_165 : decode b_Tw_init 165 = .ok (.aload_n 0, 1) := by decide +kernel
theorem d_Tw_init_166 : decode b_Tw_init 166 = .ok (.iload_n 1, 1) := by decide +kernel
theorem d_Tw_init_167 : decode b_Tw_init 167 = .ok (.iconst 2, 1) := by decide +kernel
theorem d_Tw_init_168 : decode b_Tw_init 168 = .ok (.if_icmp .ge 7, 3) := by decide +kernel
theorem d_Tw_init_171 : decode b_Tw_init 171 = .ok (.iconst 2, 1) := by decide +kernel
theorem d_Tw_init_172 : decode b_Tw_init 172 = .ok (.goto 13, 3) := by decide +kernel
theorem d_Tw_init_175 : decode b_Tw_init 175 = .ok (.iload_n 1, 1) := by decide +kernel
theorem d_Tw_init_176 : decode b_Tw_init 176 = .ok (.iconst 4, 1) := by decide +kernel
theorem d_Tw_init_177 : decode b_Tw_init 177 = .ok (.if_icmp .le 7, 3) := by decide +kernel
theorem d_Tw_init_180 : decode b_Tw_init 180 = .ok (.iconst 4, 1) := by decide +kernel
theorem d_Tw_init_181 : decode b_Tw_init 181 = .ok (.goto 4, 3) := by decide +kernel
theorem d_Tw_init_184 : decode b_Tw_init 184 = .ok (.iload_n 1, 1) := by decide +kernel
theorem d_Tw_init_185 : decode b_Tw_init 185 = .ok (.putfield 74, 3) := by decide +kernel
theorem d_Tw_init_188 : decode b_Tw_init 188 = .ok (.aload_n 0, 1) := by decide +kernel
theorem d_Tw_init_189 : decode b_Tw_init 189 = .ok (.iload_n 2, 1) := by decide +kernel
theorem d_Tw_init_190 : decode b_Tw_init 190 = .ok (.iconst 1, 1) := by decide +kernel
theorem d_Tw_init_191 : decode b_Tw_init 191 = .ok (.if_icmp .ge 7, 3) := by decide +kernel
theorem d_Tw_init_194 : decode b_Tw_init 194 = .ok (.iconst 1, 1) := by decide +kernel
theorem d_Tw_init_195 : decode b_Tw_init 195 = .ok (.goto 13, 3) := by decide +kernel
theorem d_Tw_init_198 : decode b_Tw_init 198 = .ok (.iload_n 2, 1) := by decide +kernel
theorem d_Tw_init_199 : decode b_Tw_init 199 = .ok (.iconst 3, 1) := by decide +kernel
theorem d_Tw_init_200 : decode b_Tw_init 200 = .ok (.if_icmp .le 7, 3) := by decide +kernel
theorem d_Tw_init_203 : decode b_Tw_init 203 = .ok (.iconst 3, 1) := by decide +kernel
theorem d_Tw_init_204 : decode b_Tw_init 204 = .ok (.goto 4, 3) := by decide +kernel
theorem d_Tw_init_207 : decode b_Tw_init 207 = .ok (.iload_n 2, 1) := by decide +kernel
theorem d_Tw_init_208 : decode b_Tw_init 208 = .ok (.putfield 78, 3) := by decide +kernel
theorem d_Tw_init_211 : decode b_Tw_init 211 = .ok (.iconst 0, 1) := by decide +kernel
theorem d_Tw_init_212 : decode b_Tw_init 212 = .ok (.istore_n 3, 1) := by decide +kernel
theorem d_Tw_init_213 : decode b_Tw_init 213 = .ok (.iload_n 3, 1) := by decide +kernel
theorem d_Tw_init_214 : decode b_Tw_init 214 = .ok (.iconst 4, 1) := by decide +kernel
theorem d_Tw_init_215 : decode b_Tw_init 215 = .ok (.if_icmp .ge 16, 3) := by decide +kernel
theorem d_Tw_init_218 : decode b_Tw_init 218 = .ok (.aload_n 0, 1) := by decide +kernel
theorem d_Tw_init_219 : decode b_Tw_init 219 = .ok (.getfield 46, 3) := by decide +kernel
theorem d_Tw_init_222 : decode b_Tw_init 222 = .ok (.iload_n 3, 1) := by decide +kernel
theorem d_Tw_init_223 : decode b_Tw_init 223 = .ok (.iconst (-1), 1) := by decide +kernel
theorem d_Tw_init_224 : decode b_Tw_init 224 = .ok (.iastore, 1) := by decide +kernel
theorem d_Tw_init_225 : decode b_Tw_init 225 = .ok (.iinc 3 1, 3) := by decide +kernel
theorem d_Tw_init_228 : decode b_Tw_init 228 = .ok (.goto (-15), 3) := by decide +kernel
theorem d_Tw_init_231 : decode b_Tw_init 231 = .ok (.return_, 1) := by decide +kernel
theorem d_Tw_isCore_0 : decode b_Tw_isCore 0 = .ok (.iload_n 1, 1) := by decide +kernel
theorem d_Tw_isCore_1 : decode b_Tw_isCore 1 = .ok (.ifCond .lt 15, 3) := by decide +kernel
theorem d_Tw_isCore_4 : decode b_Tw_isCore 4 = .ok (.iload_n 1, 1) := by decide +kernel
theorem d_Tw_isCore_5 : decode b_Tw_isCore 5 = .ok (.aload_n 0, 1) := by decide +kernel
theorem d_Tw_isCore_6 : decode b_Tw_isCore 6 = .ok (.getfield 74, 3) := by decide +kernel
theorem d_Tw_isCore_9 : decode b_Tw_isCore 9 = .ok (.if_icmp .ge 7, 3) := by decide +kernel
theorem d_Tw_isCore_12 : decode b_Tw_isCore 12 = .ok (.iconst 1, 1) := by decide +kernel
theorem d_Tw_isCore_13 : decode b_Tw_isCore 13 = .ok (.goto 4, 3) := by decide +kernel
theorem d_Tw_isCore_16 : decode b_Tw_isCore 16 = .ok (.iconst 0, 1) := by decide +kernel
theorem d_Tw_isCore_17 : decode b_Tw_isCore 17 = .ok (.ireturn, 1) := by decide +kernel
theorem d_Tw_isBlock_0 : decode b_Tw_isBlock 0 = .ok (.iload_n 0, 1) := by decide +kernel
theorem d_Tw_isBlock_1 : decode b_Tw_isBlock 1 = .ok (.ifCond .lt 12, 3) := by decide +kernel
theorem d_Tw_isBlock_4 : decode b_Tw_isBlock 4 = .ok (.iload_n 0, 1) := by decide +kernel
theorem d_Tw_isBlock_5 : decode b_Tw_isBlock 5 = .ok (.iconst 3, 1) := by decide +kernel
theorem d_Tw_isBlock_6 : decode b_Tw_isBlock 6 = .ok (.if_icmp .gt 7, 3) := by decide +kernel
theorem d_Tw_isBlock_9 : decode b_Tw_isBlock 9 = .ok (.iconst 1, 1) := by decide +kernel
theorem d_Tw_isBlock_10 : decode b_Tw_isBlock 10 = .ok (.goto 4, 3) := by decide +kernel
theorem d_Tw_isBlock_13 : decode b_Tw_isBlock 13 = .ok (.iconst 0, 1) := by decide +kernel
theorem d_Tw_isBlock_14 : decode b_Tw_isBlock 14 = .ok (.ireturn, 1) := by decide +kernel
theorem d_Tw_access_0 : decode b_Tw_access 0 = .ok (.iload_n 0, 1) := by decide +kernel
theorem d_Tw_access_1 : decode b_Tw_access 1 = .ok (.ifCond .eq 13, 3) := by decide +kernel
theorem d_Tw_access_4 : decode b_Tw_access 4 = .ok (.iload_n 0, 1) := by decide +kernel
theorem d_Tw_access_5 : decode b_Tw_access 5 = .ok (.iconst 1, 1) := by decide +kernel
theorem d_Tw_access_6 : decode b_Tw_access 6 = .ok (.if_icmp .eq 8, 3) := by decide +kernel
theorem d_Tw_access_9 : decode b_Tw_access 9 = .ok (.iload_n 0, 1) := by decide +kernel
theorem d_Tw_access_10 : decode b_Tw_access 10 = .ok (.iconst 5, 1) := by decide +kernel
theorem d_Tw_access_11 : decode b_Tw_access 11 = .ok (.if_icmp .ne 7, 3) := by decide +kernel
theorem d_Tw_access_14 : decode b_Tw_access 14 = .ok (.iconst 1, 1) := by decide +kernel
theorem d_Tw_access_15 : decode b_Tw_access 15 = .ok (.goto 4, 3) := by decide +kernel
theorem d_Tw_access_18 : decode b_Tw_access 18 = .ok (.iconst 0, 1) := by decide +kernel
theorem d_Tw_access_19 : decode b_Tw_access 19 = .ok (.ireturn, 1) := by decide +kernel
theorem d_Tw_code_0 : decode b_Tw_code 0 = .ok (.aload_n 0, 1) := by decide +kernel
theorem d_Tw_code_1 : decode b_Tw_code 1 = .ok (.iload_n 1, 1) := by decide +kernel
theorem d_Tw_code_2 : decode b_Tw_code 2 = .ok (.invokevirtual 81, 3) := by decide +kernel
theorem d_Tw_code_5 : decode b_Tw_code 5 = .ok (.ifCond .eq 52, 3) := by decide +kernel
theorem d_Tw_code_8 : decode b_Tw_code 8 = .ok (.iload_n 2, 1) := by decide +kernel
theorem d_Tw_code_9 : decode b_Tw_code 9 = .ok (.ifCond .lt 48, 3) := by decide +kernel
theorem d_Tw_code_12 : decode b_Tw_code 12 = .ok (.iload_n 2, 1) := by decide +kernel
theorem d_Tw_code_13 : decode b_Tw_code 13 = .ok (.iconst 5, 1) := by decide +kernel
theorem d_Tw_code_14 : decode b_Tw_code 14 = .ok (.if_icmp .gt 43, 3) := by decide +kernel
theorem d_Tw_code_17 : decode b_Tw_code 17 = .ok (.iload_n 2, 1) := by decide +kernel
theorem d_Tw_code_18 : decode b_Tw_code 18 = .ok (.invokestatic 85, 3) := by decide +kernel
theorem d_Tw_code_21 : decode b_Tw_code 21 = .ok (.ifCond .eq 10, 3) := by decide +kernel
theorem d_Tw_code_24 : decode b_Tw_code 24 = .ok (.iload_n 3, 1) := by decide +kernel
theorem d_Tw_code_25 : decode b_Tw_code 25 = .ok (.invokestatic 88, 3) := by decide +kernel
theorem d_Tw_code_28 : decode b_Tw_code 28 = .ok (.ifCond .eq 29, 3) := by decide +kernel
theorem d_Tw_code_31 : decode b_Tw_code 31 = .ok (.iload_n 2, 1) := by decide +kernel
theorem d_Tw_code_32 : decode b_Tw_code 32 = .ok (.iconst 3, 1) := by decide +kernel
theorem d_Tw_code_33 : decode b_Tw_code 33 = .ok (.if_icmp .ne 13, 3) := by decide +kernel
theorem d_Tw_code_36 : decode b_Tw_code 36 = .ok (.iload_n 3, 1) := by decide +kernel
theorem d_Tw_code_37 : decode b_Tw_code 37 = .ok (.ifCond .lt 20, 3) := by decide +kernel
theorem d_Tw_code_40 : decode b_Tw_code 40 = .ok (.iload_n 3, 1) := by decide +kernel
theorem d_Tw_code_41 : decode b_Tw_code 41 = .ok (.bipush 15, 2) := by decide +kernel
theorem d_Tw_code_43 : decode b_Tw_code 43 = .ok (.if_icmp .gt 14, 3) := by decide +kernel
theorem d_Tw_code_46 : decode b_Tw_code 46 = .ok (.aload_n 0, 1) := by decide +kernel
theorem d_Tw_code_47 : decode b_Tw_code 47 = .ok (.getfield 19, 3) := by decide +kernel
theorem d_Tw_code_50 : decode b_Tw_code 50 = .ok (.iload_n 1, 1) := by decide +kernel
theorem d_Tw_code_51 : decode b_Tw_code 51 = .ok (.iaload, 1) := by decide +kernel
theorem d_Tw_code_52 : decode b_Tw_code 52 = .ok (.bipush 16, 2) := by decide +kernel
theorem d_Tw_code_54 : decode b_Tw_code 54 = .ok (.if_icmp .ne 5, 3) := by decide +kernel
theorem d_Tw_code_57 : decode b_Tw_code 57 = .ok (.iconst 0, 1) := by decide +kernel
theorem d_Tw_code_58 : decode b_Tw_code 58 = .ok (.ireturn, 1) := by decide +kernel
theorem d_Tw_code_59 : decode b_Tw_code 59 = .ok (.aload_n 0, 1) := by decide +kernel
theorem d_Tw_code_60 : decode b_Tw_code 60 = .ok (.getfield 13, 3) := by decide +kernel
theorem d_Tw_code_63 : decode b_Tw_code 63 = .ok (.bipush 16, 2) := by decide +kernel
theorem d_Tw_code_65 : decode b_Tw_code 65 = .ok (.iload_n 1, 1) := by decide +kernel
theorem d_Tw_code_66 : decode b_Tw_code 66 = .ok (.imul, 1) := by decide +kernel
theorem d_Tw_code_67 : decode b_Tw_code 67 = .ok (.aload_n 0, 1) := by decide +kernel
theorem d_Tw_code_68 : decode b_Tw_code 68 = .ok (.getfield 19, 3) := by decide +kernel
theorem d_Tw_code_71 : decode b_Tw_code 71 = .ok (.iload_n 1, 1) := by decide +kernel
theorem d_Tw_code_72 : decode b_Tw_code 72 = .ok (.iaload, 1) := by decide +kernel
theorem d_Tw_code_73 : decode b_Tw_code 73 = .ok (.iadd, 1) := by decide +kernel
theorem d_Tw_code_74 : decode b_Tw_code 74 = .ok (.iload_n 2, 1) := by decide +kernel
theorem d_Tw_code_75 : decode b_Tw_code 75 = .ok (.iastore, 1) := by decide +kernel
theorem d_Tw_code_76 : decode b_Tw_code 76 = .ok (.aload_n 0, 1) := by decide +kernel
theorem d_Tw_code_77 : decode b_Tw_code 77 = .ok (.getfield 16, 3) := by decide +kernel
theorem d_Tw_code_80 : decode b_Tw_code 80 = .ok (.bipush 16, 2) := by decide +kernel
theorem d_Tw_code_82 : decode b_Tw_code 82 = .ok (.iload_n 1, 1) := by decide +kernel
theorem d_Tw_code_83 : decode b_Tw_code 83 = .ok (.imul, 1) := by decide +kernel
theorem d_Tw_code_84 : decode b_Tw_code 84 = .ok (.aload_n 0, 1) := by decide +kernel
theorem d_Tw_code_85 : decode b_Tw_code 85 = .ok (.getfield 19, 3) := by decide +kernel
theorem d_Tw_code_88 : decode b_Tw_code 88 = .ok (.iload_n 1, 1) := by decide +kernel
theorem d_Tw_code_89 : decode b_Tw_code 89 = .ok (.iaload, 1) := by decide +kernel
theorem d_Tw_code_90 : decode b_Tw_code 90 = .ok (.iadd, 1) := by decide +kernel
theorem d_Tw_code_91 : decode b_Tw_code 91 = .ok (.iload_n 3, 1) := by decide +kernel
theorem d_Tw_code_92 : decode b_Tw_code 92 = .ok (.iastore, 1) := by decide +kernel
theorem d_Tw_code_93 : decode b_Tw_code 93 = .ok (.aload_n 0, 1) := by decide +kernel
theorem d_Tw_code_94 : decode b_Tw_code 94 = .ok (.getfield 19, 3) := by decide +kernel
theorem d_Tw_code_97 : decode b_Tw_code 97 = .ok (.iload_n 1, 1) := by decide +kernel
theorem d_Tw_code_98 : decode b_Tw_code 98 = .ok (.dup2, 1) := by decide +kernel
theorem d_Tw_code_99 : decode b_Tw_code 99 = .ok (.iaload, 1) := by decide +kernel
theorem d_Tw_code_100 : decode b_Tw_code 100 = .ok (.iconst 1, 1) := by decide +kernel
theorem d_Tw_code_101 : decode b_Tw_code 101 = .ok (.iadd, 1) := by decide +kernel
theorem d_Tw_code_102 : decode b_Tw_code 102 = .ok (.iastore, 1) := by decide +kernel
theorem d_Tw_code_103 : decode b_Tw_code 103 = .ok (.iconst 1, 1) := by decide +kernel
theorem d_Tw_code_104 : decode b_Tw_code 104 = .ok (.ireturn, 1) := by decide +kernel
theorem d_Tw_go_0 : decode b_Tw_go 0 = .ok (.aload_n 0, 1) := by decide +kernel
theorem d_Tw_go_1 : decode b_Tw_go 1 = .ok (.iload_n 1, 1) := by decide +kernel
theorem d_Tw_go_2 : decode b_Tw_go 2 = .ok (.invokevirtual 81, 3) := by decide +kernel
theorem d_Tw_go_5 : decode b_Tw_go 5 = .ok (.ifCond .eq 22, 3) := by decide +kernel
theorem d_Tw_go_8 : decode b_Tw_go 8 = .ok (.aload_n 0, 1) := by decide +kernel
theorem d_Tw_go_9 : decode b_Tw_go 9 = .ok (.getfield 25, 3) := by decide +kernel
theorem d_Tw_go_12 : decode b_Tw_go 12 = .ok (.iload_n 1, 1) := by decide +kernel
theorem d_Tw_go_13 : decode b_Tw_go 13 = .ok (.iaload, 1) := by decide +kernel
theorem d_Tw_go_14 : decode b_Tw_go 14 = .ok (.ifCond .ne 13, 3) := by decide +kernel
theorem d_Tw_go_17 : decode b_Tw_go 17 = .ok (.iload_n 2, 1) := by decide +kernel
theorem d_Tw_go_18 : decode b_Tw_go 18 = .ok (.ifCond .lt 9, 3) := by decide +kernel
theorem d_Tw_go_21 : decode b_Tw_go 21 = .ok (.iload_n 2, 1) := by decide +kernel
theorem d_Tw_go_22 : decode b_Tw_go 22 = .ok (.bipush 16, 2) := by decide +kernel
theorem d_Tw_go_24 : decode b_Tw_go 24 = .ok (.if_icmp .le 5, 3) := by decide +kernel
theorem d_Tw_go_27 : decode b_Tw_go 27 = .ok (.iconst 0, 1) := by decide +kernel
theorem d_Tw_go_28 : decode b_Tw_go 28 = .ok (.ireturn, 1) := by decide +kernel
theorem d_Tw_go_29 : decode b_Tw_go 29 = .ok (.aload_n 0, 1) := by decide +kernel
theorem d_Tw_go_30 : decode b_Tw_go 30 = .ok (.getfield 22, 3) := by decide +kernel
theorem d_Tw_go_33 : decode b_Tw_go 33 = .ok (.iload_n 1, 1) := by decide +kernel
theorem d_Tw_go_34 : decode b_Tw_go 34 = .ok (.iload_n 2, 1) := by decide +kernel
theorem d_Tw_go_35 : decode b_Tw_go 35 = .ok (.iastore, 1) := by decide +kernel
theorem d_Tw_go_36 : decode b_Tw_go 36 = .ok (.iconst 1, 1) := by decide +kernel
theorem d_Tw_go_37 : decode b_Tw_go 37 = .ok (.ireturn, 1) := by decide +kernel
theorem d_Tw_send_0 : decode b_Tw_send 0 = .ok (.aload_n 0, 1) := by decide +kernel
theorem d_Tw_send_1 : decode b_Tw_send 1 = .ok (.getfield 53, 3) := by decide +kernel
theorem d_Tw_send_4 : decode b_Tw_send 4 = .ok (.aload_n 0, 1) := by decide +kernel
theorem d_Tw_send_5 : decode b_Tw_send 5 = .ok (.getfield 91, 3) := by decide +kernel
theorem d_Tw_send_8 : decode b_Tw_send 8 = .ok (.iload_n 1, 1) := by decide +kernel
theorem d_Tw_send_9 : decode b_Tw_send 9 = .ok (.iastore, 1) := by decide +kernel
theorem d_Tw_send_10 : decode b_Tw_send 10 = .ok (.aload_n 0, 1) := by decide +kernel
theorem d_Tw_send_11 : decode b_Tw_send 11 = .ok (.getfield 56, 3) := by decide +kernel
theorem d_Tw_send_14 : decode b_Tw_send 14 = .ok (.aload_n 0, 1) := by decide +kernel
theorem d_Tw_send_15 : decode b_Tw_send 15 = .ok (.getfield 91, 3) := by decide +kernel
theorem d_Tw_send_18 : decode b_Tw_send 18 = .ok (.iload_n 2, 1) := by decide +kernel
theorem d_Tw_send_19 : decode b_Tw_send 19 = .ok (.iastore, 1) := by decide +kernel
theorem d_Tw_send_20 : decode b_Tw_send 20 = .ok (.aload_n 0, 1) := by decide +kernel
theorem d_Tw_send_21 : decode b_Tw_send 21 = .ok (.getfield 59, 3) := by decide +kernel
theorem d_Tw_send_24 : decode b_Tw_send 24 = .ok (.aload_n 0, 1) := by decide +kernel
theorem d_Tw_send_25 : decode b_Tw_send 25 = .ok (.getfield 91, 3) := by decide +kernel
theorem d_Tw_send_28 : decode b_Tw_send 28 = .ok (.iload_n 3, 1) := by decide +kernel
theorem d_Tw_send_29 : decode b_Tw_send 29 = .ok (.iastore, 1) := by decide +kernel
theorem d_Tw_send_30 : decode b_Tw_send 30 = .ok (.aload_n 0, 1) := by decide +kernel
theorem d_Tw_send_31 : decode b_Tw_send 31 = .ok (.getfield 62, 3) := by decide +kernel
theorem d_Tw_send_34 : decode b_Tw_send 34 = .ok (.aload_n 0, 1) := by decide +kernel
theorem d_Tw_send_35 : decode b_Tw_send 35 = .ok (.getfield 91, 3) := by decide +kernel
theorem d_Tw_send_38 : decode b_Tw_send 38 = .ok (.iload 4, 2) := by decide +kernel
theorem d_Tw_send_40 : decode b_Tw_send 40 = .ok (.iastore, 1) := by decide +kernel
theorem d_Tw_send_41 : decode b_Tw_send 41 = .ok (.aload_n 0, 1) := by decide +kernel
theorem d_Tw_send_42 : decode b_Tw_send 42 = .ok (.getfield 65, 3) := by decide +kernel
theorem d_Tw_send_45 : decode b_Tw_send 45 = .ok (.aload_n 0, 1) := by decide +kernel
theorem d_Tw_send_46 : decode b_Tw_send 46 = .ok (.getfield 91, 3) := by decide +kernel
theorem d_Tw_send_49 : decode b_Tw_send 49 = .ok (.iload 5, 2) := by decide +kernel
theorem d_Tw_send_51 : decode b_Tw_send 51 = .ok (.iastore, 1) := by decide +kernel
theorem d_Tw_send_52 : decode b_Tw_send 52 = .ok (.aload_n 0, 1) := by decide +kernel
theorem d_Tw_send_53 : decode b_Tw_send 53 = .ok (.getfield 68, 3) := by decide +kernel
theorem d_Tw_send_56 : decode b_Tw_send 56 = .ok (.aload_n 0, 1) := by decide +kernel
theorem d_Tw_send_57 : decode b_Tw_send 57 = .ok (.getfield 91, 3) := by decide +kernel
theorem d_Tw_send_60 : decode b_Tw_send 60 = .ok (.iload 6, 2) := by decide +kernel
theorem d_Tw_send_62 : decode b_Tw_send 62 = .ok (.iastore, 1) := by decide +kernel
theorem d_Tw_send_63 : decode b_Tw_send 63 = .ok (.aload_n 0, 1) := by decide +kernel
theorem d_Tw_send_64 : decode b_Tw_send 64 = .ok (.getfield 71, 3) := by decide +kernel
theorem d_Tw_send_67 : decode b_Tw_send 67 = .ok (.aload_n 0, 1) := by decide +kernel
theorem d_Tw_send_68 : decode b_Tw_send 68 = .ok (.getfield 91, 3) := by decide +kernel
theorem d_Tw_send_71 : decode b_Tw_send 71 = .ok (.iload 7, 2) := by decide +kernel
theorem d_Tw_send_73 : decode b_Tw_send 73 = .ok (.iastore, 1) := by decide +kernel
theorem d_Tw_send_74 : decode b_Tw_send 74 = .ok (.aload_n 0, 1) := by decide +kernel
theorem d_Tw_send_75 : decode b_Tw_send 75 = .ok (.dup, 1) := by decide +kernel
theorem d_Tw_send_76 : decode b_Tw_send 76 = .ok (.getfield 91, 3) := by decide +kernel
theorem d_Tw_send_79 : decode b_Tw_send 79 = .ok (.iconst 1, 1) := by decide +kernel
theorem d_Tw_send_80 : decode b_Tw_send 80 = .ok (.iadd, 1) := by decide +kernel
theorem d_Tw_send_81 : decode b_Tw_send 81 = .ok (.putfield 91, 3) := by decide +kernel
theorem d_Tw_send_84 : decode b_Tw_send 84 = .ok (.aload_n 0, 1) := by decide +kernel
theorem d_Tw_send_85 : decode b_Tw_send 85 = .ok (.dup, 1) := by decide +kernel
theorem d_Tw_send_86 : decode b_Tw_send 86 = .ok (.getfield 94, 3) := by decide +kernel
theorem d_Tw_send_89 : decode b_Tw_send 89 = .ok (.iconst 1, 1) := by decide +kernel
theorem d_Tw_send_90 : decode b_Tw_send 90 = .ok (.iadd, 1) := by decide +kernel
theorem d_Tw_send_91 : decode b_Tw_send 91 = .ok (.putfield 94, 3) := by decide +kernel
theorem d_Tw_send_94 : decode b_Tw_send 94 = .ok (.return_, 1) := by decide +kernel
theorem d_Tw_data_0 : decode b_Tw_data 0 = .ok (.aload_n 0, 1) := by decide +kernel
theorem d_Tw_data_1 : decode b_Tw_data 1 = .ok (.bipush 8, 2) := by decide +kernel
theorem d_Tw_data_3 : decode b_Tw_data 3 = .ok (.iload_n 1, 1) := by decide +kernel
theorem d_Tw_data_4 : decode b_Tw_data 4 = .ok (.iload_n 2, 1) := by decide +kernel
theorem d_Tw_data_5 : decode b_Tw_data 5 = .ok (.iload_n 3, 1) := by decide +kernel
theorem d_Tw_data_6 : decode b_Tw_data 6 = .ok (.iload 4, 2) := by decide +kernel
theorem d_Tw_data_8 : decode b_Tw_data 8 = .ok (.iload 5, 2) := by decide +kernel
theorem d_Tw_data_10 : decode b_Tw_data 10 = .ok (.iconst (-1), 1) := by decide +kernel
theorem d_Tw_data_11 : decode b_Tw_data 11 = .ok (.invokevirtual 97, 3) := by decide +kernel
theorem d_Tw_data_14 : decode b_Tw_data 14 = .ok (.return_, 1) := by decide +kernel
theorem d_Tw_remove_0 : decode b_Tw_remove 0 = .ok (.aload_n 0, 1) := by decide +kernel
theorem d_Tw_remove_1 : decode b_Tw_remove 1 = .ok (.dup, 1) := by decide +kernel
theorem d_Tw_remove_2 : decode b_Tw_remove 2 = .ok (.getfield 91, 3) := by decide +kernel
theorem d_Tw_remove_5 : decode b_Tw_remove 5 = .ok (.iconst 1, 1) := by decide +kernel
theorem d_Tw_remove_6 : decode b_Tw_remove 6 = .ok (.isub, 1) := by decide +kernel
theorem d_Tw_remove_7 : decode b_Tw_remove 7 = .ok (.putfield 91, 3) := by decide +kernel
theorem d_Tw_remove_10 : decode b_Tw_remove 10 = .ok (.iload_n 1, 1) := by decide +kernel
theorem d_Tw_remove_11 : decode b_Tw_remove 11 = .ok (.istore_n 2, 1) := by decide +kernel
theorem d_Tw_remove_12 : decode b_Tw_remove 12 = .ok (.iload_n 2, 1) := by decide +kernel
theorem d_Tw_remove_13 : decode b_Tw_remove 13 = .ok (.aload_n 0, 1) := by decide +kernel
theorem d_Tw_remove_14 : decode b_Tw_remove 14 = .ok (.getfield 91, 3) := by decide +kernel
theorem d_Tw_remove_17 : decode b_Tw_remove 17 = .ok (.if_icmp .ge 107, 3) := by decide +kernel
theorem d_Tw_remove_20 : decode b_Tw_remove 20 = .ok (.aload_n 0, 1) := by decide +kernel
theorem d_Tw_remove_21 : decode b_Tw_remove 21 = .ok (.getfield 53, 3) := by decide +kernel
theorem d_Tw_remove_24 : decode b_Tw_remove 24 = .ok (.iload_n 2, 1) := by decide +kernel
theorem d_Tw_remove_25 : decode b_Tw_remove 25 = .ok (.aload_n 0, 1) := by decide +kernel
theorem d_Tw_remove_26 : decode b_Tw_remove 26 = .ok (.getfield 53, 3) := by decide +kernel
theorem d_Tw_remove_29 : decode b_Tw_remove 29 = .ok (.iload_n 2, 1) := by decide +kernel
theorem d_Tw_remove_30 : decode b_Tw_remove 30 = .ok (.iconst 1, 1) := by decide +kernel
theorem d_Tw_remove_31 : decode b_Tw_remove 31 = .ok (.iadd, 1) := by decide +kernel
theorem d_Tw_remove_32 : decode b_Tw_remove 32 = .ok (.iaload, 1) := by decide +kernel
theorem d_Tw_remove_33 : decode b_Tw_remove 33 = .ok (.iastore, 1) := by decide +kernel
theorem d_Tw_remove_34 : decode b_Tw_remove 34 = .ok (.aload_n 0, 1) := by decide +kernel
theorem d_Tw_remove_35 : decode b_Tw_remove 35 = .ok (.getfield 56, 3) := by decide +kernel
theorem d_Tw_remove_38 : decode b_Tw_remove 38 = .ok (.iload_n 2, 1) := by decide +kernel
theorem d_Tw_remove_39 : decode b_Tw_remove 39 = .ok (.aload_n 0, 1) := by decide +kernel
theorem d_Tw_remove_40 : decode b_Tw_remove 40 = .ok (.getfield 56, 3) := by decide +kernel
theorem d_Tw_remove_43 : decode b_Tw_remove 43 = .ok (.iload_n 2, 1) := by decide +kernel
theorem d_Tw_remove_44 : decode b_Tw_remove 44 = .ok (.iconst 1, 1) := by decide +kernel
theorem d_Tw_remove_45 : decode b_Tw_remove 45 = .ok (.iadd, 1) := by decide +kernel
theorem d_Tw_remove_46 : decode b_Tw_remove 46 = .ok (.iaload, 1) := by decide +kernel
theorem d_Tw_remove_47 : decode b_Tw_remove 47 = .ok (.iastore, 1) := by decide +kernel
theorem d_Tw_remove_48 : decode b_Tw_remove 48 = .ok (.aload_n 0, 1) := by decide +kernel
theorem d_Tw_remove_49 : decode b_Tw_remove 49 = .ok (.getfield 59, 3) := by decide +kernel
theorem d_Tw_remove_52 : decode b_Tw_remove 52 = .ok (.iload_n 2, 1) := by decide +kernel
theorem d_Tw_remove_53 : decode b_Tw_remove 53 = .ok (.aload_n 0, 1) := by decide +kernel
theorem d_Tw_remove_54 : decode b_Tw_remove 54 = .ok (.getfield 59, 3) := by decide +kernel
theorem d_Tw_remove_57 : decode b_Tw_remove 57 = .ok (.iload_n 2, 1) := by decide +kernel
theorem d_Tw_remove_58 : decode b_Tw_remove 58 = .ok (.iconst 1, 1) := by decide +kernel
theorem d_Tw_remove_59 : decode b_Tw_remove 59 = .ok (.iadd, 1) := by decide +kernel
theorem d_Tw_remove_60 : decode b_Tw_remove 60 = .ok (.iaload, 1) := by decide +kernel
theorem d_Tw_remove_61 : decode b_Tw_remove 61 = .ok (.iastore, 1) := by decide +kernel
theorem d_Tw_remove_62 : decode b_Tw_remove 62 = .ok (.aload_n 0, 1) := by decide +kernel
theorem d_Tw_remove_63 : decode b_Tw_remove 63 = .ok (.getfield 62, 3) := by decide +kernel
theorem d_Tw_remove_66 : decode b_Tw_remove 66 = .ok (.iload_n 2, 1) := by decide +kernel
theorem d_Tw_remove_67 : decode b_Tw_remove 67 = .ok (.aload_n 0, 1) := by decide +kernel
theorem d_Tw_remove_68 : decode b_Tw_remove 68 = .ok (.getfield 62, 3) := by decide +kernel
theorem d_Tw_remove_71 : decode b_Tw_remove 71 = .ok (.iload_n 2, 1) := by decide +kernel
theorem d_Tw_remove_72 : decode b_Tw_remove 72 = .ok (.iconst 1, 1) := by decide +kernel
theorem d_Tw_remove_73 : decode b_Tw_remove 73 = .ok (.iadd, 1) := by decide +kernel
theorem d_Tw_remove_74 : decode b_Tw_remove 74 = .ok (.iaload, 1) := by decide +kernel
theorem d_Tw_remove_75 : decode b_Tw_remove 75 = .ok (.iastore, 1) := by decide +kernel
theorem d_Tw_remove_76 : decode b_Tw_remove 76 = .ok (.aload_n 0, 1) := by decide +kernel
theorem d_Tw_remove_77 : decode b_Tw_remove 77 = .ok (.getfield 65, 3) := by decide +kernel
theorem d_Tw_remove_80 : decode b_Tw_remove 80 = .ok (.iload_n 2, 1) := by decide +kernel
theorem d_Tw_remove_81 : decode b_Tw_remove 81 = .ok (.aload_n 0, 1) := by decide +kernel
theorem d_Tw_remove_82 : decode b_Tw_remove 82 = .ok (.getfield 65, 3) := by decide +kernel
theorem d_Tw_remove_85 : decode b_Tw_remove 85 = .ok (.iload_n 2, 1) := by decide +kernel
theorem d_Tw_remove_86 : decode b_Tw_remove 86 = .ok (.iconst 1, 1) := by decide +kernel
theorem d_Tw_remove_87 : decode b_Tw_remove 87 = .ok (.iadd, 1) := by decide +kernel
theorem d_Tw_remove_88 : decode b_Tw_remove 88 = .ok (.iaload, 1) := by decide +kernel
theorem d_Tw_remove_89 : decode b_Tw_remove 89 = .ok (.iastore, 1) := by decide +kernel
theorem d_Tw_remove_90 : decode b_Tw_remove 90 = .ok (.aload_n 0, 1) := by decide +kernel
theorem d_Tw_remove_91 : decode b_Tw_remove 91 = .ok (.getfield 68, 3) := by decide +kernel
theorem d_Tw_remove_94 : decode b_Tw_remove 94 = .ok (.iload_n 2, 1) := by decide +kernel
theorem d_Tw_remove_95 : decode b_Tw_remove 95 = .ok (.aload_n 0, 1) := by decide +kernel
theorem d_Tw_remove_96 : decode b_Tw_remove 96 = .ok (.getfield 68, 3) := by decide +kernel
theorem d_Tw_remove_99 : decode b_Tw_remove 99 = .ok (.iload_n 2, 1) := by decide +kernel
theorem d_Tw_remove_100 : decode b_Tw_remove 100 = .ok (.iconst 1, 1) := by decide +kernel
theorem d_Tw_remove_101 : decode b_Tw_remove 101 = .ok (.iadd, 1) := by decide +kernel
theorem d_Tw_remove_102 : decode b_Tw_remove 102 = .ok (.iaload, 1) := by decide +kernel
theorem d_Tw_remove_103 : decode b_Tw_remove 103 = .ok (.iastore, 1) := by decide +kernel
theorem d_Tw_remove_104 : decode b_Tw_remove 104 = .ok (.aload_n 0, 1) := by decide +kernel
theorem d_Tw_remove_105 : decode b_Tw_remove 105 = .ok (.getfield 71, 3) := by decide +kernel
theorem d_Tw_remove_108 : decode b_Tw_remove 108 = .ok (.iload_n 2, 1) := by decide +kernel
theorem d_Tw_remove_109 : decode b_Tw_remove 109 = .ok (.aload_n 0, 1) := by decide +kernel
theorem d_Tw_remove_110 : decode b_Tw_remove 110 = .ok (.getfield 71, 3) := by decide +kernel
theorem d_Tw_remove_113 : decode b_Tw_remove 113 = .ok (.iload_n 2, 1) := by decide +kernel
theorem d_Tw_remove_114 : decode b_Tw_remove 114 = .ok (.iconst 1, 1) := by decide +kernel
theorem d_Tw_remove_115 : decode b_Tw_remove 115 = .ok (.iadd, 1) := by decide +kernel
theorem d_Tw_remove_116 : decode b_Tw_remove 116 = .ok (.iaload, 1) := by decide +kernel
theorem d_Tw_remove_117 : decode b_Tw_remove 117 = .ok (.iastore, 1) := by decide +kernel
theorem d_Tw_remove_118 : decode b_Tw_remove 118 = .ok (.iinc 2 1, 3) := by decide +kernel
theorem d_Tw_remove_121 : decode b_Tw_remove 121 = .ok (.goto (-109), 3) := by decide +kernel
theorem d_Tw_remove_124 : decode b_Tw_remove 124 = .ok (.return_, 1) := by decide +kernel
theorem d_Tw_perform_0 : decode b_Tw_perform 0 = .ok (.bipush 16, 2) := by decide +kernel
theorem d_Tw_perform_2 : decode b_Tw_perform 2 = .ok (.iload_n 1, 1) := by decide +kernel
theorem d_Tw_perform_3 : decode b_Tw_perform 3 = .ok (.imul, 1) := by decide +kernel
theorem d_Tw_perform_4 : decode b_Tw_perform 4 = .ok (.aload_n 0, 1) := by decide +kernel
theorem d_Tw_perform_5 : decode b_Tw_perform 5 = .ok (.getfield 22, 3) := by decide +kernel
theorem d_Tw_perform_8 : decode b_Tw_perform 8 = .ok (.iload_n 1, 1) := by decide +kernel
theorem d_Tw_perform_9 : decode b_Tw_perform 9 = .ok (.iaload, 1) := by decide +kernel
theorem d_Tw_perform_10 : decode b_Tw_perform 10 = .ok (.iadd, 1) := by decide +kernel
theorem d_Tw_perform_11 : decode b_Tw_perform 11 = .ok (.istore_n 2, 1) := by decide +kernel
theorem d_Tw_perform_12 : decode b_Tw_perform 12 = .ok (.iconst 4, 1) := by decide +kernel
theorem d_Tw_perform_13 : decode b_Tw_perform 13 = .ok (.iload_n 1, 1) := by decide +kernel
theorem d_Tw_perform_14 : decode b_Tw_perform 14 = .ok (.imul, 1) := by decide +kernel
theorem d_Tw_perform_15 : decode b_Tw_perform 15 = .ok (.aload_n 0, 1) := by decide +kernel
theorem d_Tw_perform_16 : decode b_Tw_perform 16 = .ok (.getfield 16, 3) := by decide +kernel
theorem d_Tw_perform_19 : decode b_Tw_perform 19 = .ok (.iload_n 2, 1) := by decide +kernel
theorem d_Tw_perform_20 : decode b_Tw_perform 20 = .ok (.iaload, 1) := by decide +kernel
theorem d_Tw_perform_21 : decode b_Tw_perform 21 = .ok (.iadd, 1) := by decide +kernel
theorem d_Tw_perform_22 : decode b_Tw_perform 22 = .ok (.istore_n 3, 1) := by decide +kernel
theorem d_Tw_perform_23 : decode b_Tw_perform 23 = .ok (.aload_n 0, 1) := by decide +kernel
theorem d_Tw_perform_24 : decode b_Tw_perform 24 = .ok (.getfield 31, 3) := by decide +kernel
theorem d_Tw_perform_27 : decode b_Tw_perform 27 = .ok (.iload_n 3, 1) := by decide +kernel
theorem d_Tw_perform_28 : decode b_Tw_perform 28 = .ok (.iaload, 1) := by decide +kernel
theorem d_Tw_perform_29 : decode b_Tw_perform 29 = .ok (.istore 4, 2) := by decide +kernel
theorem d_Tw_perform_31 : decode b_Tw_perform 31 = .ok (.aload_n 0, 1) := by decide +kernel
theorem d_Tw_perform_32 : decode b_Tw_perform 32 = .ok (.getfield 31, 3) := by decide +kernel
theorem d_Tw_perform_35 : decode b_Tw_perform 35 = .ok (.iload_n 3, 1) := by decide +kernel
theorem d_Tw_perform_36 : decode b_Tw_perform 36 = .ok (.aload_n 0, 1) := by decide +kernel
theorem d_Tw_perform_37 : decode b_Tw_perform 37 = .ok (.getfield 13, 3) := by decide +kernel
theorem d_Tw_perform_40 : decode b_Tw_perform 40 = .ok (.iload_n 2, 1) := by decide +kernel
theorem d_Tw_perform_41 : decode b_Tw_perform 41 = .ok (.iaload, 1) := by decide +kernel
theorem d_Tw_perform_42 : decode b_Tw_perform 42 = .ok (.ifCond .ne 8, 3) := by decide +kernel
theorem d_Tw_perform_45 : decode b_Tw_perform 45 = .ok (.iload 4, 2) := by decide +kernel
theorem d_Tw_perform_47 : decode b_Tw_perform 47 = .ok (.goto 9, 3) := by decide +kernel
theorem d_Tw_perform_50 : decode b_Tw_perform 50 = .ok (.aload_n 0, 1) := by decide +kernel
theorem d_Tw_perform_51 : decode b_Tw_perform 51 = .ok (.getfield 7, 3) := by decide +kernel
theorem d_Tw_perform_54 : decode b_Tw_perform 54 = .ok (.iload_n 1, 1) := by decide +kernel
theorem d_Tw_perform_55 : decode b_Tw_perform 55 = .ok (.iaload, 1) := by decide +kernel
theorem d_Tw_perform_56 : decode b_Tw_perform 56 = .ok (.iastore, 1) := by decide +kernel
theorem d_Tw_perform_57 : decode b_Tw_perform 57 = .ok (.aload_n 0, 1) := by decide +kernel
theorem d_Tw_perform_58 : decode b_Tw_perform 58 = .ok (.getfield 7, 3) := by decide +kernel
theorem d_Tw_perform_61 : decode b_Tw_perform 61 = .ok (.iload_n 1, 1) := by decide +kernel
theorem d_Tw_perform_62 : decode b_Tw_perform 62 = .ok (.aload_n 0, 1) := by decide +kernel
theorem d_Tw_perform_63 : decode b_Tw_perform 63 = .ok (.getfield 13, 3) := by decide +kernel
theorem d_Tw_perform_66 : decode b_Tw_perform 66 = .ok (.iload_n 2, 1) := by decide +kernel
theorem d_Tw_perform_67 : decode b_Tw_perform 67 = .ok (.iaload, 1) := by decide +kernel
theorem d_Tw_perform_68 : decode b_Tw_perform 68 = .ok (.iconst 1, 1) := by decide +kernel
theorem d_Tw_perform_69 : decode b_Tw_perform 69 = .ok (.if_icmp .ne 12, 3) := by decide +kernel
theorem d_Tw_perform_72 : decode b_Tw_perform 72 = .ok (.aload_n 0, 1) := by decide +kernel
theorem d_Tw_perform_73 : decode b_Tw_perform 73 = .ok (.getfield 7, 3) := by decide +kernel
theorem d_Tw_perform_76 : decode b_Tw_perform 76 = .ok (.iload_n 1, 1) := by decide +kernel
theorem d_Tw_perform_77 : decode b_Tw_perform 77 = .ok (.iaload, 1) := by decide +kernel
theorem d_Tw_perform_78 : decode b_Tw_perform 78 = .ok (.goto 5, 3) := by decide +kernel
theorem d_Tw_perform_81 : decode b_Tw_perform 81 = .ok (.iload 4, 2) := by decide +kernel
theorem d_Tw_perform_83 : decode b_Tw_perform 83 = .ok (.iastore, 1) := by decide +kernel
theorem d_Tw_perform_84 : decode b_Tw_perform 84 = .ok (.aload_n 0, 1) := by decide +kernel
theorem d_Tw_perform_85 : decode b_Tw_perform 85 = .ok (.dup, 1) := by decide +kernel
theorem d_Tw_perform_86 : decode b_Tw_perform 86 = .ok (.getfield 101, 3) := by decide +kernel
theorem d_Tw_perform_89 : decode b_Tw_perform 89 = .ok (.iconst 1, 1) := by decide +kernel
theorem d_Tw_perform_90 : decode b_Tw_perform 90 = .ok (.iadd, 1) := by decide +kernel
theorem d_Tw_perform_91 : decode b_Tw_perform 91 = .ok (.putfield 101, 3) := by decide +kernel
theorem d_Tw_perform_94 : decode b_Tw_perform 94 = .ok (.aload_n 0, 1) := by decide +kernel
theorem d_Tw_perform_95 : decode b_Tw_perform 95 = .ok (.getfield 37, 3) := by decide +kernel
theorem d_Tw_perform_98 : decode b_Tw_perform 98 = .ok (.iload_n 3, 1) := by decide +kernel
theorem d_Tw_perform_99 : decode b_Tw_perform 99 = .ok (.aload_n 0, 1) := by decide +kernel
theorem d_Tw_perform_100 : decode b_Tw_perform 100 = .ok (.getfield 101, 3) := by decide +kernel
theorem d_Tw_perform_103 : decode b_Tw_perform 103 = .ok (.iastore, 1) := by decide +kernel
theorem d_Tw_perform_104 : decode b_Tw_perform 104 = .ok (.aload_n 0, 1) := by decide +kernel
theorem d_Tw_perform_105 : decode b_Tw_perform 105 = .ok (.dup, 1) := by decide +kernel
theorem d_Tw_perform_106 : decode b_Tw_perform 106 = .ok (.getfield 104, 3) := by decide +kernel
theorem d_Tw_perform_109 : decode b_Tw_perform 109 = .ok (.iconst 1, 1) := by decide +kernel
theorem d_Tw_perform_110 : decode b_Tw_perform 110 = .ok (.iadd, 1) := by decide +kernel
theorem d_Tw_perform_111 : decode b_Tw_perform 111 = .ok (.putfield 104, 3) := by decide +kernel
theorem d_Tw_perform_114 : decode b_Tw_perform 114 = .ok (.aload_n 0, 1) := by decide +kernel
theorem d_Tw_perform_115 : decode b_Tw_perform 115 = .ok (.getfield 22, 3) := by decide +kernel
theorem d_Tw_perform_118 : decode b_Tw_perform 118 = .ok (.iload_n 1, 1) := by decide +kernel
theorem d_Tw_perform_119 : decode b_Tw_perform 119 = .ok (.dup2, 1) := by decide +kernel
theorem d_Tw_perform_120 : decode b_Tw_perform 120 = .ok (.iaload, 1) := by decide +kernel
theorem d_Tw_perform_121 : decode b_Tw_perform 121 = .ok (.iconst 1, 1) := by decide +kernel
theorem d_Tw_perform_122 : decode b_Tw_perform 122 = .ok (.iadd, 1) := by decide +kernel
theorem d_Tw_perform_123 : decode b_Tw_perform 123 = .ok (.iastore, 1) := by decide +kernel
theorem d_Tw_perform_124 : decode b_Tw_perform 124 = .ok (.return_, 1) := by decide +kernel
theorem d_Tw_plain_0 : decode b_Tw_plain 0 = .ok (.aload_n 0, 1) := by decide +kernel
theorem d_Tw_plain_1 : decode b_Tw_plain 1 = .ok (.getfield 7, 3) := by decide +kernel
theorem d_Tw_plain_4 : decode b_Tw_plain 4 = .ok (.iload_n 1, 1) := by decide +kernel
theorem d_Tw_plain_5 : decode b_Tw_plain 5 = .ok (.iaload, 1) := by decide +kernel
theorem d_Tw_plain_6 : decode b_Tw_plain 6 = .ok (.istore 4, 2) := by decide +kernel
theorem d_Tw_plain_8 : decode b_Tw_plain 8 = .ok (.aload_n 0, 1) := by decide +kernel
theorem d_Tw_plain_9 : decode b_Tw_plain 9 = .ok (.getfield 7, 3) := by decide +kernel
theorem d_Tw_plain_12 : decode b_Tw_plain 12 = .ok (.iload_n 1, 1) := by decide +kernel
theorem d_Tw_plain_13 : decode b_Tw_plain 13 = .ok (.iload_n 2, 1) := by decide +kernel
theorem d_Tw_plain_14 : decode b_Tw_plain 14 = .ok (.iconst 2, 1) := by decide +kernel
theorem d_Tw_plain_15 : decode b_Tw_plain 15 = .ok (.if_icmp .ne 10, 3) := by decide +kernel
theorem d_Tw_plain_18 : decode b_Tw_plain 18 = .ok (.iload 4, 2) := by decide +kernel
theorem d_Tw_plain_20 : decode b_Tw_plain 20 = .ok (.iload_n 3, 1) := by decide +kernel
theorem d_Tw_plain_21 : decode b_Tw_plain 21 = .ok (.iadd, 1) := by decide +kernel
theorem d_Tw_plain_22 : decode b_Tw_plain 22 = .ok (.goto 14, 3) := by decide +kernel
theorem d_Tw_plain_25 : decode b_Tw_plain 25 = .ok (.iload_n 2, 1) := by decide +kernel
theorem d_Tw_plain_26 : decode b_Tw_plain 26 = .ok (.iconst 4, 1) := by decide +kernel
theorem d_Tw_plain_27 : decode b_Tw_plain 27 = .ok (.if_icmp .ne 7, 3) := by decide +kernel
theorem d_Tw_plain_30 : decode b_Tw_plain 30 = .ok (.iload_n 3, 1) := by decide +kernel
theorem d_Tw_plain_31 : decode b_Tw_plain 31 = .ok (.goto 5, 3) := by decide +kernel
theorem d_Tw_plain_34 : decode b_Tw_plain 34 = .ok (.iload 4, 2) := by decide +kernel
theorem d_Tw_plain_36 : decode b_Tw_plain 36 = .ok (.iastore, 1) := by decide +kernel
theorem d_Tw_plain_37 : decode b_Tw_plain 37 = .ok (.aload_n 0, 1) := by decide +kernel
theorem d_Tw_plain_38 : decode b_Tw_plain 38 = .ok (.getfield 22, 3) := by decide +kernel
theorem d_Tw_plain_41 : decode b_Tw_plain 41 = .ok (.iload_n 1, 1) := by decide +kernel
theorem d_Tw_plain_42 : decode b_Tw_plain 42 = .ok (.iload_n 2, 1) := by decide +kernel
theorem d_Tw_plain_43 : decode b_Tw_plain 43 = .ok (.iconst 3, 1) := by decide +kernel
theorem d_Tw_plain_44 : decode b_Tw_plain 44 = .ok (.if_icmp .ne 12, 3) := by decide +kernel
theorem d_Tw_plain_47 : decode b_Tw_plain 47 = .ok (.iload 4, 2) := by decide +kernel
theorem d_Tw_plain_49 : decode b_Tw_plain 49 = .ok (.ifCond .eq 7, 3) := by decide +kernel
theorem d_Tw_plain_52 : decode b_Tw_plain 52 = .ok (.iload_n 3, 1) := by decide +kernel
theorem d_Tw_plain_53 : decode b_Tw_plain 53 = .ok (.goto 11, 3) := by decide +kernel
theorem d_Tw_plain_56 : decode b_Tw_plain 56 = .ok (.aload_n 0, 1) := by decide +kernel
theorem d_Tw_plain_57 : decode b_Tw_plain 57 = .ok (.getfield 22, 3) := by decide +kernel
theorem d_Tw_plain_60 : decode b_Tw_plain 60 = .ok (.iload_n 1, 1) := by decide +kernel
theorem d_Tw_plain_61 : decode b_Tw_plain 61 = .ok (.iaload, 1) := by decide +kernel
theorem d_Tw_plain_62 : decode b_Tw_plain 62 = .ok (.iconst 1, 1) := by decide +kernel
theorem d_Tw_plain_63 : decode b_Tw_plain 63 = .ok (.iadd, 1) := by decide +kernel
theorem d_Tw_plain_64 : decode b_Tw_plain 64 = .ok (.iastore, 1) := by decide +kernel
theorem d_Tw_plain_65 : decode b_Tw_plain 65 = .ok (.iconst 1, 1) := by decide +kernel
theorem d_Tw_plain_66 : decode b_Tw_plain 66 = .ok (.ireturn, 1) := by decide +kernel
theorem d_Tw_inUse_0 : decode b_Tw_inUse 0 = .ok (.iconst 0, 1) := by decide +kernel
theorem d_Tw_inUse_1 : decode b_Tw_inUse 1 = .ok (.istore_n 2, 1) := by decide +kernel
theorem d_Tw_inUse_2 : decode b_Tw_inUse 2 = .ok (.iconst 0, 1) := by decide +kernel
theorem d_Tw_inUse_3 : decode b_Tw_inUse 3 = .ok (.istore_n 3, 1) := by decide +kernel
theorem d_Tw_inUse_4 : decode b_Tw_inUse 4 = .ok (.iload_n 3, 1) := by decide +kernel
theorem d_Tw_inUse_5 : decode b_Tw_inUse 5 = .ok (.iconst 4, 1) := by decide +kernel
theorem d_Tw_inUse_6 : decode b_Tw_inUse 6 = .ok (.if_icmp .ge 30, 3) := by decide +kernel
theorem d_Tw_inUse_9 : decode b_Tw_inUse 9 = .ok (.aload_n 0, 1) := by decide +kernel
theorem d_Tw_inUse_10 : decode b_Tw_inUse 10 = .ok (.getfield 28, 3) := by decide +kernel
theorem d_Tw_inUse_13 : decode b_Tw_inUse 13 = .ok (.iconst 4, 1) := by decide +kernel
theorem d_Tw_inUse_14 : decode b_Tw_inUse 14 = .ok (.iload_n 1, 1) := by decide +kernel
theorem d_Tw_inUse_15 : decode b_Tw_inUse 15 = .ok (.imul, 1) := by decide +kernel
theorem d_Tw_inUse_16 : decode b_Tw_inUse 16 = .ok (.iload_n 3, 1) := by decide +kernel
theorem d_Tw_inUse_17 : decode b_Tw_inUse 17 = .ok (.iadd, 1) := by decide +kernel
theorem d_Tw_inUse_18 : decode b_Tw_inUse 18 = .ok (.iaload, 1) := by decide +kernel
theorem d_Tw_inUse_19 : decode b_Tw_inUse 19 = .ok (.ifCond .eq 9, 3) := by decide +kernel
theorem d_Tw_inUse_22 : decode b_Tw_inUse 22 = .ok (.iload_n 2, 1) := by decide +kernel
theorem d_Tw_inUse_23 : decode b_Tw_inUse 23 = .ok (.iconst 1, 1) := by decide +kernel
theorem d_Tw_inUse_24 : decode b_Tw_inUse 24 = .ok (.iadd, 1) := by decide +kernel
theorem d_Tw_inUse_25 : decode b_Tw_inUse 25 = .ok (.goto 4, 3) := by decide +kernel
theorem d_Tw_inUse_28 : decode b_Tw_inUse 28 = .ok (.iload_n 2, 1) := by decide +kernel
theorem d_Tw_inUse_29 : decode b_Tw_inUse 29 = .ok (.istore_n 2, 1) := by decide +kernel
theorem d_Tw_inUse_30 : decode b_Tw_inUse 30 = .ok (.iinc 3 1, 3) := by decide +kernel
theorem d_Tw_inUse_33 : decode b_Tw_inUse 33 = .ok (.goto (-29), 3) := by decide +kernel
theorem d_Tw_inUse_36 : decode b_Tw_inUse 36 = .ok (.iload_n 2, 1) := by decide +kernel
theorem d_Tw_inUse_37 : decode b_Tw_inUse 37 = .ok (.ireturn, 1) := by decide +kernel
theorem d_Tw_replace_0 : decode b_Tw_replace 0 = .ok (.iconst (-1), 1) := by decide +kernel
theorem d_Tw_replace_1 : decode b_Tw_replace 1 = .ok (.istore_n 2, 1) := by decide +kernel
theorem d_Tw_replace_2 : decode b_Tw_replace 2 = .ok (.iconst 0, 1) := by decide +kernel
theorem d_Tw_replace_3 : decode b_Tw_replace 3 = .ok (.istore_n 3, 1) := by decide +kernel
theorem d_Tw_replace_4 : decode b_Tw_replace 4 = .ok (.iload_n 3, 1) := by decide +kernel
theorem d_Tw_replace_5 : decode b_Tw_replace 5 = .ok (.iconst 4, 1) := by decide +kernel
theorem d_Tw_replace_6 : decode b_Tw_replace 6 = .ok (.if_icmp .ge 52, 3) := by decide +kernel
theorem d_Tw_replace_9 : decode b_Tw_replace 9 = .ok (.iconst 4, 1) := by decide +kernel
theorem d_Tw_replace_10 : decode b_Tw_replace 10 = .ok (.iload_n 1, 1) := by decide +kernel
theorem d_Tw_replace_11 : decode b_Tw_replace 11 = .ok (.imul, 1) := by decide +kernel
theorem d_Tw_replace_12 : decode b_Tw_replace 12 = .ok (.iload_n 3, 1) := by decide +kernel
theorem d_Tw_replace_13 : decode b_Tw_replace 13 = .ok (.iadd, 1) := by decide +kernel
theorem d_Tw_replace_14 : decode b_Tw_replace 14 = .ok (.istore 4, 2) := by decide +kernel
theorem d_Tw_replace_16 : decode b_Tw_replace 16 = .ok (.aload_n 0, 1) := by decide +kernel
theorem d_Tw_replace_17 : decode b_Tw_replace 17 = .ok (.getfield 28, 3) := by decide +kernel
theorem d_Tw_replace_20 : decode b_Tw_replace 20 = .ok (.iload 4, 2) := by decide +kernel
theorem d_Tw_replace_22 : decode b_Tw_replace 22 = .ok (.iaload, 1) := by decide +kernel
theorem d_Tw_replace_23 : decode b_Tw_replace 23 = .ok (.ifCond .eq 29, 3) := by decide +kernel
theorem d_Tw_replace_26 : decode b_Tw_replace 26 = .ok (.iload_n 2, 1) := by decide +kernel
theorem d_Tw_replace_27 : decode b_Tw_replace 27 = .ok (.ifCond .lt 23, 3) := by decide +kernel
theorem d_Tw_replace_30 : decode b_Tw_replace 30 = .ok (.aload_n 0, 1) := by decide +kernel
theorem d_Tw_replace_31 : decode b_Tw_replace 31 = .ok (.getfield 37, 3) := by decide +kernel
theorem d_Tw_replace_34 : decode b_Tw_replace 34 = .ok (.iload 4, 2) := by decide +kernel
theorem d_Tw_replace_36 : decode b_Tw_replace 36 = .ok (.iaload, 1) := by decide +kernel
theorem d_Tw_replace_37 : decode b_Tw_replace 37 = .ok (.aload_n 0, 1) := by decide +kernel
theorem d_Tw_replace_38 : decode b_Tw_replace 38 = .ok (.getfield 37, 3) := by decide +kernel
theorem d_Tw_replace_41 : decode b_Tw_replace 41 = .ok (.iconst 4, 1) := by decide +kernel
theorem d_Tw_replace_42 : decode b_Tw_replace 42 = .ok (.iload_n 1, 1) := by decide +kernel
theorem d_Tw_replace_43 : decode b_Tw_replace 43 = .ok (.imul, 1) := by decide +kernel
theorem d_Tw_replace_44 : decode b_Tw_replace 44 = .ok (.iload_n 2, 1) := by decide +kernel
theorem d_Tw_replace_45 : decode b_Tw_replace 45 = .ok (.iadd, 1) := by decide +kernel
theorem d_Tw_replace_46 : decode b_Tw_replace 46 = .ok (.iaload, 1) := by decide +kernel
theorem d_Tw_replace_47 : decode b_Tw_replace 47 = .ok (.if_icmp .ge 5, 3) := by decide +kernel
theorem d_Tw_replace_50 : decode b_Tw_replace 50 = .ok (.iload_n 3, 1) := by decide +kernel
theorem d_Tw_replace_51 : decode b_Tw_replace 51 = .ok (.istore_n 2, 1) := by decide +kernel
theorem d_Tw_replace_52 : decode b_Tw_replace 52 = .ok (.iinc 3 1, 3) := by decide +kernel
theorem d_Tw_replace_55 : decode b_Tw_replace 55 = .ok (.goto (-51), 3) := by decide +kernel
theorem d_Tw_replace_58 : decode b_Tw_replace 58 = .ok (.iconst 4, 1) := by decide +kernel
theorem d_Tw_replace_59 : decode b_Tw_replace 59 = .ok (.iload_n 1, 1) := by decide +kernel
theorem d_Tw_replace_60 : decode b_Tw_replace 60 = .ok (.imul, 1) := by decide +kernel
theorem d_Tw_replace_61 : decode b_Tw_replace 61 = .ok (.iload_n 2, 1) := by decide +kernel
theorem d_Tw_replace_62 : decode b_Tw_replace 62 = .ok (.iadd, 1) := by decide +kernel
theorem d_Tw_replace_63 : decode b_Tw_replace 63 = .ok (.istore_n 3, 1) := by decide +kernel
theorem d_Tw_replace_64 : decode b_Tw_replace 64 = .ok (.aload_n 0, 1) := by decide +kernel
theorem d_Tw_replace_65 : decode b_Tw_replace 65 = .ok (.getfield 28, 3) := by decide +kernel
theorem d_Tw_replace_68 : decode b_Tw_replace 68 = .ok (.iload_n 3, 1) := by decide +kernel
theorem d_Tw_replace_69 : decode b_Tw_replace 69 = .ok (.iaload, 1) := by decide +kernel
theorem d_Tw_replace_70 : decode b_Tw_replace 70 = .ok (.iconst 1, 1) := by decide +kernel
theorem d_Tw_replace_71 : decode b_Tw_replace 71 = .ok (.if_icmp .ne 7, 3) := by decide +kernel
theorem d_Tw_replace_74 : decode b_Tw_replace 74 = .ok (.iconst 1, 1) := by decide +kernel
theorem d_Tw_replace_75 : decode b_Tw_replace 75 = .ok (.goto 4, 3) := by decide +kernel
theorem d_Tw_replace_78 : decode b_Tw_replace 78 = .ok (.iconst 0, 1) := by decide +kernel
theorem d_Tw_replace_79 : decode b_Tw_replace 79 = .ok (.istore 4, 2) := by decide +kernel
theorem d_Tw_replace_81 : decode b_Tw_replace 81 = .ok (.aload_n 0, 1) := by decide +kernel
theorem d_Tw_replace_82 : decode b_Tw_replace 82 = .ok (.iload 4, 2) := by decide +kernel
theorem d_Tw_replace_84 : decode b_Tw_replace 84 = .ok (.ifCond .eq 7, 3) := by decide +kernel
theorem d_Tw_replace_87 : decode b_Tw_replace 87 = .ok (.iconst 2, 1) := by decide +kernel
theorem d_Tw_replace_88 : decode b_Tw_replace 88 = .ok (.goto 4, 3) := by decide +kernel
theorem d_Tw_replace_91 : decode b_Tw_replace 91 = .ok (.iconst 3, 1) := by decide +kernel
theorem d_Tw_replace_92 : decode b_Tw_replace 92 = .ok (.iload_n 1, 1) := by decide +kernel
theorem d_Tw_replace_93 : decode b_Tw_replace 93 = .ok (.iconst 4, 1) := by decide +kernel
theorem d_Tw_replace_94 : decode b_Tw_replace 94 = .ok (.iload_n 2, 1) := by decide +kernel
theorem d_Tw_replace_95 : decode b_Tw_replace 95 = .ok (.iload 4, 2) := by decide +kernel
theorem d_Tw_replace_97 : decode b_Tw_replace 97 = .ok (.ifCond .eq 7, 3) := by decide +kernel
theorem d_Tw_replace_100 : decode b_Tw_replace 100 = .ok (.iconst 0, 1) := by decide +kernel
theorem d_Tw_replace_101 : decode b_Tw_replace 101 = .ok (.goto 9, 3) := by decide +kernel
theorem d_Tw_replace_104 : decode b_Tw_replace 104 = .ok (.aload_n 0, 1) := by decide +kernel
theorem d_Tw_replace_105 : decode b_Tw_replace 105 = .ok (.getfield 31, 3) := by decide +kernel
theorem d_Tw_replace_108 : decode b_Tw_replace 108 = .ok (.iload_n 3, 1) := by decide +kernel
theorem d_Tw_replace_109 : decode b_Tw_replace 109 = .ok (.iaload, 1) := by decide +kernel
theorem d_Tw_replace_110 : decode b_Tw_replace 110 = .ok (.iconst 0, 1) := by decide +kernel
theorem d_Tw_replace_111 : decode b_Tw_replace 111 = .ok (.iconst (-1), 1) := by decide +kernel
theorem d_Tw_replace_112 : decode b_Tw_replace 112 = .ok (.invokevirtual 97, 3) := by decide +kernel
theorem d_Tw_replace_115 : decode b_Tw_replace 115 = .ok (.aload_n 0, 1) := by decide +kernel
theorem d_Tw_replace_116 : decode b_Tw_replace 116 = .ok (.getfield 28, 3) := by decide +kernel
theorem d_Tw_replace_119 : decode b_Tw_replace 119 = .ok (.iload_n 3, 1) := by decide +kernel
theorem d_Tw_replace_120 : decode b_Tw_replace 120 = .ok (.iload 4, 2) := by decide +kernel
theorem d_Tw_replace_122 : decode b_Tw_replace 122 = .ok (.ifCond .eq 8, 3) := by decide +kernel
theorem d_Tw_replace_125 : decode b_Tw_replace 125 = .ok (.bipush 9, 2) := by decide +kernel
theorem d_Tw_replace_127 : decode b_Tw_replace 127 = .ok (.goto 5, 3) := by decide +kernel
theorem d_Tw_replace_130 : decode b_Tw_replace 130 = .ok (.bipush 8, 2) := by decide +kernel
theorem d_Tw_replace_132 : decode b_Tw_replace 132 = .ok (.iastore, 1) := by decide +kernel
theorem d_Tw_replace_133 : decode b_Tw_replace 133 = .ok (.aload_n 0, 1) := by decide +kernel
theorem d_Tw_replace_134 : decode b_Tw_replace 134 = .ok (.getfield 25, 3) := by decide +kernel
theorem d_Tw_replace_137 : decode b_Tw_replace 137 = .ok (.iload_n 1, 1) := by decide +kernel
theorem d_Tw_replace_138 : decode b_Tw_replace 138 = .ok (.iconst 2, 1) := by decide +kernel
theorem d_Tw_replace_139 : decode b_Tw_replace 139 = .ok (.iastore, 1) := by decide +kernel
theorem d_Tw_replace_140 : decode b_Tw_replace 140 = .ok (.iconst 3, 1) := by decide +kernel
theorem d_Tw_replace_141 : decode b_Tw_replace 141 = .ok (.ireturn, 1) := by decide +kernel
theorem d_Tw_ask_0 : decode b_Tw_ask 0 = .ok (.aload_n 0, 1) := by decide +kernel
theorem d_Tw_ask_1 : decode b_Tw_ask 1 = .ok (.iload_n 3, 1) := by decide +kernel
theorem d_Tw_ask_2 : decode b_Tw_ask 2 = .ok (.iload_n 1, 1) := by decide +kernel
theorem d_Tw_ask_3 : decode b_Tw_ask 3 = .ok (.iconst 4, 1) := by decide +kernel
theorem d_Tw_ask_4 : decode b_Tw_ask 4 = .ok (.iload_n 2, 1) := by decide +kernel
theorem d_Tw_ask_5 : decode b_Tw_ask 5 = .ok (.iconst 0, 1) := by decide +kernel
theorem d_Tw_ask_6 : decode b_Tw_ask 6 = .ok (.iconst 0, 1) := by decide +kernel
theorem d_Tw_ask_7 : decode b_Tw_ask 7 = .ok (.iconst (-1), 1) := by decide +kernel
theorem d_Tw_ask_8 : decode b_Tw_ask 8 = .ok (.invokevirtual 97, 3) := by decide +kernel
theorem d_Tw_ask_11 : decode b_Tw_ask 11 = .ok (.aload_n 0, 1) := by decide +kernel
theorem d_Tw_ask_12 : decode b_Tw_ask 12 = .ok (.getfield 28, 3) := by decide +kernel
theorem d_Tw_ask_15 : decode b_Tw_ask 15 = .ok (.iconst 4, 1) := by decide +kernel
theorem d_Tw_ask_16 : decode b_Tw_ask 16 = .ok (.iload_n 1, 1) := by decide +kernel
theorem d_Tw_ask_17 : decode b_Tw_ask 17 = .ok (.imul, 1) := by decide +kernel
theorem d_Tw_ask_18 : decode b_Tw_ask 18 = .ok (.iload_n 2, 1) := by decide +kernel
theorem d_Tw_ask_19 : decode b_Tw_ask 19 = .ok (.iadd, 1) := by decide +kernel
theorem d_Tw_ask_20 : decode b_Tw_ask 20 = .ok (.iload 4, 2) := by decide +kernel
theorem d_Tw_ask_22 : decode b_Tw_ask 22 = .ok (.iastore, 1) := by decide +kernel
theorem d_Tw_ask_23 : decode b_Tw_ask 23 = .ok (.aload_n 0, 1) := by decide +kernel
theorem d_Tw_ask_24 : decode b_Tw_ask 24 = .ok (.getfield 34, 3) := by decide +kernel
theorem d_Tw_ask_27 : decode b_Tw_ask 27 = .ok (.iconst 4, 1) := by decide +kernel
theorem d_Tw_ask_28 : decode b_Tw_ask 28 = .ok (.iload_n 1, 1) := by decide +kernel
theorem d_Tw_ask_29 : decode b_Tw_ask 29 = .ok (.imul, 1) := by decide +kernel
theorem d_Tw_ask_30 : decode b_Tw_ask 30 = .ok (.iload_n 2, 1) := by decide +kernel
theorem d_Tw_ask_31 : decode b_Tw_ask 31 = .ok (.iadd, 1) := by decide +kernel
theorem d_Tw_ask_32 : decode b_Tw_ask 32 = .ok (.iconst 0, 1) := by decide +kernel
theorem d_Tw_ask_33 : decode b_Tw_ask 33 = .ok (.iastore, 1) := by decide +kernel
theorem d_Tw_ask_34 : decode b_Tw_ask 34 = .ok (.aload_n 0, 1) := by decide +kernel
theorem d_Tw_ask_35 : decode b_Tw_ask 35 = .ok (.getfield 25, 3) := by decide +kernel
theorem d_Tw_ask_38 : decode b_Tw_ask 38 = .ok (.iload_n 1, 1) := by decide +kernel
theorem d_Tw_ask_39 : decode b_Tw_ask 39 = .ok (.iconst 1, 1) := by decide +kernel
theorem d_Tw_ask_40 : decode b_Tw_ask 40 = .ok (.iastore, 1) := by decide +kernel
theorem d_Tw_ask_41 : decode b_Tw_ask 41 = .ok (.iconst 2, 1) := by decide +kernel
theorem d_Tw_ask_42 : decode b_Tw_ask 42 = .ok (.ireturn, 1) := by decide +kernel
theorem d_Tw_step_0 : decode b_Tw_step 0 = .ok (.aload_n 0, 1) := by decide +kernel
theorem d_Tw_step_1 : decode b_Tw_step 1 = .ok (.iload_n 1, 1) := by decide +kernel
theorem d_Tw_step_2 : decode b_Tw_step 2 = .ok (.invokevirtual 81, 3) := by decide +kernel
theorem d_Tw_step_5 : decode b_Tw_step 5 = .ok (.ifCond .ne 5, 3) := by decide +kernel
theorem d_Tw_step_8 : decode b_Tw_step 8 = .ok (.iconst (-1), 1) := by decide +kernel
theorem d_Tw_step_9 : decode b_Tw_step 9 = .ok (.ireturn, 1) := by decide +kernel
theorem d_Tw_step_10 : decode b_Tw_step 10 = .ok (.aload_n 0, 1) := by decide +kernel
theorem d_Tw_step_11 : decode b_Tw_step 11 = .ok (.getfield 25, 3) := by decide +kernel
theorem d_Tw_step_14 : decode b_Tw_step 14 = .ok (.iload_n 1, 1) := by decide +kernel
theorem d_Tw_step_15 : decode b_Tw_step 15 = .ok (.iaload, 1) := by decide +kernel
theorem d_Tw_step_16 : decode b_Tw_step 16 = .ok (.ifCond .eq 5, 3) := by decide +kernel
theorem d_Tw_step_19 : decode b_Tw_step 19 = .ok (.iconst 0, 1) := by decide +kernel
theorem d_Tw_step_20 : decode b_Tw_step 20 = .ok (.ireturn, 1) := by decide +kernel
theorem d_Tw_step_21 : decode b_Tw_step 21 = .ok (.aload_n 0, 1) := by decide +kernel
theorem d_Tw_step_22 : decode b_Tw_step 22 = .ok (.getfield 22, 3) := by decide +kernel
theorem d_Tw_step_25 : decode b_Tw_step 25 = .ok (.iload_n 1, 1) := by decide +kernel
theorem d_Tw_step_26 : decode b_Tw_step 26 = .ok (.iaload, 1) := by decide +kernel
theorem d_Tw_step_27 : decode b_Tw_step 27 = .ok (.aload_n 0, 1) := by decide +kernel
theorem d_Tw_step_28 : decode b_Tw_step 28 = .ok (.getfield 19, 3) := by decide +kernel
theorem d_Tw_step_31 : decode b_Tw_step 31 = .ok (.iload_n 1, 1) := by decide +kernel
theorem d_Tw_step_32 : decode b_Tw_step 32 = .ok (.iaload, 1) := by decide +kernel
theorem d_Tw_step_33 : decode b_Tw_step 33 = .ok (.if_icmp .lt 5, 3) := by decide +kernel
theorem d_Tw_step_36 : decode b_Tw_step 36 = .ok (.iconst 4, 1) := by decide +kernel
theorem d_Tw_step_37 : decode b_Tw_step 37 = .ok (.ireturn, 1) := by decide +kernel
theorem d_Tw_step_38 : decode b_Tw_step 38 = .ok (.aload_n 0, 1) := by decide +kernel
theorem d_Tw_step_39 : decode b_Tw_step 39 = .ok (.getfield 13, 3) := by decide +kernel
theorem d_Tw_step_42 : decode b_Tw_step 42 = .ok (.bipush 16, 2) := by decide +kernel
theorem d_Tw_step_44 : decode b_Tw_step 44 = .ok (.iload_n 1, 1) := by decide +kernel
theorem d_Tw_step_45 : decode b_Tw_step 45 = .ok (.imul, 1) := by decide +kernel
theorem d_Tw_step_46 : decode b_Tw_step 46 = .ok (.aload_n 0, 1) := by decide +kernel
theorem d_Tw_step_47 : decode b_Tw_step 47 = .ok (.getfield 22, 3) := by decide +kernel
theorem d_Tw_step_50 : decode b_Tw_step 50 = .ok (.iload_n 1, 1) := by decide +kernel
theorem d_Tw_step_51 : decode b_Tw_step 51 = .ok (.iaload, 1) := by decide +kernel
theorem d_Tw_step_52 : decode b_Tw_step 52 = .ok (.iadd, 1) := by decide +kernel
theorem d_Tw_step_53 : decode b_Tw_step 53 = .ok (.iaload, 1) := by decide +kernel
theorem d_Tw_step_54 : decode b_Tw_step 54 = .ok (.istore_n 2, 1) := by decide +kernel
theorem d_Tw_step_55 : decode b_Tw_step 55 = .ok (.aload_n 0, 1) := by decide +kernel
theorem d_Tw_step_56 : decode b_Tw_step 56 = .ok (.getfield 16, 3) := by decide +kernel
theorem d_Tw_step_59 : decode b_Tw_step 59 = .ok (.bipush 16, 2) := by decide +kernel
theorem d_Tw_step_61 : decode b_Tw_step 61 = .ok (.iload_n 1, 1) := by decide +kernel
theorem d_Tw_step_62 : decode b_Tw_step 62 = .ok (.imul, 1) := by decide +kernel
theorem d_Tw_step_63 : decode b_Tw_step 63 = .ok (.aload_n 0, 1) := by decide +kernel
theorem d_Tw_step_64 : decode b_Tw_step 64 = .ok (.getfield 22, 3) := by decide +kernel
theorem d_Tw_step_67 : decode b_Tw_step 67 = .ok (.iload_n 1, 1) := by decide +kernel
theorem d_Tw_step_68 : decode b_Tw_step 68 = .ok (.iaload, 1) := by decide +kernel
theorem d_Tw_step_69 : decode b_Tw_step 69 = .ok (.iadd, 1) := by decide +kernel
theorem d_Tw_step_70 : decode b_Tw_step 70 = .ok (.iaload, 1) := by decide +kernel
theorem d_Tw_step_71 : decode b_Tw_step 71 = .ok (.istore_n 3, 1) := by decide +kernel
theorem d_Tw_step_72 : decode b_Tw_step 72 = .ok (.iload_n 2, 1) := by decide +kernel
theorem d_Tw_step_73 : decode b_Tw_step 73 = .ok (.invokestatic 85, 3) := by decide +kernel
theorem d_Tw_step_76 : decode b_Tw_step 76 = .ok (.ifCond .ne 11, 3) := by decide +kernel
theorem d_Tw_step_79 : decode b_Tw_step 79 = .ok (.aload_n 0, 1) := by decide +kernel
theorem d_Tw_step_80 : decode b_Tw_step 80 = .ok (.iload_n 1, 1) := by decide +kernel
theorem d_Tw_step_81 : decode b_Tw_step 81 = .ok (.iload_n 2, 1) := by decide +kernel
theorem d_Tw_step_82 : decode b_Tw_step 82 = .ok (.iload_n 3, 1) := by decide +kernel
theorem d_Tw_step_83 : decode b_Tw_step 83 = .ok (.invokevirtual 107, 3) := by decide +kernel
theorem d_Tw_step_86 : decode b_Tw_step 86 = .ok (.ireturn, 1) := by decide +kernel
theorem d_Tw_step_87 : decode b_Tw_step 87 = .ok (.aload_n 0, 1) := by decide +kernel
theorem d_Tw_step_88 : decode b_Tw_step 88 = .ok (.getfield 28, 3) := by decide +kernel
theorem d_Tw_step_91 : decode b_Tw_step 91 = .ok (.iconst 4, 1) := by decide +kernel
theorem d_Tw_step_92 : decode b_Tw_step 92 = .ok (.iload_n 1, 1) := by decide +kernel
theorem d_Tw_step_93 : decode b_Tw_step 93 = .ok (.imul, 1) := by decide +kernel
theorem d_Tw_step_94 : decode b_Tw_step 94 = .ok (.iload_n 3, 1) := by decide +kernel
theorem d_Tw_step_95 : decode b_Tw_step 95 = .ok (.iadd, 1) := by decide +kernel
theorem d_Tw_step_96 : decode b_Tw_step 96 = .ok (.iaload, 1) := by decide +kernel
theorem d_Tw_step_97 : decode b_Tw_step 97 = .ok (.istore 4, 2) := by decide +kernel
theorem d_Tw_step_99 : decode b_Tw_step 99 = .ok (.iload 4, 2) := by decide +kernel
theorem d_Tw_step_101 : decode b_Tw_step 101 = .ok (.iconst 2, 1) := by decide +kernel
theorem d_Tw_step_102 : decode b_Tw_step 102 = .ok (.if_icmp .eq 13, 3) := by decide +kernel
theorem d_Tw_step_105 : decode b_Tw_step 105 = .ok (.iload 4, 2) := by decide +kernel
theorem d_Tw_step_107 : decode b_Tw_step 107 = .ok (.iconst 1, 1) := by decide +kernel
theorem d_Tw_step_108 : decode b_Tw_step 108 = .ok (.if_icmp .ne 14, 3) := by decide +kernel
theorem d_Tw_step_111 : decode b_Tw_step 111 = .ok (.iload_n 2, 1) := by decide +kernel
theorem d_Tw_step_112 : decode b_Tw_step 112 = .ok (.ifCond .ne 10, 3) := by decide +kernel
theorem d_Tw_step_115 : decode b_Tw_step 115 = .ok (.aload_n 0, 1) := by decide +kernel
theorem d_Tw_step_116 : decode b_Tw_step 116 = .ok (.iload_n 1, 1) := by decide +kernel
theorem d_Tw_step_117 : decode b_Tw_step 117 = .ok (.invokevirtual 111, 3) := by decide +kernel
theorem d_Tw_step_120 : decode b_Tw_step 120 = .ok (.iconst 1, 1) := by decide +kernel
theorem d_Tw_step_121 : decode b_Tw_step 121 = .ok (.ireturn, 1) := by decide +kernel
theorem d_Tw_step_122 : decode b_Tw_step 122 = .ok (.iload 4, 2) := by decide +kernel
theorem d_Tw_step_124 : decode b_Tw_step 124 = .ok (.iconst 1, 1) := by decide +kernel
theorem d_Tw_step_125 : decode b_Tw_step 125 = .ok (.if_icmp .ne 13, 3) := by decide +kernel
theorem d_Tw_step_128 : decode b_Tw_step 128 = .ok (.aload_n 0, 1) := by decide +kernel
theorem d_Tw_step_129 : decode b_Tw_step 129 = .ok (.iload_n 1, 1) := by decide +kernel
theorem d_Tw_step_130 : decode b_Tw_step 130 = .ok (.iload_n 3, 1) := by decide +kernel
theorem d_Tw_step_131 : decode b_Tw_step 131 = .ok (.iconst 1, 1) := by decide +kernel
theorem d_Tw_step_132 : decode b_Tw_step 132 = .ok (.bipush 6, 2) := by decide +kernel
theorem d_Tw_step_134 : decode b_Tw_step 134 = .ok (.invokevirtual 115, 3) := by decide +kernel
theorem d_Tw_step_137 : decode b_Tw_step 137 = .ok (.ireturn, 1) := by decide +kernel
theorem d_Tw_step_138 : decode b_Tw_step 138 = .ok (.aload_n 0, 1) := by decide +kernel
theorem d_Tw_step_139 : decode b_Tw_step 139 = .ok (.iload_n 1, 1) := by decide +kernel
theorem d_Tw_step_140 : decode b_Tw_step 140 = .ok (.invokevirtual 119, 3) := by decide +kernel
theorem d_Tw_step_143 : decode b_Tw_step 143 = .ok (.aload_n 0, 1) := by decide +kernel
theorem d_Tw_step_144 : decode b_Tw_step 144 = .ok (.getfield 78, 3) := by decide +kernel
theorem d_Tw_step_147 : decode b_Tw_step 147 = .ok (.if_icmp .lt 9, 3) := by decide +kernel
theorem d_Tw_step_150 : decode b_Tw_step 150 = .ok (.aload_n 0, 1) := by decide +kernel
theorem d_Tw_step_151 : decode b_Tw_step 151 = .ok (.iload_n 1, 1) := by decide +kernel
theorem d_Tw_step_152 : decode b_Tw_step 152 = .ok (.invokevirtual 123, 3) := by decide +kernel
theorem d_Tw_step_155 : decode b_Tw_step 155 = .ok (.ireturn, 1) := by decide +kernel
theorem d_Tw_step_156 : decode b_Tw_step 156 = .ok (.iload_n 2, 1) := by decide +kernel
theorem d_Tw_step_157 : decode b_Tw_step 157 = .ok (.ifCond .ne 14, 3) := by decide +kernel
theorem d_Tw_step_160 : decode b_Tw_step 160 = .ok (.aload_n 0, 1) := by decide +kernel
theorem d_Tw_step_161 : decode b_Tw_step 161 = .ok (.iload_n 1, 1) := by decide +kernel
theorem d_Tw_step_162 : decode b_Tw_step 162 = .ok (.iload_n 3, 1) := by decide +kernel
theorem d_Tw_step_163 : decode b_Tw_step 163 = .ok (.iconst 0, 1) := by decide +kernel
theorem d_Tw_step_164 : decode b_Tw_step 164 = .ok (.iconst 3, 1) := by decide +kernel
theorem d_Tw_step_165 : decode b_Tw_step 165 = .ok (.invokevirtual 115, 3) := by decide +kernel
theorem d_Tw_step_168 : decode b_Tw_step 168 = .ok (.goto 11, 3) := by decide +kernel
theorem d_Tw_step_171 : decode b_Tw_step 171 = .ok (.aload_n 0, 1) := by decide +kernel
theorem d_Tw_step_172 : decode b_Tw_step 172 = .ok (.iload_n 1, 1) := by decide +kernel
theorem d_Tw_step_173 : decode b_Tw_step 173 = .ok (.iload_n 3, 1) := by decide +kernel
theorem d_Tw_step_174 : decode b_Tw_step 174 = .ok (.iconst 1, 1) := by decide +kernel
theorem d_Tw_step_175 : decode b_Tw_step 175 = .ok (.iconst 4, 1) := by decide +kernel
theorem d_Tw_step_176 : decode b_Tw_step 176 = .ok (.invokevirtual 115, 3) := by decide +kernel
theorem d_Tw_step_179 : decode b_Tw_step 179 = .ok (.ireturn, 1) := by decide +kernel
theorem d_Tw_behind_0 : decode b_Tw_behind 0 = .ok (.iconst 0, 1) := by decide +kernel
theorem d_Tw_behind_1 : decode b_Tw_behind 1 = .ok (.istore_n 2, 1) := by decide +kernel
theorem d_Tw_behind_2 : decode b_Tw_behind 2 = .ok (.iload_n 2, 1) := by decide +kernel
theorem d_Tw_behind_3 : decode b_Tw_behind 3 = .ok (.iload_n 1, 1) := by decide +kernel
theorem d_Tw_behind_4 : decode b_Tw_behind 4 = .ok (.if_icmp .ge 87, 3) := by decide +kernel
theorem d_Tw_behind_7 : decode b_Tw_behind 7 = .ok (.aload_n 0, 1) := by decide +kernel
theorem d_Tw_behind_8 : decode b_Tw_behind 8 = .ok (.getfield 53, 3) := by decide +kernel
theorem d_Tw_behind_11 : decode b_Tw_behind 11 = .ok (.iload_n 2, 1) := by decide +kernel
theorem d_Tw_behind_12 : decode b_Tw_behind 12 = .ok (.iaload, 1) := by decide +kernel
theorem d_Tw_behind_13 : decode b_Tw_behind 13 = .ok (.iconst 4, 1) := by decide +kernel
theorem d_Tw_behind_14 : decode b_Tw_behind 14 = .ok (.if_icmp .lt 71, 3) := by decide +kernel
theorem d_Tw_behind_17 : decode b_Tw_behind 17 = .ok (.aload_n 0, 1) := by decide +kernel
theorem d_Tw_behind_18 : decode b_Tw_behind 18 = .ok (.getfield 53, 3) := by decide +kernel
theorem d_Tw_behind_21 : decode b_Tw_behind 21 = .ok (.iload_n 2, 1) := by decide +kernel
theorem d_Tw_behind_22 : decode b_Tw_behind 22 = .ok (.iaload, 1) := by decide +kernel
theorem d_Tw_behind_23 : decode b_Tw_behind 23 = .ok (.bipush 7, 2) := by decide +kernel
theorem d_Tw_behind_25 : decode b_Tw_behind 25 = .ok (.if_icmp .gt 60, 3) := by decide +kernel
theorem d_Tw_behind_28 : decode b_Tw_behind 28 = .ok (.aload_n 0, 1) := by decide +kernel
theorem d_Tw_behind_29 : decode b_Tw_behind 29 = .ok (.getfield 62, 3) := by decide +kernel
theorem d_Tw_behind_32 : decode b_Tw_behind 32 = .ok (.iload_n 2, 1) := by decide +kernel
theorem d_Tw_behind_33 : decode b_Tw_behind 33 = .ok (.iaload, 1) := by decide +kernel
theorem d_Tw_behind_34 : decode b_Tw_behind 34 = .ok (.aload_n 0, 1) := by decide +kernel
theorem d_Tw_behind_35 : decode b_Tw_behind 35 = .ok (.getfield 62, 3) := by decide +kernel
theorem d_Tw_behind_38 : decode b_Tw_behind 38 = .ok (.iload_n 1, 1) := by decide +kernel
theorem d_Tw_behind_39 : decode b_Tw_behind 39 = .ok (.iaload, 1) := by decide +kernel
theorem d_Tw_behind_40 : decode b_Tw_behind 40 = .ok (.if_icmp .ne 45, 3) := by decide +kernel
theorem d_Tw_behind_43 : decode b_Tw_behind 43 = .ok (.aload_n 0, 1) := by decide +kernel
theorem d_Tw_behind_44 : decode b_Tw_behind 44 = .ok (.getfield 59, 3) := by decide +kernel
theorem d_Tw_behind_47 : decode b_Tw_behind 47 = .ok (.iload_n 2, 1) := by decide +kernel
theorem d_Tw_behind_48 : decode b_Tw_behind 48 = .ok (.iaload, 1) := by decide +kernel
theorem d_Tw_behind_49 : decode b_Tw_behind 49 = .ok (.aload_n 0, 1) := by decide +kernel
theorem d_Tw_behind_50 : decode b_Tw_behind 50 = .ok (.getfield 59, 3) := by decide +kernel
theorem d_Tw_behind_53 : decode b_Tw_behind 53 = .ok (.iload_n 1, 1) := by decide +kernel
theorem d_Tw_behind_54 : decode b_Tw_behind 54 = .ok (.iaload, 1) := by decide +kernel
theorem d_Tw_behind_55 : decode b_Tw_behind 55 = .ok (.if_icmp .ne 30, 3) := by decide +kernel
theorem d_Tw_behind_58 : decode b_Tw_behind 58 = .ok (.aload_n 0, 1) := by decide +kernel
theorem d_Tw_behind_59 : decode b_Tw_behind 59 = .ok (.getfield 53, 3) := by decide +kernel
theorem d_Tw_behind_62 : decode b_Tw_behind 62 = .ok (.iload_n 1, 1) := by decide +kernel
theorem d_Tw_behind_63 : decode b_Tw_behind 63 = .ok (.iaload, 1) := by decide +kernel
theorem d_Tw_behind_64 : decode b_Tw_behind 64 = .ok (.iconst 4, 1) := by decide +kernel
theorem d_Tw_behind_65 : decode b_Tw_behind 65 = .ok (.if_icmp .lt 18, 3) := by decide +kernel
theorem d_Tw_behind_68 : decode b_Tw_behind 68 = .ok (.aload_n 0, 1) := by decide +kernel
theorem d_Tw_behind_69 : decode b_Tw_behind 69 = .ok (.getfield 53, 3) := by decide +kernel
theorem d_Tw_behind_72 : decode b_Tw_behind 72 = .ok (.iload_n 1, 1) := by decide +kernel
theorem d_Tw_behind_73 : decode b_Tw_behind 73 = .ok (.iaload, 1) := by decide +kernel
theorem d_Tw_behind_74 : decode b_Tw_behind 74 = .ok (.bipush 7, 2) := by decide +kernel
theorem d_Tw_behind_76 : decode b_Tw_behind 76 = .ok (.if_icmp .gt 7, 3) := by decide +kernel
theorem d_Tw_behind_79 : decode b_Tw_behind 79 = .ok (.iconst 1, 1) := by decide +kernel
theorem d_Tw_behind_80 : decode b_Tw_behind 80 = .ok (.goto 4, 3) := by decide +kernel
theorem d_Tw_behind_83 : decode b_Tw_behind 83 = .ok (.iconst 0, 1) := by decide +kernel
theorem d_Tw_behind_84 : decode b_Tw_behind 84 = .ok (.ireturn, 1) := by decide +kernel
theorem d_Tw_behind_85 : decode b_Tw_behind 85 = .ok (.iinc 2 1, 3) := by decide +kernel
theorem d_Tw_behind_88 : decode b_Tw_behind 88 = .ok (.goto (-86), 3) := by decide +kernel
theorem d_Tw_behind_91 : decode b_Tw_behind 91 = .ok (.iconst 0, 1) := by decide +kernel
theorem d_Tw_behind_92 : decode b_Tw_behind 92 = .ok (.ireturn, 1) := by decide +kernel
theorem d_Tw_stalls_0 : decode b_Tw_stalls 0 = .ok (.aload_n 0, 1) := by decide +kernel
theorem d_Tw_stalls_1 : decode b_Tw_stalls 1 = .ok (.getfield 59, 3) := by decide +kernel
theorem d_Tw_stalls_4 : decode b_Tw_stalls 4 = .ok (.iload_n 1, 1) := by decide +kernel
theorem d_Tw_stalls_5 : decode b_Tw_stalls 5 = .ok (.iaload, 1) := by decide +kernel
theorem d_Tw_stalls_6 : decode b_Tw_stalls 6 = .ok (.iconst 4, 1) := by decide +kernel
theorem d_Tw_stalls_7 : decode b_Tw_stalls 7 = .ok (.if_icmp .ne 34, 3) := by decide +kernel
theorem d_Tw_stalls_10 : decode b_Tw_stalls 10 = .ok (.aload_n 0, 1) := by decide +kernel
theorem d_Tw_stalls_11 : decode b_Tw_stalls 11 = .ok (.getfield 53, 3) := by decide +kernel
theorem d_Tw_stalls_14 : decode b_Tw_stalls 14 = .ok (.iload_n 1, 1) := by decide +kernel
theorem d_Tw_stalls_15 : decode b_Tw_stalls 15 = .ok (.iaload, 1) := by decide +kernel
theorem d_Tw_stalls_16 : decode b_Tw_stalls 16 = .ok (.iconst 1, 1) := by decide +kernel
theorem d_Tw_stalls_17 : decode b_Tw_stalls 17 = .ok (.if_icmp .gt 22, 3) := by decide +kernel
theorem d_Tw_stalls_20 : decode b_Tw_stalls 20 = .ok (.aload_n 0, 1) := by decide +kernel
theorem d_Tw_stalls_21 : decode b_Tw_stalls 21 = .ok (.getfield 43, 3) := by decide +kernel
theorem d_Tw_stalls_24 : decode b_Tw_stalls 24 = .ok (.aload_n 0, 1) := by decide +kernel
theorem d_Tw_stalls_25 : decode b_Tw_stalls 25 = .ok (.getfield 62, 3) := by decide +kernel
theorem d_Tw_stalls_28 : decode b_Tw_stalls 28 = .ok (.iload_n 1, 1) := by decide +kernel
theorem d_Tw_stalls_29 : decode b_Tw_stalls 29 = .ok (.iaload, 1) := by decide +kernel
theorem d_Tw_stalls_30 : decode b_Tw_stalls 30 = .ok (.iaload, 1) := by decide +kernel
theorem d_Tw_stalls_31 : decode b_Tw_stalls 31 = .ok (.iconst 3, 1) := by decide +kernel
theorem d_Tw_stalls_32 : decode b_Tw_stalls 32 = .ok (.if_icmp .ne 7, 3) := by decide +kernel
theorem d_Tw_stalls_35 : decode b_Tw_stalls 35 = .ok (.iconst 1, 1) := by decide +kernel
theorem d_Tw_stalls_36 : decode b_Tw_stalls 36 = .ok (.goto 4, 3) := by decide +kernel
theorem d_Tw_stalls_39 : decode b_Tw_stalls 39 = .ok (.iconst 0, 1) := by decide +kernel
theorem d_Tw_stalls_40 : decode b_Tw_stalls 40 = .ok (.ireturn, 1) := by decide +kernel
theorem d_Tw_stalls_41 : decode b_Tw_stalls 41 = .ok (.aload_n 0, 1) := by decide +kernel
theorem d_Tw_stalls_42 : decode b_Tw_stalls 42 = .ok (.getfield 28, 3) := by decide +kernel
theorem d_Tw_stalls_45 : decode b_Tw_stalls 45 = .ok (.iconst 4, 1) := by decide +kernel
theorem d_Tw_stalls_46 : decode b_Tw_stalls 46 = .ok (.aload_n 0, 1) := by decide +kernel
theorem d_Tw_stalls_47 : decode b_Tw_stalls 47 = .ok (.getfield 59, 3) := by decide +kernel
theorem d_Tw_stalls_50 : decode b_Tw_stalls 50 = .ok (.iload_n 1, 1) := by decide +kernel
theorem d_Tw_stalls_51 : decode b_Tw_stalls 51 = .ok (.iaload, 1) := by decide +kernel
theorem d_Tw_stalls_52 : decode b_Tw_stalls 52 = .ok (.imul, 1) := by decide +kernel
theorem d_Tw_stalls_53 : decode b_Tw_stalls 53 = .ok (.aload_n 0, 1) := by decide +kernel
theorem d_Tw_stalls_54 : decode b_Tw_stalls 54 = .ok (.getfield 62, 3) := by decide +kernel
theorem d_Tw_stalls_57 : decode b_Tw_stalls 57 = .ok (.iload_n 1, 1) := by decide +kernel
theorem d_Tw_stalls_58 : decode b_Tw_stalls 58 = .ok (.iaload, 1) := by decide +kernel
theorem d_Tw_stalls_59 : decode b_Tw_stalls 59 = .ok (.iadd, 1) := by decide +kernel
theorem d_Tw_stalls_60 : decode b_Tw_stalls 60 = .ok (.iaload, 1) := by decide +kernel
theorem d_Tw_stalls_61 : decode b_Tw_stalls 61 = .ok (.istore_n 2, 1) := by decide +kernel
theorem d_Tw_stalls_62 : decode b_Tw_stalls 62 = .ok (.aload_n 0, 1) := by decide +kernel
theorem d_Tw_stalls_63 : decode b_Tw_stalls 63 = .ok (.getfield 53, 3) := by decide +kernel
theorem d_Tw_stalls_66 : decode b_Tw_stalls 66 = .ok (.iload_n 1, 1) := by decide +kernel
theorem d_Tw_stalls_67 : decode b_Tw_stalls 67 = .ok (.iaload, 1) := by decide +kernel
theorem d_Tw_stalls_68 : decode b_Tw_stalls 68 = .ok (.bipush 6, 2) := by decide +kernel
theorem d_Tw_stalls_70 : decode b_Tw_stalls 70 = .ok (.if_icmp .ne 8, 3) := by decide +kernel
theorem d_Tw_stalls_73 : decode b_Tw_stalls 73 = .ok (.iload_n 2, 1) := by decide +kernel
theorem d_Tw_stalls_74 : decode b_Tw_stalls 74 = .ok (.iconst 3, 1) := by decide +kernel
theorem d_Tw_stalls_75 : decode b_Tw_stalls 75 = .ok (.if_icmp .eq 34, 3) := by decide +kernel
theorem d_Tw_stalls_78 : decode b_Tw_stalls 78 = .ok (.aload_n 0, 1) := by decide +kernel
theorem d_Tw_stalls_79 : decode b_Tw_stalls 79 = .ok (.getfield 53, 3) := by decide +kernel
theorem d_Tw_stalls_82 : decode b_Tw_stalls 82 = .ok (.iload_n 1, 1) := by decide +kernel
theorem d_Tw_stalls_83 : decode b_Tw_stalls 83 = .ok (.iaload, 1) := by decide +kernel
theorem d_Tw_stalls_84 : decode b_Tw_stalls 84 = .ok (.iconst 4, 1) := by decide +kernel
theorem d_Tw_stalls_85 : decode b_Tw_stalls 85 = .ok (.if_icmp .eq 13, 3) := by decide +kernel
theorem d_Tw_stalls_88 : decode b_Tw_stalls 88 = .ok (.aload_n 0, 1) := by decide +kernel
theorem d_Tw_stalls_89 : decode b_Tw_stalls 89 = .ok (.getfield 53, 3) := by decide +kernel
theorem d_Tw_stalls_92 : decode b_Tw_stalls 92 = .ok (.iload_n 1, 1) := by decide +kernel
theorem d_Tw_stalls_93 : decode b_Tw_stalls 93 = .ok (.iaload, 1) := by decide +kernel
theorem d_Tw_stalls_94 : decode b_Tw_stalls 94 = .ok (.iconst 5, 1) := by decide +kernel
theorem d_Tw_stalls_95 : decode b_Tw_stalls 95 = .ok (.if_icmp .ne 18, 3) := by decide +kernel
theorem d_Tw_stalls_98 : decode b_Tw_stalls 98 = .ok (.iload_n 2, 1) := by decide +kernel
theorem d_Tw_stalls_99 : decode b_Tw_stalls 99 = .ok (.iconst 4, 1) := by decide +kernel
theorem d_Tw_stalls_100 : decode b_Tw_stalls 100 = .ok (.if_icmp .lt 13, 3) := by decide +kernel
theorem d_Tw_stalls_103 : decode b_Tw_stalls 103 = .ok (.iload_n 2, 1) := by decide +kernel
theorem d_Tw_stalls_104 : decode b_Tw_stalls 104 = .ok (.bipush 7, 2) := by decide +kernel
theorem d_Tw_stalls_106 : decode b_Tw_stalls 106 = .ok (.if_icmp .gt 7, 3) := by decide +kernel
theorem d_Tw_stalls_109 : decode b_Tw_stalls 109 = .ok (.iconst 1, 1) := by decide +kernel
theorem d_Tw_stalls_110 : decode b_Tw_stalls 110 = .ok (.goto 4, 3) := by decide +kernel
theorem d_Tw_stalls_113 : decode b_Tw_stalls 113 = .ok (.iconst 0, 1) := by decide +kernel
theorem d_Tw_stalls_114 : decode b_Tw_stalls 114 = .ok (.ireturn, 1) := by decide +kernel
theorem d_Tw_deliver_0 : decode b_Tw_deliver 0 = .ok (.iload_n 1, 1) := by decide +kernel
theorem d_Tw_deliver_1 : decode b_Tw_deliver 1 = .ok (.ifCond .lt 11, 3) := by decide +kernel
theorem d_Tw_deliver_4 : decode b_Tw_deliver 4 = .ok (.iload_n 1, 1) := by decide +kernel
theorem d_Tw_deliver_5 : decode b_Tw_deliver 5 = .ok (.aload_n 0, 1) := by decide +kernel
theorem d_Tw_deliver_6 : decode b_Tw_deliver 6 = .ok (.getfield 91, 3) := by decide +kernel
theorem d_Tw_deliver_9 : decode b_Tw_deliver 9 = .ok (.if_icmp .lt 5, 3) := by decide +kernel
theorem d_Tw_deliver_12 : decode b_Tw_deliver 12 = .ok (.iconst (-1), 1) := by decide +kernel
theorem d_Tw_deliver_13 : decode b_Tw_deliver 13 = .ok (.ireturn, 1) := by decide +kernel
theorem d_Tw_deliver_14 : decode b_Tw_deliver 14 = .ok (.aload_n 0, 1) := by decide +kernel
theorem d_Tw_deliver_15 : decode b_Tw_deliver 15 = .ok (.iload_n 1, 1) := by decide +kernel
theorem d_Tw_deliver_16 : decode b_Tw_deliver 16 = .ok (.invokevirtual 126, 3) := by decide +kernel
theorem d_Tw_deliver_19 : decode b_Tw_deliver 19 = .ok (.ifCond .eq 6, 3) := by decide +kernel
theorem d_Tw_deliver_22 : decode b_Tw_deliver 22 = .ok (.bipush (-2), 2) := by decide +kernel
theorem d_Tw_deliver_24 : decode b_Tw_deliver 24 = .ok (.ireturn, 1) := by decide +kernel
theorem d_Tw_deliver_25 : decode b_Tw_deliver 25 = .ok (.aload_n 0, 1) := by decide +kernel
theorem d_Tw_deliver_26 : decode b_Tw_deliver 26 = .ok (.iload_n 1, 1) := by decide +kernel
theorem d_Tw_deliver_27 : decode b_Tw_deliver 27 = .ok (.invokevirtual 129, 3) := by decide +kernel
theorem d_Tw_deliver_30 : decode b_Tw_deliver 30 = .ok (.ifCond .eq 6, 3) := by decide +kernel
theorem d_Tw_deliver_33 : decode b_Tw_deliver 33 = .ok (.bipush (-3), 2) := by decide +kernel
theorem d_Tw_deliver_35 : decode b_Tw_deliver 35 = .ok (.ireturn, 1) := by decide +kernel
theorem d_Tw_deliver_36 : decode b_Tw_deliver 36 = .ok (.aload_n 0, 1) := by decide +kernel
theorem d_Tw_deliver_37 : decode b_Tw_deliver 37 = .ok (.getfield 53, 3) := by decide +kernel
theorem d_Tw_deliver_40 : decode b_Tw_deliver 40 = .ok (.iload_n 1, 1) := by decide +kernel
theorem d_Tw_deliver_41 : decode b_Tw_deliver 41 = .ok (.iaload, 1) := by decide +kernel
theorem d_Tw_deliver_42 : decode b_Tw_deliver 42 = .ok (.istore_n 2, 1) := by decide +kernel
theorem d_Tw_deliver_43 : decode b_Tw_deliver 43 = .ok (.aload_n 0, 1) := by decide +kernel
theorem d_Tw_deliver_44 : decode b_Tw_deliver 44 = .ok (.getfield 56, 3) := by decide +kernel
theorem d_Tw_deliver_47 : decode b_Tw_deliver 47 = .ok (.iload_n 1, 1) := by decide +kernel
theorem d_Tw_deliver_48 : decode b_Tw_deliver 48 = .ok (.iaload, 1) := by decide +kernel
theorem d_Tw_deliver_49 : decode b_Tw_deliver 49 = .ok (.istore_n 3, 1) := by decide +kernel
theorem d_Tw_deliver_50 : decode b_Tw_deliver 50 = .ok (.aload_n 0, 1) := by decide +kernel
theorem d_Tw_deliver_51 : decode b_Tw_deliver 51 = .ok (.getfield 59, 3) := by decide +kernel
theorem d_Tw_deliver_54 : decode b_Tw_deliver 54 = .ok (.iload_n 1, 1) := by decide +kernel
theorem d_Tw_deliver_55 : decode b_Tw_deliver 55 = .ok (.iaload, 1) := by decide +kernel
theorem d_Tw_deliver_56 : decode b_Tw_deliver 56 = .ok (.istore 4, 2) := by decide +kernel
theorem d_Tw_deliver_58 : decode b_Tw_deliver 58 = .ok (.aload_n 0, 1) := by decide +kernel
theorem d_Tw_deliver_59 : decode b_Tw_deliver 59 = .ok (.getfield 62, 3) := by decide +kernel
theorem d_Tw_deliver_62 : decode b_Tw_deliver 62 = .ok (.iload_n 1, 1) := by decide +kernel
theorem d_Tw_deliver_63 : decode b_Tw_deliver 63 = .ok (.iaload, 1) := by decide +kernel
theorem d_Tw_deliver_64 : decode b_Tw_deliver 64 = .ok (.istore 5, 2) := by decide +kernel
theorem d_Tw_deliver_66 : decode b_Tw_deliver 66 = .ok (.aload_n 0, 1) := by decide +kernel
theorem d_Tw_deliver_67 : decode b_Tw_deliver 67 = .ok (.getfield 65, 3) := by decide +kernel
theorem d_Tw_deliver_70 : decode b_Tw_deliver 70 = .ok (.iload_n 1, 1) := by decide +kernel
theorem d_Tw_deliver_71 : decode b_Tw_deliver 71 = .ok (.iaload, 1) := by decide +kernel
theorem d_Tw_deliver_72 : decode b_Tw_deliver 72 = .ok (.istore 6, 2) := by decide +kernel
theorem d_Tw_deliver_74 : decode b_Tw_deliver 74 = .ok (.aload_n 0, 1) := by decide +kernel
theorem d_Tw_deliver_75 : decode b_Tw_deliver 75 = .ok (.getfield 68, 3) := by decide +kernel
theorem d_Tw_deliver_78 : decode b_Tw_deliver 78 = .ok (.iload_n 1, 1) := by decide +kernel
theorem d_Tw_deliver_79 : decode b_Tw_deliver 79 = .ok (.iaload, 1) := by decide +kernel
theorem d_Tw_deliver_80 : decode b_Tw_deliver 80 = .ok (.istore 7, 2) := by decide +kernel
theorem d_Tw_deliver_82 : decode b_Tw_deliver 82 = .ok (.aload_n 0, 1) := by decide +kernel
theorem d_Tw_deliver_83 : decode b_Tw_deliver 83 = .ok (.getfield 71, 3) := by decide +kernel
theorem d_Tw_deliver_86 : decode b_Tw_deliver 86 = .ok (.iload_n 1, 1) := by decide +kernel
theorem d_Tw_deliver_87 : decode b_Tw_deliver 87 = .ok (.iaload, 1) := by decide +kernel
theorem d_Tw_deliver_88 : decode b_Tw_deliver 88 = .ok (.istore 8, 2) := by decide +kernel
theorem d_Tw_deliver_90 : decode b_Tw_deliver 90 = .ok (.aload_n 0, 1) := by decide +kernel
theorem d_Tw_deliver_91 : decode b_Tw_deliver 91 = .ok (.iload_n 1, 1) := by decide +kernel
theorem d_Tw_deliver_92 : decode b_Tw_deliver 92 = .ok (.invokevirtual 132, 3) := by decide +kernel
theorem d_Tw_deliver_95 : decode b_Tw_deliver 95 = .ok (.iload 4, 2) := by decide +kernel
theorem d_Tw_deliver_97 : decode b_Tw_deliver 97 = .ok (.iconst 4, 1) := by decide +kernel
theorem d_Tw_deliver_98 : decode b_Tw_deliver 98 = .ok (.if_icmp .ne 16, 3) := by decide +kernel
theorem d_Tw_deliver_101 : decode b_Tw_deliver 101 = .ok (.aload_n 0, 1) := by decide +kernel
theorem d_Tw_deliver_102 : decode b_Tw_deliver 102 = .ok (.iload_n 2, 1) := by decide +kernel
theorem d_Tw_deliver_103 : decode b_Tw_deliver 103 = .ok (.iload_n 3, 1) := by decide +kernel
theorem d_Tw_deliver_104 : decode b_Tw_deliver 104 = .ok (.iload 5, 2) := by decide +kernel
theorem d_Tw_deliver_106 : decode b_Tw_deliver 106 = .ok (.iload 6, 2) := by decide +kernel
theorem d_Tw_deliver_108 : decode b_Tw_deliver 108 = .ok (.invokevirtual 135, 3) := by decide +kernel
theorem d_Tw_deliver_111 : decode b_Tw_deliver 111 = .ok (.goto 26, 3) := by decide +kernel
theorem d_Tw_deliver_114 : decode b_Tw_deliver 114 = .ok (.aload_n 0, 1) := by decide +kernel
theorem d_Tw_deliver_115 : decode b_Tw_deliver 115 = .ok (.iload_n 2, 1) := by decide +kernel
theorem d_Tw_deliver_116 : decode b_Tw_deliver 116 = .ok (.iload 4, 2) := by decide +kernel
theorem d_Tw_deliver_118 : decode b_Tw_deliver 118 = .ok (.iload 5, 2) := by decide +kernel
theorem d_Tw_deliver_120 : decode b_Tw_deliver 120 = .ok (.iload 6, 2) := by decide +kernel
theorem d_Tw_deliver_122 : decode b_Tw_deliver 122 = .ok (.iload 7, 2) := by decide +kernel
theorem d_Tw_deliver_124 : decode b_Tw_deliver 124 = .ok (.iload 8, 2) := by decide +kernel
theorem d_Tw_deliver_126 : decode b_Tw_deliver 126 = .ok (.invokevirtual 139, 3) := by decide +kernel
theorem d_Tw_deliver_129 : decode b_Tw_deliver 129 = .ok (.aload_n 0, 1) := by decide +kernel
theorem d_Tw_deliver_130 : decode b_Tw_deliver 130 = .ok (.iload 4, 2) := by decide +kernel
theorem d_Tw_deliver_132 : decode b_Tw_deliver 132 = .ok (.iload 5, 2) := by decide +kernel
theorem d_Tw_deliver_134 : decode b_Tw_deliver 134 = .ok (.invokevirtual 143, 3) := by decide +kernel
theorem d_Tw_deliver_137 : decode b_Tw_deliver 137 = .ok (.aload_n 0, 1) := by decide +kernel
theorem d_Tw_deliver_138 : decode b_Tw_deliver 138 = .ok (.getfield 91, 3) := by decide +kernel
theorem d_Tw_deliver_141 : decode b_Tw_deliver 141 = .ok (.ireturn, 1) := by decide +kernel
theorem d_Tw_atCore_0 : decode b_Tw_atCore 0 = .ok (.iconst 4, 1) := by decide +kernel
theorem d_Tw_atCore_1 : decode b_Tw_atCore 1 = .ok (.iload_n 2, 1) := by decide +kernel
theorem d_Tw_atCore_2 : decode b_Tw_atCore 2 = .ok (.imul, 1) := by decide +kernel
theorem d_Tw_atCore_3 : decode b_Tw_atCore 3 = .ok (.iload_n 3, 1) := by decide +kernel
theorem d_Tw_atCore_4 : decode b_Tw_atCore 4 = .ok (.iadd, 1) := by decide +kernel
theorem d_Tw_atCore_5 : decode b_Tw_atCore 5 = .ok (.istore 7, 2) := by decide +kernel
theorem d_Tw_atCore_7 : decode b_Tw_atCore 7 = .ok (.aload_n 0, 1) := by decide +kernel
theorem d_Tw_atCore_8 : decode b_Tw_atCore 8 = .ok (.getfield 28, 3) := by decide +kernel
theorem d_Tw_atCore_11 : decode b_Tw_atCore 11 = .ok (.iload 7, 2) := by decide +kernel
theorem d_Tw_atCore_13 : decode b_Tw_atCore 13 = .ok (.iaload, 1) := by decide +kernel
theorem d_Tw_atCore_14 : decode b_Tw_atCore 14 = .ok (.istore 8, 2) := by decide +kernel
theorem d_Tw_atCore_16 : decode b_Tw_atCore 16 = .ok (.iload_n 1, 1) := by decide +kernel
theorem d_Tw_atCore_17 : decode b_Tw_atCore 17 = .ok (.bipush 8, 2) := by decide +kernel
theorem d_Tw_atCore_19 : decode b_Tw_atCore 19 = .ok (.if_icmp .ne 80, 3) := by decide +kernel
theorem d_Tw_atCore_22 : decode b_Tw_atCore 22 = .ok (.aload_n 0, 1) := by decide +kernel
theorem d_Tw_atCore_23 : decode b_Tw_atCore 23 = .ok (.getfield 31, 3) := by decide +kernel
theorem d_Tw_atCore_26 : decode b_Tw_atCore 26 = .ok (.iload 7, 2) := by decide +kernel
theorem d_Tw_atCore_28 : decode b_Tw_atCore 28 = .ok (.iload 4, 2) := by decide +kernel
theorem d_Tw_atCore_30 : decode b_Tw_atCore 30 = .ok (.iastore, 1) := by decide +kernel
theorem d_Tw_atCore_31 : decode b_Tw_atCore 31 = .ok (.aload_n 0, 1) := by decide +kernel
theorem d_Tw_atCore_32 : decode b_Tw_atCore 32 = .ok (.getfield 34, 3) := by decide +kernel
theorem d_Tw_atCore_35 : decode b_Tw_atCore 35 = .ok (.iload 7, 2) := by decide +kernel
theorem d_Tw_atCore_37 : decode b_Tw_atCore 37 = .ok (.aload_n 0, 1) := by decide +kernel
theorem d_Tw_atCore_38 : decode b_Tw_atCore 38 = .ok (.getfield 34, 3) := by decide +kernel
theorem d_Tw_atCore_41 : decode b_Tw_atCore 41 = .ok (.iload 7, 2) := by decide +kernel
theorem d_Tw_atCore_43 : decode b_Tw_atCore 43 = .ok (.iaload, 1) := by decide +kernel
theorem d_Tw_atCore_44 : decode b_Tw_atCore 44 = .ok (.iload 5, 2) := by decide +kernel
theorem d_Tw_atCore_46 : decode b_Tw_atCore 46 = .ok (.iadd, 1) := by decide +kernel
theorem d_Tw_atCore_47 : decode b_Tw_atCore 47 = .ok (.iastore, 1) := by decide +kernel
theorem d_Tw_atCore_48 : decode b_Tw_atCore 48 = .ok (.iload 8, 2) := by decide +kernel
theorem d_Tw_atCore_50 : decode b_Tw_atCore 50 = .ok (.bipush 6, 2) := by decide +kernel
theorem d_Tw_atCore_52 : decode b_Tw_atCore 52 = .ok (.if_icmp .ne 8, 3) := by decide +kernel
theorem d_Tw_atCore_55 : decode b_Tw_atCore 55 = .ok (.bipush 7, 2) := by decide +kernel
theorem d_Tw_atCore_57 : decode b_Tw_atCore 57 = .ok (.goto 4, 3) := by decide +kernel
theorem d_Tw_atCore_60 : decode b_Tw_atCore 60 = .ok (.iconst 5, 1) := by decide +kernel
theorem d_Tw_atCore_61 : decode b_Tw_atCore 61 = .ok (.istore 9, 2) := by decide +kernel
theorem d_Tw_atCore_63 : decode b_Tw_atCore 63 = .ok (.aload_n 0, 1) := by decide +kernel
theorem d_Tw_atCore_64 : decode b_Tw_atCore 64 = .ok (.getfield 28, 3) := by decide +kernel
theorem d_Tw_atCore_67 : decode b_Tw_atCore 67 = .ok (.iload 7, 2) := by decide +kernel
theorem d_Tw_atCore_69 : decode b_Tw_atCore 69 = .ok (.iload 8, 2) := by decide +kernel
theorem d_Tw_atCore_71 : decode b_Tw_atCore 71 = .ok (.iconst 3, 1) := by decide +kernel
theorem d_Tw_atCore_72 : decode b_Tw_atCore 72 = .ok (.if_icmp .ne 7, 3) := by decide +kernel
theorem d_Tw_atCore_75 : decode b_Tw_atCore 75 = .ok (.iconst 1, 1) := by decide +kernel
theorem d_Tw_atCore_76 : decode b_Tw_atCore 76 = .ok (.goto 19, 3) := by decide +kernel
theorem d_Tw_atCore_79 : decode b_Tw_atCore 79 = .ok (.aload_n 0, 1) := by decide +kernel
theorem d_Tw_atCore_80 : decode b_Tw_atCore 80 = .ok (.getfield 34, 3) := by decide +kernel
theorem d_Tw_atCore_83 : decode b_Tw_atCore 83 = .ok (.iload 7, 2) := by decide +kernel
theorem d_Tw_atCore_85 : decode b_Tw_atCore 85 = .ok (.iaload, 1) := by decide +kernel
theorem d_Tw_atCore_86 : decode b_Tw_atCore 86 = .ok (.ifCond .ne 7, 3) := by decide +kernel
theorem d_Tw_atCore_89 : decode b_Tw_atCore 89 = .ok (.iconst 2, 1) := by decide +kernel
theorem d_Tw_atCore_90 : decode b_Tw_atCore 90 = .ok (.goto 5, 3) := by decide +kernel
theorem d_Tw_atCore_93 : decode b_Tw_atCore 93 = .ok (.iload 9, 2) := by decide +kernel
theorem d_Tw_atCore_95 : decode b_Tw_atCore 95 = .ok (.iastore, 1) := by decide +kernel
theorem d_Tw_atCore_96 : decode b_Tw_atCore 96 = .ok (.goto 227, 3) := by decide +kernel
theorem d_Tw_atCore_99 : decode b_Tw_atCore 99 = .ok (.iload_n 1, 1) := by decide +kernel
theorem d_Tw_atCore_100 : decode b_Tw_atCore 100 = .ok (.bipush 9, 2) := by decide +kernel
theorem d_Tw_atCore_102 : decode b_Tw_atCore 102 = .ok (.if_icmp .ne 53, 3) := by decide +kernel
theorem d_Tw_atCore_105 : decode b_Tw_atCore 105 = .ok (.aload_n 0, 1) := by decide +kernel
theorem d_Tw_atCore_106 : decode b_Tw_atCore 106 = .ok (.getfield 34, 3) := by decide +kernel
theorem d_Tw_atCore_109 : decode b_Tw_atCore 109 = .ok (.iload 7, 2) := by decide +kernel
theorem d_Tw_atCore_111 : decode b_Tw_atCore 111 = .ok (.dup2, 1) := by decide +kernel
theorem d_Tw_atCore_112 : decode b_Tw_atCore 112 = .ok (.iaload, 1) := by decide +kernel
theorem d_Tw_atCore_113 : decode b_Tw_atCore 113 = .ok (.iconst 1, 1) := by decide +kernel
theorem d_Tw_atCore_114 : decode b_Tw_atCore 114 = .ok (.isub, 1) := by decide +kernel
theorem d_Tw_atCore_115 : decode b_Tw_atCore 115 = .ok (.iastore, 1) := by decide +kernel
theorem d_Tw_atCore_116 : decode b_Tw_atCore 116 = .ok (.aload_n 0, 1) := by decide +kernel
theorem d_Tw_atCore_117 : decode b_Tw_atCore 117 = .ok (.getfield 28, 3) := by decide +kernel
theorem d_Tw_atCore_120 : decode b_Tw_atCore 120 = .ok (.iload 7, 2) := by decide +kernel
theorem d_Tw_atCore_122 : decode b_Tw_atCore 122 = .ok (.iload 8, 2) := by decide +kernel
theorem d_Tw_atCore_124 : decode b_Tw_atCore 124 = .ok (.iconst 5, 1) := by decide +kernel
theorem d_Tw_atCore_125 : decode b_Tw_atCore 125 = .ok (.if_icmp .eq 10, 3) := by decide +kernel
theorem d_Tw_atCore_128 : decode b_Tw_atCore 128 = .ok (.iload 8, 2) := by decide +kernel
theorem d_Tw_atCore_130 : decode b_Tw_atCore 130 = .ok (.bipush 7, 2) := by decide +kernel
theorem d_Tw_atCore_132 : decode b_Tw_atCore 132 = .ok (.if_icmp .ne 17, 3) := by decide +kernel
theorem d_Tw_atCore_135 : decode b_Tw_atCore 135 = .ok (.aload_n 0, 1) := by decide +kernel
theorem d_Tw_atCore_136 : decode b_Tw_atCore 136 = .ok (.getfield 34, 3) := by decide +kernel
theorem d_Tw_atCore_139 : decode b_Tw_atCore 139 = .ok (.iload 7, 2) := by decide +kernel
theorem d_Tw_atCore_141 : decode b_Tw_atCore 141 = .ok (.iaload, 1) := by decide +kernel
theorem d_Tw_atCore_142 : decode b_Tw_atCore 142 = .ok (.ifCond .ne 7, 3) := by decide +kernel
theorem d_Tw_atCore_145 : decode b_Tw_atCore 145 = .ok (.iconst 2, 1) := by decide +kernel
theorem d_Tw_atCore_146 : decode b_Tw_atCore 146 = .ok (.goto 5, 3) := by decide +kernel
theorem d_Tw_atCore_149 : decode b_Tw_atCore 149 = .ok (.iload 8, 2) := by decide +kernel
theorem d_Tw_atCore_151 : decode b_Tw_atCore 151 = .ok (.iastore, 1) := by decide +kernel
theorem d_Tw_atCore_152 : decode b_Tw_atCore 152 = .ok (.goto 171, 3) := by decide +kernel
theorem d_Tw_atCore_155 : decode b_Tw_atCore 155 = .ok (.iload_n 1, 1) := by decide +kernel
theorem d_Tw_atCore_156 : decode b_Tw_atCore 156 = .ok (.bipush 6, 2) := by decide +kernel
theorem d_Tw_atCore_158 : decode b_Tw_atCore 158 = .ok (.if_icmp .ne 49, 3) := by decide +kernel
theorem d_Tw_atCore_161 : decode b_Tw_atCore 161 = .ok (.aload_n 0, 1) := by decide +kernel
theorem d_Tw_atCore_162 : decode b_Tw_atCore 162 = .ok (.bipush 9, 2) := by decide +kernel
theorem d_Tw_atCore_164 : decode b_Tw_atCore 164 = .ok (.iload_n 2, 1) := by decide +kernel
theorem d_Tw_atCore_165 : decode b_Tw_atCore 165 = .ok (.iload 6, 2) := by decide +kernel
theorem d_Tw_atCore_167 : decode b_Tw_atCore 167 = .ok (.iload_n 3, 1) := by decide +kernel
theorem d_Tw_atCore_168 : decode b_Tw_atCore 168 = .ok (.iconst 0, 1) := by decide +kernel
theorem d_Tw_atCore_169 : decode b_Tw_atCore 169 = .ok (.iconst 0, 1) := by decide +kernel
theorem d_Tw_atCore_170 : decode b_Tw_atCore 170 = .ok (.iconst (-1), 1) := by decide +kernel
theorem d_Tw_atCore_171 : decode b_Tw_atCore 171 = .ok (.invokevirtual 97, 3) := by decide +kernel
theorem d_Tw_atCore_174 : decode b_Tw_atCore 174 = .ok (.aload_n 0, 1) := by decide +kernel
theorem d_Tw_atCore_175 : decode b_Tw_atCore 175 = .ok (.getfield 28, 3) := by decide +kernel
theorem d_Tw_atCore_178 : decode b_Tw_atCore 178 = .ok (.iload 7, 2) := by decide +kernel
theorem d_Tw_atCore_180 : decode b_Tw_atCore 180 = .ok (.iload 8, 2) := by decide +kernel
theorem d_Tw_atCore_182 : decode b_Tw_atCore 182 = .ok (.iconst 1, 1) := by decide +kernel
theorem d_Tw_atCore_183 : decode b_Tw_atCore 183 = .ok (.if_icmp .ne 7, 3) := by decide +kernel
theorem d_Tw_atCore_186 : decode b_Tw_atCore 186 = .ok (.iconst 0, 1) := by decide +kernel
theorem d_Tw_atCore_187 : decode b_Tw_atCore 187 = .ok (.goto 16, 3) := by decide +kernel
theorem d_Tw_atCore_190 : decode b_Tw_atCore 190 = .ok (.iload 8, 2) := by decide +kernel
theorem d_Tw_atCore_192 : decode b_Tw_atCore 192 = .ok (.bipush 6, 2) := by decide +kernel
theorem d_Tw_atCore_194 : decode b_Tw_atCore 194 = .ok (.if_icmp .ne 7, 3) := by decide +kernel
theorem d_Tw_atCore_197 : decode b_Tw_atCore 197 = .ok (.iconst 4, 1) := by decide +kernel
theorem d_Tw_atCore_198 : decode b_Tw_atCore 198 = .ok (.goto 5, 3) := by decide +kernel
theorem d_Tw_atCore_201 : decode b_Tw_atCore 201 = .ok (.bipush 10, 2) := by decide +kernel
theorem d_Tw_atCore_203 : decode b_Tw_atCore 203 = .ok (.iastore, 1) := by decide +kernel
theorem d_Tw_atCore_204 : decode b_Tw_atCore 204 = .ok (.goto 119, 3) := by decide +kernel
theorem d_Tw_atCore_207 : decode b_Tw_atCore 207 = .ok (.iload_n 1, 1) := by decide +kernel
theorem d_Tw_atCore_208 : decode b_Tw_atCore 208 = .ok (.iconst 4, 1) := by decide +kernel
theorem d_Tw_atCore_209 : decode b_Tw_atCore 209 = .ok (.if_icmp .ne 56, 3) := by decide +kernel
theorem d_Tw_atCore_212 : decode b_Tw_atCore 212 = .ok (.aload_n 0, 1) := by decide +kernel
theorem d_Tw_atCore_213 : decode b_Tw_atCore 213 = .ok (.iload_n 2, 1) := by decide +kernel
theorem d_Tw_atCore_214 : decode b_Tw_atCore 214 = .ok (.iload 6, 2) := by decide +kernel
theorem d_Tw_atCore_216 : decode b_Tw_atCore 216 = .ok (.iload_n 3, 1) := by decide +kernel
theorem d_Tw_atCore_217 : decode b_Tw_atCore 217 = .ok (.aload_n 0, 1) := by decide +kernel
theorem d_Tw_atCore_218 : decode b_Tw_atCore 218 = .ok (.getfield 31, 3) := by decide +kernel
theorem d_Tw_atCore_221 : decode b_Tw_atCore 221 = .ok (.iload 7, 2) := by decide +kernel
theorem d_Tw_atCore_223 : decode b_Tw_atCore 223 = .ok (.iaload, 1) := by decide +kernel
theorem d_Tw_atCore_224 : decode b_Tw_atCore 224 = .ok (.iconst 0, 1) := by decide +kernel
theorem d_Tw_atCore_225 : decode b_Tw_atCore 225 = .ok (.invokevirtual 147, 3) := by decide +kernel
theorem d_Tw_atCore_228 : decode b_Tw_atCore 228 = .ok (.aload_n 0, 1) := by decide +kernel
theorem d_Tw_atCore_229 : decode b_Tw_atCore 229 = .ok (.iload_n 2, 1) := by decide +kernel
theorem d_Tw_atCore_230 : decode b_Tw_atCore 230 = .ok (.iconst 4, 1) := by decide +kernel
theorem d_Tw_atCore_231 : decode b_Tw_atCore 231 = .ok (.iload_n 3, 1) := by decide +kernel
theorem d_Tw_atCore_232 : decode b_Tw_atCore 232 = .ok (.aload_n 0, 1) := by decide +kernel
theorem d_Tw_atCore_233 : decode b_Tw_atCore 233 = .ok (.getfield 31, 3) := by decide +kernel
theorem d_Tw_atCore_236 : decode b_Tw_atCore 236 = .ok (.iload 7, 2) := by decide +kernel
theorem d_Tw_atCore_238 : decode b_Tw_atCore 238 = .ok (.iaload, 1) := by decide +kernel
theorem d_Tw_atCore_239 : decode b_Tw_atCore 239 = .ok (.iconst 0, 1) := by decide +kernel
theorem d_Tw_atCore_240 : decode b_Tw_atCore 240 = .ok (.invokevirtual 147, 3) := by decide +kernel
theorem d_Tw_atCore_243 : decode b_Tw_atCore 243 = .ok (.aload_n 0, 1) := by decide +kernel
theorem d_Tw_atCore_244 : decode b_Tw_atCore 244 = .ok (.getfield 28, 3) := by decide +kernel
theorem d_Tw_atCore_247 : decode b_Tw_atCore 247 = .ok (.iload 7, 2) := by decide +kernel
theorem d_Tw_atCore_249 : decode b_Tw_atCore 249 = .ok (.iload 8, 2) := by decide +kernel
theorem d_Tw_atCore_251 : decode b_Tw_atCore 251 = .ok (.iconst 2, 1) := by decide +kernel
theorem d_Tw_atCore_252 : decode b_Tw_atCore 252 = .ok (.if_icmp .ne 7, 3) := by decide +kernel
theorem d_Tw_atCore_255 : decode b_Tw_atCore 255 = .ok (.iconst 1, 1) := by decide +kernel
theorem d_Tw_atCore_256 : decode b_Tw_atCore 256 = .ok (.goto 5, 3) := by decide +kernel
theorem d_Tw_atCore_259 : decode b_Tw_atCore 259 = .ok (.bipush 9, 2) := by decide +kernel
theorem d_Tw_atCore_261 : decode b_Tw_atCore 261 = .ok (.iastore, 1) := by decide +kernel
theorem d_Tw_atCore_262 : decode b_Tw_atCore 262 = .ok (.goto 61, 3) := by decide +kernel
theorem d_Tw_atCore_265 : decode b_Tw_atCore 265 = .ok (.iload_n 1, 1) := by decide +kernel
theorem d_Tw_atCore_266 : decode b_Tw_atCore 266 = .ok (.iconst 5, 1) := by decide +kernel
theorem d_Tw_atCore_267 : decode b_Tw_atCore 267 = .ok (.if_icmp .ne 41, 3) := by decide +kernel
theorem d_Tw_atCore_270 : decode b_Tw_atCore 270 = .ok (.aload_n 0, 1) := by decide +kernel
theorem d_Tw_atCore_271 : decode b_Tw_atCore 271 = .ok (.iload_n 2, 1) := by decide +kernel
theorem d_Tw_atCore_272 : decode b_Tw_atCore 272 = .ok (.iload 6, 2) := by decide +kernel
theorem d_Tw_atCore_274 : decode b_Tw_atCore 274 = .ok (.iload_n 3, 1) := by decide +kernel
theorem d_Tw_atCore_275 : decode b_Tw_atCore 275 = .ok (.aload_n 0, 1) := by decide +kernel
theorem d_Tw_atCore_276 : decode b_Tw_atCore 276 = .ok (.getfield 31, 3) := by decide +kernel
theorem d_Tw_atCore_279 : decode b_Tw_atCore 279 = .ok (.iload 7, 2) := by decide +kernel
theorem d_Tw_atCore_281 : decode b_Tw_atCore 281 = .ok (.iaload, 1) := by decide +kernel
theorem d_Tw_atCore_282 : decode b_Tw_atCore 282 = .ok (.iconst 0, 1) := by decide +kernel
theorem d_Tw_atCore_283 : decode b_Tw_atCore 283 = .ok (.invokevirtual 147, 3) := by decide +kernel
theorem d_Tw_atCore_286 : decode b_Tw_atCore 286 = .ok (.aload_n 0, 1) := by decide +kernel
theorem d_Tw_atCore_287 : decode b_Tw_atCore 287 = .ok (.getfield 28, 3) := by decide +kernel
theorem d_Tw_atCore_290 : decode b_Tw_atCore 290 = .ok (.iload 7, 2) := by decide +kernel
theorem d_Tw_atCore_292 : decode b_Tw_atCore 292 = .ok (.iload 8, 2) := by decide +kernel
theorem d_Tw_atCore_294 : decode b_Tw_atCore 294 = .ok (.iconst 2, 1) := by decide +kernel
theorem d_Tw_atCore_295 : decode b_Tw_atCore 295 = .ok (.if_icmp .ne 7, 3) := by decide +kernel
theorem d_Tw_atCore_298 : decode b_Tw_atCore 298 = .ok (.iconst 0, 1) := by decide +kernel
theorem d_Tw_atCore_299 : decode b_Tw_atCore 299 = .ok (.goto 5, 3) := by decide +kernel
theorem d_Tw_atCore_302 : decode b_Tw_atCore 302 = .ok (.bipush 10, 2) := by decide +kernel
theorem d_Tw_atCore_304 : decode b_Tw_atCore 304 = .ok (.iastore, 1) := by decide +kernel
theorem d_Tw_atCore_305 : decode b_Tw_atCore 305 = .ok (.goto 18, 3) := by decide +kernel
theorem d_Tw_atCore_308 : decode b_Tw_atCore 308 = .ok (.aload_n 0, 1) := by decide +kernel
theorem d_Tw_atCore_309 : decode b_Tw_atCore 309 = .ok (.getfield 28, 3) := by decide +kernel
theorem d_Tw_atCore_312 : decode b_Tw_atCore 312 = .ok (.iload 7, 2) := by decide +kernel
theorem d_Tw_atCore_314 : decode b_Tw_atCore 314 = .ok (.iconst 0, 1) := by decide +kernel
theorem d_Tw_atCore_315 : decode b_Tw_atCore 315 = .ok (.iastore, 1) := by decide +kernel
theorem d_Tw_atCore_316 : decode b_Tw_atCore 316 = .ok (.aload_n 0, 1) := by decide +kernel
theorem d_Tw_atCore_317 : decode b_Tw_atCore 317 = .ok (.getfield 25, 3) := by decide +kernel
theorem d_Tw_atCore_320 : decode b_Tw_atCore 320 = .ok (.iload_n 2, 1) := by decide +kernel
theorem d_Tw_atCore_321 : decode b_Tw_atCore 321 = .ok (.iconst 0, 1) := by decide +kernel
theorem d_Tw_atCore_322 : decode b_Tw_atCore 322 = .ok (.iastore, 1) := by decide +kernel
theorem d_Tw_atCore_323 : decode b_Tw_atCore 323 = .ok (.return_, 1) := by decide +kernel
theorem d_Tw_finish_0 : decode b_Tw_finish 0 = .ok (.aload_n 0, 1) := by decide +kernel
theorem d_Tw_finish_1 : decode b_Tw_finish 1 = .ok (.getfield 25, 3) := by decide +kernel
theorem d_Tw_finish_4 : decode b_Tw_finish 4 = .ok (.iload_n 1, 1) := by decide +kernel
theorem d_Tw_finish_5 : decode b_Tw_finish 5 = .ok (.iaload, 1) := by decide +kernel
theorem d_Tw_finish_6 : decode b_Tw_finish 6 = .ok (.iconst 1, 1) := by decide +kernel
theorem d_Tw_finish_7 : decode b_Tw_finish 7 = .ok (.if_icmp .eq 4, 3) := by decide +kernel
theorem d_Tw_finish_10 : decode b_Tw_finish 10 = .ok (.return_, 1) := by decide +kernel
theorem d_Tw_finish_11 : decode b_Tw_finish 11 = .ok (.bipush 16, 2) := by decide +kernel
theorem d_Tw_finish_13 : decode b_Tw_finish 13 = .ok (.iload_n 1, 1) := by decide +kernel
theorem d_Tw_finish_14 : decode b_Tw_finish 14 = .ok (.imul, 1) := by decide +kernel
theorem d_Tw_finish_15 : decode b_Tw_finish 15 = .ok (.aload_n 0, 1) := by decide +kernel
theorem d_Tw_finish_16 : decode b_Tw_finish 16 = .ok (.getfield 22, 3) := by decide +kernel
theorem d_Tw_finish_19 : decode b_Tw_finish 19 = .ok (.iload_n 1, 1) := by decide +kernel
theorem d_Tw_finish_20 : decode b_Tw_finish 20 = .ok (.iaload, 1) := by decide +kernel
theorem d_Tw_finish_21 : decode b_Tw_finish 21 = .ok (.iadd, 1) := by decide +kernel
theorem d_Tw_finish_22 : decode b_Tw_finish 22 = .ok (.istore_n 3, 1) := by decide +kernel
theorem d_Tw_finish_23 : decode b_Tw_finish 23 = .ok (.aload_n 0, 1) := by decide +kernel
theorem d_Tw_finish_24 : decode b_Tw_finish 24 = .ok (.getfield 28, 3) := by decide +kernel
theorem d_Tw_finish_27 : decode b_Tw_finish 27 = .ok (.iconst 4, 1) := by decide +kernel
theorem d_Tw_finish_28 : decode b_Tw_finish 28 = .ok (.iload_n 1, 1) := by decide +kernel
theorem d_Tw_finish_29 : decode b_Tw_finish 29 = .ok (.imul, 1) := by decide +kernel
theorem d_Tw_finish_30 : decode b_Tw_finish 30 = .ok (.iload_n 2, 1) := by decide +kernel
theorem d_Tw_finish_31 : decode b_Tw_finish 31 = .ok (.iadd, 1) := by decide +kernel
theorem d_Tw_finish_32 : decode b_Tw_finish 32 = .ok (.iaload, 1) := by decide +kernel
theorem d_Tw_finish_33 : decode b_Tw_finish 33 = .ok (.istore 4, 2) := by decide +kernel
theorem d_Tw_finish_35 : decode b_Tw_finish 35 = .ok (.aload_n 0, 1) := by decide +kernel
theorem d_Tw_finish_36 : decode b_Tw_finish 36 = .ok (.getfield 16, 3) := by decide +kernel
theorem d_Tw_finish_39 : decode b_Tw_finish 39 = .ok (.iload_n 3, 1) := by decide +kernel
theorem d_Tw_finish_40 : decode b_Tw_finish 40 = .ok (.iaload, 1) := by decide +kernel
theorem d_Tw_finish_41 : decode b_Tw_finish 41 = .ok (.iload_n 2, 1) := by decide +kernel
theorem d_Tw_finish_42 : decode b_Tw_finish 42 = .ok (.if_icmp .ne 36, 3) := by decide +kernel
theorem d_Tw_finish_45 : decode b_Tw_finish 45 = .ok (.iload 4, 2) := by decide +kernel
theorem d_Tw_finish_47 : decode b_Tw_finish 47 = .ok (.iconst 2, 1) := by decide +kernel
theorem d_Tw_finish_48 : decode b_Tw_finish 48 = .ok (.if_icmp .eq 18, 3) := by decide +kernel
theorem d_Tw_finish_51 : decode b_Tw_finish 51 = .ok (.iload 4, 2) := by decide +kernel
theorem d_Tw_finish_53 : decode b_Tw_finish 53 = .ok (.iconst 1, 1) := by decide +kernel
theorem d_Tw_finish_54 : decode b_Tw_finish 54 = .ok (.if_icmp .ne 24, 3) := by decide +kernel
theorem d_Tw_finish_57 : decode b_Tw_finish 57 = .ok (.aload_n 0, 1) := by decide +kernel
theorem d_Tw_finish_58 : decode b_Tw_finish 58 = .ok (.getfield 13, 3) := by decide +kernel
theorem d_Tw_finish_61 : decode b_Tw_finish 61 = .ok (.iload_n 3, 1) := by decide +kernel
theorem d_Tw_finish_62 : decode b_Tw_finish 62 = .ok (.iaload, 1) := by decide +kernel
theorem d_Tw_finish_63 : decode b_Tw_finish 63 = .ok (.ifCond .ne 15, 3) := by decide +kernel
theorem d_Tw_finish_66 : decode b_Tw_finish 66 = .ok (.aload_n 0, 1) := by decide +kernel
theorem d_Tw_finish_67 : decode b_Tw_finish 67 = .ok (.getfield 25, 3) := by decide +kernel
theorem d_Tw_finish_70 : decode b_Tw_finish 70 = .ok (.iload_n 1, 1) := by decide +kernel
theorem d_Tw_finish_71 : decode b_Tw_finish 71 = .ok (.iconst 0, 1) := by decide +kernel
theorem d_Tw_finish_72 : decode b_Tw_finish 72 = .ok (.iastore, 1) := by decide +kernel
theorem d_Tw_finish_73 : decode b_Tw_finish 73 = .ok (.aload_n 0, 1) := by decide +kernel
theorem d_Tw_finish_74 : decode b_Tw_finish 74 = .ok (.iload_n 1, 1) := by decide +kernel
theorem d_Tw_finish_75 : decode b_Tw_finish 75 = .ok (.invokevirtual 111, 3) := by decide +kernel
theorem d_Tw_finish_78 : decode b_Tw_finish 78 = .ok (.return_, 1) := by decide +kernel
theorem d_Tw_sharers_0 : decode b_Tw_sharers 0 = .ok (.iconst 0, 1) := by decide +kernel
theorem d_Tw_sharers_1 : decode b_Tw_sharers 1 = .ok (.istore_n 3, 1) := by decide +kernel
theorem d_Tw_sharers_2 : decode b_Tw_sharers 2 = .ok (.iconst 0, 1) := by decide +kernel
theorem d_Tw_sharers_3 : decode b_Tw_sharers 3 = .ok (.istore 4, 2) := by decide +kernel
theorem d_Tw_sharers_5 : decode b_Tw_sharers 5 = .ok (.iload 4, 2) := by decide +kernel
theorem d_Tw_sharers_7 : decode b_Tw_sharers 7 = .ok (.iconst 4, 1) := by decide +kernel
theorem d_Tw_sharers_8 : decode b_Tw_sharers 8 = .ok (.if_icmp .ge 37, 3) := by decide +kernel
theorem d_Tw_sharers_11 : decode b_Tw_sharers 11 = .ok (.aload_n 0, 1) := by decide +kernel
theorem d_Tw_sharers_12 : decode b_Tw_sharers 12 = .ok (.getfield 49, 3) := by decide +kernel
theorem d_Tw_sharers_15 : decode b_Tw_sharers 15 = .ok (.iconst 4, 1) := by decide +kernel
theorem d_Tw_sharers_16 : decode b_Tw_sharers 16 = .ok (.iload_n 1, 1) := by decide +kernel
theorem d_Tw_sharers_17 : decode b_Tw_sharers 17 = .ok (.imul, 1) := by decide +kernel
theorem d_Tw_sharers_18 : decode b_Tw_sharers 18 = .ok (.iload 4, 2) := by decide +kernel
theorem d_Tw_sharers_20 : decode b_Tw_sharers 20 = .ok (.iadd, 1) := by decide +kernel
theorem d_Tw_sharers_21 : decode b_Tw_sharers 21 = .ok (.baload, 1) := by decide +kernel
theorem d_Tw_sharers_22 : decode b_Tw_sharers 22 = .ok (.ifCond .eq 15, 3) := by decide +kernel
theorem d_Tw_sharers_25 : decode b_Tw_sharers 25 = .ok (.iload 4, 2) := by decide +kernel
theorem d_Tw_sharers_27 : decode b_Tw_sharers 27 = .ok (.iload_n 2, 1) := by decide +kernel
theorem d_Tw_sharers_28 : decode b_Tw_sharers 28 = .ok (.if_icmp .eq 9, 3) := by decide +kernel
theorem d_Tw_sharers_31 : decode b_Tw_sharers 31 = .ok (.iload_n 3, 1) := by decide +kernel
theorem d_Tw_sharers_32 : decode b_Tw_sharers 32 = .ok (.iconst 1, 1) := by decide +kernel
theorem d_Tw_sharers_33 : decode b_Tw_sharers 33 = .ok (.iadd, 1) := by decide +kernel
theorem d_Tw_sharers_34 : decode b_Tw_sharers 34 = .ok (.goto 4, 3) := by decide +kernel
theorem d_Tw_sharers_37 : decode b_Tw_sharers 37 = .ok (.iload_n 3, 1) := by decide +kernel
theorem d_Tw_sharers_38 : decode b_Tw_sharers 38 = .ok (.istore_n 3, 1) := by decide +kernel
theorem d_Tw_sharers_39 : decode b_Tw_sharers 39 = .ok (.iinc 4 1, 3) := by decide +kernel
theorem d_Tw_sharers_42 : decode b_Tw_sharers 42 = .ok (.goto (-37), 3) := by decide +kernel
theorem d_Tw_sharers_45 : decode b_Tw_sharers 45 = .ok (.iload_n 3, 1) := by decide +kernel
theorem d_Tw_sharers_46 : decode b_Tw_sharers 46 = .ok (.ireturn, 1) := by decide +kernel
theorem d_Tw_atHome_0 : decode b_Tw_atHome 0 = .ok (.iload_n 1, 1) := by decide +kernel
theorem d_Tw_atHome_1 : decode b_Tw_atHome 1 = .ok (.ifCond .ne 12, 3) := by decide +kernel
theorem d_Tw_atHome_4 : decode b_Tw_atHome 4 = .ok (.aload_n 0, 1) := by decide +kernel
theorem d_Tw_atHome_5 : decode b_Tw_atHome 5 = .ok (.iload_n 2, 1) := by decide +kernel
theorem d_Tw_atHome_6 : decode b_Tw_atHome 6 = .ok (.iload_n 3, 1) := by decide +kernel
theorem d_Tw_atHome_7 : decode b_Tw_atHome 7 = .ok (.invokevirtual 151, 3) := by decide +kernel
theorem d_Tw_atHome_10 : decode b_Tw_atHome 10 = .ok (.goto 174, 3) := by decide +kernel
theorem d_Tw_atHome_13 : decode b_Tw_atHome 13 = .ok (.iload_n 1, 1) := by decide +kernel
theorem d_Tw_atHome_14 : decode b_Tw_atHome 14 = .ok (.iconst 1, 1) := by decide +kernel
theorem d_Tw_atHome_15 : decode b_Tw_atHome 15 = .ok (.if_icmp .ne 12, 3) := by decide +kernel
theorem d_Tw_atHome_18 : decode b_Tw_atHome 18 = .ok (.aload_n 0, 1) := by decide +kernel
theorem d_Tw_atHome_19 : decode b_Tw_atHome 19 = .ok (.iload_n 2, 1) := by decide +kernel
theorem d_Tw_atHome_20 : decode b_Tw_atHome 20 = .ok (.iload_n 3, 1) := by decide +kernel
theorem d_Tw_atHome_21 : decode b_Tw_atHome 21 = .ok (.invokevirtual 154, 3) := by decide +kernel
theorem d_Tw_atHome_24 : decode b_Tw_atHome 24 = .ok (.goto 160, 3) := by decide +kernel
theorem d_Tw_atHome_27 : decode b_Tw_atHome 27 = .ok (.iload_n 1, 1) := by decide +kernel
theorem d_Tw_atHome_28 : decode b_Tw_atHome 28 = .ok (.bipush 8, 2) := by decide +kernel
theorem d_Tw_atHome_30 : decode b_Tw_atHome 30 = .ok (.if_icmp .ne 34, 3) := by decide +kernel
theorem d_Tw_atHome_33 : decode b_Tw_atHome 33 = .ok (.aload_n 0, 1) := by decide +kernel
theorem d_Tw_atHome_34 : decode b_Tw_atHome 34 = .ok (.getfield 40, 3) := by decide +kernel
theorem d_Tw_atHome_37 : decode b_Tw_atHome 37 = .ok (.iload_n 3, 1) := by decide +kernel
theorem d_Tw_atHome_38 : decode b_Tw_atHome 38 = .ok (.iload 4, 2) := by decide +kernel
theorem d_Tw_atHome_40 : decode b_Tw_atHome 40 = .ok (.iastore, 1) := by decide +kernel
theorem d_Tw_atHome_41 : decode b_Tw_atHome 41 = .ok (.aload_n 0, 1) := by decide +kernel
theorem d_Tw_atHome_42 : decode b_Tw_atHome 42 = .ok (.getfield 43, 3) := by decide +kernel
theorem d_Tw_atHome_45 : decode b_Tw_atHome 45 = .ok (.iload_n 3, 1) := by decide +kernel
theorem d_Tw_atHome_46 : decode b_Tw_atHome 46 = .ok (.aload_n 0, 1) := by decide +kernel
theorem d_Tw_atHome_47 : decode b_Tw_atHome 47 = .ok (.iload_n 3, 1) := by decide +kernel
theorem d_Tw_atHome_48 : decode b_Tw_atHome 48 = .ok (.iconst (-1), 1) := by decide +kernel
theorem d_Tw_atHome_49 : decode b_Tw_atHome 49 = .ok (.invokevirtual 157, 3) := by decide +kernel
theorem d_Tw_atHome_52 : decode b_Tw_atHome 52 = .ok (.ifCond .ne 7, 3) := by decide +kernel
theorem d_Tw_atHome_55 : decode b_Tw_atHome 55 = .ok (.iconst 0, 1) := by decide +kernel
theorem d_Tw_atHome_56 : decode b_Tw_atHome 56 = .ok (.goto 4, 3) := by decide +kernel
theorem d_Tw_atHome_59 : decode b_Tw_atHome 59 = .ok (.iconst 1, 1) := by decide +kernel
theorem d_Tw_atHome_60 : decode b_Tw_atHome 60 = .ok (.iastore, 1) := by decide +kernel
theorem d_Tw_atHome_61 : decode b_Tw_atHome 61 = .ok (.goto 123, 3) := by decide +kernel
theorem d_Tw_atHome_64 : decode b_Tw_atHome 64 = .ok (.iload_n 1, 1) := by decide +kernel
theorem d_Tw_atHome_65 : decode b_Tw_atHome 65 = .ok (.iconst 3, 1) := by decide +kernel
theorem d_Tw_atHome_66 : decode b_Tw_atHome 66 = .ok (.if_icmp .ne 27, 3) := by decide +kernel
theorem d_Tw_atHome_69 : decode b_Tw_atHome 69 = .ok (.aload_n 0, 1) := by decide +kernel
theorem d_Tw_atHome_70 : decode b_Tw_atHome 70 = .ok (.getfield 43, 3) := by decide +kernel
theorem d_Tw_atHome_73 : decode b_Tw_atHome 73 = .ok (.iload_n 3, 1) := by decide +kernel
theorem d_Tw_atHome_74 : decode b_Tw_atHome 74 = .ok (.iaload, 1) := by decide +kernel
theorem d_Tw_atHome_75 : decode b_Tw_atHome 75 = .ok (.iconst 2, 1) := by decide +kernel
theorem d_Tw_atHome_76 : decode b_Tw_atHome 76 = .ok (.if_icmp .ne 17, 3) := by decide +kernel
theorem d_Tw_atHome_79 : decode b_Tw_atHome 79 = .ok (.aload_n 0, 1) := by decide +kernel
theorem d_Tw_atHome_80 : decode b_Tw_atHome 80 = .ok (.getfield 46, 3) := by decide +kernel
theorem d_Tw_atHome_83 : decode b_Tw_atHome 83 = .ok (.iload_n 3, 1) := by decide +kernel
theorem d_Tw_atHome_84 : decode b_Tw_atHome 84 = .ok (.iaload, 1) := by decide +kernel
theorem d_Tw_atHome_85 : decode b_Tw_atHome 85 = .ok (.iload_n 2, 1) := by decide +kernel
theorem d_Tw_atHome_86 : decode b_Tw_atHome 86 = .ok (.if_icmp .ne 7, 3) := by decide +kernel
theorem d_Tw_atHome_89 : decode b_Tw_atHome 89 = .ok (.iconst 1, 1) := by decide +kernel
theorem d_Tw_atHome_90 : decode b_Tw_atHome 90 = .ok (.goto 4, 3) := by decide +kernel
theorem d_Tw_atHome_93 : decode b_Tw_atHome 93 = .ok (.iconst 0, 1) := by decide +kernel
theorem d_Tw_atHome_94 : decode b_Tw_atHome 94 = .ok (.istore 5, 2) := by decide +kernel
theorem d_Tw_atHome_96 : decode b_Tw_atHome 96 = .ok (.iload 5, 2) := by decide +kernel
theorem d_Tw_atHome_98 : decode b_Tw_atHome 98 = .ok (.ifCond .eq 28, 3) := by decide +kernel
theorem d_Tw_atHome_101 : decode b_Tw_atHome 101 = .ok (.aload_n 0, 1) := by decide +kernel
theorem d_Tw_atHome_102 : decode b_Tw_atHome 102 = .ok (.getfield 40, 3) := by decide +kernel
theorem d_Tw_atHome_105 : decode b_Tw_atHome 105 = .ok (.iload_n 3, 1) := by decide +kernel
theorem d_Tw_atHome_106 : decode b_Tw_atHome 106 = .ok (.iload 4, 2) := by decide +kernel
theorem d_Tw_atHome_108 : decode b_Tw_atHome 108 = .ok (.iastore, 1) := by decide +kernel
theorem d_Tw_atHome_109 : decode b_Tw_atHome 109 = .ok (.aload_n 0, 1) := by decide +kernel
theorem d_Tw_atHome_110 : decode b_Tw_atHome 110 = .ok (.getfield 46, 3) := by decide +kernel
theorem d_Tw_atHome_113 : decode b_Tw_atHome 113 = .ok (.iload_n 3, 1) := by decide +kernel
theorem d_Tw_atHome_114 : decode b_Tw_atHome 114 = .ok (.iconst (-1), 1) := by decide +kernel
theorem d_Tw_atHome_115 : decode b_Tw_atHome 115 = .ok (.iastore, 1) := by decide +kernel
theorem d_Tw_atHome_116 : decode b_Tw_atHome 116 = .ok (.aload_n 0, 1) := by decide +kernel
theorem d_Tw_atHome_117 : decode b_Tw_atHome 117 = .ok (.getfield 43, 3) := by decide +kernel
theorem d_Tw_atHome_120 : decode b_Tw_atHome 120 = .ok (.iload_n 3, 1) := by decide +kernel
theorem d_Tw_atHome_121 : decode b_Tw_atHome 121 = .ok (.iconst 0, 1) := by decide +kernel
theorem d_Tw_atHome_122 : decode b_Tw_atHome 122 = .ok (.iastore, 1) := by decide +kernel
theorem d_Tw_atHome_123 : decode b_Tw_atHome 123 = .ok (.goto 49, 3) := by decide +kernel
theorem d_Tw_atHome_126 : decode b_Tw_atHome 126 = .ok (.aload_n 0, 1) := by decide +kernel
theorem d_Tw_atHome_127 : decode b_Tw_atHome 127 = .ok (.getfield 49, 3) := by decide +kernel
theorem d_Tw_atHome_130 : decode b_Tw_atHome 130 = .ok (.iconst 4, 1) := by decide +kernel
theorem d_Tw_atHome_131 : decode b_Tw_atHome 131 = .ok (.iload_n 3, 1) := by decide +kernel
theorem d_Tw_atHome_132 : decode b_Tw_atHome 132 = .ok (.imul, 1) := by decide +kernel
theorem d_Tw_atHome_133 : decode b_Tw_atHome 133 = .ok (.iload_n 2, 1) := by decide +kernel
theorem d_Tw_atHome_134 : decode b_Tw_atHome 134 = .ok (.iadd, 1) := by decide +kernel
theorem d_Tw_atHome_135 : decode b_Tw_atHome 135 = .ok (.iconst 0, 1) := by decide +kernel
theorem d_Tw_atHome_136 : decode b_Tw_atHome 136 = .ok (.bastore, 1) := by decide +kernel
theorem d_Tw_atHome_137 : decode b_Tw_atHome 137 = .ok (.aload_n 0, 1) := by decide +kernel
theorem d_Tw_atHome_138 : decode b_Tw_atHome 138 = .ok (.getfield 43, 3) := by decide +kernel
theorem d_Tw_atHome_141 : decode b_Tw_atHome 141 = .ok (.iload_n 3, 1) := by decide +kernel
theorem d_Tw_atHome_142 : decode b_Tw_atHome 142 = .ok (.aload_n 0, 1) := by decide +kernel
theorem d_Tw_atHome_143 : decode b_Tw_atHome 143 = .ok (.getfield 43, 3) := by decide +kernel
theorem d_Tw_atHome_146 : decode b_Tw_atHome 146 = .ok (.iload_n 3, 1) := by decide +kernel
theorem d_Tw_atHome_147 : decode b_Tw_atHome 147 = .ok (.iaload, 1) := by decide +kernel
theorem d_Tw_atHome_148 : decode b_Tw_atHome 148 = .ok (.iconst 1, 1) := by decide +kernel
theorem d_Tw_atHome_149 : decode b_Tw_atHome 149 = .ok (.if_icmp .ne 16, 3) := by decide +kernel
theorem d_Tw_atHome_152 : decode b_Tw_atHome 152 = .ok (.aload_n 0, 1) := by decide +kernel
theorem d_Tw_atHome_153 : decode b_Tw_atHome 153 = .ok (.iload_n 3, 1) := by decide +kernel
theorem d_Tw_atHome_154 : decode b_Tw_atHome 154 = .ok (.iconst (-1), 1) := by decide +kernel
theorem d_Tw_atHome_155 : decode b_Tw_atHome 155 = .ok (.invokevirtual 157, 3) := by decide +kernel
theorem d_Tw_atHome_158 : decode b_Tw_atHome 158 = .ok (.ifCond .ne 7, 3) := by decide +kernel
theorem d_Tw_atHome_161 : decode b_Tw_atHome 161 = .ok (.iconst 0, 1) := by decide +kernel
theorem d_Tw_atHome_162 : decode b_Tw_atHome 162 = .ok (.goto 9, 3) := by decide +kernel
theorem d_Tw_atHome_165 : decode b_Tw_atHome 165 = .ok (.aload_n 0, 1) := by decide +kernel
theorem d_Tw_atHome_166 : decode b_Tw_atHome 166 = .ok (.getfield 43, 3) := by decide +kernel
theorem d_Tw_atHome_169 : decode b_Tw_atHome 169 = .ok (.iload_n 3, 1) := by decide +kernel
theorem d_Tw_atHome_170 : decode b_Tw_atHome 170 = .ok (.iaload, 1) := by decide +kernel
theorem d_Tw_atHome_171 : decode b_Tw_atHome 171 = .ok (.iastore, 1) := by decide +kernel
theorem d_Tw_atHome_172 : decode b_Tw_atHome 172 = .ok (.aload_n 0, 1) := by decide +kernel
theorem d_Tw_atHome_173 : decode b_Tw_atHome 173 = .ok (.bipush 7, 2) := by decide +kernel
theorem d_Tw_atHome_175 : decode b_Tw_atHome 175 = .ok (.iconst 4, 1) := by decide +kernel
theorem d_Tw_atHome_176 : decode b_Tw_atHome 176 = .ok (.iload_n 2, 1) := by decide +kernel
theorem d_Tw_atHome_177 : decode b_Tw_atHome 177 = .ok (.iload_n 3, 1) := by decide +kernel
theorem d_Tw_atHome_178 : decode b_Tw_atHome 178 = .ok (.iconst 0, 1) := by decide +kernel
theorem d_Tw_atHome_179 : decode b_Tw_atHome 179 = .ok (.iconst 0, 1) := by decide +kernel
theorem d_Tw_atHome_180 : decode b_Tw_atHome 180 = .ok (.iconst (-1), 1) := by decide +kernel
theorem d_Tw_atHome_181 : decode b_Tw_atHome 181 = .ok (.invokevirtual 97, 3) := by decide +kernel
theorem d_Tw_atHome_184 : decode b_Tw_atHome 184 = .ok (.return_, 1) := by decide +kernel
theorem d_Tw_gets_0 : decode b_Tw_gets 0 = .ok (.aload_n 0, 1) := by decide +kernel
theorem d_Tw_gets_1 : decode b_Tw_gets 1 = .ok (.getfield 43, 3) := by decide +kernel
theorem d_Tw_gets_4 : decode b_Tw_gets 4 = .ok (.iload_n 2, 1) := by decide +kernel
theorem d_Tw_gets_5 : decode b_Tw_gets 5 = .ok (.iaload, 1) := by decide +kernel
theorem d_Tw_gets_6 : decode b_Tw_gets 6 = .ok (.iconst 2, 1) := by decide +kernel
theorem d_Tw_gets_7 : decode b_Tw_gets 7 = .ok (.if_icmp .ne 52, 3) := by decide +kernel
theorem d_Tw_gets_10 : decode b_Tw_gets 10 = .ok (.aload_n 0, 1) := by decide +kernel
theorem d_Tw_gets_11 : decode b_Tw_gets 11 = .ok (.iconst 4, 1) := by decide +kernel
theorem d_Tw_gets_12 : decode b_Tw_gets 12 = .ok (.iconst 4, 1) := by decide +kernel
theorem d_Tw_gets_13 : decode b_Tw_gets 13 = .ok (.aload_n 0, 1) := by decide +kernel
theorem d_Tw_gets_14 : decode b_Tw_gets 14 = .ok (.getfield 46, 3) := by decide +kernel
theorem d_Tw_gets_17 : decode b_Tw_gets 17 = .ok (.iload_n 2, 1) := by decide +kernel
theorem d_Tw_gets_18 : decode b_Tw_gets 18 = .ok (.iaload, 1) := by decide +kernel
theorem d_Tw_gets_19 : decode b_Tw_gets 19 = .ok (.iload_n 2, 1) := by decide +kernel
theorem d_Tw_gets_20 : decode b_Tw_gets 20 = .ok (.iconst 0, 1) := by decide +kernel
theorem d_Tw_gets_21 : decode b_Tw_gets 21 = .ok (.iconst 0, 1) := by decide +kernel
theorem d_Tw_gets_22 : decode b_Tw_gets 22 = .ok (.iload_n 1, 1) := by decide +kernel
theorem d_Tw_gets_23 : decode b_Tw_gets 23 = .ok (.invokevirtual 97, 3) := by decide +kernel
theorem d_Tw_gets_26 : decode b_Tw_gets 26 = .ok (.aload_n 0, 1) := by decide +kernel
theorem d_Tw_gets_27 : decode b_Tw_gets 27 = .ok (.getfield 49, 3) := by decide +kernel
theorem d_Tw_gets_30 : decode b_Tw_gets 30 = .ok (.iconst 4, 1) := by decide +kernel
theorem d_Tw_gets_31 : decode b_Tw_gets 31 = .ok (.iload_n 2, 1) := by decide +kernel
theorem d_Tw_gets_32 : decode b_Tw_gets 32 = .ok (.imul, 1) := by decide +kernel
theorem d_Tw_gets_33 : decode b_Tw_gets 33 = .ok (.aload_n 0, 1) := by decide +kernel
theorem d_Tw_gets_34 : decode b_Tw_gets 34 = .ok (.getfield 46, 3) := by decide +kernel
theorem d_Tw_gets_37 : decode b_Tw_gets 37 = .ok (.iload_n 2, 1) := by decide +kernel
theorem d_Tw_gets_38 : decode b_Tw_gets 38 = .ok (.iaload, 1) := by decide +kernel
theorem d_Tw_gets_39 : decode b_Tw_gets 39 = .ok (.iadd, 1) := by decide +kernel
theorem d_Tw_gets_40 : decode b_Tw_gets 40 = .ok (.iconst 1, 1) := by decide +kernel
theorem d_Tw_gets_41 : decode b_Tw_gets 41 = .ok (.bastore, 1) := by decide +kernel
theorem d_Tw_gets_42 : decode b_Tw_gets 42 = .ok (.aload_n 0, 1) := by decide +kernel
theorem d_Tw_gets_43 : decode b_Tw_gets 43 = .ok (.getfield 46, 3) := by decide +kernel
theorem d_Tw_gets_46 : decode b_Tw_gets 46 = .ok (.iload_n 2, 1) := by decide +kernel
theorem d_Tw_gets_47 : decode b_Tw_gets 47 = .ok (.iconst (-1), 1) := by decide +kernel
theorem d_Tw_gets_48 : decode b_Tw_gets 48 = .ok (.iastore, 1) := by decide +kernel
theorem d_Tw_gets_49 : decode b_Tw_gets 49 = .ok (.aload_n 0, 1) := by decide +kernel
theorem d_Tw_gets_50 : decode b_Tw_gets 50 = .ok (.getfield 43, 3) := by decide +kernel
theorem d_Tw_gets_53 : decode b_Tw_gets 53 = .ok (.iload_n 2, 1) := by decide +kernel
theorem d_Tw_gets_54 : decode b_Tw_gets 54 = .ok (.iconst 3, 1) := by decide +kernel
theorem d_Tw_gets_55 : decode b_Tw_gets 55 = .ok (.iastore, 1) := by decide +kernel
theorem d_Tw_gets_56 : decode b_Tw_gets 56 = .ok (.goto 24, 3) := by decide +kernel
theorem d_Tw_gets_59 : decode b_Tw_gets 59 = .ok (.aload_n 0, 1) := by decide +kernel
theorem d_Tw_gets_60 : decode b_Tw_gets 60 = .ok (.iconst 4, 1) := by decide +kernel
theorem d_Tw_gets_61 : decode b_Tw_gets 61 = .ok (.iload_n 1, 1) := by decide +kernel
theorem d_Tw_gets_62 : decode b_Tw_gets 62 = .ok (.iload_n 2, 1) := by decide +kernel
theorem d_Tw_gets_63 : decode b_Tw_gets 63 = .ok (.aload_n 0, 1) := by decide +kernel
theorem d_Tw_gets_64 : decode b_Tw_gets 64 = .ok (.getfield 40, 3) := by decide +kernel
theorem d_Tw_gets_67 : decode b_Tw_gets 67 = .ok (.iload_n 2, 1) := by decide +kernel
theorem d_Tw_gets_68 : decode b_Tw_gets 68 = .ok (.iaload, 1) := by decide +kernel
theorem d_Tw_gets_69 : decode b_Tw_gets 69 = .ok (.iconst 0, 1) := by decide +kernel
theorem d_Tw_gets_70 : decode b_Tw_gets 70 = .ok (.invokevirtual 147, 3) := by decide +kernel
theorem d_Tw_gets_73 : decode b_Tw_gets 73 = .ok (.aload_n 0, 1) := by decide +kernel
theorem d_Tw_gets_74 : decode b_Tw_gets 74 = .ok (.getfield 43, 3) := by decide +kernel
theorem d_Tw_gets_77 : decode b_Tw_gets 77 = .ok (.iload_n 2, 1) := by decide +kernel
theorem d_Tw_gets_78 : decode b_Tw_gets 78 = .ok (.iconst 1, 1) := by decide +kernel
theorem d_Tw_gets_79 : decode b_Tw_gets 79 = .ok (.iastore, 1) := by decide +kernel
theorem d_Tw_gets_80 : decode b_Tw_gets 80 = .ok (.aload_n 0, 1) := by decide +kernel
theorem d_Tw_gets_81 : decode b_Tw_gets 81 = .ok (.getfield 49, 3) := by decide +kernel
theorem d_Tw_gets_84 : decode b_Tw_gets 84 = .ok (.iconst 4, 1) := by decide +kernel
theorem d_Tw_gets_85 : decode b_Tw_gets 85 = .ok (.iload_n 2, 1) := by decide +kernel
theorem d_Tw_gets_86 : decode b_Tw_gets 86 = .ok (.imul, 1) := by decide +kernel
theorem d_Tw_gets_87 : decode b_Tw_gets 87 = .ok (.iload_n 1, 1) := by decide +kernel
theorem d_Tw_gets_88 : decode b_Tw_gets 88 = .ok (.iadd, 1) := by decide +kernel
theorem d_Tw_gets_89 : decode b_Tw_gets 89 = .ok (.iconst 1, 1) := by decide +kernel
theorem d_Tw_gets_90 : decode b_Tw_gets 90 = .ok (.bastore, 1) := by decide +kernel
theorem d_Tw_gets_91 : decode b_Tw_gets 91 = .ok (.return_, 1) := by decide +kernel
theorem d_Tw_getm_0 : decode b_Tw_getm 0 = .ok (.aload_n 0, 1) := by decide +kernel
theorem d_Tw_getm_1 : decode b_Tw_getm 1 = .ok (.getfield 43, 3) := by decide +kernel
theorem d_Tw_getm_4 : decode b_Tw_getm 4 = .ok (.iload_n 2, 1) := by decide +kernel
theorem d_Tw_getm_5 : decode b_Tw_getm 5 = .ok (.iaload, 1) := by decide +kernel
theorem d_Tw_getm_6 : decode b_Tw_getm 6 = .ok (.iconst 2, 1) := by decide +kernel
theorem d_Tw_getm_7 : decode b_Tw_getm 7 = .ok (.if_icmp .ne 22, 3) := by decide +kernel
theorem d_Tw_getm_10 : decode b_Tw_getm 10 = .ok (.aload_n 0, 1) := by decide +kernel
theorem d_Tw_getm_11 : decode b_Tw_getm 11 = .ok (.iconst 5, 1) := by decide +kernel
theorem d_Tw_getm_12 : decode b_Tw_getm 12 = .ok (.iconst 4, 1) := by decide +kernel
theorem d_Tw_getm_13 : decode b_Tw_getm 13 = .ok (.aload_n 0, 1) := by decide +kernel
theorem d_Tw_getm_14 : decode b_Tw_getm 14 = .ok (.getfield 46, 3) := by decide +kernel
theorem d_Tw_getm_17 : decode b_Tw_getm 17 = .ok (.iload_n 2, 1) := by decide +kernel
theorem d_Tw_getm_18 : decode b_Tw_getm 18 = .ok (.iaload, 1) := by decide +kernel
theorem d_Tw_getm_19 : decode b_Tw_getm 19 = .ok (.iload_n 2, 1) := by decide +kernel
theorem d_Tw_getm_20 : decode b_Tw_getm 20 = .ok (.iconst 0, 1) := by decide +kernel
theorem d_Tw_getm_21 : decode b_Tw_getm 21 = .ok (.iconst 0, 1) := by decide +kernel
theorem d_Tw_getm_22 : decode b_Tw_getm 22 = .ok (.iload_n 1, 1) := by decide +kernel
theorem d_Tw_getm_23 : decode b_Tw_getm 23 = .ok (.invokevirtual 97, 3) := by decide +kernel
theorem d_Tw_getm_26 : decode b_Tw_getm 26 = .ok (.goto 76, 3) := by decide +kernel
theorem d_Tw_getm_29 : decode b_Tw_getm 29 = .ok (.aload_n 0, 1) := by decide +kernel
theorem d_Tw_getm_30 : decode b_Tw_getm 30 = .ok (.iconst 4, 1) := by decide +kernel
theorem d_Tw_getm_31 : decode b_Tw_getm 31 = .ok (.iload_n 1, 1) := by decide +kernel
theorem d_Tw_getm_32 : decode b_Tw_getm 32 = .ok (.iload_n 2, 1) := by decide +kernel
theorem d_Tw_getm_33 : decode b_Tw_getm 33 = .ok (.aload_n 0, 1) := by decide +kernel
theorem d_Tw_getm_34 : decode b_Tw_getm 34 = .ok (.getfield 40, 3) := by decide +kernel
theorem d_Tw_getm_37 : decode b_Tw_getm 37 = .ok (.iload_n 2, 1) := by decide +kernel
theorem d_Tw_getm_38 : decode b_Tw_getm 38 = .ok (.iaload, 1) := by decide +kernel
theorem d_Tw_getm_39 : decode b_Tw_getm 39 = .ok (.aload_n 0, 1) := by decide +kernel
theorem d_Tw_getm_40 : decode b_Tw_getm 40 = .ok (.iload_n 2, 1) := by decide +kernel
theorem d_Tw_getm_41 : decode b_Tw_getm 41 = .ok (.iload_n 1, 1) := by decide +kernel
theorem d_Tw_getm_42 : decode b_Tw_getm 42 = .ok (.invokevirtual 157, 3) := by decide +kernel
theorem d_Tw_getm_45 : decode b_Tw_getm 45 = .ok (.invokevirtual 147, 3) := by decide +kernel
theorem d_Tw_getm_48 : decode b_Tw_getm 48 = .ok (.iconst 0, 1) := by decide +kernel
theorem d_Tw_getm_49 : decode b_Tw_getm 49 = .ok (.istore_n 3, 1) := by decide +kernel
theorem d_Tw_getm_50 : decode b_Tw_getm 50 = .ok (.iload_n 3, 1) := by decide +kernel
theorem d_Tw_getm_51 : decode b_Tw_getm 51 = .ok (.iconst 4, 1) := by decide +kernel
theorem d_Tw_getm_52 : decode b_Tw_getm 52 = .ok (.if_icmp .ge 50, 3) := by decide +kernel
theorem d_Tw_getm_55 : decode b_Tw_getm 55 = .ok (.aload_n 0, 1) := by decide +kernel
theorem d_Tw_getm_56 : decode b_Tw_getm 56 = .ok (.getfield 49, 3) := by decide +kernel
theorem d_Tw_getm_59 : decode b_Tw_getm 59 = .ok (.iconst 4, 1) := by decide +kernel
theorem d_Tw_getm_60 : decode b_Tw_getm 60 = .ok (.iload_n 2, 1) := by decide +kernel
theorem d_Tw_getm_61 : decode b_Tw_getm 61 = .ok (.imul, 1) := by decide +kernel
theorem d_Tw_getm_62 : decode b_Tw_getm 62 = .ok (.iload_n 3, 1) := by decide +kernel
theorem d_Tw_getm_63 : decode b_Tw_getm 63 = .ok (.iadd, 1) := by decide +kernel
theorem d_Tw_getm_64 : decode b_Tw_getm 64 = .ok (.baload, 1) := by decide +kernel
theorem d_Tw_getm_65 : decode b_Tw_getm 65 = .ok (.ifCond .eq 20, 3) := by decide +kernel
theorem d_Tw_getm_68 : decode b_Tw_getm 68 = .ok (.iload_n 3, 1) := by decide +kernel
theorem d_Tw_getm_69 : decode b_Tw_getm 69 = .ok (.iload_n 1, 1) := by decide +kernel
theorem d_Tw_getm_70 : decode b_Tw_getm 70 = .ok (.if_icmp .eq 15, 3) := by decide +kernel
theorem d_Tw_getm_73 : decode b_Tw_getm 73 = .ok (.aload_n 0, 1) := by decide +kernel
theorem d_Tw_getm_74 : decode b_Tw_getm 74 = .ok (.bipush 6, 2) := by decide +kernel
theorem d_Tw_getm_76 : decode b_Tw_getm 76 = .ok (.iconst 4, 1) := by decide +kernel
theorem d_Tw_getm_77 : decode b_Tw_getm 77 = .ok (.iload_n 3, 1) := by decide +kernel
theorem d_Tw_getm_78 : decode b_Tw_getm 78 = .ok (.iload_n 2, 1) := by decide +kernel
theorem d_Tw_getm_79 : decode b_Tw_getm 79 = .ok (.iconst 0, 1) := by decide +kernel
theorem d_Tw_getm_80 : decode b_Tw_getm 80 = .ok (.iconst 0, 1) := by decide +kernel
theorem d_Tw_getm_81 : decode b_Tw_getm 81 = .ok (.iload_n 1, 1) := by decide +kernel
theorem d_Tw_getm_82 : decode b_Tw_getm 82 = .ok (.invokevirtual 97, 3) := by decide +kernel
theorem d_Tw_getm_85 : decode b_Tw_getm 85 = .ok (.aload_n 0, 1) := by decide +kernel
theorem d_Tw_getm_86 : decode b_Tw_getm 86 = .ok (.getfield 49, 3) := by decide +kernel
theorem d_Tw_getm_89 : decode b_Tw_getm 89 = .ok (.iconst 4, 1) := by decide +kernel
theorem d_Tw_getm_90 : decode b_Tw_getm 90 = .ok (.iload_n 2, 1) := by decide +kernel
theorem d_Tw_getm_91 : decode b_Tw_getm 91 = .ok (.imul, 1) := by decide +kernel
theorem d_Tw_getm_92 : decode b_Tw_getm 92 = .ok (.iload_n 3, 1) := by decide +kernel
theorem d_Tw_getm_93 : decode b_Tw_getm 93 = .ok (.iadd, 1) := by decide +kernel
theorem d_Tw_getm_94 : decode b_Tw_getm 94 = .ok (.iconst 0, 1) := by decide +kernel
theorem d_Tw_getm_95 : decode b_Tw_getm 95 = .ok (.bastore, 1) := by decide +kernel
theorem d_Tw_getm_96 : decode b_Tw_getm 96 = .ok (.iinc 3 1, 3) := by decide +kernel
theorem d_Tw_getm_99 : decode b_Tw_getm 99 = .ok (.goto (-49), 3) := by decide +kernel
theorem d_Tw_getm_102 : decode b_Tw_getm 102 = .ok (.aload_n 0, 1) := by decide +kernel
theorem d_Tw_getm_103 : decode b_Tw_getm 103 = .ok (.getfield 46, 3) := by decide +kernel
theorem d_Tw_getm_106 : decode b_Tw_getm 106 = .ok (.iload_n 2, 1) := by decide +kernel
theorem d_Tw_getm_107 : decode b_Tw_getm 107 = .ok (.iload_n 1, 1) := by decide +kernel
theorem d_Tw_getm_108 : decode b_Tw_getm 108 = .ok (.iastore, 1) := by decide +kernel
theorem d_Tw_getm_109 : decode b_Tw_getm 109 = .ok (.aload_n 0, 1) := by decide +kernel
theorem d_Tw_getm_110 : decode b_Tw_getm 110 = .ok (.getfield 43, 3) := by decide +kernel
theorem d_Tw_getm_113 : decode b_Tw_getm 113 = .ok (.iload_n 2, 1) := by decide +kernel
theorem d_Tw_getm_114 : decode b_Tw_getm 114 = .ok (.iconst 2, 1) := by decide +kernel
theorem d_Tw_getm_115 : decode b_Tw_getm 115 = .ok (.iastore, 1) := by decide +kernel
theorem d_Tw_getm_116 : decode b_Tw_getm 116 = .ok (.return_, 1) := by decide +kernel
theorem d_Tw_messages_0 : decode b_Tw_messages 0 = .ok (.aload_n 0, 1) := by decide +kernel
theorem d_Tw_messages_1 : decode b_Tw_messages 1 = .ok (.getfield 91, 3) := by decide +kernel
theorem d_Tw_messages_4 : decode b_Tw_messages 4 = .ok (.ireturn, 1) := by decide +kernel
theorem d_Tw_message_0 : decode b_Tw_message 0 = .ok (.iload_n 1, 1) := by decide +kernel
theorem d_Tw_message_1 : decode b_Tw_message 1 = .ok (.ifCond .lt 21, 3) := by decide +kernel
theorem d_Tw_message_4 : decode b_Tw_message 4 = .ok (.iload_n 1, 1) := by decide +kernel
theorem d_Tw_message_5 : decode b_Tw_message 5 = .ok (.aload_n 0, 1) := by decide +kernel
theorem d_Tw_message_6 : decode b_Tw_message 6 = .ok (.getfield 91, 3) := by decide +kernel
theorem d_Tw_message_9 : decode b_Tw_message 9 = .ok (.if_icmp .ge 13, 3) := by decide +kernel
theorem d_Tw_message_12 : decode b_Tw_message 12 = .ok (.iload_n 2, 1) := by decide +kernel
theorem d_Tw_message_13 : decode b_Tw_message 13 = .ok (.ifCond .lt 9, 3) := by decide +kernel
theorem d_Tw_message_16 : decode b_Tw_message 16 = .ok (.iload_n 2, 1) := by decide +kernel
theorem d_Tw_message_17 : decode b_Tw_message 17 = .ok (.bipush 6, 2) := by decide +kernel
theorem d_Tw_message_19 : decode b_Tw_message 19 = .ok (.if_icmp .le 5, 3) := by decide +kernel
theorem d_Tw_message_22 : decode b_Tw_message 22 = .ok (.iconst (-1), 1) := by decide +kernel
theorem d_Tw_message_23 : decode b_Tw_message 23 = .ok (.ireturn, 1) := by decide +kernel
theorem d_Tw_message_24 : decode b_Tw_message 24 = .ok (.iload_n 2, 1) := by decide +kernel
theorem d_Tw_message_25 : decode b_Tw_message 25 = .ok (.ifCond .ne 12, 3) := by decide +kernel
theorem d_Tw_message_28 : decode b_Tw_message 28 = .ok (.aload_n 0, 1) := by decide +kernel
theorem d_Tw_message_29 : decode b_Tw_message 29 = .ok (.getfield 53, 3) := by decide +kernel
theorem d_Tw_message_32 : decode b_Tw_message 32 = .ok (.iload_n 1, 1) := by decide +kernel
theorem d_Tw_message_33 : decode b_Tw_message 33 = .ok (.iaload, 1) := by decide +kernel
theorem d_Tw_message_34 : decode b_Tw_message 34 = .ok (.goto 37, 3) := by decide +kernel
theorem d_Tw_message_37 : decode b_Tw_message 37 = .ok (.iload_n 2, 1) := by decide +kernel
theorem d_Tw_message_38 : decode b_Tw_message 38 = .ok (.iconst 1, 1) := by decide +kernel
theorem d_Tw_message_39 : decode b_Tw_message 39 = .ok (.if_icmp .ne 12, 3) := by decide +kernel
theorem d_Tw_message_42 : decode b_Tw_message 42 = .ok (.aload_n 0, 1) := by decide +kernel
theorem d_Tw_message_43 : decode b_Tw_message 43 = .ok (.getfield 56, 3) := by decide +kernel
theorem d_Tw_message_46 : decode b_Tw_message 46 = .ok (.iload_n 1, 1) := by decide +kernel
theorem d_Tw_message_47 : decode b_Tw_message 47 = .ok (.iaload, 1) := by decide +kernel
theorem d_Tw_message_48 : decode b_Tw_message 48 = .ok (.goto 23, 3) := by decide +kernel
theorem d_Tw_message_51 : decode b_Tw_message 51 = .ok (.iload_n 2, 1) := by decide +kernel
theorem d_Tw_message_52 : decode b_Tw_message 52 = .ok (.iconst 2, 1) := by decide +kernel
theorem d_Tw_message_53 : decode b_Tw_message 53 = .ok (.if_icmp .ne 12, 3) := by decide +kernel
theorem d_Tw_message_56 : decode b_Tw_message 56 = .ok (.aload_n 0, 1) := by decide +kernel
theorem d_Tw_message_57 : decode b_Tw_message 57 = .ok (.getfield 59, 3) := by decide +kernel
theorem d_Tw_message_60 : decode b_Tw_message 60 = .ok (.iload_n 1, 1) := by decide +kernel
theorem d_Tw_message_61 : decode b_Tw_message 61 = .ok (.iaload, 1) := by decide +kernel
theorem d_Tw_message_62 : decode b_Tw_message 62 = .ok (.goto 9, 3) := by decide +kernel
theorem d_Tw_message_65 : decode b_Tw_message 65 = .ok (.aload_n 0, 1) := by decide +kernel
theorem d_Tw_message_66 : decode b_Tw_message 66 = .ok (.getfield 62, 3) := by decide +kernel
theorem d_Tw_message_69 : decode b_Tw_message 69 = .ok (.iload_n 1, 1) := by decide +kernel
theorem d_Tw_message_70 : decode b_Tw_message 70 = .ok (.iaload, 1) := by decide +kernel
theorem d_Tw_message_71 : decode b_Tw_message 71 = .ok (.istore_n 3, 1) := by decide +kernel
theorem d_Tw_message_72 : decode b_Tw_message 72 = .ok (.iload_n 2, 1) := by decide +kernel
theorem d_Tw_message_73 : decode b_Tw_message 73 = .ok (.iconst 4, 1) := by decide +kernel
theorem d_Tw_message_74 : decode b_Tw_message 74 = .ok (.if_icmp .ge 7, 3) := by decide +kernel
theorem d_Tw_message_77 : decode b_Tw_message 77 = .ok (.iload_n 3, 1) := by decide +kernel
theorem d_Tw_message_78 : decode b_Tw_message 78 = .ok (.goto 37, 3) := by decide +kernel
theorem d_Tw_message_81 : decode b_Tw_message 81 = .ok (.iload_n 2, 1) := by decide +kernel
theorem d_Tw_message_82 : decode b_Tw_message 82 = .ok (.iconst 4, 1) := by decide +kernel
theorem d_Tw_message_83 : decode b_Tw_message 83 = .ok (.if_icmp .ne 12, 3) := by decide +kernel
theorem d_Tw_message_86 : decode b_Tw_message 86 = .ok (.aload_n 0, 1) := by decide +kernel
theorem d_Tw_message_87 : decode b_Tw_message 87 = .ok (.getfield 65, 3) := by decide +kernel
theorem d_Tw_message_90 : decode b_Tw_message 90 = .ok (.iload_n 1, 1) := by decide +kernel
theorem d_Tw_message_91 : decode b_Tw_message 91 = .ok (.iaload, 1) := by decide +kernel
theorem d_Tw_message_92 : decode b_Tw_message 92 = .ok (.goto 23, 3) := by decide +kernel
theorem d_Tw_message_95 : decode b_Tw_message 95 = .ok (.iload_n 2, 1) := by decide +kernel
theorem d_Tw_message_96 : decode b_Tw_message 96 = .ok (.iconst 5, 1) := by decide +kernel
theorem d_Tw_message_97 : decode b_Tw_message 97 = .ok (.if_icmp .ne 12, 3) := by decide +kernel
theorem d_Tw_message_100 : decode b_Tw_message 100 = .ok (.aload_n 0, 1) := by decide +kernel
theorem d_Tw_message_101 : decode b_Tw_message 101 = .ok (.getfield 68, 3) := by decide +kernel
theorem d_Tw_message_104 : decode b_Tw_message 104 = .ok (.iload_n 1, 1) := by decide +kernel
theorem d_Tw_message_105 : decode b_Tw_message 105 = .ok (.iaload, 1) := by decide +kernel
theorem d_Tw_message_106 : decode b_Tw_message 106 = .ok (.goto 9, 3) := by decide +kernel
theorem d_Tw_message_109 : decode b_Tw_message 109 = .ok (.aload_n 0, 1) := by decide +kernel
theorem d_Tw_message_110 : decode b_Tw_message 110 = .ok (.getfield 71, 3) := by decide +kernel
theorem d_Tw_message_113 : decode b_Tw_message 113 = .ok (.iload_n 1, 1) := by decide +kernel
theorem d_Tw_message_114 : decode b_Tw_message 114 = .ok (.iaload, 1) := by decide +kernel
theorem d_Tw_message_115 : decode b_Tw_message 115 = .ok (.ireturn, 1) := by decide +kernel
theorem d_Tw_line_0 : decode b_Tw_line 0 = .ok (.aload_n 0, 1) := by decide +kernel
theorem d_Tw_line_1 : decode b_Tw_line 1 = .ok (.iload_n 1, 1) := by decide +kernel
theorem d_Tw_line_2 : decode b_Tw_line 2 = .ok (.invokevirtual 81, 3) := by decide +kernel
theorem d_Tw_line_5 : decode b_Tw_line 5 = .ok (.ifCond .eq 23, 3) := by decide +kernel
theorem d_Tw_line_8 : decode b_Tw_line 8 = .ok (.iload_n 2, 1) := by decide +kernel
theorem d_Tw_line_9 : decode b_Tw_line 9 = .ok (.invokestatic 88, 3) := by decide +kernel
theorem d_Tw_line_12 : decode b_Tw_line 12 = .ok (.ifCond .eq 16, 3) := by decide +kernel
theorem d_Tw_line_15 : decode b_Tw_line 15 = .ok (.aload_n 0, 1) := by decide +kernel
theorem d_Tw_line_16 : decode b_Tw_line 16 = .ok (.getfield 28, 3) := by decide +kernel
theorem d_Tw_line_19 : decode b_Tw_line 19 = .ok (.iconst 4, 1) := by decide +kernel
theorem d_Tw_line_20 : decode b_Tw_line 20 = .ok (.iload_n 1, 1) := by decide +kernel
theorem d_Tw_line_21 : decode b_Tw_line 21 = .ok (.imul, 1) := by decide +kernel
theorem d_Tw_line_22 : decode b_Tw_line 22 = .ok (.iload_n 2, 1) := by decide +kernel
theorem d_Tw_line_23 : decode b_Tw_line 23 = .ok (.iadd, 1) := by decide +kernel
theorem d_Tw_line_24 : decode b_Tw_line 24 = .ok (.iaload, 1) := by decide +kernel
theorem d_Tw_line_25 : decode b_Tw_line 25 = .ok (.goto 4, 3) := by decide +kernel
theorem d_Tw_line_28 : decode b_Tw_line 28 = .ok (.iconst (-1), 1) := by decide +kernel
theorem d_Tw_line_29 : decode b_Tw_line 29 = .ok (.ireturn, 1) := by decide +kernel
theorem d_Tw_word_0 : decode b_Tw_word 0 = .ok (.aload_n 0, 1) := by decide +kernel
theorem d_Tw_word_1 : decode b_Tw_word 1 = .ok (.iload_n 1, 1) := by decide +kernel
theorem d_Tw_word_2 : decode b_Tw_word 2 = .ok (.invokevirtual 81, 3) := by decide +kernel
theorem d_Tw_word_5 : decode b_Tw_word 5 = .ok (.ifCond .eq 10, 3) := by decide +kernel
theorem d_Tw_word_8 : decode b_Tw_word 8 = .ok (.iload_n 2, 1) := by decide +kernel
theorem d_Tw_word_9 : decode b_Tw_word 9 = .ok (.invokestatic 88, 3) := by decide +kernel
theorem d_Tw_word_12 : decode b_Tw_word 12 = .ok (.ifCond .ne 5, 3) := by decide +kernel
theorem d_Tw_word_15 : decode b_Tw_word 15 = .ok (.iconst 0, 1) := by decide +kernel
theorem d_Tw_word_16 : decode b_Tw_word 16 = .ok (.ireturn, 1) := by decide +kernel
theorem d_Tw_word_17 : decode b_Tw_word 17 = .ok (.aload_n 0, 1) := by decide +kernel
theorem d_Tw_word_18 : decode b_Tw_word 18 = .ok (.getfield 28, 3) := by decide +kernel
theorem d_Tw_word_21 : decode b_Tw_word 21 = .ok (.iconst 4, 1) := by decide +kernel
theorem d_Tw_word_22 : decode b_Tw_word 22 = .ok (.iload_n 1, 1) := by decide +kernel
theorem d_Tw_word_23 : decode b_Tw_word 23 = .ok (.imul, 1) := by decide +kernel
theorem d_Tw_word_24 : decode b_Tw_word 24 = .ok (.iload_n 2, 1) := by decide +kernel
theorem d_Tw_word_25 : decode b_Tw_word 25 = .ok (.iadd, 1) := by decide +kernel
theorem d_Tw_word_26 : decode b_Tw_word 26 = .ok (.iaload, 1) := by decide +kernel
theorem d_Tw_word_27 : decode b_Tw_word 27 = .ok (.istore_n 3, 1) := by decide +kernel
theorem d_Tw_word_28 : decode b_Tw_word 28 = .ok (.iload_n 3, 1) := by decide +kernel
theorem d_Tw_word_29 : decode b_Tw_word 29 = .ok (.iconst 1, 1) := by decide +kernel
theorem d_Tw_word_30 : decode b_Tw_word 30 = .ok (.if_icmp .eq 32, 3) := by decide +kernel
theorem d_Tw_word_33 : decode b_Tw_word 33 = .ok (.iload_n 3, 1) := by decide +kernel
theorem d_Tw_word_34 : decode b_Tw_word 34 = .ok (.iconst 2, 1) := by decide +kernel
theorem d_Tw_word_35 : decode b_Tw_word 35 = .ok (.if_icmp .eq 27, 3) := by decide +kernel
theorem d_Tw_word_38 : decode b_Tw_word 38 = .ok (.iload_n 3, 1) := by decide +kernel
theorem d_Tw_word_39 : decode b_Tw_word 39 = .ok (.bipush 6, 2) := by decide +kernel
theorem d_Tw_word_41 : decode b_Tw_word 41 = .ok (.if_icmp .eq 21, 3) := by decide +kernel
theorem d_Tw_word_44 : decode b_Tw_word 44 = .ok (.iload_n 3, 1) := by decide +kernel
theorem d_Tw_word_45 : decode b_Tw_word 45 = .ok (.bipush 7, 2) := by decide +kernel
theorem d_Tw_word_47 : decode b_Tw_word 47 = .ok (.if_icmp .eq 15, 3) := by decide +kernel
theorem d_Tw_word_50 : decode b_Tw_word 50 = .ok (.iload_n 3, 1) := by decide +kernel
theorem d_Tw_word_51 : decode b_Tw_word 51 = .ok (.bipush 8, 2) := by decide +kernel
theorem d_Tw_word_53 : decode b_Tw_word 53 = .ok (.if_icmp .eq 9, 3) := by decide +kernel
theorem d_Tw_word_56 : decode b_Tw_word 56 = .ok (.iload_n 3, 1) := by decide +kernel
theorem d_Tw_word_57 : decode b_Tw_word 57 = .ok (.bipush 9, 2) := by decide +kernel
theorem d_Tw_word_59 : decode b_Tw_word 59 = .ok (.if_icmp .ne 7, 3) := by decide +kernel
theorem d_Tw_word_62 : decode b_Tw_word 62 = .ok (.iconst 1, 1) := by decide +kernel
theorem d_Tw_word_63 : decode b_Tw_word 63 = .ok (.goto 4, 3) := by decide +kernel
theorem d_Tw_word_66 : decode b_Tw_word 66 = .ok (.iconst 0, 1) := by decide +kernel
theorem d_Tw_word_67 : decode b_Tw_word 67 = .ok (.istore 4, 2) := by decide +kernel
theorem d_Tw_word_69 : decode b_Tw_word 69 = .ok (.iload 4, 2) := by decide +kernel
theorem d_Tw_word_71 : decode b_Tw_word 71 = .ok (.ifCond .eq 16, 3) := by decide +kernel
theorem d_Tw_word_74 : decode b_Tw_word 74 = .ok (.aload_n 0, 1) := by decide +kernel
theorem d_Tw_word_75 : decode b_Tw_word 75 = .ok (.getfield 31, 3) := by decide +kernel
theorem d_Tw_word_78 : decode b_Tw_word 78 = .ok (.iconst 4, 1) := by decide +kernel
theorem d_Tw_word_79 : decode b_Tw_word 79 = .ok (.iload_n 1, 1) := by decide +kernel
theorem d_Tw_word_80 : decode b_Tw_word 80 = .ok (.imul, 1) := by decide +kernel
theorem d_Tw_word_81 : decode b_Tw_word 81 = .ok (.iload_n 2, 1) := by decide +kernel
theorem d_Tw_word_82 : decode b_Tw_word 82 = .ok (.iadd, 1) := by decide +kernel
theorem d_Tw_word_83 : decode b_Tw_word 83 = .ok (.iaload, 1) := by decide +kernel
theorem d_Tw_word_84 : decode b_Tw_word 84 = .ok (.goto 4, 3) := by decide +kernel
theorem d_Tw_word_87 : decode b_Tw_word 87 = .ok (.iconst 0, 1) := by decide +kernel
theorem d_Tw_word_88 : decode b_Tw_word 88 = .ok (.ireturn, 1) := by decide +kernel
theorem d_Tw_home_0 : decode b_Tw_home 0 = .ok (.iload_n 1, 1) := by decide +kernel
theorem d_Tw_home_1 : decode b_Tw_home 1 = .ok (.invokestatic 88, 3) := by decide +kernel
theorem d_Tw_home_4 : decode b_Tw_home 4 = .ok (.ifCond .ne 5, 3) := by decide +kernel
theorem d_Tw_home_7 : decode b_Tw_home 7 = .ok (.iconst (-1), 1) := by decide +kernel
theorem d_Tw_home_8 : decode b_Tw_home 8 = .ok (.ireturn, 1) := by decide +kernel
theorem d_Tw_home_9 : decode b_Tw_home 9 = .ok (.iconst 0, 1) := by decide +kernel
theorem d_Tw_home_10 : decode b_Tw_home 10 = .ok (.istore_n 2, 1) := by decide +kernel
theorem d_Tw_home_11 : decode b_Tw_home 11 = .ok (.iconst 0, 1) := by decide +kernel
theorem d_Tw_home_12 : decode b_Tw_home 12 = .ok (.istore_n 3, 1) := by decide +kernel
theorem d_Tw_home_13 : decode b_Tw_home 13 = .ok (.iload_n 3, 1) := by decide +kernel
theorem d_Tw_home_14 : decode b_Tw_home 14 = .ok (.iconst 4, 1) := by decide +kernel
theorem d_Tw_home_15 : decode b_Tw_home 15 = .ok (.if_icmp .ge 32, 3) := by decide +kernel
theorem d_Tw_home_18 : decode b_Tw_home 18 = .ok (.aload_n 0, 1) := by decide +kernel
theorem d_Tw_home_19 : decode b_Tw_home 19 = .ok (.getfield 49, 3) := by decide +kernel
theorem d_Tw_home_22 : decode b_Tw_home 22 = .ok (.iconst 4, 1) := by decide +kernel
theorem d_Tw_home_23 : decode b_Tw_home 23 = .ok (.iload_n 1, 1) := by decide +kernel
theorem d_Tw_home_24 : decode b_Tw_home 24 = .ok (.imul, 1) := by decide +kernel
theorem d_Tw_home_25 : decode b_Tw_home 25 = .ok (.iload_n 3, 1) := by decide +kernel
theorem d_Tw_home_26 : decode b_Tw_home 26 = .ok (.iadd, 1) := by decide +kernel
theorem d_Tw_home_27 : decode b_Tw_home 27 = .ok (.baload, 1) := by decide +kernel
theorem d_Tw_home_28 : decode b_Tw_home 28 = .ok (.ifCond .eq 11, 3) := by decide +kernel
theorem d_Tw_home_31 : decode b_Tw_home 31 = .ok (.iload_n 2, 1) := by decide +kernel
theorem d_Tw_home_32 : decode b_Tw_home 32 = .ok (.iconst 1, 1) := by decide +kernel
theorem d_Tw_home_33 : decode b_Tw_home 33 = .ok (.iload_n 3, 1) := by decide +kernel
theorem d_Tw_home_34 : decode b_Tw_home 34 = .ok (.ishl, 1) := by decide +kernel
theorem d_Tw_home_35 : decode b_Tw_home 35 = .ok (.iadd, 1) := by decide +kernel
theorem d_Tw_home_36 : decode b_Tw_home 36 = .ok (.goto 4, 3) := by decide +kernel
theorem d_Tw_home_39 : decode b_Tw_home 39 = .ok (.iload_n 2, 1) := by decide +kernel
theorem d_Tw_home_40 : decode b_Tw_home 40 = .ok (.istore_n 2, 1) := by decide +kernel
theorem d_Tw_home_41 : decode b_Tw_home 41 = .ok (.iinc 3 1, 3) := by decide +kernel
theorem d_Tw_home_44 : decode b_Tw_home 44 = .ok (.goto (-31), 3) := by decide +kernel
theorem d_Tw_home_47 : decode b_Tw_home 47 = .ok (.aload_n 0, 1) := by decide +kernel
theorem d_Tw_home_48 : decode b_Tw_home 48 = .ok (.getfield 43, 3) := by decide +kernel
theorem d_Tw_home_51 : decode b_Tw_home 51 = .ok (.iload_n 1, 1) := by decide +kernel
theorem d_Tw_home_52 : decode b_Tw_home 52 = .ok (.iaload, 1) := by decide +kernel
theorem d_Tw_home_53 : decode b_Tw_home 53 = .ok (.aload_n 0, 1) := by decide +kernel
theorem d_Tw_home_54 : decode b_Tw_home 54 = .ok (.getfield 43, 3) := by decide +kernel
theorem d_Tw_home_57 : decode b_Tw_home 57 = .ok (.iload_n 1, 1) := by decide +kernel
theorem d_Tw_home_58 : decode b_Tw_home 58 = .ok (.iaload, 1) := by decide +kernel
theorem d_Tw_home_59 : decode b_Tw_home 59 = .ok (.iconst 2, 1) := by decide +kernel
theorem d_Tw_home_60 : decode b_Tw_home 60 = .ok (.if_icmp .ne 16, 3) := by decide +kernel
theorem d_Tw_home_63 : decode b_Tw_home 63 = .ok (.iconst 4, 1) := by decide +kernel
theorem d_Tw_home_64 : decode b_Tw_home 64 = .ok (.aload_n 0, 1) := by decide +kernel
theorem d_Tw_home_65 : decode b_Tw_home 65 = .ok (.getfield 46, 3) := by decide +kernel
theorem d_Tw_home_68 : decode b_Tw_home 68 = .ok (.iload_n 1, 1) := by decide +kernel
theorem d_Tw_home_69 : decode b_Tw_home 69 = .ok (.iaload, 1) := by decide +kernel
theorem d_Tw_home_70 : decode b_Tw_home 70 = .ok (.iconst 1, 1) := by decide +kernel
theorem d_Tw_home_71 : decode b_Tw_home 71 = .ok (.iadd, 1) := by decide +kernel
theorem d_Tw_home_72 : decode b_Tw_home 72 = .ok (.imul, 1) := by decide +kernel
theorem d_Tw_home_73 : decode b_Tw_home 73 = .ok (.goto 4, 3) := by decide +kernel
theorem d_Tw_home_76 : decode b_Tw_home 76 = .ok (.iconst 0, 1) := by decide +kernel
theorem d_Tw_home_77 : decode b_Tw_home 77 = .ok (.iadd, 1) := by decide +kernel
theorem d_Tw_home_78 : decode b_Tw_home 78 = .ok (.bipush 32, 2) := by decide +kernel
theorem d_Tw_home_80 : decode b_Tw_home 80 = .ok (.iload_n 2, 1) := by decide +kernel
theorem d_Tw_home_81 : decode b_Tw_home 81 = .ok (.imul, 1) := by decide +kernel
theorem d_Tw_home_82 : decode b_Tw_home 82 = .ok (.iadd, 1) := by decide +kernel
theorem d_Tw_home_83 : decode b_Tw_home 83 = .ok (.ireturn, 1) := by decide +kernel
theorem d_Tw_memory_0 : decode b_Tw_memory 0 = .ok (.iload_n 1, 1) := by decide +kernel
theorem d_Tw_memory_1 : decode b_Tw_memory 1 = .ok (.invokestatic 88, 3) := by decide +kernel
theorem d_Tw_memory_4 : decode b_Tw_memory 4 = .ok (.ifCond .eq 12, 3) := by decide +kernel
theorem d_Tw_memory_7 : decode b_Tw_memory 7 = .ok (.aload_n 0, 1) := by decide +kernel
theorem d_Tw_memory_8 : decode b_Tw_memory 8 = .ok (.getfield 40, 3) := by decide +kernel
theorem d_Tw_memory_11 : decode b_Tw_memory 11 = .ok (.iload_n 1, 1) := by decide +kernel
theorem d_Tw_memory_12 : decode b_Tw_memory 12 = .ok (.iaload, 1) := by decide +kernel
theorem d_Tw_memory_13 : decode b_Tw_memory 13 = .ok (.goto 4, 3) := by decide +kernel
theorem d_Tw_memory_16 : decode b_Tw_memory 16 = .ok (.iconst 0, 1) := by decide +kernel
theorem d_Tw_memory_17 : decode b_Tw_memory 17 = .ok (.ireturn, 1) := by decide +kernel
theorem d_Tw_accumulator_0 : decode b_Tw_accumulator 0 = .ok (.aload_n 0, 1) := by decide +kernel
theorem d_Tw_accumulator_1 : decode b_Tw_accumulator 1 = .ok (.iload_n 1, 1) := by decide +kernel
theorem d_Tw_accumulator_2 : decode b_Tw_accumulator 2 = .ok (.invokevirtual 81, 3) := by decide +kernel
theorem d_Tw_accumulator_5 : decode b_Tw_accumulator 5 = .ok (.ifCond .eq 12, 3) := by decide +kernel
theorem d_Tw_accumulator_8 : decode b_Tw_accumulator 8 = .ok (.aload_n 0, 1) := by decide +kernel
theorem d_Tw_accumulator_9 : decode b_Tw_accumulator 9 = .ok (.getfield 7, 3) := by decide +kernel
theorem d_Tw_accumulator_12 : decode b_Tw_accumulator 12 = .ok (.iload_n 1, 1) := by decide +kernel
theorem d_Tw_accumulator_13 : decode b_Tw_accumulator 13 = .ok (.iaload, 1) := by decide +kernel
theorem d_Tw_accumulator_14 : decode b_Tw_accumulator 14 = .ok (.goto 4, 3) := by decide +kernel
theorem d_Tw_accumulator_17 : decode b_Tw_accumulator 17 = .ok (.iconst 0, 1) := by decide +kernel
theorem d_Tw_accumulator_18 : decode b_Tw_accumulator 18 = .ok (.ireturn, 1) := by decide +kernel
theorem d_Tw_place_0 : decode b_Tw_place 0 = .ok (.aload_n 0, 1) := by decide +kernel
theorem d_Tw_place_1 : decode b_Tw_place 1 = .ok (.iload_n 1, 1) := by decide +kernel
theorem d_Tw_place_2 : decode b_Tw_place 2 = .ok (.invokevirtual 81, 3) := by decide +kernel
theorem d_Tw_place_5 : decode b_Tw_place 5 = .ok (.ifCond .eq 22, 3) := by decide +kernel
theorem d_Tw_place_8 : decode b_Tw_place 8 = .ok (.aload_n 0, 1) := by decide +kernel
theorem d_Tw_place_9 : decode b_Tw_place 9 = .ok (.getfield 22, 3) := by decide +kernel
theorem d_Tw_place_12 : decode b_Tw_place 12 = .ok (.iload_n 1, 1) := by decide +kernel
theorem d_Tw_place_13 : decode b_Tw_place 13 = .ok (.iaload, 1) := by decide +kernel
theorem d_Tw_place_14 : decode b_Tw_place 14 = .ok (.bipush 32, 2) := by decide +kernel
theorem d_Tw_place_16 : decode b_Tw_place 16 = .ok (.aload_n 0, 1) := by decide +kernel
theorem d_Tw_place_17 : decode b_Tw_place 17 = .ok (.getfield 25, 3) := by decide +kernel
theorem d_Tw_place_20 : decode b_Tw_place 20 = .ok (.iload_n 1, 1) := by decide +kernel
theorem d_Tw_place_21 : decode b_Tw_place 21 = .ok (.iaload, 1) := by decide +kernel
theorem d_Tw_place_22 : decode b_Tw_place 22 = .ok (.imul, 1) := by decide +kernel
theorem d_Tw_place_23 : decode b_Tw_place 23 = .ok (.iadd, 1) := by decide +kernel
theorem d_Tw_place_24 : decode b_Tw_place 24 = .ok (.goto 4, 3) := by decide +kernel
theorem d_Tw_place_27 : decode b_Tw_place 27 = .ok (.iconst (-1), 1) := by decide +kernel
theorem d_Tw_place_28 : decode b_Tw_place 28 = .ok (.ireturn, 1) := by decide +kernel
theorem d_Tw_sent_0 : decode b_Tw_sent 0 = .ok (.aload_n 0, 1) := by decide +kernel
theorem d_Tw_sent_1 : decode b_Tw_sent 1 = .ok (.getfield 94, 3) := by decide +kernel
theorem d_Tw_sent_4 : decode b_Tw_sent 4 = .ok (.ireturn, 1) := by decide +kernel
theorem d_Tw_performed_0 : decode b_Tw_performed 0 = .ok (.aload_n 0, 1) := by decide +kernel
theorem d_Tw_performed_1 : decode b_Tw_performed 1 = .ok (.getfield 104, 3) := by decide +kernel
theorem d_Tw_performed_4 : decode b_Tw_performed 4 = .ok (.ireturn, 1) := by decide +kernel
