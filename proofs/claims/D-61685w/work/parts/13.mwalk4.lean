theorem d_M_push_0 : decode b_M_push 0 = .ok (.aload_n 0, 1) := by decide +kernel
theorem d_M_push_1 : decode b_M_push 1 = .ok (.dup, 1) := by decide +kernel
theorem d_M_push_2 : decode b_M_push 2 = .ok (.getfield 114, 3) := by decide +kernel
theorem d_M_push_5 : decode b_M_push 5 = .ok (.iconst 1, 1) := by decide +kernel
theorem d_M_push_6 : decode b_M_push 6 = .ok (.iadd, 1) := by decide +kernel
theorem d_M_push_7 : decode b_M_push 7 = .ok (.putfield 114, 3) := by decide +kernel
theorem d_M_push_10 : decode b_M_push 10 = .ok (.aload_n 0, 1) := by decide +kernel
theorem d_M_push_11 : decode b_M_push 11 = .ok (.getfield 22, 3) := by decide +kernel
theorem d_M_push_14 : decode b_M_push 14 = .ok (.aload_n 0, 1) := by decide +kernel
theorem d_M_push_15 : decode b_M_push 15 = .ok (.getfield 114, 3) := by decide +kernel
theorem d_M_push_18 : decode b_M_push 18 = .ok (.iload_n 1, 1) := by decide +kernel
theorem d_M_push_19 : decode b_M_push 19 = .ok (.iload_n 2, 1) := by decide +kernel
theorem d_M_push_20 : decode b_M_push 20 = .ok (.iconst 4, 1) := by decide +kernel
theorem d_M_push_21 : decode b_M_push 21 = .ok (.ishl, 1) := by decide +kernel
theorem d_M_push_22 : decode b_M_push 22 = .ok (.ior, 1) := by decide +kernel
theorem d_M_push_23 : decode b_M_push 23 = .ok (.iload_n 3, 1) := by decide +kernel
theorem d_M_push_24 : decode b_M_push 24 = .ok (.bipush 10, 2) := by decide +kernel
theorem d_M_push_26 : decode b_M_push 26 = .ok (.ishl, 1) := by decide +kernel
theorem d_M_push_27 : decode b_M_push 27 = .ok (.ior, 1) := by decide +kernel
theorem d_M_push_28 : decode b_M_push 28 = .ok (.i2l, 1) := by decide +kernel
theorem d_M_push_29 : decode b_M_push 29 = .ok (.iload 4, 2) := by decide +kernel
theorem d_M_push_31 : decode b_M_push 31 = .ok (.i2l, 1) := by decide +kernel
theorem d_M_push_32 : decode b_M_push 32 = .ok (.bipush 23, 2) := by decide +kernel
theorem d_M_push_34 : decode b_M_push 34 = .ok (.lshl, 1) := by decide +kernel
theorem d_M_push_35 : decode b_M_push 35 = .ok (.lor, 1) := by decide +kernel
theorem d_M_push_36 : decode b_M_push 36 = .ok (.lastore, 1) := by decide +kernel
theorem d_M_push_37 : decode b_M_push 37 = .ok (.aload_n 0, 1) := by decide +kernel
theorem d_M_push_38 : decode b_M_push 38 = .ok (.getfield 114, 3) := by decide +kernel
theorem d_M_push_41 : decode b_M_push 41 = .ok (.ireturn, 1) := by decide +kernel
theorem d_M_pushBack_0 : decode b_M_pushBack 0 = .ok (.aload_n 0, 1) := by decide +kernel
theorem d_M_pushBack_1 : decode b_M_pushBack 1 = .ok (.getfield 29, 3) := by decide +kernel
theorem d_M_pushBack_4 : decode b_M_pushBack 4 = .ok (.aload_n 0, 1) := by decide +kernel
theorem d_M_pushBack_5 : decode b_M_pushBack 5 = .ok (.getfield 117, 3) := by decide +kernel
theorem d_M_pushBack_8 : decode b_M_pushBack 8 = .ok (.iload_n 1, 1) := by decide +kernel
theorem d_M_pushBack_9 : decode b_M_pushBack 9 = .ok (.iload_n 2, 1) := by decide +kernel
theorem d_M_pushBack_10 : decode b_M_pushBack 10 = .ok (.iconst 3, 1) := by decide +kernel
theorem d_M_pushBack_11 : decode b_M_pushBack 11 = .ok (.ishl, 1) := by decide +kernel
theorem d_M_pushBack_12 : decode b_M_pushBack 12 = .ok (.ior, 1) := by decide +kernel
theorem d_M_pushBack_13 : decode b_M_pushBack 13 = .ok (.aload_n 0, 1) := by decide +kernel
theorem d_M_pushBack_14 : decode b_M_pushBack 14 = .ok (.getfield 120, 3) := by decide +kernel
theorem d_M_pushBack_17 : decode b_M_pushBack 17 = .ok (.bipush 9, 2) := by decide +kernel
theorem d_M_pushBack_19 : decode b_M_pushBack 19 = .ok (.ishl, 1) := by decide +kernel
theorem d_M_pushBack_20 : decode b_M_pushBack 20 = .ok (.ior, 1) := by decide +kernel
theorem d_M_pushBack_21 : decode b_M_pushBack 21 = .ok (.i2l, 1) := by decide +kernel
theorem d_M_pushBack_22 : decode b_M_pushBack 22 = .ok (.iload_n 3, 1) := by decide +kernel
theorem d_M_pushBack_23 : decode b_M_pushBack 23 = .ok (.i2l, 1) := by decide +kernel
theorem d_M_pushBack_24 : decode b_M_pushBack 24 = .ok (.bipush 15, 2) := by decide +kernel
theorem d_M_pushBack_26 : decode b_M_pushBack 26 = .ok (.lshl, 1) := by decide +kernel
theorem d_M_pushBack_27 : decode b_M_pushBack 27 = .ok (.lor, 1) := by decide +kernel
theorem d_M_pushBack_28 : decode b_M_pushBack 28 = .ok (.aload_n 0, 1) := by decide +kernel
theorem d_M_pushBack_29 : decode b_M_pushBack 29 = .ok (.getfield 114, 3) := by decide +kernel
theorem d_M_pushBack_32 : decode b_M_pushBack 32 = .ok (.i2l, 1) := by decide +kernel
theorem d_M_pushBack_33 : decode b_M_pushBack 33 = .ok (.bipush 28, 2) := by decide +kernel
theorem d_M_pushBack_35 : decode b_M_pushBack 35 = .ok (.lshl, 1) := by decide +kernel
theorem d_M_pushBack_36 : decode b_M_pushBack 36 = .ok (.lor, 1) := by decide +kernel
theorem d_M_pushBack_37 : decode b_M_pushBack 37 = .ok (.lastore, 1) := by decide +kernel
theorem d_M_pushBack_38 : decode b_M_pushBack 38 = .ok (.aload_n 0, 1) := by decide +kernel
theorem d_M_pushBack_39 : decode b_M_pushBack 39 = .ok (.getfield 32, 3) := by decide +kernel
theorem d_M_pushBack_42 : decode b_M_pushBack 42 = .ok (.aload_n 0, 1) := by decide +kernel
theorem d_M_pushBack_43 : decode b_M_pushBack 43 = .ok (.getfield 117, 3) := by decide +kernel
theorem d_M_pushBack_46 : decode b_M_pushBack 46 = .ok (.aload_n 0, 1) := by decide +kernel
theorem d_M_pushBack_47 : decode b_M_pushBack 47 = .ok (.getfield 123, 3) := by decide +kernel
theorem d_M_pushBack_50 : decode b_M_pushBack 50 = .ok (.lastore, 1) := by decide +kernel
theorem d_M_pushBack_51 : decode b_M_pushBack 51 = .ok (.aload_n 0, 1) := by decide +kernel
theorem d_M_pushBack_52 : decode b_M_pushBack 52 = .ok (.dup, 1) := by decide +kernel
theorem d_M_pushBack_53 : decode b_M_pushBack 53 = .ok (.getfield 117, 3) := by decide +kernel
theorem d_M_pushBack_56 : decode b_M_pushBack 56 = .ok (.iconst 1, 1) := by decide +kernel
theorem d_M_pushBack_57 : decode b_M_pushBack 57 = .ok (.iadd, 1) := by decide +kernel
theorem d_M_pushBack_58 : decode b_M_pushBack 58 = .ok (.putfield 117, 3) := by decide +kernel
theorem d_M_pushBack_61 : decode b_M_pushBack 61 = .ok (.return_, 1) := by decide +kernel
theorem d_M_item_0 : decode b_M_item 0 = .ok (.aload_n 0, 1) := by decide +kernel
theorem d_M_item_1 : decode b_M_item 1 = .ok (.iload_n 1, 1) := by decide +kernel
theorem d_M_item_2 : decode b_M_item 2 = .ok (.invokevirtual 111, 3) := by decide +kernel
theorem d_M_item_5 : decode b_M_item 5 = .ok (.istore_n 2, 1) := by decide +kernel
theorem d_M_item_6 : decode b_M_item 6 = .ok (.aload_n 0, 1) := by decide +kernel
theorem d_M_item_7 : decode b_M_item 7 = .ok (.iload_n 2, 1) := by decide +kernel
theorem d_M_item_8 : decode b_M_item 8 = .ok (.invokevirtual 102, 3) := by decide +kernel
theorem d_M_item_11 : decode b_M_item 11 = .ok (.istore_n 3, 1) := by decide +kernel
theorem d_M_item_12 : decode b_M_item 12 = .ok (.iload_n 3, 1) := by decide +kernel
theorem d_M_item_13 : decode b_M_item 13 = .ok (.bipush 42, 2) := by decide +kernel
theorem d_M_item_15 : decode b_M_item 15 = .ok (.if_icmp .eq 21, 3) := by decide +kernel
theorem d_M_item_18 : decode b_M_item 18 = .ok (.iload_n 3, 1) := by decide +kernel
theorem d_M_item_19 : decode b_M_item 19 = .ok (.bipush 43, 2) := by decide +kernel
theorem d_M_item_21 : decode b_M_item 21 = .ok (.if_icmp .eq 15, 3) := by decide +kernel
theorem d_M_item_24 : decode b_M_item 24 = .ok (.iload_n 3, 1) := by decide +kernel
theorem d_M_item_25 : decode b_M_item 25 = .ok (.bipush 63, 2) := by decide +kernel
theorem d_M_item_27 : decode b_M_item 27 = .ok (.if_icmp .eq 9, 3) := by decide +kernel
theorem d_M_item_30 : decode b_M_item 30 = .ok (.iload_n 3, 1) := by decide +kernel
theorem d_M_item_31 : decode b_M_item 31 = .ok (.bipush 123, 2) := by decide +kernel
theorem d_M_item_33 : decode b_M_item 33 = .ok (.if_icmp .ne 7, 3) := by decide +kernel
theorem d_M_item_36 : decode b_M_item 36 = .ok (.iconst 1, 1) := by decide +kernel
theorem d_M_item_37 : decode b_M_item 37 = .ok (.goto 4, 3) := by decide +kernel
theorem d_M_item_40 : decode b_M_item 40 = .ok (.iconst 0, 1) := by decide +kernel
theorem d_M_item_41 : decode b_M_item 41 = .ok (.istore 4, 2) := by decide +kernel
theorem d_M_item_43 : decode b_M_item 43 = .ok (.iload_n 3, 1) := by decide +kernel
theorem d_M_item_44 : decode b_M_item 44 = .ok (.bipush 123, 2) := by decide +kernel
theorem d_M_item_46 : decode b_M_item 46 = .ok (.if_icmp .ne 9, 3) := by decide +kernel
theorem d_M_item_49 : decode b_M_item 49 = .ok (.iload_n 2, 1) := by decide +kernel
theorem d_M_item_50 : decode b_M_item 50 = .ok (.iconst 3, 1) := by decide +kernel
theorem d_M_item_51 : decode b_M_item 51 = .ok (.iadd, 1) := by decide +kernel
theorem d_M_item_52 : decode b_M_item 52 = .ok (.goto 6, 3) := by decide +kernel
theorem d_M_item_55 : decode b_M_item 55 = .ok (.iload_n 2, 1) := by decide +kernel
theorem d_M_item_56 : decode b_M_item 56 = .ok (.iconst 1, 1) := by decide +kernel
theorem d_M_item_57 : decode b_M_item 57 = .ok (.iadd, 1) := by decide +kernel
theorem d_M_item_58 : decode b_M_item 58 = .ok (.istore 5, 2) := by decide +kernel
theorem d_M_item_60 : decode b_M_item 60 = .ok (.iload 4, 2) := by decide +kernel
theorem d_M_item_62 : decode b_M_item 62 = .ok (.ifCond .eq 34, 3) := by decide +kernel
theorem d_M_item_65 : decode b_M_item 65 = .ok (.aload_n 0, 1) := by decide +kernel
theorem d_M_item_66 : decode b_M_item 66 = .ok (.iload 5, 2) := by decide +kernel
theorem d_M_item_68 : decode b_M_item 68 = .ok (.invokevirtual 102, 3) := by decide +kernel
theorem d_M_item_71 : decode b_M_item 71 = .ok (.bipush 63, 2) := by decide +kernel
theorem d_M_item_73 : decode b_M_item 73 = .ok (.if_icmp .eq 14, 3) := by decide +kernel
theorem d_M_item_76 : decode b_M_item 76 = .ok (.aload_n 0, 1) := by decide +kernel
theorem d_M_item_77 : decode b_M_item 77 = .ok (.iload 5, 2) := by decide +kernel
theorem d_M_item_79 : decode b_M_item 79 = .ok (.invokevirtual 102, 3) := by decide +kernel
theorem d_M_item_82 : decode b_M_item 82 = .ok (.bipush 43, 2) := by decide +kernel
theorem d_M_item_84 : decode b_M_item 84 = .ok (.if_icmp .ne 12, 3) := by decide +kernel
theorem d_M_item_87 : decode b_M_item 87 = .ok (.aload_n 0, 1) := by decide +kernel
theorem d_M_item_88 : decode b_M_item 88 = .ok (.iload 5, 2) := by decide +kernel
theorem d_M_item_90 : decode b_M_item 90 = .ok (.invokevirtual 102, 3) := by decide +kernel
theorem d_M_item_93 : decode b_M_item 93 = .ok (.goto 4, 3) := by decide +kernel
theorem d_M_item_96 : decode b_M_item 96 = .ok (.iconst 0, 1) := by decide +kernel
theorem d_M_item_97 : decode b_M_item 97 = .ok (.istore 6, 2) := by decide +kernel
theorem d_M_item_99 : decode b_M_item 99 = .ok (.iload 4, 2) := by decide +kernel
theorem d_M_item_101 : decode b_M_item 101 = .ok (.ifCond .ne 7, 3) := by decide +kernel
theorem d_M_item_104 : decode b_M_item 104 = .ok (.iload_n 2, 1) := by decide +kernel
theorem d_M_item_105 : decode b_M_item 105 = .ok (.goto 17, 3) := by decide +kernel
theorem d_M_item_108 : decode b_M_item 108 = .ok (.iload 6, 2) := by decide +kernel
theorem d_M_item_110 : decode b_M_item 110 = .ok (.ifCond .ne 8, 3) := by decide +kernel
theorem d_M_item_113 : decode b_M_item 113 = .ok (.iload 5, 2) := by decide +kernel
theorem d_M_item_115 : decode b_M_item 115 = .ok (.goto 7, 3) := by decide +kernel
theorem d_M_item_118 : decode b_M_item 118 = .ok (.iload 5, 2) := by decide +kernel
theorem d_M_item_120 : decode b_M_item 120 = .ok (.iconst 1, 1) := by decide +kernel
theorem d_M_item_121 : decode b_M_item 121 = .ok (.iadd, 1) := by decide +kernel
theorem d_M_item_122 : decode b_M_item 122 = .ok (.istore 7, 2) := by decide +kernel
theorem d_M_item_124 : decode b_M_item 124 = .ok (.iload_n 3, 1) := by decide +kernel
theorem d_M_item_125 : decode b_M_item 125 = .ok (.bipush 123, 2) := by decide +kernel
theorem d_M_item_127 : decode b_M_item 127 = .ok (.if_icmp .ne 27, 3) := by decide +kernel
theorem d_M_item_130 : decode b_M_item 130 = .ok (.aload_n 0, 1) := by decide +kernel
theorem d_M_item_131 : decode b_M_item 131 = .ok (.iload_n 2, 1) := by decide +kernel
theorem d_M_item_132 : decode b_M_item 132 = .ok (.iconst 1, 1) := by decide +kernel
theorem d_M_item_133 : decode b_M_item 133 = .ok (.iadd, 1) := by decide +kernel
theorem d_M_item_134 : decode b_M_item 134 = .ok (.invokevirtual 102, 3) := by decide +kernel
theorem d_M_item_137 : decode b_M_item 137 = .ok (.bipush 48, 2) := by decide +kernel
theorem d_M_item_139 : decode b_M_item 139 = .ok (.if_icmp .ne 15, 3) := by decide +kernel
theorem d_M_item_142 : decode b_M_item 142 = .ok (.aload_n 0, 1) := by decide +kernel
theorem d_M_item_143 : decode b_M_item 143 = .ok (.iconst 0, 1) := by decide +kernel
theorem d_M_item_144 : decode b_M_item 144 = .ok (.iload 7, 2) := by decide +kernel
theorem d_M_item_146 : decode b_M_item 146 = .ok (.aload_n 0, 1) := by decide +kernel
theorem d_M_item_147 : decode b_M_item 147 = .ok (.getfield 133, 3) := by decide +kernel
theorem d_M_item_150 : decode b_M_item 150 = .ok (.invokevirtual 163, 3) := by decide +kernel
theorem d_M_item_153 : decode b_M_item 153 = .ok (.return_, 1) := by decide +kernel
theorem d_M_item_154 : decode b_M_item 154 = .ok (.aload_n 0, 1) := by decide +kernel
theorem d_M_item_155 : decode b_M_item 155 = .ok (.iconst 1, 1) := by decide +kernel
theorem d_M_item_156 : decode b_M_item 156 = .ok (.iload 7, 2) := by decide +kernel
theorem d_M_item_158 : decode b_M_item 158 = .ok (.iconst 0, 1) := by decide +kernel
theorem d_M_item_159 : decode b_M_item 159 = .ok (.aload_n 0, 1) := by decide +kernel
theorem d_M_item_160 : decode b_M_item 160 = .ok (.getfield 133, 3) := by decide +kernel
theorem d_M_item_163 : decode b_M_item 163 = .ok (.invokevirtual 159, 3) := by decide +kernel
theorem d_M_item_166 : decode b_M_item 166 = .ok (.istore 8, 2) := by decide +kernel
theorem d_M_item_168 : decode b_M_item 168 = .ok (.iload 6, 2) := by decide +kernel
theorem d_M_item_170 : decode b_M_item 170 = .ok (.bipush 43, 2) := by decide +kernel
theorem d_M_item_172 : decode b_M_item 172 = .ok (.if_icmp .ne 18, 3) := by decide +kernel
theorem d_M_item_175 : decode b_M_item 175 = .ok (.aload_n 0, 1) := by decide +kernel
theorem d_M_item_176 : decode b_M_item 176 = .ok (.bipush 7, 2) := by decide +kernel
theorem d_M_item_178 : decode b_M_item 178 = .ok (.iconst 0, 1) := by decide +kernel
theorem d_M_item_179 : decode b_M_item 179 = .ok (.aload_n 0, 1) := by decide +kernel
theorem d_M_item_180 : decode b_M_item 180 = .ok (.getfield 117, 3) := by decide +kernel
theorem d_M_item_183 : decode b_M_item 183 = .ok (.iload 8, 2) := by decide +kernel
theorem d_M_item_185 : decode b_M_item 185 = .ok (.invokevirtual 159, 3) := by decide +kernel
theorem d_M_item_188 : decode b_M_item 188 = .ok (.istore 8, 2) := by decide +kernel
theorem d_M_item_190 : decode b_M_item 190 = .ok (.iload 4, 2) := by decide +kernel
theorem d_M_item_192 : decode b_M_item 192 = .ok (.ifCond .ne 14, 3) := by decide +kernel
theorem d_M_item_195 : decode b_M_item 195 = .ok (.aload_n 0, 1) := by decide +kernel
theorem d_M_item_196 : decode b_M_item 196 = .ok (.iconst 2, 1) := by decide +kernel
theorem d_M_item_197 : decode b_M_item 197 = .ok (.iload_n 1, 1) := by decide +kernel
theorem d_M_item_198 : decode b_M_item 198 = .ok (.iload 8, 2) := by decide +kernel
theorem d_M_item_200 : decode b_M_item 200 = .ok (.invokevirtual 163, 3) := by decide +kernel
theorem d_M_item_203 : decode b_M_item 203 = .ok (.goto 140, 3) := by decide +kernel
theorem d_M_item_206 : decode b_M_item 206 = .ok (.iload_n 3, 1) := by decide +kernel
theorem d_M_item_207 : decode b_M_item 207 = .ok (.bipush 42, 2) := by decide +kernel
theorem d_M_item_209 : decode b_M_item 209 = .ok (.if_icmp .ne 25, 3) := by decide +kernel
theorem d_M_item_212 : decode b_M_item 212 = .ok (.aload_n 0, 1) := by decide +kernel
theorem d_M_item_213 : decode b_M_item 213 = .ok (.iload 6, 2) := by decide +kernel
theorem d_M_item_215 : decode b_M_item 215 = .ok (.bipush 63, 2) := by decide +kernel
theorem d_M_item_217 : decode b_M_item 217 = .ok (.if_icmp .ne 7, 3) := by decide +kernel
theorem d_M_item_220 : decode b_M_item 220 = .ok (.iconst 4, 1) := by decide +kernel
theorem d_M_item_221 : decode b_M_item 221 = .ok (.goto 4, 3) := by decide +kernel
theorem d_M_item_224 : decode b_M_item 224 = .ok (.iconst 3, 1) := by decide +kernel
theorem d_M_item_225 : decode b_M_item 225 = .ok (.iload_n 1, 1) := by decide +kernel
theorem d_M_item_226 : decode b_M_item 226 = .ok (.iload 8, 2) := by decide +kernel
theorem d_M_item_228 : decode b_M_item 228 = .ok (.invokevirtual 163, 3) := by decide +kernel
theorem d_M_item_231 : decode b_M_item 231 = .ok (.goto 112, 3) := by decide +kernel
theorem d_M_item_234 : decode b_M_item 234 = .ok (.iload_n 3, 1) := by decide +kernel
theorem d_M_item_235 : decode b_M_item 235 = .ok (.bipush 43, 2) := by decide +kernel
theorem d_M_item_237 : decode b_M_item 237 = .ok (.if_icmp .ne 34, 3) := by decide +kernel
theorem d_M_item_240 : decode b_M_item 240 = .ok (.aload_n 0, 1) := by decide +kernel
theorem d_M_item_241 : decode b_M_item 241 = .ok (.iconst 2, 1) := by decide +kernel
theorem d_M_item_242 : decode b_M_item 242 = .ok (.iload_n 1, 1) := by decide +kernel
theorem d_M_item_243 : decode b_M_item 243 = .ok (.aload_n 0, 1) := by decide +kernel
theorem d_M_item_244 : decode b_M_item 244 = .ok (.iload 6, 2) := by decide +kernel
theorem d_M_item_246 : decode b_M_item 246 = .ok (.bipush 63, 2) := by decide +kernel
theorem d_M_item_248 : decode b_M_item 248 = .ok (.if_icmp .ne 8, 3) := by decide +kernel
theorem d_M_item_251 : decode b_M_item 251 = .ok (.bipush 11, 2) := by decide +kernel
theorem d_M_item_253 : decode b_M_item 253 = .ok (.goto 5, 3) := by decide +kernel
theorem d_M_item_256 : decode b_M_item 256 = .ok (.bipush 10, 2) := by decide +kernel
theorem d_M_item_258 : decode b_M_item 258 = .ok (.iload_n 1, 1) := by decide +kernel
theorem d_M_item_259 : decode b_M_item 259 = .ok (.iconst 0, 1) := by decide +kernel
theorem d_M_item_260 : decode b_M_item 260 = .ok (.iload 8, 2) := by decide +kernel
theorem d_M_item_262 : decode b_M_item 262 = .ok (.invokevirtual 159, 3) := by decide +kernel
theorem d_M_item_265 : decode b_M_item 265 = .ok (.invokevirtual 163, 3) := by decide +kernel
theorem d_M_item_268 : decode b_M_item 268 = .ok (.goto 75, 3) := by decide +kernel
theorem d_M_item_271 : decode b_M_item 271 = .ok (.iload_n 3, 1) := by decide +kernel
theorem d_M_item_272 : decode b_M_item 272 = .ok (.bipush 123, 2) := by decide +kernel
theorem d_M_item_274 : decode b_M_item 274 = .ok (.if_icmp .ne 31, 3) := by decide +kernel
theorem d_M_item_277 : decode b_M_item 277 = .ok (.aload_n 0, 1) := by decide +kernel
theorem d_M_item_278 : decode b_M_item 278 = .ok (.iconst 2, 1) := by decide +kernel
theorem d_M_item_279 : decode b_M_item 279 = .ok (.iload_n 1, 1) := by decide +kernel
theorem d_M_item_280 : decode b_M_item 280 = .ok (.aload_n 0, 1) := by decide +kernel
theorem d_M_item_281 : decode b_M_item 281 = .ok (.bipush 6, 2) := by decide +kernel
theorem d_M_item_283 : decode b_M_item 283 = .ok (.iload_n 1, 1) := by decide +kernel
theorem d_M_item_284 : decode b_M_item 284 = .ok (.aload_n 0, 1) := by decide +kernel
theorem d_M_item_285 : decode b_M_item 285 = .ok (.iload_n 2, 1) := by decide +kernel
theorem d_M_item_286 : decode b_M_item 286 = .ok (.iconst 1, 1) := by decide +kernel
theorem d_M_item_287 : decode b_M_item 287 = .ok (.iadd, 1) := by decide +kernel
theorem d_M_item_288 : decode b_M_item 288 = .ok (.invokevirtual 102, 3) := by decide +kernel
theorem d_M_item_291 : decode b_M_item 291 = .ok (.bipush 49, 2) := by decide +kernel
theorem d_M_item_293 : decode b_M_item 293 = .ok (.isub, 1) := by decide +kernel
theorem d_M_item_294 : decode b_M_item 294 = .ok (.iload 8, 2) := by decide +kernel
theorem d_M_item_296 : decode b_M_item 296 = .ok (.invokevirtual 159, 3) := by decide +kernel
theorem d_M_item_299 : decode b_M_item 299 = .ok (.invokevirtual 163, 3) := by decide +kernel
theorem d_M_item_302 : decode b_M_item 302 = .ok (.goto 41, 3) := by decide +kernel
theorem d_M_item_305 : decode b_M_item 305 = .ok (.aload_n 0, 1) := by decide +kernel
theorem d_M_item_306 : decode b_M_item 306 = .ok (.iload 6, 2) := by decide +kernel
theorem d_M_item_308 : decode b_M_item 308 = .ok (.bipush 63, 2) := by decide +kernel
theorem d_M_item_310 : decode b_M_item 310 = .ok (.if_icmp .ne 7, 3) := by decide +kernel
theorem d_M_item_313 : decode b_M_item 313 = .ok (.iconst 2, 1) := by decide +kernel
theorem d_M_item_314 : decode b_M_item 314 = .ok (.goto 4, 3) := by decide +kernel
theorem d_M_item_317 : decode b_M_item 317 = .ok (.iconst 5, 1) := by decide +kernel
theorem d_M_item_318 : decode b_M_item 318 = .ok (.iload_n 1, 1) := by decide +kernel
theorem d_M_item_319 : decode b_M_item 319 = .ok (.iload 8, 2) := by decide +kernel
theorem d_M_item_321 : decode b_M_item 321 = .ok (.invokevirtual 167, 3) := by decide +kernel
theorem d_M_item_324 : decode b_M_item 324 = .ok (.aload_n 0, 1) := by decide +kernel
theorem d_M_item_325 : decode b_M_item 325 = .ok (.iload 6, 2) := by decide +kernel
theorem d_M_item_327 : decode b_M_item 327 = .ok (.bipush 63, 2) := by decide +kernel
theorem d_M_item_329 : decode b_M_item 329 = .ok (.if_icmp .ne 7, 3) := by decide +kernel
theorem d_M_item_332 : decode b_M_item 332 = .ok (.iconst 5, 1) := by decide +kernel
theorem d_M_item_333 : decode b_M_item 333 = .ok (.goto 4, 3) := by decide +kernel
theorem d_M_item_336 : decode b_M_item 336 = .ok (.iconst 2, 1) := by decide +kernel
theorem d_M_item_337 : decode b_M_item 337 = .ok (.iload_n 1, 1) := by decide +kernel
theorem d_M_item_338 : decode b_M_item 338 = .ok (.iload 8, 2) := by decide +kernel
theorem d_M_item_340 : decode b_M_item 340 = .ok (.invokevirtual 163, 3) := by decide +kernel
theorem d_M_item_343 : decode b_M_item 343 = .ok (.return_, 1) := by decide +kernel
section MW
variable {p : Program} {l : Launch} {e : Env} {s : State} {m : MethodId} {args : Array Value} {below : List Frame} {meth : Method} {c : Code} {x : GX} {a : Nat → Nat} {A : Nat → Prop}
set_option maxHeartbeats 4000000 in
set_option maxRecDepth 20000 in
theorem c_M_push {x : GX} {a : Nat → Nat} (l : Launch) (x1 : Int32) (x2 : Int32) (x3 : Int32) (x4 : Int32) (u : MS) (sz : Nat) (Qc : Int32 → MS → Prop) (h : P_M_push x1 x2 x3 x4 u Qc) : Met l y_M_push (wM y_M_push b_M_push 5 (some .int)) (rmN 0 0 0) (PreC x (mcl x a) [.ref (a 0), .int x1, .int x2, .int x3, .int x4] u sz) (QcI x (mcl x a) (va_A ((mcl x a) u) sz) Qc) 0 0 (va_A ((mcl x a) u) sz) := by
  refine w_enter (by decide +kernel) (Nat.le_of_ble_eq_true rfl) (fun p e s m args below meth c S hr hlk _ hK hA hw ls hl => ?_)
  have hl : lv_has ls 5 [(0, .ref (a 0)), (1, .int x1), (2, .int x2), (3, .int x3), (4, .int x4)] := hl
  refine lv_aload_n S.1 S.2.1 d_M_push_0 rfl (lv_at hl 0 rfl) ?_
  refine lv_dup S.1 S.2.1 d_M_push_1 rfl ?_
  refine mg_frames S hK hw d_M_push_2 ?_
  refine lv_iconst (v := 1) S.1 S.2.1 d_M_push_5 (by decide) ?_
  refine lv_iadd S.1 S.2.1 d_M_push_6 ?_
  refine mp_frames S hK hw d_M_push_7 (fun H locs hw => ?_)
  refine lv_aload_n S.1 S.2.1 d_M_push_10 rfl (lv_at hl 0 rfl) ?_
  refine mg_frame S hK hw d_M_push_11 ?_
  refine lv_aload_n S.1 S.2.1 d_M_push_14 rfl (lv_at hl 0 rfl) ?_
  refine mg_frames S hK hw d_M_push_15 ?_
  refine lv_iload_n S.1 S.2.1 d_M_push_18 rfl (lv_at hl 1 rfl) ?_
  refine lv_iload_n S.1 S.2.1 d_M_push_19 rfl (lv_at hl 2 rfl) ?_
  refine lv_iconst (v := 4) S.1 S.2.1 d_M_push_20 (by decide) ?_
  refine lv_ishl S.1 S.2.1 d_M_push_21 ?_
  refine lv_ior S.1 S.2.1 d_M_push_22 ?_
  refine lv_iload_n S.1 S.2.1 d_M_push_23 rfl (lv_at hl 3 rfl) ?_
  refine lv_bipush (v := 10) S.1 S.2.1 d_M_push_24 (by decide) ?_
  refine lv_ishl S.1 S.2.1 d_M_push_26 ?_
  refine lv_ior S.1 S.2.1 d_M_push_27 ?_
  refine lv_i2l S.1 S.2.1 d_M_push_28 rfl ?_
  refine lv_iload S.1 S.2.1 d_M_push_29 (lv_at hl 4 rfl) ?_
  refine lv_i2l S.1 S.2.1 d_M_push_31 rfl ?_
  refine lv_bipush (v := 23) S.1 S.2.1 d_M_push_32 (by decide) ?_
  refine lv_lshl S.1 S.2.1 d_M_push_34 rfl ?_
  refine lv_lor S.1 S.2.1 d_M_push_35 ?_
  have hg := h.1
  have h := h.2
  refine mt_frame S hK hw hg d_M_push_36 (fun H locs hw => ?_)
  refine lv_aload_n S.1 S.2.1 d_M_push_37 rfl (lv_at hl 0 rfl) ?_
  refine mg_frames S hK hw d_M_push_38 ?_
  exact w_iret S hr hlk hK hw h d_M_push_41
set_option maxHeartbeats 4000000 in
set_option maxRecDepth 20000 in
theorem c_M_pushBack {x : GX} {a : Nat → Nat} (l : Launch) (x1 : Int32) (x2 : Int32) (x3 : Int32) (u : MS) (sz : Nat) (Qc : MS → Prop) (h : P_M_pushBack x1 x2 x3 u Qc) : Met l y_M_pushBack (wM y_M_pushBack b_M_pushBack 4 none) (rmN 0 0 0) (PreC x (mcl x a) [.ref (a 0), .int x1, .int x2, .int x3] u sz) (QcV x (mcl x a) (va_A ((mcl x a) u) sz) Qc) 0 0 (va_A ((mcl x a) u) sz) := by
  refine w_enter (by decide +kernel) (Nat.le_of_ble_eq_true rfl) (fun p e s m args below meth c S hr hlk _ hK hA hw ls hl => ?_)
  have hl : lv_has ls 4 [(0, .ref (a 0)), (1, .int x1), (2, .int x2), (3, .int x3)] := hl
  refine lv_aload_n S.1 S.2.1 d_M_pushBack_0 rfl (lv_at hl 0 rfl) ?_
  refine mg_back S hK hw d_M_pushBack_1 ?_
  refine lv_aload_n S.1 S.2.1 d_M_pushBack_4 rfl (lv_at hl 0 rfl) ?_
  refine mg_backs S hK hw d_M_pushBack_5 ?_
  refine lv_iload_n S.1 S.2.1 d_M_pushBack_8 rfl (lv_at hl 1 rfl) ?_
  refine lv_iload_n S.1 S.2.1 d_M_pushBack_9 rfl (lv_at hl 2 rfl) ?_
  refine lv_iconst (v := 3) S.1 S.2.1 d_M_pushBack_10 (by decide) ?_
  refine lv_ishl S.1 S.2.1 d_M_pushBack_11 ?_
  refine lv_ior S.1 S.2.1 d_M_pushBack_12 ?_
  refine lv_aload_n S.1 S.2.1 d_M_pushBack_13 rfl (lv_at hl 0 rfl) ?_
  refine mg_p S hK hw d_M_pushBack_14 ?_
  refine lv_bipush (v := 9) S.1 S.2.1 d_M_pushBack_17 (by decide) ?_
  refine lv_ishl S.1 S.2.1 d_M_pushBack_19 ?_
  refine lv_ior S.1 S.2.1 d_M_pushBack_20 ?_
  refine lv_i2l S.1 S.2.1 d_M_pushBack_21 rfl ?_
  refine lv_iload_n S.1 S.2.1 d_M_pushBack_22 rfl (lv_at hl 3 rfl) ?_
  refine lv_i2l S.1 S.2.1 d_M_pushBack_23 rfl ?_
  refine lv_bipush (v := 15) S.1 S.2.1 d_M_pushBack_24 (by decide) ?_
  refine lv_lshl S.1 S.2.1 d_M_pushBack_26 rfl ?_
  refine lv_lor S.1 S.2.1 d_M_pushBack_27 ?_
  refine lv_aload_n S.1 S.2.1 d_M_pushBack_28 rfl (lv_at hl 0 rfl) ?_
  refine mg_frames S hK hw d_M_pushBack_29 ?_
  refine lv_i2l S.1 S.2.1 d_M_pushBack_32 rfl ?_
  refine lv_bipush (v := 28) S.1 S.2.1 d_M_pushBack_33 (by decide) ?_
  refine lv_lshl S.1 S.2.1 d_M_pushBack_35 rfl ?_
  refine lv_lor S.1 S.2.1 d_M_pushBack_36 ?_
  have hg := h.1
  have h := h.2
  refine mt_back S hK hw hg d_M_pushBack_37 (fun H locs hw => ?_)
  refine lv_aload_n S.1 S.2.1 d_M_pushBack_38 rfl (lv_at hl 0 rfl) ?_
  refine mg_bKept S hK hw d_M_pushBack_39 ?_
  refine lv_aload_n S.1 S.2.1 d_M_pushBack_42 rfl (lv_at hl 0 rfl) ?_
  refine mg_backs S hK hw d_M_pushBack_43 ?_
  refine lv_aload_n S.1 S.2.1 d_M_pushBack_46 rfl (lv_at hl 0 rfl) ?_
  refine mg_caps S hK hw d_M_pushBack_47 ?_
  have hg := h.1
  have h := h.2
  refine mt_bKept S hK hw hg d_M_pushBack_50 (fun H locs hw => ?_)
  refine lv_aload_n S.1 S.2.1 d_M_pushBack_51 rfl (lv_at hl 0 rfl) ?_
  refine lv_dup S.1 S.2.1 d_M_pushBack_52 rfl ?_
  refine mg_backs S hK hw d_M_pushBack_53 ?_
  refine lv_iconst (v := 1) S.1 S.2.1 d_M_pushBack_56 (by decide) ?_
  refine lv_iadd S.1 S.2.1 d_M_pushBack_57 ?_
  refine mp_backs S hK hw d_M_pushBack_58 (fun H locs hw => ?_)
  exact w_vret S hr hlk hK hw h d_M_pushBack_61
set_option maxHeartbeats 4000000 in
set_option maxRecDepth 20000 in
theorem wB_M_item_337 (S : CallFix p m c b_M_item 9 s args lw_tg R_Mod) (hr : meth.sig.returnType = none) (hlk : meth.locks = false) (hK : GK x s) (hA : ∀ q : Nat, s.heap.size ≤ q → A q) {Qc : MS → Prop} : ∀ (x1 : Int32) (x8 : Int32) (t1 : Int32) (u : MS) (ls : Array Slot) (H : Heap) (locs : List Loc), lv_has ls 9 [(1, .int x1), (8, .int x8)] → wd x A s.heap ((mcl x a) u) H locs → B_M_item_337 Qc  x1 x8 t1 u → W p l e (rmN 2 0 0) s m args below meth c H locs 0 0 (MQ below (QcV x (mcl x a) A Qc) args s 0 0 A) (F0 m 337 ls [.int t1, .ref (a 0)]) := by
  intro x1 x8 t1 u ls H locs hl hw h
  refine lv_iload_n S.1 S.2.1 d_M_item_337 rfl (lv_at hl 0 rfl) ?_
  refine lv_iload S.1 S.2.1 d_M_item_338 (lv_at hl 1 rfl) ?_
  refine w_cv hA hw (w_rv (rest := []) S hK hw (c_M_go l t1 x1 x8 u _ _ h) (ci := 0) (q0 := 0) rfl rfl (w_cb (fr := 0) (lv := 0) S.2.2.2.2 k_1027 k_1024 k_8 yd_M_go rfl rfl ⟨Nat.le_of_ble_eq_true rfl, Nat.le_of_ble_eq_true rfl⟩) k_1026 s_45 rfl hl.1 rfl (Nat.le_of_ble_eq_true rfl) d_M_item_340 ⟨Nat.le_refl _, Nat.le_refl _⟩) (fun u_340 H locs h hw => ?_)
  exact w_vret S hr hlk hK hw h d_M_item_343
set_option maxHeartbeats 4000000 in
set_option maxRecDepth 20000 in
theorem wB_M_item_318 (S : CallFix p m c b_M_item 9 s args lw_tg R_Mod) (hr : meth.sig.returnType = none) (hlk : meth.locks = false) (hK : GK x s) (hA : ∀ q : Nat, s.heap.size ≤ q → A q) {Qc : MS → Prop} : ∀ (x1 : Int32) (x6 : Int32) (x8 : Int32) (t1 : Int32) (u : MS) (ls : Array Slot) (H : Heap) (locs : List Loc), lv_has ls 9 [(0, .ref (a 0)), (1, .int x1), (6, .int x6), (8, .int x8)] → wd x A s.heap ((mcl x a) u) H locs → B_M_item_318 Qc  x1 x6 x8 t1 u → W p l e (rmN 2 0 0) s m args below meth c H locs 0 0 (MQ below (QcV x (mcl x a) A Qc) args s 0 0 A) (F0 m 318 ls [.int t1, .ref (a 0)]) := by
  intro x1 x6 x8 t1 u ls H locs hl hw h
  refine lv_iload_n S.1 S.2.1 d_M_item_318 rfl (lv_at hl 1 rfl) ?_
  refine lv_iload S.1 S.2.1 d_M_item_319 (lv_at hl 3 rfl) ?_
  refine w_cv hA hw (w_rv (rest := []) S hK hw (c_M_pushBack l t1 x1 x8 u _ _ h) (ci := 0) (q0 := 0) rfl rfl (w_cb (fr := 0) (lv := 0) S.2.2.2.2 k_1060 k_1057 k_8 yd_M_pushBack rfl rfl ⟨Nat.le_of_ble_eq_true rfl, Nat.le_of_ble_eq_true rfl⟩) k_1059 s_53 rfl hl.1 rfl (Nat.le_of_ble_eq_true rfl) d_M_item_321 ⟨Nat.le_refl _, Nat.le_refl _⟩) (fun u_321 H locs h hw => ?_)
  refine lv_aload_n S.1 S.2.1 d_M_item_324 rfl (lv_at hl 0 rfl) ?_
  refine lv_iload S.1 S.2.1 d_M_item_325 (lv_at hl 2 rfl) ?_
  refine lv_bipush (v := 63) S.1 S.2.1 d_M_item_327 (by decide) ?_
  refine lv_icmp_ne (tgt := 336) S.1 S.2.1 d_M_item_329 (by decide) (fun q_329 => ?_) (fun q_329 => ?_)
  · have h := h.2 q_329
    refine lv_iconst (v := 2) S.1 S.2.1 d_M_item_336 (by decide) ?_
    exact wB_M_item_337 S hr hlk hK hA  x1 x8 (2 : Int32) u_321 _ _ _ (lv_sub hl [1, 3] rfl) hw h
  · have h := h.1 q_329
    refine lv_iconst (v := 5) S.1 S.2.1 d_M_item_332 (by decide) ?_
    refine lv_goto (tgt := 337) S.1 S.2.1 d_M_item_333 (by decide) ?_
    exact wB_M_item_337 S hr hlk hK hA  x1 x8 (5 : Int32) u_321 _ _ _ (lv_sub hl [1, 3] rfl) hw h
set_option maxHeartbeats 4000000 in
set_option maxRecDepth 20000 in
theorem wB_M_item_258 (S : CallFix p m c b_M_item 9 s args lw_tg R_Mod) (hr : meth.sig.returnType = none) (hlk : meth.locks = false) (hK : GK x s) (hA : ∀ q : Nat, s.heap.size ≤ q → A q) {Qc : MS → Prop} : ∀ (x1 : Int32) (x8 : Int32) (t1 : Int32) (t2 : Int32) (t4 : Int32) (u : MS) (ls : Array Slot) (H : Heap) (locs : List Loc), lv_has ls 9 [(1, .int x1), (8, .int x8)] → wd x A s.heap ((mcl x a) u) H locs → B_M_item_258 Qc  x1 x8 t1 t2 t4 u → W p l e (rmN 2 0 0) s m args below meth c H locs 0 0 (MQ below (QcV x (mcl x a) A Qc) args s 0 0 A) (F0 m 258 ls [.int t4, .ref (a 0), .int t2, .int t1, .ref (a 0)]) := by
  intro x1 x8 t1 t2 t4 u ls H locs hl hw h
  refine lv_iload_n S.1 S.2.1 d_M_item_258 rfl (lv_at hl 0 rfl) ?_
  refine lv_iconst (v := 0) S.1 S.2.1 d_M_item_259 (by decide) ?_
  refine lv_iload S.1 S.2.1 d_M_item_260 (lv_at hl 1 rfl) ?_
  refine w_ci hA hw (w_rv (rest := [.int t2, .int t1, .ref (a 0)]) S hK hw (c_M_push l t4 x1 (0 : Int32) x8 u _ _ h) (ci := 0) (q0 := 0) rfl rfl (w_cb (fr := 0) (lv := 0) S.2.2.2.2 k_1056 k_1053 k_8 yd_M_push rfl rfl ⟨Nat.le_of_ble_eq_true rfl, Nat.le_of_ble_eq_true rfl⟩) k_1055 s_52 rfl hl.1 rfl (Nat.le_of_ble_eq_true rfl) d_M_item_262 ⟨Nat.le_refl _, Nat.le_refl _⟩) (fun r_262 u_262 H locs h hw => ?_)
  refine w_cv hA hw (w_rv (rest := []) S hK hw (c_M_go l t1 t2 r_262 u_262 _ _ h) (ci := 0) (q0 := 0) rfl rfl (w_cb (fr := 0) (lv := 0) S.2.2.2.2 k_1027 k_1024 k_8 yd_M_go rfl rfl ⟨Nat.le_of_ble_eq_true rfl, Nat.le_of_ble_eq_true rfl⟩) k_1026 s_45 rfl hl.1 rfl (Nat.le_of_ble_eq_true rfl) d_M_item_265 ⟨Nat.le_refl _, Nat.le_refl _⟩) (fun u_265 H locs h hw => ?_)
  refine lv_goto (tgt := 343) S.1 S.2.1 d_M_item_268 (by decide) ?_
  exact w_vret S hr hlk hK hw h d_M_item_343
set_option maxHeartbeats 4000000 in
set_option maxRecDepth 20000 in
theorem wB_M_item_225 (S : CallFix p m c b_M_item 9 s args lw_tg R_Mod) (hr : meth.sig.returnType = none) (hlk : meth.locks = false) (hK : GK x s) (hA : ∀ q : Nat, s.heap.size ≤ q → A q) {Qc : MS → Prop} : ∀ (x1 : Int32) (x8 : Int32) (t1 : Int32) (u : MS) (ls : Array Slot) (H : Heap) (locs : List Loc), lv_has ls 9 [(1, .int x1), (8, .int x8)] → wd x A s.heap ((mcl x a) u) H locs → B_M_item_225 Qc  x1 x8 t1 u → W p l e (rmN 2 0 0) s m args below meth c H locs 0 0 (MQ below (QcV x (mcl x a) A Qc) args s 0 0 A) (F0 m 225 ls [.int t1, .ref (a 0)]) := by
  intro x1 x8 t1 u ls H locs hl hw h
  refine lv_iload_n S.1 S.2.1 d_M_item_225 rfl (lv_at hl 0 rfl) ?_
  refine lv_iload S.1 S.2.1 d_M_item_226 (lv_at hl 1 rfl) ?_
  refine w_cv hA hw (w_rv (rest := []) S hK hw (c_M_go l t1 x1 x8 u _ _ h) (ci := 0) (q0 := 0) rfl rfl (w_cb (fr := 0) (lv := 0) S.2.2.2.2 k_1027 k_1024 k_8 yd_M_go rfl rfl ⟨Nat.le_of_ble_eq_true rfl, Nat.le_of_ble_eq_true rfl⟩) k_1026 s_45 rfl hl.1 rfl (Nat.le_of_ble_eq_true rfl) d_M_item_228 ⟨Nat.le_refl _, Nat.le_refl _⟩) (fun u_228 H locs h hw => ?_)
  refine lv_goto (tgt := 343) S.1 S.2.1 d_M_item_231 (by decide) ?_
  exact w_vret S hr hlk hK hw h d_M_item_343
set_option maxHeartbeats 4000000 in
set_option maxRecDepth 20000 in
theorem wB_M_item_190 (S : CallFix p m c b_M_item 9 s args lw_tg R_Mod) (hr : meth.sig.returnType = none) (hlk : meth.locks = false) (hK : GK x s) (hA : ∀ q : Nat, s.heap.size ≤ q → A q) {Qc : MS → Prop} : ∀ (x1 : Int32) (x2 : Int32) (x3 : Int32) (x4 : Int32) (x6 : Int32) (x8 : Int32) (u : MS) (ls : Array Slot) (H : Heap) (locs : List Loc), lv_has ls 9 [(0, .ref (a 0)), (1, .int x1), (2, .int x2), (3, .int x3), (4, .int x4), (6, .int x6), (8, .int x8)] → wd x A s.heap ((mcl x a) u) H locs → B_M_item_190 Qc  x1 x2 x3 x4 x6 x8 u → W p l e (rmN 2 0 0) s m args below meth c H locs 0 0 (MQ below (QcV x (mcl x a) A Qc) args s 0 0 A) (F0 m 190 ls []) := by
  intro x1 x2 x3 x4 x6 x8 u ls H locs hl hw h
  refine lv_iload S.1 S.2.1 d_M_item_190 (lv_at hl 4 rfl) ?_
  refine lv_if_ne (tgt := 206) S.1 S.2.1 d_M_item_192 (by decide) (fun q_192 => ?_) (fun q_192 => ?_)
  · have h := h.2 q_192
    refine lv_iload_n S.1 S.2.1 d_M_item_206 rfl (lv_at hl 3 rfl) ?_
    refine lv_bipush (v := 42) S.1 S.2.1 d_M_item_207 (by decide) ?_
    refine lv_icmp_ne (tgt := 234) S.1 S.2.1 d_M_item_209 (by decide) (fun q_209 => ?_) (fun q_209 => ?_)
    · have h := h.2 q_209
      refine lv_iload_n S.1 S.2.1 d_M_item_234 rfl (lv_at hl 3 rfl) ?_
      refine lv_bipush (v := 43) S.1 S.2.1 d_M_item_235 (by decide) ?_
      refine lv_icmp_ne (tgt := 271) S.1 S.2.1 d_M_item_237 (by decide) (fun q_237 => ?_) (fun q_237 => ?_)
      · have h := h.2 q_237
        refine lv_iload_n S.1 S.2.1 d_M_item_271 rfl (lv_at hl 3 rfl) ?_
        refine lv_bipush (v := 123) S.1 S.2.1 d_M_item_272 (by decide) ?_
        refine lv_icmp_ne (tgt := 305) S.1 S.2.1 d_M_item_274 (by decide) (fun q_274 => ?_) (fun q_274 => ?_)
        · have h := h.2 q_274
          refine lv_aload_n S.1 S.2.1 d_M_item_305 rfl (lv_at hl 0 rfl) ?_
          refine lv_iload S.1 S.2.1 d_M_item_306 (lv_at hl 5 rfl) ?_
          refine lv_bipush (v := 63) S.1 S.2.1 d_M_item_308 (by decide) ?_
          refine lv_icmp_ne (tgt := 317) S.1 S.2.1 d_M_item_310 (by decide) (fun q_310 => ?_) (fun q_310 => ?_)
          · have h := h.2 q_310
            refine lv_iconst (v := 5) S.1 S.2.1 d_M_item_317 (by decide) ?_
            exact wB_M_item_318 S hr hlk hK hA  x1 x6 x8 (5 : Int32) u _ _ _ (lv_sub hl [0, 1, 5, 6] rfl) hw h
          · have h := h.1 q_310
            refine lv_iconst (v := 2) S.1 S.2.1 d_M_item_313 (by decide) ?_
            refine lv_goto (tgt := 318) S.1 S.2.1 d_M_item_314 (by decide) ?_
            exact wB_M_item_318 S hr hlk hK hA  x1 x6 x8 (2 : Int32) u _ _ _ (lv_sub hl [0, 1, 5, 6] rfl) hw h
        · have h := h.1 q_274
          refine lv_aload_n S.1 S.2.1 d_M_item_277 rfl (lv_at hl 0 rfl) ?_
          refine lv_iconst (v := 2) S.1 S.2.1 d_M_item_278 (by decide) ?_
          refine lv_iload_n S.1 S.2.1 d_M_item_279 rfl (lv_at hl 1 rfl) ?_
          refine lv_aload_n S.1 S.2.1 d_M_item_280 rfl (lv_at hl 0 rfl) ?_
          refine lv_bipush (v := 6) S.1 S.2.1 d_M_item_281 (by decide) ?_
          refine lv_iload_n S.1 S.2.1 d_M_item_283 rfl (lv_at hl 1 rfl) ?_
          refine lv_aload_n S.1 S.2.1 d_M_item_284 rfl (lv_at hl 0 rfl) ?_
          refine lv_iload_n S.1 S.2.1 d_M_item_285 rfl (lv_at hl 2 rfl) ?_
          refine lv_iconst (v := 1) S.1 S.2.1 d_M_item_286 (by decide) ?_
          refine lv_iadd S.1 S.2.1 d_M_item_287 ?_
          refine w_ci hA hw (w_rv (rest := [.int x1, .int (6 : Int32), .ref (a 0), .int x1, .int (2 : Int32), .ref (a 0)]) S hK hw (c_M_t l (x2 + (1 : Int32)) u _ _ h) (ci := 0) (q0 := 0) rfl rfl (w_cb (fr := 0) (lv := 0) S.2.2.2.2 k_1040 k_1037 k_8 yd_M_t rfl rfl ⟨Nat.le_of_ble_eq_true rfl, Nat.le_of_ble_eq_true rfl⟩) k_1039 s_48 rfl hl.1 rfl (Nat.le_of_ble_eq_true rfl) d_M_item_288 ⟨Nat.le_refl _, Nat.le_refl _⟩) (fun r_288 u_288 H locs h hw => ?_)
          refine lv_bipush (v := 49) S.1 S.2.1 d_M_item_291 (by decide) ?_
          refine lv_isub S.1 S.2.1 d_M_item_293 ?_
          refine lv_iload S.1 S.2.1 d_M_item_294 (lv_at hl 6 rfl) ?_
          refine w_ci hA hw (w_rv (rest := [.int x1, .int (2 : Int32), .ref (a 0)]) S hK hw (c_M_push l (6 : Int32) x1 (r_288 - (49 : Int32)) x8 u_288 _ _ h) (ci := 0) (q0 := 0) rfl rfl (w_cb (fr := 0) (lv := 0) S.2.2.2.2 k_1056 k_1053 k_8 yd_M_push rfl rfl ⟨Nat.le_of_ble_eq_true rfl, Nat.le_of_ble_eq_true rfl⟩) k_1055 s_52 rfl hl.1 rfl (Nat.le_of_ble_eq_true rfl) d_M_item_296 ⟨Nat.le_refl _, Nat.le_refl _⟩) (fun r_296 u_296 H locs h hw => ?_)
          refine w_cv hA hw (w_rv (rest := []) S hK hw (c_M_go l (2 : Int32) x1 r_296 u_296 _ _ h) (ci := 0) (q0 := 0) rfl rfl (w_cb (fr := 0) (lv := 0) S.2.2.2.2 k_1027 k_1024 k_8 yd_M_go rfl rfl ⟨Nat.le_of_ble_eq_true rfl, Nat.le_of_ble_eq_true rfl⟩) k_1026 s_45 rfl hl.1 rfl (Nat.le_of_ble_eq_true rfl) d_M_item_299 ⟨Nat.le_refl _, Nat.le_refl _⟩) (fun u_299 H locs h hw => ?_)
          refine lv_goto (tgt := 343) S.1 S.2.1 d_M_item_302 (by decide) ?_
          exact w_vret S hr hlk hK hw h d_M_item_343
      · have h := h.1 q_237
        refine lv_aload_n S.1 S.2.1 d_M_item_240 rfl (lv_at hl 0 rfl) ?_
        refine lv_iconst (v := 2) S.1 S.2.1 d_M_item_241 (by decide) ?_
        refine lv_iload_n S.1 S.2.1 d_M_item_242 rfl (lv_at hl 1 rfl) ?_
        refine lv_aload_n S.1 S.2.1 d_M_item_243 rfl (lv_at hl 0 rfl) ?_
        refine lv_iload S.1 S.2.1 d_M_item_244 (lv_at hl 5 rfl) ?_
        refine lv_bipush (v := 63) S.1 S.2.1 d_M_item_246 (by decide) ?_
        refine lv_icmp_ne (tgt := 256) S.1 S.2.1 d_M_item_248 (by decide) (fun q_248 => ?_) (fun q_248 => ?_)
        · have h := h.2 q_248
          refine lv_bipush (v := 10) S.1 S.2.1 d_M_item_256 (by decide) ?_
          exact wB_M_item_258 S hr hlk hK hA  x1 x8 (2 : Int32) x1 (10 : Int32) u _ _ _ (lv_sub hl [1, 6] rfl) hw h
        · have h := h.1 q_248
          refine lv_bipush (v := 11) S.1 S.2.1 d_M_item_251 (by decide) ?_
          refine lv_goto (tgt := 258) S.1 S.2.1 d_M_item_253 (by decide) ?_
          exact wB_M_item_258 S hr hlk hK hA  x1 x8 (2 : Int32) x1 (11 : Int32) u _ _ _ (lv_sub hl [1, 6] rfl) hw h
    · have h := h.1 q_209
      refine lv_aload_n S.1 S.2.1 d_M_item_212 rfl (lv_at hl 0 rfl) ?_
      refine lv_iload S.1 S.2.1 d_M_item_213 (lv_at hl 5 rfl) ?_
      refine lv_bipush (v := 63) S.1 S.2.1 d_M_item_215 (by decide) ?_
      refine lv_icmp_ne (tgt := 224) S.1 S.2.1 d_M_item_217 (by decide) (fun q_217 => ?_) (fun q_217 => ?_)
      · have h := h.2 q_217
        refine lv_iconst (v := 3) S.1 S.2.1 d_M_item_224 (by decide) ?_
        exact wB_M_item_225 S hr hlk hK hA  x1 x8 (3 : Int32) u _ _ _ (lv_sub hl [1, 6] rfl) hw h
      · have h := h.1 q_217
        refine lv_iconst (v := 4) S.1 S.2.1 d_M_item_220 (by decide) ?_
        refine lv_goto (tgt := 225) S.1 S.2.1 d_M_item_221 (by decide) ?_
        exact wB_M_item_225 S hr hlk hK hA  x1 x8 (4 : Int32) u _ _ _ (lv_sub hl [1, 6] rfl) hw h
  · have h := h.1 q_192
    refine lv_aload_n S.1 S.2.1 d_M_item_195 rfl (lv_at hl 0 rfl) ?_
    refine lv_iconst (v := 2) S.1 S.2.1 d_M_item_196 (by decide) ?_
    refine lv_iload_n S.1 S.2.1 d_M_item_197 rfl (lv_at hl 1 rfl) ?_
    refine lv_iload S.1 S.2.1 d_M_item_198 (lv_at hl 6 rfl) ?_
    refine w_cv hA hw (w_rv (rest := []) S hK hw (c_M_go l (2 : Int32) x1 x8 u _ _ h) (ci := 0) (q0 := 0) rfl rfl (w_cb (fr := 0) (lv := 0) S.2.2.2.2 k_1027 k_1024 k_8 yd_M_go rfl rfl ⟨Nat.le_of_ble_eq_true rfl, Nat.le_of_ble_eq_true rfl⟩) k_1026 s_45 rfl hl.1 rfl (Nat.le_of_ble_eq_true rfl) d_M_item_200 ⟨Nat.le_refl _, Nat.le_refl _⟩) (fun u_200 H locs h hw => ?_)
    refine lv_goto (tgt := 343) S.1 S.2.1 d_M_item_203 (by decide) ?_
    exact w_vret S hr hlk hK hw h d_M_item_343
set_option maxHeartbeats 4000000 in
set_option maxRecDepth 20000 in
theorem wB_M_item_154 (S : CallFix p m c b_M_item 9 s args lw_tg R_Mod) (hr : meth.sig.returnType = none) (hlk : meth.locks = false) (hK : GK x s) (hA : ∀ q : Nat, s.heap.size ≤ q → A q) {Qc : MS → Prop} : ∀ (x1 : Int32) (x2 : Int32) (x3 : Int32) (x4 : Int32) (x6 : Int32) (x7 : Int32) (u : MS) (ls : Array Slot) (H : Heap) (locs : List Loc), lv_has ls 9 [(0, .ref (a 0)), (1, .int x1), (2, .int x2), (3, .int x3), (4, .int x4), (6, .int x6), (7, .int x7)] → wd x A s.heap ((mcl x a) u) H locs → B_M_item_154 Qc  x1 x2 x3 x4 x6 x7 u → W p l e (rmN 2 0 0) s m args below meth c H locs 0 0 (MQ below (QcV x (mcl x a) A Qc) args s 0 0 A) (F0 m 154 ls []) := by
  intro x1 x2 x3 x4 x6 x7 u ls H locs hl hw h
  refine lv_aload_n S.1 S.2.1 d_M_item_154 rfl (lv_at hl 0 rfl) ?_
  refine lv_iconst (v := 1) S.1 S.2.1 d_M_item_155 (by decide) ?_
  refine lv_iload S.1 S.2.1 d_M_item_156 (lv_at hl 6 rfl) ?_
  refine lv_iconst (v := 0) S.1 S.2.1 d_M_item_158 (by decide) ?_
  refine lv_aload_n S.1 S.2.1 d_M_item_159 rfl (lv_at hl 0 rfl) ?_
  refine mg_k S hK hw d_M_item_160 ?_
  refine w_ci hA hw (w_rv (rest := []) S hK hw (c_M_push l (1 : Int32) x7 (0 : Int32) (m_k u) u _ _ h) (ci := 0) (q0 := 0) rfl rfl (w_cb (fr := 0) (lv := 0) S.2.2.2.2 k_1056 k_1053 k_8 yd_M_push rfl rfl ⟨Nat.le_of_ble_eq_true rfl, Nat.le_of_ble_eq_true rfl⟩) k_1055 s_52 rfl hl.1 rfl (Nat.le_of_ble_eq_true rfl) d_M_item_163 ⟨Nat.le_refl _, Nat.le_refl _⟩) (fun r_163 u_163 H locs h hw => ?_)
  refine lv_istore (lv' := [(8, .int r_163), (0, .ref (a 0)), (1, .int x1), (2, .int x2), (3, .int x3), (4, .int x4), (6, .int x6), (7, .int x7)]) S.1 S.2.1 d_M_item_166 hl (by decide) rfl (fun ls hl => ?_)
  refine lv_iload S.1 S.2.1 d_M_item_168 (lv_at hl 6 rfl) ?_
  refine lv_bipush (v := 43) S.1 S.2.1 d_M_item_170 (by decide) ?_
  refine lv_icmp_ne (tgt := 190) S.1 S.2.1 d_M_item_172 (by decide) (fun q_172 => ?_) (fun q_172 => ?_)
  · have h := h.2 q_172
    exact wB_M_item_190 S hr hlk hK hA  x1 x2 x3 x4 x6 r_163 u_163 _ _ _ (lv_sub hl [1, 2, 3, 4, 5, 6, 0] rfl) hw h
  · have h := h.1 q_172
    refine lv_aload_n S.1 S.2.1 d_M_item_175 rfl (lv_at hl 1 rfl) ?_
    refine lv_bipush (v := 7) S.1 S.2.1 d_M_item_176 (by decide) ?_
    refine lv_iconst (v := 0) S.1 S.2.1 d_M_item_178 (by decide) ?_
    refine lv_aload_n S.1 S.2.1 d_M_item_179 rfl (lv_at hl 1 rfl) ?_
    refine mg_backs S hK hw d_M_item_180 ?_
    refine lv_iload S.1 S.2.1 d_M_item_183 (lv_at hl 0 rfl) ?_
    refine w_ci hA hw (w_rv (rest := []) S hK hw (c_M_push l (7 : Int32) (0 : Int32) (m_backs u_163) r_163 u_163 _ _ h) (ci := 0) (q0 := 0) rfl rfl (w_cb (fr := 0) (lv := 0) S.2.2.2.2 k_1056 k_1053 k_8 yd_M_push rfl rfl ⟨Nat.le_of_ble_eq_true rfl, Nat.le_of_ble_eq_true rfl⟩) k_1055 s_52 rfl hl.1 rfl (Nat.le_of_ble_eq_true rfl) d_M_item_185 ⟨Nat.le_refl _, Nat.le_refl _⟩) (fun r_185 u_185 H locs h hw => ?_)
    refine lv_istore (lv' := [(8, .int r_185), (0, .ref (a 0)), (1, .int x1), (2, .int x2), (3, .int x3), (4, .int x4), (6, .int x6), (7, .int x7)]) S.1 S.2.1 d_M_item_188 hl (by decide) rfl (fun ls hl => ?_)
    exact wB_M_item_190 S hr hlk hK hA  x1 x2 x3 x4 x6 r_185 u_185 _ _ _ (lv_sub hl [1, 2, 3, 4, 5, 6, 0] rfl) hw h
set_option maxHeartbeats 4000000 in
set_option maxRecDepth 20000 in
theorem wB_M_item_122 (S : CallFix p m c b_M_item 9 s args lw_tg R_Mod) (hr : meth.sig.returnType = none) (hlk : meth.locks = false) (hK : GK x s) (hA : ∀ q : Nat, s.heap.size ≤ q → A q) {Qc : MS → Prop} : ∀ (x1 : Int32) (x2 : Int32) (x3 : Int32) (x4 : Int32) (x6 : Int32) (t0 : Int32) (u : MS) (ls : Array Slot) (H : Heap) (locs : List Loc), lv_has ls 9 [(0, .ref (a 0)), (1, .int x1), (2, .int x2), (3, .int x3), (4, .int x4), (6, .int x6)] → wd x A s.heap ((mcl x a) u) H locs → B_M_item_122 Qc  x1 x2 x3 x4 x6 t0 u → W p l e (rmN 2 0 0) s m args below meth c H locs 0 0 (MQ below (QcV x (mcl x a) A Qc) args s 0 0 A) (F0 m 122 ls [.int t0]) := by
  intro x1 x2 x3 x4 x6 t0 u ls H locs hl hw h
  refine lv_istore (lv' := [(7, .int t0), (0, .ref (a 0)), (1, .int x1), (2, .int x2), (3, .int x3), (4, .int x4), (6, .int x6)]) S.1 S.2.1 d_M_item_122 hl (by decide) rfl (fun ls hl => ?_)
  refine lv_iload_n S.1 S.2.1 d_M_item_124 rfl (lv_at hl 4 rfl) ?_
  refine lv_bipush (v := 123) S.1 S.2.1 d_M_item_125 (by decide) ?_
  refine lv_icmp_ne (tgt := 154) S.1 S.2.1 d_M_item_127 (by decide) (fun q_127 => ?_) (fun q_127 => ?_)
  · have h := h.2 q_127
    exact wB_M_item_154 S hr hlk hK hA  x1 x2 x3 x4 x6 t0 u _ _ _ (lv_sub hl [1, 2, 3, 4, 5, 6, 0] rfl) hw h
  · have h := h.1 q_127
    refine lv_aload_n S.1 S.2.1 d_M_item_130 rfl (lv_at hl 1 rfl) ?_
    refine lv_iload_n S.1 S.2.1 d_M_item_131 rfl (lv_at hl 3 rfl) ?_
    refine lv_iconst (v := 1) S.1 S.2.1 d_M_item_132 (by decide) ?_
    refine lv_iadd S.1 S.2.1 d_M_item_133 ?_
    refine w_ci hA hw (w_rv (rest := []) S hK hw (c_M_t l (x2 + (1 : Int32)) u _ _ h) (ci := 0) (q0 := 0) rfl rfl (w_cb (fr := 0) (lv := 0) S.2.2.2.2 k_1040 k_1037 k_8 yd_M_t rfl rfl ⟨Nat.le_of_ble_eq_true rfl, Nat.le_of_ble_eq_true rfl⟩) k_1039 s_48 rfl hl.1 rfl (Nat.le_of_ble_eq_true rfl) d_M_item_134 ⟨Nat.le_refl _, Nat.le_refl _⟩) (fun r_134 u_134 H locs h hw => ?_)
    refine lv_bipush (v := 48) S.1 S.2.1 d_M_item_137 (by decide) ?_
    refine lv_icmp_ne (tgt := 154) S.1 S.2.1 d_M_item_139 (by decide) (fun q_139 => ?_) (fun q_139 => ?_)
    · have h := h.2 q_139
      exact wB_M_item_154 S hr hlk hK hA  x1 x2 x3 x4 x6 t0 u_134 _ _ _ (lv_sub hl [1, 2, 3, 4, 5, 6, 0] rfl) hw h
    · have h := h.1 q_139
      refine lv_aload_n S.1 S.2.1 d_M_item_142 rfl (lv_at hl 1 rfl) ?_
      refine lv_iconst (v := 0) S.1 S.2.1 d_M_item_143 (by decide) ?_
      refine lv_iload S.1 S.2.1 d_M_item_144 (lv_at hl 0 rfl) ?_
      refine lv_aload_n S.1 S.2.1 d_M_item_146 rfl (lv_at hl 1 rfl) ?_
      refine mg_k S hK hw d_M_item_147 ?_
      refine w_cv hA hw (w_rv (rest := []) S hK hw (c_M_go l (0 : Int32) t0 (m_k u_134) u_134 _ _ h) (ci := 0) (q0 := 0) rfl rfl (w_cb (fr := 0) (lv := 0) S.2.2.2.2 k_1027 k_1024 k_8 yd_M_go rfl rfl ⟨Nat.le_of_ble_eq_true rfl, Nat.le_of_ble_eq_true rfl⟩) k_1026 s_45 rfl hl.1 rfl (Nat.le_of_ble_eq_true rfl) d_M_item_150 ⟨Nat.le_refl _, Nat.le_refl _⟩) (fun u_150 H locs h hw => ?_)
      exact w_vret S hr hlk hK hw h d_M_item_153
set_option maxHeartbeats 4000000 in
set_option maxRecDepth 20000 in
theorem wB_M_item_97 (S : CallFix p m c b_M_item 9 s args lw_tg R_Mod) (hr : meth.sig.returnType = none) (hlk : meth.locks = false) (hK : GK x s) (hA : ∀ q : Nat, s.heap.size ≤ q → A q) {Qc : MS → Prop} : ∀ (x1 : Int32) (x2 : Int32) (x3 : Int32) (x4 : Int32) (x5 : Int32) (t0 : Int32) (u : MS) (ls : Array Slot) (H : Heap) (locs : List Loc), lv_has ls 9 [(0, .ref (a 0)), (1, .int x1), (2, .int x2), (3, .int x3), (4, .int x4), (5, .int x5)] → wd x A s.heap ((mcl x a) u) H locs → B_M_item_97 Qc  x1 x2 x3 x4 x5 t0 u → W p l e (rmN 2 0 0) s m args below meth c H locs 0 0 (MQ below (QcV x (mcl x a) A Qc) args s 0 0 A) (F0 m 97 ls [.int t0]) := by
  intro x1 x2 x3 x4 x5 t0 u ls H locs hl hw h
  refine lv_istore (lv' := [(6, .int t0), (0, .ref (a 0)), (1, .int x1), (2, .int x2), (3, .int x3), (4, .int x4), (5, .int x5)]) S.1 S.2.1 d_M_item_97 hl (by decide) rfl (fun ls hl => ?_)
  refine lv_iload S.1 S.2.1 d_M_item_99 (lv_at hl 5 rfl) ?_
  refine lv_if_ne (tgt := 108) S.1 S.2.1 d_M_item_101 (by decide) (fun q_101 => ?_) (fun q_101 => ?_)
  · have h := h.2 q_101
    refine lv_iload S.1 S.2.1 d_M_item_108 (lv_at hl 0 rfl) ?_
    refine lv_if_ne (tgt := 118) S.1 S.2.1 d_M_item_110 (by decide) (fun q_110 => ?_) (fun q_110 => ?_)
    · have h := h.2 q_110
      refine lv_iload S.1 S.2.1 d_M_item_118 (lv_at hl 6 rfl) ?_
      refine lv_iconst (v := 1) S.1 S.2.1 d_M_item_120 (by decide) ?_
      refine lv_iadd S.1 S.2.1 d_M_item_121 ?_
      exact wB_M_item_122 S hr hlk hK hA  x1 x2 x3 x4 t0 (x5 + (1 : Int32)) u _ _ _ (lv_sub hl [1, 2, 3, 4, 5, 0] rfl) hw h
    · have h := h.1 q_110
      refine lv_iload S.1 S.2.1 d_M_item_113 (lv_at hl 6 rfl) ?_
      refine lv_goto (tgt := 122) S.1 S.2.1 d_M_item_115 (by decide) ?_
      exact wB_M_item_122 S hr hlk hK hA  x1 x2 x3 x4 t0 x5 u _ _ _ (lv_sub hl [1, 2, 3, 4, 5, 0] rfl) hw h
  · have h := h.1 q_101
    refine lv_iload_n S.1 S.2.1 d_M_item_104 rfl (lv_at hl 3 rfl) ?_
    refine lv_goto (tgt := 122) S.1 S.2.1 d_M_item_105 (by decide) ?_
    exact wB_M_item_122 S hr hlk hK hA  x1 x2 x3 x4 t0 x2 u _ _ _ (lv_sub hl [1, 2, 3, 4, 5, 0] rfl) hw h
set_option maxHeartbeats 4000000 in
set_option maxRecDepth 20000 in
theorem wB_M_item_96 (S : CallFix p m c b_M_item 9 s args lw_tg R_Mod) (hr : meth.sig.returnType = none) (hlk : meth.locks = false) (hK : GK x s) (hA : ∀ q : Nat, s.heap.size ≤ q → A q) {Qc : MS → Prop} : ∀ (x1 : Int32) (x2 : Int32) (x3 : Int32) (x4 : Int32) (x5 : Int32) (u : MS) (ls : Array Slot) (H : Heap) (locs : List Loc), lv_has ls 9 [(0, .ref (a 0)), (1, .int x1), (2, .int x2), (3, .int x3), (4, .int x4), (5, .int x5)] → wd x A s.heap ((mcl x a) u) H locs → B_M_item_96 Qc  x1 x2 x3 x4 x5 u → W p l e (rmN 2 0 0) s m args below meth c H locs 0 0 (MQ below (QcV x (mcl x a) A Qc) args s 0 0 A) (F0 m 96 ls []) := by
  intro x1 x2 x3 x4 x5 u ls H locs hl hw h
  refine lv_iconst (v := 0) S.1 S.2.1 d_M_item_96 (by decide) ?_
  exact wB_M_item_97 S hr hlk hK hA  x1 x2 x3 x4 x5 (0 : Int32) u _ _ _ (lv_sub hl [0, 1, 2, 3, 4, 5] rfl) hw h
set_option maxHeartbeats 4000000 in
set_option maxRecDepth 20000 in
theorem wB_M_item_87 (S : CallFix p m c b_M_item 9 s args lw_tg R_Mod) (hr : meth.sig.returnType = none) (hlk : meth.locks = false) (hK : GK x s) (hA : ∀ q : Nat, s.heap.size ≤ q → A q) {Qc : MS → Prop} : ∀ (x1 : Int32) (x2 : Int32) (x3 : Int32) (x4 : Int32) (x5 : Int32) (u : MS) (ls : Array Slot) (H : Heap) (locs : List Loc), lv_has ls 9 [(0, .ref (a 0)), (1, .int x1), (2, .int x2), (3, .int x3), (4, .int x4), (5, .int x5)] → wd x A s.heap ((mcl x a) u) H locs → B_M_item_87 Qc  x1 x2 x3 x4 x5 u → W p l e (rmN 2 0 0) s m args below meth c H locs 0 0 (MQ below (QcV x (mcl x a) A Qc) args s 0 0 A) (F0 m 87 ls []) := by
  intro x1 x2 x3 x4 x5 u ls H locs hl hw h
  refine lv_aload_n S.1 S.2.1 d_M_item_87 rfl (lv_at hl 0 rfl) ?_
  refine lv_iload S.1 S.2.1 d_M_item_88 (lv_at hl 5 rfl) ?_
  refine w_ci hA hw (w_rv (rest := []) S hK hw (c_M_t l x5 u _ _ h) (ci := 0) (q0 := 0) rfl rfl (w_cb (fr := 0) (lv := 0) S.2.2.2.2 k_1040 k_1037 k_8 yd_M_t rfl rfl ⟨Nat.le_of_ble_eq_true rfl, Nat.le_of_ble_eq_true rfl⟩) k_1039 s_48 rfl hl.1 rfl (Nat.le_of_ble_eq_true rfl) d_M_item_90 ⟨Nat.le_refl _, Nat.le_refl _⟩) (fun r_90 u_90 H locs h hw => ?_)
  refine lv_goto (tgt := 97) S.1 S.2.1 d_M_item_93 (by decide) ?_
  exact wB_M_item_97 S hr hlk hK hA  x1 x2 x3 x4 x5 r_90 u_90 _ _ _ (lv_sub hl [0, 1, 2, 3, 4, 5] rfl) hw h
set_option maxHeartbeats 4000000 in
set_option maxRecDepth 20000 in
theorem wB_M_item_58 (S : CallFix p m c b_M_item 9 s args lw_tg R_Mod) (hr : meth.sig.returnType = none) (hlk : meth.locks = false) (hK : GK x s) (hA : ∀ q : Nat, s.heap.size ≤ q → A q) {Qc : MS → Prop} : ∀ (x1 : Int32) (x2 : Int32) (x3 : Int32) (x4 : Int32) (t0 : Int32) (u : MS) (ls : Array Slot) (H : Heap) (locs : List Loc), lv_has ls 9 [(0, .ref (a 0)), (1, .int x1), (2, .int x2), (3, .int x3), (4, .int x4)] → wd x A s.heap ((mcl x a) u) H locs → B_M_item_58 Qc  x1 x2 x3 x4 t0 u → W p l e (rmN 2 0 0) s m args below meth c H locs 0 0 (MQ below (QcV x (mcl x a) A Qc) args s 0 0 A) (F0 m 58 ls [.int t0]) := by
  intro x1 x2 x3 x4 t0 u ls H locs hl hw h
  refine lv_istore (lv' := [(5, .int t0), (0, .ref (a 0)), (1, .int x1), (2, .int x2), (3, .int x3), (4, .int x4)]) S.1 S.2.1 d_M_item_58 hl (by decide) rfl (fun ls hl => ?_)
  refine lv_iload S.1 S.2.1 d_M_item_60 (lv_at hl 5 rfl) ?_
  refine lv_if_eq (tgt := 96) S.1 S.2.1 d_M_item_62 (by decide) (fun q_62 => ?_) (fun q_62 => ?_)
  · have h := h.1 q_62
    exact wB_M_item_96 S hr hlk hK hA  x1 x2 x3 x4 t0 u _ _ _ (lv_sub hl [1, 2, 3, 4, 5, 0] rfl) hw h
  · have h := h.2 q_62
    refine lv_aload_n S.1 S.2.1 d_M_item_65 rfl (lv_at hl 1 rfl) ?_
    refine lv_iload S.1 S.2.1 d_M_item_66 (lv_at hl 0 rfl) ?_
    refine w_ci hA hw (w_rv (rest := []) S hK hw (c_M_t l t0 u _ _ h) (ci := 0) (q0 := 0) rfl rfl (w_cb (fr := 0) (lv := 0) S.2.2.2.2 k_1040 k_1037 k_8 yd_M_t rfl rfl ⟨Nat.le_of_ble_eq_true rfl, Nat.le_of_ble_eq_true rfl⟩) k_1039 s_48 rfl hl.1 rfl (Nat.le_of_ble_eq_true rfl) d_M_item_68 ⟨Nat.le_refl _, Nat.le_refl _⟩) (fun r_68 u_68 H locs h hw => ?_)
    refine lv_bipush (v := 63) S.1 S.2.1 d_M_item_71 (by decide) ?_
    refine lv_icmp_eq (tgt := 87) S.1 S.2.1 d_M_item_73 (by decide) (fun q_73 => ?_) (fun q_73 => ?_)
    · have h := h.1 q_73
      exact wB_M_item_87 S hr hlk hK hA  x1 x2 x3 x4 t0 u_68 _ _ _ (lv_sub hl [1, 2, 3, 4, 5, 0] rfl) hw h
    · have h := h.2 q_73
      refine lv_aload_n S.1 S.2.1 d_M_item_76 rfl (lv_at hl 1 rfl) ?_
      refine lv_iload S.1 S.2.1 d_M_item_77 (lv_at hl 0 rfl) ?_
      refine w_ci hA hw (w_rv (rest := []) S hK hw (c_M_t l t0 u_68 _ _ h) (ci := 0) (q0 := 0) rfl rfl (w_cb (fr := 0) (lv := 0) S.2.2.2.2 k_1040 k_1037 k_8 yd_M_t rfl rfl ⟨Nat.le_of_ble_eq_true rfl, Nat.le_of_ble_eq_true rfl⟩) k_1039 s_48 rfl hl.1 rfl (Nat.le_of_ble_eq_true rfl) d_M_item_79 ⟨Nat.le_refl _, Nat.le_refl _⟩) (fun r_79 u_79 H locs h hw => ?_)
      refine lv_bipush (v := 43) S.1 S.2.1 d_M_item_82 (by decide) ?_
      refine lv_icmp_ne (tgt := 96) S.1 S.2.1 d_M_item_84 (by decide) (fun q_84 => ?_) (fun q_84 => ?_)
      · have h := h.2 q_84
        exact wB_M_item_96 S hr hlk hK hA  x1 x2 x3 x4 t0 u_79 _ _ _ (lv_sub hl [1, 2, 3, 4, 5, 0] rfl) hw h
      · have h := h.1 q_84
        exact wB_M_item_87 S hr hlk hK hA  x1 x2 x3 x4 t0 u_79 _ _ _ (lv_sub hl [1, 2, 3, 4, 5, 0] rfl) hw h
set_option maxHeartbeats 4000000 in
set_option maxRecDepth 20000 in
theorem wB_M_item_41 (S : CallFix p m c b_M_item 9 s args lw_tg R_Mod) (hr : meth.sig.returnType = none) (hlk : meth.locks = false) (hK : GK x s) (hA : ∀ q : Nat, s.heap.size ≤ q → A q) {Qc : MS → Prop} : ∀ (x1 : Int32) (x2 : Int32) (x3 : Int32) (t0 : Int32) (u : MS) (ls : Array Slot) (H : Heap) (locs : List Loc), lv_has ls 9 [(0, .ref (a 0)), (1, .int x1), (2, .int x2), (3, .int x3)] → wd x A s.heap ((mcl x a) u) H locs → B_M_item_41 Qc  x1 x2 x3 t0 u → W p l e (rmN 2 0 0) s m args below meth c H locs 0 0 (MQ below (QcV x (mcl x a) A Qc) args s 0 0 A) (F0 m 41 ls [.int t0]) := by
  intro x1 x2 x3 t0 u ls H locs hl hw h
  refine lv_istore (lv' := [(4, .int t0), (0, .ref (a 0)), (1, .int x1), (2, .int x2), (3, .int x3)]) S.1 S.2.1 d_M_item_41 hl (by decide) rfl (fun ls hl => ?_)
  refine lv_iload_n S.1 S.2.1 d_M_item_43 rfl (lv_at hl 4 rfl) ?_
  refine lv_bipush (v := 123) S.1 S.2.1 d_M_item_44 (by decide) ?_
  refine lv_icmp_ne (tgt := 55) S.1 S.2.1 d_M_item_46 (by decide) (fun q_46 => ?_) (fun q_46 => ?_)
  · have h := h.2 q_46
    refine lv_iload_n S.1 S.2.1 d_M_item_55 rfl (lv_at hl 3 rfl) ?_
    refine lv_iconst (v := 1) S.1 S.2.1 d_M_item_56 (by decide) ?_
    refine lv_iadd S.1 S.2.1 d_M_item_57 ?_
    exact wB_M_item_58 S hr hlk hK hA  x1 x2 x3 t0 (x2 + (1 : Int32)) u _ _ _ (lv_sub hl [1, 2, 3, 4, 0] rfl) hw h
  · have h := h.1 q_46
    refine lv_iload_n S.1 S.2.1 d_M_item_49 rfl (lv_at hl 3 rfl) ?_
    refine lv_iconst (v := 3) S.1 S.2.1 d_M_item_50 (by decide) ?_
    refine lv_iadd S.1 S.2.1 d_M_item_51 ?_
    refine lv_goto (tgt := 58) S.1 S.2.1 d_M_item_52 (by decide) ?_
    exact wB_M_item_58 S hr hlk hK hA  x1 x2 x3 t0 (x2 + (3 : Int32)) u _ _ _ (lv_sub hl [1, 2, 3, 4, 0] rfl) hw h
set_option maxHeartbeats 4000000 in
set_option maxRecDepth 20000 in
theorem wB_M_item_36 (S : CallFix p m c b_M_item 9 s args lw_tg R_Mod) (hr : meth.sig.returnType = none) (hlk : meth.locks = false) (hK : GK x s) (hA : ∀ q : Nat, s.heap.size ≤ q → A q) {Qc : MS → Prop} : ∀ (x1 : Int32) (x2 : Int32) (x3 : Int32) (u : MS) (ls : Array Slot) (H : Heap) (locs : List Loc), lv_has ls 9 [(0, .ref (a 0)), (1, .int x1), (2, .int x2), (3, .int x3)] → wd x A s.heap ((mcl x a) u) H locs → B_M_item_36 Qc  x1 x2 x3 u → W p l e (rmN 2 0 0) s m args below meth c H locs 0 0 (MQ below (QcV x (mcl x a) A Qc) args s 0 0 A) (F0 m 36 ls []) := by
  intro x1 x2 x3 u ls H locs hl hw h
  refine lv_iconst (v := 1) S.1 S.2.1 d_M_item_36 (by decide) ?_
  refine lv_goto (tgt := 41) S.1 S.2.1 d_M_item_37 (by decide) ?_
  exact wB_M_item_41 S hr hlk hK hA  x1 x2 x3 (1 : Int32) u _ _ _ (lv_sub hl [0, 1, 2, 3] rfl) hw h
set_option maxHeartbeats 4000000 in
set_option maxRecDepth 20000 in
theorem c_M_item {x : GX} {a : Nat → Nat} (l : Launch) (x1 : Int32) (u : MS) (sz : Nat) (Qc : MS → Prop) (h : P_M_item x1 u Qc) : Met l y_M_item (wM y_M_item b_M_item 9 none) (rmN 2 0 0) (PreC x (mcl x a) [.ref (a 0), .int x1] u sz) (QcV x (mcl x a) (va_A ((mcl x a) u) sz) Qc) 0 0 (va_A ((mcl x a) u) sz) := by
  refine w_enter (by decide +kernel) (Nat.le_of_ble_eq_true rfl) (fun p e s m args below meth c S hr hlk _ hK hA hw ls hl => ?_)
  have hl : lv_has ls 9 [(0, .ref (a 0)), (1, .int x1)] := hl
  refine lv_aload_n S.1 S.2.1 d_M_item_0 rfl (lv_at hl 0 rfl) ?_
  refine lv_iload_n S.1 S.2.1 d_M_item_1 rfl (lv_at hl 1 rfl) ?_
  refine w_ci hA hw (w_rv (rest := []) S hK hw (c_M_behindAtom l x1 u _ _ h) (ci := 0) (q0 := 0) rfl rfl (w_cb (fr := 0) (lv := 0) S.2.2.2.2 k_1048 k_1045 k_8 yd_M_behindAtom rfl rfl ⟨Nat.le_of_ble_eq_true rfl, Nat.le_of_ble_eq_true rfl⟩) k_1047 s_50 rfl hl.1 rfl (Nat.le_of_ble_eq_true rfl) d_M_item_2 ⟨Nat.le_refl _, Nat.le_refl _⟩) (fun r_2 u_2 H locs h hw => ?_)
  refine lv_istore_n (lv' := [(2, .int r_2), (0, .ref (a 0)), (1, .int x1)]) S.1 S.2.1 d_M_item_5 rfl hl (by decide) rfl (fun ls hl => ?_)
  refine lv_aload_n S.1 S.2.1 d_M_item_6 rfl (lv_at hl 1 rfl) ?_
  refine lv_iload_n S.1 S.2.1 d_M_item_7 rfl (lv_at hl 0 rfl) ?_
  refine w_ci hA hw (w_rv (rest := []) S hK hw (c_M_t l r_2 u_2 _ _ h) (ci := 0) (q0 := 0) rfl rfl (w_cb (fr := 0) (lv := 0) S.2.2.2.2 k_1040 k_1037 k_8 yd_M_t rfl rfl ⟨Nat.le_of_ble_eq_true rfl, Nat.le_of_ble_eq_true rfl⟩) k_1039 s_48 rfl hl.1 rfl (Nat.le_of_ble_eq_true rfl) d_M_item_8 ⟨Nat.le_refl _, Nat.le_refl _⟩) (fun r_8 u_8 H locs h hw => ?_)
  refine lv_istore_n (lv' := [(3, .int r_8), (2, .int r_2), (0, .ref (a 0)), (1, .int x1)]) S.1 S.2.1 d_M_item_11 rfl hl (by decide) rfl (fun ls hl => ?_)
  refine lv_iload_n S.1 S.2.1 d_M_item_12 rfl (lv_at hl 0 rfl) ?_
  refine lv_bipush (v := 42) S.1 S.2.1 d_M_item_13 (by decide) ?_
  refine lv_icmp_eq (tgt := 36) S.1 S.2.1 d_M_item_15 (by decide) (fun q_15 => ?_) (fun q_15 => ?_)
  · have h := h.1 q_15
    exact wB_M_item_36 S hr hlk hK hA  x1 r_2 r_8 u_8 _ _ _ (lv_sub hl [2, 3, 1, 0] rfl) hw h
  · have h := h.2 q_15
    refine lv_iload_n S.1 S.2.1 d_M_item_18 rfl (lv_at hl 0 rfl) ?_
    refine lv_bipush (v := 43) S.1 S.2.1 d_M_item_19 (by decide) ?_
    refine lv_icmp_eq (tgt := 36) S.1 S.2.1 d_M_item_21 (by decide) (fun q_21 => ?_) (fun q_21 => ?_)
    · have h := h.1 q_21
      exact wB_M_item_36 S hr hlk hK hA  x1 r_2 r_8 u_8 _ _ _ (lv_sub hl [2, 3, 1, 0] rfl) hw h
    · have h := h.2 q_21
      refine lv_iload_n S.1 S.2.1 d_M_item_24 rfl (lv_at hl 0 rfl) ?_
      refine lv_bipush (v := 63) S.1 S.2.1 d_M_item_25 (by decide) ?_
      refine lv_icmp_eq (tgt := 36) S.1 S.2.1 d_M_item_27 (by decide) (fun q_27 => ?_) (fun q_27 => ?_)
      · have h := h.1 q_27
        exact wB_M_item_36 S hr hlk hK hA  x1 r_2 r_8 u_8 _ _ _ (lv_sub hl [2, 3, 1, 0] rfl) hw h
      · have h := h.2 q_27
        refine lv_iload_n S.1 S.2.1 d_M_item_30 rfl (lv_at hl 0 rfl) ?_
        refine lv_bipush (v := 123) S.1 S.2.1 d_M_item_31 (by decide) ?_
        refine lv_icmp_ne (tgt := 40) S.1 S.2.1 d_M_item_33 (by decide) (fun q_33 => ?_) (fun q_33 => ?_)
        · have h := h.2 q_33
          refine lv_iconst (v := 0) S.1 S.2.1 d_M_item_40 (by decide) ?_
          exact wB_M_item_41 S hr hlk hK hA  x1 r_2 r_8 (0 : Int32) u_8 _ _ _ (lv_sub hl [2, 3, 1, 0] rfl) hw h
        · have h := h.1 q_33
          exact wB_M_item_36 S hr hlk hK hA  x1 r_2 r_8 u_8 _ _ _ (lv_sub hl [2, 3, 1, 0] rfl) hw h
end MW
