theorem d_M_atom_0 : decode b_M_atom 0 = .ok (.aload_n 0, 1) := by decide +kernel
theorem d_M_atom_1 : decode b_M_atom 1 = .ok (.dup, 1) := by decide +kernel
theorem d_M_atom_2 : decode b_M_atom 2 = .ok (.getfield 173, 3) := by decide +kernel
theorem d_M_atom_5 : decode b_M_atom 5 = .ok (.iconst 1, 1) := by decide +kernel
theorem d_M_atom_6 : decode b_M_atom 6 = .ok (.iadd, 1) := by decide +kernel
theorem d_M_atom_7 : decode b_M_atom 7 = .ok (.putfield 173, 3) := by decide +kernel
theorem d_M_atom_10 : decode b_M_atom 10 = .ok (.aload_n 0, 1) := by decide +kernel
theorem d_M_atom_11 : decode b_M_atom 11 = .ok (.aload_n 0, 1) := by decide +kernel
theorem d_M_atom_12 : decode b_M_atom 12 = .ok (.getfield 130, 3) := by decide +kernel
theorem d_M_atom_15 : decode b_M_atom 15 = .ok (.invokevirtual 102, 3) := by decide +kernel
theorem d_M_atom_18 : decode b_M_atom 18 = .ok (.bipush 40, 2) := by decide +kernel
theorem d_M_atom_20 : decode b_M_atom 20 = .ok (.if_icmp .ne 14, 3) := by decide +kernel
theorem d_M_atom_23 : decode b_M_atom 23 = .ok (.aload_n 0, 1) := by decide +kernel
theorem d_M_atom_24 : decode b_M_atom 24 = .ok (.aload_n 0, 1) := by decide +kernel
theorem d_M_atom_25 : decode b_M_atom 25 = .ok (.getfield 130, 3) := by decide +kernel
theorem d_M_atom_28 : decode b_M_atom 28 = .ok (.invokevirtual 179, 3) := by decide +kernel
theorem d_M_atom_31 : decode b_M_atom 31 = .ok (.goto 29, 3) := by decide +kernel
theorem d_M_atom_34 : decode b_M_atom 34 = .ok (.aload_n 0, 1) := by decide +kernel
theorem d_M_atom_35 : decode b_M_atom 35 = .ok (.aload_n 0, 1) := by decide +kernel
theorem d_M_atom_36 : decode b_M_atom 36 = .ok (.aload_n 0, 1) := by decide +kernel
theorem d_M_atom_37 : decode b_M_atom 37 = .ok (.getfield 130, 3) := by decide +kernel
theorem d_M_atom_40 : decode b_M_atom 40 = .ok (.invokevirtual 183, 3) := by decide +kernel
theorem d_M_atom_43 : decode b_M_atom 43 = .ok (.ifCond .eq 7, 3) := by decide +kernel
theorem d_M_atom_46 : decode b_M_atom 46 = .ok (.iconst 5, 1) := by decide +kernel
theorem d_M_atom_47 : decode b_M_atom 47 = .ok (.goto 5, 3) := by decide +kernel
theorem d_M_atom_50 : decode b_M_atom 50 = .ok (.bipush 6, 2) := by decide +kernel
theorem d_M_atom_52 : decode b_M_atom 52 = .ok (.iconst 0, 1) := by decide +kernel
theorem d_M_atom_53 : decode b_M_atom 53 = .ok (.aload_n 0, 1) := by decide +kernel
theorem d_M_atom_54 : decode b_M_atom 54 = .ok (.getfield 133, 3) := by decide +kernel
theorem d_M_atom_57 : decode b_M_atom 57 = .ok (.invokevirtual 163, 3) := by decide +kernel
theorem d_M_atom_60 : decode b_M_atom 60 = .ok (.return_, 1) := by decide +kernel
theorem d_M_star_0 : decode b_M_star 0 = .ok (.aload_n 0, 1) := by decide +kernel
theorem d_M_star_1 : decode b_M_star 1 = .ok (.iload_n 1, 1) := by decide +kernel
theorem d_M_star_2 : decode b_M_star 2 = .ok (.ifCond .eq 7, 3) := by decide +kernel
theorem d_M_star_5 : decode b_M_star 5 = .ok (.iconst 5, 1) := by decide +kernel
theorem d_M_star_6 : decode b_M_star 6 = .ok (.goto 4, 3) := by decide +kernel
theorem d_M_star_9 : decode b_M_star 9 = .ok (.iconst 4, 1) := by decide +kernel
theorem d_M_star_10 : decode b_M_star 10 = .ok (.aload_n 0, 1) := by decide +kernel
theorem d_M_star_11 : decode b_M_star 11 = .ok (.getfield 130, 3) := by decide +kernel
theorem d_M_star_14 : decode b_M_star 14 = .ok (.aload_n 0, 1) := by decide +kernel
theorem d_M_star_15 : decode b_M_star 15 = .ok (.getfield 120, 3) := by decide +kernel
theorem d_M_star_18 : decode b_M_star 18 = .ok (.aload_n 0, 1) := by decide +kernel
theorem d_M_star_19 : decode b_M_star 19 = .ok (.getfield 133, 3) := by decide +kernel
theorem d_M_star_22 : decode b_M_star 22 = .ok (.invokevirtual 159, 3) := by decide +kernel
theorem d_M_star_25 : decode b_M_star 25 = .ok (.istore_n 2, 1) := by decide +kernel
theorem d_M_star_26 : decode b_M_star 26 = .ok (.aload_n 0, 1) := by decide +kernel
theorem d_M_star_27 : decode b_M_star 27 = .ok (.iload_n 1, 1) := by decide +kernel
theorem d_M_star_28 : decode b_M_star 28 = .ok (.ifCond .eq 7, 3) := by decide +kernel
theorem d_M_star_31 : decode b_M_star 31 = .ok (.iconst 2, 1) := by decide +kernel
theorem d_M_star_32 : decode b_M_star 32 = .ok (.goto 4, 3) := by decide +kernel
theorem d_M_star_35 : decode b_M_star 35 = .ok (.iconst 5, 1) := by decide +kernel
theorem d_M_star_36 : decode b_M_star 36 = .ok (.aload_n 0, 1) := by decide +kernel
theorem d_M_star_37 : decode b_M_star 37 = .ok (.getfield 130, 3) := by decide +kernel
theorem d_M_star_40 : decode b_M_star 40 = .ok (.iload_n 1, 1) := by decide +kernel
theorem d_M_star_41 : decode b_M_star 41 = .ok (.ifCond .eq 7, 3) := by decide +kernel
theorem d_M_star_44 : decode b_M_star 44 = .ok (.iload_n 2, 1) := by decide +kernel
theorem d_M_star_45 : decode b_M_star 45 = .ok (.goto 7, 3) := by decide +kernel
theorem d_M_star_48 : decode b_M_star 48 = .ok (.aload_n 0, 1) := by decide +kernel
theorem d_M_star_49 : decode b_M_star 49 = .ok (.getfield 133, 3) := by decide +kernel
theorem d_M_star_52 : decode b_M_star 52 = .ok (.invokevirtual 167, 3) := by decide +kernel
theorem d_M_star_55 : decode b_M_star 55 = .ok (.aload_n 0, 1) := by decide +kernel
theorem d_M_star_56 : decode b_M_star 56 = .ok (.iload_n 1, 1) := by decide +kernel
theorem d_M_star_57 : decode b_M_star 57 = .ok (.ifCond .eq 7, 3) := by decide +kernel
theorem d_M_star_60 : decode b_M_star 60 = .ok (.iconst 5, 1) := by decide +kernel
theorem d_M_star_61 : decode b_M_star 61 = .ok (.goto 4, 3) := by decide +kernel
theorem d_M_star_64 : decode b_M_star 64 = .ok (.iconst 2, 1) := by decide +kernel
theorem d_M_star_65 : decode b_M_star 65 = .ok (.aload_n 0, 1) := by decide +kernel
theorem d_M_star_66 : decode b_M_star 66 = .ok (.getfield 130, 3) := by decide +kernel
theorem d_M_star_69 : decode b_M_star 69 = .ok (.iload_n 1, 1) := by decide +kernel
theorem d_M_star_70 : decode b_M_star 70 = .ok (.ifCond .eq 10, 3) := by decide +kernel
theorem d_M_star_73 : decode b_M_star 73 = .ok (.aload_n 0, 1) := by decide +kernel
theorem d_M_star_74 : decode b_M_star 74 = .ok (.getfield 133, 3) := by decide +kernel
theorem d_M_star_77 : decode b_M_star 77 = .ok (.goto 4, 3) := by decide +kernel
theorem d_M_star_80 : decode b_M_star 80 = .ok (.iload_n 2, 1) := by decide +kernel
theorem d_M_star_81 : decode b_M_star 81 = .ok (.invokevirtual 163, 3) := by decide +kernel
theorem d_M_star_84 : decode b_M_star 84 = .ok (.return_, 1) := by decide +kernel
theorem d_M_placeOf_0 : decode b_M_placeOf 0 = .ok (.aload_n 0, 1) := by decide +kernel
theorem d_M_placeOf_1 : decode b_M_placeOf 1 = .ok (.getfield 22, 3) := by decide +kernel
theorem d_M_placeOf_4 : decode b_M_placeOf 4 = .ok (.iload_n 1, 1) := by decide +kernel
theorem d_M_placeOf_5 : decode b_M_placeOf 5 = .ok (.laload, 1) := by decide +kernel
theorem d_M_placeOf_6 : decode b_M_placeOf 6 = .ok (.iconst 4, 1) := by decide +kernel
theorem d_M_placeOf_7 : decode b_M_placeOf 7 = .ok (.lshr, 1) := by decide +kernel
theorem d_M_placeOf_8 : decode b_M_placeOf 8 = .ok (.l2i, 1) := by decide +kernel
theorem d_M_placeOf_9 : decode b_M_placeOf 9 = .ok (.bipush 63, 2) := by decide +kernel
theorem d_M_placeOf_11 : decode b_M_placeOf 11 = .ok (.iand, 1) := by decide +kernel
theorem d_M_placeOf_12 : decode b_M_placeOf 12 = .ok (.ireturn, 1) := by decide +kernel
theorem d_M_numberOf_0 : decode b_M_numberOf 0 = .ok (.aload_n 0, 1) := by decide +kernel
theorem d_M_numberOf_1 : decode b_M_numberOf 1 = .ok (.getfield 22, 3) := by decide +kernel
theorem d_M_numberOf_4 : decode b_M_numberOf 4 = .ok (.iload_n 1, 1) := by decide +kernel
theorem d_M_numberOf_5 : decode b_M_numberOf 5 = .ok (.laload, 1) := by decide +kernel
theorem d_M_numberOf_6 : decode b_M_numberOf 6 = .ok (.bipush 10, 2) := by decide +kernel
theorem d_M_numberOf_8 : decode b_M_numberOf 8 = .ok (.lshr, 1) := by decide +kernel
theorem d_M_numberOf_9 : decode b_M_numberOf 9 = .ok (.l2i, 1) := by decide +kernel
theorem d_M_numberOf_10 : decode b_M_numberOf 10 = .ok (.sipush 8191, 3) := by decide +kernel
theorem d_M_numberOf_13 : decode b_M_numberOf 13 = .ok (.iand, 1) := by decide +kernel
theorem d_M_numberOf_14 : decode b_M_numberOf 14 = .ok (.ireturn, 1) := by decide +kernel
theorem d_M_carryOn_0 : decode b_M_carryOn 0 = .ok (.aload_n 0, 1) := by decide +kernel
theorem d_M_carryOn_1 : decode b_M_carryOn 1 = .ok (.getfield 133, 3) := by decide +kernel
theorem d_M_carryOn_4 : decode b_M_carryOn 4 = .ok (.istore_n 1, 1) := by decide +kernel
theorem d_M_carryOn_5 : decode b_M_carryOn 5 = .ok (.aload_n 0, 1) := by decide +kernel
theorem d_M_carryOn_6 : decode b_M_carryOn 6 = .ok (.iload_n 1, 1) := by decide +kernel
theorem d_M_carryOn_7 : decode b_M_carryOn 7 = .ok (.invokevirtual 139, 3) := by decide +kernel
theorem d_M_carryOn_10 : decode b_M_carryOn 10 = .ok (.istore_n 2, 1) := by decide +kernel
theorem d_M_carryOn_11 : decode b_M_carryOn 11 = .ok (.aload_n 0, 1) := by decide +kernel
theorem d_M_carryOn_12 : decode b_M_carryOn 12 = .ok (.iload_n 1, 1) := by decide +kernel
theorem d_M_carryOn_13 : decode b_M_carryOn 13 = .ok (.invokevirtual 186, 3) := by decide +kernel
theorem d_M_carryOn_16 : decode b_M_carryOn 16 = .ok (.istore_n 3, 1) := by decide +kernel
theorem d_M_carryOn_17 : decode b_M_carryOn 17 = .ok (.aload_n 0, 1) := by decide +kernel
theorem d_M_carryOn_18 : decode b_M_carryOn 18 = .ok (.iload_n 1, 1) := by decide +kernel
theorem d_M_carryOn_19 : decode b_M_carryOn 19 = .ok (.invokevirtual 189, 3) := by decide +kernel
theorem d_M_carryOn_22 : decode b_M_carryOn 22 = .ok (.istore 4, 2) := by decide +kernel
theorem d_M_carryOn_24 : decode b_M_carryOn 24 = .ok (.aload_n 0, 1) := by decide +kernel
theorem d_M_carryOn_25 : decode b_M_carryOn 25 = .ok (.iload_n 1, 1) := by decide +kernel
theorem d_M_carryOn_26 : decode b_M_carryOn 26 = .ok (.invokevirtual 136, 3) := by decide +kernel
theorem d_M_carryOn_29 : decode b_M_carryOn 29 = .ok (.tableswitch 254 1 9 #[51, 61, 117, 138, 138, 167, 206, 206, 237], 51) := by decide +kernel
theorem d_M_carryOn_80 : decode b_M_carryOn 80 = .ok (.aload_n 0, 1) := by decide +kernel
theorem d_M_carryOn_81 : decode b_M_carryOn 81 = .ok (.iconst 0, 1) := by decide +kernel
theorem d_M_carryOn_82 : decode b_M_carryOn 82 = .ok (.iload_n 3, 1) := by decide +kernel
theorem d_M_carryOn_83 : decode b_M_carryOn 83 = .ok (.iload_n 2, 1) := by decide +kernel
theorem d_M_carryOn_84 : decode b_M_carryOn 84 = .ok (.invokevirtual 163, 3) := by decide +kernel
theorem d_M_carryOn_87 : decode b_M_carryOn 87 = .ok (.goto 210, 3) := by decide +kernel
theorem d_M_carryOn_90 : decode b_M_carryOn 90 = .ok (.bipush 12, 2) := by decide +kernel
theorem d_M_carryOn_92 : decode b_M_carryOn 92 = .ok (.iload_n 3, 1) := by decide +kernel
theorem d_M_carryOn_93 : decode b_M_carryOn 93 = .ok (.iconst 1, 1) := by decide +kernel
theorem d_M_carryOn_94 : decode b_M_carryOn 94 = .ok (.isub, 1) := by decide +kernel
theorem d_M_carryOn_95 : decode b_M_carryOn 95 = .ok (.imul, 1) := by decide +kernel
theorem d_M_carryOn_96 : decode b_M_carryOn 96 = .ok (.istore 5, 2) := by decide +kernel
theorem d_M_carryOn_98 : decode b_M_carryOn 98 = .ok (.aload_n 0, 1) := by decide +kernel
theorem d_M_carryOn_99 : decode b_M_carryOn 99 = .ok (.aload_n 0, 1) := by decide +kernel
theorem d_M_carryOn_100 : decode b_M_carryOn 100 = .ok (.getfield 123, 3) := by decide +kernel
theorem d_M_carryOn_103 : decode b_M_carryOn 103 = .ok (.ldc2_w 192, 3) := by decide +kernel
theorem d_M_carryOn_106 : decode b_M_carryOn 106 = .ok (.iload 5, 2) := by decide +kernel
theorem d_M_carryOn_108 : decode b_M_carryOn 108 = .ok (.lshl, 1) := by decide +kernel
theorem d_M_carryOn_109 : decode b_M_carryOn 109 = .ok (.ldc2_w 194, 3) := by decide +kernel
theorem d_M_carryOn_112 : decode b_M_carryOn 112 = .ok (.lxor, 1) := by decide +kernel
theorem d_M_carryOn_113 : decode b_M_carryOn 113 = .ok (.land, 1) := by decide +kernel
theorem d_M_carryOn_114 : decode b_M_carryOn 114 = .ok (.bipush 64, 2) := by decide +kernel
theorem d_M_carryOn_116 : decode b_M_carryOn 116 = .ok (.iload 4, 2) := by decide +kernel
theorem d_M_carryOn_118 : decode b_M_carryOn 118 = .ok (.iconst 1, 1) := by decide +kernel
theorem d_M_carryOn_119 : decode b_M_carryOn 119 = .ok (.iadd, 1) := by decide +kernel
theorem d_M_carryOn_120 : decode b_M_carryOn 120 = .ok (.imul, 1) := by decide +kernel
theorem d_M_carryOn_121 : decode b_M_carryOn 121 = .ok (.aload_n 0, 1) := by decide +kernel
theorem d_M_carryOn_122 : decode b_M_carryOn 122 = .ok (.getfield 120, 3) := by decide +kernel
theorem d_M_carryOn_125 : decode b_M_carryOn 125 = .ok (.iadd, 1) := by decide +kernel
theorem d_M_carryOn_126 : decode b_M_carryOn 126 = .ok (.iconst 1, 1) := by decide +kernel
theorem d_M_carryOn_127 : decode b_M_carryOn 127 = .ok (.iadd, 1) := by decide +kernel
theorem d_M_carryOn_128 : decode b_M_carryOn 128 = .ok (.i2l, 1) := by decide +kernel
theorem d_M_carryOn_129 : decode b_M_carryOn 129 = .ok (.iload 5, 2) := by decide +kernel
theorem d_M_carryOn_131 : decode b_M_carryOn 131 = .ok (.lshl, 1) := by decide +kernel
theorem d_M_carryOn_132 : decode b_M_carryOn 132 = .ok (.lor, 1) := by decide +kernel
theorem d_M_carryOn_133 : decode b_M_carryOn 133 = .ok (.putfield 123, 3) := by decide +kernel
theorem d_M_carryOn_136 : decode b_M_carryOn 136 = .ok (.aload_n 0, 1) := by decide +kernel
theorem d_M_carryOn_137 : decode b_M_carryOn 137 = .ok (.iconst 5, 1) := by decide +kernel
theorem d_M_carryOn_138 : decode b_M_carryOn 138 = .ok (.iconst 0, 1) := by decide +kernel
theorem d_M_carryOn_139 : decode b_M_carryOn 139 = .ok (.iload_n 2, 1) := by decide +kernel
theorem d_M_carryOn_140 : decode b_M_carryOn 140 = .ok (.invokevirtual 163, 3) := by decide +kernel
theorem d_M_carryOn_143 : decode b_M_carryOn 143 = .ok (.goto 154, 3) := by decide +kernel
theorem d_M_carryOn_146 : decode b_M_carryOn 146 = .ok (.aload_n 0, 1) := by decide +kernel
theorem d_M_carryOn_147 : decode b_M_carryOn 147 = .ok (.aload_n 0, 1) := by decide +kernel
theorem d_M_carryOn_148 : decode b_M_carryOn 148 = .ok (.getfield 26, 3) := by decide +kernel
theorem d_M_carryOn_151 : decode b_M_carryOn 151 = .ok (.iload 4, 2) := by decide +kernel
theorem d_M_carryOn_153 : decode b_M_carryOn 153 = .ok (.laload, 1) := by decide +kernel
theorem d_M_carryOn_154 : decode b_M_carryOn 154 = .ok (.putfield 123, 3) := by decide +kernel
theorem d_M_carryOn_157 : decode b_M_carryOn 157 = .ok (.aload_n 0, 1) := by decide +kernel
theorem d_M_carryOn_158 : decode b_M_carryOn 158 = .ok (.iconst 5, 1) := by decide +kernel
theorem d_M_carryOn_159 : decode b_M_carryOn 159 = .ok (.iconst 0, 1) := by decide +kernel
theorem d_M_carryOn_160 : decode b_M_carryOn 160 = .ok (.iload_n 2, 1) := by decide +kernel
theorem d_M_carryOn_161 : decode b_M_carryOn 161 = .ok (.invokevirtual 163, 3) := by decide +kernel
theorem d_M_carryOn_164 : decode b_M_carryOn 164 = .ok (.goto 133, 3) := by decide +kernel
theorem d_M_carryOn_167 : decode b_M_carryOn 167 = .ok (.aload_n 0, 1) := by decide +kernel
theorem d_M_carryOn_168 : decode b_M_carryOn 168 = .ok (.iload 4, 2) := by decide +kernel
theorem d_M_carryOn_170 : decode b_M_carryOn 170 = .ok (.aload_n 0, 1) := by decide +kernel
theorem d_M_carryOn_171 : decode b_M_carryOn 171 = .ok (.getfield 120, 3) := by decide +kernel
theorem d_M_carryOn_174 : decode b_M_carryOn 174 = .ok (.if_icmp .ne 7, 3) := by decide +kernel
theorem d_M_carryOn_177 : decode b_M_carryOn 177 = .ok (.iconst 5, 1) := by decide +kernel
theorem d_M_carryOn_178 : decode b_M_carryOn 178 = .ok (.goto 10, 3) := by decide +kernel
theorem d_M_carryOn_181 : decode b_M_carryOn 181 = .ok (.aload_n 0, 1) := by decide +kernel
theorem d_M_carryOn_182 : decode b_M_carryOn 182 = .ok (.iload_n 1, 1) := by decide +kernel
theorem d_M_carryOn_183 : decode b_M_carryOn 183 = .ok (.invokevirtual 136, 3) := by decide +kernel
theorem d_M_carryOn_186 : decode b_M_carryOn 186 = .ok (.iconst 1, 1) := by decide +kernel
theorem d_M_carryOn_187 : decode b_M_carryOn 187 = .ok (.isub, 1) := by decide +kernel
theorem d_M_carryOn_188 : decode b_M_carryOn 188 = .ok (.iload_n 3, 1) := by decide +kernel
theorem d_M_carryOn_189 : decode b_M_carryOn 189 = .ok (.iload_n 2, 1) := by decide +kernel
theorem d_M_carryOn_190 : decode b_M_carryOn 190 = .ok (.invokevirtual 163, 3) := by decide +kernel
theorem d_M_carryOn_193 : decode b_M_carryOn 193 = .ok (.goto 104, 3) := by decide +kernel
theorem d_M_carryOn_196 : decode b_M_carryOn 196 = .ok (.aload_n 0, 1) := by decide +kernel
theorem d_M_carryOn_197 : decode b_M_carryOn 197 = .ok (.iload 4, 2) := by decide +kernel
theorem d_M_carryOn_199 : decode b_M_carryOn 199 = .ok (.ifCond .ne 7, 3) := by decide +kernel
theorem d_M_carryOn_202 : decode b_M_carryOn 202 = .ok (.iconst 5, 1) := by decide +kernel
theorem d_M_carryOn_203 : decode b_M_carryOn 203 = .ok (.goto 4, 3) := by decide +kernel
theorem d_M_carryOn_206 : decode b_M_carryOn 206 = .ok (.iconst 2, 1) := by decide +kernel
theorem d_M_carryOn_207 : decode b_M_carryOn 207 = .ok (.iload_n 3, 1) := by decide +kernel
theorem d_M_carryOn_208 : decode b_M_carryOn 208 = .ok (.iload 4, 2) := by decide +kernel
theorem d_M_carryOn_210 : decode b_M_carryOn 210 = .ok (.ifCond .ne 7, 3) := by decide +kernel
theorem d_M_carryOn_213 : decode b_M_carryOn 213 = .ok (.iload_n 2, 1) := by decide +kernel
theorem d_M_carryOn_214 : decode b_M_carryOn 214 = .ok (.goto 15, 3) := by decide +kernel
theorem d_M_carryOn_217 : decode b_M_carryOn 217 = .ok (.aload_n 0, 1) := by decide +kernel
theorem d_M_carryOn_218 : decode b_M_carryOn 218 = .ok (.bipush 6, 2) := by decide +kernel
theorem d_M_carryOn_220 : decode b_M_carryOn 220 = .ok (.iload_n 3, 1) := by decide +kernel
theorem d_M_carryOn_221 : decode b_M_carryOn 221 = .ok (.iload 4, 2) := by decide +kernel
theorem d_M_carryOn_223 : decode b_M_carryOn 223 = .ok (.iconst 1, 1) := by decide +kernel
theorem d_M_carryOn_224 : decode b_M_carryOn 224 = .ok (.isub, 1) := by decide +kernel
theorem d_M_carryOn_225 : decode b_M_carryOn 225 = .ok (.iload_n 2, 1) := by decide +kernel
theorem d_M_carryOn_226 : decode b_M_carryOn 226 = .ok (.invokevirtual 159, 3) := by decide +kernel
theorem d_M_carryOn_229 : decode b_M_carryOn 229 = .ok (.invokevirtual 163, 3) := by decide +kernel
theorem d_M_carryOn_232 : decode b_M_carryOn 232 = .ok (.goto 65, 3) := by decide +kernel
theorem d_M_carryOn_235 : decode b_M_carryOn 235 = .ok (.aload_n 0, 1) := by decide +kernel
theorem d_M_carryOn_236 : decode b_M_carryOn 236 = .ok (.iload 4, 2) := by decide +kernel
theorem d_M_carryOn_238 : decode b_M_carryOn 238 = .ok (.putfield 117, 3) := by decide +kernel
theorem d_M_carryOn_241 : decode b_M_carryOn 241 = .ok (.aload_n 0, 1) := by decide +kernel
theorem d_M_carryOn_242 : decode b_M_carryOn 242 = .ok (.iload_n 1, 1) := by decide +kernel
theorem d_M_carryOn_243 : decode b_M_carryOn 243 = .ok (.invokevirtual 136, 3) := by decide +kernel
theorem d_M_carryOn_246 : decode b_M_carryOn 246 = .ok (.bipush 8, 2) := by decide +kernel
theorem d_M_carryOn_248 : decode b_M_carryOn 248 = .ok (.if_icmp .ne 8, 3) := by decide +kernel
theorem d_M_carryOn_251 : decode b_M_carryOn 251 = .ok (.aload_n 0, 1) := by decide +kernel
theorem d_M_carryOn_252 : decode b_M_carryOn 252 = .ok (.iload_n 3, 1) := by decide +kernel
theorem d_M_carryOn_253 : decode b_M_carryOn 253 = .ok (.putfield 120, 3) := by decide +kernel
theorem d_M_carryOn_256 : decode b_M_carryOn 256 = .ok (.aload_n 0, 1) := by decide +kernel
theorem d_M_carryOn_257 : decode b_M_carryOn 257 = .ok (.iconst 5, 1) := by decide +kernel
theorem d_M_carryOn_258 : decode b_M_carryOn 258 = .ok (.iconst 0, 1) := by decide +kernel
theorem d_M_carryOn_259 : decode b_M_carryOn 259 = .ok (.iload_n 2, 1) := by decide +kernel
theorem d_M_carryOn_260 : decode b_M_carryOn 260 = .ok (.invokevirtual 163, 3) := by decide +kernel
theorem d_M_carryOn_263 : decode b_M_carryOn 263 = .ok (.goto 34, 3) := by decide +kernel
theorem d_M_carryOn_266 : decode b_M_carryOn 266 = .ok (.aload_n 0, 1) := by decide +kernel
theorem d_M_carryOn_267 : decode b_M_carryOn 267 = .ok (.iload 4, 2) := by decide +kernel
theorem d_M_carryOn_269 : decode b_M_carryOn 269 = .ok (.putfield 117, 3) := by decide +kernel
theorem d_M_carryOn_272 : decode b_M_carryOn 272 = .ok (.aload_n 0, 1) := by decide +kernel
theorem d_M_carryOn_273 : decode b_M_carryOn 273 = .ok (.bipush 6, 2) := by decide +kernel
theorem d_M_carryOn_275 : decode b_M_carryOn 275 = .ok (.iconst 0, 1) := by decide +kernel
theorem d_M_carryOn_276 : decode b_M_carryOn 276 = .ok (.iload_n 2, 1) := by decide +kernel
theorem d_M_carryOn_277 : decode b_M_carryOn 277 = .ok (.invokevirtual 163, 3) := by decide +kernel
theorem d_M_carryOn_280 : decode b_M_carryOn 280 = .ok (.goto 17, 3) := by decide +kernel
theorem d_M_carryOn_283 : decode b_M_carryOn 283 = .ok (.aload_n 0, 1) := by decide +kernel
theorem d_M_carryOn_284 : decode b_M_carryOn 284 = .ok (.aload_n 0, 1) := by decide +kernel
theorem d_M_carryOn_285 : decode b_M_carryOn 285 = .ok (.iload_n 1, 1) := by decide +kernel
theorem d_M_carryOn_286 : decode b_M_carryOn 286 = .ok (.invokevirtual 136, 3) := by decide +kernel
theorem d_M_carryOn_289 : decode b_M_carryOn 289 = .ok (.bipush 7, 2) := by decide +kernel
theorem d_M_carryOn_291 : decode b_M_carryOn 291 = .ok (.isub, 1) := by decide +kernel
theorem d_M_carryOn_292 : decode b_M_carryOn 292 = .ok (.iload_n 3, 1) := by decide +kernel
theorem d_M_carryOn_293 : decode b_M_carryOn 293 = .ok (.iload_n 2, 1) := by decide +kernel
theorem d_M_carryOn_294 : decode b_M_carryOn 294 = .ok (.invokevirtual 163, 3) := by decide +kernel
theorem d_M_carryOn_297 : decode b_M_carryOn 297 = .ok (.return_, 1) := by decide +kernel
theorem d_M_walk_0 : decode b_M_walk 0 = .ok (.aload_n 0, 1) := by decide +kernel
theorem d_M_walk_1 : decode b_M_walk 1 = .ok (.iconst 0, 1) := by decide +kernel
theorem d_M_walk_2 : decode b_M_walk 2 = .ok (.putfield 114, 3) := by decide +kernel
theorem d_M_walk_5 : decode b_M_walk 5 = .ok (.aload_n 0, 1) := by decide +kernel
theorem d_M_walk_6 : decode b_M_walk 6 = .ok (.iconst 0, 1) := by decide +kernel
theorem d_M_walk_7 : decode b_M_walk 7 = .ok (.putfield 117, 3) := by decide +kernel
theorem d_M_walk_10 : decode b_M_walk 10 = .ok (.aload_n 0, 1) := by decide +kernel
theorem d_M_walk_11 : decode b_M_walk 11 = .ok (.iload_n 1, 1) := by decide +kernel
theorem d_M_walk_12 : decode b_M_walk 12 = .ok (.putfield 120, 3) := by decide +kernel
theorem d_M_walk_15 : decode b_M_walk 15 = .ok (.aload_n 0, 1) := by decide +kernel
theorem d_M_walk_16 : decode b_M_walk 16 = .ok (.lconst 0, 1) := by decide +kernel
theorem d_M_walk_17 : decode b_M_walk 17 = .ok (.putfield 123, 3) := by decide +kernel
theorem d_M_walk_20 : decode b_M_walk 20 = .ok (.aload_n 0, 1) := by decide +kernel
theorem d_M_walk_21 : decode b_M_walk 21 = .ok (.iconst 1, 1) := by decide +kernel
theorem d_M_walk_22 : decode b_M_walk 22 = .ok (.iconst 0, 1) := by decide +kernel
theorem d_M_walk_23 : decode b_M_walk 23 = .ok (.iconst 0, 1) := by decide +kernel
theorem d_M_walk_24 : decode b_M_walk 24 = .ok (.invokevirtual 163, 3) := by decide +kernel
theorem d_M_walk_27 : decode b_M_walk 27 = .ok (.iconst 0, 1) := by decide +kernel
theorem d_M_walk_28 : decode b_M_walk 28 = .ok (.istore_n 2, 1) := by decide +kernel
theorem d_M_walk_29 : decode b_M_walk 29 = .ok (.iload_n 2, 1) := by decide +kernel
theorem d_M_walk_30 : decode b_M_walk 30 = .ok (.ldc 196, 2) := by decide +kernel
theorem d_M_walk_32 : decode b_M_walk 32 = .ok (.if_icmp .ge 214, 3) := by decide +kernel
theorem d_M_walk_35 : decode b_M_walk 35 = .ok (.aload_n 0, 1) := by decide +kernel
theorem d_M_walk_36 : decode b_M_walk 36 = .ok (.getfield 127, 3) := by decide +kernel
theorem d_M_walk_39 : decode b_M_walk 39 = .ok (.bipush 6, 2) := by decide +kernel
theorem d_M_walk_41 : decode b_M_walk 41 = .ok (.if_icmp .ne 12, 3) := by decide +kernel
theorem d_M_walk_44 : decode b_M_walk 44 = .ok (.aload_n 0, 1) := by decide +kernel
theorem d_M_walk_45 : decode b_M_walk 45 = .ok (.invokevirtual 197, 3) := by decide +kernel
theorem d_M_walk_48 : decode b_M_walk 48 = .ok (.ifCond .ne 5, 3) := by decide +kernel
theorem d_M_walk_51 : decode b_M_walk 51 = .ok (.iconst 0, 1) := by decide +kernel
theorem d_M_walk_52 : decode b_M_walk 52 = .ok (.ireturn, 1) := by decide +kernel
theorem d_M_walk_53 : decode b_M_walk 53 = .ok (.aload_n 0, 1) := by decide +kernel
theorem d_M_walk_54 : decode b_M_walk 54 = .ok (.getfield 127, 3) := by decide +kernel
theorem d_M_walk_57 : decode b_M_walk 57 = .ok (.iconst 5, 1) := by decide +kernel
theorem d_M_walk_58 : decode b_M_walk 58 = .ok (.if_icmp .ne 12, 3) := by decide +kernel
theorem d_M_walk_61 : decode b_M_walk 61 = .ok (.aload_n 0, 1) := by decide +kernel
theorem d_M_walk_62 : decode b_M_walk 62 = .ok (.getfield 133, 3) := by decide +kernel
theorem d_M_walk_65 : decode b_M_walk 65 = .ok (.ifCond .ne 5, 3) := by decide +kernel
theorem d_M_walk_68 : decode b_M_walk 68 = .ok (.iconst 1, 1) := by decide +kernel
theorem d_M_walk_69 : decode b_M_walk 69 = .ok (.ireturn, 1) := by decide +kernel
theorem d_M_walk_70 : decode b_M_walk 70 = .ok (.aload_n 0, 1) := by decide +kernel
theorem d_M_walk_71 : decode b_M_walk 71 = .ok (.getfield 127, 3) := by decide +kernel
theorem d_M_walk_74 : decode b_M_walk 74 = .ok (.iconst 2, 1) := by decide +kernel
theorem d_M_walk_75 : decode b_M_walk 75 = .ok (.if_icmp .ne 16, 3) := by decide +kernel
theorem d_M_walk_78 : decode b_M_walk 78 = .ok (.aload_n 0, 1) := by decide +kernel
theorem d_M_walk_79 : decode b_M_walk 79 = .ok (.getfield 173, 3) := by decide +kernel
theorem d_M_walk_82 : decode b_M_walk 82 = .ok (.aload_n 0, 1) := by decide +kernel
theorem d_M_walk_83 : decode b_M_walk 83 = .ok (.getfield 35, 3) := by decide +kernel
theorem d_M_walk_86 : decode b_M_walk 86 = .ok (.if_icmp .ne 5, 3) := by decide +kernel
theorem d_M_walk_89 : decode b_M_walk 89 = .ok (.iconst 2, 1) := by decide +kernel
theorem d_M_walk_90 : decode b_M_walk 90 = .ok (.ireturn, 1) := by decide +kernel
theorem d_M_walk_91 : decode b_M_walk 91 = .ok (.aload_n 0, 1) := by decide +kernel
theorem d_M_walk_92 : decode b_M_walk 92 = .ok (.getfield 127, 3) := by decide +kernel
theorem d_M_walk_95 : decode b_M_walk 95 = .ok (.tableswitch 145 0 5 #[37, 72, 111, 118, 118, 138], 37) := by decide +kernel
theorem d_M_walk_132 : decode b_M_walk 132 = .ok (.aload_n 0, 1) := by decide +kernel
theorem d_M_walk_133 : decode b_M_walk 133 = .ok (.aload_n 0, 1) := by decide +kernel
theorem d_M_walk_134 : decode b_M_walk 134 = .ok (.getfield 130, 3) := by decide +kernel
theorem d_M_walk_137 : decode b_M_walk 137 = .ok (.invokevirtual 108, 3) := by decide +kernel
theorem d_M_walk_140 : decode b_M_walk 140 = .ok (.ifCond .eq 16, 3) := by decide +kernel
theorem d_M_walk_143 : decode b_M_walk 143 = .ok (.aload_n 0, 1) := by decide +kernel
theorem d_M_walk_144 : decode b_M_walk 144 = .ok (.iconst 5, 1) := by decide +kernel
theorem d_M_walk_145 : decode b_M_walk 145 = .ok (.iconst 0, 1) := by decide +kernel
theorem d_M_walk_146 : decode b_M_walk 146 = .ok (.aload_n 0, 1) := by decide +kernel
theorem d_M_walk_147 : decode b_M_walk 147 = .ok (.getfield 133, 3) := by decide +kernel
theorem d_M_walk_150 : decode b_M_walk 150 = .ok (.invokevirtual 163, 3) := by decide +kernel
theorem d_M_walk_153 : decode b_M_walk 153 = .ok (.goto 87, 3) := by decide +kernel
theorem d_M_walk_156 : decode b_M_walk 156 = .ok (.aload_n 0, 1) := by decide +kernel
theorem d_M_walk_157 : decode b_M_walk 157 = .ok (.aload_n 0, 1) := by decide +kernel
theorem d_M_walk_158 : decode b_M_walk 158 = .ok (.getfield 130, 3) := by decide +kernel
theorem d_M_walk_161 : decode b_M_walk 161 = .ok (.invokevirtual 201, 3) := by decide +kernel
theorem d_M_walk_164 : decode b_M_walk 164 = .ok (.goto 76, 3) := by decide +kernel
theorem d_M_walk_167 : decode b_M_walk 167 = .ok (.aload_n 0, 1) := by decide +kernel
theorem d_M_walk_168 : decode b_M_walk 168 = .ok (.aload_n 0, 1) := by decide +kernel
theorem d_M_walk_169 : decode b_M_walk 169 = .ok (.getfield 130, 3) := by decide +kernel
theorem d_M_walk_172 : decode b_M_walk 172 = .ok (.invokevirtual 204, 3) := by decide +kernel
theorem d_M_walk_175 : decode b_M_walk 175 = .ok (.istore_n 3, 1) := by decide +kernel
theorem d_M_walk_176 : decode b_M_walk 176 = .ok (.iload_n 3, 1) := by decide +kernel
theorem d_M_walk_177 : decode b_M_walk 177 = .ok (.ifCond .lt 13, 3) := by decide +kernel
theorem d_M_walk_180 : decode b_M_walk 180 = .ok (.aload_n 0, 1) := by decide +kernel
theorem d_M_walk_181 : decode b_M_walk 181 = .ok (.iconst 1, 1) := by decide +kernel
theorem d_M_walk_182 : decode b_M_walk 182 = .ok (.iload_n 3, 1) := by decide +kernel
theorem d_M_walk_183 : decode b_M_walk 183 = .ok (.aload_n 0, 1) := by decide +kernel
theorem d_M_walk_184 : decode b_M_walk 184 = .ok (.getfield 133, 3) := by decide +kernel
theorem d_M_walk_187 : decode b_M_walk 187 = .ok (.invokevirtual 167, 3) := by decide +kernel
theorem d_M_walk_190 : decode b_M_walk 190 = .ok (.aload_n 0, 1) := by decide +kernel
theorem d_M_walk_191 : decode b_M_walk 191 = .ok (.iconst 0, 1) := by decide +kernel
theorem d_M_walk_192 : decode b_M_walk 192 = .ok (.aload_n 0, 1) := by decide +kernel
theorem d_M_walk_193 : decode b_M_walk 193 = .ok (.getfield 130, 3) := by decide +kernel
theorem d_M_walk_196 : decode b_M_walk 196 = .ok (.aload_n 0, 1) := by decide +kernel
theorem d_M_walk_197 : decode b_M_walk 197 = .ok (.getfield 133, 3) := by decide +kernel
theorem d_M_walk_200 : decode b_M_walk 200 = .ok (.invokevirtual 163, 3) := by decide +kernel
theorem d_M_walk_203 : decode b_M_walk 203 = .ok (.goto 37, 3) := by decide +kernel
theorem d_M_walk_206 : decode b_M_walk 206 = .ok (.aload_n 0, 1) := by decide +kernel
theorem d_M_walk_207 : decode b_M_walk 207 = .ok (.invokevirtual 207, 3) := by decide +kernel
theorem d_M_walk_210 : decode b_M_walk 210 = .ok (.goto 30, 3) := by decide +kernel
theorem d_M_walk_213 : decode b_M_walk 213 = .ok (.aload_n 0, 1) := by decide +kernel
theorem d_M_walk_214 : decode b_M_walk 214 = .ok (.aload_n 0, 1) := by decide +kernel
theorem d_M_walk_215 : decode b_M_walk 215 = .ok (.getfield 127, 3) := by decide +kernel
theorem d_M_walk_218 : decode b_M_walk 218 = .ok (.iconst 4, 1) := by decide +kernel
theorem d_M_walk_219 : decode b_M_walk 219 = .ok (.if_icmp .ne 7, 3) := by decide +kernel
theorem d_M_walk_222 : decode b_M_walk 222 = .ok (.iconst 1, 1) := by decide +kernel
theorem d_M_walk_223 : decode b_M_walk 223 = .ok (.goto 4, 3) := by decide +kernel
theorem d_M_walk_226 : decode b_M_walk 226 = .ok (.iconst 0, 1) := by decide +kernel
theorem d_M_walk_227 : decode b_M_walk 227 = .ok (.invokevirtual 210, 3) := by decide +kernel
theorem d_M_walk_230 : decode b_M_walk 230 = .ok (.goto 10, 3) := by decide +kernel
theorem d_M_walk_233 : decode b_M_walk 233 = .ok (.aload_n 0, 1) := by decide +kernel
theorem d_M_walk_234 : decode b_M_walk 234 = .ok (.invokevirtual 214, 3) := by decide +kernel
theorem d_M_walk_237 : decode b_M_walk 237 = .ok (.goto 3, 3) := by decide +kernel
theorem d_M_walk_240 : decode b_M_walk 240 = .ok (.iinc 2 1, 3) := by decide +kernel
theorem d_M_walk_243 : decode b_M_walk 243 = .ok (.goto (-214), 3) := by decide +kernel
theorem d_M_walk_246 : decode b_M_walk 246 = .ok (.iconst 2, 1) := by decide +kernel
theorem d_M_walk_247 : decode b_M_walk 247 = .ok (.ireturn, 1) := by decide +kernel
section MW
variable {p : Program} {l : Launch} {e : Env} {s : State} {m : MethodId} {args : Array Value} {below : List Frame} {meth : Method} {c : Code} {x : GX} {a : Nat → Nat} {A : Nat → Prop}
set_option maxHeartbeats 4000000 in
set_option maxRecDepth 20000 in
theorem wB_M_atom_52 (S : CallFix p m c b_M_atom 1 s args lw_tg R_Mod) (hr : meth.sig.returnType = none) (hlk : meth.locks = false) (hK : GK x s) (hA : ∀ q : Nat, s.heap.size ≤ q → A q) {Qc : MS → Prop} : ∀ (t1 : Int32) (u : MS) (ls : Array Slot) (H : Heap) (locs : List Loc), lv_has ls 1 [(0, .ref (a 0))] → wd x A s.heap ((mcl x a) u) H locs → B_M_atom_52 Qc  t1 u → W p l e (rmN 4 0 0) s m args below meth c H locs 0 0 (MQ below (QcV x (mcl x a) A Qc) args s 0 0 A) (F0 m 52 ls [.int t1, .ref (a 0)]) := by
  intro t1 u ls H locs hl hw h
  refine lv_iconst (v := 0) S.1 S.2.1 d_M_atom_52 (by decide) ?_
  refine lv_aload_n S.1 S.2.1 d_M_atom_53 rfl (lv_at hl 0 rfl) ?_
  refine mg_k S hK hw d_M_atom_54 ?_
  refine w_cv hA hw (w_rv (rest := []) S hK hw (c_M_go l t1 (0 : Int32) (m_k u) u _ _ h) (ci := 0) (q0 := 0) rfl rfl (w_cb (fr := 0) (lv := 0) S.2.2.2.2 k_1027 k_1024 k_8 yd_M_go rfl rfl ⟨Nat.le_of_ble_eq_true rfl, Nat.le_of_ble_eq_true rfl⟩) k_1026 s_45 rfl hl.1 rfl (Nat.le_of_ble_eq_true rfl) d_M_atom_57 ⟨Nat.le_refl _, Nat.le_refl _⟩) (fun u_57 H locs h hw => ?_)
  exact w_vret S hr hlk hK hw h d_M_atom_60
set_option maxHeartbeats 4000000 in
set_option maxRecDepth 20000 in
theorem c_M_atom {x : GX} {a : Nat → Nat} (l : Launch)  (u : MS) (sz : Nat) (Qc : MS → Prop) (h : P_M_atom  u Qc) : Met l y_M_atom (wM y_M_atom b_M_atom 1 none) (rmN 4 0 0) (PreC x (mcl x a) [.ref (a 0)] u sz) (QcV x (mcl x a) (va_A ((mcl x a) u) sz) Qc) 0 0 (va_A ((mcl x a) u) sz) := by
  refine w_enter (by decide +kernel) (Nat.le_of_ble_eq_true rfl) (fun p e s m args below meth c S hr hlk _ hK hA hw ls hl => ?_)
  have hl : lv_has ls 1 [(0, .ref (a 0))] := hl
  refine lv_aload_n S.1 S.2.1 d_M_atom_0 rfl (lv_at hl 0 rfl) ?_
  refine lv_dup S.1 S.2.1 d_M_atom_1 rfl ?_
  refine mg_steps S hK hw d_M_atom_2 ?_
  refine lv_iconst (v := 1) S.1 S.2.1 d_M_atom_5 (by decide) ?_
  refine lv_iadd S.1 S.2.1 d_M_atom_6 ?_
  refine mp_steps S hK hw d_M_atom_7 (fun H locs hw => ?_)
  refine lv_aload_n S.1 S.2.1 d_M_atom_10 rfl (lv_at hl 0 rfl) ?_
  refine lv_aload_n S.1 S.2.1 d_M_atom_11 rfl (lv_at hl 0 rfl) ?_
  refine mg_at S hK hw d_M_atom_12 ?_
  refine w_ci hA hw (w_rv (rest := []) S hK hw (c_M_t l (m_at (ms_steps u ((m_steps u) + (1 : Int32)))) (ms_steps u ((m_steps u) + (1 : Int32))) _ _ h) (ci := 0) (q0 := 0) rfl rfl (w_cb (fr := 0) (lv := 0) S.2.2.2.2 k_1040 k_1037 k_8 yd_M_t rfl rfl ⟨Nat.le_of_ble_eq_true rfl, Nat.le_of_ble_eq_true rfl⟩) k_1039 s_48 rfl hl.1 rfl (Nat.le_of_ble_eq_true rfl) d_M_atom_15 ⟨Nat.le_refl _, Nat.le_refl _⟩) (fun r_15 u_15 H locs h hw => ?_)
  refine lv_bipush (v := 40) S.1 S.2.1 d_M_atom_18 (by decide) ?_
  refine lv_icmp_ne (tgt := 34) S.1 S.2.1 d_M_atom_20 (by decide) (fun q_20 => ?_) (fun q_20 => ?_)
  · have h := h.2 q_20
    refine lv_aload_n S.1 S.2.1 d_M_atom_34 rfl (lv_at hl 0 rfl) ?_
    refine lv_aload_n S.1 S.2.1 d_M_atom_35 rfl (lv_at hl 0 rfl) ?_
    refine lv_aload_n S.1 S.2.1 d_M_atom_36 rfl (lv_at hl 0 rfl) ?_
    refine mg_at S hK hw d_M_atom_37 ?_
    refine w_ci hA hw (w_rv (rest := [.ref (a 0)]) S hK hw (c_M_plain l (m_at u_15) u_15 _ _ h) (ci := 0) (q0 := 0) rfl rfl (w_cb (fr := 0) (lv := 0) S.2.2.2.2 k_1096 k_1093 k_8 yd_M_plain rfl rfl ⟨Nat.le_of_ble_eq_true rfl, Nat.le_of_ble_eq_true rfl⟩) k_1095 s_62 rfl hl.1 rfl (Nat.le_of_ble_eq_true rfl) d_M_atom_40 ⟨Nat.le_refl _, Nat.le_refl _⟩) (fun r_40 u_40 H locs h hw => ?_)
    refine lv_if_eq (tgt := 50) S.1 S.2.1 d_M_atom_43 (by decide) (fun q_43 => ?_) (fun q_43 => ?_)
    · have h := h.1 q_43
      refine lv_bipush (v := 6) S.1 S.2.1 d_M_atom_50 (by decide) ?_
      exact wB_M_atom_52 S hr hlk hK hA  (6 : Int32) u_40 _ _ _ (lv_sub hl [0] rfl) hw h
    · have h := h.2 q_43
      refine lv_iconst (v := 5) S.1 S.2.1 d_M_atom_46 (by decide) ?_
      refine lv_goto (tgt := 52) S.1 S.2.1 d_M_atom_47 (by decide) ?_
      exact wB_M_atom_52 S hr hlk hK hA  (5 : Int32) u_40 _ _ _ (lv_sub hl [0] rfl) hw h
  · have h := h.1 q_20
    refine lv_aload_n S.1 S.2.1 d_M_atom_23 rfl (lv_at hl 0 rfl) ?_
    refine lv_aload_n S.1 S.2.1 d_M_atom_24 rfl (lv_at hl 0 rfl) ?_
    refine mg_at S hK hw d_M_atom_25 ?_
    refine w_cv hA hw (w_rv (rest := []) S hK hw (c_M_openChoice l (m_at u_15) u_15 _ _ h) (ci := 0) (q0 := 0) rfl rfl (w_cb (fr := 0) (lv := 0) S.2.2.2.2 k_1072 k_1069 k_8 yd_M_openChoice rfl rfl ⟨Nat.le_of_ble_eq_true rfl, Nat.le_of_ble_eq_true rfl⟩) k_1071 s_56 rfl hl.1 rfl (Nat.le_of_ble_eq_true rfl) d_M_atom_28 ⟨Nat.le_refl _, Nat.le_refl _⟩) (fun u_28 H locs h hw => ?_)
    refine lv_goto (tgt := 60) S.1 S.2.1 d_M_atom_31 (by decide) ?_
    exact w_vret S hr hlk hK hw h d_M_atom_60
set_option maxHeartbeats 4000000 in
set_option maxRecDepth 20000 in
theorem wB_M_star_81 (S : CallFix p m c b_M_star 3 s args lw_tg R_Mod) (hr : meth.sig.returnType = none) (hlk : meth.locks = false) (hK : GK x s) (hA : ∀ q : Nat, s.heap.size ≤ q → A q) {Qc : MS → Prop} : ∀ (t1 : Int32) (t2 : Int32) (t3 : Int32) (u : MS) (ls : Array Slot) (H : Heap) (locs : List Loc), lv_has ls 3 [] → wd x A s.heap ((mcl x a) u) H locs → B_M_star_81 Qc  t1 t2 t3 u → W p l e (rmN 1 0 0) s m args below meth c H locs 0 0 (MQ below (QcV x (mcl x a) A Qc) args s 0 0 A) (F0 m 81 ls [.int t3, .int t2, .int t1, .ref (a 0)]) := by
  intro t1 t2 t3 u ls H locs hl hw h
  refine w_cv hA hw (w_rv (rest := []) S hK hw (c_M_go l t1 t2 t3 u _ _ h) (ci := 0) (q0 := 0) rfl rfl (w_cb (fr := 0) (lv := 0) S.2.2.2.2 k_1027 k_1024 k_8 yd_M_go rfl rfl ⟨Nat.le_of_ble_eq_true rfl, Nat.le_of_ble_eq_true rfl⟩) k_1026 s_45 rfl hl.1 rfl (Nat.le_of_ble_eq_true rfl) d_M_star_81 ⟨Nat.le_refl _, Nat.le_refl _⟩) (fun u_81 H locs h hw => ?_)
  exact w_vret S hr hlk hK hw h d_M_star_84
set_option maxHeartbeats 4000000 in
set_option maxRecDepth 20000 in
theorem wB_M_star_65 (S : CallFix p m c b_M_star 3 s args lw_tg R_Mod) (hr : meth.sig.returnType = none) (hlk : meth.locks = false) (hK : GK x s) (hA : ∀ q : Nat, s.heap.size ≤ q → A q) {Qc : MS → Prop} : ∀ (x1 : Int32) (x2 : Int32) (t1 : Int32) (u : MS) (ls : Array Slot) (H : Heap) (locs : List Loc), lv_has ls 3 [(0, .ref (a 0)), (1, .int x1), (2, .int x2)] → wd x A s.heap ((mcl x a) u) H locs → B_M_star_65 Qc  x1 x2 t1 u → W p l e (rmN 1 0 0) s m args below meth c H locs 0 0 (MQ below (QcV x (mcl x a) A Qc) args s 0 0 A) (F0 m 65 ls [.int t1, .ref (a 0)]) := by
  intro x1 x2 t1 u ls H locs hl hw h
  refine lv_aload_n S.1 S.2.1 d_M_star_65 rfl (lv_at hl 0 rfl) ?_
  refine mg_at S hK hw d_M_star_66 ?_
  refine lv_iload_n S.1 S.2.1 d_M_star_69 rfl (lv_at hl 1 rfl) ?_
  refine lv_if_eq (tgt := 80) S.1 S.2.1 d_M_star_70 (by decide) (fun q_70 => ?_) (fun q_70 => ?_)
  · have h := h.1 q_70
    refine lv_iload_n S.1 S.2.1 d_M_star_80 rfl (lv_at hl 2 rfl) ?_
    exact wB_M_star_81 S hr hlk hK hA  t1 (m_at u) x2 u _ _ _ (lv_sub hl [] rfl) hw h
  · have h := h.2 q_70
    refine lv_aload_n S.1 S.2.1 d_M_star_73 rfl (lv_at hl 0 rfl) ?_
    refine mg_k S hK hw d_M_star_74 ?_
    refine lv_goto (tgt := 81) S.1 S.2.1 d_M_star_77 (by decide) ?_
    exact wB_M_star_81 S hr hlk hK hA  t1 (m_at u) (m_k u) u _ _ _ (lv_sub hl [] rfl) hw h
set_option maxHeartbeats 4000000 in
set_option maxRecDepth 20000 in
theorem wB_M_star_52 (S : CallFix p m c b_M_star 3 s args lw_tg R_Mod) (hr : meth.sig.returnType = none) (hlk : meth.locks = false) (hK : GK x s) (hA : ∀ q : Nat, s.heap.size ≤ q → A q) {Qc : MS → Prop} : ∀ (x1 : Int32) (x2 : Int32) (t1 : Int32) (t2 : Int32) (t3 : Int32) (u : MS) (ls : Array Slot) (H : Heap) (locs : List Loc), lv_has ls 3 [(0, .ref (a 0)), (1, .int x1), (2, .int x2)] → wd x A s.heap ((mcl x a) u) H locs → B_M_star_52 Qc  x1 x2 t1 t2 t3 u → W p l e (rmN 1 0 0) s m args below meth c H locs 0 0 (MQ below (QcV x (mcl x a) A Qc) args s 0 0 A) (F0 m 52 ls [.int t3, .int t2, .int t1, .ref (a 0)]) := by
  intro x1 x2 t1 t2 t3 u ls H locs hl hw h
  refine w_cv hA hw (w_rv (rest := []) S hK hw (c_M_pushBack l t1 t2 t3 u _ _ h) (ci := 0) (q0 := 0) rfl rfl (w_cb (fr := 0) (lv := 0) S.2.2.2.2 k_1060 k_1057 k_8 yd_M_pushBack rfl rfl ⟨Nat.le_of_ble_eq_true rfl, Nat.le_of_ble_eq_true rfl⟩) k_1059 s_53 rfl hl.1 rfl (Nat.le_of_ble_eq_true rfl) d_M_star_52 ⟨Nat.le_refl _, Nat.le_refl _⟩) (fun u_52 H locs h hw => ?_)
  refine lv_aload_n S.1 S.2.1 d_M_star_55 rfl (lv_at hl 0 rfl) ?_
  refine lv_iload_n S.1 S.2.1 d_M_star_56 rfl (lv_at hl 1 rfl) ?_
  refine lv_if_eq (tgt := 64) S.1 S.2.1 d_M_star_57 (by decide) (fun q_57 => ?_) (fun q_57 => ?_)
  · have h := h.1 q_57
    refine lv_iconst (v := 2) S.1 S.2.1 d_M_star_64 (by decide) ?_
    exact wB_M_star_65 S hr hlk hK hA  x1 x2 (2 : Int32) u_52 _ _ _ (lv_sub hl [0, 1, 2] rfl) hw h
  · have h := h.2 q_57
    refine lv_iconst (v := 5) S.1 S.2.1 d_M_star_60 (by decide) ?_
    refine lv_goto (tgt := 65) S.1 S.2.1 d_M_star_61 (by decide) ?_
    exact wB_M_star_65 S hr hlk hK hA  x1 x2 (5 : Int32) u_52 _ _ _ (lv_sub hl [0, 1, 2] rfl) hw h
set_option maxHeartbeats 4000000 in
set_option maxRecDepth 20000 in
theorem wB_M_star_36 (S : CallFix p m c b_M_star 3 s args lw_tg R_Mod) (hr : meth.sig.returnType = none) (hlk : meth.locks = false) (hK : GK x s) (hA : ∀ q : Nat, s.heap.size ≤ q → A q) {Qc : MS → Prop} : ∀ (x1 : Int32) (x2 : Int32) (t1 : Int32) (u : MS) (ls : Array Slot) (H : Heap) (locs : List Loc), lv_has ls 3 [(0, .ref (a 0)), (1, .int x1), (2, .int x2)] → wd x A s.heap ((mcl x a) u) H locs → B_M_star_36 Qc  x1 x2 t1 u → W p l e (rmN 1 0 0) s m args below meth c H locs 0 0 (MQ below (QcV x (mcl x a) A Qc) args s 0 0 A) (F0 m 36 ls [.int t1, .ref (a 0)]) := by
  intro x1 x2 t1 u ls H locs hl hw h
  refine lv_aload_n S.1 S.2.1 d_M_star_36 rfl (lv_at hl 0 rfl) ?_
  refine mg_at S hK hw d_M_star_37 ?_
  refine lv_iload_n S.1 S.2.1 d_M_star_40 rfl (lv_at hl 1 rfl) ?_
  refine lv_if_eq (tgt := 48) S.1 S.2.1 d_M_star_41 (by decide) (fun q_41 => ?_) (fun q_41 => ?_)
  · have h := h.1 q_41
    refine lv_aload_n S.1 S.2.1 d_M_star_48 rfl (lv_at hl 0 rfl) ?_
    refine mg_k S hK hw d_M_star_49 ?_
    exact wB_M_star_52 S hr hlk hK hA  x1 x2 t1 (m_at u) (m_k u) u _ _ _ (lv_sub hl [0, 1, 2] rfl) hw h
  · have h := h.2 q_41
    refine lv_iload_n S.1 S.2.1 d_M_star_44 rfl (lv_at hl 2 rfl) ?_
    refine lv_goto (tgt := 52) S.1 S.2.1 d_M_star_45 (by decide) ?_
    exact wB_M_star_52 S hr hlk hK hA  x1 x2 t1 (m_at u) x2 u _ _ _ (lv_sub hl [0, 1, 2] rfl) hw h
set_option maxHeartbeats 4000000 in
set_option maxRecDepth 20000 in
theorem wB_M_star_10 (S : CallFix p m c b_M_star 3 s args lw_tg R_Mod) (hr : meth.sig.returnType = none) (hlk : meth.locks = false) (hK : GK x s) (hA : ∀ q : Nat, s.heap.size ≤ q → A q) {Qc : MS → Prop} : ∀ (x1 : Int32) (t1 : Int32) (u : MS) (ls : Array Slot) (H : Heap) (locs : List Loc), lv_has ls 3 [(0, .ref (a 0)), (1, .int x1)] → wd x A s.heap ((mcl x a) u) H locs → B_M_star_10 Qc  x1 t1 u → W p l e (rmN 1 0 0) s m args below meth c H locs 0 0 (MQ below (QcV x (mcl x a) A Qc) args s 0 0 A) (F0 m 10 ls [.int t1, .ref (a 0)]) := by
  intro x1 t1 u ls H locs hl hw h
  refine lv_aload_n S.1 S.2.1 d_M_star_10 rfl (lv_at hl 0 rfl) ?_
  refine mg_at S hK hw d_M_star_11 ?_
  refine lv_aload_n S.1 S.2.1 d_M_star_14 rfl (lv_at hl 0 rfl) ?_
  refine mg_p S hK hw d_M_star_15 ?_
  refine lv_aload_n S.1 S.2.1 d_M_star_18 rfl (lv_at hl 0 rfl) ?_
  refine mg_k S hK hw d_M_star_19 ?_
  refine w_ci hA hw (w_rv (rest := []) S hK hw (c_M_push l t1 (m_at u) (m_p u) (m_k u) u _ _ h) (ci := 0) (q0 := 0) rfl rfl (w_cb (fr := 0) (lv := 0) S.2.2.2.2 k_1056 k_1053 k_8 yd_M_push rfl rfl ⟨Nat.le_of_ble_eq_true rfl, Nat.le_of_ble_eq_true rfl⟩) k_1055 s_52 rfl hl.1 rfl (Nat.le_of_ble_eq_true rfl) d_M_star_22 ⟨Nat.le_refl _, Nat.le_refl _⟩) (fun r_22 u_22 H locs h hw => ?_)
  refine lv_istore_n (lv' := [(2, .int r_22), (0, .ref (a 0)), (1, .int x1)]) S.1 S.2.1 d_M_star_25 rfl hl (by decide) rfl (fun ls hl => ?_)
  refine lv_aload_n S.1 S.2.1 d_M_star_26 rfl (lv_at hl 1 rfl) ?_
  refine lv_iload_n S.1 S.2.1 d_M_star_27 rfl (lv_at hl 2 rfl) ?_
  refine lv_if_eq (tgt := 35) S.1 S.2.1 d_M_star_28 (by decide) (fun q_28 => ?_) (fun q_28 => ?_)
  · have h := h.1 q_28
    refine lv_iconst (v := 5) S.1 S.2.1 d_M_star_35 (by decide) ?_
    exact wB_M_star_36 S hr hlk hK hA  x1 r_22 (5 : Int32) u_22 _ _ _ (lv_sub hl [1, 2, 0] rfl) hw h
  · have h := h.2 q_28
    refine lv_iconst (v := 2) S.1 S.2.1 d_M_star_31 (by decide) ?_
    refine lv_goto (tgt := 36) S.1 S.2.1 d_M_star_32 (by decide) ?_
    exact wB_M_star_36 S hr hlk hK hA  x1 r_22 (2 : Int32) u_22 _ _ _ (lv_sub hl [1, 2, 0] rfl) hw h
set_option maxHeartbeats 4000000 in
set_option maxRecDepth 20000 in
theorem c_M_star {x : GX} {a : Nat → Nat} (l : Launch) (x1 : Int32) (u : MS) (sz : Nat) (Qc : MS → Prop) (h : P_M_star x1 u Qc) : Met l y_M_star (wM y_M_star b_M_star 3 none) (rmN 1 0 0) (PreC x (mcl x a) [.ref (a 0), .int x1] u sz) (QcV x (mcl x a) (va_A ((mcl x a) u) sz) Qc) 0 0 (va_A ((mcl x a) u) sz) := by
  refine w_enter (by decide +kernel) (Nat.le_of_ble_eq_true rfl) (fun p e s m args below meth c S hr hlk _ hK hA hw ls hl => ?_)
  have hl : lv_has ls 3 [(0, .ref (a 0)), (1, .int x1)] := hl
  refine lv_aload_n S.1 S.2.1 d_M_star_0 rfl (lv_at hl 0 rfl) ?_
  refine lv_iload_n S.1 S.2.1 d_M_star_1 rfl (lv_at hl 1 rfl) ?_
  refine lv_if_eq (tgt := 9) S.1 S.2.1 d_M_star_2 (by decide) (fun q_2 => ?_) (fun q_2 => ?_)
  · have h := h.1 q_2
    refine lv_iconst (v := 4) S.1 S.2.1 d_M_star_9 (by decide) ?_
    exact wB_M_star_10 S hr hlk hK hA  x1 (4 : Int32) u _ _ _ (lv_sub hl [0, 1] rfl) hw h
  · have h := h.2 q_2
    refine lv_iconst (v := 5) S.1 S.2.1 d_M_star_5 (by decide) ?_
    refine lv_goto (tgt := 10) S.1 S.2.1 d_M_star_6 (by decide) ?_
    exact wB_M_star_10 S hr hlk hK hA  x1 (5 : Int32) u _ _ _ (lv_sub hl [0, 1] rfl) hw h
set_option maxHeartbeats 4000000 in
set_option maxRecDepth 20000 in
theorem c_M_placeOf {x : GX} {a : Nat → Nat} (l : Launch) (x1 : Int32) (u : MS) (sz : Nat) (Qc : Int32 → MS → Prop) (h : P_M_placeOf x1 u Qc) : Met l y_M_placeOf (wM y_M_placeOf b_M_placeOf 2 (some .int)) (rmN 0 0 0) (PreC x (mcl x a) [.ref (a 0), .int x1] u sz) (QcI x (mcl x a) (va_A ((mcl x a) u) sz) Qc) 0 0 (va_A ((mcl x a) u) sz) := by
  refine w_enter (by decide +kernel) (Nat.le_of_ble_eq_true rfl) (fun p e s m args below meth c S hr hlk _ hK hA hw ls hl => ?_)
  have hl : lv_has ls 2 [(0, .ref (a 0)), (1, .int x1)] := hl
  refine lv_aload_n S.1 S.2.1 d_M_placeOf_0 rfl (lv_at hl 0 rfl) ?_
  refine mg_frame S hK hw d_M_placeOf_1 ?_
  refine lv_iload_n S.1 S.2.1 d_M_placeOf_4 rfl (lv_at hl 1 rfl) ?_
  have hg := h.1
  have h := h.2
  refine ml_frame S hK hw hg d_M_placeOf_5 ?_
  refine lv_iconst (v := 4) S.1 S.2.1 d_M_placeOf_6 (by decide) ?_
  refine lv_lshr S.1 S.2.1 d_M_placeOf_7 rfl ?_
  refine lv_l2i S.1 S.2.1 d_M_placeOf_8 rfl ?_
  refine lv_bipush (v := 63) S.1 S.2.1 d_M_placeOf_9 (by decide) ?_
  refine lv_iand S.1 S.2.1 d_M_placeOf_11 ?_
  exact w_iret S hr hlk hK hw h d_M_placeOf_12
set_option maxHeartbeats 4000000 in
set_option maxRecDepth 20000 in
theorem c_M_numberOf {x : GX} {a : Nat → Nat} (l : Launch) (x1 : Int32) (u : MS) (sz : Nat) (Qc : Int32 → MS → Prop) (h : P_M_numberOf x1 u Qc) : Met l y_M_numberOf (wM y_M_numberOf b_M_numberOf 2 (some .int)) (rmN 0 0 0) (PreC x (mcl x a) [.ref (a 0), .int x1] u sz) (QcI x (mcl x a) (va_A ((mcl x a) u) sz) Qc) 0 0 (va_A ((mcl x a) u) sz) := by
  refine w_enter (by decide +kernel) (Nat.le_of_ble_eq_true rfl) (fun p e s m args below meth c S hr hlk _ hK hA hw ls hl => ?_)
  have hl : lv_has ls 2 [(0, .ref (a 0)), (1, .int x1)] := hl
  refine lv_aload_n S.1 S.2.1 d_M_numberOf_0 rfl (lv_at hl 0 rfl) ?_
  refine mg_frame S hK hw d_M_numberOf_1 ?_
  refine lv_iload_n S.1 S.2.1 d_M_numberOf_4 rfl (lv_at hl 1 rfl) ?_
  have hg := h.1
  have h := h.2
  refine ml_frame S hK hw hg d_M_numberOf_5 ?_
  refine lv_bipush (v := 10) S.1 S.2.1 d_M_numberOf_6 (by decide) ?_
  refine lv_lshr S.1 S.2.1 d_M_numberOf_8 rfl ?_
  refine lv_l2i S.1 S.2.1 d_M_numberOf_9 rfl ?_
  refine lv_sipush (v := 8191) S.1 S.2.1 d_M_numberOf_10 (by decide) ?_
  refine lv_iand S.1 S.2.1 d_M_numberOf_13 ?_
  exact w_iret S hr hlk hK hw h d_M_numberOf_14
set_option maxHeartbeats 4000000 in
set_option maxRecDepth 20000 in
theorem wB_M_carryOn_188 (S : CallFix p m c b_M_carryOn 6 s args lw_tg R_Mod) (hr : meth.sig.returnType = none) (hlk : meth.locks = false) (hK : GK x s) (hA : ∀ q : Nat, s.heap.size ≤ q → A q) {Qc : MS → Prop} : ∀ (x2 : Int32) (x3 : Int32) (t1 : Int32) (u : MS) (ls : Array Slot) (H : Heap) (locs : List Loc), lv_has ls 6 [(2, .int x2), (3, .int x3)] → wd x A s.heap ((mcl x a) u) H locs → B_M_carryOn_188 Qc  x2 x3 t1 u → W p l e (rmN 1 0 0) s m args below meth c H locs 0 0 (MQ below (QcV x (mcl x a) A Qc) args s 0 0 A) (F0 m 188 ls [.int t1, .ref (a 0)]) := by
  intro x2 x3 t1 u ls H locs hl hw h
  refine lv_iload_n S.1 S.2.1 d_M_carryOn_188 rfl (lv_at hl 1 rfl) ?_
  refine lv_iload_n S.1 S.2.1 d_M_carryOn_189 rfl (lv_at hl 0 rfl) ?_
  refine w_cv hA hw (w_rv (rest := []) S hK hw (c_M_go l t1 x3 x2 u _ _ h) (ci := 0) (q0 := 0) rfl rfl (w_cb (fr := 0) (lv := 0) S.2.2.2.2 k_1027 k_1024 k_8 yd_M_go rfl rfl ⟨Nat.le_of_ble_eq_true rfl, Nat.le_of_ble_eq_true rfl⟩) k_1026 s_45 rfl hl.1 rfl (Nat.le_of_ble_eq_true rfl) d_M_carryOn_190 ⟨Nat.le_refl _, Nat.le_refl _⟩) (fun u_190 H locs h hw => ?_)
  refine lv_goto (tgt := 297) S.1 S.2.1 d_M_carryOn_193 (by decide) ?_
  exact w_vret S hr hlk hK hw h d_M_carryOn_297
set_option maxHeartbeats 4000000 in
set_option maxRecDepth 20000 in
theorem wB_M_carryOn_167 (S : CallFix p m c b_M_carryOn 6 s args lw_tg R_Mod) (hr : meth.sig.returnType = none) (hlk : meth.locks = false) (hK : GK x s) (hA : ∀ q : Nat, s.heap.size ≤ q → A q) {Qc : MS → Prop} : ∀ (x1 : Int32) (x2 : Int32) (x3 : Int32) (x4 : Int32) (u : MS) (ls : Array Slot) (H : Heap) (locs : List Loc), lv_has ls 6 [(0, .ref (a 0)), (1, .int x1), (2, .int x2), (3, .int x3), (4, .int x4)] → wd x A s.heap ((mcl x a) u) H locs → B_M_carryOn_167 Qc  x1 x2 x3 x4 u → W p l e (rmN 1 0 0) s m args below meth c H locs 0 0 (MQ below (QcV x (mcl x a) A Qc) args s 0 0 A) (F0 m 167 ls []) := by
  intro x1 x2 x3 x4 u ls H locs hl hw h
  refine lv_aload_n S.1 S.2.1 d_M_carryOn_167 rfl (lv_at hl 0 rfl) ?_
  refine lv_iload S.1 S.2.1 d_M_carryOn_168 (lv_at hl 4 rfl) ?_
  refine lv_aload_n S.1 S.2.1 d_M_carryOn_170 rfl (lv_at hl 0 rfl) ?_
  refine mg_p S hK hw d_M_carryOn_171 ?_
  refine lv_icmp_ne (tgt := 181) S.1 S.2.1 d_M_carryOn_174 (by decide) (fun q_174 => ?_) (fun q_174 => ?_)
  · have h := h.2 q_174
    refine lv_aload_n S.1 S.2.1 d_M_carryOn_181 rfl (lv_at hl 0 rfl) ?_
    refine lv_iload_n S.1 S.2.1 d_M_carryOn_182 rfl (lv_at hl 1 rfl) ?_
    refine w_ci hA hw (w_rv (rest := [.ref (a 0)]) S hK hw (c_M_kindOf l x1 u _ _ h) (ci := 0) (q0 := 0) rfl rfl (w_cb (fr := 0) (lv := 0) S.2.2.2.2 k_1084 k_1081 k_8 yd_M_kindOf rfl rfl ⟨Nat.le_of_ble_eq_true rfl, Nat.le_of_ble_eq_true rfl⟩) k_1083 s_59 rfl hl.1 rfl (Nat.le_of_ble_eq_true rfl) d_M_carryOn_183 ⟨Nat.le_refl _, Nat.le_refl _⟩) (fun r_183 u_183 H locs h hw => ?_)
    refine lv_iconst (v := 1) S.1 S.2.1 d_M_carryOn_186 (by decide) ?_
    refine lv_isub S.1 S.2.1 d_M_carryOn_187 ?_
    exact wB_M_carryOn_188 S hr hlk hK hA  x2 x3 (r_183 - (1 : Int32)) u_183 _ _ _ (lv_sub hl [2, 3] rfl) hw h
  · have h := h.1 q_174
    refine lv_iconst (v := 5) S.1 S.2.1 d_M_carryOn_177 (by decide) ?_
    refine lv_goto (tgt := 188) S.1 S.2.1 d_M_carryOn_178 (by decide) ?_
    exact wB_M_carryOn_188 S hr hlk hK hA  x2 x3 (5 : Int32) u _ _ _ (lv_sub hl [2, 3] rfl) hw h
set_option maxHeartbeats 4000000 in
set_option maxRecDepth 20000 in
theorem wB_M_carryOn_229 (S : CallFix p m c b_M_carryOn 6 s args lw_tg R_Mod) (hr : meth.sig.returnType = none) (hlk : meth.locks = false) (hK : GK x s) (hA : ∀ q : Nat, s.heap.size ≤ q → A q) {Qc : MS → Prop} : ∀ (t1 : Int32) (t2 : Int32) (t3 : Int32) (u : MS) (ls : Array Slot) (H : Heap) (locs : List Loc), lv_has ls 6 [] → wd x A s.heap ((mcl x a) u) H locs → B_M_carryOn_229 Qc  t1 t2 t3 u → W p l e (rmN 1 0 0) s m args below meth c H locs 0 0 (MQ below (QcV x (mcl x a) A Qc) args s 0 0 A) (F0 m 229 ls [.int t3, .int t2, .int t1, .ref (a 0)]) := by
  intro t1 t2 t3 u ls H locs hl hw h
  refine w_cv hA hw (w_rv (rest := []) S hK hw (c_M_go l t1 t2 t3 u _ _ h) (ci := 0) (q0 := 0) rfl rfl (w_cb (fr := 0) (lv := 0) S.2.2.2.2 k_1027 k_1024 k_8 yd_M_go rfl rfl ⟨Nat.le_of_ble_eq_true rfl, Nat.le_of_ble_eq_true rfl⟩) k_1026 s_45 rfl hl.1 rfl (Nat.le_of_ble_eq_true rfl) d_M_carryOn_229 ⟨Nat.le_refl _, Nat.le_refl _⟩) (fun u_229 H locs h hw => ?_)
  refine lv_goto (tgt := 297) S.1 S.2.1 d_M_carryOn_232 (by decide) ?_
  exact w_vret S hr hlk hK hw h d_M_carryOn_297
set_option maxHeartbeats 4000000 in
set_option maxRecDepth 20000 in
theorem wB_M_carryOn_207 (S : CallFix p m c b_M_carryOn 6 s args lw_tg R_Mod) (hr : meth.sig.returnType = none) (hlk : meth.locks = false) (hK : GK x s) (hA : ∀ q : Nat, s.heap.size ≤ q → A q) {Qc : MS → Prop} : ∀ (x2 : Int32) (x3 : Int32) (x4 : Int32) (t1 : Int32) (u : MS) (ls : Array Slot) (H : Heap) (locs : List Loc), lv_has ls 6 [(0, .ref (a 0)), (2, .int x2), (3, .int x3), (4, .int x4)] → wd x A s.heap ((mcl x a) u) H locs → B_M_carryOn_207 Qc  x2 x3 x4 t1 u → W p l e (rmN 1 0 0) s m args below meth c H locs 0 0 (MQ below (QcV x (mcl x a) A Qc) args s 0 0 A) (F0 m 207 ls [.int t1, .ref (a 0)]) := by
  intro x2 x3 x4 t1 u ls H locs hl hw h
  refine lv_iload_n S.1 S.2.1 d_M_carryOn_207 rfl (lv_at hl 2 rfl) ?_
  refine lv_iload S.1 S.2.1 d_M_carryOn_208 (lv_at hl 3 rfl) ?_
  refine lv_if_ne (tgt := 217) S.1 S.2.1 d_M_carryOn_210 (by decide) (fun q_210 => ?_) (fun q_210 => ?_)
  · have h := h.2 q_210
    refine lv_aload_n S.1 S.2.1 d_M_carryOn_217 rfl (lv_at hl 0 rfl) ?_
    refine lv_bipush (v := 6) S.1 S.2.1 d_M_carryOn_218 (by decide) ?_
    refine lv_iload_n S.1 S.2.1 d_M_carryOn_220 rfl (lv_at hl 2 rfl) ?_
    refine lv_iload S.1 S.2.1 d_M_carryOn_221 (lv_at hl 3 rfl) ?_
    refine lv_iconst (v := 1) S.1 S.2.1 d_M_carryOn_223 (by decide) ?_
    refine lv_isub S.1 S.2.1 d_M_carryOn_224 ?_
    refine lv_iload_n S.1 S.2.1 d_M_carryOn_225 rfl (lv_at hl 1 rfl) ?_
    refine w_ci hA hw (w_rv (rest := [.int x3, .int t1, .ref (a 0)]) S hK hw (c_M_push l (6 : Int32) x3 (x4 - (1 : Int32)) x2 u _ _ h) (ci := 0) (q0 := 0) rfl rfl (w_cb (fr := 0) (lv := 0) S.2.2.2.2 k_1056 k_1053 k_8 yd_M_push rfl rfl ⟨Nat.le_of_ble_eq_true rfl, Nat.le_of_ble_eq_true rfl⟩) k_1055 s_52 rfl hl.1 rfl (Nat.le_of_ble_eq_true rfl) d_M_carryOn_226 ⟨Nat.le_refl _, Nat.le_refl _⟩) (fun r_226 u_226 H locs h hw => ?_)
    exact wB_M_carryOn_229 S hr hlk hK hA  t1 x3 r_226 u_226 _ _ _ (lv_sub hl [] rfl) hw h
  · have h := h.1 q_210
    refine lv_iload_n S.1 S.2.1 d_M_carryOn_213 rfl (lv_at hl 1 rfl) ?_
    refine lv_goto (tgt := 229) S.1 S.2.1 d_M_carryOn_214 (by decide) ?_
    exact wB_M_carryOn_229 S hr hlk hK hA  t1 x3 x2 u _ _ _ (lv_sub hl [] rfl) hw h
set_option maxHeartbeats 4000000 in
set_option maxRecDepth 20000 in
theorem wB_M_carryOn_256 (S : CallFix p m c b_M_carryOn 6 s args lw_tg R_Mod) (hr : meth.sig.returnType = none) (hlk : meth.locks = false) (hK : GK x s) (hA : ∀ q : Nat, s.heap.size ≤ q → A q) {Qc : MS → Prop} : ∀ (x2 : Int32) (u : MS) (ls : Array Slot) (H : Heap) (locs : List Loc), lv_has ls 6 [(0, .ref (a 0)), (2, .int x2)] → wd x A s.heap ((mcl x a) u) H locs → B_M_carryOn_256 Qc  x2 u → W p l e (rmN 1 0 0) s m args below meth c H locs 0 0 (MQ below (QcV x (mcl x a) A Qc) args s 0 0 A) (F0 m 256 ls []) := by
  intro x2 u ls H locs hl hw h
  refine lv_aload_n S.1 S.2.1 d_M_carryOn_256 rfl (lv_at hl 0 rfl) ?_
  refine lv_iconst (v := 5) S.1 S.2.1 d_M_carryOn_257 (by decide) ?_
  refine lv_iconst (v := 0) S.1 S.2.1 d_M_carryOn_258 (by decide) ?_
  refine lv_iload_n S.1 S.2.1 d_M_carryOn_259 rfl (lv_at hl 1 rfl) ?_
  refine w_cv hA hw (w_rv (rest := []) S hK hw (c_M_go l (5 : Int32) (0 : Int32) x2 u _ _ h) (ci := 0) (q0 := 0) rfl rfl (w_cb (fr := 0) (lv := 0) S.2.2.2.2 k_1027 k_1024 k_8 yd_M_go rfl rfl ⟨Nat.le_of_ble_eq_true rfl, Nat.le_of_ble_eq_true rfl⟩) k_1026 s_45 rfl hl.1 rfl (Nat.le_of_ble_eq_true rfl) d_M_carryOn_260 ⟨Nat.le_refl _, Nat.le_refl _⟩) (fun u_260 H locs h hw => ?_)
  refine lv_goto (tgt := 297) S.1 S.2.1 d_M_carryOn_263 (by decide) ?_
  exact w_vret S hr hlk hK hw h d_M_carryOn_297
set_option maxHeartbeats 4000000 in
set_option maxRecDepth 20000 in
theorem wB_M_carryOn_235 (S : CallFix p m c b_M_carryOn 6 s args lw_tg R_Mod) (hr : meth.sig.returnType = none) (hlk : meth.locks = false) (hK : GK x s) (hA : ∀ q : Nat, s.heap.size ≤ q → A q) {Qc : MS → Prop} : ∀ (x1 : Int32) (x2 : Int32) (x3 : Int32) (x4 : Int32) (u : MS) (ls : Array Slot) (H : Heap) (locs : List Loc), lv_has ls 6 [(0, .ref (a 0)), (1, .int x1), (2, .int x2), (3, .int x3), (4, .int x4)] → wd x A s.heap ((mcl x a) u) H locs → B_M_carryOn_235 Qc  x1 x2 x3 x4 u → W p l e (rmN 1 0 0) s m args below meth c H locs 0 0 (MQ below (QcV x (mcl x a) A Qc) args s 0 0 A) (F0 m 235 ls []) := by
  intro x1 x2 x3 x4 u ls H locs hl hw h
  refine lv_aload_n S.1 S.2.1 d_M_carryOn_235 rfl (lv_at hl 0 rfl) ?_
  refine lv_iload S.1 S.2.1 d_M_carryOn_236 (lv_at hl 4 rfl) ?_
  refine mp_backs S hK hw d_M_carryOn_238 (fun H locs hw => ?_)
  refine lv_aload_n S.1 S.2.1 d_M_carryOn_241 rfl (lv_at hl 0 rfl) ?_
  refine lv_iload_n S.1 S.2.1 d_M_carryOn_242 rfl (lv_at hl 1 rfl) ?_
  refine w_ci hA hw (w_rv (rest := []) S hK hw (c_M_kindOf l x1 (ms_backs u x4) _ _ h) (ci := 0) (q0 := 0) rfl rfl (w_cb (fr := 0) (lv := 0) S.2.2.2.2 k_1084 k_1081 k_8 yd_M_kindOf rfl rfl ⟨Nat.le_of_ble_eq_true rfl, Nat.le_of_ble_eq_true rfl⟩) k_1083 s_59 rfl hl.1 rfl (Nat.le_of_ble_eq_true rfl) d_M_carryOn_243 ⟨Nat.le_refl _, Nat.le_refl _⟩) (fun r_243 u_243 H locs h hw => ?_)
  refine lv_bipush (v := 8) S.1 S.2.1 d_M_carryOn_246 (by decide) ?_
  refine lv_icmp_ne (tgt := 256) S.1 S.2.1 d_M_carryOn_248 (by decide) (fun q_248 => ?_) (fun q_248 => ?_)
  · have h := h.2 q_248
    exact wB_M_carryOn_256 S hr hlk hK hA  x2 u_243 _ _ _ (lv_sub hl [0, 2] rfl) hw h
  · have h := h.1 q_248
    refine lv_aload_n S.1 S.2.1 d_M_carryOn_251 rfl (lv_at hl 0 rfl) ?_
    refine lv_iload_n S.1 S.2.1 d_M_carryOn_252 rfl (lv_at hl 3 rfl) ?_
    refine mp_p S hK hw d_M_carryOn_253 (fun H locs hw => ?_)
    exact wB_M_carryOn_256 S hr hlk hK hA  x2 (ms_p u_243 x3) _ _ _ (lv_sub hl [0, 2] rfl) hw h
set_option maxHeartbeats 4000000 in
set_option maxRecDepth 20000 in
theorem c_M_carryOn {x : GX} {a : Nat → Nat} (l : Launch)  (u : MS) (sz : Nat) (Qc : MS → Prop) (h : P_M_carryOn  u Qc) : Met l y_M_carryOn (wM y_M_carryOn b_M_carryOn 6 none) (rmN 1 0 0) (PreC x (mcl x a) [.ref (a 0)] u sz) (QcV x (mcl x a) (va_A ((mcl x a) u) sz) Qc) 0 0 (va_A ((mcl x a) u) sz) := by
  refine w_enter (by decide +kernel) (Nat.le_of_ble_eq_true rfl) (fun p e s m args below meth c S hr hlk _ hK hA hw ls hl => ?_)
  have hl : lv_has ls 6 [(0, .ref (a 0))] := hl
  refine lv_aload_n S.1 S.2.1 d_M_carryOn_0 rfl (lv_at hl 0 rfl) ?_
  refine mg_k S hK hw d_M_carryOn_1 ?_
  refine lv_topi (fun x1_4 ex1_4 => ?_)
  have h := h x1_4 ex1_4
  refine lv_istore_n (lv' := [(1, .int x1_4), (0, .ref (a 0))]) S.1 S.2.1 d_M_carryOn_4 rfl hl (by decide) rfl (fun ls hl => ?_)
  refine lv_aload_n S.1 S.2.1 d_M_carryOn_5 rfl (lv_at hl 1 rfl) ?_
  refine lv_iload_n S.1 S.2.1 d_M_carryOn_6 rfl (lv_at hl 0 rfl) ?_
  refine w_ci hA hw (w_rv (rest := []) S hK hw (c_M_parentOf l x1_4 u _ _ h) (ci := 0) (q0 := 0) rfl rfl (w_cb (fr := 0) (lv := 0) S.2.2.2.2 k_1088 k_1085 k_8 yd_M_parentOf rfl rfl ⟨Nat.le_of_ble_eq_true rfl, Nat.le_of_ble_eq_true rfl⟩) k_1087 s_60 rfl hl.1 rfl (Nat.le_of_ble_eq_true rfl) d_M_carryOn_7 ⟨Nat.le_refl _, Nat.le_refl _⟩) (fun r_7 u_7 H locs h hw => ?_)
  refine lv_istore_n (lv' := [(2, .int r_7), (1, .int x1_4), (0, .ref (a 0))]) S.1 S.2.1 d_M_carryOn_10 rfl hl (by decide) rfl (fun ls hl => ?_)
  refine lv_aload_n S.1 S.2.1 d_M_carryOn_11 rfl (lv_at hl 2 rfl) ?_
  refine lv_iload_n S.1 S.2.1 d_M_carryOn_12 rfl (lv_at hl 1 rfl) ?_
  refine w_ci hA hw (w_rv (rest := []) S hK hw (c_M_placeOf l x1_4 u_7 _ _ h) (ci := 0) (q0 := 0) rfl rfl (w_cb (fr := 0) (lv := 0) S.2.2.2.2 k_1124 k_1121 k_8 yd_M_placeOf rfl rfl ⟨Nat.le_of_ble_eq_true rfl, Nat.le_of_ble_eq_true rfl⟩) k_1123 s_69 rfl hl.1 rfl (Nat.le_of_ble_eq_true rfl) d_M_carryOn_13 ⟨Nat.le_refl _, Nat.le_refl _⟩) (fun r_13 u_13 H locs h hw => ?_)
  refine lv_istore_n (lv' := [(3, .int r_13), (2, .int r_7), (1, .int x1_4), (0, .ref (a 0))]) S.1 S.2.1 d_M_carryOn_16 rfl hl (by decide) rfl (fun ls hl => ?_)
  refine lv_aload_n S.1 S.2.1 d_M_carryOn_17 rfl (lv_at hl 3 rfl) ?_
  refine lv_iload_n S.1 S.2.1 d_M_carryOn_18 rfl (lv_at hl 2 rfl) ?_
  refine w_ci hA hw (w_rv (rest := []) S hK hw (c_M_numberOf l x1_4 u_13 _ _ h) (ci := 0) (q0 := 0) rfl rfl (w_cb (fr := 0) (lv := 0) S.2.2.2.2 k_1128 k_1125 k_8 yd_M_numberOf rfl rfl ⟨Nat.le_of_ble_eq_true rfl, Nat.le_of_ble_eq_true rfl⟩) k_1127 s_70 rfl hl.1 rfl (Nat.le_of_ble_eq_true rfl) d_M_carryOn_19 ⟨Nat.le_refl _, Nat.le_refl _⟩) (fun r_19 u_19 H locs h hw => ?_)
  refine lv_istore (lv' := [(4, .int r_19), (3, .int r_13), (2, .int r_7), (1, .int x1_4), (0, .ref (a 0))]) S.1 S.2.1 d_M_carryOn_22 hl (by decide) rfl (fun ls hl => ?_)
  refine lv_aload_n S.1 S.2.1 d_M_carryOn_24 rfl (lv_at hl 4 rfl) ?_
  refine lv_iload_n S.1 S.2.1 d_M_carryOn_25 rfl (lv_at hl 3 rfl) ?_
  refine w_ci hA hw (w_rv (rest := []) S hK hw (c_M_kindOf l x1_4 u_19 _ _ h) (ci := 0) (q0 := 0) rfl rfl (w_cb (fr := 0) (lv := 0) S.2.2.2.2 k_1084 k_1081 k_8 yd_M_kindOf rfl rfl ⟨Nat.le_of_ble_eq_true rfl, Nat.le_of_ble_eq_true rfl⟩) k_1083 s_59 rfl hl.1 rfl (Nat.le_of_ble_eq_true rfl) d_M_carryOn_26 ⟨Nat.le_refl _, Nat.le_refl _⟩) (fun r_26 u_26 H locs h hw => ?_)
  by_cases q_29_0 : r_26 = (1 : Int32)
  · have h := h.1 q_29_0
    refine lv_tableIn (tgt := 80) (off := 51) S.1 S.2.1 d_M_carryOn_29 (by rw [q_29_0]; decide) (by rw [q_29_0]; decide) (by rw [q_29_0]; rfl) (by decide) ?_
    refine lv_aload_n S.1 S.2.1 d_M_carryOn_80 rfl (lv_at hl 4 rfl) ?_
    refine lv_iconst (v := 0) S.1 S.2.1 d_M_carryOn_81 (by decide) ?_
    refine lv_iload_n S.1 S.2.1 d_M_carryOn_82 rfl (lv_at hl 1 rfl) ?_
    refine lv_iload_n S.1 S.2.1 d_M_carryOn_83 rfl (lv_at hl 2 rfl) ?_
    refine w_cv hA hw (w_rv (rest := []) S hK hw (c_M_go l (0 : Int32) r_13 r_7 u_26 _ _ h) (ci := 0) (q0 := 0) rfl rfl (w_cb (fr := 0) (lv := 0) S.2.2.2.2 k_1027 k_1024 k_8 yd_M_go rfl rfl ⟨Nat.le_of_ble_eq_true rfl, Nat.le_of_ble_eq_true rfl⟩) k_1026 s_45 rfl hl.1 rfl (Nat.le_of_ble_eq_true rfl) d_M_carryOn_84 ⟨Nat.le_refl _, Nat.le_refl _⟩) (fun u_84 H locs h hw => ?_)
    refine lv_goto (tgt := 297) S.1 S.2.1 d_M_carryOn_87 (by decide) ?_
    exact w_vret S hr hlk hK hw h d_M_carryOn_297
  by_cases q_29_1 : r_26 = (2 : Int32)
  · have h := h.2.1 q_29_1
    refine lv_tableIn (tgt := 90) (off := 61) S.1 S.2.1 d_M_carryOn_29 (by rw [q_29_1]; decide) (by rw [q_29_1]; decide) (by rw [q_29_1]; rfl) (by decide) ?_
    refine lv_bipush (v := 12) S.1 S.2.1 d_M_carryOn_90 (by decide) ?_
    refine lv_iload_n S.1 S.2.1 d_M_carryOn_92 rfl (lv_at hl 1 rfl) ?_
    refine lv_iconst (v := 1) S.1 S.2.1 d_M_carryOn_93 (by decide) ?_
    refine lv_isub S.1 S.2.1 d_M_carryOn_94 ?_
    refine lv_imul S.1 S.2.1 d_M_carryOn_95 ?_
    refine lv_topi (fun x5_96 ex5_96 => ?_)
    have h := h x5_96 ex5_96
    refine lv_istore (lv' := [(5, .int x5_96), (4, .int r_19), (3, .int r_13), (2, .int r_7), (1, .int x1_4), (0, .ref (a 0))]) S.1 S.2.1 d_M_carryOn_96 hl (by decide) rfl (fun ls hl => ?_)
    refine lv_aload_n S.1 S.2.1 d_M_carryOn_98 rfl (lv_at hl 5 rfl) ?_
    refine lv_aload_n S.1 S.2.1 d_M_carryOn_99 rfl (lv_at hl 5 rfl) ?_
    refine mg_caps S hK hw d_M_carryOn_100 ?_
    refine lv_ldc2 (v := 4095) S.1 S.2.1 S.2.2.2.1 (S.2.2.2.2 _ k_1129) d_M_carryOn_103 ?_
    refine lv_iload S.1 S.2.1 d_M_carryOn_106 (lv_at hl 0 rfl) ?_
    refine lv_lshl S.1 S.2.1 d_M_carryOn_108 rfl ?_
    refine lv_ldc2 (v := -1) S.1 S.2.1 S.2.2.2.1 (S.2.2.2.2 _ k_1130) d_M_carryOn_109 ?_
    refine lv_lxor S.1 S.2.1 d_M_carryOn_112 ?_
    refine lv_land S.1 S.2.1 d_M_carryOn_113 ?_
    refine lv_bipush (v := 64) S.1 S.2.1 d_M_carryOn_114 (by decide) ?_
    refine lv_iload S.1 S.2.1 d_M_carryOn_116 (lv_at hl 1 rfl) ?_
    refine lv_iconst (v := 1) S.1 S.2.1 d_M_carryOn_118 (by decide) ?_
    refine lv_iadd S.1 S.2.1 d_M_carryOn_119 ?_
    refine lv_imul S.1 S.2.1 d_M_carryOn_120 ?_
    refine lv_aload_n S.1 S.2.1 d_M_carryOn_121 rfl (lv_at hl 5 rfl) ?_
    refine mg_p S hK hw d_M_carryOn_122 ?_
    refine lv_iadd S.1 S.2.1 d_M_carryOn_125 ?_
    refine lv_iconst (v := 1) S.1 S.2.1 d_M_carryOn_126 (by decide) ?_
    refine lv_iadd S.1 S.2.1 d_M_carryOn_127 ?_
    refine lv_i2l S.1 S.2.1 d_M_carryOn_128 rfl ?_
    refine lv_iload S.1 S.2.1 d_M_carryOn_129 (lv_at hl 0 rfl) ?_
    refine lv_lshl S.1 S.2.1 d_M_carryOn_131 rfl ?_
    refine lv_lor S.1 S.2.1 d_M_carryOn_132 ?_
    refine mp_caps S hK hw d_M_carryOn_133 (fun H locs hw => ?_)
    refine lv_aload_n S.1 S.2.1 d_M_carryOn_136 rfl (lv_at hl 5 rfl) ?_
    refine lv_iconst (v := 5) S.1 S.2.1 d_M_carryOn_137 (by decide) ?_
    refine lv_iconst (v := 0) S.1 S.2.1 d_M_carryOn_138 (by decide) ?_
    refine lv_iload_n S.1 S.2.1 d_M_carryOn_139 rfl (lv_at hl 3 rfl) ?_
    refine w_cv hA hw (w_rv (rest := []) S hK hw (c_M_go l (5 : Int32) (0 : Int32) r_7 (ms_caps u_26 (((m_caps u_26) &&& (((4095 : Int64) <<< (x5_96.toInt64 &&& 63)) ^^^ (-1 : Int64))) ||| (((((64 : Int32) * (r_19 + (1 : Int32))) + (m_p u_26)) + (1 : Int32)).toInt64 <<< (x5_96.toInt64 &&& 63)))) _ _ h) (ci := 0) (q0 := 0) rfl rfl (w_cb (fr := 0) (lv := 0) S.2.2.2.2 k_1027 k_1024 k_8 yd_M_go rfl rfl ⟨Nat.le_of_ble_eq_true rfl, Nat.le_of_ble_eq_true rfl⟩) k_1026 s_45 rfl hl.1 rfl (Nat.le_of_ble_eq_true rfl) d_M_carryOn_140 ⟨Nat.le_refl _, Nat.le_refl _⟩) (fun u_140 H locs h hw => ?_)
    refine lv_goto (tgt := 297) S.1 S.2.1 d_M_carryOn_143 (by decide) ?_
    exact w_vret S hr hlk hK hw h d_M_carryOn_297
  by_cases q_29_2 : r_26 = (3 : Int32)
  · have h := h.2.2.1 q_29_2
    refine lv_tableIn (tgt := 146) (off := 117) S.1 S.2.1 d_M_carryOn_29 (by rw [q_29_2]; decide) (by rw [q_29_2]; decide) (by rw [q_29_2]; rfl) (by decide) ?_
    refine lv_aload_n S.1 S.2.1 d_M_carryOn_146 rfl (lv_at hl 4 rfl) ?_
    refine lv_aload_n S.1 S.2.1 d_M_carryOn_147 rfl (lv_at hl 4 rfl) ?_
    refine mg_kept S hK hw d_M_carryOn_148 ?_
    refine lv_iload S.1 S.2.1 d_M_carryOn_151 (lv_at hl 0 rfl) ?_
    have hg := h.1
    have h := h.2
    refine ml_kept S hK hw hg d_M_carryOn_153 ?_
    refine mp_caps S hK hw d_M_carryOn_154 (fun H locs hw => ?_)
    refine lv_aload_n S.1 S.2.1 d_M_carryOn_157 rfl (lv_at hl 4 rfl) ?_
    refine lv_iconst (v := 5) S.1 S.2.1 d_M_carryOn_158 (by decide) ?_
    refine lv_iconst (v := 0) S.1 S.2.1 d_M_carryOn_159 (by decide) ?_
    refine lv_iload_n S.1 S.2.1 d_M_carryOn_160 rfl (lv_at hl 2 rfl) ?_
    refine w_cv hA hw (w_rv (rest := []) S hK hw (c_M_go l (5 : Int32) (0 : Int32) r_7 (ms_caps u_26 (m_kept u_26 r_19.toNatClampNeg)) _ _ h) (ci := 0) (q0 := 0) rfl rfl (w_cb (fr := 0) (lv := 0) S.2.2.2.2 k_1027 k_1024 k_8 yd_M_go rfl rfl ⟨Nat.le_of_ble_eq_true rfl, Nat.le_of_ble_eq_true rfl⟩) k_1026 s_45 rfl hl.1 rfl (Nat.le_of_ble_eq_true rfl) d_M_carryOn_161 ⟨Nat.le_refl _, Nat.le_refl _⟩) (fun u_161 H locs h hw => ?_)
    refine lv_goto (tgt := 297) S.1 S.2.1 d_M_carryOn_164 (by decide) ?_
    exact w_vret S hr hlk hK hw h d_M_carryOn_297
  by_cases q_29_3 : r_26 = (4 : Int32)
  · have h := h.2.2.2.1 q_29_3
    refine lv_tableIn (tgt := 167) (off := 138) S.1 S.2.1 d_M_carryOn_29 (by rw [q_29_3]; decide) (by rw [q_29_3]; decide) (by rw [q_29_3]; rfl) (by decide) ?_
    exact wB_M_carryOn_167 S hr hlk hK hA  x1_4 r_7 r_13 r_19 u_26 _ _ _ (lv_sub hl [4, 3, 2, 1, 0] rfl) hw h
  by_cases q_29_4 : r_26 = (5 : Int32)
  · have h := h.2.2.2.2.1 q_29_4
    refine lv_tableIn (tgt := 167) (off := 138) S.1 S.2.1 d_M_carryOn_29 (by rw [q_29_4]; decide) (by rw [q_29_4]; decide) (by rw [q_29_4]; rfl) (by decide) ?_
    exact wB_M_carryOn_167 S hr hlk hK hA  x1_4 r_7 r_13 r_19 u_26 _ _ _ (lv_sub hl [4, 3, 2, 1, 0] rfl) hw h
  by_cases q_29_5 : r_26 = (6 : Int32)
  · have h := h.2.2.2.2.2.1 q_29_5
    refine lv_tableIn (tgt := 196) (off := 167) S.1 S.2.1 d_M_carryOn_29 (by rw [q_29_5]; decide) (by rw [q_29_5]; decide) (by rw [q_29_5]; rfl) (by decide) ?_
    refine lv_aload_n S.1 S.2.1 d_M_carryOn_196 rfl (lv_at hl 4 rfl) ?_
    refine lv_iload S.1 S.2.1 d_M_carryOn_197 (lv_at hl 0 rfl) ?_
    refine lv_if_ne (tgt := 206) S.1 S.2.1 d_M_carryOn_199 (by decide) (fun q_199 => ?_) (fun q_199 => ?_)
    · have h := h.2 q_199
      refine lv_iconst (v := 2) S.1 S.2.1 d_M_carryOn_206 (by decide) ?_
      exact wB_M_carryOn_207 S hr hlk hK hA  r_7 r_13 r_19 (2 : Int32) u_26 _ _ _ (lv_sub hl [4, 2, 1, 0] rfl) hw h
    · have h := h.1 q_199
      refine lv_iconst (v := 5) S.1 S.2.1 d_M_carryOn_202 (by decide) ?_
      refine lv_goto (tgt := 207) S.1 S.2.1 d_M_carryOn_203 (by decide) ?_
      exact wB_M_carryOn_207 S hr hlk hK hA  r_7 r_13 r_19 (5 : Int32) u_26 _ _ _ (lv_sub hl [4, 2, 1, 0] rfl) hw h
  by_cases q_29_6 : r_26 = (7 : Int32)
  · have h := h.2.2.2.2.2.2.1 q_29_6
    refine lv_tableIn (tgt := 235) (off := 206) S.1 S.2.1 d_M_carryOn_29 (by rw [q_29_6]; decide) (by rw [q_29_6]; decide) (by rw [q_29_6]; rfl) (by decide) ?_
    exact wB_M_carryOn_235 S hr hlk hK hA  x1_4 r_7 r_13 r_19 u_26 _ _ _ (lv_sub hl [4, 3, 2, 1, 0] rfl) hw h
  by_cases q_29_7 : r_26 = (8 : Int32)
  · have h := h.2.2.2.2.2.2.2.1 q_29_7
    refine lv_tableIn (tgt := 235) (off := 206) S.1 S.2.1 d_M_carryOn_29 (by rw [q_29_7]; decide) (by rw [q_29_7]; decide) (by rw [q_29_7]; rfl) (by decide) ?_
    exact wB_M_carryOn_235 S hr hlk hK hA  x1_4 r_7 r_13 r_19 u_26 _ _ _ (lv_sub hl [4, 3, 2, 1, 0] rfl) hw h
  by_cases q_29_8 : r_26 = (9 : Int32)
  · have h := h.2.2.2.2.2.2.2.2.1 q_29_8
    refine lv_tableIn (tgt := 266) (off := 237) S.1 S.2.1 d_M_carryOn_29 (by rw [q_29_8]; decide) (by rw [q_29_8]; decide) (by rw [q_29_8]; rfl) (by decide) ?_
    refine lv_aload_n S.1 S.2.1 d_M_carryOn_266 rfl (lv_at hl 4 rfl) ?_
    refine lv_iload S.1 S.2.1 d_M_carryOn_267 (lv_at hl 0 rfl) ?_
    refine mp_backs S hK hw d_M_carryOn_269 (fun H locs hw => ?_)
    refine lv_aload_n S.1 S.2.1 d_M_carryOn_272 rfl (lv_at hl 4 rfl) ?_
    refine lv_bipush (v := 6) S.1 S.2.1 d_M_carryOn_273 (by decide) ?_
    refine lv_iconst (v := 0) S.1 S.2.1 d_M_carryOn_275 (by decide) ?_
    refine lv_iload_n S.1 S.2.1 d_M_carryOn_276 rfl (lv_at hl 2 rfl) ?_
    refine w_cv hA hw (w_rv (rest := []) S hK hw (c_M_go l (6 : Int32) (0 : Int32) r_7 (ms_backs u_26 r_19) _ _ h) (ci := 0) (q0 := 0) rfl rfl (w_cb (fr := 0) (lv := 0) S.2.2.2.2 k_1027 k_1024 k_8 yd_M_go rfl rfl ⟨Nat.le_of_ble_eq_true rfl, Nat.le_of_ble_eq_true rfl⟩) k_1026 s_45 rfl hl.1 rfl (Nat.le_of_ble_eq_true rfl) d_M_carryOn_277 ⟨Nat.le_refl _, Nat.le_refl _⟩) (fun u_277 H locs h hw => ?_)
    refine lv_goto (tgt := 297) S.1 S.2.1 d_M_carryOn_280 (by decide) ?_
    exact w_vret S hr hlk hK hw h d_M_carryOn_297
  have h := h.2.2.2.2.2.2.2.2.2 q_29_0 q_29_1 q_29_2 q_29_3 q_29_4 q_29_5 q_29_6 q_29_7 q_29_8
  have z_0 : r_26.toInt ≠ 1 := fun e9 => q_29_0 (Int32.toInt_inj.mp (by rw [e9]; rfl))
  have z_1 : r_26.toInt ≠ 2 := fun e9 => q_29_1 (Int32.toInt_inj.mp (by rw [e9]; rfl))
  have z_2 : r_26.toInt ≠ 3 := fun e9 => q_29_2 (Int32.toInt_inj.mp (by rw [e9]; rfl))
  have z_3 : r_26.toInt ≠ 4 := fun e9 => q_29_3 (Int32.toInt_inj.mp (by rw [e9]; rfl))
  have z_4 : r_26.toInt ≠ 5 := fun e9 => q_29_4 (Int32.toInt_inj.mp (by rw [e9]; rfl))
  have z_5 : r_26.toInt ≠ 6 := fun e9 => q_29_5 (Int32.toInt_inj.mp (by rw [e9]; rfl))
  have z_6 : r_26.toInt ≠ 7 := fun e9 => q_29_6 (Int32.toInt_inj.mp (by rw [e9]; rfl))
  have z_7 : r_26.toInt ≠ 8 := fun e9 => q_29_7 (Int32.toInt_inj.mp (by rw [e9]; rfl))
  have z_8 : r_26.toInt ≠ 9 := fun e9 => q_29_8 (Int32.toInt_inj.mp (by rw [e9]; rfl))
  refine lv_tableOut (tgt := 283) S.1 S.2.1 d_M_carryOn_29 (by omega) (by decide) ?_
  refine lv_aload_n S.1 S.2.1 d_M_carryOn_283 rfl (lv_at hl 4 rfl) ?_
  refine lv_aload_n S.1 S.2.1 d_M_carryOn_284 rfl (lv_at hl 4 rfl) ?_
  refine lv_iload_n S.1 S.2.1 d_M_carryOn_285 rfl (lv_at hl 3 rfl) ?_
  refine w_ci hA hw (w_rv (rest := [.ref (a 0)]) S hK hw (c_M_kindOf l x1_4 u_26 _ _ h) (ci := 0) (q0 := 0) rfl rfl (w_cb (fr := 0) (lv := 0) S.2.2.2.2 k_1084 k_1081 k_8 yd_M_kindOf rfl rfl ⟨Nat.le_of_ble_eq_true rfl, Nat.le_of_ble_eq_true rfl⟩) k_1083 s_59 rfl hl.1 rfl (Nat.le_of_ble_eq_true rfl) d_M_carryOn_286 ⟨Nat.le_refl _, Nat.le_refl _⟩) (fun r_286 u_286 H locs h hw => ?_)
  refine lv_bipush (v := 7) S.1 S.2.1 d_M_carryOn_289 (by decide) ?_
  refine lv_isub S.1 S.2.1 d_M_carryOn_291 ?_
  refine lv_iload_n S.1 S.2.1 d_M_carryOn_292 rfl (lv_at hl 1 rfl) ?_
  refine lv_iload_n S.1 S.2.1 d_M_carryOn_293 rfl (lv_at hl 2 rfl) ?_
  refine w_cv hA hw (w_rv (rest := []) S hK hw (c_M_go l (r_286 - (7 : Int32)) r_13 r_7 u_286 _ _ h) (ci := 0) (q0 := 0) rfl rfl (w_cb (fr := 0) (lv := 0) S.2.2.2.2 k_1027 k_1024 k_8 yd_M_go rfl rfl ⟨Nat.le_of_ble_eq_true rfl, Nat.le_of_ble_eq_true rfl⟩) k_1026 s_45 rfl hl.1 rfl (Nat.le_of_ble_eq_true rfl) d_M_carryOn_294 ⟨Nat.le_refl _, Nat.le_refl _⟩) (fun u_294 H locs h hw => ?_)
  exact w_vret S hr hlk hK hw h d_M_carryOn_297
set_option maxHeartbeats 4000000 in
set_option maxRecDepth 20000 in
theorem wB_M_walk_240 (S : CallFix p m c b_M_walk 4 s args lw_tg R_Mod) (hr : meth.sig.returnType = some .int) (hlk : meth.locks = false) (hK : GK x s) (hA : ∀ q : Nat, s.heap.size ≤ q → A q) {Qc : Int32 → MS → Prop} {K29 : Int32 → MS → Prop} (ih29 : ∀ (x2 : Int32) (u : MS) (ls : Array Slot) (H : Heap) (locs : List Loc), lv_has ls 4 [(0, .ref (a 0)), (2, .int x2)] → wd x A s.heap ((mcl x a) u) H locs → K29 x2 u → W p l e (rmN 5 0 0) s m args below meth c H locs 0 0 (MQ below (QcI x (mcl x a) A Qc) args s 0 0 A) (F0 m 29 ls [])) : ∀ (x2 : Int32) (u : MS) (ls : Array Slot) (H : Heap) (locs : List Loc), lv_has ls 4 [(0, .ref (a 0)), (2, .int x2)] → wd x A s.heap ((mcl x a) u) H locs → B_M_walk_240 Qc K29 x2 u → W p l e (rmN 5 0 0) s m args below meth c H locs 0 0 (MQ below (QcI x (mcl x a) A Qc) args s 0 0 A) (F0 m 240 ls []) := by
  intro x2 u ls H locs hl hw h
  obtain ⟨x2_240, ex2_240⟩ : ∃ y : Int32, y = x2 + 1 := ⟨_, rfl⟩
  have h := h x2_240 ex2_240
  refine lv_iinc (v := x2_240) (lv' := [(2, .int x2_240), (0, .ref (a 0))]) S.1 S.2.1 d_M_walk_240 hl (k := 1) rfl (by rw [ex2_240]; rfl) (by decide) rfl (fun ls hl => ?_)
  refine lv_goto (tgt := 29) S.1 S.2.1 d_M_walk_243 (by decide) ?_
  exact ih29 x2_240 u _ _ _ (lv_sub hl [1, 0] rfl) hw h
set_option maxHeartbeats 4000000 in
set_option maxRecDepth 20000 in
theorem wB_M_walk_190 (S : CallFix p m c b_M_walk 4 s args lw_tg R_Mod) (hr : meth.sig.returnType = some .int) (hlk : meth.locks = false) (hK : GK x s) (hA : ∀ q : Nat, s.heap.size ≤ q → A q) {Qc : Int32 → MS → Prop} {K29 : Int32 → MS → Prop} (ih29 : ∀ (x2 : Int32) (u : MS) (ls : Array Slot) (H : Heap) (locs : List Loc), lv_has ls 4 [(0, .ref (a 0)), (2, .int x2)] → wd x A s.heap ((mcl x a) u) H locs → K29 x2 u → W p l e (rmN 5 0 0) s m args below meth c H locs 0 0 (MQ below (QcI x (mcl x a) A Qc) args s 0 0 A) (F0 m 29 ls [])) : ∀ (x2 : Int32) (u : MS) (ls : Array Slot) (H : Heap) (locs : List Loc), lv_has ls 4 [(0, .ref (a 0)), (2, .int x2)] → wd x A s.heap ((mcl x a) u) H locs → B_M_walk_190 Qc K29 x2 u → W p l e (rmN 5 0 0) s m args below meth c H locs 0 0 (MQ below (QcI x (mcl x a) A Qc) args s 0 0 A) (F0 m 190 ls []) := by
  intro x2 u ls H locs hl hw h
  refine lv_aload_n S.1 S.2.1 d_M_walk_190 rfl (lv_at hl 0 rfl) ?_
  refine lv_iconst (v := 0) S.1 S.2.1 d_M_walk_191 (by decide) ?_
  refine lv_aload_n S.1 S.2.1 d_M_walk_192 rfl (lv_at hl 0 rfl) ?_
  refine mg_at S hK hw d_M_walk_193 ?_
  refine lv_aload_n S.1 S.2.1 d_M_walk_196 rfl (lv_at hl 0 rfl) ?_
  refine mg_k S hK hw d_M_walk_197 ?_
  refine w_cv hA hw (w_rv (rest := []) S hK hw (c_M_go l (0 : Int32) (m_at u) (m_k u) u _ _ h) (ci := 0) (q0 := 0) rfl rfl (w_cb (fr := 0) (lv := 0) S.2.2.2.2 k_1027 k_1024 k_8 yd_M_go rfl rfl ⟨Nat.le_of_ble_eq_true rfl, Nat.le_of_ble_eq_true rfl⟩) k_1026 s_45 rfl hl.1 rfl (Nat.le_of_ble_eq_true rfl) d_M_walk_200 ⟨Nat.le_refl _, Nat.le_refl _⟩) (fun u_200 H locs h hw => ?_)
  refine lv_goto (tgt := 240) S.1 S.2.1 d_M_walk_203 (by decide) ?_
  exact wB_M_walk_240 S hr hlk hK hA ih29 x2 u_200 _ _ _ (lv_sub hl [0, 1] rfl) hw h
set_option maxHeartbeats 4000000 in
set_option maxRecDepth 20000 in
theorem wB_M_walk_227 (S : CallFix p m c b_M_walk 4 s args lw_tg R_Mod) (hr : meth.sig.returnType = some .int) (hlk : meth.locks = false) (hK : GK x s) (hA : ∀ q : Nat, s.heap.size ≤ q → A q) {Qc : Int32 → MS → Prop} {K29 : Int32 → MS → Prop} (ih29 : ∀ (x2 : Int32) (u : MS) (ls : Array Slot) (H : Heap) (locs : List Loc), lv_has ls 4 [(0, .ref (a 0)), (2, .int x2)] → wd x A s.heap ((mcl x a) u) H locs → K29 x2 u → W p l e (rmN 5 0 0) s m args below meth c H locs 0 0 (MQ below (QcI x (mcl x a) A Qc) args s 0 0 A) (F0 m 29 ls [])) : ∀ (x2 : Int32) (t1 : Int32) (u : MS) (ls : Array Slot) (H : Heap) (locs : List Loc), lv_has ls 4 [(0, .ref (a 0)), (2, .int x2)] → wd x A s.heap ((mcl x a) u) H locs → B_M_walk_227 Qc K29 x2 t1 u → W p l e (rmN 5 0 0) s m args below meth c H locs 0 0 (MQ below (QcI x (mcl x a) A Qc) args s 0 0 A) (F0 m 227 ls [.int t1, .ref (a 0)]) := by
  intro x2 t1 u ls H locs hl hw h
  refine w_cv hA hw (w_rv (rest := []) S hK hw (c_M_star l t1 u _ _ h) (ci := 0) (q0 := 0) rfl rfl (w_cb (fr := 0) (lv := 0) S.2.2.2.2 k_1116 k_1113 k_8 yd_M_star rfl rfl ⟨Nat.le_of_ble_eq_true rfl, Nat.le_of_ble_eq_true rfl⟩) k_1115 s_67 rfl hl.1 rfl (Nat.le_of_ble_eq_true rfl) d_M_walk_227 ⟨Nat.le_refl _, Nat.le_refl _⟩) (fun u_227 H locs h hw => ?_)
  refine lv_goto (tgt := 240) S.1 S.2.1 d_M_walk_230 (by decide) ?_
  exact wB_M_walk_240 S hr hlk hK hA ih29 x2 u_227 _ _ _ (lv_sub hl [0, 1] rfl) hw h
set_option maxHeartbeats 4000000 in
set_option maxRecDepth 20000 in
theorem wB_M_walk_213 (S : CallFix p m c b_M_walk 4 s args lw_tg R_Mod) (hr : meth.sig.returnType = some .int) (hlk : meth.locks = false) (hK : GK x s) (hA : ∀ q : Nat, s.heap.size ≤ q → A q) {Qc : Int32 → MS → Prop} {K29 : Int32 → MS → Prop} (ih29 : ∀ (x2 : Int32) (u : MS) (ls : Array Slot) (H : Heap) (locs : List Loc), lv_has ls 4 [(0, .ref (a 0)), (2, .int x2)] → wd x A s.heap ((mcl x a) u) H locs → K29 x2 u → W p l e (rmN 5 0 0) s m args below meth c H locs 0 0 (MQ below (QcI x (mcl x a) A Qc) args s 0 0 A) (F0 m 29 ls [])) : ∀ (x2 : Int32) (u : MS) (ls : Array Slot) (H : Heap) (locs : List Loc), lv_has ls 4 [(0, .ref (a 0)), (2, .int x2)] → wd x A s.heap ((mcl x a) u) H locs → B_M_walk_213 Qc K29 x2 u → W p l e (rmN 5 0 0) s m args below meth c H locs 0 0 (MQ below (QcI x (mcl x a) A Qc) args s 0 0 A) (F0 m 213 ls []) := by
  intro x2 u ls H locs hl hw h
  refine lv_aload_n S.1 S.2.1 d_M_walk_213 rfl (lv_at hl 0 rfl) ?_
  refine lv_aload_n S.1 S.2.1 d_M_walk_214 rfl (lv_at hl 0 rfl) ?_
  refine mg_mode S hK hw d_M_walk_215 ?_
  refine lv_iconst (v := 4) S.1 S.2.1 d_M_walk_218 (by decide) ?_
  refine lv_icmp_ne (tgt := 226) S.1 S.2.1 d_M_walk_219 (by decide) (fun q_219 => ?_) (fun q_219 => ?_)
  · have h := h.2 q_219
    refine lv_iconst (v := 0) S.1 S.2.1 d_M_walk_226 (by decide) ?_
    exact wB_M_walk_227 S hr hlk hK hA ih29 x2 (0 : Int32) u _ _ _ (lv_sub hl [0, 1] rfl) hw h
  · have h := h.1 q_219
    refine lv_iconst (v := 1) S.1 S.2.1 d_M_walk_222 (by decide) ?_
    refine lv_goto (tgt := 227) S.1 S.2.1 d_M_walk_223 (by decide) ?_
    exact wB_M_walk_227 S hr hlk hK hA ih29 x2 (1 : Int32) u _ _ _ (lv_sub hl [0, 1] rfl) hw h
set_option maxHeartbeats 4000000 in
set_option maxRecDepth 20000 in
theorem wB_M_walk_91 (S : CallFix p m c b_M_walk 4 s args lw_tg R_Mod) (hr : meth.sig.returnType = some .int) (hlk : meth.locks = false) (hK : GK x s) (hA : ∀ q : Nat, s.heap.size ≤ q → A q) {Qc : Int32 → MS → Prop} {K29 : Int32 → MS → Prop} (ih29 : ∀ (x2 : Int32) (u : MS) (ls : Array Slot) (H : Heap) (locs : List Loc), lv_has ls 4 [(0, .ref (a 0)), (2, .int x2)] → wd x A s.heap ((mcl x a) u) H locs → K29 x2 u → W p l e (rmN 5 0 0) s m args below meth c H locs 0 0 (MQ below (QcI x (mcl x a) A Qc) args s 0 0 A) (F0 m 29 ls [])) : ∀ (x2 : Int32) (u : MS) (ls : Array Slot) (H : Heap) (locs : List Loc), lv_has ls 4 [(0, .ref (a 0)), (2, .int x2)] → wd x A s.heap ((mcl x a) u) H locs → B_M_walk_91 Qc K29 x2 u → W p l e (rmN 5 0 0) s m args below meth c H locs 0 0 (MQ below (QcI x (mcl x a) A Qc) args s 0 0 A) (F0 m 91 ls []) := by
  intro x2 u ls H locs hl hw h
  refine lv_aload_n S.1 S.2.1 d_M_walk_91 rfl (lv_at hl 0 rfl) ?_
  refine mg_mode S hK hw d_M_walk_92 ?_
  refine lv_topi (fun y_95 ey_95 => ?_)
  have h := h y_95 ey_95
  by_cases q_95_0 : y_95 = (0 : Int32)
  · have h := h.1 q_95_0
    refine lv_tableIn (tgt := 132) (off := 37) S.1 S.2.1 d_M_walk_95 (by rw [q_95_0]; decide) (by rw [q_95_0]; decide) (by rw [q_95_0]; rfl) (by decide) ?_
    refine lv_aload_n S.1 S.2.1 d_M_walk_132 rfl (lv_at hl 0 rfl) ?_
    refine lv_aload_n S.1 S.2.1 d_M_walk_133 rfl (lv_at hl 0 rfl) ?_
    refine mg_at S hK hw d_M_walk_134 ?_
    refine w_ci hA hw (w_rv (rest := []) S hK hw (c_M_rowEnds l (m_at u) u _ _ h) (ci := 0) (q0 := 0) rfl rfl (w_cb (fr := 0) (lv := 0) S.2.2.2.2 k_1036 k_1033 k_8 yd_M_rowEnds rfl rfl ⟨Nat.le_of_ble_eq_true rfl, Nat.le_of_ble_eq_true rfl⟩) k_1035 s_47 rfl hl.1 rfl (Nat.le_of_ble_eq_true rfl) d_M_walk_137 ⟨Nat.le_refl _, Nat.le_refl _⟩) (fun r_137 u_137 H locs h hw => ?_)
    refine lv_if_eq (tgt := 156) S.1 S.2.1 d_M_walk_140 (by decide) (fun q_140 => ?_) (fun q_140 => ?_)
    · have h := h.1 q_140
      refine lv_aload_n S.1 S.2.1 d_M_walk_156 rfl (lv_at hl 0 rfl) ?_
      refine lv_aload_n S.1 S.2.1 d_M_walk_157 rfl (lv_at hl 0 rfl) ?_
      refine mg_at S hK hw d_M_walk_158 ?_
      refine w_cv hA hw (w_rv (rest := []) S hK hw (c_M_item l (m_at u_137) u_137 _ _ h) (ci := 0) (q0 := 0) rfl rfl (w_cb (fr := 0) (lv := 0) S.2.2.2.2 k_1044 k_1041 k_8 yd_M_item rfl rfl ⟨Nat.le_of_ble_eq_true rfl, Nat.le_of_ble_eq_true rfl⟩) k_1043 s_49 rfl hl.1 rfl (Nat.le_of_ble_eq_true rfl) d_M_walk_161 ⟨Nat.le_refl _, Nat.le_refl _⟩) (fun u_161 H locs h hw => ?_)
      refine lv_goto (tgt := 240) S.1 S.2.1 d_M_walk_164 (by decide) ?_
      exact wB_M_walk_240 S hr hlk hK hA ih29 x2 u_161 _ _ _ (lv_sub hl [0, 1] rfl) hw h
    · have h := h.2 q_140
      refine lv_aload_n S.1 S.2.1 d_M_walk_143 rfl (lv_at hl 0 rfl) ?_
      refine lv_iconst (v := 5) S.1 S.2.1 d_M_walk_144 (by decide) ?_
      refine lv_iconst (v := 0) S.1 S.2.1 d_M_walk_145 (by decide) ?_
      refine lv_aload_n S.1 S.2.1 d_M_walk_146 rfl (lv_at hl 0 rfl) ?_
      refine mg_k S hK hw d_M_walk_147 ?_
      refine w_cv hA hw (w_rv (rest := []) S hK hw (c_M_go l (5 : Int32) (0 : Int32) (m_k u_137) u_137 _ _ h) (ci := 0) (q0 := 0) rfl rfl (w_cb (fr := 0) (lv := 0) S.2.2.2.2 k_1027 k_1024 k_8 yd_M_go rfl rfl ⟨Nat.le_of_ble_eq_true rfl, Nat.le_of_ble_eq_true rfl⟩) k_1026 s_45 rfl hl.1 rfl (Nat.le_of_ble_eq_true rfl) d_M_walk_150 ⟨Nat.le_refl _, Nat.le_refl _⟩) (fun u_150 H locs h hw => ?_)
      refine lv_goto (tgt := 240) S.1 S.2.1 d_M_walk_153 (by decide) ?_
      exact wB_M_walk_240 S hr hlk hK hA ih29 x2 u_150 _ _ _ (lv_sub hl [0, 1] rfl) hw h
  by_cases q_95_1 : y_95 = (1 : Int32)
  · have h := h.2.1 q_95_1
    refine lv_tableIn (tgt := 167) (off := 72) S.1 S.2.1 d_M_walk_95 (by rw [q_95_1]; decide) (by rw [q_95_1]; decide) (by rw [q_95_1]; rfl) (by decide) ?_
    refine lv_aload_n S.1 S.2.1 d_M_walk_167 rfl (lv_at hl 0 rfl) ?_
    refine lv_aload_n S.1 S.2.1 d_M_walk_168 rfl (lv_at hl 0 rfl) ?_
    refine mg_at S hK hw d_M_walk_169 ?_
    refine w_ci hA hw (w_rv (rest := []) S hK hw (c_M_nextRow l (m_at u) u _ _ h) (ci := 0) (q0 := 0) rfl rfl (w_cb (fr := 0) (lv := 0) S.2.2.2.2 k_1064 k_1061 k_8 yd_M_nextRow rfl rfl ⟨Nat.le_of_ble_eq_true rfl, Nat.le_of_ble_eq_true rfl⟩) k_1063 s_54 rfl hl.1 rfl (Nat.le_of_ble_eq_true rfl) d_M_walk_172 ⟨Nat.le_refl _, Nat.le_refl _⟩) (fun r_172 u_172 H locs h hw => ?_)
    refine lv_istore_n (lv' := [(3, .int r_172), (0, .ref (a 0)), (2, .int x2)]) S.1 S.2.1 d_M_walk_175 rfl hl (by decide) rfl (fun ls hl => ?_)
    refine lv_iload_n S.1 S.2.1 d_M_walk_176 rfl (lv_at hl 0 rfl) ?_
    refine lv_if_lt (tgt := 190) S.1 S.2.1 d_M_walk_177 (by decide) (fun q_177 => ?_) (fun q_177 => ?_)
    · have h := h.1 q_177
      exact wB_M_walk_190 S hr hlk hK hA ih29 x2 u_172 _ _ _ (lv_sub hl [1, 2] rfl) hw h
    · have h := h.2 q_177
      refine lv_aload_n S.1 S.2.1 d_M_walk_180 rfl (lv_at hl 1 rfl) ?_
      refine lv_iconst (v := 1) S.1 S.2.1 d_M_walk_181 (by decide) ?_
      refine lv_iload_n S.1 S.2.1 d_M_walk_182 rfl (lv_at hl 0 rfl) ?_
      refine lv_aload_n S.1 S.2.1 d_M_walk_183 rfl (lv_at hl 1 rfl) ?_
      refine mg_k S hK hw d_M_walk_184 ?_
      refine w_cv hA hw (w_rv (rest := []) S hK hw (c_M_pushBack l (1 : Int32) r_172 (m_k u_172) u_172 _ _ h) (ci := 0) (q0 := 0) rfl rfl (w_cb (fr := 0) (lv := 0) S.2.2.2.2 k_1060 k_1057 k_8 yd_M_pushBack rfl rfl ⟨Nat.le_of_ble_eq_true rfl, Nat.le_of_ble_eq_true rfl⟩) k_1059 s_53 rfl hl.1 rfl (Nat.le_of_ble_eq_true rfl) d_M_walk_187 ⟨Nat.le_refl _, Nat.le_refl _⟩) (fun u_187 H locs h hw => ?_)
      exact wB_M_walk_190 S hr hlk hK hA ih29 x2 u_187 _ _ _ (lv_sub hl [1, 2] rfl) hw h
  by_cases q_95_2 : y_95 = (2 : Int32)
  · have h := h.2.2.1 q_95_2
    refine lv_tableIn (tgt := 206) (off := 111) S.1 S.2.1 d_M_walk_95 (by rw [q_95_2]; decide) (by rw [q_95_2]; decide) (by rw [q_95_2]; rfl) (by decide) ?_
    refine lv_aload_n S.1 S.2.1 d_M_walk_206 rfl (lv_at hl 0 rfl) ?_
    refine w_cv hA hw (w_rv (rest := []) S hK hw (c_M_atom l  u _ _ h) (ci := 0) (q0 := 0) rfl rfl (w_cb (fr := 0) (lv := 0) S.2.2.2.2 k_1068 k_1065 k_8 yd_M_atom rfl rfl ⟨Nat.le_of_ble_eq_true rfl, Nat.le_of_ble_eq_true rfl⟩) k_1067 s_55 rfl hl.1 rfl (Nat.le_of_ble_eq_true rfl) d_M_walk_207 ⟨Nat.le_refl _, Nat.le_refl _⟩) (fun u_207 H locs h hw => ?_)
    refine lv_goto (tgt := 240) S.1 S.2.1 d_M_walk_210 (by decide) ?_
    exact wB_M_walk_240 S hr hlk hK hA ih29 x2 u_207 _ _ _ (lv_sub hl [0, 1] rfl) hw h
  by_cases q_95_3 : y_95 = (3 : Int32)
  · have h := h.2.2.2.1 q_95_3
    refine lv_tableIn (tgt := 213) (off := 118) S.1 S.2.1 d_M_walk_95 (by rw [q_95_3]; decide) (by rw [q_95_3]; decide) (by rw [q_95_3]; rfl) (by decide) ?_
    exact wB_M_walk_213 S hr hlk hK hA ih29 x2 u _ _ _ (lv_sub hl [0, 1] rfl) hw h
  by_cases q_95_4 : y_95 = (4 : Int32)
  · have h := h.2.2.2.2.1 q_95_4
    refine lv_tableIn (tgt := 213) (off := 118) S.1 S.2.1 d_M_walk_95 (by rw [q_95_4]; decide) (by rw [q_95_4]; decide) (by rw [q_95_4]; rfl) (by decide) ?_
    exact wB_M_walk_213 S hr hlk hK hA ih29 x2 u _ _ _ (lv_sub hl [0, 1] rfl) hw h
  by_cases q_95_5 : y_95 = (5 : Int32)
  · have h := h.2.2.2.2.2.1 q_95_5
    refine lv_tableIn (tgt := 233) (off := 138) S.1 S.2.1 d_M_walk_95 (by rw [q_95_5]; decide) (by rw [q_95_5]; decide) (by rw [q_95_5]; rfl) (by decide) ?_
    refine lv_aload_n S.1 S.2.1 d_M_walk_233 rfl (lv_at hl 0 rfl) ?_
    refine w_cv hA hw (w_rv (rest := []) S hK hw (c_M_carryOn l  u _ _ h) (ci := 0) (q0 := 0) rfl rfl (w_cb (fr := 0) (lv := 0) S.2.2.2.2 k_1120 k_1117 k_8 yd_M_carryOn rfl rfl ⟨Nat.le_of_ble_eq_true rfl, Nat.le_of_ble_eq_true rfl⟩) k_1119 s_68 rfl hl.1 rfl (Nat.le_of_ble_eq_true rfl) d_M_walk_234 ⟨Nat.le_refl _, Nat.le_refl _⟩) (fun u_234 H locs h hw => ?_)
    refine lv_goto (tgt := 240) S.1 S.2.1 d_M_walk_237 (by decide) ?_
    exact wB_M_walk_240 S hr hlk hK hA ih29 x2 u_234 _ _ _ (lv_sub hl [0, 1] rfl) hw h
  have h := h.2.2.2.2.2.2 q_95_0 q_95_1 q_95_2 q_95_3 q_95_4 q_95_5
  have z_0 : y_95.toInt ≠ 0 := fun e9 => q_95_0 (Int32.toInt_inj.mp (by rw [e9]; rfl))
  have z_1 : y_95.toInt ≠ 1 := fun e9 => q_95_1 (Int32.toInt_inj.mp (by rw [e9]; rfl))
  have z_2 : y_95.toInt ≠ 2 := fun e9 => q_95_2 (Int32.toInt_inj.mp (by rw [e9]; rfl))
  have z_3 : y_95.toInt ≠ 3 := fun e9 => q_95_3 (Int32.toInt_inj.mp (by rw [e9]; rfl))
  have z_4 : y_95.toInt ≠ 4 := fun e9 => q_95_4 (Int32.toInt_inj.mp (by rw [e9]; rfl))
  have z_5 : y_95.toInt ≠ 5 := fun e9 => q_95_5 (Int32.toInt_inj.mp (by rw [e9]; rfl))
  refine lv_tableOut (tgt := 240) S.1 S.2.1 d_M_walk_95 (by omega) (by decide) ?_
  exact wB_M_walk_240 S hr hlk hK hA ih29 x2 u _ _ _ (lv_sub hl [0, 1] rfl) hw h
set_option maxHeartbeats 4000000 in
set_option maxRecDepth 20000 in
theorem wB_M_walk_70 (S : CallFix p m c b_M_walk 4 s args lw_tg R_Mod) (hr : meth.sig.returnType = some .int) (hlk : meth.locks = false) (hK : GK x s) (hA : ∀ q : Nat, s.heap.size ≤ q → A q) {Qc : Int32 → MS → Prop} {K29 : Int32 → MS → Prop} (ih29 : ∀ (x2 : Int32) (u : MS) (ls : Array Slot) (H : Heap) (locs : List Loc), lv_has ls 4 [(0, .ref (a 0)), (2, .int x2)] → wd x A s.heap ((mcl x a) u) H locs → K29 x2 u → W p l e (rmN 5 0 0) s m args below meth c H locs 0 0 (MQ below (QcI x (mcl x a) A Qc) args s 0 0 A) (F0 m 29 ls [])) : ∀ (x2 : Int32) (u : MS) (ls : Array Slot) (H : Heap) (locs : List Loc), lv_has ls 4 [(0, .ref (a 0)), (2, .int x2)] → wd x A s.heap ((mcl x a) u) H locs → B_M_walk_70 Qc K29 x2 u → W p l e (rmN 5 0 0) s m args below meth c H locs 0 0 (MQ below (QcI x (mcl x a) A Qc) args s 0 0 A) (F0 m 70 ls []) := by
  intro x2 u ls H locs hl hw h
  refine lv_aload_n S.1 S.2.1 d_M_walk_70 rfl (lv_at hl 0 rfl) ?_
  refine mg_mode S hK hw d_M_walk_71 ?_
  refine lv_iconst (v := 2) S.1 S.2.1 d_M_walk_74 (by decide) ?_
  refine lv_icmp_ne (tgt := 91) S.1 S.2.1 d_M_walk_75 (by decide) (fun q_75 => ?_) (fun q_75 => ?_)
  · have h := h.2 q_75
    exact wB_M_walk_91 S hr hlk hK hA ih29 x2 u _ _ _ (lv_sub hl [0, 1] rfl) hw h
  · have h := h.1 q_75
    refine lv_aload_n S.1 S.2.1 d_M_walk_78 rfl (lv_at hl 0 rfl) ?_
    refine mg_steps S hK hw d_M_walk_79 ?_
    refine lv_aload_n S.1 S.2.1 d_M_walk_82 rfl (lv_at hl 0 rfl) ?_
    refine mg_limit S hK hw d_M_walk_83 ?_
    refine lv_icmp_ne (tgt := 91) S.1 S.2.1 d_M_walk_86 (by decide) (fun q_86 => ?_) (fun q_86 => ?_)
    · have h := h.2 q_86
      exact wB_M_walk_91 S hr hlk hK hA ih29 x2 u _ _ _ (lv_sub hl [0, 1] rfl) hw h
    · have h := h.1 q_86
      refine lv_iconst (v := 2) S.1 S.2.1 d_M_walk_89 (by decide) ?_
      exact w_iret S hr hlk hK hw h d_M_walk_90
set_option maxHeartbeats 4000000 in
set_option maxRecDepth 20000 in
theorem wB_M_walk_53 (S : CallFix p m c b_M_walk 4 s args lw_tg R_Mod) (hr : meth.sig.returnType = some .int) (hlk : meth.locks = false) (hK : GK x s) (hA : ∀ q : Nat, s.heap.size ≤ q → A q) {Qc : Int32 → MS → Prop} {K29 : Int32 → MS → Prop} (ih29 : ∀ (x2 : Int32) (u : MS) (ls : Array Slot) (H : Heap) (locs : List Loc), lv_has ls 4 [(0, .ref (a 0)), (2, .int x2)] → wd x A s.heap ((mcl x a) u) H locs → K29 x2 u → W p l e (rmN 5 0 0) s m args below meth c H locs 0 0 (MQ below (QcI x (mcl x a) A Qc) args s 0 0 A) (F0 m 29 ls [])) : ∀ (x2 : Int32) (u : MS) (ls : Array Slot) (H : Heap) (locs : List Loc), lv_has ls 4 [(0, .ref (a 0)), (2, .int x2)] → wd x A s.heap ((mcl x a) u) H locs → B_M_walk_53 Qc K29 x2 u → W p l e (rmN 5 0 0) s m args below meth c H locs 0 0 (MQ below (QcI x (mcl x a) A Qc) args s 0 0 A) (F0 m 53 ls []) := by
  intro x2 u ls H locs hl hw h
  refine lv_aload_n S.1 S.2.1 d_M_walk_53 rfl (lv_at hl 0 rfl) ?_
  refine mg_mode S hK hw d_M_walk_54 ?_
  refine lv_iconst (v := 5) S.1 S.2.1 d_M_walk_57 (by decide) ?_
  refine lv_icmp_ne (tgt := 70) S.1 S.2.1 d_M_walk_58 (by decide) (fun q_58 => ?_) (fun q_58 => ?_)
  · have h := h.2 q_58
    exact wB_M_walk_70 S hr hlk hK hA ih29 x2 u _ _ _ (lv_sub hl [0, 1] rfl) hw h
  · have h := h.1 q_58
    refine lv_aload_n S.1 S.2.1 d_M_walk_61 rfl (lv_at hl 0 rfl) ?_
    refine mg_k S hK hw d_M_walk_62 ?_
    refine lv_if_ne (tgt := 70) S.1 S.2.1 d_M_walk_65 (by decide) (fun q_65 => ?_) (fun q_65 => ?_)
    · have h := h.2 q_65
      exact wB_M_walk_70 S hr hlk hK hA ih29 x2 u _ _ _ (lv_sub hl [0, 1] rfl) hw h
    · have h := h.1 q_65
      refine lv_iconst (v := 1) S.1 S.2.1 d_M_walk_68 (by decide) ?_
      exact w_iret S hr hlk hK hw h d_M_walk_69
set_option maxHeartbeats 4000000 in
set_option maxRecDepth 20000 in
theorem wL_M_walk_29 (S : CallFix p m c b_M_walk 4 s args lw_tg R_Mod) (hr : meth.sig.returnType = some .int) (hlk : meth.locks = false) (hK : GK x s) (hA : ∀ q : Nat, s.heap.size ≤ q → A q) {Qc : Int32 → MS → Prop} : ∀ (n : Nat) (x2 : Int32) (u : MS) (ls : Array Slot) (H : Heap) (locs : List Loc), lv_has ls 4 [(0, .ref (a 0)), (2, .int x2)] → wd x A s.heap ((mcl x a) u) H locs → L_M_walk_29 Qc  n x2 u → W p l e (rmN 5 0 0) s m args below meth c H locs 0 0 (MQ below (QcI x (mcl x a) A Qc) args s 0 0 A) (F0 m 29 ls []) := by
  intro n
  induction n with
  | zero =>
    intro x2 u ls H locs hl hw h
    exact absurd h id
  | succ n ih =>
    intro x2 u ls H locs hl hw h
    refine lv_iload_n S.1 S.2.1 d_M_walk_29 rfl (lv_at hl 1 rfl) ?_
    refine lv_ldc (v := 1000000) S.1 S.2.1 S.2.2.2.1 (S.2.2.2.2 _ k_1028) d_M_walk_30 ?_
    refine lv_icmp_ge (tgt := 246) S.1 S.2.1 d_M_walk_32 (by decide) (fun q_32 => ?_) (fun q_32 => ?_)
    · have h := h.1 q_32
      refine lv_iconst (v := 2) S.1 S.2.1 d_M_walk_246 (by decide) ?_
      exact w_iret S hr hlk hK hw h d_M_walk_247
    · have h := h.2 q_32
      refine lv_aload_n S.1 S.2.1 d_M_walk_35 rfl (lv_at hl 0 rfl) ?_
      refine mg_mode S hK hw d_M_walk_36 ?_
      refine lv_bipush (v := 6) S.1 S.2.1 d_M_walk_39 (by decide) ?_
      refine lv_icmp_ne (tgt := 53) S.1 S.2.1 d_M_walk_41 (by decide) (fun q_41 => ?_) (fun q_41 => ?_)
      · have h := h.2 q_41
        exact wB_M_walk_53 S hr hlk hK hA ih x2 u _ _ _ (lv_sub hl [0, 1] rfl) hw h
      · have h := h.1 q_41
        refine lv_aload_n S.1 S.2.1 d_M_walk_44 rfl (lv_at hl 0 rfl) ?_
        refine w_ci hA hw (w_rv (rest := []) S hK hw (c_M_retreat l  u _ _ h) (ci := 0) (q0 := 0) rfl rfl (w_cb (fr := 0) (lv := 0) S.2.2.2.2 k_1032 k_1029 k_8 yd_M_retreat rfl rfl ⟨Nat.le_of_ble_eq_true rfl, Nat.le_of_ble_eq_true rfl⟩) k_1031 s_46 rfl hl.1 rfl (Nat.le_of_ble_eq_true rfl) d_M_walk_45 ⟨Nat.le_refl _, Nat.le_refl _⟩) (fun r_45 u_45 H locs h hw => ?_)
        refine lv_if_ne (tgt := 53) S.1 S.2.1 d_M_walk_48 (by decide) (fun q_48 => ?_) (fun q_48 => ?_)
        · have h := h.2 q_48
          exact wB_M_walk_53 S hr hlk hK hA ih x2 u_45 _ _ _ (lv_sub hl [0, 1] rfl) hw h
        · have h := h.1 q_48
          refine lv_iconst (v := 0) S.1 S.2.1 d_M_walk_51 (by decide) ?_
          exact w_iret S hr hlk hK hw h d_M_walk_52
set_option maxHeartbeats 4000000 in
set_option maxRecDepth 20000 in
theorem c_M_walk {x : GX} {a : Nat → Nat} (l : Launch) (x1 : Int32) (u : MS) (sz : Nat) (Qc : Int32 → MS → Prop) (h : P_M_walk x1 u Qc) : Met l y_M_walk (wM y_M_walk b_M_walk 4 (some .int)) (rmN 5 0 0) (PreC x (mcl x a) [.ref (a 0), .int x1] u sz) (QcI x (mcl x a) (va_A ((mcl x a) u) sz) Qc) 0 0 (va_A ((mcl x a) u) sz) := by
  refine w_enter (by decide +kernel) (Nat.le_of_ble_eq_true rfl) (fun p e s m args below meth c S hr hlk _ hK hA hw ls hl => ?_)
  have hl : lv_has ls 4 [(0, .ref (a 0)), (1, .int x1)] := hl
  refine lv_aload_n S.1 S.2.1 d_M_walk_0 rfl (lv_at hl 0 rfl) ?_
  refine lv_iconst (v := 0) S.1 S.2.1 d_M_walk_1 (by decide) ?_
  refine mp_frames S hK hw d_M_walk_2 (fun H locs hw => ?_)
  refine lv_aload_n S.1 S.2.1 d_M_walk_5 rfl (lv_at hl 0 rfl) ?_
  refine lv_iconst (v := 0) S.1 S.2.1 d_M_walk_6 (by decide) ?_
  refine mp_backs S hK hw d_M_walk_7 (fun H locs hw => ?_)
  refine lv_aload_n S.1 S.2.1 d_M_walk_10 rfl (lv_at hl 0 rfl) ?_
  refine lv_iload_n S.1 S.2.1 d_M_walk_11 rfl (lv_at hl 1 rfl) ?_
  refine mp_p S hK hw d_M_walk_12 (fun H locs hw => ?_)
  refine lv_aload_n S.1 S.2.1 d_M_walk_15 rfl (lv_at hl 0 rfl) ?_
  refine lv_lconst (v := 0) S.1 S.2.1 d_M_walk_16 (by decide) ?_
  refine mp_caps S hK hw d_M_walk_17 (fun H locs hw => ?_)
  refine lv_aload_n S.1 S.2.1 d_M_walk_20 rfl (lv_at hl 0 rfl) ?_
  refine lv_iconst (v := 1) S.1 S.2.1 d_M_walk_21 (by decide) ?_
  refine lv_iconst (v := 0) S.1 S.2.1 d_M_walk_22 (by decide) ?_
  refine lv_iconst (v := 0) S.1 S.2.1 d_M_walk_23 (by decide) ?_
  refine w_cv hA hw (w_rv (rest := []) S hK hw (c_M_go l (1 : Int32) (0 : Int32) (0 : Int32) (ms_caps (ms_p (ms_backs (ms_frames u (0 : Int32)) (0 : Int32)) x1) (0 : Int64)) _ _ h) (ci := 0) (q0 := 0) rfl rfl (w_cb (fr := 0) (lv := 0) S.2.2.2.2 k_1027 k_1024 k_8 yd_M_go rfl rfl ⟨Nat.le_of_ble_eq_true rfl, Nat.le_of_ble_eq_true rfl⟩) k_1026 s_45 rfl hl.1 rfl (Nat.le_of_ble_eq_true rfl) d_M_walk_24 ⟨Nat.le_refl _, Nat.le_refl _⟩) (fun u_24 H locs h hw => ?_)
  refine lv_iconst (v := 0) S.1 S.2.1 d_M_walk_27 (by decide) ?_
  refine lv_istore_n (lv' := [(2, .int (0 : Int32)), (0, .ref (a 0)), (1, .int x1)]) S.1 S.2.1 d_M_walk_28 rfl hl (by decide) rfl (fun ls hl => ?_)
  obtain ⟨n9, h⟩ := h
  exact wL_M_walk_29 S hr hlk hK hA  n9 (0 : Int32) u_24 _ _ _ (lv_sub hl [1, 0] rfl) hw h
end MW
