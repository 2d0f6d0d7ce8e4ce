theorem d_M_behindRepeat_0 : decode b_M_behindRepeat 0 = .ok (.iload_n 1, 1) := by decide +kernel
theorem d_M_behindRepeat_1 : decode b_M_behindRepeat 1 = .ok (.istore_n 2, 1) := by decide +kernel
theorem d_M_behindRepeat_2 : decode b_M_behindRepeat 2 = .ok (.aload_n 0, 1) := by decide +kernel
theorem d_M_behindRepeat_3 : decode b_M_behindRepeat 3 = .ok (.iload_n 1, 1) := by decide +kernel
theorem d_M_behindRepeat_4 : decode b_M_behindRepeat 4 = .ok (.invokevirtual 53, 3) := by decide +kernel
theorem d_M_behindRepeat_7 : decode b_M_behindRepeat 7 = .ok (.bipush 42, 2) := by decide +kernel
theorem d_M_behindRepeat_9 : decode b_M_behindRepeat 9 = .ok (.if_icmp .eq 23, 3) := by decide +kernel
theorem d_M_behindRepeat_12 : decode b_M_behindRepeat 12 = .ok (.aload_n 0, 1) := by decide +kernel
theorem d_M_behindRepeat_13 : decode b_M_behindRepeat 13 = .ok (.iload_n 1, 1) := by decide +kernel
theorem d_M_behindRepeat_14 : decode b_M_behindRepeat 14 = .ok (.invokevirtual 53, 3) := by decide +kernel
theorem d_M_behindRepeat_17 : decode b_M_behindRepeat 17 = .ok (.bipush 43, 2) := by decide +kernel
theorem d_M_behindRepeat_19 : decode b_M_behindRepeat 19 = .ok (.if_icmp .eq 13, 3) := by decide +kernel
theorem d_M_behindRepeat_22 : decode b_M_behindRepeat 22 = .ok (.aload_n 0, 1) := by decide +kernel
theorem d_M_behindRepeat_23 : decode b_M_behindRepeat 23 = .ok (.iload_n 1, 1) := by decide +kernel
theorem d_M_behindRepeat_24 : decode b_M_behindRepeat 24 = .ok (.invokevirtual 53, 3) := by decide +kernel
theorem d_M_behindRepeat_27 : decode b_M_behindRepeat 27 = .ok (.bipush 63, 2) := by decide +kernel
theorem d_M_behindRepeat_29 : decode b_M_behindRepeat 29 = .ok (.if_icmp .ne 7, 3) := by decide +kernel
theorem d_M_behindRepeat_32 : decode b_M_behindRepeat 32 = .ok (.iload_n 1, 1) := by decide +kernel
theorem d_M_behindRepeat_33 : decode b_M_behindRepeat 33 = .ok (.iconst 1, 1) := by decide +kernel
theorem d_M_behindRepeat_34 : decode b_M_behindRepeat 34 = .ok (.iadd, 1) := by decide +kernel
theorem d_M_behindRepeat_35 : decode b_M_behindRepeat 35 = .ok (.istore_n 2, 1) := by decide +kernel
theorem d_M_behindRepeat_36 : decode b_M_behindRepeat 36 = .ok (.aload_n 0, 1) := by decide +kernel
theorem d_M_behindRepeat_37 : decode b_M_behindRepeat 37 = .ok (.iload_n 1, 1) := by decide +kernel
theorem d_M_behindRepeat_38 : decode b_M_behindRepeat 38 = .ok (.invokevirtual 53, 3) := by decide +kernel
theorem d_M_behindRepeat_41 : decode b_M_behindRepeat 41 = .ok (.bipush 123, 2) := by decide +kernel
theorem d_M_behindRepeat_43 : decode b_M_behindRepeat 43 = .ok (.if_icmp .ne 38, 3) := by decide +kernel
theorem d_M_behindRepeat_46 : decode b_M_behindRepeat 46 = .ok (.aload_n 0, 1) := by decide +kernel
theorem d_M_behindRepeat_47 : decode b_M_behindRepeat 47 = .ok (.iload_n 1, 1) := by decide +kernel
theorem d_M_behindRepeat_48 : decode b_M_behindRepeat 48 = .ok (.iconst 1, 1) := by decide +kernel
theorem d_M_behindRepeat_49 : decode b_M_behindRepeat 49 = .ok (.iadd, 1) := by decide +kernel
theorem d_M_behindRepeat_50 : decode b_M_behindRepeat 50 = .ok (.invokevirtual 53, 3) := by decide +kernel
theorem d_M_behindRepeat_53 : decode b_M_behindRepeat 53 = .ok (.bipush 48, 2) := by decide +kernel
theorem d_M_behindRepeat_55 : decode b_M_behindRepeat 55 = .ok (.bipush 57, 2) := by decide +kernel
theorem d_M_behindRepeat_57 : decode b_M_behindRepeat 57 = .ok (.invokestatic 39, 3) := by decide +kernel
theorem d_M_behindRepeat_60 : decode b_M_behindRepeat 60 = .ok (.ifCond .eq 15, 3) := by decide +kernel
theorem d_M_behindRepeat_63 : decode b_M_behindRepeat 63 = .ok (.aload_n 0, 1) := by decide +kernel
theorem d_M_behindRepeat_64 : decode b_M_behindRepeat 64 = .ok (.iload_n 1, 1) := by decide +kernel
theorem d_M_behindRepeat_65 : decode b_M_behindRepeat 65 = .ok (.iconst 2, 1) := by decide +kernel
theorem d_M_behindRepeat_66 : decode b_M_behindRepeat 66 = .ok (.iadd, 1) := by decide +kernel
theorem d_M_behindRepeat_67 : decode b_M_behindRepeat 67 = .ok (.invokevirtual 53, 3) := by decide +kernel
theorem d_M_behindRepeat_70 : decode b_M_behindRepeat 70 = .ok (.bipush 125, 2) := by decide +kernel
theorem d_M_behindRepeat_72 : decode b_M_behindRepeat 72 = .ok (.if_icmp .eq 5, 3) := by decide +kernel
theorem d_M_behindRepeat_75 : decode b_M_behindRepeat 75 = .ok (.iconst (-1), 1) := by decide +kernel
theorem d_M_behindRepeat_76 : decode b_M_behindRepeat 76 = .ok (.ireturn, 1) := by decide +kernel
theorem d_M_behindRepeat_77 : decode b_M_behindRepeat 77 = .ok (.iload_n 1, 1) := by decide +kernel
theorem d_M_behindRepeat_78 : decode b_M_behindRepeat 78 = .ok (.iconst 3, 1) := by decide +kernel
theorem d_M_behindRepeat_79 : decode b_M_behindRepeat 79 = .ok (.iadd, 1) := by decide +kernel
theorem d_M_behindRepeat_80 : decode b_M_behindRepeat 80 = .ok (.istore_n 2, 1) := by decide +kernel
theorem d_M_behindRepeat_81 : decode b_M_behindRepeat 81 = .ok (.iload_n 2, 1) := by decide +kernel
theorem d_M_behindRepeat_82 : decode b_M_behindRepeat 82 = .ok (.iload_n 1, 1) := by decide +kernel
theorem d_M_behindRepeat_83 : decode b_M_behindRepeat 83 = .ok (.if_icmp .le 29, 3) := by decide +kernel
theorem d_M_behindRepeat_86 : decode b_M_behindRepeat 86 = .ok (.aload_n 0, 1) := by decide +kernel
theorem d_M_behindRepeat_87 : decode b_M_behindRepeat 87 = .ok (.iload_n 2, 1) := by decide +kernel
theorem d_M_behindRepeat_88 : decode b_M_behindRepeat 88 = .ok (.invokevirtual 53, 3) := by decide +kernel
theorem d_M_behindRepeat_91 : decode b_M_behindRepeat 91 = .ok (.bipush 63, 2) := by decide +kernel
theorem d_M_behindRepeat_93 : decode b_M_behindRepeat 93 = .ok (.if_icmp .eq 13, 3) := by decide +kernel
theorem d_M_behindRepeat_96 : decode b_M_behindRepeat 96 = .ok (.aload_n 0, 1) := by decide +kernel
theorem d_M_behindRepeat_97 : decode b_M_behindRepeat 97 = .ok (.iload_n 2, 1) := by decide +kernel
theorem d_M_behindRepeat_98 : decode b_M_behindRepeat 98 = .ok (.invokevirtual 53, 3) := by decide +kernel
theorem d_M_behindRepeat_101 : decode b_M_behindRepeat 101 = .ok (.bipush 43, 2) := by decide +kernel
theorem d_M_behindRepeat_103 : decode b_M_behindRepeat 103 = .ok (.if_icmp .ne 9, 3) := by decide +kernel
theorem d_M_behindRepeat_106 : decode b_M_behindRepeat 106 = .ok (.iload_n 2, 1) := by decide +kernel
theorem d_M_behindRepeat_107 : decode b_M_behindRepeat 107 = .ok (.iconst 1, 1) := by decide +kernel
theorem d_M_behindRepeat_108 : decode b_M_behindRepeat 108 = .ok (.iadd, 1) := by decide +kernel
theorem d_M_behindRepeat_109 : decode b_M_behindRepeat 109 = .ok (.goto 4, 3) := by decide +kernel
theorem d_M_behindRepeat_112 : decode b_M_behindRepeat 112 = .ok (.iload_n 2, 1) := by decide +kernel
theorem d_M_behindRepeat_113 : decode b_M_behindRepeat 113 = .ok (.ireturn, 1) := by decide +kernel
theorem d_M_sized_0 : decode b_M_sized 0 = .ok (.aload_n 0, 1) := by decide +kernel
theorem d_M_sized_1 : decode b_M_sized 1 = .ok (.iload_n 1, 1) := by decide +kernel
theorem d_M_sized_2 : decode b_M_sized 2 = .ok (.invokevirtual 53, 3) := by decide +kernel
theorem d_M_sized_5 : decode b_M_sized 5 = .ok (.lookupswitch 68 #[(42, 64), (43, 58), (63, 64), (123, 43)], 43) := by decide +kernel
theorem d_M_sized_48 : decode b_M_sized 48 = .ok (.aload_n 0, 1) := by decide +kernel
theorem d_M_sized_49 : decode b_M_sized 49 = .ok (.iload_n 1, 1) := by decide +kernel
theorem d_M_sized_50 : decode b_M_sized 50 = .ok (.iconst 1, 1) := by decide +kernel
theorem d_M_sized_51 : decode b_M_sized 51 = .ok (.iadd, 1) := by decide +kernel
theorem d_M_sized_52 : decode b_M_sized 52 = .ok (.invokevirtual 53, 3) := by decide +kernel
theorem d_M_sized_55 : decode b_M_sized 55 = .ok (.bipush 48, 2) := by decide +kernel
theorem d_M_sized_57 : decode b_M_sized 57 = .ok (.isub, 1) := by decide +kernel
theorem d_M_sized_58 : decode b_M_sized 58 = .ok (.iload_n 2, 1) := by decide +kernel
theorem d_M_sized_59 : decode b_M_sized 59 = .ok (.imul, 1) := by decide +kernel
theorem d_M_sized_60 : decode b_M_sized 60 = .ok (.iconst 1, 1) := by decide +kernel
theorem d_M_sized_61 : decode b_M_sized 61 = .ok (.iadd, 1) := by decide +kernel
theorem d_M_sized_62 : decode b_M_sized 62 = .ok (.ireturn, 1) := by decide +kernel
theorem d_M_sized_63 : decode b_M_sized 63 = .ok (.iconst 2, 1) := by decide +kernel
theorem d_M_sized_64 : decode b_M_sized 64 = .ok (.iload_n 2, 1) := by decide +kernel
theorem d_M_sized_65 : decode b_M_sized 65 = .ok (.imul, 1) := by decide +kernel
theorem d_M_sized_66 : decode b_M_sized 66 = .ok (.iconst 2, 1) := by decide +kernel
theorem d_M_sized_67 : decode b_M_sized 67 = .ok (.iadd, 1) := by decide +kernel
theorem d_M_sized_68 : decode b_M_sized 68 = .ok (.ireturn, 1) := by decide +kernel
theorem d_M_sized_69 : decode b_M_sized 69 = .ok (.iload_n 2, 1) := by decide +kernel
theorem d_M_sized_70 : decode b_M_sized 70 = .ok (.iconst 2, 1) := by decide +kernel
theorem d_M_sized_71 : decode b_M_sized 71 = .ok (.iadd, 1) := by decide +kernel
theorem d_M_sized_72 : decode b_M_sized 72 = .ok (.ireturn, 1) := by decide +kernel
theorem d_M_sized_73 : decode b_M_sized 73 = .ok (.iload_n 2, 1) := by decide +kernel
theorem d_M_sized_74 : decode b_M_sized 74 = .ok (.ireturn, 1) := by decide +kernel
theorem d_M_measure_0 : decode b_M_measure 0 = .ok (.iconst 0, 1) := by decide +kernel
theorem d_M_measure_1 : decode b_M_measure 1 = .ok (.istore_n 1, 1) := by decide +kernel
theorem d_M_measure_2 : decode b_M_measure 2 = .ok (.iconst 0, 1) := by decide +kernel
theorem d_M_measure_3 : decode b_M_measure 3 = .ok (.istore_n 2, 1) := by decide +kernel
theorem d_M_measure_4 : decode b_M_measure 4 = .ok (.aload_n 0, 1) := by decide +kernel
theorem d_M_measure_5 : decode b_M_measure 5 = .ok (.getfield 19, 3) := by decide +kernel
theorem d_M_measure_8 : decode b_M_measure 8 = .ok (.iconst 0, 1) := by decide +kernel
theorem d_M_measure_9 : decode b_M_measure 9 = .ok (.iconst 0, 1) := by decide +kernel
theorem d_M_measure_10 : decode b_M_measure 10 = .ok (.iastore, 1) := by decide +kernel
theorem d_M_measure_11 : decode b_M_measure 11 = .ok (.iload_n 2, 1) := by decide +kernel
theorem d_M_measure_12 : decode b_M_measure 12 = .ok (.aload_n 0, 1) := by decide +kernel
theorem d_M_measure_13 : decode b_M_measure 13 = .ok (.getfield 50, 3) := by decide +kernel
theorem d_M_measure_16 : decode b_M_measure 16 = .ok (.if_icmp .ge 165, 3) := by decide +kernel
theorem d_M_measure_19 : decode b_M_measure 19 = .ok (.iconst 0, 1) := by decide +kernel
theorem d_M_measure_20 : decode b_M_measure 20 = .ok (.istore_n 3, 1) := by decide +kernel
theorem d_M_measure_21 : decode b_M_measure 21 = .ok (.iload_n 2, 1) := by decide +kernel
theorem d_M_measure_22 : decode b_M_measure 22 = .ok (.istore 4, 2) := by decide +kernel
theorem d_M_measure_24 : decode b_M_measure 24 = .ok (.aload_n 0, 1) := by decide +kernel
theorem d_M_measure_25 : decode b_M_measure 25 = .ok (.iload_n 2, 1) := by decide +kernel
theorem d_M_measure_26 : decode b_M_measure 26 = .ok (.invokevirtual 60, 3) := by decide +kernel
theorem d_M_measure_29 : decode b_M_measure 29 = .ok (.ifCond .le 32, 3) := by decide +kernel
theorem d_M_measure_32 : decode b_M_measure 32 = .ok (.iload_n 1, 1) := by decide +kernel
theorem d_M_measure_33 : decode b_M_measure 33 = .ok (.bipush 6, 2) := by decide +kernel
theorem d_M_measure_35 : decode b_M_measure 35 = .ok (.if_icmp .ne 5, 3) := by decide +kernel
theorem d_M_measure_38 : decode b_M_measure 38 = .ok (.iconst (-1), 1) := by decide +kernel
theorem d_M_measure_39 : decode b_M_measure 39 = .ok (.ireturn, 1) := by decide +kernel
theorem d_M_measure_40 : decode b_M_measure 40 = .ok (.iinc 1 1, 3) := by decide +kernel
theorem d_M_measure_43 : decode b_M_measure 43 = .ok (.aload_n 0, 1) := by decide +kernel
theorem d_M_measure_44 : decode b_M_measure 44 = .ok (.getfield 19, 3) := by decide +kernel
theorem d_M_measure_47 : decode b_M_measure 47 = .ok (.iload_n 1, 1) := by decide +kernel
theorem d_M_measure_48 : decode b_M_measure 48 = .ok (.iconst 0, 1) := by decide +kernel
theorem d_M_measure_49 : decode b_M_measure 49 = .ok (.iastore, 1) := by decide +kernel
theorem d_M_measure_50 : decode b_M_measure 50 = .ok (.iload_n 2, 1) := by decide +kernel
theorem d_M_measure_51 : decode b_M_measure 51 = .ok (.aload_n 0, 1) := by decide +kernel
theorem d_M_measure_52 : decode b_M_measure 52 = .ok (.iload_n 2, 1) := by decide +kernel
theorem d_M_measure_53 : decode b_M_measure 53 = .ok (.invokevirtual 60, 3) := by decide +kernel
theorem d_M_measure_56 : decode b_M_measure 56 = .ok (.iadd, 1) := by decide +kernel
theorem d_M_measure_57 : decode b_M_measure 57 = .ok (.istore_n 2, 1) := by decide +kernel
theorem d_M_measure_58 : decode b_M_measure 58 = .ok (.goto (-47), 3) := by decide +kernel
theorem d_M_measure_61 : decode b_M_measure 61 = .ok (.aload_n 0, 1) := by decide +kernel
theorem d_M_measure_62 : decode b_M_measure 62 = .ok (.iload_n 2, 1) := by decide +kernel
theorem d_M_measure_63 : decode b_M_measure 63 = .ok (.invokevirtual 53, 3) := by decide +kernel
theorem d_M_measure_66 : decode b_M_measure 66 = .ok (.bipush 124, 2) := by decide +kernel
theorem d_M_measure_68 : decode b_M_measure 68 = .ok (.if_icmp .ne 19, 3) := by decide +kernel
theorem d_M_measure_71 : decode b_M_measure 71 = .ok (.aload_n 0, 1) := by decide +kernel
theorem d_M_measure_72 : decode b_M_measure 72 = .ok (.getfield 19, 3) := by decide +kernel
theorem d_M_measure_75 : decode b_M_measure 75 = .ok (.iload_n 1, 1) := by decide +kernel
theorem d_M_measure_76 : decode b_M_measure 76 = .ok (.dup2, 1) := by decide +kernel
theorem d_M_measure_77 : decode b_M_measure 77 = .ok (.iaload, 1) := by decide +kernel
theorem d_M_measure_78 : decode b_M_measure 78 = .ok (.iconst 1, 1) := by decide +kernel
theorem d_M_measure_79 : decode b_M_measure 79 = .ok (.iadd, 1) := by decide +kernel
theorem d_M_measure_80 : decode b_M_measure 80 = .ok (.iastore, 1) := by decide +kernel
theorem d_M_measure_81 : decode b_M_measure 81 = .ok (.iinc 2 1, 3) := by decide +kernel
theorem d_M_measure_84 : decode b_M_measure 84 = .ok (.goto (-73), 3) := by decide +kernel
theorem d_M_measure_87 : decode b_M_measure 87 = .ok (.aload_n 0, 1) := by decide +kernel
theorem d_M_measure_88 : decode b_M_measure 88 = .ok (.iload_n 2, 1) := by decide +kernel
theorem d_M_measure_89 : decode b_M_measure 89 = .ok (.invokevirtual 53, 3) := by decide +kernel
theorem d_M_measure_92 : decode b_M_measure 92 = .ok (.bipush 41, 2) := by decide +kernel
theorem d_M_measure_94 : decode b_M_measure 94 = .ok (.if_icmp .ne 29, 3) := by decide +kernel
theorem d_M_measure_97 : decode b_M_measure 97 = .ok (.iload_n 1, 1) := by decide +kernel
theorem d_M_measure_98 : decode b_M_measure 98 = .ok (.ifCond .ne 5, 3) := by decide +kernel
theorem d_M_measure_101 : decode b_M_measure 101 = .ok (.iconst (-1), 1) := by decide +kernel
theorem d_M_measure_102 : decode b_M_measure 102 = .ok (.ireturn, 1) := by decide +kernel
theorem d_M_measure_103 : decode b_M_measure 103 = .ok (.aload_n 0, 1) := by decide +kernel
theorem d_M_measure_104 : decode b_M_measure 104 = .ok (.getfield 19, 3) := by decide +kernel
theorem d_M_measure_107 : decode b_M_measure 107 = .ok (.iload_n 1, 1) := by decide +kernel
theorem d_M_measure_108 : decode b_M_measure 108 = .ok (.iaload, 1) := by decide +kernel
theorem d_M_measure_109 : decode b_M_measure 109 = .ok (.iconst 2, 1) := by decide +kernel
theorem d_M_measure_110 : decode b_M_measure 110 = .ok (.iadd, 1) := by decide +kernel
theorem d_M_measure_111 : decode b_M_measure 111 = .ok (.istore_n 3, 1) := by decide +kernel
theorem d_M_measure_112 : decode b_M_measure 112 = .ok (.iinc 1 (-1), 3) := by decide +kernel
theorem d_M_measure_115 : decode b_M_measure 115 = .ok (.iload_n 2, 1) := by decide +kernel
theorem d_M_measure_116 : decode b_M_measure 116 = .ok (.iconst 1, 1) := by decide +kernel
theorem d_M_measure_117 : decode b_M_measure 117 = .ok (.iadd, 1) := by decide +kernel
theorem d_M_measure_118 : decode b_M_measure 118 = .ok (.istore 4, 2) := by decide +kernel
theorem d_M_measure_120 : decode b_M_measure 120 = .ok (.goto 12, 3) := by decide +kernel
theorem d_M_measure_123 : decode b_M_measure 123 = .ok (.iconst 1, 1) := by decide +kernel
theorem d_M_measure_124 : decode b_M_measure 124 = .ok (.istore_n 3, 1) := by decide +kernel
theorem d_M_measure_125 : decode b_M_measure 125 = .ok (.aload_n 0, 1) := by decide +kernel
theorem d_M_measure_126 : decode b_M_measure 126 = .ok (.iload_n 2, 1) := by decide +kernel
theorem d_M_measure_127 : decode b_M_measure 127 = .ok (.invokevirtual 63, 3) := by decide +kernel
theorem d_M_measure_130 : decode b_M_measure 130 = .ok (.istore 4, 2) := by decide +kernel
theorem d_M_measure_132 : decode b_M_measure 132 = .ok (.iload 4, 2) := by decide +kernel
theorem d_M_measure_134 : decode b_M_measure 134 = .ok (.ifCond .ge 5, 3) := by decide +kernel
theorem d_M_measure_137 : decode b_M_measure 137 = .ok (.iconst (-1), 1) := by decide +kernel
theorem d_M_measure_138 : decode b_M_measure 138 = .ok (.ireturn, 1) := by decide +kernel
theorem d_M_measure_139 : decode b_M_measure 139 = .ok (.aload_n 0, 1) := by decide +kernel
theorem d_M_measure_140 : decode b_M_measure 140 = .ok (.iload 4, 2) := by decide +kernel
theorem d_M_measure_142 : decode b_M_measure 142 = .ok (.invokevirtual 66, 3) := by decide +kernel
theorem d_M_measure_145 : decode b_M_measure 145 = .ok (.istore_n 2, 1) := by decide +kernel
theorem d_M_measure_146 : decode b_M_measure 146 = .ok (.iload_n 2, 1) := by decide +kernel
theorem d_M_measure_147 : decode b_M_measure 147 = .ok (.ifCond .ge 5, 3) := by decide +kernel
theorem d_M_measure_150 : decode b_M_measure 150 = .ok (.iconst (-1), 1) := by decide +kernel
theorem d_M_measure_151 : decode b_M_measure 151 = .ok (.ireturn, 1) := by decide +kernel
theorem d_M_measure_152 : decode b_M_measure 152 = .ok (.aload_n 0, 1) := by decide +kernel
theorem d_M_measure_153 : decode b_M_measure 153 = .ok (.getfield 19, 3) := by decide +kernel
theorem d_M_measure_156 : decode b_M_measure 156 = .ok (.iload_n 1, 1) := by decide +kernel
theorem d_M_measure_157 : decode b_M_measure 157 = .ok (.dup2, 1) := by decide +kernel
theorem d_M_measure_158 : decode b_M_measure 158 = .ok (.iaload, 1) := by decide +kernel
theorem d_M_measure_159 : decode b_M_measure 159 = .ok (.iload_n 2, 1) := by decide +kernel
theorem d_M_measure_160 : decode b_M_measure 160 = .ok (.iload 4, 2) := by decide +kernel
theorem d_M_measure_162 : decode b_M_measure 162 = .ok (.if_icmp .le 13, 3) := by decide +kernel
theorem d_M_measure_165 : decode b_M_measure 165 = .ok (.aload_n 0, 1) := by decide +kernel
theorem d_M_measure_166 : decode b_M_measure 166 = .ok (.iload 4, 2) := by decide +kernel
theorem d_M_measure_168 : decode b_M_measure 168 = .ok (.iload_n 3, 1) := by decide +kernel
theorem d_M_measure_169 : decode b_M_measure 169 = .ok (.invokevirtual 69, 3) := by decide +kernel
theorem d_M_measure_172 : decode b_M_measure 172 = .ok (.goto 4, 3) := by decide +kernel
theorem d_M_measure_175 : decode b_M_measure 175 = .ok (.iload_n 3, 1) := by decide +kernel
theorem d_M_measure_176 : decode b_M_measure 176 = .ok (.iadd, 1) := by decide +kernel
theorem d_M_measure_177 : decode b_M_measure 177 = .ok (.iastore, 1) := by decide +kernel
theorem d_M_measure_178 : decode b_M_measure 178 = .ok (.goto (-167), 3) := by decide +kernel
theorem d_M_measure_181 : decode b_M_measure 181 = .ok (.iload_n 1, 1) := by decide +kernel
theorem d_M_measure_182 : decode b_M_measure 182 = .ok (.ifCond .ne 12, 3) := by decide +kernel
theorem d_M_measure_185 : decode b_M_measure 185 = .ok (.aload_n 0, 1) := by decide +kernel
theorem d_M_measure_186 : decode b_M_measure 186 = .ok (.getfield 19, 3) := by decide +kernel
theorem d_M_measure_189 : decode b_M_measure 189 = .ok (.iconst 0, 1) := by decide +kernel
theorem d_M_measure_190 : decode b_M_measure 190 = .ok (.iaload, 1) := by decide +kernel
theorem d_M_measure_191 : decode b_M_measure 191 = .ok (.goto 4, 3) := by decide +kernel
theorem d_M_measure_194 : decode b_M_measure 194 = .ok (.iconst (-1), 1) := by decide +kernel
theorem d_M_measure_195 : decode b_M_measure 195 = .ok (.ireturn, 1) := by decide +kernel
theorem d_M_groupsOf_0 : decode b_M_groupsOf 0 = .ok (.iconst 0, 1) := by decide +kernel
theorem d_M_groupsOf_1 : decode b_M_groupsOf 1 = .ok (.istore_n 1, 1) := by decide +kernel
theorem d_M_groupsOf_2 : decode b_M_groupsOf 2 = .ok (.iconst 0, 1) := by decide +kernel
theorem d_M_groupsOf_3 : decode b_M_groupsOf 3 = .ok (.istore_n 2, 1) := by decide +kernel
theorem d_M_groupsOf_4 : decode b_M_groupsOf 4 = .ok (.iload_n 2, 1) := by decide +kernel
theorem d_M_groupsOf_5 : decode b_M_groupsOf 5 = .ok (.aload_n 0, 1) := by decide +kernel
theorem d_M_groupsOf_6 : decode b_M_groupsOf 6 = .ok (.getfield 50, 3) := by decide +kernel
theorem d_M_groupsOf_9 : decode b_M_groupsOf 9 = .ok (.if_icmp .ge 34, 3) := by decide +kernel
theorem d_M_groupsOf_12 : decode b_M_groupsOf 12 = .ok (.aload_n 0, 1) := by decide +kernel
theorem d_M_groupsOf_13 : decode b_M_groupsOf 13 = .ok (.iload_n 2, 1) := by decide +kernel
theorem d_M_groupsOf_14 : decode b_M_groupsOf 14 = .ok (.invokevirtual 53, 3) := by decide +kernel
theorem d_M_groupsOf_17 : decode b_M_groupsOf 17 = .ok (.bipush 40, 2) := by decide +kernel
theorem d_M_groupsOf_19 : decode b_M_groupsOf 19 = .ok (.if_icmp .ne 18, 3) := by decide +kernel
theorem d_M_groupsOf_22 : decode b_M_groupsOf 22 = .ok (.aload_n 0, 1) := by decide +kernel
theorem d_M_groupsOf_23 : decode b_M_groupsOf 23 = .ok (.iload_n 2, 1) := by decide +kernel
theorem d_M_groupsOf_24 : decode b_M_groupsOf 24 = .ok (.iconst 1, 1) := by decide +kernel
theorem d_M_groupsOf_25 : decode b_M_groupsOf 25 = .ok (.iadd, 1) := by decide +kernel
theorem d_M_groupsOf_26 : decode b_M_groupsOf 26 = .ok (.invokevirtual 53, 3) := by decide +kernel
theorem d_M_groupsOf_29 : decode b_M_groupsOf 29 = .ok (.bipush 63, 2) := by decide +kernel
theorem d_M_groupsOf_31 : decode b_M_groupsOf 31 = .ok (.if_icmp .eq 6, 3) := by decide +kernel
theorem d_M_groupsOf_34 : decode b_M_groupsOf 34 = .ok (.iinc 1 1, 3) := by decide +kernel
theorem d_M_groupsOf_37 : decode b_M_groupsOf 37 = .ok (.iinc 2 1, 3) := by decide +kernel
theorem d_M_groupsOf_40 : decode b_M_groupsOf 40 = .ok (.goto (-36), 3) := by decide +kernel
theorem d_M_groupsOf_43 : decode b_M_groupsOf 43 = .ok (.iload_n 1, 1) := by decide +kernel
theorem d_M_groupsOf_44 : decode b_M_groupsOf 44 = .ok (.ireturn, 1) := by decide +kernel
theorem d_M_namesGood_0 : decode b_M_namesGood 0 = .ok (.iconst 0, 1) := by decide +kernel
theorem d_M_namesGood_1 : decode b_M_namesGood 1 = .ok (.istore_n 2, 1) := by decide +kernel
theorem d_M_namesGood_2 : decode b_M_namesGood 2 = .ok (.iload_n 2, 1) := by decide +kernel
theorem d_M_namesGood_3 : decode b_M_namesGood 3 = .ok (.aload_n 0, 1) := by decide +kernel
theorem d_M_namesGood_4 : decode b_M_namesGood 4 = .ok (.getfield 50, 3) := by decide +kernel
theorem d_M_namesGood_7 : decode b_M_namesGood 7 = .ok (.if_icmp .ge 98, 3) := by decide +kernel
theorem d_M_namesGood_10 : decode b_M_namesGood 10 = .ok (.aload_n 0, 1) := by decide +kernel
theorem d_M_namesGood_11 : decode b_M_namesGood 11 = .ok (.iload_n 2, 1) := by decide +kernel
theorem d_M_namesGood_12 : decode b_M_namesGood 12 = .ok (.invokevirtual 53, 3) := by decide +kernel
theorem d_M_namesGood_15 : decode b_M_namesGood 15 = .ok (.bipush 40, 2) := by decide +kernel
theorem d_M_namesGood_17 : decode b_M_namesGood 17 = .ok (.if_icmp .ne 36, 3) := by decide +kernel
theorem d_M_namesGood_20 : decode b_M_namesGood 20 = .ok (.aload_n 0, 1) := by decide +kernel
theorem d_M_namesGood_21 : decode b_M_namesGood 21 = .ok (.iload_n 2, 1) := by decide +kernel
theorem d_M_namesGood_22 : decode b_M_namesGood 22 = .ok (.iconst 1, 1) := by decide +kernel
theorem d_M_namesGood_23 : decode b_M_namesGood 23 = .ok (.iadd, 1) := by decide +kernel
theorem d_M_namesGood_24 : decode b_M_namesGood 24 = .ok (.invokevirtual 53, 3) := by decide +kernel
theorem d_M_namesGood_27 : decode b_M_namesGood 27 = .ok (.bipush 63, 2) := by decide +kernel
theorem d_M_namesGood_29 : decode b_M_namesGood 29 = .ok (.if_icmp .ne 24, 3) := by decide +kernel
theorem d_M_namesGood_32 : decode b_M_namesGood 32 = .ok (.aload_n 0, 1) := by decide +kernel
theorem d_M_namesGood_33 : decode b_M_namesGood 33 = .ok (.iload_n 2, 1) := by decide +kernel
theorem d_M_namesGood_34 : decode b_M_namesGood 34 = .ok (.iconst 2, 1) := by decide +kernel
theorem d_M_namesGood_35 : decode b_M_namesGood 35 = .ok (.iadd, 1) := by decide +kernel
theorem d_M_namesGood_36 : decode b_M_namesGood 36 = .ok (.invokevirtual 53, 3) := by decide +kernel
theorem d_M_namesGood_39 : decode b_M_namesGood 39 = .ok (.bipush 48, 2) := by decide +kernel
theorem d_M_namesGood_41 : decode b_M_namesGood 41 = .ok (.bipush 52, 2) := by decide +kernel
theorem d_M_namesGood_43 : decode b_M_namesGood 43 = .ok (.invokestatic 39, 3) := by decide +kernel
theorem d_M_namesGood_46 : decode b_M_namesGood 46 = .ok (.ifCond .eq 7, 3) := by decide +kernel
theorem d_M_namesGood_49 : decode b_M_namesGood 49 = .ok (.iconst 1, 1) := by decide +kernel
theorem d_M_namesGood_50 : decode b_M_namesGood 50 = .ok (.goto 4, 3) := by decide +kernel
theorem d_M_namesGood_53 : decode b_M_namesGood 53 = .ok (.iconst 0, 1) := by decide +kernel
theorem d_M_namesGood_54 : decode b_M_namesGood 54 = .ok (.istore_n 3, 1) := by decide +kernel
theorem d_M_namesGood_55 : decode b_M_namesGood 55 = .ok (.iload_n 3, 1) := by decide +kernel
theorem d_M_namesGood_56 : decode b_M_namesGood 56 = .ok (.ifCond .eq 17, 3) := by decide +kernel
theorem d_M_namesGood_59 : decode b_M_namesGood 59 = .ok (.aload_n 0, 1) := by decide +kernel
theorem d_M_namesGood_60 : decode b_M_namesGood 60 = .ok (.iload_n 2, 1) := by decide +kernel
theorem d_M_namesGood_61 : decode b_M_namesGood 61 = .ok (.iconst 2, 1) := by decide +kernel
theorem d_M_namesGood_62 : decode b_M_namesGood 62 = .ok (.iadd, 1) := by decide +kernel
theorem d_M_namesGood_63 : decode b_M_namesGood 63 = .ok (.invokevirtual 53, 3) := by decide +kernel
theorem d_M_namesGood_66 : decode b_M_namesGood 66 = .ok (.bipush 48, 2) := by decide +kernel
theorem d_M_namesGood_68 : decode b_M_namesGood 68 = .ok (.isub, 1) := by decide +kernel
theorem d_M_namesGood_69 : decode b_M_namesGood 69 = .ok (.iload_n 1, 1) := by decide +kernel
theorem d_M_namesGood_70 : decode b_M_namesGood 70 = .ok (.if_icmp .gt 27, 3) := by decide +kernel
theorem d_M_namesGood_73 : decode b_M_namesGood 73 = .ok (.aload_n 0, 1) := by decide +kernel
theorem d_M_namesGood_74 : decode b_M_namesGood 74 = .ok (.iload_n 2, 1) := by decide +kernel
theorem d_M_namesGood_75 : decode b_M_namesGood 75 = .ok (.invokevirtual 53, 3) := by decide +kernel
theorem d_M_namesGood_78 : decode b_M_namesGood 78 = .ok (.bipush 92, 2) := by decide +kernel
theorem d_M_namesGood_80 : decode b_M_namesGood 80 = .ok (.if_icmp .ne 19, 3) := by decide +kernel
theorem d_M_namesGood_83 : decode b_M_namesGood 83 = .ok (.aload_n 0, 1) := by decide +kernel
theorem d_M_namesGood_84 : decode b_M_namesGood 84 = .ok (.iload_n 2, 1) := by decide +kernel
theorem d_M_namesGood_85 : decode b_M_namesGood 85 = .ok (.iconst 1, 1) := by decide +kernel
theorem d_M_namesGood_86 : decode b_M_namesGood 86 = .ok (.iadd, 1) := by decide +kernel
theorem d_M_namesGood_87 : decode b_M_namesGood 87 = .ok (.invokevirtual 53, 3) := by decide +kernel
theorem d_M_namesGood_90 : decode b_M_namesGood 90 = .ok (.bipush 48, 2) := by decide +kernel
theorem d_M_namesGood_92 : decode b_M_namesGood 92 = .ok (.isub, 1) := by decide +kernel
theorem d_M_namesGood_93 : decode b_M_namesGood 93 = .ok (.iload_n 1, 1) := by decide +kernel
theorem d_M_namesGood_94 : decode b_M_namesGood 94 = .ok (.if_icmp .le 5, 3) := by decide +kernel
theorem d_M_namesGood_97 : decode b_M_namesGood 97 = .ok (.iconst 0, 1) := by decide +kernel
theorem d_M_namesGood_98 : decode b_M_namesGood 98 = .ok (.ireturn, 1) := by decide +kernel
theorem d_M_namesGood_99 : decode b_M_namesGood 99 = .ok (.iinc 2 1, 3) := by decide +kernel
theorem d_M_namesGood_102 : decode b_M_namesGood 102 = .ok (.goto (-100), 3) := by decide +kernel
theorem d_M_namesGood_105 : decode b_M_namesGood 105 = .ok (.iload_n 1, 1) := by decide +kernel
theorem d_M_namesGood_106 : decode b_M_namesGood 106 = .ok (.iconst 4, 1) := by decide +kernel
theorem d_M_namesGood_107 : decode b_M_namesGood 107 = .ok (.if_icmp .gt 7, 3) := by decide +kernel
theorem d_M_namesGood_110 : decode b_M_namesGood 110 = .ok (.iconst 1, 1) := by decide +kernel
theorem d_M_namesGood_111 : decode b_M_namesGood 111 = .ok (.goto 4, 3) := by decide +kernel
theorem d_M_namesGood_114 : decode b_M_namesGood 114 = .ok (.iconst 0, 1) := by decide +kernel
theorem d_M_namesGood_115 : decode b_M_namesGood 115 = .ok (.ireturn, 1) := by decide +kernel
section MW
variable {p : Program} {l : Launch} {e : Env} {s : State} {m : MethodId} {args : Array Value} {below : List Frame} {meth : Method} {c : Code} {x : GX} {a : Nat → Nat} {A : Nat → Prop}
set_option maxHeartbeats 4000000 in
set_option maxRecDepth 20000 in
theorem wB_M_behindRepeat_106 (S : CallFix p m c b_M_behindRepeat 3 s args lw_tg R_Mod) (hr : meth.sig.returnType = some .int) (hlk : meth.locks = false) (hK : GK x s) (hA : ∀ q : Nat, s.heap.size ≤ q → A q) {Qc : Int32 → MS → Prop} : ∀ (x2 : Int32) (u : MS) (ls : Array Slot) (H : Heap) (locs : List Loc), lv_has ls 3 [(2, .int x2)] → wd x A s.heap ((mcl x a) u) H locs → B_M_behindRepeat_106 Qc  x2 u → W p l e (rmN 1 0 0) s m args below meth c H locs 0 0 (MQ below (QcI x (mcl x a) A Qc) args s 0 0 A) (F0 m 106 ls []) := by
  intro x2 u ls H locs hl hw h
  refine lv_iload_n S.1 S.2.1 d_M_behindRepeat_106 rfl (lv_at hl 0 rfl) ?_
  refine lv_iconst (v := 1) S.1 S.2.1 d_M_behindRepeat_107 (by decide) ?_
  refine lv_iadd S.1 S.2.1 d_M_behindRepeat_108 ?_
  refine lv_goto (tgt := 113) S.1 S.2.1 d_M_behindRepeat_109 (by decide) ?_
  exact w_iret S hr hlk hK hw h d_M_behindRepeat_113
set_option maxHeartbeats 4000000 in
set_option maxRecDepth 20000 in
theorem wB_M_behindRepeat_81 (S : CallFix p m c b_M_behindRepeat 3 s args lw_tg R_Mod) (hr : meth.sig.returnType = some .int) (hlk : meth.locks = false) (hK : GK x s) (hA : ∀ q : Nat, s.heap.size ≤ q → A q) {Qc : Int32 → MS → Prop} : ∀ (x1 : Int32) (x2 : Int32) (u : MS) (ls : Array Slot) (H : Heap) (locs : List Loc), lv_has ls 3 [(0, .ref (a 0)), (1, .int x1), (2, .int x2)] → wd x A s.heap ((mcl x a) u) H locs → B_M_behindRepeat_81 Qc  x1 x2 u → W p l e (rmN 1 0 0) s m args below meth c H locs 0 0 (MQ below (QcI x (mcl x a) A Qc) args s 0 0 A) (F0 m 81 ls []) := by
  intro x1 x2 u ls H locs hl hw h
  refine lv_iload_n S.1 S.2.1 d_M_behindRepeat_81 rfl (lv_at hl 2 rfl) ?_
  refine lv_iload_n S.1 S.2.1 d_M_behindRepeat_82 rfl (lv_at hl 1 rfl) ?_
  refine lv_icmp_le (tgt := 112) S.1 S.2.1 d_M_behindRepeat_83 (by decide) (fun q_83 => ?_) (fun q_83 => ?_)
  · have h := h.1 q_83
    refine lv_iload_n S.1 S.2.1 d_M_behindRepeat_112 rfl (lv_at hl 2 rfl) ?_
    exact w_iret S hr hlk hK hw h d_M_behindRepeat_113
  · have h := h.2 q_83
    refine lv_aload_n S.1 S.2.1 d_M_behindRepeat_86 rfl (lv_at hl 0 rfl) ?_
    refine lv_iload_n S.1 S.2.1 d_M_behindRepeat_87 rfl (lv_at hl 2 rfl) ?_
    refine w_ci hA hw (w_rv (rest := []) S hK hw (c_M_c l x2 u _ _ h) (ci := 0) (q0 := 0) rfl rfl (w_cb (fr := 0) (lv := 0) S.2.2.2.2 k_979 k_976 k_8 yd_M_c rfl rfl ⟨Nat.le_of_ble_eq_true rfl, Nat.le_of_ble_eq_true rfl⟩) k_978 s_36 rfl hl.1 rfl (Nat.le_of_ble_eq_true rfl) d_M_behindRepeat_88 ⟨Nat.le_refl _, Nat.le_refl _⟩) (fun r_88 u_88 H locs h hw => ?_)
    refine lv_bipush (v := 63) S.1 S.2.1 d_M_behindRepeat_91 (by decide) ?_
    refine lv_icmp_eq (tgt := 106) S.1 S.2.1 d_M_behindRepeat_93 (by decide) (fun q_93 => ?_) (fun q_93 => ?_)
    · have h := h.1 q_93
      exact wB_M_behindRepeat_106 S hr hlk hK hA  x2 u_88 _ _ _ (lv_sub hl [2] rfl) hw h
    · have h := h.2 q_93
      refine lv_aload_n S.1 S.2.1 d_M_behindRepeat_96 rfl (lv_at hl 0 rfl) ?_
      refine lv_iload_n S.1 S.2.1 d_M_behindRepeat_97 rfl (lv_at hl 2 rfl) ?_
      refine w_ci hA hw (w_rv (rest := []) S hK hw (c_M_c l x2 u_88 _ _ h) (ci := 0) (q0 := 0) rfl rfl (w_cb (fr := 0) (lv := 0) S.2.2.2.2 k_979 k_976 k_8 yd_M_c rfl rfl ⟨Nat.le_of_ble_eq_true rfl, Nat.le_of_ble_eq_true rfl⟩) k_978 s_36 rfl hl.1 rfl (Nat.le_of_ble_eq_true rfl) d_M_behindRepeat_98 ⟨Nat.le_refl _, Nat.le_refl _⟩) (fun r_98 u_98 H locs h hw => ?_)
      refine lv_bipush (v := 43) S.1 S.2.1 d_M_behindRepeat_101 (by decide) ?_
      refine lv_icmp_ne (tgt := 112) S.1 S.2.1 d_M_behindRepeat_103 (by decide) (fun q_103 => ?_) (fun q_103 => ?_)
      · have h := h.2 q_103
        refine lv_iload_n S.1 S.2.1 d_M_behindRepeat_112 rfl (lv_at hl 2 rfl) ?_
        exact w_iret S hr hlk hK hw h d_M_behindRepeat_113
      · have h := h.1 q_103
        exact wB_M_behindRepeat_106 S hr hlk hK hA  x2 u_98 _ _ _ (lv_sub hl [2] rfl) hw h
set_option maxHeartbeats 4000000 in
set_option maxRecDepth 20000 in
theorem wB_M_behindRepeat_36 (S : CallFix p m c b_M_behindRepeat 3 s args lw_tg R_Mod) (hr : meth.sig.returnType = some .int) (hlk : meth.locks = false) (hK : GK x s) (hA : ∀ q : Nat, s.heap.size ≤ q → A q) {Qc : Int32 → MS → Prop} : ∀ (x1 : Int32) (x2 : Int32) (u : MS) (ls : Array Slot) (H : Heap) (locs : List Loc), lv_has ls 3 [(0, .ref (a 0)), (1, .int x1), (2, .int x2)] → wd x A s.heap ((mcl x a) u) H locs → B_M_behindRepeat_36 Qc  x1 x2 u → W p l e (rmN 1 0 0) s m args below meth c H locs 0 0 (MQ below (QcI x (mcl x a) A Qc) args s 0 0 A) (F0 m 36 ls []) := by
  intro x1 x2 u ls H locs hl hw h
  refine lv_aload_n S.1 S.2.1 d_M_behindRepeat_36 rfl (lv_at hl 0 rfl) ?_
  refine lv_iload_n S.1 S.2.1 d_M_behindRepeat_37 rfl (lv_at hl 1 rfl) ?_
  refine w_ci hA hw (w_rv (rest := []) S hK hw (c_M_c l x1 u _ _ h) (ci := 0) (q0 := 0) rfl rfl (w_cb (fr := 0) (lv := 0) S.2.2.2.2 k_979 k_976 k_8 yd_M_c rfl rfl ⟨Nat.le_of_ble_eq_true rfl, Nat.le_of_ble_eq_true rfl⟩) k_978 s_36 rfl hl.1 rfl (Nat.le_of_ble_eq_true rfl) d_M_behindRepeat_38 ⟨Nat.le_refl _, Nat.le_refl _⟩) (fun r_38 u_38 H locs h hw => ?_)
  refine lv_bipush (v := 123) S.1 S.2.1 d_M_behindRepeat_41 (by decide) ?_
  refine lv_icmp_ne (tgt := 81) S.1 S.2.1 d_M_behindRepeat_43 (by decide) (fun q_43 => ?_) (fun q_43 => ?_)
  · have h := h.2 q_43
    exact wB_M_behindRepeat_81 S hr hlk hK hA  x1 x2 u_38 _ _ _ (lv_sub hl [0, 1, 2] rfl) hw h
  · have h := h.1 q_43
    refine lv_aload_n S.1 S.2.1 d_M_behindRepeat_46 rfl (lv_at hl 0 rfl) ?_
    refine lv_iload_n S.1 S.2.1 d_M_behindRepeat_47 rfl (lv_at hl 1 rfl) ?_
    refine lv_iconst (v := 1) S.1 S.2.1 d_M_behindRepeat_48 (by decide) ?_
    refine lv_iadd S.1 S.2.1 d_M_behindRepeat_49 ?_
    refine w_ci hA hw (w_rv (rest := []) S hK hw (c_M_c l (x1 + (1 : Int32)) u_38 _ _ h) (ci := 0) (q0 := 0) rfl rfl (w_cb (fr := 0) (lv := 0) S.2.2.2.2 k_979 k_976 k_8 yd_M_c rfl rfl ⟨Nat.le_of_ble_eq_true rfl, Nat.le_of_ble_eq_true rfl⟩) k_978 s_36 rfl hl.1 rfl (Nat.le_of_ble_eq_true rfl) d_M_behindRepeat_50 ⟨Nat.le_refl _, Nat.le_refl _⟩) (fun r_50 u_50 H locs h hw => ?_)
    refine lv_bipush (v := 48) S.1 S.2.1 d_M_behindRepeat_53 (by decide) ?_
    refine lv_bipush (v := 57) S.1 S.2.1 d_M_behindRepeat_55 (by decide) ?_
    refine w_cn (w_rs (rest := []) S (c_M_in l r_50 (48 : Int32) (57 : Int32) _ h) (w_cb (fr := 0) (lv := 0) S.2.2.2.2 k_960 k_958 k_8 yd_M_in rfl rfl ⟨Nat.le_of_ble_eq_true rfl, Nat.le_of_ble_eq_true rfl⟩) k_959 rfl hl.1 rfl (Nat.le_of_ble_eq_true rfl) d_M_behindRepeat_57 ⟨Nat.le_refl _, Nat.le_refl _⟩) (fun r_57 h => ?_)
    refine lv_if_eq (tgt := 75) S.1 S.2.1 d_M_behindRepeat_60 (by decide) (fun q_60 => ?_) (fun q_60 => ?_)
    · have h := h.1 q_60
      refine lv_iconst (v := -1) S.1 S.2.1 d_M_behindRepeat_75 (by decide) ?_
      exact w_iret S hr hlk hK hw h d_M_behindRepeat_76
    · have h := h.2 q_60
      refine lv_aload_n S.1 S.2.1 d_M_behindRepeat_63 rfl (lv_at hl 0 rfl) ?_
      refine lv_iload_n S.1 S.2.1 d_M_behindRepeat_64 rfl (lv_at hl 1 rfl) ?_
      refine lv_iconst (v := 2) S.1 S.2.1 d_M_behindRepeat_65 (by decide) ?_
      refine lv_iadd S.1 S.2.1 d_M_behindRepeat_66 ?_
      refine w_ci hA hw (w_rv (rest := []) S hK hw (c_M_c l (x1 + (2 : Int32)) u_50 _ _ h) (ci := 0) (q0 := 0) rfl rfl (w_cb (fr := 0) (lv := 0) S.2.2.2.2 k_979 k_976 k_8 yd_M_c rfl rfl ⟨Nat.le_of_ble_eq_true rfl, Nat.le_of_ble_eq_true rfl⟩) k_978 s_36 rfl hl.1 rfl (Nat.le_of_ble_eq_true rfl) d_M_behindRepeat_67 ⟨Nat.le_refl _, Nat.le_refl _⟩) (fun r_67 u_67 H locs h hw => ?_)
      refine lv_bipush (v := 125) S.1 S.2.1 d_M_behindRepeat_70 (by decide) ?_
      refine lv_icmp_eq (tgt := 77) S.1 S.2.1 d_M_behindRepeat_72 (by decide) (fun q_72 => ?_) (fun q_72 => ?_)
      · have h := h.1 q_72
        refine lv_iload_n S.1 S.2.1 d_M_behindRepeat_77 rfl (lv_at hl 1 rfl) ?_
        refine lv_iconst (v := 3) S.1 S.2.1 d_M_behindRepeat_78 (by decide) ?_
        refine lv_iadd S.1 S.2.1 d_M_behindRepeat_79 ?_
        refine lv_topi (fun x2_80 ex2_80 => ?_)
        have h := h x2_80 ex2_80
        refine lv_istore_n (lv' := [(2, .int x2_80), (0, .ref (a 0)), (1, .int x1)]) S.1 S.2.1 d_M_behindRepeat_80 rfl hl (by decide) rfl (fun ls hl => ?_)
        exact wB_M_behindRepeat_81 S hr hlk hK hA  x1 x2_80 u_67 _ _ _ (lv_sub hl [1, 2, 0] rfl) hw h
      · have h := h.2 q_72
        refine lv_iconst (v := -1) S.1 S.2.1 d_M_behindRepeat_75 (by decide) ?_
        exact w_iret S hr hlk hK hw h d_M_behindRepeat_76
set_option maxHeartbeats 4000000 in
set_option maxRecDepth 20000 in
theorem wB_M_behindRepeat_32 (S : CallFix p m c b_M_behindRepeat 3 s args lw_tg R_Mod) (hr : meth.sig.returnType = some .int) (hlk : meth.locks = false) (hK : GK x s) (hA : ∀ q : Nat, s.heap.size ≤ q → A q) {Qc : Int32 → MS → Prop} : ∀ (x1 : Int32) (u : MS) (ls : Array Slot) (H : Heap) (locs : List Loc), lv_has ls 3 [(0, .ref (a 0)), (1, .int x1)] → wd x A s.heap ((mcl x a) u) H locs → B_M_behindRepeat_32 Qc  x1 u → W p l e (rmN 1 0 0) s m args below meth c H locs 0 0 (MQ below (QcI x (mcl x a) A Qc) args s 0 0 A) (F0 m 32 ls []) := by
  intro x1 u ls H locs hl hw h
  refine lv_iload_n S.1 S.2.1 d_M_behindRepeat_32 rfl (lv_at hl 1 rfl) ?_
  refine lv_iconst (v := 1) S.1 S.2.1 d_M_behindRepeat_33 (by decide) ?_
  refine lv_iadd S.1 S.2.1 d_M_behindRepeat_34 ?_
  refine lv_topi (fun x2_35 ex2_35 => ?_)
  have h := h x2_35 ex2_35
  refine lv_istore_n (lv' := [(2, .int x2_35), (0, .ref (a 0)), (1, .int x1)]) S.1 S.2.1 d_M_behindRepeat_35 rfl hl (by decide) rfl (fun ls hl => ?_)
  exact wB_M_behindRepeat_36 S hr hlk hK hA  x1 x2_35 u _ _ _ (lv_sub hl [1, 2, 0] rfl) hw h
set_option maxHeartbeats 4000000 in
set_option maxRecDepth 20000 in
theorem c_M_behindRepeat {x : GX} {a : Nat → Nat} (l : Launch) (x1 : Int32) (u : MS) (sz : Nat) (Qc : Int32 → MS → Prop) (h : P_M_behindRepeat x1 u Qc) : Met l y_M_behindRepeat (wM y_M_behindRepeat b_M_behindRepeat 3 (some .int)) (rmN 1 0 0) (PreC x (mcl x a) [.ref (a 0), .int x1] u sz) (QcI x (mcl x a) (va_A ((mcl x a) u) sz) Qc) 0 0 (va_A ((mcl x a) u) sz) := by
  refine w_enter (by decide +kernel) (Nat.le_of_ble_eq_true rfl) (fun p e s m args below meth c S hr hlk _ hK hA hw ls hl => ?_)
  have hl : lv_has ls 3 [(0, .ref (a 0)), (1, .int x1)] := hl
  refine lv_iload_n S.1 S.2.1 d_M_behindRepeat_0 rfl (lv_at hl 1 rfl) ?_
  refine lv_istore_n (lv' := [(2, .int x1), (0, .ref (a 0)), (1, .int x1)]) S.1 S.2.1 d_M_behindRepeat_1 rfl hl (by decide) rfl (fun ls hl => ?_)
  refine lv_aload_n S.1 S.2.1 d_M_behindRepeat_2 rfl (lv_at hl 1 rfl) ?_
  refine lv_iload_n S.1 S.2.1 d_M_behindRepeat_3 rfl (lv_at hl 2 rfl) ?_
  refine w_ci hA hw (w_rv (rest := []) S hK hw (c_M_c l x1 u _ _ h) (ci := 0) (q0 := 0) rfl rfl (w_cb (fr := 0) (lv := 0) S.2.2.2.2 k_979 k_976 k_8 yd_M_c rfl rfl ⟨Nat.le_of_ble_eq_true rfl, Nat.le_of_ble_eq_true rfl⟩) k_978 s_36 rfl hl.1 rfl (Nat.le_of_ble_eq_true rfl) d_M_behindRepeat_4 ⟨Nat.le_refl _, Nat.le_refl _⟩) (fun r_4 u_4 H locs h hw => ?_)
  refine lv_bipush (v := 42) S.1 S.2.1 d_M_behindRepeat_7 (by decide) ?_
  refine lv_icmp_eq (tgt := 32) S.1 S.2.1 d_M_behindRepeat_9 (by decide) (fun q_9 => ?_) (fun q_9 => ?_)
  · have h := h.1 q_9
    exact wB_M_behindRepeat_32 S hr hlk hK hA  x1 u_4 _ _ _ (lv_sub hl [1, 2] rfl) hw h
  · have h := h.2 q_9
    refine lv_aload_n S.1 S.2.1 d_M_behindRepeat_12 rfl (lv_at hl 1 rfl) ?_
    refine lv_iload_n S.1 S.2.1 d_M_behindRepeat_13 rfl (lv_at hl 2 rfl) ?_
    refine w_ci hA hw (w_rv (rest := []) S hK hw (c_M_c l x1 u_4 _ _ h) (ci := 0) (q0 := 0) rfl rfl (w_cb (fr := 0) (lv := 0) S.2.2.2.2 k_979 k_976 k_8 yd_M_c rfl rfl ⟨Nat.le_of_ble_eq_true rfl, Nat.le_of_ble_eq_true rfl⟩) k_978 s_36 rfl hl.1 rfl (Nat.le_of_ble_eq_true rfl) d_M_behindRepeat_14 ⟨Nat.le_refl _, Nat.le_refl _⟩) (fun r_14 u_14 H locs h hw => ?_)
    refine lv_bipush (v := 43) S.1 S.2.1 d_M_behindRepeat_17 (by decide) ?_
    refine lv_icmp_eq (tgt := 32) S.1 S.2.1 d_M_behindRepeat_19 (by decide) (fun q_19 => ?_) (fun q_19 => ?_)
    · have h := h.1 q_19
      exact wB_M_behindRepeat_32 S hr hlk hK hA  x1 u_14 _ _ _ (lv_sub hl [1, 2] rfl) hw h
    · have h := h.2 q_19
      refine lv_aload_n S.1 S.2.1 d_M_behindRepeat_22 rfl (lv_at hl 1 rfl) ?_
      refine lv_iload_n S.1 S.2.1 d_M_behindRepeat_23 rfl (lv_at hl 2 rfl) ?_
      refine w_ci hA hw (w_rv (rest := []) S hK hw (c_M_c l x1 u_14 _ _ h) (ci := 0) (q0 := 0) rfl rfl (w_cb (fr := 0) (lv := 0) S.2.2.2.2 k_979 k_976 k_8 yd_M_c rfl rfl ⟨Nat.le_of_ble_eq_true rfl, Nat.le_of_ble_eq_true rfl⟩) k_978 s_36 rfl hl.1 rfl (Nat.le_of_ble_eq_true rfl) d_M_behindRepeat_24 ⟨Nat.le_refl _, Nat.le_refl _⟩) (fun r_24 u_24 H locs h hw => ?_)
      refine lv_bipush (v := 63) S.1 S.2.1 d_M_behindRepeat_27 (by decide) ?_
      refine lv_icmp_ne (tgt := 36) S.1 S.2.1 d_M_behindRepeat_29 (by decide) (fun q_29 => ?_) (fun q_29 => ?_)
      · have h := h.2 q_29
        exact wB_M_behindRepeat_36 S hr hlk hK hA  x1 x1 u_24 _ _ _ (lv_sub hl [1, 2, 0] rfl) hw h
      · have h := h.1 q_29
        exact wB_M_behindRepeat_32 S hr hlk hK hA  x1 u_24 _ _ _ (lv_sub hl [1, 2] rfl) hw h
set_option maxHeartbeats 4000000 in
set_option maxRecDepth 20000 in
theorem c_M_sized {x : GX} {a : Nat → Nat} (l : Launch) (x1 : Int32) (x2 : Int32) (u : MS) (sz : Nat) (Qc : Int32 → MS → Prop) (h : P_M_sized x1 x2 u Qc) : Met l y_M_sized (wM y_M_sized b_M_sized 3 (some .int)) (rmN 1 0 0) (PreC x (mcl x a) [.ref (a 0), .int x1, .int x2] u sz) (QcI x (mcl x a) (va_A ((mcl x a) u) sz) Qc) 0 0 (va_A ((mcl x a) u) sz) := by
  refine w_enter (by decide +kernel) (Nat.le_of_ble_eq_true rfl) (fun p e s m args below meth c S hr hlk _ hK hA hw ls hl => ?_)
  have hl : lv_has ls 3 [(0, .ref (a 0)), (1, .int x1), (2, .int x2)] := hl
  refine lv_aload_n S.1 S.2.1 d_M_sized_0 rfl (lv_at hl 0 rfl) ?_
  refine lv_iload_n S.1 S.2.1 d_M_sized_1 rfl (lv_at hl 1 rfl) ?_
  refine w_ci hA hw (w_rv (rest := []) S hK hw (c_M_c l x1 u _ _ h) (ci := 0) (q0 := 0) rfl rfl (w_cb (fr := 0) (lv := 0) S.2.2.2.2 k_979 k_976 k_8 yd_M_c rfl rfl ⟨Nat.le_of_ble_eq_true rfl, Nat.le_of_ble_eq_true rfl⟩) k_978 s_36 rfl hl.1 rfl (Nat.le_of_ble_eq_true rfl) d_M_sized_2 ⟨Nat.le_refl _, Nat.le_refl _⟩) (fun r_2 u_2 H locs h hw => ?_)
  by_cases q_5_0 : r_2 = (42 : Int32)
  · have h := h.1 q_5_0
    refine lv_lookup (tgt := 69) (off := 64) S.1 S.2.1 d_M_sized_5 (by decide) (by rw [q_5_0]; rfl) (by decide) ?_
    refine lv_iload_n S.1 S.2.1 d_M_sized_69 rfl (lv_at hl 2 rfl) ?_
    refine lv_iconst (v := 2) S.1 S.2.1 d_M_sized_70 (by decide) ?_
    refine lv_iadd S.1 S.2.1 d_M_sized_71 ?_
    exact w_iret S hr hlk hK hw h d_M_sized_72
  by_cases q_5_1 : r_2 = (43 : Int32)
  · have h := h.2.1 q_5_1
    refine lv_lookup (tgt := 63) (off := 58) S.1 S.2.1 d_M_sized_5 (by decide) (by rw [q_5_1]; rfl) (by decide) ?_
    refine lv_iconst (v := 2) S.1 S.2.1 d_M_sized_63 (by decide) ?_
    refine lv_iload_n S.1 S.2.1 d_M_sized_64 rfl (lv_at hl 2 rfl) ?_
    refine lv_imul S.1 S.2.1 d_M_sized_65 ?_
    refine lv_iconst (v := 2) S.1 S.2.1 d_M_sized_66 (by decide) ?_
    refine lv_iadd S.1 S.2.1 d_M_sized_67 ?_
    exact w_iret S hr hlk hK hw h d_M_sized_68
  by_cases q_5_2 : r_2 = (63 : Int32)
  · have h := h.2.2.1 q_5_2
    refine lv_lookup (tgt := 69) (off := 64) S.1 S.2.1 d_M_sized_5 (by decide) (by rw [q_5_2]; rfl) (by decide) ?_
    refine lv_iload_n S.1 S.2.1 d_M_sized_69 rfl (lv_at hl 2 rfl) ?_
    refine lv_iconst (v := 2) S.1 S.2.1 d_M_sized_70 (by decide) ?_
    refine lv_iadd S.1 S.2.1 d_M_sized_71 ?_
    exact w_iret S hr hlk hK hw h d_M_sized_72
  by_cases q_5_3 : r_2 = (123 : Int32)
  · have h := h.2.2.2.1 q_5_3
    refine lv_lookup (tgt := 48) (off := 43) S.1 S.2.1 d_M_sized_5 (by decide) (by rw [q_5_3]; rfl) (by decide) ?_
    refine lv_aload_n S.1 S.2.1 d_M_sized_48 rfl (lv_at hl 0 rfl) ?_
    refine lv_iload_n S.1 S.2.1 d_M_sized_49 rfl (lv_at hl 1 rfl) ?_
    refine lv_iconst (v := 1) S.1 S.2.1 d_M_sized_50 (by decide) ?_
    refine lv_iadd S.1 S.2.1 d_M_sized_51 ?_
    refine w_ci hA hw (w_rv (rest := []) S hK hw (c_M_c l (x1 + (1 : Int32)) u_2 _ _ h) (ci := 0) (q0 := 0) rfl rfl (w_cb (fr := 0) (lv := 0) S.2.2.2.2 k_979 k_976 k_8 yd_M_c rfl rfl ⟨Nat.le_of_ble_eq_true rfl, Nat.le_of_ble_eq_true rfl⟩) k_978 s_36 rfl hl.1 rfl (Nat.le_of_ble_eq_true rfl) d_M_sized_52 ⟨Nat.le_refl _, Nat.le_refl _⟩) (fun r_52 u_52 H locs h hw => ?_)
    refine lv_bipush (v := 48) S.1 S.2.1 d_M_sized_55 (by decide) ?_
    refine lv_isub S.1 S.2.1 d_M_sized_57 ?_
    refine lv_iload_n S.1 S.2.1 d_M_sized_58 rfl (lv_at hl 2 rfl) ?_
    refine lv_imul S.1 S.2.1 d_M_sized_59 ?_
    refine lv_iconst (v := 1) S.1 S.2.1 d_M_sized_60 (by decide) ?_
    refine lv_iadd S.1 S.2.1 d_M_sized_61 ?_
    exact w_iret S hr hlk hK hw h d_M_sized_62
  have h := h.2.2.2.2 q_5_0 q_5_1 q_5_2 q_5_3
  have z_0 : r_2.toInt ≠ 42 := fun e9 => q_5_0 (Int32.toInt_inj.mp (by rw [e9]; rfl))
  have z_1 : r_2.toInt ≠ 43 := fun e9 => q_5_1 (Int32.toInt_inj.mp (by rw [e9]; rfl))
  have z_2 : r_2.toInt ≠ 63 := fun e9 => q_5_2 (Int32.toInt_inj.mp (by rw [e9]; rfl))
  have z_3 : r_2.toInt ≠ 123 := fun e9 => q_5_3 (Int32.toInt_inj.mp (by rw [e9]; rfl))
  refine lv_lookup (tgt := 73) (off := 68) S.1 S.2.1 d_M_sized_5 (by decide) (by simp [Op.lookupswitch.offset, Ne.symm z_0, z_0, Ne.symm z_1, z_1, Ne.symm z_2, z_2, Ne.symm z_3, z_3]) (by decide) ?_
  refine lv_iload_n S.1 S.2.1 d_M_sized_73 rfl (lv_at hl 2 rfl) ?_
  exact w_iret S hr hlk hK hw h d_M_sized_74
set_option maxHeartbeats 4000000 in
set_option maxRecDepth 20000 in
theorem wB_M_measure_176 (S : CallFix p m c b_M_measure 5 s args lw_tg R_Mod) (hr : meth.sig.returnType = some .int) (hlk : meth.locks = false) (hK : GK x s) (hA : ∀ q : Nat, s.heap.size ≤ q → A q) {Qc : Int32 → MS → Prop} {K11 : Int32 → Int32 → MS → Prop} (ih11 : ∀ (x1 : Int32) (x2 : Int32) (u : MS) (ls : Array Slot) (H : Heap) (locs : List Loc), lv_has ls 5 [(0, .ref (a 0)), (1, .int x1), (2, .int x2)] → wd x A s.heap ((mcl x a) u) H locs → K11 x1 x2 u → W p l e (rmN 4 0 0) s m args below meth c H locs 0 0 (MQ below (QcI x (mcl x a) A Qc) args s 0 0 A) (F0 m 11 ls [])) : ∀ (x1 : Int32) (x2 : Int32) (t1 : Int32) (t2 : Int32) (t3 : Int32) (u : MS) (ls : Array Slot) (H : Heap) (locs : List Loc), lv_has ls 5 [(0, .ref (a 0)), (1, .int x1), (2, .int x2)] → wd x A s.heap ((mcl x a) u) H locs → B_M_measure_176 Qc K11 x1 x2 t1 t2 t3 u → W p l e (rmN 4 0 0) s m args below meth c H locs 0 0 (MQ below (QcI x (mcl x a) A Qc) args s 0 0 A) (F0 m 176 ls [.int t3, .int t2, .int t1, .ref (a 4)]) := by
  intro x1 x2 t1 t2 t3 u ls H locs hl hw h
  refine lv_iadd S.1 S.2.1 d_M_measure_176 ?_
  have hg := h.1
  have h := h.2
  refine mt_sums S hK hw hg d_M_measure_177 (fun H locs hw => ?_)
  refine lv_goto (tgt := 11) S.1 S.2.1 d_M_measure_178 (by decide) ?_
  exact ih11 x1 x2 (ms_sums u (upd (m_sums u) t1.toNatClampNeg (t2 + t3))) _ _ _ (lv_sub hl [0, 1, 2] rfl) hw h
set_option maxHeartbeats 4000000 in
set_option maxRecDepth 20000 in
theorem wB_M_measure_132 (S : CallFix p m c b_M_measure 5 s args lw_tg R_Mod) (hr : meth.sig.returnType = some .int) (hlk : meth.locks = false) (hK : GK x s) (hA : ∀ q : Nat, s.heap.size ≤ q → A q) {Qc : Int32 → MS → Prop} {K11 : Int32 → Int32 → MS → Prop} (ih11 : ∀ (x1 : Int32) (x2 : Int32) (u : MS) (ls : Array Slot) (H : Heap) (locs : List Loc), lv_has ls 5 [(0, .ref (a 0)), (1, .int x1), (2, .int x2)] → wd x A s.heap ((mcl x a) u) H locs → K11 x1 x2 u → W p l e (rmN 4 0 0) s m args below meth c H locs 0 0 (MQ below (QcI x (mcl x a) A Qc) args s 0 0 A) (F0 m 11 ls [])) : ∀ (x1 : Int32) (x3 : Int32) (x4 : Int32) (u : MS) (ls : Array Slot) (H : Heap) (locs : List Loc), lv_has ls 5 [(0, .ref (a 0)), (1, .int x1), (3, .int x3), (4, .int x4)] → wd x A s.heap ((mcl x a) u) H locs → B_M_measure_132 Qc K11 x1 x3 x4 u → W p l e (rmN 4 0 0) s m args below meth c H locs 0 0 (MQ below (QcI x (mcl x a) A Qc) args s 0 0 A) (F0 m 132 ls []) := by
  intro x1 x3 x4 u ls H locs hl hw h
  refine lv_iload S.1 S.2.1 d_M_measure_132 (lv_at hl 3 rfl) ?_
  refine lv_if_ge (tgt := 139) S.1 S.2.1 d_M_measure_134 (by decide) (fun q_134 => ?_) (fun q_134 => ?_)
  · have h := h.1 q_134
    refine lv_aload_n S.1 S.2.1 d_M_measure_139 rfl (lv_at hl 0 rfl) ?_
    refine lv_iload S.1 S.2.1 d_M_measure_140 (lv_at hl 3 rfl) ?_
    refine w_ci hA hw (w_rv (rest := []) S hK hw (c_M_behindRepeat l x4 u _ _ h) (ci := 0) (q0 := 0) rfl rfl (w_cb (fr := 0) (lv := 0) S.2.2.2.2 k_991 k_988 k_8 yd_M_behindRepeat rfl rfl ⟨Nat.le_of_ble_eq_true rfl, Nat.le_of_ble_eq_true rfl⟩) k_990 s_39 rfl hl.1 rfl (Nat.le_of_ble_eq_true rfl) d_M_measure_142 ⟨Nat.le_refl _, Nat.le_refl _⟩) (fun r_142 u_142 H locs h hw => ?_)
    refine lv_istore_n (lv' := [(2, .int r_142), (0, .ref (a 0)), (1, .int x1), (3, .int x3), (4, .int x4)]) S.1 S.2.1 d_M_measure_145 rfl hl (by decide) rfl (fun ls hl => ?_)
    refine lv_iload_n S.1 S.2.1 d_M_measure_146 rfl (lv_at hl 0 rfl) ?_
    refine lv_if_ge (tgt := 152) S.1 S.2.1 d_M_measure_147 (by decide) (fun q_147 => ?_) (fun q_147 => ?_)
    · have h := h.1 q_147
      refine lv_aload_n S.1 S.2.1 d_M_measure_152 rfl (lv_at hl 1 rfl) ?_
      refine mg_sums S hK hw d_M_measure_153 ?_
      refine lv_iload_n S.1 S.2.1 d_M_measure_156 rfl (lv_at hl 2 rfl) ?_
      refine lv_dup2_11 S.1 S.2.1 d_M_measure_157 rfl rfl ?_
      have hg := h.1
      have h := h.2
      refine ml_sums S hK hw hg d_M_measure_158 ?_
      refine lv_iload_n S.1 S.2.1 d_M_measure_159 rfl (lv_at hl 0 rfl) ?_
      refine lv_iload S.1 S.2.1 d_M_measure_160 (lv_at hl 4 rfl) ?_
      refine lv_icmp_le (tgt := 175) S.1 S.2.1 d_M_measure_162 (by decide) (fun q_162 => ?_) (fun q_162 => ?_)
      · have h := h.1 q_162
        refine lv_iload_n S.1 S.2.1 d_M_measure_175 rfl (lv_at hl 3 rfl) ?_
        exact wB_M_measure_176 S hr hlk hK hA ih11 x1 r_142 x1 (m_sums u_142 x1.toNatClampNeg) x3 u_142 _ _ _ (lv_sub hl [1, 2, 0] rfl) hw h
      · have h := h.2 q_162
        refine lv_aload_n S.1 S.2.1 d_M_measure_165 rfl (lv_at hl 1 rfl) ?_
        refine lv_iload S.1 S.2.1 d_M_measure_166 (lv_at hl 4 rfl) ?_
        refine lv_iload_n S.1 S.2.1 d_M_measure_168 rfl (lv_at hl 3 rfl) ?_
        refine w_ci hA hw (w_rv (rest := [.int (m_sums u_142 x1.toNatClampNeg), .int x1, .ref (a 4)]) S hK hw (c_M_sized l x4 x3 u_142 _ _ h) (ci := 0) (q0 := 0) rfl rfl (w_cb (fr := 0) (lv := 0) S.2.2.2.2 k_995 k_992 k_8 yd_M_sized rfl rfl ⟨Nat.le_of_ble_eq_true rfl, Nat.le_of_ble_eq_true rfl⟩) k_994 s_40 rfl hl.1 rfl (Nat.le_of_ble_eq_true rfl) d_M_measure_169 ⟨Nat.le_refl _, Nat.le_refl _⟩) (fun r_169 u_169 H locs h hw => ?_)
        refine lv_goto (tgt := 176) S.1 S.2.1 d_M_measure_172 (by decide) ?_
        exact wB_M_measure_176 S hr hlk hK hA ih11 x1 r_142 x1 (m_sums u_142 x1.toNatClampNeg) r_169 u_169 _ _ _ (lv_sub hl [1, 2, 0] rfl) hw h
    · have h := h.2 q_147
      refine lv_iconst (v := -1) S.1 S.2.1 d_M_measure_150 (by decide) ?_
      exact w_iret S hr hlk hK hw h d_M_measure_151
  · have h := h.2 q_134
    refine lv_iconst (v := -1) S.1 S.2.1 d_M_measure_137 (by decide) ?_
    exact w_iret S hr hlk hK hw h d_M_measure_138
set_option maxHeartbeats 4000000 in
set_option maxRecDepth 20000 in
theorem wL_M_measure_11 (S : CallFix p m c b_M_measure 5 s args lw_tg R_Mod) (hr : meth.sig.returnType = some .int) (hlk : meth.locks = false) (hK : GK x s) (hA : ∀ q : Nat, s.heap.size ≤ q → A q) {Qc : Int32 → MS → Prop} : ∀ (n : Nat) (x1 : Int32) (x2 : Int32) (u : MS) (ls : Array Slot) (H : Heap) (locs : List Loc), lv_has ls 5 [(0, .ref (a 0)), (1, .int x1), (2, .int x2)] → wd x A s.heap ((mcl x a) u) H locs → L_M_measure_11 Qc  n x1 x2 u → W p l e (rmN 4 0 0) s m args below meth c H locs 0 0 (MQ below (QcI x (mcl x a) A Qc) args s 0 0 A) (F0 m 11 ls []) := by
  intro n
  induction n with
  | zero =>
    intro x1 x2 u ls H locs hl hw h
    exact absurd h id
  | succ n ih =>
    intro x1 x2 u ls H locs hl hw h
    refine lv_iload_n S.1 S.2.1 d_M_measure_11 rfl (lv_at hl 2 rfl) ?_
    refine lv_aload_n S.1 S.2.1 d_M_measure_12 rfl (lv_at hl 0 rfl) ?_
    refine mg_drafted S hK hw d_M_measure_13 ?_
    refine lv_icmp_ge (tgt := 181) S.1 S.2.1 d_M_measure_16 (by decide) (fun q_16 => ?_) (fun q_16 => ?_)
    · have h := h.1 q_16
      refine lv_iload_n S.1 S.2.1 d_M_measure_181 rfl (lv_at hl 1 rfl) ?_
      refine lv_if_ne (tgt := 194) S.1 S.2.1 d_M_measure_182 (by decide) (fun q_182 => ?_) (fun q_182 => ?_)
      · have h := h.2 q_182
        refine lv_iconst (v := -1) S.1 S.2.1 d_M_measure_194 (by decide) ?_
        exact w_iret S hr hlk hK hw h d_M_measure_195
      · have h := h.1 q_182
        refine lv_aload_n S.1 S.2.1 d_M_measure_185 rfl (lv_at hl 0 rfl) ?_
        refine mg_sums S hK hw d_M_measure_186 ?_
        refine lv_iconst (v := 0) S.1 S.2.1 d_M_measure_189 (by decide) ?_
        have hg := h.1
        have h := h.2
        refine ml_sums S hK hw hg d_M_measure_190 ?_
        refine lv_goto (tgt := 195) S.1 S.2.1 d_M_measure_191 (by decide) ?_
        exact w_iret S hr hlk hK hw h d_M_measure_195
    · have h := h.2 q_16
      refine lv_iconst (v := 0) S.1 S.2.1 d_M_measure_19 (by decide) ?_
      refine lv_istore_n (lv' := [(3, .int (0 : Int32)), (0, .ref (a 0)), (1, .int x1), (2, .int x2)]) S.1 S.2.1 d_M_measure_20 rfl hl (by decide) rfl (fun ls hl => ?_)
      refine lv_iload_n S.1 S.2.1 d_M_measure_21 rfl (lv_at hl 3 rfl) ?_
      refine lv_istore (lv' := [(4, .int x2), (3, .int (0 : Int32)), (0, .ref (a 0)), (1, .int x1), (2, .int x2)]) S.1 S.2.1 d_M_measure_22 hl (by decide) rfl (fun ls hl => ?_)
      refine lv_aload_n S.1 S.2.1 d_M_measure_24 rfl (lv_at hl 2 rfl) ?_
      refine lv_iload_n S.1 S.2.1 d_M_measure_25 rfl (lv_at hl 4 rfl) ?_
      refine w_ci hA hw (w_rv (rest := []) S hK hw (c_M_opener l x2 u _ _ h) (ci := 0) (q0 := 0) rfl rfl (w_cb (fr := 0) (lv := 0) S.2.2.2.2 k_975 k_972 k_8 yd_M_opener rfl rfl ⟨Nat.le_of_ble_eq_true rfl, Nat.le_of_ble_eq_true rfl⟩) k_974 s_35 rfl hl.1 rfl (Nat.le_of_ble_eq_true rfl) d_M_measure_26 ⟨Nat.le_refl _, Nat.le_refl _⟩) (fun r_26 u_26 H locs h hw => ?_)
      refine lv_if_le (tgt := 61) S.1 S.2.1 d_M_measure_29 (by decide) (fun q_29 => ?_) (fun q_29 => ?_)
      · have h := h.1 q_29
        refine lv_aload_n S.1 S.2.1 d_M_measure_61 rfl (lv_at hl 2 rfl) ?_
        refine lv_iload_n S.1 S.2.1 d_M_measure_62 rfl (lv_at hl 4 rfl) ?_
        refine w_ci hA hw (w_rv (rest := []) S hK hw (c_M_c l x2 u_26 _ _ h) (ci := 0) (q0 := 0) rfl rfl (w_cb (fr := 0) (lv := 0) S.2.2.2.2 k_979 k_976 k_8 yd_M_c rfl rfl ⟨Nat.le_of_ble_eq_true rfl, Nat.le_of_ble_eq_true rfl⟩) k_978 s_36 rfl hl.1 rfl (Nat.le_of_ble_eq_true rfl) d_M_measure_63 ⟨Nat.le_refl _, Nat.le_refl _⟩) (fun r_63 u_63 H locs h hw => ?_)
        refine lv_bipush (v := 124) S.1 S.2.1 d_M_measure_66 (by decide) ?_
        refine lv_icmp_ne (tgt := 87) S.1 S.2.1 d_M_measure_68 (by decide) (fun q_68 => ?_) (fun q_68 => ?_)
        · have h := h.2 q_68
          refine lv_aload_n S.1 S.2.1 d_M_measure_87 rfl (lv_at hl 2 rfl) ?_
          refine lv_iload_n S.1 S.2.1 d_M_measure_88 rfl (lv_at hl 4 rfl) ?_
          refine w_ci hA hw (w_rv (rest := []) S hK hw (c_M_c l x2 u_63 _ _ h) (ci := 0) (q0 := 0) rfl rfl (w_cb (fr := 0) (lv := 0) S.2.2.2.2 k_979 k_976 k_8 yd_M_c rfl rfl ⟨Nat.le_of_ble_eq_true rfl, Nat.le_of_ble_eq_true rfl⟩) k_978 s_36 rfl hl.1 rfl (Nat.le_of_ble_eq_true rfl) d_M_measure_89 ⟨Nat.le_refl _, Nat.le_refl _⟩) (fun r_89 u_89 H locs h hw => ?_)
          refine lv_bipush (v := 41) S.1 S.2.1 d_M_measure_92 (by decide) ?_
          refine lv_icmp_ne (tgt := 123) S.1 S.2.1 d_M_measure_94 (by decide) (fun q_94 => ?_) (fun q_94 => ?_)
          · have h := h.2 q_94
            refine lv_iconst (v := 1) S.1 S.2.1 d_M_measure_123 (by decide) ?_
            refine lv_istore_n (lv' := [(3, .int (1 : Int32)), (4, .int x2), (0, .ref (a 0)), (1, .int x1), (2, .int x2)]) S.1 S.2.1 d_M_measure_124 rfl hl (by decide) rfl (fun ls hl => ?_)
            refine lv_aload_n S.1 S.2.1 d_M_measure_125 rfl (lv_at hl 2 rfl) ?_
            refine lv_iload_n S.1 S.2.1 d_M_measure_126 rfl (lv_at hl 4 rfl) ?_
            refine w_ci hA hw (w_rv (rest := []) S hK hw (c_M_behindPlain l x2 u_89 _ _ h) (ci := 0) (q0 := 0) rfl rfl (w_cb (fr := 0) (lv := 0) S.2.2.2.2 k_983 k_980 k_8 yd_M_behindPlain rfl rfl ⟨Nat.le_of_ble_eq_true rfl, Nat.le_of_ble_eq_true rfl⟩) k_982 s_37 rfl hl.1 rfl (Nat.le_of_ble_eq_true rfl) d_M_measure_127 ⟨Nat.le_refl _, Nat.le_refl _⟩) (fun r_127 u_127 H locs h hw => ?_)
            refine lv_istore (lv' := [(4, .int r_127), (3, .int (1 : Int32)), (0, .ref (a 0)), (1, .int x1), (2, .int x2)]) S.1 S.2.1 d_M_measure_130 hl (by decide) rfl (fun ls hl => ?_)
            exact wB_M_measure_132 S hr hlk hK hA ih x1 (1 : Int32) r_127 u_127 _ _ _ (lv_sub hl [2, 3, 1, 0] rfl) hw h
          · have h := h.1 q_94
            refine lv_iload_n S.1 S.2.1 d_M_measure_97 rfl (lv_at hl 3 rfl) ?_
            refine lv_if_ne (tgt := 103) S.1 S.2.1 d_M_measure_98 (by decide) (fun q_98 => ?_) (fun q_98 => ?_)
            · have h := h.2 q_98
              refine lv_aload_n S.1 S.2.1 d_M_measure_103 rfl (lv_at hl 2 rfl) ?_
              refine mg_sums S hK hw d_M_measure_104 ?_
              refine lv_iload_n S.1 S.2.1 d_M_measure_107 rfl (lv_at hl 3 rfl) ?_
              have hg := h.1
              have h := h.2
              refine ml_sums S hK hw hg d_M_measure_108 ?_
              refine lv_iconst (v := 2) S.1 S.2.1 d_M_measure_109 (by decide) ?_
              refine lv_iadd S.1 S.2.1 d_M_measure_110 ?_
              refine lv_topi (fun x3_111 ex3_111 => ?_)
              have h := h x3_111 ex3_111
              refine lv_istore_n (lv' := [(3, .int x3_111), (4, .int x2), (0, .ref (a 0)), (1, .int x1), (2, .int x2)]) S.1 S.2.1 d_M_measure_111 rfl hl (by decide) rfl (fun ls hl => ?_)
              obtain ⟨x1_112, ex1_112⟩ : ∃ y : Int32, y = x1 + (-1) := ⟨_, rfl⟩
              have h := h x1_112 ex1_112
              refine lv_iinc (v := x1_112) (lv' := [(1, .int x1_112), (3, .int x3_111), (4, .int x2), (0, .ref (a 0)), (2, .int x2)]) S.1 S.2.1 d_M_measure_112 hl (k := 3) rfl (by rw [ex1_112]; rfl) (by decide) rfl (fun ls hl => ?_)
              refine lv_iload_n S.1 S.2.1 d_M_measure_115 rfl (lv_at hl 4 rfl) ?_
              refine lv_iconst (v := 1) S.1 S.2.1 d_M_measure_116 (by decide) ?_
              refine lv_iadd S.1 S.2.1 d_M_measure_117 ?_
              refine lv_topi (fun x4_118 ex4_118 => ?_)
              have h := h x4_118 ex4_118
              refine lv_istore (lv' := [(4, .int x4_118), (1, .int x1_112), (3, .int x3_111), (0, .ref (a 0)), (2, .int x2)]) S.1 S.2.1 d_M_measure_118 hl (by decide) rfl (fun ls hl => ?_)
              refine lv_goto (tgt := 132) S.1 S.2.1 d_M_measure_120 (by decide) ?_
              exact wB_M_measure_132 S hr hlk hK hA ih x1_112 x3_111 x4_118 u_89 _ _ _ (lv_sub hl [3, 1, 2, 0] rfl) hw h
            · have h := h.1 q_98
              refine lv_iconst (v := -1) S.1 S.2.1 d_M_measure_101 (by decide) ?_
              exact w_iret S hr hlk hK hw h d_M_measure_102
        · have h := h.1 q_68
          refine lv_aload_n S.1 S.2.1 d_M_measure_71 rfl (lv_at hl 2 rfl) ?_
          refine mg_sums S hK hw d_M_measure_72 ?_
          refine lv_iload_n S.1 S.2.1 d_M_measure_75 rfl (lv_at hl 3 rfl) ?_
          refine lv_dup2_11 S.1 S.2.1 d_M_measure_76 rfl rfl ?_
          have hg := h.1
          have h := h.2
          refine ml_sums S hK hw hg d_M_measure_77 ?_
          refine lv_iconst (v := 1) S.1 S.2.1 d_M_measure_78 (by decide) ?_
          refine lv_iadd S.1 S.2.1 d_M_measure_79 ?_
          have hg := h.1
          have h := h.2
          refine mt_sums S hK hw hg d_M_measure_80 (fun H locs hw => ?_)
          obtain ⟨x2_81, ex2_81⟩ : ∃ y : Int32, y = x2 + 1 := ⟨_, rfl⟩
          have h := h x2_81 ex2_81
          refine lv_iinc (v := x2_81) (lv' := [(2, .int x2_81), (4, .int x2), (3, .int (0 : Int32)), (0, .ref (a 0)), (1, .int x1)]) S.1 S.2.1 d_M_measure_81 hl (k := 4) rfl (by rw [ex2_81]; rfl) (by decide) rfl (fun ls hl => ?_)
          refine lv_goto (tgt := 11) S.1 S.2.1 d_M_measure_84 (by decide) ?_
          exact ih x1 x2_81 (ms_sums u_63 (upd (m_sums u_63) x1.toNatClampNeg ((m_sums u_63 x1.toNatClampNeg) + (1 : Int32)))) _ _ _ (lv_sub hl [3, 4, 0] rfl) hw h
      · have h := h.2 q_29
        refine lv_iload_n S.1 S.2.1 d_M_measure_32 rfl (lv_at hl 3 rfl) ?_
        refine lv_bipush (v := 6) S.1 S.2.1 d_M_measure_33 (by decide) ?_
        refine lv_icmp_ne (tgt := 40) S.1 S.2.1 d_M_measure_35 (by decide) (fun q_35 => ?_) (fun q_35 => ?_)
        · have h := h.2 q_35
          obtain ⟨x1_40, ex1_40⟩ : ∃ y : Int32, y = x1 + 1 := ⟨_, rfl⟩
          have h := h x1_40 ex1_40
          refine lv_iinc (v := x1_40) (lv' := [(1, .int x1_40), (4, .int x2), (3, .int (0 : Int32)), (0, .ref (a 0)), (2, .int x2)]) S.1 S.2.1 d_M_measure_40 hl (k := 3) rfl (by rw [ex1_40]; rfl) (by decide) rfl (fun ls hl => ?_)
          refine lv_aload_n S.1 S.2.1 d_M_measure_43 rfl (lv_at hl 3 rfl) ?_
          refine mg_sums S hK hw d_M_measure_44 ?_
          refine lv_iload_n S.1 S.2.1 d_M_measure_47 rfl (lv_at hl 0 rfl) ?_
          refine lv_iconst (v := 0) S.1 S.2.1 d_M_measure_48 (by decide) ?_
          have hg := h.1
          have h := h.2
          refine mt_sums S hK hw hg d_M_measure_49 (fun H locs hw => ?_)
          refine lv_iload_n S.1 S.2.1 d_M_measure_50 rfl (lv_at hl 4 rfl) ?_
          refine lv_aload_n S.1 S.2.1 d_M_measure_51 rfl (lv_at hl 3 rfl) ?_
          refine lv_iload_n S.1 S.2.1 d_M_measure_52 rfl (lv_at hl 4 rfl) ?_
          refine w_ci hA hw (w_rv (rest := [.int x2]) S hK hw (c_M_opener l x2 (ms_sums u_26 (upd (m_sums u_26) x1_40.toNatClampNeg (0 : Int32))) _ _ h) (ci := 0) (q0 := 0) rfl rfl (w_cb (fr := 0) (lv := 0) S.2.2.2.2 k_975 k_972 k_8 yd_M_opener rfl rfl ⟨Nat.le_of_ble_eq_true rfl, Nat.le_of_ble_eq_true rfl⟩) k_974 s_35 rfl hl.1 rfl (Nat.le_of_ble_eq_true rfl) d_M_measure_53 ⟨Nat.le_refl _, Nat.le_refl _⟩) (fun r_53 u_53 H locs h hw => ?_)
          refine lv_iadd S.1 S.2.1 d_M_measure_56 ?_
          refine lv_topi (fun x2_57 ex2_57 => ?_)
          have h := h x2_57 ex2_57
          refine lv_istore_n (lv' := [(2, .int x2_57), (1, .int x1_40), (4, .int x2), (3, .int (0 : Int32)), (0, .ref (a 0))]) S.1 S.2.1 d_M_measure_57 rfl hl (by decide) rfl (fun ls hl => ?_)
          refine lv_goto (tgt := 11) S.1 S.2.1 d_M_measure_58 (by decide) ?_
          exact ih x1_40 x2_57 u_53 _ _ _ (lv_sub hl [4, 1, 0] rfl) hw h
        · have h := h.1 q_35
          refine lv_iconst (v := -1) S.1 S.2.1 d_M_measure_38 (by decide) ?_
          exact w_iret S hr hlk hK hw h d_M_measure_39
set_option maxHeartbeats 4000000 in
set_option maxRecDepth 20000 in
theorem c_M_measure {x : GX} {a : Nat → Nat} (l : Launch)  (u : MS) (sz : Nat) (Qc : Int32 → MS → Prop) (h : P_M_measure  u Qc) : Met l y_M_measure (wM y_M_measure b_M_measure 5 (some .int)) (rmN 4 0 0) (PreC x (mcl x a) [.ref (a 0)] u sz) (QcI x (mcl x a) (va_A ((mcl x a) u) sz) Qc) 0 0 (va_A ((mcl x a) u) sz) := by
  refine w_enter (by decide +kernel) (Nat.le_of_ble_eq_true rfl) (fun p e s m args below meth c S hr hlk _ hK hA hw ls hl => ?_)
  have hl : lv_has ls 5 [(0, .ref (a 0))] := hl
  refine lv_iconst (v := 0) S.1 S.2.1 d_M_measure_0 (by decide) ?_
  refine lv_istore_n (lv' := [(1, .int (0 : Int32)), (0, .ref (a 0))]) S.1 S.2.1 d_M_measure_1 rfl hl (by decide) rfl (fun ls hl => ?_)
  refine lv_iconst (v := 0) S.1 S.2.1 d_M_measure_2 (by decide) ?_
  refine lv_istore_n (lv' := [(2, .int (0 : Int32)), (1, .int (0 : Int32)), (0, .ref (a 0))]) S.1 S.2.1 d_M_measure_3 rfl hl (by decide) rfl (fun ls hl => ?_)
  refine lv_aload_n S.1 S.2.1 d_M_measure_4 rfl (lv_at hl 2 rfl) ?_
  refine mg_sums S hK hw d_M_measure_5 ?_
  refine lv_iconst (v := 0) S.1 S.2.1 d_M_measure_8 (by decide) ?_
  refine lv_iconst (v := 0) S.1 S.2.1 d_M_measure_9 (by decide) ?_
  have hg := h.1
  have h := h.2
  refine mt_sums S hK hw hg d_M_measure_10 (fun H locs hw => ?_)
  obtain ⟨n9, h⟩ := h
  exact wL_M_measure_11 S hr hlk hK hA  n9 (0 : Int32) (0 : Int32) (ms_sums u (upd (m_sums u) (0 : Int32).toNatClampNeg (0 : Int32))) _ _ _ (lv_sub hl [2, 1, 0] rfl) hw h
set_option maxHeartbeats 4000000 in
set_option maxRecDepth 20000 in
theorem wB_M_groupsOf_37 (S : CallFix p m c b_M_groupsOf 3 s args lw_tg R_Mod) (hr : meth.sig.returnType = some .int) (hlk : meth.locks = false) (hK : GK x s) (hA : ∀ q : Nat, s.heap.size ≤ q → A q) {Qc : Int32 → MS → Prop} {K4 : Int32 → Int32 → MS → Prop} (ih4 : ∀ (x1 : Int32) (x2 : Int32) (u : MS) (ls : Array Slot) (H : Heap) (locs : List Loc), lv_has ls 3 [(0, .ref (a 0)), (1, .int x1), (2, .int x2)] → wd x A s.heap ((mcl x a) u) H locs → K4 x1 x2 u → W p l e (rmN 1 0 0) s m args below meth c H locs 0 0 (MQ below (QcI x (mcl x a) A Qc) args s 0 0 A) (F0 m 4 ls [])) : ∀ (x1 : Int32) (x2 : Int32) (u : MS) (ls : Array Slot) (H : Heap) (locs : List Loc), lv_has ls 3 [(0, .ref (a 0)), (1, .int x1), (2, .int x2)] → wd x A s.heap ((mcl x a) u) H locs → B_M_groupsOf_37 Qc K4 x1 x2 u → W p l e (rmN 1 0 0) s m args below meth c H locs 0 0 (MQ below (QcI x (mcl x a) A Qc) args s 0 0 A) (F0 m 37 ls []) := by
  intro x1 x2 u ls H locs hl hw h
  obtain ⟨x2_37, ex2_37⟩ : ∃ y : Int32, y = x2 + 1 := ⟨_, rfl⟩
  have h := h x2_37 ex2_37
  refine lv_iinc (v := x2_37) (lv' := [(2, .int x2_37), (0, .ref (a 0)), (1, .int x1)]) S.1 S.2.1 d_M_groupsOf_37 hl (k := 2) rfl (by rw [ex2_37]; rfl) (by decide) rfl (fun ls hl => ?_)
  refine lv_goto (tgt := 4) S.1 S.2.1 d_M_groupsOf_40 (by decide) ?_
  exact ih4 x1 x2_37 u _ _ _ (lv_sub hl [1, 2, 0] rfl) hw h
set_option maxHeartbeats 4000000 in
set_option maxRecDepth 20000 in
theorem wL_M_groupsOf_4 (S : CallFix p m c b_M_groupsOf 3 s args lw_tg R_Mod) (hr : meth.sig.returnType = some .int) (hlk : meth.locks = false) (hK : GK x s) (hA : ∀ q : Nat, s.heap.size ≤ q → A q) {Qc : Int32 → MS → Prop} : ∀ (n : Nat) (x1 : Int32) (x2 : Int32) (u : MS) (ls : Array Slot) (H : Heap) (locs : List Loc), lv_has ls 3 [(0, .ref (a 0)), (1, .int x1), (2, .int x2)] → wd x A s.heap ((mcl x a) u) H locs → L_M_groupsOf_4 Qc  n x1 x2 u → W p l e (rmN 1 0 0) s m args below meth c H locs 0 0 (MQ below (QcI x (mcl x a) A Qc) args s 0 0 A) (F0 m 4 ls []) := by
  intro n
  induction n with
  | zero =>
    intro x1 x2 u ls H locs hl hw h
    exact absurd h id
  | succ n ih =>
    intro x1 x2 u ls H locs hl hw h
    refine lv_iload_n S.1 S.2.1 d_M_groupsOf_4 rfl (lv_at hl 2 rfl) ?_
    refine lv_aload_n S.1 S.2.1 d_M_groupsOf_5 rfl (lv_at hl 0 rfl) ?_
    refine mg_drafted S hK hw d_M_groupsOf_6 ?_
    refine lv_icmp_ge (tgt := 43) S.1 S.2.1 d_M_groupsOf_9 (by decide) (fun q_9 => ?_) (fun q_9 => ?_)
    · have h := h.1 q_9
      refine lv_iload_n S.1 S.2.1 d_M_groupsOf_43 rfl (lv_at hl 1 rfl) ?_
      exact w_iret S hr hlk hK hw h d_M_groupsOf_44
    · have h := h.2 q_9
      refine lv_aload_n S.1 S.2.1 d_M_groupsOf_12 rfl (lv_at hl 0 rfl) ?_
      refine lv_iload_n S.1 S.2.1 d_M_groupsOf_13 rfl (lv_at hl 2 rfl) ?_
      refine w_ci hA hw (w_rv (rest := []) S hK hw (c_M_c l x2 u _ _ h) (ci := 0) (q0 := 0) rfl rfl (w_cb (fr := 0) (lv := 0) S.2.2.2.2 k_979 k_976 k_8 yd_M_c rfl rfl ⟨Nat.le_of_ble_eq_true rfl, Nat.le_of_ble_eq_true rfl⟩) k_978 s_36 rfl hl.1 rfl (Nat.le_of_ble_eq_true rfl) d_M_groupsOf_14 ⟨Nat.le_refl _, Nat.le_refl _⟩) (fun r_14 u_14 H locs h hw => ?_)
      refine lv_bipush (v := 40) S.1 S.2.1 d_M_groupsOf_17 (by decide) ?_
      refine lv_icmp_ne (tgt := 37) S.1 S.2.1 d_M_groupsOf_19 (by decide) (fun q_19 => ?_) (fun q_19 => ?_)
      · have h := h.2 q_19
        exact wB_M_groupsOf_37 S hr hlk hK hA ih x1 x2 u_14 _ _ _ (lv_sub hl [0, 1, 2] rfl) hw h
      · have h := h.1 q_19
        refine lv_aload_n S.1 S.2.1 d_M_groupsOf_22 rfl (lv_at hl 0 rfl) ?_
        refine lv_iload_n S.1 S.2.1 d_M_groupsOf_23 rfl (lv_at hl 2 rfl) ?_
        refine lv_iconst (v := 1) S.1 S.2.1 d_M_groupsOf_24 (by decide) ?_
        refine lv_iadd S.1 S.2.1 d_M_groupsOf_25 ?_
        refine w_ci hA hw (w_rv (rest := []) S hK hw (c_M_c l (x2 + (1 : Int32)) u_14 _ _ h) (ci := 0) (q0 := 0) rfl rfl (w_cb (fr := 0) (lv := 0) S.2.2.2.2 k_979 k_976 k_8 yd_M_c rfl rfl ⟨Nat.le_of_ble_eq_true rfl, Nat.le_of_ble_eq_true rfl⟩) k_978 s_36 rfl hl.1 rfl (Nat.le_of_ble_eq_true rfl) d_M_groupsOf_26 ⟨Nat.le_refl _, Nat.le_refl _⟩) (fun r_26 u_26 H locs h hw => ?_)
        refine lv_bipush (v := 63) S.1 S.2.1 d_M_groupsOf_29 (by decide) ?_
        refine lv_icmp_eq (tgt := 37) S.1 S.2.1 d_M_groupsOf_31 (by decide) (fun q_31 => ?_) (fun q_31 => ?_)
        · have h := h.1 q_31
          exact wB_M_groupsOf_37 S hr hlk hK hA ih x1 x2 u_26 _ _ _ (lv_sub hl [0, 1, 2] rfl) hw h
        · have h := h.2 q_31
          obtain ⟨x1_34, ex1_34⟩ : ∃ y : Int32, y = x1 + 1 := ⟨_, rfl⟩
          have h := h x1_34 ex1_34
          refine lv_iinc (v := x1_34) (lv' := [(1, .int x1_34), (0, .ref (a 0)), (2, .int x2)]) S.1 S.2.1 d_M_groupsOf_34 hl (k := 1) rfl (by rw [ex1_34]; rfl) (by decide) rfl (fun ls hl => ?_)
          exact wB_M_groupsOf_37 S hr hlk hK hA ih x1_34 x2 u_26 _ _ _ (lv_sub hl [1, 0, 2] rfl) hw h
set_option maxHeartbeats 4000000 in
set_option maxRecDepth 20000 in
theorem c_M_groupsOf {x : GX} {a : Nat → Nat} (l : Launch)  (u : MS) (sz : Nat) (Qc : Int32 → MS → Prop) (h : P_M_groupsOf  u Qc) : Met l y_M_groupsOf (wM y_M_groupsOf b_M_groupsOf 3 (some .int)) (rmN 1 0 0) (PreC x (mcl x a) [.ref (a 0)] u sz) (QcI x (mcl x a) (va_A ((mcl x a) u) sz) Qc) 0 0 (va_A ((mcl x a) u) sz) := by
  refine w_enter (by decide +kernel) (Nat.le_of_ble_eq_true rfl) (fun p e s m args below meth c S hr hlk _ hK hA hw ls hl => ?_)
  have hl : lv_has ls 3 [(0, .ref (a 0))] := hl
  refine lv_iconst (v := 0) S.1 S.2.1 d_M_groupsOf_0 (by decide) ?_
  refine lv_istore_n (lv' := [(1, .int (0 : Int32)), (0, .ref (a 0))]) S.1 S.2.1 d_M_groupsOf_1 rfl hl (by decide) rfl (fun ls hl => ?_)
  refine lv_iconst (v := 0) S.1 S.2.1 d_M_groupsOf_2 (by decide) ?_
  refine lv_istore_n (lv' := [(2, .int (0 : Int32)), (1, .int (0 : Int32)), (0, .ref (a 0))]) S.1 S.2.1 d_M_groupsOf_3 rfl hl (by decide) rfl (fun ls hl => ?_)
  obtain ⟨n9, h⟩ := h
  exact wL_M_groupsOf_4 S hr hlk hK hA  n9 (0 : Int32) (0 : Int32) u _ _ _ (lv_sub hl [2, 1, 0] rfl) hw h
set_option maxHeartbeats 4000000 in
set_option maxRecDepth 20000 in
theorem wB_M_namesGood_99 (S : CallFix p m c b_M_namesGood 4 s args lw_tg R_Mod) (hr : meth.sig.returnType = some .boolean) (hlk : meth.locks = false) (hK : GK x s) (hA : ∀ q : Nat, s.heap.size ≤ q → A q) {Qc : Int32 → MS → Prop} {K2 : Int32 → Int32 → MS → Prop} (ih2 : ∀ (x1 : Int32) (x2 : Int32) (u : MS) (ls : Array Slot) (H : Heap) (locs : List Loc), lv_has ls 4 [(0, .ref (a 0)), (1, .int x1), (2, .int x2)] → wd x A s.heap ((mcl x a) u) H locs → K2 x1 x2 u → W p l e (rmN 1 0 0) s m args below meth c H locs 0 0 (MQ below (QcI x (mcl x a) A Qc) args s 0 0 A) (F0 m 2 ls [])) : ∀ (x1 : Int32) (x2 : Int32) (u : MS) (ls : Array Slot) (H : Heap) (locs : List Loc), lv_has ls 4 [(0, .ref (a 0)), (1, .int x1), (2, .int x2)] → wd x A s.heap ((mcl x a) u) H locs → B_M_namesGood_99 Qc K2 x1 x2 u → W p l e (rmN 1 0 0) s m args below meth c H locs 0 0 (MQ below (QcI x (mcl x a) A Qc) args s 0 0 A) (F0 m 99 ls []) := by
  intro x1 x2 u ls H locs hl hw h
  obtain ⟨x2_99, ex2_99⟩ : ∃ y : Int32, y = x2 + 1 := ⟨_, rfl⟩
  have h := h x2_99 ex2_99
  refine lv_iinc (v := x2_99) (lv' := [(2, .int x2_99), (0, .ref (a 0)), (1, .int x1)]) S.1 S.2.1 d_M_namesGood_99 hl (k := 2) rfl (by rw [ex2_99]; rfl) (by decide) rfl (fun ls hl => ?_)
  refine lv_goto (tgt := 2) S.1 S.2.1 d_M_namesGood_102 (by decide) ?_
  exact ih2 x1 x2_99 u _ _ _ (lv_sub hl [1, 2, 0] rfl) hw h
set_option maxHeartbeats 4000000 in
set_option maxRecDepth 20000 in
theorem wB_M_namesGood_73 (S : CallFix p m c b_M_namesGood 4 s args lw_tg R_Mod) (hr : meth.sig.returnType = some .boolean) (hlk : meth.locks = false) (hK : GK x s) (hA : ∀ q : Nat, s.heap.size ≤ q → A q) {Qc : Int32 → MS → Prop} {K2 : Int32 → Int32 → MS → Prop} (ih2 : ∀ (x1 : Int32) (x2 : Int32) (u : MS) (ls : Array Slot) (H : Heap) (locs : List Loc), lv_has ls 4 [(0, .ref (a 0)), (1, .int x1), (2, .int x2)] → wd x A s.heap ((mcl x a) u) H locs → K2 x1 x2 u → W p l e (rmN 1 0 0) s m args below meth c H locs 0 0 (MQ below (QcI x (mcl x a) A Qc) args s 0 0 A) (F0 m 2 ls [])) : ∀ (x1 : Int32) (x2 : Int32) (u : MS) (ls : Array Slot) (H : Heap) (locs : List Loc), lv_has ls 4 [(0, .ref (a 0)), (1, .int x1), (2, .int x2)] → wd x A s.heap ((mcl x a) u) H locs → B_M_namesGood_73 Qc K2 x1 x2 u → W p l e (rmN 1 0 0) s m args below meth c H locs 0 0 (MQ below (QcI x (mcl x a) A Qc) args s 0 0 A) (F0 m 73 ls []) := by
  intro x1 x2 u ls H locs hl hw h
  refine lv_aload_n S.1 S.2.1 d_M_namesGood_73 rfl (lv_at hl 0 rfl) ?_
  refine lv_iload_n S.1 S.2.1 d_M_namesGood_74 rfl (lv_at hl 2 rfl) ?_
  refine w_ci hA hw (w_rv (rest := []) S hK hw (c_M_c l x2 u _ _ h) (ci := 0) (q0 := 0) rfl rfl (w_cb (fr := 0) (lv := 0) S.2.2.2.2 k_979 k_976 k_8 yd_M_c rfl rfl ⟨Nat.le_of_ble_eq_true rfl, Nat.le_of_ble_eq_true rfl⟩) k_978 s_36 rfl hl.1 rfl (Nat.le_of_ble_eq_true rfl) d_M_namesGood_75 ⟨Nat.le_refl _, Nat.le_refl _⟩) (fun r_75 u_75 H locs h hw => ?_)
  refine lv_bipush (v := 92) S.1 S.2.1 d_M_namesGood_78 (by decide) ?_
  refine lv_icmp_ne (tgt := 99) S.1 S.2.1 d_M_namesGood_80 (by decide) (fun q_80 => ?_) (fun q_80 => ?_)
  · have h := h.2 q_80
    exact wB_M_namesGood_99 S hr hlk hK hA ih2 x1 x2 u_75 _ _ _ (lv_sub hl [0, 1, 2] rfl) hw h
  · have h := h.1 q_80
    refine lv_aload_n S.1 S.2.1 d_M_namesGood_83 rfl (lv_at hl 0 rfl) ?_
    refine lv_iload_n S.1 S.2.1 d_M_namesGood_84 rfl (lv_at hl 2 rfl) ?_
    refine lv_iconst (v := 1) S.1 S.2.1 d_M_namesGood_85 (by decide) ?_
    refine lv_iadd S.1 S.2.1 d_M_namesGood_86 ?_
    refine w_ci hA hw (w_rv (rest := []) S hK hw (c_M_c l (x2 + (1 : Int32)) u_75 _ _ h) (ci := 0) (q0 := 0) rfl rfl (w_cb (fr := 0) (lv := 0) S.2.2.2.2 k_979 k_976 k_8 yd_M_c rfl rfl ⟨Nat.le_of_ble_eq_true rfl, Nat.le_of_ble_eq_true rfl⟩) k_978 s_36 rfl hl.1 rfl (Nat.le_of_ble_eq_true rfl) d_M_namesGood_87 ⟨Nat.le_refl _, Nat.le_refl _⟩) (fun r_87 u_87 H locs h hw => ?_)
    refine lv_bipush (v := 48) S.1 S.2.1 d_M_namesGood_90 (by decide) ?_
    refine lv_isub S.1 S.2.1 d_M_namesGood_92 ?_
    refine lv_iload_n S.1 S.2.1 d_M_namesGood_93 rfl (lv_at hl 1 rfl) ?_
    refine lv_icmp_le (tgt := 99) S.1 S.2.1 d_M_namesGood_94 (by decide) (fun q_94 => ?_) (fun q_94 => ?_)
    · have h := h.1 q_94
      exact wB_M_namesGood_99 S hr hlk hK hA ih2 x1 x2 u_87 _ _ _ (lv_sub hl [0, 1, 2] rfl) hw h
    · have h := h.2 q_94
      refine lv_iconst (v := 0) S.1 S.2.1 d_M_namesGood_97 (by decide) ?_
      exact w_zret S hr hlk hK isB0 hw h d_M_namesGood_98
set_option maxHeartbeats 4000000 in
set_option maxRecDepth 20000 in
theorem wB_M_namesGood_54 (S : CallFix p m c b_M_namesGood 4 s args lw_tg R_Mod) (hr : meth.sig.returnType = some .boolean) (hlk : meth.locks = false) (hK : GK x s) (hA : ∀ q : Nat, s.heap.size ≤ q → A q) {Qc : Int32 → MS → Prop} {K2 : Int32 → Int32 → MS → Prop} (ih2 : ∀ (x1 : Int32) (x2 : Int32) (u : MS) (ls : Array Slot) (H : Heap) (locs : List Loc), lv_has ls 4 [(0, .ref (a 0)), (1, .int x1), (2, .int x2)] → wd x A s.heap ((mcl x a) u) H locs → K2 x1 x2 u → W p l e (rmN 1 0 0) s m args below meth c H locs 0 0 (MQ below (QcI x (mcl x a) A Qc) args s 0 0 A) (F0 m 2 ls [])) : ∀ (x1 : Int32) (x2 : Int32) (t0 : Int32) (u : MS) (ls : Array Slot) (H : Heap) (locs : List Loc), lv_has ls 4 [(0, .ref (a 0)), (1, .int x1), (2, .int x2)] → wd x A s.heap ((mcl x a) u) H locs → B_M_namesGood_54 Qc K2 x1 x2 t0 u → W p l e (rmN 1 0 0) s m args below meth c H locs 0 0 (MQ below (QcI x (mcl x a) A Qc) args s 0 0 A) (F0 m 54 ls [.int t0]) := by
  intro x1 x2 t0 u ls H locs hl hw h
  refine lv_istore_n (lv' := [(3, .int t0), (0, .ref (a 0)), (1, .int x1), (2, .int x2)]) S.1 S.2.1 d_M_namesGood_54 rfl hl (by decide) rfl (fun ls hl => ?_)
  refine lv_iload_n S.1 S.2.1 d_M_namesGood_55 rfl (lv_at hl 0 rfl) ?_
  refine lv_if_eq (tgt := 73) S.1 S.2.1 d_M_namesGood_56 (by decide) (fun q_56 => ?_) (fun q_56 => ?_)
  · have h := h.1 q_56
    exact wB_M_namesGood_73 S hr hlk hK hA ih2 x1 x2 u _ _ _ (lv_sub hl [1, 2, 3] rfl) hw h
  · have h := h.2 q_56
    refine lv_aload_n S.1 S.2.1 d_M_namesGood_59 rfl (lv_at hl 1 rfl) ?_
    refine lv_iload_n S.1 S.2.1 d_M_namesGood_60 rfl (lv_at hl 3 rfl) ?_
    refine lv_iconst (v := 2) S.1 S.2.1 d_M_namesGood_61 (by decide) ?_
    refine lv_iadd S.1 S.2.1 d_M_namesGood_62 ?_
    refine w_ci hA hw (w_rv (rest := []) S hK hw (c_M_c l (x2 + (2 : Int32)) u _ _ h) (ci := 0) (q0 := 0) rfl rfl (w_cb (fr := 0) (lv := 0) S.2.2.2.2 k_979 k_976 k_8 yd_M_c rfl rfl ⟨Nat.le_of_ble_eq_true rfl, Nat.le_of_ble_eq_true rfl⟩) k_978 s_36 rfl hl.1 rfl (Nat.le_of_ble_eq_true rfl) d_M_namesGood_63 ⟨Nat.le_refl _, Nat.le_refl _⟩) (fun r_63 u_63 H locs h hw => ?_)
    refine lv_bipush (v := 48) S.1 S.2.1 d_M_namesGood_66 (by decide) ?_
    refine lv_isub S.1 S.2.1 d_M_namesGood_68 ?_
    refine lv_iload_n S.1 S.2.1 d_M_namesGood_69 rfl (lv_at hl 2 rfl) ?_
    refine lv_icmp_gt (tgt := 97) S.1 S.2.1 d_M_namesGood_70 (by decide) (fun q_70 => ?_) (fun q_70 => ?_)
    · have h := h.1 q_70
      refine lv_iconst (v := 0) S.1 S.2.1 d_M_namesGood_97 (by decide) ?_
      exact w_zret S hr hlk hK isB0 hw h d_M_namesGood_98
    · have h := h.2 q_70
      exact wB_M_namesGood_73 S hr hlk hK hA ih2 x1 x2 u_63 _ _ _ (lv_sub hl [1, 2, 3] rfl) hw h
set_option maxHeartbeats 4000000 in
set_option maxRecDepth 20000 in
theorem wB_M_namesGood_53 (S : CallFix p m c b_M_namesGood 4 s args lw_tg R_Mod) (hr : meth.sig.returnType = some .boolean) (hlk : meth.locks = false) (hK : GK x s) (hA : ∀ q : Nat, s.heap.size ≤ q → A q) {Qc : Int32 → MS → Prop} {K2 : Int32 → Int32 → MS → Prop} (ih2 : ∀ (x1 : Int32) (x2 : Int32) (u : MS) (ls : Array Slot) (H : Heap) (locs : List Loc), lv_has ls 4 [(0, .ref (a 0)), (1, .int x1), (2, .int x2)] → wd x A s.heap ((mcl x a) u) H locs → K2 x1 x2 u → W p l e (rmN 1 0 0) s m args below meth c H locs 0 0 (MQ below (QcI x (mcl x a) A Qc) args s 0 0 A) (F0 m 2 ls [])) : ∀ (x1 : Int32) (x2 : Int32) (u : MS) (ls : Array Slot) (H : Heap) (locs : List Loc), lv_has ls 4 [(0, .ref (a 0)), (1, .int x1), (2, .int x2)] → wd x A s.heap ((mcl x a) u) H locs → B_M_namesGood_53 Qc K2 x1 x2 u → W p l e (rmN 1 0 0) s m args below meth c H locs 0 0 (MQ below (QcI x (mcl x a) A Qc) args s 0 0 A) (F0 m 53 ls []) := by
  intro x1 x2 u ls H locs hl hw h
  refine lv_iconst (v := 0) S.1 S.2.1 d_M_namesGood_53 (by decide) ?_
  exact wB_M_namesGood_54 S hr hlk hK hA ih2 x1 x2 (0 : Int32) u _ _ _ (lv_sub hl [0, 1, 2] rfl) hw h
set_option maxHeartbeats 4000000 in
set_option maxRecDepth 20000 in
theorem wL_M_namesGood_2 (S : CallFix p m c b_M_namesGood 4 s args lw_tg R_Mod) (hr : meth.sig.returnType = some .boolean) (hlk : meth.locks = false) (hK : GK x s) (hA : ∀ q : Nat, s.heap.size ≤ q → A q) {Qc : Int32 → MS → Prop} : ∀ (n : Nat) (x1 : Int32) (x2 : Int32) (u : MS) (ls : Array Slot) (H : Heap) (locs : List Loc), lv_has ls 4 [(0, .ref (a 0)), (1, .int x1), (2, .int x2)] → wd x A s.heap ((mcl x a) u) H locs → L_M_namesGood_2 Qc  n x1 x2 u → W p l e (rmN 1 0 0) s m args below meth c H locs 0 0 (MQ below (QcI x (mcl x a) A Qc) args s 0 0 A) (F0 m 2 ls []) := by
  intro n
  induction n with
  | zero =>
    intro x1 x2 u ls H locs hl hw h
    exact absurd h id
  | succ n ih =>
    intro x1 x2 u ls H locs hl hw h
    refine lv_iload_n S.1 S.2.1 d_M_namesGood_2 rfl (lv_at hl 2 rfl) ?_
    refine lv_aload_n S.1 S.2.1 d_M_namesGood_3 rfl (lv_at hl 0 rfl) ?_
    refine mg_drafted S hK hw d_M_namesGood_4 ?_
    refine lv_icmp_ge (tgt := 105) S.1 S.2.1 d_M_namesGood_7 (by decide) (fun q_7 => ?_) (fun q_7 => ?_)
    · have h := h.1 q_7
      refine lv_iload_n S.1 S.2.1 d_M_namesGood_105 rfl (lv_at hl 1 rfl) ?_
      refine lv_iconst (v := 4) S.1 S.2.1 d_M_namesGood_106 (by decide) ?_
      refine lv_icmp_gt (tgt := 114) S.1 S.2.1 d_M_namesGood_107 (by decide) (fun q_107 => ?_) (fun q_107 => ?_)
      · have h := h.1 q_107
        refine lv_iconst (v := 0) S.1 S.2.1 d_M_namesGood_114 (by decide) ?_
        exact w_zret S hr hlk hK isB0 hw h d_M_namesGood_115
      · have h := h.2 q_107
        refine lv_iconst (v := 1) S.1 S.2.1 d_M_namesGood_110 (by decide) ?_
        refine lv_goto (tgt := 115) S.1 S.2.1 d_M_namesGood_111 (by decide) ?_
        exact w_zret S hr hlk hK isB1 hw h d_M_namesGood_115
    · have h := h.2 q_7
      refine lv_aload_n S.1 S.2.1 d_M_namesGood_10 rfl (lv_at hl 0 rfl) ?_
      refine lv_iload_n S.1 S.2.1 d_M_namesGood_11 rfl (lv_at hl 2 rfl) ?_
      refine w_ci hA hw (w_rv (rest := []) S hK hw (c_M_c l x2 u _ _ h) (ci := 0) (q0 := 0) rfl rfl (w_cb (fr := 0) (lv := 0) S.2.2.2.2 k_979 k_976 k_8 yd_M_c rfl rfl ⟨Nat.le_of_ble_eq_true rfl, Nat.le_of_ble_eq_true rfl⟩) k_978 s_36 rfl hl.1 rfl (Nat.le_of_ble_eq_true rfl) d_M_namesGood_12 ⟨Nat.le_refl _, Nat.le_refl _⟩) (fun r_12 u_12 H locs h hw => ?_)
      refine lv_bipush (v := 40) S.1 S.2.1 d_M_namesGood_15 (by decide) ?_
      refine lv_icmp_ne (tgt := 53) S.1 S.2.1 d_M_namesGood_17 (by decide) (fun q_17 => ?_) (fun q_17 => ?_)
      · have h := h.2 q_17
        exact wB_M_namesGood_53 S hr hlk hK hA ih x1 x2 u_12 _ _ _ (lv_sub hl [0, 1, 2] rfl) hw h
      · have h := h.1 q_17
        refine lv_aload_n S.1 S.2.1 d_M_namesGood_20 rfl (lv_at hl 0 rfl) ?_
        refine lv_iload_n S.1 S.2.1 d_M_namesGood_21 rfl (lv_at hl 2 rfl) ?_
        refine lv_iconst (v := 1) S.1 S.2.1 d_M_namesGood_22 (by decide) ?_
        refine lv_iadd S.1 S.2.1 d_M_namesGood_23 ?_
        refine w_ci hA hw (w_rv (rest := []) S hK hw (c_M_c l (x2 + (1 : Int32)) u_12 _ _ h) (ci := 0) (q0 := 0) rfl rfl (w_cb (fr := 0) (lv := 0) S.2.2.2.2 k_979 k_976 k_8 yd_M_c rfl rfl ⟨Nat.le_of_ble_eq_true rfl, Nat.le_of_ble_eq_true rfl⟩) k_978 s_36 rfl hl.1 rfl (Nat.le_of_ble_eq_true rfl) d_M_namesGood_24 ⟨Nat.le_refl _, Nat.le_refl _⟩) (fun r_24 u_24 H locs h hw => ?_)
        refine lv_bipush (v := 63) S.1 S.2.1 d_M_namesGood_27 (by decide) ?_
        refine lv_icmp_ne (tgt := 53) S.1 S.2.1 d_M_namesGood_29 (by decide) (fun q_29 => ?_) (fun q_29 => ?_)
        · have h := h.2 q_29
          exact wB_M_namesGood_53 S hr hlk hK hA ih x1 x2 u_24 _ _ _ (lv_sub hl [0, 1, 2] rfl) hw h
        · have h := h.1 q_29
          refine lv_aload_n S.1 S.2.1 d_M_namesGood_32 rfl (lv_at hl 0 rfl) ?_
          refine lv_iload_n S.1 S.2.1 d_M_namesGood_33 rfl (lv_at hl 2 rfl) ?_
          refine lv_iconst (v := 2) S.1 S.2.1 d_M_namesGood_34 (by decide) ?_
          refine lv_iadd S.1 S.2.1 d_M_namesGood_35 ?_
          refine w_ci hA hw (w_rv (rest := []) S hK hw (c_M_c l (x2 + (2 : Int32)) u_24 _ _ h) (ci := 0) (q0 := 0) rfl rfl (w_cb (fr := 0) (lv := 0) S.2.2.2.2 k_979 k_976 k_8 yd_M_c rfl rfl ⟨Nat.le_of_ble_eq_true rfl, Nat.le_of_ble_eq_true rfl⟩) k_978 s_36 rfl hl.1 rfl (Nat.le_of_ble_eq_true rfl) d_M_namesGood_36 ⟨Nat.le_refl _, Nat.le_refl _⟩) (fun r_36 u_36 H locs h hw => ?_)
          refine lv_bipush (v := 48) S.1 S.2.1 d_M_namesGood_39 (by decide) ?_
          refine lv_bipush (v := 52) S.1 S.2.1 d_M_namesGood_41 (by decide) ?_
          refine w_cn (w_rs (rest := []) S (c_M_in l r_36 (48 : Int32) (52 : Int32) _ h) (w_cb (fr := 0) (lv := 0) S.2.2.2.2 k_960 k_958 k_8 yd_M_in rfl rfl ⟨Nat.le_of_ble_eq_true rfl, Nat.le_of_ble_eq_true rfl⟩) k_959 rfl hl.1 rfl (Nat.le_of_ble_eq_true rfl) d_M_namesGood_43 ⟨Nat.le_refl _, Nat.le_refl _⟩) (fun r_43 h => ?_)
          refine lv_if_eq (tgt := 53) S.1 S.2.1 d_M_namesGood_46 (by decide) (fun q_46 => ?_) (fun q_46 => ?_)
          · have h := h.1 q_46
            exact wB_M_namesGood_53 S hr hlk hK hA ih x1 x2 u_36 _ _ _ (lv_sub hl [0, 1, 2] rfl) hw h
          · have h := h.2 q_46
            refine lv_iconst (v := 1) S.1 S.2.1 d_M_namesGood_49 (by decide) ?_
            refine lv_goto (tgt := 54) S.1 S.2.1 d_M_namesGood_50 (by decide) ?_
            exact wB_M_namesGood_54 S hr hlk hK hA ih x1 x2 (1 : Int32) u_36 _ _ _ (lv_sub hl [0, 1, 2] rfl) hw h
set_option maxHeartbeats 4000000 in
set_option maxRecDepth 20000 in
theorem c_M_namesGood {x : GX} {a : Nat → Nat} (l : Launch) (x1 : Int32) (u : MS) (sz : Nat) (Qc : Int32 → MS → Prop) (h : P_M_namesGood x1 u Qc) : Met l y_M_namesGood (wM y_M_namesGood b_M_namesGood 4 (some .boolean)) (rmN 1 0 0) (PreC x (mcl x a) [.ref (a 0), .int x1] u sz) (QcI x (mcl x a) (va_A ((mcl x a) u) sz) Qc) 0 0 (va_A ((mcl x a) u) sz) := by
  refine w_enter (by decide +kernel) (Nat.le_of_ble_eq_true rfl) (fun p e s m args below meth c S hr hlk _ hK hA hw ls hl => ?_)
  have hl : lv_has ls 4 [(0, .ref (a 0)), (1, .int x1)] := hl
  refine lv_iconst (v := 0) S.1 S.2.1 d_M_namesGood_0 (by decide) ?_
  refine lv_istore_n (lv' := [(2, .int (0 : Int32)), (0, .ref (a 0)), (1, .int x1)]) S.1 S.2.1 d_M_namesGood_1 rfl hl (by decide) rfl (fun ls hl => ?_)
  obtain ⟨n9, h⟩ := h
  exact wL_M_namesGood_2 S hr hlk hK hA  n9 x1 (0 : Int32) u _ _ _ (lv_sub hl [1, 2, 0] rfl) hw h
end MW
