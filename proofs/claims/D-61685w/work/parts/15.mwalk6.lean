theorem d_M_capture_0 : decode b_M_capture 0 = .ok (.lload_n 1, 1) := by decide +kernel
theorem d_M_capture_1 : decode b_M_capture 1 = .ok (.bipush 12, 2) := by decide +kernel
theorem d_M_capture_3 : decode b_M_capture 3 = .ok (.iload_n 3, 1) := by decide +kernel
theorem d_M_capture_4 : decode b_M_capture 4 = .ok (.iconst 1, 1) := by decide +kernel
theorem d_M_capture_5 : decode b_M_capture 5 = .ok (.isub, 1) := by decide +kernel
theorem d_M_capture_6 : decode b_M_capture 6 = .ok (.imul, 1) := by decide +kernel
theorem d_M_capture_7 : decode b_M_capture 7 = .ok (.lshr, 1) := by decide +kernel
theorem d_M_capture_8 : decode b_M_capture 8 = .ok (.l2i, 1) := by decide +kernel
theorem d_M_capture_9 : decode b_M_capture 9 = .ok (.sipush 4095, 3) := by decide +kernel
theorem d_M_capture_12 : decode b_M_capture 12 = .ok (.iand, 1) := by decide +kernel
theorem d_M_capture_13 : decode b_M_capture 13 = .ok (.istore 5, 2) := by decide +kernel
theorem d_M_capture_15 : decode b_M_capture 15 = .ok (.iload 5, 2) := by decide +kernel
theorem d_M_capture_17 : decode b_M_capture 17 = .ok (.ifCond .ne 8, 3) := by decide +kernel
theorem d_M_capture_20 : decode b_M_capture 20 = .ok (.bipush (-6), 2) := by decide +kernel
theorem d_M_capture_22 : decode b_M_capture 22 = .ok (.goto 23, 3) := by decide +kernel
theorem d_M_capture_25 : decode b_M_capture 25 = .ok (.iload 4, 2) := by decide +kernel
theorem d_M_capture_27 : decode b_M_capture 27 = .ok (.ifCond .eq 11, 3) := by decide +kernel
theorem d_M_capture_30 : decode b_M_capture 30 = .ok (.iload 5, 2) := by decide +kernel
theorem d_M_capture_32 : decode b_M_capture 32 = .ok (.bipush 63, 2) := by decide +kernel
theorem d_M_capture_34 : decode b_M_capture 34 = .ok (.iand, 1) := by decide +kernel
theorem d_M_capture_35 : decode b_M_capture 35 = .ok (.goto 8, 3) := by decide +kernel
theorem d_M_capture_38 : decode b_M_capture 38 = .ok (.iload 5, 2) := by decide +kernel
theorem d_M_capture_40 : decode b_M_capture 40 = .ok (.bipush 6, 2) := by decide +kernel
theorem d_M_capture_42 : decode b_M_capture 42 = .ok (.ishr, 1) := by decide +kernel
theorem d_M_capture_43 : decode b_M_capture 43 = .ok (.iconst 1, 1) := by decide +kernel
theorem d_M_capture_44 : decode b_M_capture 44 = .ok (.isub, 1) := by decide +kernel
theorem d_M_capture_45 : decode b_M_capture 45 = .ok (.ireturn, 1) := by decide +kernel
theorem d_M_repeats_0 : decode b_M_repeats 0 = .ok (.aload_n 0, 1) := by decide +kernel
theorem d_M_repeats_1 : decode b_M_repeats 1 = .ok (.aload_n 0, 1) := by decide +kernel
theorem d_M_repeats_2 : decode b_M_repeats 2 = .ok (.getfield 123, 3) := by decide +kernel
theorem d_M_repeats_5 : decode b_M_repeats 5 = .ok (.iload_n 1, 1) := by decide +kernel
theorem d_M_repeats_6 : decode b_M_repeats 6 = .ok (.iconst 0, 1) := by decide +kernel
theorem d_M_repeats_7 : decode b_M_repeats 7 = .ok (.invokevirtual 142, 3) := by decide +kernel
theorem d_M_repeats_10 : decode b_M_repeats 10 = .ok (.istore_n 2, 1) := by decide +kernel
theorem d_M_repeats_11 : decode b_M_repeats 11 = .ok (.aload_n 0, 1) := by decide +kernel
theorem d_M_repeats_12 : decode b_M_repeats 12 = .ok (.aload_n 0, 1) := by decide +kernel
theorem d_M_repeats_13 : decode b_M_repeats 13 = .ok (.getfield 123, 3) := by decide +kernel
theorem d_M_repeats_16 : decode b_M_repeats 16 = .ok (.iload_n 1, 1) := by decide +kernel
theorem d_M_repeats_17 : decode b_M_repeats 17 = .ok (.iconst 1, 1) := by decide +kernel
theorem d_M_repeats_18 : decode b_M_repeats 18 = .ok (.invokevirtual 142, 3) := by decide +kernel
theorem d_M_repeats_21 : decode b_M_repeats 21 = .ok (.iload_n 2, 1) := by decide +kernel
theorem d_M_repeats_22 : decode b_M_repeats 22 = .ok (.isub, 1) := by decide +kernel
theorem d_M_repeats_23 : decode b_M_repeats 23 = .ok (.istore_n 3, 1) := by decide +kernel
theorem d_M_repeats_24 : decode b_M_repeats 24 = .ok (.iload_n 2, 1) := by decide +kernel
theorem d_M_repeats_25 : decode b_M_repeats 25 = .ok (.bipush (-6), 2) := by decide +kernel
theorem d_M_repeats_27 : decode b_M_repeats 27 = .ok (.if_icmp .eq 16, 3) := by decide +kernel
theorem d_M_repeats_30 : decode b_M_repeats 30 = .ok (.aload_n 0, 1) := by decide +kernel
theorem d_M_repeats_31 : decode b_M_repeats 31 = .ok (.getfield 120, 3) := by decide +kernel
theorem d_M_repeats_34 : decode b_M_repeats 34 = .ok (.iload_n 3, 1) := by decide +kernel
theorem d_M_repeats_35 : decode b_M_repeats 35 = .ok (.iadd, 1) := by decide +kernel
theorem d_M_repeats_36 : decode b_M_repeats 36 = .ok (.aload_n 0, 1) := by decide +kernel
theorem d_M_repeats_37 : decode b_M_repeats 37 = .ok (.getfield 99, 3) := by decide +kernel
theorem d_M_repeats_40 : decode b_M_repeats 40 = .ok (.if_icmp .le 5, 3) := by decide +kernel
theorem d_M_repeats_43 : decode b_M_repeats 43 = .ok (.iconst 0, 1) := by decide +kernel
theorem d_M_repeats_44 : decode b_M_repeats 44 = .ok (.ireturn, 1) := by decide +kernel
theorem d_M_repeats_45 : decode b_M_repeats 45 = .ok (.iconst 0, 1) := by decide +kernel
theorem d_M_repeats_46 : decode b_M_repeats 46 = .ok (.istore 4, 2) := by decide +kernel
theorem d_M_repeats_48 : decode b_M_repeats 48 = .ok (.iload 4, 2) := by decide +kernel
theorem d_M_repeats_50 : decode b_M_repeats 50 = .ok (.iload_n 3, 1) := by decide +kernel
theorem d_M_repeats_51 : decode b_M_repeats 51 = .ok (.if_icmp .ge 35, 3) := by decide +kernel
theorem d_M_repeats_54 : decode b_M_repeats 54 = .ok (.aload_n 0, 1) := by decide +kernel
theorem d_M_repeats_55 : decode b_M_repeats 55 = .ok (.getfield 16, 3) := by decide +kernel
theorem d_M_repeats_58 : decode b_M_repeats 58 = .ok (.iload_n 2, 1) := by decide +kernel
theorem d_M_repeats_59 : decode b_M_repeats 59 = .ok (.iload 4, 2) := by decide +kernel
theorem d_M_repeats_61 : decode b_M_repeats 61 = .ok (.iadd, 1) := by decide +kernel
theorem d_M_repeats_62 : decode b_M_repeats 62 = .ok (.iaload, 1) := by decide +kernel
theorem d_M_repeats_63 : decode b_M_repeats 63 = .ok (.aload_n 0, 1) := by decide +kernel
theorem d_M_repeats_64 : decode b_M_repeats 64 = .ok (.getfield 16, 3) := by decide +kernel
theorem d_M_repeats_67 : decode b_M_repeats 67 = .ok (.aload_n 0, 1) := by decide +kernel
theorem d_M_repeats_68 : decode b_M_repeats 68 = .ok (.getfield 120, 3) := by decide +kernel
theorem d_M_repeats_71 : decode b_M_repeats 71 = .ok (.iload 4, 2) := by decide +kernel
theorem d_M_repeats_73 : decode b_M_repeats 73 = .ok (.iadd, 1) := by decide +kernel
theorem d_M_repeats_74 : decode b_M_repeats 74 = .ok (.iaload, 1) := by decide +kernel
theorem d_M_repeats_75 : decode b_M_repeats 75 = .ok (.if_icmp .eq 5, 3) := by decide +kernel
theorem d_M_repeats_78 : decode b_M_repeats 78 = .ok (.iconst 0, 1) := by decide +kernel
theorem d_M_repeats_79 : decode b_M_repeats 79 = .ok (.ireturn, 1) := by decide +kernel
theorem d_M_repeats_80 : decode b_M_repeats 80 = .ok (.iinc 4 1, 3) := by decide +kernel
theorem d_M_repeats_83 : decode b_M_repeats 83 = .ok (.goto (-35), 3) := by decide +kernel
theorem d_M_repeats_86 : decode b_M_repeats 86 = .ok (.aload_n 0, 1) := by decide +kernel
theorem d_M_repeats_87 : decode b_M_repeats 87 = .ok (.dup, 1) := by decide +kernel
theorem d_M_repeats_88 : decode b_M_repeats 88 = .ok (.getfield 120, 3) := by decide +kernel
theorem d_M_repeats_91 : decode b_M_repeats 91 = .ok (.iload_n 3, 1) := by decide +kernel
theorem d_M_repeats_92 : decode b_M_repeats 92 = .ok (.iadd, 1) := by decide +kernel
theorem d_M_repeats_93 : decode b_M_repeats 93 = .ok (.putfield 120, 3) := by decide +kernel
theorem d_M_repeats_96 : decode b_M_repeats 96 = .ok (.iconst 1, 1) := by decide +kernel
theorem d_M_repeats_97 : decode b_M_repeats 97 = .ok (.ireturn, 1) := by decide +kernel
theorem d_M_inClass_0 : decode b_M_inClass 0 = .ok (.aload_n 0, 1) := by decide +kernel
theorem d_M_inClass_1 : decode b_M_inClass 1 = .ok (.iload_n 1, 1) := by decide +kernel
theorem d_M_inClass_2 : decode b_M_inClass 2 = .ok (.iconst 1, 1) := by decide +kernel
theorem d_M_inClass_3 : decode b_M_inClass 3 = .ok (.iadd, 1) := by decide +kernel
theorem d_M_inClass_4 : decode b_M_inClass 4 = .ok (.invokevirtual 102, 3) := by decide +kernel
theorem d_M_inClass_7 : decode b_M_inClass 7 = .ok (.bipush 94, 2) := by decide +kernel
theorem d_M_inClass_9 : decode b_M_inClass 9 = .ok (.if_icmp .ne 7, 3) := by decide +kernel
theorem d_M_inClass_12 : decode b_M_inClass 12 = .ok (.iconst 1, 1) := by decide +kernel
theorem d_M_inClass_13 : decode b_M_inClass 13 = .ok (.goto 4, 3) := by decide +kernel
theorem d_M_inClass_16 : decode b_M_inClass 16 = .ok (.iconst 0, 1) := by decide +kernel
theorem d_M_inClass_17 : decode b_M_inClass 17 = .ok (.istore_n 3, 1) := by decide +kernel
theorem d_M_inClass_18 : decode b_M_inClass 18 = .ok (.iconst 0, 1) := by decide +kernel
theorem d_M_inClass_19 : decode b_M_inClass 19 = .ok (.istore 4, 2) := by decide +kernel
theorem d_M_inClass_21 : decode b_M_inClass 21 = .ok (.iload_n 3, 1) := by decide +kernel
theorem d_M_inClass_22 : decode b_M_inClass 22 = .ok (.ifCond .eq 9, 3) := by decide +kernel
theorem d_M_inClass_25 : decode b_M_inClass 25 = .ok (.iload_n 1, 1) := by decide +kernel
theorem d_M_inClass_26 : decode b_M_inClass 26 = .ok (.iconst 2, 1) := by decide +kernel
theorem d_M_inClass_27 : decode b_M_inClass 27 = .ok (.iadd, 1) := by decide +kernel
theorem d_M_inClass_28 : decode b_M_inClass 28 = .ok (.goto 6, 3) := by decide +kernel
theorem d_M_inClass_31 : decode b_M_inClass 31 = .ok (.iload_n 1, 1) := by decide +kernel
theorem d_M_inClass_32 : decode b_M_inClass 32 = .ok (.iconst 1, 1) := by decide +kernel
theorem d_M_inClass_33 : decode b_M_inClass 33 = .ok (.iadd, 1) := by decide +kernel
theorem d_M_inClass_34 : decode b_M_inClass 34 = .ok (.istore 5, 2) := by decide +kernel
theorem d_M_inClass_36 : decode b_M_inClass 36 = .ok (.aload_n 0, 1) := by decide +kernel
theorem d_M_inClass_37 : decode b_M_inClass 37 = .ok (.iload 5, 2) := by decide +kernel
theorem d_M_inClass_39 : decode b_M_inClass 39 = .ok (.invokevirtual 102, 3) := by decide +kernel
theorem d_M_inClass_42 : decode b_M_inClass 42 = .ok (.bipush 93, 2) := by decide +kernel
theorem d_M_inClass_44 : decode b_M_inClass 44 = .ok (.if_icmp .eq 89, 3) := by decide +kernel
theorem d_M_inClass_47 : decode b_M_inClass 47 = .ok (.iload 5, 2) := by decide +kernel
theorem d_M_inClass_49 : decode b_M_inClass 49 = .ok (.aload_n 0, 1) := by decide +kernel
theorem d_M_inClass_50 : decode b_M_inClass 50 = .ok (.getfield 87, 3) := by decide +kernel
theorem d_M_inClass_53 : decode b_M_inClass 53 = .ok (.if_icmp .ge 80, 3) := by decide +kernel
theorem d_M_inClass_56 : decode b_M_inClass 56 = .ok (.aload_n 0, 1) := by decide +kernel
theorem d_M_inClass_57 : decode b_M_inClass 57 = .ok (.iload 5, 2) := by decide +kernel
theorem d_M_inClass_59 : decode b_M_inClass 59 = .ok (.iconst 1, 1) := by decide +kernel
theorem d_M_inClass_60 : decode b_M_inClass 60 = .ok (.iadd, 1) := by decide +kernel
theorem d_M_inClass_61 : decode b_M_inClass 61 = .ok (.invokevirtual 102, 3) := by decide +kernel
theorem d_M_inClass_64 : decode b_M_inClass 64 = .ok (.bipush 45, 2) := by decide +kernel
theorem d_M_inClass_66 : decode b_M_inClass 66 = .ok (.if_icmp .ne 41, 3) := by decide +kernel
theorem d_M_inClass_69 : decode b_M_inClass 69 = .ok (.iload 4, 2) := by decide +kernel
theorem d_M_inClass_71 : decode b_M_inClass 71 = .ok (.iload_n 2, 1) := by decide +kernel
theorem d_M_inClass_72 : decode b_M_inClass 72 = .ok (.aload_n 0, 1) := by decide +kernel
theorem d_M_inClass_73 : decode b_M_inClass 73 = .ok (.iload 5, 2) := by decide +kernel
theorem d_M_inClass_75 : decode b_M_inClass 75 = .ok (.invokevirtual 102, 3) := by decide +kernel
theorem d_M_inClass_78 : decode b_M_inClass 78 = .ok (.if_icmp .lt 19, 3) := by decide +kernel
theorem d_M_inClass_81 : decode b_M_inClass 81 = .ok (.iload_n 2, 1) := by decide +kernel
theorem d_M_inClass_82 : decode b_M_inClass 82 = .ok (.aload_n 0, 1) := by decide +kernel
theorem d_M_inClass_83 : decode b_M_inClass 83 = .ok (.iload 5, 2) := by decide +kernel
theorem d_M_inClass_85 : decode b_M_inClass 85 = .ok (.iconst 2, 1) := by decide +kernel
theorem d_M_inClass_86 : decode b_M_inClass 86 = .ok (.iadd, 1) := by decide +kernel
theorem d_M_inClass_87 : decode b_M_inClass 87 = .ok (.invokevirtual 102, 3) := by decide +kernel
theorem d_M_inClass_90 : decode b_M_inClass 90 = .ok (.if_icmp .gt 7, 3) := by decide +kernel
theorem d_M_inClass_93 : decode b_M_inClass 93 = .ok (.iconst 1, 1) := by decide +kernel
theorem d_M_inClass_94 : decode b_M_inClass 94 = .ok (.goto 4, 3) := by decide +kernel
theorem d_M_inClass_97 : decode b_M_inClass 97 = .ok (.iconst 0, 1) := by decide +kernel
theorem d_M_inClass_98 : decode b_M_inClass 98 = .ok (.ior, 1) := by decide +kernel
theorem d_M_inClass_99 : decode b_M_inClass 99 = .ok (.istore 4, 2) := by decide +kernel
theorem d_M_inClass_101 : decode b_M_inClass 101 = .ok (.iinc 5 2, 3) := by decide +kernel
theorem d_M_inClass_104 : decode b_M_inClass 104 = .ok (.goto 23, 3) := by decide +kernel
theorem d_M_inClass_107 : decode b_M_inClass 107 = .ok (.iload 4, 2) := by decide +kernel
theorem d_M_inClass_109 : decode b_M_inClass 109 = .ok (.iload_n 2, 1) := by decide +kernel
theorem d_M_inClass_110 : decode b_M_inClass 110 = .ok (.aload_n 0, 1) := by decide +kernel
theorem d_M_inClass_111 : decode b_M_inClass 111 = .ok (.iload 5, 2) := by decide +kernel
theorem d_M_inClass_113 : decode b_M_inClass 113 = .ok (.invokevirtual 102, 3) := by decide +kernel
theorem d_M_inClass_116 : decode b_M_inClass 116 = .ok (.if_icmp .ne 7, 3) := by decide +kernel
theorem d_M_inClass_119 : decode b_M_inClass 119 = .ok (.iconst 1, 1) := by decide +kernel
theorem d_M_inClass_120 : decode b_M_inClass 120 = .ok (.goto 4, 3) := by decide +kernel
theorem d_M_inClass_123 : decode b_M_inClass 123 = .ok (.iconst 0, 1) := by decide +kernel
theorem d_M_inClass_124 : decode b_M_inClass 124 = .ok (.ior, 1) := by decide +kernel
theorem d_M_inClass_125 : decode b_M_inClass 125 = .ok (.istore 4, 2) := by decide +kernel
theorem d_M_inClass_127 : decode b_M_inClass 127 = .ok (.iinc 5 1, 3) := by decide +kernel
theorem d_M_inClass_130 : decode b_M_inClass 130 = .ok (.goto (-94), 3) := by decide +kernel
theorem d_M_inClass_133 : decode b_M_inClass 133 = .ok (.iload 4, 2) := by decide +kernel
theorem d_M_inClass_135 : decode b_M_inClass 135 = .ok (.iload_n 3, 1) := by decide +kernel
theorem d_M_inClass_136 : decode b_M_inClass 136 = .ok (.if_icmp .eq 7, 3) := by decide +kernel
theorem d_M_inClass_139 : decode b_M_inClass 139 = .ok (.iconst 1, 1) := by decide +kernel
theorem d_M_inClass_140 : decode b_M_inClass 140 = .ok (.goto 4, 3) := by decide +kernel
theorem d_M_inClass_143 : decode b_M_inClass 143 = .ok (.iconst 0, 1) := by decide +kernel
theorem d_M_inClass_144 : decode b_M_inClass 144 = .ok (.ireturn, 1) := by decide +kernel
theorem d_M_takesLetter_0 : decode b_M_takesLetter 0 = .ok (.aload_n 0, 1) := by decide +kernel
theorem d_M_takesLetter_1 : decode b_M_takesLetter 1 = .ok (.getfield 120, 3) := by decide +kernel
theorem d_M_takesLetter_4 : decode b_M_takesLetter 4 = .ok (.aload_n 0, 1) := by decide +kernel
theorem d_M_takesLetter_5 : decode b_M_takesLetter 5 = .ok (.getfield 99, 3) := by decide +kernel
theorem d_M_takesLetter_8 : decode b_M_takesLetter 8 = .ok (.if_icmp .lt 5, 3) := by decide +kernel
theorem d_M_takesLetter_11 : decode b_M_takesLetter 11 = .ok (.iconst 0, 1) := by decide +kernel
theorem d_M_takesLetter_12 : decode b_M_takesLetter 12 = .ok (.ireturn, 1) := by decide +kernel
theorem d_M_takesLetter_13 : decode b_M_takesLetter 13 = .ok (.aload_n 0, 1) := by decide +kernel
theorem d_M_takesLetter_14 : decode b_M_takesLetter 14 = .ok (.getfield 16, 3) := by decide +kernel
theorem d_M_takesLetter_17 : decode b_M_takesLetter 17 = .ok (.aload_n 0, 1) := by decide +kernel
theorem d_M_takesLetter_18 : decode b_M_takesLetter 18 = .ok (.getfield 120, 3) := by decide +kernel
theorem d_M_takesLetter_21 : decode b_M_takesLetter 21 = .ok (.iaload, 1) := by decide +kernel
theorem d_M_takesLetter_22 : decode b_M_takesLetter 22 = .ok (.istore_n 2, 1) := by decide +kernel
theorem d_M_takesLetter_23 : decode b_M_takesLetter 23 = .ok (.aload_n 0, 1) := by decide +kernel
theorem d_M_takesLetter_24 : decode b_M_takesLetter 24 = .ok (.iload_n 1, 1) := by decide +kernel
theorem d_M_takesLetter_25 : decode b_M_takesLetter 25 = .ok (.invokevirtual 102, 3) := by decide +kernel
theorem d_M_takesLetter_28 : decode b_M_takesLetter 28 = .ok (.bipush 46, 2) := by decide +kernel
theorem d_M_takesLetter_30 : decode b_M_takesLetter 30 = .ok (.if_icmp .eq 34, 3) := by decide +kernel
theorem d_M_takesLetter_33 : decode b_M_takesLetter 33 = .ok (.aload_n 0, 1) := by decide +kernel
theorem d_M_takesLetter_34 : decode b_M_takesLetter 34 = .ok (.iload_n 1, 1) := by decide +kernel
theorem d_M_takesLetter_35 : decode b_M_takesLetter 35 = .ok (.invokevirtual 102, 3) := by decide +kernel
theorem d_M_takesLetter_38 : decode b_M_takesLetter 38 = .ok (.bipush 91, 2) := by decide +kernel
theorem d_M_takesLetter_40 : decode b_M_takesLetter 40 = .ok (.if_icmp .ne 15, 3) := by decide +kernel
theorem d_M_takesLetter_43 : decode b_M_takesLetter 43 = .ok (.aload_n 0, 1) := by decide +kernel
theorem d_M_takesLetter_44 : decode b_M_takesLetter 44 = .ok (.iload_n 1, 1) := by decide +kernel
theorem d_M_takesLetter_45 : decode b_M_takesLetter 45 = .ok (.iload_n 2, 1) := by decide +kernel
theorem d_M_takesLetter_46 : decode b_M_takesLetter 46 = .ok (.invokevirtual 146, 3) := by decide +kernel
theorem d_M_takesLetter_49 : decode b_M_takesLetter 49 = .ok (.ifCond .eq 19, 3) := by decide +kernel
theorem d_M_takesLetter_52 : decode b_M_takesLetter 52 = .ok (.goto 12, 3) := by decide +kernel
theorem d_M_takesLetter_55 : decode b_M_takesLetter 55 = .ok (.aload_n 0, 1) := by decide +kernel
theorem d_M_takesLetter_56 : decode b_M_takesLetter 56 = .ok (.iload_n 1, 1) := by decide +kernel
theorem d_M_takesLetter_57 : decode b_M_takesLetter 57 = .ok (.invokevirtual 102, 3) := by decide +kernel
theorem d_M_takesLetter_60 : decode b_M_takesLetter 60 = .ok (.iload_n 2, 1) := by decide +kernel
theorem d_M_takesLetter_61 : decode b_M_takesLetter 61 = .ok (.if_icmp .ne 7, 3) := by decide +kernel
theorem d_M_takesLetter_64 : decode b_M_takesLetter 64 = .ok (.iconst 1, 1) := by decide +kernel
theorem d_M_takesLetter_65 : decode b_M_takesLetter 65 = .ok (.goto 4, 3) := by decide +kernel
theorem d_M_takesLetter_68 : decode b_M_takesLetter 68 = .ok (.iconst 0, 1) := by decide +kernel
theorem d_M_takesLetter_69 : decode b_M_takesLetter 69 = .ok (.istore_n 3, 1) := by decide +kernel
theorem d_M_takesLetter_70 : decode b_M_takesLetter 70 = .ok (.iload_n 3, 1) := by decide +kernel
theorem d_M_takesLetter_71 : decode b_M_takesLetter 71 = .ok (.ifCond .eq 13, 3) := by decide +kernel
theorem d_M_takesLetter_74 : decode b_M_takesLetter 74 = .ok (.aload_n 0, 1) := by decide +kernel
theorem d_M_takesLetter_75 : decode b_M_takesLetter 75 = .ok (.dup, 1) := by decide +kernel
theorem d_M_takesLetter_76 : decode b_M_takesLetter 76 = .ok (.getfield 120, 3) := by decide +kernel
theorem d_M_takesLetter_79 : decode b_M_takesLetter 79 = .ok (.iconst 1, 1) := by decide +kernel
theorem d_M_takesLetter_80 : decode b_M_takesLetter 80 = .ok (.iadd, 1) := by decide +kernel
theorem d_M_takesLetter_81 : decode b_M_takesLetter 81 = .ok (.putfield 120, 3) := by decide +kernel
theorem d_M_takesLetter_84 : decode b_M_takesLetter 84 = .ok (.iload_n 3, 1) := by decide +kernel
theorem d_M_takesLetter_85 : decode b_M_takesLetter 85 = .ok (.ireturn, 1) := by decide +kernel
theorem d_M_plain_0 : decode b_M_plain 0 = .ok (.aload_n 0, 1) := by decide +kernel
theorem d_M_plain_1 : decode b_M_plain 1 = .ok (.iload_n 1, 1) := by decide +kernel
theorem d_M_plain_2 : decode b_M_plain 2 = .ok (.invokevirtual 102, 3) := by decide +kernel
theorem d_M_plain_5 : decode b_M_plain 5 = .ok (.bipush 94, 2) := by decide +kernel
theorem d_M_plain_7 : decode b_M_plain 7 = .ok (.if_icmp .ne 16, 3) := by decide +kernel
theorem d_M_plain_10 : decode b_M_plain 10 = .ok (.aload_n 0, 1) := by decide +kernel
theorem d_M_plain_11 : decode b_M_plain 11 = .ok (.getfield 120, 3) := by decide +kernel
theorem d_M_plain_14 : decode b_M_plain 14 = .ok (.ifCond .ne 7, 3) := by decide +kernel
theorem d_M_plain_17 : decode b_M_plain 17 = .ok (.iconst 1, 1) := by decide +kernel
theorem d_M_plain_18 : decode b_M_plain 18 = .ok (.goto 4, 3) := by decide +kernel
theorem d_M_plain_21 : decode b_M_plain 21 = .ok (.iconst 0, 1) := by decide +kernel
theorem d_M_plain_22 : decode b_M_plain 22 = .ok (.ireturn, 1) := by decide +kernel
theorem d_M_plain_23 : decode b_M_plain 23 = .ok (.aload_n 0, 1) := by decide +kernel
theorem d_M_plain_24 : decode b_M_plain 24 = .ok (.iload_n 1, 1) := by decide +kernel
theorem d_M_plain_25 : decode b_M_plain 25 = .ok (.invokevirtual 102, 3) := by decide +kernel
theorem d_M_plain_28 : decode b_M_plain 28 = .ok (.bipush 36, 2) := by decide +kernel
theorem d_M_plain_30 : decode b_M_plain 30 = .ok (.if_icmp .ne 20, 3) := by decide +kernel
theorem d_M_plain_33 : decode b_M_plain 33 = .ok (.aload_n 0, 1) := by decide +kernel
theorem d_M_plain_34 : decode b_M_plain 34 = .ok (.getfield 120, 3) := by decide +kernel
theorem d_M_plain_37 : decode b_M_plain 37 = .ok (.aload_n 0, 1) := by decide +kernel
theorem d_M_plain_38 : decode b_M_plain 38 = .ok (.getfield 99, 3) := by decide +kernel
theorem d_M_plain_41 : decode b_M_plain 41 = .ok (.if_icmp .ne 7, 3) := by decide +kernel
theorem d_M_plain_44 : decode b_M_plain 44 = .ok (.iconst 1, 1) := by decide +kernel
theorem d_M_plain_45 : decode b_M_plain 45 = .ok (.goto 4, 3) := by decide +kernel
theorem d_M_plain_48 : decode b_M_plain 48 = .ok (.iconst 0, 1) := by decide +kernel
theorem d_M_plain_49 : decode b_M_plain 49 = .ok (.ireturn, 1) := by decide +kernel
theorem d_M_plain_50 : decode b_M_plain 50 = .ok (.aload_n 0, 1) := by decide +kernel
theorem d_M_plain_51 : decode b_M_plain 51 = .ok (.iload_n 1, 1) := by decide +kernel
theorem d_M_plain_52 : decode b_M_plain 52 = .ok (.invokevirtual 102, 3) := by decide +kernel
theorem d_M_plain_55 : decode b_M_plain 55 = .ok (.bipush 92, 2) := by decide +kernel
theorem d_M_plain_57 : decode b_M_plain 57 = .ok (.if_icmp .ne 20, 3) := by decide +kernel
theorem d_M_plain_60 : decode b_M_plain 60 = .ok (.aload_n 0, 1) := by decide +kernel
theorem d_M_plain_61 : decode b_M_plain 61 = .ok (.aload_n 0, 1) := by decide +kernel
theorem d_M_plain_62 : decode b_M_plain 62 = .ok (.iload_n 1, 1) := by decide +kernel
theorem d_M_plain_63 : decode b_M_plain 63 = .ok (.iconst 1, 1) := by decide +kernel
theorem d_M_plain_64 : decode b_M_plain 64 = .ok (.iadd, 1) := by decide +kernel
theorem d_M_plain_65 : decode b_M_plain 65 = .ok (.invokevirtual 102, 3) := by decide +kernel
theorem d_M_plain_68 : decode b_M_plain 68 = .ok (.bipush 48, 2) := by decide +kernel
theorem d_M_plain_70 : decode b_M_plain 70 = .ok (.isub, 1) := by decide +kernel
theorem d_M_plain_71 : decode b_M_plain 71 = .ok (.invokevirtual 150, 3) := by decide +kernel
theorem d_M_plain_74 : decode b_M_plain 74 = .ok (.goto 8, 3) := by decide +kernel
theorem d_M_plain_77 : decode b_M_plain 77 = .ok (.aload_n 0, 1) := by decide +kernel
theorem d_M_plain_78 : decode b_M_plain 78 = .ok (.iload_n 1, 1) := by decide +kernel
theorem d_M_plain_79 : decode b_M_plain 79 = .ok (.invokevirtual 153, 3) := by decide +kernel
theorem d_M_plain_82 : decode b_M_plain 82 = .ok (.ireturn, 1) := by decide +kernel
section MW
variable {p : Program} {l : Launch} {e : Env} {s : State} {m : MethodId} {args : Array Value} {below : List Frame} {meth : Method} {c : Code} {x : GX} {a : Nat → Nat} {A : Nat → Prop}
set_option maxHeartbeats 4000000 in
set_option maxRecDepth 20000 in
theorem c_M_capture {x : GX} {a : Nat → Nat} (l : Launch) (x1 : Int64) (x3 : Int32) (x4 : Int32) (u : MS) (sz : Nat) (Qc : Int32 → MS → Prop) (h : P_M_capture x1 x3 x4 u Qc) : Met l y_M_capture (wM y_M_capture b_M_capture 6 (some .int)) (rmN 0 0 0) (PreC x (mcl x a) [.ref (a 0), .long x1, .int x3, .int x4] u sz) (QcI x (mcl x a) (va_A ((mcl x a) u) sz) Qc) 0 0 (va_A ((mcl x a) u) sz) := by
  refine w_enter (by decide +kernel) (Nat.le_of_ble_eq_true rfl) (fun p e s m args below meth c S hr hlk _ hK hA hw ls hl => ?_)
  have hl : lv_has ls 6 [(0, .ref (a 0)), (1, .long x1), (3, .int x3), (4, .int x4)] := hl
  refine lv_lload_n S.1 S.2.1 d_M_capture_0 rfl (lv_at hl 1 rfl) ?_
  refine lv_bipush (v := 12) S.1 S.2.1 d_M_capture_1 (by decide) ?_
  refine lv_iload_n S.1 S.2.1 d_M_capture_3 rfl (lv_at hl 2 rfl) ?_
  refine lv_iconst (v := 1) S.1 S.2.1 d_M_capture_4 (by decide) ?_
  refine lv_isub S.1 S.2.1 d_M_capture_5 ?_
  refine lv_imul S.1 S.2.1 d_M_capture_6 ?_
  refine lv_lshr S.1 S.2.1 d_M_capture_7 rfl ?_
  refine lv_l2i S.1 S.2.1 d_M_capture_8 rfl ?_
  refine lv_sipush (v := 4095) S.1 S.2.1 d_M_capture_9 (by decide) ?_
  refine lv_iand S.1 S.2.1 d_M_capture_12 ?_
  refine lv_topi (fun x5_13 ex5_13 => ?_)
  have h := h x5_13 ex5_13
  refine lv_istore (lv' := [(5, .int x5_13), (0, .ref (a 0)), (1, .long x1), (3, .int x3), (4, .int x4)]) S.1 S.2.1 d_M_capture_13 hl (by decide) rfl (fun ls hl => ?_)
  refine lv_iload S.1 S.2.1 d_M_capture_15 (lv_at hl 0 rfl) ?_
  refine lv_if_ne (tgt := 25) S.1 S.2.1 d_M_capture_17 (by decide) (fun q_17 => ?_) (fun q_17 => ?_)
  · have h := h.2 q_17
    refine lv_iload S.1 S.2.1 d_M_capture_25 (lv_at hl 4 rfl) ?_
    refine lv_if_eq (tgt := 38) S.1 S.2.1 d_M_capture_27 (by decide) (fun q_27 => ?_) (fun q_27 => ?_)
    · have h := h.1 q_27
      refine lv_iload S.1 S.2.1 d_M_capture_38 (lv_at hl 0 rfl) ?_
      refine lv_bipush (v := 6) S.1 S.2.1 d_M_capture_40 (by decide) ?_
      refine lv_ishr S.1 S.2.1 d_M_capture_42 ?_
      refine lv_iconst (v := 1) S.1 S.2.1 d_M_capture_43 (by decide) ?_
      refine lv_isub S.1 S.2.1 d_M_capture_44 ?_
      exact w_iret S hr hlk hK hw h d_M_capture_45
    · have h := h.2 q_27
      refine lv_iload S.1 S.2.1 d_M_capture_30 (lv_at hl 0 rfl) ?_
      refine lv_bipush (v := 63) S.1 S.2.1 d_M_capture_32 (by decide) ?_
      refine lv_iand S.1 S.2.1 d_M_capture_34 ?_
      refine lv_goto (tgt := 43) S.1 S.2.1 d_M_capture_35 (by decide) ?_
      refine lv_iconst (v := 1) S.1 S.2.1 d_M_capture_43 (by decide) ?_
      refine lv_isub S.1 S.2.1 d_M_capture_44 ?_
      exact w_iret S hr hlk hK hw h d_M_capture_45
  · have h := h.1 q_17
    refine lv_bipush (v := -6) S.1 S.2.1 d_M_capture_20 (by decide) ?_
    refine lv_goto (tgt := 45) S.1 S.2.1 d_M_capture_22 (by decide) ?_
    exact w_iret S hr hlk hK hw h d_M_capture_45
set_option maxHeartbeats 4000000 in
set_option maxRecDepth 20000 in
theorem wL_M_repeats_48 (S : CallFix p m c b_M_repeats 5 s args lw_tg R_Mod) (hr : meth.sig.returnType = some .boolean) (hlk : meth.locks = false) (hK : GK x s) (hA : ∀ q : Nat, s.heap.size ≤ q → A q) {Qc : Int32 → MS → Prop} : ∀ (n : Nat) (x2 : Int32) (x3 : Int32) (x4 : Int32) (u : MS) (ls : Array Slot) (H : Heap) (locs : List Loc), lv_has ls 5 [(0, .ref (a 0)), (2, .int x2), (3, .int x3), (4, .int x4)] → wd x A s.heap ((mcl x a) u) H locs → L_M_repeats_48 Qc  n x2 x3 x4 u → W p l e (rmN 1 0 0) s m args below meth c H locs 0 0 (MQ below (QcI x (mcl x a) A Qc) args s 0 0 A) (F0 m 48 ls []) := by
  intro n
  induction n with
  | zero =>
    intro x2 x3 x4 u ls H locs hl hw h
    exact absurd h id
  | succ n ih =>
    intro x2 x3 x4 u ls H locs hl hw h
    refine lv_iload S.1 S.2.1 d_M_repeats_48 (lv_at hl 3 rfl) ?_
    refine lv_iload_n S.1 S.2.1 d_M_repeats_50 rfl (lv_at hl 2 rfl) ?_
    refine lv_icmp_ge (tgt := 86) S.1 S.2.1 d_M_repeats_51 (by decide) (fun q_51 => ?_) (fun q_51 => ?_)
    · have h := h.1 q_51
      refine lv_aload_n S.1 S.2.1 d_M_repeats_86 rfl (lv_at hl 0 rfl) ?_
      refine lv_dup S.1 S.2.1 d_M_repeats_87 rfl ?_
      refine mg_p S hK hw d_M_repeats_88 ?_
      refine lv_iload_n S.1 S.2.1 d_M_repeats_91 rfl (lv_at hl 2 rfl) ?_
      refine lv_iadd S.1 S.2.1 d_M_repeats_92 ?_
      refine mp_p S hK hw d_M_repeats_93 (fun H locs hw => ?_)
      refine lv_iconst (v := 1) S.1 S.2.1 d_M_repeats_96 (by decide) ?_
      exact w_zret S hr hlk hK isB1 hw h d_M_repeats_97
    · have h := h.2 q_51
      refine lv_aload_n S.1 S.2.1 d_M_repeats_54 rfl (lv_at hl 0 rfl) ?_
      refine mg_subject S hK hw d_M_repeats_55 ?_
      refine lv_iload_n S.1 S.2.1 d_M_repeats_58 rfl (lv_at hl 1 rfl) ?_
      refine lv_iload S.1 S.2.1 d_M_repeats_59 (lv_at hl 3 rfl) ?_
      refine lv_iadd S.1 S.2.1 d_M_repeats_61 ?_
      have hg := h.1
      have h := h.2
      refine ml_subject S hK hw hg d_M_repeats_62 ?_
      refine lv_aload_n S.1 S.2.1 d_M_repeats_63 rfl (lv_at hl 0 rfl) ?_
      refine mg_subject S hK hw d_M_repeats_64 ?_
      refine lv_aload_n S.1 S.2.1 d_M_repeats_67 rfl (lv_at hl 0 rfl) ?_
      refine mg_p S hK hw d_M_repeats_68 ?_
      refine lv_iload S.1 S.2.1 d_M_repeats_71 (lv_at hl 3 rfl) ?_
      refine lv_iadd S.1 S.2.1 d_M_repeats_73 ?_
      have hg := h.1
      have h := h.2
      refine ml_subject S hK hw hg d_M_repeats_74 ?_
      refine lv_icmp_eq (tgt := 80) S.1 S.2.1 d_M_repeats_75 (by decide) (fun q_75 => ?_) (fun q_75 => ?_)
      · have h := h.1 q_75
        obtain ⟨x4_80, ex4_80⟩ : ∃ y : Int32, y = x4 + 1 := ⟨_, rfl⟩
        have h := h x4_80 ex4_80
        refine lv_iinc (v := x4_80) (lv' := [(4, .int x4_80), (0, .ref (a 0)), (2, .int x2), (3, .int x3)]) S.1 S.2.1 d_M_repeats_80 hl (k := 3) rfl (by rw [ex4_80]; rfl) (by decide) rfl (fun ls hl => ?_)
        refine lv_goto (tgt := 48) S.1 S.2.1 d_M_repeats_83 (by decide) ?_
        exact ih x2 x3 x4_80 u _ _ _ (lv_sub hl [1, 2, 3, 0] rfl) hw h
      · have h := h.2 q_75
        refine lv_iconst (v := 0) S.1 S.2.1 d_M_repeats_78 (by decide) ?_
        exact w_zret S hr hlk hK isB0 hw h d_M_repeats_79
set_option maxHeartbeats 4000000 in
set_option maxRecDepth 20000 in
theorem c_M_repeats {x : GX} {a : Nat → Nat} (l : Launch) (x1 : Int32) (u : MS) (sz : Nat) (Qc : Int32 → MS → Prop) (h : P_M_repeats x1 u Qc) : Met l y_M_repeats (wM y_M_repeats b_M_repeats 5 (some .boolean)) (rmN 1 0 0) (PreC x (mcl x a) [.ref (a 0), .int x1] u sz) (QcI x (mcl x a) (va_A ((mcl x a) u) sz) Qc) 0 0 (va_A ((mcl x a) u) sz) := by
  refine w_enter (by decide +kernel) (Nat.le_of_ble_eq_true rfl) (fun p e s m args below meth c S hr hlk _ hK hA hw ls hl => ?_)
  have hl : lv_has ls 5 [(0, .ref (a 0)), (1, .int x1)] := hl
  refine lv_aload_n S.1 S.2.1 d_M_repeats_0 rfl (lv_at hl 0 rfl) ?_
  refine lv_aload_n S.1 S.2.1 d_M_repeats_1 rfl (lv_at hl 0 rfl) ?_
  refine mg_caps S hK hw d_M_repeats_2 ?_
  refine lv_iload_n S.1 S.2.1 d_M_repeats_5 rfl (lv_at hl 1 rfl) ?_
  refine lv_iconst (v := 0) S.1 S.2.1 d_M_repeats_6 (by decide) ?_
  refine w_ci hA hw (w_rv (rest := []) S hK hw (c_M_capture l (m_caps u) x1 (0 : Int32) u _ _ h) (ci := 0) (q0 := 0) rfl rfl (w_cb (fr := 0) (lv := 0) S.2.2.2.2 k_1104 k_1101 k_8 yd_M_capture rfl rfl ⟨Nat.le_of_ble_eq_true rfl, Nat.le_of_ble_eq_true rfl⟩) k_1103 s_64 rfl hl.1 rfl (Nat.le_of_ble_eq_true rfl) d_M_repeats_7 ⟨Nat.le_refl _, Nat.le_refl _⟩) (fun r_7 u_7 H locs h hw => ?_)
  refine lv_istore_n (lv' := [(2, .int r_7), (0, .ref (a 0)), (1, .int x1)]) S.1 S.2.1 d_M_repeats_10 rfl hl (by decide) rfl (fun ls hl => ?_)
  refine lv_aload_n S.1 S.2.1 d_M_repeats_11 rfl (lv_at hl 1 rfl) ?_
  refine lv_aload_n S.1 S.2.1 d_M_repeats_12 rfl (lv_at hl 1 rfl) ?_
  refine mg_caps S hK hw d_M_repeats_13 ?_
  refine lv_iload_n S.1 S.2.1 d_M_repeats_16 rfl (lv_at hl 2 rfl) ?_
  refine lv_iconst (v := 1) S.1 S.2.1 d_M_repeats_17 (by decide) ?_
  refine w_ci hA hw (w_rv (rest := []) S hK hw (c_M_capture l (m_caps u_7) x1 (1 : Int32) u_7 _ _ h) (ci := 0) (q0 := 0) rfl rfl (w_cb (fr := 0) (lv := 0) S.2.2.2.2 k_1104 k_1101 k_8 yd_M_capture rfl rfl ⟨Nat.le_of_ble_eq_true rfl, Nat.le_of_ble_eq_true rfl⟩) k_1103 s_64 rfl hl.1 rfl (Nat.le_of_ble_eq_true rfl) d_M_repeats_18 ⟨Nat.le_refl _, Nat.le_refl _⟩) (fun r_18 u_18 H locs h hw => ?_)
  refine lv_iload_n S.1 S.2.1 d_M_repeats_21 rfl (lv_at hl 0 rfl) ?_
  refine lv_isub S.1 S.2.1 d_M_repeats_22 ?_
  refine lv_topi (fun x3_23 ex3_23 => ?_)
  have h := h x3_23 ex3_23
  refine lv_istore_n (lv' := [(3, .int x3_23), (2, .int r_7), (0, .ref (a 0)), (1, .int x1)]) S.1 S.2.1 d_M_repeats_23 rfl hl (by decide) rfl (fun ls hl => ?_)
  refine lv_iload_n S.1 S.2.1 d_M_repeats_24 rfl (lv_at hl 1 rfl) ?_
  refine lv_bipush (v := -6) S.1 S.2.1 d_M_repeats_25 (by decide) ?_
  refine lv_icmp_eq (tgt := 43) S.1 S.2.1 d_M_repeats_27 (by decide) (fun q_27 => ?_) (fun q_27 => ?_)
  · have h := h.1 q_27
    refine lv_iconst (v := 0) S.1 S.2.1 d_M_repeats_43 (by decide) ?_
    exact w_zret S hr hlk hK isB0 hw h d_M_repeats_44
  · have h := h.2 q_27
    refine lv_aload_n S.1 S.2.1 d_M_repeats_30 rfl (lv_at hl 2 rfl) ?_
    refine mg_p S hK hw d_M_repeats_31 ?_
    refine lv_iload_n S.1 S.2.1 d_M_repeats_34 rfl (lv_at hl 0 rfl) ?_
    refine lv_iadd S.1 S.2.1 d_M_repeats_35 ?_
    refine lv_aload_n S.1 S.2.1 d_M_repeats_36 rfl (lv_at hl 2 rfl) ?_
    refine mg_letters S hK hw d_M_repeats_37 ?_
    refine lv_icmp_le (tgt := 45) S.1 S.2.1 d_M_repeats_40 (by decide) (fun q_40 => ?_) (fun q_40 => ?_)
    · have h := h.1 q_40
      refine lv_iconst (v := 0) S.1 S.2.1 d_M_repeats_45 (by decide) ?_
      refine lv_istore (lv' := [(4, .int (0 : Int32)), (3, .int x3_23), (2, .int r_7), (0, .ref (a 0)), (1, .int x1)]) S.1 S.2.1 d_M_repeats_46 hl (by decide) rfl (fun ls hl => ?_)
      obtain ⟨n9, h⟩ := h
      exact wL_M_repeats_48 S hr hlk hK hA  n9 r_7 x3_23 (0 : Int32) u_18 _ _ _ (lv_sub hl [3, 2, 1, 0] rfl) hw h
    · have h := h.2 q_40
      refine lv_iconst (v := 0) S.1 S.2.1 d_M_repeats_43 (by decide) ?_
      exact w_zret S hr hlk hK isB0 hw h d_M_repeats_44
set_option maxHeartbeats 4000000 in
set_option maxRecDepth 20000 in
theorem wB_M_inClass_133 (S : CallFix p m c b_M_inClass 6 s args lw_tg R_Mod) (hr : meth.sig.returnType = some .boolean) (hlk : meth.locks = false) (hK : GK x s) (hA : ∀ q : Nat, s.heap.size ≤ q → A q) {Qc : Int32 → MS → Prop} : ∀ (x3 : Int32) (x4 : Int32) (u : MS) (ls : Array Slot) (H : Heap) (locs : List Loc), lv_has ls 6 [(3, .int x3), (4, .int x4)] → wd x A s.heap ((mcl x a) u) H locs → B_M_inClass_133 Qc  x3 x4 u → W p l e (rmN 1 0 0) s m args below meth c H locs 0 0 (MQ below (QcI x (mcl x a) A Qc) args s 0 0 A) (F0 m 133 ls []) := by
  intro x3 x4 u ls H locs hl hw h
  refine lv_iload S.1 S.2.1 d_M_inClass_133 (lv_at hl 1 rfl) ?_
  refine lv_iload_n S.1 S.2.1 d_M_inClass_135 rfl (lv_at hl 0 rfl) ?_
  refine lv_icmp_eq (tgt := 143) S.1 S.2.1 d_M_inClass_136 (by decide) (fun q_136 => ?_) (fun q_136 => ?_)
  · have h := h.1 q_136
    refine lv_iconst (v := 0) S.1 S.2.1 d_M_inClass_143 (by decide) ?_
    exact w_zret S hr hlk hK isB0 hw h d_M_inClass_144
  · have h := h.2 q_136
    refine lv_iconst (v := 1) S.1 S.2.1 d_M_inClass_139 (by decide) ?_
    refine lv_goto (tgt := 144) S.1 S.2.1 d_M_inClass_140 (by decide) ?_
    exact w_zret S hr hlk hK isB1 hw h d_M_inClass_144
set_option maxHeartbeats 4000000 in
set_option maxRecDepth 20000 in
theorem wB_M_inClass_127 (S : CallFix p m c b_M_inClass 6 s args lw_tg R_Mod) (hr : meth.sig.returnType = some .boolean) (hlk : meth.locks = false) (hK : GK x s) (hA : ∀ q : Nat, s.heap.size ≤ q → A q) {Qc : Int32 → MS → Prop} {K36 : Int32 → Int32 → Int32 → Int32 → MS → Prop} (ih36 : ∀ (x2 : Int32) (x3 : Int32) (x4 : Int32) (x5 : Int32) (u : MS) (ls : Array Slot) (H : Heap) (locs : List Loc), lv_has ls 6 [(0, .ref (a 0)), (2, .int x2), (3, .int x3), (4, .int x4), (5, .int x5)] → wd x A s.heap ((mcl x a) u) H locs → K36 x2 x3 x4 x5 u → W p l e (rmN 1 0 0) s m args below meth c H locs 0 0 (MQ below (QcI x (mcl x a) A Qc) args s 0 0 A) (F0 m 36 ls [])) : ∀ (x2 : Int32) (x3 : Int32) (x4 : Int32) (x5 : Int32) (u : MS) (ls : Array Slot) (H : Heap) (locs : List Loc), lv_has ls 6 [(0, .ref (a 0)), (2, .int x2), (3, .int x3), (4, .int x4), (5, .int x5)] → wd x A s.heap ((mcl x a) u) H locs → B_M_inClass_127 Qc K36 x2 x3 x4 x5 u → W p l e (rmN 1 0 0) s m args below meth c H locs 0 0 (MQ below (QcI x (mcl x a) A Qc) args s 0 0 A) (F0 m 127 ls []) := by
  intro x2 x3 x4 x5 u ls H locs hl hw h
  obtain ⟨x5_127, ex5_127⟩ : ∃ y : Int32, y = x5 + 1 := ⟨_, rfl⟩
  have h := h x5_127 ex5_127
  refine lv_iinc (v := x5_127) (lv' := [(5, .int x5_127), (0, .ref (a 0)), (2, .int x2), (3, .int x3), (4, .int x4)]) S.1 S.2.1 d_M_inClass_127 hl (k := 4) rfl (by rw [ex5_127]; rfl) (by decide) rfl (fun ls hl => ?_)
  refine lv_goto (tgt := 36) S.1 S.2.1 d_M_inClass_130 (by decide) ?_
  exact ih36 x2 x3 x4 x5_127 u _ _ _ (lv_sub hl [1, 2, 3, 4, 0] rfl) hw h
set_option maxHeartbeats 4000000 in
set_option maxRecDepth 20000 in
theorem wB_M_inClass_124 (S : CallFix p m c b_M_inClass 6 s args lw_tg R_Mod) (hr : meth.sig.returnType = some .boolean) (hlk : meth.locks = false) (hK : GK x s) (hA : ∀ q : Nat, s.heap.size ≤ q → A q) {Qc : Int32 → MS → Prop} {K36 : Int32 → Int32 → Int32 → Int32 → MS → Prop} (ih36 : ∀ (x2 : Int32) (x3 : Int32) (x4 : Int32) (x5 : Int32) (u : MS) (ls : Array Slot) (H : Heap) (locs : List Loc), lv_has ls 6 [(0, .ref (a 0)), (2, .int x2), (3, .int x3), (4, .int x4), (5, .int x5)] → wd x A s.heap ((mcl x a) u) H locs → K36 x2 x3 x4 x5 u → W p l e (rmN 1 0 0) s m args below meth c H locs 0 0 (MQ below (QcI x (mcl x a) A Qc) args s 0 0 A) (F0 m 36 ls [])) : ∀ (x2 : Int32) (x3 : Int32) (x5 : Int32) (t0 : Int32) (t1 : Int32) (u : MS) (ls : Array Slot) (H : Heap) (locs : List Loc), lv_has ls 6 [(0, .ref (a 0)), (2, .int x2), (3, .int x3), (5, .int x5)] → wd x A s.heap ((mcl x a) u) H locs → B_M_inClass_124 Qc K36 x2 x3 x5 t0 t1 u → W p l e (rmN 1 0 0) s m args below meth c H locs 0 0 (MQ below (QcI x (mcl x a) A Qc) args s 0 0 A) (F0 m 124 ls [.int t1, .int t0]) := by
  intro x2 x3 x5 t0 t1 u ls H locs hl hw h
  refine lv_ior S.1 S.2.1 d_M_inClass_124 ?_
  refine lv_topi (fun x4_125 ex4_125 => ?_)
  have h := h x4_125 ex4_125
  refine lv_istore (lv' := [(4, .int x4_125), (0, .ref (a 0)), (2, .int x2), (3, .int x3), (5, .int x5)]) S.1 S.2.1 d_M_inClass_125 hl (by decide) rfl (fun ls hl => ?_)
  exact wB_M_inClass_127 S hr hlk hK hA ih36 x2 x3 x4_125 x5 u _ _ _ (lv_sub hl [1, 2, 3, 0, 4] rfl) hw h
set_option maxHeartbeats 4000000 in
set_option maxRecDepth 20000 in
theorem wB_M_inClass_98 (S : CallFix p m c b_M_inClass 6 s args lw_tg R_Mod) (hr : meth.sig.returnType = some .boolean) (hlk : meth.locks = false) (hK : GK x s) (hA : ∀ q : Nat, s.heap.size ≤ q → A q) {Qc : Int32 → MS → Prop} {K36 : Int32 → Int32 → Int32 → Int32 → MS → Prop} (ih36 : ∀ (x2 : Int32) (x3 : Int32) (x4 : Int32) (x5 : Int32) (u : MS) (ls : Array Slot) (H : Heap) (locs : List Loc), lv_has ls 6 [(0, .ref (a 0)), (2, .int x2), (3, .int x3), (4, .int x4), (5, .int x5)] → wd x A s.heap ((mcl x a) u) H locs → K36 x2 x3 x4 x5 u → W p l e (rmN 1 0 0) s m args below meth c H locs 0 0 (MQ below (QcI x (mcl x a) A Qc) args s 0 0 A) (F0 m 36 ls [])) : ∀ (x2 : Int32) (x3 : Int32) (x5 : Int32) (t0 : Int32) (t1 : Int32) (u : MS) (ls : Array Slot) (H : Heap) (locs : List Loc), lv_has ls 6 [(0, .ref (a 0)), (2, .int x2), (3, .int x3), (5, .int x5)] → wd x A s.heap ((mcl x a) u) H locs → B_M_inClass_98 Qc K36 x2 x3 x5 t0 t1 u → W p l e (rmN 1 0 0) s m args below meth c H locs 0 0 (MQ below (QcI x (mcl x a) A Qc) args s 0 0 A) (F0 m 98 ls [.int t1, .int t0]) := by
  intro x2 x3 x5 t0 t1 u ls H locs hl hw h
  refine lv_ior S.1 S.2.1 d_M_inClass_98 ?_
  refine lv_topi (fun x4_99 ex4_99 => ?_)
  have h := h x4_99 ex4_99
  refine lv_istore (lv' := [(4, .int x4_99), (0, .ref (a 0)), (2, .int x2), (3, .int x3), (5, .int x5)]) S.1 S.2.1 d_M_inClass_99 hl (by decide) rfl (fun ls hl => ?_)
  obtain ⟨x5_101, ex5_101⟩ : ∃ y : Int32, y = x5 + 2 := ⟨_, rfl⟩
  have h := h x5_101 ex5_101
  refine lv_iinc (v := x5_101) (lv' := [(5, .int x5_101), (4, .int x4_99), (0, .ref (a 0)), (2, .int x2), (3, .int x3)]) S.1 S.2.1 d_M_inClass_101 hl (k := 4) rfl (by rw [ex5_101]; rfl) (by decide) rfl (fun ls hl => ?_)
  refine lv_goto (tgt := 127) S.1 S.2.1 d_M_inClass_104 (by decide) ?_
  exact wB_M_inClass_127 S hr hlk hK hA ih36 x2 x3 x4_99 x5_101 u _ _ _ (lv_sub hl [2, 3, 4, 1, 0] rfl) hw h
set_option maxHeartbeats 4000000 in
set_option maxRecDepth 20000 in
theorem wB_M_inClass_97 (S : CallFix p m c b_M_inClass 6 s args lw_tg R_Mod) (hr : meth.sig.returnType = some .boolean) (hlk : meth.locks = false) (hK : GK x s) (hA : ∀ q : Nat, s.heap.size ≤ q → A q) {Qc : Int32 → MS → Prop} {K36 : Int32 → Int32 → Int32 → Int32 → MS → Prop} (ih36 : ∀ (x2 : Int32) (x3 : Int32) (x4 : Int32) (x5 : Int32) (u : MS) (ls : Array Slot) (H : Heap) (locs : List Loc), lv_has ls 6 [(0, .ref (a 0)), (2, .int x2), (3, .int x3), (4, .int x4), (5, .int x5)] → wd x A s.heap ((mcl x a) u) H locs → K36 x2 x3 x4 x5 u → W p l e (rmN 1 0 0) s m args below meth c H locs 0 0 (MQ below (QcI x (mcl x a) A Qc) args s 0 0 A) (F0 m 36 ls [])) : ∀ (x2 : Int32) (x3 : Int32) (x5 : Int32) (t0 : Int32) (u : MS) (ls : Array Slot) (H : Heap) (locs : List Loc), lv_has ls 6 [(0, .ref (a 0)), (2, .int x2), (3, .int x3), (5, .int x5)] → wd x A s.heap ((mcl x a) u) H locs → B_M_inClass_97 Qc K36 x2 x3 x5 t0 u → W p l e (rmN 1 0 0) s m args below meth c H locs 0 0 (MQ below (QcI x (mcl x a) A Qc) args s 0 0 A) (F0 m 97 ls [.int t0]) := by
  intro x2 x3 x5 t0 u ls H locs hl hw h
  refine lv_iconst (v := 0) S.1 S.2.1 d_M_inClass_97 (by decide) ?_
  exact wB_M_inClass_98 S hr hlk hK hA ih36 x2 x3 x5 t0 (0 : Int32) u _ _ _ (lv_sub hl [0, 1, 2, 3] rfl) hw h
set_option maxHeartbeats 4000000 in
set_option maxRecDepth 20000 in
theorem wL_M_inClass_36 (S : CallFix p m c b_M_inClass 6 s args lw_tg R_Mod) (hr : meth.sig.returnType = some .boolean) (hlk : meth.locks = false) (hK : GK x s) (hA : ∀ q : Nat, s.heap.size ≤ q → A q) {Qc : Int32 → MS → Prop} : ∀ (n : Nat) (x2 : Int32) (x3 : Int32) (x4 : Int32) (x5 : Int32) (u : MS) (ls : Array Slot) (H : Heap) (locs : List Loc), lv_has ls 6 [(0, .ref (a 0)), (2, .int x2), (3, .int x3), (4, .int x4), (5, .int x5)] → wd x A s.heap ((mcl x a) u) H locs → L_M_inClass_36 Qc  n x2 x3 x4 x5 u → W p l e (rmN 1 0 0) s m args below meth c H locs 0 0 (MQ below (QcI x (mcl x a) A Qc) args s 0 0 A) (F0 m 36 ls []) := by
  intro n
  induction n with
  | zero =>
    intro x2 x3 x4 x5 u ls H locs hl hw h
    exact absurd h id
  | succ n ih =>
    intro x2 x3 x4 x5 u ls H locs hl hw h
    refine lv_aload_n S.1 S.2.1 d_M_inClass_36 rfl (lv_at hl 0 rfl) ?_
    refine lv_iload S.1 S.2.1 d_M_inClass_37 (lv_at hl 4 rfl) ?_
    refine w_ci hA hw (w_rv (rest := []) S hK hw (c_M_t l x5 u _ _ h) (ci := 0) (q0 := 0) rfl rfl (w_cb (fr := 0) (lv := 0) S.2.2.2.2 k_1040 k_1037 k_8 yd_M_t rfl rfl ⟨Nat.le_of_ble_eq_true rfl, Nat.le_of_ble_eq_true rfl⟩) k_1039 s_48 rfl hl.1 rfl (Nat.le_of_ble_eq_true rfl) d_M_inClass_39 ⟨Nat.le_refl _, Nat.le_refl _⟩) (fun r_39 u_39 H locs h hw => ?_)
    refine lv_bipush (v := 93) S.1 S.2.1 d_M_inClass_42 (by decide) ?_
    refine lv_icmp_eq (tgt := 133) S.1 S.2.1 d_M_inClass_44 (by decide) (fun q_44 => ?_) (fun q_44 => ?_)
    · have h := h.1 q_44
      exact wB_M_inClass_133 S hr hlk hK hA  x3 x4 u_39 _ _ _ (lv_sub hl [2, 3] rfl) hw h
    · have h := h.2 q_44
      refine lv_iload S.1 S.2.1 d_M_inClass_47 (lv_at hl 4 rfl) ?_
      refine lv_aload_n S.1 S.2.1 d_M_inClass_49 rfl (lv_at hl 0 rfl) ?_
      refine mg_length S hK hw d_M_inClass_50 ?_
      refine lv_icmp_ge (tgt := 133) S.1 S.2.1 d_M_inClass_53 (by decide) (fun q_53 => ?_) (fun q_53 => ?_)
      · have h := h.1 q_53
        exact wB_M_inClass_133 S hr hlk hK hA  x3 x4 u_39 _ _ _ (lv_sub hl [2, 3] rfl) hw h
      · have h := h.2 q_53
        refine lv_aload_n S.1 S.2.1 d_M_inClass_56 rfl (lv_at hl 0 rfl) ?_
        refine lv_iload S.1 S.2.1 d_M_inClass_57 (lv_at hl 4 rfl) ?_
        refine lv_iconst (v := 1) S.1 S.2.1 d_M_inClass_59 (by decide) ?_
        refine lv_iadd S.1 S.2.1 d_M_inClass_60 ?_
        refine w_ci hA hw (w_rv (rest := []) S hK hw (c_M_t l (x5 + (1 : Int32)) u_39 _ _ h) (ci := 0) (q0 := 0) rfl rfl (w_cb (fr := 0) (lv := 0) S.2.2.2.2 k_1040 k_1037 k_8 yd_M_t rfl rfl ⟨Nat.le_of_ble_eq_true rfl, Nat.le_of_ble_eq_true rfl⟩) k_1039 s_48 rfl hl.1 rfl (Nat.le_of_ble_eq_true rfl) d_M_inClass_61 ⟨Nat.le_refl _, Nat.le_refl _⟩) (fun r_61 u_61 H locs h hw => ?_)
        refine lv_bipush (v := 45) S.1 S.2.1 d_M_inClass_64 (by decide) ?_
        refine lv_icmp_ne (tgt := 107) S.1 S.2.1 d_M_inClass_66 (by decide) (fun q_66 => ?_) (fun q_66 => ?_)
        · have h := h.2 q_66
          refine lv_iload S.1 S.2.1 d_M_inClass_107 (lv_at hl 3 rfl) ?_
          refine lv_iload_n S.1 S.2.1 d_M_inClass_109 rfl (lv_at hl 1 rfl) ?_
          refine lv_aload_n S.1 S.2.1 d_M_inClass_110 rfl (lv_at hl 0 rfl) ?_
          refine lv_iload S.1 S.2.1 d_M_inClass_111 (lv_at hl 4 rfl) ?_
          refine w_ci hA hw (w_rv (rest := [.int x2, .int x4]) S hK hw (c_M_t l x5 u_61 _ _ h) (ci := 0) (q0 := 0) rfl rfl (w_cb (fr := 0) (lv := 0) S.2.2.2.2 k_1040 k_1037 k_8 yd_M_t rfl rfl ⟨Nat.le_of_ble_eq_true rfl, Nat.le_of_ble_eq_true rfl⟩) k_1039 s_48 rfl hl.1 rfl (Nat.le_of_ble_eq_true rfl) d_M_inClass_113 ⟨Nat.le_refl _, Nat.le_refl _⟩) (fun r_113 u_113 H locs h hw => ?_)
          refine lv_icmp_ne (tgt := 123) S.1 S.2.1 d_M_inClass_116 (by decide) (fun q_116 => ?_) (fun q_116 => ?_)
          · have h := h.2 q_116
            refine lv_iconst (v := 0) S.1 S.2.1 d_M_inClass_123 (by decide) ?_
            exact wB_M_inClass_124 S hr hlk hK hA ih x2 x3 x5 x4 (0 : Int32) u_113 _ _ _ (lv_sub hl [0, 1, 2, 4] rfl) hw h
          · have h := h.1 q_116
            refine lv_iconst (v := 1) S.1 S.2.1 d_M_inClass_119 (by decide) ?_
            refine lv_goto (tgt := 124) S.1 S.2.1 d_M_inClass_120 (by decide) ?_
            exact wB_M_inClass_124 S hr hlk hK hA ih x2 x3 x5 x4 (1 : Int32) u_113 _ _ _ (lv_sub hl [0, 1, 2, 4] rfl) hw h
        · have h := h.1 q_66
          refine lv_iload S.1 S.2.1 d_M_inClass_69 (lv_at hl 3 rfl) ?_
          refine lv_iload_n S.1 S.2.1 d_M_inClass_71 rfl (lv_at hl 1 rfl) ?_
          refine lv_aload_n S.1 S.2.1 d_M_inClass_72 rfl (lv_at hl 0 rfl) ?_
          refine lv_iload S.1 S.2.1 d_M_inClass_73 (lv_at hl 4 rfl) ?_
          refine w_ci hA hw (w_rv (rest := [.int x2, .int x4]) S hK hw (c_M_t l x5 u_61 _ _ h) (ci := 0) (q0 := 0) rfl rfl (w_cb (fr := 0) (lv := 0) S.2.2.2.2 k_1040 k_1037 k_8 yd_M_t rfl rfl ⟨Nat.le_of_ble_eq_true rfl, Nat.le_of_ble_eq_true rfl⟩) k_1039 s_48 rfl hl.1 rfl (Nat.le_of_ble_eq_true rfl) d_M_inClass_75 ⟨Nat.le_refl _, Nat.le_refl _⟩) (fun r_75 u_75 H locs h hw => ?_)
          refine lv_icmp_lt (tgt := 97) S.1 S.2.1 d_M_inClass_78 (by decide) (fun q_78 => ?_) (fun q_78 => ?_)
          · have h := h.1 q_78
            exact wB_M_inClass_97 S hr hlk hK hA ih x2 x3 x5 x4 u_75 _ _ _ (lv_sub hl [0, 1, 2, 4] rfl) hw h
          · have h := h.2 q_78
            refine lv_iload_n S.1 S.2.1 d_M_inClass_81 rfl (lv_at hl 1 rfl) ?_
            refine lv_aload_n S.1 S.2.1 d_M_inClass_82 rfl (lv_at hl 0 rfl) ?_
            refine lv_iload S.1 S.2.1 d_M_inClass_83 (lv_at hl 4 rfl) ?_
            refine lv_iconst (v := 2) S.1 S.2.1 d_M_inClass_85 (by decide) ?_
            refine lv_iadd S.1 S.2.1 d_M_inClass_86 ?_
            refine w_ci hA hw (w_rv (rest := [.int x2, .int x4]) S hK hw (c_M_t l (x5 + (2 : Int32)) u_75 _ _ h) (ci := 0) (q0 := 0) rfl rfl (w_cb (fr := 0) (lv := 0) S.2.2.2.2 k_1040 k_1037 k_8 yd_M_t rfl rfl ⟨Nat.le_of_ble_eq_true rfl, Nat.le_of_ble_eq_true rfl⟩) k_1039 s_48 rfl hl.1 rfl (Nat.le_of_ble_eq_true rfl) d_M_inClass_87 ⟨Nat.le_refl _, Nat.le_refl _⟩) (fun r_87 u_87 H locs h hw => ?_)
            refine lv_icmp_gt (tgt := 97) S.1 S.2.1 d_M_inClass_90 (by decide) (fun q_90 => ?_) (fun q_90 => ?_)
            · have h := h.1 q_90
              exact wB_M_inClass_97 S hr hlk hK hA ih x2 x3 x5 x4 u_87 _ _ _ (lv_sub hl [0, 1, 2, 4] rfl) hw h
            · have h := h.2 q_90
              refine lv_iconst (v := 1) S.1 S.2.1 d_M_inClass_93 (by decide) ?_
              refine lv_goto (tgt := 98) S.1 S.2.1 d_M_inClass_94 (by decide) ?_
              exact wB_M_inClass_98 S hr hlk hK hA ih x2 x3 x5 x4 (1 : Int32) u_87 _ _ _ (lv_sub hl [0, 1, 2, 4] rfl) hw h
set_option maxHeartbeats 4000000 in
set_option maxRecDepth 20000 in
theorem wB_M_inClass_34 (S : CallFix p m c b_M_inClass 6 s args lw_tg R_Mod) (hr : meth.sig.returnType = some .boolean) (hlk : meth.locks = false) (hK : GK x s) (hA : ∀ q : Nat, s.heap.size ≤ q → A q) {Qc : Int32 → MS → Prop} : ∀ (x2 : Int32) (x3 : Int32) (x4 : Int32) (t0 : Int32) (u : MS) (ls : Array Slot) (H : Heap) (locs : List Loc), lv_has ls 6 [(0, .ref (a 0)), (2, .int x2), (3, .int x3), (4, .int x4)] → wd x A s.heap ((mcl x a) u) H locs → B_M_inClass_34 Qc  x2 x3 x4 t0 u → W p l e (rmN 1 0 0) s m args below meth c H locs 0 0 (MQ below (QcI x (mcl x a) A Qc) args s 0 0 A) (F0 m 34 ls [.int t0]) := by
  intro x2 x3 x4 t0 u ls H locs hl hw h
  refine lv_istore (lv' := [(5, .int t0), (0, .ref (a 0)), (2, .int x2), (3, .int x3), (4, .int x4)]) S.1 S.2.1 d_M_inClass_34 hl (by decide) rfl (fun ls hl => ?_)
  obtain ⟨n9, h⟩ := h
  exact wL_M_inClass_36 S hr hlk hK hA  n9 x2 x3 x4 t0 u _ _ _ (lv_sub hl [1, 2, 3, 4, 0] rfl) hw h
set_option maxHeartbeats 4000000 in
set_option maxRecDepth 20000 in
theorem wB_M_inClass_17 (S : CallFix p m c b_M_inClass 6 s args lw_tg R_Mod) (hr : meth.sig.returnType = some .boolean) (hlk : meth.locks = false) (hK : GK x s) (hA : ∀ q : Nat, s.heap.size ≤ q → A q) {Qc : Int32 → MS → Prop} : ∀ (x1 : Int32) (x2 : Int32) (t0 : Int32) (u : MS) (ls : Array Slot) (H : Heap) (locs : List Loc), lv_has ls 6 [(0, .ref (a 0)), (1, .int x1), (2, .int x2)] → wd x A s.heap ((mcl x a) u) H locs → B_M_inClass_17 Qc  x1 x2 t0 u → W p l e (rmN 1 0 0) s m args below meth c H locs 0 0 (MQ below (QcI x (mcl x a) A Qc) args s 0 0 A) (F0 m 17 ls [.int t0]) := by
  intro x1 x2 t0 u ls H locs hl hw h
  refine lv_istore_n (lv' := [(3, .int t0), (0, .ref (a 0)), (1, .int x1), (2, .int x2)]) S.1 S.2.1 d_M_inClass_17 rfl hl (by decide) rfl (fun ls hl => ?_)
  refine lv_iconst (v := 0) S.1 S.2.1 d_M_inClass_18 (by decide) ?_
  refine lv_istore (lv' := [(4, .int (0 : Int32)), (3, .int t0), (0, .ref (a 0)), (1, .int x1), (2, .int x2)]) S.1 S.2.1 d_M_inClass_19 hl (by decide) rfl (fun ls hl => ?_)
  refine lv_iload_n S.1 S.2.1 d_M_inClass_21 rfl (lv_at hl 1 rfl) ?_
  refine lv_if_eq (tgt := 31) S.1 S.2.1 d_M_inClass_22 (by decide) (fun q_22 => ?_) (fun q_22 => ?_)
  · have h := h.1 q_22
    refine lv_iload_n S.1 S.2.1 d_M_inClass_31 rfl (lv_at hl 3 rfl) ?_
    refine lv_iconst (v := 1) S.1 S.2.1 d_M_inClass_32 (by decide) ?_
    refine lv_iadd S.1 S.2.1 d_M_inClass_33 ?_
    exact wB_M_inClass_34 S hr hlk hK hA  x2 t0 (0 : Int32) (x1 + (1 : Int32)) u _ _ _ (lv_sub hl [2, 4, 1, 0] rfl) hw h
  · have h := h.2 q_22
    refine lv_iload_n S.1 S.2.1 d_M_inClass_25 rfl (lv_at hl 3 rfl) ?_
    refine lv_iconst (v := 2) S.1 S.2.1 d_M_inClass_26 (by decide) ?_
    refine lv_iadd S.1 S.2.1 d_M_inClass_27 ?_
    refine lv_goto (tgt := 34) S.1 S.2.1 d_M_inClass_28 (by decide) ?_
    exact wB_M_inClass_34 S hr hlk hK hA  x2 t0 (0 : Int32) (x1 + (2 : Int32)) u _ _ _ (lv_sub hl [2, 4, 1, 0] rfl) hw h
set_option maxHeartbeats 4000000 in
set_option maxRecDepth 20000 in
theorem c_M_inClass {x : GX} {a : Nat → Nat} (l : Launch) (x1 : Int32) (x2 : Int32) (u : MS) (sz : Nat) (Qc : Int32 → MS → Prop) (h : P_M_inClass x1 x2 u Qc) : Met l y_M_inClass (wM y_M_inClass b_M_inClass 6 (some .boolean)) (rmN 1 0 0) (PreC x (mcl x a) [.ref (a 0), .int x1, .int x2] u sz) (QcI x (mcl x a) (va_A ((mcl x a) u) sz) Qc) 0 0 (va_A ((mcl x a) u) sz) := by
  refine w_enter (by decide +kernel) (Nat.le_of_ble_eq_true rfl) (fun p e s m args below meth c S hr hlk _ hK hA hw ls hl => ?_)
  have hl : lv_has ls 6 [(0, .ref (a 0)), (1, .int x1), (2, .int x2)] := hl
  refine lv_aload_n S.1 S.2.1 d_M_inClass_0 rfl (lv_at hl 0 rfl) ?_
  refine lv_iload_n S.1 S.2.1 d_M_inClass_1 rfl (lv_at hl 1 rfl) ?_
  refine lv_iconst (v := 1) S.1 S.2.1 d_M_inClass_2 (by decide) ?_
  refine lv_iadd S.1 S.2.1 d_M_inClass_3 ?_
  refine w_ci hA hw (w_rv (rest := []) S hK hw (c_M_t l (x1 + (1 : Int32)) u _ _ h) (ci := 0) (q0 := 0) rfl rfl (w_cb (fr := 0) (lv := 0) S.2.2.2.2 k_1040 k_1037 k_8 yd_M_t rfl rfl ⟨Nat.le_of_ble_eq_true rfl, Nat.le_of_ble_eq_true rfl⟩) k_1039 s_48 rfl hl.1 rfl (Nat.le_of_ble_eq_true rfl) d_M_inClass_4 ⟨Nat.le_refl _, Nat.le_refl _⟩) (fun r_4 u_4 H locs h hw => ?_)
  refine lv_bipush (v := 94) S.1 S.2.1 d_M_inClass_7 (by decide) ?_
  refine lv_icmp_ne (tgt := 16) S.1 S.2.1 d_M_inClass_9 (by decide) (fun q_9 => ?_) (fun q_9 => ?_)
  · have h := h.2 q_9
    refine lv_iconst (v := 0) S.1 S.2.1 d_M_inClass_16 (by decide) ?_
    exact wB_M_inClass_17 S hr hlk hK hA  x1 x2 (0 : Int32) u_4 _ _ _ (lv_sub hl [0, 1, 2] rfl) hw h
  · have h := h.1 q_9
    refine lv_iconst (v := 1) S.1 S.2.1 d_M_inClass_12 (by decide) ?_
    refine lv_goto (tgt := 17) S.1 S.2.1 d_M_inClass_13 (by decide) ?_
    exact wB_M_inClass_17 S hr hlk hK hA  x1 x2 (1 : Int32) u_4 _ _ _ (lv_sub hl [0, 1, 2] rfl) hw h
set_option maxHeartbeats 4000000 in
set_option maxRecDepth 20000 in
theorem wB_M_takesLetter_69 (S : CallFix p m c b_M_takesLetter 4 s args lw_tg R_Mod) (hr : meth.sig.returnType = some .boolean) (hlk : meth.locks = false) (hK : GK x s) (hA : ∀ q : Nat, s.heap.size ≤ q → A q) {Qc : Int32 → MS → Prop} : ∀ (t0 : Int32) (u : MS) (ls : Array Slot) (H : Heap) (locs : List Loc), lv_has ls 4 [(0, .ref (a 0))] → wd x A s.heap ((mcl x a) u) H locs → B_M_takesLetter_69 Qc  t0 u → W p l e (rmN 2 0 0) s m args below meth c H locs 0 0 (MQ below (QcI x (mcl x a) A Qc) args s 0 0 A) (F0 m 69 ls [.int t0]) := by
  intro t0 u ls H locs hl hw h
  refine lv_istore_n (lv' := [(3, .int t0), (0, .ref (a 0))]) S.1 S.2.1 d_M_takesLetter_69 rfl hl (by decide) rfl (fun ls hl => ?_)
  refine lv_iload_n S.1 S.2.1 d_M_takesLetter_70 rfl (lv_at hl 0 rfl) ?_
  refine lv_if_eq (tgt := 84) S.1 S.2.1 d_M_takesLetter_71 (by decide) (fun q_71 => ?_) (fun q_71 => ?_)
  · have h := h.1 q_71
    refine lv_iload_n S.1 S.2.1 d_M_takesLetter_84 rfl (lv_at hl 0 rfl) ?_
    exact w_zret S hr hlk hK h.1 hw h.2 d_M_takesLetter_85
  · have h := h.2 q_71
    refine lv_aload_n S.1 S.2.1 d_M_takesLetter_74 rfl (lv_at hl 1 rfl) ?_
    refine lv_dup S.1 S.2.1 d_M_takesLetter_75 rfl ?_
    refine mg_p S hK hw d_M_takesLetter_76 ?_
    refine lv_iconst (v := 1) S.1 S.2.1 d_M_takesLetter_79 (by decide) ?_
    refine lv_iadd S.1 S.2.1 d_M_takesLetter_80 ?_
    refine mp_p S hK hw d_M_takesLetter_81 (fun H locs hw => ?_)
    refine lv_iload_n S.1 S.2.1 d_M_takesLetter_84 rfl (lv_at hl 0 rfl) ?_
    exact w_zret S hr hlk hK h.1 hw h.2 d_M_takesLetter_85
set_option maxHeartbeats 4000000 in
set_option maxRecDepth 20000 in
theorem wB_M_takesLetter_64 (S : CallFix p m c b_M_takesLetter 4 s args lw_tg R_Mod) (hr : meth.sig.returnType = some .boolean) (hlk : meth.locks = false) (hK : GK x s) (hA : ∀ q : Nat, s.heap.size ≤ q → A q) {Qc : Int32 → MS → Prop} : ∀  (u : MS) (ls : Array Slot) (H : Heap) (locs : List Loc), lv_has ls 4 [(0, .ref (a 0))] → wd x A s.heap ((mcl x a) u) H locs → B_M_takesLetter_64 Qc   u → W p l e (rmN 2 0 0) s m args below meth c H locs 0 0 (MQ below (QcI x (mcl x a) A Qc) args s 0 0 A) (F0 m 64 ls []) := by
  intro  u ls H locs hl hw h
  refine lv_iconst (v := 1) S.1 S.2.1 d_M_takesLetter_64 (by decide) ?_
  refine lv_goto (tgt := 69) S.1 S.2.1 d_M_takesLetter_65 (by decide) ?_
  exact wB_M_takesLetter_69 S hr hlk hK hA  (1 : Int32) u _ _ _ (lv_sub hl [0] rfl) hw h
set_option maxHeartbeats 4000000 in
set_option maxRecDepth 20000 in
theorem wB_M_takesLetter_68 (S : CallFix p m c b_M_takesLetter 4 s args lw_tg R_Mod) (hr : meth.sig.returnType = some .boolean) (hlk : meth.locks = false) (hK : GK x s) (hA : ∀ q : Nat, s.heap.size ≤ q → A q) {Qc : Int32 → MS → Prop} : ∀  (u : MS) (ls : Array Slot) (H : Heap) (locs : List Loc), lv_has ls 4 [(0, .ref (a 0))] → wd x A s.heap ((mcl x a) u) H locs → B_M_takesLetter_68 Qc   u → W p l e (rmN 2 0 0) s m args below meth c H locs 0 0 (MQ below (QcI x (mcl x a) A Qc) args s 0 0 A) (F0 m 68 ls []) := by
  intro  u ls H locs hl hw h
  refine lv_iconst (v := 0) S.1 S.2.1 d_M_takesLetter_68 (by decide) ?_
  exact wB_M_takesLetter_69 S hr hlk hK hA  (0 : Int32) u _ _ _ (lv_sub hl [0] rfl) hw h
set_option maxHeartbeats 4000000 in
set_option maxRecDepth 20000 in
theorem c_M_takesLetter {x : GX} {a : Nat → Nat} (l : Launch) (x1 : Int32) (u : MS) (sz : Nat) (Qc : Int32 → MS → Prop) (h : P_M_takesLetter x1 u Qc) : Met l y_M_takesLetter (wM y_M_takesLetter b_M_takesLetter 4 (some .boolean)) (rmN 2 0 0) (PreC x (mcl x a) [.ref (a 0), .int x1] u sz) (QcI x (mcl x a) (va_A ((mcl x a) u) sz) Qc) 0 0 (va_A ((mcl x a) u) sz) := by
  refine w_enter (by decide +kernel) (Nat.le_of_ble_eq_true rfl) (fun p e s m args below meth c S hr hlk _ hK hA hw ls hl => ?_)
  have hl : lv_has ls 4 [(0, .ref (a 0)), (1, .int x1)] := hl
  refine lv_aload_n S.1 S.2.1 d_M_takesLetter_0 rfl (lv_at hl 0 rfl) ?_
  refine mg_p S hK hw d_M_takesLetter_1 ?_
  refine lv_aload_n S.1 S.2.1 d_M_takesLetter_4 rfl (lv_at hl 0 rfl) ?_
  refine mg_letters S hK hw d_M_takesLetter_5 ?_
  refine lv_icmp_lt (tgt := 13) S.1 S.2.1 d_M_takesLetter_8 (by decide) (fun q_8 => ?_) (fun q_8 => ?_)
  · have h := h.1 q_8
    refine lv_aload_n S.1 S.2.1 d_M_takesLetter_13 rfl (lv_at hl 0 rfl) ?_
    refine mg_subject S hK hw d_M_takesLetter_14 ?_
    refine lv_aload_n S.1 S.2.1 d_M_takesLetter_17 rfl (lv_at hl 0 rfl) ?_
    refine mg_p S hK hw d_M_takesLetter_18 ?_
    have hg := h.1
    have h := h.2
    refine ml_subject S hK hw hg d_M_takesLetter_21 ?_
    refine lv_topi (fun x2_22 ex2_22 => ?_)
    have h := h x2_22 ex2_22
    refine lv_istore_n (lv' := [(2, .int x2_22), (0, .ref (a 0)), (1, .int x1)]) S.1 S.2.1 d_M_takesLetter_22 rfl hl (by decide) rfl (fun ls hl => ?_)
    refine lv_aload_n S.1 S.2.1 d_M_takesLetter_23 rfl (lv_at hl 1 rfl) ?_
    refine lv_iload_n S.1 S.2.1 d_M_takesLetter_24 rfl (lv_at hl 2 rfl) ?_
    refine w_ci hA hw (w_rv (rest := []) S hK hw (c_M_t l x1 u _ _ h) (ci := 0) (q0 := 0) rfl rfl (w_cb (fr := 0) (lv := 0) S.2.2.2.2 k_1040 k_1037 k_8 yd_M_t rfl rfl ⟨Nat.le_of_ble_eq_true rfl, Nat.le_of_ble_eq_true rfl⟩) k_1039 s_48 rfl hl.1 rfl (Nat.le_of_ble_eq_true rfl) d_M_takesLetter_25 ⟨Nat.le_refl _, Nat.le_refl _⟩) (fun r_25 u_25 H locs h hw => ?_)
    refine lv_bipush (v := 46) S.1 S.2.1 d_M_takesLetter_28 (by decide) ?_
    refine lv_icmp_eq (tgt := 64) S.1 S.2.1 d_M_takesLetter_30 (by decide) (fun q_30 => ?_) (fun q_30 => ?_)
    · have h := h.1 q_30
      exact wB_M_takesLetter_64 S hr hlk hK hA   u_25 _ _ _ (lv_sub hl [1] rfl) hw h
    · have h := h.2 q_30
      refine lv_aload_n S.1 S.2.1 d_M_takesLetter_33 rfl (lv_at hl 1 rfl) ?_
      refine lv_iload_n S.1 S.2.1 d_M_takesLetter_34 rfl (lv_at hl 2 rfl) ?_
      refine w_ci hA hw (w_rv (rest := []) S hK hw (c_M_t l x1 u_25 _ _ h) (ci := 0) (q0 := 0) rfl rfl (w_cb (fr := 0) (lv := 0) S.2.2.2.2 k_1040 k_1037 k_8 yd_M_t rfl rfl ⟨Nat.le_of_ble_eq_true rfl, Nat.le_of_ble_eq_true rfl⟩) k_1039 s_48 rfl hl.1 rfl (Nat.le_of_ble_eq_true rfl) d_M_takesLetter_35 ⟨Nat.le_refl _, Nat.le_refl _⟩) (fun r_35 u_35 H locs h hw => ?_)
      refine lv_bipush (v := 91) S.1 S.2.1 d_M_takesLetter_38 (by decide) ?_
      refine lv_icmp_ne (tgt := 55) S.1 S.2.1 d_M_takesLetter_40 (by decide) (fun q_40 => ?_) (fun q_40 => ?_)
      · have h := h.2 q_40
        refine lv_aload_n S.1 S.2.1 d_M_takesLetter_55 rfl (lv_at hl 1 rfl) ?_
        refine lv_iload_n S.1 S.2.1 d_M_takesLetter_56 rfl (lv_at hl 2 rfl) ?_
        refine w_ci hA hw (w_rv (rest := []) S hK hw (c_M_t l x1 u_35 _ _ h) (ci := 0) (q0 := 0) rfl rfl (w_cb (fr := 0) (lv := 0) S.2.2.2.2 k_1040 k_1037 k_8 yd_M_t rfl rfl ⟨Nat.le_of_ble_eq_true rfl, Nat.le_of_ble_eq_true rfl⟩) k_1039 s_48 rfl hl.1 rfl (Nat.le_of_ble_eq_true rfl) d_M_takesLetter_57 ⟨Nat.le_refl _, Nat.le_refl _⟩) (fun r_57 u_57 H locs h hw => ?_)
        refine lv_iload_n S.1 S.2.1 d_M_takesLetter_60 rfl (lv_at hl 0 rfl) ?_
        refine lv_icmp_ne (tgt := 68) S.1 S.2.1 d_M_takesLetter_61 (by decide) (fun q_61 => ?_) (fun q_61 => ?_)
        · have h := h.2 q_61
          exact wB_M_takesLetter_68 S hr hlk hK hA   u_57 _ _ _ (lv_sub hl [1] rfl) hw h
        · have h := h.1 q_61
          exact wB_M_takesLetter_64 S hr hlk hK hA   u_57 _ _ _ (lv_sub hl [1] rfl) hw h
      · have h := h.1 q_40
        refine lv_aload_n S.1 S.2.1 d_M_takesLetter_43 rfl (lv_at hl 1 rfl) ?_
        refine lv_iload_n S.1 S.2.1 d_M_takesLetter_44 rfl (lv_at hl 2 rfl) ?_
        refine lv_iload_n S.1 S.2.1 d_M_takesLetter_45 rfl (lv_at hl 0 rfl) ?_
        refine w_ci hA hw (w_rv (rest := []) S hK hw (c_M_inClass l x1 x2_22 u_35 _ _ h) (ci := 0) (q0 := 0) rfl rfl (w_cb (fr := 0) (lv := 0) S.2.2.2.2 k_1112 k_1109 k_8 yd_M_inClass rfl rfl ⟨Nat.le_of_ble_eq_true rfl, Nat.le_of_ble_eq_true rfl⟩) k_1111 s_66 rfl hl.1 rfl (Nat.le_of_ble_eq_true rfl) d_M_takesLetter_46 ⟨Nat.le_refl _, Nat.le_refl _⟩) (fun r_46 u_46 H locs h hw => ?_)
        refine lv_if_eq (tgt := 68) S.1 S.2.1 d_M_takesLetter_49 (by decide) (fun q_49 => ?_) (fun q_49 => ?_)
        · have h := h.1 q_49
          exact wB_M_takesLetter_68 S hr hlk hK hA   u_46 _ _ _ (lv_sub hl [1] rfl) hw h
        · have h := h.2 q_49
          refine lv_goto (tgt := 64) S.1 S.2.1 d_M_takesLetter_52 (by decide) ?_
          exact wB_M_takesLetter_64 S hr hlk hK hA   u_46 _ _ _ (lv_sub hl [1] rfl) hw h
  · have h := h.2 q_8
    refine lv_iconst (v := 0) S.1 S.2.1 d_M_takesLetter_11 (by decide) ?_
    exact w_zret S hr hlk hK isB0 hw h d_M_takesLetter_12
set_option maxHeartbeats 4000000 in
set_option maxRecDepth 20000 in
theorem c_M_plain {x : GX} {a : Nat → Nat} (l : Launch) (x1 : Int32) (u : MS) (sz : Nat) (Qc : Int32 → MS → Prop) (h : P_M_plain x1 u Qc) : Met l y_M_plain (wM y_M_plain b_M_plain 2 (some .boolean)) (rmN 3 0 0) (PreC x (mcl x a) [.ref (a 0), .int x1] u sz) (QcI x (mcl x a) (va_A ((mcl x a) u) sz) Qc) 0 0 (va_A ((mcl x a) u) sz) := by
  refine w_enter (by decide +kernel) (Nat.le_of_ble_eq_true rfl) (fun p e s m args below meth c S hr hlk _ hK hA hw ls hl => ?_)
  have hl : lv_has ls 2 [(0, .ref (a 0)), (1, .int x1)] := hl
  refine lv_aload_n S.1 S.2.1 d_M_plain_0 rfl (lv_at hl 0 rfl) ?_
  refine lv_iload_n S.1 S.2.1 d_M_plain_1 rfl (lv_at hl 1 rfl) ?_
  refine w_ci hA hw (w_rv (rest := []) S hK hw (c_M_t l x1 u _ _ h) (ci := 0) (q0 := 0) rfl rfl (w_cb (fr := 0) (lv := 0) S.2.2.2.2 k_1040 k_1037 k_8 yd_M_t rfl rfl ⟨Nat.le_of_ble_eq_true rfl, Nat.le_of_ble_eq_true rfl⟩) k_1039 s_48 rfl hl.1 rfl (Nat.le_of_ble_eq_true rfl) d_M_plain_2 ⟨Nat.le_refl _, Nat.le_refl _⟩) (fun r_2 u_2 H locs h hw => ?_)
  refine lv_bipush (v := 94) S.1 S.2.1 d_M_plain_5 (by decide) ?_
  refine lv_icmp_ne (tgt := 23) S.1 S.2.1 d_M_plain_7 (by decide) (fun q_7 => ?_) (fun q_7 => ?_)
  · have h := h.2 q_7
    refine lv_aload_n S.1 S.2.1 d_M_plain_23 rfl (lv_at hl 0 rfl) ?_
    refine lv_iload_n S.1 S.2.1 d_M_plain_24 rfl (lv_at hl 1 rfl) ?_
    refine w_ci hA hw (w_rv (rest := []) S hK hw (c_M_t l x1 u_2 _ _ h) (ci := 0) (q0 := 0) rfl rfl (w_cb (fr := 0) (lv := 0) S.2.2.2.2 k_1040 k_1037 k_8 yd_M_t rfl rfl ⟨Nat.le_of_ble_eq_true rfl, Nat.le_of_ble_eq_true rfl⟩) k_1039 s_48 rfl hl.1 rfl (Nat.le_of_ble_eq_true rfl) d_M_plain_25 ⟨Nat.le_refl _, Nat.le_refl _⟩) (fun r_25 u_25 H locs h hw => ?_)
    refine lv_bipush (v := 36) S.1 S.2.1 d_M_plain_28 (by decide) ?_
    refine lv_icmp_ne (tgt := 50) S.1 S.2.1 d_M_plain_30 (by decide) (fun q_30 => ?_) (fun q_30 => ?_)
    · have h := h.2 q_30
      refine lv_aload_n S.1 S.2.1 d_M_plain_50 rfl (lv_at hl 0 rfl) ?_
      refine lv_iload_n S.1 S.2.1 d_M_plain_51 rfl (lv_at hl 1 rfl) ?_
      refine w_ci hA hw (w_rv (rest := []) S hK hw (c_M_t l x1 u_25 _ _ h) (ci := 0) (q0 := 0) rfl rfl (w_cb (fr := 0) (lv := 0) S.2.2.2.2 k_1040 k_1037 k_8 yd_M_t rfl rfl ⟨Nat.le_of_ble_eq_true rfl, Nat.le_of_ble_eq_true rfl⟩) k_1039 s_48 rfl hl.1 rfl (Nat.le_of_ble_eq_true rfl) d_M_plain_52 ⟨Nat.le_refl _, Nat.le_refl _⟩) (fun r_52 u_52 H locs h hw => ?_)
      refine lv_bipush (v := 92) S.1 S.2.1 d_M_plain_55 (by decide) ?_
      refine lv_icmp_ne (tgt := 77) S.1 S.2.1 d_M_plain_57 (by decide) (fun q_57 => ?_) (fun q_57 => ?_)
      · have h := h.2 q_57
        refine lv_aload_n S.1 S.2.1 d_M_plain_77 rfl (lv_at hl 0 rfl) ?_
        refine lv_iload_n S.1 S.2.1 d_M_plain_78 rfl (lv_at hl 1 rfl) ?_
        refine w_ci hA hw (w_rv (rest := []) S hK hw (c_M_takesLetter l x1 u_52 _ _ h) (ci := 0) (q0 := 0) rfl rfl (w_cb (fr := 0) (lv := 0) S.2.2.2.2 k_1108 k_1105 k_8 yd_M_takesLetter rfl rfl ⟨Nat.le_of_ble_eq_true rfl, Nat.le_of_ble_eq_true rfl⟩) k_1107 s_65 rfl hl.1 rfl (Nat.le_of_ble_eq_true rfl) d_M_plain_79 ⟨Nat.le_refl _, Nat.le_refl _⟩) (fun r_79 u_79 H locs h hw => ?_)
        exact w_zret S hr hlk hK h.1 hw h.2 d_M_plain_82
      · have h := h.1 q_57
        refine lv_aload_n S.1 S.2.1 d_M_plain_60 rfl (lv_at hl 0 rfl) ?_
        refine lv_aload_n S.1 S.2.1 d_M_plain_61 rfl (lv_at hl 0 rfl) ?_
        refine lv_iload_n S.1 S.2.1 d_M_plain_62 rfl (lv_at hl 1 rfl) ?_
        refine lv_iconst (v := 1) S.1 S.2.1 d_M_plain_63 (by decide) ?_
        refine lv_iadd S.1 S.2.1 d_M_plain_64 ?_
        refine w_ci hA hw (w_rv (rest := [.ref (a 0)]) S hK hw (c_M_t l (x1 + (1 : Int32)) u_52 _ _ h) (ci := 0) (q0 := 0) rfl rfl (w_cb (fr := 0) (lv := 0) S.2.2.2.2 k_1040 k_1037 k_8 yd_M_t rfl rfl ⟨Nat.le_of_ble_eq_true rfl, Nat.le_of_ble_eq_true rfl⟩) k_1039 s_48 rfl hl.1 rfl (Nat.le_of_ble_eq_true rfl) d_M_plain_65 ⟨Nat.le_refl _, Nat.le_refl _⟩) (fun r_65 u_65 H locs h hw => ?_)
        refine lv_bipush (v := 48) S.1 S.2.1 d_M_plain_68 (by decide) ?_
        refine lv_isub S.1 S.2.1 d_M_plain_70 ?_
        refine w_ci hA hw (w_rv (rest := []) S hK hw (c_M_repeats l (r_65 - (48 : Int32)) u_65 _ _ h) (ci := 0) (q0 := 0) rfl rfl (w_cb (fr := 0) (lv := 0) S.2.2.2.2 k_1100 k_1097 k_8 yd_M_repeats rfl rfl ⟨Nat.le_of_ble_eq_true rfl, Nat.le_of_ble_eq_true rfl⟩) k_1099 s_63 rfl hl.1 rfl (Nat.le_of_ble_eq_true rfl) d_M_plain_71 ⟨Nat.le_refl _, Nat.le_refl _⟩) (fun r_71 u_71 H locs h hw => ?_)
        refine lv_goto (tgt := 82) S.1 S.2.1 d_M_plain_74 (by decide) ?_
        exact w_zret S hr hlk hK h.1 hw h.2 d_M_plain_82
    · have h := h.1 q_30
      refine lv_aload_n S.1 S.2.1 d_M_plain_33 rfl (lv_at hl 0 rfl) ?_
      refine mg_p S hK hw d_M_plain_34 ?_
      refine lv_aload_n S.1 S.2.1 d_M_plain_37 rfl (lv_at hl 0 rfl) ?_
      refine mg_letters S hK hw d_M_plain_38 ?_
      refine lv_icmp_ne (tgt := 48) S.1 S.2.1 d_M_plain_41 (by decide) (fun q_41 => ?_) (fun q_41 => ?_)
      · have h := h.2 q_41
        refine lv_iconst (v := 0) S.1 S.2.1 d_M_plain_48 (by decide) ?_
        exact w_zret S hr hlk hK isB0 hw h d_M_plain_49
      · have h := h.1 q_41
        refine lv_iconst (v := 1) S.1 S.2.1 d_M_plain_44 (by decide) ?_
        refine lv_goto (tgt := 49) S.1 S.2.1 d_M_plain_45 (by decide) ?_
        exact w_zret S hr hlk hK isB1 hw h d_M_plain_49
  · have h := h.1 q_7
    refine lv_aload_n S.1 S.2.1 d_M_plain_10 rfl (lv_at hl 0 rfl) ?_
    refine mg_p S hK hw d_M_plain_11 ?_
    refine lv_if_ne (tgt := 21) S.1 S.2.1 d_M_plain_14 (by decide) (fun q_14 => ?_) (fun q_14 => ?_)
    · have h := h.2 q_14
      refine lv_iconst (v := 0) S.1 S.2.1 d_M_plain_21 (by decide) ?_
      exact w_zret S hr hlk hK isB0 hw h d_M_plain_22
    · have h := h.1 q_14
      refine lv_iconst (v := 1) S.1 S.2.1 d_M_plain_17 (by decide) ?_
      refine lv_goto (tgt := 22) S.1 S.2.1 d_M_plain_18 (by decide) ?_
      exact w_zret S hr hlk hK isB1 hw h d_M_plain_22
end MW
