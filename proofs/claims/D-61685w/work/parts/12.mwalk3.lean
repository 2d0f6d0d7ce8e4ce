theorem d_M_compile_0 : decode b_M_compile 0 = .ok (.aload_n 0, 1) := by decide +kernel
theorem d_M_compile_1 : decode b_M_compile 1 = .ok (.invokevirtual 73, 3) := by decide +kernel
theorem d_M_compile_4 : decode b_M_compile 4 = .ok (.istore_n 1, 1) := by decide +kernel
theorem d_M_compile_5 : decode b_M_compile 5 = .ok (.aload_n 0, 1) := by decide +kernel
theorem d_M_compile_6 : decode b_M_compile 6 = .ok (.invokevirtual 77, 3) := by decide +kernel
theorem d_M_compile_9 : decode b_M_compile 9 = .ok (.istore_n 2, 1) := by decide +kernel
theorem d_M_compile_10 : decode b_M_compile 10 = .ok (.iload_n 1, 1) := by decide +kernel
theorem d_M_compile_11 : decode b_M_compile 11 = .ok (.ifCond .lt 15, 3) := by decide +kernel
theorem d_M_compile_14 : decode b_M_compile 14 = .ok (.aload_n 0, 1) := by decide +kernel
theorem d_M_compile_15 : decode b_M_compile 15 = .ok (.iload_n 2, 1) := by decide +kernel
theorem d_M_compile_16 : decode b_M_compile 16 = .ok (.invokevirtual 80, 3) := by decide +kernel
theorem d_M_compile_19 : decode b_M_compile 19 = .ok (.ifCond .eq 7, 3) := by decide +kernel
theorem d_M_compile_22 : decode b_M_compile 22 = .ok (.iconst 1, 1) := by decide +kernel
theorem d_M_compile_23 : decode b_M_compile 23 = .ok (.goto 4, 3) := by decide +kernel
theorem d_M_compile_26 : decode b_M_compile 26 = .ok (.iconst 0, 1) := by decide +kernel
theorem d_M_compile_27 : decode b_M_compile 27 = .ok (.istore_n 3, 1) := by decide +kernel
theorem d_M_compile_28 : decode b_M_compile 28 = .ok (.iload_n 3, 1) := by decide +kernel
theorem d_M_compile_29 : decode b_M_compile 29 = .ok (.ifCond .eq 13, 3) := by decide +kernel
theorem d_M_compile_32 : decode b_M_compile 32 = .ok (.iload_n 1, 1) := by decide +kernel
theorem d_M_compile_33 : decode b_M_compile 33 = .ok (.bipush 60, 2) := by decide +kernel
theorem d_M_compile_35 : decode b_M_compile 35 = .ok (.if_icmp .gt 7, 3) := by decide +kernel
theorem d_M_compile_38 : decode b_M_compile 38 = .ok (.iconst 1, 1) := by decide +kernel
theorem d_M_compile_39 : decode b_M_compile 39 = .ok (.goto 4, 3) := by decide +kernel
theorem d_M_compile_42 : decode b_M_compile 42 = .ok (.iconst 0, 1) := by decide +kernel
theorem d_M_compile_43 : decode b_M_compile 43 = .ok (.istore 4, 2) := by decide +kernel
theorem d_M_compile_45 : decode b_M_compile 45 = .ok (.iload 4, 2) := by decide +kernel
theorem d_M_compile_47 : decode b_M_compile 47 = .ok (.ifCond .eq 61, 3) := by decide +kernel
theorem d_M_compile_50 : decode b_M_compile 50 = .ok (.aload_n 0, 1) := by decide +kernel
theorem d_M_compile_51 : decode b_M_compile 51 = .ok (.iconst 1, 1) := by decide +kernel
theorem d_M_compile_52 : decode b_M_compile 52 = .ok (.putfield 83, 3) := by decide +kernel
theorem d_M_compile_55 : decode b_M_compile 55 = .ok (.aload_n 0, 1) := by decide +kernel
theorem d_M_compile_56 : decode b_M_compile 56 = .ok (.aload_n 0, 1) := by decide +kernel
theorem d_M_compile_57 : decode b_M_compile 57 = .ok (.getfield 50, 3) := by decide +kernel
theorem d_M_compile_60 : decode b_M_compile 60 = .ok (.putfield 87, 3) := by decide +kernel
theorem d_M_compile_63 : decode b_M_compile 63 = .ok (.iconst 0, 1) := by decide +kernel
theorem d_M_compile_64 : decode b_M_compile 64 = .ok (.istore 5, 2) := by decide +kernel
theorem d_M_compile_66 : decode b_M_compile 66 = .ok (.iload 5, 2) := by decide +kernel
theorem d_M_compile_68 : decode b_M_compile 68 = .ok (.bipush 32, 2) := by decide +kernel
theorem d_M_compile_70 : decode b_M_compile 70 = .ok (.if_icmp .ge 23, 3) := by decide +kernel
theorem d_M_compile_73 : decode b_M_compile 73 = .ok (.aload_n 0, 1) := by decide +kernel
theorem d_M_compile_74 : decode b_M_compile 74 = .ok (.getfield 13, 3) := by decide +kernel
theorem d_M_compile_77 : decode b_M_compile 77 = .ok (.iload 5, 2) := by decide +kernel
theorem d_M_compile_79 : decode b_M_compile 79 = .ok (.aload_n 0, 1) := by decide +kernel
theorem d_M_compile_80 : decode b_M_compile 80 = .ok (.getfield 7, 3) := by decide +kernel
theorem d_M_compile_83 : decode b_M_compile 83 = .ok (.iload 5, 2) := by decide +kernel
theorem d_M_compile_85 : decode b_M_compile 85 = .ok (.iaload, 1) := by decide +kernel
theorem d_M_compile_86 : decode b_M_compile 86 = .ok (.iastore, 1) := by decide +kernel
theorem d_M_compile_87 : decode b_M_compile 87 = .ok (.iinc 5 1, 3) := by decide +kernel
theorem d_M_compile_90 : decode b_M_compile 90 = .ok (.goto (-24), 3) := by decide +kernel
theorem d_M_compile_93 : decode b_M_compile 93 = .ok (.aload_n 0, 1) := by decide +kernel
theorem d_M_compile_94 : decode b_M_compile 94 = .ok (.iload_n 2, 1) := by decide +kernel
theorem d_M_compile_95 : decode b_M_compile 95 = .ok (.putfield 90, 3) := by decide +kernel
theorem d_M_compile_98 : decode b_M_compile 98 = .ok (.aload_n 0, 1) := by decide +kernel
theorem d_M_compile_99 : decode b_M_compile 99 = .ok (.iload_n 1, 1) := by decide +kernel
theorem d_M_compile_100 : decode b_M_compile 100 = .ok (.putfield 93, 3) := by decide +kernel
theorem d_M_compile_103 : decode b_M_compile 103 = .ok (.aload_n 0, 1) := by decide +kernel
theorem d_M_compile_104 : decode b_M_compile 104 = .ok (.iconst 0, 1) := by decide +kernel
theorem d_M_compile_105 : decode b_M_compile 105 = .ok (.putfield 96, 3) := by decide +kernel
theorem d_M_compile_108 : decode b_M_compile 108 = .ok (.aload_n 0, 1) := by decide +kernel
theorem d_M_compile_109 : decode b_M_compile 109 = .ok (.iconst 0, 1) := by decide +kernel
theorem d_M_compile_110 : decode b_M_compile 110 = .ok (.putfield 50, 3) := by decide +kernel
theorem d_M_compile_113 : decode b_M_compile 113 = .ok (.iload 4, 2) := by decide +kernel
theorem d_M_compile_115 : decode b_M_compile 115 = .ok (.ifCond .eq 7, 3) := by decide +kernel
theorem d_M_compile_118 : decode b_M_compile 118 = .ok (.iload_n 2, 1) := by decide +kernel
theorem d_M_compile_119 : decode b_M_compile 119 = .ok (.goto 14, 3) := by decide +kernel
theorem d_M_compile_122 : decode b_M_compile 122 = .ok (.iload_n 3, 1) := by decide +kernel
theorem d_M_compile_123 : decode b_M_compile 123 = .ok (.ifCond .eq 8, 3) := by decide +kernel
theorem d_M_compile_126 : decode b_M_compile 126 = .ok (.bipush (-2), 2) := by decide +kernel
theorem d_M_compile_128 : decode b_M_compile 128 = .ok (.goto 5, 3) := by decide +kernel
theorem d_M_compile_131 : decode b_M_compile 131 = .ok (.bipush (-3), 2) := by decide +kernel
theorem d_M_compile_133 : decode b_M_compile 133 = .ok (.ireturn, 1) := by decide +kernel
theorem d_M_feed_0 : decode b_M_feed 0 = .ok (.iload_n 1, 1) := by decide +kernel
theorem d_M_feed_1 : decode b_M_feed 1 = .ok (.invokestatic 43, 3) := by decide +kernel
theorem d_M_feed_4 : decode b_M_feed 4 = .ok (.ifCond .ne 5, 3) := by decide +kernel
theorem d_M_feed_7 : decode b_M_feed 7 = .ok (.iconst (-1), 1) := by decide +kernel
theorem d_M_feed_8 : decode b_M_feed 8 = .ok (.ireturn, 1) := by decide +kernel
theorem d_M_feed_9 : decode b_M_feed 9 = .ok (.aload_n 0, 1) := by decide +kernel
theorem d_M_feed_10 : decode b_M_feed 10 = .ok (.getfield 99, 3) := by decide +kernel
theorem d_M_feed_13 : decode b_M_feed 13 = .ok (.bipush 40, 2) := by decide +kernel
theorem d_M_feed_15 : decode b_M_feed 15 = .ok (.if_icmp .ne 6, 3) := by decide +kernel
theorem d_M_feed_18 : decode b_M_feed 18 = .ok (.bipush (-2), 2) := by decide +kernel
theorem d_M_feed_20 : decode b_M_feed 20 = .ok (.ireturn, 1) := by decide +kernel
theorem d_M_feed_21 : decode b_M_feed 21 = .ok (.aload_n 0, 1) := by decide +kernel
theorem d_M_feed_22 : decode b_M_feed 22 = .ok (.getfield 16, 3) := by decide +kernel
theorem d_M_feed_25 : decode b_M_feed 25 = .ok (.aload_n 0, 1) := by decide +kernel
theorem d_M_feed_26 : decode b_M_feed 26 = .ok (.getfield 99, 3) := by decide +kernel
theorem d_M_feed_29 : decode b_M_feed 29 = .ok (.iload_n 1, 1) := by decide +kernel
theorem d_M_feed_30 : decode b_M_feed 30 = .ok (.iastore, 1) := by decide +kernel
theorem d_M_feed_31 : decode b_M_feed 31 = .ok (.aload_n 0, 1) := by decide +kernel
theorem d_M_feed_32 : decode b_M_feed 32 = .ok (.dup, 1) := by decide +kernel
theorem d_M_feed_33 : decode b_M_feed 33 = .ok (.getfield 99, 3) := by decide +kernel
theorem d_M_feed_36 : decode b_M_feed 36 = .ok (.iconst 1, 1) := by decide +kernel
theorem d_M_feed_37 : decode b_M_feed 37 = .ok (.iadd, 1) := by decide +kernel
theorem d_M_feed_38 : decode b_M_feed 38 = .ok (.putfield 99, 3) := by decide +kernel
theorem d_M_feed_41 : decode b_M_feed 41 = .ok (.aload_n 0, 1) := by decide +kernel
theorem d_M_feed_42 : decode b_M_feed 42 = .ok (.iconst 0, 1) := by decide +kernel
theorem d_M_feed_43 : decode b_M_feed 43 = .ok (.putfield 96, 3) := by decide +kernel
theorem d_M_feed_46 : decode b_M_feed 46 = .ok (.aload_n 0, 1) := by decide +kernel
theorem d_M_feed_47 : decode b_M_feed 47 = .ok (.getfield 99, 3) := by decide +kernel
theorem d_M_feed_50 : decode b_M_feed 50 = .ok (.ireturn, 1) := by decide +kernel
theorem d_M_clear_0 : decode b_M_clear 0 = .ok (.aload_n 0, 1) := by decide +kernel
theorem d_M_clear_1 : decode b_M_clear 1 = .ok (.getfield 99, 3) := by decide +kernel
theorem d_M_clear_4 : decode b_M_clear 4 = .ok (.istore_n 1, 1) := by decide +kernel
theorem d_M_clear_5 : decode b_M_clear 5 = .ok (.aload_n 0, 1) := by decide +kernel
theorem d_M_clear_6 : decode b_M_clear 6 = .ok (.iconst 0, 1) := by decide +kernel
theorem d_M_clear_7 : decode b_M_clear 7 = .ok (.putfield 99, 3) := by decide +kernel
theorem d_M_clear_10 : decode b_M_clear 10 = .ok (.aload_n 0, 1) := by decide +kernel
theorem d_M_clear_11 : decode b_M_clear 11 = .ok (.iconst 0, 1) := by decide +kernel
theorem d_M_clear_12 : decode b_M_clear 12 = .ok (.putfield 96, 3) := by decide +kernel
theorem d_M_clear_15 : decode b_M_clear 15 = .ok (.iload_n 1, 1) := by decide +kernel
theorem d_M_clear_16 : decode b_M_clear 16 = .ok (.ireturn, 1) := by decide +kernel
theorem d_M_go_0 : decode b_M_go 0 = .ok (.aload_n 0, 1) := by decide +kernel
theorem d_M_go_1 : decode b_M_go 1 = .ok (.iload_n 1, 1) := by decide +kernel
theorem d_M_go_2 : decode b_M_go 2 = .ok (.putfield 127, 3) := by decide +kernel
theorem d_M_go_5 : decode b_M_go 5 = .ok (.aload_n 0, 1) := by decide +kernel
theorem d_M_go_6 : decode b_M_go 6 = .ok (.iload_n 2, 1) := by decide +kernel
theorem d_M_go_7 : decode b_M_go 7 = .ok (.putfield 130, 3) := by decide +kernel
theorem d_M_go_10 : decode b_M_go 10 = .ok (.aload_n 0, 1) := by decide +kernel
theorem d_M_go_11 : decode b_M_go 11 = .ok (.iload_n 3, 1) := by decide +kernel
theorem d_M_go_12 : decode b_M_go 12 = .ok (.putfield 133, 3) := by decide +kernel
theorem d_M_go_15 : decode b_M_go 15 = .ok (.return_, 1) := by decide +kernel
theorem d_M_retreat_0 : decode b_M_retreat 0 = .ok (.aload_n 0, 1) := by decide +kernel
theorem d_M_retreat_1 : decode b_M_retreat 1 = .ok (.getfield 117, 3) := by decide +kernel
theorem d_M_retreat_4 : decode b_M_retreat 4 = .ok (.ifCond .ne 5, 3) := by decide +kernel
theorem d_M_retreat_7 : decode b_M_retreat 7 = .ok (.iconst 0, 1) := by decide +kernel
theorem d_M_retreat_8 : decode b_M_retreat 8 = .ok (.ireturn, 1) := by decide +kernel
theorem d_M_retreat_9 : decode b_M_retreat 9 = .ok (.aload_n 0, 1) := by decide +kernel
theorem d_M_retreat_10 : decode b_M_retreat 10 = .ok (.dup, 1) := by decide +kernel
theorem d_M_retreat_11 : decode b_M_retreat 11 = .ok (.getfield 117, 3) := by decide +kernel
theorem d_M_retreat_14 : decode b_M_retreat 14 = .ok (.iconst 1, 1) := by decide +kernel
theorem d_M_retreat_15 : decode b_M_retreat 15 = .ok (.isub, 1) := by decide +kernel
theorem d_M_retreat_16 : decode b_M_retreat 16 = .ok (.putfield 117, 3) := by decide +kernel
theorem d_M_retreat_19 : decode b_M_retreat 19 = .ok (.aload_n 0, 1) := by decide +kernel
theorem d_M_retreat_20 : decode b_M_retreat 20 = .ok (.getfield 29, 3) := by decide +kernel
theorem d_M_retreat_23 : decode b_M_retreat 23 = .ok (.aload_n 0, 1) := by decide +kernel
theorem d_M_retreat_24 : decode b_M_retreat 24 = .ok (.getfield 117, 3) := by decide +kernel
theorem d_M_retreat_27 : decode b_M_retreat 27 = .ok (.laload, 1) := by decide +kernel
theorem d_M_retreat_28 : decode b_M_retreat 28 = .ok (.lstore_n 1, 1) := by decide +kernel
theorem d_M_retreat_29 : decode b_M_retreat 29 = .ok (.aload_n 0, 1) := by decide +kernel
theorem d_M_retreat_30 : decode b_M_retreat 30 = .ok (.lload_n 1, 1) := by decide +kernel
theorem d_M_retreat_31 : decode b_M_retreat 31 = .ok (.bipush 9, 2) := by decide +kernel
theorem d_M_retreat_33 : decode b_M_retreat 33 = .ok (.lshr, 1) := by decide +kernel
theorem d_M_retreat_34 : decode b_M_retreat 34 = .ok (.l2i, 1) := by decide +kernel
theorem d_M_retreat_35 : decode b_M_retreat 35 = .ok (.bipush 63, 2) := by decide +kernel
theorem d_M_retreat_37 : decode b_M_retreat 37 = .ok (.iand, 1) := by decide +kernel
theorem d_M_retreat_38 : decode b_M_retreat 38 = .ok (.putfield 120, 3) := by decide +kernel
theorem d_M_retreat_41 : decode b_M_retreat 41 = .ok (.aload_n 0, 1) := by decide +kernel
theorem d_M_retreat_42 : decode b_M_retreat 42 = .ok (.aload_n 0, 1) := by decide +kernel
theorem d_M_retreat_43 : decode b_M_retreat 43 = .ok (.getfield 32, 3) := by decide +kernel
theorem d_M_retreat_46 : decode b_M_retreat 46 = .ok (.aload_n 0, 1) := by decide +kernel
theorem d_M_retreat_47 : decode b_M_retreat 47 = .ok (.getfield 117, 3) := by decide +kernel
theorem d_M_retreat_50 : decode b_M_retreat 50 = .ok (.laload, 1) := by decide +kernel
theorem d_M_retreat_51 : decode b_M_retreat 51 = .ok (.putfield 123, 3) := by decide +kernel
theorem d_M_retreat_54 : decode b_M_retreat 54 = .ok (.aload_n 0, 1) := by decide +kernel
theorem d_M_retreat_55 : decode b_M_retreat 55 = .ok (.lload_n 1, 1) := by decide +kernel
theorem d_M_retreat_56 : decode b_M_retreat 56 = .ok (.l2i, 1) := by decide +kernel
theorem d_M_retreat_57 : decode b_M_retreat 57 = .ok (.bipush 7, 2) := by decide +kernel
theorem d_M_retreat_59 : decode b_M_retreat 59 = .ok (.iand, 1) := by decide +kernel
theorem d_M_retreat_60 : decode b_M_retreat 60 = .ok (.lload_n 1, 1) := by decide +kernel
theorem d_M_retreat_61 : decode b_M_retreat 61 = .ok (.iconst 3, 1) := by decide +kernel
theorem d_M_retreat_62 : decode b_M_retreat 62 = .ok (.lshr, 1) := by decide +kernel
theorem d_M_retreat_63 : decode b_M_retreat 63 = .ok (.l2i, 1) := by decide +kernel
theorem d_M_retreat_64 : decode b_M_retreat 64 = .ok (.bipush 63, 2) := by decide +kernel
theorem d_M_retreat_66 : decode b_M_retreat 66 = .ok (.iand, 1) := by decide +kernel
theorem d_M_retreat_67 : decode b_M_retreat 67 = .ok (.lload_n 1, 1) := by decide +kernel
theorem d_M_retreat_68 : decode b_M_retreat 68 = .ok (.bipush 15, 2) := by decide +kernel
theorem d_M_retreat_70 : decode b_M_retreat 70 = .ok (.lshr, 1) := by decide +kernel
theorem d_M_retreat_71 : decode b_M_retreat 71 = .ok (.l2i, 1) := by decide +kernel
theorem d_M_retreat_72 : decode b_M_retreat 72 = .ok (.sipush 8191, 3) := by decide +kernel
theorem d_M_retreat_75 : decode b_M_retreat 75 = .ok (.iand, 1) := by decide +kernel
theorem d_M_retreat_76 : decode b_M_retreat 76 = .ok (.invokevirtual 163, 3) := by decide +kernel
theorem d_M_retreat_79 : decode b_M_retreat 79 = .ok (.aload_n 0, 1) := by decide +kernel
theorem d_M_retreat_80 : decode b_M_retreat 80 = .ok (.lload_n 1, 1) := by decide +kernel
theorem d_M_retreat_81 : decode b_M_retreat 81 = .ok (.bipush 28, 2) := by decide +kernel
theorem d_M_retreat_83 : decode b_M_retreat 83 = .ok (.lshr, 1) := by decide +kernel
theorem d_M_retreat_84 : decode b_M_retreat 84 = .ok (.l2i, 1) := by decide +kernel
theorem d_M_retreat_85 : decode b_M_retreat 85 = .ok (.sipush 8191, 3) := by decide +kernel
theorem d_M_retreat_88 : decode b_M_retreat 88 = .ok (.iand, 1) := by decide +kernel
theorem d_M_retreat_89 : decode b_M_retreat 89 = .ok (.putfield 114, 3) := by decide +kernel
theorem d_M_retreat_92 : decode b_M_retreat 92 = .ok (.iconst 1, 1) := by decide +kernel
theorem d_M_retreat_93 : decode b_M_retreat 93 = .ok (.ireturn, 1) := by decide +kernel
theorem d_M_t_0 : decode b_M_t 0 = .ok (.iload_n 1, 1) := by decide +kernel
theorem d_M_t_1 : decode b_M_t 1 = .ok (.aload_n 0, 1) := by decide +kernel
theorem d_M_t_2 : decode b_M_t 2 = .ok (.getfield 87, 3) := by decide +kernel
theorem d_M_t_5 : decode b_M_t 5 = .ok (.if_icmp .ge 12, 3) := by decide +kernel
theorem d_M_t_8 : decode b_M_t 8 = .ok (.aload_n 0, 1) := by decide +kernel
theorem d_M_t_9 : decode b_M_t 9 = .ok (.getfield 13, 3) := by decide +kernel
theorem d_M_t_12 : decode b_M_t 12 = .ok (.iload_n 1, 1) := by decide +kernel
theorem d_M_t_13 : decode b_M_t 13 = .ok (.iaload, 1) := by decide +kernel
theorem d_M_t_14 : decode b_M_t 14 = .ok (.goto 4, 3) := by decide +kernel
theorem d_M_t_17 : decode b_M_t 17 = .ok (.iconst 0, 1) := by decide +kernel
theorem d_M_t_18 : decode b_M_t 18 = .ok (.ireturn, 1) := by decide +kernel
theorem d_M_rowEnds_0 : decode b_M_rowEnds 0 = .ok (.iload_n 1, 1) := by decide +kernel
theorem d_M_rowEnds_1 : decode b_M_rowEnds 1 = .ok (.aload_n 0, 1) := by decide +kernel
theorem d_M_rowEnds_2 : decode b_M_rowEnds 2 = .ok (.getfield 87, 3) := by decide +kernel
theorem d_M_rowEnds_5 : decode b_M_rowEnds 5 = .ok (.if_icmp .ge 23, 3) := by decide +kernel
theorem d_M_rowEnds_8 : decode b_M_rowEnds 8 = .ok (.aload_n 0, 1) := by decide +kernel
theorem d_M_rowEnds_9 : decode b_M_rowEnds 9 = .ok (.iload_n 1, 1) := by decide +kernel
theorem d_M_rowEnds_10 : decode b_M_rowEnds 10 = .ok (.invokevirtual 102, 3) := by decide +kernel
theorem d_M_rowEnds_13 : decode b_M_rowEnds 13 = .ok (.bipush 124, 2) := by decide +kernel
theorem d_M_rowEnds_15 : decode b_M_rowEnds 15 = .ok (.if_icmp .eq 13, 3) := by decide +kernel
theorem d_M_rowEnds_18 : decode b_M_rowEnds 18 = .ok (.aload_n 0, 1) := by decide +kernel
theorem d_M_rowEnds_19 : decode b_M_rowEnds 19 = .ok (.iload_n 1, 1) := by decide +kernel
theorem d_M_rowEnds_20 : decode b_M_rowEnds 20 = .ok (.invokevirtual 102, 3) := by decide +kernel
theorem d_M_rowEnds_23 : decode b_M_rowEnds 23 = .ok (.bipush 41, 2) := by decide +kernel
theorem d_M_rowEnds_25 : decode b_M_rowEnds 25 = .ok (.if_icmp .ne 7, 3) := by decide +kernel
theorem d_M_rowEnds_28 : decode b_M_rowEnds 28 = .ok (.iconst 1, 1) := by decide +kernel
theorem d_M_rowEnds_29 : decode b_M_rowEnds 29 = .ok (.goto 4, 3) := by decide +kernel
theorem d_M_rowEnds_32 : decode b_M_rowEnds 32 = .ok (.iconst 0, 1) := by decide +kernel
theorem d_M_rowEnds_33 : decode b_M_rowEnds 33 = .ok (.ireturn, 1) := by decide +kernel
theorem d_M_closing_0 : decode b_M_closing 0 = .ok (.iconst 0, 1) := by decide +kernel
theorem d_M_closing_1 : decode b_M_closing 1 = .ok (.istore_n 2, 1) := by decide +kernel
theorem d_M_closing_2 : decode b_M_closing 2 = .ok (.iload_n 1, 1) := by decide +kernel
theorem d_M_closing_3 : decode b_M_closing 3 = .ok (.istore_n 3, 1) := by decide +kernel
theorem d_M_closing_4 : decode b_M_closing 4 = .ok (.iload_n 3, 1) := by decide +kernel
theorem d_M_closing_5 : decode b_M_closing 5 = .ok (.aload_n 0, 1) := by decide +kernel
theorem d_M_closing_6 : decode b_M_closing 6 = .ok (.getfield 87, 3) := by decide +kernel
theorem d_M_closing_9 : decode b_M_closing 9 = .ok (.if_icmp .ge 43, 3) := by decide +kernel
theorem d_M_closing_12 : decode b_M_closing 12 = .ok (.aload_n 0, 1) := by decide +kernel
theorem d_M_closing_13 : decode b_M_closing 13 = .ok (.getfield 13, 3) := by decide +kernel
theorem d_M_closing_16 : decode b_M_closing 16 = .ok (.iload_n 3, 1) := by decide +kernel
theorem d_M_closing_17 : decode b_M_closing 17 = .ok (.iaload, 1) := by decide +kernel
theorem d_M_closing_18 : decode b_M_closing 18 = .ok (.bipush 40, 2) := by decide +kernel
theorem d_M_closing_20 : decode b_M_closing 20 = .ok (.if_icmp .ne 6, 3) := by decide +kernel
theorem d_M_closing_23 : decode b_M_closing 23 = .ok (.iinc 2 1, 3) := by decide +kernel
theorem d_M_closing_26 : decode b_M_closing 26 = .ok (.aload_n 0, 1) := by decide +kernel
theorem d_M_closing_27 : decode b_M_closing 27 = .ok (.getfield 13, 3) := by decide +kernel
theorem d_M_closing_30 : decode b_M_closing 30 = .ok (.iload_n 3, 1) := by decide +kernel
theorem d_M_closing_31 : decode b_M_closing 31 = .ok (.iaload, 1) := by decide +kernel
theorem d_M_closing_32 : decode b_M_closing 32 = .ok (.bipush 41, 2) := by decide +kernel
theorem d_M_closing_34 : decode b_M_closing 34 = .ok (.if_icmp .ne 6, 3) := by decide +kernel
theorem d_M_closing_37 : decode b_M_closing 37 = .ok (.iinc 2 (-1), 3) := by decide +kernel
theorem d_M_closing_40 : decode b_M_closing 40 = .ok (.iload_n 2, 1) := by decide +kernel
theorem d_M_closing_41 : decode b_M_closing 41 = .ok (.ifCond .ne 5, 3) := by decide +kernel
theorem d_M_closing_44 : decode b_M_closing 44 = .ok (.iload_n 3, 1) := by decide +kernel
theorem d_M_closing_45 : decode b_M_closing 45 = .ok (.ireturn, 1) := by decide +kernel
theorem d_M_closing_46 : decode b_M_closing 46 = .ok (.iinc 3 1, 3) := by decide +kernel
theorem d_M_closing_49 : decode b_M_closing 49 = .ok (.goto (-45), 3) := by decide +kernel
theorem d_M_closing_52 : decode b_M_closing 52 = .ok (.aload_n 0, 1) := by decide +kernel
theorem d_M_closing_53 : decode b_M_closing 53 = .ok (.getfield 87, 3) := by decide +kernel
theorem d_M_closing_56 : decode b_M_closing 56 = .ok (.ireturn, 1) := by decide +kernel
theorem d_M_behindAtom_0 : decode b_M_behindAtom 0 = .ok (.aload_n 0, 1) := by decide +kernel
theorem d_M_behindAtom_1 : decode b_M_behindAtom 1 = .ok (.iload_n 1, 1) := by decide +kernel
theorem d_M_behindAtom_2 : decode b_M_behindAtom 2 = .ok (.invokevirtual 102, 3) := by decide +kernel
theorem d_M_behindAtom_5 : decode b_M_behindAtom 5 = .ok (.bipush 40, 2) := by decide +kernel
theorem d_M_behindAtom_7 : decode b_M_behindAtom 7 = .ok (.if_icmp .ne 11, 3) := by decide +kernel
theorem d_M_behindAtom_10 : decode b_M_behindAtom 10 = .ok (.aload_n 0, 1) := by decide +kernel
theorem d_M_behindAtom_11 : decode b_M_behindAtom 11 = .ok (.iload_n 1, 1) := by decide +kernel
theorem d_M_behindAtom_12 : decode b_M_behindAtom 12 = .ok (.invokevirtual 105, 3) := by decide +kernel
theorem d_M_behindAtom_15 : decode b_M_behindAtom 15 = .ok (.iconst 1, 1) := by decide +kernel
theorem d_M_behindAtom_16 : decode b_M_behindAtom 16 = .ok (.iadd, 1) := by decide +kernel
theorem d_M_behindAtom_17 : decode b_M_behindAtom 17 = .ok (.ireturn, 1) := by decide +kernel
theorem d_M_behindAtom_18 : decode b_M_behindAtom 18 = .ok (.aload_n 0, 1) := by decide +kernel
theorem d_M_behindAtom_19 : decode b_M_behindAtom 19 = .ok (.iload_n 1, 1) := by decide +kernel
theorem d_M_behindAtom_20 : decode b_M_behindAtom 20 = .ok (.invokevirtual 102, 3) := by decide +kernel
theorem d_M_behindAtom_23 : decode b_M_behindAtom 23 = .ok (.bipush 92, 2) := by decide +kernel
theorem d_M_behindAtom_25 : decode b_M_behindAtom 25 = .ok (.if_icmp .ne 7, 3) := by decide +kernel
theorem d_M_behindAtom_28 : decode b_M_behindAtom 28 = .ok (.iload_n 1, 1) := by decide +kernel
theorem d_M_behindAtom_29 : decode b_M_behindAtom 29 = .ok (.iconst 2, 1) := by decide +kernel
theorem d_M_behindAtom_30 : decode b_M_behindAtom 30 = .ok (.iadd, 1) := by decide +kernel
theorem d_M_behindAtom_31 : decode b_M_behindAtom 31 = .ok (.ireturn, 1) := by decide +kernel
theorem d_M_behindAtom_32 : decode b_M_behindAtom 32 = .ok (.iload_n 1, 1) := by decide +kernel
theorem d_M_behindAtom_33 : decode b_M_behindAtom 33 = .ok (.istore_n 2, 1) := by decide +kernel
theorem d_M_behindAtom_34 : decode b_M_behindAtom 34 = .ok (.aload_n 0, 1) := by decide +kernel
theorem d_M_behindAtom_35 : decode b_M_behindAtom 35 = .ok (.iload_n 1, 1) := by decide +kernel
theorem d_M_behindAtom_36 : decode b_M_behindAtom 36 = .ok (.invokevirtual 102, 3) := by decide +kernel
theorem d_M_behindAtom_39 : decode b_M_behindAtom 39 = .ok (.bipush 91, 2) := by decide +kernel
theorem d_M_behindAtom_41 : decode b_M_behindAtom 41 = .ok (.if_icmp .ne 27, 3) := by decide +kernel
theorem d_M_behindAtom_44 : decode b_M_behindAtom 44 = .ok (.aload_n 0, 1) := by decide +kernel
theorem d_M_behindAtom_45 : decode b_M_behindAtom 45 = .ok (.iload_n 2, 1) := by decide +kernel
theorem d_M_behindAtom_46 : decode b_M_behindAtom 46 = .ok (.invokevirtual 102, 3) := by decide +kernel
theorem d_M_behindAtom_49 : decode b_M_behindAtom 49 = .ok (.bipush 93, 2) := by decide +kernel
theorem d_M_behindAtom_51 : decode b_M_behindAtom 51 = .ok (.if_icmp .eq 17, 3) := by decide +kernel
theorem d_M_behindAtom_54 : decode b_M_behindAtom 54 = .ok (.iload_n 2, 1) := by decide +kernel
theorem d_M_behindAtom_55 : decode b_M_behindAtom 55 = .ok (.aload_n 0, 1) := by decide +kernel
theorem d_M_behindAtom_56 : decode b_M_behindAtom 56 = .ok (.getfield 87, 3) := by decide +kernel
theorem d_M_behindAtom_59 : decode b_M_behindAtom 59 = .ok (.if_icmp .ge 9, 3) := by decide +kernel
theorem d_M_behindAtom_62 : decode b_M_behindAtom 62 = .ok (.iinc 2 1, 3) := by decide +kernel
theorem d_M_behindAtom_65 : decode b_M_behindAtom 65 = .ok (.goto (-21), 3) := by decide +kernel
theorem d_M_behindAtom_68 : decode b_M_behindAtom 68 = .ok (.iload_n 2, 1) := by decide +kernel
theorem d_M_behindAtom_69 : decode b_M_behindAtom 69 = .ok (.iconst 1, 1) := by decide +kernel
theorem d_M_behindAtom_70 : decode b_M_behindAtom 70 = .ok (.iadd, 1) := by decide +kernel
theorem d_M_behindAtom_71 : decode b_M_behindAtom 71 = .ok (.ireturn, 1) := by decide +kernel
section MW
variable {p : Program} {l : Launch} {e : Env} {s : State} {m : MethodId} {args : Array Value} {below : List Frame} {meth : Method} {c : Code} {x : GX} {a : Nat → Nat} {A : Nat → Prop}
set_option maxHeartbeats 4000000 in
set_option maxRecDepth 20000 in
theorem wB_M_compile_108 (S : CallFix p m c b_M_compile 6 s args lw_tg R_Mod) (hr : meth.sig.returnType = some .int) (hlk : meth.locks = false) (hK : GK x s) (hA : ∀ q : Nat, s.heap.size ≤ q → A q) {Qc : Int32 → MS → Prop} : ∀ (x2 : Int32) (x3 : Int32) (x4 : Int32) (u : MS) (ls : Array Slot) (H : Heap) (locs : List Loc), lv_has ls 6 [(0, .ref (a 0)), (2, .int x2), (3, .int x3), (4, .int x4)] → wd x A s.heap ((mcl x a) u) H locs → B_M_compile_108 Qc  x2 x3 x4 u → W p l e (rmN 5 0 0) s m args below meth c H locs 0 0 (MQ below (QcI x (mcl x a) A Qc) args s 0 0 A) (F0 m 108 ls []) := by
  intro x2 x3 x4 u ls H locs hl hw h
  refine lv_aload_n S.1 S.2.1 d_M_compile_108 rfl (lv_at hl 0 rfl) ?_
  refine lv_iconst (v := 0) S.1 S.2.1 d_M_compile_109 (by decide) ?_
  refine mp_drafted S hK hw d_M_compile_110 (fun H locs hw => ?_)
  refine lv_iload S.1 S.2.1 d_M_compile_113 (lv_at hl 3 rfl) ?_
  refine lv_if_eq (tgt := 122) S.1 S.2.1 d_M_compile_115 (by decide) (fun q_115 => ?_) (fun q_115 => ?_)
  · have h := h.1 q_115
    refine lv_iload_n S.1 S.2.1 d_M_compile_122 rfl (lv_at hl 2 rfl) ?_
    refine lv_if_eq (tgt := 131) S.1 S.2.1 d_M_compile_123 (by decide) (fun q_123 => ?_) (fun q_123 => ?_)
    · have h := h.1 q_123
      refine lv_bipush (v := -3) S.1 S.2.1 d_M_compile_131 (by decide) ?_
      exact w_iret S hr hlk hK hw h d_M_compile_133
    · have h := h.2 q_123
      refine lv_bipush (v := -2) S.1 S.2.1 d_M_compile_126 (by decide) ?_
      refine lv_goto (tgt := 133) S.1 S.2.1 d_M_compile_128 (by decide) ?_
      exact w_iret S hr hlk hK hw h d_M_compile_133
  · have h := h.2 q_115
    refine lv_iload_n S.1 S.2.1 d_M_compile_118 rfl (lv_at hl 1 rfl) ?_
    refine lv_goto (tgt := 133) S.1 S.2.1 d_M_compile_119 (by decide) ?_
    exact w_iret S hr hlk hK hw h d_M_compile_133
set_option maxHeartbeats 4000000 in
set_option maxRecDepth 20000 in
theorem wL_M_compile_66 (S : CallFix p m c b_M_compile 6 s args lw_tg R_Mod) (hr : meth.sig.returnType = some .int) (hlk : meth.locks = false) (hK : GK x s) (hA : ∀ q : Nat, s.heap.size ≤ q → A q) {Qc : Int32 → MS → Prop} : ∀ (n : Nat) (x1 : Int32) (x2 : Int32) (x3 : Int32) (x4 : Int32) (x5 : Int32) (u : MS) (ls : Array Slot) (H : Heap) (locs : List Loc), lv_has ls 6 [(0, .ref (a 0)), (1, .int x1), (2, .int x2), (3, .int x3), (4, .int x4), (5, .int x5)] → wd x A s.heap ((mcl x a) u) H locs → L_M_compile_66 Qc  n x1 x2 x3 x4 x5 u → W p l e (rmN 5 0 0) s m args below meth c H locs 0 0 (MQ below (QcI x (mcl x a) A Qc) args s 0 0 A) (F0 m 66 ls []) := by
  intro n
  induction n with
  | zero =>
    intro x1 x2 x3 x4 x5 u ls H locs hl hw h
    exact absurd h id
  | succ n ih =>
    intro x1 x2 x3 x4 x5 u ls H locs hl hw h
    refine lv_iload S.1 S.2.1 d_M_compile_66 (lv_at hl 5 rfl) ?_
    refine lv_bipush (v := 32) S.1 S.2.1 d_M_compile_68 (by decide) ?_
    refine lv_icmp_ge (tgt := 93) S.1 S.2.1 d_M_compile_70 (by decide) (fun q_70 => ?_) (fun q_70 => ?_)
    · have h := h.1 q_70
      refine lv_aload_n S.1 S.2.1 d_M_compile_93 rfl (lv_at hl 0 rfl) ?_
      refine lv_iload_n S.1 S.2.1 d_M_compile_94 rfl (lv_at hl 2 rfl) ?_
      refine mp_groups S hK hw d_M_compile_95 (fun H locs hw => ?_)
      refine lv_aload_n S.1 S.2.1 d_M_compile_98 rfl (lv_at hl 0 rfl) ?_
      refine lv_iload_n S.1 S.2.1 d_M_compile_99 rfl (lv_at hl 1 rfl) ?_
      refine mp_size S hK hw d_M_compile_100 (fun H locs hw => ?_)
      refine lv_aload_n S.1 S.2.1 d_M_compile_103 rfl (lv_at hl 0 rfl) ?_
      refine lv_iconst (v := 0) S.1 S.2.1 d_M_compile_104 (by decide) ?_
      refine mp_matched S hK hw isB0 d_M_compile_105 (fun H locs hw => ?_)
      exact wB_M_compile_108 S hr hlk hK hA  x2 x3 x4 (ms_matched (ms_size (ms_groups u x2) x1) (0 : Int32)) _ _ _ (lv_sub hl [0, 2, 3, 4] rfl) hw h
    · have h := h.2 q_70
      refine lv_aload_n S.1 S.2.1 d_M_compile_73 rfl (lv_at hl 0 rfl) ?_
      refine mg_text S hK hw d_M_compile_74 ?_
      refine lv_iload S.1 S.2.1 d_M_compile_77 (lv_at hl 5 rfl) ?_
      refine lv_aload_n S.1 S.2.1 d_M_compile_79 rfl (lv_at hl 0 rfl) ?_
      refine mg_draft S hK hw d_M_compile_80 ?_
      refine lv_iload S.1 S.2.1 d_M_compile_83 (lv_at hl 5 rfl) ?_
      have hg := h.1
      have h := h.2
      refine ml_draft S hK hw hg d_M_compile_85 ?_
      have hg := h.1
      have h := h.2
      refine mt_text S hK hw hg d_M_compile_86 (fun H locs hw => ?_)
      obtain ⟨x5_87, ex5_87⟩ : ∃ y : Int32, y = x5 + 1 := ⟨_, rfl⟩
      have h := h x5_87 ex5_87
      refine lv_iinc (v := x5_87) (lv' := [(5, .int x5_87), (0, .ref (a 0)), (1, .int x1), (2, .int x2), (3, .int x3), (4, .int x4)]) S.1 S.2.1 d_M_compile_87 hl (k := 5) rfl (by rw [ex5_87]; rfl) (by decide) rfl (fun ls hl => ?_)
      refine lv_goto (tgt := 66) S.1 S.2.1 d_M_compile_90 (by decide) ?_
      exact ih x1 x2 x3 x4 x5_87 (ms_text u (upd (m_text u) x5.toNatClampNeg (m_draft u x5.toNatClampNeg))) _ _ _ (lv_sub hl [1, 2, 3, 4, 5, 0] rfl) hw h
set_option maxHeartbeats 4000000 in
set_option maxRecDepth 20000 in
theorem wB_M_compile_43 (S : CallFix p m c b_M_compile 6 s args lw_tg R_Mod) (hr : meth.sig.returnType = some .int) (hlk : meth.locks = false) (hK : GK x s) (hA : ∀ q : Nat, s.heap.size ≤ q → A q) {Qc : Int32 → MS → Prop} : ∀ (x1 : Int32) (x2 : Int32) (x3 : Int32) (t0 : Int32) (u : MS) (ls : Array Slot) (H : Heap) (locs : List Loc), lv_has ls 6 [(0, .ref (a 0)), (1, .int x1), (2, .int x2), (3, .int x3)] → wd x A s.heap ((mcl x a) u) H locs → B_M_compile_43 Qc  x1 x2 x3 t0 u → W p l e (rmN 5 0 0) s m args below meth c H locs 0 0 (MQ below (QcI x (mcl x a) A Qc) args s 0 0 A) (F0 m 43 ls [.int t0]) := by
  intro x1 x2 x3 t0 u ls H locs hl hw h
  refine lv_istore (lv' := [(4, .int t0), (0, .ref (a 0)), (1, .int x1), (2, .int x2), (3, .int x3)]) S.1 S.2.1 d_M_compile_43 hl (by decide) rfl (fun ls hl => ?_)
  refine lv_iload S.1 S.2.1 d_M_compile_45 (lv_at hl 0 rfl) ?_
  refine lv_if_eq (tgt := 108) S.1 S.2.1 d_M_compile_47 (by decide) (fun q_47 => ?_) (fun q_47 => ?_)
  · have h := h.1 q_47
    exact wB_M_compile_108 S hr hlk hK hA  x2 x3 t0 u _ _ _ (lv_sub hl [1, 3, 4, 0] rfl) hw h
  · have h := h.2 q_47
    refine lv_aload_n S.1 S.2.1 d_M_compile_50 rfl (lv_at hl 1 rfl) ?_
    refine lv_iconst (v := 1) S.1 S.2.1 d_M_compile_51 (by decide) ?_
    refine mp_ready S hK hw isB1 d_M_compile_52 (fun H locs hw => ?_)
    refine lv_aload_n S.1 S.2.1 d_M_compile_55 rfl (lv_at hl 1 rfl) ?_
    refine lv_aload_n S.1 S.2.1 d_M_compile_56 rfl (lv_at hl 1 rfl) ?_
    refine mg_drafted S hK hw d_M_compile_57 ?_
    refine mp_length S hK hw d_M_compile_60 (fun H locs hw => ?_)
    refine lv_iconst (v := 0) S.1 S.2.1 d_M_compile_63 (by decide) ?_
    refine lv_istore (lv' := [(5, .int (0 : Int32)), (4, .int t0), (0, .ref (a 0)), (1, .int x1), (2, .int x2), (3, .int x3)]) S.1 S.2.1 d_M_compile_64 hl (by decide) rfl (fun ls hl => ?_)
    obtain ⟨n9, h⟩ := h
    exact wL_M_compile_66 S hr hlk hK hA  n9 x1 x2 x3 t0 (0 : Int32) (ms_length (ms_ready u (1 : Int32)) (m_drafted (ms_ready u (1 : Int32)))) _ _ _ (lv_sub hl [2, 3, 4, 5, 1, 0] rfl) hw h
set_option maxHeartbeats 4000000 in
set_option maxRecDepth 20000 in
theorem wB_M_compile_42 (S : CallFix p m c b_M_compile 6 s args lw_tg R_Mod) (hr : meth.sig.returnType = some .int) (hlk : meth.locks = false) (hK : GK x s) (hA : ∀ q : Nat, s.heap.size ≤ q → A q) {Qc : Int32 → MS → Prop} : ∀ (x1 : Int32) (x2 : Int32) (x3 : Int32) (u : MS) (ls : Array Slot) (H : Heap) (locs : List Loc), lv_has ls 6 [(0, .ref (a 0)), (1, .int x1), (2, .int x2), (3, .int x3)] → wd x A s.heap ((mcl x a) u) H locs → B_M_compile_42 Qc  x1 x2 x3 u → W p l e (rmN 5 0 0) s m args below meth c H locs 0 0 (MQ below (QcI x (mcl x a) A Qc) args s 0 0 A) (F0 m 42 ls []) := by
  intro x1 x2 x3 u ls H locs hl hw h
  refine lv_iconst (v := 0) S.1 S.2.1 d_M_compile_42 (by decide) ?_
  exact wB_M_compile_43 S hr hlk hK hA  x1 x2 x3 (0 : Int32) u _ _ _ (lv_sub hl [0, 1, 2, 3] rfl) hw h
set_option maxHeartbeats 4000000 in
set_option maxRecDepth 20000 in
theorem wB_M_compile_27 (S : CallFix p m c b_M_compile 6 s args lw_tg R_Mod) (hr : meth.sig.returnType = some .int) (hlk : meth.locks = false) (hK : GK x s) (hA : ∀ q : Nat, s.heap.size ≤ q → A q) {Qc : Int32 → MS → Prop} : ∀ (x1 : Int32) (x2 : Int32) (t0 : Int32) (u : MS) (ls : Array Slot) (H : Heap) (locs : List Loc), lv_has ls 6 [(0, .ref (a 0)), (1, .int x1), (2, .int x2)] → wd x A s.heap ((mcl x a) u) H locs → B_M_compile_27 Qc  x1 x2 t0 u → W p l e (rmN 5 0 0) s m args below meth c H locs 0 0 (MQ below (QcI x (mcl x a) A Qc) args s 0 0 A) (F0 m 27 ls [.int t0]) := by
  intro x1 x2 t0 u ls H locs hl hw h
  refine lv_istore_n (lv' := [(3, .int t0), (0, .ref (a 0)), (1, .int x1), (2, .int x2)]) S.1 S.2.1 d_M_compile_27 rfl hl (by decide) rfl (fun ls hl => ?_)
  refine lv_iload_n S.1 S.2.1 d_M_compile_28 rfl (lv_at hl 0 rfl) ?_
  refine lv_if_eq (tgt := 42) S.1 S.2.1 d_M_compile_29 (by decide) (fun q_29 => ?_) (fun q_29 => ?_)
  · have h := h.1 q_29
    exact wB_M_compile_42 S hr hlk hK hA  x1 x2 t0 u _ _ _ (lv_sub hl [1, 2, 3, 0] rfl) hw h
  · have h := h.2 q_29
    refine lv_iload_n S.1 S.2.1 d_M_compile_32 rfl (lv_at hl 2 rfl) ?_
    refine lv_bipush (v := 60) S.1 S.2.1 d_M_compile_33 (by decide) ?_
    refine lv_icmp_gt (tgt := 42) S.1 S.2.1 d_M_compile_35 (by decide) (fun q_35 => ?_) (fun q_35 => ?_)
    · have h := h.1 q_35
      exact wB_M_compile_42 S hr hlk hK hA  x1 x2 t0 u _ _ _ (lv_sub hl [1, 2, 3, 0] rfl) hw h
    · have h := h.2 q_35
      refine lv_iconst (v := 1) S.1 S.2.1 d_M_compile_38 (by decide) ?_
      refine lv_goto (tgt := 43) S.1 S.2.1 d_M_compile_39 (by decide) ?_
      exact wB_M_compile_43 S hr hlk hK hA  x1 x2 t0 (1 : Int32) u _ _ _ (lv_sub hl [1, 2, 3, 0] rfl) hw h
set_option maxHeartbeats 4000000 in
set_option maxRecDepth 20000 in
theorem wB_M_compile_26 (S : CallFix p m c b_M_compile 6 s args lw_tg R_Mod) (hr : meth.sig.returnType = some .int) (hlk : meth.locks = false) (hK : GK x s) (hA : ∀ q : Nat, s.heap.size ≤ q → A q) {Qc : Int32 → MS → Prop} : ∀ (x1 : Int32) (x2 : Int32) (u : MS) (ls : Array Slot) (H : Heap) (locs : List Loc), lv_has ls 6 [(0, .ref (a 0)), (1, .int x1), (2, .int x2)] → wd x A s.heap ((mcl x a) u) H locs → B_M_compile_26 Qc  x1 x2 u → W p l e (rmN 5 0 0) s m args below meth c H locs 0 0 (MQ below (QcI x (mcl x a) A Qc) args s 0 0 A) (F0 m 26 ls []) := by
  intro x1 x2 u ls H locs hl hw h
  refine lv_iconst (v := 0) S.1 S.2.1 d_M_compile_26 (by decide) ?_
  exact wB_M_compile_27 S hr hlk hK hA  x1 x2 (0 : Int32) u _ _ _ (lv_sub hl [0, 1, 2] rfl) hw h
set_option maxHeartbeats 4000000 in
set_option maxRecDepth 20000 in
theorem c_M_compile {x : GX} {a : Nat → Nat} (l : Launch)  (u : MS) (sz : Nat) (Qc : Int32 → MS → Prop) (h : P_M_compile  u Qc) : Met l y_M_compile (wM y_M_compile b_M_compile 6 (some .int)) (rmN 5 0 0) (PreC x (mcl x a) [.ref (a 0)] u sz) (QcI x (mcl x a) (va_A ((mcl x a) u) sz) Qc) 0 0 (va_A ((mcl x a) u) sz) := by
  refine w_enter (by decide +kernel) (Nat.le_of_ble_eq_true rfl) (fun p e s m args below meth c S hr hlk _ hK hA hw ls hl => ?_)
  have hl : lv_has ls 6 [(0, .ref (a 0))] := hl
  refine lv_aload_n S.1 S.2.1 d_M_compile_0 rfl (lv_at hl 0 rfl) ?_
  refine w_ci hA hw (w_rv (rest := []) S hK hw (c_M_measure l  u _ _ h) (ci := 0) (q0 := 0) rfl rfl (w_cb (fr := 0) (lv := 0) S.2.2.2.2 k_971 k_968 k_8 yd_M_measure rfl rfl ⟨Nat.le_of_ble_eq_true rfl, Nat.le_of_ble_eq_true rfl⟩) k_970 s_34 rfl hl.1 rfl (Nat.le_of_ble_eq_true rfl) d_M_compile_1 ⟨Nat.le_refl _, Nat.le_refl _⟩) (fun r_1 u_1 H locs h hw => ?_)
  refine lv_istore_n (lv' := [(1, .int r_1), (0, .ref (a 0))]) S.1 S.2.1 d_M_compile_4 rfl hl (by decide) rfl (fun ls hl => ?_)
  refine lv_aload_n S.1 S.2.1 d_M_compile_5 rfl (lv_at hl 1 rfl) ?_
  refine w_ci hA hw (w_rv (rest := []) S hK hw (c_M_groupsOf l  u_1 _ _ h) (ci := 0) (q0 := 0) rfl rfl (w_cb (fr := 0) (lv := 0) S.2.2.2.2 k_999 k_996 k_8 yd_M_groupsOf rfl rfl ⟨Nat.le_of_ble_eq_true rfl, Nat.le_of_ble_eq_true rfl⟩) k_998 s_41 rfl hl.1 rfl (Nat.le_of_ble_eq_true rfl) d_M_compile_6 ⟨Nat.le_refl _, Nat.le_refl _⟩) (fun r_6 u_6 H locs h hw => ?_)
  refine lv_istore_n (lv' := [(2, .int r_6), (1, .int r_1), (0, .ref (a 0))]) S.1 S.2.1 d_M_compile_9 rfl hl (by decide) rfl (fun ls hl => ?_)
  refine lv_iload_n S.1 S.2.1 d_M_compile_10 rfl (lv_at hl 1 rfl) ?_
  refine lv_if_lt (tgt := 26) S.1 S.2.1 d_M_compile_11 (by decide) (fun q_11 => ?_) (fun q_11 => ?_)
  · have h := h.1 q_11
    exact wB_M_compile_26 S hr hlk hK hA  r_1 r_6 u_6 _ _ _ (lv_sub hl [2, 1, 0] rfl) hw h
  · have h := h.2 q_11
    refine lv_aload_n S.1 S.2.1 d_M_compile_14 rfl (lv_at hl 2 rfl) ?_
    refine lv_iload_n S.1 S.2.1 d_M_compile_15 rfl (lv_at hl 0 rfl) ?_
    refine w_ci hA hw (w_rv (rest := []) S hK hw (c_M_namesGood l r_6 u_6 _ _ h) (ci := 0) (q0 := 0) rfl rfl (w_cb (fr := 0) (lv := 0) S.2.2.2.2 k_1003 k_1000 k_8 yd_M_namesGood rfl rfl ⟨Nat.le_of_ble_eq_true rfl, Nat.le_of_ble_eq_true rfl⟩) k_1002 s_42 rfl hl.1 rfl (Nat.le_of_ble_eq_true rfl) d_M_compile_16 ⟨Nat.le_refl _, Nat.le_refl _⟩) (fun r_16 u_16 H locs h hw => ?_)
    refine lv_if_eq (tgt := 26) S.1 S.2.1 d_M_compile_19 (by decide) (fun q_19 => ?_) (fun q_19 => ?_)
    · have h := h.1 q_19
      exact wB_M_compile_26 S hr hlk hK hA  r_1 r_6 u_16 _ _ _ (lv_sub hl [2, 1, 0] rfl) hw h
    · have h := h.2 q_19
      refine lv_iconst (v := 1) S.1 S.2.1 d_M_compile_22 (by decide) ?_
      refine lv_goto (tgt := 27) S.1 S.2.1 d_M_compile_23 (by decide) ?_
      exact wB_M_compile_27 S hr hlk hK hA  r_1 r_6 (1 : Int32) u_16 _ _ _ (lv_sub hl [2, 1, 0] rfl) hw h
set_option maxHeartbeats 4000000 in
set_option maxRecDepth 20000 in
theorem c_M_feed {x : GX} {a : Nat → Nat} (l : Launch) (x1 : Int32) (u : MS) (sz : Nat) (Qc : Int32 → MS → Prop) (h : P_M_feed x1 u Qc) : Met l y_M_feed (wM y_M_feed b_M_feed 2 (some .int)) (rmN 2 0 0) (PreC x (mcl x a) [.ref (a 0), .int x1] u sz) (QcI x (mcl x a) (va_A ((mcl x a) u) sz) Qc) 0 0 (va_A ((mcl x a) u) sz) := by
  refine w_enter (by decide +kernel) (Nat.le_of_ble_eq_true rfl) (fun p e s m args below meth c S hr hlk _ hK hA hw ls hl => ?_)
  have hl : lv_has ls 2 [(0, .ref (a 0)), (1, .int x1)] := hl
  refine lv_iload_n S.1 S.2.1 d_M_feed_0 rfl (lv_at hl 1 rfl) ?_
  refine w_cn (w_rs (rest := []) S (c_M_letter l x1 _ h) (w_cb (fr := 0) (lv := 0) S.2.2.2.2 k_957 k_955 k_8 yd_M_letter rfl rfl ⟨Nat.le_of_ble_eq_true rfl, Nat.le_of_ble_eq_true rfl⟩) k_956 rfl hl.1 rfl (Nat.le_of_ble_eq_true rfl) d_M_feed_1 ⟨Nat.le_refl _, Nat.le_refl _⟩) (fun r_1 h => ?_)
  refine lv_if_ne (tgt := 9) S.1 S.2.1 d_M_feed_4 (by decide) (fun q_4 => ?_) (fun q_4 => ?_)
  · have h := h.2 q_4
    refine lv_aload_n S.1 S.2.1 d_M_feed_9 rfl (lv_at hl 0 rfl) ?_
    refine mg_letters S hK hw d_M_feed_10 ?_
    refine lv_bipush (v := 40) S.1 S.2.1 d_M_feed_13 (by decide) ?_
    refine lv_icmp_ne (tgt := 21) S.1 S.2.1 d_M_feed_15 (by decide) (fun q_15 => ?_) (fun q_15 => ?_)
    · have h := h.2 q_15
      refine lv_aload_n S.1 S.2.1 d_M_feed_21 rfl (lv_at hl 0 rfl) ?_
      refine mg_subject S hK hw d_M_feed_22 ?_
      refine lv_aload_n S.1 S.2.1 d_M_feed_25 rfl (lv_at hl 0 rfl) ?_
      refine mg_letters S hK hw d_M_feed_26 ?_
      refine lv_iload_n S.1 S.2.1 d_M_feed_29 rfl (lv_at hl 1 rfl) ?_
      have hg := h.1
      have h := h.2
      refine mt_subject S hK hw hg d_M_feed_30 (fun H locs hw => ?_)
      refine lv_aload_n S.1 S.2.1 d_M_feed_31 rfl (lv_at hl 0 rfl) ?_
      refine lv_dup S.1 S.2.1 d_M_feed_32 rfl ?_
      refine mg_letters S hK hw d_M_feed_33 ?_
      refine lv_iconst (v := 1) S.1 S.2.1 d_M_feed_36 (by decide) ?_
      refine lv_iadd S.1 S.2.1 d_M_feed_37 ?_
      refine mp_letters S hK hw d_M_feed_38 (fun H locs hw => ?_)
      refine lv_aload_n S.1 S.2.1 d_M_feed_41 rfl (lv_at hl 0 rfl) ?_
      refine lv_iconst (v := 0) S.1 S.2.1 d_M_feed_42 (by decide) ?_
      refine mp_matched S hK hw isB0 d_M_feed_43 (fun H locs hw => ?_)
      refine lv_aload_n S.1 S.2.1 d_M_feed_46 rfl (lv_at hl 0 rfl) ?_
      refine mg_letters S hK hw d_M_feed_47 ?_
      exact w_iret S hr hlk hK hw h d_M_feed_50
    · have h := h.1 q_15
      refine lv_bipush (v := -2) S.1 S.2.1 d_M_feed_18 (by decide) ?_
      exact w_iret S hr hlk hK hw h d_M_feed_20
  · have h := h.1 q_4
    refine lv_iconst (v := -1) S.1 S.2.1 d_M_feed_7 (by decide) ?_
    exact w_iret S hr hlk hK hw h d_M_feed_8
set_option maxHeartbeats 4000000 in
set_option maxRecDepth 20000 in
theorem c_M_clear {x : GX} {a : Nat → Nat} (l : Launch)  (u : MS) (sz : Nat) (Qc : Int32 → MS → Prop) (h : P_M_clear  u Qc) : Met l y_M_clear (wM y_M_clear b_M_clear 2 (some .int)) (rmN 0 0 0) (PreC x (mcl x a) [.ref (a 0)] u sz) (QcI x (mcl x a) (va_A ((mcl x a) u) sz) Qc) 0 0 (va_A ((mcl x a) u) sz) := by
  refine w_enter (by decide +kernel) (Nat.le_of_ble_eq_true rfl) (fun p e s m args below meth c S hr hlk _ hK hA hw ls hl => ?_)
  have hl : lv_has ls 2 [(0, .ref (a 0))] := hl
  refine lv_aload_n S.1 S.2.1 d_M_clear_0 rfl (lv_at hl 0 rfl) ?_
  refine mg_letters S hK hw d_M_clear_1 ?_
  refine lv_topi (fun x1_4 ex1_4 => ?_)
  have h := h x1_4 ex1_4
  refine lv_istore_n (lv' := [(1, .int x1_4), (0, .ref (a 0))]) S.1 S.2.1 d_M_clear_4 rfl hl (by decide) rfl (fun ls hl => ?_)
  refine lv_aload_n S.1 S.2.1 d_M_clear_5 rfl (lv_at hl 1 rfl) ?_
  refine lv_iconst (v := 0) S.1 S.2.1 d_M_clear_6 (by decide) ?_
  refine mp_letters S hK hw d_M_clear_7 (fun H locs hw => ?_)
  refine lv_aload_n S.1 S.2.1 d_M_clear_10 rfl (lv_at hl 1 rfl) ?_
  refine lv_iconst (v := 0) S.1 S.2.1 d_M_clear_11 (by decide) ?_
  refine mp_matched S hK hw isB0 d_M_clear_12 (fun H locs hw => ?_)
  refine lv_iload_n S.1 S.2.1 d_M_clear_15 rfl (lv_at hl 0 rfl) ?_
  exact w_iret S hr hlk hK hw h d_M_clear_16
set_option maxHeartbeats 4000000 in
set_option maxRecDepth 20000 in
theorem c_M_go {x : GX} {a : Nat → Nat} (l : Launch) (x1 : Int32) (x2 : Int32) (x3 : Int32) (u : MS) (sz : Nat) (Qc : MS → Prop) (h : P_M_go x1 x2 x3 u Qc) : Met l y_M_go (wM y_M_go b_M_go 4 none) (rmN 0 0 0) (PreC x (mcl x a) [.ref (a 0), .int x1, .int x2, .int x3] u sz) (QcV x (mcl x a) (va_A ((mcl x a) u) sz) Qc) 0 0 (va_A ((mcl x a) u) sz) := by
  refine w_enter (by decide +kernel) (Nat.le_of_ble_eq_true rfl) (fun p e s m args below meth c S hr hlk _ hK hA hw ls hl => ?_)
  have hl : lv_has ls 4 [(0, .ref (a 0)), (1, .int x1), (2, .int x2), (3, .int x3)] := hl
  refine lv_aload_n S.1 S.2.1 d_M_go_0 rfl (lv_at hl 0 rfl) ?_
  refine lv_iload_n S.1 S.2.1 d_M_go_1 rfl (lv_at hl 1 rfl) ?_
  refine mp_mode S hK hw d_M_go_2 (fun H locs hw => ?_)
  refine lv_aload_n S.1 S.2.1 d_M_go_5 rfl (lv_at hl 0 rfl) ?_
  refine lv_iload_n S.1 S.2.1 d_M_go_6 rfl (lv_at hl 2 rfl) ?_
  refine mp_at S hK hw d_M_go_7 (fun H locs hw => ?_)
  refine lv_aload_n S.1 S.2.1 d_M_go_10 rfl (lv_at hl 0 rfl) ?_
  refine lv_iload_n S.1 S.2.1 d_M_go_11 rfl (lv_at hl 3 rfl) ?_
  refine mp_k S hK hw d_M_go_12 (fun H locs hw => ?_)
  exact w_vret S hr hlk hK hw h d_M_go_15
set_option maxHeartbeats 4000000 in
set_option maxRecDepth 20000 in
theorem c_M_retreat {x : GX} {a : Nat → Nat} (l : Launch)  (u : MS) (sz : Nat) (Qc : Int32 → MS → Prop) (h : P_M_retreat  u Qc) : Met l y_M_retreat (wM y_M_retreat b_M_retreat 3 (some .boolean)) (rmN 1 0 0) (PreC x (mcl x a) [.ref (a 0)] u sz) (QcI x (mcl x a) (va_A ((mcl x a) u) sz) Qc) 0 0 (va_A ((mcl x a) u) sz) := by
  refine w_enter (by decide +kernel) (Nat.le_of_ble_eq_true rfl) (fun p e s m args below meth c S hr hlk _ hK hA hw ls hl => ?_)
  have hl : lv_has ls 3 [(0, .ref (a 0))] := hl
  refine lv_aload_n S.1 S.2.1 d_M_retreat_0 rfl (lv_at hl 0 rfl) ?_
  refine mg_backs S hK hw d_M_retreat_1 ?_
  refine lv_if_ne (tgt := 9) S.1 S.2.1 d_M_retreat_4 (by decide) (fun q_4 => ?_) (fun q_4 => ?_)
  · have h := h.2 q_4
    refine lv_aload_n S.1 S.2.1 d_M_retreat_9 rfl (lv_at hl 0 rfl) ?_
    refine lv_dup S.1 S.2.1 d_M_retreat_10 rfl ?_
    refine mg_backs S hK hw d_M_retreat_11 ?_
    refine lv_iconst (v := 1) S.1 S.2.1 d_M_retreat_14 (by decide) ?_
    refine lv_isub S.1 S.2.1 d_M_retreat_15 ?_
    refine mp_backs S hK hw d_M_retreat_16 (fun H locs hw => ?_)
    refine lv_aload_n S.1 S.2.1 d_M_retreat_19 rfl (lv_at hl 0 rfl) ?_
    refine mg_back S hK hw d_M_retreat_20 ?_
    refine lv_aload_n S.1 S.2.1 d_M_retreat_23 rfl (lv_at hl 0 rfl) ?_
    refine mg_backs S hK hw d_M_retreat_24 ?_
    have hg := h.1
    have h := h.2
    refine ml_back S hK hw hg d_M_retreat_27 ?_
    refine lv_topl (fun x1_28 ex1_28 => ?_)
    have h := h x1_28 ex1_28
    refine lv_lstore_n (lv' := [(1, .long x1_28), (0, .ref (a 0))]) S.1 S.2.1 d_M_retreat_28 rfl hl (by decide) rfl (fun ls hl => ?_)
    refine lv_aload_n S.1 S.2.1 d_M_retreat_29 rfl (lv_at hl 1 rfl) ?_
    refine lv_lload_n S.1 S.2.1 d_M_retreat_30 rfl (lv_at hl 0 rfl) ?_
    refine lv_bipush (v := 9) S.1 S.2.1 d_M_retreat_31 (by decide) ?_
    refine lv_lshr S.1 S.2.1 d_M_retreat_33 rfl ?_
    refine lv_l2i S.1 S.2.1 d_M_retreat_34 rfl ?_
    refine lv_bipush (v := 63) S.1 S.2.1 d_M_retreat_35 (by decide) ?_
    refine lv_iand S.1 S.2.1 d_M_retreat_37 ?_
    refine mp_p S hK hw d_M_retreat_38 (fun H locs hw => ?_)
    refine lv_aload_n S.1 S.2.1 d_M_retreat_41 rfl (lv_at hl 1 rfl) ?_
    refine lv_aload_n S.1 S.2.1 d_M_retreat_42 rfl (lv_at hl 1 rfl) ?_
    refine mg_bKept S hK hw d_M_retreat_43 ?_
    refine lv_aload_n S.1 S.2.1 d_M_retreat_46 rfl (lv_at hl 1 rfl) ?_
    refine mg_backs S hK hw d_M_retreat_47 ?_
    have hg := h.1
    have h := h.2
    refine ml_bKept S hK hw hg d_M_retreat_50 ?_
    refine mp_caps S hK hw d_M_retreat_51 (fun H locs hw => ?_)
    refine lv_aload_n S.1 S.2.1 d_M_retreat_54 rfl (lv_at hl 1 rfl) ?_
    refine lv_lload_n S.1 S.2.1 d_M_retreat_55 rfl (lv_at hl 0 rfl) ?_
    refine lv_l2i S.1 S.2.1 d_M_retreat_56 rfl ?_
    refine lv_bipush (v := 7) S.1 S.2.1 d_M_retreat_57 (by decide) ?_
    refine lv_iand S.1 S.2.1 d_M_retreat_59 ?_
    refine lv_lload_n S.1 S.2.1 d_M_retreat_60 rfl (lv_at hl 0 rfl) ?_
    refine lv_iconst (v := 3) S.1 S.2.1 d_M_retreat_61 (by decide) ?_
    refine lv_lshr S.1 S.2.1 d_M_retreat_62 rfl ?_
    refine lv_l2i S.1 S.2.1 d_M_retreat_63 rfl ?_
    refine lv_bipush (v := 63) S.1 S.2.1 d_M_retreat_64 (by decide) ?_
    refine lv_iand S.1 S.2.1 d_M_retreat_66 ?_
    refine lv_lload_n S.1 S.2.1 d_M_retreat_67 rfl (lv_at hl 0 rfl) ?_
    refine lv_bipush (v := 15) S.1 S.2.1 d_M_retreat_68 (by decide) ?_
    refine lv_lshr S.1 S.2.1 d_M_retreat_70 rfl ?_
    refine lv_l2i S.1 S.2.1 d_M_retreat_71 rfl ?_
    refine lv_sipush (v := 8191) S.1 S.2.1 d_M_retreat_72 (by decide) ?_
    refine lv_iand S.1 S.2.1 d_M_retreat_75 ?_
    refine w_cv hA hw (w_rv (rest := []) S hK hw (c_M_go l (x1_28.toInt32 &&& (7 : Int32)) ((x1_28 >>> ((3 : Int32).toInt64 &&& 63)).toInt32 &&& (63 : Int32)) ((x1_28 >>> ((15 : Int32).toInt64 &&& 63)).toInt32 &&& (8191 : Int32)) (ms_caps (ms_p (ms_backs u ((m_backs u) - (1 : Int32))) ((x1_28 >>> ((9 : Int32).toInt64 &&& 63)).toInt32 &&& (63 : Int32))) (m_bKept (ms_p (ms_backs u ((m_backs u) - (1 : Int32))) ((x1_28 >>> ((9 : Int32).toInt64 &&& 63)).toInt32 &&& (63 : Int32))) (m_backs (ms_p (ms_backs u ((m_backs u) - (1 : Int32))) ((x1_28 >>> ((9 : Int32).toInt64 &&& 63)).toInt32 &&& (63 : Int32)))).toNatClampNeg)) _ _ h) (ci := 0) (q0 := 0) rfl rfl (w_cb (fr := 0) (lv := 0) S.2.2.2.2 k_1027 k_1024 k_8 yd_M_go rfl rfl ⟨Nat.le_of_ble_eq_true rfl, Nat.le_of_ble_eq_true rfl⟩) k_1026 s_45 rfl hl.1 rfl (Nat.le_of_ble_eq_true rfl) d_M_retreat_76 ⟨Nat.le_refl _, Nat.le_refl _⟩) (fun u_76 H locs h hw => ?_)
    refine lv_aload_n S.1 S.2.1 d_M_retreat_79 rfl (lv_at hl 1 rfl) ?_
    refine lv_lload_n S.1 S.2.1 d_M_retreat_80 rfl (lv_at hl 0 rfl) ?_
    refine lv_bipush (v := 28) S.1 S.2.1 d_M_retreat_81 (by decide) ?_
    refine lv_lshr S.1 S.2.1 d_M_retreat_83 rfl ?_
    refine lv_l2i S.1 S.2.1 d_M_retreat_84 rfl ?_
    refine lv_sipush (v := 8191) S.1 S.2.1 d_M_retreat_85 (by decide) ?_
    refine lv_iand S.1 S.2.1 d_M_retreat_88 ?_
    refine mp_frames S hK hw d_M_retreat_89 (fun H locs hw => ?_)
    refine lv_iconst (v := 1) S.1 S.2.1 d_M_retreat_92 (by decide) ?_
    exact w_zret S hr hlk hK isB1 hw h d_M_retreat_93
  · have h := h.1 q_4
    refine lv_iconst (v := 0) S.1 S.2.1 d_M_retreat_7 (by decide) ?_
    exact w_zret S hr hlk hK isB0 hw h d_M_retreat_8
set_option maxHeartbeats 4000000 in
set_option maxRecDepth 20000 in
theorem c_M_t {x : GX} {a : Nat → Nat} (l : Launch) (x1 : Int32) (u : MS) (sz : Nat) (Qc : Int32 → MS → Prop) (h : P_M_t x1 u Qc) : Met l y_M_t (wM y_M_t b_M_t 2 (some .int)) (rmN 0 0 0) (PreC x (mcl x a) [.ref (a 0), .int x1] u sz) (QcI x (mcl x a) (va_A ((mcl x a) u) sz) Qc) 0 0 (va_A ((mcl x a) u) sz) := by
  refine w_enter (by decide +kernel) (Nat.le_of_ble_eq_true rfl) (fun p e s m args below meth c S hr hlk _ hK hA hw ls hl => ?_)
  have hl : lv_has ls 2 [(0, .ref (a 0)), (1, .int x1)] := hl
  refine lv_iload_n S.1 S.2.1 d_M_t_0 rfl (lv_at hl 1 rfl) ?_
  refine lv_aload_n S.1 S.2.1 d_M_t_1 rfl (lv_at hl 0 rfl) ?_
  refine mg_length S hK hw d_M_t_2 ?_
  refine lv_icmp_ge (tgt := 17) S.1 S.2.1 d_M_t_5 (by decide) (fun q_5 => ?_) (fun q_5 => ?_)
  · have h := h.1 q_5
    refine lv_iconst (v := 0) S.1 S.2.1 d_M_t_17 (by decide) ?_
    exact w_iret S hr hlk hK hw h d_M_t_18
  · have h := h.2 q_5
    refine lv_aload_n S.1 S.2.1 d_M_t_8 rfl (lv_at hl 0 rfl) ?_
    refine mg_text S hK hw d_M_t_9 ?_
    refine lv_iload_n S.1 S.2.1 d_M_t_12 rfl (lv_at hl 1 rfl) ?_
    have hg := h.1
    have h := h.2
    refine ml_text S hK hw hg d_M_t_13 ?_
    refine lv_goto (tgt := 18) S.1 S.2.1 d_M_t_14 (by decide) ?_
    exact w_iret S hr hlk hK hw h d_M_t_18
set_option maxHeartbeats 4000000 in
set_option maxRecDepth 20000 in
theorem wB_M_rowEnds_28 (S : CallFix p m c b_M_rowEnds 2 s args lw_tg R_Mod) (hr : meth.sig.returnType = some .boolean) (hlk : meth.locks = false) (hK : GK x s) (hA : ∀ q : Nat, s.heap.size ≤ q → A q) {Qc : Int32 → MS → Prop} : ∀  (u : MS) (ls : Array Slot) (H : Heap) (locs : List Loc), lv_has ls 2 [] → wd x A s.heap ((mcl x a) u) H locs → B_M_rowEnds_28 Qc   u → W p l e (rmN 1 0 0) s m args below meth c H locs 0 0 (MQ below (QcI x (mcl x a) A Qc) args s 0 0 A) (F0 m 28 ls []) := by
  intro  u ls H locs hl hw h
  refine lv_iconst (v := 1) S.1 S.2.1 d_M_rowEnds_28 (by decide) ?_
  refine lv_goto (tgt := 33) S.1 S.2.1 d_M_rowEnds_29 (by decide) ?_
  exact w_zret S hr hlk hK isB1 hw h d_M_rowEnds_33
set_option maxHeartbeats 4000000 in
set_option maxRecDepth 20000 in
theorem c_M_rowEnds {x : GX} {a : Nat → Nat} (l : Launch) (x1 : Int32) (u : MS) (sz : Nat) (Qc : Int32 → MS → Prop) (h : P_M_rowEnds x1 u Qc) : Met l y_M_rowEnds (wM y_M_rowEnds b_M_rowEnds 2 (some .boolean)) (rmN 1 0 0) (PreC x (mcl x a) [.ref (a 0), .int x1] u sz) (QcI x (mcl x a) (va_A ((mcl x a) u) sz) Qc) 0 0 (va_A ((mcl x a) u) sz) := by
  refine w_enter (by decide +kernel) (Nat.le_of_ble_eq_true rfl) (fun p e s m args below meth c S hr hlk _ hK hA hw ls hl => ?_)
  have hl : lv_has ls 2 [(0, .ref (a 0)), (1, .int x1)] := hl
  refine lv_iload_n S.1 S.2.1 d_M_rowEnds_0 rfl (lv_at hl 1 rfl) ?_
  refine lv_aload_n S.1 S.2.1 d_M_rowEnds_1 rfl (lv_at hl 0 rfl) ?_
  refine mg_length S hK hw d_M_rowEnds_2 ?_
  refine lv_icmp_ge (tgt := 28) S.1 S.2.1 d_M_rowEnds_5 (by decide) (fun q_5 => ?_) (fun q_5 => ?_)
  · have h := h.1 q_5
    exact wB_M_rowEnds_28 S hr hlk hK hA   u _ _ _ (lv_sub hl [] rfl) hw h
  · have h := h.2 q_5
    refine lv_aload_n S.1 S.2.1 d_M_rowEnds_8 rfl (lv_at hl 0 rfl) ?_
    refine lv_iload_n S.1 S.2.1 d_M_rowEnds_9 rfl (lv_at hl 1 rfl) ?_
    refine w_ci hA hw (w_rv (rest := []) S hK hw (c_M_t l x1 u _ _ h) (ci := 0) (q0 := 0) rfl rfl (w_cb (fr := 0) (lv := 0) S.2.2.2.2 k_1040 k_1037 k_8 yd_M_t rfl rfl ⟨Nat.le_of_ble_eq_true rfl, Nat.le_of_ble_eq_true rfl⟩) k_1039 s_48 rfl hl.1 rfl (Nat.le_of_ble_eq_true rfl) d_M_rowEnds_10 ⟨Nat.le_refl _, Nat.le_refl _⟩) (fun r_10 u_10 H locs h hw => ?_)
    refine lv_bipush (v := 124) S.1 S.2.1 d_M_rowEnds_13 (by decide) ?_
    refine lv_icmp_eq (tgt := 28) S.1 S.2.1 d_M_rowEnds_15 (by decide) (fun q_15 => ?_) (fun q_15 => ?_)
    · have h := h.1 q_15
      exact wB_M_rowEnds_28 S hr hlk hK hA   u_10 _ _ _ (lv_sub hl [] rfl) hw h
    · have h := h.2 q_15
      refine lv_aload_n S.1 S.2.1 d_M_rowEnds_18 rfl (lv_at hl 0 rfl) ?_
      refine lv_iload_n S.1 S.2.1 d_M_rowEnds_19 rfl (lv_at hl 1 rfl) ?_
      refine w_ci hA hw (w_rv (rest := []) S hK hw (c_M_t l x1 u_10 _ _ h) (ci := 0) (q0 := 0) rfl rfl (w_cb (fr := 0) (lv := 0) S.2.2.2.2 k_1040 k_1037 k_8 yd_M_t rfl rfl ⟨Nat.le_of_ble_eq_true rfl, Nat.le_of_ble_eq_true rfl⟩) k_1039 s_48 rfl hl.1 rfl (Nat.le_of_ble_eq_true rfl) d_M_rowEnds_20 ⟨Nat.le_refl _, Nat.le_refl _⟩) (fun r_20 u_20 H locs h hw => ?_)
      refine lv_bipush (v := 41) S.1 S.2.1 d_M_rowEnds_23 (by decide) ?_
      refine lv_icmp_ne (tgt := 32) S.1 S.2.1 d_M_rowEnds_25 (by decide) (fun q_25 => ?_) (fun q_25 => ?_)
      · have h := h.2 q_25
        refine lv_iconst (v := 0) S.1 S.2.1 d_M_rowEnds_32 (by decide) ?_
        exact w_zret S hr hlk hK isB0 hw h d_M_rowEnds_33
      · have h := h.1 q_25
        exact wB_M_rowEnds_28 S hr hlk hK hA   u_20 _ _ _ (lv_sub hl [] rfl) hw h
set_option maxHeartbeats 4000000 in
set_option maxRecDepth 20000 in
theorem wB_M_closing_40 (S : CallFix p m c b_M_closing 4 s args lw_tg R_Mod) (hr : meth.sig.returnType = some .int) (hlk : meth.locks = false) (hK : GK x s) (hA : ∀ q : Nat, s.heap.size ≤ q → A q) {Qc : Int32 → MS → Prop} {K4 : Int32 → Int32 → MS → Prop} (ih4 : ∀ (x2 : Int32) (x3 : Int32) (u : MS) (ls : Array Slot) (H : Heap) (locs : List Loc), lv_has ls 4 [(0, .ref (a 0)), (2, .int x2), (3, .int x3)] → wd x A s.heap ((mcl x a) u) H locs → K4 x2 x3 u → W p l e (rmN 0 0 0) s m args below meth c H locs 0 0 (MQ below (QcI x (mcl x a) A Qc) args s 0 0 A) (F0 m 4 ls [])) : ∀ (x2 : Int32) (x3 : Int32) (u : MS) (ls : Array Slot) (H : Heap) (locs : List Loc), lv_has ls 4 [(0, .ref (a 0)), (2, .int x2), (3, .int x3)] → wd x A s.heap ((mcl x a) u) H locs → B_M_closing_40 Qc K4 x2 x3 u → W p l e (rmN 0 0 0) s m args below meth c H locs 0 0 (MQ below (QcI x (mcl x a) A Qc) args s 0 0 A) (F0 m 40 ls []) := by
  intro x2 x3 u ls H locs hl hw h
  refine lv_iload_n S.1 S.2.1 d_M_closing_40 rfl (lv_at hl 1 rfl) ?_
  refine lv_if_ne (tgt := 46) S.1 S.2.1 d_M_closing_41 (by decide) (fun q_41 => ?_) (fun q_41 => ?_)
  · have h := h.2 q_41
    obtain ⟨x3_46, ex3_46⟩ : ∃ y : Int32, y = x3 + 1 := ⟨_, rfl⟩
    have h := h x3_46 ex3_46
    refine lv_iinc (v := x3_46) (lv' := [(3, .int x3_46), (0, .ref (a 0)), (2, .int x2)]) S.1 S.2.1 d_M_closing_46 hl (k := 2) rfl (by rw [ex3_46]; rfl) (by decide) rfl (fun ls hl => ?_)
    refine lv_goto (tgt := 4) S.1 S.2.1 d_M_closing_49 (by decide) ?_
    exact ih4 x2 x3_46 u _ _ _ (lv_sub hl [1, 2, 0] rfl) hw h
  · have h := h.1 q_41
    refine lv_iload_n S.1 S.2.1 d_M_closing_44 rfl (lv_at hl 2 rfl) ?_
    exact w_iret S hr hlk hK hw h d_M_closing_45
set_option maxHeartbeats 4000000 in
set_option maxRecDepth 20000 in
theorem wB_M_closing_26 (S : CallFix p m c b_M_closing 4 s args lw_tg R_Mod) (hr : meth.sig.returnType = some .int) (hlk : meth.locks = false) (hK : GK x s) (hA : ∀ q : Nat, s.heap.size ≤ q → A q) {Qc : Int32 → MS → Prop} {K4 : Int32 → Int32 → MS → Prop} (ih4 : ∀ (x2 : Int32) (x3 : Int32) (u : MS) (ls : Array Slot) (H : Heap) (locs : List Loc), lv_has ls 4 [(0, .ref (a 0)), (2, .int x2), (3, .int x3)] → wd x A s.heap ((mcl x a) u) H locs → K4 x2 x3 u → W p l e (rmN 0 0 0) s m args below meth c H locs 0 0 (MQ below (QcI x (mcl x a) A Qc) args s 0 0 A) (F0 m 4 ls [])) : ∀ (x2 : Int32) (x3 : Int32) (u : MS) (ls : Array Slot) (H : Heap) (locs : List Loc), lv_has ls 4 [(0, .ref (a 0)), (2, .int x2), (3, .int x3)] → wd x A s.heap ((mcl x a) u) H locs → B_M_closing_26 Qc K4 x2 x3 u → W p l e (rmN 0 0 0) s m args below meth c H locs 0 0 (MQ below (QcI x (mcl x a) A Qc) args s 0 0 A) (F0 m 26 ls []) := by
  intro x2 x3 u ls H locs hl hw h
  refine lv_aload_n S.1 S.2.1 d_M_closing_26 rfl (lv_at hl 0 rfl) ?_
  refine mg_text S hK hw d_M_closing_27 ?_
  refine lv_iload_n S.1 S.2.1 d_M_closing_30 rfl (lv_at hl 2 rfl) ?_
  have hg := h.1
  have h := h.2
  refine ml_text S hK hw hg d_M_closing_31 ?_
  refine lv_bipush (v := 41) S.1 S.2.1 d_M_closing_32 (by decide) ?_
  refine lv_icmp_ne (tgt := 40) S.1 S.2.1 d_M_closing_34 (by decide) (fun q_34 => ?_) (fun q_34 => ?_)
  · have h := h.2 q_34
    exact wB_M_closing_40 S hr hlk hK hA ih4 x2 x3 u _ _ _ (lv_sub hl [0, 1, 2] rfl) hw h
  · have h := h.1 q_34
    obtain ⟨x2_37, ex2_37⟩ : ∃ y : Int32, y = x2 + (-1) := ⟨_, rfl⟩
    have h := h x2_37 ex2_37
    refine lv_iinc (v := x2_37) (lv' := [(2, .int x2_37), (0, .ref (a 0)), (3, .int x3)]) S.1 S.2.1 d_M_closing_37 hl (k := 1) rfl (by rw [ex2_37]; rfl) (by decide) rfl (fun ls hl => ?_)
    exact wB_M_closing_40 S hr hlk hK hA ih4 x2_37 x3 u _ _ _ (lv_sub hl [1, 0, 2] rfl) hw h
set_option maxHeartbeats 4000000 in
set_option maxRecDepth 20000 in
theorem wL_M_closing_4 (S : CallFix p m c b_M_closing 4 s args lw_tg R_Mod) (hr : meth.sig.returnType = some .int) (hlk : meth.locks = false) (hK : GK x s) (hA : ∀ q : Nat, s.heap.size ≤ q → A q) {Qc : Int32 → MS → Prop} : ∀ (n : Nat) (x2 : Int32) (x3 : Int32) (u : MS) (ls : Array Slot) (H : Heap) (locs : List Loc), lv_has ls 4 [(0, .ref (a 0)), (2, .int x2), (3, .int x3)] → wd x A s.heap ((mcl x a) u) H locs → L_M_closing_4 Qc  n x2 x3 u → W p l e (rmN 0 0 0) s m args below meth c H locs 0 0 (MQ below (QcI x (mcl x a) A Qc) args s 0 0 A) (F0 m 4 ls []) := by
  intro n
  induction n with
  | zero =>
    intro x2 x3 u ls H locs hl hw h
    exact absurd h id
  | succ n ih =>
    intro x2 x3 u ls H locs hl hw h
    refine lv_iload_n S.1 S.2.1 d_M_closing_4 rfl (lv_at hl 2 rfl) ?_
    refine lv_aload_n S.1 S.2.1 d_M_closing_5 rfl (lv_at hl 0 rfl) ?_
    refine mg_length S hK hw d_M_closing_6 ?_
    refine lv_icmp_ge (tgt := 52) S.1 S.2.1 d_M_closing_9 (by decide) (fun q_9 => ?_) (fun q_9 => ?_)
    · have h := h.1 q_9
      refine lv_aload_n S.1 S.2.1 d_M_closing_52 rfl (lv_at hl 0 rfl) ?_
      refine mg_length S hK hw d_M_closing_53 ?_
      exact w_iret S hr hlk hK hw h d_M_closing_56
    · have h := h.2 q_9
      refine lv_aload_n S.1 S.2.1 d_M_closing_12 rfl (lv_at hl 0 rfl) ?_
      refine mg_text S hK hw d_M_closing_13 ?_
      refine lv_iload_n S.1 S.2.1 d_M_closing_16 rfl (lv_at hl 2 rfl) ?_
      have hg := h.1
      have h := h.2
      refine ml_text S hK hw hg d_M_closing_17 ?_
      refine lv_bipush (v := 40) S.1 S.2.1 d_M_closing_18 (by decide) ?_
      refine lv_icmp_ne (tgt := 26) S.1 S.2.1 d_M_closing_20 (by decide) (fun q_20 => ?_) (fun q_20 => ?_)
      · have h := h.2 q_20
        exact wB_M_closing_26 S hr hlk hK hA ih x2 x3 u _ _ _ (lv_sub hl [0, 1, 2] rfl) hw h
      · have h := h.1 q_20
        obtain ⟨x2_23, ex2_23⟩ : ∃ y : Int32, y = x2 + 1 := ⟨_, rfl⟩
        have h := h x2_23 ex2_23
        refine lv_iinc (v := x2_23) (lv' := [(2, .int x2_23), (0, .ref (a 0)), (3, .int x3)]) S.1 S.2.1 d_M_closing_23 hl (k := 1) rfl (by rw [ex2_23]; rfl) (by decide) rfl (fun ls hl => ?_)
        exact wB_M_closing_26 S hr hlk hK hA ih x2_23 x3 u _ _ _ (lv_sub hl [1, 0, 2] rfl) hw h
set_option maxHeartbeats 4000000 in
set_option maxRecDepth 20000 in
theorem c_M_closing {x : GX} {a : Nat → Nat} (l : Launch) (x1 : Int32) (u : MS) (sz : Nat) (Qc : Int32 → MS → Prop) (h : P_M_closing x1 u Qc) : Met l y_M_closing (wM y_M_closing b_M_closing 4 (some .int)) (rmN 0 0 0) (PreC x (mcl x a) [.ref (a 0), .int x1] u sz) (QcI x (mcl x a) (va_A ((mcl x a) u) sz) Qc) 0 0 (va_A ((mcl x a) u) sz) := by
  refine w_enter (by decide +kernel) (Nat.le_of_ble_eq_true rfl) (fun p e s m args below meth c S hr hlk _ hK hA hw ls hl => ?_)
  have hl : lv_has ls 4 [(0, .ref (a 0)), (1, .int x1)] := hl
  refine lv_iconst (v := 0) S.1 S.2.1 d_M_closing_0 (by decide) ?_
  refine lv_istore_n (lv' := [(2, .int (0 : Int32)), (0, .ref (a 0)), (1, .int x1)]) S.1 S.2.1 d_M_closing_1 rfl hl (by decide) rfl (fun ls hl => ?_)
  refine lv_iload_n S.1 S.2.1 d_M_closing_2 rfl (lv_at hl 2 rfl) ?_
  refine lv_istore_n (lv' := [(3, .int x1), (2, .int (0 : Int32)), (0, .ref (a 0)), (1, .int x1)]) S.1 S.2.1 d_M_closing_3 rfl hl (by decide) rfl (fun ls hl => ?_)
  obtain ⟨n9, h⟩ := h
  exact wL_M_closing_4 S hr hlk hK hA  n9 (0 : Int32) x1 u _ _ _ (lv_sub hl [2, 1, 0] rfl) hw h
set_option maxHeartbeats 4000000 in
set_option maxRecDepth 20000 in
theorem wL_M_behindAtom_44 (S : CallFix p m c b_M_behindAtom 3 s args lw_tg R_Mod) (hr : meth.sig.returnType = some .int) (hlk : meth.locks = false) (hK : GK x s) (hA : ∀ q : Nat, s.heap.size ≤ q → A q) {Qc : Int32 → MS → Prop} : ∀ (n : Nat) (x2 : Int32) (u : MS) (ls : Array Slot) (H : Heap) (locs : List Loc), lv_has ls 3 [(0, .ref (a 0)), (2, .int x2)] → wd x A s.heap ((mcl x a) u) H locs → L_M_behindAtom_44 Qc  n x2 u → W p l e (rmN 1 0 0) s m args below meth c H locs 0 0 (MQ below (QcI x (mcl x a) A Qc) args s 0 0 A) (F0 m 44 ls []) := by
  intro n
  induction n with
  | zero =>
    intro x2 u ls H locs hl hw h
    exact absurd h id
  | succ n ih =>
    intro x2 u ls H locs hl hw h
    refine lv_aload_n S.1 S.2.1 d_M_behindAtom_44 rfl (lv_at hl 0 rfl) ?_
    refine lv_iload_n S.1 S.2.1 d_M_behindAtom_45 rfl (lv_at hl 1 rfl) ?_
    refine w_ci hA hw (w_rv (rest := []) S hK hw (c_M_t l x2 u _ _ h) (ci := 0) (q0 := 0) rfl rfl (w_cb (fr := 0) (lv := 0) S.2.2.2.2 k_1040 k_1037 k_8 yd_M_t rfl rfl ⟨Nat.le_of_ble_eq_true rfl, Nat.le_of_ble_eq_true rfl⟩) k_1039 s_48 rfl hl.1 rfl (Nat.le_of_ble_eq_true rfl) d_M_behindAtom_46 ⟨Nat.le_refl _, Nat.le_refl _⟩) (fun r_46 u_46 H locs h hw => ?_)
    refine lv_bipush (v := 93) S.1 S.2.1 d_M_behindAtom_49 (by decide) ?_
    refine lv_icmp_eq (tgt := 68) S.1 S.2.1 d_M_behindAtom_51 (by decide) (fun q_51 => ?_) (fun q_51 => ?_)
    · have h := h.1 q_51
      refine lv_iload_n S.1 S.2.1 d_M_behindAtom_68 rfl (lv_at hl 1 rfl) ?_
      refine lv_iconst (v := 1) S.1 S.2.1 d_M_behindAtom_69 (by decide) ?_
      refine lv_iadd S.1 S.2.1 d_M_behindAtom_70 ?_
      exact w_iret S hr hlk hK hw h d_M_behindAtom_71
    · have h := h.2 q_51
      refine lv_iload_n S.1 S.2.1 d_M_behindAtom_54 rfl (lv_at hl 1 rfl) ?_
      refine lv_aload_n S.1 S.2.1 d_M_behindAtom_55 rfl (lv_at hl 0 rfl) ?_
      refine mg_length S hK hw d_M_behindAtom_56 ?_
      refine lv_icmp_ge (tgt := 68) S.1 S.2.1 d_M_behindAtom_59 (by decide) (fun q_59 => ?_) (fun q_59 => ?_)
      · have h := h.1 q_59
        refine lv_iload_n S.1 S.2.1 d_M_behindAtom_68 rfl (lv_at hl 1 rfl) ?_
        refine lv_iconst (v := 1) S.1 S.2.1 d_M_behindAtom_69 (by decide) ?_
        refine lv_iadd S.1 S.2.1 d_M_behindAtom_70 ?_
        exact w_iret S hr hlk hK hw h d_M_behindAtom_71
      · have h := h.2 q_59
        obtain ⟨x2_62, ex2_62⟩ : ∃ y : Int32, y = x2 + 1 := ⟨_, rfl⟩
        have h := h x2_62 ex2_62
        refine lv_iinc (v := x2_62) (lv' := [(2, .int x2_62), (0, .ref (a 0))]) S.1 S.2.1 d_M_behindAtom_62 hl (k := 1) rfl (by rw [ex2_62]; rfl) (by decide) rfl (fun ls hl => ?_)
        refine lv_goto (tgt := 44) S.1 S.2.1 d_M_behindAtom_65 (by decide) ?_
        exact ih x2_62 u_46 _ _ _ (lv_sub hl [1, 0] rfl) hw h
set_option maxHeartbeats 4000000 in
set_option maxRecDepth 20000 in
theorem c_M_behindAtom {x : GX} {a : Nat → Nat} (l : Launch) (x1 : Int32) (u : MS) (sz : Nat) (Qc : Int32 → MS → Prop) (h : P_M_behindAtom x1 u Qc) : Met l y_M_behindAtom (wM y_M_behindAtom b_M_behindAtom 3 (some .int)) (rmN 1 0 0) (PreC x (mcl x a) [.ref (a 0), .int x1] u sz) (QcI x (mcl x a) (va_A ((mcl x a) u) sz) Qc) 0 0 (va_A ((mcl x a) u) sz) := by
  refine w_enter (by decide +kernel) (Nat.le_of_ble_eq_true rfl) (fun p e s m args below meth c S hr hlk _ hK hA hw ls hl => ?_)
  have hl : lv_has ls 3 [(0, .ref (a 0)), (1, .int x1)] := hl
  refine lv_aload_n S.1 S.2.1 d_M_behindAtom_0 rfl (lv_at hl 0 rfl) ?_
  refine lv_iload_n S.1 S.2.1 d_M_behindAtom_1 rfl (lv_at hl 1 rfl) ?_
  refine w_ci hA hw (w_rv (rest := []) S hK hw (c_M_t l x1 u _ _ h) (ci := 0) (q0 := 0) rfl rfl (w_cb (fr := 0) (lv := 0) S.2.2.2.2 k_1040 k_1037 k_8 yd_M_t rfl rfl ⟨Nat.le_of_ble_eq_true rfl, Nat.le_of_ble_eq_true rfl⟩) k_1039 s_48 rfl hl.1 rfl (Nat.le_of_ble_eq_true rfl) d_M_behindAtom_2 ⟨Nat.le_refl _, Nat.le_refl _⟩) (fun r_2 u_2 H locs h hw => ?_)
  refine lv_bipush (v := 40) S.1 S.2.1 d_M_behindAtom_5 (by decide) ?_
  refine lv_icmp_ne (tgt := 18) S.1 S.2.1 d_M_behindAtom_7 (by decide) (fun q_7 => ?_) (fun q_7 => ?_)
  · have h := h.2 q_7
    refine lv_aload_n S.1 S.2.1 d_M_behindAtom_18 rfl (lv_at hl 0 rfl) ?_
    refine lv_iload_n S.1 S.2.1 d_M_behindAtom_19 rfl (lv_at hl 1 rfl) ?_
    refine w_ci hA hw (w_rv (rest := []) S hK hw (c_M_t l x1 u_2 _ _ h) (ci := 0) (q0 := 0) rfl rfl (w_cb (fr := 0) (lv := 0) S.2.2.2.2 k_1040 k_1037 k_8 yd_M_t rfl rfl ⟨Nat.le_of_ble_eq_true rfl, Nat.le_of_ble_eq_true rfl⟩) k_1039 s_48 rfl hl.1 rfl (Nat.le_of_ble_eq_true rfl) d_M_behindAtom_20 ⟨Nat.le_refl _, Nat.le_refl _⟩) (fun r_20 u_20 H locs h hw => ?_)
    refine lv_bipush (v := 92) S.1 S.2.1 d_M_behindAtom_23 (by decide) ?_
    refine lv_icmp_ne (tgt := 32) S.1 S.2.1 d_M_behindAtom_25 (by decide) (fun q_25 => ?_) (fun q_25 => ?_)
    · have h := h.2 q_25
      refine lv_iload_n S.1 S.2.1 d_M_behindAtom_32 rfl (lv_at hl 1 rfl) ?_
      refine lv_istore_n (lv' := [(2, .int x1), (0, .ref (a 0)), (1, .int x1)]) S.1 S.2.1 d_M_behindAtom_33 rfl hl (by decide) rfl (fun ls hl => ?_)
      refine lv_aload_n S.1 S.2.1 d_M_behindAtom_34 rfl (lv_at hl 1 rfl) ?_
      refine lv_iload_n S.1 S.2.1 d_M_behindAtom_35 rfl (lv_at hl 2 rfl) ?_
      refine w_ci hA hw (w_rv (rest := []) S hK hw (c_M_t l x1 u_20 _ _ h) (ci := 0) (q0 := 0) rfl rfl (w_cb (fr := 0) (lv := 0) S.2.2.2.2 k_1040 k_1037 k_8 yd_M_t rfl rfl ⟨Nat.le_of_ble_eq_true rfl, Nat.le_of_ble_eq_true rfl⟩) k_1039 s_48 rfl hl.1 rfl (Nat.le_of_ble_eq_true rfl) d_M_behindAtom_36 ⟨Nat.le_refl _, Nat.le_refl _⟩) (fun r_36 u_36 H locs h hw => ?_)
      refine lv_bipush (v := 91) S.1 S.2.1 d_M_behindAtom_39 (by decide) ?_
      refine lv_icmp_ne (tgt := 68) S.1 S.2.1 d_M_behindAtom_41 (by decide) (fun q_41 => ?_) (fun q_41 => ?_)
      · have h := h.2 q_41
        refine lv_iload_n S.1 S.2.1 d_M_behindAtom_68 rfl (lv_at hl 0 rfl) ?_
        refine lv_iconst (v := 1) S.1 S.2.1 d_M_behindAtom_69 (by decide) ?_
        refine lv_iadd S.1 S.2.1 d_M_behindAtom_70 ?_
        exact w_iret S hr hlk hK hw h d_M_behindAtom_71
      · have h := h.1 q_41
        obtain ⟨n9, h⟩ := h
        exact wL_M_behindAtom_44 S hr hlk hK hA  n9 x1 u_36 _ _ _ (lv_sub hl [1, 0] rfl) hw h
    · have h := h.1 q_25
      refine lv_iload_n S.1 S.2.1 d_M_behindAtom_28 rfl (lv_at hl 1 rfl) ?_
      refine lv_iconst (v := 2) S.1 S.2.1 d_M_behindAtom_29 (by decide) ?_
      refine lv_iadd S.1 S.2.1 d_M_behindAtom_30 ?_
      exact w_iret S hr hlk hK hw h d_M_behindAtom_31
  · have h := h.1 q_7
    refine lv_aload_n S.1 S.2.1 d_M_behindAtom_10 rfl (lv_at hl 0 rfl) ?_
    refine lv_iload_n S.1 S.2.1 d_M_behindAtom_11 rfl (lv_at hl 1 rfl) ?_
    refine w_ci hA hw (w_rv (rest := []) S hK hw (c_M_closing l x1 u_2 _ _ h) (ci := 0) (q0 := 0) rfl rfl (w_cb (fr := 0) (lv := 0) S.2.2.2.2 k_1052 k_1049 k_8 yd_M_closing rfl rfl ⟨Nat.le_of_ble_eq_true rfl, Nat.le_of_ble_eq_true rfl⟩) k_1051 s_51 rfl hl.1 rfl (Nat.le_of_ble_eq_true rfl) d_M_behindAtom_12 ⟨Nat.le_refl _, Nat.le_refl _⟩) (fun r_12 u_12 H locs h hw => ?_)
    refine lv_iconst (v := 1) S.1 S.2.1 d_M_behindAtom_15 (by decide) ?_
    refine lv_iadd S.1 S.2.1 d_M_behindAtom_16 ?_
    exact w_iret S hr hlk hK hw h d_M_behindAtom_17
end MW
