theorem d_M_nextRow_0 : decode b_M_nextRow 0 = .ok (.iload_n 1, 1) := by decide +kernel
theorem d_M_nextRow_1 : decode b_M_nextRow 1 = .ok (.istore_n 2, 1) := by decide +kernel
theorem d_M_nextRow_2 : decode b_M_nextRow 2 = .ok (.aload_n 0, 1) := by decide +kernel
theorem d_M_nextRow_3 : decode b_M_nextRow 3 = .ok (.iload_n 2, 1) := by decide +kernel
theorem d_M_nextRow_4 : decode b_M_nextRow 4 = .ok (.invokevirtual 108, 3) := by decide +kernel
theorem d_M_nextRow_7 : decode b_M_nextRow 7 = .ok (.ifCond .ne 48, 3) := by decide +kernel
theorem d_M_nextRow_10 : decode b_M_nextRow 10 = .ok (.aload_n 0, 1) := by decide +kernel
theorem d_M_nextRow_11 : decode b_M_nextRow 11 = .ok (.iload_n 2, 1) := by decide +kernel
theorem d_M_nextRow_12 : decode b_M_nextRow 12 = .ok (.invokevirtual 102, 3) := by decide +kernel
theorem d_M_nextRow_15 : decode b_M_nextRow 15 = .ok (.bipush 40, 2) := by decide +kernel
theorem d_M_nextRow_17 : decode b_M_nextRow 17 = .ok (.if_icmp .eq 23, 3) := by decide +kernel
theorem d_M_nextRow_20 : decode b_M_nextRow 20 = .ok (.aload_n 0, 1) := by decide +kernel
theorem d_M_nextRow_21 : decode b_M_nextRow 21 = .ok (.iload_n 2, 1) := by decide +kernel
theorem d_M_nextRow_22 : decode b_M_nextRow 22 = .ok (.invokevirtual 102, 3) := by decide +kernel
theorem d_M_nextRow_25 : decode b_M_nextRow 25 = .ok (.bipush 91, 2) := by decide +kernel
theorem d_M_nextRow_27 : decode b_M_nextRow 27 = .ok (.if_icmp .eq 13, 3) := by decide +kernel
theorem d_M_nextRow_30 : decode b_M_nextRow 30 = .ok (.aload_n 0, 1) := by decide +kernel
theorem d_M_nextRow_31 : decode b_M_nextRow 31 = .ok (.iload_n 2, 1) := by decide +kernel
theorem d_M_nextRow_32 : decode b_M_nextRow 32 = .ok (.invokevirtual 102, 3) := by decide +kernel
theorem d_M_nextRow_35 : decode b_M_nextRow 35 = .ok (.bipush 92, 2) := by decide +kernel
theorem d_M_nextRow_37 : decode b_M_nextRow 37 = .ok (.if_icmp .ne 11, 3) := by decide +kernel
theorem d_M_nextRow_40 : decode b_M_nextRow 40 = .ok (.aload_n 0, 1) := by decide +kernel
theorem d_M_nextRow_41 : decode b_M_nextRow 41 = .ok (.iload_n 2, 1) := by decide +kernel
theorem d_M_nextRow_42 : decode b_M_nextRow 42 = .ok (.invokevirtual 111, 3) := by decide +kernel
theorem d_M_nextRow_45 : decode b_M_nextRow 45 = .ok (.goto 6, 3) := by decide +kernel
theorem d_M_nextRow_48 : decode b_M_nextRow 48 = .ok (.iload_n 2, 1) := by decide +kernel
theorem d_M_nextRow_49 : decode b_M_nextRow 49 = .ok (.iconst 1, 1) := by decide +kernel
theorem d_M_nextRow_50 : decode b_M_nextRow 50 = .ok (.iadd, 1) := by decide +kernel
theorem d_M_nextRow_51 : decode b_M_nextRow 51 = .ok (.istore_n 2, 1) := by decide +kernel
theorem d_M_nextRow_52 : decode b_M_nextRow 52 = .ok (.goto (-50), 3) := by decide +kernel
theorem d_M_nextRow_55 : decode b_M_nextRow 55 = .ok (.aload_n 0, 1) := by decide +kernel
theorem d_M_nextRow_56 : decode b_M_nextRow 56 = .ok (.iload_n 2, 1) := by decide +kernel
theorem d_M_nextRow_57 : decode b_M_nextRow 57 = .ok (.invokevirtual 102, 3) := by decide +kernel
theorem d_M_nextRow_60 : decode b_M_nextRow 60 = .ok (.bipush 124, 2) := by decide +kernel
theorem d_M_nextRow_62 : decode b_M_nextRow 62 = .ok (.if_icmp .ne 9, 3) := by decide +kernel
theorem d_M_nextRow_65 : decode b_M_nextRow 65 = .ok (.iload_n 2, 1) := by decide +kernel
theorem d_M_nextRow_66 : decode b_M_nextRow 66 = .ok (.iconst 1, 1) := by decide +kernel
theorem d_M_nextRow_67 : decode b_M_nextRow 67 = .ok (.iadd, 1) := by decide +kernel
theorem d_M_nextRow_68 : decode b_M_nextRow 68 = .ok (.goto 4, 3) := by decide +kernel
theorem d_M_nextRow_71 : decode b_M_nextRow 71 = .ok (.iconst (-1), 1) := by decide +kernel
theorem d_M_nextRow_72 : decode b_M_nextRow 72 = .ok (.ireturn, 1) := by decide +kernel
theorem d_M_groupAt_0 : decode b_M_groupAt 0 = .ok (.iconst 0, 1) := by decide +kernel
theorem d_M_groupAt_1 : decode b_M_groupAt 1 = .ok (.istore_n 2, 1) := by decide +kernel
theorem d_M_groupAt_2 : decode b_M_groupAt 2 = .ok (.iconst 0, 1) := by decide +kernel
theorem d_M_groupAt_3 : decode b_M_groupAt 3 = .ok (.istore_n 3, 1) := by decide +kernel
theorem d_M_groupAt_4 : decode b_M_groupAt 4 = .ok (.iload_n 3, 1) := by decide +kernel
theorem d_M_groupAt_5 : decode b_M_groupAt 5 = .ok (.iload_n 1, 1) := by decide +kernel
theorem d_M_groupAt_6 : decode b_M_groupAt 6 = .ok (.if_icmp .gt 34, 3) := by decide +kernel
theorem d_M_groupAt_9 : decode b_M_groupAt 9 = .ok (.aload_n 0, 1) := by decide +kernel
theorem d_M_groupAt_10 : decode b_M_groupAt 10 = .ok (.iload_n 3, 1) := by decide +kernel
theorem d_M_groupAt_11 : decode b_M_groupAt 11 = .ok (.invokevirtual 102, 3) := by decide +kernel
theorem d_M_groupAt_14 : decode b_M_groupAt 14 = .ok (.bipush 40, 2) := by decide +kernel
theorem d_M_groupAt_16 : decode b_M_groupAt 16 = .ok (.if_icmp .ne 18, 3) := by decide +kernel
theorem d_M_groupAt_19 : decode b_M_groupAt 19 = .ok (.aload_n 0, 1) := by decide +kernel
theorem d_M_groupAt_20 : decode b_M_groupAt 20 = .ok (.iload_n 3, 1) := by decide +kernel
theorem d_M_groupAt_21 : decode b_M_groupAt 21 = .ok (.iconst 1, 1) := by decide +kernel
theorem d_M_groupAt_22 : decode b_M_groupAt 22 = .ok (.iadd, 1) := by decide +kernel
theorem d_M_groupAt_23 : decode b_M_groupAt 23 = .ok (.invokevirtual 102, 3) := by decide +kernel
theorem d_M_groupAt_26 : decode b_M_groupAt 26 = .ok (.bipush 63, 2) := by decide +kernel
theorem d_M_groupAt_28 : decode b_M_groupAt 28 = .ok (.if_icmp .eq 6, 3) := by decide +kernel
theorem d_M_groupAt_31 : decode b_M_groupAt 31 = .ok (.iinc 2 1, 3) := by decide +kernel
theorem d_M_groupAt_34 : decode b_M_groupAt 34 = .ok (.iinc 3 1, 3) := by decide +kernel
theorem d_M_groupAt_37 : decode b_M_groupAt 37 = .ok (.goto (-33), 3) := by decide +kernel
theorem d_M_groupAt_40 : decode b_M_groupAt 40 = .ok (.iload_n 2, 1) := by decide +kernel
theorem d_M_groupAt_41 : decode b_M_groupAt 41 = .ok (.ireturn, 1) := by decide +kernel
theorem d_M_kindOf_0 : decode b_M_kindOf 0 = .ok (.aload_n 0, 1) := by decide +kernel
theorem d_M_kindOf_1 : decode b_M_kindOf 1 = .ok (.getfield 22, 3) := by decide +kernel
theorem d_M_kindOf_4 : decode b_M_kindOf 4 = .ok (.iload_n 1, 1) := by decide +kernel
theorem d_M_kindOf_5 : decode b_M_kindOf 5 = .ok (.laload, 1) := by decide +kernel
theorem d_M_kindOf_6 : decode b_M_kindOf 6 = .ok (.l2i, 1) := by decide +kernel
theorem d_M_kindOf_7 : decode b_M_kindOf 7 = .ok (.bipush 15, 2) := by decide +kernel
theorem d_M_kindOf_9 : decode b_M_kindOf 9 = .ok (.iand, 1) := by decide +kernel
theorem d_M_kindOf_10 : decode b_M_kindOf 10 = .ok (.ireturn, 1) := by decide +kernel
theorem d_M_parentOf_0 : decode b_M_parentOf 0 = .ok (.aload_n 0, 1) := by decide +kernel
theorem d_M_parentOf_1 : decode b_M_parentOf 1 = .ok (.getfield 22, 3) := by decide +kernel
theorem d_M_parentOf_4 : decode b_M_parentOf 4 = .ok (.iload_n 1, 1) := by decide +kernel
theorem d_M_parentOf_5 : decode b_M_parentOf 5 = .ok (.laload, 1) := by decide +kernel
theorem d_M_parentOf_6 : decode b_M_parentOf 6 = .ok (.bipush 23, 2) := by decide +kernel
theorem d_M_parentOf_8 : decode b_M_parentOf 8 = .ok (.lshr, 1) := by decide +kernel
theorem d_M_parentOf_9 : decode b_M_parentOf 9 = .ok (.l2i, 1) := by decide +kernel
theorem d_M_parentOf_10 : decode b_M_parentOf 10 = .ok (.sipush 8191, 3) := by decide +kernel
theorem d_M_parentOf_13 : decode b_M_parentOf 13 = .ok (.iand, 1) := by decide +kernel
theorem d_M_parentOf_14 : decode b_M_parentOf 14 = .ok (.ireturn, 1) := by decide +kernel
theorem d_M_calls_0 : decode b_M_calls 0 = .ok (.iconst 0, 1) := by decide +kernel
theorem d_M_calls_1 : decode b_M_calls 1 = .ok (.istore_n 1, 1) := by decide +kernel
theorem d_M_calls_2 : decode b_M_calls 2 = .ok (.aload_n 0, 1) := by decide +kernel
theorem d_M_calls_3 : decode b_M_calls 3 = .ok (.getfield 133, 3) := by decide +kernel
theorem d_M_calls_6 : decode b_M_calls 6 = .ok (.istore_n 2, 1) := by decide +kernel
theorem d_M_calls_7 : decode b_M_calls 7 = .ok (.iload_n 2, 1) := by decide +kernel
theorem d_M_calls_8 : decode b_M_calls 8 = .ok (.ifCond .le 24, 3) := by decide +kernel
theorem d_M_calls_11 : decode b_M_calls 11 = .ok (.aload_n 0, 1) := by decide +kernel
theorem d_M_calls_12 : decode b_M_calls 12 = .ok (.iload_n 2, 1) := by decide +kernel
theorem d_M_calls_13 : decode b_M_calls 13 = .ok (.invokevirtual 136, 3) := by decide +kernel
theorem d_M_calls_16 : decode b_M_calls 16 = .ok (.iconst 3, 1) := by decide +kernel
theorem d_M_calls_17 : decode b_M_calls 17 = .ok (.if_icmp .ne 6, 3) := by decide +kernel
theorem d_M_calls_20 : decode b_M_calls 20 = .ok (.iinc 1 1, 3) := by decide +kernel
theorem d_M_calls_23 : decode b_M_calls 23 = .ok (.aload_n 0, 1) := by decide +kernel
theorem d_M_calls_24 : decode b_M_calls 24 = .ok (.iload_n 2, 1) := by decide +kernel
theorem d_M_calls_25 : decode b_M_calls 25 = .ok (.invokevirtual 139, 3) := by decide +kernel
theorem d_M_calls_28 : decode b_M_calls 28 = .ok (.istore_n 2, 1) := by decide +kernel
theorem d_M_calls_29 : decode b_M_calls 29 = .ok (.goto (-22), 3) := by decide +kernel
theorem d_M_calls_32 : decode b_M_calls 32 = .ok (.iload_n 1, 1) := by decide +kernel
theorem d_M_calls_33 : decode b_M_calls 33 = .ok (.ireturn, 1) := by decide +kernel
theorem d_M_choiceOf_0 : decode b_M_choiceOf 0 = .ok (.iload_n 1, 1) := by decide +kernel
theorem d_M_choiceOf_1 : decode b_M_choiceOf 1 = .ok (.istore_n 2, 1) := by decide +kernel
theorem d_M_choiceOf_2 : decode b_M_choiceOf 2 = .ok (.iconst 0, 1) := by decide +kernel
theorem d_M_choiceOf_3 : decode b_M_choiceOf 3 = .ok (.istore_n 3, 1) := by decide +kernel
theorem d_M_choiceOf_4 : decode b_M_choiceOf 4 = .ok (.iload_n 3, 1) := by decide +kernel
theorem d_M_choiceOf_5 : decode b_M_choiceOf 5 = .ok (.aload_n 0, 1) := by decide +kernel
theorem d_M_choiceOf_6 : decode b_M_choiceOf 6 = .ok (.getfield 87, 3) := by decide +kernel
theorem d_M_choiceOf_9 : decode b_M_choiceOf 9 = .ok (.if_icmp .ge 46, 3) := by decide +kernel
theorem d_M_choiceOf_12 : decode b_M_choiceOf 12 = .ok (.iload_n 2, 1) := by decide +kernel
theorem d_M_choiceOf_13 : decode b_M_choiceOf 13 = .ok (.ifCond .le 42, 3) := by decide +kernel
theorem d_M_choiceOf_16 : decode b_M_choiceOf 16 = .ok (.aload_n 0, 1) := by decide +kernel
theorem d_M_choiceOf_17 : decode b_M_choiceOf 17 = .ok (.iload_n 3, 1) := by decide +kernel
theorem d_M_choiceOf_18 : decode b_M_choiceOf 18 = .ok (.invokevirtual 102, 3) := by decide +kernel
theorem d_M_choiceOf_21 : decode b_M_choiceOf 21 = .ok (.bipush 40, 2) := by decide +kernel
theorem d_M_choiceOf_23 : decode b_M_choiceOf 23 = .ok (.if_icmp .ne 18, 3) := by decide +kernel
theorem d_M_choiceOf_26 : decode b_M_choiceOf 26 = .ok (.aload_n 0, 1) := by decide +kernel
theorem d_M_choiceOf_27 : decode b_M_choiceOf 27 = .ok (.iload_n 3, 1) := by decide +kernel
theorem d_M_choiceOf_28 : decode b_M_choiceOf 28 = .ok (.iconst 1, 1) := by decide +kernel
theorem d_M_choiceOf_29 : decode b_M_choiceOf 29 = .ok (.iadd, 1) := by decide +kernel
theorem d_M_choiceOf_30 : decode b_M_choiceOf 30 = .ok (.invokevirtual 102, 3) := by decide +kernel
theorem d_M_choiceOf_33 : decode b_M_choiceOf 33 = .ok (.bipush 63, 2) := by decide +kernel
theorem d_M_choiceOf_35 : decode b_M_choiceOf 35 = .ok (.if_icmp .eq 6, 3) := by decide +kernel
theorem d_M_choiceOf_38 : decode b_M_choiceOf 38 = .ok (.iinc 2 (-1), 3) := by decide +kernel
theorem d_M_choiceOf_41 : decode b_M_choiceOf 41 = .ok (.iload_n 2, 1) := by decide +kernel
theorem d_M_choiceOf_42 : decode b_M_choiceOf 42 = .ok (.ifCond .ne 7, 3) := by decide +kernel
theorem d_M_choiceOf_45 : decode b_M_choiceOf 45 = .ok (.iload_n 3, 1) := by decide +kernel
theorem d_M_choiceOf_46 : decode b_M_choiceOf 46 = .ok (.iconst 1, 1) := by decide +kernel
theorem d_M_choiceOf_47 : decode b_M_choiceOf 47 = .ok (.iadd, 1) := by decide +kernel
theorem d_M_choiceOf_48 : decode b_M_choiceOf 48 = .ok (.ireturn, 1) := by decide +kernel
theorem d_M_choiceOf_49 : decode b_M_choiceOf 49 = .ok (.iinc 3 1, 3) := by decide +kernel
theorem d_M_choiceOf_52 : decode b_M_choiceOf 52 = .ok (.goto (-48), 3) := by decide +kernel
theorem d_M_choiceOf_55 : decode b_M_choiceOf 55 = .ok (.iconst 0, 1) := by decide +kernel
theorem d_M_choiceOf_56 : decode b_M_choiceOf 56 = .ok (.ireturn, 1) := by decide +kernel
theorem d_M_openChoice_0 : decode b_M_openChoice 0 = .ok (.aload_n 0, 1) := by decide +kernel
theorem d_M_openChoice_1 : decode b_M_openChoice 1 = .ok (.iload_n 1, 1) := by decide +kernel
theorem d_M_openChoice_2 : decode b_M_openChoice 2 = .ok (.iconst 1, 1) := by decide +kernel
theorem d_M_openChoice_3 : decode b_M_openChoice 3 = .ok (.iadd, 1) := by decide +kernel
theorem d_M_openChoice_4 : decode b_M_openChoice 4 = .ok (.invokevirtual 102, 3) := by decide +kernel
theorem d_M_openChoice_7 : decode b_M_openChoice 7 = .ok (.bipush 63, 2) := by decide +kernel
theorem d_M_openChoice_9 : decode b_M_openChoice 9 = .ok (.if_icmp .ne 13, 3) := by decide +kernel
theorem d_M_openChoice_12 : decode b_M_openChoice 12 = .ok (.aload_n 0, 1) := by decide +kernel
theorem d_M_openChoice_13 : decode b_M_openChoice 13 = .ok (.iload_n 1, 1) := by decide +kernel
theorem d_M_openChoice_14 : decode b_M_openChoice 14 = .ok (.iconst 2, 1) := by decide +kernel
theorem d_M_openChoice_15 : decode b_M_openChoice 15 = .ok (.iadd, 1) := by decide +kernel
theorem d_M_openChoice_16 : decode b_M_openChoice 16 = .ok (.invokevirtual 102, 3) := by decide +kernel
theorem d_M_openChoice_19 : decode b_M_openChoice 19 = .ok (.goto 4, 3) := by decide +kernel
theorem d_M_openChoice_22 : decode b_M_openChoice 22 = .ok (.iconst 0, 1) := by decide +kernel
theorem d_M_openChoice_23 : decode b_M_openChoice 23 = .ok (.istore_n 2, 1) := by decide +kernel
theorem d_M_openChoice_24 : decode b_M_openChoice 24 = .ok (.iload_n 2, 1) := by decide +kernel
theorem d_M_openChoice_25 : decode b_M_openChoice 25 = .ok (.ifCond .ne 32, 3) := by decide +kernel
theorem d_M_openChoice_28 : decode b_M_openChoice 28 = .ok (.aload_n 0, 1) := by decide +kernel
theorem d_M_openChoice_29 : decode b_M_openChoice 29 = .ok (.iconst 1, 1) := by decide +kernel
theorem d_M_openChoice_30 : decode b_M_openChoice 30 = .ok (.iload_n 1, 1) := by decide +kernel
theorem d_M_openChoice_31 : decode b_M_openChoice 31 = .ok (.iconst 1, 1) := by decide +kernel
theorem d_M_openChoice_32 : decode b_M_openChoice 32 = .ok (.iadd, 1) := by decide +kernel
theorem d_M_openChoice_33 : decode b_M_openChoice 33 = .ok (.aload_n 0, 1) := by decide +kernel
theorem d_M_openChoice_34 : decode b_M_openChoice 34 = .ok (.iconst 2, 1) := by decide +kernel
theorem d_M_openChoice_35 : decode b_M_openChoice 35 = .ok (.aload_n 0, 1) := by decide +kernel
theorem d_M_openChoice_36 : decode b_M_openChoice 36 = .ok (.iload_n 1, 1) := by decide +kernel
theorem d_M_openChoice_37 : decode b_M_openChoice 37 = .ok (.invokevirtual 156, 3) := by decide +kernel
theorem d_M_openChoice_40 : decode b_M_openChoice 40 = .ok (.aload_n 0, 1) := by decide +kernel
theorem d_M_openChoice_41 : decode b_M_openChoice 41 = .ok (.getfield 120, 3) := by decide +kernel
theorem d_M_openChoice_44 : decode b_M_openChoice 44 = .ok (.aload_n 0, 1) := by decide +kernel
theorem d_M_openChoice_45 : decode b_M_openChoice 45 = .ok (.getfield 133, 3) := by decide +kernel
theorem d_M_openChoice_48 : decode b_M_openChoice 48 = .ok (.invokevirtual 159, 3) := by decide +kernel
theorem d_M_openChoice_51 : decode b_M_openChoice 51 = .ok (.invokevirtual 163, 3) := by decide +kernel
theorem d_M_openChoice_54 : decode b_M_openChoice 54 = .ok (.goto 198, 3) := by decide +kernel
theorem d_M_openChoice_57 : decode b_M_openChoice 57 = .ok (.iload_n 2, 1) := by decide +kernel
theorem d_M_openChoice_58 : decode b_M_openChoice 58 = .ok (.bipush 58, 2) := by decide +kernel
theorem d_M_openChoice_60 : decode b_M_openChoice 60 = .ok (.if_icmp .ne 18, 3) := by decide +kernel
theorem d_M_openChoice_63 : decode b_M_openChoice 63 = .ok (.aload_n 0, 1) := by decide +kernel
theorem d_M_openChoice_64 : decode b_M_openChoice 64 = .ok (.iconst 1, 1) := by decide +kernel
theorem d_M_openChoice_65 : decode b_M_openChoice 65 = .ok (.iload_n 1, 1) := by decide +kernel
theorem d_M_openChoice_66 : decode b_M_openChoice 66 = .ok (.iconst 3, 1) := by decide +kernel
theorem d_M_openChoice_67 : decode b_M_openChoice 67 = .ok (.iadd, 1) := by decide +kernel
theorem d_M_openChoice_68 : decode b_M_openChoice 68 = .ok (.aload_n 0, 1) := by decide +kernel
theorem d_M_openChoice_69 : decode b_M_openChoice 69 = .ok (.getfield 133, 3) := by decide +kernel
theorem d_M_openChoice_72 : decode b_M_openChoice 72 = .ok (.invokevirtual 163, 3) := by decide +kernel
theorem d_M_openChoice_75 : decode b_M_openChoice 75 = .ok (.goto 177, 3) := by decide +kernel
theorem d_M_openChoice_78 : decode b_M_openChoice 78 = .ok (.iload_n 2, 1) := by decide +kernel
theorem d_M_openChoice_79 : decode b_M_openChoice 79 = .ok (.bipush 62, 2) := by decide +kernel
theorem d_M_openChoice_81 : decode b_M_openChoice 81 = .ok (.if_icmp .ne 29, 3) := by decide +kernel
theorem d_M_openChoice_84 : decode b_M_openChoice 84 = .ok (.aload_n 0, 1) := by decide +kernel
theorem d_M_openChoice_85 : decode b_M_openChoice 85 = .ok (.iconst 1, 1) := by decide +kernel
theorem d_M_openChoice_86 : decode b_M_openChoice 86 = .ok (.iload_n 1, 1) := by decide +kernel
theorem d_M_openChoice_87 : decode b_M_openChoice 87 = .ok (.iconst 3, 1) := by decide +kernel
theorem d_M_openChoice_88 : decode b_M_openChoice 88 = .ok (.iadd, 1) := by decide +kernel
theorem d_M_openChoice_89 : decode b_M_openChoice 89 = .ok (.aload_n 0, 1) := by decide +kernel
theorem d_M_openChoice_90 : decode b_M_openChoice 90 = .ok (.bipush 7, 2) := by decide +kernel
theorem d_M_openChoice_92 : decode b_M_openChoice 92 = .ok (.iconst 0, 1) := by decide +kernel
theorem d_M_openChoice_93 : decode b_M_openChoice 93 = .ok (.aload_n 0, 1) := by decide +kernel
theorem d_M_openChoice_94 : decode b_M_openChoice 94 = .ok (.getfield 117, 3) := by decide +kernel
theorem d_M_openChoice_97 : decode b_M_openChoice 97 = .ok (.aload_n 0, 1) := by decide +kernel
theorem d_M_openChoice_98 : decode b_M_openChoice 98 = .ok (.getfield 133, 3) := by decide +kernel
theorem d_M_openChoice_101 : decode b_M_openChoice 101 = .ok (.invokevirtual 159, 3) := by decide +kernel
theorem d_M_openChoice_104 : decode b_M_openChoice 104 = .ok (.invokevirtual 163, 3) := by decide +kernel
theorem d_M_openChoice_107 : decode b_M_openChoice 107 = .ok (.goto 145, 3) := by decide +kernel
theorem d_M_openChoice_110 : decode b_M_openChoice 110 = .ok (.iload_n 2, 1) := by decide +kernel
theorem d_M_openChoice_111 : decode b_M_openChoice 111 = .ok (.bipush 61, 2) := by decide +kernel
theorem d_M_openChoice_113 : decode b_M_openChoice 113 = .ok (.if_icmp .ne 32, 3) := by decide +kernel
theorem d_M_openChoice_116 : decode b_M_openChoice 116 = .ok (.aload_n 0, 1) := by decide +kernel
theorem d_M_openChoice_117 : decode b_M_openChoice 117 = .ok (.iconst 1, 1) := by decide +kernel
theorem d_M_openChoice_118 : decode b_M_openChoice 118 = .ok (.iload_n 1, 1) := by decide +kernel
theorem d_M_openChoice_119 : decode b_M_openChoice 119 = .ok (.iconst 3, 1) := by decide +kernel
theorem d_M_openChoice_120 : decode b_M_openChoice 120 = .ok (.iadd, 1) := by decide +kernel
theorem d_M_openChoice_121 : decode b_M_openChoice 121 = .ok (.aload_n 0, 1) := by decide +kernel
theorem d_M_openChoice_122 : decode b_M_openChoice 122 = .ok (.bipush 8, 2) := by decide +kernel
theorem d_M_openChoice_124 : decode b_M_openChoice 124 = .ok (.aload_n 0, 1) := by decide +kernel
theorem d_M_openChoice_125 : decode b_M_openChoice 125 = .ok (.getfield 120, 3) := by decide +kernel
theorem d_M_openChoice_128 : decode b_M_openChoice 128 = .ok (.aload_n 0, 1) := by decide +kernel
theorem d_M_openChoice_129 : decode b_M_openChoice 129 = .ok (.getfield 117, 3) := by decide +kernel
theorem d_M_openChoice_132 : decode b_M_openChoice 132 = .ok (.aload_n 0, 1) := by decide +kernel
theorem d_M_openChoice_133 : decode b_M_openChoice 133 = .ok (.getfield 133, 3) := by decide +kernel
theorem d_M_openChoice_136 : decode b_M_openChoice 136 = .ok (.invokevirtual 159, 3) := by decide +kernel
theorem d_M_openChoice_139 : decode b_M_openChoice 139 = .ok (.invokevirtual 163, 3) := by decide +kernel
theorem d_M_openChoice_142 : decode b_M_openChoice 142 = .ok (.goto 110, 3) := by decide +kernel
theorem d_M_openChoice_145 : decode b_M_openChoice 145 = .ok (.iload_n 2, 1) := by decide +kernel
theorem d_M_openChoice_146 : decode b_M_openChoice 146 = .ok (.bipush 33, 2) := by decide +kernel
theorem d_M_openChoice_148 : decode b_M_openChoice 148 = .ok (.if_icmp .ne 41, 3) := by decide +kernel
theorem d_M_openChoice_151 : decode b_M_openChoice 151 = .ok (.aload_n 0, 1) := by decide +kernel
theorem d_M_openChoice_152 : decode b_M_openChoice 152 = .ok (.bipush 9, 2) := by decide +kernel
theorem d_M_openChoice_154 : decode b_M_openChoice 154 = .ok (.iconst 0, 1) := by decide +kernel
theorem d_M_openChoice_155 : decode b_M_openChoice 155 = .ok (.aload_n 0, 1) := by decide +kernel
theorem d_M_openChoice_156 : decode b_M_openChoice 156 = .ok (.getfield 117, 3) := by decide +kernel
theorem d_M_openChoice_159 : decode b_M_openChoice 159 = .ok (.aload_n 0, 1) := by decide +kernel
theorem d_M_openChoice_160 : decode b_M_openChoice 160 = .ok (.getfield 133, 3) := by decide +kernel
theorem d_M_openChoice_163 : decode b_M_openChoice 163 = .ok (.invokevirtual 159, 3) := by decide +kernel
theorem d_M_openChoice_166 : decode b_M_openChoice 166 = .ok (.istore_n 3, 1) := by decide +kernel
theorem d_M_openChoice_167 : decode b_M_openChoice 167 = .ok (.aload_n 0, 1) := by decide +kernel
theorem d_M_openChoice_168 : decode b_M_openChoice 168 = .ok (.iconst 5, 1) := by decide +kernel
theorem d_M_openChoice_169 : decode b_M_openChoice 169 = .ok (.iconst 0, 1) := by decide +kernel
theorem d_M_openChoice_170 : decode b_M_openChoice 170 = .ok (.aload_n 0, 1) := by decide +kernel
theorem d_M_openChoice_171 : decode b_M_openChoice 171 = .ok (.getfield 133, 3) := by decide +kernel
theorem d_M_openChoice_174 : decode b_M_openChoice 174 = .ok (.invokevirtual 167, 3) := by decide +kernel
theorem d_M_openChoice_177 : decode b_M_openChoice 177 = .ok (.aload_n 0, 1) := by decide +kernel
theorem d_M_openChoice_178 : decode b_M_openChoice 178 = .ok (.iconst 1, 1) := by decide +kernel
theorem d_M_openChoice_179 : decode b_M_openChoice 179 = .ok (.iload_n 1, 1) := by decide +kernel
theorem d_M_openChoice_180 : decode b_M_openChoice 180 = .ok (.iconst 3, 1) := by decide +kernel
theorem d_M_openChoice_181 : decode b_M_openChoice 181 = .ok (.iadd, 1) := by decide +kernel
theorem d_M_openChoice_182 : decode b_M_openChoice 182 = .ok (.iload_n 3, 1) := by decide +kernel
theorem d_M_openChoice_183 : decode b_M_openChoice 183 = .ok (.invokevirtual 163, 3) := by decide +kernel
theorem d_M_openChoice_186 : decode b_M_openChoice 186 = .ok (.goto 66, 3) := by decide +kernel
theorem d_M_openChoice_189 : decode b_M_openChoice 189 = .ok (.aload_n 0, 1) := by decide +kernel
theorem d_M_openChoice_190 : decode b_M_openChoice 190 = .ok (.invokevirtual 170, 3) := by decide +kernel
theorem d_M_openChoice_193 : decode b_M_openChoice 193 = .ok (.bipush 12, 2) := by decide +kernel
theorem d_M_openChoice_195 : decode b_M_openChoice 195 = .ok (.if_icmp .lt 17, 3) := by decide +kernel
theorem d_M_openChoice_198 : decode b_M_openChoice 198 = .ok (.aload_n 0, 1) := by decide +kernel
theorem d_M_openChoice_199 : decode b_M_openChoice 199 = .ok (.bipush 6, 2) := by decide +kernel
theorem d_M_openChoice_201 : decode b_M_openChoice 201 = .ok (.iconst 0, 1) := by decide +kernel
theorem d_M_openChoice_202 : decode b_M_openChoice 202 = .ok (.aload_n 0, 1) := by decide +kernel
theorem d_M_openChoice_203 : decode b_M_openChoice 203 = .ok (.getfield 133, 3) := by decide +kernel
theorem d_M_openChoice_206 : decode b_M_openChoice 206 = .ok (.invokevirtual 163, 3) := by decide +kernel
theorem d_M_openChoice_209 : decode b_M_openChoice 209 = .ok (.goto 43, 3) := by decide +kernel
theorem d_M_openChoice_212 : decode b_M_openChoice 212 = .ok (.aload_n 0, 1) := by decide +kernel
theorem d_M_openChoice_213 : decode b_M_openChoice 213 = .ok (.getfield 26, 3) := by decide +kernel
theorem d_M_openChoice_216 : decode b_M_openChoice 216 = .ok (.aload_n 0, 1) := by decide +kernel
theorem d_M_openChoice_217 : decode b_M_openChoice 217 = .ok (.getfield 173, 3) := by decide +kernel
theorem d_M_openChoice_220 : decode b_M_openChoice 220 = .ok (.aload_n 0, 1) := by decide +kernel
theorem d_M_openChoice_221 : decode b_M_openChoice 221 = .ok (.getfield 123, 3) := by decide +kernel
theorem d_M_openChoice_224 : decode b_M_openChoice 224 = .ok (.lastore, 1) := by decide +kernel
theorem d_M_openChoice_225 : decode b_M_openChoice 225 = .ok (.aload_n 0, 1) := by decide +kernel
theorem d_M_openChoice_226 : decode b_M_openChoice 226 = .ok (.iconst 1, 1) := by decide +kernel
theorem d_M_openChoice_227 : decode b_M_openChoice 227 = .ok (.aload_n 0, 1) := by decide +kernel
theorem d_M_openChoice_228 : decode b_M_openChoice 228 = .ok (.iload_n 2, 1) := by decide +kernel
theorem d_M_openChoice_229 : decode b_M_openChoice 229 = .ok (.bipush 48, 2) := by decide +kernel
theorem d_M_openChoice_231 : decode b_M_openChoice 231 = .ok (.isub, 1) := by decide +kernel
theorem d_M_openChoice_232 : decode b_M_openChoice 232 = .ok (.invokevirtual 176, 3) := by decide +kernel
theorem d_M_openChoice_235 : decode b_M_openChoice 235 = .ok (.aload_n 0, 1) := by decide +kernel
theorem d_M_openChoice_236 : decode b_M_openChoice 236 = .ok (.iconst 3, 1) := by decide +kernel
theorem d_M_openChoice_237 : decode b_M_openChoice 237 = .ok (.iconst 0, 1) := by decide +kernel
theorem d_M_openChoice_238 : decode b_M_openChoice 238 = .ok (.aload_n 0, 1) := by decide +kernel
theorem d_M_openChoice_239 : decode b_M_openChoice 239 = .ok (.getfield 173, 3) := by decide +kernel
theorem d_M_openChoice_242 : decode b_M_openChoice 242 = .ok (.aload_n 0, 1) := by decide +kernel
theorem d_M_openChoice_243 : decode b_M_openChoice 243 = .ok (.getfield 133, 3) := by decide +kernel
theorem d_M_openChoice_246 : decode b_M_openChoice 246 = .ok (.invokevirtual 159, 3) := by decide +kernel
theorem d_M_openChoice_249 : decode b_M_openChoice 249 = .ok (.invokevirtual 163, 3) := by decide +kernel
theorem d_M_openChoice_252 : decode b_M_openChoice 252 = .ok (.return_, 1) := by decide +kernel
section MW
variable {p : Program} {l : Launch} {e : Env} {s : State} {m : MethodId} {args : Array Value} {below : List Frame} {meth : Method} {c : Code} {x : GX} {a : Nat → Nat} {A : Nat → Prop}
set_option maxHeartbeats 4000000 in
set_option maxRecDepth 20000 in
theorem wB_M_nextRow_51 (S : CallFix p m c b_M_nextRow 3 s args lw_tg R_Mod) (hr : meth.sig.returnType = some .int) (hlk : meth.locks = false) (hK : GK x s) (hA : ∀ q : Nat, s.heap.size ≤ q → A q) {Qc : Int32 → MS → Prop} {K2 : Int32 → MS → Prop} (ih2 : ∀ (x2 : Int32) (u : MS) (ls : Array Slot) (H : Heap) (locs : List Loc), lv_has ls 3 [(0, .ref (a 0)), (2, .int x2)] → wd x A s.heap ((mcl x a) u) H locs → K2 x2 u → W p l e (rmN 2 0 0) s m args below meth c H locs 0 0 (MQ below (QcI x (mcl x a) A Qc) args s 0 0 A) (F0 m 2 ls [])) : ∀ (t0 : Int32) (u : MS) (ls : Array Slot) (H : Heap) (locs : List Loc), lv_has ls 3 [(0, .ref (a 0))] → wd x A s.heap ((mcl x a) u) H locs → B_M_nextRow_51 Qc K2 t0 u → W p l e (rmN 2 0 0) s m args below meth c H locs 0 0 (MQ below (QcI x (mcl x a) A Qc) args s 0 0 A) (F0 m 51 ls [.int t0]) := by
  intro t0 u ls H locs hl hw h
  refine lv_istore_n (lv' := [(2, .int t0), (0, .ref (a 0))]) S.1 S.2.1 d_M_nextRow_51 rfl hl (by decide) rfl (fun ls hl => ?_)
  refine lv_goto (tgt := 2) S.1 S.2.1 d_M_nextRow_52 (by decide) ?_
  exact ih2 t0 u _ _ _ (lv_sub hl [1, 0] rfl) hw h
set_option maxHeartbeats 4000000 in
set_option maxRecDepth 20000 in
theorem wB_M_nextRow_40 (S : CallFix p m c b_M_nextRow 3 s args lw_tg R_Mod) (hr : meth.sig.returnType = some .int) (hlk : meth.locks = false) (hK : GK x s) (hA : ∀ q : Nat, s.heap.size ≤ q → A q) {Qc : Int32 → MS → Prop} {K2 : Int32 → MS → Prop} (ih2 : ∀ (x2 : Int32) (u : MS) (ls : Array Slot) (H : Heap) (locs : List Loc), lv_has ls 3 [(0, .ref (a 0)), (2, .int x2)] → wd x A s.heap ((mcl x a) u) H locs → K2 x2 u → W p l e (rmN 2 0 0) s m args below meth c H locs 0 0 (MQ below (QcI x (mcl x a) A Qc) args s 0 0 A) (F0 m 2 ls [])) : ∀ (x2 : Int32) (u : MS) (ls : Array Slot) (H : Heap) (locs : List Loc), lv_has ls 3 [(0, .ref (a 0)), (2, .int x2)] → wd x A s.heap ((mcl x a) u) H locs → B_M_nextRow_40 Qc K2 x2 u → W p l e (rmN 2 0 0) s m args below meth c H locs 0 0 (MQ below (QcI x (mcl x a) A Qc) args s 0 0 A) (F0 m 40 ls []) := by
  intro x2 u ls H locs hl hw h
  refine lv_aload_n S.1 S.2.1 d_M_nextRow_40 rfl (lv_at hl 0 rfl) ?_
  refine lv_iload_n S.1 S.2.1 d_M_nextRow_41 rfl (lv_at hl 1 rfl) ?_
  refine w_ci hA hw (w_rv (rest := []) S hK hw (c_M_behindAtom l x2 u _ _ h) (ci := 0) (q0 := 0) rfl rfl (w_cb (fr := 0) (lv := 0) S.2.2.2.2 k_1048 k_1045 k_8 yd_M_behindAtom rfl rfl ⟨Nat.le_of_ble_eq_true rfl, Nat.le_of_ble_eq_true rfl⟩) k_1047 s_50 rfl hl.1 rfl (Nat.le_of_ble_eq_true rfl) d_M_nextRow_42 ⟨Nat.le_refl _, Nat.le_refl _⟩) (fun r_42 u_42 H locs h hw => ?_)
  refine lv_goto (tgt := 51) S.1 S.2.1 d_M_nextRow_45 (by decide) ?_
  exact wB_M_nextRow_51 S hr hlk hK hA ih2 r_42 u_42 _ _ _ (lv_sub hl [0] rfl) hw h
set_option maxHeartbeats 4000000 in
set_option maxRecDepth 20000 in
theorem wL_M_nextRow_2 (S : CallFix p m c b_M_nextRow 3 s args lw_tg R_Mod) (hr : meth.sig.returnType = some .int) (hlk : meth.locks = false) (hK : GK x s) (hA : ∀ q : Nat, s.heap.size ≤ q → A q) {Qc : Int32 → MS → Prop} : ∀ (n : Nat) (x2 : Int32) (u : MS) (ls : Array Slot) (H : Heap) (locs : List Loc), lv_has ls 3 [(0, .ref (a 0)), (2, .int x2)] → wd x A s.heap ((mcl x a) u) H locs → L_M_nextRow_2 Qc  n x2 u → W p l e (rmN 2 0 0) s m args below meth c H locs 0 0 (MQ below (QcI x (mcl x a) A Qc) args s 0 0 A) (F0 m 2 ls []) := by
  intro n
  induction n with
  | zero =>
    intro x2 u ls H locs hl hw h
    exact absurd h id
  | succ n ih =>
    intro x2 u ls H locs hl hw h
    refine lv_aload_n S.1 S.2.1 d_M_nextRow_2 rfl (lv_at hl 0 rfl) ?_
    refine lv_iload_n S.1 S.2.1 d_M_nextRow_3 rfl (lv_at hl 1 rfl) ?_
    refine w_ci hA hw (w_rv (rest := []) S hK hw (c_M_rowEnds l x2 u _ _ h) (ci := 0) (q0 := 0) rfl rfl (w_cb (fr := 0) (lv := 0) S.2.2.2.2 k_1036 k_1033 k_8 yd_M_rowEnds rfl rfl ⟨Nat.le_of_ble_eq_true rfl, Nat.le_of_ble_eq_true rfl⟩) k_1035 s_47 rfl hl.1 rfl (Nat.le_of_ble_eq_true rfl) d_M_nextRow_4 ⟨Nat.le_refl _, Nat.le_refl _⟩) (fun r_4 u_4 H locs h hw => ?_)
    refine lv_if_ne (tgt := 55) S.1 S.2.1 d_M_nextRow_7 (by decide) (fun q_7 => ?_) (fun q_7 => ?_)
    · have h := h.2 q_7
      refine lv_aload_n S.1 S.2.1 d_M_nextRow_55 rfl (lv_at hl 0 rfl) ?_
      refine lv_iload_n S.1 S.2.1 d_M_nextRow_56 rfl (lv_at hl 1 rfl) ?_
      refine w_ci hA hw (w_rv (rest := []) S hK hw (c_M_t l x2 u_4 _ _ h) (ci := 0) (q0 := 0) rfl rfl (w_cb (fr := 0) (lv := 0) S.2.2.2.2 k_1040 k_1037 k_8 yd_M_t rfl rfl ⟨Nat.le_of_ble_eq_true rfl, Nat.le_of_ble_eq_true rfl⟩) k_1039 s_48 rfl hl.1 rfl (Nat.le_of_ble_eq_true rfl) d_M_nextRow_57 ⟨Nat.le_refl _, Nat.le_refl _⟩) (fun r_57 u_57 H locs h hw => ?_)
      refine lv_bipush (v := 124) S.1 S.2.1 d_M_nextRow_60 (by decide) ?_
      refine lv_icmp_ne (tgt := 71) S.1 S.2.1 d_M_nextRow_62 (by decide) (fun q_62 => ?_) (fun q_62 => ?_)
      · have h := h.2 q_62
        refine lv_iconst (v := -1) S.1 S.2.1 d_M_nextRow_71 (by decide) ?_
        exact w_iret S hr hlk hK hw h d_M_nextRow_72
      · have h := h.1 q_62
        refine lv_iload_n S.1 S.2.1 d_M_nextRow_65 rfl (lv_at hl 1 rfl) ?_
        refine lv_iconst (v := 1) S.1 S.2.1 d_M_nextRow_66 (by decide) ?_
        refine lv_iadd S.1 S.2.1 d_M_nextRow_67 ?_
        refine lv_goto (tgt := 72) S.1 S.2.1 d_M_nextRow_68 (by decide) ?_
        exact w_iret S hr hlk hK hw h d_M_nextRow_72
    · have h := h.1 q_7
      refine lv_aload_n S.1 S.2.1 d_M_nextRow_10 rfl (lv_at hl 0 rfl) ?_
      refine lv_iload_n S.1 S.2.1 d_M_nextRow_11 rfl (lv_at hl 1 rfl) ?_
      refine w_ci hA hw (w_rv (rest := []) S hK hw (c_M_t l x2 u_4 _ _ h) (ci := 0) (q0 := 0) rfl rfl (w_cb (fr := 0) (lv := 0) S.2.2.2.2 k_1040 k_1037 k_8 yd_M_t rfl rfl ⟨Nat.le_of_ble_eq_true rfl, Nat.le_of_ble_eq_true rfl⟩) k_1039 s_48 rfl hl.1 rfl (Nat.le_of_ble_eq_true rfl) d_M_nextRow_12 ⟨Nat.le_refl _, Nat.le_refl _⟩) (fun r_12 u_12 H locs h hw => ?_)
      refine lv_bipush (v := 40) S.1 S.2.1 d_M_nextRow_15 (by decide) ?_
      refine lv_icmp_eq (tgt := 40) S.1 S.2.1 d_M_nextRow_17 (by decide) (fun q_17 => ?_) (fun q_17 => ?_)
      · have h := h.1 q_17
        exact wB_M_nextRow_40 S hr hlk hK hA ih x2 u_12 _ _ _ (lv_sub hl [0, 1] rfl) hw h
      · have h := h.2 q_17
        refine lv_aload_n S.1 S.2.1 d_M_nextRow_20 rfl (lv_at hl 0 rfl) ?_
        refine lv_iload_n S.1 S.2.1 d_M_nextRow_21 rfl (lv_at hl 1 rfl) ?_
        refine w_ci hA hw (w_rv (rest := []) S hK hw (c_M_t l x2 u_12 _ _ h) (ci := 0) (q0 := 0) rfl rfl (w_cb (fr := 0) (lv := 0) S.2.2.2.2 k_1040 k_1037 k_8 yd_M_t rfl rfl ⟨Nat.le_of_ble_eq_true rfl, Nat.le_of_ble_eq_true rfl⟩) k_1039 s_48 rfl hl.1 rfl (Nat.le_of_ble_eq_true rfl) d_M_nextRow_22 ⟨Nat.le_refl _, Nat.le_refl _⟩) (fun r_22 u_22 H locs h hw => ?_)
        refine lv_bipush (v := 91) S.1 S.2.1 d_M_nextRow_25 (by decide) ?_
        refine lv_icmp_eq (tgt := 40) S.1 S.2.1 d_M_nextRow_27 (by decide) (fun q_27 => ?_) (fun q_27 => ?_)
        · have h := h.1 q_27
          exact wB_M_nextRow_40 S hr hlk hK hA ih x2 u_22 _ _ _ (lv_sub hl [0, 1] rfl) hw h
        · have h := h.2 q_27
          refine lv_aload_n S.1 S.2.1 d_M_nextRow_30 rfl (lv_at hl 0 rfl) ?_
          refine lv_iload_n S.1 S.2.1 d_M_nextRow_31 rfl (lv_at hl 1 rfl) ?_
          refine w_ci hA hw (w_rv (rest := []) S hK hw (c_M_t l x2 u_22 _ _ h) (ci := 0) (q0 := 0) rfl rfl (w_cb (fr := 0) (lv := 0) S.2.2.2.2 k_1040 k_1037 k_8 yd_M_t rfl rfl ⟨Nat.le_of_ble_eq_true rfl, Nat.le_of_ble_eq_true rfl⟩) k_1039 s_48 rfl hl.1 rfl (Nat.le_of_ble_eq_true rfl) d_M_nextRow_32 ⟨Nat.le_refl _, Nat.le_refl _⟩) (fun r_32 u_32 H locs h hw => ?_)
          refine lv_bipush (v := 92) S.1 S.2.1 d_M_nextRow_35 (by decide) ?_
          refine lv_icmp_ne (tgt := 48) S.1 S.2.1 d_M_nextRow_37 (by decide) (fun q_37 => ?_) (fun q_37 => ?_)
          · have h := h.2 q_37
            refine lv_iload_n S.1 S.2.1 d_M_nextRow_48 rfl (lv_at hl 1 rfl) ?_
            refine lv_iconst (v := 1) S.1 S.2.1 d_M_nextRow_49 (by decide) ?_
            refine lv_iadd S.1 S.2.1 d_M_nextRow_50 ?_
            exact wB_M_nextRow_51 S hr hlk hK hA ih (x2 + (1 : Int32)) u_32 _ _ _ (lv_sub hl [0] rfl) hw h
          · have h := h.1 q_37
            exact wB_M_nextRow_40 S hr hlk hK hA ih x2 u_32 _ _ _ (lv_sub hl [0, 1] rfl) hw h
set_option maxHeartbeats 4000000 in
set_option maxRecDepth 20000 in
theorem c_M_nextRow {x : GX} {a : Nat → Nat} (l : Launch) (x1 : Int32) (u : MS) (sz : Nat) (Qc : Int32 → MS → Prop) (h : P_M_nextRow x1 u Qc) : Met l y_M_nextRow (wM y_M_nextRow b_M_nextRow 3 (some .int)) (rmN 2 0 0) (PreC x (mcl x a) [.ref (a 0), .int x1] u sz) (QcI x (mcl x a) (va_A ((mcl x a) u) sz) Qc) 0 0 (va_A ((mcl x a) u) sz) := by
  refine w_enter (by decide +kernel) (Nat.le_of_ble_eq_true rfl) (fun p e s m args below meth c S hr hlk _ hK hA hw ls hl => ?_)
  have hl : lv_has ls 3 [(0, .ref (a 0)), (1, .int x1)] := hl
  refine lv_iload_n S.1 S.2.1 d_M_nextRow_0 rfl (lv_at hl 1 rfl) ?_
  refine lv_istore_n (lv' := [(2, .int x1), (0, .ref (a 0)), (1, .int x1)]) S.1 S.2.1 d_M_nextRow_1 rfl hl (by decide) rfl (fun ls hl => ?_)
  obtain ⟨n9, h⟩ := h
  exact wL_M_nextRow_2 S hr hlk hK hA  n9 x1 u _ _ _ (lv_sub hl [1, 0] rfl) hw h
set_option maxHeartbeats 4000000 in
set_option maxRecDepth 20000 in
theorem wB_M_groupAt_34 (S : CallFix p m c b_M_groupAt 4 s args lw_tg R_Mod) (hr : meth.sig.returnType = some .int) (hlk : meth.locks = false) (hK : GK x s) (hA : ∀ q : Nat, s.heap.size ≤ q → A q) {Qc : Int32 → MS → Prop} {K4 : Int32 → Int32 → Int32 → MS → Prop} (ih4 : ∀ (x1 : Int32) (x2 : Int32) (x3 : Int32) (u : MS) (ls : Array Slot) (H : Heap) (locs : List Loc), lv_has ls 4 [(0, .ref (a 0)), (1, .int x1), (2, .int x2), (3, .int x3)] → wd x A s.heap ((mcl x a) u) H locs → K4 x1 x2 x3 u → W p l e (rmN 1 0 0) s m args below meth c H locs 0 0 (MQ below (QcI x (mcl x a) A Qc) args s 0 0 A) (F0 m 4 ls [])) : ∀ (x1 : Int32) (x2 : Int32) (x3 : Int32) (u : MS) (ls : Array Slot) (H : Heap) (locs : List Loc), lv_has ls 4 [(0, .ref (a 0)), (1, .int x1), (2, .int x2), (3, .int x3)] → wd x A s.heap ((mcl x a) u) H locs → B_M_groupAt_34 Qc K4 x1 x2 x3 u → W p l e (rmN 1 0 0) s m args below meth c H locs 0 0 (MQ below (QcI x (mcl x a) A Qc) args s 0 0 A) (F0 m 34 ls []) := by
  intro x1 x2 x3 u ls H locs hl hw h
  obtain ⟨x3_34, ex3_34⟩ : ∃ y : Int32, y = x3 + 1 := ⟨_, rfl⟩
  have h := h x3_34 ex3_34
  refine lv_iinc (v := x3_34) (lv' := [(3, .int x3_34), (0, .ref (a 0)), (1, .int x1), (2, .int x2)]) S.1 S.2.1 d_M_groupAt_34 hl (k := 3) rfl (by rw [ex3_34]; rfl) (by decide) rfl (fun ls hl => ?_)
  refine lv_goto (tgt := 4) S.1 S.2.1 d_M_groupAt_37 (by decide) ?_
  exact ih4 x1 x2 x3_34 u _ _ _ (lv_sub hl [1, 2, 3, 0] rfl) hw h
set_option maxHeartbeats 4000000 in
set_option maxRecDepth 20000 in
theorem wL_M_groupAt_4 (S : CallFix p m c b_M_groupAt 4 s args lw_tg R_Mod) (hr : meth.sig.returnType = some .int) (hlk : meth.locks = false) (hK : GK x s) (hA : ∀ q : Nat, s.heap.size ≤ q → A q) {Qc : Int32 → MS → Prop} : ∀ (n : Nat) (x1 : Int32) (x2 : Int32) (x3 : Int32) (u : MS) (ls : Array Slot) (H : Heap) (locs : List Loc), lv_has ls 4 [(0, .ref (a 0)), (1, .int x1), (2, .int x2), (3, .int x3)] → wd x A s.heap ((mcl x a) u) H locs → L_M_groupAt_4 Qc  n x1 x2 x3 u → W p l e (rmN 1 0 0) s m args below meth c H locs 0 0 (MQ below (QcI x (mcl x a) A Qc) args s 0 0 A) (F0 m 4 ls []) := by
  intro n
  induction n with
  | zero =>
    intro x1 x2 x3 u ls H locs hl hw h
    exact absurd h id
  | succ n ih =>
    intro x1 x2 x3 u ls H locs hl hw h
    refine lv_iload_n S.1 S.2.1 d_M_groupAt_4 rfl (lv_at hl 3 rfl) ?_
    refine lv_iload_n S.1 S.2.1 d_M_groupAt_5 rfl (lv_at hl 1 rfl) ?_
    refine lv_icmp_gt (tgt := 40) S.1 S.2.1 d_M_groupAt_6 (by decide) (fun q_6 => ?_) (fun q_6 => ?_)
    · have h := h.1 q_6
      refine lv_iload_n S.1 S.2.1 d_M_groupAt_40 rfl (lv_at hl 2 rfl) ?_
      exact w_iret S hr hlk hK hw h d_M_groupAt_41
    · have h := h.2 q_6
      refine lv_aload_n S.1 S.2.1 d_M_groupAt_9 rfl (lv_at hl 0 rfl) ?_
      refine lv_iload_n S.1 S.2.1 d_M_groupAt_10 rfl (lv_at hl 3 rfl) ?_
      refine w_ci hA hw (w_rv (rest := []) S hK hw (c_M_t l x3 u _ _ h) (ci := 0) (q0 := 0) rfl rfl (w_cb (fr := 0) (lv := 0) S.2.2.2.2 k_1040 k_1037 k_8 yd_M_t rfl rfl ⟨Nat.le_of_ble_eq_true rfl, Nat.le_of_ble_eq_true rfl⟩) k_1039 s_48 rfl hl.1 rfl (Nat.le_of_ble_eq_true rfl) d_M_groupAt_11 ⟨Nat.le_refl _, Nat.le_refl _⟩) (fun r_11 u_11 H locs h hw => ?_)
      refine lv_bipush (v := 40) S.1 S.2.1 d_M_groupAt_14 (by decide) ?_
      refine lv_icmp_ne (tgt := 34) S.1 S.2.1 d_M_groupAt_16 (by decide) (fun q_16 => ?_) (fun q_16 => ?_)
      · have h := h.2 q_16
        exact wB_M_groupAt_34 S hr hlk hK hA ih x1 x2 x3 u_11 _ _ _ (lv_sub hl [0, 1, 2, 3] rfl) hw h
      · have h := h.1 q_16
        refine lv_aload_n S.1 S.2.1 d_M_groupAt_19 rfl (lv_at hl 0 rfl) ?_
        refine lv_iload_n S.1 S.2.1 d_M_groupAt_20 rfl (lv_at hl 3 rfl) ?_
        refine lv_iconst (v := 1) S.1 S.2.1 d_M_groupAt_21 (by decide) ?_
        refine lv_iadd S.1 S.2.1 d_M_groupAt_22 ?_
        refine w_ci hA hw (w_rv (rest := []) S hK hw (c_M_t l (x3 + (1 : Int32)) u_11 _ _ h) (ci := 0) (q0 := 0) rfl rfl (w_cb (fr := 0) (lv := 0) S.2.2.2.2 k_1040 k_1037 k_8 yd_M_t rfl rfl ⟨Nat.le_of_ble_eq_true rfl, Nat.le_of_ble_eq_true rfl⟩) k_1039 s_48 rfl hl.1 rfl (Nat.le_of_ble_eq_true rfl) d_M_groupAt_23 ⟨Nat.le_refl _, Nat.le_refl _⟩) (fun r_23 u_23 H locs h hw => ?_)
        refine lv_bipush (v := 63) S.1 S.2.1 d_M_groupAt_26 (by decide) ?_
        refine lv_icmp_eq (tgt := 34) S.1 S.2.1 d_M_groupAt_28 (by decide) (fun q_28 => ?_) (fun q_28 => ?_)
        · have h := h.1 q_28
          exact wB_M_groupAt_34 S hr hlk hK hA ih x1 x2 x3 u_23 _ _ _ (lv_sub hl [0, 1, 2, 3] rfl) hw h
        · have h := h.2 q_28
          obtain ⟨x2_31, ex2_31⟩ : ∃ y : Int32, y = x2 + 1 := ⟨_, rfl⟩
          have h := h x2_31 ex2_31
          refine lv_iinc (v := x2_31) (lv' := [(2, .int x2_31), (0, .ref (a 0)), (1, .int x1), (3, .int x3)]) S.1 S.2.1 d_M_groupAt_31 hl (k := 2) rfl (by rw [ex2_31]; rfl) (by decide) rfl (fun ls hl => ?_)
          exact wB_M_groupAt_34 S hr hlk hK hA ih x1 x2_31 x3 u_23 _ _ _ (lv_sub hl [1, 2, 0, 3] rfl) hw h
set_option maxHeartbeats 4000000 in
set_option maxRecDepth 20000 in
theorem c_M_groupAt {x : GX} {a : Nat → Nat} (l : Launch) (x1 : Int32) (u : MS) (sz : Nat) (Qc : Int32 → MS → Prop) (h : P_M_groupAt x1 u Qc) : Met l y_M_groupAt (wM y_M_groupAt b_M_groupAt 4 (some .int)) (rmN 1 0 0) (PreC x (mcl x a) [.ref (a 0), .int x1] u sz) (QcI x (mcl x a) (va_A ((mcl x a) u) sz) Qc) 0 0 (va_A ((mcl x a) u) sz) := by
  refine w_enter (by decide +kernel) (Nat.le_of_ble_eq_true rfl) (fun p e s m args below meth c S hr hlk _ hK hA hw ls hl => ?_)
  have hl : lv_has ls 4 [(0, .ref (a 0)), (1, .int x1)] := hl
  refine lv_iconst (v := 0) S.1 S.2.1 d_M_groupAt_0 (by decide) ?_
  refine lv_istore_n (lv' := [(2, .int (0 : Int32)), (0, .ref (a 0)), (1, .int x1)]) S.1 S.2.1 d_M_groupAt_1 rfl hl (by decide) rfl (fun ls hl => ?_)
  refine lv_iconst (v := 0) S.1 S.2.1 d_M_groupAt_2 (by decide) ?_
  refine lv_istore_n (lv' := [(3, .int (0 : Int32)), (2, .int (0 : Int32)), (0, .ref (a 0)), (1, .int x1)]) S.1 S.2.1 d_M_groupAt_3 rfl hl (by decide) rfl (fun ls hl => ?_)
  obtain ⟨n9, h⟩ := h
  exact wL_M_groupAt_4 S hr hlk hK hA  n9 x1 (0 : Int32) (0 : Int32) u _ _ _ (lv_sub hl [2, 3, 1, 0] rfl) hw h
set_option maxHeartbeats 4000000 in
set_option maxRecDepth 20000 in
theorem c_M_kindOf {x : GX} {a : Nat → Nat} (l : Launch) (x1 : Int32) (u : MS) (sz : Nat) (Qc : Int32 → MS → Prop) (h : P_M_kindOf x1 u Qc) : Met l y_M_kindOf (wM y_M_kindOf b_M_kindOf 2 (some .int)) (rmN 0 0 0) (PreC x (mcl x a) [.ref (a 0), .int x1] u sz) (QcI x (mcl x a) (va_A ((mcl x a) u) sz) Qc) 0 0 (va_A ((mcl x a) u) sz) := by
  refine w_enter (by decide +kernel) (Nat.le_of_ble_eq_true rfl) (fun p e s m args below meth c S hr hlk _ hK hA hw ls hl => ?_)
  have hl : lv_has ls 2 [(0, .ref (a 0)), (1, .int x1)] := hl
  refine lv_aload_n S.1 S.2.1 d_M_kindOf_0 rfl (lv_at hl 0 rfl) ?_
  refine mg_frame S hK hw d_M_kindOf_1 ?_
  refine lv_iload_n S.1 S.2.1 d_M_kindOf_4 rfl (lv_at hl 1 rfl) ?_
  have hg := h.1
  have h := h.2
  refine ml_frame S hK hw hg d_M_kindOf_5 ?_
  refine lv_l2i S.1 S.2.1 d_M_kindOf_6 rfl ?_
  refine lv_bipush (v := 15) S.1 S.2.1 d_M_kindOf_7 (by decide) ?_
  refine lv_iand S.1 S.2.1 d_M_kindOf_9 ?_
  exact w_iret S hr hlk hK hw h d_M_kindOf_10
set_option maxHeartbeats 4000000 in
set_option maxRecDepth 20000 in
theorem c_M_parentOf {x : GX} {a : Nat → Nat} (l : Launch) (x1 : Int32) (u : MS) (sz : Nat) (Qc : Int32 → MS → Prop) (h : P_M_parentOf x1 u Qc) : Met l y_M_parentOf (wM y_M_parentOf b_M_parentOf 2 (some .int)) (rmN 0 0 0) (PreC x (mcl x a) [.ref (a 0), .int x1] u sz) (QcI x (mcl x a) (va_A ((mcl x a) u) sz) Qc) 0 0 (va_A ((mcl x a) u) sz) := by
  refine w_enter (by decide +kernel) (Nat.le_of_ble_eq_true rfl) (fun p e s m args below meth c S hr hlk _ hK hA hw ls hl => ?_)
  have hl : lv_has ls 2 [(0, .ref (a 0)), (1, .int x1)] := hl
  refine lv_aload_n S.1 S.2.1 d_M_parentOf_0 rfl (lv_at hl 0 rfl) ?_
  refine mg_frame S hK hw d_M_parentOf_1 ?_
  refine lv_iload_n S.1 S.2.1 d_M_parentOf_4 rfl (lv_at hl 1 rfl) ?_
  have hg := h.1
  have h := h.2
  refine ml_frame S hK hw hg d_M_parentOf_5 ?_
  refine lv_bipush (v := 23) S.1 S.2.1 d_M_parentOf_6 (by decide) ?_
  refine lv_lshr S.1 S.2.1 d_M_parentOf_8 rfl ?_
  refine lv_l2i S.1 S.2.1 d_M_parentOf_9 rfl ?_
  refine lv_sipush (v := 8191) S.1 S.2.1 d_M_parentOf_10 (by decide) ?_
  refine lv_iand S.1 S.2.1 d_M_parentOf_13 ?_
  exact w_iret S hr hlk hK hw h d_M_parentOf_14
set_option maxHeartbeats 4000000 in
set_option maxRecDepth 20000 in
theorem wB_M_calls_23 (S : CallFix p m c b_M_calls 3 s args lw_tg R_Mod) (hr : meth.sig.returnType = some .int) (hlk : meth.locks = false) (hK : GK x s) (hA : ∀ q : Nat, s.heap.size ≤ q → A q) {Qc : Int32 → MS → Prop} {K7 : Int32 → Int32 → MS → Prop} (ih7 : ∀ (x1 : Int32) (x2 : Int32) (u : MS) (ls : Array Slot) (H : Heap) (locs : List Loc), lv_has ls 3 [(0, .ref (a 0)), (1, .int x1), (2, .int x2)] → wd x A s.heap ((mcl x a) u) H locs → K7 x1 x2 u → W p l e (rmN 1 0 0) s m args below meth c H locs 0 0 (MQ below (QcI x (mcl x a) A Qc) args s 0 0 A) (F0 m 7 ls [])) : ∀ (x1 : Int32) (x2 : Int32) (u : MS) (ls : Array Slot) (H : Heap) (locs : List Loc), lv_has ls 3 [(0, .ref (a 0)), (1, .int x1), (2, .int x2)] → wd x A s.heap ((mcl x a) u) H locs → B_M_calls_23 Qc K7 x1 x2 u → W p l e (rmN 1 0 0) s m args below meth c H locs 0 0 (MQ below (QcI x (mcl x a) A Qc) args s 0 0 A) (F0 m 23 ls []) := by
  intro x1 x2 u ls H locs hl hw h
  refine lv_aload_n S.1 S.2.1 d_M_calls_23 rfl (lv_at hl 0 rfl) ?_
  refine lv_iload_n S.1 S.2.1 d_M_calls_24 rfl (lv_at hl 2 rfl) ?_
  refine w_ci hA hw (w_rv (rest := []) S hK hw (c_M_parentOf l x2 u _ _ h) (ci := 0) (q0 := 0) rfl rfl (w_cb (fr := 0) (lv := 0) S.2.2.2.2 k_1088 k_1085 k_8 yd_M_parentOf rfl rfl ⟨Nat.le_of_ble_eq_true rfl, Nat.le_of_ble_eq_true rfl⟩) k_1087 s_60 rfl hl.1 rfl (Nat.le_of_ble_eq_true rfl) d_M_calls_25 ⟨Nat.le_refl _, Nat.le_refl _⟩) (fun r_25 u_25 H locs h hw => ?_)
  refine lv_istore_n (lv' := [(2, .int r_25), (0, .ref (a 0)), (1, .int x1)]) S.1 S.2.1 d_M_calls_28 rfl hl (by decide) rfl (fun ls hl => ?_)
  refine lv_goto (tgt := 7) S.1 S.2.1 d_M_calls_29 (by decide) ?_
  exact ih7 x1 r_25 u_25 _ _ _ (lv_sub hl [1, 2, 0] rfl) hw h
set_option maxHeartbeats 4000000 in
set_option maxRecDepth 20000 in
theorem wL_M_calls_7 (S : CallFix p m c b_M_calls 3 s args lw_tg R_Mod) (hr : meth.sig.returnType = some .int) (hlk : meth.locks = false) (hK : GK x s) (hA : ∀ q : Nat, s.heap.size ≤ q → A q) {Qc : Int32 → MS → Prop} : ∀ (n : Nat) (x1 : Int32) (x2 : Int32) (u : MS) (ls : Array Slot) (H : Heap) (locs : List Loc), lv_has ls 3 [(0, .ref (a 0)), (1, .int x1), (2, .int x2)] → wd x A s.heap ((mcl x a) u) H locs → L_M_calls_7 Qc  n x1 x2 u → W p l e (rmN 1 0 0) s m args below meth c H locs 0 0 (MQ below (QcI x (mcl x a) A Qc) args s 0 0 A) (F0 m 7 ls []) := by
  intro n
  induction n with
  | zero =>
    intro x1 x2 u ls H locs hl hw h
    exact absurd h id
  | succ n ih =>
    intro x1 x2 u ls H locs hl hw h
    refine lv_iload_n S.1 S.2.1 d_M_calls_7 rfl (lv_at hl 2 rfl) ?_
    refine lv_if_le (tgt := 32) S.1 S.2.1 d_M_calls_8 (by decide) (fun q_8 => ?_) (fun q_8 => ?_)
    · have h := h.1 q_8
      refine lv_iload_n S.1 S.2.1 d_M_calls_32 rfl (lv_at hl 1 rfl) ?_
      exact w_iret S hr hlk hK hw h d_M_calls_33
    · have h := h.2 q_8
      refine lv_aload_n S.1 S.2.1 d_M_calls_11 rfl (lv_at hl 0 rfl) ?_
      refine lv_iload_n S.1 S.2.1 d_M_calls_12 rfl (lv_at hl 2 rfl) ?_
      refine w_ci hA hw (w_rv (rest := []) S hK hw (c_M_kindOf l x2 u _ _ h) (ci := 0) (q0 := 0) rfl rfl (w_cb (fr := 0) (lv := 0) S.2.2.2.2 k_1084 k_1081 k_8 yd_M_kindOf rfl rfl ⟨Nat.le_of_ble_eq_true rfl, Nat.le_of_ble_eq_true rfl⟩) k_1083 s_59 rfl hl.1 rfl (Nat.le_of_ble_eq_true rfl) d_M_calls_13 ⟨Nat.le_refl _, Nat.le_refl _⟩) (fun r_13 u_13 H locs h hw => ?_)
      refine lv_iconst (v := 3) S.1 S.2.1 d_M_calls_16 (by decide) ?_
      refine lv_icmp_ne (tgt := 23) S.1 S.2.1 d_M_calls_17 (by decide) (fun q_17 => ?_) (fun q_17 => ?_)
      · have h := h.2 q_17
        exact wB_M_calls_23 S hr hlk hK hA ih x1 x2 u_13 _ _ _ (lv_sub hl [0, 1, 2] rfl) hw h
      · have h := h.1 q_17
        obtain ⟨x1_20, ex1_20⟩ : ∃ y : Int32, y = x1 + 1 := ⟨_, rfl⟩
        have h := h x1_20 ex1_20
        refine lv_iinc (v := x1_20) (lv' := [(1, .int x1_20), (0, .ref (a 0)), (2, .int x2)]) S.1 S.2.1 d_M_calls_20 hl (k := 1) rfl (by rw [ex1_20]; rfl) (by decide) rfl (fun ls hl => ?_)
        exact wB_M_calls_23 S hr hlk hK hA ih x1_20 x2 u_13 _ _ _ (lv_sub hl [1, 0, 2] rfl) hw h
set_option maxHeartbeats 4000000 in
set_option maxRecDepth 20000 in
theorem c_M_calls {x : GX} {a : Nat → Nat} (l : Launch)  (u : MS) (sz : Nat) (Qc : Int32 → MS → Prop) (h : P_M_calls  u Qc) : Met l y_M_calls (wM y_M_calls b_M_calls 3 (some .int)) (rmN 1 0 0) (PreC x (mcl x a) [.ref (a 0)] u sz) (QcI x (mcl x a) (va_A ((mcl x a) u) sz) Qc) 0 0 (va_A ((mcl x a) u) sz) := by
  refine w_enter (by decide +kernel) (Nat.le_of_ble_eq_true rfl) (fun p e s m args below meth c S hr hlk _ hK hA hw ls hl => ?_)
  have hl : lv_has ls 3 [(0, .ref (a 0))] := hl
  refine lv_iconst (v := 0) S.1 S.2.1 d_M_calls_0 (by decide) ?_
  refine lv_istore_n (lv' := [(1, .int (0 : Int32)), (0, .ref (a 0))]) S.1 S.2.1 d_M_calls_1 rfl hl (by decide) rfl (fun ls hl => ?_)
  refine lv_aload_n S.1 S.2.1 d_M_calls_2 rfl (lv_at hl 1 rfl) ?_
  refine mg_k S hK hw d_M_calls_3 ?_
  refine lv_topi (fun x2_6 ex2_6 => ?_)
  have h := h x2_6 ex2_6
  refine lv_istore_n (lv' := [(2, .int x2_6), (1, .int (0 : Int32)), (0, .ref (a 0))]) S.1 S.2.1 d_M_calls_6 rfl hl (by decide) rfl (fun ls hl => ?_)
  obtain ⟨n9, h⟩ := h
  exact wL_M_calls_7 S hr hlk hK hA  n9 (0 : Int32) x2_6 u _ _ _ (lv_sub hl [2, 1, 0] rfl) hw h
set_option maxHeartbeats 4000000 in
set_option maxRecDepth 20000 in
theorem wB_M_choiceOf_41 (S : CallFix p m c b_M_choiceOf 4 s args lw_tg R_Mod) (hr : meth.sig.returnType = some .int) (hlk : meth.locks = false) (hK : GK x s) (hA : ∀ q : Nat, s.heap.size ≤ q → A q) {Qc : Int32 → MS → Prop} {K4 : Int32 → Int32 → MS → Prop} (ih4 : ∀ (x2 : Int32) (x3 : Int32) (u : MS) (ls : Array Slot) (H : Heap) (locs : List Loc), lv_has ls 4 [(0, .ref (a 0)), (2, .int x2), (3, .int x3)] → wd x A s.heap ((mcl x a) u) H locs → K4 x2 x3 u → W p l e (rmN 1 0 0) s m args below meth c H locs 0 0 (MQ below (QcI x (mcl x a) A Qc) args s 0 0 A) (F0 m 4 ls [])) : ∀ (x2 : Int32) (x3 : Int32) (u : MS) (ls : Array Slot) (H : Heap) (locs : List Loc), lv_has ls 4 [(0, .ref (a 0)), (2, .int x2), (3, .int x3)] → wd x A s.heap ((mcl x a) u) H locs → B_M_choiceOf_41 Qc K4 x2 x3 u → W p l e (rmN 1 0 0) s m args below meth c H locs 0 0 (MQ below (QcI x (mcl x a) A Qc) args s 0 0 A) (F0 m 41 ls []) := by
  intro x2 x3 u ls H locs hl hw h
  refine lv_iload_n S.1 S.2.1 d_M_choiceOf_41 rfl (lv_at hl 1 rfl) ?_
  refine lv_if_ne (tgt := 49) S.1 S.2.1 d_M_choiceOf_42 (by decide) (fun q_42 => ?_) (fun q_42 => ?_)
  · have h := h.2 q_42
    obtain ⟨x3_49, ex3_49⟩ : ∃ y : Int32, y = x3 + 1 := ⟨_, rfl⟩
    have h := h x3_49 ex3_49
    refine lv_iinc (v := x3_49) (lv' := [(3, .int x3_49), (0, .ref (a 0)), (2, .int x2)]) S.1 S.2.1 d_M_choiceOf_49 hl (k := 2) rfl (by rw [ex3_49]; rfl) (by decide) rfl (fun ls hl => ?_)
    refine lv_goto (tgt := 4) S.1 S.2.1 d_M_choiceOf_52 (by decide) ?_
    exact ih4 x2 x3_49 u _ _ _ (lv_sub hl [1, 2, 0] rfl) hw h
  · have h := h.1 q_42
    refine lv_iload_n S.1 S.2.1 d_M_choiceOf_45 rfl (lv_at hl 2 rfl) ?_
    refine lv_iconst (v := 1) S.1 S.2.1 d_M_choiceOf_46 (by decide) ?_
    refine lv_iadd S.1 S.2.1 d_M_choiceOf_47 ?_
    exact w_iret S hr hlk hK hw h d_M_choiceOf_48
set_option maxHeartbeats 4000000 in
set_option maxRecDepth 20000 in
theorem wL_M_choiceOf_4 (S : CallFix p m c b_M_choiceOf 4 s args lw_tg R_Mod) (hr : meth.sig.returnType = some .int) (hlk : meth.locks = false) (hK : GK x s) (hA : ∀ q : Nat, s.heap.size ≤ q → A q) {Qc : Int32 → MS → Prop} : ∀ (n : Nat) (x2 : Int32) (x3 : Int32) (u : MS) (ls : Array Slot) (H : Heap) (locs : List Loc), lv_has ls 4 [(0, .ref (a 0)), (2, .int x2), (3, .int x3)] → wd x A s.heap ((mcl x a) u) H locs → L_M_choiceOf_4 Qc  n x2 x3 u → W p l e (rmN 1 0 0) s m args below meth c H locs 0 0 (MQ below (QcI x (mcl x a) A Qc) args s 0 0 A) (F0 m 4 ls []) := by
  intro n
  induction n with
  | zero =>
    intro x2 x3 u ls H locs hl hw h
    exact absurd h id
  | succ n ih =>
    intro x2 x3 u ls H locs hl hw h
    refine lv_iload_n S.1 S.2.1 d_M_choiceOf_4 rfl (lv_at hl 2 rfl) ?_
    refine lv_aload_n S.1 S.2.1 d_M_choiceOf_5 rfl (lv_at hl 0 rfl) ?_
    refine mg_length S hK hw d_M_choiceOf_6 ?_
    refine lv_icmp_ge (tgt := 55) S.1 S.2.1 d_M_choiceOf_9 (by decide) (fun q_9 => ?_) (fun q_9 => ?_)
    · have h := h.1 q_9
      refine lv_iconst (v := 0) S.1 S.2.1 d_M_choiceOf_55 (by decide) ?_
      exact w_iret S hr hlk hK hw h d_M_choiceOf_56
    · have h := h.2 q_9
      refine lv_iload_n S.1 S.2.1 d_M_choiceOf_12 rfl (lv_at hl 1 rfl) ?_
      refine lv_if_le (tgt := 55) S.1 S.2.1 d_M_choiceOf_13 (by decide) (fun q_13 => ?_) (fun q_13 => ?_)
      · have h := h.1 q_13
        refine lv_iconst (v := 0) S.1 S.2.1 d_M_choiceOf_55 (by decide) ?_
        exact w_iret S hr hlk hK hw h d_M_choiceOf_56
      · have h := h.2 q_13
        refine lv_aload_n S.1 S.2.1 d_M_choiceOf_16 rfl (lv_at hl 0 rfl) ?_
        refine lv_iload_n S.1 S.2.1 d_M_choiceOf_17 rfl (lv_at hl 2 rfl) ?_
        refine w_ci hA hw (w_rv (rest := []) S hK hw (c_M_t l x3 u _ _ h) (ci := 0) (q0 := 0) rfl rfl (w_cb (fr := 0) (lv := 0) S.2.2.2.2 k_1040 k_1037 k_8 yd_M_t rfl rfl ⟨Nat.le_of_ble_eq_true rfl, Nat.le_of_ble_eq_true rfl⟩) k_1039 s_48 rfl hl.1 rfl (Nat.le_of_ble_eq_true rfl) d_M_choiceOf_18 ⟨Nat.le_refl _, Nat.le_refl _⟩) (fun r_18 u_18 H locs h hw => ?_)
        refine lv_bipush (v := 40) S.1 S.2.1 d_M_choiceOf_21 (by decide) ?_
        refine lv_icmp_ne (tgt := 41) S.1 S.2.1 d_M_choiceOf_23 (by decide) (fun q_23 => ?_) (fun q_23 => ?_)
        · have h := h.2 q_23
          exact wB_M_choiceOf_41 S hr hlk hK hA ih x2 x3 u_18 _ _ _ (lv_sub hl [0, 1, 2] rfl) hw h
        · have h := h.1 q_23
          refine lv_aload_n S.1 S.2.1 d_M_choiceOf_26 rfl (lv_at hl 0 rfl) ?_
          refine lv_iload_n S.1 S.2.1 d_M_choiceOf_27 rfl (lv_at hl 2 rfl) ?_
          refine lv_iconst (v := 1) S.1 S.2.1 d_M_choiceOf_28 (by decide) ?_
          refine lv_iadd S.1 S.2.1 d_M_choiceOf_29 ?_
          refine w_ci hA hw (w_rv (rest := []) S hK hw (c_M_t l (x3 + (1 : Int32)) u_18 _ _ h) (ci := 0) (q0 := 0) rfl rfl (w_cb (fr := 0) (lv := 0) S.2.2.2.2 k_1040 k_1037 k_8 yd_M_t rfl rfl ⟨Nat.le_of_ble_eq_true rfl, Nat.le_of_ble_eq_true rfl⟩) k_1039 s_48 rfl hl.1 rfl (Nat.le_of_ble_eq_true rfl) d_M_choiceOf_30 ⟨Nat.le_refl _, Nat.le_refl _⟩) (fun r_30 u_30 H locs h hw => ?_)
          refine lv_bipush (v := 63) S.1 S.2.1 d_M_choiceOf_33 (by decide) ?_
          refine lv_icmp_eq (tgt := 41) S.1 S.2.1 d_M_choiceOf_35 (by decide) (fun q_35 => ?_) (fun q_35 => ?_)
          · have h := h.1 q_35
            exact wB_M_choiceOf_41 S hr hlk hK hA ih x2 x3 u_30 _ _ _ (lv_sub hl [0, 1, 2] rfl) hw h
          · have h := h.2 q_35
            obtain ⟨x2_38, ex2_38⟩ : ∃ y : Int32, y = x2 + (-1) := ⟨_, rfl⟩
            have h := h x2_38 ex2_38
            refine lv_iinc (v := x2_38) (lv' := [(2, .int x2_38), (0, .ref (a 0)), (3, .int x3)]) S.1 S.2.1 d_M_choiceOf_38 hl (k := 1) rfl (by rw [ex2_38]; rfl) (by decide) rfl (fun ls hl => ?_)
            exact wB_M_choiceOf_41 S hr hlk hK hA ih x2_38 x3 u_30 _ _ _ (lv_sub hl [1, 0, 2] rfl) hw h
set_option maxHeartbeats 4000000 in
set_option maxRecDepth 20000 in
theorem c_M_choiceOf {x : GX} {a : Nat → Nat} (l : Launch) (x1 : Int32) (u : MS) (sz : Nat) (Qc : Int32 → MS → Prop) (h : P_M_choiceOf x1 u Qc) : Met l y_M_choiceOf (wM y_M_choiceOf b_M_choiceOf 4 (some .int)) (rmN 1 0 0) (PreC x (mcl x a) [.ref (a 0), .int x1] u sz) (QcI x (mcl x a) (va_A ((mcl x a) u) sz) Qc) 0 0 (va_A ((mcl x a) u) sz) := by
  refine w_enter (by decide +kernel) (Nat.le_of_ble_eq_true rfl) (fun p e s m args below meth c S hr hlk _ hK hA hw ls hl => ?_)
  have hl : lv_has ls 4 [(0, .ref (a 0)), (1, .int x1)] := hl
  refine lv_iload_n S.1 S.2.1 d_M_choiceOf_0 rfl (lv_at hl 1 rfl) ?_
  refine lv_istore_n (lv' := [(2, .int x1), (0, .ref (a 0)), (1, .int x1)]) S.1 S.2.1 d_M_choiceOf_1 rfl hl (by decide) rfl (fun ls hl => ?_)
  refine lv_iconst (v := 0) S.1 S.2.1 d_M_choiceOf_2 (by decide) ?_
  refine lv_istore_n (lv' := [(3, .int (0 : Int32)), (2, .int x1), (0, .ref (a 0)), (1, .int x1)]) S.1 S.2.1 d_M_choiceOf_3 rfl hl (by decide) rfl (fun ls hl => ?_)
  obtain ⟨n9, h⟩ := h
  exact wL_M_choiceOf_4 S hr hlk hK hA  n9 x1 (0 : Int32) u _ _ _ (lv_sub hl [2, 1, 0] rfl) hw h
set_option maxHeartbeats 4000000 in
set_option maxRecDepth 20000 in
theorem wB_M_openChoice_23 (S : CallFix p m c b_M_openChoice 4 s args lw_tg R_Mod) (hr : meth.sig.returnType = none) (hlk : meth.locks = false) (hK : GK x s) (hA : ∀ q : Nat, s.heap.size ≤ q → A q) {Qc : MS → Prop} : ∀ (x1 : Int32) (t0 : Int32) (u : MS) (ls : Array Slot) (H : Heap) (locs : List Loc), lv_has ls 4 [(0, .ref (a 0)), (1, .int x1)] → wd x A s.heap ((mcl x a) u) H locs → B_M_openChoice_23 Qc  x1 t0 u → W p l e (rmN 2 0 0) s m args below meth c H locs 0 0 (MQ below (QcV x (mcl x a) A Qc) args s 0 0 A) (F0 m 23 ls [.int t0]) := by
  intro x1 t0 u ls H locs hl hw h
  refine lv_istore_n (lv' := [(2, .int t0), (0, .ref (a 0)), (1, .int x1)]) S.1 S.2.1 d_M_openChoice_23 rfl hl (by decide) rfl (fun ls hl => ?_)
  refine lv_iload_n S.1 S.2.1 d_M_openChoice_24 rfl (lv_at hl 0 rfl) ?_
  refine lv_if_ne (tgt := 57) S.1 S.2.1 d_M_openChoice_25 (by decide) (fun q_25 => ?_) (fun q_25 => ?_)
  · have h := h.2 q_25
    refine lv_iload_n S.1 S.2.1 d_M_openChoice_57 rfl (lv_at hl 0 rfl) ?_
    refine lv_bipush (v := 58) S.1 S.2.1 d_M_openChoice_58 (by decide) ?_
    refine lv_icmp_ne (tgt := 78) S.1 S.2.1 d_M_openChoice_60 (by decide) (fun q_60 => ?_) (fun q_60 => ?_)
    · have h := h.2 q_60
      refine lv_iload_n S.1 S.2.1 d_M_openChoice_78 rfl (lv_at hl 0 rfl) ?_
      refine lv_bipush (v := 62) S.1 S.2.1 d_M_openChoice_79 (by decide) ?_
      refine lv_icmp_ne (tgt := 110) S.1 S.2.1 d_M_openChoice_81 (by decide) (fun q_81 => ?_) (fun q_81 => ?_)
      · have h := h.2 q_81
        refine lv_iload_n S.1 S.2.1 d_M_openChoice_110 rfl (lv_at hl 0 rfl) ?_
        refine lv_bipush (v := 61) S.1 S.2.1 d_M_openChoice_111 (by decide) ?_
        refine lv_icmp_ne (tgt := 145) S.1 S.2.1 d_M_openChoice_113 (by decide) (fun q_113 => ?_) (fun q_113 => ?_)
        · have h := h.2 q_113
          refine lv_iload_n S.1 S.2.1 d_M_openChoice_145 rfl (lv_at hl 0 rfl) ?_
          refine lv_bipush (v := 33) S.1 S.2.1 d_M_openChoice_146 (by decide) ?_
          refine lv_icmp_ne (tgt := 189) S.1 S.2.1 d_M_openChoice_148 (by decide) (fun q_148 => ?_) (fun q_148 => ?_)
          · have h := h.2 q_148
            refine lv_aload_n S.1 S.2.1 d_M_openChoice_189 rfl (lv_at hl 1 rfl) ?_
            refine w_ci hA hw (w_rv (rest := []) S hK hw (c_M_calls l  u _ _ h) (ci := 0) (q0 := 0) rfl rfl (w_cb (fr := 0) (lv := 0) S.2.2.2.2 k_1080 k_1077 k_8 yd_M_calls rfl rfl ⟨Nat.le_of_ble_eq_true rfl, Nat.le_of_ble_eq_true rfl⟩) k_1079 s_58 rfl hl.1 rfl (Nat.le_of_ble_eq_true rfl) d_M_openChoice_190 ⟨Nat.le_refl _, Nat.le_refl _⟩) (fun r_190 u_190 H locs h hw => ?_)
            refine lv_bipush (v := 12) S.1 S.2.1 d_M_openChoice_193 (by decide) ?_
            refine lv_icmp_lt (tgt := 212) S.1 S.2.1 d_M_openChoice_195 (by decide) (fun q_195 => ?_) (fun q_195 => ?_)
            · have h := h.1 q_195
              refine lv_aload_n S.1 S.2.1 d_M_openChoice_212 rfl (lv_at hl 1 rfl) ?_
              refine mg_kept S hK hw d_M_openChoice_213 ?_
              refine lv_aload_n S.1 S.2.1 d_M_openChoice_216 rfl (lv_at hl 1 rfl) ?_
              refine mg_steps S hK hw d_M_openChoice_217 ?_
              refine lv_aload_n S.1 S.2.1 d_M_openChoice_220 rfl (lv_at hl 1 rfl) ?_
              refine mg_caps S hK hw d_M_openChoice_221 ?_
              have hg := h.1
              have h := h.2
              refine mt_kept S hK hw hg d_M_openChoice_224 (fun H locs hw => ?_)
              refine lv_aload_n S.1 S.2.1 d_M_openChoice_225 rfl (lv_at hl 1 rfl) ?_
              refine lv_iconst (v := 1) S.1 S.2.1 d_M_openChoice_226 (by decide) ?_
              refine lv_aload_n S.1 S.2.1 d_M_openChoice_227 rfl (lv_at hl 1 rfl) ?_
              refine lv_iload_n S.1 S.2.1 d_M_openChoice_228 rfl (lv_at hl 0 rfl) ?_
              refine lv_bipush (v := 48) S.1 S.2.1 d_M_openChoice_229 (by decide) ?_
              refine lv_isub S.1 S.2.1 d_M_openChoice_231 ?_
              refine w_ci hA hw (w_rv (rest := [.int (1 : Int32), .ref (a 0)]) S hK hw (c_M_choiceOf l (t0 - (48 : Int32)) (ms_kept u_190 (vp_updL (m_kept u_190) (m_steps u_190).toNatClampNeg (m_caps u_190))) _ _ h) (ci := 0) (q0 := 0) rfl rfl (w_cb (fr := 0) (lv := 0) S.2.2.2.2 k_1092 k_1089 k_8 yd_M_choiceOf rfl rfl ⟨Nat.le_of_ble_eq_true rfl, Nat.le_of_ble_eq_true rfl⟩) k_1091 s_61 rfl hl.1 rfl (Nat.le_of_ble_eq_true rfl) d_M_openChoice_232 ⟨Nat.le_refl _, Nat.le_refl _⟩) (fun r_232 u_232 H locs h hw => ?_)
              refine lv_aload_n S.1 S.2.1 d_M_openChoice_235 rfl (lv_at hl 1 rfl) ?_
              refine lv_iconst (v := 3) S.1 S.2.1 d_M_openChoice_236 (by decide) ?_
              refine lv_iconst (v := 0) S.1 S.2.1 d_M_openChoice_237 (by decide) ?_
              refine lv_aload_n S.1 S.2.1 d_M_openChoice_238 rfl (lv_at hl 1 rfl) ?_
              refine mg_steps S hK hw d_M_openChoice_239 ?_
              refine lv_aload_n S.1 S.2.1 d_M_openChoice_242 rfl (lv_at hl 1 rfl) ?_
              refine mg_k S hK hw d_M_openChoice_243 ?_
              refine w_ci hA hw (w_rv (rest := [.int r_232, .int (1 : Int32), .ref (a 0)]) S hK hw (c_M_push l (3 : Int32) (0 : Int32) (m_steps u_232) (m_k u_232) u_232 _ _ h) (ci := 0) (q0 := 0) rfl rfl (w_cb (fr := 0) (lv := 0) S.2.2.2.2 k_1056 k_1053 k_8 yd_M_push rfl rfl ⟨Nat.le_of_ble_eq_true rfl, Nat.le_of_ble_eq_true rfl⟩) k_1055 s_52 rfl hl.1 rfl (Nat.le_of_ble_eq_true rfl) d_M_openChoice_246 ⟨Nat.le_refl _, Nat.le_refl _⟩) (fun r_246 u_246 H locs h hw => ?_)
              refine w_cv hA hw (w_rv (rest := []) S hK hw (c_M_go l (1 : Int32) r_232 r_246 u_246 _ _ h) (ci := 0) (q0 := 0) rfl rfl (w_cb (fr := 0) (lv := 0) S.2.2.2.2 k_1027 k_1024 k_8 yd_M_go rfl rfl ⟨Nat.le_of_ble_eq_true rfl, Nat.le_of_ble_eq_true rfl⟩) k_1026 s_45 rfl hl.1 rfl (Nat.le_of_ble_eq_true rfl) d_M_openChoice_249 ⟨Nat.le_refl _, Nat.le_refl _⟩) (fun u_249 H locs h hw => ?_)
              exact w_vret S hr hlk hK hw h d_M_openChoice_252
            · have h := h.2 q_195
              refine lv_aload_n S.1 S.2.1 d_M_openChoice_198 rfl (lv_at hl 1 rfl) ?_
              refine lv_bipush (v := 6) S.1 S.2.1 d_M_openChoice_199 (by decide) ?_
              refine lv_iconst (v := 0) S.1 S.2.1 d_M_openChoice_201 (by decide) ?_
              refine lv_aload_n S.1 S.2.1 d_M_openChoice_202 rfl (lv_at hl 1 rfl) ?_
              refine mg_k S hK hw d_M_openChoice_203 ?_
              refine w_cv hA hw (w_rv (rest := []) S hK hw (c_M_go l (6 : Int32) (0 : Int32) (m_k u_190) u_190 _ _ h) (ci := 0) (q0 := 0) rfl rfl (w_cb (fr := 0) (lv := 0) S.2.2.2.2 k_1027 k_1024 k_8 yd_M_go rfl rfl ⟨Nat.le_of_ble_eq_true rfl, Nat.le_of_ble_eq_true rfl⟩) k_1026 s_45 rfl hl.1 rfl (Nat.le_of_ble_eq_true rfl) d_M_openChoice_206 ⟨Nat.le_refl _, Nat.le_refl _⟩) (fun u_206 H locs h hw => ?_)
              refine lv_goto (tgt := 252) S.1 S.2.1 d_M_openChoice_209 (by decide) ?_
              exact w_vret S hr hlk hK hw h d_M_openChoice_252
          · have h := h.1 q_148
            refine lv_aload_n S.1 S.2.1 d_M_openChoice_151 rfl (lv_at hl 1 rfl) ?_
            refine lv_bipush (v := 9) S.1 S.2.1 d_M_openChoice_152 (by decide) ?_
            refine lv_iconst (v := 0) S.1 S.2.1 d_M_openChoice_154 (by decide) ?_
            refine lv_aload_n S.1 S.2.1 d_M_openChoice_155 rfl (lv_at hl 1 rfl) ?_
            refine mg_backs S hK hw d_M_openChoice_156 ?_
            refine lv_aload_n S.1 S.2.1 d_M_openChoice_159 rfl (lv_at hl 1 rfl) ?_
            refine mg_k S hK hw d_M_openChoice_160 ?_
            refine w_ci hA hw (w_rv (rest := []) S hK hw (c_M_push l (9 : Int32) (0 : Int32) (m_backs u) (m_k u) u _ _ h) (ci := 0) (q0 := 0) rfl rfl (w_cb (fr := 0) (lv := 0) S.2.2.2.2 k_1056 k_1053 k_8 yd_M_push rfl rfl ⟨Nat.le_of_ble_eq_true rfl, Nat.le_of_ble_eq_true rfl⟩) k_1055 s_52 rfl hl.1 rfl (Nat.le_of_ble_eq_true rfl) d_M_openChoice_163 ⟨Nat.le_refl _, Nat.le_refl _⟩) (fun r_163 u_163 H locs h hw => ?_)
            refine lv_istore_n (lv' := [(3, .int r_163), (2, .int t0), (0, .ref (a 0)), (1, .int x1)]) S.1 S.2.1 d_M_openChoice_166 rfl hl (by decide) rfl (fun ls hl => ?_)
            refine lv_aload_n S.1 S.2.1 d_M_openChoice_167 rfl (lv_at hl 2 rfl) ?_
            refine lv_iconst (v := 5) S.1 S.2.1 d_M_openChoice_168 (by decide) ?_
            refine lv_iconst (v := 0) S.1 S.2.1 d_M_openChoice_169 (by decide) ?_
            refine lv_aload_n S.1 S.2.1 d_M_openChoice_170 rfl (lv_at hl 2 rfl) ?_
            refine mg_k S hK hw d_M_openChoice_171 ?_
            refine w_cv hA hw (w_rv (rest := []) S hK hw (c_M_pushBack l (5 : Int32) (0 : Int32) (m_k u_163) u_163 _ _ h) (ci := 0) (q0 := 0) rfl rfl (w_cb (fr := 0) (lv := 0) S.2.2.2.2 k_1060 k_1057 k_8 yd_M_pushBack rfl rfl ⟨Nat.le_of_ble_eq_true rfl, Nat.le_of_ble_eq_true rfl⟩) k_1059 s_53 rfl hl.1 rfl (Nat.le_of_ble_eq_true rfl) d_M_openChoice_174 ⟨Nat.le_refl _, Nat.le_refl _⟩) (fun u_174 H locs h hw => ?_)
            refine lv_aload_n S.1 S.2.1 d_M_openChoice_177 rfl (lv_at hl 2 rfl) ?_
            refine lv_iconst (v := 1) S.1 S.2.1 d_M_openChoice_178 (by decide) ?_
            refine lv_iload_n S.1 S.2.1 d_M_openChoice_179 rfl (lv_at hl 3 rfl) ?_
            refine lv_iconst (v := 3) S.1 S.2.1 d_M_openChoice_180 (by decide) ?_
            refine lv_iadd S.1 S.2.1 d_M_openChoice_181 ?_
            refine lv_iload_n S.1 S.2.1 d_M_openChoice_182 rfl (lv_at hl 0 rfl) ?_
            refine w_cv hA hw (w_rv (rest := []) S hK hw (c_M_go l (1 : Int32) (x1 + (3 : Int32)) r_163 u_174 _ _ h) (ci := 0) (q0 := 0) rfl rfl (w_cb (fr := 0) (lv := 0) S.2.2.2.2 k_1027 k_1024 k_8 yd_M_go rfl rfl ⟨Nat.le_of_ble_eq_true rfl, Nat.le_of_ble_eq_true rfl⟩) k_1026 s_45 rfl hl.1 rfl (Nat.le_of_ble_eq_true rfl) d_M_openChoice_183 ⟨Nat.le_refl _, Nat.le_refl _⟩) (fun u_183 H locs h hw => ?_)
            refine lv_goto (tgt := 252) S.1 S.2.1 d_M_openChoice_186 (by decide) ?_
            exact w_vret S hr hlk hK hw h d_M_openChoice_252
        · have h := h.1 q_113
          refine lv_aload_n S.1 S.2.1 d_M_openChoice_116 rfl (lv_at hl 1 rfl) ?_
          refine lv_iconst (v := 1) S.1 S.2.1 d_M_openChoice_117 (by decide) ?_
          refine lv_iload_n S.1 S.2.1 d_M_openChoice_118 rfl (lv_at hl 2 rfl) ?_
          refine lv_iconst (v := 3) S.1 S.2.1 d_M_openChoice_119 (by decide) ?_
          refine lv_iadd S.1 S.2.1 d_M_openChoice_120 ?_
          refine lv_aload_n S.1 S.2.1 d_M_openChoice_121 rfl (lv_at hl 1 rfl) ?_
          refine lv_bipush (v := 8) S.1 S.2.1 d_M_openChoice_122 (by decide) ?_
          refine lv_aload_n S.1 S.2.1 d_M_openChoice_124 rfl (lv_at hl 1 rfl) ?_
          refine mg_p S hK hw d_M_openChoice_125 ?_
          refine lv_aload_n S.1 S.2.1 d_M_openChoice_128 rfl (lv_at hl 1 rfl) ?_
          refine mg_backs S hK hw d_M_openChoice_129 ?_
          refine lv_aload_n S.1 S.2.1 d_M_openChoice_132 rfl (lv_at hl 1 rfl) ?_
          refine mg_k S hK hw d_M_openChoice_133 ?_
          refine w_ci hA hw (w_rv (rest := [.int (x1 + (3 : Int32)), .int (1 : Int32), .ref (a 0)]) S hK hw (c_M_push l (8 : Int32) (m_p u) (m_backs u) (m_k u) u _ _ h) (ci := 0) (q0 := 0) rfl rfl (w_cb (fr := 0) (lv := 0) S.2.2.2.2 k_1056 k_1053 k_8 yd_M_push rfl rfl ⟨Nat.le_of_ble_eq_true rfl, Nat.le_of_ble_eq_true rfl⟩) k_1055 s_52 rfl hl.1 rfl (Nat.le_of_ble_eq_true rfl) d_M_openChoice_136 ⟨Nat.le_refl _, Nat.le_refl _⟩) (fun r_136 u_136 H locs h hw => ?_)
          refine w_cv hA hw (w_rv (rest := []) S hK hw (c_M_go l (1 : Int32) (x1 + (3 : Int32)) r_136 u_136 _ _ h) (ci := 0) (q0 := 0) rfl rfl (w_cb (fr := 0) (lv := 0) S.2.2.2.2 k_1027 k_1024 k_8 yd_M_go rfl rfl ⟨Nat.le_of_ble_eq_true rfl, Nat.le_of_ble_eq_true rfl⟩) k_1026 s_45 rfl hl.1 rfl (Nat.le_of_ble_eq_true rfl) d_M_openChoice_139 ⟨Nat.le_refl _, Nat.le_refl _⟩) (fun u_139 H locs h hw => ?_)
          refine lv_goto (tgt := 252) S.1 S.2.1 d_M_openChoice_142 (by decide) ?_
          exact w_vret S hr hlk hK hw h d_M_openChoice_252
      · have h := h.1 q_81
        refine lv_aload_n S.1 S.2.1 d_M_openChoice_84 rfl (lv_at hl 1 rfl) ?_
        refine lv_iconst (v := 1) S.1 S.2.1 d_M_openChoice_85 (by decide) ?_
        refine lv_iload_n S.1 S.2.1 d_M_openChoice_86 rfl (lv_at hl 2 rfl) ?_
        refine lv_iconst (v := 3) S.1 S.2.1 d_M_openChoice_87 (by decide) ?_
        refine lv_iadd S.1 S.2.1 d_M_openChoice_88 ?_
        refine lv_aload_n S.1 S.2.1 d_M_openChoice_89 rfl (lv_at hl 1 rfl) ?_
        refine lv_bipush (v := 7) S.1 S.2.1 d_M_openChoice_90 (by decide) ?_
        refine lv_iconst (v := 0) S.1 S.2.1 d_M_openChoice_92 (by decide) ?_
        refine lv_aload_n S.1 S.2.1 d_M_openChoice_93 rfl (lv_at hl 1 rfl) ?_
        refine mg_backs S hK hw d_M_openChoice_94 ?_
        refine lv_aload_n S.1 S.2.1 d_M_openChoice_97 rfl (lv_at hl 1 rfl) ?_
        refine mg_k S hK hw d_M_openChoice_98 ?_
        refine w_ci hA hw (w_rv (rest := [.int (x1 + (3 : Int32)), .int (1 : Int32), .ref (a 0)]) S hK hw (c_M_push l (7 : Int32) (0 : Int32) (m_backs u) (m_k u) u _ _ h) (ci := 0) (q0 := 0) rfl rfl (w_cb (fr := 0) (lv := 0) S.2.2.2.2 k_1056 k_1053 k_8 yd_M_push rfl rfl ⟨Nat.le_of_ble_eq_true rfl, Nat.le_of_ble_eq_true rfl⟩) k_1055 s_52 rfl hl.1 rfl (Nat.le_of_ble_eq_true rfl) d_M_openChoice_101 ⟨Nat.le_refl _, Nat.le_refl _⟩) (fun r_101 u_101 H locs h hw => ?_)
        refine w_cv hA hw (w_rv (rest := []) S hK hw (c_M_go l (1 : Int32) (x1 + (3 : Int32)) r_101 u_101 _ _ h) (ci := 0) (q0 := 0) rfl rfl (w_cb (fr := 0) (lv := 0) S.2.2.2.2 k_1027 k_1024 k_8 yd_M_go rfl rfl ⟨Nat.le_of_ble_eq_true rfl, Nat.le_of_ble_eq_true rfl⟩) k_1026 s_45 rfl hl.1 rfl (Nat.le_of_ble_eq_true rfl) d_M_openChoice_104 ⟨Nat.le_refl _, Nat.le_refl _⟩) (fun u_104 H locs h hw => ?_)
        refine lv_goto (tgt := 252) S.1 S.2.1 d_M_openChoice_107 (by decide) ?_
        exact w_vret S hr hlk hK hw h d_M_openChoice_252
    · have h := h.1 q_60
      refine lv_aload_n S.1 S.2.1 d_M_openChoice_63 rfl (lv_at hl 1 rfl) ?_
      refine lv_iconst (v := 1) S.1 S.2.1 d_M_openChoice_64 (by decide) ?_
      refine lv_iload_n S.1 S.2.1 d_M_openChoice_65 rfl (lv_at hl 2 rfl) ?_
      refine lv_iconst (v := 3) S.1 S.2.1 d_M_openChoice_66 (by decide) ?_
      refine lv_iadd S.1 S.2.1 d_M_openChoice_67 ?_
      refine lv_aload_n S.1 S.2.1 d_M_openChoice_68 rfl (lv_at hl 1 rfl) ?_
      refine mg_k S hK hw d_M_openChoice_69 ?_
      refine w_cv hA hw (w_rv (rest := []) S hK hw (c_M_go l (1 : Int32) (x1 + (3 : Int32)) (m_k u) u _ _ h) (ci := 0) (q0 := 0) rfl rfl (w_cb (fr := 0) (lv := 0) S.2.2.2.2 k_1027 k_1024 k_8 yd_M_go rfl rfl ⟨Nat.le_of_ble_eq_true rfl, Nat.le_of_ble_eq_true rfl⟩) k_1026 s_45 rfl hl.1 rfl (Nat.le_of_ble_eq_true rfl) d_M_openChoice_72 ⟨Nat.le_refl _, Nat.le_refl _⟩) (fun u_72 H locs h hw => ?_)
      refine lv_goto (tgt := 252) S.1 S.2.1 d_M_openChoice_75 (by decide) ?_
      exact w_vret S hr hlk hK hw h d_M_openChoice_252
  · have h := h.1 q_25
    refine lv_aload_n S.1 S.2.1 d_M_openChoice_28 rfl (lv_at hl 1 rfl) ?_
    refine lv_iconst (v := 1) S.1 S.2.1 d_M_openChoice_29 (by decide) ?_
    refine lv_iload_n S.1 S.2.1 d_M_openChoice_30 rfl (lv_at hl 2 rfl) ?_
    refine lv_iconst (v := 1) S.1 S.2.1 d_M_openChoice_31 (by decide) ?_
    refine lv_iadd S.1 S.2.1 d_M_openChoice_32 ?_
    refine lv_aload_n S.1 S.2.1 d_M_openChoice_33 rfl (lv_at hl 1 rfl) ?_
    refine lv_iconst (v := 2) S.1 S.2.1 d_M_openChoice_34 (by decide) ?_
    refine lv_aload_n S.1 S.2.1 d_M_openChoice_35 rfl (lv_at hl 1 rfl) ?_
    refine lv_iload_n S.1 S.2.1 d_M_openChoice_36 rfl (lv_at hl 2 rfl) ?_
    refine w_ci hA hw (w_rv (rest := [.int (2 : Int32), .ref (a 0), .int (x1 + (1 : Int32)), .int (1 : Int32), .ref (a 0)]) S hK hw (c_M_groupAt l x1 u _ _ h) (ci := 0) (q0 := 0) rfl rfl (w_cb (fr := 0) (lv := 0) S.2.2.2.2 k_1076 k_1073 k_8 yd_M_groupAt rfl rfl ⟨Nat.le_of_ble_eq_true rfl, Nat.le_of_ble_eq_true rfl⟩) k_1075 s_57 rfl hl.1 rfl (Nat.le_of_ble_eq_true rfl) d_M_openChoice_37 ⟨Nat.le_refl _, Nat.le_refl _⟩) (fun r_37 u_37 H locs h hw => ?_)
    refine lv_aload_n S.1 S.2.1 d_M_openChoice_40 rfl (lv_at hl 1 rfl) ?_
    refine mg_p S hK hw d_M_openChoice_41 ?_
    refine lv_aload_n S.1 S.2.1 d_M_openChoice_44 rfl (lv_at hl 1 rfl) ?_
    refine mg_k S hK hw d_M_openChoice_45 ?_
    refine w_ci hA hw (w_rv (rest := [.int (x1 + (1 : Int32)), .int (1 : Int32), .ref (a 0)]) S hK hw (c_M_push l (2 : Int32) r_37 (m_p u_37) (m_k u_37) u_37 _ _ h) (ci := 0) (q0 := 0) rfl rfl (w_cb (fr := 0) (lv := 0) S.2.2.2.2 k_1056 k_1053 k_8 yd_M_push rfl rfl ⟨Nat.le_of_ble_eq_true rfl, Nat.le_of_ble_eq_true rfl⟩) k_1055 s_52 rfl hl.1 rfl (Nat.le_of_ble_eq_true rfl) d_M_openChoice_48 ⟨Nat.le_refl _, Nat.le_refl _⟩) (fun r_48 u_48 H locs h hw => ?_)
    refine w_cv hA hw (w_rv (rest := []) S hK hw (c_M_go l (1 : Int32) (x1 + (1 : Int32)) r_48 u_48 _ _ h) (ci := 0) (q0 := 0) rfl rfl (w_cb (fr := 0) (lv := 0) S.2.2.2.2 k_1027 k_1024 k_8 yd_M_go rfl rfl ⟨Nat.le_of_ble_eq_true rfl, Nat.le_of_ble_eq_true rfl⟩) k_1026 s_45 rfl hl.1 rfl (Nat.le_of_ble_eq_true rfl) d_M_openChoice_51 ⟨Nat.le_refl _, Nat.le_refl _⟩) (fun u_51 H locs h hw => ?_)
    refine lv_goto (tgt := 252) S.1 S.2.1 d_M_openChoice_54 (by decide) ?_
    exact w_vret S hr hlk hK hw h d_M_openChoice_252
set_option maxHeartbeats 4000000 in
set_option maxRecDepth 20000 in
theorem c_M_openChoice {x : GX} {a : Nat → Nat} (l : Launch) (x1 : Int32) (u : MS) (sz : Nat) (Qc : MS → Prop) (h : P_M_openChoice x1 u Qc) : Met l y_M_openChoice (wM y_M_openChoice b_M_openChoice 4 none) (rmN 2 0 0) (PreC x (mcl x a) [.ref (a 0), .int x1] u sz) (QcV x (mcl x a) (va_A ((mcl x a) u) sz) Qc) 0 0 (va_A ((mcl x a) u) sz) := by
  refine w_enter (by decide +kernel) (Nat.le_of_ble_eq_true rfl) (fun p e s m args below meth c S hr hlk _ hK hA hw ls hl => ?_)
  have hl : lv_has ls 4 [(0, .ref (a 0)), (1, .int x1)] := hl
  refine lv_aload_n S.1 S.2.1 d_M_openChoice_0 rfl (lv_at hl 0 rfl) ?_
  refine lv_iload_n S.1 S.2.1 d_M_openChoice_1 rfl (lv_at hl 1 rfl) ?_
  refine lv_iconst (v := 1) S.1 S.2.1 d_M_openChoice_2 (by decide) ?_
  refine lv_iadd S.1 S.2.1 d_M_openChoice_3 ?_
  refine w_ci hA hw (w_rv (rest := []) S hK hw (c_M_t l (x1 + (1 : Int32)) u _ _ h) (ci := 0) (q0 := 0) rfl rfl (w_cb (fr := 0) (lv := 0) S.2.2.2.2 k_1040 k_1037 k_8 yd_M_t rfl rfl ⟨Nat.le_of_ble_eq_true rfl, Nat.le_of_ble_eq_true rfl⟩) k_1039 s_48 rfl hl.1 rfl (Nat.le_of_ble_eq_true rfl) d_M_openChoice_4 ⟨Nat.le_refl _, Nat.le_refl _⟩) (fun r_4 u_4 H locs h hw => ?_)
  refine lv_bipush (v := 63) S.1 S.2.1 d_M_openChoice_7 (by decide) ?_
  refine lv_icmp_ne (tgt := 22) S.1 S.2.1 d_M_openChoice_9 (by decide) (fun q_9 => ?_) (fun q_9 => ?_)
  · have h := h.2 q_9
    refine lv_iconst (v := 0) S.1 S.2.1 d_M_openChoice_22 (by decide) ?_
    exact wB_M_openChoice_23 S hr hlk hK hA  x1 (0 : Int32) u_4 _ _ _ (lv_sub hl [0, 1] rfl) hw h
  · have h := h.1 q_9
    refine lv_aload_n S.1 S.2.1 d_M_openChoice_12 rfl (lv_at hl 0 rfl) ?_
    refine lv_iload_n S.1 S.2.1 d_M_openChoice_13 rfl (lv_at hl 1 rfl) ?_
    refine lv_iconst (v := 2) S.1 S.2.1 d_M_openChoice_14 (by decide) ?_
    refine lv_iadd S.1 S.2.1 d_M_openChoice_15 ?_
    refine w_ci hA hw (w_rv (rest := []) S hK hw (c_M_t l (x1 + (2 : Int32)) u_4 _ _ h) (ci := 0) (q0 := 0) rfl rfl (w_cb (fr := 0) (lv := 0) S.2.2.2.2 k_1040 k_1037 k_8 yd_M_t rfl rfl ⟨Nat.le_of_ble_eq_true rfl, Nat.le_of_ble_eq_true rfl⟩) k_1039 s_48 rfl hl.1 rfl (Nat.le_of_ble_eq_true rfl) d_M_openChoice_16 ⟨Nat.le_refl _, Nat.le_refl _⟩) (fun r_16 u_16 H locs h hw => ?_)
    refine lv_goto (tgt := 23) S.1 S.2.1 d_M_openChoice_19 (by decide) ?_
    exact wB_M_openChoice_23 S hr hlk hK hA  x1 r_16 u_16 _ _ _ (lv_sub hl [0, 1] rfl) hw h
end MW
