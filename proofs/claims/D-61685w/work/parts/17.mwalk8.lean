theorem d_M_seek_0 : decode b_M_seek 0 = .ok (.aload_n 0, 1) := by decide +kernel
theorem d_M_seek_1 : decode b_M_seek 1 = .ok (.iconst 0, 1) := by decide +kernel
theorem d_M_seek_2 : decode b_M_seek 2 = .ok (.putfield 173, 3) := by decide +kernel
theorem d_M_seek_5 : decode b_M_seek 5 = .ok (.aload_n 0, 1) := by decide +kernel
theorem d_M_seek_6 : decode b_M_seek 6 = .ok (.iconst 0, 1) := by decide +kernel
theorem d_M_seek_7 : decode b_M_seek 7 = .ok (.putfield 96, 3) := by decide +kernel
theorem d_M_seek_10 : decode b_M_seek 10 = .ok (.iload_n 1, 1) := by decide +kernel
theorem d_M_seek_11 : decode b_M_seek 11 = .ok (.istore_n 2, 1) := by decide +kernel
theorem d_M_seek_12 : decode b_M_seek 12 = .ok (.iload_n 2, 1) := by decide +kernel
theorem d_M_seek_13 : decode b_M_seek 13 = .ok (.aload_n 0, 1) := by decide +kernel
theorem d_M_seek_14 : decode b_M_seek 14 = .ok (.getfield 99, 3) := by decide +kernel
theorem d_M_seek_17 : decode b_M_seek 17 = .ok (.if_icmp .gt 56, 3) := by decide +kernel
theorem d_M_seek_20 : decode b_M_seek 20 = .ok (.aload_n 0, 1) := by decide +kernel
theorem d_M_seek_21 : decode b_M_seek 21 = .ok (.iload_n 2, 1) := by decide +kernel
theorem d_M_seek_22 : decode b_M_seek 22 = .ok (.invokevirtual 217, 3) := by decide +kernel
theorem d_M_seek_25 : decode b_M_seek 25 = .ok (.istore_n 3, 1) := by decide +kernel
theorem d_M_seek_26 : decode b_M_seek 26 = .ok (.iload_n 3, 1) := by decide +kernel
theorem d_M_seek_27 : decode b_M_seek 27 = .ok (.iconst 2, 1) := by decide +kernel
theorem d_M_seek_28 : decode b_M_seek 28 = .ok (.if_icmp .ne 6, 3) := by decide +kernel
theorem d_M_seek_31 : decode b_M_seek 31 = .ok (.bipush (-5), 2) := by decide +kernel
theorem d_M_seek_33 : decode b_M_seek 33 = .ok (.ireturn, 1) := by decide +kernel
theorem d_M_seek_34 : decode b_M_seek 34 = .ok (.iload_n 3, 1) := by decide +kernel
theorem d_M_seek_35 : decode b_M_seek 35 = .ok (.iconst 1, 1) := by decide +kernel
theorem d_M_seek_36 : decode b_M_seek 36 = .ok (.if_icmp .ne 31, 3) := by decide +kernel
theorem d_M_seek_39 : decode b_M_seek 39 = .ok (.aload_n 0, 1) := by decide +kernel
theorem d_M_seek_40 : decode b_M_seek 40 = .ok (.iconst 1, 1) := by decide +kernel
theorem d_M_seek_41 : decode b_M_seek 41 = .ok (.putfield 96, 3) := by decide +kernel
theorem d_M_seek_44 : decode b_M_seek 44 = .ok (.aload_n 0, 1) := by decide +kernel
theorem d_M_seek_45 : decode b_M_seek 45 = .ok (.iload_n 2, 1) := by decide +kernel
theorem d_M_seek_46 : decode b_M_seek 46 = .ok (.putfield 220, 3) := by decide +kernel
theorem d_M_seek_49 : decode b_M_seek 49 = .ok (.aload_n 0, 1) := by decide +kernel
theorem d_M_seek_50 : decode b_M_seek 50 = .ok (.aload_n 0, 1) := by decide +kernel
theorem d_M_seek_51 : decode b_M_seek 51 = .ok (.getfield 120, 3) := by decide +kernel
theorem d_M_seek_54 : decode b_M_seek 54 = .ok (.putfield 223, 3) := by decide +kernel
theorem d_M_seek_57 : decode b_M_seek 57 = .ok (.aload_n 0, 1) := by decide +kernel
theorem d_M_seek_58 : decode b_M_seek 58 = .ok (.aload_n 0, 1) := by decide +kernel
theorem d_M_seek_59 : decode b_M_seek 59 = .ok (.getfield 123, 3) := by decide +kernel
theorem d_M_seek_62 : decode b_M_seek 62 = .ok (.putfield 226, 3) := by decide +kernel
theorem d_M_seek_65 : decode b_M_seek 65 = .ok (.iload_n 2, 1) := by decide +kernel
theorem d_M_seek_66 : decode b_M_seek 66 = .ok (.ireturn, 1) := by decide +kernel
theorem d_M_seek_67 : decode b_M_seek 67 = .ok (.iinc 2 1, 3) := by decide +kernel
theorem d_M_seek_70 : decode b_M_seek 70 = .ok (.goto (-58), 3) := by decide +kernel
theorem d_M_seek_73 : decode b_M_seek 73 = .ok (.bipush (-4), 2) := by decide +kernel
theorem d_M_seek_75 : decode b_M_seek 75 = .ok (.ireturn, 1) := by decide +kernel
theorem d_M_search_0 : decode b_M_search 0 = .ok (.aload_n 0, 1) := by decide +kernel
theorem d_M_search_1 : decode b_M_search 1 = .ok (.getfield 83, 3) := by decide +kernel
theorem d_M_search_4 : decode b_M_search 4 = .ok (.ifCond .eq 15, 3) := by decide +kernel
theorem d_M_search_7 : decode b_M_search 7 = .ok (.iload_n 1, 1) := by decide +kernel
theorem d_M_search_8 : decode b_M_search 8 = .ok (.iconst 0, 1) := by decide +kernel
theorem d_M_search_9 : decode b_M_search 9 = .ok (.aload_n 0, 1) := by decide +kernel
theorem d_M_search_10 : decode b_M_search 10 = .ok (.getfield 99, 3) := by decide +kernel
theorem d_M_search_13 : decode b_M_search 13 = .ok (.invokestatic 39, 3) := by decide +kernel
theorem d_M_search_16 : decode b_M_search 16 = .ok (.ifCond .ne 7, 3) := by decide +kernel
theorem d_M_search_19 : decode b_M_search 19 = .ok (.iconst (-1), 1) := by decide +kernel
theorem d_M_search_20 : decode b_M_search 20 = .ok (.goto 8, 3) := by decide +kernel
theorem d_M_search_23 : decode b_M_search 23 = .ok (.aload_n 0, 1) := by decide +kernel
theorem d_M_search_24 : decode b_M_search 24 = .ok (.iload_n 1, 1) := by decide +kernel
theorem d_M_search_25 : decode b_M_search 25 = .ok (.invokevirtual 229, 3) := by decide +kernel
theorem d_M_search_28 : decode b_M_search 28 = .ok (.ireturn, 1) := by decide +kernel
theorem d_M_again_0 : decode b_M_again 0 = .ok (.aload_n 0, 1) := by decide +kernel
theorem d_M_again_1 : decode b_M_again 1 = .ok (.getfield 96, 3) := by decide +kernel
theorem d_M_again_4 : decode b_M_again 4 = .ok (.ifCond .eq 30, 3) := by decide +kernel
theorem d_M_again_7 : decode b_M_again 7 = .ok (.aload_n 0, 1) := by decide +kernel
theorem d_M_again_8 : decode b_M_again 8 = .ok (.getfield 223, 3) := by decide +kernel
theorem d_M_again_11 : decode b_M_again 11 = .ok (.aload_n 0, 1) := by decide +kernel
theorem d_M_again_12 : decode b_M_again 12 = .ok (.getfield 220, 3) := by decide +kernel
theorem d_M_again_15 : decode b_M_again 15 = .ok (.if_icmp .le 10, 3) := by decide +kernel
theorem d_M_again_18 : decode b_M_again 18 = .ok (.aload_n 0, 1) := by decide +kernel
theorem d_M_again_19 : decode b_M_again 19 = .ok (.getfield 223, 3) := by decide +kernel
theorem d_M_again_22 : decode b_M_again 22 = .ok (.goto 18, 3) := by decide +kernel
theorem d_M_again_25 : decode b_M_again 25 = .ok (.aload_n 0, 1) := by decide +kernel
theorem d_M_again_26 : decode b_M_again 26 = .ok (.getfield 223, 3) := by decide +kernel
theorem d_M_again_29 : decode b_M_again 29 = .ok (.iconst 1, 1) := by decide +kernel
theorem d_M_again_30 : decode b_M_again 30 = .ok (.iadd, 1) := by decide +kernel
theorem d_M_again_31 : decode b_M_again 31 = .ok (.goto 9, 3) := by decide +kernel
theorem d_M_again_34 : decode b_M_again 34 = .ok (.aload_n 0, 1) := by decide +kernel
theorem d_M_again_35 : decode b_M_again 35 = .ok (.getfield 99, 3) := by decide +kernel
theorem d_M_again_38 : decode b_M_again 38 = .ok (.iconst 1, 1) := by decide +kernel
theorem d_M_again_39 : decode b_M_again 39 = .ok (.iadd, 1) := by decide +kernel
theorem d_M_again_40 : decode b_M_again 40 = .ok (.istore_n 1, 1) := by decide +kernel
theorem d_M_again_41 : decode b_M_again 41 = .ok (.iload_n 1, 1) := by decide +kernel
theorem d_M_again_42 : decode b_M_again 42 = .ok (.aload_n 0, 1) := by decide +kernel
theorem d_M_again_43 : decode b_M_again 43 = .ok (.getfield 99, 3) := by decide +kernel
theorem d_M_again_46 : decode b_M_again 46 = .ok (.if_icmp .gt 9, 3) := by decide +kernel
theorem d_M_again_49 : decode b_M_again 49 = .ok (.aload_n 0, 1) := by decide +kernel
theorem d_M_again_50 : decode b_M_again 50 = .ok (.iload_n 1, 1) := by decide +kernel
theorem d_M_again_51 : decode b_M_again 51 = .ok (.invokevirtual 229, 3) := by decide +kernel
theorem d_M_again_54 : decode b_M_again 54 = .ok (.ireturn, 1) := by decide +kernel
theorem d_M_again_55 : decode b_M_again 55 = .ok (.aload_n 0, 1) := by decide +kernel
theorem d_M_again_56 : decode b_M_again 56 = .ok (.iconst 0, 1) := by decide +kernel
theorem d_M_again_57 : decode b_M_again 57 = .ok (.putfield 96, 3) := by decide +kernel
theorem d_M_again_60 : decode b_M_again 60 = .ok (.aload_n 0, 1) := by decide +kernel
theorem d_M_again_61 : decode b_M_again 61 = .ok (.iconst 0, 1) := by decide +kernel
theorem d_M_again_62 : decode b_M_again 62 = .ok (.putfield 173, 3) := by decide +kernel
theorem d_M_again_65 : decode b_M_again 65 = .ok (.bipush (-4), 2) := by decide +kernel
theorem d_M_again_67 : decode b_M_again 67 = .ok (.ireturn, 1) := by decide +kernel
theorem d_M_bound_0 : decode b_M_bound 0 = .ok (.aload_n 0, 1) := by decide +kernel
theorem d_M_bound_1 : decode b_M_bound 1 = .ok (.getfield 96, 3) := by decide +kernel
theorem d_M_bound_4 : decode b_M_bound 4 = .ok (.ifCond .eq 12, 3) := by decide +kernel
theorem d_M_bound_7 : decode b_M_bound 7 = .ok (.iload_n 1, 1) := by decide +kernel
theorem d_M_bound_8 : decode b_M_bound 8 = .ok (.iconst 0, 1) := by decide +kernel
theorem d_M_bound_9 : decode b_M_bound 9 = .ok (.iconst 4, 1) := by decide +kernel
theorem d_M_bound_10 : decode b_M_bound 10 = .ok (.invokestatic 39, 3) := by decide +kernel
theorem d_M_bound_13 : decode b_M_bound 13 = .ok (.ifCond .ne 6, 3) := by decide +kernel
theorem d_M_bound_16 : decode b_M_bound 16 = .ok (.bipush (-6), 2) := by decide +kernel
theorem d_M_bound_18 : decode b_M_bound 18 = .ok (.ireturn, 1) := by decide +kernel
theorem d_M_bound_19 : decode b_M_bound 19 = .ok (.iload_n 1, 1) := by decide +kernel
theorem d_M_bound_20 : decode b_M_bound 20 = .ok (.ifCond .ne 19, 3) := by decide +kernel
theorem d_M_bound_23 : decode b_M_bound 23 = .ok (.iload_n 2, 1) := by decide +kernel
theorem d_M_bound_24 : decode b_M_bound 24 = .ok (.ifCond .eq 10, 3) := by decide +kernel
theorem d_M_bound_27 : decode b_M_bound 27 = .ok (.aload_n 0, 1) := by decide +kernel
theorem d_M_bound_28 : decode b_M_bound 28 = .ok (.getfield 223, 3) := by decide +kernel
theorem d_M_bound_31 : decode b_M_bound 31 = .ok (.goto 7, 3) := by decide +kernel
theorem d_M_bound_34 : decode b_M_bound 34 = .ok (.aload_n 0, 1) := by decide +kernel
theorem d_M_bound_35 : decode b_M_bound 35 = .ok (.getfield 220, 3) := by decide +kernel
theorem d_M_bound_38 : decode b_M_bound 38 = .ok (.ireturn, 1) := by decide +kernel
theorem d_M_bound_39 : decode b_M_bound 39 = .ok (.aload_n 0, 1) := by decide +kernel
theorem d_M_bound_40 : decode b_M_bound 40 = .ok (.aload_n 0, 1) := by decide +kernel
theorem d_M_bound_41 : decode b_M_bound 41 = .ok (.getfield 226, 3) := by decide +kernel
theorem d_M_bound_44 : decode b_M_bound 44 = .ok (.iload_n 1, 1) := by decide +kernel
theorem d_M_bound_45 : decode b_M_bound 45 = .ok (.iload_n 2, 1) := by decide +kernel
theorem d_M_bound_46 : decode b_M_bound 46 = .ok (.invokevirtual 142, 3) := by decide +kernel
theorem d_M_bound_49 : decode b_M_bound 49 = .ok (.ireturn, 1) := by decide +kernel
theorem d_M_start_0 : decode b_M_start 0 = .ok (.aload_n 0, 1) := by decide +kernel
theorem d_M_start_1 : decode b_M_start 1 = .ok (.iload_n 1, 1) := by decide +kernel
theorem d_M_start_2 : decode b_M_start 2 = .ok (.iconst 0, 1) := by decide +kernel
theorem d_M_start_3 : decode b_M_start 3 = .ok (.invokevirtual 232, 3) := by decide +kernel
theorem d_M_start_6 : decode b_M_start 6 = .ok (.ireturn, 1) := by decide +kernel
theorem d_M_end_0 : decode b_M_end 0 = .ok (.aload_n 0, 1) := by decide +kernel
theorem d_M_end_1 : decode b_M_end 1 = .ok (.iload_n 1, 1) := by decide +kernel
theorem d_M_end_2 : decode b_M_end 2 = .ok (.iconst 1, 1) := by decide +kernel
theorem d_M_end_3 : decode b_M_end 3 = .ok (.invokevirtual 232, 3) := by decide +kernel
theorem d_M_end_6 : decode b_M_end 6 = .ok (.ireturn, 1) := by decide +kernel
theorem d_M_steps_0 : decode b_M_steps 0 = .ok (.aload_n 0, 1) := by decide +kernel
theorem d_M_steps_1 : decode b_M_steps 1 = .ok (.getfield 173, 3) := by decide +kernel
theorem d_M_steps_4 : decode b_M_steps 4 = .ok (.ireturn, 1) := by decide +kernel
theorem d_M_matches_0 : decode b_M_matches 0 = .ok (.aload_n 0, 1) := by decide +kernel
theorem d_M_matches_1 : decode b_M_matches 1 = .ok (.getfield 83, 3) := by decide +kernel
theorem d_M_matches_4 : decode b_M_matches 4 = .ok (.ifCond .ne 5, 3) := by decide +kernel
theorem d_M_matches_7 : decode b_M_matches 7 = .ok (.iconst (-1), 1) := by decide +kernel
theorem d_M_matches_8 : decode b_M_matches 8 = .ok (.ireturn, 1) := by decide +kernel
theorem d_M_matches_9 : decode b_M_matches 9 = .ok (.iconst 0, 1) := by decide +kernel
theorem d_M_matches_10 : decode b_M_matches 10 = .ok (.istore_n 1, 1) := by decide +kernel
theorem d_M_matches_11 : decode b_M_matches 11 = .ok (.iconst 0, 1) := by decide +kernel
theorem d_M_matches_12 : decode b_M_matches 12 = .ok (.istore_n 2, 1) := by decide +kernel
theorem d_M_matches_13 : decode b_M_matches 13 = .ok (.iload_n 2, 1) := by decide +kernel
theorem d_M_matches_14 : decode b_M_matches 14 = .ok (.aload_n 0, 1) := by decide +kernel
theorem d_M_matches_15 : decode b_M_matches 15 = .ok (.getfield 99, 3) := by decide +kernel
theorem d_M_matches_18 : decode b_M_matches 18 = .ok (.if_icmp .gt 57, 3) := by decide +kernel
theorem d_M_matches_21 : decode b_M_matches 21 = .ok (.aload_n 0, 1) := by decide +kernel
theorem d_M_matches_22 : decode b_M_matches 22 = .ok (.iload_n 2, 1) := by decide +kernel
theorem d_M_matches_23 : decode b_M_matches 23 = .ok (.invokevirtual 229, 3) := by decide +kernel
theorem d_M_matches_26 : decode b_M_matches 26 = .ok (.istore_n 3, 1) := by decide +kernel
theorem d_M_matches_27 : decode b_M_matches 27 = .ok (.iload_n 3, 1) := by decide +kernel
theorem d_M_matches_28 : decode b_M_matches 28 = .ok (.ifCond .ge 16, 3) := by decide +kernel
theorem d_M_matches_31 : decode b_M_matches 31 = .ok (.iload_n 3, 1) := by decide +kernel
theorem d_M_matches_32 : decode b_M_matches 32 = .ok (.bipush (-5), 2) := by decide +kernel
theorem d_M_matches_34 : decode b_M_matches 34 = .ok (.if_icmp .ne 8, 3) := by decide +kernel
theorem d_M_matches_37 : decode b_M_matches 37 = .ok (.bipush (-5), 2) := by decide +kernel
theorem d_M_matches_39 : decode b_M_matches 39 = .ok (.goto 4, 3) := by decide +kernel
theorem d_M_matches_42 : decode b_M_matches 42 = .ok (.iload_n 1, 1) := by decide +kernel
theorem d_M_matches_43 : decode b_M_matches 43 = .ok (.ireturn, 1) := by decide +kernel
theorem d_M_matches_44 : decode b_M_matches 44 = .ok (.iinc 1 1, 3) := by decide +kernel
theorem d_M_matches_47 : decode b_M_matches 47 = .ok (.aload_n 0, 1) := by decide +kernel
theorem d_M_matches_48 : decode b_M_matches 48 = .ok (.getfield 223, 3) := by decide +kernel
theorem d_M_matches_51 : decode b_M_matches 51 = .ok (.aload_n 0, 1) := by decide +kernel
theorem d_M_matches_52 : decode b_M_matches 52 = .ok (.getfield 220, 3) := by decide +kernel
theorem d_M_matches_55 : decode b_M_matches 55 = .ok (.if_icmp .le 10, 3) := by decide +kernel
theorem d_M_matches_58 : decode b_M_matches 58 = .ok (.aload_n 0, 1) := by decide +kernel
theorem d_M_matches_59 : decode b_M_matches 59 = .ok (.getfield 223, 3) := by decide +kernel
theorem d_M_matches_62 : decode b_M_matches 62 = .ok (.goto 9, 3) := by decide +kernel
theorem d_M_matches_65 : decode b_M_matches 65 = .ok (.aload_n 0, 1) := by decide +kernel
theorem d_M_matches_66 : decode b_M_matches 66 = .ok (.getfield 223, 3) := by decide +kernel
theorem d_M_matches_69 : decode b_M_matches 69 = .ok (.iconst 1, 1) := by decide +kernel
theorem d_M_matches_70 : decode b_M_matches 70 = .ok (.iadd, 1) := by decide +kernel
theorem d_M_matches_71 : decode b_M_matches 71 = .ok (.istore_n 2, 1) := by decide +kernel
theorem d_M_matches_72 : decode b_M_matches 72 = .ok (.goto (-59), 3) := by decide +kernel
theorem d_M_matches_75 : decode b_M_matches 75 = .ok (.aload_n 0, 1) := by decide +kernel
theorem d_M_matches_76 : decode b_M_matches 76 = .ok (.iconst 0, 1) := by decide +kernel
theorem d_M_matches_77 : decode b_M_matches 77 = .ok (.putfield 96, 3) := by decide +kernel
theorem d_M_matches_80 : decode b_M_matches 80 = .ok (.iload_n 1, 1) := by decide +kernel
theorem d_M_matches_81 : decode b_M_matches 81 = .ok (.ireturn, 1) := by decide +kernel
theorem d_M_count_0 : decode b_M_count 0 = .ok (.iload_n 1, 1) := by decide +kernel
theorem d_M_count_1 : decode b_M_count 1 = .ok (.iconst 0, 1) := by decide +kernel
theorem d_M_count_2 : decode b_M_count 2 = .ok (.iconst 1, 1) := by decide +kernel
theorem d_M_count_3 : decode b_M_count 3 = .ok (.invokestatic 39, 3) := by decide +kernel
theorem d_M_count_6 : decode b_M_count 6 = .ok (.ifCond .eq 19, 3) := by decide +kernel
theorem d_M_count_9 : decode b_M_count 9 = .ok (.iload_n 1, 1) := by decide +kernel
theorem d_M_count_10 : decode b_M_count 10 = .ok (.ifCond .ne 10, 3) := by decide +kernel
theorem d_M_count_13 : decode b_M_count 13 = .ok (.aload_n 0, 1) := by decide +kernel
theorem d_M_count_14 : decode b_M_count 14 = .ok (.getfield 50, 3) := by decide +kernel
theorem d_M_count_17 : decode b_M_count 17 = .ok (.goto 7, 3) := by decide +kernel
theorem d_M_count_20 : decode b_M_count 20 = .ok (.aload_n 0, 1) := by decide +kernel
theorem d_M_count_21 : decode b_M_count 21 = .ok (.getfield 99, 3) := by decide +kernel
theorem d_M_count_24 : decode b_M_count 24 = .ok (.ireturn, 1) := by decide +kernel
theorem d_M_count_25 : decode b_M_count 25 = .ok (.iload_n 1, 1) := by decide +kernel
theorem d_M_count_26 : decode b_M_count 26 = .ok (.iconst 2, 1) := by decide +kernel
theorem d_M_count_27 : decode b_M_count 27 = .ok (.iconst 3, 1) := by decide +kernel
theorem d_M_count_28 : decode b_M_count 28 = .ok (.invokestatic 39, 3) := by decide +kernel
theorem d_M_count_31 : decode b_M_count 31 = .ok (.ifCond .ne 5, 3) := by decide +kernel
theorem d_M_count_34 : decode b_M_count 34 = .ok (.iconst (-1), 1) := by decide +kernel
theorem d_M_count_35 : decode b_M_count 35 = .ok (.ireturn, 1) := by decide +kernel
theorem d_M_count_36 : decode b_M_count 36 = .ok (.aload_n 0, 1) := by decide +kernel
theorem d_M_count_37 : decode b_M_count 37 = .ok (.getfield 83, 3) := by decide +kernel
theorem d_M_count_40 : decode b_M_count 40 = .ok (.ifCond .ne 8, 3) := by decide +kernel
theorem d_M_count_43 : decode b_M_count 43 = .ok (.bipush (-4), 2) := by decide +kernel
theorem d_M_count_45 : decode b_M_count 45 = .ok (.goto 19, 3) := by decide +kernel
theorem d_M_count_48 : decode b_M_count 48 = .ok (.iload_n 1, 1) := by decide +kernel
theorem d_M_count_49 : decode b_M_count 49 = .ok (.iconst 2, 1) := by decide +kernel
theorem d_M_count_50 : decode b_M_count 50 = .ok (.if_icmp .ne 10, 3) := by decide +kernel
theorem d_M_count_53 : decode b_M_count 53 = .ok (.aload_n 0, 1) := by decide +kernel
theorem d_M_count_54 : decode b_M_count 54 = .ok (.getfield 90, 3) := by decide +kernel
theorem d_M_count_57 : decode b_M_count 57 = .ok (.goto 7, 3) := by decide +kernel
theorem d_M_count_60 : decode b_M_count 60 = .ok (.aload_n 0, 1) := by decide +kernel
theorem d_M_count_61 : decode b_M_count 61 = .ok (.getfield 93, 3) := by decide +kernel
theorem d_M_count_64 : decode b_M_count 64 = .ok (.ireturn, 1) := by decide +kernel
section MW
variable {p : Program} {l : Launch} {e : Env} {s : State} {m : MethodId} {args : Array Value} {below : List Frame} {meth : Method} {c : Code} {x : GX} {a : Nat → Nat} {A : Nat → Prop}
set_option maxHeartbeats 4000000 in
set_option maxRecDepth 20000 in
theorem wL_M_seek_12 (S : CallFix p m c b_M_seek 4 s args lw_tg R_Mod) (hr : meth.sig.returnType = some .int) (hlk : meth.locks = false) (hK : GK x s) (hA : ∀ q : Nat, s.heap.size ≤ q → A q) {Qc : Int32 → MS → Prop} : ∀ (n : Nat) (x2 : Int32) (u : MS) (ls : Array Slot) (H : Heap) (locs : List Loc), lv_has ls 4 [(0, .ref (a 0)), (2, .int x2)] → wd x A s.heap ((mcl x a) u) H locs → L_M_seek_12 Qc  n x2 u → W p l e (rmN 6 0 0) s m args below meth c H locs 0 0 (MQ below (QcI x (mcl x a) A Qc) args s 0 0 A) (F0 m 12 ls []) := by
  intro n
  induction n with
  | zero =>
    intro x2 u ls H locs hl hw h
    exact absurd h id
  | succ n ih =>
    intro x2 u ls H locs hl hw h
    refine lv_iload_n S.1 S.2.1 d_M_seek_12 rfl (lv_at hl 1 rfl) ?_
    refine lv_aload_n S.1 S.2.1 d_M_seek_13 rfl (lv_at hl 0 rfl) ?_
    refine mg_letters S hK hw d_M_seek_14 ?_
    refine lv_icmp_gt (tgt := 73) S.1 S.2.1 d_M_seek_17 (by decide) (fun q_17 => ?_) (fun q_17 => ?_)
    · have h := h.1 q_17
      refine lv_bipush (v := -4) S.1 S.2.1 d_M_seek_73 (by decide) ?_
      exact w_iret S hr hlk hK hw h d_M_seek_75
    · have h := h.2 q_17
      refine lv_aload_n S.1 S.2.1 d_M_seek_20 rfl (lv_at hl 0 rfl) ?_
      refine lv_iload_n S.1 S.2.1 d_M_seek_21 rfl (lv_at hl 1 rfl) ?_
      refine w_ci hA hw (w_rv (rest := []) S hK hw (c_M_walk l x2 u _ _ h) (ci := 0) (q0 := 0) rfl rfl (w_cb (fr := 0) (lv := 0) S.2.2.2.2 k_1023 k_1020 k_8 yd_M_walk rfl rfl ⟨Nat.le_of_ble_eq_true rfl, Nat.le_of_ble_eq_true rfl⟩) k_1022 s_44 rfl hl.1 rfl (Nat.le_of_ble_eq_true rfl) d_M_seek_22 ⟨Nat.le_refl _, Nat.le_refl _⟩) (fun r_22 u_22 H locs h hw => ?_)
      refine lv_istore_n (lv' := [(3, .int r_22), (0, .ref (a 0)), (2, .int x2)]) S.1 S.2.1 d_M_seek_25 rfl hl (by decide) rfl (fun ls hl => ?_)
      refine lv_iload_n S.1 S.2.1 d_M_seek_26 rfl (lv_at hl 0 rfl) ?_
      refine lv_iconst (v := 2) S.1 S.2.1 d_M_seek_27 (by decide) ?_
      refine lv_icmp_ne (tgt := 34) S.1 S.2.1 d_M_seek_28 (by decide) (fun q_28 => ?_) (fun q_28 => ?_)
      · have h := h.2 q_28
        refine lv_iload_n S.1 S.2.1 d_M_seek_34 rfl (lv_at hl 0 rfl) ?_
        refine lv_iconst (v := 1) S.1 S.2.1 d_M_seek_35 (by decide) ?_
        refine lv_icmp_ne (tgt := 67) S.1 S.2.1 d_M_seek_36 (by decide) (fun q_36 => ?_) (fun q_36 => ?_)
        · have h := h.2 q_36
          obtain ⟨x2_67, ex2_67⟩ : ∃ y : Int32, y = x2 + 1 := ⟨_, rfl⟩
          have h := h x2_67 ex2_67
          refine lv_iinc (v := x2_67) (lv' := [(2, .int x2_67), (3, .int r_22), (0, .ref (a 0))]) S.1 S.2.1 d_M_seek_67 hl (k := 2) rfl (by rw [ex2_67]; rfl) (by decide) rfl (fun ls hl => ?_)
          refine lv_goto (tgt := 12) S.1 S.2.1 d_M_seek_70 (by decide) ?_
          exact ih x2_67 u_22 _ _ _ (lv_sub hl [2, 0] rfl) hw h
        · have h := h.1 q_36
          refine lv_aload_n S.1 S.2.1 d_M_seek_39 rfl (lv_at hl 1 rfl) ?_
          refine lv_iconst (v := 1) S.1 S.2.1 d_M_seek_40 (by decide) ?_
          refine mp_matched S hK hw isB1 d_M_seek_41 (fun H locs hw => ?_)
          refine lv_aload_n S.1 S.2.1 d_M_seek_44 rfl (lv_at hl 1 rfl) ?_
          refine lv_iload_n S.1 S.2.1 d_M_seek_45 rfl (lv_at hl 2 rfl) ?_
          refine mp_first S hK hw d_M_seek_46 (fun H locs hw => ?_)
          refine lv_aload_n S.1 S.2.1 d_M_seek_49 rfl (lv_at hl 1 rfl) ?_
          refine lv_aload_n S.1 S.2.1 d_M_seek_50 rfl (lv_at hl 1 rfl) ?_
          refine mg_p S hK hw d_M_seek_51 ?_
          refine mp_last S hK hw d_M_seek_54 (fun H locs hw => ?_)
          refine lv_aload_n S.1 S.2.1 d_M_seek_57 rfl (lv_at hl 1 rfl) ?_
          refine lv_aload_n S.1 S.2.1 d_M_seek_58 rfl (lv_at hl 1 rfl) ?_
          refine mg_caps S hK hw d_M_seek_59 ?_
          refine mp_found S hK hw d_M_seek_62 (fun H locs hw => ?_)
          refine lv_iload_n S.1 S.2.1 d_M_seek_65 rfl (lv_at hl 2 rfl) ?_
          exact w_iret S hr hlk hK hw h d_M_seek_66
      · have h := h.1 q_28
        refine lv_bipush (v := -5) S.1 S.2.1 d_M_seek_31 (by decide) ?_
        exact w_iret S hr hlk hK hw h d_M_seek_33
set_option maxHeartbeats 4000000 in
set_option maxRecDepth 20000 in
theorem c_M_seek {x : GX} {a : Nat → Nat} (l : Launch) (x1 : Int32) (u : MS) (sz : Nat) (Qc : Int32 → MS → Prop) (h : P_M_seek x1 u Qc) : Met l y_M_seek (wM y_M_seek b_M_seek 4 (some .int)) (rmN 6 0 0) (PreC x (mcl x a) [.ref (a 0), .int x1] u sz) (QcI x (mcl x a) (va_A ((mcl x a) u) sz) Qc) 0 0 (va_A ((mcl x a) u) sz) := by
  refine w_enter (by decide +kernel) (Nat.le_of_ble_eq_true rfl) (fun p e s m args below meth c S hr hlk _ hK hA hw ls hl => ?_)
  have hl : lv_has ls 4 [(0, .ref (a 0)), (1, .int x1)] := hl
  refine lv_aload_n S.1 S.2.1 d_M_seek_0 rfl (lv_at hl 0 rfl) ?_
  refine lv_iconst (v := 0) S.1 S.2.1 d_M_seek_1 (by decide) ?_
  refine mp_steps S hK hw d_M_seek_2 (fun H locs hw => ?_)
  refine lv_aload_n S.1 S.2.1 d_M_seek_5 rfl (lv_at hl 0 rfl) ?_
  refine lv_iconst (v := 0) S.1 S.2.1 d_M_seek_6 (by decide) ?_
  refine mp_matched S hK hw isB0 d_M_seek_7 (fun H locs hw => ?_)
  refine lv_iload_n S.1 S.2.1 d_M_seek_10 rfl (lv_at hl 1 rfl) ?_
  refine lv_istore_n (lv' := [(2, .int x1), (0, .ref (a 0)), (1, .int x1)]) S.1 S.2.1 d_M_seek_11 rfl hl (by decide) rfl (fun ls hl => ?_)
  obtain ⟨n9, h⟩ := h
  exact wL_M_seek_12 S hr hlk hK hA  n9 x1 (ms_matched (ms_steps u (0 : Int32)) (0 : Int32)) _ _ _ (lv_sub hl [1, 0] rfl) hw h
set_option maxHeartbeats 4000000 in
set_option maxRecDepth 20000 in
theorem wB_M_search_19 (S : CallFix p m c b_M_search 2 s args lw_tg R_Mod) (hr : meth.sig.returnType = some .int) (hlk : meth.locks = false) (hK : GK x s) (hA : ∀ q : Nat, s.heap.size ≤ q → A q) {Qc : Int32 → MS → Prop} : ∀  (u : MS) (ls : Array Slot) (H : Heap) (locs : List Loc), lv_has ls 2 [] → wd x A s.heap ((mcl x a) u) H locs → B_M_search_19 Qc   u → W p l e (rmN 7 0 0) s m args below meth c H locs 0 0 (MQ below (QcI x (mcl x a) A Qc) args s 0 0 A) (F0 m 19 ls []) := by
  intro  u ls H locs hl hw h
  refine lv_iconst (v := -1) S.1 S.2.1 d_M_search_19 (by decide) ?_
  refine lv_goto (tgt := 28) S.1 S.2.1 d_M_search_20 (by decide) ?_
  exact w_iret S hr hlk hK hw h d_M_search_28
set_option maxHeartbeats 4000000 in
set_option maxRecDepth 20000 in
theorem c_M_search {x : GX} {a : Nat → Nat} (l : Launch) (x1 : Int32) (u : MS) (sz : Nat) (Qc : Int32 → MS → Prop) (h : P_M_search x1 u Qc) : Met l y_M_search (wM y_M_search b_M_search 2 (some .int)) (rmN 7 0 0) (PreC x (mcl x a) [.ref (a 0), .int x1] u sz) (QcI x (mcl x a) (va_A ((mcl x a) u) sz) Qc) 0 0 (va_A ((mcl x a) u) sz) := by
  refine w_enter (by decide +kernel) (Nat.le_of_ble_eq_true rfl) (fun p e s m args below meth c S hr hlk _ hK hA hw ls hl => ?_)
  have hl : lv_has ls 2 [(0, .ref (a 0)), (1, .int x1)] := hl
  refine lv_aload_n S.1 S.2.1 d_M_search_0 rfl (lv_at hl 0 rfl) ?_
  refine mg_ready S hK hw d_M_search_1 ?_
  refine lv_if_eq (tgt := 19) S.1 S.2.1 d_M_search_4 (by decide) (fun q_4 => ?_) (fun q_4 => ?_)
  · have h := h.1 q_4
    exact wB_M_search_19 S hr hlk hK hA   u _ _ _ (lv_sub hl [] rfl) hw h
  · have h := h.2 q_4
    refine lv_iload_n S.1 S.2.1 d_M_search_7 rfl (lv_at hl 1 rfl) ?_
    refine lv_iconst (v := 0) S.1 S.2.1 d_M_search_8 (by decide) ?_
    refine lv_aload_n S.1 S.2.1 d_M_search_9 rfl (lv_at hl 0 rfl) ?_
    refine mg_letters S hK hw d_M_search_10 ?_
    refine w_cn (w_rs (rest := []) S (c_M_in l x1 (0 : Int32) (m_letters u) _ h) (w_cb (fr := 0) (lv := 0) S.2.2.2.2 k_960 k_958 k_8 yd_M_in rfl rfl ⟨Nat.le_of_ble_eq_true rfl, Nat.le_of_ble_eq_true rfl⟩) k_959 rfl hl.1 rfl (Nat.le_of_ble_eq_true rfl) d_M_search_13 ⟨Nat.le_refl _, Nat.le_refl _⟩) (fun r_13 h => ?_)
    refine lv_if_ne (tgt := 23) S.1 S.2.1 d_M_search_16 (by decide) (fun q_16 => ?_) (fun q_16 => ?_)
    · have h := h.2 q_16
      refine lv_aload_n S.1 S.2.1 d_M_search_23 rfl (lv_at hl 0 rfl) ?_
      refine lv_iload_n S.1 S.2.1 d_M_search_24 rfl (lv_at hl 1 rfl) ?_
      refine w_ci hA hw (w_rv (rest := []) S hK hw (c_M_seek l x1 u _ _ h) (ci := 0) (q0 := 0) rfl rfl (w_cb (fr := 0) (lv := 0) S.2.2.2.2 k_1019 k_1016 k_8 yd_M_seek rfl rfl ⟨Nat.le_of_ble_eq_true rfl, Nat.le_of_ble_eq_true rfl⟩) k_1018 s_43 rfl hl.1 rfl (Nat.le_of_ble_eq_true rfl) d_M_search_25 ⟨Nat.le_refl _, Nat.le_refl _⟩) (fun r_25 u_25 H locs h hw => ?_)
      exact w_iret S hr hlk hK hw h d_M_search_28
    · have h := h.1 q_16
      exact wB_M_search_19 S hr hlk hK hA   u _ _ _ (lv_sub hl [] rfl) hw h
set_option maxHeartbeats 4000000 in
set_option maxRecDepth 20000 in
theorem wB_M_again_40 (S : CallFix p m c b_M_again 2 s args lw_tg R_Mod) (hr : meth.sig.returnType = some .int) (hlk : meth.locks = false) (hK : GK x s) (hA : ∀ q : Nat, s.heap.size ≤ q → A q) {Qc : Int32 → MS → Prop} : ∀ (t0 : Int32) (u : MS) (ls : Array Slot) (H : Heap) (locs : List Loc), lv_has ls 2 [(0, .ref (a 0))] → wd x A s.heap ((mcl x a) u) H locs → B_M_again_40 Qc  t0 u → W p l e (rmN 7 0 0) s m args below meth c H locs 0 0 (MQ below (QcI x (mcl x a) A Qc) args s 0 0 A) (F0 m 40 ls [.int t0]) := by
  intro t0 u ls H locs hl hw h
  refine lv_istore_n (lv' := [(1, .int t0), (0, .ref (a 0))]) S.1 S.2.1 d_M_again_40 rfl hl (by decide) rfl (fun ls hl => ?_)
  refine lv_iload_n S.1 S.2.1 d_M_again_41 rfl (lv_at hl 0 rfl) ?_
  refine lv_aload_n S.1 S.2.1 d_M_again_42 rfl (lv_at hl 1 rfl) ?_
  refine mg_letters S hK hw d_M_again_43 ?_
  refine lv_icmp_gt (tgt := 55) S.1 S.2.1 d_M_again_46 (by decide) (fun q_46 => ?_) (fun q_46 => ?_)
  · have h := h.1 q_46
    refine lv_aload_n S.1 S.2.1 d_M_again_55 rfl (lv_at hl 1 rfl) ?_
    refine lv_iconst (v := 0) S.1 S.2.1 d_M_again_56 (by decide) ?_
    refine mp_matched S hK hw isB0 d_M_again_57 (fun H locs hw => ?_)
    refine lv_aload_n S.1 S.2.1 d_M_again_60 rfl (lv_at hl 1 rfl) ?_
    refine lv_iconst (v := 0) S.1 S.2.1 d_M_again_61 (by decide) ?_
    refine mp_steps S hK hw d_M_again_62 (fun H locs hw => ?_)
    refine lv_bipush (v := -4) S.1 S.2.1 d_M_again_65 (by decide) ?_
    exact w_iret S hr hlk hK hw h d_M_again_67
  · have h := h.2 q_46
    refine lv_aload_n S.1 S.2.1 d_M_again_49 rfl (lv_at hl 1 rfl) ?_
    refine lv_iload_n S.1 S.2.1 d_M_again_50 rfl (lv_at hl 0 rfl) ?_
    refine w_ci hA hw (w_rv (rest := []) S hK hw (c_M_seek l t0 u _ _ h) (ci := 0) (q0 := 0) rfl rfl (w_cb (fr := 0) (lv := 0) S.2.2.2.2 k_1019 k_1016 k_8 yd_M_seek rfl rfl ⟨Nat.le_of_ble_eq_true rfl, Nat.le_of_ble_eq_true rfl⟩) k_1018 s_43 rfl hl.1 rfl (Nat.le_of_ble_eq_true rfl) d_M_again_51 ⟨Nat.le_refl _, Nat.le_refl _⟩) (fun r_51 u_51 H locs h hw => ?_)
    exact w_iret S hr hlk hK hw h d_M_again_54
set_option maxHeartbeats 4000000 in
set_option maxRecDepth 20000 in
theorem c_M_again {x : GX} {a : Nat → Nat} (l : Launch)  (u : MS) (sz : Nat) (Qc : Int32 → MS → Prop) (h : P_M_again  u Qc) : Met l y_M_again (wM y_M_again b_M_again 2 (some .int)) (rmN 7 0 0) (PreC x (mcl x a) [.ref (a 0)] u sz) (QcI x (mcl x a) (va_A ((mcl x a) u) sz) Qc) 0 0 (va_A ((mcl x a) u) sz) := by
  refine w_enter (by decide +kernel) (Nat.le_of_ble_eq_true rfl) (fun p e s m args below meth c S hr hlk _ hK hA hw ls hl => ?_)
  have hl : lv_has ls 2 [(0, .ref (a 0))] := hl
  refine lv_aload_n S.1 S.2.1 d_M_again_0 rfl (lv_at hl 0 rfl) ?_
  refine mg_matched S hK hw d_M_again_1 ?_
  refine lv_if_eq (tgt := 34) S.1 S.2.1 d_M_again_4 (by decide) (fun q_4 => ?_) (fun q_4 => ?_)
  · have h := h.1 q_4
    refine lv_aload_n S.1 S.2.1 d_M_again_34 rfl (lv_at hl 0 rfl) ?_
    refine mg_letters S hK hw d_M_again_35 ?_
    refine lv_iconst (v := 1) S.1 S.2.1 d_M_again_38 (by decide) ?_
    refine lv_iadd S.1 S.2.1 d_M_again_39 ?_
    exact wB_M_again_40 S hr hlk hK hA  ((m_letters u) + (1 : Int32)) u _ _ _ (lv_sub hl [0] rfl) hw h
  · have h := h.2 q_4
    refine lv_aload_n S.1 S.2.1 d_M_again_7 rfl (lv_at hl 0 rfl) ?_
    refine mg_last S hK hw d_M_again_8 ?_
    refine lv_aload_n S.1 S.2.1 d_M_again_11 rfl (lv_at hl 0 rfl) ?_
    refine mg_first S hK hw d_M_again_12 ?_
    refine lv_icmp_le (tgt := 25) S.1 S.2.1 d_M_again_15 (by decide) (fun q_15 => ?_) (fun q_15 => ?_)
    · have h := h.1 q_15
      refine lv_aload_n S.1 S.2.1 d_M_again_25 rfl (lv_at hl 0 rfl) ?_
      refine mg_last S hK hw d_M_again_26 ?_
      refine lv_iconst (v := 1) S.1 S.2.1 d_M_again_29 (by decide) ?_
      refine lv_iadd S.1 S.2.1 d_M_again_30 ?_
      refine lv_goto (tgt := 40) S.1 S.2.1 d_M_again_31 (by decide) ?_
      exact wB_M_again_40 S hr hlk hK hA  ((m_last u) + (1 : Int32)) u _ _ _ (lv_sub hl [0] rfl) hw h
    · have h := h.2 q_15
      refine lv_aload_n S.1 S.2.1 d_M_again_18 rfl (lv_at hl 0 rfl) ?_
      refine mg_last S hK hw d_M_again_19 ?_
      refine lv_goto (tgt := 40) S.1 S.2.1 d_M_again_22 (by decide) ?_
      exact wB_M_again_40 S hr hlk hK hA  (m_last u) u _ _ _ (lv_sub hl [0] rfl) hw h
set_option maxHeartbeats 4000000 in
set_option maxRecDepth 20000 in
theorem c_M_bound {x : GX} {a : Nat → Nat} (l : Launch) (x1 : Int32) (x2 : Int32) (u : MS) (sz : Nat) (Qc : Int32 → MS → Prop) (h : P_M_bound x1 x2 u Qc) : Met l y_M_bound (wM y_M_bound b_M_bound 3 (some .int)) (rmN 1 0 0) (PreC x (mcl x a) [.ref (a 0), .int x1, .int x2] u sz) (QcI x (mcl x a) (va_A ((mcl x a) u) sz) Qc) 0 0 (va_A ((mcl x a) u) sz) := by
  refine w_enter (by decide +kernel) (Nat.le_of_ble_eq_true rfl) (fun p e s m args below meth c S hr hlk _ hK hA hw ls hl => ?_)
  have hl : lv_has ls 3 [(0, .ref (a 0)), (1, .int x1), (2, .int x2)] := hl
  refine lv_aload_n S.1 S.2.1 d_M_bound_0 rfl (lv_at hl 0 rfl) ?_
  refine mg_matched S hK hw d_M_bound_1 ?_
  refine lv_if_eq (tgt := 16) S.1 S.2.1 d_M_bound_4 (by decide) (fun q_4 => ?_) (fun q_4 => ?_)
  · have h := h.1 q_4
    refine lv_bipush (v := -6) S.1 S.2.1 d_M_bound_16 (by decide) ?_
    exact w_iret S hr hlk hK hw h d_M_bound_18
  · have h := h.2 q_4
    refine lv_iload_n S.1 S.2.1 d_M_bound_7 rfl (lv_at hl 1 rfl) ?_
    refine lv_iconst (v := 0) S.1 S.2.1 d_M_bound_8 (by decide) ?_
    refine lv_iconst (v := 4) S.1 S.2.1 d_M_bound_9 (by decide) ?_
    refine w_cn (w_rs (rest := []) S (c_M_in l x1 (0 : Int32) (4 : Int32) _ h) (w_cb (fr := 0) (lv := 0) S.2.2.2.2 k_960 k_958 k_8 yd_M_in rfl rfl ⟨Nat.le_of_ble_eq_true rfl, Nat.le_of_ble_eq_true rfl⟩) k_959 rfl hl.1 rfl (Nat.le_of_ble_eq_true rfl) d_M_bound_10 ⟨Nat.le_refl _, Nat.le_refl _⟩) (fun r_10 h => ?_)
    refine lv_if_ne (tgt := 19) S.1 S.2.1 d_M_bound_13 (by decide) (fun q_13 => ?_) (fun q_13 => ?_)
    · have h := h.2 q_13
      refine lv_iload_n S.1 S.2.1 d_M_bound_19 rfl (lv_at hl 1 rfl) ?_
      refine lv_if_ne (tgt := 39) S.1 S.2.1 d_M_bound_20 (by decide) (fun q_20 => ?_) (fun q_20 => ?_)
      · have h := h.2 q_20
        refine lv_aload_n S.1 S.2.1 d_M_bound_39 rfl (lv_at hl 0 rfl) ?_
        refine lv_aload_n S.1 S.2.1 d_M_bound_40 rfl (lv_at hl 0 rfl) ?_
        refine mg_found S hK hw d_M_bound_41 ?_
        refine lv_iload_n S.1 S.2.1 d_M_bound_44 rfl (lv_at hl 1 rfl) ?_
        refine lv_iload_n S.1 S.2.1 d_M_bound_45 rfl (lv_at hl 2 rfl) ?_
        refine w_ci hA hw (w_rv (rest := []) S hK hw (c_M_capture l (m_found u) x1 x2 u _ _ h) (ci := 0) (q0 := 0) rfl rfl (w_cb (fr := 0) (lv := 0) S.2.2.2.2 k_1104 k_1101 k_8 yd_M_capture rfl rfl ⟨Nat.le_of_ble_eq_true rfl, Nat.le_of_ble_eq_true rfl⟩) k_1103 s_64 rfl hl.1 rfl (Nat.le_of_ble_eq_true rfl) d_M_bound_46 ⟨Nat.le_refl _, Nat.le_refl _⟩) (fun r_46 u_46 H locs h hw => ?_)
        exact w_iret S hr hlk hK hw h d_M_bound_49
      · have h := h.1 q_20
        refine lv_iload_n S.1 S.2.1 d_M_bound_23 rfl (lv_at hl 2 rfl) ?_
        refine lv_if_eq (tgt := 34) S.1 S.2.1 d_M_bound_24 (by decide) (fun q_24 => ?_) (fun q_24 => ?_)
        · have h := h.1 q_24
          refine lv_aload_n S.1 S.2.1 d_M_bound_34 rfl (lv_at hl 0 rfl) ?_
          refine mg_first S hK hw d_M_bound_35 ?_
          exact w_iret S hr hlk hK hw h d_M_bound_38
        · have h := h.2 q_24
          refine lv_aload_n S.1 S.2.1 d_M_bound_27 rfl (lv_at hl 0 rfl) ?_
          refine mg_last S hK hw d_M_bound_28 ?_
          refine lv_goto (tgt := 38) S.1 S.2.1 d_M_bound_31 (by decide) ?_
          exact w_iret S hr hlk hK hw h d_M_bound_38
    · have h := h.1 q_13
      refine lv_bipush (v := -6) S.1 S.2.1 d_M_bound_16 (by decide) ?_
      exact w_iret S hr hlk hK hw h d_M_bound_18
set_option maxHeartbeats 4000000 in
set_option maxRecDepth 20000 in
theorem c_M_start {x : GX} {a : Nat → Nat} (l : Launch) (x1 : Int32) (u : MS) (sz : Nat) (Qc : Int32 → MS → Prop) (h : P_M_start x1 u Qc) : Met l y_M_start (wM y_M_start b_M_start 2 (some .int)) (rmN 2 0 0) (PreC x (mcl x a) [.ref (a 0), .int x1] u sz) (QcI x (mcl x a) (va_A ((mcl x a) u) sz) Qc) 0 0 (va_A ((mcl x a) u) sz) := by
  refine w_enter (by decide +kernel) (Nat.le_of_ble_eq_true rfl) (fun p e s m args below meth c S hr hlk _ hK hA hw ls hl => ?_)
  have hl : lv_has ls 2 [(0, .ref (a 0)), (1, .int x1)] := hl
  refine lv_aload_n S.1 S.2.1 d_M_start_0 rfl (lv_at hl 0 rfl) ?_
  refine lv_iload_n S.1 S.2.1 d_M_start_1 rfl (lv_at hl 1 rfl) ?_
  refine lv_iconst (v := 0) S.1 S.2.1 d_M_start_2 (by decide) ?_
  refine w_ci hA hw (w_rv (rest := []) S hK hw (c_M_bound l x1 (0 : Int32) u _ _ h) (ci := 0) (q0 := 0) rfl rfl (w_cb (fr := 0) (lv := 0) S.2.2.2.2 k_1142 k_1139 k_8 yd_M_bound rfl rfl ⟨Nat.le_of_ble_eq_true rfl, Nat.le_of_ble_eq_true rfl⟩) k_1141 s_71 rfl hl.1 rfl (Nat.le_of_ble_eq_true rfl) d_M_start_3 ⟨Nat.le_refl _, Nat.le_refl _⟩) (fun r_3 u_3 H locs h hw => ?_)
  exact w_iret S hr hlk hK hw h d_M_start_6
set_option maxHeartbeats 4000000 in
set_option maxRecDepth 20000 in
theorem c_M_end {x : GX} {a : Nat → Nat} (l : Launch) (x1 : Int32) (u : MS) (sz : Nat) (Qc : Int32 → MS → Prop) (h : P_M_end x1 u Qc) : Met l y_M_end (wM y_M_end b_M_end 2 (some .int)) (rmN 2 0 0) (PreC x (mcl x a) [.ref (a 0), .int x1] u sz) (QcI x (mcl x a) (va_A ((mcl x a) u) sz) Qc) 0 0 (va_A ((mcl x a) u) sz) := by
  refine w_enter (by decide +kernel) (Nat.le_of_ble_eq_true rfl) (fun p e s m args below meth c S hr hlk _ hK hA hw ls hl => ?_)
  have hl : lv_has ls 2 [(0, .ref (a 0)), (1, .int x1)] := hl
  refine lv_aload_n S.1 S.2.1 d_M_end_0 rfl (lv_at hl 0 rfl) ?_
  refine lv_iload_n S.1 S.2.1 d_M_end_1 rfl (lv_at hl 1 rfl) ?_
  refine lv_iconst (v := 1) S.1 S.2.1 d_M_end_2 (by decide) ?_
  refine w_ci hA hw (w_rv (rest := []) S hK hw (c_M_bound l x1 (1 : Int32) u _ _ h) (ci := 0) (q0 := 0) rfl rfl (w_cb (fr := 0) (lv := 0) S.2.2.2.2 k_1142 k_1139 k_8 yd_M_bound rfl rfl ⟨Nat.le_of_ble_eq_true rfl, Nat.le_of_ble_eq_true rfl⟩) k_1141 s_71 rfl hl.1 rfl (Nat.le_of_ble_eq_true rfl) d_M_end_3 ⟨Nat.le_refl _, Nat.le_refl _⟩) (fun r_3 u_3 H locs h hw => ?_)
  exact w_iret S hr hlk hK hw h d_M_end_6
set_option maxHeartbeats 4000000 in
set_option maxRecDepth 20000 in
theorem c_M_steps {x : GX} {a : Nat → Nat} (l : Launch)  (u : MS) (sz : Nat) (Qc : Int32 → MS → Prop) (h : P_M_steps  u Qc) : Met l y_M_steps (wM y_M_steps b_M_steps 1 (some .int)) (rmN 0 0 0) (PreC x (mcl x a) [.ref (a 0)] u sz) (QcI x (mcl x a) (va_A ((mcl x a) u) sz) Qc) 0 0 (va_A ((mcl x a) u) sz) := by
  refine w_enter (by decide +kernel) (Nat.le_of_ble_eq_true rfl) (fun p e s m args below meth c S hr hlk _ hK hA hw ls hl => ?_)
  have hl : lv_has ls 1 [(0, .ref (a 0))] := hl
  refine lv_aload_n S.1 S.2.1 d_M_steps_0 rfl (lv_at hl 0 rfl) ?_
  refine mg_steps S hK hw d_M_steps_1 ?_
  exact w_iret S hr hlk hK hw h d_M_steps_4
set_option maxHeartbeats 4000000 in
set_option maxRecDepth 20000 in
theorem wB_M_matches_71 (S : CallFix p m c b_M_matches 4 s args lw_tg R_Mod) (hr : meth.sig.returnType = some .int) (hlk : meth.locks = false) (hK : GK x s) (hA : ∀ q : Nat, s.heap.size ≤ q → A q) {Qc : Int32 → MS → Prop} {K13 : Int32 → Int32 → MS → Prop} (ih13 : ∀ (x1 : Int32) (x2 : Int32) (u : MS) (ls : Array Slot) (H : Heap) (locs : List Loc), lv_has ls 4 [(0, .ref (a 0)), (1, .int x1), (2, .int x2)] → wd x A s.heap ((mcl x a) u) H locs → K13 x1 x2 u → W p l e (rmN 7 0 0) s m args below meth c H locs 0 0 (MQ below (QcI x (mcl x a) A Qc) args s 0 0 A) (F0 m 13 ls [])) : ∀ (x1 : Int32) (t0 : Int32) (u : MS) (ls : Array Slot) (H : Heap) (locs : List Loc), lv_has ls 4 [(0, .ref (a 0)), (1, .int x1)] → wd x A s.heap ((mcl x a) u) H locs → B_M_matches_71 Qc K13 x1 t0 u → W p l e (rmN 7 0 0) s m args below meth c H locs 0 0 (MQ below (QcI x (mcl x a) A Qc) args s 0 0 A) (F0 m 71 ls [.int t0]) := by
  intro x1 t0 u ls H locs hl hw h
  refine lv_istore_n (lv' := [(2, .int t0), (0, .ref (a 0)), (1, .int x1)]) S.1 S.2.1 d_M_matches_71 rfl hl (by decide) rfl (fun ls hl => ?_)
  refine lv_goto (tgt := 13) S.1 S.2.1 d_M_matches_72 (by decide) ?_
  exact ih13 x1 t0 u _ _ _ (lv_sub hl [1, 2, 0] rfl) hw h
set_option maxHeartbeats 4000000 in
set_option maxRecDepth 20000 in
theorem wL_M_matches_13 (S : CallFix p m c b_M_matches 4 s args lw_tg R_Mod) (hr : meth.sig.returnType = some .int) (hlk : meth.locks = false) (hK : GK x s) (hA : ∀ q : Nat, s.heap.size ≤ q → A q) {Qc : Int32 → MS → Prop} : ∀ (n : Nat) (x1 : Int32) (x2 : Int32) (u : MS) (ls : Array Slot) (H : Heap) (locs : List Loc), lv_has ls 4 [(0, .ref (a 0)), (1, .int x1), (2, .int x2)] → wd x A s.heap ((mcl x a) u) H locs → L_M_matches_13 Qc  n x1 x2 u → W p l e (rmN 7 0 0) s m args below meth c H locs 0 0 (MQ below (QcI x (mcl x a) A Qc) args s 0 0 A) (F0 m 13 ls []) := by
  intro n
  induction n with
  | zero =>
    intro x1 x2 u ls H locs hl hw h
    exact absurd h id
  | succ n ih =>
    intro x1 x2 u ls H locs hl hw h
    refine lv_iload_n S.1 S.2.1 d_M_matches_13 rfl (lv_at hl 2 rfl) ?_
    refine lv_aload_n S.1 S.2.1 d_M_matches_14 rfl (lv_at hl 0 rfl) ?_
    refine mg_letters S hK hw d_M_matches_15 ?_
    refine lv_icmp_gt (tgt := 75) S.1 S.2.1 d_M_matches_18 (by decide) (fun q_18 => ?_) (fun q_18 => ?_)
    · have h := h.1 q_18
      refine lv_aload_n S.1 S.2.1 d_M_matches_75 rfl (lv_at hl 0 rfl) ?_
      refine lv_iconst (v := 0) S.1 S.2.1 d_M_matches_76 (by decide) ?_
      refine mp_matched S hK hw isB0 d_M_matches_77 (fun H locs hw => ?_)
      refine lv_iload_n S.1 S.2.1 d_M_matches_80 rfl (lv_at hl 1 rfl) ?_
      exact w_iret S hr hlk hK hw h d_M_matches_81
    · have h := h.2 q_18
      refine lv_aload_n S.1 S.2.1 d_M_matches_21 rfl (lv_at hl 0 rfl) ?_
      refine lv_iload_n S.1 S.2.1 d_M_matches_22 rfl (lv_at hl 2 rfl) ?_
      refine w_ci hA hw (w_rv (rest := []) S hK hw (c_M_seek l x2 u _ _ h) (ci := 0) (q0 := 0) rfl rfl (w_cb (fr := 0) (lv := 0) S.2.2.2.2 k_1019 k_1016 k_8 yd_M_seek rfl rfl ⟨Nat.le_of_ble_eq_true rfl, Nat.le_of_ble_eq_true rfl⟩) k_1018 s_43 rfl hl.1 rfl (Nat.le_of_ble_eq_true rfl) d_M_matches_23 ⟨Nat.le_refl _, Nat.le_refl _⟩) (fun r_23 u_23 H locs h hw => ?_)
      refine lv_istore_n (lv' := [(3, .int r_23), (0, .ref (a 0)), (1, .int x1), (2, .int x2)]) S.1 S.2.1 d_M_matches_26 rfl hl (by decide) rfl (fun ls hl => ?_)
      refine lv_iload_n S.1 S.2.1 d_M_matches_27 rfl (lv_at hl 0 rfl) ?_
      refine lv_if_ge (tgt := 44) S.1 S.2.1 d_M_matches_28 (by decide) (fun q_28 => ?_) (fun q_28 => ?_)
      · have h := h.1 q_28
        obtain ⟨x1_44, ex1_44⟩ : ∃ y : Int32, y = x1 + 1 := ⟨_, rfl⟩
        have h := h x1_44 ex1_44
        refine lv_iinc (v := x1_44) (lv' := [(1, .int x1_44), (3, .int r_23), (0, .ref (a 0)), (2, .int x2)]) S.1 S.2.1 d_M_matches_44 hl (k := 2) rfl (by rw [ex1_44]; rfl) (by decide) rfl (fun ls hl => ?_)
        refine lv_aload_n S.1 S.2.1 d_M_matches_47 rfl (lv_at hl 2 rfl) ?_
        refine mg_last S hK hw d_M_matches_48 ?_
        refine lv_aload_n S.1 S.2.1 d_M_matches_51 rfl (lv_at hl 2 rfl) ?_
        refine mg_first S hK hw d_M_matches_52 ?_
        refine lv_icmp_le (tgt := 65) S.1 S.2.1 d_M_matches_55 (by decide) (fun q_55 => ?_) (fun q_55 => ?_)
        · have h := h.1 q_55
          refine lv_aload_n S.1 S.2.1 d_M_matches_65 rfl (lv_at hl 2 rfl) ?_
          refine mg_last S hK hw d_M_matches_66 ?_
          refine lv_iconst (v := 1) S.1 S.2.1 d_M_matches_69 (by decide) ?_
          refine lv_iadd S.1 S.2.1 d_M_matches_70 ?_
          exact wB_M_matches_71 S hr hlk hK hA ih x1_44 ((m_last u_23) + (1 : Int32)) u_23 _ _ _ (lv_sub hl [2, 0] rfl) hw h
        · have h := h.2 q_55
          refine lv_aload_n S.1 S.2.1 d_M_matches_58 rfl (lv_at hl 2 rfl) ?_
          refine mg_last S hK hw d_M_matches_59 ?_
          refine lv_goto (tgt := 71) S.1 S.2.1 d_M_matches_62 (by decide) ?_
          exact wB_M_matches_71 S hr hlk hK hA ih x1_44 (m_last u_23) u_23 _ _ _ (lv_sub hl [2, 0] rfl) hw h
      · have h := h.2 q_28
        refine lv_iload_n S.1 S.2.1 d_M_matches_31 rfl (lv_at hl 0 rfl) ?_
        refine lv_bipush (v := -5) S.1 S.2.1 d_M_matches_32 (by decide) ?_
        refine lv_icmp_ne (tgt := 42) S.1 S.2.1 d_M_matches_34 (by decide) (fun q_34 => ?_) (fun q_34 => ?_)
        · have h := h.2 q_34
          refine lv_iload_n S.1 S.2.1 d_M_matches_42 rfl (lv_at hl 2 rfl) ?_
          exact w_iret S hr hlk hK hw h d_M_matches_43
        · have h := h.1 q_34
          refine lv_bipush (v := -5) S.1 S.2.1 d_M_matches_37 (by decide) ?_
          refine lv_goto (tgt := 43) S.1 S.2.1 d_M_matches_39 (by decide) ?_
          exact w_iret S hr hlk hK hw h d_M_matches_43
set_option maxHeartbeats 4000000 in
set_option maxRecDepth 20000 in
theorem c_M_matches {x : GX} {a : Nat → Nat} (l : Launch)  (u : MS) (sz : Nat) (Qc : Int32 → MS → Prop) (h : P_M_matches  u Qc) : Met l y_M_matches (wM y_M_matches b_M_matches 4 (some .int)) (rmN 7 0 0) (PreC x (mcl x a) [.ref (a 0)] u sz) (QcI x (mcl x a) (va_A ((mcl x a) u) sz) Qc) 0 0 (va_A ((mcl x a) u) sz) := by
  refine w_enter (by decide +kernel) (Nat.le_of_ble_eq_true rfl) (fun p e s m args below meth c S hr hlk _ hK hA hw ls hl => ?_)
  have hl : lv_has ls 4 [(0, .ref (a 0))] := hl
  refine lv_aload_n S.1 S.2.1 d_M_matches_0 rfl (lv_at hl 0 rfl) ?_
  refine mg_ready S hK hw d_M_matches_1 ?_
  refine lv_if_ne (tgt := 9) S.1 S.2.1 d_M_matches_4 (by decide) (fun q_4 => ?_) (fun q_4 => ?_)
  · have h := h.2 q_4
    refine lv_iconst (v := 0) S.1 S.2.1 d_M_matches_9 (by decide) ?_
    refine lv_istore_n (lv' := [(1, .int (0 : Int32)), (0, .ref (a 0))]) S.1 S.2.1 d_M_matches_10 rfl hl (by decide) rfl (fun ls hl => ?_)
    refine lv_iconst (v := 0) S.1 S.2.1 d_M_matches_11 (by decide) ?_
    refine lv_istore_n (lv' := [(2, .int (0 : Int32)), (1, .int (0 : Int32)), (0, .ref (a 0))]) S.1 S.2.1 d_M_matches_12 rfl hl (by decide) rfl (fun ls hl => ?_)
    obtain ⟨n9, h⟩ := h
    exact wL_M_matches_13 S hr hlk hK hA  n9 (0 : Int32) (0 : Int32) u _ _ _ (lv_sub hl [2, 1, 0] rfl) hw h
  · have h := h.1 q_4
    refine lv_iconst (v := -1) S.1 S.2.1 d_M_matches_7 (by decide) ?_
    exact w_iret S hr hlk hK hw h d_M_matches_8
set_option maxHeartbeats 4000000 in
set_option maxRecDepth 20000 in
theorem c_M_count {x : GX} {a : Nat → Nat} (l : Launch) (x1 : Int32) (u : MS) (sz : Nat) (Qc : Int32 → MS → Prop) (h : P_M_count x1 u Qc) : Met l y_M_count (wM y_M_count b_M_count 2 (some .int)) (rmN 1 0 0) (PreC x (mcl x a) [.ref (a 0), .int x1] u sz) (QcI x (mcl x a) (va_A ((mcl x a) u) sz) Qc) 0 0 (va_A ((mcl x a) u) sz) := by
  refine w_enter (by decide +kernel) (Nat.le_of_ble_eq_true rfl) (fun p e s m args below meth c S hr hlk _ hK hA hw ls hl => ?_)
  have hl : lv_has ls 2 [(0, .ref (a 0)), (1, .int x1)] := hl
  refine lv_iload_n S.1 S.2.1 d_M_count_0 rfl (lv_at hl 1 rfl) ?_
  refine lv_iconst (v := 0) S.1 S.2.1 d_M_count_1 (by decide) ?_
  refine lv_iconst (v := 1) S.1 S.2.1 d_M_count_2 (by decide) ?_
  refine w_cn (w_rs (rest := []) S (c_M_in l x1 (0 : Int32) (1 : Int32) _ h) (w_cb (fr := 0) (lv := 0) S.2.2.2.2 k_960 k_958 k_8 yd_M_in rfl rfl ⟨Nat.le_of_ble_eq_true rfl, Nat.le_of_ble_eq_true rfl⟩) k_959 rfl hl.1 rfl (Nat.le_of_ble_eq_true rfl) d_M_count_3 ⟨Nat.le_refl _, Nat.le_refl _⟩) (fun r_3 h => ?_)
  refine lv_if_eq (tgt := 25) S.1 S.2.1 d_M_count_6 (by decide) (fun q_6 => ?_) (fun q_6 => ?_)
  · have h := h.1 q_6
    refine lv_iload_n S.1 S.2.1 d_M_count_25 rfl (lv_at hl 1 rfl) ?_
    refine lv_iconst (v := 2) S.1 S.2.1 d_M_count_26 (by decide) ?_
    refine lv_iconst (v := 3) S.1 S.2.1 d_M_count_27 (by decide) ?_
    refine w_cn (w_rs (rest := []) S (c_M_in l x1 (2 : Int32) (3 : Int32) _ h) (w_cb (fr := 0) (lv := 0) S.2.2.2.2 k_960 k_958 k_8 yd_M_in rfl rfl ⟨Nat.le_of_ble_eq_true rfl, Nat.le_of_ble_eq_true rfl⟩) k_959 rfl hl.1 rfl (Nat.le_of_ble_eq_true rfl) d_M_count_28 ⟨Nat.le_refl _, Nat.le_refl _⟩) (fun r_28 h => ?_)
    refine lv_if_ne (tgt := 36) S.1 S.2.1 d_M_count_31 (by decide) (fun q_31 => ?_) (fun q_31 => ?_)
    · have h := h.2 q_31
      refine lv_aload_n S.1 S.2.1 d_M_count_36 rfl (lv_at hl 0 rfl) ?_
      refine mg_ready S hK hw d_M_count_37 ?_
      refine lv_if_ne (tgt := 48) S.1 S.2.1 d_M_count_40 (by decide) (fun q_40 => ?_) (fun q_40 => ?_)
      · have h := h.2 q_40
        refine lv_iload_n S.1 S.2.1 d_M_count_48 rfl (lv_at hl 1 rfl) ?_
        refine lv_iconst (v := 2) S.1 S.2.1 d_M_count_49 (by decide) ?_
        refine lv_icmp_ne (tgt := 60) S.1 S.2.1 d_M_count_50 (by decide) (fun q_50 => ?_) (fun q_50 => ?_)
        · have h := h.2 q_50
          refine lv_aload_n S.1 S.2.1 d_M_count_60 rfl (lv_at hl 0 rfl) ?_
          refine mg_size S hK hw d_M_count_61 ?_
          exact w_iret S hr hlk hK hw h d_M_count_64
        · have h := h.1 q_50
          refine lv_aload_n S.1 S.2.1 d_M_count_53 rfl (lv_at hl 0 rfl) ?_
          refine mg_groups S hK hw d_M_count_54 ?_
          refine lv_goto (tgt := 64) S.1 S.2.1 d_M_count_57 (by decide) ?_
          exact w_iret S hr hlk hK hw h d_M_count_64
      · have h := h.1 q_40
        refine lv_bipush (v := -4) S.1 S.2.1 d_M_count_43 (by decide) ?_
        refine lv_goto (tgt := 64) S.1 S.2.1 d_M_count_45 (by decide) ?_
        exact w_iret S hr hlk hK hw h d_M_count_64
    · have h := h.1 q_31
      refine lv_iconst (v := -1) S.1 S.2.1 d_M_count_34 (by decide) ?_
      exact w_iret S hr hlk hK hw h d_M_count_35
  · have h := h.2 q_6
    refine lv_iload_n S.1 S.2.1 d_M_count_9 rfl (lv_at hl 1 rfl) ?_
    refine lv_if_ne (tgt := 20) S.1 S.2.1 d_M_count_10 (by decide) (fun q_10 => ?_) (fun q_10 => ?_)
    · have h := h.2 q_10
      refine lv_aload_n S.1 S.2.1 d_M_count_20 rfl (lv_at hl 0 rfl) ?_
      refine mg_letters S hK hw d_M_count_21 ?_
      exact w_iret S hr hlk hK hw h d_M_count_24
    · have h := h.1 q_10
      refine lv_aload_n S.1 S.2.1 d_M_count_13 rfl (lv_at hl 0 rfl) ?_
      refine mg_drafted S hK hw d_M_count_14 ?_
      refine lv_goto (tgt := 24) S.1 S.2.1 d_M_count_17 (by decide) ?_
      exact w_iret S hr hlk hK hw h d_M_count_24
end MW
