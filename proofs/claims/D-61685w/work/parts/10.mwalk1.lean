theorem d_M_in_0 : decode b_M_in 0 = .ok (.iload_n 0, 1) := by decide +kernel
theorem d_M_in_1 : decode b_M_in 1 = .ok (.iload_n 1, 1) := by decide +kernel
theorem d_M_in_2 : decode b_M_in 2 = .ok (.if_icmp .lt 12, 3) := by decide +kernel
theorem d_M_in_5 : decode b_M_in 5 = .ok (.iload_n 0, 1) := by decide +kernel
theorem d_M_in_6 : decode b_M_in 6 = .ok (.iload_n 2, 1) := by decide +kernel
theorem d_M_in_7 : decode b_M_in 7 = .ok (.if_icmp .gt 7, 3) := by decide +kernel
theorem d_M_in_10 : decode b_M_in 10 = .ok (.iconst 1, 1) := by decide +kernel
theorem d_M_in_11 : decode b_M_in 11 = .ok (.goto 4, 3) := by decide +kernel
theorem d_M_in_14 : decode b_M_in 14 = .ok (.iconst 0, 1) := by decide +kernel
theorem d_M_in_15 : decode b_M_in 15 = .ok (.ireturn, 1) := by decide +kernel
theorem d_M_letter_0 : decode b_M_letter 0 = .ok (.iload_n 0, 1) := by decide +kernel
theorem d_M_letter_1 : decode b_M_letter 1 = .ok (.bipush 97, 2) := by decide +kernel
theorem d_M_letter_3 : decode b_M_letter 3 = .ok (.bipush 122, 2) := by decide +kernel
theorem d_M_letter_5 : decode b_M_letter 5 = .ok (.invokestatic 39, 3) := by decide +kernel
theorem d_M_letter_8 : decode b_M_letter 8 = .ok (.ireturn, 1) := by decide +kernel
theorem d_M_sign_0 : decode b_M_sign 0 = .ok (.iload_n 0, 1) := by decide +kernel
theorem d_M_sign_1 : decode b_M_sign 1 = .ok (.bipush 40, 2) := by decide +kernel
theorem d_M_sign_3 : decode b_M_sign 3 = .ok (.bipush 43, 2) := by decide +kernel
theorem d_M_sign_5 : decode b_M_sign 5 = .ok (.invokestatic 39, 3) := by decide +kernel
theorem d_M_sign_8 : decode b_M_sign 8 = .ok (.ifCond .ne 32, 3) := by decide +kernel
theorem d_M_sign_11 : decode b_M_sign 11 = .ok (.iload_n 0, 1) := by decide +kernel
theorem d_M_sign_12 : decode b_M_sign 12 = .ok (.bipush 45, 2) := by decide +kernel
theorem d_M_sign_14 : decode b_M_sign 14 = .ok (.if_icmp .eq 26, 3) := by decide +kernel
theorem d_M_sign_17 : decode b_M_sign 17 = .ok (.iload_n 0, 1) := by decide +kernel
theorem d_M_sign_18 : decode b_M_sign 18 = .ok (.bipush 46, 2) := by decide +kernel
theorem d_M_sign_20 : decode b_M_sign 20 = .ok (.if_icmp .eq 20, 3) := by decide +kernel
theorem d_M_sign_23 : decode b_M_sign 23 = .ok (.iload_n 0, 1) := by decide +kernel
theorem d_M_sign_24 : decode b_M_sign 24 = .ok (.bipush 58, 2) := by decide +kernel
theorem d_M_sign_26 : decode b_M_sign 26 = .ok (.if_icmp .eq 14, 3) := by decide +kernel
theorem d_M_sign_29 : decode b_M_sign 29 = .ok (.iload_n 0, 1) := by decide +kernel
theorem d_M_sign_30 : decode b_M_sign 30 = .ok (.bipush 61, 2) := by decide +kernel
theorem d_M_sign_32 : decode b_M_sign 32 = .ok (.bipush 63, 2) := by decide +kernel
theorem d_M_sign_34 : decode b_M_sign 34 = .ok (.invokestatic 39, 3) := by decide +kernel
theorem d_M_sign_37 : decode b_M_sign 37 = .ok (.ifCond .eq 5, 3) := by decide +kernel
theorem d_M_sign_40 : decode b_M_sign 40 = .ok (.iconst 1, 1) := by decide +kernel
theorem d_M_sign_41 : decode b_M_sign 41 = .ok (.ireturn, 1) := by decide +kernel
theorem d_M_sign_42 : decode b_M_sign 42 = .ok (.iload_n 0, 1) := by decide +kernel
theorem d_M_sign_43 : decode b_M_sign 43 = .ok (.bipush 33, 2) := by decide +kernel
theorem d_M_sign_45 : decode b_M_sign 45 = .ok (.if_icmp .eq 31, 3) := by decide +kernel
theorem d_M_sign_48 : decode b_M_sign 48 = .ok (.iload_n 0, 1) := by decide +kernel
theorem d_M_sign_49 : decode b_M_sign 49 = .ok (.bipush 36, 2) := by decide +kernel
theorem d_M_sign_51 : decode b_M_sign 51 = .ok (.if_icmp .eq 25, 3) := by decide +kernel
theorem d_M_sign_54 : decode b_M_sign 54 = .ok (.iload_n 0, 1) := by decide +kernel
theorem d_M_sign_55 : decode b_M_sign 55 = .ok (.bipush 91, 2) := by decide +kernel
theorem d_M_sign_57 : decode b_M_sign 57 = .ok (.bipush 94, 2) := by decide +kernel
theorem d_M_sign_59 : decode b_M_sign 59 = .ok (.invokestatic 39, 3) := by decide +kernel
theorem d_M_sign_62 : decode b_M_sign 62 = .ok (.ifCond .ne 14, 3) := by decide +kernel
theorem d_M_sign_65 : decode b_M_sign 65 = .ok (.iload_n 0, 1) := by decide +kernel
theorem d_M_sign_66 : decode b_M_sign 66 = .ok (.bipush 123, 2) := by decide +kernel
theorem d_M_sign_68 : decode b_M_sign 68 = .ok (.bipush 125, 2) := by decide +kernel
theorem d_M_sign_70 : decode b_M_sign 70 = .ok (.invokestatic 39, 3) := by decide +kernel
theorem d_M_sign_73 : decode b_M_sign 73 = .ok (.ifCond .eq 7, 3) := by decide +kernel
theorem d_M_sign_76 : decode b_M_sign 76 = .ok (.iconst 1, 1) := by decide +kernel
theorem d_M_sign_77 : decode b_M_sign 77 = .ok (.goto 4, 3) := by decide +kernel
theorem d_M_sign_80 : decode b_M_sign 80 = .ok (.iconst 0, 1) := by decide +kernel
theorem d_M_sign_81 : decode b_M_sign 81 = .ok (.ireturn, 1) := by decide +kernel
theorem d_M_write_0 : decode b_M_write 0 = .ok (.iload_n 1, 1) := by decide +kernel
theorem d_M_write_1 : decode b_M_write 1 = .ok (.invokestatic 43, 3) := by decide +kernel
theorem d_M_write_4 : decode b_M_write 4 = .ok (.ifCond .ne 23, 3) := by decide +kernel
theorem d_M_write_7 : decode b_M_write 7 = .ok (.iload_n 1, 1) := by decide +kernel
theorem d_M_write_8 : decode b_M_write 8 = .ok (.bipush 48, 2) := by decide +kernel
theorem d_M_write_10 : decode b_M_write 10 = .ok (.bipush 57, 2) := by decide +kernel
theorem d_M_write_12 : decode b_M_write 12 = .ok (.invokestatic 39, 3) := by decide +kernel
theorem d_M_write_15 : decode b_M_write 15 = .ok (.ifCond .ne 12, 3) := by decide +kernel
theorem d_M_write_18 : decode b_M_write 18 = .ok (.iload_n 1, 1) := by decide +kernel
theorem d_M_write_19 : decode b_M_write 19 = .ok (.invokestatic 47, 3) := by decide +kernel
theorem d_M_write_22 : decode b_M_write 22 = .ok (.ifCond .ne 5, 3) := by decide +kernel
theorem d_M_write_25 : decode b_M_write 25 = .ok (.iconst (-1), 1) := by decide +kernel
theorem d_M_write_26 : decode b_M_write 26 = .ok (.ireturn, 1) := by decide +kernel
theorem d_M_write_27 : decode b_M_write 27 = .ok (.aload_n 0, 1) := by decide +kernel
theorem d_M_write_28 : decode b_M_write 28 = .ok (.getfield 50, 3) := by decide +kernel
theorem d_M_write_31 : decode b_M_write 31 = .ok (.bipush 32, 2) := by decide +kernel
theorem d_M_write_33 : decode b_M_write 33 = .ok (.if_icmp .ne 6, 3) := by decide +kernel
theorem d_M_write_36 : decode b_M_write 36 = .ok (.bipush (-2), 2) := by decide +kernel
theorem d_M_write_38 : decode b_M_write 38 = .ok (.ireturn, 1) := by decide +kernel
theorem d_M_write_39 : decode b_M_write 39 = .ok (.aload_n 0, 1) := by decide +kernel
theorem d_M_write_40 : decode b_M_write 40 = .ok (.getfield 7, 3) := by decide +kernel
theorem d_M_write_43 : decode b_M_write 43 = .ok (.aload_n 0, 1) := by decide +kernel
theorem d_M_write_44 : decode b_M_write 44 = .ok (.getfield 50, 3) := by decide +kernel
theorem d_M_write_47 : decode b_M_write 47 = .ok (.iload_n 1, 1) := by decide +kernel
theorem d_M_write_48 : decode b_M_write 48 = .ok (.iastore, 1) := by decide +kernel
theorem d_M_write_49 : decode b_M_write 49 = .ok (.aload_n 0, 1) := by decide +kernel
theorem d_M_write_50 : decode b_M_write 50 = .ok (.dup, 1) := by decide +kernel
theorem d_M_write_51 : decode b_M_write 51 = .ok (.getfield 50, 3) := by decide +kernel
theorem d_M_write_54 : decode b_M_write 54 = .ok (.iconst 1, 1) := by decide +kernel
theorem d_M_write_55 : decode b_M_write 55 = .ok (.iadd, 1) := by decide +kernel
theorem d_M_write_56 : decode b_M_write 56 = .ok (.putfield 50, 3) := by decide +kernel
theorem d_M_write_59 : decode b_M_write 59 = .ok (.aload_n 0, 1) := by decide +kernel
theorem d_M_write_60 : decode b_M_write 60 = .ok (.getfield 50, 3) := by decide +kernel
theorem d_M_write_63 : decode b_M_write 63 = .ok (.ireturn, 1) := by decide +kernel
theorem d_M_c_0 : decode b_M_c 0 = .ok (.iload_n 1, 1) := by decide +kernel
theorem d_M_c_1 : decode b_M_c 1 = .ok (.aload_n 0, 1) := by decide +kernel
theorem d_M_c_2 : decode b_M_c 2 = .ok (.getfield 50, 3) := by decide +kernel
theorem d_M_c_5 : decode b_M_c 5 = .ok (.if_icmp .ge 12, 3) := by decide +kernel
theorem d_M_c_8 : decode b_M_c 8 = .ok (.aload_n 0, 1) := by decide +kernel
theorem d_M_c_9 : decode b_M_c 9 = .ok (.getfield 7, 3) := by decide +kernel
theorem d_M_c_12 : decode b_M_c 12 = .ok (.iload_n 1, 1) := by decide +kernel
theorem d_M_c_13 : decode b_M_c 13 = .ok (.iaload, 1) := by decide +kernel
theorem d_M_c_14 : decode b_M_c 14 = .ok (.goto 4, 3) := by decide +kernel
theorem d_M_c_17 : decode b_M_c 17 = .ok (.iconst 0, 1) := by decide +kernel
theorem d_M_c_18 : decode b_M_c 18 = .ok (.ireturn, 1) := by decide +kernel
theorem d_M_opener_0 : decode b_M_opener 0 = .ok (.aload_n 0, 1) := by decide +kernel
theorem d_M_opener_1 : decode b_M_opener 1 = .ok (.iload_n 1, 1) := by decide +kernel
theorem d_M_opener_2 : decode b_M_opener 2 = .ok (.invokevirtual 53, 3) := by decide +kernel
theorem d_M_opener_5 : decode b_M_opener 5 = .ok (.bipush 40, 2) := by decide +kernel
theorem d_M_opener_7 : decode b_M_opener 7 = .ok (.if_icmp .eq 5, 3) := by decide +kernel
theorem d_M_opener_10 : decode b_M_opener 10 = .ok (.iconst 0, 1) := by decide +kernel
theorem d_M_opener_11 : decode b_M_opener 11 = .ok (.ireturn, 1) := by decide +kernel
theorem d_M_opener_12 : decode b_M_opener 12 = .ok (.aload_n 0, 1) := by decide +kernel
theorem d_M_opener_13 : decode b_M_opener 13 = .ok (.iload_n 1, 1) := by decide +kernel
theorem d_M_opener_14 : decode b_M_opener 14 = .ok (.iconst 1, 1) := by decide +kernel
theorem d_M_opener_15 : decode b_M_opener 15 = .ok (.iadd, 1) := by decide +kernel
theorem d_M_opener_16 : decode b_M_opener 16 = .ok (.invokevirtual 53, 3) := by decide +kernel
theorem d_M_opener_19 : decode b_M_opener 19 = .ok (.bipush 63, 2) := by decide +kernel
theorem d_M_opener_21 : decode b_M_opener 21 = .ok (.if_icmp .eq 5, 3) := by decide +kernel
theorem d_M_opener_24 : decode b_M_opener 24 = .ok (.iconst 1, 1) := by decide +kernel
theorem d_M_opener_25 : decode b_M_opener 25 = .ok (.ireturn, 1) := by decide +kernel
theorem d_M_opener_26 : decode b_M_opener 26 = .ok (.aload_n 0, 1) := by decide +kernel
theorem d_M_opener_27 : decode b_M_opener 27 = .ok (.iload_n 1, 1) := by decide +kernel
theorem d_M_opener_28 : decode b_M_opener 28 = .ok (.iconst 2, 1) := by decide +kernel
theorem d_M_opener_29 : decode b_M_opener 29 = .ok (.iadd, 1) := by decide +kernel
theorem d_M_opener_30 : decode b_M_opener 30 = .ok (.invokevirtual 53, 3) := by decide +kernel
theorem d_M_opener_33 : decode b_M_opener 33 = .ok (.istore_n 2, 1) := by decide +kernel
theorem d_M_opener_34 : decode b_M_opener 34 = .ok (.iload_n 2, 1) := by decide +kernel
theorem d_M_opener_35 : decode b_M_opener 35 = .ok (.bipush 58, 2) := by decide +kernel
theorem d_M_opener_37 : decode b_M_opener 37 = .ok (.if_icmp .eq 21, 3) := by decide +kernel
theorem d_M_opener_40 : decode b_M_opener 40 = .ok (.iload_n 2, 1) := by decide +kernel
theorem d_M_opener_41 : decode b_M_opener 41 = .ok (.bipush 61, 2) := by decide +kernel
theorem d_M_opener_43 : decode b_M_opener 43 = .ok (.if_icmp .eq 15, 3) := by decide +kernel
theorem d_M_opener_46 : decode b_M_opener 46 = .ok (.iload_n 2, 1) := by decide +kernel
theorem d_M_opener_47 : decode b_M_opener 47 = .ok (.bipush 33, 2) := by decide +kernel
theorem d_M_opener_49 : decode b_M_opener 49 = .ok (.if_icmp .eq 9, 3) := by decide +kernel
theorem d_M_opener_52 : decode b_M_opener 52 = .ok (.iload_n 2, 1) := by decide +kernel
theorem d_M_opener_53 : decode b_M_opener 53 = .ok (.bipush 62, 2) := by decide +kernel
theorem d_M_opener_55 : decode b_M_opener 55 = .ok (.if_icmp .ne 7, 3) := by decide +kernel
theorem d_M_opener_58 : decode b_M_opener 58 = .ok (.iconst 3, 1) := by decide +kernel
theorem d_M_opener_59 : decode b_M_opener 59 = .ok (.goto 4, 3) := by decide +kernel
theorem d_M_opener_62 : decode b_M_opener 62 = .ok (.iconst 0, 1) := by decide +kernel
theorem d_M_opener_63 : decode b_M_opener 63 = .ok (.ireturn, 1) := by decide +kernel
theorem d_M_behindClass_0 : decode b_M_behindClass 0 = .ok (.aload_n 0, 1) := by decide +kernel
theorem d_M_behindClass_1 : decode b_M_behindClass 1 = .ok (.iload_n 1, 1) := by decide +kernel
theorem d_M_behindClass_2 : decode b_M_behindClass 2 = .ok (.iconst 1, 1) := by decide +kernel
theorem d_M_behindClass_3 : decode b_M_behindClass 3 = .ok (.iadd, 1) := by decide +kernel
theorem d_M_behindClass_4 : decode b_M_behindClass 4 = .ok (.invokevirtual 53, 3) := by decide +kernel
theorem d_M_behindClass_7 : decode b_M_behindClass 7 = .ok (.bipush 94, 2) := by decide +kernel
theorem d_M_behindClass_9 : decode b_M_behindClass 9 = .ok (.if_icmp .ne 9, 3) := by decide +kernel
theorem d_M_behindClass_12 : decode b_M_behindClass 12 = .ok (.iload_n 1, 1) := by decide +kernel
theorem d_M_behindClass_13 : decode b_M_behindClass 13 = .ok (.iconst 2, 1) := by decide +kernel
theorem d_M_behindClass_14 : decode b_M_behindClass 14 = .ok (.iadd, 1) := by decide +kernel
theorem d_M_behindClass_15 : decode b_M_behindClass 15 = .ok (.goto 6, 3) := by decide +kernel
theorem d_M_behindClass_18 : decode b_M_behindClass 18 = .ok (.iload_n 1, 1) := by decide +kernel
theorem d_M_behindClass_19 : decode b_M_behindClass 19 = .ok (.iconst 1, 1) := by decide +kernel
theorem d_M_behindClass_20 : decode b_M_behindClass 20 = .ok (.iadd, 1) := by decide +kernel
theorem d_M_behindClass_21 : decode b_M_behindClass 21 = .ok (.istore_n 2, 1) := by decide +kernel
theorem d_M_behindClass_22 : decode b_M_behindClass 22 = .ok (.iconst 0, 1) := by decide +kernel
theorem d_M_behindClass_23 : decode b_M_behindClass 23 = .ok (.istore_n 3, 1) := by decide +kernel
theorem d_M_behindClass_24 : decode b_M_behindClass 24 = .ok (.aload_n 0, 1) := by decide +kernel
theorem d_M_behindClass_25 : decode b_M_behindClass 25 = .ok (.iload_n 2, 1) := by decide +kernel
theorem d_M_behindClass_26 : decode b_M_behindClass 26 = .ok (.invokevirtual 53, 3) := by decide +kernel
theorem d_M_behindClass_29 : decode b_M_behindClass 29 = .ok (.invokestatic 43, 3) := by decide +kernel
theorem d_M_behindClass_32 : decode b_M_behindClass 32 = .ok (.ifCond .eq 76, 3) := by decide +kernel
theorem d_M_behindClass_35 : decode b_M_behindClass 35 = .ok (.aload_n 0, 1) := by decide +kernel
theorem d_M_behindClass_36 : decode b_M_behindClass 36 = .ok (.iload_n 2, 1) := by decide +kernel
theorem d_M_behindClass_37 : decode b_M_behindClass 37 = .ok (.iconst 1, 1) := by decide +kernel
theorem d_M_behindClass_38 : decode b_M_behindClass 38 = .ok (.iadd, 1) := by decide +kernel
theorem d_M_behindClass_39 : decode b_M_behindClass 39 = .ok (.invokevirtual 53, 3) := by decide +kernel
theorem d_M_behindClass_42 : decode b_M_behindClass 42 = .ok (.bipush 45, 2) := by decide +kernel
theorem d_M_behindClass_44 : decode b_M_behindClass 44 = .ok (.if_icmp .ne 7, 3) := by decide +kernel
theorem d_M_behindClass_47 : decode b_M_behindClass 47 = .ok (.iconst 1, 1) := by decide +kernel
theorem d_M_behindClass_48 : decode b_M_behindClass 48 = .ok (.goto 4, 3) := by decide +kernel
theorem d_M_behindClass_51 : decode b_M_behindClass 51 = .ok (.iconst 0, 1) := by decide +kernel
theorem d_M_behindClass_52 : decode b_M_behindClass 52 = .ok (.istore 4, 2) := by decide +kernel
theorem d_M_behindClass_54 : decode b_M_behindClass 54 = .ok (.iload 4, 2) := by decide +kernel
theorem d_M_behindClass_56 : decode b_M_behindClass 56 = .ok (.ifCond .eq 33, 3) := by decide +kernel
theorem d_M_behindClass_59 : decode b_M_behindClass 59 = .ok (.aload_n 0, 1) := by decide +kernel
theorem d_M_behindClass_60 : decode b_M_behindClass 60 = .ok (.iload_n 2, 1) := by decide +kernel
theorem d_M_behindClass_61 : decode b_M_behindClass 61 = .ok (.iconst 2, 1) := by decide +kernel
theorem d_M_behindClass_62 : decode b_M_behindClass 62 = .ok (.iadd, 1) := by decide +kernel
theorem d_M_behindClass_63 : decode b_M_behindClass 63 = .ok (.invokevirtual 53, 3) := by decide +kernel
theorem d_M_behindClass_66 : decode b_M_behindClass 66 = .ok (.invokestatic 43, 3) := by decide +kernel
theorem d_M_behindClass_69 : decode b_M_behindClass 69 = .ok (.ifCond .eq 18, 3) := by decide +kernel
theorem d_M_behindClass_72 : decode b_M_behindClass 72 = .ok (.aload_n 0, 1) := by decide +kernel
theorem d_M_behindClass_73 : decode b_M_behindClass 73 = .ok (.iload_n 2, 1) := by decide +kernel
theorem d_M_behindClass_74 : decode b_M_behindClass 74 = .ok (.iconst 2, 1) := by decide +kernel
theorem d_M_behindClass_75 : decode b_M_behindClass 75 = .ok (.iadd, 1) := by decide +kernel
theorem d_M_behindClass_76 : decode b_M_behindClass 76 = .ok (.invokevirtual 53, 3) := by decide +kernel
theorem d_M_behindClass_79 : decode b_M_behindClass 79 = .ok (.aload_n 0, 1) := by decide +kernel
theorem d_M_behindClass_80 : decode b_M_behindClass 80 = .ok (.iload_n 2, 1) := by decide +kernel
theorem d_M_behindClass_81 : decode b_M_behindClass 81 = .ok (.invokevirtual 53, 3) := by decide +kernel
theorem d_M_behindClass_84 : decode b_M_behindClass 84 = .ok (.if_icmp .ge 5, 3) := by decide +kernel
theorem d_M_behindClass_87 : decode b_M_behindClass 87 = .ok (.iconst (-1), 1) := by decide +kernel
theorem d_M_behindClass_88 : decode b_M_behindClass 88 = .ok (.ireturn, 1) := by decide +kernel
theorem d_M_behindClass_89 : decode b_M_behindClass 89 = .ok (.iload_n 2, 1) := by decide +kernel
theorem d_M_behindClass_90 : decode b_M_behindClass 90 = .ok (.iload 4, 2) := by decide +kernel
theorem d_M_behindClass_92 : decode b_M_behindClass 92 = .ok (.ifCond .eq 7, 3) := by decide +kernel
theorem d_M_behindClass_95 : decode b_M_behindClass 95 = .ok (.iconst 3, 1) := by decide +kernel
theorem d_M_behindClass_96 : decode b_M_behindClass 96 = .ok (.goto 4, 3) := by decide +kernel
theorem d_M_behindClass_99 : decode b_M_behindClass 99 = .ok (.iconst 1, 1) := by decide +kernel
theorem d_M_behindClass_100 : decode b_M_behindClass 100 = .ok (.iadd, 1) := by decide +kernel
theorem d_M_behindClass_101 : decode b_M_behindClass 101 = .ok (.istore_n 2, 1) := by decide +kernel
theorem d_M_behindClass_102 : decode b_M_behindClass 102 = .ok (.iinc 3 1, 3) := by decide +kernel
theorem d_M_behindClass_105 : decode b_M_behindClass 105 = .ok (.goto (-81), 3) := by decide +kernel
theorem d_M_behindClass_108 : decode b_M_behindClass 108 = .ok (.iload_n 3, 1) := by decide +kernel
theorem d_M_behindClass_109 : decode b_M_behindClass 109 = .ok (.ifCond .le 19, 3) := by decide +kernel
theorem d_M_behindClass_112 : decode b_M_behindClass 112 = .ok (.aload_n 0, 1) := by decide +kernel
theorem d_M_behindClass_113 : decode b_M_behindClass 113 = .ok (.iload_n 2, 1) := by decide +kernel
theorem d_M_behindClass_114 : decode b_M_behindClass 114 = .ok (.invokevirtual 53, 3) := by decide +kernel
theorem d_M_behindClass_117 : decode b_M_behindClass 117 = .ok (.bipush 93, 2) := by decide +kernel
theorem d_M_behindClass_119 : decode b_M_behindClass 119 = .ok (.if_icmp .ne 9, 3) := by decide +kernel
theorem d_M_behindClass_122 : decode b_M_behindClass 122 = .ok (.iload_n 2, 1) := by decide +kernel
theorem d_M_behindClass_123 : decode b_M_behindClass 123 = .ok (.iconst 1, 1) := by decide +kernel
theorem d_M_behindClass_124 : decode b_M_behindClass 124 = .ok (.iadd, 1) := by decide +kernel
theorem d_M_behindClass_125 : decode b_M_behindClass 125 = .ok (.goto 4, 3) := by decide +kernel
theorem d_M_behindClass_128 : decode b_M_behindClass 128 = .ok (.iconst (-1), 1) := by decide +kernel
theorem d_M_behindClass_129 : decode b_M_behindClass 129 = .ok (.ireturn, 1) := by decide +kernel
theorem d_M_behindPlain_0 : decode b_M_behindPlain 0 = .ok (.aload_n 0, 1) := by decide +kernel
theorem d_M_behindPlain_1 : decode b_M_behindPlain 1 = .ok (.iload_n 1, 1) := by decide +kernel
theorem d_M_behindPlain_2 : decode b_M_behindPlain 2 = .ok (.invokevirtual 53, 3) := by decide +kernel
theorem d_M_behindPlain_5 : decode b_M_behindPlain 5 = .ok (.istore_n 2, 1) := by decide +kernel
theorem d_M_behindPlain_6 : decode b_M_behindPlain 6 = .ok (.iload_n 2, 1) := by decide +kernel
theorem d_M_behindPlain_7 : decode b_M_behindPlain 7 = .ok (.invokestatic 43, 3) := by decide +kernel
theorem d_M_behindPlain_10 : decode b_M_behindPlain 10 = .ok (.ifCond .ne 21, 3) := by decide +kernel
theorem d_M_behindPlain_13 : decode b_M_behindPlain 13 = .ok (.iload_n 2, 1) := by decide +kernel
theorem d_M_behindPlain_14 : decode b_M_behindPlain 14 = .ok (.bipush 46, 2) := by decide +kernel
theorem d_M_behindPlain_16 : decode b_M_behindPlain 16 = .ok (.if_icmp .eq 15, 3) := by decide +kernel
theorem d_M_behindPlain_19 : decode b_M_behindPlain 19 = .ok (.iload_n 2, 1) := by decide +kernel
theorem d_M_behindPlain_20 : decode b_M_behindPlain 20 = .ok (.bipush 94, 2) := by decide +kernel
theorem d_M_behindPlain_22 : decode b_M_behindPlain 22 = .ok (.if_icmp .eq 9, 3) := by decide +kernel
theorem d_M_behindPlain_25 : decode b_M_behindPlain 25 = .ok (.iload_n 2, 1) := by decide +kernel
theorem d_M_behindPlain_26 : decode b_M_behindPlain 26 = .ok (.bipush 36, 2) := by decide +kernel
theorem d_M_behindPlain_28 : decode b_M_behindPlain 28 = .ok (.if_icmp .ne 7, 3) := by decide +kernel
theorem d_M_behindPlain_31 : decode b_M_behindPlain 31 = .ok (.iload_n 1, 1) := by decide +kernel
theorem d_M_behindPlain_32 : decode b_M_behindPlain 32 = .ok (.iconst 1, 1) := by decide +kernel
theorem d_M_behindPlain_33 : decode b_M_behindPlain 33 = .ok (.iadd, 1) := by decide +kernel
theorem d_M_behindPlain_34 : decode b_M_behindPlain 34 = .ok (.ireturn, 1) := by decide +kernel
theorem d_M_behindPlain_35 : decode b_M_behindPlain 35 = .ok (.iload_n 2, 1) := by decide +kernel
theorem d_M_behindPlain_36 : decode b_M_behindPlain 36 = .ok (.bipush 91, 2) := by decide +kernel
theorem d_M_behindPlain_38 : decode b_M_behindPlain 38 = .ok (.if_icmp .ne 9, 3) := by decide +kernel
theorem d_M_behindPlain_41 : decode b_M_behindPlain 41 = .ok (.aload_n 0, 1) := by decide +kernel
theorem d_M_behindPlain_42 : decode b_M_behindPlain 42 = .ok (.iload_n 1, 1) := by decide +kernel
theorem d_M_behindPlain_43 : decode b_M_behindPlain 43 = .ok (.invokevirtual 57, 3) := by decide +kernel
theorem d_M_behindPlain_46 : decode b_M_behindPlain 46 = .ok (.ireturn, 1) := by decide +kernel
theorem d_M_behindPlain_47 : decode b_M_behindPlain 47 = .ok (.iload_n 2, 1) := by decide +kernel
theorem d_M_behindPlain_48 : decode b_M_behindPlain 48 = .ok (.bipush 92, 2) := by decide +kernel
theorem d_M_behindPlain_50 : decode b_M_behindPlain 50 = .ok (.if_icmp .ne 28, 3) := by decide +kernel
theorem d_M_behindPlain_53 : decode b_M_behindPlain 53 = .ok (.aload_n 0, 1) := by decide +kernel
theorem d_M_behindPlain_54 : decode b_M_behindPlain 54 = .ok (.iload_n 1, 1) := by decide +kernel
theorem d_M_behindPlain_55 : decode b_M_behindPlain 55 = .ok (.iconst 1, 1) := by decide +kernel
theorem d_M_behindPlain_56 : decode b_M_behindPlain 56 = .ok (.iadd, 1) := by decide +kernel
theorem d_M_behindPlain_57 : decode b_M_behindPlain 57 = .ok (.invokevirtual 53, 3) := by decide +kernel
theorem d_M_behindPlain_60 : decode b_M_behindPlain 60 = .ok (.bipush 49, 2) := by decide +kernel
theorem d_M_behindPlain_62 : decode b_M_behindPlain 62 = .ok (.bipush 52, 2) := by decide +kernel
theorem d_M_behindPlain_64 : decode b_M_behindPlain 64 = .ok (.invokestatic 39, 3) := by decide +kernel
theorem d_M_behindPlain_67 : decode b_M_behindPlain 67 = .ok (.ifCond .eq 9, 3) := by decide +kernel
theorem d_M_behindPlain_70 : decode b_M_behindPlain 70 = .ok (.iload_n 1, 1) := by decide +kernel
theorem d_M_behindPlain_71 : decode b_M_behindPlain 71 = .ok (.iconst 2, 1) := by decide +kernel
theorem d_M_behindPlain_72 : decode b_M_behindPlain 72 = .ok (.iadd, 1) := by decide +kernel
theorem d_M_behindPlain_73 : decode b_M_behindPlain 73 = .ok (.goto 4, 3) := by decide +kernel
theorem d_M_behindPlain_76 : decode b_M_behindPlain 76 = .ok (.iconst (-1), 1) := by decide +kernel
theorem d_M_behindPlain_77 : decode b_M_behindPlain 77 = .ok (.ireturn, 1) := by decide +kernel
theorem d_M_behindPlain_78 : decode b_M_behindPlain 78 = .ok (.iload_n 2, 1) := by decide +kernel
theorem d_M_behindPlain_79 : decode b_M_behindPlain 79 = .ok (.bipush 40, 2) := by decide +kernel
theorem d_M_behindPlain_81 : decode b_M_behindPlain 81 = .ok (.if_icmp .ne 48, 3) := by decide +kernel
theorem d_M_behindPlain_84 : decode b_M_behindPlain 84 = .ok (.aload_n 0, 1) := by decide +kernel
theorem d_M_behindPlain_85 : decode b_M_behindPlain 85 = .ok (.iload_n 1, 1) := by decide +kernel
theorem d_M_behindPlain_86 : decode b_M_behindPlain 86 = .ok (.iconst 1, 1) := by decide +kernel
theorem d_M_behindPlain_87 : decode b_M_behindPlain 87 = .ok (.iadd, 1) := by decide +kernel
theorem d_M_behindPlain_88 : decode b_M_behindPlain 88 = .ok (.invokevirtual 53, 3) := by decide +kernel
theorem d_M_behindPlain_91 : decode b_M_behindPlain 91 = .ok (.bipush 63, 2) := by decide +kernel
theorem d_M_behindPlain_93 : decode b_M_behindPlain 93 = .ok (.if_icmp .ne 36, 3) := by decide +kernel
theorem d_M_behindPlain_96 : decode b_M_behindPlain 96 = .ok (.aload_n 0, 1) := by decide +kernel
theorem d_M_behindPlain_97 : decode b_M_behindPlain 97 = .ok (.iload_n 1, 1) := by decide +kernel
theorem d_M_behindPlain_98 : decode b_M_behindPlain 98 = .ok (.iconst 2, 1) := by decide +kernel
theorem d_M_behindPlain_99 : decode b_M_behindPlain 99 = .ok (.iadd, 1) := by decide +kernel
theorem d_M_behindPlain_100 : decode b_M_behindPlain 100 = .ok (.invokevirtual 53, 3) := by decide +kernel
theorem d_M_behindPlain_103 : decode b_M_behindPlain 103 = .ok (.bipush 48, 2) := by decide +kernel
theorem d_M_behindPlain_105 : decode b_M_behindPlain 105 = .ok (.bipush 52, 2) := by decide +kernel
theorem d_M_behindPlain_107 : decode b_M_behindPlain 107 = .ok (.invokestatic 39, 3) := by decide +kernel
theorem d_M_behindPlain_110 : decode b_M_behindPlain 110 = .ok (.ifCond .eq 19, 3) := by decide +kernel
theorem d_M_behindPlain_113 : decode b_M_behindPlain 113 = .ok (.aload_n 0, 1) := by decide +kernel
theorem d_M_behindPlain_114 : decode b_M_behindPlain 114 = .ok (.iload_n 1, 1) := by decide +kernel
theorem d_M_behindPlain_115 : decode b_M_behindPlain 115 = .ok (.iconst 3, 1) := by decide +kernel
theorem d_M_behindPlain_116 : decode b_M_behindPlain 116 = .ok (.iadd, 1) := by decide +kernel
theorem d_M_behindPlain_117 : decode b_M_behindPlain 117 = .ok (.invokevirtual 53, 3) := by decide +kernel
theorem d_M_behindPlain_120 : decode b_M_behindPlain 120 = .ok (.bipush 41, 2) := by decide +kernel
theorem d_M_behindPlain_122 : decode b_M_behindPlain 122 = .ok (.if_icmp .ne 7, 3) := by decide +kernel
theorem d_M_behindPlain_125 : decode b_M_behindPlain 125 = .ok (.iconst 1, 1) := by decide +kernel
theorem d_M_behindPlain_126 : decode b_M_behindPlain 126 = .ok (.goto 4, 3) := by decide +kernel
theorem d_M_behindPlain_129 : decode b_M_behindPlain 129 = .ok (.iconst 0, 1) := by decide +kernel
theorem d_M_behindPlain_130 : decode b_M_behindPlain 130 = .ok (.istore_n 3, 1) := by decide +kernel
theorem d_M_behindPlain_131 : decode b_M_behindPlain 131 = .ok (.iload_n 3, 1) := by decide +kernel
theorem d_M_behindPlain_132 : decode b_M_behindPlain 132 = .ok (.ifCond .eq 9, 3) := by decide +kernel
theorem d_M_behindPlain_135 : decode b_M_behindPlain 135 = .ok (.iload_n 1, 1) := by decide +kernel
theorem d_M_behindPlain_136 : decode b_M_behindPlain 136 = .ok (.iconst 4, 1) := by decide +kernel
theorem d_M_behindPlain_137 : decode b_M_behindPlain 137 = .ok (.iadd, 1) := by decide +kernel
theorem d_M_behindPlain_138 : decode b_M_behindPlain 138 = .ok (.goto 4, 3) := by decide +kernel
theorem d_M_behindPlain_141 : decode b_M_behindPlain 141 = .ok (.iconst (-1), 1) := by decide +kernel
theorem d_M_behindPlain_142 : decode b_M_behindPlain 142 = .ok (.ireturn, 1) := by decide +kernel
section MW
variable {p : Program} {l : Launch} {e : Env} {s : State} {m : MethodId} {args : Array Value} {below : List Frame} {meth : Method} {c : Code} {x : GX} {a : Nat → Nat} {A : Nat → Prop}
set_option maxHeartbeats 4000000 in
set_option maxRecDepth 20000 in
theorem c_M_in (l : Launch) (x0 : Int32) (x1 : Int32) (x2 : Int32) (Qc : Int32 → Prop) (h : P_M_in x0 x1 x2 Qc) : Met l y_M_in (wM y_M_in b_M_in 3 (some .boolean)) (rmN 0 0 0) (PreN [.int x0, .int x1, .int x2]) (QcN Qc) 0 0 (fun _ => False) := by
  refine w_enterN (by decide +kernel) (Nat.le_of_ble_eq_true rfl) (fun p e s m args below meth c S hr hlk ls hl => ?_)
  have hl : lv_has ls 3 [(0, .int x0), (1, .int x1), (2, .int x2)] := hl
  refine lv_iload_n S.1 S.2.1 d_M_in_0 rfl (lv_at hl 0 rfl) ?_
  refine lv_iload_n S.1 S.2.1 d_M_in_1 rfl (lv_at hl 1 rfl) ?_
  refine lv_icmp_lt (tgt := 14) S.1 S.2.1 d_M_in_2 (by decide) (fun q_2 => ?_) (fun q_2 => ?_)
  · have h := h.1 q_2
    refine lv_iconst (v := 0) S.1 S.2.1 d_M_in_14 (by decide) ?_
    exact w_zretN S hr hlk isB0 h d_M_in_15
  · have h := h.2 q_2
    refine lv_iload_n S.1 S.2.1 d_M_in_5 rfl (lv_at hl 0 rfl) ?_
    refine lv_iload_n S.1 S.2.1 d_M_in_6 rfl (lv_at hl 2 rfl) ?_
    refine lv_icmp_gt (tgt := 14) S.1 S.2.1 d_M_in_7 (by decide) (fun q_7 => ?_) (fun q_7 => ?_)
    · have h := h.1 q_7
      refine lv_iconst (v := 0) S.1 S.2.1 d_M_in_14 (by decide) ?_
      exact w_zretN S hr hlk isB0 h d_M_in_15
    · have h := h.2 q_7
      refine lv_iconst (v := 1) S.1 S.2.1 d_M_in_10 (by decide) ?_
      refine lv_goto (tgt := 15) S.1 S.2.1 d_M_in_11 (by decide) ?_
      exact w_zretN S hr hlk isB1 h d_M_in_15
set_option maxHeartbeats 4000000 in
set_option maxRecDepth 20000 in
theorem c_M_letter (l : Launch) (x0 : Int32) (Qc : Int32 → Prop) (h : P_M_letter x0 Qc) : Met l y_M_letter (wM y_M_letter b_M_letter 1 (some .boolean)) (rmN 1 0 0) (PreN [.int x0]) (QcN Qc) 0 0 (fun _ => False) := by
  refine w_enterN (by decide +kernel) (Nat.le_of_ble_eq_true rfl) (fun p e s m args below meth c S hr hlk ls hl => ?_)
  have hl : lv_has ls 1 [(0, .int x0)] := hl
  refine lv_iload_n S.1 S.2.1 d_M_letter_0 rfl (lv_at hl 0 rfl) ?_
  refine lv_bipush (v := 97) S.1 S.2.1 d_M_letter_1 (by decide) ?_
  refine lv_bipush (v := 122) S.1 S.2.1 d_M_letter_3 (by decide) ?_
  refine w_cn (w_rs (rest := []) S (c_M_in l x0 (97 : Int32) (122 : Int32) _ h) (w_cb (fr := 0) (lv := 0) S.2.2.2.2 k_960 k_958 k_8 yd_M_in rfl rfl ⟨Nat.le_of_ble_eq_true rfl, Nat.le_of_ble_eq_true rfl⟩) k_959 rfl hl.1 rfl (Nat.le_of_ble_eq_true rfl) d_M_letter_5 ⟨Nat.le_refl _, Nat.le_refl _⟩) (fun r_5 h => ?_)
  exact w_zretN S hr hlk h.1 h.2 d_M_letter_8
set_option maxHeartbeats 4000000 in
set_option maxRecDepth 20000 in
theorem wB_M_sign_76 (S : CallFix p m c b_M_sign 1 s args lw_tg R_Mod) (hr : meth.sig.returnType = some .boolean) (hlk : meth.locks = false) {Qc : Int32 → Prop} : ∀  (ls : Array Slot), lv_has ls 1 [] → B_M_sign_76 Qc   → W p l e (rmN 1 0 0) s m args below meth c s.heap [] 0 0 (MQ below (QcN Qc) args s 0 0 (fun _ => False)) (F0 m 76 ls []) := by
  intro  ls hl h
  refine lv_iconst (v := 1) S.1 S.2.1 d_M_sign_76 (by decide) ?_
  refine lv_goto (tgt := 81) S.1 S.2.1 d_M_sign_77 (by decide) ?_
  exact w_zretN S hr hlk isB1 h d_M_sign_81
set_option maxHeartbeats 4000000 in
set_option maxRecDepth 20000 in
theorem c_M_sign (l : Launch) (x0 : Int32) (Qc : Int32 → Prop) (h : P_M_sign x0 Qc) : Met l y_M_sign (wM y_M_sign b_M_sign 1 (some .boolean)) (rmN 1 0 0) (PreN [.int x0]) (QcN Qc) 0 0 (fun _ => False) := by
  refine w_enterN (by decide +kernel) (Nat.le_of_ble_eq_true rfl) (fun p e s m args below meth c S hr hlk ls hl => ?_)
  have hl : lv_has ls 1 [(0, .int x0)] := hl
  refine lv_iload_n S.1 S.2.1 d_M_sign_0 rfl (lv_at hl 0 rfl) ?_
  refine lv_bipush (v := 40) S.1 S.2.1 d_M_sign_1 (by decide) ?_
  refine lv_bipush (v := 43) S.1 S.2.1 d_M_sign_3 (by decide) ?_
  refine w_cn (w_rs (rest := []) S (c_M_in l x0 (40 : Int32) (43 : Int32) _ h) (w_cb (fr := 0) (lv := 0) S.2.2.2.2 k_960 k_958 k_8 yd_M_in rfl rfl ⟨Nat.le_of_ble_eq_true rfl, Nat.le_of_ble_eq_true rfl⟩) k_959 rfl hl.1 rfl (Nat.le_of_ble_eq_true rfl) d_M_sign_5 ⟨Nat.le_refl _, Nat.le_refl _⟩) (fun r_5 h => ?_)
  refine lv_if_ne (tgt := 40) S.1 S.2.1 d_M_sign_8 (by decide) (fun q_8 => ?_) (fun q_8 => ?_)
  · have h := h.2 q_8
    refine lv_iconst (v := 1) S.1 S.2.1 d_M_sign_40 (by decide) ?_
    exact w_zretN S hr hlk isB1 h d_M_sign_41
  · have h := h.1 q_8
    refine lv_iload_n S.1 S.2.1 d_M_sign_11 rfl (lv_at hl 0 rfl) ?_
    refine lv_bipush (v := 45) S.1 S.2.1 d_M_sign_12 (by decide) ?_
    refine lv_icmp_eq (tgt := 40) S.1 S.2.1 d_M_sign_14 (by decide) (fun q_14 => ?_) (fun q_14 => ?_)
    · have h := h.1 q_14
      refine lv_iconst (v := 1) S.1 S.2.1 d_M_sign_40 (by decide) ?_
      exact w_zretN S hr hlk isB1 h d_M_sign_41
    · have h := h.2 q_14
      refine lv_iload_n S.1 S.2.1 d_M_sign_17 rfl (lv_at hl 0 rfl) ?_
      refine lv_bipush (v := 46) S.1 S.2.1 d_M_sign_18 (by decide) ?_
      refine lv_icmp_eq (tgt := 40) S.1 S.2.1 d_M_sign_20 (by decide) (fun q_20 => ?_) (fun q_20 => ?_)
      · have h := h.1 q_20
        refine lv_iconst (v := 1) S.1 S.2.1 d_M_sign_40 (by decide) ?_
        exact w_zretN S hr hlk isB1 h d_M_sign_41
      · have h := h.2 q_20
        refine lv_iload_n S.1 S.2.1 d_M_sign_23 rfl (lv_at hl 0 rfl) ?_
        refine lv_bipush (v := 58) S.1 S.2.1 d_M_sign_24 (by decide) ?_
        refine lv_icmp_eq (tgt := 40) S.1 S.2.1 d_M_sign_26 (by decide) (fun q_26 => ?_) (fun q_26 => ?_)
        · have h := h.1 q_26
          refine lv_iconst (v := 1) S.1 S.2.1 d_M_sign_40 (by decide) ?_
          exact w_zretN S hr hlk isB1 h d_M_sign_41
        · have h := h.2 q_26
          refine lv_iload_n S.1 S.2.1 d_M_sign_29 rfl (lv_at hl 0 rfl) ?_
          refine lv_bipush (v := 61) S.1 S.2.1 d_M_sign_30 (by decide) ?_
          refine lv_bipush (v := 63) S.1 S.2.1 d_M_sign_32 (by decide) ?_
          refine w_cn (w_rs (rest := []) S (c_M_in l x0 (61 : Int32) (63 : Int32) _ h) (w_cb (fr := 0) (lv := 0) S.2.2.2.2 k_960 k_958 k_8 yd_M_in rfl rfl ⟨Nat.le_of_ble_eq_true rfl, Nat.le_of_ble_eq_true rfl⟩) k_959 rfl hl.1 rfl (Nat.le_of_ble_eq_true rfl) d_M_sign_34 ⟨Nat.le_refl _, Nat.le_refl _⟩) (fun r_34 h => ?_)
          refine lv_if_eq (tgt := 42) S.1 S.2.1 d_M_sign_37 (by decide) (fun q_37 => ?_) (fun q_37 => ?_)
          · have h := h.1 q_37
            refine lv_iload_n S.1 S.2.1 d_M_sign_42 rfl (lv_at hl 0 rfl) ?_
            refine lv_bipush (v := 33) S.1 S.2.1 d_M_sign_43 (by decide) ?_
            refine lv_icmp_eq (tgt := 76) S.1 S.2.1 d_M_sign_45 (by decide) (fun q_45 => ?_) (fun q_45 => ?_)
            · have h := h.1 q_45
              exact wB_M_sign_76 S hr hlk   _ (lv_sub hl [] rfl) h
            · have h := h.2 q_45
              refine lv_iload_n S.1 S.2.1 d_M_sign_48 rfl (lv_at hl 0 rfl) ?_
              refine lv_bipush (v := 36) S.1 S.2.1 d_M_sign_49 (by decide) ?_
              refine lv_icmp_eq (tgt := 76) S.1 S.2.1 d_M_sign_51 (by decide) (fun q_51 => ?_) (fun q_51 => ?_)
              · have h := h.1 q_51
                exact wB_M_sign_76 S hr hlk   _ (lv_sub hl [] rfl) h
              · have h := h.2 q_51
                refine lv_iload_n S.1 S.2.1 d_M_sign_54 rfl (lv_at hl 0 rfl) ?_
                refine lv_bipush (v := 91) S.1 S.2.1 d_M_sign_55 (by decide) ?_
                refine lv_bipush (v := 94) S.1 S.2.1 d_M_sign_57 (by decide) ?_
                refine w_cn (w_rs (rest := []) S (c_M_in l x0 (91 : Int32) (94 : Int32) _ h) (w_cb (fr := 0) (lv := 0) S.2.2.2.2 k_960 k_958 k_8 yd_M_in rfl rfl ⟨Nat.le_of_ble_eq_true rfl, Nat.le_of_ble_eq_true rfl⟩) k_959 rfl hl.1 rfl (Nat.le_of_ble_eq_true rfl) d_M_sign_59 ⟨Nat.le_refl _, Nat.le_refl _⟩) (fun r_59 h => ?_)
                refine lv_if_ne (tgt := 76) S.1 S.2.1 d_M_sign_62 (by decide) (fun q_62 => ?_) (fun q_62 => ?_)
                · have h := h.2 q_62
                  exact wB_M_sign_76 S hr hlk   _ (lv_sub hl [] rfl) h
                · have h := h.1 q_62
                  refine lv_iload_n S.1 S.2.1 d_M_sign_65 rfl (lv_at hl 0 rfl) ?_
                  refine lv_bipush (v := 123) S.1 S.2.1 d_M_sign_66 (by decide) ?_
                  refine lv_bipush (v := 125) S.1 S.2.1 d_M_sign_68 (by decide) ?_
                  refine w_cn (w_rs (rest := []) S (c_M_in l x0 (123 : Int32) (125 : Int32) _ h) (w_cb (fr := 0) (lv := 0) S.2.2.2.2 k_960 k_958 k_8 yd_M_in rfl rfl ⟨Nat.le_of_ble_eq_true rfl, Nat.le_of_ble_eq_true rfl⟩) k_959 rfl hl.1 rfl (Nat.le_of_ble_eq_true rfl) d_M_sign_70 ⟨Nat.le_refl _, Nat.le_refl _⟩) (fun r_70 h => ?_)
                  refine lv_if_eq (tgt := 80) S.1 S.2.1 d_M_sign_73 (by decide) (fun q_73 => ?_) (fun q_73 => ?_)
                  · have h := h.1 q_73
                    refine lv_iconst (v := 0) S.1 S.2.1 d_M_sign_80 (by decide) ?_
                    exact w_zretN S hr hlk isB0 h d_M_sign_81
                  · have h := h.2 q_73
                    exact wB_M_sign_76 S hr hlk   _ (lv_sub hl [] rfl) h
          · have h := h.2 q_37
            refine lv_iconst (v := 1) S.1 S.2.1 d_M_sign_40 (by decide) ?_
            exact w_zretN S hr hlk isB1 h d_M_sign_41
set_option maxHeartbeats 4000000 in
set_option maxRecDepth 20000 in
theorem wB_M_write_27 (S : CallFix p m c b_M_write 2 s args lw_tg R_Mod) (hr : meth.sig.returnType = some .int) (hlk : meth.locks = false) (hK : GK x s) (hA : ∀ q : Nat, s.heap.size ≤ q → A q) {Qc : Int32 → MS → Prop} : ∀ (x1 : Int32) (u : MS) (ls : Array Slot) (H : Heap) (locs : List Loc), lv_has ls 2 [(0, .ref (a 0)), (1, .int x1)] → wd x A s.heap ((mcl x a) u) H locs → B_M_write_27 Qc  x1 u → W p l e (rmN 2 0 0) s m args below meth c H locs 0 0 (MQ below (QcI x (mcl x a) A Qc) args s 0 0 A) (F0 m 27 ls []) := by
  intro x1 u ls H locs hl hw h
  refine lv_aload_n S.1 S.2.1 d_M_write_27 rfl (lv_at hl 0 rfl) ?_
  refine mg_drafted S hK hw d_M_write_28 ?_
  refine lv_bipush (v := 32) S.1 S.2.1 d_M_write_31 (by decide) ?_
  refine lv_icmp_ne (tgt := 39) S.1 S.2.1 d_M_write_33 (by decide) (fun q_33 => ?_) (fun q_33 => ?_)
  · have h := h.2 q_33
    refine lv_aload_n S.1 S.2.1 d_M_write_39 rfl (lv_at hl 0 rfl) ?_
    refine mg_draft S hK hw d_M_write_40 ?_
    refine lv_aload_n S.1 S.2.1 d_M_write_43 rfl (lv_at hl 0 rfl) ?_
    refine mg_drafted S hK hw d_M_write_44 ?_
    refine lv_iload_n S.1 S.2.1 d_M_write_47 rfl (lv_at hl 1 rfl) ?_
    have hg := h.1
    have h := h.2
    refine mt_draft S hK hw hg d_M_write_48 (fun H locs hw => ?_)
    refine lv_aload_n S.1 S.2.1 d_M_write_49 rfl (lv_at hl 0 rfl) ?_
    refine lv_dup S.1 S.2.1 d_M_write_50 rfl ?_
    refine mg_drafted S hK hw d_M_write_51 ?_
    refine lv_iconst (v := 1) S.1 S.2.1 d_M_write_54 (by decide) ?_
    refine lv_iadd S.1 S.2.1 d_M_write_55 ?_
    refine mp_drafted S hK hw d_M_write_56 (fun H locs hw => ?_)
    refine lv_aload_n S.1 S.2.1 d_M_write_59 rfl (lv_at hl 0 rfl) ?_
    refine mg_drafted S hK hw d_M_write_60 ?_
    exact w_iret S hr hlk hK hw h d_M_write_63
  · have h := h.1 q_33
    refine lv_bipush (v := -2) S.1 S.2.1 d_M_write_36 (by decide) ?_
    exact w_iret S hr hlk hK hw h d_M_write_38
set_option maxHeartbeats 4000000 in
set_option maxRecDepth 20000 in
theorem c_M_write {x : GX} {a : Nat → Nat} (l : Launch) (x1 : Int32) (u : MS) (sz : Nat) (Qc : Int32 → MS → Prop) (h : P_M_write x1 u Qc) : Met l y_M_write (wM y_M_write b_M_write 2 (some .int)) (rmN 2 0 0) (PreC x (mcl x a) [.ref (a 0), .int x1] u sz) (QcI x (mcl x a) (va_A ((mcl x a) u) sz) Qc) 0 0 (va_A ((mcl x a) u) sz) := by
  refine w_enter (by decide +kernel) (Nat.le_of_ble_eq_true rfl) (fun p e s m args below meth c S hr hlk _ hK hA hw ls hl => ?_)
  have hl : lv_has ls 2 [(0, .ref (a 0)), (1, .int x1)] := hl
  refine lv_iload_n S.1 S.2.1 d_M_write_0 rfl (lv_at hl 1 rfl) ?_
  refine w_cn (w_rs (rest := []) S (c_M_letter l x1 _ h) (w_cb (fr := 0) (lv := 0) S.2.2.2.2 k_957 k_955 k_8 yd_M_letter rfl rfl ⟨Nat.le_of_ble_eq_true rfl, Nat.le_of_ble_eq_true rfl⟩) k_956 rfl hl.1 rfl (Nat.le_of_ble_eq_true rfl) d_M_write_1 ⟨Nat.le_refl _, Nat.le_refl _⟩) (fun r_1 h => ?_)
  refine lv_if_ne (tgt := 27) S.1 S.2.1 d_M_write_4 (by decide) (fun q_4 => ?_) (fun q_4 => ?_)
  · have h := h.2 q_4
    exact wB_M_write_27 S hr hlk hK hA  x1 u _ _ _ (lv_sub hl [0, 1] rfl) hw h
  · have h := h.1 q_4
    refine lv_iload_n S.1 S.2.1 d_M_write_7 rfl (lv_at hl 1 rfl) ?_
    refine lv_bipush (v := 48) S.1 S.2.1 d_M_write_8 (by decide) ?_
    refine lv_bipush (v := 57) S.1 S.2.1 d_M_write_10 (by decide) ?_
    refine w_cn (w_rs (rest := []) S (c_M_in l x1 (48 : Int32) (57 : Int32) _ h) (w_cb (fr := 0) (lv := 0) S.2.2.2.2 k_960 k_958 k_8 yd_M_in rfl rfl ⟨Nat.le_of_ble_eq_true rfl, Nat.le_of_ble_eq_true rfl⟩) k_959 rfl hl.1 rfl (Nat.le_of_ble_eq_true rfl) d_M_write_12 ⟨Nat.le_refl _, Nat.le_refl _⟩) (fun r_12 h => ?_)
    refine lv_if_ne (tgt := 27) S.1 S.2.1 d_M_write_15 (by decide) (fun q_15 => ?_) (fun q_15 => ?_)
    · have h := h.2 q_15
      exact wB_M_write_27 S hr hlk hK hA  x1 u _ _ _ (lv_sub hl [0, 1] rfl) hw h
    · have h := h.1 q_15
      refine lv_iload_n S.1 S.2.1 d_M_write_18 rfl (lv_at hl 1 rfl) ?_
      refine w_cn (w_rs (rest := []) S (c_M_sign l x1 _ h) (w_cb (fr := 0) (lv := 0) S.2.2.2.2 k_963 k_961 k_8 yd_M_sign rfl rfl ⟨Nat.le_of_ble_eq_true rfl, Nat.le_of_ble_eq_true rfl⟩) k_962 rfl hl.1 rfl (Nat.le_of_ble_eq_true rfl) d_M_write_19 ⟨Nat.le_refl _, Nat.le_refl _⟩) (fun r_19 h => ?_)
      refine lv_if_ne (tgt := 27) S.1 S.2.1 d_M_write_22 (by decide) (fun q_22 => ?_) (fun q_22 => ?_)
      · have h := h.2 q_22
        exact wB_M_write_27 S hr hlk hK hA  x1 u _ _ _ (lv_sub hl [0, 1] rfl) hw h
      · have h := h.1 q_22
        refine lv_iconst (v := -1) S.1 S.2.1 d_M_write_25 (by decide) ?_
        exact w_iret S hr hlk hK hw h d_M_write_26
set_option maxHeartbeats 4000000 in
set_option maxRecDepth 20000 in
theorem c_M_c {x : GX} {a : Nat → Nat} (l : Launch) (x1 : Int32) (u : MS) (sz : Nat) (Qc : Int32 → MS → Prop) (h : P_M_c x1 u Qc) : Met l y_M_c (wM y_M_c b_M_c 2 (some .int)) (rmN 0 0 0) (PreC x (mcl x a) [.ref (a 0), .int x1] u sz) (QcI x (mcl x a) (va_A ((mcl x a) u) sz) Qc) 0 0 (va_A ((mcl x a) u) sz) := by
  refine w_enter (by decide +kernel) (Nat.le_of_ble_eq_true rfl) (fun p e s m args below meth c S hr hlk _ hK hA hw ls hl => ?_)
  have hl : lv_has ls 2 [(0, .ref (a 0)), (1, .int x1)] := hl
  refine lv_iload_n S.1 S.2.1 d_M_c_0 rfl (lv_at hl 1 rfl) ?_
  refine lv_aload_n S.1 S.2.1 d_M_c_1 rfl (lv_at hl 0 rfl) ?_
  refine mg_drafted S hK hw d_M_c_2 ?_
  refine lv_icmp_ge (tgt := 17) S.1 S.2.1 d_M_c_5 (by decide) (fun q_5 => ?_) (fun q_5 => ?_)
  · have h := h.1 q_5
    refine lv_iconst (v := 0) S.1 S.2.1 d_M_c_17 (by decide) ?_
    exact w_iret S hr hlk hK hw h d_M_c_18
  · have h := h.2 q_5
    refine lv_aload_n S.1 S.2.1 d_M_c_8 rfl (lv_at hl 0 rfl) ?_
    refine mg_draft S hK hw d_M_c_9 ?_
    refine lv_iload_n S.1 S.2.1 d_M_c_12 rfl (lv_at hl 1 rfl) ?_
    have hg := h.1
    have h := h.2
    refine ml_draft S hK hw hg d_M_c_13 ?_
    refine lv_goto (tgt := 18) S.1 S.2.1 d_M_c_14 (by decide) ?_
    exact w_iret S hr hlk hK hw h d_M_c_18
set_option maxHeartbeats 4000000 in
set_option maxRecDepth 20000 in
theorem wB_M_opener_58 (S : CallFix p m c b_M_opener 3 s args lw_tg R_Mod) (hr : meth.sig.returnType = some .int) (hlk : meth.locks = false) (hK : GK x s) (hA : ∀ q : Nat, s.heap.size ≤ q → A q) {Qc : Int32 → MS → Prop} : ∀  (u : MS) (ls : Array Slot) (H : Heap) (locs : List Loc), lv_has ls 3 [] → wd x A s.heap ((mcl x a) u) H locs → B_M_opener_58 Qc   u → W p l e (rmN 1 0 0) s m args below meth c H locs 0 0 (MQ below (QcI x (mcl x a) A Qc) args s 0 0 A) (F0 m 58 ls []) := by
  intro  u ls H locs hl hw h
  refine lv_iconst (v := 3) S.1 S.2.1 d_M_opener_58 (by decide) ?_
  refine lv_goto (tgt := 63) S.1 S.2.1 d_M_opener_59 (by decide) ?_
  exact w_iret S hr hlk hK hw h d_M_opener_63
set_option maxHeartbeats 4000000 in
set_option maxRecDepth 20000 in
theorem c_M_opener {x : GX} {a : Nat → Nat} (l : Launch) (x1 : Int32) (u : MS) (sz : Nat) (Qc : Int32 → MS → Prop) (h : P_M_opener x1 u Qc) : Met l y_M_opener (wM y_M_opener b_M_opener 3 (some .int)) (rmN 1 0 0) (PreC x (mcl x a) [.ref (a 0), .int x1] u sz) (QcI x (mcl x a) (va_A ((mcl x a) u) sz) Qc) 0 0 (va_A ((mcl x a) u) sz) := by
  refine w_enter (by decide +kernel) (Nat.le_of_ble_eq_true rfl) (fun p e s m args below meth c S hr hlk _ hK hA hw ls hl => ?_)
  have hl : lv_has ls 3 [(0, .ref (a 0)), (1, .int x1)] := hl
  refine lv_aload_n S.1 S.2.1 d_M_opener_0 rfl (lv_at hl 0 rfl) ?_
  refine lv_iload_n S.1 S.2.1 d_M_opener_1 rfl (lv_at hl 1 rfl) ?_
  refine w_ci hA hw (w_rv (rest := []) S hK hw (c_M_c l x1 u _ _ h) (ci := 0) (q0 := 0) rfl rfl (w_cb (fr := 0) (lv := 0) S.2.2.2.2 k_979 k_976 k_8 yd_M_c rfl rfl ⟨Nat.le_of_ble_eq_true rfl, Nat.le_of_ble_eq_true rfl⟩) k_978 s_36 rfl hl.1 rfl (Nat.le_of_ble_eq_true rfl) d_M_opener_2 ⟨Nat.le_refl _, Nat.le_refl _⟩) (fun r_2 u_2 H locs h hw => ?_)
  refine lv_bipush (v := 40) S.1 S.2.1 d_M_opener_5 (by decide) ?_
  refine lv_icmp_eq (tgt := 12) S.1 S.2.1 d_M_opener_7 (by decide) (fun q_7 => ?_) (fun q_7 => ?_)
  · have h := h.1 q_7
    refine lv_aload_n S.1 S.2.1 d_M_opener_12 rfl (lv_at hl 0 rfl) ?_
    refine lv_iload_n S.1 S.2.1 d_M_opener_13 rfl (lv_at hl 1 rfl) ?_
    refine lv_iconst (v := 1) S.1 S.2.1 d_M_opener_14 (by decide) ?_
    refine lv_iadd S.1 S.2.1 d_M_opener_15 ?_
    refine w_ci hA hw (w_rv (rest := []) S hK hw (c_M_c l (x1 + (1 : Int32)) u_2 _ _ h) (ci := 0) (q0 := 0) rfl rfl (w_cb (fr := 0) (lv := 0) S.2.2.2.2 k_979 k_976 k_8 yd_M_c rfl rfl ⟨Nat.le_of_ble_eq_true rfl, Nat.le_of_ble_eq_true rfl⟩) k_978 s_36 rfl hl.1 rfl (Nat.le_of_ble_eq_true rfl) d_M_opener_16 ⟨Nat.le_refl _, Nat.le_refl _⟩) (fun r_16 u_16 H locs h hw => ?_)
    refine lv_bipush (v := 63) S.1 S.2.1 d_M_opener_19 (by decide) ?_
    refine lv_icmp_eq (tgt := 26) S.1 S.2.1 d_M_opener_21 (by decide) (fun q_21 => ?_) (fun q_21 => ?_)
    · have h := h.1 q_21
      refine lv_aload_n S.1 S.2.1 d_M_opener_26 rfl (lv_at hl 0 rfl) ?_
      refine lv_iload_n S.1 S.2.1 d_M_opener_27 rfl (lv_at hl 1 rfl) ?_
      refine lv_iconst (v := 2) S.1 S.2.1 d_M_opener_28 (by decide) ?_
      refine lv_iadd S.1 S.2.1 d_M_opener_29 ?_
      refine w_ci hA hw (w_rv (rest := []) S hK hw (c_M_c l (x1 + (2 : Int32)) u_16 _ _ h) (ci := 0) (q0 := 0) rfl rfl (w_cb (fr := 0) (lv := 0) S.2.2.2.2 k_979 k_976 k_8 yd_M_c rfl rfl ⟨Nat.le_of_ble_eq_true rfl, Nat.le_of_ble_eq_true rfl⟩) k_978 s_36 rfl hl.1 rfl (Nat.le_of_ble_eq_true rfl) d_M_opener_30 ⟨Nat.le_refl _, Nat.le_refl _⟩) (fun r_30 u_30 H locs h hw => ?_)
      refine lv_istore_n (lv' := [(2, .int r_30), (0, .ref (a 0)), (1, .int x1)]) S.1 S.2.1 d_M_opener_33 rfl hl (by decide) rfl (fun ls hl => ?_)
      refine lv_iload_n S.1 S.2.1 d_M_opener_34 rfl (lv_at hl 0 rfl) ?_
      refine lv_bipush (v := 58) S.1 S.2.1 d_M_opener_35 (by decide) ?_
      refine lv_icmp_eq (tgt := 58) S.1 S.2.1 d_M_opener_37 (by decide) (fun q_37 => ?_) (fun q_37 => ?_)
      · have h := h.1 q_37
        exact wB_M_opener_58 S hr hlk hK hA   u_30 _ _ _ (lv_sub hl [] rfl) hw h
      · have h := h.2 q_37
        refine lv_iload_n S.1 S.2.1 d_M_opener_40 rfl (lv_at hl 0 rfl) ?_
        refine lv_bipush (v := 61) S.1 S.2.1 d_M_opener_41 (by decide) ?_
        refine lv_icmp_eq (tgt := 58) S.1 S.2.1 d_M_opener_43 (by decide) (fun q_43 => ?_) (fun q_43 => ?_)
        · have h := h.1 q_43
          exact wB_M_opener_58 S hr hlk hK hA   u_30 _ _ _ (lv_sub hl [] rfl) hw h
        · have h := h.2 q_43
          refine lv_iload_n S.1 S.2.1 d_M_opener_46 rfl (lv_at hl 0 rfl) ?_
          refine lv_bipush (v := 33) S.1 S.2.1 d_M_opener_47 (by decide) ?_
          refine lv_icmp_eq (tgt := 58) S.1 S.2.1 d_M_opener_49 (by decide) (fun q_49 => ?_) (fun q_49 => ?_)
          · have h := h.1 q_49
            exact wB_M_opener_58 S hr hlk hK hA   u_30 _ _ _ (lv_sub hl [] rfl) hw h
          · have h := h.2 q_49
            refine lv_iload_n S.1 S.2.1 d_M_opener_52 rfl (lv_at hl 0 rfl) ?_
            refine lv_bipush (v := 62) S.1 S.2.1 d_M_opener_53 (by decide) ?_
            refine lv_icmp_ne (tgt := 62) S.1 S.2.1 d_M_opener_55 (by decide) (fun q_55 => ?_) (fun q_55 => ?_)
            · have h := h.2 q_55
              refine lv_iconst (v := 0) S.1 S.2.1 d_M_opener_62 (by decide) ?_
              exact w_iret S hr hlk hK hw h d_M_opener_63
            · have h := h.1 q_55
              exact wB_M_opener_58 S hr hlk hK hA   u_30 _ _ _ (lv_sub hl [] rfl) hw h
    · have h := h.2 q_21
      refine lv_iconst (v := 1) S.1 S.2.1 d_M_opener_24 (by decide) ?_
      exact w_iret S hr hlk hK hw h d_M_opener_25
  · have h := h.2 q_7
    refine lv_iconst (v := 0) S.1 S.2.1 d_M_opener_10 (by decide) ?_
    exact w_iret S hr hlk hK hw h d_M_opener_11
set_option maxHeartbeats 4000000 in
set_option maxRecDepth 20000 in
theorem wB_M_behindClass_100 (S : CallFix p m c b_M_behindClass 5 s args lw_tg R_Mod) (hr : meth.sig.returnType = some .int) (hlk : meth.locks = false) (hK : GK x s) (hA : ∀ q : Nat, s.heap.size ≤ q → A q) {Qc : Int32 → MS → Prop} {K24 : Int32 → Int32 → MS → Prop} (ih24 : ∀ (x2 : Int32) (x3 : Int32) (u : MS) (ls : Array Slot) (H : Heap) (locs : List Loc), lv_has ls 5 [(0, .ref (a 0)), (2, .int x2), (3, .int x3)] → wd x A s.heap ((mcl x a) u) H locs → K24 x2 x3 u → W p l e (rmN 2 0 0) s m args below meth c H locs 0 0 (MQ below (QcI x (mcl x a) A Qc) args s 0 0 A) (F0 m 24 ls [])) : ∀ (x3 : Int32) (t0 : Int32) (t1 : Int32) (u : MS) (ls : Array Slot) (H : Heap) (locs : List Loc), lv_has ls 5 [(0, .ref (a 0)), (3, .int x3)] → wd x A s.heap ((mcl x a) u) H locs → B_M_behindClass_100 Qc K24 x3 t0 t1 u → W p l e (rmN 2 0 0) s m args below meth c H locs 0 0 (MQ below (QcI x (mcl x a) A Qc) args s 0 0 A) (F0 m 100 ls [.int t1, .int t0]) := by
  intro x3 t0 t1 u ls H locs hl hw h
  refine lv_iadd S.1 S.2.1 d_M_behindClass_100 ?_
  refine lv_topi (fun x2_101 ex2_101 => ?_)
  have h := h x2_101 ex2_101
  refine lv_istore_n (lv' := [(2, .int x2_101), (0, .ref (a 0)), (3, .int x3)]) S.1 S.2.1 d_M_behindClass_101 rfl hl (by decide) rfl (fun ls hl => ?_)
  obtain ⟨x3_102, ex3_102⟩ : ∃ y : Int32, y = x3 + 1 := ⟨_, rfl⟩
  have h := h x3_102 ex3_102
  refine lv_iinc (v := x3_102) (lv' := [(3, .int x3_102), (2, .int x2_101), (0, .ref (a 0))]) S.1 S.2.1 d_M_behindClass_102 hl (k := 2) rfl (by rw [ex3_102]; rfl) (by decide) rfl (fun ls hl => ?_)
  refine lv_goto (tgt := 24) S.1 S.2.1 d_M_behindClass_105 (by decide) ?_
  exact ih24 x2_101 x3_102 u _ _ _ (lv_sub hl [2, 1, 0] rfl) hw h
set_option maxHeartbeats 4000000 in
set_option maxRecDepth 20000 in
theorem wB_M_behindClass_89 (S : CallFix p m c b_M_behindClass 5 s args lw_tg R_Mod) (hr : meth.sig.returnType = some .int) (hlk : meth.locks = false) (hK : GK x s) (hA : ∀ q : Nat, s.heap.size ≤ q → A q) {Qc : Int32 → MS → Prop} {K24 : Int32 → Int32 → MS → Prop} (ih24 : ∀ (x2 : Int32) (x3 : Int32) (u : MS) (ls : Array Slot) (H : Heap) (locs : List Loc), lv_has ls 5 [(0, .ref (a 0)), (2, .int x2), (3, .int x3)] → wd x A s.heap ((mcl x a) u) H locs → K24 x2 x3 u → W p l e (rmN 2 0 0) s m args below meth c H locs 0 0 (MQ below (QcI x (mcl x a) A Qc) args s 0 0 A) (F0 m 24 ls [])) : ∀ (x2 : Int32) (x3 : Int32) (x4 : Int32) (u : MS) (ls : Array Slot) (H : Heap) (locs : List Loc), lv_has ls 5 [(0, .ref (a 0)), (2, .int x2), (3, .int x3), (4, .int x4)] → wd x A s.heap ((mcl x a) u) H locs → B_M_behindClass_89 Qc K24 x2 x3 x4 u → W p l e (rmN 2 0 0) s m args below meth c H locs 0 0 (MQ below (QcI x (mcl x a) A Qc) args s 0 0 A) (F0 m 89 ls []) := by
  intro x2 x3 x4 u ls H locs hl hw h
  refine lv_iload_n S.1 S.2.1 d_M_behindClass_89 rfl (lv_at hl 1 rfl) ?_
  refine lv_iload S.1 S.2.1 d_M_behindClass_90 (lv_at hl 3 rfl) ?_
  refine lv_if_eq (tgt := 99) S.1 S.2.1 d_M_behindClass_92 (by decide) (fun q_92 => ?_) (fun q_92 => ?_)
  · have h := h.1 q_92
    refine lv_iconst (v := 1) S.1 S.2.1 d_M_behindClass_99 (by decide) ?_
    exact wB_M_behindClass_100 S hr hlk hK hA ih24 x3 x2 (1 : Int32) u _ _ _ (lv_sub hl [0, 2] rfl) hw h
  · have h := h.2 q_92
    refine lv_iconst (v := 3) S.1 S.2.1 d_M_behindClass_95 (by decide) ?_
    refine lv_goto (tgt := 100) S.1 S.2.1 d_M_behindClass_96 (by decide) ?_
    exact wB_M_behindClass_100 S hr hlk hK hA ih24 x3 x2 (3 : Int32) u _ _ _ (lv_sub hl [0, 2] rfl) hw h
set_option maxHeartbeats 4000000 in
set_option maxRecDepth 20000 in
theorem wB_M_behindClass_52 (S : CallFix p m c b_M_behindClass 5 s args lw_tg R_Mod) (hr : meth.sig.returnType = some .int) (hlk : meth.locks = false) (hK : GK x s) (hA : ∀ q : Nat, s.heap.size ≤ q → A q) {Qc : Int32 → MS → Prop} {K24 : Int32 → Int32 → MS → Prop} (ih24 : ∀ (x2 : Int32) (x3 : Int32) (u : MS) (ls : Array Slot) (H : Heap) (locs : List Loc), lv_has ls 5 [(0, .ref (a 0)), (2, .int x2), (3, .int x3)] → wd x A s.heap ((mcl x a) u) H locs → K24 x2 x3 u → W p l e (rmN 2 0 0) s m args below meth c H locs 0 0 (MQ below (QcI x (mcl x a) A Qc) args s 0 0 A) (F0 m 24 ls [])) : ∀ (x2 : Int32) (x3 : Int32) (t0 : Int32) (u : MS) (ls : Array Slot) (H : Heap) (locs : List Loc), lv_has ls 5 [(0, .ref (a 0)), (2, .int x2), (3, .int x3)] → wd x A s.heap ((mcl x a) u) H locs → B_M_behindClass_52 Qc K24 x2 x3 t0 u → W p l e (rmN 2 0 0) s m args below meth c H locs 0 0 (MQ below (QcI x (mcl x a) A Qc) args s 0 0 A) (F0 m 52 ls [.int t0]) := by
  intro x2 x3 t0 u ls H locs hl hw h
  refine lv_istore (lv' := [(4, .int t0), (0, .ref (a 0)), (2, .int x2), (3, .int x3)]) S.1 S.2.1 d_M_behindClass_52 hl (by decide) rfl (fun ls hl => ?_)
  refine lv_iload S.1 S.2.1 d_M_behindClass_54 (lv_at hl 0 rfl) ?_
  refine lv_if_eq (tgt := 89) S.1 S.2.1 d_M_behindClass_56 (by decide) (fun q_56 => ?_) (fun q_56 => ?_)
  · have h := h.1 q_56
    exact wB_M_behindClass_89 S hr hlk hK hA ih24 x2 x3 t0 u _ _ _ (lv_sub hl [1, 2, 3, 0] rfl) hw h
  · have h := h.2 q_56
    refine lv_aload_n S.1 S.2.1 d_M_behindClass_59 rfl (lv_at hl 1 rfl) ?_
    refine lv_iload_n S.1 S.2.1 d_M_behindClass_60 rfl (lv_at hl 2 rfl) ?_
    refine lv_iconst (v := 2) S.1 S.2.1 d_M_behindClass_61 (by decide) ?_
    refine lv_iadd S.1 S.2.1 d_M_behindClass_62 ?_
    refine w_ci hA hw (w_rv (rest := []) S hK hw (c_M_c l (x2 + (2 : Int32)) u _ _ h) (ci := 0) (q0 := 0) rfl rfl (w_cb (fr := 0) (lv := 0) S.2.2.2.2 k_979 k_976 k_8 yd_M_c rfl rfl ⟨Nat.le_of_ble_eq_true rfl, Nat.le_of_ble_eq_true rfl⟩) k_978 s_36 rfl hl.1 rfl (Nat.le_of_ble_eq_true rfl) d_M_behindClass_63 ⟨Nat.le_refl _, Nat.le_refl _⟩) (fun r_63 u_63 H locs h hw => ?_)
    refine w_cn (w_rs (rest := []) S (c_M_letter l r_63 _ h) (w_cb (fr := 0) (lv := 0) S.2.2.2.2 k_957 k_955 k_8 yd_M_letter rfl rfl ⟨Nat.le_of_ble_eq_true rfl, Nat.le_of_ble_eq_true rfl⟩) k_956 rfl hl.1 rfl (Nat.le_of_ble_eq_true rfl) d_M_behindClass_66 ⟨Nat.le_refl _, Nat.le_refl _⟩) (fun r_66 h => ?_)
    refine lv_if_eq (tgt := 87) S.1 S.2.1 d_M_behindClass_69 (by decide) (fun q_69 => ?_) (fun q_69 => ?_)
    · have h := h.1 q_69
      refine lv_iconst (v := -1) S.1 S.2.1 d_M_behindClass_87 (by decide) ?_
      exact w_iret S hr hlk hK hw h d_M_behindClass_88
    · have h := h.2 q_69
      refine lv_aload_n S.1 S.2.1 d_M_behindClass_72 rfl (lv_at hl 1 rfl) ?_
      refine lv_iload_n S.1 S.2.1 d_M_behindClass_73 rfl (lv_at hl 2 rfl) ?_
      refine lv_iconst (v := 2) S.1 S.2.1 d_M_behindClass_74 (by decide) ?_
      refine lv_iadd S.1 S.2.1 d_M_behindClass_75 ?_
      refine w_ci hA hw (w_rv (rest := []) S hK hw (c_M_c l (x2 + (2 : Int32)) u_63 _ _ h) (ci := 0) (q0 := 0) rfl rfl (w_cb (fr := 0) (lv := 0) S.2.2.2.2 k_979 k_976 k_8 yd_M_c rfl rfl ⟨Nat.le_of_ble_eq_true rfl, Nat.le_of_ble_eq_true rfl⟩) k_978 s_36 rfl hl.1 rfl (Nat.le_of_ble_eq_true rfl) d_M_behindClass_76 ⟨Nat.le_refl _, Nat.le_refl _⟩) (fun r_76 u_76 H locs h hw => ?_)
      refine lv_aload_n S.1 S.2.1 d_M_behindClass_79 rfl (lv_at hl 1 rfl) ?_
      refine lv_iload_n S.1 S.2.1 d_M_behindClass_80 rfl (lv_at hl 2 rfl) ?_
      refine w_ci hA hw (w_rv (rest := [.int r_76]) S hK hw (c_M_c l x2 u_76 _ _ h) (ci := 0) (q0 := 0) rfl rfl (w_cb (fr := 0) (lv := 0) S.2.2.2.2 k_979 k_976 k_8 yd_M_c rfl rfl ⟨Nat.le_of_ble_eq_true rfl, Nat.le_of_ble_eq_true rfl⟩) k_978 s_36 rfl hl.1 rfl (Nat.le_of_ble_eq_true rfl) d_M_behindClass_81 ⟨Nat.le_refl _, Nat.le_refl _⟩) (fun r_81 u_81 H locs h hw => ?_)
      refine lv_icmp_ge (tgt := 89) S.1 S.2.1 d_M_behindClass_84 (by decide) (fun q_84 => ?_) (fun q_84 => ?_)
      · have h := h.1 q_84
        exact wB_M_behindClass_89 S hr hlk hK hA ih24 x2 x3 t0 u_81 _ _ _ (lv_sub hl [1, 2, 3, 0] rfl) hw h
      · have h := h.2 q_84
        refine lv_iconst (v := -1) S.1 S.2.1 d_M_behindClass_87 (by decide) ?_
        exact w_iret S hr hlk hK hw h d_M_behindClass_88
set_option maxHeartbeats 4000000 in
set_option maxRecDepth 20000 in
theorem wL_M_behindClass_24 (S : CallFix p m c b_M_behindClass 5 s args lw_tg R_Mod) (hr : meth.sig.returnType = some .int) (hlk : meth.locks = false) (hK : GK x s) (hA : ∀ q : Nat, s.heap.size ≤ q → A q) {Qc : Int32 → MS → Prop} : ∀ (n : Nat) (x2 : Int32) (x3 : Int32) (u : MS) (ls : Array Slot) (H : Heap) (locs : List Loc), lv_has ls 5 [(0, .ref (a 0)), (2, .int x2), (3, .int x3)] → wd x A s.heap ((mcl x a) u) H locs → L_M_behindClass_24 Qc  n x2 x3 u → W p l e (rmN 2 0 0) s m args below meth c H locs 0 0 (MQ below (QcI x (mcl x a) A Qc) args s 0 0 A) (F0 m 24 ls []) := by
  intro n
  induction n with
  | zero =>
    intro x2 x3 u ls H locs hl hw h
    exact absurd h id
  | succ n ih =>
    intro x2 x3 u ls H locs hl hw h
    refine lv_aload_n S.1 S.2.1 d_M_behindClass_24 rfl (lv_at hl 0 rfl) ?_
    refine lv_iload_n S.1 S.2.1 d_M_behindClass_25 rfl (lv_at hl 1 rfl) ?_
    refine w_ci hA hw (w_rv (rest := []) S hK hw (c_M_c l x2 u _ _ h) (ci := 0) (q0 := 0) rfl rfl (w_cb (fr := 0) (lv := 0) S.2.2.2.2 k_979 k_976 k_8 yd_M_c rfl rfl ⟨Nat.le_of_ble_eq_true rfl, Nat.le_of_ble_eq_true rfl⟩) k_978 s_36 rfl hl.1 rfl (Nat.le_of_ble_eq_true rfl) d_M_behindClass_26 ⟨Nat.le_refl _, Nat.le_refl _⟩) (fun r_26 u_26 H locs h hw => ?_)
    refine w_cn (w_rs (rest := []) S (c_M_letter l r_26 _ h) (w_cb (fr := 0) (lv := 0) S.2.2.2.2 k_957 k_955 k_8 yd_M_letter rfl rfl ⟨Nat.le_of_ble_eq_true rfl, Nat.le_of_ble_eq_true rfl⟩) k_956 rfl hl.1 rfl (Nat.le_of_ble_eq_true rfl) d_M_behindClass_29 ⟨Nat.le_refl _, Nat.le_refl _⟩) (fun r_29 h => ?_)
    refine lv_if_eq (tgt := 108) S.1 S.2.1 d_M_behindClass_32 (by decide) (fun q_32 => ?_) (fun q_32 => ?_)
    · have h := h.1 q_32
      refine lv_iload_n S.1 S.2.1 d_M_behindClass_108 rfl (lv_at hl 2 rfl) ?_
      refine lv_if_le (tgt := 128) S.1 S.2.1 d_M_behindClass_109 (by decide) (fun q_109 => ?_) (fun q_109 => ?_)
      · have h := h.1 q_109
        refine lv_iconst (v := -1) S.1 S.2.1 d_M_behindClass_128 (by decide) ?_
        exact w_iret S hr hlk hK hw h d_M_behindClass_129
      · have h := h.2 q_109
        refine lv_aload_n S.1 S.2.1 d_M_behindClass_112 rfl (lv_at hl 0 rfl) ?_
        refine lv_iload_n S.1 S.2.1 d_M_behindClass_113 rfl (lv_at hl 1 rfl) ?_
        refine w_ci hA hw (w_rv (rest := []) S hK hw (c_M_c l x2 u_26 _ _ h) (ci := 0) (q0 := 0) rfl rfl (w_cb (fr := 0) (lv := 0) S.2.2.2.2 k_979 k_976 k_8 yd_M_c rfl rfl ⟨Nat.le_of_ble_eq_true rfl, Nat.le_of_ble_eq_true rfl⟩) k_978 s_36 rfl hl.1 rfl (Nat.le_of_ble_eq_true rfl) d_M_behindClass_114 ⟨Nat.le_refl _, Nat.le_refl _⟩) (fun r_114 u_114 H locs h hw => ?_)
        refine lv_bipush (v := 93) S.1 S.2.1 d_M_behindClass_117 (by decide) ?_
        refine lv_icmp_ne (tgt := 128) S.1 S.2.1 d_M_behindClass_119 (by decide) (fun q_119 => ?_) (fun q_119 => ?_)
        · have h := h.2 q_119
          refine lv_iconst (v := -1) S.1 S.2.1 d_M_behindClass_128 (by decide) ?_
          exact w_iret S hr hlk hK hw h d_M_behindClass_129
        · have h := h.1 q_119
          refine lv_iload_n S.1 S.2.1 d_M_behindClass_122 rfl (lv_at hl 1 rfl) ?_
          refine lv_iconst (v := 1) S.1 S.2.1 d_M_behindClass_123 (by decide) ?_
          refine lv_iadd S.1 S.2.1 d_M_behindClass_124 ?_
          refine lv_goto (tgt := 129) S.1 S.2.1 d_M_behindClass_125 (by decide) ?_
          exact w_iret S hr hlk hK hw h d_M_behindClass_129
    · have h := h.2 q_32
      refine lv_aload_n S.1 S.2.1 d_M_behindClass_35 rfl (lv_at hl 0 rfl) ?_
      refine lv_iload_n S.1 S.2.1 d_M_behindClass_36 rfl (lv_at hl 1 rfl) ?_
      refine lv_iconst (v := 1) S.1 S.2.1 d_M_behindClass_37 (by decide) ?_
      refine lv_iadd S.1 S.2.1 d_M_behindClass_38 ?_
      refine w_ci hA hw (w_rv (rest := []) S hK hw (c_M_c l (x2 + (1 : Int32)) u_26 _ _ h) (ci := 0) (q0 := 0) rfl rfl (w_cb (fr := 0) (lv := 0) S.2.2.2.2 k_979 k_976 k_8 yd_M_c rfl rfl ⟨Nat.le_of_ble_eq_true rfl, Nat.le_of_ble_eq_true rfl⟩) k_978 s_36 rfl hl.1 rfl (Nat.le_of_ble_eq_true rfl) d_M_behindClass_39 ⟨Nat.le_refl _, Nat.le_refl _⟩) (fun r_39 u_39 H locs h hw => ?_)
      refine lv_bipush (v := 45) S.1 S.2.1 d_M_behindClass_42 (by decide) ?_
      refine lv_icmp_ne (tgt := 51) S.1 S.2.1 d_M_behindClass_44 (by decide) (fun q_44 => ?_) (fun q_44 => ?_)
      · have h := h.2 q_44
        refine lv_iconst (v := 0) S.1 S.2.1 d_M_behindClass_51 (by decide) ?_
        exact wB_M_behindClass_52 S hr hlk hK hA ih x2 x3 (0 : Int32) u_39 _ _ _ (lv_sub hl [0, 1, 2] rfl) hw h
      · have h := h.1 q_44
        refine lv_iconst (v := 1) S.1 S.2.1 d_M_behindClass_47 (by decide) ?_
        refine lv_goto (tgt := 52) S.1 S.2.1 d_M_behindClass_48 (by decide) ?_
        exact wB_M_behindClass_52 S hr hlk hK hA ih x2 x3 (1 : Int32) u_39 _ _ _ (lv_sub hl [0, 1, 2] rfl) hw h
set_option maxHeartbeats 4000000 in
set_option maxRecDepth 20000 in
theorem wB_M_behindClass_21 (S : CallFix p m c b_M_behindClass 5 s args lw_tg R_Mod) (hr : meth.sig.returnType = some .int) (hlk : meth.locks = false) (hK : GK x s) (hA : ∀ q : Nat, s.heap.size ≤ q → A q) {Qc : Int32 → MS → Prop} : ∀ (t0 : Int32) (u : MS) (ls : Array Slot) (H : Heap) (locs : List Loc), lv_has ls 5 [(0, .ref (a 0))] → wd x A s.heap ((mcl x a) u) H locs → B_M_behindClass_21 Qc  t0 u → W p l e (rmN 2 0 0) s m args below meth c H locs 0 0 (MQ below (QcI x (mcl x a) A Qc) args s 0 0 A) (F0 m 21 ls [.int t0]) := by
  intro t0 u ls H locs hl hw h
  refine lv_istore_n (lv' := [(2, .int t0), (0, .ref (a 0))]) S.1 S.2.1 d_M_behindClass_21 rfl hl (by decide) rfl (fun ls hl => ?_)
  refine lv_iconst (v := 0) S.1 S.2.1 d_M_behindClass_22 (by decide) ?_
  refine lv_istore_n (lv' := [(3, .int (0 : Int32)), (2, .int t0), (0, .ref (a 0))]) S.1 S.2.1 d_M_behindClass_23 rfl hl (by decide) rfl (fun ls hl => ?_)
  obtain ⟨n9, h⟩ := h
  exact wL_M_behindClass_24 S hr hlk hK hA  n9 t0 (0 : Int32) u _ _ _ (lv_sub hl [2, 1, 0] rfl) hw h
set_option maxHeartbeats 4000000 in
set_option maxRecDepth 20000 in
theorem c_M_behindClass {x : GX} {a : Nat → Nat} (l : Launch) (x1 : Int32) (u : MS) (sz : Nat) (Qc : Int32 → MS → Prop) (h : P_M_behindClass x1 u Qc) : Met l y_M_behindClass (wM y_M_behindClass b_M_behindClass 5 (some .int)) (rmN 2 0 0) (PreC x (mcl x a) [.ref (a 0), .int x1] u sz) (QcI x (mcl x a) (va_A ((mcl x a) u) sz) Qc) 0 0 (va_A ((mcl x a) u) sz) := by
  refine w_enter (by decide +kernel) (Nat.le_of_ble_eq_true rfl) (fun p e s m args below meth c S hr hlk _ hK hA hw ls hl => ?_)
  have hl : lv_has ls 5 [(0, .ref (a 0)), (1, .int x1)] := hl
  refine lv_aload_n S.1 S.2.1 d_M_behindClass_0 rfl (lv_at hl 0 rfl) ?_
  refine lv_iload_n S.1 S.2.1 d_M_behindClass_1 rfl (lv_at hl 1 rfl) ?_
  refine lv_iconst (v := 1) S.1 S.2.1 d_M_behindClass_2 (by decide) ?_
  refine lv_iadd S.1 S.2.1 d_M_behindClass_3 ?_
  refine w_ci hA hw (w_rv (rest := []) S hK hw (c_M_c l (x1 + (1 : Int32)) u _ _ h) (ci := 0) (q0 := 0) rfl rfl (w_cb (fr := 0) (lv := 0) S.2.2.2.2 k_979 k_976 k_8 yd_M_c rfl rfl ⟨Nat.le_of_ble_eq_true rfl, Nat.le_of_ble_eq_true rfl⟩) k_978 s_36 rfl hl.1 rfl (Nat.le_of_ble_eq_true rfl) d_M_behindClass_4 ⟨Nat.le_refl _, Nat.le_refl _⟩) (fun r_4 u_4 H locs h hw => ?_)
  refine lv_bipush (v := 94) S.1 S.2.1 d_M_behindClass_7 (by decide) ?_
  refine lv_icmp_ne (tgt := 18) S.1 S.2.1 d_M_behindClass_9 (by decide) (fun q_9 => ?_) (fun q_9 => ?_)
  · have h := h.2 q_9
    refine lv_iload_n S.1 S.2.1 d_M_behindClass_18 rfl (lv_at hl 1 rfl) ?_
    refine lv_iconst (v := 1) S.1 S.2.1 d_M_behindClass_19 (by decide) ?_
    refine lv_iadd S.1 S.2.1 d_M_behindClass_20 ?_
    exact wB_M_behindClass_21 S hr hlk hK hA  (x1 + (1 : Int32)) u_4 _ _ _ (lv_sub hl [0] rfl) hw h
  · have h := h.1 q_9
    refine lv_iload_n S.1 S.2.1 d_M_behindClass_12 rfl (lv_at hl 1 rfl) ?_
    refine lv_iconst (v := 2) S.1 S.2.1 d_M_behindClass_13 (by decide) ?_
    refine lv_iadd S.1 S.2.1 d_M_behindClass_14 ?_
    refine lv_goto (tgt := 21) S.1 S.2.1 d_M_behindClass_15 (by decide) ?_
    exact wB_M_behindClass_21 S hr hlk hK hA  (x1 + (2 : Int32)) u_4 _ _ _ (lv_sub hl [0] rfl) hw h
set_option maxHeartbeats 4000000 in
set_option maxRecDepth 20000 in
theorem wB_M_behindPlain_130 (S : CallFix p m c b_M_behindPlain 4 s args lw_tg R_Mod) (hr : meth.sig.returnType = some .int) (hlk : meth.locks = false) (hK : GK x s) (hA : ∀ q : Nat, s.heap.size ≤ q → A q) {Qc : Int32 → MS → Prop} : ∀ (x1 : Int32) (t0 : Int32) (u : MS) (ls : Array Slot) (H : Heap) (locs : List Loc), lv_has ls 4 [(1, .int x1)] → wd x A s.heap ((mcl x a) u) H locs → B_M_behindPlain_130 Qc  x1 t0 u → W p l e (rmN 3 0 0) s m args below meth c H locs 0 0 (MQ below (QcI x (mcl x a) A Qc) args s 0 0 A) (F0 m 130 ls [.int t0]) := by
  intro x1 t0 u ls H locs hl hw h
  refine lv_istore_n (lv' := [(3, .int t0), (1, .int x1)]) S.1 S.2.1 d_M_behindPlain_130 rfl hl (by decide) rfl (fun ls hl => ?_)
  refine lv_iload_n S.1 S.2.1 d_M_behindPlain_131 rfl (lv_at hl 0 rfl) ?_
  refine lv_if_eq (tgt := 141) S.1 S.2.1 d_M_behindPlain_132 (by decide) (fun q_132 => ?_) (fun q_132 => ?_)
  · have h := h.1 q_132
    refine lv_iconst (v := -1) S.1 S.2.1 d_M_behindPlain_141 (by decide) ?_
    exact w_iret S hr hlk hK hw h d_M_behindPlain_142
  · have h := h.2 q_132
    refine lv_iload_n S.1 S.2.1 d_M_behindPlain_135 rfl (lv_at hl 1 rfl) ?_
    refine lv_iconst (v := 4) S.1 S.2.1 d_M_behindPlain_136 (by decide) ?_
    refine lv_iadd S.1 S.2.1 d_M_behindPlain_137 ?_
    refine lv_goto (tgt := 142) S.1 S.2.1 d_M_behindPlain_138 (by decide) ?_
    exact w_iret S hr hlk hK hw h d_M_behindPlain_142
set_option maxHeartbeats 4000000 in
set_option maxRecDepth 20000 in
theorem wB_M_behindPlain_129 (S : CallFix p m c b_M_behindPlain 4 s args lw_tg R_Mod) (hr : meth.sig.returnType = some .int) (hlk : meth.locks = false) (hK : GK x s) (hA : ∀ q : Nat, s.heap.size ≤ q → A q) {Qc : Int32 → MS → Prop} : ∀ (x1 : Int32) (u : MS) (ls : Array Slot) (H : Heap) (locs : List Loc), lv_has ls 4 [(1, .int x1)] → wd x A s.heap ((mcl x a) u) H locs → B_M_behindPlain_129 Qc  x1 u → W p l e (rmN 3 0 0) s m args below meth c H locs 0 0 (MQ below (QcI x (mcl x a) A Qc) args s 0 0 A) (F0 m 129 ls []) := by
  intro x1 u ls H locs hl hw h
  refine lv_iconst (v := 0) S.1 S.2.1 d_M_behindPlain_129 (by decide) ?_
  exact wB_M_behindPlain_130 S hr hlk hK hA  x1 (0 : Int32) u _ _ _ (lv_sub hl [0] rfl) hw h
set_option maxHeartbeats 4000000 in
set_option maxRecDepth 20000 in
theorem c_M_behindPlain {x : GX} {a : Nat → Nat} (l : Launch) (x1 : Int32) (u : MS) (sz : Nat) (Qc : Int32 → MS → Prop) (h : P_M_behindPlain x1 u Qc) : Met l y_M_behindPlain (wM y_M_behindPlain b_M_behindPlain 4 (some .int)) (rmN 3 0 0) (PreC x (mcl x a) [.ref (a 0), .int x1] u sz) (QcI x (mcl x a) (va_A ((mcl x a) u) sz) Qc) 0 0 (va_A ((mcl x a) u) sz) := by
  refine w_enter (by decide +kernel) (Nat.le_of_ble_eq_true rfl) (fun p e s m args below meth c S hr hlk _ hK hA hw ls hl => ?_)
  have hl : lv_has ls 4 [(0, .ref (a 0)), (1, .int x1)] := hl
  refine lv_aload_n S.1 S.2.1 d_M_behindPlain_0 rfl (lv_at hl 0 rfl) ?_
  refine lv_iload_n S.1 S.2.1 d_M_behindPlain_1 rfl (lv_at hl 1 rfl) ?_
  refine w_ci hA hw (w_rv (rest := []) S hK hw (c_M_c l x1 u _ _ h) (ci := 0) (q0 := 0) rfl rfl (w_cb (fr := 0) (lv := 0) S.2.2.2.2 k_979 k_976 k_8 yd_M_c rfl rfl ⟨Nat.le_of_ble_eq_true rfl, Nat.le_of_ble_eq_true rfl⟩) k_978 s_36 rfl hl.1 rfl (Nat.le_of_ble_eq_true rfl) d_M_behindPlain_2 ⟨Nat.le_refl _, Nat.le_refl _⟩) (fun r_2 u_2 H locs h hw => ?_)
  refine lv_istore_n (lv' := [(2, .int r_2), (0, .ref (a 0)), (1, .int x1)]) S.1 S.2.1 d_M_behindPlain_5 rfl hl (by decide) rfl (fun ls hl => ?_)
  refine lv_iload_n S.1 S.2.1 d_M_behindPlain_6 rfl (lv_at hl 0 rfl) ?_
  refine w_cn (w_rs (rest := []) S (c_M_letter l r_2 _ h) (w_cb (fr := 0) (lv := 0) S.2.2.2.2 k_957 k_955 k_8 yd_M_letter rfl rfl ⟨Nat.le_of_ble_eq_true rfl, Nat.le_of_ble_eq_true rfl⟩) k_956 rfl hl.1 rfl (Nat.le_of_ble_eq_true rfl) d_M_behindPlain_7 ⟨Nat.le_refl _, Nat.le_refl _⟩) (fun r_7 h => ?_)
  refine lv_if_ne (tgt := 31) S.1 S.2.1 d_M_behindPlain_10 (by decide) (fun q_10 => ?_) (fun q_10 => ?_)
  · have h := h.2 q_10
    refine lv_iload_n S.1 S.2.1 d_M_behindPlain_31 rfl (lv_at hl 2 rfl) ?_
    refine lv_iconst (v := 1) S.1 S.2.1 d_M_behindPlain_32 (by decide) ?_
    refine lv_iadd S.1 S.2.1 d_M_behindPlain_33 ?_
    exact w_iret S hr hlk hK hw h d_M_behindPlain_34
  · have h := h.1 q_10
    refine lv_iload_n S.1 S.2.1 d_M_behindPlain_13 rfl (lv_at hl 0 rfl) ?_
    refine lv_bipush (v := 46) S.1 S.2.1 d_M_behindPlain_14 (by decide) ?_
    refine lv_icmp_eq (tgt := 31) S.1 S.2.1 d_M_behindPlain_16 (by decide) (fun q_16 => ?_) (fun q_16 => ?_)
    · have h := h.1 q_16
      refine lv_iload_n S.1 S.2.1 d_M_behindPlain_31 rfl (lv_at hl 2 rfl) ?_
      refine lv_iconst (v := 1) S.1 S.2.1 d_M_behindPlain_32 (by decide) ?_
      refine lv_iadd S.1 S.2.1 d_M_behindPlain_33 ?_
      exact w_iret S hr hlk hK hw h d_M_behindPlain_34
    · have h := h.2 q_16
      refine lv_iload_n S.1 S.2.1 d_M_behindPlain_19 rfl (lv_at hl 0 rfl) ?_
      refine lv_bipush (v := 94) S.1 S.2.1 d_M_behindPlain_20 (by decide) ?_
      refine lv_icmp_eq (tgt := 31) S.1 S.2.1 d_M_behindPlain_22 (by decide) (fun q_22 => ?_) (fun q_22 => ?_)
      · have h := h.1 q_22
        refine lv_iload_n S.1 S.2.1 d_M_behindPlain_31 rfl (lv_at hl 2 rfl) ?_
        refine lv_iconst (v := 1) S.1 S.2.1 d_M_behindPlain_32 (by decide) ?_
        refine lv_iadd S.1 S.2.1 d_M_behindPlain_33 ?_
        exact w_iret S hr hlk hK hw h d_M_behindPlain_34
      · have h := h.2 q_22
        refine lv_iload_n S.1 S.2.1 d_M_behindPlain_25 rfl (lv_at hl 0 rfl) ?_
        refine lv_bipush (v := 36) S.1 S.2.1 d_M_behindPlain_26 (by decide) ?_
        refine lv_icmp_ne (tgt := 35) S.1 S.2.1 d_M_behindPlain_28 (by decide) (fun q_28 => ?_) (fun q_28 => ?_)
        · have h := h.2 q_28
          refine lv_iload_n S.1 S.2.1 d_M_behindPlain_35 rfl (lv_at hl 0 rfl) ?_
          refine lv_bipush (v := 91) S.1 S.2.1 d_M_behindPlain_36 (by decide) ?_
          refine lv_icmp_ne (tgt := 47) S.1 S.2.1 d_M_behindPlain_38 (by decide) (fun q_38 => ?_) (fun q_38 => ?_)
          · have h := h.2 q_38
            refine lv_iload_n S.1 S.2.1 d_M_behindPlain_47 rfl (lv_at hl 0 rfl) ?_
            refine lv_bipush (v := 92) S.1 S.2.1 d_M_behindPlain_48 (by decide) ?_
            refine lv_icmp_ne (tgt := 78) S.1 S.2.1 d_M_behindPlain_50 (by decide) (fun q_50 => ?_) (fun q_50 => ?_)
            · have h := h.2 q_50
              refine lv_iload_n S.1 S.2.1 d_M_behindPlain_78 rfl (lv_at hl 0 rfl) ?_
              refine lv_bipush (v := 40) S.1 S.2.1 d_M_behindPlain_79 (by decide) ?_
              refine lv_icmp_ne (tgt := 129) S.1 S.2.1 d_M_behindPlain_81 (by decide) (fun q_81 => ?_) (fun q_81 => ?_)
              · have h := h.2 q_81
                exact wB_M_behindPlain_129 S hr hlk hK hA  x1 u_2 _ _ _ (lv_sub hl [2] rfl) hw h
              · have h := h.1 q_81
                refine lv_aload_n S.1 S.2.1 d_M_behindPlain_84 rfl (lv_at hl 1 rfl) ?_
                refine lv_iload_n S.1 S.2.1 d_M_behindPlain_85 rfl (lv_at hl 2 rfl) ?_
                refine lv_iconst (v := 1) S.1 S.2.1 d_M_behindPlain_86 (by decide) ?_
                refine lv_iadd S.1 S.2.1 d_M_behindPlain_87 ?_
                refine w_ci hA hw (w_rv (rest := []) S hK hw (c_M_c l (x1 + (1 : Int32)) u_2 _ _ h) (ci := 0) (q0 := 0) rfl rfl (w_cb (fr := 0) (lv := 0) S.2.2.2.2 k_979 k_976 k_8 yd_M_c rfl rfl ⟨Nat.le_of_ble_eq_true rfl, Nat.le_of_ble_eq_true rfl⟩) k_978 s_36 rfl hl.1 rfl (Nat.le_of_ble_eq_true rfl) d_M_behindPlain_88 ⟨Nat.le_refl _, Nat.le_refl _⟩) (fun r_88 u_88 H locs h hw => ?_)
                refine lv_bipush (v := 63) S.1 S.2.1 d_M_behindPlain_91 (by decide) ?_
                refine lv_icmp_ne (tgt := 129) S.1 S.2.1 d_M_behindPlain_93 (by decide) (fun q_93 => ?_) (fun q_93 => ?_)
                · have h := h.2 q_93
                  exact wB_M_behindPlain_129 S hr hlk hK hA  x1 u_88 _ _ _ (lv_sub hl [2] rfl) hw h
                · have h := h.1 q_93
                  refine lv_aload_n S.1 S.2.1 d_M_behindPlain_96 rfl (lv_at hl 1 rfl) ?_
                  refine lv_iload_n S.1 S.2.1 d_M_behindPlain_97 rfl (lv_at hl 2 rfl) ?_
                  refine lv_iconst (v := 2) S.1 S.2.1 d_M_behindPlain_98 (by decide) ?_
                  refine lv_iadd S.1 S.2.1 d_M_behindPlain_99 ?_
                  refine w_ci hA hw (w_rv (rest := []) S hK hw (c_M_c l (x1 + (2 : Int32)) u_88 _ _ h) (ci := 0) (q0 := 0) rfl rfl (w_cb (fr := 0) (lv := 0) S.2.2.2.2 k_979 k_976 k_8 yd_M_c rfl rfl ⟨Nat.le_of_ble_eq_true rfl, Nat.le_of_ble_eq_true rfl⟩) k_978 s_36 rfl hl.1 rfl (Nat.le_of_ble_eq_true rfl) d_M_behindPlain_100 ⟨Nat.le_refl _, Nat.le_refl _⟩) (fun r_100 u_100 H locs h hw => ?_)
                  refine lv_bipush (v := 48) S.1 S.2.1 d_M_behindPlain_103 (by decide) ?_
                  refine lv_bipush (v := 52) S.1 S.2.1 d_M_behindPlain_105 (by decide) ?_
                  refine w_cn (w_rs (rest := []) S (c_M_in l r_100 (48 : Int32) (52 : Int32) _ h) (w_cb (fr := 0) (lv := 0) S.2.2.2.2 k_960 k_958 k_8 yd_M_in rfl rfl ⟨Nat.le_of_ble_eq_true rfl, Nat.le_of_ble_eq_true rfl⟩) k_959 rfl hl.1 rfl (Nat.le_of_ble_eq_true rfl) d_M_behindPlain_107 ⟨Nat.le_refl _, Nat.le_refl _⟩) (fun r_107 h => ?_)
                  refine lv_if_eq (tgt := 129) S.1 S.2.1 d_M_behindPlain_110 (by decide) (fun q_110 => ?_) (fun q_110 => ?_)
                  · have h := h.1 q_110
                    exact wB_M_behindPlain_129 S hr hlk hK hA  x1 u_100 _ _ _ (lv_sub hl [2] rfl) hw h
                  · have h := h.2 q_110
                    refine lv_aload_n S.1 S.2.1 d_M_behindPlain_113 rfl (lv_at hl 1 rfl) ?_
                    refine lv_iload_n S.1 S.2.1 d_M_behindPlain_114 rfl (lv_at hl 2 rfl) ?_
                    refine lv_iconst (v := 3) S.1 S.2.1 d_M_behindPlain_115 (by decide) ?_
                    refine lv_iadd S.1 S.2.1 d_M_behindPlain_116 ?_
                    refine w_ci hA hw (w_rv (rest := []) S hK hw (c_M_c l (x1 + (3 : Int32)) u_100 _ _ h) (ci := 0) (q0 := 0) rfl rfl (w_cb (fr := 0) (lv := 0) S.2.2.2.2 k_979 k_976 k_8 yd_M_c rfl rfl ⟨Nat.le_of_ble_eq_true rfl, Nat.le_of_ble_eq_true rfl⟩) k_978 s_36 rfl hl.1 rfl (Nat.le_of_ble_eq_true rfl) d_M_behindPlain_117 ⟨Nat.le_refl _, Nat.le_refl _⟩) (fun r_117 u_117 H locs h hw => ?_)
                    refine lv_bipush (v := 41) S.1 S.2.1 d_M_behindPlain_120 (by decide) ?_
                    refine lv_icmp_ne (tgt := 129) S.1 S.2.1 d_M_behindPlain_122 (by decide) (fun q_122 => ?_) (fun q_122 => ?_)
                    · have h := h.2 q_122
                      exact wB_M_behindPlain_129 S hr hlk hK hA  x1 u_117 _ _ _ (lv_sub hl [2] rfl) hw h
                    · have h := h.1 q_122
                      refine lv_iconst (v := 1) S.1 S.2.1 d_M_behindPlain_125 (by decide) ?_
                      refine lv_goto (tgt := 130) S.1 S.2.1 d_M_behindPlain_126 (by decide) ?_
                      exact wB_M_behindPlain_130 S hr hlk hK hA  x1 (1 : Int32) u_117 _ _ _ (lv_sub hl [2] rfl) hw h
            · have h := h.1 q_50
              refine lv_aload_n S.1 S.2.1 d_M_behindPlain_53 rfl (lv_at hl 1 rfl) ?_
              refine lv_iload_n S.1 S.2.1 d_M_behindPlain_54 rfl (lv_at hl 2 rfl) ?_
              refine lv_iconst (v := 1) S.1 S.2.1 d_M_behindPlain_55 (by decide) ?_
              refine lv_iadd S.1 S.2.1 d_M_behindPlain_56 ?_
              refine w_ci hA hw (w_rv (rest := []) S hK hw (c_M_c l (x1 + (1 : Int32)) u_2 _ _ h) (ci := 0) (q0 := 0) rfl rfl (w_cb (fr := 0) (lv := 0) S.2.2.2.2 k_979 k_976 k_8 yd_M_c rfl rfl ⟨Nat.le_of_ble_eq_true rfl, Nat.le_of_ble_eq_true rfl⟩) k_978 s_36 rfl hl.1 rfl (Nat.le_of_ble_eq_true rfl) d_M_behindPlain_57 ⟨Nat.le_refl _, Nat.le_refl _⟩) (fun r_57 u_57 H locs h hw => ?_)
              refine lv_bipush (v := 49) S.1 S.2.1 d_M_behindPlain_60 (by decide) ?_
              refine lv_bipush (v := 52) S.1 S.2.1 d_M_behindPlain_62 (by decide) ?_
              refine w_cn (w_rs (rest := []) S (c_M_in l r_57 (49 : Int32) (52 : Int32) _ h) (w_cb (fr := 0) (lv := 0) S.2.2.2.2 k_960 k_958 k_8 yd_M_in rfl rfl ⟨Nat.le_of_ble_eq_true rfl, Nat.le_of_ble_eq_true rfl⟩) k_959 rfl hl.1 rfl (Nat.le_of_ble_eq_true rfl) d_M_behindPlain_64 ⟨Nat.le_refl _, Nat.le_refl _⟩) (fun r_64 h => ?_)
              refine lv_if_eq (tgt := 76) S.1 S.2.1 d_M_behindPlain_67 (by decide) (fun q_67 => ?_) (fun q_67 => ?_)
              · have h := h.1 q_67
                refine lv_iconst (v := -1) S.1 S.2.1 d_M_behindPlain_76 (by decide) ?_
                exact w_iret S hr hlk hK hw h d_M_behindPlain_77
              · have h := h.2 q_67
                refine lv_iload_n S.1 S.2.1 d_M_behindPlain_70 rfl (lv_at hl 2 rfl) ?_
                refine lv_iconst (v := 2) S.1 S.2.1 d_M_behindPlain_71 (by decide) ?_
                refine lv_iadd S.1 S.2.1 d_M_behindPlain_72 ?_
                refine lv_goto (tgt := 77) S.1 S.2.1 d_M_behindPlain_73 (by decide) ?_
                exact w_iret S hr hlk hK hw h d_M_behindPlain_77
          · have h := h.1 q_38
            refine lv_aload_n S.1 S.2.1 d_M_behindPlain_41 rfl (lv_at hl 1 rfl) ?_
            refine lv_iload_n S.1 S.2.1 d_M_behindPlain_42 rfl (lv_at hl 2 rfl) ?_
            refine w_ci hA hw (w_rv (rest := []) S hK hw (c_M_behindClass l x1 u_2 _ _ h) (ci := 0) (q0 := 0) rfl rfl (w_cb (fr := 0) (lv := 0) S.2.2.2.2 k_987 k_984 k_8 yd_M_behindClass rfl rfl ⟨Nat.le_of_ble_eq_true rfl, Nat.le_of_ble_eq_true rfl⟩) k_986 s_38 rfl hl.1 rfl (Nat.le_of_ble_eq_true rfl) d_M_behindPlain_43 ⟨Nat.le_refl _, Nat.le_refl _⟩) (fun r_43 u_43 H locs h hw => ?_)
            exact w_iret S hr hlk hK hw h d_M_behindPlain_46
        · have h := h.1 q_28
          refine lv_iload_n S.1 S.2.1 d_M_behindPlain_31 rfl (lv_at hl 2 rfl) ?_
          refine lv_iconst (v := 1) S.1 S.2.1 d_M_behindPlain_32 (by decide) ?_
          refine lv_iadd S.1 S.2.1 d_M_behindPlain_33 ?_
          exact w_iret S hr hlk hK hw h d_M_behindPlain_34
end MW
