set_option maxRecDepth 100000
theorem dJ3_length_0 : decode cJ3_length 0 = .ok (.aload_n 0, 1) := by decide +kernel
theorem dJ3_length_1 : decode cJ3_length 1 = .ok (.getfield 9, 3) := by decide +kernel
theorem dJ3_length_4 : decode cJ3_length 4 = .ok (.arraylength, 1) := by decide +kernel
theorem dJ3_length_5 : decode cJ3_length 5 = .ok (.aload_n 0, 1) := by decide +kernel
theorem dJ3_length_6 : decode cJ3_length 6 = .ok (.invokevirtual 335, 3) := by decide +kernel
theorem dJ3_length_9 : decode cJ3_length 9 = .ok (.ishr, 1) := by decide +kernel
theorem dJ3_length_10 : decode cJ3_length 10 = .ok (.ireturn, 1) := by decide +kernel
theorem dJ3_coder_0 : decode cJ3_coder 0 = .ok (.getstatic 38, 3) := by decide +kernel
theorem dJ3_coder_3 : decode cJ3_coder 3 = .ok (.ifCond .eq 10, 3) := by decide +kernel
theorem dJ3_coder_6 : decode cJ3_coder 6 = .ok (.aload_n 0, 1) := by decide +kernel
theorem dJ3_coder_7 : decode cJ3_coder 7 = .ok (.getfield 15, 3) := by decide +kernel
theorem dJ3_coder_10 : decode cJ3_coder 10 = .ok (.goto 4, 3) := by decide +kernel
theorem dJ3_coder_13 : decode cJ3_coder 13 = .ok (.iconst 1, 1) := by decide +kernel
theorem dJ3_coder_14 : decode cJ3_coder 14 = .ok (.ireturn, 1) := by decide +kernel
theorem dJ3_charAt_0 : decode cJ3_charAt 0 = .ok (.aload_n 0, 1) := by decide +kernel
theorem dJ3_charAt_1 : decode cJ3_charAt 1 = .ok (.invokevirtual 492, 3) := by decide +kernel
theorem dJ3_charAt_4 : decode cJ3_charAt 4 = .ok (.ifCond .eq 12, 3) := by decide +kernel
theorem dJ3_charAt_7 : decode cJ3_charAt 7 = .ok (.aload_n 0, 1) := by decide +kernel
theorem dJ3_charAt_8 : decode cJ3_charAt 8 = .ok (.getfield 9, 3) := by decide +kernel
theorem dJ3_charAt_11 : decode cJ3_charAt 11 = .ok (.iload_n 1, 1) := by decide +kernel
theorem dJ3_charAt_12 : decode cJ3_charAt 12 = .ok (.invokestatic 495, 3) := by decide +kernel
theorem dJ3_charAt_15 : decode cJ3_charAt 15 = .ok (.ireturn, 1) := by decide +kernel
theorem dJ3_charAt_16 : decode cJ3_charAt 16 = .ok (.aload_n 0, 1) := by decide +kernel
theorem dJ3_charAt_17 : decode cJ3_charAt 17 = .ok (.getfield 9, 3) := by decide +kernel
theorem dJ3_charAt_20 : decode cJ3_charAt 20 = .ok (.iload_n 1, 1) := by decide +kernel
theorem dJ3_charAt_21 : decode cJ3_charAt 21 = .ok (.invokestatic 498, 3) := by decide +kernel
theorem dJ3_charAt_24 : decode cJ3_charAt 24 = .ok (.ireturn, 1) := by decide +kernel
theorem dJ3_isLatin1_0 : decode cJ3_isLatin1 0 = .ok (.getstatic 38, 3) := by decide +kernel
theorem dJ3_isLatin1_3 : decode cJ3_isLatin1 3 = .ok (.ifCond .eq 14, 3) := by decide +kernel
theorem dJ3_isLatin1_6 : decode cJ3_isLatin1 6 = .ok (.aload_n 0, 1) := by decide +kernel
theorem dJ3_isLatin1_7 : decode cJ3_isLatin1 7 = .ok (.getfield 15, 3) := by decide +kernel
theorem dJ3_isLatin1_10 : decode cJ3_isLatin1 10 = .ok (.ifCond .ne 7, 3) := by decide +kernel
theorem dJ3_isLatin1_13 : decode cJ3_isLatin1 13 = .ok (.iconst 1, 1) := by decide +kernel
theorem dJ3_isLatin1_14 : decode cJ3_isLatin1 14 = .ok (.goto 4, 3) := by decide +kernel
theorem dJ3_isLatin1_17 : decode cJ3_isLatin1 17 = .ok (.iconst 0, 1) := by decide +kernel
theorem dJ3_isLatin1_18 : decode cJ3_isLatin1 18 = .ok (.ireturn, 1) := by decide +kernel
theorem dJ3_checkIndex_0 : decode cJ3_checkIndex 0 = .ok (.iload_n 0, 1) := by decide +kernel
theorem dJ3_checkIndex_1 : decode cJ3_checkIndex 1 = .ok (.iload_n 1, 1) := by decide +kernel
theorem dJ3_checkIndex_2 : decode cJ3_checkIndex 2 = .ok (.getstatic 1053, 3) := by decide +kernel
theorem dJ3_checkIndex_5 : decode cJ3_checkIndex 5 = .ok (.invokestatic 1059, 3) := by decide +kernel
theorem dJ3_checkIndex_8 : decode cJ3_checkIndex 8 = .ok (.pop, 1) := by decide +kernel
theorem dJ3_checkIndex_9 : decode cJ3_checkIndex 9 = .ok (.return_, 1) := by decide +kernel
theorem dJ3_checkBoundsOffCount_0 : decode cJ3_checkBoundsOffCount 0 = .ok (.iload_n 0, 1) := by decide +kernel
theorem dJ3_checkBoundsOffCount_1 : decode cJ3_checkBoundsOffCount 1 = .ok (.iload_n 1, 1) := by decide +kernel
theorem dJ3_checkBoundsOffCount_2 : decode cJ3_checkBoundsOffCount 2 = .ok (.iload_n 2, 1) := by decide +kernel
theorem dJ3_checkBoundsOffCount_3 : decode cJ3_checkBoundsOffCount 3 = .ok (.getstatic 1053, 3) := by decide +kernel
theorem dJ3_checkBoundsOffCount_6 : decode cJ3_checkBoundsOffCount 6 = .ok (.invokestatic 1065, 3) := by decide +kernel
theorem dJ3_checkBoundsOffCount_9 : decode cJ3_checkBoundsOffCount 9 = .ok (.ireturn, 1) := by decide +kernel
theorem dJ3_init_0 : decode cJ3_init 0 = .ok (.aload_n 0, 1) := by decide +kernel
theorem dJ3_init_1 : decode cJ3_init 1 = .ok (.aload_n 1, 1) := by decide +kernel
theorem dJ3_init_2 : decode cJ3_init 2 = .ok (.aconst_null, 1) := by decide +kernel
theorem dJ3_init_3 : decode cJ3_init 3 = .ok (.invokespecial 489, 3) := by decide +kernel
theorem dJ3_init_6 : decode cJ3_init 6 = .ok (.return_, 1) := by decide +kernel
theorem dJ3_init_2_0 : decode cJ3_init_2 0 = .ok (.aload_n 0, 1) := by decide +kernel
theorem dJ3_init_2_1 : decode cJ3_init_2 1 = .ok (.invokespecial 1, 3) := by decide +kernel
theorem dJ3_init_2_4 : decode cJ3_init_2 4 = .ok (.aload_n 1, 1) := by decide +kernel
theorem dJ3_init_2_5 : decode cJ3_init_2 5 = .ok (.invokevirtual 552, 3) := by decide +kernel
theorem dJ3_init_2_8 : decode cJ3_init_2 8 = .ok (.astore_n 3, 1) := by decide +kernel
theorem dJ3_init_2_9 : decode cJ3_init_2 9 = .ok (.aload_n 1, 1) := by decide +kernel
theorem dJ3_init_2_10 : decode cJ3_init_2 10 = .ok (.invokevirtual 549, 3) := by decide +kernel
theorem dJ3_init_2_13 : decode cJ3_init_2 13 = .ok (.istore 4, 2) := by decide +kernel
theorem dJ3_init_2_15 : decode cJ3_init_2 15 = .ok (.aload_n 1, 1) := by decide +kernel
theorem dJ3_init_2_16 : decode cJ3_init_2 16 = .ok (.invokevirtual 1047, 3) := by decide +kernel
theorem dJ3_init_2_19 : decode cJ3_init_2 19 = .ok (.ifCond .eq 22, 3) := by decide +kernel
theorem dJ3_init_2_22 : decode cJ3_init_2 22 = .ok (.aload_n 0, 1) := by decide +kernel
theorem dJ3_init_2_23 : decode cJ3_init_2 23 = .ok (.iconst 0, 1) := by decide +kernel
theorem dJ3_init_2_24 : decode cJ3_init_2 24 = .ok (.putfield 15, 3) := by decide +kernel
theorem dJ3_init_2_27 : decode cJ3_init_2 27 = .ok (.aload_n 0, 1) := by decide +kernel
theorem dJ3_init_2_28 : decode cJ3_init_2 28 = .ok (.aload_n 3, 1) := by decide +kernel
theorem dJ3_init_2_29 : decode cJ3_init_2 29 = .ok (.iconst 0, 1) := by decide +kernel
theorem dJ3_init_2_30 : decode cJ3_init_2 30 = .ok (.iload 4, 2) := by decide +kernel
theorem dJ3_init_2_32 : decode cJ3_init_2 32 = .ok (.invokestatic 54, 3) := by decide +kernel
theorem dJ3_init_2_35 : decode cJ3_init_2 35 = .ok (.putfield 9, 3) := by decide +kernel
theorem dJ3_init_2_38 : decode cJ3_init_2 38 = .ok (.goto 59, 3) := by decide +kernel
theorem dJ3_init_2_41 : decode cJ3_init_2 41 = .ok (.getstatic 38, 3) := by decide +kernel
theorem dJ3_init_2_44 : decode cJ3_init_2 44 = .ok (.ifCond .eq 35, 3) := by decide +kernel
theorem dJ3_init_2_47 : decode cJ3_init_2 47 = .ok (.aload_n 1, 1) := by decide +kernel
theorem dJ3_init_2_48 : decode cJ3_init_2 48 = .ok (.getfield 1048, 3) := by decide +kernel
theorem dJ3_init_2_51 : decode cJ3_init_2 51 = .ok (.ifCond .eq 28, 3) := by decide +kernel
theorem dJ3_init_2_54 : decode cJ3_init_2 54 = .ok (.aload_n 0, 1) := by decide +kernel
theorem dJ3_init_2_55 : decode cJ3_init_2 55 = .ok (.aload_n 3, 1) := by decide +kernel
theorem dJ3_init_2_56 : decode cJ3_init_2 56 = .ok (.iconst 0, 1) := by decide +kernel
theorem dJ3_init_2_57 : decode cJ3_init_2 57 = .ok (.iload 4, 2) := by decide +kernel
theorem dJ3_init_2_59 : decode cJ3_init_2 59 = .ok (.invokestatic 1051, 3) := by decide +kernel
theorem dJ3_init_2_62 : decode cJ3_init_2 62 = .ok (.putfield 9, 3) := by decide +kernel
theorem dJ3_init_2_65 : decode cJ3_init_2 65 = .ok (.aload_n 0, 1) := by decide +kernel
theorem dJ3_init_2_66 : decode cJ3_init_2 66 = .ok (.aload_n 0, 1) := by decide +kernel
theorem dJ3_init_2_67 : decode cJ3_init_2 67 = .ok (.getfield 9, 3) := by decide +kernel
theorem dJ3_init_2_70 : decode cJ3_init_2 70 = .ok (.iload 4, 2) := by decide +kernel
theorem dJ3_init_2_72 : decode cJ3_init_2 72 = .ok (.invokestatic 47, 3) := by decide +kernel
theorem dJ3_init_2_75 : decode cJ3_init_2 75 = .ok (.putfield 15, 3) := by decide +kernel
theorem dJ3_init_2_78 : decode cJ3_init_2 78 = .ok (.return_, 1) := by decide +kernel
theorem dJ3_init_2_79 : decode cJ3_init_2 79 = .ok (.aload_n 0, 1) := by decide +kernel
theorem dJ3_init_2_80 : decode cJ3_init_2 80 = .ok (.iconst 1, 1) := by decide +kernel
theorem dJ3_init_2_81 : decode cJ3_init_2 81 = .ok (.putfield 15, 3) := by decide +kernel
theorem dJ3_init_2_84 : decode cJ3_init_2 84 = .ok (.aload_n 0, 1) := by decide +kernel
theorem dJ3_init_2_85 : decode cJ3_init_2 85 = .ok (.aload_n 3, 1) := by decide +kernel
theorem dJ3_init_2_86 : decode cJ3_init_2 86 = .ok (.iconst 0, 1) := by decide +kernel
theorem dJ3_init_2_87 : decode cJ3_init_2 87 = .ok (.iload 4, 2) := by decide +kernel
theorem dJ3_init_2_89 : decode cJ3_init_2 89 = .ok (.iconst 1, 1) := by decide +kernel
theorem dJ3_init_2_90 : decode cJ3_init_2 90 = .ok (.ishl, 1) := by decide +kernel
theorem dJ3_init_2_91 : decode cJ3_init_2 91 = .ok (.invokestatic 54, 3) := by decide +kernel
theorem dJ3_init_2_94 : decode cJ3_init_2 94 = .ok (.putfield 9, 3) := by decide +kernel
theorem dJ3_init_2_97 : decode cJ3_init_2 97 = .ok (.return_, 1) := by decide +kernel
theorem dJ3_equals_0 : decode cJ3_equals 0 = .ok (.aload_n 0, 1) := by decide +kernel
theorem dJ3_equals_1 : decode cJ3_equals 1 = .ok (.aload_n 1, 1) := by decide +kernel
theorem dJ3_equals_2 : decode cJ3_equals 2 = .ok (.if_acmp .ne 5, 3) := by decide +kernel
theorem dJ3_equals_5 : decode cJ3_equals 5 = .ok (.iconst 1, 1) := by decide +kernel
theorem dJ3_equals_6 : decode cJ3_equals 6 = .ok (.ireturn, 1) := by decide +kernel
theorem dJ3_equals_7 : decode cJ3_equals 7 = .ok (.aload_n 1, 1) := by decide +kernel
theorem dJ3_equals_8 : decode cJ3_equals 8 = .ok (.instanceof 10, 3) := by decide +kernel
theorem dJ3_equals_11 : decode cJ3_equals 11 = .ok (.ifCond .eq 43, 3) := by decide +kernel
theorem dJ3_equals_14 : decode cJ3_equals 14 = .ok (.aload_n 1, 1) := by decide +kernel
theorem dJ3_equals_15 : decode cJ3_equals 15 = .ok (.checkcast 10, 3) := by decide +kernel
theorem dJ3_equals_18 : decode cJ3_equals 18 = .ok (.astore_n 2, 1) := by decide +kernel
theorem dJ3_equals_19 : decode cJ3_equals 19 = .ok (.getstatic 38, 3) := by decide +kernel
theorem dJ3_equals_22 : decode cJ3_equals 22 = .ok (.ifCond .eq 14, 3) := by decide +kernel
theorem dJ3_equals_25 : decode cJ3_equals 25 = .ok (.aload_n 0, 1) := by decide +kernel
theorem dJ3_equals_26 : decode cJ3_equals 26 = .ok (.getfield 15, 3) := by decide +kernel
theorem dJ3_equals_29 : decode cJ3_equals 29 = .ok (.aload_n 2, 1) := by decide +kernel
theorem dJ3_equals_30 : decode cJ3_equals 30 = .ok (.getfield 15, 3) := by decide +kernel
theorem dJ3_equals_33 : decode cJ3_equals 33 = .ok (.if_icmp .ne 21, 3) := by decide +kernel
theorem dJ3_equals_36 : decode cJ3_equals 36 = .ok (.aload_n 0, 1) := by decide +kernel
theorem dJ3_equals_37 : decode cJ3_equals 37 = .ok (.getfield 9, 3) := by decide +kernel
theorem dJ3_equals_40 : decode cJ3_equals 40 = .ok (.aload_n 2, 1) := by decide +kernel
theorem dJ3_equals_41 : decode cJ3_equals 41 = .ok (.getfield 9, 3) := by decide +kernel
theorem dJ3_equals_44 : decode cJ3_equals 44 = .ok (.invokestatic 541, 3) := by decide +kernel
theorem dJ3_equals_47 : decode cJ3_equals 47 = .ok (.ifCond .eq 7, 3) := by decide +kernel
theorem dJ3_equals_50 : decode cJ3_equals 50 = .ok (.iconst 1, 1) := by decide +kernel
theorem dJ3_equals_51 : decode cJ3_equals 51 = .ok (.goto 4, 3) := by decide +kernel
theorem dJ3_equals_54 : decode cJ3_equals 54 = .ok (.iconst 0, 1) := by decide +kernel
theorem dJ3_equals_55 : decode cJ3_equals 55 = .ok (.ireturn, 1) := by decide +kernel
theorem dJ3_checkBoundsBeginEnd_0 : decode cJ3_checkBoundsBeginEnd 0 = .ok (.iload_n 0, 1) := by decide +kernel
theorem dJ3_checkBoundsBeginEnd_1 : decode cJ3_checkBoundsBeginEnd 1 = .ok (.iload_n 1, 1) := by decide +kernel
theorem dJ3_checkBoundsBeginEnd_2 : decode cJ3_checkBoundsBeginEnd 2 = .ok (.iload_n 2, 1) := by decide +kernel
theorem dJ3_checkBoundsBeginEnd_3 : decode cJ3_checkBoundsBeginEnd 3 = .ok (.getstatic 1053, 3) := by decide +kernel
theorem dJ3_checkBoundsBeginEnd_6 : decode cJ3_checkBoundsBeginEnd 6 = .ok (.invokestatic 1062, 3) := by decide +kernel
theorem dJ3_checkBoundsBeginEnd_9 : decode cJ3_checkBoundsBeginEnd 9 = .ok (.pop, 1) := by decide +kernel
theorem dJ3_checkBoundsBeginEnd_10 : decode cJ3_checkBoundsBeginEnd 10 = .ok (.return_, 1) := by decide +kernel
theorem dJ3_getBytes_0 : decode cJ3_getBytes 0 = .ok (.aload_n 0, 1) := by decide +kernel
theorem dJ3_getBytes_1 : decode cJ3_getBytes 1 = .ok (.invokevirtual 335, 3) := by decide +kernel
theorem dJ3_getBytes_4 : decode cJ3_getBytes 4 = .ok (.iload_n 3, 1) := by decide +kernel
theorem dJ3_getBytes_5 : decode cJ3_getBytes 5 = .ok (.if_icmp .ne 23, 3) := by decide +kernel
theorem dJ3_getBytes_8 : decode cJ3_getBytes 8 = .ok (.aload_n 0, 1) := by decide +kernel
theorem dJ3_getBytes_9 : decode cJ3_getBytes 9 = .ok (.getfield 9, 3) := by decide +kernel
theorem dJ3_getBytes_12 : decode cJ3_getBytes 12 = .ok (.iconst 0, 1) := by decide +kernel
theorem dJ3_getBytes_13 : decode cJ3_getBytes 13 = .ok (.aload_n 1, 1) := by decide +kernel
theorem dJ3_getBytes_14 : decode cJ3_getBytes 14 = .ok (.iload_n 2, 1) := by decide +kernel
theorem dJ3_getBytes_15 : decode cJ3_getBytes 15 = .ok (.iload_n 3, 1) := by decide +kernel
theorem dJ3_getBytes_16 : decode cJ3_getBytes 16 = .ok (.ishl, 1) := by decide +kernel
theorem dJ3_getBytes_17 : decode cJ3_getBytes 17 = .ok (.aload_n 0, 1) := by decide +kernel
theorem dJ3_getBytes_18 : decode cJ3_getBytes 18 = .ok (.getfield 9, 3) := by decide +kernel
theorem dJ3_getBytes_21 : decode cJ3_getBytes 21 = .ok (.arraylength, 1) := by decide +kernel
theorem dJ3_getBytes_22 : decode cJ3_getBytes 22 = .ok (.invokestatic 212, 3) := by decide +kernel
theorem dJ3_getBytes_25 : decode cJ3_getBytes 25 = .ok (.goto 18, 3) := by decide +kernel
theorem dJ3_getBytes_28 : decode cJ3_getBytes 28 = .ok (.aload_n 0, 1) := by decide +kernel
theorem dJ3_getBytes_29 : decode cJ3_getBytes 29 = .ok (.getfield 9, 3) := by decide +kernel
theorem dJ3_getBytes_32 : decode cJ3_getBytes 32 = .ok (.iconst 0, 1) := by decide +kernel
theorem dJ3_getBytes_33 : decode cJ3_getBytes 33 = .ok (.aload_n 1, 1) := by decide +kernel
theorem dJ3_getBytes_34 : decode cJ3_getBytes 34 = .ok (.iload_n 2, 1) := by decide +kernel
theorem dJ3_getBytes_35 : decode cJ3_getBytes 35 = .ok (.aload_n 0, 1) := by decide +kernel
theorem dJ3_getBytes_36 : decode cJ3_getBytes 36 = .ok (.getfield 9, 3) := by decide +kernel
theorem dJ3_getBytes_39 : decode cJ3_getBytes 39 = .ok (.arraylength, 1) := by decide +kernel
theorem dJ3_getBytes_40 : decode cJ3_getBytes 40 = .ok (.invokestatic 106, 3) := by decide +kernel
theorem dJ3_getBytes_43 : decode cJ3_getBytes 43 = .ok (.return_, 1) := by decide +kernel
theorem dJ3_indexOf_0 : decode cJ3_indexOf 0 = .ok (.aload_n 0, 1) := by decide +kernel
theorem dJ3_indexOf_1 : decode cJ3_indexOf 1 = .ok (.invokevirtual 335, 3) := by decide +kernel
theorem dJ3_indexOf_4 : decode cJ3_indexOf 4 = .ok (.istore_n 2, 1) := by decide +kernel
theorem dJ3_indexOf_5 : decode cJ3_indexOf 5 = .ok (.iload_n 2, 1) := by decide +kernel
theorem dJ3_indexOf_6 : decode cJ3_indexOf 6 = .ok (.aload_n 1, 1) := by decide +kernel
theorem dJ3_indexOf_7 : decode cJ3_indexOf 7 = .ok (.invokevirtual 335, 3) := by decide +kernel
theorem dJ3_indexOf_10 : decode cJ3_indexOf 10 = .ok (.if_icmp .ne 36, 3) := by decide +kernel
theorem dJ3_indexOf_13 : decode cJ3_indexOf 13 = .ok (.aload_n 0, 1) := by decide +kernel
theorem dJ3_indexOf_14 : decode cJ3_indexOf 14 = .ok (.invokevirtual 492, 3) := by decide +kernel
theorem dJ3_indexOf_17 : decode cJ3_indexOf 17 = .ok (.ifCond .eq 17, 3) := by decide +kernel
theorem dJ3_indexOf_20 : decode cJ3_indexOf 20 = .ok (.aload_n 0, 1) := by decide +kernel
theorem dJ3_indexOf_21 : decode cJ3_indexOf 21 = .ok (.getfield 9, 3) := by decide +kernel
theorem dJ3_indexOf_24 : decode cJ3_indexOf 24 = .ok (.aload_n 1, 1) := by decide +kernel
theorem dJ3_indexOf_25 : decode cJ3_indexOf 25 = .ok (.getfield 9, 3) := by decide +kernel
theorem dJ3_indexOf_28 : decode cJ3_indexOf 28 = .ok (.invokestatic 647, 3) := by decide +kernel
theorem dJ3_indexOf_31 : decode cJ3_indexOf 31 = .ok (.goto 14, 3) := by decide +kernel
theorem dJ3_indexOf_34 : decode cJ3_indexOf 34 = .ok (.aload_n 0, 1) := by decide +kernel
theorem dJ3_indexOf_35 : decode cJ3_indexOf 35 = .ok (.getfield 9, 3) := by decide +kernel
theorem dJ3_indexOf_38 : decode cJ3_indexOf 38 = .ok (.aload_n 1, 1) := by decide +kernel
theorem dJ3_indexOf_39 : decode cJ3_indexOf 39 = .ok (.getfield 9, 3) := by decide +kernel
theorem dJ3_indexOf_42 : decode cJ3_indexOf 42 = .ok (.invokestatic 649, 3) := by decide +kernel
theorem dJ3_indexOf_45 : decode cJ3_indexOf 45 = .ok (.ireturn, 1) := by decide +kernel
theorem dJ3_indexOf_46 : decode cJ3_indexOf 46 = .ok (.iload_n 2, 1) := by decide +kernel
theorem dJ3_indexOf_47 : decode cJ3_indexOf 47 = .ok (.ifCond .ne 5, 3) := by decide +kernel
theorem dJ3_indexOf_50 : decode cJ3_indexOf 50 = .ok (.iconst (-1), 1) := by decide +kernel
theorem dJ3_indexOf_51 : decode cJ3_indexOf 51 = .ok (.ireturn, 1) := by decide +kernel
theorem dJ3_indexOf_52 : decode cJ3_indexOf 52 = .ok (.aload_n 0, 1) := by decide +kernel
theorem dJ3_indexOf_53 : decode cJ3_indexOf 53 = .ok (.getfield 9, 3) := by decide +kernel
theorem dJ3_indexOf_56 : decode cJ3_indexOf 56 = .ok (.aload_n 1, 1) := by decide +kernel
theorem dJ3_indexOf_57 : decode cJ3_indexOf 57 = .ok (.getfield 9, 3) := by decide +kernel
theorem dJ3_indexOf_60 : decode cJ3_indexOf 60 = .ok (.invokestatic 650, 3) := by decide +kernel
theorem dJ3_indexOf_63 : decode cJ3_indexOf 63 = .ok (.ireturn, 1) := by decide +kernel
theorem dJ3_hashCode_0 : decode cJ3_hashCode 0 = .ok (.aload_n 0, 1) := by decide +kernel
theorem dJ3_hashCode_1 : decode cJ3_hashCode 1 = .ok (.getfield 19, 3) := by decide +kernel
theorem dJ3_hashCode_4 : decode cJ3_hashCode 4 = .ok (.istore_n 1, 1) := by decide +kernel
theorem dJ3_hashCode_5 : decode cJ3_hashCode 5 = .ok (.iload_n 1, 1) := by decide +kernel
theorem dJ3_hashCode_6 : decode cJ3_hashCode 6 = .ok (.ifCond .ne 52, 3) := by decide +kernel
theorem dJ3_hashCode_9 : decode cJ3_hashCode 9 = .ok (.aload_n 0, 1) := by decide +kernel
theorem dJ3_hashCode_10 : decode cJ3_hashCode 10 = .ok (.getfield 23, 3) := by decide +kernel
theorem dJ3_hashCode_13 : decode cJ3_hashCode 13 = .ok (.ifCond .ne 45, 3) := by decide +kernel
theorem dJ3_hashCode_16 : decode cJ3_hashCode 16 = .ok (.aload_n 0, 1) := by decide +kernel
theorem dJ3_hashCode_17 : decode cJ3_hashCode 17 = .ok (.invokevirtual 492, 3) := by decide +kernel
theorem dJ3_hashCode_20 : decode cJ3_hashCode 20 = .ok (.ifCond .eq 13, 3) := by decide +kernel
theorem dJ3_hashCode_23 : decode cJ3_hashCode 23 = .ok (.aload_n 0, 1) := by decide +kernel
theorem dJ3_hashCode_24 : decode cJ3_hashCode 24 = .ok (.getfield 9, 3) := by decide +kernel
theorem dJ3_hashCode_27 : decode cJ3_hashCode 27 = .ok (.invokestatic 628, 3) := by decide +kernel
theorem dJ3_hashCode_30 : decode cJ3_hashCode 30 = .ok (.goto 10, 3) := by decide +kernel
theorem dJ3_hashCode_33 : decode cJ3_hashCode 33 = .ok (.aload_n 0, 1) := by decide +kernel
theorem dJ3_hashCode_34 : decode cJ3_hashCode 34 = .ok (.getfield 9, 3) := by decide +kernel
theorem dJ3_hashCode_37 : decode cJ3_hashCode 37 = .ok (.invokestatic 632, 3) := by decide +kernel
theorem dJ3_hashCode_40 : decode cJ3_hashCode 40 = .ok (.istore_n 1, 1) := by decide +kernel
theorem dJ3_hashCode_41 : decode cJ3_hashCode 41 = .ok (.iload_n 1, 1) := by decide +kernel
theorem dJ3_hashCode_42 : decode cJ3_hashCode 42 = .ok (.ifCond .ne 11, 3) := by decide +kernel
theorem dJ3_hashCode_45 : decode cJ3_hashCode 45 = .ok (.aload_n 0, 1) := by decide +kernel
theorem dJ3_hashCode_46 : decode cJ3_hashCode 46 = .ok (.iconst 1, 1) := by decide +kernel
theorem dJ3_hashCode_47 : decode cJ3_hashCode 47 = .ok (.putfield 23, 3) := by decide +kernel
theorem dJ3_hashCode_50 : decode cJ3_hashCode 50 = .ok (.goto 8, 3) := by decide +kernel
theorem dJ3_hashCode_53 : decode cJ3_hashCode 53 = .ok (.aload_n 0, 1) := by decide +kernel
theorem dJ3_hashCode_54 : decode cJ3_hashCode 54 = .ok (.iload_n 1, 1) := by decide +kernel
theorem dJ3_hashCode_55 : decode cJ3_hashCode 55 = .ok (.putfield 19, 3) := by decide +kernel
theorem dJ3_hashCode_58 : decode cJ3_hashCode 58 = .ok (.iload_n 1, 1) := by decide +kernel
theorem dJ3_hashCode_59 : decode cJ3_hashCode 59 = .ok (.ireturn, 1) := by decide +kernel
theorem dJ4_charAt_0 : decode cJ4_charAt 0 = .ok (.iload_n 1, 1) := by decide +kernel
theorem dJ4_charAt_1 : decode cJ4_charAt 1 = .ok (.aload_n 0, 1) := by decide +kernel
theorem dJ4_charAt_2 : decode cJ4_charAt 2 = .ok (.arraylength, 1) := by decide +kernel
theorem dJ4_charAt_3 : decode cJ4_charAt 3 = .ok (.invokestatic 9, 3) := by decide +kernel
theorem dJ4_charAt_6 : decode cJ4_charAt 6 = .ok (.aload_n 0, 1) := by decide +kernel
theorem dJ4_charAt_7 : decode cJ4_charAt 7 = .ok (.iload_n 1, 1) := by decide +kernel
theorem dJ4_charAt_8 : decode cJ4_charAt 8 = .ok (.baload, 1) := by decide +kernel
theorem dJ4_charAt_9 : decode cJ4_charAt 9 = .ok (.sipush 255, 3) := by decide +kernel
theorem dJ4_charAt_12 : decode cJ4_charAt 12 = .ok (.iand, 1) := by decide +kernel
theorem dJ4_charAt_13 : decode cJ4_charAt 13 = .ok (.i2c, 1) := by decide +kernel
theorem dJ4_charAt_14 : decode cJ4_charAt 14 = .ok (.ireturn, 1) := by decide +kernel
theorem dJ4_canEncode_0 : decode cJ4_canEncode 0 = .ok (.iload_n 0, 1) := by decide +kernel
theorem dJ4_canEncode_1 : decode cJ4_canEncode 1 = .ok (.sipush 255, 3) := by decide +kernel
theorem dJ4_canEncode_4 : decode cJ4_canEncode 4 = .ok (.if_icmp .gt 7, 3) := by decide +kernel
theorem dJ4_canEncode_7 : decode cJ4_canEncode 7 = .ok (.iconst 1, 1) := by decide +kernel
theorem dJ4_canEncode_8 : decode cJ4_canEncode 8 = .ok (.goto 4, 3) := by decide +kernel
theorem dJ4_canEncode_11 : decode cJ4_canEncode 11 = .ok (.iconst 0, 1) := by decide +kernel
theorem dJ4_canEncode_12 : decode cJ4_canEncode 12 = .ok (.ireturn, 1) := by decide +kernel
theorem dJ4_inflate_0 : decode cJ4_inflate 0 = .ok (.aload_n 0, 1) := by decide +kernel
theorem dJ4_inflate_1 : decode cJ4_inflate 1 = .ok (.iload_n 1, 1) := by decide +kernel
theorem dJ4_inflate_2 : decode cJ4_inflate 2 = .ok (.aload_n 2, 1) := by decide +kernel
theorem dJ4_inflate_3 : decode cJ4_inflate 3 = .ok (.iload_n 3, 1) := by decide +kernel
theorem dJ4_inflate_4 : decode cJ4_inflate 4 = .ok (.iload 4, 2) := by decide +kernel
theorem dJ4_inflate_6 : decode cJ4_inflate 6 = .ok (.invokestatic 240, 3) := by decide +kernel
theorem dJ4_inflate_9 : decode cJ4_inflate 9 = .ok (.return_, 1) := by decide +kernel
theorem dJ4_equals_0 : decode cJ4_equals 0 = .ok (.aload_n 0, 1) := by decide +kernel
theorem dJ4_equals_1 : decode cJ4_equals 1 = .ok (.arraylength, 1) := by decide +kernel
theorem dJ4_equals_2 : decode cJ4_equals 2 = .ok (.aload_n 1, 1) := by decide +kernel
theorem dJ4_equals_3 : decode cJ4_equals 3 = .ok (.arraylength, 1) := by decide +kernel
theorem dJ4_equals_4 : decode cJ4_equals 4 = .ok (.if_icmp .ne 30, 3) := by decide +kernel
theorem dJ4_equals_7 : decode cJ4_equals 7 = .ok (.iconst 0, 1) := by decide +kernel
theorem dJ4_equals_8 : decode cJ4_equals 8 = .ok (.istore_n 2, 1) := by decide +kernel
theorem dJ4_equals_9 : decode cJ4_equals 9 = .ok (.iload_n 2, 1) := by decide +kernel
theorem dJ4_equals_10 : decode cJ4_equals 10 = .ok (.aload_n 0, 1) := by decide +kernel
theorem dJ4_equals_11 : decode cJ4_equals 11 = .ok (.arraylength, 1) := by decide +kernel
theorem dJ4_equals_12 : decode cJ4_equals 12 = .ok (.if_icmp .ge 20, 3) := by decide +kernel
theorem dJ4_equals_15 : decode cJ4_equals 15 = .ok (.aload_n 0, 1) := by decide +kernel
theorem dJ4_equals_16 : decode cJ4_equals 16 = .ok (.iload_n 2, 1) := by decide +kernel
theorem dJ4_equals_17 : decode cJ4_equals 17 = .ok (.baload, 1) := by decide +kernel
theorem dJ4_equals_18 : decode cJ4_equals 18 = .ok (.aload_n 1, 1) := by decide +kernel
theorem dJ4_equals_19 : decode cJ4_equals 19 = .ok (.iload_n 2, 1) := by decide +kernel
theorem dJ4_equals_20 : decode cJ4_equals 20 = .ok (.baload, 1) := by decide +kernel
theorem dJ4_equals_21 : decode cJ4_equals 21 = .ok (.if_icmp .eq 5, 3) := by decide +kernel
theorem dJ4_equals_24 : decode cJ4_equals 24 = .ok (.iconst 0, 1) := by decide +kernel
theorem dJ4_equals_25 : decode cJ4_equals 25 = .ok (.ireturn, 1) := by decide +kernel
theorem dJ4_equals_26 : decode cJ4_equals 26 = .ok (.iinc 2 1, 3) := by decide +kernel
theorem dJ4_equals_29 : decode cJ4_equals 29 = .ok (.goto (-20), 3) := by decide +kernel
theorem dJ4_equals_32 : decode cJ4_equals 32 = .ok (.iconst 1, 1) := by decide +kernel
theorem dJ4_equals_33 : decode cJ4_equals 33 = .ok (.ireturn, 1) := by decide +kernel
theorem dJ4_equals_34 : decode cJ4_equals 34 = .ok (.iconst 0, 1) := by decide +kernel
theorem dJ4_equals_35 : decode cJ4_equals 35 = .ok (.ireturn, 1) := by decide +kernel
theorem dJ4_indexOf_0 : decode cJ4_indexOf 0 = .ok (.aload_n 1, 1) := by decide +kernel
theorem dJ4_indexOf_1 : decode cJ4_indexOf 1 = .ok (.arraylength, 1) := by decide +kernel
theorem dJ4_indexOf_2 : decode cJ4_indexOf 2 = .ok (.ifCond .ne 5, 3) := by decide +kernel
theorem dJ4_indexOf_5 : decode cJ4_indexOf 5 = .ok (.iconst 0, 1) := by decide +kernel
theorem dJ4_indexOf_6 : decode cJ4_indexOf 6 = .ok (.ireturn, 1) := by decide +kernel
theorem dJ4_indexOf_7 : decode cJ4_indexOf 7 = .ok (.aload_n 0, 1) := by decide +kernel
theorem dJ4_indexOf_8 : decode cJ4_indexOf 8 = .ok (.arraylength, 1) := by decide +kernel
theorem dJ4_indexOf_9 : decode cJ4_indexOf 9 = .ok (.ifCond .ne 5, 3) := by decide +kernel
theorem dJ4_indexOf_12 : decode cJ4_indexOf 12 = .ok (.iconst (-1), 1) := by decide +kernel
theorem dJ4_indexOf_13 : decode cJ4_indexOf 13 = .ok (.ireturn, 1) := by decide +kernel
theorem dJ4_indexOf_14 : decode cJ4_indexOf 14 = .ok (.aload_n 0, 1) := by decide +kernel
theorem dJ4_indexOf_15 : decode cJ4_indexOf 15 = .ok (.aload_n 0, 1) := by decide +kernel
theorem dJ4_indexOf_16 : decode cJ4_indexOf 16 = .ok (.arraylength, 1) := by decide +kernel
theorem dJ4_indexOf_17 : decode cJ4_indexOf 17 = .ok (.aload_n 1, 1) := by decide +kernel
theorem dJ4_indexOf_18 : decode cJ4_indexOf 18 = .ok (.aload_n 1, 1) := by decide +kernel
theorem dJ4_indexOf_19 : decode cJ4_indexOf 19 = .ok (.arraylength, 1) := by decide +kernel
theorem dJ4_indexOf_20 : decode cJ4_indexOf 20 = .ok (.iconst 0, 1) := by decide +kernel
theorem dJ4_indexOf_21 : decode cJ4_indexOf 21 = .ok (.invokestatic 99, 3) := by decide +kernel
theorem dJ4_indexOf_24 : decode cJ4_indexOf 24 = .ok (.ireturn, 1) := by decide +kernel
theorem dJ4_indexOf_2_0 : decode cJ4_indexOf_2 0 = .ok (.aload_n 2, 1) := by decide +kernel
theorem dJ4_indexOf_2_1 : decode cJ4_indexOf_2 1 = .ok (.iconst 0, 1) := by decide +kernel
theorem dJ4_indexOf_2_2 : decode cJ4_indexOf_2 2 = .ok (.baload, 1) := by decide +kernel
theorem dJ4_indexOf_2_3 : decode cJ4_indexOf_2 3 = .ok (.istore 5, 2) := by decide +kernel
theorem dJ4_indexOf_2_5 : decode cJ4_indexOf_2 5 = .ok (.iload_n 1, 1) := by decide +kernel
theorem dJ4_indexOf_2_6 : decode cJ4_indexOf_2 6 = .ok (.iload_n 3, 1) := by decide +kernel
theorem dJ4_indexOf_2_7 : decode cJ4_indexOf_2 7 = .ok (.isub, 1) := by decide +kernel
theorem dJ4_indexOf_2_8 : decode cJ4_indexOf_2 8 = .ok (.istore 6, 2) := by decide +kernel
theorem dJ4_indexOf_2_10 : decode cJ4_indexOf_2 10 = .ok (.iload 4, 2) := by decide +kernel
theorem dJ4_indexOf_2_12 : decode cJ4_indexOf_2 12 = .ok (.istore 7, 2) := by decide +kernel
theorem dJ4_indexOf_2_14 : decode cJ4_indexOf_2 14 = .ok (.iload 7, 2) := by decide +kernel
theorem dJ4_indexOf_2_16 : decode cJ4_indexOf_2 16 = .ok (.iload 6, 2) := by decide +kernel
theorem dJ4_indexOf_2_18 : decode cJ4_indexOf_2 18 = .ok (.if_icmp .gt 101, 3) := by decide +kernel
theorem dJ4_indexOf_2_21 : decode cJ4_indexOf_2 21 = .ok (.aload_n 0, 1) := by decide +kernel
theorem dJ4_indexOf_2_22 : decode cJ4_indexOf_2 22 = .ok (.iload 7, 2) := by decide +kernel
theorem dJ4_indexOf_2_24 : decode cJ4_indexOf_2 24 = .ok (.baload, 1) := by decide +kernel
theorem dJ4_indexOf_2_25 : decode cJ4_indexOf_2 25 = .ok (.iload 5, 2) := by decide +kernel
theorem dJ4_indexOf_2_27 : decode cJ4_indexOf_2 27 = .ok (.if_icmp .eq 25, 3) := by decide +kernel
theorem dJ4_indexOf_2_30 : decode cJ4_indexOf_2 30 = .ok (.iinc 7 1, 3) := by decide +kernel
theorem dJ4_indexOf_2_33 : decode cJ4_indexOf_2 33 = .ok (.iload 7, 2) := by decide +kernel
theorem dJ4_indexOf_2_35 : decode cJ4_indexOf_2 35 = .ok (.iload 6, 2) := by decide +kernel
theorem dJ4_indexOf_2_37 : decode cJ4_indexOf_2 37 = .ok (.if_icmp .gt 15, 3) := by decide +kernel
theorem dJ4_indexOf_2_40 : decode cJ4_indexOf_2 40 = .ok (.aload_n 0, 1) := by decide +kernel
theorem dJ4_indexOf_2_41 : decode cJ4_indexOf_2 41 = .ok (.iload 7, 2) := by decide +kernel
theorem dJ4_indexOf_2_43 : decode cJ4_indexOf_2 43 = .ok (.baload, 1) := by decide +kernel
theorem dJ4_indexOf_2_44 : decode cJ4_indexOf_2 44 = .ok (.iload 5, 2) := by decide +kernel
theorem dJ4_indexOf_2_46 : decode cJ4_indexOf_2 46 = .ok (.if_icmp .eq 6, 3) := by decide +kernel
theorem dJ4_indexOf_2_49 : decode cJ4_indexOf_2 49 = .ok (.goto (-19), 3) := by decide +kernel
theorem dJ4_indexOf_2_52 : decode cJ4_indexOf_2 52 = .ok (.iload 7, 2) := by decide +kernel
theorem dJ4_indexOf_2_54 : decode cJ4_indexOf_2 54 = .ok (.iload 6, 2) := by decide +kernel
theorem dJ4_indexOf_2_56 : decode cJ4_indexOf_2 56 = .ok (.if_icmp .gt 57, 3) := by decide +kernel
theorem dJ4_indexOf_2_59 : decode cJ4_indexOf_2 59 = .ok (.iload 7, 2) := by decide +kernel
theorem dJ4_indexOf_2_61 : decode cJ4_indexOf_2 61 = .ok (.iconst 1, 1) := by decide +kernel
theorem dJ4_indexOf_2_62 : decode cJ4_indexOf_2 62 = .ok (.iadd, 1) := by decide +kernel
theorem dJ4_indexOf_2_63 : decode cJ4_indexOf_2 63 = .ok (.istore 8, 2) := by decide +kernel
theorem dJ4_indexOf_2_65 : decode cJ4_indexOf_2 65 = .ok (.iload 8, 2) := by decide +kernel
theorem dJ4_indexOf_2_67 : decode cJ4_indexOf_2 67 = .ok (.iload_n 3, 1) := by decide +kernel
theorem dJ4_indexOf_2_68 : decode cJ4_indexOf_2 68 = .ok (.iadd, 1) := by decide +kernel
theorem dJ4_indexOf_2_69 : decode cJ4_indexOf_2 69 = .ok (.iconst 1, 1) := by decide +kernel
theorem dJ4_indexOf_2_70 : decode cJ4_indexOf_2 70 = .ok (.isub, 1) := by decide +kernel
theorem dJ4_indexOf_2_71 : decode cJ4_indexOf_2 71 = .ok (.istore 9, 2) := by decide +kernel
theorem dJ4_indexOf_2_73 : decode cJ4_indexOf_2 73 = .ok (.iconst 1, 1) := by decide +kernel
theorem dJ4_indexOf_2_74 : decode cJ4_indexOf_2 74 = .ok (.istore 10, 2) := by decide +kernel
theorem dJ4_indexOf_2_76 : decode cJ4_indexOf_2 76 = .ok (.iload 8, 2) := by decide +kernel
theorem dJ4_indexOf_2_78 : decode cJ4_indexOf_2 78 = .ok (.iload 9, 2) := by decide +kernel
theorem dJ4_indexOf_2_80 : decode cJ4_indexOf_2 80 = .ok (.if_icmp .ge 23, 3) := by decide +kernel
theorem dJ4_indexOf_2_83 : decode cJ4_indexOf_2 83 = .ok (.aload_n 0, 1) := by decide +kernel
theorem dJ4_indexOf_2_84 : decode cJ4_indexOf_2 84 = .ok (.iload 8, 2) := by decide +kernel
theorem dJ4_indexOf_2_86 : decode cJ4_indexOf_2 86 = .ok (.baload, 1) := by decide +kernel
theorem dJ4_indexOf_2_87 : decode cJ4_indexOf_2 87 = .ok (.aload_n 2, 1) := by decide +kernel
theorem dJ4_indexOf_2_88 : decode cJ4_indexOf_2 88 = .ok (.iload 10, 2) := by decide +kernel
theorem dJ4_indexOf_2_90 : decode cJ4_indexOf_2 90 = .ok (.baload, 1) := by decide +kernel
theorem dJ4_indexOf_2_91 : decode cJ4_indexOf_2 91 = .ok (.if_icmp .ne 12, 3) := by decide +kernel
theorem dJ4_indexOf_2_94 : decode cJ4_indexOf_2 94 = .ok (.iinc 8 1, 3) := by decide +kernel
theorem dJ4_indexOf_2_97 : decode cJ4_indexOf_2 97 = .ok (.iinc 10 1, 3) := by decide +kernel
theorem dJ4_indexOf_2_100 : decode cJ4_indexOf_2 100 = .ok (.goto (-24), 3) := by decide +kernel
theorem dJ4_indexOf_2_103 : decode cJ4_indexOf_2 103 = .ok (.iload 8, 2) := by decide +kernel
theorem dJ4_indexOf_2_105 : decode cJ4_indexOf_2 105 = .ok (.iload 9, 2) := by decide +kernel
theorem dJ4_indexOf_2_107 : decode cJ4_indexOf_2 107 = .ok (.if_icmp .ne 6, 3) := by decide +kernel
theorem dJ4_indexOf_2_110 : decode cJ4_indexOf_2 110 = .ok (.iload 7, 2) := by decide +kernel
theorem dJ4_indexOf_2_112 : decode cJ4_indexOf_2 112 = .ok (.ireturn, 1) := by decide +kernel
theorem dJ4_indexOf_2_113 : decode cJ4_indexOf_2 113 = .ok (.iinc 7 1, 3) := by decide +kernel
theorem dJ4_indexOf_2_116 : decode cJ4_indexOf_2 116 = .ok (.goto (-102), 3) := by decide +kernel
theorem dJ4_indexOf_2_119 : decode cJ4_indexOf_2 119 = .ok (.iconst (-1), 1) := by decide +kernel
theorem dJ4_indexOf_2_120 : decode cJ4_indexOf_2 120 = .ok (.ireturn, 1) := by decide +kernel
theorem dJ4_hashCode_0 : decode cJ4_hashCode 0 = .ok (.aload_n 0, 1) := by decide +kernel
theorem dJ4_hashCode_1 : decode cJ4_hashCode 1 = .ok (.arraylength, 1) := by decide +kernel
theorem dJ4_hashCode_2 : decode cJ4_hashCode 2 = .ok (.lookupswitch 40 #[(0, 26), (1, 30)], 26) := by decide +kernel
theorem dJ4_hashCode_28 : decode cJ4_hashCode 28 = .ok (.iconst 0, 1) := by decide +kernel
theorem dJ4_hashCode_29 : decode cJ4_hashCode 29 = .ok (.goto 22, 3) := by decide +kernel
theorem dJ4_hashCode_32 : decode cJ4_hashCode 32 = .ok (.aload_n 0, 1) := by decide +kernel
theorem dJ4_hashCode_33 : decode cJ4_hashCode 33 = .ok (.iconst 0, 1) := by decide +kernel
theorem dJ4_hashCode_34 : decode cJ4_hashCode 34 = .ok (.baload, 1) := by decide +kernel
theorem dJ4_hashCode_35 : decode cJ4_hashCode 35 = .ok (.sipush 255, 3) := by decide +kernel
theorem dJ4_hashCode_38 : decode cJ4_hashCode 38 = .ok (.iand, 1) := by decide +kernel
theorem dJ4_hashCode_39 : decode cJ4_hashCode 39 = .ok (.goto 12, 3) := by decide +kernel
theorem dJ4_hashCode_42 : decode cJ4_hashCode 42 = .ok (.aload_n 0, 1) := by decide +kernel
theorem dJ4_hashCode_43 : decode cJ4_hashCode 43 = .ok (.iconst 0, 1) := by decide +kernel
theorem dJ4_hashCode_44 : decode cJ4_hashCode 44 = .ok (.aload_n 0, 1) := by decide +kernel
theorem dJ4_hashCode_45 : decode cJ4_hashCode 45 = .ok (.arraylength, 1) := by decide +kernel
theorem dJ4_hashCode_46 : decode cJ4_hashCode 46 = .ok (.iconst 0, 1) := by decide +kernel
theorem dJ4_hashCode_47 : decode cJ4_hashCode 47 = .ok (.iconst 4, 1) := by decide +kernel
theorem dJ4_hashCode_48 : decode cJ4_hashCode 48 = .ok (.invokestatic 84, 3) := by decide +kernel
theorem dJ4_hashCode_51 : decode cJ4_hashCode 51 = .ok (.ireturn, 1) := by decide +kernel
theorem dJ5_checkIndex_0 : decode cJ5_checkIndex 0 = .ok (.iload_n 0, 1) := by decide +kernel
theorem dJ5_checkIndex_1 : decode cJ5_checkIndex 1 = .ok (.ifCond .lt 8, 3) := by decide +kernel
theorem dJ5_checkIndex_4 : decode cJ5_checkIndex 4 = .ok (.iload_n 0, 1) := by decide +kernel
theorem dJ5_checkIndex_5 : decode cJ5_checkIndex 5 = .ok (.iload_n 1, 1) := by decide +kernel
theorem dJ5_checkIndex_6 : decode cJ5_checkIndex 6 = .ok (.if_icmp .lt 10, 3) := by decide +kernel
theorem dJ5_checkIndex_9 : decode cJ5_checkIndex 9 = .ok (.aload_n 2, 1) := by decide +kernel
theorem dJ5_checkIndex_10 : decode cJ5_checkIndex 10 = .ok (.iload_n 0, 1) := by decide +kernel
theorem dJ5_checkIndex_11 : decode cJ5_checkIndex 11 = .ok (.iload_n 1, 1) := by decide +kernel
theorem dJ5_checkIndex_12 : decode cJ5_checkIndex 12 = .ok (.invokestatic 95, 3) := by decide +kernel
theorem dJ5_checkIndex_15 : decode cJ5_checkIndex 15 = .ok (.athrow, 1) := by decide +kernel
theorem dJ5_checkIndex_16 : decode cJ5_checkIndex 16 = .ok (.iload_n 0, 1) := by decide +kernel
theorem dJ5_checkIndex_17 : decode cJ5_checkIndex 17 = .ok (.ireturn, 1) := by decide +kernel
theorem dJ5_checkFromIndexSize_0 : decode cJ5_checkFromIndexSize 0 = .ok (.iload_n 2, 1) := by decide +kernel
theorem dJ5_checkFromIndexSize_1 : decode cJ5_checkFromIndexSize 1 = .ok (.iload_n 0, 1) := by decide +kernel
theorem dJ5_checkFromIndexSize_2 : decode cJ5_checkFromIndexSize 2 = .ok (.ior, 1) := by decide +kernel
theorem dJ5_checkFromIndexSize_3 : decode cJ5_checkFromIndexSize 3 = .ok (.iload_n 1, 1) := by decide +kernel
theorem dJ5_checkFromIndexSize_4 : decode cJ5_checkFromIndexSize 4 = .ok (.ior, 1) := by decide +kernel
theorem dJ5_checkFromIndexSize_5 : decode cJ5_checkFromIndexSize 5 = .ok (.ifCond .lt 10, 3) := by decide +kernel
theorem dJ5_checkFromIndexSize_8 : decode cJ5_checkFromIndexSize 8 = .ok (.iload_n 1, 1) := by decide +kernel
theorem dJ5_checkFromIndexSize_9 : decode cJ5_checkFromIndexSize 9 = .ok (.iload_n 2, 1) := by decide +kernel
theorem dJ5_checkFromIndexSize_10 : decode cJ5_checkFromIndexSize 10 = .ok (.iload_n 0, 1) := by decide +kernel
theorem dJ5_checkFromIndexSize_11 : decode cJ5_checkFromIndexSize 11 = .ok (.isub, 1) := by decide +kernel
theorem dJ5_checkFromIndexSize_12 : decode cJ5_checkFromIndexSize 12 = .ok (.if_icmp .le 11, 3) := by decide +kernel
theorem dJ5_checkFromIndexSize_15 : decode cJ5_checkFromIndexSize 15 = .ok (.aload_n 3, 1) := by decide +kernel
theorem dJ5_checkFromIndexSize_16 : decode cJ5_checkFromIndexSize 16 = .ok (.iload_n 0, 1) := by decide +kernel
theorem dJ5_checkFromIndexSize_17 : decode cJ5_checkFromIndexSize 17 = .ok (.iload_n 1, 1) := by decide +kernel
theorem dJ5_checkFromIndexSize_18 : decode cJ5_checkFromIndexSize 18 = .ok (.iload_n 2, 1) := by decide +kernel
theorem dJ5_checkFromIndexSize_19 : decode cJ5_checkFromIndexSize 19 = .ok (.invokestatic 103, 3) := by decide +kernel
theorem dJ5_checkFromIndexSize_22 : decode cJ5_checkFromIndexSize 22 = .ok (.athrow, 1) := by decide +kernel
theorem dJ5_checkFromIndexSize_23 : decode cJ5_checkFromIndexSize 23 = .ok (.iload_n 0, 1) := by decide +kernel
theorem dJ5_checkFromIndexSize_24 : decode cJ5_checkFromIndexSize 24 = .ok (.ireturn, 1) := by decide +kernel
theorem dJ5_checkFromToIndex_0 : decode cJ5_checkFromToIndex 0 = .ok (.iload_n 0, 1) := by decide +kernel
theorem dJ5_checkFromToIndex_1 : decode cJ5_checkFromToIndex 1 = .ok (.ifCond .lt 13, 3) := by decide +kernel
theorem dJ5_checkFromToIndex_4 : decode cJ5_checkFromToIndex 4 = .ok (.iload_n 0, 1) := by decide +kernel
theorem dJ5_checkFromToIndex_5 : decode cJ5_checkFromToIndex 5 = .ok (.iload_n 1, 1) := by decide +kernel
theorem dJ5_checkFromToIndex_6 : decode cJ5_checkFromToIndex 6 = .ok (.if_icmp .gt 8, 3) := by decide +kernel
theorem dJ5_checkFromToIndex_9 : decode cJ5_checkFromToIndex 9 = .ok (.iload_n 1, 1) := by decide +kernel
theorem dJ5_checkFromToIndex_10 : decode cJ5_checkFromToIndex 10 = .ok (.iload_n 2, 1) := by decide +kernel
theorem dJ5_checkFromToIndex_11 : decode cJ5_checkFromToIndex 11 = .ok (.if_icmp .le 11, 3) := by decide +kernel
theorem dJ5_checkFromToIndex_14 : decode cJ5_checkFromToIndex 14 = .ok (.aload_n 3, 1) := by decide +kernel
theorem dJ5_checkFromToIndex_15 : decode cJ5_checkFromToIndex 15 = .ok (.iload_n 0, 1) := by decide +kernel
theorem dJ5_checkFromToIndex_16 : decode cJ5_checkFromToIndex 16 = .ok (.iload_n 1, 1) := by decide +kernel
theorem dJ5_checkFromToIndex_17 : decode cJ5_checkFromToIndex 17 = .ok (.iload_n 2, 1) := by decide +kernel
theorem dJ5_checkFromToIndex_18 : decode cJ5_checkFromToIndex 18 = .ok (.invokestatic 99, 3) := by decide +kernel
theorem dJ5_checkFromToIndex_21 : decode cJ5_checkFromToIndex 21 = .ok (.athrow, 1) := by decide +kernel
theorem dJ5_checkFromToIndex_22 : decode cJ5_checkFromToIndex 22 = .ok (.iload_n 0, 1) := by decide +kernel
theorem dJ5_checkFromToIndex_23 : decode cJ5_checkFromToIndex 23 = .ok (.ireturn, 1) := by decide +kernel
theorem dJ7_checkIndex_0 : decode cJ7_checkIndex 0 = .ok (.iload_n 0, 1) := by decide +kernel
theorem dJ7_checkIndex_1 : decode cJ7_checkIndex 1 = .ok (.iload_n 1, 1) := by decide +kernel
theorem dJ7_checkIndex_2 : decode cJ7_checkIndex 2 = .ok (.aconst_null, 1) := by decide +kernel
theorem dJ7_checkIndex_3 : decode cJ7_checkIndex 3 = .ok (.invokestatic 105, 3) := by decide +kernel
theorem dJ7_checkIndex_6 : decode cJ7_checkIndex 6 = .ok (.ireturn, 1) := by decide +kernel
