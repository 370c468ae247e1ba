set_option maxRecDepth 100000
theorem dJ0_init_0 : decode cJ0_init 0 = .ok (.aload_n 0, 1) := by decide +kernel
theorem dJ0_init_1 : decode cJ0_init 1 = .ok (.invokespecial 1, 3) := by decide +kernel
theorem dJ0_init_4 : decode cJ0_init 4 = .ok (.return_, 1) := by decide +kernel
theorem dJ1_init_0 : decode cJ1_init 0 = .ok (.aload_n 0, 1) := by decide +kernel
theorem dJ1_init_1 : decode cJ1_init 1 = .ok (.invokespecial 1, 3) := by decide +kernel
theorem dJ1_init_4 : decode cJ1_init 4 = .ok (.aload_n 0, 1) := by decide +kernel
theorem dJ1_init_5 : decode cJ1_init 5 = .ok (.iconst 0, 1) := by decide +kernel
theorem dJ1_init_6 : decode cJ1_init 6 = .ok (.putfield 7, 3) := by decide +kernel
theorem dJ1_init_9 : decode cJ1_init 9 = .ok (.return_, 1) := by decide +kernel
theorem dJ8_newLength_0 : decode cJ8_newLength 0 = .ok (.iload_n 0, 1) := by decide +kernel
theorem dJ8_newLength_1 : decode cJ8_newLength 1 = .ok (.iload_n 1, 1) := by decide +kernel
theorem dJ8_newLength_2 : decode cJ8_newLength 2 = .ok (.iload_n 2, 1) := by decide +kernel
theorem dJ8_newLength_3 : decode cJ8_newLength 3 = .ok (.invokestatic 194, 3) := by decide +kernel
theorem dJ8_newLength_6 : decode cJ8_newLength 6 = .ok (.iadd, 1) := by decide +kernel
theorem dJ8_newLength_7 : decode cJ8_newLength 7 = .ok (.istore_n 3, 1) := by decide +kernel
theorem dJ8_newLength_8 : decode cJ8_newLength 8 = .ok (.iconst 0, 1) := by decide +kernel
theorem dJ8_newLength_9 : decode cJ8_newLength 9 = .ok (.iload_n 3, 1) := by decide +kernel
theorem dJ8_newLength_10 : decode cJ8_newLength 10 = .ok (.if_icmp .ge 11, 3) := by decide +kernel
theorem dJ8_newLength_13 : decode cJ8_newLength 13 = .ok (.iload_n 3, 1) := by decide +kernel
theorem dJ8_newLength_14 : decode cJ8_newLength 14 = .ok (.ldc 200, 2) := by decide +kernel
theorem dJ8_newLength_16 : decode cJ8_newLength 16 = .ok (.if_icmp .gt 5, 3) := by decide +kernel
theorem dJ8_newLength_19 : decode cJ8_newLength 19 = .ok (.iload_n 3, 1) := by decide +kernel
theorem dJ8_newLength_20 : decode cJ8_newLength 20 = .ok (.ireturn, 1) := by decide +kernel
theorem dJ8_newLength_21 : decode cJ8_newLength 21 = .ok (.iload_n 0, 1) := by decide +kernel
theorem dJ8_newLength_22 : decode cJ8_newLength 22 = .ok (.iload_n 1, 1) := by decide +kernel
theorem dJ8_newLength_23 : decode cJ8_newLength 23 = .ok (.invokestatic 201, 3) := by decide +kernel
theorem dJ8_newLength_26 : decode cJ8_newLength 26 = .ok (.ireturn, 1) := by decide +kernel
theorem dJ8_hugeLength_0 : decode cJ8_hugeLength 0 = .ok (.iload_n 0, 1) := by decide +kernel
theorem dJ8_hugeLength_1 : decode cJ8_hugeLength 1 = .ok (.iload_n 1, 1) := by decide +kernel
theorem dJ8_hugeLength_2 : decode cJ8_hugeLength 2 = .ok (.iadd, 1) := by decide +kernel
theorem dJ8_hugeLength_3 : decode cJ8_hugeLength 3 = .ok (.istore_n 2, 1) := by decide +kernel
theorem dJ8_hugeLength_4 : decode cJ8_hugeLength 4 = .ok (.iload_n 2, 1) := by decide +kernel
theorem dJ8_hugeLength_5 : decode cJ8_hugeLength 5 = .ok (.ifCond .ge 44, 3) := by decide +kernel
theorem dJ8_hugeLength_8 : decode cJ8_hugeLength 8 = .ok (.new 204, 3) := by decide +kernel
theorem dJ8_hugeLength_11 : decode cJ8_hugeLength 11 = .ok (.dup, 1) := by decide +kernel
theorem dJ8_hugeLength_12 : decode cJ8_hugeLength 12 = .ok (.new 89, 3) := by decide +kernel
theorem dJ8_hugeLength_15 : decode cJ8_hugeLength 15 = .ok (.dup, 1) := by decide +kernel
theorem dJ8_hugeLength_16 : decode cJ8_hugeLength 16 = .ok (.invokespecial 91, 3) := by decide +kernel
theorem dJ8_hugeLength_19 : decode cJ8_hugeLength 19 = .ok (.ldc 206, 2) := by decide +kernel
theorem dJ8_hugeLength_21 : decode cJ8_hugeLength 21 = .ok (.invokevirtual 94, 3) := by decide +kernel
theorem dJ8_hugeLength_24 : decode cJ8_hugeLength 24 = .ok (.iload_n 0, 1) := by decide +kernel
theorem dJ8_hugeLength_25 : decode cJ8_hugeLength 25 = .ok (.invokevirtual 98, 3) := by decide +kernel
theorem dJ8_hugeLength_28 : decode cJ8_hugeLength 28 = .ok (.ldc 208, 2) := by decide +kernel
theorem dJ8_hugeLength_30 : decode cJ8_hugeLength 30 = .ok (.invokevirtual 94, 3) := by decide +kernel
theorem dJ8_hugeLength_33 : decode cJ8_hugeLength 33 = .ok (.iload_n 1, 1) := by decide +kernel
theorem dJ8_hugeLength_34 : decode cJ8_hugeLength 34 = .ok (.invokevirtual 98, 3) := by decide +kernel
theorem dJ8_hugeLength_37 : decode cJ8_hugeLength 37 = .ok (.ldc 210, 2) := by decide +kernel
theorem dJ8_hugeLength_39 : decode cJ8_hugeLength 39 = .ok (.invokevirtual 94, 3) := by decide +kernel
theorem dJ8_hugeLength_42 : decode cJ8_hugeLength 42 = .ok (.invokevirtual 101, 3) := by decide +kernel
theorem dJ8_hugeLength_45 : decode cJ8_hugeLength 45 = .ok (.invokespecial 212, 3) := by decide +kernel
theorem dJ8_hugeLength_48 : decode cJ8_hugeLength 48 = .ok (.athrow, 1) := by decide +kernel
theorem dJ8_hugeLength_49 : decode cJ8_hugeLength 49 = .ok (.iload_n 2, 1) := by decide +kernel
theorem dJ8_hugeLength_50 : decode cJ8_hugeLength 50 = .ok (.ldc 200, 2) := by decide +kernel
theorem dJ8_hugeLength_52 : decode cJ8_hugeLength 52 = .ok (.if_icmp .gt 6, 3) := by decide +kernel
theorem dJ8_hugeLength_55 : decode cJ8_hugeLength 55 = .ok (.ldc 200, 2) := by decide +kernel
theorem dJ8_hugeLength_57 : decode cJ8_hugeLength 57 = .ok (.ireturn, 1) := by decide +kernel
theorem dJ8_hugeLength_58 : decode cJ8_hugeLength 58 = .ok (.iload_n 2, 1) := by decide +kernel
theorem dJ8_hugeLength_59 : decode cJ8_hugeLength 59 = .ok (.ireturn, 1) := by decide +kernel
theorem dJ8_vectorizedHashCode_0 : decode cJ8_vectorizedHashCode 0 = .ok (.iload 4, 2) := by decide +kernel
theorem dJ8_vectorizedHashCode_2 : decode cJ8_vectorizedHashCode 2 = .ok (.tableswitch 127 4 10 #[42, 55, 127, 127, 88, 101, 114], 42) := by decide +kernel
theorem dJ8_vectorizedHashCode_44 : decode cJ8_vectorizedHashCode 44 = .ok (.iload_n 3, 1) := by decide +kernel
theorem dJ8_vectorizedHashCode_45 : decode cJ8_vectorizedHashCode 45 = .ok (.aload_n 0, 1) := by decide +kernel
theorem dJ8_vectorizedHashCode_46 : decode cJ8_vectorizedHashCode 46 = .ok (.checkcast 60, 3) := by decide +kernel
theorem dJ8_vectorizedHashCode_49 : decode cJ8_vectorizedHashCode 49 = .ok (.iload_n 1, 1) := by decide +kernel
theorem dJ8_vectorizedHashCode_50 : decode cJ8_vectorizedHashCode 50 = .ok (.iload_n 2, 1) := by decide +kernel
theorem dJ8_vectorizedHashCode_51 : decode cJ8_vectorizedHashCode 51 = .ok (.invokestatic 62, 3) := by decide +kernel
theorem dJ8_vectorizedHashCode_54 : decode cJ8_vectorizedHashCode 54 = .ok (.goto 103, 3) := by decide +kernel
theorem dJ8_vectorizedHashCode_57 : decode cJ8_vectorizedHashCode 57 = .ok (.aload_n 0, 1) := by decide +kernel
theorem dJ8_vectorizedHashCode_58 : decode cJ8_vectorizedHashCode 58 = .ok (.instanceof 60, 3) := by decide +kernel
theorem dJ8_vectorizedHashCode_61 : decode cJ8_vectorizedHashCode 61 = .ok (.ifCond .eq 16, 3) := by decide +kernel
theorem dJ8_vectorizedHashCode_64 : decode cJ8_vectorizedHashCode 64 = .ok (.iload_n 3, 1) := by decide +kernel
theorem dJ8_vectorizedHashCode_65 : decode cJ8_vectorizedHashCode 65 = .ok (.aload_n 0, 1) := by decide +kernel
theorem dJ8_vectorizedHashCode_66 : decode cJ8_vectorizedHashCode 66 = .ok (.checkcast 60, 3) := by decide +kernel
theorem dJ8_vectorizedHashCode_69 : decode cJ8_vectorizedHashCode 69 = .ok (.iload_n 1, 1) := by decide +kernel
theorem dJ8_vectorizedHashCode_70 : decode cJ8_vectorizedHashCode 70 = .ok (.iload_n 2, 1) := by decide +kernel
theorem dJ8_vectorizedHashCode_71 : decode cJ8_vectorizedHashCode 71 = .ok (.invokestatic 66, 3) := by decide +kernel
theorem dJ8_vectorizedHashCode_74 : decode cJ8_vectorizedHashCode 74 = .ok (.goto 83, 3) := by decide +kernel
theorem dJ8_vectorizedHashCode_77 : decode cJ8_vectorizedHashCode 77 = .ok (.iload_n 3, 1) := by decide +kernel
theorem dJ8_vectorizedHashCode_78 : decode cJ8_vectorizedHashCode 78 = .ok (.aload_n 0, 1) := by decide +kernel
theorem dJ8_vectorizedHashCode_79 : decode cJ8_vectorizedHashCode 79 = .ok (.checkcast 69, 3) := by decide +kernel
theorem dJ8_vectorizedHashCode_82 : decode cJ8_vectorizedHashCode 82 = .ok (.iload_n 1, 1) := by decide +kernel
theorem dJ8_vectorizedHashCode_83 : decode cJ8_vectorizedHashCode 83 = .ok (.iload_n 2, 1) := by decide +kernel
theorem dJ8_vectorizedHashCode_84 : decode cJ8_vectorizedHashCode 84 = .ok (.invokestatic 71, 3) := by decide +kernel
theorem dJ8_vectorizedHashCode_87 : decode cJ8_vectorizedHashCode 87 = .ok (.goto 70, 3) := by decide +kernel
theorem dJ8_vectorizedHashCode_90 : decode cJ8_vectorizedHashCode 90 = .ok (.iload_n 3, 1) := by decide +kernel
theorem dJ8_vectorizedHashCode_91 : decode cJ8_vectorizedHashCode 91 = .ok (.aload_n 0, 1) := by decide +kernel
theorem dJ8_vectorizedHashCode_92 : decode cJ8_vectorizedHashCode 92 = .ok (.checkcast 60, 3) := by decide +kernel
theorem dJ8_vectorizedHashCode_95 : decode cJ8_vectorizedHashCode 95 = .ok (.iload_n 1, 1) := by decide +kernel
theorem dJ8_vectorizedHashCode_96 : decode cJ8_vectorizedHashCode 96 = .ok (.iload_n 2, 1) := by decide +kernel
theorem dJ8_vectorizedHashCode_97 : decode cJ8_vectorizedHashCode 97 = .ok (.invokestatic 75, 3) := by decide +kernel
theorem dJ8_vectorizedHashCode_100 : decode cJ8_vectorizedHashCode 100 = .ok (.goto 57, 3) := by decide +kernel
theorem dJ8_vectorizedHashCode_103 : decode cJ8_vectorizedHashCode 103 = .ok (.iload_n 3, 1) := by decide +kernel
theorem dJ8_vectorizedHashCode_104 : decode cJ8_vectorizedHashCode 104 = .ok (.aload_n 0, 1) := by decide +kernel
theorem dJ8_vectorizedHashCode_105 : decode cJ8_vectorizedHashCode 105 = .ok (.checkcast 77, 3) := by decide +kernel
theorem dJ8_vectorizedHashCode_108 : decode cJ8_vectorizedHashCode 108 = .ok (.iload_n 1, 1) := by decide +kernel
theorem dJ8_vectorizedHashCode_109 : decode cJ8_vectorizedHashCode 109 = .ok (.iload_n 2, 1) := by decide +kernel
theorem dJ8_vectorizedHashCode_110 : decode cJ8_vectorizedHashCode 110 = .ok (.invokestatic 79, 3) := by decide +kernel
theorem dJ8_vectorizedHashCode_113 : decode cJ8_vectorizedHashCode 113 = .ok (.goto 44, 3) := by decide +kernel
theorem dJ8_vectorizedHashCode_116 : decode cJ8_vectorizedHashCode 116 = .ok (.iload_n 3, 1) := by decide +kernel
theorem dJ8_vectorizedHashCode_117 : decode cJ8_vectorizedHashCode 117 = .ok (.aload_n 0, 1) := by decide +kernel
theorem dJ8_vectorizedHashCode_118 : decode cJ8_vectorizedHashCode 118 = .ok (.checkcast 82, 3) := by decide +kernel
theorem dJ8_vectorizedHashCode_121 : decode cJ8_vectorizedHashCode 121 = .ok (.iload_n 1, 1) := by decide +kernel
theorem dJ8_vectorizedHashCode_122 : decode cJ8_vectorizedHashCode 122 = .ok (.iload_n 2, 1) := by decide +kernel
theorem dJ8_vectorizedHashCode_123 : decode cJ8_vectorizedHashCode 123 = .ok (.invokestatic 84, 3) := by decide +kernel
theorem dJ8_vectorizedHashCode_126 : decode cJ8_vectorizedHashCode 126 = .ok (.goto 31, 3) := by decide +kernel
theorem dJ8_vectorizedHashCode_129 : decode cJ8_vectorizedHashCode 129 = .ok (.new 87, 3) := by decide +kernel
theorem dJ8_vectorizedHashCode_132 : decode cJ8_vectorizedHashCode 132 = .ok (.dup, 1) := by decide +kernel
theorem dJ8_vectorizedHashCode_133 : decode cJ8_vectorizedHashCode 133 = .ok (.new 89, 3) := by decide +kernel
theorem dJ8_vectorizedHashCode_136 : decode cJ8_vectorizedHashCode 136 = .ok (.dup, 1) := by decide +kernel
theorem dJ8_vectorizedHashCode_137 : decode cJ8_vectorizedHashCode 137 = .ok (.invokespecial 91, 3) := by decide +kernel
theorem dJ8_vectorizedHashCode_140 : decode cJ8_vectorizedHashCode 140 = .ok (.ldc 92, 2) := by decide +kernel
theorem dJ8_vectorizedHashCode_142 : decode cJ8_vectorizedHashCode 142 = .ok (.invokevirtual 94, 3) := by decide +kernel
theorem dJ8_vectorizedHashCode_145 : decode cJ8_vectorizedHashCode 145 = .ok (.iload 4, 2) := by decide +kernel
theorem dJ8_vectorizedHashCode_147 : decode cJ8_vectorizedHashCode 147 = .ok (.invokevirtual 98, 3) := by decide +kernel
theorem dJ8_vectorizedHashCode_150 : decode cJ8_vectorizedHashCode 150 = .ok (.invokevirtual 101, 3) := by decide +kernel
theorem dJ8_vectorizedHashCode_153 : decode cJ8_vectorizedHashCode 153 = .ok (.invokespecial 105, 3) := by decide +kernel
theorem dJ8_vectorizedHashCode_156 : decode cJ8_vectorizedHashCode 156 = .ok (.athrow, 1) := by decide +kernel
theorem dJ8_vectorizedHashCode_157 : decode cJ8_vectorizedHashCode 157 = .ok (.ireturn, 1) := by decide +kernel
theorem dJ8_signedHashCode_0 : decode cJ8_signedHashCode 0 = .ok (.iload_n 2, 1) := by decide +kernel
theorem dJ8_signedHashCode_1 : decode cJ8_signedHashCode 1 = .ok (.iload_n 3, 1) := by decide +kernel
theorem dJ8_signedHashCode_2 : decode cJ8_signedHashCode 2 = .ok (.iadd, 1) := by decide +kernel
theorem dJ8_signedHashCode_3 : decode cJ8_signedHashCode 3 = .ok (.istore 4, 2) := by decide +kernel
theorem dJ8_signedHashCode_5 : decode cJ8_signedHashCode 5 = .ok (.iload_n 2, 1) := by decide +kernel
theorem dJ8_signedHashCode_6 : decode cJ8_signedHashCode 6 = .ok (.istore 5, 2) := by decide +kernel
theorem dJ8_signedHashCode_8 : decode cJ8_signedHashCode 8 = .ok (.iload 5, 2) := by decide +kernel
theorem dJ8_signedHashCode_10 : decode cJ8_signedHashCode 10 = .ok (.iload 4, 2) := by decide +kernel
theorem dJ8_signedHashCode_12 : decode cJ8_signedHashCode 12 = .ok (.if_icmp .ge 23, 3) := by decide +kernel
theorem dJ8_signedHashCode_15 : decode cJ8_signedHashCode 15 = .ok (.bipush 31, 2) := by decide +kernel
theorem dJ8_signedHashCode_17 : decode cJ8_signedHashCode 17 = .ok (.iload_n 0, 1) := by decide +kernel
theorem dJ8_signedHashCode_18 : decode cJ8_signedHashCode 18 = .ok (.imul, 1) := by decide +kernel
theorem dJ8_signedHashCode_19 : decode cJ8_signedHashCode 19 = .ok (.aload_n 1, 1) := by decide +kernel
theorem dJ8_signedHashCode_20 : decode cJ8_signedHashCode 20 = .ok (.iload 5, 2) := by decide +kernel
theorem dJ8_signedHashCode_22 : decode cJ8_signedHashCode 22 = .ok (.baload, 1) := by decide +kernel
theorem dJ8_signedHashCode_23 : decode cJ8_signedHashCode 23 = .ok (.sipush 255, 3) := by decide +kernel
theorem dJ8_signedHashCode_26 : decode cJ8_signedHashCode 26 = .ok (.iand, 1) := by decide +kernel
theorem dJ8_signedHashCode_27 : decode cJ8_signedHashCode 27 = .ok (.iadd, 1) := by decide +kernel
theorem dJ8_signedHashCode_28 : decode cJ8_signedHashCode 28 = .ok (.istore_n 0, 1) := by decide +kernel
theorem dJ8_signedHashCode_29 : decode cJ8_signedHashCode 29 = .ok (.iinc 5 1, 3) := by decide +kernel
theorem dJ8_signedHashCode_32 : decode cJ8_signedHashCode 32 = .ok (.goto (-24), 3) := by decide +kernel
theorem dJ8_signedHashCode_35 : decode cJ8_signedHashCode 35 = .ok (.iload_n 0, 1) := by decide +kernel
theorem dJ8_signedHashCode_36 : decode cJ8_signedHashCode 36 = .ok (.ireturn, 1) := by decide +kernel
theorem dJ8_utf16hashCode_0 : decode cJ8_utf16hashCode 0 = .ok (.iload_n 2, 1) := by decide +kernel
theorem dJ8_utf16hashCode_1 : decode cJ8_utf16hashCode 1 = .ok (.iload_n 3, 1) := by decide +kernel
theorem dJ8_utf16hashCode_2 : decode cJ8_utf16hashCode 2 = .ok (.iadd, 1) := by decide +kernel
theorem dJ8_utf16hashCode_3 : decode cJ8_utf16hashCode 3 = .ok (.istore 4, 2) := by decide +kernel
theorem dJ8_utf16hashCode_5 : decode cJ8_utf16hashCode 5 = .ok (.iload_n 2, 1) := by decide +kernel
theorem dJ8_utf16hashCode_6 : decode cJ8_utf16hashCode 6 = .ok (.istore 5, 2) := by decide +kernel
theorem dJ8_utf16hashCode_8 : decode cJ8_utf16hashCode 8 = .ok (.iload 5, 2) := by decide +kernel
theorem dJ8_utf16hashCode_10 : decode cJ8_utf16hashCode 10 = .ok (.iload 4, 2) := by decide +kernel
theorem dJ8_utf16hashCode_12 : decode cJ8_utf16hashCode 12 = .ok (.if_icmp .ge 26, 3) := by decide +kernel
theorem dJ8_utf16hashCode_15 : decode cJ8_utf16hashCode 15 = .ok (.bipush 31, 2) := by decide +kernel
theorem dJ8_utf16hashCode_17 : decode cJ8_utf16hashCode 17 = .ok (.iload_n 0, 1) := by decide +kernel
theorem dJ8_utf16hashCode_18 : decode cJ8_utf16hashCode 18 = .ok (.imul, 1) := by decide +kernel
theorem dJ8_utf16hashCode_19 : decode cJ8_utf16hashCode 19 = .ok (.getstatic 106, 3) := by decide +kernel
theorem dJ8_utf16hashCode_22 : decode cJ8_utf16hashCode 22 = .ok (.aload_n 1, 1) := by decide +kernel
theorem dJ8_utf16hashCode_23 : decode cJ8_utf16hashCode 23 = .ok (.iload 5, 2) := by decide +kernel
theorem dJ8_utf16hashCode_25 : decode cJ8_utf16hashCode 25 = .ok (.invokeinterface 110 3, 5) := by decide +kernel
theorem dJ8_utf16hashCode_30 : decode cJ8_utf16hashCode 30 = .ok (.iadd, 1) := by decide +kernel
theorem dJ8_utf16hashCode_31 : decode cJ8_utf16hashCode 31 = .ok (.istore_n 0, 1) := by decide +kernel
theorem dJ8_utf16hashCode_32 : decode cJ8_utf16hashCode 32 = .ok (.iinc 5 1, 3) := by decide +kernel
theorem dJ8_utf16hashCode_35 : decode cJ8_utf16hashCode 35 = .ok (.goto (-27), 3) := by decide +kernel
theorem dJ8_utf16hashCode_38 : decode cJ8_utf16hashCode 38 = .ok (.iload_n 0, 1) := by decide +kernel
theorem dJ8_utf16hashCode_39 : decode cJ8_utf16hashCode 39 = .ok (.ireturn, 1) := by decide +kernel
theorem dJ8_hashCode_0 : decode cJ8_hashCode 0 = .ok (.iload_n 2, 1) := by decide +kernel
theorem dJ8_hashCode_1 : decode cJ8_hashCode 1 = .ok (.iload_n 3, 1) := by decide +kernel
theorem dJ8_hashCode_2 : decode cJ8_hashCode 2 = .ok (.iadd, 1) := by decide +kernel
theorem dJ8_hashCode_3 : decode cJ8_hashCode 3 = .ok (.istore 4, 2) := by decide +kernel
theorem dJ8_hashCode_5 : decode cJ8_hashCode 5 = .ok (.iload_n 2, 1) := by decide +kernel
theorem dJ8_hashCode_6 : decode cJ8_hashCode 6 = .ok (.istore 5, 2) := by decide +kernel
theorem dJ8_hashCode_8 : decode cJ8_hashCode 8 = .ok (.iload 5, 2) := by decide +kernel
theorem dJ8_hashCode_10 : decode cJ8_hashCode 10 = .ok (.iload 4, 2) := by decide +kernel
theorem dJ8_hashCode_12 : decode cJ8_hashCode 12 = .ok (.if_icmp .ge 19, 3) := by decide +kernel
theorem dJ8_hashCode_15 : decode cJ8_hashCode 15 = .ok (.bipush 31, 2) := by decide +kernel
theorem dJ8_hashCode_17 : decode cJ8_hashCode 17 = .ok (.iload_n 0, 1) := by decide +kernel
theorem dJ8_hashCode_18 : decode cJ8_hashCode 18 = .ok (.imul, 1) := by decide +kernel
theorem dJ8_hashCode_19 : decode cJ8_hashCode 19 = .ok (.aload_n 1, 1) := by decide +kernel
theorem dJ8_hashCode_20 : decode cJ8_hashCode 20 = .ok (.iload 5, 2) := by decide +kernel
theorem dJ8_hashCode_22 : decode cJ8_hashCode 22 = .ok (.caload, 1) := by decide +kernel
theorem dJ8_hashCode_23 : decode cJ8_hashCode 23 = .ok (.iadd, 1) := by decide +kernel
theorem dJ8_hashCode_24 : decode cJ8_hashCode 24 = .ok (.istore_n 0, 1) := by decide +kernel
theorem dJ8_hashCode_25 : decode cJ8_hashCode 25 = .ok (.iinc 5 1, 3) := by decide +kernel
theorem dJ8_hashCode_28 : decode cJ8_hashCode 28 = .ok (.goto (-20), 3) := by decide +kernel
theorem dJ8_hashCode_31 : decode cJ8_hashCode 31 = .ok (.iload_n 0, 1) := by decide +kernel
theorem dJ8_hashCode_32 : decode cJ8_hashCode 32 = .ok (.ireturn, 1) := by decide +kernel
theorem dJ8_hashCode_2_0 : decode cJ8_hashCode_2 0 = .ok (.iload_n 2, 1) := by decide +kernel
theorem dJ8_hashCode_2_1 : decode cJ8_hashCode_2 1 = .ok (.iload_n 3, 1) := by decide +kernel
theorem dJ8_hashCode_2_2 : decode cJ8_hashCode_2 2 = .ok (.iadd, 1) := by decide +kernel
theorem dJ8_hashCode_2_3 : decode cJ8_hashCode_2 3 = .ok (.istore 4, 2) := by decide +kernel
theorem dJ8_hashCode_2_5 : decode cJ8_hashCode_2 5 = .ok (.iload_n 2, 1) := by decide +kernel
theorem dJ8_hashCode_2_6 : decode cJ8_hashCode_2 6 = .ok (.istore 5, 2) := by decide +kernel
theorem dJ8_hashCode_2_8 : decode cJ8_hashCode_2 8 = .ok (.iload 5, 2) := by decide +kernel
theorem dJ8_hashCode_2_10 : decode cJ8_hashCode_2 10 = .ok (.iload 4, 2) := by decide +kernel
theorem dJ8_hashCode_2_12 : decode cJ8_hashCode_2 12 = .ok (.if_icmp .ge 19, 3) := by decide +kernel
theorem dJ8_hashCode_2_15 : decode cJ8_hashCode_2 15 = .ok (.bipush 31, 2) := by decide +kernel
theorem dJ8_hashCode_2_17 : decode cJ8_hashCode_2 17 = .ok (.iload_n 0, 1) := by decide +kernel
theorem dJ8_hashCode_2_18 : decode cJ8_hashCode_2 18 = .ok (.imul, 1) := by decide +kernel
theorem dJ8_hashCode_2_19 : decode cJ8_hashCode_2 19 = .ok (.aload_n 1, 1) := by decide +kernel
theorem dJ8_hashCode_2_20 : decode cJ8_hashCode_2 20 = .ok (.iload 5, 2) := by decide +kernel
theorem dJ8_hashCode_2_22 : decode cJ8_hashCode_2 22 = .ok (.baload, 1) := by decide +kernel
theorem dJ8_hashCode_2_23 : decode cJ8_hashCode_2 23 = .ok (.iadd, 1) := by decide +kernel
theorem dJ8_hashCode_2_24 : decode cJ8_hashCode_2 24 = .ok (.istore_n 0, 1) := by decide +kernel
theorem dJ8_hashCode_2_25 : decode cJ8_hashCode_2 25 = .ok (.iinc 5 1, 3) := by decide +kernel
theorem dJ8_hashCode_2_28 : decode cJ8_hashCode_2 28 = .ok (.goto (-20), 3) := by decide +kernel
theorem dJ8_hashCode_2_31 : decode cJ8_hashCode_2 31 = .ok (.iload_n 0, 1) := by decide +kernel
theorem dJ8_hashCode_2_32 : decode cJ8_hashCode_2 32 = .ok (.ireturn, 1) := by decide +kernel
theorem dJ8_hashCode_3_0 : decode cJ8_hashCode_3 0 = .ok (.iload_n 2, 1) := by decide +kernel
theorem dJ8_hashCode_3_1 : decode cJ8_hashCode_3 1 = .ok (.iload_n 3, 1) := by decide +kernel
theorem dJ8_hashCode_3_2 : decode cJ8_hashCode_3 2 = .ok (.iadd, 1) := by decide +kernel
theorem dJ8_hashCode_3_3 : decode cJ8_hashCode_3 3 = .ok (.istore 4, 2) := by decide +kernel
theorem dJ8_hashCode_3_5 : decode cJ8_hashCode_3 5 = .ok (.iload_n 2, 1) := by decide +kernel
theorem dJ8_hashCode_3_6 : decode cJ8_hashCode_3 6 = .ok (.istore 5, 2) := by decide +kernel
theorem dJ8_hashCode_3_8 : decode cJ8_hashCode_3 8 = .ok (.iload 5, 2) := by decide +kernel
theorem dJ8_hashCode_3_10 : decode cJ8_hashCode_3 10 = .ok (.iload 4, 2) := by decide +kernel
theorem dJ8_hashCode_3_12 : decode cJ8_hashCode_3 12 = .ok (.if_icmp .ge 19, 3) := by decide +kernel
theorem dJ8_hashCode_3_15 : decode cJ8_hashCode_3 15 = .ok (.bipush 31, 2) := by decide +kernel
theorem dJ8_hashCode_3_17 : decode cJ8_hashCode_3 17 = .ok (.iload_n 0, 1) := by decide +kernel
theorem dJ8_hashCode_3_18 : decode cJ8_hashCode_3 18 = .ok (.imul, 1) := by decide +kernel
theorem dJ8_hashCode_3_19 : decode cJ8_hashCode_3 19 = .ok (.aload_n 1, 1) := by decide +kernel
theorem dJ8_hashCode_3_20 : decode cJ8_hashCode_3 20 = .ok (.iload 5, 2) := by decide +kernel
theorem dJ8_hashCode_3_22 : decode cJ8_hashCode_3 22 = .ok (.saload, 1) := by decide +kernel
theorem dJ8_hashCode_3_23 : decode cJ8_hashCode_3 23 = .ok (.iadd, 1) := by decide +kernel
theorem dJ8_hashCode_3_24 : decode cJ8_hashCode_3 24 = .ok (.istore_n 0, 1) := by decide +kernel
theorem dJ8_hashCode_3_25 : decode cJ8_hashCode_3 25 = .ok (.iinc 5 1, 3) := by decide +kernel
theorem dJ8_hashCode_3_28 : decode cJ8_hashCode_3 28 = .ok (.goto (-20), 3) := by decide +kernel
theorem dJ8_hashCode_3_31 : decode cJ8_hashCode_3 31 = .ok (.iload_n 0, 1) := by decide +kernel
theorem dJ8_hashCode_3_32 : decode cJ8_hashCode_3 32 = .ok (.ireturn, 1) := by decide +kernel
theorem dJ8_hashCode_4_0 : decode cJ8_hashCode_4 0 = .ok (.iload_n 2, 1) := by decide +kernel
theorem dJ8_hashCode_4_1 : decode cJ8_hashCode_4 1 = .ok (.iload_n 3, 1) := by decide +kernel
theorem dJ8_hashCode_4_2 : decode cJ8_hashCode_4 2 = .ok (.iadd, 1) := by decide +kernel
theorem dJ8_hashCode_4_3 : decode cJ8_hashCode_4 3 = .ok (.istore 4, 2) := by decide +kernel
theorem dJ8_hashCode_4_5 : decode cJ8_hashCode_4 5 = .ok (.iload_n 2, 1) := by decide +kernel
theorem dJ8_hashCode_4_6 : decode cJ8_hashCode_4 6 = .ok (.istore 5, 2) := by decide +kernel
theorem dJ8_hashCode_4_8 : decode cJ8_hashCode_4 8 = .ok (.iload 5, 2) := by decide +kernel
theorem dJ8_hashCode_4_10 : decode cJ8_hashCode_4 10 = .ok (.iload 4, 2) := by decide +kernel
theorem dJ8_hashCode_4_12 : decode cJ8_hashCode_4 12 = .ok (.if_icmp .ge 19, 3) := by decide +kernel
theorem dJ8_hashCode_4_15 : decode cJ8_hashCode_4 15 = .ok (.bipush 31, 2) := by decide +kernel
theorem dJ8_hashCode_4_17 : decode cJ8_hashCode_4 17 = .ok (.iload_n 0, 1) := by decide +kernel
theorem dJ8_hashCode_4_18 : decode cJ8_hashCode_4 18 = .ok (.imul, 1) := by decide +kernel
theorem dJ8_hashCode_4_19 : decode cJ8_hashCode_4 19 = .ok (.aload_n 1, 1) := by decide +kernel
theorem dJ8_hashCode_4_20 : decode cJ8_hashCode_4 20 = .ok (.iload 5, 2) := by decide +kernel
theorem dJ8_hashCode_4_22 : decode cJ8_hashCode_4 22 = .ok (.iaload, 1) := by decide +kernel
theorem dJ8_hashCode_4_23 : decode cJ8_hashCode_4 23 = .ok (.iadd, 1) := by decide +kernel
theorem dJ8_hashCode_4_24 : decode cJ8_hashCode_4 24 = .ok (.istore_n 0, 1) := by decide +kernel
theorem dJ8_hashCode_4_25 : decode cJ8_hashCode_4 25 = .ok (.iinc 5 1, 3) := by decide +kernel
theorem dJ8_hashCode_4_28 : decode cJ8_hashCode_4 28 = .ok (.goto (-20), 3) := by decide +kernel
theorem dJ8_hashCode_4_31 : decode cJ8_hashCode_4 31 = .ok (.iload_n 0, 1) := by decide +kernel
theorem dJ8_hashCode_4_32 : decode cJ8_hashCode_4 32 = .ok (.ireturn, 1) := by decide +kernel
theorem dJ10_copyOf_0 : decode cJ10_copyOf 0 = .ok (.aload_n 0, 1) := by decide +kernel
theorem dJ10_copyOf_1 : decode cJ10_copyOf 1 = .ok (.iload_n 1, 1) := by decide +kernel
theorem dJ10_copyOf_2 : decode cJ10_copyOf 2 = .ok (.aload_n 0, 1) := by decide +kernel
theorem dJ10_copyOf_3 : decode cJ10_copyOf 3 = .ok (.invokevirtual 86, 3) := by decide +kernel
theorem dJ10_copyOf_6 : decode cJ10_copyOf 6 = .ok (.invokestatic 300, 3) := by decide +kernel
theorem dJ10_copyOf_9 : decode cJ10_copyOf 9 = .ok (.areturn, 1) := by decide +kernel
theorem dJ10_copyOf_2_0 : decode cJ10_copyOf_2 0 = .ok (.aload_n 2, 1) := by decide +kernel
theorem dJ10_copyOf_2_1 : decode cJ10_copyOf_2 1 = .ok (.ldc 110, 2) := by decide +kernel
theorem dJ10_copyOf_2_3 : decode cJ10_copyOf_2 3 = .ok (.if_acmp .ne 10, 3) := by decide +kernel
theorem dJ10_copyOf_2_6 : decode cJ10_copyOf_2 6 = .ok (.iload_n 1, 1) := by decide +kernel
theorem dJ10_copyOf_2_7 : decode cJ10_copyOf_2 7 = .ok (.anewarray 2, 3) := by decide +kernel
theorem dJ10_copyOf_2_10 : decode cJ10_copyOf_2 10 = .ok (.goto 14, 3) := by decide +kernel
theorem dJ10_copyOf_2_13 : decode cJ10_copyOf_2 13 = .ok (.aload_n 2, 1) := by decide +kernel
theorem dJ10_copyOf_2_14 : decode cJ10_copyOf_2 14 = .ok (.invokevirtual 90, 3) := by decide +kernel
theorem dJ10_copyOf_2_17 : decode cJ10_copyOf_2 17 = .ok (.iload_n 1, 1) := by decide +kernel
theorem dJ10_copyOf_2_18 : decode cJ10_copyOf_2 18 = .ok (.invokestatic 95, 3) := by decide +kernel
theorem dJ10_copyOf_2_21 : decode cJ10_copyOf_2 21 = .ok (.checkcast 110, 3) := by decide +kernel
theorem dJ10_copyOf_2_24 : decode cJ10_copyOf_2 24 = .ok (.astore_n 3, 1) := by decide +kernel
theorem dJ10_copyOf_2_25 : decode cJ10_copyOf_2 25 = .ok (.aload_n 0, 1) := by decide +kernel
theorem dJ10_copyOf_2_26 : decode cJ10_copyOf_2 26 = .ok (.iconst 0, 1) := by decide +kernel
theorem dJ10_copyOf_2_27 : decode cJ10_copyOf_2 27 = .ok (.aload_n 3, 1) := by decide +kernel
theorem dJ10_copyOf_2_28 : decode cJ10_copyOf_2 28 = .ok (.iconst 0, 1) := by decide +kernel
theorem dJ10_copyOf_2_29 : decode cJ10_copyOf_2 29 = .ok (.aload_n 0, 1) := by decide +kernel
theorem dJ10_copyOf_2_30 : decode cJ10_copyOf_2 30 = .ok (.arraylength, 1) := by decide +kernel
theorem dJ10_copyOf_2_31 : decode cJ10_copyOf_2 31 = .ok (.iload_n 1, 1) := by decide +kernel
theorem dJ10_copyOf_2_32 : decode cJ10_copyOf_2 32 = .ok (.invokestatic 304, 3) := by decide +kernel
theorem dJ10_copyOf_2_35 : decode cJ10_copyOf_2 35 = .ok (.invokestatic 150, 3) := by decide +kernel
theorem dJ10_copyOf_2_38 : decode cJ10_copyOf_2 38 = .ok (.aload_n 3, 1) := by decide +kernel
theorem dJ10_copyOf_2_39 : decode cJ10_copyOf_2 39 = .ok (.areturn, 1) := by decide +kernel
theorem dJ10_copyOf_3_0 : decode cJ10_copyOf_3 0 = .ok (.iload_n 1, 1) := by decide +kernel
theorem dJ10_copyOf_3_1 : decode cJ10_copyOf_3 1 = .ok (.aload_n 0, 1) := by decide +kernel
theorem dJ10_copyOf_3_2 : decode cJ10_copyOf_3 2 = .ok (.arraylength, 1) := by decide +kernel
theorem dJ10_copyOf_3_3 : decode cJ10_copyOf_3 3 = .ok (.if_icmp .ne 11, 3) := by decide +kernel
theorem dJ10_copyOf_3_6 : decode cJ10_copyOf_3 6 = .ok (.aload_n 0, 1) := by decide +kernel
theorem dJ10_copyOf_3_7 : decode cJ10_copyOf_3 7 = .ok (.invokevirtual 310, 3) := by decide +kernel
theorem dJ10_copyOf_3_10 : decode cJ10_copyOf_3 10 = .ok (.checkcast 311, 3) := by decide +kernel
theorem dJ10_copyOf_3_13 : decode cJ10_copyOf_3 13 = .ok (.areturn, 1) := by decide +kernel
theorem dJ10_copyOf_3_14 : decode cJ10_copyOf_3 14 = .ok (.iload_n 1, 1) := by decide +kernel
theorem dJ10_copyOf_3_15 : decode cJ10_copyOf_3 15 = .ok (.newarray .byte, 2) := by decide +kernel
theorem dJ10_copyOf_3_17 : decode cJ10_copyOf_3 17 = .ok (.astore_n 2, 1) := by decide +kernel
theorem dJ10_copyOf_3_18 : decode cJ10_copyOf_3 18 = .ok (.aload_n 0, 1) := by decide +kernel
theorem dJ10_copyOf_3_19 : decode cJ10_copyOf_3 19 = .ok (.iconst 0, 1) := by decide +kernel
theorem dJ10_copyOf_3_20 : decode cJ10_copyOf_3 20 = .ok (.aload_n 2, 1) := by decide +kernel
theorem dJ10_copyOf_3_21 : decode cJ10_copyOf_3 21 = .ok (.iconst 0, 1) := by decide +kernel
theorem dJ10_copyOf_3_22 : decode cJ10_copyOf_3 22 = .ok (.aload_n 0, 1) := by decide +kernel
theorem dJ10_copyOf_3_23 : decode cJ10_copyOf_3 23 = .ok (.arraylength, 1) := by decide +kernel
theorem dJ10_copyOf_3_24 : decode cJ10_copyOf_3 24 = .ok (.iload_n 1, 1) := by decide +kernel
theorem dJ10_copyOf_3_25 : decode cJ10_copyOf_3 25 = .ok (.invokestatic 304, 3) := by decide +kernel
theorem dJ10_copyOf_3_28 : decode cJ10_copyOf_3 28 = .ok (.invokestatic 150, 3) := by decide +kernel
theorem dJ10_copyOf_3_31 : decode cJ10_copyOf_3 31 = .ok (.aload_n 2, 1) := by decide +kernel
theorem dJ10_copyOf_3_32 : decode cJ10_copyOf_3 32 = .ok (.areturn, 1) := by decide +kernel
theorem dJ10_copyOfRange_0 : decode cJ10_copyOfRange 0 = .ok (.iload_n 1, 1) := by decide +kernel
theorem dJ10_copyOfRange_1 : decode cJ10_copyOfRange 1 = .ok (.ifCond .ne 9, 3) := by decide +kernel
theorem dJ10_copyOfRange_4 : decode cJ10_copyOfRange 4 = .ok (.iload_n 2, 1) := by decide +kernel
theorem dJ10_copyOfRange_5 : decode cJ10_copyOfRange 5 = .ok (.aload_n 0, 1) := by decide +kernel
theorem dJ10_copyOfRange_6 : decode cJ10_copyOfRange 6 = .ok (.arraylength, 1) := by decide +kernel
theorem dJ10_copyOfRange_7 : decode cJ10_copyOfRange 7 = .ok (.if_icmp .eq 10, 3) := by decide +kernel
theorem dJ10_copyOfRange_10 : decode cJ10_copyOfRange 10 = .ok (.aload_n 0, 1) := by decide +kernel
theorem dJ10_copyOfRange_11 : decode cJ10_copyOfRange 11 = .ok (.iload_n 1, 1) := by decide +kernel
theorem dJ10_copyOfRange_12 : decode cJ10_copyOfRange 12 = .ok (.iload_n 2, 1) := by decide +kernel
theorem dJ10_copyOfRange_13 : decode cJ10_copyOfRange 13 = .ok (.invokestatic 339, 3) := by decide +kernel
theorem dJ10_copyOfRange_16 : decode cJ10_copyOfRange 16 = .ok (.areturn, 1) := by decide +kernel
theorem dJ10_copyOfRange_17 : decode cJ10_copyOfRange 17 = .ok (.aload_n 0, 1) := by decide +kernel
theorem dJ10_copyOfRange_18 : decode cJ10_copyOfRange 18 = .ok (.invokevirtual 310, 3) := by decide +kernel
theorem dJ10_copyOfRange_21 : decode cJ10_copyOfRange 21 = .ok (.checkcast 311, 3) := by decide +kernel
theorem dJ10_copyOfRange_24 : decode cJ10_copyOfRange 24 = .ok (.areturn, 1) := by decide +kernel
theorem dJ10_copyOfRangeByte_0 : decode cJ10_copyOfRangeByte 0 = .ok (.iload_n 1, 1) := by decide +kernel
theorem dJ10_copyOfRangeByte_1 : decode cJ10_copyOfRangeByte 1 = .ok (.iload_n 2, 1) := by decide +kernel
theorem dJ10_copyOfRangeByte_2 : decode cJ10_copyOfRangeByte 2 = .ok (.invokestatic 343, 3) := by decide +kernel
theorem dJ10_copyOfRangeByte_5 : decode cJ10_copyOfRangeByte 5 = .ok (.iload_n 2, 1) := by decide +kernel
theorem dJ10_copyOfRangeByte_6 : decode cJ10_copyOfRangeByte 6 = .ok (.iload_n 1, 1) := by decide +kernel
theorem dJ10_copyOfRangeByte_7 : decode cJ10_copyOfRangeByte 7 = .ok (.isub, 1) := by decide +kernel
theorem dJ10_copyOfRangeByte_8 : decode cJ10_copyOfRangeByte 8 = .ok (.istore_n 3, 1) := by decide +kernel
theorem dJ10_copyOfRangeByte_9 : decode cJ10_copyOfRangeByte 9 = .ok (.iload_n 3, 1) := by decide +kernel
theorem dJ10_copyOfRangeByte_10 : decode cJ10_copyOfRangeByte 10 = .ok (.newarray .byte, 2) := by decide +kernel
theorem dJ10_copyOfRangeByte_12 : decode cJ10_copyOfRangeByte 12 = .ok (.astore 4, 2) := by decide +kernel
theorem dJ10_copyOfRangeByte_14 : decode cJ10_copyOfRangeByte 14 = .ok (.aload_n 0, 1) := by decide +kernel
theorem dJ10_copyOfRangeByte_15 : decode cJ10_copyOfRangeByte 15 = .ok (.iload_n 1, 1) := by decide +kernel
theorem dJ10_copyOfRangeByte_16 : decode cJ10_copyOfRangeByte 16 = .ok (.aload 4, 2) := by decide +kernel
theorem dJ10_copyOfRangeByte_18 : decode cJ10_copyOfRangeByte 18 = .ok (.iconst 0, 1) := by decide +kernel
theorem dJ10_copyOfRangeByte_19 : decode cJ10_copyOfRangeByte 19 = .ok (.aload_n 0, 1) := by decide +kernel
theorem dJ10_copyOfRangeByte_20 : decode cJ10_copyOfRangeByte 20 = .ok (.arraylength, 1) := by decide +kernel
theorem dJ10_copyOfRangeByte_21 : decode cJ10_copyOfRangeByte 21 = .ok (.iload_n 1, 1) := by decide +kernel
theorem dJ10_copyOfRangeByte_22 : decode cJ10_copyOfRangeByte 22 = .ok (.isub, 1) := by decide +kernel
theorem dJ10_copyOfRangeByte_23 : decode cJ10_copyOfRangeByte 23 = .ok (.iload_n 3, 1) := by decide +kernel
theorem dJ10_copyOfRangeByte_24 : decode cJ10_copyOfRangeByte 24 = .ok (.invokestatic 304, 3) := by decide +kernel
theorem dJ10_copyOfRangeByte_27 : decode cJ10_copyOfRangeByte 27 = .ok (.invokestatic 150, 3) := by decide +kernel
theorem dJ10_copyOfRangeByte_30 : decode cJ10_copyOfRangeByte 30 = .ok (.aload 4, 2) := by decide +kernel
theorem dJ10_copyOfRangeByte_32 : decode cJ10_copyOfRangeByte 32 = .ok (.areturn, 1) := by decide +kernel
theorem dJ10_checkLength_0 : decode cJ10_checkLength 0 = .ok (.iload_n 1, 1) := by decide +kernel
theorem dJ10_checkLength_1 : decode cJ10_checkLength 1 = .ok (.iload_n 0, 1) := by decide +kernel
theorem dJ10_checkLength_2 : decode cJ10_checkLength 2 = .ok (.if_icmp .ge 35, 3) := by decide +kernel
theorem dJ10_checkLength_5 : decode cJ10_checkLength 5 = .ok (.new 43, 3) := by decide +kernel
theorem dJ10_checkLength_8 : decode cJ10_checkLength 8 = .ok (.dup, 1) := by decide +kernel
theorem dJ10_checkLength_9 : decode cJ10_checkLength 9 = .ok (.new 45, 3) := by decide +kernel
theorem dJ10_checkLength_12 : decode cJ10_checkLength 12 = .ok (.dup, 1) := by decide +kernel
theorem dJ10_checkLength_13 : decode cJ10_checkLength 13 = .ok (.invokespecial 47, 3) := by decide +kernel
theorem dJ10_checkLength_16 : decode cJ10_checkLength 16 = .ok (.iload_n 0, 1) := by decide +kernel
theorem dJ10_checkLength_17 : decode cJ10_checkLength 17 = .ok (.invokevirtual 54, 3) := by decide +kernel
theorem dJ10_checkLength_20 : decode cJ10_checkLength 20 = .ok (.ldc_w 337, 3) := by decide +kernel
theorem dJ10_checkLength_23 : decode cJ10_checkLength 23 = .ok (.invokevirtual 50, 3) := by decide +kernel
theorem dJ10_checkLength_26 : decode cJ10_checkLength 26 = .ok (.iload_n 1, 1) := by decide +kernel
theorem dJ10_checkLength_27 : decode cJ10_checkLength 27 = .ok (.invokevirtual 54, 3) := by decide +kernel
theorem dJ10_checkLength_30 : decode cJ10_checkLength 30 = .ok (.invokevirtual 61, 3) := by decide +kernel
theorem dJ10_checkLength_33 : decode cJ10_checkLength 33 = .ok (.invokespecial 65, 3) := by decide +kernel
theorem dJ10_checkLength_36 : decode cJ10_checkLength 36 = .ok (.athrow, 1) := by decide +kernel
theorem dJ10_checkLength_37 : decode cJ10_checkLength 37 = .ok (.return_, 1) := by decide +kernel
theorem dJ17_init_0 : decode cJ17_init 0 = .ok (.aload_n 0, 1) := by decide +kernel
theorem dJ17_init_1 : decode cJ17_init 1 = .ok (.invokespecial 1, 3) := by decide +kernel
theorem dJ17_init_4 : decode cJ17_init 4 = .ok (.return_, 1) := by decide +kernel
theorem dJ18_init_0 : decode cJ18_init 0 = .ok (.return_, 1) := by decide +kernel
theorem dJ18_equals_0 : decode cJ18_equals 0 = .ok (.aload_n 0, 1) := by decide +kernel
theorem dJ18_equals_1 : decode cJ18_equals 1 = .ok (.aload_n 1, 1) := by decide +kernel
theorem dJ18_equals_2 : decode cJ18_equals 2 = .ok (.if_acmp .ne 7, 3) := by decide +kernel
theorem dJ18_equals_5 : decode cJ18_equals 5 = .ok (.iconst 1, 1) := by decide +kernel
theorem dJ18_equals_6 : decode cJ18_equals 6 = .ok (.goto 4, 3) := by decide +kernel
theorem dJ18_equals_9 : decode cJ18_equals 9 = .ok (.iconst 0, 1) := by decide +kernel
theorem dJ18_equals_10 : decode cJ18_equals 10 = .ok (.ireturn, 1) := by decide +kernel
theorem dJ15_init_0 : decode cJ15_init 0 = .ok (.aload_n 0, 1) := by decide +kernel
theorem dJ15_init_1 : decode cJ15_init 1 = .ok (.invokespecial 3, 3) := by decide +kernel
theorem dJ15_init_4 : decode cJ15_init 4 = .ok (.getstatic 18, 3) := by decide +kernel
theorem dJ15_init_7 : decode cJ15_init 7 = .ok (.ifCond .eq 18, 3) := by decide +kernel
theorem dJ15_init_10 : decode cJ15_init 10 = .ok (.aload_n 0, 1) := by decide +kernel
theorem dJ15_init_11 : decode cJ15_init 11 = .ok (.iload_n 1, 1) := by decide +kernel
theorem dJ15_init_12 : decode cJ15_init 12 = .ok (.newarray .byte, 2) := by decide +kernel
theorem dJ15_init_14 : decode cJ15_init 14 = .ok (.putfield 15, 3) := by decide +kernel
theorem dJ15_init_17 : decode cJ15_init 17 = .ok (.aload_n 0, 1) := by decide +kernel
theorem dJ15_init_18 : decode cJ15_init 18 = .ok (.iconst 0, 1) := by decide +kernel
theorem dJ15_init_19 : decode cJ15_init 19 = .ok (.putfield 22, 3) := by decide +kernel
theorem dJ15_init_22 : decode cJ15_init 22 = .ok (.goto 16, 3) := by decide +kernel
theorem dJ15_init_25 : decode cJ15_init 25 = .ok (.aload_n 0, 1) := by decide +kernel
theorem dJ15_init_26 : decode cJ15_init 26 = .ok (.iload_n 1, 1) := by decide +kernel
theorem dJ15_init_27 : decode cJ15_init 27 = .ok (.invokestatic 26, 3) := by decide +kernel
theorem dJ15_init_30 : decode cJ15_init 30 = .ok (.putfield 15, 3) := by decide +kernel
theorem dJ15_init_33 : decode cJ15_init 33 = .ok (.aload_n 0, 1) := by decide +kernel
theorem dJ15_init_34 : decode cJ15_init 34 = .ok (.iconst 1, 1) := by decide +kernel
theorem dJ15_init_35 : decode cJ15_init 35 = .ok (.putfield 22, 3) := by decide +kernel
theorem dJ15_init_38 : decode cJ15_init 38 = .ok (.return_, 1) := by decide +kernel
theorem dJ15_append_0 : decode cJ15_append 0 = .ok (.aload_n 0, 1) := by decide +kernel
theorem dJ15_append_1 : decode cJ15_append 1 = .ok (.aload_n 0, 1) := by decide +kernel
theorem dJ15_append_2 : decode cJ15_append 2 = .ok (.getfield 79, 3) := by decide +kernel
theorem dJ15_append_5 : decode cJ15_append 5 = .ok (.iconst 1, 1) := by decide +kernel
theorem dJ15_append_6 : decode cJ15_append 6 = .ok (.iadd, 1) := by decide +kernel
theorem dJ15_append_7 : decode cJ15_append 7 = .ok (.invokevirtual 100, 3) := by decide +kernel
theorem dJ15_append_10 : decode cJ15_append 10 = .ok (.aload_n 0, 1) := by decide +kernel
theorem dJ15_append_11 : decode cJ15_append 11 = .ok (.invokevirtual 83, 3) := by decide +kernel
theorem dJ15_append_14 : decode cJ15_append 14 = .ok (.ifCond .eq 31, 3) := by decide +kernel
theorem dJ15_append_17 : decode cJ15_append 17 = .ok (.iload_n 1, 1) := by decide +kernel
theorem dJ15_append_18 : decode cJ15_append 18 = .ok (.invokestatic 191, 3) := by decide +kernel
theorem dJ15_append_21 : decode cJ15_append 21 = .ok (.ifCond .eq 24, 3) := by decide +kernel
theorem dJ15_append_24 : decode cJ15_append 24 = .ok (.aload_n 0, 1) := by decide +kernel
theorem dJ15_append_25 : decode cJ15_append 25 = .ok (.getfield 15, 3) := by decide +kernel
theorem dJ15_append_28 : decode cJ15_append 28 = .ok (.aload_n 0, 1) := by decide +kernel
theorem dJ15_append_29 : decode cJ15_append 29 = .ok (.dup, 1) := by decide +kernel
theorem dJ15_append_30 : decode cJ15_append 30 = .ok (.getfield 79, 3) := by decide +kernel
theorem dJ15_append_33 : decode cJ15_append 33 = .ok (.dup_x1, 1) := by decide +kernel
theorem dJ15_append_34 : decode cJ15_append 34 = .ok (.iconst 1, 1) := by decide +kernel
theorem dJ15_append_35 : decode cJ15_append 35 = .ok (.iadd, 1) := by decide +kernel
theorem dJ15_append_36 : decode cJ15_append 36 = .ok (.putfield 79, 3) := by decide +kernel
theorem dJ15_append_39 : decode cJ15_append 39 = .ok (.iload_n 1, 1) := by decide +kernel
theorem dJ15_append_40 : decode cJ15_append 40 = .ok (.i2b, 1) := by decide +kernel
theorem dJ15_append_41 : decode cJ15_append 41 = .ok (.bastore, 1) := by decide +kernel
theorem dJ15_append_42 : decode cJ15_append 42 = .ok (.goto 33, 3) := by decide +kernel
theorem dJ15_append_45 : decode cJ15_append 45 = .ok (.aload_n 0, 1) := by decide +kernel
theorem dJ15_append_46 : decode cJ15_append 46 = .ok (.invokevirtual 83, 3) := by decide +kernel
theorem dJ15_append_49 : decode cJ15_append 49 = .ok (.ifCond .eq 7, 3) := by decide +kernel
theorem dJ15_append_52 : decode cJ15_append 52 = .ok (.aload_n 0, 1) := by decide +kernel
theorem dJ15_append_53 : decode cJ15_append 53 = .ok (.invokevirtual 195, 3) := by decide +kernel
theorem dJ15_append_56 : decode cJ15_append 56 = .ok (.aload_n 0, 1) := by decide +kernel
theorem dJ15_append_57 : decode cJ15_append 57 = .ok (.getfield 15, 3) := by decide +kernel
theorem dJ15_append_60 : decode cJ15_append 60 = .ok (.aload_n 0, 1) := by decide +kernel
theorem dJ15_append_61 : decode cJ15_append 61 = .ok (.dup, 1) := by decide +kernel
theorem dJ15_append_62 : decode cJ15_append 62 = .ok (.getfield 79, 3) := by decide +kernel
theorem dJ15_append_65 : decode cJ15_append 65 = .ok (.dup_x1, 1) := by decide +kernel
theorem dJ15_append_66 : decode cJ15_append 66 = .ok (.iconst 1, 1) := by decide +kernel
theorem dJ15_append_67 : decode cJ15_append 67 = .ok (.iadd, 1) := by decide +kernel
theorem dJ15_append_68 : decode cJ15_append 68 = .ok (.putfield 79, 3) := by decide +kernel
theorem dJ15_append_71 : decode cJ15_append 71 = .ok (.iload_n 1, 1) := by decide +kernel
theorem dJ15_append_72 : decode cJ15_append 72 = .ok (.invokestatic 197, 3) := by decide +kernel
theorem dJ15_append_75 : decode cJ15_append 75 = .ok (.aload_n 0, 1) := by decide +kernel
theorem dJ15_append_76 : decode cJ15_append 76 = .ok (.areturn, 1) := by decide +kernel
theorem dJ15_ensureCapacityInternal_0 : decode cJ15_ensureCapacityInternal 0 = .ok (.aload_n 0, 1) := by decide +kernel
theorem dJ15_ensureCapacityInternal_1 : decode cJ15_ensureCapacityInternal 1 = .ok (.getfield 15, 3) := by decide +kernel
theorem dJ15_ensureCapacityInternal_4 : decode cJ15_ensureCapacityInternal 4 = .ok (.arraylength, 1) := by decide +kernel
theorem dJ15_ensureCapacityInternal_5 : decode cJ15_ensureCapacityInternal 5 = .ok (.aload_n 0, 1) := by decide +kernel
theorem dJ15_ensureCapacityInternal_6 : decode cJ15_ensureCapacityInternal 6 = .ok (.getfield 22, 3) := by decide +kernel
theorem dJ15_ensureCapacityInternal_9 : decode cJ15_ensureCapacityInternal 9 = .ok (.ishr, 1) := by decide +kernel
theorem dJ15_ensureCapacityInternal_10 : decode cJ15_ensureCapacityInternal 10 = .ok (.istore_n 2, 1) := by decide +kernel
theorem dJ15_ensureCapacityInternal_11 : decode cJ15_ensureCapacityInternal 11 = .ok (.iload_n 1, 1) := by decide +kernel
theorem dJ15_ensureCapacityInternal_12 : decode cJ15_ensureCapacityInternal 12 = .ok (.iload_n 2, 1) := by decide +kernel
theorem dJ15_ensureCapacityInternal_13 : decode cJ15_ensureCapacityInternal 13 = .ok (.isub, 1) := by decide +kernel
theorem dJ15_ensureCapacityInternal_14 : decode cJ15_ensureCapacityInternal 14 = .ok (.ifCond .le 24, 3) := by decide +kernel
theorem dJ15_ensureCapacityInternal_17 : decode cJ15_ensureCapacityInternal 17 = .ok (.aload_n 0, 1) := by decide +kernel
theorem dJ15_ensureCapacityInternal_18 : decode cJ15_ensureCapacityInternal 18 = .ok (.aload_n 0, 1) := by decide +kernel
theorem dJ15_ensureCapacityInternal_19 : decode cJ15_ensureCapacityInternal 19 = .ok (.getfield 15, 3) := by decide +kernel
theorem dJ15_ensureCapacityInternal_22 : decode cJ15_ensureCapacityInternal 22 = .ok (.aload_n 0, 1) := by decide +kernel
theorem dJ15_ensureCapacityInternal_23 : decode cJ15_ensureCapacityInternal 23 = .ok (.iload_n 1, 1) := by decide +kernel
theorem dJ15_ensureCapacityInternal_24 : decode cJ15_ensureCapacityInternal 24 = .ok (.invokevirtual 104, 3) := by decide +kernel
theorem dJ15_ensureCapacityInternal_27 : decode cJ15_ensureCapacityInternal 27 = .ok (.aload_n 0, 1) := by decide +kernel
theorem dJ15_ensureCapacityInternal_28 : decode cJ15_ensureCapacityInternal 28 = .ok (.getfield 22, 3) := by decide +kernel
theorem dJ15_ensureCapacityInternal_31 : decode cJ15_ensureCapacityInternal 31 = .ok (.ishl, 1) := by decide +kernel
theorem dJ15_ensureCapacityInternal_32 : decode cJ15_ensureCapacityInternal 32 = .ok (.invokestatic 108, 3) := by decide +kernel
theorem dJ15_ensureCapacityInternal_35 : decode cJ15_ensureCapacityInternal 35 = .ok (.putfield 15, 3) := by decide +kernel
theorem dJ15_ensureCapacityInternal_38 : decode cJ15_ensureCapacityInternal 38 = .ok (.return_, 1) := by decide +kernel
theorem dJ15_newCapacity_0 : decode cJ15_newCapacity 0 = .ok (.aload_n 0, 1) := by decide +kernel
theorem dJ15_newCapacity_1 : decode cJ15_newCapacity 1 = .ok (.getfield 15, 3) := by decide +kernel
theorem dJ15_newCapacity_4 : decode cJ15_newCapacity 4 = .ok (.arraylength, 1) := by decide +kernel
theorem dJ15_newCapacity_5 : decode cJ15_newCapacity 5 = .ok (.istore_n 2, 1) := by decide +kernel
theorem dJ15_newCapacity_6 : decode cJ15_newCapacity 6 = .ok (.iload_n 1, 1) := by decide +kernel
theorem dJ15_newCapacity_7 : decode cJ15_newCapacity 7 = .ok (.aload_n 0, 1) := by decide +kernel
theorem dJ15_newCapacity_8 : decode cJ15_newCapacity 8 = .ok (.getfield 22, 3) := by decide +kernel
theorem dJ15_newCapacity_11 : decode cJ15_newCapacity 11 = .ok (.ishl, 1) := by decide +kernel
theorem dJ15_newCapacity_12 : decode cJ15_newCapacity 12 = .ok (.istore_n 3, 1) := by decide +kernel
theorem dJ15_newCapacity_13 : decode cJ15_newCapacity 13 = .ok (.iload_n 3, 1) := by decide +kernel
theorem dJ15_newCapacity_14 : decode cJ15_newCapacity 14 = .ok (.iload_n 2, 1) := by decide +kernel
theorem dJ15_newCapacity_15 : decode cJ15_newCapacity 15 = .ok (.isub, 1) := by decide +kernel
theorem dJ15_newCapacity_16 : decode cJ15_newCapacity 16 = .ok (.istore 4, 2) := by decide +kernel
theorem dJ15_newCapacity_18 : decode cJ15_newCapacity 18 = .ok (.iload_n 2, 1) := by decide +kernel
theorem dJ15_newCapacity_19 : decode cJ15_newCapacity 19 = .ok (.iload 4, 2) := by decide +kernel
theorem dJ15_newCapacity_21 : decode cJ15_newCapacity 21 = .ok (.iload_n 2, 1) := by decide +kernel
theorem dJ15_newCapacity_22 : decode cJ15_newCapacity 22 = .ok (.iconst 2, 1) := by decide +kernel
theorem dJ15_newCapacity_23 : decode cJ15_newCapacity 23 = .ok (.aload_n 0, 1) := by decide +kernel
theorem dJ15_newCapacity_24 : decode cJ15_newCapacity 24 = .ok (.getfield 22, 3) := by decide +kernel
theorem dJ15_newCapacity_27 : decode cJ15_newCapacity 27 = .ok (.ishl, 1) := by decide +kernel
theorem dJ15_newCapacity_28 : decode cJ15_newCapacity 28 = .ok (.iadd, 1) := by decide +kernel
theorem dJ15_newCapacity_29 : decode cJ15_newCapacity 29 = .ok (.invokestatic 114, 3) := by decide +kernel
theorem dJ15_newCapacity_32 : decode cJ15_newCapacity 32 = .ok (.istore 5, 2) := by decide +kernel
theorem dJ15_newCapacity_34 : decode cJ15_newCapacity 34 = .ok (.iload 5, 2) := by decide +kernel
theorem dJ15_newCapacity_36 : decode cJ15_newCapacity 36 = .ok (.ldc 39, 2) := by decide +kernel
theorem dJ15_newCapacity_38 : decode cJ15_newCapacity 38 = .ok (.if_icmp .ne 13, 3) := by decide +kernel
theorem dJ15_newCapacity_41 : decode cJ15_newCapacity 41 = .ok (.new 120, 3) := by decide +kernel
theorem dJ15_newCapacity_44 : decode cJ15_newCapacity 44 = .ok (.dup, 1) := by decide +kernel
theorem dJ15_newCapacity_45 : decode cJ15_newCapacity 45 = .ok (.ldc 122, 2) := by decide +kernel
theorem dJ15_newCapacity_47 : decode cJ15_newCapacity 47 = .ok (.invokespecial 124, 3) := by decide +kernel
theorem dJ15_newCapacity_50 : decode cJ15_newCapacity 50 = .ok (.athrow, 1) := by decide +kernel
theorem dJ15_newCapacity_51 : decode cJ15_newCapacity 51 = .ok (.iload 5, 2) := by decide +kernel
theorem dJ15_newCapacity_53 : decode cJ15_newCapacity 53 = .ok (.aload_n 0, 1) := by decide +kernel
theorem dJ15_newCapacity_54 : decode cJ15_newCapacity 54 = .ok (.getfield 22, 3) := by decide +kernel
theorem dJ15_newCapacity_57 : decode cJ15_newCapacity 57 = .ok (.ishr, 1) := by decide +kernel
theorem dJ15_newCapacity_58 : decode cJ15_newCapacity 58 = .ok (.ireturn, 1) := by decide +kernel
theorem dJ15_isLatin1_0 : decode cJ15_isLatin1 0 = .ok (.getstatic 18, 3) := by decide +kernel
theorem dJ15_isLatin1_3 : decode cJ15_isLatin1 3 = .ok (.ifCond .eq 14, 3) := by decide +kernel
theorem dJ15_isLatin1_6 : decode cJ15_isLatin1 6 = .ok (.aload_n 0, 1) := by decide +kernel
theorem dJ15_isLatin1_7 : decode cJ15_isLatin1 7 = .ok (.getfield 22, 3) := by decide +kernel
theorem dJ15_isLatin1_10 : decode cJ15_isLatin1 10 = .ok (.ifCond .ne 7, 3) := by decide +kernel
theorem dJ15_isLatin1_13 : decode cJ15_isLatin1 13 = .ok (.iconst 1, 1) := by decide +kernel
theorem dJ15_isLatin1_14 : decode cJ15_isLatin1 14 = .ok (.goto 4, 3) := by decide +kernel
theorem dJ15_isLatin1_17 : decode cJ15_isLatin1 17 = .ok (.iconst 0, 1) := by decide +kernel
theorem dJ15_isLatin1_18 : decode cJ15_isLatin1 18 = .ok (.ireturn, 1) := by decide +kernel
theorem dJ15_inflate_0 : decode cJ15_inflate 0 = .ok (.aload_n 0, 1) := by decide +kernel
theorem dJ15_inflate_1 : decode cJ15_inflate 1 = .ok (.invokevirtual 83, 3) := by decide +kernel
theorem dJ15_inflate_4 : decode cJ15_inflate 4 = .ok (.ifCond .ne 4, 3) := by decide +kernel
theorem dJ15_inflate_7 : decode cJ15_inflate 7 = .ok (.return_, 1) := by decide +kernel
theorem dJ15_inflate_8 : decode cJ15_inflate 8 = .ok (.aload_n 0, 1) := by decide +kernel
theorem dJ15_inflate_9 : decode cJ15_inflate 9 = .ok (.getfield 15, 3) := by decide +kernel
theorem dJ15_inflate_12 : decode cJ15_inflate 12 = .ok (.arraylength, 1) := by decide +kernel
theorem dJ15_inflate_13 : decode cJ15_inflate 13 = .ok (.invokestatic 26, 3) := by decide +kernel
theorem dJ15_inflate_16 : decode cJ15_inflate 16 = .ok (.astore_n 1, 1) := by decide +kernel
theorem dJ15_inflate_17 : decode cJ15_inflate 17 = .ok (.aload_n 0, 1) := by decide +kernel
theorem dJ15_inflate_18 : decode cJ15_inflate 18 = .ok (.getfield 15, 3) := by decide +kernel
theorem dJ15_inflate_21 : decode cJ15_inflate 21 = .ok (.iconst 0, 1) := by decide +kernel
theorem dJ15_inflate_22 : decode cJ15_inflate 22 = .ok (.aload_n 1, 1) := by decide +kernel
theorem dJ15_inflate_23 : decode cJ15_inflate 23 = .ok (.iconst 0, 1) := by decide +kernel
theorem dJ15_inflate_24 : decode cJ15_inflate 24 = .ok (.aload_n 0, 1) := by decide +kernel
theorem dJ15_inflate_25 : decode cJ15_inflate 25 = .ok (.getfield 79, 3) := by decide +kernel
theorem dJ15_inflate_28 : decode cJ15_inflate 28 = .ok (.invokestatic 125, 3) := by decide +kernel
theorem dJ15_inflate_31 : decode cJ15_inflate 31 = .ok (.aload_n 0, 1) := by decide +kernel
theorem dJ15_inflate_32 : decode cJ15_inflate 32 = .ok (.aload_n 1, 1) := by decide +kernel
theorem dJ15_inflate_33 : decode cJ15_inflate 33 = .ok (.putfield 15, 3) := by decide +kernel
theorem dJ15_inflate_36 : decode cJ15_inflate 36 = .ok (.aload_n 0, 1) := by decide +kernel
theorem dJ15_inflate_37 : decode cJ15_inflate 37 = .ok (.iconst 1, 1) := by decide +kernel
theorem dJ15_inflate_38 : decode cJ15_inflate 38 = .ok (.putfield 22, 3) := by decide +kernel
theorem dJ15_inflate_41 : decode cJ15_inflate 41 = .ok (.return_, 1) := by decide +kernel
theorem dJ15_getValue_0 : decode cJ15_getValue 0 = .ok (.aload_n 0, 1) := by decide +kernel
theorem dJ15_getValue_1 : decode cJ15_getValue 1 = .ok (.getfield 15, 3) := by decide +kernel
theorem dJ15_getValue_4 : decode cJ15_getValue 4 = .ok (.areturn, 1) := by decide +kernel
theorem dJ15_length_0 : decode cJ15_length 0 = .ok (.aload_n 0, 1) := by decide +kernel
theorem dJ15_length_1 : decode cJ15_length 1 = .ok (.getfield 79, 3) := by decide +kernel
theorem dJ15_length_4 : decode cJ15_length 4 = .ok (.ireturn, 1) := by decide +kernel
theorem dJ15_append_2_0 : decode cJ15_append_2 0 = .ok (.aload_n 1, 1) := by decide +kernel
theorem dJ15_append_2_1 : decode cJ15_append_2 1 = .ok (.ifnonnull 8, 3) := by decide +kernel
theorem dJ15_append_2_4 : decode cJ15_append_2 4 = .ok (.aload_n 0, 1) := by decide +kernel
theorem dJ15_append_2_5 : decode cJ15_append_2 5 = .ok (.invokevirtual 204, 3) := by decide +kernel
theorem dJ15_append_2_8 : decode cJ15_append_2 8 = .ok (.areturn, 1) := by decide +kernel
theorem dJ15_append_2_9 : decode cJ15_append_2 9 = .ok (.aload_n 1, 1) := by decide +kernel
theorem dJ15_append_2_10 : decode cJ15_append_2 10 = .ok (.invokevirtual 32, 3) := by decide +kernel
theorem dJ15_append_2_13 : decode cJ15_append_2 13 = .ok (.istore_n 2, 1) := by decide +kernel
theorem dJ15_append_2_14 : decode cJ15_append_2 14 = .ok (.aload_n 0, 1) := by decide +kernel
theorem dJ15_append_2_15 : decode cJ15_append_2 15 = .ok (.aload_n 0, 1) := by decide +kernel
theorem dJ15_append_2_16 : decode cJ15_append_2 16 = .ok (.getfield 79, 3) := by decide +kernel
theorem dJ15_append_2_19 : decode cJ15_append_2 19 = .ok (.iload_n 2, 1) := by decide +kernel
theorem dJ15_append_2_20 : decode cJ15_append_2 20 = .ok (.iadd, 1) := by decide +kernel
theorem dJ15_append_2_21 : decode cJ15_append_2 21 = .ok (.invokevirtual 100, 3) := by decide +kernel
theorem dJ15_append_2_24 : decode cJ15_append_2 24 = .ok (.aload_n 0, 1) := by decide +kernel
theorem dJ15_append_2_25 : decode cJ15_append_2 25 = .ok (.aload_n 0, 1) := by decide +kernel
theorem dJ15_append_2_26 : decode cJ15_append_2 26 = .ok (.getfield 79, 3) := by decide +kernel
theorem dJ15_append_2_29 : decode cJ15_append_2 29 = .ok (.aload_n 1, 1) := by decide +kernel
theorem dJ15_append_2_30 : decode cJ15_append_2 30 = .ok (.invokevirtual 208, 3) := by decide +kernel
theorem dJ15_append_2_33 : decode cJ15_append_2 33 = .ok (.aload_n 0, 1) := by decide +kernel
theorem dJ15_append_2_34 : decode cJ15_append_2 34 = .ok (.dup, 1) := by decide +kernel
theorem dJ15_append_2_35 : decode cJ15_append_2 35 = .ok (.getfield 79, 3) := by decide +kernel
theorem dJ15_append_2_38 : decode cJ15_append_2 38 = .ok (.iload_n 2, 1) := by decide +kernel
theorem dJ15_append_2_39 : decode cJ15_append_2 39 = .ok (.iadd, 1) := by decide +kernel
theorem dJ15_append_2_40 : decode cJ15_append_2 40 = .ok (.putfield 79, 3) := by decide +kernel
theorem dJ15_append_2_43 : decode cJ15_append_2 43 = .ok (.aload_n 0, 1) := by decide +kernel
theorem dJ15_append_2_44 : decode cJ15_append_2 44 = .ok (.areturn, 1) := by decide +kernel
theorem dJ15_appendNull_0 : decode cJ15_appendNull 0 = .ok (.aload_n 0, 1) := by decide +kernel
theorem dJ15_appendNull_1 : decode cJ15_appendNull 1 = .ok (.aload_n 0, 1) := by decide +kernel
theorem dJ15_appendNull_2 : decode cJ15_appendNull 2 = .ok (.getfield 79, 3) := by decide +kernel
theorem dJ15_appendNull_5 : decode cJ15_appendNull 5 = .ok (.iconst 4, 1) := by decide +kernel
theorem dJ15_appendNull_6 : decode cJ15_appendNull 6 = .ok (.iadd, 1) := by decide +kernel
theorem dJ15_appendNull_7 : decode cJ15_appendNull 7 = .ok (.invokevirtual 100, 3) := by decide +kernel
theorem dJ15_appendNull_10 : decode cJ15_appendNull 10 = .ok (.aload_n 0, 1) := by decide +kernel
theorem dJ15_appendNull_11 : decode cJ15_appendNull 11 = .ok (.getfield 79, 3) := by decide +kernel
theorem dJ15_appendNull_14 : decode cJ15_appendNull 14 = .ok (.istore_n 1, 1) := by decide +kernel
theorem dJ15_appendNull_15 : decode cJ15_appendNull 15 = .ok (.aload_n 0, 1) := by decide +kernel
theorem dJ15_appendNull_16 : decode cJ15_appendNull 16 = .ok (.getfield 15, 3) := by decide +kernel
theorem dJ15_appendNull_19 : decode cJ15_appendNull 19 = .ok (.astore_n 2, 1) := by decide +kernel
theorem dJ15_appendNull_20 : decode cJ15_appendNull 20 = .ok (.aload_n 0, 1) := by decide +kernel
theorem dJ15_appendNull_21 : decode cJ15_appendNull 21 = .ok (.invokevirtual 83, 3) := by decide +kernel
theorem dJ15_appendNull_24 : decode cJ15_appendNull 24 = .ok (.ifCond .eq 38, 3) := by decide +kernel
theorem dJ15_appendNull_27 : decode cJ15_appendNull 27 = .ok (.aload_n 2, 1) := by decide +kernel
theorem dJ15_appendNull_28 : decode cJ15_appendNull 28 = .ok (.iload_n 1, 1) := by decide +kernel
theorem dJ15_appendNull_29 : decode cJ15_appendNull 29 = .ok (.iinc 1 1, 3) := by decide +kernel
theorem dJ15_appendNull_32 : decode cJ15_appendNull 32 = .ok (.bipush 110, 2) := by decide +kernel
theorem dJ15_appendNull_34 : decode cJ15_appendNull 34 = .ok (.bastore, 1) := by decide +kernel
theorem dJ15_appendNull_35 : decode cJ15_appendNull 35 = .ok (.aload_n 2, 1) := by decide +kernel
theorem dJ15_appendNull_36 : decode cJ15_appendNull 36 = .ok (.iload_n 1, 1) := by decide +kernel
theorem dJ15_appendNull_37 : decode cJ15_appendNull 37 = .ok (.iinc 1 1, 3) := by decide +kernel
theorem dJ15_appendNull_40 : decode cJ15_appendNull 40 = .ok (.bipush 117, 2) := by decide +kernel
theorem dJ15_appendNull_42 : decode cJ15_appendNull 42 = .ok (.bastore, 1) := by decide +kernel
theorem dJ15_appendNull_43 : decode cJ15_appendNull 43 = .ok (.aload_n 2, 1) := by decide +kernel
theorem dJ15_appendNull_44 : decode cJ15_appendNull 44 = .ok (.iload_n 1, 1) := by decide +kernel
theorem dJ15_appendNull_45 : decode cJ15_appendNull 45 = .ok (.iinc 1 1, 3) := by decide +kernel
theorem dJ15_appendNull_48 : decode cJ15_appendNull 48 = .ok (.bipush 108, 2) := by decide +kernel
theorem dJ15_appendNull_50 : decode cJ15_appendNull 50 = .ok (.bastore, 1) := by decide +kernel
theorem dJ15_appendNull_51 : decode cJ15_appendNull 51 = .ok (.aload_n 2, 1) := by decide +kernel
theorem dJ15_appendNull_52 : decode cJ15_appendNull 52 = .ok (.iload_n 1, 1) := by decide +kernel
theorem dJ15_appendNull_53 : decode cJ15_appendNull 53 = .ok (.iinc 1 1, 3) := by decide +kernel
theorem dJ15_appendNull_56 : decode cJ15_appendNull 56 = .ok (.bipush 108, 2) := by decide +kernel
theorem dJ15_appendNull_58 : decode cJ15_appendNull 58 = .ok (.bastore, 1) := by decide +kernel
theorem dJ15_appendNull_59 : decode cJ15_appendNull 59 = .ok (.goto 17, 3) := by decide +kernel
theorem dJ15_appendNull_62 : decode cJ15_appendNull 62 = .ok (.aload_n 2, 1) := by decide +kernel
theorem dJ15_appendNull_63 : decode cJ15_appendNull 63 = .ok (.iload_n 1, 1) := by decide +kernel
theorem dJ15_appendNull_64 : decode cJ15_appendNull 64 = .ok (.bipush 110, 2) := by decide +kernel
theorem dJ15_appendNull_66 : decode cJ15_appendNull 66 = .ok (.bipush 117, 2) := by decide +kernel
theorem dJ15_appendNull_68 : decode cJ15_appendNull 68 = .ok (.bipush 108, 2) := by decide +kernel
theorem dJ15_appendNull_70 : decode cJ15_appendNull 70 = .ok (.bipush 108, 2) := by decide +kernel
theorem dJ15_appendNull_72 : decode cJ15_appendNull 72 = .ok (.invokestatic 226, 3) := by decide +kernel
theorem dJ15_appendNull_75 : decode cJ15_appendNull 75 = .ok (.istore_n 1, 1) := by decide +kernel
theorem dJ15_appendNull_76 : decode cJ15_appendNull 76 = .ok (.aload_n 0, 1) := by decide +kernel
theorem dJ15_appendNull_77 : decode cJ15_appendNull 77 = .ok (.iload_n 1, 1) := by decide +kernel
theorem dJ15_appendNull_78 : decode cJ15_appendNull 78 = .ok (.putfield 79, 3) := by decide +kernel
theorem dJ15_appendNull_81 : decode cJ15_appendNull 81 = .ok (.aload_n 0, 1) := by decide +kernel
theorem dJ15_appendNull_82 : decode cJ15_appendNull 82 = .ok (.areturn, 1) := by decide +kernel
theorem dJ15_putStringAt_0 : decode cJ15_putStringAt 0 = .ok (.aload_n 0, 1) := by decide +kernel
theorem dJ15_putStringAt_1 : decode cJ15_putStringAt 1 = .ok (.aload_n 2, 1) := by decide +kernel
theorem dJ15_putStringAt_2 : decode cJ15_putStringAt 2 = .ok (.invokevirtual 397, 3) := by decide +kernel
theorem dJ15_putStringAt_5 : decode cJ15_putStringAt 5 = .ok (.aload_n 2, 1) := by decide +kernel
theorem dJ15_putStringAt_6 : decode cJ15_putStringAt 6 = .ok (.aload_n 0, 1) := by decide +kernel
theorem dJ15_putStringAt_7 : decode cJ15_putStringAt 7 = .ok (.getfield 15, 3) := by decide +kernel
theorem dJ15_putStringAt_10 : decode cJ15_putStringAt 10 = .ok (.iload_n 1, 1) := by decide +kernel
theorem dJ15_putStringAt_11 : decode cJ15_putStringAt 11 = .ok (.aload_n 0, 1) := by decide +kernel
theorem dJ15_putStringAt_12 : decode cJ15_putStringAt 12 = .ok (.getfield 22, 3) := by decide +kernel
theorem dJ15_putStringAt_15 : decode cJ15_putStringAt 15 = .ok (.invokevirtual 399, 3) := by decide +kernel
theorem dJ15_putStringAt_18 : decode cJ15_putStringAt 18 = .ok (.return_, 1) := by decide +kernel
theorem dJ15_inflateIfNeededFor_0 : decode cJ15_inflateIfNeededFor 0 = .ok (.getstatic 18, 3) := by decide +kernel
theorem dJ15_inflateIfNeededFor_3 : decode cJ15_inflateIfNeededFor 3 = .ok (.ifCond .eq 18, 3) := by decide +kernel
theorem dJ15_inflateIfNeededFor_6 : decode cJ15_inflateIfNeededFor 6 = .ok (.aload_n 0, 1) := by decide +kernel
theorem dJ15_inflateIfNeededFor_7 : decode cJ15_inflateIfNeededFor 7 = .ok (.getfield 22, 3) := by decide +kernel
theorem dJ15_inflateIfNeededFor_10 : decode cJ15_inflateIfNeededFor 10 = .ok (.aload_n 1, 1) := by decide +kernel
theorem dJ15_inflateIfNeededFor_11 : decode cJ15_inflateIfNeededFor 11 = .ok (.invokevirtual 40, 3) := by decide +kernel
theorem dJ15_inflateIfNeededFor_14 : decode cJ15_inflateIfNeededFor 14 = .ok (.if_icmp .eq 7, 3) := by decide +kernel
theorem dJ15_inflateIfNeededFor_17 : decode cJ15_inflateIfNeededFor 17 = .ok (.aload_n 0, 1) := by decide +kernel
theorem dJ15_inflateIfNeededFor_18 : decode cJ15_inflateIfNeededFor 18 = .ok (.invokevirtual 195, 3) := by decide +kernel
theorem dJ15_inflateIfNeededFor_21 : decode cJ15_inflateIfNeededFor 21 = .ok (.return_, 1) := by decide +kernel
theorem dJ16_init_0 : decode cJ16_init 0 = .ok (.aload_n 0, 1) := by decide +kernel
theorem dJ16_init_1 : decode cJ16_init 1 = .ok (.bipush 16, 2) := by decide +kernel
theorem dJ16_init_3 : decode cJ16_init 3 = .ok (.invokespecial 1, 3) := by decide +kernel
theorem dJ16_init_6 : decode cJ16_init 6 = .ok (.return_, 1) := by decide +kernel
theorem dJ16_append_0 : decode cJ16_append 0 = .ok (.aload_n 0, 1) := by decide +kernel
theorem dJ16_append_1 : decode cJ16_append 1 = .ok (.iload_n 1, 1) := by decide +kernel
theorem dJ16_append_2 : decode cJ16_append 2 = .ok (.invokespecial 50, 3) := by decide +kernel
theorem dJ16_append_5 : decode cJ16_append 5 = .ok (.pop, 1) := by decide +kernel
theorem dJ16_append_6 : decode cJ16_append 6 = .ok (.aload_n 0, 1) := by decide +kernel
theorem dJ16_append_7 : decode cJ16_append 7 = .ok (.areturn, 1) := by decide +kernel
theorem dJ16_toString_0 : decode cJ16_toString 0 = .ok (.new 18, 3) := by decide +kernel
theorem dJ16_toString_3 : decode cJ16_toString 3 = .ok (.dup, 1) := by decide +kernel
theorem dJ16_toString_4 : decode cJ16_toString 4 = .ok (.aload_n 0, 1) := by decide +kernel
theorem dJ16_toString_5 : decode cJ16_toString 5 = .ok (.invokespecial 137, 3) := by decide +kernel
theorem dJ16_toString_8 : decode cJ16_toString 8 = .ok (.areturn, 1) := by decide +kernel
theorem dJ16_length_0 : decode cJ16_length 0 = .ok (.aload_n 0, 1) := by decide +kernel
theorem dJ16_length_1 : decode cJ16_length 1 = .ok (.invokespecial 343, 3) := by decide +kernel
theorem dJ16_length_4 : decode cJ16_length 4 = .ok (.ireturn, 1) := by decide +kernel
theorem dJ16_append_2_0 : decode cJ16_append_2 0 = .ok (.aload_n 0, 1) := by decide +kernel
theorem dJ16_append_2_1 : decode cJ16_append_2 1 = .ok (.aload_n 1, 1) := by decide +kernel
theorem dJ16_append_2_2 : decode cJ16_append_2 2 = .ok (.invokespecial 29, 3) := by decide +kernel
theorem dJ16_append_2_5 : decode cJ16_append_2 5 = .ok (.pop, 1) := by decide +kernel
theorem dJ16_append_2_6 : decode cJ16_append_2 6 = .ok (.aload_n 0, 1) := by decide +kernel
theorem dJ16_append_2_7 : decode cJ16_append_2 7 = .ok (.areturn, 1) := by decide +kernel
theorem dJ11_init_0 : decode cJ11_init 0 = .ok (.aload_n 0, 1) := by decide +kernel
theorem dJ11_init_1 : decode cJ11_init 1 = .ok (.invokespecial 1, 3) := by decide +kernel
theorem dJ11_init_4 : decode cJ11_init 4 = .ok (.aload_n 0, 1) := by decide +kernel
theorem dJ11_init_5 : decode cJ11_init 5 = .ok (.aload_n 0, 1) := by decide +kernel
theorem dJ11_init_6 : decode cJ11_init 6 = .ok (.putfield 7, 3) := by decide +kernel
theorem dJ11_init_9 : decode cJ11_init 9 = .ok (.aload_n 0, 1) := by decide +kernel
theorem dJ11_init_10 : decode cJ11_init 10 = .ok (.getstatic 13, 3) := by decide +kernel
theorem dJ11_init_13 : decode cJ11_init 13 = .ok (.putfield 17, 3) := by decide +kernel
theorem dJ11_init_16 : decode cJ11_init 16 = .ok (.aload_n 0, 1) := by decide +kernel
theorem dJ11_init_17 : decode cJ11_init 17 = .ok (.getstatic 20, 3) := by decide +kernel
theorem dJ11_init_20 : decode cJ11_init 20 = .ok (.putfield 24, 3) := by decide +kernel
theorem dJ11_init_23 : decode cJ11_init 23 = .ok (.aload_n 0, 1) := by decide +kernel
theorem dJ11_init_24 : decode cJ11_init 24 = .ok (.invokevirtual 27, 3) := by decide +kernel
theorem dJ11_init_27 : decode cJ11_init 27 = .ok (.pop, 1) := by decide +kernel
theorem dJ11_init_28 : decode cJ11_init 28 = .ok (.return_, 1) := by decide +kernel
theorem dJ11_init_2_0 : decode cJ11_init_2 0 = .ok (.aload_n 0, 1) := by decide +kernel
theorem dJ11_init_2_1 : decode cJ11_init_2 1 = .ok (.invokespecial 1, 3) := by decide +kernel
theorem dJ11_init_2_4 : decode cJ11_init_2 4 = .ok (.aload_n 0, 1) := by decide +kernel
theorem dJ11_init_2_5 : decode cJ11_init_2 5 = .ok (.aload_n 0, 1) := by decide +kernel
theorem dJ11_init_2_6 : decode cJ11_init_2 6 = .ok (.putfield 7, 3) := by decide +kernel
theorem dJ11_init_2_9 : decode cJ11_init_2 9 = .ok (.aload_n 0, 1) := by decide +kernel
theorem dJ11_init_2_10 : decode cJ11_init_2 10 = .ok (.getstatic 13, 3) := by decide +kernel
theorem dJ11_init_2_13 : decode cJ11_init_2 13 = .ok (.putfield 17, 3) := by decide +kernel
theorem dJ11_init_2_16 : decode cJ11_init_2 16 = .ok (.aload_n 0, 1) := by decide +kernel
theorem dJ11_init_2_17 : decode cJ11_init_2 17 = .ok (.getstatic 20, 3) := by decide +kernel
theorem dJ11_init_2_20 : decode cJ11_init_2 20 = .ok (.putfield 24, 3) := by decide +kernel
theorem dJ11_init_2_23 : decode cJ11_init_2 23 = .ok (.iload 4, 2) := by decide +kernel
theorem dJ11_init_2_25 : decode cJ11_init_2 25 = .ok (.ifCond .eq 11, 3) := by decide +kernel
theorem dJ11_init_2_28 : decode cJ11_init_2 28 = .ok (.aload_n 0, 1) := by decide +kernel
theorem dJ11_init_2_29 : decode cJ11_init_2 29 = .ok (.invokevirtual 27, 3) := by decide +kernel
theorem dJ11_init_2_32 : decode cJ11_init_2 32 = .ok (.pop, 1) := by decide +kernel
theorem dJ11_init_2_33 : decode cJ11_init_2 33 = .ok (.goto 8, 3) := by decide +kernel
theorem dJ11_init_2_36 : decode cJ11_init_2 36 = .ok (.aload_n 0, 1) := by decide +kernel
theorem dJ11_init_2_37 : decode cJ11_init_2 37 = .ok (.aconst_null, 1) := by decide +kernel
theorem dJ11_init_2_38 : decode cJ11_init_2 38 = .ok (.putfield 17, 3) := by decide +kernel
theorem dJ11_init_2_41 : decode cJ11_init_2 41 = .ok (.aload_n 0, 1) := by decide +kernel
theorem dJ11_init_2_42 : decode cJ11_init_2 42 = .ok (.aload_n 1, 1) := by decide +kernel
theorem dJ11_init_2_43 : decode cJ11_init_2 43 = .ok (.putfield 31, 3) := by decide +kernel
theorem dJ11_init_2_46 : decode cJ11_init_2 46 = .ok (.aload_n 0, 1) := by decide +kernel
theorem dJ11_init_2_47 : decode cJ11_init_2 47 = .ok (.aload_n 2, 1) := by decide +kernel
theorem dJ11_init_2_48 : decode cJ11_init_2 48 = .ok (.putfield 7, 3) := by decide +kernel
theorem dJ11_init_2_51 : decode cJ11_init_2 51 = .ok (.iload_n 3, 1) := by decide +kernel
theorem dJ11_init_2_52 : decode cJ11_init_2 52 = .ok (.ifCond .ne 8, 3) := by decide +kernel
theorem dJ11_init_2_55 : decode cJ11_init_2 55 = .ok (.aload_n 0, 1) := by decide +kernel
theorem dJ11_init_2_56 : decode cJ11_init_2 56 = .ok (.aconst_null, 1) := by decide +kernel
theorem dJ11_init_2_57 : decode cJ11_init_2 57 = .ok (.putfield 24, 3) := by decide +kernel
theorem dJ11_init_2_60 : decode cJ11_init_2 60 = .ok (.return_, 1) := by decide +kernel
theorem dJ12_init_0 : decode cJ12_init 0 = .ok (.aload_n 0, 1) := by decide +kernel
theorem dJ12_init_1 : decode cJ12_init 1 = .ok (.aload_n 1, 1) := by decide +kernel
theorem dJ12_init_2 : decode cJ12_init 2 = .ok (.aload_n 2, 1) := by decide +kernel
theorem dJ12_init_3 : decode cJ12_init 3 = .ok (.iload_n 3, 1) := by decide +kernel
theorem dJ12_init_4 : decode cJ12_init 4 = .ok (.iload 4, 2) := by decide +kernel
theorem dJ12_init_6 : decode cJ12_init 6 = .ok (.invokespecial 16, 3) := by decide +kernel
theorem dJ12_init_9 : decode cJ12_init 9 = .ok (.return_, 1) := by decide +kernel
theorem dJ12_init_2_0 : decode cJ12_init_2 0 = .ok (.aload_n 0, 1) := by decide +kernel
theorem dJ12_init_2_1 : decode cJ12_init_2 1 = .ok (.invokespecial 1, 3) := by decide +kernel
theorem dJ12_init_2_4 : decode cJ12_init_2 4 = .ok (.return_, 1) := by decide +kernel
theorem dJ13_init_0 : decode cJ13_init 0 = .ok (.aload_n 0, 1) := by decide +kernel
theorem dJ13_init_1 : decode cJ13_init 1 = .ok (.invokespecial 1, 3) := by decide +kernel
theorem dJ13_init_4 : decode cJ13_init 4 = .ok (.return_, 1) := by decide +kernel
theorem dJ14_init_0 : decode cJ14_init 0 = .ok (.aload_n 0, 1) := by decide +kernel
theorem dJ14_init_1 : decode cJ14_init 1 = .ok (.invokespecial 1, 3) := by decide +kernel
theorem dJ14_init_4 : decode cJ14_init 4 = .ok (.return_, 1) := by decide +kernel
