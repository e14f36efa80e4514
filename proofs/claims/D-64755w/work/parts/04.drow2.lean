set_option maxRecDepth 100000
theorem dX2_nextOf_26 : decode cX2_nextOf 26 = .ok (.aload_n 0, 1) := DX2_nextOf.2.2.2.2.2.2.2.2.2.2.2.2.2.2.2.1
theorem dX2_nextOf_27 : decode cX2_nextOf 27 = .ok (.getfield 13, 3) := DX2_nextOf.2.2.2.2.2.2.2.2.2.2.2.2.2.2.2.2.1
theorem dX2_nextOf_30 : decode cX2_nextOf 30 = .ok (.iload_n 2, 1) := DX2_nextOf.2.2.2.2.2.2.2.2.2.2.2.2.2.2.2.2.2.1
theorem dX2_nextOf_31 : decode cX2_nextOf 31 = .ok (.iaload, 1) := DX2_nextOf.2.2.2.2.2.2.2.2.2.2.2.2.2.2.2.2.2.2.1
theorem dX2_nextOf_32 : decode cX2_nextOf 32 = .ok (.aload_n 0, 1) := DX2_nextOf.2.2.2.2.2.2.2.2.2.2.2.2.2.2.2.2.2.2.2.1
theorem dX2_nextOf_33 : decode cX2_nextOf 33 = .ok (.getfield 17, 3) := DX2_nextOf.2.2.2.2.2.2.2.2.2.2.2.2.2.2.2.2.2.2.2.2.1
theorem dX2_nextOf_36 : decode cX2_nextOf 36 = .ok (.iload_n 2, 1) := DX2_nextOf.2.2.2.2.2.2.2.2.2.2.2.2.2.2.2.2.2.2.2.2.2.1
theorem dX2_nextOf_37 : decode cX2_nextOf 37 = .ok (.iaload, 1) := DX2_nextOf.2.2.2.2.2.2.2.2.2.2.2.2.2.2.2.2.2.2.2.2.2.2.1
theorem dX2_nextOf_38 : decode cX2_nextOf 38 = .ok (.invokevirtual 88, 3) := DX2_nextOf.2.2.2.2.2.2.2.2.2.2.2.2.2.2.2.2.2.2.2.2.2.2.2.1
theorem dX2_nextOf_41 : decode cX2_nextOf 41 = .ok (.ifCond .eq 70, 3) := DX2_nextOf.2.2.2.2.2.2.2.2.2.2.2.2.2.2.2.2.2.2.2.2.2.2.2.2.1
theorem dX2_nextOf_44 : decode cX2_nextOf 44 = .ok (.iload_n 3, 1) := DX2_nextOf.2.2.2.2.2.2.2.2.2.2.2.2.2.2.2.2.2.2.2.2.2.2.2.2.2.1
theorem dX2_nextOf_45 : decode cX2_nextOf 45 = .ok (.ifCond .lt 47, 3) := DX2_nextOf.2.2.2.2.2.2.2.2.2.2.2.2.2.2.2.2.2.2.2.2.2.2.2.2.2.2.1
theorem dX2_nextOf_48 : decode cX2_nextOf 48 = .ok (.aload_n 0, 1) := DX2_nextOf.2.2.2.2.2.2.2.2.2.2.2.2.2.2.2.2.2.2.2.2.2.2.2.2.2.2.2.1
theorem dX2_nextOf_49 : decode cX2_nextOf 49 = .ok (.iload_n 2, 1) := DX2_nextOf.2.2.2.2.2.2.2.2.2.2.2.2.2.2.2.2.2.2.2.2.2.2.2.2.2.2.2.2.1
theorem dX2_nextOf_50 : decode cX2_nextOf 50 = .ok (.iload 4, 2) := DX2_nextOf.2.2.2.2.2.2.2.2.2.2.2.2.2.2.2.2.2.2.2.2.2.2.2.2.2.2.2.2.2.1
theorem dX2_nextOf_52 : decode cX2_nextOf 52 = .ok (.invokevirtual 91, 3) := DX2_nextOf.2.2.2.2.2.2.2.2.2.2.2.2.2.2.2.2.2.2.2.2.2.2.2.2.2.2.2.2.2.2.1
theorem dX2_nextOf_55 : decode cX2_nextOf 55 = .ok (.aload_n 0, 1) := DX2_nextOf.2.2.2.2.2.2.2.2.2.2.2.2.2.2.2.2.2.2.2.2.2.2.2.2.2.2.2.2.2.2.2.1
theorem dX2_nextOf_56 : decode cX2_nextOf 56 = .ok (.iload_n 2, 1) := DX2_nextOf.2.2.2.2.2.2.2.2.2.2.2.2.2.2.2.2.2.2.2.2.2.2.2.2.2.2.2.2.2.2.2.2.1
theorem dX2_nextOf_57 : decode cX2_nextOf 57 = .ok (.iload_n 3, 1) := DX2_nextOf.2.2.2.2.2.2.2.2.2.2.2.2.2.2.2.2.2.2.2.2.2.2.2.2.2.2.2.2.2.2.2.2.2.1
theorem dX2_nextOf_58 : decode cX2_nextOf 58 = .ok (.invokevirtual 91, 3) := DX2_nextOf.2.2.2.2.2.2.2.2.2.2.2.2.2.2.2.2.2.2.2.2.2.2.2.2.2.2.2.2.2.2.2.2.2.2.1
theorem dX2_nextOf_61 : decode cX2_nextOf 61 = .ok (.if_icmp .lt 31, 3) := DX2_nextOf.2.2.2.2.2.2.2.2.2.2.2.2.2.2.2.2.2.2.2.2.2.2.2.2.2.2.2.2.2.2.2.2.2.2.2.1
theorem dX2_nextOf_64 : decode cX2_nextOf 64 = .ok (.aload_n 0, 1) := DX2_nextOf.2.2.2.2.2.2.2.2.2.2.2.2.2.2.2.2.2.2.2.2.2.2.2.2.2.2.2.2.2.2.2.2.2.2.2.2.1
theorem dX2_nextOf_65 : decode cX2_nextOf 65 = .ok (.iload_n 2, 1) := DX2_nextOf.2.2.2.2.2.2.2.2.2.2.2.2.2.2.2.2.2.2.2.2.2.2.2.2.2.2.2.2.2.2.2.2.2.2.2.2.2.1
theorem dX2_nextOf_66 : decode cX2_nextOf 66 = .ok (.iload 4, 2) := DX2_nextOf.2.2.2.2.2.2.2.2.2.2.2.2.2.2.2.2.2.2.2.2.2.2.2.2.2.2.2.2.2.2.2.2.2.2.2.2.2.2.1
theorem dX2_nextOf_68 : decode cX2_nextOf 68 = .ok (.invokevirtual 91, 3) := DX2_nextOf.2.2.2.2.2.2.2.2.2.2.2.2.2.2.2.2.2.2.2.2.2.2.2.2.2.2.2.2.2.2.2.2.2.2.2.2.2.2.2.1
theorem dX2_nextOf_71 : decode cX2_nextOf 71 = .ok (.aload_n 0, 1) := DX2_nextOf.2.2.2.2.2.2.2.2.2.2.2.2.2.2.2.2.2.2.2.2.2.2.2.2.2.2.2.2.2.2.2.2.2.2.2.2.2.2.2.2.1
theorem dX2_nextOf_72 : decode cX2_nextOf 72 = .ok (.iload_n 2, 1) := DX2_nextOf.2.2.2.2.2.2.2.2.2.2.2.2.2.2.2.2.2.2.2.2.2.2.2.2.2.2.2.2.2.2.2.2.2.2.2.2.2.2.2.2.2.1
theorem dX2_nextOf_73 : decode cX2_nextOf 73 = .ok (.iload_n 3, 1) := DX2_nextOf.2.2.2.2.2.2.2.2.2.2.2.2.2.2.2.2.2.2.2.2.2.2.2.2.2.2.2.2.2.2.2.2.2.2.2.2.2.2.2.2.2.2.1
theorem dX2_nextOf_74 : decode cX2_nextOf 74 = .ok (.invokevirtual 91, 3) := DX2_nextOf.2.2.2.2.2.2.2.2.2.2.2.2.2.2.2.2.2.2.2.2.2.2.2.2.2.2.2.2.2.2.2.2.2.2.2.2.2.2.2.2.2.2.2.1
theorem dX2_nextOf_77 : decode cX2_nextOf 77 = .ok (.if_icmp .ne 19, 3) := DX2_nextOf.2.2.2.2.2.2.2.2.2.2.2.2.2.2.2.2.2.2.2.2.2.2.2.2.2.2.2.2.2.2.2.2.2.2.2.2.2.2.2.2.2.2.2.2.1
theorem dX2_nextOf_80 : decode cX2_nextOf 80 = .ok (.aload_n 0, 1) := DX2_nextOf.2.2.2.2.2.2.2.2.2.2.2.2.2.2.2.2.2.2.2.2.2.2.2.2.2.2.2.2.2.2.2.2.2.2.2.2.2.2.2.2.2.2.2.2.2.1
theorem dX2_nextOf_81 : decode cX2_nextOf 81 = .ok (.iload 4, 2) := DX2_nextOf.2.2.2.2.2.2.2.2.2.2.2.2.2.2.2.2.2.2.2.2.2.2.2.2.2.2.2.2.2.2.2.2.2.2.2.2.2.2.2.2.2.2.2.2.2.2.1
theorem dX2_nextOf_83 : decode cX2_nextOf 83 = .ok (.iload_n 3, 1) := DX2_nextOf.2.2.2.2.2.2.2.2.2.2.2.2.2.2.2.2.2.2.2.2.2.2.2.2.2.2.2.2.2.2.2.2.2.2.2.2.2.2.2.2.2.2.2.2.2.2.2.1
theorem dX2_nextOf_84 : decode cX2_nextOf 84 = .ok (.invokevirtual 84, 3) := DX2_nextOf.2.2.2.2.2.2.2.2.2.2.2.2.2.2.2.2.2.2.2.2.2.2.2.2.2.2.2.2.2.2.2.2.2.2.2.2.2.2.2.2.2.2.2.2.2.2.2.2.1
theorem dX2_nextOf_87 : decode cX2_nextOf 87 = .ok (.lconst 0, 1) := DX2_nextOf.2.2.2.2.2.2.2.2.2.2.2.2.2.2.2.2.2.2.2.2.2.2.2.2.2.2.2.2.2.2.2.2.2.2.2.2.2.2.2.2.2.2.2.2.2.2.2.2.2.1
theorem dX2_nextOf_88 : decode cX2_nextOf 88 = .ok (.lcmp, 1) := DX2_nextOf.2.2.2.2.2.2.2.2.2.2.2.2.2.2.2.2.2.2.2.2.2.2.2.2.2.2.2.2.2.2.2.2.2.2.2.2.2.2.2.2.2.2.2.2.2.2.2.2.2.2.1
theorem dX2_nextOf_89 : decode cX2_nextOf 89 = .ok (.ifCond .ge 7, 3) := DX2_nextOf.2.2.2.2.2.2.2.2.2.2.2.2.2.2.2.2.2.2.2.2.2.2.2.2.2.2.2.2.2.2.2.2.2.2.2.2.2.2.2.2.2.2.2.2.2.2.2.2.2.2.2.1
theorem dX2_nextOf_92 : decode cX2_nextOf 92 = .ok (.iconst 1, 1) := DX2_nextOf.2.2.2.2.2.2.2.2.2.2.2.2.2.2.2.2.2.2.2.2.2.2.2.2.2.2.2.2.2.2.2.2.2.2.2.2.2.2.2.2.2.2.2.2.2.2.2.2.2.2.2.2.1
theorem dX2_nextOf_93 : decode cX2_nextOf 93 = .ok (.goto 4, 3) := DX2_nextOf.2.2.2.2.2.2.2.2.2.2.2.2.2.2.2.2.2.2.2.2.2.2.2.2.2.2.2.2.2.2.2.2.2.2.2.2.2.2.2.2.2.2.2.2.2.2.2.2.2.2.2.2.2.1
theorem dX2_nextOf_96 : decode cX2_nextOf 96 = .ok (.iconst 0, 1) := DX2_nextOf.2.2.2.2.2.2.2.2.2.2.2.2.2.2.2.2.2.2.2.2.2.2.2.2.2.2.2.2.2.2.2.2.2.2.2.2.2.2.2.2.2.2.2.2.2.2.2.2.2.2.2.2.2.2.1
theorem dX2_nextOf_97 : decode cX2_nextOf 97 = .ok (.istore 5, 2) := DX2_nextOf.2.2.2.2.2.2.2.2.2.2.2.2.2.2.2.2.2.2.2.2.2.2.2.2.2.2.2.2.2.2.2.2.2.2.2.2.2.2.2.2.2.2.2.2.2.2.2.2.2.2.2.2.2.2.2.1
theorem dX2_nextOf_99 : decode cX2_nextOf 99 = .ok (.iload 5, 2) := DX2_nextOf.2.2.2.2.2.2.2.2.2.2.2.2.2.2.2.2.2.2.2.2.2.2.2.2.2.2.2.2.2.2.2.2.2.2.2.2.2.2.2.2.2.2.2.2.2.2.2.2.2.2.2.2.2.2.2.2.1
theorem dX2_nextOf_101 : decode cX2_nextOf 101 = .ok (.ifCond .eq 8, 3) := DX2_nextOf.2.2.2.2.2.2.2.2.2.2.2.2.2.2.2.2.2.2.2.2.2.2.2.2.2.2.2.2.2.2.2.2.2.2.2.2.2.2.2.2.2.2.2.2.2.2.2.2.2.2.2.2.2.2.2.2.2.1
theorem dX2_nextOf_104 : decode cX2_nextOf 104 = .ok (.iload 4, 2) := DX2_nextOf.2.2.2.2.2.2.2.2.2.2.2.2.2.2.2.2.2.2.2.2.2.2.2.2.2.2.2.2.2.2.2.2.2.2.2.2.2.2.2.2.2.2.2.2.2.2.2.2.2.2.2.2.2.2.2.2.2.2.1
theorem dX2_nextOf_106 : decode cX2_nextOf 106 = .ok (.goto 4, 3) := DX2_nextOf.2.2.2.2.2.2.2.2.2.2.2.2.2.2.2.2.2.2.2.2.2.2.2.2.2.2.2.2.2.2.2.2.2.2.2.2.2.2.2.2.2.2.2.2.2.2.2.2.2.2.2.2.2.2.2.2.2.2.2.1
theorem dX2_nextOf_109 : decode cX2_nextOf 109 = .ok (.iload_n 3, 1) := DX2_nextOf.2.2.2.2.2.2.2.2.2.2.2.2.2.2.2.2.2.2.2.2.2.2.2.2.2.2.2.2.2.2.2.2.2.2.2.2.2.2.2.2.2.2.2.2.2.2.2.2.2.2.2.2.2.2.2.2.2.2.2.2.1
theorem dX2_nextOf_110 : decode cX2_nextOf 110 = .ok (.istore_n 3, 1) := DX2_nextOf.2.2.2.2.2.2.2.2.2.2.2.2.2.2.2.2.2.2.2.2.2.2.2.2.2.2.2.2.2.2.2.2.2.2.2.2.2.2.2.2.2.2.2.2.2.2.2.2.2.2.2.2.2.2.2.2.2.2.2.2.2.1
theorem dX2_nextOf_111 : decode cX2_nextOf 111 = .ok (.iinc 4 1, 3) := DX2_nextOf.2.2.2.2.2.2.2.2.2.2.2.2.2.2.2.2.2.2.2.2.2.2.2.2.2.2.2.2.2.2.2.2.2.2.2.2.2.2.2.2.2.2.2.2.2.2.2.2.2.2.2.2.2.2.2.2.2.2.2.2.2.2.1
theorem dX2_nextOf_114 : decode cX2_nextOf 114 = .ok (.goto (-104), 3) := DX2_nextOf.2.2.2.2.2.2.2.2.2.2.2.2.2.2.2.2.2.2.2.2.2.2.2.2.2.2.2.2.2.2.2.2.2.2.2.2.2.2.2.2.2.2.2.2.2.2.2.2.2.2.2.2.2.2.2.2.2.2.2.2.2.2.2.1
theorem dX2_nextOf_117 : decode cX2_nextOf 117 = .ok (.iload_n 3, 1) := DX2_nextOf.2.2.2.2.2.2.2.2.2.2.2.2.2.2.2.2.2.2.2.2.2.2.2.2.2.2.2.2.2.2.2.2.2.2.2.2.2.2.2.2.2.2.2.2.2.2.2.2.2.2.2.2.2.2.2.2.2.2.2.2.2.2.2.2.1
theorem dX2_nextOf_118 : decode cX2_nextOf 118 = .ok (.ifCond .ge 7, 3) := DX2_nextOf.2.2.2.2.2.2.2.2.2.2.2.2.2.2.2.2.2.2.2.2.2.2.2.2.2.2.2.2.2.2.2.2.2.2.2.2.2.2.2.2.2.2.2.2.2.2.2.2.2.2.2.2.2.2.2.2.2.2.2.2.2.2.2.2.2.1
theorem dX2_nextOf_121 : decode cX2_nextOf 121 = .ok (.iload_n 2, 1) := DX2_nextOf.2.2.2.2.2.2.2.2.2.2.2.2.2.2.2.2.2.2.2.2.2.2.2.2.2.2.2.2.2.2.2.2.2.2.2.2.2.2.2.2.2.2.2.2.2.2.2.2.2.2.2.2.2.2.2.2.2.2.2.2.2.2.2.2.2.2.1
theorem dX2_nextOf_122 : decode cX2_nextOf 122 = .ok (.goto 4, 3) := DX2_nextOf.2.2.2.2.2.2.2.2.2.2.2.2.2.2.2.2.2.2.2.2.2.2.2.2.2.2.2.2.2.2.2.2.2.2.2.2.2.2.2.2.2.2.2.2.2.2.2.2.2.2.2.2.2.2.2.2.2.2.2.2.2.2.2.2.2.2.2.1
theorem dX2_nextOf_125 : decode cX2_nextOf 125 = .ok (.iload_n 3, 1) := DX2_nextOf.2.2.2.2.2.2.2.2.2.2.2.2.2.2.2.2.2.2.2.2.2.2.2.2.2.2.2.2.2.2.2.2.2.2.2.2.2.2.2.2.2.2.2.2.2.2.2.2.2.2.2.2.2.2.2.2.2.2.2.2.2.2.2.2.2.2.2.2.1
theorem dX2_nextOf_126 : decode cX2_nextOf 126 = .ok (.ireturn, 1) := DX2_nextOf.2.2.2.2.2.2.2.2.2.2.2.2.2.2.2.2.2.2.2.2.2.2.2.2.2.2.2.2.2.2.2.2.2.2.2.2.2.2.2.2.2.2.2.2.2.2.2.2.2.2.2.2.2.2.2.2.2.2.2.2.2.2.2.2.2.2.2.2.2
theorem dX2_back_0 : decode cX2_back 0 = .ok (.iload_n 0, 1) := DX2_back.1
theorem dX2_back_1 : decode cX2_back 1 = .ok (.iconst 2, 1) := DX2_back.2.1
theorem dX2_back_2 : decode cX2_back 2 = .ok (.irem, 1) := DX2_back.2.2.1
theorem dX2_back_3 : decode cX2_back 3 = .ok (.ifCond .ne 9, 3) := DX2_back.2.2.2.1
theorem dX2_back_6 : decode cX2_back 6 = .ok (.iload_n 0, 1) := DX2_back.2.2.2.2.1
theorem dX2_back_7 : decode cX2_back 7 = .ok (.iconst 1, 1) := DX2_back.2.2.2.2.2.1
theorem dX2_back_8 : decode cX2_back 8 = .ok (.iadd, 1) := DX2_back.2.2.2.2.2.2.1
theorem dX2_back_9 : decode cX2_back 9 = .ok (.goto 6, 3) := DX2_back.2.2.2.2.2.2.2.1
theorem dX2_back_12 : decode cX2_back 12 = .ok (.iload_n 0, 1) := DX2_back.2.2.2.2.2.2.2.2.1
theorem dX2_back_13 : decode cX2_back 13 = .ok (.iconst 1, 1) := DX2_back.2.2.2.2.2.2.2.2.2.1
theorem dX2_back_14 : decode cX2_back 14 = .ok (.isub, 1) := DX2_back.2.2.2.2.2.2.2.2.2.2.1
theorem dX2_back_15 : decode cX2_back 15 = .ok (.ireturn, 1) := DX2_back.2.2.2.2.2.2.2.2.2.2.2
theorem dX2_leaves_0 : decode cX2_leaves 0 = .ok (.aload_n 0, 1) := DX2_leaves.1
theorem dX2_leaves_1 : decode cX2_leaves 1 = .ok (.getfield 7, 3) := DX2_leaves.2.1
theorem dX2_leaves_4 : decode cX2_leaves 4 = .ok (.iload_n 1, 1) := DX2_leaves.2.2.1
theorem dX2_leaves_5 : decode cX2_leaves 5 = .ok (.iconst 2, 1) := DX2_leaves.2.2.2.1
theorem dX2_leaves_6 : decode cX2_leaves 6 = .ok (.idiv, 1) := DX2_leaves.2.2.2.2.1
theorem dX2_leaves_7 : decode cX2_leaves 7 = .ok (.baload, 1) := DX2_leaves.2.2.2.2.2.1
theorem dX2_leaves_8 : decode cX2_leaves 8 = .ok (.ifCond .eq 27, 3) := DX2_leaves.2.2.2.2.2.2.1
theorem dX2_leaves_11 : decode cX2_leaves 11 = .ok (.aload_n 0, 1) := DX2_leaves.2.2.2.2.2.2.2.1
theorem dX2_leaves_12 : decode cX2_leaves 12 = .ok (.getfield 13, 3) := DX2_leaves.2.2.2.2.2.2.2.2.1
theorem dX2_leaves_15 : decode cX2_leaves 15 = .ok (.iload_n 1, 1) := DX2_leaves.2.2.2.2.2.2.2.2.2.1
theorem dX2_leaves_16 : decode cX2_leaves 16 = .ok (.iaload, 1) := DX2_leaves.2.2.2.2.2.2.2.2.2.2.1
theorem dX2_leaves_17 : decode cX2_leaves 17 = .ok (.iload_n 2, 1) := DX2_leaves.2.2.2.2.2.2.2.2.2.2.2.1
theorem dX2_leaves_18 : decode cX2_leaves 18 = .ok (.if_icmp .ne 17, 3) := DX2_leaves.2.2.2.2.2.2.2.2.2.2.2.2.1
theorem dX2_leaves_21 : decode cX2_leaves 21 = .ok (.aload_n 0, 1) := DX2_leaves.2.2.2.2.2.2.2.2.2.2.2.2.2.1
theorem dX2_leaves_22 : decode cX2_leaves 22 = .ok (.getfield 17, 3) := DX2_leaves.2.2.2.2.2.2.2.2.2.2.2.2.2.2.1
theorem dX2_leaves_25 : decode cX2_leaves 25 = .ok (.iload_n 1, 1) := DX2_leaves.2.2.2.2.2.2.2.2.2.2.2.2.2.2.2.1
theorem dX2_leaves_26 : decode cX2_leaves 26 = .ok (.iaload, 1) := DX2_leaves.2.2.2.2.2.2.2.2.2.2.2.2.2.2.2.2.1
theorem dX2_leaves_27 : decode cX2_leaves 27 = .ok (.iload_n 3, 1) := DX2_leaves.2.2.2.2.2.2.2.2.2.2.2.2.2.2.2.2.2.1
theorem dX2_leaves_28 : decode cX2_leaves 28 = .ok (.if_icmp .ne 7, 3) := DX2_leaves.2.2.2.2.2.2.2.2.2.2.2.2.2.2.2.2.2.2.1
theorem dX2_leaves_31 : decode cX2_leaves 31 = .ok (.iconst 1, 1) := DX2_leaves.2.2.2.2.2.2.2.2.2.2.2.2.2.2.2.2.2.2.2.1
theorem dX2_leaves_32 : decode cX2_leaves 32 = .ok (.goto 4, 3) := DX2_leaves.2.2.2.2.2.2.2.2.2.2.2.2.2.2.2.2.2.2.2.2.1
theorem dX2_leaves_35 : decode cX2_leaves 35 = .ok (.iconst 0, 1) := DX2_leaves.2.2.2.2.2.2.2.2.2.2.2.2.2.2.2.2.2.2.2.2.2.1
theorem dX2_leaves_36 : decode cX2_leaves 36 = .ok (.ireturn, 1) := DX2_leaves.2.2.2.2.2.2.2.2.2.2.2.2.2.2.2.2.2.2.2.2.2.2
theorem dX2_turned_0 : decode cX2_turned 0 = .ok (.aload_n 0, 1) := DX2_turned.1
theorem dX2_turned_1 : decode cX2_turned 1 = .ok (.iload_n 1, 1) := DX2_turned.2.1
theorem dX2_turned_2 : decode cX2_turned 2 = .ok (.iload_n 2, 1) := DX2_turned.2.2.1
theorem dX2_turned_3 : decode cX2_turned 3 = .ok (.invokevirtual 84, 3) := DX2_turned.2.2.2.1
theorem dX2_turned_6 : decode cX2_turned 6 = .ok (.lstore_n 3, 1) := DX2_turned.2.2.2.2.1
theorem dX2_turned_7 : decode cX2_turned 7 = .ok (.lload_n 3, 1) := DX2_turned.2.2.2.2.2.1
theorem dX2_turned_8 : decode cX2_turned 8 = .ok (.lconst 0, 1) := DX2_turned.2.2.2.2.2.2.1
theorem dX2_turned_9 : decode cX2_turned 9 = .ok (.lcmp, 1) := DX2_turned.2.2.2.2.2.2.2.1
theorem dX2_turned_10 : decode cX2_turned 10 = .ok (.ifCond .ge 7, 3) := DX2_turned.2.2.2.2.2.2.2.2.1
theorem dX2_turned_13 : decode cX2_turned 13 = .ok (.iconst 0, 1) := DX2_turned.2.2.2.2.2.2.2.2.2.1
theorem dX2_turned_14 : decode cX2_turned 14 = .ok (.goto 14, 3) := DX2_turned.2.2.2.2.2.2.2.2.2.2.1
theorem dX2_turned_17 : decode cX2_turned 17 = .ok (.lload_n 3, 1) := DX2_turned.2.2.2.2.2.2.2.2.2.2.2.1
theorem dX2_turned_18 : decode cX2_turned 18 = .ok (.lconst 0, 1) := DX2_turned.2.2.2.2.2.2.2.2.2.2.2.2.1
theorem dX2_turned_19 : decode cX2_turned 19 = .ok (.lcmp, 1) := DX2_turned.2.2.2.2.2.2.2.2.2.2.2.2.2.1
theorem dX2_turned_20 : decode cX2_turned 20 = .ok (.ifCond .ne 7, 3) := DX2_turned.2.2.2.2.2.2.2.2.2.2.2.2.2.2.1
theorem dX2_turned_23 : decode cX2_turned 23 = .ok (.iconst 1, 1) := DX2_turned.2.2.2.2.2.2.2.2.2.2.2.2.2.2.2.1
theorem dX2_turned_24 : decode cX2_turned 24 = .ok (.goto 4, 3) := DX2_turned.2.2.2.2.2.2.2.2.2.2.2.2.2.2.2.2.1
theorem dX2_turned_27 : decode cX2_turned 27 = .ok (.iconst 2, 1) := DX2_turned.2.2.2.2.2.2.2.2.2.2.2.2.2.2.2.2.2.1
theorem dX2_turned_28 : decode cX2_turned 28 = .ok (.ireturn, 1) := DX2_turned.2.2.2.2.2.2.2.2.2.2.2.2.2.2.2.2.2.2
theorem dX2_crossOf_0 : decode cX2_crossOf 0 = .ok (.aload_n 0, 1) := DX2_crossOf.1
theorem dX2_crossOf_1 : decode cX2_crossOf 1 = .ok (.getfield 13, 3) := DX2_crossOf.2.1
theorem dX2_crossOf_4 : decode cX2_crossOf 4 = .ok (.iload_n 1, 1) := DX2_crossOf.2.2.1
theorem dX2_crossOf_5 : decode cX2_crossOf 5 = .ok (.invokestatic 80, 3) := DX2_crossOf.2.2.2.1
theorem dX2_crossOf_8 : decode cX2_crossOf 8 = .ok (.iaload, 1) := DX2_crossOf.2.2.2.2.1
theorem dX2_crossOf_9 : decode cX2_crossOf 9 = .ok (.aload_n 0, 1) := DX2_crossOf.2.2.2.2.2.1
theorem dX2_crossOf_10 : decode cX2_crossOf 10 = .ok (.getfield 13, 3) := DX2_crossOf.2.2.2.2.2.2.1
theorem dX2_crossOf_13 : decode cX2_crossOf 13 = .ok (.iload_n 1, 1) := DX2_crossOf.2.2.2.2.2.2.2.1
theorem dX2_crossOf_14 : decode cX2_crossOf 14 = .ok (.iaload, 1) := DX2_crossOf.2.2.2.2.2.2.2.2.1
theorem dX2_crossOf_15 : decode cX2_crossOf 15 = .ok (.isub, 1) := DX2_crossOf.2.2.2.2.2.2.2.2.2.1
theorem dX2_crossOf_16 : decode cX2_crossOf 16 = .ok (.i2l, 1) := DX2_crossOf.2.2.2.2.2.2.2.2.2.2.1
theorem dX2_crossOf_17 : decode cX2_crossOf 17 = .ok (.lstore_n 3, 1) := DX2_crossOf.2.2.2.2.2.2.2.2.2.2.2.1
theorem dX2_crossOf_18 : decode cX2_crossOf 18 = .ok (.aload_n 0, 1) := DX2_crossOf.2.2.2.2.2.2.2.2.2.2.2.2.1
theorem dX2_crossOf_19 : decode cX2_crossOf 19 = .ok (.getfield 17, 3) := DX2_crossOf.2.2.2.2.2.2.2.2.2.2.2.2.2.1
theorem dX2_crossOf_22 : decode cX2_crossOf 22 = .ok (.iload_n 1, 1) := DX2_crossOf.2.2.2.2.2.2.2.2.2.2.2.2.2.2.1
theorem dX2_crossOf_23 : decode cX2_crossOf 23 = .ok (.invokestatic 80, 3) := DX2_crossOf.2.2.2.2.2.2.2.2.2.2.2.2.2.2.2.1
theorem dX2_crossOf_26 : decode cX2_crossOf 26 = .ok (.iaload, 1) := DX2_crossOf.2.2.2.2.2.2.2.2.2.2.2.2.2.2.2.2.1
theorem dX2_crossOf_27 : decode cX2_crossOf 27 = .ok (.aload_n 0, 1) := DX2_crossOf.2.2.2.2.2.2.2.2.2.2.2.2.2.2.2.2.2.1
theorem dX2_crossOf_28 : decode cX2_crossOf 28 = .ok (.getfield 17, 3) := DX2_crossOf.2.2.2.2.2.2.2.2.2.2.2.2.2.2.2.2.2.2.1
theorem dX2_crossOf_31 : decode cX2_crossOf 31 = .ok (.iload_n 1, 1) := DX2_crossOf.2.2.2.2.2.2.2.2.2.2.2.2.2.2.2.2.2.2.2.1
theorem dX2_crossOf_32 : decode cX2_crossOf 32 = .ok (.iaload, 1) := DX2_crossOf.2.2.2.2.2.2.2.2.2.2.2.2.2.2.2.2.2.2.2.2.1
theorem dX2_crossOf_33 : decode cX2_crossOf 33 = .ok (.isub, 1) := DX2_crossOf.2.2.2.2.2.2.2.2.2.2.2.2.2.2.2.2.2.2.2.2.2.1
theorem dX2_crossOf_34 : decode cX2_crossOf 34 = .ok (.i2l, 1) := DX2_crossOf.2.2.2.2.2.2.2.2.2.2.2.2.2.2.2.2.2.2.2.2.2.2.1
theorem dX2_crossOf_35 : decode cX2_crossOf 35 = .ok (.lstore 5, 2) := DX2_crossOf.2.2.2.2.2.2.2.2.2.2.2.2.2.2.2.2.2.2.2.2.2.2.2.1
theorem dX2_crossOf_37 : decode cX2_crossOf 37 = .ok (.aload_n 0, 1) := DX2_crossOf.2.2.2.2.2.2.2.2.2.2.2.2.2.2.2.2.2.2.2.2.2.2.2.2.1
theorem dX2_crossOf_38 : decode cX2_crossOf 38 = .ok (.getfield 13, 3) := DX2_crossOf.2.2.2.2.2.2.2.2.2.2.2.2.2.2.2.2.2.2.2.2.2.2.2.2.2.1
theorem dX2_crossOf_41 : decode cX2_crossOf 41 = .ok (.iload_n 2, 1) := DX2_crossOf.2.2.2.2.2.2.2.2.2.2.2.2.2.2.2.2.2.2.2.2.2.2.2.2.2.2.1
theorem dX2_crossOf_42 : decode cX2_crossOf 42 = .ok (.invokestatic 80, 3) := DX2_crossOf.2.2.2.2.2.2.2.2.2.2.2.2.2.2.2.2.2.2.2.2.2.2.2.2.2.2.2.1
theorem dX2_crossOf_45 : decode cX2_crossOf 45 = .ok (.iaload, 1) := DX2_crossOf.2.2.2.2.2.2.2.2.2.2.2.2.2.2.2.2.2.2.2.2.2.2.2.2.2.2.2.2.1
theorem dX2_crossOf_46 : decode cX2_crossOf 46 = .ok (.aload_n 0, 1) := DX2_crossOf.2.2.2.2.2.2.2.2.2.2.2.2.2.2.2.2.2.2.2.2.2.2.2.2.2.2.2.2.2.1
theorem dX2_crossOf_47 : decode cX2_crossOf 47 = .ok (.getfield 13, 3) := DX2_crossOf.2.2.2.2.2.2.2.2.2.2.2.2.2.2.2.2.2.2.2.2.2.2.2.2.2.2.2.2.2.2.1
theorem dX2_crossOf_50 : decode cX2_crossOf 50 = .ok (.iload_n 2, 1) := DX2_crossOf.2.2.2.2.2.2.2.2.2.2.2.2.2.2.2.2.2.2.2.2.2.2.2.2.2.2.2.2.2.2.2.1
theorem dX2_crossOf_51 : decode cX2_crossOf 51 = .ok (.iaload, 1) := DX2_crossOf.2.2.2.2.2.2.2.2.2.2.2.2.2.2.2.2.2.2.2.2.2.2.2.2.2.2.2.2.2.2.2.2.1
theorem dX2_crossOf_52 : decode cX2_crossOf 52 = .ok (.isub, 1) := DX2_crossOf.2.2.2.2.2.2.2.2.2.2.2.2.2.2.2.2.2.2.2.2.2.2.2.2.2.2.2.2.2.2.2.2.2.1
theorem dX2_crossOf_53 : decode cX2_crossOf 53 = .ok (.i2l, 1) := DX2_crossOf.2.2.2.2.2.2.2.2.2.2.2.2.2.2.2.2.2.2.2.2.2.2.2.2.2.2.2.2.2.2.2.2.2.2.1
theorem dX2_crossOf_54 : decode cX2_crossOf 54 = .ok (.lstore 7, 2) := DX2_crossOf.2.2.2.2.2.2.2.2.2.2.2.2.2.2.2.2.2.2.2.2.2.2.2.2.2.2.2.2.2.2.2.2.2.2.2.1
theorem dX2_crossOf_56 : decode cX2_crossOf 56 = .ok (.aload_n 0, 1) := DX2_crossOf.2.2.2.2.2.2.2.2.2.2.2.2.2.2.2.2.2.2.2.2.2.2.2.2.2.2.2.2.2.2.2.2.2.2.2.2.1
theorem dX2_crossOf_57 : decode cX2_crossOf 57 = .ok (.getfield 17, 3) := DX2_crossOf.2.2.2.2.2.2.2.2.2.2.2.2.2.2.2.2.2.2.2.2.2.2.2.2.2.2.2.2.2.2.2.2.2.2.2.2.2.1
theorem dX2_crossOf_60 : decode cX2_crossOf 60 = .ok (.iload_n 2, 1) := DX2_crossOf.2.2.2.2.2.2.2.2.2.2.2.2.2.2.2.2.2.2.2.2.2.2.2.2.2.2.2.2.2.2.2.2.2.2.2.2.2.2.1
theorem dX2_crossOf_61 : decode cX2_crossOf 61 = .ok (.invokestatic 80, 3) := DX2_crossOf.2.2.2.2.2.2.2.2.2.2.2.2.2.2.2.2.2.2.2.2.2.2.2.2.2.2.2.2.2.2.2.2.2.2.2.2.2.2.2.1
theorem dX2_crossOf_64 : decode cX2_crossOf 64 = .ok (.iaload, 1) := DX2_crossOf.2.2.2.2.2.2.2.2.2.2.2.2.2.2.2.2.2.2.2.2.2.2.2.2.2.2.2.2.2.2.2.2.2.2.2.2.2.2.2.2.1
theorem dX2_crossOf_65 : decode cX2_crossOf 65 = .ok (.aload_n 0, 1) := DX2_crossOf.2.2.2.2.2.2.2.2.2.2.2.2.2.2.2.2.2.2.2.2.2.2.2.2.2.2.2.2.2.2.2.2.2.2.2.2.2.2.2.2.2.1
theorem dX2_crossOf_66 : decode cX2_crossOf 66 = .ok (.getfield 17, 3) := DX2_crossOf.2.2.2.2.2.2.2.2.2.2.2.2.2.2.2.2.2.2.2.2.2.2.2.2.2.2.2.2.2.2.2.2.2.2.2.2.2.2.2.2.2.2.1
theorem dX2_crossOf_69 : decode cX2_crossOf 69 = .ok (.iload_n 2, 1) := DX2_crossOf.2.2.2.2.2.2.2.2.2.2.2.2.2.2.2.2.2.2.2.2.2.2.2.2.2.2.2.2.2.2.2.2.2.2.2.2.2.2.2.2.2.2.2.1
theorem dX2_crossOf_70 : decode cX2_crossOf 70 = .ok (.iaload, 1) := DX2_crossOf.2.2.2.2.2.2.2.2.2.2.2.2.2.2.2.2.2.2.2.2.2.2.2.2.2.2.2.2.2.2.2.2.2.2.2.2.2.2.2.2.2.2.2.2.1
theorem dX2_crossOf_71 : decode cX2_crossOf 71 = .ok (.isub, 1) := DX2_crossOf.2.2.2.2.2.2.2.2.2.2.2.2.2.2.2.2.2.2.2.2.2.2.2.2.2.2.2.2.2.2.2.2.2.2.2.2.2.2.2.2.2.2.2.2.2.1
theorem dX2_crossOf_72 : decode cX2_crossOf 72 = .ok (.i2l, 1) := DX2_crossOf.2.2.2.2.2.2.2.2.2.2.2.2.2.2.2.2.2.2.2.2.2.2.2.2.2.2.2.2.2.2.2.2.2.2.2.2.2.2.2.2.2.2.2.2.2.2.1
theorem dX2_crossOf_73 : decode cX2_crossOf 73 = .ok (.lstore 9, 2) := DX2_crossOf.2.2.2.2.2.2.2.2.2.2.2.2.2.2.2.2.2.2.2.2.2.2.2.2.2.2.2.2.2.2.2.2.2.2.2.2.2.2.2.2.2.2.2.2.2.2.2.1
theorem dX2_crossOf_75 : decode cX2_crossOf 75 = .ok (.lload_n 3, 1) := DX2_crossOf.2.2.2.2.2.2.2.2.2.2.2.2.2.2.2.2.2.2.2.2.2.2.2.2.2.2.2.2.2.2.2.2.2.2.2.2.2.2.2.2.2.2.2.2.2.2.2.2.1
theorem dX2_crossOf_76 : decode cX2_crossOf 76 = .ok (.lload 9, 2) := DX2_crossOf.2.2.2.2.2.2.2.2.2.2.2.2.2.2.2.2.2.2.2.2.2.2.2.2.2.2.2.2.2.2.2.2.2.2.2.2.2.2.2.2.2.2.2.2.2.2.2.2.2.1
theorem dX2_crossOf_78 : decode cX2_crossOf 78 = .ok (.lmul, 1) := DX2_crossOf.2.2.2.2.2.2.2.2.2.2.2.2.2.2.2.2.2.2.2.2.2.2.2.2.2.2.2.2.2.2.2.2.2.2.2.2.2.2.2.2.2.2.2.2.2.2.2.2.2.2.1
theorem dX2_crossOf_79 : decode cX2_crossOf 79 = .ok (.lload 5, 2) := DX2_crossOf.2.2.2.2.2.2.2.2.2.2.2.2.2.2.2.2.2.2.2.2.2.2.2.2.2.2.2.2.2.2.2.2.2.2.2.2.2.2.2.2.2.2.2.2.2.2.2.2.2.2.2.1
theorem dX2_crossOf_81 : decode cX2_crossOf 81 = .ok (.lload 7, 2) := DX2_crossOf.2.2.2.2.2.2.2.2.2.2.2.2.2.2.2.2.2.2.2.2.2.2.2.2.2.2.2.2.2.2.2.2.2.2.2.2.2.2.2.2.2.2.2.2.2.2.2.2.2.2.2.2.1
theorem dX2_crossOf_83 : decode cX2_crossOf 83 = .ok (.lmul, 1) := DX2_crossOf.2.2.2.2.2.2.2.2.2.2.2.2.2.2.2.2.2.2.2.2.2.2.2.2.2.2.2.2.2.2.2.2.2.2.2.2.2.2.2.2.2.2.2.2.2.2.2.2.2.2.2.2.2.1
theorem dX2_crossOf_84 : decode cX2_crossOf 84 = .ok (.lsub, 1) := DX2_crossOf.2.2.2.2.2.2.2.2.2.2.2.2.2.2.2.2.2.2.2.2.2.2.2.2.2.2.2.2.2.2.2.2.2.2.2.2.2.2.2.2.2.2.2.2.2.2.2.2.2.2.2.2.2.2.1
theorem dX2_crossOf_85 : decode cX2_crossOf 85 = .ok (.lreturn, 1) := DX2_crossOf.2.2.2.2.2.2.2.2.2.2.2.2.2.2.2.2.2.2.2.2.2.2.2.2.2.2.2.2.2.2.2.2.2.2.2.2.2.2.2.2.2.2.2.2.2.2.2.2.2.2.2.2.2.2.2
theorem dX2_spreadPiece_0 : decode cX2_spreadPiece 0 = .ok (.aload_n 0, 1) := DX2_spreadPiece.1
theorem dX2_spreadPiece_1 : decode cX2_spreadPiece 1 = .ok (.getfield 23, 3) := DX2_spreadPiece.2.1
theorem dX2_spreadPiece_4 : decode cX2_spreadPiece 4 = .ok (.iload_n 1, 1) := DX2_spreadPiece.2.2.1
theorem dX2_spreadPiece_5 : decode cX2_spreadPiece 5 = .ok (.iload_n 2, 1) := DX2_spreadPiece.2.2.2.1
theorem dX2_spreadPiece_6 : decode cX2_spreadPiece 6 = .ok (.iastore, 1) := DX2_spreadPiece.2.2.2.2.1
theorem dX2_spreadPiece_7 : decode cX2_spreadPiece 7 = .ok (.iconst 1, 1) := DX2_spreadPiece.2.2.2.2.2.1
theorem dX2_spreadPiece_8 : decode cX2_spreadPiece 8 = .ok (.istore_n 3, 1) := DX2_spreadPiece.2.2.2.2.2.2.1
theorem dX2_spreadPiece_9 : decode cX2_spreadPiece 9 = .ok (.iload_n 3, 1) := DX2_spreadPiece.2.2.2.2.2.2.2.1
theorem dX2_spreadPiece_10 : decode cX2_spreadPiece 10 = .ok (.ifCond .eq 159, 3) := DX2_spreadPiece.2.2.2.2.2.2.2.2.1
theorem dX2_spreadPiece_13 : decode cX2_spreadPiece 13 = .ok (.iconst 0, 1) := DX2_spreadPiece.2.2.2.2.2.2.2.2.2.1
theorem dX2_spreadPiece_14 : decode cX2_spreadPiece 14 = .ok (.istore_n 3, 1) := DX2_spreadPiece.2.2.2.2.2.2.2.2.2.2.1
theorem dX2_spreadPiece_15 : decode cX2_spreadPiece 15 = .ok (.iconst 0, 1) := DX2_spreadPiece.2.2.2.2.2.2.2.2.2.2.2.1
theorem dX2_spreadPiece_16 : decode cX2_spreadPiece 16 = .ok (.istore 4, 2) := DX2_spreadPiece.2.2.2.2.2.2.2.2.2.2.2.2.1
theorem dX2_spreadPiece_18 : decode cX2_spreadPiece 18 = .ok (.iload 4, 2) := DX2_spreadPiece.2.2.2.2.2.2.2.2.2.2.2.2.2.1
theorem dX2_spreadPiece_20 : decode cX2_spreadPiece 20 = .ok (.bipush 120, 2) := DX2_spreadPiece.2.2.2.2.2.2.2.2.2.2.2.2.2.2.1
theorem dX2_spreadPiece_22 : decode cX2_spreadPiece 22 = .ok (.if_icmp .ge 144, 3) := DX2_spreadPiece.2.2.2.2.2.2.2.2.2.2.2.2.2.2.2.1
theorem dX2_spreadPiece_25 : decode cX2_spreadPiece 25 = .ok (.iconst 0, 1) := DX2_spreadPiece.2.2.2.2.2.2.2.2.2.2.2.2.2.2.2.2.1
theorem dX2_spreadPiece_26 : decode cX2_spreadPiece 26 = .ok (.istore 5, 2) := DX2_spreadPiece.2.2.2.2.2.2.2.2.2.2.2.2.2.2.2.2.2.1
theorem dX2_spreadPiece_28 : decode cX2_spreadPiece 28 = .ok (.iconst 0, 1) := DX2_spreadPiece.2.2.2.2.2.2.2.2.2.2.2.2.2.2.2.2.2.2.1
theorem dX2_spreadPiece_29 : decode cX2_spreadPiece 29 = .ok (.istore 6, 2) := DX2_spreadPiece.2.2.2.2.2.2.2.2.2.2.2.2.2.2.2.2.2.2.2.1
theorem dX2_spreadPiece_31 : decode cX2_spreadPiece 31 = .ok (.iload 6, 2) := DX2_spreadPiece.2.2.2.2.2.2.2.2.2.2.2.2.2.2.2.2.2.2.2.2.1
theorem dX2_spreadPiece_33 : decode cX2_spreadPiece 33 = .ok (.bipush 120, 2) := DX2_spreadPiece.2.2.2.2.2.2.2.2.2.2.2.2.2.2.2.2.2.2.2.2.2.1
theorem dX2_spreadPiece_35 : decode cX2_spreadPiece 35 = .ok (.if_icmp .ge 110, 3) := DX2_spreadPiece.2.2.2.2.2.2.2.2.2.2.2.2.2.2.2.2.2.2.2.2.2.2.1
theorem dX2_spreadPiece_38 : decode cX2_spreadPiece 38 = .ok (.aload_n 0, 1) := DX2_spreadPiece.2.2.2.2.2.2.2.2.2.2.2.2.2.2.2.2.2.2.2.2.2.2.2.1
theorem dX2_spreadPiece_39 : decode cX2_spreadPiece 39 = .ok (.getfield 7, 3) := DX2_spreadPiece.2.2.2.2.2.2.2.2.2.2.2.2.2.2.2.2.2.2.2.2.2.2.2.2.1
theorem dX2_spreadPiece_42 : decode cX2_spreadPiece 42 = .ok (.iload 4, 2) := DX2_spreadPiece.2.2.2.2.2.2.2.2.2.2.2.2.2.2.2.2.2.2.2.2.2.2.2.2.2.1
theorem dX2_spreadPiece_44 : decode cX2_spreadPiece 44 = .ok (.iconst 2, 1) := DX2_spreadPiece.2.2.2.2.2.2.2.2.2.2.2.2.2.2.2.2.2.2.2.2.2.2.2.2.2.2.1
theorem dX2_spreadPiece_45 : decode cX2_spreadPiece 45 = .ok (.idiv, 1) := DX2_spreadPiece.2.2.2.2.2.2.2.2.2.2.2.2.2.2.2.2.2.2.2.2.2.2.2.2.2.2.2.1
theorem dX2_spreadPiece_46 : decode cX2_spreadPiece 46 = .ok (.baload, 1) := DX2_spreadPiece.2.2.2.2.2.2.2.2.2.2.2.2.2.2.2.2.2.2.2.2.2.2.2.2.2.2.2.2.1
theorem dX2_spreadPiece_47 : decode cX2_spreadPiece 47 = .ok (.ifCond .eq 98, 3) := DX2_spreadPiece.2.2.2.2.2.2.2.2.2.2.2.2.2.2.2.2.2.2.2.2.2.2.2.2.2.2.2.2.2.1
theorem dX2_spreadPiece_50 : decode cX2_spreadPiece 50 = .ok (.aload_n 0, 1) := DX2_spreadPiece.2.2.2.2.2.2.2.2.2.2.2.2.2.2.2.2.2.2.2.2.2.2.2.2.2.2.2.2.2.2.1
theorem dX2_spreadPiece_51 : decode cX2_spreadPiece 51 = .ok (.getfield 23, 3) := DX2_spreadPiece.2.2.2.2.2.2.2.2.2.2.2.2.2.2.2.2.2.2.2.2.2.2.2.2.2.2.2.2.2.2.2.1
theorem dX2_spreadPiece_54 : decode cX2_spreadPiece 54 = .ok (.iload 4, 2) := DX2_spreadPiece.2.2.2.2.2.2.2.2.2.2.2.2.2.2.2.2.2.2.2.2.2.2.2.2.2.2.2.2.2.2.2.2.1
theorem dX2_spreadPiece_56 : decode cX2_spreadPiece 56 = .ok (.iaload, 1) := DX2_spreadPiece.2.2.2.2.2.2.2.2.2.2.2.2.2.2.2.2.2.2.2.2.2.2.2.2.2.2.2.2.2.2.2.2.2.1
theorem dX2_spreadPiece_57 : decode cX2_spreadPiece 57 = .ok (.ifCond .ge 88, 3) := DX2_spreadPiece.2.2.2.2.2.2.2.2.2.2.2.2.2.2.2.2.2.2.2.2.2.2.2.2.2.2.2.2.2.2.2.2.2.2.1
theorem dX2_spreadPiece_60 : decode cX2_spreadPiece 60 = .ok (.iload 5, 2) := DX2_spreadPiece.2.2.2.2.2.2.2.2.2.2.2.2.2.2.2.2.2.2.2.2.2.2.2.2.2.2.2.2.2.2.2.2.2.2.2.1
theorem dX2_spreadPiece_62 : decode cX2_spreadPiece 62 = .ok (.ifCond .ne 70, 3) := DX2_spreadPiece.2.2.2.2.2.2.2.2.2.2.2.2.2.2.2.2.2.2.2.2.2.2.2.2.2.2.2.2.2.2.2.2.2.2.2.2.1
theorem dX2_spreadPiece_65 : decode cX2_spreadPiece 65 = .ok (.aload_n 0, 1) := DX2_spreadPiece.2.2.2.2.2.2.2.2.2.2.2.2.2.2.2.2.2.2.2.2.2.2.2.2.2.2.2.2.2.2.2.2.2.2.2.2.2.1
theorem dX2_spreadPiece_66 : decode cX2_spreadPiece 66 = .ok (.getfield 23, 3) := DX2_spreadPiece.2.2.2.2.2.2.2.2.2.2.2.2.2.2.2.2.2.2.2.2.2.2.2.2.2.2.2.2.2.2.2.2.2.2.2.2.2.2.1
theorem dX2_spreadPiece_69 : decode cX2_spreadPiece 69 = .ok (.iload 6, 2) := DX2_spreadPiece.2.2.2.2.2.2.2.2.2.2.2.2.2.2.2.2.2.2.2.2.2.2.2.2.2.2.2.2.2.2.2.2.2.2.2.2.2.2.2.1
theorem dX2_spreadPiece_71 : decode cX2_spreadPiece 71 = .ok (.iaload, 1) := DX2_spreadPiece.2.2.2.2.2.2.2.2.2.2.2.2.2.2.2.2.2.2.2.2.2.2.2.2.2.2.2.2.2.2.2.2.2.2.2.2.2.2.2.2.1
theorem dX2_spreadPiece_72 : decode cX2_spreadPiece 72 = .ok (.iload_n 2, 1) := DX2_spreadPiece.2.2.2.2.2.2.2.2.2.2.2.2.2.2.2.2.2.2.2.2.2.2.2.2.2.2.2.2.2.2.2.2.2.2.2.2.2.2.2.2.2.1
theorem dX2_spreadPiece_73 : decode cX2_spreadPiece 73 = .ok (.if_icmp .ne 63, 3) := DX2_spreadPiece.2.2.2.2.2.2.2.2.2.2.2.2.2.2.2.2.2.2.2.2.2.2.2.2.2.2.2.2.2.2.2.2.2.2.2.2.2.2.2.2.2.2.1
theorem dX2_spreadPiece_76 : decode cX2_spreadPiece 76 = .ok (.aload_n 0, 1) := DX2_spreadPiece.2.2.2.2.2.2.2.2.2.2.2.2.2.2.2.2.2.2.2.2.2.2.2.2.2.2.2.2.2.2.2.2.2.2.2.2.2.2.2.2.2.2.2.1
theorem dX2_spreadPiece_77 : decode cX2_spreadPiece 77 = .ok (.getfield 7, 3) := DX2_spreadPiece.2.2.2.2.2.2.2.2.2.2.2.2.2.2.2.2.2.2.2.2.2.2.2.2.2.2.2.2.2.2.2.2.2.2.2.2.2.2.2.2.2.2.2.2.1
theorem dX2_spreadPiece_80 : decode cX2_spreadPiece 80 = .ok (.iload 6, 2) := DX2_spreadPiece.2.2.2.2.2.2.2.2.2.2.2.2.2.2.2.2.2.2.2.2.2.2.2.2.2.2.2.2.2.2.2.2.2.2.2.2.2.2.2.2.2.2.2.2.2.1
theorem dX2_spreadPiece_82 : decode cX2_spreadPiece 82 = .ok (.iconst 2, 1) := DX2_spreadPiece.2.2.2.2.2.2.2.2.2.2.2.2.2.2.2.2.2.2.2.2.2.2.2.2.2.2.2.2.2.2.2.2.2.2.2.2.2.2.2.2.2.2.2.2.2.2.1
theorem dX2_spreadPiece_83 : decode cX2_spreadPiece 83 = .ok (.idiv, 1) := DX2_spreadPiece.2.2.2.2.2.2.2.2.2.2.2.2.2.2.2.2.2.2.2.2.2.2.2.2.2.2.2.2.2.2.2.2.2.2.2.2.2.2.2.2.2.2.2.2.2.2.2.1
theorem dX2_spreadPiece_84 : decode cX2_spreadPiece 84 = .ok (.baload, 1) := DX2_spreadPiece.2.2.2.2.2.2.2.2.2.2.2.2.2.2.2.2.2.2.2.2.2.2.2.2.2.2.2.2.2.2.2.2.2.2.2.2.2.2.2.2.2.2.2.2.2.2.2.2.1
theorem dX2_spreadPiece_85 : decode cX2_spreadPiece 85 = .ok (.ifCond .eq 51, 3) := DX2_spreadPiece.2.2.2.2.2.2.2.2.2.2.2.2.2.2.2.2.2.2.2.2.2.2.2.2.2.2.2.2.2.2.2.2.2.2.2.2.2.2.2.2.2.2.2.2.2.2.2.2.2.1
theorem dX2_spreadPiece_88 : decode cX2_spreadPiece 88 = .ok (.aload_n 0, 1) := DX2_spreadPiece.2.2.2.2.2.2.2.2.2.2.2.2.2.2.2.2.2.2.2.2.2.2.2.2.2.2.2.2.2.2.2.2.2.2.2.2.2.2.2.2.2.2.2.2.2.2.2.2.2.2.1
theorem dX2_spreadPiece_89 : decode cX2_spreadPiece 89 = .ok (.getfield 13, 3) := DX2_spreadPiece.2.2.2.2.2.2.2.2.2.2.2.2.2.2.2.2.2.2.2.2.2.2.2.2.2.2.2.2.2.2.2.2.2.2.2.2.2.2.2.2.2.2.2.2.2.2.2.2.2.2.2.1
theorem dX2_spreadPiece_92 : decode cX2_spreadPiece 92 = .ok (.iload 6, 2) := DX2_spreadPiece.2.2.2.2.2.2.2.2.2.2.2.2.2.2.2.2.2.2.2.2.2.2.2.2.2.2.2.2.2.2.2.2.2.2.2.2.2.2.2.2.2.2.2.2.2.2.2.2.2.2.2.2.1
theorem dX2_spreadPiece_94 : decode cX2_spreadPiece 94 = .ok (.iaload, 1) := DX2_spreadPiece.2.2.2.2.2.2.2.2.2.2.2.2.2.2.2.2.2.2.2.2.2.2.2.2.2.2.2.2.2.2.2.2.2.2.2.2.2.2.2.2.2.2.2.2.2.2.2.2.2.2.2.2.2.1
theorem dX2_spreadPiece_95 : decode cX2_spreadPiece 95 = .ok (.aload_n 0, 1) := DX2_spreadPiece.2.2.2.2.2.2.2.2.2.2.2.2.2.2.2.2.2.2.2.2.2.2.2.2.2.2.2.2.2.2.2.2.2.2.2.2.2.2.2.2.2.2.2.2.2.2.2.2.2.2.2.2.2.2.1
theorem dX2_spreadPiece_96 : decode cX2_spreadPiece 96 = .ok (.getfield 13, 3) := DX2_spreadPiece.2.2.2.2.2.2.2.2.2.2.2.2.2.2.2.2.2.2.2.2.2.2.2.2.2.2.2.2.2.2.2.2.2.2.2.2.2.2.2.2.2.2.2.2.2.2.2.2.2.2.2.2.2.2.2.1
theorem dX2_spreadPiece_99 : decode cX2_spreadPiece 99 = .ok (.iload 4, 2) := DX2_spreadPiece.2.2.2.2.2.2.2.2.2.2.2.2.2.2.2.2.2.2.2.2.2.2.2.2.2.2.2.2.2.2.2.2.2.2.2.2.2.2.2.2.2.2.2.2.2.2.2.2.2.2.2.2.2.2.2.2.1
theorem dX2_spreadPiece_101 : decode cX2_spreadPiece 101 = .ok (.iaload, 1) := DX2_spreadPiece.2.2.2.2.2.2.2.2.2.2.2.2.2.2.2.2.2.2.2.2.2.2.2.2.2.2.2.2.2.2.2.2.2.2.2.2.2.2.2.2.2.2.2.2.2.2.2.2.2.2.2.2.2.2.2.2.2.1
theorem dX2_spreadPiece_102 : decode cX2_spreadPiece 102 = .ok (.if_icmp .ne 20, 3) := DX2_spreadPiece.2.2.2.2.2.2.2.2.2.2.2.2.2.2.2.2.2.2.2.2.2.2.2.2.2.2.2.2.2.2.2.2.2.2.2.2.2.2.2.2.2.2.2.2.2.2.2.2.2.2.2.2.2.2.2.2.2.2.1
theorem dX2_spreadPiece_105 : decode cX2_spreadPiece 105 = .ok (.aload_n 0, 1) := DX2_spreadPiece.2.2.2.2.2.2.2.2.2.2.2.2.2.2.2.2.2.2.2.2.2.2.2.2.2.2.2.2.2.2.2.2.2.2.2.2.2.2.2.2.2.2.2.2.2.2.2.2.2.2.2.2.2.2.2.2.2.2.2.1
theorem dX2_spreadPiece_106 : decode cX2_spreadPiece 106 = .ok (.getfield 17, 3) := DX2_spreadPiece.2.2.2.2.2.2.2.2.2.2.2.2.2.2.2.2.2.2.2.2.2.2.2.2.2.2.2.2.2.2.2.2.2.2.2.2.2.2.2.2.2.2.2.2.2.2.2.2.2.2.2.2.2.2.2.2.2.2.2.2.1
theorem dX2_spreadPiece_109 : decode cX2_spreadPiece 109 = .ok (.iload 6, 2) := DX2_spreadPiece.2.2.2.2.2.2.2.2.2.2.2.2.2.2.2.2.2.2.2.2.2.2.2.2.2.2.2.2.2.2.2.2.2.2.2.2.2.2.2.2.2.2.2.2.2.2.2.2.2.2.2.2.2.2.2.2.2.2.2.2.2.1
theorem dX2_spreadPiece_111 : decode cX2_spreadPiece 111 = .ok (.iaload, 1) := DX2_spreadPiece.2.2.2.2.2.2.2.2.2.2.2.2.2.2.2.2.2.2.2.2.2.2.2.2.2.2.2.2.2.2.2.2.2.2.2.2.2.2.2.2.2.2.2.2.2.2.2.2.2.2.2.2.2.2.2.2.2.2.2.2.2.2.1
theorem dX2_spreadPiece_112 : decode cX2_spreadPiece 112 = .ok (.aload_n 0, 1) := DX2_spreadPiece.2.2.2.2.2.2.2.2.2.2.2.2.2.2.2.2.2.2.2.2.2.2.2.2.2.2.2.2.2.2.2.2.2.2.2.2.2.2.2.2.2.2.2.2.2.2.2.2.2.2.2.2.2.2.2.2.2.2.2.2.2.2.2.1
theorem dX2_spreadPiece_113 : decode cX2_spreadPiece 113 = .ok (.getfield 17, 3) := DX2_spreadPiece.2.2.2.2.2.2.2.2.2.2.2.2.2.2.2.2.2.2.2.2.2.2.2.2.2.2.2.2.2.2.2.2.2.2.2.2.2.2.2.2.2.2.2.2.2.2.2.2.2.2.2.2.2.2.2.2.2.2.2.2.2.2.2.2.1
theorem dX2_spreadPiece_116 : decode cX2_spreadPiece 116 = .ok (.iload 4, 2) := DX2_spreadPiece.2.2.2.2.2.2.2.2.2.2.2.2.2.2.2.2.2.2.2.2.2.2.2.2.2.2.2.2.2.2.2.2.2.2.2.2.2.2.2.2.2.2.2.2.2.2.2.2.2.2.2.2.2.2.2.2.2.2.2.2.2.2.2.2.2.1
theorem dX2_spreadPiece_118 : decode cX2_spreadPiece 118 = .ok (.iaload, 1) := DX2_spreadPiece.2.2.2.2.2.2.2.2.2.2.2.2.2.2.2.2.2.2.2.2.2.2.2.2.2.2.2.2.2.2.2.2.2.2.2.2.2.2.2.2.2.2.2.2.2.2.2.2.2.2.2.2.2.2.2.2.2.2.2.2.2.2.2.2.2.2.1
theorem dX2_spreadPiece_119 : decode cX2_spreadPiece 119 = .ok (.if_icmp .eq 13, 3) := DX2_spreadPiece.2.2.2.2.2.2.2.2.2.2.2.2.2.2.2.2.2.2.2.2.2.2.2.2.2.2.2.2.2.2.2.2.2.2.2.2.2.2.2.2.2.2.2.2.2.2.2.2.2.2.2.2.2.2.2.2.2.2.2.2.2.2.2.2.2.2.2.1
theorem dX2_spreadPiece_122 : decode cX2_spreadPiece 122 = .ok (.iload 6, 2) := DX2_spreadPiece.2.2.2.2.2.2.2.2.2.2.2.2.2.2.2.2.2.2.2.2.2.2.2.2.2.2.2.2.2.2.2.2.2.2.2.2.2.2.2.2.2.2.2.2.2.2.2.2.2.2.2.2.2.2.2.2.2.2.2.2.2.2.2.2.2.2.2.2.1
theorem dX2_spreadPiece_124 : decode cX2_spreadPiece 124 = .ok (.iload 4, 2) := DX2_spreadPiece.2.2.2.2.2.2.2.2.2.2.2.2.2.2.2.2.2.2.2.2.2.2.2.2.2.2.2.2.2.2.2.2.2.2.2.2.2.2.2.2.2.2.2.2.2.2.2.2.2.2.2.2.2.2.2.2.2.2.2.2.2.2.2.2.2.2.2.2.2.1
theorem dX2_spreadPiece_126 : decode cX2_spreadPiece 126 = .ok (.invokestatic 80, 3) := DX2_spreadPiece.2.2.2.2.2.2.2.2.2.2.2.2.2.2.2.2.2.2.2.2.2.2.2.2.2.2.2.2.2.2.2.2.2.2.2.2.2.2.2.2.2.2.2.2.2.2.2.2.2.2.2.2.2.2.2.2.2.2.2.2.2.2.2.2.2.2.2.2.2.2.1
theorem dX2_spreadPiece_129 : decode cX2_spreadPiece 129 = .ok (.if_icmp .ne 7, 3) := DX2_spreadPiece.2.2.2.2.2.2.2.2.2.2.2.2.2.2.2.2.2.2.2.2.2.2.2.2.2.2.2.2.2.2.2.2.2.2.2.2.2.2.2.2.2.2.2.2.2.2.2.2.2.2.2.2.2.2.2.2.2.2.2.2.2.2.2.2.2.2.2.2.2.2.2.1
theorem dX2_spreadPiece_132 : decode cX2_spreadPiece 132 = .ok (.iconst 1, 1) := DX2_spreadPiece.2.2.2.2.2.2.2.2.2.2.2.2.2.2.2.2.2.2.2.2.2.2.2.2.2.2.2.2.2.2.2.2.2.2.2.2.2.2.2.2.2.2.2.2.2.2.2.2.2.2.2.2.2.2.2.2.2.2.2.2.2.2.2.2.2.2.2.2.2.2.2.2.1
theorem dX2_spreadPiece_133 : decode cX2_spreadPiece 133 = .ok (.goto 4, 3) := DX2_spreadPiece.2.2.2.2.2.2.2.2.2.2.2.2.2.2.2.2.2.2.2.2.2.2.2.2.2.2.2.2.2.2.2.2.2.2.2.2.2.2.2.2.2.2.2.2.2.2.2.2.2.2.2.2.2.2.2.2.2.2.2.2.2.2.2.2.2.2.2.2.2.2.2.2.2.1
theorem dX2_spreadPiece_136 : decode cX2_spreadPiece 136 = .ok (.iconst 0, 1) := DX2_spreadPiece.2.2.2.2.2.2.2.2.2.2.2.2.2.2.2.2.2.2.2.2.2.2.2.2.2.2.2.2.2.2.2.2.2.2.2.2.2.2.2.2.2.2.2.2.2.2.2.2.2.2.2.2.2.2.2.2.2.2.2.2.2.2.2.2.2.2.2.2.2.2.2.2.2.2.1
theorem dX2_spreadPiece_137 : decode cX2_spreadPiece 137 = .ok (.istore 5, 2) := DX2_spreadPiece.2.2.2.2.2.2.2.2.2.2.2.2.2.2.2.2.2.2.2.2.2.2.2.2.2.2.2.2.2.2.2.2.2.2.2.2.2.2.2.2.2.2.2.2.2.2.2.2.2.2.2.2.2.2.2.2.2.2.2.2.2.2.2.2.2.2.2.2.2.2.2.2.2.2.2.1
theorem dX2_spreadPiece_139 : decode cX2_spreadPiece 139 = .ok (.iinc 6 1, 3) := DX2_spreadPiece.2.2.2.2.2.2.2.2.2.2.2.2.2.2.2.2.2.2.2.2.2.2.2.2.2.2.2.2.2.2.2.2.2.2.2.2.2.2.2.2.2.2.2.2.2.2.2.2.2.2.2.2.2.2.2.2.2.2.2.2.2.2.2.2.2.2.2.2.2.2.2.2.2.2.2.2.1
theorem dX2_spreadPiece_142 : decode cX2_spreadPiece 142 = .ok (.goto (-111), 3) := DX2_spreadPiece.2.2.2.2.2.2.2.2.2.2.2.2.2.2.2.2.2.2.2.2.2.2.2.2.2.2.2.2.2.2.2.2.2.2.2.2.2.2.2.2.2.2.2.2.2.2.2.2.2.2.2.2.2.2.2.2.2.2.2.2.2.2.2.2.2.2.2.2.2.2.2.2.2.2.2.2.2.1
theorem dX2_spreadPiece_145 : decode cX2_spreadPiece 145 = .ok (.iload 5, 2) := DX2_spreadPiece.2.2.2.2.2.2.2.2.2.2.2.2.2.2.2.2.2.2.2.2.2.2.2.2.2.2.2.2.2.2.2.2.2.2.2.2.2.2.2.2.2.2.2.2.2.2.2.2.2.2.2.2.2.2.2.2.2.2.2.2.2.2.2.2.2.2.2.2.2.2.2.2.2.2.2.2.2.2.1
theorem dX2_spreadPiece_147 : decode cX2_spreadPiece 147 = .ok (.ifCond .eq 13, 3) := DX2_spreadPiece.2.2.2.2.2.2.2.2.2.2.2.2.2.2.2.2.2.2.2.2.2.2.2.2.2.2.2.2.2.2.2.2.2.2.2.2.2.2.2.2.2.2.2.2.2.2.2.2.2.2.2.2.2.2.2.2.2.2.2.2.2.2.2.2.2.2.2.2.2.2.2.2.2.2.2.2.2.2.2.1
theorem dX2_spreadPiece_150 : decode cX2_spreadPiece 150 = .ok (.aload_n 0, 1) := DX2_spreadPiece.2.2.2.2.2.2.2.2.2.2.2.2.2.2.2.2.2.2.2.2.2.2.2.2.2.2.2.2.2.2.2.2.2.2.2.2.2.2.2.2.2.2.2.2.2.2.2.2.2.2.2.2.2.2.2.2.2.2.2.2.2.2.2.2.2.2.2.2.2.2.2.2.2.2.2.2.2.2.2.2.1
theorem dX2_spreadPiece_151 : decode cX2_spreadPiece 151 = .ok (.getfield 23, 3) := DX2_spreadPiece.2.2.2.2.2.2.2.2.2.2.2.2.2.2.2.2.2.2.2.2.2.2.2.2.2.2.2.2.2.2.2.2.2.2.2.2.2.2.2.2.2.2.2.2.2.2.2.2.2.2.2.2.2.2.2.2.2.2.2.2.2.2.2.2.2.2.2.2.2.2.2.2.2.2.2.2.2.2.2.2.2.1
theorem dX2_spreadPiece_154 : decode cX2_spreadPiece 154 = .ok (.iload 4, 2) := DX2_spreadPiece.2.2.2.2.2.2.2.2.2.2.2.2.2.2.2.2.2.2.2.2.2.2.2.2.2.2.2.2.2.2.2.2.2.2.2.2.2.2.2.2.2.2.2.2.2.2.2.2.2.2.2.2.2.2.2.2.2.2.2.2.2.2.2.2.2.2.2.2.2.2.2.2.2.2.2.2.2.2.2.2.2.2.1
theorem dX2_spreadPiece_156 : decode cX2_spreadPiece 156 = .ok (.iload_n 2, 1) := DX2_spreadPiece.2.2.2.2.2.2.2.2.2.2.2.2.2.2.2.2.2.2.2.2.2.2.2.2.2.2.2.2.2.2.2.2.2.2.2.2.2.2.2.2.2.2.2.2.2.2.2.2.2.2.2.2.2.2.2.2.2.2.2.2.2.2.2.2.2.2.2.2.2.2.2.2.2.2.2.2.2.2.2.2.2.2.2.1
theorem dX2_spreadPiece_157 : decode cX2_spreadPiece 157 = .ok (.iastore, 1) := DX2_spreadPiece.2.2.2.2.2.2.2.2.2.2.2.2.2.2.2.2.2.2.2.2.2.2.2.2.2.2.2.2.2.2.2.2.2.2.2.2.2.2.2.2.2.2.2.2.2.2.2.2.2.2.2.2.2.2.2.2.2.2.2.2.2.2.2.2.2.2.2.2.2.2.2.2.2.2.2.2.2.2.2.2.2.2.2.2.1
theorem dX2_spreadPiece_158 : decode cX2_spreadPiece 158 = .ok (.iconst 1, 1) := DX2_spreadPiece.2.2.2.2.2.2.2.2.2.2.2.2.2.2.2.2.2.2.2.2.2.2.2.2.2.2.2.2.2.2.2.2.2.2.2.2.2.2.2.2.2.2.2.2.2.2.2.2.2.2.2.2.2.2.2.2.2.2.2.2.2.2.2.2.2.2.2.2.2.2.2.2.2.2.2.2.2.2.2.2.2.2.2.2.2.1
theorem dX2_spreadPiece_159 : decode cX2_spreadPiece 159 = .ok (.istore_n 3, 1) := DX2_spreadPiece.2.2.2.2.2.2.2.2.2.2.2.2.2.2.2.2.2.2.2.2.2.2.2.2.2.2.2.2.2.2.2.2.2.2.2.2.2.2.2.2.2.2.2.2.2.2.2.2.2.2.2.2.2.2.2.2.2.2.2.2.2.2.2.2.2.2.2.2.2.2.2.2.2.2.2.2.2.2.2.2.2.2.2.2.2.2.1
theorem dX2_spreadPiece_160 : decode cX2_spreadPiece 160 = .ok (.iinc 4 1, 3) := DX2_spreadPiece.2.2.2.2.2.2.2.2.2.2.2.2.2.2.2.2.2.2.2.2.2.2.2.2.2.2.2.2.2.2.2.2.2.2.2.2.2.2.2.2.2.2.2.2.2.2.2.2.2.2.2.2.2.2.2.2.2.2.2.2.2.2.2.2.2.2.2.2.2.2.2.2.2.2.2.2.2.2.2.2.2.2.2.2.2.2.2.1
theorem dX2_spreadPiece_163 : decode cX2_spreadPiece 163 = .ok (.goto (-145), 3) := DX2_spreadPiece.2.2.2.2.2.2.2.2.2.2.2.2.2.2.2.2.2.2.2.2.2.2.2.2.2.2.2.2.2.2.2.2.2.2.2.2.2.2.2.2.2.2.2.2.2.2.2.2.2.2.2.2.2.2.2.2.2.2.2.2.2.2.2.2.2.2.2.2.2.2.2.2.2.2.2.2.2.2.2.2.2.2.2.2.2.2.2.2.1
theorem dX2_spreadPiece_166 : decode cX2_spreadPiece 166 = .ok (.goto (-157), 3) := DX2_spreadPiece.2.2.2.2.2.2.2.2.2.2.2.2.2.2.2.2.2.2.2.2.2.2.2.2.2.2.2.2.2.2.2.2.2.2.2.2.2.2.2.2.2.2.2.2.2.2.2.2.2.2.2.2.2.2.2.2.2.2.2.2.2.2.2.2.2.2.2.2.2.2.2.2.2.2.2.2.2.2.2.2.2.2.2.2.2.2.2.2.2.1
theorem dX2_spreadPiece_169 : decode cX2_spreadPiece 169 = .ok (.return_, 1) := DX2_spreadPiece.2.2.2.2.2.2.2.2.2.2.2.2.2.2.2.2.2.2.2.2.2.2.2.2.2.2.2.2.2.2.2.2.2.2.2.2.2.2.2.2.2.2.2.2.2.2.2.2.2.2.2.2.2.2.2.2.2.2.2.2.2.2.2.2.2.2.2.2.2.2.2.2.2.2.2.2.2.2.2.2.2.2.2.2.2.2.2.2.2.2
theorem dX2_makeRound_0 : decode cX2_makeRound 0 = .ok (.aload_n 0, 1) := DX2_makeRound.1
theorem dX2_makeRound_1 : decode cX2_makeRound 1 = .ok (.getfield 29, 3) := DX2_makeRound.2.1
theorem dX2_makeRound_4 : decode cX2_makeRound 4 = .ok (.aload_n 0, 1) := DX2_makeRound.2.2.1
theorem dX2_makeRound_5 : decode cX2_makeRound 5 = .ok (.getfield 95, 3) := DX2_makeRound.2.2.2.1
theorem dX2_makeRound_8 : decode cX2_makeRound 8 = .ok (.iload_n 1, 1) := DX2_makeRound.2.2.2.2.1
theorem dX2_makeRound_9 : decode cX2_makeRound 9 = .ok (.iastore, 1) := DX2_makeRound.2.2.2.2.2.1
theorem dX2_makeRound_10 : decode cX2_makeRound 10 = .ok (.aload_n 0, 1) := DX2_makeRound.2.2.2.2.2.2.1
theorem dX2_makeRound_11 : decode cX2_makeRound 11 = .ok (.getfield 32, 3) := DX2_makeRound.2.2.2.2.2.2.2.1
theorem dX2_makeRound_14 : decode cX2_makeRound 14 = .ok (.aload_n 0, 1) := DX2_makeRound.2.2.2.2.2.2.2.2.1
theorem dX2_makeRound_15 : decode cX2_makeRound 15 = .ok (.getfield 95, 3) := DX2_makeRound.2.2.2.2.2.2.2.2.2.1
theorem dX2_makeRound_18 : decode cX2_makeRound 18 = .ok (.lconst 0, 1) := DX2_makeRound.2.2.2.2.2.2.2.2.2.2.1
theorem dX2_makeRound_19 : decode cX2_makeRound 19 = .ok (.lastore, 1) := DX2_makeRound.2.2.2.2.2.2.2.2.2.2.2.1
theorem dX2_makeRound_20 : decode cX2_makeRound 20 = .ok (.iload_n 1, 1) := DX2_makeRound.2.2.2.2.2.2.2.2.2.2.2.2.1
theorem dX2_makeRound_21 : decode cX2_makeRound 21 = .ok (.istore_n 2, 1) := DX2_makeRound.2.2.2.2.2.2.2.2.2.2.2.2.2.1
theorem dX2_makeRound_22 : decode cX2_makeRound 22 = .ok (.iconst 1, 1) := DX2_makeRound.2.2.2.2.2.2.2.2.2.2.2.2.2.2.1
theorem dX2_makeRound_23 : decode cX2_makeRound 23 = .ok (.istore_n 3, 1) := DX2_makeRound.2.2.2.2.2.2.2.2.2.2.2.2.2.2.2.1
theorem dX2_makeRound_24 : decode cX2_makeRound 24 = .ok (.iload_n 3, 1) := DX2_makeRound.2.2.2.2.2.2.2.2.2.2.2.2.2.2.2.2.1
theorem dX2_makeRound_25 : decode cX2_makeRound 25 = .ok (.ifCond .eq 90, 3) := DX2_makeRound.2.2.2.2.2.2.2.2.2.2.2.2.2.2.2.2.2.1
theorem dX2_makeRound_28 : decode cX2_makeRound 28 = .ok (.aload_n 0, 1) := DX2_makeRound.2.2.2.2.2.2.2.2.2.2.2.2.2.2.2.2.2.2.1
theorem dX2_makeRound_29 : decode cX2_makeRound 29 = .ok (.getfield 26, 3) := DX2_makeRound.2.2.2.2.2.2.2.2.2.2.2.2.2.2.2.2.2.2.2.1
theorem dX2_makeRound_32 : decode cX2_makeRound 32 = .ok (.iload_n 2, 1) := DX2_makeRound.2.2.2.2.2.2.2.2.2.2.2.2.2.2.2.2.2.2.2.2.1
theorem dX2_makeRound_33 : decode cX2_makeRound 33 = .ok (.aload_n 0, 1) := DX2_makeRound.2.2.2.2.2.2.2.2.2.2.2.2.2.2.2.2.2.2.2.2.2.1
theorem dX2_makeRound_34 : decode cX2_makeRound 34 = .ok (.getfield 95, 3) := DX2_makeRound.2.2.2.2.2.2.2.2.2.2.2.2.2.2.2.2.2.2.2.2.2.2.1
theorem dX2_makeRound_37 : decode cX2_makeRound 37 = .ok (.iastore, 1) := DX2_makeRound.2.2.2.2.2.2.2.2.2.2.2.2.2.2.2.2.2.2.2.2.2.2.2.1
theorem dX2_makeRound_38 : decode cX2_makeRound 38 = .ok (.aload_n 0, 1) := DX2_makeRound.2.2.2.2.2.2.2.2.2.2.2.2.2.2.2.2.2.2.2.2.2.2.2.2.1
theorem dX2_makeRound_39 : decode cX2_makeRound 39 = .ok (.getfield 32, 3) := DX2_makeRound.2.2.2.2.2.2.2.2.2.2.2.2.2.2.2.2.2.2.2.2.2.2.2.2.2.1
theorem dX2_makeRound_42 : decode cX2_makeRound 42 = .ok (.aload_n 0, 1) := DX2_makeRound.2.2.2.2.2.2.2.2.2.2.2.2.2.2.2.2.2.2.2.2.2.2.2.2.2.2.1
theorem dX2_makeRound_43 : decode cX2_makeRound 43 = .ok (.getfield 95, 3) := DX2_makeRound.2.2.2.2.2.2.2.2.2.2.2.2.2.2.2.2.2.2.2.2.2.2.2.2.2.2.2.1
theorem dX2_makeRound_46 : decode cX2_makeRound 46 = .ok (.aload_n 0, 1) := DX2_makeRound.2.2.2.2.2.2.2.2.2.2.2.2.2.2.2.2.2.2.2.2.2.2.2.2.2.2.2.2.1
theorem dX2_makeRound_47 : decode cX2_makeRound 47 = .ok (.getfield 32, 3) := DX2_makeRound.2.2.2.2.2.2.2.2.2.2.2.2.2.2.2.2.2.2.2.2.2.2.2.2.2.2.2.2.2.1
theorem dX2_makeRound_50 : decode cX2_makeRound 50 = .ok (.aload_n 0, 1) := DX2_makeRound.2.2.2.2.2.2.2.2.2.2.2.2.2.2.2.2.2.2.2.2.2.2.2.2.2.2.2.2.2.2.1
theorem dX2_makeRound_51 : decode cX2_makeRound 51 = .ok (.getfield 95, 3) := DX2_makeRound.2.2.2.2.2.2.2.2.2.2.2.2.2.2.2.2.2.2.2.2.2.2.2.2.2.2.2.2.2.2.2.1
theorem dX2_makeRound_54 : decode cX2_makeRound 54 = .ok (.laload, 1) := DX2_makeRound.2.2.2.2.2.2.2.2.2.2.2.2.2.2.2.2.2.2.2.2.2.2.2.2.2.2.2.2.2.2.2.2.1
theorem dX2_makeRound_55 : decode cX2_makeRound 55 = .ok (.aload_n 0, 1) := DX2_makeRound.2.2.2.2.2.2.2.2.2.2.2.2.2.2.2.2.2.2.2.2.2.2.2.2.2.2.2.2.2.2.2.2.2.1
theorem dX2_makeRound_56 : decode cX2_makeRound 56 = .ok (.getfield 13, 3) := DX2_makeRound.2.2.2.2.2.2.2.2.2.2.2.2.2.2.2.2.2.2.2.2.2.2.2.2.2.2.2.2.2.2.2.2.2.2.1
theorem dX2_makeRound_59 : decode cX2_makeRound 59 = .ok (.iload_n 2, 1) := DX2_makeRound.2.2.2.2.2.2.2.2.2.2.2.2.2.2.2.2.2.2.2.2.2.2.2.2.2.2.2.2.2.2.2.2.2.2.2.1
theorem dX2_makeRound_60 : decode cX2_makeRound 60 = .ok (.iaload, 1) := DX2_makeRound.2.2.2.2.2.2.2.2.2.2.2.2.2.2.2.2.2.2.2.2.2.2.2.2.2.2.2.2.2.2.2.2.2.2.2.2.1
theorem dX2_makeRound_61 : decode cX2_makeRound 61 = .ok (.i2l, 1) := DX2_makeRound.2.2.2.2.2.2.2.2.2.2.2.2.2.2.2.2.2.2.2.2.2.2.2.2.2.2.2.2.2.2.2.2.2.2.2.2.2.1
theorem dX2_makeRound_62 : decode cX2_makeRound 62 = .ok (.aload_n 0, 1) := DX2_makeRound.2.2.2.2.2.2.2.2.2.2.2.2.2.2.2.2.2.2.2.2.2.2.2.2.2.2.2.2.2.2.2.2.2.2.2.2.2.2.1
theorem dX2_makeRound_63 : decode cX2_makeRound 63 = .ok (.getfield 17, 3) := DX2_makeRound.2.2.2.2.2.2.2.2.2.2.2.2.2.2.2.2.2.2.2.2.2.2.2.2.2.2.2.2.2.2.2.2.2.2.2.2.2.2.2.1
theorem dX2_makeRound_66 : decode cX2_makeRound 66 = .ok (.iload_n 2, 1) := DX2_makeRound.2.2.2.2.2.2.2.2.2.2.2.2.2.2.2.2.2.2.2.2.2.2.2.2.2.2.2.2.2.2.2.2.2.2.2.2.2.2.2.2.1
theorem dX2_makeRound_67 : decode cX2_makeRound 67 = .ok (.invokestatic 80, 3) := DX2_makeRound.2.2.2.2.2.2.2.2.2.2.2.2.2.2.2.2.2.2.2.2.2.2.2.2.2.2.2.2.2.2.2.2.2.2.2.2.2.2.2.2.2.1
theorem dX2_makeRound_70 : decode cX2_makeRound 70 = .ok (.iaload, 1) := DX2_makeRound.2.2.2.2.2.2.2.2.2.2.2.2.2.2.2.2.2.2.2.2.2.2.2.2.2.2.2.2.2.2.2.2.2.2.2.2.2.2.2.2.2.2.1
theorem dX2_makeRound_71 : decode cX2_makeRound 71 = .ok (.i2l, 1) := DX2_makeRound.2.2.2.2.2.2.2.2.2.2.2.2.2.2.2.2.2.2.2.2.2.2.2.2.2.2.2.2.2.2.2.2.2.2.2.2.2.2.2.2.2.2.2.1
theorem dX2_makeRound_72 : decode cX2_makeRound 72 = .ok (.lmul, 1) := DX2_makeRound.2.2.2.2.2.2.2.2.2.2.2.2.2.2.2.2.2.2.2.2.2.2.2.2.2.2.2.2.2.2.2.2.2.2.2.2.2.2.2.2.2.2.2.2.1
theorem dX2_makeRound_73 : decode cX2_makeRound 73 = .ok (.ladd, 1) := DX2_makeRound.2.2.2.2.2.2.2.2.2.2.2.2.2.2.2.2.2.2.2.2.2.2.2.2.2.2.2.2.2.2.2.2.2.2.2.2.2.2.2.2.2.2.2.2.2.1
theorem dX2_makeRound_74 : decode cX2_makeRound 74 = .ok (.aload_n 0, 1) := DX2_makeRound.2.2.2.2.2.2.2.2.2.2.2.2.2.2.2.2.2.2.2.2.2.2.2.2.2.2.2.2.2.2.2.2.2.2.2.2.2.2.2.2.2.2.2.2.2.2.1
theorem dX2_makeRound_75 : decode cX2_makeRound 75 = .ok (.getfield 13, 3) := DX2_makeRound.2.2.2.2.2.2.2.2.2.2.2.2.2.2.2.2.2.2.2.2.2.2.2.2.2.2.2.2.2.2.2.2.2.2.2.2.2.2.2.2.2.2.2.2.2.2.2.1
theorem dX2_makeRound_78 : decode cX2_makeRound 78 = .ok (.iload_n 2, 1) := DX2_makeRound.2.2.2.2.2.2.2.2.2.2.2.2.2.2.2.2.2.2.2.2.2.2.2.2.2.2.2.2.2.2.2.2.2.2.2.2.2.2.2.2.2.2.2.2.2.2.2.2.1
theorem dX2_makeRound_79 : decode cX2_makeRound 79 = .ok (.invokestatic 80, 3) := DX2_makeRound.2.2.2.2.2.2.2.2.2.2.2.2.2.2.2.2.2.2.2.2.2.2.2.2.2.2.2.2.2.2.2.2.2.2.2.2.2.2.2.2.2.2.2.2.2.2.2.2.2.1
theorem dX2_makeRound_82 : decode cX2_makeRound 82 = .ok (.iaload, 1) := DX2_makeRound.2.2.2.2.2.2.2.2.2.2.2.2.2.2.2.2.2.2.2.2.2.2.2.2.2.2.2.2.2.2.2.2.2.2.2.2.2.2.2.2.2.2.2.2.2.2.2.2.2.2.1
theorem dX2_makeRound_83 : decode cX2_makeRound 83 = .ok (.i2l, 1) := DX2_makeRound.2.2.2.2.2.2.2.2.2.2.2.2.2.2.2.2.2.2.2.2.2.2.2.2.2.2.2.2.2.2.2.2.2.2.2.2.2.2.2.2.2.2.2.2.2.2.2.2.2.2.2.1
theorem dX2_makeRound_84 : decode cX2_makeRound 84 = .ok (.aload_n 0, 1) := DX2_makeRound.2.2.2.2.2.2.2.2.2.2.2.2.2.2.2.2.2.2.2.2.2.2.2.2.2.2.2.2.2.2.2.2.2.2.2.2.2.2.2.2.2.2.2.2.2.2.2.2.2.2.2.2.1
theorem dX2_makeRound_85 : decode cX2_makeRound 85 = .ok (.getfield 17, 3) := DX2_makeRound.2.2.2.2.2.2.2.2.2.2.2.2.2.2.2.2.2.2.2.2.2.2.2.2.2.2.2.2.2.2.2.2.2.2.2.2.2.2.2.2.2.2.2.2.2.2.2.2.2.2.2.2.2.1
theorem dX2_makeRound_88 : decode cX2_makeRound 88 = .ok (.iload_n 2, 1) := DX2_makeRound.2.2.2.2.2.2.2.2.2.2.2.2.2.2.2.2.2.2.2.2.2.2.2.2.2.2.2.2.2.2.2.2.2.2.2.2.2.2.2.2.2.2.2.2.2.2.2.2.2.2.2.2.2.2.1
theorem dX2_makeRound_89 : decode cX2_makeRound 89 = .ok (.iaload, 1) := DX2_makeRound.2.2.2.2.2.2.2.2.2.2.2.2.2.2.2.2.2.2.2.2.2.2.2.2.2.2.2.2.2.2.2.2.2.2.2.2.2.2.2.2.2.2.2.2.2.2.2.2.2.2.2.2.2.2.2.1
theorem dX2_makeRound_90 : decode cX2_makeRound 90 = .ok (.i2l, 1) := DX2_makeRound.2.2.2.2.2.2.2.2.2.2.2.2.2.2.2.2.2.2.2.2.2.2.2.2.2.2.2.2.2.2.2.2.2.2.2.2.2.2.2.2.2.2.2.2.2.2.2.2.2.2.2.2.2.2.2.2.1
theorem dX2_makeRound_91 : decode cX2_makeRound 91 = .ok (.lmul, 1) := DX2_makeRound.2.2.2.2.2.2.2.2.2.2.2.2.2.2.2.2.2.2.2.2.2.2.2.2.2.2.2.2.2.2.2.2.2.2.2.2.2.2.2.2.2.2.2.2.2.2.2.2.2.2.2.2.2.2.2.2.2.1
theorem dX2_makeRound_92 : decode cX2_makeRound 92 = .ok (.lsub, 1) := DX2_makeRound.2.2.2.2.2.2.2.2.2.2.2.2.2.2.2.2.2.2.2.2.2.2.2.2.2.2.2.2.2.2.2.2.2.2.2.2.2.2.2.2.2.2.2.2.2.2.2.2.2.2.2.2.2.2.2.2.2.2.1
theorem dX2_makeRound_93 : decode cX2_makeRound 93 = .ok (.lastore, 1) := DX2_makeRound.2.2.2.2.2.2.2.2.2.2.2.2.2.2.2.2.2.2.2.2.2.2.2.2.2.2.2.2.2.2.2.2.2.2.2.2.2.2.2.2.2.2.2.2.2.2.2.2.2.2.2.2.2.2.2.2.2.2.2.1
theorem dX2_makeRound_94 : decode cX2_makeRound 94 = .ok (.aload_n 0, 1) := DX2_makeRound.2.2.2.2.2.2.2.2.2.2.2.2.2.2.2.2.2.2.2.2.2.2.2.2.2.2.2.2.2.2.2.2.2.2.2.2.2.2.2.2.2.2.2.2.2.2.2.2.2.2.2.2.2.2.2.2.2.2.2.2.1
theorem dX2_makeRound_95 : decode cX2_makeRound 95 = .ok (.getfield 20, 3) := DX2_makeRound.2.2.2.2.2.2.2.2.2.2.2.2.2.2.2.2.2.2.2.2.2.2.2.2.2.2.2.2.2.2.2.2.2.2.2.2.2.2.2.2.2.2.2.2.2.2.2.2.2.2.2.2.2.2.2.2.2.2.2.2.2.1
theorem dX2_makeRound_98 : decode cX2_makeRound 98 = .ok (.iload_n 2, 1) := DX2_makeRound.2.2.2.2.2.2.2.2.2.2.2.2.2.2.2.2.2.2.2.2.2.2.2.2.2.2.2.2.2.2.2.2.2.2.2.2.2.2.2.2.2.2.2.2.2.2.2.2.2.2.2.2.2.2.2.2.2.2.2.2.2.2.1
theorem dX2_makeRound_99 : decode cX2_makeRound 99 = .ok (.iaload, 1) := DX2_makeRound.2.2.2.2.2.2.2.2.2.2.2.2.2.2.2.2.2.2.2.2.2.2.2.2.2.2.2.2.2.2.2.2.2.2.2.2.2.2.2.2.2.2.2.2.2.2.2.2.2.2.2.2.2.2.2.2.2.2.2.2.2.2.2.1
theorem dX2_makeRound_100 : decode cX2_makeRound 100 = .ok (.istore_n 2, 1) := DX2_makeRound.2.2.2.2.2.2.2.2.2.2.2.2.2.2.2.2.2.2.2.2.2.2.2.2.2.2.2.2.2.2.2.2.2.2.2.2.2.2.2.2.2.2.2.2.2.2.2.2.2.2.2.2.2.2.2.2.2.2.2.2.2.2.2.2.1
theorem dX2_makeRound_101 : decode cX2_makeRound 101 = .ok (.iload_n 2, 1) := DX2_makeRound.2.2.2.2.2.2.2.2.2.2.2.2.2.2.2.2.2.2.2.2.2.2.2.2.2.2.2.2.2.2.2.2.2.2.2.2.2.2.2.2.2.2.2.2.2.2.2.2.2.2.2.2.2.2.2.2.2.2.2.2.2.2.2.2.2.1
theorem dX2_makeRound_102 : decode cX2_makeRound 102 = .ok (.iload_n 1, 1) := DX2_makeRound.2.2.2.2.2.2.2.2.2.2.2.2.2.2.2.2.2.2.2.2.2.2.2.2.2.2.2.2.2.2.2.2.2.2.2.2.2.2.2.2.2.2.2.2.2.2.2.2.2.2.2.2.2.2.2.2.2.2.2.2.2.2.2.2.2.2.1
theorem dX2_makeRound_103 : decode cX2_makeRound 103 = .ok (.if_icmp .eq 7, 3) := DX2_makeRound.2.2.2.2.2.2.2.2.2.2.2.2.2.2.2.2.2.2.2.2.2.2.2.2.2.2.2.2.2.2.2.2.2.2.2.2.2.2.2.2.2.2.2.2.2.2.2.2.2.2.2.2.2.2.2.2.2.2.2.2.2.2.2.2.2.2.2.1
theorem dX2_makeRound_106 : decode cX2_makeRound 106 = .ok (.iconst 1, 1) := DX2_makeRound.2.2.2.2.2.2.2.2.2.2.2.2.2.2.2.2.2.2.2.2.2.2.2.2.2.2.2.2.2.2.2.2.2.2.2.2.2.2.2.2.2.2.2.2.2.2.2.2.2.2.2.2.2.2.2.2.2.2.2.2.2.2.2.2.2.2.2.2.1
theorem dX2_makeRound_107 : decode cX2_makeRound 107 = .ok (.goto 4, 3) := DX2_makeRound.2.2.2.2.2.2.2.2.2.2.2.2.2.2.2.2.2.2.2.2.2.2.2.2.2.2.2.2.2.2.2.2.2.2.2.2.2.2.2.2.2.2.2.2.2.2.2.2.2.2.2.2.2.2.2.2.2.2.2.2.2.2.2.2.2.2.2.2.2.1
theorem dX2_makeRound_110 : decode cX2_makeRound 110 = .ok (.iconst 0, 1) := DX2_makeRound.2.2.2.2.2.2.2.2.2.2.2.2.2.2.2.2.2.2.2.2.2.2.2.2.2.2.2.2.2.2.2.2.2.2.2.2.2.2.2.2.2.2.2.2.2.2.2.2.2.2.2.2.2.2.2.2.2.2.2.2.2.2.2.2.2.2.2.2.2.2.1
theorem dX2_makeRound_111 : decode cX2_makeRound 111 = .ok (.istore_n 3, 1) := DX2_makeRound.2.2.2.2.2.2.2.2.2.2.2.2.2.2.2.2.2.2.2.2.2.2.2.2.2.2.2.2.2.2.2.2.2.2.2.2.2.2.2.2.2.2.2.2.2.2.2.2.2.2.2.2.2.2.2.2.2.2.2.2.2.2.2.2.2.2.2.2.2.2.2.1
theorem dX2_makeRound_112 : decode cX2_makeRound 112 = .ok (.goto (-88), 3) := DX2_makeRound.2.2.2.2.2.2.2.2.2.2.2.2.2.2.2.2.2.2.2.2.2.2.2.2.2.2.2.2.2.2.2.2.2.2.2.2.2.2.2.2.2.2.2.2.2.2.2.2.2.2.2.2.2.2.2.2.2.2.2.2.2.2.2.2.2.2.2.2.2.2.2.2.1
theorem dX2_makeRound_115 : decode cX2_makeRound 115 = .ok (.aload_n 0, 1) := DX2_makeRound.2.2.2.2.2.2.2.2.2.2.2.2.2.2.2.2.2.2.2.2.2.2.2.2.2.2.2.2.2.2.2.2.2.2.2.2.2.2.2.2.2.2.2.2.2.2.2.2.2.2.2.2.2.2.2.2.2.2.2.2.2.2.2.2.2.2.2.2.2.2.2.2.2.1
theorem dX2_makeRound_116 : decode cX2_makeRound 116 = .ok (.dup, 1) := DX2_makeRound.2.2.2.2.2.2.2.2.2.2.2.2.2.2.2.2.2.2.2.2.2.2.2.2.2.2.2.2.2.2.2.2.2.2.2.2.2.2.2.2.2.2.2.2.2.2.2.2.2.2.2.2.2.2.2.2.2.2.2.2.2.2.2.2.2.2.2.2.2.2.2.2.2.2.1
theorem dX2_makeRound_117 : decode cX2_makeRound 117 = .ok (.getfield 95, 3) := DX2_makeRound.2.2.2.2.2.2.2.2.2.2.2.2.2.2.2.2.2.2.2.2.2.2.2.2.2.2.2.2.2.2.2.2.2.2.2.2.2.2.2.2.2.2.2.2.2.2.2.2.2.2.2.2.2.2.2.2.2.2.2.2.2.2.2.2.2.2.2.2.2.2.2.2.2.2.2.1
theorem dX2_makeRound_120 : decode cX2_makeRound 120 = .ok (.iconst 1, 1) := DX2_makeRound.2.2.2.2.2.2.2.2.2.2.2.2.2.2.2.2.2.2.2.2.2.2.2.2.2.2.2.2.2.2.2.2.2.2.2.2.2.2.2.2.2.2.2.2.2.2.2.2.2.2.2.2.2.2.2.2.2.2.2.2.2.2.2.2.2.2.2.2.2.2.2.2.2.2.2.2.1
theorem dX2_makeRound_121 : decode cX2_makeRound 121 = .ok (.iadd, 1) := DX2_makeRound.2.2.2.2.2.2.2.2.2.2.2.2.2.2.2.2.2.2.2.2.2.2.2.2.2.2.2.2.2.2.2.2.2.2.2.2.2.2.2.2.2.2.2.2.2.2.2.2.2.2.2.2.2.2.2.2.2.2.2.2.2.2.2.2.2.2.2.2.2.2.2.2.2.2.2.2.2.1
theorem dX2_makeRound_122 : decode cX2_makeRound 122 = .ok (.putfield 95, 3) := DX2_makeRound.2.2.2.2.2.2.2.2.2.2.2.2.2.2.2.2.2.2.2.2.2.2.2.2.2.2.2.2.2.2.2.2.2.2.2.2.2.2.2.2.2.2.2.2.2.2.2.2.2.2.2.2.2.2.2.2.2.2.2.2.2.2.2.2.2.2.2.2.2.2.2.2.2.2.2.2.2.2.1
theorem dX2_makeRound_125 : decode cX2_makeRound 125 = .ok (.return_, 1) := DX2_makeRound.2.2.2.2.2.2.2.2.2.2.2.2.2.2.2.2.2.2.2.2.2.2.2.2.2.2.2.2.2.2.2.2.2.2.2.2.2.2.2.2.2.2.2.2.2.2.2.2.2.2.2.2.2.2.2.2.2.2.2.2.2.2.2.2.2.2.2.2.2.2.2.2.2.2.2.2.2.2.2
theorem dX2_number_0 : decode cX2_number 0 = .ok (.aload_n 0, 1) := DX2_number.1
theorem dX2_number_1 : decode cX2_number 1 = .ok (.iconst 1, 1) := DX2_number.2.1
theorem dX2_number_2 : decode cX2_number 2 = .ok (.putfield 118, 3) := DX2_number.2.2.1
theorem dX2_number_5 : decode cX2_number 5 = .ok (.iconst 0, 1) := DX2_number.2.2.2.1
theorem dX2_number_6 : decode cX2_number 6 = .ok (.istore_n 1, 1) := DX2_number.2.2.2.2.1
theorem dX2_number_7 : decode cX2_number 7 = .ok (.iload_n 1, 1) := DX2_number.2.2.2.2.2.1
theorem dX2_number_8 : decode cX2_number 8 = .ok (.aload_n 0, 1) := DX2_number.2.2.2.2.2.2.1
theorem dX2_number_9 : decode cX2_number 9 = .ok (.getfield 95, 3) := DX2_number.2.2.2.2.2.2.2.1
theorem dX2_number_12 : decode cX2_number 12 = .ok (.if_icmp .gt 16, 3) := DX2_number.2.2.2.2.2.2.2.2.1
theorem dX2_number_15 : decode cX2_number 15 = .ok (.aload_n 0, 1) := DX2_number.2.2.2.2.2.2.2.2.2.1
theorem dX2_number_16 : decode cX2_number 16 = .ok (.getfield 39, 3) := DX2_number.2.2.2.2.2.2.2.2.2.2.1
theorem dX2_number_19 : decode cX2_number 19 = .ok (.iload_n 1, 1) := DX2_number.2.2.2.2.2.2.2.2.2.2.2.1
theorem dX2_number_20 : decode cX2_number 20 = .ok (.iconst (-1), 1) := DX2_number.2.2.2.2.2.2.2.2.2.2.2.2.1
theorem dX2_number_21 : decode cX2_number 21 = .ok (.iastore, 1) := DX2_number.2.2.2.2.2.2.2.2.2.2.2.2.2.1
theorem dX2_number_22 : decode cX2_number 22 = .ok (.iinc 1 1, 3) := DX2_number.2.2.2.2.2.2.2.2.2.2.2.2.2.2.1
theorem dX2_number_25 : decode cX2_number 25 = .ok (.goto (-18), 3) := DX2_number.2.2.2.2.2.2.2.2.2.2.2.2.2.2.2.1
theorem dX2_number_28 : decode cX2_number 28 = .ok (.iconst 0, 1) := DX2_number.2.2.2.2.2.2.2.2.2.2.2.2.2.2.2.2.1
theorem dX2_number_29 : decode cX2_number 29 = .ok (.istore_n 1, 1) := DX2_number.2.2.2.2.2.2.2.2.2.2.2.2.2.2.2.2.2.1
theorem dX2_number_30 : decode cX2_number 30 = .ok (.iload_n 1, 1) := DX2_number.2.2.2.2.2.2.2.2.2.2.2.2.2.2.2.2.2.2.1
theorem dX2_number_31 : decode cX2_number 31 = .ok (.aload_n 0, 1) := DX2_number.2.2.2.2.2.2.2.2.2.2.2.2.2.2.2.2.2.2.2.1
theorem dX2_number_32 : decode cX2_number 32 = .ok (.getfield 95, 3) := DX2_number.2.2.2.2.2.2.2.2.2.2.2.2.2.2.2.2.2.2.2.2.1
theorem dX2_number_35 : decode cX2_number 35 = .ok (.if_icmp .ge 109, 3) := DX2_number.2.2.2.2.2.2.2.2.2.2.2.2.2.2.2.2.2.2.2.2.2.1
theorem dX2_number_38 : decode cX2_number 38 = .ok (.aload_n 0, 1) := DX2_number.2.2.2.2.2.2.2.2.2.2.2.2.2.2.2.2.2.2.2.2.2.2.1
theorem dX2_number_39 : decode cX2_number 39 = .ok (.getfield 29, 3) := DX2_number.2.2.2.2.2.2.2.2.2.2.2.2.2.2.2.2.2.2.2.2.2.2.2.1
theorem dX2_number_42 : decode cX2_number 42 = .ok (.iload_n 1, 1) := DX2_number.2.2.2.2.2.2.2.2.2.2.2.2.2.2.2.2.2.2.2.2.2.2.2.2.1
theorem dX2_number_43 : decode cX2_number 43 = .ok (.iaload, 1) := DX2_number.2.2.2.2.2.2.2.2.2.2.2.2.2.2.2.2.2.2.2.2.2.2.2.2.2.1
theorem dX2_number_44 : decode cX2_number 44 = .ok (.istore_n 2, 1) := DX2_number.2.2.2.2.2.2.2.2.2.2.2.2.2.2.2.2.2.2.2.2.2.2.2.2.2.2.1
theorem dX2_number_45 : decode cX2_number 45 = .ok (.aload_n 0, 1) := DX2_number.2.2.2.2.2.2.2.2.2.2.2.2.2.2.2.2.2.2.2.2.2.2.2.2.2.2.2.1
theorem dX2_number_46 : decode cX2_number 46 = .ok (.getfield 32, 3) := DX2_number.2.2.2.2.2.2.2.2.2.2.2.2.2.2.2.2.2.2.2.2.2.2.2.2.2.2.2.2.1
theorem dX2_number_49 : decode cX2_number 49 = .ok (.iload_n 1, 1) := DX2_number.2.2.2.2.2.2.2.2.2.2.2.2.2.2.2.2.2.2.2.2.2.2.2.2.2.2.2.2.2.1
theorem dX2_number_50 : decode cX2_number 50 = .ok (.laload, 1) := DX2_number.2.2.2.2.2.2.2.2.2.2.2.2.2.2.2.2.2.2.2.2.2.2.2.2.2.2.2.2.2.2.1
theorem dX2_number_51 : decode cX2_number 51 = .ok (.lconst 0, 1) := DX2_number.2.2.2.2.2.2.2.2.2.2.2.2.2.2.2.2.2.2.2.2.2.2.2.2.2.2.2.2.2.2.2.1
theorem dX2_number_52 : decode cX2_number 52 = .ok (.lcmp, 1) := DX2_number.2.2.2.2.2.2.2.2.2.2.2.2.2.2.2.2.2.2.2.2.2.2.2.2.2.2.2.2.2.2.2.2.1
theorem dX2_number_53 : decode cX2_number 53 = .ok (.ifCond .le 7, 3) := DX2_number.2.2.2.2.2.2.2.2.2.2.2.2.2.2.2.2.2.2.2.2.2.2.2.2.2.2.2.2.2.2.2.2.2.1
theorem dX2_number_56 : decode cX2_number 56 = .ok (.iload_n 1, 1) := DX2_number.2.2.2.2.2.2.2.2.2.2.2.2.2.2.2.2.2.2.2.2.2.2.2.2.2.2.2.2.2.2.2.2.2.2.1
theorem dX2_number_57 : decode cX2_number 57 = .ok (.goto 25, 3) := DX2_number.2.2.2.2.2.2.2.2.2.2.2.2.2.2.2.2.2.2.2.2.2.2.2.2.2.2.2.2.2.2.2.2.2.2.2.1
theorem dX2_number_60 : decode cX2_number 60 = .ok (.aload_n 0, 1) := DX2_number.2.2.2.2.2.2.2.2.2.2.2.2.2.2.2.2.2.2.2.2.2.2.2.2.2.2.2.2.2.2.2.2.2.2.2.2.1
theorem dX2_number_61 : decode cX2_number 61 = .ok (.aload_n 0, 1) := DX2_number.2.2.2.2.2.2.2.2.2.2.2.2.2.2.2.2.2.2.2.2.2.2.2.2.2.2.2.2.2.2.2.2.2.2.2.2.2.1
theorem dX2_number_62 : decode cX2_number 62 = .ok (.getfield 13, 3) := DX2_number.2.2.2.2.2.2.2.2.2.2.2.2.2.2.2.2.2.2.2.2.2.2.2.2.2.2.2.2.2.2.2.2.2.2.2.2.2.2.1
theorem dX2_number_65 : decode cX2_number 65 = .ok (.iload_n 2, 1) := DX2_number.2.2.2.2.2.2.2.2.2.2.2.2.2.2.2.2.2.2.2.2.2.2.2.2.2.2.2.2.2.2.2.2.2.2.2.2.2.2.2.1
theorem dX2_number_66 : decode cX2_number 66 = .ok (.iaload, 1) := DX2_number.2.2.2.2.2.2.2.2.2.2.2.2.2.2.2.2.2.2.2.2.2.2.2.2.2.2.2.2.2.2.2.2.2.2.2.2.2.2.2.2.1
theorem dX2_number_67 : decode cX2_number 67 = .ok (.aload_n 0, 1) := DX2_number.2.2.2.2.2.2.2.2.2.2.2.2.2.2.2.2.2.2.2.2.2.2.2.2.2.2.2.2.2.2.2.2.2.2.2.2.2.2.2.2.2.1
theorem dX2_number_68 : decode cX2_number 68 = .ok (.getfield 17, 3) := DX2_number.2.2.2.2.2.2.2.2.2.2.2.2.2.2.2.2.2.2.2.2.2.2.2.2.2.2.2.2.2.2.2.2.2.2.2.2.2.2.2.2.2.2.1
theorem dX2_number_71 : decode cX2_number 71 = .ok (.iload_n 2, 1) := DX2_number.2.2.2.2.2.2.2.2.2.2.2.2.2.2.2.2.2.2.2.2.2.2.2.2.2.2.2.2.2.2.2.2.2.2.2.2.2.2.2.2.2.2.2.1
theorem dX2_number_72 : decode cX2_number 72 = .ok (.iaload, 1) := DX2_number.2.2.2.2.2.2.2.2.2.2.2.2.2.2.2.2.2.2.2.2.2.2.2.2.2.2.2.2.2.2.2.2.2.2.2.2.2.2.2.2.2.2.2.2.1
theorem dX2_number_73 : decode cX2_number 73 = .ok (.aload_n 0, 1) := DX2_number.2.2.2.2.2.2.2.2.2.2.2.2.2.2.2.2.2.2.2.2.2.2.2.2.2.2.2.2.2.2.2.2.2.2.2.2.2.2.2.2.2.2.2.2.2.1
theorem dX2_number_74 : decode cX2_number 74 = .ok (.getfield 23, 3) := DX2_number.2.2.2.2.2.2.2.2.2.2.2.2.2.2.2.2.2.2.2.2.2.2.2.2.2.2.2.2.2.2.2.2.2.2.2.2.2.2.2.2.2.2.2.2.2.2.1
theorem dX2_number_77 : decode cX2_number 77 = .ok (.iload_n 2, 1) := DX2_number.2.2.2.2.2.2.2.2.2.2.2.2.2.2.2.2.2.2.2.2.2.2.2.2.2.2.2.2.2.2.2.2.2.2.2.2.2.2.2.2.2.2.2.2.2.2.2.1
theorem dX2_number_78 : decode cX2_number 78 = .ok (.iaload, 1) := DX2_number.2.2.2.2.2.2.2.2.2.2.2.2.2.2.2.2.2.2.2.2.2.2.2.2.2.2.2.2.2.2.2.2.2.2.2.2.2.2.2.2.2.2.2.2.2.2.2.2.1
theorem dX2_number_79 : decode cX2_number 79 = .ok (.invokevirtual 121, 3) := DX2_number.2.2.2.2.2.2.2.2.2.2.2.2.2.2.2.2.2.2.2.2.2.2.2.2.2.2.2.2.2.2.2.2.2.2.2.2.2.2.2.2.2.2.2.2.2.2.2.2.2.1
theorem dX2_number_82 : decode cX2_number 82 = .ok (.istore_n 3, 1) := DX2_number.2.2.2.2.2.2.2.2.2.2.2.2.2.2.2.2.2.2.2.2.2.2.2.2.2.2.2.2.2.2.2.2.2.2.2.2.2.2.2.2.2.2.2.2.2.2.2.2.2.2.1
theorem dX2_number_83 : decode cX2_number 83 = .ok (.iload_n 3, 1) := DX2_number.2.2.2.2.2.2.2.2.2.2.2.2.2.2.2.2.2.2.2.2.2.2.2.2.2.2.2.2.2.2.2.2.2.2.2.2.2.2.2.2.2.2.2.2.2.2.2.2.2.2.2.1
theorem dX2_number_84 : decode cX2_number 84 = .ok (.ifCond .ge 13, 3) := DX2_number.2.2.2.2.2.2.2.2.2.2.2.2.2.2.2.2.2.2.2.2.2.2.2.2.2.2.2.2.2.2.2.2.2.2.2.2.2.2.2.2.2.2.2.2.2.2.2.2.2.2.2.2.1
theorem dX2_number_87 : decode cX2_number 87 = .ok (.aload_n 0, 1) := DX2_number.2.2.2.2.2.2.2.2.2.2.2.2.2.2.2.2.2.2.2.2.2.2.2.2.2.2.2.2.2.2.2.2.2.2.2.2.2.2.2.2.2.2.2.2.2.2.2.2.2.2.2.2.2.1
theorem dX2_number_88 : decode cX2_number 88 = .ok (.getfield 36, 3) := DX2_number.2.2.2.2.2.2.2.2.2.2.2.2.2.2.2.2.2.2.2.2.2.2.2.2.2.2.2.2.2.2.2.2.2.2.2.2.2.2.2.2.2.2.2.2.2.2.2.2.2.2.2.2.2.2.1
theorem dX2_number_91 : decode cX2_number 91 = .ok (.iload_n 1, 1) := DX2_number.2.2.2.2.2.2.2.2.2.2.2.2.2.2.2.2.2.2.2.2.2.2.2.2.2.2.2.2.2.2.2.2.2.2.2.2.2.2.2.2.2.2.2.2.2.2.2.2.2.2.2.2.2.2.2.1
theorem dX2_number_92 : decode cX2_number 92 = .ok (.iconst 0, 1) := DX2_number.2.2.2.2.2.2.2.2.2.2.2.2.2.2.2.2.2.2.2.2.2.2.2.2.2.2.2.2.2.2.2.2.2.2.2.2.2.2.2.2.2.2.2.2.2.2.2.2.2.2.2.2.2.2.2.2.1
theorem dX2_number_93 : decode cX2_number 93 = .ok (.iastore, 1) := DX2_number.2.2.2.2.2.2.2.2.2.2.2.2.2.2.2.2.2.2.2.2.2.2.2.2.2.2.2.2.2.2.2.2.2.2.2.2.2.2.2.2.2.2.2.2.2.2.2.2.2.2.2.2.2.2.2.2.2.1
theorem dX2_number_94 : decode cX2_number 94 = .ok (.goto 44, 3) := DX2_number.2.2.2.2.2.2.2.2.2.2.2.2.2.2.2.2.2.2.2.2.2.2.2.2.2.2.2.2.2.2.2.2.2.2.2.2.2.2.2.2.2.2.2.2.2.2.2.2.2.2.2.2.2.2.2.2.2.2.1
theorem dX2_number_97 : decode cX2_number 97 = .ok (.aload_n 0, 1) := DX2_number.2.2.2.2.2.2.2.2.2.2.2.2.2.2.2.2.2.2.2.2.2.2.2.2.2.2.2.2.2.2.2.2.2.2.2.2.2.2.2.2.2.2.2.2.2.2.2.2.2.2.2.2.2.2.2.2.2.2.2.1
theorem dX2_number_98 : decode cX2_number 98 = .ok (.getfield 39, 3) := DX2_number.2.2.2.2.2.2.2.2.2.2.2.2.2.2.2.2.2.2.2.2.2.2.2.2.2.2.2.2.2.2.2.2.2.2.2.2.2.2.2.2.2.2.2.2.2.2.2.2.2.2.2.2.2.2.2.2.2.2.2.2.1
theorem dX2_number_101 : decode cX2_number 101 = .ok (.iload_n 3, 1) := DX2_number.2.2.2.2.2.2.2.2.2.2.2.2.2.2.2.2.2.2.2.2.2.2.2.2.2.2.2.2.2.2.2.2.2.2.2.2.2.2.2.2.2.2.2.2.2.2.2.2.2.2.2.2.2.2.2.2.2.2.2.2.2.1
theorem dX2_number_102 : decode cX2_number 102 = .ok (.iaload, 1) := DX2_number.2.2.2.2.2.2.2.2.2.2.2.2.2.2.2.2.2.2.2.2.2.2.2.2.2.2.2.2.2.2.2.2.2.2.2.2.2.2.2.2.2.2.2.2.2.2.2.2.2.2.2.2.2.2.2.2.2.2.2.2.2.2.1
theorem dX2_number_103 : decode cX2_number 103 = .ok (.ifCond .ge 23, 3) := DX2_number.2.2.2.2.2.2.2.2.2.2.2.2.2.2.2.2.2.2.2.2.2.2.2.2.2.2.2.2.2.2.2.2.2.2.2.2.2.2.2.2.2.2.2.2.2.2.2.2.2.2.2.2.2.2.2.2.2.2.2.2.2.2.2.1
theorem dX2_number_106 : decode cX2_number 106 = .ok (.aload_n 0, 1) := DX2_number.2.2.2.2.2.2.2.2.2.2.2.2.2.2.2.2.2.2.2.2.2.2.2.2.2.2.2.2.2.2.2.2.2.2.2.2.2.2.2.2.2.2.2.2.2.2.2.2.2.2.2.2.2.2.2.2.2.2.2.2.2.2.2.2.1
theorem dX2_number_107 : decode cX2_number 107 = .ok (.getfield 39, 3) := DX2_number.2.2.2.2.2.2.2.2.2.2.2.2.2.2.2.2.2.2.2.2.2.2.2.2.2.2.2.2.2.2.2.2.2.2.2.2.2.2.2.2.2.2.2.2.2.2.2.2.2.2.2.2.2.2.2.2.2.2.2.2.2.2.2.2.2.1
theorem dX2_number_110 : decode cX2_number 110 = .ok (.iload_n 3, 1) := DX2_number.2.2.2.2.2.2.2.2.2.2.2.2.2.2.2.2.2.2.2.2.2.2.2.2.2.2.2.2.2.2.2.2.2.2.2.2.2.2.2.2.2.2.2.2.2.2.2.2.2.2.2.2.2.2.2.2.2.2.2.2.2.2.2.2.2.2.1
theorem dX2_number_111 : decode cX2_number 111 = .ok (.aload_n 0, 1) := DX2_number.2.2.2.2.2.2.2.2.2.2.2.2.2.2.2.2.2.2.2.2.2.2.2.2.2.2.2.2.2.2.2.2.2.2.2.2.2.2.2.2.2.2.2.2.2.2.2.2.2.2.2.2.2.2.2.2.2.2.2.2.2.2.2.2.2.2.2.1
theorem dX2_number_112 : decode cX2_number 112 = .ok (.getfield 118, 3) := DX2_number.2.2.2.2.2.2.2.2.2.2.2.2.2.2.2.2.2.2.2.2.2.2.2.2.2.2.2.2.2.2.2.2.2.2.2.2.2.2.2.2.2.2.2.2.2.2.2.2.2.2.2.2.2.2.2.2.2.2.2.2.2.2.2.2.2.2.2.2.1
theorem dX2_number_115 : decode cX2_number 115 = .ok (.iastore, 1) := DX2_number.2.2.2.2.2.2.2.2.2.2.2.2.2.2.2.2.2.2.2.2.2.2.2.2.2.2.2.2.2.2.2.2.2.2.2.2.2.2.2.2.2.2.2.2.2.2.2.2.2.2.2.2.2.2.2.2.2.2.2.2.2.2.2.2.2.2.2.2.2.1
theorem dX2_number_116 : decode cX2_number 116 = .ok (.aload_n 0, 1) := DX2_number.2.2.2.2.2.2.2.2.2.2.2.2.2.2.2.2.2.2.2.2.2.2.2.2.2.2.2.2.2.2.2.2.2.2.2.2.2.2.2.2.2.2.2.2.2.2.2.2.2.2.2.2.2.2.2.2.2.2.2.2.2.2.2.2.2.2.2.2.2.2.1
theorem dX2_number_117 : decode cX2_number 117 = .ok (.dup, 1) := DX2_number.2.2.2.2.2.2.2.2.2.2.2.2.2.2.2.2.2.2.2.2.2.2.2.2.2.2.2.2.2.2.2.2.2.2.2.2.2.2.2.2.2.2.2.2.2.2.2.2.2.2.2.2.2.2.2.2.2.2.2.2.2.2.2.2.2.2.2.2.2.2.2.1
theorem dX2_number_118 : decode cX2_number 118 = .ok (.getfield 118, 3) := DX2_number.2.2.2.2.2.2.2.2.2.2.2.2.2.2.2.2.2.2.2.2.2.2.2.2.2.2.2.2.2.2.2.2.2.2.2.2.2.2.2.2.2.2.2.2.2.2.2.2.2.2.2.2.2.2.2.2.2.2.2.2.2.2.2.2.2.2.2.2.2.2.2.2.1
theorem dX2_number_121 : decode cX2_number 121 = .ok (.iconst 1, 1) := DX2_number.2.2.2.2.2.2.2.2.2.2.2.2.2.2.2.2.2.2.2.2.2.2.2.2.2.2.2.2.2.2.2.2.2.2.2.2.2.2.2.2.2.2.2.2.2.2.2.2.2.2.2.2.2.2.2.2.2.2.2.2.2.2.2.2.2.2.2.2.2.2.2.2.2.1
theorem dX2_number_122 : decode cX2_number 122 = .ok (.iadd, 1) := DX2_number.2.2.2.2.2.2.2.2.2.2.2.2.2.2.2.2.2.2.2.2.2.2.2.2.2.2.2.2.2.2.2.2.2.2.2.2.2.2.2.2.2.2.2.2.2.2.2.2.2.2.2.2.2.2.2.2.2.2.2.2.2.2.2.2.2.2.2.2.2.2.2.2.2.2.1
theorem dX2_number_123 : decode cX2_number 123 = .ok (.putfield 118, 3) := DX2_number.2.2.2.2.2.2.2.2.2.2.2.2.2.2.2.2.2.2.2.2.2.2.2.2.2.2.2.2.2.2.2.2.2.2.2.2.2.2.2.2.2.2.2.2.2.2.2.2.2.2.2.2.2.2.2.2.2.2.2.2.2.2.2.2.2.2.2.2.2.2.2.2.2.2.2.1
theorem dX2_number_126 : decode cX2_number 126 = .ok (.aload_n 0, 1) := DX2_number.2.2.2.2.2.2.2.2.2.2.2.2.2.2.2.2.2.2.2.2.2.2.2.2.2.2.2.2.2.2.2.2.2.2.2.2.2.2.2.2.2.2.2.2.2.2.2.2.2.2.2.2.2.2.2.2.2.2.2.2.2.2.2.2.2.2.2.2.2.2.2.2.2.2.2.2.1
theorem dX2_number_127 : decode cX2_number 127 = .ok (.getfield 36, 3) := DX2_number.2.2.2.2.2.2.2.2.2.2.2.2.2.2.2.2.2.2.2.2.2.2.2.2.2.2.2.2.2.2.2.2.2.2.2.2.2.2.2.2.2.2.2.2.2.2.2.2.2.2.2.2.2.2.2.2.2.2.2.2.2.2.2.2.2.2.2.2.2.2.2.2.2.2.2.2.2.1
theorem dX2_number_130 : decode cX2_number 130 = .ok (.iload_n 1, 1) := DX2_number.2.2.2.2.2.2.2.2.2.2.2.2.2.2.2.2.2.2.2.2.2.2.2.2.2.2.2.2.2.2.2.2.2.2.2.2.2.2.2.2.2.2.2.2.2.2.2.2.2.2.2.2.2.2.2.2.2.2.2.2.2.2.2.2.2.2.2.2.2.2.2.2.2.2.2.2.2.2.1
theorem dX2_number_131 : decode cX2_number 131 = .ok (.aload_n 0, 1) := DX2_number.2.2.2.2.2.2.2.2.2.2.2.2.2.2.2.2.2.2.2.2.2.2.2.2.2.2.2.2.2.2.2.2.2.2.2.2.2.2.2.2.2.2.2.2.2.2.2.2.2.2.2.2.2.2.2.2.2.2.2.2.2.2.2.2.2.2.2.2.2.2.2.2.2.2.2.2.2.2.2.1
theorem dX2_number_132 : decode cX2_number 132 = .ok (.getfield 39, 3) := DX2_number.2.2.2.2.2.2.2.2.2.2.2.2.2.2.2.2.2.2.2.2.2.2.2.2.2.2.2.2.2.2.2.2.2.2.2.2.2.2.2.2.2.2.2.2.2.2.2.2.2.2.2.2.2.2.2.2.2.2.2.2.2.2.2.2.2.2.2.2.2.2.2.2.2.2.2.2.2.2.2.2.1
theorem dX2_number_135 : decode cX2_number 135 = .ok (.iload_n 3, 1) := DX2_number.2.2.2.2.2.2.2.2.2.2.2.2.2.2.2.2.2.2.2.2.2.2.2.2.2.2.2.2.2.2.2.2.2.2.2.2.2.2.2.2.2.2.2.2.2.2.2.2.2.2.2.2.2.2.2.2.2.2.2.2.2.2.2.2.2.2.2.2.2.2.2.2.2.2.2.2.2.2.2.2.2.1
theorem dX2_number_136 : decode cX2_number 136 = .ok (.iaload, 1) := DX2_number.2.2.2.2.2.2.2.2.2.2.2.2.2.2.2.2.2.2.2.2.2.2.2.2.2.2.2.2.2.2.2.2.2.2.2.2.2.2.2.2.2.2.2.2.2.2.2.2.2.2.2.2.2.2.2.2.2.2.2.2.2.2.2.2.2.2.2.2.2.2.2.2.2.2.2.2.2.2.2.2.2.2.1
theorem dX2_number_137 : decode cX2_number 137 = .ok (.iastore, 1) := DX2_number.2.2.2.2.2.2.2.2.2.2.2.2.2.2.2.2.2.2.2.2.2.2.2.2.2.2.2.2.2.2.2.2.2.2.2.2.2.2.2.2.2.2.2.2.2.2.2.2.2.2.2.2.2.2.2.2.2.2.2.2.2.2.2.2.2.2.2.2.2.2.2.2.2.2.2.2.2.2.2.2.2.2.2.1
theorem dX2_number_138 : decode cX2_number 138 = .ok (.iinc 1 1, 3) := DX2_number.2.2.2.2.2.2.2.2.2.2.2.2.2.2.2.2.2.2.2.2.2.2.2.2.2.2.2.2.2.2.2.2.2.2.2.2.2.2.2.2.2.2.2.2.2.2.2.2.2.2.2.2.2.2.2.2.2.2.2.2.2.2.2.2.2.2.2.2.2.2.2.2.2.2.2.2.2.2.2.2.2.2.2.2.1
theorem dX2_number_141 : decode cX2_number 141 = .ok (.goto (-111), 3) := DX2_number.2.2.2.2.2.2.2.2.2.2.2.2.2.2.2.2.2.2.2.2.2.2.2.2.2.2.2.2.2.2.2.2.2.2.2.2.2.2.2.2.2.2.2.2.2.2.2.2.2.2.2.2.2.2.2.2.2.2.2.2.2.2.2.2.2.2.2.2.2.2.2.2.2.2.2.2.2.2.2.2.2.2.2.2.2.1
theorem dX2_number_144 : decode cX2_number 144 = .ok (.return_, 1) := DX2_number.2.2.2.2.2.2.2.2.2.2.2.2.2.2.2.2.2.2.2.2.2.2.2.2.2.2.2.2.2.2.2.2.2.2.2.2.2.2.2.2.2.2.2.2.2.2.2.2.2.2.2.2.2.2.2.2.2.2.2.2.2.2.2.2.2.2.2.2.2.2.2.2.2.2.2.2.2.2.2.2.2.2.2.2.2.2
theorem dX2_least_0 : decode cX2_least 0 = .ok (.iconst (-1), 1) := DX2_least.1
theorem dX2_least_1 : decode cX2_least 1 = .ok (.istore 4, 2) := DX2_least.2.1
theorem dX2_least_3 : decode cX2_least 3 = .ok (.iconst 0, 1) := DX2_least.2.2.1
theorem dX2_least_4 : decode cX2_least 4 = .ok (.istore 5, 2) := DX2_least.2.2.2.1
theorem dX2_least_6 : decode cX2_least 6 = .ok (.iload 5, 2) := DX2_least.2.2.2.2.1
theorem dX2_least_8 : decode cX2_least 8 = .ok (.aload_n 0, 1) := DX2_least.2.2.2.2.2.1
theorem dX2_least_9 : decode cX2_least 9 = .ok (.getfield 95, 3) := DX2_least.2.2.2.2.2.2.1
theorem dX2_least_12 : decode cX2_least 12 = .ok (.if_icmp .ge 92, 3) := DX2_least.2.2.2.2.2.2.2.1
theorem dX2_least_15 : decode cX2_least 15 = .ok (.aload_n 0, 1) := DX2_least.2.2.2.2.2.2.2.2.1
theorem dX2_least_16 : decode cX2_least 16 = .ok (.getfield 32, 3) := DX2_least.2.2.2.2.2.2.2.2.2.1
theorem dX2_least_19 : decode cX2_least 19 = .ok (.iload 5, 2) := DX2_least.2.2.2.2.2.2.2.2.2.2.1
theorem dX2_least_21 : decode cX2_least 21 = .ok (.laload, 1) := DX2_least.2.2.2.2.2.2.2.2.2.2.2.1
theorem dX2_least_22 : decode cX2_least 22 = .ok (.lconst 0, 1) := DX2_least.2.2.2.2.2.2.2.2.2.2.2.2.1
theorem dX2_least_23 : decode cX2_least 23 = .ok (.lcmp, 1) := DX2_least.2.2.2.2.2.2.2.2.2.2.2.2.2.1
theorem dX2_least_24 : decode cX2_least 24 = .ok (.ifCond .le 46, 3) := DX2_least.2.2.2.2.2.2.2.2.2.2.2.2.2.2.1
theorem dX2_least_27 : decode cX2_least 27 = .ok (.aload_n 0, 1) := DX2_least.2.2.2.2.2.2.2.2.2.2.2.2.2.2.2.1
theorem dX2_least_28 : decode cX2_least 28 = .ok (.getfield 23, 3) := DX2_least.2.2.2.2.2.2.2.2.2.2.2.2.2.2.2.2.1
theorem dX2_least_31 : decode cX2_least 31 = .ok (.aload_n 0, 1) := DX2_least.2.2.2.2.2.2.2.2.2.2.2.2.2.2.2.2.2.1
theorem dX2_least_32 : decode cX2_least 32 = .ok (.getfield 29, 3) := DX2_least.2.2.2.2.2.2.2.2.2.2.2.2.2.2.2.2.2.2.1
theorem dX2_least_35 : decode cX2_least 35 = .ok (.iload 5, 2) := DX2_least.2.2.2.2.2.2.2.2.2.2.2.2.2.2.2.2.2.2.2.1
theorem dX2_least_37 : decode cX2_least 37 = .ok (.iaload, 1) := DX2_least.2.2.2.2.2.2.2.2.2.2.2.2.2.2.2.2.2.2.2.2.1
theorem dX2_least_38 : decode cX2_least 38 = .ok (.iaload, 1) := DX2_least.2.2.2.2.2.2.2.2.2.2.2.2.2.2.2.2.2.2.2.2.2.1
theorem dX2_least_39 : decode cX2_least 39 = .ok (.iload_n 3, 1) := DX2_least.2.2.2.2.2.2.2.2.2.2.2.2.2.2.2.2.2.2.2.2.2.2.1
theorem dX2_least_40 : decode cX2_least 40 = .ok (.if_icmp .eq 30, 3) := DX2_least.2.2.2.2.2.2.2.2.2.2.2.2.2.2.2.2.2.2.2.2.2.2.2.1
theorem dX2_least_43 : decode cX2_least 43 = .ok (.iload 4, 2) := DX2_least.2.2.2.2.2.2.2.2.2.2.2.2.2.2.2.2.2.2.2.2.2.2.2.2.1
theorem dX2_least_45 : decode cX2_least 45 = .ok (.ifCond .lt 21, 3) := DX2_least.2.2.2.2.2.2.2.2.2.2.2.2.2.2.2.2.2.2.2.2.2.2.2.2.2.1
theorem dX2_least_48 : decode cX2_least 48 = .ok (.aload_n 0, 1) := DX2_least.2.2.2.2.2.2.2.2.2.2.2.2.2.2.2.2.2.2.2.2.2.2.2.2.2.2.1
theorem dX2_least_49 : decode cX2_least 49 = .ok (.getfield 32, 3) := DX2_least.2.2.2.2.2.2.2.2.2.2.2.2.2.2.2.2.2.2.2.2.2.2.2.2.2.2.2.1
theorem dX2_least_52 : decode cX2_least 52 = .ok (.iload 5, 2) := DX2_least.2.2.2.2.2.2.2.2.2.2.2.2.2.2.2.2.2.2.2.2.2.2.2.2.2.2.2.2.1
theorem dX2_least_54 : decode cX2_least 54 = .ok (.laload, 1) := DX2_least.2.2.2.2.2.2.2.2.2.2.2.2.2.2.2.2.2.2.2.2.2.2.2.2.2.2.2.2.2.1
theorem dX2_least_55 : decode cX2_least 55 = .ok (.aload_n 0, 1) := DX2_least.2.2.2.2.2.2.2.2.2.2.2.2.2.2.2.2.2.2.2.2.2.2.2.2.2.2.2.2.2.2.1
theorem dX2_least_56 : decode cX2_least 56 = .ok (.getfield 32, 3) := DX2_least.2.2.2.2.2.2.2.2.2.2.2.2.2.2.2.2.2.2.2.2.2.2.2.2.2.2.2.2.2.2.2.1
theorem dX2_least_59 : decode cX2_least 59 = .ok (.iload 4, 2) := DX2_least.2.2.2.2.2.2.2.2.2.2.2.2.2.2.2.2.2.2.2.2.2.2.2.2.2.2.2.2.2.2.2.2.1
theorem dX2_least_61 : decode cX2_least 61 = .ok (.laload, 1) := DX2_least.2.2.2.2.2.2.2.2.2.2.2.2.2.2.2.2.2.2.2.2.2.2.2.2.2.2.2.2.2.2.2.2.2.1
theorem dX2_least_62 : decode cX2_least 62 = .ok (.lcmp, 1) := DX2_least.2.2.2.2.2.2.2.2.2.2.2.2.2.2.2.2.2.2.2.2.2.2.2.2.2.2.2.2.2.2.2.2.2.2.1
theorem dX2_least_63 : decode cX2_least 63 = .ok (.ifCond .ge 7, 3) := DX2_least.2.2.2.2.2.2.2.2.2.2.2.2.2.2.2.2.2.2.2.2.2.2.2.2.2.2.2.2.2.2.2.2.2.2.2.1
theorem dX2_least_66 : decode cX2_least 66 = .ok (.iconst 1, 1) := DX2_least.2.2.2.2.2.2.2.2.2.2.2.2.2.2.2.2.2.2.2.2.2.2.2.2.2.2.2.2.2.2.2.2.2.2.2.2.1
theorem dX2_least_67 : decode cX2_least 67 = .ok (.goto 4, 3) := DX2_least.2.2.2.2.2.2.2.2.2.2.2.2.2.2.2.2.2.2.2.2.2.2.2.2.2.2.2.2.2.2.2.2.2.2.2.2.2.1
theorem dX2_least_70 : decode cX2_least 70 = .ok (.iconst 0, 1) := DX2_least.2.2.2.2.2.2.2.2.2.2.2.2.2.2.2.2.2.2.2.2.2.2.2.2.2.2.2.2.2.2.2.2.2.2.2.2.2.2.1
theorem dX2_least_71 : decode cX2_least 71 = .ok (.istore 6, 2) := DX2_least.2.2.2.2.2.2.2.2.2.2.2.2.2.2.2.2.2.2.2.2.2.2.2.2.2.2.2.2.2.2.2.2.2.2.2.2.2.2.2.1
theorem dX2_least_73 : decode cX2_least 73 = .ok (.iload 6, 2) := DX2_least.2.2.2.2.2.2.2.2.2.2.2.2.2.2.2.2.2.2.2.2.2.2.2.2.2.2.2.2.2.2.2.2.2.2.2.2.2.2.2.2.1
theorem dX2_least_75 : decode cX2_least 75 = .ok (.ifCond .eq 19, 3) := DX2_least.2.2.2.2.2.2.2.2.2.2.2.2.2.2.2.2.2.2.2.2.2.2.2.2.2.2.2.2.2.2.2.2.2.2.2.2.2.2.2.2.2.1
theorem dX2_least_78 : decode cX2_least 78 = .ok (.aload_n 0, 1) := DX2_least.2.2.2.2.2.2.2.2.2.2.2.2.2.2.2.2.2.2.2.2.2.2.2.2.2.2.2.2.2.2.2.2.2.2.2.2.2.2.2.2.2.2.1
theorem dX2_least_79 : decode cX2_least 79 = .ok (.iload 5, 2) := DX2_least.2.2.2.2.2.2.2.2.2.2.2.2.2.2.2.2.2.2.2.2.2.2.2.2.2.2.2.2.2.2.2.2.2.2.2.2.2.2.2.2.2.2.2.1
theorem dX2_least_81 : decode cX2_least 81 = .ok (.iload_n 1, 1) := DX2_least.2.2.2.2.2.2.2.2.2.2.2.2.2.2.2.2.2.2.2.2.2.2.2.2.2.2.2.2.2.2.2.2.2.2.2.2.2.2.2.2.2.2.2.2.1
theorem dX2_least_82 : decode cX2_least 82 = .ok (.iload_n 2, 1) := DX2_least.2.2.2.2.2.2.2.2.2.2.2.2.2.2.2.2.2.2.2.2.2.2.2.2.2.2.2.2.2.2.2.2.2.2.2.2.2.2.2.2.2.2.2.2.2.1
theorem dX2_least_83 : decode cX2_least 83 = .ok (.invokevirtual 98, 3) := DX2_least.2.2.2.2.2.2.2.2.2.2.2.2.2.2.2.2.2.2.2.2.2.2.2.2.2.2.2.2.2.2.2.2.2.2.2.2.2.2.2.2.2.2.2.2.2.2.1
theorem dX2_least_86 : decode cX2_least 86 = .ok (.ifCond .eq 8, 3) := DX2_least.2.2.2.2.2.2.2.2.2.2.2.2.2.2.2.2.2.2.2.2.2.2.2.2.2.2.2.2.2.2.2.2.2.2.2.2.2.2.2.2.2.2.2.2.2.2.2.1
theorem dX2_least_89 : decode cX2_least 89 = .ok (.iload 5, 2) := DX2_least.2.2.2.2.2.2.2.2.2.2.2.2.2.2.2.2.2.2.2.2.2.2.2.2.2.2.2.2.2.2.2.2.2.2.2.2.2.2.2.2.2.2.2.2.2.2.2.2.1
theorem dX2_least_91 : decode cX2_least 91 = .ok (.goto 5, 3) := DX2_least.2.2.2.2.2.2.2.2.2.2.2.2.2.2.2.2.2.2.2.2.2.2.2.2.2.2.2.2.2.2.2.2.2.2.2.2.2.2.2.2.2.2.2.2.2.2.2.2.2.1
theorem dX2_least_94 : decode cX2_least 94 = .ok (.iload 4, 2) := DX2_least.2.2.2.2.2.2.2.2.2.2.2.2.2.2.2.2.2.2.2.2.2.2.2.2.2.2.2.2.2.2.2.2.2.2.2.2.2.2.2.2.2.2.2.2.2.2.2.2.2.2.1
theorem dX2_least_96 : decode cX2_least 96 = .ok (.istore 4, 2) := DX2_least.2.2.2.2.2.2.2.2.2.2.2.2.2.2.2.2.2.2.2.2.2.2.2.2.2.2.2.2.2.2.2.2.2.2.2.2.2.2.2.2.2.2.2.2.2.2.2.2.2.2.2.1
theorem dX2_least_98 : decode cX2_least 98 = .ok (.iinc 5 1, 3) := DX2_least.2.2.2.2.2.2.2.2.2.2.2.2.2.2.2.2.2.2.2.2.2.2.2.2.2.2.2.2.2.2.2.2.2.2.2.2.2.2.2.2.2.2.2.2.2.2.2.2.2.2.2.2.1
theorem dX2_least_101 : decode cX2_least 101 = .ok (.goto (-95), 3) := DX2_least.2.2.2.2.2.2.2.2.2.2.2.2.2.2.2.2.2.2.2.2.2.2.2.2.2.2.2.2.2.2.2.2.2.2.2.2.2.2.2.2.2.2.2.2.2.2.2.2.2.2.2.2.2.1
theorem dX2_least_104 : decode cX2_least 104 = .ok (.iload 4, 2) := DX2_least.2.2.2.2.2.2.2.2.2.2.2.2.2.2.2.2.2.2.2.2.2.2.2.2.2.2.2.2.2.2.2.2.2.2.2.2.2.2.2.2.2.2.2.2.2.2.2.2.2.2.2.2.2.2.1
theorem dX2_least_106 : decode cX2_least 106 = .ok (.ireturn, 1) := DX2_least.2.2.2.2.2.2.2.2.2.2.2.2.2.2.2.2.2.2.2.2.2.2.2.2.2.2.2.2.2.2.2.2.2.2.2.2.2.2.2.2.2.2.2.2.2.2.2.2.2.2.2.2.2.2.2
theorem dX2_isWithin_0 : decode cX2_isWithin 0 = .ok (.iconst 0, 1) := DX2_isWithin.1
theorem dX2_isWithin_1 : decode cX2_isWithin 1 = .ok (.istore 4, 2) := DX2_isWithin.2.1
theorem dX2_isWithin_3 : decode cX2_isWithin 3 = .ok (.iconst 0, 1) := DX2_isWithin.2.2.1
theorem dX2_isWithin_4 : decode cX2_isWithin 4 = .ok (.istore 5, 2) := DX2_isWithin.2.2.2.1
theorem dX2_isWithin_6 : decode cX2_isWithin 6 = .ok (.iload 5, 2) := DX2_isWithin.2.2.2.2.1
theorem dX2_isWithin_8 : decode cX2_isWithin 8 = .ok (.bipush 120, 2) := DX2_isWithin.2.2.2.2.2.1
theorem dX2_isWithin_10 : decode cX2_isWithin 10 = .ok (.if_icmp .ge 158, 3) := DX2_isWithin.2.2.2.2.2.2.1
theorem dX2_isWithin_13 : decode cX2_isWithin 13 = .ok (.aload_n 0, 1) := DX2_isWithin.2.2.2.2.2.2.2.1
theorem dX2_isWithin_14 : decode cX2_isWithin 14 = .ok (.getfield 7, 3) := DX2_isWithin.2.2.2.2.2.2.2.2.1
theorem dX2_isWithin_17 : decode cX2_isWithin 17 = .ok (.iload 5, 2) := DX2_isWithin.2.2.2.2.2.2.2.2.2.1
theorem dX2_isWithin_19 : decode cX2_isWithin 19 = .ok (.iconst 2, 1) := DX2_isWithin.2.2.2.2.2.2.2.2.2.2.1
theorem dX2_isWithin_20 : decode cX2_isWithin 20 = .ok (.idiv, 1) := DX2_isWithin.2.2.2.2.2.2.2.2.2.2.2.1
theorem dX2_isWithin_21 : decode cX2_isWithin 21 = .ok (.baload, 1) := DX2_isWithin.2.2.2.2.2.2.2.2.2.2.2.2.1
theorem dX2_isWithin_22 : decode cX2_isWithin 22 = .ok (.ifCond .eq 140, 3) := DX2_isWithin.2.2.2.2.2.2.2.2.2.2.2.2.2.1
theorem dX2_isWithin_25 : decode cX2_isWithin 25 = .ok (.aload_n 0, 1) := DX2_isWithin.2.2.2.2.2.2.2.2.2.2.2.2.2.2.1
theorem dX2_isWithin_26 : decode cX2_isWithin 26 = .ok (.getfield 26, 3) := DX2_isWithin.2.2.2.2.2.2.2.2.2.2.2.2.2.2.2.1
theorem dX2_isWithin_29 : decode cX2_isWithin 29 = .ok (.iload 5, 2) := DX2_isWithin.2.2.2.2.2.2.2.2.2.2.2.2.2.2.2.2.1
theorem dX2_isWithin_31 : decode cX2_isWithin 31 = .ok (.iaload, 1) := DX2_isWithin.2.2.2.2.2.2.2.2.2.2.2.2.2.2.2.2.2.1
theorem dX2_isWithin_32 : decode cX2_isWithin 32 = .ok (.iload_n 1, 1) := DX2_isWithin.2.2.2.2.2.2.2.2.2.2.2.2.2.2.2.2.2.2.1
theorem dX2_isWithin_33 : decode cX2_isWithin 33 = .ok (.if_icmp .ne 129, 3) := DX2_isWithin.2.2.2.2.2.2.2.2.2.2.2.2.2.2.2.2.2.2.2.1
theorem dX2_isWithin_36 : decode cX2_isWithin 36 = .ok (.aload_n 0, 1) := DX2_isWithin.2.2.2.2.2.2.2.2.2.2.2.2.2.2.2.2.2.2.2.2.1
theorem dX2_isWithin_37 : decode cX2_isWithin 37 = .ok (.getfield 13, 3) := DX2_isWithin.2.2.2.2.2.2.2.2.2.2.2.2.2.2.2.2.2.2.2.2.2.1
theorem dX2_isWithin_40 : decode cX2_isWithin 40 = .ok (.iload 5, 2) := DX2_isWithin.2.2.2.2.2.2.2.2.2.2.2.2.2.2.2.2.2.2.2.2.2.2.1
theorem dX2_isWithin_42 : decode cX2_isWithin 42 = .ok (.iaload, 1) := DX2_isWithin.2.2.2.2.2.2.2.2.2.2.2.2.2.2.2.2.2.2.2.2.2.2.2.1
theorem dX2_isWithin_43 : decode cX2_isWithin 43 = .ok (.aload_n 0, 1) := DX2_isWithin.2.2.2.2.2.2.2.2.2.2.2.2.2.2.2.2.2.2.2.2.2.2.2.2.1
theorem dX2_isWithin_44 : decode cX2_isWithin 44 = .ok (.getfield 13, 3) := DX2_isWithin.2.2.2.2.2.2.2.2.2.2.2.2.2.2.2.2.2.2.2.2.2.2.2.2.2.1
theorem dX2_isWithin_47 : decode cX2_isWithin 47 = .ok (.iload 5, 2) := DX2_isWithin.2.2.2.2.2.2.2.2.2.2.2.2.2.2.2.2.2.2.2.2.2.2.2.2.2.2.1
theorem dX2_isWithin_49 : decode cX2_isWithin 49 = .ok (.invokestatic 80, 3) := DX2_isWithin.2.2.2.2.2.2.2.2.2.2.2.2.2.2.2.2.2.2.2.2.2.2.2.2.2.2.2.1
theorem dX2_isWithin_52 : decode cX2_isWithin 52 = .ok (.iaload, 1) := DX2_isWithin.2.2.2.2.2.2.2.2.2.2.2.2.2.2.2.2.2.2.2.2.2.2.2.2.2.2.2.2.1
theorem dX2_isWithin_53 : decode cX2_isWithin 53 = .ok (.if_icmp .ge 8, 3) := DX2_isWithin.2.2.2.2.2.2.2.2.2.2.2.2.2.2.2.2.2.2.2.2.2.2.2.2.2.2.2.2.2.1
theorem dX2_isWithin_56 : decode cX2_isWithin 56 = .ok (.iload 5, 2) := DX2_isWithin.2.2.2.2.2.2.2.2.2.2.2.2.2.2.2.2.2.2.2.2.2.2.2.2.2.2.2.2.2.2.1
theorem dX2_isWithin_58 : decode cX2_isWithin 58 = .ok (.goto 8, 3) := DX2_isWithin.2.2.2.2.2.2.2.2.2.2.2.2.2.2.2.2.2.2.2.2.2.2.2.2.2.2.2.2.2.2.2.1
theorem dX2_isWithin_61 : decode cX2_isWithin 61 = .ok (.iload 5, 2) := DX2_isWithin.2.2.2.2.2.2.2.2.2.2.2.2.2.2.2.2.2.2.2.2.2.2.2.2.2.2.2.2.2.2.2.2.1
theorem dX2_isWithin_63 : decode cX2_isWithin 63 = .ok (.invokestatic 80, 3) := DX2_isWithin.2.2.2.2.2.2.2.2.2.2.2.2.2.2.2.2.2.2.2.2.2.2.2.2.2.2.2.2.2.2.2.2.2.1
theorem dX2_isWithin_66 : decode cX2_isWithin 66 = .ok (.istore 6, 2) := DX2_isWithin.2.2.2.2.2.2.2.2.2.2.2.2.2.2.2.2.2.2.2.2.2.2.2.2.2.2.2.2.2.2.2.2.2.2.1
theorem dX2_isWithin_68 : decode cX2_isWithin 68 = .ok (.iload 6, 2) := DX2_isWithin.2.2.2.2.2.2.2.2.2.2.2.2.2.2.2.2.2.2.2.2.2.2.2.2.2.2.2.2.2.2.2.2.2.2.2.1
theorem dX2_isWithin_70 : decode cX2_isWithin 70 = .ok (.invokestatic 80, 3) := DX2_isWithin.2.2.2.2.2.2.2.2.2.2.2.2.2.2.2.2.2.2.2.2.2.2.2.2.2.2.2.2.2.2.2.2.2.2.2.2.1
theorem dX2_isWithin_73 : decode cX2_isWithin 73 = .ok (.istore 7, 2) := DX2_isWithin.2.2.2.2.2.2.2.2.2.2.2.2.2.2.2.2.2.2.2.2.2.2.2.2.2.2.2.2.2.2.2.2.2.2.2.2.2.1
theorem dX2_isWithin_75 : decode cX2_isWithin 75 = .ok (.aload_n 0, 1) := DX2_isWithin.2.2.2.2.2.2.2.2.2.2.2.2.2.2.2.2.2.2.2.2.2.2.2.2.2.2.2.2.2.2.2.2.2.2.2.2.2.2.1
theorem dX2_isWithin_76 : decode cX2_isWithin 76 = .ok (.getfield 13, 3) := DX2_isWithin.2.2.2.2.2.2.2.2.2.2.2.2.2.2.2.2.2.2.2.2.2.2.2.2.2.2.2.2.2.2.2.2.2.2.2.2.2.2.2.1
theorem dX2_isWithin_79 : decode cX2_isWithin 79 = .ok (.iload 6, 2) := DX2_isWithin.2.2.2.2.2.2.2.2.2.2.2.2.2.2.2.2.2.2.2.2.2.2.2.2.2.2.2.2.2.2.2.2.2.2.2.2.2.2.2.2.1
theorem dX2_isWithin_81 : decode cX2_isWithin 81 = .ok (.iaload, 1) := DX2_isWithin.2.2.2.2.2.2.2.2.2.2.2.2.2.2.2.2.2.2.2.2.2.2.2.2.2.2.2.2.2.2.2.2.2.2.2.2.2.2.2.2.2.1
theorem dX2_isWithin_82 : decode cX2_isWithin 82 = .ok (.iload_n 2, 1) := DX2_isWithin.2.2.2.2.2.2.2.2.2.2.2.2.2.2.2.2.2.2.2.2.2.2.2.2.2.2.2.2.2.2.2.2.2.2.2.2.2.2.2.2.2.2.1
theorem dX2_isWithin_83 : decode cX2_isWithin 83 = .ok (.if_icmp .gt 54, 3) := DX2_isWithin.2.2.2.2.2.2.2.2.2.2.2.2.2.2.2.2.2.2.2.2.2.2.2.2.2.2.2.2.2.2.2.2.2.2.2.2.2.2.2.2.2.2.2.1
theorem dX2_isWithin_86 : decode cX2_isWithin 86 = .ok (.iload_n 2, 1) := DX2_isWithin.2.2.2.2.2.2.2.2.2.2.2.2.2.2.2.2.2.2.2.2.2.2.2.2.2.2.2.2.2.2.2.2.2.2.2.2.2.2.2.2.2.2.2.2.1
theorem dX2_isWithin_87 : decode cX2_isWithin 87 = .ok (.aload_n 0, 1) := DX2_isWithin.2.2.2.2.2.2.2.2.2.2.2.2.2.2.2.2.2.2.2.2.2.2.2.2.2.2.2.2.2.2.2.2.2.2.2.2.2.2.2.2.2.2.2.2.2.1
theorem dX2_isWithin_88 : decode cX2_isWithin 88 = .ok (.getfield 13, 3) := DX2_isWithin.2.2.2.2.2.2.2.2.2.2.2.2.2.2.2.2.2.2.2.2.2.2.2.2.2.2.2.2.2.2.2.2.2.2.2.2.2.2.2.2.2.2.2.2.2.2.1
theorem dX2_isWithin_91 : decode cX2_isWithin 91 = .ok (.iload 7, 2) := DX2_isWithin.2.2.2.2.2.2.2.2.2.2.2.2.2.2.2.2.2.2.2.2.2.2.2.2.2.2.2.2.2.2.2.2.2.2.2.2.2.2.2.2.2.2.2.2.2.2.2.1
theorem dX2_isWithin_93 : decode cX2_isWithin 93 = .ok (.iaload, 1) := DX2_isWithin.2.2.2.2.2.2.2.2.2.2.2.2.2.2.2.2.2.2.2.2.2.2.2.2.2.2.2.2.2.2.2.2.2.2.2.2.2.2.2.2.2.2.2.2.2.2.2.2.1
theorem dX2_isWithin_94 : decode cX2_isWithin 94 = .ok (.if_icmp .ge 43, 3) := DX2_isWithin.2.2.2.2.2.2.2.2.2.2.2.2.2.2.2.2.2.2.2.2.2.2.2.2.2.2.2.2.2.2.2.2.2.2.2.2.2.2.2.2.2.2.2.2.2.2.2.2.2.1
theorem dX2_isWithin_97 : decode cX2_isWithin 97 = .ok (.aload_n 0, 1) := DX2_isWithin.2.2.2.2.2.2.2.2.2.2.2.2.2.2.2.2.2.2.2.2.2.2.2.2.2.2.2.2.2.2.2.2.2.2.2.2.2.2.2.2.2.2.2.2.2.2.2.2.2.2.1
theorem dX2_isWithin_98 : decode cX2_isWithin 98 = .ok (.getfield 13, 3) := DX2_isWithin.2.2.2.2.2.2.2.2.2.2.2.2.2.2.2.2.2.2.2.2.2.2.2.2.2.2.2.2.2.2.2.2.2.2.2.2.2.2.2.2.2.2.2.2.2.2.2.2.2.2.2.1
theorem dX2_isWithin_101 : decode cX2_isWithin 101 = .ok (.iload 6, 2) := DX2_isWithin.2.2.2.2.2.2.2.2.2.2.2.2.2.2.2.2.2.2.2.2.2.2.2.2.2.2.2.2.2.2.2.2.2.2.2.2.2.2.2.2.2.2.2.2.2.2.2.2.2.2.2.2.1
theorem dX2_isWithin_103 : decode cX2_isWithin 103 = .ok (.iaload, 1) := DX2_isWithin.2.2.2.2.2.2.2.2.2.2.2.2.2.2.2.2.2.2.2.2.2.2.2.2.2.2.2.2.2.2.2.2.2.2.2.2.2.2.2.2.2.2.2.2.2.2.2.2.2.2.2.2.2.1
theorem dX2_isWithin_104 : decode cX2_isWithin 104 = .ok (.aload_n 0, 1) := DX2_isWithin.2.2.2.2.2.2.2.2.2.2.2.2.2.2.2.2.2.2.2.2.2.2.2.2.2.2.2.2.2.2.2.2.2.2.2.2.2.2.2.2.2.2.2.2.2.2.2.2.2.2.2.2.2.2.1
theorem dX2_isWithin_105 : decode cX2_isWithin 105 = .ok (.getfield 17, 3) := DX2_isWithin.2.2.2.2.2.2.2.2.2.2.2.2.2.2.2.2.2.2.2.2.2.2.2.2.2.2.2.2.2.2.2.2.2.2.2.2.2.2.2.2.2.2.2.2.2.2.2.2.2.2.2.2.2.2.2.1
theorem dX2_isWithin_108 : decode cX2_isWithin 108 = .ok (.iload 6, 2) := DX2_isWithin.2.2.2.2.2.2.2.2.2.2.2.2.2.2.2.2.2.2.2.2.2.2.2.2.2.2.2.2.2.2.2.2.2.2.2.2.2.2.2.2.2.2.2.2.2.2.2.2.2.2.2.2.2.2.2.2.1
theorem dX2_isWithin_110 : decode cX2_isWithin 110 = .ok (.iaload, 1) := DX2_isWithin.2.2.2.2.2.2.2.2.2.2.2.2.2.2.2.2.2.2.2.2.2.2.2.2.2.2.2.2.2.2.2.2.2.2.2.2.2.2.2.2.2.2.2.2.2.2.2.2.2.2.2.2.2.2.2.2.2.1
theorem dX2_isWithin_111 : decode cX2_isWithin 111 = .ok (.aload_n 0, 1) := DX2_isWithin.2.2.2.2.2.2.2.2.2.2.2.2.2.2.2.2.2.2.2.2.2.2.2.2.2.2.2.2.2.2.2.2.2.2.2.2.2.2.2.2.2.2.2.2.2.2.2.2.2.2.2.2.2.2.2.2.2.2.1
theorem dX2_isWithin_112 : decode cX2_isWithin 112 = .ok (.getfield 13, 3) := DX2_isWithin.2.2.2.2.2.2.2.2.2.2.2.2.2.2.2.2.2.2.2.2.2.2.2.2.2.2.2.2.2.2.2.2.2.2.2.2.2.2.2.2.2.2.2.2.2.2.2.2.2.2.2.2.2.2.2.2.2.2.2.1
theorem dX2_isWithin_115 : decode cX2_isWithin 115 = .ok (.iload 7, 2) := DX2_isWithin.2.2.2.2.2.2.2.2.2.2.2.2.2.2.2.2.2.2.2.2.2.2.2.2.2.2.2.2.2.2.2.2.2.2.2.2.2.2.2.2.2.2.2.2.2.2.2.2.2.2.2.2.2.2.2.2.2.2.2.2.1
theorem dX2_isWithin_117 : decode cX2_isWithin 117 = .ok (.iaload, 1) := DX2_isWithin.2.2.2.2.2.2.2.2.2.2.2.2.2.2.2.2.2.2.2.2.2.2.2.2.2.2.2.2.2.2.2.2.2.2.2.2.2.2.2.2.2.2.2.2.2.2.2.2.2.2.2.2.2.2.2.2.2.2.2.2.2.1
theorem dX2_isWithin_118 : decode cX2_isWithin 118 = .ok (.aload_n 0, 1) := DX2_isWithin.2.2.2.2.2.2.2.2.2.2.2.2.2.2.2.2.2.2.2.2.2.2.2.2.2.2.2.2.2.2.2.2.2.2.2.2.2.2.2.2.2.2.2.2.2.2.2.2.2.2.2.2.2.2.2.2.2.2.2.2.2.2.1
theorem dX2_isWithin_119 : decode cX2_isWithin 119 = .ok (.getfield 17, 3) := DX2_isWithin.2.2.2.2.2.2.2.2.2.2.2.2.2.2.2.2.2.2.2.2.2.2.2.2.2.2.2.2.2.2.2.2.2.2.2.2.2.2.2.2.2.2.2.2.2.2.2.2.2.2.2.2.2.2.2.2.2.2.2.2.2.2.2.1
theorem dX2_isWithin_122 : decode cX2_isWithin 122 = .ok (.iload 7, 2) := DX2_isWithin.2.2.2.2.2.2.2.2.2.2.2.2.2.2.2.2.2.2.2.2.2.2.2.2.2.2.2.2.2.2.2.2.2.2.2.2.2.2.2.2.2.2.2.2.2.2.2.2.2.2.2.2.2.2.2.2.2.2.2.2.2.2.2.2.1
theorem dX2_isWithin_124 : decode cX2_isWithin 124 = .ok (.iaload, 1) := DX2_isWithin.2.2.2.2.2.2.2.2.2.2.2.2.2.2.2.2.2.2.2.2.2.2.2.2.2.2.2.2.2.2.2.2.2.2.2.2.2.2.2.2.2.2.2.2.2.2.2.2.2.2.2.2.2.2.2.2.2.2.2.2.2.2.2.2.2.1
theorem dX2_isWithin_125 : decode cX2_isWithin 125 = .ok (.iload_n 2, 1) := DX2_isWithin.2.2.2.2.2.2.2.2.2.2.2.2.2.2.2.2.2.2.2.2.2.2.2.2.2.2.2.2.2.2.2.2.2.2.2.2.2.2.2.2.2.2.2.2.2.2.2.2.2.2.2.2.2.2.2.2.2.2.2.2.2.2.2.2.2.2.1
theorem dX2_isWithin_126 : decode cX2_isWithin 126 = .ok (.iload_n 3, 1) := DX2_isWithin.2.2.2.2.2.2.2.2.2.2.2.2.2.2.2.2.2.2.2.2.2.2.2.2.2.2.2.2.2.2.2.2.2.2.2.2.2.2.2.2.2.2.2.2.2.2.2.2.2.2.2.2.2.2.2.2.2.2.2.2.2.2.2.2.2.2.2.1
theorem dX2_isWithin_127 : decode cX2_isWithin 127 = .ok (.invokestatic 53, 3) := DX2_isWithin.2.2.2.2.2.2.2.2.2.2.2.2.2.2.2.2.2.2.2.2.2.2.2.2.2.2.2.2.2.2.2.2.2.2.2.2.2.2.2.2.2.2.2.2.2.2.2.2.2.2.2.2.2.2.2.2.2.2.2.2.2.2.2.2.2.2.2.2.1
theorem dX2_isWithin_130 : decode cX2_isWithin 130 = .ok (.ifCond .ge 7, 3) := DX2_isWithin.2.2.2.2.2.2.2.2.2.2.2.2.2.2.2.2.2.2.2.2.2.2.2.2.2.2.2.2.2.2.2.2.2.2.2.2.2.2.2.2.2.2.2.2.2.2.2.2.2.2.2.2.2.2.2.2.2.2.2.2.2.2.2.2.2.2.2.2.2.1
theorem dX2_isWithin_133 : decode cX2_isWithin 133 = .ok (.iconst 1, 1) := DX2_isWithin.2.2.2.2.2.2.2.2.2.2.2.2.2.2.2.2.2.2.2.2.2.2.2.2.2.2.2.2.2.2.2.2.2.2.2.2.2.2.2.2.2.2.2.2.2.2.2.2.2.2.2.2.2.2.2.2.2.2.2.2.2.2.2.2.2.2.2.2.2.2.1
theorem dX2_isWithin_134 : decode cX2_isWithin 134 = .ok (.goto 4, 3) := DX2_isWithin.2.2.2.2.2.2.2.2.2.2.2.2.2.2.2.2.2.2.2.2.2.2.2.2.2.2.2.2.2.2.2.2.2.2.2.2.2.2.2.2.2.2.2.2.2.2.2.2.2.2.2.2.2.2.2.2.2.2.2.2.2.2.2.2.2.2.2.2.2.2.2.1
theorem dX2_isWithin_137 : decode cX2_isWithin 137 = .ok (.iconst 0, 1) := DX2_isWithin.2.2.2.2.2.2.2.2.2.2.2.2.2.2.2.2.2.2.2.2.2.2.2.2.2.2.2.2.2.2.2.2.2.2.2.2.2.2.2.2.2.2.2.2.2.2.2.2.2.2.2.2.2.2.2.2.2.2.2.2.2.2.2.2.2.2.2.2.2.2.2.2.1
theorem dX2_isWithin_138 : decode cX2_isWithin 138 = .ok (.istore 8, 2) := DX2_isWithin.2.2.2.2.2.2.2.2.2.2.2.2.2.2.2.2.2.2.2.2.2.2.2.2.2.2.2.2.2.2.2.2.2.2.2.2.2.2.2.2.2.2.2.2.2.2.2.2.2.2.2.2.2.2.2.2.2.2.2.2.2.2.2.2.2.2.2.2.2.2.2.2.2.1
theorem dX2_isWithin_140 : decode cX2_isWithin 140 = .ok (.iload 8, 2) := DX2_isWithin.2.2.2.2.2.2.2.2.2.2.2.2.2.2.2.2.2.2.2.2.2.2.2.2.2.2.2.2.2.2.2.2.2.2.2.2.2.2.2.2.2.2.2.2.2.2.2.2.2.2.2.2.2.2.2.2.2.2.2.2.2.2.2.2.2.2.2.2.2.2.2.2.2.2.1
theorem dX2_isWithin_142 : decode cX2_isWithin 142 = .ok (.ifCond .eq 16, 3) := DX2_isWithin.2.2.2.2.2.2.2.2.2.2.2.2.2.2.2.2.2.2.2.2.2.2.2.2.2.2.2.2.2.2.2.2.2.2.2.2.2.2.2.2.2.2.2.2.2.2.2.2.2.2.2.2.2.2.2.2.2.2.2.2.2.2.2.2.2.2.2.2.2.2.2.2.2.2.2.1
theorem dX2_isWithin_145 : decode cX2_isWithin 145 = .ok (.iload 4, 2) := DX2_isWithin.2.2.2.2.2.2.2.2.2.2.2.2.2.2.2.2.2.2.2.2.2.2.2.2.2.2.2.2.2.2.2.2.2.2.2.2.2.2.2.2.2.2.2.2.2.2.2.2.2.2.2.2.2.2.2.2.2.2.2.2.2.2.2.2.2.2.2.2.2.2.2.2.2.2.2.2.1
theorem dX2_isWithin_147 : decode cX2_isWithin 147 = .ok (.ifCond .ne 7, 3) := DX2_isWithin.2.2.2.2.2.2.2.2.2.2.2.2.2.2.2.2.2.2.2.2.2.2.2.2.2.2.2.2.2.2.2.2.2.2.2.2.2.2.2.2.2.2.2.2.2.2.2.2.2.2.2.2.2.2.2.2.2.2.2.2.2.2.2.2.2.2.2.2.2.2.2.2.2.2.2.2.2.1
theorem dX2_isWithin_150 : decode cX2_isWithin 150 = .ok (.iconst 1, 1) := DX2_isWithin.2.2.2.2.2.2.2.2.2.2.2.2.2.2.2.2.2.2.2.2.2.2.2.2.2.2.2.2.2.2.2.2.2.2.2.2.2.2.2.2.2.2.2.2.2.2.2.2.2.2.2.2.2.2.2.2.2.2.2.2.2.2.2.2.2.2.2.2.2.2.2.2.2.2.2.2.2.2.1
theorem dX2_isWithin_151 : decode cX2_isWithin 151 = .ok (.goto 9, 3) := DX2_isWithin.2.2.2.2.2.2.2.2.2.2.2.2.2.2.2.2.2.2.2.2.2.2.2.2.2.2.2.2.2.2.2.2.2.2.2.2.2.2.2.2.2.2.2.2.2.2.2.2.2.2.2.2.2.2.2.2.2.2.2.2.2.2.2.2.2.2.2.2.2.2.2.2.2.2.2.2.2.2.2.1
theorem dX2_isWithin_154 : decode cX2_isWithin 154 = .ok (.iconst 0, 1) := DX2_isWithin.2.2.2.2.2.2.2.2.2.2.2.2.2.2.2.2.2.2.2.2.2.2.2.2.2.2.2.2.2.2.2.2.2.2.2.2.2.2.2.2.2.2.2.2.2.2.2.2.2.2.2.2.2.2.2.2.2.2.2.2.2.2.2.2.2.2.2.2.2.2.2.2.2.2.2.2.2.2.2.2.1
theorem dX2_isWithin_155 : decode cX2_isWithin 155 = .ok (.goto 5, 3) := DX2_isWithin.2.2.2.2.2.2.2.2.2.2.2.2.2.2.2.2.2.2.2.2.2.2.2.2.2.2.2.2.2.2.2.2.2.2.2.2.2.2.2.2.2.2.2.2.2.2.2.2.2.2.2.2.2.2.2.2.2.2.2.2.2.2.2.2.2.2.2.2.2.2.2.2.2.2.2.2.2.2.2.2.2.1
theorem dX2_isWithin_158 : decode cX2_isWithin 158 = .ok (.iload 4, 2) := DX2_isWithin.2.2.2.2.2.2.2.2.2.2.2.2.2.2.2.2.2.2.2.2.2.2.2.2.2.2.2.2.2.2.2.2.2.2.2.2.2.2.2.2.2.2.2.2.2.2.2.2.2.2.2.2.2.2.2.2.2.2.2.2.2.2.2.2.2.2.2.2.2.2.2.2.2.2.2.2.2.2.2.2.2.2.1
theorem dX2_isWithin_160 : decode cX2_isWithin 160 = .ok (.istore 4, 2) := DX2_isWithin.2.2.2.2.2.2.2.2.2.2.2.2.2.2.2.2.2.2.2.2.2.2.2.2.2.2.2.2.2.2.2.2.2.2.2.2.2.2.2.2.2.2.2.2.2.2.2.2.2.2.2.2.2.2.2.2.2.2.2.2.2.2.2.2.2.2.2.2.2.2.2.2.2.2.2.2.2.2.2.2.2.2.2.1
theorem dX2_isWithin_162 : decode cX2_isWithin 162 = .ok (.iinc 5 1, 3) := DX2_isWithin.2.2.2.2.2.2.2.2.2.2.2.2.2.2.2.2.2.2.2.2.2.2.2.2.2.2.2.2.2.2.2.2.2.2.2.2.2.2.2.2.2.2.2.2.2.2.2.2.2.2.2.2.2.2.2.2.2.2.2.2.2.2.2.2.2.2.2.2.2.2.2.2.2.2.2.2.2.2.2.2.2.2.2.2.1
theorem dX2_isWithin_165 : decode cX2_isWithin 165 = .ok (.goto (-159), 3) := DX2_isWithin.2.2.2.2.2.2.2.2.2.2.2.2.2.2.2.2.2.2.2.2.2.2.2.2.2.2.2.2.2.2.2.2.2.2.2.2.2.2.2.2.2.2.2.2.2.2.2.2.2.2.2.2.2.2.2.2.2.2.2.2.2.2.2.2.2.2.2.2.2.2.2.2.2.2.2.2.2.2.2.2.2.2.2.2.2.1
theorem dX2_isWithin_168 : decode cX2_isWithin 168 = .ok (.iload 4, 2) := DX2_isWithin.2.2.2.2.2.2.2.2.2.2.2.2.2.2.2.2.2.2.2.2.2.2.2.2.2.2.2.2.2.2.2.2.2.2.2.2.2.2.2.2.2.2.2.2.2.2.2.2.2.2.2.2.2.2.2.2.2.2.2.2.2.2.2.2.2.2.2.2.2.2.2.2.2.2.2.2.2.2.2.2.2.2.2.2.2.2.1
theorem dX2_isWithin_170 : decode cX2_isWithin 170 = .ok (.ireturn, 1) := DX2_isWithin.2.2.2.2.2.2.2.2.2.2.2.2.2.2.2.2.2.2.2.2.2.2.2.2.2.2.2.2.2.2.2.2.2.2.2.2.2.2.2.2.2.2.2.2.2.2.2.2.2.2.2.2.2.2.2.2.2.2.2.2.2.2.2.2.2.2.2.2.2.2.2.2.2.2.2.2.2.2.2.2.2.2.2.2.2.2.2
theorem dX2_left_0 : decode cX2_left 0 = .ok (.aload_n 0, 1) := DX2_left.1
theorem dX2_left_1 : decode cX2_left 1 = .ok (.getfield 36, 3) := DX2_left.2.1
theorem dX2_left_4 : decode cX2_left 4 = .ok (.aload_n 0, 1) := DX2_left.2.2.1
theorem dX2_left_5 : decode cX2_left 5 = .ok (.getfield 26, 3) := DX2_left.2.2.2.1
theorem dX2_left_8 : decode cX2_left 8 = .ok (.iload_n 1, 1) := DX2_left.2.2.2.2.1
theorem dX2_left_9 : decode cX2_left 9 = .ok (.iaload, 1) := DX2_left.2.2.2.2.2.1
theorem dX2_left_10 : decode cX2_left 10 = .ok (.iaload, 1) := DX2_left.2.2.2.2.2.2.1
theorem dX2_left_11 : decode cX2_left 11 = .ok (.ireturn, 1) := DX2_left.2.2.2.2.2.2.2
theorem dX2_begins_0 : decode cX2_begins 0 = .ok (.aload_n 0, 1) := DX2_begins.1
theorem dX2_begins_1 : decode cX2_begins 1 = .ok (.aload_n 0, 1) := DX2_begins.2.1
theorem dX2_begins_2 : decode cX2_begins 2 = .ok (.iload_n 1, 1) := DX2_begins.2.2.1
theorem dX2_begins_3 : decode cX2_begins 3 = .ok (.invokevirtual 131, 3) := DX2_begins.2.2.2.1
theorem dX2_begins_6 : decode cX2_begins 6 = .ok (.ifCond .eq 7, 3) := DX2_begins.2.2.2.2.1
theorem dX2_begins_9 : decode cX2_begins 9 = .ok (.iconst 0, 1) := DX2_begins.2.2.2.2.2.1
theorem dX2_begins_10 : decode cX2_begins 10 = .ok (.goto 4, 3) := DX2_begins.2.2.2.2.2.2.1
theorem dX2_begins_13 : decode cX2_begins 13 = .ok (.iconst 1, 1) := DX2_begins.2.2.2.2.2.2.2.1
theorem dX2_begins_14 : decode cX2_begins 14 = .ok (.invokevirtual 69, 3) := DX2_begins.2.2.2.2.2.2.2.2.1
theorem dX2_begins_17 : decode cX2_begins 17 = .ok (.ifCond .eq 7, 3) := DX2_begins.2.2.2.2.2.2.2.2.2.1
theorem dX2_begins_20 : decode cX2_begins 20 = .ok (.iconst 0, 1) := DX2_begins.2.2.2.2.2.2.2.2.2.2.1
theorem dX2_begins_21 : decode cX2_begins 21 = .ok (.goto 22, 3) := DX2_begins.2.2.2.2.2.2.2.2.2.2.2.1
theorem dX2_begins_24 : decode cX2_begins 24 = .ok (.iload_n 2, 1) := DX2_begins.2.2.2.2.2.2.2.2.2.2.2.2.1
theorem dX2_begins_25 : decode cX2_begins 25 = .ok (.ifCond .eq 12, 3) := DX2_begins.2.2.2.2.2.2.2.2.2.2.2.2.2.1
theorem dX2_begins_28 : decode cX2_begins 28 = .ok (.aload_n 0, 1) := DX2_begins.2.2.2.2.2.2.2.2.2.2.2.2.2.2.1
theorem dX2_begins_29 : decode cX2_begins 29 = .ok (.getfield 17, 3) := DX2_begins.2.2.2.2.2.2.2.2.2.2.2.2.2.2.2.1
theorem dX2_begins_32 : decode cX2_begins 32 = .ok (.iload_n 1, 1) := DX2_begins.2.2.2.2.2.2.2.2.2.2.2.2.2.2.2.2.1
theorem dX2_begins_33 : decode cX2_begins 33 = .ok (.iaload, 1) := DX2_begins.2.2.2.2.2.2.2.2.2.2.2.2.2.2.2.2.2.1
theorem dX2_begins_34 : decode cX2_begins 34 = .ok (.goto 9, 3) := DX2_begins.2.2.2.2.2.2.2.2.2.2.2.2.2.2.2.2.2.2.1
theorem dX2_begins_37 : decode cX2_begins 37 = .ok (.aload_n 0, 1) := DX2_begins.2.2.2.2.2.2.2.2.2.2.2.2.2.2.2.2.2.2.2.1
theorem dX2_begins_38 : decode cX2_begins 38 = .ok (.getfield 13, 3) := DX2_begins.2.2.2.2.2.2.2.2.2.2.2.2.2.2.2.2.2.2.2.2.1
theorem dX2_begins_41 : decode cX2_begins 41 = .ok (.iload_n 1, 1) := DX2_begins.2.2.2.2.2.2.2.2.2.2.2.2.2.2.2.2.2.2.2.2.2.1
theorem dX2_begins_42 : decode cX2_begins 42 = .ok (.iaload, 1) := DX2_begins.2.2.2.2.2.2.2.2.2.2.2.2.2.2.2.2.2.2.2.2.2.2.1
theorem dX2_begins_43 : decode cX2_begins 43 = .ok (.ireturn, 1) := DX2_begins.2.2.2.2.2.2.2.2.2.2.2.2.2.2.2.2.2.2.2.2.2.2.2
theorem dX2_isHalf_0 : decode cX2_isHalf 0 = .ok (.iload_n 1, 1) := DX2_isHalf.1
theorem dX2_isHalf_1 : decode cX2_isHalf 1 = .ok (.ifCond .lt 24, 3) := DX2_isHalf.2.1
theorem dX2_isHalf_4 : decode cX2_isHalf 4 = .ok (.iload_n 1, 1) := DX2_isHalf.2.2.1
theorem dX2_isHalf_5 : decode cX2_isHalf 5 = .ok (.bipush 120, 2) := DX2_isHalf.2.2.2.1
theorem dX2_isHalf_7 : decode cX2_isHalf 7 = .ok (.if_icmp .ge 18, 3) := DX2_isHalf.2.2.2.2.1
theorem dX2_isHalf_10 : decode cX2_isHalf 10 = .ok (.aload_n 0, 1) := DX2_isHalf.2.2.2.2.2.1
theorem dX2_isHalf_11 : decode cX2_isHalf 11 = .ok (.getfield 7, 3) := DX2_isHalf.2.2.2.2.2.2.1
theorem dX2_isHalf_14 : decode cX2_isHalf 14 = .ok (.iload_n 1, 1) := DX2_isHalf.2.2.2.2.2.2.2.1
theorem dX2_isHalf_15 : decode cX2_isHalf 15 = .ok (.iconst 2, 1) := DX2_isHalf.2.2.2.2.2.2.2.2.1
theorem dX2_isHalf_16 : decode cX2_isHalf 16 = .ok (.idiv, 1) := DX2_isHalf.2.2.2.2.2.2.2.2.2.1
theorem dX2_isHalf_17 : decode cX2_isHalf 17 = .ok (.baload, 1) := DX2_isHalf.2.2.2.2.2.2.2.2.2.2.1
theorem dX2_isHalf_18 : decode cX2_isHalf 18 = .ok (.ifCond .eq 7, 3) := DX2_isHalf.2.2.2.2.2.2.2.2.2.2.2.1
theorem dX2_isHalf_21 : decode cX2_isHalf 21 = .ok (.iconst 1, 1) := DX2_isHalf.2.2.2.2.2.2.2.2.2.2.2.2.1
theorem dX2_isHalf_22 : decode cX2_isHalf 22 = .ok (.goto 4, 3) := DX2_isHalf.2.2.2.2.2.2.2.2.2.2.2.2.2.1
theorem dX2_isHalf_25 : decode cX2_isHalf 25 = .ok (.iconst 0, 1) := DX2_isHalf.2.2.2.2.2.2.2.2.2.2.2.2.2.2.1
theorem dX2_isHalf_26 : decode cX2_isHalf 26 = .ok (.ireturn, 1) := DX2_isHalf.2.2.2.2.2.2.2.2.2.2.2.2.2.2.2
theorem dX2_next_0 : decode cX2_next 0 = .ok (.aload_n 0, 1) := DX2_next.1
theorem dX2_next_1 : decode cX2_next 1 = .ok (.aload_n 0, 1) := DX2_next.2.1
theorem dX2_next_2 : decode cX2_next 2 = .ok (.iload_n 1, 1) := DX2_next.2.2.1
theorem dX2_next_3 : decode cX2_next 3 = .ok (.invokevirtual 131, 3) := DX2_next.2.2.2.1
theorem dX2_next_6 : decode cX2_next 6 = .ok (.ifCond .eq 7, 3) := DX2_next.2.2.2.2.1
theorem dX2_next_9 : decode cX2_next 9 = .ok (.iconst 0, 1) := DX2_next.2.2.2.2.2.1
theorem dX2_next_10 : decode cX2_next 10 = .ok (.goto 4, 3) := DX2_next.2.2.2.2.2.2.1
theorem dX2_next_13 : decode cX2_next 13 = .ok (.iconst 1, 1) := DX2_next.2.2.2.2.2.2.2.1
theorem dX2_next_14 : decode cX2_next 14 = .ok (.invokevirtual 69, 3) := DX2_next.2.2.2.2.2.2.2.2.1
theorem dX2_next_17 : decode cX2_next 17 = .ok (.ifCond .eq 5, 3) := DX2_next.2.2.2.2.2.2.2.2.2.1
theorem dX2_next_20 : decode cX2_next 20 = .ok (.iconst 0, 1) := DX2_next.2.2.2.2.2.2.2.2.2.2.1
theorem dX2_next_21 : decode cX2_next 21 = .ok (.ireturn, 1) := DX2_next.2.2.2.2.2.2.2.2.2.2.2.1
theorem dX2_next_22 : decode cX2_next 22 = .ok (.aload_n 0, 1) := DX2_next.2.2.2.2.2.2.2.2.2.2.2.2.1
theorem dX2_next_23 : decode cX2_next 23 = .ok (.invokevirtual 125, 3) := DX2_next.2.2.2.2.2.2.2.2.2.2.2.2.2.1
theorem dX2_next_26 : decode cX2_next 26 = .ok (.aload_n 0, 1) := DX2_next.2.2.2.2.2.2.2.2.2.2.2.2.2.2.1
theorem dX2_next_27 : decode cX2_next 27 = .ok (.getfield 20, 3) := DX2_next.2.2.2.2.2.2.2.2.2.2.2.2.2.2.2.1
theorem dX2_next_30 : decode cX2_next 30 = .ok (.iload_n 1, 1) := DX2_next.2.2.2.2.2.2.2.2.2.2.2.2.2.2.2.2.1
theorem dX2_next_31 : decode cX2_next 31 = .ok (.iaload, 1) := DX2_next.2.2.2.2.2.2.2.2.2.2.2.2.2.2.2.2.2.1
theorem dX2_next_32 : decode cX2_next 32 = .ok (.ireturn, 1) := DX2_next.2.2.2.2.2.2.2.2.2.2.2.2.2.2.2.2.2.2
theorem dX2_face_0 : decode cX2_face 0 = .ok (.aload_n 0, 1) := DX2_face.1
theorem dX2_face_1 : decode cX2_face 1 = .ok (.aload_n 0, 1) := DX2_face.2.1
theorem dX2_face_2 : decode cX2_face 2 = .ok (.iload_n 1, 1) := DX2_face.2.2.1
theorem dX2_face_3 : decode cX2_face 3 = .ok (.invokevirtual 131, 3) := DX2_face.2.2.2.1
theorem dX2_face_6 : decode cX2_face 6 = .ok (.ifCond .eq 7, 3) := DX2_face.2.2.2.2.1
theorem dX2_face_9 : decode cX2_face 9 = .ok (.iconst 0, 1) := DX2_face.2.2.2.2.2.1
theorem dX2_face_10 : decode cX2_face 10 = .ok (.goto 4, 3) := DX2_face.2.2.2.2.2.2.1
theorem dX2_face_13 : decode cX2_face 13 = .ok (.iconst 1, 1) := DX2_face.2.2.2.2.2.2.2.1
theorem dX2_face_14 : decode cX2_face 14 = .ok (.invokevirtual 69, 3) := DX2_face.2.2.2.2.2.2.2.2.1
theorem dX2_face_17 : decode cX2_face 17 = .ok (.ifCond .eq 5, 3) := DX2_face.2.2.2.2.2.2.2.2.2.1
theorem dX2_face_20 : decode cX2_face 20 = .ok (.iconst 0, 1) := DX2_face.2.2.2.2.2.2.2.2.2.2.1
theorem dX2_face_21 : decode cX2_face 21 = .ok (.ireturn, 1) := DX2_face.2.2.2.2.2.2.2.2.2.2.2.1
theorem dX2_face_22 : decode cX2_face 22 = .ok (.aload_n 0, 1) := DX2_face.2.2.2.2.2.2.2.2.2.2.2.2.1
theorem dX2_face_23 : decode cX2_face 23 = .ok (.invokevirtual 125, 3) := DX2_face.2.2.2.2.2.2.2.2.2.2.2.2.2.1
theorem dX2_face_26 : decode cX2_face 26 = .ok (.aload_n 0, 1) := DX2_face.2.2.2.2.2.2.2.2.2.2.2.2.2.2.1
theorem dX2_face_27 : decode cX2_face 27 = .ok (.iload_n 1, 1) := DX2_face.2.2.2.2.2.2.2.2.2.2.2.2.2.2.2.1
theorem dX2_face_28 : decode cX2_face 28 = .ok (.invokevirtual 128, 3) := DX2_face.2.2.2.2.2.2.2.2.2.2.2.2.2.2.2.2.1
theorem dX2_face_31 : decode cX2_face 31 = .ok (.ireturn, 1) := DX2_face.2.2.2.2.2.2.2.2.2.2.2.2.2.2.2.2.2
theorem dX2_piece_0 : decode cX2_piece 0 = .ok (.aload_n 0, 1) := DX2_piece.1
theorem dX2_piece_1 : decode cX2_piece 1 = .ok (.aload_n 0, 1) := DX2_piece.2.1
theorem dX2_piece_2 : decode cX2_piece 2 = .ok (.iload_n 1, 1) := DX2_piece.2.2.1
theorem dX2_piece_3 : decode cX2_piece 3 = .ok (.invokevirtual 131, 3) := DX2_piece.2.2.2.1
theorem dX2_piece_6 : decode cX2_piece 6 = .ok (.ifCond .eq 7, 3) := DX2_piece.2.2.2.2.1
theorem dX2_piece_9 : decode cX2_piece 9 = .ok (.iconst 0, 1) := DX2_piece.2.2.2.2.2.1
theorem dX2_piece_10 : decode cX2_piece 10 = .ok (.goto 4, 3) := DX2_piece.2.2.2.2.2.2.1
theorem dX2_piece_13 : decode cX2_piece 13 = .ok (.iconst 1, 1) := DX2_piece.2.2.2.2.2.2.2.1
theorem dX2_piece_14 : decode cX2_piece 14 = .ok (.invokevirtual 69, 3) := DX2_piece.2.2.2.2.2.2.2.2.1
theorem dX2_piece_17 : decode cX2_piece 17 = .ok (.ifCond .eq 5, 3) := DX2_piece.2.2.2.2.2.2.2.2.2.1
theorem dX2_piece_20 : decode cX2_piece 20 = .ok (.iconst 0, 1) := DX2_piece.2.2.2.2.2.2.2.2.2.2.1
theorem dX2_piece_21 : decode cX2_piece 21 = .ok (.ireturn, 1) := DX2_piece.2.2.2.2.2.2.2.2.2.2.2.1
theorem dX2_piece_22 : decode cX2_piece 22 = .ok (.aload_n 0, 1) := DX2_piece.2.2.2.2.2.2.2.2.2.2.2.2.1
theorem dX2_piece_23 : decode cX2_piece 23 = .ok (.invokevirtual 125, 3) := DX2_piece.2.2.2.2.2.2.2.2.2.2.2.2.2.1
theorem dX2_piece_26 : decode cX2_piece 26 = .ok (.aload_n 0, 1) := DX2_piece.2.2.2.2.2.2.2.2.2.2.2.2.2.2.1
theorem dX2_piece_27 : decode cX2_piece 27 = .ok (.getfield 23, 3) := DX2_piece.2.2.2.2.2.2.2.2.2.2.2.2.2.2.2.1
theorem dX2_piece_30 : decode cX2_piece 30 = .ok (.iload_n 1, 1) := DX2_piece.2.2.2.2.2.2.2.2.2.2.2.2.2.2.2.2.1
theorem dX2_piece_31 : decode cX2_piece 31 = .ok (.iaload, 1) := DX2_piece.2.2.2.2.2.2.2.2.2.2.2.2.2.2.2.2.2.1
theorem dX2_piece_32 : decode cX2_piece 32 = .ok (.ireturn, 1) := DX2_piece.2.2.2.2.2.2.2.2.2.2.2.2.2.2.2.2.2.2
theorem dX2_around_0 : decode cX2_around 0 = .ok (.aload_n 0, 1) := DX2_around.1
theorem dX2_around_1 : decode cX2_around 1 = .ok (.invokevirtual 125, 3) := DX2_around.2.1
theorem dX2_around_4 : decode cX2_around 4 = .ok (.aload_n 0, 1) := DX2_around.2.2.1
theorem dX2_around_5 : decode cX2_around 5 = .ok (.iload_n 1, 1) := DX2_around.2.2.2.1
theorem dX2_around_6 : decode cX2_around 6 = .ok (.ifCond .lt 15, 3) := DX2_around.2.2.2.2.1
theorem dX2_around_9 : decode cX2_around 9 = .ok (.iload_n 1, 1) := DX2_around.2.2.2.2.2.1
theorem dX2_around_10 : decode cX2_around 10 = .ok (.aload_n 0, 1) := DX2_around.2.2.2.2.2.2.1
theorem dX2_around_11 : decode cX2_around 11 = .ok (.getfield 101, 3) := DX2_around.2.2.2.2.2.2.2.1
theorem dX2_around_14 : decode cX2_around 14 = .ok (.if_icmp .ge 7, 3) := DX2_around.2.2.2.2.2.2.2.2.1
theorem dX2_around_17 : decode cX2_around 17 = .ok (.iconst 0, 1) := DX2_around.2.2.2.2.2.2.2.2.2.1
theorem dX2_around_18 : decode cX2_around 18 = .ok (.goto 4, 3) := DX2_around.2.2.2.2.2.2.2.2.2.2.1
theorem dX2_around_21 : decode cX2_around 21 = .ok (.iconst 1, 1) := DX2_around.2.2.2.2.2.2.2.2.2.2.2.1
theorem dX2_around_22 : decode cX2_around 22 = .ok (.invokevirtual 69, 3) := DX2_around.2.2.2.2.2.2.2.2.2.2.2.2.1
theorem dX2_around_25 : decode cX2_around 25 = .ok (.ifCond .eq 7, 3) := DX2_around.2.2.2.2.2.2.2.2.2.2.2.2.2.1
theorem dX2_around_28 : decode cX2_around 28 = .ok (.iconst 0, 1) := DX2_around.2.2.2.2.2.2.2.2.2.2.2.2.2.2.1
theorem dX2_around_29 : decode cX2_around 29 = .ok (.goto 13, 3) := DX2_around.2.2.2.2.2.2.2.2.2.2.2.2.2.2.2.1
theorem dX2_around_32 : decode cX2_around 32 = .ok (.aload_n 0, 1) := DX2_around.2.2.2.2.2.2.2.2.2.2.2.2.2.2.2.2.1
theorem dX2_around_33 : decode cX2_around 33 = .ok (.getfield 36, 3) := DX2_around.2.2.2.2.2.2.2.2.2.2.2.2.2.2.2.2.2.1
theorem dX2_around_36 : decode cX2_around 36 = .ok (.aload_n 0, 1) := DX2_around.2.2.2.2.2.2.2.2.2.2.2.2.2.2.2.2.2.2.1
theorem dX2_around_37 : decode cX2_around 37 = .ok (.iload_n 1, 1) := DX2_around.2.2.2.2.2.2.2.2.2.2.2.2.2.2.2.2.2.2.2.1
theorem dX2_around_38 : decode cX2_around 38 = .ok (.invokevirtual 134, 3) := DX2_around.2.2.2.2.2.2.2.2.2.2.2.2.2.2.2.2.2.2.2.2.1
theorem dX2_around_41 : decode cX2_around 41 = .ok (.iaload, 1) := DX2_around.2.2.2.2.2.2.2.2.2.2.2.2.2.2.2.2.2.2.2.2.2.1
theorem dX2_around_42 : decode cX2_around 42 = .ok (.ireturn, 1) := DX2_around.2.2.2.2.2.2.2.2.2.2.2.2.2.2.2.2.2.2.2.2.2.2
theorem dX2_outer_0 : decode cX2_outer 0 = .ok (.iconst (-1), 1) := DX2_outer.1
theorem dX2_outer_1 : decode cX2_outer 1 = .ok (.istore_n 2, 1) := DX2_outer.2.1
theorem dX2_outer_2 : decode cX2_outer 2 = .ok (.iconst 0, 1) := DX2_outer.2.2.1
theorem dX2_outer_3 : decode cX2_outer 3 = .ok (.istore_n 3, 1) := DX2_outer.2.2.2.1
theorem dX2_outer_4 : decode cX2_outer 4 = .ok (.iload_n 3, 1) := DX2_outer.2.2.2.2.1
theorem dX2_outer_5 : decode cX2_outer 5 = .ok (.aload_n 0, 1) := DX2_outer.2.2.2.2.2.1
theorem dX2_outer_6 : decode cX2_outer 6 = .ok (.getfield 95, 3) := DX2_outer.2.2.2.2.2.2.1
theorem dX2_outer_9 : decode cX2_outer 9 = .ok (.if_icmp .ge 41, 3) := DX2_outer.2.2.2.2.2.2.2.1
theorem dX2_outer_12 : decode cX2_outer 12 = .ok (.aload_n 0, 1) := DX2_outer.2.2.2.2.2.2.2.2.1
theorem dX2_outer_13 : decode cX2_outer 13 = .ok (.getfield 23, 3) := DX2_outer.2.2.2.2.2.2.2.2.2.1
theorem dX2_outer_16 : decode cX2_outer 16 = .ok (.aload_n 0, 1) := DX2_outer.2.2.2.2.2.2.2.2.2.2.1
theorem dX2_outer_17 : decode cX2_outer 17 = .ok (.getfield 29, 3) := DX2_outer.2.2.2.2.2.2.2.2.2.2.2.1
theorem dX2_outer_20 : decode cX2_outer 20 = .ok (.iload_n 3, 1) := DX2_outer.2.2.2.2.2.2.2.2.2.2.2.2.1
theorem dX2_outer_21 : decode cX2_outer 21 = .ok (.iaload, 1) := DX2_outer.2.2.2.2.2.2.2.2.2.2.2.2.2.1
theorem dX2_outer_22 : decode cX2_outer 22 = .ok (.iaload, 1) := DX2_outer.2.2.2.2.2.2.2.2.2.2.2.2.2.2.1
theorem dX2_outer_23 : decode cX2_outer 23 = .ok (.iload_n 1, 1) := DX2_outer.2.2.2.2.2.2.2.2.2.2.2.2.2.2.2.1
theorem dX2_outer_24 : decode cX2_outer 24 = .ok (.if_icmp .ne 18, 3) := DX2_outer.2.2.2.2.2.2.2.2.2.2.2.2.2.2.2.2.1
theorem dX2_outer_27 : decode cX2_outer 27 = .ok (.aload_n 0, 1) := DX2_outer.2.2.2.2.2.2.2.2.2.2.2.2.2.2.2.2.2.1
theorem dX2_outer_28 : decode cX2_outer 28 = .ok (.getfield 32, 3) := DX2_outer.2.2.2.2.2.2.2.2.2.2.2.2.2.2.2.2.2.2.1
theorem dX2_outer_31 : decode cX2_outer 31 = .ok (.iload_n 3, 1) := DX2_outer.2.2.2.2.2.2.2.2.2.2.2.2.2.2.2.2.2.2.2.1
theorem dX2_outer_32 : decode cX2_outer 32 = .ok (.laload, 1) := DX2_outer.2.2.2.2.2.2.2.2.2.2.2.2.2.2.2.2.2.2.2.2.1
theorem dX2_outer_33 : decode cX2_outer 33 = .ok (.lconst 0, 1) := DX2_outer.2.2.2.2.2.2.2.2.2.2.2.2.2.2.2.2.2.2.2.2.2.1
theorem dX2_outer_34 : decode cX2_outer 34 = .ok (.lcmp, 1) := DX2_outer.2.2.2.2.2.2.2.2.2.2.2.2.2.2.2.2.2.2.2.2.2.2.1
theorem dX2_outer_35 : decode cX2_outer 35 = .ok (.ifCond .gt 7, 3) := DX2_outer.2.2.2.2.2.2.2.2.2.2.2.2.2.2.2.2.2.2.2.2.2.2.2.1
theorem dX2_outer_38 : decode cX2_outer 38 = .ok (.iload_n 3, 1) := DX2_outer.2.2.2.2.2.2.2.2.2.2.2.2.2.2.2.2.2.2.2.2.2.2.2.2.1
theorem dX2_outer_39 : decode cX2_outer 39 = .ok (.goto 4, 3) := DX2_outer.2.2.2.2.2.2.2.2.2.2.2.2.2.2.2.2.2.2.2.2.2.2.2.2.2.1
theorem dX2_outer_42 : decode cX2_outer 42 = .ok (.iload_n 2, 1) := DX2_outer.2.2.2.2.2.2.2.2.2.2.2.2.2.2.2.2.2.2.2.2.2.2.2.2.2.2.1
theorem dX2_outer_43 : decode cX2_outer 43 = .ok (.istore_n 2, 1) := DX2_outer.2.2.2.2.2.2.2.2.2.2.2.2.2.2.2.2.2.2.2.2.2.2.2.2.2.2.2.1
theorem dX2_outer_44 : decode cX2_outer 44 = .ok (.iinc 3 1, 3) := DX2_outer.2.2.2.2.2.2.2.2.2.2.2.2.2.2.2.2.2.2.2.2.2.2.2.2.2.2.2.2.1
theorem dX2_outer_47 : decode cX2_outer 47 = .ok (.goto (-43), 3) := DX2_outer.2.2.2.2.2.2.2.2.2.2.2.2.2.2.2.2.2.2.2.2.2.2.2.2.2.2.2.2.2.1
theorem dX2_outer_50 : decode cX2_outer 50 = .ok (.iload_n 2, 1) := DX2_outer.2.2.2.2.2.2.2.2.2.2.2.2.2.2.2.2.2.2.2.2.2.2.2.2.2.2.2.2.2.2.1
theorem dX2_outer_51 : decode cX2_outer 51 = .ok (.ireturn, 1) := DX2_outer.2.2.2.2.2.2.2.2.2.2.2.2.2.2.2.2.2.2.2.2.2.2.2.2.2.2.2.2.2.2.2
theorem dX2_area_0 : decode cX2_area 0 = .ok (.aload_n 0, 1) := DX2_area.1
theorem dX2_area_1 : decode cX2_area 1 = .ok (.aload_n 0, 1) := DX2_area.2.1
theorem dX2_area_2 : decode cX2_area 2 = .ok (.iload_n 1, 1) := DX2_area.2.2.1
theorem dX2_area_3 : decode cX2_area 3 = .ok (.invokevirtual 137, 3) := DX2_area.2.2.2.1
theorem dX2_area_6 : decode cX2_area 6 = .ok (.ifCond .eq 7, 3) := DX2_area.2.2.2.2.1
theorem dX2_area_9 : decode cX2_area 9 = .ok (.iconst 0, 1) := DX2_area.2.2.2.2.2.1
theorem dX2_area_10 : decode cX2_area 10 = .ok (.goto 4, 3) := DX2_area.2.2.2.2.2.2.1
theorem dX2_area_13 : decode cX2_area 13 = .ok (.iconst 1, 1) := DX2_area.2.2.2.2.2.2.2.1
theorem dX2_area_14 : decode cX2_area 14 = .ok (.invokevirtual 69, 3) := DX2_area.2.2.2.2.2.2.2.2.1
theorem dX2_area_17 : decode cX2_area 17 = .ok (.ifCond .eq 5, 3) := DX2_area.2.2.2.2.2.2.2.2.2.1
theorem dX2_area_20 : decode cX2_area 20 = .ok (.iconst 0, 1) := DX2_area.2.2.2.2.2.2.2.2.2.2.1
theorem dX2_area_21 : decode cX2_area 21 = .ok (.ireturn, 1) := DX2_area.2.2.2.2.2.2.2.2.2.2.2.1
theorem dX2_area_22 : decode cX2_area 22 = .ok (.lconst 0, 1) := DX2_area.2.2.2.2.2.2.2.2.2.2.2.2.1
theorem dX2_area_23 : decode cX2_area 23 = .ok (.lstore_n 2, 1) := DX2_area.2.2.2.2.2.2.2.2.2.2.2.2.2.1
theorem dX2_area_24 : decode cX2_area 24 = .ok (.iconst 0, 1) := DX2_area.2.2.2.2.2.2.2.2.2.2.2.2.2.2.1
theorem dX2_area_25 : decode cX2_area 25 = .ok (.istore 4, 2) := DX2_area.2.2.2.2.2.2.2.2.2.2.2.2.2.2.2.1
theorem dX2_area_27 : decode cX2_area 27 = .ok (.iload 4, 2) := DX2_area.2.2.2.2.2.2.2.2.2.2.2.2.2.2.2.2.1
theorem dX2_area_29 : decode cX2_area 29 = .ok (.aload_n 0, 1) := DX2_area.2.2.2.2.2.2.2.2.2.2.2.2.2.2.2.2.2.1
theorem dX2_area_30 : decode cX2_area 30 = .ok (.getfield 95, 3) := DX2_area.2.2.2.2.2.2.2.2.2.2.2.2.2.2.2.2.2.2.1
theorem dX2_area_33 : decode cX2_area 33 = .ok (.if_icmp .ge 38, 3) := DX2_area.2.2.2.2.2.2.2.2.2.2.2.2.2.2.2.2.2.2.2.1
theorem dX2_area_36 : decode cX2_area 36 = .ok (.iload_n 1, 1) := DX2_area.2.2.2.2.2.2.2.2.2.2.2.2.2.2.2.2.2.2.2.2.1
theorem dX2_area_37 : decode cX2_area 37 = .ok (.ifCond .le 34, 3) := DX2_area.2.2.2.2.2.2.2.2.2.2.2.2.2.2.2.2.2.2.2.2.2.1
theorem dX2_area_40 : decode cX2_area 40 = .ok (.aload_n 0, 1) := DX2_area.2.2.2.2.2.2.2.2.2.2.2.2.2.2.2.2.2.2.2.2.2.2.1
theorem dX2_area_41 : decode cX2_area 41 = .ok (.getfield 36, 3) := DX2_area.2.2.2.2.2.2.2.2.2.2.2.2.2.2.2.2.2.2.2.2.2.2.2.1
theorem dX2_area_44 : decode cX2_area 44 = .ok (.iload 4, 2) := DX2_area.2.2.2.2.2.2.2.2.2.2.2.2.2.2.2.2.2.2.2.2.2.2.2.2.1
theorem dX2_area_46 : decode cX2_area 46 = .ok (.iaload, 1) := DX2_area.2.2.2.2.2.2.2.2.2.2.2.2.2.2.2.2.2.2.2.2.2.2.2.2.2.1
theorem dX2_area_47 : decode cX2_area 47 = .ok (.iload_n 1, 1) := DX2_area.2.2.2.2.2.2.2.2.2.2.2.2.2.2.2.2.2.2.2.2.2.2.2.2.2.2.1
theorem dX2_area_48 : decode cX2_area 48 = .ok (.if_icmp .ne 15, 3) := DX2_area.2.2.2.2.2.2.2.2.2.2.2.2.2.2.2.2.2.2.2.2.2.2.2.2.2.2.2.1
theorem dX2_area_51 : decode cX2_area 51 = .ok (.lload_n 2, 1) := DX2_area.2.2.2.2.2.2.2.2.2.2.2.2.2.2.2.2.2.2.2.2.2.2.2.2.2.2.2.2.1
theorem dX2_area_52 : decode cX2_area 52 = .ok (.aload_n 0, 1) := DX2_area.2.2.2.2.2.2.2.2.2.2.2.2.2.2.2.2.2.2.2.2.2.2.2.2.2.2.2.2.2.1
theorem dX2_area_53 : decode cX2_area 53 = .ok (.getfield 32, 3) := DX2_area.2.2.2.2.2.2.2.2.2.2.2.2.2.2.2.2.2.2.2.2.2.2.2.2.2.2.2.2.2.2.1
theorem dX2_area_56 : decode cX2_area 56 = .ok (.iload 4, 2) := DX2_area.2.2.2.2.2.2.2.2.2.2.2.2.2.2.2.2.2.2.2.2.2.2.2.2.2.2.2.2.2.2.2.1
theorem dX2_area_58 : decode cX2_area 58 = .ok (.laload, 1) := DX2_area.2.2.2.2.2.2.2.2.2.2.2.2.2.2.2.2.2.2.2.2.2.2.2.2.2.2.2.2.2.2.2.2.1
theorem dX2_area_59 : decode cX2_area 59 = .ok (.ladd, 1) := DX2_area.2.2.2.2.2.2.2.2.2.2.2.2.2.2.2.2.2.2.2.2.2.2.2.2.2.2.2.2.2.2.2.2.2.1
theorem dX2_area_60 : decode cX2_area 60 = .ok (.goto 4, 3) := DX2_area.2.2.2.2.2.2.2.2.2.2.2.2.2.2.2.2.2.2.2.2.2.2.2.2.2.2.2.2.2.2.2.2.2.2.1
theorem dX2_area_63 : decode cX2_area 63 = .ok (.lload_n 2, 1) := DX2_area.2.2.2.2.2.2.2.2.2.2.2.2.2.2.2.2.2.2.2.2.2.2.2.2.2.2.2.2.2.2.2.2.2.2.2.1
theorem dX2_area_64 : decode cX2_area 64 = .ok (.lstore_n 2, 1) := DX2_area.2.2.2.2.2.2.2.2.2.2.2.2.2.2.2.2.2.2.2.2.2.2.2.2.2.2.2.2.2.2.2.2.2.2.2.2.1
theorem dX2_area_65 : decode cX2_area 65 = .ok (.iinc 4 1, 3) := DX2_area.2.2.2.2.2.2.2.2.2.2.2.2.2.2.2.2.2.2.2.2.2.2.2.2.2.2.2.2.2.2.2.2.2.2.2.2.2.1
theorem dX2_area_68 : decode cX2_area 68 = .ok (.goto (-41), 3) := DX2_area.2.2.2.2.2.2.2.2.2.2.2.2.2.2.2.2.2.2.2.2.2.2.2.2.2.2.2.2.2.2.2.2.2.2.2.2.2.2.1
theorem dX2_area_71 : decode cX2_area 71 = .ok (.lload_n 2, 1) := DX2_area.2.2.2.2.2.2.2.2.2.2.2.2.2.2.2.2.2.2.2.2.2.2.2.2.2.2.2.2.2.2.2.2.2.2.2.2.2.2.2.1
theorem dX2_area_72 : decode cX2_area 72 = .ok (.l2i, 1) := DX2_area.2.2.2.2.2.2.2.2.2.2.2.2.2.2.2.2.2.2.2.2.2.2.2.2.2.2.2.2.2.2.2.2.2.2.2.2.2.2.2.2.1
theorem dX2_area_73 : decode cX2_area 73 = .ok (.ireturn, 1) := DX2_area.2.2.2.2.2.2.2.2.2.2.2.2.2.2.2.2.2.2.2.2.2.2.2.2.2.2.2.2.2.2.2.2.2.2.2.2.2.2.2.2.2
theorem dX2_isFace_0 : decode cX2_isFace 0 = .ok (.aload_n 0, 1) := DX2_isFace.1
theorem dX2_isFace_1 : decode cX2_isFace 1 = .ok (.invokevirtual 125, 3) := DX2_isFace.2.1
theorem dX2_isFace_4 : decode cX2_isFace 4 = .ok (.iload_n 1, 1) := DX2_isFace.2.2.1
theorem dX2_isFace_5 : decode cX2_isFace 5 = .ok (.ifCond .lt 15, 3) := DX2_isFace.2.2.2.1
theorem dX2_isFace_8 : decode cX2_isFace 8 = .ok (.iload_n 1, 1) := DX2_isFace.2.2.2.2.1
theorem dX2_isFace_9 : decode cX2_isFace 9 = .ok (.aload_n 0, 1) := DX2_isFace.2.2.2.2.2.1
theorem dX2_isFace_10 : decode cX2_isFace 10 = .ok (.getfield 118, 3) := DX2_isFace.2.2.2.2.2.2.1
theorem dX2_isFace_13 : decode cX2_isFace 13 = .ok (.if_icmp .ge 7, 3) := DX2_isFace.2.2.2.2.2.2.2.1
theorem dX2_isFace_16 : decode cX2_isFace 16 = .ok (.iconst 1, 1) := DX2_isFace.2.2.2.2.2.2.2.2.1
theorem dX2_isFace_17 : decode cX2_isFace 17 = .ok (.goto 4, 3) := DX2_isFace.2.2.2.2.2.2.2.2.2.1
theorem dX2_isFace_20 : decode cX2_isFace 20 = .ok (.iconst 0, 1) := DX2_isFace.2.2.2.2.2.2.2.2.2.2.1
theorem dX2_isFace_21 : decode cX2_isFace 21 = .ok (.ireturn, 1) := DX2_isFace.2.2.2.2.2.2.2.2.2.2.2
theorem dX2_border_0 : decode cX2_border 0 = .ok (.aload_n 0, 1) := DX2_border.1
theorem dX2_border_1 : decode cX2_border 1 = .ok (.aload_n 0, 1) := DX2_border.2.1
theorem dX2_border_2 : decode cX2_border 2 = .ok (.iload_n 1, 1) := DX2_border.2.2.1
theorem dX2_border_3 : decode cX2_border 3 = .ok (.invokevirtual 137, 3) := DX2_border.2.2.2.1
theorem dX2_border_6 : decode cX2_border 6 = .ok (.ifCond .eq 7, 3) := DX2_border.2.2.2.2.1
theorem dX2_border_9 : decode cX2_border 9 = .ok (.iconst 0, 1) := DX2_border.2.2.2.2.2.1
theorem dX2_border_10 : decode cX2_border 10 = .ok (.goto 4, 3) := DX2_border.2.2.2.2.2.2.1
theorem dX2_border_13 : decode cX2_border 13 = .ok (.iconst 1, 1) := DX2_border.2.2.2.2.2.2.2.1
theorem dX2_border_14 : decode cX2_border 14 = .ok (.invokevirtual 69, 3) := DX2_border.2.2.2.2.2.2.2.2.1
theorem dX2_border_17 : decode cX2_border 17 = .ok (.ifCond .eq 5, 3) := DX2_border.2.2.2.2.2.2.2.2.2.1
theorem dX2_border_20 : decode cX2_border 20 = .ok (.iconst 0, 1) := DX2_border.2.2.2.2.2.2.2.2.2.2.1
theorem dX2_border_21 : decode cX2_border 21 = .ok (.ireturn, 1) := DX2_border.2.2.2.2.2.2.2.2.2.2.2.1
theorem dX2_border_22 : decode cX2_border 22 = .ok (.iconst 0, 1) := DX2_border.2.2.2.2.2.2.2.2.2.2.2.2.1
theorem dX2_border_23 : decode cX2_border 23 = .ok (.istore_n 3, 1) := DX2_border.2.2.2.2.2.2.2.2.2.2.2.2.2.1
theorem dX2_border_24 : decode cX2_border 24 = .ok (.iconst (-1), 1) := DX2_border.2.2.2.2.2.2.2.2.2.2.2.2.2.2.1
theorem dX2_border_25 : decode cX2_border 25 = .ok (.istore 4, 2) := DX2_border.2.2.2.2.2.2.2.2.2.2.2.2.2.2.2.1
theorem dX2_border_27 : decode cX2_border 27 = .ok (.iconst 0, 1) := DX2_border.2.2.2.2.2.2.2.2.2.2.2.2.2.2.2.2.1
theorem dX2_border_28 : decode cX2_border 28 = .ok (.istore 5, 2) := DX2_border.2.2.2.2.2.2.2.2.2.2.2.2.2.2.2.2.2.1
theorem dX2_border_30 : decode cX2_border 30 = .ok (.iload 5, 2) := DX2_border.2.2.2.2.2.2.2.2.2.2.2.2.2.2.2.2.2.2.1
theorem dX2_border_32 : decode cX2_border 32 = .ok (.aload_n 0, 1) := DX2_border.2.2.2.2.2.2.2.2.2.2.2.2.2.2.2.2.2.2.2.1
theorem dX2_border_33 : decode cX2_border 33 = .ok (.getfield 95, 3) := DX2_border.2.2.2.2.2.2.2.2.2.2.2.2.2.2.2.2.2.2.2.2.1
theorem dX2_border_36 : decode cX2_border 36 = .ok (.if_icmp .ge 49, 3) := DX2_border.2.2.2.2.2.2.2.2.2.2.2.2.2.2.2.2.2.2.2.2.2.1
theorem dX2_border_39 : decode cX2_border 39 = .ok (.aload_n 0, 1) := DX2_border.2.2.2.2.2.2.2.2.2.2.2.2.2.2.2.2.2.2.2.2.2.2.1
theorem dX2_border_40 : decode cX2_border 40 = .ok (.getfield 36, 3) := DX2_border.2.2.2.2.2.2.2.2.2.2.2.2.2.2.2.2.2.2.2.2.2.2.2.1
theorem dX2_border_43 : decode cX2_border 43 = .ok (.iload 5, 2) := DX2_border.2.2.2.2.2.2.2.2.2.2.2.2.2.2.2.2.2.2.2.2.2.2.2.2.1
theorem dX2_border_45 : decode cX2_border 45 = .ok (.iaload, 1) := DX2_border.2.2.2.2.2.2.2.2.2.2.2.2.2.2.2.2.2.2.2.2.2.2.2.2.2.1
theorem dX2_border_46 : decode cX2_border 46 = .ok (.iload_n 1, 1) := DX2_border.2.2.2.2.2.2.2.2.2.2.2.2.2.2.2.2.2.2.2.2.2.2.2.2.2.2.1
theorem dX2_border_47 : decode cX2_border 47 = .ok (.if_icmp .ne 30, 3) := DX2_border.2.2.2.2.2.2.2.2.2.2.2.2.2.2.2.2.2.2.2.2.2.2.2.2.2.2.2.1
theorem dX2_border_50 : decode cX2_border 50 = .ok (.iload_n 2, 1) := DX2_border.2.2.2.2.2.2.2.2.2.2.2.2.2.2.2.2.2.2.2.2.2.2.2.2.2.2.2.2.1
theorem dX2_border_51 : decode cX2_border 51 = .ok (.ifCond .eq 20, 3) := DX2_border.2.2.2.2.2.2.2.2.2.2.2.2.2.2.2.2.2.2.2.2.2.2.2.2.2.2.2.2.2.1
theorem dX2_border_54 : decode cX2_border 54 = .ok (.iload_n 2, 1) := DX2_border.2.2.2.2.2.2.2.2.2.2.2.2.2.2.2.2.2.2.2.2.2.2.2.2.2.2.2.2.2.2.1
theorem dX2_border_55 : decode cX2_border 55 = .ok (.iconst 3, 1) := DX2_border.2.2.2.2.2.2.2.2.2.2.2.2.2.2.2.2.2.2.2.2.2.2.2.2.2.2.2.2.2.2.2.1
theorem dX2_border_56 : decode cX2_border 56 = .ok (.if_icmp .ne 21, 3) := DX2_border.2.2.2.2.2.2.2.2.2.2.2.2.2.2.2.2.2.2.2.2.2.2.2.2.2.2.2.2.2.2.2.2.1
theorem dX2_border_59 : decode cX2_border 59 = .ok (.aload_n 0, 1) := DX2_border.2.2.2.2.2.2.2.2.2.2.2.2.2.2.2.2.2.2.2.2.2.2.2.2.2.2.2.2.2.2.2.2.2.1
theorem dX2_border_60 : decode cX2_border 60 = .ok (.getfield 32, 3) := DX2_border.2.2.2.2.2.2.2.2.2.2.2.2.2.2.2.2.2.2.2.2.2.2.2.2.2.2.2.2.2.2.2.2.2.2.1
theorem dX2_border_63 : decode cX2_border 63 = .ok (.iload 5, 2) := DX2_border.2.2.2.2.2.2.2.2.2.2.2.2.2.2.2.2.2.2.2.2.2.2.2.2.2.2.2.2.2.2.2.2.2.2.2.1
theorem dX2_border_65 : decode cX2_border 65 = .ok (.laload, 1) := DX2_border.2.2.2.2.2.2.2.2.2.2.2.2.2.2.2.2.2.2.2.2.2.2.2.2.2.2.2.2.2.2.2.2.2.2.2.2.1
theorem dX2_border_66 : decode cX2_border 66 = .ok (.lconst 0, 1) := DX2_border.2.2.2.2.2.2.2.2.2.2.2.2.2.2.2.2.2.2.2.2.2.2.2.2.2.2.2.2.2.2.2.2.2.2.2.2.2.1
theorem dX2_border_67 : decode cX2_border 67 = .ok (.lcmp, 1) := DX2_border.2.2.2.2.2.2.2.2.2.2.2.2.2.2.2.2.2.2.2.2.2.2.2.2.2.2.2.2.2.2.2.2.2.2.2.2.2.2.1
theorem dX2_border_68 : decode cX2_border 68 = .ok (.ifCond .gt 9, 3) := DX2_border.2.2.2.2.2.2.2.2.2.2.2.2.2.2.2.2.2.2.2.2.2.2.2.2.2.2.2.2.2.2.2.2.2.2.2.2.2.2.2.1
theorem dX2_border_71 : decode cX2_border 71 = .ok (.iload_n 3, 1) := DX2_border.2.2.2.2.2.2.2.2.2.2.2.2.2.2.2.2.2.2.2.2.2.2.2.2.2.2.2.2.2.2.2.2.2.2.2.2.2.2.2.2.1
theorem dX2_border_72 : decode cX2_border 72 = .ok (.iconst 1, 1) := DX2_border.2.2.2.2.2.2.2.2.2.2.2.2.2.2.2.2.2.2.2.2.2.2.2.2.2.2.2.2.2.2.2.2.2.2.2.2.2.2.2.2.2.1
theorem dX2_border_73 : decode cX2_border 73 = .ok (.iadd, 1) := DX2_border.2.2.2.2.2.2.2.2.2.2.2.2.2.2.2.2.2.2.2.2.2.2.2.2.2.2.2.2.2.2.2.2.2.2.2.2.2.2.2.2.2.2.1
theorem dX2_border_74 : decode cX2_border 74 = .ok (.goto 4, 3) := DX2_border.2.2.2.2.2.2.2.2.2.2.2.2.2.2.2.2.2.2.2.2.2.2.2.2.2.2.2.2.2.2.2.2.2.2.2.2.2.2.2.2.2.2.2.1
theorem dX2_border_77 : decode cX2_border 77 = .ok (.iload_n 3, 1) := DX2_border.2.2.2.2.2.2.2.2.2.2.2.2.2.2.2.2.2.2.2.2.2.2.2.2.2.2.2.2.2.2.2.2.2.2.2.2.2.2.2.2.2.2.2.2.1
theorem dX2_border_78 : decode cX2_border 78 = .ok (.istore_n 3, 1) := DX2_border.2.2.2.2.2.2.2.2.2.2.2.2.2.2.2.2.2.2.2.2.2.2.2.2.2.2.2.2.2.2.2.2.2.2.2.2.2.2.2.2.2.2.2.2.2.1
theorem dX2_border_79 : decode cX2_border 79 = .ok (.iinc 5 1, 3) := DX2_border.2.2.2.2.2.2.2.2.2.2.2.2.2.2.2.2.2.2.2.2.2.2.2.2.2.2.2.2.2.2.2.2.2.2.2.2.2.2.2.2.2.2.2.2.2.2.1
theorem dX2_border_82 : decode cX2_border 82 = .ok (.goto (-52), 3) := DX2_border.2.2.2.2.2.2.2.2.2.2.2.2.2.2.2.2.2.2.2.2.2.2.2.2.2.2.2.2.2.2.2.2.2.2.2.2.2.2.2.2.2.2.2.2.2.2.2.1
theorem dX2_border_85 : decode cX2_border 85 = .ok (.bipush 119, 2) := DX2_border.2.2.2.2.2.2.2.2.2.2.2.2.2.2.2.2.2.2.2.2.2.2.2.2.2.2.2.2.2.2.2.2.2.2.2.2.2.2.2.2.2.2.2.2.2.2.2.2.1
theorem dX2_border_87 : decode cX2_border 87 = .ok (.istore 5, 2) := DX2_border.2.2.2.2.2.2.2.2.2.2.2.2.2.2.2.2.2.2.2.2.2.2.2.2.2.2.2.2.2.2.2.2.2.2.2.2.2.2.2.2.2.2.2.2.2.2.2.2.2.1
theorem dX2_border_89 : decode cX2_border 89 = .ok (.iload 5, 2) := DX2_border.2.2.2.2.2.2.2.2.2.2.2.2.2.2.2.2.2.2.2.2.2.2.2.2.2.2.2.2.2.2.2.2.2.2.2.2.2.2.2.2.2.2.2.2.2.2.2.2.2.2.1
theorem dX2_border_91 : decode cX2_border 91 = .ok (.ifCond .lt 48, 3) := DX2_border.2.2.2.2.2.2.2.2.2.2.2.2.2.2.2.2.2.2.2.2.2.2.2.2.2.2.2.2.2.2.2.2.2.2.2.2.2.2.2.2.2.2.2.2.2.2.2.2.2.2.2.1
theorem dX2_border_94 : decode cX2_border 94 = .ok (.aload_n 0, 1) := DX2_border.2.2.2.2.2.2.2.2.2.2.2.2.2.2.2.2.2.2.2.2.2.2.2.2.2.2.2.2.2.2.2.2.2.2.2.2.2.2.2.2.2.2.2.2.2.2.2.2.2.2.2.2.1
theorem dX2_border_95 : decode cX2_border 95 = .ok (.getfield 7, 3) := DX2_border.2.2.2.2.2.2.2.2.2.2.2.2.2.2.2.2.2.2.2.2.2.2.2.2.2.2.2.2.2.2.2.2.2.2.2.2.2.2.2.2.2.2.2.2.2.2.2.2.2.2.2.2.2.1
theorem dX2_border_98 : decode cX2_border 98 = .ok (.iload 5, 2) := DX2_border.2.2.2.2.2.2.2.2.2.2.2.2.2.2.2.2.2.2.2.2.2.2.2.2.2.2.2.2.2.2.2.2.2.2.2.2.2.2.2.2.2.2.2.2.2.2.2.2.2.2.2.2.2.2.1
theorem dX2_border_100 : decode cX2_border 100 = .ok (.iconst 2, 1) := DX2_border.2.2.2.2.2.2.2.2.2.2.2.2.2.2.2.2.2.2.2.2.2.2.2.2.2.2.2.2.2.2.2.2.2.2.2.2.2.2.2.2.2.2.2.2.2.2.2.2.2.2.2.2.2.2.2.1
theorem dX2_border_101 : decode cX2_border 101 = .ok (.idiv, 1) := DX2_border.2.2.2.2.2.2.2.2.2.2.2.2.2.2.2.2.2.2.2.2.2.2.2.2.2.2.2.2.2.2.2.2.2.2.2.2.2.2.2.2.2.2.2.2.2.2.2.2.2.2.2.2.2.2.2.2.1
theorem dX2_border_102 : decode cX2_border 102 = .ok (.baload, 1) := DX2_border.2.2.2.2.2.2.2.2.2.2.2.2.2.2.2.2.2.2.2.2.2.2.2.2.2.2.2.2.2.2.2.2.2.2.2.2.2.2.2.2.2.2.2.2.2.2.2.2.2.2.2.2.2.2.2.2.2.1
theorem dX2_border_103 : decode cX2_border 103 = .ok (.ifCond .eq 30, 3) := DX2_border.2.2.2.2.2.2.2.2.2.2.2.2.2.2.2.2.2.2.2.2.2.2.2.2.2.2.2.2.2.2.2.2.2.2.2.2.2.2.2.2.2.2.2.2.2.2.2.2.2.2.2.2.2.2.2.2.2.2.1
theorem dX2_border_106 : decode cX2_border 106 = .ok (.aload_n 0, 1) := DX2_border.2.2.2.2.2.2.2.2.2.2.2.2.2.2.2.2.2.2.2.2.2.2.2.2.2.2.2.2.2.2.2.2.2.2.2.2.2.2.2.2.2.2.2.2.2.2.2.2.2.2.2.2.2.2.2.2.2.2.2.1
theorem dX2_border_107 : decode cX2_border 107 = .ok (.iload 5, 2) := DX2_border.2.2.2.2.2.2.2.2.2.2.2.2.2.2.2.2.2.2.2.2.2.2.2.2.2.2.2.2.2.2.2.2.2.2.2.2.2.2.2.2.2.2.2.2.2.2.2.2.2.2.2.2.2.2.2.2.2.2.2.2.1
theorem dX2_border_109 : decode cX2_border 109 = .ok (.invokevirtual 128, 3) := DX2_border.2.2.2.2.2.2.2.2.2.2.2.2.2.2.2.2.2.2.2.2.2.2.2.2.2.2.2.2.2.2.2.2.2.2.2.2.2.2.2.2.2.2.2.2.2.2.2.2.2.2.2.2.2.2.2.2.2.2.2.2.2.1
theorem dX2_border_112 : decode cX2_border 112 = .ok (.iload_n 1, 1) := DX2_border.2.2.2.2.2.2.2.2.2.2.2.2.2.2.2.2.2.2.2.2.2.2.2.2.2.2.2.2.2.2.2.2.2.2.2.2.2.2.2.2.2.2.2.2.2.2.2.2.2.2.2.2.2.2.2.2.2.2.2.2.2.2.1
theorem dX2_border_113 : decode cX2_border 113 = .ok (.if_icmp .ne 20, 3) := DX2_border.2.2.2.2.2.2.2.2.2.2.2.2.2.2.2.2.2.2.2.2.2.2.2.2.2.2.2.2.2.2.2.2.2.2.2.2.2.2.2.2.2.2.2.2.2.2.2.2.2.2.2.2.2.2.2.2.2.2.2.2.2.2.2.1
theorem dX2_border_116 : decode cX2_border 116 = .ok (.iload_n 2, 1) := DX2_border.2.2.2.2.2.2.2.2.2.2.2.2.2.2.2.2.2.2.2.2.2.2.2.2.2.2.2.2.2.2.2.2.2.2.2.2.2.2.2.2.2.2.2.2.2.2.2.2.2.2.2.2.2.2.2.2.2.2.2.2.2.2.2.2.1
theorem dX2_border_117 : decode cX2_border 117 = .ok (.iconst 1, 1) := DX2_border.2.2.2.2.2.2.2.2.2.2.2.2.2.2.2.2.2.2.2.2.2.2.2.2.2.2.2.2.2.2.2.2.2.2.2.2.2.2.2.2.2.2.2.2.2.2.2.2.2.2.2.2.2.2.2.2.2.2.2.2.2.2.2.2.2.1
theorem dX2_border_118 : decode cX2_border 118 = .ok (.if_icmp .ne 9, 3) := DX2_border.2.2.2.2.2.2.2.2.2.2.2.2.2.2.2.2.2.2.2.2.2.2.2.2.2.2.2.2.2.2.2.2.2.2.2.2.2.2.2.2.2.2.2.2.2.2.2.2.2.2.2.2.2.2.2.2.2.2.2.2.2.2.2.2.2.2.1
theorem dX2_border_121 : decode cX2_border 121 = .ok (.iload_n 3, 1) := DX2_border.2.2.2.2.2.2.2.2.2.2.2.2.2.2.2.2.2.2.2.2.2.2.2.2.2.2.2.2.2.2.2.2.2.2.2.2.2.2.2.2.2.2.2.2.2.2.2.2.2.2.2.2.2.2.2.2.2.2.2.2.2.2.2.2.2.2.2.1
theorem dX2_border_122 : decode cX2_border 122 = .ok (.iconst 1, 1) := DX2_border.2.2.2.2.2.2.2.2.2.2.2.2.2.2.2.2.2.2.2.2.2.2.2.2.2.2.2.2.2.2.2.2.2.2.2.2.2.2.2.2.2.2.2.2.2.2.2.2.2.2.2.2.2.2.2.2.2.2.2.2.2.2.2.2.2.2.2.2.1
theorem dX2_border_123 : decode cX2_border 123 = .ok (.iadd, 1) := DX2_border.2.2.2.2.2.2.2.2.2.2.2.2.2.2.2.2.2.2.2.2.2.2.2.2.2.2.2.2.2.2.2.2.2.2.2.2.2.2.2.2.2.2.2.2.2.2.2.2.2.2.2.2.2.2.2.2.2.2.2.2.2.2.2.2.2.2.2.2.2.1
theorem dX2_border_124 : decode cX2_border 124 = .ok (.goto 4, 3) := DX2_border.2.2.2.2.2.2.2.2.2.2.2.2.2.2.2.2.2.2.2.2.2.2.2.2.2.2.2.2.2.2.2.2.2.2.2.2.2.2.2.2.2.2.2.2.2.2.2.2.2.2.2.2.2.2.2.2.2.2.2.2.2.2.2.2.2.2.2.2.2.2.1
theorem dX2_border_127 : decode cX2_border 127 = .ok (.iload_n 3, 1) := DX2_border.2.2.2.2.2.2.2.2.2.2.2.2.2.2.2.2.2.2.2.2.2.2.2.2.2.2.2.2.2.2.2.2.2.2.2.2.2.2.2.2.2.2.2.2.2.2.2.2.2.2.2.2.2.2.2.2.2.2.2.2.2.2.2.2.2.2.2.2.2.2.2.1
theorem dX2_border_128 : decode cX2_border 128 = .ok (.istore_n 3, 1) := DX2_border.2.2.2.2.2.2.2.2.2.2.2.2.2.2.2.2.2.2.2.2.2.2.2.2.2.2.2.2.2.2.2.2.2.2.2.2.2.2.2.2.2.2.2.2.2.2.2.2.2.2.2.2.2.2.2.2.2.2.2.2.2.2.2.2.2.2.2.2.2.2.2.2.1
theorem dX2_border_129 : decode cX2_border 129 = .ok (.iload 5, 2) := DX2_border.2.2.2.2.2.2.2.2.2.2.2.2.2.2.2.2.2.2.2.2.2.2.2.2.2.2.2.2.2.2.2.2.2.2.2.2.2.2.2.2.2.2.2.2.2.2.2.2.2.2.2.2.2.2.2.2.2.2.2.2.2.2.2.2.2.2.2.2.2.2.2.2.2.1
theorem dX2_border_131 : decode cX2_border 131 = .ok (.istore 4, 2) := DX2_border.2.2.2.2.2.2.2.2.2.2.2.2.2.2.2.2.2.2.2.2.2.2.2.2.2.2.2.2.2.2.2.2.2.2.2.2.2.2.2.2.2.2.2.2.2.2.2.2.2.2.2.2.2.2.2.2.2.2.2.2.2.2.2.2.2.2.2.2.2.2.2.2.2.2.1
theorem dX2_border_133 : decode cX2_border 133 = .ok (.iinc 5 (-1), 3) := DX2_border.2.2.2.2.2.2.2.2.2.2.2.2.2.2.2.2.2.2.2.2.2.2.2.2.2.2.2.2.2.2.2.2.2.2.2.2.2.2.2.2.2.2.2.2.2.2.2.2.2.2.2.2.2.2.2.2.2.2.2.2.2.2.2.2.2.2.2.2.2.2.2.2.2.2.2.1
theorem dX2_border_136 : decode cX2_border 136 = .ok (.goto (-47), 3) := DX2_border.2.2.2.2.2.2.2.2.2.2.2.2.2.2.2.2.2.2.2.2.2.2.2.2.2.2.2.2.2.2.2.2.2.2.2.2.2.2.2.2.2.2.2.2.2.2.2.2.2.2.2.2.2.2.2.2.2.2.2.2.2.2.2.2.2.2.2.2.2.2.2.2.2.2.2.2.1
theorem dX2_border_139 : decode cX2_border 139 = .ok (.iload_n 2, 1) := DX2_border.2.2.2.2.2.2.2.2.2.2.2.2.2.2.2.2.2.2.2.2.2.2.2.2.2.2.2.2.2.2.2.2.2.2.2.2.2.2.2.2.2.2.2.2.2.2.2.2.2.2.2.2.2.2.2.2.2.2.2.2.2.2.2.2.2.2.2.2.2.2.2.2.2.2.2.2.2.1
theorem dX2_border_140 : decode cX2_border 140 = .ok (.iconst 2, 1) := DX2_border.2.2.2.2.2.2.2.2.2.2.2.2.2.2.2.2.2.2.2.2.2.2.2.2.2.2.2.2.2.2.2.2.2.2.2.2.2.2.2.2.2.2.2.2.2.2.2.2.2.2.2.2.2.2.2.2.2.2.2.2.2.2.2.2.2.2.2.2.2.2.2.2.2.2.2.2.2.2.1
theorem dX2_border_141 : decode cX2_border 141 = .ok (.if_icmp .ne 8, 3) := DX2_border.2.2.2.2.2.2.2.2.2.2.2.2.2.2.2.2.2.2.2.2.2.2.2.2.2.2.2.2.2.2.2.2.2.2.2.2.2.2.2.2.2.2.2.2.2.2.2.2.2.2.2.2.2.2.2.2.2.2.2.2.2.2.2.2.2.2.2.2.2.2.2.2.2.2.2.2.2.2.2.1
theorem dX2_border_144 : decode cX2_border 144 = .ok (.iload 4, 2) := DX2_border.2.2.2.2.2.2.2.2.2.2.2.2.2.2.2.2.2.2.2.2.2.2.2.2.2.2.2.2.2.2.2.2.2.2.2.2.2.2.2.2.2.2.2.2.2.2.2.2.2.2.2.2.2.2.2.2.2.2.2.2.2.2.2.2.2.2.2.2.2.2.2.2.2.2.2.2.2.2.2.2.1
theorem dX2_border_146 : decode cX2_border 146 = .ok (.goto 22, 3) := DX2_border.2.2.2.2.2.2.2.2.2.2.2.2.2.2.2.2.2.2.2.2.2.2.2.2.2.2.2.2.2.2.2.2.2.2.2.2.2.2.2.2.2.2.2.2.2.2.2.2.2.2.2.2.2.2.2.2.2.2.2.2.2.2.2.2.2.2.2.2.2.2.2.2.2.2.2.2.2.2.2.2.2.1
theorem dX2_border_149 : decode cX2_border 149 = .ok (.iload_n 2, 1) := DX2_border.2.2.2.2.2.2.2.2.2.2.2.2.2.2.2.2.2.2.2.2.2.2.2.2.2.2.2.2.2.2.2.2.2.2.2.2.2.2.2.2.2.2.2.2.2.2.2.2.2.2.2.2.2.2.2.2.2.2.2.2.2.2.2.2.2.2.2.2.2.2.2.2.2.2.2.2.2.2.2.2.2.2.1
theorem dX2_border_150 : decode cX2_border 150 = .ok (.ifCond .eq 13, 3) := DX2_border.2.2.2.2.2.2.2.2.2.2.2.2.2.2.2.2.2.2.2.2.2.2.2.2.2.2.2.2.2.2.2.2.2.2.2.2.2.2.2.2.2.2.2.2.2.2.2.2.2.2.2.2.2.2.2.2.2.2.2.2.2.2.2.2.2.2.2.2.2.2.2.2.2.2.2.2.2.2.2.2.2.2.2.1
theorem dX2_border_153 : decode cX2_border 153 = .ok (.iload_n 2, 1) := DX2_border.2.2.2.2.2.2.2.2.2.2.2.2.2.2.2.2.2.2.2.2.2.2.2.2.2.2.2.2.2.2.2.2.2.2.2.2.2.2.2.2.2.2.2.2.2.2.2.2.2.2.2.2.2.2.2.2.2.2.2.2.2.2.2.2.2.2.2.2.2.2.2.2.2.2.2.2.2.2.2.2.2.2.2.2.1
theorem dX2_border_154 : decode cX2_border 154 = .ok (.iconst 1, 1) := DX2_border.2.2.2.2.2.2.2.2.2.2.2.2.2.2.2.2.2.2.2.2.2.2.2.2.2.2.2.2.2.2.2.2.2.2.2.2.2.2.2.2.2.2.2.2.2.2.2.2.2.2.2.2.2.2.2.2.2.2.2.2.2.2.2.2.2.2.2.2.2.2.2.2.2.2.2.2.2.2.2.2.2.2.2.2.2.1
theorem dX2_border_155 : decode cX2_border 155 = .ok (.if_icmp .eq 8, 3) := DX2_border.2.2.2.2.2.2.2.2.2.2.2.2.2.2.2.2.2.2.2.2.2.2.2.2.2.2.2.2.2.2.2.2.2.2.2.2.2.2.2.2.2.2.2.2.2.2.2.2.2.2.2.2.2.2.2.2.2.2.2.2.2.2.2.2.2.2.2.2.2.2.2.2.2.2.2.2.2.2.2.2.2.2.2.2.2.2.1
theorem dX2_border_158 : decode cX2_border 158 = .ok (.iload_n 2, 1) := DX2_border.2.2.2.2.2.2.2.2.2.2.2.2.2.2.2.2.2.2.2.2.2.2.2.2.2.2.2.2.2.2.2.2.2.2.2.2.2.2.2.2.2.2.2.2.2.2.2.2.2.2.2.2.2.2.2.2.2.2.2.2.2.2.2.2.2.2.2.2.2.2.2.2.2.2.2.2.2.2.2.2.2.2.2.2.2.2.2.1
theorem dX2_border_159 : decode cX2_border 159 = .ok (.iconst 3, 1) := DX2_border.2.2.2.2.2.2.2.2.2.2.2.2.2.2.2.2.2.2.2.2.2.2.2.2.2.2.2.2.2.2.2.2.2.2.2.2.2.2.2.2.2.2.2.2.2.2.2.2.2.2.2.2.2.2.2.2.2.2.2.2.2.2.2.2.2.2.2.2.2.2.2.2.2.2.2.2.2.2.2.2.2.2.2.2.2.2.2.2.1
theorem dX2_border_160 : decode cX2_border 160 = .ok (.if_icmp .ne 7, 3) := DX2_border.2.2.2.2.2.2.2.2.2.2.2.2.2.2.2.2.2.2.2.2.2.2.2.2.2.2.2.2.2.2.2.2.2.2.2.2.2.2.2.2.2.2.2.2.2.2.2.2.2.2.2.2.2.2.2.2.2.2.2.2.2.2.2.2.2.2.2.2.2.2.2.2.2.2.2.2.2.2.2.2.2.2.2.2.2.2.2.2.2.1
theorem dX2_border_163 : decode cX2_border 163 = .ok (.iload_n 3, 1) := DX2_border.2.2.2.2.2.2.2.2.2.2.2.2.2.2.2.2.2.2.2.2.2.2.2.2.2.2.2.2.2.2.2.2.2.2.2.2.2.2.2.2.2.2.2.2.2.2.2.2.2.2.2.2.2.2.2.2.2.2.2.2.2.2.2.2.2.2.2.2.2.2.2.2.2.2.2.2.2.2.2.2.2.2.2.2.2.2.2.2.2.2.1
theorem dX2_border_164 : decode cX2_border 164 = .ok (.goto 4, 3) := DX2_border.2.2.2.2.2.2.2.2.2.2.2.2.2.2.2.2.2.2.2.2.2.2.2.2.2.2.2.2.2.2.2.2.2.2.2.2.2.2.2.2.2.2.2.2.2.2.2.2.2.2.2.2.2.2.2.2.2.2.2.2.2.2.2.2.2.2.2.2.2.2.2.2.2.2.2.2.2.2.2.2.2.2.2.2.2.2.2.2.2.2.2.1
theorem dX2_border_167 : decode cX2_border 167 = .ok (.iconst (-1), 1) := DX2_border.2.2.2.2.2.2.2.2.2.2.2.2.2.2.2.2.2.2.2.2.2.2.2.2.2.2.2.2.2.2.2.2.2.2.2.2.2.2.2.2.2.2.2.2.2.2.2.2.2.2.2.2.2.2.2.2.2.2.2.2.2.2.2.2.2.2.2.2.2.2.2.2.2.2.2.2.2.2.2.2.2.2.2.2.2.2.2.2.2.2.2.2.1
theorem dX2_border_168 : decode cX2_border 168 = .ok (.ireturn, 1) := DX2_border.2.2.2.2.2.2.2.2.2.2.2.2.2.2.2.2.2.2.2.2.2.2.2.2.2.2.2.2.2.2.2.2.2.2.2.2.2.2.2.2.2.2.2.2.2.2.2.2.2.2.2.2.2.2.2.2.2.2.2.2.2.2.2.2.2.2.2.2.2.2.2.2.2.2.2.2.2.2.2.2.2.2.2.2.2.2.2.2.2.2.2.2.2
theorem dX2_locate_0 : decode cX2_locate 0 = .ok (.aload_n 0, 1) := DX2_locate.1
theorem dX2_locate_1 : decode cX2_locate 1 = .ok (.iload_n 1, 1) := DX2_locate.2.1
theorem dX2_locate_2 : decode cX2_locate 2 = .ok (.invokestatic 65, 3) := DX2_locate.2.2.1
theorem dX2_locate_5 : decode cX2_locate 5 = .ok (.ifCond .eq 14, 3) := DX2_locate.2.2.2.1
theorem dX2_locate_8 : decode cX2_locate 8 = .ok (.iload_n 2, 1) := DX2_locate.2.2.2.2.1
theorem dX2_locate_9 : decode cX2_locate 9 = .ok (.invokestatic 65, 3) := DX2_locate.2.2.2.2.2.1
theorem dX2_locate_12 : decode cX2_locate 12 = .ok (.ifCond .eq 7, 3) := DX2_locate.2.2.2.2.2.2.1
theorem dX2_locate_15 : decode cX2_locate 15 = .ok (.iconst 0, 1) := DX2_locate.2.2.2.2.2.2.2.1
theorem dX2_locate_16 : decode cX2_locate 16 = .ok (.goto 4, 3) := DX2_locate.2.2.2.2.2.2.2.2.1
theorem dX2_locate_19 : decode cX2_locate 19 = .ok (.iconst 1, 1) := DX2_locate.2.2.2.2.2.2.2.2.2.1
theorem dX2_locate_20 : decode cX2_locate 20 = .ok (.invokevirtual 69, 3) := DX2_locate.2.2.2.2.2.2.2.2.2.2.1
theorem dX2_locate_23 : decode cX2_locate 23 = .ok (.ifCond .eq 5, 3) := DX2_locate.2.2.2.2.2.2.2.2.2.2.2.1
theorem dX2_locate_26 : decode cX2_locate 26 = .ok (.iconst 0, 1) := DX2_locate.2.2.2.2.2.2.2.2.2.2.2.2.1
theorem dX2_locate_27 : decode cX2_locate 27 = .ok (.ireturn, 1) := DX2_locate.2.2.2.2.2.2.2.2.2.2.2.2.2.1
theorem dX2_locate_28 : decode cX2_locate 28 = .ok (.aload_n 0, 1) := DX2_locate.2.2.2.2.2.2.2.2.2.2.2.2.2.2.1
theorem dX2_locate_29 : decode cX2_locate 29 = .ok (.invokevirtual 125, 3) := DX2_locate.2.2.2.2.2.2.2.2.2.2.2.2.2.2.2.1
theorem dX2_locate_32 : decode cX2_locate 32 = .ok (.iconst 0, 1) := DX2_locate.2.2.2.2.2.2.2.2.2.2.2.2.2.2.2.2.1
theorem dX2_locate_33 : decode cX2_locate 33 = .ok (.istore_n 3, 1) := DX2_locate.2.2.2.2.2.2.2.2.2.2.2.2.2.2.2.2.2.1
theorem dX2_locate_34 : decode cX2_locate 34 = .ok (.iload_n 3, 1) := DX2_locate.2.2.2.2.2.2.2.2.2.2.2.2.2.2.2.2.2.2.1
theorem dX2_locate_35 : decode cX2_locate 35 = .ok (.bipush 120, 2) := DX2_locate.2.2.2.2.2.2.2.2.2.2.2.2.2.2.2.2.2.2.2.1
theorem dX2_locate_37 : decode cX2_locate 37 = .ok (.if_icmp .ge 24, 3) := DX2_locate.2.2.2.2.2.2.2.2.2.2.2.2.2.2.2.2.2.2.2.2.1
theorem dX2_locate_40 : decode cX2_locate 40 = .ok (.aload_n 0, 1) := DX2_locate.2.2.2.2.2.2.2.2.2.2.2.2.2.2.2.2.2.2.2.2.2.1
theorem dX2_locate_41 : decode cX2_locate 41 = .ok (.iload_n 3, 1) := DX2_locate.2.2.2.2.2.2.2.2.2.2.2.2.2.2.2.2.2.2.2.2.2.2.1
theorem dX2_locate_42 : decode cX2_locate 42 = .ok (.iload_n 1, 1) := DX2_locate.2.2.2.2.2.2.2.2.2.2.2.2.2.2.2.2.2.2.2.2.2.2.2.1
theorem dX2_locate_43 : decode cX2_locate 43 = .ok (.iload_n 2, 1) := DX2_locate.2.2.2.2.2.2.2.2.2.2.2.2.2.2.2.2.2.2.2.2.2.2.2.2.1
theorem dX2_locate_44 : decode cX2_locate 44 = .ok (.invokevirtual 88, 3) := DX2_locate.2.2.2.2.2.2.2.2.2.2.2.2.2.2.2.2.2.2.2.2.2.2.2.2.2.1
theorem dX2_locate_47 : decode cX2_locate 47 = .ok (.ifCond .eq 8, 3) := DX2_locate.2.2.2.2.2.2.2.2.2.2.2.2.2.2.2.2.2.2.2.2.2.2.2.2.2.2.1
theorem dX2_locate_50 : decode cX2_locate 50 = .ok (.bipush (-100), 2) := DX2_locate.2.2.2.2.2.2.2.2.2.2.2.2.2.2.2.2.2.2.2.2.2.2.2.2.2.2.2.1
theorem dX2_locate_52 : decode cX2_locate 52 = .ok (.iload_n 3, 1) := DX2_locate.2.2.2.2.2.2.2.2.2.2.2.2.2.2.2.2.2.2.2.2.2.2.2.2.2.2.2.2.1
theorem dX2_locate_53 : decode cX2_locate 53 = .ok (.isub, 1) := DX2_locate.2.2.2.2.2.2.2.2.2.2.2.2.2.2.2.2.2.2.2.2.2.2.2.2.2.2.2.2.2.1
theorem dX2_locate_54 : decode cX2_locate 54 = .ok (.ireturn, 1) := DX2_locate.2.2.2.2.2.2.2.2.2.2.2.2.2.2.2.2.2.2.2.2.2.2.2.2.2.2.2.2.2.2.1
theorem dX2_locate_55 : decode cX2_locate 55 = .ok (.iinc 3 1, 3) := DX2_locate.2.2.2.2.2.2.2.2.2.2.2.2.2.2.2.2.2.2.2.2.2.2.2.2.2.2.2.2.2.2.2.1
theorem dX2_locate_58 : decode cX2_locate 58 = .ok (.goto (-24), 3) := DX2_locate.2.2.2.2.2.2.2.2.2.2.2.2.2.2.2.2.2.2.2.2.2.2.2.2.2.2.2.2.2.2.2.2.1
theorem dX2_locate_61 : decode cX2_locate 61 = .ok (.iconst 0, 1) := DX2_locate.2.2.2.2.2.2.2.2.2.2.2.2.2.2.2.2.2.2.2.2.2.2.2.2.2.2.2.2.2.2.2.2.2.1
theorem dX2_locate_62 : decode cX2_locate 62 = .ok (.istore_n 3, 1) := DX2_locate.2.2.2.2.2.2.2.2.2.2.2.2.2.2.2.2.2.2.2.2.2.2.2.2.2.2.2.2.2.2.2.2.2.2.1
theorem dX2_locate_63 : decode cX2_locate 63 = .ok (.iload_n 3, 1) := DX2_locate.2.2.2.2.2.2.2.2.2.2.2.2.2.2.2.2.2.2.2.2.2.2.2.2.2.2.2.2.2.2.2.2.2.2.2.1
theorem dX2_locate_64 : decode cX2_locate 64 = .ok (.bipush 60, 2) := DX2_locate.2.2.2.2.2.2.2.2.2.2.2.2.2.2.2.2.2.2.2.2.2.2.2.2.2.2.2.2.2.2.2.2.2.2.2.2.1
theorem dX2_locate_66 : decode cX2_locate 66 = .ok (.if_icmp .ge 67, 3) := DX2_locate.2.2.2.2.2.2.2.2.2.2.2.2.2.2.2.2.2.2.2.2.2.2.2.2.2.2.2.2.2.2.2.2.2.2.2.2.2.1
theorem dX2_locate_69 : decode cX2_locate 69 = .ok (.aload_n 0, 1) := DX2_locate.2.2.2.2.2.2.2.2.2.2.2.2.2.2.2.2.2.2.2.2.2.2.2.2.2.2.2.2.2.2.2.2.2.2.2.2.2.2.1
theorem dX2_locate_70 : decode cX2_locate 70 = .ok (.getfield 7, 3) := DX2_locate.2.2.2.2.2.2.2.2.2.2.2.2.2.2.2.2.2.2.2.2.2.2.2.2.2.2.2.2.2.2.2.2.2.2.2.2.2.2.2.1
theorem dX2_locate_73 : decode cX2_locate 73 = .ok (.iload_n 3, 1) := DX2_locate.2.2.2.2.2.2.2.2.2.2.2.2.2.2.2.2.2.2.2.2.2.2.2.2.2.2.2.2.2.2.2.2.2.2.2.2.2.2.2.2.1
theorem dX2_locate_74 : decode cX2_locate 74 = .ok (.baload, 1) := DX2_locate.2.2.2.2.2.2.2.2.2.2.2.2.2.2.2.2.2.2.2.2.2.2.2.2.2.2.2.2.2.2.2.2.2.2.2.2.2.2.2.2.2.1
theorem dX2_locate_75 : decode cX2_locate 75 = .ok (.ifCond .eq 52, 3) := DX2_locate.2.2.2.2.2.2.2.2.2.2.2.2.2.2.2.2.2.2.2.2.2.2.2.2.2.2.2.2.2.2.2.2.2.2.2.2.2.2.2.2.2.2.1
theorem dX2_locate_78 : decode cX2_locate 78 = .ok (.aload_n 0, 1) := DX2_locate.2.2.2.2.2.2.2.2.2.2.2.2.2.2.2.2.2.2.2.2.2.2.2.2.2.2.2.2.2.2.2.2.2.2.2.2.2.2.2.2.2.2.2.1
theorem dX2_locate_79 : decode cX2_locate 79 = .ok (.getfield 13, 3) := DX2_locate.2.2.2.2.2.2.2.2.2.2.2.2.2.2.2.2.2.2.2.2.2.2.2.2.2.2.2.2.2.2.2.2.2.2.2.2.2.2.2.2.2.2.2.2.1
theorem dX2_locate_82 : decode cX2_locate 82 = .ok (.iconst 2, 1) := DX2_locate.2.2.2.2.2.2.2.2.2.2.2.2.2.2.2.2.2.2.2.2.2.2.2.2.2.2.2.2.2.2.2.2.2.2.2.2.2.2.2.2.2.2.2.2.2.1
theorem dX2_locate_83 : decode cX2_locate 83 = .ok (.iload_n 3, 1) := DX2_locate.2.2.2.2.2.2.2.2.2.2.2.2.2.2.2.2.2.2.2.2.2.2.2.2.2.2.2.2.2.2.2.2.2.2.2.2.2.2.2.2.2.2.2.2.2.2.1
theorem dX2_locate_84 : decode cX2_locate 84 = .ok (.imul, 1) := DX2_locate.2.2.2.2.2.2.2.2.2.2.2.2.2.2.2.2.2.2.2.2.2.2.2.2.2.2.2.2.2.2.2.2.2.2.2.2.2.2.2.2.2.2.2.2.2.2.2.1
theorem dX2_locate_85 : decode cX2_locate 85 = .ok (.iaload, 1) := DX2_locate.2.2.2.2.2.2.2.2.2.2.2.2.2.2.2.2.2.2.2.2.2.2.2.2.2.2.2.2.2.2.2.2.2.2.2.2.2.2.2.2.2.2.2.2.2.2.2.2.1
theorem dX2_locate_86 : decode cX2_locate 86 = .ok (.aload_n 0, 1) := DX2_locate.2.2.2.2.2.2.2.2.2.2.2.2.2.2.2.2.2.2.2.2.2.2.2.2.2.2.2.2.2.2.2.2.2.2.2.2.2.2.2.2.2.2.2.2.2.2.2.2.2.1
theorem dX2_locate_87 : decode cX2_locate 87 = .ok (.getfield 17, 3) := DX2_locate.2.2.2.2.2.2.2.2.2.2.2.2.2.2.2.2.2.2.2.2.2.2.2.2.2.2.2.2.2.2.2.2.2.2.2.2.2.2.2.2.2.2.2.2.2.2.2.2.2.2.1
theorem dX2_locate_90 : decode cX2_locate 90 = .ok (.iconst 2, 1) := DX2_locate.2.2.2.2.2.2.2.2.2.2.2.2.2.2.2.2.2.2.2.2.2.2.2.2.2.2.2.2.2.2.2.2.2.2.2.2.2.2.2.2.2.2.2.2.2.2.2.2.2.2.2.1
theorem dX2_locate_91 : decode cX2_locate 91 = .ok (.iload_n 3, 1) := DX2_locate.2.2.2.2.2.2.2.2.2.2.2.2.2.2.2.2.2.2.2.2.2.2.2.2.2.2.2.2.2.2.2.2.2.2.2.2.2.2.2.2.2.2.2.2.2.2.2.2.2.2.2.2.1
theorem dX2_locate_92 : decode cX2_locate 92 = .ok (.imul, 1) := DX2_locate.2.2.2.2.2.2.2.2.2.2.2.2.2.2.2.2.2.2.2.2.2.2.2.2.2.2.2.2.2.2.2.2.2.2.2.2.2.2.2.2.2.2.2.2.2.2.2.2.2.2.2.2.2.1
theorem dX2_locate_93 : decode cX2_locate 93 = .ok (.iaload, 1) := DX2_locate.2.2.2.2.2.2.2.2.2.2.2.2.2.2.2.2.2.2.2.2.2.2.2.2.2.2.2.2.2.2.2.2.2.2.2.2.2.2.2.2.2.2.2.2.2.2.2.2.2.2.2.2.2.2.1
theorem dX2_locate_94 : decode cX2_locate 94 = .ok (.aload_n 0, 1) := DX2_locate.2.2.2.2.2.2.2.2.2.2.2.2.2.2.2.2.2.2.2.2.2.2.2.2.2.2.2.2.2.2.2.2.2.2.2.2.2.2.2.2.2.2.2.2.2.2.2.2.2.2.2.2.2.2.2.1
theorem dX2_locate_95 : decode cX2_locate 95 = .ok (.getfield 13, 3) := DX2_locate.2.2.2.2.2.2.2.2.2.2.2.2.2.2.2.2.2.2.2.2.2.2.2.2.2.2.2.2.2.2.2.2.2.2.2.2.2.2.2.2.2.2.2.2.2.2.2.2.2.2.2.2.2.2.2.2.1
theorem dX2_locate_98 : decode cX2_locate 98 = .ok (.iconst 2, 1) := DX2_locate.2.2.2.2.2.2.2.2.2.2.2.2.2.2.2.2.2.2.2.2.2.2.2.2.2.2.2.2.2.2.2.2.2.2.2.2.2.2.2.2.2.2.2.2.2.2.2.2.2.2.2.2.2.2.2.2.2.1
theorem dX2_locate_99 : decode cX2_locate 99 = .ok (.iload_n 3, 1) := DX2_locate.2.2.2.2.2.2.2.2.2.2.2.2.2.2.2.2.2.2.2.2.2.2.2.2.2.2.2.2.2.2.2.2.2.2.2.2.2.2.2.2.2.2.2.2.2.2.2.2.2.2.2.2.2.2.2.2.2.2.1
theorem dX2_locate_100 : decode cX2_locate 100 = .ok (.imul, 1) := DX2_locate.2.2.2.2.2.2.2.2.2.2.2.2.2.2.2.2.2.2.2.2.2.2.2.2.2.2.2.2.2.2.2.2.2.2.2.2.2.2.2.2.2.2.2.2.2.2.2.2.2.2.2.2.2.2.2.2.2.2.2.1
theorem dX2_locate_101 : decode cX2_locate 101 = .ok (.iconst 1, 1) := DX2_locate.2.2.2.2.2.2.2.2.2.2.2.2.2.2.2.2.2.2.2.2.2.2.2.2.2.2.2.2.2.2.2.2.2.2.2.2.2.2.2.2.2.2.2.2.2.2.2.2.2.2.2.2.2.2.2.2.2.2.2.2.1
theorem dX2_locate_102 : decode cX2_locate 102 = .ok (.iadd, 1) := DX2_locate.2.2.2.2.2.2.2.2.2.2.2.2.2.2.2.2.2.2.2.2.2.2.2.2.2.2.2.2.2.2.2.2.2.2.2.2.2.2.2.2.2.2.2.2.2.2.2.2.2.2.2.2.2.2.2.2.2.2.2.2.2.1
theorem dX2_locate_103 : decode cX2_locate 103 = .ok (.iaload, 1) := DX2_locate.2.2.2.2.2.2.2.2.2.2.2.2.2.2.2.2.2.2.2.2.2.2.2.2.2.2.2.2.2.2.2.2.2.2.2.2.2.2.2.2.2.2.2.2.2.2.2.2.2.2.2.2.2.2.2.2.2.2.2.2.2.2.1
theorem dX2_locate_104 : decode cX2_locate 104 = .ok (.aload_n 0, 1) := DX2_locate.2.2.2.2.2.2.2.2.2.2.2.2.2.2.2.2.2.2.2.2.2.2.2.2.2.2.2.2.2.2.2.2.2.2.2.2.2.2.2.2.2.2.2.2.2.2.2.2.2.2.2.2.2.2.2.2.2.2.2.2.2.2.2.1
theorem dX2_locate_105 : decode cX2_locate 105 = .ok (.getfield 17, 3) := DX2_locate.2.2.2.2.2.2.2.2.2.2.2.2.2.2.2.2.2.2.2.2.2.2.2.2.2.2.2.2.2.2.2.2.2.2.2.2.2.2.2.2.2.2.2.2.2.2.2.2.2.2.2.2.2.2.2.2.2.2.2.2.2.2.2.2.1
theorem dX2_locate_108 : decode cX2_locate 108 = .ok (.iconst 2, 1) := DX2_locate.2.2.2.2.2.2.2.2.2.2.2.2.2.2.2.2.2.2.2.2.2.2.2.2.2.2.2.2.2.2.2.2.2.2.2.2.2.2.2.2.2.2.2.2.2.2.2.2.2.2.2.2.2.2.2.2.2.2.2.2.2.2.2.2.2.1
theorem dX2_locate_109 : decode cX2_locate 109 = .ok (.iload_n 3, 1) := DX2_locate.2.2.2.2.2.2.2.2.2.2.2.2.2.2.2.2.2.2.2.2.2.2.2.2.2.2.2.2.2.2.2.2.2.2.2.2.2.2.2.2.2.2.2.2.2.2.2.2.2.2.2.2.2.2.2.2.2.2.2.2.2.2.2.2.2.2.1
theorem dX2_locate_110 : decode cX2_locate 110 = .ok (.imul, 1) := DX2_locate.2.2.2.2.2.2.2.2.2.2.2.2.2.2.2.2.2.2.2.2.2.2.2.2.2.2.2.2.2.2.2.2.2.2.2.2.2.2.2.2.2.2.2.2.2.2.2.2.2.2.2.2.2.2.2.2.2.2.2.2.2.2.2.2.2.2.2.1
theorem dX2_locate_111 : decode cX2_locate 111 = .ok (.iconst 1, 1) := DX2_locate.2.2.2.2.2.2.2.2.2.2.2.2.2.2.2.2.2.2.2.2.2.2.2.2.2.2.2.2.2.2.2.2.2.2.2.2.2.2.2.2.2.2.2.2.2.2.2.2.2.2.2.2.2.2.2.2.2.2.2.2.2.2.2.2.2.2.2.2.1
theorem dX2_locate_112 : decode cX2_locate 112 = .ok (.iadd, 1) := DX2_locate.2.2.2.2.2.2.2.2.2.2.2.2.2.2.2.2.2.2.2.2.2.2.2.2.2.2.2.2.2.2.2.2.2.2.2.2.2.2.2.2.2.2.2.2.2.2.2.2.2.2.2.2.2.2.2.2.2.2.2.2.2.2.2.2.2.2.2.2.2.1
theorem dX2_locate_113 : decode cX2_locate 113 = .ok (.iaload, 1) := DX2_locate.2.2.2.2.2.2.2.2.2.2.2.2.2.2.2.2.2.2.2.2.2.2.2.2.2.2.2.2.2.2.2.2.2.2.2.2.2.2.2.2.2.2.2.2.2.2.2.2.2.2.2.2.2.2.2.2.2.2.2.2.2.2.2.2.2.2.2.2.2.2.1
theorem dX2_locate_114 : decode cX2_locate 114 = .ok (.iload_n 1, 1) := DX2_locate.2.2.2.2.2.2.2.2.2.2.2.2.2.2.2.2.2.2.2.2.2.2.2.2.2.2.2.2.2.2.2.2.2.2.2.2.2.2.2.2.2.2.2.2.2.2.2.2.2.2.2.2.2.2.2.2.2.2.2.2.2.2.2.2.2.2.2.2.2.2.2.1
theorem dX2_locate_115 : decode cX2_locate 115 = .ok (.iload_n 2, 1) := DX2_locate.2.2.2.2.2.2.2.2.2.2.2.2.2.2.2.2.2.2.2.2.2.2.2.2.2.2.2.2.2.2.2.2.2.2.2.2.2.2.2.2.2.2.2.2.2.2.2.2.2.2.2.2.2.2.2.2.2.2.2.2.2.2.2.2.2.2.2.2.2.2.2.2.1
theorem dX2_locate_116 : decode cX2_locate 116 = .ok (.invokestatic 61, 3) := DX2_locate.2.2.2.2.2.2.2.2.2.2.2.2.2.2.2.2.2.2.2.2.2.2.2.2.2.2.2.2.2.2.2.2.2.2.2.2.2.2.2.2.2.2.2.2.2.2.2.2.2.2.2.2.2.2.2.2.2.2.2.2.2.2.2.2.2.2.2.2.2.2.2.2.2.1
theorem dX2_locate_119 : decode cX2_locate 119 = .ok (.ifCond .eq 8, 3) := DX2_locate.2.2.2.2.2.2.2.2.2.2.2.2.2.2.2.2.2.2.2.2.2.2.2.2.2.2.2.2.2.2.2.2.2.2.2.2.2.2.2.2.2.2.2.2.2.2.2.2.2.2.2.2.2.2.2.2.2.2.2.2.2.2.2.2.2.2.2.2.2.2.2.2.2.2.1
theorem dX2_locate_122 : decode cX2_locate 122 = .ok (.bipush (-2), 2) := DX2_locate.2.2.2.2.2.2.2.2.2.2.2.2.2.2.2.2.2.2.2.2.2.2.2.2.2.2.2.2.2.2.2.2.2.2.2.2.2.2.2.2.2.2.2.2.2.2.2.2.2.2.2.2.2.2.2.2.2.2.2.2.2.2.2.2.2.2.2.2.2.2.2.2.2.2.2.1
theorem dX2_locate_124 : decode cX2_locate 124 = .ok (.iload_n 3, 1) := DX2_locate.2.2.2.2.2.2.2.2.2.2.2.2.2.2.2.2.2.2.2.2.2.2.2.2.2.2.2.2.2.2.2.2.2.2.2.2.2.2.2.2.2.2.2.2.2.2.2.2.2.2.2.2.2.2.2.2.2.2.2.2.2.2.2.2.2.2.2.2.2.2.2.2.2.2.2.2.1
theorem dX2_locate_125 : decode cX2_locate 125 = .ok (.isub, 1) := DX2_locate.2.2.2.2.2.2.2.2.2.2.2.2.2.2.2.2.2.2.2.2.2.2.2.2.2.2.2.2.2.2.2.2.2.2.2.2.2.2.2.2.2.2.2.2.2.2.2.2.2.2.2.2.2.2.2.2.2.2.2.2.2.2.2.2.2.2.2.2.2.2.2.2.2.2.2.2.2.1
theorem dX2_locate_126 : decode cX2_locate 126 = .ok (.ireturn, 1) := DX2_locate.2.2.2.2.2.2.2.2.2.2.2.2.2.2.2.2.2.2.2.2.2.2.2.2.2.2.2.2.2.2.2.2.2.2.2.2.2.2.2.2.2.2.2.2.2.2.2.2.2.2.2.2.2.2.2.2.2.2.2.2.2.2.2.2.2.2.2.2.2.2.2.2.2.2.2.2.2.2.1
theorem dX2_locate_127 : decode cX2_locate 127 = .ok (.iinc 3 1, 3) := DX2_locate.2.2.2.2.2.2.2.2.2.2.2.2.2.2.2.2.2.2.2.2.2.2.2.2.2.2.2.2.2.2.2.2.2.2.2.2.2.2.2.2.2.2.2.2.2.2.2.2.2.2.2.2.2.2.2.2.2.2.2.2.2.2.2.2.2.2.2.2.2.2.2.2.2.2.2.2.2.2.2.1
theorem dX2_locate_130 : decode cX2_locate 130 = .ok (.goto (-67), 3) := DX2_locate.2.2.2.2.2.2.2.2.2.2.2.2.2.2.2.2.2.2.2.2.2.2.2.2.2.2.2.2.2.2.2.2.2.2.2.2.2.2.2.2.2.2.2.2.2.2.2.2.2.2.2.2.2.2.2.2.2.2.2.2.2.2.2.2.2.2.2.2.2.2.2.2.2.2.2.2.2.2.2.2.1
theorem dX2_locate_133 : decode cX2_locate 133 = .ok (.aload_n 0, 1) := DX2_locate.2.2.2.2.2.2.2.2.2.2.2.2.2.2.2.2.2.2.2.2.2.2.2.2.2.2.2.2.2.2.2.2.2.2.2.2.2.2.2.2.2.2.2.2.2.2.2.2.2.2.2.2.2.2.2.2.2.2.2.2.2.2.2.2.2.2.2.2.2.2.2.2.2.2.2.2.2.2.2.2.2.1
theorem dX2_locate_134 : decode cX2_locate 134 = .ok (.iload_n 1, 1) := DX2_locate.2.2.2.2.2.2.2.2.2.2.2.2.2.2.2.2.2.2.2.2.2.2.2.2.2.2.2.2.2.2.2.2.2.2.2.2.2.2.2.2.2.2.2.2.2.2.2.2.2.2.2.2.2.2.2.2.2.2.2.2.2.2.2.2.2.2.2.2.2.2.2.2.2.2.2.2.2.2.2.2.2.2.1
theorem dX2_locate_135 : decode cX2_locate 135 = .ok (.iload_n 2, 1) := DX2_locate.2.2.2.2.2.2.2.2.2.2.2.2.2.2.2.2.2.2.2.2.2.2.2.2.2.2.2.2.2.2.2.2.2.2.2.2.2.2.2.2.2.2.2.2.2.2.2.2.2.2.2.2.2.2.2.2.2.2.2.2.2.2.2.2.2.2.2.2.2.2.2.2.2.2.2.2.2.2.2.2.2.2.2.1
theorem dX2_locate_136 : decode cX2_locate 136 = .ok (.iconst (-1), 1) := DX2_locate.2.2.2.2.2.2.2.2.2.2.2.2.2.2.2.2.2.2.2.2.2.2.2.2.2.2.2.2.2.2.2.2.2.2.2.2.2.2.2.2.2.2.2.2.2.2.2.2.2.2.2.2.2.2.2.2.2.2.2.2.2.2.2.2.2.2.2.2.2.2.2.2.2.2.2.2.2.2.2.2.2.2.2.2.1
theorem dX2_locate_137 : decode cX2_locate 137 = .ok (.invokevirtual 121, 3) := DX2_locate.2.2.2.2.2.2.2.2.2.2.2.2.2.2.2.2.2.2.2.2.2.2.2.2.2.2.2.2.2.2.2.2.2.2.2.2.2.2.2.2.2.2.2.2.2.2.2.2.2.2.2.2.2.2.2.2.2.2.2.2.2.2.2.2.2.2.2.2.2.2.2.2.2.2.2.2.2.2.2.2.2.2.2.2.2.1
theorem dX2_locate_140 : decode cX2_locate 140 = .ok (.istore_n 3, 1) := DX2_locate.2.2.2.2.2.2.2.2.2.2.2.2.2.2.2.2.2.2.2.2.2.2.2.2.2.2.2.2.2.2.2.2.2.2.2.2.2.2.2.2.2.2.2.2.2.2.2.2.2.2.2.2.2.2.2.2.2.2.2.2.2.2.2.2.2.2.2.2.2.2.2.2.2.2.2.2.2.2.2.2.2.2.2.2.2.2.1
theorem dX2_locate_141 : decode cX2_locate 141 = .ok (.iload_n 3, 1) := DX2_locate.2.2.2.2.2.2.2.2.2.2.2.2.2.2.2.2.2.2.2.2.2.2.2.2.2.2.2.2.2.2.2.2.2.2.2.2.2.2.2.2.2.2.2.2.2.2.2.2.2.2.2.2.2.2.2.2.2.2.2.2.2.2.2.2.2.2.2.2.2.2.2.2.2.2.2.2.2.2.2.2.2.2.2.2.2.2.2.1
theorem dX2_locate_142 : decode cX2_locate 142 = .ok (.ifCond .ge 7, 3) := DX2_locate.2.2.2.2.2.2.2.2.2.2.2.2.2.2.2.2.2.2.2.2.2.2.2.2.2.2.2.2.2.2.2.2.2.2.2.2.2.2.2.2.2.2.2.2.2.2.2.2.2.2.2.2.2.2.2.2.2.2.2.2.2.2.2.2.2.2.2.2.2.2.2.2.2.2.2.2.2.2.2.2.2.2.2.2.2.2.2.2.1
theorem dX2_locate_145 : decode cX2_locate 145 = .ok (.iconst 0, 1) := DX2_locate.2.2.2.2.2.2.2.2.2.2.2.2.2.2.2.2.2.2.2.2.2.2.2.2.2.2.2.2.2.2.2.2.2.2.2.2.2.2.2.2.2.2.2.2.2.2.2.2.2.2.2.2.2.2.2.2.2.2.2.2.2.2.2.2.2.2.2.2.2.2.2.2.2.2.2.2.2.2.2.2.2.2.2.2.2.2.2.2.2.1
theorem dX2_locate_146 : decode cX2_locate 146 = .ok (.goto 9, 3) := DX2_locate.2.2.2.2.2.2.2.2.2.2.2.2.2.2.2.2.2.2.2.2.2.2.2.2.2.2.2.2.2.2.2.2.2.2.2.2.2.2.2.2.2.2.2.2.2.2.2.2.2.2.2.2.2.2.2.2.2.2.2.2.2.2.2.2.2.2.2.2.2.2.2.2.2.2.2.2.2.2.2.2.2.2.2.2.2.2.2.2.2.2.1
theorem dX2_locate_149 : decode cX2_locate 149 = .ok (.aload_n 0, 1) := DX2_locate.2.2.2.2.2.2.2.2.2.2.2.2.2.2.2.2.2.2.2.2.2.2.2.2.2.2.2.2.2.2.2.2.2.2.2.2.2.2.2.2.2.2.2.2.2.2.2.2.2.2.2.2.2.2.2.2.2.2.2.2.2.2.2.2.2.2.2.2.2.2.2.2.2.2.2.2.2.2.2.2.2.2.2.2.2.2.2.2.2.2.2.1
theorem dX2_locate_150 : decode cX2_locate 150 = .ok (.getfield 36, 3) := DX2_locate.2.2.2.2.2.2.2.2.2.2.2.2.2.2.2.2.2.2.2.2.2.2.2.2.2.2.2.2.2.2.2.2.2.2.2.2.2.2.2.2.2.2.2.2.2.2.2.2.2.2.2.2.2.2.2.2.2.2.2.2.2.2.2.2.2.2.2.2.2.2.2.2.2.2.2.2.2.2.2.2.2.2.2.2.2.2.2.2.2.2.2.2.1
theorem dX2_locate_153 : decode cX2_locate 153 = .ok (.iload_n 3, 1) := DX2_locate.2.2.2.2.2.2.2.2.2.2.2.2.2.2.2.2.2.2.2.2.2.2.2.2.2.2.2.2.2.2.2.2.2.2.2.2.2.2.2.2.2.2.2.2.2.2.2.2.2.2.2.2.2.2.2.2.2.2.2.2.2.2.2.2.2.2.2.2.2.2.2.2.2.2.2.2.2.2.2.2.2.2.2.2.2.2.2.2.2.2.2.2.2.1
theorem dX2_locate_154 : decode cX2_locate 154 = .ok (.iaload, 1) := DX2_locate.2.2.2.2.2.2.2.2.2.2.2.2.2.2.2.2.2.2.2.2.2.2.2.2.2.2.2.2.2.2.2.2.2.2.2.2.2.2.2.2.2.2.2.2.2.2.2.2.2.2.2.2.2.2.2.2.2.2.2.2.2.2.2.2.2.2.2.2.2.2.2.2.2.2.2.2.2.2.2.2.2.2.2.2.2.2.2.2.2.2.2.2.2.2.1
theorem dX2_locate_155 : decode cX2_locate 155 = .ok (.ireturn, 1) := DX2_locate.2.2.2.2.2.2.2.2.2.2.2.2.2.2.2.2.2.2.2.2.2.2.2.2.2.2.2.2.2.2.2.2.2.2.2.2.2.2.2.2.2.2.2.2.2.2.2.2.2.2.2.2.2.2.2.2.2.2.2.2.2.2.2.2.2.2.2.2.2.2.2.2.2.2.2.2.2.2.2.2.2.2.2.2.2.2.2.2.2.2.2.2.2.2.2
theorem dX2_above_0 : decode cX2_above 0 = .ok (.aload_n 0, 1) := DX2_above.1
theorem dX2_above_1 : decode cX2_above 1 = .ok (.iload_n 1, 1) := DX2_above.2.1
theorem dX2_above_2 : decode cX2_above 2 = .ok (.invokestatic 65, 3) := DX2_above.2.2.1
theorem dX2_above_5 : decode cX2_above 5 = .ok (.ifCond .eq 14, 3) := DX2_above.2.2.2.1
theorem dX2_above_8 : decode cX2_above 8 = .ok (.iload_n 2, 1) := DX2_above.2.2.2.2.1
theorem dX2_above_9 : decode cX2_above 9 = .ok (.invokestatic 65, 3) := DX2_above.2.2.2.2.2.1
theorem dX2_above_12 : decode cX2_above 12 = .ok (.ifCond .eq 7, 3) := DX2_above.2.2.2.2.2.2.1
theorem dX2_above_15 : decode cX2_above 15 = .ok (.iconst 0, 1) := DX2_above.2.2.2.2.2.2.2.1
theorem dX2_above_16 : decode cX2_above 16 = .ok (.goto 4, 3) := DX2_above.2.2.2.2.2.2.2.2.1
theorem dX2_above_19 : decode cX2_above 19 = .ok (.iconst 1, 1) := DX2_above.2.2.2.2.2.2.2.2.2.1
theorem dX2_above_20 : decode cX2_above 20 = .ok (.invokevirtual 69, 3) := DX2_above.2.2.2.2.2.2.2.2.2.2.1
theorem dX2_above_23 : decode cX2_above 23 = .ok (.ifCond .eq 5, 3) := DX2_above.2.2.2.2.2.2.2.2.2.2.2.1
theorem dX2_above_26 : decode cX2_above 26 = .ok (.iconst 0, 1) := DX2_above.2.2.2.2.2.2.2.2.2.2.2.2.1
theorem dX2_above_27 : decode cX2_above 27 = .ok (.ireturn, 1) := DX2_above.2.2.2.2.2.2.2.2.2.2.2.2.2.1
theorem dX2_above_28 : decode cX2_above 28 = .ok (.iconst (-1), 1) := DX2_above.2.2.2.2.2.2.2.2.2.2.2.2.2.2.1
theorem dX2_above_29 : decode cX2_above 29 = .ok (.istore_n 3, 1) := DX2_above.2.2.2.2.2.2.2.2.2.2.2.2.2.2.2.1
theorem dX2_above_30 : decode cX2_above 30 = .ok (.iconst 0, 1) := DX2_above.2.2.2.2.2.2.2.2.2.2.2.2.2.2.2.2.1
theorem dX2_above_31 : decode cX2_above 31 = .ok (.istore 4, 2) := DX2_above.2.2.2.2.2.2.2.2.2.2.2.2.2.2.2.2.2.1
theorem dX2_above_33 : decode cX2_above 33 = .ok (.iload 4, 2) := DX2_above.2.2.2.2.2.2.2.2.2.2.2.2.2.2.2.2.2.2.1
theorem dX2_above_35 : decode cX2_above 35 = .ok (.bipush 60, 2) := DX2_above.2.2.2.2.2.2.2.2.2.2.2.2.2.2.2.2.2.2.2.1
theorem dX2_above_37 : decode cX2_above 37 = .ok (.if_icmp .ge 85, 3) := DX2_above.2.2.2.2.2.2.2.2.2.2.2.2.2.2.2.2.2.2.2.2.1
theorem dX2_above_40 : decode cX2_above 40 = .ok (.aload_n 0, 1) := DX2_above.2.2.2.2.2.2.2.2.2.2.2.2.2.2.2.2.2.2.2.2.2.1
theorem dX2_above_41 : decode cX2_above 41 = .ok (.getfield 7, 3) := DX2_above.2.2.2.2.2.2.2.2.2.2.2.2.2.2.2.2.2.2.2.2.2.2.1
theorem dX2_above_44 : decode cX2_above 44 = .ok (.iload 4, 2) := DX2_above.2.2.2.2.2.2.2.2.2.2.2.2.2.2.2.2.2.2.2.2.2.2.2.1
theorem dX2_above_46 : decode cX2_above 46 = .ok (.baload, 1) := DX2_above.2.2.2.2.2.2.2.2.2.2.2.2.2.2.2.2.2.2.2.2.2.2.2.2.1
theorem dX2_above_47 : decode cX2_above 47 = .ok (.ifCond .eq 69, 3) := DX2_above.2.2.2.2.2.2.2.2.2.2.2.2.2.2.2.2.2.2.2.2.2.2.2.2.2.1
theorem dX2_above_50 : decode cX2_above 50 = .ok (.aload_n 0, 1) := DX2_above.2.2.2.2.2.2.2.2.2.2.2.2.2.2.2.2.2.2.2.2.2.2.2.2.2.2.1
theorem dX2_above_51 : decode cX2_above 51 = .ok (.iload 4, 2) := DX2_above.2.2.2.2.2.2.2.2.2.2.2.2.2.2.2.2.2.2.2.2.2.2.2.2.2.2.2.1
theorem dX2_above_53 : decode cX2_above 53 = .ok (.iload_n 1, 1) := DX2_above.2.2.2.2.2.2.2.2.2.2.2.2.2.2.2.2.2.2.2.2.2.2.2.2.2.2.2.2.1
theorem dX2_above_54 : decode cX2_above 54 = .ok (.iload_n 2, 1) := DX2_above.2.2.2.2.2.2.2.2.2.2.2.2.2.2.2.2.2.2.2.2.2.2.2.2.2.2.2.2.2.1
theorem dX2_above_55 : decode cX2_above 55 = .ok (.invokevirtual 150, 3) := DX2_above.2.2.2.2.2.2.2.2.2.2.2.2.2.2.2.2.2.2.2.2.2.2.2.2.2.2.2.2.2.2.1
theorem dX2_above_58 : decode cX2_above 58 = .ok (.ifCond .eq 58, 3) := DX2_above.2.2.2.2.2.2.2.2.2.2.2.2.2.2.2.2.2.2.2.2.2.2.2.2.2.2.2.2.2.2.2.1
theorem dX2_above_61 : decode cX2_above 61 = .ok (.iload_n 3, 1) := DX2_above.2.2.2.2.2.2.2.2.2.2.2.2.2.2.2.2.2.2.2.2.2.2.2.2.2.2.2.2.2.2.2.2.1
theorem dX2_above_62 : decode cX2_above 62 = .ok (.ifCond .lt 35, 3) := DX2_above.2.2.2.2.2.2.2.2.2.2.2.2.2.2.2.2.2.2.2.2.2.2.2.2.2.2.2.2.2.2.2.2.2.1
theorem dX2_above_65 : decode cX2_above 65 = .ok (.aload_n 0, 1) := DX2_above.2.2.2.2.2.2.2.2.2.2.2.2.2.2.2.2.2.2.2.2.2.2.2.2.2.2.2.2.2.2.2.2.2.2.1
theorem dX2_above_66 : decode cX2_above 66 = .ok (.iload 4, 2) := DX2_above.2.2.2.2.2.2.2.2.2.2.2.2.2.2.2.2.2.2.2.2.2.2.2.2.2.2.2.2.2.2.2.2.2.2.2.1
theorem dX2_above_68 : decode cX2_above 68 = .ok (.iload_n 1, 1) := DX2_above.2.2.2.2.2.2.2.2.2.2.2.2.2.2.2.2.2.2.2.2.2.2.2.2.2.2.2.2.2.2.2.2.2.2.2.2.1
theorem dX2_above_69 : decode cX2_above 69 = .ok (.iload_n 2, 1) := DX2_above.2.2.2.2.2.2.2.2.2.2.2.2.2.2.2.2.2.2.2.2.2.2.2.2.2.2.2.2.2.2.2.2.2.2.2.2.2.1
theorem dX2_above_70 : decode cX2_above 70 = .ok (.invokevirtual 142, 3) := DX2_above.2.2.2.2.2.2.2.2.2.2.2.2.2.2.2.2.2.2.2.2.2.2.2.2.2.2.2.2.2.2.2.2.2.2.2.2.2.2.1
theorem dX2_above_73 : decode cX2_above 73 = .ok (.aload_n 0, 1) := DX2_above.2.2.2.2.2.2.2.2.2.2.2.2.2.2.2.2.2.2.2.2.2.2.2.2.2.2.2.2.2.2.2.2.2.2.2.2.2.2.2.1
theorem dX2_above_74 : decode cX2_above 74 = .ok (.iload_n 3, 1) := DX2_above.2.2.2.2.2.2.2.2.2.2.2.2.2.2.2.2.2.2.2.2.2.2.2.2.2.2.2.2.2.2.2.2.2.2.2.2.2.2.2.2.1
theorem dX2_above_75 : decode cX2_above 75 = .ok (.invokevirtual 146, 3) := DX2_above.2.2.2.2.2.2.2.2.2.2.2.2.2.2.2.2.2.2.2.2.2.2.2.2.2.2.2.2.2.2.2.2.2.2.2.2.2.2.2.2.2.1
theorem dX2_above_78 : decode cX2_above 78 = .ok (.lmul, 1) := DX2_above.2.2.2.2.2.2.2.2.2.2.2.2.2.2.2.2.2.2.2.2.2.2.2.2.2.2.2.2.2.2.2.2.2.2.2.2.2.2.2.2.2.2.1
theorem dX2_above_79 : decode cX2_above 79 = .ok (.aload_n 0, 1) := DX2_above.2.2.2.2.2.2.2.2.2.2.2.2.2.2.2.2.2.2.2.2.2.2.2.2.2.2.2.2.2.2.2.2.2.2.2.2.2.2.2.2.2.2.2.1
theorem dX2_above_80 : decode cX2_above 80 = .ok (.iload_n 3, 1) := DX2_above.2.2.2.2.2.2.2.2.2.2.2.2.2.2.2.2.2.2.2.2.2.2.2.2.2.2.2.2.2.2.2.2.2.2.2.2.2.2.2.2.2.2.2.2.1
theorem dX2_above_81 : decode cX2_above 81 = .ok (.iload_n 1, 1) := DX2_above.2.2.2.2.2.2.2.2.2.2.2.2.2.2.2.2.2.2.2.2.2.2.2.2.2.2.2.2.2.2.2.2.2.2.2.2.2.2.2.2.2.2.2.2.2.1
theorem dX2_above_82 : decode cX2_above 82 = .ok (.iload_n 2, 1) := DX2_above.2.2.2.2.2.2.2.2.2.2.2.2.2.2.2.2.2.2.2.2.2.2.2.2.2.2.2.2.2.2.2.2.2.2.2.2.2.2.2.2.2.2.2.2.2.2.1
theorem dX2_above_83 : decode cX2_above 83 = .ok (.invokevirtual 142, 3) := DX2_above.2.2.2.2.2.2.2.2.2.2.2.2.2.2.2.2.2.2.2.2.2.2.2.2.2.2.2.2.2.2.2.2.2.2.2.2.2.2.2.2.2.2.2.2.2.2.2.1
theorem dX2_above_86 : decode cX2_above 86 = .ok (.aload_n 0, 1) := DX2_above.2.2.2.2.2.2.2.2.2.2.2.2.2.2.2.2.2.2.2.2.2.2.2.2.2.2.2.2.2.2.2.2.2.2.2.2.2.2.2.2.2.2.2.2.2.2.2.2.1
theorem dX2_above_87 : decode cX2_above 87 = .ok (.iload 4, 2) := DX2_above.2.2.2.2.2.2.2.2.2.2.2.2.2.2.2.2.2.2.2.2.2.2.2.2.2.2.2.2.2.2.2.2.2.2.2.2.2.2.2.2.2.2.2.2.2.2.2.2.2.1
theorem dX2_above_89 : decode cX2_above 89 = .ok (.invokevirtual 146, 3) := DX2_above.2.2.2.2.2.2.2.2.2.2.2.2.2.2.2.2.2.2.2.2.2.2.2.2.2.2.2.2.2.2.2.2.2.2.2.2.2.2.2.2.2.2.2.2.2.2.2.2.2.2.1
theorem dX2_above_92 : decode cX2_above 92 = .ok (.lmul, 1) := DX2_above.2.2.2.2.2.2.2.2.2.2.2.2.2.2.2.2.2.2.2.2.2.2.2.2.2.2.2.2.2.2.2.2.2.2.2.2.2.2.2.2.2.2.2.2.2.2.2.2.2.2.2.1
theorem dX2_above_93 : decode cX2_above 93 = .ok (.lcmp, 1) := DX2_above.2.2.2.2.2.2.2.2.2.2.2.2.2.2.2.2.2.2.2.2.2.2.2.2.2.2.2.2.2.2.2.2.2.2.2.2.2.2.2.2.2.2.2.2.2.2.2.2.2.2.2.2.1
theorem dX2_above_94 : decode cX2_above 94 = .ok (.ifCond .ge 7, 3) := DX2_above.2.2.2.2.2.2.2.2.2.2.2.2.2.2.2.2.2.2.2.2.2.2.2.2.2.2.2.2.2.2.2.2.2.2.2.2.2.2.2.2.2.2.2.2.2.2.2.2.2.2.2.2.2.1
theorem dX2_above_97 : decode cX2_above 97 = .ok (.iconst 1, 1) := DX2_above.2.2.2.2.2.2.2.2.2.2.2.2.2.2.2.2.2.2.2.2.2.2.2.2.2.2.2.2.2.2.2.2.2.2.2.2.2.2.2.2.2.2.2.2.2.2.2.2.2.2.2.2.2.2.1
theorem dX2_above_98 : decode cX2_above 98 = .ok (.goto 4, 3) := DX2_above.2.2.2.2.2.2.2.2.2.2.2.2.2.2.2.2.2.2.2.2.2.2.2.2.2.2.2.2.2.2.2.2.2.2.2.2.2.2.2.2.2.2.2.2.2.2.2.2.2.2.2.2.2.2.2.1
theorem dX2_above_101 : decode cX2_above 101 = .ok (.iconst 0, 1) := DX2_above.2.2.2.2.2.2.2.2.2.2.2.2.2.2.2.2.2.2.2.2.2.2.2.2.2.2.2.2.2.2.2.2.2.2.2.2.2.2.2.2.2.2.2.2.2.2.2.2.2.2.2.2.2.2.2.2.1
theorem dX2_above_102 : decode cX2_above 102 = .ok (.istore 5, 2) := DX2_above.2.2.2.2.2.2.2.2.2.2.2.2.2.2.2.2.2.2.2.2.2.2.2.2.2.2.2.2.2.2.2.2.2.2.2.2.2.2.2.2.2.2.2.2.2.2.2.2.2.2.2.2.2.2.2.2.2.1
theorem dX2_above_104 : decode cX2_above 104 = .ok (.iload 5, 2) := DX2_above.2.2.2.2.2.2.2.2.2.2.2.2.2.2.2.2.2.2.2.2.2.2.2.2.2.2.2.2.2.2.2.2.2.2.2.2.2.2.2.2.2.2.2.2.2.2.2.2.2.2.2.2.2.2.2.2.2.2.1
theorem dX2_above_106 : decode cX2_above 106 = .ok (.ifCond .eq 8, 3) := DX2_above.2.2.2.2.2.2.2.2.2.2.2.2.2.2.2.2.2.2.2.2.2.2.2.2.2.2.2.2.2.2.2.2.2.2.2.2.2.2.2.2.2.2.2.2.2.2.2.2.2.2.2.2.2.2.2.2.2.2.2.1
theorem dX2_above_109 : decode cX2_above 109 = .ok (.iload 4, 2) := DX2_above.2.2.2.2.2.2.2.2.2.2.2.2.2.2.2.2.2.2.2.2.2.2.2.2.2.2.2.2.2.2.2.2.2.2.2.2.2.2.2.2.2.2.2.2.2.2.2.2.2.2.2.2.2.2.2.2.2.2.2.2.1
theorem dX2_above_111 : decode cX2_above 111 = .ok (.goto 4, 3) := DX2_above.2.2.2.2.2.2.2.2.2.2.2.2.2.2.2.2.2.2.2.2.2.2.2.2.2.2.2.2.2.2.2.2.2.2.2.2.2.2.2.2.2.2.2.2.2.2.2.2.2.2.2.2.2.2.2.2.2.2.2.2.2.1
theorem dX2_above_114 : decode cX2_above 114 = .ok (.iload_n 3, 1) := DX2_above.2.2.2.2.2.2.2.2.2.2.2.2.2.2.2.2.2.2.2.2.2.2.2.2.2.2.2.2.2.2.2.2.2.2.2.2.2.2.2.2.2.2.2.2.2.2.2.2.2.2.2.2.2.2.2.2.2.2.2.2.2.2.1
theorem dX2_above_115 : decode cX2_above 115 = .ok (.istore_n 3, 1) := DX2_above.2.2.2.2.2.2.2.2.2.2.2.2.2.2.2.2.2.2.2.2.2.2.2.2.2.2.2.2.2.2.2.2.2.2.2.2.2.2.2.2.2.2.2.2.2.2.2.2.2.2.2.2.2.2.2.2.2.2.2.2.2.2.2.1
theorem dX2_above_116 : decode cX2_above 116 = .ok (.iinc 4 1, 3) := DX2_above.2.2.2.2.2.2.2.2.2.2.2.2.2.2.2.2.2.2.2.2.2.2.2.2.2.2.2.2.2.2.2.2.2.2.2.2.2.2.2.2.2.2.2.2.2.2.2.2.2.2.2.2.2.2.2.2.2.2.2.2.2.2.2.2.1
theorem dX2_above_119 : decode cX2_above 119 = .ok (.goto (-86), 3) := DX2_above.2.2.2.2.2.2.2.2.2.2.2.2.2.2.2.2.2.2.2.2.2.2.2.2.2.2.2.2.2.2.2.2.2.2.2.2.2.2.2.2.2.2.2.2.2.2.2.2.2.2.2.2.2.2.2.2.2.2.2.2.2.2.2.2.2.1
theorem dX2_above_122 : decode cX2_above 122 = .ok (.iload_n 3, 1) := DX2_above.2.2.2.2.2.2.2.2.2.2.2.2.2.2.2.2.2.2.2.2.2.2.2.2.2.2.2.2.2.2.2.2.2.2.2.2.2.2.2.2.2.2.2.2.2.2.2.2.2.2.2.2.2.2.2.2.2.2.2.2.2.2.2.2.2.2.1
theorem dX2_above_123 : decode cX2_above 123 = .ok (.ireturn, 1) := DX2_above.2.2.2.2.2.2.2.2.2.2.2.2.2.2.2.2.2.2.2.2.2.2.2.2.2.2.2.2.2.2.2.2.2.2.2.2.2.2.2.2.2.2.2.2.2.2.2.2.2.2.2.2.2.2.2.2.2.2.2.2.2.2.2.2.2.2.2
theorem dX2_isMet_0 : decode cX2_isMet 0 = .ok (.aload_n 0, 1) := DX2_isMet.1
theorem dX2_isMet_1 : decode cX2_isMet 1 = .ok (.getfield 13, 3) := DX2_isMet.2.1
theorem dX2_isMet_4 : decode cX2_isMet 4 = .ok (.iconst 2, 1) := DX2_isMet.2.2.1
theorem dX2_isMet_5 : decode cX2_isMet 5 = .ok (.iload_n 1, 1) := DX2_isMet.2.2.2.1
theorem dX2_isMet_6 : decode cX2_isMet 6 = .ok (.imul, 1) := DX2_isMet.2.2.2.2.1
theorem dX2_isMet_7 : decode cX2_isMet 7 = .ok (.iaload, 1) := DX2_isMet.2.2.2.2.2.1
theorem dX2_isMet_8 : decode cX2_isMet 8 = .ok (.istore 4, 2) := DX2_isMet.2.2.2.2.2.2.1
theorem dX2_isMet_10 : decode cX2_isMet 10 = .ok (.aload_n 0, 1) := DX2_isMet.2.2.2.2.2.2.2.1
theorem dX2_isMet_11 : decode cX2_isMet 11 = .ok (.getfield 13, 3) := DX2_isMet.2.2.2.2.2.2.2.2.1
theorem dX2_isMet_14 : decode cX2_isMet 14 = .ok (.iconst 2, 1) := DX2_isMet.2.2.2.2.2.2.2.2.2.1
theorem dX2_isMet_15 : decode cX2_isMet 15 = .ok (.iload_n 1, 1) := DX2_isMet.2.2.2.2.2.2.2.2.2.2.1
theorem dX2_isMet_16 : decode cX2_isMet 16 = .ok (.imul, 1) := DX2_isMet.2.2.2.2.2.2.2.2.2.2.2.1
theorem dX2_isMet_17 : decode cX2_isMet 17 = .ok (.iconst 1, 1) := DX2_isMet.2.2.2.2.2.2.2.2.2.2.2.2.1
theorem dX2_isMet_18 : decode cX2_isMet 18 = .ok (.iadd, 1) := DX2_isMet.2.2.2.2.2.2.2.2.2.2.2.2.2.1
theorem dX2_isMet_19 : decode cX2_isMet 19 = .ok (.iaload, 1) := DX2_isMet.2.2.2.2.2.2.2.2.2.2.2.2.2.2.1
theorem dX2_isMet_20 : decode cX2_isMet 20 = .ok (.istore 5, 2) := DX2_isMet.2.2.2.2.2.2.2.2.2.2.2.2.2.2.2.1
theorem dX2_isMet_22 : decode cX2_isMet 22 = .ok (.iload 4, 2) := DX2_isMet.2.2.2.2.2.2.2.2.2.2.2.2.2.2.2.2.1
theorem dX2_isMet_24 : decode cX2_isMet 24 = .ok (.iload 5, 2) := DX2_isMet.2.2.2.2.2.2.2.2.2.2.2.2.2.2.2.2.2.1
theorem dX2_isMet_26 : decode cX2_isMet 26 = .ok (.if_icmp .ne 28, 3) := DX2_isMet.2.2.2.2.2.2.2.2.2.2.2.2.2.2.2.2.2.2.1
theorem dX2_isMet_29 : decode cX2_isMet 29 = .ok (.iload 4, 2) := DX2_isMet.2.2.2.2.2.2.2.2.2.2.2.2.2.2.2.2.2.2.2.1
theorem dX2_isMet_31 : decode cX2_isMet 31 = .ok (.iload_n 2, 1) := DX2_isMet.2.2.2.2.2.2.2.2.2.2.2.2.2.2.2.2.2.2.2.2.1
theorem dX2_isMet_32 : decode cX2_isMet 32 = .ok (.if_icmp .ne 20, 3) := DX2_isMet.2.2.2.2.2.2.2.2.2.2.2.2.2.2.2.2.2.2.2.2.2.1
theorem dX2_isMet_35 : decode cX2_isMet 35 = .ok (.aload_n 0, 1) := DX2_isMet.2.2.2.2.2.2.2.2.2.2.2.2.2.2.2.2.2.2.2.2.2.2.1
theorem dX2_isMet_36 : decode cX2_isMet 36 = .ok (.iload_n 1, 1) := DX2_isMet.2.2.2.2.2.2.2.2.2.2.2.2.2.2.2.2.2.2.2.2.2.2.2.1
theorem dX2_isMet_37 : decode cX2_isMet 37 = .ok (.iload_n 2, 1) := DX2_isMet.2.2.2.2.2.2.2.2.2.2.2.2.2.2.2.2.2.2.2.2.2.2.2.2.1
theorem dX2_isMet_38 : decode cX2_isMet 38 = .ok (.iload_n 3, 1) := DX2_isMet.2.2.2.2.2.2.2.2.2.2.2.2.2.2.2.2.2.2.2.2.2.2.2.2.2.1
theorem dX2_isMet_39 : decode cX2_isMet 39 = .ok (.invokevirtual 142, 3) := DX2_isMet.2.2.2.2.2.2.2.2.2.2.2.2.2.2.2.2.2.2.2.2.2.2.2.2.2.2.1
theorem dX2_isMet_42 : decode cX2_isMet 42 = .ok (.iload_n 3, 1) := DX2_isMet.2.2.2.2.2.2.2.2.2.2.2.2.2.2.2.2.2.2.2.2.2.2.2.2.2.2.2.1
theorem dX2_isMet_43 : decode cX2_isMet 43 = .ok (.i2l, 1) := DX2_isMet.2.2.2.2.2.2.2.2.2.2.2.2.2.2.2.2.2.2.2.2.2.2.2.2.2.2.2.2.1
theorem dX2_isMet_44 : decode cX2_isMet 44 = .ok (.lcmp, 1) := DX2_isMet.2.2.2.2.2.2.2.2.2.2.2.2.2.2.2.2.2.2.2.2.2.2.2.2.2.2.2.2.2.1
theorem dX2_isMet_45 : decode cX2_isMet 45 = .ok (.ifCond .lt 7, 3) := DX2_isMet.2.2.2.2.2.2.2.2.2.2.2.2.2.2.2.2.2.2.2.2.2.2.2.2.2.2.2.2.2.2.1
theorem dX2_isMet_48 : decode cX2_isMet 48 = .ok (.iconst 1, 1) := DX2_isMet.2.2.2.2.2.2.2.2.2.2.2.2.2.2.2.2.2.2.2.2.2.2.2.2.2.2.2.2.2.2.2.1
theorem dX2_isMet_49 : decode cX2_isMet 49 = .ok (.goto 4, 3) := DX2_isMet.2.2.2.2.2.2.2.2.2.2.2.2.2.2.2.2.2.2.2.2.2.2.2.2.2.2.2.2.2.2.2.2.1
theorem dX2_isMet_52 : decode cX2_isMet 52 = .ok (.iconst 0, 1) := DX2_isMet.2.2.2.2.2.2.2.2.2.2.2.2.2.2.2.2.2.2.2.2.2.2.2.2.2.2.2.2.2.2.2.2.2.1
theorem dX2_isMet_53 : decode cX2_isMet 53 = .ok (.ireturn, 1) := DX2_isMet.2.2.2.2.2.2.2.2.2.2.2.2.2.2.2.2.2.2.2.2.2.2.2.2.2.2.2.2.2.2.2.2.2.2.1
theorem dX2_isMet_54 : decode cX2_isMet 54 = .ok (.iload 4, 2) := DX2_isMet.2.2.2.2.2.2.2.2.2.2.2.2.2.2.2.2.2.2.2.2.2.2.2.2.2.2.2.2.2.2.2.2.2.2.2.1
theorem dX2_isMet_56 : decode cX2_isMet 56 = .ok (.iload 5, 2) := DX2_isMet.2.2.2.2.2.2.2.2.2.2.2.2.2.2.2.2.2.2.2.2.2.2.2.2.2.2.2.2.2.2.2.2.2.2.2.2.1
theorem dX2_isMet_58 : decode cX2_isMet 58 = .ok (.if_icmp .ge 23, 3) := DX2_isMet.2.2.2.2.2.2.2.2.2.2.2.2.2.2.2.2.2.2.2.2.2.2.2.2.2.2.2.2.2.2.2.2.2.2.2.2.2.1
theorem dX2_isMet_61 : decode cX2_isMet 61 = .ok (.iload_n 2, 1) := DX2_isMet.2.2.2.2.2.2.2.2.2.2.2.2.2.2.2.2.2.2.2.2.2.2.2.2.2.2.2.2.2.2.2.2.2.2.2.2.2.2.1
theorem dX2_isMet_62 : decode cX2_isMet 62 = .ok (.iload 4, 2) := DX2_isMet.2.2.2.2.2.2.2.2.2.2.2.2.2.2.2.2.2.2.2.2.2.2.2.2.2.2.2.2.2.2.2.2.2.2.2.2.2.2.2.1
theorem dX2_isMet_64 : decode cX2_isMet 64 = .ok (.if_icmp .lt 13, 3) := DX2_isMet.2.2.2.2.2.2.2.2.2.2.2.2.2.2.2.2.2.2.2.2.2.2.2.2.2.2.2.2.2.2.2.2.2.2.2.2.2.2.2.2.1
theorem dX2_isMet_67 : decode cX2_isMet 67 = .ok (.iload_n 2, 1) := DX2_isMet.2.2.2.2.2.2.2.2.2.2.2.2.2.2.2.2.2.2.2.2.2.2.2.2.2.2.2.2.2.2.2.2.2.2.2.2.2.2.2.2.2.1
theorem dX2_isMet_68 : decode cX2_isMet 68 = .ok (.iload 5, 2) := DX2_isMet.2.2.2.2.2.2.2.2.2.2.2.2.2.2.2.2.2.2.2.2.2.2.2.2.2.2.2.2.2.2.2.2.2.2.2.2.2.2.2.2.2.2.1
theorem dX2_isMet_70 : decode cX2_isMet 70 = .ok (.if_icmp .gt 7, 3) := DX2_isMet.2.2.2.2.2.2.2.2.2.2.2.2.2.2.2.2.2.2.2.2.2.2.2.2.2.2.2.2.2.2.2.2.2.2.2.2.2.2.2.2.2.2.2.1
theorem dX2_isMet_73 : decode cX2_isMet 73 = .ok (.iconst 1, 1) := DX2_isMet.2.2.2.2.2.2.2.2.2.2.2.2.2.2.2.2.2.2.2.2.2.2.2.2.2.2.2.2.2.2.2.2.2.2.2.2.2.2.2.2.2.2.2.2.1
theorem dX2_isMet_74 : decode cX2_isMet 74 = .ok (.goto 24, 3) := DX2_isMet.2.2.2.2.2.2.2.2.2.2.2.2.2.2.2.2.2.2.2.2.2.2.2.2.2.2.2.2.2.2.2.2.2.2.2.2.2.2.2.2.2.2.2.2.2.1
theorem dX2_isMet_77 : decode cX2_isMet 77 = .ok (.iconst 0, 1) := DX2_isMet.2.2.2.2.2.2.2.2.2.2.2.2.2.2.2.2.2.2.2.2.2.2.2.2.2.2.2.2.2.2.2.2.2.2.2.2.2.2.2.2.2.2.2.2.2.2.1
theorem dX2_isMet_78 : decode cX2_isMet 78 = .ok (.goto 20, 3) := DX2_isMet.2.2.2.2.2.2.2.2.2.2.2.2.2.2.2.2.2.2.2.2.2.2.2.2.2.2.2.2.2.2.2.2.2.2.2.2.2.2.2.2.2.2.2.2.2.2.2.1
theorem dX2_isMet_81 : decode cX2_isMet 81 = .ok (.iload_n 2, 1) := DX2_isMet.2.2.2.2.2.2.2.2.2.2.2.2.2.2.2.2.2.2.2.2.2.2.2.2.2.2.2.2.2.2.2.2.2.2.2.2.2.2.2.2.2.2.2.2.2.2.2.2.1
theorem dX2_isMet_82 : decode cX2_isMet 82 = .ok (.iload 5, 2) := DX2_isMet.2.2.2.2.2.2.2.2.2.2.2.2.2.2.2.2.2.2.2.2.2.2.2.2.2.2.2.2.2.2.2.2.2.2.2.2.2.2.2.2.2.2.2.2.2.2.2.2.2.1
theorem dX2_isMet_84 : decode cX2_isMet 84 = .ok (.if_icmp .lt 13, 3) := DX2_isMet.2.2.2.2.2.2.2.2.2.2.2.2.2.2.2.2.2.2.2.2.2.2.2.2.2.2.2.2.2.2.2.2.2.2.2.2.2.2.2.2.2.2.2.2.2.2.2.2.2.2.1
theorem dX2_isMet_87 : decode cX2_isMet 87 = .ok (.iload_n 2, 1) := DX2_isMet.2.2.2.2.2.2.2.2.2.2.2.2.2.2.2.2.2.2.2.2.2.2.2.2.2.2.2.2.2.2.2.2.2.2.2.2.2.2.2.2.2.2.2.2.2.2.2.2.2.2.2.1
theorem dX2_isMet_88 : decode cX2_isMet 88 = .ok (.iload 4, 2) := DX2_isMet.2.2.2.2.2.2.2.2.2.2.2.2.2.2.2.2.2.2.2.2.2.2.2.2.2.2.2.2.2.2.2.2.2.2.2.2.2.2.2.2.2.2.2.2.2.2.2.2.2.2.2.2.1
theorem dX2_isMet_90 : decode cX2_isMet 90 = .ok (.if_icmp .gt 7, 3) := DX2_isMet.2.2.2.2.2.2.2.2.2.2.2.2.2.2.2.2.2.2.2.2.2.2.2.2.2.2.2.2.2.2.2.2.2.2.2.2.2.2.2.2.2.2.2.2.2.2.2.2.2.2.2.2.2.1
theorem dX2_isMet_93 : decode cX2_isMet 93 = .ok (.iconst 1, 1) := DX2_isMet.2.2.2.2.2.2.2.2.2.2.2.2.2.2.2.2.2.2.2.2.2.2.2.2.2.2.2.2.2.2.2.2.2.2.2.2.2.2.2.2.2.2.2.2.2.2.2.2.2.2.2.2.2.2.1
theorem dX2_isMet_94 : decode cX2_isMet 94 = .ok (.goto 4, 3) := DX2_isMet.2.2.2.2.2.2.2.2.2.2.2.2.2.2.2.2.2.2.2.2.2.2.2.2.2.2.2.2.2.2.2.2.2.2.2.2.2.2.2.2.2.2.2.2.2.2.2.2.2.2.2.2.2.2.2.1
theorem dX2_isMet_97 : decode cX2_isMet 97 = .ok (.iconst 0, 1) := DX2_isMet.2.2.2.2.2.2.2.2.2.2.2.2.2.2.2.2.2.2.2.2.2.2.2.2.2.2.2.2.2.2.2.2.2.2.2.2.2.2.2.2.2.2.2.2.2.2.2.2.2.2.2.2.2.2.2.2.1
theorem dX2_isMet_98 : decode cX2_isMet 98 = .ok (.istore 6, 2) := DX2_isMet.2.2.2.2.2.2.2.2.2.2.2.2.2.2.2.2.2.2.2.2.2.2.2.2.2.2.2.2.2.2.2.2.2.2.2.2.2.2.2.2.2.2.2.2.2.2.2.2.2.2.2.2.2.2.2.2.2.1
theorem dX2_isMet_100 : decode cX2_isMet 100 = .ok (.iload 6, 2) := DX2_isMet.2.2.2.2.2.2.2.2.2.2.2.2.2.2.2.2.2.2.2.2.2.2.2.2.2.2.2.2.2.2.2.2.2.2.2.2.2.2.2.2.2.2.2.2.2.2.2.2.2.2.2.2.2.2.2.2.2.2.1
theorem dX2_isMet_102 : decode cX2_isMet 102 = .ok (.ifCond .eq 26, 3) := DX2_isMet.2.2.2.2.2.2.2.2.2.2.2.2.2.2.2.2.2.2.2.2.2.2.2.2.2.2.2.2.2.2.2.2.2.2.2.2.2.2.2.2.2.2.2.2.2.2.2.2.2.2.2.2.2.2.2.2.2.2.2.1
theorem dX2_isMet_105 : decode cX2_isMet 105 = .ok (.aload_n 0, 1) := DX2_isMet.2.2.2.2.2.2.2.2.2.2.2.2.2.2.2.2.2.2.2.2.2.2.2.2.2.2.2.2.2.2.2.2.2.2.2.2.2.2.2.2.2.2.2.2.2.2.2.2.2.2.2.2.2.2.2.2.2.2.2.2.1
theorem dX2_isMet_106 : decode cX2_isMet 106 = .ok (.iload_n 1, 1) := DX2_isMet.2.2.2.2.2.2.2.2.2.2.2.2.2.2.2.2.2.2.2.2.2.2.2.2.2.2.2.2.2.2.2.2.2.2.2.2.2.2.2.2.2.2.2.2.2.2.2.2.2.2.2.2.2.2.2.2.2.2.2.2.2.1
theorem dX2_isMet_107 : decode cX2_isMet 107 = .ok (.iload_n 2, 1) := DX2_isMet.2.2.2.2.2.2.2.2.2.2.2.2.2.2.2.2.2.2.2.2.2.2.2.2.2.2.2.2.2.2.2.2.2.2.2.2.2.2.2.2.2.2.2.2.2.2.2.2.2.2.2.2.2.2.2.2.2.2.2.2.2.2.1
theorem dX2_isMet_108 : decode cX2_isMet 108 = .ok (.iload_n 3, 1) := DX2_isMet.2.2.2.2.2.2.2.2.2.2.2.2.2.2.2.2.2.2.2.2.2.2.2.2.2.2.2.2.2.2.2.2.2.2.2.2.2.2.2.2.2.2.2.2.2.2.2.2.2.2.2.2.2.2.2.2.2.2.2.2.2.2.2.1
theorem dX2_isMet_109 : decode cX2_isMet 109 = .ok (.invokevirtual 142, 3) := DX2_isMet.2.2.2.2.2.2.2.2.2.2.2.2.2.2.2.2.2.2.2.2.2.2.2.2.2.2.2.2.2.2.2.2.2.2.2.2.2.2.2.2.2.2.2.2.2.2.2.2.2.2.2.2.2.2.2.2.2.2.2.2.2.2.2.2.1
theorem dX2_isMet_112 : decode cX2_isMet 112 = .ok (.iload_n 3, 1) := DX2_isMet.2.2.2.2.2.2.2.2.2.2.2.2.2.2.2.2.2.2.2.2.2.2.2.2.2.2.2.2.2.2.2.2.2.2.2.2.2.2.2.2.2.2.2.2.2.2.2.2.2.2.2.2.2.2.2.2.2.2.2.2.2.2.2.2.2.1
theorem dX2_isMet_113 : decode cX2_isMet 113 = .ok (.i2l, 1) := DX2_isMet.2.2.2.2.2.2.2.2.2.2.2.2.2.2.2.2.2.2.2.2.2.2.2.2.2.2.2.2.2.2.2.2.2.2.2.2.2.2.2.2.2.2.2.2.2.2.2.2.2.2.2.2.2.2.2.2.2.2.2.2.2.2.2.2.2.2.1
theorem dX2_isMet_114 : decode cX2_isMet 114 = .ok (.aload_n 0, 1) := DX2_isMet.2.2.2.2.2.2.2.2.2.2.2.2.2.2.2.2.2.2.2.2.2.2.2.2.2.2.2.2.2.2.2.2.2.2.2.2.2.2.2.2.2.2.2.2.2.2.2.2.2.2.2.2.2.2.2.2.2.2.2.2.2.2.2.2.2.2.2.1
theorem dX2_isMet_115 : decode cX2_isMet 115 = .ok (.iload_n 1, 1) := DX2_isMet.2.2.2.2.2.2.2.2.2.2.2.2.2.2.2.2.2.2.2.2.2.2.2.2.2.2.2.2.2.2.2.2.2.2.2.2.2.2.2.2.2.2.2.2.2.2.2.2.2.2.2.2.2.2.2.2.2.2.2.2.2.2.2.2.2.2.2.2.1
theorem dX2_isMet_116 : decode cX2_isMet 116 = .ok (.invokevirtual 146, 3) := DX2_isMet.2.2.2.2.2.2.2.2.2.2.2.2.2.2.2.2.2.2.2.2.2.2.2.2.2.2.2.2.2.2.2.2.2.2.2.2.2.2.2.2.2.2.2.2.2.2.2.2.2.2.2.2.2.2.2.2.2.2.2.2.2.2.2.2.2.2.2.2.2.1
theorem dX2_isMet_119 : decode cX2_isMet 119 = .ok (.lmul, 1) := DX2_isMet.2.2.2.2.2.2.2.2.2.2.2.2.2.2.2.2.2.2.2.2.2.2.2.2.2.2.2.2.2.2.2.2.2.2.2.2.2.2.2.2.2.2.2.2.2.2.2.2.2.2.2.2.2.2.2.2.2.2.2.2.2.2.2.2.2.2.2.2.2.2.1
theorem dX2_isMet_120 : decode cX2_isMet 120 = .ok (.lcmp, 1) := DX2_isMet.2.2.2.2.2.2.2.2.2.2.2.2.2.2.2.2.2.2.2.2.2.2.2.2.2.2.2.2.2.2.2.2.2.2.2.2.2.2.2.2.2.2.2.2.2.2.2.2.2.2.2.2.2.2.2.2.2.2.2.2.2.2.2.2.2.2.2.2.2.2.2.1
theorem dX2_isMet_121 : decode cX2_isMet 121 = .ok (.ifCond .le 7, 3) := DX2_isMet.2.2.2.2.2.2.2.2.2.2.2.2.2.2.2.2.2.2.2.2.2.2.2.2.2.2.2.2.2.2.2.2.2.2.2.2.2.2.2.2.2.2.2.2.2.2.2.2.2.2.2.2.2.2.2.2.2.2.2.2.2.2.2.2.2.2.2.2.2.2.2.2.1
theorem dX2_isMet_124 : decode cX2_isMet 124 = .ok (.iconst 1, 1) := DX2_isMet.2.2.2.2.2.2.2.2.2.2.2.2.2.2.2.2.2.2.2.2.2.2.2.2.2.2.2.2.2.2.2.2.2.2.2.2.2.2.2.2.2.2.2.2.2.2.2.2.2.2.2.2.2.2.2.2.2.2.2.2.2.2.2.2.2.2.2.2.2.2.2.2.2.1
theorem dX2_isMet_125 : decode cX2_isMet 125 = .ok (.goto 4, 3) := DX2_isMet.2.2.2.2.2.2.2.2.2.2.2.2.2.2.2.2.2.2.2.2.2.2.2.2.2.2.2.2.2.2.2.2.2.2.2.2.2.2.2.2.2.2.2.2.2.2.2.2.2.2.2.2.2.2.2.2.2.2.2.2.2.2.2.2.2.2.2.2.2.2.2.2.2.2.1
theorem dX2_isMet_128 : decode cX2_isMet 128 = .ok (.iconst 0, 1) := DX2_isMet.2.2.2.2.2.2.2.2.2.2.2.2.2.2.2.2.2.2.2.2.2.2.2.2.2.2.2.2.2.2.2.2.2.2.2.2.2.2.2.2.2.2.2.2.2.2.2.2.2.2.2.2.2.2.2.2.2.2.2.2.2.2.2.2.2.2.2.2.2.2.2.2.2.2.2.1
theorem dX2_isMet_129 : decode cX2_isMet 129 = .ok (.ireturn, 1) := DX2_isMet.2.2.2.2.2.2.2.2.2.2.2.2.2.2.2.2.2.2.2.2.2.2.2.2.2.2.2.2.2.2.2.2.2.2.2.2.2.2.2.2.2.2.2.2.2.2.2.2.2.2.2.2.2.2.2.2.2.2.2.2.2.2.2.2.2.2.2.2.2.2.2.2.2.2.2.2
theorem dX2_height_0 : decode cX2_height 0 = .ok (.aload_n 0, 1) := DX2_height.1
theorem dX2_height_1 : decode cX2_height 1 = .ok (.getfield 13, 3) := DX2_height.2.1
theorem dX2_height_4 : decode cX2_height 4 = .ok (.iconst 2, 1) := DX2_height.2.2.1
theorem dX2_height_5 : decode cX2_height 5 = .ok (.iload_n 1, 1) := DX2_height.2.2.2.1
theorem dX2_height_6 : decode cX2_height 6 = .ok (.imul, 1) := DX2_height.2.2.2.2.1
theorem dX2_height_7 : decode cX2_height 7 = .ok (.iaload, 1) := DX2_height.2.2.2.2.2.1
theorem dX2_height_8 : decode cX2_height 8 = .ok (.aload_n 0, 1) := DX2_height.2.2.2.2.2.2.1
theorem dX2_height_9 : decode cX2_height 9 = .ok (.getfield 13, 3) := DX2_height.2.2.2.2.2.2.2.1
theorem dX2_height_12 : decode cX2_height 12 = .ok (.iconst 2, 1) := DX2_height.2.2.2.2.2.2.2.2.1
theorem dX2_height_13 : decode cX2_height 13 = .ok (.iload_n 1, 1) := DX2_height.2.2.2.2.2.2.2.2.2.1
theorem dX2_height_14 : decode cX2_height 14 = .ok (.imul, 1) := DX2_height.2.2.2.2.2.2.2.2.2.2.1
theorem dX2_height_15 : decode cX2_height 15 = .ok (.iconst 1, 1) := DX2_height.2.2.2.2.2.2.2.2.2.2.2.1
theorem dX2_height_16 : decode cX2_height 16 = .ok (.iadd, 1) := DX2_height.2.2.2.2.2.2.2.2.2.2.2.2.1
theorem dX2_height_17 : decode cX2_height 17 = .ok (.iaload, 1) := DX2_height.2.2.2.2.2.2.2.2.2.2.2.2.2.1
theorem dX2_height_18 : decode cX2_height 18 = .ok (.if_icmp .ge 9, 3) := DX2_height.2.2.2.2.2.2.2.2.2.2.2.2.2.2.1
theorem dX2_height_21 : decode cX2_height 21 = .ok (.iconst 2, 1) := DX2_height.2.2.2.2.2.2.2.2.2.2.2.2.2.2.2.1
theorem dX2_height_22 : decode cX2_height 22 = .ok (.iload_n 1, 1) := DX2_height.2.2.2.2.2.2.2.2.2.2.2.2.2.2.2.2.1
theorem dX2_height_23 : decode cX2_height 23 = .ok (.imul, 1) := DX2_height.2.2.2.2.2.2.2.2.2.2.2.2.2.2.2.2.2.1
theorem dX2_height_24 : decode cX2_height 24 = .ok (.goto 8, 3) := DX2_height.2.2.2.2.2.2.2.2.2.2.2.2.2.2.2.2.2.2.1
theorem dX2_height_27 : decode cX2_height 27 = .ok (.iconst 2, 1) := DX2_height.2.2.2.2.2.2.2.2.2.2.2.2.2.2.2.2.2.2.2.1
theorem dX2_height_28 : decode cX2_height 28 = .ok (.iload_n 1, 1) := DX2_height.2.2.2.2.2.2.2.2.2.2.2.2.2.2.2.2.2.2.2.2.1
theorem dX2_height_29 : decode cX2_height 29 = .ok (.imul, 1) := DX2_height.2.2.2.2.2.2.2.2.2.2.2.2.2.2.2.2.2.2.2.2.2.1
theorem dX2_height_30 : decode cX2_height 30 = .ok (.iconst 1, 1) := DX2_height.2.2.2.2.2.2.2.2.2.2.2.2.2.2.2.2.2.2.2.2.2.2.1
theorem dX2_height_31 : decode cX2_height 31 = .ok (.iadd, 1) := DX2_height.2.2.2.2.2.2.2.2.2.2.2.2.2.2.2.2.2.2.2.2.2.2.2.1
theorem dX2_height_32 : decode cX2_height 32 = .ok (.istore 4, 2) := DX2_height.2.2.2.2.2.2.2.2.2.2.2.2.2.2.2.2.2.2.2.2.2.2.2.2.1
theorem dX2_height_34 : decode cX2_height 34 = .ok (.iload 4, 2) := DX2_height.2.2.2.2.2.2.2.2.2.2.2.2.2.2.2.2.2.2.2.2.2.2.2.2.2.1
theorem dX2_height_36 : decode cX2_height 36 = .ok (.invokestatic 80, 3) := DX2_height.2.2.2.2.2.2.2.2.2.2.2.2.2.2.2.2.2.2.2.2.2.2.2.2.2.2.1
theorem dX2_height_39 : decode cX2_height 39 = .ok (.istore 5, 2) := DX2_height.2.2.2.2.2.2.2.2.2.2.2.2.2.2.2.2.2.2.2.2.2.2.2.2.2.2.2.1
theorem dX2_height_41 : decode cX2_height 41 = .ok (.aload_n 0, 1) := DX2_height.2.2.2.2.2.2.2.2.2.2.2.2.2.2.2.2.2.2.2.2.2.2.2.2.2.2.2.2.1
theorem dX2_height_42 : decode cX2_height 42 = .ok (.getfield 13, 3) := DX2_height.2.2.2.2.2.2.2.2.2.2.2.2.2.2.2.2.2.2.2.2.2.2.2.2.2.2.2.2.2.1
theorem dX2_height_45 : decode cX2_height 45 = .ok (.iload 4, 2) := DX2_height.2.2.2.2.2.2.2.2.2.2.2.2.2.2.2.2.2.2.2.2.2.2.2.2.2.2.2.2.2.2.1
theorem dX2_height_47 : decode cX2_height 47 = .ok (.iaload, 1) := DX2_height.2.2.2.2.2.2.2.2.2.2.2.2.2.2.2.2.2.2.2.2.2.2.2.2.2.2.2.2.2.2.2.1
theorem dX2_height_48 : decode cX2_height 48 = .ok (.aload_n 0, 1) := DX2_height.2.2.2.2.2.2.2.2.2.2.2.2.2.2.2.2.2.2.2.2.2.2.2.2.2.2.2.2.2.2.2.2.1
theorem dX2_height_49 : decode cX2_height 49 = .ok (.getfield 13, 3) := DX2_height.2.2.2.2.2.2.2.2.2.2.2.2.2.2.2.2.2.2.2.2.2.2.2.2.2.2.2.2.2.2.2.2.2.1
theorem dX2_height_52 : decode cX2_height 52 = .ok (.iload 5, 2) := DX2_height.2.2.2.2.2.2.2.2.2.2.2.2.2.2.2.2.2.2.2.2.2.2.2.2.2.2.2.2.2.2.2.2.2.2.1
theorem dX2_height_54 : decode cX2_height 54 = .ok (.iaload, 1) := DX2_height.2.2.2.2.2.2.2.2.2.2.2.2.2.2.2.2.2.2.2.2.2.2.2.2.2.2.2.2.2.2.2.2.2.2.2.1
theorem dX2_height_55 : decode cX2_height 55 = .ok (.if_icmp .ne 102, 3) := DX2_height.2.2.2.2.2.2.2.2.2.2.2.2.2.2.2.2.2.2.2.2.2.2.2.2.2.2.2.2.2.2.2.2.2.2.2.2.1
theorem dX2_height_58 : decode cX2_height 58 = .ok (.aload_n 0, 1) := DX2_height.2.2.2.2.2.2.2.2.2.2.2.2.2.2.2.2.2.2.2.2.2.2.2.2.2.2.2.2.2.2.2.2.2.2.2.2.2.1
theorem dX2_height_59 : decode cX2_height 59 = .ok (.getfield 17, 3) := DX2_height.2.2.2.2.2.2.2.2.2.2.2.2.2.2.2.2.2.2.2.2.2.2.2.2.2.2.2.2.2.2.2.2.2.2.2.2.2.2.1
theorem dX2_height_62 : decode cX2_height 62 = .ok (.iload 4, 2) := DX2_height.2.2.2.2.2.2.2.2.2.2.2.2.2.2.2.2.2.2.2.2.2.2.2.2.2.2.2.2.2.2.2.2.2.2.2.2.2.2.2.1
theorem dX2_height_64 : decode cX2_height 64 = .ok (.iaload, 1) := DX2_height.2.2.2.2.2.2.2.2.2.2.2.2.2.2.2.2.2.2.2.2.2.2.2.2.2.2.2.2.2.2.2.2.2.2.2.2.2.2.2.2.1
theorem dX2_height_65 : decode cX2_height 65 = .ok (.aload_n 0, 1) := DX2_height.2.2.2.2.2.2.2.2.2.2.2.2.2.2.2.2.2.2.2.2.2.2.2.2.2.2.2.2.2.2.2.2.2.2.2.2.2.2.2.2.2.1
theorem dX2_height_66 : decode cX2_height 66 = .ok (.getfield 17, 3) := DX2_height.2.2.2.2.2.2.2.2.2.2.2.2.2.2.2.2.2.2.2.2.2.2.2.2.2.2.2.2.2.2.2.2.2.2.2.2.2.2.2.2.2.2.1
theorem dX2_height_69 : decode cX2_height 69 = .ok (.iload 5, 2) := DX2_height.2.2.2.2.2.2.2.2.2.2.2.2.2.2.2.2.2.2.2.2.2.2.2.2.2.2.2.2.2.2.2.2.2.2.2.2.2.2.2.2.2.2.2.1
theorem dX2_height_71 : decode cX2_height 71 = .ok (.iaload, 1) := DX2_height.2.2.2.2.2.2.2.2.2.2.2.2.2.2.2.2.2.2.2.2.2.2.2.2.2.2.2.2.2.2.2.2.2.2.2.2.2.2.2.2.2.2.2.2.1
theorem dX2_height_72 : decode cX2_height 72 = .ok (.if_icmp .ge 13, 3) := DX2_height.2.2.2.2.2.2.2.2.2.2.2.2.2.2.2.2.2.2.2.2.2.2.2.2.2.2.2.2.2.2.2.2.2.2.2.2.2.2.2.2.2.2.2.2.2.1
theorem dX2_height_75 : decode cX2_height 75 = .ok (.aload_n 0, 1) := DX2_height.2.2.2.2.2.2.2.2.2.2.2.2.2.2.2.2.2.2.2.2.2.2.2.2.2.2.2.2.2.2.2.2.2.2.2.2.2.2.2.2.2.2.2.2.2.2.1
theorem dX2_height_76 : decode cX2_height 76 = .ok (.getfield 17, 3) := DX2_height.2.2.2.2.2.2.2.2.2.2.2.2.2.2.2.2.2.2.2.2.2.2.2.2.2.2.2.2.2.2.2.2.2.2.2.2.2.2.2.2.2.2.2.2.2.2.2.1
theorem dX2_height_79 : decode cX2_height 79 = .ok (.iload 4, 2) := DX2_height.2.2.2.2.2.2.2.2.2.2.2.2.2.2.2.2.2.2.2.2.2.2.2.2.2.2.2.2.2.2.2.2.2.2.2.2.2.2.2.2.2.2.2.2.2.2.2.2.1
theorem dX2_height_81 : decode cX2_height 81 = .ok (.iaload, 1) := DX2_height.2.2.2.2.2.2.2.2.2.2.2.2.2.2.2.2.2.2.2.2.2.2.2.2.2.2.2.2.2.2.2.2.2.2.2.2.2.2.2.2.2.2.2.2.2.2.2.2.2.1
theorem dX2_height_82 : decode cX2_height 82 = .ok (.goto 10, 3) := DX2_height.2.2.2.2.2.2.2.2.2.2.2.2.2.2.2.2.2.2.2.2.2.2.2.2.2.2.2.2.2.2.2.2.2.2.2.2.2.2.2.2.2.2.2.2.2.2.2.2.2.2.1
theorem dX2_height_85 : decode cX2_height 85 = .ok (.aload_n 0, 1) := DX2_height.2.2.2.2.2.2.2.2.2.2.2.2.2.2.2.2.2.2.2.2.2.2.2.2.2.2.2.2.2.2.2.2.2.2.2.2.2.2.2.2.2.2.2.2.2.2.2.2.2.2.2.1
theorem dX2_height_86 : decode cX2_height 86 = .ok (.getfield 17, 3) := DX2_height.2.2.2.2.2.2.2.2.2.2.2.2.2.2.2.2.2.2.2.2.2.2.2.2.2.2.2.2.2.2.2.2.2.2.2.2.2.2.2.2.2.2.2.2.2.2.2.2.2.2.2.2.1
theorem dX2_height_89 : decode cX2_height 89 = .ok (.iload 5, 2) := DX2_height.2.2.2.2.2.2.2.2.2.2.2.2.2.2.2.2.2.2.2.2.2.2.2.2.2.2.2.2.2.2.2.2.2.2.2.2.2.2.2.2.2.2.2.2.2.2.2.2.2.2.2.2.2.1
theorem dX2_height_91 : decode cX2_height 91 = .ok (.iaload, 1) := DX2_height.2.2.2.2.2.2.2.2.2.2.2.2.2.2.2.2.2.2.2.2.2.2.2.2.2.2.2.2.2.2.2.2.2.2.2.2.2.2.2.2.2.2.2.2.2.2.2.2.2.2.2.2.2.2.1
theorem dX2_height_92 : decode cX2_height 92 = .ok (.istore 6, 2) := DX2_height.2.2.2.2.2.2.2.2.2.2.2.2.2.2.2.2.2.2.2.2.2.2.2.2.2.2.2.2.2.2.2.2.2.2.2.2.2.2.2.2.2.2.2.2.2.2.2.2.2.2.2.2.2.2.2.1
theorem dX2_height_94 : decode cX2_height 94 = .ok (.aload_n 0, 1) := DX2_height.2.2.2.2.2.2.2.2.2.2.2.2.2.2.2.2.2.2.2.2.2.2.2.2.2.2.2.2.2.2.2.2.2.2.2.2.2.2.2.2.2.2.2.2.2.2.2.2.2.2.2.2.2.2.2.2.1
theorem dX2_height_95 : decode cX2_height 95 = .ok (.getfield 17, 3) := DX2_height.2.2.2.2.2.2.2.2.2.2.2.2.2.2.2.2.2.2.2.2.2.2.2.2.2.2.2.2.2.2.2.2.2.2.2.2.2.2.2.2.2.2.2.2.2.2.2.2.2.2.2.2.2.2.2.2.2.1
theorem dX2_height_98 : decode cX2_height 98 = .ok (.iload 4, 2) := DX2_height.2.2.2.2.2.2.2.2.2.2.2.2.2.2.2.2.2.2.2.2.2.2.2.2.2.2.2.2.2.2.2.2.2.2.2.2.2.2.2.2.2.2.2.2.2.2.2.2.2.2.2.2.2.2.2.2.2.2.1
theorem dX2_height_100 : decode cX2_height 100 = .ok (.iaload, 1) := DX2_height.2.2.2.2.2.2.2.2.2.2.2.2.2.2.2.2.2.2.2.2.2.2.2.2.2.2.2.2.2.2.2.2.2.2.2.2.2.2.2.2.2.2.2.2.2.2.2.2.2.2.2.2.2.2.2.2.2.2.2.1
theorem dX2_height_101 : decode cX2_height 101 = .ok (.aload_n 0, 1) := DX2_height.2.2.2.2.2.2.2.2.2.2.2.2.2.2.2.2.2.2.2.2.2.2.2.2.2.2.2.2.2.2.2.2.2.2.2.2.2.2.2.2.2.2.2.2.2.2.2.2.2.2.2.2.2.2.2.2.2.2.2.2.1
theorem dX2_height_102 : decode cX2_height 102 = .ok (.getfield 17, 3) := DX2_height.2.2.2.2.2.2.2.2.2.2.2.2.2.2.2.2.2.2.2.2.2.2.2.2.2.2.2.2.2.2.2.2.2.2.2.2.2.2.2.2.2.2.2.2.2.2.2.2.2.2.2.2.2.2.2.2.2.2.2.2.2.1
theorem dX2_height_105 : decode cX2_height 105 = .ok (.iload 5, 2) := DX2_height.2.2.2.2.2.2.2.2.2.2.2.2.2.2.2.2.2.2.2.2.2.2.2.2.2.2.2.2.2.2.2.2.2.2.2.2.2.2.2.2.2.2.2.2.2.2.2.2.2.2.2.2.2.2.2.2.2.2.2.2.2.2.1
theorem dX2_height_107 : decode cX2_height 107 = .ok (.iaload, 1) := DX2_height.2.2.2.2.2.2.2.2.2.2.2.2.2.2.2.2.2.2.2.2.2.2.2.2.2.2.2.2.2.2.2.2.2.2.2.2.2.2.2.2.2.2.2.2.2.2.2.2.2.2.2.2.2.2.2.2.2.2.2.2.2.2.2.1
theorem dX2_height_108 : decode cX2_height 108 = .ok (.if_icmp .ge 13, 3) := DX2_height.2.2.2.2.2.2.2.2.2.2.2.2.2.2.2.2.2.2.2.2.2.2.2.2.2.2.2.2.2.2.2.2.2.2.2.2.2.2.2.2.2.2.2.2.2.2.2.2.2.2.2.2.2.2.2.2.2.2.2.2.2.2.2.2.1
theorem dX2_height_111 : decode cX2_height 111 = .ok (.aload_n 0, 1) := DX2_height.2.2.2.2.2.2.2.2.2.2.2.2.2.2.2.2.2.2.2.2.2.2.2.2.2.2.2.2.2.2.2.2.2.2.2.2.2.2.2.2.2.2.2.2.2.2.2.2.2.2.2.2.2.2.2.2.2.2.2.2.2.2.2.2.2.1
theorem dX2_height_112 : decode cX2_height 112 = .ok (.getfield 17, 3) := DX2_height.2.2.2.2.2.2.2.2.2.2.2.2.2.2.2.2.2.2.2.2.2.2.2.2.2.2.2.2.2.2.2.2.2.2.2.2.2.2.2.2.2.2.2.2.2.2.2.2.2.2.2.2.2.2.2.2.2.2.2.2.2.2.2.2.2.2.1
theorem dX2_height_115 : decode cX2_height 115 = .ok (.iload 5, 2) := DX2_height.2.2.2.2.2.2.2.2.2.2.2.2.2.2.2.2.2.2.2.2.2.2.2.2.2.2.2.2.2.2.2.2.2.2.2.2.2.2.2.2.2.2.2.2.2.2.2.2.2.2.2.2.2.2.2.2.2.2.2.2.2.2.2.2.2.2.2.1
theorem dX2_height_117 : decode cX2_height 117 = .ok (.iaload, 1) := DX2_height.2.2.2.2.2.2.2.2.2.2.2.2.2.2.2.2.2.2.2.2.2.2.2.2.2.2.2.2.2.2.2.2.2.2.2.2.2.2.2.2.2.2.2.2.2.2.2.2.2.2.2.2.2.2.2.2.2.2.2.2.2.2.2.2.2.2.2.2.1
theorem dX2_height_118 : decode cX2_height 118 = .ok (.goto 10, 3) := DX2_height.2.2.2.2.2.2.2.2.2.2.2.2.2.2.2.2.2.2.2.2.2.2.2.2.2.2.2.2.2.2.2.2.2.2.2.2.2.2.2.2.2.2.2.2.2.2.2.2.2.2.2.2.2.2.2.2.2.2.2.2.2.2.2.2.2.2.2.2.2.1
theorem dX2_height_121 : decode cX2_height 121 = .ok (.aload_n 0, 1) := DX2_height.2.2.2.2.2.2.2.2.2.2.2.2.2.2.2.2.2.2.2.2.2.2.2.2.2.2.2.2.2.2.2.2.2.2.2.2.2.2.2.2.2.2.2.2.2.2.2.2.2.2.2.2.2.2.2.2.2.2.2.2.2.2.2.2.2.2.2.2.2.2.1
theorem dX2_height_122 : decode cX2_height 122 = .ok (.getfield 17, 3) := DX2_height.2.2.2.2.2.2.2.2.2.2.2.2.2.2.2.2.2.2.2.2.2.2.2.2.2.2.2.2.2.2.2.2.2.2.2.2.2.2.2.2.2.2.2.2.2.2.2.2.2.2.2.2.2.2.2.2.2.2.2.2.2.2.2.2.2.2.2.2.2.2.2.1
theorem dX2_height_125 : decode cX2_height 125 = .ok (.iload 4, 2) := DX2_height.2.2.2.2.2.2.2.2.2.2.2.2.2.2.2.2.2.2.2.2.2.2.2.2.2.2.2.2.2.2.2.2.2.2.2.2.2.2.2.2.2.2.2.2.2.2.2.2.2.2.2.2.2.2.2.2.2.2.2.2.2.2.2.2.2.2.2.2.2.2.2.2.1
theorem dX2_height_127 : decode cX2_height 127 = .ok (.iaload, 1) := DX2_height.2.2.2.2.2.2.2.2.2.2.2.2.2.2.2.2.2.2.2.2.2.2.2.2.2.2.2.2.2.2.2.2.2.2.2.2.2.2.2.2.2.2.2.2.2.2.2.2.2.2.2.2.2.2.2.2.2.2.2.2.2.2.2.2.2.2.2.2.2.2.2.2.2.1
theorem dX2_height_128 : decode cX2_height 128 = .ok (.istore 7, 2) := DX2_height.2.2.2.2.2.2.2.2.2.2.2.2.2.2.2.2.2.2.2.2.2.2.2.2.2.2.2.2.2.2.2.2.2.2.2.2.2.2.2.2.2.2.2.2.2.2.2.2.2.2.2.2.2.2.2.2.2.2.2.2.2.2.2.2.2.2.2.2.2.2.2.2.2.2.1
theorem dX2_height_130 : decode cX2_height 130 = .ok (.iload 6, 2) := DX2_height.2.2.2.2.2.2.2.2.2.2.2.2.2.2.2.2.2.2.2.2.2.2.2.2.2.2.2.2.2.2.2.2.2.2.2.2.2.2.2.2.2.2.2.2.2.2.2.2.2.2.2.2.2.2.2.2.2.2.2.2.2.2.2.2.2.2.2.2.2.2.2.2.2.2.2.1
theorem dX2_height_132 : decode cX2_height 132 = .ok (.iload_n 3, 1) := DX2_height.2.2.2.2.2.2.2.2.2.2.2.2.2.2.2.2.2.2.2.2.2.2.2.2.2.2.2.2.2.2.2.2.2.2.2.2.2.2.2.2.2.2.2.2.2.2.2.2.2.2.2.2.2.2.2.2.2.2.2.2.2.2.2.2.2.2.2.2.2.2.2.2.2.2.2.2.1
theorem dX2_height_133 : decode cX2_height 133 = .ok (.if_icmp .le 9, 3) := DX2_height.2.2.2.2.2.2.2.2.2.2.2.2.2.2.2.2.2.2.2.2.2.2.2.2.2.2.2.2.2.2.2.2.2.2.2.2.2.2.2.2.2.2.2.2.2.2.2.2.2.2.2.2.2.2.2.2.2.2.2.2.2.2.2.2.2.2.2.2.2.2.2.2.2.2.2.2.2.1
theorem dX2_height_136 : decode cX2_height 136 = .ok (.iload 6, 2) := DX2_height.2.2.2.2.2.2.2.2.2.2.2.2.2.2.2.2.2.2.2.2.2.2.2.2.2.2.2.2.2.2.2.2.2.2.2.2.2.2.2.2.2.2.2.2.2.2.2.2.2.2.2.2.2.2.2.2.2.2.2.2.2.2.2.2.2.2.2.2.2.2.2.2.2.2.2.2.2.2.1
theorem dX2_height_138 : decode cX2_height 138 = .ok (.i2l, 1) := DX2_height.2.2.2.2.2.2.2.2.2.2.2.2.2.2.2.2.2.2.2.2.2.2.2.2.2.2.2.2.2.2.2.2.2.2.2.2.2.2.2.2.2.2.2.2.2.2.2.2.2.2.2.2.2.2.2.2.2.2.2.2.2.2.2.2.2.2.2.2.2.2.2.2.2.2.2.2.2.2.2.1
theorem dX2_height_139 : decode cX2_height 139 = .ok (.goto 17, 3) := DX2_height.2.2.2.2.2.2.2.2.2.2.2.2.2.2.2.2.2.2.2.2.2.2.2.2.2.2.2.2.2.2.2.2.2.2.2.2.2.2.2.2.2.2.2.2.2.2.2.2.2.2.2.2.2.2.2.2.2.2.2.2.2.2.2.2.2.2.2.2.2.2.2.2.2.2.2.2.2.2.2.2.1
theorem dX2_height_142 : decode cX2_height 142 = .ok (.iload 7, 2) := DX2_height.2.2.2.2.2.2.2.2.2.2.2.2.2.2.2.2.2.2.2.2.2.2.2.2.2.2.2.2.2.2.2.2.2.2.2.2.2.2.2.2.2.2.2.2.2.2.2.2.2.2.2.2.2.2.2.2.2.2.2.2.2.2.2.2.2.2.2.2.2.2.2.2.2.2.2.2.2.2.2.2.2.1
theorem dX2_height_144 : decode cX2_height 144 = .ok (.iload_n 3, 1) := DX2_height.2.2.2.2.2.2.2.2.2.2.2.2.2.2.2.2.2.2.2.2.2.2.2.2.2.2.2.2.2.2.2.2.2.2.2.2.2.2.2.2.2.2.2.2.2.2.2.2.2.2.2.2.2.2.2.2.2.2.2.2.2.2.2.2.2.2.2.2.2.2.2.2.2.2.2.2.2.2.2.2.2.2.1
theorem dX2_height_145 : decode cX2_height 145 = .ok (.if_icmp .le 8, 3) := DX2_height.2.2.2.2.2.2.2.2.2.2.2.2.2.2.2.2.2.2.2.2.2.2.2.2.2.2.2.2.2.2.2.2.2.2.2.2.2.2.2.2.2.2.2.2.2.2.2.2.2.2.2.2.2.2.2.2.2.2.2.2.2.2.2.2.2.2.2.2.2.2.2.2.2.2.2.2.2.2.2.2.2.2.2.1
theorem dX2_height_148 : decode cX2_height 148 = .ok (.iload_n 3, 1) := DX2_height.2.2.2.2.2.2.2.2.2.2.2.2.2.2.2.2.2.2.2.2.2.2.2.2.2.2.2.2.2.2.2.2.2.2.2.2.2.2.2.2.2.2.2.2.2.2.2.2.2.2.2.2.2.2.2.2.2.2.2.2.2.2.2.2.2.2.2.2.2.2.2.2.2.2.2.2.2.2.2.2.2.2.2.2.1
theorem dX2_height_149 : decode cX2_height 149 = .ok (.i2l, 1) := DX2_height.2.2.2.2.2.2.2.2.2.2.2.2.2.2.2.2.2.2.2.2.2.2.2.2.2.2.2.2.2.2.2.2.2.2.2.2.2.2.2.2.2.2.2.2.2.2.2.2.2.2.2.2.2.2.2.2.2.2.2.2.2.2.2.2.2.2.2.2.2.2.2.2.2.2.2.2.2.2.2.2.2.2.2.2.2.1
theorem dX2_height_150 : decode cX2_height 150 = .ok (.goto 6, 3) := DX2_height.2.2.2.2.2.2.2.2.2.2.2.2.2.2.2.2.2.2.2.2.2.2.2.2.2.2.2.2.2.2.2.2.2.2.2.2.2.2.2.2.2.2.2.2.2.2.2.2.2.2.2.2.2.2.2.2.2.2.2.2.2.2.2.2.2.2.2.2.2.2.2.2.2.2.2.2.2.2.2.2.2.2.2.2.2.2.1
theorem dX2_height_153 : decode cX2_height 153 = .ok (.ldc2_w 140, 3) := DX2_height.2.2.2.2.2.2.2.2.2.2.2.2.2.2.2.2.2.2.2.2.2.2.2.2.2.2.2.2.2.2.2.2.2.2.2.2.2.2.2.2.2.2.2.2.2.2.2.2.2.2.2.2.2.2.2.2.2.2.2.2.2.2.2.2.2.2.2.2.2.2.2.2.2.2.2.2.2.2.2.2.2.2.2.2.2.2.2.1
theorem dX2_height_156 : decode cX2_height 156 = .ok (.lreturn, 1) := DX2_height.2.2.2.2.2.2.2.2.2.2.2.2.2.2.2.2.2.2.2.2.2.2.2.2.2.2.2.2.2.2.2.2.2.2.2.2.2.2.2.2.2.2.2.2.2.2.2.2.2.2.2.2.2.2.2.2.2.2.2.2.2.2.2.2.2.2.2.2.2.2.2.2.2.2.2.2.2.2.2.2.2.2.2.2.2.2.2.2.1
theorem dX2_height_157 : decode cX2_height 157 = .ok (.aload_n 0, 1) := DX2_height.2.2.2.2.2.2.2.2.2.2.2.2.2.2.2.2.2.2.2.2.2.2.2.2.2.2.2.2.2.2.2.2.2.2.2.2.2.2.2.2.2.2.2.2.2.2.2.2.2.2.2.2.2.2.2.2.2.2.2.2.2.2.2.2.2.2.2.2.2.2.2.2.2.2.2.2.2.2.2.2.2.2.2.2.2.2.2.2.2.1
theorem dX2_height_158 : decode cX2_height 158 = .ok (.getfield 17, 3) := DX2_height.2.2.2.2.2.2.2.2.2.2.2.2.2.2.2.2.2.2.2.2.2.2.2.2.2.2.2.2.2.2.2.2.2.2.2.2.2.2.2.2.2.2.2.2.2.2.2.2.2.2.2.2.2.2.2.2.2.2.2.2.2.2.2.2.2.2.2.2.2.2.2.2.2.2.2.2.2.2.2.2.2.2.2.2.2.2.2.2.2.2.1
theorem dX2_height_161 : decode cX2_height 161 = .ok (.iload 4, 2) := DX2_height.2.2.2.2.2.2.2.2.2.2.2.2.2.2.2.2.2.2.2.2.2.2.2.2.2.2.2.2.2.2.2.2.2.2.2.2.2.2.2.2.2.2.2.2.2.2.2.2.2.2.2.2.2.2.2.2.2.2.2.2.2.2.2.2.2.2.2.2.2.2.2.2.2.2.2.2.2.2.2.2.2.2.2.2.2.2.2.2.2.2.2.1
theorem dX2_height_163 : decode cX2_height 163 = .ok (.iaload, 1) := DX2_height.2.2.2.2.2.2.2.2.2.2.2.2.2.2.2.2.2.2.2.2.2.2.2.2.2.2.2.2.2.2.2.2.2.2.2.2.2.2.2.2.2.2.2.2.2.2.2.2.2.2.2.2.2.2.2.2.2.2.2.2.2.2.2.2.2.2.2.2.2.2.2.2.2.2.2.2.2.2.2.2.2.2.2.2.2.2.2.2.2.2.2.2.1
theorem dX2_height_164 : decode cX2_height 164 = .ok (.i2l, 1) := DX2_height.2.2.2.2.2.2.2.2.2.2.2.2.2.2.2.2.2.2.2.2.2.2.2.2.2.2.2.2.2.2.2.2.2.2.2.2.2.2.2.2.2.2.2.2.2.2.2.2.2.2.2.2.2.2.2.2.2.2.2.2.2.2.2.2.2.2.2.2.2.2.2.2.2.2.2.2.2.2.2.2.2.2.2.2.2.2.2.2.2.2.2.2.2.1
theorem dX2_height_165 : decode cX2_height 165 = .ok (.aload_n 0, 1) := DX2_height.2.2.2.2.2.2.2.2.2.2.2.2.2.2.2.2.2.2.2.2.2.2.2.2.2.2.2.2.2.2.2.2.2.2.2.2.2.2.2.2.2.2.2.2.2.2.2.2.2.2.2.2.2.2.2.2.2.2.2.2.2.2.2.2.2.2.2.2.2.2.2.2.2.2.2.2.2.2.2.2.2.2.2.2.2.2.2.2.2.2.2.2.2.2.1
theorem dX2_height_166 : decode cX2_height 166 = .ok (.getfield 13, 3) := DX2_height.2.2.2.2.2.2.2.2.2.2.2.2.2.2.2.2.2.2.2.2.2.2.2.2.2.2.2.2.2.2.2.2.2.2.2.2.2.2.2.2.2.2.2.2.2.2.2.2.2.2.2.2.2.2.2.2.2.2.2.2.2.2.2.2.2.2.2.2.2.2.2.2.2.2.2.2.2.2.2.2.2.2.2.2.2.2.2.2.2.2.2.2.2.2.2.1
theorem dX2_height_169 : decode cX2_height 169 = .ok (.iload 5, 2) := DX2_height.2.2.2.2.2.2.2.2.2.2.2.2.2.2.2.2.2.2.2.2.2.2.2.2.2.2.2.2.2.2.2.2.2.2.2.2.2.2.2.2.2.2.2.2.2.2.2.2.2.2.2.2.2.2.2.2.2.2.2.2.2.2.2.2.2.2.2.2.2.2.2.2.2.2.2.2.2.2.2.2.2.2.2.2.2.2.2.2.2.2.2.2.2.2.2.2.1
theorem dX2_height_171 : decode cX2_height 171 = .ok (.iaload, 1) := DX2_height.2.2.2.2.2.2.2.2.2.2.2.2.2.2.2.2.2.2.2.2.2.2.2.2.2.2.2.2.2.2.2.2.2.2.2.2.2.2.2.2.2.2.2.2.2.2.2.2.2.2.2.2.2.2.2.2.2.2.2.2.2.2.2.2.2.2.2.2.2.2.2.2.2.2.2.2.2.2.2.2.2.2.2.2.2.2.2.2.2.2.2.2.2.2.2.2.2.1
theorem dX2_height_172 : decode cX2_height 172 = .ok (.aload_n 0, 1) := DX2_height.2.2.2.2.2.2.2.2.2.2.2.2.2.2.2.2.2.2.2.2.2.2.2.2.2.2.2.2.2.2.2.2.2.2.2.2.2.2.2.2.2.2.2.2.2.2.2.2.2.2.2.2.2.2.2.2.2.2.2.2.2.2.2.2.2.2.2.2.2.2.2.2.2.2.2.2.2.2.2.2.2.2.2.2.2.2.2.2.2.2.2.2.2.2.2.2.2.2.1
theorem dX2_height_173 : decode cX2_height 173 = .ok (.getfield 13, 3) := DX2_height.2.2.2.2.2.2.2.2.2.2.2.2.2.2.2.2.2.2.2.2.2.2.2.2.2.2.2.2.2.2.2.2.2.2.2.2.2.2.2.2.2.2.2.2.2.2.2.2.2.2.2.2.2.2.2.2.2.2.2.2.2.2.2.2.2.2.2.2.2.2.2.2.2.2.2.2.2.2.2.2.2.2.2.2.2.2.2.2.2.2.2.2.2.2.2.2.2.2.2.1
theorem dX2_height_176 : decode cX2_height 176 = .ok (.iload 4, 2) := DX2_height.2.2.2.2.2.2.2.2.2.2.2.2.2.2.2.2.2.2.2.2.2.2.2.2.2.2.2.2.2.2.2.2.2.2.2.2.2.2.2.2.2.2.2.2.2.2.2.2.2.2.2.2.2.2.2.2.2.2.2.2.2.2.2.2.2.2.2.2.2.2.2.2.2.2.2.2.2.2.2.2.2.2.2.2.2.2.2.2.2.2.2.2.2.2.2.2.2.2.2.2.1
theorem dX2_height_178 : decode cX2_height 178 = .ok (.iaload, 1) := DX2_height.2.2.2.2.2.2.2.2.2.2.2.2.2.2.2.2.2.2.2.2.2.2.2.2.2.2.2.2.2.2.2.2.2.2.2.2.2.2.2.2.2.2.2.2.2.2.2.2.2.2.2.2.2.2.2.2.2.2.2.2.2.2.2.2.2.2.2.2.2.2.2.2.2.2.2.2.2.2.2.2.2.2.2.2.2.2.2.2.2.2.2.2.2.2.2.2.2.2.2.2.2.1
theorem dX2_height_179 : decode cX2_height 179 = .ok (.isub, 1) := DX2_height.2.2.2.2.2.2.2.2.2.2.2.2.2.2.2.2.2.2.2.2.2.2.2.2.2.2.2.2.2.2.2.2.2.2.2.2.2.2.2.2.2.2.2.2.2.2.2.2.2.2.2.2.2.2.2.2.2.2.2.2.2.2.2.2.2.2.2.2.2.2.2.2.2.2.2.2.2.2.2.2.2.2.2.2.2.2.2.2.2.2.2.2.2.2.2.2.2.2.2.2.2.2.1
theorem dX2_height_180 : decode cX2_height 180 = .ok (.i2l, 1) := DX2_height.2.2.2.2.2.2.2.2.2.2.2.2.2.2.2.2.2.2.2.2.2.2.2.2.2.2.2.2.2.2.2.2.2.2.2.2.2.2.2.2.2.2.2.2.2.2.2.2.2.2.2.2.2.2.2.2.2.2.2.2.2.2.2.2.2.2.2.2.2.2.2.2.2.2.2.2.2.2.2.2.2.2.2.2.2.2.2.2.2.2.2.2.2.2.2.2.2.2.2.2.2.2.2.1
theorem dX2_height_181 : decode cX2_height 181 = .ok (.lmul, 1) := DX2_height.2.2.2.2.2.2.2.2.2.2.2.2.2.2.2.2.2.2.2.2.2.2.2.2.2.2.2.2.2.2.2.2.2.2.2.2.2.2.2.2.2.2.2.2.2.2.2.2.2.2.2.2.2.2.2.2.2.2.2.2.2.2.2.2.2.2.2.2.2.2.2.2.2.2.2.2.2.2.2.2.2.2.2.2.2.2.2.2.2.2.2.2.2.2.2.2.2.2.2.2.2.2.2.2.1
theorem dX2_height_182 : decode cX2_height 182 = .ok (.aload_n 0, 1) := DX2_height.2.2.2.2.2.2.2.2.2.2.2.2.2.2.2.2.2.2.2.2.2.2.2.2.2.2.2.2.2.2.2.2.2.2.2.2.2.2.2.2.2.2.2.2.2.2.2.2.2.2.2.2.2.2.2.2.2.2.2.2.2.2.2.2.2.2.2.2.2.2.2.2.2.2.2.2.2.2.2.2.2.2.2.2.2.2.2.2.2.2.2.2.2.2.2.2.2.2.2.2.2.2.2.2.2.1
theorem dX2_height_183 : decode cX2_height 183 = .ok (.getfield 17, 3) := DX2_height.2.2.2.2.2.2.2.2.2.2.2.2.2.2.2.2.2.2.2.2.2.2.2.2.2.2.2.2.2.2.2.2.2.2.2.2.2.2.2.2.2.2.2.2.2.2.2.2.2.2.2.2.2.2.2.2.2.2.2.2.2.2.2.2.2.2.2.2.2.2.2.2.2.2.2.2.2.2.2.2.2.2.2.2.2.2.2.2.2.2.2.2.2.2.2.2.2.2.2.2.2.2.2.2.2.2.1
theorem dX2_height_186 : decode cX2_height 186 = .ok (.iload 5, 2) := DX2_height.2.2.2.2.2.2.2.2.2.2.2.2.2.2.2.2.2.2.2.2.2.2.2.2.2.2.2.2.2.2.2.2.2.2.2.2.2.2.2.2.2.2.2.2.2.2.2.2.2.2.2.2.2.2.2.2.2.2.2.2.2.2.2.2.2.2.2.2.2.2.2.2.2.2.2.2.2.2.2.2.2.2.2.2.2.2.2.2.2.2.2.2.2.2.2.2.2.2.2.2.2.2.2.2.2.2.2.1
theorem dX2_height_188 : decode cX2_height 188 = .ok (.iaload, 1) := DX2_height.2.2.2.2.2.2.2.2.2.2.2.2.2.2.2.2.2.2.2.2.2.2.2.2.2.2.2.2.2.2.2.2.2.2.2.2.2.2.2.2.2.2.2.2.2.2.2.2.2.2.2.2.2.2.2.2.2.2.2.2.2.2.2.2.2.2.2.2.2.2.2.2.2.2.2.2.2.2.2.2.2.2.2.2.2.2.2.2.2.2.2.2.2.2.2.2.2.2.2.2.2.2.2.2.2.2.2.2.1
theorem dX2_height_189 : decode cX2_height 189 = .ok (.aload_n 0, 1) := DX2_height.2.2.2.2.2.2.2.2.2.2.2.2.2.2.2.2.2.2.2.2.2.2.2.2.2.2.2.2.2.2.2.2.2.2.2.2.2.2.2.2.2.2.2.2.2.2.2.2.2.2.2.2.2.2.2.2.2.2.2.2.2.2.2.2.2.2.2.2.2.2.2.2.2.2.2.2.2.2.2.2.2.2.2.2.2.2.2.2.2.2.2.2.2.2.2.2.2.2.2.2.2.2.2.2.2.2.2.2.2
theorem dX2_height_190 : decode cX2_height 190 = .ok (.getfield 17, 3) := DX2_height_2.1
theorem dX2_height_193 : decode cX2_height 193 = .ok (.iload 4, 2) := DX2_height_2.2.1
theorem dX2_height_195 : decode cX2_height 195 = .ok (.iaload, 1) := DX2_height_2.2.2.1
theorem dX2_height_196 : decode cX2_height 196 = .ok (.isub, 1) := DX2_height_2.2.2.2.1
theorem dX2_height_197 : decode cX2_height 197 = .ok (.i2l, 1) := DX2_height_2.2.2.2.2.1
theorem dX2_height_198 : decode cX2_height 198 = .ok (.iload_n 2, 1) := DX2_height_2.2.2.2.2.2.1
theorem dX2_height_199 : decode cX2_height 199 = .ok (.aload_n 0, 1) := DX2_height_2.2.2.2.2.2.2.1
theorem dX2_height_200 : decode cX2_height 200 = .ok (.getfield 13, 3) := DX2_height_2.2.2.2.2.2.2.2.1
theorem dX2_height_203 : decode cX2_height 203 = .ok (.iload 4, 2) := DX2_height_2.2.2.2.2.2.2.2.2.1
theorem dX2_height_205 : decode cX2_height 205 = .ok (.iaload, 1) := DX2_height_2.2.2.2.2.2.2.2.2.2.1
theorem dX2_height_206 : decode cX2_height 206 = .ok (.isub, 1) := DX2_height_2.2.2.2.2.2.2.2.2.2.2.1
theorem dX2_height_207 : decode cX2_height 207 = .ok (.i2l, 1) := DX2_height_2.2.2.2.2.2.2.2.2.2.2.2.1
theorem dX2_height_208 : decode cX2_height 208 = .ok (.lmul, 1) := DX2_height_2.2.2.2.2.2.2.2.2.2.2.2.2.1
theorem dX2_height_209 : decode cX2_height 209 = .ok (.ladd, 1) := DX2_height_2.2.2.2.2.2.2.2.2.2.2.2.2.2.1
theorem dX2_height_210 : decode cX2_height 210 = .ok (.lreturn, 1) := DX2_height_2.2.2.2.2.2.2.2.2.2.2.2.2.2.2
theorem dX2_width_0 : decode cX2_width 0 = .ok (.aload_n 0, 1) := DX2_width.1
theorem dX2_width_1 : decode cX2_width 1 = .ok (.getfield 13, 3) := DX2_width.2.1
theorem dX2_width_4 : decode cX2_width 4 = .ok (.iconst 2, 1) := DX2_width.2.2.1
theorem dX2_width_5 : decode cX2_width 5 = .ok (.iload_n 1, 1) := DX2_width.2.2.2.1
theorem dX2_width_6 : decode cX2_width 6 = .ok (.imul, 1) := DX2_width.2.2.2.2.1
theorem dX2_width_7 : decode cX2_width 7 = .ok (.iconst 1, 1) := DX2_width.2.2.2.2.2.1
theorem dX2_width_8 : decode cX2_width 8 = .ok (.iadd, 1) := DX2_width.2.2.2.2.2.2.1
theorem dX2_width_9 : decode cX2_width 9 = .ok (.iaload, 1) := DX2_width.2.2.2.2.2.2.2.1
theorem dX2_width_10 : decode cX2_width 10 = .ok (.aload_n 0, 1) := DX2_width.2.2.2.2.2.2.2.2.1
theorem dX2_width_11 : decode cX2_width 11 = .ok (.getfield 13, 3) := DX2_width.2.2.2.2.2.2.2.2.2.1
theorem dX2_width_14 : decode cX2_width 14 = .ok (.iconst 2, 1) := DX2_width.2.2.2.2.2.2.2.2.2.2.1
theorem dX2_width_15 : decode cX2_width 15 = .ok (.iload_n 1, 1) := DX2_width.2.2.2.2.2.2.2.2.2.2.2.1
theorem dX2_width_16 : decode cX2_width 16 = .ok (.imul, 1) := DX2_width.2.2.2.2.2.2.2.2.2.2.2.2.1
theorem dX2_width_17 : decode cX2_width 17 = .ok (.iaload, 1) := DX2_width.2.2.2.2.2.2.2.2.2.2.2.2.2.1
theorem dX2_width_18 : decode cX2_width 18 = .ok (.isub, 1) := DX2_width.2.2.2.2.2.2.2.2.2.2.2.2.2.2.1
theorem dX2_width_19 : decode cX2_width 19 = .ok (.istore_n 2, 1) := DX2_width.2.2.2.2.2.2.2.2.2.2.2.2.2.2.2.1
theorem dX2_width_20 : decode cX2_width 20 = .ok (.iload_n 2, 1) := DX2_width.2.2.2.2.2.2.2.2.2.2.2.2.2.2.2.2.1
theorem dX2_width_21 : decode cX2_width 21 = .ok (.ifCond .ne 7, 3) := DX2_width.2.2.2.2.2.2.2.2.2.2.2.2.2.2.2.2.2.1
theorem dX2_width_24 : decode cX2_width 24 = .ok (.lconst 1, 1) := DX2_width.2.2.2.2.2.2.2.2.2.2.2.2.2.2.2.2.2.2.1
theorem dX2_width_25 : decode cX2_width 25 = .ok (.goto 15, 3) := DX2_width.2.2.2.2.2.2.2.2.2.2.2.2.2.2.2.2.2.2.2.1
theorem dX2_width_28 : decode cX2_width 28 = .ok (.iload_n 2, 1) := DX2_width.2.2.2.2.2.2.2.2.2.2.2.2.2.2.2.2.2.2.2.2.1
theorem dX2_width_29 : decode cX2_width 29 = .ok (.ifCond .ge 9, 3) := DX2_width.2.2.2.2.2.2.2.2.2.2.2.2.2.2.2.2.2.2.2.2.2.1
theorem dX2_width_32 : decode cX2_width 32 = .ok (.iload_n 2, 1) := DX2_width.2.2.2.2.2.2.2.2.2.2.2.2.2.2.2.2.2.2.2.2.2.2.1
theorem dX2_width_33 : decode cX2_width 33 = .ok (.ineg, 1) := DX2_width.2.2.2.2.2.2.2.2.2.2.2.2.2.2.2.2.2.2.2.2.2.2.2.1
theorem dX2_width_34 : decode cX2_width 34 = .ok (.i2l, 1) := DX2_width.2.2.2.2.2.2.2.2.2.2.2.2.2.2.2.2.2.2.2.2.2.2.2.2.1
theorem dX2_width_35 : decode cX2_width 35 = .ok (.goto 5, 3) := DX2_width.2.2.2.2.2.2.2.2.2.2.2.2.2.2.2.2.2.2.2.2.2.2.2.2.2.1
theorem dX2_width_38 : decode cX2_width 38 = .ok (.iload_n 2, 1) := DX2_width.2.2.2.2.2.2.2.2.2.2.2.2.2.2.2.2.2.2.2.2.2.2.2.2.2.2.1
theorem dX2_width_39 : decode cX2_width 39 = .ok (.i2l, 1) := DX2_width.2.2.2.2.2.2.2.2.2.2.2.2.2.2.2.2.2.2.2.2.2.2.2.2.2.2.2.1
theorem dX2_width_40 : decode cX2_width 40 = .ok (.lreturn, 1) := DX2_width.2.2.2.2.2.2.2.2.2.2.2.2.2.2.2.2.2.2.2.2.2.2.2.2.2.2.2.2
theorem dX2_across_0 : decode cX2_across 0 = .ok (.aload_n 0, 1) := DX2_across.1
theorem dX2_across_1 : decode cX2_across 1 = .ok (.aload_n 0, 1) := DX2_across.2.1
theorem dX2_across_2 : decode cX2_across 2 = .ok (.iload_n 1, 1) := DX2_across.2.2.1
theorem dX2_across_3 : decode cX2_across 3 = .ok (.invokevirtual 137, 3) := DX2_across.2.2.2.1
theorem dX2_across_6 : decode cX2_across 6 = .ok (.ifCond .eq 15, 3) := DX2_across.2.2.2.2.1
theorem dX2_across_9 : decode cX2_across 9 = .ok (.aload_n 0, 1) := DX2_across.2.2.2.2.2.1
theorem dX2_across_10 : decode cX2_across 10 = .ok (.iload_n 2, 1) := DX2_across.2.2.2.2.2.2.1
theorem dX2_across_11 : decode cX2_across 11 = .ok (.invokevirtual 137, 3) := DX2_across.2.2.2.2.2.2.2.1
theorem dX2_across_14 : decode cX2_across 14 = .ok (.ifCond .eq 7, 3) := DX2_across.2.2.2.2.2.2.2.2.1
theorem dX2_across_17 : decode cX2_across 17 = .ok (.iconst 0, 1) := DX2_across.2.2.2.2.2.2.2.2.2.1
theorem dX2_across_18 : decode cX2_across 18 = .ok (.goto 4, 3) := DX2_across.2.2.2.2.2.2.2.2.2.2.1
theorem dX2_across_21 : decode cX2_across 21 = .ok (.iconst 1, 1) := DX2_across.2.2.2.2.2.2.2.2.2.2.2.1
theorem dX2_across_22 : decode cX2_across 22 = .ok (.invokevirtual 69, 3) := DX2_across.2.2.2.2.2.2.2.2.2.2.2.2.1
theorem dX2_across_25 : decode cX2_across 25 = .ok (.ifCond .eq 5, 3) := DX2_across.2.2.2.2.2.2.2.2.2.2.2.2.2.1
theorem dX2_across_28 : decode cX2_across 28 = .ok (.iconst 0, 1) := DX2_across.2.2.2.2.2.2.2.2.2.2.2.2.2.2.1
theorem dX2_across_29 : decode cX2_across 29 = .ok (.ireturn, 1) := DX2_across.2.2.2.2.2.2.2.2.2.2.2.2.2.2.2.1
theorem dX2_across_30 : decode cX2_across 30 = .ok (.iconst 0, 1) := DX2_across.2.2.2.2.2.2.2.2.2.2.2.2.2.2.2.2.1
theorem dX2_across_31 : decode cX2_across 31 = .ok (.istore_n 3, 1) := DX2_across.2.2.2.2.2.2.2.2.2.2.2.2.2.2.2.2.2.1
theorem dX2_across_32 : decode cX2_across 32 = .ok (.iload_n 3, 1) := DX2_across.2.2.2.2.2.2.2.2.2.2.2.2.2.2.2.2.2.2.1
theorem dX2_across_33 : decode cX2_across 33 = .ok (.aload_n 0, 1) := DX2_across.2.2.2.2.2.2.2.2.2.2.2.2.2.2.2.2.2.2.2.1
theorem dX2_across_34 : decode cX2_across 34 = .ok (.getfield 118, 3) := DX2_across.2.2.2.2.2.2.2.2.2.2.2.2.2.2.2.2.2.2.2.2.1
theorem dX2_across_37 : decode cX2_across 37 = .ok (.if_icmp .ge 27, 3) := DX2_across.2.2.2.2.2.2.2.2.2.2.2.2.2.2.2.2.2.2.2.2.2.1
theorem dX2_across_40 : decode cX2_across 40 = .ok (.aload_n 0, 1) := DX2_across.2.2.2.2.2.2.2.2.2.2.2.2.2.2.2.2.2.2.2.2.2.2.1
theorem dX2_across_41 : decode cX2_across 41 = .ok (.getfield 42, 3) := DX2_across.2.2.2.2.2.2.2.2.2.2.2.2.2.2.2.2.2.2.2.2.2.2.2.1
theorem dX2_across_44 : decode cX2_across 44 = .ok (.iload_n 3, 1) := DX2_across.2.2.2.2.2.2.2.2.2.2.2.2.2.2.2.2.2.2.2.2.2.2.2.2.1
theorem dX2_across_45 : decode cX2_across 45 = .ok (.iload_n 3, 1) := DX2_across.2.2.2.2.2.2.2.2.2.2.2.2.2.2.2.2.2.2.2.2.2.2.2.2.2.1
theorem dX2_across_46 : decode cX2_across 46 = .ok (.iload_n 1, 1) := DX2_across.2.2.2.2.2.2.2.2.2.2.2.2.2.2.2.2.2.2.2.2.2.2.2.2.2.2.1
theorem dX2_across_47 : decode cX2_across 47 = .ok (.if_icmp .ne 7, 3) := DX2_across.2.2.2.2.2.2.2.2.2.2.2.2.2.2.2.2.2.2.2.2.2.2.2.2.2.2.2.1
theorem dX2_across_50 : decode cX2_across 50 = .ok (.iconst 0, 1) := DX2_across.2.2.2.2.2.2.2.2.2.2.2.2.2.2.2.2.2.2.2.2.2.2.2.2.2.2.2.2.1
theorem dX2_across_51 : decode cX2_across 51 = .ok (.goto 6, 3) := DX2_across.2.2.2.2.2.2.2.2.2.2.2.2.2.2.2.2.2.2.2.2.2.2.2.2.2.2.2.2.2.1
theorem dX2_across_54 : decode cX2_across 54 = .ok (.sipush 1000, 3) := DX2_across.2.2.2.2.2.2.2.2.2.2.2.2.2.2.2.2.2.2.2.2.2.2.2.2.2.2.2.2.2.2.1
theorem dX2_across_57 : decode cX2_across 57 = .ok (.iastore, 1) := DX2_across.2.2.2.2.2.2.2.2.2.2.2.2.2.2.2.2.2.2.2.2.2.2.2.2.2.2.2.2.2.2.2.1
theorem dX2_across_58 : decode cX2_across 58 = .ok (.iinc 3 1, 3) := DX2_across.2.2.2.2.2.2.2.2.2.2.2.2.2.2.2.2.2.2.2.2.2.2.2.2.2.2.2.2.2.2.2.2.1
theorem dX2_across_61 : decode cX2_across 61 = .ok (.goto (-29), 3) := DX2_across.2.2.2.2.2.2.2.2.2.2.2.2.2.2.2.2.2.2.2.2.2.2.2.2.2.2.2.2.2.2.2.2.2.1
theorem dX2_across_64 : decode cX2_across 64 = .ok (.iconst 1, 1) := DX2_across.2.2.2.2.2.2.2.2.2.2.2.2.2.2.2.2.2.2.2.2.2.2.2.2.2.2.2.2.2.2.2.2.2.2.1
theorem dX2_across_65 : decode cX2_across 65 = .ok (.istore_n 3, 1) := DX2_across.2.2.2.2.2.2.2.2.2.2.2.2.2.2.2.2.2.2.2.2.2.2.2.2.2.2.2.2.2.2.2.2.2.2.2.1
theorem dX2_across_66 : decode cX2_across 66 = .ok (.iload_n 3, 1) := DX2_across.2.2.2.2.2.2.2.2.2.2.2.2.2.2.2.2.2.2.2.2.2.2.2.2.2.2.2.2.2.2.2.2.2.2.2.2.1
theorem dX2_across_67 : decode cX2_across 67 = .ok (.ifCond .eq 95, 3) := DX2_across.2.2.2.2.2.2.2.2.2.2.2.2.2.2.2.2.2.2.2.2.2.2.2.2.2.2.2.2.2.2.2.2.2.2.2.2.2.1
theorem dX2_across_70 : decode cX2_across 70 = .ok (.iconst 0, 1) := DX2_across.2.2.2.2.2.2.2.2.2.2.2.2.2.2.2.2.2.2.2.2.2.2.2.2.2.2.2.2.2.2.2.2.2.2.2.2.2.2.1
theorem dX2_across_71 : decode cX2_across 71 = .ok (.istore_n 3, 1) := DX2_across.2.2.2.2.2.2.2.2.2.2.2.2.2.2.2.2.2.2.2.2.2.2.2.2.2.2.2.2.2.2.2.2.2.2.2.2.2.2.2.1
theorem dX2_across_72 : decode cX2_across 72 = .ok (.iconst 0, 1) := DX2_across.2.2.2.2.2.2.2.2.2.2.2.2.2.2.2.2.2.2.2.2.2.2.2.2.2.2.2.2.2.2.2.2.2.2.2.2.2.2.2.2.1
theorem dX2_across_73 : decode cX2_across 73 = .ok (.istore 4, 2) := DX2_across.2.2.2.2.2.2.2.2.2.2.2.2.2.2.2.2.2.2.2.2.2.2.2.2.2.2.2.2.2.2.2.2.2.2.2.2.2.2.2.2.2.1
theorem dX2_across_75 : decode cX2_across 75 = .ok (.iload 4, 2) := DX2_across.2.2.2.2.2.2.2.2.2.2.2.2.2.2.2.2.2.2.2.2.2.2.2.2.2.2.2.2.2.2.2.2.2.2.2.2.2.2.2.2.2.2.1
theorem dX2_across_77 : decode cX2_across 77 = .ok (.bipush 120, 2) := DX2_across.2.2.2.2.2.2.2.2.2.2.2.2.2.2.2.2.2.2.2.2.2.2.2.2.2.2.2.2.2.2.2.2.2.2.2.2.2.2.2.2.2.2.2.1
theorem dX2_across_79 : decode cX2_across 79 = .ok (.if_icmp .ge 80, 3) := DX2_across.2.2.2.2.2.2.2.2.2.2.2.2.2.2.2.2.2.2.2.2.2.2.2.2.2.2.2.2.2.2.2.2.2.2.2.2.2.2.2.2.2.2.2.2.1
theorem dX2_across_82 : decode cX2_across 82 = .ok (.aload_n 0, 1) := DX2_across.2.2.2.2.2.2.2.2.2.2.2.2.2.2.2.2.2.2.2.2.2.2.2.2.2.2.2.2.2.2.2.2.2.2.2.2.2.2.2.2.2.2.2.2.2.1
theorem dX2_across_83 : decode cX2_across 83 = .ok (.getfield 7, 3) := DX2_across.2.2.2.2.2.2.2.2.2.2.2.2.2.2.2.2.2.2.2.2.2.2.2.2.2.2.2.2.2.2.2.2.2.2.2.2.2.2.2.2.2.2.2.2.2.2.1
theorem dX2_across_86 : decode cX2_across 86 = .ok (.iload 4, 2) := DX2_across.2.2.2.2.2.2.2.2.2.2.2.2.2.2.2.2.2.2.2.2.2.2.2.2.2.2.2.2.2.2.2.2.2.2.2.2.2.2.2.2.2.2.2.2.2.2.2.1
theorem dX2_across_88 : decode cX2_across 88 = .ok (.iconst 2, 1) := DX2_across.2.2.2.2.2.2.2.2.2.2.2.2.2.2.2.2.2.2.2.2.2.2.2.2.2.2.2.2.2.2.2.2.2.2.2.2.2.2.2.2.2.2.2.2.2.2.2.2.1
theorem dX2_across_89 : decode cX2_across 89 = .ok (.idiv, 1) := DX2_across.2.2.2.2.2.2.2.2.2.2.2.2.2.2.2.2.2.2.2.2.2.2.2.2.2.2.2.2.2.2.2.2.2.2.2.2.2.2.2.2.2.2.2.2.2.2.2.2.2.1
theorem dX2_across_90 : decode cX2_across 90 = .ok (.baload, 1) := DX2_across.2.2.2.2.2.2.2.2.2.2.2.2.2.2.2.2.2.2.2.2.2.2.2.2.2.2.2.2.2.2.2.2.2.2.2.2.2.2.2.2.2.2.2.2.2.2.2.2.2.2.1
theorem dX2_across_91 : decode cX2_across 91 = .ok (.ifCond .eq 62, 3) := DX2_across.2.2.2.2.2.2.2.2.2.2.2.2.2.2.2.2.2.2.2.2.2.2.2.2.2.2.2.2.2.2.2.2.2.2.2.2.2.2.2.2.2.2.2.2.2.2.2.2.2.2.2.1
theorem dX2_across_94 : decode cX2_across 94 = .ok (.aload_n 0, 1) := DX2_across.2.2.2.2.2.2.2.2.2.2.2.2.2.2.2.2.2.2.2.2.2.2.2.2.2.2.2.2.2.2.2.2.2.2.2.2.2.2.2.2.2.2.2.2.2.2.2.2.2.2.2.2.1
theorem dX2_across_95 : decode cX2_across 95 = .ok (.getfield 42, 3) := DX2_across.2.2.2.2.2.2.2.2.2.2.2.2.2.2.2.2.2.2.2.2.2.2.2.2.2.2.2.2.2.2.2.2.2.2.2.2.2.2.2.2.2.2.2.2.2.2.2.2.2.2.2.2.2.1
theorem dX2_across_98 : decode cX2_across 98 = .ok (.aload_n 0, 1) := DX2_across.2.2.2.2.2.2.2.2.2.2.2.2.2.2.2.2.2.2.2.2.2.2.2.2.2.2.2.2.2.2.2.2.2.2.2.2.2.2.2.2.2.2.2.2.2.2.2.2.2.2.2.2.2.2.1
theorem dX2_across_99 : decode cX2_across 99 = .ok (.iload 4, 2) := DX2_across.2.2.2.2.2.2.2.2.2.2.2.2.2.2.2.2.2.2.2.2.2.2.2.2.2.2.2.2.2.2.2.2.2.2.2.2.2.2.2.2.2.2.2.2.2.2.2.2.2.2.2.2.2.2.2.1
theorem dX2_across_101 : decode cX2_across 101 = .ok (.invokevirtual 128, 3) := DX2_across.2.2.2.2.2.2.2.2.2.2.2.2.2.2.2.2.2.2.2.2.2.2.2.2.2.2.2.2.2.2.2.2.2.2.2.2.2.2.2.2.2.2.2.2.2.2.2.2.2.2.2.2.2.2.2.2.1
theorem dX2_across_104 : decode cX2_across 104 = .ok (.iaload, 1) := DX2_across.2.2.2.2.2.2.2.2.2.2.2.2.2.2.2.2.2.2.2.2.2.2.2.2.2.2.2.2.2.2.2.2.2.2.2.2.2.2.2.2.2.2.2.2.2.2.2.2.2.2.2.2.2.2.2.2.2.1
theorem dX2_across_105 : decode cX2_across 105 = .ok (.iconst 1, 1) := DX2_across.2.2.2.2.2.2.2.2.2.2.2.2.2.2.2.2.2.2.2.2.2.2.2.2.2.2.2.2.2.2.2.2.2.2.2.2.2.2.2.2.2.2.2.2.2.2.2.2.2.2.2.2.2.2.2.2.2.2.1
theorem dX2_across_106 : decode cX2_across 106 = .ok (.iadd, 1) := DX2_across.2.2.2.2.2.2.2.2.2.2.2.2.2.2.2.2.2.2.2.2.2.2.2.2.2.2.2.2.2.2.2.2.2.2.2.2.2.2.2.2.2.2.2.2.2.2.2.2.2.2.2.2.2.2.2.2.2.2.2.1
theorem dX2_across_107 : decode cX2_across 107 = .ok (.aload_n 0, 1) := DX2_across.2.2.2.2.2.2.2.2.2.2.2.2.2.2.2.2.2.2.2.2.2.2.2.2.2.2.2.2.2.2.2.2.2.2.2.2.2.2.2.2.2.2.2.2.2.2.2.2.2.2.2.2.2.2.2.2.2.2.2.2.1
theorem dX2_across_108 : decode cX2_across 108 = .ok (.getfield 42, 3) := DX2_across.2.2.2.2.2.2.2.2.2.2.2.2.2.2.2.2.2.2.2.2.2.2.2.2.2.2.2.2.2.2.2.2.2.2.2.2.2.2.2.2.2.2.2.2.2.2.2.2.2.2.2.2.2.2.2.2.2.2.2.2.2.1
theorem dX2_across_111 : decode cX2_across 111 = .ok (.aload_n 0, 1) := DX2_across.2.2.2.2.2.2.2.2.2.2.2.2.2.2.2.2.2.2.2.2.2.2.2.2.2.2.2.2.2.2.2.2.2.2.2.2.2.2.2.2.2.2.2.2.2.2.2.2.2.2.2.2.2.2.2.2.2.2.2.2.2.2.1
theorem dX2_across_112 : decode cX2_across 112 = .ok (.iload 4, 2) := DX2_across.2.2.2.2.2.2.2.2.2.2.2.2.2.2.2.2.2.2.2.2.2.2.2.2.2.2.2.2.2.2.2.2.2.2.2.2.2.2.2.2.2.2.2.2.2.2.2.2.2.2.2.2.2.2.2.2.2.2.2.2.2.2.2.1
theorem dX2_across_114 : decode cX2_across 114 = .ok (.invokestatic 80, 3) := DX2_across.2.2.2.2.2.2.2.2.2.2.2.2.2.2.2.2.2.2.2.2.2.2.2.2.2.2.2.2.2.2.2.2.2.2.2.2.2.2.2.2.2.2.2.2.2.2.2.2.2.2.2.2.2.2.2.2.2.2.2.2.2.2.2.2.1
theorem dX2_across_117 : decode cX2_across 117 = .ok (.invokevirtual 128, 3) := DX2_across.2.2.2.2.2.2.2.2.2.2.2.2.2.2.2.2.2.2.2.2.2.2.2.2.2.2.2.2.2.2.2.2.2.2.2.2.2.2.2.2.2.2.2.2.2.2.2.2.2.2.2.2.2.2.2.2.2.2.2.2.2.2.2.2.2.1
theorem dX2_across_120 : decode cX2_across 120 = .ok (.iaload, 1) := DX2_across.2.2.2.2.2.2.2.2.2.2.2.2.2.2.2.2.2.2.2.2.2.2.2.2.2.2.2.2.2.2.2.2.2.2.2.2.2.2.2.2.2.2.2.2.2.2.2.2.2.2.2.2.2.2.2.2.2.2.2.2.2.2.2.2.2.2.1
theorem dX2_across_121 : decode cX2_across 121 = .ok (.if_icmp .ge 32, 3) := DX2_across.2.2.2.2.2.2.2.2.2.2.2.2.2.2.2.2.2.2.2.2.2.2.2.2.2.2.2.2.2.2.2.2.2.2.2.2.2.2.2.2.2.2.2.2.2.2.2.2.2.2.2.2.2.2.2.2.2.2.2.2.2.2.2.2.2.2.2.1
theorem dX2_across_124 : decode cX2_across 124 = .ok (.aload_n 0, 1) := DX2_across.2.2.2.2.2.2.2.2.2.2.2.2.2.2.2.2.2.2.2.2.2.2.2.2.2.2.2.2.2.2.2.2.2.2.2.2.2.2.2.2.2.2.2.2.2.2.2.2.2.2.2.2.2.2.2.2.2.2.2.2.2.2.2.2.2.2.2.2.1
theorem dX2_across_125 : decode cX2_across 125 = .ok (.getfield 42, 3) := DX2_across.2.2.2.2.2.2.2.2.2.2.2.2.2.2.2.2.2.2.2.2.2.2.2.2.2.2.2.2.2.2.2.2.2.2.2.2.2.2.2.2.2.2.2.2.2.2.2.2.2.2.2.2.2.2.2.2.2.2.2.2.2.2.2.2.2.2.2.2.2.1
theorem dX2_across_128 : decode cX2_across 128 = .ok (.aload_n 0, 1) := DX2_across.2.2.2.2.2.2.2.2.2.2.2.2.2.2.2.2.2.2.2.2.2.2.2.2.2.2.2.2.2.2.2.2.2.2.2.2.2.2.2.2.2.2.2.2.2.2.2.2.2.2.2.2.2.2.2.2.2.2.2.2.2.2.2.2.2.2.2.2.2.2.1
theorem dX2_across_129 : decode cX2_across 129 = .ok (.iload 4, 2) := DX2_across.2.2.2.2.2.2.2.2.2.2.2.2.2.2.2.2.2.2.2.2.2.2.2.2.2.2.2.2.2.2.2.2.2.2.2.2.2.2.2.2.2.2.2.2.2.2.2.2.2.2.2.2.2.2.2.2.2.2.2.2.2.2.2.2.2.2.2.2.2.2.2.1
theorem dX2_across_131 : decode cX2_across 131 = .ok (.invokestatic 80, 3) := DX2_across.2.2.2.2.2.2.2.2.2.2.2.2.2.2.2.2.2.2.2.2.2.2.2.2.2.2.2.2.2.2.2.2.2.2.2.2.2.2.2.2.2.2.2.2.2.2.2.2.2.2.2.2.2.2.2.2.2.2.2.2.2.2.2.2.2.2.2.2.2.2.2.2.1
theorem dX2_across_134 : decode cX2_across 134 = .ok (.invokevirtual 128, 3) := DX2_across.2.2.2.2.2.2.2.2.2.2.2.2.2.2.2.2.2.2.2.2.2.2.2.2.2.2.2.2.2.2.2.2.2.2.2.2.2.2.2.2.2.2.2.2.2.2.2.2.2.2.2.2.2.2.2.2.2.2.2.2.2.2.2.2.2.2.2.2.2.2.2.2.2.1
theorem dX2_across_137 : decode cX2_across 137 = .ok (.aload_n 0, 1) := DX2_across.2.2.2.2.2.2.2.2.2.2.2.2.2.2.2.2.2.2.2.2.2.2.2.2.2.2.2.2.2.2.2.2.2.2.2.2.2.2.2.2.2.2.2.2.2.2.2.2.2.2.2.2.2.2.2.2.2.2.2.2.2.2.2.2.2.2.2.2.2.2.2.2.2.2.1
theorem dX2_across_138 : decode cX2_across 138 = .ok (.getfield 42, 3) := DX2_across.2.2.2.2.2.2.2.2.2.2.2.2.2.2.2.2.2.2.2.2.2.2.2.2.2.2.2.2.2.2.2.2.2.2.2.2.2.2.2.2.2.2.2.2.2.2.2.2.2.2.2.2.2.2.2.2.2.2.2.2.2.2.2.2.2.2.2.2.2.2.2.2.2.2.2.1
theorem dX2_across_141 : decode cX2_across 141 = .ok (.aload_n 0, 1) := DX2_across.2.2.2.2.2.2.2.2.2.2.2.2.2.2.2.2.2.2.2.2.2.2.2.2.2.2.2.2.2.2.2.2.2.2.2.2.2.2.2.2.2.2.2.2.2.2.2.2.2.2.2.2.2.2.2.2.2.2.2.2.2.2.2.2.2.2.2.2.2.2.2.2.2.2.2.2.1
theorem dX2_across_142 : decode cX2_across 142 = .ok (.iload 4, 2) := DX2_across.2.2.2.2.2.2.2.2.2.2.2.2.2.2.2.2.2.2.2.2.2.2.2.2.2.2.2.2.2.2.2.2.2.2.2.2.2.2.2.2.2.2.2.2.2.2.2.2.2.2.2.2.2.2.2.2.2.2.2.2.2.2.2.2.2.2.2.2.2.2.2.2.2.2.2.2.2.1
theorem dX2_across_144 : decode cX2_across 144 = .ok (.invokevirtual 128, 3) := DX2_across.2.2.2.2.2.2.2.2.2.2.2.2.2.2.2.2.2.2.2.2.2.2.2.2.2.2.2.2.2.2.2.2.2.2.2.2.2.2.2.2.2.2.2.2.2.2.2.2.2.2.2.2.2.2.2.2.2.2.2.2.2.2.2.2.2.2.2.2.2.2.2.2.2.2.2.2.2.2.1
theorem dX2_across_147 : decode cX2_across 147 = .ok (.iaload, 1) := DX2_across.2.2.2.2.2.2.2.2.2.2.2.2.2.2.2.2.2.2.2.2.2.2.2.2.2.2.2.2.2.2.2.2.2.2.2.2.2.2.2.2.2.2.2.2.2.2.2.2.2.2.2.2.2.2.2.2.2.2.2.2.2.2.2.2.2.2.2.2.2.2.2.2.2.2.2.2.2.2.2.1
theorem dX2_across_148 : decode cX2_across 148 = .ok (.iconst 1, 1) := DX2_across.2.2.2.2.2.2.2.2.2.2.2.2.2.2.2.2.2.2.2.2.2.2.2.2.2.2.2.2.2.2.2.2.2.2.2.2.2.2.2.2.2.2.2.2.2.2.2.2.2.2.2.2.2.2.2.2.2.2.2.2.2.2.2.2.2.2.2.2.2.2.2.2.2.2.2.2.2.2.2.2.1
theorem dX2_across_149 : decode cX2_across 149 = .ok (.iadd, 1) := DX2_across.2.2.2.2.2.2.2.2.2.2.2.2.2.2.2.2.2.2.2.2.2.2.2.2.2.2.2.2.2.2.2.2.2.2.2.2.2.2.2.2.2.2.2.2.2.2.2.2.2.2.2.2.2.2.2.2.2.2.2.2.2.2.2.2.2.2.2.2.2.2.2.2.2.2.2.2.2.2.2.2.2.1
theorem dX2_across_150 : decode cX2_across 150 = .ok (.iastore, 1) := DX2_across.2.2.2.2.2.2.2.2.2.2.2.2.2.2.2.2.2.2.2.2.2.2.2.2.2.2.2.2.2.2.2.2.2.2.2.2.2.2.2.2.2.2.2.2.2.2.2.2.2.2.2.2.2.2.2.2.2.2.2.2.2.2.2.2.2.2.2.2.2.2.2.2.2.2.2.2.2.2.2.2.2.2.1
theorem dX2_across_151 : decode cX2_across 151 = .ok (.iconst 1, 1) := DX2_across.2.2.2.2.2.2.2.2.2.2.2.2.2.2.2.2.2.2.2.2.2.2.2.2.2.2.2.2.2.2.2.2.2.2.2.2.2.2.2.2.2.2.2.2.2.2.2.2.2.2.2.2.2.2.2.2.2.2.2.2.2.2.2.2.2.2.2.2.2.2.2.2.2.2.2.2.2.2.2.2.2.2.2.1
theorem dX2_across_152 : decode cX2_across 152 = .ok (.istore_n 3, 1) := DX2_across.2.2.2.2.2.2.2.2.2.2.2.2.2.2.2.2.2.2.2.2.2.2.2.2.2.2.2.2.2.2.2.2.2.2.2.2.2.2.2.2.2.2.2.2.2.2.2.2.2.2.2.2.2.2.2.2.2.2.2.2.2.2.2.2.2.2.2.2.2.2.2.2.2.2.2.2.2.2.2.2.2.2.2.2.1
theorem dX2_across_153 : decode cX2_across 153 = .ok (.iinc 4 1, 3) := DX2_across.2.2.2.2.2.2.2.2.2.2.2.2.2.2.2.2.2.2.2.2.2.2.2.2.2.2.2.2.2.2.2.2.2.2.2.2.2.2.2.2.2.2.2.2.2.2.2.2.2.2.2.2.2.2.2.2.2.2.2.2.2.2.2.2.2.2.2.2.2.2.2.2.2.2.2.2.2.2.2.2.2.2.2.2.2.1
theorem dX2_across_156 : decode cX2_across 156 = .ok (.goto (-81), 3) := DX2_across.2.2.2.2.2.2.2.2.2.2.2.2.2.2.2.2.2.2.2.2.2.2.2.2.2.2.2.2.2.2.2.2.2.2.2.2.2.2.2.2.2.2.2.2.2.2.2.2.2.2.2.2.2.2.2.2.2.2.2.2.2.2.2.2.2.2.2.2.2.2.2.2.2.2.2.2.2.2.2.2.2.2.2.2.2.2.1
theorem dX2_across_159 : decode cX2_across 159 = .ok (.goto (-93), 3) := DX2_across.2.2.2.2.2.2.2.2.2.2.2.2.2.2.2.2.2.2.2.2.2.2.2.2.2.2.2.2.2.2.2.2.2.2.2.2.2.2.2.2.2.2.2.2.2.2.2.2.2.2.2.2.2.2.2.2.2.2.2.2.2.2.2.2.2.2.2.2.2.2.2.2.2.2.2.2.2.2.2.2.2.2.2.2.2.2.2.1
theorem dX2_across_162 : decode cX2_across 162 = .ok (.aload_n 0, 1) := DX2_across.2.2.2.2.2.2.2.2.2.2.2.2.2.2.2.2.2.2.2.2.2.2.2.2.2.2.2.2.2.2.2.2.2.2.2.2.2.2.2.2.2.2.2.2.2.2.2.2.2.2.2.2.2.2.2.2.2.2.2.2.2.2.2.2.2.2.2.2.2.2.2.2.2.2.2.2.2.2.2.2.2.2.2.2.2.2.2.2.1
theorem dX2_across_163 : decode cX2_across 163 = .ok (.getfield 42, 3) := DX2_across.2.2.2.2.2.2.2.2.2.2.2.2.2.2.2.2.2.2.2.2.2.2.2.2.2.2.2.2.2.2.2.2.2.2.2.2.2.2.2.2.2.2.2.2.2.2.2.2.2.2.2.2.2.2.2.2.2.2.2.2.2.2.2.2.2.2.2.2.2.2.2.2.2.2.2.2.2.2.2.2.2.2.2.2.2.2.2.2.2.1
theorem dX2_across_166 : decode cX2_across 166 = .ok (.iload_n 2, 1) := DX2_across.2.2.2.2.2.2.2.2.2.2.2.2.2.2.2.2.2.2.2.2.2.2.2.2.2.2.2.2.2.2.2.2.2.2.2.2.2.2.2.2.2.2.2.2.2.2.2.2.2.2.2.2.2.2.2.2.2.2.2.2.2.2.2.2.2.2.2.2.2.2.2.2.2.2.2.2.2.2.2.2.2.2.2.2.2.2.2.2.2.2.1
theorem dX2_across_167 : decode cX2_across 167 = .ok (.iaload, 1) := DX2_across.2.2.2.2.2.2.2.2.2.2.2.2.2.2.2.2.2.2.2.2.2.2.2.2.2.2.2.2.2.2.2.2.2.2.2.2.2.2.2.2.2.2.2.2.2.2.2.2.2.2.2.2.2.2.2.2.2.2.2.2.2.2.2.2.2.2.2.2.2.2.2.2.2.2.2.2.2.2.2.2.2.2.2.2.2.2.2.2.2.2.2.1
theorem dX2_across_168 : decode cX2_across 168 = .ok (.ireturn, 1) := DX2_across.2.2.2.2.2.2.2.2.2.2.2.2.2.2.2.2.2.2.2.2.2.2.2.2.2.2.2.2.2.2.2.2.2.2.2.2.2.2.2.2.2.2.2.2.2.2.2.2.2.2.2.2.2.2.2.2.2.2.2.2.2.2.2.2.2.2.2.2.2.2.2.2.2.2.2.2.2.2.2.2.2.2.2.2.2.2.2.2.2.2.2.2
theorem dL_law_0 : decode cL_law 0 = .ok (.new 8, 3) := DL_law.1
theorem dL_law_3 : decode cL_law 3 = .ok (.dup, 1) := DL_law.2.1
theorem dL_law_4 : decode cL_law 4 = .ok (.invokespecial 52, 3) := DL_law.2.2.1
theorem dL_law_7 : decode cL_law 7 = .ok (.astore_n 1, 1) := DL_law.2.2.2.1
theorem dL_law_8 : decode cL_law 8 = .ok (.new 53, 3) := DL_law.2.2.2.2.1
theorem dL_law_11 : decode cL_law 11 = .ok (.dup, 1) := DL_law.2.2.2.2.2.1
theorem dL_law_12 : decode cL_law 12 = .ok (.invokespecial 55, 3) := DL_law.2.2.2.2.2.2.1
theorem dL_law_15 : decode cL_law 15 = .ok (.astore_n 2, 1) := DL_law.2.2.2.2.2.2.2.1
theorem dL_law_16 : decode cL_law 16 = .ok (.iconst 1, 1) := DL_law.2.2.2.2.2.2.2.2.1
theorem dL_law_17 : decode cL_law 17 = .ok (.newarray .long, 2) := DL_law.2.2.2.2.2.2.2.2.2.1
theorem dL_law_19 : decode cL_law 19 = .ok (.astore_n 3, 1) := DL_law.2.2.2.2.2.2.2.2.2.2.1
theorem dL_law_20 : decode cL_law 20 = .ok (.iconst 0, 1) := DL_law.2.2.2.2.2.2.2.2.2.2.2.1
theorem dL_law_21 : decode cL_law 21 = .ok (.istore 4, 2) := DL_law.2.2.2.2.2.2.2.2.2.2.2.2.1
theorem dL_law_23 : decode cL_law 23 = .ok (.iload 4, 2) := DL_law.2.2.2.2.2.2.2.2.2.2.2.2.2.1
theorem dL_law_25 : decode cL_law 25 = .ok (.aload_n 0, 1) := DL_law.2.2.2.2.2.2.2.2.2.2.2.2.2.2.1
theorem dL_law_26 : decode cL_law 26 = .ok (.arraylength, 1) := DL_law.2.2.2.2.2.2.2.2.2.2.2.2.2.2.2.1
theorem dL_law_27 : decode cL_law 27 = .ok (.iconst 5, 1) := DL_law.2.2.2.2.2.2.2.2.2.2.2.2.2.2.2.2.1
theorem dL_law_28 : decode cL_law 28 = .ok (.isub, 1) := DL_law.2.2.2.2.2.2.2.2.2.2.2.2.2.2.2.2.2.1
theorem dL_law_29 : decode cL_law 29 = .ok (.if_icmp .gt 876, 3) := DL_law.2.2.2.2.2.2.2.2.2.2.2.2.2.2.2.2.2.2.1
theorem dL_law_32 : decode cL_law 32 = .ok (.aload_n 0, 1) := DL_law.2.2.2.2.2.2.2.2.2.2.2.2.2.2.2.2.2.2.2.1
theorem dL_law_33 : decode cL_law 33 = .ok (.iload 4, 2) := DL_law.2.2.2.2.2.2.2.2.2.2.2.2.2.2.2.2.2.2.2.2.1
theorem dL_law_35 : decode cL_law 35 = .ok (.iaload, 1) := DL_law.2.2.2.2.2.2.2.2.2.2.2.2.2.2.2.2.2.2.2.2.2.1
theorem dL_law_36 : decode cL_law 36 = .ok (.bipush 15, 2) := DL_law.2.2.2.2.2.2.2.2.2.2.2.2.2.2.2.2.2.2.2.2.2.2.1
theorem dL_law_38 : decode cL_law 38 = .ok (.iand, 1) := DL_law.2.2.2.2.2.2.2.2.2.2.2.2.2.2.2.2.2.2.2.2.2.2.2.1
theorem dL_law_39 : decode cL_law 39 = .ok (.tableswitch 860 0 13 #[69, 161, 186, 199, 224, 308, 364, 420, 476, 532, 588, 656, 724, 792], 69) := DL_law.2.2.2.2.2.2.2.2.2.2.2.2.2.2.2.2.2.2.2.2.2.2.2.2.1
theorem dL_law_108 : decode cL_law 108 = .ok (.aload_n 1, 1) := DL_law.2.2.2.2.2.2.2.2.2.2.2.2.2.2.2.2.2.2.2.2.2.2.2.2.2.1
theorem dL_law_109 : decode cL_law 109 = .ok (.aload_n 0, 1) := DL_law.2.2.2.2.2.2.2.2.2.2.2.2.2.2.2.2.2.2.2.2.2.2.2.2.2.2.1
theorem dL_law_110 : decode cL_law 110 = .ok (.iload 4, 2) := DL_law.2.2.2.2.2.2.2.2.2.2.2.2.2.2.2.2.2.2.2.2.2.2.2.2.2.2.2.1
theorem dL_law_112 : decode cL_law 112 = .ok (.iconst 1, 1) := DL_law.2.2.2.2.2.2.2.2.2.2.2.2.2.2.2.2.2.2.2.2.2.2.2.2.2.2.2.2.1
theorem dL_law_113 : decode cL_law 113 = .ok (.iadd, 1) := DL_law.2.2.2.2.2.2.2.2.2.2.2.2.2.2.2.2.2.2.2.2.2.2.2.2.2.2.2.2.2.1
theorem dL_law_114 : decode cL_law 114 = .ok (.iaload, 1) := DL_law.2.2.2.2.2.2.2.2.2.2.2.2.2.2.2.2.2.2.2.2.2.2.2.2.2.2.2.2.2.2.1
theorem dL_law_115 : decode cL_law 115 = .ok (.aload_n 0, 1) := DL_law.2.2.2.2.2.2.2.2.2.2.2.2.2.2.2.2.2.2.2.2.2.2.2.2.2.2.2.2.2.2.2.1
theorem dL_law_116 : decode cL_law 116 = .ok (.iload 4, 2) := DL_law.2.2.2.2.2.2.2.2.2.2.2.2.2.2.2.2.2.2.2.2.2.2.2.2.2.2.2.2.2.2.2.2.1
theorem dL_law_118 : decode cL_law 118 = .ok (.iconst 2, 1) := DL_law.2.2.2.2.2.2.2.2.2.2.2.2.2.2.2.2.2.2.2.2.2.2.2.2.2.2.2.2.2.2.2.2.2.1
theorem dL_law_119 : decode cL_law 119 = .ok (.iadd, 1) := DL_law.2.2.2.2.2.2.2.2.2.2.2.2.2.2.2.2.2.2.2.2.2.2.2.2.2.2.2.2.2.2.2.2.2.2.1
theorem dL_law_120 : decode cL_law 120 = .ok (.iaload, 1) := DL_law.2.2.2.2.2.2.2.2.2.2.2.2.2.2.2.2.2.2.2.2.2.2.2.2.2.2.2.2.2.2.2.2.2.2.2.1
theorem dL_law_121 : decode cL_law 121 = .ok (.aload_n 0, 1) := DL_law.2.2.2.2.2.2.2.2.2.2.2.2.2.2.2.2.2.2.2.2.2.2.2.2.2.2.2.2.2.2.2.2.2.2.2.2.1
theorem dL_law_122 : decode cL_law 122 = .ok (.iload 4, 2) := DL_law.2.2.2.2.2.2.2.2.2.2.2.2.2.2.2.2.2.2.2.2.2.2.2.2.2.2.2.2.2.2.2.2.2.2.2.2.2.1
theorem dL_law_124 : decode cL_law 124 = .ok (.iconst 3, 1) := DL_law.2.2.2.2.2.2.2.2.2.2.2.2.2.2.2.2.2.2.2.2.2.2.2.2.2.2.2.2.2.2.2.2.2.2.2.2.2.2.1
theorem dL_law_125 : decode cL_law 125 = .ok (.iadd, 1) := DL_law.2.2.2.2.2.2.2.2.2.2.2.2.2.2.2.2.2.2.2.2.2.2.2.2.2.2.2.2.2.2.2.2.2.2.2.2.2.2.2.1
theorem dL_law_126 : decode cL_law 126 = .ok (.iaload, 1) := DL_law.2.2.2.2.2.2.2.2.2.2.2.2.2.2.2.2.2.2.2.2.2.2.2.2.2.2.2.2.2.2.2.2.2.2.2.2.2.2.2.2.1
theorem dL_law_127 : decode cL_law 127 = .ok (.aload_n 0, 1) := DL_law.2.2.2.2.2.2.2.2.2.2.2.2.2.2.2.2.2.2.2.2.2.2.2.2.2.2.2.2.2.2.2.2.2.2.2.2.2.2.2.2.2.1
theorem dL_law_128 : decode cL_law 128 = .ok (.iload 4, 2) := DL_law.2.2.2.2.2.2.2.2.2.2.2.2.2.2.2.2.2.2.2.2.2.2.2.2.2.2.2.2.2.2.2.2.2.2.2.2.2.2.2.2.2.2.1
theorem dL_law_130 : decode cL_law 130 = .ok (.iconst 4, 1) := DL_law.2.2.2.2.2.2.2.2.2.2.2.2.2.2.2.2.2.2.2.2.2.2.2.2.2.2.2.2.2.2.2.2.2.2.2.2.2.2.2.2.2.2.2.1
theorem dL_law_131 : decode cL_law 131 = .ok (.iadd, 1) := DL_law.2.2.2.2.2.2.2.2.2.2.2.2.2.2.2.2.2.2.2.2.2.2.2.2.2.2.2.2.2.2.2.2.2.2.2.2.2.2.2.2.2.2.2.2.1
theorem dL_law_132 : decode cL_law 132 = .ok (.iaload, 1) := DL_law.2.2.2.2.2.2.2.2.2.2.2.2.2.2.2.2.2.2.2.2.2.2.2.2.2.2.2.2.2.2.2.2.2.2.2.2.2.2.2.2.2.2.2.2.2.1
theorem dL_law_133 : decode cL_law 133 = .ok (.aload_n 3, 1) := DL_law.2.2.2.2.2.2.2.2.2.2.2.2.2.2.2.2.2.2.2.2.2.2.2.2.2.2.2.2.2.2.2.2.2.2.2.2.2.2.2.2.2.2.2.2.2.2.1
theorem dL_law_134 : decode cL_law 134 = .ok (.invokestatic 56, 3) := DL_law.2.2.2.2.2.2.2.2.2.2.2.2.2.2.2.2.2.2.2.2.2.2.2.2.2.2.2.2.2.2.2.2.2.2.2.2.2.2.2.2.2.2.2.2.2.2.2.1
theorem dL_law_137 : decode cL_law 137 = .ok (.istore 5, 2) := DL_law.2.2.2.2.2.2.2.2.2.2.2.2.2.2.2.2.2.2.2.2.2.2.2.2.2.2.2.2.2.2.2.2.2.2.2.2.2.2.2.2.2.2.2.2.2.2.2.2.1
theorem dL_law_139 : decode cL_law 139 = .ok (.aload_n 2, 1) := DL_law.2.2.2.2.2.2.2.2.2.2.2.2.2.2.2.2.2.2.2.2.2.2.2.2.2.2.2.2.2.2.2.2.2.2.2.2.2.2.2.2.2.2.2.2.2.2.2.2.2.1
theorem dL_law_140 : decode cL_law 140 = .ok (.aload_n 0, 1) := DL_law.2.2.2.2.2.2.2.2.2.2.2.2.2.2.2.2.2.2.2.2.2.2.2.2.2.2.2.2.2.2.2.2.2.2.2.2.2.2.2.2.2.2.2.2.2.2.2.2.2.2.1
theorem dL_law_141 : decode cL_law 141 = .ok (.iload 4, 2) := DL_law.2.2.2.2.2.2.2.2.2.2.2.2.2.2.2.2.2.2.2.2.2.2.2.2.2.2.2.2.2.2.2.2.2.2.2.2.2.2.2.2.2.2.2.2.2.2.2.2.2.2.2.1
theorem dL_law_143 : decode cL_law 143 = .ok (.iconst 1, 1) := DL_law.2.2.2.2.2.2.2.2.2.2.2.2.2.2.2.2.2.2.2.2.2.2.2.2.2.2.2.2.2.2.2.2.2.2.2.2.2.2.2.2.2.2.2.2.2.2.2.2.2.2.2.2.1
theorem dL_law_144 : decode cL_law 144 = .ok (.iadd, 1) := DL_law.2.2.2.2.2.2.2.2.2.2.2.2.2.2.2.2.2.2.2.2.2.2.2.2.2.2.2.2.2.2.2.2.2.2.2.2.2.2.2.2.2.2.2.2.2.2.2.2.2.2.2.2.2.1
theorem dL_law_145 : decode cL_law 145 = .ok (.iaload, 1) := DL_law.2.2.2.2.2.2.2.2.2.2.2.2.2.2.2.2.2.2.2.2.2.2.2.2.2.2.2.2.2.2.2.2.2.2.2.2.2.2.2.2.2.2.2.2.2.2.2.2.2.2.2.2.2.2.1
theorem dL_law_146 : decode cL_law 146 = .ok (.aload_n 0, 1) := DL_law.2.2.2.2.2.2.2.2.2.2.2.2.2.2.2.2.2.2.2.2.2.2.2.2.2.2.2.2.2.2.2.2.2.2.2.2.2.2.2.2.2.2.2.2.2.2.2.2.2.2.2.2.2.2.2.1
theorem dL_law_147 : decode cL_law 147 = .ok (.iload 4, 2) := DL_law.2.2.2.2.2.2.2.2.2.2.2.2.2.2.2.2.2.2.2.2.2.2.2.2.2.2.2.2.2.2.2.2.2.2.2.2.2.2.2.2.2.2.2.2.2.2.2.2.2.2.2.2.2.2.2.2.1
theorem dL_law_149 : decode cL_law 149 = .ok (.iconst 2, 1) := DL_law.2.2.2.2.2.2.2.2.2.2.2.2.2.2.2.2.2.2.2.2.2.2.2.2.2.2.2.2.2.2.2.2.2.2.2.2.2.2.2.2.2.2.2.2.2.2.2.2.2.2.2.2.2.2.2.2.2.1
theorem dL_law_150 : decode cL_law 150 = .ok (.iadd, 1) := DL_law.2.2.2.2.2.2.2.2.2.2.2.2.2.2.2.2.2.2.2.2.2.2.2.2.2.2.2.2.2.2.2.2.2.2.2.2.2.2.2.2.2.2.2.2.2.2.2.2.2.2.2.2.2.2.2.2.2.2.1
theorem dL_law_151 : decode cL_law 151 = .ok (.iaload, 1) := DL_law.2.2.2.2.2.2.2.2.2.2.2.2.2.2.2.2.2.2.2.2.2.2.2.2.2.2.2.2.2.2.2.2.2.2.2.2.2.2.2.2.2.2.2.2.2.2.2.2.2.2.2.2.2.2.2.2.2.2.2.1
theorem dL_law_152 : decode cL_law 152 = .ok (.aload_n 0, 1) := DL_law.2.2.2.2.2.2.2.2.2.2.2.2.2.2.2.2.2.2.2.2.2.2.2.2.2.2.2.2.2.2.2.2.2.2.2.2.2.2.2.2.2.2.2.2.2.2.2.2.2.2.2.2.2.2.2.2.2.2.2.2.1
theorem dL_law_153 : decode cL_law 153 = .ok (.iload 4, 2) := DL_law.2.2.2.2.2.2.2.2.2.2.2.2.2.2.2.2.2.2.2.2.2.2.2.2.2.2.2.2.2.2.2.2.2.2.2.2.2.2.2.2.2.2.2.2.2.2.2.2.2.2.2.2.2.2.2.2.2.2.2.2.2.1
theorem dL_law_155 : decode cL_law 155 = .ok (.iconst 3, 1) := DL_law.2.2.2.2.2.2.2.2.2.2.2.2.2.2.2.2.2.2.2.2.2.2.2.2.2.2.2.2.2.2.2.2.2.2.2.2.2.2.2.2.2.2.2.2.2.2.2.2.2.2.2.2.2.2.2.2.2.2.2.2.2.2.1
theorem dL_law_156 : decode cL_law 156 = .ok (.iadd, 1) := DL_law.2.2.2.2.2.2.2.2.2.2.2.2.2.2.2.2.2.2.2.2.2.2.2.2.2.2.2.2.2.2.2.2.2.2.2.2.2.2.2.2.2.2.2.2.2.2.2.2.2.2.2.2.2.2.2.2.2.2.2.2.2.2.2.1
theorem dL_law_157 : decode cL_law 157 = .ok (.iaload, 1) := DL_law.2.2.2.2.2.2.2.2.2.2.2.2.2.2.2.2.2.2.2.2.2.2.2.2.2.2.2.2.2.2.2.2.2.2.2.2.2.2.2.2.2.2.2.2.2.2.2.2.2.2.2.2.2.2.2.2.2.2.2.2.2.2.2.2.1
theorem dL_law_158 : decode cL_law 158 = .ok (.aload_n 0, 1) := DL_law.2.2.2.2.2.2.2.2.2.2.2.2.2.2.2.2.2.2.2.2.2.2.2.2.2.2.2.2.2.2.2.2.2.2.2.2.2.2.2.2.2.2.2.2.2.2.2.2.2.2.2.2.2.2.2.2.2.2.2.2.2.2.2.2.2.1
theorem dL_law_159 : decode cL_law 159 = .ok (.iload 4, 2) := DL_law.2.2.2.2.2.2.2.2.2.2.2.2.2.2.2.2.2.2.2.2.2.2.2.2.2.2.2.2.2.2.2.2.2.2.2.2.2.2.2.2.2.2.2.2.2.2.2.2.2.2.2.2.2.2.2.2.2.2.2.2.2.2.2.2.2.2.1
theorem dL_law_161 : decode cL_law 161 = .ok (.iconst 4, 1) := DL_law.2.2.2.2.2.2.2.2.2.2.2.2.2.2.2.2.2.2.2.2.2.2.2.2.2.2.2.2.2.2.2.2.2.2.2.2.2.2.2.2.2.2.2.2.2.2.2.2.2.2.2.2.2.2.2.2.2.2.2.2.2.2.2.2.2.2.2.1
theorem dL_law_162 : decode cL_law 162 = .ok (.iadd, 1) := DL_law.2.2.2.2.2.2.2.2.2.2.2.2.2.2.2.2.2.2.2.2.2.2.2.2.2.2.2.2.2.2.2.2.2.2.2.2.2.2.2.2.2.2.2.2.2.2.2.2.2.2.2.2.2.2.2.2.2.2.2.2.2.2.2.2.2.2.2.2.1
theorem dL_law_163 : decode cL_law 163 = .ok (.iaload, 1) := DL_law.2.2.2.2.2.2.2.2.2.2.2.2.2.2.2.2.2.2.2.2.2.2.2.2.2.2.2.2.2.2.2.2.2.2.2.2.2.2.2.2.2.2.2.2.2.2.2.2.2.2.2.2.2.2.2.2.2.2.2.2.2.2.2.2.2.2.2.2.2.1
theorem dL_law_164 : decode cL_law 164 = .ok (.invokevirtual 61, 3) := DL_law.2.2.2.2.2.2.2.2.2.2.2.2.2.2.2.2.2.2.2.2.2.2.2.2.2.2.2.2.2.2.2.2.2.2.2.2.2.2.2.2.2.2.2.2.2.2.2.2.2.2.2.2.2.2.2.2.2.2.2.2.2.2.2.2.2.2.2.2.2.2.1
theorem dL_law_167 : decode cL_law 167 = .ok (.istore 6, 2) := DL_law.2.2.2.2.2.2.2.2.2.2.2.2.2.2.2.2.2.2.2.2.2.2.2.2.2.2.2.2.2.2.2.2.2.2.2.2.2.2.2.2.2.2.2.2.2.2.2.2.2.2.2.2.2.2.2.2.2.2.2.2.2.2.2.2.2.2.2.2.2.2.2.1
theorem dL_law_169 : decode cL_law 169 = .ok (.aload_n 2, 1) := DL_law.2.2.2.2.2.2.2.2.2.2.2.2.2.2.2.2.2.2.2.2.2.2.2.2.2.2.2.2.2.2.2.2.2.2.2.2.2.2.2.2.2.2.2.2.2.2.2.2.2.2.2.2.2.2.2.2.2.2.2.2.2.2.2.2.2.2.2.2.2.2.2.2.1
theorem dL_law_170 : decode cL_law 170 = .ok (.invokevirtual 62, 3) := DL_law.2.2.2.2.2.2.2.2.2.2.2.2.2.2.2.2.2.2.2.2.2.2.2.2.2.2.2.2.2.2.2.2.2.2.2.2.2.2.2.2.2.2.2.2.2.2.2.2.2.2.2.2.2.2.2.2.2.2.2.2.2.2.2.2.2.2.2.2.2.2.2.2.2.1
theorem dL_law_173 : decode cL_law 173 = .ok (.iload 5, 2) := DL_law.2.2.2.2.2.2.2.2.2.2.2.2.2.2.2.2.2.2.2.2.2.2.2.2.2.2.2.2.2.2.2.2.2.2.2.2.2.2.2.2.2.2.2.2.2.2.2.2.2.2.2.2.2.2.2.2.2.2.2.2.2.2.2.2.2.2.2.2.2.2.2.2.2.2.1
theorem dL_law_175 : decode cL_law 175 = .ok (.if_icmp .eq 5, 3) := DL_law.2.2.2.2.2.2.2.2.2.2.2.2.2.2.2.2.2.2.2.2.2.2.2.2.2.2.2.2.2.2.2.2.2.2.2.2.2.2.2.2.2.2.2.2.2.2.2.2.2.2.2.2.2.2.2.2.2.2.2.2.2.2.2.2.2.2.2.2.2.2.2.2.2.2.2.1
theorem dL_law_178 : decode cL_law 178 = .ok (.iconst 0, 1) := DL_law.2.2.2.2.2.2.2.2.2.2.2.2.2.2.2.2.2.2.2.2.2.2.2.2.2.2.2.2.2.2.2.2.2.2.2.2.2.2.2.2.2.2.2.2.2.2.2.2.2.2.2.2.2.2.2.2.2.2.2.2.2.2.2.2.2.2.2.2.2.2.2.2.2.2.2.2.1
theorem dL_law_179 : decode cL_law 179 = .ok (.ireturn, 1) := DL_law.2.2.2.2.2.2.2.2.2.2.2.2.2.2.2.2.2.2.2.2.2.2.2.2.2.2.2.2.2.2.2.2.2.2.2.2.2.2.2.2.2.2.2.2.2.2.2.2.2.2.2.2.2.2.2.2.2.2.2.2.2.2.2.2.2.2.2.2.2.2.2.2.2.2.2.2.2.1
theorem dL_law_180 : decode cL_law 180 = .ok (.iload 5, 2) := DL_law.2.2.2.2.2.2.2.2.2.2.2.2.2.2.2.2.2.2.2.2.2.2.2.2.2.2.2.2.2.2.2.2.2.2.2.2.2.2.2.2.2.2.2.2.2.2.2.2.2.2.2.2.2.2.2.2.2.2.2.2.2.2.2.2.2.2.2.2.2.2.2.2.2.2.2.2.2.2.1
theorem dL_law_182 : decode cL_law 182 = .ok (.ifCond .ne 15, 3) := DL_law.2.2.2.2.2.2.2.2.2.2.2.2.2.2.2.2.2.2.2.2.2.2.2.2.2.2.2.2.2.2.2.2.2.2.2.2.2.2.2.2.2.2.2.2.2.2.2.2.2.2.2.2.2.2.2.2.2.2.2.2.2.2.2.2.2.2.2.2.2.2.2.2.2.2.2.2.2.2.2.1
theorem dL_law_185 : decode cL_law 185 = .ok (.aload_n 3, 1) := DL_law.2.2.2.2.2.2.2.2.2.2.2.2.2.2.2.2.2.2.2.2.2.2.2.2.2.2.2.2.2.2.2.2.2.2.2.2.2.2.2.2.2.2.2.2.2.2.2.2.2.2.2.2.2.2.2.2.2.2.2.2.2.2.2.2.2.2.2.2.2.2.2.2.2.2.2.2.2.2.2.2.1
theorem dL_law_186 : decode cL_law 186 = .ok (.iconst 0, 1) := DL_law.2.2.2.2.2.2.2.2.2.2.2.2.2.2.2.2.2.2.2.2.2.2.2.2.2.2.2.2.2.2.2.2.2.2.2.2.2.2.2.2.2.2.2.2.2.2.2.2.2.2.2.2.2.2.2.2.2.2.2.2.2.2.2.2.2.2.2.2.2.2.2.2.2.2.2.2.2.2.2.2.2.1
theorem dL_law_187 : decode cL_law 187 = .ok (.laload, 1) := DL_law.2.2.2.2.2.2.2.2.2.2.2.2.2.2.2.2.2.2.2.2.2.2.2.2.2.2.2.2.2.2.2.2.2.2.2.2.2.2.2.2.2.2.2.2.2.2.2.2.2.2.2.2.2.2.2.2.2.2.2.2.2.2.2.2.2.2.2.2.2.2.2.2.2.2.2.2.2.2.2.2.2.2.1
theorem dL_law_188 : decode cL_law 188 = .ok (.iload 6, 2) := DL_law.2.2.2.2.2.2.2.2.2.2.2.2.2.2.2.2.2.2.2.2.2.2.2.2.2.2.2.2.2.2.2.2.2.2.2.2.2.2.2.2.2.2.2.2.2.2.2.2.2.2.2.2.2.2.2.2.2.2.2.2.2.2.2.2.2.2.2.2.2.2.2.2.2.2.2.2.2.2.2.2.2.2.2.1
theorem dL_law_190 : decode cL_law 190 = .ok (.i2l, 1) := DL_law.2.2.2.2.2.2.2.2.2.2.2.2.2.2.2.2.2.2.2.2.2.2.2.2.2.2.2.2.2.2.2.2.2.2.2.2.2.2.2.2.2.2.2.2.2.2.2.2.2.2.2.2.2.2.2.2.2.2.2.2.2.2.2.2.2.2.2.2.2.2.2.2.2.2.2.2.2.2.2.2.2.2.2.2.1
theorem dL_law_191 : decode cL_law 191 = .ok (.lcmp, 1) := DL_law.2.2.2.2.2.2.2.2.2.2.2.2.2.2.2.2.2.2.2.2.2.2.2.2.2.2.2.2.2.2.2.2.2.2.2.2.2.2.2.2.2.2.2.2.2.2.2.2.2.2.2.2.2.2.2.2.2.2.2.2.2.2.2.2.2.2.2.2.2.2.2.2.2.2.2.2.2.2.2.2.2.2.2.2.2.1
theorem dL_law_192 : decode cL_law 192 = .ok (.ifCond .eq 5, 3) := DL_law.2.2.2.2.2.2.2.2.2.2.2.2.2.2.2.2.2.2.2.2.2.2.2.2.2.2.2.2.2.2.2.2.2.2.2.2.2.2.2.2.2.2.2.2.2.2.2.2.2.2.2.2.2.2.2.2.2.2.2.2.2.2.2.2.2.2.2.2.2.2.2.2.2.2.2.2.2.2.2.2.2.2.2.2.2.2.1
theorem dL_law_195 : decode cL_law 195 = .ok (.iconst 0, 1) := DL_law.2.2.2.2.2.2.2.2.2.2.2.2.2.2.2.2.2.2.2.2.2.2.2.2.2.2.2.2.2.2.2.2.2.2.2.2.2.2.2.2.2.2.2.2.2.2.2.2.2.2.2.2.2.2.2.2.2.2.2.2.2.2.2.2.2.2.2.2.2.2.2.2.2.2.2.2.2.2.2.2.2.2.2.2.2.2.2.1
theorem dL_law_196 : decode cL_law 196 = .ok (.ireturn, 1) := DL_law.2.2.2.2.2.2.2.2.2.2.2.2.2.2.2.2.2.2.2.2.2.2.2.2.2.2.2.2.2.2.2.2.2.2.2.2.2.2.2.2.2.2.2.2.2.2.2.2.2.2.2.2.2.2.2.2.2.2.2.2.2.2.2.2.2.2.2.2.2.2.2.2.2.2.2.2.2.2.2.2.2.2.2.2.2.2.2.2.1
theorem dL_law_197 : decode cL_law 197 = .ok (.goto 702, 3) := DL_law.2.2.2.2.2.2.2.2.2.2.2.2.2.2.2.2.2.2.2.2.2.2.2.2.2.2.2.2.2.2.2.2.2.2.2.2.2.2.2.2.2.2.2.2.2.2.2.2.2.2.2.2.2.2.2.2.2.2.2.2.2.2.2.2.2.2.2.2.2.2.2.2.2.2.2.2.2.2.2.2.2.2.2.2.2.2.2.2.2.1
theorem dL_law_200 : decode cL_law 200 = .ok (.aload_n 1, 1) := DL_law.2.2.2.2.2.2.2.2.2.2.2.2.2.2.2.2.2.2.2.2.2.2.2.2.2.2.2.2.2.2.2.2.2.2.2.2.2.2.2.2.2.2.2.2.2.2.2.2.2.2.2.2.2.2.2.2.2.2.2.2.2.2.2.2.2.2.2.2.2.2.2.2.2.2.2.2.2.2.2.2.2.2.2.2.2.2.2.2.2.2.1
theorem dL_law_201 : decode cL_law 201 = .ok (.aload_n 0, 1) := DL_law.2.2.2.2.2.2.2.2.2.2.2.2.2.2.2.2.2.2.2.2.2.2.2.2.2.2.2.2.2.2.2.2.2.2.2.2.2.2.2.2.2.2.2.2.2.2.2.2.2.2.2.2.2.2.2.2.2.2.2.2.2.2.2.2.2.2.2.2.2.2.2.2.2.2.2.2.2.2.2.2.2.2.2.2.2.2.2.2.2.2.2.1
theorem dL_law_202 : decode cL_law 202 = .ok (.iload 4, 2) := DL_law.2.2.2.2.2.2.2.2.2.2.2.2.2.2.2.2.2.2.2.2.2.2.2.2.2.2.2.2.2.2.2.2.2.2.2.2.2.2.2.2.2.2.2.2.2.2.2.2.2.2.2.2.2.2.2.2.2.2.2.2.2.2.2.2.2.2.2.2.2.2.2.2.2.2.2.2.2.2.2.2.2.2.2.2.2.2.2.2.2.2.2.2.1
theorem dL_law_204 : decode cL_law 204 = .ok (.iconst 1, 1) := DL_law.2.2.2.2.2.2.2.2.2.2.2.2.2.2.2.2.2.2.2.2.2.2.2.2.2.2.2.2.2.2.2.2.2.2.2.2.2.2.2.2.2.2.2.2.2.2.2.2.2.2.2.2.2.2.2.2.2.2.2.2.2.2.2.2.2.2.2.2.2.2.2.2.2.2.2.2.2.2.2.2.2.2.2.2.2.2.2.2.2.2.2.2.2.1
theorem dL_law_205 : decode cL_law 205 = .ok (.iadd, 1) := DL_law.2.2.2.2.2.2.2.2.2.2.2.2.2.2.2.2.2.2.2.2.2.2.2.2.2.2.2.2.2.2.2.2.2.2.2.2.2.2.2.2.2.2.2.2.2.2.2.2.2.2.2.2.2.2.2.2.2.2.2.2.2.2.2.2.2.2.2.2.2.2.2.2.2.2.2.2.2.2.2.2.2.2.2.2.2.2.2.2.2.2.2.2.2.2.1
theorem dL_law_206 : decode cL_law 206 = .ok (.iaload, 1) := DL_law.2.2.2.2.2.2.2.2.2.2.2.2.2.2.2.2.2.2.2.2.2.2.2.2.2.2.2.2.2.2.2.2.2.2.2.2.2.2.2.2.2.2.2.2.2.2.2.2.2.2.2.2.2.2.2.2.2.2.2.2.2.2.2.2.2.2.2.2.2.2.2.2.2.2.2.2.2.2.2.2.2.2.2.2.2.2.2.2.2.2.2.2.2.2.2.1
theorem dL_law_207 : decode cL_law 207 = .ok (.invokevirtual 66, 3) := DL_law.2.2.2.2.2.2.2.2.2.2.2.2.2.2.2.2.2.2.2.2.2.2.2.2.2.2.2.2.2.2.2.2.2.2.2.2.2.2.2.2.2.2.2.2.2.2.2.2.2.2.2.2.2.2.2.2.2.2.2.2.2.2.2.2.2.2.2.2.2.2.2.2.2.2.2.2.2.2.2.2.2.2.2.2.2.2.2.2.2.2.2.2.2.2.2.2.1
theorem dL_law_210 : decode cL_law 210 = .ok (.aload_n 2, 1) := DL_law.2.2.2.2.2.2.2.2.2.2.2.2.2.2.2.2.2.2.2.2.2.2.2.2.2.2.2.2.2.2.2.2.2.2.2.2.2.2.2.2.2.2.2.2.2.2.2.2.2.2.2.2.2.2.2.2.2.2.2.2.2.2.2.2.2.2.2.2.2.2.2.2.2.2.2.2.2.2.2.2.2.2.2.2.2.2.2.2.2.2.2.2.2.2.2.2.2.1
theorem dL_law_211 : decode cL_law 211 = .ok (.aload_n 0, 1) := DL_law.2.2.2.2.2.2.2.2.2.2.2.2.2.2.2.2.2.2.2.2.2.2.2.2.2.2.2.2.2.2.2.2.2.2.2.2.2.2.2.2.2.2.2.2.2.2.2.2.2.2.2.2.2.2.2.2.2.2.2.2.2.2.2.2.2.2.2.2.2.2.2.2.2.2.2.2.2.2.2.2.2.2.2.2.2.2.2.2.2.2.2.2.2.2.2.2.2.2.1
theorem dL_law_212 : decode cL_law 212 = .ok (.iload 4, 2) := DL_law.2.2.2.2.2.2.2.2.2.2.2.2.2.2.2.2.2.2.2.2.2.2.2.2.2.2.2.2.2.2.2.2.2.2.2.2.2.2.2.2.2.2.2.2.2.2.2.2.2.2.2.2.2.2.2.2.2.2.2.2.2.2.2.2.2.2.2.2.2.2.2.2.2.2.2.2.2.2.2.2.2.2.2.2.2.2.2.2.2.2.2.2.2.2.2.2.2.2.2.1
theorem dL_law_214 : decode cL_law 214 = .ok (.iconst 1, 1) := DL_law.2.2.2.2.2.2.2.2.2.2.2.2.2.2.2.2.2.2.2.2.2.2.2.2.2.2.2.2.2.2.2.2.2.2.2.2.2.2.2.2.2.2.2.2.2.2.2.2.2.2.2.2.2.2.2.2.2.2.2.2.2.2.2.2.2.2.2.2.2.2.2.2.2.2.2.2.2.2.2.2.2.2.2.2.2.2.2.2.2.2.2.2.2.2.2.2.2.2.2.2.1
theorem dL_law_215 : decode cL_law 215 = .ok (.iadd, 1) := DL_law.2.2.2.2.2.2.2.2.2.2.2.2.2.2.2.2.2.2.2.2.2.2.2.2.2.2.2.2.2.2.2.2.2.2.2.2.2.2.2.2.2.2.2.2.2.2.2.2.2.2.2.2.2.2.2.2.2.2.2.2.2.2.2.2.2.2.2.2.2.2.2.2.2.2.2.2.2.2.2.2.2.2.2.2.2.2.2.2.2.2.2.2.2.2.2.2.2.2.2.2.2.1
theorem dL_law_216 : decode cL_law 216 = .ok (.iaload, 1) := DL_law.2.2.2.2.2.2.2.2.2.2.2.2.2.2.2.2.2.2.2.2.2.2.2.2.2.2.2.2.2.2.2.2.2.2.2.2.2.2.2.2.2.2.2.2.2.2.2.2.2.2.2.2.2.2.2.2.2.2.2.2.2.2.2.2.2.2.2.2.2.2.2.2.2.2.2.2.2.2.2.2.2.2.2.2.2.2.2.2.2.2.2.2.2.2.2.2.2.2.2.2.2.2.1
theorem dL_law_217 : decode cL_law 217 = .ok (.invokevirtual 70, 3) := DL_law.2.2.2.2.2.2.2.2.2.2.2.2.2.2.2.2.2.2.2.2.2.2.2.2.2.2.2.2.2.2.2.2.2.2.2.2.2.2.2.2.2.2.2.2.2.2.2.2.2.2.2.2.2.2.2.2.2.2.2.2.2.2.2.2.2.2.2.2.2.2.2.2.2.2.2.2.2.2.2.2.2.2.2.2.2.2.2.2.2.2.2.2.2.2.2.2.2.2.2.2.2.2.2.1
theorem dL_law_220 : decode cL_law 220 = .ok (.if_icmp .eq 679, 3) := DL_law.2.2.2.2.2.2.2.2.2.2.2.2.2.2.2.2.2.2.2.2.2.2.2.2.2.2.2.2.2.2.2.2.2.2.2.2.2.2.2.2.2.2.2.2.2.2.2.2.2.2.2.2.2.2.2.2.2.2.2.2.2.2.2.2.2.2.2.2.2.2.2.2.2.2.2.2.2.2.2.2.2.2.2.2.2.2.2.2.2.2.2.2.2.2.2.2.2.2.2.2.2.2.2.2.1
theorem dL_law_223 : decode cL_law 223 = .ok (.iconst 0, 1) := DL_law.2.2.2.2.2.2.2.2.2.2.2.2.2.2.2.2.2.2.2.2.2.2.2.2.2.2.2.2.2.2.2.2.2.2.2.2.2.2.2.2.2.2.2.2.2.2.2.2.2.2.2.2.2.2.2.2.2.2.2.2.2.2.2.2.2.2.2.2.2.2.2.2.2.2.2.2.2.2.2.2.2.2.2.2.2.2.2.2.2.2.2.2.2.2.2.2.2.2.2.2.2.2.2.2.2.1
theorem dL_law_224 : decode cL_law 224 = .ok (.ireturn, 1) := DL_law.2.2.2.2.2.2.2.2.2.2.2.2.2.2.2.2.2.2.2.2.2.2.2.2.2.2.2.2.2.2.2.2.2.2.2.2.2.2.2.2.2.2.2.2.2.2.2.2.2.2.2.2.2.2.2.2.2.2.2.2.2.2.2.2.2.2.2.2.2.2.2.2.2.2.2.2.2.2.2.2.2.2.2.2.2.2.2.2.2.2.2.2.2.2.2.2.2.2.2.2.2.2.2.2.2.2.1
theorem dL_law_225 : decode cL_law 225 = .ok (.aload_n 1, 1) := DL_law.2.2.2.2.2.2.2.2.2.2.2.2.2.2.2.2.2.2.2.2.2.2.2.2.2.2.2.2.2.2.2.2.2.2.2.2.2.2.2.2.2.2.2.2.2.2.2.2.2.2.2.2.2.2.2.2.2.2.2.2.2.2.2.2.2.2.2.2.2.2.2.2.2.2.2.2.2.2.2.2.2.2.2.2.2.2.2.2.2.2.2.2.2.2.2.2.2.2.2.2.2.2.2.2.2.2.2.1
theorem dL_law_226 : decode cL_law 226 = .ok (.invokevirtual 71, 3) := DL_law.2.2.2.2.2.2.2.2.2.2.2.2.2.2.2.2.2.2.2.2.2.2.2.2.2.2.2.2.2.2.2.2.2.2.2.2.2.2.2.2.2.2.2.2.2.2.2.2.2.2.2.2.2.2.2.2.2.2.2.2.2.2.2.2.2.2.2.2.2.2.2.2.2.2.2.2.2.2.2.2.2.2.2.2.2.2.2.2.2.2.2.2.2.2.2.2.2.2.2.2.2.2.2.2.2.2.2.2.1
theorem dL_law_229 : decode cL_law 229 = .ok (.aload_n 2, 1) := DL_law.2.2.2.2.2.2.2.2.2.2.2.2.2.2.2.2.2.2.2.2.2.2.2.2.2.2.2.2.2.2.2.2.2.2.2.2.2.2.2.2.2.2.2.2.2.2.2.2.2.2.2.2.2.2.2.2.2.2.2.2.2.2.2.2.2.2.2.2.2.2.2.2.2.2.2.2.2.2.2.2.2.2.2.2.2.2.2.2.2.2.2.2.2.2.2.2.2.2.2.2.2.2.2.2.2.2.2.2.2
theorem dL_law_230 : decode cL_law 230 = .ok (.invokevirtual 74, 3) := DL_law_2.1
theorem dL_law_233 : decode cL_law 233 = .ok (.if_icmp .eq 666, 3) := DL_law_2.2.1
theorem dL_law_236 : decode cL_law 236 = .ok (.iconst 0, 1) := DL_law_2.2.2.1
theorem dL_law_237 : decode cL_law 237 = .ok (.ireturn, 1) := DL_law_2.2.2.2.1
theorem dL_law_238 : decode cL_law 238 = .ok (.aload_n 1, 1) := DL_law_2.2.2.2.2.1
theorem dL_law_239 : decode cL_law 239 = .ok (.aload_n 0, 1) := DL_law_2.2.2.2.2.2.1
theorem dL_law_240 : decode cL_law 240 = .ok (.iload 4, 2) := DL_law_2.2.2.2.2.2.2.1
theorem dL_law_242 : decode cL_law 242 = .ok (.iconst 1, 1) := DL_law_2.2.2.2.2.2.2.2.1
theorem dL_law_243 : decode cL_law 243 = .ok (.iadd, 1) := DL_law_2.2.2.2.2.2.2.2.2.1
theorem dL_law_244 : decode cL_law 244 = .ok (.iaload, 1) := DL_law_2.2.2.2.2.2.2.2.2.2.1
theorem dL_law_245 : decode cL_law 245 = .ok (.invokevirtual 75, 3) := DL_law_2.2.2.2.2.2.2.2.2.2.2.1
theorem dL_law_248 : decode cL_law 248 = .ok (.aload_n 2, 1) := DL_law_2.2.2.2.2.2.2.2.2.2.2.2.1
theorem dL_law_249 : decode cL_law 249 = .ok (.aload_n 0, 1) := DL_law_2.2.2.2.2.2.2.2.2.2.2.2.2.1
theorem dL_law_250 : decode cL_law 250 = .ok (.iload 4, 2) := DL_law_2.2.2.2.2.2.2.2.2.2.2.2.2.2.1
theorem dL_law_252 : decode cL_law 252 = .ok (.iconst 1, 1) := DL_law_2.2.2.2.2.2.2.2.2.2.2.2.2.2.2.1
theorem dL_law_253 : decode cL_law 253 = .ok (.iadd, 1) := DL_law_2.2.2.2.2.2.2.2.2.2.2.2.2.2.2.2.1
theorem dL_law_254 : decode cL_law 254 = .ok (.iaload, 1) := DL_law_2.2.2.2.2.2.2.2.2.2.2.2.2.2.2.2.2.1
theorem dL_law_255 : decode cL_law 255 = .ok (.invokevirtual 78, 3) := DL_law_2.2.2.2.2.2.2.2.2.2.2.2.2.2.2.2.2.2.1
theorem dL_law_258 : decode cL_law 258 = .ok (.if_icmp .eq 641, 3) := DL_law_2.2.2.2.2.2.2.2.2.2.2.2.2.2.2.2.2.2.2.1
theorem dL_law_261 : decode cL_law 261 = .ok (.iconst 0, 1) := DL_law_2.2.2.2.2.2.2.2.2.2.2.2.2.2.2.2.2.2.2.2.1
theorem dL_law_262 : decode cL_law 262 = .ok (.ireturn, 1) := DL_law_2.2.2.2.2.2.2.2.2.2.2.2.2.2.2.2.2.2.2.2.2.1
theorem dL_law_263 : decode cL_law 263 = .ok (.aload_n 1, 1) := DL_law_2.2.2.2.2.2.2.2.2.2.2.2.2.2.2.2.2.2.2.2.2.2.1
theorem dL_law_264 : decode cL_law 264 = .ok (.aload_n 0, 1) := DL_law_2.2.2.2.2.2.2.2.2.2.2.2.2.2.2.2.2.2.2.2.2.2.2.1
theorem dL_law_265 : decode cL_law 265 = .ok (.iload 4, 2) := DL_law_2.2.2.2.2.2.2.2.2.2.2.2.2.2.2.2.2.2.2.2.2.2.2.2.1
theorem dL_law_267 : decode cL_law 267 = .ok (.iconst 1, 1) := DL_law_2.2.2.2.2.2.2.2.2.2.2.2.2.2.2.2.2.2.2.2.2.2.2.2.2.1
theorem dL_law_268 : decode cL_law 268 = .ok (.iadd, 1) := DL_law_2.2.2.2.2.2.2.2.2.2.2.2.2.2.2.2.2.2.2.2.2.2.2.2.2.2.1
theorem dL_law_269 : decode cL_law 269 = .ok (.iaload, 1) := DL_law_2.2.2.2.2.2.2.2.2.2.2.2.2.2.2.2.2.2.2.2.2.2.2.2.2.2.2.1
theorem dL_law_270 : decode cL_law 270 = .ok (.aload_n 0, 1) := DL_law_2.2.2.2.2.2.2.2.2.2.2.2.2.2.2.2.2.2.2.2.2.2.2.2.2.2.2.2.1
theorem dL_law_271 : decode cL_law 271 = .ok (.iload 4, 2) := DL_law_2.2.2.2.2.2.2.2.2.2.2.2.2.2.2.2.2.2.2.2.2.2.2.2.2.2.2.2.2.1
theorem dL_law_273 : decode cL_law 273 = .ok (.iconst 2, 1) := DL_law_2.2.2.2.2.2.2.2.2.2.2.2.2.2.2.2.2.2.2.2.2.2.2.2.2.2.2.2.2.2.1
theorem dL_law_274 : decode cL_law 274 = .ok (.iadd, 1) := DL_law_2.2.2.2.2.2.2.2.2.2.2.2.2.2.2.2.2.2.2.2.2.2.2.2.2.2.2.2.2.2.2.1
theorem dL_law_275 : decode cL_law 275 = .ok (.iaload, 1) := DL_law_2.2.2.2.2.2.2.2.2.2.2.2.2.2.2.2.2.2.2.2.2.2.2.2.2.2.2.2.2.2.2.2.1
theorem dL_law_276 : decode cL_law 276 = .ok (.ifCond .eq 7, 3) := DL_law_2.2.2.2.2.2.2.2.2.2.2.2.2.2.2.2.2.2.2.2.2.2.2.2.2.2.2.2.2.2.2.2.2.1
theorem dL_law_279 : decode cL_law 279 = .ok (.iconst 1, 1) := DL_law_2.2.2.2.2.2.2.2.2.2.2.2.2.2.2.2.2.2.2.2.2.2.2.2.2.2.2.2.2.2.2.2.2.2.1
theorem dL_law_280 : decode cL_law 280 = .ok (.goto 4, 3) := DL_law_2.2.2.2.2.2.2.2.2.2.2.2.2.2.2.2.2.2.2.2.2.2.2.2.2.2.2.2.2.2.2.2.2.2.2.1
theorem dL_law_283 : decode cL_law 283 = .ok (.iconst 0, 1) := DL_law_2.2.2.2.2.2.2.2.2.2.2.2.2.2.2.2.2.2.2.2.2.2.2.2.2.2.2.2.2.2.2.2.2.2.2.2.1
theorem dL_law_284 : decode cL_law 284 = .ok (.aload_n 3, 1) := DL_law_2.2.2.2.2.2.2.2.2.2.2.2.2.2.2.2.2.2.2.2.2.2.2.2.2.2.2.2.2.2.2.2.2.2.2.2.2.1
theorem dL_law_285 : decode cL_law 285 = .ok (.invokestatic 79, 3) := DL_law_2.2.2.2.2.2.2.2.2.2.2.2.2.2.2.2.2.2.2.2.2.2.2.2.2.2.2.2.2.2.2.2.2.2.2.2.2.2.1
theorem dL_law_288 : decode cL_law 288 = .ok (.istore 5, 2) := DL_law_2.2.2.2.2.2.2.2.2.2.2.2.2.2.2.2.2.2.2.2.2.2.2.2.2.2.2.2.2.2.2.2.2.2.2.2.2.2.2.1
theorem dL_law_290 : decode cL_law 290 = .ok (.aload_n 2, 1) := DL_law_2.2.2.2.2.2.2.2.2.2.2.2.2.2.2.2.2.2.2.2.2.2.2.2.2.2.2.2.2.2.2.2.2.2.2.2.2.2.2.2.1
theorem dL_law_291 : decode cL_law 291 = .ok (.aload_n 0, 1) := DL_law_2.2.2.2.2.2.2.2.2.2.2.2.2.2.2.2.2.2.2.2.2.2.2.2.2.2.2.2.2.2.2.2.2.2.2.2.2.2.2.2.2.1
theorem dL_law_292 : decode cL_law 292 = .ok (.iload 4, 2) := DL_law_2.2.2.2.2.2.2.2.2.2.2.2.2.2.2.2.2.2.2.2.2.2.2.2.2.2.2.2.2.2.2.2.2.2.2.2.2.2.2.2.2.2.1
theorem dL_law_294 : decode cL_law 294 = .ok (.iconst 1, 1) := DL_law_2.2.2.2.2.2.2.2.2.2.2.2.2.2.2.2.2.2.2.2.2.2.2.2.2.2.2.2.2.2.2.2.2.2.2.2.2.2.2.2.2.2.2.1
theorem dL_law_295 : decode cL_law 295 = .ok (.iadd, 1) := DL_law_2.2.2.2.2.2.2.2.2.2.2.2.2.2.2.2.2.2.2.2.2.2.2.2.2.2.2.2.2.2.2.2.2.2.2.2.2.2.2.2.2.2.2.2.1
theorem dL_law_296 : decode cL_law 296 = .ok (.iaload, 1) := DL_law_2.2.2.2.2.2.2.2.2.2.2.2.2.2.2.2.2.2.2.2.2.2.2.2.2.2.2.2.2.2.2.2.2.2.2.2.2.2.2.2.2.2.2.2.2.1
theorem dL_law_297 : decode cL_law 297 = .ok (.aload_n 0, 1) := DL_law_2.2.2.2.2.2.2.2.2.2.2.2.2.2.2.2.2.2.2.2.2.2.2.2.2.2.2.2.2.2.2.2.2.2.2.2.2.2.2.2.2.2.2.2.2.2.1
theorem dL_law_298 : decode cL_law 298 = .ok (.iload 4, 2) := DL_law_2.2.2.2.2.2.2.2.2.2.2.2.2.2.2.2.2.2.2.2.2.2.2.2.2.2.2.2.2.2.2.2.2.2.2.2.2.2.2.2.2.2.2.2.2.2.2.1
theorem dL_law_300 : decode cL_law 300 = .ok (.iconst 2, 1) := DL_law_2.2.2.2.2.2.2.2.2.2.2.2.2.2.2.2.2.2.2.2.2.2.2.2.2.2.2.2.2.2.2.2.2.2.2.2.2.2.2.2.2.2.2.2.2.2.2.2.1
theorem dL_law_301 : decode cL_law 301 = .ok (.iadd, 1) := DL_law_2.2.2.2.2.2.2.2.2.2.2.2.2.2.2.2.2.2.2.2.2.2.2.2.2.2.2.2.2.2.2.2.2.2.2.2.2.2.2.2.2.2.2.2.2.2.2.2.2.1
theorem dL_law_302 : decode cL_law 302 = .ok (.iaload, 1) := DL_law_2.2.2.2.2.2.2.2.2.2.2.2.2.2.2.2.2.2.2.2.2.2.2.2.2.2.2.2.2.2.2.2.2.2.2.2.2.2.2.2.2.2.2.2.2.2.2.2.2.2.1
theorem dL_law_303 : decode cL_law 303 = .ok (.ifCond .eq 7, 3) := DL_law_2.2.2.2.2.2.2.2.2.2.2.2.2.2.2.2.2.2.2.2.2.2.2.2.2.2.2.2.2.2.2.2.2.2.2.2.2.2.2.2.2.2.2.2.2.2.2.2.2.2.2.1
theorem dL_law_306 : decode cL_law 306 = .ok (.iconst 1, 1) := DL_law_2.2.2.2.2.2.2.2.2.2.2.2.2.2.2.2.2.2.2.2.2.2.2.2.2.2.2.2.2.2.2.2.2.2.2.2.2.2.2.2.2.2.2.2.2.2.2.2.2.2.2.2.1
theorem dL_law_307 : decode cL_law 307 = .ok (.goto 4, 3) := DL_law_2.2.2.2.2.2.2.2.2.2.2.2.2.2.2.2.2.2.2.2.2.2.2.2.2.2.2.2.2.2.2.2.2.2.2.2.2.2.2.2.2.2.2.2.2.2.2.2.2.2.2.2.2.1
theorem dL_law_310 : decode cL_law 310 = .ok (.iconst 0, 1) := DL_law_2.2.2.2.2.2.2.2.2.2.2.2.2.2.2.2.2.2.2.2.2.2.2.2.2.2.2.2.2.2.2.2.2.2.2.2.2.2.2.2.2.2.2.2.2.2.2.2.2.2.2.2.2.2.1
theorem dL_law_311 : decode cL_law 311 = .ok (.invokevirtual 82, 3) := DL_law_2.2.2.2.2.2.2.2.2.2.2.2.2.2.2.2.2.2.2.2.2.2.2.2.2.2.2.2.2.2.2.2.2.2.2.2.2.2.2.2.2.2.2.2.2.2.2.2.2.2.2.2.2.2.2.1
theorem dL_law_314 : decode cL_law 314 = .ok (.istore 6, 2) := DL_law_2.2.2.2.2.2.2.2.2.2.2.2.2.2.2.2.2.2.2.2.2.2.2.2.2.2.2.2.2.2.2.2.2.2.2.2.2.2.2.2.2.2.2.2.2.2.2.2.2.2.2.2.2.2.2.2.1
theorem dL_law_316 : decode cL_law 316 = .ok (.aload_n 2, 1) := DL_law_2.2.2.2.2.2.2.2.2.2.2.2.2.2.2.2.2.2.2.2.2.2.2.2.2.2.2.2.2.2.2.2.2.2.2.2.2.2.2.2.2.2.2.2.2.2.2.2.2.2.2.2.2.2.2.2.2.1
theorem dL_law_317 : decode cL_law 317 = .ok (.invokevirtual 62, 3) := DL_law_2.2.2.2.2.2.2.2.2.2.2.2.2.2.2.2.2.2.2.2.2.2.2.2.2.2.2.2.2.2.2.2.2.2.2.2.2.2.2.2.2.2.2.2.2.2.2.2.2.2.2.2.2.2.2.2.2.2.1
theorem dL_law_320 : decode cL_law 320 = .ok (.iload 5, 2) := DL_law_2.2.2.2.2.2.2.2.2.2.2.2.2.2.2.2.2.2.2.2.2.2.2.2.2.2.2.2.2.2.2.2.2.2.2.2.2.2.2.2.2.2.2.2.2.2.2.2.2.2.2.2.2.2.2.2.2.2.2.1
theorem dL_law_322 : decode cL_law 322 = .ok (.if_icmp .eq 5, 3) := DL_law_2.2.2.2.2.2.2.2.2.2.2.2.2.2.2.2.2.2.2.2.2.2.2.2.2.2.2.2.2.2.2.2.2.2.2.2.2.2.2.2.2.2.2.2.2.2.2.2.2.2.2.2.2.2.2.2.2.2.2.2.1
theorem dL_law_325 : decode cL_law 325 = .ok (.iconst 0, 1) := DL_law_2.2.2.2.2.2.2.2.2.2.2.2.2.2.2.2.2.2.2.2.2.2.2.2.2.2.2.2.2.2.2.2.2.2.2.2.2.2.2.2.2.2.2.2.2.2.2.2.2.2.2.2.2.2.2.2.2.2.2.2.2.1
theorem dL_law_326 : decode cL_law 326 = .ok (.ireturn, 1) := DL_law_2.2.2.2.2.2.2.2.2.2.2.2.2.2.2.2.2.2.2.2.2.2.2.2.2.2.2.2.2.2.2.2.2.2.2.2.2.2.2.2.2.2.2.2.2.2.2.2.2.2.2.2.2.2.2.2.2.2.2.2.2.2.1
theorem dL_law_327 : decode cL_law 327 = .ok (.iload 5, 2) := DL_law_2.2.2.2.2.2.2.2.2.2.2.2.2.2.2.2.2.2.2.2.2.2.2.2.2.2.2.2.2.2.2.2.2.2.2.2.2.2.2.2.2.2.2.2.2.2.2.2.2.2.2.2.2.2.2.2.2.2.2.2.2.2.2.1
theorem dL_law_329 : decode cL_law 329 = .ok (.ifCond .ne 15, 3) := DL_law_2.2.2.2.2.2.2.2.2.2.2.2.2.2.2.2.2.2.2.2.2.2.2.2.2.2.2.2.2.2.2.2.2.2.2.2.2.2.2.2.2.2.2.2.2.2.2.2.2.2.2.2.2.2.2.2.2.2.2.2.2.2.2.2.1
theorem dL_law_332 : decode cL_law 332 = .ok (.aload_n 3, 1) := DL_law_2.2.2.2.2.2.2.2.2.2.2.2.2.2.2.2.2.2.2.2.2.2.2.2.2.2.2.2.2.2.2.2.2.2.2.2.2.2.2.2.2.2.2.2.2.2.2.2.2.2.2.2.2.2.2.2.2.2.2.2.2.2.2.2.2.1
theorem dL_law_333 : decode cL_law 333 = .ok (.iconst 0, 1) := DL_law_2.2.2.2.2.2.2.2.2.2.2.2.2.2.2.2.2.2.2.2.2.2.2.2.2.2.2.2.2.2.2.2.2.2.2.2.2.2.2.2.2.2.2.2.2.2.2.2.2.2.2.2.2.2.2.2.2.2.2.2.2.2.2.2.2.2.1
theorem dL_law_334 : decode cL_law 334 = .ok (.laload, 1) := DL_law_2.2.2.2.2.2.2.2.2.2.2.2.2.2.2.2.2.2.2.2.2.2.2.2.2.2.2.2.2.2.2.2.2.2.2.2.2.2.2.2.2.2.2.2.2.2.2.2.2.2.2.2.2.2.2.2.2.2.2.2.2.2.2.2.2.2.2.1
theorem dL_law_335 : decode cL_law 335 = .ok (.iload 6, 2) := DL_law_2.2.2.2.2.2.2.2.2.2.2.2.2.2.2.2.2.2.2.2.2.2.2.2.2.2.2.2.2.2.2.2.2.2.2.2.2.2.2.2.2.2.2.2.2.2.2.2.2.2.2.2.2.2.2.2.2.2.2.2.2.2.2.2.2.2.2.2.1
theorem dL_law_337 : decode cL_law 337 = .ok (.i2l, 1) := DL_law_2.2.2.2.2.2.2.2.2.2.2.2.2.2.2.2.2.2.2.2.2.2.2.2.2.2.2.2.2.2.2.2.2.2.2.2.2.2.2.2.2.2.2.2.2.2.2.2.2.2.2.2.2.2.2.2.2.2.2.2.2.2.2.2.2.2.2.2.2.1
theorem dL_law_338 : decode cL_law 338 = .ok (.lcmp, 1) := DL_law_2.2.2.2.2.2.2.2.2.2.2.2.2.2.2.2.2.2.2.2.2.2.2.2.2.2.2.2.2.2.2.2.2.2.2.2.2.2.2.2.2.2.2.2.2.2.2.2.2.2.2.2.2.2.2.2.2.2.2.2.2.2.2.2.2.2.2.2.2.2.1
theorem dL_law_339 : decode cL_law 339 = .ok (.ifCond .eq 5, 3) := DL_law_2.2.2.2.2.2.2.2.2.2.2.2.2.2.2.2.2.2.2.2.2.2.2.2.2.2.2.2.2.2.2.2.2.2.2.2.2.2.2.2.2.2.2.2.2.2.2.2.2.2.2.2.2.2.2.2.2.2.2.2.2.2.2.2.2.2.2.2.2.2.2.1
theorem dL_law_342 : decode cL_law 342 = .ok (.iconst 0, 1) := DL_law_2.2.2.2.2.2.2.2.2.2.2.2.2.2.2.2.2.2.2.2.2.2.2.2.2.2.2.2.2.2.2.2.2.2.2.2.2.2.2.2.2.2.2.2.2.2.2.2.2.2.2.2.2.2.2.2.2.2.2.2.2.2.2.2.2.2.2.2.2.2.2.2.1
theorem dL_law_343 : decode cL_law 343 = .ok (.ireturn, 1) := DL_law_2.2.2.2.2.2.2.2.2.2.2.2.2.2.2.2.2.2.2.2.2.2.2.2.2.2.2.2.2.2.2.2.2.2.2.2.2.2.2.2.2.2.2.2.2.2.2.2.2.2.2.2.2.2.2.2.2.2.2.2.2.2.2.2.2.2.2.2.2.2.2.2.2.1
theorem dL_law_344 : decode cL_law 344 = .ok (.goto 555, 3) := DL_law_2.2.2.2.2.2.2.2.2.2.2.2.2.2.2.2.2.2.2.2.2.2.2.2.2.2.2.2.2.2.2.2.2.2.2.2.2.2.2.2.2.2.2.2.2.2.2.2.2.2.2.2.2.2.2.2.2.2.2.2.2.2.2.2.2.2.2.2.2.2.2.2.2.2.1
theorem dL_law_347 : decode cL_law 347 = .ok (.aload_n 1, 1) := DL_law_2.2.2.2.2.2.2.2.2.2.2.2.2.2.2.2.2.2.2.2.2.2.2.2.2.2.2.2.2.2.2.2.2.2.2.2.2.2.2.2.2.2.2.2.2.2.2.2.2.2.2.2.2.2.2.2.2.2.2.2.2.2.2.2.2.2.2.2.2.2.2.2.2.2.2.1
theorem dL_law_348 : decode cL_law 348 = .ok (.aload_n 0, 1) := DL_law_2.2.2.2.2.2.2.2.2.2.2.2.2.2.2.2.2.2.2.2.2.2.2.2.2.2.2.2.2.2.2.2.2.2.2.2.2.2.2.2.2.2.2.2.2.2.2.2.2.2.2.2.2.2.2.2.2.2.2.2.2.2.2.2.2.2.2.2.2.2.2.2.2.2.2.2.1
theorem dL_law_349 : decode cL_law 349 = .ok (.iload 4, 2) := DL_law_2.2.2.2.2.2.2.2.2.2.2.2.2.2.2.2.2.2.2.2.2.2.2.2.2.2.2.2.2.2.2.2.2.2.2.2.2.2.2.2.2.2.2.2.2.2.2.2.2.2.2.2.2.2.2.2.2.2.2.2.2.2.2.2.2.2.2.2.2.2.2.2.2.2.2.2.2.1
theorem dL_law_351 : decode cL_law 351 = .ok (.iconst 1, 1) := DL_law_2.2.2.2.2.2.2.2.2.2.2.2.2.2.2.2.2.2.2.2.2.2.2.2.2.2.2.2.2.2.2.2.2.2.2.2.2.2.2.2.2.2.2.2.2.2.2.2.2.2.2.2.2.2.2.2.2.2.2.2.2.2.2.2.2.2.2.2.2.2.2.2.2.2.2.2.2.2.1
theorem dL_law_352 : decode cL_law 352 = .ok (.iadd, 1) := DL_law_2.2.2.2.2.2.2.2.2.2.2.2.2.2.2.2.2.2.2.2.2.2.2.2.2.2.2.2.2.2.2.2.2.2.2.2.2.2.2.2.2.2.2.2.2.2.2.2.2.2.2.2.2.2.2.2.2.2.2.2.2.2.2.2.2.2.2.2.2.2.2.2.2.2.2.2.2.2.2.1
theorem dL_law_353 : decode cL_law 353 = .ok (.iaload, 1) := DL_law_2.2.2.2.2.2.2.2.2.2.2.2.2.2.2.2.2.2.2.2.2.2.2.2.2.2.2.2.2.2.2.2.2.2.2.2.2.2.2.2.2.2.2.2.2.2.2.2.2.2.2.2.2.2.2.2.2.2.2.2.2.2.2.2.2.2.2.2.2.2.2.2.2.2.2.2.2.2.2.2.1
theorem dL_law_354 : decode cL_law 354 = .ok (.aload_n 3, 1) := DL_law_2.2.2.2.2.2.2.2.2.2.2.2.2.2.2.2.2.2.2.2.2.2.2.2.2.2.2.2.2.2.2.2.2.2.2.2.2.2.2.2.2.2.2.2.2.2.2.2.2.2.2.2.2.2.2.2.2.2.2.2.2.2.2.2.2.2.2.2.2.2.2.2.2.2.2.2.2.2.2.2.2.1
theorem dL_law_355 : decode cL_law 355 = .ok (.invokestatic 83, 3) := DL_law_2.2.2.2.2.2.2.2.2.2.2.2.2.2.2.2.2.2.2.2.2.2.2.2.2.2.2.2.2.2.2.2.2.2.2.2.2.2.2.2.2.2.2.2.2.2.2.2.2.2.2.2.2.2.2.2.2.2.2.2.2.2.2.2.2.2.2.2.2.2.2.2.2.2.2.2.2.2.2.2.2.2.1
theorem dL_law_358 : decode cL_law 358 = .ok (.istore 5, 2) := DL_law_2.2.2.2.2.2.2.2.2.2.2.2.2.2.2.2.2.2.2.2.2.2.2.2.2.2.2.2.2.2.2.2.2.2.2.2.2.2.2.2.2.2.2.2.2.2.2.2.2.2.2.2.2.2.2.2.2.2.2.2.2.2.2.2.2.2.2.2.2.2.2.2.2.2.2.2.2.2.2.2.2.2.2.1
theorem dL_law_360 : decode cL_law 360 = .ok (.aload_n 2, 1) := DL_law_2.2.2.2.2.2.2.2.2.2.2.2.2.2.2.2.2.2.2.2.2.2.2.2.2.2.2.2.2.2.2.2.2.2.2.2.2.2.2.2.2.2.2.2.2.2.2.2.2.2.2.2.2.2.2.2.2.2.2.2.2.2.2.2.2.2.2.2.2.2.2.2.2.2.2.2.2.2.2.2.2.2.2.2.1
theorem dL_law_361 : decode cL_law 361 = .ok (.aload_n 0, 1) := DL_law_2.2.2.2.2.2.2.2.2.2.2.2.2.2.2.2.2.2.2.2.2.2.2.2.2.2.2.2.2.2.2.2.2.2.2.2.2.2.2.2.2.2.2.2.2.2.2.2.2.2.2.2.2.2.2.2.2.2.2.2.2.2.2.2.2.2.2.2.2.2.2.2.2.2.2.2.2.2.2.2.2.2.2.2.2.1
theorem dL_law_362 : decode cL_law 362 = .ok (.iload 4, 2) := DL_law_2.2.2.2.2.2.2.2.2.2.2.2.2.2.2.2.2.2.2.2.2.2.2.2.2.2.2.2.2.2.2.2.2.2.2.2.2.2.2.2.2.2.2.2.2.2.2.2.2.2.2.2.2.2.2.2.2.2.2.2.2.2.2.2.2.2.2.2.2.2.2.2.2.2.2.2.2.2.2.2.2.2.2.2.2.2.1
theorem dL_law_364 : decode cL_law 364 = .ok (.iconst 1, 1) := DL_law_2.2.2.2.2.2.2.2.2.2.2.2.2.2.2.2.2.2.2.2.2.2.2.2.2.2.2.2.2.2.2.2.2.2.2.2.2.2.2.2.2.2.2.2.2.2.2.2.2.2.2.2.2.2.2.2.2.2.2.2.2.2.2.2.2.2.2.2.2.2.2.2.2.2.2.2.2.2.2.2.2.2.2.2.2.2.2.1
theorem dL_law_365 : decode cL_law 365 = .ok (.iadd, 1) := DL_law_2.2.2.2.2.2.2.2.2.2.2.2.2.2.2.2.2.2.2.2.2.2.2.2.2.2.2.2.2.2.2.2.2.2.2.2.2.2.2.2.2.2.2.2.2.2.2.2.2.2.2.2.2.2.2.2.2.2.2.2.2.2.2.2.2.2.2.2.2.2.2.2.2.2.2.2.2.2.2.2.2.2.2.2.2.2.2.2.1
theorem dL_law_366 : decode cL_law 366 = .ok (.iaload, 1) := DL_law_2.2.2.2.2.2.2.2.2.2.2.2.2.2.2.2.2.2.2.2.2.2.2.2.2.2.2.2.2.2.2.2.2.2.2.2.2.2.2.2.2.2.2.2.2.2.2.2.2.2.2.2.2.2.2.2.2.2.2.2.2.2.2.2.2.2.2.2.2.2.2.2.2.2.2.2.2.2.2.2.2.2.2.2.2.2.2.2.2.1
theorem dL_law_367 : decode cL_law 367 = .ok (.invokevirtual 86, 3) := DL_law_2.2.2.2.2.2.2.2.2.2.2.2.2.2.2.2.2.2.2.2.2.2.2.2.2.2.2.2.2.2.2.2.2.2.2.2.2.2.2.2.2.2.2.2.2.2.2.2.2.2.2.2.2.2.2.2.2.2.2.2.2.2.2.2.2.2.2.2.2.2.2.2.2.2.2.2.2.2.2.2.2.2.2.2.2.2.2.2.2.2.1
theorem dL_law_370 : decode cL_law 370 = .ok (.istore 6, 2) := DL_law_2.2.2.2.2.2.2.2.2.2.2.2.2.2.2.2.2.2.2.2.2.2.2.2.2.2.2.2.2.2.2.2.2.2.2.2.2.2.2.2.2.2.2.2.2.2.2.2.2.2.2.2.2.2.2.2.2.2.2.2.2.2.2.2.2.2.2.2.2.2.2.2.2.2.2.2.2.2.2.2.2.2.2.2.2.2.2.2.2.2.2.1
theorem dL_law_372 : decode cL_law 372 = .ok (.aload_n 2, 1) := DL_law_2.2.2.2.2.2.2.2.2.2.2.2.2.2.2.2.2.2.2.2.2.2.2.2.2.2.2.2.2.2.2.2.2.2.2.2.2.2.2.2.2.2.2.2.2.2.2.2.2.2.2.2.2.2.2.2.2.2.2.2.2.2.2.2.2.2.2.2.2.2.2.2.2.2.2.2.2.2.2.2.2.2.2.2.2.2.2.2.2.2.2.2.1
theorem dL_law_373 : decode cL_law 373 = .ok (.invokevirtual 62, 3) := DL_law_2.2.2.2.2.2.2.2.2.2.2.2.2.2.2.2.2.2.2.2.2.2.2.2.2.2.2.2.2.2.2.2.2.2.2.2.2.2.2.2.2.2.2.2.2.2.2.2.2.2.2.2.2.2.2.2.2.2.2.2.2.2.2.2.2.2.2.2.2.2.2.2.2.2.2.2.2.2.2.2.2.2.2.2.2.2.2.2.2.2.2.2.2.1
theorem dL_law_376 : decode cL_law 376 = .ok (.iload 5, 2) := DL_law_2.2.2.2.2.2.2.2.2.2.2.2.2.2.2.2.2.2.2.2.2.2.2.2.2.2.2.2.2.2.2.2.2.2.2.2.2.2.2.2.2.2.2.2.2.2.2.2.2.2.2.2.2.2.2.2.2.2.2.2.2.2.2.2.2.2.2.2.2.2.2.2.2.2.2.2.2.2.2.2.2.2.2.2.2.2.2.2.2.2.2.2.2.2.1
theorem dL_law_378 : decode cL_law 378 = .ok (.if_icmp .eq 5, 3) := DL_law_2.2.2.2.2.2.2.2.2.2.2.2.2.2.2.2.2.2.2.2.2.2.2.2.2.2.2.2.2.2.2.2.2.2.2.2.2.2.2.2.2.2.2.2.2.2.2.2.2.2.2.2.2.2.2.2.2.2.2.2.2.2.2.2.2.2.2.2.2.2.2.2.2.2.2.2.2.2.2.2.2.2.2.2.2.2.2.2.2.2.2.2.2.2.2.1
theorem dL_law_381 : decode cL_law 381 = .ok (.iconst 0, 1) := DL_law_2.2.2.2.2.2.2.2.2.2.2.2.2.2.2.2.2.2.2.2.2.2.2.2.2.2.2.2.2.2.2.2.2.2.2.2.2.2.2.2.2.2.2.2.2.2.2.2.2.2.2.2.2.2.2.2.2.2.2.2.2.2.2.2.2.2.2.2.2.2.2.2.2.2.2.2.2.2.2.2.2.2.2.2.2.2.2.2.2.2.2.2.2.2.2.2.1
theorem dL_law_382 : decode cL_law 382 = .ok (.ireturn, 1) := DL_law_2.2.2.2.2.2.2.2.2.2.2.2.2.2.2.2.2.2.2.2.2.2.2.2.2.2.2.2.2.2.2.2.2.2.2.2.2.2.2.2.2.2.2.2.2.2.2.2.2.2.2.2.2.2.2.2.2.2.2.2.2.2.2.2.2.2.2.2.2.2.2.2.2.2.2.2.2.2.2.2.2.2.2.2.2.2.2.2.2.2.2.2.2.2.2.2.2.1
theorem dL_law_383 : decode cL_law 383 = .ok (.iload 5, 2) := DL_law_2.2.2.2.2.2.2.2.2.2.2.2.2.2.2.2.2.2.2.2.2.2.2.2.2.2.2.2.2.2.2.2.2.2.2.2.2.2.2.2.2.2.2.2.2.2.2.2.2.2.2.2.2.2.2.2.2.2.2.2.2.2.2.2.2.2.2.2.2.2.2.2.2.2.2.2.2.2.2.2.2.2.2.2.2.2.2.2.2.2.2.2.2.2.2.2.2.2.1
theorem dL_law_385 : decode cL_law 385 = .ok (.ifCond .ne 15, 3) := DL_law_2.2.2.2.2.2.2.2.2.2.2.2.2.2.2.2.2.2.2.2.2.2.2.2.2.2.2.2.2.2.2.2.2.2.2.2.2.2.2.2.2.2.2.2.2.2.2.2.2.2.2.2.2.2.2.2.2.2.2.2.2.2.2.2.2.2.2.2.2.2.2.2.2.2.2.2.2.2.2.2.2.2.2.2.2.2.2.2.2.2.2.2.2.2.2.2.2.2.2.1
theorem dL_law_388 : decode cL_law 388 = .ok (.aload_n 3, 1) := DL_law_2.2.2.2.2.2.2.2.2.2.2.2.2.2.2.2.2.2.2.2.2.2.2.2.2.2.2.2.2.2.2.2.2.2.2.2.2.2.2.2.2.2.2.2.2.2.2.2.2.2.2.2.2.2.2.2.2.2.2.2.2.2.2.2.2.2.2.2.2.2.2.2.2.2.2.2.2.2.2.2.2.2.2.2.2.2.2.2.2.2.2.2.2.2.2.2.2.2.2.2.1
theorem dL_law_389 : decode cL_law 389 = .ok (.iconst 0, 1) := DL_law_2.2.2.2.2.2.2.2.2.2.2.2.2.2.2.2.2.2.2.2.2.2.2.2.2.2.2.2.2.2.2.2.2.2.2.2.2.2.2.2.2.2.2.2.2.2.2.2.2.2.2.2.2.2.2.2.2.2.2.2.2.2.2.2.2.2.2.2.2.2.2.2.2.2.2.2.2.2.2.2.2.2.2.2.2.2.2.2.2.2.2.2.2.2.2.2.2.2.2.2.2.1
theorem dL_law_390 : decode cL_law 390 = .ok (.laload, 1) := DL_law_2.2.2.2.2.2.2.2.2.2.2.2.2.2.2.2.2.2.2.2.2.2.2.2.2.2.2.2.2.2.2.2.2.2.2.2.2.2.2.2.2.2.2.2.2.2.2.2.2.2.2.2.2.2.2.2.2.2.2.2.2.2.2.2.2.2.2.2.2.2.2.2.2.2.2.2.2.2.2.2.2.2.2.2.2.2.2.2.2.2.2.2.2.2.2.2.2.2.2.2.2.2.1
theorem dL_law_391 : decode cL_law 391 = .ok (.iload 6, 2) := DL_law_2.2.2.2.2.2.2.2.2.2.2.2.2.2.2.2.2.2.2.2.2.2.2.2.2.2.2.2.2.2.2.2.2.2.2.2.2.2.2.2.2.2.2.2.2.2.2.2.2.2.2.2.2.2.2.2.2.2.2.2.2.2.2.2.2.2.2.2.2.2.2.2.2.2.2.2.2.2.2.2.2.2.2.2.2.2.2.2.2.2.2.2.2.2.2.2.2.2.2.2.2.2.2.1
theorem dL_law_393 : decode cL_law 393 = .ok (.i2l, 1) := DL_law_2.2.2.2.2.2.2.2.2.2.2.2.2.2.2.2.2.2.2.2.2.2.2.2.2.2.2.2.2.2.2.2.2.2.2.2.2.2.2.2.2.2.2.2.2.2.2.2.2.2.2.2.2.2.2.2.2.2.2.2.2.2.2.2.2.2.2.2.2.2.2.2.2.2.2.2.2.2.2.2.2.2.2.2.2.2.2.2.2.2.2.2.2.2.2.2.2.2.2.2.2.2.2.2.1
theorem dL_law_394 : decode cL_law 394 = .ok (.lcmp, 1) := DL_law_2.2.2.2.2.2.2.2.2.2.2.2.2.2.2.2.2.2.2.2.2.2.2.2.2.2.2.2.2.2.2.2.2.2.2.2.2.2.2.2.2.2.2.2.2.2.2.2.2.2.2.2.2.2.2.2.2.2.2.2.2.2.2.2.2.2.2.2.2.2.2.2.2.2.2.2.2.2.2.2.2.2.2.2.2.2.2.2.2.2.2.2.2.2.2.2.2.2.2.2.2.2.2.2.2.1
theorem dL_law_395 : decode cL_law 395 = .ok (.ifCond .eq 5, 3) := DL_law_2.2.2.2.2.2.2.2.2.2.2.2.2.2.2.2.2.2.2.2.2.2.2.2.2.2.2.2.2.2.2.2.2.2.2.2.2.2.2.2.2.2.2.2.2.2.2.2.2.2.2.2.2.2.2.2.2.2.2.2.2.2.2.2.2.2.2.2.2.2.2.2.2.2.2.2.2.2.2.2.2.2.2.2.2.2.2.2.2.2.2.2.2.2.2.2.2.2.2.2.2.2.2.2.2.2.1
theorem dL_law_398 : decode cL_law 398 = .ok (.iconst 0, 1) := DL_law_2.2.2.2.2.2.2.2.2.2.2.2.2.2.2.2.2.2.2.2.2.2.2.2.2.2.2.2.2.2.2.2.2.2.2.2.2.2.2.2.2.2.2.2.2.2.2.2.2.2.2.2.2.2.2.2.2.2.2.2.2.2.2.2.2.2.2.2.2.2.2.2.2.2.2.2.2.2.2.2.2.2.2.2.2.2.2.2.2.2.2.2.2.2.2.2.2.2.2.2.2.2.2.2.2.2.2.1
theorem dL_law_399 : decode cL_law 399 = .ok (.ireturn, 1) := DL_law_2.2.2.2.2.2.2.2.2.2.2.2.2.2.2.2.2.2.2.2.2.2.2.2.2.2.2.2.2.2.2.2.2.2.2.2.2.2.2.2.2.2.2.2.2.2.2.2.2.2.2.2.2.2.2.2.2.2.2.2.2.2.2.2.2.2.2.2.2.2.2.2.2.2.2.2.2.2.2.2.2.2.2.2.2.2.2.2.2.2.2.2.2.2.2.2.2.2.2.2.2.2.2.2.2.2.2.2.1
theorem dL_law_400 : decode cL_law 400 = .ok (.goto 499, 3) := DL_law_2.2.2.2.2.2.2.2.2.2.2.2.2.2.2.2.2.2.2.2.2.2.2.2.2.2.2.2.2.2.2.2.2.2.2.2.2.2.2.2.2.2.2.2.2.2.2.2.2.2.2.2.2.2.2.2.2.2.2.2.2.2.2.2.2.2.2.2.2.2.2.2.2.2.2.2.2.2.2.2.2.2.2.2.2.2.2.2.2.2.2.2.2.2.2.2.2.2.2.2.2.2.2.2.2.2.2.2.2.1
theorem dL_law_403 : decode cL_law 403 = .ok (.aload_n 1, 1) := DL_law_2.2.2.2.2.2.2.2.2.2.2.2.2.2.2.2.2.2.2.2.2.2.2.2.2.2.2.2.2.2.2.2.2.2.2.2.2.2.2.2.2.2.2.2.2.2.2.2.2.2.2.2.2.2.2.2.2.2.2.2.2.2.2.2.2.2.2.2.2.2.2.2.2.2.2.2.2.2.2.2.2.2.2.2.2.2.2.2.2.2.2.2.2.2.2.2.2.2.2.2.2.2.2.2.2.2.2.2.2.2
theorem dL_law_404 : decode cL_law 404 = .ok (.aload_n 0, 1) := DL_law_3.1
theorem dL_law_405 : decode cL_law 405 = .ok (.iload 4, 2) := DL_law_3.2.1
theorem dL_law_407 : decode cL_law 407 = .ok (.iconst 1, 1) := DL_law_3.2.2.1
theorem dL_law_408 : decode cL_law 408 = .ok (.iadd, 1) := DL_law_3.2.2.2.1
theorem dL_law_409 : decode cL_law 409 = .ok (.iaload, 1) := DL_law_3.2.2.2.2.1
theorem dL_law_410 : decode cL_law 410 = .ok (.aload_n 3, 1) := DL_law_3.2.2.2.2.2.1
theorem dL_law_411 : decode cL_law 411 = .ok (.invokestatic 87, 3) := DL_law_3.2.2.2.2.2.2.1
theorem dL_law_414 : decode cL_law 414 = .ok (.istore 5, 2) := DL_law_3.2.2.2.2.2.2.2.1
theorem dL_law_416 : decode cL_law 416 = .ok (.aload_n 2, 1) := DL_law_3.2.2.2.2.2.2.2.2.1
theorem dL_law_417 : decode cL_law 417 = .ok (.aload_n 0, 1) := DL_law_3.2.2.2.2.2.2.2.2.2.1
theorem dL_law_418 : decode cL_law 418 = .ok (.iload 4, 2) := DL_law_3.2.2.2.2.2.2.2.2.2.2.1
theorem dL_law_420 : decode cL_law 420 = .ok (.iconst 1, 1) := DL_law_3.2.2.2.2.2.2.2.2.2.2.2.1
theorem dL_law_421 : decode cL_law 421 = .ok (.iadd, 1) := DL_law_3.2.2.2.2.2.2.2.2.2.2.2.2.1
theorem dL_law_422 : decode cL_law 422 = .ok (.iaload, 1) := DL_law_3.2.2.2.2.2.2.2.2.2.2.2.2.2.1
theorem dL_law_423 : decode cL_law 423 = .ok (.invokevirtual 89, 3) := DL_law_3.2.2.2.2.2.2.2.2.2.2.2.2.2.2.1
theorem dL_law_426 : decode cL_law 426 = .ok (.istore 6, 2) := DL_law_3.2.2.2.2.2.2.2.2.2.2.2.2.2.2.2.1
theorem dL_law_428 : decode cL_law 428 = .ok (.aload_n 2, 1) := DL_law_3.2.2.2.2.2.2.2.2.2.2.2.2.2.2.2.2.1
theorem dL_law_429 : decode cL_law 429 = .ok (.invokevirtual 62, 3) := DL_law_3.2.2.2.2.2.2.2.2.2.2.2.2.2.2.2.2.2.1
theorem dL_law_432 : decode cL_law 432 = .ok (.iload 5, 2) := DL_law_3.2.2.2.2.2.2.2.2.2.2.2.2.2.2.2.2.2.2.1
theorem dL_law_434 : decode cL_law 434 = .ok (.if_icmp .eq 5, 3) := DL_law_3.2.2.2.2.2.2.2.2.2.2.2.2.2.2.2.2.2.2.2.1
theorem dL_law_437 : decode cL_law 437 = .ok (.iconst 0, 1) := DL_law_3.2.2.2.2.2.2.2.2.2.2.2.2.2.2.2.2.2.2.2.2.1
theorem dL_law_438 : decode cL_law 438 = .ok (.ireturn, 1) := DL_law_3.2.2.2.2.2.2.2.2.2.2.2.2.2.2.2.2.2.2.2.2.2.1
theorem dL_law_439 : decode cL_law 439 = .ok (.iload 5, 2) := DL_law_3.2.2.2.2.2.2.2.2.2.2.2.2.2.2.2.2.2.2.2.2.2.2.1
theorem dL_law_441 : decode cL_law 441 = .ok (.ifCond .ne 15, 3) := DL_law_3.2.2.2.2.2.2.2.2.2.2.2.2.2.2.2.2.2.2.2.2.2.2.2.1
theorem dL_law_444 : decode cL_law 444 = .ok (.aload_n 3, 1) := DL_law_3.2.2.2.2.2.2.2.2.2.2.2.2.2.2.2.2.2.2.2.2.2.2.2.2.1
theorem dL_law_445 : decode cL_law 445 = .ok (.iconst 0, 1) := DL_law_3.2.2.2.2.2.2.2.2.2.2.2.2.2.2.2.2.2.2.2.2.2.2.2.2.2.1
theorem dL_law_446 : decode cL_law 446 = .ok (.laload, 1) := DL_law_3.2.2.2.2.2.2.2.2.2.2.2.2.2.2.2.2.2.2.2.2.2.2.2.2.2.2.1
theorem dL_law_447 : decode cL_law 447 = .ok (.iload 6, 2) := DL_law_3.2.2.2.2.2.2.2.2.2.2.2.2.2.2.2.2.2.2.2.2.2.2.2.2.2.2.2.1
theorem dL_law_449 : decode cL_law 449 = .ok (.i2l, 1) := DL_law_3.2.2.2.2.2.2.2.2.2.2.2.2.2.2.2.2.2.2.2.2.2.2.2.2.2.2.2.2.1
theorem dL_law_450 : decode cL_law 450 = .ok (.lcmp, 1) := DL_law_3.2.2.2.2.2.2.2.2.2.2.2.2.2.2.2.2.2.2.2.2.2.2.2.2.2.2.2.2.2.1
theorem dL_law_451 : decode cL_law 451 = .ok (.ifCond .eq 5, 3) := DL_law_3.2.2.2.2.2.2.2.2.2.2.2.2.2.2.2.2.2.2.2.2.2.2.2.2.2.2.2.2.2.2.1
theorem dL_law_454 : decode cL_law 454 = .ok (.iconst 0, 1) := DL_law_3.2.2.2.2.2.2.2.2.2.2.2.2.2.2.2.2.2.2.2.2.2.2.2.2.2.2.2.2.2.2.2.1
theorem dL_law_455 : decode cL_law 455 = .ok (.ireturn, 1) := DL_law_3.2.2.2.2.2.2.2.2.2.2.2.2.2.2.2.2.2.2.2.2.2.2.2.2.2.2.2.2.2.2.2.2.1
theorem dL_law_456 : decode cL_law 456 = .ok (.goto 443, 3) := DL_law_3.2.2.2.2.2.2.2.2.2.2.2.2.2.2.2.2.2.2.2.2.2.2.2.2.2.2.2.2.2.2.2.2.2.1
theorem dL_law_459 : decode cL_law 459 = .ok (.aload_n 1, 1) := DL_law_3.2.2.2.2.2.2.2.2.2.2.2.2.2.2.2.2.2.2.2.2.2.2.2.2.2.2.2.2.2.2.2.2.2.2.1
theorem dL_law_460 : decode cL_law 460 = .ok (.aload_n 0, 1) := DL_law_3.2.2.2.2.2.2.2.2.2.2.2.2.2.2.2.2.2.2.2.2.2.2.2.2.2.2.2.2.2.2.2.2.2.2.2.1
theorem dL_law_461 : decode cL_law 461 = .ok (.iload 4, 2) := DL_law_3.2.2.2.2.2.2.2.2.2.2.2.2.2.2.2.2.2.2.2.2.2.2.2.2.2.2.2.2.2.2.2.2.2.2.2.2.1
theorem dL_law_463 : decode cL_law 463 = .ok (.iconst 1, 1) := DL_law_3.2.2.2.2.2.2.2.2.2.2.2.2.2.2.2.2.2.2.2.2.2.2.2.2.2.2.2.2.2.2.2.2.2.2.2.2.2.1
theorem dL_law_464 : decode cL_law 464 = .ok (.iadd, 1) := DL_law_3.2.2.2.2.2.2.2.2.2.2.2.2.2.2.2.2.2.2.2.2.2.2.2.2.2.2.2.2.2.2.2.2.2.2.2.2.2.2.1
theorem dL_law_465 : decode cL_law 465 = .ok (.iaload, 1) := DL_law_3.2.2.2.2.2.2.2.2.2.2.2.2.2.2.2.2.2.2.2.2.2.2.2.2.2.2.2.2.2.2.2.2.2.2.2.2.2.2.2.1
theorem dL_law_466 : decode cL_law 466 = .ok (.aload_n 3, 1) := DL_law_3.2.2.2.2.2.2.2.2.2.2.2.2.2.2.2.2.2.2.2.2.2.2.2.2.2.2.2.2.2.2.2.2.2.2.2.2.2.2.2.2.1
theorem dL_law_467 : decode cL_law 467 = .ok (.invokestatic 90, 3) := DL_law_3.2.2.2.2.2.2.2.2.2.2.2.2.2.2.2.2.2.2.2.2.2.2.2.2.2.2.2.2.2.2.2.2.2.2.2.2.2.2.2.2.2.1
theorem dL_law_470 : decode cL_law 470 = .ok (.istore 5, 2) := DL_law_3.2.2.2.2.2.2.2.2.2.2.2.2.2.2.2.2.2.2.2.2.2.2.2.2.2.2.2.2.2.2.2.2.2.2.2.2.2.2.2.2.2.2.1
theorem dL_law_472 : decode cL_law 472 = .ok (.aload_n 2, 1) := DL_law_3.2.2.2.2.2.2.2.2.2.2.2.2.2.2.2.2.2.2.2.2.2.2.2.2.2.2.2.2.2.2.2.2.2.2.2.2.2.2.2.2.2.2.2.1
theorem dL_law_473 : decode cL_law 473 = .ok (.aload_n 0, 1) := DL_law_3.2.2.2.2.2.2.2.2.2.2.2.2.2.2.2.2.2.2.2.2.2.2.2.2.2.2.2.2.2.2.2.2.2.2.2.2.2.2.2.2.2.2.2.2.1
theorem dL_law_474 : decode cL_law 474 = .ok (.iload 4, 2) := DL_law_3.2.2.2.2.2.2.2.2.2.2.2.2.2.2.2.2.2.2.2.2.2.2.2.2.2.2.2.2.2.2.2.2.2.2.2.2.2.2.2.2.2.2.2.2.2.1
theorem dL_law_476 : decode cL_law 476 = .ok (.iconst 1, 1) := DL_law_3.2.2.2.2.2.2.2.2.2.2.2.2.2.2.2.2.2.2.2.2.2.2.2.2.2.2.2.2.2.2.2.2.2.2.2.2.2.2.2.2.2.2.2.2.2.2.1
theorem dL_law_477 : decode cL_law 477 = .ok (.iadd, 1) := DL_law_3.2.2.2.2.2.2.2.2.2.2.2.2.2.2.2.2.2.2.2.2.2.2.2.2.2.2.2.2.2.2.2.2.2.2.2.2.2.2.2.2.2.2.2.2.2.2.2.1
theorem dL_law_478 : decode cL_law 478 = .ok (.iaload, 1) := DL_law_3.2.2.2.2.2.2.2.2.2.2.2.2.2.2.2.2.2.2.2.2.2.2.2.2.2.2.2.2.2.2.2.2.2.2.2.2.2.2.2.2.2.2.2.2.2.2.2.2.1
theorem dL_law_479 : decode cL_law 479 = .ok (.invokevirtual 92, 3) := DL_law_3.2.2.2.2.2.2.2.2.2.2.2.2.2.2.2.2.2.2.2.2.2.2.2.2.2.2.2.2.2.2.2.2.2.2.2.2.2.2.2.2.2.2.2.2.2.2.2.2.2.1
theorem dL_law_482 : decode cL_law 482 = .ok (.istore 6, 2) := DL_law_3.2.2.2.2.2.2.2.2.2.2.2.2.2.2.2.2.2.2.2.2.2.2.2.2.2.2.2.2.2.2.2.2.2.2.2.2.2.2.2.2.2.2.2.2.2.2.2.2.2.2.1
theorem dL_law_484 : decode cL_law 484 = .ok (.aload_n 2, 1) := DL_law_3.2.2.2.2.2.2.2.2.2.2.2.2.2.2.2.2.2.2.2.2.2.2.2.2.2.2.2.2.2.2.2.2.2.2.2.2.2.2.2.2.2.2.2.2.2.2.2.2.2.2.2.1
theorem dL_law_485 : decode cL_law 485 = .ok (.invokevirtual 62, 3) := DL_law_3.2.2.2.2.2.2.2.2.2.2.2.2.2.2.2.2.2.2.2.2.2.2.2.2.2.2.2.2.2.2.2.2.2.2.2.2.2.2.2.2.2.2.2.2.2.2.2.2.2.2.2.2.1
theorem dL_law_488 : decode cL_law 488 = .ok (.iload 5, 2) := DL_law_3.2.2.2.2.2.2.2.2.2.2.2.2.2.2.2.2.2.2.2.2.2.2.2.2.2.2.2.2.2.2.2.2.2.2.2.2.2.2.2.2.2.2.2.2.2.2.2.2.2.2.2.2.2.1
theorem dL_law_490 : decode cL_law 490 = .ok (.if_icmp .eq 5, 3) := DL_law_3.2.2.2.2.2.2.2.2.2.2.2.2.2.2.2.2.2.2.2.2.2.2.2.2.2.2.2.2.2.2.2.2.2.2.2.2.2.2.2.2.2.2.2.2.2.2.2.2.2.2.2.2.2.2.1
theorem dL_law_493 : decode cL_law 493 = .ok (.iconst 0, 1) := DL_law_3.2.2.2.2.2.2.2.2.2.2.2.2.2.2.2.2.2.2.2.2.2.2.2.2.2.2.2.2.2.2.2.2.2.2.2.2.2.2.2.2.2.2.2.2.2.2.2.2.2.2.2.2.2.2.2.1
theorem dL_law_494 : decode cL_law 494 = .ok (.ireturn, 1) := DL_law_3.2.2.2.2.2.2.2.2.2.2.2.2.2.2.2.2.2.2.2.2.2.2.2.2.2.2.2.2.2.2.2.2.2.2.2.2.2.2.2.2.2.2.2.2.2.2.2.2.2.2.2.2.2.2.2.2.1
theorem dL_law_495 : decode cL_law 495 = .ok (.iload 5, 2) := DL_law_3.2.2.2.2.2.2.2.2.2.2.2.2.2.2.2.2.2.2.2.2.2.2.2.2.2.2.2.2.2.2.2.2.2.2.2.2.2.2.2.2.2.2.2.2.2.2.2.2.2.2.2.2.2.2.2.2.2.1
theorem dL_law_497 : decode cL_law 497 = .ok (.ifCond .ne 15, 3) := DL_law_3.2.2.2.2.2.2.2.2.2.2.2.2.2.2.2.2.2.2.2.2.2.2.2.2.2.2.2.2.2.2.2.2.2.2.2.2.2.2.2.2.2.2.2.2.2.2.2.2.2.2.2.2.2.2.2.2.2.2.1
theorem dL_law_500 : decode cL_law 500 = .ok (.aload_n 3, 1) := DL_law_3.2.2.2.2.2.2.2.2.2.2.2.2.2.2.2.2.2.2.2.2.2.2.2.2.2.2.2.2.2.2.2.2.2.2.2.2.2.2.2.2.2.2.2.2.2.2.2.2.2.2.2.2.2.2.2.2.2.2.2.1
theorem dL_law_501 : decode cL_law 501 = .ok (.iconst 0, 1) := DL_law_3.2.2.2.2.2.2.2.2.2.2.2.2.2.2.2.2.2.2.2.2.2.2.2.2.2.2.2.2.2.2.2.2.2.2.2.2.2.2.2.2.2.2.2.2.2.2.2.2.2.2.2.2.2.2.2.2.2.2.2.2.1
theorem dL_law_502 : decode cL_law 502 = .ok (.laload, 1) := DL_law_3.2.2.2.2.2.2.2.2.2.2.2.2.2.2.2.2.2.2.2.2.2.2.2.2.2.2.2.2.2.2.2.2.2.2.2.2.2.2.2.2.2.2.2.2.2.2.2.2.2.2.2.2.2.2.2.2.2.2.2.2.2.1
theorem dL_law_503 : decode cL_law 503 = .ok (.iload 6, 2) := DL_law_3.2.2.2.2.2.2.2.2.2.2.2.2.2.2.2.2.2.2.2.2.2.2.2.2.2.2.2.2.2.2.2.2.2.2.2.2.2.2.2.2.2.2.2.2.2.2.2.2.2.2.2.2.2.2.2.2.2.2.2.2.2.2.1
theorem dL_law_505 : decode cL_law 505 = .ok (.i2l, 1) := DL_law_3.2.2.2.2.2.2.2.2.2.2.2.2.2.2.2.2.2.2.2.2.2.2.2.2.2.2.2.2.2.2.2.2.2.2.2.2.2.2.2.2.2.2.2.2.2.2.2.2.2.2.2.2.2.2.2.2.2.2.2.2.2.2.2.1
theorem dL_law_506 : decode cL_law 506 = .ok (.lcmp, 1) := DL_law_3.2.2.2.2.2.2.2.2.2.2.2.2.2.2.2.2.2.2.2.2.2.2.2.2.2.2.2.2.2.2.2.2.2.2.2.2.2.2.2.2.2.2.2.2.2.2.2.2.2.2.2.2.2.2.2.2.2.2.2.2.2.2.2.2.1
theorem dL_law_507 : decode cL_law 507 = .ok (.ifCond .eq 5, 3) := DL_law_3.2.2.2.2.2.2.2.2.2.2.2.2.2.2.2.2.2.2.2.2.2.2.2.2.2.2.2.2.2.2.2.2.2.2.2.2.2.2.2.2.2.2.2.2.2.2.2.2.2.2.2.2.2.2.2.2.2.2.2.2.2.2.2.2.2.1
theorem dL_law_510 : decode cL_law 510 = .ok (.iconst 0, 1) := DL_law_3.2.2.2.2.2.2.2.2.2.2.2.2.2.2.2.2.2.2.2.2.2.2.2.2.2.2.2.2.2.2.2.2.2.2.2.2.2.2.2.2.2.2.2.2.2.2.2.2.2.2.2.2.2.2.2.2.2.2.2.2.2.2.2.2.2.2.1
theorem dL_law_511 : decode cL_law 511 = .ok (.ireturn, 1) := DL_law_3.2.2.2.2.2.2.2.2.2.2.2.2.2.2.2.2.2.2.2.2.2.2.2.2.2.2.2.2.2.2.2.2.2.2.2.2.2.2.2.2.2.2.2.2.2.2.2.2.2.2.2.2.2.2.2.2.2.2.2.2.2.2.2.2.2.2.2.1
theorem dL_law_512 : decode cL_law 512 = .ok (.goto 387, 3) := DL_law_3.2.2.2.2.2.2.2.2.2.2.2.2.2.2.2.2.2.2.2.2.2.2.2.2.2.2.2.2.2.2.2.2.2.2.2.2.2.2.2.2.2.2.2.2.2.2.2.2.2.2.2.2.2.2.2.2.2.2.2.2.2.2.2.2.2.2.2.2.1
theorem dL_law_515 : decode cL_law 515 = .ok (.aload_n 1, 1) := DL_law_3.2.2.2.2.2.2.2.2.2.2.2.2.2.2.2.2.2.2.2.2.2.2.2.2.2.2.2.2.2.2.2.2.2.2.2.2.2.2.2.2.2.2.2.2.2.2.2.2.2.2.2.2.2.2.2.2.2.2.2.2.2.2.2.2.2.2.2.2.2.1
theorem dL_law_516 : decode cL_law 516 = .ok (.aload_n 0, 1) := DL_law_3.2.2.2.2.2.2.2.2.2.2.2.2.2.2.2.2.2.2.2.2.2.2.2.2.2.2.2.2.2.2.2.2.2.2.2.2.2.2.2.2.2.2.2.2.2.2.2.2.2.2.2.2.2.2.2.2.2.2.2.2.2.2.2.2.2.2.2.2.2.2.1
theorem dL_law_517 : decode cL_law 517 = .ok (.iload 4, 2) := DL_law_3.2.2.2.2.2.2.2.2.2.2.2.2.2.2.2.2.2.2.2.2.2.2.2.2.2.2.2.2.2.2.2.2.2.2.2.2.2.2.2.2.2.2.2.2.2.2.2.2.2.2.2.2.2.2.2.2.2.2.2.2.2.2.2.2.2.2.2.2.2.2.2.1
theorem dL_law_519 : decode cL_law 519 = .ok (.iconst 1, 1) := DL_law_3.2.2.2.2.2.2.2.2.2.2.2.2.2.2.2.2.2.2.2.2.2.2.2.2.2.2.2.2.2.2.2.2.2.2.2.2.2.2.2.2.2.2.2.2.2.2.2.2.2.2.2.2.2.2.2.2.2.2.2.2.2.2.2.2.2.2.2.2.2.2.2.2.1
theorem dL_law_520 : decode cL_law 520 = .ok (.iadd, 1) := DL_law_3.2.2.2.2.2.2.2.2.2.2.2.2.2.2.2.2.2.2.2.2.2.2.2.2.2.2.2.2.2.2.2.2.2.2.2.2.2.2.2.2.2.2.2.2.2.2.2.2.2.2.2.2.2.2.2.2.2.2.2.2.2.2.2.2.2.2.2.2.2.2.2.2.2.1
theorem dL_law_521 : decode cL_law 521 = .ok (.iaload, 1) := DL_law_3.2.2.2.2.2.2.2.2.2.2.2.2.2.2.2.2.2.2.2.2.2.2.2.2.2.2.2.2.2.2.2.2.2.2.2.2.2.2.2.2.2.2.2.2.2.2.2.2.2.2.2.2.2.2.2.2.2.2.2.2.2.2.2.2.2.2.2.2.2.2.2.2.2.2.1
theorem dL_law_522 : decode cL_law 522 = .ok (.aload_n 3, 1) := DL_law_3.2.2.2.2.2.2.2.2.2.2.2.2.2.2.2.2.2.2.2.2.2.2.2.2.2.2.2.2.2.2.2.2.2.2.2.2.2.2.2.2.2.2.2.2.2.2.2.2.2.2.2.2.2.2.2.2.2.2.2.2.2.2.2.2.2.2.2.2.2.2.2.2.2.2.2.1
theorem dL_law_523 : decode cL_law 523 = .ok (.invokestatic 93, 3) := DL_law_3.2.2.2.2.2.2.2.2.2.2.2.2.2.2.2.2.2.2.2.2.2.2.2.2.2.2.2.2.2.2.2.2.2.2.2.2.2.2.2.2.2.2.2.2.2.2.2.2.2.2.2.2.2.2.2.2.2.2.2.2.2.2.2.2.2.2.2.2.2.2.2.2.2.2.2.2.1
theorem dL_law_526 : decode cL_law 526 = .ok (.istore 5, 2) := DL_law_3.2.2.2.2.2.2.2.2.2.2.2.2.2.2.2.2.2.2.2.2.2.2.2.2.2.2.2.2.2.2.2.2.2.2.2.2.2.2.2.2.2.2.2.2.2.2.2.2.2.2.2.2.2.2.2.2.2.2.2.2.2.2.2.2.2.2.2.2.2.2.2.2.2.2.2.2.2.1
theorem dL_law_528 : decode cL_law 528 = .ok (.aload_n 2, 1) := DL_law_3.2.2.2.2.2.2.2.2.2.2.2.2.2.2.2.2.2.2.2.2.2.2.2.2.2.2.2.2.2.2.2.2.2.2.2.2.2.2.2.2.2.2.2.2.2.2.2.2.2.2.2.2.2.2.2.2.2.2.2.2.2.2.2.2.2.2.2.2.2.2.2.2.2.2.2.2.2.2.1
theorem dL_law_529 : decode cL_law 529 = .ok (.aload_n 0, 1) := DL_law_3.2.2.2.2.2.2.2.2.2.2.2.2.2.2.2.2.2.2.2.2.2.2.2.2.2.2.2.2.2.2.2.2.2.2.2.2.2.2.2.2.2.2.2.2.2.2.2.2.2.2.2.2.2.2.2.2.2.2.2.2.2.2.2.2.2.2.2.2.2.2.2.2.2.2.2.2.2.2.2.1
theorem dL_law_530 : decode cL_law 530 = .ok (.iload 4, 2) := DL_law_3.2.2.2.2.2.2.2.2.2.2.2.2.2.2.2.2.2.2.2.2.2.2.2.2.2.2.2.2.2.2.2.2.2.2.2.2.2.2.2.2.2.2.2.2.2.2.2.2.2.2.2.2.2.2.2.2.2.2.2.2.2.2.2.2.2.2.2.2.2.2.2.2.2.2.2.2.2.2.2.2.1
theorem dL_law_532 : decode cL_law 532 = .ok (.iconst 1, 1) := DL_law_3.2.2.2.2.2.2.2.2.2.2.2.2.2.2.2.2.2.2.2.2.2.2.2.2.2.2.2.2.2.2.2.2.2.2.2.2.2.2.2.2.2.2.2.2.2.2.2.2.2.2.2.2.2.2.2.2.2.2.2.2.2.2.2.2.2.2.2.2.2.2.2.2.2.2.2.2.2.2.2.2.2.1
theorem dL_law_533 : decode cL_law 533 = .ok (.iadd, 1) := DL_law_3.2.2.2.2.2.2.2.2.2.2.2.2.2.2.2.2.2.2.2.2.2.2.2.2.2.2.2.2.2.2.2.2.2.2.2.2.2.2.2.2.2.2.2.2.2.2.2.2.2.2.2.2.2.2.2.2.2.2.2.2.2.2.2.2.2.2.2.2.2.2.2.2.2.2.2.2.2.2.2.2.2.2.1
theorem dL_law_534 : decode cL_law 534 = .ok (.iaload, 1) := DL_law_3.2.2.2.2.2.2.2.2.2.2.2.2.2.2.2.2.2.2.2.2.2.2.2.2.2.2.2.2.2.2.2.2.2.2.2.2.2.2.2.2.2.2.2.2.2.2.2.2.2.2.2.2.2.2.2.2.2.2.2.2.2.2.2.2.2.2.2.2.2.2.2.2.2.2.2.2.2.2.2.2.2.2.2.1
theorem dL_law_535 : decode cL_law 535 = .ok (.invokevirtual 95, 3) := DL_law_3.2.2.2.2.2.2.2.2.2.2.2.2.2.2.2.2.2.2.2.2.2.2.2.2.2.2.2.2.2.2.2.2.2.2.2.2.2.2.2.2.2.2.2.2.2.2.2.2.2.2.2.2.2.2.2.2.2.2.2.2.2.2.2.2.2.2.2.2.2.2.2.2.2.2.2.2.2.2.2.2.2.2.2.2.1
theorem dL_law_538 : decode cL_law 538 = .ok (.istore 6, 2) := DL_law_3.2.2.2.2.2.2.2.2.2.2.2.2.2.2.2.2.2.2.2.2.2.2.2.2.2.2.2.2.2.2.2.2.2.2.2.2.2.2.2.2.2.2.2.2.2.2.2.2.2.2.2.2.2.2.2.2.2.2.2.2.2.2.2.2.2.2.2.2.2.2.2.2.2.2.2.2.2.2.2.2.2.2.2.2.2.1
theorem dL_law_540 : decode cL_law 540 = .ok (.aload_n 2, 1) := DL_law_3.2.2.2.2.2.2.2.2.2.2.2.2.2.2.2.2.2.2.2.2.2.2.2.2.2.2.2.2.2.2.2.2.2.2.2.2.2.2.2.2.2.2.2.2.2.2.2.2.2.2.2.2.2.2.2.2.2.2.2.2.2.2.2.2.2.2.2.2.2.2.2.2.2.2.2.2.2.2.2.2.2.2.2.2.2.2.1
theorem dL_law_541 : decode cL_law 541 = .ok (.invokevirtual 62, 3) := DL_law_3.2.2.2.2.2.2.2.2.2.2.2.2.2.2.2.2.2.2.2.2.2.2.2.2.2.2.2.2.2.2.2.2.2.2.2.2.2.2.2.2.2.2.2.2.2.2.2.2.2.2.2.2.2.2.2.2.2.2.2.2.2.2.2.2.2.2.2.2.2.2.2.2.2.2.2.2.2.2.2.2.2.2.2.2.2.2.2.1
theorem dL_law_544 : decode cL_law 544 = .ok (.iload 5, 2) := DL_law_3.2.2.2.2.2.2.2.2.2.2.2.2.2.2.2.2.2.2.2.2.2.2.2.2.2.2.2.2.2.2.2.2.2.2.2.2.2.2.2.2.2.2.2.2.2.2.2.2.2.2.2.2.2.2.2.2.2.2.2.2.2.2.2.2.2.2.2.2.2.2.2.2.2.2.2.2.2.2.2.2.2.2.2.2.2.2.2.2.1
theorem dL_law_546 : decode cL_law 546 = .ok (.if_icmp .eq 5, 3) := DL_law_3.2.2.2.2.2.2.2.2.2.2.2.2.2.2.2.2.2.2.2.2.2.2.2.2.2.2.2.2.2.2.2.2.2.2.2.2.2.2.2.2.2.2.2.2.2.2.2.2.2.2.2.2.2.2.2.2.2.2.2.2.2.2.2.2.2.2.2.2.2.2.2.2.2.2.2.2.2.2.2.2.2.2.2.2.2.2.2.2.2.1
theorem dL_law_549 : decode cL_law 549 = .ok (.iconst 0, 1) := DL_law_3.2.2.2.2.2.2.2.2.2.2.2.2.2.2.2.2.2.2.2.2.2.2.2.2.2.2.2.2.2.2.2.2.2.2.2.2.2.2.2.2.2.2.2.2.2.2.2.2.2.2.2.2.2.2.2.2.2.2.2.2.2.2.2.2.2.2.2.2.2.2.2.2.2.2.2.2.2.2.2.2.2.2.2.2.2.2.2.2.2.2.1
theorem dL_law_550 : decode cL_law 550 = .ok (.ireturn, 1) := DL_law_3.2.2.2.2.2.2.2.2.2.2.2.2.2.2.2.2.2.2.2.2.2.2.2.2.2.2.2.2.2.2.2.2.2.2.2.2.2.2.2.2.2.2.2.2.2.2.2.2.2.2.2.2.2.2.2.2.2.2.2.2.2.2.2.2.2.2.2.2.2.2.2.2.2.2.2.2.2.2.2.2.2.2.2.2.2.2.2.2.2.2.2.1
theorem dL_law_551 : decode cL_law 551 = .ok (.iload 5, 2) := DL_law_3.2.2.2.2.2.2.2.2.2.2.2.2.2.2.2.2.2.2.2.2.2.2.2.2.2.2.2.2.2.2.2.2.2.2.2.2.2.2.2.2.2.2.2.2.2.2.2.2.2.2.2.2.2.2.2.2.2.2.2.2.2.2.2.2.2.2.2.2.2.2.2.2.2.2.2.2.2.2.2.2.2.2.2.2.2.2.2.2.2.2.2.2.1
theorem dL_law_553 : decode cL_law 553 = .ok (.ifCond .ne 15, 3) := DL_law_3.2.2.2.2.2.2.2.2.2.2.2.2.2.2.2.2.2.2.2.2.2.2.2.2.2.2.2.2.2.2.2.2.2.2.2.2.2.2.2.2.2.2.2.2.2.2.2.2.2.2.2.2.2.2.2.2.2.2.2.2.2.2.2.2.2.2.2.2.2.2.2.2.2.2.2.2.2.2.2.2.2.2.2.2.2.2.2.2.2.2.2.2.2.1
theorem dL_law_556 : decode cL_law 556 = .ok (.aload_n 3, 1) := DL_law_3.2.2.2.2.2.2.2.2.2.2.2.2.2.2.2.2.2.2.2.2.2.2.2.2.2.2.2.2.2.2.2.2.2.2.2.2.2.2.2.2.2.2.2.2.2.2.2.2.2.2.2.2.2.2.2.2.2.2.2.2.2.2.2.2.2.2.2.2.2.2.2.2.2.2.2.2.2.2.2.2.2.2.2.2.2.2.2.2.2.2.2.2.2.2.1
theorem dL_law_557 : decode cL_law 557 = .ok (.iconst 0, 1) := DL_law_3.2.2.2.2.2.2.2.2.2.2.2.2.2.2.2.2.2.2.2.2.2.2.2.2.2.2.2.2.2.2.2.2.2.2.2.2.2.2.2.2.2.2.2.2.2.2.2.2.2.2.2.2.2.2.2.2.2.2.2.2.2.2.2.2.2.2.2.2.2.2.2.2.2.2.2.2.2.2.2.2.2.2.2.2.2.2.2.2.2.2.2.2.2.2.2.1
theorem dL_law_558 : decode cL_law 558 = .ok (.laload, 1) := DL_law_3.2.2.2.2.2.2.2.2.2.2.2.2.2.2.2.2.2.2.2.2.2.2.2.2.2.2.2.2.2.2.2.2.2.2.2.2.2.2.2.2.2.2.2.2.2.2.2.2.2.2.2.2.2.2.2.2.2.2.2.2.2.2.2.2.2.2.2.2.2.2.2.2.2.2.2.2.2.2.2.2.2.2.2.2.2.2.2.2.2.2.2.2.2.2.2.2.1
theorem dL_law_559 : decode cL_law 559 = .ok (.iload 6, 2) := DL_law_3.2.2.2.2.2.2.2.2.2.2.2.2.2.2.2.2.2.2.2.2.2.2.2.2.2.2.2.2.2.2.2.2.2.2.2.2.2.2.2.2.2.2.2.2.2.2.2.2.2.2.2.2.2.2.2.2.2.2.2.2.2.2.2.2.2.2.2.2.2.2.2.2.2.2.2.2.2.2.2.2.2.2.2.2.2.2.2.2.2.2.2.2.2.2.2.2.2.1
theorem dL_law_561 : decode cL_law 561 = .ok (.i2l, 1) := DL_law_3.2.2.2.2.2.2.2.2.2.2.2.2.2.2.2.2.2.2.2.2.2.2.2.2.2.2.2.2.2.2.2.2.2.2.2.2.2.2.2.2.2.2.2.2.2.2.2.2.2.2.2.2.2.2.2.2.2.2.2.2.2.2.2.2.2.2.2.2.2.2.2.2.2.2.2.2.2.2.2.2.2.2.2.2.2.2.2.2.2.2.2.2.2.2.2.2.2.2.1
theorem dL_law_562 : decode cL_law 562 = .ok (.lcmp, 1) := DL_law_3.2.2.2.2.2.2.2.2.2.2.2.2.2.2.2.2.2.2.2.2.2.2.2.2.2.2.2.2.2.2.2.2.2.2.2.2.2.2.2.2.2.2.2.2.2.2.2.2.2.2.2.2.2.2.2.2.2.2.2.2.2.2.2.2.2.2.2.2.2.2.2.2.2.2.2.2.2.2.2.2.2.2.2.2.2.2.2.2.2.2.2.2.2.2.2.2.2.2.2.1
theorem dL_law_563 : decode cL_law 563 = .ok (.ifCond .eq 5, 3) := DL_law_3.2.2.2.2.2.2.2.2.2.2.2.2.2.2.2.2.2.2.2.2.2.2.2.2.2.2.2.2.2.2.2.2.2.2.2.2.2.2.2.2.2.2.2.2.2.2.2.2.2.2.2.2.2.2.2.2.2.2.2.2.2.2.2.2.2.2.2.2.2.2.2.2.2.2.2.2.2.2.2.2.2.2.2.2.2.2.2.2.2.2.2.2.2.2.2.2.2.2.2.2.1
theorem dL_law_566 : decode cL_law 566 = .ok (.iconst 0, 1) := DL_law_3.2.2.2.2.2.2.2.2.2.2.2.2.2.2.2.2.2.2.2.2.2.2.2.2.2.2.2.2.2.2.2.2.2.2.2.2.2.2.2.2.2.2.2.2.2.2.2.2.2.2.2.2.2.2.2.2.2.2.2.2.2.2.2.2.2.2.2.2.2.2.2.2.2.2.2.2.2.2.2.2.2.2.2.2.2.2.2.2.2.2.2.2.2.2.2.2.2.2.2.2.2.1
theorem dL_law_567 : decode cL_law 567 = .ok (.ireturn, 1) := DL_law_3.2.2.2.2.2.2.2.2.2.2.2.2.2.2.2.2.2.2.2.2.2.2.2.2.2.2.2.2.2.2.2.2.2.2.2.2.2.2.2.2.2.2.2.2.2.2.2.2.2.2.2.2.2.2.2.2.2.2.2.2.2.2.2.2.2.2.2.2.2.2.2.2.2.2.2.2.2.2.2.2.2.2.2.2.2.2.2.2.2.2.2.2.2.2.2.2.2.2.2.2.2.2.1
theorem dL_law_568 : decode cL_law 568 = .ok (.goto 331, 3) := DL_law_3.2.2.2.2.2.2.2.2.2.2.2.2.2.2.2.2.2.2.2.2.2.2.2.2.2.2.2.2.2.2.2.2.2.2.2.2.2.2.2.2.2.2.2.2.2.2.2.2.2.2.2.2.2.2.2.2.2.2.2.2.2.2.2.2.2.2.2.2.2.2.2.2.2.2.2.2.2.2.2.2.2.2.2.2.2.2.2.2.2.2.2.2.2.2.2.2.2.2.2.2.2.2.2.1
theorem dL_law_571 : decode cL_law 571 = .ok (.aload_n 1, 1) := DL_law_3.2.2.2.2.2.2.2.2.2.2.2.2.2.2.2.2.2.2.2.2.2.2.2.2.2.2.2.2.2.2.2.2.2.2.2.2.2.2.2.2.2.2.2.2.2.2.2.2.2.2.2.2.2.2.2.2.2.2.2.2.2.2.2.2.2.2.2.2.2.2.2.2.2.2.2.2.2.2.2.2.2.2.2.2.2.2.2.2.2.2.2.2.2.2.2.2.2.2.2.2.2.2.2.2.1
theorem dL_law_572 : decode cL_law 572 = .ok (.aload_n 0, 1) := DL_law_3.2.2.2.2.2.2.2.2.2.2.2.2.2.2.2.2.2.2.2.2.2.2.2.2.2.2.2.2.2.2.2.2.2.2.2.2.2.2.2.2.2.2.2.2.2.2.2.2.2.2.2.2.2.2.2.2.2.2.2.2.2.2.2.2.2.2.2.2.2.2.2.2.2.2.2.2.2.2.2.2.2.2.2.2.2.2.2.2.2.2.2.2.2.2.2.2.2.2.2.2.2.2.2.2.2.1
theorem dL_law_573 : decode cL_law 573 = .ok (.iload 4, 2) := DL_law_3.2.2.2.2.2.2.2.2.2.2.2.2.2.2.2.2.2.2.2.2.2.2.2.2.2.2.2.2.2.2.2.2.2.2.2.2.2.2.2.2.2.2.2.2.2.2.2.2.2.2.2.2.2.2.2.2.2.2.2.2.2.2.2.2.2.2.2.2.2.2.2.2.2.2.2.2.2.2.2.2.2.2.2.2.2.2.2.2.2.2.2.2.2.2.2.2.2.2.2.2.2.2.2.2.2.2.1
theorem dL_law_575 : decode cL_law 575 = .ok (.iconst 1, 1) := DL_law_3.2.2.2.2.2.2.2.2.2.2.2.2.2.2.2.2.2.2.2.2.2.2.2.2.2.2.2.2.2.2.2.2.2.2.2.2.2.2.2.2.2.2.2.2.2.2.2.2.2.2.2.2.2.2.2.2.2.2.2.2.2.2.2.2.2.2.2.2.2.2.2.2.2.2.2.2.2.2.2.2.2.2.2.2.2.2.2.2.2.2.2.2.2.2.2.2.2.2.2.2.2.2.2.2.2.2.2.1
theorem dL_law_576 : decode cL_law 576 = .ok (.iadd, 1) := DL_law_3.2.2.2.2.2.2.2.2.2.2.2.2.2.2.2.2.2.2.2.2.2.2.2.2.2.2.2.2.2.2.2.2.2.2.2.2.2.2.2.2.2.2.2.2.2.2.2.2.2.2.2.2.2.2.2.2.2.2.2.2.2.2.2.2.2.2.2.2.2.2.2.2.2.2.2.2.2.2.2.2.2.2.2.2.2.2.2.2.2.2.2.2.2.2.2.2.2.2.2.2.2.2.2.2.2.2.2.2.1
theorem dL_law_577 : decode cL_law 577 = .ok (.iaload, 1) := DL_law_3.2.2.2.2.2.2.2.2.2.2.2.2.2.2.2.2.2.2.2.2.2.2.2.2.2.2.2.2.2.2.2.2.2.2.2.2.2.2.2.2.2.2.2.2.2.2.2.2.2.2.2.2.2.2.2.2.2.2.2.2.2.2.2.2.2.2.2.2.2.2.2.2.2.2.2.2.2.2.2.2.2.2.2.2.2.2.2.2.2.2.2.2.2.2.2.2.2.2.2.2.2.2.2.2.2.2.2.2.2
theorem dL_law_578 : decode cL_law 578 = .ok (.aload_n 3, 1) := DL_law_4.1
theorem dL_law_579 : decode cL_law 579 = .ok (.invokestatic 96, 3) := DL_law_4.2.1
theorem dL_law_582 : decode cL_law 582 = .ok (.istore 5, 2) := DL_law_4.2.2.1
theorem dL_law_584 : decode cL_law 584 = .ok (.aload_n 2, 1) := DL_law_4.2.2.2.1
theorem dL_law_585 : decode cL_law 585 = .ok (.aload_n 0, 1) := DL_law_4.2.2.2.2.1
theorem dL_law_586 : decode cL_law 586 = .ok (.iload 4, 2) := DL_law_4.2.2.2.2.2.1
theorem dL_law_588 : decode cL_law 588 = .ok (.iconst 1, 1) := DL_law_4.2.2.2.2.2.2.1
theorem dL_law_589 : decode cL_law 589 = .ok (.iadd, 1) := DL_law_4.2.2.2.2.2.2.2.1
theorem dL_law_590 : decode cL_law 590 = .ok (.iaload, 1) := DL_law_4.2.2.2.2.2.2.2.2.1
theorem dL_law_591 : decode cL_law 591 = .ok (.invokevirtual 98, 3) := DL_law_4.2.2.2.2.2.2.2.2.2.1
theorem dL_law_594 : decode cL_law 594 = .ok (.istore 6, 2) := DL_law_4.2.2.2.2.2.2.2.2.2.2.1
theorem dL_law_596 : decode cL_law 596 = .ok (.aload_n 2, 1) := DL_law_4.2.2.2.2.2.2.2.2.2.2.2.1
theorem dL_law_597 : decode cL_law 597 = .ok (.invokevirtual 62, 3) := DL_law_4.2.2.2.2.2.2.2.2.2.2.2.2.1
theorem dL_law_600 : decode cL_law 600 = .ok (.iload 5, 2) := DL_law_4.2.2.2.2.2.2.2.2.2.2.2.2.2.1
theorem dL_law_602 : decode cL_law 602 = .ok (.if_icmp .eq 5, 3) := DL_law_4.2.2.2.2.2.2.2.2.2.2.2.2.2.2.1
theorem dL_law_605 : decode cL_law 605 = .ok (.iconst 0, 1) := DL_law_4.2.2.2.2.2.2.2.2.2.2.2.2.2.2.2.1
theorem dL_law_606 : decode cL_law 606 = .ok (.ireturn, 1) := DL_law_4.2.2.2.2.2.2.2.2.2.2.2.2.2.2.2.2.1
theorem dL_law_607 : decode cL_law 607 = .ok (.iload 5, 2) := DL_law_4.2.2.2.2.2.2.2.2.2.2.2.2.2.2.2.2.2.1
theorem dL_law_609 : decode cL_law 609 = .ok (.ifCond .ne 15, 3) := DL_law_4.2.2.2.2.2.2.2.2.2.2.2.2.2.2.2.2.2.2.1
theorem dL_law_612 : decode cL_law 612 = .ok (.aload_n 3, 1) := DL_law_4.2.2.2.2.2.2.2.2.2.2.2.2.2.2.2.2.2.2.2.1
theorem dL_law_613 : decode cL_law 613 = .ok (.iconst 0, 1) := DL_law_4.2.2.2.2.2.2.2.2.2.2.2.2.2.2.2.2.2.2.2.2.1
theorem dL_law_614 : decode cL_law 614 = .ok (.laload, 1) := DL_law_4.2.2.2.2.2.2.2.2.2.2.2.2.2.2.2.2.2.2.2.2.2.1
theorem dL_law_615 : decode cL_law 615 = .ok (.iload 6, 2) := DL_law_4.2.2.2.2.2.2.2.2.2.2.2.2.2.2.2.2.2.2.2.2.2.2.1
theorem dL_law_617 : decode cL_law 617 = .ok (.i2l, 1) := DL_law_4.2.2.2.2.2.2.2.2.2.2.2.2.2.2.2.2.2.2.2.2.2.2.2.1
theorem dL_law_618 : decode cL_law 618 = .ok (.lcmp, 1) := DL_law_4.2.2.2.2.2.2.2.2.2.2.2.2.2.2.2.2.2.2.2.2.2.2.2.2.1
theorem dL_law_619 : decode cL_law 619 = .ok (.ifCond .eq 5, 3) := DL_law_4.2.2.2.2.2.2.2.2.2.2.2.2.2.2.2.2.2.2.2.2.2.2.2.2.2.1
theorem dL_law_622 : decode cL_law 622 = .ok (.iconst 0, 1) := DL_law_4.2.2.2.2.2.2.2.2.2.2.2.2.2.2.2.2.2.2.2.2.2.2.2.2.2.2.1
theorem dL_law_623 : decode cL_law 623 = .ok (.ireturn, 1) := DL_law_4.2.2.2.2.2.2.2.2.2.2.2.2.2.2.2.2.2.2.2.2.2.2.2.2.2.2.2.1
theorem dL_law_624 : decode cL_law 624 = .ok (.goto 275, 3) := DL_law_4.2.2.2.2.2.2.2.2.2.2.2.2.2.2.2.2.2.2.2.2.2.2.2.2.2.2.2.2.1
theorem dL_law_627 : decode cL_law 627 = .ok (.aload_n 1, 1) := DL_law_4.2.2.2.2.2.2.2.2.2.2.2.2.2.2.2.2.2.2.2.2.2.2.2.2.2.2.2.2.2.1
theorem dL_law_628 : decode cL_law 628 = .ok (.aload_n 0, 1) := DL_law_4.2.2.2.2.2.2.2.2.2.2.2.2.2.2.2.2.2.2.2.2.2.2.2.2.2.2.2.2.2.2.1
theorem dL_law_629 : decode cL_law 629 = .ok (.iload 4, 2) := DL_law_4.2.2.2.2.2.2.2.2.2.2.2.2.2.2.2.2.2.2.2.2.2.2.2.2.2.2.2.2.2.2.2.1
theorem dL_law_631 : decode cL_law 631 = .ok (.iconst 1, 1) := DL_law_4.2.2.2.2.2.2.2.2.2.2.2.2.2.2.2.2.2.2.2.2.2.2.2.2.2.2.2.2.2.2.2.2.1
theorem dL_law_632 : decode cL_law 632 = .ok (.iadd, 1) := DL_law_4.2.2.2.2.2.2.2.2.2.2.2.2.2.2.2.2.2.2.2.2.2.2.2.2.2.2.2.2.2.2.2.2.2.1
theorem dL_law_633 : decode cL_law 633 = .ok (.iaload, 1) := DL_law_4.2.2.2.2.2.2.2.2.2.2.2.2.2.2.2.2.2.2.2.2.2.2.2.2.2.2.2.2.2.2.2.2.2.2.1
theorem dL_law_634 : decode cL_law 634 = .ok (.aload_n 0, 1) := DL_law_4.2.2.2.2.2.2.2.2.2.2.2.2.2.2.2.2.2.2.2.2.2.2.2.2.2.2.2.2.2.2.2.2.2.2.2.1
theorem dL_law_635 : decode cL_law 635 = .ok (.iload 4, 2) := DL_law_4.2.2.2.2.2.2.2.2.2.2.2.2.2.2.2.2.2.2.2.2.2.2.2.2.2.2.2.2.2.2.2.2.2.2.2.2.1
theorem dL_law_637 : decode cL_law 637 = .ok (.iconst 2, 1) := DL_law_4.2.2.2.2.2.2.2.2.2.2.2.2.2.2.2.2.2.2.2.2.2.2.2.2.2.2.2.2.2.2.2.2.2.2.2.2.2.1
theorem dL_law_638 : decode cL_law 638 = .ok (.iadd, 1) := DL_law_4.2.2.2.2.2.2.2.2.2.2.2.2.2.2.2.2.2.2.2.2.2.2.2.2.2.2.2.2.2.2.2.2.2.2.2.2.2.2.1
theorem dL_law_639 : decode cL_law 639 = .ok (.iaload, 1) := DL_law_4.2.2.2.2.2.2.2.2.2.2.2.2.2.2.2.2.2.2.2.2.2.2.2.2.2.2.2.2.2.2.2.2.2.2.2.2.2.2.2.1
theorem dL_law_640 : decode cL_law 640 = .ok (.aload_n 3, 1) := DL_law_4.2.2.2.2.2.2.2.2.2.2.2.2.2.2.2.2.2.2.2.2.2.2.2.2.2.2.2.2.2.2.2.2.2.2.2.2.2.2.2.2.1
theorem dL_law_641 : decode cL_law 641 = .ok (.invokestatic 99, 3) := DL_law_4.2.2.2.2.2.2.2.2.2.2.2.2.2.2.2.2.2.2.2.2.2.2.2.2.2.2.2.2.2.2.2.2.2.2.2.2.2.2.2.2.2.1
theorem dL_law_644 : decode cL_law 644 = .ok (.istore 5, 2) := DL_law_4.2.2.2.2.2.2.2.2.2.2.2.2.2.2.2.2.2.2.2.2.2.2.2.2.2.2.2.2.2.2.2.2.2.2.2.2.2.2.2.2.2.2.1
theorem dL_law_646 : decode cL_law 646 = .ok (.aload_n 2, 1) := DL_law_4.2.2.2.2.2.2.2.2.2.2.2.2.2.2.2.2.2.2.2.2.2.2.2.2.2.2.2.2.2.2.2.2.2.2.2.2.2.2.2.2.2.2.2.1
theorem dL_law_647 : decode cL_law 647 = .ok (.aload_n 0, 1) := DL_law_4.2.2.2.2.2.2.2.2.2.2.2.2.2.2.2.2.2.2.2.2.2.2.2.2.2.2.2.2.2.2.2.2.2.2.2.2.2.2.2.2.2.2.2.2.1
theorem dL_law_648 : decode cL_law 648 = .ok (.iload 4, 2) := DL_law_4.2.2.2.2.2.2.2.2.2.2.2.2.2.2.2.2.2.2.2.2.2.2.2.2.2.2.2.2.2.2.2.2.2.2.2.2.2.2.2.2.2.2.2.2.2.1
theorem dL_law_650 : decode cL_law 650 = .ok (.iconst 1, 1) := DL_law_4.2.2.2.2.2.2.2.2.2.2.2.2.2.2.2.2.2.2.2.2.2.2.2.2.2.2.2.2.2.2.2.2.2.2.2.2.2.2.2.2.2.2.2.2.2.2.1
theorem dL_law_651 : decode cL_law 651 = .ok (.iadd, 1) := DL_law_4.2.2.2.2.2.2.2.2.2.2.2.2.2.2.2.2.2.2.2.2.2.2.2.2.2.2.2.2.2.2.2.2.2.2.2.2.2.2.2.2.2.2.2.2.2.2.2.1
theorem dL_law_652 : decode cL_law 652 = .ok (.iaload, 1) := DL_law_4.2.2.2.2.2.2.2.2.2.2.2.2.2.2.2.2.2.2.2.2.2.2.2.2.2.2.2.2.2.2.2.2.2.2.2.2.2.2.2.2.2.2.2.2.2.2.2.2.1
theorem dL_law_653 : decode cL_law 653 = .ok (.aload_n 0, 1) := DL_law_4.2.2.2.2.2.2.2.2.2.2.2.2.2.2.2.2.2.2.2.2.2.2.2.2.2.2.2.2.2.2.2.2.2.2.2.2.2.2.2.2.2.2.2.2.2.2.2.2.2.1
theorem dL_law_654 : decode cL_law 654 = .ok (.iload 4, 2) := DL_law_4.2.2.2.2.2.2.2.2.2.2.2.2.2.2.2.2.2.2.2.2.2.2.2.2.2.2.2.2.2.2.2.2.2.2.2.2.2.2.2.2.2.2.2.2.2.2.2.2.2.2.1
theorem dL_law_656 : decode cL_law 656 = .ok (.iconst 2, 1) := DL_law_4.2.2.2.2.2.2.2.2.2.2.2.2.2.2.2.2.2.2.2.2.2.2.2.2.2.2.2.2.2.2.2.2.2.2.2.2.2.2.2.2.2.2.2.2.2.2.2.2.2.2.2.1
theorem dL_law_657 : decode cL_law 657 = .ok (.iadd, 1) := DL_law_4.2.2.2.2.2.2.2.2.2.2.2.2.2.2.2.2.2.2.2.2.2.2.2.2.2.2.2.2.2.2.2.2.2.2.2.2.2.2.2.2.2.2.2.2.2.2.2.2.2.2.2.2.1
theorem dL_law_658 : decode cL_law 658 = .ok (.iaload, 1) := DL_law_4.2.2.2.2.2.2.2.2.2.2.2.2.2.2.2.2.2.2.2.2.2.2.2.2.2.2.2.2.2.2.2.2.2.2.2.2.2.2.2.2.2.2.2.2.2.2.2.2.2.2.2.2.2.1
theorem dL_law_659 : decode cL_law 659 = .ok (.invokevirtual 102, 3) := DL_law_4.2.2.2.2.2.2.2.2.2.2.2.2.2.2.2.2.2.2.2.2.2.2.2.2.2.2.2.2.2.2.2.2.2.2.2.2.2.2.2.2.2.2.2.2.2.2.2.2.2.2.2.2.2.2.1
theorem dL_law_662 : decode cL_law 662 = .ok (.istore 6, 2) := DL_law_4.2.2.2.2.2.2.2.2.2.2.2.2.2.2.2.2.2.2.2.2.2.2.2.2.2.2.2.2.2.2.2.2.2.2.2.2.2.2.2.2.2.2.2.2.2.2.2.2.2.2.2.2.2.2.2.1
theorem dL_law_664 : decode cL_law 664 = .ok (.aload_n 2, 1) := DL_law_4.2.2.2.2.2.2.2.2.2.2.2.2.2.2.2.2.2.2.2.2.2.2.2.2.2.2.2.2.2.2.2.2.2.2.2.2.2.2.2.2.2.2.2.2.2.2.2.2.2.2.2.2.2.2.2.2.1
theorem dL_law_665 : decode cL_law 665 = .ok (.invokevirtual 62, 3) := DL_law_4.2.2.2.2.2.2.2.2.2.2.2.2.2.2.2.2.2.2.2.2.2.2.2.2.2.2.2.2.2.2.2.2.2.2.2.2.2.2.2.2.2.2.2.2.2.2.2.2.2.2.2.2.2.2.2.2.2.1
theorem dL_law_668 : decode cL_law 668 = .ok (.iload 5, 2) := DL_law_4.2.2.2.2.2.2.2.2.2.2.2.2.2.2.2.2.2.2.2.2.2.2.2.2.2.2.2.2.2.2.2.2.2.2.2.2.2.2.2.2.2.2.2.2.2.2.2.2.2.2.2.2.2.2.2.2.2.2.1
theorem dL_law_670 : decode cL_law 670 = .ok (.if_icmp .eq 5, 3) := DL_law_4.2.2.2.2.2.2.2.2.2.2.2.2.2.2.2.2.2.2.2.2.2.2.2.2.2.2.2.2.2.2.2.2.2.2.2.2.2.2.2.2.2.2.2.2.2.2.2.2.2.2.2.2.2.2.2.2.2.2.2.1
theorem dL_law_673 : decode cL_law 673 = .ok (.iconst 0, 1) := DL_law_4.2.2.2.2.2.2.2.2.2.2.2.2.2.2.2.2.2.2.2.2.2.2.2.2.2.2.2.2.2.2.2.2.2.2.2.2.2.2.2.2.2.2.2.2.2.2.2.2.2.2.2.2.2.2.2.2.2.2.2.2.1
theorem dL_law_674 : decode cL_law 674 = .ok (.ireturn, 1) := DL_law_4.2.2.2.2.2.2.2.2.2.2.2.2.2.2.2.2.2.2.2.2.2.2.2.2.2.2.2.2.2.2.2.2.2.2.2.2.2.2.2.2.2.2.2.2.2.2.2.2.2.2.2.2.2.2.2.2.2.2.2.2.2.1
theorem dL_law_675 : decode cL_law 675 = .ok (.iload 5, 2) := DL_law_4.2.2.2.2.2.2.2.2.2.2.2.2.2.2.2.2.2.2.2.2.2.2.2.2.2.2.2.2.2.2.2.2.2.2.2.2.2.2.2.2.2.2.2.2.2.2.2.2.2.2.2.2.2.2.2.2.2.2.2.2.2.2.1
theorem dL_law_677 : decode cL_law 677 = .ok (.ifCond .ne 15, 3) := DL_law_4.2.2.2.2.2.2.2.2.2.2.2.2.2.2.2.2.2.2.2.2.2.2.2.2.2.2.2.2.2.2.2.2.2.2.2.2.2.2.2.2.2.2.2.2.2.2.2.2.2.2.2.2.2.2.2.2.2.2.2.2.2.2.2.1
theorem dL_law_680 : decode cL_law 680 = .ok (.aload_n 3, 1) := DL_law_4.2.2.2.2.2.2.2.2.2.2.2.2.2.2.2.2.2.2.2.2.2.2.2.2.2.2.2.2.2.2.2.2.2.2.2.2.2.2.2.2.2.2.2.2.2.2.2.2.2.2.2.2.2.2.2.2.2.2.2.2.2.2.2.2.1
theorem dL_law_681 : decode cL_law 681 = .ok (.iconst 0, 1) := DL_law_4.2.2.2.2.2.2.2.2.2.2.2.2.2.2.2.2.2.2.2.2.2.2.2.2.2.2.2.2.2.2.2.2.2.2.2.2.2.2.2.2.2.2.2.2.2.2.2.2.2.2.2.2.2.2.2.2.2.2.2.2.2.2.2.2.2.1
theorem dL_law_682 : decode cL_law 682 = .ok (.laload, 1) := DL_law_4.2.2.2.2.2.2.2.2.2.2.2.2.2.2.2.2.2.2.2.2.2.2.2.2.2.2.2.2.2.2.2.2.2.2.2.2.2.2.2.2.2.2.2.2.2.2.2.2.2.2.2.2.2.2.2.2.2.2.2.2.2.2.2.2.2.2.1
theorem dL_law_683 : decode cL_law 683 = .ok (.iload 6, 2) := DL_law_4.2.2.2.2.2.2.2.2.2.2.2.2.2.2.2.2.2.2.2.2.2.2.2.2.2.2.2.2.2.2.2.2.2.2.2.2.2.2.2.2.2.2.2.2.2.2.2.2.2.2.2.2.2.2.2.2.2.2.2.2.2.2.2.2.2.2.2.1
theorem dL_law_685 : decode cL_law 685 = .ok (.i2l, 1) := DL_law_4.2.2.2.2.2.2.2.2.2.2.2.2.2.2.2.2.2.2.2.2.2.2.2.2.2.2.2.2.2.2.2.2.2.2.2.2.2.2.2.2.2.2.2.2.2.2.2.2.2.2.2.2.2.2.2.2.2.2.2.2.2.2.2.2.2.2.2.2.1
theorem dL_law_686 : decode cL_law 686 = .ok (.lcmp, 1) := DL_law_4.2.2.2.2.2.2.2.2.2.2.2.2.2.2.2.2.2.2.2.2.2.2.2.2.2.2.2.2.2.2.2.2.2.2.2.2.2.2.2.2.2.2.2.2.2.2.2.2.2.2.2.2.2.2.2.2.2.2.2.2.2.2.2.2.2.2.2.2.2.1
theorem dL_law_687 : decode cL_law 687 = .ok (.ifCond .eq 5, 3) := DL_law_4.2.2.2.2.2.2.2.2.2.2.2.2.2.2.2.2.2.2.2.2.2.2.2.2.2.2.2.2.2.2.2.2.2.2.2.2.2.2.2.2.2.2.2.2.2.2.2.2.2.2.2.2.2.2.2.2.2.2.2.2.2.2.2.2.2.2.2.2.2.2.1
theorem dL_law_690 : decode cL_law 690 = .ok (.iconst 0, 1) := DL_law_4.2.2.2.2.2.2.2.2.2.2.2.2.2.2.2.2.2.2.2.2.2.2.2.2.2.2.2.2.2.2.2.2.2.2.2.2.2.2.2.2.2.2.2.2.2.2.2.2.2.2.2.2.2.2.2.2.2.2.2.2.2.2.2.2.2.2.2.2.2.2.2.1
theorem dL_law_691 : decode cL_law 691 = .ok (.ireturn, 1) := DL_law_4.2.2.2.2.2.2.2.2.2.2.2.2.2.2.2.2.2.2.2.2.2.2.2.2.2.2.2.2.2.2.2.2.2.2.2.2.2.2.2.2.2.2.2.2.2.2.2.2.2.2.2.2.2.2.2.2.2.2.2.2.2.2.2.2.2.2.2.2.2.2.2.2.1
theorem dL_law_692 : decode cL_law 692 = .ok (.goto 207, 3) := DL_law_4.2.2.2.2.2.2.2.2.2.2.2.2.2.2.2.2.2.2.2.2.2.2.2.2.2.2.2.2.2.2.2.2.2.2.2.2.2.2.2.2.2.2.2.2.2.2.2.2.2.2.2.2.2.2.2.2.2.2.2.2.2.2.2.2.2.2.2.2.2.2.2.2.2.1
theorem dL_law_695 : decode cL_law 695 = .ok (.aload_n 1, 1) := DL_law_4.2.2.2.2.2.2.2.2.2.2.2.2.2.2.2.2.2.2.2.2.2.2.2.2.2.2.2.2.2.2.2.2.2.2.2.2.2.2.2.2.2.2.2.2.2.2.2.2.2.2.2.2.2.2.2.2.2.2.2.2.2.2.2.2.2.2.2.2.2.2.2.2.2.2.1
theorem dL_law_696 : decode cL_law 696 = .ok (.aload_n 0, 1) := DL_law_4.2.2.2.2.2.2.2.2.2.2.2.2.2.2.2.2.2.2.2.2.2.2.2.2.2.2.2.2.2.2.2.2.2.2.2.2.2.2.2.2.2.2.2.2.2.2.2.2.2.2.2.2.2.2.2.2.2.2.2.2.2.2.2.2.2.2.2.2.2.2.2.2.2.2.2.1
theorem dL_law_697 : decode cL_law 697 = .ok (.iload 4, 2) := DL_law_4.2.2.2.2.2.2.2.2.2.2.2.2.2.2.2.2.2.2.2.2.2.2.2.2.2.2.2.2.2.2.2.2.2.2.2.2.2.2.2.2.2.2.2.2.2.2.2.2.2.2.2.2.2.2.2.2.2.2.2.2.2.2.2.2.2.2.2.2.2.2.2.2.2.2.2.2.1
theorem dL_law_699 : decode cL_law 699 = .ok (.iconst 1, 1) := DL_law_4.2.2.2.2.2.2.2.2.2.2.2.2.2.2.2.2.2.2.2.2.2.2.2.2.2.2.2.2.2.2.2.2.2.2.2.2.2.2.2.2.2.2.2.2.2.2.2.2.2.2.2.2.2.2.2.2.2.2.2.2.2.2.2.2.2.2.2.2.2.2.2.2.2.2.2.2.2.1
theorem dL_law_700 : decode cL_law 700 = .ok (.iadd, 1) := DL_law_4.2.2.2.2.2.2.2.2.2.2.2.2.2.2.2.2.2.2.2.2.2.2.2.2.2.2.2.2.2.2.2.2.2.2.2.2.2.2.2.2.2.2.2.2.2.2.2.2.2.2.2.2.2.2.2.2.2.2.2.2.2.2.2.2.2.2.2.2.2.2.2.2.2.2.2.2.2.2.1
theorem dL_law_701 : decode cL_law 701 = .ok (.iaload, 1) := DL_law_4.2.2.2.2.2.2.2.2.2.2.2.2.2.2.2.2.2.2.2.2.2.2.2.2.2.2.2.2.2.2.2.2.2.2.2.2.2.2.2.2.2.2.2.2.2.2.2.2.2.2.2.2.2.2.2.2.2.2.2.2.2.2.2.2.2.2.2.2.2.2.2.2.2.2.2.2.2.2.2.1
theorem dL_law_702 : decode cL_law 702 = .ok (.aload_n 0, 1) := DL_law_4.2.2.2.2.2.2.2.2.2.2.2.2.2.2.2.2.2.2.2.2.2.2.2.2.2.2.2.2.2.2.2.2.2.2.2.2.2.2.2.2.2.2.2.2.2.2.2.2.2.2.2.2.2.2.2.2.2.2.2.2.2.2.2.2.2.2.2.2.2.2.2.2.2.2.2.2.2.2.2.2.1
theorem dL_law_703 : decode cL_law 703 = .ok (.iload 4, 2) := DL_law_4.2.2.2.2.2.2.2.2.2.2.2.2.2.2.2.2.2.2.2.2.2.2.2.2.2.2.2.2.2.2.2.2.2.2.2.2.2.2.2.2.2.2.2.2.2.2.2.2.2.2.2.2.2.2.2.2.2.2.2.2.2.2.2.2.2.2.2.2.2.2.2.2.2.2.2.2.2.2.2.2.2.1
theorem dL_law_705 : decode cL_law 705 = .ok (.iconst 2, 1) := DL_law_4.2.2.2.2.2.2.2.2.2.2.2.2.2.2.2.2.2.2.2.2.2.2.2.2.2.2.2.2.2.2.2.2.2.2.2.2.2.2.2.2.2.2.2.2.2.2.2.2.2.2.2.2.2.2.2.2.2.2.2.2.2.2.2.2.2.2.2.2.2.2.2.2.2.2.2.2.2.2.2.2.2.2.1
theorem dL_law_706 : decode cL_law 706 = .ok (.iadd, 1) := DL_law_4.2.2.2.2.2.2.2.2.2.2.2.2.2.2.2.2.2.2.2.2.2.2.2.2.2.2.2.2.2.2.2.2.2.2.2.2.2.2.2.2.2.2.2.2.2.2.2.2.2.2.2.2.2.2.2.2.2.2.2.2.2.2.2.2.2.2.2.2.2.2.2.2.2.2.2.2.2.2.2.2.2.2.2.1
theorem dL_law_707 : decode cL_law 707 = .ok (.iaload, 1) := DL_law_4.2.2.2.2.2.2.2.2.2.2.2.2.2.2.2.2.2.2.2.2.2.2.2.2.2.2.2.2.2.2.2.2.2.2.2.2.2.2.2.2.2.2.2.2.2.2.2.2.2.2.2.2.2.2.2.2.2.2.2.2.2.2.2.2.2.2.2.2.2.2.2.2.2.2.2.2.2.2.2.2.2.2.2.2.1
theorem dL_law_708 : decode cL_law 708 = .ok (.aload_n 3, 1) := DL_law_4.2.2.2.2.2.2.2.2.2.2.2.2.2.2.2.2.2.2.2.2.2.2.2.2.2.2.2.2.2.2.2.2.2.2.2.2.2.2.2.2.2.2.2.2.2.2.2.2.2.2.2.2.2.2.2.2.2.2.2.2.2.2.2.2.2.2.2.2.2.2.2.2.2.2.2.2.2.2.2.2.2.2.2.2.2.1
theorem dL_law_709 : decode cL_law 709 = .ok (.invokestatic 103, 3) := DL_law_4.2.2.2.2.2.2.2.2.2.2.2.2.2.2.2.2.2.2.2.2.2.2.2.2.2.2.2.2.2.2.2.2.2.2.2.2.2.2.2.2.2.2.2.2.2.2.2.2.2.2.2.2.2.2.2.2.2.2.2.2.2.2.2.2.2.2.2.2.2.2.2.2.2.2.2.2.2.2.2.2.2.2.2.2.2.2.1
theorem dL_law_712 : decode cL_law 712 = .ok (.istore 5, 2) := DL_law_4.2.2.2.2.2.2.2.2.2.2.2.2.2.2.2.2.2.2.2.2.2.2.2.2.2.2.2.2.2.2.2.2.2.2.2.2.2.2.2.2.2.2.2.2.2.2.2.2.2.2.2.2.2.2.2.2.2.2.2.2.2.2.2.2.2.2.2.2.2.2.2.2.2.2.2.2.2.2.2.2.2.2.2.2.2.2.2.1
theorem dL_law_714 : decode cL_law 714 = .ok (.aload_n 2, 1) := DL_law_4.2.2.2.2.2.2.2.2.2.2.2.2.2.2.2.2.2.2.2.2.2.2.2.2.2.2.2.2.2.2.2.2.2.2.2.2.2.2.2.2.2.2.2.2.2.2.2.2.2.2.2.2.2.2.2.2.2.2.2.2.2.2.2.2.2.2.2.2.2.2.2.2.2.2.2.2.2.2.2.2.2.2.2.2.2.2.2.2.1
theorem dL_law_715 : decode cL_law 715 = .ok (.aload_n 0, 1) := DL_law_4.2.2.2.2.2.2.2.2.2.2.2.2.2.2.2.2.2.2.2.2.2.2.2.2.2.2.2.2.2.2.2.2.2.2.2.2.2.2.2.2.2.2.2.2.2.2.2.2.2.2.2.2.2.2.2.2.2.2.2.2.2.2.2.2.2.2.2.2.2.2.2.2.2.2.2.2.2.2.2.2.2.2.2.2.2.2.2.2.2.1
theorem dL_law_716 : decode cL_law 716 = .ok (.iload 4, 2) := DL_law_4.2.2.2.2.2.2.2.2.2.2.2.2.2.2.2.2.2.2.2.2.2.2.2.2.2.2.2.2.2.2.2.2.2.2.2.2.2.2.2.2.2.2.2.2.2.2.2.2.2.2.2.2.2.2.2.2.2.2.2.2.2.2.2.2.2.2.2.2.2.2.2.2.2.2.2.2.2.2.2.2.2.2.2.2.2.2.2.2.2.2.1
theorem dL_law_718 : decode cL_law 718 = .ok (.iconst 1, 1) := DL_law_4.2.2.2.2.2.2.2.2.2.2.2.2.2.2.2.2.2.2.2.2.2.2.2.2.2.2.2.2.2.2.2.2.2.2.2.2.2.2.2.2.2.2.2.2.2.2.2.2.2.2.2.2.2.2.2.2.2.2.2.2.2.2.2.2.2.2.2.2.2.2.2.2.2.2.2.2.2.2.2.2.2.2.2.2.2.2.2.2.2.2.2.1
theorem dL_law_719 : decode cL_law 719 = .ok (.iadd, 1) := DL_law_4.2.2.2.2.2.2.2.2.2.2.2.2.2.2.2.2.2.2.2.2.2.2.2.2.2.2.2.2.2.2.2.2.2.2.2.2.2.2.2.2.2.2.2.2.2.2.2.2.2.2.2.2.2.2.2.2.2.2.2.2.2.2.2.2.2.2.2.2.2.2.2.2.2.2.2.2.2.2.2.2.2.2.2.2.2.2.2.2.2.2.2.2.1
theorem dL_law_720 : decode cL_law 720 = .ok (.iaload, 1) := DL_law_4.2.2.2.2.2.2.2.2.2.2.2.2.2.2.2.2.2.2.2.2.2.2.2.2.2.2.2.2.2.2.2.2.2.2.2.2.2.2.2.2.2.2.2.2.2.2.2.2.2.2.2.2.2.2.2.2.2.2.2.2.2.2.2.2.2.2.2.2.2.2.2.2.2.2.2.2.2.2.2.2.2.2.2.2.2.2.2.2.2.2.2.2.2.1
theorem dL_law_721 : decode cL_law 721 = .ok (.aload_n 0, 1) := DL_law_4.2.2.2.2.2.2.2.2.2.2.2.2.2.2.2.2.2.2.2.2.2.2.2.2.2.2.2.2.2.2.2.2.2.2.2.2.2.2.2.2.2.2.2.2.2.2.2.2.2.2.2.2.2.2.2.2.2.2.2.2.2.2.2.2.2.2.2.2.2.2.2.2.2.2.2.2.2.2.2.2.2.2.2.2.2.2.2.2.2.2.2.2.2.2.1
theorem dL_law_722 : decode cL_law 722 = .ok (.iload 4, 2) := DL_law_4.2.2.2.2.2.2.2.2.2.2.2.2.2.2.2.2.2.2.2.2.2.2.2.2.2.2.2.2.2.2.2.2.2.2.2.2.2.2.2.2.2.2.2.2.2.2.2.2.2.2.2.2.2.2.2.2.2.2.2.2.2.2.2.2.2.2.2.2.2.2.2.2.2.2.2.2.2.2.2.2.2.2.2.2.2.2.2.2.2.2.2.2.2.2.2.1
theorem dL_law_724 : decode cL_law 724 = .ok (.iconst 2, 1) := DL_law_4.2.2.2.2.2.2.2.2.2.2.2.2.2.2.2.2.2.2.2.2.2.2.2.2.2.2.2.2.2.2.2.2.2.2.2.2.2.2.2.2.2.2.2.2.2.2.2.2.2.2.2.2.2.2.2.2.2.2.2.2.2.2.2.2.2.2.2.2.2.2.2.2.2.2.2.2.2.2.2.2.2.2.2.2.2.2.2.2.2.2.2.2.2.2.2.2.1
theorem dL_law_725 : decode cL_law 725 = .ok (.iadd, 1) := DL_law_4.2.2.2.2.2.2.2.2.2.2.2.2.2.2.2.2.2.2.2.2.2.2.2.2.2.2.2.2.2.2.2.2.2.2.2.2.2.2.2.2.2.2.2.2.2.2.2.2.2.2.2.2.2.2.2.2.2.2.2.2.2.2.2.2.2.2.2.2.2.2.2.2.2.2.2.2.2.2.2.2.2.2.2.2.2.2.2.2.2.2.2.2.2.2.2.2.2.1
theorem dL_law_726 : decode cL_law 726 = .ok (.iaload, 1) := DL_law_4.2.2.2.2.2.2.2.2.2.2.2.2.2.2.2.2.2.2.2.2.2.2.2.2.2.2.2.2.2.2.2.2.2.2.2.2.2.2.2.2.2.2.2.2.2.2.2.2.2.2.2.2.2.2.2.2.2.2.2.2.2.2.2.2.2.2.2.2.2.2.2.2.2.2.2.2.2.2.2.2.2.2.2.2.2.2.2.2.2.2.2.2.2.2.2.2.2.2.1
theorem dL_law_727 : decode cL_law 727 = .ok (.invokevirtual 105, 3) := DL_law_4.2.2.2.2.2.2.2.2.2.2.2.2.2.2.2.2.2.2.2.2.2.2.2.2.2.2.2.2.2.2.2.2.2.2.2.2.2.2.2.2.2.2.2.2.2.2.2.2.2.2.2.2.2.2.2.2.2.2.2.2.2.2.2.2.2.2.2.2.2.2.2.2.2.2.2.2.2.2.2.2.2.2.2.2.2.2.2.2.2.2.2.2.2.2.2.2.2.2.2.1
theorem dL_law_730 : decode cL_law 730 = .ok (.istore 6, 2) := DL_law_4.2.2.2.2.2.2.2.2.2.2.2.2.2.2.2.2.2.2.2.2.2.2.2.2.2.2.2.2.2.2.2.2.2.2.2.2.2.2.2.2.2.2.2.2.2.2.2.2.2.2.2.2.2.2.2.2.2.2.2.2.2.2.2.2.2.2.2.2.2.2.2.2.2.2.2.2.2.2.2.2.2.2.2.2.2.2.2.2.2.2.2.2.2.2.2.2.2.2.2.2.1
theorem dL_law_732 : decode cL_law 732 = .ok (.aload_n 2, 1) := DL_law_4.2.2.2.2.2.2.2.2.2.2.2.2.2.2.2.2.2.2.2.2.2.2.2.2.2.2.2.2.2.2.2.2.2.2.2.2.2.2.2.2.2.2.2.2.2.2.2.2.2.2.2.2.2.2.2.2.2.2.2.2.2.2.2.2.2.2.2.2.2.2.2.2.2.2.2.2.2.2.2.2.2.2.2.2.2.2.2.2.2.2.2.2.2.2.2.2.2.2.2.2.2.1
theorem dL_law_733 : decode cL_law 733 = .ok (.invokevirtual 62, 3) := DL_law_4.2.2.2.2.2.2.2.2.2.2.2.2.2.2.2.2.2.2.2.2.2.2.2.2.2.2.2.2.2.2.2.2.2.2.2.2.2.2.2.2.2.2.2.2.2.2.2.2.2.2.2.2.2.2.2.2.2.2.2.2.2.2.2.2.2.2.2.2.2.2.2.2.2.2.2.2.2.2.2.2.2.2.2.2.2.2.2.2.2.2.2.2.2.2.2.2.2.2.2.2.2.2.1
theorem dL_law_736 : decode cL_law 736 = .ok (.iload 5, 2) := DL_law_4.2.2.2.2.2.2.2.2.2.2.2.2.2.2.2.2.2.2.2.2.2.2.2.2.2.2.2.2.2.2.2.2.2.2.2.2.2.2.2.2.2.2.2.2.2.2.2.2.2.2.2.2.2.2.2.2.2.2.2.2.2.2.2.2.2.2.2.2.2.2.2.2.2.2.2.2.2.2.2.2.2.2.2.2.2.2.2.2.2.2.2.2.2.2.2.2.2.2.2.2.2.2.2.1
theorem dL_law_738 : decode cL_law 738 = .ok (.if_icmp .eq 5, 3) := DL_law_4.2.2.2.2.2.2.2.2.2.2.2.2.2.2.2.2.2.2.2.2.2.2.2.2.2.2.2.2.2.2.2.2.2.2.2.2.2.2.2.2.2.2.2.2.2.2.2.2.2.2.2.2.2.2.2.2.2.2.2.2.2.2.2.2.2.2.2.2.2.2.2.2.2.2.2.2.2.2.2.2.2.2.2.2.2.2.2.2.2.2.2.2.2.2.2.2.2.2.2.2.2.2.2.2.1
theorem dL_law_741 : decode cL_law 741 = .ok (.iconst 0, 1) := DL_law_4.2.2.2.2.2.2.2.2.2.2.2.2.2.2.2.2.2.2.2.2.2.2.2.2.2.2.2.2.2.2.2.2.2.2.2.2.2.2.2.2.2.2.2.2.2.2.2.2.2.2.2.2.2.2.2.2.2.2.2.2.2.2.2.2.2.2.2.2.2.2.2.2.2.2.2.2.2.2.2.2.2.2.2.2.2.2.2.2.2.2.2.2.2.2.2.2.2.2.2.2.2.2.2.2.2.1
theorem dL_law_742 : decode cL_law 742 = .ok (.ireturn, 1) := DL_law_4.2.2.2.2.2.2.2.2.2.2.2.2.2.2.2.2.2.2.2.2.2.2.2.2.2.2.2.2.2.2.2.2.2.2.2.2.2.2.2.2.2.2.2.2.2.2.2.2.2.2.2.2.2.2.2.2.2.2.2.2.2.2.2.2.2.2.2.2.2.2.2.2.2.2.2.2.2.2.2.2.2.2.2.2.2.2.2.2.2.2.2.2.2.2.2.2.2.2.2.2.2.2.2.2.2.2.1
theorem dL_law_743 : decode cL_law 743 = .ok (.iload 5, 2) := DL_law_4.2.2.2.2.2.2.2.2.2.2.2.2.2.2.2.2.2.2.2.2.2.2.2.2.2.2.2.2.2.2.2.2.2.2.2.2.2.2.2.2.2.2.2.2.2.2.2.2.2.2.2.2.2.2.2.2.2.2.2.2.2.2.2.2.2.2.2.2.2.2.2.2.2.2.2.2.2.2.2.2.2.2.2.2.2.2.2.2.2.2.2.2.2.2.2.2.2.2.2.2.2.2.2.2.2.2.2.1
theorem dL_law_745 : decode cL_law 745 = .ok (.ifCond .ne 15, 3) := DL_law_4.2.2.2.2.2.2.2.2.2.2.2.2.2.2.2.2.2.2.2.2.2.2.2.2.2.2.2.2.2.2.2.2.2.2.2.2.2.2.2.2.2.2.2.2.2.2.2.2.2.2.2.2.2.2.2.2.2.2.2.2.2.2.2.2.2.2.2.2.2.2.2.2.2.2.2.2.2.2.2.2.2.2.2.2.2.2.2.2.2.2.2.2.2.2.2.2.2.2.2.2.2.2.2.2.2.2.2.2.1
theorem dL_law_748 : decode cL_law 748 = .ok (.aload_n 3, 1) := DL_law_4.2.2.2.2.2.2.2.2.2.2.2.2.2.2.2.2.2.2.2.2.2.2.2.2.2.2.2.2.2.2.2.2.2.2.2.2.2.2.2.2.2.2.2.2.2.2.2.2.2.2.2.2.2.2.2.2.2.2.2.2.2.2.2.2.2.2.2.2.2.2.2.2.2.2.2.2.2.2.2.2.2.2.2.2.2.2.2.2.2.2.2.2.2.2.2.2.2.2.2.2.2.2.2.2.2.2.2.2.2
theorem dL_law_749 : decode cL_law 749 = .ok (.iconst 0, 1) := DL_law_5.1
theorem dL_law_750 : decode cL_law 750 = .ok (.laload, 1) := DL_law_5.2.1
theorem dL_law_751 : decode cL_law 751 = .ok (.iload 6, 2) := DL_law_5.2.2.1
theorem dL_law_753 : decode cL_law 753 = .ok (.i2l, 1) := DL_law_5.2.2.2.1
theorem dL_law_754 : decode cL_law 754 = .ok (.lcmp, 1) := DL_law_5.2.2.2.2.1
theorem dL_law_755 : decode cL_law 755 = .ok (.ifCond .eq 5, 3) := DL_law_5.2.2.2.2.2.1
theorem dL_law_758 : decode cL_law 758 = .ok (.iconst 0, 1) := DL_law_5.2.2.2.2.2.2.1
theorem dL_law_759 : decode cL_law 759 = .ok (.ireturn, 1) := DL_law_5.2.2.2.2.2.2.2.1
theorem dL_law_760 : decode cL_law 760 = .ok (.goto 139, 3) := DL_law_5.2.2.2.2.2.2.2.2.1
theorem dL_law_763 : decode cL_law 763 = .ok (.aload_n 1, 1) := DL_law_5.2.2.2.2.2.2.2.2.2.1
theorem dL_law_764 : decode cL_law 764 = .ok (.aload_n 0, 1) := DL_law_5.2.2.2.2.2.2.2.2.2.2.1
theorem dL_law_765 : decode cL_law 765 = .ok (.iload 4, 2) := DL_law_5.2.2.2.2.2.2.2.2.2.2.2.1
theorem dL_law_767 : decode cL_law 767 = .ok (.iconst 1, 1) := DL_law_5.2.2.2.2.2.2.2.2.2.2.2.2.1
theorem dL_law_768 : decode cL_law 768 = .ok (.iadd, 1) := DL_law_5.2.2.2.2.2.2.2.2.2.2.2.2.2.1
theorem dL_law_769 : decode cL_law 769 = .ok (.iaload, 1) := DL_law_5.2.2.2.2.2.2.2.2.2.2.2.2.2.2.1
theorem dL_law_770 : decode cL_law 770 = .ok (.aload_n 0, 1) := DL_law_5.2.2.2.2.2.2.2.2.2.2.2.2.2.2.2.1
theorem dL_law_771 : decode cL_law 771 = .ok (.iload 4, 2) := DL_law_5.2.2.2.2.2.2.2.2.2.2.2.2.2.2.2.2.1
theorem dL_law_773 : decode cL_law 773 = .ok (.iconst 2, 1) := DL_law_5.2.2.2.2.2.2.2.2.2.2.2.2.2.2.2.2.2.1
theorem dL_law_774 : decode cL_law 774 = .ok (.iadd, 1) := DL_law_5.2.2.2.2.2.2.2.2.2.2.2.2.2.2.2.2.2.2.1
theorem dL_law_775 : decode cL_law 775 = .ok (.iaload, 1) := DL_law_5.2.2.2.2.2.2.2.2.2.2.2.2.2.2.2.2.2.2.2.1
theorem dL_law_776 : decode cL_law 776 = .ok (.aload_n 3, 1) := DL_law_5.2.2.2.2.2.2.2.2.2.2.2.2.2.2.2.2.2.2.2.2.1
theorem dL_law_777 : decode cL_law 777 = .ok (.invokestatic 106, 3) := DL_law_5.2.2.2.2.2.2.2.2.2.2.2.2.2.2.2.2.2.2.2.2.2.1
theorem dL_law_780 : decode cL_law 780 = .ok (.istore 5, 2) := DL_law_5.2.2.2.2.2.2.2.2.2.2.2.2.2.2.2.2.2.2.2.2.2.2.1
theorem dL_law_782 : decode cL_law 782 = .ok (.aload_n 2, 1) := DL_law_5.2.2.2.2.2.2.2.2.2.2.2.2.2.2.2.2.2.2.2.2.2.2.2.1
theorem dL_law_783 : decode cL_law 783 = .ok (.aload_n 0, 1) := DL_law_5.2.2.2.2.2.2.2.2.2.2.2.2.2.2.2.2.2.2.2.2.2.2.2.2.1
theorem dL_law_784 : decode cL_law 784 = .ok (.iload 4, 2) := DL_law_5.2.2.2.2.2.2.2.2.2.2.2.2.2.2.2.2.2.2.2.2.2.2.2.2.2.1
theorem dL_law_786 : decode cL_law 786 = .ok (.iconst 1, 1) := DL_law_5.2.2.2.2.2.2.2.2.2.2.2.2.2.2.2.2.2.2.2.2.2.2.2.2.2.2.1
theorem dL_law_787 : decode cL_law 787 = .ok (.iadd, 1) := DL_law_5.2.2.2.2.2.2.2.2.2.2.2.2.2.2.2.2.2.2.2.2.2.2.2.2.2.2.2.1
theorem dL_law_788 : decode cL_law 788 = .ok (.iaload, 1) := DL_law_5.2.2.2.2.2.2.2.2.2.2.2.2.2.2.2.2.2.2.2.2.2.2.2.2.2.2.2.2.1
theorem dL_law_789 : decode cL_law 789 = .ok (.aload_n 0, 1) := DL_law_5.2.2.2.2.2.2.2.2.2.2.2.2.2.2.2.2.2.2.2.2.2.2.2.2.2.2.2.2.2.1
theorem dL_law_790 : decode cL_law 790 = .ok (.iload 4, 2) := DL_law_5.2.2.2.2.2.2.2.2.2.2.2.2.2.2.2.2.2.2.2.2.2.2.2.2.2.2.2.2.2.2.1
theorem dL_law_792 : decode cL_law 792 = .ok (.iconst 2, 1) := DL_law_5.2.2.2.2.2.2.2.2.2.2.2.2.2.2.2.2.2.2.2.2.2.2.2.2.2.2.2.2.2.2.2.1
theorem dL_law_793 : decode cL_law 793 = .ok (.iadd, 1) := DL_law_5.2.2.2.2.2.2.2.2.2.2.2.2.2.2.2.2.2.2.2.2.2.2.2.2.2.2.2.2.2.2.2.2.1
theorem dL_law_794 : decode cL_law 794 = .ok (.iaload, 1) := DL_law_5.2.2.2.2.2.2.2.2.2.2.2.2.2.2.2.2.2.2.2.2.2.2.2.2.2.2.2.2.2.2.2.2.2.1
theorem dL_law_795 : decode cL_law 795 = .ok (.invokevirtual 108, 3) := DL_law_5.2.2.2.2.2.2.2.2.2.2.2.2.2.2.2.2.2.2.2.2.2.2.2.2.2.2.2.2.2.2.2.2.2.2.1
theorem dL_law_798 : decode cL_law 798 = .ok (.istore 6, 2) := DL_law_5.2.2.2.2.2.2.2.2.2.2.2.2.2.2.2.2.2.2.2.2.2.2.2.2.2.2.2.2.2.2.2.2.2.2.2.1
theorem dL_law_800 : decode cL_law 800 = .ok (.aload_n 2, 1) := DL_law_5.2.2.2.2.2.2.2.2.2.2.2.2.2.2.2.2.2.2.2.2.2.2.2.2.2.2.2.2.2.2.2.2.2.2.2.2.1
theorem dL_law_801 : decode cL_law 801 = .ok (.invokevirtual 62, 3) := DL_law_5.2.2.2.2.2.2.2.2.2.2.2.2.2.2.2.2.2.2.2.2.2.2.2.2.2.2.2.2.2.2.2.2.2.2.2.2.2.1
theorem dL_law_804 : decode cL_law 804 = .ok (.iload 5, 2) := DL_law_5.2.2.2.2.2.2.2.2.2.2.2.2.2.2.2.2.2.2.2.2.2.2.2.2.2.2.2.2.2.2.2.2.2.2.2.2.2.2.1
theorem dL_law_806 : decode cL_law 806 = .ok (.if_icmp .eq 5, 3) := DL_law_5.2.2.2.2.2.2.2.2.2.2.2.2.2.2.2.2.2.2.2.2.2.2.2.2.2.2.2.2.2.2.2.2.2.2.2.2.2.2.2.1
theorem dL_law_809 : decode cL_law 809 = .ok (.iconst 0, 1) := DL_law_5.2.2.2.2.2.2.2.2.2.2.2.2.2.2.2.2.2.2.2.2.2.2.2.2.2.2.2.2.2.2.2.2.2.2.2.2.2.2.2.2.1
theorem dL_law_810 : decode cL_law 810 = .ok (.ireturn, 1) := DL_law_5.2.2.2.2.2.2.2.2.2.2.2.2.2.2.2.2.2.2.2.2.2.2.2.2.2.2.2.2.2.2.2.2.2.2.2.2.2.2.2.2.2.1
theorem dL_law_811 : decode cL_law 811 = .ok (.iload 5, 2) := DL_law_5.2.2.2.2.2.2.2.2.2.2.2.2.2.2.2.2.2.2.2.2.2.2.2.2.2.2.2.2.2.2.2.2.2.2.2.2.2.2.2.2.2.2.1
theorem dL_law_813 : decode cL_law 813 = .ok (.ifCond .ne 15, 3) := DL_law_5.2.2.2.2.2.2.2.2.2.2.2.2.2.2.2.2.2.2.2.2.2.2.2.2.2.2.2.2.2.2.2.2.2.2.2.2.2.2.2.2.2.2.2.1
theorem dL_law_816 : decode cL_law 816 = .ok (.aload_n 3, 1) := DL_law_5.2.2.2.2.2.2.2.2.2.2.2.2.2.2.2.2.2.2.2.2.2.2.2.2.2.2.2.2.2.2.2.2.2.2.2.2.2.2.2.2.2.2.2.2.1
theorem dL_law_817 : decode cL_law 817 = .ok (.iconst 0, 1) := DL_law_5.2.2.2.2.2.2.2.2.2.2.2.2.2.2.2.2.2.2.2.2.2.2.2.2.2.2.2.2.2.2.2.2.2.2.2.2.2.2.2.2.2.2.2.2.2.1
theorem dL_law_818 : decode cL_law 818 = .ok (.laload, 1) := DL_law_5.2.2.2.2.2.2.2.2.2.2.2.2.2.2.2.2.2.2.2.2.2.2.2.2.2.2.2.2.2.2.2.2.2.2.2.2.2.2.2.2.2.2.2.2.2.2.1
theorem dL_law_819 : decode cL_law 819 = .ok (.iload 6, 2) := DL_law_5.2.2.2.2.2.2.2.2.2.2.2.2.2.2.2.2.2.2.2.2.2.2.2.2.2.2.2.2.2.2.2.2.2.2.2.2.2.2.2.2.2.2.2.2.2.2.2.1
theorem dL_law_821 : decode cL_law 821 = .ok (.i2l, 1) := DL_law_5.2.2.2.2.2.2.2.2.2.2.2.2.2.2.2.2.2.2.2.2.2.2.2.2.2.2.2.2.2.2.2.2.2.2.2.2.2.2.2.2.2.2.2.2.2.2.2.2.1
theorem dL_law_822 : decode cL_law 822 = .ok (.lcmp, 1) := DL_law_5.2.2.2.2.2.2.2.2.2.2.2.2.2.2.2.2.2.2.2.2.2.2.2.2.2.2.2.2.2.2.2.2.2.2.2.2.2.2.2.2.2.2.2.2.2.2.2.2.2.1
theorem dL_law_823 : decode cL_law 823 = .ok (.ifCond .eq 5, 3) := DL_law_5.2.2.2.2.2.2.2.2.2.2.2.2.2.2.2.2.2.2.2.2.2.2.2.2.2.2.2.2.2.2.2.2.2.2.2.2.2.2.2.2.2.2.2.2.2.2.2.2.2.2.1
theorem dL_law_826 : decode cL_law 826 = .ok (.iconst 0, 1) := DL_law_5.2.2.2.2.2.2.2.2.2.2.2.2.2.2.2.2.2.2.2.2.2.2.2.2.2.2.2.2.2.2.2.2.2.2.2.2.2.2.2.2.2.2.2.2.2.2.2.2.2.2.2.1
theorem dL_law_827 : decode cL_law 827 = .ok (.ireturn, 1) := DL_law_5.2.2.2.2.2.2.2.2.2.2.2.2.2.2.2.2.2.2.2.2.2.2.2.2.2.2.2.2.2.2.2.2.2.2.2.2.2.2.2.2.2.2.2.2.2.2.2.2.2.2.2.2.1
theorem dL_law_828 : decode cL_law 828 = .ok (.goto 71, 3) := DL_law_5.2.2.2.2.2.2.2.2.2.2.2.2.2.2.2.2.2.2.2.2.2.2.2.2.2.2.2.2.2.2.2.2.2.2.2.2.2.2.2.2.2.2.2.2.2.2.2.2.2.2.2.2.2.1
theorem dL_law_831 : decode cL_law 831 = .ok (.aload_n 1, 1) := DL_law_5.2.2.2.2.2.2.2.2.2.2.2.2.2.2.2.2.2.2.2.2.2.2.2.2.2.2.2.2.2.2.2.2.2.2.2.2.2.2.2.2.2.2.2.2.2.2.2.2.2.2.2.2.2.2.1
theorem dL_law_832 : decode cL_law 832 = .ok (.aload_n 0, 1) := DL_law_5.2.2.2.2.2.2.2.2.2.2.2.2.2.2.2.2.2.2.2.2.2.2.2.2.2.2.2.2.2.2.2.2.2.2.2.2.2.2.2.2.2.2.2.2.2.2.2.2.2.2.2.2.2.2.2.1
theorem dL_law_833 : decode cL_law 833 = .ok (.iload 4, 2) := DL_law_5.2.2.2.2.2.2.2.2.2.2.2.2.2.2.2.2.2.2.2.2.2.2.2.2.2.2.2.2.2.2.2.2.2.2.2.2.2.2.2.2.2.2.2.2.2.2.2.2.2.2.2.2.2.2.2.2.1
theorem dL_law_835 : decode cL_law 835 = .ok (.iconst 1, 1) := DL_law_5.2.2.2.2.2.2.2.2.2.2.2.2.2.2.2.2.2.2.2.2.2.2.2.2.2.2.2.2.2.2.2.2.2.2.2.2.2.2.2.2.2.2.2.2.2.2.2.2.2.2.2.2.2.2.2.2.2.1
theorem dL_law_836 : decode cL_law 836 = .ok (.iadd, 1) := DL_law_5.2.2.2.2.2.2.2.2.2.2.2.2.2.2.2.2.2.2.2.2.2.2.2.2.2.2.2.2.2.2.2.2.2.2.2.2.2.2.2.2.2.2.2.2.2.2.2.2.2.2.2.2.2.2.2.2.2.2.1
theorem dL_law_837 : decode cL_law 837 = .ok (.iaload, 1) := DL_law_5.2.2.2.2.2.2.2.2.2.2.2.2.2.2.2.2.2.2.2.2.2.2.2.2.2.2.2.2.2.2.2.2.2.2.2.2.2.2.2.2.2.2.2.2.2.2.2.2.2.2.2.2.2.2.2.2.2.2.2.1
theorem dL_law_838 : decode cL_law 838 = .ok (.aload_n 0, 1) := DL_law_5.2.2.2.2.2.2.2.2.2.2.2.2.2.2.2.2.2.2.2.2.2.2.2.2.2.2.2.2.2.2.2.2.2.2.2.2.2.2.2.2.2.2.2.2.2.2.2.2.2.2.2.2.2.2.2.2.2.2.2.2.1
theorem dL_law_839 : decode cL_law 839 = .ok (.iload 4, 2) := DL_law_5.2.2.2.2.2.2.2.2.2.2.2.2.2.2.2.2.2.2.2.2.2.2.2.2.2.2.2.2.2.2.2.2.2.2.2.2.2.2.2.2.2.2.2.2.2.2.2.2.2.2.2.2.2.2.2.2.2.2.2.2.2.1
theorem dL_law_841 : decode cL_law 841 = .ok (.iconst 2, 1) := DL_law_5.2.2.2.2.2.2.2.2.2.2.2.2.2.2.2.2.2.2.2.2.2.2.2.2.2.2.2.2.2.2.2.2.2.2.2.2.2.2.2.2.2.2.2.2.2.2.2.2.2.2.2.2.2.2.2.2.2.2.2.2.2.2.1
theorem dL_law_842 : decode cL_law 842 = .ok (.iadd, 1) := DL_law_5.2.2.2.2.2.2.2.2.2.2.2.2.2.2.2.2.2.2.2.2.2.2.2.2.2.2.2.2.2.2.2.2.2.2.2.2.2.2.2.2.2.2.2.2.2.2.2.2.2.2.2.2.2.2.2.2.2.2.2.2.2.2.2.1
theorem dL_law_843 : decode cL_law 843 = .ok (.iaload, 1) := DL_law_5.2.2.2.2.2.2.2.2.2.2.2.2.2.2.2.2.2.2.2.2.2.2.2.2.2.2.2.2.2.2.2.2.2.2.2.2.2.2.2.2.2.2.2.2.2.2.2.2.2.2.2.2.2.2.2.2.2.2.2.2.2.2.2.2.1
theorem dL_law_844 : decode cL_law 844 = .ok (.aload_n 3, 1) := DL_law_5.2.2.2.2.2.2.2.2.2.2.2.2.2.2.2.2.2.2.2.2.2.2.2.2.2.2.2.2.2.2.2.2.2.2.2.2.2.2.2.2.2.2.2.2.2.2.2.2.2.2.2.2.2.2.2.2.2.2.2.2.2.2.2.2.2.1
theorem dL_law_845 : decode cL_law 845 = .ok (.invokestatic 109, 3) := DL_law_5.2.2.2.2.2.2.2.2.2.2.2.2.2.2.2.2.2.2.2.2.2.2.2.2.2.2.2.2.2.2.2.2.2.2.2.2.2.2.2.2.2.2.2.2.2.2.2.2.2.2.2.2.2.2.2.2.2.2.2.2.2.2.2.2.2.2.1
theorem dL_law_848 : decode cL_law 848 = .ok (.istore 5, 2) := DL_law_5.2.2.2.2.2.2.2.2.2.2.2.2.2.2.2.2.2.2.2.2.2.2.2.2.2.2.2.2.2.2.2.2.2.2.2.2.2.2.2.2.2.2.2.2.2.2.2.2.2.2.2.2.2.2.2.2.2.2.2.2.2.2.2.2.2.2.2.1
theorem dL_law_850 : decode cL_law 850 = .ok (.aload_n 2, 1) := DL_law_5.2.2.2.2.2.2.2.2.2.2.2.2.2.2.2.2.2.2.2.2.2.2.2.2.2.2.2.2.2.2.2.2.2.2.2.2.2.2.2.2.2.2.2.2.2.2.2.2.2.2.2.2.2.2.2.2.2.2.2.2.2.2.2.2.2.2.2.2.1
theorem dL_law_851 : decode cL_law 851 = .ok (.aload_n 0, 1) := DL_law_5.2.2.2.2.2.2.2.2.2.2.2.2.2.2.2.2.2.2.2.2.2.2.2.2.2.2.2.2.2.2.2.2.2.2.2.2.2.2.2.2.2.2.2.2.2.2.2.2.2.2.2.2.2.2.2.2.2.2.2.2.2.2.2.2.2.2.2.2.2.1
theorem dL_law_852 : decode cL_law 852 = .ok (.iload 4, 2) := DL_law_5.2.2.2.2.2.2.2.2.2.2.2.2.2.2.2.2.2.2.2.2.2.2.2.2.2.2.2.2.2.2.2.2.2.2.2.2.2.2.2.2.2.2.2.2.2.2.2.2.2.2.2.2.2.2.2.2.2.2.2.2.2.2.2.2.2.2.2.2.2.2.1
theorem dL_law_854 : decode cL_law 854 = .ok (.iconst 1, 1) := DL_law_5.2.2.2.2.2.2.2.2.2.2.2.2.2.2.2.2.2.2.2.2.2.2.2.2.2.2.2.2.2.2.2.2.2.2.2.2.2.2.2.2.2.2.2.2.2.2.2.2.2.2.2.2.2.2.2.2.2.2.2.2.2.2.2.2.2.2.2.2.2.2.2.1
theorem dL_law_855 : decode cL_law 855 = .ok (.iadd, 1) := DL_law_5.2.2.2.2.2.2.2.2.2.2.2.2.2.2.2.2.2.2.2.2.2.2.2.2.2.2.2.2.2.2.2.2.2.2.2.2.2.2.2.2.2.2.2.2.2.2.2.2.2.2.2.2.2.2.2.2.2.2.2.2.2.2.2.2.2.2.2.2.2.2.2.2.1
theorem dL_law_856 : decode cL_law 856 = .ok (.iaload, 1) := DL_law_5.2.2.2.2.2.2.2.2.2.2.2.2.2.2.2.2.2.2.2.2.2.2.2.2.2.2.2.2.2.2.2.2.2.2.2.2.2.2.2.2.2.2.2.2.2.2.2.2.2.2.2.2.2.2.2.2.2.2.2.2.2.2.2.2.2.2.2.2.2.2.2.2.2.1
theorem dL_law_857 : decode cL_law 857 = .ok (.aload_n 0, 1) := DL_law_5.2.2.2.2.2.2.2.2.2.2.2.2.2.2.2.2.2.2.2.2.2.2.2.2.2.2.2.2.2.2.2.2.2.2.2.2.2.2.2.2.2.2.2.2.2.2.2.2.2.2.2.2.2.2.2.2.2.2.2.2.2.2.2.2.2.2.2.2.2.2.2.2.2.2.1
theorem dL_law_858 : decode cL_law 858 = .ok (.iload 4, 2) := DL_law_5.2.2.2.2.2.2.2.2.2.2.2.2.2.2.2.2.2.2.2.2.2.2.2.2.2.2.2.2.2.2.2.2.2.2.2.2.2.2.2.2.2.2.2.2.2.2.2.2.2.2.2.2.2.2.2.2.2.2.2.2.2.2.2.2.2.2.2.2.2.2.2.2.2.2.2.1
theorem dL_law_860 : decode cL_law 860 = .ok (.iconst 2, 1) := DL_law_5.2.2.2.2.2.2.2.2.2.2.2.2.2.2.2.2.2.2.2.2.2.2.2.2.2.2.2.2.2.2.2.2.2.2.2.2.2.2.2.2.2.2.2.2.2.2.2.2.2.2.2.2.2.2.2.2.2.2.2.2.2.2.2.2.2.2.2.2.2.2.2.2.2.2.2.2.1
theorem dL_law_861 : decode cL_law 861 = .ok (.iadd, 1) := DL_law_5.2.2.2.2.2.2.2.2.2.2.2.2.2.2.2.2.2.2.2.2.2.2.2.2.2.2.2.2.2.2.2.2.2.2.2.2.2.2.2.2.2.2.2.2.2.2.2.2.2.2.2.2.2.2.2.2.2.2.2.2.2.2.2.2.2.2.2.2.2.2.2.2.2.2.2.2.2.1
theorem dL_law_862 : decode cL_law 862 = .ok (.iaload, 1) := DL_law_5.2.2.2.2.2.2.2.2.2.2.2.2.2.2.2.2.2.2.2.2.2.2.2.2.2.2.2.2.2.2.2.2.2.2.2.2.2.2.2.2.2.2.2.2.2.2.2.2.2.2.2.2.2.2.2.2.2.2.2.2.2.2.2.2.2.2.2.2.2.2.2.2.2.2.2.2.2.2.1
theorem dL_law_863 : decode cL_law 863 = .ok (.invokevirtual 111, 3) := DL_law_5.2.2.2.2.2.2.2.2.2.2.2.2.2.2.2.2.2.2.2.2.2.2.2.2.2.2.2.2.2.2.2.2.2.2.2.2.2.2.2.2.2.2.2.2.2.2.2.2.2.2.2.2.2.2.2.2.2.2.2.2.2.2.2.2.2.2.2.2.2.2.2.2.2.2.2.2.2.2.2.1
theorem dL_law_866 : decode cL_law 866 = .ok (.istore 6, 2) := DL_law_5.2.2.2.2.2.2.2.2.2.2.2.2.2.2.2.2.2.2.2.2.2.2.2.2.2.2.2.2.2.2.2.2.2.2.2.2.2.2.2.2.2.2.2.2.2.2.2.2.2.2.2.2.2.2.2.2.2.2.2.2.2.2.2.2.2.2.2.2.2.2.2.2.2.2.2.2.2.2.2.2.1
theorem dL_law_868 : decode cL_law 868 = .ok (.aload_n 2, 1) := DL_law_5.2.2.2.2.2.2.2.2.2.2.2.2.2.2.2.2.2.2.2.2.2.2.2.2.2.2.2.2.2.2.2.2.2.2.2.2.2.2.2.2.2.2.2.2.2.2.2.2.2.2.2.2.2.2.2.2.2.2.2.2.2.2.2.2.2.2.2.2.2.2.2.2.2.2.2.2.2.2.2.2.2.1
theorem dL_law_869 : decode cL_law 869 = .ok (.invokevirtual 62, 3) := DL_law_5.2.2.2.2.2.2.2.2.2.2.2.2.2.2.2.2.2.2.2.2.2.2.2.2.2.2.2.2.2.2.2.2.2.2.2.2.2.2.2.2.2.2.2.2.2.2.2.2.2.2.2.2.2.2.2.2.2.2.2.2.2.2.2.2.2.2.2.2.2.2.2.2.2.2.2.2.2.2.2.2.2.2.1
theorem dL_law_872 : decode cL_law 872 = .ok (.iload 5, 2) := DL_law_5.2.2.2.2.2.2.2.2.2.2.2.2.2.2.2.2.2.2.2.2.2.2.2.2.2.2.2.2.2.2.2.2.2.2.2.2.2.2.2.2.2.2.2.2.2.2.2.2.2.2.2.2.2.2.2.2.2.2.2.2.2.2.2.2.2.2.2.2.2.2.2.2.2.2.2.2.2.2.2.2.2.2.2.1
theorem dL_law_874 : decode cL_law 874 = .ok (.if_icmp .eq 5, 3) := DL_law_5.2.2.2.2.2.2.2.2.2.2.2.2.2.2.2.2.2.2.2.2.2.2.2.2.2.2.2.2.2.2.2.2.2.2.2.2.2.2.2.2.2.2.2.2.2.2.2.2.2.2.2.2.2.2.2.2.2.2.2.2.2.2.2.2.2.2.2.2.2.2.2.2.2.2.2.2.2.2.2.2.2.2.2.2.1
theorem dL_law_877 : decode cL_law 877 = .ok (.iconst 0, 1) := DL_law_5.2.2.2.2.2.2.2.2.2.2.2.2.2.2.2.2.2.2.2.2.2.2.2.2.2.2.2.2.2.2.2.2.2.2.2.2.2.2.2.2.2.2.2.2.2.2.2.2.2.2.2.2.2.2.2.2.2.2.2.2.2.2.2.2.2.2.2.2.2.2.2.2.2.2.2.2.2.2.2.2.2.2.2.2.2.1
theorem dL_law_878 : decode cL_law 878 = .ok (.ireturn, 1) := DL_law_5.2.2.2.2.2.2.2.2.2.2.2.2.2.2.2.2.2.2.2.2.2.2.2.2.2.2.2.2.2.2.2.2.2.2.2.2.2.2.2.2.2.2.2.2.2.2.2.2.2.2.2.2.2.2.2.2.2.2.2.2.2.2.2.2.2.2.2.2.2.2.2.2.2.2.2.2.2.2.2.2.2.2.2.2.2.2.1
theorem dL_law_879 : decode cL_law 879 = .ok (.iload 5, 2) := DL_law_5.2.2.2.2.2.2.2.2.2.2.2.2.2.2.2.2.2.2.2.2.2.2.2.2.2.2.2.2.2.2.2.2.2.2.2.2.2.2.2.2.2.2.2.2.2.2.2.2.2.2.2.2.2.2.2.2.2.2.2.2.2.2.2.2.2.2.2.2.2.2.2.2.2.2.2.2.2.2.2.2.2.2.2.2.2.2.2.1
theorem dL_law_881 : decode cL_law 881 = .ok (.ifCond .ne 15, 3) := DL_law_5.2.2.2.2.2.2.2.2.2.2.2.2.2.2.2.2.2.2.2.2.2.2.2.2.2.2.2.2.2.2.2.2.2.2.2.2.2.2.2.2.2.2.2.2.2.2.2.2.2.2.2.2.2.2.2.2.2.2.2.2.2.2.2.2.2.2.2.2.2.2.2.2.2.2.2.2.2.2.2.2.2.2.2.2.2.2.2.2.1
theorem dL_law_884 : decode cL_law 884 = .ok (.aload_n 3, 1) := DL_law_5.2.2.2.2.2.2.2.2.2.2.2.2.2.2.2.2.2.2.2.2.2.2.2.2.2.2.2.2.2.2.2.2.2.2.2.2.2.2.2.2.2.2.2.2.2.2.2.2.2.2.2.2.2.2.2.2.2.2.2.2.2.2.2.2.2.2.2.2.2.2.2.2.2.2.2.2.2.2.2.2.2.2.2.2.2.2.2.2.2.1
theorem dL_law_885 : decode cL_law 885 = .ok (.iconst 0, 1) := DL_law_5.2.2.2.2.2.2.2.2.2.2.2.2.2.2.2.2.2.2.2.2.2.2.2.2.2.2.2.2.2.2.2.2.2.2.2.2.2.2.2.2.2.2.2.2.2.2.2.2.2.2.2.2.2.2.2.2.2.2.2.2.2.2.2.2.2.2.2.2.2.2.2.2.2.2.2.2.2.2.2.2.2.2.2.2.2.2.2.2.2.2.1
theorem dL_law_886 : decode cL_law 886 = .ok (.laload, 1) := DL_law_5.2.2.2.2.2.2.2.2.2.2.2.2.2.2.2.2.2.2.2.2.2.2.2.2.2.2.2.2.2.2.2.2.2.2.2.2.2.2.2.2.2.2.2.2.2.2.2.2.2.2.2.2.2.2.2.2.2.2.2.2.2.2.2.2.2.2.2.2.2.2.2.2.2.2.2.2.2.2.2.2.2.2.2.2.2.2.2.2.2.2.2.1
theorem dL_law_887 : decode cL_law 887 = .ok (.iload 6, 2) := DL_law_5.2.2.2.2.2.2.2.2.2.2.2.2.2.2.2.2.2.2.2.2.2.2.2.2.2.2.2.2.2.2.2.2.2.2.2.2.2.2.2.2.2.2.2.2.2.2.2.2.2.2.2.2.2.2.2.2.2.2.2.2.2.2.2.2.2.2.2.2.2.2.2.2.2.2.2.2.2.2.2.2.2.2.2.2.2.2.2.2.2.2.2.2.1
theorem dL_law_889 : decode cL_law 889 = .ok (.i2l, 1) := DL_law_5.2.2.2.2.2.2.2.2.2.2.2.2.2.2.2.2.2.2.2.2.2.2.2.2.2.2.2.2.2.2.2.2.2.2.2.2.2.2.2.2.2.2.2.2.2.2.2.2.2.2.2.2.2.2.2.2.2.2.2.2.2.2.2.2.2.2.2.2.2.2.2.2.2.2.2.2.2.2.2.2.2.2.2.2.2.2.2.2.2.2.2.2.2.1
theorem dL_law_890 : decode cL_law 890 = .ok (.lcmp, 1) := DL_law_5.2.2.2.2.2.2.2.2.2.2.2.2.2.2.2.2.2.2.2.2.2.2.2.2.2.2.2.2.2.2.2.2.2.2.2.2.2.2.2.2.2.2.2.2.2.2.2.2.2.2.2.2.2.2.2.2.2.2.2.2.2.2.2.2.2.2.2.2.2.2.2.2.2.2.2.2.2.2.2.2.2.2.2.2.2.2.2.2.2.2.2.2.2.2.1
theorem dL_law_891 : decode cL_law 891 = .ok (.ifCond .eq 5, 3) := DL_law_5.2.2.2.2.2.2.2.2.2.2.2.2.2.2.2.2.2.2.2.2.2.2.2.2.2.2.2.2.2.2.2.2.2.2.2.2.2.2.2.2.2.2.2.2.2.2.2.2.2.2.2.2.2.2.2.2.2.2.2.2.2.2.2.2.2.2.2.2.2.2.2.2.2.2.2.2.2.2.2.2.2.2.2.2.2.2.2.2.2.2.2.2.2.2.2.1
theorem dL_law_894 : decode cL_law 894 = .ok (.iconst 0, 1) := DL_law_5.2.2.2.2.2.2.2.2.2.2.2.2.2.2.2.2.2.2.2.2.2.2.2.2.2.2.2.2.2.2.2.2.2.2.2.2.2.2.2.2.2.2.2.2.2.2.2.2.2.2.2.2.2.2.2.2.2.2.2.2.2.2.2.2.2.2.2.2.2.2.2.2.2.2.2.2.2.2.2.2.2.2.2.2.2.2.2.2.2.2.2.2.2.2.2.2.1
theorem dL_law_895 : decode cL_law 895 = .ok (.ireturn, 1) := DL_law_5.2.2.2.2.2.2.2.2.2.2.2.2.2.2.2.2.2.2.2.2.2.2.2.2.2.2.2.2.2.2.2.2.2.2.2.2.2.2.2.2.2.2.2.2.2.2.2.2.2.2.2.2.2.2.2.2.2.2.2.2.2.2.2.2.2.2.2.2.2.2.2.2.2.2.2.2.2.2.2.2.2.2.2.2.2.2.2.2.2.2.2.2.2.2.2.2.2.1
theorem dL_law_896 : decode cL_law 896 = .ok (.goto 3, 3) := DL_law_5.2.2.2.2.2.2.2.2.2.2.2.2.2.2.2.2.2.2.2.2.2.2.2.2.2.2.2.2.2.2.2.2.2.2.2.2.2.2.2.2.2.2.2.2.2.2.2.2.2.2.2.2.2.2.2.2.2.2.2.2.2.2.2.2.2.2.2.2.2.2.2.2.2.2.2.2.2.2.2.2.2.2.2.2.2.2.2.2.2.2.2.2.2.2.2.2.2.2.1
theorem dL_law_899 : decode cL_law 899 = .ok (.iinc 4 5, 3) := DL_law_5.2.2.2.2.2.2.2.2.2.2.2.2.2.2.2.2.2.2.2.2.2.2.2.2.2.2.2.2.2.2.2.2.2.2.2.2.2.2.2.2.2.2.2.2.2.2.2.2.2.2.2.2.2.2.2.2.2.2.2.2.2.2.2.2.2.2.2.2.2.2.2.2.2.2.2.2.2.2.2.2.2.2.2.2.2.2.2.2.2.2.2.2.2.2.2.2.2.2.2.1
theorem dL_law_902 : decode cL_law 902 = .ok (.goto (-879), 3) := DL_law_5.2.2.2.2.2.2.2.2.2.2.2.2.2.2.2.2.2.2.2.2.2.2.2.2.2.2.2.2.2.2.2.2.2.2.2.2.2.2.2.2.2.2.2.2.2.2.2.2.2.2.2.2.2.2.2.2.2.2.2.2.2.2.2.2.2.2.2.2.2.2.2.2.2.2.2.2.2.2.2.2.2.2.2.2.2.2.2.2.2.2.2.2.2.2.2.2.2.2.2.2.1
theorem dL_law_905 : decode cL_law 905 = .ok (.iconst 1, 1) := DL_law_5.2.2.2.2.2.2.2.2.2.2.2.2.2.2.2.2.2.2.2.2.2.2.2.2.2.2.2.2.2.2.2.2.2.2.2.2.2.2.2.2.2.2.2.2.2.2.2.2.2.2.2.2.2.2.2.2.2.2.2.2.2.2.2.2.2.2.2.2.2.2.2.2.2.2.2.2.2.2.2.2.2.2.2.2.2.2.2.2.2.2.2.2.2.2.2.2.2.2.2.2.2.1
theorem dL_law_906 : decode cL_law 906 = .ok (.ireturn, 1) := DL_law_5.2.2.2.2.2.2.2.2.2.2.2.2.2.2.2.2.2.2.2.2.2.2.2.2.2.2.2.2.2.2.2.2.2.2.2.2.2.2.2.2.2.2.2.2.2.2.2.2.2.2.2.2.2.2.2.2.2.2.2.2.2.2.2.2.2.2.2.2.2.2.2.2.2.2.2.2.2.2.2.2.2.2.2.2.2.2.2.2.2.2.2.2.2.2.2.2.2.2.2.2.2.2
