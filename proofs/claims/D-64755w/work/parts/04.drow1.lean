set_option maxRecDepth 100000
theorem dX1_findPieces_59 : decode cX1_findPieces 59 = .ok (.dup_x1, 1) := DX1_findPieces.2.2.2.2.2.2.2.2.2.2.2.2.2.2.2.2.2.2.2.2.2.2.2.2.2.2.2.2.2.2.2.2.2.2.2.1
theorem dX1_findPieces_60 : decode cX1_findPieces 60 = .ok (.iconst 1, 1) := DX1_findPieces.2.2.2.2.2.2.2.2.2.2.2.2.2.2.2.2.2.2.2.2.2.2.2.2.2.2.2.2.2.2.2.2.2.2.2.2.1
theorem dX1_findPieces_61 : decode cX1_findPieces 61 = .ok (.iadd, 1) := DX1_findPieces.2.2.2.2.2.2.2.2.2.2.2.2.2.2.2.2.2.2.2.2.2.2.2.2.2.2.2.2.2.2.2.2.2.2.2.2.2.1
theorem dX1_findPieces_62 : decode cX1_findPieces 62 = .ok (.putfield 235, 3) := DX1_findPieces.2.2.2.2.2.2.2.2.2.2.2.2.2.2.2.2.2.2.2.2.2.2.2.2.2.2.2.2.2.2.2.2.2.2.2.2.2.2.1
theorem dX1_findPieces_65 : decode cX1_findPieces 65 = .ok (.invokevirtual 238, 3) := DX1_findPieces.2.2.2.2.2.2.2.2.2.2.2.2.2.2.2.2.2.2.2.2.2.2.2.2.2.2.2.2.2.2.2.2.2.2.2.2.2.2.2.1
theorem dX1_findPieces_68 : decode cX1_findPieces 68 = .ok (.iinc 1 1, 3) := DX1_findPieces.2.2.2.2.2.2.2.2.2.2.2.2.2.2.2.2.2.2.2.2.2.2.2.2.2.2.2.2.2.2.2.2.2.2.2.2.2.2.2.2.1
theorem dX1_findPieces_71 : decode cX1_findPieces 71 = .ok (.goto (-43), 3) := DX1_findPieces.2.2.2.2.2.2.2.2.2.2.2.2.2.2.2.2.2.2.2.2.2.2.2.2.2.2.2.2.2.2.2.2.2.2.2.2.2.2.2.2.2.1
theorem dX1_findPieces_74 : decode cX1_findPieces 74 = .ok (.iconst 0, 1) := DX1_findPieces.2.2.2.2.2.2.2.2.2.2.2.2.2.2.2.2.2.2.2.2.2.2.2.2.2.2.2.2.2.2.2.2.2.2.2.2.2.2.2.2.2.2.1
theorem dX1_findPieces_75 : decode cX1_findPieces 75 = .ok (.istore_n 1, 1) := DX1_findPieces.2.2.2.2.2.2.2.2.2.2.2.2.2.2.2.2.2.2.2.2.2.2.2.2.2.2.2.2.2.2.2.2.2.2.2.2.2.2.2.2.2.2.2.1
theorem dX1_findPieces_76 : decode cX1_findPieces 76 = .ok (.iload_n 1, 1) := DX1_findPieces.2.2.2.2.2.2.2.2.2.2.2.2.2.2.2.2.2.2.2.2.2.2.2.2.2.2.2.2.2.2.2.2.2.2.2.2.2.2.2.2.2.2.2.2.1
theorem dX1_findPieces_77 : decode cX1_findPieces 77 = .ok (.aload_n 0, 1) := DX1_findPieces.2.2.2.2.2.2.2.2.2.2.2.2.2.2.2.2.2.2.2.2.2.2.2.2.2.2.2.2.2.2.2.2.2.2.2.2.2.2.2.2.2.2.2.2.2.1
theorem dX1_findPieces_78 : decode cX1_findPieces 78 = .ok (.getfield 39, 3) := DX1_findPieces.2.2.2.2.2.2.2.2.2.2.2.2.2.2.2.2.2.2.2.2.2.2.2.2.2.2.2.2.2.2.2.2.2.2.2.2.2.2.2.2.2.2.2.2.2.2.1
theorem dX1_findPieces_81 : decode cX1_findPieces 81 = .ok (.invokevirtual 110, 3) := DX1_findPieces.2.2.2.2.2.2.2.2.2.2.2.2.2.2.2.2.2.2.2.2.2.2.2.2.2.2.2.2.2.2.2.2.2.2.2.2.2.2.2.2.2.2.2.2.2.2.2.1
theorem dX1_findPieces_84 : decode cX1_findPieces 84 = .ok (.if_icmp .ge 50, 3) := DX1_findPieces.2.2.2.2.2.2.2.2.2.2.2.2.2.2.2.2.2.2.2.2.2.2.2.2.2.2.2.2.2.2.2.2.2.2.2.2.2.2.2.2.2.2.2.2.2.2.2.2.1
theorem dX1_findPieces_87 : decode cX1_findPieces 87 = .ok (.aload_n 0, 1) := DX1_findPieces.2.2.2.2.2.2.2.2.2.2.2.2.2.2.2.2.2.2.2.2.2.2.2.2.2.2.2.2.2.2.2.2.2.2.2.2.2.2.2.2.2.2.2.2.2.2.2.2.2.1
theorem dX1_findPieces_88 : decode cX1_findPieces 88 = .ok (.getfield 39, 3) := DX1_findPieces.2.2.2.2.2.2.2.2.2.2.2.2.2.2.2.2.2.2.2.2.2.2.2.2.2.2.2.2.2.2.2.2.2.2.2.2.2.2.2.2.2.2.2.2.2.2.2.2.2.2.1
theorem dX1_findPieces_91 : decode cX1_findPieces 91 = .ok (.iload_n 1, 1) := DX1_findPieces.2.2.2.2.2.2.2.2.2.2.2.2.2.2.2.2.2.2.2.2.2.2.2.2.2.2.2.2.2.2.2.2.2.2.2.2.2.2.2.2.2.2.2.2.2.2.2.2.2.2.2.1
theorem dX1_findPieces_92 : decode cX1_findPieces 92 = .ok (.invokevirtual 114, 3) := DX1_findPieces.2.2.2.2.2.2.2.2.2.2.2.2.2.2.2.2.2.2.2.2.2.2.2.2.2.2.2.2.2.2.2.2.2.2.2.2.2.2.2.2.2.2.2.2.2.2.2.2.2.2.2.2.1
theorem dX1_findPieces_95 : decode cX1_findPieces 95 = .ok (.checkcast 48, 3) := DX1_findPieces.2.2.2.2.2.2.2.2.2.2.2.2.2.2.2.2.2.2.2.2.2.2.2.2.2.2.2.2.2.2.2.2.2.2.2.2.2.2.2.2.2.2.2.2.2.2.2.2.2.2.2.2.2.1
theorem dX1_findPieces_98 : decode cX1_findPieces 98 = .ok (.astore_n 2, 1) := DX1_findPieces.2.2.2.2.2.2.2.2.2.2.2.2.2.2.2.2.2.2.2.2.2.2.2.2.2.2.2.2.2.2.2.2.2.2.2.2.2.2.2.2.2.2.2.2.2.2.2.2.2.2.2.2.2.2.1
theorem dX1_findPieces_99 : decode cX1_findPieces 99 = .ok (.aload_n 2, 1) := DX1_findPieces.2.2.2.2.2.2.2.2.2.2.2.2.2.2.2.2.2.2.2.2.2.2.2.2.2.2.2.2.2.2.2.2.2.2.2.2.2.2.2.2.2.2.2.2.2.2.2.2.2.2.2.2.2.2.2.1
theorem dX1_findPieces_100 : decode cX1_findPieces 100 = .ok (.invokevirtual 212, 3) := DX1_findPieces.2.2.2.2.2.2.2.2.2.2.2.2.2.2.2.2.2.2.2.2.2.2.2.2.2.2.2.2.2.2.2.2.2.2.2.2.2.2.2.2.2.2.2.2.2.2.2.2.2.2.2.2.2.2.2.2.1
theorem dX1_findPieces_103 : decode cX1_findPieces 103 = .ok (.lconst 0, 1) := DX1_findPieces.2.2.2.2.2.2.2.2.2.2.2.2.2.2.2.2.2.2.2.2.2.2.2.2.2.2.2.2.2.2.2.2.2.2.2.2.2.2.2.2.2.2.2.2.2.2.2.2.2.2.2.2.2.2.2.2.2.1
theorem dX1_findPieces_104 : decode cX1_findPieces 104 = .ok (.lcmp, 1) := DX1_findPieces.2.2.2.2.2.2.2.2.2.2.2.2.2.2.2.2.2.2.2.2.2.2.2.2.2.2.2.2.2.2.2.2.2.2.2.2.2.2.2.2.2.2.2.2.2.2.2.2.2.2.2.2.2.2.2.2.2.2.1
theorem dX1_findPieces_105 : decode cX1_findPieces 105 = .ok (.ifCond .gt 23, 3) := DX1_findPieces.2.2.2.2.2.2.2.2.2.2.2.2.2.2.2.2.2.2.2.2.2.2.2.2.2.2.2.2.2.2.2.2.2.2.2.2.2.2.2.2.2.2.2.2.2.2.2.2.2.2.2.2.2.2.2.2.2.2.2.1
theorem dX1_findPieces_108 : decode cX1_findPieces 108 = .ok (.aload_n 0, 1) := DX1_findPieces.2.2.2.2.2.2.2.2.2.2.2.2.2.2.2.2.2.2.2.2.2.2.2.2.2.2.2.2.2.2.2.2.2.2.2.2.2.2.2.2.2.2.2.2.2.2.2.2.2.2.2.2.2.2.2.2.2.2.2.2.1
theorem dX1_findPieces_109 : decode cX1_findPieces 109 = .ok (.getfield 50, 3) := DX1_findPieces.2.2.2.2.2.2.2.2.2.2.2.2.2.2.2.2.2.2.2.2.2.2.2.2.2.2.2.2.2.2.2.2.2.2.2.2.2.2.2.2.2.2.2.2.2.2.2.2.2.2.2.2.2.2.2.2.2.2.2.2.2.1
theorem dX1_findPieces_112 : decode cX1_findPieces 112 = .ok (.aload_n 0, 1) := DX1_findPieces.2.2.2.2.2.2.2.2.2.2.2.2.2.2.2.2.2.2.2.2.2.2.2.2.2.2.2.2.2.2.2.2.2.2.2.2.2.2.2.2.2.2.2.2.2.2.2.2.2.2.2.2.2.2.2.2.2.2.2.2.2.2.1
theorem dX1_findPieces_113 : decode cX1_findPieces 113 = .ok (.getfield 45, 3) := DX1_findPieces.2.2.2.2.2.2.2.2.2.2.2.2.2.2.2.2.2.2.2.2.2.2.2.2.2.2.2.2.2.2.2.2.2.2.2.2.2.2.2.2.2.2.2.2.2.2.2.2.2.2.2.2.2.2.2.2.2.2.2.2.2.2.2.1
theorem dX1_findPieces_116 : decode cX1_findPieces 116 = .ok (.aload_n 2, 1) := DX1_findPieces.2.2.2.2.2.2.2.2.2.2.2.2.2.2.2.2.2.2.2.2.2.2.2.2.2.2.2.2.2.2.2.2.2.2.2.2.2.2.2.2.2.2.2.2.2.2.2.2.2.2.2.2.2.2.2.2.2.2.2.2.2.2.2.2.1
theorem dX1_findPieces_117 : decode cX1_findPieces 117 = .ok (.getfield 241, 3) := DX1_findPieces.2.2.2.2.2.2.2.2.2.2.2.2.2.2.2.2.2.2.2.2.2.2.2.2.2.2.2.2.2.2.2.2.2.2.2.2.2.2.2.2.2.2.2.2.2.2.2.2.2.2.2.2.2.2.2.2.2.2.2.2.2.2.2.2.2.1
theorem dX1_findPieces_120 : decode cX1_findPieces 120 = .ok (.getfield 244, 3) := DX1_findPieces.2.2.2.2.2.2.2.2.2.2.2.2.2.2.2.2.2.2.2.2.2.2.2.2.2.2.2.2.2.2.2.2.2.2.2.2.2.2.2.2.2.2.2.2.2.2.2.2.2.2.2.2.2.2.2.2.2.2.2.2.2.2.2.2.2.2.1
theorem dX1_findPieces_123 : decode cX1_findPieces 123 = .ok (.iconst 2, 1) := DX1_findPieces.2.2.2.2.2.2.2.2.2.2.2.2.2.2.2.2.2.2.2.2.2.2.2.2.2.2.2.2.2.2.2.2.2.2.2.2.2.2.2.2.2.2.2.2.2.2.2.2.2.2.2.2.2.2.2.2.2.2.2.2.2.2.2.2.2.2.2.1
theorem dX1_findPieces_124 : decode cX1_findPieces 124 = .ok (.idiv, 1) := DX1_findPieces.2.2.2.2.2.2.2.2.2.2.2.2.2.2.2.2.2.2.2.2.2.2.2.2.2.2.2.2.2.2.2.2.2.2.2.2.2.2.2.2.2.2.2.2.2.2.2.2.2.2.2.2.2.2.2.2.2.2.2.2.2.2.2.2.2.2.2.2.1
theorem dX1_findPieces_125 : decode cX1_findPieces 125 = .ok (.iaload, 1) := DX1_findPieces.2.2.2.2.2.2.2.2.2.2.2.2.2.2.2.2.2.2.2.2.2.2.2.2.2.2.2.2.2.2.2.2.2.2.2.2.2.2.2.2.2.2.2.2.2.2.2.2.2.2.2.2.2.2.2.2.2.2.2.2.2.2.2.2.2.2.2.2.2.1
theorem dX1_findPieces_126 : decode cX1_findPieces 126 = .ok (.aload_n 2, 1) := DX1_findPieces.2.2.2.2.2.2.2.2.2.2.2.2.2.2.2.2.2.2.2.2.2.2.2.2.2.2.2.2.2.2.2.2.2.2.2.2.2.2.2.2.2.2.2.2.2.2.2.2.2.2.2.2.2.2.2.2.2.2.2.2.2.2.2.2.2.2.2.2.2.2.1
theorem dX1_findPieces_127 : decode cX1_findPieces 127 = .ok (.aastore, 1) := DX1_findPieces.2.2.2.2.2.2.2.2.2.2.2.2.2.2.2.2.2.2.2.2.2.2.2.2.2.2.2.2.2.2.2.2.2.2.2.2.2.2.2.2.2.2.2.2.2.2.2.2.2.2.2.2.2.2.2.2.2.2.2.2.2.2.2.2.2.2.2.2.2.2.2.1
theorem dX1_findPieces_128 : decode cX1_findPieces 128 = .ok (.iinc 1 1, 3) := DX1_findPieces.2.2.2.2.2.2.2.2.2.2.2.2.2.2.2.2.2.2.2.2.2.2.2.2.2.2.2.2.2.2.2.2.2.2.2.2.2.2.2.2.2.2.2.2.2.2.2.2.2.2.2.2.2.2.2.2.2.2.2.2.2.2.2.2.2.2.2.2.2.2.2.2.1
theorem dX1_findPieces_131 : decode cX1_findPieces 131 = .ok (.goto (-55), 3) := DX1_findPieces.2.2.2.2.2.2.2.2.2.2.2.2.2.2.2.2.2.2.2.2.2.2.2.2.2.2.2.2.2.2.2.2.2.2.2.2.2.2.2.2.2.2.2.2.2.2.2.2.2.2.2.2.2.2.2.2.2.2.2.2.2.2.2.2.2.2.2.2.2.2.2.2.2.1
theorem dX1_findPieces_134 : decode cX1_findPieces 134 = .ok (.return_, 1) := DX1_findPieces.2.2.2.2.2.2.2.2.2.2.2.2.2.2.2.2.2.2.2.2.2.2.2.2.2.2.2.2.2.2.2.2.2.2.2.2.2.2.2.2.2.2.2.2.2.2.2.2.2.2.2.2.2.2.2.2.2.2.2.2.2.2.2.2.2.2.2.2.2.2.2.2.2.2
theorem dX1_spread_0 : decode cX1_spread 0 = .ok (.aload_n 0, 1) := DX1_spread.1
theorem dX1_spread_1 : decode cX1_spread 1 = .ok (.getfield 45, 3) := DX1_spread.2.1
theorem dX1_spread_4 : decode cX1_spread 4 = .ok (.iload_n 1, 1) := DX1_spread.2.2.1
theorem dX1_spread_5 : decode cX1_spread 5 = .ok (.iload_n 2, 1) := DX1_spread.2.2.2.1
theorem dX1_spread_6 : decode cX1_spread 6 = .ok (.iastore, 1) := DX1_spread.2.2.2.2.1
theorem dX1_spread_7 : decode cX1_spread 7 = .ok (.iconst 1, 1) := DX1_spread.2.2.2.2.2.1
theorem dX1_spread_8 : decode cX1_spread 8 = .ok (.istore_n 3, 1) := DX1_spread.2.2.2.2.2.2.1
theorem dX1_spread_9 : decode cX1_spread 9 = .ok (.iload_n 3, 1) := DX1_spread.2.2.2.2.2.2.2.1
theorem dX1_spread_10 : decode cX1_spread 10 = .ok (.ifCond .eq 169, 3) := DX1_spread.2.2.2.2.2.2.2.2.1
theorem dX1_spread_13 : decode cX1_spread 13 = .ok (.iconst 0, 1) := DX1_spread.2.2.2.2.2.2.2.2.2.1
theorem dX1_spread_14 : decode cX1_spread 14 = .ok (.istore_n 3, 1) := DX1_spread.2.2.2.2.2.2.2.2.2.2.1
theorem dX1_spread_15 : decode cX1_spread 15 = .ok (.iconst 0, 1) := DX1_spread.2.2.2.2.2.2.2.2.2.2.2.1
theorem dX1_spread_16 : decode cX1_spread 16 = .ok (.istore 4, 2) := DX1_spread.2.2.2.2.2.2.2.2.2.2.2.2.1
theorem dX1_spread_18 : decode cX1_spread 18 = .ok (.iload 4, 2) := DX1_spread.2.2.2.2.2.2.2.2.2.2.2.2.2.1
theorem dX1_spread_20 : decode cX1_spread 20 = .ok (.aload_n 0, 1) := DX1_spread.2.2.2.2.2.2.2.2.2.2.2.2.2.2.1
theorem dX1_spread_21 : decode cX1_spread 21 = .ok (.getfield 29, 3) := DX1_spread.2.2.2.2.2.2.2.2.2.2.2.2.2.2.2.1
theorem dX1_spread_24 : decode cX1_spread 24 = .ok (.invokevirtual 110, 3) := DX1_spread.2.2.2.2.2.2.2.2.2.2.2.2.2.2.2.2.1
theorem dX1_spread_27 : decode cX1_spread 27 = .ok (.if_icmp .ge 149, 3) := DX1_spread.2.2.2.2.2.2.2.2.2.2.2.2.2.2.2.2.2.1
theorem dX1_spread_30 : decode cX1_spread 30 = .ok (.aload_n 0, 1) := DX1_spread.2.2.2.2.2.2.2.2.2.2.2.2.2.2.2.2.2.2.1
theorem dX1_spread_31 : decode cX1_spread 31 = .ok (.getfield 29, 3) := DX1_spread.2.2.2.2.2.2.2.2.2.2.2.2.2.2.2.2.2.2.2.1
theorem dX1_spread_34 : decode cX1_spread 34 = .ok (.iload 4, 2) := DX1_spread.2.2.2.2.2.2.2.2.2.2.2.2.2.2.2.2.2.2.2.2.1
theorem dX1_spread_36 : decode cX1_spread 36 = .ok (.invokevirtual 114, 3) := DX1_spread.2.2.2.2.2.2.2.2.2.2.2.2.2.2.2.2.2.2.2.2.2.1
theorem dX1_spread_39 : decode cX1_spread 39 = .ok (.checkcast 118, 3) := DX1_spread.2.2.2.2.2.2.2.2.2.2.2.2.2.2.2.2.2.2.2.2.2.2.1
theorem dX1_spread_42 : decode cX1_spread 42 = .ok (.getfield 155, 3) := DX1_spread.2.2.2.2.2.2.2.2.2.2.2.2.2.2.2.2.2.2.2.2.2.2.2.1
theorem dX1_spread_45 : decode cX1_spread 45 = .ok (.astore 5, 2) := DX1_spread.2.2.2.2.2.2.2.2.2.2.2.2.2.2.2.2.2.2.2.2.2.2.2.2.1
theorem dX1_spread_47 : decode cX1_spread 47 = .ok (.iconst 0, 1) := DX1_spread.2.2.2.2.2.2.2.2.2.2.2.2.2.2.2.2.2.2.2.2.2.2.2.2.2.1
theorem dX1_spread_48 : decode cX1_spread 48 = .ok (.istore 6, 2) := DX1_spread.2.2.2.2.2.2.2.2.2.2.2.2.2.2.2.2.2.2.2.2.2.2.2.2.2.2.1
theorem dX1_spread_50 : decode cX1_spread 50 = .ok (.iconst 0, 1) := DX1_spread.2.2.2.2.2.2.2.2.2.2.2.2.2.2.2.2.2.2.2.2.2.2.2.2.2.2.2.1
theorem dX1_spread_51 : decode cX1_spread 51 = .ok (.istore 7, 2) := DX1_spread.2.2.2.2.2.2.2.2.2.2.2.2.2.2.2.2.2.2.2.2.2.2.2.2.2.2.2.2.1
theorem dX1_spread_53 : decode cX1_spread 53 = .ok (.iload 7, 2) := DX1_spread.2.2.2.2.2.2.2.2.2.2.2.2.2.2.2.2.2.2.2.2.2.2.2.2.2.2.2.2.2.1
theorem dX1_spread_55 : decode cX1_spread 55 = .ok (.aload 5, 2) := DX1_spread.2.2.2.2.2.2.2.2.2.2.2.2.2.2.2.2.2.2.2.2.2.2.2.2.2.2.2.2.2.2.1
theorem dX1_spread_57 : decode cX1_spread 57 = .ok (.invokevirtual 110, 3) := DX1_spread.2.2.2.2.2.2.2.2.2.2.2.2.2.2.2.2.2.2.2.2.2.2.2.2.2.2.2.2.2.2.2.1
theorem dX1_spread_60 : decode cX1_spread 60 = .ok (.if_icmp .ge 43, 3) := DX1_spread.2.2.2.2.2.2.2.2.2.2.2.2.2.2.2.2.2.2.2.2.2.2.2.2.2.2.2.2.2.2.2.2.1
theorem dX1_spread_63 : decode cX1_spread 63 = .ok (.iload 6, 2) := DX1_spread.2.2.2.2.2.2.2.2.2.2.2.2.2.2.2.2.2.2.2.2.2.2.2.2.2.2.2.2.2.2.2.2.2.1
theorem dX1_spread_65 : decode cX1_spread 65 = .ok (.aload_n 0, 1) := DX1_spread.2.2.2.2.2.2.2.2.2.2.2.2.2.2.2.2.2.2.2.2.2.2.2.2.2.2.2.2.2.2.2.2.2.2.1
theorem dX1_spread_66 : decode cX1_spread 66 = .ok (.getfield 45, 3) := DX1_spread.2.2.2.2.2.2.2.2.2.2.2.2.2.2.2.2.2.2.2.2.2.2.2.2.2.2.2.2.2.2.2.2.2.2.2.1
theorem dX1_spread_69 : decode cX1_spread 69 = .ok (.aload 5, 2) := DX1_spread.2.2.2.2.2.2.2.2.2.2.2.2.2.2.2.2.2.2.2.2.2.2.2.2.2.2.2.2.2.2.2.2.2.2.2.2.1
theorem dX1_spread_71 : decode cX1_spread 71 = .ok (.iload 7, 2) := DX1_spread.2.2.2.2.2.2.2.2.2.2.2.2.2.2.2.2.2.2.2.2.2.2.2.2.2.2.2.2.2.2.2.2.2.2.2.2.2.1
theorem dX1_spread_73 : decode cX1_spread 73 = .ok (.invokevirtual 114, 3) := DX1_spread.2.2.2.2.2.2.2.2.2.2.2.2.2.2.2.2.2.2.2.2.2.2.2.2.2.2.2.2.2.2.2.2.2.2.2.2.2.2.1
theorem dX1_spread_76 : decode cX1_spread 76 = .ok (.checkcast 33, 3) := DX1_spread.2.2.2.2.2.2.2.2.2.2.2.2.2.2.2.2.2.2.2.2.2.2.2.2.2.2.2.2.2.2.2.2.2.2.2.2.2.2.2.1
theorem dX1_spread_79 : decode cX1_spread 79 = .ok (.getfield 244, 3) := DX1_spread.2.2.2.2.2.2.2.2.2.2.2.2.2.2.2.2.2.2.2.2.2.2.2.2.2.2.2.2.2.2.2.2.2.2.2.2.2.2.2.2.1
theorem dX1_spread_82 : decode cX1_spread 82 = .ok (.iconst 2, 1) := DX1_spread.2.2.2.2.2.2.2.2.2.2.2.2.2.2.2.2.2.2.2.2.2.2.2.2.2.2.2.2.2.2.2.2.2.2.2.2.2.2.2.2.2.1
theorem dX1_spread_83 : decode cX1_spread 83 = .ok (.idiv, 1) := DX1_spread.2.2.2.2.2.2.2.2.2.2.2.2.2.2.2.2.2.2.2.2.2.2.2.2.2.2.2.2.2.2.2.2.2.2.2.2.2.2.2.2.2.2.1
theorem dX1_spread_84 : decode cX1_spread 84 = .ok (.iaload, 1) := DX1_spread.2.2.2.2.2.2.2.2.2.2.2.2.2.2.2.2.2.2.2.2.2.2.2.2.2.2.2.2.2.2.2.2.2.2.2.2.2.2.2.2.2.2.2.1
theorem dX1_spread_85 : decode cX1_spread 85 = .ok (.iload_n 2, 1) := DX1_spread.2.2.2.2.2.2.2.2.2.2.2.2.2.2.2.2.2.2.2.2.2.2.2.2.2.2.2.2.2.2.2.2.2.2.2.2.2.2.2.2.2.2.2.2.1
theorem dX1_spread_86 : decode cX1_spread 86 = .ok (.if_icmp .ne 7, 3) := DX1_spread.2.2.2.2.2.2.2.2.2.2.2.2.2.2.2.2.2.2.2.2.2.2.2.2.2.2.2.2.2.2.2.2.2.2.2.2.2.2.2.2.2.2.2.2.2.1
theorem dX1_spread_89 : decode cX1_spread 89 = .ok (.iconst 1, 1) := DX1_spread.2.2.2.2.2.2.2.2.2.2.2.2.2.2.2.2.2.2.2.2.2.2.2.2.2.2.2.2.2.2.2.2.2.2.2.2.2.2.2.2.2.2.2.2.2.2.1
theorem dX1_spread_90 : decode cX1_spread 90 = .ok (.goto 4, 3) := DX1_spread.2.2.2.2.2.2.2.2.2.2.2.2.2.2.2.2.2.2.2.2.2.2.2.2.2.2.2.2.2.2.2.2.2.2.2.2.2.2.2.2.2.2.2.2.2.2.2.1
theorem dX1_spread_93 : decode cX1_spread 93 = .ok (.iconst 0, 1) := DX1_spread.2.2.2.2.2.2.2.2.2.2.2.2.2.2.2.2.2.2.2.2.2.2.2.2.2.2.2.2.2.2.2.2.2.2.2.2.2.2.2.2.2.2.2.2.2.2.2.2.1
theorem dX1_spread_94 : decode cX1_spread 94 = .ok (.ior, 1) := DX1_spread.2.2.2.2.2.2.2.2.2.2.2.2.2.2.2.2.2.2.2.2.2.2.2.2.2.2.2.2.2.2.2.2.2.2.2.2.2.2.2.2.2.2.2.2.2.2.2.2.2.1
theorem dX1_spread_95 : decode cX1_spread 95 = .ok (.istore 6, 2) := DX1_spread.2.2.2.2.2.2.2.2.2.2.2.2.2.2.2.2.2.2.2.2.2.2.2.2.2.2.2.2.2.2.2.2.2.2.2.2.2.2.2.2.2.2.2.2.2.2.2.2.2.2.1
theorem dX1_spread_97 : decode cX1_spread 97 = .ok (.iinc 7 1, 3) := DX1_spread.2.2.2.2.2.2.2.2.2.2.2.2.2.2.2.2.2.2.2.2.2.2.2.2.2.2.2.2.2.2.2.2.2.2.2.2.2.2.2.2.2.2.2.2.2.2.2.2.2.2.2.1
theorem dX1_spread_100 : decode cX1_spread 100 = .ok (.goto (-47), 3) := DX1_spread.2.2.2.2.2.2.2.2.2.2.2.2.2.2.2.2.2.2.2.2.2.2.2.2.2.2.2.2.2.2.2.2.2.2.2.2.2.2.2.2.2.2.2.2.2.2.2.2.2.2.2.2.1
theorem dX1_spread_103 : decode cX1_spread 103 = .ok (.iconst 0, 1) := DX1_spread.2.2.2.2.2.2.2.2.2.2.2.2.2.2.2.2.2.2.2.2.2.2.2.2.2.2.2.2.2.2.2.2.2.2.2.2.2.2.2.2.2.2.2.2.2.2.2.2.2.2.2.2.2.1
theorem dX1_spread_104 : decode cX1_spread 104 = .ok (.istore 7, 2) := DX1_spread.2.2.2.2.2.2.2.2.2.2.2.2.2.2.2.2.2.2.2.2.2.2.2.2.2.2.2.2.2.2.2.2.2.2.2.2.2.2.2.2.2.2.2.2.2.2.2.2.2.2.2.2.2.2.1
theorem dX1_spread_106 : decode cX1_spread 106 = .ok (.iload 7, 2) := DX1_spread.2.2.2.2.2.2.2.2.2.2.2.2.2.2.2.2.2.2.2.2.2.2.2.2.2.2.2.2.2.2.2.2.2.2.2.2.2.2.2.2.2.2.2.2.2.2.2.2.2.2.2.2.2.2.2.1
theorem dX1_spread_108 : decode cX1_spread 108 = .ok (.aload 5, 2) := DX1_spread.2.2.2.2.2.2.2.2.2.2.2.2.2.2.2.2.2.2.2.2.2.2.2.2.2.2.2.2.2.2.2.2.2.2.2.2.2.2.2.2.2.2.2.2.2.2.2.2.2.2.2.2.2.2.2.2.1
theorem dX1_spread_110 : decode cX1_spread 110 = .ok (.invokevirtual 110, 3) := DX1_spread.2.2.2.2.2.2.2.2.2.2.2.2.2.2.2.2.2.2.2.2.2.2.2.2.2.2.2.2.2.2.2.2.2.2.2.2.2.2.2.2.2.2.2.2.2.2.2.2.2.2.2.2.2.2.2.2.2.1
theorem dX1_spread_113 : decode cX1_spread 113 = .ok (.if_icmp .ge 57, 3) := DX1_spread.2.2.2.2.2.2.2.2.2.2.2.2.2.2.2.2.2.2.2.2.2.2.2.2.2.2.2.2.2.2.2.2.2.2.2.2.2.2.2.2.2.2.2.2.2.2.2.2.2.2.2.2.2.2.2.2.2.2.1
theorem dX1_spread_116 : decode cX1_spread 116 = .ok (.iload 6, 2) := DX1_spread.2.2.2.2.2.2.2.2.2.2.2.2.2.2.2.2.2.2.2.2.2.2.2.2.2.2.2.2.2.2.2.2.2.2.2.2.2.2.2.2.2.2.2.2.2.2.2.2.2.2.2.2.2.2.2.2.2.2.2.1
theorem dX1_spread_118 : decode cX1_spread 118 = .ok (.ifCond .eq 52, 3) := DX1_spread.2.2.2.2.2.2.2.2.2.2.2.2.2.2.2.2.2.2.2.2.2.2.2.2.2.2.2.2.2.2.2.2.2.2.2.2.2.2.2.2.2.2.2.2.2.2.2.2.2.2.2.2.2.2.2.2.2.2.2.2.1
theorem dX1_spread_121 : decode cX1_spread 121 = .ok (.aload 5, 2) := DX1_spread.2.2.2.2.2.2.2.2.2.2.2.2.2.2.2.2.2.2.2.2.2.2.2.2.2.2.2.2.2.2.2.2.2.2.2.2.2.2.2.2.2.2.2.2.2.2.2.2.2.2.2.2.2.2.2.2.2.2.2.2.2.1
theorem dX1_spread_123 : decode cX1_spread 123 = .ok (.iload 7, 2) := DX1_spread.2.2.2.2.2.2.2.2.2.2.2.2.2.2.2.2.2.2.2.2.2.2.2.2.2.2.2.2.2.2.2.2.2.2.2.2.2.2.2.2.2.2.2.2.2.2.2.2.2.2.2.2.2.2.2.2.2.2.2.2.2.2.1
theorem dX1_spread_125 : decode cX1_spread 125 = .ok (.invokevirtual 114, 3) := DX1_spread.2.2.2.2.2.2.2.2.2.2.2.2.2.2.2.2.2.2.2.2.2.2.2.2.2.2.2.2.2.2.2.2.2.2.2.2.2.2.2.2.2.2.2.2.2.2.2.2.2.2.2.2.2.2.2.2.2.2.2.2.2.2.2.1
theorem dX1_spread_128 : decode cX1_spread 128 = .ok (.checkcast 33, 3) := DX1_spread.2.2.2.2.2.2.2.2.2.2.2.2.2.2.2.2.2.2.2.2.2.2.2.2.2.2.2.2.2.2.2.2.2.2.2.2.2.2.2.2.2.2.2.2.2.2.2.2.2.2.2.2.2.2.2.2.2.2.2.2.2.2.2.2.1
theorem dX1_spread_131 : decode cX1_spread 131 = .ok (.getfield 244, 3) := DX1_spread.2.2.2.2.2.2.2.2.2.2.2.2.2.2.2.2.2.2.2.2.2.2.2.2.2.2.2.2.2.2.2.2.2.2.2.2.2.2.2.2.2.2.2.2.2.2.2.2.2.2.2.2.2.2.2.2.2.2.2.2.2.2.2.2.2.1
theorem dX1_spread_134 : decode cX1_spread 134 = .ok (.iconst 2, 1) := DX1_spread.2.2.2.2.2.2.2.2.2.2.2.2.2.2.2.2.2.2.2.2.2.2.2.2.2.2.2.2.2.2.2.2.2.2.2.2.2.2.2.2.2.2.2.2.2.2.2.2.2.2.2.2.2.2.2.2.2.2.2.2.2.2.2.2.2.2.1
theorem dX1_spread_135 : decode cX1_spread 135 = .ok (.idiv, 1) := DX1_spread.2.2.2.2.2.2.2.2.2.2.2.2.2.2.2.2.2.2.2.2.2.2.2.2.2.2.2.2.2.2.2.2.2.2.2.2.2.2.2.2.2.2.2.2.2.2.2.2.2.2.2.2.2.2.2.2.2.2.2.2.2.2.2.2.2.2.2.1
theorem dX1_spread_136 : decode cX1_spread 136 = .ok (.istore 8, 2) := DX1_spread.2.2.2.2.2.2.2.2.2.2.2.2.2.2.2.2.2.2.2.2.2.2.2.2.2.2.2.2.2.2.2.2.2.2.2.2.2.2.2.2.2.2.2.2.2.2.2.2.2.2.2.2.2.2.2.2.2.2.2.2.2.2.2.2.2.2.2.2.1
theorem dX1_spread_138 : decode cX1_spread 138 = .ok (.iload_n 3, 1) := DX1_spread.2.2.2.2.2.2.2.2.2.2.2.2.2.2.2.2.2.2.2.2.2.2.2.2.2.2.2.2.2.2.2.2.2.2.2.2.2.2.2.2.2.2.2.2.2.2.2.2.2.2.2.2.2.2.2.2.2.2.2.2.2.2.2.2.2.2.2.2.2.1
theorem dX1_spread_139 : decode cX1_spread 139 = .ok (.aload_n 0, 1) := DX1_spread.2.2.2.2.2.2.2.2.2.2.2.2.2.2.2.2.2.2.2.2.2.2.2.2.2.2.2.2.2.2.2.2.2.2.2.2.2.2.2.2.2.2.2.2.2.2.2.2.2.2.2.2.2.2.2.2.2.2.2.2.2.2.2.2.2.2.2.2.2.2.1
theorem dX1_spread_140 : decode cX1_spread 140 = .ok (.getfield 45, 3) := DX1_spread.2.2.2.2.2.2.2.2.2.2.2.2.2.2.2.2.2.2.2.2.2.2.2.2.2.2.2.2.2.2.2.2.2.2.2.2.2.2.2.2.2.2.2.2.2.2.2.2.2.2.2.2.2.2.2.2.2.2.2.2.2.2.2.2.2.2.2.2.2.2.2.1
theorem dX1_spread_143 : decode cX1_spread 143 = .ok (.iload 8, 2) := DX1_spread.2.2.2.2.2.2.2.2.2.2.2.2.2.2.2.2.2.2.2.2.2.2.2.2.2.2.2.2.2.2.2.2.2.2.2.2.2.2.2.2.2.2.2.2.2.2.2.2.2.2.2.2.2.2.2.2.2.2.2.2.2.2.2.2.2.2.2.2.2.2.2.2.1
theorem dX1_spread_145 : decode cX1_spread 145 = .ok (.iaload, 1) := DX1_spread.2.2.2.2.2.2.2.2.2.2.2.2.2.2.2.2.2.2.2.2.2.2.2.2.2.2.2.2.2.2.2.2.2.2.2.2.2.2.2.2.2.2.2.2.2.2.2.2.2.2.2.2.2.2.2.2.2.2.2.2.2.2.2.2.2.2.2.2.2.2.2.2.2.1
theorem dX1_spread_146 : decode cX1_spread 146 = .ok (.ifCond .ge 7, 3) := DX1_spread.2.2.2.2.2.2.2.2.2.2.2.2.2.2.2.2.2.2.2.2.2.2.2.2.2.2.2.2.2.2.2.2.2.2.2.2.2.2.2.2.2.2.2.2.2.2.2.2.2.2.2.2.2.2.2.2.2.2.2.2.2.2.2.2.2.2.2.2.2.2.2.2.2.2.1
theorem dX1_spread_149 : decode cX1_spread 149 = .ok (.iconst 1, 1) := DX1_spread.2.2.2.2.2.2.2.2.2.2.2.2.2.2.2.2.2.2.2.2.2.2.2.2.2.2.2.2.2.2.2.2.2.2.2.2.2.2.2.2.2.2.2.2.2.2.2.2.2.2.2.2.2.2.2.2.2.2.2.2.2.2.2.2.2.2.2.2.2.2.2.2.2.2.2.1
theorem dX1_spread_150 : decode cX1_spread 150 = .ok (.goto 4, 3) := DX1_spread.2.2.2.2.2.2.2.2.2.2.2.2.2.2.2.2.2.2.2.2.2.2.2.2.2.2.2.2.2.2.2.2.2.2.2.2.2.2.2.2.2.2.2.2.2.2.2.2.2.2.2.2.2.2.2.2.2.2.2.2.2.2.2.2.2.2.2.2.2.2.2.2.2.2.2.2.1
theorem dX1_spread_153 : decode cX1_spread 153 = .ok (.iconst 0, 1) := DX1_spread.2.2.2.2.2.2.2.2.2.2.2.2.2.2.2.2.2.2.2.2.2.2.2.2.2.2.2.2.2.2.2.2.2.2.2.2.2.2.2.2.2.2.2.2.2.2.2.2.2.2.2.2.2.2.2.2.2.2.2.2.2.2.2.2.2.2.2.2.2.2.2.2.2.2.2.2.2.1
theorem dX1_spread_154 : decode cX1_spread 154 = .ok (.ior, 1) := DX1_spread.2.2.2.2.2.2.2.2.2.2.2.2.2.2.2.2.2.2.2.2.2.2.2.2.2.2.2.2.2.2.2.2.2.2.2.2.2.2.2.2.2.2.2.2.2.2.2.2.2.2.2.2.2.2.2.2.2.2.2.2.2.2.2.2.2.2.2.2.2.2.2.2.2.2.2.2.2.2.1
theorem dX1_spread_155 : decode cX1_spread 155 = .ok (.istore_n 3, 1) := DX1_spread.2.2.2.2.2.2.2.2.2.2.2.2.2.2.2.2.2.2.2.2.2.2.2.2.2.2.2.2.2.2.2.2.2.2.2.2.2.2.2.2.2.2.2.2.2.2.2.2.2.2.2.2.2.2.2.2.2.2.2.2.2.2.2.2.2.2.2.2.2.2.2.2.2.2.2.2.2.2.2.1
theorem dX1_spread_156 : decode cX1_spread 156 = .ok (.aload_n 0, 1) := DX1_spread.2.2.2.2.2.2.2.2.2.2.2.2.2.2.2.2.2.2.2.2.2.2.2.2.2.2.2.2.2.2.2.2.2.2.2.2.2.2.2.2.2.2.2.2.2.2.2.2.2.2.2.2.2.2.2.2.2.2.2.2.2.2.2.2.2.2.2.2.2.2.2.2.2.2.2.2.2.2.2.2.1
theorem dX1_spread_157 : decode cX1_spread 157 = .ok (.getfield 45, 3) := DX1_spread.2.2.2.2.2.2.2.2.2.2.2.2.2.2.2.2.2.2.2.2.2.2.2.2.2.2.2.2.2.2.2.2.2.2.2.2.2.2.2.2.2.2.2.2.2.2.2.2.2.2.2.2.2.2.2.2.2.2.2.2.2.2.2.2.2.2.2.2.2.2.2.2.2.2.2.2.2.2.2.2.2.1
theorem dX1_spread_160 : decode cX1_spread 160 = .ok (.iload 8, 2) := DX1_spread.2.2.2.2.2.2.2.2.2.2.2.2.2.2.2.2.2.2.2.2.2.2.2.2.2.2.2.2.2.2.2.2.2.2.2.2.2.2.2.2.2.2.2.2.2.2.2.2.2.2.2.2.2.2.2.2.2.2.2.2.2.2.2.2.2.2.2.2.2.2.2.2.2.2.2.2.2.2.2.2.2.2.1
theorem dX1_spread_162 : decode cX1_spread 162 = .ok (.iload_n 2, 1) := DX1_spread.2.2.2.2.2.2.2.2.2.2.2.2.2.2.2.2.2.2.2.2.2.2.2.2.2.2.2.2.2.2.2.2.2.2.2.2.2.2.2.2.2.2.2.2.2.2.2.2.2.2.2.2.2.2.2.2.2.2.2.2.2.2.2.2.2.2.2.2.2.2.2.2.2.2.2.2.2.2.2.2.2.2.2.1
theorem dX1_spread_163 : decode cX1_spread 163 = .ok (.iastore, 1) := DX1_spread.2.2.2.2.2.2.2.2.2.2.2.2.2.2.2.2.2.2.2.2.2.2.2.2.2.2.2.2.2.2.2.2.2.2.2.2.2.2.2.2.2.2.2.2.2.2.2.2.2.2.2.2.2.2.2.2.2.2.2.2.2.2.2.2.2.2.2.2.2.2.2.2.2.2.2.2.2.2.2.2.2.2.2.2.1
theorem dX1_spread_164 : decode cX1_spread 164 = .ok (.iinc 7 1, 3) := DX1_spread.2.2.2.2.2.2.2.2.2.2.2.2.2.2.2.2.2.2.2.2.2.2.2.2.2.2.2.2.2.2.2.2.2.2.2.2.2.2.2.2.2.2.2.2.2.2.2.2.2.2.2.2.2.2.2.2.2.2.2.2.2.2.2.2.2.2.2.2.2.2.2.2.2.2.2.2.2.2.2.2.2.2.2.2.2.1
theorem dX1_spread_167 : decode cX1_spread 167 = .ok (.goto (-61), 3) := DX1_spread.2.2.2.2.2.2.2.2.2.2.2.2.2.2.2.2.2.2.2.2.2.2.2.2.2.2.2.2.2.2.2.2.2.2.2.2.2.2.2.2.2.2.2.2.2.2.2.2.2.2.2.2.2.2.2.2.2.2.2.2.2.2.2.2.2.2.2.2.2.2.2.2.2.2.2.2.2.2.2.2.2.2.2.2.2.2.1
theorem dX1_spread_170 : decode cX1_spread 170 = .ok (.iinc 4 1, 3) := DX1_spread.2.2.2.2.2.2.2.2.2.2.2.2.2.2.2.2.2.2.2.2.2.2.2.2.2.2.2.2.2.2.2.2.2.2.2.2.2.2.2.2.2.2.2.2.2.2.2.2.2.2.2.2.2.2.2.2.2.2.2.2.2.2.2.2.2.2.2.2.2.2.2.2.2.2.2.2.2.2.2.2.2.2.2.2.2.2.2.1
theorem dX1_spread_173 : decode cX1_spread 173 = .ok (.goto (-155), 3) := DX1_spread.2.2.2.2.2.2.2.2.2.2.2.2.2.2.2.2.2.2.2.2.2.2.2.2.2.2.2.2.2.2.2.2.2.2.2.2.2.2.2.2.2.2.2.2.2.2.2.2.2.2.2.2.2.2.2.2.2.2.2.2.2.2.2.2.2.2.2.2.2.2.2.2.2.2.2.2.2.2.2.2.2.2.2.2.2.2.2.2.1
theorem dX1_spread_176 : decode cX1_spread 176 = .ok (.goto (-167), 3) := DX1_spread.2.2.2.2.2.2.2.2.2.2.2.2.2.2.2.2.2.2.2.2.2.2.2.2.2.2.2.2.2.2.2.2.2.2.2.2.2.2.2.2.2.2.2.2.2.2.2.2.2.2.2.2.2.2.2.2.2.2.2.2.2.2.2.2.2.2.2.2.2.2.2.2.2.2.2.2.2.2.2.2.2.2.2.2.2.2.2.2.2.1
theorem dX1_spread_179 : decode cX1_spread 179 = .ok (.return_, 1) := DX1_spread.2.2.2.2.2.2.2.2.2.2.2.2.2.2.2.2.2.2.2.2.2.2.2.2.2.2.2.2.2.2.2.2.2.2.2.2.2.2.2.2.2.2.2.2.2.2.2.2.2.2.2.2.2.2.2.2.2.2.2.2.2.2.2.2.2.2.2.2.2.2.2.2.2.2.2.2.2.2.2.2.2.2.2.2.2.2.2.2.2.2
theorem dX1_bridges_0 : decode cX1_bridges 0 = .ok (.iconst 0, 1) := DX1_bridges.1
theorem dX1_bridges_1 : decode cX1_bridges 1 = .ok (.istore_n 1, 1) := DX1_bridges.2.1
theorem dX1_bridges_2 : decode cX1_bridges 2 = .ok (.iconst 0, 1) := DX1_bridges.2.2.1
theorem dX1_bridges_3 : decode cX1_bridges 3 = .ok (.istore_n 2, 1) := DX1_bridges.2.2.2.1
theorem dX1_bridges_4 : decode cX1_bridges 4 = .ok (.iload_n 2, 1) := DX1_bridges.2.2.2.2.1
theorem dX1_bridges_5 : decode cX1_bridges 5 = .ok (.bipush 60, 2) := DX1_bridges.2.2.2.2.2.1
theorem dX1_bridges_7 : decode cX1_bridges 7 = .ok (.if_icmp .ge 59, 3) := DX1_bridges.2.2.2.2.2.2.1
theorem dX1_bridges_10 : decode cX1_bridges 10 = .ok (.iload_n 1, 1) := DX1_bridges.2.2.2.2.2.2.2.1
theorem dX1_bridges_11 : decode cX1_bridges 11 = .ok (.aload_n 0, 1) := DX1_bridges.2.2.2.2.2.2.2.2.1
theorem dX1_bridges_12 : decode cX1_bridges 12 = .ok (.getfield 7, 3) := DX1_bridges.2.2.2.2.2.2.2.2.2.1
theorem dX1_bridges_15 : decode cX1_bridges 15 = .ok (.iload_n 2, 1) := DX1_bridges.2.2.2.2.2.2.2.2.2.2.1
theorem dX1_bridges_16 : decode cX1_bridges 16 = .ok (.baload, 1) := DX1_bridges.2.2.2.2.2.2.2.2.2.2.2.1
theorem dX1_bridges_17 : decode cX1_bridges 17 = .ok (.ifCond .eq 40, 3) := DX1_bridges.2.2.2.2.2.2.2.2.2.2.2.2.1
theorem dX1_bridges_20 : decode cX1_bridges 20 = .ok (.aload_n 0, 1) := DX1_bridges.2.2.2.2.2.2.2.2.2.2.2.2.2.1
theorem dX1_bridges_21 : decode cX1_bridges 21 = .ok (.getfield 35, 3) := DX1_bridges.2.2.2.2.2.2.2.2.2.2.2.2.2.2.1
theorem dX1_bridges_24 : decode cX1_bridges 24 = .ok (.iconst 2, 1) := DX1_bridges.2.2.2.2.2.2.2.2.2.2.2.2.2.2.2.1
theorem dX1_bridges_25 : decode cX1_bridges 25 = .ok (.iload_n 2, 1) := DX1_bridges.2.2.2.2.2.2.2.2.2.2.2.2.2.2.2.2.1
theorem dX1_bridges_26 : decode cX1_bridges 26 = .ok (.imul, 1) := DX1_bridges.2.2.2.2.2.2.2.2.2.2.2.2.2.2.2.2.2.1
theorem dX1_bridges_27 : decode cX1_bridges 27 = .ok (.aaload, 1) := DX1_bridges.2.2.2.2.2.2.2.2.2.2.2.2.2.2.2.2.2.2.1
theorem dX1_bridges_28 : decode cX1_bridges 28 = .ok (.getfield 160, 3) := DX1_bridges.2.2.2.2.2.2.2.2.2.2.2.2.2.2.2.2.2.2.2.1
theorem dX1_bridges_31 : decode cX1_bridges 31 = .ok (.getfield 198, 3) := DX1_bridges.2.2.2.2.2.2.2.2.2.2.2.2.2.2.2.2.2.2.2.2.1
theorem dX1_bridges_34 : decode cX1_bridges 34 = .ok (.aload_n 0, 1) := DX1_bridges.2.2.2.2.2.2.2.2.2.2.2.2.2.2.2.2.2.2.2.2.2.1
theorem dX1_bridges_35 : decode cX1_bridges 35 = .ok (.getfield 35, 3) := DX1_bridges.2.2.2.2.2.2.2.2.2.2.2.2.2.2.2.2.2.2.2.2.2.2.1
theorem dX1_bridges_38 : decode cX1_bridges 38 = .ok (.iconst 2, 1) := DX1_bridges.2.2.2.2.2.2.2.2.2.2.2.2.2.2.2.2.2.2.2.2.2.2.2.1
theorem dX1_bridges_39 : decode cX1_bridges 39 = .ok (.iload_n 2, 1) := DX1_bridges.2.2.2.2.2.2.2.2.2.2.2.2.2.2.2.2.2.2.2.2.2.2.2.2.1
theorem dX1_bridges_40 : decode cX1_bridges 40 = .ok (.imul, 1) := DX1_bridges.2.2.2.2.2.2.2.2.2.2.2.2.2.2.2.2.2.2.2.2.2.2.2.2.2.1
theorem dX1_bridges_41 : decode cX1_bridges 41 = .ok (.iconst 1, 1) := DX1_bridges.2.2.2.2.2.2.2.2.2.2.2.2.2.2.2.2.2.2.2.2.2.2.2.2.2.2.1
theorem dX1_bridges_42 : decode cX1_bridges 42 = .ok (.iadd, 1) := DX1_bridges.2.2.2.2.2.2.2.2.2.2.2.2.2.2.2.2.2.2.2.2.2.2.2.2.2.2.2.1
theorem dX1_bridges_43 : decode cX1_bridges 43 = .ok (.aaload, 1) := DX1_bridges.2.2.2.2.2.2.2.2.2.2.2.2.2.2.2.2.2.2.2.2.2.2.2.2.2.2.2.2.1
theorem dX1_bridges_44 : decode cX1_bridges 44 = .ok (.getfield 160, 3) := DX1_bridges.2.2.2.2.2.2.2.2.2.2.2.2.2.2.2.2.2.2.2.2.2.2.2.2.2.2.2.2.2.1
theorem dX1_bridges_47 : decode cX1_bridges 47 = .ok (.getfield 198, 3) := DX1_bridges.2.2.2.2.2.2.2.2.2.2.2.2.2.2.2.2.2.2.2.2.2.2.2.2.2.2.2.2.2.2.1
theorem dX1_bridges_50 : decode cX1_bridges 50 = .ok (.if_acmp .ne 7, 3) := DX1_bridges.2.2.2.2.2.2.2.2.2.2.2.2.2.2.2.2.2.2.2.2.2.2.2.2.2.2.2.2.2.2.2.1
theorem dX1_bridges_53 : decode cX1_bridges 53 = .ok (.iconst 1, 1) := DX1_bridges.2.2.2.2.2.2.2.2.2.2.2.2.2.2.2.2.2.2.2.2.2.2.2.2.2.2.2.2.2.2.2.2.1
theorem dX1_bridges_54 : decode cX1_bridges 54 = .ok (.goto 4, 3) := DX1_bridges.2.2.2.2.2.2.2.2.2.2.2.2.2.2.2.2.2.2.2.2.2.2.2.2.2.2.2.2.2.2.2.2.2.1
theorem dX1_bridges_57 : decode cX1_bridges 57 = .ok (.iconst 0, 1) := DX1_bridges.2.2.2.2.2.2.2.2.2.2.2.2.2.2.2.2.2.2.2.2.2.2.2.2.2.2.2.2.2.2.2.2.2.2.1
theorem dX1_bridges_58 : decode cX1_bridges 58 = .ok (.iadd, 1) := DX1_bridges.2.2.2.2.2.2.2.2.2.2.2.2.2.2.2.2.2.2.2.2.2.2.2.2.2.2.2.2.2.2.2.2.2.2.2.1
theorem dX1_bridges_59 : decode cX1_bridges 59 = .ok (.istore_n 1, 1) := DX1_bridges.2.2.2.2.2.2.2.2.2.2.2.2.2.2.2.2.2.2.2.2.2.2.2.2.2.2.2.2.2.2.2.2.2.2.2.2.1
theorem dX1_bridges_60 : decode cX1_bridges 60 = .ok (.iinc 2 1, 3) := DX1_bridges.2.2.2.2.2.2.2.2.2.2.2.2.2.2.2.2.2.2.2.2.2.2.2.2.2.2.2.2.2.2.2.2.2.2.2.2.2.1
theorem dX1_bridges_63 : decode cX1_bridges 63 = .ok (.goto (-59), 3) := DX1_bridges.2.2.2.2.2.2.2.2.2.2.2.2.2.2.2.2.2.2.2.2.2.2.2.2.2.2.2.2.2.2.2.2.2.2.2.2.2.2.1
theorem dX1_bridges_66 : decode cX1_bridges 66 = .ok (.iload_n 1, 1) := DX1_bridges.2.2.2.2.2.2.2.2.2.2.2.2.2.2.2.2.2.2.2.2.2.2.2.2.2.2.2.2.2.2.2.2.2.2.2.2.2.2.2.1
theorem dX1_bridges_67 : decode cX1_bridges 67 = .ok (.ireturn, 1) := DX1_bridges.2.2.2.2.2.2.2.2.2.2.2.2.2.2.2.2.2.2.2.2.2.2.2.2.2.2.2.2.2.2.2.2.2.2.2.2.2.2.2.2
theorem dX1_add_0 : decode cX1_add 0 = .ok (.iload_n 1, 1) := DX1_add.1
theorem dX1_add_1 : decode cX1_add 1 = .ok (.invokestatic 87, 3) := DX1_add.2.1
theorem dX1_add_4 : decode cX1_add 4 = .ok (.ifCond .eq 40, 3) := DX1_add.2.2.1
theorem dX1_add_7 : decode cX1_add 7 = .ok (.iload_n 2, 1) := DX1_add.2.2.2.1
theorem dX1_add_8 : decode cX1_add 8 = .ok (.invokestatic 87, 3) := DX1_add.2.2.2.2.1
theorem dX1_add_11 : decode cX1_add 11 = .ok (.ifCond .eq 33, 3) := DX1_add.2.2.2.2.2.1
theorem dX1_add_14 : decode cX1_add 14 = .ok (.iload_n 3, 1) := DX1_add.2.2.2.2.2.2.1
theorem dX1_add_15 : decode cX1_add 15 = .ok (.invokestatic 87, 3) := DX1_add.2.2.2.2.2.2.2.1
theorem dX1_add_18 : decode cX1_add 18 = .ok (.ifCond .eq 26, 3) := DX1_add.2.2.2.2.2.2.2.2.1
theorem dX1_add_21 : decode cX1_add 21 = .ok (.iload 4, 2) := DX1_add.2.2.2.2.2.2.2.2.2.1
theorem dX1_add_23 : decode cX1_add 23 = .ok (.invokestatic 87, 3) := DX1_add.2.2.2.2.2.2.2.2.2.2.1
theorem dX1_add_26 : decode cX1_add 26 = .ok (.ifCond .eq 18, 3) := DX1_add.2.2.2.2.2.2.2.2.2.2.2.1
theorem dX1_add_29 : decode cX1_add 29 = .ok (.iload_n 1, 1) := DX1_add.2.2.2.2.2.2.2.2.2.2.2.2.1
theorem dX1_add_30 : decode cX1_add 30 = .ok (.iload_n 3, 1) := DX1_add.2.2.2.2.2.2.2.2.2.2.2.2.2.1
theorem dX1_add_31 : decode cX1_add 31 = .ok (.if_icmp .ne 9, 3) := DX1_add.2.2.2.2.2.2.2.2.2.2.2.2.2.2.1
theorem dX1_add_34 : decode cX1_add 34 = .ok (.iload_n 2, 1) := DX1_add.2.2.2.2.2.2.2.2.2.2.2.2.2.2.2.1
theorem dX1_add_35 : decode cX1_add 35 = .ok (.iload 4, 2) := DX1_add.2.2.2.2.2.2.2.2.2.2.2.2.2.2.2.2.1
theorem dX1_add_37 : decode cX1_add 37 = .ok (.if_icmp .eq 7, 3) := DX1_add.2.2.2.2.2.2.2.2.2.2.2.2.2.2.2.2.2.1
theorem dX1_add_40 : decode cX1_add 40 = .ok (.iconst 1, 1) := DX1_add.2.2.2.2.2.2.2.2.2.2.2.2.2.2.2.2.2.2.1
theorem dX1_add_41 : decode cX1_add 41 = .ok (.goto 4, 3) := DX1_add.2.2.2.2.2.2.2.2.2.2.2.2.2.2.2.2.2.2.2.1
theorem dX1_add_44 : decode cX1_add 44 = .ok (.iconst 0, 1) := DX1_add.2.2.2.2.2.2.2.2.2.2.2.2.2.2.2.2.2.2.2.2.1
theorem dX1_add_45 : decode cX1_add 45 = .ok (.invokestatic 91, 3) := DX1_add.2.2.2.2.2.2.2.2.2.2.2.2.2.2.2.2.2.2.2.2.2.1
theorem dX1_add_48 : decode cX1_add 48 = .ok (.aload_n 0, 1) := DX1_add.2.2.2.2.2.2.2.2.2.2.2.2.2.2.2.2.2.2.2.2.2.2.1
theorem dX1_add_49 : decode cX1_add 49 = .ok (.getfield 95, 3) := DX1_add.2.2.2.2.2.2.2.2.2.2.2.2.2.2.2.2.2.2.2.2.2.2.2.1
theorem dX1_add_52 : decode cX1_add 52 = .ok (.bipush 60, 2) := DX1_add.2.2.2.2.2.2.2.2.2.2.2.2.2.2.2.2.2.2.2.2.2.2.2.2.1
theorem dX1_add_54 : decode cX1_add 54 = .ok (.if_icmp .ne 11, 3) := DX1_add.2.2.2.2.2.2.2.2.2.2.2.2.2.2.2.2.2.2.2.2.2.2.2.2.2.1
theorem dX1_add_57 : decode cX1_add 57 = .ok (.new 99, 3) := DX1_add.2.2.2.2.2.2.2.2.2.2.2.2.2.2.2.2.2.2.2.2.2.2.2.2.2.2.1
theorem dX1_add_60 : decode cX1_add 60 = .ok (.dup, 1) := DX1_add.2.2.2.2.2.2.2.2.2.2.2.2.2.2.2.2.2.2.2.2.2.2.2.2.2.2.2.1
theorem dX1_add_61 : decode cX1_add 61 = .ok (.invokespecial 101, 3) := DX1_add.2.2.2.2.2.2.2.2.2.2.2.2.2.2.2.2.2.2.2.2.2.2.2.2.2.2.2.2.1
theorem dX1_add_64 : decode cX1_add 64 = .ok (.athrow, 1) := DX1_add.2.2.2.2.2.2.2.2.2.2.2.2.2.2.2.2.2.2.2.2.2.2.2.2.2.2.2.2.2.1
theorem dX1_add_65 : decode cX1_add 65 = .ok (.iconst 0, 1) := DX1_add.2.2.2.2.2.2.2.2.2.2.2.2.2.2.2.2.2.2.2.2.2.2.2.2.2.2.2.2.2.2.1
theorem dX1_add_66 : decode cX1_add 66 = .ok (.istore 5, 2) := DX1_add.2.2.2.2.2.2.2.2.2.2.2.2.2.2.2.2.2.2.2.2.2.2.2.2.2.2.2.2.2.2.2.1
theorem dX1_add_68 : decode cX1_add 68 = .ok (.aload_n 0, 1) := DX1_add.2.2.2.2.2.2.2.2.2.2.2.2.2.2.2.2.2.2.2.2.2.2.2.2.2.2.2.2.2.2.2.2.1
theorem dX1_add_69 : decode cX1_add 69 = .ok (.getfield 7, 3) := DX1_add.2.2.2.2.2.2.2.2.2.2.2.2.2.2.2.2.2.2.2.2.2.2.2.2.2.2.2.2.2.2.2.2.2.1
theorem dX1_add_72 : decode cX1_add 72 = .ok (.iload 5, 2) := DX1_add.2.2.2.2.2.2.2.2.2.2.2.2.2.2.2.2.2.2.2.2.2.2.2.2.2.2.2.2.2.2.2.2.2.2.1
theorem dX1_add_74 : decode cX1_add 74 = .ok (.baload, 1) := DX1_add.2.2.2.2.2.2.2.2.2.2.2.2.2.2.2.2.2.2.2.2.2.2.2.2.2.2.2.2.2.2.2.2.2.2.2.1
theorem dX1_add_75 : decode cX1_add 75 = .ok (.ifCond .eq 9, 3) := DX1_add.2.2.2.2.2.2.2.2.2.2.2.2.2.2.2.2.2.2.2.2.2.2.2.2.2.2.2.2.2.2.2.2.2.2.2.2.1
theorem dX1_add_78 : decode cX1_add 78 = .ok (.iinc 5 1, 3) := DX1_add.2.2.2.2.2.2.2.2.2.2.2.2.2.2.2.2.2.2.2.2.2.2.2.2.2.2.2.2.2.2.2.2.2.2.2.2.2.1
theorem dX1_add_81 : decode cX1_add 81 = .ok (.goto (-13), 3) := DX1_add.2.2.2.2.2.2.2.2.2.2.2.2.2.2.2.2.2.2.2.2.2.2.2.2.2.2.2.2.2.2.2.2.2.2.2.2.2.2.1
theorem dX1_add_84 : decode cX1_add 84 = .ok (.aload_n 0, 1) := DX1_add.2.2.2.2.2.2.2.2.2.2.2.2.2.2.2.2.2.2.2.2.2.2.2.2.2.2.2.2.2.2.2.2.2.2.2.2.2.2.2.1
theorem dX1_add_85 : decode cX1_add 85 = .ok (.getfield 13, 3) := DX1_add.2.2.2.2.2.2.2.2.2.2.2.2.2.2.2.2.2.2.2.2.2.2.2.2.2.2.2.2.2.2.2.2.2.2.2.2.2.2.2.2.1
theorem dX1_add_88 : decode cX1_add 88 = .ok (.iload 5, 2) := DX1_add.2.2.2.2.2.2.2.2.2.2.2.2.2.2.2.2.2.2.2.2.2.2.2.2.2.2.2.2.2.2.2.2.2.2.2.2.2.2.2.2.2.1
theorem dX1_add_90 : decode cX1_add 90 = .ok (.iload_n 1, 1) := DX1_add.2.2.2.2.2.2.2.2.2.2.2.2.2.2.2.2.2.2.2.2.2.2.2.2.2.2.2.2.2.2.2.2.2.2.2.2.2.2.2.2.2.2.1
theorem dX1_add_91 : decode cX1_add 91 = .ok (.iastore, 1) := DX1_add.2.2.2.2.2.2.2.2.2.2.2.2.2.2.2.2.2.2.2.2.2.2.2.2.2.2.2.2.2.2.2.2.2.2.2.2.2.2.2.2.2.2.2.1
theorem dX1_add_92 : decode cX1_add 92 = .ok (.aload_n 0, 1) := DX1_add.2.2.2.2.2.2.2.2.2.2.2.2.2.2.2.2.2.2.2.2.2.2.2.2.2.2.2.2.2.2.2.2.2.2.2.2.2.2.2.2.2.2.2.2.1
theorem dX1_add_93 : decode cX1_add 93 = .ok (.getfield 17, 3) := DX1_add.2.2.2.2.2.2.2.2.2.2.2.2.2.2.2.2.2.2.2.2.2.2.2.2.2.2.2.2.2.2.2.2.2.2.2.2.2.2.2.2.2.2.2.2.2.1
theorem dX1_add_96 : decode cX1_add 96 = .ok (.iload 5, 2) := DX1_add.2.2.2.2.2.2.2.2.2.2.2.2.2.2.2.2.2.2.2.2.2.2.2.2.2.2.2.2.2.2.2.2.2.2.2.2.2.2.2.2.2.2.2.2.2.2.1
theorem dX1_add_98 : decode cX1_add 98 = .ok (.iload_n 2, 1) := DX1_add.2.2.2.2.2.2.2.2.2.2.2.2.2.2.2.2.2.2.2.2.2.2.2.2.2.2.2.2.2.2.2.2.2.2.2.2.2.2.2.2.2.2.2.2.2.2.2.1
theorem dX1_add_99 : decode cX1_add 99 = .ok (.iastore, 1) := DX1_add.2.2.2.2.2.2.2.2.2.2.2.2.2.2.2.2.2.2.2.2.2.2.2.2.2.2.2.2.2.2.2.2.2.2.2.2.2.2.2.2.2.2.2.2.2.2.2.2.1
theorem dX1_add_100 : decode cX1_add 100 = .ok (.aload_n 0, 1) := DX1_add.2.2.2.2.2.2.2.2.2.2.2.2.2.2.2.2.2.2.2.2.2.2.2.2.2.2.2.2.2.2.2.2.2.2.2.2.2.2.2.2.2.2.2.2.2.2.2.2.2.1
theorem dX1_add_101 : decode cX1_add 101 = .ok (.getfield 20, 3) := DX1_add.2.2.2.2.2.2.2.2.2.2.2.2.2.2.2.2.2.2.2.2.2.2.2.2.2.2.2.2.2.2.2.2.2.2.2.2.2.2.2.2.2.2.2.2.2.2.2.2.2.2.1
theorem dX1_add_104 : decode cX1_add 104 = .ok (.iload 5, 2) := DX1_add.2.2.2.2.2.2.2.2.2.2.2.2.2.2.2.2.2.2.2.2.2.2.2.2.2.2.2.2.2.2.2.2.2.2.2.2.2.2.2.2.2.2.2.2.2.2.2.2.2.2.2.1
theorem dX1_add_106 : decode cX1_add 106 = .ok (.iload_n 3, 1) := DX1_add.2.2.2.2.2.2.2.2.2.2.2.2.2.2.2.2.2.2.2.2.2.2.2.2.2.2.2.2.2.2.2.2.2.2.2.2.2.2.2.2.2.2.2.2.2.2.2.2.2.2.2.2.1
theorem dX1_add_107 : decode cX1_add 107 = .ok (.iastore, 1) := DX1_add.2.2.2.2.2.2.2.2.2.2.2.2.2.2.2.2.2.2.2.2.2.2.2.2.2.2.2.2.2.2.2.2.2.2.2.2.2.2.2.2.2.2.2.2.2.2.2.2.2.2.2.2.2.1
theorem dX1_add_108 : decode cX1_add 108 = .ok (.aload_n 0, 1) := DX1_add.2.2.2.2.2.2.2.2.2.2.2.2.2.2.2.2.2.2.2.2.2.2.2.2.2.2.2.2.2.2.2.2.2.2.2.2.2.2.2.2.2.2.2.2.2.2.2.2.2.2.2.2.2.2.1
theorem dX1_add_109 : decode cX1_add 109 = .ok (.getfield 23, 3) := DX1_add.2.2.2.2.2.2.2.2.2.2.2.2.2.2.2.2.2.2.2.2.2.2.2.2.2.2.2.2.2.2.2.2.2.2.2.2.2.2.2.2.2.2.2.2.2.2.2.2.2.2.2.2.2.2.2.1
theorem dX1_add_112 : decode cX1_add 112 = .ok (.iload 5, 2) := DX1_add.2.2.2.2.2.2.2.2.2.2.2.2.2.2.2.2.2.2.2.2.2.2.2.2.2.2.2.2.2.2.2.2.2.2.2.2.2.2.2.2.2.2.2.2.2.2.2.2.2.2.2.2.2.2.2.2.1
theorem dX1_add_114 : decode cX1_add 114 = .ok (.iload 4, 2) := DX1_add.2.2.2.2.2.2.2.2.2.2.2.2.2.2.2.2.2.2.2.2.2.2.2.2.2.2.2.2.2.2.2.2.2.2.2.2.2.2.2.2.2.2.2.2.2.2.2.2.2.2.2.2.2.2.2.2.2.1
theorem dX1_add_116 : decode cX1_add 116 = .ok (.iastore, 1) := DX1_add.2.2.2.2.2.2.2.2.2.2.2.2.2.2.2.2.2.2.2.2.2.2.2.2.2.2.2.2.2.2.2.2.2.2.2.2.2.2.2.2.2.2.2.2.2.2.2.2.2.2.2.2.2.2.2.2.2.2.1
theorem dX1_add_117 : decode cX1_add 117 = .ok (.iconst 0, 1) := DX1_add.2.2.2.2.2.2.2.2.2.2.2.2.2.2.2.2.2.2.2.2.2.2.2.2.2.2.2.2.2.2.2.2.2.2.2.2.2.2.2.2.2.2.2.2.2.2.2.2.2.2.2.2.2.2.2.2.2.2.2.1
theorem dX1_add_118 : decode cX1_add 118 = .ok (.istore 6, 2) := DX1_add.2.2.2.2.2.2.2.2.2.2.2.2.2.2.2.2.2.2.2.2.2.2.2.2.2.2.2.2.2.2.2.2.2.2.2.2.2.2.2.2.2.2.2.2.2.2.2.2.2.2.2.2.2.2.2.2.2.2.2.2.1
theorem dX1_add_120 : decode cX1_add 120 = .ok (.iload 6, 2) := DX1_add.2.2.2.2.2.2.2.2.2.2.2.2.2.2.2.2.2.2.2.2.2.2.2.2.2.2.2.2.2.2.2.2.2.2.2.2.2.2.2.2.2.2.2.2.2.2.2.2.2.2.2.2.2.2.2.2.2.2.2.2.2.1
theorem dX1_add_122 : decode cX1_add 122 = .ok (.bipush 60, 2) := DX1_add.2.2.2.2.2.2.2.2.2.2.2.2.2.2.2.2.2.2.2.2.2.2.2.2.2.2.2.2.2.2.2.2.2.2.2.2.2.2.2.2.2.2.2.2.2.2.2.2.2.2.2.2.2.2.2.2.2.2.2.2.2.2.1
theorem dX1_add_124 : decode cX1_add 124 = .ok (.if_icmp .ge 32, 3) := DX1_add.2.2.2.2.2.2.2.2.2.2.2.2.2.2.2.2.2.2.2.2.2.2.2.2.2.2.2.2.2.2.2.2.2.2.2.2.2.2.2.2.2.2.2.2.2.2.2.2.2.2.2.2.2.2.2.2.2.2.2.2.2.2.2.1
theorem dX1_add_127 : decode cX1_add 127 = .ok (.aload_n 0, 1) := DX1_add.2.2.2.2.2.2.2.2.2.2.2.2.2.2.2.2.2.2.2.2.2.2.2.2.2.2.2.2.2.2.2.2.2.2.2.2.2.2.2.2.2.2.2.2.2.2.2.2.2.2.2.2.2.2.2.2.2.2.2.2.2.2.2.2.1
theorem dX1_add_128 : decode cX1_add 128 = .ok (.getfield 7, 3) := DX1_add.2.2.2.2.2.2.2.2.2.2.2.2.2.2.2.2.2.2.2.2.2.2.2.2.2.2.2.2.2.2.2.2.2.2.2.2.2.2.2.2.2.2.2.2.2.2.2.2.2.2.2.2.2.2.2.2.2.2.2.2.2.2.2.2.2.1
theorem dX1_add_131 : decode cX1_add 131 = .ok (.iload 6, 2) := DX1_add.2.2.2.2.2.2.2.2.2.2.2.2.2.2.2.2.2.2.2.2.2.2.2.2.2.2.2.2.2.2.2.2.2.2.2.2.2.2.2.2.2.2.2.2.2.2.2.2.2.2.2.2.2.2.2.2.2.2.2.2.2.2.2.2.2.2.1
theorem dX1_add_133 : decode cX1_add 133 = .ok (.baload, 1) := DX1_add.2.2.2.2.2.2.2.2.2.2.2.2.2.2.2.2.2.2.2.2.2.2.2.2.2.2.2.2.2.2.2.2.2.2.2.2.2.2.2.2.2.2.2.2.2.2.2.2.2.2.2.2.2.2.2.2.2.2.2.2.2.2.2.2.2.2.2.1
theorem dX1_add_134 : decode cX1_add 134 = .ok (.ifCond .eq 16, 3) := DX1_add.2.2.2.2.2.2.2.2.2.2.2.2.2.2.2.2.2.2.2.2.2.2.2.2.2.2.2.2.2.2.2.2.2.2.2.2.2.2.2.2.2.2.2.2.2.2.2.2.2.2.2.2.2.2.2.2.2.2.2.2.2.2.2.2.2.2.2.2.1
theorem dX1_add_137 : decode cX1_add 137 = .ok (.aload_n 0, 1) := DX1_add.2.2.2.2.2.2.2.2.2.2.2.2.2.2.2.2.2.2.2.2.2.2.2.2.2.2.2.2.2.2.2.2.2.2.2.2.2.2.2.2.2.2.2.2.2.2.2.2.2.2.2.2.2.2.2.2.2.2.2.2.2.2.2.2.2.2.2.2.2.1
theorem dX1_add_138 : decode cX1_add 138 = .ok (.iload 5, 2) := DX1_add.2.2.2.2.2.2.2.2.2.2.2.2.2.2.2.2.2.2.2.2.2.2.2.2.2.2.2.2.2.2.2.2.2.2.2.2.2.2.2.2.2.2.2.2.2.2.2.2.2.2.2.2.2.2.2.2.2.2.2.2.2.2.2.2.2.2.2.2.2.2.1
theorem dX1_add_140 : decode cX1_add 140 = .ok (.iload 6, 2) := DX1_add.2.2.2.2.2.2.2.2.2.2.2.2.2.2.2.2.2.2.2.2.2.2.2.2.2.2.2.2.2.2.2.2.2.2.2.2.2.2.2.2.2.2.2.2.2.2.2.2.2.2.2.2.2.2.2.2.2.2.2.2.2.2.2.2.2.2.2.2.2.2.2.1
theorem dX1_add_142 : decode cX1_add 142 = .ok (.invokevirtual 102, 3) := DX1_add.2.2.2.2.2.2.2.2.2.2.2.2.2.2.2.2.2.2.2.2.2.2.2.2.2.2.2.2.2.2.2.2.2.2.2.2.2.2.2.2.2.2.2.2.2.2.2.2.2.2.2.2.2.2.2.2.2.2.2.2.2.2.2.2.2.2.2.2.2.2.2.2.1
theorem dX1_add_145 : decode cX1_add 145 = .ok (.ifCond .eq 5, 3) := DX1_add.2.2.2.2.2.2.2.2.2.2.2.2.2.2.2.2.2.2.2.2.2.2.2.2.2.2.2.2.2.2.2.2.2.2.2.2.2.2.2.2.2.2.2.2.2.2.2.2.2.2.2.2.2.2.2.2.2.2.2.2.2.2.2.2.2.2.2.2.2.2.2.2.2.1
theorem dX1_add_148 : decode cX1_add 148 = .ok (.iconst (-1), 1) := DX1_add.2.2.2.2.2.2.2.2.2.2.2.2.2.2.2.2.2.2.2.2.2.2.2.2.2.2.2.2.2.2.2.2.2.2.2.2.2.2.2.2.2.2.2.2.2.2.2.2.2.2.2.2.2.2.2.2.2.2.2.2.2.2.2.2.2.2.2.2.2.2.2.2.2.2.1
theorem dX1_add_149 : decode cX1_add 149 = .ok (.ireturn, 1) := DX1_add.2.2.2.2.2.2.2.2.2.2.2.2.2.2.2.2.2.2.2.2.2.2.2.2.2.2.2.2.2.2.2.2.2.2.2.2.2.2.2.2.2.2.2.2.2.2.2.2.2.2.2.2.2.2.2.2.2.2.2.2.2.2.2.2.2.2.2.2.2.2.2.2.2.2.2.1
theorem dX1_add_150 : decode cX1_add 150 = .ok (.iinc 6 1, 3) := DX1_add.2.2.2.2.2.2.2.2.2.2.2.2.2.2.2.2.2.2.2.2.2.2.2.2.2.2.2.2.2.2.2.2.2.2.2.2.2.2.2.2.2.2.2.2.2.2.2.2.2.2.2.2.2.2.2.2.2.2.2.2.2.2.2.2.2.2.2.2.2.2.2.2.2.2.2.2.1
theorem dX1_add_153 : decode cX1_add 153 = .ok (.goto (-33), 3) := DX1_add.2.2.2.2.2.2.2.2.2.2.2.2.2.2.2.2.2.2.2.2.2.2.2.2.2.2.2.2.2.2.2.2.2.2.2.2.2.2.2.2.2.2.2.2.2.2.2.2.2.2.2.2.2.2.2.2.2.2.2.2.2.2.2.2.2.2.2.2.2.2.2.2.2.2.2.2.2.1
theorem dX1_add_156 : decode cX1_add 156 = .ok (.aload_n 0, 1) := DX1_add.2.2.2.2.2.2.2.2.2.2.2.2.2.2.2.2.2.2.2.2.2.2.2.2.2.2.2.2.2.2.2.2.2.2.2.2.2.2.2.2.2.2.2.2.2.2.2.2.2.2.2.2.2.2.2.2.2.2.2.2.2.2.2.2.2.2.2.2.2.2.2.2.2.2.2.2.2.2.1
theorem dX1_add_157 : decode cX1_add 157 = .ok (.getfield 7, 3) := DX1_add.2.2.2.2.2.2.2.2.2.2.2.2.2.2.2.2.2.2.2.2.2.2.2.2.2.2.2.2.2.2.2.2.2.2.2.2.2.2.2.2.2.2.2.2.2.2.2.2.2.2.2.2.2.2.2.2.2.2.2.2.2.2.2.2.2.2.2.2.2.2.2.2.2.2.2.2.2.2.2.1
theorem dX1_add_160 : decode cX1_add 160 = .ok (.iload 5, 2) := DX1_add.2.2.2.2.2.2.2.2.2.2.2.2.2.2.2.2.2.2.2.2.2.2.2.2.2.2.2.2.2.2.2.2.2.2.2.2.2.2.2.2.2.2.2.2.2.2.2.2.2.2.2.2.2.2.2.2.2.2.2.2.2.2.2.2.2.2.2.2.2.2.2.2.2.2.2.2.2.2.2.2.1
theorem dX1_add_162 : decode cX1_add 162 = .ok (.iconst 1, 1) := DX1_add.2.2.2.2.2.2.2.2.2.2.2.2.2.2.2.2.2.2.2.2.2.2.2.2.2.2.2.2.2.2.2.2.2.2.2.2.2.2.2.2.2.2.2.2.2.2.2.2.2.2.2.2.2.2.2.2.2.2.2.2.2.2.2.2.2.2.2.2.2.2.2.2.2.2.2.2.2.2.2.2.2.1
theorem dX1_add_163 : decode cX1_add 163 = .ok (.bastore, 1) := DX1_add.2.2.2.2.2.2.2.2.2.2.2.2.2.2.2.2.2.2.2.2.2.2.2.2.2.2.2.2.2.2.2.2.2.2.2.2.2.2.2.2.2.2.2.2.2.2.2.2.2.2.2.2.2.2.2.2.2.2.2.2.2.2.2.2.2.2.2.2.2.2.2.2.2.2.2.2.2.2.2.2.2.2.1
theorem dX1_add_164 : decode cX1_add 164 = .ok (.aload_n 0, 1) := DX1_add.2.2.2.2.2.2.2.2.2.2.2.2.2.2.2.2.2.2.2.2.2.2.2.2.2.2.2.2.2.2.2.2.2.2.2.2.2.2.2.2.2.2.2.2.2.2.2.2.2.2.2.2.2.2.2.2.2.2.2.2.2.2.2.2.2.2.2.2.2.2.2.2.2.2.2.2.2.2.2.2.2.2.2.1
theorem dX1_add_165 : decode cX1_add 165 = .ok (.dup, 1) := DX1_add.2.2.2.2.2.2.2.2.2.2.2.2.2.2.2.2.2.2.2.2.2.2.2.2.2.2.2.2.2.2.2.2.2.2.2.2.2.2.2.2.2.2.2.2.2.2.2.2.2.2.2.2.2.2.2.2.2.2.2.2.2.2.2.2.2.2.2.2.2.2.2.2.2.2.2.2.2.2.2.2.2.2.2.2.1
theorem dX1_add_166 : decode cX1_add 166 = .ok (.getfield 95, 3) := DX1_add.2.2.2.2.2.2.2.2.2.2.2.2.2.2.2.2.2.2.2.2.2.2.2.2.2.2.2.2.2.2.2.2.2.2.2.2.2.2.2.2.2.2.2.2.2.2.2.2.2.2.2.2.2.2.2.2.2.2.2.2.2.2.2.2.2.2.2.2.2.2.2.2.2.2.2.2.2.2.2.2.2.2.2.2.2.1
theorem dX1_add_169 : decode cX1_add 169 = .ok (.iconst 1, 1) := DX1_add.2.2.2.2.2.2.2.2.2.2.2.2.2.2.2.2.2.2.2.2.2.2.2.2.2.2.2.2.2.2.2.2.2.2.2.2.2.2.2.2.2.2.2.2.2.2.2.2.2.2.2.2.2.2.2.2.2.2.2.2.2.2.2.2.2.2.2.2.2.2.2.2.2.2.2.2.2.2.2.2.2.2.2.2.2.2.1
theorem dX1_add_170 : decode cX1_add 170 = .ok (.iadd, 1) := DX1_add.2.2.2.2.2.2.2.2.2.2.2.2.2.2.2.2.2.2.2.2.2.2.2.2.2.2.2.2.2.2.2.2.2.2.2.2.2.2.2.2.2.2.2.2.2.2.2.2.2.2.2.2.2.2.2.2.2.2.2.2.2.2.2.2.2.2.2.2.2.2.2.2.2.2.2.2.2.2.2.2.2.2.2.2.2.2.2.1
theorem dX1_add_171 : decode cX1_add 171 = .ok (.putfield 95, 3) := DX1_add.2.2.2.2.2.2.2.2.2.2.2.2.2.2.2.2.2.2.2.2.2.2.2.2.2.2.2.2.2.2.2.2.2.2.2.2.2.2.2.2.2.2.2.2.2.2.2.2.2.2.2.2.2.2.2.2.2.2.2.2.2.2.2.2.2.2.2.2.2.2.2.2.2.2.2.2.2.2.2.2.2.2.2.2.2.2.2.2.1
theorem dX1_add_174 : decode cX1_add 174 = .ok (.aload_n 0, 1) := DX1_add.2.2.2.2.2.2.2.2.2.2.2.2.2.2.2.2.2.2.2.2.2.2.2.2.2.2.2.2.2.2.2.2.2.2.2.2.2.2.2.2.2.2.2.2.2.2.2.2.2.2.2.2.2.2.2.2.2.2.2.2.2.2.2.2.2.2.2.2.2.2.2.2.2.2.2.2.2.2.2.2.2.2.2.2.2.2.2.2.2.1
theorem dX1_add_175 : decode cX1_add 175 = .ok (.iconst 0, 1) := DX1_add.2.2.2.2.2.2.2.2.2.2.2.2.2.2.2.2.2.2.2.2.2.2.2.2.2.2.2.2.2.2.2.2.2.2.2.2.2.2.2.2.2.2.2.2.2.2.2.2.2.2.2.2.2.2.2.2.2.2.2.2.2.2.2.2.2.2.2.2.2.2.2.2.2.2.2.2.2.2.2.2.2.2.2.2.2.2.2.2.2.2.1
theorem dX1_add_176 : decode cX1_add 176 = .ok (.putfield 106, 3) := DX1_add.2.2.2.2.2.2.2.2.2.2.2.2.2.2.2.2.2.2.2.2.2.2.2.2.2.2.2.2.2.2.2.2.2.2.2.2.2.2.2.2.2.2.2.2.2.2.2.2.2.2.2.2.2.2.2.2.2.2.2.2.2.2.2.2.2.2.2.2.2.2.2.2.2.2.2.2.2.2.2.2.2.2.2.2.2.2.2.2.2.2.2.1
theorem dX1_add_179 : decode cX1_add 179 = .ok (.iload 5, 2) := DX1_add.2.2.2.2.2.2.2.2.2.2.2.2.2.2.2.2.2.2.2.2.2.2.2.2.2.2.2.2.2.2.2.2.2.2.2.2.2.2.2.2.2.2.2.2.2.2.2.2.2.2.2.2.2.2.2.2.2.2.2.2.2.2.2.2.2.2.2.2.2.2.2.2.2.2.2.2.2.2.2.2.2.2.2.2.2.2.2.2.2.2.2.2.1
theorem dX1_add_181 : decode cX1_add 181 = .ok (.ireturn, 1) := DX1_add.2.2.2.2.2.2.2.2.2.2.2.2.2.2.2.2.2.2.2.2.2.2.2.2.2.2.2.2.2.2.2.2.2.2.2.2.2.2.2.2.2.2.2.2.2.2.2.2.2.2.2.2.2.2.2.2.2.2.2.2.2.2.2.2.2.2.2.2.2.2.2.2.2.2.2.2.2.2.2.2.2.2.2.2.2.2.2.2.2.2.2.2.2
theorem dX1_isIn_0 : decode cX1_isIn 0 = .ok (.iload_n 0, 1) := DX1_isIn.1
theorem dX1_isIn_1 : decode cX1_isIn 1 = .ok (.sipush (-16000), 3) := DX1_isIn.2.1
theorem dX1_isIn_4 : decode cX1_isIn 4 = .ok (.if_icmp .lt 14, 3) := DX1_isIn.2.2.1
theorem dX1_isIn_7 : decode cX1_isIn 7 = .ok (.iload_n 0, 1) := DX1_isIn.2.2.2.1
theorem dX1_isIn_8 : decode cX1_isIn 8 = .ok (.sipush 16000, 3) := DX1_isIn.2.2.2.2.1
theorem dX1_isIn_11 : decode cX1_isIn 11 = .ok (.if_icmp .gt 7, 3) := DX1_isIn.2.2.2.2.2.1
theorem dX1_isIn_14 : decode cX1_isIn 14 = .ok (.iconst 1, 1) := DX1_isIn.2.2.2.2.2.2.1
theorem dX1_isIn_15 : decode cX1_isIn 15 = .ok (.goto 4, 3) := DX1_isIn.2.2.2.2.2.2.2.1
theorem dX1_isIn_18 : decode cX1_isIn 18 = .ok (.iconst 0, 1) := DX1_isIn.2.2.2.2.2.2.2.2.1
theorem dX1_isIn_19 : decode cX1_isIn 19 = .ok (.ireturn, 1) := DX1_isIn.2.2.2.2.2.2.2.2.2
theorem dX1_argue_0 : decode cX1_argue 0 = .ok (.iload_n 0, 1) := DX1_argue.1
theorem dX1_argue_1 : decode cX1_argue 1 = .ok (.ifCond .ne 11, 3) := DX1_argue.2.1
theorem dX1_argue_4 : decode cX1_argue 4 = .ok (.new 54, 3) := DX1_argue.2.2.1
theorem dX1_argue_7 : decode cX1_argue 7 = .ok (.dup, 1) := DX1_argue.2.2.2.1
theorem dX1_argue_8 : decode cX1_argue 8 = .ok (.invokespecial 56, 3) := DX1_argue.2.2.2.2.1
theorem dX1_argue_11 : decode cX1_argue 11 = .ok (.athrow, 1) := DX1_argue.2.2.2.2.2.1
theorem dX1_argue_12 : decode cX1_argue 12 = .ok (.return_, 1) := DX1_argue.2.2.2.2.2.2
theorem dX1_meet_0 : decode cX1_meet 0 = .ok (.aload_n 0, 1) := DX1_meet.1
theorem dX1_meet_1 : decode cX1_meet 1 = .ok (.iload_n 1, 1) := DX1_meet.2.1
theorem dX1_meet_2 : decode cX1_meet 2 = .ok (.aload_n 0, 1) := DX1_meet.2.2.1
theorem dX1_meet_3 : decode cX1_meet 3 = .ok (.getfield 13, 3) := DX1_meet.2.2.2.1
theorem dX1_meet_6 : decode cX1_meet 6 = .ok (.iload_n 2, 1) := DX1_meet.2.2.2.2.1
theorem dX1_meet_7 : decode cX1_meet 7 = .ok (.iaload, 1) := DX1_meet.2.2.2.2.2.1
theorem dX1_meet_8 : decode cX1_meet 8 = .ok (.aload_n 0, 1) := DX1_meet.2.2.2.2.2.2.1
theorem dX1_meet_9 : decode cX1_meet 9 = .ok (.getfield 17, 3) := DX1_meet.2.2.2.2.2.2.2.1
theorem dX1_meet_12 : decode cX1_meet 12 = .ok (.iload_n 2, 1) := DX1_meet.2.2.2.2.2.2.2.2.1
theorem dX1_meet_13 : decode cX1_meet 13 = .ok (.iaload, 1) := DX1_meet.2.2.2.2.2.2.2.2.2.1
theorem dX1_meet_14 : decode cX1_meet 14 = .ok (.invokevirtual 80, 3) := DX1_meet.2.2.2.2.2.2.2.2.2.2.1
theorem dX1_meet_17 : decode cX1_meet 17 = .ok (.ifCond .eq 23, 3) := DX1_meet.2.2.2.2.2.2.2.2.2.2.2.1
theorem dX1_meet_20 : decode cX1_meet 20 = .ok (.aload_n 0, 1) := DX1_meet.2.2.2.2.2.2.2.2.2.2.2.2.1
theorem dX1_meet_21 : decode cX1_meet 21 = .ok (.iload_n 1, 1) := DX1_meet.2.2.2.2.2.2.2.2.2.2.2.2.2.1
theorem dX1_meet_22 : decode cX1_meet 22 = .ok (.aload_n 0, 1) := DX1_meet.2.2.2.2.2.2.2.2.2.2.2.2.2.2.1
theorem dX1_meet_23 : decode cX1_meet 23 = .ok (.getfield 13, 3) := DX1_meet.2.2.2.2.2.2.2.2.2.2.2.2.2.2.2.1
theorem dX1_meet_26 : decode cX1_meet 26 = .ok (.iload_n 2, 1) := DX1_meet.2.2.2.2.2.2.2.2.2.2.2.2.2.2.2.2.1
theorem dX1_meet_27 : decode cX1_meet 27 = .ok (.iaload, 1) := DX1_meet.2.2.2.2.2.2.2.2.2.2.2.2.2.2.2.2.2.1
theorem dX1_meet_28 : decode cX1_meet 28 = .ok (.aload_n 0, 1) := DX1_meet.2.2.2.2.2.2.2.2.2.2.2.2.2.2.2.2.2.2.1
theorem dX1_meet_29 : decode cX1_meet 29 = .ok (.getfield 17, 3) := DX1_meet.2.2.2.2.2.2.2.2.2.2.2.2.2.2.2.2.2.2.2.1
theorem dX1_meet_32 : decode cX1_meet 32 = .ok (.iload_n 2, 1) := DX1_meet.2.2.2.2.2.2.2.2.2.2.2.2.2.2.2.2.2.2.2.2.1
theorem dX1_meet_33 : decode cX1_meet 33 = .ok (.iaload, 1) := DX1_meet.2.2.2.2.2.2.2.2.2.2.2.2.2.2.2.2.2.2.2.2.2.1
theorem dX1_meet_34 : decode cX1_meet 34 = .ok (.invokevirtual 84, 3) := DX1_meet.2.2.2.2.2.2.2.2.2.2.2.2.2.2.2.2.2.2.2.2.2.2.1
theorem dX1_meet_37 : decode cX1_meet 37 = .ok (.ifCond .eq 43, 3) := DX1_meet.2.2.2.2.2.2.2.2.2.2.2.2.2.2.2.2.2.2.2.2.2.2.2.1
theorem dX1_meet_40 : decode cX1_meet 40 = .ok (.aload_n 0, 1) := DX1_meet.2.2.2.2.2.2.2.2.2.2.2.2.2.2.2.2.2.2.2.2.2.2.2.2.1
theorem dX1_meet_41 : decode cX1_meet 41 = .ok (.iload_n 1, 1) := DX1_meet.2.2.2.2.2.2.2.2.2.2.2.2.2.2.2.2.2.2.2.2.2.2.2.2.2.1
theorem dX1_meet_42 : decode cX1_meet 42 = .ok (.aload_n 0, 1) := DX1_meet.2.2.2.2.2.2.2.2.2.2.2.2.2.2.2.2.2.2.2.2.2.2.2.2.2.2.1
theorem dX1_meet_43 : decode cX1_meet 43 = .ok (.getfield 20, 3) := DX1_meet.2.2.2.2.2.2.2.2.2.2.2.2.2.2.2.2.2.2.2.2.2.2.2.2.2.2.2.1
theorem dX1_meet_46 : decode cX1_meet 46 = .ok (.iload_n 2, 1) := DX1_meet.2.2.2.2.2.2.2.2.2.2.2.2.2.2.2.2.2.2.2.2.2.2.2.2.2.2.2.2.1
theorem dX1_meet_47 : decode cX1_meet 47 = .ok (.iaload, 1) := DX1_meet.2.2.2.2.2.2.2.2.2.2.2.2.2.2.2.2.2.2.2.2.2.2.2.2.2.2.2.2.2.1
theorem dX1_meet_48 : decode cX1_meet 48 = .ok (.aload_n 0, 1) := DX1_meet.2.2.2.2.2.2.2.2.2.2.2.2.2.2.2.2.2.2.2.2.2.2.2.2.2.2.2.2.2.2.1
theorem dX1_meet_49 : decode cX1_meet 49 = .ok (.getfield 23, 3) := DX1_meet.2.2.2.2.2.2.2.2.2.2.2.2.2.2.2.2.2.2.2.2.2.2.2.2.2.2.2.2.2.2.2.1
theorem dX1_meet_52 : decode cX1_meet 52 = .ok (.iload_n 2, 1) := DX1_meet.2.2.2.2.2.2.2.2.2.2.2.2.2.2.2.2.2.2.2.2.2.2.2.2.2.2.2.2.2.2.2.2.1
theorem dX1_meet_53 : decode cX1_meet 53 = .ok (.iaload, 1) := DX1_meet.2.2.2.2.2.2.2.2.2.2.2.2.2.2.2.2.2.2.2.2.2.2.2.2.2.2.2.2.2.2.2.2.2.1
theorem dX1_meet_54 : decode cX1_meet 54 = .ok (.invokevirtual 80, 3) := DX1_meet.2.2.2.2.2.2.2.2.2.2.2.2.2.2.2.2.2.2.2.2.2.2.2.2.2.2.2.2.2.2.2.2.2.2.1
theorem dX1_meet_57 : decode cX1_meet 57 = .ok (.ifCond .eq 25, 3) := DX1_meet.2.2.2.2.2.2.2.2.2.2.2.2.2.2.2.2.2.2.2.2.2.2.2.2.2.2.2.2.2.2.2.2.2.2.2.1
theorem dX1_meet_60 : decode cX1_meet 60 = .ok (.aload_n 0, 1) := DX1_meet.2.2.2.2.2.2.2.2.2.2.2.2.2.2.2.2.2.2.2.2.2.2.2.2.2.2.2.2.2.2.2.2.2.2.2.2.1
theorem dX1_meet_61 : decode cX1_meet 61 = .ok (.iload_n 1, 1) := DX1_meet.2.2.2.2.2.2.2.2.2.2.2.2.2.2.2.2.2.2.2.2.2.2.2.2.2.2.2.2.2.2.2.2.2.2.2.2.2.1
theorem dX1_meet_62 : decode cX1_meet 62 = .ok (.aload_n 0, 1) := DX1_meet.2.2.2.2.2.2.2.2.2.2.2.2.2.2.2.2.2.2.2.2.2.2.2.2.2.2.2.2.2.2.2.2.2.2.2.2.2.2.1
theorem dX1_meet_63 : decode cX1_meet 63 = .ok (.getfield 20, 3) := DX1_meet.2.2.2.2.2.2.2.2.2.2.2.2.2.2.2.2.2.2.2.2.2.2.2.2.2.2.2.2.2.2.2.2.2.2.2.2.2.2.2.1
theorem dX1_meet_66 : decode cX1_meet 66 = .ok (.iload_n 2, 1) := DX1_meet.2.2.2.2.2.2.2.2.2.2.2.2.2.2.2.2.2.2.2.2.2.2.2.2.2.2.2.2.2.2.2.2.2.2.2.2.2.2.2.2.1
theorem dX1_meet_67 : decode cX1_meet 67 = .ok (.iaload, 1) := DX1_meet.2.2.2.2.2.2.2.2.2.2.2.2.2.2.2.2.2.2.2.2.2.2.2.2.2.2.2.2.2.2.2.2.2.2.2.2.2.2.2.2.2.1
theorem dX1_meet_68 : decode cX1_meet 68 = .ok (.aload_n 0, 1) := DX1_meet.2.2.2.2.2.2.2.2.2.2.2.2.2.2.2.2.2.2.2.2.2.2.2.2.2.2.2.2.2.2.2.2.2.2.2.2.2.2.2.2.2.2.1
theorem dX1_meet_69 : decode cX1_meet 69 = .ok (.getfield 23, 3) := DX1_meet.2.2.2.2.2.2.2.2.2.2.2.2.2.2.2.2.2.2.2.2.2.2.2.2.2.2.2.2.2.2.2.2.2.2.2.2.2.2.2.2.2.2.2.1
theorem dX1_meet_72 : decode cX1_meet 72 = .ok (.iload_n 2, 1) := DX1_meet.2.2.2.2.2.2.2.2.2.2.2.2.2.2.2.2.2.2.2.2.2.2.2.2.2.2.2.2.2.2.2.2.2.2.2.2.2.2.2.2.2.2.2.2.1
theorem dX1_meet_73 : decode cX1_meet 73 = .ok (.iaload, 1) := DX1_meet.2.2.2.2.2.2.2.2.2.2.2.2.2.2.2.2.2.2.2.2.2.2.2.2.2.2.2.2.2.2.2.2.2.2.2.2.2.2.2.2.2.2.2.2.2.1
theorem dX1_meet_74 : decode cX1_meet 74 = .ok (.invokevirtual 84, 3) := DX1_meet.2.2.2.2.2.2.2.2.2.2.2.2.2.2.2.2.2.2.2.2.2.2.2.2.2.2.2.2.2.2.2.2.2.2.2.2.2.2.2.2.2.2.2.2.2.2.1
theorem dX1_meet_77 : decode cX1_meet 77 = .ok (.ifCond .ne 5, 3) := DX1_meet.2.2.2.2.2.2.2.2.2.2.2.2.2.2.2.2.2.2.2.2.2.2.2.2.2.2.2.2.2.2.2.2.2.2.2.2.2.2.2.2.2.2.2.2.2.2.2.1
theorem dX1_meet_80 : decode cX1_meet 80 = .ok (.iconst 1, 1) := DX1_meet.2.2.2.2.2.2.2.2.2.2.2.2.2.2.2.2.2.2.2.2.2.2.2.2.2.2.2.2.2.2.2.2.2.2.2.2.2.2.2.2.2.2.2.2.2.2.2.2.1
theorem dX1_meet_81 : decode cX1_meet 81 = .ok (.ireturn, 1) := DX1_meet.2.2.2.2.2.2.2.2.2.2.2.2.2.2.2.2.2.2.2.2.2.2.2.2.2.2.2.2.2.2.2.2.2.2.2.2.2.2.2.2.2.2.2.2.2.2.2.2.2.1
theorem dX1_meet_82 : decode cX1_meet 82 = .ok (.aload_n 0, 1) := DX1_meet.2.2.2.2.2.2.2.2.2.2.2.2.2.2.2.2.2.2.2.2.2.2.2.2.2.2.2.2.2.2.2.2.2.2.2.2.2.2.2.2.2.2.2.2.2.2.2.2.2.2.1
theorem dX1_meet_83 : decode cX1_meet 83 = .ok (.iload_n 2, 1) := DX1_meet.2.2.2.2.2.2.2.2.2.2.2.2.2.2.2.2.2.2.2.2.2.2.2.2.2.2.2.2.2.2.2.2.2.2.2.2.2.2.2.2.2.2.2.2.2.2.2.2.2.2.2.1
theorem dX1_meet_84 : decode cX1_meet 84 = .ok (.aload_n 0, 1) := DX1_meet.2.2.2.2.2.2.2.2.2.2.2.2.2.2.2.2.2.2.2.2.2.2.2.2.2.2.2.2.2.2.2.2.2.2.2.2.2.2.2.2.2.2.2.2.2.2.2.2.2.2.2.2.1
theorem dX1_meet_85 : decode cX1_meet 85 = .ok (.getfield 13, 3) := DX1_meet.2.2.2.2.2.2.2.2.2.2.2.2.2.2.2.2.2.2.2.2.2.2.2.2.2.2.2.2.2.2.2.2.2.2.2.2.2.2.2.2.2.2.2.2.2.2.2.2.2.2.2.2.2.1
theorem dX1_meet_88 : decode cX1_meet 88 = .ok (.iload_n 1, 1) := DX1_meet.2.2.2.2.2.2.2.2.2.2.2.2.2.2.2.2.2.2.2.2.2.2.2.2.2.2.2.2.2.2.2.2.2.2.2.2.2.2.2.2.2.2.2.2.2.2.2.2.2.2.2.2.2.2.1
theorem dX1_meet_89 : decode cX1_meet 89 = .ok (.iaload, 1) := DX1_meet.2.2.2.2.2.2.2.2.2.2.2.2.2.2.2.2.2.2.2.2.2.2.2.2.2.2.2.2.2.2.2.2.2.2.2.2.2.2.2.2.2.2.2.2.2.2.2.2.2.2.2.2.2.2.2.1
theorem dX1_meet_90 : decode cX1_meet 90 = .ok (.aload_n 0, 1) := DX1_meet.2.2.2.2.2.2.2.2.2.2.2.2.2.2.2.2.2.2.2.2.2.2.2.2.2.2.2.2.2.2.2.2.2.2.2.2.2.2.2.2.2.2.2.2.2.2.2.2.2.2.2.2.2.2.2.2.1
theorem dX1_meet_91 : decode cX1_meet 91 = .ok (.getfield 17, 3) := DX1_meet.2.2.2.2.2.2.2.2.2.2.2.2.2.2.2.2.2.2.2.2.2.2.2.2.2.2.2.2.2.2.2.2.2.2.2.2.2.2.2.2.2.2.2.2.2.2.2.2.2.2.2.2.2.2.2.2.2.1
theorem dX1_meet_94 : decode cX1_meet 94 = .ok (.iload_n 1, 1) := DX1_meet.2.2.2.2.2.2.2.2.2.2.2.2.2.2.2.2.2.2.2.2.2.2.2.2.2.2.2.2.2.2.2.2.2.2.2.2.2.2.2.2.2.2.2.2.2.2.2.2.2.2.2.2.2.2.2.2.2.2.1
theorem dX1_meet_95 : decode cX1_meet 95 = .ok (.iaload, 1) := DX1_meet.2.2.2.2.2.2.2.2.2.2.2.2.2.2.2.2.2.2.2.2.2.2.2.2.2.2.2.2.2.2.2.2.2.2.2.2.2.2.2.2.2.2.2.2.2.2.2.2.2.2.2.2.2.2.2.2.2.2.2.1
theorem dX1_meet_96 : decode cX1_meet 96 = .ok (.invokevirtual 80, 3) := DX1_meet.2.2.2.2.2.2.2.2.2.2.2.2.2.2.2.2.2.2.2.2.2.2.2.2.2.2.2.2.2.2.2.2.2.2.2.2.2.2.2.2.2.2.2.2.2.2.2.2.2.2.2.2.2.2.2.2.2.2.2.2.1
theorem dX1_meet_99 : decode cX1_meet 99 = .ok (.ifCond .eq 23, 3) := DX1_meet.2.2.2.2.2.2.2.2.2.2.2.2.2.2.2.2.2.2.2.2.2.2.2.2.2.2.2.2.2.2.2.2.2.2.2.2.2.2.2.2.2.2.2.2.2.2.2.2.2.2.2.2.2.2.2.2.2.2.2.2.2.1
theorem dX1_meet_102 : decode cX1_meet 102 = .ok (.aload_n 0, 1) := DX1_meet.2.2.2.2.2.2.2.2.2.2.2.2.2.2.2.2.2.2.2.2.2.2.2.2.2.2.2.2.2.2.2.2.2.2.2.2.2.2.2.2.2.2.2.2.2.2.2.2.2.2.2.2.2.2.2.2.2.2.2.2.2.2.1
theorem dX1_meet_103 : decode cX1_meet 103 = .ok (.iload_n 2, 1) := DX1_meet.2.2.2.2.2.2.2.2.2.2.2.2.2.2.2.2.2.2.2.2.2.2.2.2.2.2.2.2.2.2.2.2.2.2.2.2.2.2.2.2.2.2.2.2.2.2.2.2.2.2.2.2.2.2.2.2.2.2.2.2.2.2.2.1
theorem dX1_meet_104 : decode cX1_meet 104 = .ok (.aload_n 0, 1) := DX1_meet.2.2.2.2.2.2.2.2.2.2.2.2.2.2.2.2.2.2.2.2.2.2.2.2.2.2.2.2.2.2.2.2.2.2.2.2.2.2.2.2.2.2.2.2.2.2.2.2.2.2.2.2.2.2.2.2.2.2.2.2.2.2.2.2.1
theorem dX1_meet_105 : decode cX1_meet 105 = .ok (.getfield 13, 3) := DX1_meet.2.2.2.2.2.2.2.2.2.2.2.2.2.2.2.2.2.2.2.2.2.2.2.2.2.2.2.2.2.2.2.2.2.2.2.2.2.2.2.2.2.2.2.2.2.2.2.2.2.2.2.2.2.2.2.2.2.2.2.2.2.2.2.2.2.1
theorem dX1_meet_108 : decode cX1_meet 108 = .ok (.iload_n 1, 1) := DX1_meet.2.2.2.2.2.2.2.2.2.2.2.2.2.2.2.2.2.2.2.2.2.2.2.2.2.2.2.2.2.2.2.2.2.2.2.2.2.2.2.2.2.2.2.2.2.2.2.2.2.2.2.2.2.2.2.2.2.2.2.2.2.2.2.2.2.2.1
theorem dX1_meet_109 : decode cX1_meet 109 = .ok (.iaload, 1) := DX1_meet.2.2.2.2.2.2.2.2.2.2.2.2.2.2.2.2.2.2.2.2.2.2.2.2.2.2.2.2.2.2.2.2.2.2.2.2.2.2.2.2.2.2.2.2.2.2.2.2.2.2.2.2.2.2.2.2.2.2.2.2.2.2.2.2.2.2.2.1
theorem dX1_meet_110 : decode cX1_meet 110 = .ok (.aload_n 0, 1) := DX1_meet.2.2.2.2.2.2.2.2.2.2.2.2.2.2.2.2.2.2.2.2.2.2.2.2.2.2.2.2.2.2.2.2.2.2.2.2.2.2.2.2.2.2.2.2.2.2.2.2.2.2.2.2.2.2.2.2.2.2.2.2.2.2.2.2.2.2.2.2.1
theorem dX1_meet_111 : decode cX1_meet 111 = .ok (.getfield 17, 3) := DX1_meet.2.2.2.2.2.2.2.2.2.2.2.2.2.2.2.2.2.2.2.2.2.2.2.2.2.2.2.2.2.2.2.2.2.2.2.2.2.2.2.2.2.2.2.2.2.2.2.2.2.2.2.2.2.2.2.2.2.2.2.2.2.2.2.2.2.2.2.2.2.1
theorem dX1_meet_114 : decode cX1_meet 114 = .ok (.iload_n 1, 1) := DX1_meet.2.2.2.2.2.2.2.2.2.2.2.2.2.2.2.2.2.2.2.2.2.2.2.2.2.2.2.2.2.2.2.2.2.2.2.2.2.2.2.2.2.2.2.2.2.2.2.2.2.2.2.2.2.2.2.2.2.2.2.2.2.2.2.2.2.2.2.2.2.2.1
theorem dX1_meet_115 : decode cX1_meet 115 = .ok (.iaload, 1) := DX1_meet.2.2.2.2.2.2.2.2.2.2.2.2.2.2.2.2.2.2.2.2.2.2.2.2.2.2.2.2.2.2.2.2.2.2.2.2.2.2.2.2.2.2.2.2.2.2.2.2.2.2.2.2.2.2.2.2.2.2.2.2.2.2.2.2.2.2.2.2.2.2.2.1
theorem dX1_meet_116 : decode cX1_meet 116 = .ok (.invokevirtual 84, 3) := DX1_meet.2.2.2.2.2.2.2.2.2.2.2.2.2.2.2.2.2.2.2.2.2.2.2.2.2.2.2.2.2.2.2.2.2.2.2.2.2.2.2.2.2.2.2.2.2.2.2.2.2.2.2.2.2.2.2.2.2.2.2.2.2.2.2.2.2.2.2.2.2.2.2.2.1
theorem dX1_meet_119 : decode cX1_meet 119 = .ok (.ifCond .eq 43, 3) := DX1_meet.2.2.2.2.2.2.2.2.2.2.2.2.2.2.2.2.2.2.2.2.2.2.2.2.2.2.2.2.2.2.2.2.2.2.2.2.2.2.2.2.2.2.2.2.2.2.2.2.2.2.2.2.2.2.2.2.2.2.2.2.2.2.2.2.2.2.2.2.2.2.2.2.2.1
theorem dX1_meet_122 : decode cX1_meet 122 = .ok (.aload_n 0, 1) := DX1_meet.2.2.2.2.2.2.2.2.2.2.2.2.2.2.2.2.2.2.2.2.2.2.2.2.2.2.2.2.2.2.2.2.2.2.2.2.2.2.2.2.2.2.2.2.2.2.2.2.2.2.2.2.2.2.2.2.2.2.2.2.2.2.2.2.2.2.2.2.2.2.2.2.2.2.1
theorem dX1_meet_123 : decode cX1_meet 123 = .ok (.iload_n 2, 1) := DX1_meet.2.2.2.2.2.2.2.2.2.2.2.2.2.2.2.2.2.2.2.2.2.2.2.2.2.2.2.2.2.2.2.2.2.2.2.2.2.2.2.2.2.2.2.2.2.2.2.2.2.2.2.2.2.2.2.2.2.2.2.2.2.2.2.2.2.2.2.2.2.2.2.2.2.2.2.1
theorem dX1_meet_124 : decode cX1_meet 124 = .ok (.aload_n 0, 1) := DX1_meet.2.2.2.2.2.2.2.2.2.2.2.2.2.2.2.2.2.2.2.2.2.2.2.2.2.2.2.2.2.2.2.2.2.2.2.2.2.2.2.2.2.2.2.2.2.2.2.2.2.2.2.2.2.2.2.2.2.2.2.2.2.2.2.2.2.2.2.2.2.2.2.2.2.2.2.2.1
theorem dX1_meet_125 : decode cX1_meet 125 = .ok (.getfield 20, 3) := DX1_meet.2.2.2.2.2.2.2.2.2.2.2.2.2.2.2.2.2.2.2.2.2.2.2.2.2.2.2.2.2.2.2.2.2.2.2.2.2.2.2.2.2.2.2.2.2.2.2.2.2.2.2.2.2.2.2.2.2.2.2.2.2.2.2.2.2.2.2.2.2.2.2.2.2.2.2.2.2.1
theorem dX1_meet_128 : decode cX1_meet 128 = .ok (.iload_n 1, 1) := DX1_meet.2.2.2.2.2.2.2.2.2.2.2.2.2.2.2.2.2.2.2.2.2.2.2.2.2.2.2.2.2.2.2.2.2.2.2.2.2.2.2.2.2.2.2.2.2.2.2.2.2.2.2.2.2.2.2.2.2.2.2.2.2.2.2.2.2.2.2.2.2.2.2.2.2.2.2.2.2.2.1
theorem dX1_meet_129 : decode cX1_meet 129 = .ok (.iaload, 1) := DX1_meet.2.2.2.2.2.2.2.2.2.2.2.2.2.2.2.2.2.2.2.2.2.2.2.2.2.2.2.2.2.2.2.2.2.2.2.2.2.2.2.2.2.2.2.2.2.2.2.2.2.2.2.2.2.2.2.2.2.2.2.2.2.2.2.2.2.2.2.2.2.2.2.2.2.2.2.2.2.2.2.1
theorem dX1_meet_130 : decode cX1_meet 130 = .ok (.aload_n 0, 1) := DX1_meet.2.2.2.2.2.2.2.2.2.2.2.2.2.2.2.2.2.2.2.2.2.2.2.2.2.2.2.2.2.2.2.2.2.2.2.2.2.2.2.2.2.2.2.2.2.2.2.2.2.2.2.2.2.2.2.2.2.2.2.2.2.2.2.2.2.2.2.2.2.2.2.2.2.2.2.2.2.2.2.2.1
theorem dX1_meet_131 : decode cX1_meet 131 = .ok (.getfield 23, 3) := DX1_meet.2.2.2.2.2.2.2.2.2.2.2.2.2.2.2.2.2.2.2.2.2.2.2.2.2.2.2.2.2.2.2.2.2.2.2.2.2.2.2.2.2.2.2.2.2.2.2.2.2.2.2.2.2.2.2.2.2.2.2.2.2.2.2.2.2.2.2.2.2.2.2.2.2.2.2.2.2.2.2.2.2.1
theorem dX1_meet_134 : decode cX1_meet 134 = .ok (.iload_n 1, 1) := DX1_meet.2.2.2.2.2.2.2.2.2.2.2.2.2.2.2.2.2.2.2.2.2.2.2.2.2.2.2.2.2.2.2.2.2.2.2.2.2.2.2.2.2.2.2.2.2.2.2.2.2.2.2.2.2.2.2.2.2.2.2.2.2.2.2.2.2.2.2.2.2.2.2.2.2.2.2.2.2.2.2.2.2.2.1
theorem dX1_meet_135 : decode cX1_meet 135 = .ok (.iaload, 1) := DX1_meet.2.2.2.2.2.2.2.2.2.2.2.2.2.2.2.2.2.2.2.2.2.2.2.2.2.2.2.2.2.2.2.2.2.2.2.2.2.2.2.2.2.2.2.2.2.2.2.2.2.2.2.2.2.2.2.2.2.2.2.2.2.2.2.2.2.2.2.2.2.2.2.2.2.2.2.2.2.2.2.2.2.2.2.1
theorem dX1_meet_136 : decode cX1_meet 136 = .ok (.invokevirtual 80, 3) := DX1_meet.2.2.2.2.2.2.2.2.2.2.2.2.2.2.2.2.2.2.2.2.2.2.2.2.2.2.2.2.2.2.2.2.2.2.2.2.2.2.2.2.2.2.2.2.2.2.2.2.2.2.2.2.2.2.2.2.2.2.2.2.2.2.2.2.2.2.2.2.2.2.2.2.2.2.2.2.2.2.2.2.2.2.2.2.1
theorem dX1_meet_139 : decode cX1_meet 139 = .ok (.ifCond .eq 25, 3) := DX1_meet.2.2.2.2.2.2.2.2.2.2.2.2.2.2.2.2.2.2.2.2.2.2.2.2.2.2.2.2.2.2.2.2.2.2.2.2.2.2.2.2.2.2.2.2.2.2.2.2.2.2.2.2.2.2.2.2.2.2.2.2.2.2.2.2.2.2.2.2.2.2.2.2.2.2.2.2.2.2.2.2.2.2.2.2.2.1
theorem dX1_meet_142 : decode cX1_meet 142 = .ok (.aload_n 0, 1) := DX1_meet.2.2.2.2.2.2.2.2.2.2.2.2.2.2.2.2.2.2.2.2.2.2.2.2.2.2.2.2.2.2.2.2.2.2.2.2.2.2.2.2.2.2.2.2.2.2.2.2.2.2.2.2.2.2.2.2.2.2.2.2.2.2.2.2.2.2.2.2.2.2.2.2.2.2.2.2.2.2.2.2.2.2.2.2.2.2.1
theorem dX1_meet_143 : decode cX1_meet 143 = .ok (.iload_n 2, 1) := DX1_meet.2.2.2.2.2.2.2.2.2.2.2.2.2.2.2.2.2.2.2.2.2.2.2.2.2.2.2.2.2.2.2.2.2.2.2.2.2.2.2.2.2.2.2.2.2.2.2.2.2.2.2.2.2.2.2.2.2.2.2.2.2.2.2.2.2.2.2.2.2.2.2.2.2.2.2.2.2.2.2.2.2.2.2.2.2.2.2.1
theorem dX1_meet_144 : decode cX1_meet 144 = .ok (.aload_n 0, 1) := DX1_meet.2.2.2.2.2.2.2.2.2.2.2.2.2.2.2.2.2.2.2.2.2.2.2.2.2.2.2.2.2.2.2.2.2.2.2.2.2.2.2.2.2.2.2.2.2.2.2.2.2.2.2.2.2.2.2.2.2.2.2.2.2.2.2.2.2.2.2.2.2.2.2.2.2.2.2.2.2.2.2.2.2.2.2.2.2.2.2.2.1
theorem dX1_meet_145 : decode cX1_meet 145 = .ok (.getfield 20, 3) := DX1_meet.2.2.2.2.2.2.2.2.2.2.2.2.2.2.2.2.2.2.2.2.2.2.2.2.2.2.2.2.2.2.2.2.2.2.2.2.2.2.2.2.2.2.2.2.2.2.2.2.2.2.2.2.2.2.2.2.2.2.2.2.2.2.2.2.2.2.2.2.2.2.2.2.2.2.2.2.2.2.2.2.2.2.2.2.2.2.2.2.2.1
theorem dX1_meet_148 : decode cX1_meet 148 = .ok (.iload_n 1, 1) := DX1_meet.2.2.2.2.2.2.2.2.2.2.2.2.2.2.2.2.2.2.2.2.2.2.2.2.2.2.2.2.2.2.2.2.2.2.2.2.2.2.2.2.2.2.2.2.2.2.2.2.2.2.2.2.2.2.2.2.2.2.2.2.2.2.2.2.2.2.2.2.2.2.2.2.2.2.2.2.2.2.2.2.2.2.2.2.2.2.2.2.2.2.1
theorem dX1_meet_149 : decode cX1_meet 149 = .ok (.iaload, 1) := DX1_meet.2.2.2.2.2.2.2.2.2.2.2.2.2.2.2.2.2.2.2.2.2.2.2.2.2.2.2.2.2.2.2.2.2.2.2.2.2.2.2.2.2.2.2.2.2.2.2.2.2.2.2.2.2.2.2.2.2.2.2.2.2.2.2.2.2.2.2.2.2.2.2.2.2.2.2.2.2.2.2.2.2.2.2.2.2.2.2.2.2.2.2.1
theorem dX1_meet_150 : decode cX1_meet 150 = .ok (.aload_n 0, 1) := DX1_meet.2.2.2.2.2.2.2.2.2.2.2.2.2.2.2.2.2.2.2.2.2.2.2.2.2.2.2.2.2.2.2.2.2.2.2.2.2.2.2.2.2.2.2.2.2.2.2.2.2.2.2.2.2.2.2.2.2.2.2.2.2.2.2.2.2.2.2.2.2.2.2.2.2.2.2.2.2.2.2.2.2.2.2.2.2.2.2.2.2.2.2.2.1
theorem dX1_meet_151 : decode cX1_meet 151 = .ok (.getfield 23, 3) := DX1_meet.2.2.2.2.2.2.2.2.2.2.2.2.2.2.2.2.2.2.2.2.2.2.2.2.2.2.2.2.2.2.2.2.2.2.2.2.2.2.2.2.2.2.2.2.2.2.2.2.2.2.2.2.2.2.2.2.2.2.2.2.2.2.2.2.2.2.2.2.2.2.2.2.2.2.2.2.2.2.2.2.2.2.2.2.2.2.2.2.2.2.2.2.2.1
theorem dX1_meet_154 : decode cX1_meet 154 = .ok (.iload_n 1, 1) := DX1_meet.2.2.2.2.2.2.2.2.2.2.2.2.2.2.2.2.2.2.2.2.2.2.2.2.2.2.2.2.2.2.2.2.2.2.2.2.2.2.2.2.2.2.2.2.2.2.2.2.2.2.2.2.2.2.2.2.2.2.2.2.2.2.2.2.2.2.2.2.2.2.2.2.2.2.2.2.2.2.2.2.2.2.2.2.2.2.2.2.2.2.2.2.2.2.1
theorem dX1_meet_155 : decode cX1_meet 155 = .ok (.iaload, 1) := DX1_meet.2.2.2.2.2.2.2.2.2.2.2.2.2.2.2.2.2.2.2.2.2.2.2.2.2.2.2.2.2.2.2.2.2.2.2.2.2.2.2.2.2.2.2.2.2.2.2.2.2.2.2.2.2.2.2.2.2.2.2.2.2.2.2.2.2.2.2.2.2.2.2.2.2.2.2.2.2.2.2.2.2.2.2.2.2.2.2.2.2.2.2.2.2.2.2.1
theorem dX1_meet_156 : decode cX1_meet 156 = .ok (.invokevirtual 84, 3) := DX1_meet.2.2.2.2.2.2.2.2.2.2.2.2.2.2.2.2.2.2.2.2.2.2.2.2.2.2.2.2.2.2.2.2.2.2.2.2.2.2.2.2.2.2.2.2.2.2.2.2.2.2.2.2.2.2.2.2.2.2.2.2.2.2.2.2.2.2.2.2.2.2.2.2.2.2.2.2.2.2.2.2.2.2.2.2.2.2.2.2.2.2.2.2.2.2.2.2.1
theorem dX1_meet_159 : decode cX1_meet 159 = .ok (.ifCond .ne 5, 3) := DX1_meet.2.2.2.2.2.2.2.2.2.2.2.2.2.2.2.2.2.2.2.2.2.2.2.2.2.2.2.2.2.2.2.2.2.2.2.2.2.2.2.2.2.2.2.2.2.2.2.2.2.2.2.2.2.2.2.2.2.2.2.2.2.2.2.2.2.2.2.2.2.2.2.2.2.2.2.2.2.2.2.2.2.2.2.2.2.2.2.2.2.2.2.2.2.2.2.2.2.1
theorem dX1_meet_162 : decode cX1_meet 162 = .ok (.iconst 1, 1) := DX1_meet.2.2.2.2.2.2.2.2.2.2.2.2.2.2.2.2.2.2.2.2.2.2.2.2.2.2.2.2.2.2.2.2.2.2.2.2.2.2.2.2.2.2.2.2.2.2.2.2.2.2.2.2.2.2.2.2.2.2.2.2.2.2.2.2.2.2.2.2.2.2.2.2.2.2.2.2.2.2.2.2.2.2.2.2.2.2.2.2.2.2.2.2.2.2.2.2.2.2.1
theorem dX1_meet_163 : decode cX1_meet 163 = .ok (.ireturn, 1) := DX1_meet.2.2.2.2.2.2.2.2.2.2.2.2.2.2.2.2.2.2.2.2.2.2.2.2.2.2.2.2.2.2.2.2.2.2.2.2.2.2.2.2.2.2.2.2.2.2.2.2.2.2.2.2.2.2.2.2.2.2.2.2.2.2.2.2.2.2.2.2.2.2.2.2.2.2.2.2.2.2.2.2.2.2.2.2.2.2.2.2.2.2.2.2.2.2.2.2.2.2.2.1
theorem dX1_meet_164 : decode cX1_meet 164 = .ok (.aload_n 0, 1) := DX1_meet.2.2.2.2.2.2.2.2.2.2.2.2.2.2.2.2.2.2.2.2.2.2.2.2.2.2.2.2.2.2.2.2.2.2.2.2.2.2.2.2.2.2.2.2.2.2.2.2.2.2.2.2.2.2.2.2.2.2.2.2.2.2.2.2.2.2.2.2.2.2.2.2.2.2.2.2.2.2.2.2.2.2.2.2.2.2.2.2.2.2.2.2.2.2.2.2.2.2.2.2.1
theorem dX1_meet_165 : decode cX1_meet 165 = .ok (.iload_n 1, 1) := DX1_meet.2.2.2.2.2.2.2.2.2.2.2.2.2.2.2.2.2.2.2.2.2.2.2.2.2.2.2.2.2.2.2.2.2.2.2.2.2.2.2.2.2.2.2.2.2.2.2.2.2.2.2.2.2.2.2.2.2.2.2.2.2.2.2.2.2.2.2.2.2.2.2.2.2.2.2.2.2.2.2.2.2.2.2.2.2.2.2.2.2.2.2.2.2.2.2.2.2.2.2.2.2.1
theorem dX1_meet_166 : decode cX1_meet 166 = .ok (.aload_n 0, 1) := DX1_meet.2.2.2.2.2.2.2.2.2.2.2.2.2.2.2.2.2.2.2.2.2.2.2.2.2.2.2.2.2.2.2.2.2.2.2.2.2.2.2.2.2.2.2.2.2.2.2.2.2.2.2.2.2.2.2.2.2.2.2.2.2.2.2.2.2.2.2.2.2.2.2.2.2.2.2.2.2.2.2.2.2.2.2.2.2.2.2.2.2.2.2.2.2.2.2.2.2.2.2.2.2.2.1
theorem dX1_meet_167 : decode cX1_meet 167 = .ok (.getfield 13, 3) := DX1_meet.2.2.2.2.2.2.2.2.2.2.2.2.2.2.2.2.2.2.2.2.2.2.2.2.2.2.2.2.2.2.2.2.2.2.2.2.2.2.2.2.2.2.2.2.2.2.2.2.2.2.2.2.2.2.2.2.2.2.2.2.2.2.2.2.2.2.2.2.2.2.2.2.2.2.2.2.2.2.2.2.2.2.2.2.2.2.2.2.2.2.2.2.2.2.2.2.2.2.2.2.2.2.2.1
theorem dX1_meet_170 : decode cX1_meet 170 = .ok (.iload_n 2, 1) := DX1_meet.2.2.2.2.2.2.2.2.2.2.2.2.2.2.2.2.2.2.2.2.2.2.2.2.2.2.2.2.2.2.2.2.2.2.2.2.2.2.2.2.2.2.2.2.2.2.2.2.2.2.2.2.2.2.2.2.2.2.2.2.2.2.2.2.2.2.2.2.2.2.2.2.2.2.2.2.2.2.2.2.2.2.2.2.2.2.2.2.2.2.2.2.2.2.2.2.2.2.2.2.2.2.2.2.1
theorem dX1_meet_171 : decode cX1_meet 171 = .ok (.iaload, 1) := DX1_meet.2.2.2.2.2.2.2.2.2.2.2.2.2.2.2.2.2.2.2.2.2.2.2.2.2.2.2.2.2.2.2.2.2.2.2.2.2.2.2.2.2.2.2.2.2.2.2.2.2.2.2.2.2.2.2.2.2.2.2.2.2.2.2.2.2.2.2.2.2.2.2.2.2.2.2.2.2.2.2.2.2.2.2.2.2.2.2.2.2.2.2.2.2.2.2.2.2.2.2.2.2.2.2.2.2.1
theorem dX1_meet_172 : decode cX1_meet 172 = .ok (.aload_n 0, 1) := DX1_meet.2.2.2.2.2.2.2.2.2.2.2.2.2.2.2.2.2.2.2.2.2.2.2.2.2.2.2.2.2.2.2.2.2.2.2.2.2.2.2.2.2.2.2.2.2.2.2.2.2.2.2.2.2.2.2.2.2.2.2.2.2.2.2.2.2.2.2.2.2.2.2.2.2.2.2.2.2.2.2.2.2.2.2.2.2.2.2.2.2.2.2.2.2.2.2.2.2.2.2.2.2.2.2.2.2.2.1
theorem dX1_meet_173 : decode cX1_meet 173 = .ok (.getfield 17, 3) := DX1_meet.2.2.2.2.2.2.2.2.2.2.2.2.2.2.2.2.2.2.2.2.2.2.2.2.2.2.2.2.2.2.2.2.2.2.2.2.2.2.2.2.2.2.2.2.2.2.2.2.2.2.2.2.2.2.2.2.2.2.2.2.2.2.2.2.2.2.2.2.2.2.2.2.2.2.2.2.2.2.2.2.2.2.2.2.2.2.2.2.2.2.2.2.2.2.2.2.2.2.2.2.2.2.2.2.2.2.2.1
theorem dX1_meet_176 : decode cX1_meet 176 = .ok (.iload_n 2, 1) := DX1_meet.2.2.2.2.2.2.2.2.2.2.2.2.2.2.2.2.2.2.2.2.2.2.2.2.2.2.2.2.2.2.2.2.2.2.2.2.2.2.2.2.2.2.2.2.2.2.2.2.2.2.2.2.2.2.2.2.2.2.2.2.2.2.2.2.2.2.2.2.2.2.2.2.2.2.2.2.2.2.2.2.2.2.2.2.2.2.2.2.2.2.2.2.2.2.2.2.2.2.2.2.2.2.2.2.2.2.2.2.1
theorem dX1_meet_177 : decode cX1_meet 177 = .ok (.iaload, 1) := DX1_meet.2.2.2.2.2.2.2.2.2.2.2.2.2.2.2.2.2.2.2.2.2.2.2.2.2.2.2.2.2.2.2.2.2.2.2.2.2.2.2.2.2.2.2.2.2.2.2.2.2.2.2.2.2.2.2.2.2.2.2.2.2.2.2.2.2.2.2.2.2.2.2.2.2.2.2.2.2.2.2.2.2.2.2.2.2.2.2.2.2.2.2.2.2.2.2.2.2.2.2.2.2.2.2.2.2.2.2.2.2
theorem dX1_meet_178 : decode cX1_meet 178 = .ok (.invokevirtual 84, 3) := DX1_meet_2.1
theorem dX1_meet_181 : decode cX1_meet 181 = .ok (.ifCond .eq 25, 3) := DX1_meet_2.2.1
theorem dX1_meet_184 : decode cX1_meet 184 = .ok (.aload_n 0, 1) := DX1_meet_2.2.2.1
theorem dX1_meet_185 : decode cX1_meet 185 = .ok (.iload_n 1, 1) := DX1_meet_2.2.2.2.1
theorem dX1_meet_186 : decode cX1_meet 186 = .ok (.aload_n 0, 1) := DX1_meet_2.2.2.2.2.1
theorem dX1_meet_187 : decode cX1_meet 187 = .ok (.getfield 20, 3) := DX1_meet_2.2.2.2.2.2.1
theorem dX1_meet_190 : decode cX1_meet 190 = .ok (.iload_n 2, 1) := DX1_meet_2.2.2.2.2.2.2.1
theorem dX1_meet_191 : decode cX1_meet 191 = .ok (.iaload, 1) := DX1_meet_2.2.2.2.2.2.2.2.1
theorem dX1_meet_192 : decode cX1_meet 192 = .ok (.aload_n 0, 1) := DX1_meet_2.2.2.2.2.2.2.2.2.1
theorem dX1_meet_193 : decode cX1_meet 193 = .ok (.getfield 23, 3) := DX1_meet_2.2.2.2.2.2.2.2.2.2.1
theorem dX1_meet_196 : decode cX1_meet 196 = .ok (.iload_n 2, 1) := DX1_meet_2.2.2.2.2.2.2.2.2.2.2.1
theorem dX1_meet_197 : decode cX1_meet 197 = .ok (.iaload, 1) := DX1_meet_2.2.2.2.2.2.2.2.2.2.2.2.1
theorem dX1_meet_198 : decode cX1_meet 198 = .ok (.invokevirtual 84, 3) := DX1_meet_2.2.2.2.2.2.2.2.2.2.2.2.2.1
theorem dX1_meet_201 : decode cX1_meet 201 = .ok (.ifCond .eq 5, 3) := DX1_meet_2.2.2.2.2.2.2.2.2.2.2.2.2.2.1
theorem dX1_meet_204 : decode cX1_meet 204 = .ok (.iconst 1, 1) := DX1_meet_2.2.2.2.2.2.2.2.2.2.2.2.2.2.2.1
theorem dX1_meet_205 : decode cX1_meet 205 = .ok (.ireturn, 1) := DX1_meet_2.2.2.2.2.2.2.2.2.2.2.2.2.2.2.2.1
theorem dX1_meet_206 : decode cX1_meet 206 = .ok (.aload_n 0, 1) := DX1_meet_2.2.2.2.2.2.2.2.2.2.2.2.2.2.2.2.2.1
theorem dX1_meet_207 : decode cX1_meet 207 = .ok (.iload_n 1, 1) := DX1_meet_2.2.2.2.2.2.2.2.2.2.2.2.2.2.2.2.2.2.1
theorem dX1_meet_208 : decode cX1_meet 208 = .ok (.aload_n 0, 1) := DX1_meet_2.2.2.2.2.2.2.2.2.2.2.2.2.2.2.2.2.2.2.1
theorem dX1_meet_209 : decode cX1_meet 209 = .ok (.getfield 13, 3) := DX1_meet_2.2.2.2.2.2.2.2.2.2.2.2.2.2.2.2.2.2.2.2.1
theorem dX1_meet_212 : decode cX1_meet 212 = .ok (.iload_n 2, 1) := DX1_meet_2.2.2.2.2.2.2.2.2.2.2.2.2.2.2.2.2.2.2.2.2.1
theorem dX1_meet_213 : decode cX1_meet 213 = .ok (.iaload, 1) := DX1_meet_2.2.2.2.2.2.2.2.2.2.2.2.2.2.2.2.2.2.2.2.2.2.1
theorem dX1_meet_214 : decode cX1_meet 214 = .ok (.aload_n 0, 1) := DX1_meet_2.2.2.2.2.2.2.2.2.2.2.2.2.2.2.2.2.2.2.2.2.2.2.1
theorem dX1_meet_215 : decode cX1_meet 215 = .ok (.getfield 17, 3) := DX1_meet_2.2.2.2.2.2.2.2.2.2.2.2.2.2.2.2.2.2.2.2.2.2.2.2.1
theorem dX1_meet_218 : decode cX1_meet 218 = .ok (.iload_n 2, 1) := DX1_meet_2.2.2.2.2.2.2.2.2.2.2.2.2.2.2.2.2.2.2.2.2.2.2.2.2.1
theorem dX1_meet_219 : decode cX1_meet 219 = .ok (.iaload, 1) := DX1_meet_2.2.2.2.2.2.2.2.2.2.2.2.2.2.2.2.2.2.2.2.2.2.2.2.2.2.1
theorem dX1_meet_220 : decode cX1_meet 220 = .ok (.invokevirtual 67, 3) := DX1_meet_2.2.2.2.2.2.2.2.2.2.2.2.2.2.2.2.2.2.2.2.2.2.2.2.2.2.2.1
theorem dX1_meet_223 : decode cX1_meet 223 = .ok (.aload_n 0, 1) := DX1_meet_2.2.2.2.2.2.2.2.2.2.2.2.2.2.2.2.2.2.2.2.2.2.2.2.2.2.2.2.1
theorem dX1_meet_224 : decode cX1_meet 224 = .ok (.iload_n 1, 1) := DX1_meet_2.2.2.2.2.2.2.2.2.2.2.2.2.2.2.2.2.2.2.2.2.2.2.2.2.2.2.2.2.1
theorem dX1_meet_225 : decode cX1_meet 225 = .ok (.aload_n 0, 1) := DX1_meet_2.2.2.2.2.2.2.2.2.2.2.2.2.2.2.2.2.2.2.2.2.2.2.2.2.2.2.2.2.2.1
theorem dX1_meet_226 : decode cX1_meet 226 = .ok (.getfield 20, 3) := DX1_meet_2.2.2.2.2.2.2.2.2.2.2.2.2.2.2.2.2.2.2.2.2.2.2.2.2.2.2.2.2.2.2.1
theorem dX1_meet_229 : decode cX1_meet 229 = .ok (.iload_n 2, 1) := DX1_meet_2.2.2.2.2.2.2.2.2.2.2.2.2.2.2.2.2.2.2.2.2.2.2.2.2.2.2.2.2.2.2.2.1
theorem dX1_meet_230 : decode cX1_meet 230 = .ok (.iaload, 1) := DX1_meet_2.2.2.2.2.2.2.2.2.2.2.2.2.2.2.2.2.2.2.2.2.2.2.2.2.2.2.2.2.2.2.2.2.1
theorem dX1_meet_231 : decode cX1_meet 231 = .ok (.aload_n 0, 1) := DX1_meet_2.2.2.2.2.2.2.2.2.2.2.2.2.2.2.2.2.2.2.2.2.2.2.2.2.2.2.2.2.2.2.2.2.2.1
theorem dX1_meet_232 : decode cX1_meet 232 = .ok (.getfield 23, 3) := DX1_meet_2.2.2.2.2.2.2.2.2.2.2.2.2.2.2.2.2.2.2.2.2.2.2.2.2.2.2.2.2.2.2.2.2.2.2.1
theorem dX1_meet_235 : decode cX1_meet 235 = .ok (.iload_n 2, 1) := DX1_meet_2.2.2.2.2.2.2.2.2.2.2.2.2.2.2.2.2.2.2.2.2.2.2.2.2.2.2.2.2.2.2.2.2.2.2.2.1
theorem dX1_meet_236 : decode cX1_meet 236 = .ok (.iaload, 1) := DX1_meet_2.2.2.2.2.2.2.2.2.2.2.2.2.2.2.2.2.2.2.2.2.2.2.2.2.2.2.2.2.2.2.2.2.2.2.2.2.1
theorem dX1_meet_237 : decode cX1_meet 237 = .ok (.invokevirtual 67, 3) := DX1_meet_2.2.2.2.2.2.2.2.2.2.2.2.2.2.2.2.2.2.2.2.2.2.2.2.2.2.2.2.2.2.2.2.2.2.2.2.2.2.1
theorem dX1_meet_240 : decode cX1_meet 240 = .ok (.imul, 1) := DX1_meet_2.2.2.2.2.2.2.2.2.2.2.2.2.2.2.2.2.2.2.2.2.2.2.2.2.2.2.2.2.2.2.2.2.2.2.2.2.2.2.1
theorem dX1_meet_241 : decode cX1_meet 241 = .ok (.ifCond .ge 45, 3) := DX1_meet_2.2.2.2.2.2.2.2.2.2.2.2.2.2.2.2.2.2.2.2.2.2.2.2.2.2.2.2.2.2.2.2.2.2.2.2.2.2.2.2.1
theorem dX1_meet_244 : decode cX1_meet 244 = .ok (.aload_n 0, 1) := DX1_meet_2.2.2.2.2.2.2.2.2.2.2.2.2.2.2.2.2.2.2.2.2.2.2.2.2.2.2.2.2.2.2.2.2.2.2.2.2.2.2.2.2.1
theorem dX1_meet_245 : decode cX1_meet 245 = .ok (.iload_n 2, 1) := DX1_meet_2.2.2.2.2.2.2.2.2.2.2.2.2.2.2.2.2.2.2.2.2.2.2.2.2.2.2.2.2.2.2.2.2.2.2.2.2.2.2.2.2.2.1
theorem dX1_meet_246 : decode cX1_meet 246 = .ok (.aload_n 0, 1) := DX1_meet_2.2.2.2.2.2.2.2.2.2.2.2.2.2.2.2.2.2.2.2.2.2.2.2.2.2.2.2.2.2.2.2.2.2.2.2.2.2.2.2.2.2.2.1
theorem dX1_meet_247 : decode cX1_meet 247 = .ok (.getfield 13, 3) := DX1_meet_2.2.2.2.2.2.2.2.2.2.2.2.2.2.2.2.2.2.2.2.2.2.2.2.2.2.2.2.2.2.2.2.2.2.2.2.2.2.2.2.2.2.2.2.1
theorem dX1_meet_250 : decode cX1_meet 250 = .ok (.iload_n 1, 1) := DX1_meet_2.2.2.2.2.2.2.2.2.2.2.2.2.2.2.2.2.2.2.2.2.2.2.2.2.2.2.2.2.2.2.2.2.2.2.2.2.2.2.2.2.2.2.2.2.1
theorem dX1_meet_251 : decode cX1_meet 251 = .ok (.iaload, 1) := DX1_meet_2.2.2.2.2.2.2.2.2.2.2.2.2.2.2.2.2.2.2.2.2.2.2.2.2.2.2.2.2.2.2.2.2.2.2.2.2.2.2.2.2.2.2.2.2.2.1
theorem dX1_meet_252 : decode cX1_meet 252 = .ok (.aload_n 0, 1) := DX1_meet_2.2.2.2.2.2.2.2.2.2.2.2.2.2.2.2.2.2.2.2.2.2.2.2.2.2.2.2.2.2.2.2.2.2.2.2.2.2.2.2.2.2.2.2.2.2.2.1
theorem dX1_meet_253 : decode cX1_meet 253 = .ok (.getfield 17, 3) := DX1_meet_2.2.2.2.2.2.2.2.2.2.2.2.2.2.2.2.2.2.2.2.2.2.2.2.2.2.2.2.2.2.2.2.2.2.2.2.2.2.2.2.2.2.2.2.2.2.2.2.1
theorem dX1_meet_256 : decode cX1_meet 256 = .ok (.iload_n 1, 1) := DX1_meet_2.2.2.2.2.2.2.2.2.2.2.2.2.2.2.2.2.2.2.2.2.2.2.2.2.2.2.2.2.2.2.2.2.2.2.2.2.2.2.2.2.2.2.2.2.2.2.2.2.1
theorem dX1_meet_257 : decode cX1_meet 257 = .ok (.iaload, 1) := DX1_meet_2.2.2.2.2.2.2.2.2.2.2.2.2.2.2.2.2.2.2.2.2.2.2.2.2.2.2.2.2.2.2.2.2.2.2.2.2.2.2.2.2.2.2.2.2.2.2.2.2.2.1
theorem dX1_meet_258 : decode cX1_meet 258 = .ok (.invokevirtual 67, 3) := DX1_meet_2.2.2.2.2.2.2.2.2.2.2.2.2.2.2.2.2.2.2.2.2.2.2.2.2.2.2.2.2.2.2.2.2.2.2.2.2.2.2.2.2.2.2.2.2.2.2.2.2.2.2.1
theorem dX1_meet_261 : decode cX1_meet 261 = .ok (.aload_n 0, 1) := DX1_meet_2.2.2.2.2.2.2.2.2.2.2.2.2.2.2.2.2.2.2.2.2.2.2.2.2.2.2.2.2.2.2.2.2.2.2.2.2.2.2.2.2.2.2.2.2.2.2.2.2.2.2.2.1
theorem dX1_meet_262 : decode cX1_meet 262 = .ok (.iload_n 2, 1) := DX1_meet_2.2.2.2.2.2.2.2.2.2.2.2.2.2.2.2.2.2.2.2.2.2.2.2.2.2.2.2.2.2.2.2.2.2.2.2.2.2.2.2.2.2.2.2.2.2.2.2.2.2.2.2.2.1
theorem dX1_meet_263 : decode cX1_meet 263 = .ok (.aload_n 0, 1) := DX1_meet_2.2.2.2.2.2.2.2.2.2.2.2.2.2.2.2.2.2.2.2.2.2.2.2.2.2.2.2.2.2.2.2.2.2.2.2.2.2.2.2.2.2.2.2.2.2.2.2.2.2.2.2.2.2.1
theorem dX1_meet_264 : decode cX1_meet 264 = .ok (.getfield 20, 3) := DX1_meet_2.2.2.2.2.2.2.2.2.2.2.2.2.2.2.2.2.2.2.2.2.2.2.2.2.2.2.2.2.2.2.2.2.2.2.2.2.2.2.2.2.2.2.2.2.2.2.2.2.2.2.2.2.2.2.1
theorem dX1_meet_267 : decode cX1_meet 267 = .ok (.iload_n 1, 1) := DX1_meet_2.2.2.2.2.2.2.2.2.2.2.2.2.2.2.2.2.2.2.2.2.2.2.2.2.2.2.2.2.2.2.2.2.2.2.2.2.2.2.2.2.2.2.2.2.2.2.2.2.2.2.2.2.2.2.2.1
theorem dX1_meet_268 : decode cX1_meet 268 = .ok (.iaload, 1) := DX1_meet_2.2.2.2.2.2.2.2.2.2.2.2.2.2.2.2.2.2.2.2.2.2.2.2.2.2.2.2.2.2.2.2.2.2.2.2.2.2.2.2.2.2.2.2.2.2.2.2.2.2.2.2.2.2.2.2.2.1
theorem dX1_meet_269 : decode cX1_meet 269 = .ok (.aload_n 0, 1) := DX1_meet_2.2.2.2.2.2.2.2.2.2.2.2.2.2.2.2.2.2.2.2.2.2.2.2.2.2.2.2.2.2.2.2.2.2.2.2.2.2.2.2.2.2.2.2.2.2.2.2.2.2.2.2.2.2.2.2.2.2.1
theorem dX1_meet_270 : decode cX1_meet 270 = .ok (.getfield 23, 3) := DX1_meet_2.2.2.2.2.2.2.2.2.2.2.2.2.2.2.2.2.2.2.2.2.2.2.2.2.2.2.2.2.2.2.2.2.2.2.2.2.2.2.2.2.2.2.2.2.2.2.2.2.2.2.2.2.2.2.2.2.2.2.1
theorem dX1_meet_273 : decode cX1_meet 273 = .ok (.iload_n 1, 1) := DX1_meet_2.2.2.2.2.2.2.2.2.2.2.2.2.2.2.2.2.2.2.2.2.2.2.2.2.2.2.2.2.2.2.2.2.2.2.2.2.2.2.2.2.2.2.2.2.2.2.2.2.2.2.2.2.2.2.2.2.2.2.2.1
theorem dX1_meet_274 : decode cX1_meet 274 = .ok (.iaload, 1) := DX1_meet_2.2.2.2.2.2.2.2.2.2.2.2.2.2.2.2.2.2.2.2.2.2.2.2.2.2.2.2.2.2.2.2.2.2.2.2.2.2.2.2.2.2.2.2.2.2.2.2.2.2.2.2.2.2.2.2.2.2.2.2.2.1
theorem dX1_meet_275 : decode cX1_meet 275 = .ok (.invokevirtual 67, 3) := DX1_meet_2.2.2.2.2.2.2.2.2.2.2.2.2.2.2.2.2.2.2.2.2.2.2.2.2.2.2.2.2.2.2.2.2.2.2.2.2.2.2.2.2.2.2.2.2.2.2.2.2.2.2.2.2.2.2.2.2.2.2.2.2.2.1
theorem dX1_meet_278 : decode cX1_meet 278 = .ok (.imul, 1) := DX1_meet_2.2.2.2.2.2.2.2.2.2.2.2.2.2.2.2.2.2.2.2.2.2.2.2.2.2.2.2.2.2.2.2.2.2.2.2.2.2.2.2.2.2.2.2.2.2.2.2.2.2.2.2.2.2.2.2.2.2.2.2.2.2.2.1
theorem dX1_meet_279 : decode cX1_meet 279 = .ok (.ifCond .ge 7, 3) := DX1_meet_2.2.2.2.2.2.2.2.2.2.2.2.2.2.2.2.2.2.2.2.2.2.2.2.2.2.2.2.2.2.2.2.2.2.2.2.2.2.2.2.2.2.2.2.2.2.2.2.2.2.2.2.2.2.2.2.2.2.2.2.2.2.2.2.1
theorem dX1_meet_282 : decode cX1_meet 282 = .ok (.iconst 1, 1) := DX1_meet_2.2.2.2.2.2.2.2.2.2.2.2.2.2.2.2.2.2.2.2.2.2.2.2.2.2.2.2.2.2.2.2.2.2.2.2.2.2.2.2.2.2.2.2.2.2.2.2.2.2.2.2.2.2.2.2.2.2.2.2.2.2.2.2.2.1
theorem dX1_meet_283 : decode cX1_meet 283 = .ok (.goto 4, 3) := DX1_meet_2.2.2.2.2.2.2.2.2.2.2.2.2.2.2.2.2.2.2.2.2.2.2.2.2.2.2.2.2.2.2.2.2.2.2.2.2.2.2.2.2.2.2.2.2.2.2.2.2.2.2.2.2.2.2.2.2.2.2.2.2.2.2.2.2.2.1
theorem dX1_meet_286 : decode cX1_meet 286 = .ok (.iconst 0, 1) := DX1_meet_2.2.2.2.2.2.2.2.2.2.2.2.2.2.2.2.2.2.2.2.2.2.2.2.2.2.2.2.2.2.2.2.2.2.2.2.2.2.2.2.2.2.2.2.2.2.2.2.2.2.2.2.2.2.2.2.2.2.2.2.2.2.2.2.2.2.2.1
theorem dX1_meet_287 : decode cX1_meet 287 = .ok (.ireturn, 1) := DX1_meet_2.2.2.2.2.2.2.2.2.2.2.2.2.2.2.2.2.2.2.2.2.2.2.2.2.2.2.2.2.2.2.2.2.2.2.2.2.2.2.2.2.2.2.2.2.2.2.2.2.2.2.2.2.2.2.2.2.2.2.2.2.2.2.2.2.2.2.2
theorem dX1_isOn_0 : decode cX1_isOn 0 = .ok (.aload_n 0, 1) := DX1_isOn.1
theorem dX1_isOn_1 : decode cX1_isOn 1 = .ok (.iload_n 1, 1) := DX1_isOn.2.1
theorem dX1_isOn_2 : decode cX1_isOn 2 = .ok (.iload_n 2, 1) := DX1_isOn.2.2.1
theorem dX1_isOn_3 : decode cX1_isOn 3 = .ok (.iload_n 3, 1) := DX1_isOn.2.2.2.1
theorem dX1_isOn_4 : decode cX1_isOn 4 = .ok (.invokevirtual 67, 3) := DX1_isOn.2.2.2.2.1
theorem dX1_isOn_7 : decode cX1_isOn 7 = .ok (.ifCond .ne 83, 3) := DX1_isOn.2.2.2.2.2.1
theorem dX1_isOn_10 : decode cX1_isOn 10 = .ok (.iload_n 2, 1) := DX1_isOn.2.2.2.2.2.2.1
theorem dX1_isOn_11 : decode cX1_isOn 11 = .ok (.aload_n 0, 1) := DX1_isOn.2.2.2.2.2.2.2.1
theorem dX1_isOn_12 : decode cX1_isOn 12 = .ok (.getfield 13, 3) := DX1_isOn.2.2.2.2.2.2.2.2.1
theorem dX1_isOn_15 : decode cX1_isOn 15 = .ok (.iload_n 1, 1) := DX1_isOn.2.2.2.2.2.2.2.2.2.1
theorem dX1_isOn_16 : decode cX1_isOn 16 = .ok (.iaload, 1) := DX1_isOn.2.2.2.2.2.2.2.2.2.2.1
theorem dX1_isOn_17 : decode cX1_isOn 17 = .ok (.aload_n 0, 1) := DX1_isOn.2.2.2.2.2.2.2.2.2.2.2.1
theorem dX1_isOn_18 : decode cX1_isOn 18 = .ok (.getfield 20, 3) := DX1_isOn.2.2.2.2.2.2.2.2.2.2.2.2.1
theorem dX1_isOn_21 : decode cX1_isOn 21 = .ok (.iload_n 1, 1) := DX1_isOn.2.2.2.2.2.2.2.2.2.2.2.2.2.1
theorem dX1_isOn_22 : decode cX1_isOn 22 = .ok (.iaload, 1) := DX1_isOn.2.2.2.2.2.2.2.2.2.2.2.2.2.2.1
theorem dX1_isOn_23 : decode cX1_isOn 23 = .ok (.invokestatic 71, 3) := DX1_isOn.2.2.2.2.2.2.2.2.2.2.2.2.2.2.2.1
theorem dX1_isOn_26 : decode cX1_isOn 26 = .ok (.if_icmp .lt 64, 3) := DX1_isOn.2.2.2.2.2.2.2.2.2.2.2.2.2.2.2.2.1
theorem dX1_isOn_29 : decode cX1_isOn 29 = .ok (.iload_n 2, 1) := DX1_isOn.2.2.2.2.2.2.2.2.2.2.2.2.2.2.2.2.2.1
theorem dX1_isOn_30 : decode cX1_isOn 30 = .ok (.aload_n 0, 1) := DX1_isOn.2.2.2.2.2.2.2.2.2.2.2.2.2.2.2.2.2.2.1
theorem dX1_isOn_31 : decode cX1_isOn 31 = .ok (.getfield 13, 3) := DX1_isOn.2.2.2.2.2.2.2.2.2.2.2.2.2.2.2.2.2.2.2.1
theorem dX1_isOn_34 : decode cX1_isOn 34 = .ok (.iload_n 1, 1) := DX1_isOn.2.2.2.2.2.2.2.2.2.2.2.2.2.2.2.2.2.2.2.2.1
theorem dX1_isOn_35 : decode cX1_isOn 35 = .ok (.iaload, 1) := DX1_isOn.2.2.2.2.2.2.2.2.2.2.2.2.2.2.2.2.2.2.2.2.2.1
theorem dX1_isOn_36 : decode cX1_isOn 36 = .ok (.aload_n 0, 1) := DX1_isOn.2.2.2.2.2.2.2.2.2.2.2.2.2.2.2.2.2.2.2.2.2.2.1
theorem dX1_isOn_37 : decode cX1_isOn 37 = .ok (.getfield 20, 3) := DX1_isOn.2.2.2.2.2.2.2.2.2.2.2.2.2.2.2.2.2.2.2.2.2.2.2.1
theorem dX1_isOn_40 : decode cX1_isOn 40 = .ok (.iload_n 1, 1) := DX1_isOn.2.2.2.2.2.2.2.2.2.2.2.2.2.2.2.2.2.2.2.2.2.2.2.2.1
theorem dX1_isOn_41 : decode cX1_isOn 41 = .ok (.iaload, 1) := DX1_isOn.2.2.2.2.2.2.2.2.2.2.2.2.2.2.2.2.2.2.2.2.2.2.2.2.2.1
theorem dX1_isOn_42 : decode cX1_isOn 42 = .ok (.invokestatic 77, 3) := DX1_isOn.2.2.2.2.2.2.2.2.2.2.2.2.2.2.2.2.2.2.2.2.2.2.2.2.2.2.1
theorem dX1_isOn_45 : decode cX1_isOn 45 = .ok (.if_icmp .gt 45, 3) := DX1_isOn.2.2.2.2.2.2.2.2.2.2.2.2.2.2.2.2.2.2.2.2.2.2.2.2.2.2.2.1
theorem dX1_isOn_48 : decode cX1_isOn 48 = .ok (.iload_n 3, 1) := DX1_isOn.2.2.2.2.2.2.2.2.2.2.2.2.2.2.2.2.2.2.2.2.2.2.2.2.2.2.2.2.1
theorem dX1_isOn_49 : decode cX1_isOn 49 = .ok (.aload_n 0, 1) := DX1_isOn.2.2.2.2.2.2.2.2.2.2.2.2.2.2.2.2.2.2.2.2.2.2.2.2.2.2.2.2.2.1
theorem dX1_isOn_50 : decode cX1_isOn 50 = .ok (.getfield 17, 3) := DX1_isOn.2.2.2.2.2.2.2.2.2.2.2.2.2.2.2.2.2.2.2.2.2.2.2.2.2.2.2.2.2.2.1
theorem dX1_isOn_53 : decode cX1_isOn 53 = .ok (.iload_n 1, 1) := DX1_isOn.2.2.2.2.2.2.2.2.2.2.2.2.2.2.2.2.2.2.2.2.2.2.2.2.2.2.2.2.2.2.2.1
theorem dX1_isOn_54 : decode cX1_isOn 54 = .ok (.iaload, 1) := DX1_isOn.2.2.2.2.2.2.2.2.2.2.2.2.2.2.2.2.2.2.2.2.2.2.2.2.2.2.2.2.2.2.2.2.1
theorem dX1_isOn_55 : decode cX1_isOn 55 = .ok (.aload_n 0, 1) := DX1_isOn.2.2.2.2.2.2.2.2.2.2.2.2.2.2.2.2.2.2.2.2.2.2.2.2.2.2.2.2.2.2.2.2.2.1
theorem dX1_isOn_56 : decode cX1_isOn 56 = .ok (.getfield 23, 3) := DX1_isOn.2.2.2.2.2.2.2.2.2.2.2.2.2.2.2.2.2.2.2.2.2.2.2.2.2.2.2.2.2.2.2.2.2.2.1
theorem dX1_isOn_59 : decode cX1_isOn 59 = .ok (.iload_n 1, 1) := DX1_isOn.2.2.2.2.2.2.2.2.2.2.2.2.2.2.2.2.2.2.2.2.2.2.2.2.2.2.2.2.2.2.2.2.2.2.2.1
theorem dX1_isOn_60 : decode cX1_isOn 60 = .ok (.iaload, 1) := DX1_isOn.2.2.2.2.2.2.2.2.2.2.2.2.2.2.2.2.2.2.2.2.2.2.2.2.2.2.2.2.2.2.2.2.2.2.2.2.1
theorem dX1_isOn_61 : decode cX1_isOn 61 = .ok (.invokestatic 71, 3) := DX1_isOn.2.2.2.2.2.2.2.2.2.2.2.2.2.2.2.2.2.2.2.2.2.2.2.2.2.2.2.2.2.2.2.2.2.2.2.2.2.1
theorem dX1_isOn_64 : decode cX1_isOn 64 = .ok (.if_icmp .lt 26, 3) := DX1_isOn.2.2.2.2.2.2.2.2.2.2.2.2.2.2.2.2.2.2.2.2.2.2.2.2.2.2.2.2.2.2.2.2.2.2.2.2.2.2.1
theorem dX1_isOn_67 : decode cX1_isOn 67 = .ok (.iload_n 3, 1) := DX1_isOn.2.2.2.2.2.2.2.2.2.2.2.2.2.2.2.2.2.2.2.2.2.2.2.2.2.2.2.2.2.2.2.2.2.2.2.2.2.2.2.1
theorem dX1_isOn_68 : decode cX1_isOn 68 = .ok (.aload_n 0, 1) := DX1_isOn.2.2.2.2.2.2.2.2.2.2.2.2.2.2.2.2.2.2.2.2.2.2.2.2.2.2.2.2.2.2.2.2.2.2.2.2.2.2.2.2.1
theorem dX1_isOn_69 : decode cX1_isOn 69 = .ok (.getfield 17, 3) := DX1_isOn.2.2.2.2.2.2.2.2.2.2.2.2.2.2.2.2.2.2.2.2.2.2.2.2.2.2.2.2.2.2.2.2.2.2.2.2.2.2.2.2.2.1
theorem dX1_isOn_72 : decode cX1_isOn 72 = .ok (.iload_n 1, 1) := DX1_isOn.2.2.2.2.2.2.2.2.2.2.2.2.2.2.2.2.2.2.2.2.2.2.2.2.2.2.2.2.2.2.2.2.2.2.2.2.2.2.2.2.2.2.1
theorem dX1_isOn_73 : decode cX1_isOn 73 = .ok (.iaload, 1) := DX1_isOn.2.2.2.2.2.2.2.2.2.2.2.2.2.2.2.2.2.2.2.2.2.2.2.2.2.2.2.2.2.2.2.2.2.2.2.2.2.2.2.2.2.2.2.1
theorem dX1_isOn_74 : decode cX1_isOn 74 = .ok (.aload_n 0, 1) := DX1_isOn.2.2.2.2.2.2.2.2.2.2.2.2.2.2.2.2.2.2.2.2.2.2.2.2.2.2.2.2.2.2.2.2.2.2.2.2.2.2.2.2.2.2.2.2.1
theorem dX1_isOn_75 : decode cX1_isOn 75 = .ok (.getfield 23, 3) := DX1_isOn.2.2.2.2.2.2.2.2.2.2.2.2.2.2.2.2.2.2.2.2.2.2.2.2.2.2.2.2.2.2.2.2.2.2.2.2.2.2.2.2.2.2.2.2.2.1
theorem dX1_isOn_78 : decode cX1_isOn 78 = .ok (.iload_n 1, 1) := DX1_isOn.2.2.2.2.2.2.2.2.2.2.2.2.2.2.2.2.2.2.2.2.2.2.2.2.2.2.2.2.2.2.2.2.2.2.2.2.2.2.2.2.2.2.2.2.2.2.1
theorem dX1_isOn_79 : decode cX1_isOn 79 = .ok (.iaload, 1) := DX1_isOn.2.2.2.2.2.2.2.2.2.2.2.2.2.2.2.2.2.2.2.2.2.2.2.2.2.2.2.2.2.2.2.2.2.2.2.2.2.2.2.2.2.2.2.2.2.2.2.1
theorem dX1_isOn_80 : decode cX1_isOn 80 = .ok (.invokestatic 77, 3) := DX1_isOn.2.2.2.2.2.2.2.2.2.2.2.2.2.2.2.2.2.2.2.2.2.2.2.2.2.2.2.2.2.2.2.2.2.2.2.2.2.2.2.2.2.2.2.2.2.2.2.2.1
theorem dX1_isOn_83 : decode cX1_isOn 83 = .ok (.if_icmp .gt 7, 3) := DX1_isOn.2.2.2.2.2.2.2.2.2.2.2.2.2.2.2.2.2.2.2.2.2.2.2.2.2.2.2.2.2.2.2.2.2.2.2.2.2.2.2.2.2.2.2.2.2.2.2.2.2.1
theorem dX1_isOn_86 : decode cX1_isOn 86 = .ok (.iconst 1, 1) := DX1_isOn.2.2.2.2.2.2.2.2.2.2.2.2.2.2.2.2.2.2.2.2.2.2.2.2.2.2.2.2.2.2.2.2.2.2.2.2.2.2.2.2.2.2.2.2.2.2.2.2.2.2.1
theorem dX1_isOn_87 : decode cX1_isOn 87 = .ok (.goto 4, 3) := DX1_isOn.2.2.2.2.2.2.2.2.2.2.2.2.2.2.2.2.2.2.2.2.2.2.2.2.2.2.2.2.2.2.2.2.2.2.2.2.2.2.2.2.2.2.2.2.2.2.2.2.2.2.2.1
theorem dX1_isOn_90 : decode cX1_isOn 90 = .ok (.iconst 0, 1) := DX1_isOn.2.2.2.2.2.2.2.2.2.2.2.2.2.2.2.2.2.2.2.2.2.2.2.2.2.2.2.2.2.2.2.2.2.2.2.2.2.2.2.2.2.2.2.2.2.2.2.2.2.2.2.2.1
theorem dX1_isOn_91 : decode cX1_isOn 91 = .ok (.ireturn, 1) := DX1_isOn.2.2.2.2.2.2.2.2.2.2.2.2.2.2.2.2.2.2.2.2.2.2.2.2.2.2.2.2.2.2.2.2.2.2.2.2.2.2.2.2.2.2.2.2.2.2.2.2.2.2.2.2.2
theorem dX1_isEnd_0 : decode cX1_isEnd 0 = .ok (.aload_n 0, 1) := DX1_isEnd.1
theorem dX1_isEnd_1 : decode cX1_isEnd 1 = .ok (.getfield 13, 3) := DX1_isEnd.2.1
theorem dX1_isEnd_4 : decode cX1_isEnd 4 = .ok (.iload_n 1, 1) := DX1_isEnd.2.2.1
theorem dX1_isEnd_5 : decode cX1_isEnd 5 = .ok (.iaload, 1) := DX1_isEnd.2.2.2.1
theorem dX1_isEnd_6 : decode cX1_isEnd 6 = .ok (.iload_n 2, 1) := DX1_isEnd.2.2.2.2.1
theorem dX1_isEnd_7 : decode cX1_isEnd 7 = .ok (.if_icmp .ne 13, 3) := DX1_isEnd.2.2.2.2.2.1
theorem dX1_isEnd_10 : decode cX1_isEnd 10 = .ok (.aload_n 0, 1) := DX1_isEnd.2.2.2.2.2.2.1
theorem dX1_isEnd_11 : decode cX1_isEnd 11 = .ok (.getfield 17, 3) := DX1_isEnd.2.2.2.2.2.2.2.1
theorem dX1_isEnd_14 : decode cX1_isEnd 14 = .ok (.iload_n 1, 1) := DX1_isEnd.2.2.2.2.2.2.2.2.1
theorem dX1_isEnd_15 : decode cX1_isEnd 15 = .ok (.iaload, 1) := DX1_isEnd.2.2.2.2.2.2.2.2.2.1
theorem dX1_isEnd_16 : decode cX1_isEnd 16 = .ok (.iload_n 3, 1) := DX1_isEnd.2.2.2.2.2.2.2.2.2.2.1
theorem dX1_isEnd_17 : decode cX1_isEnd 17 = .ok (.if_icmp .eq 23, 3) := DX1_isEnd.2.2.2.2.2.2.2.2.2.2.2.1
theorem dX1_isEnd_20 : decode cX1_isEnd 20 = .ok (.aload_n 0, 1) := DX1_isEnd.2.2.2.2.2.2.2.2.2.2.2.2.1
theorem dX1_isEnd_21 : decode cX1_isEnd 21 = .ok (.getfield 20, 3) := DX1_isEnd.2.2.2.2.2.2.2.2.2.2.2.2.2.1
theorem dX1_isEnd_24 : decode cX1_isEnd 24 = .ok (.iload_n 1, 1) := DX1_isEnd.2.2.2.2.2.2.2.2.2.2.2.2.2.2.1
theorem dX1_isEnd_25 : decode cX1_isEnd 25 = .ok (.iaload, 1) := DX1_isEnd.2.2.2.2.2.2.2.2.2.2.2.2.2.2.2.1
theorem dX1_isEnd_26 : decode cX1_isEnd 26 = .ok (.iload_n 2, 1) := DX1_isEnd.2.2.2.2.2.2.2.2.2.2.2.2.2.2.2.2.1
theorem dX1_isEnd_27 : decode cX1_isEnd 27 = .ok (.if_icmp .ne 17, 3) := DX1_isEnd.2.2.2.2.2.2.2.2.2.2.2.2.2.2.2.2.2.1
theorem dX1_isEnd_30 : decode cX1_isEnd 30 = .ok (.aload_n 0, 1) := DX1_isEnd.2.2.2.2.2.2.2.2.2.2.2.2.2.2.2.2.2.2.1
theorem dX1_isEnd_31 : decode cX1_isEnd 31 = .ok (.getfield 23, 3) := DX1_isEnd.2.2.2.2.2.2.2.2.2.2.2.2.2.2.2.2.2.2.2.1
theorem dX1_isEnd_34 : decode cX1_isEnd 34 = .ok (.iload_n 1, 1) := DX1_isEnd.2.2.2.2.2.2.2.2.2.2.2.2.2.2.2.2.2.2.2.2.1
theorem dX1_isEnd_35 : decode cX1_isEnd 35 = .ok (.iaload, 1) := DX1_isEnd.2.2.2.2.2.2.2.2.2.2.2.2.2.2.2.2.2.2.2.2.2.1
theorem dX1_isEnd_36 : decode cX1_isEnd 36 = .ok (.iload_n 3, 1) := DX1_isEnd.2.2.2.2.2.2.2.2.2.2.2.2.2.2.2.2.2.2.2.2.2.2.1
theorem dX1_isEnd_37 : decode cX1_isEnd 37 = .ok (.if_icmp .ne 7, 3) := DX1_isEnd.2.2.2.2.2.2.2.2.2.2.2.2.2.2.2.2.2.2.2.2.2.2.2.1
theorem dX1_isEnd_40 : decode cX1_isEnd 40 = .ok (.iconst 1, 1) := DX1_isEnd.2.2.2.2.2.2.2.2.2.2.2.2.2.2.2.2.2.2.2.2.2.2.2.2.1
theorem dX1_isEnd_41 : decode cX1_isEnd 41 = .ok (.goto 4, 3) := DX1_isEnd.2.2.2.2.2.2.2.2.2.2.2.2.2.2.2.2.2.2.2.2.2.2.2.2.2.1
theorem dX1_isEnd_44 : decode cX1_isEnd 44 = .ok (.iconst 0, 1) := DX1_isEnd.2.2.2.2.2.2.2.2.2.2.2.2.2.2.2.2.2.2.2.2.2.2.2.2.2.2.1
theorem dX1_isEnd_45 : decode cX1_isEnd 45 = .ok (.ireturn, 1) := DX1_isEnd.2.2.2.2.2.2.2.2.2.2.2.2.2.2.2.2.2.2.2.2.2.2.2.2.2.2.2
theorem dX1_begins_0 : decode cX1_begins 0 = .ok (.aload_n 0, 1) := DX1_begins.1
theorem dX1_begins_1 : decode cX1_begins 1 = .ok (.iload_n 1, 1) := DX1_begins.2.1
theorem dX1_begins_2 : decode cX1_begins 2 = .ok (.invokevirtual 268, 3) := DX1_begins.2.2.1
theorem dX1_begins_5 : decode cX1_begins 5 = .ok (.getfield 147, 3) := DX1_begins.2.2.2.1
theorem dX1_begins_8 : decode cX1_begins 8 = .ok (.astore_n 3, 1) := DX1_begins.2.2.2.2.1
theorem dX1_begins_9 : decode cX1_begins 9 = .ok (.iload_n 2, 1) := DX1_begins.2.2.2.2.2.1
theorem dX1_begins_10 : decode cX1_begins 10 = .ok (.ifCond .eq 10, 3) := DX1_begins.2.2.2.2.2.2.1
theorem dX1_begins_13 : decode cX1_begins 13 = .ok (.aload_n 3, 1) := DX1_begins.2.2.2.2.2.2.2.1
theorem dX1_begins_14 : decode cX1_begins 14 = .ok (.getfield 123, 3) := DX1_begins.2.2.2.2.2.2.2.2.1
theorem dX1_begins_17 : decode cX1_begins 17 = .ok (.goto 7, 3) := DX1_begins.2.2.2.2.2.2.2.2.2.1
theorem dX1_begins_20 : decode cX1_begins 20 = .ok (.aload_n 3, 1) := DX1_begins.2.2.2.2.2.2.2.2.2.2.1
theorem dX1_begins_21 : decode cX1_begins 21 = .ok (.getfield 120, 3) := DX1_begins.2.2.2.2.2.2.2.2.2.2.2.1
theorem dX1_begins_24 : decode cX1_begins 24 = .ok (.ireturn, 1) := DX1_begins.2.2.2.2.2.2.2.2.2.2.2.2
theorem dX1_half_0 : decode cX1_half 0 = .ok (.aload_n 0, 1) := DX1_half.1
theorem dX1_half_1 : decode cX1_half 1 = .ok (.invokevirtual 259, 3) := DX1_half.2.1
theorem dX1_half_4 : decode cX1_half 4 = .ok (.iload_n 1, 1) := DX1_half.2.2.1
theorem dX1_half_5 : decode cX1_half 5 = .ok (.ifCond .lt 21, 3) := DX1_half.2.2.2.1
theorem dX1_half_8 : decode cX1_half 8 = .ok (.iload_n 1, 1) := DX1_half.2.2.2.2.1
theorem dX1_half_9 : decode cX1_half 9 = .ok (.aload_n 0, 1) := DX1_half.2.2.2.2.2.1
theorem dX1_half_10 : decode cX1_half 10 = .ok (.getfield 35, 3) := DX1_half.2.2.2.2.2.2.1
theorem dX1_half_13 : decode cX1_half 13 = .ok (.arraylength, 1) := DX1_half.2.2.2.2.2.2.2.1
theorem dX1_half_14 : decode cX1_half 14 = .ok (.if_icmp .ge 12, 3) := DX1_half.2.2.2.2.2.2.2.2.1
theorem dX1_half_17 : decode cX1_half 17 = .ok (.aload_n 0, 1) := DX1_half.2.2.2.2.2.2.2.2.2.1
theorem dX1_half_18 : decode cX1_half 18 = .ok (.getfield 35, 3) := DX1_half.2.2.2.2.2.2.2.2.2.2.1
theorem dX1_half_21 : decode cX1_half 21 = .ok (.iload_n 1, 1) := DX1_half.2.2.2.2.2.2.2.2.2.2.2.1
theorem dX1_half_22 : decode cX1_half 22 = .ok (.aaload, 1) := DX1_half.2.2.2.2.2.2.2.2.2.2.2.2.1
theorem dX1_half_23 : decode cX1_half 23 = .ok (.ifnonnull 11, 3) := DX1_half.2.2.2.2.2.2.2.2.2.2.2.2.2.1
theorem dX1_half_26 : decode cX1_half 26 = .ok (.new 262, 3) := DX1_half.2.2.2.2.2.2.2.2.2.2.2.2.2.2.1
theorem dX1_half_29 : decode cX1_half 29 = .ok (.dup, 1) := DX1_half.2.2.2.2.2.2.2.2.2.2.2.2.2.2.2.1
theorem dX1_half_30 : decode cX1_half 30 = .ok (.invokespecial 264, 3) := DX1_half.2.2.2.2.2.2.2.2.2.2.2.2.2.2.2.2.1
theorem dX1_half_33 : decode cX1_half 33 = .ok (.athrow, 1) := DX1_half.2.2.2.2.2.2.2.2.2.2.2.2.2.2.2.2.2.1
theorem dX1_half_34 : decode cX1_half 34 = .ok (.aload_n 0, 1) := DX1_half.2.2.2.2.2.2.2.2.2.2.2.2.2.2.2.2.2.2.1
theorem dX1_half_35 : decode cX1_half 35 = .ok (.getfield 35, 3) := DX1_half.2.2.2.2.2.2.2.2.2.2.2.2.2.2.2.2.2.2.2.1
theorem dX1_half_38 : decode cX1_half 38 = .ok (.iload_n 1, 1) := DX1_half.2.2.2.2.2.2.2.2.2.2.2.2.2.2.2.2.2.2.2.2.1
theorem dX1_half_39 : decode cX1_half 39 = .ok (.aaload, 1) := DX1_half.2.2.2.2.2.2.2.2.2.2.2.2.2.2.2.2.2.2.2.2.2.1
theorem dX1_half_40 : decode cX1_half 40 = .ok (.areturn, 1) := DX1_half.2.2.2.2.2.2.2.2.2.2.2.2.2.2.2.2.2.2.2.2.2.2
theorem dX1_next_0 : decode cX1_next 0 = .ok (.aload_n 0, 1) := DX1_next.1
theorem dX1_next_1 : decode cX1_next 1 = .ok (.iload_n 1, 1) := DX1_next.2.1
theorem dX1_next_2 : decode cX1_next 2 = .ok (.invokevirtual 268, 3) := DX1_next.2.2.1
theorem dX1_next_5 : decode cX1_next 5 = .ok (.getfield 157, 3) := DX1_next.2.2.2.1
theorem dX1_next_8 : decode cX1_next 8 = .ok (.getfield 244, 3) := DX1_next.2.2.2.2.1
theorem dX1_next_11 : decode cX1_next 11 = .ok (.ireturn, 1) := DX1_next.2.2.2.2.2
theorem dX1_face_0 : decode cX1_face 0 = .ok (.aload_n 0, 1) := DX1_face.1
theorem dX1_face_1 : decode cX1_face 1 = .ok (.aload_n 0, 1) := DX1_face.2.1
theorem dX1_face_2 : decode cX1_face 2 = .ok (.iload_n 1, 1) := DX1_face.2.2.1
theorem dX1_face_3 : decode cX1_face 3 = .ok (.invokevirtual 268, 3) := DX1_face.2.2.2.1
theorem dX1_face_6 : decode cX1_face 6 = .ok (.getfield 160, 3) := DX1_face.2.2.2.2.1
theorem dX1_face_9 : decode cX1_face 9 = .ok (.getfield 198, 3) := DX1_face.2.2.2.2.2.1
theorem dX1_face_12 : decode cX1_face 12 = .ok (.invokevirtual 272, 3) := DX1_face.2.2.2.2.2.2.1
theorem dX1_face_15 : decode cX1_face 15 = .ok (.ireturn, 1) := DX1_face.2.2.2.2.2.2.2
theorem dX1_number_0 : decode cX1_number 0 = .ok (.iconst 0, 1) := DX1_number.1
theorem dX1_number_1 : decode cX1_number 1 = .ok (.istore_n 2, 1) := DX1_number.2.1
theorem dX1_number_2 : decode cX1_number 2 = .ok (.aload_n 0, 1) := DX1_number.2.2.1
theorem dX1_number_3 : decode cX1_number 3 = .ok (.getfield 42, 3) := DX1_number.2.2.2.1
theorem dX1_number_6 : decode cX1_number 6 = .ok (.iload_n 2, 1) := DX1_number.2.2.2.2.1
theorem dX1_number_7 : decode cX1_number 7 = .ok (.invokevirtual 114, 3) := DX1_number.2.2.2.2.2.1
theorem dX1_number_10 : decode cX1_number 10 = .ok (.aload_n 1, 1) := DX1_number.2.2.2.2.2.2.1
theorem dX1_number_11 : decode cX1_number 11 = .ok (.if_acmp .eq 9, 3) := DX1_number.2.2.2.2.2.2.2.1
theorem dX1_number_14 : decode cX1_number 14 = .ok (.iinc 2 1, 3) := DX1_number.2.2.2.2.2.2.2.2.1
theorem dX1_number_17 : decode cX1_number 17 = .ok (.goto (-15), 3) := DX1_number.2.2.2.2.2.2.2.2.2.1
theorem dX1_number_20 : decode cX1_number 20 = .ok (.iload_n 2, 1) := DX1_number.2.2.2.2.2.2.2.2.2.2.1
theorem dX1_number_21 : decode cX1_number 21 = .ok (.ireturn, 1) := DX1_number.2.2.2.2.2.2.2.2.2.2.2
theorem dX1_piece_0 : decode cX1_piece 0 = .ok (.aload_n 0, 1) := DX1_piece.1
theorem dX1_piece_1 : decode cX1_piece 1 = .ok (.getfield 45, 3) := DX1_piece.2.1
theorem dX1_piece_4 : decode cX1_piece 4 = .ok (.aload_n 0, 1) := DX1_piece.2.2.1
theorem dX1_piece_5 : decode cX1_piece 5 = .ok (.iload_n 1, 1) := DX1_piece.2.2.2.1
theorem dX1_piece_6 : decode cX1_piece 6 = .ok (.invokevirtual 268, 3) := DX1_piece.2.2.2.2.1
theorem dX1_piece_9 : decode cX1_piece 9 = .ok (.getfield 244, 3) := DX1_piece.2.2.2.2.2.1
theorem dX1_piece_12 : decode cX1_piece 12 = .ok (.iconst 2, 1) := DX1_piece.2.2.2.2.2.2.1
theorem dX1_piece_13 : decode cX1_piece 13 = .ok (.idiv, 1) := DX1_piece.2.2.2.2.2.2.2.1
theorem dX1_piece_14 : decode cX1_piece 14 = .ok (.iaload, 1) := DX1_piece.2.2.2.2.2.2.2.2.1
theorem dX1_piece_15 : decode cX1_piece 15 = .ok (.ireturn, 1) := DX1_piece.2.2.2.2.2.2.2.2.2
theorem dX1_around_0 : decode cX1_around 0 = .ok (.aload_n 0, 1) := DX1_around.1
theorem dX1_around_1 : decode cX1_around 1 = .ok (.invokevirtual 259, 3) := DX1_around.2.1
theorem dX1_around_4 : decode cX1_around 4 = .ok (.iload_n 1, 1) := DX1_around.2.2.1
theorem dX1_around_5 : decode cX1_around 5 = .ok (.ifCond .lt 11, 3) := DX1_around.2.2.2.1
theorem dX1_around_8 : decode cX1_around 8 = .ok (.iload_n 1, 1) := DX1_around.2.2.2.2.1
theorem dX1_around_9 : decode cX1_around 9 = .ok (.aload_n 0, 1) := DX1_around.2.2.2.2.2.1
theorem dX1_around_10 : decode cX1_around 10 = .ok (.getfield 235, 3) := DX1_around.2.2.2.2.2.2.1
theorem dX1_around_13 : decode cX1_around 13 = .ok (.if_icmp .lt 11, 3) := DX1_around.2.2.2.2.2.2.2.1
theorem dX1_around_16 : decode cX1_around 16 = .ok (.new 262, 3) := DX1_around.2.2.2.2.2.2.2.2.1
theorem dX1_around_19 : decode cX1_around 19 = .ok (.dup, 1) := DX1_around.2.2.2.2.2.2.2.2.2.1
theorem dX1_around_20 : decode cX1_around 20 = .ok (.invokespecial 264, 3) := DX1_around.2.2.2.2.2.2.2.2.2.2.1
theorem dX1_around_23 : decode cX1_around 23 = .ok (.athrow, 1) := DX1_around.2.2.2.2.2.2.2.2.2.2.2.1
theorem dX1_around_24 : decode cX1_around 24 = .ok (.aload_n 0, 1) := DX1_around.2.2.2.2.2.2.2.2.2.2.2.2.1
theorem dX1_around_25 : decode cX1_around 25 = .ok (.aload_n 0, 1) := DX1_around.2.2.2.2.2.2.2.2.2.2.2.2.2.1
theorem dX1_around_26 : decode cX1_around 26 = .ok (.getfield 50, 3) := DX1_around.2.2.2.2.2.2.2.2.2.2.2.2.2.2.1
theorem dX1_around_29 : decode cX1_around 29 = .ok (.iload_n 1, 1) := DX1_around.2.2.2.2.2.2.2.2.2.2.2.2.2.2.2.1
theorem dX1_around_30 : decode cX1_around 30 = .ok (.aaload, 1) := DX1_around.2.2.2.2.2.2.2.2.2.2.2.2.2.2.2.2.1
theorem dX1_around_31 : decode cX1_around 31 = .ok (.getfield 198, 3) := DX1_around.2.2.2.2.2.2.2.2.2.2.2.2.2.2.2.2.2.1
theorem dX1_around_34 : decode cX1_around 34 = .ok (.invokevirtual 272, 3) := DX1_around.2.2.2.2.2.2.2.2.2.2.2.2.2.2.2.2.2.2.1
theorem dX1_around_37 : decode cX1_around 37 = .ok (.ireturn, 1) := DX1_around.2.2.2.2.2.2.2.2.2.2.2.2.2.2.2.2.2.2.2
theorem dX1_area_0 : decode cX1_area 0 = .ok (.aload_n 0, 1) := DX1_area.1
theorem dX1_area_1 : decode cX1_area 1 = .ok (.iload_n 1, 1) := DX1_area.2.1
theorem dX1_area_2 : decode cX1_area 2 = .ok (.invokevirtual 275, 3) := DX1_area.2.2.1
theorem dX1_area_5 : decode cX1_area 5 = .ok (.astore_n 2, 1) := DX1_area.2.2.2.1
theorem dX1_area_6 : decode cX1_area 6 = .ok (.iload_n 1, 1) := DX1_area.2.2.2.2.1
theorem dX1_area_7 : decode cX1_area 7 = .ok (.ifCond .ne 7, 3) := DX1_area.2.2.2.2.2.1
theorem dX1_area_10 : decode cX1_area 10 = .ok (.iconst 0, 1) := DX1_area.2.2.2.2.2.2.1
theorem dX1_area_11 : decode cX1_area 11 = .ok (.goto 8, 3) := DX1_area.2.2.2.2.2.2.2.1
theorem dX1_area_14 : decode cX1_area 14 = .ok (.aload_n 2, 1) := DX1_area.2.2.2.2.2.2.2.2.1
theorem dX1_area_15 : decode cX1_area 15 = .ok (.invokevirtual 279, 3) := DX1_area.2.2.2.2.2.2.2.2.2.1
theorem dX1_area_18 : decode cX1_area 18 = .ok (.l2i, 1) := DX1_area.2.2.2.2.2.2.2.2.2.2.1
theorem dX1_area_19 : decode cX1_area 19 = .ok (.ireturn, 1) := DX1_area.2.2.2.2.2.2.2.2.2.2.2
theorem dX1_faceAt_0 : decode cX1_faceAt 0 = .ok (.aload_n 0, 1) := DX1_faceAt.1
theorem dX1_faceAt_1 : decode cX1_faceAt 1 = .ok (.invokevirtual 259, 3) := DX1_faceAt.2.1
theorem dX1_faceAt_4 : decode cX1_faceAt 4 = .ok (.iload_n 1, 1) := DX1_faceAt.2.2.1
theorem dX1_faceAt_5 : decode cX1_faceAt 5 = .ok (.ifCond .lt 14, 3) := DX1_faceAt.2.2.2.1
theorem dX1_faceAt_8 : decode cX1_faceAt 8 = .ok (.iload_n 1, 1) := DX1_faceAt.2.2.2.2.1
theorem dX1_faceAt_9 : decode cX1_faceAt 9 = .ok (.aload_n 0, 1) := DX1_faceAt.2.2.2.2.2.1
theorem dX1_faceAt_10 : decode cX1_faceAt 10 = .ok (.getfield 42, 3) := DX1_faceAt.2.2.2.2.2.2.1
theorem dX1_faceAt_13 : decode cX1_faceAt 13 = .ok (.invokevirtual 110, 3) := DX1_faceAt.2.2.2.2.2.2.2.1
theorem dX1_faceAt_16 : decode cX1_faceAt 16 = .ok (.if_icmp .lt 11, 3) := DX1_faceAt.2.2.2.2.2.2.2.2.1
theorem dX1_faceAt_19 : decode cX1_faceAt 19 = .ok (.new 262, 3) := DX1_faceAt.2.2.2.2.2.2.2.2.2.1
theorem dX1_faceAt_22 : decode cX1_faceAt 22 = .ok (.dup, 1) := DX1_faceAt.2.2.2.2.2.2.2.2.2.2.1
theorem dX1_faceAt_23 : decode cX1_faceAt 23 = .ok (.invokespecial 264, 3) := DX1_faceAt.2.2.2.2.2.2.2.2.2.2.2.1
theorem dX1_faceAt_26 : decode cX1_faceAt 26 = .ok (.athrow, 1) := DX1_faceAt.2.2.2.2.2.2.2.2.2.2.2.2.1
theorem dX1_faceAt_27 : decode cX1_faceAt 27 = .ok (.aload_n 0, 1) := DX1_faceAt.2.2.2.2.2.2.2.2.2.2.2.2.2.1
theorem dX1_faceAt_28 : decode cX1_faceAt 28 = .ok (.getfield 42, 3) := DX1_faceAt.2.2.2.2.2.2.2.2.2.2.2.2.2.2.1
theorem dX1_faceAt_31 : decode cX1_faceAt 31 = .ok (.iload_n 1, 1) := DX1_faceAt.2.2.2.2.2.2.2.2.2.2.2.2.2.2.2.1
theorem dX1_faceAt_32 : decode cX1_faceAt 32 = .ok (.invokevirtual 114, 3) := DX1_faceAt.2.2.2.2.2.2.2.2.2.2.2.2.2.2.2.2.1
theorem dX1_faceAt_35 : decode cX1_faceAt 35 = .ok (.checkcast 209, 3) := DX1_faceAt.2.2.2.2.2.2.2.2.2.2.2.2.2.2.2.2.2.1
theorem dX1_faceAt_38 : decode cX1_faceAt 38 = .ok (.areturn, 1) := DX1_faceAt.2.2.2.2.2.2.2.2.2.2.2.2.2.2.2.2.2.2
theorem dX1_border_0 : decode cX1_border 0 = .ok (.aload_n 0, 1) := DX1_border.1
theorem dX1_border_1 : decode cX1_border 1 = .ok (.iload_n 1, 1) := DX1_border.2.1
theorem dX1_border_2 : decode cX1_border 2 = .ok (.invokevirtual 275, 3) := DX1_border.2.2.1
theorem dX1_border_5 : decode cX1_border 5 = .ok (.astore_n 3, 1) := DX1_border.2.2.2.1
theorem dX1_border_6 : decode cX1_border 6 = .ok (.iload_n 2, 1) := DX1_border.2.2.2.2.1
theorem dX1_border_7 : decode cX1_border 7 = .ok (.tableswitch 76 0 3 #[29, 39, 47, 68], 29) := DX1_border.2.2.2.2.2.1
theorem dX1_border_36 : decode cX1_border 36 = .ok (.aload_n 3, 1) := DX1_border.2.2.2.2.2.2.1
theorem dX1_border_37 : decode cX1_border 37 = .ok (.getfield 280, 3) := DX1_border.2.2.2.2.2.2.2.1
theorem dX1_border_40 : decode cX1_border 40 = .ok (.invokevirtual 110, 3) := DX1_border.2.2.2.2.2.2.2.2.1
theorem dX1_border_43 : decode cX1_border 43 = .ok (.goto 41, 3) := DX1_border.2.2.2.2.2.2.2.2.2.1
theorem dX1_border_46 : decode cX1_border 46 = .ok (.aload_n 0, 1) := DX1_border.2.2.2.2.2.2.2.2.2.2.1
theorem dX1_border_47 : decode cX1_border 47 = .ok (.aload_n 3, 1) := DX1_border.2.2.2.2.2.2.2.2.2.2.2.1
theorem dX1_border_48 : decode cX1_border 48 = .ok (.invokevirtual 282, 3) := DX1_border.2.2.2.2.2.2.2.2.2.2.2.2.1
theorem dX1_border_51 : decode cX1_border 51 = .ok (.goto 33, 3) := DX1_border.2.2.2.2.2.2.2.2.2.2.2.2.2.1
theorem dX1_border_54 : decode cX1_border 54 = .ok (.aload_n 3, 1) := DX1_border.2.2.2.2.2.2.2.2.2.2.2.2.2.2.1
theorem dX1_border_55 : decode cX1_border 55 = .ok (.getfield 280, 3) := DX1_border.2.2.2.2.2.2.2.2.2.2.2.2.2.2.2.1
theorem dX1_border_58 : decode cX1_border 58 = .ok (.invokevirtual 285, 3) := DX1_border.2.2.2.2.2.2.2.2.2.2.2.2.2.2.2.2.1
theorem dX1_border_61 : decode cX1_border 61 = .ok (.ifCond .eq 7, 3) := DX1_border.2.2.2.2.2.2.2.2.2.2.2.2.2.2.2.2.2.1
theorem dX1_border_64 : decode cX1_border 64 = .ok (.iconst (-1), 1) := DX1_border.2.2.2.2.2.2.2.2.2.2.2.2.2.2.2.2.2.2.1
theorem dX1_border_65 : decode cX1_border 65 = .ok (.goto 19, 3) := DX1_border.2.2.2.2.2.2.2.2.2.2.2.2.2.2.2.2.2.2.2.1
theorem dX1_border_68 : decode cX1_border 68 = .ok (.aload_n 3, 1) := DX1_border.2.2.2.2.2.2.2.2.2.2.2.2.2.2.2.2.2.2.2.2.1
theorem dX1_border_69 : decode cX1_border 69 = .ok (.getfield 229, 3) := DX1_border.2.2.2.2.2.2.2.2.2.2.2.2.2.2.2.2.2.2.2.2.2.1
theorem dX1_border_72 : decode cX1_border 72 = .ok (.goto 12, 3) := DX1_border.2.2.2.2.2.2.2.2.2.2.2.2.2.2.2.2.2.2.2.2.2.2.1
theorem dX1_border_75 : decode cX1_border 75 = .ok (.aload_n 0, 1) := DX1_border.2.2.2.2.2.2.2.2.2.2.2.2.2.2.2.2.2.2.2.2.2.2.2.1
theorem dX1_border_76 : decode cX1_border 76 = .ok (.aload_n 3, 1) := DX1_border.2.2.2.2.2.2.2.2.2.2.2.2.2.2.2.2.2.2.2.2.2.2.2.2.1
theorem dX1_border_77 : decode cX1_border 77 = .ok (.invokevirtual 288, 3) := DX1_border.2.2.2.2.2.2.2.2.2.2.2.2.2.2.2.2.2.2.2.2.2.2.2.2.2.1
theorem dX1_border_80 : decode cX1_border 80 = .ok (.goto 4, 3) := DX1_border.2.2.2.2.2.2.2.2.2.2.2.2.2.2.2.2.2.2.2.2.2.2.2.2.2.2.1
theorem dX1_border_83 : decode cX1_border 83 = .ok (.iconst (-1), 1) := DX1_border.2.2.2.2.2.2.2.2.2.2.2.2.2.2.2.2.2.2.2.2.2.2.2.2.2.2.2.1
theorem dX1_border_84 : decode cX1_border 84 = .ok (.ireturn, 1) := DX1_border.2.2.2.2.2.2.2.2.2.2.2.2.2.2.2.2.2.2.2.2.2.2.2.2.2.2.2.2
theorem dX1_length_0 : decode cX1_length 0 = .ok (.iconst 0, 1) := DX1_length.1
theorem dX1_length_1 : decode cX1_length 1 = .ok (.istore_n 2, 1) := DX1_length.2.1
theorem dX1_length_2 : decode cX1_length 2 = .ok (.iconst 0, 1) := DX1_length.2.2.1
theorem dX1_length_3 : decode cX1_length 3 = .ok (.istore_n 3, 1) := DX1_length.2.2.2.1
theorem dX1_length_4 : decode cX1_length 4 = .ok (.iload_n 3, 1) := DX1_length.2.2.2.2.1
theorem dX1_length_5 : decode cX1_length 5 = .ok (.aload_n 1, 1) := DX1_length.2.2.2.2.2.1
theorem dX1_length_6 : decode cX1_length 6 = .ok (.getfield 280, 3) := DX1_length.2.2.2.2.2.2.1
theorem dX1_length_9 : decode cX1_length 9 = .ok (.invokevirtual 110, 3) := DX1_length.2.2.2.2.2.2.2.1
theorem dX1_length_12 : decode cX1_length 12 = .ok (.if_icmp .ge 26, 3) := DX1_length.2.2.2.2.2.2.2.2.1
theorem dX1_length_15 : decode cX1_length 15 = .ok (.iload_n 2, 1) := DX1_length.2.2.2.2.2.2.2.2.2.1
theorem dX1_length_16 : decode cX1_length 16 = .ok (.aload_n 1, 1) := DX1_length.2.2.2.2.2.2.2.2.2.2.1
theorem dX1_length_17 : decode cX1_length 17 = .ok (.getfield 280, 3) := DX1_length.2.2.2.2.2.2.2.2.2.2.2.1
theorem dX1_length_20 : decode cX1_length 20 = .ok (.iload_n 3, 1) := DX1_length.2.2.2.2.2.2.2.2.2.2.2.2.1
theorem dX1_length_21 : decode cX1_length 21 = .ok (.invokevirtual 114, 3) := DX1_length.2.2.2.2.2.2.2.2.2.2.2.2.2.1
theorem dX1_length_24 : decode cX1_length 24 = .ok (.checkcast 48, 3) := DX1_length.2.2.2.2.2.2.2.2.2.2.2.2.2.2.1
theorem dX1_length_27 : decode cX1_length 27 = .ok (.invokevirtual 281, 3) := DX1_length.2.2.2.2.2.2.2.2.2.2.2.2.2.2.2.1
theorem dX1_length_30 : decode cX1_length 30 = .ok (.iadd, 1) := DX1_length.2.2.2.2.2.2.2.2.2.2.2.2.2.2.2.2.1
theorem dX1_length_31 : decode cX1_length 31 = .ok (.istore_n 2, 1) := DX1_length.2.2.2.2.2.2.2.2.2.2.2.2.2.2.2.2.2.1
theorem dX1_length_32 : decode cX1_length 32 = .ok (.iinc 3 1, 3) := DX1_length.2.2.2.2.2.2.2.2.2.2.2.2.2.2.2.2.2.2.1
theorem dX1_length_35 : decode cX1_length 35 = .ok (.goto (-31), 3) := DX1_length.2.2.2.2.2.2.2.2.2.2.2.2.2.2.2.2.2.2.2.1
theorem dX1_length_38 : decode cX1_length 38 = .ok (.iload_n 2, 1) := DX1_length.2.2.2.2.2.2.2.2.2.2.2.2.2.2.2.2.2.2.2.2.1
theorem dX1_length_39 : decode cX1_length 39 = .ok (.ireturn, 1) := DX1_length.2.2.2.2.2.2.2.2.2.2.2.2.2.2.2.2.2.2.2.2.2
theorem dX1_inside_0 : decode cX1_inside 0 = .ok (.iconst 0, 1) := DX1_inside.1
theorem dX1_inside_1 : decode cX1_inside 1 = .ok (.istore_n 2, 1) := DX1_inside.2.1
theorem dX1_inside_2 : decode cX1_inside 2 = .ok (.iconst 0, 1) := DX1_inside.2.2.1
theorem dX1_inside_3 : decode cX1_inside 3 = .ok (.istore_n 3, 1) := DX1_inside.2.2.2.1
theorem dX1_inside_4 : decode cX1_inside 4 = .ok (.iload_n 3, 1) := DX1_inside.2.2.2.2.1
theorem dX1_inside_5 : decode cX1_inside 5 = .ok (.aload_n 0, 1) := DX1_inside.2.2.2.2.2.1
theorem dX1_inside_6 : decode cX1_inside 6 = .ok (.getfield 235, 3) := DX1_inside.2.2.2.2.2.2.1
theorem dX1_inside_9 : decode cX1_inside 9 = .ok (.if_icmp .ge 30, 3) := DX1_inside.2.2.2.2.2.2.2.1
theorem dX1_inside_12 : decode cX1_inside 12 = .ok (.iload_n 2, 1) := DX1_inside.2.2.2.2.2.2.2.2.1
theorem dX1_inside_13 : decode cX1_inside 13 = .ok (.aload_n 0, 1) := DX1_inside.2.2.2.2.2.2.2.2.2.1
theorem dX1_inside_14 : decode cX1_inside 14 = .ok (.getfield 50, 3) := DX1_inside.2.2.2.2.2.2.2.2.2.2.1
theorem dX1_inside_17 : decode cX1_inside 17 = .ok (.iload_n 3, 1) := DX1_inside.2.2.2.2.2.2.2.2.2.2.2.1
theorem dX1_inside_18 : decode cX1_inside 18 = .ok (.aaload, 1) := DX1_inside.2.2.2.2.2.2.2.2.2.2.2.2.1
theorem dX1_inside_19 : decode cX1_inside 19 = .ok (.getfield 198, 3) := DX1_inside.2.2.2.2.2.2.2.2.2.2.2.2.2.1
theorem dX1_inside_22 : decode cX1_inside 22 = .ok (.aload_n 1, 1) := DX1_inside.2.2.2.2.2.2.2.2.2.2.2.2.2.2.1
theorem dX1_inside_23 : decode cX1_inside 23 = .ok (.if_acmp .ne 7, 3) := DX1_inside.2.2.2.2.2.2.2.2.2.2.2.2.2.2.2.1
theorem dX1_inside_26 : decode cX1_inside 26 = .ok (.iconst 1, 1) := DX1_inside.2.2.2.2.2.2.2.2.2.2.2.2.2.2.2.2.1
theorem dX1_inside_27 : decode cX1_inside 27 = .ok (.goto 4, 3) := DX1_inside.2.2.2.2.2.2.2.2.2.2.2.2.2.2.2.2.2.1
theorem dX1_inside_30 : decode cX1_inside 30 = .ok (.iconst 0, 1) := DX1_inside.2.2.2.2.2.2.2.2.2.2.2.2.2.2.2.2.2.2.1
theorem dX1_inside_31 : decode cX1_inside 31 = .ok (.iadd, 1) := DX1_inside.2.2.2.2.2.2.2.2.2.2.2.2.2.2.2.2.2.2.2.1
theorem dX1_inside_32 : decode cX1_inside 32 = .ok (.istore_n 2, 1) := DX1_inside.2.2.2.2.2.2.2.2.2.2.2.2.2.2.2.2.2.2.2.2.1
theorem dX1_inside_33 : decode cX1_inside 33 = .ok (.iinc 3 1, 3) := DX1_inside.2.2.2.2.2.2.2.2.2.2.2.2.2.2.2.2.2.2.2.2.2.1
theorem dX1_inside_36 : decode cX1_inside 36 = .ok (.goto (-32), 3) := DX1_inside.2.2.2.2.2.2.2.2.2.2.2.2.2.2.2.2.2.2.2.2.2.2.1
theorem dX1_inside_39 : decode cX1_inside 39 = .ok (.iload_n 2, 1) := DX1_inside.2.2.2.2.2.2.2.2.2.2.2.2.2.2.2.2.2.2.2.2.2.2.2.1
theorem dX1_inside_40 : decode cX1_inside 40 = .ok (.ireturn, 1) := DX1_inside.2.2.2.2.2.2.2.2.2.2.2.2.2.2.2.2.2.2.2.2.2.2.2.2
theorem dX1_locate_0 : decode cX1_locate 0 = .ok (.iload_n 1, 1) := DX1_locate.1
theorem dX1_locate_1 : decode cX1_locate 1 = .ok (.invokestatic 87, 3) := DX1_locate.2.1
theorem dX1_locate_4 : decode cX1_locate 4 = .ok (.ifCond .eq 14, 3) := DX1_locate.2.2.1
theorem dX1_locate_7 : decode cX1_locate 7 = .ok (.iload_n 2, 1) := DX1_locate.2.2.2.1
theorem dX1_locate_8 : decode cX1_locate 8 = .ok (.invokestatic 87, 3) := DX1_locate.2.2.2.2.1
theorem dX1_locate_11 : decode cX1_locate 11 = .ok (.ifCond .eq 7, 3) := DX1_locate.2.2.2.2.2.1
theorem dX1_locate_14 : decode cX1_locate 14 = .ok (.iconst 1, 1) := DX1_locate.2.2.2.2.2.2.1
theorem dX1_locate_15 : decode cX1_locate 15 = .ok (.goto 4, 3) := DX1_locate.2.2.2.2.2.2.2.1
theorem dX1_locate_18 : decode cX1_locate 18 = .ok (.iconst 0, 1) := DX1_locate.2.2.2.2.2.2.2.2.1
theorem dX1_locate_19 : decode cX1_locate 19 = .ok (.invokestatic 91, 3) := DX1_locate.2.2.2.2.2.2.2.2.2.1
theorem dX1_locate_22 : decode cX1_locate 22 = .ok (.aload_n 0, 1) := DX1_locate.2.2.2.2.2.2.2.2.2.2.1
theorem dX1_locate_23 : decode cX1_locate 23 = .ok (.invokevirtual 259, 3) := DX1_locate.2.2.2.2.2.2.2.2.2.2.2.1
theorem dX1_locate_26 : decode cX1_locate 26 = .ok (.iconst 0, 1) := DX1_locate.2.2.2.2.2.2.2.2.2.2.2.2.1
theorem dX1_locate_27 : decode cX1_locate 27 = .ok (.istore_n 3, 1) := DX1_locate.2.2.2.2.2.2.2.2.2.2.2.2.2.1
theorem dX1_locate_28 : decode cX1_locate 28 = .ok (.iload_n 3, 1) := DX1_locate.2.2.2.2.2.2.2.2.2.2.2.2.2.2.1
theorem dX1_locate_29 : decode cX1_locate 29 = .ok (.aload_n 0, 1) := DX1_locate.2.2.2.2.2.2.2.2.2.2.2.2.2.2.2.1
theorem dX1_locate_30 : decode cX1_locate 30 = .ok (.getfield 29, 3) := DX1_locate.2.2.2.2.2.2.2.2.2.2.2.2.2.2.2.2.1
theorem dX1_locate_33 : decode cX1_locate 33 = .ok (.invokevirtual 110, 3) := DX1_locate.2.2.2.2.2.2.2.2.2.2.2.2.2.2.2.2.2.1
theorem dX1_locate_36 : decode cX1_locate 36 = .ok (.if_icmp .ge 64, 3) := DX1_locate.2.2.2.2.2.2.2.2.2.2.2.2.2.2.2.2.2.2.1
theorem dX1_locate_39 : decode cX1_locate 39 = .ok (.aload_n 0, 1) := DX1_locate.2.2.2.2.2.2.2.2.2.2.2.2.2.2.2.2.2.2.2.1
theorem dX1_locate_40 : decode cX1_locate 40 = .ok (.getfield 29, 3) := DX1_locate.2.2.2.2.2.2.2.2.2.2.2.2.2.2.2.2.2.2.2.2.1
theorem dX1_locate_43 : decode cX1_locate 43 = .ok (.iload_n 3, 1) := DX1_locate.2.2.2.2.2.2.2.2.2.2.2.2.2.2.2.2.2.2.2.2.2.1
theorem dX1_locate_44 : decode cX1_locate 44 = .ok (.invokevirtual 114, 3) := DX1_locate.2.2.2.2.2.2.2.2.2.2.2.2.2.2.2.2.2.2.2.2.2.2.1
theorem dX1_locate_47 : decode cX1_locate 47 = .ok (.checkcast 118, 3) := DX1_locate.2.2.2.2.2.2.2.2.2.2.2.2.2.2.2.2.2.2.2.2.2.2.2.1
theorem dX1_locate_50 : decode cX1_locate 50 = .ok (.getfield 120, 3) := DX1_locate.2.2.2.2.2.2.2.2.2.2.2.2.2.2.2.2.2.2.2.2.2.2.2.2.1
theorem dX1_locate_53 : decode cX1_locate 53 = .ok (.iload_n 1, 1) := DX1_locate.2.2.2.2.2.2.2.2.2.2.2.2.2.2.2.2.2.2.2.2.2.2.2.2.2.1
theorem dX1_locate_54 : decode cX1_locate 54 = .ok (.if_icmp .ne 40, 3) := DX1_locate.2.2.2.2.2.2.2.2.2.2.2.2.2.2.2.2.2.2.2.2.2.2.2.2.2.2.1
theorem dX1_locate_57 : decode cX1_locate 57 = .ok (.aload_n 0, 1) := DX1_locate.2.2.2.2.2.2.2.2.2.2.2.2.2.2.2.2.2.2.2.2.2.2.2.2.2.2.2.1
theorem dX1_locate_58 : decode cX1_locate 58 = .ok (.getfield 29, 3) := DX1_locate.2.2.2.2.2.2.2.2.2.2.2.2.2.2.2.2.2.2.2.2.2.2.2.2.2.2.2.2.1
theorem dX1_locate_61 : decode cX1_locate 61 = .ok (.iload_n 3, 1) := DX1_locate.2.2.2.2.2.2.2.2.2.2.2.2.2.2.2.2.2.2.2.2.2.2.2.2.2.2.2.2.2.1
theorem dX1_locate_62 : decode cX1_locate 62 = .ok (.invokevirtual 114, 3) := DX1_locate.2.2.2.2.2.2.2.2.2.2.2.2.2.2.2.2.2.2.2.2.2.2.2.2.2.2.2.2.2.2.1
theorem dX1_locate_65 : decode cX1_locate 65 = .ok (.checkcast 118, 3) := DX1_locate.2.2.2.2.2.2.2.2.2.2.2.2.2.2.2.2.2.2.2.2.2.2.2.2.2.2.2.2.2.2.2.1
theorem dX1_locate_68 : decode cX1_locate 68 = .ok (.getfield 123, 3) := DX1_locate.2.2.2.2.2.2.2.2.2.2.2.2.2.2.2.2.2.2.2.2.2.2.2.2.2.2.2.2.2.2.2.2.1
theorem dX1_locate_71 : decode cX1_locate 71 = .ok (.iload_n 2, 1) := DX1_locate.2.2.2.2.2.2.2.2.2.2.2.2.2.2.2.2.2.2.2.2.2.2.2.2.2.2.2.2.2.2.2.2.2.1
theorem dX1_locate_72 : decode cX1_locate 72 = .ok (.if_icmp .ne 22, 3) := DX1_locate.2.2.2.2.2.2.2.2.2.2.2.2.2.2.2.2.2.2.2.2.2.2.2.2.2.2.2.2.2.2.2.2.2.2.1
theorem dX1_locate_75 : decode cX1_locate 75 = .ok (.bipush (-100), 2) := DX1_locate.2.2.2.2.2.2.2.2.2.2.2.2.2.2.2.2.2.2.2.2.2.2.2.2.2.2.2.2.2.2.2.2.2.2.2.1
theorem dX1_locate_77 : decode cX1_locate 77 = .ok (.aload_n 0, 1) := DX1_locate.2.2.2.2.2.2.2.2.2.2.2.2.2.2.2.2.2.2.2.2.2.2.2.2.2.2.2.2.2.2.2.2.2.2.2.2.1
theorem dX1_locate_78 : decode cX1_locate 78 = .ok (.aload_n 0, 1) := DX1_locate.2.2.2.2.2.2.2.2.2.2.2.2.2.2.2.2.2.2.2.2.2.2.2.2.2.2.2.2.2.2.2.2.2.2.2.2.2.1
theorem dX1_locate_79 : decode cX1_locate 79 = .ok (.getfield 29, 3) := DX1_locate.2.2.2.2.2.2.2.2.2.2.2.2.2.2.2.2.2.2.2.2.2.2.2.2.2.2.2.2.2.2.2.2.2.2.2.2.2.2.1
theorem dX1_locate_82 : decode cX1_locate 82 = .ok (.iload_n 3, 1) := DX1_locate.2.2.2.2.2.2.2.2.2.2.2.2.2.2.2.2.2.2.2.2.2.2.2.2.2.2.2.2.2.2.2.2.2.2.2.2.2.2.2.1
theorem dX1_locate_83 : decode cX1_locate 83 = .ok (.invokevirtual 114, 3) := DX1_locate.2.2.2.2.2.2.2.2.2.2.2.2.2.2.2.2.2.2.2.2.2.2.2.2.2.2.2.2.2.2.2.2.2.2.2.2.2.2.2.2.1
theorem dX1_locate_86 : decode cX1_locate 86 = .ok (.checkcast 118, 3) := DX1_locate.2.2.2.2.2.2.2.2.2.2.2.2.2.2.2.2.2.2.2.2.2.2.2.2.2.2.2.2.2.2.2.2.2.2.2.2.2.2.2.2.2.1
theorem dX1_locate_89 : decode cX1_locate 89 = .ok (.invokevirtual 291, 3) := DX1_locate.2.2.2.2.2.2.2.2.2.2.2.2.2.2.2.2.2.2.2.2.2.2.2.2.2.2.2.2.2.2.2.2.2.2.2.2.2.2.2.2.2.2.1
theorem dX1_locate_92 : decode cX1_locate 92 = .ok (.isub, 1) := DX1_locate.2.2.2.2.2.2.2.2.2.2.2.2.2.2.2.2.2.2.2.2.2.2.2.2.2.2.2.2.2.2.2.2.2.2.2.2.2.2.2.2.2.2.2.1
theorem dX1_locate_93 : decode cX1_locate 93 = .ok (.ireturn, 1) := DX1_locate.2.2.2.2.2.2.2.2.2.2.2.2.2.2.2.2.2.2.2.2.2.2.2.2.2.2.2.2.2.2.2.2.2.2.2.2.2.2.2.2.2.2.2.2.1
theorem dX1_locate_94 : decode cX1_locate 94 = .ok (.iinc 3 1, 3) := DX1_locate.2.2.2.2.2.2.2.2.2.2.2.2.2.2.2.2.2.2.2.2.2.2.2.2.2.2.2.2.2.2.2.2.2.2.2.2.2.2.2.2.2.2.2.2.2.1
theorem dX1_locate_97 : decode cX1_locate 97 = .ok (.goto (-69), 3) := DX1_locate.2.2.2.2.2.2.2.2.2.2.2.2.2.2.2.2.2.2.2.2.2.2.2.2.2.2.2.2.2.2.2.2.2.2.2.2.2.2.2.2.2.2.2.2.2.2.1
theorem dX1_locate_100 : decode cX1_locate 100 = .ok (.iconst 0, 1) := DX1_locate.2.2.2.2.2.2.2.2.2.2.2.2.2.2.2.2.2.2.2.2.2.2.2.2.2.2.2.2.2.2.2.2.2.2.2.2.2.2.2.2.2.2.2.2.2.2.2.1
theorem dX1_locate_101 : decode cX1_locate 101 = .ok (.istore_n 3, 1) := DX1_locate.2.2.2.2.2.2.2.2.2.2.2.2.2.2.2.2.2.2.2.2.2.2.2.2.2.2.2.2.2.2.2.2.2.2.2.2.2.2.2.2.2.2.2.2.2.2.2.2.1
theorem dX1_locate_102 : decode cX1_locate 102 = .ok (.iload_n 3, 1) := DX1_locate.2.2.2.2.2.2.2.2.2.2.2.2.2.2.2.2.2.2.2.2.2.2.2.2.2.2.2.2.2.2.2.2.2.2.2.2.2.2.2.2.2.2.2.2.2.2.2.2.2.1
theorem dX1_locate_103 : decode cX1_locate 103 = .ok (.bipush 60, 2) := DX1_locate.2.2.2.2.2.2.2.2.2.2.2.2.2.2.2.2.2.2.2.2.2.2.2.2.2.2.2.2.2.2.2.2.2.2.2.2.2.2.2.2.2.2.2.2.2.2.2.2.2.2.1
theorem dX1_locate_105 : decode cX1_locate 105 = .ok (.if_icmp .ge 33, 3) := DX1_locate.2.2.2.2.2.2.2.2.2.2.2.2.2.2.2.2.2.2.2.2.2.2.2.2.2.2.2.2.2.2.2.2.2.2.2.2.2.2.2.2.2.2.2.2.2.2.2.2.2.2.2.1
theorem dX1_locate_108 : decode cX1_locate 108 = .ok (.aload_n 0, 1) := DX1_locate.2.2.2.2.2.2.2.2.2.2.2.2.2.2.2.2.2.2.2.2.2.2.2.2.2.2.2.2.2.2.2.2.2.2.2.2.2.2.2.2.2.2.2.2.2.2.2.2.2.2.2.2.1
theorem dX1_locate_109 : decode cX1_locate 109 = .ok (.getfield 7, 3) := DX1_locate.2.2.2.2.2.2.2.2.2.2.2.2.2.2.2.2.2.2.2.2.2.2.2.2.2.2.2.2.2.2.2.2.2.2.2.2.2.2.2.2.2.2.2.2.2.2.2.2.2.2.2.2.2.1
theorem dX1_locate_112 : decode cX1_locate 112 = .ok (.iload_n 3, 1) := DX1_locate.2.2.2.2.2.2.2.2.2.2.2.2.2.2.2.2.2.2.2.2.2.2.2.2.2.2.2.2.2.2.2.2.2.2.2.2.2.2.2.2.2.2.2.2.2.2.2.2.2.2.2.2.2.2.1
theorem dX1_locate_113 : decode cX1_locate 113 = .ok (.baload, 1) := DX1_locate.2.2.2.2.2.2.2.2.2.2.2.2.2.2.2.2.2.2.2.2.2.2.2.2.2.2.2.2.2.2.2.2.2.2.2.2.2.2.2.2.2.2.2.2.2.2.2.2.2.2.2.2.2.2.2.1
theorem dX1_locate_114 : decode cX1_locate 114 = .ok (.ifCond .eq 18, 3) := DX1_locate.2.2.2.2.2.2.2.2.2.2.2.2.2.2.2.2.2.2.2.2.2.2.2.2.2.2.2.2.2.2.2.2.2.2.2.2.2.2.2.2.2.2.2.2.2.2.2.2.2.2.2.2.2.2.2.2.1
theorem dX1_locate_117 : decode cX1_locate 117 = .ok (.aload_n 0, 1) := DX1_locate.2.2.2.2.2.2.2.2.2.2.2.2.2.2.2.2.2.2.2.2.2.2.2.2.2.2.2.2.2.2.2.2.2.2.2.2.2.2.2.2.2.2.2.2.2.2.2.2.2.2.2.2.2.2.2.2.2.1
theorem dX1_locate_118 : decode cX1_locate 118 = .ok (.iload_n 3, 1) := DX1_locate.2.2.2.2.2.2.2.2.2.2.2.2.2.2.2.2.2.2.2.2.2.2.2.2.2.2.2.2.2.2.2.2.2.2.2.2.2.2.2.2.2.2.2.2.2.2.2.2.2.2.2.2.2.2.2.2.2.2.1
theorem dX1_locate_119 : decode cX1_locate 119 = .ok (.iload_n 1, 1) := DX1_locate.2.2.2.2.2.2.2.2.2.2.2.2.2.2.2.2.2.2.2.2.2.2.2.2.2.2.2.2.2.2.2.2.2.2.2.2.2.2.2.2.2.2.2.2.2.2.2.2.2.2.2.2.2.2.2.2.2.2.2.1
theorem dX1_locate_120 : decode cX1_locate 120 = .ok (.iload_n 2, 1) := DX1_locate.2.2.2.2.2.2.2.2.2.2.2.2.2.2.2.2.2.2.2.2.2.2.2.2.2.2.2.2.2.2.2.2.2.2.2.2.2.2.2.2.2.2.2.2.2.2.2.2.2.2.2.2.2.2.2.2.2.2.2.2.1
theorem dX1_locate_121 : decode cX1_locate 121 = .ok (.invokevirtual 80, 3) := DX1_locate.2.2.2.2.2.2.2.2.2.2.2.2.2.2.2.2.2.2.2.2.2.2.2.2.2.2.2.2.2.2.2.2.2.2.2.2.2.2.2.2.2.2.2.2.2.2.2.2.2.2.2.2.2.2.2.2.2.2.2.2.2.1
theorem dX1_locate_124 : decode cX1_locate 124 = .ok (.ifCond .eq 8, 3) := DX1_locate.2.2.2.2.2.2.2.2.2.2.2.2.2.2.2.2.2.2.2.2.2.2.2.2.2.2.2.2.2.2.2.2.2.2.2.2.2.2.2.2.2.2.2.2.2.2.2.2.2.2.2.2.2.2.2.2.2.2.2.2.2.2.1
theorem dX1_locate_127 : decode cX1_locate 127 = .ok (.bipush (-2), 2) := DX1_locate.2.2.2.2.2.2.2.2.2.2.2.2.2.2.2.2.2.2.2.2.2.2.2.2.2.2.2.2.2.2.2.2.2.2.2.2.2.2.2.2.2.2.2.2.2.2.2.2.2.2.2.2.2.2.2.2.2.2.2.2.2.2.2.1
theorem dX1_locate_129 : decode cX1_locate 129 = .ok (.iload_n 3, 1) := DX1_locate.2.2.2.2.2.2.2.2.2.2.2.2.2.2.2.2.2.2.2.2.2.2.2.2.2.2.2.2.2.2.2.2.2.2.2.2.2.2.2.2.2.2.2.2.2.2.2.2.2.2.2.2.2.2.2.2.2.2.2.2.2.2.2.2.1
theorem dX1_locate_130 : decode cX1_locate 130 = .ok (.isub, 1) := DX1_locate.2.2.2.2.2.2.2.2.2.2.2.2.2.2.2.2.2.2.2.2.2.2.2.2.2.2.2.2.2.2.2.2.2.2.2.2.2.2.2.2.2.2.2.2.2.2.2.2.2.2.2.2.2.2.2.2.2.2.2.2.2.2.2.2.2.1
theorem dX1_locate_131 : decode cX1_locate 131 = .ok (.ireturn, 1) := DX1_locate.2.2.2.2.2.2.2.2.2.2.2.2.2.2.2.2.2.2.2.2.2.2.2.2.2.2.2.2.2.2.2.2.2.2.2.2.2.2.2.2.2.2.2.2.2.2.2.2.2.2.2.2.2.2.2.2.2.2.2.2.2.2.2.2.2.2.1
theorem dX1_locate_132 : decode cX1_locate 132 = .ok (.iinc 3 1, 3) := DX1_locate.2.2.2.2.2.2.2.2.2.2.2.2.2.2.2.2.2.2.2.2.2.2.2.2.2.2.2.2.2.2.2.2.2.2.2.2.2.2.2.2.2.2.2.2.2.2.2.2.2.2.2.2.2.2.2.2.2.2.2.2.2.2.2.2.2.2.2.1
theorem dX1_locate_135 : decode cX1_locate 135 = .ok (.goto (-33), 3) := DX1_locate.2.2.2.2.2.2.2.2.2.2.2.2.2.2.2.2.2.2.2.2.2.2.2.2.2.2.2.2.2.2.2.2.2.2.2.2.2.2.2.2.2.2.2.2.2.2.2.2.2.2.2.2.2.2.2.2.2.2.2.2.2.2.2.2.2.2.2.2.1
theorem dX1_locate_138 : decode cX1_locate 138 = .ok (.aload_n 0, 1) := DX1_locate.2.2.2.2.2.2.2.2.2.2.2.2.2.2.2.2.2.2.2.2.2.2.2.2.2.2.2.2.2.2.2.2.2.2.2.2.2.2.2.2.2.2.2.2.2.2.2.2.2.2.2.2.2.2.2.2.2.2.2.2.2.2.2.2.2.2.2.2.2.1
theorem dX1_locate_139 : decode cX1_locate 139 = .ok (.iload_n 1, 1) := DX1_locate.2.2.2.2.2.2.2.2.2.2.2.2.2.2.2.2.2.2.2.2.2.2.2.2.2.2.2.2.2.2.2.2.2.2.2.2.2.2.2.2.2.2.2.2.2.2.2.2.2.2.2.2.2.2.2.2.2.2.2.2.2.2.2.2.2.2.2.2.2.2.1
theorem dX1_locate_140 : decode cX1_locate 140 = .ok (.iload_n 2, 1) := DX1_locate.2.2.2.2.2.2.2.2.2.2.2.2.2.2.2.2.2.2.2.2.2.2.2.2.2.2.2.2.2.2.2.2.2.2.2.2.2.2.2.2.2.2.2.2.2.2.2.2.2.2.2.2.2.2.2.2.2.2.2.2.2.2.2.2.2.2.2.2.2.2.2.1
theorem dX1_locate_141 : decode cX1_locate 141 = .ok (.invokevirtual 206, 3) := DX1_locate.2.2.2.2.2.2.2.2.2.2.2.2.2.2.2.2.2.2.2.2.2.2.2.2.2.2.2.2.2.2.2.2.2.2.2.2.2.2.2.2.2.2.2.2.2.2.2.2.2.2.2.2.2.2.2.2.2.2.2.2.2.2.2.2.2.2.2.2.2.2.2.2.1
theorem dX1_locate_144 : decode cX1_locate 144 = .ok (.astore_n 3, 1) := DX1_locate.2.2.2.2.2.2.2.2.2.2.2.2.2.2.2.2.2.2.2.2.2.2.2.2.2.2.2.2.2.2.2.2.2.2.2.2.2.2.2.2.2.2.2.2.2.2.2.2.2.2.2.2.2.2.2.2.2.2.2.2.2.2.2.2.2.2.2.2.2.2.2.2.2.1
theorem dX1_locate_145 : decode cX1_locate 145 = .ok (.aload_n 3, 1) := DX1_locate.2.2.2.2.2.2.2.2.2.2.2.2.2.2.2.2.2.2.2.2.2.2.2.2.2.2.2.2.2.2.2.2.2.2.2.2.2.2.2.2.2.2.2.2.2.2.2.2.2.2.2.2.2.2.2.2.2.2.2.2.2.2.2.2.2.2.2.2.2.2.2.2.2.2.1
theorem dX1_locate_146 : decode cX1_locate 146 = .ok (.ifnonnull 7, 3) := DX1_locate.2.2.2.2.2.2.2.2.2.2.2.2.2.2.2.2.2.2.2.2.2.2.2.2.2.2.2.2.2.2.2.2.2.2.2.2.2.2.2.2.2.2.2.2.2.2.2.2.2.2.2.2.2.2.2.2.2.2.2.2.2.2.2.2.2.2.2.2.2.2.2.2.2.2.2.1
theorem dX1_locate_149 : decode cX1_locate 149 = .ok (.iconst 0, 1) := DX1_locate.2.2.2.2.2.2.2.2.2.2.2.2.2.2.2.2.2.2.2.2.2.2.2.2.2.2.2.2.2.2.2.2.2.2.2.2.2.2.2.2.2.2.2.2.2.2.2.2.2.2.2.2.2.2.2.2.2.2.2.2.2.2.2.2.2.2.2.2.2.2.2.2.2.2.2.2.1
theorem dX1_locate_150 : decode cX1_locate 150 = .ok (.goto 14, 3) := DX1_locate.2.2.2.2.2.2.2.2.2.2.2.2.2.2.2.2.2.2.2.2.2.2.2.2.2.2.2.2.2.2.2.2.2.2.2.2.2.2.2.2.2.2.2.2.2.2.2.2.2.2.2.2.2.2.2.2.2.2.2.2.2.2.2.2.2.2.2.2.2.2.2.2.2.2.2.2.2.1
theorem dX1_locate_153 : decode cX1_locate 153 = .ok (.aload_n 0, 1) := DX1_locate.2.2.2.2.2.2.2.2.2.2.2.2.2.2.2.2.2.2.2.2.2.2.2.2.2.2.2.2.2.2.2.2.2.2.2.2.2.2.2.2.2.2.2.2.2.2.2.2.2.2.2.2.2.2.2.2.2.2.2.2.2.2.2.2.2.2.2.2.2.2.2.2.2.2.2.2.2.2.1
theorem dX1_locate_154 : decode cX1_locate 154 = .ok (.aload_n 3, 1) := DX1_locate.2.2.2.2.2.2.2.2.2.2.2.2.2.2.2.2.2.2.2.2.2.2.2.2.2.2.2.2.2.2.2.2.2.2.2.2.2.2.2.2.2.2.2.2.2.2.2.2.2.2.2.2.2.2.2.2.2.2.2.2.2.2.2.2.2.2.2.2.2.2.2.2.2.2.2.2.2.2.2.1
theorem dX1_locate_155 : decode cX1_locate 155 = .ok (.getfield 160, 3) := DX1_locate.2.2.2.2.2.2.2.2.2.2.2.2.2.2.2.2.2.2.2.2.2.2.2.2.2.2.2.2.2.2.2.2.2.2.2.2.2.2.2.2.2.2.2.2.2.2.2.2.2.2.2.2.2.2.2.2.2.2.2.2.2.2.2.2.2.2.2.2.2.2.2.2.2.2.2.2.2.2.2.2.1
theorem dX1_locate_158 : decode cX1_locate 158 = .ok (.getfield 198, 3) := DX1_locate.2.2.2.2.2.2.2.2.2.2.2.2.2.2.2.2.2.2.2.2.2.2.2.2.2.2.2.2.2.2.2.2.2.2.2.2.2.2.2.2.2.2.2.2.2.2.2.2.2.2.2.2.2.2.2.2.2.2.2.2.2.2.2.2.2.2.2.2.2.2.2.2.2.2.2.2.2.2.2.2.2.1
theorem dX1_locate_161 : decode cX1_locate 161 = .ok (.invokevirtual 272, 3) := DX1_locate.2.2.2.2.2.2.2.2.2.2.2.2.2.2.2.2.2.2.2.2.2.2.2.2.2.2.2.2.2.2.2.2.2.2.2.2.2.2.2.2.2.2.2.2.2.2.2.2.2.2.2.2.2.2.2.2.2.2.2.2.2.2.2.2.2.2.2.2.2.2.2.2.2.2.2.2.2.2.2.2.2.2.1
theorem dX1_locate_164 : decode cX1_locate 164 = .ok (.ireturn, 1) := DX1_locate.2.2.2.2.2.2.2.2.2.2.2.2.2.2.2.2.2.2.2.2.2.2.2.2.2.2.2.2.2.2.2.2.2.2.2.2.2.2.2.2.2.2.2.2.2.2.2.2.2.2.2.2.2.2.2.2.2.2.2.2.2.2.2.2.2.2.2.2.2.2.2.2.2.2.2.2.2.2.2.2.2.2.2
theorem dX1_leastAt_0 : decode cX1_leastAt 0 = .ok (.bipush 120, 2) := DX1_leastAt.1
theorem dX1_leastAt_2 : decode cX1_leastAt 2 = .ok (.istore_n 2, 1) := DX1_leastAt.2.1
theorem dX1_leastAt_3 : decode cX1_leastAt 3 = .ok (.iconst 0, 1) := DX1_leastAt.2.2.1
theorem dX1_leastAt_4 : decode cX1_leastAt 4 = .ok (.istore_n 3, 1) := DX1_leastAt.2.2.2.1
theorem dX1_leastAt_5 : decode cX1_leastAt 5 = .ok (.iload_n 3, 1) := DX1_leastAt.2.2.2.2.1
theorem dX1_leastAt_6 : decode cX1_leastAt 6 = .ok (.aload_n 1, 1) := DX1_leastAt.2.2.2.2.2.1
theorem dX1_leastAt_7 : decode cX1_leastAt 7 = .ok (.getfield 155, 3) := DX1_leastAt.2.2.2.2.2.2.1
theorem dX1_leastAt_10 : decode cX1_leastAt 10 = .ok (.invokevirtual 110, 3) := DX1_leastAt.2.2.2.2.2.2.2.1
theorem dX1_leastAt_13 : decode cX1_leastAt 13 = .ok (.if_icmp .ge 28, 3) := DX1_leastAt.2.2.2.2.2.2.2.2.1
theorem dX1_leastAt_16 : decode cX1_leastAt 16 = .ok (.iload_n 2, 1) := DX1_leastAt.2.2.2.2.2.2.2.2.2.1
theorem dX1_leastAt_17 : decode cX1_leastAt 17 = .ok (.aload_n 1, 1) := DX1_leastAt.2.2.2.2.2.2.2.2.2.2.1
theorem dX1_leastAt_18 : decode cX1_leastAt 18 = .ok (.getfield 155, 3) := DX1_leastAt.2.2.2.2.2.2.2.2.2.2.2.1
theorem dX1_leastAt_21 : decode cX1_leastAt 21 = .ok (.iload_n 3, 1) := DX1_leastAt.2.2.2.2.2.2.2.2.2.2.2.2.1
theorem dX1_leastAt_22 : decode cX1_leastAt 22 = .ok (.invokevirtual 114, 3) := DX1_leastAt.2.2.2.2.2.2.2.2.2.2.2.2.2.1
theorem dX1_leastAt_25 : decode cX1_leastAt 25 = .ok (.checkcast 33, 3) := DX1_leastAt.2.2.2.2.2.2.2.2.2.2.2.2.2.2.1
theorem dX1_leastAt_28 : decode cX1_leastAt 28 = .ok (.getfield 244, 3) := DX1_leastAt.2.2.2.2.2.2.2.2.2.2.2.2.2.2.2.1
theorem dX1_leastAt_31 : decode cX1_leastAt 31 = .ok (.invokestatic 71, 3) := DX1_leastAt.2.2.2.2.2.2.2.2.2.2.2.2.2.2.2.2.1
theorem dX1_leastAt_34 : decode cX1_leastAt 34 = .ok (.istore_n 2, 1) := DX1_leastAt.2.2.2.2.2.2.2.2.2.2.2.2.2.2.2.2.2.1
theorem dX1_leastAt_35 : decode cX1_leastAt 35 = .ok (.iinc 3 1, 3) := DX1_leastAt.2.2.2.2.2.2.2.2.2.2.2.2.2.2.2.2.2.2.1
theorem dX1_leastAt_38 : decode cX1_leastAt 38 = .ok (.goto (-33), 3) := DX1_leastAt.2.2.2.2.2.2.2.2.2.2.2.2.2.2.2.2.2.2.2.1
theorem dX1_leastAt_41 : decode cX1_leastAt 41 = .ok (.iload_n 2, 1) := DX1_leastAt.2.2.2.2.2.2.2.2.2.2.2.2.2.2.2.2.2.2.2.2.1
theorem dX1_leastAt_42 : decode cX1_leastAt 42 = .ok (.ireturn, 1) := DX1_leastAt.2.2.2.2.2.2.2.2.2.2.2.2.2.2.2.2.2.2.2.2.2
theorem dX1_above_0 : decode cX1_above 0 = .ok (.iload_n 1, 1) := DX1_above.1
theorem dX1_above_1 : decode cX1_above 1 = .ok (.invokestatic 87, 3) := DX1_above.2.1
theorem dX1_above_4 : decode cX1_above 4 = .ok (.ifCond .eq 14, 3) := DX1_above.2.2.1
theorem dX1_above_7 : decode cX1_above 7 = .ok (.iload_n 2, 1) := DX1_above.2.2.2.1
theorem dX1_above_8 : decode cX1_above 8 = .ok (.invokestatic 87, 3) := DX1_above.2.2.2.2.1
theorem dX1_above_11 : decode cX1_above 11 = .ok (.ifCond .eq 7, 3) := DX1_above.2.2.2.2.2.1
theorem dX1_above_14 : decode cX1_above 14 = .ok (.iconst 1, 1) := DX1_above.2.2.2.2.2.2.1
theorem dX1_above_15 : decode cX1_above 15 = .ok (.goto 4, 3) := DX1_above.2.2.2.2.2.2.2.1
theorem dX1_above_18 : decode cX1_above 18 = .ok (.iconst 0, 1) := DX1_above.2.2.2.2.2.2.2.2.1
theorem dX1_above_19 : decode cX1_above 19 = .ok (.invokestatic 91, 3) := DX1_above.2.2.2.2.2.2.2.2.2.1
theorem dX1_above_22 : decode cX1_above 22 = .ok (.iconst (-1), 1) := DX1_above.2.2.2.2.2.2.2.2.2.2.1
theorem dX1_above_23 : decode cX1_above 23 = .ok (.istore_n 3, 1) := DX1_above.2.2.2.2.2.2.2.2.2.2.2.1
theorem dX1_above_24 : decode cX1_above 24 = .ok (.iconst 0, 1) := DX1_above.2.2.2.2.2.2.2.2.2.2.2.2.1
theorem dX1_above_25 : decode cX1_above 25 = .ok (.istore 4, 2) := DX1_above.2.2.2.2.2.2.2.2.2.2.2.2.2.1
theorem dX1_above_27 : decode cX1_above 27 = .ok (.iload 4, 2) := DX1_above.2.2.2.2.2.2.2.2.2.2.2.2.2.2.1
theorem dX1_above_29 : decode cX1_above 29 = .ok (.bipush 60, 2) := DX1_above.2.2.2.2.2.2.2.2.2.2.2.2.2.2.2.1
theorem dX1_above_31 : decode cX1_above 31 = .ok (.if_icmp .ge 49, 3) := DX1_above.2.2.2.2.2.2.2.2.2.2.2.2.2.2.2.2.1
theorem dX1_above_34 : decode cX1_above 34 = .ok (.aload_n 0, 1) := DX1_above.2.2.2.2.2.2.2.2.2.2.2.2.2.2.2.2.2.1
theorem dX1_above_35 : decode cX1_above 35 = .ok (.getfield 7, 3) := DX1_above.2.2.2.2.2.2.2.2.2.2.2.2.2.2.2.2.2.2.1
theorem dX1_above_38 : decode cX1_above 38 = .ok (.iload 4, 2) := DX1_above.2.2.2.2.2.2.2.2.2.2.2.2.2.2.2.2.2.2.2.1
theorem dX1_above_40 : decode cX1_above 40 = .ok (.baload, 1) := DX1_above.2.2.2.2.2.2.2.2.2.2.2.2.2.2.2.2.2.2.2.2.1
theorem dX1_above_41 : decode cX1_above 41 = .ok (.ifCond .eq 33, 3) := DX1_above.2.2.2.2.2.2.2.2.2.2.2.2.2.2.2.2.2.2.2.2.2.1
theorem dX1_above_44 : decode cX1_above 44 = .ok (.aload_n 0, 1) := DX1_above.2.2.2.2.2.2.2.2.2.2.2.2.2.2.2.2.2.2.2.2.2.2.1
theorem dX1_above_45 : decode cX1_above 45 = .ok (.iload 4, 2) := DX1_above.2.2.2.2.2.2.2.2.2.2.2.2.2.2.2.2.2.2.2.2.2.2.2.1
theorem dX1_above_47 : decode cX1_above 47 = .ok (.iload_n 1, 1) := DX1_above.2.2.2.2.2.2.2.2.2.2.2.2.2.2.2.2.2.2.2.2.2.2.2.2.1
theorem dX1_above_48 : decode cX1_above 48 = .ok (.iload_n 2, 1) := DX1_above.2.2.2.2.2.2.2.2.2.2.2.2.2.2.2.2.2.2.2.2.2.2.2.2.2.1
theorem dX1_above_49 : decode cX1_above 49 = .ok (.invokevirtual 302, 3) := DX1_above.2.2.2.2.2.2.2.2.2.2.2.2.2.2.2.2.2.2.2.2.2.2.2.2.2.2.1
theorem dX1_above_52 : decode cX1_above 52 = .ok (.ifCond .eq 22, 3) := DX1_above.2.2.2.2.2.2.2.2.2.2.2.2.2.2.2.2.2.2.2.2.2.2.2.2.2.2.2.1
theorem dX1_above_55 : decode cX1_above 55 = .ok (.iload_n 3, 1) := DX1_above.2.2.2.2.2.2.2.2.2.2.2.2.2.2.2.2.2.2.2.2.2.2.2.2.2.2.2.2.1
theorem dX1_above_56 : decode cX1_above 56 = .ok (.ifCond .lt 15, 3) := DX1_above.2.2.2.2.2.2.2.2.2.2.2.2.2.2.2.2.2.2.2.2.2.2.2.2.2.2.2.2.2.1
theorem dX1_above_59 : decode cX1_above 59 = .ok (.aload_n 0, 1) := DX1_above.2.2.2.2.2.2.2.2.2.2.2.2.2.2.2.2.2.2.2.2.2.2.2.2.2.2.2.2.2.2.1
theorem dX1_above_60 : decode cX1_above 60 = .ok (.iload 4, 2) := DX1_above.2.2.2.2.2.2.2.2.2.2.2.2.2.2.2.2.2.2.2.2.2.2.2.2.2.2.2.2.2.2.2.1
theorem dX1_above_62 : decode cX1_above 62 = .ok (.iload_n 3, 1) := DX1_above.2.2.2.2.2.2.2.2.2.2.2.2.2.2.2.2.2.2.2.2.2.2.2.2.2.2.2.2.2.2.2.2.1
theorem dX1_above_63 : decode cX1_above 63 = .ok (.iload_n 1, 1) := DX1_above.2.2.2.2.2.2.2.2.2.2.2.2.2.2.2.2.2.2.2.2.2.2.2.2.2.2.2.2.2.2.2.2.2.1
theorem dX1_above_64 : decode cX1_above 64 = .ok (.iload_n 2, 1) := DX1_above.2.2.2.2.2.2.2.2.2.2.2.2.2.2.2.2.2.2.2.2.2.2.2.2.2.2.2.2.2.2.2.2.2.2.1
theorem dX1_above_65 : decode cX1_above 65 = .ok (.invokevirtual 305, 3) := DX1_above.2.2.2.2.2.2.2.2.2.2.2.2.2.2.2.2.2.2.2.2.2.2.2.2.2.2.2.2.2.2.2.2.2.2.2.1
theorem dX1_above_68 : decode cX1_above 68 = .ok (.ifCond .ge 6, 3) := DX1_above.2.2.2.2.2.2.2.2.2.2.2.2.2.2.2.2.2.2.2.2.2.2.2.2.2.2.2.2.2.2.2.2.2.2.2.2.1
theorem dX1_above_71 : decode cX1_above 71 = .ok (.iload 4, 2) := DX1_above.2.2.2.2.2.2.2.2.2.2.2.2.2.2.2.2.2.2.2.2.2.2.2.2.2.2.2.2.2.2.2.2.2.2.2.2.2.1
theorem dX1_above_73 : decode cX1_above 73 = .ok (.istore_n 3, 1) := DX1_above.2.2.2.2.2.2.2.2.2.2.2.2.2.2.2.2.2.2.2.2.2.2.2.2.2.2.2.2.2.2.2.2.2.2.2.2.2.2.1
theorem dX1_above_74 : decode cX1_above 74 = .ok (.iinc 4 1, 3) := DX1_above.2.2.2.2.2.2.2.2.2.2.2.2.2.2.2.2.2.2.2.2.2.2.2.2.2.2.2.2.2.2.2.2.2.2.2.2.2.2.2.1
theorem dX1_above_77 : decode cX1_above 77 = .ok (.goto (-50), 3) := DX1_above.2.2.2.2.2.2.2.2.2.2.2.2.2.2.2.2.2.2.2.2.2.2.2.2.2.2.2.2.2.2.2.2.2.2.2.2.2.2.2.2.1
theorem dX1_above_80 : decode cX1_above 80 = .ok (.iload_n 3, 1) := DX1_above.2.2.2.2.2.2.2.2.2.2.2.2.2.2.2.2.2.2.2.2.2.2.2.2.2.2.2.2.2.2.2.2.2.2.2.2.2.2.2.2.2.1
theorem dX1_above_81 : decode cX1_above 81 = .ok (.ireturn, 1) := DX1_above.2.2.2.2.2.2.2.2.2.2.2.2.2.2.2.2.2.2.2.2.2.2.2.2.2.2.2.2.2.2.2.2.2.2.2.2.2.2.2.2.2.2
theorem dX1_isMet_0 : decode cX1_isMet 0 = .ok (.iload_n 2, 1) := DX1_isMet.1
theorem dX1_isMet_1 : decode cX1_isMet 1 = .ok (.aload_n 0, 1) := DX1_isMet.2.1
theorem dX1_isMet_2 : decode cX1_isMet 2 = .ok (.getfield 13, 3) := DX1_isMet.2.2.1
theorem dX1_isMet_5 : decode cX1_isMet 5 = .ok (.iload_n 1, 1) := DX1_isMet.2.2.2.1
theorem dX1_isMet_6 : decode cX1_isMet 6 = .ok (.iaload, 1) := DX1_isMet.2.2.2.2.1
theorem dX1_isMet_7 : decode cX1_isMet 7 = .ok (.aload_n 0, 1) := DX1_isMet.2.2.2.2.2.1
theorem dX1_isMet_8 : decode cX1_isMet 8 = .ok (.getfield 20, 3) := DX1_isMet.2.2.2.2.2.2.1
theorem dX1_isMet_11 : decode cX1_isMet 11 = .ok (.iload_n 1, 1) := DX1_isMet.2.2.2.2.2.2.2.1
theorem dX1_isMet_12 : decode cX1_isMet 12 = .ok (.iaload, 1) := DX1_isMet.2.2.2.2.2.2.2.2.1
theorem dX1_isMet_13 : decode cX1_isMet 13 = .ok (.invokestatic 71, 3) := DX1_isMet.2.2.2.2.2.2.2.2.2.1
theorem dX1_isMet_16 : decode cX1_isMet 16 = .ok (.if_icmp .lt 22, 3) := DX1_isMet.2.2.2.2.2.2.2.2.2.2.1
theorem dX1_isMet_19 : decode cX1_isMet 19 = .ok (.iload_n 2, 1) := DX1_isMet.2.2.2.2.2.2.2.2.2.2.2.1
theorem dX1_isMet_20 : decode cX1_isMet 20 = .ok (.aload_n 0, 1) := DX1_isMet.2.2.2.2.2.2.2.2.2.2.2.2.1
theorem dX1_isMet_21 : decode cX1_isMet 21 = .ok (.getfield 13, 3) := DX1_isMet.2.2.2.2.2.2.2.2.2.2.2.2.2.1
theorem dX1_isMet_24 : decode cX1_isMet 24 = .ok (.iload_n 1, 1) := DX1_isMet.2.2.2.2.2.2.2.2.2.2.2.2.2.2.1
theorem dX1_isMet_25 : decode cX1_isMet 25 = .ok (.iaload, 1) := DX1_isMet.2.2.2.2.2.2.2.2.2.2.2.2.2.2.2.1
theorem dX1_isMet_26 : decode cX1_isMet 26 = .ok (.aload_n 0, 1) := DX1_isMet.2.2.2.2.2.2.2.2.2.2.2.2.2.2.2.2.1
theorem dX1_isMet_27 : decode cX1_isMet 27 = .ok (.getfield 20, 3) := DX1_isMet.2.2.2.2.2.2.2.2.2.2.2.2.2.2.2.2.2.1
theorem dX1_isMet_30 : decode cX1_isMet 30 = .ok (.iload_n 1, 1) := DX1_isMet.2.2.2.2.2.2.2.2.2.2.2.2.2.2.2.2.2.2.1
theorem dX1_isMet_31 : decode cX1_isMet 31 = .ok (.iaload, 1) := DX1_isMet.2.2.2.2.2.2.2.2.2.2.2.2.2.2.2.2.2.2.2.1
theorem dX1_isMet_32 : decode cX1_isMet 32 = .ok (.invokestatic 77, 3) := DX1_isMet.2.2.2.2.2.2.2.2.2.2.2.2.2.2.2.2.2.2.2.2.1
theorem dX1_isMet_35 : decode cX1_isMet 35 = .ok (.if_icmp .le 5, 3) := DX1_isMet.2.2.2.2.2.2.2.2.2.2.2.2.2.2.2.2.2.2.2.2.2.1
theorem dX1_isMet_38 : decode cX1_isMet 38 = .ok (.iconst 0, 1) := DX1_isMet.2.2.2.2.2.2.2.2.2.2.2.2.2.2.2.2.2.2.2.2.2.2.1
theorem dX1_isMet_39 : decode cX1_isMet 39 = .ok (.ireturn, 1) := DX1_isMet.2.2.2.2.2.2.2.2.2.2.2.2.2.2.2.2.2.2.2.2.2.2.2.1
theorem dX1_isMet_40 : decode cX1_isMet 40 = .ok (.aload_n 0, 1) := DX1_isMet.2.2.2.2.2.2.2.2.2.2.2.2.2.2.2.2.2.2.2.2.2.2.2.2.1
theorem dX1_isMet_41 : decode cX1_isMet 41 = .ok (.getfield 13, 3) := DX1_isMet.2.2.2.2.2.2.2.2.2.2.2.2.2.2.2.2.2.2.2.2.2.2.2.2.2.1
theorem dX1_isMet_44 : decode cX1_isMet 44 = .ok (.iload_n 1, 1) := DX1_isMet.2.2.2.2.2.2.2.2.2.2.2.2.2.2.2.2.2.2.2.2.2.2.2.2.2.2.1
theorem dX1_isMet_45 : decode cX1_isMet 45 = .ok (.iaload, 1) := DX1_isMet.2.2.2.2.2.2.2.2.2.2.2.2.2.2.2.2.2.2.2.2.2.2.2.2.2.2.2.1
theorem dX1_isMet_46 : decode cX1_isMet 46 = .ok (.aload_n 0, 1) := DX1_isMet.2.2.2.2.2.2.2.2.2.2.2.2.2.2.2.2.2.2.2.2.2.2.2.2.2.2.2.2.1
theorem dX1_isMet_47 : decode cX1_isMet 47 = .ok (.getfield 20, 3) := DX1_isMet.2.2.2.2.2.2.2.2.2.2.2.2.2.2.2.2.2.2.2.2.2.2.2.2.2.2.2.2.2.1
theorem dX1_isMet_50 : decode cX1_isMet 50 = .ok (.iload_n 1, 1) := DX1_isMet.2.2.2.2.2.2.2.2.2.2.2.2.2.2.2.2.2.2.2.2.2.2.2.2.2.2.2.2.2.2.1
theorem dX1_isMet_51 : decode cX1_isMet 51 = .ok (.iaload, 1) := DX1_isMet.2.2.2.2.2.2.2.2.2.2.2.2.2.2.2.2.2.2.2.2.2.2.2.2.2.2.2.2.2.2.2.1
theorem dX1_isMet_52 : decode cX1_isMet 52 = .ok (.if_icmp .ne 30, 3) := DX1_isMet.2.2.2.2.2.2.2.2.2.2.2.2.2.2.2.2.2.2.2.2.2.2.2.2.2.2.2.2.2.2.2.2.1
theorem dX1_isMet_55 : decode cX1_isMet 55 = .ok (.aload_n 0, 1) := DX1_isMet.2.2.2.2.2.2.2.2.2.2.2.2.2.2.2.2.2.2.2.2.2.2.2.2.2.2.2.2.2.2.2.2.2.1
theorem dX1_isMet_56 : decode cX1_isMet 56 = .ok (.getfield 17, 3) := DX1_isMet.2.2.2.2.2.2.2.2.2.2.2.2.2.2.2.2.2.2.2.2.2.2.2.2.2.2.2.2.2.2.2.2.2.2.1
theorem dX1_isMet_59 : decode cX1_isMet 59 = .ok (.iload_n 1, 1) := DX1_isMet.2.2.2.2.2.2.2.2.2.2.2.2.2.2.2.2.2.2.2.2.2.2.2.2.2.2.2.2.2.2.2.2.2.2.2.1
theorem dX1_isMet_60 : decode cX1_isMet 60 = .ok (.iaload, 1) := DX1_isMet.2.2.2.2.2.2.2.2.2.2.2.2.2.2.2.2.2.2.2.2.2.2.2.2.2.2.2.2.2.2.2.2.2.2.2.2.1
theorem dX1_isMet_61 : decode cX1_isMet 61 = .ok (.aload_n 0, 1) := DX1_isMet.2.2.2.2.2.2.2.2.2.2.2.2.2.2.2.2.2.2.2.2.2.2.2.2.2.2.2.2.2.2.2.2.2.2.2.2.2.1
theorem dX1_isMet_62 : decode cX1_isMet 62 = .ok (.getfield 23, 3) := DX1_isMet.2.2.2.2.2.2.2.2.2.2.2.2.2.2.2.2.2.2.2.2.2.2.2.2.2.2.2.2.2.2.2.2.2.2.2.2.2.2.1
theorem dX1_isMet_65 : decode cX1_isMet 65 = .ok (.iload_n 1, 1) := DX1_isMet.2.2.2.2.2.2.2.2.2.2.2.2.2.2.2.2.2.2.2.2.2.2.2.2.2.2.2.2.2.2.2.2.2.2.2.2.2.2.2.1
theorem dX1_isMet_66 : decode cX1_isMet 66 = .ok (.iaload, 1) := DX1_isMet.2.2.2.2.2.2.2.2.2.2.2.2.2.2.2.2.2.2.2.2.2.2.2.2.2.2.2.2.2.2.2.2.2.2.2.2.2.2.2.2.1
theorem dX1_isMet_67 : decode cX1_isMet 67 = .ok (.invokestatic 77, 3) := DX1_isMet.2.2.2.2.2.2.2.2.2.2.2.2.2.2.2.2.2.2.2.2.2.2.2.2.2.2.2.2.2.2.2.2.2.2.2.2.2.2.2.2.2.1
theorem dX1_isMet_70 : decode cX1_isMet 70 = .ok (.iload_n 3, 1) := DX1_isMet.2.2.2.2.2.2.2.2.2.2.2.2.2.2.2.2.2.2.2.2.2.2.2.2.2.2.2.2.2.2.2.2.2.2.2.2.2.2.2.2.2.2.1
theorem dX1_isMet_71 : decode cX1_isMet 71 = .ok (.if_icmp .le 7, 3) := DX1_isMet.2.2.2.2.2.2.2.2.2.2.2.2.2.2.2.2.2.2.2.2.2.2.2.2.2.2.2.2.2.2.2.2.2.2.2.2.2.2.2.2.2.2.2.1
theorem dX1_isMet_74 : decode cX1_isMet 74 = .ok (.iconst 1, 1) := DX1_isMet.2.2.2.2.2.2.2.2.2.2.2.2.2.2.2.2.2.2.2.2.2.2.2.2.2.2.2.2.2.2.2.2.2.2.2.2.2.2.2.2.2.2.2.2.1
theorem dX1_isMet_75 : decode cX1_isMet 75 = .ok (.goto 32, 3) := DX1_isMet.2.2.2.2.2.2.2.2.2.2.2.2.2.2.2.2.2.2.2.2.2.2.2.2.2.2.2.2.2.2.2.2.2.2.2.2.2.2.2.2.2.2.2.2.2.1
theorem dX1_isMet_78 : decode cX1_isMet 78 = .ok (.iconst 0, 1) := DX1_isMet.2.2.2.2.2.2.2.2.2.2.2.2.2.2.2.2.2.2.2.2.2.2.2.2.2.2.2.2.2.2.2.2.2.2.2.2.2.2.2.2.2.2.2.2.2.2.1
theorem dX1_isMet_79 : decode cX1_isMet 79 = .ok (.goto 28, 3) := DX1_isMet.2.2.2.2.2.2.2.2.2.2.2.2.2.2.2.2.2.2.2.2.2.2.2.2.2.2.2.2.2.2.2.2.2.2.2.2.2.2.2.2.2.2.2.2.2.2.2.1
theorem dX1_isMet_82 : decode cX1_isMet 82 = .ok (.aload_n 0, 1) := DX1_isMet.2.2.2.2.2.2.2.2.2.2.2.2.2.2.2.2.2.2.2.2.2.2.2.2.2.2.2.2.2.2.2.2.2.2.2.2.2.2.2.2.2.2.2.2.2.2.2.2.1
theorem dX1_isMet_83 : decode cX1_isMet 83 = .ok (.iload_n 1, 1) := DX1_isMet.2.2.2.2.2.2.2.2.2.2.2.2.2.2.2.2.2.2.2.2.2.2.2.2.2.2.2.2.2.2.2.2.2.2.2.2.2.2.2.2.2.2.2.2.2.2.2.2.2.1
theorem dX1_isMet_84 : decode cX1_isMet 84 = .ok (.iload_n 2, 1) := DX1_isMet.2.2.2.2.2.2.2.2.2.2.2.2.2.2.2.2.2.2.2.2.2.2.2.2.2.2.2.2.2.2.2.2.2.2.2.2.2.2.2.2.2.2.2.2.2.2.2.2.2.2.1
theorem dX1_isMet_85 : decode cX1_isMet 85 = .ok (.iload_n 3, 1) := DX1_isMet.2.2.2.2.2.2.2.2.2.2.2.2.2.2.2.2.2.2.2.2.2.2.2.2.2.2.2.2.2.2.2.2.2.2.2.2.2.2.2.2.2.2.2.2.2.2.2.2.2.2.2.1
theorem dX1_isMet_86 : decode cX1_isMet 86 = .ok (.invokevirtual 80, 3) := DX1_isMet.2.2.2.2.2.2.2.2.2.2.2.2.2.2.2.2.2.2.2.2.2.2.2.2.2.2.2.2.2.2.2.2.2.2.2.2.2.2.2.2.2.2.2.2.2.2.2.2.2.2.2.2.1
theorem dX1_isMet_89 : decode cX1_isMet 89 = .ok (.ifCond .ne 17, 3) := DX1_isMet.2.2.2.2.2.2.2.2.2.2.2.2.2.2.2.2.2.2.2.2.2.2.2.2.2.2.2.2.2.2.2.2.2.2.2.2.2.2.2.2.2.2.2.2.2.2.2.2.2.2.2.2.2.1
theorem dX1_isMet_92 : decode cX1_isMet 92 = .ok (.aload_n 0, 1) := DX1_isMet.2.2.2.2.2.2.2.2.2.2.2.2.2.2.2.2.2.2.2.2.2.2.2.2.2.2.2.2.2.2.2.2.2.2.2.2.2.2.2.2.2.2.2.2.2.2.2.2.2.2.2.2.2.2.1
theorem dX1_isMet_93 : decode cX1_isMet 93 = .ok (.iload_n 1, 1) := DX1_isMet.2.2.2.2.2.2.2.2.2.2.2.2.2.2.2.2.2.2.2.2.2.2.2.2.2.2.2.2.2.2.2.2.2.2.2.2.2.2.2.2.2.2.2.2.2.2.2.2.2.2.2.2.2.2.2.1
theorem dX1_isMet_94 : decode cX1_isMet 94 = .ok (.iload_n 2, 1) := DX1_isMet.2.2.2.2.2.2.2.2.2.2.2.2.2.2.2.2.2.2.2.2.2.2.2.2.2.2.2.2.2.2.2.2.2.2.2.2.2.2.2.2.2.2.2.2.2.2.2.2.2.2.2.2.2.2.2.2.1
theorem dX1_isMet_95 : decode cX1_isMet 95 = .ok (.iload_n 3, 1) := DX1_isMet.2.2.2.2.2.2.2.2.2.2.2.2.2.2.2.2.2.2.2.2.2.2.2.2.2.2.2.2.2.2.2.2.2.2.2.2.2.2.2.2.2.2.2.2.2.2.2.2.2.2.2.2.2.2.2.2.2.1
theorem dX1_isMet_96 : decode cX1_isMet 96 = .ok (.invokevirtual 182, 3) := DX1_isMet.2.2.2.2.2.2.2.2.2.2.2.2.2.2.2.2.2.2.2.2.2.2.2.2.2.2.2.2.2.2.2.2.2.2.2.2.2.2.2.2.2.2.2.2.2.2.2.2.2.2.2.2.2.2.2.2.2.2.1
theorem dX1_isMet_99 : decode cX1_isMet 99 = .ok (.ifCond .ne 7, 3) := DX1_isMet.2.2.2.2.2.2.2.2.2.2.2.2.2.2.2.2.2.2.2.2.2.2.2.2.2.2.2.2.2.2.2.2.2.2.2.2.2.2.2.2.2.2.2.2.2.2.2.2.2.2.2.2.2.2.2.2.2.2.2.1
theorem dX1_isMet_102 : decode cX1_isMet 102 = .ok (.iconst 1, 1) := DX1_isMet.2.2.2.2.2.2.2.2.2.2.2.2.2.2.2.2.2.2.2.2.2.2.2.2.2.2.2.2.2.2.2.2.2.2.2.2.2.2.2.2.2.2.2.2.2.2.2.2.2.2.2.2.2.2.2.2.2.2.2.2.1
theorem dX1_isMet_103 : decode cX1_isMet 103 = .ok (.goto 4, 3) := DX1_isMet.2.2.2.2.2.2.2.2.2.2.2.2.2.2.2.2.2.2.2.2.2.2.2.2.2.2.2.2.2.2.2.2.2.2.2.2.2.2.2.2.2.2.2.2.2.2.2.2.2.2.2.2.2.2.2.2.2.2.2.2.2.1
theorem dX1_isMet_106 : decode cX1_isMet 106 = .ok (.iconst 0, 1) := DX1_isMet.2.2.2.2.2.2.2.2.2.2.2.2.2.2.2.2.2.2.2.2.2.2.2.2.2.2.2.2.2.2.2.2.2.2.2.2.2.2.2.2.2.2.2.2.2.2.2.2.2.2.2.2.2.2.2.2.2.2.2.2.2.2.1
theorem dX1_isMet_107 : decode cX1_isMet 107 = .ok (.ireturn, 1) := DX1_isMet.2.2.2.2.2.2.2.2.2.2.2.2.2.2.2.2.2.2.2.2.2.2.2.2.2.2.2.2.2.2.2.2.2.2.2.2.2.2.2.2.2.2.2.2.2.2.2.2.2.2.2.2.2.2.2.2.2.2.2.2.2.2.2
theorem dX1_sooner_0 : decode cX1_sooner 0 = .ok (.aload_n 0, 1) := DX1_sooner.1
theorem dX1_sooner_1 : decode cX1_sooner 1 = .ok (.getfield 13, 3) := DX1_sooner.2.1
theorem dX1_sooner_4 : decode cX1_sooner 4 = .ok (.iload_n 1, 1) := DX1_sooner.2.2.1
theorem dX1_sooner_5 : decode cX1_sooner 5 = .ok (.iaload, 1) := DX1_sooner.2.2.2.1
theorem dX1_sooner_6 : decode cX1_sooner 6 = .ok (.aload_n 0, 1) := DX1_sooner.2.2.2.2.1
theorem dX1_sooner_7 : decode cX1_sooner 7 = .ok (.getfield 20, 3) := DX1_sooner.2.2.2.2.2.1
theorem dX1_sooner_10 : decode cX1_sooner 10 = .ok (.iload_n 1, 1) := DX1_sooner.2.2.2.2.2.2.1
theorem dX1_sooner_11 : decode cX1_sooner 11 = .ok (.iaload, 1) := DX1_sooner.2.2.2.2.2.2.2.1
theorem dX1_sooner_12 : decode cX1_sooner 12 = .ok (.if_icmp .ne 7, 3) := DX1_sooner.2.2.2.2.2.2.2.2.1
theorem dX1_sooner_15 : decode cX1_sooner 15 = .ok (.iconst 1, 1) := DX1_sooner.2.2.2.2.2.2.2.2.2.1
theorem dX1_sooner_16 : decode cX1_sooner 16 = .ok (.goto 4, 3) := DX1_sooner.2.2.2.2.2.2.2.2.2.2.1
theorem dX1_sooner_19 : decode cX1_sooner 19 = .ok (.iconst 0, 1) := DX1_sooner.2.2.2.2.2.2.2.2.2.2.2.1
theorem dX1_sooner_20 : decode cX1_sooner 20 = .ok (.istore 5, 2) := DX1_sooner.2.2.2.2.2.2.2.2.2.2.2.2.1
theorem dX1_sooner_22 : decode cX1_sooner 22 = .ok (.aload_n 0, 1) := DX1_sooner.2.2.2.2.2.2.2.2.2.2.2.2.2.1
theorem dX1_sooner_23 : decode cX1_sooner 23 = .ok (.getfield 13, 3) := DX1_sooner.2.2.2.2.2.2.2.2.2.2.2.2.2.2.1
theorem dX1_sooner_26 : decode cX1_sooner 26 = .ok (.iload_n 2, 1) := DX1_sooner.2.2.2.2.2.2.2.2.2.2.2.2.2.2.2.1
theorem dX1_sooner_27 : decode cX1_sooner 27 = .ok (.iaload, 1) := DX1_sooner.2.2.2.2.2.2.2.2.2.2.2.2.2.2.2.2.1
theorem dX1_sooner_28 : decode cX1_sooner 28 = .ok (.aload_n 0, 1) := DX1_sooner.2.2.2.2.2.2.2.2.2.2.2.2.2.2.2.2.2.1
theorem dX1_sooner_29 : decode cX1_sooner 29 = .ok (.getfield 20, 3) := DX1_sooner.2.2.2.2.2.2.2.2.2.2.2.2.2.2.2.2.2.2.1
theorem dX1_sooner_32 : decode cX1_sooner 32 = .ok (.iload_n 2, 1) := DX1_sooner.2.2.2.2.2.2.2.2.2.2.2.2.2.2.2.2.2.2.2.1
theorem dX1_sooner_33 : decode cX1_sooner 33 = .ok (.iaload, 1) := DX1_sooner.2.2.2.2.2.2.2.2.2.2.2.2.2.2.2.2.2.2.2.2.1
theorem dX1_sooner_34 : decode cX1_sooner 34 = .ok (.if_icmp .ne 7, 3) := DX1_sooner.2.2.2.2.2.2.2.2.2.2.2.2.2.2.2.2.2.2.2.2.2.1
theorem dX1_sooner_37 : decode cX1_sooner 37 = .ok (.iconst 1, 1) := DX1_sooner.2.2.2.2.2.2.2.2.2.2.2.2.2.2.2.2.2.2.2.2.2.2.1
theorem dX1_sooner_38 : decode cX1_sooner 38 = .ok (.goto 4, 3) := DX1_sooner.2.2.2.2.2.2.2.2.2.2.2.2.2.2.2.2.2.2.2.2.2.2.2.1
theorem dX1_sooner_41 : decode cX1_sooner 41 = .ok (.iconst 0, 1) := DX1_sooner.2.2.2.2.2.2.2.2.2.2.2.2.2.2.2.2.2.2.2.2.2.2.2.2.1
theorem dX1_sooner_42 : decode cX1_sooner 42 = .ok (.istore 6, 2) := DX1_sooner.2.2.2.2.2.2.2.2.2.2.2.2.2.2.2.2.2.2.2.2.2.2.2.2.2.1
theorem dX1_sooner_44 : decode cX1_sooner 44 = .ok (.iload 5, 2) := DX1_sooner.2.2.2.2.2.2.2.2.2.2.2.2.2.2.2.2.2.2.2.2.2.2.2.2.2.2.1
theorem dX1_sooner_46 : decode cX1_sooner 46 = .ok (.ifCond .ne 16, 3) := DX1_sooner.2.2.2.2.2.2.2.2.2.2.2.2.2.2.2.2.2.2.2.2.2.2.2.2.2.2.2.1
theorem dX1_sooner_49 : decode cX1_sooner 49 = .ok (.iload 6, 2) := DX1_sooner.2.2.2.2.2.2.2.2.2.2.2.2.2.2.2.2.2.2.2.2.2.2.2.2.2.2.2.2.1
theorem dX1_sooner_51 : decode cX1_sooner 51 = .ok (.ifCond .ne 11, 3) := DX1_sooner.2.2.2.2.2.2.2.2.2.2.2.2.2.2.2.2.2.2.2.2.2.2.2.2.2.2.2.2.2.1
theorem dX1_sooner_54 : decode cX1_sooner 54 = .ok (.aload_n 0, 1) := DX1_sooner.2.2.2.2.2.2.2.2.2.2.2.2.2.2.2.2.2.2.2.2.2.2.2.2.2.2.2.2.2.2.1
theorem dX1_sooner_55 : decode cX1_sooner 55 = .ok (.iload_n 1, 1) := DX1_sooner.2.2.2.2.2.2.2.2.2.2.2.2.2.2.2.2.2.2.2.2.2.2.2.2.2.2.2.2.2.2.2.1
theorem dX1_sooner_56 : decode cX1_sooner 56 = .ok (.iload_n 2, 1) := DX1_sooner.2.2.2.2.2.2.2.2.2.2.2.2.2.2.2.2.2.2.2.2.2.2.2.2.2.2.2.2.2.2.2.2.1
theorem dX1_sooner_57 : decode cX1_sooner 57 = .ok (.iload_n 3, 1) := DX1_sooner.2.2.2.2.2.2.2.2.2.2.2.2.2.2.2.2.2.2.2.2.2.2.2.2.2.2.2.2.2.2.2.2.2.1
theorem dX1_sooner_58 : decode cX1_sooner 58 = .ok (.invokevirtual 185, 3) := DX1_sooner.2.2.2.2.2.2.2.2.2.2.2.2.2.2.2.2.2.2.2.2.2.2.2.2.2.2.2.2.2.2.2.2.2.2.1
theorem dX1_sooner_61 : decode cX1_sooner 61 = .ok (.ireturn, 1) := DX1_sooner.2.2.2.2.2.2.2.2.2.2.2.2.2.2.2.2.2.2.2.2.2.2.2.2.2.2.2.2.2.2.2.2.2.2.2.1
theorem dX1_sooner_62 : decode cX1_sooner 62 = .ok (.iload 4, 2) := DX1_sooner.2.2.2.2.2.2.2.2.2.2.2.2.2.2.2.2.2.2.2.2.2.2.2.2.2.2.2.2.2.2.2.2.2.2.2.2.1
theorem dX1_sooner_64 : decode cX1_sooner 64 = .ok (.aload_n 0, 1) := DX1_sooner.2.2.2.2.2.2.2.2.2.2.2.2.2.2.2.2.2.2.2.2.2.2.2.2.2.2.2.2.2.2.2.2.2.2.2.2.2.1
theorem dX1_sooner_65 : decode cX1_sooner 65 = .ok (.getfield 17, 3) := DX1_sooner.2.2.2.2.2.2.2.2.2.2.2.2.2.2.2.2.2.2.2.2.2.2.2.2.2.2.2.2.2.2.2.2.2.2.2.2.2.2.1
theorem dX1_sooner_68 : decode cX1_sooner 68 = .ok (.iload_n 1, 1) := DX1_sooner.2.2.2.2.2.2.2.2.2.2.2.2.2.2.2.2.2.2.2.2.2.2.2.2.2.2.2.2.2.2.2.2.2.2.2.2.2.2.2.1
theorem dX1_sooner_69 : decode cX1_sooner 69 = .ok (.iaload, 1) := DX1_sooner.2.2.2.2.2.2.2.2.2.2.2.2.2.2.2.2.2.2.2.2.2.2.2.2.2.2.2.2.2.2.2.2.2.2.2.2.2.2.2.2.1
theorem dX1_sooner_70 : decode cX1_sooner 70 = .ok (.aload_n 0, 1) := DX1_sooner.2.2.2.2.2.2.2.2.2.2.2.2.2.2.2.2.2.2.2.2.2.2.2.2.2.2.2.2.2.2.2.2.2.2.2.2.2.2.2.2.2.1
theorem dX1_sooner_71 : decode cX1_sooner 71 = .ok (.getfield 23, 3) := DX1_sooner.2.2.2.2.2.2.2.2.2.2.2.2.2.2.2.2.2.2.2.2.2.2.2.2.2.2.2.2.2.2.2.2.2.2.2.2.2.2.2.2.2.2.1
theorem dX1_sooner_74 : decode cX1_sooner 74 = .ok (.iload_n 1, 1) := DX1_sooner.2.2.2.2.2.2.2.2.2.2.2.2.2.2.2.2.2.2.2.2.2.2.2.2.2.2.2.2.2.2.2.2.2.2.2.2.2.2.2.2.2.2.2.1
theorem dX1_sooner_75 : decode cX1_sooner 75 = .ok (.iaload, 1) := DX1_sooner.2.2.2.2.2.2.2.2.2.2.2.2.2.2.2.2.2.2.2.2.2.2.2.2.2.2.2.2.2.2.2.2.2.2.2.2.2.2.2.2.2.2.2.2.1
theorem dX1_sooner_76 : decode cX1_sooner 76 = .ok (.invokestatic 71, 3) := DX1_sooner.2.2.2.2.2.2.2.2.2.2.2.2.2.2.2.2.2.2.2.2.2.2.2.2.2.2.2.2.2.2.2.2.2.2.2.2.2.2.2.2.2.2.2.2.2.1
theorem dX1_sooner_79 : decode cX1_sooner 79 = .ok (.invokestatic 77, 3) := DX1_sooner.2.2.2.2.2.2.2.2.2.2.2.2.2.2.2.2.2.2.2.2.2.2.2.2.2.2.2.2.2.2.2.2.2.2.2.2.2.2.2.2.2.2.2.2.2.2.1
theorem dX1_sooner_82 : decode cX1_sooner 82 = .ok (.istore 7, 2) := DX1_sooner.2.2.2.2.2.2.2.2.2.2.2.2.2.2.2.2.2.2.2.2.2.2.2.2.2.2.2.2.2.2.2.2.2.2.2.2.2.2.2.2.2.2.2.2.2.2.2.1
theorem dX1_sooner_84 : decode cX1_sooner 84 = .ok (.iload 4, 2) := DX1_sooner.2.2.2.2.2.2.2.2.2.2.2.2.2.2.2.2.2.2.2.2.2.2.2.2.2.2.2.2.2.2.2.2.2.2.2.2.2.2.2.2.2.2.2.2.2.2.2.2.1
theorem dX1_sooner_86 : decode cX1_sooner 86 = .ok (.aload_n 0, 1) := DX1_sooner.2.2.2.2.2.2.2.2.2.2.2.2.2.2.2.2.2.2.2.2.2.2.2.2.2.2.2.2.2.2.2.2.2.2.2.2.2.2.2.2.2.2.2.2.2.2.2.2.2.1
theorem dX1_sooner_87 : decode cX1_sooner 87 = .ok (.getfield 17, 3) := DX1_sooner.2.2.2.2.2.2.2.2.2.2.2.2.2.2.2.2.2.2.2.2.2.2.2.2.2.2.2.2.2.2.2.2.2.2.2.2.2.2.2.2.2.2.2.2.2.2.2.2.2.2.1
theorem dX1_sooner_90 : decode cX1_sooner 90 = .ok (.iload_n 2, 1) := DX1_sooner.2.2.2.2.2.2.2.2.2.2.2.2.2.2.2.2.2.2.2.2.2.2.2.2.2.2.2.2.2.2.2.2.2.2.2.2.2.2.2.2.2.2.2.2.2.2.2.2.2.2.2.1
theorem dX1_sooner_91 : decode cX1_sooner 91 = .ok (.iaload, 1) := DX1_sooner.2.2.2.2.2.2.2.2.2.2.2.2.2.2.2.2.2.2.2.2.2.2.2.2.2.2.2.2.2.2.2.2.2.2.2.2.2.2.2.2.2.2.2.2.2.2.2.2.2.2.2.2.1
theorem dX1_sooner_92 : decode cX1_sooner 92 = .ok (.aload_n 0, 1) := DX1_sooner.2.2.2.2.2.2.2.2.2.2.2.2.2.2.2.2.2.2.2.2.2.2.2.2.2.2.2.2.2.2.2.2.2.2.2.2.2.2.2.2.2.2.2.2.2.2.2.2.2.2.2.2.2.1
theorem dX1_sooner_93 : decode cX1_sooner 93 = .ok (.getfield 23, 3) := DX1_sooner.2.2.2.2.2.2.2.2.2.2.2.2.2.2.2.2.2.2.2.2.2.2.2.2.2.2.2.2.2.2.2.2.2.2.2.2.2.2.2.2.2.2.2.2.2.2.2.2.2.2.2.2.2.2.1
theorem dX1_sooner_96 : decode cX1_sooner 96 = .ok (.iload_n 2, 1) := DX1_sooner.2.2.2.2.2.2.2.2.2.2.2.2.2.2.2.2.2.2.2.2.2.2.2.2.2.2.2.2.2.2.2.2.2.2.2.2.2.2.2.2.2.2.2.2.2.2.2.2.2.2.2.2.2.2.2.1
theorem dX1_sooner_97 : decode cX1_sooner 97 = .ok (.iaload, 1) := DX1_sooner.2.2.2.2.2.2.2.2.2.2.2.2.2.2.2.2.2.2.2.2.2.2.2.2.2.2.2.2.2.2.2.2.2.2.2.2.2.2.2.2.2.2.2.2.2.2.2.2.2.2.2.2.2.2.2.2.1
theorem dX1_sooner_98 : decode cX1_sooner 98 = .ok (.invokestatic 71, 3) := DX1_sooner.2.2.2.2.2.2.2.2.2.2.2.2.2.2.2.2.2.2.2.2.2.2.2.2.2.2.2.2.2.2.2.2.2.2.2.2.2.2.2.2.2.2.2.2.2.2.2.2.2.2.2.2.2.2.2.2.2.1
theorem dX1_sooner_101 : decode cX1_sooner 101 = .ok (.invokestatic 77, 3) := DX1_sooner.2.2.2.2.2.2.2.2.2.2.2.2.2.2.2.2.2.2.2.2.2.2.2.2.2.2.2.2.2.2.2.2.2.2.2.2.2.2.2.2.2.2.2.2.2.2.2.2.2.2.2.2.2.2.2.2.2.2.1
theorem dX1_sooner_104 : decode cX1_sooner 104 = .ok (.istore 8, 2) := DX1_sooner.2.2.2.2.2.2.2.2.2.2.2.2.2.2.2.2.2.2.2.2.2.2.2.2.2.2.2.2.2.2.2.2.2.2.2.2.2.2.2.2.2.2.2.2.2.2.2.2.2.2.2.2.2.2.2.2.2.2.2.1
theorem dX1_sooner_106 : decode cX1_sooner 106 = .ok (.iload 5, 2) := DX1_sooner.2.2.2.2.2.2.2.2.2.2.2.2.2.2.2.2.2.2.2.2.2.2.2.2.2.2.2.2.2.2.2.2.2.2.2.2.2.2.2.2.2.2.2.2.2.2.2.2.2.2.2.2.2.2.2.2.2.2.2.2.1
theorem dX1_sooner_108 : decode cX1_sooner 108 = .ok (.ifCond .eq 16, 3) := DX1_sooner.2.2.2.2.2.2.2.2.2.2.2.2.2.2.2.2.2.2.2.2.2.2.2.2.2.2.2.2.2.2.2.2.2.2.2.2.2.2.2.2.2.2.2.2.2.2.2.2.2.2.2.2.2.2.2.2.2.2.2.2.2.1
theorem dX1_sooner_111 : decode cX1_sooner 111 = .ok (.iload 6, 2) := DX1_sooner.2.2.2.2.2.2.2.2.2.2.2.2.2.2.2.2.2.2.2.2.2.2.2.2.2.2.2.2.2.2.2.2.2.2.2.2.2.2.2.2.2.2.2.2.2.2.2.2.2.2.2.2.2.2.2.2.2.2.2.2.2.2.1
theorem dX1_sooner_113 : decode cX1_sooner 113 = .ok (.ifCond .eq 11, 3) := DX1_sooner.2.2.2.2.2.2.2.2.2.2.2.2.2.2.2.2.2.2.2.2.2.2.2.2.2.2.2.2.2.2.2.2.2.2.2.2.2.2.2.2.2.2.2.2.2.2.2.2.2.2.2.2.2.2.2.2.2.2.2.2.2.2.2.1
theorem dX1_sooner_116 : decode cX1_sooner 116 = .ok (.iload 7, 2) := DX1_sooner.2.2.2.2.2.2.2.2.2.2.2.2.2.2.2.2.2.2.2.2.2.2.2.2.2.2.2.2.2.2.2.2.2.2.2.2.2.2.2.2.2.2.2.2.2.2.2.2.2.2.2.2.2.2.2.2.2.2.2.2.2.2.2.2.1
theorem dX1_sooner_118 : decode cX1_sooner 118 = .ok (.iload 8, 2) := DX1_sooner.2.2.2.2.2.2.2.2.2.2.2.2.2.2.2.2.2.2.2.2.2.2.2.2.2.2.2.2.2.2.2.2.2.2.2.2.2.2.2.2.2.2.2.2.2.2.2.2.2.2.2.2.2.2.2.2.2.2.2.2.2.2.2.2.2.1
theorem dX1_sooner_120 : decode cX1_sooner 120 = .ok (.invokestatic 295, 3) := DX1_sooner.2.2.2.2.2.2.2.2.2.2.2.2.2.2.2.2.2.2.2.2.2.2.2.2.2.2.2.2.2.2.2.2.2.2.2.2.2.2.2.2.2.2.2.2.2.2.2.2.2.2.2.2.2.2.2.2.2.2.2.2.2.2.2.2.2.2.1
theorem dX1_sooner_123 : decode cX1_sooner 123 = .ok (.ireturn, 1) := DX1_sooner.2.2.2.2.2.2.2.2.2.2.2.2.2.2.2.2.2.2.2.2.2.2.2.2.2.2.2.2.2.2.2.2.2.2.2.2.2.2.2.2.2.2.2.2.2.2.2.2.2.2.2.2.2.2.2.2.2.2.2.2.2.2.2.2.2.2.2.1
theorem dX1_sooner_124 : decode cX1_sooner 124 = .ok (.iload 5, 2) := DX1_sooner.2.2.2.2.2.2.2.2.2.2.2.2.2.2.2.2.2.2.2.2.2.2.2.2.2.2.2.2.2.2.2.2.2.2.2.2.2.2.2.2.2.2.2.2.2.2.2.2.2.2.2.2.2.2.2.2.2.2.2.2.2.2.2.2.2.2.2.2.1
theorem dX1_sooner_126 : decode cX1_sooner 126 = .ok (.ifCond .eq 14, 3) := DX1_sooner.2.2.2.2.2.2.2.2.2.2.2.2.2.2.2.2.2.2.2.2.2.2.2.2.2.2.2.2.2.2.2.2.2.2.2.2.2.2.2.2.2.2.2.2.2.2.2.2.2.2.2.2.2.2.2.2.2.2.2.2.2.2.2.2.2.2.2.2.2.1
theorem dX1_sooner_129 : decode cX1_sooner 129 = .ok (.aload_n 0, 1) := DX1_sooner.2.2.2.2.2.2.2.2.2.2.2.2.2.2.2.2.2.2.2.2.2.2.2.2.2.2.2.2.2.2.2.2.2.2.2.2.2.2.2.2.2.2.2.2.2.2.2.2.2.2.2.2.2.2.2.2.2.2.2.2.2.2.2.2.2.2.2.2.2.2.1
theorem dX1_sooner_130 : decode cX1_sooner 130 = .ok (.iload_n 2, 1) := DX1_sooner.2.2.2.2.2.2.2.2.2.2.2.2.2.2.2.2.2.2.2.2.2.2.2.2.2.2.2.2.2.2.2.2.2.2.2.2.2.2.2.2.2.2.2.2.2.2.2.2.2.2.2.2.2.2.2.2.2.2.2.2.2.2.2.2.2.2.2.2.2.2.2.1
theorem dX1_sooner_131 : decode cX1_sooner 131 = .ok (.iload_n 3, 1) := DX1_sooner.2.2.2.2.2.2.2.2.2.2.2.2.2.2.2.2.2.2.2.2.2.2.2.2.2.2.2.2.2.2.2.2.2.2.2.2.2.2.2.2.2.2.2.2.2.2.2.2.2.2.2.2.2.2.2.2.2.2.2.2.2.2.2.2.2.2.2.2.2.2.2.2.1
theorem dX1_sooner_132 : decode cX1_sooner 132 = .ok (.iload 7, 2) := DX1_sooner.2.2.2.2.2.2.2.2.2.2.2.2.2.2.2.2.2.2.2.2.2.2.2.2.2.2.2.2.2.2.2.2.2.2.2.2.2.2.2.2.2.2.2.2.2.2.2.2.2.2.2.2.2.2.2.2.2.2.2.2.2.2.2.2.2.2.2.2.2.2.2.2.2.1
theorem dX1_sooner_134 : decode cX1_sooner 134 = .ok (.invokevirtual 299, 3) := DX1_sooner.2.2.2.2.2.2.2.2.2.2.2.2.2.2.2.2.2.2.2.2.2.2.2.2.2.2.2.2.2.2.2.2.2.2.2.2.2.2.2.2.2.2.2.2.2.2.2.2.2.2.2.2.2.2.2.2.2.2.2.2.2.2.2.2.2.2.2.2.2.2.2.2.2.2.1
theorem dX1_sooner_137 : decode cX1_sooner 137 = .ok (.goto 12, 3) := DX1_sooner.2.2.2.2.2.2.2.2.2.2.2.2.2.2.2.2.2.2.2.2.2.2.2.2.2.2.2.2.2.2.2.2.2.2.2.2.2.2.2.2.2.2.2.2.2.2.2.2.2.2.2.2.2.2.2.2.2.2.2.2.2.2.2.2.2.2.2.2.2.2.2.2.2.2.2.1
theorem dX1_sooner_140 : decode cX1_sooner 140 = .ok (.aload_n 0, 1) := DX1_sooner.2.2.2.2.2.2.2.2.2.2.2.2.2.2.2.2.2.2.2.2.2.2.2.2.2.2.2.2.2.2.2.2.2.2.2.2.2.2.2.2.2.2.2.2.2.2.2.2.2.2.2.2.2.2.2.2.2.2.2.2.2.2.2.2.2.2.2.2.2.2.2.2.2.2.2.2.1
theorem dX1_sooner_141 : decode cX1_sooner 141 = .ok (.iload_n 1, 1) := DX1_sooner.2.2.2.2.2.2.2.2.2.2.2.2.2.2.2.2.2.2.2.2.2.2.2.2.2.2.2.2.2.2.2.2.2.2.2.2.2.2.2.2.2.2.2.2.2.2.2.2.2.2.2.2.2.2.2.2.2.2.2.2.2.2.2.2.2.2.2.2.2.2.2.2.2.2.2.2.2.1
theorem dX1_sooner_142 : decode cX1_sooner 142 = .ok (.iload_n 3, 1) := DX1_sooner.2.2.2.2.2.2.2.2.2.2.2.2.2.2.2.2.2.2.2.2.2.2.2.2.2.2.2.2.2.2.2.2.2.2.2.2.2.2.2.2.2.2.2.2.2.2.2.2.2.2.2.2.2.2.2.2.2.2.2.2.2.2.2.2.2.2.2.2.2.2.2.2.2.2.2.2.2.2.1
theorem dX1_sooner_143 : decode cX1_sooner 143 = .ok (.iload 8, 2) := DX1_sooner.2.2.2.2.2.2.2.2.2.2.2.2.2.2.2.2.2.2.2.2.2.2.2.2.2.2.2.2.2.2.2.2.2.2.2.2.2.2.2.2.2.2.2.2.2.2.2.2.2.2.2.2.2.2.2.2.2.2.2.2.2.2.2.2.2.2.2.2.2.2.2.2.2.2.2.2.2.2.2.1
theorem dX1_sooner_145 : decode cX1_sooner 145 = .ok (.invokevirtual 299, 3) := DX1_sooner.2.2.2.2.2.2.2.2.2.2.2.2.2.2.2.2.2.2.2.2.2.2.2.2.2.2.2.2.2.2.2.2.2.2.2.2.2.2.2.2.2.2.2.2.2.2.2.2.2.2.2.2.2.2.2.2.2.2.2.2.2.2.2.2.2.2.2.2.2.2.2.2.2.2.2.2.2.2.2.2.1
theorem dX1_sooner_148 : decode cX1_sooner 148 = .ok (.ineg, 1) := DX1_sooner.2.2.2.2.2.2.2.2.2.2.2.2.2.2.2.2.2.2.2.2.2.2.2.2.2.2.2.2.2.2.2.2.2.2.2.2.2.2.2.2.2.2.2.2.2.2.2.2.2.2.2.2.2.2.2.2.2.2.2.2.2.2.2.2.2.2.2.2.2.2.2.2.2.2.2.2.2.2.2.2.2.1
theorem dX1_sooner_149 : decode cX1_sooner 149 = .ok (.ireturn, 1) := DX1_sooner.2.2.2.2.2.2.2.2.2.2.2.2.2.2.2.2.2.2.2.2.2.2.2.2.2.2.2.2.2.2.2.2.2.2.2.2.2.2.2.2.2.2.2.2.2.2.2.2.2.2.2.2.2.2.2.2.2.2.2.2.2.2.2.2.2.2.2.2.2.2.2.2.2.2.2.2.2.2.2.2.2.2
theorem dX1_heightAgainst_0 : decode cX1_heightAgainst 0 = .ok (.aload_n 0, 1) := DX1_heightAgainst.1
theorem dX1_heightAgainst_1 : decode cX1_heightAgainst 1 = .ok (.iload_n 1, 1) := DX1_heightAgainst.2.1
theorem dX1_heightAgainst_2 : decode cX1_heightAgainst 2 = .ok (.iload_n 2, 1) := DX1_heightAgainst.2.2.1
theorem dX1_heightAgainst_3 : decode cX1_heightAgainst 3 = .ok (.iload_n 3, 1) := DX1_heightAgainst.2.2.2.1
theorem dX1_heightAgainst_4 : decode cX1_heightAgainst 4 = .ok (.invokevirtual 67, 3) := DX1_heightAgainst.2.2.2.2.1
theorem dX1_heightAgainst_7 : decode cX1_heightAgainst 7 = .ok (.aload_n 0, 1) := DX1_heightAgainst.2.2.2.2.2.1
theorem dX1_heightAgainst_8 : decode cX1_heightAgainst 8 = .ok (.getfield 20, 3) := DX1_heightAgainst.2.2.2.2.2.2.1
theorem dX1_heightAgainst_11 : decode cX1_heightAgainst 11 = .ok (.iload_n 1, 1) := DX1_heightAgainst.2.2.2.2.2.2.2.1
theorem dX1_heightAgainst_12 : decode cX1_heightAgainst 12 = .ok (.iaload, 1) := DX1_heightAgainst.2.2.2.2.2.2.2.2.1
theorem dX1_heightAgainst_13 : decode cX1_heightAgainst 13 = .ok (.aload_n 0, 1) := DX1_heightAgainst.2.2.2.2.2.2.2.2.2.1
theorem dX1_heightAgainst_14 : decode cX1_heightAgainst 14 = .ok (.getfield 13, 3) := DX1_heightAgainst.2.2.2.2.2.2.2.2.2.2.1
theorem dX1_heightAgainst_17 : decode cX1_heightAgainst 17 = .ok (.iload_n 1, 1) := DX1_heightAgainst.2.2.2.2.2.2.2.2.2.2.2.1
theorem dX1_heightAgainst_18 : decode cX1_heightAgainst 18 = .ok (.iaload, 1) := DX1_heightAgainst.2.2.2.2.2.2.2.2.2.2.2.2.1
theorem dX1_heightAgainst_19 : decode cX1_heightAgainst 19 = .ok (.if_icmp .le 7, 3) := DX1_heightAgainst.2.2.2.2.2.2.2.2.2.2.2.2.2.1
theorem dX1_heightAgainst_22 : decode cX1_heightAgainst 22 = .ok (.iconst 1, 1) := DX1_heightAgainst.2.2.2.2.2.2.2.2.2.2.2.2.2.2.1
theorem dX1_heightAgainst_23 : decode cX1_heightAgainst 23 = .ok (.goto 4, 3) := DX1_heightAgainst.2.2.2.2.2.2.2.2.2.2.2.2.2.2.2.1
theorem dX1_heightAgainst_26 : decode cX1_heightAgainst 26 = .ok (.iconst (-1), 1) := DX1_heightAgainst.2.2.2.2.2.2.2.2.2.2.2.2.2.2.2.2.1
theorem dX1_heightAgainst_27 : decode cX1_heightAgainst 27 = .ok (.imul, 1) := DX1_heightAgainst.2.2.2.2.2.2.2.2.2.2.2.2.2.2.2.2.2.1
theorem dX1_heightAgainst_28 : decode cX1_heightAgainst 28 = .ok (.ireturn, 1) := DX1_heightAgainst.2.2.2.2.2.2.2.2.2.2.2.2.2.2.2.2.2.2
theorem dX1_across_0 : decode cX1_across 0 = .ok (.aload_n 0, 1) := DX1_across.1
theorem dX1_across_1 : decode cX1_across 1 = .ok (.iload_n 1, 1) := DX1_across.2.1
theorem dX1_across_2 : decode cX1_across 2 = .ok (.invokevirtual 275, 3) := DX1_across.2.2.1
theorem dX1_across_5 : decode cX1_across 5 = .ok (.pop, 1) := DX1_across.2.2.2.1
theorem dX1_across_6 : decode cX1_across 6 = .ok (.aload_n 0, 1) := DX1_across.2.2.2.2.1
theorem dX1_across_7 : decode cX1_across 7 = .ok (.iload_n 2, 1) := DX1_across.2.2.2.2.2.1
theorem dX1_across_8 : decode cX1_across 8 = .ok (.invokevirtual 275, 3) := DX1_across.2.2.2.2.2.2.1
theorem dX1_across_11 : decode cX1_across 11 = .ok (.astore_n 3, 1) := DX1_across.2.2.2.2.2.2.2.1
theorem dX1_across_12 : decode cX1_across 12 = .ok (.iconst 0, 1) := DX1_across.2.2.2.2.2.2.2.2.1
theorem dX1_across_13 : decode cX1_across 13 = .ok (.istore 4, 2) := DX1_across.2.2.2.2.2.2.2.2.2.1
theorem dX1_across_15 : decode cX1_across 15 = .ok (.iload 4, 2) := DX1_across.2.2.2.2.2.2.2.2.2.2.1
theorem dX1_across_17 : decode cX1_across 17 = .ok (.aload_n 0, 1) := DX1_across.2.2.2.2.2.2.2.2.2.2.2.1
theorem dX1_across_18 : decode cX1_across 18 = .ok (.getfield 42, 3) := DX1_across.2.2.2.2.2.2.2.2.2.2.2.2.1
theorem dX1_across_21 : decode cX1_across 21 = .ok (.invokevirtual 110, 3) := DX1_across.2.2.2.2.2.2.2.2.2.2.2.2.2.1
theorem dX1_across_24 : decode cX1_across 24 = .ok (.if_icmp .ge 35, 3) := DX1_across.2.2.2.2.2.2.2.2.2.2.2.2.2.2.1
theorem dX1_across_27 : decode cX1_across 27 = .ok (.aload_n 0, 1) := DX1_across.2.2.2.2.2.2.2.2.2.2.2.2.2.2.2.1
theorem dX1_across_28 : decode cX1_across 28 = .ok (.getfield 42, 3) := DX1_across.2.2.2.2.2.2.2.2.2.2.2.2.2.2.2.2.1
theorem dX1_across_31 : decode cX1_across 31 = .ok (.iload 4, 2) := DX1_across.2.2.2.2.2.2.2.2.2.2.2.2.2.2.2.2.2.1
theorem dX1_across_33 : decode cX1_across 33 = .ok (.invokevirtual 114, 3) := DX1_across.2.2.2.2.2.2.2.2.2.2.2.2.2.2.2.2.2.2.1
theorem dX1_across_36 : decode cX1_across 36 = .ok (.checkcast 209, 3) := DX1_across.2.2.2.2.2.2.2.2.2.2.2.2.2.2.2.2.2.2.2.1
theorem dX1_across_39 : decode cX1_across 39 = .ok (.iload 4, 2) := DX1_across.2.2.2.2.2.2.2.2.2.2.2.2.2.2.2.2.2.2.2.2.1
theorem dX1_across_41 : decode cX1_across 41 = .ok (.iload_n 1, 1) := DX1_across.2.2.2.2.2.2.2.2.2.2.2.2.2.2.2.2.2.2.2.2.2.1
theorem dX1_across_42 : decode cX1_across 42 = .ok (.if_icmp .ne 7, 3) := DX1_across.2.2.2.2.2.2.2.2.2.2.2.2.2.2.2.2.2.2.2.2.2.2.1
theorem dX1_across_45 : decode cX1_across 45 = .ok (.iconst 0, 1) := DX1_across.2.2.2.2.2.2.2.2.2.2.2.2.2.2.2.2.2.2.2.2.2.2.2.1
theorem dX1_across_46 : decode cX1_across 46 = .ok (.goto 4, 3) := DX1_across.2.2.2.2.2.2.2.2.2.2.2.2.2.2.2.2.2.2.2.2.2.2.2.2.1
theorem dX1_across_49 : decode cX1_across 49 = .ok (.iconst (-1), 1) := DX1_across.2.2.2.2.2.2.2.2.2.2.2.2.2.2.2.2.2.2.2.2.2.2.2.2.2.1
theorem dX1_across_50 : decode cX1_across 50 = .ok (.putfield 309, 3) := DX1_across.2.2.2.2.2.2.2.2.2.2.2.2.2.2.2.2.2.2.2.2.2.2.2.2.2.2.1
theorem dX1_across_53 : decode cX1_across 53 = .ok (.iinc 4 1, 3) := DX1_across.2.2.2.2.2.2.2.2.2.2.2.2.2.2.2.2.2.2.2.2.2.2.2.2.2.2.2.1
theorem dX1_across_56 : decode cX1_across 56 = .ok (.goto (-41), 3) := DX1_across.2.2.2.2.2.2.2.2.2.2.2.2.2.2.2.2.2.2.2.2.2.2.2.2.2.2.2.2.1
theorem dX1_across_59 : decode cX1_across 59 = .ok (.iconst 0, 1) := DX1_across.2.2.2.2.2.2.2.2.2.2.2.2.2.2.2.2.2.2.2.2.2.2.2.2.2.2.2.2.2.1
theorem dX1_across_60 : decode cX1_across 60 = .ok (.istore 4, 2) := DX1_across.2.2.2.2.2.2.2.2.2.2.2.2.2.2.2.2.2.2.2.2.2.2.2.2.2.2.2.2.2.2.1
theorem dX1_across_62 : decode cX1_across 62 = .ok (.aload_n 3, 1) := DX1_across.2.2.2.2.2.2.2.2.2.2.2.2.2.2.2.2.2.2.2.2.2.2.2.2.2.2.2.2.2.2.2.1
theorem dX1_across_63 : decode cX1_across 63 = .ok (.getfield 309, 3) := DX1_across.2.2.2.2.2.2.2.2.2.2.2.2.2.2.2.2.2.2.2.2.2.2.2.2.2.2.2.2.2.2.2.2.1
theorem dX1_across_66 : decode cX1_across 66 = .ok (.ifCond .ge 97, 3) := DX1_across.2.2.2.2.2.2.2.2.2.2.2.2.2.2.2.2.2.2.2.2.2.2.2.2.2.2.2.2.2.2.2.2.2.1
theorem dX1_across_69 : decode cX1_across 69 = .ok (.iconst 0, 1) := DX1_across.2.2.2.2.2.2.2.2.2.2.2.2.2.2.2.2.2.2.2.2.2.2.2.2.2.2.2.2.2.2.2.2.2.2.1
theorem dX1_across_70 : decode cX1_across 70 = .ok (.istore 5, 2) := DX1_across.2.2.2.2.2.2.2.2.2.2.2.2.2.2.2.2.2.2.2.2.2.2.2.2.2.2.2.2.2.2.2.2.2.2.2.1
theorem dX1_across_72 : decode cX1_across 72 = .ok (.iload 5, 2) := DX1_across.2.2.2.2.2.2.2.2.2.2.2.2.2.2.2.2.2.2.2.2.2.2.2.2.2.2.2.2.2.2.2.2.2.2.2.2.1
theorem dX1_across_74 : decode cX1_across 74 = .ok (.aload_n 0, 1) := DX1_across.2.2.2.2.2.2.2.2.2.2.2.2.2.2.2.2.2.2.2.2.2.2.2.2.2.2.2.2.2.2.2.2.2.2.2.2.2.1
theorem dX1_across_75 : decode cX1_across 75 = .ok (.getfield 35, 3) := DX1_across.2.2.2.2.2.2.2.2.2.2.2.2.2.2.2.2.2.2.2.2.2.2.2.2.2.2.2.2.2.2.2.2.2.2.2.2.2.2.1
theorem dX1_across_78 : decode cX1_across 78 = .ok (.arraylength, 1) := DX1_across.2.2.2.2.2.2.2.2.2.2.2.2.2.2.2.2.2.2.2.2.2.2.2.2.2.2.2.2.2.2.2.2.2.2.2.2.2.2.2.1
theorem dX1_across_79 : decode cX1_across 79 = .ok (.if_icmp .ge 78, 3) := DX1_across.2.2.2.2.2.2.2.2.2.2.2.2.2.2.2.2.2.2.2.2.2.2.2.2.2.2.2.2.2.2.2.2.2.2.2.2.2.2.2.2.1
theorem dX1_across_82 : decode cX1_across 82 = .ok (.aload_n 0, 1) := DX1_across.2.2.2.2.2.2.2.2.2.2.2.2.2.2.2.2.2.2.2.2.2.2.2.2.2.2.2.2.2.2.2.2.2.2.2.2.2.2.2.2.2.1
theorem dX1_across_83 : decode cX1_across 83 = .ok (.getfield 35, 3) := DX1_across.2.2.2.2.2.2.2.2.2.2.2.2.2.2.2.2.2.2.2.2.2.2.2.2.2.2.2.2.2.2.2.2.2.2.2.2.2.2.2.2.2.2.1
theorem dX1_across_86 : decode cX1_across 86 = .ok (.iload 5, 2) := DX1_across.2.2.2.2.2.2.2.2.2.2.2.2.2.2.2.2.2.2.2.2.2.2.2.2.2.2.2.2.2.2.2.2.2.2.2.2.2.2.2.2.2.2.2.1
theorem dX1_across_88 : decode cX1_across 88 = .ok (.aaload, 1) := DX1_across.2.2.2.2.2.2.2.2.2.2.2.2.2.2.2.2.2.2.2.2.2.2.2.2.2.2.2.2.2.2.2.2.2.2.2.2.2.2.2.2.2.2.2.2.1
theorem dX1_across_89 : decode cX1_across 89 = .ok (.ifnull 62, 3) := DX1_across.2.2.2.2.2.2.2.2.2.2.2.2.2.2.2.2.2.2.2.2.2.2.2.2.2.2.2.2.2.2.2.2.2.2.2.2.2.2.2.2.2.2.2.2.2.1
theorem dX1_across_92 : decode cX1_across 92 = .ok (.aload_n 0, 1) := DX1_across.2.2.2.2.2.2.2.2.2.2.2.2.2.2.2.2.2.2.2.2.2.2.2.2.2.2.2.2.2.2.2.2.2.2.2.2.2.2.2.2.2.2.2.2.2.2.1
theorem dX1_across_93 : decode cX1_across 93 = .ok (.getfield 35, 3) := DX1_across.2.2.2.2.2.2.2.2.2.2.2.2.2.2.2.2.2.2.2.2.2.2.2.2.2.2.2.2.2.2.2.2.2.2.2.2.2.2.2.2.2.2.2.2.2.2.2.1
theorem dX1_across_96 : decode cX1_across 96 = .ok (.iload 5, 2) := DX1_across.2.2.2.2.2.2.2.2.2.2.2.2.2.2.2.2.2.2.2.2.2.2.2.2.2.2.2.2.2.2.2.2.2.2.2.2.2.2.2.2.2.2.2.2.2.2.2.2.1
theorem dX1_across_98 : decode cX1_across 98 = .ok (.aaload, 1) := DX1_across.2.2.2.2.2.2.2.2.2.2.2.2.2.2.2.2.2.2.2.2.2.2.2.2.2.2.2.2.2.2.2.2.2.2.2.2.2.2.2.2.2.2.2.2.2.2.2.2.2.1
theorem dX1_across_99 : decode cX1_across 99 = .ok (.getfield 160, 3) := DX1_across.2.2.2.2.2.2.2.2.2.2.2.2.2.2.2.2.2.2.2.2.2.2.2.2.2.2.2.2.2.2.2.2.2.2.2.2.2.2.2.2.2.2.2.2.2.2.2.2.2.2.1
theorem dX1_across_102 : decode cX1_across 102 = .ok (.getfield 198, 3) := DX1_across.2.2.2.2.2.2.2.2.2.2.2.2.2.2.2.2.2.2.2.2.2.2.2.2.2.2.2.2.2.2.2.2.2.2.2.2.2.2.2.2.2.2.2.2.2.2.2.2.2.2.2.1
theorem dX1_across_105 : decode cX1_across 105 = .ok (.getfield 309, 3) := DX1_across.2.2.2.2.2.2.2.2.2.2.2.2.2.2.2.2.2.2.2.2.2.2.2.2.2.2.2.2.2.2.2.2.2.2.2.2.2.2.2.2.2.2.2.2.2.2.2.2.2.2.2.2.1
theorem dX1_across_108 : decode cX1_across 108 = .ok (.iload 4, 2) := DX1_across.2.2.2.2.2.2.2.2.2.2.2.2.2.2.2.2.2.2.2.2.2.2.2.2.2.2.2.2.2.2.2.2.2.2.2.2.2.2.2.2.2.2.2.2.2.2.2.2.2.2.2.2.2.1
theorem dX1_across_110 : decode cX1_across 110 = .ok (.if_icmp .eq 6, 3) := DX1_across.2.2.2.2.2.2.2.2.2.2.2.2.2.2.2.2.2.2.2.2.2.2.2.2.2.2.2.2.2.2.2.2.2.2.2.2.2.2.2.2.2.2.2.2.2.2.2.2.2.2.2.2.2.2.1
theorem dX1_across_113 : decode cX1_across 113 = .ok (.goto 38, 3) := DX1_across.2.2.2.2.2.2.2.2.2.2.2.2.2.2.2.2.2.2.2.2.2.2.2.2.2.2.2.2.2.2.2.2.2.2.2.2.2.2.2.2.2.2.2.2.2.2.2.2.2.2.2.2.2.2.2.1
theorem dX1_across_116 : decode cX1_across 116 = .ok (.aload_n 0, 1) := DX1_across.2.2.2.2.2.2.2.2.2.2.2.2.2.2.2.2.2.2.2.2.2.2.2.2.2.2.2.2.2.2.2.2.2.2.2.2.2.2.2.2.2.2.2.2.2.2.2.2.2.2.2.2.2.2.2.2.1
theorem dX1_across_117 : decode cX1_across 117 = .ok (.getfield 35, 3) := DX1_across.2.2.2.2.2.2.2.2.2.2.2.2.2.2.2.2.2.2.2.2.2.2.2.2.2.2.2.2.2.2.2.2.2.2.2.2.2.2.2.2.2.2.2.2.2.2.2.2.2.2.2.2.2.2.2.2.2.1
theorem dX1_across_120 : decode cX1_across 120 = .ok (.iload 5, 2) := DX1_across.2.2.2.2.2.2.2.2.2.2.2.2.2.2.2.2.2.2.2.2.2.2.2.2.2.2.2.2.2.2.2.2.2.2.2.2.2.2.2.2.2.2.2.2.2.2.2.2.2.2.2.2.2.2.2.2.2.2.1
theorem dX1_across_122 : decode cX1_across 122 = .ok (.aaload, 1) := DX1_across.2.2.2.2.2.2.2.2.2.2.2.2.2.2.2.2.2.2.2.2.2.2.2.2.2.2.2.2.2.2.2.2.2.2.2.2.2.2.2.2.2.2.2.2.2.2.2.2.2.2.2.2.2.2.2.2.2.2.2.1
theorem dX1_across_123 : decode cX1_across 123 = .ok (.getfield 143, 3) := DX1_across.2.2.2.2.2.2.2.2.2.2.2.2.2.2.2.2.2.2.2.2.2.2.2.2.2.2.2.2.2.2.2.2.2.2.2.2.2.2.2.2.2.2.2.2.2.2.2.2.2.2.2.2.2.2.2.2.2.2.2.2.1
theorem dX1_across_126 : decode cX1_across 126 = .ok (.getfield 160, 3) := DX1_across.2.2.2.2.2.2.2.2.2.2.2.2.2.2.2.2.2.2.2.2.2.2.2.2.2.2.2.2.2.2.2.2.2.2.2.2.2.2.2.2.2.2.2.2.2.2.2.2.2.2.2.2.2.2.2.2.2.2.2.2.2.1
theorem dX1_across_129 : decode cX1_across 129 = .ok (.getfield 198, 3) := DX1_across.2.2.2.2.2.2.2.2.2.2.2.2.2.2.2.2.2.2.2.2.2.2.2.2.2.2.2.2.2.2.2.2.2.2.2.2.2.2.2.2.2.2.2.2.2.2.2.2.2.2.2.2.2.2.2.2.2.2.2.2.2.2.1
theorem dX1_across_132 : decode cX1_across 132 = .ok (.astore 6, 2) := DX1_across.2.2.2.2.2.2.2.2.2.2.2.2.2.2.2.2.2.2.2.2.2.2.2.2.2.2.2.2.2.2.2.2.2.2.2.2.2.2.2.2.2.2.2.2.2.2.2.2.2.2.2.2.2.2.2.2.2.2.2.2.2.2.2.1
theorem dX1_across_134 : decode cX1_across 134 = .ok (.aload 6, 2) := DX1_across.2.2.2.2.2.2.2.2.2.2.2.2.2.2.2.2.2.2.2.2.2.2.2.2.2.2.2.2.2.2.2.2.2.2.2.2.2.2.2.2.2.2.2.2.2.2.2.2.2.2.2.2.2.2.2.2.2.2.2.2.2.2.2.2.1
theorem dX1_across_136 : decode cX1_across 136 = .ok (.getfield 309, 3) := DX1_across.2.2.2.2.2.2.2.2.2.2.2.2.2.2.2.2.2.2.2.2.2.2.2.2.2.2.2.2.2.2.2.2.2.2.2.2.2.2.2.2.2.2.2.2.2.2.2.2.2.2.2.2.2.2.2.2.2.2.2.2.2.2.2.2.2.1
theorem dX1_across_139 : decode cX1_across 139 = .ok (.ifCond .ge 12, 3) := DX1_across.2.2.2.2.2.2.2.2.2.2.2.2.2.2.2.2.2.2.2.2.2.2.2.2.2.2.2.2.2.2.2.2.2.2.2.2.2.2.2.2.2.2.2.2.2.2.2.2.2.2.2.2.2.2.2.2.2.2.2.2.2.2.2.2.2.2.1
theorem dX1_across_142 : decode cX1_across 142 = .ok (.aload 6, 2) := DX1_across.2.2.2.2.2.2.2.2.2.2.2.2.2.2.2.2.2.2.2.2.2.2.2.2.2.2.2.2.2.2.2.2.2.2.2.2.2.2.2.2.2.2.2.2.2.2.2.2.2.2.2.2.2.2.2.2.2.2.2.2.2.2.2.2.2.2.2.1
theorem dX1_across_144 : decode cX1_across 144 = .ok (.iload 4, 2) := DX1_across.2.2.2.2.2.2.2.2.2.2.2.2.2.2.2.2.2.2.2.2.2.2.2.2.2.2.2.2.2.2.2.2.2.2.2.2.2.2.2.2.2.2.2.2.2.2.2.2.2.2.2.2.2.2.2.2.2.2.2.2.2.2.2.2.2.2.2.2.1
theorem dX1_across_146 : decode cX1_across 146 = .ok (.iconst 1, 1) := DX1_across.2.2.2.2.2.2.2.2.2.2.2.2.2.2.2.2.2.2.2.2.2.2.2.2.2.2.2.2.2.2.2.2.2.2.2.2.2.2.2.2.2.2.2.2.2.2.2.2.2.2.2.2.2.2.2.2.2.2.2.2.2.2.2.2.2.2.2.2.2.1
theorem dX1_across_147 : decode cX1_across 147 = .ok (.iadd, 1) := DX1_across.2.2.2.2.2.2.2.2.2.2.2.2.2.2.2.2.2.2.2.2.2.2.2.2.2.2.2.2.2.2.2.2.2.2.2.2.2.2.2.2.2.2.2.2.2.2.2.2.2.2.2.2.2.2.2.2.2.2.2.2.2.2.2.2.2.2.2.2.2.2.1
theorem dX1_across_148 : decode cX1_across 148 = .ok (.putfield 309, 3) := DX1_across.2.2.2.2.2.2.2.2.2.2.2.2.2.2.2.2.2.2.2.2.2.2.2.2.2.2.2.2.2.2.2.2.2.2.2.2.2.2.2.2.2.2.2.2.2.2.2.2.2.2.2.2.2.2.2.2.2.2.2.2.2.2.2.2.2.2.2.2.2.2.2.1
theorem dX1_across_151 : decode cX1_across 151 = .ok (.iinc 5 1, 3) := DX1_across.2.2.2.2.2.2.2.2.2.2.2.2.2.2.2.2.2.2.2.2.2.2.2.2.2.2.2.2.2.2.2.2.2.2.2.2.2.2.2.2.2.2.2.2.2.2.2.2.2.2.2.2.2.2.2.2.2.2.2.2.2.2.2.2.2.2.2.2.2.2.2.2.1
theorem dX1_across_154 : decode cX1_across 154 = .ok (.goto (-82), 3) := DX1_across.2.2.2.2.2.2.2.2.2.2.2.2.2.2.2.2.2.2.2.2.2.2.2.2.2.2.2.2.2.2.2.2.2.2.2.2.2.2.2.2.2.2.2.2.2.2.2.2.2.2.2.2.2.2.2.2.2.2.2.2.2.2.2.2.2.2.2.2.2.2.2.2.2.1
theorem dX1_across_157 : decode cX1_across 157 = .ok (.iinc 4 1, 3) := DX1_across.2.2.2.2.2.2.2.2.2.2.2.2.2.2.2.2.2.2.2.2.2.2.2.2.2.2.2.2.2.2.2.2.2.2.2.2.2.2.2.2.2.2.2.2.2.2.2.2.2.2.2.2.2.2.2.2.2.2.2.2.2.2.2.2.2.2.2.2.2.2.2.2.2.2.1
theorem dX1_across_160 : decode cX1_across 160 = .ok (.goto (-98), 3) := DX1_across.2.2.2.2.2.2.2.2.2.2.2.2.2.2.2.2.2.2.2.2.2.2.2.2.2.2.2.2.2.2.2.2.2.2.2.2.2.2.2.2.2.2.2.2.2.2.2.2.2.2.2.2.2.2.2.2.2.2.2.2.2.2.2.2.2.2.2.2.2.2.2.2.2.2.2.1
theorem dX1_across_163 : decode cX1_across 163 = .ok (.aload_n 3, 1) := DX1_across.2.2.2.2.2.2.2.2.2.2.2.2.2.2.2.2.2.2.2.2.2.2.2.2.2.2.2.2.2.2.2.2.2.2.2.2.2.2.2.2.2.2.2.2.2.2.2.2.2.2.2.2.2.2.2.2.2.2.2.2.2.2.2.2.2.2.2.2.2.2.2.2.2.2.2.2.1
theorem dX1_across_164 : decode cX1_across 164 = .ok (.getfield 309, 3) := DX1_across.2.2.2.2.2.2.2.2.2.2.2.2.2.2.2.2.2.2.2.2.2.2.2.2.2.2.2.2.2.2.2.2.2.2.2.2.2.2.2.2.2.2.2.2.2.2.2.2.2.2.2.2.2.2.2.2.2.2.2.2.2.2.2.2.2.2.2.2.2.2.2.2.2.2.2.2.2.1
theorem dX1_across_167 : decode cX1_across 167 = .ok (.ireturn, 1) := DX1_across.2.2.2.2.2.2.2.2.2.2.2.2.2.2.2.2.2.2.2.2.2.2.2.2.2.2.2.2.2.2.2.2.2.2.2.2.2.2.2.2.2.2.2.2.2.2.2.2.2.2.2.2.2.2.2.2.2.2.2.2.2.2.2.2.2.2.2.2.2.2.2.2.2.2.2.2.2.2
theorem dX2_init_0 : decode cX2_init 0 = .ok (.aload_n 0, 1) := DX2_init.1
theorem dX2_init_1 : decode cX2_init 1 = .ok (.invokespecial 1, 3) := DX2_init.2.1
theorem dX2_init_4 : decode cX2_init 4 = .ok (.aload_n 0, 1) := DX2_init.2.2.1
theorem dX2_init_5 : decode cX2_init 5 = .ok (.bipush 60, 2) := DX2_init.2.2.2.1
theorem dX2_init_7 : decode cX2_init 7 = .ok (.newarray .boolean, 2) := DX2_init.2.2.2.2.1
theorem dX2_init_9 : decode cX2_init 9 = .ok (.putfield 7, 3) := DX2_init.2.2.2.2.2.1
theorem dX2_init_12 : decode cX2_init 12 = .ok (.aload_n 0, 1) := DX2_init.2.2.2.2.2.2.1
theorem dX2_init_13 : decode cX2_init 13 = .ok (.bipush 120, 2) := DX2_init.2.2.2.2.2.2.2.1
theorem dX2_init_15 : decode cX2_init 15 = .ok (.newarray .int, 2) := DX2_init.2.2.2.2.2.2.2.2.1
theorem dX2_init_17 : decode cX2_init 17 = .ok (.putfield 13, 3) := DX2_init.2.2.2.2.2.2.2.2.2.1
theorem dX2_init_20 : decode cX2_init 20 = .ok (.aload_n 0, 1) := DX2_init.2.2.2.2.2.2.2.2.2.2.1
theorem dX2_init_21 : decode cX2_init 21 = .ok (.bipush 120, 2) := DX2_init.2.2.2.2.2.2.2.2.2.2.2.1
theorem dX2_init_23 : decode cX2_init 23 = .ok (.newarray .int, 2) := DX2_init.2.2.2.2.2.2.2.2.2.2.2.2.1
theorem dX2_init_25 : decode cX2_init 25 = .ok (.putfield 17, 3) := DX2_init.2.2.2.2.2.2.2.2.2.2.2.2.2.1
theorem dX2_init_28 : decode cX2_init 28 = .ok (.aload_n 0, 1) := DX2_init.2.2.2.2.2.2.2.2.2.2.2.2.2.2.1
theorem dX2_init_29 : decode cX2_init 29 = .ok (.bipush 120, 2) := DX2_init.2.2.2.2.2.2.2.2.2.2.2.2.2.2.2.1
theorem dX2_init_31 : decode cX2_init 31 = .ok (.newarray .int, 2) := DX2_init.2.2.2.2.2.2.2.2.2.2.2.2.2.2.2.2.1
theorem dX2_init_33 : decode cX2_init 33 = .ok (.putfield 20, 3) := DX2_init.2.2.2.2.2.2.2.2.2.2.2.2.2.2.2.2.2.1
theorem dX2_init_36 : decode cX2_init 36 = .ok (.aload_n 0, 1) := DX2_init.2.2.2.2.2.2.2.2.2.2.2.2.2.2.2.2.2.2.1
theorem dX2_init_37 : decode cX2_init 37 = .ok (.bipush 120, 2) := DX2_init.2.2.2.2.2.2.2.2.2.2.2.2.2.2.2.2.2.2.2.1
theorem dX2_init_39 : decode cX2_init 39 = .ok (.newarray .int, 2) := DX2_init.2.2.2.2.2.2.2.2.2.2.2.2.2.2.2.2.2.2.2.2.1
theorem dX2_init_41 : decode cX2_init 41 = .ok (.putfield 23, 3) := DX2_init.2.2.2.2.2.2.2.2.2.2.2.2.2.2.2.2.2.2.2.2.2.1
theorem dX2_init_44 : decode cX2_init 44 = .ok (.aload_n 0, 1) := DX2_init.2.2.2.2.2.2.2.2.2.2.2.2.2.2.2.2.2.2.2.2.2.2.1
theorem dX2_init_45 : decode cX2_init 45 = .ok (.bipush 120, 2) := DX2_init.2.2.2.2.2.2.2.2.2.2.2.2.2.2.2.2.2.2.2.2.2.2.2.1
theorem dX2_init_47 : decode cX2_init 47 = .ok (.newarray .int, 2) := DX2_init.2.2.2.2.2.2.2.2.2.2.2.2.2.2.2.2.2.2.2.2.2.2.2.2.1
theorem dX2_init_49 : decode cX2_init 49 = .ok (.putfield 26, 3) := DX2_init.2.2.2.2.2.2.2.2.2.2.2.2.2.2.2.2.2.2.2.2.2.2.2.2.2.1
theorem dX2_init_52 : decode cX2_init 52 = .ok (.aload_n 0, 1) := DX2_init.2.2.2.2.2.2.2.2.2.2.2.2.2.2.2.2.2.2.2.2.2.2.2.2.2.2.1
theorem dX2_init_53 : decode cX2_init 53 = .ok (.bipush 120, 2) := DX2_init.2.2.2.2.2.2.2.2.2.2.2.2.2.2.2.2.2.2.2.2.2.2.2.2.2.2.2.1
theorem dX2_init_55 : decode cX2_init 55 = .ok (.newarray .int, 2) := DX2_init.2.2.2.2.2.2.2.2.2.2.2.2.2.2.2.2.2.2.2.2.2.2.2.2.2.2.2.2.1
theorem dX2_init_57 : decode cX2_init 57 = .ok (.putfield 29, 3) := DX2_init.2.2.2.2.2.2.2.2.2.2.2.2.2.2.2.2.2.2.2.2.2.2.2.2.2.2.2.2.2.1
theorem dX2_init_60 : decode cX2_init 60 = .ok (.aload_n 0, 1) := DX2_init.2.2.2.2.2.2.2.2.2.2.2.2.2.2.2.2.2.2.2.2.2.2.2.2.2.2.2.2.2.2.1
theorem dX2_init_61 : decode cX2_init 61 = .ok (.bipush 120, 2) := DX2_init.2.2.2.2.2.2.2.2.2.2.2.2.2.2.2.2.2.2.2.2.2.2.2.2.2.2.2.2.2.2.2.1
theorem dX2_init_63 : decode cX2_init 63 = .ok (.newarray .long, 2) := DX2_init.2.2.2.2.2.2.2.2.2.2.2.2.2.2.2.2.2.2.2.2.2.2.2.2.2.2.2.2.2.2.2.2.1
theorem dX2_init_65 : decode cX2_init 65 = .ok (.putfield 32, 3) := DX2_init.2.2.2.2.2.2.2.2.2.2.2.2.2.2.2.2.2.2.2.2.2.2.2.2.2.2.2.2.2.2.2.2.2.1
theorem dX2_init_68 : decode cX2_init 68 = .ok (.aload_n 0, 1) := DX2_init.2.2.2.2.2.2.2.2.2.2.2.2.2.2.2.2.2.2.2.2.2.2.2.2.2.2.2.2.2.2.2.2.2.2.1
theorem dX2_init_69 : decode cX2_init 69 = .ok (.bipush 120, 2) := DX2_init.2.2.2.2.2.2.2.2.2.2.2.2.2.2.2.2.2.2.2.2.2.2.2.2.2.2.2.2.2.2.2.2.2.2.2.1
theorem dX2_init_71 : decode cX2_init 71 = .ok (.newarray .int, 2) := DX2_init.2.2.2.2.2.2.2.2.2.2.2.2.2.2.2.2.2.2.2.2.2.2.2.2.2.2.2.2.2.2.2.2.2.2.2.2.1
theorem dX2_init_73 : decode cX2_init 73 = .ok (.putfield 36, 3) := DX2_init.2.2.2.2.2.2.2.2.2.2.2.2.2.2.2.2.2.2.2.2.2.2.2.2.2.2.2.2.2.2.2.2.2.2.2.2.2.1
theorem dX2_init_76 : decode cX2_init 76 = .ok (.aload_n 0, 1) := DX2_init.2.2.2.2.2.2.2.2.2.2.2.2.2.2.2.2.2.2.2.2.2.2.2.2.2.2.2.2.2.2.2.2.2.2.2.2.2.2.1
theorem dX2_init_77 : decode cX2_init 77 = .ok (.bipush 122, 2) := DX2_init.2.2.2.2.2.2.2.2.2.2.2.2.2.2.2.2.2.2.2.2.2.2.2.2.2.2.2.2.2.2.2.2.2.2.2.2.2.2.2.1
theorem dX2_init_79 : decode cX2_init 79 = .ok (.newarray .int, 2) := DX2_init.2.2.2.2.2.2.2.2.2.2.2.2.2.2.2.2.2.2.2.2.2.2.2.2.2.2.2.2.2.2.2.2.2.2.2.2.2.2.2.2.1
theorem dX2_init_81 : decode cX2_init 81 = .ok (.putfield 39, 3) := DX2_init.2.2.2.2.2.2.2.2.2.2.2.2.2.2.2.2.2.2.2.2.2.2.2.2.2.2.2.2.2.2.2.2.2.2.2.2.2.2.2.2.2.1
theorem dX2_init_84 : decode cX2_init 84 = .ok (.aload_n 0, 1) := DX2_init.2.2.2.2.2.2.2.2.2.2.2.2.2.2.2.2.2.2.2.2.2.2.2.2.2.2.2.2.2.2.2.2.2.2.2.2.2.2.2.2.2.2.1
theorem dX2_init_85 : decode cX2_init 85 = .ok (.bipush 122, 2) := DX2_init.2.2.2.2.2.2.2.2.2.2.2.2.2.2.2.2.2.2.2.2.2.2.2.2.2.2.2.2.2.2.2.2.2.2.2.2.2.2.2.2.2.2.2.1
theorem dX2_init_87 : decode cX2_init 87 = .ok (.newarray .int, 2) := DX2_init.2.2.2.2.2.2.2.2.2.2.2.2.2.2.2.2.2.2.2.2.2.2.2.2.2.2.2.2.2.2.2.2.2.2.2.2.2.2.2.2.2.2.2.2.1
theorem dX2_init_89 : decode cX2_init 89 = .ok (.putfield 42, 3) := DX2_init.2.2.2.2.2.2.2.2.2.2.2.2.2.2.2.2.2.2.2.2.2.2.2.2.2.2.2.2.2.2.2.2.2.2.2.2.2.2.2.2.2.2.2.2.2.1
theorem dX2_init_92 : decode cX2_init 92 = .ok (.return_, 1) := DX2_init.2.2.2.2.2.2.2.2.2.2.2.2.2.2.2.2.2.2.2.2.2.2.2.2.2.2.2.2.2.2.2.2.2.2.2.2.2.2.2.2.2.2.2.2.2.2
theorem dX2_thrown_0 : decode cX2_thrown 0 = .ok (.aload_n 0, 1) := DX2_thrown.1
theorem dX2_thrown_1 : decode cX2_thrown 1 = .ok (.getfield 45, 3) := DX2_thrown.2.1
theorem dX2_thrown_4 : decode cX2_thrown 4 = .ok (.ireturn, 1) := DX2_thrown.2.2
theorem dX2_add_0 : decode cX2_add 0 = .ok (.iload_n 1, 1) := DX2_add.1
theorem dX2_add_1 : decode cX2_add 1 = .ok (.invokestatic 65, 3) := DX2_add.2.1
theorem dX2_add_4 : decode cX2_add 4 = .ok (.ifCond .eq 40, 3) := DX2_add.2.2.1
theorem dX2_add_7 : decode cX2_add 7 = .ok (.iload_n 2, 1) := DX2_add.2.2.2.1
theorem dX2_add_8 : decode cX2_add 8 = .ok (.invokestatic 65, 3) := DX2_add.2.2.2.2.1
theorem dX2_add_11 : decode cX2_add 11 = .ok (.ifCond .eq 33, 3) := DX2_add.2.2.2.2.2.1
theorem dX2_add_14 : decode cX2_add 14 = .ok (.iload_n 3, 1) := DX2_add.2.2.2.2.2.2.1
theorem dX2_add_15 : decode cX2_add 15 = .ok (.invokestatic 65, 3) := DX2_add.2.2.2.2.2.2.2.1
theorem dX2_add_18 : decode cX2_add 18 = .ok (.ifCond .eq 26, 3) := DX2_add.2.2.2.2.2.2.2.2.1
theorem dX2_add_21 : decode cX2_add 21 = .ok (.iload 4, 2) := DX2_add.2.2.2.2.2.2.2.2.2.1
theorem dX2_add_23 : decode cX2_add 23 = .ok (.invokestatic 65, 3) := DX2_add.2.2.2.2.2.2.2.2.2.2.1
theorem dX2_add_26 : decode cX2_add 26 = .ok (.ifCond .eq 18, 3) := DX2_add.2.2.2.2.2.2.2.2.2.2.2.1
theorem dX2_add_29 : decode cX2_add 29 = .ok (.iload_n 1, 1) := DX2_add.2.2.2.2.2.2.2.2.2.2.2.2.1
theorem dX2_add_30 : decode cX2_add 30 = .ok (.iload_n 3, 1) := DX2_add.2.2.2.2.2.2.2.2.2.2.2.2.2.1
theorem dX2_add_31 : decode cX2_add 31 = .ok (.if_icmp .ne 9, 3) := DX2_add.2.2.2.2.2.2.2.2.2.2.2.2.2.2.1
theorem dX2_add_34 : decode cX2_add 34 = .ok (.iload_n 2, 1) := DX2_add.2.2.2.2.2.2.2.2.2.2.2.2.2.2.2.1
theorem dX2_add_35 : decode cX2_add 35 = .ok (.iload 4, 2) := DX2_add.2.2.2.2.2.2.2.2.2.2.2.2.2.2.2.2.1
theorem dX2_add_37 : decode cX2_add 37 = .ok (.if_icmp .eq 7, 3) := DX2_add.2.2.2.2.2.2.2.2.2.2.2.2.2.2.2.2.2.1
theorem dX2_add_40 : decode cX2_add 40 = .ok (.iconst 1, 1) := DX2_add.2.2.2.2.2.2.2.2.2.2.2.2.2.2.2.2.2.2.1
theorem dX2_add_41 : decode cX2_add 41 = .ok (.goto 4, 3) := DX2_add.2.2.2.2.2.2.2.2.2.2.2.2.2.2.2.2.2.2.2.1
theorem dX2_add_44 : decode cX2_add 44 = .ok (.iconst 0, 1) := DX2_add.2.2.2.2.2.2.2.2.2.2.2.2.2.2.2.2.2.2.2.2.1
theorem dX2_add_45 : decode cX2_add 45 = .ok (.istore 5, 2) := DX2_add.2.2.2.2.2.2.2.2.2.2.2.2.2.2.2.2.2.2.2.2.2.1
theorem dX2_add_47 : decode cX2_add 47 = .ok (.iconst (-1), 1) := DX2_add.2.2.2.2.2.2.2.2.2.2.2.2.2.2.2.2.2.2.2.2.2.2.1
theorem dX2_add_48 : decode cX2_add 48 = .ok (.istore 6, 2) := DX2_add.2.2.2.2.2.2.2.2.2.2.2.2.2.2.2.2.2.2.2.2.2.2.2.1
theorem dX2_add_50 : decode cX2_add 50 = .ok (.bipush 59, 2) := DX2_add.2.2.2.2.2.2.2.2.2.2.2.2.2.2.2.2.2.2.2.2.2.2.2.2.1
theorem dX2_add_52 : decode cX2_add 52 = .ok (.istore 7, 2) := DX2_add.2.2.2.2.2.2.2.2.2.2.2.2.2.2.2.2.2.2.2.2.2.2.2.2.2.1
theorem dX2_add_54 : decode cX2_add 54 = .ok (.iload 7, 2) := DX2_add.2.2.2.2.2.2.2.2.2.2.2.2.2.2.2.2.2.2.2.2.2.2.2.2.2.2.1
theorem dX2_add_56 : decode cX2_add 56 = .ok (.ifCond .lt 28, 3) := DX2_add.2.2.2.2.2.2.2.2.2.2.2.2.2.2.2.2.2.2.2.2.2.2.2.2.2.2.2.1
theorem dX2_add_59 : decode cX2_add 59 = .ok (.aload_n 0, 1) := DX2_add.2.2.2.2.2.2.2.2.2.2.2.2.2.2.2.2.2.2.2.2.2.2.2.2.2.2.2.2.1
theorem dX2_add_60 : decode cX2_add 60 = .ok (.getfield 7, 3) := DX2_add.2.2.2.2.2.2.2.2.2.2.2.2.2.2.2.2.2.2.2.2.2.2.2.2.2.2.2.2.2.1
theorem dX2_add_63 : decode cX2_add 63 = .ok (.iload 7, 2) := DX2_add.2.2.2.2.2.2.2.2.2.2.2.2.2.2.2.2.2.2.2.2.2.2.2.2.2.2.2.2.2.2.1
theorem dX2_add_65 : decode cX2_add 65 = .ok (.baload, 1) := DX2_add.2.2.2.2.2.2.2.2.2.2.2.2.2.2.2.2.2.2.2.2.2.2.2.2.2.2.2.2.2.2.2.1
theorem dX2_add_66 : decode cX2_add 66 = .ok (.ifCond .eq 8, 3) := DX2_add.2.2.2.2.2.2.2.2.2.2.2.2.2.2.2.2.2.2.2.2.2.2.2.2.2.2.2.2.2.2.2.2.1
theorem dX2_add_69 : decode cX2_add 69 = .ok (.iload 6, 2) := DX2_add.2.2.2.2.2.2.2.2.2.2.2.2.2.2.2.2.2.2.2.2.2.2.2.2.2.2.2.2.2.2.2.2.2.1
theorem dX2_add_71 : decode cX2_add 71 = .ok (.goto 5, 3) := DX2_add.2.2.2.2.2.2.2.2.2.2.2.2.2.2.2.2.2.2.2.2.2.2.2.2.2.2.2.2.2.2.2.2.2.2.1
theorem dX2_add_74 : decode cX2_add 74 = .ok (.iload 7, 2) := DX2_add.2.2.2.2.2.2.2.2.2.2.2.2.2.2.2.2.2.2.2.2.2.2.2.2.2.2.2.2.2.2.2.2.2.2.2.1
theorem dX2_add_76 : decode cX2_add 76 = .ok (.istore 6, 2) := DX2_add.2.2.2.2.2.2.2.2.2.2.2.2.2.2.2.2.2.2.2.2.2.2.2.2.2.2.2.2.2.2.2.2.2.2.2.2.1
theorem dX2_add_78 : decode cX2_add 78 = .ok (.iinc 7 (-1), 3) := DX2_add.2.2.2.2.2.2.2.2.2.2.2.2.2.2.2.2.2.2.2.2.2.2.2.2.2.2.2.2.2.2.2.2.2.2.2.2.2.1
theorem dX2_add_81 : decode cX2_add 81 = .ok (.goto (-27), 3) := DX2_add.2.2.2.2.2.2.2.2.2.2.2.2.2.2.2.2.2.2.2.2.2.2.2.2.2.2.2.2.2.2.2.2.2.2.2.2.2.2.1
theorem dX2_add_84 : decode cX2_add 84 = .ok (.aload_n 0, 1) := DX2_add.2.2.2.2.2.2.2.2.2.2.2.2.2.2.2.2.2.2.2.2.2.2.2.2.2.2.2.2.2.2.2.2.2.2.2.2.2.2.2.1
theorem dX2_add_85 : decode cX2_add 85 = .ok (.iload 5, 2) := DX2_add.2.2.2.2.2.2.2.2.2.2.2.2.2.2.2.2.2.2.2.2.2.2.2.2.2.2.2.2.2.2.2.2.2.2.2.2.2.2.2.2.1
theorem dX2_add_87 : decode cX2_add 87 = .ok (.ifCond .ne 7, 3) := DX2_add.2.2.2.2.2.2.2.2.2.2.2.2.2.2.2.2.2.2.2.2.2.2.2.2.2.2.2.2.2.2.2.2.2.2.2.2.2.2.2.2.2.1
theorem dX2_add_90 : decode cX2_add 90 = .ok (.iconst 1, 1) := DX2_add.2.2.2.2.2.2.2.2.2.2.2.2.2.2.2.2.2.2.2.2.2.2.2.2.2.2.2.2.2.2.2.2.2.2.2.2.2.2.2.2.2.2.1
theorem dX2_add_91 : decode cX2_add 91 = .ok (.goto 13, 3) := DX2_add.2.2.2.2.2.2.2.2.2.2.2.2.2.2.2.2.2.2.2.2.2.2.2.2.2.2.2.2.2.2.2.2.2.2.2.2.2.2.2.2.2.2.2.1
theorem dX2_add_94 : decode cX2_add 94 = .ok (.iload 6, 2) := DX2_add.2.2.2.2.2.2.2.2.2.2.2.2.2.2.2.2.2.2.2.2.2.2.2.2.2.2.2.2.2.2.2.2.2.2.2.2.2.2.2.2.2.2.2.2.1
theorem dX2_add_96 : decode cX2_add 96 = .ok (.ifCond .ge 7, 3) := DX2_add.2.2.2.2.2.2.2.2.2.2.2.2.2.2.2.2.2.2.2.2.2.2.2.2.2.2.2.2.2.2.2.2.2.2.2.2.2.2.2.2.2.2.2.2.2.1
theorem dX2_add_99 : decode cX2_add 99 = .ok (.iconst 2, 1) := DX2_add.2.2.2.2.2.2.2.2.2.2.2.2.2.2.2.2.2.2.2.2.2.2.2.2.2.2.2.2.2.2.2.2.2.2.2.2.2.2.2.2.2.2.2.2.2.2.1
theorem dX2_add_100 : decode cX2_add 100 = .ok (.goto 4, 3) := DX2_add.2.2.2.2.2.2.2.2.2.2.2.2.2.2.2.2.2.2.2.2.2.2.2.2.2.2.2.2.2.2.2.2.2.2.2.2.2.2.2.2.2.2.2.2.2.2.2.1
theorem dX2_add_103 : decode cX2_add 103 = .ok (.iconst 0, 1) := DX2_add.2.2.2.2.2.2.2.2.2.2.2.2.2.2.2.2.2.2.2.2.2.2.2.2.2.2.2.2.2.2.2.2.2.2.2.2.2.2.2.2.2.2.2.2.2.2.2.2.1
theorem dX2_add_104 : decode cX2_add 104 = .ok (.invokevirtual 69, 3) := DX2_add.2.2.2.2.2.2.2.2.2.2.2.2.2.2.2.2.2.2.2.2.2.2.2.2.2.2.2.2.2.2.2.2.2.2.2.2.2.2.2.2.2.2.2.2.2.2.2.2.2.1
theorem dX2_add_107 : decode cX2_add 107 = .ok (.ifCond .eq 5, 3) := DX2_add.2.2.2.2.2.2.2.2.2.2.2.2.2.2.2.2.2.2.2.2.2.2.2.2.2.2.2.2.2.2.2.2.2.2.2.2.2.2.2.2.2.2.2.2.2.2.2.2.2.2.1
theorem dX2_add_110 : decode cX2_add 110 = .ok (.iconst 0, 1) := DX2_add.2.2.2.2.2.2.2.2.2.2.2.2.2.2.2.2.2.2.2.2.2.2.2.2.2.2.2.2.2.2.2.2.2.2.2.2.2.2.2.2.2.2.2.2.2.2.2.2.2.2.2.1
theorem dX2_add_111 : decode cX2_add 111 = .ok (.ireturn, 1) := DX2_add.2.2.2.2.2.2.2.2.2.2.2.2.2.2.2.2.2.2.2.2.2.2.2.2.2.2.2.2.2.2.2.2.2.2.2.2.2.2.2.2.2.2.2.2.2.2.2.2.2.2.2.2.1
theorem dX2_add_112 : decode cX2_add 112 = .ok (.iconst 0, 1) := DX2_add.2.2.2.2.2.2.2.2.2.2.2.2.2.2.2.2.2.2.2.2.2.2.2.2.2.2.2.2.2.2.2.2.2.2.2.2.2.2.2.2.2.2.2.2.2.2.2.2.2.2.2.2.2.1
theorem dX2_add_113 : decode cX2_add 113 = .ok (.istore 7, 2) := DX2_add.2.2.2.2.2.2.2.2.2.2.2.2.2.2.2.2.2.2.2.2.2.2.2.2.2.2.2.2.2.2.2.2.2.2.2.2.2.2.2.2.2.2.2.2.2.2.2.2.2.2.2.2.2.2.1
theorem dX2_add_115 : decode cX2_add 115 = .ok (.iload 7, 2) := DX2_add.2.2.2.2.2.2.2.2.2.2.2.2.2.2.2.2.2.2.2.2.2.2.2.2.2.2.2.2.2.2.2.2.2.2.2.2.2.2.2.2.2.2.2.2.2.2.2.2.2.2.2.2.2.2.2.1
theorem dX2_add_117 : decode cX2_add 117 = .ok (.bipush 60, 2) := DX2_add.2.2.2.2.2.2.2.2.2.2.2.2.2.2.2.2.2.2.2.2.2.2.2.2.2.2.2.2.2.2.2.2.2.2.2.2.2.2.2.2.2.2.2.2.2.2.2.2.2.2.2.2.2.2.2.2.1
theorem dX2_add_119 : decode cX2_add 119 = .ok (.if_icmp .ge 35, 3) := DX2_add.2.2.2.2.2.2.2.2.2.2.2.2.2.2.2.2.2.2.2.2.2.2.2.2.2.2.2.2.2.2.2.2.2.2.2.2.2.2.2.2.2.2.2.2.2.2.2.2.2.2.2.2.2.2.2.2.2.1
theorem dX2_add_122 : decode cX2_add 122 = .ok (.aload_n 0, 1) := DX2_add.2.2.2.2.2.2.2.2.2.2.2.2.2.2.2.2.2.2.2.2.2.2.2.2.2.2.2.2.2.2.2.2.2.2.2.2.2.2.2.2.2.2.2.2.2.2.2.2.2.2.2.2.2.2.2.2.2.2.1
theorem dX2_add_123 : decode cX2_add 123 = .ok (.getfield 7, 3) := DX2_add.2.2.2.2.2.2.2.2.2.2.2.2.2.2.2.2.2.2.2.2.2.2.2.2.2.2.2.2.2.2.2.2.2.2.2.2.2.2.2.2.2.2.2.2.2.2.2.2.2.2.2.2.2.2.2.2.2.2.2.1
theorem dX2_add_126 : decode cX2_add 126 = .ok (.iload 7, 2) := DX2_add.2.2.2.2.2.2.2.2.2.2.2.2.2.2.2.2.2.2.2.2.2.2.2.2.2.2.2.2.2.2.2.2.2.2.2.2.2.2.2.2.2.2.2.2.2.2.2.2.2.2.2.2.2.2.2.2.2.2.2.2.1
theorem dX2_add_128 : decode cX2_add 128 = .ok (.baload, 1) := DX2_add.2.2.2.2.2.2.2.2.2.2.2.2.2.2.2.2.2.2.2.2.2.2.2.2.2.2.2.2.2.2.2.2.2.2.2.2.2.2.2.2.2.2.2.2.2.2.2.2.2.2.2.2.2.2.2.2.2.2.2.2.2.1
theorem dX2_add_129 : decode cX2_add 129 = .ok (.ifCond .eq 19, 3) := DX2_add.2.2.2.2.2.2.2.2.2.2.2.2.2.2.2.2.2.2.2.2.2.2.2.2.2.2.2.2.2.2.2.2.2.2.2.2.2.2.2.2.2.2.2.2.2.2.2.2.2.2.2.2.2.2.2.2.2.2.2.2.2.2.1
theorem dX2_add_132 : decode cX2_add 132 = .ok (.aload_n 0, 1) := DX2_add.2.2.2.2.2.2.2.2.2.2.2.2.2.2.2.2.2.2.2.2.2.2.2.2.2.2.2.2.2.2.2.2.2.2.2.2.2.2.2.2.2.2.2.2.2.2.2.2.2.2.2.2.2.2.2.2.2.2.2.2.2.2.2.1
theorem dX2_add_133 : decode cX2_add 133 = .ok (.iload 7, 2) := DX2_add.2.2.2.2.2.2.2.2.2.2.2.2.2.2.2.2.2.2.2.2.2.2.2.2.2.2.2.2.2.2.2.2.2.2.2.2.2.2.2.2.2.2.2.2.2.2.2.2.2.2.2.2.2.2.2.2.2.2.2.2.2.2.2.2.1
theorem dX2_add_135 : decode cX2_add 135 = .ok (.iload_n 1, 1) := DX2_add.2.2.2.2.2.2.2.2.2.2.2.2.2.2.2.2.2.2.2.2.2.2.2.2.2.2.2.2.2.2.2.2.2.2.2.2.2.2.2.2.2.2.2.2.2.2.2.2.2.2.2.2.2.2.2.2.2.2.2.2.2.2.2.2.2.1
theorem dX2_add_136 : decode cX2_add 136 = .ok (.iload_n 2, 1) := DX2_add.2.2.2.2.2.2.2.2.2.2.2.2.2.2.2.2.2.2.2.2.2.2.2.2.2.2.2.2.2.2.2.2.2.2.2.2.2.2.2.2.2.2.2.2.2.2.2.2.2.2.2.2.2.2.2.2.2.2.2.2.2.2.2.2.2.2.1
theorem dX2_add_137 : decode cX2_add 137 = .ok (.iload_n 3, 1) := DX2_add.2.2.2.2.2.2.2.2.2.2.2.2.2.2.2.2.2.2.2.2.2.2.2.2.2.2.2.2.2.2.2.2.2.2.2.2.2.2.2.2.2.2.2.2.2.2.2.2.2.2.2.2.2.2.2.2.2.2.2.2.2.2.2.2.2.2.2.1
theorem dX2_add_138 : decode cX2_add 138 = .ok (.iload 4, 2) := DX2_add.2.2.2.2.2.2.2.2.2.2.2.2.2.2.2.2.2.2.2.2.2.2.2.2.2.2.2.2.2.2.2.2.2.2.2.2.2.2.2.2.2.2.2.2.2.2.2.2.2.2.2.2.2.2.2.2.2.2.2.2.2.2.2.2.2.2.2.2.1
theorem dX2_add_140 : decode cX2_add 140 = .ok (.invokevirtual 72, 3) := DX2_add.2.2.2.2.2.2.2.2.2.2.2.2.2.2.2.2.2.2.2.2.2.2.2.2.2.2.2.2.2.2.2.2.2.2.2.2.2.2.2.2.2.2.2.2.2.2.2.2.2.2.2.2.2.2.2.2.2.2.2.2.2.2.2.2.2.2.2.2.2.1
theorem dX2_add_143 : decode cX2_add 143 = .ok (.ifCond .eq 5, 3) := DX2_add.2.2.2.2.2.2.2.2.2.2.2.2.2.2.2.2.2.2.2.2.2.2.2.2.2.2.2.2.2.2.2.2.2.2.2.2.2.2.2.2.2.2.2.2.2.2.2.2.2.2.2.2.2.2.2.2.2.2.2.2.2.2.2.2.2.2.2.2.2.2.1
theorem dX2_add_146 : decode cX2_add 146 = .ok (.iconst (-1), 1) := DX2_add.2.2.2.2.2.2.2.2.2.2.2.2.2.2.2.2.2.2.2.2.2.2.2.2.2.2.2.2.2.2.2.2.2.2.2.2.2.2.2.2.2.2.2.2.2.2.2.2.2.2.2.2.2.2.2.2.2.2.2.2.2.2.2.2.2.2.2.2.2.2.2.1
theorem dX2_add_147 : decode cX2_add 147 = .ok (.ireturn, 1) := DX2_add.2.2.2.2.2.2.2.2.2.2.2.2.2.2.2.2.2.2.2.2.2.2.2.2.2.2.2.2.2.2.2.2.2.2.2.2.2.2.2.2.2.2.2.2.2.2.2.2.2.2.2.2.2.2.2.2.2.2.2.2.2.2.2.2.2.2.2.2.2.2.2.2.1
theorem dX2_add_148 : decode cX2_add 148 = .ok (.iinc 7 1, 3) := DX2_add.2.2.2.2.2.2.2.2.2.2.2.2.2.2.2.2.2.2.2.2.2.2.2.2.2.2.2.2.2.2.2.2.2.2.2.2.2.2.2.2.2.2.2.2.2.2.2.2.2.2.2.2.2.2.2.2.2.2.2.2.2.2.2.2.2.2.2.2.2.2.2.2.2.1
theorem dX2_add_151 : decode cX2_add 151 = .ok (.goto (-36), 3) := DX2_add.2.2.2.2.2.2.2.2.2.2.2.2.2.2.2.2.2.2.2.2.2.2.2.2.2.2.2.2.2.2.2.2.2.2.2.2.2.2.2.2.2.2.2.2.2.2.2.2.2.2.2.2.2.2.2.2.2.2.2.2.2.2.2.2.2.2.2.2.2.2.2.2.2.2.1
theorem dX2_add_154 : decode cX2_add 154 = .ok (.aload_n 0, 1) := DX2_add.2.2.2.2.2.2.2.2.2.2.2.2.2.2.2.2.2.2.2.2.2.2.2.2.2.2.2.2.2.2.2.2.2.2.2.2.2.2.2.2.2.2.2.2.2.2.2.2.2.2.2.2.2.2.2.2.2.2.2.2.2.2.2.2.2.2.2.2.2.2.2.2.2.2.2.1
theorem dX2_add_155 : decode cX2_add 155 = .ok (.getfield 7, 3) := DX2_add.2.2.2.2.2.2.2.2.2.2.2.2.2.2.2.2.2.2.2.2.2.2.2.2.2.2.2.2.2.2.2.2.2.2.2.2.2.2.2.2.2.2.2.2.2.2.2.2.2.2.2.2.2.2.2.2.2.2.2.2.2.2.2.2.2.2.2.2.2.2.2.2.2.2.2.2.1
theorem dX2_add_158 : decode cX2_add 158 = .ok (.iload 6, 2) := DX2_add.2.2.2.2.2.2.2.2.2.2.2.2.2.2.2.2.2.2.2.2.2.2.2.2.2.2.2.2.2.2.2.2.2.2.2.2.2.2.2.2.2.2.2.2.2.2.2.2.2.2.2.2.2.2.2.2.2.2.2.2.2.2.2.2.2.2.2.2.2.2.2.2.2.2.2.2.2.1
theorem dX2_add_160 : decode cX2_add 160 = .ok (.iconst 1, 1) := DX2_add.2.2.2.2.2.2.2.2.2.2.2.2.2.2.2.2.2.2.2.2.2.2.2.2.2.2.2.2.2.2.2.2.2.2.2.2.2.2.2.2.2.2.2.2.2.2.2.2.2.2.2.2.2.2.2.2.2.2.2.2.2.2.2.2.2.2.2.2.2.2.2.2.2.2.2.2.2.2.1
theorem dX2_add_161 : decode cX2_add 161 = .ok (.bastore, 1) := DX2_add.2.2.2.2.2.2.2.2.2.2.2.2.2.2.2.2.2.2.2.2.2.2.2.2.2.2.2.2.2.2.2.2.2.2.2.2.2.2.2.2.2.2.2.2.2.2.2.2.2.2.2.2.2.2.2.2.2.2.2.2.2.2.2.2.2.2.2.2.2.2.2.2.2.2.2.2.2.2.2.1
theorem dX2_add_162 : decode cX2_add 162 = .ok (.aload_n 0, 1) := DX2_add.2.2.2.2.2.2.2.2.2.2.2.2.2.2.2.2.2.2.2.2.2.2.2.2.2.2.2.2.2.2.2.2.2.2.2.2.2.2.2.2.2.2.2.2.2.2.2.2.2.2.2.2.2.2.2.2.2.2.2.2.2.2.2.2.2.2.2.2.2.2.2.2.2.2.2.2.2.2.2.2.1
theorem dX2_add_163 : decode cX2_add 163 = .ok (.getfield 13, 3) := DX2_add.2.2.2.2.2.2.2.2.2.2.2.2.2.2.2.2.2.2.2.2.2.2.2.2.2.2.2.2.2.2.2.2.2.2.2.2.2.2.2.2.2.2.2.2.2.2.2.2.2.2.2.2.2.2.2.2.2.2.2.2.2.2.2.2.2.2.2.2.2.2.2.2.2.2.2.2.2.2.2.2.2.1
theorem dX2_add_166 : decode cX2_add 166 = .ok (.iconst 2, 1) := DX2_add.2.2.2.2.2.2.2.2.2.2.2.2.2.2.2.2.2.2.2.2.2.2.2.2.2.2.2.2.2.2.2.2.2.2.2.2.2.2.2.2.2.2.2.2.2.2.2.2.2.2.2.2.2.2.2.2.2.2.2.2.2.2.2.2.2.2.2.2.2.2.2.2.2.2.2.2.2.2.2.2.2.2.1
theorem dX2_add_167 : decode cX2_add 167 = .ok (.iload 6, 2) := DX2_add.2.2.2.2.2.2.2.2.2.2.2.2.2.2.2.2.2.2.2.2.2.2.2.2.2.2.2.2.2.2.2.2.2.2.2.2.2.2.2.2.2.2.2.2.2.2.2.2.2.2.2.2.2.2.2.2.2.2.2.2.2.2.2.2.2.2.2.2.2.2.2.2.2.2.2.2.2.2.2.2.2.2.2.1
theorem dX2_add_169 : decode cX2_add 169 = .ok (.imul, 1) := DX2_add.2.2.2.2.2.2.2.2.2.2.2.2.2.2.2.2.2.2.2.2.2.2.2.2.2.2.2.2.2.2.2.2.2.2.2.2.2.2.2.2.2.2.2.2.2.2.2.2.2.2.2.2.2.2.2.2.2.2.2.2.2.2.2.2.2.2.2.2.2.2.2.2.2.2.2.2.2.2.2.2.2.2.2.2.1
theorem dX2_add_170 : decode cX2_add 170 = .ok (.iload_n 1, 1) := DX2_add.2.2.2.2.2.2.2.2.2.2.2.2.2.2.2.2.2.2.2.2.2.2.2.2.2.2.2.2.2.2.2.2.2.2.2.2.2.2.2.2.2.2.2.2.2.2.2.2.2.2.2.2.2.2.2.2.2.2.2.2.2.2.2.2.2.2.2.2.2.2.2.2.2.2.2.2.2.2.2.2.2.2.2.2.2.1
theorem dX2_add_171 : decode cX2_add 171 = .ok (.iastore, 1) := DX2_add.2.2.2.2.2.2.2.2.2.2.2.2.2.2.2.2.2.2.2.2.2.2.2.2.2.2.2.2.2.2.2.2.2.2.2.2.2.2.2.2.2.2.2.2.2.2.2.2.2.2.2.2.2.2.2.2.2.2.2.2.2.2.2.2.2.2.2.2.2.2.2.2.2.2.2.2.2.2.2.2.2.2.2.2.2.2.1
theorem dX2_add_172 : decode cX2_add 172 = .ok (.aload_n 0, 1) := DX2_add.2.2.2.2.2.2.2.2.2.2.2.2.2.2.2.2.2.2.2.2.2.2.2.2.2.2.2.2.2.2.2.2.2.2.2.2.2.2.2.2.2.2.2.2.2.2.2.2.2.2.2.2.2.2.2.2.2.2.2.2.2.2.2.2.2.2.2.2.2.2.2.2.2.2.2.2.2.2.2.2.2.2.2.2.2.2.2.1
theorem dX2_add_173 : decode cX2_add 173 = .ok (.getfield 17, 3) := DX2_add.2.2.2.2.2.2.2.2.2.2.2.2.2.2.2.2.2.2.2.2.2.2.2.2.2.2.2.2.2.2.2.2.2.2.2.2.2.2.2.2.2.2.2.2.2.2.2.2.2.2.2.2.2.2.2.2.2.2.2.2.2.2.2.2.2.2.2.2.2.2.2.2.2.2.2.2.2.2.2.2.2.2.2.2.2.2.2.2.1
theorem dX2_add_176 : decode cX2_add 176 = .ok (.iconst 2, 1) := DX2_add.2.2.2.2.2.2.2.2.2.2.2.2.2.2.2.2.2.2.2.2.2.2.2.2.2.2.2.2.2.2.2.2.2.2.2.2.2.2.2.2.2.2.2.2.2.2.2.2.2.2.2.2.2.2.2.2.2.2.2.2.2.2.2.2.2.2.2.2.2.2.2.2.2.2.2.2.2.2.2.2.2.2.2.2.2.2.2.2.2.1
theorem dX2_add_177 : decode cX2_add 177 = .ok (.iload 6, 2) := DX2_add.2.2.2.2.2.2.2.2.2.2.2.2.2.2.2.2.2.2.2.2.2.2.2.2.2.2.2.2.2.2.2.2.2.2.2.2.2.2.2.2.2.2.2.2.2.2.2.2.2.2.2.2.2.2.2.2.2.2.2.2.2.2.2.2.2.2.2.2.2.2.2.2.2.2.2.2.2.2.2.2.2.2.2.2.2.2.2.2.2.2.1
theorem dX2_add_179 : decode cX2_add 179 = .ok (.imul, 1) := DX2_add.2.2.2.2.2.2.2.2.2.2.2.2.2.2.2.2.2.2.2.2.2.2.2.2.2.2.2.2.2.2.2.2.2.2.2.2.2.2.2.2.2.2.2.2.2.2.2.2.2.2.2.2.2.2.2.2.2.2.2.2.2.2.2.2.2.2.2.2.2.2.2.2.2.2.2.2.2.2.2.2.2.2.2.2.2.2.2.2.2.2.2.1
theorem dX2_add_180 : decode cX2_add 180 = .ok (.iload_n 2, 1) := DX2_add.2.2.2.2.2.2.2.2.2.2.2.2.2.2.2.2.2.2.2.2.2.2.2.2.2.2.2.2.2.2.2.2.2.2.2.2.2.2.2.2.2.2.2.2.2.2.2.2.2.2.2.2.2.2.2.2.2.2.2.2.2.2.2.2.2.2.2.2.2.2.2.2.2.2.2.2.2.2.2.2.2.2.2.2.2.2.2.2.2.2.2.2.1
theorem dX2_add_181 : decode cX2_add 181 = .ok (.iastore, 1) := DX2_add.2.2.2.2.2.2.2.2.2.2.2.2.2.2.2.2.2.2.2.2.2.2.2.2.2.2.2.2.2.2.2.2.2.2.2.2.2.2.2.2.2.2.2.2.2.2.2.2.2.2.2.2.2.2.2.2.2.2.2.2.2.2.2.2.2.2.2.2.2.2.2.2.2.2.2.2.2.2.2.2.2.2.2.2.2.2.2.2.2.2.2.2.2.1
theorem dX2_add_182 : decode cX2_add 182 = .ok (.aload_n 0, 1) := DX2_add.2.2.2.2.2.2.2.2.2.2.2.2.2.2.2.2.2.2.2.2.2.2.2.2.2.2.2.2.2.2.2.2.2.2.2.2.2.2.2.2.2.2.2.2.2.2.2.2.2.2.2.2.2.2.2.2.2.2.2.2.2.2.2.2.2.2.2.2.2.2.2.2.2.2.2.2.2.2.2.2.2.2.2.2.2.2.2.2.2.2.2.2.2.2.1
theorem dX2_add_183 : decode cX2_add 183 = .ok (.getfield 13, 3) := DX2_add.2.2.2.2.2.2.2.2.2.2.2.2.2.2.2.2.2.2.2.2.2.2.2.2.2.2.2.2.2.2.2.2.2.2.2.2.2.2.2.2.2.2.2.2.2.2.2.2.2.2.2.2.2.2.2.2.2.2.2.2.2.2.2.2.2.2.2.2.2.2.2.2.2.2.2.2.2.2.2.2.2.2.2.2.2.2.2.2.2.2.2.2.2.2.2.1
theorem dX2_add_186 : decode cX2_add 186 = .ok (.iconst 2, 1) := DX2_add.2.2.2.2.2.2.2.2.2.2.2.2.2.2.2.2.2.2.2.2.2.2.2.2.2.2.2.2.2.2.2.2.2.2.2.2.2.2.2.2.2.2.2.2.2.2.2.2.2.2.2.2.2.2.2.2.2.2.2.2.2.2.2.2.2.2.2.2.2.2.2.2.2.2.2.2.2.2.2.2.2.2.2.2.2.2.2.2.2.2.2.2.2.2.2.2.1
theorem dX2_add_187 : decode cX2_add 187 = .ok (.iload 6, 2) := DX2_add.2.2.2.2.2.2.2.2.2.2.2.2.2.2.2.2.2.2.2.2.2.2.2.2.2.2.2.2.2.2.2.2.2.2.2.2.2.2.2.2.2.2.2.2.2.2.2.2.2.2.2.2.2.2.2.2.2.2.2.2.2.2.2.2.2.2.2.2.2.2.2.2.2.2.2.2.2.2.2.2.2.2.2.2.2.2.2.2.2.2.2.2.2.2.2.2.2.1
theorem dX2_add_189 : decode cX2_add 189 = .ok (.imul, 1) := DX2_add.2.2.2.2.2.2.2.2.2.2.2.2.2.2.2.2.2.2.2.2.2.2.2.2.2.2.2.2.2.2.2.2.2.2.2.2.2.2.2.2.2.2.2.2.2.2.2.2.2.2.2.2.2.2.2.2.2.2.2.2.2.2.2.2.2.2.2.2.2.2.2.2.2.2.2.2.2.2.2.2.2.2.2.2.2.2.2.2.2.2.2.2.2.2.2.2.2.2.1
theorem dX2_add_190 : decode cX2_add 190 = .ok (.iconst 1, 1) := DX2_add.2.2.2.2.2.2.2.2.2.2.2.2.2.2.2.2.2.2.2.2.2.2.2.2.2.2.2.2.2.2.2.2.2.2.2.2.2.2.2.2.2.2.2.2.2.2.2.2.2.2.2.2.2.2.2.2.2.2.2.2.2.2.2.2.2.2.2.2.2.2.2.2.2.2.2.2.2.2.2.2.2.2.2.2.2.2.2.2.2.2.2.2.2.2.2.2.2.2.2.1
theorem dX2_add_191 : decode cX2_add 191 = .ok (.iadd, 1) := DX2_add.2.2.2.2.2.2.2.2.2.2.2.2.2.2.2.2.2.2.2.2.2.2.2.2.2.2.2.2.2.2.2.2.2.2.2.2.2.2.2.2.2.2.2.2.2.2.2.2.2.2.2.2.2.2.2.2.2.2.2.2.2.2.2.2.2.2.2.2.2.2.2.2.2.2.2.2.2.2.2.2.2.2.2.2.2.2.2.2.2.2.2.2.2.2.2.2.2.2.2.2.1
theorem dX2_add_192 : decode cX2_add 192 = .ok (.iload_n 3, 1) := DX2_add.2.2.2.2.2.2.2.2.2.2.2.2.2.2.2.2.2.2.2.2.2.2.2.2.2.2.2.2.2.2.2.2.2.2.2.2.2.2.2.2.2.2.2.2.2.2.2.2.2.2.2.2.2.2.2.2.2.2.2.2.2.2.2.2.2.2.2.2.2.2.2.2.2.2.2.2.2.2.2.2.2.2.2.2.2.2.2.2.2.2.2.2.2.2.2.2.2.2.2.2.2.1
theorem dX2_add_193 : decode cX2_add 193 = .ok (.iastore, 1) := DX2_add.2.2.2.2.2.2.2.2.2.2.2.2.2.2.2.2.2.2.2.2.2.2.2.2.2.2.2.2.2.2.2.2.2.2.2.2.2.2.2.2.2.2.2.2.2.2.2.2.2.2.2.2.2.2.2.2.2.2.2.2.2.2.2.2.2.2.2.2.2.2.2.2.2.2.2.2.2.2.2.2.2.2.2.2.2.2.2.2.2.2.2.2.2.2.2.2.2.2.2.2.2.2.1
theorem dX2_add_194 : decode cX2_add 194 = .ok (.aload_n 0, 1) := DX2_add.2.2.2.2.2.2.2.2.2.2.2.2.2.2.2.2.2.2.2.2.2.2.2.2.2.2.2.2.2.2.2.2.2.2.2.2.2.2.2.2.2.2.2.2.2.2.2.2.2.2.2.2.2.2.2.2.2.2.2.2.2.2.2.2.2.2.2.2.2.2.2.2.2.2.2.2.2.2.2.2.2.2.2.2.2.2.2.2.2.2.2.2.2.2.2.2.2.2.2.2.2.2.2.1
theorem dX2_add_195 : decode cX2_add 195 = .ok (.getfield 17, 3) := DX2_add.2.2.2.2.2.2.2.2.2.2.2.2.2.2.2.2.2.2.2.2.2.2.2.2.2.2.2.2.2.2.2.2.2.2.2.2.2.2.2.2.2.2.2.2.2.2.2.2.2.2.2.2.2.2.2.2.2.2.2.2.2.2.2.2.2.2.2.2.2.2.2.2.2.2.2.2.2.2.2.2.2.2.2.2.2.2.2.2.2.2.2.2.2.2.2.2.2.2.2.2.2.2.2.2.1
theorem dX2_add_198 : decode cX2_add 198 = .ok (.iconst 2, 1) := DX2_add.2.2.2.2.2.2.2.2.2.2.2.2.2.2.2.2.2.2.2.2.2.2.2.2.2.2.2.2.2.2.2.2.2.2.2.2.2.2.2.2.2.2.2.2.2.2.2.2.2.2.2.2.2.2.2.2.2.2.2.2.2.2.2.2.2.2.2.2.2.2.2.2.2.2.2.2.2.2.2.2.2.2.2.2.2.2.2.2.2.2.2.2.2.2.2.2.2.2.2.2.2.2.2.2.2.1
theorem dX2_add_199 : decode cX2_add 199 = .ok (.iload 6, 2) := DX2_add.2.2.2.2.2.2.2.2.2.2.2.2.2.2.2.2.2.2.2.2.2.2.2.2.2.2.2.2.2.2.2.2.2.2.2.2.2.2.2.2.2.2.2.2.2.2.2.2.2.2.2.2.2.2.2.2.2.2.2.2.2.2.2.2.2.2.2.2.2.2.2.2.2.2.2.2.2.2.2.2.2.2.2.2.2.2.2.2.2.2.2.2.2.2.2.2.2.2.2.2.2.2.2.2.2.2.1
theorem dX2_add_201 : decode cX2_add 201 = .ok (.imul, 1) := DX2_add.2.2.2.2.2.2.2.2.2.2.2.2.2.2.2.2.2.2.2.2.2.2.2.2.2.2.2.2.2.2.2.2.2.2.2.2.2.2.2.2.2.2.2.2.2.2.2.2.2.2.2.2.2.2.2.2.2.2.2.2.2.2.2.2.2.2.2.2.2.2.2.2.2.2.2.2.2.2.2.2.2.2.2.2.2.2.2.2.2.2.2.2.2.2.2.2.2.2.2.2.2.2.2.2.2.2.2.1
theorem dX2_add_202 : decode cX2_add 202 = .ok (.iconst 1, 1) := DX2_add.2.2.2.2.2.2.2.2.2.2.2.2.2.2.2.2.2.2.2.2.2.2.2.2.2.2.2.2.2.2.2.2.2.2.2.2.2.2.2.2.2.2.2.2.2.2.2.2.2.2.2.2.2.2.2.2.2.2.2.2.2.2.2.2.2.2.2.2.2.2.2.2.2.2.2.2.2.2.2.2.2.2.2.2.2.2.2.2.2.2.2.2.2.2.2.2.2.2.2.2.2.2.2.2.2.2.2.2.1
theorem dX2_add_203 : decode cX2_add 203 = .ok (.iadd, 1) := DX2_add.2.2.2.2.2.2.2.2.2.2.2.2.2.2.2.2.2.2.2.2.2.2.2.2.2.2.2.2.2.2.2.2.2.2.2.2.2.2.2.2.2.2.2.2.2.2.2.2.2.2.2.2.2.2.2.2.2.2.2.2.2.2.2.2.2.2.2.2.2.2.2.2.2.2.2.2.2.2.2.2.2.2.2.2.2.2.2.2.2.2.2.2.2.2.2.2.2.2.2.2.2.2.2.2.2.2.2.2.2
theorem dX2_add_204 : decode cX2_add 204 = .ok (.iload 4, 2) := DX2_add_2.1
theorem dX2_add_206 : decode cX2_add 206 = .ok (.iastore, 1) := DX2_add_2.2.1
theorem dX2_add_207 : decode cX2_add 207 = .ok (.aload_n 0, 1) := DX2_add_2.2.2.1
theorem dX2_add_208 : decode cX2_add 208 = .ok (.iconst 0, 1) := DX2_add_2.2.2.2.1
theorem dX2_add_209 : decode cX2_add 209 = .ok (.putfield 76, 3) := DX2_add_2.2.2.2.2.1
theorem dX2_add_212 : decode cX2_add 212 = .ok (.iload 6, 2) := DX2_add_2.2.2.2.2.2.1
theorem dX2_add_214 : decode cX2_add 214 = .ok (.ireturn, 1) := DX2_add_2.2.2.2.2.2.2
theorem dX2_isIn_0 : decode cX2_isIn 0 = .ok (.iload_n 0, 1) := DX2_isIn.1
theorem dX2_isIn_1 : decode cX2_isIn 1 = .ok (.sipush (-16000), 3) := DX2_isIn.2.1
theorem dX2_isIn_4 : decode cX2_isIn 4 = .ok (.if_icmp .lt 14, 3) := DX2_isIn.2.2.1
theorem dX2_isIn_7 : decode cX2_isIn 7 = .ok (.iload_n 0, 1) := DX2_isIn.2.2.2.1
theorem dX2_isIn_8 : decode cX2_isIn 8 = .ok (.sipush 16000, 3) := DX2_isIn.2.2.2.2.1
theorem dX2_isIn_11 : decode cX2_isIn 11 = .ok (.if_icmp .gt 7, 3) := DX2_isIn.2.2.2.2.2.1
theorem dX2_isIn_14 : decode cX2_isIn 14 = .ok (.iconst 1, 1) := DX2_isIn.2.2.2.2.2.2.1
theorem dX2_isIn_15 : decode cX2_isIn 15 = .ok (.goto 4, 3) := DX2_isIn.2.2.2.2.2.2.2.1
theorem dX2_isIn_18 : decode cX2_isIn 18 = .ok (.iconst 0, 1) := DX2_isIn.2.2.2.2.2.2.2.2.1
theorem dX2_isIn_19 : decode cX2_isIn 19 = .ok (.ireturn, 1) := DX2_isIn.2.2.2.2.2.2.2.2.2
theorem dX2_refused_0 : decode cX2_refused 0 = .ok (.aload_n 0, 1) := DX2_refused.1
theorem dX2_refused_1 : decode cX2_refused 1 = .ok (.iload_n 1, 1) := DX2_refused.2.1
theorem dX2_refused_2 : decode cX2_refused 2 = .ok (.putfield 45, 3) := DX2_refused.2.2.1
theorem dX2_refused_5 : decode cX2_refused 5 = .ok (.iload_n 1, 1) := DX2_refused.2.2.2.1
theorem dX2_refused_6 : decode cX2_refused 6 = .ok (.ifCond .le 7, 3) := DX2_refused.2.2.2.2.1
theorem dX2_refused_9 : decode cX2_refused 9 = .ok (.iconst 1, 1) := DX2_refused.2.2.2.2.2.1
theorem dX2_refused_10 : decode cX2_refused 10 = .ok (.goto 4, 3) := DX2_refused.2.2.2.2.2.2.1
theorem dX2_refused_13 : decode cX2_refused 13 = .ok (.iconst 0, 1) := DX2_refused.2.2.2.2.2.2.2.1
theorem dX2_refused_14 : decode cX2_refused 14 = .ok (.ireturn, 1) := DX2_refused.2.2.2.2.2.2.2.2
theorem dX2_meets_0 : decode cX2_meets 0 = .ok (.aload_n 0, 1) := DX2_meets.1
theorem dX2_meets_1 : decode cX2_meets 1 = .ok (.getfield 13, 3) := DX2_meets.2.1
theorem dX2_meets_4 : decode cX2_meets 4 = .ok (.iconst 2, 1) := DX2_meets.2.2.1
theorem dX2_meets_5 : decode cX2_meets 5 = .ok (.iload_n 1, 1) := DX2_meets.2.2.2.1
theorem dX2_meets_6 : decode cX2_meets 6 = .ok (.imul, 1) := DX2_meets.2.2.2.2.1
theorem dX2_meets_7 : decode cX2_meets 7 = .ok (.iaload, 1) := DX2_meets.2.2.2.2.2.1
theorem dX2_meets_8 : decode cX2_meets 8 = .ok (.istore 6, 2) := DX2_meets.2.2.2.2.2.2.1
theorem dX2_meets_10 : decode cX2_meets 10 = .ok (.aload_n 0, 1) := DX2_meets.2.2.2.2.2.2.2.1
theorem dX2_meets_11 : decode cX2_meets 11 = .ok (.getfield 17, 3) := DX2_meets.2.2.2.2.2.2.2.2.1
theorem dX2_meets_14 : decode cX2_meets 14 = .ok (.iconst 2, 1) := DX2_meets.2.2.2.2.2.2.2.2.2.1
theorem dX2_meets_15 : decode cX2_meets 15 = .ok (.iload_n 1, 1) := DX2_meets.2.2.2.2.2.2.2.2.2.2.1
theorem dX2_meets_16 : decode cX2_meets 16 = .ok (.imul, 1) := DX2_meets.2.2.2.2.2.2.2.2.2.2.2.1
theorem dX2_meets_17 : decode cX2_meets 17 = .ok (.iaload, 1) := DX2_meets.2.2.2.2.2.2.2.2.2.2.2.2.1
theorem dX2_meets_18 : decode cX2_meets 18 = .ok (.istore 7, 2) := DX2_meets.2.2.2.2.2.2.2.2.2.2.2.2.2.1
theorem dX2_meets_20 : decode cX2_meets 20 = .ok (.aload_n 0, 1) := DX2_meets.2.2.2.2.2.2.2.2.2.2.2.2.2.2.1
theorem dX2_meets_21 : decode cX2_meets 21 = .ok (.getfield 13, 3) := DX2_meets.2.2.2.2.2.2.2.2.2.2.2.2.2.2.2.1
theorem dX2_meets_24 : decode cX2_meets 24 = .ok (.iconst 2, 1) := DX2_meets.2.2.2.2.2.2.2.2.2.2.2.2.2.2.2.2.1
theorem dX2_meets_25 : decode cX2_meets 25 = .ok (.iload_n 1, 1) := DX2_meets.2.2.2.2.2.2.2.2.2.2.2.2.2.2.2.2.2.1
theorem dX2_meets_26 : decode cX2_meets 26 = .ok (.imul, 1) := DX2_meets.2.2.2.2.2.2.2.2.2.2.2.2.2.2.2.2.2.2.1
theorem dX2_meets_27 : decode cX2_meets 27 = .ok (.iconst 1, 1) := DX2_meets.2.2.2.2.2.2.2.2.2.2.2.2.2.2.2.2.2.2.2.1
theorem dX2_meets_28 : decode cX2_meets 28 = .ok (.iadd, 1) := DX2_meets.2.2.2.2.2.2.2.2.2.2.2.2.2.2.2.2.2.2.2.2.1
theorem dX2_meets_29 : decode cX2_meets 29 = .ok (.iaload, 1) := DX2_meets.2.2.2.2.2.2.2.2.2.2.2.2.2.2.2.2.2.2.2.2.2.1
theorem dX2_meets_30 : decode cX2_meets 30 = .ok (.istore 8, 2) := DX2_meets.2.2.2.2.2.2.2.2.2.2.2.2.2.2.2.2.2.2.2.2.2.2.1
theorem dX2_meets_32 : decode cX2_meets 32 = .ok (.aload_n 0, 1) := DX2_meets.2.2.2.2.2.2.2.2.2.2.2.2.2.2.2.2.2.2.2.2.2.2.2.1
theorem dX2_meets_33 : decode cX2_meets 33 = .ok (.getfield 17, 3) := DX2_meets.2.2.2.2.2.2.2.2.2.2.2.2.2.2.2.2.2.2.2.2.2.2.2.2.1
theorem dX2_meets_36 : decode cX2_meets 36 = .ok (.iconst 2, 1) := DX2_meets.2.2.2.2.2.2.2.2.2.2.2.2.2.2.2.2.2.2.2.2.2.2.2.2.2.1
theorem dX2_meets_37 : decode cX2_meets 37 = .ok (.iload_n 1, 1) := DX2_meets.2.2.2.2.2.2.2.2.2.2.2.2.2.2.2.2.2.2.2.2.2.2.2.2.2.2.1
theorem dX2_meets_38 : decode cX2_meets 38 = .ok (.imul, 1) := DX2_meets.2.2.2.2.2.2.2.2.2.2.2.2.2.2.2.2.2.2.2.2.2.2.2.2.2.2.2.1
theorem dX2_meets_39 : decode cX2_meets 39 = .ok (.iconst 1, 1) := DX2_meets.2.2.2.2.2.2.2.2.2.2.2.2.2.2.2.2.2.2.2.2.2.2.2.2.2.2.2.2.1
theorem dX2_meets_40 : decode cX2_meets 40 = .ok (.iadd, 1) := DX2_meets.2.2.2.2.2.2.2.2.2.2.2.2.2.2.2.2.2.2.2.2.2.2.2.2.2.2.2.2.2.1
theorem dX2_meets_41 : decode cX2_meets 41 = .ok (.iaload, 1) := DX2_meets.2.2.2.2.2.2.2.2.2.2.2.2.2.2.2.2.2.2.2.2.2.2.2.2.2.2.2.2.2.2.1
theorem dX2_meets_42 : decode cX2_meets 42 = .ok (.istore 9, 2) := DX2_meets.2.2.2.2.2.2.2.2.2.2.2.2.2.2.2.2.2.2.2.2.2.2.2.2.2.2.2.2.2.2.2.1
theorem dX2_meets_44 : decode cX2_meets 44 = .ok (.aload_n 0, 1) := DX2_meets.2.2.2.2.2.2.2.2.2.2.2.2.2.2.2.2.2.2.2.2.2.2.2.2.2.2.2.2.2.2.2.2.1
theorem dX2_meets_45 : decode cX2_meets 45 = .ok (.iload_n 1, 1) := DX2_meets.2.2.2.2.2.2.2.2.2.2.2.2.2.2.2.2.2.2.2.2.2.2.2.2.2.2.2.2.2.2.2.2.2.1
theorem dX2_meets_46 : decode cX2_meets 46 = .ok (.iload_n 2, 1) := DX2_meets.2.2.2.2.2.2.2.2.2.2.2.2.2.2.2.2.2.2.2.2.2.2.2.2.2.2.2.2.2.2.2.2.2.2.1
theorem dX2_meets_47 : decode cX2_meets 47 = .ok (.iload_n 3, 1) := DX2_meets.2.2.2.2.2.2.2.2.2.2.2.2.2.2.2.2.2.2.2.2.2.2.2.2.2.2.2.2.2.2.2.2.2.2.2.1
theorem dX2_meets_48 : decode cX2_meets 48 = .ok (.invokevirtual 57, 3) := DX2_meets.2.2.2.2.2.2.2.2.2.2.2.2.2.2.2.2.2.2.2.2.2.2.2.2.2.2.2.2.2.2.2.2.2.2.2.2.1
theorem dX2_meets_51 : decode cX2_meets 51 = .ok (.ifCond .eq 17, 3) := DX2_meets.2.2.2.2.2.2.2.2.2.2.2.2.2.2.2.2.2.2.2.2.2.2.2.2.2.2.2.2.2.2.2.2.2.2.2.2.2.1
theorem dX2_meets_54 : decode cX2_meets 54 = .ok (.aload_n 0, 1) := DX2_meets.2.2.2.2.2.2.2.2.2.2.2.2.2.2.2.2.2.2.2.2.2.2.2.2.2.2.2.2.2.2.2.2.2.2.2.2.2.2.1
theorem dX2_meets_55 : decode cX2_meets 55 = .ok (.iload_n 1, 1) := DX2_meets.2.2.2.2.2.2.2.2.2.2.2.2.2.2.2.2.2.2.2.2.2.2.2.2.2.2.2.2.2.2.2.2.2.2.2.2.2.2.2.1
theorem dX2_meets_56 : decode cX2_meets 56 = .ok (.iload 4, 2) := DX2_meets.2.2.2.2.2.2.2.2.2.2.2.2.2.2.2.2.2.2.2.2.2.2.2.2.2.2.2.2.2.2.2.2.2.2.2.2.2.2.2.2.1
theorem dX2_meets_58 : decode cX2_meets 58 = .ok (.iload 5, 2) := DX2_meets.2.2.2.2.2.2.2.2.2.2.2.2.2.2.2.2.2.2.2.2.2.2.2.2.2.2.2.2.2.2.2.2.2.2.2.2.2.2.2.2.2.1
theorem dX2_meets_60 : decode cX2_meets 60 = .ok (.invokevirtual 57, 3) := DX2_meets.2.2.2.2.2.2.2.2.2.2.2.2.2.2.2.2.2.2.2.2.2.2.2.2.2.2.2.2.2.2.2.2.2.2.2.2.2.2.2.2.2.2.1
theorem dX2_meets_63 : decode cX2_meets 63 = .ok (.ifCond .eq 5, 3) := DX2_meets.2.2.2.2.2.2.2.2.2.2.2.2.2.2.2.2.2.2.2.2.2.2.2.2.2.2.2.2.2.2.2.2.2.2.2.2.2.2.2.2.2.2.2.1
theorem dX2_meets_66 : decode cX2_meets 66 = .ok (.iconst 1, 1) := DX2_meets.2.2.2.2.2.2.2.2.2.2.2.2.2.2.2.2.2.2.2.2.2.2.2.2.2.2.2.2.2.2.2.2.2.2.2.2.2.2.2.2.2.2.2.2.1
theorem dX2_meets_67 : decode cX2_meets 67 = .ok (.ireturn, 1) := DX2_meets.2.2.2.2.2.2.2.2.2.2.2.2.2.2.2.2.2.2.2.2.2.2.2.2.2.2.2.2.2.2.2.2.2.2.2.2.2.2.2.2.2.2.2.2.2.1
theorem dX2_meets_68 : decode cX2_meets 68 = .ok (.iload_n 2, 1) := DX2_meets.2.2.2.2.2.2.2.2.2.2.2.2.2.2.2.2.2.2.2.2.2.2.2.2.2.2.2.2.2.2.2.2.2.2.2.2.2.2.2.2.2.2.2.2.2.2.1
theorem dX2_meets_69 : decode cX2_meets 69 = .ok (.iload_n 3, 1) := DX2_meets.2.2.2.2.2.2.2.2.2.2.2.2.2.2.2.2.2.2.2.2.2.2.2.2.2.2.2.2.2.2.2.2.2.2.2.2.2.2.2.2.2.2.2.2.2.2.2.1
theorem dX2_meets_70 : decode cX2_meets 70 = .ok (.iload 4, 2) := DX2_meets.2.2.2.2.2.2.2.2.2.2.2.2.2.2.2.2.2.2.2.2.2.2.2.2.2.2.2.2.2.2.2.2.2.2.2.2.2.2.2.2.2.2.2.2.2.2.2.2.1
theorem dX2_meets_72 : decode cX2_meets 72 = .ok (.iload 5, 2) := DX2_meets.2.2.2.2.2.2.2.2.2.2.2.2.2.2.2.2.2.2.2.2.2.2.2.2.2.2.2.2.2.2.2.2.2.2.2.2.2.2.2.2.2.2.2.2.2.2.2.2.2.1
theorem dX2_meets_74 : decode cX2_meets 74 = .ok (.iload 6, 2) := DX2_meets.2.2.2.2.2.2.2.2.2.2.2.2.2.2.2.2.2.2.2.2.2.2.2.2.2.2.2.2.2.2.2.2.2.2.2.2.2.2.2.2.2.2.2.2.2.2.2.2.2.2.1
theorem dX2_meets_76 : decode cX2_meets 76 = .ok (.iload 7, 2) := DX2_meets.2.2.2.2.2.2.2.2.2.2.2.2.2.2.2.2.2.2.2.2.2.2.2.2.2.2.2.2.2.2.2.2.2.2.2.2.2.2.2.2.2.2.2.2.2.2.2.2.2.2.2.1
theorem dX2_meets_78 : decode cX2_meets 78 = .ok (.invokestatic 61, 3) := DX2_meets.2.2.2.2.2.2.2.2.2.2.2.2.2.2.2.2.2.2.2.2.2.2.2.2.2.2.2.2.2.2.2.2.2.2.2.2.2.2.2.2.2.2.2.2.2.2.2.2.2.2.2.2.1
theorem dX2_meets_81 : decode cX2_meets 81 = .ok (.ifCond .eq 31, 3) := DX2_meets.2.2.2.2.2.2.2.2.2.2.2.2.2.2.2.2.2.2.2.2.2.2.2.2.2.2.2.2.2.2.2.2.2.2.2.2.2.2.2.2.2.2.2.2.2.2.2.2.2.2.2.2.2.1
theorem dX2_meets_84 : decode cX2_meets 84 = .ok (.iload 6, 2) := DX2_meets.2.2.2.2.2.2.2.2.2.2.2.2.2.2.2.2.2.2.2.2.2.2.2.2.2.2.2.2.2.2.2.2.2.2.2.2.2.2.2.2.2.2.2.2.2.2.2.2.2.2.2.2.2.2.1
theorem dX2_meets_86 : decode cX2_meets 86 = .ok (.iload_n 2, 1) := DX2_meets.2.2.2.2.2.2.2.2.2.2.2.2.2.2.2.2.2.2.2.2.2.2.2.2.2.2.2.2.2.2.2.2.2.2.2.2.2.2.2.2.2.2.2.2.2.2.2.2.2.2.2.2.2.2.2.1
theorem dX2_meets_87 : decode cX2_meets 87 = .ok (.if_icmp .ne 9, 3) := DX2_meets.2.2.2.2.2.2.2.2.2.2.2.2.2.2.2.2.2.2.2.2.2.2.2.2.2.2.2.2.2.2.2.2.2.2.2.2.2.2.2.2.2.2.2.2.2.2.2.2.2.2.2.2.2.2.2.2.1
theorem dX2_meets_90 : decode cX2_meets 90 = .ok (.iload 7, 2) := DX2_meets.2.2.2.2.2.2.2.2.2.2.2.2.2.2.2.2.2.2.2.2.2.2.2.2.2.2.2.2.2.2.2.2.2.2.2.2.2.2.2.2.2.2.2.2.2.2.2.2.2.2.2.2.2.2.2.2.2.1
theorem dX2_meets_92 : decode cX2_meets 92 = .ok (.iload_n 3, 1) := DX2_meets.2.2.2.2.2.2.2.2.2.2.2.2.2.2.2.2.2.2.2.2.2.2.2.2.2.2.2.2.2.2.2.2.2.2.2.2.2.2.2.2.2.2.2.2.2.2.2.2.2.2.2.2.2.2.2.2.2.2.1
theorem dX2_meets_93 : decode cX2_meets 93 = .ok (.if_icmp .eq 19, 3) := DX2_meets.2.2.2.2.2.2.2.2.2.2.2.2.2.2.2.2.2.2.2.2.2.2.2.2.2.2.2.2.2.2.2.2.2.2.2.2.2.2.2.2.2.2.2.2.2.2.2.2.2.2.2.2.2.2.2.2.2.2.2.1
theorem dX2_meets_96 : decode cX2_meets 96 = .ok (.iload 6, 2) := DX2_meets.2.2.2.2.2.2.2.2.2.2.2.2.2.2.2.2.2.2.2.2.2.2.2.2.2.2.2.2.2.2.2.2.2.2.2.2.2.2.2.2.2.2.2.2.2.2.2.2.2.2.2.2.2.2.2.2.2.2.2.2.1
theorem dX2_meets_98 : decode cX2_meets 98 = .ok (.iload 4, 2) := DX2_meets.2.2.2.2.2.2.2.2.2.2.2.2.2.2.2.2.2.2.2.2.2.2.2.2.2.2.2.2.2.2.2.2.2.2.2.2.2.2.2.2.2.2.2.2.2.2.2.2.2.2.2.2.2.2.2.2.2.2.2.2.2.1
theorem dX2_meets_100 : decode cX2_meets 100 = .ok (.if_icmp .ne 10, 3) := DX2_meets.2.2.2.2.2.2.2.2.2.2.2.2.2.2.2.2.2.2.2.2.2.2.2.2.2.2.2.2.2.2.2.2.2.2.2.2.2.2.2.2.2.2.2.2.2.2.2.2.2.2.2.2.2.2.2.2.2.2.2.2.2.2.1
theorem dX2_meets_103 : decode cX2_meets 103 = .ok (.iload 7, 2) := DX2_meets.2.2.2.2.2.2.2.2.2.2.2.2.2.2.2.2.2.2.2.2.2.2.2.2.2.2.2.2.2.2.2.2.2.2.2.2.2.2.2.2.2.2.2.2.2.2.2.2.2.2.2.2.2.2.2.2.2.2.2.2.2.2.2.1
theorem dX2_meets_105 : decode cX2_meets 105 = .ok (.iload 5, 2) := DX2_meets.2.2.2.2.2.2.2.2.2.2.2.2.2.2.2.2.2.2.2.2.2.2.2.2.2.2.2.2.2.2.2.2.2.2.2.2.2.2.2.2.2.2.2.2.2.2.2.2.2.2.2.2.2.2.2.2.2.2.2.2.2.2.2.2.1
theorem dX2_meets_107 : decode cX2_meets 107 = .ok (.if_icmp .eq 5, 3) := DX2_meets.2.2.2.2.2.2.2.2.2.2.2.2.2.2.2.2.2.2.2.2.2.2.2.2.2.2.2.2.2.2.2.2.2.2.2.2.2.2.2.2.2.2.2.2.2.2.2.2.2.2.2.2.2.2.2.2.2.2.2.2.2.2.2.2.2.1
theorem dX2_meets_110 : decode cX2_meets 110 = .ok (.iconst 1, 1) := DX2_meets.2.2.2.2.2.2.2.2.2.2.2.2.2.2.2.2.2.2.2.2.2.2.2.2.2.2.2.2.2.2.2.2.2.2.2.2.2.2.2.2.2.2.2.2.2.2.2.2.2.2.2.2.2.2.2.2.2.2.2.2.2.2.2.2.2.2.1
theorem dX2_meets_111 : decode cX2_meets 111 = .ok (.ireturn, 1) := DX2_meets.2.2.2.2.2.2.2.2.2.2.2.2.2.2.2.2.2.2.2.2.2.2.2.2.2.2.2.2.2.2.2.2.2.2.2.2.2.2.2.2.2.2.2.2.2.2.2.2.2.2.2.2.2.2.2.2.2.2.2.2.2.2.2.2.2.2.2.1
theorem dX2_meets_112 : decode cX2_meets 112 = .ok (.iload_n 2, 1) := DX2_meets.2.2.2.2.2.2.2.2.2.2.2.2.2.2.2.2.2.2.2.2.2.2.2.2.2.2.2.2.2.2.2.2.2.2.2.2.2.2.2.2.2.2.2.2.2.2.2.2.2.2.2.2.2.2.2.2.2.2.2.2.2.2.2.2.2.2.2.2.1
theorem dX2_meets_113 : decode cX2_meets 113 = .ok (.iload_n 3, 1) := DX2_meets.2.2.2.2.2.2.2.2.2.2.2.2.2.2.2.2.2.2.2.2.2.2.2.2.2.2.2.2.2.2.2.2.2.2.2.2.2.2.2.2.2.2.2.2.2.2.2.2.2.2.2.2.2.2.2.2.2.2.2.2.2.2.2.2.2.2.2.2.2.1
theorem dX2_meets_114 : decode cX2_meets 114 = .ok (.iload 4, 2) := DX2_meets.2.2.2.2.2.2.2.2.2.2.2.2.2.2.2.2.2.2.2.2.2.2.2.2.2.2.2.2.2.2.2.2.2.2.2.2.2.2.2.2.2.2.2.2.2.2.2.2.2.2.2.2.2.2.2.2.2.2.2.2.2.2.2.2.2.2.2.2.2.2.1
theorem dX2_meets_116 : decode cX2_meets 116 = .ok (.iload 5, 2) := DX2_meets.2.2.2.2.2.2.2.2.2.2.2.2.2.2.2.2.2.2.2.2.2.2.2.2.2.2.2.2.2.2.2.2.2.2.2.2.2.2.2.2.2.2.2.2.2.2.2.2.2.2.2.2.2.2.2.2.2.2.2.2.2.2.2.2.2.2.2.2.2.2.2.1
theorem dX2_meets_118 : decode cX2_meets 118 = .ok (.iload 8, 2) := DX2_meets.2.2.2.2.2.2.2.2.2.2.2.2.2.2.2.2.2.2.2.2.2.2.2.2.2.2.2.2.2.2.2.2.2.2.2.2.2.2.2.2.2.2.2.2.2.2.2.2.2.2.2.2.2.2.2.2.2.2.2.2.2.2.2.2.2.2.2.2.2.2.2.2.1
theorem dX2_meets_120 : decode cX2_meets 120 = .ok (.iload 9, 2) := DX2_meets.2.2.2.2.2.2.2.2.2.2.2.2.2.2.2.2.2.2.2.2.2.2.2.2.2.2.2.2.2.2.2.2.2.2.2.2.2.2.2.2.2.2.2.2.2.2.2.2.2.2.2.2.2.2.2.2.2.2.2.2.2.2.2.2.2.2.2.2.2.2.2.2.2.1
theorem dX2_meets_122 : decode cX2_meets 122 = .ok (.invokestatic 61, 3) := DX2_meets.2.2.2.2.2.2.2.2.2.2.2.2.2.2.2.2.2.2.2.2.2.2.2.2.2.2.2.2.2.2.2.2.2.2.2.2.2.2.2.2.2.2.2.2.2.2.2.2.2.2.2.2.2.2.2.2.2.2.2.2.2.2.2.2.2.2.2.2.2.2.2.2.2.2.1
theorem dX2_meets_125 : decode cX2_meets 125 = .ok (.ifCond .eq 31, 3) := DX2_meets.2.2.2.2.2.2.2.2.2.2.2.2.2.2.2.2.2.2.2.2.2.2.2.2.2.2.2.2.2.2.2.2.2.2.2.2.2.2.2.2.2.2.2.2.2.2.2.2.2.2.2.2.2.2.2.2.2.2.2.2.2.2.2.2.2.2.2.2.2.2.2.2.2.2.2.1
theorem dX2_meets_128 : decode cX2_meets 128 = .ok (.iload 8, 2) := DX2_meets.2.2.2.2.2.2.2.2.2.2.2.2.2.2.2.2.2.2.2.2.2.2.2.2.2.2.2.2.2.2.2.2.2.2.2.2.2.2.2.2.2.2.2.2.2.2.2.2.2.2.2.2.2.2.2.2.2.2.2.2.2.2.2.2.2.2.2.2.2.2.2.2.2.2.2.2.1
theorem dX2_meets_130 : decode cX2_meets 130 = .ok (.iload_n 2, 1) := DX2_meets.2.2.2.2.2.2.2.2.2.2.2.2.2.2.2.2.2.2.2.2.2.2.2.2.2.2.2.2.2.2.2.2.2.2.2.2.2.2.2.2.2.2.2.2.2.2.2.2.2.2.2.2.2.2.2.2.2.2.2.2.2.2.2.2.2.2.2.2.2.2.2.2.2.2.2.2.2.1
theorem dX2_meets_131 : decode cX2_meets 131 = .ok (.if_icmp .ne 9, 3) := DX2_meets.2.2.2.2.2.2.2.2.2.2.2.2.2.2.2.2.2.2.2.2.2.2.2.2.2.2.2.2.2.2.2.2.2.2.2.2.2.2.2.2.2.2.2.2.2.2.2.2.2.2.2.2.2.2.2.2.2.2.2.2.2.2.2.2.2.2.2.2.2.2.2.2.2.2.2.2.2.2.1
theorem dX2_meets_134 : decode cX2_meets 134 = .ok (.iload 9, 2) := DX2_meets.2.2.2.2.2.2.2.2.2.2.2.2.2.2.2.2.2.2.2.2.2.2.2.2.2.2.2.2.2.2.2.2.2.2.2.2.2.2.2.2.2.2.2.2.2.2.2.2.2.2.2.2.2.2.2.2.2.2.2.2.2.2.2.2.2.2.2.2.2.2.2.2.2.2.2.2.2.2.2.1
theorem dX2_meets_136 : decode cX2_meets 136 = .ok (.iload_n 3, 1) := DX2_meets.2.2.2.2.2.2.2.2.2.2.2.2.2.2.2.2.2.2.2.2.2.2.2.2.2.2.2.2.2.2.2.2.2.2.2.2.2.2.2.2.2.2.2.2.2.2.2.2.2.2.2.2.2.2.2.2.2.2.2.2.2.2.2.2.2.2.2.2.2.2.2.2.2.2.2.2.2.2.2.2.1
theorem dX2_meets_137 : decode cX2_meets 137 = .ok (.if_icmp .eq 19, 3) := DX2_meets.2.2.2.2.2.2.2.2.2.2.2.2.2.2.2.2.2.2.2.2.2.2.2.2.2.2.2.2.2.2.2.2.2.2.2.2.2.2.2.2.2.2.2.2.2.2.2.2.2.2.2.2.2.2.2.2.2.2.2.2.2.2.2.2.2.2.2.2.2.2.2.2.2.2.2.2.2.2.2.2.2.1
theorem dX2_meets_140 : decode cX2_meets 140 = .ok (.iload 8, 2) := DX2_meets.2.2.2.2.2.2.2.2.2.2.2.2.2.2.2.2.2.2.2.2.2.2.2.2.2.2.2.2.2.2.2.2.2.2.2.2.2.2.2.2.2.2.2.2.2.2.2.2.2.2.2.2.2.2.2.2.2.2.2.2.2.2.2.2.2.2.2.2.2.2.2.2.2.2.2.2.2.2.2.2.2.2.1
theorem dX2_meets_142 : decode cX2_meets 142 = .ok (.iload 4, 2) := DX2_meets.2.2.2.2.2.2.2.2.2.2.2.2.2.2.2.2.2.2.2.2.2.2.2.2.2.2.2.2.2.2.2.2.2.2.2.2.2.2.2.2.2.2.2.2.2.2.2.2.2.2.2.2.2.2.2.2.2.2.2.2.2.2.2.2.2.2.2.2.2.2.2.2.2.2.2.2.2.2.2.2.2.2.2.1
theorem dX2_meets_144 : decode cX2_meets 144 = .ok (.if_icmp .ne 10, 3) := DX2_meets.2.2.2.2.2.2.2.2.2.2.2.2.2.2.2.2.2.2.2.2.2.2.2.2.2.2.2.2.2.2.2.2.2.2.2.2.2.2.2.2.2.2.2.2.2.2.2.2.2.2.2.2.2.2.2.2.2.2.2.2.2.2.2.2.2.2.2.2.2.2.2.2.2.2.2.2.2.2.2.2.2.2.2.2.1
theorem dX2_meets_147 : decode cX2_meets 147 = .ok (.iload 9, 2) := DX2_meets.2.2.2.2.2.2.2.2.2.2.2.2.2.2.2.2.2.2.2.2.2.2.2.2.2.2.2.2.2.2.2.2.2.2.2.2.2.2.2.2.2.2.2.2.2.2.2.2.2.2.2.2.2.2.2.2.2.2.2.2.2.2.2.2.2.2.2.2.2.2.2.2.2.2.2.2.2.2.2.2.2.2.2.2.2.1
theorem dX2_meets_149 : decode cX2_meets 149 = .ok (.iload 5, 2) := DX2_meets.2.2.2.2.2.2.2.2.2.2.2.2.2.2.2.2.2.2.2.2.2.2.2.2.2.2.2.2.2.2.2.2.2.2.2.2.2.2.2.2.2.2.2.2.2.2.2.2.2.2.2.2.2.2.2.2.2.2.2.2.2.2.2.2.2.2.2.2.2.2.2.2.2.2.2.2.2.2.2.2.2.2.2.2.2.2.1
theorem dX2_meets_151 : decode cX2_meets 151 = .ok (.if_icmp .eq 5, 3) := DX2_meets.2.2.2.2.2.2.2.2.2.2.2.2.2.2.2.2.2.2.2.2.2.2.2.2.2.2.2.2.2.2.2.2.2.2.2.2.2.2.2.2.2.2.2.2.2.2.2.2.2.2.2.2.2.2.2.2.2.2.2.2.2.2.2.2.2.2.2.2.2.2.2.2.2.2.2.2.2.2.2.2.2.2.2.2.2.2.2.1
theorem dX2_meets_154 : decode cX2_meets 154 = .ok (.iconst 1, 1) := DX2_meets.2.2.2.2.2.2.2.2.2.2.2.2.2.2.2.2.2.2.2.2.2.2.2.2.2.2.2.2.2.2.2.2.2.2.2.2.2.2.2.2.2.2.2.2.2.2.2.2.2.2.2.2.2.2.2.2.2.2.2.2.2.2.2.2.2.2.2.2.2.2.2.2.2.2.2.2.2.2.2.2.2.2.2.2.2.2.2.2.1
theorem dX2_meets_155 : decode cX2_meets 155 = .ok (.ireturn, 1) := DX2_meets.2.2.2.2.2.2.2.2.2.2.2.2.2.2.2.2.2.2.2.2.2.2.2.2.2.2.2.2.2.2.2.2.2.2.2.2.2.2.2.2.2.2.2.2.2.2.2.2.2.2.2.2.2.2.2.2.2.2.2.2.2.2.2.2.2.2.2.2.2.2.2.2.2.2.2.2.2.2.2.2.2.2.2.2.2.2.2.2.2.1
theorem dX2_meets_156 : decode cX2_meets 156 = .ok (.iload 6, 2) := DX2_meets.2.2.2.2.2.2.2.2.2.2.2.2.2.2.2.2.2.2.2.2.2.2.2.2.2.2.2.2.2.2.2.2.2.2.2.2.2.2.2.2.2.2.2.2.2.2.2.2.2.2.2.2.2.2.2.2.2.2.2.2.2.2.2.2.2.2.2.2.2.2.2.2.2.2.2.2.2.2.2.2.2.2.2.2.2.2.2.2.2.2.1
theorem dX2_meets_158 : decode cX2_meets 158 = .ok (.iload 7, 2) := DX2_meets.2.2.2.2.2.2.2.2.2.2.2.2.2.2.2.2.2.2.2.2.2.2.2.2.2.2.2.2.2.2.2.2.2.2.2.2.2.2.2.2.2.2.2.2.2.2.2.2.2.2.2.2.2.2.2.2.2.2.2.2.2.2.2.2.2.2.2.2.2.2.2.2.2.2.2.2.2.2.2.2.2.2.2.2.2.2.2.2.2.2.2.1
theorem dX2_meets_160 : decode cX2_meets 160 = .ok (.iload 8, 2) := DX2_meets.2.2.2.2.2.2.2.2.2.2.2.2.2.2.2.2.2.2.2.2.2.2.2.2.2.2.2.2.2.2.2.2.2.2.2.2.2.2.2.2.2.2.2.2.2.2.2.2.2.2.2.2.2.2.2.2.2.2.2.2.2.2.2.2.2.2.2.2.2.2.2.2.2.2.2.2.2.2.2.2.2.2.2.2.2.2.2.2.2.2.2.2.1
theorem dX2_meets_162 : decode cX2_meets 162 = .ok (.iload 9, 2) := DX2_meets.2.2.2.2.2.2.2.2.2.2.2.2.2.2.2.2.2.2.2.2.2.2.2.2.2.2.2.2.2.2.2.2.2.2.2.2.2.2.2.2.2.2.2.2.2.2.2.2.2.2.2.2.2.2.2.2.2.2.2.2.2.2.2.2.2.2.2.2.2.2.2.2.2.2.2.2.2.2.2.2.2.2.2.2.2.2.2.2.2.2.2.2.2.1
theorem dX2_meets_164 : decode cX2_meets 164 = .ok (.iload_n 2, 1) := DX2_meets.2.2.2.2.2.2.2.2.2.2.2.2.2.2.2.2.2.2.2.2.2.2.2.2.2.2.2.2.2.2.2.2.2.2.2.2.2.2.2.2.2.2.2.2.2.2.2.2.2.2.2.2.2.2.2.2.2.2.2.2.2.2.2.2.2.2.2.2.2.2.2.2.2.2.2.2.2.2.2.2.2.2.2.2.2.2.2.2.2.2.2.2.2.2.1
theorem dX2_meets_165 : decode cX2_meets 165 = .ok (.iload_n 3, 1) := DX2_meets.2.2.2.2.2.2.2.2.2.2.2.2.2.2.2.2.2.2.2.2.2.2.2.2.2.2.2.2.2.2.2.2.2.2.2.2.2.2.2.2.2.2.2.2.2.2.2.2.2.2.2.2.2.2.2.2.2.2.2.2.2.2.2.2.2.2.2.2.2.2.2.2.2.2.2.2.2.2.2.2.2.2.2.2.2.2.2.2.2.2.2.2.2.2.2.1
theorem dX2_meets_166 : decode cX2_meets 166 = .ok (.invokestatic 61, 3) := DX2_meets.2.2.2.2.2.2.2.2.2.2.2.2.2.2.2.2.2.2.2.2.2.2.2.2.2.2.2.2.2.2.2.2.2.2.2.2.2.2.2.2.2.2.2.2.2.2.2.2.2.2.2.2.2.2.2.2.2.2.2.2.2.2.2.2.2.2.2.2.2.2.2.2.2.2.2.2.2.2.2.2.2.2.2.2.2.2.2.2.2.2.2.2.2.2.2.2.1
theorem dX2_meets_169 : decode cX2_meets 169 = .ok (.ifCond .eq 13, 3) := DX2_meets.2.2.2.2.2.2.2.2.2.2.2.2.2.2.2.2.2.2.2.2.2.2.2.2.2.2.2.2.2.2.2.2.2.2.2.2.2.2.2.2.2.2.2.2.2.2.2.2.2.2.2.2.2.2.2.2.2.2.2.2.2.2.2.2.2.2.2.2.2.2.2.2.2.2.2.2.2.2.2.2.2.2.2.2.2.2.2.2.2.2.2.2.2.2.2.2.2.1
theorem dX2_meets_172 : decode cX2_meets 172 = .ok (.aload_n 0, 1) := DX2_meets.2.2.2.2.2.2.2.2.2.2.2.2.2.2.2.2.2.2.2.2.2.2.2.2.2.2.2.2.2.2.2.2.2.2.2.2.2.2.2.2.2.2.2.2.2.2.2.2.2.2.2.2.2.2.2.2.2.2.2.2.2.2.2.2.2.2.2.2.2.2.2.2.2.2.2.2.2.2.2.2.2.2.2.2.2.2.2.2.2.2.2.2.2.2.2.2.2.2.1
theorem dX2_meets_173 : decode cX2_meets 173 = .ok (.iload_n 1, 1) := DX2_meets.2.2.2.2.2.2.2.2.2.2.2.2.2.2.2.2.2.2.2.2.2.2.2.2.2.2.2.2.2.2.2.2.2.2.2.2.2.2.2.2.2.2.2.2.2.2.2.2.2.2.2.2.2.2.2.2.2.2.2.2.2.2.2.2.2.2.2.2.2.2.2.2.2.2.2.2.2.2.2.2.2.2.2.2.2.2.2.2.2.2.2.2.2.2.2.2.2.2.2.1
theorem dX2_meets_174 : decode cX2_meets 174 = .ok (.iload_n 2, 1) := DX2_meets.2.2.2.2.2.2.2.2.2.2.2.2.2.2.2.2.2.2.2.2.2.2.2.2.2.2.2.2.2.2.2.2.2.2.2.2.2.2.2.2.2.2.2.2.2.2.2.2.2.2.2.2.2.2.2.2.2.2.2.2.2.2.2.2.2.2.2.2.2.2.2.2.2.2.2.2.2.2.2.2.2.2.2.2.2.2.2.2.2.2.2.2.2.2.2.2.2.2.2.2.1
theorem dX2_meets_175 : decode cX2_meets 175 = .ok (.iload_n 3, 1) := DX2_meets.2.2.2.2.2.2.2.2.2.2.2.2.2.2.2.2.2.2.2.2.2.2.2.2.2.2.2.2.2.2.2.2.2.2.2.2.2.2.2.2.2.2.2.2.2.2.2.2.2.2.2.2.2.2.2.2.2.2.2.2.2.2.2.2.2.2.2.2.2.2.2.2.2.2.2.2.2.2.2.2.2.2.2.2.2.2.2.2.2.2.2.2.2.2.2.2.2.2.2.2.2.1
theorem dX2_meets_176 : decode cX2_meets 176 = .ok (.invokevirtual 57, 3) := DX2_meets.2.2.2.2.2.2.2.2.2.2.2.2.2.2.2.2.2.2.2.2.2.2.2.2.2.2.2.2.2.2.2.2.2.2.2.2.2.2.2.2.2.2.2.2.2.2.2.2.2.2.2.2.2.2.2.2.2.2.2.2.2.2.2.2.2.2.2.2.2.2.2.2.2.2.2.2.2.2.2.2.2.2.2.2.2.2.2.2.2.2.2.2.2.2.2.2.2.2.2.2.2.2.1
theorem dX2_meets_179 : decode cX2_meets 179 = .ok (.ifCond .eq 33, 3) := DX2_meets.2.2.2.2.2.2.2.2.2.2.2.2.2.2.2.2.2.2.2.2.2.2.2.2.2.2.2.2.2.2.2.2.2.2.2.2.2.2.2.2.2.2.2.2.2.2.2.2.2.2.2.2.2.2.2.2.2.2.2.2.2.2.2.2.2.2.2.2.2.2.2.2.2.2.2.2.2.2.2.2.2.2.2.2.2.2.2.2.2.2.2.2.2.2.2.2.2.2.2.2.2.2.2.1
theorem dX2_meets_182 : decode cX2_meets 182 = .ok (.iload 6, 2) := DX2_meets.2.2.2.2.2.2.2.2.2.2.2.2.2.2.2.2.2.2.2.2.2.2.2.2.2.2.2.2.2.2.2.2.2.2.2.2.2.2.2.2.2.2.2.2.2.2.2.2.2.2.2.2.2.2.2.2.2.2.2.2.2.2.2.2.2.2.2.2.2.2.2.2.2.2.2.2.2.2.2.2.2.2.2.2.2.2.2.2.2.2.2.2.2.2.2.2.2.2.2.2.2.2.2.2.1
theorem dX2_meets_184 : decode cX2_meets 184 = .ok (.iload 7, 2) := DX2_meets.2.2.2.2.2.2.2.2.2.2.2.2.2.2.2.2.2.2.2.2.2.2.2.2.2.2.2.2.2.2.2.2.2.2.2.2.2.2.2.2.2.2.2.2.2.2.2.2.2.2.2.2.2.2.2.2.2.2.2.2.2.2.2.2.2.2.2.2.2.2.2.2.2.2.2.2.2.2.2.2.2.2.2.2.2.2.2.2.2.2.2.2.2.2.2.2.2.2.2.2.2.2.2.2.2.1
theorem dX2_meets_186 : decode cX2_meets 186 = .ok (.iload 8, 2) := DX2_meets.2.2.2.2.2.2.2.2.2.2.2.2.2.2.2.2.2.2.2.2.2.2.2.2.2.2.2.2.2.2.2.2.2.2.2.2.2.2.2.2.2.2.2.2.2.2.2.2.2.2.2.2.2.2.2.2.2.2.2.2.2.2.2.2.2.2.2.2.2.2.2.2.2.2.2.2.2.2.2.2.2.2.2.2.2.2.2.2.2.2.2.2.2.2.2.2.2.2.2.2.2.2.2.2.2.2.1
theorem dX2_meets_188 : decode cX2_meets 188 = .ok (.iload 9, 2) := DX2_meets.2.2.2.2.2.2.2.2.2.2.2.2.2.2.2.2.2.2.2.2.2.2.2.2.2.2.2.2.2.2.2.2.2.2.2.2.2.2.2.2.2.2.2.2.2.2.2.2.2.2.2.2.2.2.2.2.2.2.2.2.2.2.2.2.2.2.2.2.2.2.2.2.2.2.2.2.2.2.2.2.2.2.2.2.2.2.2.2.2.2.2.2.2.2.2.2.2.2.2.2.2.2.2.2.2.2.2.1
theorem dX2_meets_190 : decode cX2_meets 190 = .ok (.iload 4, 2) := DX2_meets.2.2.2.2.2.2.2.2.2.2.2.2.2.2.2.2.2.2.2.2.2.2.2.2.2.2.2.2.2.2.2.2.2.2.2.2.2.2.2.2.2.2.2.2.2.2.2.2.2.2.2.2.2.2.2.2.2.2.2.2.2.2.2.2.2.2.2.2.2.2.2.2.2.2.2.2.2.2.2.2.2.2.2.2.2.2.2.2.2.2.2.2.2.2.2.2.2.2.2.2.2.2.2.2.2.2.2.2.1
theorem dX2_meets_192 : decode cX2_meets 192 = .ok (.iload 5, 2) := DX2_meets.2.2.2.2.2.2.2.2.2.2.2.2.2.2.2.2.2.2.2.2.2.2.2.2.2.2.2.2.2.2.2.2.2.2.2.2.2.2.2.2.2.2.2.2.2.2.2.2.2.2.2.2.2.2.2.2.2.2.2.2.2.2.2.2.2.2.2.2.2.2.2.2.2.2.2.2.2.2.2.2.2.2.2.2.2.2.2.2.2.2.2.2.2.2.2.2.2.2.2.2.2.2.2.2.2.2.2.2.2
theorem dX2_meets_194 : decode cX2_meets 194 = .ok (.invokestatic 61, 3) := DX2_meets_2.1
theorem dX2_meets_197 : decode cX2_meets 197 = .ok (.ifCond .eq 17, 3) := DX2_meets_2.2.1
theorem dX2_meets_200 : decode cX2_meets 200 = .ok (.aload_n 0, 1) := DX2_meets_2.2.2.1
theorem dX2_meets_201 : decode cX2_meets 201 = .ok (.iload_n 1, 1) := DX2_meets_2.2.2.2.1
theorem dX2_meets_202 : decode cX2_meets 202 = .ok (.iload 4, 2) := DX2_meets_2.2.2.2.2.1
theorem dX2_meets_204 : decode cX2_meets 204 = .ok (.iload 5, 2) := DX2_meets_2.2.2.2.2.2.1
theorem dX2_meets_206 : decode cX2_meets 206 = .ok (.invokevirtual 57, 3) := DX2_meets_2.2.2.2.2.2.2.1
theorem dX2_meets_209 : decode cX2_meets 209 = .ok (.ifCond .ne 5, 3) := DX2_meets_2.2.2.2.2.2.2.2.1
theorem dX2_meets_212 : decode cX2_meets 212 = .ok (.iconst 1, 1) := DX2_meets_2.2.2.2.2.2.2.2.2.1
theorem dX2_meets_213 : decode cX2_meets 213 = .ok (.ireturn, 1) := DX2_meets_2.2.2.2.2.2.2.2.2.2.1
theorem dX2_meets_214 : decode cX2_meets 214 = .ok (.iload_n 2, 1) := DX2_meets_2.2.2.2.2.2.2.2.2.2.2.1
theorem dX2_meets_215 : decode cX2_meets 215 = .ok (.iload_n 3, 1) := DX2_meets_2.2.2.2.2.2.2.2.2.2.2.2.1
theorem dX2_meets_216 : decode cX2_meets 216 = .ok (.iload 4, 2) := DX2_meets_2.2.2.2.2.2.2.2.2.2.2.2.2.1
theorem dX2_meets_218 : decode cX2_meets 218 = .ok (.iload 5, 2) := DX2_meets_2.2.2.2.2.2.2.2.2.2.2.2.2.2.1
theorem dX2_meets_220 : decode cX2_meets 220 = .ok (.iload 6, 2) := DX2_meets_2.2.2.2.2.2.2.2.2.2.2.2.2.2.2.1
theorem dX2_meets_222 : decode cX2_meets 222 = .ok (.iload 7, 2) := DX2_meets_2.2.2.2.2.2.2.2.2.2.2.2.2.2.2.2.1
theorem dX2_meets_224 : decode cX2_meets 224 = .ok (.invokestatic 53, 3) := DX2_meets_2.2.2.2.2.2.2.2.2.2.2.2.2.2.2.2.2.1
theorem dX2_meets_227 : decode cX2_meets 227 = .ok (.iload_n 2, 1) := DX2_meets_2.2.2.2.2.2.2.2.2.2.2.2.2.2.2.2.2.2.1
theorem dX2_meets_228 : decode cX2_meets 228 = .ok (.iload_n 3, 1) := DX2_meets_2.2.2.2.2.2.2.2.2.2.2.2.2.2.2.2.2.2.2.1
theorem dX2_meets_229 : decode cX2_meets 229 = .ok (.iload 4, 2) := DX2_meets_2.2.2.2.2.2.2.2.2.2.2.2.2.2.2.2.2.2.2.2.1
theorem dX2_meets_231 : decode cX2_meets 231 = .ok (.iload 5, 2) := DX2_meets_2.2.2.2.2.2.2.2.2.2.2.2.2.2.2.2.2.2.2.2.2.1
theorem dX2_meets_233 : decode cX2_meets 233 = .ok (.iload 8, 2) := DX2_meets_2.2.2.2.2.2.2.2.2.2.2.2.2.2.2.2.2.2.2.2.2.2.1
theorem dX2_meets_235 : decode cX2_meets 235 = .ok (.iload 9, 2) := DX2_meets_2.2.2.2.2.2.2.2.2.2.2.2.2.2.2.2.2.2.2.2.2.2.2.1
theorem dX2_meets_237 : decode cX2_meets 237 = .ok (.invokestatic 53, 3) := DX2_meets_2.2.2.2.2.2.2.2.2.2.2.2.2.2.2.2.2.2.2.2.2.2.2.2.1
theorem dX2_meets_240 : decode cX2_meets 240 = .ok (.imul, 1) := DX2_meets_2.2.2.2.2.2.2.2.2.2.2.2.2.2.2.2.2.2.2.2.2.2.2.2.2.1
theorem dX2_meets_241 : decode cX2_meets 241 = .ok (.ifCond .ge 39, 3) := DX2_meets_2.2.2.2.2.2.2.2.2.2.2.2.2.2.2.2.2.2.2.2.2.2.2.2.2.2.1
theorem dX2_meets_244 : decode cX2_meets 244 = .ok (.iload 6, 2) := DX2_meets_2.2.2.2.2.2.2.2.2.2.2.2.2.2.2.2.2.2.2.2.2.2.2.2.2.2.2.1
theorem dX2_meets_246 : decode cX2_meets 246 = .ok (.iload 7, 2) := DX2_meets_2.2.2.2.2.2.2.2.2.2.2.2.2.2.2.2.2.2.2.2.2.2.2.2.2.2.2.2.1
theorem dX2_meets_248 : decode cX2_meets 248 = .ok (.iload 8, 2) := DX2_meets_2.2.2.2.2.2.2.2.2.2.2.2.2.2.2.2.2.2.2.2.2.2.2.2.2.2.2.2.2.1
theorem dX2_meets_250 : decode cX2_meets 250 = .ok (.iload 9, 2) := DX2_meets_2.2.2.2.2.2.2.2.2.2.2.2.2.2.2.2.2.2.2.2.2.2.2.2.2.2.2.2.2.2.1
theorem dX2_meets_252 : decode cX2_meets 252 = .ok (.iload_n 2, 1) := DX2_meets_2.2.2.2.2.2.2.2.2.2.2.2.2.2.2.2.2.2.2.2.2.2.2.2.2.2.2.2.2.2.2.1
theorem dX2_meets_253 : decode cX2_meets 253 = .ok (.iload_n 3, 1) := DX2_meets_2.2.2.2.2.2.2.2.2.2.2.2.2.2.2.2.2.2.2.2.2.2.2.2.2.2.2.2.2.2.2.2.1
theorem dX2_meets_254 : decode cX2_meets 254 = .ok (.invokestatic 53, 3) := DX2_meets_2.2.2.2.2.2.2.2.2.2.2.2.2.2.2.2.2.2.2.2.2.2.2.2.2.2.2.2.2.2.2.2.2.1
theorem dX2_meets_257 : decode cX2_meets 257 = .ok (.iload 6, 2) := DX2_meets_2.2.2.2.2.2.2.2.2.2.2.2.2.2.2.2.2.2.2.2.2.2.2.2.2.2.2.2.2.2.2.2.2.2.1
theorem dX2_meets_259 : decode cX2_meets 259 = .ok (.iload 7, 2) := DX2_meets_2.2.2.2.2.2.2.2.2.2.2.2.2.2.2.2.2.2.2.2.2.2.2.2.2.2.2.2.2.2.2.2.2.2.2.1
theorem dX2_meets_261 : decode cX2_meets 261 = .ok (.iload 8, 2) := DX2_meets_2.2.2.2.2.2.2.2.2.2.2.2.2.2.2.2.2.2.2.2.2.2.2.2.2.2.2.2.2.2.2.2.2.2.2.2.1
theorem dX2_meets_263 : decode cX2_meets 263 = .ok (.iload 9, 2) := DX2_meets_2.2.2.2.2.2.2.2.2.2.2.2.2.2.2.2.2.2.2.2.2.2.2.2.2.2.2.2.2.2.2.2.2.2.2.2.2.1
theorem dX2_meets_265 : decode cX2_meets 265 = .ok (.iload 4, 2) := DX2_meets_2.2.2.2.2.2.2.2.2.2.2.2.2.2.2.2.2.2.2.2.2.2.2.2.2.2.2.2.2.2.2.2.2.2.2.2.2.2.1
theorem dX2_meets_267 : decode cX2_meets 267 = .ok (.iload 5, 2) := DX2_meets_2.2.2.2.2.2.2.2.2.2.2.2.2.2.2.2.2.2.2.2.2.2.2.2.2.2.2.2.2.2.2.2.2.2.2.2.2.2.2.1
theorem dX2_meets_269 : decode cX2_meets 269 = .ok (.invokestatic 53, 3) := DX2_meets_2.2.2.2.2.2.2.2.2.2.2.2.2.2.2.2.2.2.2.2.2.2.2.2.2.2.2.2.2.2.2.2.2.2.2.2.2.2.2.2.1
theorem dX2_meets_272 : decode cX2_meets 272 = .ok (.imul, 1) := DX2_meets_2.2.2.2.2.2.2.2.2.2.2.2.2.2.2.2.2.2.2.2.2.2.2.2.2.2.2.2.2.2.2.2.2.2.2.2.2.2.2.2.2.1
theorem dX2_meets_273 : decode cX2_meets 273 = .ok (.ifCond .ge 7, 3) := DX2_meets_2.2.2.2.2.2.2.2.2.2.2.2.2.2.2.2.2.2.2.2.2.2.2.2.2.2.2.2.2.2.2.2.2.2.2.2.2.2.2.2.2.2.1
theorem dX2_meets_276 : decode cX2_meets 276 = .ok (.iconst 1, 1) := DX2_meets_2.2.2.2.2.2.2.2.2.2.2.2.2.2.2.2.2.2.2.2.2.2.2.2.2.2.2.2.2.2.2.2.2.2.2.2.2.2.2.2.2.2.2.1
theorem dX2_meets_277 : decode cX2_meets 277 = .ok (.goto 4, 3) := DX2_meets_2.2.2.2.2.2.2.2.2.2.2.2.2.2.2.2.2.2.2.2.2.2.2.2.2.2.2.2.2.2.2.2.2.2.2.2.2.2.2.2.2.2.2.2.1
theorem dX2_meets_280 : decode cX2_meets 280 = .ok (.iconst 0, 1) := DX2_meets_2.2.2.2.2.2.2.2.2.2.2.2.2.2.2.2.2.2.2.2.2.2.2.2.2.2.2.2.2.2.2.2.2.2.2.2.2.2.2.2.2.2.2.2.2.1
theorem dX2_meets_281 : decode cX2_meets 281 = .ok (.ireturn, 1) := DX2_meets_2.2.2.2.2.2.2.2.2.2.2.2.2.2.2.2.2.2.2.2.2.2.2.2.2.2.2.2.2.2.2.2.2.2.2.2.2.2.2.2.2.2.2.2.2.2
theorem dX2_isEnd_0 : decode cX2_isEnd 0 = .ok (.aload_n 0, 1) := DX2_isEnd.1
theorem dX2_isEnd_1 : decode cX2_isEnd 1 = .ok (.getfield 13, 3) := DX2_isEnd.2.1
theorem dX2_isEnd_4 : decode cX2_isEnd 4 = .ok (.iconst 2, 1) := DX2_isEnd.2.2.1
theorem dX2_isEnd_5 : decode cX2_isEnd 5 = .ok (.iload_n 1, 1) := DX2_isEnd.2.2.2.1
theorem dX2_isEnd_6 : decode cX2_isEnd 6 = .ok (.imul, 1) := DX2_isEnd.2.2.2.2.1
theorem dX2_isEnd_7 : decode cX2_isEnd 7 = .ok (.iaload, 1) := DX2_isEnd.2.2.2.2.2.1
theorem dX2_isEnd_8 : decode cX2_isEnd 8 = .ok (.iload_n 2, 1) := DX2_isEnd.2.2.2.2.2.2.1
theorem dX2_isEnd_9 : decode cX2_isEnd 9 = .ok (.if_icmp .ne 15, 3) := DX2_isEnd.2.2.2.2.2.2.2.1
theorem dX2_isEnd_12 : decode cX2_isEnd 12 = .ok (.aload_n 0, 1) := DX2_isEnd.2.2.2.2.2.2.2.2.1
theorem dX2_isEnd_13 : decode cX2_isEnd 13 = .ok (.getfield 17, 3) := DX2_isEnd.2.2.2.2.2.2.2.2.2.1
theorem dX2_isEnd_16 : decode cX2_isEnd 16 = .ok (.iconst 2, 1) := DX2_isEnd.2.2.2.2.2.2.2.2.2.2.1
theorem dX2_isEnd_17 : decode cX2_isEnd 17 = .ok (.iload_n 1, 1) := DX2_isEnd.2.2.2.2.2.2.2.2.2.2.2.1
theorem dX2_isEnd_18 : decode cX2_isEnd 18 = .ok (.imul, 1) := DX2_isEnd.2.2.2.2.2.2.2.2.2.2.2.2.1
theorem dX2_isEnd_19 : decode cX2_isEnd 19 = .ok (.iaload, 1) := DX2_isEnd.2.2.2.2.2.2.2.2.2.2.2.2.2.1
theorem dX2_isEnd_20 : decode cX2_isEnd 20 = .ok (.iload_n 3, 1) := DX2_isEnd.2.2.2.2.2.2.2.2.2.2.2.2.2.2.1
theorem dX2_isEnd_21 : decode cX2_isEnd 21 = .ok (.if_icmp .eq 31, 3) := DX2_isEnd.2.2.2.2.2.2.2.2.2.2.2.2.2.2.2.1
theorem dX2_isEnd_24 : decode cX2_isEnd 24 = .ok (.aload_n 0, 1) := DX2_isEnd.2.2.2.2.2.2.2.2.2.2.2.2.2.2.2.2.1
theorem dX2_isEnd_25 : decode cX2_isEnd 25 = .ok (.getfield 13, 3) := DX2_isEnd.2.2.2.2.2.2.2.2.2.2.2.2.2.2.2.2.2.1
theorem dX2_isEnd_28 : decode cX2_isEnd 28 = .ok (.iconst 2, 1) := DX2_isEnd.2.2.2.2.2.2.2.2.2.2.2.2.2.2.2.2.2.2.1
theorem dX2_isEnd_29 : decode cX2_isEnd 29 = .ok (.iload_n 1, 1) := DX2_isEnd.2.2.2.2.2.2.2.2.2.2.2.2.2.2.2.2.2.2.2.1
theorem dX2_isEnd_30 : decode cX2_isEnd 30 = .ok (.imul, 1) := DX2_isEnd.2.2.2.2.2.2.2.2.2.2.2.2.2.2.2.2.2.2.2.2.1
theorem dX2_isEnd_31 : decode cX2_isEnd 31 = .ok (.iconst 1, 1) := DX2_isEnd.2.2.2.2.2.2.2.2.2.2.2.2.2.2.2.2.2.2.2.2.2.1
theorem dX2_isEnd_32 : decode cX2_isEnd 32 = .ok (.iadd, 1) := DX2_isEnd.2.2.2.2.2.2.2.2.2.2.2.2.2.2.2.2.2.2.2.2.2.2.1
theorem dX2_isEnd_33 : decode cX2_isEnd 33 = .ok (.iaload, 1) := DX2_isEnd.2.2.2.2.2.2.2.2.2.2.2.2.2.2.2.2.2.2.2.2.2.2.2.1
theorem dX2_isEnd_34 : decode cX2_isEnd 34 = .ok (.iload_n 2, 1) := DX2_isEnd.2.2.2.2.2.2.2.2.2.2.2.2.2.2.2.2.2.2.2.2.2.2.2.2.1
theorem dX2_isEnd_35 : decode cX2_isEnd 35 = .ok (.if_icmp .ne 21, 3) := DX2_isEnd.2.2.2.2.2.2.2.2.2.2.2.2.2.2.2.2.2.2.2.2.2.2.2.2.2.1
theorem dX2_isEnd_38 : decode cX2_isEnd 38 = .ok (.aload_n 0, 1) := DX2_isEnd.2.2.2.2.2.2.2.2.2.2.2.2.2.2.2.2.2.2.2.2.2.2.2.2.2.2.1
theorem dX2_isEnd_39 : decode cX2_isEnd 39 = .ok (.getfield 17, 3) := DX2_isEnd.2.2.2.2.2.2.2.2.2.2.2.2.2.2.2.2.2.2.2.2.2.2.2.2.2.2.2.1
theorem dX2_isEnd_42 : decode cX2_isEnd 42 = .ok (.iconst 2, 1) := DX2_isEnd.2.2.2.2.2.2.2.2.2.2.2.2.2.2.2.2.2.2.2.2.2.2.2.2.2.2.2.2.1
theorem dX2_isEnd_43 : decode cX2_isEnd 43 = .ok (.iload_n 1, 1) := DX2_isEnd.2.2.2.2.2.2.2.2.2.2.2.2.2.2.2.2.2.2.2.2.2.2.2.2.2.2.2.2.2.1
theorem dX2_isEnd_44 : decode cX2_isEnd 44 = .ok (.imul, 1) := DX2_isEnd.2.2.2.2.2.2.2.2.2.2.2.2.2.2.2.2.2.2.2.2.2.2.2.2.2.2.2.2.2.2.1
theorem dX2_isEnd_45 : decode cX2_isEnd 45 = .ok (.iconst 1, 1) := DX2_isEnd.2.2.2.2.2.2.2.2.2.2.2.2.2.2.2.2.2.2.2.2.2.2.2.2.2.2.2.2.2.2.2.1
theorem dX2_isEnd_46 : decode cX2_isEnd 46 = .ok (.iadd, 1) := DX2_isEnd.2.2.2.2.2.2.2.2.2.2.2.2.2.2.2.2.2.2.2.2.2.2.2.2.2.2.2.2.2.2.2.2.1
theorem dX2_isEnd_47 : decode cX2_isEnd 47 = .ok (.iaload, 1) := DX2_isEnd.2.2.2.2.2.2.2.2.2.2.2.2.2.2.2.2.2.2.2.2.2.2.2.2.2.2.2.2.2.2.2.2.2.1
theorem dX2_isEnd_48 : decode cX2_isEnd 48 = .ok (.iload_n 3, 1) := DX2_isEnd.2.2.2.2.2.2.2.2.2.2.2.2.2.2.2.2.2.2.2.2.2.2.2.2.2.2.2.2.2.2.2.2.2.2.1
theorem dX2_isEnd_49 : decode cX2_isEnd 49 = .ok (.if_icmp .ne 7, 3) := DX2_isEnd.2.2.2.2.2.2.2.2.2.2.2.2.2.2.2.2.2.2.2.2.2.2.2.2.2.2.2.2.2.2.2.2.2.2.2.1
theorem dX2_isEnd_52 : decode cX2_isEnd 52 = .ok (.iconst 1, 1) := DX2_isEnd.2.2.2.2.2.2.2.2.2.2.2.2.2.2.2.2.2.2.2.2.2.2.2.2.2.2.2.2.2.2.2.2.2.2.2.2.1
theorem dX2_isEnd_53 : decode cX2_isEnd 53 = .ok (.goto 4, 3) := DX2_isEnd.2.2.2.2.2.2.2.2.2.2.2.2.2.2.2.2.2.2.2.2.2.2.2.2.2.2.2.2.2.2.2.2.2.2.2.2.2.1
theorem dX2_isEnd_56 : decode cX2_isEnd 56 = .ok (.iconst 0, 1) := DX2_isEnd.2.2.2.2.2.2.2.2.2.2.2.2.2.2.2.2.2.2.2.2.2.2.2.2.2.2.2.2.2.2.2.2.2.2.2.2.2.2.1
theorem dX2_isEnd_57 : decode cX2_isEnd 57 = .ok (.ireturn, 1) := DX2_isEnd.2.2.2.2.2.2.2.2.2.2.2.2.2.2.2.2.2.2.2.2.2.2.2.2.2.2.2.2.2.2.2.2.2.2.2.2.2.2.2
theorem dX2_isOn_0 : decode cX2_isOn 0 = .ok (.iload_n 0, 1) := DX2_isOn.1
theorem dX2_isOn_1 : decode cX2_isOn 1 = .ok (.iload_n 1, 1) := DX2_isOn.2.1
theorem dX2_isOn_2 : decode cX2_isOn 2 = .ok (.iload_n 2, 1) := DX2_isOn.2.2.1
theorem dX2_isOn_3 : decode cX2_isOn 3 = .ok (.iload_n 3, 1) := DX2_isOn.2.2.2.1
theorem dX2_isOn_4 : decode cX2_isOn 4 = .ok (.iload 4, 2) := DX2_isOn.2.2.2.2.1
theorem dX2_isOn_6 : decode cX2_isOn 6 = .ok (.iload 5, 2) := DX2_isOn.2.2.2.2.2.1
theorem dX2_isOn_8 : decode cX2_isOn 8 = .ok (.invokestatic 53, 3) := DX2_isOn.2.2.2.2.2.2.1
theorem dX2_isOn_11 : decode cX2_isOn 11 = .ok (.ifCond .ne 7, 3) := DX2_isOn.2.2.2.2.2.2.2.1
theorem dX2_isOn_14 : decode cX2_isOn 14 = .ok (.iconst 1, 1) := DX2_isOn.2.2.2.2.2.2.2.2.1
theorem dX2_isOn_15 : decode cX2_isOn 15 = .ok (.goto 4, 3) := DX2_isOn.2.2.2.2.2.2.2.2.2.1
theorem dX2_isOn_18 : decode cX2_isOn 18 = .ok (.iconst 0, 1) := DX2_isOn.2.2.2.2.2.2.2.2.2.2.1
theorem dX2_isOn_19 : decode cX2_isOn 19 = .ok (.istore 6, 2) := DX2_isOn.2.2.2.2.2.2.2.2.2.2.2.1
theorem dX2_isOn_21 : decode cX2_isOn 21 = .ok (.iload_n 0, 1) := DX2_isOn.2.2.2.2.2.2.2.2.2.2.2.2.1
theorem dX2_isOn_22 : decode cX2_isOn 22 = .ok (.iload_n 2, 1) := DX2_isOn.2.2.2.2.2.2.2.2.2.2.2.2.2.1
theorem dX2_isOn_23 : decode cX2_isOn 23 = .ok (.if_icmp .ge 23, 3) := DX2_isOn.2.2.2.2.2.2.2.2.2.2.2.2.2.2.1
theorem dX2_isOn_26 : decode cX2_isOn 26 = .ok (.iload 4, 2) := DX2_isOn.2.2.2.2.2.2.2.2.2.2.2.2.2.2.2.1
theorem dX2_isOn_28 : decode cX2_isOn 28 = .ok (.iload_n 0, 1) := DX2_isOn.2.2.2.2.2.2.2.2.2.2.2.2.2.2.2.2.1
theorem dX2_isOn_29 : decode cX2_isOn 29 = .ok (.if_icmp .lt 13, 3) := DX2_isOn.2.2.2.2.2.2.2.2.2.2.2.2.2.2.2.2.2.1
theorem dX2_isOn_32 : decode cX2_isOn 32 = .ok (.iload 4, 2) := DX2_isOn.2.2.2.2.2.2.2.2.2.2.2.2.2.2.2.2.2.2.1
theorem dX2_isOn_34 : decode cX2_isOn 34 = .ok (.iload_n 2, 1) := DX2_isOn.2.2.2.2.2.2.2.2.2.2.2.2.2.2.2.2.2.2.2.1
theorem dX2_isOn_35 : decode cX2_isOn 35 = .ok (.if_icmp .gt 7, 3) := DX2_isOn.2.2.2.2.2.2.2.2.2.2.2.2.2.2.2.2.2.2.2.2.1
theorem dX2_isOn_38 : decode cX2_isOn 38 = .ok (.iconst 1, 1) := DX2_isOn.2.2.2.2.2.2.2.2.2.2.2.2.2.2.2.2.2.2.2.2.2.1
theorem dX2_isOn_39 : decode cX2_isOn 39 = .ok (.goto 24, 3) := DX2_isOn.2.2.2.2.2.2.2.2.2.2.2.2.2.2.2.2.2.2.2.2.2.2.1
theorem dX2_isOn_42 : decode cX2_isOn 42 = .ok (.iconst 0, 1) := DX2_isOn.2.2.2.2.2.2.2.2.2.2.2.2.2.2.2.2.2.2.2.2.2.2.2.1
theorem dX2_isOn_43 : decode cX2_isOn 43 = .ok (.goto 20, 3) := DX2_isOn.2.2.2.2.2.2.2.2.2.2.2.2.2.2.2.2.2.2.2.2.2.2.2.2.1
theorem dX2_isOn_46 : decode cX2_isOn 46 = .ok (.iload 4, 2) := DX2_isOn.2.2.2.2.2.2.2.2.2.2.2.2.2.2.2.2.2.2.2.2.2.2.2.2.2.1
theorem dX2_isOn_48 : decode cX2_isOn 48 = .ok (.iload_n 2, 1) := DX2_isOn.2.2.2.2.2.2.2.2.2.2.2.2.2.2.2.2.2.2.2.2.2.2.2.2.2.2.1
theorem dX2_isOn_49 : decode cX2_isOn 49 = .ok (.if_icmp .lt 13, 3) := DX2_isOn.2.2.2.2.2.2.2.2.2.2.2.2.2.2.2.2.2.2.2.2.2.2.2.2.2.2.2.1
theorem dX2_isOn_52 : decode cX2_isOn 52 = .ok (.iload 4, 2) := DX2_isOn.2.2.2.2.2.2.2.2.2.2.2.2.2.2.2.2.2.2.2.2.2.2.2.2.2.2.2.2.1
theorem dX2_isOn_54 : decode cX2_isOn 54 = .ok (.iload_n 0, 1) := DX2_isOn.2.2.2.2.2.2.2.2.2.2.2.2.2.2.2.2.2.2.2.2.2.2.2.2.2.2.2.2.2.1
theorem dX2_isOn_55 : decode cX2_isOn 55 = .ok (.if_icmp .gt 7, 3) := DX2_isOn.2.2.2.2.2.2.2.2.2.2.2.2.2.2.2.2.2.2.2.2.2.2.2.2.2.2.2.2.2.2.1
theorem dX2_isOn_58 : decode cX2_isOn 58 = .ok (.iconst 1, 1) := DX2_isOn.2.2.2.2.2.2.2.2.2.2.2.2.2.2.2.2.2.2.2.2.2.2.2.2.2.2.2.2.2.2.2.1
theorem dX2_isOn_59 : decode cX2_isOn 59 = .ok (.goto 4, 3) := DX2_isOn.2.2.2.2.2.2.2.2.2.2.2.2.2.2.2.2.2.2.2.2.2.2.2.2.2.2.2.2.2.2.2.2.1
theorem dX2_isOn_62 : decode cX2_isOn 62 = .ok (.iconst 0, 1) := DX2_isOn.2.2.2.2.2.2.2.2.2.2.2.2.2.2.2.2.2.2.2.2.2.2.2.2.2.2.2.2.2.2.2.2.2.1
theorem dX2_isOn_63 : decode cX2_isOn 63 = .ok (.istore 7, 2) := DX2_isOn.2.2.2.2.2.2.2.2.2.2.2.2.2.2.2.2.2.2.2.2.2.2.2.2.2.2.2.2.2.2.2.2.2.2.1
theorem dX2_isOn_65 : decode cX2_isOn 65 = .ok (.iload_n 1, 1) := DX2_isOn.2.2.2.2.2.2.2.2.2.2.2.2.2.2.2.2.2.2.2.2.2.2.2.2.2.2.2.2.2.2.2.2.2.2.2.1
theorem dX2_isOn_66 : decode cX2_isOn 66 = .ok (.iload_n 3, 1) := DX2_isOn.2.2.2.2.2.2.2.2.2.2.2.2.2.2.2.2.2.2.2.2.2.2.2.2.2.2.2.2.2.2.2.2.2.2.2.2.1
theorem dX2_isOn_67 : decode cX2_isOn 67 = .ok (.if_icmp .ge 23, 3) := DX2_isOn.2.2.2.2.2.2.2.2.2.2.2.2.2.2.2.2.2.2.2.2.2.2.2.2.2.2.2.2.2.2.2.2.2.2.2.2.2.1
theorem dX2_isOn_70 : decode cX2_isOn 70 = .ok (.iload 5, 2) := DX2_isOn.2.2.2.2.2.2.2.2.2.2.2.2.2.2.2.2.2.2.2.2.2.2.2.2.2.2.2.2.2.2.2.2.2.2.2.2.2.2.1
theorem dX2_isOn_72 : decode cX2_isOn 72 = .ok (.iload_n 1, 1) := DX2_isOn.2.2.2.2.2.2.2.2.2.2.2.2.2.2.2.2.2.2.2.2.2.2.2.2.2.2.2.2.2.2.2.2.2.2.2.2.2.2.2.1
theorem dX2_isOn_73 : decode cX2_isOn 73 = .ok (.if_icmp .lt 13, 3) := DX2_isOn.2.2.2.2.2.2.2.2.2.2.2.2.2.2.2.2.2.2.2.2.2.2.2.2.2.2.2.2.2.2.2.2.2.2.2.2.2.2.2.2.1
theorem dX2_isOn_76 : decode cX2_isOn 76 = .ok (.iload 5, 2) := DX2_isOn.2.2.2.2.2.2.2.2.2.2.2.2.2.2.2.2.2.2.2.2.2.2.2.2.2.2.2.2.2.2.2.2.2.2.2.2.2.2.2.2.2.1
theorem dX2_isOn_78 : decode cX2_isOn 78 = .ok (.iload_n 3, 1) := DX2_isOn.2.2.2.2.2.2.2.2.2.2.2.2.2.2.2.2.2.2.2.2.2.2.2.2.2.2.2.2.2.2.2.2.2.2.2.2.2.2.2.2.2.2.1
theorem dX2_isOn_79 : decode cX2_isOn 79 = .ok (.if_icmp .gt 7, 3) := DX2_isOn.2.2.2.2.2.2.2.2.2.2.2.2.2.2.2.2.2.2.2.2.2.2.2.2.2.2.2.2.2.2.2.2.2.2.2.2.2.2.2.2.2.2.2.1
theorem dX2_isOn_82 : decode cX2_isOn 82 = .ok (.iconst 1, 1) := DX2_isOn.2.2.2.2.2.2.2.2.2.2.2.2.2.2.2.2.2.2.2.2.2.2.2.2.2.2.2.2.2.2.2.2.2.2.2.2.2.2.2.2.2.2.2.2.1
theorem dX2_isOn_83 : decode cX2_isOn 83 = .ok (.goto 24, 3) := DX2_isOn.2.2.2.2.2.2.2.2.2.2.2.2.2.2.2.2.2.2.2.2.2.2.2.2.2.2.2.2.2.2.2.2.2.2.2.2.2.2.2.2.2.2.2.2.2.1
theorem dX2_isOn_86 : decode cX2_isOn 86 = .ok (.iconst 0, 1) := DX2_isOn.2.2.2.2.2.2.2.2.2.2.2.2.2.2.2.2.2.2.2.2.2.2.2.2.2.2.2.2.2.2.2.2.2.2.2.2.2.2.2.2.2.2.2.2.2.2.1
theorem dX2_isOn_87 : decode cX2_isOn 87 = .ok (.goto 20, 3) := DX2_isOn.2.2.2.2.2.2.2.2.2.2.2.2.2.2.2.2.2.2.2.2.2.2.2.2.2.2.2.2.2.2.2.2.2.2.2.2.2.2.2.2.2.2.2.2.2.2.2.1
theorem dX2_isOn_90 : decode cX2_isOn 90 = .ok (.iload 5, 2) := DX2_isOn.2.2.2.2.2.2.2.2.2.2.2.2.2.2.2.2.2.2.2.2.2.2.2.2.2.2.2.2.2.2.2.2.2.2.2.2.2.2.2.2.2.2.2.2.2.2.2.2.1
theorem dX2_isOn_92 : decode cX2_isOn 92 = .ok (.iload_n 3, 1) := DX2_isOn.2.2.2.2.2.2.2.2.2.2.2.2.2.2.2.2.2.2.2.2.2.2.2.2.2.2.2.2.2.2.2.2.2.2.2.2.2.2.2.2.2.2.2.2.2.2.2.2.2.1
theorem dX2_isOn_93 : decode cX2_isOn 93 = .ok (.if_icmp .lt 13, 3) := DX2_isOn.2.2.2.2.2.2.2.2.2.2.2.2.2.2.2.2.2.2.2.2.2.2.2.2.2.2.2.2.2.2.2.2.2.2.2.2.2.2.2.2.2.2.2.2.2.2.2.2.2.2.1
theorem dX2_isOn_96 : decode cX2_isOn 96 = .ok (.iload 5, 2) := DX2_isOn.2.2.2.2.2.2.2.2.2.2.2.2.2.2.2.2.2.2.2.2.2.2.2.2.2.2.2.2.2.2.2.2.2.2.2.2.2.2.2.2.2.2.2.2.2.2.2.2.2.2.2.1
theorem dX2_isOn_98 : decode cX2_isOn 98 = .ok (.iload_n 1, 1) := DX2_isOn.2.2.2.2.2.2.2.2.2.2.2.2.2.2.2.2.2.2.2.2.2.2.2.2.2.2.2.2.2.2.2.2.2.2.2.2.2.2.2.2.2.2.2.2.2.2.2.2.2.2.2.2.1
theorem dX2_isOn_99 : decode cX2_isOn 99 = .ok (.if_icmp .gt 7, 3) := DX2_isOn.2.2.2.2.2.2.2.2.2.2.2.2.2.2.2.2.2.2.2.2.2.2.2.2.2.2.2.2.2.2.2.2.2.2.2.2.2.2.2.2.2.2.2.2.2.2.2.2.2.2.2.2.2.1
theorem dX2_isOn_102 : decode cX2_isOn 102 = .ok (.iconst 1, 1) := DX2_isOn.2.2.2.2.2.2.2.2.2.2.2.2.2.2.2.2.2.2.2.2.2.2.2.2.2.2.2.2.2.2.2.2.2.2.2.2.2.2.2.2.2.2.2.2.2.2.2.2.2.2.2.2.2.2.1
theorem dX2_isOn_103 : decode cX2_isOn 103 = .ok (.goto 4, 3) := DX2_isOn.2.2.2.2.2.2.2.2.2.2.2.2.2.2.2.2.2.2.2.2.2.2.2.2.2.2.2.2.2.2.2.2.2.2.2.2.2.2.2.2.2.2.2.2.2.2.2.2.2.2.2.2.2.2.2.1
theorem dX2_isOn_106 : decode cX2_isOn 106 = .ok (.iconst 0, 1) := DX2_isOn.2.2.2.2.2.2.2.2.2.2.2.2.2.2.2.2.2.2.2.2.2.2.2.2.2.2.2.2.2.2.2.2.2.2.2.2.2.2.2.2.2.2.2.2.2.2.2.2.2.2.2.2.2.2.2.2.1
theorem dX2_isOn_107 : decode cX2_isOn 107 = .ok (.istore 8, 2) := DX2_isOn.2.2.2.2.2.2.2.2.2.2.2.2.2.2.2.2.2.2.2.2.2.2.2.2.2.2.2.2.2.2.2.2.2.2.2.2.2.2.2.2.2.2.2.2.2.2.2.2.2.2.2.2.2.2.2.2.2.1
theorem dX2_isOn_109 : decode cX2_isOn 109 = .ok (.iload 6, 2) := DX2_isOn.2.2.2.2.2.2.2.2.2.2.2.2.2.2.2.2.2.2.2.2.2.2.2.2.2.2.2.2.2.2.2.2.2.2.2.2.2.2.2.2.2.2.2.2.2.2.2.2.2.2.2.2.2.2.2.2.2.2.1
theorem dX2_isOn_111 : decode cX2_isOn 111 = .ok (.ifCond .eq 17, 3) := DX2_isOn.2.2.2.2.2.2.2.2.2.2.2.2.2.2.2.2.2.2.2.2.2.2.2.2.2.2.2.2.2.2.2.2.2.2.2.2.2.2.2.2.2.2.2.2.2.2.2.2.2.2.2.2.2.2.2.2.2.2.2.1
theorem dX2_isOn_114 : decode cX2_isOn 114 = .ok (.iload 7, 2) := DX2_isOn.2.2.2.2.2.2.2.2.2.2.2.2.2.2.2.2.2.2.2.2.2.2.2.2.2.2.2.2.2.2.2.2.2.2.2.2.2.2.2.2.2.2.2.2.2.2.2.2.2.2.2.2.2.2.2.2.2.2.2.2.1
theorem dX2_isOn_116 : decode cX2_isOn 116 = .ok (.ifCond .eq 12, 3) := DX2_isOn.2.2.2.2.2.2.2.2.2.2.2.2.2.2.2.2.2.2.2.2.2.2.2.2.2.2.2.2.2.2.2.2.2.2.2.2.2.2.2.2.2.2.2.2.2.2.2.2.2.2.2.2.2.2.2.2.2.2.2.2.2.1
theorem dX2_isOn_119 : decode cX2_isOn 119 = .ok (.iload 8, 2) := DX2_isOn.2.2.2.2.2.2.2.2.2.2.2.2.2.2.2.2.2.2.2.2.2.2.2.2.2.2.2.2.2.2.2.2.2.2.2.2.2.2.2.2.2.2.2.2.2.2.2.2.2.2.2.2.2.2.2.2.2.2.2.2.2.2.1
theorem dX2_isOn_121 : decode cX2_isOn 121 = .ok (.ifCond .eq 7, 3) := DX2_isOn.2.2.2.2.2.2.2.2.2.2.2.2.2.2.2.2.2.2.2.2.2.2.2.2.2.2.2.2.2.2.2.2.2.2.2.2.2.2.2.2.2.2.2.2.2.2.2.2.2.2.2.2.2.2.2.2.2.2.2.2.2.2.2.1
theorem dX2_isOn_124 : decode cX2_isOn 124 = .ok (.iconst 1, 1) := DX2_isOn.2.2.2.2.2.2.2.2.2.2.2.2.2.2.2.2.2.2.2.2.2.2.2.2.2.2.2.2.2.2.2.2.2.2.2.2.2.2.2.2.2.2.2.2.2.2.2.2.2.2.2.2.2.2.2.2.2.2.2.2.2.2.2.2.1
theorem dX2_isOn_125 : decode cX2_isOn 125 = .ok (.goto 4, 3) := DX2_isOn.2.2.2.2.2.2.2.2.2.2.2.2.2.2.2.2.2.2.2.2.2.2.2.2.2.2.2.2.2.2.2.2.2.2.2.2.2.2.2.2.2.2.2.2.2.2.2.2.2.2.2.2.2.2.2.2.2.2.2.2.2.2.2.2.2.1
theorem dX2_isOn_128 : decode cX2_isOn 128 = .ok (.iconst 0, 1) := DX2_isOn.2.2.2.2.2.2.2.2.2.2.2.2.2.2.2.2.2.2.2.2.2.2.2.2.2.2.2.2.2.2.2.2.2.2.2.2.2.2.2.2.2.2.2.2.2.2.2.2.2.2.2.2.2.2.2.2.2.2.2.2.2.2.2.2.2.2.1
theorem dX2_isOn_129 : decode cX2_isOn 129 = .ok (.ireturn, 1) := DX2_isOn.2.2.2.2.2.2.2.2.2.2.2.2.2.2.2.2.2.2.2.2.2.2.2.2.2.2.2.2.2.2.2.2.2.2.2.2.2.2.2.2.2.2.2.2.2.2.2.2.2.2.2.2.2.2.2.2.2.2.2.2.2.2.2.2.2.2.2
theorem dX2_side_0 : decode cX2_side 0 = .ok (.iload_n 2, 1) := DX2_side.1
theorem dX2_side_1 : decode cX2_side 1 = .ok (.iload_n 0, 1) := DX2_side.2.1
theorem dX2_side_2 : decode cX2_side 2 = .ok (.isub, 1) := DX2_side.2.2.1
theorem dX2_side_3 : decode cX2_side 3 = .ok (.i2l, 1) := DX2_side.2.2.2.1
theorem dX2_side_4 : decode cX2_side 4 = .ok (.iload 5, 2) := DX2_side.2.2.2.2.1
theorem dX2_side_6 : decode cX2_side 6 = .ok (.iload_n 1, 1) := DX2_side.2.2.2.2.2.1
theorem dX2_side_7 : decode cX2_side 7 = .ok (.isub, 1) := DX2_side.2.2.2.2.2.2.1
theorem dX2_side_8 : decode cX2_side 8 = .ok (.i2l, 1) := DX2_side.2.2.2.2.2.2.2.1
theorem dX2_side_9 : decode cX2_side 9 = .ok (.lmul, 1) := DX2_side.2.2.2.2.2.2.2.2.1
theorem dX2_side_10 : decode cX2_side 10 = .ok (.iload_n 3, 1) := DX2_side.2.2.2.2.2.2.2.2.2.1
theorem dX2_side_11 : decode cX2_side 11 = .ok (.iload_n 1, 1) := DX2_side.2.2.2.2.2.2.2.2.2.2.1
theorem dX2_side_12 : decode cX2_side 12 = .ok (.isub, 1) := DX2_side.2.2.2.2.2.2.2.2.2.2.2.1
theorem dX2_side_13 : decode cX2_side 13 = .ok (.i2l, 1) := DX2_side.2.2.2.2.2.2.2.2.2.2.2.2.1
theorem dX2_side_14 : decode cX2_side 14 = .ok (.iload 4, 2) := DX2_side.2.2.2.2.2.2.2.2.2.2.2.2.2.1
theorem dX2_side_16 : decode cX2_side 16 = .ok (.iload_n 0, 1) := DX2_side.2.2.2.2.2.2.2.2.2.2.2.2.2.2.1
theorem dX2_side_17 : decode cX2_side 17 = .ok (.isub, 1) := DX2_side.2.2.2.2.2.2.2.2.2.2.2.2.2.2.2.1
theorem dX2_side_18 : decode cX2_side 18 = .ok (.i2l, 1) := DX2_side.2.2.2.2.2.2.2.2.2.2.2.2.2.2.2.2.1
theorem dX2_side_19 : decode cX2_side 19 = .ok (.lmul, 1) := DX2_side.2.2.2.2.2.2.2.2.2.2.2.2.2.2.2.2.2.1
theorem dX2_side_20 : decode cX2_side 20 = .ok (.lsub, 1) := DX2_side.2.2.2.2.2.2.2.2.2.2.2.2.2.2.2.2.2.2.1
theorem dX2_side_21 : decode cX2_side 21 = .ok (.invokestatic 49, 3) := DX2_side.2.2.2.2.2.2.2.2.2.2.2.2.2.2.2.2.2.2.2.1
theorem dX2_side_24 : decode cX2_side 24 = .ok (.ireturn, 1) := DX2_side.2.2.2.2.2.2.2.2.2.2.2.2.2.2.2.2.2.2.2.2
theorem dX2_sign_0 : decode cX2_sign 0 = .ok (.lload_n 0, 1) := DX2_sign.1
theorem dX2_sign_1 : decode cX2_sign 1 = .ok (.lconst 0, 1) := DX2_sign.2.1
theorem dX2_sign_2 : decode cX2_sign 2 = .ok (.lcmp, 1) := DX2_sign.2.2.1
theorem dX2_sign_3 : decode cX2_sign 3 = .ok (.ifCond .le 7, 3) := DX2_sign.2.2.2.1
theorem dX2_sign_6 : decode cX2_sign 6 = .ok (.iconst 1, 1) := DX2_sign.2.2.2.2.1
theorem dX2_sign_7 : decode cX2_sign 7 = .ok (.goto 14, 3) := DX2_sign.2.2.2.2.2.1
theorem dX2_sign_10 : decode cX2_sign 10 = .ok (.lload_n 0, 1) := DX2_sign.2.2.2.2.2.2.1
theorem dX2_sign_11 : decode cX2_sign 11 = .ok (.lconst 0, 1) := DX2_sign.2.2.2.2.2.2.2.1
theorem dX2_sign_12 : decode cX2_sign 12 = .ok (.lcmp, 1) := DX2_sign.2.2.2.2.2.2.2.2.1
theorem dX2_sign_13 : decode cX2_sign 13 = .ok (.ifCond .ge 7, 3) := DX2_sign.2.2.2.2.2.2.2.2.2.1
theorem dX2_sign_16 : decode cX2_sign 16 = .ok (.iconst (-1), 1) := DX2_sign.2.2.2.2.2.2.2.2.2.2.1
theorem dX2_sign_17 : decode cX2_sign 17 = .ok (.goto 4, 3) := DX2_sign.2.2.2.2.2.2.2.2.2.2.2.1
theorem dX2_sign_20 : decode cX2_sign 20 = .ok (.iconst 0, 1) := DX2_sign.2.2.2.2.2.2.2.2.2.2.2.2.1
theorem dX2_sign_21 : decode cX2_sign 21 = .ok (.ireturn, 1) := DX2_sign.2.2.2.2.2.2.2.2.2.2.2.2.2
theorem dX2_remove_0 : decode cX2_remove 0 = .ok (.aload_n 0, 1) := DX2_remove.1
theorem dX2_remove_1 : decode cX2_remove 1 = .ok (.iconst 0, 1) := DX2_remove.2.1
theorem dX2_remove_2 : decode cX2_remove 2 = .ok (.putfield 45, 3) := DX2_remove.2.2.1
theorem dX2_remove_5 : decode cX2_remove 5 = .ok (.iload_n 1, 1) := DX2_remove.2.2.2.1
theorem dX2_remove_6 : decode cX2_remove 6 = .ok (.ifCond .lt 22, 3) := DX2_remove.2.2.2.2.1
theorem dX2_remove_9 : decode cX2_remove 9 = .ok (.iload_n 1, 1) := DX2_remove.2.2.2.2.2.1
theorem dX2_remove_10 : decode cX2_remove 10 = .ok (.bipush 60, 2) := DX2_remove.2.2.2.2.2.2.1
theorem dX2_remove_12 : decode cX2_remove 12 = .ok (.if_icmp .ge 16, 3) := DX2_remove.2.2.2.2.2.2.2.1
theorem dX2_remove_15 : decode cX2_remove 15 = .ok (.aload_n 0, 1) := DX2_remove.2.2.2.2.2.2.2.2.1
theorem dX2_remove_16 : decode cX2_remove 16 = .ok (.getfield 7, 3) := DX2_remove.2.2.2.2.2.2.2.2.2.1
theorem dX2_remove_19 : decode cX2_remove 19 = .ok (.iload_n 1, 1) := DX2_remove.2.2.2.2.2.2.2.2.2.2.1
theorem dX2_remove_20 : decode cX2_remove 20 = .ok (.baload, 1) := DX2_remove.2.2.2.2.2.2.2.2.2.2.2.1
theorem dX2_remove_21 : decode cX2_remove 21 = .ok (.ifCond .eq 7, 3) := DX2_remove.2.2.2.2.2.2.2.2.2.2.2.2.1
theorem dX2_remove_24 : decode cX2_remove 24 = .ok (.iconst 1, 1) := DX2_remove.2.2.2.2.2.2.2.2.2.2.2.2.2.1
theorem dX2_remove_25 : decode cX2_remove 25 = .ok (.goto 4, 3) := DX2_remove.2.2.2.2.2.2.2.2.2.2.2.2.2.2.1
theorem dX2_remove_28 : decode cX2_remove 28 = .ok (.iconst 0, 1) := DX2_remove.2.2.2.2.2.2.2.2.2.2.2.2.2.2.2.1
theorem dX2_remove_29 : decode cX2_remove 29 = .ok (.istore_n 2, 1) := DX2_remove.2.2.2.2.2.2.2.2.2.2.2.2.2.2.2.2.1
theorem dX2_remove_30 : decode cX2_remove 30 = .ok (.iload_n 2, 1) := DX2_remove.2.2.2.2.2.2.2.2.2.2.2.2.2.2.2.2.2.1
theorem dX2_remove_31 : decode cX2_remove 31 = .ok (.ifCond .eq 15, 3) := DX2_remove.2.2.2.2.2.2.2.2.2.2.2.2.2.2.2.2.2.2.1
theorem dX2_remove_34 : decode cX2_remove 34 = .ok (.aload_n 0, 1) := DX2_remove.2.2.2.2.2.2.2.2.2.2.2.2.2.2.2.2.2.2.2.1
theorem dX2_remove_35 : decode cX2_remove 35 = .ok (.getfield 7, 3) := DX2_remove.2.2.2.2.2.2.2.2.2.2.2.2.2.2.2.2.2.2.2.2.1
theorem dX2_remove_38 : decode cX2_remove 38 = .ok (.iload_n 1, 1) := DX2_remove.2.2.2.2.2.2.2.2.2.2.2.2.2.2.2.2.2.2.2.2.2.1
theorem dX2_remove_39 : decode cX2_remove 39 = .ok (.iconst 0, 1) := DX2_remove.2.2.2.2.2.2.2.2.2.2.2.2.2.2.2.2.2.2.2.2.2.2.1
theorem dX2_remove_40 : decode cX2_remove 40 = .ok (.bastore, 1) := DX2_remove.2.2.2.2.2.2.2.2.2.2.2.2.2.2.2.2.2.2.2.2.2.2.2.1
theorem dX2_remove_41 : decode cX2_remove 41 = .ok (.aload_n 0, 1) := DX2_remove.2.2.2.2.2.2.2.2.2.2.2.2.2.2.2.2.2.2.2.2.2.2.2.2.1
theorem dX2_remove_42 : decode cX2_remove 42 = .ok (.iconst 0, 1) := DX2_remove.2.2.2.2.2.2.2.2.2.2.2.2.2.2.2.2.2.2.2.2.2.2.2.2.2.1
theorem dX2_remove_43 : decode cX2_remove 43 = .ok (.putfield 76, 3) := DX2_remove.2.2.2.2.2.2.2.2.2.2.2.2.2.2.2.2.2.2.2.2.2.2.2.2.2.2.1
theorem dX2_remove_46 : decode cX2_remove 46 = .ok (.iload_n 2, 1) := DX2_remove.2.2.2.2.2.2.2.2.2.2.2.2.2.2.2.2.2.2.2.2.2.2.2.2.2.2.2.1
theorem dX2_remove_47 : decode cX2_remove 47 = .ok (.ireturn, 1) := DX2_remove.2.2.2.2.2.2.2.2.2.2.2.2.2.2.2.2.2.2.2.2.2.2.2.2.2.2.2.2
theorem dX2_clear_0 : decode cX2_clear 0 = .ok (.aload_n 0, 1) := DX2_clear.1
theorem dX2_clear_1 : decode cX2_clear 1 = .ok (.iconst 0, 1) := DX2_clear.2.1
theorem dX2_clear_2 : decode cX2_clear 2 = .ok (.putfield 45, 3) := DX2_clear.2.2.1
theorem dX2_clear_5 : decode cX2_clear 5 = .ok (.iconst 0, 1) := DX2_clear.2.2.2.1
theorem dX2_clear_6 : decode cX2_clear 6 = .ok (.istore_n 1, 1) := DX2_clear.2.2.2.2.1
theorem dX2_clear_7 : decode cX2_clear 7 = .ok (.iconst 0, 1) := DX2_clear.2.2.2.2.2.1
theorem dX2_clear_8 : decode cX2_clear 8 = .ok (.istore_n 2, 1) := DX2_clear.2.2.2.2.2.2.1
theorem dX2_clear_9 : decode cX2_clear 9 = .ok (.iload_n 2, 1) := DX2_clear.2.2.2.2.2.2.2.1
theorem dX2_clear_10 : decode cX2_clear 10 = .ok (.bipush 60, 2) := DX2_clear.2.2.2.2.2.2.2.2.1
theorem dX2_clear_12 : decode cX2_clear 12 = .ok (.if_icmp .ge 33, 3) := DX2_clear.2.2.2.2.2.2.2.2.2.1
theorem dX2_clear_15 : decode cX2_clear 15 = .ok (.aload_n 0, 1) := DX2_clear.2.2.2.2.2.2.2.2.2.2.1
theorem dX2_clear_16 : decode cX2_clear 16 = .ok (.getfield 7, 3) := DX2_clear.2.2.2.2.2.2.2.2.2.2.2.1
theorem dX2_clear_19 : decode cX2_clear 19 = .ok (.iload_n 2, 1) := DX2_clear.2.2.2.2.2.2.2.2.2.2.2.2.1
theorem dX2_clear_20 : decode cX2_clear 20 = .ok (.baload, 1) := DX2_clear.2.2.2.2.2.2.2.2.2.2.2.2.2.1
theorem dX2_clear_21 : decode cX2_clear 21 = .ok (.ifCond .eq 9, 3) := DX2_clear.2.2.2.2.2.2.2.2.2.2.2.2.2.2.1
theorem dX2_clear_24 : decode cX2_clear 24 = .ok (.iload_n 1, 1) := DX2_clear.2.2.2.2.2.2.2.2.2.2.2.2.2.2.2.1
theorem dX2_clear_25 : decode cX2_clear 25 = .ok (.iconst 1, 1) := DX2_clear.2.2.2.2.2.2.2.2.2.2.2.2.2.2.2.2.1
theorem dX2_clear_26 : decode cX2_clear 26 = .ok (.iadd, 1) := DX2_clear.2.2.2.2.2.2.2.2.2.2.2.2.2.2.2.2.2.1
theorem dX2_clear_27 : decode cX2_clear 27 = .ok (.goto 4, 3) := DX2_clear.2.2.2.2.2.2.2.2.2.2.2.2.2.2.2.2.2.2.1
theorem dX2_clear_30 : decode cX2_clear 30 = .ok (.iload_n 1, 1) := DX2_clear.2.2.2.2.2.2.2.2.2.2.2.2.2.2.2.2.2.2.2.1
theorem dX2_clear_31 : decode cX2_clear 31 = .ok (.istore_n 1, 1) := DX2_clear.2.2.2.2.2.2.2.2.2.2.2.2.2.2.2.2.2.2.2.2.1
theorem dX2_clear_32 : decode cX2_clear 32 = .ok (.aload_n 0, 1) := DX2_clear.2.2.2.2.2.2.2.2.2.2.2.2.2.2.2.2.2.2.2.2.2.1
theorem dX2_clear_33 : decode cX2_clear 33 = .ok (.getfield 7, 3) := DX2_clear.2.2.2.2.2.2.2.2.2.2.2.2.2.2.2.2.2.2.2.2.2.2.1
theorem dX2_clear_36 : decode cX2_clear 36 = .ok (.iload_n 2, 1) := DX2_clear.2.2.2.2.2.2.2.2.2.2.2.2.2.2.2.2.2.2.2.2.2.2.2.1
theorem dX2_clear_37 : decode cX2_clear 37 = .ok (.iconst 0, 1) := DX2_clear.2.2.2.2.2.2.2.2.2.2.2.2.2.2.2.2.2.2.2.2.2.2.2.2.1
theorem dX2_clear_38 : decode cX2_clear 38 = .ok (.bastore, 1) := DX2_clear.2.2.2.2.2.2.2.2.2.2.2.2.2.2.2.2.2.2.2.2.2.2.2.2.2.1
theorem dX2_clear_39 : decode cX2_clear 39 = .ok (.iinc 2 1, 3) := DX2_clear.2.2.2.2.2.2.2.2.2.2.2.2.2.2.2.2.2.2.2.2.2.2.2.2.2.2.1
theorem dX2_clear_42 : decode cX2_clear 42 = .ok (.goto (-33), 3) := DX2_clear.2.2.2.2.2.2.2.2.2.2.2.2.2.2.2.2.2.2.2.2.2.2.2.2.2.2.2.1
theorem dX2_clear_45 : decode cX2_clear 45 = .ok (.aload_n 0, 1) := DX2_clear.2.2.2.2.2.2.2.2.2.2.2.2.2.2.2.2.2.2.2.2.2.2.2.2.2.2.2.2.1
theorem dX2_clear_46 : decode cX2_clear 46 = .ok (.iconst 0, 1) := DX2_clear.2.2.2.2.2.2.2.2.2.2.2.2.2.2.2.2.2.2.2.2.2.2.2.2.2.2.2.2.2.1
theorem dX2_clear_47 : decode cX2_clear 47 = .ok (.putfield 76, 3) := DX2_clear.2.2.2.2.2.2.2.2.2.2.2.2.2.2.2.2.2.2.2.2.2.2.2.2.2.2.2.2.2.2.1
theorem dX2_clear_50 : decode cX2_clear 50 = .ok (.iload_n 1, 1) := DX2_clear.2.2.2.2.2.2.2.2.2.2.2.2.2.2.2.2.2.2.2.2.2.2.2.2.2.2.2.2.2.2.2.1
theorem dX2_clear_51 : decode cX2_clear 51 = .ok (.ireturn, 1) := DX2_clear.2.2.2.2.2.2.2.2.2.2.2.2.2.2.2.2.2.2.2.2.2.2.2.2.2.2.2.2.2.2.2.2
theorem dX2_count_0 : decode cX2_count 0 = .ok (.aload_n 0, 1) := DX2_count.1
theorem dX2_count_1 : decode cX2_count 1 = .ok (.iconst 0, 1) := DX2_count.2.1
theorem dX2_count_2 : decode cX2_count 2 = .ok (.putfield 45, 3) := DX2_count.2.2.1
theorem dX2_count_5 : decode cX2_count 5 = .ok (.aload_n 0, 1) := DX2_count.2.2.2.1
theorem dX2_count_6 : decode cX2_count 6 = .ok (.invokevirtual 125, 3) := DX2_count.2.2.2.2.1
theorem dX2_count_9 : decode cX2_count 9 = .ok (.iload_n 1, 1) := DX2_count.2.2.2.2.2.1
theorem dX2_count_10 : decode cX2_count 10 = .ok (.iconst 2, 1) := DX2_count.2.2.2.2.2.2.1
theorem dX2_count_11 : decode cX2_count 11 = .ok (.if_icmp .eq 13, 3) := DX2_count.2.2.2.2.2.2.2.1
theorem dX2_count_14 : decode cX2_count 14 = .ok (.iload_n 1, 1) := DX2_count.2.2.2.2.2.2.2.2.1
theorem dX2_count_15 : decode cX2_count 15 = .ok (.iconst 3, 1) := DX2_count.2.2.2.2.2.2.2.2.2.1
theorem dX2_count_16 : decode cX2_count 16 = .ok (.if_icmp .eq 8, 3) := DX2_count.2.2.2.2.2.2.2.2.2.2.1
theorem dX2_count_19 : decode cX2_count 19 = .ok (.iload_n 1, 1) := DX2_count.2.2.2.2.2.2.2.2.2.2.2.1
theorem dX2_count_20 : decode cX2_count 20 = .ok (.iconst 5, 1) := DX2_count.2.2.2.2.2.2.2.2.2.2.2.2.1
theorem dX2_count_21 : decode cX2_count 21 = .ok (.if_icmp .ne 32, 3) := DX2_count.2.2.2.2.2.2.2.2.2.2.2.2.2.1
theorem dX2_count_24 : decode cX2_count 24 = .ok (.iload_n 1, 1) := DX2_count.2.2.2.2.2.2.2.2.2.2.2.2.2.2.1
theorem dX2_count_25 : decode cX2_count 25 = .ok (.iconst 2, 1) := DX2_count.2.2.2.2.2.2.2.2.2.2.2.2.2.2.2.1
theorem dX2_count_26 : decode cX2_count 26 = .ok (.if_icmp .ne 10, 3) := DX2_count.2.2.2.2.2.2.2.2.2.2.2.2.2.2.2.2.1
theorem dX2_count_29 : decode cX2_count 29 = .ok (.aload_n 0, 1) := DX2_count.2.2.2.2.2.2.2.2.2.2.2.2.2.2.2.2.2.1
theorem dX2_count_30 : decode cX2_count 30 = .ok (.getfield 118, 3) := DX2_count.2.2.2.2.2.2.2.2.2.2.2.2.2.2.2.2.2.2.1
theorem dX2_count_33 : decode cX2_count 33 = .ok (.goto 19, 3) := DX2_count.2.2.2.2.2.2.2.2.2.2.2.2.2.2.2.2.2.2.2.1
theorem dX2_count_36 : decode cX2_count 36 = .ok (.iload_n 1, 1) := DX2_count.2.2.2.2.2.2.2.2.2.2.2.2.2.2.2.2.2.2.2.2.1
theorem dX2_count_37 : decode cX2_count 37 = .ok (.iconst 3, 1) := DX2_count.2.2.2.2.2.2.2.2.2.2.2.2.2.2.2.2.2.2.2.2.2.1
theorem dX2_count_38 : decode cX2_count 38 = .ok (.if_icmp .ne 10, 3) := DX2_count.2.2.2.2.2.2.2.2.2.2.2.2.2.2.2.2.2.2.2.2.2.2.1
theorem dX2_count_41 : decode cX2_count 41 = .ok (.aload_n 0, 1) := DX2_count.2.2.2.2.2.2.2.2.2.2.2.2.2.2.2.2.2.2.2.2.2.2.2.1
theorem dX2_count_42 : decode cX2_count 42 = .ok (.getfield 101, 3) := DX2_count.2.2.2.2.2.2.2.2.2.2.2.2.2.2.2.2.2.2.2.2.2.2.2.2.1
theorem dX2_count_45 : decode cX2_count 45 = .ok (.goto 7, 3) := DX2_count.2.2.2.2.2.2.2.2.2.2.2.2.2.2.2.2.2.2.2.2.2.2.2.2.2.1
theorem dX2_count_48 : decode cX2_count 48 = .ok (.aload_n 0, 1) := DX2_count.2.2.2.2.2.2.2.2.2.2.2.2.2.2.2.2.2.2.2.2.2.2.2.2.2.2.1
theorem dX2_count_49 : decode cX2_count 49 = .ok (.getfield 95, 3) := DX2_count.2.2.2.2.2.2.2.2.2.2.2.2.2.2.2.2.2.2.2.2.2.2.2.2.2.2.2.1
theorem dX2_count_52 : decode cX2_count 52 = .ok (.ireturn, 1) := DX2_count.2.2.2.2.2.2.2.2.2.2.2.2.2.2.2.2.2.2.2.2.2.2.2.2.2.2.2.2.1
theorem dX2_count_53 : decode cX2_count 53 = .ok (.iconst 0, 1) := DX2_count.2.2.2.2.2.2.2.2.2.2.2.2.2.2.2.2.2.2.2.2.2.2.2.2.2.2.2.2.2.1
theorem dX2_count_54 : decode cX2_count 54 = .ok (.istore_n 2, 1) := DX2_count.2.2.2.2.2.2.2.2.2.2.2.2.2.2.2.2.2.2.2.2.2.2.2.2.2.2.2.2.2.2.1
theorem dX2_count_55 : decode cX2_count 55 = .ok (.iconst 0, 1) := DX2_count.2.2.2.2.2.2.2.2.2.2.2.2.2.2.2.2.2.2.2.2.2.2.2.2.2.2.2.2.2.2.2.1
theorem dX2_count_56 : decode cX2_count 56 = .ok (.istore_n 3, 1) := DX2_count.2.2.2.2.2.2.2.2.2.2.2.2.2.2.2.2.2.2.2.2.2.2.2.2.2.2.2.2.2.2.2.2.1
theorem dX2_count_57 : decode cX2_count 57 = .ok (.iload_n 3, 1) := DX2_count.2.2.2.2.2.2.2.2.2.2.2.2.2.2.2.2.2.2.2.2.2.2.2.2.2.2.2.2.2.2.2.2.2.1
theorem dX2_count_58 : decode cX2_count 58 = .ok (.bipush 120, 2) := DX2_count.2.2.2.2.2.2.2.2.2.2.2.2.2.2.2.2.2.2.2.2.2.2.2.2.2.2.2.2.2.2.2.2.2.2.1
theorem dX2_count_60 : decode cX2_count 60 = .ok (.if_icmp .ge 126, 3) := DX2_count.2.2.2.2.2.2.2.2.2.2.2.2.2.2.2.2.2.2.2.2.2.2.2.2.2.2.2.2.2.2.2.2.2.2.2.1
theorem dX2_count_63 : decode cX2_count 63 = .ok (.aload_n 0, 1) := DX2_count.2.2.2.2.2.2.2.2.2.2.2.2.2.2.2.2.2.2.2.2.2.2.2.2.2.2.2.2.2.2.2.2.2.2.2.2.1
theorem dX2_count_64 : decode cX2_count 64 = .ok (.getfield 7, 3) := DX2_count.2.2.2.2.2.2.2.2.2.2.2.2.2.2.2.2.2.2.2.2.2.2.2.2.2.2.2.2.2.2.2.2.2.2.2.2.2.1
theorem dX2_count_67 : decode cX2_count 67 = .ok (.iload_n 3, 1) := DX2_count.2.2.2.2.2.2.2.2.2.2.2.2.2.2.2.2.2.2.2.2.2.2.2.2.2.2.2.2.2.2.2.2.2.2.2.2.2.2.1
theorem dX2_count_68 : decode cX2_count 68 = .ok (.iconst 2, 1) := DX2_count.2.2.2.2.2.2.2.2.2.2.2.2.2.2.2.2.2.2.2.2.2.2.2.2.2.2.2.2.2.2.2.2.2.2.2.2.2.2.2.1
theorem dX2_count_69 : decode cX2_count 69 = .ok (.idiv, 1) := DX2_count.2.2.2.2.2.2.2.2.2.2.2.2.2.2.2.2.2.2.2.2.2.2.2.2.2.2.2.2.2.2.2.2.2.2.2.2.2.2.2.2.1
theorem dX2_count_70 : decode cX2_count 70 = .ok (.baload, 1) := DX2_count.2.2.2.2.2.2.2.2.2.2.2.2.2.2.2.2.2.2.2.2.2.2.2.2.2.2.2.2.2.2.2.2.2.2.2.2.2.2.2.2.2.1
theorem dX2_count_71 : decode cX2_count 71 = .ok (.ifCond .eq 109, 3) := DX2_count.2.2.2.2.2.2.2.2.2.2.2.2.2.2.2.2.2.2.2.2.2.2.2.2.2.2.2.2.2.2.2.2.2.2.2.2.2.2.2.2.2.2.1
theorem dX2_count_74 : decode cX2_count 74 = .ok (.iconst 1, 1) := DX2_count.2.2.2.2.2.2.2.2.2.2.2.2.2.2.2.2.2.2.2.2.2.2.2.2.2.2.2.2.2.2.2.2.2.2.2.2.2.2.2.2.2.2.2.1
theorem dX2_count_75 : decode cX2_count 75 = .ok (.istore 4, 2) := DX2_count.2.2.2.2.2.2.2.2.2.2.2.2.2.2.2.2.2.2.2.2.2.2.2.2.2.2.2.2.2.2.2.2.2.2.2.2.2.2.2.2.2.2.2.2.1
theorem dX2_count_77 : decode cX2_count 77 = .ok (.iconst 0, 1) := DX2_count.2.2.2.2.2.2.2.2.2.2.2.2.2.2.2.2.2.2.2.2.2.2.2.2.2.2.2.2.2.2.2.2.2.2.2.2.2.2.2.2.2.2.2.2.2.1
theorem dX2_count_78 : decode cX2_count 78 = .ok (.istore 5, 2) := DX2_count.2.2.2.2.2.2.2.2.2.2.2.2.2.2.2.2.2.2.2.2.2.2.2.2.2.2.2.2.2.2.2.2.2.2.2.2.2.2.2.2.2.2.2.2.2.2.1
theorem dX2_count_80 : decode cX2_count 80 = .ok (.iload 5, 2) := DX2_count.2.2.2.2.2.2.2.2.2.2.2.2.2.2.2.2.2.2.2.2.2.2.2.2.2.2.2.2.2.2.2.2.2.2.2.2.2.2.2.2.2.2.2.2.2.2.2.1
theorem dX2_count_82 : decode cX2_count 82 = .ok (.iload_n 3, 1) := DX2_count.2.2.2.2.2.2.2.2.2.2.2.2.2.2.2.2.2.2.2.2.2.2.2.2.2.2.2.2.2.2.2.2.2.2.2.2.2.2.2.2.2.2.2.2.2.2.2.2.1
theorem dX2_count_83 : decode cX2_count 83 = .ok (.if_icmp .ge 42, 3) := DX2_count.2.2.2.2.2.2.2.2.2.2.2.2.2.2.2.2.2.2.2.2.2.2.2.2.2.2.2.2.2.2.2.2.2.2.2.2.2.2.2.2.2.2.2.2.2.2.2.2.2.1
theorem dX2_count_86 : decode cX2_count 86 = .ok (.iload 4, 2) := DX2_count.2.2.2.2.2.2.2.2.2.2.2.2.2.2.2.2.2.2.2.2.2.2.2.2.2.2.2.2.2.2.2.2.2.2.2.2.2.2.2.2.2.2.2.2.2.2.2.2.2.2.1
theorem dX2_count_88 : decode cX2_count 88 = .ok (.ifCond .eq 28, 3) := DX2_count.2.2.2.2.2.2.2.2.2.2.2.2.2.2.2.2.2.2.2.2.2.2.2.2.2.2.2.2.2.2.2.2.2.2.2.2.2.2.2.2.2.2.2.2.2.2.2.2.2.2.2.1
theorem dX2_count_91 : decode cX2_count 91 = .ok (.aload_n 0, 1) := DX2_count.2.2.2.2.2.2.2.2.2.2.2.2.2.2.2.2.2.2.2.2.2.2.2.2.2.2.2.2.2.2.2.2.2.2.2.2.2.2.2.2.2.2.2.2.2.2.2.2.2.2.2.2.1
theorem dX2_count_92 : decode cX2_count 92 = .ok (.iload 5, 2) := DX2_count.2.2.2.2.2.2.2.2.2.2.2.2.2.2.2.2.2.2.2.2.2.2.2.2.2.2.2.2.2.2.2.2.2.2.2.2.2.2.2.2.2.2.2.2.2.2.2.2.2.2.2.2.2.1
theorem dX2_count_94 : decode cX2_count 94 = .ok (.aload_n 0, 1) := DX2_count.2.2.2.2.2.2.2.2.2.2.2.2.2.2.2.2.2.2.2.2.2.2.2.2.2.2.2.2.2.2.2.2.2.2.2.2.2.2.2.2.2.2.2.2.2.2.2.2.2.2.2.2.2.2.1
theorem dX2_count_95 : decode cX2_count 95 = .ok (.getfield 13, 3) := DX2_count.2.2.2.2.2.2.2.2.2.2.2.2.2.2.2.2.2.2.2.2.2.2.2.2.2.2.2.2.2.2.2.2.2.2.2.2.2.2.2.2.2.2.2.2.2.2.2.2.2.2.2.2.2.2.2.1
theorem dX2_count_98 : decode cX2_count 98 = .ok (.iload_n 3, 1) := DX2_count.2.2.2.2.2.2.2.2.2.2.2.2.2.2.2.2.2.2.2.2.2.2.2.2.2.2.2.2.2.2.2.2.2.2.2.2.2.2.2.2.2.2.2.2.2.2.2.2.2.2.2.2.2.2.2.2.1
theorem dX2_count_99 : decode cX2_count 99 = .ok (.iaload, 1) := DX2_count.2.2.2.2.2.2.2.2.2.2.2.2.2.2.2.2.2.2.2.2.2.2.2.2.2.2.2.2.2.2.2.2.2.2.2.2.2.2.2.2.2.2.2.2.2.2.2.2.2.2.2.2.2.2.2.2.2.1
theorem dX2_count_100 : decode cX2_count 100 = .ok (.aload_n 0, 1) := DX2_count.2.2.2.2.2.2.2.2.2.2.2.2.2.2.2.2.2.2.2.2.2.2.2.2.2.2.2.2.2.2.2.2.2.2.2.2.2.2.2.2.2.2.2.2.2.2.2.2.2.2.2.2.2.2.2.2.2.2.1
theorem dX2_count_101 : decode cX2_count 101 = .ok (.getfield 17, 3) := DX2_count.2.2.2.2.2.2.2.2.2.2.2.2.2.2.2.2.2.2.2.2.2.2.2.2.2.2.2.2.2.2.2.2.2.2.2.2.2.2.2.2.2.2.2.2.2.2.2.2.2.2.2.2.2.2.2.2.2.2.2.1
theorem dX2_count_104 : decode cX2_count 104 = .ok (.iload_n 3, 1) := DX2_count.2.2.2.2.2.2.2.2.2.2.2.2.2.2.2.2.2.2.2.2.2.2.2.2.2.2.2.2.2.2.2.2.2.2.2.2.2.2.2.2.2.2.2.2.2.2.2.2.2.2.2.2.2.2.2.2.2.2.2.2.1
theorem dX2_count_105 : decode cX2_count 105 = .ok (.iaload, 1) := DX2_count.2.2.2.2.2.2.2.2.2.2.2.2.2.2.2.2.2.2.2.2.2.2.2.2.2.2.2.2.2.2.2.2.2.2.2.2.2.2.2.2.2.2.2.2.2.2.2.2.2.2.2.2.2.2.2.2.2.2.2.2.2.1
theorem dX2_count_106 : decode cX2_count 106 = .ok (.invokevirtual 88, 3) := DX2_count.2.2.2.2.2.2.2.2.2.2.2.2.2.2.2.2.2.2.2.2.2.2.2.2.2.2.2.2.2.2.2.2.2.2.2.2.2.2.2.2.2.2.2.2.2.2.2.2.2.2.2.2.2.2.2.2.2.2.2.2.2.2.1
theorem dX2_count_109 : decode cX2_count 109 = .ok (.ifCond .ne 7, 3) := DX2_count.2.2.2.2.2.2.2.2.2.2.2.2.2.2.2.2.2.2.2.2.2.2.2.2.2.2.2.2.2.2.2.2.2.2.2.2.2.2.2.2.2.2.2.2.2.2.2.2.2.2.2.2.2.2.2.2.2.2.2.2.2.2.2.1
theorem dX2_count_112 : decode cX2_count 112 = .ok (.iconst 1, 1) := DX2_count.2.2.2.2.2.2.2.2.2.2.2.2.2.2.2.2.2.2.2.2.2.2.2.2.2.2.2.2.2.2.2.2.2.2.2.2.2.2.2.2.2.2.2.2.2.2.2.2.2.2.2.2.2.2.2.2.2.2.2.2.2.2.2.2.1
theorem dX2_count_113 : decode cX2_count 113 = .ok (.goto 4, 3) := DX2_count.2.2.2.2.2.2.2.2.2.2.2.2.2.2.2.2.2.2.2.2.2.2.2.2.2.2.2.2.2.2.2.2.2.2.2.2.2.2.2.2.2.2.2.2.2.2.2.2.2.2.2.2.2.2.2.2.2.2.2.2.2.2.2.2.2.1
theorem dX2_count_116 : decode cX2_count 116 = .ok (.iconst 0, 1) := DX2_count.2.2.2.2.2.2.2.2.2.2.2.2.2.2.2.2.2.2.2.2.2.2.2.2.2.2.2.2.2.2.2.2.2.2.2.2.2.2.2.2.2.2.2.2.2.2.2.2.2.2.2.2.2.2.2.2.2.2.2.2.2.2.2.2.2.2.1
theorem dX2_count_117 : decode cX2_count 117 = .ok (.istore 4, 2) := DX2_count.2.2.2.2.2.2.2.2.2.2.2.2.2.2.2.2.2.2.2.2.2.2.2.2.2.2.2.2.2.2.2.2.2.2.2.2.2.2.2.2.2.2.2.2.2.2.2.2.2.2.2.2.2.2.2.2.2.2.2.2.2.2.2.2.2.2.2.1
theorem dX2_count_119 : decode cX2_count 119 = .ok (.iinc 5 1, 3) := DX2_count.2.2.2.2.2.2.2.2.2.2.2.2.2.2.2.2.2.2.2.2.2.2.2.2.2.2.2.2.2.2.2.2.2.2.2.2.2.2.2.2.2.2.2.2.2.2.2.2.2.2.2.2.2.2.2.2.2.2.2.2.2.2.2.2.2.2.2.2.1
theorem dX2_count_122 : decode cX2_count 122 = .ok (.goto (-42), 3) := DX2_count.2.2.2.2.2.2.2.2.2.2.2.2.2.2.2.2.2.2.2.2.2.2.2.2.2.2.2.2.2.2.2.2.2.2.2.2.2.2.2.2.2.2.2.2.2.2.2.2.2.2.2.2.2.2.2.2.2.2.2.2.2.2.2.2.2.2.2.2.2.1
theorem dX2_count_125 : decode cX2_count 125 = .ok (.iload_n 1, 1) := DX2_count.2.2.2.2.2.2.2.2.2.2.2.2.2.2.2.2.2.2.2.2.2.2.2.2.2.2.2.2.2.2.2.2.2.2.2.2.2.2.2.2.2.2.2.2.2.2.2.2.2.2.2.2.2.2.2.2.2.2.2.2.2.2.2.2.2.2.2.2.2.2.1
theorem dX2_count_126 : decode cX2_count 126 = .ok (.iconst 1, 1) := DX2_count.2.2.2.2.2.2.2.2.2.2.2.2.2.2.2.2.2.2.2.2.2.2.2.2.2.2.2.2.2.2.2.2.2.2.2.2.2.2.2.2.2.2.2.2.2.2.2.2.2.2.2.2.2.2.2.2.2.2.2.2.2.2.2.2.2.2.2.2.2.2.2.1
theorem dX2_count_127 : decode cX2_count 127 = .ok (.if_icmp .ne 8, 3) := DX2_count.2.2.2.2.2.2.2.2.2.2.2.2.2.2.2.2.2.2.2.2.2.2.2.2.2.2.2.2.2.2.2.2.2.2.2.2.2.2.2.2.2.2.2.2.2.2.2.2.2.2.2.2.2.2.2.2.2.2.2.2.2.2.2.2.2.2.2.2.2.2.2.2.1
theorem dX2_count_130 : decode cX2_count 130 = .ok (.iload 4, 2) := DX2_count.2.2.2.2.2.2.2.2.2.2.2.2.2.2.2.2.2.2.2.2.2.2.2.2.2.2.2.2.2.2.2.2.2.2.2.2.2.2.2.2.2.2.2.2.2.2.2.2.2.2.2.2.2.2.2.2.2.2.2.2.2.2.2.2.2.2.2.2.2.2.2.2.2.1
theorem dX2_count_132 : decode cX2_count 132 = .ok (.goto 33, 3) := DX2_count.2.2.2.2.2.2.2.2.2.2.2.2.2.2.2.2.2.2.2.2.2.2.2.2.2.2.2.2.2.2.2.2.2.2.2.2.2.2.2.2.2.2.2.2.2.2.2.2.2.2.2.2.2.2.2.2.2.2.2.2.2.2.2.2.2.2.2.2.2.2.2.2.2.2.1
theorem dX2_count_135 : decode cX2_count 135 = .ok (.iload_n 3, 1) := DX2_count.2.2.2.2.2.2.2.2.2.2.2.2.2.2.2.2.2.2.2.2.2.2.2.2.2.2.2.2.2.2.2.2.2.2.2.2.2.2.2.2.2.2.2.2.2.2.2.2.2.2.2.2.2.2.2.2.2.2.2.2.2.2.2.2.2.2.2.2.2.2.2.2.2.2.2.1
theorem dX2_count_136 : decode cX2_count 136 = .ok (.iconst 2, 1) := DX2_count.2.2.2.2.2.2.2.2.2.2.2.2.2.2.2.2.2.2.2.2.2.2.2.2.2.2.2.2.2.2.2.2.2.2.2.2.2.2.2.2.2.2.2.2.2.2.2.2.2.2.2.2.2.2.2.2.2.2.2.2.2.2.2.2.2.2.2.2.2.2.2.2.2.2.2.2.1
theorem dX2_count_137 : decode cX2_count 137 = .ok (.irem, 1) := DX2_count.2.2.2.2.2.2.2.2.2.2.2.2.2.2.2.2.2.2.2.2.2.2.2.2.2.2.2.2.2.2.2.2.2.2.2.2.2.2.2.2.2.2.2.2.2.2.2.2.2.2.2.2.2.2.2.2.2.2.2.2.2.2.2.2.2.2.2.2.2.2.2.2.2.2.2.2.2.1
theorem dX2_count_138 : decode cX2_count 138 = .ok (.ifCond .ne 26, 3) := DX2_count.2.2.2.2.2.2.2.2.2.2.2.2.2.2.2.2.2.2.2.2.2.2.2.2.2.2.2.2.2.2.2.2.2.2.2.2.2.2.2.2.2.2.2.2.2.2.2.2.2.2.2.2.2.2.2.2.2.2.2.2.2.2.2.2.2.2.2.2.2.2.2.2.2.2.2.2.2.2.1
theorem dX2_count_141 : decode cX2_count 141 = .ok (.iload_n 1, 1) := DX2_count.2.2.2.2.2.2.2.2.2.2.2.2.2.2.2.2.2.2.2.2.2.2.2.2.2.2.2.2.2.2.2.2.2.2.2.2.2.2.2.2.2.2.2.2.2.2.2.2.2.2.2.2.2.2.2.2.2.2.2.2.2.2.2.2.2.2.2.2.2.2.2.2.2.2.2.2.2.2.2.1
theorem dX2_count_142 : decode cX2_count 142 = .ok (.ifCond .eq 18, 3) := DX2_count.2.2.2.2.2.2.2.2.2.2.2.2.2.2.2.2.2.2.2.2.2.2.2.2.2.2.2.2.2.2.2.2.2.2.2.2.2.2.2.2.2.2.2.2.2.2.2.2.2.2.2.2.2.2.2.2.2.2.2.2.2.2.2.2.2.2.2.2.2.2.2.2.2.2.2.2.2.2.2.2.1
theorem dX2_count_145 : decode cX2_count 145 = .ok (.aload_n 0, 1) := DX2_count.2.2.2.2.2.2.2.2.2.2.2.2.2.2.2.2.2.2.2.2.2.2.2.2.2.2.2.2.2.2.2.2.2.2.2.2.2.2.2.2.2.2.2.2.2.2.2.2.2.2.2.2.2.2.2.2.2.2.2.2.2.2.2.2.2.2.2.2.2.2.2.2.2.2.2.2.2.2.2.2.2.1
theorem dX2_count_146 : decode cX2_count 146 = .ok (.iload_n 3, 1) := DX2_count.2.2.2.2.2.2.2.2.2.2.2.2.2.2.2.2.2.2.2.2.2.2.2.2.2.2.2.2.2.2.2.2.2.2.2.2.2.2.2.2.2.2.2.2.2.2.2.2.2.2.2.2.2.2.2.2.2.2.2.2.2.2.2.2.2.2.2.2.2.2.2.2.2.2.2.2.2.2.2.2.2.2.1
theorem dX2_count_147 : decode cX2_count 147 = .ok (.invokevirtual 128, 3) := DX2_count.2.2.2.2.2.2.2.2.2.2.2.2.2.2.2.2.2.2.2.2.2.2.2.2.2.2.2.2.2.2.2.2.2.2.2.2.2.2.2.2.2.2.2.2.2.2.2.2.2.2.2.2.2.2.2.2.2.2.2.2.2.2.2.2.2.2.2.2.2.2.2.2.2.2.2.2.2.2.2.2.2.2.2.1
theorem dX2_count_150 : decode cX2_count 150 = .ok (.aload_n 0, 1) := DX2_count.2.2.2.2.2.2.2.2.2.2.2.2.2.2.2.2.2.2.2.2.2.2.2.2.2.2.2.2.2.2.2.2.2.2.2.2.2.2.2.2.2.2.2.2.2.2.2.2.2.2.2.2.2.2.2.2.2.2.2.2.2.2.2.2.2.2.2.2.2.2.2.2.2.2.2.2.2.2.2.2.2.2.2.2.1
theorem dX2_count_151 : decode cX2_count 151 = .ok (.iload_n 3, 1) := DX2_count.2.2.2.2.2.2.2.2.2.2.2.2.2.2.2.2.2.2.2.2.2.2.2.2.2.2.2.2.2.2.2.2.2.2.2.2.2.2.2.2.2.2.2.2.2.2.2.2.2.2.2.2.2.2.2.2.2.2.2.2.2.2.2.2.2.2.2.2.2.2.2.2.2.2.2.2.2.2.2.2.2.2.2.2.2.1
theorem dX2_count_152 : decode cX2_count 152 = .ok (.iconst 1, 1) := DX2_count.2.2.2.2.2.2.2.2.2.2.2.2.2.2.2.2.2.2.2.2.2.2.2.2.2.2.2.2.2.2.2.2.2.2.2.2.2.2.2.2.2.2.2.2.2.2.2.2.2.2.2.2.2.2.2.2.2.2.2.2.2.2.2.2.2.2.2.2.2.2.2.2.2.2.2.2.2.2.2.2.2.2.2.2.2.2.1
theorem dX2_count_153 : decode cX2_count 153 = .ok (.iadd, 1) := DX2_count.2.2.2.2.2.2.2.2.2.2.2.2.2.2.2.2.2.2.2.2.2.2.2.2.2.2.2.2.2.2.2.2.2.2.2.2.2.2.2.2.2.2.2.2.2.2.2.2.2.2.2.2.2.2.2.2.2.2.2.2.2.2.2.2.2.2.2.2.2.2.2.2.2.2.2.2.2.2.2.2.2.2.2.2.2.2.2.1
theorem dX2_count_154 : decode cX2_count 154 = .ok (.invokevirtual 128, 3) := DX2_count.2.2.2.2.2.2.2.2.2.2.2.2.2.2.2.2.2.2.2.2.2.2.2.2.2.2.2.2.2.2.2.2.2.2.2.2.2.2.2.2.2.2.2.2.2.2.2.2.2.2.2.2.2.2.2.2.2.2.2.2.2.2.2.2.2.2.2.2.2.2.2.2.2.2.2.2.2.2.2.2.2.2.2.2.2.2.2.2.1
theorem dX2_count_157 : decode cX2_count 157 = .ok (.if_icmp .ne 7, 3) := DX2_count.2.2.2.2.2.2.2.2.2.2.2.2.2.2.2.2.2.2.2.2.2.2.2.2.2.2.2.2.2.2.2.2.2.2.2.2.2.2.2.2.2.2.2.2.2.2.2.2.2.2.2.2.2.2.2.2.2.2.2.2.2.2.2.2.2.2.2.2.2.2.2.2.2.2.2.2.2.2.2.2.2.2.2.2.2.2.2.2.2.1
theorem dX2_count_160 : decode cX2_count 160 = .ok (.iconst 1, 1) := DX2_count.2.2.2.2.2.2.2.2.2.2.2.2.2.2.2.2.2.2.2.2.2.2.2.2.2.2.2.2.2.2.2.2.2.2.2.2.2.2.2.2.2.2.2.2.2.2.2.2.2.2.2.2.2.2.2.2.2.2.2.2.2.2.2.2.2.2.2.2.2.2.2.2.2.2.2.2.2.2.2.2.2.2.2.2.2.2.2.2.2.2.1
theorem dX2_count_161 : decode cX2_count 161 = .ok (.goto 4, 3) := DX2_count.2.2.2.2.2.2.2.2.2.2.2.2.2.2.2.2.2.2.2.2.2.2.2.2.2.2.2.2.2.2.2.2.2.2.2.2.2.2.2.2.2.2.2.2.2.2.2.2.2.2.2.2.2.2.2.2.2.2.2.2.2.2.2.2.2.2.2.2.2.2.2.2.2.2.2.2.2.2.2.2.2.2.2.2.2.2.2.2.2.2.2.1
theorem dX2_count_164 : decode cX2_count 164 = .ok (.iconst 0, 1) := DX2_count.2.2.2.2.2.2.2.2.2.2.2.2.2.2.2.2.2.2.2.2.2.2.2.2.2.2.2.2.2.2.2.2.2.2.2.2.2.2.2.2.2.2.2.2.2.2.2.2.2.2.2.2.2.2.2.2.2.2.2.2.2.2.2.2.2.2.2.2.2.2.2.2.2.2.2.2.2.2.2.2.2.2.2.2.2.2.2.2.2.2.2.2.1
theorem dX2_count_165 : decode cX2_count 165 = .ok (.istore 5, 2) := DX2_count.2.2.2.2.2.2.2.2.2.2.2.2.2.2.2.2.2.2.2.2.2.2.2.2.2.2.2.2.2.2.2.2.2.2.2.2.2.2.2.2.2.2.2.2.2.2.2.2.2.2.2.2.2.2.2.2.2.2.2.2.2.2.2.2.2.2.2.2.2.2.2.2.2.2.2.2.2.2.2.2.2.2.2.2.2.2.2.2.2.2.2.2.2.1
theorem dX2_count_167 : decode cX2_count 167 = .ok (.iload 5, 2) := DX2_count.2.2.2.2.2.2.2.2.2.2.2.2.2.2.2.2.2.2.2.2.2.2.2.2.2.2.2.2.2.2.2.2.2.2.2.2.2.2.2.2.2.2.2.2.2.2.2.2.2.2.2.2.2.2.2.2.2.2.2.2.2.2.2.2.2.2.2.2.2.2.2.2.2.2.2.2.2.2.2.2.2.2.2.2.2.2.2.2.2.2.2.2.2.2.1
theorem dX2_count_169 : decode cX2_count 169 = .ok (.ifCond .eq 9, 3) := DX2_count.2.2.2.2.2.2.2.2.2.2.2.2.2.2.2.2.2.2.2.2.2.2.2.2.2.2.2.2.2.2.2.2.2.2.2.2.2.2.2.2.2.2.2.2.2.2.2.2.2.2.2.2.2.2.2.2.2.2.2.2.2.2.2.2.2.2.2.2.2.2.2.2.2.2.2.2.2.2.2.2.2.2.2.2.2.2.2.2.2.2.2.2.2.2.2.1
theorem dX2_count_172 : decode cX2_count 172 = .ok (.iload_n 2, 1) := DX2_count.2.2.2.2.2.2.2.2.2.2.2.2.2.2.2.2.2.2.2.2.2.2.2.2.2.2.2.2.2.2.2.2.2.2.2.2.2.2.2.2.2.2.2.2.2.2.2.2.2.2.2.2.2.2.2.2.2.2.2.2.2.2.2.2.2.2.2.2.2.2.2.2.2.2.2.2.2.2.2.2.2.2.2.2.2.2.2.2.2.2.2.2.2.2.2.2.1
theorem dX2_count_173 : decode cX2_count 173 = .ok (.iconst 1, 1) := DX2_count.2.2.2.2.2.2.2.2.2.2.2.2.2.2.2.2.2.2.2.2.2.2.2.2.2.2.2.2.2.2.2.2.2.2.2.2.2.2.2.2.2.2.2.2.2.2.2.2.2.2.2.2.2.2.2.2.2.2.2.2.2.2.2.2.2.2.2.2.2.2.2.2.2.2.2.2.2.2.2.2.2.2.2.2.2.2.2.2.2.2.2.2.2.2.2.2.2.1
theorem dX2_count_174 : decode cX2_count 174 = .ok (.iadd, 1) := DX2_count.2.2.2.2.2.2.2.2.2.2.2.2.2.2.2.2.2.2.2.2.2.2.2.2.2.2.2.2.2.2.2.2.2.2.2.2.2.2.2.2.2.2.2.2.2.2.2.2.2.2.2.2.2.2.2.2.2.2.2.2.2.2.2.2.2.2.2.2.2.2.2.2.2.2.2.2.2.2.2.2.2.2.2.2.2.2.2.2.2.2.2.2.2.2.2.2.2.2.1
theorem dX2_count_175 : decode cX2_count 175 = .ok (.goto 4, 3) := DX2_count.2.2.2.2.2.2.2.2.2.2.2.2.2.2.2.2.2.2.2.2.2.2.2.2.2.2.2.2.2.2.2.2.2.2.2.2.2.2.2.2.2.2.2.2.2.2.2.2.2.2.2.2.2.2.2.2.2.2.2.2.2.2.2.2.2.2.2.2.2.2.2.2.2.2.2.2.2.2.2.2.2.2.2.2.2.2.2.2.2.2.2.2.2.2.2.2.2.2.2.1
theorem dX2_count_178 : decode cX2_count 178 = .ok (.iload_n 2, 1) := DX2_count.2.2.2.2.2.2.2.2.2.2.2.2.2.2.2.2.2.2.2.2.2.2.2.2.2.2.2.2.2.2.2.2.2.2.2.2.2.2.2.2.2.2.2.2.2.2.2.2.2.2.2.2.2.2.2.2.2.2.2.2.2.2.2.2.2.2.2.2.2.2.2.2.2.2.2.2.2.2.2.2.2.2.2.2.2.2.2.2.2.2.2.2.2.2.2.2.2.2.2.2.1
theorem dX2_count_179 : decode cX2_count 179 = .ok (.istore_n 2, 1) := DX2_count.2.2.2.2.2.2.2.2.2.2.2.2.2.2.2.2.2.2.2.2.2.2.2.2.2.2.2.2.2.2.2.2.2.2.2.2.2.2.2.2.2.2.2.2.2.2.2.2.2.2.2.2.2.2.2.2.2.2.2.2.2.2.2.2.2.2.2.2.2.2.2.2.2.2.2.2.2.2.2.2.2.2.2.2.2.2.2.2.2.2.2.2.2.2.2.2.2.2.2.2.2.1
theorem dX2_count_180 : decode cX2_count 180 = .ok (.iinc 3 1, 3) := DX2_count.2.2.2.2.2.2.2.2.2.2.2.2.2.2.2.2.2.2.2.2.2.2.2.2.2.2.2.2.2.2.2.2.2.2.2.2.2.2.2.2.2.2.2.2.2.2.2.2.2.2.2.2.2.2.2.2.2.2.2.2.2.2.2.2.2.2.2.2.2.2.2.2.2.2.2.2.2.2.2.2.2.2.2.2.2.2.2.2.2.2.2.2.2.2.2.2.2.2.2.2.2.2.1
theorem dX2_count_183 : decode cX2_count 183 = .ok (.goto (-126), 3) := DX2_count.2.2.2.2.2.2.2.2.2.2.2.2.2.2.2.2.2.2.2.2.2.2.2.2.2.2.2.2.2.2.2.2.2.2.2.2.2.2.2.2.2.2.2.2.2.2.2.2.2.2.2.2.2.2.2.2.2.2.2.2.2.2.2.2.2.2.2.2.2.2.2.2.2.2.2.2.2.2.2.2.2.2.2.2.2.2.2.2.2.2.2.2.2.2.2.2.2.2.2.2.2.2.2.1
theorem dX2_count_186 : decode cX2_count 186 = .ok (.iload_n 1, 1) := DX2_count.2.2.2.2.2.2.2.2.2.2.2.2.2.2.2.2.2.2.2.2.2.2.2.2.2.2.2.2.2.2.2.2.2.2.2.2.2.2.2.2.2.2.2.2.2.2.2.2.2.2.2.2.2.2.2.2.2.2.2.2.2.2.2.2.2.2.2.2.2.2.2.2.2.2.2.2.2.2.2.2.2.2.2.2.2.2.2.2.2.2.2.2.2.2.2.2.2.2.2.2.2.2.2.2.1
theorem dX2_count_187 : decode cX2_count 187 = .ok (.ifCond .eq 13, 3) := DX2_count.2.2.2.2.2.2.2.2.2.2.2.2.2.2.2.2.2.2.2.2.2.2.2.2.2.2.2.2.2.2.2.2.2.2.2.2.2.2.2.2.2.2.2.2.2.2.2.2.2.2.2.2.2.2.2.2.2.2.2.2.2.2.2.2.2.2.2.2.2.2.2.2.2.2.2.2.2.2.2.2.2.2.2.2.2.2.2.2.2.2.2.2.2.2.2.2.2.2.2.2.2.2.2.2.2.1
theorem dX2_count_190 : decode cX2_count 190 = .ok (.iload_n 1, 1) := DX2_count.2.2.2.2.2.2.2.2.2.2.2.2.2.2.2.2.2.2.2.2.2.2.2.2.2.2.2.2.2.2.2.2.2.2.2.2.2.2.2.2.2.2.2.2.2.2.2.2.2.2.2.2.2.2.2.2.2.2.2.2.2.2.2.2.2.2.2.2.2.2.2.2.2.2.2.2.2.2.2.2.2.2.2.2.2.2.2.2.2.2.2.2.2.2.2.2.2.2.2.2.2.2.2.2.2.2.1
theorem dX2_count_191 : decode cX2_count 191 = .ok (.iconst 1, 1) := DX2_count.2.2.2.2.2.2.2.2.2.2.2.2.2.2.2.2.2.2.2.2.2.2.2.2.2.2.2.2.2.2.2.2.2.2.2.2.2.2.2.2.2.2.2.2.2.2.2.2.2.2.2.2.2.2.2.2.2.2.2.2.2.2.2.2.2.2.2.2.2.2.2.2.2.2.2.2.2.2.2.2.2.2.2.2.2.2.2.2.2.2.2.2.2.2.2.2.2.2.2.2.2.2.2.2.2.2.2.1
theorem dX2_count_192 : decode cX2_count 192 = .ok (.if_icmp .eq 8, 3) := DX2_count.2.2.2.2.2.2.2.2.2.2.2.2.2.2.2.2.2.2.2.2.2.2.2.2.2.2.2.2.2.2.2.2.2.2.2.2.2.2.2.2.2.2.2.2.2.2.2.2.2.2.2.2.2.2.2.2.2.2.2.2.2.2.2.2.2.2.2.2.2.2.2.2.2.2.2.2.2.2.2.2.2.2.2.2.2.2.2.2.2.2.2.2.2.2.2.2.2.2.2.2.2.2.2.2.2.2.2.2.1
theorem dX2_count_195 : decode cX2_count 195 = .ok (.iload_n 1, 1) := DX2_count.2.2.2.2.2.2.2.2.2.2.2.2.2.2.2.2.2.2.2.2.2.2.2.2.2.2.2.2.2.2.2.2.2.2.2.2.2.2.2.2.2.2.2.2.2.2.2.2.2.2.2.2.2.2.2.2.2.2.2.2.2.2.2.2.2.2.2.2.2.2.2.2.2.2.2.2.2.2.2.2.2.2.2.2.2.2.2.2.2.2.2.2.2.2.2.2.2.2.2.2.2.2.2.2.2.2.2.2.2
theorem dX2_count_196 : decode cX2_count 196 = .ok (.iconst 4, 1) := DX2_count_2.1
theorem dX2_count_197 : decode cX2_count 197 = .ok (.if_icmp .ne 7, 3) := DX2_count_2.2.1
theorem dX2_count_200 : decode cX2_count 200 = .ok (.iload_n 2, 1) := DX2_count_2.2.2.1
theorem dX2_count_201 : decode cX2_count 201 = .ok (.goto 4, 3) := DX2_count_2.2.2.2.1
theorem dX2_count_204 : decode cX2_count 204 = .ok (.iconst (-1), 1) := DX2_count_2.2.2.2.2.1
theorem dX2_count_205 : decode cX2_count 205 = .ok (.ireturn, 1) := DX2_count_2.2.2.2.2.2
theorem dX2_make_0 : decode cX2_make 0 = .ok (.aload_n 0, 1) := DX2_make.1
theorem dX2_make_1 : decode cX2_make 1 = .ok (.getfield 76, 3) := DX2_make.2.1
theorem dX2_make_4 : decode cX2_make 4 = .ok (.ifCond .eq 4, 3) := DX2_make.2.2.1
theorem dX2_make_7 : decode cX2_make 7 = .ok (.return_, 1) := DX2_make.2.2.2.1
theorem dX2_make_8 : decode cX2_make 8 = .ok (.aload_n 0, 1) := DX2_make.2.2.2.2.1
theorem dX2_make_9 : decode cX2_make 9 = .ok (.iconst 1, 1) := DX2_make.2.2.2.2.2.1
theorem dX2_make_10 : decode cX2_make 10 = .ok (.putfield 76, 3) := DX2_make.2.2.2.2.2.2.1
theorem dX2_make_13 : decode cX2_make 13 = .ok (.aload_n 0, 1) := DX2_make.2.2.2.2.2.2.2.1
theorem dX2_make_14 : decode cX2_make 14 = .ok (.iconst 0, 1) := DX2_make.2.2.2.2.2.2.2.2.1
theorem dX2_make_15 : decode cX2_make 15 = .ok (.putfield 101, 3) := DX2_make.2.2.2.2.2.2.2.2.2.1
theorem dX2_make_18 : decode cX2_make 18 = .ok (.aload_n 0, 1) := DX2_make.2.2.2.2.2.2.2.2.2.2.1
theorem dX2_make_19 : decode cX2_make 19 = .ok (.iconst 0, 1) := DX2_make.2.2.2.2.2.2.2.2.2.2.2.1
theorem dX2_make_20 : decode cX2_make 20 = .ok (.putfield 95, 3) := DX2_make.2.2.2.2.2.2.2.2.2.2.2.2.1
theorem dX2_make_23 : decode cX2_make 23 = .ok (.iconst 0, 1) := DX2_make.2.2.2.2.2.2.2.2.2.2.2.2.2.1
theorem dX2_make_24 : decode cX2_make 24 = .ok (.istore_n 1, 1) := DX2_make.2.2.2.2.2.2.2.2.2.2.2.2.2.2.1
theorem dX2_make_25 : decode cX2_make 25 = .ok (.iload_n 1, 1) := DX2_make.2.2.2.2.2.2.2.2.2.2.2.2.2.2.2.1
theorem dX2_make_26 : decode cX2_make 26 = .ok (.bipush 120, 2) := DX2_make.2.2.2.2.2.2.2.2.2.2.2.2.2.2.2.2.1
theorem dX2_make_28 : decode cX2_make 28 = .ok (.if_icmp .ge 23, 3) := DX2_make.2.2.2.2.2.2.2.2.2.2.2.2.2.2.2.2.2.1
theorem dX2_make_31 : decode cX2_make 31 = .ok (.aload_n 0, 1) := DX2_make.2.2.2.2.2.2.2.2.2.2.2.2.2.2.2.2.2.2.1
theorem dX2_make_32 : decode cX2_make 32 = .ok (.getfield 23, 3) := DX2_make.2.2.2.2.2.2.2.2.2.2.2.2.2.2.2.2.2.2.2.1
theorem dX2_make_35 : decode cX2_make 35 = .ok (.iload_n 1, 1) := DX2_make.2.2.2.2.2.2.2.2.2.2.2.2.2.2.2.2.2.2.2.2.1
theorem dX2_make_36 : decode cX2_make 36 = .ok (.iconst (-1), 1) := DX2_make.2.2.2.2.2.2.2.2.2.2.2.2.2.2.2.2.2.2.2.2.2.1
theorem dX2_make_37 : decode cX2_make 37 = .ok (.iastore, 1) := DX2_make.2.2.2.2.2.2.2.2.2.2.2.2.2.2.2.2.2.2.2.2.2.2.1
theorem dX2_make_38 : decode cX2_make 38 = .ok (.aload_n 0, 1) := DX2_make.2.2.2.2.2.2.2.2.2.2.2.2.2.2.2.2.2.2.2.2.2.2.2.1
theorem dX2_make_39 : decode cX2_make 39 = .ok (.getfield 26, 3) := DX2_make.2.2.2.2.2.2.2.2.2.2.2.2.2.2.2.2.2.2.2.2.2.2.2.2.1
theorem dX2_make_42 : decode cX2_make 42 = .ok (.iload_n 1, 1) := DX2_make.2.2.2.2.2.2.2.2.2.2.2.2.2.2.2.2.2.2.2.2.2.2.2.2.2.1
theorem dX2_make_43 : decode cX2_make 43 = .ok (.iconst (-1), 1) := DX2_make.2.2.2.2.2.2.2.2.2.2.2.2.2.2.2.2.2.2.2.2.2.2.2.2.2.2.1
theorem dX2_make_44 : decode cX2_make 44 = .ok (.iastore, 1) := DX2_make.2.2.2.2.2.2.2.2.2.2.2.2.2.2.2.2.2.2.2.2.2.2.2.2.2.2.2.1
theorem dX2_make_45 : decode cX2_make 45 = .ok (.iinc 1 1, 3) := DX2_make.2.2.2.2.2.2.2.2.2.2.2.2.2.2.2.2.2.2.2.2.2.2.2.2.2.2.2.2.1
theorem dX2_make_48 : decode cX2_make 48 = .ok (.goto (-23), 3) := DX2_make.2.2.2.2.2.2.2.2.2.2.2.2.2.2.2.2.2.2.2.2.2.2.2.2.2.2.2.2.2.1
theorem dX2_make_51 : decode cX2_make 51 = .ok (.iconst 0, 1) := DX2_make.2.2.2.2.2.2.2.2.2.2.2.2.2.2.2.2.2.2.2.2.2.2.2.2.2.2.2.2.2.2.1
theorem dX2_make_52 : decode cX2_make 52 = .ok (.istore_n 1, 1) := DX2_make.2.2.2.2.2.2.2.2.2.2.2.2.2.2.2.2.2.2.2.2.2.2.2.2.2.2.2.2.2.2.2.1
theorem dX2_make_53 : decode cX2_make 53 = .ok (.iload_n 1, 1) := DX2_make.2.2.2.2.2.2.2.2.2.2.2.2.2.2.2.2.2.2.2.2.2.2.2.2.2.2.2.2.2.2.2.2.1
theorem dX2_make_54 : decode cX2_make 54 = .ok (.bipush 120, 2) := DX2_make.2.2.2.2.2.2.2.2.2.2.2.2.2.2.2.2.2.2.2.2.2.2.2.2.2.2.2.2.2.2.2.2.2.1
theorem dX2_make_56 : decode cX2_make 56 = .ok (.if_icmp .ge 59, 3) := DX2_make.2.2.2.2.2.2.2.2.2.2.2.2.2.2.2.2.2.2.2.2.2.2.2.2.2.2.2.2.2.2.2.2.2.2.1
theorem dX2_make_59 : decode cX2_make 59 = .ok (.aload_n 0, 1) := DX2_make.2.2.2.2.2.2.2.2.2.2.2.2.2.2.2.2.2.2.2.2.2.2.2.2.2.2.2.2.2.2.2.2.2.2.2.1
theorem dX2_make_60 : decode cX2_make 60 = .ok (.getfield 7, 3) := DX2_make.2.2.2.2.2.2.2.2.2.2.2.2.2.2.2.2.2.2.2.2.2.2.2.2.2.2.2.2.2.2.2.2.2.2.2.2.1
theorem dX2_make_63 : decode cX2_make 63 = .ok (.iload_n 1, 1) := DX2_make.2.2.2.2.2.2.2.2.2.2.2.2.2.2.2.2.2.2.2.2.2.2.2.2.2.2.2.2.2.2.2.2.2.2.2.2.2.1
theorem dX2_make_64 : decode cX2_make 64 = .ok (.iconst 2, 1) := DX2_make.2.2.2.2.2.2.2.2.2.2.2.2.2.2.2.2.2.2.2.2.2.2.2.2.2.2.2.2.2.2.2.2.2.2.2.2.2.2.1
theorem dX2_make_65 : decode cX2_make 65 = .ok (.idiv, 1) := DX2_make.2.2.2.2.2.2.2.2.2.2.2.2.2.2.2.2.2.2.2.2.2.2.2.2.2.2.2.2.2.2.2.2.2.2.2.2.2.2.2.1
theorem dX2_make_66 : decode cX2_make 66 = .ok (.baload, 1) := DX2_make.2.2.2.2.2.2.2.2.2.2.2.2.2.2.2.2.2.2.2.2.2.2.2.2.2.2.2.2.2.2.2.2.2.2.2.2.2.2.2.2.1
theorem dX2_make_67 : decode cX2_make 67 = .ok (.ifCond .eq 42, 3) := DX2_make.2.2.2.2.2.2.2.2.2.2.2.2.2.2.2.2.2.2.2.2.2.2.2.2.2.2.2.2.2.2.2.2.2.2.2.2.2.2.2.2.2.1
theorem dX2_make_70 : decode cX2_make 70 = .ok (.aload_n 0, 1) := DX2_make.2.2.2.2.2.2.2.2.2.2.2.2.2.2.2.2.2.2.2.2.2.2.2.2.2.2.2.2.2.2.2.2.2.2.2.2.2.2.2.2.2.2.1
theorem dX2_make_71 : decode cX2_make 71 = .ok (.getfield 20, 3) := DX2_make.2.2.2.2.2.2.2.2.2.2.2.2.2.2.2.2.2.2.2.2.2.2.2.2.2.2.2.2.2.2.2.2.2.2.2.2.2.2.2.2.2.2.2.1
theorem dX2_make_74 : decode cX2_make 74 = .ok (.iload_n 1, 1) := DX2_make.2.2.2.2.2.2.2.2.2.2.2.2.2.2.2.2.2.2.2.2.2.2.2.2.2.2.2.2.2.2.2.2.2.2.2.2.2.2.2.2.2.2.2.2.1
theorem dX2_make_75 : decode cX2_make 75 = .ok (.aload_n 0, 1) := DX2_make.2.2.2.2.2.2.2.2.2.2.2.2.2.2.2.2.2.2.2.2.2.2.2.2.2.2.2.2.2.2.2.2.2.2.2.2.2.2.2.2.2.2.2.2.2.1
theorem dX2_make_76 : decode cX2_make 76 = .ok (.iload_n 1, 1) := DX2_make.2.2.2.2.2.2.2.2.2.2.2.2.2.2.2.2.2.2.2.2.2.2.2.2.2.2.2.2.2.2.2.2.2.2.2.2.2.2.2.2.2.2.2.2.2.2.1
theorem dX2_make_77 : decode cX2_make 77 = .ok (.invokevirtual 104, 3) := DX2_make.2.2.2.2.2.2.2.2.2.2.2.2.2.2.2.2.2.2.2.2.2.2.2.2.2.2.2.2.2.2.2.2.2.2.2.2.2.2.2.2.2.2.2.2.2.2.2.1
theorem dX2_make_80 : decode cX2_make 80 = .ok (.iastore, 1) := DX2_make.2.2.2.2.2.2.2.2.2.2.2.2.2.2.2.2.2.2.2.2.2.2.2.2.2.2.2.2.2.2.2.2.2.2.2.2.2.2.2.2.2.2.2.2.2.2.2.2.1
theorem dX2_make_81 : decode cX2_make 81 = .ok (.aload_n 0, 1) := DX2_make.2.2.2.2.2.2.2.2.2.2.2.2.2.2.2.2.2.2.2.2.2.2.2.2.2.2.2.2.2.2.2.2.2.2.2.2.2.2.2.2.2.2.2.2.2.2.2.2.2.1
theorem dX2_make_82 : decode cX2_make 82 = .ok (.getfield 23, 3) := DX2_make.2.2.2.2.2.2.2.2.2.2.2.2.2.2.2.2.2.2.2.2.2.2.2.2.2.2.2.2.2.2.2.2.2.2.2.2.2.2.2.2.2.2.2.2.2.2.2.2.2.2.1
theorem dX2_make_85 : decode cX2_make 85 = .ok (.iload_n 1, 1) := DX2_make.2.2.2.2.2.2.2.2.2.2.2.2.2.2.2.2.2.2.2.2.2.2.2.2.2.2.2.2.2.2.2.2.2.2.2.2.2.2.2.2.2.2.2.2.2.2.2.2.2.2.2.1
theorem dX2_make_86 : decode cX2_make 86 = .ok (.iaload, 1) := DX2_make.2.2.2.2.2.2.2.2.2.2.2.2.2.2.2.2.2.2.2.2.2.2.2.2.2.2.2.2.2.2.2.2.2.2.2.2.2.2.2.2.2.2.2.2.2.2.2.2.2.2.2.2.1
theorem dX2_make_87 : decode cX2_make 87 = .ok (.ifCond .ge 22, 3) := DX2_make.2.2.2.2.2.2.2.2.2.2.2.2.2.2.2.2.2.2.2.2.2.2.2.2.2.2.2.2.2.2.2.2.2.2.2.2.2.2.2.2.2.2.2.2.2.2.2.2.2.2.2.2.2.1
theorem dX2_make_90 : decode cX2_make 90 = .ok (.aload_n 0, 1) := DX2_make.2.2.2.2.2.2.2.2.2.2.2.2.2.2.2.2.2.2.2.2.2.2.2.2.2.2.2.2.2.2.2.2.2.2.2.2.2.2.2.2.2.2.2.2.2.2.2.2.2.2.2.2.2.2.1
theorem dX2_make_91 : decode cX2_make 91 = .ok (.iload_n 1, 1) := DX2_make.2.2.2.2.2.2.2.2.2.2.2.2.2.2.2.2.2.2.2.2.2.2.2.2.2.2.2.2.2.2.2.2.2.2.2.2.2.2.2.2.2.2.2.2.2.2.2.2.2.2.2.2.2.2.2.1
theorem dX2_make_92 : decode cX2_make 92 = .ok (.aload_n 0, 1) := DX2_make.2.2.2.2.2.2.2.2.2.2.2.2.2.2.2.2.2.2.2.2.2.2.2.2.2.2.2.2.2.2.2.2.2.2.2.2.2.2.2.2.2.2.2.2.2.2.2.2.2.2.2.2.2.2.2.2.1
theorem dX2_make_93 : decode cX2_make 93 = .ok (.getfield 101, 3) := DX2_make.2.2.2.2.2.2.2.2.2.2.2.2.2.2.2.2.2.2.2.2.2.2.2.2.2.2.2.2.2.2.2.2.2.2.2.2.2.2.2.2.2.2.2.2.2.2.2.2.2.2.2.2.2.2.2.2.2.1
theorem dX2_make_96 : decode cX2_make 96 = .ok (.invokevirtual 107, 3) := DX2_make.2.2.2.2.2.2.2.2.2.2.2.2.2.2.2.2.2.2.2.2.2.2.2.2.2.2.2.2.2.2.2.2.2.2.2.2.2.2.2.2.2.2.2.2.2.2.2.2.2.2.2.2.2.2.2.2.2.2.1
theorem dX2_make_99 : decode cX2_make 99 = .ok (.aload_n 0, 1) := DX2_make.2.2.2.2.2.2.2.2.2.2.2.2.2.2.2.2.2.2.2.2.2.2.2.2.2.2.2.2.2.2.2.2.2.2.2.2.2.2.2.2.2.2.2.2.2.2.2.2.2.2.2.2.2.2.2.2.2.2.2.1
theorem dX2_make_100 : decode cX2_make 100 = .ok (.dup, 1) := DX2_make.2.2.2.2.2.2.2.2.2.2.2.2.2.2.2.2.2.2.2.2.2.2.2.2.2.2.2.2.2.2.2.2.2.2.2.2.2.2.2.2.2.2.2.2.2.2.2.2.2.2.2.2.2.2.2.2.2.2.2.2.1
theorem dX2_make_101 : decode cX2_make 101 = .ok (.getfield 101, 3) := DX2_make.2.2.2.2.2.2.2.2.2.2.2.2.2.2.2.2.2.2.2.2.2.2.2.2.2.2.2.2.2.2.2.2.2.2.2.2.2.2.2.2.2.2.2.2.2.2.2.2.2.2.2.2.2.2.2.2.2.2.2.2.2.1
theorem dX2_make_104 : decode cX2_make 104 = .ok (.iconst 1, 1) := DX2_make.2.2.2.2.2.2.2.2.2.2.2.2.2.2.2.2.2.2.2.2.2.2.2.2.2.2.2.2.2.2.2.2.2.2.2.2.2.2.2.2.2.2.2.2.2.2.2.2.2.2.2.2.2.2.2.2.2.2.2.2.2.2.1
theorem dX2_make_105 : decode cX2_make 105 = .ok (.iadd, 1) := DX2_make.2.2.2.2.2.2.2.2.2.2.2.2.2.2.2.2.2.2.2.2.2.2.2.2.2.2.2.2.2.2.2.2.2.2.2.2.2.2.2.2.2.2.2.2.2.2.2.2.2.2.2.2.2.2.2.2.2.2.2.2.2.2.2.1
theorem dX2_make_106 : decode cX2_make 106 = .ok (.putfield 101, 3) := DX2_make.2.2.2.2.2.2.2.2.2.2.2.2.2.2.2.2.2.2.2.2.2.2.2.2.2.2.2.2.2.2.2.2.2.2.2.2.2.2.2.2.2.2.2.2.2.2.2.2.2.2.2.2.2.2.2.2.2.2.2.2.2.2.2.2.1
theorem dX2_make_109 : decode cX2_make 109 = .ok (.iinc 1 1, 3) := DX2_make.2.2.2.2.2.2.2.2.2.2.2.2.2.2.2.2.2.2.2.2.2.2.2.2.2.2.2.2.2.2.2.2.2.2.2.2.2.2.2.2.2.2.2.2.2.2.2.2.2.2.2.2.2.2.2.2.2.2.2.2.2.2.2.2.2.1
theorem dX2_make_112 : decode cX2_make 112 = .ok (.goto (-59), 3) := DX2_make.2.2.2.2.2.2.2.2.2.2.2.2.2.2.2.2.2.2.2.2.2.2.2.2.2.2.2.2.2.2.2.2.2.2.2.2.2.2.2.2.2.2.2.2.2.2.2.2.2.2.2.2.2.2.2.2.2.2.2.2.2.2.2.2.2.2.1
theorem dX2_make_115 : decode cX2_make 115 = .ok (.iconst 0, 1) := DX2_make.2.2.2.2.2.2.2.2.2.2.2.2.2.2.2.2.2.2.2.2.2.2.2.2.2.2.2.2.2.2.2.2.2.2.2.2.2.2.2.2.2.2.2.2.2.2.2.2.2.2.2.2.2.2.2.2.2.2.2.2.2.2.2.2.2.2.2.1
theorem dX2_make_116 : decode cX2_make 116 = .ok (.istore_n 1, 1) := DX2_make.2.2.2.2.2.2.2.2.2.2.2.2.2.2.2.2.2.2.2.2.2.2.2.2.2.2.2.2.2.2.2.2.2.2.2.2.2.2.2.2.2.2.2.2.2.2.2.2.2.2.2.2.2.2.2.2.2.2.2.2.2.2.2.2.2.2.2.2.1
theorem dX2_make_117 : decode cX2_make 117 = .ok (.iload_n 1, 1) := DX2_make.2.2.2.2.2.2.2.2.2.2.2.2.2.2.2.2.2.2.2.2.2.2.2.2.2.2.2.2.2.2.2.2.2.2.2.2.2.2.2.2.2.2.2.2.2.2.2.2.2.2.2.2.2.2.2.2.2.2.2.2.2.2.2.2.2.2.2.2.2.1
theorem dX2_make_118 : decode cX2_make 118 = .ok (.bipush 120, 2) := DX2_make.2.2.2.2.2.2.2.2.2.2.2.2.2.2.2.2.2.2.2.2.2.2.2.2.2.2.2.2.2.2.2.2.2.2.2.2.2.2.2.2.2.2.2.2.2.2.2.2.2.2.2.2.2.2.2.2.2.2.2.2.2.2.2.2.2.2.2.2.2.2.1
theorem dX2_make_120 : decode cX2_make 120 = .ok (.if_icmp .ge 34, 3) := DX2_make.2.2.2.2.2.2.2.2.2.2.2.2.2.2.2.2.2.2.2.2.2.2.2.2.2.2.2.2.2.2.2.2.2.2.2.2.2.2.2.2.2.2.2.2.2.2.2.2.2.2.2.2.2.2.2.2.2.2.2.2.2.2.2.2.2.2.2.2.2.2.2.1
theorem dX2_make_123 : decode cX2_make 123 = .ok (.aload_n 0, 1) := DX2_make.2.2.2.2.2.2.2.2.2.2.2.2.2.2.2.2.2.2.2.2.2.2.2.2.2.2.2.2.2.2.2.2.2.2.2.2.2.2.2.2.2.2.2.2.2.2.2.2.2.2.2.2.2.2.2.2.2.2.2.2.2.2.2.2.2.2.2.2.2.2.2.2.1
theorem dX2_make_124 : decode cX2_make 124 = .ok (.getfield 7, 3) := DX2_make.2.2.2.2.2.2.2.2.2.2.2.2.2.2.2.2.2.2.2.2.2.2.2.2.2.2.2.2.2.2.2.2.2.2.2.2.2.2.2.2.2.2.2.2.2.2.2.2.2.2.2.2.2.2.2.2.2.2.2.2.2.2.2.2.2.2.2.2.2.2.2.2.2.1
theorem dX2_make_127 : decode cX2_make 127 = .ok (.iload_n 1, 1) := DX2_make.2.2.2.2.2.2.2.2.2.2.2.2.2.2.2.2.2.2.2.2.2.2.2.2.2.2.2.2.2.2.2.2.2.2.2.2.2.2.2.2.2.2.2.2.2.2.2.2.2.2.2.2.2.2.2.2.2.2.2.2.2.2.2.2.2.2.2.2.2.2.2.2.2.2.1
theorem dX2_make_128 : decode cX2_make 128 = .ok (.iconst 2, 1) := DX2_make.2.2.2.2.2.2.2.2.2.2.2.2.2.2.2.2.2.2.2.2.2.2.2.2.2.2.2.2.2.2.2.2.2.2.2.2.2.2.2.2.2.2.2.2.2.2.2.2.2.2.2.2.2.2.2.2.2.2.2.2.2.2.2.2.2.2.2.2.2.2.2.2.2.2.2.1
theorem dX2_make_129 : decode cX2_make 129 = .ok (.idiv, 1) := DX2_make.2.2.2.2.2.2.2.2.2.2.2.2.2.2.2.2.2.2.2.2.2.2.2.2.2.2.2.2.2.2.2.2.2.2.2.2.2.2.2.2.2.2.2.2.2.2.2.2.2.2.2.2.2.2.2.2.2.2.2.2.2.2.2.2.2.2.2.2.2.2.2.2.2.2.2.2.1
theorem dX2_make_130 : decode cX2_make 130 = .ok (.baload, 1) := DX2_make.2.2.2.2.2.2.2.2.2.2.2.2.2.2.2.2.2.2.2.2.2.2.2.2.2.2.2.2.2.2.2.2.2.2.2.2.2.2.2.2.2.2.2.2.2.2.2.2.2.2.2.2.2.2.2.2.2.2.2.2.2.2.2.2.2.2.2.2.2.2.2.2.2.2.2.2.2.1
theorem dX2_make_131 : decode cX2_make 131 = .ok (.ifCond .eq 17, 3) := DX2_make.2.2.2.2.2.2.2.2.2.2.2.2.2.2.2.2.2.2.2.2.2.2.2.2.2.2.2.2.2.2.2.2.2.2.2.2.2.2.2.2.2.2.2.2.2.2.2.2.2.2.2.2.2.2.2.2.2.2.2.2.2.2.2.2.2.2.2.2.2.2.2.2.2.2.2.2.2.2.1
theorem dX2_make_134 : decode cX2_make 134 = .ok (.aload_n 0, 1) := DX2_make.2.2.2.2.2.2.2.2.2.2.2.2.2.2.2.2.2.2.2.2.2.2.2.2.2.2.2.2.2.2.2.2.2.2.2.2.2.2.2.2.2.2.2.2.2.2.2.2.2.2.2.2.2.2.2.2.2.2.2.2.2.2.2.2.2.2.2.2.2.2.2.2.2.2.2.2.2.2.2.1
theorem dX2_make_135 : decode cX2_make 135 = .ok (.getfield 26, 3) := DX2_make.2.2.2.2.2.2.2.2.2.2.2.2.2.2.2.2.2.2.2.2.2.2.2.2.2.2.2.2.2.2.2.2.2.2.2.2.2.2.2.2.2.2.2.2.2.2.2.2.2.2.2.2.2.2.2.2.2.2.2.2.2.2.2.2.2.2.2.2.2.2.2.2.2.2.2.2.2.2.2.2.1
theorem dX2_make_138 : decode cX2_make 138 = .ok (.iload_n 1, 1) := DX2_make.2.2.2.2.2.2.2.2.2.2.2.2.2.2.2.2.2.2.2.2.2.2.2.2.2.2.2.2.2.2.2.2.2.2.2.2.2.2.2.2.2.2.2.2.2.2.2.2.2.2.2.2.2.2.2.2.2.2.2.2.2.2.2.2.2.2.2.2.2.2.2.2.2.2.2.2.2.2.2.2.2.1
theorem dX2_make_139 : decode cX2_make 139 = .ok (.iaload, 1) := DX2_make.2.2.2.2.2.2.2.2.2.2.2.2.2.2.2.2.2.2.2.2.2.2.2.2.2.2.2.2.2.2.2.2.2.2.2.2.2.2.2.2.2.2.2.2.2.2.2.2.2.2.2.2.2.2.2.2.2.2.2.2.2.2.2.2.2.2.2.2.2.2.2.2.2.2.2.2.2.2.2.2.2.2.1
theorem dX2_make_140 : decode cX2_make 140 = .ok (.ifCond .ge 8, 3) := DX2_make.2.2.2.2.2.2.2.2.2.2.2.2.2.2.2.2.2.2.2.2.2.2.2.2.2.2.2.2.2.2.2.2.2.2.2.2.2.2.2.2.2.2.2.2.2.2.2.2.2.2.2.2.2.2.2.2.2.2.2.2.2.2.2.2.2.2.2.2.2.2.2.2.2.2.2.2.2.2.2.2.2.2.2.1
theorem dX2_make_143 : decode cX2_make 143 = .ok (.aload_n 0, 1) := DX2_make.2.2.2.2.2.2.2.2.2.2.2.2.2.2.2.2.2.2.2.2.2.2.2.2.2.2.2.2.2.2.2.2.2.2.2.2.2.2.2.2.2.2.2.2.2.2.2.2.2.2.2.2.2.2.2.2.2.2.2.2.2.2.2.2.2.2.2.2.2.2.2.2.2.2.2.2.2.2.2.2.2.2.2.2.1
theorem dX2_make_144 : decode cX2_make 144 = .ok (.iload_n 1, 1) := DX2_make.2.2.2.2.2.2.2.2.2.2.2.2.2.2.2.2.2.2.2.2.2.2.2.2.2.2.2.2.2.2.2.2.2.2.2.2.2.2.2.2.2.2.2.2.2.2.2.2.2.2.2.2.2.2.2.2.2.2.2.2.2.2.2.2.2.2.2.2.2.2.2.2.2.2.2.2.2.2.2.2.2.2.2.2.2.1
theorem dX2_make_145 : decode cX2_make 145 = .ok (.invokevirtual 111, 3) := DX2_make.2.2.2.2.2.2.2.2.2.2.2.2.2.2.2.2.2.2.2.2.2.2.2.2.2.2.2.2.2.2.2.2.2.2.2.2.2.2.2.2.2.2.2.2.2.2.2.2.2.2.2.2.2.2.2.2.2.2.2.2.2.2.2.2.2.2.2.2.2.2.2.2.2.2.2.2.2.2.2.2.2.2.2.2.2.2.1
theorem dX2_make_148 : decode cX2_make 148 = .ok (.iinc 1 1, 3) := DX2_make.2.2.2.2.2.2.2.2.2.2.2.2.2.2.2.2.2.2.2.2.2.2.2.2.2.2.2.2.2.2.2.2.2.2.2.2.2.2.2.2.2.2.2.2.2.2.2.2.2.2.2.2.2.2.2.2.2.2.2.2.2.2.2.2.2.2.2.2.2.2.2.2.2.2.2.2.2.2.2.2.2.2.2.2.2.2.2.1
theorem dX2_make_151 : decode cX2_make 151 = .ok (.goto (-34), 3) := DX2_make.2.2.2.2.2.2.2.2.2.2.2.2.2.2.2.2.2.2.2.2.2.2.2.2.2.2.2.2.2.2.2.2.2.2.2.2.2.2.2.2.2.2.2.2.2.2.2.2.2.2.2.2.2.2.2.2.2.2.2.2.2.2.2.2.2.2.2.2.2.2.2.2.2.2.2.2.2.2.2.2.2.2.2.2.2.2.2.2.1
theorem dX2_make_154 : decode cX2_make 154 = .ok (.aload_n 0, 1) := DX2_make.2.2.2.2.2.2.2.2.2.2.2.2.2.2.2.2.2.2.2.2.2.2.2.2.2.2.2.2.2.2.2.2.2.2.2.2.2.2.2.2.2.2.2.2.2.2.2.2.2.2.2.2.2.2.2.2.2.2.2.2.2.2.2.2.2.2.2.2.2.2.2.2.2.2.2.2.2.2.2.2.2.2.2.2.2.2.2.2.2.1
theorem dX2_make_155 : decode cX2_make 155 = .ok (.invokevirtual 115, 3) := DX2_make.2.2.2.2.2.2.2.2.2.2.2.2.2.2.2.2.2.2.2.2.2.2.2.2.2.2.2.2.2.2.2.2.2.2.2.2.2.2.2.2.2.2.2.2.2.2.2.2.2.2.2.2.2.2.2.2.2.2.2.2.2.2.2.2.2.2.2.2.2.2.2.2.2.2.2.2.2.2.2.2.2.2.2.2.2.2.2.2.2.2.1
theorem dX2_make_158 : decode cX2_make 158 = .ok (.return_, 1) := DX2_make.2.2.2.2.2.2.2.2.2.2.2.2.2.2.2.2.2.2.2.2.2.2.2.2.2.2.2.2.2.2.2.2.2.2.2.2.2.2.2.2.2.2.2.2.2.2.2.2.2.2.2.2.2.2.2.2.2.2.2.2.2.2.2.2.2.2.2.2.2.2.2.2.2.2.2.2.2.2.2.2.2.2.2.2.2.2.2.2.2.2.2
theorem dX2_nextOf_0 : decode cX2_nextOf 0 = .ok (.iload_n 1, 1) := DX2_nextOf.1
theorem dX2_nextOf_1 : decode cX2_nextOf 1 = .ok (.invokestatic 80, 3) := DX2_nextOf.2.1
theorem dX2_nextOf_4 : decode cX2_nextOf 4 = .ok (.istore_n 2, 1) := DX2_nextOf.2.2.1
theorem dX2_nextOf_5 : decode cX2_nextOf 5 = .ok (.iconst (-1), 1) := DX2_nextOf.2.2.2.1
theorem dX2_nextOf_6 : decode cX2_nextOf 6 = .ok (.istore_n 3, 1) := DX2_nextOf.2.2.2.2.1
theorem dX2_nextOf_7 : decode cX2_nextOf 7 = .ok (.iconst 0, 1) := DX2_nextOf.2.2.2.2.2.1
theorem dX2_nextOf_8 : decode cX2_nextOf 8 = .ok (.istore 4, 2) := DX2_nextOf.2.2.2.2.2.2.1
theorem dX2_nextOf_10 : decode cX2_nextOf 10 = .ok (.iload 4, 2) := DX2_nextOf.2.2.2.2.2.2.2.1
theorem dX2_nextOf_12 : decode cX2_nextOf 12 = .ok (.bipush 120, 2) := DX2_nextOf.2.2.2.2.2.2.2.2.1
theorem dX2_nextOf_14 : decode cX2_nextOf 14 = .ok (.if_icmp .ge 103, 3) := DX2_nextOf.2.2.2.2.2.2.2.2.2.1
theorem dX2_nextOf_17 : decode cX2_nextOf 17 = .ok (.iload 4, 2) := DX2_nextOf.2.2.2.2.2.2.2.2.2.2.1
theorem dX2_nextOf_19 : decode cX2_nextOf 19 = .ok (.iload_n 2, 1) := DX2_nextOf.2.2.2.2.2.2.2.2.2.2.2.1
theorem dX2_nextOf_20 : decode cX2_nextOf 20 = .ok (.if_icmp .eq 91, 3) := DX2_nextOf.2.2.2.2.2.2.2.2.2.2.2.2.1
theorem dX2_nextOf_23 : decode cX2_nextOf 23 = .ok (.aload_n 0, 1) := DX2_nextOf.2.2.2.2.2.2.2.2.2.2.2.2.2.1
theorem dX2_nextOf_24 : decode cX2_nextOf 24 = .ok (.iload 4, 2) := DX2_nextOf.2.2.2.2.2.2.2.2.2.2.2.2.2.2.1
