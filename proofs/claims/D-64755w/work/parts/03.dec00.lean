set_option maxRecDepth 100000
theorem DX3_init : (decode cX3_init 0 = .ok (.aload_n 0, 1)) ∧
  (decode cX3_init 1 = .ok (.invokespecial 1, 3)) ∧
  (decode cX3_init 4 = .ok (.aload_n 0, 1)) ∧
  (decode cX3_init 5 = .ok (.iload_n 1, 1)) ∧
  (decode cX3_init 6 = .ok (.putfield 7, 3)) ∧
  (decode cX3_init 9 = .ok (.aload_n 0, 1)) ∧
  (decode cX3_init 10 = .ok (.aload_n 2, 1)) ∧
  (decode cX3_init 11 = .ok (.putfield 13, 3)) ∧
  (decode cX3_init 14 = .ok (.return_, 1)) :=
  ⟨by decide +kernel, by decide +kernel, by decide +kernel, by decide +kernel, by decide +kernel, by decide +kernel, by decide +kernel, by decide +kernel, by decide +kernel⟩
theorem DX3_dx : (decode cX3_dx 0 = .ok (.aload_n 0, 1)) ∧
  (decode cX3_dx 1 = .ok (.getfield 17, 3)) ∧
  (decode cX3_dx 4 = .ok (.getfield 13, 3)) ∧
  (decode cX3_dx 7 = .ok (.getfield 21, 3)) ∧
  (decode cX3_dx 10 = .ok (.aload_n 0, 1)) ∧
  (decode cX3_dx 11 = .ok (.getfield 13, 3)) ∧
  (decode cX3_dx 14 = .ok (.getfield 21, 3)) ∧
  (decode cX3_dx 17 = .ok (.isub, 1)) ∧
  (decode cX3_dx 18 = .ok (.ireturn, 1)) :=
  ⟨by decide +kernel, by decide +kernel, by decide +kernel, by decide +kernel, by decide +kernel, by decide +kernel, by decide +kernel, by decide +kernel, by decide +kernel⟩
theorem DX3_dy : (decode cX3_dy 0 = .ok (.aload_n 0, 1)) ∧
  (decode cX3_dy 1 = .ok (.getfield 17, 3)) ∧
  (decode cX3_dy 4 = .ok (.getfield 13, 3)) ∧
  (decode cX3_dy 7 = .ok (.getfield 26, 3)) ∧
  (decode cX3_dy 10 = .ok (.aload_n 0, 1)) ∧
  (decode cX3_dy 11 = .ok (.getfield 13, 3)) ∧
  (decode cX3_dy 14 = .ok (.getfield 26, 3)) ∧
  (decode cX3_dy 17 = .ok (.isub, 1)) ∧
  (decode cX3_dy 18 = .ok (.ireturn, 1)) :=
  ⟨by decide +kernel, by decide +kernel, by decide +kernel, by decide +kernel, by decide +kernel, by decide +kernel, by decide +kernel, by decide +kernel, by decide +kernel⟩
theorem DX3_isBefore : (decode cX3_isBefore 0 = .ok (.aload_n 0, 1)) ∧
  (decode cX3_isBefore 1 = .ok (.invokevirtual 29, 3)) ∧
  (decode cX3_isBefore 4 = .ok (.aload_n 0, 1)) ∧
  (decode cX3_isBefore 5 = .ok (.invokevirtual 33, 3)) ∧
  (decode cX3_isBefore 8 = .ok (.invokestatic 36, 3)) ∧
  (decode cX3_isBefore 11 = .ok (.istore_n 3, 1)) ∧
  (decode cX3_isBefore 12 = .ok (.iload_n 3, 1)) ∧
  (decode cX3_isBefore 13 = .ok (.iload_n 1, 1)) ∧
  (decode cX3_isBefore 14 = .ok (.iload_n 2, 1)) ∧
  (decode cX3_isBefore 15 = .ok (.invokestatic 36, 3)) ∧
  (decode cX3_isBefore 18 = .ok (.if_icmp .eq 7, 3)) ∧
  (decode cX3_isBefore 21 = .ok (.iload_n 3, 1)) ∧
  (decode cX3_isBefore 22 = .ok (.goto 30, 3)) ∧
  (decode cX3_isBefore 25 = .ok (.aload_n 0, 1)) ∧
  (decode cX3_isBefore 26 = .ok (.invokevirtual 29, 3)) ∧
  (decode cX3_isBefore 29 = .ok (.i2l, 1)) ∧
  (decode cX3_isBefore 30 = .ok (.aload_n 0, 1)) ∧
  (decode cX3_isBefore 31 = .ok (.invokevirtual 33, 3)) ∧
  (decode cX3_isBefore 34 = .ok (.i2l, 1)) ∧
  (decode cX3_isBefore 35 = .ok (.iload_n 1, 1)) ∧
  (decode cX3_isBefore 36 = .ok (.i2l, 1)) ∧
  (decode cX3_isBefore 37 = .ok (.iload_n 2, 1)) ∧
  (decode cX3_isBefore 38 = .ok (.i2l, 1)) ∧
  (decode cX3_isBefore 39 = .ok (.invokestatic 40, 3)) ∧
  (decode cX3_isBefore 42 = .ok (.lconst 0, 1)) ∧
  (decode cX3_isBefore 43 = .ok (.lcmp, 1)) ∧
  (decode cX3_isBefore 44 = .ok (.ifCond .le 7, 3)) ∧
  (decode cX3_isBefore 47 = .ok (.iconst 1, 1)) ∧
  (decode cX3_isBefore 48 = .ok (.goto 4, 3)) ∧
  (decode cX3_isBefore 51 = .ok (.iconst 0, 1)) ∧
  (decode cX3_isBefore 52 = .ok (.ireturn, 1)) :=
  ⟨by decide +kernel, by decide +kernel, by decide +kernel, by decide +kernel, by decide +kernel, by decide +kernel, by decide +kernel, by decide +kernel, by decide +kernel, by decide +kernel, by decide +kernel, by decide +kernel, by decide +kernel, by decide +kernel, by decide +kernel, by decide +kernel, by decide +kernel, by decide +kernel, by decide +kernel, by decide +kernel, by decide +kernel, by decide +kernel, by decide +kernel, by decide +kernel, by decide +kernel, by decide +kernel, by decide +kernel, by decide +kernel, by decide +kernel, by decide +kernel, by decide +kernel⟩
theorem DX3_isUpper : (decode cX3_isUpper 0 = .ok (.iload_n 1, 1)) ∧
  (decode cX3_isUpper 1 = .ok (.ifCond .gt 11, 3)) ∧
  (decode cX3_isUpper 4 = .ok (.iload_n 1, 1)) ∧
  (decode cX3_isUpper 5 = .ok (.ifCond .ne 11, 3)) ∧
  (decode cX3_isUpper 8 = .ok (.iload_n 0, 1)) ∧
  (decode cX3_isUpper 9 = .ok (.ifCond .le 7, 3)) ∧
  (decode cX3_isUpper 12 = .ok (.iconst 1, 1)) ∧
  (decode cX3_isUpper 13 = .ok (.goto 4, 3)) ∧
  (decode cX3_isUpper 16 = .ok (.iconst 0, 1)) ∧
  (decode cX3_isUpper 17 = .ok (.ireturn, 1)) :=
  ⟨by decide +kernel, by decide +kernel, by decide +kernel, by decide +kernel, by decide +kernel, by decide +kernel, by decide +kernel, by decide +kernel, by decide +kernel, by decide +kernel⟩
theorem DX4_init : (decode cX4_init 0 = .ok (.aload_n 0, 1)) ∧
  (decode cX4_init 1 = .ok (.invokespecial 1, 3)) ∧
  (decode cX4_init 4 = .ok (.aload_n 0, 1)) ∧
  (decode cX4_init 5 = .ok (.new 7, 3)) ∧
  (decode cX4_init 8 = .ok (.dup, 1)) ∧
  (decode cX4_init 9 = .ok (.invokespecial 9, 3)) ∧
  (decode cX4_init 12 = .ok (.putfield 10, 3)) ∧
  (decode cX4_init 15 = .ok (.aload_n 0, 1)) ∧
  (decode cX4_init 16 = .ok (.iload_n 1, 1)) ∧
  (decode cX4_init 17 = .ok (.putfield 16, 3)) ∧
  (decode cX4_init 20 = .ok (.aload_n 0, 1)) ∧
  (decode cX4_init 21 = .ok (.iload_n 2, 1)) ∧
  (decode cX4_init 22 = .ok (.putfield 20, 3)) ∧
  (decode cX4_init 25 = .ok (.return_, 1)) :=
  ⟨by decide +kernel, by decide +kernel, by decide +kernel, by decide +kernel, by decide +kernel, by decide +kernel, by decide +kernel, by decide +kernel, by decide +kernel, by decide +kernel, by decide +kernel, by decide +kernel, by decide +kernel, by decide +kernel⟩
theorem DX4_put : (decode cX4_put 0 = .ok (.iconst 0, 1)) ∧
  (decode cX4_put 1 = .ok (.istore_n 2, 1)) ∧
  (decode cX4_put 2 = .ok (.iload_n 2, 1)) ∧
  (decode cX4_put 3 = .ok (.aload_n 0, 1)) ∧
  (decode cX4_put 4 = .ok (.getfield 10, 3)) ∧
  (decode cX4_put 7 = .ok (.invokevirtual 23, 3)) ∧
  (decode cX4_put 10 = .ok (.if_icmp .ge 34, 3)) ∧
  (decode cX4_put 13 = .ok (.aload_n 0, 1)) ∧
  (decode cX4_put 14 = .ok (.getfield 10, 3)) ∧
  (decode cX4_put 17 = .ok (.iload_n 2, 1)) ∧
  (decode cX4_put 18 = .ok (.invokevirtual 27, 3)) ∧
  (decode cX4_put 21 = .ok (.checkcast 31, 3)) ∧
  (decode cX4_put 24 = .ok (.aload_n 1, 1)) ∧
  (decode cX4_put 25 = .ok (.invokevirtual 33, 3)) ∧
  (decode cX4_put 28 = .ok (.aload_n 1, 1)) ∧
  (decode cX4_put 29 = .ok (.invokevirtual 36, 3)) ∧
  (decode cX4_put 32 = .ok (.invokevirtual 39, 3)) ∧
  (decode cX4_put 35 = .ok (.ifCond .eq 9, 3)) ∧
  (decode cX4_put 38 = .ok (.iinc 2 1, 3)) ∧
  (decode cX4_put 41 = .ok (.goto (-39), 3)) ∧
  (decode cX4_put 44 = .ok (.aload_n 0, 1)) ∧
  (decode cX4_put 45 = .ok (.getfield 10, 3)) ∧
  (decode cX4_put 48 = .ok (.iload_n 2, 1)) ∧
  (decode cX4_put 49 = .ok (.aload_n 1, 1)) ∧
  (decode cX4_put 50 = .ok (.invokevirtual 43, 3)) ∧
  (decode cX4_put 53 = .ok (.return_, 1)) :=
  ⟨by decide +kernel, by decide +kernel, by decide +kernel, by decide +kernel, by decide +kernel, by decide +kernel, by decide +kernel, by decide +kernel, by decide +kernel, by decide +kernel, by decide +kernel, by decide +kernel, by decide +kernel, by decide +kernel, by decide +kernel, by decide +kernel, by decide +kernel, by decide +kernel, by decide +kernel, by decide +kernel, by decide +kernel, by decide +kernel, by decide +kernel, by decide +kernel, by decide +kernel, by decide +kernel⟩
theorem DX4_before : (decode cX4_before 0 = .ok (.aload_n 0, 1)) ∧
  (decode cX4_before 1 = .ok (.getfield 10, 3)) ∧
  (decode cX4_before 4 = .ok (.invokevirtual 23, 3)) ∧
  (decode cX4_before 7 = .ok (.iconst 1, 1)) ∧
  (decode cX4_before 8 = .ok (.isub, 1)) ∧
  (decode cX4_before 9 = .ok (.istore_n 3, 1)) ∧
  (decode cX4_before 10 = .ok (.iload_n 3, 1)) ∧
  (decode cX4_before 11 = .ok (.ifCond .le 28, 3)) ∧
  (decode cX4_before 14 = .ok (.aload_n 0, 1)) ∧
  (decode cX4_before 15 = .ok (.getfield 10, 3)) ∧
  (decode cX4_before 18 = .ok (.iload_n 3, 1)) ∧
  (decode cX4_before 19 = .ok (.invokevirtual 27, 3)) ∧
  (decode cX4_before 22 = .ok (.checkcast 31, 3)) ∧
  (decode cX4_before 25 = .ok (.iload_n 1, 1)) ∧
  (decode cX4_before 26 = .ok (.iload_n 2, 1)) ∧
  (decode cX4_before 27 = .ok (.invokevirtual 39, 3)) ∧
  (decode cX4_before 30 = .ok (.ifCond .ne 9, 3)) ∧
  (decode cX4_before 33 = .ok (.iinc 3 (-1), 3)) ∧
  (decode cX4_before 36 = .ok (.goto (-26), 3)) ∧
  (decode cX4_before 39 = .ok (.aload_n 0, 1)) ∧
  (decode cX4_before 40 = .ok (.getfield 10, 3)) ∧
  (decode cX4_before 43 = .ok (.iload_n 3, 1)) ∧
  (decode cX4_before 44 = .ok (.invokevirtual 27, 3)) ∧
  (decode cX4_before 47 = .ok (.checkcast 31, 3)) ∧
  (decode cX4_before 50 = .ok (.iload_n 1, 1)) ∧
  (decode cX4_before 51 = .ok (.iload_n 2, 1)) ∧
  (decode cX4_before 52 = .ok (.invokevirtual 39, 3)) ∧
  (decode cX4_before 55 = .ok (.ifCond .eq 17, 3)) ∧
  (decode cX4_before 58 = .ok (.aload_n 0, 1)) ∧
  (decode cX4_before 59 = .ok (.getfield 10, 3)) ∧
  (decode cX4_before 62 = .ok (.iload_n 3, 1)) ∧
  (decode cX4_before 63 = .ok (.invokevirtual 27, 3)) ∧
  (decode cX4_before 66 = .ok (.checkcast 31, 3)) ∧
  (decode cX4_before 69 = .ok (.goto 22, 3)) ∧
  (decode cX4_before 72 = .ok (.aload_n 0, 1)) ∧
  (decode cX4_before 73 = .ok (.getfield 10, 3)) ∧
  (decode cX4_before 76 = .ok (.aload_n 0, 1)) ∧
  (decode cX4_before 77 = .ok (.getfield 10, 3)) ∧
  (decode cX4_before 80 = .ok (.invokevirtual 23, 3)) ∧
  (decode cX4_before 83 = .ok (.iconst 1, 1)) ∧
  (decode cX4_before 84 = .ok (.isub, 1)) ∧
  (decode cX4_before 85 = .ok (.invokevirtual 27, 3)) ∧
  (decode cX4_before 88 = .ok (.checkcast 31, 3)) ∧
  (decode cX4_before 91 = .ok (.areturn, 1)) :=
  ⟨by decide +kernel, by decide +kernel, by decide +kernel, by decide +kernel, by decide +kernel, by decide +kernel, by decide +kernel, by decide +kernel, by decide +kernel, by decide +kernel, by decide +kernel, by decide +kernel, by decide +kernel, by decide +kernel, by decide +kernel, by decide +kernel, by decide +kernel, by decide +kernel, by decide +kernel, by decide +kernel, by decide +kernel, by decide +kernel, by decide +kernel, by decide +kernel, by decide +kernel, by decide +kernel, by decide +kernel, by decide +kernel, by decide +kernel, by decide +kernel, by decide +kernel, by decide +kernel, by decide +kernel, by decide +kernel, by decide +kernel, by decide +kernel, by decide +kernel, by decide +kernel, by decide +kernel, by decide +kernel, by decide +kernel, by decide +kernel, by decide +kernel, by decide +kernel⟩
theorem DX5_init : (decode cX5_init 0 = .ok (.aload_n 0, 1)) ∧
  (decode cX5_init 1 = .ok (.invokespecial 1, 3)) ∧
  (decode cX5_init 4 = .ok (.aload_n 0, 1)) ∧
  (decode cX5_init 5 = .ok (.aload_n 1, 1)) ∧
  (decode cX5_init 6 = .ok (.putfield 7, 3)) ∧
  (decode cX5_init 9 = .ok (.return_, 1)) :=
  ⟨by decide +kernel, by decide +kernel, by decide +kernel, by decide +kernel, by decide +kernel, by decide +kernel⟩
theorem DX5_iterator : (decode cX5_iterator 0 = .ok (.new 13, 3)) ∧
  (decode cX5_iterator 3 = .ok (.dup, 1)) ∧
  (decode cX5_iterator 4 = .ok (.aload_n 0, 1)) ∧
  (decode cX5_iterator 5 = .ok (.getfield 7, 3)) ∧
  (decode cX5_iterator 8 = .ok (.invokespecial 15, 3)) ∧
  (decode cX5_iterator 11 = .ok (.areturn, 1)) :=
  ⟨by decide +kernel, by decide +kernel, by decide +kernel, by decide +kernel, by decide +kernel, by decide +kernel⟩
theorem DX5_area : (decode cX5_area 0 = .ok (.lconst 0, 1)) ∧
  (decode cX5_area 1 = .ok (.lstore_n 1, 1)) ∧
  (decode cX5_area 2 = .ok (.aload_n 0, 1)) ∧
  (decode cX5_area 3 = .ok (.invokevirtual 18, 3)) ∧
  (decode cX5_area 6 = .ok (.astore_n 3, 1)) ∧
  (decode cX5_area 7 = .ok (.aload_n 3, 1)) ∧
  (decode cX5_area 8 = .ok (.invokeinterface 22 1, 5)) ∧
  (decode cX5_area 13 = .ok (.ifCond .eq 65, 3)) ∧
  (decode cX5_area 16 = .ok (.aload_n 3, 1)) ∧
  (decode cX5_area 17 = .ok (.invokeinterface 28 1, 5)) ∧
  (decode cX5_area 22 = .ok (.checkcast 32, 3)) ∧
  (decode cX5_area 25 = .ok (.astore 4, 2)) ∧
  (decode cX5_area 27 = .ok (.lload_n 1, 1)) ∧
  (decode cX5_area 28 = .ok (.aload 4, 2)) ∧
  (decode cX5_area 30 = .ok (.getfield 34, 3)) ∧
  (decode cX5_area 33 = .ok (.getfield 38, 3)) ∧
  (decode cX5_area 36 = .ok (.i2l, 1)) ∧
  (decode cX5_area 37 = .ok (.aload 4, 2)) ∧
  (decode cX5_area 39 = .ok (.getfield 34, 3)) ∧
  (decode cX5_area 42 = .ok (.getfield 44, 3)) ∧
  (decode cX5_area 45 = .ok (.i2l, 1)) ∧
  (decode cX5_area 46 = .ok (.aload 4, 2)) ∧
  (decode cX5_area 48 = .ok (.getfield 47, 3)) ∧
  (decode cX5_area 51 = .ok (.getfield 34, 3)) ∧
  (decode cX5_area 54 = .ok (.getfield 38, 3)) ∧
  (decode cX5_area 57 = .ok (.i2l, 1)) ∧
  (decode cX5_area 58 = .ok (.aload 4, 2)) ∧
  (decode cX5_area 60 = .ok (.getfield 47, 3)) ∧
  (decode cX5_area 63 = .ok (.getfield 34, 3)) ∧
  (decode cX5_area 66 = .ok (.getfield 44, 3)) ∧
  (decode cX5_area 69 = .ok (.i2l, 1)) ∧
  (decode cX5_area 70 = .ok (.invokestatic 50, 3)) ∧
  (decode cX5_area 73 = .ok (.ladd, 1)) ∧
  (decode cX5_area 74 = .ok (.lstore_n 1, 1)) ∧
  (decode cX5_area 75 = .ok (.goto (-68), 3)) ∧
  (decode cX5_area 78 = .ok (.lload_n 1, 1)) ∧
  (decode cX5_area 79 = .ok (.lreturn, 1)) :=
  ⟨by decide +kernel, by decide +kernel, by decide +kernel, by decide +kernel, by decide +kernel, by decide +kernel, by decide +kernel, by decide +kernel, by decide +kernel, by decide +kernel, by decide +kernel, by decide +kernel, by decide +kernel, by decide +kernel, by decide +kernel, by decide +kernel, by decide +kernel, by decide +kernel, by decide +kernel, by decide +kernel, by decide +kernel, by decide +kernel, by decide +kernel, by decide +kernel, by decide +kernel, by decide +kernel, by decide +kernel, by decide +kernel, by decide +kernel, by decide +kernel, by decide +kernel, by decide +kernel, by decide +kernel, by decide +kernel, by decide +kernel, by decide +kernel, by decide +kernel⟩
theorem DX5_least : (decode cX5_least 0 = .ok (.aload_n 0, 1)) ∧
  (decode cX5_least 1 = .ok (.getfield 7, 3)) ∧
  (decode cX5_least 4 = .ok (.getfield 56, 3)) ∧
  (decode cX5_least 7 = .ok (.istore_n 1, 1)) ∧
  (decode cX5_least 8 = .ok (.aload_n 0, 1)) ∧
  (decode cX5_least 9 = .ok (.invokevirtual 18, 3)) ∧
  (decode cX5_least 12 = .ok (.astore_n 2, 1)) ∧
  (decode cX5_least 13 = .ok (.aload_n 2, 1)) ∧
  (decode cX5_least 14 = .ok (.invokeinterface 22 1, 5)) ∧
  (decode cX5_least 19 = .ok (.ifCond .eq 25, 3)) ∧
  (decode cX5_least 22 = .ok (.aload_n 2, 1)) ∧
  (decode cX5_least 23 = .ok (.invokeinterface 28 1, 5)) ∧
  (decode cX5_least 28 = .ok (.checkcast 32, 3)) ∧
  (decode cX5_least 31 = .ok (.astore_n 3, 1)) ∧
  (decode cX5_least 32 = .ok (.iload_n 1, 1)) ∧
  (decode cX5_least 33 = .ok (.aload_n 3, 1)) ∧
  (decode cX5_least 34 = .ok (.getfield 56, 3)) ∧
  (decode cX5_least 37 = .ok (.invokestatic 59, 3)) ∧
  (decode cX5_least 40 = .ok (.istore_n 1, 1)) ∧
  (decode cX5_least 41 = .ok (.goto (-28), 3)) ∧
  (decode cX5_least 44 = .ok (.iload_n 1, 1)) ∧
  (decode cX5_least 45 = .ok (.ireturn, 1)) :=
  ⟨by decide +kernel, by decide +kernel, by decide +kernel, by decide +kernel, by decide +kernel, by decide +kernel, by decide +kernel, by decide +kernel, by decide +kernel, by decide +kernel, by decide +kernel, by decide +kernel, by decide +kernel, by decide +kernel, by decide +kernel, by decide +kernel, by decide +kernel, by decide +kernel, by decide +kernel, by decide +kernel, by decide +kernel, by decide +kernel⟩
theorem DX5_corner : (decode cX5_corner 0 = .ok (.aload_n 0, 1)) ∧
  (decode cX5_corner 1 = .ok (.getfield 7, 3)) ∧
  (decode cX5_corner 4 = .ok (.getfield 34, 3)) ∧
  (decode cX5_corner 7 = .ok (.astore_n 1, 1)) ∧
  (decode cX5_corner 8 = .ok (.aload_n 0, 1)) ∧
  (decode cX5_corner 9 = .ok (.invokevirtual 18, 3)) ∧
  (decode cX5_corner 12 = .ok (.astore_n 2, 1)) ∧
  (decode cX5_corner 13 = .ok (.aload_n 2, 1)) ∧
  (decode cX5_corner 14 = .ok (.invokeinterface 22 1, 5)) ∧
  (decode cX5_corner 19 = .ok (.ifCond .eq 63, 3)) ∧
  (decode cX5_corner 22 = .ok (.aload_n 2, 1)) ∧
  (decode cX5_corner 23 = .ok (.invokeinterface 28 1, 5)) ∧
  (decode cX5_corner 28 = .ok (.checkcast 32, 3)) ∧
  (decode cX5_corner 31 = .ok (.astore_n 3, 1)) ∧
  (decode cX5_corner 32 = .ok (.aload_n 3, 1)) ∧
  (decode cX5_corner 33 = .ok (.getfield 34, 3)) ∧
  (decode cX5_corner 36 = .ok (.getfield 38, 3)) ∧
  (decode cX5_corner 39 = .ok (.aload_n 1, 1)) ∧
  (decode cX5_corner 40 = .ok (.getfield 38, 3)) ∧
  (decode cX5_corner 43 = .ok (.if_icmp .lt 31, 3)) ∧
  (decode cX5_corner 46 = .ok (.aload_n 3, 1)) ∧
  (decode cX5_corner 47 = .ok (.getfield 34, 3)) ∧
  (decode cX5_corner 50 = .ok (.getfield 38, 3)) ∧
  (decode cX5_corner 53 = .ok (.aload_n 1, 1)) ∧
  (decode cX5_corner 54 = .ok (.getfield 38, 3)) ∧
  (decode cX5_corner 57 = .ok (.if_icmp .ne 22, 3)) ∧
  (decode cX5_corner 60 = .ok (.aload_n 3, 1)) ∧
  (decode cX5_corner 61 = .ok (.getfield 34, 3)) ∧
  (decode cX5_corner 64 = .ok (.getfield 44, 3)) ∧
  (decode cX5_corner 67 = .ok (.aload_n 1, 1)) ∧
  (decode cX5_corner 68 = .ok (.getfield 44, 3)) ∧
  (decode cX5_corner 71 = .ok (.if_icmp .ge 8, 3)) ∧
  (decode cX5_corner 74 = .ok (.aload_n 3, 1)) ∧
  (decode cX5_corner 75 = .ok (.getfield 34, 3)) ∧
  (decode cX5_corner 78 = .ok (.astore_n 1, 1)) ∧
  (decode cX5_corner 79 = .ok (.goto (-66), 3)) ∧
  (decode cX5_corner 82 = .ok (.aload_n 1, 1)) ∧
  (decode cX5_corner 83 = .ok (.areturn, 1)) :=
  ⟨by decide +kernel, by decide +kernel, by decide +kernel, by decide +kernel, by decide +kernel, by decide +kernel, by decide +kernel, by decide +kernel, by decide +kernel, by decide +kernel, by decide +kernel, by decide +kernel, by decide +kernel, by decide +kernel, by decide +kernel, by decide +kernel, by decide +kernel, by decide +kernel, by decide +kernel, by decide +kernel, by decide +kernel, by decide +kernel, by decide +kernel, by decide +kernel, by decide +kernel, by decide +kernel, by decide +kernel, by decide +kernel, by decide +kernel, by decide +kernel, by decide +kernel, by decide +kernel, by decide +kernel, by decide +kernel, by decide +kernel, by decide +kernel, by decide +kernel, by decide +kernel⟩
theorem DX5_size : (decode cX5_size 0 = .ok (.iconst 0, 1)) ∧
  (decode cX5_size 1 = .ok (.istore_n 1, 1)) ∧
  (decode cX5_size 2 = .ok (.aload_n 0, 1)) ∧
  (decode cX5_size 3 = .ok (.invokevirtual 18, 3)) ∧
  (decode cX5_size 6 = .ok (.astore_n 2, 1)) ∧
  (decode cX5_size 7 = .ok (.aload_n 2, 1)) ∧
  (decode cX5_size 8 = .ok (.invokeinterface 22 1, 5)) ∧
  (decode cX5_size 13 = .ok (.ifCond .eq 16, 3)) ∧
  (decode cX5_size 16 = .ok (.iinc 1 1, 3)) ∧
  (decode cX5_size 19 = .ok (.aload_n 2, 1)) ∧
  (decode cX5_size 20 = .ok (.invokeinterface 28 1, 5)) ∧
  (decode cX5_size 25 = .ok (.pop, 1)) ∧
  (decode cX5_size 26 = .ok (.goto (-19), 3)) ∧
  (decode cX5_size 29 = .ok (.iload_n 1, 1)) ∧
  (decode cX5_size 30 = .ok (.ireturn, 1)) :=
  ⟨by decide +kernel, by decide +kernel, by decide +kernel, by decide +kernel, by decide +kernel, by decide +kernel, by decide +kernel, by decide +kernel, by decide +kernel, by decide +kernel, by decide +kernel, by decide +kernel, by decide +kernel, by decide +kernel, by decide +kernel⟩
theorem DX6_init : (decode cX6_init 0 = .ok (.aload_n 0, 1)) ∧
  (decode cX6_init 1 = .ok (.invokespecial 1, 3)) ∧
  (decode cX6_init 4 = .ok (.aload_n 0, 1)) ∧
  (decode cX6_init 5 = .ok (.aload_n 1, 1)) ∧
  (decode cX6_init 6 = .ok (.putfield 7, 3)) ∧
  (decode cX6_init 9 = .ok (.aload_n 0, 1)) ∧
  (decode cX6_init 10 = .ok (.aload_n 1, 1)) ∧
  (decode cX6_init 11 = .ok (.putfield 13, 3)) ∧
  (decode cX6_init 14 = .ok (.return_, 1)) :=
  ⟨by decide +kernel, by decide +kernel, by decide +kernel, by decide +kernel, by decide +kernel, by decide +kernel, by decide +kernel, by decide +kernel, by decide +kernel⟩
theorem DX6_hasNext : (decode cX6_hasNext 0 = .ok (.aload_n 0, 1)) ∧
  (decode cX6_hasNext 1 = .ok (.getfield 16, 3)) ∧
  (decode cX6_hasNext 4 = .ok (.ifCond .ne 7, 3)) ∧
  (decode cX6_hasNext 7 = .ok (.iconst 1, 1)) ∧
  (decode cX6_hasNext 8 = .ok (.goto 4, 3)) ∧
  (decode cX6_hasNext 11 = .ok (.iconst 0, 1)) ∧
  (decode cX6_hasNext 12 = .ok (.ireturn, 1)) :=
  ⟨by decide +kernel, by decide +kernel, by decide +kernel, by decide +kernel, by decide +kernel, by decide +kernel, by decide +kernel⟩
theorem DX6_next : (decode cX6_next 0 = .ok (.aload_n 0, 1)) ∧
  (decode cX6_next 1 = .ok (.invokevirtual 25, 3)) ∧
  (decode cX6_next 4 = .ok (.areturn, 1)) :=
  ⟨by decide +kernel, by decide +kernel, by decide +kernel⟩
theorem DX6_next_2 : (decode cX6_next_2 0 = .ok (.aload_n 0, 1)) ∧
  (decode cX6_next_2 1 = .ok (.getfield 13, 3)) ∧
  (decode cX6_next_2 4 = .ok (.astore_n 1, 1)) ∧
  (decode cX6_next_2 5 = .ok (.aload_n 0, 1)) ∧
  (decode cX6_next_2 6 = .ok (.aload_n 0, 1)) ∧
  (decode cX6_next_2 7 = .ok (.getfield 13, 3)) ∧
  (decode cX6_next_2 10 = .ok (.getfield 20, 3)) ∧
  (decode cX6_next_2 13 = .ok (.putfield 13, 3)) ∧
  (decode cX6_next_2 16 = .ok (.aload_n 0, 1)) ∧
  (decode cX6_next_2 17 = .ok (.aload_n 0, 1)) ∧
  (decode cX6_next_2 18 = .ok (.getfield 13, 3)) ∧
  (decode cX6_next_2 21 = .ok (.aload_n 0, 1)) ∧
  (decode cX6_next_2 22 = .ok (.getfield 7, 3)) ∧
  (decode cX6_next_2 25 = .ok (.if_acmp .ne 7, 3)) ∧
  (decode cX6_next_2 28 = .ok (.iconst 1, 1)) ∧
  (decode cX6_next_2 29 = .ok (.goto 4, 3)) ∧
  (decode cX6_next_2 32 = .ok (.iconst 0, 1)) ∧
  (decode cX6_next_2 33 = .ok (.putfield 16, 3)) ∧
  (decode cX6_next_2 36 = .ok (.aload_n 1, 1)) ∧
  (decode cX6_next_2 37 = .ok (.areturn, 1)) :=
  ⟨by decide +kernel, by decide +kernel, by decide +kernel, by decide +kernel, by decide +kernel, by decide +kernel, by decide +kernel, by decide +kernel, by decide +kernel, by decide +kernel, by decide +kernel, by decide +kernel, by decide +kernel, by decide +kernel, by decide +kernel, by decide +kernel, by decide +kernel, by decide +kernel, by decide +kernel, by decide +kernel⟩
theorem DX7_init : (decode cX7_init 0 = .ok (.aload_n 0, 1)) ∧
  (decode cX7_init 1 = .ok (.invokespecial 3, 3)) ∧
  (decode cX7_init 4 = .ok (.aload_n 0, 1)) ∧
  (decode cX7_init 5 = .ok (.new 9, 3)) ∧
  (decode cX7_init 8 = .ok (.dup, 1)) ∧
  (decode cX7_init 9 = .ok (.invokespecial 11, 3)) ∧
  (decode cX7_init 12 = .ok (.putfield 12, 3)) ∧
  (decode cX7_init 15 = .ok (.aload_n 0, 1)) ∧
  (decode cX7_init 16 = .ok (.bipush 120, 2)) ∧
  (decode cX7_init 18 = .ok (.putfield 18, 3)) ∧
  (decode cX7_init 21 = .ok (.return_, 1)) :=
  ⟨by decide +kernel, by decide +kernel, by decide +kernel, by decide +kernel, by decide +kernel, by decide +kernel, by decide +kernel, by decide +kernel, by decide +kernel, by decide +kernel, by decide +kernel⟩
theorem DX7_add : (decode cX7_add 0 = .ok (.aload_n 1, 1)) ∧
  (decode cX7_add 1 = .ok (.aload_n 0, 1)) ∧
  (decode cX7_add 2 = .ok (.putfield 22, 3)) ∧
  (decode cX7_add 5 = .ok (.aload_n 0, 1)) ∧
  (decode cX7_add 6 = .ok (.getfield 12, 3)) ∧
  (decode cX7_add 9 = .ok (.aload_n 1, 1)) ∧
  (decode cX7_add 10 = .ok (.invokevirtual 28, 3)) ∧
  (decode cX7_add 13 = .ok (.pop, 1)) ∧
  (decode cX7_add 14 = .ok (.aload_n 0, 1)) ∧
  (decode cX7_add 15 = .ok (.aload_n 0, 1)) ∧
  (decode cX7_add 16 = .ok (.getfield 18, 3)) ∧
  (decode cX7_add 19 = .ok (.aload_n 1, 1)) ∧
  (decode cX7_add 20 = .ok (.invokevirtual 32, 3)) ∧
  (decode cX7_add 23 = .ok (.invokestatic 35, 3)) ∧
  (decode cX7_add 26 = .ok (.putfield 18, 3)) ∧
  (decode cX7_add 29 = .ok (.return_, 1)) :=
  ⟨by decide +kernel, by decide +kernel, by decide +kernel, by decide +kernel, by decide +kernel, by decide +kernel, by decide +kernel, by decide +kernel, by decide +kernel, by decide +kernel, by decide +kernel, by decide +kernel, by decide +kernel, by decide +kernel, by decide +kernel, by decide +kernel⟩
theorem DX7_area : (decode cX7_area 0 = .ok (.lconst 0, 1)) ∧
  (decode cX7_area 1 = .ok (.lstore_n 1, 1)) ∧
  (decode cX7_area 2 = .ok (.iconst 0, 1)) ∧
  (decode cX7_area 3 = .ok (.istore_n 3, 1)) ∧
  (decode cX7_area 4 = .ok (.iload_n 3, 1)) ∧
  (decode cX7_area 5 = .ok (.aload_n 0, 1)) ∧
  (decode cX7_area 6 = .ok (.getfield 12, 3)) ∧
  (decode cX7_area 9 = .ok (.invokevirtual 41, 3)) ∧
  (decode cX7_area 12 = .ok (.if_icmp .ge 26, 3)) ∧
  (decode cX7_area 15 = .ok (.lload_n 1, 1)) ∧
  (decode cX7_area 16 = .ok (.aload_n 0, 1)) ∧
  (decode cX7_area 17 = .ok (.getfield 12, 3)) ∧
  (decode cX7_area 20 = .ok (.iload_n 3, 1)) ∧
  (decode cX7_area 21 = .ok (.invokevirtual 44, 3)) ∧
  (decode cX7_area 24 = .ok (.checkcast 23, 3)) ∧
  (decode cX7_area 27 = .ok (.invokevirtual 48, 3)) ∧
  (decode cX7_area 30 = .ok (.ladd, 1)) ∧
  (decode cX7_area 31 = .ok (.lstore_n 1, 1)) ∧
  (decode cX7_area 32 = .ok (.iinc 3 1, 3)) ∧
  (decode cX7_area 35 = .ok (.goto (-31), 3)) ∧
  (decode cX7_area 38 = .ok (.lload_n 1, 1)) ∧
  (decode cX7_area 39 = .ok (.lreturn, 1)) :=
  ⟨by decide +kernel, by decide +kernel, by decide +kernel, by decide +kernel, by decide +kernel, by decide +kernel, by decide +kernel, by decide +kernel, by decide +kernel, by decide +kernel, by decide +kernel, by decide +kernel, by decide +kernel, by decide +kernel, by decide +kernel, by decide +kernel, by decide +kernel, by decide +kernel, by decide +kernel, by decide +kernel, by decide +kernel, by decide +kernel⟩
theorem DJ0_init : (decode cJ0_init 0 = .ok (.aload_n 0, 1)) ∧
  (decode cJ0_init 1 = .ok (.invokespecial 1, 3)) ∧
  (decode cJ0_init 4 = .ok (.return_, 1)) :=
  ⟨by decide +kernel, by decide +kernel, by decide +kernel⟩
theorem DJ1_init : (decode cJ1_init 0 = .ok (.aload_n 0, 1)) ∧
  (decode cJ1_init 1 = .ok (.invokespecial 1, 3)) ∧
  (decode cJ1_init 4 = .ok (.aload_n 0, 1)) ∧
  (decode cJ1_init 5 = .ok (.iconst 0, 1)) ∧
  (decode cJ1_init 6 = .ok (.putfield 7, 3)) ∧
  (decode cJ1_init 9 = .ok (.return_, 1)) :=
  ⟨by decide +kernel, by decide +kernel, by decide +kernel, by decide +kernel, by decide +kernel, by decide +kernel⟩
theorem DJ2_init : (decode cJ2_init 0 = .ok (.aload_n 0, 1)) ∧
  (decode cJ2_init 1 = .ok (.invokespecial 1, 3)) ∧
  (decode cJ2_init 4 = .ok (.aload_n 0, 1)) ∧
  (decode cJ2_init 5 = .ok (.getstatic 39, 3)) ∧
  (decode cJ2_init 8 = .ok (.putfield 9, 3)) ∧
  (decode cJ2_init 11 = .ok (.return_, 1)) :=
  ⟨by decide +kernel, by decide +kernel, by decide +kernel, by decide +kernel, by decide +kernel, by decide +kernel⟩
theorem DJ2_clear : (decode cJ2_clear 0 = .ok (.aload_n 0, 1)) ∧
  (decode cJ2_clear 1 = .ok (.dup, 1)) ∧
  (decode cJ2_clear 2 = .ok (.getfield 63, 3)) ∧
  (decode cJ2_clear 5 = .ok (.iconst 1, 1)) ∧
  (decode cJ2_clear 6 = .ok (.iadd, 1)) ∧
  (decode cJ2_clear 7 = .ok (.putfield 63, 3)) ∧
  (decode cJ2_clear 10 = .ok (.aload_n 0, 1)) ∧
  (decode cJ2_clear 11 = .ok (.getfield 9, 3)) ∧
  (decode cJ2_clear 14 = .ok (.astore_n 1, 1)) ∧
  (decode cJ2_clear 15 = .ok (.aload_n 0, 1)) ∧
  (decode cJ2_clear 16 = .ok (.getfield 48, 3)) ∧
  (decode cJ2_clear 19 = .ok (.istore_n 2, 1)) ∧
  (decode cJ2_clear 20 = .ok (.aload_n 0, 1)) ∧
  (decode cJ2_clear 21 = .ok (.iconst 0, 1)) ∧
  (decode cJ2_clear 22 = .ok (.dup_x1, 1)) ∧
  (decode cJ2_clear 23 = .ok (.putfield 48, 3)) ∧
  (decode cJ2_clear 26 = .ok (.istore_n 3, 1)) ∧
  (decode cJ2_clear 27 = .ok (.iload_n 3, 1)) ∧
  (decode cJ2_clear 28 = .ok (.iload_n 2, 1)) ∧
  (decode cJ2_clear 29 = .ok (.if_icmp .ge 13, 3)) ∧
  (decode cJ2_clear 32 = .ok (.aload_n 1, 1)) ∧
  (decode cJ2_clear 33 = .ok (.iload_n 3, 1)) ∧
  (decode cJ2_clear 34 = .ok (.aconst_null, 1)) ∧
  (decode cJ2_clear 35 = .ok (.aastore, 1)) ∧
  (decode cJ2_clear 36 = .ok (.iinc 3 1, 3)) ∧
  (decode cJ2_clear 39 = .ok (.goto (-12), 3)) ∧
  (decode cJ2_clear 42 = .ok (.return_, 1)) :=
  ⟨by decide +kernel, by decide +kernel, by decide +kernel, by decide +kernel, by decide +kernel, by decide +kernel, by decide +kernel, by decide +kernel, by decide +kernel, by decide +kernel, by decide +kernel, by decide +kernel, by decide +kernel, by decide +kernel, by decide +kernel, by decide +kernel, by decide +kernel, by decide +kernel, by decide +kernel, by decide +kernel, by decide +kernel, by decide +kernel, by decide +kernel, by decide +kernel, by decide +kernel, by decide +kernel, by decide +kernel⟩
theorem DJ2_size : (decode cJ2_size 0 = .ok (.aload_n 0, 1)) ∧
  (decode cJ2_size 1 = .ok (.getfield 48, 3)) ∧
  (decode cJ2_size 4 = .ok (.ireturn, 1)) :=
  ⟨by decide +kernel, by decide +kernel, by decide +kernel⟩
theorem DJ2_get : (decode cJ2_get 0 = .ok (.iload_n 1, 1)) ∧
  (decode cJ2_get 1 = .ok (.aload_n 0, 1)) ∧
  (decode cJ2_get 2 = .ok (.getfield 48, 3)) ∧
  (decode cJ2_get 5 = .ok (.invokestatic 118, 3)) ∧
  (decode cJ2_get 8 = .ok (.pop, 1)) ∧
  (decode cJ2_get 9 = .ok (.aload_n 0, 1)) ∧
  (decode cJ2_get 10 = .ok (.iload_n 1, 1)) ∧
  (decode cJ2_get 11 = .ok (.invokevirtual 123, 3)) ∧
  (decode cJ2_get 14 = .ok (.areturn, 1)) :=
  ⟨by decide +kernel, by decide +kernel, by decide +kernel, by decide +kernel, by decide +kernel, by decide +kernel, by decide +kernel, by decide +kernel, by decide +kernel⟩
theorem DJ2_elementData : (decode cJ2_elementData 0 = .ok (.aload_n 0, 1)) ∧
  (decode cJ2_elementData 1 = .ok (.getfield 9, 3)) ∧
  (decode cJ2_elementData 4 = .ok (.iload_n 1, 1)) ∧
  (decode cJ2_elementData 5 = .ok (.aaload, 1)) ∧
  (decode cJ2_elementData 6 = .ok (.areturn, 1)) :=
  ⟨by decide +kernel, by decide +kernel, by decide +kernel, by decide +kernel, by decide +kernel⟩
theorem DJ2_add : (decode cJ2_add 0 = .ok (.aload_n 0, 1)) ∧
  (decode cJ2_add 1 = .ok (.dup, 1)) ∧
  (decode cJ2_add 2 = .ok (.getfield 63, 3)) ∧
  (decode cJ2_add 5 = .ok (.iconst 1, 1)) ∧
  (decode cJ2_add 6 = .ok (.iadd, 1)) ∧
  (decode cJ2_add 7 = .ok (.putfield 63, 3)) ∧
  (decode cJ2_add 10 = .ok (.aload_n 0, 1)) ∧
  (decode cJ2_add 11 = .ok (.aload_n 1, 1)) ∧
  (decode cJ2_add 12 = .ok (.aload_n 0, 1)) ∧
  (decode cJ2_add 13 = .ok (.getfield 9, 3)) ∧
  (decode cJ2_add 16 = .ok (.aload_n 0, 1)) ∧
  (decode cJ2_add 17 = .ok (.getfield 48, 3)) ∧
  (decode cJ2_add 20 = .ok (.invokevirtual 131, 3)) ∧
  (decode cJ2_add 23 = .ok (.iconst 1, 1)) ∧
  (decode cJ2_add 24 = .ok (.ireturn, 1)) :=
  ⟨by decide +kernel, by decide +kernel, by decide +kernel, by decide +kernel, by decide +kernel, by decide +kernel, by decide +kernel, by decide +kernel, by decide +kernel, by decide +kernel, by decide +kernel, by decide +kernel, by decide +kernel, by decide +kernel, by decide +kernel⟩
