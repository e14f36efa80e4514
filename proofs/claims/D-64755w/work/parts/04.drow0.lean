set_option maxRecDepth 100000
theorem dX3_init_0 : decode cX3_init 0 = .ok (.aload_n 0, 1) := DX3_init.1
theorem dX3_init_1 : decode cX3_init 1 = .ok (.invokespecial 1, 3) := DX3_init.2.1
theorem dX3_init_4 : decode cX3_init 4 = .ok (.aload_n 0, 1) := DX3_init.2.2.1
theorem dX3_init_5 : decode cX3_init 5 = .ok (.iload_n 1, 1) := DX3_init.2.2.2.1
theorem dX3_init_6 : decode cX3_init 6 = .ok (.putfield 7, 3) := DX3_init.2.2.2.2.1
theorem dX3_init_9 : decode cX3_init 9 = .ok (.aload_n 0, 1) := DX3_init.2.2.2.2.2.1
theorem dX3_init_10 : decode cX3_init 10 = .ok (.aload_n 2, 1) := DX3_init.2.2.2.2.2.2.1
theorem dX3_init_11 : decode cX3_init 11 = .ok (.putfield 13, 3) := DX3_init.2.2.2.2.2.2.2.1
theorem dX3_init_14 : decode cX3_init 14 = .ok (.return_, 1) := DX3_init.2.2.2.2.2.2.2.2
theorem dX3_dx_0 : decode cX3_dx 0 = .ok (.aload_n 0, 1) := DX3_dx.1
theorem dX3_dx_1 : decode cX3_dx 1 = .ok (.getfield 17, 3) := DX3_dx.2.1
theorem dX3_dx_4 : decode cX3_dx 4 = .ok (.getfield 13, 3) := DX3_dx.2.2.1
theorem dX3_dx_7 : decode cX3_dx 7 = .ok (.getfield 21, 3) := DX3_dx.2.2.2.1
theorem dX3_dx_10 : decode cX3_dx 10 = .ok (.aload_n 0, 1) := DX3_dx.2.2.2.2.1
theorem dX3_dx_11 : decode cX3_dx 11 = .ok (.getfield 13, 3) := DX3_dx.2.2.2.2.2.1
theorem dX3_dx_14 : decode cX3_dx 14 = .ok (.getfield 21, 3) := DX3_dx.2.2.2.2.2.2.1
theorem dX3_dx_17 : decode cX3_dx 17 = .ok (.isub, 1) := DX3_dx.2.2.2.2.2.2.2.1
theorem dX3_dx_18 : decode cX3_dx 18 = .ok (.ireturn, 1) := DX3_dx.2.2.2.2.2.2.2.2
theorem dX3_dy_0 : decode cX3_dy 0 = .ok (.aload_n 0, 1) := DX3_dy.1
theorem dX3_dy_1 : decode cX3_dy 1 = .ok (.getfield 17, 3) := DX3_dy.2.1
theorem dX3_dy_4 : decode cX3_dy 4 = .ok (.getfield 13, 3) := DX3_dy.2.2.1
theorem dX3_dy_7 : decode cX3_dy 7 = .ok (.getfield 26, 3) := DX3_dy.2.2.2.1
theorem dX3_dy_10 : decode cX3_dy 10 = .ok (.aload_n 0, 1) := DX3_dy.2.2.2.2.1
theorem dX3_dy_11 : decode cX3_dy 11 = .ok (.getfield 13, 3) := DX3_dy.2.2.2.2.2.1
theorem dX3_dy_14 : decode cX3_dy 14 = .ok (.getfield 26, 3) := DX3_dy.2.2.2.2.2.2.1
theorem dX3_dy_17 : decode cX3_dy 17 = .ok (.isub, 1) := DX3_dy.2.2.2.2.2.2.2.1
theorem dX3_dy_18 : decode cX3_dy 18 = .ok (.ireturn, 1) := DX3_dy.2.2.2.2.2.2.2.2
theorem dX3_isBefore_0 : decode cX3_isBefore 0 = .ok (.aload_n 0, 1) := DX3_isBefore.1
theorem dX3_isBefore_1 : decode cX3_isBefore 1 = .ok (.invokevirtual 29, 3) := DX3_isBefore.2.1
theorem dX3_isBefore_4 : decode cX3_isBefore 4 = .ok (.aload_n 0, 1) := DX3_isBefore.2.2.1
theorem dX3_isBefore_5 : decode cX3_isBefore 5 = .ok (.invokevirtual 33, 3) := DX3_isBefore.2.2.2.1
theorem dX3_isBefore_8 : decode cX3_isBefore 8 = .ok (.invokestatic 36, 3) := DX3_isBefore.2.2.2.2.1
theorem dX3_isBefore_11 : decode cX3_isBefore 11 = .ok (.istore_n 3, 1) := DX3_isBefore.2.2.2.2.2.1
theorem dX3_isBefore_12 : decode cX3_isBefore 12 = .ok (.iload_n 3, 1) := DX3_isBefore.2.2.2.2.2.2.1
theorem dX3_isBefore_13 : decode cX3_isBefore 13 = .ok (.iload_n 1, 1) := DX3_isBefore.2.2.2.2.2.2.2.1
theorem dX3_isBefore_14 : decode cX3_isBefore 14 = .ok (.iload_n 2, 1) := DX3_isBefore.2.2.2.2.2.2.2.2.1
theorem dX3_isBefore_15 : decode cX3_isBefore 15 = .ok (.invokestatic 36, 3) := DX3_isBefore.2.2.2.2.2.2.2.2.2.1
theorem dX3_isBefore_18 : decode cX3_isBefore 18 = .ok (.if_icmp .eq 7, 3) := DX3_isBefore.2.2.2.2.2.2.2.2.2.2.1
theorem dX3_isBefore_21 : decode cX3_isBefore 21 = .ok (.iload_n 3, 1) := DX3_isBefore.2.2.2.2.2.2.2.2.2.2.2.1
theorem dX3_isBefore_22 : decode cX3_isBefore 22 = .ok (.goto 30, 3) := DX3_isBefore.2.2.2.2.2.2.2.2.2.2.2.2.1
theorem dX3_isBefore_25 : decode cX3_isBefore 25 = .ok (.aload_n 0, 1) := DX3_isBefore.2.2.2.2.2.2.2.2.2.2.2.2.2.1
theorem dX3_isBefore_26 : decode cX3_isBefore 26 = .ok (.invokevirtual 29, 3) := DX3_isBefore.2.2.2.2.2.2.2.2.2.2.2.2.2.2.1
theorem dX3_isBefore_29 : decode cX3_isBefore 29 = .ok (.i2l, 1) := DX3_isBefore.2.2.2.2.2.2.2.2.2.2.2.2.2.2.2.1
theorem dX3_isBefore_30 : decode cX3_isBefore 30 = .ok (.aload_n 0, 1) := DX3_isBefore.2.2.2.2.2.2.2.2.2.2.2.2.2.2.2.2.1
theorem dX3_isBefore_31 : decode cX3_isBefore 31 = .ok (.invokevirtual 33, 3) := DX3_isBefore.2.2.2.2.2.2.2.2.2.2.2.2.2.2.2.2.2.1
theorem dX3_isBefore_34 : decode cX3_isBefore 34 = .ok (.i2l, 1) := DX3_isBefore.2.2.2.2.2.2.2.2.2.2.2.2.2.2.2.2.2.2.1
theorem dX3_isBefore_35 : decode cX3_isBefore 35 = .ok (.iload_n 1, 1) := DX3_isBefore.2.2.2.2.2.2.2.2.2.2.2.2.2.2.2.2.2.2.2.1
theorem dX3_isBefore_36 : decode cX3_isBefore 36 = .ok (.i2l, 1) := DX3_isBefore.2.2.2.2.2.2.2.2.2.2.2.2.2.2.2.2.2.2.2.2.1
theorem dX3_isBefore_37 : decode cX3_isBefore 37 = .ok (.iload_n 2, 1) := DX3_isBefore.2.2.2.2.2.2.2.2.2.2.2.2.2.2.2.2.2.2.2.2.2.1
theorem dX3_isBefore_38 : decode cX3_isBefore 38 = .ok (.i2l, 1) := DX3_isBefore.2.2.2.2.2.2.2.2.2.2.2.2.2.2.2.2.2.2.2.2.2.2.1
theorem dX3_isBefore_39 : decode cX3_isBefore 39 = .ok (.invokestatic 40, 3) := DX3_isBefore.2.2.2.2.2.2.2.2.2.2.2.2.2.2.2.2.2.2.2.2.2.2.2.1
theorem dX3_isBefore_42 : decode cX3_isBefore 42 = .ok (.lconst 0, 1) := DX3_isBefore.2.2.2.2.2.2.2.2.2.2.2.2.2.2.2.2.2.2.2.2.2.2.2.2.1
theorem dX3_isBefore_43 : decode cX3_isBefore 43 = .ok (.lcmp, 1) := DX3_isBefore.2.2.2.2.2.2.2.2.2.2.2.2.2.2.2.2.2.2.2.2.2.2.2.2.2.1
theorem dX3_isBefore_44 : decode cX3_isBefore 44 = .ok (.ifCond .le 7, 3) := DX3_isBefore.2.2.2.2.2.2.2.2.2.2.2.2.2.2.2.2.2.2.2.2.2.2.2.2.2.2.1
theorem dX3_isBefore_47 : decode cX3_isBefore 47 = .ok (.iconst 1, 1) := DX3_isBefore.2.2.2.2.2.2.2.2.2.2.2.2.2.2.2.2.2.2.2.2.2.2.2.2.2.2.2.1
theorem dX3_isBefore_48 : decode cX3_isBefore 48 = .ok (.goto 4, 3) := DX3_isBefore.2.2.2.2.2.2.2.2.2.2.2.2.2.2.2.2.2.2.2.2.2.2.2.2.2.2.2.2.1
theorem dX3_isBefore_51 : decode cX3_isBefore 51 = .ok (.iconst 0, 1) := DX3_isBefore.2.2.2.2.2.2.2.2.2.2.2.2.2.2.2.2.2.2.2.2.2.2.2.2.2.2.2.2.2.1
theorem dX3_isBefore_52 : decode cX3_isBefore 52 = .ok (.ireturn, 1) := DX3_isBefore.2.2.2.2.2.2.2.2.2.2.2.2.2.2.2.2.2.2.2.2.2.2.2.2.2.2.2.2.2.2
theorem dX3_isUpper_0 : decode cX3_isUpper 0 = .ok (.iload_n 1, 1) := DX3_isUpper.1
theorem dX3_isUpper_1 : decode cX3_isUpper 1 = .ok (.ifCond .gt 11, 3) := DX3_isUpper.2.1
theorem dX3_isUpper_4 : decode cX3_isUpper 4 = .ok (.iload_n 1, 1) := DX3_isUpper.2.2.1
theorem dX3_isUpper_5 : decode cX3_isUpper 5 = .ok (.ifCond .ne 11, 3) := DX3_isUpper.2.2.2.1
theorem dX3_isUpper_8 : decode cX3_isUpper 8 = .ok (.iload_n 0, 1) := DX3_isUpper.2.2.2.2.1
theorem dX3_isUpper_9 : decode cX3_isUpper 9 = .ok (.ifCond .le 7, 3) := DX3_isUpper.2.2.2.2.2.1
theorem dX3_isUpper_12 : decode cX3_isUpper 12 = .ok (.iconst 1, 1) := DX3_isUpper.2.2.2.2.2.2.1
theorem dX3_isUpper_13 : decode cX3_isUpper 13 = .ok (.goto 4, 3) := DX3_isUpper.2.2.2.2.2.2.2.1
theorem dX3_isUpper_16 : decode cX3_isUpper 16 = .ok (.iconst 0, 1) := DX3_isUpper.2.2.2.2.2.2.2.2.1
theorem dX3_isUpper_17 : decode cX3_isUpper 17 = .ok (.ireturn, 1) := DX3_isUpper.2.2.2.2.2.2.2.2.2
theorem dX4_init_0 : decode cX4_init 0 = .ok (.aload_n 0, 1) := DX4_init.1
theorem dX4_init_1 : decode cX4_init 1 = .ok (.invokespecial 1, 3) := DX4_init.2.1
theorem dX4_init_4 : decode cX4_init 4 = .ok (.aload_n 0, 1) := DX4_init.2.2.1
theorem dX4_init_5 : decode cX4_init 5 = .ok (.new 7, 3) := DX4_init.2.2.2.1
theorem dX4_init_8 : decode cX4_init 8 = .ok (.dup, 1) := DX4_init.2.2.2.2.1
theorem dX4_init_9 : decode cX4_init 9 = .ok (.invokespecial 9, 3) := DX4_init.2.2.2.2.2.1
theorem dX4_init_12 : decode cX4_init 12 = .ok (.putfield 10, 3) := DX4_init.2.2.2.2.2.2.1
theorem dX4_init_15 : decode cX4_init 15 = .ok (.aload_n 0, 1) := DX4_init.2.2.2.2.2.2.2.1
theorem dX4_init_16 : decode cX4_init 16 = .ok (.iload_n 1, 1) := DX4_init.2.2.2.2.2.2.2.2.1
theorem dX4_init_17 : decode cX4_init 17 = .ok (.putfield 16, 3) := DX4_init.2.2.2.2.2.2.2.2.2.1
theorem dX4_init_20 : decode cX4_init 20 = .ok (.aload_n 0, 1) := DX4_init.2.2.2.2.2.2.2.2.2.2.1
theorem dX4_init_21 : decode cX4_init 21 = .ok (.iload_n 2, 1) := DX4_init.2.2.2.2.2.2.2.2.2.2.2.1
theorem dX4_init_22 : decode cX4_init 22 = .ok (.putfield 20, 3) := DX4_init.2.2.2.2.2.2.2.2.2.2.2.2.1
theorem dX4_init_25 : decode cX4_init 25 = .ok (.return_, 1) := DX4_init.2.2.2.2.2.2.2.2.2.2.2.2.2
theorem dX4_put_0 : decode cX4_put 0 = .ok (.iconst 0, 1) := DX4_put.1
theorem dX4_put_1 : decode cX4_put 1 = .ok (.istore_n 2, 1) := DX4_put.2.1
theorem dX4_put_2 : decode cX4_put 2 = .ok (.iload_n 2, 1) := DX4_put.2.2.1
theorem dX4_put_3 : decode cX4_put 3 = .ok (.aload_n 0, 1) := DX4_put.2.2.2.1
theorem dX4_put_4 : decode cX4_put 4 = .ok (.getfield 10, 3) := DX4_put.2.2.2.2.1
theorem dX4_put_7 : decode cX4_put 7 = .ok (.invokevirtual 23, 3) := DX4_put.2.2.2.2.2.1
theorem dX4_put_10 : decode cX4_put 10 = .ok (.if_icmp .ge 34, 3) := DX4_put.2.2.2.2.2.2.1
theorem dX4_put_13 : decode cX4_put 13 = .ok (.aload_n 0, 1) := DX4_put.2.2.2.2.2.2.2.1
theorem dX4_put_14 : decode cX4_put 14 = .ok (.getfield 10, 3) := DX4_put.2.2.2.2.2.2.2.2.1
theorem dX4_put_17 : decode cX4_put 17 = .ok (.iload_n 2, 1) := DX4_put.2.2.2.2.2.2.2.2.2.1
theorem dX4_put_18 : decode cX4_put 18 = .ok (.invokevirtual 27, 3) := DX4_put.2.2.2.2.2.2.2.2.2.2.1
theorem dX4_put_21 : decode cX4_put 21 = .ok (.checkcast 31, 3) := DX4_put.2.2.2.2.2.2.2.2.2.2.2.1
theorem dX4_put_24 : decode cX4_put 24 = .ok (.aload_n 1, 1) := DX4_put.2.2.2.2.2.2.2.2.2.2.2.2.1
theorem dX4_put_25 : decode cX4_put 25 = .ok (.invokevirtual 33, 3) := DX4_put.2.2.2.2.2.2.2.2.2.2.2.2.2.1
theorem dX4_put_28 : decode cX4_put 28 = .ok (.aload_n 1, 1) := DX4_put.2.2.2.2.2.2.2.2.2.2.2.2.2.2.1
theorem dX4_put_29 : decode cX4_put 29 = .ok (.invokevirtual 36, 3) := DX4_put.2.2.2.2.2.2.2.2.2.2.2.2.2.2.2.1
theorem dX4_put_32 : decode cX4_put 32 = .ok (.invokevirtual 39, 3) := DX4_put.2.2.2.2.2.2.2.2.2.2.2.2.2.2.2.2.1
theorem dX4_put_35 : decode cX4_put 35 = .ok (.ifCond .eq 9, 3) := DX4_put.2.2.2.2.2.2.2.2.2.2.2.2.2.2.2.2.2.1
theorem dX4_put_38 : decode cX4_put 38 = .ok (.iinc 2 1, 3) := DX4_put.2.2.2.2.2.2.2.2.2.2.2.2.2.2.2.2.2.2.1
theorem dX4_put_41 : decode cX4_put 41 = .ok (.goto (-39), 3) := DX4_put.2.2.2.2.2.2.2.2.2.2.2.2.2.2.2.2.2.2.2.1
theorem dX4_put_44 : decode cX4_put 44 = .ok (.aload_n 0, 1) := DX4_put.2.2.2.2.2.2.2.2.2.2.2.2.2.2.2.2.2.2.2.2.1
theorem dX4_put_45 : decode cX4_put 45 = .ok (.getfield 10, 3) := DX4_put.2.2.2.2.2.2.2.2.2.2.2.2.2.2.2.2.2.2.2.2.2.1
theorem dX4_put_48 : decode cX4_put 48 = .ok (.iload_n 2, 1) := DX4_put.2.2.2.2.2.2.2.2.2.2.2.2.2.2.2.2.2.2.2.2.2.2.1
theorem dX4_put_49 : decode cX4_put 49 = .ok (.aload_n 1, 1) := DX4_put.2.2.2.2.2.2.2.2.2.2.2.2.2.2.2.2.2.2.2.2.2.2.2.1
theorem dX4_put_50 : decode cX4_put 50 = .ok (.invokevirtual 43, 3) := DX4_put.2.2.2.2.2.2.2.2.2.2.2.2.2.2.2.2.2.2.2.2.2.2.2.2.1
theorem dX4_put_53 : decode cX4_put 53 = .ok (.return_, 1) := DX4_put.2.2.2.2.2.2.2.2.2.2.2.2.2.2.2.2.2.2.2.2.2.2.2.2.2
theorem dX4_before_0 : decode cX4_before 0 = .ok (.aload_n 0, 1) := DX4_before.1
theorem dX4_before_1 : decode cX4_before 1 = .ok (.getfield 10, 3) := DX4_before.2.1
theorem dX4_before_4 : decode cX4_before 4 = .ok (.invokevirtual 23, 3) := DX4_before.2.2.1
theorem dX4_before_7 : decode cX4_before 7 = .ok (.iconst 1, 1) := DX4_before.2.2.2.1
theorem dX4_before_8 : decode cX4_before 8 = .ok (.isub, 1) := DX4_before.2.2.2.2.1
theorem dX4_before_9 : decode cX4_before 9 = .ok (.istore_n 3, 1) := DX4_before.2.2.2.2.2.1
theorem dX4_before_10 : decode cX4_before 10 = .ok (.iload_n 3, 1) := DX4_before.2.2.2.2.2.2.1
theorem dX4_before_11 : decode cX4_before 11 = .ok (.ifCond .le 28, 3) := DX4_before.2.2.2.2.2.2.2.1
theorem dX4_before_14 : decode cX4_before 14 = .ok (.aload_n 0, 1) := DX4_before.2.2.2.2.2.2.2.2.1
theorem dX4_before_15 : decode cX4_before 15 = .ok (.getfield 10, 3) := DX4_before.2.2.2.2.2.2.2.2.2.1
theorem dX4_before_18 : decode cX4_before 18 = .ok (.iload_n 3, 1) := DX4_before.2.2.2.2.2.2.2.2.2.2.1
theorem dX4_before_19 : decode cX4_before 19 = .ok (.invokevirtual 27, 3) := DX4_before.2.2.2.2.2.2.2.2.2.2.2.1
theorem dX4_before_22 : decode cX4_before 22 = .ok (.checkcast 31, 3) := DX4_before.2.2.2.2.2.2.2.2.2.2.2.2.1
theorem dX4_before_25 : decode cX4_before 25 = .ok (.iload_n 1, 1) := DX4_before.2.2.2.2.2.2.2.2.2.2.2.2.2.1
theorem dX4_before_26 : decode cX4_before 26 = .ok (.iload_n 2, 1) := DX4_before.2.2.2.2.2.2.2.2.2.2.2.2.2.2.1
theorem dX4_before_27 : decode cX4_before 27 = .ok (.invokevirtual 39, 3) := DX4_before.2.2.2.2.2.2.2.2.2.2.2.2.2.2.2.1
theorem dX4_before_30 : decode cX4_before 30 = .ok (.ifCond .ne 9, 3) := DX4_before.2.2.2.2.2.2.2.2.2.2.2.2.2.2.2.2.1
theorem dX4_before_33 : decode cX4_before 33 = .ok (.iinc 3 (-1), 3) := DX4_before.2.2.2.2.2.2.2.2.2.2.2.2.2.2.2.2.2.1
theorem dX4_before_36 : decode cX4_before 36 = .ok (.goto (-26), 3) := DX4_before.2.2.2.2.2.2.2.2.2.2.2.2.2.2.2.2.2.2.1
theorem dX4_before_39 : decode cX4_before 39 = .ok (.aload_n 0, 1) := DX4_before.2.2.2.2.2.2.2.2.2.2.2.2.2.2.2.2.2.2.2.1
theorem dX4_before_40 : decode cX4_before 40 = .ok (.getfield 10, 3) := DX4_before.2.2.2.2.2.2.2.2.2.2.2.2.2.2.2.2.2.2.2.2.1
theorem dX4_before_43 : decode cX4_before 43 = .ok (.iload_n 3, 1) := DX4_before.2.2.2.2.2.2.2.2.2.2.2.2.2.2.2.2.2.2.2.2.2.1
theorem dX4_before_44 : decode cX4_before 44 = .ok (.invokevirtual 27, 3) := DX4_before.2.2.2.2.2.2.2.2.2.2.2.2.2.2.2.2.2.2.2.2.2.2.1
theorem dX4_before_47 : decode cX4_before 47 = .ok (.checkcast 31, 3) := DX4_before.2.2.2.2.2.2.2.2.2.2.2.2.2.2.2.2.2.2.2.2.2.2.2.1
theorem dX4_before_50 : decode cX4_before 50 = .ok (.iload_n 1, 1) := DX4_before.2.2.2.2.2.2.2.2.2.2.2.2.2.2.2.2.2.2.2.2.2.2.2.2.1
theorem dX4_before_51 : decode cX4_before 51 = .ok (.iload_n 2, 1) := DX4_before.2.2.2.2.2.2.2.2.2.2.2.2.2.2.2.2.2.2.2.2.2.2.2.2.2.1
theorem dX4_before_52 : decode cX4_before 52 = .ok (.invokevirtual 39, 3) := DX4_before.2.2.2.2.2.2.2.2.2.2.2.2.2.2.2.2.2.2.2.2.2.2.2.2.2.2.1
theorem dX4_before_55 : decode cX4_before 55 = .ok (.ifCond .eq 17, 3) := DX4_before.2.2.2.2.2.2.2.2.2.2.2.2.2.2.2.2.2.2.2.2.2.2.2.2.2.2.2.1
theorem dX4_before_58 : decode cX4_before 58 = .ok (.aload_n 0, 1) := DX4_before.2.2.2.2.2.2.2.2.2.2.2.2.2.2.2.2.2.2.2.2.2.2.2.2.2.2.2.2.1
theorem dX4_before_59 : decode cX4_before 59 = .ok (.getfield 10, 3) := DX4_before.2.2.2.2.2.2.2.2.2.2.2.2.2.2.2.2.2.2.2.2.2.2.2.2.2.2.2.2.2.1
theorem dX4_before_62 : decode cX4_before 62 = .ok (.iload_n 3, 1) := DX4_before.2.2.2.2.2.2.2.2.2.2.2.2.2.2.2.2.2.2.2.2.2.2.2.2.2.2.2.2.2.2.1
theorem dX4_before_63 : decode cX4_before 63 = .ok (.invokevirtual 27, 3) := DX4_before.2.2.2.2.2.2.2.2.2.2.2.2.2.2.2.2.2.2.2.2.2.2.2.2.2.2.2.2.2.2.2.1
theorem dX4_before_66 : decode cX4_before 66 = .ok (.checkcast 31, 3) := DX4_before.2.2.2.2.2.2.2.2.2.2.2.2.2.2.2.2.2.2.2.2.2.2.2.2.2.2.2.2.2.2.2.2.1
theorem dX4_before_69 : decode cX4_before 69 = .ok (.goto 22, 3) := DX4_before.2.2.2.2.2.2.2.2.2.2.2.2.2.2.2.2.2.2.2.2.2.2.2.2.2.2.2.2.2.2.2.2.2.1
theorem dX4_before_72 : decode cX4_before 72 = .ok (.aload_n 0, 1) := DX4_before.2.2.2.2.2.2.2.2.2.2.2.2.2.2.2.2.2.2.2.2.2.2.2.2.2.2.2.2.2.2.2.2.2.2.1
theorem dX4_before_73 : decode cX4_before 73 = .ok (.getfield 10, 3) := DX4_before.2.2.2.2.2.2.2.2.2.2.2.2.2.2.2.2.2.2.2.2.2.2.2.2.2.2.2.2.2.2.2.2.2.2.2.1
theorem dX4_before_76 : decode cX4_before 76 = .ok (.aload_n 0, 1) := DX4_before.2.2.2.2.2.2.2.2.2.2.2.2.2.2.2.2.2.2.2.2.2.2.2.2.2.2.2.2.2.2.2.2.2.2.2.2.1
theorem dX4_before_77 : decode cX4_before 77 = .ok (.getfield 10, 3) := DX4_before.2.2.2.2.2.2.2.2.2.2.2.2.2.2.2.2.2.2.2.2.2.2.2.2.2.2.2.2.2.2.2.2.2.2.2.2.2.1
theorem dX4_before_80 : decode cX4_before 80 = .ok (.invokevirtual 23, 3) := DX4_before.2.2.2.2.2.2.2.2.2.2.2.2.2.2.2.2.2.2.2.2.2.2.2.2.2.2.2.2.2.2.2.2.2.2.2.2.2.2.1
theorem dX4_before_83 : decode cX4_before 83 = .ok (.iconst 1, 1) := DX4_before.2.2.2.2.2.2.2.2.2.2.2.2.2.2.2.2.2.2.2.2.2.2.2.2.2.2.2.2.2.2.2.2.2.2.2.2.2.2.2.1
theorem dX4_before_84 : decode cX4_before 84 = .ok (.isub, 1) := DX4_before.2.2.2.2.2.2.2.2.2.2.2.2.2.2.2.2.2.2.2.2.2.2.2.2.2.2.2.2.2.2.2.2.2.2.2.2.2.2.2.2.1
theorem dX4_before_85 : decode cX4_before 85 = .ok (.invokevirtual 27, 3) := DX4_before.2.2.2.2.2.2.2.2.2.2.2.2.2.2.2.2.2.2.2.2.2.2.2.2.2.2.2.2.2.2.2.2.2.2.2.2.2.2.2.2.2.1
theorem dX4_before_88 : decode cX4_before 88 = .ok (.checkcast 31, 3) := DX4_before.2.2.2.2.2.2.2.2.2.2.2.2.2.2.2.2.2.2.2.2.2.2.2.2.2.2.2.2.2.2.2.2.2.2.2.2.2.2.2.2.2.2.1
theorem dX4_before_91 : decode cX4_before 91 = .ok (.areturn, 1) := DX4_before.2.2.2.2.2.2.2.2.2.2.2.2.2.2.2.2.2.2.2.2.2.2.2.2.2.2.2.2.2.2.2.2.2.2.2.2.2.2.2.2.2.2.2
theorem dX5_init_0 : decode cX5_init 0 = .ok (.aload_n 0, 1) := DX5_init.1
theorem dX5_init_1 : decode cX5_init 1 = .ok (.invokespecial 1, 3) := DX5_init.2.1
theorem dX5_init_4 : decode cX5_init 4 = .ok (.aload_n 0, 1) := DX5_init.2.2.1
theorem dX5_init_5 : decode cX5_init 5 = .ok (.aload_n 1, 1) := DX5_init.2.2.2.1
theorem dX5_init_6 : decode cX5_init 6 = .ok (.putfield 7, 3) := DX5_init.2.2.2.2.1
theorem dX5_init_9 : decode cX5_init 9 = .ok (.return_, 1) := DX5_init.2.2.2.2.2
theorem dX5_iterator_0 : decode cX5_iterator 0 = .ok (.new 13, 3) := DX5_iterator.1
theorem dX5_iterator_3 : decode cX5_iterator 3 = .ok (.dup, 1) := DX5_iterator.2.1
theorem dX5_iterator_4 : decode cX5_iterator 4 = .ok (.aload_n 0, 1) := DX5_iterator.2.2.1
theorem dX5_iterator_5 : decode cX5_iterator 5 = .ok (.getfield 7, 3) := DX5_iterator.2.2.2.1
theorem dX5_iterator_8 : decode cX5_iterator 8 = .ok (.invokespecial 15, 3) := DX5_iterator.2.2.2.2.1
theorem dX5_iterator_11 : decode cX5_iterator 11 = .ok (.areturn, 1) := DX5_iterator.2.2.2.2.2
theorem dX5_area_0 : decode cX5_area 0 = .ok (.lconst 0, 1) := DX5_area.1
theorem dX5_area_1 : decode cX5_area 1 = .ok (.lstore_n 1, 1) := DX5_area.2.1
theorem dX5_area_2 : decode cX5_area 2 = .ok (.aload_n 0, 1) := DX5_area.2.2.1
theorem dX5_area_3 : decode cX5_area 3 = .ok (.invokevirtual 18, 3) := DX5_area.2.2.2.1
theorem dX5_area_6 : decode cX5_area 6 = .ok (.astore_n 3, 1) := DX5_area.2.2.2.2.1
theorem dX5_area_7 : decode cX5_area 7 = .ok (.aload_n 3, 1) := DX5_area.2.2.2.2.2.1
theorem dX5_area_8 : decode cX5_area 8 = .ok (.invokeinterface 22 1, 5) := DX5_area.2.2.2.2.2.2.1
theorem dX5_area_13 : decode cX5_area 13 = .ok (.ifCond .eq 65, 3) := DX5_area.2.2.2.2.2.2.2.1
theorem dX5_area_16 : decode cX5_area 16 = .ok (.aload_n 3, 1) := DX5_area.2.2.2.2.2.2.2.2.1
theorem dX5_area_17 : decode cX5_area 17 = .ok (.invokeinterface 28 1, 5) := DX5_area.2.2.2.2.2.2.2.2.2.1
theorem dX5_area_22 : decode cX5_area 22 = .ok (.checkcast 32, 3) := DX5_area.2.2.2.2.2.2.2.2.2.2.1
theorem dX5_area_25 : decode cX5_area 25 = .ok (.astore 4, 2) := DX5_area.2.2.2.2.2.2.2.2.2.2.2.1
theorem dX5_area_27 : decode cX5_area 27 = .ok (.lload_n 1, 1) := DX5_area.2.2.2.2.2.2.2.2.2.2.2.2.1
theorem dX5_area_28 : decode cX5_area 28 = .ok (.aload 4, 2) := DX5_area.2.2.2.2.2.2.2.2.2.2.2.2.2.1
theorem dX5_area_30 : decode cX5_area 30 = .ok (.getfield 34, 3) := DX5_area.2.2.2.2.2.2.2.2.2.2.2.2.2.2.1
theorem dX5_area_33 : decode cX5_area 33 = .ok (.getfield 38, 3) := DX5_area.2.2.2.2.2.2.2.2.2.2.2.2.2.2.2.1
theorem dX5_area_36 : decode cX5_area 36 = .ok (.i2l, 1) := DX5_area.2.2.2.2.2.2.2.2.2.2.2.2.2.2.2.2.1
theorem dX5_area_37 : decode cX5_area 37 = .ok (.aload 4, 2) := DX5_area.2.2.2.2.2.2.2.2.2.2.2.2.2.2.2.2.2.1
theorem dX5_area_39 : decode cX5_area 39 = .ok (.getfield 34, 3) := DX5_area.2.2.2.2.2.2.2.2.2.2.2.2.2.2.2.2.2.2.1
theorem dX5_area_42 : decode cX5_area 42 = .ok (.getfield 44, 3) := DX5_area.2.2.2.2.2.2.2.2.2.2.2.2.2.2.2.2.2.2.2.1
theorem dX5_area_45 : decode cX5_area 45 = .ok (.i2l, 1) := DX5_area.2.2.2.2.2.2.2.2.2.2.2.2.2.2.2.2.2.2.2.2.1
theorem dX5_area_46 : decode cX5_area 46 = .ok (.aload 4, 2) := DX5_area.2.2.2.2.2.2.2.2.2.2.2.2.2.2.2.2.2.2.2.2.2.1
theorem dX5_area_48 : decode cX5_area 48 = .ok (.getfield 47, 3) := DX5_area.2.2.2.2.2.2.2.2.2.2.2.2.2.2.2.2.2.2.2.2.2.2.1
theorem dX5_area_51 : decode cX5_area 51 = .ok (.getfield 34, 3) := DX5_area.2.2.2.2.2.2.2.2.2.2.2.2.2.2.2.2.2.2.2.2.2.2.2.1
theorem dX5_area_54 : decode cX5_area 54 = .ok (.getfield 38, 3) := DX5_area.2.2.2.2.2.2.2.2.2.2.2.2.2.2.2.2.2.2.2.2.2.2.2.2.1
theorem dX5_area_57 : decode cX5_area 57 = .ok (.i2l, 1) := DX5_area.2.2.2.2.2.2.2.2.2.2.2.2.2.2.2.2.2.2.2.2.2.2.2.2.2.1
theorem dX5_area_58 : decode cX5_area 58 = .ok (.aload 4, 2) := DX5_area.2.2.2.2.2.2.2.2.2.2.2.2.2.2.2.2.2.2.2.2.2.2.2.2.2.2.1
theorem dX5_area_60 : decode cX5_area 60 = .ok (.getfield 47, 3) := DX5_area.2.2.2.2.2.2.2.2.2.2.2.2.2.2.2.2.2.2.2.2.2.2.2.2.2.2.2.1
theorem dX5_area_63 : decode cX5_area 63 = .ok (.getfield 34, 3) := DX5_area.2.2.2.2.2.2.2.2.2.2.2.2.2.2.2.2.2.2.2.2.2.2.2.2.2.2.2.2.1
theorem dX5_area_66 : decode cX5_area 66 = .ok (.getfield 44, 3) := DX5_area.2.2.2.2.2.2.2.2.2.2.2.2.2.2.2.2.2.2.2.2.2.2.2.2.2.2.2.2.2.1
theorem dX5_area_69 : decode cX5_area 69 = .ok (.i2l, 1) := DX5_area.2.2.2.2.2.2.2.2.2.2.2.2.2.2.2.2.2.2.2.2.2.2.2.2.2.2.2.2.2.2.1
theorem dX5_area_70 : decode cX5_area 70 = .ok (.invokestatic 50, 3) := DX5_area.2.2.2.2.2.2.2.2.2.2.2.2.2.2.2.2.2.2.2.2.2.2.2.2.2.2.2.2.2.2.2.1
theorem dX5_area_73 : decode cX5_area 73 = .ok (.ladd, 1) := DX5_area.2.2.2.2.2.2.2.2.2.2.2.2.2.2.2.2.2.2.2.2.2.2.2.2.2.2.2.2.2.2.2.2.1
theorem dX5_area_74 : decode cX5_area 74 = .ok (.lstore_n 1, 1) := DX5_area.2.2.2.2.2.2.2.2.2.2.2.2.2.2.2.2.2.2.2.2.2.2.2.2.2.2.2.2.2.2.2.2.2.1
theorem dX5_area_75 : decode cX5_area 75 = .ok (.goto (-68), 3) := DX5_area.2.2.2.2.2.2.2.2.2.2.2.2.2.2.2.2.2.2.2.2.2.2.2.2.2.2.2.2.2.2.2.2.2.2.1
theorem dX5_area_78 : decode cX5_area 78 = .ok (.lload_n 1, 1) := DX5_area.2.2.2.2.2.2.2.2.2.2.2.2.2.2.2.2.2.2.2.2.2.2.2.2.2.2.2.2.2.2.2.2.2.2.2.1
theorem dX5_area_79 : decode cX5_area 79 = .ok (.lreturn, 1) := DX5_area.2.2.2.2.2.2.2.2.2.2.2.2.2.2.2.2.2.2.2.2.2.2.2.2.2.2.2.2.2.2.2.2.2.2.2.2
theorem dX5_least_0 : decode cX5_least 0 = .ok (.aload_n 0, 1) := DX5_least.1
theorem dX5_least_1 : decode cX5_least 1 = .ok (.getfield 7, 3) := DX5_least.2.1
theorem dX5_least_4 : decode cX5_least 4 = .ok (.getfield 56, 3) := DX5_least.2.2.1
theorem dX5_least_7 : decode cX5_least 7 = .ok (.istore_n 1, 1) := DX5_least.2.2.2.1
theorem dX5_least_8 : decode cX5_least 8 = .ok (.aload_n 0, 1) := DX5_least.2.2.2.2.1
theorem dX5_least_9 : decode cX5_least 9 = .ok (.invokevirtual 18, 3) := DX5_least.2.2.2.2.2.1
theorem dX5_least_12 : decode cX5_least 12 = .ok (.astore_n 2, 1) := DX5_least.2.2.2.2.2.2.1
theorem dX5_least_13 : decode cX5_least 13 = .ok (.aload_n 2, 1) := DX5_least.2.2.2.2.2.2.2.1
theorem dX5_least_14 : decode cX5_least 14 = .ok (.invokeinterface 22 1, 5) := DX5_least.2.2.2.2.2.2.2.2.1
theorem dX5_least_19 : decode cX5_least 19 = .ok (.ifCond .eq 25, 3) := DX5_least.2.2.2.2.2.2.2.2.2.1
theorem dX5_least_22 : decode cX5_least 22 = .ok (.aload_n 2, 1) := DX5_least.2.2.2.2.2.2.2.2.2.2.1
theorem dX5_least_23 : decode cX5_least 23 = .ok (.invokeinterface 28 1, 5) := DX5_least.2.2.2.2.2.2.2.2.2.2.2.1
theorem dX5_least_28 : decode cX5_least 28 = .ok (.checkcast 32, 3) := DX5_least.2.2.2.2.2.2.2.2.2.2.2.2.1
theorem dX5_least_31 : decode cX5_least 31 = .ok (.astore_n 3, 1) := DX5_least.2.2.2.2.2.2.2.2.2.2.2.2.2.1
theorem dX5_least_32 : decode cX5_least 32 = .ok (.iload_n 1, 1) := DX5_least.2.2.2.2.2.2.2.2.2.2.2.2.2.2.1
theorem dX5_least_33 : decode cX5_least 33 = .ok (.aload_n 3, 1) := DX5_least.2.2.2.2.2.2.2.2.2.2.2.2.2.2.2.1
theorem dX5_least_34 : decode cX5_least 34 = .ok (.getfield 56, 3) := DX5_least.2.2.2.2.2.2.2.2.2.2.2.2.2.2.2.2.1
theorem dX5_least_37 : decode cX5_least 37 = .ok (.invokestatic 59, 3) := DX5_least.2.2.2.2.2.2.2.2.2.2.2.2.2.2.2.2.2.1
theorem dX5_least_40 : decode cX5_least 40 = .ok (.istore_n 1, 1) := DX5_least.2.2.2.2.2.2.2.2.2.2.2.2.2.2.2.2.2.2.1
theorem dX5_least_41 : decode cX5_least 41 = .ok (.goto (-28), 3) := DX5_least.2.2.2.2.2.2.2.2.2.2.2.2.2.2.2.2.2.2.2.1
theorem dX5_least_44 : decode cX5_least 44 = .ok (.iload_n 1, 1) := DX5_least.2.2.2.2.2.2.2.2.2.2.2.2.2.2.2.2.2.2.2.2.1
theorem dX5_least_45 : decode cX5_least 45 = .ok (.ireturn, 1) := DX5_least.2.2.2.2.2.2.2.2.2.2.2.2.2.2.2.2.2.2.2.2.2
theorem dX5_corner_0 : decode cX5_corner 0 = .ok (.aload_n 0, 1) := DX5_corner.1
theorem dX5_corner_1 : decode cX5_corner 1 = .ok (.getfield 7, 3) := DX5_corner.2.1
theorem dX5_corner_4 : decode cX5_corner 4 = .ok (.getfield 34, 3) := DX5_corner.2.2.1
theorem dX5_corner_7 : decode cX5_corner 7 = .ok (.astore_n 1, 1) := DX5_corner.2.2.2.1
theorem dX5_corner_8 : decode cX5_corner 8 = .ok (.aload_n 0, 1) := DX5_corner.2.2.2.2.1
theorem dX5_corner_9 : decode cX5_corner 9 = .ok (.invokevirtual 18, 3) := DX5_corner.2.2.2.2.2.1
theorem dX5_corner_12 : decode cX5_corner 12 = .ok (.astore_n 2, 1) := DX5_corner.2.2.2.2.2.2.1
theorem dX5_corner_13 : decode cX5_corner 13 = .ok (.aload_n 2, 1) := DX5_corner.2.2.2.2.2.2.2.1
theorem dX5_corner_14 : decode cX5_corner 14 = .ok (.invokeinterface 22 1, 5) := DX5_corner.2.2.2.2.2.2.2.2.1
theorem dX5_corner_19 : decode cX5_corner 19 = .ok (.ifCond .eq 63, 3) := DX5_corner.2.2.2.2.2.2.2.2.2.1
theorem dX5_corner_22 : decode cX5_corner 22 = .ok (.aload_n 2, 1) := DX5_corner.2.2.2.2.2.2.2.2.2.2.1
theorem dX5_corner_23 : decode cX5_corner 23 = .ok (.invokeinterface 28 1, 5) := DX5_corner.2.2.2.2.2.2.2.2.2.2.2.1
theorem dX5_corner_28 : decode cX5_corner 28 = .ok (.checkcast 32, 3) := DX5_corner.2.2.2.2.2.2.2.2.2.2.2.2.1
theorem dX5_corner_31 : decode cX5_corner 31 = .ok (.astore_n 3, 1) := DX5_corner.2.2.2.2.2.2.2.2.2.2.2.2.2.1
theorem dX5_corner_32 : decode cX5_corner 32 = .ok (.aload_n 3, 1) := DX5_corner.2.2.2.2.2.2.2.2.2.2.2.2.2.2.1
theorem dX5_corner_33 : decode cX5_corner 33 = .ok (.getfield 34, 3) := DX5_corner.2.2.2.2.2.2.2.2.2.2.2.2.2.2.2.1
theorem dX5_corner_36 : decode cX5_corner 36 = .ok (.getfield 38, 3) := DX5_corner.2.2.2.2.2.2.2.2.2.2.2.2.2.2.2.2.1
theorem dX5_corner_39 : decode cX5_corner 39 = .ok (.aload_n 1, 1) := DX5_corner.2.2.2.2.2.2.2.2.2.2.2.2.2.2.2.2.2.1
theorem dX5_corner_40 : decode cX5_corner 40 = .ok (.getfield 38, 3) := DX5_corner.2.2.2.2.2.2.2.2.2.2.2.2.2.2.2.2.2.2.1
theorem dX5_corner_43 : decode cX5_corner 43 = .ok (.if_icmp .lt 31, 3) := DX5_corner.2.2.2.2.2.2.2.2.2.2.2.2.2.2.2.2.2.2.2.1
theorem dX5_corner_46 : decode cX5_corner 46 = .ok (.aload_n 3, 1) := DX5_corner.2.2.2.2.2.2.2.2.2.2.2.2.2.2.2.2.2.2.2.2.1
theorem dX5_corner_47 : decode cX5_corner 47 = .ok (.getfield 34, 3) := DX5_corner.2.2.2.2.2.2.2.2.2.2.2.2.2.2.2.2.2.2.2.2.2.1
theorem dX5_corner_50 : decode cX5_corner 50 = .ok (.getfield 38, 3) := DX5_corner.2.2.2.2.2.2.2.2.2.2.2.2.2.2.2.2.2.2.2.2.2.2.1
theorem dX5_corner_53 : decode cX5_corner 53 = .ok (.aload_n 1, 1) := DX5_corner.2.2.2.2.2.2.2.2.2.2.2.2.2.2.2.2.2.2.2.2.2.2.2.1
theorem dX5_corner_54 : decode cX5_corner 54 = .ok (.getfield 38, 3) := DX5_corner.2.2.2.2.2.2.2.2.2.2.2.2.2.2.2.2.2.2.2.2.2.2.2.2.1
theorem dX5_corner_57 : decode cX5_corner 57 = .ok (.if_icmp .ne 22, 3) := DX5_corner.2.2.2.2.2.2.2.2.2.2.2.2.2.2.2.2.2.2.2.2.2.2.2.2.2.1
theorem dX5_corner_60 : decode cX5_corner 60 = .ok (.aload_n 3, 1) := DX5_corner.2.2.2.2.2.2.2.2.2.2.2.2.2.2.2.2.2.2.2.2.2.2.2.2.2.2.1
theorem dX5_corner_61 : decode cX5_corner 61 = .ok (.getfield 34, 3) := DX5_corner.2.2.2.2.2.2.2.2.2.2.2.2.2.2.2.2.2.2.2.2.2.2.2.2.2.2.2.1
theorem dX5_corner_64 : decode cX5_corner 64 = .ok (.getfield 44, 3) := DX5_corner.2.2.2.2.2.2.2.2.2.2.2.2.2.2.2.2.2.2.2.2.2.2.2.2.2.2.2.2.1
theorem dX5_corner_67 : decode cX5_corner 67 = .ok (.aload_n 1, 1) := DX5_corner.2.2.2.2.2.2.2.2.2.2.2.2.2.2.2.2.2.2.2.2.2.2.2.2.2.2.2.2.2.1
theorem dX5_corner_68 : decode cX5_corner 68 = .ok (.getfield 44, 3) := DX5_corner.2.2.2.2.2.2.2.2.2.2.2.2.2.2.2.2.2.2.2.2.2.2.2.2.2.2.2.2.2.2.1
theorem dX5_corner_71 : decode cX5_corner 71 = .ok (.if_icmp .ge 8, 3) := DX5_corner.2.2.2.2.2.2.2.2.2.2.2.2.2.2.2.2.2.2.2.2.2.2.2.2.2.2.2.2.2.2.2.1
theorem dX5_corner_74 : decode cX5_corner 74 = .ok (.aload_n 3, 1) := DX5_corner.2.2.2.2.2.2.2.2.2.2.2.2.2.2.2.2.2.2.2.2.2.2.2.2.2.2.2.2.2.2.2.2.1
theorem dX5_corner_75 : decode cX5_corner 75 = .ok (.getfield 34, 3) := DX5_corner.2.2.2.2.2.2.2.2.2.2.2.2.2.2.2.2.2.2.2.2.2.2.2.2.2.2.2.2.2.2.2.2.2.1
theorem dX5_corner_78 : decode cX5_corner 78 = .ok (.astore_n 1, 1) := DX5_corner.2.2.2.2.2.2.2.2.2.2.2.2.2.2.2.2.2.2.2.2.2.2.2.2.2.2.2.2.2.2.2.2.2.2.1
theorem dX5_corner_79 : decode cX5_corner 79 = .ok (.goto (-66), 3) := DX5_corner.2.2.2.2.2.2.2.2.2.2.2.2.2.2.2.2.2.2.2.2.2.2.2.2.2.2.2.2.2.2.2.2.2.2.2.1
theorem dX5_corner_82 : decode cX5_corner 82 = .ok (.aload_n 1, 1) := DX5_corner.2.2.2.2.2.2.2.2.2.2.2.2.2.2.2.2.2.2.2.2.2.2.2.2.2.2.2.2.2.2.2.2.2.2.2.2.1
theorem dX5_corner_83 : decode cX5_corner 83 = .ok (.areturn, 1) := DX5_corner.2.2.2.2.2.2.2.2.2.2.2.2.2.2.2.2.2.2.2.2.2.2.2.2.2.2.2.2.2.2.2.2.2.2.2.2.2
theorem dX5_size_0 : decode cX5_size 0 = .ok (.iconst 0, 1) := DX5_size.1
theorem dX5_size_1 : decode cX5_size 1 = .ok (.istore_n 1, 1) := DX5_size.2.1
theorem dX5_size_2 : decode cX5_size 2 = .ok (.aload_n 0, 1) := DX5_size.2.2.1
theorem dX5_size_3 : decode cX5_size 3 = .ok (.invokevirtual 18, 3) := DX5_size.2.2.2.1
theorem dX5_size_6 : decode cX5_size 6 = .ok (.astore_n 2, 1) := DX5_size.2.2.2.2.1
theorem dX5_size_7 : decode cX5_size 7 = .ok (.aload_n 2, 1) := DX5_size.2.2.2.2.2.1
theorem dX5_size_8 : decode cX5_size 8 = .ok (.invokeinterface 22 1, 5) := DX5_size.2.2.2.2.2.2.1
theorem dX5_size_13 : decode cX5_size 13 = .ok (.ifCond .eq 16, 3) := DX5_size.2.2.2.2.2.2.2.1
theorem dX5_size_16 : decode cX5_size 16 = .ok (.iinc 1 1, 3) := DX5_size.2.2.2.2.2.2.2.2.1
theorem dX5_size_19 : decode cX5_size 19 = .ok (.aload_n 2, 1) := DX5_size.2.2.2.2.2.2.2.2.2.1
theorem dX5_size_20 : decode cX5_size 20 = .ok (.invokeinterface 28 1, 5) := DX5_size.2.2.2.2.2.2.2.2.2.2.1
theorem dX5_size_25 : decode cX5_size 25 = .ok (.pop, 1) := DX5_size.2.2.2.2.2.2.2.2.2.2.2.1
theorem dX5_size_26 : decode cX5_size 26 = .ok (.goto (-19), 3) := DX5_size.2.2.2.2.2.2.2.2.2.2.2.2.1
theorem dX5_size_29 : decode cX5_size 29 = .ok (.iload_n 1, 1) := DX5_size.2.2.2.2.2.2.2.2.2.2.2.2.2.1
theorem dX5_size_30 : decode cX5_size 30 = .ok (.ireturn, 1) := DX5_size.2.2.2.2.2.2.2.2.2.2.2.2.2.2
theorem dX6_init_0 : decode cX6_init 0 = .ok (.aload_n 0, 1) := DX6_init.1
theorem dX6_init_1 : decode cX6_init 1 = .ok (.invokespecial 1, 3) := DX6_init.2.1
theorem dX6_init_4 : decode cX6_init 4 = .ok (.aload_n 0, 1) := DX6_init.2.2.1
theorem dX6_init_5 : decode cX6_init 5 = .ok (.aload_n 1, 1) := DX6_init.2.2.2.1
theorem dX6_init_6 : decode cX6_init 6 = .ok (.putfield 7, 3) := DX6_init.2.2.2.2.1
theorem dX6_init_9 : decode cX6_init 9 = .ok (.aload_n 0, 1) := DX6_init.2.2.2.2.2.1
theorem dX6_init_10 : decode cX6_init 10 = .ok (.aload_n 1, 1) := DX6_init.2.2.2.2.2.2.1
theorem dX6_init_11 : decode cX6_init 11 = .ok (.putfield 13, 3) := DX6_init.2.2.2.2.2.2.2.1
theorem dX6_init_14 : decode cX6_init 14 = .ok (.return_, 1) := DX6_init.2.2.2.2.2.2.2.2
theorem dX6_hasNext_0 : decode cX6_hasNext 0 = .ok (.aload_n 0, 1) := DX6_hasNext.1
theorem dX6_hasNext_1 : decode cX6_hasNext 1 = .ok (.getfield 16, 3) := DX6_hasNext.2.1
theorem dX6_hasNext_4 : decode cX6_hasNext 4 = .ok (.ifCond .ne 7, 3) := DX6_hasNext.2.2.1
theorem dX6_hasNext_7 : decode cX6_hasNext 7 = .ok (.iconst 1, 1) := DX6_hasNext.2.2.2.1
theorem dX6_hasNext_8 : decode cX6_hasNext 8 = .ok (.goto 4, 3) := DX6_hasNext.2.2.2.2.1
theorem dX6_hasNext_11 : decode cX6_hasNext 11 = .ok (.iconst 0, 1) := DX6_hasNext.2.2.2.2.2.1
theorem dX6_hasNext_12 : decode cX6_hasNext 12 = .ok (.ireturn, 1) := DX6_hasNext.2.2.2.2.2.2
theorem dX6_next_0 : decode cX6_next 0 = .ok (.aload_n 0, 1) := DX6_next.1
theorem dX6_next_1 : decode cX6_next 1 = .ok (.invokevirtual 25, 3) := DX6_next.2.1
theorem dX6_next_4 : decode cX6_next 4 = .ok (.areturn, 1) := DX6_next.2.2
theorem dX6_next_2_0 : decode cX6_next_2 0 = .ok (.aload_n 0, 1) := DX6_next_2.1
theorem dX6_next_2_1 : decode cX6_next_2 1 = .ok (.getfield 13, 3) := DX6_next_2.2.1
theorem dX6_next_2_4 : decode cX6_next_2 4 = .ok (.astore_n 1, 1) := DX6_next_2.2.2.1
theorem dX6_next_2_5 : decode cX6_next_2 5 = .ok (.aload_n 0, 1) := DX6_next_2.2.2.2.1
theorem dX6_next_2_6 : decode cX6_next_2 6 = .ok (.aload_n 0, 1) := DX6_next_2.2.2.2.2.1
theorem dX6_next_2_7 : decode cX6_next_2 7 = .ok (.getfield 13, 3) := DX6_next_2.2.2.2.2.2.1
theorem dX6_next_2_10 : decode cX6_next_2 10 = .ok (.getfield 20, 3) := DX6_next_2.2.2.2.2.2.2.1
theorem dX6_next_2_13 : decode cX6_next_2 13 = .ok (.putfield 13, 3) := DX6_next_2.2.2.2.2.2.2.2.1
theorem dX6_next_2_16 : decode cX6_next_2 16 = .ok (.aload_n 0, 1) := DX6_next_2.2.2.2.2.2.2.2.2.1
theorem dX6_next_2_17 : decode cX6_next_2 17 = .ok (.aload_n 0, 1) := DX6_next_2.2.2.2.2.2.2.2.2.2.1
theorem dX6_next_2_18 : decode cX6_next_2 18 = .ok (.getfield 13, 3) := DX6_next_2.2.2.2.2.2.2.2.2.2.2.1
theorem dX6_next_2_21 : decode cX6_next_2 21 = .ok (.aload_n 0, 1) := DX6_next_2.2.2.2.2.2.2.2.2.2.2.2.1
theorem dX6_next_2_22 : decode cX6_next_2 22 = .ok (.getfield 7, 3) := DX6_next_2.2.2.2.2.2.2.2.2.2.2.2.2.1
theorem dX6_next_2_25 : decode cX6_next_2 25 = .ok (.if_acmp .ne 7, 3) := DX6_next_2.2.2.2.2.2.2.2.2.2.2.2.2.2.1
theorem dX6_next_2_28 : decode cX6_next_2 28 = .ok (.iconst 1, 1) := DX6_next_2.2.2.2.2.2.2.2.2.2.2.2.2.2.2.1
theorem dX6_next_2_29 : decode cX6_next_2 29 = .ok (.goto 4, 3) := DX6_next_2.2.2.2.2.2.2.2.2.2.2.2.2.2.2.2.1
theorem dX6_next_2_32 : decode cX6_next_2 32 = .ok (.iconst 0, 1) := DX6_next_2.2.2.2.2.2.2.2.2.2.2.2.2.2.2.2.2.1
theorem dX6_next_2_33 : decode cX6_next_2 33 = .ok (.putfield 16, 3) := DX6_next_2.2.2.2.2.2.2.2.2.2.2.2.2.2.2.2.2.2.1
theorem dX6_next_2_36 : decode cX6_next_2 36 = .ok (.aload_n 1, 1) := DX6_next_2.2.2.2.2.2.2.2.2.2.2.2.2.2.2.2.2.2.2.1
theorem dX6_next_2_37 : decode cX6_next_2 37 = .ok (.areturn, 1) := DX6_next_2.2.2.2.2.2.2.2.2.2.2.2.2.2.2.2.2.2.2.2
theorem dX7_init_0 : decode cX7_init 0 = .ok (.aload_n 0, 1) := DX7_init.1
theorem dX7_init_1 : decode cX7_init 1 = .ok (.invokespecial 3, 3) := DX7_init.2.1
theorem dX7_init_4 : decode cX7_init 4 = .ok (.aload_n 0, 1) := DX7_init.2.2.1
theorem dX7_init_5 : decode cX7_init 5 = .ok (.new 9, 3) := DX7_init.2.2.2.1
theorem dX7_init_8 : decode cX7_init 8 = .ok (.dup, 1) := DX7_init.2.2.2.2.1
theorem dX7_init_9 : decode cX7_init 9 = .ok (.invokespecial 11, 3) := DX7_init.2.2.2.2.2.1
theorem dX7_init_12 : decode cX7_init 12 = .ok (.putfield 12, 3) := DX7_init.2.2.2.2.2.2.1
theorem dX7_init_15 : decode cX7_init 15 = .ok (.aload_n 0, 1) := DX7_init.2.2.2.2.2.2.2.1
theorem dX7_init_16 : decode cX7_init 16 = .ok (.bipush 120, 2) := DX7_init.2.2.2.2.2.2.2.2.1
theorem dX7_init_18 : decode cX7_init 18 = .ok (.putfield 18, 3) := DX7_init.2.2.2.2.2.2.2.2.2.1
theorem dX7_init_21 : decode cX7_init 21 = .ok (.return_, 1) := DX7_init.2.2.2.2.2.2.2.2.2.2
theorem dX7_add_0 : decode cX7_add 0 = .ok (.aload_n 1, 1) := DX7_add.1
theorem dX7_add_1 : decode cX7_add 1 = .ok (.aload_n 0, 1) := DX7_add.2.1
theorem dX7_add_2 : decode cX7_add 2 = .ok (.putfield 22, 3) := DX7_add.2.2.1
theorem dX7_add_5 : decode cX7_add 5 = .ok (.aload_n 0, 1) := DX7_add.2.2.2.1
theorem dX7_add_6 : decode cX7_add 6 = .ok (.getfield 12, 3) := DX7_add.2.2.2.2.1
theorem dX7_add_9 : decode cX7_add 9 = .ok (.aload_n 1, 1) := DX7_add.2.2.2.2.2.1
theorem dX7_add_10 : decode cX7_add 10 = .ok (.invokevirtual 28, 3) := DX7_add.2.2.2.2.2.2.1
theorem dX7_add_13 : decode cX7_add 13 = .ok (.pop, 1) := DX7_add.2.2.2.2.2.2.2.1
theorem dX7_add_14 : decode cX7_add 14 = .ok (.aload_n 0, 1) := DX7_add.2.2.2.2.2.2.2.2.1
theorem dX7_add_15 : decode cX7_add 15 = .ok (.aload_n 0, 1) := DX7_add.2.2.2.2.2.2.2.2.2.1
theorem dX7_add_16 : decode cX7_add 16 = .ok (.getfield 18, 3) := DX7_add.2.2.2.2.2.2.2.2.2.2.1
theorem dX7_add_19 : decode cX7_add 19 = .ok (.aload_n 1, 1) := DX7_add.2.2.2.2.2.2.2.2.2.2.2.1
theorem dX7_add_20 : decode cX7_add 20 = .ok (.invokevirtual 32, 3) := DX7_add.2.2.2.2.2.2.2.2.2.2.2.2.1
theorem dX7_add_23 : decode cX7_add 23 = .ok (.invokestatic 35, 3) := DX7_add.2.2.2.2.2.2.2.2.2.2.2.2.2.1
theorem dX7_add_26 : decode cX7_add 26 = .ok (.putfield 18, 3) := DX7_add.2.2.2.2.2.2.2.2.2.2.2.2.2.2.1
theorem dX7_add_29 : decode cX7_add 29 = .ok (.return_, 1) := DX7_add.2.2.2.2.2.2.2.2.2.2.2.2.2.2.2
theorem dX7_area_0 : decode cX7_area 0 = .ok (.lconst 0, 1) := DX7_area.1
theorem dX7_area_1 : decode cX7_area 1 = .ok (.lstore_n 1, 1) := DX7_area.2.1
theorem dX7_area_2 : decode cX7_area 2 = .ok (.iconst 0, 1) := DX7_area.2.2.1
theorem dX7_area_3 : decode cX7_area 3 = .ok (.istore_n 3, 1) := DX7_area.2.2.2.1
theorem dX7_area_4 : decode cX7_area 4 = .ok (.iload_n 3, 1) := DX7_area.2.2.2.2.1
theorem dX7_area_5 : decode cX7_area 5 = .ok (.aload_n 0, 1) := DX7_area.2.2.2.2.2.1
theorem dX7_area_6 : decode cX7_area 6 = .ok (.getfield 12, 3) := DX7_area.2.2.2.2.2.2.1
theorem dX7_area_9 : decode cX7_area 9 = .ok (.invokevirtual 41, 3) := DX7_area.2.2.2.2.2.2.2.1
theorem dX7_area_12 : decode cX7_area 12 = .ok (.if_icmp .ge 26, 3) := DX7_area.2.2.2.2.2.2.2.2.1
theorem dX7_area_15 : decode cX7_area 15 = .ok (.lload_n 1, 1) := DX7_area.2.2.2.2.2.2.2.2.2.1
theorem dX7_area_16 : decode cX7_area 16 = .ok (.aload_n 0, 1) := DX7_area.2.2.2.2.2.2.2.2.2.2.1
theorem dX7_area_17 : decode cX7_area 17 = .ok (.getfield 12, 3) := DX7_area.2.2.2.2.2.2.2.2.2.2.2.1
theorem dX7_area_20 : decode cX7_area 20 = .ok (.iload_n 3, 1) := DX7_area.2.2.2.2.2.2.2.2.2.2.2.2.1
theorem dX7_area_21 : decode cX7_area 21 = .ok (.invokevirtual 44, 3) := DX7_area.2.2.2.2.2.2.2.2.2.2.2.2.2.1
theorem dX7_area_24 : decode cX7_area 24 = .ok (.checkcast 23, 3) := DX7_area.2.2.2.2.2.2.2.2.2.2.2.2.2.2.1
theorem dX7_area_27 : decode cX7_area 27 = .ok (.invokevirtual 48, 3) := DX7_area.2.2.2.2.2.2.2.2.2.2.2.2.2.2.2.1
theorem dX7_area_30 : decode cX7_area 30 = .ok (.ladd, 1) := DX7_area.2.2.2.2.2.2.2.2.2.2.2.2.2.2.2.2.1
theorem dX7_area_31 : decode cX7_area 31 = .ok (.lstore_n 1, 1) := DX7_area.2.2.2.2.2.2.2.2.2.2.2.2.2.2.2.2.2.1
theorem dX7_area_32 : decode cX7_area 32 = .ok (.iinc 3 1, 3) := DX7_area.2.2.2.2.2.2.2.2.2.2.2.2.2.2.2.2.2.2.1
theorem dX7_area_35 : decode cX7_area 35 = .ok (.goto (-31), 3) := DX7_area.2.2.2.2.2.2.2.2.2.2.2.2.2.2.2.2.2.2.2.1
theorem dX7_area_38 : decode cX7_area 38 = .ok (.lload_n 1, 1) := DX7_area.2.2.2.2.2.2.2.2.2.2.2.2.2.2.2.2.2.2.2.2.1
theorem dX7_area_39 : decode cX7_area 39 = .ok (.lreturn, 1) := DX7_area.2.2.2.2.2.2.2.2.2.2.2.2.2.2.2.2.2.2.2.2.2
theorem dJ0_init_0 : decode cJ0_init 0 = .ok (.aload_n 0, 1) := DJ0_init.1
theorem dJ0_init_1 : decode cJ0_init 1 = .ok (.invokespecial 1, 3) := DJ0_init.2.1
theorem dJ0_init_4 : decode cJ0_init 4 = .ok (.return_, 1) := DJ0_init.2.2
theorem dJ1_init_0 : decode cJ1_init 0 = .ok (.aload_n 0, 1) := DJ1_init.1
theorem dJ1_init_1 : decode cJ1_init 1 = .ok (.invokespecial 1, 3) := DJ1_init.2.1
theorem dJ1_init_4 : decode cJ1_init 4 = .ok (.aload_n 0, 1) := DJ1_init.2.2.1
theorem dJ1_init_5 : decode cJ1_init 5 = .ok (.iconst 0, 1) := DJ1_init.2.2.2.1
theorem dJ1_init_6 : decode cJ1_init 6 = .ok (.putfield 7, 3) := DJ1_init.2.2.2.2.1
theorem dJ1_init_9 : decode cJ1_init 9 = .ok (.return_, 1) := DJ1_init.2.2.2.2.2
theorem dJ2_init_0 : decode cJ2_init 0 = .ok (.aload_n 0, 1) := DJ2_init.1
theorem dJ2_init_1 : decode cJ2_init 1 = .ok (.invokespecial 1, 3) := DJ2_init.2.1
theorem dJ2_init_4 : decode cJ2_init 4 = .ok (.aload_n 0, 1) := DJ2_init.2.2.1
theorem dJ2_init_5 : decode cJ2_init 5 = .ok (.getstatic 39, 3) := DJ2_init.2.2.2.1
theorem dJ2_init_8 : decode cJ2_init 8 = .ok (.putfield 9, 3) := DJ2_init.2.2.2.2.1
theorem dJ2_init_11 : decode cJ2_init 11 = .ok (.return_, 1) := DJ2_init.2.2.2.2.2
theorem dJ2_clear_0 : decode cJ2_clear 0 = .ok (.aload_n 0, 1) := DJ2_clear.1
theorem dJ2_clear_1 : decode cJ2_clear 1 = .ok (.dup, 1) := DJ2_clear.2.1
theorem dJ2_clear_2 : decode cJ2_clear 2 = .ok (.getfield 63, 3) := DJ2_clear.2.2.1
theorem dJ2_clear_5 : decode cJ2_clear 5 = .ok (.iconst 1, 1) := DJ2_clear.2.2.2.1
theorem dJ2_clear_6 : decode cJ2_clear 6 = .ok (.iadd, 1) := DJ2_clear.2.2.2.2.1
theorem dJ2_clear_7 : decode cJ2_clear 7 = .ok (.putfield 63, 3) := DJ2_clear.2.2.2.2.2.1
theorem dJ2_clear_10 : decode cJ2_clear 10 = .ok (.aload_n 0, 1) := DJ2_clear.2.2.2.2.2.2.1
theorem dJ2_clear_11 : decode cJ2_clear 11 = .ok (.getfield 9, 3) := DJ2_clear.2.2.2.2.2.2.2.1
theorem dJ2_clear_14 : decode cJ2_clear 14 = .ok (.astore_n 1, 1) := DJ2_clear.2.2.2.2.2.2.2.2.1
theorem dJ2_clear_15 : decode cJ2_clear 15 = .ok (.aload_n 0, 1) := DJ2_clear.2.2.2.2.2.2.2.2.2.1
theorem dJ2_clear_16 : decode cJ2_clear 16 = .ok (.getfield 48, 3) := DJ2_clear.2.2.2.2.2.2.2.2.2.2.1
theorem dJ2_clear_19 : decode cJ2_clear 19 = .ok (.istore_n 2, 1) := DJ2_clear.2.2.2.2.2.2.2.2.2.2.2.1
theorem dJ2_clear_20 : decode cJ2_clear 20 = .ok (.aload_n 0, 1) := DJ2_clear.2.2.2.2.2.2.2.2.2.2.2.2.1
theorem dJ2_clear_21 : decode cJ2_clear 21 = .ok (.iconst 0, 1) := DJ2_clear.2.2.2.2.2.2.2.2.2.2.2.2.2.1
theorem dJ2_clear_22 : decode cJ2_clear 22 = .ok (.dup_x1, 1) := DJ2_clear.2.2.2.2.2.2.2.2.2.2.2.2.2.2.1
theorem dJ2_clear_23 : decode cJ2_clear 23 = .ok (.putfield 48, 3) := DJ2_clear.2.2.2.2.2.2.2.2.2.2.2.2.2.2.2.1
theorem dJ2_clear_26 : decode cJ2_clear 26 = .ok (.istore_n 3, 1) := DJ2_clear.2.2.2.2.2.2.2.2.2.2.2.2.2.2.2.2.1
theorem dJ2_clear_27 : decode cJ2_clear 27 = .ok (.iload_n 3, 1) := DJ2_clear.2.2.2.2.2.2.2.2.2.2.2.2.2.2.2.2.2.1
theorem dJ2_clear_28 : decode cJ2_clear 28 = .ok (.iload_n 2, 1) := DJ2_clear.2.2.2.2.2.2.2.2.2.2.2.2.2.2.2.2.2.2.1
theorem dJ2_clear_29 : decode cJ2_clear 29 = .ok (.if_icmp .ge 13, 3) := DJ2_clear.2.2.2.2.2.2.2.2.2.2.2.2.2.2.2.2.2.2.2.1
theorem dJ2_clear_32 : decode cJ2_clear 32 = .ok (.aload_n 1, 1) := DJ2_clear.2.2.2.2.2.2.2.2.2.2.2.2.2.2.2.2.2.2.2.2.1
theorem dJ2_clear_33 : decode cJ2_clear 33 = .ok (.iload_n 3, 1) := DJ2_clear.2.2.2.2.2.2.2.2.2.2.2.2.2.2.2.2.2.2.2.2.2.1
theorem dJ2_clear_34 : decode cJ2_clear 34 = .ok (.aconst_null, 1) := DJ2_clear.2.2.2.2.2.2.2.2.2.2.2.2.2.2.2.2.2.2.2.2.2.2.1
theorem dJ2_clear_35 : decode cJ2_clear 35 = .ok (.aastore, 1) := DJ2_clear.2.2.2.2.2.2.2.2.2.2.2.2.2.2.2.2.2.2.2.2.2.2.2.1
theorem dJ2_clear_36 : decode cJ2_clear 36 = .ok (.iinc 3 1, 3) := DJ2_clear.2.2.2.2.2.2.2.2.2.2.2.2.2.2.2.2.2.2.2.2.2.2.2.2.1
theorem dJ2_clear_39 : decode cJ2_clear 39 = .ok (.goto (-12), 3) := DJ2_clear.2.2.2.2.2.2.2.2.2.2.2.2.2.2.2.2.2.2.2.2.2.2.2.2.2.1
theorem dJ2_clear_42 : decode cJ2_clear 42 = .ok (.return_, 1) := DJ2_clear.2.2.2.2.2.2.2.2.2.2.2.2.2.2.2.2.2.2.2.2.2.2.2.2.2.2
theorem dJ2_size_0 : decode cJ2_size 0 = .ok (.aload_n 0, 1) := DJ2_size.1
theorem dJ2_size_1 : decode cJ2_size 1 = .ok (.getfield 48, 3) := DJ2_size.2.1
theorem dJ2_size_4 : decode cJ2_size 4 = .ok (.ireturn, 1) := DJ2_size.2.2
theorem dJ2_get_0 : decode cJ2_get 0 = .ok (.iload_n 1, 1) := DJ2_get.1
theorem dJ2_get_1 : decode cJ2_get 1 = .ok (.aload_n 0, 1) := DJ2_get.2.1
theorem dJ2_get_2 : decode cJ2_get 2 = .ok (.getfield 48, 3) := DJ2_get.2.2.1
theorem dJ2_get_5 : decode cJ2_get 5 = .ok (.invokestatic 118, 3) := DJ2_get.2.2.2.1
theorem dJ2_get_8 : decode cJ2_get 8 = .ok (.pop, 1) := DJ2_get.2.2.2.2.1
theorem dJ2_get_9 : decode cJ2_get 9 = .ok (.aload_n 0, 1) := DJ2_get.2.2.2.2.2.1
theorem dJ2_get_10 : decode cJ2_get 10 = .ok (.iload_n 1, 1) := DJ2_get.2.2.2.2.2.2.1
theorem dJ2_get_11 : decode cJ2_get 11 = .ok (.invokevirtual 123, 3) := DJ2_get.2.2.2.2.2.2.2.1
theorem dJ2_get_14 : decode cJ2_get 14 = .ok (.areturn, 1) := DJ2_get.2.2.2.2.2.2.2.2
theorem dJ2_elementData_0 : decode cJ2_elementData 0 = .ok (.aload_n 0, 1) := DJ2_elementData.1
theorem dJ2_elementData_1 : decode cJ2_elementData 1 = .ok (.getfield 9, 3) := DJ2_elementData.2.1
theorem dJ2_elementData_4 : decode cJ2_elementData 4 = .ok (.iload_n 1, 1) := DJ2_elementData.2.2.1
theorem dJ2_elementData_5 : decode cJ2_elementData 5 = .ok (.aaload, 1) := DJ2_elementData.2.2.2.1
theorem dJ2_elementData_6 : decode cJ2_elementData 6 = .ok (.areturn, 1) := DJ2_elementData.2.2.2.2
theorem dJ2_add_0 : decode cJ2_add 0 = .ok (.aload_n 0, 1) := DJ2_add.1
theorem dJ2_add_1 : decode cJ2_add 1 = .ok (.dup, 1) := DJ2_add.2.1
theorem dJ2_add_2 : decode cJ2_add 2 = .ok (.getfield 63, 3) := DJ2_add.2.2.1
theorem dJ2_add_5 : decode cJ2_add 5 = .ok (.iconst 1, 1) := DJ2_add.2.2.2.1
theorem dJ2_add_6 : decode cJ2_add 6 = .ok (.iadd, 1) := DJ2_add.2.2.2.2.1
theorem dJ2_add_7 : decode cJ2_add 7 = .ok (.putfield 63, 3) := DJ2_add.2.2.2.2.2.1
theorem dJ2_add_10 : decode cJ2_add 10 = .ok (.aload_n 0, 1) := DJ2_add.2.2.2.2.2.2.1
theorem dJ2_add_11 : decode cJ2_add 11 = .ok (.aload_n 1, 1) := DJ2_add.2.2.2.2.2.2.2.1
theorem dJ2_add_12 : decode cJ2_add 12 = .ok (.aload_n 0, 1) := DJ2_add.2.2.2.2.2.2.2.2.1
theorem dJ2_add_13 : decode cJ2_add 13 = .ok (.getfield 9, 3) := DJ2_add.2.2.2.2.2.2.2.2.2.1
theorem dJ2_add_16 : decode cJ2_add 16 = .ok (.aload_n 0, 1) := DJ2_add.2.2.2.2.2.2.2.2.2.2.1
theorem dJ2_add_17 : decode cJ2_add 17 = .ok (.getfield 48, 3) := DJ2_add.2.2.2.2.2.2.2.2.2.2.2.1
theorem dJ2_add_20 : decode cJ2_add 20 = .ok (.invokevirtual 131, 3) := DJ2_add.2.2.2.2.2.2.2.2.2.2.2.2.1
theorem dJ2_add_23 : decode cJ2_add 23 = .ok (.iconst 1, 1) := DJ2_add.2.2.2.2.2.2.2.2.2.2.2.2.2.1
theorem dJ2_add_24 : decode cJ2_add 24 = .ok (.ireturn, 1) := DJ2_add.2.2.2.2.2.2.2.2.2.2.2.2.2.2
theorem dJ2_add_2_0 : decode cJ2_add_2 0 = .ok (.iload_n 3, 1) := DJ2_add_2.1
theorem dJ2_add_2_1 : decode cJ2_add_2 1 = .ok (.aload_n 2, 1) := DJ2_add_2.2.1
theorem dJ2_add_2_2 : decode cJ2_add_2 2 = .ok (.arraylength, 1) := DJ2_add_2.2.2.1
theorem dJ2_add_2_3 : decode cJ2_add_2 3 = .ok (.if_icmp .ne 8, 3) := DJ2_add_2.2.2.2.1
theorem dJ2_add_2_6 : decode cJ2_add_2 6 = .ok (.aload_n 0, 1) := DJ2_add_2.2.2.2.2.1
theorem dJ2_add_2_7 : decode cJ2_add_2 7 = .ok (.invokevirtual 129, 3) := DJ2_add_2.2.2.2.2.2.1
theorem dJ2_add_2_10 : decode cJ2_add_2 10 = .ok (.astore_n 2, 1) := DJ2_add_2.2.2.2.2.2.2.1
theorem dJ2_add_2_11 : decode cJ2_add_2 11 = .ok (.aload_n 2, 1) := DJ2_add_2.2.2.2.2.2.2.2.1
theorem dJ2_add_2_12 : decode cJ2_add_2 12 = .ok (.iload_n 3, 1) := DJ2_add_2.2.2.2.2.2.2.2.2.1
theorem dJ2_add_2_13 : decode cJ2_add_2 13 = .ok (.aload_n 1, 1) := DJ2_add_2.2.2.2.2.2.2.2.2.2.1
theorem dJ2_add_2_14 : decode cJ2_add_2 14 = .ok (.aastore, 1) := DJ2_add_2.2.2.2.2.2.2.2.2.2.2.1
theorem dJ2_add_2_15 : decode cJ2_add_2 15 = .ok (.aload_n 0, 1) := DJ2_add_2.2.2.2.2.2.2.2.2.2.2.2.1
theorem dJ2_add_2_16 : decode cJ2_add_2 16 = .ok (.iload_n 3, 1) := DJ2_add_2.2.2.2.2.2.2.2.2.2.2.2.2.1
theorem dJ2_add_2_17 : decode cJ2_add_2 17 = .ok (.iconst 1, 1) := DJ2_add_2.2.2.2.2.2.2.2.2.2.2.2.2.2.1
theorem dJ2_add_2_18 : decode cJ2_add_2 18 = .ok (.iadd, 1) := DJ2_add_2.2.2.2.2.2.2.2.2.2.2.2.2.2.2.1
theorem dJ2_add_2_19 : decode cJ2_add_2 19 = .ok (.putfield 48, 3) := DJ2_add_2.2.2.2.2.2.2.2.2.2.2.2.2.2.2.2.1
theorem dJ2_add_2_22 : decode cJ2_add_2 22 = .ok (.return_, 1) := DJ2_add_2.2.2.2.2.2.2.2.2.2.2.2.2.2.2.2.2
theorem dJ2_grow_0 : decode cJ2_grow 0 = .ok (.aload_n 0, 1) := DJ2_grow.1
theorem dJ2_grow_1 : decode cJ2_grow 1 = .ok (.aload_n 0, 1) := DJ2_grow.2.1
theorem dJ2_grow_2 : decode cJ2_grow 2 = .ok (.getfield 48, 3) := DJ2_grow.2.2.1
theorem dJ2_grow_5 : decode cJ2_grow 5 = .ok (.iconst 1, 1) := DJ2_grow.2.2.2.1
theorem dJ2_grow_6 : decode cJ2_grow 6 = .ok (.iadd, 1) := DJ2_grow.2.2.2.2.1
theorem dJ2_grow_7 : decode cJ2_grow 7 = .ok (.invokevirtual 69, 3) := DJ2_grow.2.2.2.2.2.1
theorem dJ2_grow_10 : decode cJ2_grow 10 = .ok (.areturn, 1) := DJ2_grow.2.2.2.2.2.2
theorem dJ2_grow_2_0 : decode cJ2_grow_2 0 = .ok (.aload_n 0, 1) := DJ2_grow_2.1
theorem dJ2_grow_2_1 : decode cJ2_grow_2 1 = .ok (.getfield 9, 3) := DJ2_grow_2.2.1
theorem dJ2_grow_2_4 : decode cJ2_grow_2 4 = .ok (.arraylength, 1) := DJ2_grow_2.2.2.1
theorem dJ2_grow_2_5 : decode cJ2_grow_2 5 = .ok (.istore_n 2, 1) := DJ2_grow_2.2.2.2.1
theorem dJ2_grow_2_6 : decode cJ2_grow_2 6 = .ok (.iload_n 2, 1) := DJ2_grow_2.2.2.2.2.1
theorem dJ2_grow_2_7 : decode cJ2_grow_2 7 = .ok (.ifCond .gt 13, 3) := DJ2_grow_2.2.2.2.2.2.1
theorem dJ2_grow_2_10 : decode cJ2_grow_2 10 = .ok (.aload_n 0, 1) := DJ2_grow_2.2.2.2.2.2.2.1
theorem dJ2_grow_2_11 : decode cJ2_grow_2 11 = .ok (.getfield 9, 3) := DJ2_grow_2.2.2.2.2.2.2.2.1
theorem dJ2_grow_2_14 : decode cJ2_grow_2 14 = .ok (.getstatic 39, 3) := DJ2_grow_2.2.2.2.2.2.2.2.2.1
theorem dJ2_grow_2_17 : decode cJ2_grow_2 17 = .ok (.if_acmp .eq 28, 3) := DJ2_grow_2.2.2.2.2.2.2.2.2.2.1
theorem dJ2_grow_2_20 : decode cJ2_grow_2 20 = .ok (.iload_n 2, 1) := DJ2_grow_2.2.2.2.2.2.2.2.2.2.2.1
theorem dJ2_grow_2_21 : decode cJ2_grow_2 21 = .ok (.iload_n 1, 1) := DJ2_grow_2.2.2.2.2.2.2.2.2.2.2.2.1
theorem dJ2_grow_2_22 : decode cJ2_grow_2 22 = .ok (.iload_n 2, 1) := DJ2_grow_2.2.2.2.2.2.2.2.2.2.2.2.2.1
theorem dJ2_grow_2_23 : decode cJ2_grow_2 23 = .ok (.isub, 1) := DJ2_grow_2.2.2.2.2.2.2.2.2.2.2.2.2.2.1
theorem dJ2_grow_2_24 : decode cJ2_grow_2 24 = .ok (.iload_n 2, 1) := DJ2_grow_2.2.2.2.2.2.2.2.2.2.2.2.2.2.2.1
theorem dJ2_grow_2_25 : decode cJ2_grow_2 25 = .ok (.iconst 1, 1) := DJ2_grow_2.2.2.2.2.2.2.2.2.2.2.2.2.2.2.2.1
theorem dJ2_grow_2_26 : decode cJ2_grow_2 26 = .ok (.ishr, 1) := DJ2_grow_2.2.2.2.2.2.2.2.2.2.2.2.2.2.2.2.2.1
theorem dJ2_grow_2_27 : decode cJ2_grow_2 27 = .ok (.invokestatic 73, 3) := DJ2_grow_2.2.2.2.2.2.2.2.2.2.2.2.2.2.2.2.2.2.1
theorem dJ2_grow_2_30 : decode cJ2_grow_2 30 = .ok (.istore_n 3, 1) := DJ2_grow_2.2.2.2.2.2.2.2.2.2.2.2.2.2.2.2.2.2.2.1
theorem dJ2_grow_2_31 : decode cJ2_grow_2 31 = .ok (.aload_n 0, 1) := DJ2_grow_2.2.2.2.2.2.2.2.2.2.2.2.2.2.2.2.2.2.2.2.1
theorem dJ2_grow_2_32 : decode cJ2_grow_2 32 = .ok (.aload_n 0, 1) := DJ2_grow_2.2.2.2.2.2.2.2.2.2.2.2.2.2.2.2.2.2.2.2.2.1
theorem dJ2_grow_2_33 : decode cJ2_grow_2 33 = .ok (.getfield 9, 3) := DJ2_grow_2.2.2.2.2.2.2.2.2.2.2.2.2.2.2.2.2.2.2.2.2.2.1
theorem dJ2_grow_2_36 : decode cJ2_grow_2 36 = .ok (.iload_n 3, 1) := DJ2_grow_2.2.2.2.2.2.2.2.2.2.2.2.2.2.2.2.2.2.2.2.2.2.2.1
theorem dJ2_grow_2_37 : decode cJ2_grow_2 37 = .ok (.invokestatic 66, 3) := DJ2_grow_2.2.2.2.2.2.2.2.2.2.2.2.2.2.2.2.2.2.2.2.2.2.2.2.1
theorem dJ2_grow_2_40 : decode cJ2_grow_2 40 = .ok (.dup_x1, 1) := DJ2_grow_2.2.2.2.2.2.2.2.2.2.2.2.2.2.2.2.2.2.2.2.2.2.2.2.2.1
theorem dJ2_grow_2_41 : decode cJ2_grow_2 41 = .ok (.putfield 9, 3) := DJ2_grow_2.2.2.2.2.2.2.2.2.2.2.2.2.2.2.2.2.2.2.2.2.2.2.2.2.2.1
theorem dJ2_grow_2_44 : decode cJ2_grow_2 44 = .ok (.areturn, 1) := DJ2_grow_2.2.2.2.2.2.2.2.2.2.2.2.2.2.2.2.2.2.2.2.2.2.2.2.2.2.2.1
theorem dJ2_grow_2_45 : decode cJ2_grow_2 45 = .ok (.aload_n 0, 1) := DJ2_grow_2.2.2.2.2.2.2.2.2.2.2.2.2.2.2.2.2.2.2.2.2.2.2.2.2.2.2.2.1
theorem dJ2_grow_2_46 : decode cJ2_grow_2 46 = .ok (.bipush 10, 2) := DJ2_grow_2.2.2.2.2.2.2.2.2.2.2.2.2.2.2.2.2.2.2.2.2.2.2.2.2.2.2.2.2.1
theorem dJ2_grow_2_48 : decode cJ2_grow_2 48 = .ok (.iload_n 1, 1) := DJ2_grow_2.2.2.2.2.2.2.2.2.2.2.2.2.2.2.2.2.2.2.2.2.2.2.2.2.2.2.2.2.2.1
theorem dJ2_grow_2_49 : decode cJ2_grow_2 49 = .ok (.invokestatic 79, 3) := DJ2_grow_2.2.2.2.2.2.2.2.2.2.2.2.2.2.2.2.2.2.2.2.2.2.2.2.2.2.2.2.2.2.2.1
theorem dJ2_grow_2_52 : decode cJ2_grow_2 52 = .ok (.anewarray 7, 3) := DJ2_grow_2.2.2.2.2.2.2.2.2.2.2.2.2.2.2.2.2.2.2.2.2.2.2.2.2.2.2.2.2.2.2.2.1
theorem dJ2_grow_2_55 : decode cJ2_grow_2 55 = .ok (.dup_x1, 1) := DJ2_grow_2.2.2.2.2.2.2.2.2.2.2.2.2.2.2.2.2.2.2.2.2.2.2.2.2.2.2.2.2.2.2.2.2.1
theorem dJ2_grow_2_56 : decode cJ2_grow_2 56 = .ok (.putfield 9, 3) := DJ2_grow_2.2.2.2.2.2.2.2.2.2.2.2.2.2.2.2.2.2.2.2.2.2.2.2.2.2.2.2.2.2.2.2.2.2.1
theorem dJ2_grow_2_59 : decode cJ2_grow_2 59 = .ok (.areturn, 1) := DJ2_grow_2.2.2.2.2.2.2.2.2.2.2.2.2.2.2.2.2.2.2.2.2.2.2.2.2.2.2.2.2.2.2.2.2.2.2
theorem dJ2_add_3_0 : decode cJ2_add_3 0 = .ok (.aload_n 0, 1) := DJ2_add_3.1
theorem dJ2_add_3_1 : decode cJ2_add_3 1 = .ok (.iload_n 1, 1) := DJ2_add_3.2.1
theorem dJ2_add_3_2 : decode cJ2_add_3 2 = .ok (.invokevirtual 135, 3) := DJ2_add_3.2.2.1
theorem dJ2_add_3_5 : decode cJ2_add_3 5 = .ok (.aload_n 0, 1) := DJ2_add_3.2.2.2.1
theorem dJ2_add_3_6 : decode cJ2_add_3 6 = .ok (.dup, 1) := DJ2_add_3.2.2.2.2.1
theorem dJ2_add_3_7 : decode cJ2_add_3 7 = .ok (.getfield 63, 3) := DJ2_add_3.2.2.2.2.2.1
theorem dJ2_add_3_10 : decode cJ2_add_3 10 = .ok (.iconst 1, 1) := DJ2_add_3.2.2.2.2.2.2.1
theorem dJ2_add_3_11 : decode cJ2_add_3 11 = .ok (.iadd, 1) := DJ2_add_3.2.2.2.2.2.2.2.1
theorem dJ2_add_3_12 : decode cJ2_add_3 12 = .ok (.putfield 63, 3) := DJ2_add_3.2.2.2.2.2.2.2.2.1
theorem dJ2_add_3_15 : decode cJ2_add_3 15 = .ok (.aload_n 0, 1) := DJ2_add_3.2.2.2.2.2.2.2.2.2.1
theorem dJ2_add_3_16 : decode cJ2_add_3 16 = .ok (.getfield 48, 3) := DJ2_add_3.2.2.2.2.2.2.2.2.2.2.1
theorem dJ2_add_3_19 : decode cJ2_add_3 19 = .ok (.dup, 1) := DJ2_add_3.2.2.2.2.2.2.2.2.2.2.2.1
theorem dJ2_add_3_20 : decode cJ2_add_3 20 = .ok (.istore_n 3, 1) := DJ2_add_3.2.2.2.2.2.2.2.2.2.2.2.2.1
theorem dJ2_add_3_21 : decode cJ2_add_3 21 = .ok (.aload_n 0, 1) := DJ2_add_3.2.2.2.2.2.2.2.2.2.2.2.2.2.1
theorem dJ2_add_3_22 : decode cJ2_add_3 22 = .ok (.getfield 9, 3) := DJ2_add_3.2.2.2.2.2.2.2.2.2.2.2.2.2.2.1
theorem dJ2_add_3_25 : decode cJ2_add_3 25 = .ok (.dup, 1) := DJ2_add_3.2.2.2.2.2.2.2.2.2.2.2.2.2.2.2.1
theorem dJ2_add_3_26 : decode cJ2_add_3 26 = .ok (.astore 4, 2) := DJ2_add_3.2.2.2.2.2.2.2.2.2.2.2.2.2.2.2.2.1
theorem dJ2_add_3_28 : decode cJ2_add_3 28 = .ok (.arraylength, 1) := DJ2_add_3.2.2.2.2.2.2.2.2.2.2.2.2.2.2.2.2.2.1
theorem dJ2_add_3_29 : decode cJ2_add_3 29 = .ok (.if_icmp .ne 9, 3) := DJ2_add_3.2.2.2.2.2.2.2.2.2.2.2.2.2.2.2.2.2.2.1
theorem dJ2_add_3_32 : decode cJ2_add_3 32 = .ok (.aload_n 0, 1) := DJ2_add_3.2.2.2.2.2.2.2.2.2.2.2.2.2.2.2.2.2.2.2.1
theorem dJ2_add_3_33 : decode cJ2_add_3 33 = .ok (.invokevirtual 129, 3) := DJ2_add_3.2.2.2.2.2.2.2.2.2.2.2.2.2.2.2.2.2.2.2.2.1
theorem dJ2_add_3_36 : decode cJ2_add_3 36 = .ok (.astore 4, 2) := DJ2_add_3.2.2.2.2.2.2.2.2.2.2.2.2.2.2.2.2.2.2.2.2.2.1
theorem dJ2_add_3_38 : decode cJ2_add_3 38 = .ok (.aload 4, 2) := DJ2_add_3.2.2.2.2.2.2.2.2.2.2.2.2.2.2.2.2.2.2.2.2.2.2.1
theorem dJ2_add_3_40 : decode cJ2_add_3 40 = .ok (.iload_n 1, 1) := DJ2_add_3.2.2.2.2.2.2.2.2.2.2.2.2.2.2.2.2.2.2.2.2.2.2.2.1
theorem dJ2_add_3_41 : decode cJ2_add_3 41 = .ok (.aload 4, 2) := DJ2_add_3.2.2.2.2.2.2.2.2.2.2.2.2.2.2.2.2.2.2.2.2.2.2.2.2.1
theorem dJ2_add_3_43 : decode cJ2_add_3 43 = .ok (.iload_n 1, 1) := DJ2_add_3.2.2.2.2.2.2.2.2.2.2.2.2.2.2.2.2.2.2.2.2.2.2.2.2.2.1
theorem dJ2_add_3_44 : decode cJ2_add_3 44 = .ok (.iconst 1, 1) := DJ2_add_3.2.2.2.2.2.2.2.2.2.2.2.2.2.2.2.2.2.2.2.2.2.2.2.2.2.2.1
theorem dJ2_add_3_45 : decode cJ2_add_3 45 = .ok (.iadd, 1) := DJ2_add_3.2.2.2.2.2.2.2.2.2.2.2.2.2.2.2.2.2.2.2.2.2.2.2.2.2.2.2.1
theorem dJ2_add_3_46 : decode cJ2_add_3 46 = .ok (.iload_n 3, 1) := DJ2_add_3.2.2.2.2.2.2.2.2.2.2.2.2.2.2.2.2.2.2.2.2.2.2.2.2.2.2.2.2.1
theorem dJ2_add_3_47 : decode cJ2_add_3 47 = .ok (.iload_n 1, 1) := DJ2_add_3.2.2.2.2.2.2.2.2.2.2.2.2.2.2.2.2.2.2.2.2.2.2.2.2.2.2.2.2.2.1
theorem dJ2_add_3_48 : decode cJ2_add_3 48 = .ok (.isub, 1) := DJ2_add_3.2.2.2.2.2.2.2.2.2.2.2.2.2.2.2.2.2.2.2.2.2.2.2.2.2.2.2.2.2.2.1
theorem dJ2_add_3_49 : decode cJ2_add_3 49 = .ok (.invokestatic 112, 3) := DJ2_add_3.2.2.2.2.2.2.2.2.2.2.2.2.2.2.2.2.2.2.2.2.2.2.2.2.2.2.2.2.2.2.2.1
theorem dJ2_add_3_52 : decode cJ2_add_3 52 = .ok (.aload 4, 2) := DJ2_add_3.2.2.2.2.2.2.2.2.2.2.2.2.2.2.2.2.2.2.2.2.2.2.2.2.2.2.2.2.2.2.2.2.1
theorem dJ2_add_3_54 : decode cJ2_add_3 54 = .ok (.iload_n 1, 1) := DJ2_add_3.2.2.2.2.2.2.2.2.2.2.2.2.2.2.2.2.2.2.2.2.2.2.2.2.2.2.2.2.2.2.2.2.2.1
theorem dJ2_add_3_55 : decode cJ2_add_3 55 = .ok (.aload_n 2, 1) := DJ2_add_3.2.2.2.2.2.2.2.2.2.2.2.2.2.2.2.2.2.2.2.2.2.2.2.2.2.2.2.2.2.2.2.2.2.2.1
theorem dJ2_add_3_56 : decode cJ2_add_3 56 = .ok (.aastore, 1) := DJ2_add_3.2.2.2.2.2.2.2.2.2.2.2.2.2.2.2.2.2.2.2.2.2.2.2.2.2.2.2.2.2.2.2.2.2.2.2.1
theorem dJ2_add_3_57 : decode cJ2_add_3 57 = .ok (.aload_n 0, 1) := DJ2_add_3.2.2.2.2.2.2.2.2.2.2.2.2.2.2.2.2.2.2.2.2.2.2.2.2.2.2.2.2.2.2.2.2.2.2.2.2.1
theorem dJ2_add_3_58 : decode cJ2_add_3 58 = .ok (.iload_n 3, 1) := DJ2_add_3.2.2.2.2.2.2.2.2.2.2.2.2.2.2.2.2.2.2.2.2.2.2.2.2.2.2.2.2.2.2.2.2.2.2.2.2.2.1
theorem dJ2_add_3_59 : decode cJ2_add_3 59 = .ok (.iconst 1, 1) := DJ2_add_3.2.2.2.2.2.2.2.2.2.2.2.2.2.2.2.2.2.2.2.2.2.2.2.2.2.2.2.2.2.2.2.2.2.2.2.2.2.2.1
theorem dJ2_add_3_60 : decode cJ2_add_3 60 = .ok (.iadd, 1) := DJ2_add_3.2.2.2.2.2.2.2.2.2.2.2.2.2.2.2.2.2.2.2.2.2.2.2.2.2.2.2.2.2.2.2.2.2.2.2.2.2.2.2.1
theorem dJ2_add_3_61 : decode cJ2_add_3 61 = .ok (.putfield 48, 3) := DJ2_add_3.2.2.2.2.2.2.2.2.2.2.2.2.2.2.2.2.2.2.2.2.2.2.2.2.2.2.2.2.2.2.2.2.2.2.2.2.2.2.2.2.1
theorem dJ2_add_3_64 : decode cJ2_add_3 64 = .ok (.return_, 1) := DJ2_add_3.2.2.2.2.2.2.2.2.2.2.2.2.2.2.2.2.2.2.2.2.2.2.2.2.2.2.2.2.2.2.2.2.2.2.2.2.2.2.2.2.2
theorem dJ2_rangeCheckForAdd_0 : decode cJ2_rangeCheckForAdd 0 = .ok (.iload_n 1, 1) := DJ2_rangeCheckForAdd.1
theorem dJ2_rangeCheckForAdd_1 : decode cJ2_rangeCheckForAdd 1 = .ok (.aload_n 0, 1) := DJ2_rangeCheckForAdd.2.1
theorem dJ2_rangeCheckForAdd_2 : decode cJ2_rangeCheckForAdd 2 = .ok (.getfield 48, 3) := DJ2_rangeCheckForAdd.2.2.1
theorem dJ2_rangeCheckForAdd_5 : decode cJ2_rangeCheckForAdd 5 = .ok (.if_icmp .gt 7, 3) := DJ2_rangeCheckForAdd.2.2.2.1
theorem dJ2_rangeCheckForAdd_8 : decode cJ2_rangeCheckForAdd 8 = .ok (.iload_n 1, 1) := DJ2_rangeCheckForAdd.2.2.2.2.1
theorem dJ2_rangeCheckForAdd_9 : decode cJ2_rangeCheckForAdd 9 = .ok (.ifCond .ge 16, 3) := DJ2_rangeCheckForAdd.2.2.2.2.2.1
theorem dJ2_rangeCheckForAdd_12 : decode cJ2_rangeCheckForAdd 12 = .ok (.new 187, 3) := DJ2_rangeCheckForAdd.2.2.2.2.2.2.1
theorem dJ2_rangeCheckForAdd_15 : decode cJ2_rangeCheckForAdd 15 = .ok (.dup, 1) := DJ2_rangeCheckForAdd.2.2.2.2.2.2.2.1
theorem dJ2_rangeCheckForAdd_16 : decode cJ2_rangeCheckForAdd 16 = .ok (.aload_n 0, 1) := DJ2_rangeCheckForAdd.2.2.2.2.2.2.2.2.1
theorem dJ2_rangeCheckForAdd_17 : decode cJ2_rangeCheckForAdd 17 = .ok (.iload_n 1, 1) := DJ2_rangeCheckForAdd.2.2.2.2.2.2.2.2.2.1
theorem dJ2_rangeCheckForAdd_18 : decode cJ2_rangeCheckForAdd 18 = .ok (.invokevirtual 198, 3) := DJ2_rangeCheckForAdd.2.2.2.2.2.2.2.2.2.2.1
theorem dJ2_rangeCheckForAdd_21 : decode cJ2_rangeCheckForAdd 21 = .ok (.invokespecial 193, 3) := DJ2_rangeCheckForAdd.2.2.2.2.2.2.2.2.2.2.2.1
theorem dJ2_rangeCheckForAdd_24 : decode cJ2_rangeCheckForAdd 24 = .ok (.athrow, 1) := DJ2_rangeCheckForAdd.2.2.2.2.2.2.2.2.2.2.2.2.1
theorem dJ2_rangeCheckForAdd_25 : decode cJ2_rangeCheckForAdd 25 = .ok (.return_, 1) := DJ2_rangeCheckForAdd.2.2.2.2.2.2.2.2.2.2.2.2.2
theorem dJ2_outOfBoundsMsg_0 : decode cJ2_outOfBoundsMsg 0 = .ok (.new 20, 3) := DJ2_outOfBoundsMsg.1
theorem dJ2_outOfBoundsMsg_3 : decode cJ2_outOfBoundsMsg 3 = .ok (.dup, 1) := DJ2_outOfBoundsMsg.2.1
theorem dJ2_outOfBoundsMsg_4 : decode cJ2_outOfBoundsMsg 4 = .ok (.invokespecial 22, 3) := DJ2_outOfBoundsMsg.2.2.1
theorem dJ2_outOfBoundsMsg_7 : decode cJ2_outOfBoundsMsg 7 = .ok (.ldc 201, 2) := DJ2_outOfBoundsMsg.2.2.2.1
theorem dJ2_outOfBoundsMsg_9 : decode cJ2_outOfBoundsMsg 9 = .ok (.invokevirtual 25, 3) := DJ2_outOfBoundsMsg.2.2.2.2.1
theorem dJ2_outOfBoundsMsg_12 : decode cJ2_outOfBoundsMsg 12 = .ok (.iload_n 1, 1) := DJ2_outOfBoundsMsg.2.2.2.2.2.1
theorem dJ2_outOfBoundsMsg_13 : decode cJ2_outOfBoundsMsg 13 = .ok (.invokevirtual 29, 3) := DJ2_outOfBoundsMsg.2.2.2.2.2.2.1
theorem dJ2_outOfBoundsMsg_16 : decode cJ2_outOfBoundsMsg 16 = .ok (.ldc 203, 2) := DJ2_outOfBoundsMsg.2.2.2.2.2.2.2.1
theorem dJ2_outOfBoundsMsg_18 : decode cJ2_outOfBoundsMsg 18 = .ok (.invokevirtual 25, 3) := DJ2_outOfBoundsMsg.2.2.2.2.2.2.2.2.1
theorem dJ2_outOfBoundsMsg_21 : decode cJ2_outOfBoundsMsg 21 = .ok (.aload_n 0, 1) := DJ2_outOfBoundsMsg.2.2.2.2.2.2.2.2.2.1
theorem dJ2_outOfBoundsMsg_22 : decode cJ2_outOfBoundsMsg 22 = .ok (.getfield 48, 3) := DJ2_outOfBoundsMsg.2.2.2.2.2.2.2.2.2.2.1
theorem dJ2_outOfBoundsMsg_25 : decode cJ2_outOfBoundsMsg 25 = .ok (.invokevirtual 29, 3) := DJ2_outOfBoundsMsg.2.2.2.2.2.2.2.2.2.2.2.1
theorem dJ2_outOfBoundsMsg_28 : decode cJ2_outOfBoundsMsg 28 = .ok (.invokevirtual 32, 3) := DJ2_outOfBoundsMsg.2.2.2.2.2.2.2.2.2.2.2.2.1
theorem dJ2_outOfBoundsMsg_31 : decode cJ2_outOfBoundsMsg 31 = .ok (.areturn, 1) := DJ2_outOfBoundsMsg.2.2.2.2.2.2.2.2.2.2.2.2.2
theorem dJ2_remove_0 : decode cJ2_remove 0 = .ok (.iload_n 1, 1) := DJ2_remove.1
theorem dJ2_remove_1 : decode cJ2_remove 1 = .ok (.aload_n 0, 1) := DJ2_remove.2.1
theorem dJ2_remove_2 : decode cJ2_remove 2 = .ok (.getfield 48, 3) := DJ2_remove.2.2.1
theorem dJ2_remove_5 : decode cJ2_remove 5 = .ok (.invokestatic 118, 3) := DJ2_remove.2.2.2.1
theorem dJ2_remove_8 : decode cJ2_remove 8 = .ok (.pop, 1) := DJ2_remove.2.2.2.2.1
theorem dJ2_remove_9 : decode cJ2_remove 9 = .ok (.aload_n 0, 1) := DJ2_remove.2.2.2.2.2.1
theorem dJ2_remove_10 : decode cJ2_remove 10 = .ok (.getfield 9, 3) := DJ2_remove.2.2.2.2.2.2.1
theorem dJ2_remove_13 : decode cJ2_remove 13 = .ok (.astore_n 2, 1) := DJ2_remove.2.2.2.2.2.2.2.1
theorem dJ2_remove_14 : decode cJ2_remove 14 = .ok (.aload_n 2, 1) := DJ2_remove.2.2.2.2.2.2.2.2.1
theorem dJ2_remove_15 : decode cJ2_remove 15 = .ok (.iload_n 1, 1) := DJ2_remove.2.2.2.2.2.2.2.2.2.1
theorem dJ2_remove_16 : decode cJ2_remove 16 = .ok (.aaload, 1) := DJ2_remove.2.2.2.2.2.2.2.2.2.2.1
theorem dJ2_remove_17 : decode cJ2_remove 17 = .ok (.astore_n 3, 1) := DJ2_remove.2.2.2.2.2.2.2.2.2.2.2.1
theorem dJ2_remove_18 : decode cJ2_remove 18 = .ok (.aload_n 0, 1) := DJ2_remove.2.2.2.2.2.2.2.2.2.2.2.2.1
theorem dJ2_remove_19 : decode cJ2_remove 19 = .ok (.aload_n 2, 1) := DJ2_remove.2.2.2.2.2.2.2.2.2.2.2.2.2.1
theorem dJ2_remove_20 : decode cJ2_remove 20 = .ok (.iload_n 1, 1) := DJ2_remove.2.2.2.2.2.2.2.2.2.2.2.2.2.2.1
theorem dJ2_remove_21 : decode cJ2_remove 21 = .ok (.invokevirtual 144, 3) := DJ2_remove.2.2.2.2.2.2.2.2.2.2.2.2.2.2.2.1
theorem dJ2_remove_24 : decode cJ2_remove 24 = .ok (.aload_n 3, 1) := DJ2_remove.2.2.2.2.2.2.2.2.2.2.2.2.2.2.2.2.1
theorem dJ2_remove_25 : decode cJ2_remove 25 = .ok (.areturn, 1) := DJ2_remove.2.2.2.2.2.2.2.2.2.2.2.2.2.2.2.2.2
theorem dJ2_fastRemove_0 : decode cJ2_fastRemove 0 = .ok (.aload_n 0, 1) := DJ2_fastRemove.1
theorem dJ2_fastRemove_1 : decode cJ2_fastRemove 1 = .ok (.dup, 1) := DJ2_fastRemove.2.1
theorem dJ2_fastRemove_2 : decode cJ2_fastRemove 2 = .ok (.getfield 63, 3) := DJ2_fastRemove.2.2.1
theorem dJ2_fastRemove_5 : decode cJ2_fastRemove 5 = .ok (.iconst 1, 1) := DJ2_fastRemove.2.2.2.1
theorem dJ2_fastRemove_6 : decode cJ2_fastRemove 6 = .ok (.iadd, 1) := DJ2_fastRemove.2.2.2.2.1
theorem dJ2_fastRemove_7 : decode cJ2_fastRemove 7 = .ok (.putfield 63, 3) := DJ2_fastRemove.2.2.2.2.2.1
theorem dJ2_fastRemove_10 : decode cJ2_fastRemove 10 = .ok (.aload_n 0, 1) := DJ2_fastRemove.2.2.2.2.2.2.1
theorem dJ2_fastRemove_11 : decode cJ2_fastRemove 11 = .ok (.getfield 48, 3) := DJ2_fastRemove.2.2.2.2.2.2.2.1
theorem dJ2_fastRemove_14 : decode cJ2_fastRemove 14 = .ok (.iconst 1, 1) := DJ2_fastRemove.2.2.2.2.2.2.2.2.1
theorem dJ2_fastRemove_15 : decode cJ2_fastRemove 15 = .ok (.isub, 1) := DJ2_fastRemove.2.2.2.2.2.2.2.2.2.1
theorem dJ2_fastRemove_16 : decode cJ2_fastRemove 16 = .ok (.dup, 1) := DJ2_fastRemove.2.2.2.2.2.2.2.2.2.2.1
theorem dJ2_fastRemove_17 : decode cJ2_fastRemove 17 = .ok (.istore_n 3, 1) := DJ2_fastRemove.2.2.2.2.2.2.2.2.2.2.2.1
theorem dJ2_fastRemove_18 : decode cJ2_fastRemove 18 = .ok (.iload_n 2, 1) := DJ2_fastRemove.2.2.2.2.2.2.2.2.2.2.2.2.1
theorem dJ2_fastRemove_19 : decode cJ2_fastRemove 19 = .ok (.if_icmp .le 15, 3) := DJ2_fastRemove.2.2.2.2.2.2.2.2.2.2.2.2.2.1
theorem dJ2_fastRemove_22 : decode cJ2_fastRemove 22 = .ok (.aload_n 1, 1) := DJ2_fastRemove.2.2.2.2.2.2.2.2.2.2.2.2.2.2.1
theorem dJ2_fastRemove_23 : decode cJ2_fastRemove 23 = .ok (.iload_n 2, 1) := DJ2_fastRemove.2.2.2.2.2.2.2.2.2.2.2.2.2.2.2.1
theorem dJ2_fastRemove_24 : decode cJ2_fastRemove 24 = .ok (.iconst 1, 1) := DJ2_fastRemove.2.2.2.2.2.2.2.2.2.2.2.2.2.2.2.2.1
theorem dJ2_fastRemove_25 : decode cJ2_fastRemove 25 = .ok (.iadd, 1) := DJ2_fastRemove.2.2.2.2.2.2.2.2.2.2.2.2.2.2.2.2.2.1
theorem dJ2_fastRemove_26 : decode cJ2_fastRemove 26 = .ok (.aload_n 1, 1) := DJ2_fastRemove.2.2.2.2.2.2.2.2.2.2.2.2.2.2.2.2.2.2.1
theorem dJ2_fastRemove_27 : decode cJ2_fastRemove 27 = .ok (.iload_n 2, 1) := DJ2_fastRemove.2.2.2.2.2.2.2.2.2.2.2.2.2.2.2.2.2.2.2.1
theorem dJ2_fastRemove_28 : decode cJ2_fastRemove 28 = .ok (.iload_n 3, 1) := DJ2_fastRemove.2.2.2.2.2.2.2.2.2.2.2.2.2.2.2.2.2.2.2.2.1
theorem dJ2_fastRemove_29 : decode cJ2_fastRemove 29 = .ok (.iload_n 2, 1) := DJ2_fastRemove.2.2.2.2.2.2.2.2.2.2.2.2.2.2.2.2.2.2.2.2.2.1
theorem dJ2_fastRemove_30 : decode cJ2_fastRemove 30 = .ok (.isub, 1) := DJ2_fastRemove.2.2.2.2.2.2.2.2.2.2.2.2.2.2.2.2.2.2.2.2.2.2.1
theorem dJ2_fastRemove_31 : decode cJ2_fastRemove 31 = .ok (.invokestatic 112, 3) := DJ2_fastRemove.2.2.2.2.2.2.2.2.2.2.2.2.2.2.2.2.2.2.2.2.2.2.2.1
theorem dJ2_fastRemove_34 : decode cJ2_fastRemove 34 = .ok (.aload_n 1, 1) := DJ2_fastRemove.2.2.2.2.2.2.2.2.2.2.2.2.2.2.2.2.2.2.2.2.2.2.2.2.1
theorem dJ2_fastRemove_35 : decode cJ2_fastRemove 35 = .ok (.aload_n 0, 1) := DJ2_fastRemove.2.2.2.2.2.2.2.2.2.2.2.2.2.2.2.2.2.2.2.2.2.2.2.2.2.1
theorem dJ2_fastRemove_36 : decode cJ2_fastRemove 36 = .ok (.iload_n 3, 1) := DJ2_fastRemove.2.2.2.2.2.2.2.2.2.2.2.2.2.2.2.2.2.2.2.2.2.2.2.2.2.2.1
theorem dJ2_fastRemove_37 : decode cJ2_fastRemove 37 = .ok (.dup_x1, 1) := DJ2_fastRemove.2.2.2.2.2.2.2.2.2.2.2.2.2.2.2.2.2.2.2.2.2.2.2.2.2.2.2.1
theorem dJ2_fastRemove_38 : decode cJ2_fastRemove 38 = .ok (.putfield 48, 3) := DJ2_fastRemove.2.2.2.2.2.2.2.2.2.2.2.2.2.2.2.2.2.2.2.2.2.2.2.2.2.2.2.2.1
theorem dJ2_fastRemove_41 : decode cJ2_fastRemove 41 = .ok (.aconst_null, 1) := DJ2_fastRemove.2.2.2.2.2.2.2.2.2.2.2.2.2.2.2.2.2.2.2.2.2.2.2.2.2.2.2.2.2.1
theorem dJ2_fastRemove_42 : decode cJ2_fastRemove 42 = .ok (.aastore, 1) := DJ2_fastRemove.2.2.2.2.2.2.2.2.2.2.2.2.2.2.2.2.2.2.2.2.2.2.2.2.2.2.2.2.2.2.1
theorem dJ2_fastRemove_43 : decode cJ2_fastRemove 43 = .ok (.return_, 1) := DJ2_fastRemove.2.2.2.2.2.2.2.2.2.2.2.2.2.2.2.2.2.2.2.2.2.2.2.2.2.2.2.2.2.2.2
theorem dJ2_isEmpty_0 : decode cJ2_isEmpty 0 = .ok (.aload_n 0, 1) := DJ2_isEmpty.1
theorem dJ2_isEmpty_1 : decode cJ2_isEmpty 1 = .ok (.getfield 48, 3) := DJ2_isEmpty.2.1
theorem dJ2_isEmpty_4 : decode cJ2_isEmpty 4 = .ok (.ifCond .ne 7, 3) := DJ2_isEmpty.2.2.1
theorem dJ2_isEmpty_7 : decode cJ2_isEmpty 7 = .ok (.iconst 1, 1) := DJ2_isEmpty.2.2.2.1
theorem dJ2_isEmpty_8 : decode cJ2_isEmpty 8 = .ok (.goto 4, 3) := DJ2_isEmpty.2.2.2.2.1
theorem dJ2_isEmpty_11 : decode cJ2_isEmpty 11 = .ok (.iconst 0, 1) := DJ2_isEmpty.2.2.2.2.2.1
theorem dJ2_isEmpty_12 : decode cJ2_isEmpty 12 = .ok (.ireturn, 1) := DJ2_isEmpty.2.2.2.2.2.2
theorem dJ8_signum_0 : decode cJ8_signum 0 = .ok (.lload_n 0, 1) := DJ8_signum.1
theorem dJ8_signum_1 : decode cJ8_signum 1 = .ok (.bipush 63, 2) := DJ8_signum.2.1
theorem dJ8_signum_3 : decode cJ8_signum 3 = .ok (.lshr, 1) := DJ8_signum.2.2.1
theorem dJ8_signum_4 : decode cJ8_signum 4 = .ok (.lload_n 0, 1) := DJ8_signum.2.2.2.1
theorem dJ8_signum_5 : decode cJ8_signum 5 = .ok (.lneg, 1) := DJ8_signum.2.2.2.2.1
theorem dJ8_signum_6 : decode cJ8_signum 6 = .ok (.bipush 63, 2) := DJ8_signum.2.2.2.2.2.1
theorem dJ8_signum_8 : decode cJ8_signum 8 = .ok (.lushr, 1) := DJ8_signum.2.2.2.2.2.2.1
theorem dJ8_signum_9 : decode cJ8_signum 9 = .ok (.lor, 1) := DJ8_signum.2.2.2.2.2.2.2.1
theorem dJ8_signum_10 : decode cJ8_signum 10 = .ok (.l2i, 1) := DJ8_signum.2.2.2.2.2.2.2.2.1
theorem dJ8_signum_11 : decode cJ8_signum 11 = .ok (.ireturn, 1) := DJ8_signum.2.2.2.2.2.2.2.2.2
theorem dJ9_max_0 : decode cJ9_max 0 = .ok (.iload_n 0, 1) := DJ9_max.1
theorem dJ9_max_1 : decode cJ9_max 1 = .ok (.iload_n 1, 1) := DJ9_max.2.1
theorem dJ9_max_2 : decode cJ9_max 2 = .ok (.if_icmp .lt 7, 3) := DJ9_max.2.2.1
theorem dJ9_max_5 : decode cJ9_max 5 = .ok (.iload_n 0, 1) := DJ9_max.2.2.2.1
theorem dJ9_max_6 : decode cJ9_max 6 = .ok (.goto 4, 3) := DJ9_max.2.2.2.2.1
theorem dJ9_max_9 : decode cJ9_max 9 = .ok (.iload_n 1, 1) := DJ9_max.2.2.2.2.2.1
theorem dJ9_max_10 : decode cJ9_max 10 = .ok (.ireturn, 1) := DJ9_max.2.2.2.2.2.2
theorem dJ9_min_0 : decode cJ9_min 0 = .ok (.iload_n 0, 1) := DJ9_min.1
theorem dJ9_min_1 : decode cJ9_min 1 = .ok (.iload_n 1, 1) := DJ9_min.2.1
theorem dJ9_min_2 : decode cJ9_min 2 = .ok (.if_icmp .gt 7, 3) := DJ9_min.2.2.1
theorem dJ9_min_5 : decode cJ9_min 5 = .ok (.iload_n 0, 1) := DJ9_min.2.2.2.1
theorem dJ9_min_6 : decode cJ9_min 6 = .ok (.goto 4, 3) := DJ9_min.2.2.2.2.1
theorem dJ9_min_9 : decode cJ9_min 9 = .ok (.iload_n 1, 1) := DJ9_min.2.2.2.2.2.1
theorem dJ9_min_10 : decode cJ9_min 10 = .ok (.ireturn, 1) := DJ9_min.2.2.2.2.2.2
theorem dJ10_checkIndex_0 : decode cJ10_checkIndex 0 = .ok (.iload_n 0, 1) := DJ10_checkIndex.1
theorem dJ10_checkIndex_1 : decode cJ10_checkIndex 1 = .ok (.iload_n 1, 1) := DJ10_checkIndex.2.1
theorem dJ10_checkIndex_2 : decode cJ10_checkIndex 2 = .ok (.aconst_null, 1) := DJ10_checkIndex.2.2.1
theorem dJ10_checkIndex_3 : decode cJ10_checkIndex 3 = .ok (.invokestatic 105, 3) := DJ10_checkIndex.2.2.2.1
theorem dJ10_checkIndex_6 : decode cJ10_checkIndex 6 = .ok (.ireturn, 1) := DJ10_checkIndex.2.2.2.2
theorem dJ11_checkIndex_0 : decode cJ11_checkIndex 0 = .ok (.iload_n 0, 1) := DJ11_checkIndex.1
theorem dJ11_checkIndex_1 : decode cJ11_checkIndex 1 = .ok (.ifCond .lt 8, 3) := DJ11_checkIndex.2.1
theorem dJ11_checkIndex_4 : decode cJ11_checkIndex 4 = .ok (.iload_n 0, 1) := DJ11_checkIndex.2.2.1
theorem dJ11_checkIndex_5 : decode cJ11_checkIndex 5 = .ok (.iload_n 1, 1) := DJ11_checkIndex.2.2.2.1
theorem dJ11_checkIndex_6 : decode cJ11_checkIndex 6 = .ok (.if_icmp .lt 10, 3) := DJ11_checkIndex.2.2.2.2.1
theorem dJ11_checkIndex_9 : decode cJ11_checkIndex 9 = .ok (.aload_n 2, 1) := DJ11_checkIndex.2.2.2.2.2.1
theorem dJ11_checkIndex_10 : decode cJ11_checkIndex 10 = .ok (.iload_n 0, 1) := DJ11_checkIndex.2.2.2.2.2.2.1
theorem dJ11_checkIndex_11 : decode cJ11_checkIndex 11 = .ok (.iload_n 1, 1) := DJ11_checkIndex.2.2.2.2.2.2.2.1
theorem dJ11_checkIndex_12 : decode cJ11_checkIndex 12 = .ok (.invokestatic 95, 3) := DJ11_checkIndex.2.2.2.2.2.2.2.2.1
theorem dJ11_checkIndex_15 : decode cJ11_checkIndex 15 = .ok (.athrow, 1) := DJ11_checkIndex.2.2.2.2.2.2.2.2.2.1
theorem dJ11_checkIndex_16 : decode cJ11_checkIndex 16 = .ok (.iload_n 0, 1) := DJ11_checkIndex.2.2.2.2.2.2.2.2.2.2.1
theorem dJ11_checkIndex_17 : decode cJ11_checkIndex 17 = .ok (.ireturn, 1) := DJ11_checkIndex.2.2.2.2.2.2.2.2.2.2.2
theorem dJ11_checkFromToIndex_0 : decode cJ11_checkFromToIndex 0 = .ok (.iload_n 0, 1) := DJ11_checkFromToIndex.1
theorem dJ11_checkFromToIndex_1 : decode cJ11_checkFromToIndex 1 = .ok (.ifCond .lt 13, 3) := DJ11_checkFromToIndex.2.1
theorem dJ11_checkFromToIndex_4 : decode cJ11_checkFromToIndex 4 = .ok (.iload_n 0, 1) := DJ11_checkFromToIndex.2.2.1
theorem dJ11_checkFromToIndex_5 : decode cJ11_checkFromToIndex 5 = .ok (.iload_n 1, 1) := DJ11_checkFromToIndex.2.2.2.1
theorem dJ11_checkFromToIndex_6 : decode cJ11_checkFromToIndex 6 = .ok (.if_icmp .gt 8, 3) := DJ11_checkFromToIndex.2.2.2.2.1
theorem dJ11_checkFromToIndex_9 : decode cJ11_checkFromToIndex 9 = .ok (.iload_n 1, 1) := DJ11_checkFromToIndex.2.2.2.2.2.1
theorem dJ11_checkFromToIndex_10 : decode cJ11_checkFromToIndex 10 = .ok (.iload_n 2, 1) := DJ11_checkFromToIndex.2.2.2.2.2.2.1
theorem dJ11_checkFromToIndex_11 : decode cJ11_checkFromToIndex 11 = .ok (.if_icmp .le 11, 3) := DJ11_checkFromToIndex.2.2.2.2.2.2.2.1
theorem dJ11_checkFromToIndex_14 : decode cJ11_checkFromToIndex 14 = .ok (.aload_n 3, 1) := DJ11_checkFromToIndex.2.2.2.2.2.2.2.2.1
theorem dJ11_checkFromToIndex_15 : decode cJ11_checkFromToIndex 15 = .ok (.iload_n 0, 1) := DJ11_checkFromToIndex.2.2.2.2.2.2.2.2.2.1
theorem dJ11_checkFromToIndex_16 : decode cJ11_checkFromToIndex 16 = .ok (.iload_n 1, 1) := DJ11_checkFromToIndex.2.2.2.2.2.2.2.2.2.2.1
theorem dJ11_checkFromToIndex_17 : decode cJ11_checkFromToIndex 17 = .ok (.iload_n 2, 1) := DJ11_checkFromToIndex.2.2.2.2.2.2.2.2.2.2.2.1
theorem dJ11_checkFromToIndex_18 : decode cJ11_checkFromToIndex 18 = .ok (.invokestatic 99, 3) := DJ11_checkFromToIndex.2.2.2.2.2.2.2.2.2.2.2.2.1
theorem dJ11_checkFromToIndex_21 : decode cJ11_checkFromToIndex 21 = .ok (.athrow, 1) := DJ11_checkFromToIndex.2.2.2.2.2.2.2.2.2.2.2.2.2.1
theorem dJ11_checkFromToIndex_22 : decode cJ11_checkFromToIndex 22 = .ok (.iload_n 0, 1) := DJ11_checkFromToIndex.2.2.2.2.2.2.2.2.2.2.2.2.2.2.1
theorem dJ11_checkFromToIndex_23 : decode cJ11_checkFromToIndex 23 = .ok (.ireturn, 1) := DJ11_checkFromToIndex.2.2.2.2.2.2.2.2.2.2.2.2.2.2.2
theorem dJ11_checkFromIndexSize_0 : decode cJ11_checkFromIndexSize 0 = .ok (.iload_n 2, 1) := DJ11_checkFromIndexSize.1
theorem dJ11_checkFromIndexSize_1 : decode cJ11_checkFromIndexSize 1 = .ok (.iload_n 0, 1) := DJ11_checkFromIndexSize.2.1
theorem dJ11_checkFromIndexSize_2 : decode cJ11_checkFromIndexSize 2 = .ok (.ior, 1) := DJ11_checkFromIndexSize.2.2.1
theorem dJ11_checkFromIndexSize_3 : decode cJ11_checkFromIndexSize 3 = .ok (.iload_n 1, 1) := DJ11_checkFromIndexSize.2.2.2.1
theorem dJ11_checkFromIndexSize_4 : decode cJ11_checkFromIndexSize 4 = .ok (.ior, 1) := DJ11_checkFromIndexSize.2.2.2.2.1
theorem dJ11_checkFromIndexSize_5 : decode cJ11_checkFromIndexSize 5 = .ok (.ifCond .lt 10, 3) := DJ11_checkFromIndexSize.2.2.2.2.2.1
theorem dJ11_checkFromIndexSize_8 : decode cJ11_checkFromIndexSize 8 = .ok (.iload_n 1, 1) := DJ11_checkFromIndexSize.2.2.2.2.2.2.1
theorem dJ11_checkFromIndexSize_9 : decode cJ11_checkFromIndexSize 9 = .ok (.iload_n 2, 1) := DJ11_checkFromIndexSize.2.2.2.2.2.2.2.1
theorem dJ11_checkFromIndexSize_10 : decode cJ11_checkFromIndexSize 10 = .ok (.iload_n 0, 1) := DJ11_checkFromIndexSize.2.2.2.2.2.2.2.2.1
theorem dJ11_checkFromIndexSize_11 : decode cJ11_checkFromIndexSize 11 = .ok (.isub, 1) := DJ11_checkFromIndexSize.2.2.2.2.2.2.2.2.2.1
theorem dJ11_checkFromIndexSize_12 : decode cJ11_checkFromIndexSize 12 = .ok (.if_icmp .le 11, 3) := DJ11_checkFromIndexSize.2.2.2.2.2.2.2.2.2.2.1
theorem dJ11_checkFromIndexSize_15 : decode cJ11_checkFromIndexSize 15 = .ok (.aload_n 3, 1) := DJ11_checkFromIndexSize.2.2.2.2.2.2.2.2.2.2.2.1
theorem dJ11_checkFromIndexSize_16 : decode cJ11_checkFromIndexSize 16 = .ok (.iload_n 0, 1) := DJ11_checkFromIndexSize.2.2.2.2.2.2.2.2.2.2.2.2.1
theorem dJ11_checkFromIndexSize_17 : decode cJ11_checkFromIndexSize 17 = .ok (.iload_n 1, 1) := DJ11_checkFromIndexSize.2.2.2.2.2.2.2.2.2.2.2.2.2.1
theorem dJ11_checkFromIndexSize_18 : decode cJ11_checkFromIndexSize 18 = .ok (.iload_n 2, 1) := DJ11_checkFromIndexSize.2.2.2.2.2.2.2.2.2.2.2.2.2.2.1
theorem dJ11_checkFromIndexSize_19 : decode cJ11_checkFromIndexSize 19 = .ok (.invokestatic 103, 3) := DJ11_checkFromIndexSize.2.2.2.2.2.2.2.2.2.2.2.2.2.2.2.1
theorem dJ11_checkFromIndexSize_22 : decode cJ11_checkFromIndexSize 22 = .ok (.athrow, 1) := DJ11_checkFromIndexSize.2.2.2.2.2.2.2.2.2.2.2.2.2.2.2.2.1
theorem dJ11_checkFromIndexSize_23 : decode cJ11_checkFromIndexSize 23 = .ok (.iload_n 0, 1) := DJ11_checkFromIndexSize.2.2.2.2.2.2.2.2.2.2.2.2.2.2.2.2.2.1
theorem dJ11_checkFromIndexSize_24 : decode cJ11_checkFromIndexSize 24 = .ok (.ireturn, 1) := DJ11_checkFromIndexSize.2.2.2.2.2.2.2.2.2.2.2.2.2.2.2.2.2.2
theorem dJ12_newLength_0 : decode cJ12_newLength 0 = .ok (.iload_n 0, 1) := DJ12_newLength.1
theorem dJ12_newLength_1 : decode cJ12_newLength 1 = .ok (.iload_n 1, 1) := DJ12_newLength.2.1
theorem dJ12_newLength_2 : decode cJ12_newLength 2 = .ok (.iload_n 2, 1) := DJ12_newLength.2.2.1
theorem dJ12_newLength_3 : decode cJ12_newLength 3 = .ok (.invokestatic 194, 3) := DJ12_newLength.2.2.2.1
theorem dJ12_newLength_6 : decode cJ12_newLength 6 = .ok (.iadd, 1) := DJ12_newLength.2.2.2.2.1
theorem dJ12_newLength_7 : decode cJ12_newLength 7 = .ok (.istore_n 3, 1) := DJ12_newLength.2.2.2.2.2.1
theorem dJ12_newLength_8 : decode cJ12_newLength 8 = .ok (.iconst 0, 1) := DJ12_newLength.2.2.2.2.2.2.1
theorem dJ12_newLength_9 : decode cJ12_newLength 9 = .ok (.iload_n 3, 1) := DJ12_newLength.2.2.2.2.2.2.2.1
theorem dJ12_newLength_10 : decode cJ12_newLength 10 = .ok (.if_icmp .ge 11, 3) := DJ12_newLength.2.2.2.2.2.2.2.2.1
theorem dJ12_newLength_13 : decode cJ12_newLength 13 = .ok (.iload_n 3, 1) := DJ12_newLength.2.2.2.2.2.2.2.2.2.1
theorem dJ12_newLength_14 : decode cJ12_newLength 14 = .ok (.ldc 200, 2) := DJ12_newLength.2.2.2.2.2.2.2.2.2.2.1
theorem dJ12_newLength_16 : decode cJ12_newLength 16 = .ok (.if_icmp .gt 5, 3) := DJ12_newLength.2.2.2.2.2.2.2.2.2.2.2.1
theorem dJ12_newLength_19 : decode cJ12_newLength 19 = .ok (.iload_n 3, 1) := DJ12_newLength.2.2.2.2.2.2.2.2.2.2.2.2.1
theorem dJ12_newLength_20 : decode cJ12_newLength 20 = .ok (.ireturn, 1) := DJ12_newLength.2.2.2.2.2.2.2.2.2.2.2.2.2.1
theorem dJ12_newLength_21 : decode cJ12_newLength 21 = .ok (.iload_n 0, 1) := DJ12_newLength.2.2.2.2.2.2.2.2.2.2.2.2.2.2.1
theorem dJ12_newLength_22 : decode cJ12_newLength 22 = .ok (.iload_n 1, 1) := DJ12_newLength.2.2.2.2.2.2.2.2.2.2.2.2.2.2.2.1
theorem dJ12_newLength_23 : decode cJ12_newLength 23 = .ok (.invokestatic 201, 3) := DJ12_newLength.2.2.2.2.2.2.2.2.2.2.2.2.2.2.2.2.1
theorem dJ12_newLength_26 : decode cJ12_newLength 26 = .ok (.ireturn, 1) := DJ12_newLength.2.2.2.2.2.2.2.2.2.2.2.2.2.2.2.2.2
theorem dJ12_hugeLength_0 : decode cJ12_hugeLength 0 = .ok (.iload_n 0, 1) := DJ12_hugeLength.1
theorem dJ12_hugeLength_1 : decode cJ12_hugeLength 1 = .ok (.iload_n 1, 1) := DJ12_hugeLength.2.1
theorem dJ12_hugeLength_2 : decode cJ12_hugeLength 2 = .ok (.iadd, 1) := DJ12_hugeLength.2.2.1
theorem dJ12_hugeLength_3 : decode cJ12_hugeLength 3 = .ok (.istore_n 2, 1) := DJ12_hugeLength.2.2.2.1
theorem dJ12_hugeLength_4 : decode cJ12_hugeLength 4 = .ok (.iload_n 2, 1) := DJ12_hugeLength.2.2.2.2.1
theorem dJ12_hugeLength_5 : decode cJ12_hugeLength 5 = .ok (.ifCond .ge 44, 3) := DJ12_hugeLength.2.2.2.2.2.1
theorem dJ12_hugeLength_8 : decode cJ12_hugeLength 8 = .ok (.new 204, 3) := DJ12_hugeLength.2.2.2.2.2.2.1
theorem dJ12_hugeLength_11 : decode cJ12_hugeLength 11 = .ok (.dup, 1) := DJ12_hugeLength.2.2.2.2.2.2.2.1
theorem dJ12_hugeLength_12 : decode cJ12_hugeLength 12 = .ok (.new 89, 3) := DJ12_hugeLength.2.2.2.2.2.2.2.2.1
theorem dJ12_hugeLength_15 : decode cJ12_hugeLength 15 = .ok (.dup, 1) := DJ12_hugeLength.2.2.2.2.2.2.2.2.2.1
theorem dJ12_hugeLength_16 : decode cJ12_hugeLength 16 = .ok (.invokespecial 91, 3) := DJ12_hugeLength.2.2.2.2.2.2.2.2.2.2.1
theorem dJ12_hugeLength_19 : decode cJ12_hugeLength 19 = .ok (.ldc 206, 2) := DJ12_hugeLength.2.2.2.2.2.2.2.2.2.2.2.1
theorem dJ12_hugeLength_21 : decode cJ12_hugeLength 21 = .ok (.invokevirtual 94, 3) := DJ12_hugeLength.2.2.2.2.2.2.2.2.2.2.2.2.1
theorem dJ12_hugeLength_24 : decode cJ12_hugeLength 24 = .ok (.iload_n 0, 1) := DJ12_hugeLength.2.2.2.2.2.2.2.2.2.2.2.2.2.1
theorem dJ12_hugeLength_25 : decode cJ12_hugeLength 25 = .ok (.invokevirtual 98, 3) := DJ12_hugeLength.2.2.2.2.2.2.2.2.2.2.2.2.2.2.1
theorem dJ12_hugeLength_28 : decode cJ12_hugeLength 28 = .ok (.ldc 208, 2) := DJ12_hugeLength.2.2.2.2.2.2.2.2.2.2.2.2.2.2.2.1
theorem dJ12_hugeLength_30 : decode cJ12_hugeLength 30 = .ok (.invokevirtual 94, 3) := DJ12_hugeLength.2.2.2.2.2.2.2.2.2.2.2.2.2.2.2.2.1
theorem dJ12_hugeLength_33 : decode cJ12_hugeLength 33 = .ok (.iload_n 1, 1) := DJ12_hugeLength.2.2.2.2.2.2.2.2.2.2.2.2.2.2.2.2.2.1
theorem dJ12_hugeLength_34 : decode cJ12_hugeLength 34 = .ok (.invokevirtual 98, 3) := DJ12_hugeLength.2.2.2.2.2.2.2.2.2.2.2.2.2.2.2.2.2.2.1
theorem dJ12_hugeLength_37 : decode cJ12_hugeLength 37 = .ok (.ldc 210, 2) := DJ12_hugeLength.2.2.2.2.2.2.2.2.2.2.2.2.2.2.2.2.2.2.2.1
theorem dJ12_hugeLength_39 : decode cJ12_hugeLength 39 = .ok (.invokevirtual 94, 3) := DJ12_hugeLength.2.2.2.2.2.2.2.2.2.2.2.2.2.2.2.2.2.2.2.2.1
theorem dJ12_hugeLength_42 : decode cJ12_hugeLength 42 = .ok (.invokevirtual 101, 3) := DJ12_hugeLength.2.2.2.2.2.2.2.2.2.2.2.2.2.2.2.2.2.2.2.2.2.1
theorem dJ12_hugeLength_45 : decode cJ12_hugeLength 45 = .ok (.invokespecial 212, 3) := DJ12_hugeLength.2.2.2.2.2.2.2.2.2.2.2.2.2.2.2.2.2.2.2.2.2.2.1
theorem dJ12_hugeLength_48 : decode cJ12_hugeLength 48 = .ok (.athrow, 1) := DJ12_hugeLength.2.2.2.2.2.2.2.2.2.2.2.2.2.2.2.2.2.2.2.2.2.2.2.1
theorem dJ12_hugeLength_49 : decode cJ12_hugeLength 49 = .ok (.iload_n 2, 1) := DJ12_hugeLength.2.2.2.2.2.2.2.2.2.2.2.2.2.2.2.2.2.2.2.2.2.2.2.2.1
theorem dJ12_hugeLength_50 : decode cJ12_hugeLength 50 = .ok (.ldc 200, 2) := DJ12_hugeLength.2.2.2.2.2.2.2.2.2.2.2.2.2.2.2.2.2.2.2.2.2.2.2.2.2.1
theorem dJ12_hugeLength_52 : decode cJ12_hugeLength 52 = .ok (.if_icmp .gt 6, 3) := DJ12_hugeLength.2.2.2.2.2.2.2.2.2.2.2.2.2.2.2.2.2.2.2.2.2.2.2.2.2.2.1
theorem dJ12_hugeLength_55 : decode cJ12_hugeLength 55 = .ok (.ldc 200, 2) := DJ12_hugeLength.2.2.2.2.2.2.2.2.2.2.2.2.2.2.2.2.2.2.2.2.2.2.2.2.2.2.2.1
theorem dJ12_hugeLength_57 : decode cJ12_hugeLength 57 = .ok (.ireturn, 1) := DJ12_hugeLength.2.2.2.2.2.2.2.2.2.2.2.2.2.2.2.2.2.2.2.2.2.2.2.2.2.2.2.2.1
theorem dJ12_hugeLength_58 : decode cJ12_hugeLength 58 = .ok (.iload_n 2, 1) := DJ12_hugeLength.2.2.2.2.2.2.2.2.2.2.2.2.2.2.2.2.2.2.2.2.2.2.2.2.2.2.2.2.2.1
theorem dJ12_hugeLength_59 : decode cJ12_hugeLength 59 = .ok (.ireturn, 1) := DJ12_hugeLength.2.2.2.2.2.2.2.2.2.2.2.2.2.2.2.2.2.2.2.2.2.2.2.2.2.2.2.2.2.2
theorem dJ13_copyOf_0 : decode cJ13_copyOf 0 = .ok (.aload_n 0, 1) := DJ13_copyOf.1
theorem dJ13_copyOf_1 : decode cJ13_copyOf 1 = .ok (.iload_n 1, 1) := DJ13_copyOf.2.1
theorem dJ13_copyOf_2 : decode cJ13_copyOf 2 = .ok (.aload_n 0, 1) := DJ13_copyOf.2.2.1
theorem dJ13_copyOf_3 : decode cJ13_copyOf 3 = .ok (.invokevirtual 86, 3) := DJ13_copyOf.2.2.2.1
theorem dJ13_copyOf_6 : decode cJ13_copyOf 6 = .ok (.invokestatic 300, 3) := DJ13_copyOf.2.2.2.2.1
theorem dJ13_copyOf_9 : decode cJ13_copyOf 9 = .ok (.areturn, 1) := DJ13_copyOf.2.2.2.2.2
theorem dJ13_copyOf_2_0 : decode cJ13_copyOf_2 0 = .ok (.aload_n 2, 1) := DJ13_copyOf_2.1
theorem dJ13_copyOf_2_1 : decode cJ13_copyOf_2 1 = .ok (.ldc 110, 2) := DJ13_copyOf_2.2.1
theorem dJ13_copyOf_2_3 : decode cJ13_copyOf_2 3 = .ok (.if_acmp .ne 10, 3) := DJ13_copyOf_2.2.2.1
theorem dJ13_copyOf_2_6 : decode cJ13_copyOf_2 6 = .ok (.iload_n 1, 1) := DJ13_copyOf_2.2.2.2.1
theorem dJ13_copyOf_2_7 : decode cJ13_copyOf_2 7 = .ok (.anewarray 2, 3) := DJ13_copyOf_2.2.2.2.2.1
theorem dJ13_copyOf_2_10 : decode cJ13_copyOf_2 10 = .ok (.goto 14, 3) := DJ13_copyOf_2.2.2.2.2.2.1
theorem dJ13_copyOf_2_13 : decode cJ13_copyOf_2 13 = .ok (.aload_n 2, 1) := DJ13_copyOf_2.2.2.2.2.2.2.1
theorem dJ13_copyOf_2_14 : decode cJ13_copyOf_2 14 = .ok (.invokevirtual 90, 3) := DJ13_copyOf_2.2.2.2.2.2.2.2.1
theorem dJ13_copyOf_2_17 : decode cJ13_copyOf_2 17 = .ok (.iload_n 1, 1) := DJ13_copyOf_2.2.2.2.2.2.2.2.2.1
theorem dJ13_copyOf_2_18 : decode cJ13_copyOf_2 18 = .ok (.invokestatic 95, 3) := DJ13_copyOf_2.2.2.2.2.2.2.2.2.2.1
theorem dJ13_copyOf_2_21 : decode cJ13_copyOf_2 21 = .ok (.checkcast 110, 3) := DJ13_copyOf_2.2.2.2.2.2.2.2.2.2.2.1
theorem dJ13_copyOf_2_24 : decode cJ13_copyOf_2 24 = .ok (.astore_n 3, 1) := DJ13_copyOf_2.2.2.2.2.2.2.2.2.2.2.2.1
theorem dJ13_copyOf_2_25 : decode cJ13_copyOf_2 25 = .ok (.aload_n 0, 1) := DJ13_copyOf_2.2.2.2.2.2.2.2.2.2.2.2.2.1
theorem dJ13_copyOf_2_26 : decode cJ13_copyOf_2 26 = .ok (.iconst 0, 1) := DJ13_copyOf_2.2.2.2.2.2.2.2.2.2.2.2.2.2.1
theorem dJ13_copyOf_2_27 : decode cJ13_copyOf_2 27 = .ok (.aload_n 3, 1) := DJ13_copyOf_2.2.2.2.2.2.2.2.2.2.2.2.2.2.2.1
theorem dJ13_copyOf_2_28 : decode cJ13_copyOf_2 28 = .ok (.iconst 0, 1) := DJ13_copyOf_2.2.2.2.2.2.2.2.2.2.2.2.2.2.2.2.1
theorem dJ13_copyOf_2_29 : decode cJ13_copyOf_2 29 = .ok (.aload_n 0, 1) := DJ13_copyOf_2.2.2.2.2.2.2.2.2.2.2.2.2.2.2.2.2.1
theorem dJ13_copyOf_2_30 : decode cJ13_copyOf_2 30 = .ok (.arraylength, 1) := DJ13_copyOf_2.2.2.2.2.2.2.2.2.2.2.2.2.2.2.2.2.2.1
theorem dJ13_copyOf_2_31 : decode cJ13_copyOf_2 31 = .ok (.iload_n 1, 1) := DJ13_copyOf_2.2.2.2.2.2.2.2.2.2.2.2.2.2.2.2.2.2.2.1
theorem dJ13_copyOf_2_32 : decode cJ13_copyOf_2 32 = .ok (.invokestatic 304, 3) := DJ13_copyOf_2.2.2.2.2.2.2.2.2.2.2.2.2.2.2.2.2.2.2.2.1
theorem dJ13_copyOf_2_35 : decode cJ13_copyOf_2 35 = .ok (.invokestatic 150, 3) := DJ13_copyOf_2.2.2.2.2.2.2.2.2.2.2.2.2.2.2.2.2.2.2.2.2.1
theorem dJ13_copyOf_2_38 : decode cJ13_copyOf_2 38 = .ok (.aload_n 3, 1) := DJ13_copyOf_2.2.2.2.2.2.2.2.2.2.2.2.2.2.2.2.2.2.2.2.2.2.1
theorem dJ13_copyOf_2_39 : decode cJ13_copyOf_2 39 = .ok (.areturn, 1) := DJ13_copyOf_2.2.2.2.2.2.2.2.2.2.2.2.2.2.2.2.2.2.2.2.2.2.2
theorem dJ13_copyOf_3_0 : decode cJ13_copyOf_3 0 = .ok (.iload_n 1, 1) := DJ13_copyOf_3.1
theorem dJ13_copyOf_3_1 : decode cJ13_copyOf_3 1 = .ok (.aload_n 0, 1) := DJ13_copyOf_3.2.1
theorem dJ13_copyOf_3_2 : decode cJ13_copyOf_3 2 = .ok (.arraylength, 1) := DJ13_copyOf_3.2.2.1
theorem dJ13_copyOf_3_3 : decode cJ13_copyOf_3 3 = .ok (.if_icmp .ne 11, 3) := DJ13_copyOf_3.2.2.2.1
theorem dJ13_copyOf_3_6 : decode cJ13_copyOf_3 6 = .ok (.aload_n 0, 1) := DJ13_copyOf_3.2.2.2.2.1
theorem dJ13_copyOf_3_7 : decode cJ13_copyOf_3 7 = .ok (.invokevirtual 310, 3) := DJ13_copyOf_3.2.2.2.2.2.1
theorem dJ13_copyOf_3_10 : decode cJ13_copyOf_3 10 = .ok (.checkcast 311, 3) := DJ13_copyOf_3.2.2.2.2.2.2.1
theorem dJ13_copyOf_3_13 : decode cJ13_copyOf_3 13 = .ok (.areturn, 1) := DJ13_copyOf_3.2.2.2.2.2.2.2.1
theorem dJ13_copyOf_3_14 : decode cJ13_copyOf_3 14 = .ok (.iload_n 1, 1) := DJ13_copyOf_3.2.2.2.2.2.2.2.2.1
theorem dJ13_copyOf_3_15 : decode cJ13_copyOf_3 15 = .ok (.newarray .byte, 2) := DJ13_copyOf_3.2.2.2.2.2.2.2.2.2.1
theorem dJ13_copyOf_3_17 : decode cJ13_copyOf_3 17 = .ok (.astore_n 2, 1) := DJ13_copyOf_3.2.2.2.2.2.2.2.2.2.2.1
theorem dJ13_copyOf_3_18 : decode cJ13_copyOf_3 18 = .ok (.aload_n 0, 1) := DJ13_copyOf_3.2.2.2.2.2.2.2.2.2.2.2.1
theorem dJ13_copyOf_3_19 : decode cJ13_copyOf_3 19 = .ok (.iconst 0, 1) := DJ13_copyOf_3.2.2.2.2.2.2.2.2.2.2.2.2.1
theorem dJ13_copyOf_3_20 : decode cJ13_copyOf_3 20 = .ok (.aload_n 2, 1) := DJ13_copyOf_3.2.2.2.2.2.2.2.2.2.2.2.2.2.1
theorem dJ13_copyOf_3_21 : decode cJ13_copyOf_3 21 = .ok (.iconst 0, 1) := DJ13_copyOf_3.2.2.2.2.2.2.2.2.2.2.2.2.2.2.1
theorem dJ13_copyOf_3_22 : decode cJ13_copyOf_3 22 = .ok (.aload_n 0, 1) := DJ13_copyOf_3.2.2.2.2.2.2.2.2.2.2.2.2.2.2.2.1
theorem dJ13_copyOf_3_23 : decode cJ13_copyOf_3 23 = .ok (.arraylength, 1) := DJ13_copyOf_3.2.2.2.2.2.2.2.2.2.2.2.2.2.2.2.2.1
theorem dJ13_copyOf_3_24 : decode cJ13_copyOf_3 24 = .ok (.iload_n 1, 1) := DJ13_copyOf_3.2.2.2.2.2.2.2.2.2.2.2.2.2.2.2.2.2.1
theorem dJ13_copyOf_3_25 : decode cJ13_copyOf_3 25 = .ok (.invokestatic 304, 3) := DJ13_copyOf_3.2.2.2.2.2.2.2.2.2.2.2.2.2.2.2.2.2.2.1
theorem dJ13_copyOf_3_28 : decode cJ13_copyOf_3 28 = .ok (.invokestatic 150, 3) := DJ13_copyOf_3.2.2.2.2.2.2.2.2.2.2.2.2.2.2.2.2.2.2.2.1
theorem dJ13_copyOf_3_31 : decode cJ13_copyOf_3 31 = .ok (.aload_n 2, 1) := DJ13_copyOf_3.2.2.2.2.2.2.2.2.2.2.2.2.2.2.2.2.2.2.2.2.1
theorem dJ13_copyOf_3_32 : decode cJ13_copyOf_3 32 = .ok (.areturn, 1) := DJ13_copyOf_3.2.2.2.2.2.2.2.2.2.2.2.2.2.2.2.2.2.2.2.2.2
theorem dJ13_copyOfRange_0 : decode cJ13_copyOfRange 0 = .ok (.iload_n 1, 1) := DJ13_copyOfRange.1
theorem dJ13_copyOfRange_1 : decode cJ13_copyOfRange 1 = .ok (.ifCond .ne 9, 3) := DJ13_copyOfRange.2.1
theorem dJ13_copyOfRange_4 : decode cJ13_copyOfRange 4 = .ok (.iload_n 2, 1) := DJ13_copyOfRange.2.2.1
theorem dJ13_copyOfRange_5 : decode cJ13_copyOfRange 5 = .ok (.aload_n 0, 1) := DJ13_copyOfRange.2.2.2.1
theorem dJ13_copyOfRange_6 : decode cJ13_copyOfRange 6 = .ok (.arraylength, 1) := DJ13_copyOfRange.2.2.2.2.1
theorem dJ13_copyOfRange_7 : decode cJ13_copyOfRange 7 = .ok (.if_icmp .eq 10, 3) := DJ13_copyOfRange.2.2.2.2.2.1
theorem dJ13_copyOfRange_10 : decode cJ13_copyOfRange 10 = .ok (.aload_n 0, 1) := DJ13_copyOfRange.2.2.2.2.2.2.1
theorem dJ13_copyOfRange_11 : decode cJ13_copyOfRange 11 = .ok (.iload_n 1, 1) := DJ13_copyOfRange.2.2.2.2.2.2.2.1
theorem dJ13_copyOfRange_12 : decode cJ13_copyOfRange 12 = .ok (.iload_n 2, 1) := DJ13_copyOfRange.2.2.2.2.2.2.2.2.1
theorem dJ13_copyOfRange_13 : decode cJ13_copyOfRange 13 = .ok (.invokestatic 339, 3) := DJ13_copyOfRange.2.2.2.2.2.2.2.2.2.1
theorem dJ13_copyOfRange_16 : decode cJ13_copyOfRange 16 = .ok (.areturn, 1) := DJ13_copyOfRange.2.2.2.2.2.2.2.2.2.2.1
theorem dJ13_copyOfRange_17 : decode cJ13_copyOfRange 17 = .ok (.aload_n 0, 1) := DJ13_copyOfRange.2.2.2.2.2.2.2.2.2.2.2.1
theorem dJ13_copyOfRange_18 : decode cJ13_copyOfRange 18 = .ok (.invokevirtual 310, 3) := DJ13_copyOfRange.2.2.2.2.2.2.2.2.2.2.2.2.1
theorem dJ13_copyOfRange_21 : decode cJ13_copyOfRange 21 = .ok (.checkcast 311, 3) := DJ13_copyOfRange.2.2.2.2.2.2.2.2.2.2.2.2.2.1
theorem dJ13_copyOfRange_24 : decode cJ13_copyOfRange 24 = .ok (.areturn, 1) := DJ13_copyOfRange.2.2.2.2.2.2.2.2.2.2.2.2.2.2
theorem dJ13_copyOfRangeByte_0 : decode cJ13_copyOfRangeByte 0 = .ok (.iload_n 1, 1) := DJ13_copyOfRangeByte.1
theorem dJ13_copyOfRangeByte_1 : decode cJ13_copyOfRangeByte 1 = .ok (.iload_n 2, 1) := DJ13_copyOfRangeByte.2.1
theorem dJ13_copyOfRangeByte_2 : decode cJ13_copyOfRangeByte 2 = .ok (.invokestatic 343, 3) := DJ13_copyOfRangeByte.2.2.1
theorem dJ13_copyOfRangeByte_5 : decode cJ13_copyOfRangeByte 5 = .ok (.iload_n 2, 1) := DJ13_copyOfRangeByte.2.2.2.1
theorem dJ13_copyOfRangeByte_6 : decode cJ13_copyOfRangeByte 6 = .ok (.iload_n 1, 1) := DJ13_copyOfRangeByte.2.2.2.2.1
theorem dJ13_copyOfRangeByte_7 : decode cJ13_copyOfRangeByte 7 = .ok (.isub, 1) := DJ13_copyOfRangeByte.2.2.2.2.2.1
theorem dJ13_copyOfRangeByte_8 : decode cJ13_copyOfRangeByte 8 = .ok (.istore_n 3, 1) := DJ13_copyOfRangeByte.2.2.2.2.2.2.1
theorem dJ13_copyOfRangeByte_9 : decode cJ13_copyOfRangeByte 9 = .ok (.iload_n 3, 1) := DJ13_copyOfRangeByte.2.2.2.2.2.2.2.1
theorem dJ13_copyOfRangeByte_10 : decode cJ13_copyOfRangeByte 10 = .ok (.newarray .byte, 2) := DJ13_copyOfRangeByte.2.2.2.2.2.2.2.2.1
theorem dJ13_copyOfRangeByte_12 : decode cJ13_copyOfRangeByte 12 = .ok (.astore 4, 2) := DJ13_copyOfRangeByte.2.2.2.2.2.2.2.2.2.1
theorem dJ13_copyOfRangeByte_14 : decode cJ13_copyOfRangeByte 14 = .ok (.aload_n 0, 1) := DJ13_copyOfRangeByte.2.2.2.2.2.2.2.2.2.2.1
theorem dJ13_copyOfRangeByte_15 : decode cJ13_copyOfRangeByte 15 = .ok (.iload_n 1, 1) := DJ13_copyOfRangeByte.2.2.2.2.2.2.2.2.2.2.2.1
theorem dJ13_copyOfRangeByte_16 : decode cJ13_copyOfRangeByte 16 = .ok (.aload 4, 2) := DJ13_copyOfRangeByte.2.2.2.2.2.2.2.2.2.2.2.2.1
theorem dJ13_copyOfRangeByte_18 : decode cJ13_copyOfRangeByte 18 = .ok (.iconst 0, 1) := DJ13_copyOfRangeByte.2.2.2.2.2.2.2.2.2.2.2.2.2.1
theorem dJ13_copyOfRangeByte_19 : decode cJ13_copyOfRangeByte 19 = .ok (.aload_n 0, 1) := DJ13_copyOfRangeByte.2.2.2.2.2.2.2.2.2.2.2.2.2.2.1
theorem dJ13_copyOfRangeByte_20 : decode cJ13_copyOfRangeByte 20 = .ok (.arraylength, 1) := DJ13_copyOfRangeByte.2.2.2.2.2.2.2.2.2.2.2.2.2.2.2.1
theorem dJ13_copyOfRangeByte_21 : decode cJ13_copyOfRangeByte 21 = .ok (.iload_n 1, 1) := DJ13_copyOfRangeByte.2.2.2.2.2.2.2.2.2.2.2.2.2.2.2.2.1
theorem dJ13_copyOfRangeByte_22 : decode cJ13_copyOfRangeByte 22 = .ok (.isub, 1) := DJ13_copyOfRangeByte.2.2.2.2.2.2.2.2.2.2.2.2.2.2.2.2.2.1
theorem dJ13_copyOfRangeByte_23 : decode cJ13_copyOfRangeByte 23 = .ok (.iload_n 3, 1) := DJ13_copyOfRangeByte.2.2.2.2.2.2.2.2.2.2.2.2.2.2.2.2.2.2.1
theorem dJ13_copyOfRangeByte_24 : decode cJ13_copyOfRangeByte 24 = .ok (.invokestatic 304, 3) := DJ13_copyOfRangeByte.2.2.2.2.2.2.2.2.2.2.2.2.2.2.2.2.2.2.2.1
theorem dJ13_copyOfRangeByte_27 : decode cJ13_copyOfRangeByte 27 = .ok (.invokestatic 150, 3) := DJ13_copyOfRangeByte.2.2.2.2.2.2.2.2.2.2.2.2.2.2.2.2.2.2.2.2.1
theorem dJ13_copyOfRangeByte_30 : decode cJ13_copyOfRangeByte 30 = .ok (.aload 4, 2) := DJ13_copyOfRangeByte.2.2.2.2.2.2.2.2.2.2.2.2.2.2.2.2.2.2.2.2.2.1
theorem dJ13_copyOfRangeByte_32 : decode cJ13_copyOfRangeByte 32 = .ok (.areturn, 1) := DJ13_copyOfRangeByte.2.2.2.2.2.2.2.2.2.2.2.2.2.2.2.2.2.2.2.2.2.2
theorem dJ20_compare_0 : decode cJ20_compare 0 = .ok (.iload_n 0, 1) := DJ20_compare.1
theorem dJ20_compare_1 : decode cJ20_compare 1 = .ok (.iload_n 1, 1) := DJ20_compare.2.1
theorem dJ20_compare_2 : decode cJ20_compare 2 = .ok (.if_icmp .ge 7, 3) := DJ20_compare.2.2.1
theorem dJ20_compare_5 : decode cJ20_compare 5 = .ok (.iconst (-1), 1) := DJ20_compare.2.2.2.1
theorem dJ20_compare_6 : decode cJ20_compare 6 = .ok (.goto 13, 3) := DJ20_compare.2.2.2.2.1
theorem dJ20_compare_9 : decode cJ20_compare 9 = .ok (.iload_n 0, 1) := DJ20_compare.2.2.2.2.2.1
theorem dJ20_compare_10 : decode cJ20_compare 10 = .ok (.iload_n 1, 1) := DJ20_compare.2.2.2.2.2.2.1
theorem dJ20_compare_11 : decode cJ20_compare 11 = .ok (.if_icmp .ne 7, 3) := DJ20_compare.2.2.2.2.2.2.2.1
theorem dJ20_compare_14 : decode cJ20_compare 14 = .ok (.iconst 0, 1) := DJ20_compare.2.2.2.2.2.2.2.2.1
theorem dJ20_compare_15 : decode cJ20_compare 15 = .ok (.goto 4, 3) := DJ20_compare.2.2.2.2.2.2.2.2.2.1
theorem dJ20_compare_18 : decode cJ20_compare 18 = .ok (.iconst 1, 1) := DJ20_compare.2.2.2.2.2.2.2.2.2.2.1
theorem dJ20_compare_19 : decode cJ20_compare 19 = .ok (.ireturn, 1) := DJ20_compare.2.2.2.2.2.2.2.2.2.2.2
theorem dX0_add_0 : decode cX0_add 0 = .ok (.aload 5, 2) := DX0_add.1
theorem dX0_add_2 : decode cX0_add 2 = .ok (.iconst 0, 1) := DX0_add.2.1
theorem dX0_add_3 : decode cX0_add 3 = .ok (.aload_n 0, 1) := DX0_add.2.2.1
theorem dX0_add_4 : decode cX0_add 4 = .ok (.iload_n 1, 1) := DX0_add.2.2.2.1
theorem dX0_add_5 : decode cX0_add 5 = .ok (.iload_n 2, 1) := DX0_add.2.2.2.2.1
theorem dX0_add_6 : decode cX0_add 6 = .ok (.iload_n 3, 1) := DX0_add.2.2.2.2.2.1
theorem dX0_add_7 : decode cX0_add 7 = .ok (.iload 4, 2) := DX0_add.2.2.2.2.2.2.1
theorem dX0_add_9 : decode cX0_add 9 = .ok (.invokevirtual 7, 3) := DX0_add.2.2.2.2.2.2.2.1
theorem dX0_add_12 : decode cX0_add 12 = .ok (.i2l, 1) := DX0_add.2.2.2.2.2.2.2.2.1
theorem dX0_add_13 : decode cX0_add 13 = .ok (.lastore, 1) := DX0_add.2.2.2.2.2.2.2.2.2.1
theorem dX0_add_14 : decode cX0_add 14 = .ok (.goto 11, 3) := DX0_add.2.2.2.2.2.2.2.2.2.2.1
theorem dX0_add_17 : decode cX0_add 17 = .ok (.astore 6, 2) := DX0_add.2.2.2.2.2.2.2.2.2.2.2.1
theorem dX0_add_19 : decode cX0_add 19 = .ok (.iconst 1, 1) := DX0_add.2.2.2.2.2.2.2.2.2.2.2.2.1
theorem dX0_add_20 : decode cX0_add 20 = .ok (.ireturn, 1) := DX0_add.2.2.2.2.2.2.2.2.2.2.2.2.2.1
theorem dX0_add_21 : decode cX0_add 21 = .ok (.astore 6, 2) := DX0_add.2.2.2.2.2.2.2.2.2.2.2.2.2.2.1
theorem dX0_add_23 : decode cX0_add 23 = .ok (.iconst 2, 1) := DX0_add.2.2.2.2.2.2.2.2.2.2.2.2.2.2.2.1
theorem dX0_add_24 : decode cX0_add 24 = .ok (.ireturn, 1) := DX0_add.2.2.2.2.2.2.2.2.2.2.2.2.2.2.2.2.1
theorem dX0_add_25 : decode cX0_add 25 = .ok (.iconst 0, 1) := DX0_add.2.2.2.2.2.2.2.2.2.2.2.2.2.2.2.2.2.1
theorem dX0_add_26 : decode cX0_add 26 = .ok (.ireturn, 1) := DX0_add.2.2.2.2.2.2.2.2.2.2.2.2.2.2.2.2.2.2
theorem dX0_begins_0 : decode cX0_begins 0 = .ok (.aload_n 3, 1) := DX0_begins.1
theorem dX0_begins_1 : decode cX0_begins 1 = .ok (.iconst 0, 1) := DX0_begins.2.1
theorem dX0_begins_2 : decode cX0_begins 2 = .ok (.aload_n 0, 1) := DX0_begins.2.2.1
theorem dX0_begins_3 : decode cX0_begins 3 = .ok (.iload_n 1, 1) := DX0_begins.2.2.2.1
theorem dX0_begins_4 : decode cX0_begins 4 = .ok (.iload_n 2, 1) := DX0_begins.2.2.2.2.1
theorem dX0_begins_5 : decode cX0_begins 5 = .ok (.invokevirtual 17, 3) := DX0_begins.2.2.2.2.2.1
theorem dX0_begins_8 : decode cX0_begins 8 = .ok (.i2l, 1) := DX0_begins.2.2.2.2.2.2.1
theorem dX0_begins_9 : decode cX0_begins 9 = .ok (.lastore, 1) := DX0_begins.2.2.2.2.2.2.2.1
theorem dX0_begins_10 : decode cX0_begins 10 = .ok (.goto 7, 3) := DX0_begins.2.2.2.2.2.2.2.2.1
theorem dX0_begins_13 : decode cX0_begins 13 = .ok (.astore 4, 2) := DX0_begins.2.2.2.2.2.2.2.2.2.1
theorem dX0_begins_15 : decode cX0_begins 15 = .ok (.iconst 1, 1) := DX0_begins.2.2.2.2.2.2.2.2.2.2.1
theorem dX0_begins_16 : decode cX0_begins 16 = .ok (.ireturn, 1) := DX0_begins.2.2.2.2.2.2.2.2.2.2.2.1
theorem dX0_begins_17 : decode cX0_begins 17 = .ok (.iconst 0, 1) := DX0_begins.2.2.2.2.2.2.2.2.2.2.2.2.1
theorem dX0_begins_18 : decode cX0_begins 18 = .ok (.ireturn, 1) := DX0_begins.2.2.2.2.2.2.2.2.2.2.2.2.2
theorem dX0_next_0 : decode cX0_next 0 = .ok (.aload_n 2, 1) := DX0_next.1
theorem dX0_next_1 : decode cX0_next 1 = .ok (.iconst 0, 1) := DX0_next.2.1
theorem dX0_next_2 : decode cX0_next 2 = .ok (.aload_n 0, 1) := DX0_next.2.2.1
theorem dX0_next_3 : decode cX0_next 3 = .ok (.iload_n 1, 1) := DX0_next.2.2.2.1
theorem dX0_next_4 : decode cX0_next 4 = .ok (.invokevirtual 23, 3) := DX0_next.2.2.2.2.1
theorem dX0_next_7 : decode cX0_next 7 = .ok (.i2l, 1) := DX0_next.2.2.2.2.2.1
theorem dX0_next_8 : decode cX0_next 8 = .ok (.lastore, 1) := DX0_next.2.2.2.2.2.2.1
theorem dX0_next_9 : decode cX0_next 9 = .ok (.goto 6, 3) := DX0_next.2.2.2.2.2.2.2.1
theorem dX0_next_12 : decode cX0_next 12 = .ok (.astore_n 3, 1) := DX0_next.2.2.2.2.2.2.2.2.1
theorem dX0_next_13 : decode cX0_next 13 = .ok (.iconst 1, 1) := DX0_next.2.2.2.2.2.2.2.2.2.1
theorem dX0_next_14 : decode cX0_next 14 = .ok (.ireturn, 1) := DX0_next.2.2.2.2.2.2.2.2.2.2.1
theorem dX0_next_15 : decode cX0_next 15 = .ok (.iconst 0, 1) := DX0_next.2.2.2.2.2.2.2.2.2.2.2.1
theorem dX0_next_16 : decode cX0_next 16 = .ok (.ireturn, 1) := DX0_next.2.2.2.2.2.2.2.2.2.2.2.2
theorem dX0_face_0 : decode cX0_face 0 = .ok (.aload_n 2, 1) := DX0_face.1
theorem dX0_face_1 : decode cX0_face 1 = .ok (.iconst 0, 1) := DX0_face.2.1
theorem dX0_face_2 : decode cX0_face 2 = .ok (.aload_n 0, 1) := DX0_face.2.2.1
theorem dX0_face_3 : decode cX0_face 3 = .ok (.iload_n 1, 1) := DX0_face.2.2.2.1
theorem dX0_face_4 : decode cX0_face 4 = .ok (.invokevirtual 27, 3) := DX0_face.2.2.2.2.1
theorem dX0_face_7 : decode cX0_face 7 = .ok (.i2l, 1) := DX0_face.2.2.2.2.2.1
theorem dX0_face_8 : decode cX0_face 8 = .ok (.lastore, 1) := DX0_face.2.2.2.2.2.2.1
theorem dX0_face_9 : decode cX0_face 9 = .ok (.goto 6, 3) := DX0_face.2.2.2.2.2.2.2.1
theorem dX0_face_12 : decode cX0_face 12 = .ok (.astore_n 3, 1) := DX0_face.2.2.2.2.2.2.2.2.1
theorem dX0_face_13 : decode cX0_face 13 = .ok (.iconst 1, 1) := DX0_face.2.2.2.2.2.2.2.2.2.1
theorem dX0_face_14 : decode cX0_face 14 = .ok (.ireturn, 1) := DX0_face.2.2.2.2.2.2.2.2.2.2.1
theorem dX0_face_15 : decode cX0_face 15 = .ok (.iconst 0, 1) := DX0_face.2.2.2.2.2.2.2.2.2.2.2.1
theorem dX0_face_16 : decode cX0_face 16 = .ok (.ireturn, 1) := DX0_face.2.2.2.2.2.2.2.2.2.2.2.2
theorem dX0_piece_0 : decode cX0_piece 0 = .ok (.aload_n 2, 1) := DX0_piece.1
theorem dX0_piece_1 : decode cX0_piece 1 = .ok (.iconst 0, 1) := DX0_piece.2.1
theorem dX0_piece_2 : decode cX0_piece 2 = .ok (.aload_n 0, 1) := DX0_piece.2.2.1
theorem dX0_piece_3 : decode cX0_piece 3 = .ok (.iload_n 1, 1) := DX0_piece.2.2.2.1
theorem dX0_piece_4 : decode cX0_piece 4 = .ok (.invokevirtual 30, 3) := DX0_piece.2.2.2.2.1
theorem dX0_piece_7 : decode cX0_piece 7 = .ok (.i2l, 1) := DX0_piece.2.2.2.2.2.1
theorem dX0_piece_8 : decode cX0_piece 8 = .ok (.lastore, 1) := DX0_piece.2.2.2.2.2.2.1
theorem dX0_piece_9 : decode cX0_piece 9 = .ok (.goto 6, 3) := DX0_piece.2.2.2.2.2.2.2.1
theorem dX0_piece_12 : decode cX0_piece 12 = .ok (.astore_n 3, 1) := DX0_piece.2.2.2.2.2.2.2.2.1
theorem dX0_piece_13 : decode cX0_piece 13 = .ok (.iconst 1, 1) := DX0_piece.2.2.2.2.2.2.2.2.2.1
theorem dX0_piece_14 : decode cX0_piece 14 = .ok (.ireturn, 1) := DX0_piece.2.2.2.2.2.2.2.2.2.2.1
theorem dX0_piece_15 : decode cX0_piece 15 = .ok (.iconst 0, 1) := DX0_piece.2.2.2.2.2.2.2.2.2.2.2.1
theorem dX0_piece_16 : decode cX0_piece 16 = .ok (.ireturn, 1) := DX0_piece.2.2.2.2.2.2.2.2.2.2.2.2
theorem dX0_around_0 : decode cX0_around 0 = .ok (.aload_n 2, 1) := DX0_around.1
theorem dX0_around_1 : decode cX0_around 1 = .ok (.iconst 0, 1) := DX0_around.2.1
theorem dX0_around_2 : decode cX0_around 2 = .ok (.aload_n 0, 1) := DX0_around.2.2.1
theorem dX0_around_3 : decode cX0_around 3 = .ok (.iload_n 1, 1) := DX0_around.2.2.2.1
theorem dX0_around_4 : decode cX0_around 4 = .ok (.invokevirtual 33, 3) := DX0_around.2.2.2.2.1
theorem dX0_around_7 : decode cX0_around 7 = .ok (.i2l, 1) := DX0_around.2.2.2.2.2.1
theorem dX0_around_8 : decode cX0_around 8 = .ok (.lastore, 1) := DX0_around.2.2.2.2.2.2.1
theorem dX0_around_9 : decode cX0_around 9 = .ok (.goto 6, 3) := DX0_around.2.2.2.2.2.2.2.1
theorem dX0_around_12 : decode cX0_around 12 = .ok (.astore_n 3, 1) := DX0_around.2.2.2.2.2.2.2.2.1
theorem dX0_around_13 : decode cX0_around 13 = .ok (.iconst 1, 1) := DX0_around.2.2.2.2.2.2.2.2.2.1
theorem dX0_around_14 : decode cX0_around 14 = .ok (.ireturn, 1) := DX0_around.2.2.2.2.2.2.2.2.2.2.1
theorem dX0_around_15 : decode cX0_around 15 = .ok (.iconst 0, 1) := DX0_around.2.2.2.2.2.2.2.2.2.2.2.1
theorem dX0_around_16 : decode cX0_around 16 = .ok (.ireturn, 1) := DX0_around.2.2.2.2.2.2.2.2.2.2.2.2
theorem dX0_area_0 : decode cX0_area 0 = .ok (.aload_n 2, 1) := DX0_area.1
theorem dX0_area_1 : decode cX0_area 1 = .ok (.iconst 0, 1) := DX0_area.2.1
theorem dX0_area_2 : decode cX0_area 2 = .ok (.aload_n 0, 1) := DX0_area.2.2.1
theorem dX0_area_3 : decode cX0_area 3 = .ok (.iload_n 1, 1) := DX0_area.2.2.2.1
theorem dX0_area_4 : decode cX0_area 4 = .ok (.invokevirtual 36, 3) := DX0_area.2.2.2.2.1
theorem dX0_area_7 : decode cX0_area 7 = .ok (.i2l, 1) := DX0_area.2.2.2.2.2.1
theorem dX0_area_8 : decode cX0_area 8 = .ok (.lastore, 1) := DX0_area.2.2.2.2.2.2.1
theorem dX0_area_9 : decode cX0_area 9 = .ok (.goto 6, 3) := DX0_area.2.2.2.2.2.2.2.1
theorem dX0_area_12 : decode cX0_area 12 = .ok (.astore_n 3, 1) := DX0_area.2.2.2.2.2.2.2.2.1
theorem dX0_area_13 : decode cX0_area 13 = .ok (.iconst 1, 1) := DX0_area.2.2.2.2.2.2.2.2.2.1
theorem dX0_area_14 : decode cX0_area 14 = .ok (.ireturn, 1) := DX0_area.2.2.2.2.2.2.2.2.2.2.1
theorem dX0_area_15 : decode cX0_area 15 = .ok (.iconst 0, 1) := DX0_area.2.2.2.2.2.2.2.2.2.2.2.1
theorem dX0_area_16 : decode cX0_area 16 = .ok (.ireturn, 1) := DX0_area.2.2.2.2.2.2.2.2.2.2.2.2
theorem dX0_border_0 : decode cX0_border 0 = .ok (.aload_n 3, 1) := DX0_border.1
theorem dX0_border_1 : decode cX0_border 1 = .ok (.iconst 0, 1) := DX0_border.2.1
theorem dX0_border_2 : decode cX0_border 2 = .ok (.aload_n 0, 1) := DX0_border.2.2.1
theorem dX0_border_3 : decode cX0_border 3 = .ok (.iload_n 1, 1) := DX0_border.2.2.2.1
theorem dX0_border_4 : decode cX0_border 4 = .ok (.iload_n 2, 1) := DX0_border.2.2.2.2.1
theorem dX0_border_5 : decode cX0_border 5 = .ok (.invokevirtual 39, 3) := DX0_border.2.2.2.2.2.1
theorem dX0_border_8 : decode cX0_border 8 = .ok (.i2l, 1) := DX0_border.2.2.2.2.2.2.1
theorem dX0_border_9 : decode cX0_border 9 = .ok (.lastore, 1) := DX0_border.2.2.2.2.2.2.2.1
theorem dX0_border_10 : decode cX0_border 10 = .ok (.goto 7, 3) := DX0_border.2.2.2.2.2.2.2.2.1
theorem dX0_border_13 : decode cX0_border 13 = .ok (.astore 4, 2) := DX0_border.2.2.2.2.2.2.2.2.2.1
theorem dX0_border_15 : decode cX0_border 15 = .ok (.iconst 1, 1) := DX0_border.2.2.2.2.2.2.2.2.2.2.1
theorem dX0_border_16 : decode cX0_border 16 = .ok (.ireturn, 1) := DX0_border.2.2.2.2.2.2.2.2.2.2.2.1
theorem dX0_border_17 : decode cX0_border 17 = .ok (.iconst 0, 1) := DX0_border.2.2.2.2.2.2.2.2.2.2.2.2.1
theorem dX0_border_18 : decode cX0_border 18 = .ok (.ireturn, 1) := DX0_border.2.2.2.2.2.2.2.2.2.2.2.2.2
theorem dX0_locate_0 : decode cX0_locate 0 = .ok (.aload_n 3, 1) := DX0_locate.1
theorem dX0_locate_1 : decode cX0_locate 1 = .ok (.iconst 0, 1) := DX0_locate.2.1
theorem dX0_locate_2 : decode cX0_locate 2 = .ok (.aload_n 0, 1) := DX0_locate.2.2.1
theorem dX0_locate_3 : decode cX0_locate 3 = .ok (.iload_n 1, 1) := DX0_locate.2.2.2.1
theorem dX0_locate_4 : decode cX0_locate 4 = .ok (.iload_n 2, 1) := DX0_locate.2.2.2.2.1
theorem dX0_locate_5 : decode cX0_locate 5 = .ok (.invokevirtual 43, 3) := DX0_locate.2.2.2.2.2.1
theorem dX0_locate_8 : decode cX0_locate 8 = .ok (.i2l, 1) := DX0_locate.2.2.2.2.2.2.1
theorem dX0_locate_9 : decode cX0_locate 9 = .ok (.lastore, 1) := DX0_locate.2.2.2.2.2.2.2.1
theorem dX0_locate_10 : decode cX0_locate 10 = .ok (.goto 7, 3) := DX0_locate.2.2.2.2.2.2.2.2.1
theorem dX0_locate_13 : decode cX0_locate 13 = .ok (.astore 4, 2) := DX0_locate.2.2.2.2.2.2.2.2.2.1
theorem dX0_locate_15 : decode cX0_locate 15 = .ok (.iconst 1, 1) := DX0_locate.2.2.2.2.2.2.2.2.2.2.1
theorem dX0_locate_16 : decode cX0_locate 16 = .ok (.ireturn, 1) := DX0_locate.2.2.2.2.2.2.2.2.2.2.2.1
theorem dX0_locate_17 : decode cX0_locate 17 = .ok (.iconst 0, 1) := DX0_locate.2.2.2.2.2.2.2.2.2.2.2.2.1
theorem dX0_locate_18 : decode cX0_locate 18 = .ok (.ireturn, 1) := DX0_locate.2.2.2.2.2.2.2.2.2.2.2.2.2
theorem dX0_above_0 : decode cX0_above 0 = .ok (.aload_n 3, 1) := DX0_above.1
theorem dX0_above_1 : decode cX0_above 1 = .ok (.iconst 0, 1) := DX0_above.2.1
theorem dX0_above_2 : decode cX0_above 2 = .ok (.aload_n 0, 1) := DX0_above.2.2.1
theorem dX0_above_3 : decode cX0_above 3 = .ok (.iload_n 1, 1) := DX0_above.2.2.2.1
theorem dX0_above_4 : decode cX0_above 4 = .ok (.iload_n 2, 1) := DX0_above.2.2.2.2.1
theorem dX0_above_5 : decode cX0_above 5 = .ok (.invokevirtual 46, 3) := DX0_above.2.2.2.2.2.1
theorem dX0_above_8 : decode cX0_above 8 = .ok (.i2l, 1) := DX0_above.2.2.2.2.2.2.1
theorem dX0_above_9 : decode cX0_above 9 = .ok (.lastore, 1) := DX0_above.2.2.2.2.2.2.2.1
theorem dX0_above_10 : decode cX0_above 10 = .ok (.goto 7, 3) := DX0_above.2.2.2.2.2.2.2.2.1
theorem dX0_above_13 : decode cX0_above 13 = .ok (.astore 4, 2) := DX0_above.2.2.2.2.2.2.2.2.2.1
theorem dX0_above_15 : decode cX0_above 15 = .ok (.iconst 1, 1) := DX0_above.2.2.2.2.2.2.2.2.2.2.1
theorem dX0_above_16 : decode cX0_above 16 = .ok (.ireturn, 1) := DX0_above.2.2.2.2.2.2.2.2.2.2.2.1
theorem dX0_above_17 : decode cX0_above 17 = .ok (.iconst 0, 1) := DX0_above.2.2.2.2.2.2.2.2.2.2.2.2.1
theorem dX0_above_18 : decode cX0_above 18 = .ok (.ireturn, 1) := DX0_above.2.2.2.2.2.2.2.2.2.2.2.2.2
theorem dX0_across_0 : decode cX0_across 0 = .ok (.aload_n 3, 1) := DX0_across.1
theorem dX0_across_1 : decode cX0_across 1 = .ok (.iconst 0, 1) := DX0_across.2.1
theorem dX0_across_2 : decode cX0_across 2 = .ok (.aload_n 0, 1) := DX0_across.2.2.1
theorem dX0_across_3 : decode cX0_across 3 = .ok (.iload_n 1, 1) := DX0_across.2.2.2.1
theorem dX0_across_4 : decode cX0_across 4 = .ok (.iload_n 2, 1) := DX0_across.2.2.2.2.1
theorem dX0_across_5 : decode cX0_across 5 = .ok (.invokevirtual 49, 3) := DX0_across.2.2.2.2.2.1
theorem dX0_across_8 : decode cX0_across 8 = .ok (.i2l, 1) := DX0_across.2.2.2.2.2.2.1
theorem dX0_across_9 : decode cX0_across 9 = .ok (.lastore, 1) := DX0_across.2.2.2.2.2.2.2.1
theorem dX0_across_10 : decode cX0_across 10 = .ok (.goto 7, 3) := DX0_across.2.2.2.2.2.2.2.2.1
theorem dX0_across_13 : decode cX0_across 13 = .ok (.astore 4, 2) := DX0_across.2.2.2.2.2.2.2.2.2.1
theorem dX0_across_15 : decode cX0_across 15 = .ok (.iconst 1, 1) := DX0_across.2.2.2.2.2.2.2.2.2.2.1
theorem dX0_across_16 : decode cX0_across 16 = .ok (.ireturn, 1) := DX0_across.2.2.2.2.2.2.2.2.2.2.2.1
theorem dX0_across_17 : decode cX0_across 17 = .ok (.iconst 0, 1) := DX0_across.2.2.2.2.2.2.2.2.2.2.2.2.1
theorem dX0_across_18 : decode cX0_across 18 = .ok (.ireturn, 1) := DX0_across.2.2.2.2.2.2.2.2.2.2.2.2.2
theorem dX1_init_0 : decode cX1_init 0 = .ok (.aload_n 0, 1) := DX1_init.1
theorem dX1_init_1 : decode cX1_init 1 = .ok (.invokespecial 1, 3) := DX1_init.2.1
theorem dX1_init_4 : decode cX1_init 4 = .ok (.aload_n 0, 1) := DX1_init.2.2.1
theorem dX1_init_5 : decode cX1_init 5 = .ok (.bipush 60, 2) := DX1_init.2.2.2.1
theorem dX1_init_7 : decode cX1_init 7 = .ok (.newarray .boolean, 2) := DX1_init.2.2.2.2.1
theorem dX1_init_9 : decode cX1_init 9 = .ok (.putfield 7, 3) := DX1_init.2.2.2.2.2.1
theorem dX1_init_12 : decode cX1_init 12 = .ok (.aload_n 0, 1) := DX1_init.2.2.2.2.2.2.1
theorem dX1_init_13 : decode cX1_init 13 = .ok (.bipush 60, 2) := DX1_init.2.2.2.2.2.2.2.1
theorem dX1_init_15 : decode cX1_init 15 = .ok (.newarray .int, 2) := DX1_init.2.2.2.2.2.2.2.2.1
theorem dX1_init_17 : decode cX1_init 17 = .ok (.putfield 13, 3) := DX1_init.2.2.2.2.2.2.2.2.2.1
theorem dX1_init_20 : decode cX1_init 20 = .ok (.aload_n 0, 1) := DX1_init.2.2.2.2.2.2.2.2.2.2.1
theorem dX1_init_21 : decode cX1_init 21 = .ok (.bipush 60, 2) := DX1_init.2.2.2.2.2.2.2.2.2.2.2.1
theorem dX1_init_23 : decode cX1_init 23 = .ok (.newarray .int, 2) := DX1_init.2.2.2.2.2.2.2.2.2.2.2.2.1
theorem dX1_init_25 : decode cX1_init 25 = .ok (.putfield 17, 3) := DX1_init.2.2.2.2.2.2.2.2.2.2.2.2.2.1
theorem dX1_init_28 : decode cX1_init 28 = .ok (.aload_n 0, 1) := DX1_init.2.2.2.2.2.2.2.2.2.2.2.2.2.2.1
theorem dX1_init_29 : decode cX1_init 29 = .ok (.bipush 60, 2) := DX1_init.2.2.2.2.2.2.2.2.2.2.2.2.2.2.2.1
theorem dX1_init_31 : decode cX1_init 31 = .ok (.newarray .int, 2) := DX1_init.2.2.2.2.2.2.2.2.2.2.2.2.2.2.2.2.1
theorem dX1_init_33 : decode cX1_init 33 = .ok (.putfield 20, 3) := DX1_init.2.2.2.2.2.2.2.2.2.2.2.2.2.2.2.2.2.1
theorem dX1_init_36 : decode cX1_init 36 = .ok (.aload_n 0, 1) := DX1_init.2.2.2.2.2.2.2.2.2.2.2.2.2.2.2.2.2.2.1
theorem dX1_init_37 : decode cX1_init 37 = .ok (.bipush 60, 2) := DX1_init.2.2.2.2.2.2.2.2.2.2.2.2.2.2.2.2.2.2.2.1
theorem dX1_init_39 : decode cX1_init 39 = .ok (.newarray .int, 2) := DX1_init.2.2.2.2.2.2.2.2.2.2.2.2.2.2.2.2.2.2.2.2.1
theorem dX1_init_41 : decode cX1_init 41 = .ok (.putfield 23, 3) := DX1_init.2.2.2.2.2.2.2.2.2.2.2.2.2.2.2.2.2.2.2.2.2.1
theorem dX1_init_44 : decode cX1_init 44 = .ok (.aload_n 0, 1) := DX1_init.2.2.2.2.2.2.2.2.2.2.2.2.2.2.2.2.2.2.2.2.2.2.1
theorem dX1_init_45 : decode cX1_init 45 = .ok (.new 26, 3) := DX1_init.2.2.2.2.2.2.2.2.2.2.2.2.2.2.2.2.2.2.2.2.2.2.2.1
theorem dX1_init_48 : decode cX1_init 48 = .ok (.dup, 1) := DX1_init.2.2.2.2.2.2.2.2.2.2.2.2.2.2.2.2.2.2.2.2.2.2.2.2.1
theorem dX1_init_49 : decode cX1_init 49 = .ok (.invokespecial 28, 3) := DX1_init.2.2.2.2.2.2.2.2.2.2.2.2.2.2.2.2.2.2.2.2.2.2.2.2.2.1
theorem dX1_init_52 : decode cX1_init 52 = .ok (.putfield 29, 3) := DX1_init.2.2.2.2.2.2.2.2.2.2.2.2.2.2.2.2.2.2.2.2.2.2.2.2.2.2.1
theorem dX1_init_55 : decode cX1_init 55 = .ok (.aload_n 0, 1) := DX1_init.2.2.2.2.2.2.2.2.2.2.2.2.2.2.2.2.2.2.2.2.2.2.2.2.2.2.2.1
theorem dX1_init_56 : decode cX1_init 56 = .ok (.bipush 120, 2) := DX1_init.2.2.2.2.2.2.2.2.2.2.2.2.2.2.2.2.2.2.2.2.2.2.2.2.2.2.2.2.1
theorem dX1_init_58 : decode cX1_init 58 = .ok (.anewarray 33, 3) := DX1_init.2.2.2.2.2.2.2.2.2.2.2.2.2.2.2.2.2.2.2.2.2.2.2.2.2.2.2.2.2.1
theorem dX1_init_61 : decode cX1_init 61 = .ok (.putfield 35, 3) := DX1_init.2.2.2.2.2.2.2.2.2.2.2.2.2.2.2.2.2.2.2.2.2.2.2.2.2.2.2.2.2.2.1
theorem dX1_init_64 : decode cX1_init 64 = .ok (.aload_n 0, 1) := DX1_init.2.2.2.2.2.2.2.2.2.2.2.2.2.2.2.2.2.2.2.2.2.2.2.2.2.2.2.2.2.2.2.1
theorem dX1_init_65 : decode cX1_init 65 = .ok (.new 26, 3) := DX1_init.2.2.2.2.2.2.2.2.2.2.2.2.2.2.2.2.2.2.2.2.2.2.2.2.2.2.2.2.2.2.2.2.1
theorem dX1_init_68 : decode cX1_init 68 = .ok (.dup, 1) := DX1_init.2.2.2.2.2.2.2.2.2.2.2.2.2.2.2.2.2.2.2.2.2.2.2.2.2.2.2.2.2.2.2.2.2.1
theorem dX1_init_69 : decode cX1_init 69 = .ok (.invokespecial 28, 3) := DX1_init.2.2.2.2.2.2.2.2.2.2.2.2.2.2.2.2.2.2.2.2.2.2.2.2.2.2.2.2.2.2.2.2.2.2.1
theorem dX1_init_72 : decode cX1_init 72 = .ok (.putfield 39, 3) := DX1_init.2.2.2.2.2.2.2.2.2.2.2.2.2.2.2.2.2.2.2.2.2.2.2.2.2.2.2.2.2.2.2.2.2.2.2.1
theorem dX1_init_75 : decode cX1_init 75 = .ok (.aload_n 0, 1) := DX1_init.2.2.2.2.2.2.2.2.2.2.2.2.2.2.2.2.2.2.2.2.2.2.2.2.2.2.2.2.2.2.2.2.2.2.2.2.1
theorem dX1_init_76 : decode cX1_init 76 = .ok (.new 26, 3) := DX1_init.2.2.2.2.2.2.2.2.2.2.2.2.2.2.2.2.2.2.2.2.2.2.2.2.2.2.2.2.2.2.2.2.2.2.2.2.2.1
theorem dX1_init_79 : decode cX1_init 79 = .ok (.dup, 1) := DX1_init.2.2.2.2.2.2.2.2.2.2.2.2.2.2.2.2.2.2.2.2.2.2.2.2.2.2.2.2.2.2.2.2.2.2.2.2.2.2.1
theorem dX1_init_80 : decode cX1_init 80 = .ok (.invokespecial 28, 3) := DX1_init.2.2.2.2.2.2.2.2.2.2.2.2.2.2.2.2.2.2.2.2.2.2.2.2.2.2.2.2.2.2.2.2.2.2.2.2.2.2.2.1
theorem dX1_init_83 : decode cX1_init 83 = .ok (.putfield 42, 3) := DX1_init.2.2.2.2.2.2.2.2.2.2.2.2.2.2.2.2.2.2.2.2.2.2.2.2.2.2.2.2.2.2.2.2.2.2.2.2.2.2.2.2.1
theorem dX1_init_86 : decode cX1_init 86 = .ok (.aload_n 0, 1) := DX1_init.2.2.2.2.2.2.2.2.2.2.2.2.2.2.2.2.2.2.2.2.2.2.2.2.2.2.2.2.2.2.2.2.2.2.2.2.2.2.2.2.2.1
theorem dX1_init_87 : decode cX1_init 87 = .ok (.bipush 60, 2) := DX1_init.2.2.2.2.2.2.2.2.2.2.2.2.2.2.2.2.2.2.2.2.2.2.2.2.2.2.2.2.2.2.2.2.2.2.2.2.2.2.2.2.2.2.1
theorem dX1_init_89 : decode cX1_init 89 = .ok (.newarray .int, 2) := DX1_init.2.2.2.2.2.2.2.2.2.2.2.2.2.2.2.2.2.2.2.2.2.2.2.2.2.2.2.2.2.2.2.2.2.2.2.2.2.2.2.2.2.2.2.1
theorem dX1_init_91 : decode cX1_init 91 = .ok (.putfield 45, 3) := DX1_init.2.2.2.2.2.2.2.2.2.2.2.2.2.2.2.2.2.2.2.2.2.2.2.2.2.2.2.2.2.2.2.2.2.2.2.2.2.2.2.2.2.2.2.2.1
theorem dX1_init_94 : decode cX1_init 94 = .ok (.aload_n 0, 1) := DX1_init.2.2.2.2.2.2.2.2.2.2.2.2.2.2.2.2.2.2.2.2.2.2.2.2.2.2.2.2.2.2.2.2.2.2.2.2.2.2.2.2.2.2.2.2.2.1
theorem dX1_init_95 : decode cX1_init 95 = .ok (.bipush 60, 2) := DX1_init.2.2.2.2.2.2.2.2.2.2.2.2.2.2.2.2.2.2.2.2.2.2.2.2.2.2.2.2.2.2.2.2.2.2.2.2.2.2.2.2.2.2.2.2.2.2.1
theorem dX1_init_97 : decode cX1_init 97 = .ok (.anewarray 48, 3) := DX1_init.2.2.2.2.2.2.2.2.2.2.2.2.2.2.2.2.2.2.2.2.2.2.2.2.2.2.2.2.2.2.2.2.2.2.2.2.2.2.2.2.2.2.2.2.2.2.2.1
theorem dX1_init_100 : decode cX1_init 100 = .ok (.putfield 50, 3) := DX1_init.2.2.2.2.2.2.2.2.2.2.2.2.2.2.2.2.2.2.2.2.2.2.2.2.2.2.2.2.2.2.2.2.2.2.2.2.2.2.2.2.2.2.2.2.2.2.2.2.1
theorem dX1_init_103 : decode cX1_init 103 = .ok (.return_, 1) := DX1_init.2.2.2.2.2.2.2.2.2.2.2.2.2.2.2.2.2.2.2.2.2.2.2.2.2.2.2.2.2.2.2.2.2.2.2.2.2.2.2.2.2.2.2.2.2.2.2.2.2
theorem dX1_remove_0 : decode cX1_remove 0 = .ok (.iload_n 1, 1) := DX1_remove.1
theorem dX1_remove_1 : decode cX1_remove 1 = .ok (.ifCond .lt 18, 3) := DX1_remove.2.1
theorem dX1_remove_4 : decode cX1_remove 4 = .ok (.iload_n 1, 1) := DX1_remove.2.2.1
theorem dX1_remove_5 : decode cX1_remove 5 = .ok (.bipush 60, 2) := DX1_remove.2.2.2.1
theorem dX1_remove_7 : decode cX1_remove 7 = .ok (.if_icmp .ge 12, 3) := DX1_remove.2.2.2.2.1
theorem dX1_remove_10 : decode cX1_remove 10 = .ok (.aload_n 0, 1) := DX1_remove.2.2.2.2.2.1
theorem dX1_remove_11 : decode cX1_remove 11 = .ok (.getfield 7, 3) := DX1_remove.2.2.2.2.2.2.1
theorem dX1_remove_14 : decode cX1_remove 14 = .ok (.iload_n 1, 1) := DX1_remove.2.2.2.2.2.2.2.1
theorem dX1_remove_15 : decode cX1_remove 15 = .ok (.baload, 1) := DX1_remove.2.2.2.2.2.2.2.2.1
theorem dX1_remove_16 : decode cX1_remove 16 = .ok (.ifCond .ne 5, 3) := DX1_remove.2.2.2.2.2.2.2.2.2.1
theorem dX1_remove_19 : decode cX1_remove 19 = .ok (.iconst 0, 1) := DX1_remove.2.2.2.2.2.2.2.2.2.2.1
theorem dX1_remove_20 : decode cX1_remove 20 = .ok (.ireturn, 1) := DX1_remove.2.2.2.2.2.2.2.2.2.2.2.1
theorem dX1_remove_21 : decode cX1_remove 21 = .ok (.aload_n 0, 1) := DX1_remove.2.2.2.2.2.2.2.2.2.2.2.2.1
theorem dX1_remove_22 : decode cX1_remove 22 = .ok (.getfield 7, 3) := DX1_remove.2.2.2.2.2.2.2.2.2.2.2.2.2.1
theorem dX1_remove_25 : decode cX1_remove 25 = .ok (.iload_n 1, 1) := DX1_remove.2.2.2.2.2.2.2.2.2.2.2.2.2.2.1
theorem dX1_remove_26 : decode cX1_remove 26 = .ok (.iconst 0, 1) := DX1_remove.2.2.2.2.2.2.2.2.2.2.2.2.2.2.2.1
theorem dX1_remove_27 : decode cX1_remove 27 = .ok (.bastore, 1) := DX1_remove.2.2.2.2.2.2.2.2.2.2.2.2.2.2.2.2.1
theorem dX1_remove_28 : decode cX1_remove 28 = .ok (.aload_n 0, 1) := DX1_remove.2.2.2.2.2.2.2.2.2.2.2.2.2.2.2.2.2.1
theorem dX1_remove_29 : decode cX1_remove 29 = .ok (.dup, 1) := DX1_remove.2.2.2.2.2.2.2.2.2.2.2.2.2.2.2.2.2.2.1
theorem dX1_remove_30 : decode cX1_remove 30 = .ok (.getfield 95, 3) := DX1_remove.2.2.2.2.2.2.2.2.2.2.2.2.2.2.2.2.2.2.2.1
theorem dX1_remove_33 : decode cX1_remove 33 = .ok (.iconst 1, 1) := DX1_remove.2.2.2.2.2.2.2.2.2.2.2.2.2.2.2.2.2.2.2.2.1
theorem dX1_remove_34 : decode cX1_remove 34 = .ok (.isub, 1) := DX1_remove.2.2.2.2.2.2.2.2.2.2.2.2.2.2.2.2.2.2.2.2.2.1
theorem dX1_remove_35 : decode cX1_remove 35 = .ok (.putfield 95, 3) := DX1_remove.2.2.2.2.2.2.2.2.2.2.2.2.2.2.2.2.2.2.2.2.2.2.1
theorem dX1_remove_38 : decode cX1_remove 38 = .ok (.aload_n 0, 1) := DX1_remove.2.2.2.2.2.2.2.2.2.2.2.2.2.2.2.2.2.2.2.2.2.2.2.1
theorem dX1_remove_39 : decode cX1_remove 39 = .ok (.iconst 0, 1) := DX1_remove.2.2.2.2.2.2.2.2.2.2.2.2.2.2.2.2.2.2.2.2.2.2.2.2.1
theorem dX1_remove_40 : decode cX1_remove 40 = .ok (.putfield 106, 3) := DX1_remove.2.2.2.2.2.2.2.2.2.2.2.2.2.2.2.2.2.2.2.2.2.2.2.2.2.1
theorem dX1_remove_43 : decode cX1_remove 43 = .ok (.iconst 1, 1) := DX1_remove.2.2.2.2.2.2.2.2.2.2.2.2.2.2.2.2.2.2.2.2.2.2.2.2.2.2.1
theorem dX1_remove_44 : decode cX1_remove 44 = .ok (.ireturn, 1) := DX1_remove.2.2.2.2.2.2.2.2.2.2.2.2.2.2.2.2.2.2.2.2.2.2.2.2.2.2.2
theorem dX1_clear_0 : decode cX1_clear 0 = .ok (.aload_n 0, 1) := DX1_clear.1
theorem dX1_clear_1 : decode cX1_clear 1 = .ok (.getfield 95, 3) := DX1_clear.2.1
theorem dX1_clear_4 : decode cX1_clear 4 = .ok (.istore_n 1, 1) := DX1_clear.2.2.1
theorem dX1_clear_5 : decode cX1_clear 5 = .ok (.iconst 0, 1) := DX1_clear.2.2.2.1
theorem dX1_clear_6 : decode cX1_clear 6 = .ok (.istore_n 2, 1) := DX1_clear.2.2.2.2.1
theorem dX1_clear_7 : decode cX1_clear 7 = .ok (.iload_n 2, 1) := DX1_clear.2.2.2.2.2.1
theorem dX1_clear_8 : decode cX1_clear 8 = .ok (.bipush 60, 2) := DX1_clear.2.2.2.2.2.2.1
theorem dX1_clear_10 : decode cX1_clear 10 = .ok (.if_icmp .ge 16, 3) := DX1_clear.2.2.2.2.2.2.2.1
theorem dX1_clear_13 : decode cX1_clear 13 = .ok (.aload_n 0, 1) := DX1_clear.2.2.2.2.2.2.2.2.1
theorem dX1_clear_14 : decode cX1_clear 14 = .ok (.getfield 7, 3) := DX1_clear.2.2.2.2.2.2.2.2.2.1
theorem dX1_clear_17 : decode cX1_clear 17 = .ok (.iload_n 2, 1) := DX1_clear.2.2.2.2.2.2.2.2.2.2.1
theorem dX1_clear_18 : decode cX1_clear 18 = .ok (.iconst 0, 1) := DX1_clear.2.2.2.2.2.2.2.2.2.2.2.1
theorem dX1_clear_19 : decode cX1_clear 19 = .ok (.bastore, 1) := DX1_clear.2.2.2.2.2.2.2.2.2.2.2.2.1
theorem dX1_clear_20 : decode cX1_clear 20 = .ok (.iinc 2 1, 3) := DX1_clear.2.2.2.2.2.2.2.2.2.2.2.2.2.1
theorem dX1_clear_23 : decode cX1_clear 23 = .ok (.goto (-16), 3) := DX1_clear.2.2.2.2.2.2.2.2.2.2.2.2.2.2.1
theorem dX1_clear_26 : decode cX1_clear 26 = .ok (.aload_n 0, 1) := DX1_clear.2.2.2.2.2.2.2.2.2.2.2.2.2.2.2.1
theorem dX1_clear_27 : decode cX1_clear 27 = .ok (.iconst 0, 1) := DX1_clear.2.2.2.2.2.2.2.2.2.2.2.2.2.2.2.2.1
theorem dX1_clear_28 : decode cX1_clear 28 = .ok (.putfield 95, 3) := DX1_clear.2.2.2.2.2.2.2.2.2.2.2.2.2.2.2.2.2.1
theorem dX1_clear_31 : decode cX1_clear 31 = .ok (.aload_n 0, 1) := DX1_clear.2.2.2.2.2.2.2.2.2.2.2.2.2.2.2.2.2.2.1
theorem dX1_clear_32 : decode cX1_clear 32 = .ok (.iconst 0, 1) := DX1_clear.2.2.2.2.2.2.2.2.2.2.2.2.2.2.2.2.2.2.2.1
theorem dX1_clear_33 : decode cX1_clear 33 = .ok (.putfield 106, 3) := DX1_clear.2.2.2.2.2.2.2.2.2.2.2.2.2.2.2.2.2.2.2.2.1
theorem dX1_clear_36 : decode cX1_clear 36 = .ok (.iload_n 1, 1) := DX1_clear.2.2.2.2.2.2.2.2.2.2.2.2.2.2.2.2.2.2.2.2.2.1
theorem dX1_clear_37 : decode cX1_clear 37 = .ok (.ireturn, 1) := DX1_clear.2.2.2.2.2.2.2.2.2.2.2.2.2.2.2.2.2.2.2.2.2.2
theorem dX1_count_0 : decode cX1_count 0 = .ok (.aload_n 0, 1) := DX1_count.1
theorem dX1_count_1 : decode cX1_count 1 = .ok (.invokevirtual 259, 3) := DX1_count.2.1
theorem dX1_count_4 : decode cX1_count 4 = .ok (.iload_n 1, 1) := DX1_count.2.2.1
theorem dX1_count_5 : decode cX1_count 5 = .ok (.tableswitch 90 0 5 #[39, 46, 56, 66, 73, 80], 39) := DX1_count.2.2.2.1
theorem dX1_count_44 : decode cX1_count 44 = .ok (.aload_n 0, 1) := DX1_count.2.2.2.2.1
theorem dX1_count_45 : decode cX1_count 45 = .ok (.getfield 95, 3) := DX1_count.2.2.2.2.2.1
theorem dX1_count_48 : decode cX1_count 48 = .ok (.goto 48, 3) := DX1_count.2.2.2.2.2.2.1
theorem dX1_count_51 : decode cX1_count 51 = .ok (.aload_n 0, 1) := DX1_count.2.2.2.2.2.2.2.1
theorem dX1_count_52 : decode cX1_count 52 = .ok (.getfield 29, 3) := DX1_count.2.2.2.2.2.2.2.2.1
theorem dX1_count_55 : decode cX1_count 55 = .ok (.invokevirtual 110, 3) := DX1_count.2.2.2.2.2.2.2.2.2.1
theorem dX1_count_58 : decode cX1_count 58 = .ok (.goto 38, 3) := DX1_count.2.2.2.2.2.2.2.2.2.2.1
theorem dX1_count_61 : decode cX1_count 61 = .ok (.aload_n 0, 1) := DX1_count.2.2.2.2.2.2.2.2.2.2.2.1
theorem dX1_count_62 : decode cX1_count 62 = .ok (.getfield 42, 3) := DX1_count.2.2.2.2.2.2.2.2.2.2.2.2.1
theorem dX1_count_65 : decode cX1_count 65 = .ok (.invokevirtual 110, 3) := DX1_count.2.2.2.2.2.2.2.2.2.2.2.2.2.1
theorem dX1_count_68 : decode cX1_count 68 = .ok (.goto 28, 3) := DX1_count.2.2.2.2.2.2.2.2.2.2.2.2.2.2.1
theorem dX1_count_71 : decode cX1_count 71 = .ok (.aload_n 0, 1) := DX1_count.2.2.2.2.2.2.2.2.2.2.2.2.2.2.2.1
theorem dX1_count_72 : decode cX1_count 72 = .ok (.getfield 235, 3) := DX1_count.2.2.2.2.2.2.2.2.2.2.2.2.2.2.2.2.1
theorem dX1_count_75 : decode cX1_count 75 = .ok (.goto 21, 3) := DX1_count.2.2.2.2.2.2.2.2.2.2.2.2.2.2.2.2.2.1
theorem dX1_count_78 : decode cX1_count 78 = .ok (.aload_n 0, 1) := DX1_count.2.2.2.2.2.2.2.2.2.2.2.2.2.2.2.2.2.2.1
theorem dX1_count_79 : decode cX1_count 79 = .ok (.invokevirtual 265, 3) := DX1_count.2.2.2.2.2.2.2.2.2.2.2.2.2.2.2.2.2.2.2.1
theorem dX1_count_82 : decode cX1_count 82 = .ok (.goto 14, 3) := DX1_count.2.2.2.2.2.2.2.2.2.2.2.2.2.2.2.2.2.2.2.2.1
theorem dX1_count_85 : decode cX1_count 85 = .ok (.aload_n 0, 1) := DX1_count.2.2.2.2.2.2.2.2.2.2.2.2.2.2.2.2.2.2.2.2.2.1
theorem dX1_count_86 : decode cX1_count 86 = .ok (.getfield 39, 3) := DX1_count.2.2.2.2.2.2.2.2.2.2.2.2.2.2.2.2.2.2.2.2.2.2.1
theorem dX1_count_89 : decode cX1_count 89 = .ok (.invokevirtual 110, 3) := DX1_count.2.2.2.2.2.2.2.2.2.2.2.2.2.2.2.2.2.2.2.2.2.2.2.1
theorem dX1_count_92 : decode cX1_count 92 = .ok (.goto 4, 3) := DX1_count.2.2.2.2.2.2.2.2.2.2.2.2.2.2.2.2.2.2.2.2.2.2.2.2.1
theorem dX1_count_95 : decode cX1_count 95 = .ok (.iconst (-1), 1) := DX1_count.2.2.2.2.2.2.2.2.2.2.2.2.2.2.2.2.2.2.2.2.2.2.2.2.2.1
theorem dX1_count_96 : decode cX1_count 96 = .ok (.ireturn, 1) := DX1_count.2.2.2.2.2.2.2.2.2.2.2.2.2.2.2.2.2.2.2.2.2.2.2.2.2.2
theorem dX1_make_0 : decode cX1_make 0 = .ok (.aload_n 0, 1) := DX1_make.1
theorem dX1_make_1 : decode cX1_make 1 = .ok (.getfield 106, 3) := DX1_make.2.1
theorem dX1_make_4 : decode cX1_make 4 = .ok (.ifCond .eq 4, 3) := DX1_make.2.2.1
theorem dX1_make_7 : decode cX1_make 7 = .ok (.return_, 1) := DX1_make.2.2.2.1
theorem dX1_make_8 : decode cX1_make 8 = .ok (.aload_n 0, 1) := DX1_make.2.2.2.2.1
theorem dX1_make_9 : decode cX1_make 9 = .ok (.iconst 1, 1) := DX1_make.2.2.2.2.2.1
theorem dX1_make_10 : decode cX1_make 10 = .ok (.putfield 106, 3) := DX1_make.2.2.2.2.2.2.1
theorem dX1_make_13 : decode cX1_make 13 = .ok (.aload_n 0, 1) := DX1_make.2.2.2.2.2.2.2.1
theorem dX1_make_14 : decode cX1_make 14 = .ok (.invokevirtual 247, 3) := DX1_make.2.2.2.2.2.2.2.2.1
theorem dX1_make_17 : decode cX1_make 17 = .ok (.aload_n 0, 1) := DX1_make.2.2.2.2.2.2.2.2.2.1
theorem dX1_make_18 : decode cX1_make 18 = .ok (.invokevirtual 250, 3) := DX1_make.2.2.2.2.2.2.2.2.2.2.1
theorem dX1_make_21 : decode cX1_make 21 = .ok (.aload_n 0, 1) := DX1_make.2.2.2.2.2.2.2.2.2.2.2.1
theorem dX1_make_22 : decode cX1_make 22 = .ok (.invokevirtual 253, 3) := DX1_make.2.2.2.2.2.2.2.2.2.2.2.2.1
theorem dX1_make_25 : decode cX1_make 25 = .ok (.aload_n 0, 1) := DX1_make.2.2.2.2.2.2.2.2.2.2.2.2.2.1
theorem dX1_make_26 : decode cX1_make 26 = .ok (.invokevirtual 256, 3) := DX1_make.2.2.2.2.2.2.2.2.2.2.2.2.2.2.1
theorem dX1_make_29 : decode cX1_make 29 = .ok (.return_, 1) := DX1_make.2.2.2.2.2.2.2.2.2.2.2.2.2.2.2
theorem dX1_join_0 : decode cX1_join 0 = .ok (.aload_n 0, 1) := DX1_join.1
theorem dX1_join_1 : decode cX1_join 1 = .ok (.getfield 29, 3) := DX1_join.2.1
theorem dX1_join_4 : decode cX1_join 4 = .ok (.invokevirtual 133, 3) := DX1_join.2.2.1
theorem dX1_join_7 : decode cX1_join 7 = .ok (.iconst 0, 1) := DX1_join.2.2.2.1
theorem dX1_join_8 : decode cX1_join 8 = .ok (.istore_n 1, 1) := DX1_join.2.2.2.2.1
theorem dX1_join_9 : decode cX1_join 9 = .ok (.iload_n 1, 1) := DX1_join.2.2.2.2.2.1
theorem dX1_join_10 : decode cX1_join 10 = .ok (.bipush 60, 2) := DX1_join.2.2.2.2.2.2.1
theorem dX1_join_12 : decode cX1_join 12 = .ok (.if_icmp .ge 143, 3) := DX1_join.2.2.2.2.2.2.2.1
theorem dX1_join_15 : decode cX1_join 15 = .ok (.aload_n 0, 1) := DX1_join.2.2.2.2.2.2.2.2.1
theorem dX1_join_16 : decode cX1_join 16 = .ok (.getfield 35, 3) := DX1_join.2.2.2.2.2.2.2.2.2.1
theorem dX1_join_19 : decode cX1_join 19 = .ok (.iconst 2, 1) := DX1_join.2.2.2.2.2.2.2.2.2.2.1
theorem dX1_join_20 : decode cX1_join 20 = .ok (.iload_n 1, 1) := DX1_join.2.2.2.2.2.2.2.2.2.2.2.1
theorem dX1_join_21 : decode cX1_join 21 = .ok (.imul, 1) := DX1_join.2.2.2.2.2.2.2.2.2.2.2.2.1
theorem dX1_join_22 : decode cX1_join 22 = .ok (.aload_n 0, 1) := DX1_join.2.2.2.2.2.2.2.2.2.2.2.2.2.1
theorem dX1_join_23 : decode cX1_join 23 = .ok (.getfield 35, 3) := DX1_join.2.2.2.2.2.2.2.2.2.2.2.2.2.2.1
theorem dX1_join_26 : decode cX1_join 26 = .ok (.iconst 2, 1) := DX1_join.2.2.2.2.2.2.2.2.2.2.2.2.2.2.2.1
theorem dX1_join_27 : decode cX1_join 27 = .ok (.iload_n 1, 1) := DX1_join.2.2.2.2.2.2.2.2.2.2.2.2.2.2.2.2.1
theorem dX1_join_28 : decode cX1_join 28 = .ok (.imul, 1) := DX1_join.2.2.2.2.2.2.2.2.2.2.2.2.2.2.2.2.2.1
theorem dX1_join_29 : decode cX1_join 29 = .ok (.iconst 1, 1) := DX1_join.2.2.2.2.2.2.2.2.2.2.2.2.2.2.2.2.2.2.1
theorem dX1_join_30 : decode cX1_join 30 = .ok (.iadd, 1) := DX1_join.2.2.2.2.2.2.2.2.2.2.2.2.2.2.2.2.2.2.2.1
theorem dX1_join_31 : decode cX1_join 31 = .ok (.aconst_null, 1) := DX1_join.2.2.2.2.2.2.2.2.2.2.2.2.2.2.2.2.2.2.2.2.1
theorem dX1_join_32 : decode cX1_join 32 = .ok (.dup_x2, 1) := DX1_join.2.2.2.2.2.2.2.2.2.2.2.2.2.2.2.2.2.2.2.2.2.1
theorem dX1_join_33 : decode cX1_join 33 = .ok (.aastore, 1) := DX1_join.2.2.2.2.2.2.2.2.2.2.2.2.2.2.2.2.2.2.2.2.2.2.1
theorem dX1_join_34 : decode cX1_join 34 = .ok (.aastore, 1) := DX1_join.2.2.2.2.2.2.2.2.2.2.2.2.2.2.2.2.2.2.2.2.2.2.2.1
theorem dX1_join_35 : decode cX1_join 35 = .ok (.aload_n 0, 1) := DX1_join.2.2.2.2.2.2.2.2.2.2.2.2.2.2.2.2.2.2.2.2.2.2.2.2.1
theorem dX1_join_36 : decode cX1_join 36 = .ok (.getfield 7, 3) := DX1_join.2.2.2.2.2.2.2.2.2.2.2.2.2.2.2.2.2.2.2.2.2.2.2.2.2.1
theorem dX1_join_39 : decode cX1_join 39 = .ok (.iload_n 1, 1) := DX1_join.2.2.2.2.2.2.2.2.2.2.2.2.2.2.2.2.2.2.2.2.2.2.2.2.2.2.1
theorem dX1_join_40 : decode cX1_join 40 = .ok (.baload, 1) := DX1_join.2.2.2.2.2.2.2.2.2.2.2.2.2.2.2.2.2.2.2.2.2.2.2.2.2.2.2.1
theorem dX1_join_41 : decode cX1_join 41 = .ok (.ifCond .ne 6, 3) := DX1_join.2.2.2.2.2.2.2.2.2.2.2.2.2.2.2.2.2.2.2.2.2.2.2.2.2.2.2.2.1
theorem dX1_join_44 : decode cX1_join 44 = .ok (.goto 105, 3) := DX1_join.2.2.2.2.2.2.2.2.2.2.2.2.2.2.2.2.2.2.2.2.2.2.2.2.2.2.2.2.2.1
theorem dX1_join_47 : decode cX1_join 47 = .ok (.aload_n 0, 1) := DX1_join.2.2.2.2.2.2.2.2.2.2.2.2.2.2.2.2.2.2.2.2.2.2.2.2.2.2.2.2.2.2.1
theorem dX1_join_48 : decode cX1_join 48 = .ok (.getfield 35, 3) := DX1_join.2.2.2.2.2.2.2.2.2.2.2.2.2.2.2.2.2.2.2.2.2.2.2.2.2.2.2.2.2.2.2.1
theorem dX1_join_51 : decode cX1_join 51 = .ok (.iconst 2, 1) := DX1_join.2.2.2.2.2.2.2.2.2.2.2.2.2.2.2.2.2.2.2.2.2.2.2.2.2.2.2.2.2.2.2.2.1
theorem dX1_join_52 : decode cX1_join 52 = .ok (.iload_n 1, 1) := DX1_join.2.2.2.2.2.2.2.2.2.2.2.2.2.2.2.2.2.2.2.2.2.2.2.2.2.2.2.2.2.2.2.2.2.1
theorem dX1_join_53 : decode cX1_join 53 = .ok (.imul, 1) := DX1_join.2.2.2.2.2.2.2.2.2.2.2.2.2.2.2.2.2.2.2.2.2.2.2.2.2.2.2.2.2.2.2.2.2.2.1
theorem dX1_join_54 : decode cX1_join 54 = .ok (.new 33, 3) := DX1_join.2.2.2.2.2.2.2.2.2.2.2.2.2.2.2.2.2.2.2.2.2.2.2.2.2.2.2.2.2.2.2.2.2.2.2.1
theorem dX1_join_57 : decode cX1_join 57 = .ok (.dup, 1) := DX1_join.2.2.2.2.2.2.2.2.2.2.2.2.2.2.2.2.2.2.2.2.2.2.2.2.2.2.2.2.2.2.2.2.2.2.2.2.1
theorem dX1_join_58 : decode cX1_join 58 = .ok (.iconst 2, 1) := DX1_join.2.2.2.2.2.2.2.2.2.2.2.2.2.2.2.2.2.2.2.2.2.2.2.2.2.2.2.2.2.2.2.2.2.2.2.2.2.1
theorem dX1_join_59 : decode cX1_join 59 = .ok (.iload_n 1, 1) := DX1_join.2.2.2.2.2.2.2.2.2.2.2.2.2.2.2.2.2.2.2.2.2.2.2.2.2.2.2.2.2.2.2.2.2.2.2.2.2.2.1
theorem dX1_join_60 : decode cX1_join 60 = .ok (.imul, 1) := DX1_join.2.2.2.2.2.2.2.2.2.2.2.2.2.2.2.2.2.2.2.2.2.2.2.2.2.2.2.2.2.2.2.2.2.2.2.2.2.2.2.1
theorem dX1_join_61 : decode cX1_join 61 = .ok (.aload_n 0, 1) := DX1_join.2.2.2.2.2.2.2.2.2.2.2.2.2.2.2.2.2.2.2.2.2.2.2.2.2.2.2.2.2.2.2.2.2.2.2.2.2.2.2.2.1
theorem dX1_join_62 : decode cX1_join 62 = .ok (.aload_n 0, 1) := DX1_join.2.2.2.2.2.2.2.2.2.2.2.2.2.2.2.2.2.2.2.2.2.2.2.2.2.2.2.2.2.2.2.2.2.2.2.2.2.2.2.2.2.1
theorem dX1_join_63 : decode cX1_join 63 = .ok (.getfield 13, 3) := DX1_join.2.2.2.2.2.2.2.2.2.2.2.2.2.2.2.2.2.2.2.2.2.2.2.2.2.2.2.2.2.2.2.2.2.2.2.2.2.2.2.2.2.2.1
theorem dX1_join_66 : decode cX1_join 66 = .ok (.iload_n 1, 1) := DX1_join.2.2.2.2.2.2.2.2.2.2.2.2.2.2.2.2.2.2.2.2.2.2.2.2.2.2.2.2.2.2.2.2.2.2.2.2.2.2.2.2.2.2.2.1
theorem dX1_join_67 : decode cX1_join 67 = .ok (.iaload, 1) := DX1_join.2.2.2.2.2.2.2.2.2.2.2.2.2.2.2.2.2.2.2.2.2.2.2.2.2.2.2.2.2.2.2.2.2.2.2.2.2.2.2.2.2.2.2.2.1
theorem dX1_join_68 : decode cX1_join 68 = .ok (.aload_n 0, 1) := DX1_join.2.2.2.2.2.2.2.2.2.2.2.2.2.2.2.2.2.2.2.2.2.2.2.2.2.2.2.2.2.2.2.2.2.2.2.2.2.2.2.2.2.2.2.2.2.1
theorem dX1_join_69 : decode cX1_join 69 = .ok (.getfield 17, 3) := DX1_join.2.2.2.2.2.2.2.2.2.2.2.2.2.2.2.2.2.2.2.2.2.2.2.2.2.2.2.2.2.2.2.2.2.2.2.2.2.2.2.2.2.2.2.2.2.2.1
theorem dX1_join_72 : decode cX1_join 72 = .ok (.iload_n 1, 1) := DX1_join.2.2.2.2.2.2.2.2.2.2.2.2.2.2.2.2.2.2.2.2.2.2.2.2.2.2.2.2.2.2.2.2.2.2.2.2.2.2.2.2.2.2.2.2.2.2.2.1
theorem dX1_join_73 : decode cX1_join 73 = .ok (.iaload, 1) := DX1_join.2.2.2.2.2.2.2.2.2.2.2.2.2.2.2.2.2.2.2.2.2.2.2.2.2.2.2.2.2.2.2.2.2.2.2.2.2.2.2.2.2.2.2.2.2.2.2.2.1
theorem dX1_join_74 : decode cX1_join 74 = .ok (.invokevirtual 136, 3) := DX1_join.2.2.2.2.2.2.2.2.2.2.2.2.2.2.2.2.2.2.2.2.2.2.2.2.2.2.2.2.2.2.2.2.2.2.2.2.2.2.2.2.2.2.2.2.2.2.2.2.2.1
theorem dX1_join_77 : decode cX1_join 77 = .ok (.invokespecial 140, 3) := DX1_join.2.2.2.2.2.2.2.2.2.2.2.2.2.2.2.2.2.2.2.2.2.2.2.2.2.2.2.2.2.2.2.2.2.2.2.2.2.2.2.2.2.2.2.2.2.2.2.2.2.2.1
theorem dX1_join_80 : decode cX1_join 80 = .ok (.dup_x2, 1) := DX1_join.2.2.2.2.2.2.2.2.2.2.2.2.2.2.2.2.2.2.2.2.2.2.2.2.2.2.2.2.2.2.2.2.2.2.2.2.2.2.2.2.2.2.2.2.2.2.2.2.2.2.2.1
theorem dX1_join_81 : decode cX1_join 81 = .ok (.aastore, 1) := DX1_join.2.2.2.2.2.2.2.2.2.2.2.2.2.2.2.2.2.2.2.2.2.2.2.2.2.2.2.2.2.2.2.2.2.2.2.2.2.2.2.2.2.2.2.2.2.2.2.2.2.2.2.2.1
theorem dX1_join_82 : decode cX1_join 82 = .ok (.astore_n 2, 1) := DX1_join.2.2.2.2.2.2.2.2.2.2.2.2.2.2.2.2.2.2.2.2.2.2.2.2.2.2.2.2.2.2.2.2.2.2.2.2.2.2.2.2.2.2.2.2.2.2.2.2.2.2.2.2.2.1
theorem dX1_join_83 : decode cX1_join 83 = .ok (.aload_n 0, 1) := DX1_join.2.2.2.2.2.2.2.2.2.2.2.2.2.2.2.2.2.2.2.2.2.2.2.2.2.2.2.2.2.2.2.2.2.2.2.2.2.2.2.2.2.2.2.2.2.2.2.2.2.2.2.2.2.2.1
theorem dX1_join_84 : decode cX1_join 84 = .ok (.getfield 35, 3) := DX1_join.2.2.2.2.2.2.2.2.2.2.2.2.2.2.2.2.2.2.2.2.2.2.2.2.2.2.2.2.2.2.2.2.2.2.2.2.2.2.2.2.2.2.2.2.2.2.2.2.2.2.2.2.2.2.2.1
theorem dX1_join_87 : decode cX1_join 87 = .ok (.iconst 2, 1) := DX1_join.2.2.2.2.2.2.2.2.2.2.2.2.2.2.2.2.2.2.2.2.2.2.2.2.2.2.2.2.2.2.2.2.2.2.2.2.2.2.2.2.2.2.2.2.2.2.2.2.2.2.2.2.2.2.2.2.1
theorem dX1_join_88 : decode cX1_join 88 = .ok (.iload_n 1, 1) := DX1_join.2.2.2.2.2.2.2.2.2.2.2.2.2.2.2.2.2.2.2.2.2.2.2.2.2.2.2.2.2.2.2.2.2.2.2.2.2.2.2.2.2.2.2.2.2.2.2.2.2.2.2.2.2.2.2.2.2.1
theorem dX1_join_89 : decode cX1_join 89 = .ok (.imul, 1) := DX1_join.2.2.2.2.2.2.2.2.2.2.2.2.2.2.2.2.2.2.2.2.2.2.2.2.2.2.2.2.2.2.2.2.2.2.2.2.2.2.2.2.2.2.2.2.2.2.2.2.2.2.2.2.2.2.2.2.2.2.1
theorem dX1_join_90 : decode cX1_join 90 = .ok (.iconst 1, 1) := DX1_join.2.2.2.2.2.2.2.2.2.2.2.2.2.2.2.2.2.2.2.2.2.2.2.2.2.2.2.2.2.2.2.2.2.2.2.2.2.2.2.2.2.2.2.2.2.2.2.2.2.2.2.2.2.2.2.2.2.2.2.1
theorem dX1_join_91 : decode cX1_join 91 = .ok (.iadd, 1) := DX1_join.2.2.2.2.2.2.2.2.2.2.2.2.2.2.2.2.2.2.2.2.2.2.2.2.2.2.2.2.2.2.2.2.2.2.2.2.2.2.2.2.2.2.2.2.2.2.2.2.2.2.2.2.2.2.2.2.2.2.2.2.1
theorem dX1_join_92 : decode cX1_join 92 = .ok (.new 33, 3) := DX1_join.2.2.2.2.2.2.2.2.2.2.2.2.2.2.2.2.2.2.2.2.2.2.2.2.2.2.2.2.2.2.2.2.2.2.2.2.2.2.2.2.2.2.2.2.2.2.2.2.2.2.2.2.2.2.2.2.2.2.2.2.2.1
theorem dX1_join_95 : decode cX1_join 95 = .ok (.dup, 1) := DX1_join.2.2.2.2.2.2.2.2.2.2.2.2.2.2.2.2.2.2.2.2.2.2.2.2.2.2.2.2.2.2.2.2.2.2.2.2.2.2.2.2.2.2.2.2.2.2.2.2.2.2.2.2.2.2.2.2.2.2.2.2.2.2.1
theorem dX1_join_96 : decode cX1_join 96 = .ok (.iconst 2, 1) := DX1_join.2.2.2.2.2.2.2.2.2.2.2.2.2.2.2.2.2.2.2.2.2.2.2.2.2.2.2.2.2.2.2.2.2.2.2.2.2.2.2.2.2.2.2.2.2.2.2.2.2.2.2.2.2.2.2.2.2.2.2.2.2.2.2.1
theorem dX1_join_97 : decode cX1_join 97 = .ok (.iload_n 1, 1) := DX1_join.2.2.2.2.2.2.2.2.2.2.2.2.2.2.2.2.2.2.2.2.2.2.2.2.2.2.2.2.2.2.2.2.2.2.2.2.2.2.2.2.2.2.2.2.2.2.2.2.2.2.2.2.2.2.2.2.2.2.2.2.2.2.2.2.1
theorem dX1_join_98 : decode cX1_join 98 = .ok (.imul, 1) := DX1_join.2.2.2.2.2.2.2.2.2.2.2.2.2.2.2.2.2.2.2.2.2.2.2.2.2.2.2.2.2.2.2.2.2.2.2.2.2.2.2.2.2.2.2.2.2.2.2.2.2.2.2.2.2.2.2.2.2.2.2.2.2.2.2.2.2.1
theorem dX1_join_99 : decode cX1_join 99 = .ok (.iconst 1, 1) := DX1_join.2.2.2.2.2.2.2.2.2.2.2.2.2.2.2.2.2.2.2.2.2.2.2.2.2.2.2.2.2.2.2.2.2.2.2.2.2.2.2.2.2.2.2.2.2.2.2.2.2.2.2.2.2.2.2.2.2.2.2.2.2.2.2.2.2.2.1
theorem dX1_join_100 : decode cX1_join 100 = .ok (.iadd, 1) := DX1_join.2.2.2.2.2.2.2.2.2.2.2.2.2.2.2.2.2.2.2.2.2.2.2.2.2.2.2.2.2.2.2.2.2.2.2.2.2.2.2.2.2.2.2.2.2.2.2.2.2.2.2.2.2.2.2.2.2.2.2.2.2.2.2.2.2.2.2.1
theorem dX1_join_101 : decode cX1_join 101 = .ok (.aload_n 0, 1) := DX1_join.2.2.2.2.2.2.2.2.2.2.2.2.2.2.2.2.2.2.2.2.2.2.2.2.2.2.2.2.2.2.2.2.2.2.2.2.2.2.2.2.2.2.2.2.2.2.2.2.2.2.2.2.2.2.2.2.2.2.2.2.2.2.2.2.2.2.2.2.1
theorem dX1_join_102 : decode cX1_join 102 = .ok (.aload_n 0, 1) := DX1_join.2.2.2.2.2.2.2.2.2.2.2.2.2.2.2.2.2.2.2.2.2.2.2.2.2.2.2.2.2.2.2.2.2.2.2.2.2.2.2.2.2.2.2.2.2.2.2.2.2.2.2.2.2.2.2.2.2.2.2.2.2.2.2.2.2.2.2.2.2.1
theorem dX1_join_103 : decode cX1_join 103 = .ok (.getfield 20, 3) := DX1_join.2.2.2.2.2.2.2.2.2.2.2.2.2.2.2.2.2.2.2.2.2.2.2.2.2.2.2.2.2.2.2.2.2.2.2.2.2.2.2.2.2.2.2.2.2.2.2.2.2.2.2.2.2.2.2.2.2.2.2.2.2.2.2.2.2.2.2.2.2.2.1
theorem dX1_join_106 : decode cX1_join 106 = .ok (.iload_n 1, 1) := DX1_join.2.2.2.2.2.2.2.2.2.2.2.2.2.2.2.2.2.2.2.2.2.2.2.2.2.2.2.2.2.2.2.2.2.2.2.2.2.2.2.2.2.2.2.2.2.2.2.2.2.2.2.2.2.2.2.2.2.2.2.2.2.2.2.2.2.2.2.2.2.2.2.1
theorem dX1_join_107 : decode cX1_join 107 = .ok (.iaload, 1) := DX1_join.2.2.2.2.2.2.2.2.2.2.2.2.2.2.2.2.2.2.2.2.2.2.2.2.2.2.2.2.2.2.2.2.2.2.2.2.2.2.2.2.2.2.2.2.2.2.2.2.2.2.2.2.2.2.2.2.2.2.2.2.2.2.2.2.2.2.2.2.2.2.2.2.1
theorem dX1_join_108 : decode cX1_join 108 = .ok (.aload_n 0, 1) := DX1_join.2.2.2.2.2.2.2.2.2.2.2.2.2.2.2.2.2.2.2.2.2.2.2.2.2.2.2.2.2.2.2.2.2.2.2.2.2.2.2.2.2.2.2.2.2.2.2.2.2.2.2.2.2.2.2.2.2.2.2.2.2.2.2.2.2.2.2.2.2.2.2.2.2.1
theorem dX1_join_109 : decode cX1_join 109 = .ok (.getfield 23, 3) := DX1_join.2.2.2.2.2.2.2.2.2.2.2.2.2.2.2.2.2.2.2.2.2.2.2.2.2.2.2.2.2.2.2.2.2.2.2.2.2.2.2.2.2.2.2.2.2.2.2.2.2.2.2.2.2.2.2.2.2.2.2.2.2.2.2.2.2.2.2.2.2.2.2.2.2.2.1
theorem dX1_join_112 : decode cX1_join 112 = .ok (.iload_n 1, 1) := DX1_join.2.2.2.2.2.2.2.2.2.2.2.2.2.2.2.2.2.2.2.2.2.2.2.2.2.2.2.2.2.2.2.2.2.2.2.2.2.2.2.2.2.2.2.2.2.2.2.2.2.2.2.2.2.2.2.2.2.2.2.2.2.2.2.2.2.2.2.2.2.2.2.2.2.2.2.1
theorem dX1_join_113 : decode cX1_join 113 = .ok (.iaload, 1) := DX1_join.2.2.2.2.2.2.2.2.2.2.2.2.2.2.2.2.2.2.2.2.2.2.2.2.2.2.2.2.2.2.2.2.2.2.2.2.2.2.2.2.2.2.2.2.2.2.2.2.2.2.2.2.2.2.2.2.2.2.2.2.2.2.2.2.2.2.2.2.2.2.2.2.2.2.2.2.1
theorem dX1_join_114 : decode cX1_join 114 = .ok (.invokevirtual 136, 3) := DX1_join.2.2.2.2.2.2.2.2.2.2.2.2.2.2.2.2.2.2.2.2.2.2.2.2.2.2.2.2.2.2.2.2.2.2.2.2.2.2.2.2.2.2.2.2.2.2.2.2.2.2.2.2.2.2.2.2.2.2.2.2.2.2.2.2.2.2.2.2.2.2.2.2.2.2.2.2.2.1
theorem dX1_join_117 : decode cX1_join 117 = .ok (.invokespecial 140, 3) := DX1_join.2.2.2.2.2.2.2.2.2.2.2.2.2.2.2.2.2.2.2.2.2.2.2.2.2.2.2.2.2.2.2.2.2.2.2.2.2.2.2.2.2.2.2.2.2.2.2.2.2.2.2.2.2.2.2.2.2.2.2.2.2.2.2.2.2.2.2.2.2.2.2.2.2.2.2.2.2.2.1
theorem dX1_join_120 : decode cX1_join 120 = .ok (.dup_x2, 1) := DX1_join.2.2.2.2.2.2.2.2.2.2.2.2.2.2.2.2.2.2.2.2.2.2.2.2.2.2.2.2.2.2.2.2.2.2.2.2.2.2.2.2.2.2.2.2.2.2.2.2.2.2.2.2.2.2.2.2.2.2.2.2.2.2.2.2.2.2.2.2.2.2.2.2.2.2.2.2.2.2.2.1
theorem dX1_join_121 : decode cX1_join 121 = .ok (.aastore, 1) := DX1_join.2.2.2.2.2.2.2.2.2.2.2.2.2.2.2.2.2.2.2.2.2.2.2.2.2.2.2.2.2.2.2.2.2.2.2.2.2.2.2.2.2.2.2.2.2.2.2.2.2.2.2.2.2.2.2.2.2.2.2.2.2.2.2.2.2.2.2.2.2.2.2.2.2.2.2.2.2.2.2.2.1
theorem dX1_join_122 : decode cX1_join 122 = .ok (.astore_n 3, 1) := DX1_join.2.2.2.2.2.2.2.2.2.2.2.2.2.2.2.2.2.2.2.2.2.2.2.2.2.2.2.2.2.2.2.2.2.2.2.2.2.2.2.2.2.2.2.2.2.2.2.2.2.2.2.2.2.2.2.2.2.2.2.2.2.2.2.2.2.2.2.2.2.2.2.2.2.2.2.2.2.2.2.2.2.1
theorem dX1_join_123 : decode cX1_join 123 = .ok (.aload_n 2, 1) := DX1_join.2.2.2.2.2.2.2.2.2.2.2.2.2.2.2.2.2.2.2.2.2.2.2.2.2.2.2.2.2.2.2.2.2.2.2.2.2.2.2.2.2.2.2.2.2.2.2.2.2.2.2.2.2.2.2.2.2.2.2.2.2.2.2.2.2.2.2.2.2.2.2.2.2.2.2.2.2.2.2.2.2.2.1
theorem dX1_join_124 : decode cX1_join 124 = .ok (.aload_n 3, 1) := DX1_join.2.2.2.2.2.2.2.2.2.2.2.2.2.2.2.2.2.2.2.2.2.2.2.2.2.2.2.2.2.2.2.2.2.2.2.2.2.2.2.2.2.2.2.2.2.2.2.2.2.2.2.2.2.2.2.2.2.2.2.2.2.2.2.2.2.2.2.2.2.2.2.2.2.2.2.2.2.2.2.2.2.2.2.1
theorem dX1_join_125 : decode cX1_join 125 = .ok (.putfield 143, 3) := DX1_join.2.2.2.2.2.2.2.2.2.2.2.2.2.2.2.2.2.2.2.2.2.2.2.2.2.2.2.2.2.2.2.2.2.2.2.2.2.2.2.2.2.2.2.2.2.2.2.2.2.2.2.2.2.2.2.2.2.2.2.2.2.2.2.2.2.2.2.2.2.2.2.2.2.2.2.2.2.2.2.2.2.2.2.2.1
theorem dX1_join_128 : decode cX1_join 128 = .ok (.aload_n 3, 1) := DX1_join.2.2.2.2.2.2.2.2.2.2.2.2.2.2.2.2.2.2.2.2.2.2.2.2.2.2.2.2.2.2.2.2.2.2.2.2.2.2.2.2.2.2.2.2.2.2.2.2.2.2.2.2.2.2.2.2.2.2.2.2.2.2.2.2.2.2.2.2.2.2.2.2.2.2.2.2.2.2.2.2.2.2.2.2.2.1
theorem dX1_join_129 : decode cX1_join 129 = .ok (.aload_n 2, 1) := DX1_join.2.2.2.2.2.2.2.2.2.2.2.2.2.2.2.2.2.2.2.2.2.2.2.2.2.2.2.2.2.2.2.2.2.2.2.2.2.2.2.2.2.2.2.2.2.2.2.2.2.2.2.2.2.2.2.2.2.2.2.2.2.2.2.2.2.2.2.2.2.2.2.2.2.2.2.2.2.2.2.2.2.2.2.2.2.2.1
theorem dX1_join_130 : decode cX1_join 130 = .ok (.putfield 143, 3) := DX1_join.2.2.2.2.2.2.2.2.2.2.2.2.2.2.2.2.2.2.2.2.2.2.2.2.2.2.2.2.2.2.2.2.2.2.2.2.2.2.2.2.2.2.2.2.2.2.2.2.2.2.2.2.2.2.2.2.2.2.2.2.2.2.2.2.2.2.2.2.2.2.2.2.2.2.2.2.2.2.2.2.2.2.2.2.2.2.2.1
theorem dX1_join_133 : decode cX1_join 133 = .ok (.aload_n 2, 1) := DX1_join.2.2.2.2.2.2.2.2.2.2.2.2.2.2.2.2.2.2.2.2.2.2.2.2.2.2.2.2.2.2.2.2.2.2.2.2.2.2.2.2.2.2.2.2.2.2.2.2.2.2.2.2.2.2.2.2.2.2.2.2.2.2.2.2.2.2.2.2.2.2.2.2.2.2.2.2.2.2.2.2.2.2.2.2.2.2.2.2.1
theorem dX1_join_134 : decode cX1_join 134 = .ok (.getfield 147, 3) := DX1_join.2.2.2.2.2.2.2.2.2.2.2.2.2.2.2.2.2.2.2.2.2.2.2.2.2.2.2.2.2.2.2.2.2.2.2.2.2.2.2.2.2.2.2.2.2.2.2.2.2.2.2.2.2.2.2.2.2.2.2.2.2.2.2.2.2.2.2.2.2.2.2.2.2.2.2.2.2.2.2.2.2.2.2.2.2.2.2.2.2.1
theorem dX1_join_137 : decode cX1_join 137 = .ok (.aload_n 2, 1) := DX1_join.2.2.2.2.2.2.2.2.2.2.2.2.2.2.2.2.2.2.2.2.2.2.2.2.2.2.2.2.2.2.2.2.2.2.2.2.2.2.2.2.2.2.2.2.2.2.2.2.2.2.2.2.2.2.2.2.2.2.2.2.2.2.2.2.2.2.2.2.2.2.2.2.2.2.2.2.2.2.2.2.2.2.2.2.2.2.2.2.2.2.1
theorem dX1_join_138 : decode cX1_join 138 = .ok (.invokevirtual 151, 3) := DX1_join.2.2.2.2.2.2.2.2.2.2.2.2.2.2.2.2.2.2.2.2.2.2.2.2.2.2.2.2.2.2.2.2.2.2.2.2.2.2.2.2.2.2.2.2.2.2.2.2.2.2.2.2.2.2.2.2.2.2.2.2.2.2.2.2.2.2.2.2.2.2.2.2.2.2.2.2.2.2.2.2.2.2.2.2.2.2.2.2.2.2.2.1
theorem dX1_join_141 : decode cX1_join 141 = .ok (.aload_n 3, 1) := DX1_join.2.2.2.2.2.2.2.2.2.2.2.2.2.2.2.2.2.2.2.2.2.2.2.2.2.2.2.2.2.2.2.2.2.2.2.2.2.2.2.2.2.2.2.2.2.2.2.2.2.2.2.2.2.2.2.2.2.2.2.2.2.2.2.2.2.2.2.2.2.2.2.2.2.2.2.2.2.2.2.2.2.2.2.2.2.2.2.2.2.2.2.2.1
theorem dX1_join_142 : decode cX1_join 142 = .ok (.getfield 147, 3) := DX1_join.2.2.2.2.2.2.2.2.2.2.2.2.2.2.2.2.2.2.2.2.2.2.2.2.2.2.2.2.2.2.2.2.2.2.2.2.2.2.2.2.2.2.2.2.2.2.2.2.2.2.2.2.2.2.2.2.2.2.2.2.2.2.2.2.2.2.2.2.2.2.2.2.2.2.2.2.2.2.2.2.2.2.2.2.2.2.2.2.2.2.2.2.2.1
theorem dX1_join_145 : decode cX1_join 145 = .ok (.aload_n 3, 1) := DX1_join.2.2.2.2.2.2.2.2.2.2.2.2.2.2.2.2.2.2.2.2.2.2.2.2.2.2.2.2.2.2.2.2.2.2.2.2.2.2.2.2.2.2.2.2.2.2.2.2.2.2.2.2.2.2.2.2.2.2.2.2.2.2.2.2.2.2.2.2.2.2.2.2.2.2.2.2.2.2.2.2.2.2.2.2.2.2.2.2.2.2.2.2.2.2.1
theorem dX1_join_146 : decode cX1_join 146 = .ok (.invokevirtual 151, 3) := DX1_join.2.2.2.2.2.2.2.2.2.2.2.2.2.2.2.2.2.2.2.2.2.2.2.2.2.2.2.2.2.2.2.2.2.2.2.2.2.2.2.2.2.2.2.2.2.2.2.2.2.2.2.2.2.2.2.2.2.2.2.2.2.2.2.2.2.2.2.2.2.2.2.2.2.2.2.2.2.2.2.2.2.2.2.2.2.2.2.2.2.2.2.2.2.2.2.1
theorem dX1_join_149 : decode cX1_join 149 = .ok (.iinc 1 1, 3) := DX1_join.2.2.2.2.2.2.2.2.2.2.2.2.2.2.2.2.2.2.2.2.2.2.2.2.2.2.2.2.2.2.2.2.2.2.2.2.2.2.2.2.2.2.2.2.2.2.2.2.2.2.2.2.2.2.2.2.2.2.2.2.2.2.2.2.2.2.2.2.2.2.2.2.2.2.2.2.2.2.2.2.2.2.2.2.2.2.2.2.2.2.2.2.2.2.2.2.1
theorem dX1_join_152 : decode cX1_join 152 = .ok (.goto (-143), 3) := DX1_join.2.2.2.2.2.2.2.2.2.2.2.2.2.2.2.2.2.2.2.2.2.2.2.2.2.2.2.2.2.2.2.2.2.2.2.2.2.2.2.2.2.2.2.2.2.2.2.2.2.2.2.2.2.2.2.2.2.2.2.2.2.2.2.2.2.2.2.2.2.2.2.2.2.2.2.2.2.2.2.2.2.2.2.2.2.2.2.2.2.2.2.2.2.2.2.2.2.1
theorem dX1_join_155 : decode cX1_join 155 = .ok (.iconst 0, 1) := DX1_join.2.2.2.2.2.2.2.2.2.2.2.2.2.2.2.2.2.2.2.2.2.2.2.2.2.2.2.2.2.2.2.2.2.2.2.2.2.2.2.2.2.2.2.2.2.2.2.2.2.2.2.2.2.2.2.2.2.2.2.2.2.2.2.2.2.2.2.2.2.2.2.2.2.2.2.2.2.2.2.2.2.2.2.2.2.2.2.2.2.2.2.2.2.2.2.2.2.2.1
theorem dX1_join_156 : decode cX1_join 156 = .ok (.istore_n 1, 1) := DX1_join.2.2.2.2.2.2.2.2.2.2.2.2.2.2.2.2.2.2.2.2.2.2.2.2.2.2.2.2.2.2.2.2.2.2.2.2.2.2.2.2.2.2.2.2.2.2.2.2.2.2.2.2.2.2.2.2.2.2.2.2.2.2.2.2.2.2.2.2.2.2.2.2.2.2.2.2.2.2.2.2.2.2.2.2.2.2.2.2.2.2.2.2.2.2.2.2.2.2.2.1
theorem dX1_join_157 : decode cX1_join 157 = .ok (.iload_n 1, 1) := DX1_join.2.2.2.2.2.2.2.2.2.2.2.2.2.2.2.2.2.2.2.2.2.2.2.2.2.2.2.2.2.2.2.2.2.2.2.2.2.2.2.2.2.2.2.2.2.2.2.2.2.2.2.2.2.2.2.2.2.2.2.2.2.2.2.2.2.2.2.2.2.2.2.2.2.2.2.2.2.2.2.2.2.2.2.2.2.2.2.2.2.2.2.2.2.2.2.2.2.2.2.2.1
theorem dX1_join_158 : decode cX1_join 158 = .ok (.aload_n 0, 1) := DX1_join.2.2.2.2.2.2.2.2.2.2.2.2.2.2.2.2.2.2.2.2.2.2.2.2.2.2.2.2.2.2.2.2.2.2.2.2.2.2.2.2.2.2.2.2.2.2.2.2.2.2.2.2.2.2.2.2.2.2.2.2.2.2.2.2.2.2.2.2.2.2.2.2.2.2.2.2.2.2.2.2.2.2.2.2.2.2.2.2.2.2.2.2.2.2.2.2.2.2.2.2.2.1
theorem dX1_join_159 : decode cX1_join 159 = .ok (.getfield 29, 3) := DX1_join.2.2.2.2.2.2.2.2.2.2.2.2.2.2.2.2.2.2.2.2.2.2.2.2.2.2.2.2.2.2.2.2.2.2.2.2.2.2.2.2.2.2.2.2.2.2.2.2.2.2.2.2.2.2.2.2.2.2.2.2.2.2.2.2.2.2.2.2.2.2.2.2.2.2.2.2.2.2.2.2.2.2.2.2.2.2.2.2.2.2.2.2.2.2.2.2.2.2.2.2.2.2.1
theorem dX1_join_162 : decode cX1_join 162 = .ok (.invokevirtual 110, 3) := DX1_join.2.2.2.2.2.2.2.2.2.2.2.2.2.2.2.2.2.2.2.2.2.2.2.2.2.2.2.2.2.2.2.2.2.2.2.2.2.2.2.2.2.2.2.2.2.2.2.2.2.2.2.2.2.2.2.2.2.2.2.2.2.2.2.2.2.2.2.2.2.2.2.2.2.2.2.2.2.2.2.2.2.2.2.2.2.2.2.2.2.2.2.2.2.2.2.2.2.2.2.2.2.2.2.1
theorem dX1_join_165 : decode cX1_join 165 = .ok (.if_icmp .ge 74, 3) := DX1_join.2.2.2.2.2.2.2.2.2.2.2.2.2.2.2.2.2.2.2.2.2.2.2.2.2.2.2.2.2.2.2.2.2.2.2.2.2.2.2.2.2.2.2.2.2.2.2.2.2.2.2.2.2.2.2.2.2.2.2.2.2.2.2.2.2.2.2.2.2.2.2.2.2.2.2.2.2.2.2.2.2.2.2.2.2.2.2.2.2.2.2.2.2.2.2.2.2.2.2.2.2.2.2.2.1
theorem dX1_join_168 : decode cX1_join 168 = .ok (.aload_n 0, 1) := DX1_join.2.2.2.2.2.2.2.2.2.2.2.2.2.2.2.2.2.2.2.2.2.2.2.2.2.2.2.2.2.2.2.2.2.2.2.2.2.2.2.2.2.2.2.2.2.2.2.2.2.2.2.2.2.2.2.2.2.2.2.2.2.2.2.2.2.2.2.2.2.2.2.2.2.2.2.2.2.2.2.2.2.2.2.2.2.2.2.2.2.2.2.2.2.2.2.2.2.2.2.2.2.2.2.2.2.1
theorem dX1_join_169 : decode cX1_join 169 = .ok (.getfield 29, 3) := DX1_join.2.2.2.2.2.2.2.2.2.2.2.2.2.2.2.2.2.2.2.2.2.2.2.2.2.2.2.2.2.2.2.2.2.2.2.2.2.2.2.2.2.2.2.2.2.2.2.2.2.2.2.2.2.2.2.2.2.2.2.2.2.2.2.2.2.2.2.2.2.2.2.2.2.2.2.2.2.2.2.2.2.2.2.2.2.2.2.2.2.2.2.2.2.2.2.2.2.2.2.2.2.2.2.2.2.2.1
theorem dX1_join_172 : decode cX1_join 172 = .ok (.iload_n 1, 1) := DX1_join.2.2.2.2.2.2.2.2.2.2.2.2.2.2.2.2.2.2.2.2.2.2.2.2.2.2.2.2.2.2.2.2.2.2.2.2.2.2.2.2.2.2.2.2.2.2.2.2.2.2.2.2.2.2.2.2.2.2.2.2.2.2.2.2.2.2.2.2.2.2.2.2.2.2.2.2.2.2.2.2.2.2.2.2.2.2.2.2.2.2.2.2.2.2.2.2.2.2.2.2.2.2.2.2.2.2.2.1
theorem dX1_join_173 : decode cX1_join 173 = .ok (.invokevirtual 114, 3) := DX1_join.2.2.2.2.2.2.2.2.2.2.2.2.2.2.2.2.2.2.2.2.2.2.2.2.2.2.2.2.2.2.2.2.2.2.2.2.2.2.2.2.2.2.2.2.2.2.2.2.2.2.2.2.2.2.2.2.2.2.2.2.2.2.2.2.2.2.2.2.2.2.2.2.2.2.2.2.2.2.2.2.2.2.2.2.2.2.2.2.2.2.2.2.2.2.2.2.2.2.2.2.2.2.2.2.2.2.2.2.1
theorem dX1_join_176 : decode cX1_join 176 = .ok (.checkcast 118, 3) := DX1_join.2.2.2.2.2.2.2.2.2.2.2.2.2.2.2.2.2.2.2.2.2.2.2.2.2.2.2.2.2.2.2.2.2.2.2.2.2.2.2.2.2.2.2.2.2.2.2.2.2.2.2.2.2.2.2.2.2.2.2.2.2.2.2.2.2.2.2.2.2.2.2.2.2.2.2.2.2.2.2.2.2.2.2.2.2.2.2.2.2.2.2.2.2.2.2.2.2.2.2.2.2.2.2.2.2.2.2.2.2
theorem dX1_join_179 : decode cX1_join 179 = .ok (.getfield 155, 3) := DX1_join_2.1
theorem dX1_join_182 : decode cX1_join 182 = .ok (.astore_n 2, 1) := DX1_join_2.2.1
theorem dX1_join_183 : decode cX1_join 183 = .ok (.aload_n 2, 1) := DX1_join_2.2.2.1
theorem dX1_join_184 : decode cX1_join 184 = .ok (.invokevirtual 110, 3) := DX1_join_2.2.2.2.1
theorem dX1_join_187 : decode cX1_join 187 = .ok (.istore_n 3, 1) := DX1_join_2.2.2.2.2.1
theorem dX1_join_188 : decode cX1_join 188 = .ok (.iconst 0, 1) := DX1_join_2.2.2.2.2.2.1
theorem dX1_join_189 : decode cX1_join 189 = .ok (.istore 4, 2) := DX1_join_2.2.2.2.2.2.2.1
theorem dX1_join_191 : decode cX1_join 191 = .ok (.iload 4, 2) := DX1_join_2.2.2.2.2.2.2.2.1
theorem dX1_join_193 : decode cX1_join 193 = .ok (.iload_n 3, 1) := DX1_join_2.2.2.2.2.2.2.2.2.1
theorem dX1_join_194 : decode cX1_join 194 = .ok (.if_icmp .ge 39, 3) := DX1_join_2.2.2.2.2.2.2.2.2.2.1
theorem dX1_join_197 : decode cX1_join 197 = .ok (.aload_n 2, 1) := DX1_join_2.2.2.2.2.2.2.2.2.2.2.1
theorem dX1_join_198 : decode cX1_join 198 = .ok (.iload 4, 2) := DX1_join_2.2.2.2.2.2.2.2.2.2.2.2.1
theorem dX1_join_200 : decode cX1_join 200 = .ok (.invokevirtual 114, 3) := DX1_join_2.2.2.2.2.2.2.2.2.2.2.2.2.1
theorem dX1_join_203 : decode cX1_join 203 = .ok (.checkcast 33, 3) := DX1_join_2.2.2.2.2.2.2.2.2.2.2.2.2.2.1
theorem dX1_join_206 : decode cX1_join 206 = .ok (.getfield 143, 3) := DX1_join_2.2.2.2.2.2.2.2.2.2.2.2.2.2.2.1
theorem dX1_join_209 : decode cX1_join 209 = .ok (.aload_n 2, 1) := DX1_join_2.2.2.2.2.2.2.2.2.2.2.2.2.2.2.2.1
theorem dX1_join_210 : decode cX1_join 210 = .ok (.iload 4, 2) := DX1_join_2.2.2.2.2.2.2.2.2.2.2.2.2.2.2.2.2.1
theorem dX1_join_212 : decode cX1_join 212 = .ok (.iload_n 3, 1) := DX1_join_2.2.2.2.2.2.2.2.2.2.2.2.2.2.2.2.2.2.1
theorem dX1_join_213 : decode cX1_join 213 = .ok (.iadd, 1) := DX1_join_2.2.2.2.2.2.2.2.2.2.2.2.2.2.2.2.2.2.2.1
theorem dX1_join_214 : decode cX1_join 214 = .ok (.iconst 1, 1) := DX1_join_2.2.2.2.2.2.2.2.2.2.2.2.2.2.2.2.2.2.2.2.1
theorem dX1_join_215 : decode cX1_join 215 = .ok (.isub, 1) := DX1_join_2.2.2.2.2.2.2.2.2.2.2.2.2.2.2.2.2.2.2.2.2.1
theorem dX1_join_216 : decode cX1_join 216 = .ok (.iload_n 3, 1) := DX1_join_2.2.2.2.2.2.2.2.2.2.2.2.2.2.2.2.2.2.2.2.2.2.1
theorem dX1_join_217 : decode cX1_join 217 = .ok (.irem, 1) := DX1_join_2.2.2.2.2.2.2.2.2.2.2.2.2.2.2.2.2.2.2.2.2.2.2.1
theorem dX1_join_218 : decode cX1_join 218 = .ok (.invokevirtual 114, 3) := DX1_join_2.2.2.2.2.2.2.2.2.2.2.2.2.2.2.2.2.2.2.2.2.2.2.2.1
theorem dX1_join_221 : decode cX1_join 221 = .ok (.checkcast 33, 3) := DX1_join_2.2.2.2.2.2.2.2.2.2.2.2.2.2.2.2.2.2.2.2.2.2.2.2.2.1
theorem dX1_join_224 : decode cX1_join 224 = .ok (.putfield 157, 3) := DX1_join_2.2.2.2.2.2.2.2.2.2.2.2.2.2.2.2.2.2.2.2.2.2.2.2.2.2.1
theorem dX1_join_227 : decode cX1_join 227 = .ok (.iinc 4 1, 3) := DX1_join_2.2.2.2.2.2.2.2.2.2.2.2.2.2.2.2.2.2.2.2.2.2.2.2.2.2.2.1
theorem dX1_join_230 : decode cX1_join 230 = .ok (.goto (-39), 3) := DX1_join_2.2.2.2.2.2.2.2.2.2.2.2.2.2.2.2.2.2.2.2.2.2.2.2.2.2.2.2.1
theorem dX1_join_233 : decode cX1_join 233 = .ok (.iinc 1 1, 3) := DX1_join_2.2.2.2.2.2.2.2.2.2.2.2.2.2.2.2.2.2.2.2.2.2.2.2.2.2.2.2.2.1
theorem dX1_join_236 : decode cX1_join 236 = .ok (.goto (-79), 3) := DX1_join_2.2.2.2.2.2.2.2.2.2.2.2.2.2.2.2.2.2.2.2.2.2.2.2.2.2.2.2.2.2.1
theorem dX1_join_239 : decode cX1_join 239 = .ok (.return_, 1) := DX1_join_2.2.2.2.2.2.2.2.2.2.2.2.2.2.2.2.2.2.2.2.2.2.2.2.2.2.2.2.2.2.2
theorem dX1_node_0 : decode cX1_node 0 = .ok (.iconst 0, 1) := DX1_node.1
theorem dX1_node_1 : decode cX1_node 1 = .ok (.istore_n 3, 1) := DX1_node.2.1
theorem dX1_node_2 : decode cX1_node 2 = .ok (.iload_n 3, 1) := DX1_node.2.2.1
theorem dX1_node_3 : decode cX1_node 3 = .ok (.aload_n 0, 1) := DX1_node.2.2.2.1
theorem dX1_node_4 : decode cX1_node 4 = .ok (.getfield 29, 3) := DX1_node.2.2.2.2.1
theorem dX1_node_7 : decode cX1_node 7 = .ok (.invokevirtual 110, 3) := DX1_node.2.2.2.2.2.1
theorem dX1_node_10 : decode cX1_node 10 = .ok (.if_icmp .ge 57, 3) := DX1_node.2.2.2.2.2.2.1
theorem dX1_node_13 : decode cX1_node 13 = .ok (.aload_n 0, 1) := DX1_node.2.2.2.2.2.2.2.1
theorem dX1_node_14 : decode cX1_node 14 = .ok (.getfield 29, 3) := DX1_node.2.2.2.2.2.2.2.2.1
theorem dX1_node_17 : decode cX1_node 17 = .ok (.iload_n 3, 1) := DX1_node.2.2.2.2.2.2.2.2.2.1
theorem dX1_node_18 : decode cX1_node 18 = .ok (.invokevirtual 114, 3) := DX1_node.2.2.2.2.2.2.2.2.2.2.1
theorem dX1_node_21 : decode cX1_node 21 = .ok (.checkcast 118, 3) := DX1_node.2.2.2.2.2.2.2.2.2.2.2.1
theorem dX1_node_24 : decode cX1_node 24 = .ok (.getfield 120, 3) := DX1_node.2.2.2.2.2.2.2.2.2.2.2.2.1
theorem dX1_node_27 : decode cX1_node 27 = .ok (.iload_n 1, 1) := DX1_node.2.2.2.2.2.2.2.2.2.2.2.2.2.1
theorem dX1_node_28 : decode cX1_node 28 = .ok (.if_icmp .ne 33, 3) := DX1_node.2.2.2.2.2.2.2.2.2.2.2.2.2.2.1
theorem dX1_node_31 : decode cX1_node 31 = .ok (.aload_n 0, 1) := DX1_node.2.2.2.2.2.2.2.2.2.2.2.2.2.2.2.1
theorem dX1_node_32 : decode cX1_node 32 = .ok (.getfield 29, 3) := DX1_node.2.2.2.2.2.2.2.2.2.2.2.2.2.2.2.2.1
theorem dX1_node_35 : decode cX1_node 35 = .ok (.iload_n 3, 1) := DX1_node.2.2.2.2.2.2.2.2.2.2.2.2.2.2.2.2.2.1
theorem dX1_node_36 : decode cX1_node 36 = .ok (.invokevirtual 114, 3) := DX1_node.2.2.2.2.2.2.2.2.2.2.2.2.2.2.2.2.2.2.1
theorem dX1_node_39 : decode cX1_node 39 = .ok (.checkcast 118, 3) := DX1_node.2.2.2.2.2.2.2.2.2.2.2.2.2.2.2.2.2.2.2.1
theorem dX1_node_42 : decode cX1_node 42 = .ok (.getfield 123, 3) := DX1_node.2.2.2.2.2.2.2.2.2.2.2.2.2.2.2.2.2.2.2.2.1
theorem dX1_node_45 : decode cX1_node 45 = .ok (.iload_n 2, 1) := DX1_node.2.2.2.2.2.2.2.2.2.2.2.2.2.2.2.2.2.2.2.2.2.1
theorem dX1_node_46 : decode cX1_node 46 = .ok (.if_icmp .ne 15, 3) := DX1_node.2.2.2.2.2.2.2.2.2.2.2.2.2.2.2.2.2.2.2.2.2.2.1
theorem dX1_node_49 : decode cX1_node 49 = .ok (.aload_n 0, 1) := DX1_node.2.2.2.2.2.2.2.2.2.2.2.2.2.2.2.2.2.2.2.2.2.2.2.1
theorem dX1_node_50 : decode cX1_node 50 = .ok (.getfield 29, 3) := DX1_node.2.2.2.2.2.2.2.2.2.2.2.2.2.2.2.2.2.2.2.2.2.2.2.2.1
theorem dX1_node_53 : decode cX1_node 53 = .ok (.iload_n 3, 1) := DX1_node.2.2.2.2.2.2.2.2.2.2.2.2.2.2.2.2.2.2.2.2.2.2.2.2.2.1
theorem dX1_node_54 : decode cX1_node 54 = .ok (.invokevirtual 114, 3) := DX1_node.2.2.2.2.2.2.2.2.2.2.2.2.2.2.2.2.2.2.2.2.2.2.2.2.2.2.1
theorem dX1_node_57 : decode cX1_node 57 = .ok (.checkcast 118, 3) := DX1_node.2.2.2.2.2.2.2.2.2.2.2.2.2.2.2.2.2.2.2.2.2.2.2.2.2.2.2.1
theorem dX1_node_60 : decode cX1_node 60 = .ok (.areturn, 1) := DX1_node.2.2.2.2.2.2.2.2.2.2.2.2.2.2.2.2.2.2.2.2.2.2.2.2.2.2.2.2.1
theorem dX1_node_61 : decode cX1_node 61 = .ok (.iinc 3 1, 3) := DX1_node.2.2.2.2.2.2.2.2.2.2.2.2.2.2.2.2.2.2.2.2.2.2.2.2.2.2.2.2.2.1
theorem dX1_node_64 : decode cX1_node 64 = .ok (.goto (-62), 3) := DX1_node.2.2.2.2.2.2.2.2.2.2.2.2.2.2.2.2.2.2.2.2.2.2.2.2.2.2.2.2.2.2.1
theorem dX1_node_67 : decode cX1_node 67 = .ok (.new 118, 3) := DX1_node.2.2.2.2.2.2.2.2.2.2.2.2.2.2.2.2.2.2.2.2.2.2.2.2.2.2.2.2.2.2.2.1
theorem dX1_node_70 : decode cX1_node 70 = .ok (.dup, 1) := DX1_node.2.2.2.2.2.2.2.2.2.2.2.2.2.2.2.2.2.2.2.2.2.2.2.2.2.2.2.2.2.2.2.2.1
theorem dX1_node_71 : decode cX1_node 71 = .ok (.iload_n 1, 1) := DX1_node.2.2.2.2.2.2.2.2.2.2.2.2.2.2.2.2.2.2.2.2.2.2.2.2.2.2.2.2.2.2.2.2.2.1
theorem dX1_node_72 : decode cX1_node 72 = .ok (.iload_n 2, 1) := DX1_node.2.2.2.2.2.2.2.2.2.2.2.2.2.2.2.2.2.2.2.2.2.2.2.2.2.2.2.2.2.2.2.2.2.2.1
theorem dX1_node_73 : decode cX1_node 73 = .ok (.invokespecial 126, 3) := DX1_node.2.2.2.2.2.2.2.2.2.2.2.2.2.2.2.2.2.2.2.2.2.2.2.2.2.2.2.2.2.2.2.2.2.2.2.1
theorem dX1_node_76 : decode cX1_node 76 = .ok (.astore_n 3, 1) := DX1_node.2.2.2.2.2.2.2.2.2.2.2.2.2.2.2.2.2.2.2.2.2.2.2.2.2.2.2.2.2.2.2.2.2.2.2.2.1
theorem dX1_node_77 : decode cX1_node 77 = .ok (.aload_n 0, 1) := DX1_node.2.2.2.2.2.2.2.2.2.2.2.2.2.2.2.2.2.2.2.2.2.2.2.2.2.2.2.2.2.2.2.2.2.2.2.2.2.1
theorem dX1_node_78 : decode cX1_node 78 = .ok (.getfield 29, 3) := DX1_node.2.2.2.2.2.2.2.2.2.2.2.2.2.2.2.2.2.2.2.2.2.2.2.2.2.2.2.2.2.2.2.2.2.2.2.2.2.2.1
theorem dX1_node_81 : decode cX1_node 81 = .ok (.aload_n 3, 1) := DX1_node.2.2.2.2.2.2.2.2.2.2.2.2.2.2.2.2.2.2.2.2.2.2.2.2.2.2.2.2.2.2.2.2.2.2.2.2.2.2.2.1
theorem dX1_node_82 : decode cX1_node 82 = .ok (.invokevirtual 129, 3) := DX1_node.2.2.2.2.2.2.2.2.2.2.2.2.2.2.2.2.2.2.2.2.2.2.2.2.2.2.2.2.2.2.2.2.2.2.2.2.2.2.2.2.1
theorem dX1_node_85 : decode cX1_node 85 = .ok (.pop, 1) := DX1_node.2.2.2.2.2.2.2.2.2.2.2.2.2.2.2.2.2.2.2.2.2.2.2.2.2.2.2.2.2.2.2.2.2.2.2.2.2.2.2.2.2.1
theorem dX1_node_86 : decode cX1_node 86 = .ok (.aload_n 3, 1) := DX1_node.2.2.2.2.2.2.2.2.2.2.2.2.2.2.2.2.2.2.2.2.2.2.2.2.2.2.2.2.2.2.2.2.2.2.2.2.2.2.2.2.2.2.1
theorem dX1_node_87 : decode cX1_node 87 = .ok (.areturn, 1) := DX1_node.2.2.2.2.2.2.2.2.2.2.2.2.2.2.2.2.2.2.2.2.2.2.2.2.2.2.2.2.2.2.2.2.2.2.2.2.2.2.2.2.2.2.2
theorem dX1_cross_0 : decode cX1_cross 0 = .ok (.lload_n 0, 1) := DX1_cross.1
theorem dX1_cross_1 : decode cX1_cross 1 = .ok (.lload 6, 2) := DX1_cross.2.1
theorem dX1_cross_3 : decode cX1_cross 3 = .ok (.lmul, 1) := DX1_cross.2.2.1
theorem dX1_cross_4 : decode cX1_cross 4 = .ok (.lload_n 2, 1) := DX1_cross.2.2.2.1
theorem dX1_cross_5 : decode cX1_cross 5 = .ok (.lload 4, 2) := DX1_cross.2.2.2.2.1
theorem dX1_cross_7 : decode cX1_cross 7 = .ok (.lmul, 1) := DX1_cross.2.2.2.2.2.1
theorem dX1_cross_8 : decode cX1_cross 8 = .ok (.lsub, 1) := DX1_cross.2.2.2.2.2.2.1
theorem dX1_cross_9 : decode cX1_cross 9 = .ok (.lreturn, 1) := DX1_cross.2.2.2.2.2.2.2
theorem dX1_goRound_0 : decode cX1_goRound 0 = .ok (.aload_n 0, 1) := DX1_goRound.1
theorem dX1_goRound_1 : decode cX1_goRound 1 = .ok (.getfield 39, 3) := DX1_goRound.2.1
theorem dX1_goRound_4 : decode cX1_goRound 4 = .ok (.invokevirtual 133, 3) := DX1_goRound.2.2.1
theorem dX1_goRound_7 : decode cX1_goRound 7 = .ok (.iconst 0, 1) := DX1_goRound.2.2.2.1
theorem dX1_goRound_8 : decode cX1_goRound 8 = .ok (.istore_n 1, 1) := DX1_goRound.2.2.2.2.1
theorem dX1_goRound_9 : decode cX1_goRound 9 = .ok (.iload_n 1, 1) := DX1_goRound.2.2.2.2.2.1
theorem dX1_goRound_10 : decode cX1_goRound 10 = .ok (.aload_n 0, 1) := DX1_goRound.2.2.2.2.2.2.1
theorem dX1_goRound_11 : decode cX1_goRound 11 = .ok (.getfield 35, 3) := DX1_goRound.2.2.2.2.2.2.2.1
theorem dX1_goRound_14 : decode cX1_goRound 14 = .ok (.arraylength, 1) := DX1_goRound.2.2.2.2.2.2.2.2.1
theorem dX1_goRound_15 : decode cX1_goRound 15 = .ok (.if_icmp .ge 90, 3) := DX1_goRound.2.2.2.2.2.2.2.2.2.1
theorem dX1_goRound_18 : decode cX1_goRound 18 = .ok (.aload_n 0, 1) := DX1_goRound.2.2.2.2.2.2.2.2.2.2.1
theorem dX1_goRound_19 : decode cX1_goRound 19 = .ok (.getfield 35, 3) := DX1_goRound.2.2.2.2.2.2.2.2.2.2.2.1
theorem dX1_goRound_22 : decode cX1_goRound 22 = .ok (.iload_n 1, 1) := DX1_goRound.2.2.2.2.2.2.2.2.2.2.2.2.1
theorem dX1_goRound_23 : decode cX1_goRound 23 = .ok (.aaload, 1) := DX1_goRound.2.2.2.2.2.2.2.2.2.2.2.2.2.1
theorem dX1_goRound_24 : decode cX1_goRound 24 = .ok (.ifnull 75, 3) := DX1_goRound.2.2.2.2.2.2.2.2.2.2.2.2.2.2.1
theorem dX1_goRound_27 : decode cX1_goRound 27 = .ok (.aload_n 0, 1) := DX1_goRound.2.2.2.2.2.2.2.2.2.2.2.2.2.2.2.1
theorem dX1_goRound_28 : decode cX1_goRound 28 = .ok (.getfield 35, 3) := DX1_goRound.2.2.2.2.2.2.2.2.2.2.2.2.2.2.2.2.1
theorem dX1_goRound_31 : decode cX1_goRound 31 = .ok (.iload_n 1, 1) := DX1_goRound.2.2.2.2.2.2.2.2.2.2.2.2.2.2.2.2.2.1
theorem dX1_goRound_32 : decode cX1_goRound 32 = .ok (.aaload, 1) := DX1_goRound.2.2.2.2.2.2.2.2.2.2.2.2.2.2.2.2.2.2.1
theorem dX1_goRound_33 : decode cX1_goRound 33 = .ok (.getfield 160, 3) := DX1_goRound.2.2.2.2.2.2.2.2.2.2.2.2.2.2.2.2.2.2.2.1
theorem dX1_goRound_36 : decode cX1_goRound 36 = .ok (.ifnull 6, 3) := DX1_goRound.2.2.2.2.2.2.2.2.2.2.2.2.2.2.2.2.2.2.2.2.1
theorem dX1_goRound_39 : decode cX1_goRound 39 = .ok (.goto 60, 3) := DX1_goRound.2.2.2.2.2.2.2.2.2.2.2.2.2.2.2.2.2.2.2.2.2.1
theorem dX1_goRound_42 : decode cX1_goRound 42 = .ok (.new 48, 3) := DX1_goRound.2.2.2.2.2.2.2.2.2.2.2.2.2.2.2.2.2.2.2.2.2.2.1
theorem dX1_goRound_45 : decode cX1_goRound 45 = .ok (.dup, 1) := DX1_goRound.2.2.2.2.2.2.2.2.2.2.2.2.2.2.2.2.2.2.2.2.2.2.2.1
theorem dX1_goRound_46 : decode cX1_goRound 46 = .ok (.aload_n 0, 1) := DX1_goRound.2.2.2.2.2.2.2.2.2.2.2.2.2.2.2.2.2.2.2.2.2.2.2.2.1
theorem dX1_goRound_47 : decode cX1_goRound 47 = .ok (.getfield 35, 3) := DX1_goRound.2.2.2.2.2.2.2.2.2.2.2.2.2.2.2.2.2.2.2.2.2.2.2.2.2.1
theorem dX1_goRound_50 : decode cX1_goRound 50 = .ok (.iload_n 1, 1) := DX1_goRound.2.2.2.2.2.2.2.2.2.2.2.2.2.2.2.2.2.2.2.2.2.2.2.2.2.2.1
theorem dX1_goRound_51 : decode cX1_goRound 51 = .ok (.aaload, 1) := DX1_goRound.2.2.2.2.2.2.2.2.2.2.2.2.2.2.2.2.2.2.2.2.2.2.2.2.2.2.2.1
theorem dX1_goRound_52 : decode cX1_goRound 52 = .ok (.invokespecial 164, 3) := DX1_goRound.2.2.2.2.2.2.2.2.2.2.2.2.2.2.2.2.2.2.2.2.2.2.2.2.2.2.2.2.1
theorem dX1_goRound_55 : decode cX1_goRound 55 = .ok (.astore_n 2, 1) := DX1_goRound.2.2.2.2.2.2.2.2.2.2.2.2.2.2.2.2.2.2.2.2.2.2.2.2.2.2.2.2.2.1
theorem dX1_goRound_56 : decode cX1_goRound 56 = .ok (.aload_n 2, 1) := DX1_goRound.2.2.2.2.2.2.2.2.2.2.2.2.2.2.2.2.2.2.2.2.2.2.2.2.2.2.2.2.2.2.1
theorem dX1_goRound_57 : decode cX1_goRound 57 = .ok (.invokevirtual 166, 3) := DX1_goRound.2.2.2.2.2.2.2.2.2.2.2.2.2.2.2.2.2.2.2.2.2.2.2.2.2.2.2.2.2.2.2.1
theorem dX1_goRound_60 : decode cX1_goRound 60 = .ok (.astore_n 3, 1) := DX1_goRound.2.2.2.2.2.2.2.2.2.2.2.2.2.2.2.2.2.2.2.2.2.2.2.2.2.2.2.2.2.2.2.2.1
theorem dX1_goRound_61 : decode cX1_goRound 61 = .ok (.aload_n 3, 1) := DX1_goRound.2.2.2.2.2.2.2.2.2.2.2.2.2.2.2.2.2.2.2.2.2.2.2.2.2.2.2.2.2.2.2.2.2.1
theorem dX1_goRound_62 : decode cX1_goRound 62 = .ok (.invokeinterface 170 1, 5) := DX1_goRound.2.2.2.2.2.2.2.2.2.2.2.2.2.2.2.2.2.2.2.2.2.2.2.2.2.2.2.2.2.2.2.2.2.2.1
theorem dX1_goRound_67 : decode cX1_goRound 67 = .ok (.ifCond .eq 23, 3) := DX1_goRound.2.2.2.2.2.2.2.2.2.2.2.2.2.2.2.2.2.2.2.2.2.2.2.2.2.2.2.2.2.2.2.2.2.2.2.1
theorem dX1_goRound_70 : decode cX1_goRound 70 = .ok (.aload_n 3, 1) := DX1_goRound.2.2.2.2.2.2.2.2.2.2.2.2.2.2.2.2.2.2.2.2.2.2.2.2.2.2.2.2.2.2.2.2.2.2.2.2.1
theorem dX1_goRound_71 : decode cX1_goRound 71 = .ok (.invokeinterface 176 1, 5) := DX1_goRound.2.2.2.2.2.2.2.2.2.2.2.2.2.2.2.2.2.2.2.2.2.2.2.2.2.2.2.2.2.2.2.2.2.2.2.2.2.1
theorem dX1_goRound_76 : decode cX1_goRound 76 = .ok (.checkcast 33, 3) := DX1_goRound.2.2.2.2.2.2.2.2.2.2.2.2.2.2.2.2.2.2.2.2.2.2.2.2.2.2.2.2.2.2.2.2.2.2.2.2.2.2.1
theorem dX1_goRound_79 : decode cX1_goRound 79 = .ok (.astore 4, 2) := DX1_goRound.2.2.2.2.2.2.2.2.2.2.2.2.2.2.2.2.2.2.2.2.2.2.2.2.2.2.2.2.2.2.2.2.2.2.2.2.2.2.2.1
theorem dX1_goRound_81 : decode cX1_goRound 81 = .ok (.aload 4, 2) := DX1_goRound.2.2.2.2.2.2.2.2.2.2.2.2.2.2.2.2.2.2.2.2.2.2.2.2.2.2.2.2.2.2.2.2.2.2.2.2.2.2.2.2.1
theorem dX1_goRound_83 : decode cX1_goRound 83 = .ok (.aload_n 2, 1) := DX1_goRound.2.2.2.2.2.2.2.2.2.2.2.2.2.2.2.2.2.2.2.2.2.2.2.2.2.2.2.2.2.2.2.2.2.2.2.2.2.2.2.2.2.1
theorem dX1_goRound_84 : decode cX1_goRound 84 = .ok (.putfield 160, 3) := DX1_goRound.2.2.2.2.2.2.2.2.2.2.2.2.2.2.2.2.2.2.2.2.2.2.2.2.2.2.2.2.2.2.2.2.2.2.2.2.2.2.2.2.2.2.1
theorem dX1_goRound_87 : decode cX1_goRound 87 = .ok (.goto (-26), 3) := DX1_goRound.2.2.2.2.2.2.2.2.2.2.2.2.2.2.2.2.2.2.2.2.2.2.2.2.2.2.2.2.2.2.2.2.2.2.2.2.2.2.2.2.2.2.2.1
theorem dX1_goRound_90 : decode cX1_goRound 90 = .ok (.aload_n 0, 1) := DX1_goRound.2.2.2.2.2.2.2.2.2.2.2.2.2.2.2.2.2.2.2.2.2.2.2.2.2.2.2.2.2.2.2.2.2.2.2.2.2.2.2.2.2.2.2.2.1
theorem dX1_goRound_91 : decode cX1_goRound 91 = .ok (.getfield 39, 3) := DX1_goRound.2.2.2.2.2.2.2.2.2.2.2.2.2.2.2.2.2.2.2.2.2.2.2.2.2.2.2.2.2.2.2.2.2.2.2.2.2.2.2.2.2.2.2.2.2.1
theorem dX1_goRound_94 : decode cX1_goRound 94 = .ok (.aload_n 2, 1) := DX1_goRound.2.2.2.2.2.2.2.2.2.2.2.2.2.2.2.2.2.2.2.2.2.2.2.2.2.2.2.2.2.2.2.2.2.2.2.2.2.2.2.2.2.2.2.2.2.2.1
theorem dX1_goRound_95 : decode cX1_goRound 95 = .ok (.invokevirtual 129, 3) := DX1_goRound.2.2.2.2.2.2.2.2.2.2.2.2.2.2.2.2.2.2.2.2.2.2.2.2.2.2.2.2.2.2.2.2.2.2.2.2.2.2.2.2.2.2.2.2.2.2.2.1
theorem dX1_goRound_98 : decode cX1_goRound 98 = .ok (.pop, 1) := DX1_goRound.2.2.2.2.2.2.2.2.2.2.2.2.2.2.2.2.2.2.2.2.2.2.2.2.2.2.2.2.2.2.2.2.2.2.2.2.2.2.2.2.2.2.2.2.2.2.2.2.1
theorem dX1_goRound_99 : decode cX1_goRound 99 = .ok (.iinc 1 1, 3) := DX1_goRound.2.2.2.2.2.2.2.2.2.2.2.2.2.2.2.2.2.2.2.2.2.2.2.2.2.2.2.2.2.2.2.2.2.2.2.2.2.2.2.2.2.2.2.2.2.2.2.2.2.1
theorem dX1_goRound_102 : decode cX1_goRound 102 = .ok (.goto (-93), 3) := DX1_goRound.2.2.2.2.2.2.2.2.2.2.2.2.2.2.2.2.2.2.2.2.2.2.2.2.2.2.2.2.2.2.2.2.2.2.2.2.2.2.2.2.2.2.2.2.2.2.2.2.2.2.1
theorem dX1_goRound_105 : decode cX1_goRound 105 = .ok (.return_, 1) := DX1_goRound.2.2.2.2.2.2.2.2.2.2.2.2.2.2.2.2.2.2.2.2.2.2.2.2.2.2.2.2.2.2.2.2.2.2.2.2.2.2.2.2.2.2.2.2.2.2.2.2.2.2.2
theorem dX1_findFaces_0 : decode cX1_findFaces 0 = .ok (.aload_n 0, 1) := DX1_findFaces.1
theorem dX1_findFaces_1 : decode cX1_findFaces 1 = .ok (.getfield 42, 3) := DX1_findFaces.2.1
theorem dX1_findFaces_4 : decode cX1_findFaces 4 = .ok (.invokevirtual 133, 3) := DX1_findFaces.2.2.1
theorem dX1_findFaces_7 : decode cX1_findFaces 7 = .ok (.aload_n 0, 1) := DX1_findFaces.2.2.2.1
theorem dX1_findFaces_8 : decode cX1_findFaces 8 = .ok (.getfield 42, 3) := DX1_findFaces.2.2.2.2.1
theorem dX1_findFaces_11 : decode cX1_findFaces 11 = .ok (.new 209, 3) := DX1_findFaces.2.2.2.2.2.1
theorem dX1_findFaces_14 : decode cX1_findFaces 14 = .ok (.dup, 1) := DX1_findFaces.2.2.2.2.2.2.1
theorem dX1_findFaces_15 : decode cX1_findFaces 15 = .ok (.invokespecial 211, 3) := DX1_findFaces.2.2.2.2.2.2.2.1
theorem dX1_findFaces_18 : decode cX1_findFaces 18 = .ok (.invokevirtual 129, 3) := DX1_findFaces.2.2.2.2.2.2.2.2.1
theorem dX1_findFaces_21 : decode cX1_findFaces 21 = .ok (.pop, 1) := DX1_findFaces.2.2.2.2.2.2.2.2.2.1
theorem dX1_findFaces_22 : decode cX1_findFaces 22 = .ok (.iconst 0, 1) := DX1_findFaces.2.2.2.2.2.2.2.2.2.2.1
theorem dX1_findFaces_23 : decode cX1_findFaces 23 = .ok (.istore_n 1, 1) := DX1_findFaces.2.2.2.2.2.2.2.2.2.2.2.1
theorem dX1_findFaces_24 : decode cX1_findFaces 24 = .ok (.iload_n 1, 1) := DX1_findFaces.2.2.2.2.2.2.2.2.2.2.2.2.1
theorem dX1_findFaces_25 : decode cX1_findFaces 25 = .ok (.aload_n 0, 1) := DX1_findFaces.2.2.2.2.2.2.2.2.2.2.2.2.2.1
theorem dX1_findFaces_26 : decode cX1_findFaces 26 = .ok (.getfield 39, 3) := DX1_findFaces.2.2.2.2.2.2.2.2.2.2.2.2.2.2.1
theorem dX1_findFaces_29 : decode cX1_findFaces 29 = .ok (.invokevirtual 110, 3) := DX1_findFaces.2.2.2.2.2.2.2.2.2.2.2.2.2.2.2.1
theorem dX1_findFaces_32 : decode cX1_findFaces 32 = .ok (.if_icmp .ge 63, 3) := DX1_findFaces.2.2.2.2.2.2.2.2.2.2.2.2.2.2.2.2.1
theorem dX1_findFaces_35 : decode cX1_findFaces 35 = .ok (.aload_n 0, 1) := DX1_findFaces.2.2.2.2.2.2.2.2.2.2.2.2.2.2.2.2.2.1
theorem dX1_findFaces_36 : decode cX1_findFaces 36 = .ok (.getfield 39, 3) := DX1_findFaces.2.2.2.2.2.2.2.2.2.2.2.2.2.2.2.2.2.2.1
theorem dX1_findFaces_39 : decode cX1_findFaces 39 = .ok (.iload_n 1, 1) := DX1_findFaces.2.2.2.2.2.2.2.2.2.2.2.2.2.2.2.2.2.2.2.1
theorem dX1_findFaces_40 : decode cX1_findFaces 40 = .ok (.invokevirtual 114, 3) := DX1_findFaces.2.2.2.2.2.2.2.2.2.2.2.2.2.2.2.2.2.2.2.2.1
theorem dX1_findFaces_43 : decode cX1_findFaces 43 = .ok (.checkcast 48, 3) := DX1_findFaces.2.2.2.2.2.2.2.2.2.2.2.2.2.2.2.2.2.2.2.2.2.1
theorem dX1_findFaces_46 : decode cX1_findFaces 46 = .ok (.invokevirtual 212, 3) := DX1_findFaces.2.2.2.2.2.2.2.2.2.2.2.2.2.2.2.2.2.2.2.2.2.2.1
theorem dX1_findFaces_49 : decode cX1_findFaces 49 = .ok (.lconst 0, 1) := DX1_findFaces.2.2.2.2.2.2.2.2.2.2.2.2.2.2.2.2.2.2.2.2.2.2.2.1
theorem dX1_findFaces_50 : decode cX1_findFaces 50 = .ok (.lcmp, 1) := DX1_findFaces.2.2.2.2.2.2.2.2.2.2.2.2.2.2.2.2.2.2.2.2.2.2.2.2.1
theorem dX1_findFaces_51 : decode cX1_findFaces 51 = .ok (.ifCond .gt 6, 3) := DX1_findFaces.2.2.2.2.2.2.2.2.2.2.2.2.2.2.2.2.2.2.2.2.2.2.2.2.2.1
theorem dX1_findFaces_54 : decode cX1_findFaces 54 = .ok (.goto 35, 3) := DX1_findFaces.2.2.2.2.2.2.2.2.2.2.2.2.2.2.2.2.2.2.2.2.2.2.2.2.2.2.1
theorem dX1_findFaces_57 : decode cX1_findFaces 57 = .ok (.new 209, 3) := DX1_findFaces.2.2.2.2.2.2.2.2.2.2.2.2.2.2.2.2.2.2.2.2.2.2.2.2.2.2.2.1
theorem dX1_findFaces_60 : decode cX1_findFaces 60 = .ok (.dup, 1) := DX1_findFaces.2.2.2.2.2.2.2.2.2.2.2.2.2.2.2.2.2.2.2.2.2.2.2.2.2.2.2.2.1
theorem dX1_findFaces_61 : decode cX1_findFaces 61 = .ok (.invokespecial 211, 3) := DX1_findFaces.2.2.2.2.2.2.2.2.2.2.2.2.2.2.2.2.2.2.2.2.2.2.2.2.2.2.2.2.2.1
theorem dX1_findFaces_64 : decode cX1_findFaces 64 = .ok (.astore_n 2, 1) := DX1_findFaces.2.2.2.2.2.2.2.2.2.2.2.2.2.2.2.2.2.2.2.2.2.2.2.2.2.2.2.2.2.2.1
theorem dX1_findFaces_65 : decode cX1_findFaces 65 = .ok (.aload_n 2, 1) := DX1_findFaces.2.2.2.2.2.2.2.2.2.2.2.2.2.2.2.2.2.2.2.2.2.2.2.2.2.2.2.2.2.2.2.1
theorem dX1_findFaces_66 : decode cX1_findFaces 66 = .ok (.aload_n 0, 1) := DX1_findFaces.2.2.2.2.2.2.2.2.2.2.2.2.2.2.2.2.2.2.2.2.2.2.2.2.2.2.2.2.2.2.2.2.1
theorem dX1_findFaces_67 : decode cX1_findFaces 67 = .ok (.getfield 39, 3) := DX1_findFaces.2.2.2.2.2.2.2.2.2.2.2.2.2.2.2.2.2.2.2.2.2.2.2.2.2.2.2.2.2.2.2.2.2.1
theorem dX1_findFaces_70 : decode cX1_findFaces 70 = .ok (.iload_n 1, 1) := DX1_findFaces.2.2.2.2.2.2.2.2.2.2.2.2.2.2.2.2.2.2.2.2.2.2.2.2.2.2.2.2.2.2.2.2.2.2.1
theorem dX1_findFaces_71 : decode cX1_findFaces 71 = .ok (.invokevirtual 114, 3) := DX1_findFaces.2.2.2.2.2.2.2.2.2.2.2.2.2.2.2.2.2.2.2.2.2.2.2.2.2.2.2.2.2.2.2.2.2.2.2.1
theorem dX1_findFaces_74 : decode cX1_findFaces 74 = .ok (.checkcast 48, 3) := DX1_findFaces.2.2.2.2.2.2.2.2.2.2.2.2.2.2.2.2.2.2.2.2.2.2.2.2.2.2.2.2.2.2.2.2.2.2.2.2.1
theorem dX1_findFaces_77 : decode cX1_findFaces 77 = .ok (.invokevirtual 216, 3) := DX1_findFaces.2.2.2.2.2.2.2.2.2.2.2.2.2.2.2.2.2.2.2.2.2.2.2.2.2.2.2.2.2.2.2.2.2.2.2.2.2.1
theorem dX1_findFaces_80 : decode cX1_findFaces 80 = .ok (.aload_n 0, 1) := DX1_findFaces.2.2.2.2.2.2.2.2.2.2.2.2.2.2.2.2.2.2.2.2.2.2.2.2.2.2.2.2.2.2.2.2.2.2.2.2.2.2.1
theorem dX1_findFaces_81 : decode cX1_findFaces 81 = .ok (.getfield 42, 3) := DX1_findFaces.2.2.2.2.2.2.2.2.2.2.2.2.2.2.2.2.2.2.2.2.2.2.2.2.2.2.2.2.2.2.2.2.2.2.2.2.2.2.2.1
theorem dX1_findFaces_84 : decode cX1_findFaces 84 = .ok (.aload_n 2, 1) := DX1_findFaces.2.2.2.2.2.2.2.2.2.2.2.2.2.2.2.2.2.2.2.2.2.2.2.2.2.2.2.2.2.2.2.2.2.2.2.2.2.2.2.2.1
theorem dX1_findFaces_85 : decode cX1_findFaces 85 = .ok (.invokevirtual 129, 3) := DX1_findFaces.2.2.2.2.2.2.2.2.2.2.2.2.2.2.2.2.2.2.2.2.2.2.2.2.2.2.2.2.2.2.2.2.2.2.2.2.2.2.2.2.2.1
theorem dX1_findFaces_88 : decode cX1_findFaces 88 = .ok (.pop, 1) := DX1_findFaces.2.2.2.2.2.2.2.2.2.2.2.2.2.2.2.2.2.2.2.2.2.2.2.2.2.2.2.2.2.2.2.2.2.2.2.2.2.2.2.2.2.2.1
theorem dX1_findFaces_89 : decode cX1_findFaces 89 = .ok (.iinc 1 1, 3) := DX1_findFaces.2.2.2.2.2.2.2.2.2.2.2.2.2.2.2.2.2.2.2.2.2.2.2.2.2.2.2.2.2.2.2.2.2.2.2.2.2.2.2.2.2.2.2.1
theorem dX1_findFaces_92 : decode cX1_findFaces 92 = .ok (.goto (-68), 3) := DX1_findFaces.2.2.2.2.2.2.2.2.2.2.2.2.2.2.2.2.2.2.2.2.2.2.2.2.2.2.2.2.2.2.2.2.2.2.2.2.2.2.2.2.2.2.2.2.1
theorem dX1_findFaces_95 : decode cX1_findFaces 95 = .ok (.new 26, 3) := DX1_findFaces.2.2.2.2.2.2.2.2.2.2.2.2.2.2.2.2.2.2.2.2.2.2.2.2.2.2.2.2.2.2.2.2.2.2.2.2.2.2.2.2.2.2.2.2.2.1
theorem dX1_findFaces_98 : decode cX1_findFaces 98 = .ok (.dup, 1) := DX1_findFaces.2.2.2.2.2.2.2.2.2.2.2.2.2.2.2.2.2.2.2.2.2.2.2.2.2.2.2.2.2.2.2.2.2.2.2.2.2.2.2.2.2.2.2.2.2.2.1
theorem dX1_findFaces_99 : decode cX1_findFaces 99 = .ok (.invokespecial 28, 3) := DX1_findFaces.2.2.2.2.2.2.2.2.2.2.2.2.2.2.2.2.2.2.2.2.2.2.2.2.2.2.2.2.2.2.2.2.2.2.2.2.2.2.2.2.2.2.2.2.2.2.2.1
theorem dX1_findFaces_102 : decode cX1_findFaces 102 = .ok (.astore_n 1, 1) := DX1_findFaces.2.2.2.2.2.2.2.2.2.2.2.2.2.2.2.2.2.2.2.2.2.2.2.2.2.2.2.2.2.2.2.2.2.2.2.2.2.2.2.2.2.2.2.2.2.2.2.2.1
theorem dX1_findFaces_103 : decode cX1_findFaces 103 = .ok (.iconst 0, 1) := DX1_findFaces.2.2.2.2.2.2.2.2.2.2.2.2.2.2.2.2.2.2.2.2.2.2.2.2.2.2.2.2.2.2.2.2.2.2.2.2.2.2.2.2.2.2.2.2.2.2.2.2.2.1
theorem dX1_findFaces_104 : decode cX1_findFaces 104 = .ok (.istore_n 2, 1) := DX1_findFaces.2.2.2.2.2.2.2.2.2.2.2.2.2.2.2.2.2.2.2.2.2.2.2.2.2.2.2.2.2.2.2.2.2.2.2.2.2.2.2.2.2.2.2.2.2.2.2.2.2.2.1
theorem dX1_findFaces_105 : decode cX1_findFaces 105 = .ok (.iload_n 2, 1) := DX1_findFaces.2.2.2.2.2.2.2.2.2.2.2.2.2.2.2.2.2.2.2.2.2.2.2.2.2.2.2.2.2.2.2.2.2.2.2.2.2.2.2.2.2.2.2.2.2.2.2.2.2.2.2.1
theorem dX1_findFaces_106 : decode cX1_findFaces 106 = .ok (.aload_n 0, 1) := DX1_findFaces.2.2.2.2.2.2.2.2.2.2.2.2.2.2.2.2.2.2.2.2.2.2.2.2.2.2.2.2.2.2.2.2.2.2.2.2.2.2.2.2.2.2.2.2.2.2.2.2.2.2.2.2.1
theorem dX1_findFaces_107 : decode cX1_findFaces 107 = .ok (.getfield 39, 3) := DX1_findFaces.2.2.2.2.2.2.2.2.2.2.2.2.2.2.2.2.2.2.2.2.2.2.2.2.2.2.2.2.2.2.2.2.2.2.2.2.2.2.2.2.2.2.2.2.2.2.2.2.2.2.2.2.2.1
theorem dX1_findFaces_110 : decode cX1_findFaces 110 = .ok (.invokevirtual 110, 3) := DX1_findFaces.2.2.2.2.2.2.2.2.2.2.2.2.2.2.2.2.2.2.2.2.2.2.2.2.2.2.2.2.2.2.2.2.2.2.2.2.2.2.2.2.2.2.2.2.2.2.2.2.2.2.2.2.2.2.1
theorem dX1_findFaces_113 : decode cX1_findFaces 113 = .ok (.if_icmp .ge 29, 3) := DX1_findFaces.2.2.2.2.2.2.2.2.2.2.2.2.2.2.2.2.2.2.2.2.2.2.2.2.2.2.2.2.2.2.2.2.2.2.2.2.2.2.2.2.2.2.2.2.2.2.2.2.2.2.2.2.2.2.2.1
theorem dX1_findFaces_116 : decode cX1_findFaces 116 = .ok (.aload_n 1, 1) := DX1_findFaces.2.2.2.2.2.2.2.2.2.2.2.2.2.2.2.2.2.2.2.2.2.2.2.2.2.2.2.2.2.2.2.2.2.2.2.2.2.2.2.2.2.2.2.2.2.2.2.2.2.2.2.2.2.2.2.2.1
theorem dX1_findFaces_117 : decode cX1_findFaces 117 = .ok (.aload_n 0, 1) := DX1_findFaces.2.2.2.2.2.2.2.2.2.2.2.2.2.2.2.2.2.2.2.2.2.2.2.2.2.2.2.2.2.2.2.2.2.2.2.2.2.2.2.2.2.2.2.2.2.2.2.2.2.2.2.2.2.2.2.2.2.1
theorem dX1_findFaces_118 : decode cX1_findFaces 118 = .ok (.aload_n 0, 1) := DX1_findFaces.2.2.2.2.2.2.2.2.2.2.2.2.2.2.2.2.2.2.2.2.2.2.2.2.2.2.2.2.2.2.2.2.2.2.2.2.2.2.2.2.2.2.2.2.2.2.2.2.2.2.2.2.2.2.2.2.2.2.1
theorem dX1_findFaces_119 : decode cX1_findFaces 119 = .ok (.getfield 39, 3) := DX1_findFaces.2.2.2.2.2.2.2.2.2.2.2.2.2.2.2.2.2.2.2.2.2.2.2.2.2.2.2.2.2.2.2.2.2.2.2.2.2.2.2.2.2.2.2.2.2.2.2.2.2.2.2.2.2.2.2.2.2.2.2.1
theorem dX1_findFaces_122 : decode cX1_findFaces 122 = .ok (.iload_n 2, 1) := DX1_findFaces.2.2.2.2.2.2.2.2.2.2.2.2.2.2.2.2.2.2.2.2.2.2.2.2.2.2.2.2.2.2.2.2.2.2.2.2.2.2.2.2.2.2.2.2.2.2.2.2.2.2.2.2.2.2.2.2.2.2.2.2.1
theorem dX1_findFaces_123 : decode cX1_findFaces 123 = .ok (.invokevirtual 114, 3) := DX1_findFaces.2.2.2.2.2.2.2.2.2.2.2.2.2.2.2.2.2.2.2.2.2.2.2.2.2.2.2.2.2.2.2.2.2.2.2.2.2.2.2.2.2.2.2.2.2.2.2.2.2.2.2.2.2.2.2.2.2.2.2.2.2.1
theorem dX1_findFaces_126 : decode cX1_findFaces 126 = .ok (.checkcast 48, 3) := DX1_findFaces.2.2.2.2.2.2.2.2.2.2.2.2.2.2.2.2.2.2.2.2.2.2.2.2.2.2.2.2.2.2.2.2.2.2.2.2.2.2.2.2.2.2.2.2.2.2.2.2.2.2.2.2.2.2.2.2.2.2.2.2.2.2.1
theorem dX1_findFaces_129 : decode cX1_findFaces 129 = .ok (.invokevirtual 219, 3) := DX1_findFaces.2.2.2.2.2.2.2.2.2.2.2.2.2.2.2.2.2.2.2.2.2.2.2.2.2.2.2.2.2.2.2.2.2.2.2.2.2.2.2.2.2.2.2.2.2.2.2.2.2.2.2.2.2.2.2.2.2.2.2.2.2.2.2.1
theorem dX1_findFaces_132 : decode cX1_findFaces 132 = .ok (.invokevirtual 129, 3) := DX1_findFaces.2.2.2.2.2.2.2.2.2.2.2.2.2.2.2.2.2.2.2.2.2.2.2.2.2.2.2.2.2.2.2.2.2.2.2.2.2.2.2.2.2.2.2.2.2.2.2.2.2.2.2.2.2.2.2.2.2.2.2.2.2.2.2.2.1
theorem dX1_findFaces_135 : decode cX1_findFaces 135 = .ok (.pop, 1) := DX1_findFaces.2.2.2.2.2.2.2.2.2.2.2.2.2.2.2.2.2.2.2.2.2.2.2.2.2.2.2.2.2.2.2.2.2.2.2.2.2.2.2.2.2.2.2.2.2.2.2.2.2.2.2.2.2.2.2.2.2.2.2.2.2.2.2.2.2.1
theorem dX1_findFaces_136 : decode cX1_findFaces 136 = .ok (.iinc 2 1, 3) := DX1_findFaces.2.2.2.2.2.2.2.2.2.2.2.2.2.2.2.2.2.2.2.2.2.2.2.2.2.2.2.2.2.2.2.2.2.2.2.2.2.2.2.2.2.2.2.2.2.2.2.2.2.2.2.2.2.2.2.2.2.2.2.2.2.2.2.2.2.2.1
theorem dX1_findFaces_139 : decode cX1_findFaces 139 = .ok (.goto (-34), 3) := DX1_findFaces.2.2.2.2.2.2.2.2.2.2.2.2.2.2.2.2.2.2.2.2.2.2.2.2.2.2.2.2.2.2.2.2.2.2.2.2.2.2.2.2.2.2.2.2.2.2.2.2.2.2.2.2.2.2.2.2.2.2.2.2.2.2.2.2.2.2.2.1
theorem dX1_findFaces_142 : decode cX1_findFaces 142 = .ok (.iconst 0, 1) := DX1_findFaces.2.2.2.2.2.2.2.2.2.2.2.2.2.2.2.2.2.2.2.2.2.2.2.2.2.2.2.2.2.2.2.2.2.2.2.2.2.2.2.2.2.2.2.2.2.2.2.2.2.2.2.2.2.2.2.2.2.2.2.2.2.2.2.2.2.2.2.2.1
theorem dX1_findFaces_143 : decode cX1_findFaces 143 = .ok (.istore_n 2, 1) := DX1_findFaces.2.2.2.2.2.2.2.2.2.2.2.2.2.2.2.2.2.2.2.2.2.2.2.2.2.2.2.2.2.2.2.2.2.2.2.2.2.2.2.2.2.2.2.2.2.2.2.2.2.2.2.2.2.2.2.2.2.2.2.2.2.2.2.2.2.2.2.2.2.1
theorem dX1_findFaces_144 : decode cX1_findFaces 144 = .ok (.iload_n 2, 1) := DX1_findFaces.2.2.2.2.2.2.2.2.2.2.2.2.2.2.2.2.2.2.2.2.2.2.2.2.2.2.2.2.2.2.2.2.2.2.2.2.2.2.2.2.2.2.2.2.2.2.2.2.2.2.2.2.2.2.2.2.2.2.2.2.2.2.2.2.2.2.2.2.2.2.1
theorem dX1_findFaces_145 : decode cX1_findFaces 145 = .ok (.aload_n 0, 1) := DX1_findFaces.2.2.2.2.2.2.2.2.2.2.2.2.2.2.2.2.2.2.2.2.2.2.2.2.2.2.2.2.2.2.2.2.2.2.2.2.2.2.2.2.2.2.2.2.2.2.2.2.2.2.2.2.2.2.2.2.2.2.2.2.2.2.2.2.2.2.2.2.2.2.2.1
theorem dX1_findFaces_146 : decode cX1_findFaces 146 = .ok (.getfield 39, 3) := DX1_findFaces.2.2.2.2.2.2.2.2.2.2.2.2.2.2.2.2.2.2.2.2.2.2.2.2.2.2.2.2.2.2.2.2.2.2.2.2.2.2.2.2.2.2.2.2.2.2.2.2.2.2.2.2.2.2.2.2.2.2.2.2.2.2.2.2.2.2.2.2.2.2.2.2.1
theorem dX1_findFaces_149 : decode cX1_findFaces 149 = .ok (.invokevirtual 110, 3) := DX1_findFaces.2.2.2.2.2.2.2.2.2.2.2.2.2.2.2.2.2.2.2.2.2.2.2.2.2.2.2.2.2.2.2.2.2.2.2.2.2.2.2.2.2.2.2.2.2.2.2.2.2.2.2.2.2.2.2.2.2.2.2.2.2.2.2.2.2.2.2.2.2.2.2.2.2.1
theorem dX1_findFaces_152 : decode cX1_findFaces 152 = .ok (.if_icmp .ge 48, 3) := DX1_findFaces.2.2.2.2.2.2.2.2.2.2.2.2.2.2.2.2.2.2.2.2.2.2.2.2.2.2.2.2.2.2.2.2.2.2.2.2.2.2.2.2.2.2.2.2.2.2.2.2.2.2.2.2.2.2.2.2.2.2.2.2.2.2.2.2.2.2.2.2.2.2.2.2.2.2.1
theorem dX1_findFaces_155 : decode cX1_findFaces 155 = .ok (.aload_n 0, 1) := DX1_findFaces.2.2.2.2.2.2.2.2.2.2.2.2.2.2.2.2.2.2.2.2.2.2.2.2.2.2.2.2.2.2.2.2.2.2.2.2.2.2.2.2.2.2.2.2.2.2.2.2.2.2.2.2.2.2.2.2.2.2.2.2.2.2.2.2.2.2.2.2.2.2.2.2.2.2.2.1
theorem dX1_findFaces_156 : decode cX1_findFaces 156 = .ok (.getfield 39, 3) := DX1_findFaces.2.2.2.2.2.2.2.2.2.2.2.2.2.2.2.2.2.2.2.2.2.2.2.2.2.2.2.2.2.2.2.2.2.2.2.2.2.2.2.2.2.2.2.2.2.2.2.2.2.2.2.2.2.2.2.2.2.2.2.2.2.2.2.2.2.2.2.2.2.2.2.2.2.2.2.2.1
theorem dX1_findFaces_159 : decode cX1_findFaces 159 = .ok (.iload_n 2, 1) := DX1_findFaces.2.2.2.2.2.2.2.2.2.2.2.2.2.2.2.2.2.2.2.2.2.2.2.2.2.2.2.2.2.2.2.2.2.2.2.2.2.2.2.2.2.2.2.2.2.2.2.2.2.2.2.2.2.2.2.2.2.2.2.2.2.2.2.2.2.2.2.2.2.2.2.2.2.2.2.2.2.1
theorem dX1_findFaces_160 : decode cX1_findFaces 160 = .ok (.invokevirtual 114, 3) := DX1_findFaces.2.2.2.2.2.2.2.2.2.2.2.2.2.2.2.2.2.2.2.2.2.2.2.2.2.2.2.2.2.2.2.2.2.2.2.2.2.2.2.2.2.2.2.2.2.2.2.2.2.2.2.2.2.2.2.2.2.2.2.2.2.2.2.2.2.2.2.2.2.2.2.2.2.2.2.2.2.2.1
theorem dX1_findFaces_163 : decode cX1_findFaces 163 = .ok (.checkcast 48, 3) := DX1_findFaces.2.2.2.2.2.2.2.2.2.2.2.2.2.2.2.2.2.2.2.2.2.2.2.2.2.2.2.2.2.2.2.2.2.2.2.2.2.2.2.2.2.2.2.2.2.2.2.2.2.2.2.2.2.2.2.2.2.2.2.2.2.2.2.2.2.2.2.2.2.2.2.2.2.2.2.2.2.2.2.1
theorem dX1_findFaces_166 : decode cX1_findFaces 166 = .ok (.getfield 198, 3) := DX1_findFaces.2.2.2.2.2.2.2.2.2.2.2.2.2.2.2.2.2.2.2.2.2.2.2.2.2.2.2.2.2.2.2.2.2.2.2.2.2.2.2.2.2.2.2.2.2.2.2.2.2.2.2.2.2.2.2.2.2.2.2.2.2.2.2.2.2.2.2.2.2.2.2.2.2.2.2.2.2.2.2.2.1
theorem dX1_findFaces_169 : decode cX1_findFaces 169 = .ok (.ifnonnull 25, 3) := DX1_findFaces.2.2.2.2.2.2.2.2.2.2.2.2.2.2.2.2.2.2.2.2.2.2.2.2.2.2.2.2.2.2.2.2.2.2.2.2.2.2.2.2.2.2.2.2.2.2.2.2.2.2.2.2.2.2.2.2.2.2.2.2.2.2.2.2.2.2.2.2.2.2.2.2.2.2.2.2.2.2.2.2.2.1
theorem dX1_findFaces_172 : decode cX1_findFaces 172 = .ok (.aload_n 1, 1) := DX1_findFaces.2.2.2.2.2.2.2.2.2.2.2.2.2.2.2.2.2.2.2.2.2.2.2.2.2.2.2.2.2.2.2.2.2.2.2.2.2.2.2.2.2.2.2.2.2.2.2.2.2.2.2.2.2.2.2.2.2.2.2.2.2.2.2.2.2.2.2.2.2.2.2.2.2.2.2.2.2.2.2.2.2.2.1
theorem dX1_findFaces_173 : decode cX1_findFaces 173 = .ok (.iload_n 2, 1) := DX1_findFaces.2.2.2.2.2.2.2.2.2.2.2.2.2.2.2.2.2.2.2.2.2.2.2.2.2.2.2.2.2.2.2.2.2.2.2.2.2.2.2.2.2.2.2.2.2.2.2.2.2.2.2.2.2.2.2.2.2.2.2.2.2.2.2.2.2.2.2.2.2.2.2.2.2.2.2.2.2.2.2.2.2.2.2.1
theorem dX1_findFaces_174 : decode cX1_findFaces 174 = .ok (.invokevirtual 114, 3) := DX1_findFaces.2.2.2.2.2.2.2.2.2.2.2.2.2.2.2.2.2.2.2.2.2.2.2.2.2.2.2.2.2.2.2.2.2.2.2.2.2.2.2.2.2.2.2.2.2.2.2.2.2.2.2.2.2.2.2.2.2.2.2.2.2.2.2.2.2.2.2.2.2.2.2.2.2.2.2.2.2.2.2.2.2.2.2.2.1
theorem dX1_findFaces_177 : decode cX1_findFaces 177 = .ok (.checkcast 209, 3) := DX1_findFaces.2.2.2.2.2.2.2.2.2.2.2.2.2.2.2.2.2.2.2.2.2.2.2.2.2.2.2.2.2.2.2.2.2.2.2.2.2.2.2.2.2.2.2.2.2.2.2.2.2.2.2.2.2.2.2.2.2.2.2.2.2.2.2.2.2.2.2.2.2.2.2.2.2.2.2.2.2.2.2.2.2.2.2.2.2.1
theorem dX1_findFaces_180 : decode cX1_findFaces 180 = .ok (.aload_n 0, 1) := DX1_findFaces.2.2.2.2.2.2.2.2.2.2.2.2.2.2.2.2.2.2.2.2.2.2.2.2.2.2.2.2.2.2.2.2.2.2.2.2.2.2.2.2.2.2.2.2.2.2.2.2.2.2.2.2.2.2.2.2.2.2.2.2.2.2.2.2.2.2.2.2.2.2.2.2.2.2.2.2.2.2.2.2.2.2.2.2.2.2.1
theorem dX1_findFaces_181 : decode cX1_findFaces 181 = .ok (.getfield 39, 3) := DX1_findFaces.2.2.2.2.2.2.2.2.2.2.2.2.2.2.2.2.2.2.2.2.2.2.2.2.2.2.2.2.2.2.2.2.2.2.2.2.2.2.2.2.2.2.2.2.2.2.2.2.2.2.2.2.2.2.2.2.2.2.2.2.2.2.2.2.2.2.2.2.2.2.2.2.2.2.2.2.2.2.2.2.2.2.2.2.2.2.2.1
theorem dX1_findFaces_184 : decode cX1_findFaces 184 = .ok (.iload_n 2, 1) := DX1_findFaces.2.2.2.2.2.2.2.2.2.2.2.2.2.2.2.2.2.2.2.2.2.2.2.2.2.2.2.2.2.2.2.2.2.2.2.2.2.2.2.2.2.2.2.2.2.2.2.2.2.2.2.2.2.2.2.2.2.2.2.2.2.2.2.2.2.2.2.2.2.2.2.2.2.2.2.2.2.2.2.2.2.2.2.2.2.2.2.2.1
theorem dX1_findFaces_185 : decode cX1_findFaces 185 = .ok (.invokevirtual 114, 3) := DX1_findFaces.2.2.2.2.2.2.2.2.2.2.2.2.2.2.2.2.2.2.2.2.2.2.2.2.2.2.2.2.2.2.2.2.2.2.2.2.2.2.2.2.2.2.2.2.2.2.2.2.2.2.2.2.2.2.2.2.2.2.2.2.2.2.2.2.2.2.2.2.2.2.2.2.2.2.2.2.2.2.2.2.2.2.2.2.2.2.2.2.2.1
theorem dX1_findFaces_188 : decode cX1_findFaces 188 = .ok (.checkcast 48, 3) := DX1_findFaces.2.2.2.2.2.2.2.2.2.2.2.2.2.2.2.2.2.2.2.2.2.2.2.2.2.2.2.2.2.2.2.2.2.2.2.2.2.2.2.2.2.2.2.2.2.2.2.2.2.2.2.2.2.2.2.2.2.2.2.2.2.2.2.2.2.2.2.2.2.2.2.2.2.2.2.2.2.2.2.2.2.2.2.2.2.2.2.2.2.2.1
theorem dX1_findFaces_191 : decode cX1_findFaces 191 = .ok (.invokevirtual 216, 3) := DX1_findFaces.2.2.2.2.2.2.2.2.2.2.2.2.2.2.2.2.2.2.2.2.2.2.2.2.2.2.2.2.2.2.2.2.2.2.2.2.2.2.2.2.2.2.2.2.2.2.2.2.2.2.2.2.2.2.2.2.2.2.2.2.2.2.2.2.2.2.2.2.2.2.2.2.2.2.2.2.2.2.2.2.2.2.2.2.2.2.2.2.2.2.2.1
theorem dX1_findFaces_194 : decode cX1_findFaces 194 = .ok (.iinc 2 1, 3) := DX1_findFaces.2.2.2.2.2.2.2.2.2.2.2.2.2.2.2.2.2.2.2.2.2.2.2.2.2.2.2.2.2.2.2.2.2.2.2.2.2.2.2.2.2.2.2.2.2.2.2.2.2.2.2.2.2.2.2.2.2.2.2.2.2.2.2.2.2.2.2.2.2.2.2.2.2.2.2.2.2.2.2.2.2.2.2.2.2.2.2.2.2.2.2.2.1
theorem dX1_findFaces_197 : decode cX1_findFaces 197 = .ok (.goto (-53), 3) := DX1_findFaces.2.2.2.2.2.2.2.2.2.2.2.2.2.2.2.2.2.2.2.2.2.2.2.2.2.2.2.2.2.2.2.2.2.2.2.2.2.2.2.2.2.2.2.2.2.2.2.2.2.2.2.2.2.2.2.2.2.2.2.2.2.2.2.2.2.2.2.2.2.2.2.2.2.2.2.2.2.2.2.2.2.2.2.2.2.2.2.2.2.2.2.2.2.1
theorem dX1_findFaces_200 : decode cX1_findFaces 200 = .ok (.aload_n 0, 1) := DX1_findFaces.2.2.2.2.2.2.2.2.2.2.2.2.2.2.2.2.2.2.2.2.2.2.2.2.2.2.2.2.2.2.2.2.2.2.2.2.2.2.2.2.2.2.2.2.2.2.2.2.2.2.2.2.2.2.2.2.2.2.2.2.2.2.2.2.2.2.2.2.2.2.2.2.2.2.2.2.2.2.2.2.2.2.2.2.2.2.2.2.2.2.2.2.2.2.1
theorem dX1_findFaces_201 : decode cX1_findFaces 201 = .ok (.invokevirtual 223, 3) := DX1_findFaces.2.2.2.2.2.2.2.2.2.2.2.2.2.2.2.2.2.2.2.2.2.2.2.2.2.2.2.2.2.2.2.2.2.2.2.2.2.2.2.2.2.2.2.2.2.2.2.2.2.2.2.2.2.2.2.2.2.2.2.2.2.2.2.2.2.2.2.2.2.2.2.2.2.2.2.2.2.2.2.2.2.2.2.2.2.2.2.2.2.2.2.2.2.2.2.1
theorem dX1_findFaces_204 : decode cX1_findFaces 204 = .ok (.return_, 1) := DX1_findFaces.2.2.2.2.2.2.2.2.2.2.2.2.2.2.2.2.2.2.2.2.2.2.2.2.2.2.2.2.2.2.2.2.2.2.2.2.2.2.2.2.2.2.2.2.2.2.2.2.2.2.2.2.2.2.2.2.2.2.2.2.2.2.2.2.2.2.2.2.2.2.2.2.2.2.2.2.2.2.2.2.2.2.2.2.2.2.2.2.2.2.2.2.2.2.2.2
theorem dX1_faceAround_0 : decode cX1_faceAround 0 = .ok (.aload_n 1, 1) := DX1_faceAround.1
theorem dX1_faceAround_1 : decode cX1_faceAround 1 = .ok (.astore_n 2, 1) := DX1_faceAround.2.1
theorem dX1_faceAround_2 : decode cX1_faceAround 2 = .ok (.aload_n 2, 1) := DX1_faceAround.2.2.1
theorem dX1_faceAround_3 : decode cX1_faceAround 3 = .ok (.getfield 198, 3) := DX1_faceAround.2.2.2.1
theorem dX1_faceAround_6 : decode cX1_faceAround 6 = .ok (.ifnonnull 48, 3) := DX1_faceAround.2.2.2.2.1
theorem dX1_faceAround_9 : decode cX1_faceAround 9 = .ok (.aload_n 2, 1) := DX1_faceAround.2.2.2.2.2.1
theorem dX1_faceAround_10 : decode cX1_faceAround 10 = .ok (.invokevirtual 202, 3) := DX1_faceAround.2.2.2.2.2.2.1
theorem dX1_faceAround_13 : decode cX1_faceAround 13 = .ok (.astore_n 3, 1) := DX1_faceAround.2.2.2.2.2.2.2.1
theorem dX1_faceAround_14 : decode cX1_faceAround 14 = .ok (.aload_n 0, 1) := DX1_faceAround.2.2.2.2.2.2.2.2.1
theorem dX1_faceAround_15 : decode cX1_faceAround 15 = .ok (.aload_n 3, 1) := DX1_faceAround.2.2.2.2.2.2.2.2.2.1
theorem dX1_faceAround_16 : decode cX1_faceAround 16 = .ok (.getfield 120, 3) := DX1_faceAround.2.2.2.2.2.2.2.2.2.2.1
theorem dX1_faceAround_19 : decode cX1_faceAround 19 = .ok (.aload_n 3, 1) := DX1_faceAround.2.2.2.2.2.2.2.2.2.2.2.1
theorem dX1_faceAround_20 : decode cX1_faceAround 20 = .ok (.getfield 123, 3) := DX1_faceAround.2.2.2.2.2.2.2.2.2.2.2.2.1
theorem dX1_faceAround_23 : decode cX1_faceAround 23 = .ok (.invokevirtual 206, 3) := DX1_faceAround.2.2.2.2.2.2.2.2.2.2.2.2.2.1
theorem dX1_faceAround_26 : decode cX1_faceAround 26 = .ok (.astore 4, 2) := DX1_faceAround.2.2.2.2.2.2.2.2.2.2.2.2.2.2.1
theorem dX1_faceAround_28 : decode cX1_faceAround 28 = .ok (.aload 4, 2) := DX1_faceAround.2.2.2.2.2.2.2.2.2.2.2.2.2.2.2.1
theorem dX1_faceAround_30 : decode cX1_faceAround 30 = .ok (.ifnonnull 15, 3) := DX1_faceAround.2.2.2.2.2.2.2.2.2.2.2.2.2.2.2.2.1
theorem dX1_faceAround_33 : decode cX1_faceAround 33 = .ok (.aload_n 0, 1) := DX1_faceAround.2.2.2.2.2.2.2.2.2.2.2.2.2.2.2.2.2.1
theorem dX1_faceAround_34 : decode cX1_faceAround 34 = .ok (.getfield 42, 3) := DX1_faceAround.2.2.2.2.2.2.2.2.2.2.2.2.2.2.2.2.2.2.1
theorem dX1_faceAround_37 : decode cX1_faceAround 37 = .ok (.iconst 0, 1) := DX1_faceAround.2.2.2.2.2.2.2.2.2.2.2.2.2.2.2.2.2.2.2.1
theorem dX1_faceAround_38 : decode cX1_faceAround 38 = .ok (.invokevirtual 114, 3) := DX1_faceAround.2.2.2.2.2.2.2.2.2.2.2.2.2.2.2.2.2.2.2.2.1
theorem dX1_faceAround_41 : decode cX1_faceAround 41 = .ok (.checkcast 209, 3) := DX1_faceAround.2.2.2.2.2.2.2.2.2.2.2.2.2.2.2.2.2.2.2.2.2.1
theorem dX1_faceAround_44 : decode cX1_faceAround 44 = .ok (.areturn, 1) := DX1_faceAround.2.2.2.2.2.2.2.2.2.2.2.2.2.2.2.2.2.2.2.2.2.2.1
theorem dX1_faceAround_45 : decode cX1_faceAround 45 = .ok (.aload 4, 2) := DX1_faceAround.2.2.2.2.2.2.2.2.2.2.2.2.2.2.2.2.2.2.2.2.2.2.2.1
theorem dX1_faceAround_47 : decode cX1_faceAround 47 = .ok (.getfield 160, 3) := DX1_faceAround.2.2.2.2.2.2.2.2.2.2.2.2.2.2.2.2.2.2.2.2.2.2.2.2.1
theorem dX1_faceAround_50 : decode cX1_faceAround 50 = .ok (.astore_n 2, 1) := DX1_faceAround.2.2.2.2.2.2.2.2.2.2.2.2.2.2.2.2.2.2.2.2.2.2.2.2.2.1
theorem dX1_faceAround_51 : decode cX1_faceAround 51 = .ok (.goto (-49), 3) := DX1_faceAround.2.2.2.2.2.2.2.2.2.2.2.2.2.2.2.2.2.2.2.2.2.2.2.2.2.2.1
theorem dX1_faceAround_54 : decode cX1_faceAround 54 = .ok (.aload_n 2, 1) := DX1_faceAround.2.2.2.2.2.2.2.2.2.2.2.2.2.2.2.2.2.2.2.2.2.2.2.2.2.2.2.1
theorem dX1_faceAround_55 : decode cX1_faceAround 55 = .ok (.getfield 198, 3) := DX1_faceAround.2.2.2.2.2.2.2.2.2.2.2.2.2.2.2.2.2.2.2.2.2.2.2.2.2.2.2.2.1
theorem dX1_faceAround_58 : decode cX1_faceAround 58 = .ok (.areturn, 1) := DX1_faceAround.2.2.2.2.2.2.2.2.2.2.2.2.2.2.2.2.2.2.2.2.2.2.2.2.2.2.2.2.2
theorem dX1_halfBelow_0 : decode cX1_halfBelow 0 = .ok (.aload_n 0, 1) := DX1_halfBelow.1
theorem dX1_halfBelow_1 : decode cX1_halfBelow 1 = .ok (.iload_n 1, 1) := DX1_halfBelow.2.1
theorem dX1_halfBelow_2 : decode cX1_halfBelow 2 = .ok (.iload_n 2, 1) := DX1_halfBelow.2.2.1
theorem dX1_halfBelow_3 : decode cX1_halfBelow 3 = .ok (.invokevirtual 188, 3) := DX1_halfBelow.2.2.2.1
theorem dX1_halfBelow_6 : decode cX1_halfBelow 6 = .ok (.istore_n 3, 1) := DX1_halfBelow.2.2.2.2.1
theorem dX1_halfBelow_7 : decode cX1_halfBelow 7 = .ok (.aload_n 0, 1) := DX1_halfBelow.2.2.2.2.2.1
theorem dX1_halfBelow_8 : decode cX1_halfBelow 8 = .ok (.iload_n 1, 1) := DX1_halfBelow.2.2.2.2.2.2.1
theorem dX1_halfBelow_9 : decode cX1_halfBelow 9 = .ok (.iload_n 2, 1) := DX1_halfBelow.2.2.2.2.2.2.2.1
theorem dX1_halfBelow_10 : decode cX1_halfBelow 10 = .ok (.invokevirtual 191, 3) := DX1_halfBelow.2.2.2.2.2.2.2.2.1
theorem dX1_halfBelow_13 : decode cX1_halfBelow 13 = .ok (.astore 4, 2) := DX1_halfBelow.2.2.2.2.2.2.2.2.2.1
theorem dX1_halfBelow_15 : decode cX1_halfBelow 15 = .ok (.aload 4, 2) := DX1_halfBelow.2.2.2.2.2.2.2.2.2.2.1
theorem dX1_halfBelow_17 : decode cX1_halfBelow 17 = .ok (.ifnull 33, 3) := DX1_halfBelow.2.2.2.2.2.2.2.2.2.2.2.1
theorem dX1_halfBelow_20 : decode cX1_halfBelow 20 = .ok (.iload_n 3, 1) := DX1_halfBelow.2.2.2.2.2.2.2.2.2.2.2.2.1
theorem dX1_halfBelow_21 : decode cX1_halfBelow 21 = .ok (.ifCond .lt 21, 3) := DX1_halfBelow.2.2.2.2.2.2.2.2.2.2.2.2.2.1
theorem dX1_halfBelow_24 : decode cX1_halfBelow 24 = .ok (.aload_n 0, 1) := DX1_halfBelow.2.2.2.2.2.2.2.2.2.2.2.2.2.2.1
theorem dX1_halfBelow_25 : decode cX1_halfBelow 25 = .ok (.iload_n 3, 1) := DX1_halfBelow.2.2.2.2.2.2.2.2.2.2.2.2.2.2.2.1
theorem dX1_halfBelow_26 : decode cX1_halfBelow 26 = .ok (.aload 4, 2) := DX1_halfBelow.2.2.2.2.2.2.2.2.2.2.2.2.2.2.2.2.1
theorem dX1_halfBelow_28 : decode cX1_halfBelow 28 = .ok (.getfield 120, 3) := DX1_halfBelow.2.2.2.2.2.2.2.2.2.2.2.2.2.2.2.2.2.1
theorem dX1_halfBelow_31 : decode cX1_halfBelow 31 = .ok (.aload 4, 2) := DX1_halfBelow.2.2.2.2.2.2.2.2.2.2.2.2.2.2.2.2.2.2.1
theorem dX1_halfBelow_33 : decode cX1_halfBelow 33 = .ok (.getfield 123, 3) := DX1_halfBelow.2.2.2.2.2.2.2.2.2.2.2.2.2.2.2.2.2.2.2.1
theorem dX1_halfBelow_36 : decode cX1_halfBelow 36 = .ok (.invokevirtual 182, 3) := DX1_halfBelow.2.2.2.2.2.2.2.2.2.2.2.2.2.2.2.2.2.2.2.2.1
theorem dX1_halfBelow_39 : decode cX1_halfBelow 39 = .ok (.ifCond .eq 11, 3) := DX1_halfBelow.2.2.2.2.2.2.2.2.2.2.2.2.2.2.2.2.2.2.2.2.2.1
theorem dX1_halfBelow_42 : decode cX1_halfBelow 42 = .ok (.aload 4, 2) := DX1_halfBelow.2.2.2.2.2.2.2.2.2.2.2.2.2.2.2.2.2.2.2.2.2.2.1
theorem dX1_halfBelow_44 : decode cX1_halfBelow 44 = .ok (.iconst 0, 1) := DX1_halfBelow.2.2.2.2.2.2.2.2.2.2.2.2.2.2.2.2.2.2.2.2.2.2.2.1
theorem dX1_halfBelow_45 : decode cX1_halfBelow 45 = .ok (.iconst 1, 1) := DX1_halfBelow.2.2.2.2.2.2.2.2.2.2.2.2.2.2.2.2.2.2.2.2.2.2.2.2.1
theorem dX1_halfBelow_46 : decode cX1_halfBelow 46 = .ok (.invokevirtual 194, 3) := DX1_halfBelow.2.2.2.2.2.2.2.2.2.2.2.2.2.2.2.2.2.2.2.2.2.2.2.2.2.1
theorem dX1_halfBelow_49 : decode cX1_halfBelow 49 = .ok (.areturn, 1) := DX1_halfBelow.2.2.2.2.2.2.2.2.2.2.2.2.2.2.2.2.2.2.2.2.2.2.2.2.2.2.1
theorem dX1_halfBelow_50 : decode cX1_halfBelow 50 = .ok (.iload_n 3, 1) := DX1_halfBelow.2.2.2.2.2.2.2.2.2.2.2.2.2.2.2.2.2.2.2.2.2.2.2.2.2.2.2.1
theorem dX1_halfBelow_51 : decode cX1_halfBelow 51 = .ok (.ifCond .ge 7, 3) := DX1_halfBelow.2.2.2.2.2.2.2.2.2.2.2.2.2.2.2.2.2.2.2.2.2.2.2.2.2.2.2.2.1
theorem dX1_halfBelow_54 : decode cX1_halfBelow 54 = .ok (.aconst_null, 1) := DX1_halfBelow.2.2.2.2.2.2.2.2.2.2.2.2.2.2.2.2.2.2.2.2.2.2.2.2.2.2.2.2.2.1
theorem dX1_halfBelow_55 : decode cX1_halfBelow 55 = .ok (.goto 32, 3) := DX1_halfBelow.2.2.2.2.2.2.2.2.2.2.2.2.2.2.2.2.2.2.2.2.2.2.2.2.2.2.2.2.2.2.1
theorem dX1_halfBelow_58 : decode cX1_halfBelow 58 = .ok (.aload_n 0, 1) := DX1_halfBelow.2.2.2.2.2.2.2.2.2.2.2.2.2.2.2.2.2.2.2.2.2.2.2.2.2.2.2.2.2.2.2.1
theorem dX1_halfBelow_59 : decode cX1_halfBelow 59 = .ok (.getfield 35, 3) := DX1_halfBelow.2.2.2.2.2.2.2.2.2.2.2.2.2.2.2.2.2.2.2.2.2.2.2.2.2.2.2.2.2.2.2.2.1
theorem dX1_halfBelow_62 : decode cX1_halfBelow 62 = .ok (.iconst 2, 1) := DX1_halfBelow.2.2.2.2.2.2.2.2.2.2.2.2.2.2.2.2.2.2.2.2.2.2.2.2.2.2.2.2.2.2.2.2.2.1
theorem dX1_halfBelow_63 : decode cX1_halfBelow 63 = .ok (.iload_n 3, 1) := DX1_halfBelow.2.2.2.2.2.2.2.2.2.2.2.2.2.2.2.2.2.2.2.2.2.2.2.2.2.2.2.2.2.2.2.2.2.2.1
theorem dX1_halfBelow_64 : decode cX1_halfBelow 64 = .ok (.imul, 1) := DX1_halfBelow.2.2.2.2.2.2.2.2.2.2.2.2.2.2.2.2.2.2.2.2.2.2.2.2.2.2.2.2.2.2.2.2.2.2.2.1
theorem dX1_halfBelow_65 : decode cX1_halfBelow 65 = .ok (.aload_n 0, 1) := DX1_halfBelow.2.2.2.2.2.2.2.2.2.2.2.2.2.2.2.2.2.2.2.2.2.2.2.2.2.2.2.2.2.2.2.2.2.2.2.2.1
theorem dX1_halfBelow_66 : decode cX1_halfBelow 66 = .ok (.getfield 20, 3) := DX1_halfBelow.2.2.2.2.2.2.2.2.2.2.2.2.2.2.2.2.2.2.2.2.2.2.2.2.2.2.2.2.2.2.2.2.2.2.2.2.2.1
theorem dX1_halfBelow_69 : decode cX1_halfBelow 69 = .ok (.iload_n 3, 1) := DX1_halfBelow.2.2.2.2.2.2.2.2.2.2.2.2.2.2.2.2.2.2.2.2.2.2.2.2.2.2.2.2.2.2.2.2.2.2.2.2.2.2.1
theorem dX1_halfBelow_70 : decode cX1_halfBelow 70 = .ok (.iaload, 1) := DX1_halfBelow.2.2.2.2.2.2.2.2.2.2.2.2.2.2.2.2.2.2.2.2.2.2.2.2.2.2.2.2.2.2.2.2.2.2.2.2.2.2.2.1
theorem dX1_halfBelow_71 : decode cX1_halfBelow 71 = .ok (.aload_n 0, 1) := DX1_halfBelow.2.2.2.2.2.2.2.2.2.2.2.2.2.2.2.2.2.2.2.2.2.2.2.2.2.2.2.2.2.2.2.2.2.2.2.2.2.2.2.2.1
theorem dX1_halfBelow_72 : decode cX1_halfBelow 72 = .ok (.getfield 13, 3) := DX1_halfBelow.2.2.2.2.2.2.2.2.2.2.2.2.2.2.2.2.2.2.2.2.2.2.2.2.2.2.2.2.2.2.2.2.2.2.2.2.2.2.2.2.2.1
theorem dX1_halfBelow_75 : decode cX1_halfBelow 75 = .ok (.iload_n 3, 1) := DX1_halfBelow.2.2.2.2.2.2.2.2.2.2.2.2.2.2.2.2.2.2.2.2.2.2.2.2.2.2.2.2.2.2.2.2.2.2.2.2.2.2.2.2.2.2.1
theorem dX1_halfBelow_76 : decode cX1_halfBelow 76 = .ok (.iaload, 1) := DX1_halfBelow.2.2.2.2.2.2.2.2.2.2.2.2.2.2.2.2.2.2.2.2.2.2.2.2.2.2.2.2.2.2.2.2.2.2.2.2.2.2.2.2.2.2.2.1
theorem dX1_halfBelow_77 : decode cX1_halfBelow 77 = .ok (.if_icmp .le 7, 3) := DX1_halfBelow.2.2.2.2.2.2.2.2.2.2.2.2.2.2.2.2.2.2.2.2.2.2.2.2.2.2.2.2.2.2.2.2.2.2.2.2.2.2.2.2.2.2.2.2.1
theorem dX1_halfBelow_80 : decode cX1_halfBelow 80 = .ok (.iconst 0, 1) := DX1_halfBelow.2.2.2.2.2.2.2.2.2.2.2.2.2.2.2.2.2.2.2.2.2.2.2.2.2.2.2.2.2.2.2.2.2.2.2.2.2.2.2.2.2.2.2.2.2.1
theorem dX1_halfBelow_81 : decode cX1_halfBelow 81 = .ok (.goto 4, 3) := DX1_halfBelow.2.2.2.2.2.2.2.2.2.2.2.2.2.2.2.2.2.2.2.2.2.2.2.2.2.2.2.2.2.2.2.2.2.2.2.2.2.2.2.2.2.2.2.2.2.2.1
theorem dX1_halfBelow_84 : decode cX1_halfBelow 84 = .ok (.iconst 1, 1) := DX1_halfBelow.2.2.2.2.2.2.2.2.2.2.2.2.2.2.2.2.2.2.2.2.2.2.2.2.2.2.2.2.2.2.2.2.2.2.2.2.2.2.2.2.2.2.2.2.2.2.2.1
theorem dX1_halfBelow_85 : decode cX1_halfBelow 85 = .ok (.iadd, 1) := DX1_halfBelow.2.2.2.2.2.2.2.2.2.2.2.2.2.2.2.2.2.2.2.2.2.2.2.2.2.2.2.2.2.2.2.2.2.2.2.2.2.2.2.2.2.2.2.2.2.2.2.2.1
theorem dX1_halfBelow_86 : decode cX1_halfBelow 86 = .ok (.aaload, 1) := DX1_halfBelow.2.2.2.2.2.2.2.2.2.2.2.2.2.2.2.2.2.2.2.2.2.2.2.2.2.2.2.2.2.2.2.2.2.2.2.2.2.2.2.2.2.2.2.2.2.2.2.2.2.1
theorem dX1_halfBelow_87 : decode cX1_halfBelow 87 = .ok (.areturn, 1) := DX1_halfBelow.2.2.2.2.2.2.2.2.2.2.2.2.2.2.2.2.2.2.2.2.2.2.2.2.2.2.2.2.2.2.2.2.2.2.2.2.2.2.2.2.2.2.2.2.2.2.2.2.2.2
theorem dX1_segmentBelow_0 : decode cX1_segmentBelow 0 = .ok (.iconst (-1), 1) := DX1_segmentBelow.1
theorem dX1_segmentBelow_1 : decode cX1_segmentBelow 1 = .ok (.istore_n 3, 1) := DX1_segmentBelow.2.1
theorem dX1_segmentBelow_2 : decode cX1_segmentBelow 2 = .ok (.iconst 0, 1) := DX1_segmentBelow.2.2.1
theorem dX1_segmentBelow_3 : decode cX1_segmentBelow 3 = .ok (.istore 4, 2) := DX1_segmentBelow.2.2.2.1
theorem dX1_segmentBelow_5 : decode cX1_segmentBelow 5 = .ok (.iload 4, 2) := DX1_segmentBelow.2.2.2.2.1
theorem dX1_segmentBelow_7 : decode cX1_segmentBelow 7 = .ok (.bipush 60, 2) := DX1_segmentBelow.2.2.2.2.2.1
theorem dX1_segmentBelow_9 : decode cX1_segmentBelow 9 = .ok (.if_icmp .ge 58, 3) := DX1_segmentBelow.2.2.2.2.2.2.1
theorem dX1_segmentBelow_12 : decode cX1_segmentBelow 12 = .ok (.aload_n 0, 1) := DX1_segmentBelow.2.2.2.2.2.2.2.1
theorem dX1_segmentBelow_13 : decode cX1_segmentBelow 13 = .ok (.getfield 7, 3) := DX1_segmentBelow.2.2.2.2.2.2.2.2.1
theorem dX1_segmentBelow_16 : decode cX1_segmentBelow 16 = .ok (.iload 4, 2) := DX1_segmentBelow.2.2.2.2.2.2.2.2.2.1
theorem dX1_segmentBelow_18 : decode cX1_segmentBelow 18 = .ok (.baload, 1) := DX1_segmentBelow.2.2.2.2.2.2.2.2.2.2.1
theorem dX1_segmentBelow_19 : decode cX1_segmentBelow 19 = .ok (.ifCond .eq 42, 3) := DX1_segmentBelow.2.2.2.2.2.2.2.2.2.2.2.1
theorem dX1_segmentBelow_22 : decode cX1_segmentBelow 22 = .ok (.aload_n 0, 1) := DX1_segmentBelow.2.2.2.2.2.2.2.2.2.2.2.2.1
theorem dX1_segmentBelow_23 : decode cX1_segmentBelow 23 = .ok (.iload 4, 2) := DX1_segmentBelow.2.2.2.2.2.2.2.2.2.2.2.2.2.1
theorem dX1_segmentBelow_25 : decode cX1_segmentBelow 25 = .ok (.iload_n 1, 1) := DX1_segmentBelow.2.2.2.2.2.2.2.2.2.2.2.2.2.2.1
theorem dX1_segmentBelow_26 : decode cX1_segmentBelow 26 = .ok (.invokevirtual 179, 3) := DX1_segmentBelow.2.2.2.2.2.2.2.2.2.2.2.2.2.2.2.1
theorem dX1_segmentBelow_29 : decode cX1_segmentBelow 29 = .ok (.ifCond .eq 32, 3) := DX1_segmentBelow.2.2.2.2.2.2.2.2.2.2.2.2.2.2.2.2.1
theorem dX1_segmentBelow_32 : decode cX1_segmentBelow 32 = .ok (.aload_n 0, 1) := DX1_segmentBelow.2.2.2.2.2.2.2.2.2.2.2.2.2.2.2.2.2.1
theorem dX1_segmentBelow_33 : decode cX1_segmentBelow 33 = .ok (.iload 4, 2) := DX1_segmentBelow.2.2.2.2.2.2.2.2.2.2.2.2.2.2.2.2.2.2.1
theorem dX1_segmentBelow_35 : decode cX1_segmentBelow 35 = .ok (.iload_n 1, 1) := DX1_segmentBelow.2.2.2.2.2.2.2.2.2.2.2.2.2.2.2.2.2.2.2.1
theorem dX1_segmentBelow_36 : decode cX1_segmentBelow 36 = .ok (.iload_n 2, 1) := DX1_segmentBelow.2.2.2.2.2.2.2.2.2.2.2.2.2.2.2.2.2.2.2.2.1
theorem dX1_segmentBelow_37 : decode cX1_segmentBelow 37 = .ok (.invokevirtual 182, 3) := DX1_segmentBelow.2.2.2.2.2.2.2.2.2.2.2.2.2.2.2.2.2.2.2.2.2.1
theorem dX1_segmentBelow_40 : decode cX1_segmentBelow 40 = .ok (.ifCond .eq 21, 3) := DX1_segmentBelow.2.2.2.2.2.2.2.2.2.2.2.2.2.2.2.2.2.2.2.2.2.2.1
theorem dX1_segmentBelow_43 : decode cX1_segmentBelow 43 = .ok (.iload_n 3, 1) := DX1_segmentBelow.2.2.2.2.2.2.2.2.2.2.2.2.2.2.2.2.2.2.2.2.2.2.2.1
theorem dX1_segmentBelow_44 : decode cX1_segmentBelow 44 = .ok (.ifCond .lt 14, 3) := DX1_segmentBelow.2.2.2.2.2.2.2.2.2.2.2.2.2.2.2.2.2.2.2.2.2.2.2.2.1
theorem dX1_segmentBelow_47 : decode cX1_segmentBelow 47 = .ok (.aload_n 0, 1) := DX1_segmentBelow.2.2.2.2.2.2.2.2.2.2.2.2.2.2.2.2.2.2.2.2.2.2.2.2.2.1
theorem dX1_segmentBelow_48 : decode cX1_segmentBelow 48 = .ok (.iload 4, 2) := DX1_segmentBelow.2.2.2.2.2.2.2.2.2.2.2.2.2.2.2.2.2.2.2.2.2.2.2.2.2.2.1
theorem dX1_segmentBelow_50 : decode cX1_segmentBelow 50 = .ok (.iload_n 3, 1) := DX1_segmentBelow.2.2.2.2.2.2.2.2.2.2.2.2.2.2.2.2.2.2.2.2.2.2.2.2.2.2.2.1
theorem dX1_segmentBelow_51 : decode cX1_segmentBelow 51 = .ok (.iload_n 1, 1) := DX1_segmentBelow.2.2.2.2.2.2.2.2.2.2.2.2.2.2.2.2.2.2.2.2.2.2.2.2.2.2.2.2.1
theorem dX1_segmentBelow_52 : decode cX1_segmentBelow 52 = .ok (.invokevirtual 185, 3) := DX1_segmentBelow.2.2.2.2.2.2.2.2.2.2.2.2.2.2.2.2.2.2.2.2.2.2.2.2.2.2.2.2.2.1
theorem dX1_segmentBelow_55 : decode cX1_segmentBelow 55 = .ok (.ifCond .le 6, 3) := DX1_segmentBelow.2.2.2.2.2.2.2.2.2.2.2.2.2.2.2.2.2.2.2.2.2.2.2.2.2.2.2.2.2.2.1
theorem dX1_segmentBelow_58 : decode cX1_segmentBelow 58 = .ok (.iload 4, 2) := DX1_segmentBelow.2.2.2.2.2.2.2.2.2.2.2.2.2.2.2.2.2.2.2.2.2.2.2.2.2.2.2.2.2.2.2.1
theorem dX1_segmentBelow_60 : decode cX1_segmentBelow 60 = .ok (.istore_n 3, 1) := DX1_segmentBelow.2.2.2.2.2.2.2.2.2.2.2.2.2.2.2.2.2.2.2.2.2.2.2.2.2.2.2.2.2.2.2.2.1
theorem dX1_segmentBelow_61 : decode cX1_segmentBelow 61 = .ok (.iinc 4 1, 3) := DX1_segmentBelow.2.2.2.2.2.2.2.2.2.2.2.2.2.2.2.2.2.2.2.2.2.2.2.2.2.2.2.2.2.2.2.2.2.1
theorem dX1_segmentBelow_64 : decode cX1_segmentBelow 64 = .ok (.goto (-59), 3) := DX1_segmentBelow.2.2.2.2.2.2.2.2.2.2.2.2.2.2.2.2.2.2.2.2.2.2.2.2.2.2.2.2.2.2.2.2.2.2.1
theorem dX1_segmentBelow_67 : decode cX1_segmentBelow 67 = .ok (.iload_n 3, 1) := DX1_segmentBelow.2.2.2.2.2.2.2.2.2.2.2.2.2.2.2.2.2.2.2.2.2.2.2.2.2.2.2.2.2.2.2.2.2.2.2.1
theorem dX1_segmentBelow_68 : decode cX1_segmentBelow 68 = .ok (.ireturn, 1) := DX1_segmentBelow.2.2.2.2.2.2.2.2.2.2.2.2.2.2.2.2.2.2.2.2.2.2.2.2.2.2.2.2.2.2.2.2.2.2.2.2
theorem dX1_isOver_0 : decode cX1_isOver 0 = .ok (.aload_n 0, 1) := DX1_isOver.1
theorem dX1_isOver_1 : decode cX1_isOver 1 = .ok (.getfield 13, 3) := DX1_isOver.2.1
theorem dX1_isOver_4 : decode cX1_isOver 4 = .ok (.iload_n 1, 1) := DX1_isOver.2.2.1
theorem dX1_isOver_5 : decode cX1_isOver 5 = .ok (.iaload, 1) := DX1_isOver.2.2.2.1
theorem dX1_isOver_6 : decode cX1_isOver 6 = .ok (.aload_n 0, 1) := DX1_isOver.2.2.2.2.1
theorem dX1_isOver_7 : decode cX1_isOver 7 = .ok (.getfield 20, 3) := DX1_isOver.2.2.2.2.2.1
theorem dX1_isOver_10 : decode cX1_isOver 10 = .ok (.iload_n 1, 1) := DX1_isOver.2.2.2.2.2.2.1
theorem dX1_isOver_11 : decode cX1_isOver 11 = .ok (.iaload, 1) := DX1_isOver.2.2.2.2.2.2.2.1
theorem dX1_isOver_12 : decode cX1_isOver 12 = .ok (.if_icmp .eq 45, 3) := DX1_isOver.2.2.2.2.2.2.2.2.1
theorem dX1_isOver_15 : decode cX1_isOver 15 = .ok (.iload_n 2, 1) := DX1_isOver.2.2.2.2.2.2.2.2.2.1
theorem dX1_isOver_16 : decode cX1_isOver 16 = .ok (.aload_n 0, 1) := DX1_isOver.2.2.2.2.2.2.2.2.2.2.1
theorem dX1_isOver_17 : decode cX1_isOver 17 = .ok (.getfield 13, 3) := DX1_isOver.2.2.2.2.2.2.2.2.2.2.2.1
theorem dX1_isOver_20 : decode cX1_isOver 20 = .ok (.iload_n 1, 1) := DX1_isOver.2.2.2.2.2.2.2.2.2.2.2.2.1
theorem dX1_isOver_21 : decode cX1_isOver 21 = .ok (.iaload, 1) := DX1_isOver.2.2.2.2.2.2.2.2.2.2.2.2.2.1
theorem dX1_isOver_22 : decode cX1_isOver 22 = .ok (.aload_n 0, 1) := DX1_isOver.2.2.2.2.2.2.2.2.2.2.2.2.2.2.1
theorem dX1_isOver_23 : decode cX1_isOver 23 = .ok (.getfield 20, 3) := DX1_isOver.2.2.2.2.2.2.2.2.2.2.2.2.2.2.2.1
theorem dX1_isOver_26 : decode cX1_isOver 26 = .ok (.iload_n 1, 1) := DX1_isOver.2.2.2.2.2.2.2.2.2.2.2.2.2.2.2.2.1
theorem dX1_isOver_27 : decode cX1_isOver 27 = .ok (.iaload, 1) := DX1_isOver.2.2.2.2.2.2.2.2.2.2.2.2.2.2.2.2.2.1
theorem dX1_isOver_28 : decode cX1_isOver 28 = .ok (.invokestatic 71, 3) := DX1_isOver.2.2.2.2.2.2.2.2.2.2.2.2.2.2.2.2.2.2.1
theorem dX1_isOver_31 : decode cX1_isOver 31 = .ok (.if_icmp .le 26, 3) := DX1_isOver.2.2.2.2.2.2.2.2.2.2.2.2.2.2.2.2.2.2.2.1
theorem dX1_isOver_34 : decode cX1_isOver 34 = .ok (.iload_n 2, 1) := DX1_isOver.2.2.2.2.2.2.2.2.2.2.2.2.2.2.2.2.2.2.2.2.1
theorem dX1_isOver_35 : decode cX1_isOver 35 = .ok (.aload_n 0, 1) := DX1_isOver.2.2.2.2.2.2.2.2.2.2.2.2.2.2.2.2.2.2.2.2.2.1
theorem dX1_isOver_36 : decode cX1_isOver 36 = .ok (.getfield 13, 3) := DX1_isOver.2.2.2.2.2.2.2.2.2.2.2.2.2.2.2.2.2.2.2.2.2.2.1
theorem dX1_isOver_39 : decode cX1_isOver 39 = .ok (.iload_n 1, 1) := DX1_isOver.2.2.2.2.2.2.2.2.2.2.2.2.2.2.2.2.2.2.2.2.2.2.2.1
theorem dX1_isOver_40 : decode cX1_isOver 40 = .ok (.iaload, 1) := DX1_isOver.2.2.2.2.2.2.2.2.2.2.2.2.2.2.2.2.2.2.2.2.2.2.2.2.1
theorem dX1_isOver_41 : decode cX1_isOver 41 = .ok (.aload_n 0, 1) := DX1_isOver.2.2.2.2.2.2.2.2.2.2.2.2.2.2.2.2.2.2.2.2.2.2.2.2.2.1
theorem dX1_isOver_42 : decode cX1_isOver 42 = .ok (.getfield 20, 3) := DX1_isOver.2.2.2.2.2.2.2.2.2.2.2.2.2.2.2.2.2.2.2.2.2.2.2.2.2.2.1
theorem dX1_isOver_45 : decode cX1_isOver 45 = .ok (.iload_n 1, 1) := DX1_isOver.2.2.2.2.2.2.2.2.2.2.2.2.2.2.2.2.2.2.2.2.2.2.2.2.2.2.2.1
theorem dX1_isOver_46 : decode cX1_isOver 46 = .ok (.iaload, 1) := DX1_isOver.2.2.2.2.2.2.2.2.2.2.2.2.2.2.2.2.2.2.2.2.2.2.2.2.2.2.2.2.1
theorem dX1_isOver_47 : decode cX1_isOver 47 = .ok (.invokestatic 77, 3) := DX1_isOver.2.2.2.2.2.2.2.2.2.2.2.2.2.2.2.2.2.2.2.2.2.2.2.2.2.2.2.2.2.1
theorem dX1_isOver_50 : decode cX1_isOver 50 = .ok (.if_icmp .ge 7, 3) := DX1_isOver.2.2.2.2.2.2.2.2.2.2.2.2.2.2.2.2.2.2.2.2.2.2.2.2.2.2.2.2.2.2.1
theorem dX1_isOver_53 : decode cX1_isOver 53 = .ok (.iconst 1, 1) := DX1_isOver.2.2.2.2.2.2.2.2.2.2.2.2.2.2.2.2.2.2.2.2.2.2.2.2.2.2.2.2.2.2.2.1
theorem dX1_isOver_54 : decode cX1_isOver 54 = .ok (.goto 4, 3) := DX1_isOver.2.2.2.2.2.2.2.2.2.2.2.2.2.2.2.2.2.2.2.2.2.2.2.2.2.2.2.2.2.2.2.2.1
theorem dX1_isOver_57 : decode cX1_isOver 57 = .ok (.iconst 0, 1) := DX1_isOver.2.2.2.2.2.2.2.2.2.2.2.2.2.2.2.2.2.2.2.2.2.2.2.2.2.2.2.2.2.2.2.2.2.1
theorem dX1_isOver_58 : decode cX1_isOver 58 = .ok (.ireturn, 1) := DX1_isOver.2.2.2.2.2.2.2.2.2.2.2.2.2.2.2.2.2.2.2.2.2.2.2.2.2.2.2.2.2.2.2.2.2.2
theorem dX1_isAbove_0 : decode cX1_isAbove 0 = .ok (.aload_n 0, 1) := DX1_isAbove.1
theorem dX1_isAbove_1 : decode cX1_isAbove 1 = .ok (.iload_n 1, 1) := DX1_isAbove.2.1
theorem dX1_isAbove_2 : decode cX1_isAbove 2 = .ok (.iload_n 2, 1) := DX1_isAbove.2.2.1
theorem dX1_isAbove_3 : decode cX1_isAbove 3 = .ok (.iload_n 3, 1) := DX1_isAbove.2.2.2.1
theorem dX1_isAbove_4 : decode cX1_isAbove 4 = .ok (.invokevirtual 67, 3) := DX1_isAbove.2.2.2.2.1
theorem dX1_isAbove_7 : decode cX1_isAbove 7 = .ok (.aload_n 0, 1) := DX1_isAbove.2.2.2.2.2.1
theorem dX1_isAbove_8 : decode cX1_isAbove 8 = .ok (.getfield 20, 3) := DX1_isAbove.2.2.2.2.2.2.1
theorem dX1_isAbove_11 : decode cX1_isAbove 11 = .ok (.iload_n 1, 1) := DX1_isAbove.2.2.2.2.2.2.2.1
theorem dX1_isAbove_12 : decode cX1_isAbove 12 = .ok (.iaload, 1) := DX1_isAbove.2.2.2.2.2.2.2.2.1
theorem dX1_isAbove_13 : decode cX1_isAbove 13 = .ok (.aload_n 0, 1) := DX1_isAbove.2.2.2.2.2.2.2.2.2.1
theorem dX1_isAbove_14 : decode cX1_isAbove 14 = .ok (.getfield 13, 3) := DX1_isAbove.2.2.2.2.2.2.2.2.2.2.1
theorem dX1_isAbove_17 : decode cX1_isAbove 17 = .ok (.iload_n 1, 1) := DX1_isAbove.2.2.2.2.2.2.2.2.2.2.2.1
theorem dX1_isAbove_18 : decode cX1_isAbove 18 = .ok (.iaload, 1) := DX1_isAbove.2.2.2.2.2.2.2.2.2.2.2.2.1
theorem dX1_isAbove_19 : decode cX1_isAbove 19 = .ok (.if_icmp .le 7, 3) := DX1_isAbove.2.2.2.2.2.2.2.2.2.2.2.2.2.1
theorem dX1_isAbove_22 : decode cX1_isAbove 22 = .ok (.iconst 1, 1) := DX1_isAbove.2.2.2.2.2.2.2.2.2.2.2.2.2.2.1
theorem dX1_isAbove_23 : decode cX1_isAbove 23 = .ok (.goto 4, 3) := DX1_isAbove.2.2.2.2.2.2.2.2.2.2.2.2.2.2.2.1
theorem dX1_isAbove_26 : decode cX1_isAbove 26 = .ok (.iconst (-1), 1) := DX1_isAbove.2.2.2.2.2.2.2.2.2.2.2.2.2.2.2.2.1
theorem dX1_isAbove_27 : decode cX1_isAbove 27 = .ok (.imul, 1) := DX1_isAbove.2.2.2.2.2.2.2.2.2.2.2.2.2.2.2.2.2.1
theorem dX1_isAbove_28 : decode cX1_isAbove 28 = .ok (.ifCond .le 7, 3) := DX1_isAbove.2.2.2.2.2.2.2.2.2.2.2.2.2.2.2.2.2.2.1
theorem dX1_isAbove_31 : decode cX1_isAbove 31 = .ok (.iconst 1, 1) := DX1_isAbove.2.2.2.2.2.2.2.2.2.2.2.2.2.2.2.2.2.2.2.1
theorem dX1_isAbove_32 : decode cX1_isAbove 32 = .ok (.goto 4, 3) := DX1_isAbove.2.2.2.2.2.2.2.2.2.2.2.2.2.2.2.2.2.2.2.2.1
theorem dX1_isAbove_35 : decode cX1_isAbove 35 = .ok (.iconst 0, 1) := DX1_isAbove.2.2.2.2.2.2.2.2.2.2.2.2.2.2.2.2.2.2.2.2.2.1
theorem dX1_isAbove_36 : decode cX1_isAbove 36 = .ok (.ireturn, 1) := DX1_isAbove.2.2.2.2.2.2.2.2.2.2.2.2.2.2.2.2.2.2.2.2.2.2
theorem dX1_side_0 : decode cX1_side 0 = .ok (.aload_n 0, 1) := DX1_side.1
theorem dX1_side_1 : decode cX1_side 1 = .ok (.getfield 20, 3) := DX1_side.2.1
theorem dX1_side_4 : decode cX1_side 4 = .ok (.iload_n 1, 1) := DX1_side.2.2.1
theorem dX1_side_5 : decode cX1_side 5 = .ok (.iaload, 1) := DX1_side.2.2.2.1
theorem dX1_side_6 : decode cX1_side 6 = .ok (.aload_n 0, 1) := DX1_side.2.2.2.2.1
theorem dX1_side_7 : decode cX1_side 7 = .ok (.getfield 13, 3) := DX1_side.2.2.2.2.2.1
theorem dX1_side_10 : decode cX1_side 10 = .ok (.iload_n 1, 1) := DX1_side.2.2.2.2.2.2.1
theorem dX1_side_11 : decode cX1_side 11 = .ok (.iaload, 1) := DX1_side.2.2.2.2.2.2.2.1
theorem dX1_side_12 : decode cX1_side 12 = .ok (.isub, 1) := DX1_side.2.2.2.2.2.2.2.2.1
theorem dX1_side_13 : decode cX1_side 13 = .ok (.i2l, 1) := DX1_side.2.2.2.2.2.2.2.2.2.1
theorem dX1_side_14 : decode cX1_side 14 = .ok (.aload_n 0, 1) := DX1_side.2.2.2.2.2.2.2.2.2.2.1
theorem dX1_side_15 : decode cX1_side 15 = .ok (.getfield 23, 3) := DX1_side.2.2.2.2.2.2.2.2.2.2.2.1
theorem dX1_side_18 : decode cX1_side 18 = .ok (.iload_n 1, 1) := DX1_side.2.2.2.2.2.2.2.2.2.2.2.2.1
theorem dX1_side_19 : decode cX1_side 19 = .ok (.iaload, 1) := DX1_side.2.2.2.2.2.2.2.2.2.2.2.2.2.1
theorem dX1_side_20 : decode cX1_side 20 = .ok (.aload_n 0, 1) := DX1_side.2.2.2.2.2.2.2.2.2.2.2.2.2.2.1
theorem dX1_side_21 : decode cX1_side 21 = .ok (.getfield 17, 3) := DX1_side.2.2.2.2.2.2.2.2.2.2.2.2.2.2.2.1
theorem dX1_side_24 : decode cX1_side 24 = .ok (.iload_n 1, 1) := DX1_side.2.2.2.2.2.2.2.2.2.2.2.2.2.2.2.2.1
theorem dX1_side_25 : decode cX1_side 25 = .ok (.iaload, 1) := DX1_side.2.2.2.2.2.2.2.2.2.2.2.2.2.2.2.2.2.1
theorem dX1_side_26 : decode cX1_side 26 = .ok (.isub, 1) := DX1_side.2.2.2.2.2.2.2.2.2.2.2.2.2.2.2.2.2.2.1
theorem dX1_side_27 : decode cX1_side 27 = .ok (.i2l, 1) := DX1_side.2.2.2.2.2.2.2.2.2.2.2.2.2.2.2.2.2.2.2.1
theorem dX1_side_28 : decode cX1_side 28 = .ok (.iload_n 2, 1) := DX1_side.2.2.2.2.2.2.2.2.2.2.2.2.2.2.2.2.2.2.2.2.1
theorem dX1_side_29 : decode cX1_side 29 = .ok (.aload_n 0, 1) := DX1_side.2.2.2.2.2.2.2.2.2.2.2.2.2.2.2.2.2.2.2.2.2.1
theorem dX1_side_30 : decode cX1_side 30 = .ok (.getfield 13, 3) := DX1_side.2.2.2.2.2.2.2.2.2.2.2.2.2.2.2.2.2.2.2.2.2.2.1
theorem dX1_side_33 : decode cX1_side 33 = .ok (.iload_n 1, 1) := DX1_side.2.2.2.2.2.2.2.2.2.2.2.2.2.2.2.2.2.2.2.2.2.2.2.1
theorem dX1_side_34 : decode cX1_side 34 = .ok (.iaload, 1) := DX1_side.2.2.2.2.2.2.2.2.2.2.2.2.2.2.2.2.2.2.2.2.2.2.2.2.1
theorem dX1_side_35 : decode cX1_side 35 = .ok (.isub, 1) := DX1_side.2.2.2.2.2.2.2.2.2.2.2.2.2.2.2.2.2.2.2.2.2.2.2.2.2.1
theorem dX1_side_36 : decode cX1_side 36 = .ok (.i2l, 1) := DX1_side.2.2.2.2.2.2.2.2.2.2.2.2.2.2.2.2.2.2.2.2.2.2.2.2.2.2.1
theorem dX1_side_37 : decode cX1_side 37 = .ok (.iload_n 3, 1) := DX1_side.2.2.2.2.2.2.2.2.2.2.2.2.2.2.2.2.2.2.2.2.2.2.2.2.2.2.2.1
theorem dX1_side_38 : decode cX1_side 38 = .ok (.aload_n 0, 1) := DX1_side.2.2.2.2.2.2.2.2.2.2.2.2.2.2.2.2.2.2.2.2.2.2.2.2.2.2.2.2.1
theorem dX1_side_39 : decode cX1_side 39 = .ok (.getfield 17, 3) := DX1_side.2.2.2.2.2.2.2.2.2.2.2.2.2.2.2.2.2.2.2.2.2.2.2.2.2.2.2.2.2.1
theorem dX1_side_42 : decode cX1_side 42 = .ok (.iload_n 1, 1) := DX1_side.2.2.2.2.2.2.2.2.2.2.2.2.2.2.2.2.2.2.2.2.2.2.2.2.2.2.2.2.2.2.1
theorem dX1_side_43 : decode cX1_side 43 = .ok (.iaload, 1) := DX1_side.2.2.2.2.2.2.2.2.2.2.2.2.2.2.2.2.2.2.2.2.2.2.2.2.2.2.2.2.2.2.2.1
theorem dX1_side_44 : decode cX1_side 44 = .ok (.isub, 1) := DX1_side.2.2.2.2.2.2.2.2.2.2.2.2.2.2.2.2.2.2.2.2.2.2.2.2.2.2.2.2.2.2.2.2.1
theorem dX1_side_45 : decode cX1_side 45 = .ok (.i2l, 1) := DX1_side.2.2.2.2.2.2.2.2.2.2.2.2.2.2.2.2.2.2.2.2.2.2.2.2.2.2.2.2.2.2.2.2.2.1
theorem dX1_side_46 : decode cX1_side 46 = .ok (.invokestatic 57, 3) := DX1_side.2.2.2.2.2.2.2.2.2.2.2.2.2.2.2.2.2.2.2.2.2.2.2.2.2.2.2.2.2.2.2.2.2.2.1
theorem dX1_side_49 : decode cX1_side 49 = .ok (.invokestatic 61, 3) := DX1_side.2.2.2.2.2.2.2.2.2.2.2.2.2.2.2.2.2.2.2.2.2.2.2.2.2.2.2.2.2.2.2.2.2.2.2.1
theorem dX1_side_52 : decode cX1_side 52 = .ok (.ireturn, 1) := DX1_side.2.2.2.2.2.2.2.2.2.2.2.2.2.2.2.2.2.2.2.2.2.2.2.2.2.2.2.2.2.2.2.2.2.2.2.2
theorem dX1_compare_0 : decode cX1_compare 0 = .ok (.aload_n 0, 1) := DX1_compare.1
theorem dX1_compare_1 : decode cX1_compare 1 = .ok (.getfield 20, 3) := DX1_compare.2.1
theorem dX1_compare_4 : decode cX1_compare 4 = .ok (.iload_n 1, 1) := DX1_compare.2.2.1
theorem dX1_compare_5 : decode cX1_compare 5 = .ok (.iaload, 1) := DX1_compare.2.2.2.1
theorem dX1_compare_6 : decode cX1_compare 6 = .ok (.aload_n 0, 1) := DX1_compare.2.2.2.2.1
theorem dX1_compare_7 : decode cX1_compare 7 = .ok (.getfield 13, 3) := DX1_compare.2.2.2.2.2.1
theorem dX1_compare_10 : decode cX1_compare 10 = .ok (.iload_n 1, 1) := DX1_compare.2.2.2.2.2.2.1
theorem dX1_compare_11 : decode cX1_compare 11 = .ok (.iaload, 1) := DX1_compare.2.2.2.2.2.2.2.1
theorem dX1_compare_12 : decode cX1_compare 12 = .ok (.isub, 1) := DX1_compare.2.2.2.2.2.2.2.2.1
theorem dX1_compare_13 : decode cX1_compare 13 = .ok (.i2l, 1) := DX1_compare.2.2.2.2.2.2.2.2.2.1
theorem dX1_compare_14 : decode cX1_compare 14 = .ok (.lstore 4, 2) := DX1_compare.2.2.2.2.2.2.2.2.2.2.1
theorem dX1_compare_16 : decode cX1_compare 16 = .ok (.aload_n 0, 1) := DX1_compare.2.2.2.2.2.2.2.2.2.2.2.1
theorem dX1_compare_17 : decode cX1_compare 17 = .ok (.getfield 20, 3) := DX1_compare.2.2.2.2.2.2.2.2.2.2.2.2.1
theorem dX1_compare_20 : decode cX1_compare 20 = .ok (.iload_n 2, 1) := DX1_compare.2.2.2.2.2.2.2.2.2.2.2.2.2.1
theorem dX1_compare_21 : decode cX1_compare 21 = .ok (.iaload, 1) := DX1_compare.2.2.2.2.2.2.2.2.2.2.2.2.2.2.1
theorem dX1_compare_22 : decode cX1_compare 22 = .ok (.aload_n 0, 1) := DX1_compare.2.2.2.2.2.2.2.2.2.2.2.2.2.2.2.1
theorem dX1_compare_23 : decode cX1_compare 23 = .ok (.getfield 13, 3) := DX1_compare.2.2.2.2.2.2.2.2.2.2.2.2.2.2.2.2.1
theorem dX1_compare_26 : decode cX1_compare 26 = .ok (.iload_n 2, 1) := DX1_compare.2.2.2.2.2.2.2.2.2.2.2.2.2.2.2.2.2.1
theorem dX1_compare_27 : decode cX1_compare 27 = .ok (.iaload, 1) := DX1_compare.2.2.2.2.2.2.2.2.2.2.2.2.2.2.2.2.2.2.1
theorem dX1_compare_28 : decode cX1_compare 28 = .ok (.isub, 1) := DX1_compare.2.2.2.2.2.2.2.2.2.2.2.2.2.2.2.2.2.2.2.1
theorem dX1_compare_29 : decode cX1_compare 29 = .ok (.i2l, 1) := DX1_compare.2.2.2.2.2.2.2.2.2.2.2.2.2.2.2.2.2.2.2.2.1
theorem dX1_compare_30 : decode cX1_compare 30 = .ok (.lstore 6, 2) := DX1_compare.2.2.2.2.2.2.2.2.2.2.2.2.2.2.2.2.2.2.2.2.2.1
theorem dX1_compare_32 : decode cX1_compare 32 = .ok (.aload_n 0, 1) := DX1_compare.2.2.2.2.2.2.2.2.2.2.2.2.2.2.2.2.2.2.2.2.2.2.1
theorem dX1_compare_33 : decode cX1_compare 33 = .ok (.getfield 17, 3) := DX1_compare.2.2.2.2.2.2.2.2.2.2.2.2.2.2.2.2.2.2.2.2.2.2.2.1
theorem dX1_compare_36 : decode cX1_compare 36 = .ok (.iload_n 1, 1) := DX1_compare.2.2.2.2.2.2.2.2.2.2.2.2.2.2.2.2.2.2.2.2.2.2.2.2.1
theorem dX1_compare_37 : decode cX1_compare 37 = .ok (.iaload, 1) := DX1_compare.2.2.2.2.2.2.2.2.2.2.2.2.2.2.2.2.2.2.2.2.2.2.2.2.2.1
theorem dX1_compare_38 : decode cX1_compare 38 = .ok (.i2l, 1) := DX1_compare.2.2.2.2.2.2.2.2.2.2.2.2.2.2.2.2.2.2.2.2.2.2.2.2.2.2.1
theorem dX1_compare_39 : decode cX1_compare 39 = .ok (.lload 4, 2) := DX1_compare.2.2.2.2.2.2.2.2.2.2.2.2.2.2.2.2.2.2.2.2.2.2.2.2.2.2.2.1
theorem dX1_compare_41 : decode cX1_compare 41 = .ok (.lmul, 1) := DX1_compare.2.2.2.2.2.2.2.2.2.2.2.2.2.2.2.2.2.2.2.2.2.2.2.2.2.2.2.2.1
theorem dX1_compare_42 : decode cX1_compare 42 = .ok (.aload_n 0, 1) := DX1_compare.2.2.2.2.2.2.2.2.2.2.2.2.2.2.2.2.2.2.2.2.2.2.2.2.2.2.2.2.2.1
theorem dX1_compare_43 : decode cX1_compare 43 = .ok (.getfield 23, 3) := DX1_compare.2.2.2.2.2.2.2.2.2.2.2.2.2.2.2.2.2.2.2.2.2.2.2.2.2.2.2.2.2.2.1
theorem dX1_compare_46 : decode cX1_compare 46 = .ok (.iload_n 1, 1) := DX1_compare.2.2.2.2.2.2.2.2.2.2.2.2.2.2.2.2.2.2.2.2.2.2.2.2.2.2.2.2.2.2.2.1
theorem dX1_compare_47 : decode cX1_compare 47 = .ok (.iaload, 1) := DX1_compare.2.2.2.2.2.2.2.2.2.2.2.2.2.2.2.2.2.2.2.2.2.2.2.2.2.2.2.2.2.2.2.2.1
theorem dX1_compare_48 : decode cX1_compare 48 = .ok (.aload_n 0, 1) := DX1_compare.2.2.2.2.2.2.2.2.2.2.2.2.2.2.2.2.2.2.2.2.2.2.2.2.2.2.2.2.2.2.2.2.2.1
theorem dX1_compare_49 : decode cX1_compare 49 = .ok (.getfield 17, 3) := DX1_compare.2.2.2.2.2.2.2.2.2.2.2.2.2.2.2.2.2.2.2.2.2.2.2.2.2.2.2.2.2.2.2.2.2.2.1
theorem dX1_compare_52 : decode cX1_compare 52 = .ok (.iload_n 1, 1) := DX1_compare.2.2.2.2.2.2.2.2.2.2.2.2.2.2.2.2.2.2.2.2.2.2.2.2.2.2.2.2.2.2.2.2.2.2.2.1
theorem dX1_compare_53 : decode cX1_compare 53 = .ok (.iaload, 1) := DX1_compare.2.2.2.2.2.2.2.2.2.2.2.2.2.2.2.2.2.2.2.2.2.2.2.2.2.2.2.2.2.2.2.2.2.2.2.2.1
theorem dX1_compare_54 : decode cX1_compare 54 = .ok (.isub, 1) := DX1_compare.2.2.2.2.2.2.2.2.2.2.2.2.2.2.2.2.2.2.2.2.2.2.2.2.2.2.2.2.2.2.2.2.2.2.2.2.2.1
theorem dX1_compare_55 : decode cX1_compare 55 = .ok (.i2l, 1) := DX1_compare.2.2.2.2.2.2.2.2.2.2.2.2.2.2.2.2.2.2.2.2.2.2.2.2.2.2.2.2.2.2.2.2.2.2.2.2.2.2.1
theorem dX1_compare_56 : decode cX1_compare 56 = .ok (.iload_n 3, 1) := DX1_compare.2.2.2.2.2.2.2.2.2.2.2.2.2.2.2.2.2.2.2.2.2.2.2.2.2.2.2.2.2.2.2.2.2.2.2.2.2.2.2.1
theorem dX1_compare_57 : decode cX1_compare 57 = .ok (.aload_n 0, 1) := DX1_compare.2.2.2.2.2.2.2.2.2.2.2.2.2.2.2.2.2.2.2.2.2.2.2.2.2.2.2.2.2.2.2.2.2.2.2.2.2.2.2.2.1
theorem dX1_compare_58 : decode cX1_compare 58 = .ok (.getfield 13, 3) := DX1_compare.2.2.2.2.2.2.2.2.2.2.2.2.2.2.2.2.2.2.2.2.2.2.2.2.2.2.2.2.2.2.2.2.2.2.2.2.2.2.2.2.2.1
theorem dX1_compare_61 : decode cX1_compare 61 = .ok (.iload_n 1, 1) := DX1_compare.2.2.2.2.2.2.2.2.2.2.2.2.2.2.2.2.2.2.2.2.2.2.2.2.2.2.2.2.2.2.2.2.2.2.2.2.2.2.2.2.2.2.1
theorem dX1_compare_62 : decode cX1_compare 62 = .ok (.iaload, 1) := DX1_compare.2.2.2.2.2.2.2.2.2.2.2.2.2.2.2.2.2.2.2.2.2.2.2.2.2.2.2.2.2.2.2.2.2.2.2.2.2.2.2.2.2.2.2.1
theorem dX1_compare_63 : decode cX1_compare 63 = .ok (.isub, 1) := DX1_compare.2.2.2.2.2.2.2.2.2.2.2.2.2.2.2.2.2.2.2.2.2.2.2.2.2.2.2.2.2.2.2.2.2.2.2.2.2.2.2.2.2.2.2.2.1
theorem dX1_compare_64 : decode cX1_compare 64 = .ok (.i2l, 1) := DX1_compare.2.2.2.2.2.2.2.2.2.2.2.2.2.2.2.2.2.2.2.2.2.2.2.2.2.2.2.2.2.2.2.2.2.2.2.2.2.2.2.2.2.2.2.2.2.1
theorem dX1_compare_65 : decode cX1_compare 65 = .ok (.lmul, 1) := DX1_compare.2.2.2.2.2.2.2.2.2.2.2.2.2.2.2.2.2.2.2.2.2.2.2.2.2.2.2.2.2.2.2.2.2.2.2.2.2.2.2.2.2.2.2.2.2.2.1
theorem dX1_compare_66 : decode cX1_compare 66 = .ok (.ladd, 1) := DX1_compare.2.2.2.2.2.2.2.2.2.2.2.2.2.2.2.2.2.2.2.2.2.2.2.2.2.2.2.2.2.2.2.2.2.2.2.2.2.2.2.2.2.2.2.2.2.2.2.1
theorem dX1_compare_67 : decode cX1_compare 67 = .ok (.lstore 8, 2) := DX1_compare.2.2.2.2.2.2.2.2.2.2.2.2.2.2.2.2.2.2.2.2.2.2.2.2.2.2.2.2.2.2.2.2.2.2.2.2.2.2.2.2.2.2.2.2.2.2.2.2.1
theorem dX1_compare_69 : decode cX1_compare 69 = .ok (.aload_n 0, 1) := DX1_compare.2.2.2.2.2.2.2.2.2.2.2.2.2.2.2.2.2.2.2.2.2.2.2.2.2.2.2.2.2.2.2.2.2.2.2.2.2.2.2.2.2.2.2.2.2.2.2.2.2.1
theorem dX1_compare_70 : decode cX1_compare 70 = .ok (.getfield 17, 3) := DX1_compare.2.2.2.2.2.2.2.2.2.2.2.2.2.2.2.2.2.2.2.2.2.2.2.2.2.2.2.2.2.2.2.2.2.2.2.2.2.2.2.2.2.2.2.2.2.2.2.2.2.2.1
theorem dX1_compare_73 : decode cX1_compare 73 = .ok (.iload_n 2, 1) := DX1_compare.2.2.2.2.2.2.2.2.2.2.2.2.2.2.2.2.2.2.2.2.2.2.2.2.2.2.2.2.2.2.2.2.2.2.2.2.2.2.2.2.2.2.2.2.2.2.2.2.2.2.2.1
theorem dX1_compare_74 : decode cX1_compare 74 = .ok (.iaload, 1) := DX1_compare.2.2.2.2.2.2.2.2.2.2.2.2.2.2.2.2.2.2.2.2.2.2.2.2.2.2.2.2.2.2.2.2.2.2.2.2.2.2.2.2.2.2.2.2.2.2.2.2.2.2.2.2.1
theorem dX1_compare_75 : decode cX1_compare 75 = .ok (.i2l, 1) := DX1_compare.2.2.2.2.2.2.2.2.2.2.2.2.2.2.2.2.2.2.2.2.2.2.2.2.2.2.2.2.2.2.2.2.2.2.2.2.2.2.2.2.2.2.2.2.2.2.2.2.2.2.2.2.2.1
theorem dX1_compare_76 : decode cX1_compare 76 = .ok (.lload 6, 2) := DX1_compare.2.2.2.2.2.2.2.2.2.2.2.2.2.2.2.2.2.2.2.2.2.2.2.2.2.2.2.2.2.2.2.2.2.2.2.2.2.2.2.2.2.2.2.2.2.2.2.2.2.2.2.2.2.2.1
theorem dX1_compare_78 : decode cX1_compare 78 = .ok (.lmul, 1) := DX1_compare.2.2.2.2.2.2.2.2.2.2.2.2.2.2.2.2.2.2.2.2.2.2.2.2.2.2.2.2.2.2.2.2.2.2.2.2.2.2.2.2.2.2.2.2.2.2.2.2.2.2.2.2.2.2.2.1
theorem dX1_compare_79 : decode cX1_compare 79 = .ok (.aload_n 0, 1) := DX1_compare.2.2.2.2.2.2.2.2.2.2.2.2.2.2.2.2.2.2.2.2.2.2.2.2.2.2.2.2.2.2.2.2.2.2.2.2.2.2.2.2.2.2.2.2.2.2.2.2.2.2.2.2.2.2.2.2.1
theorem dX1_compare_80 : decode cX1_compare 80 = .ok (.getfield 23, 3) := DX1_compare.2.2.2.2.2.2.2.2.2.2.2.2.2.2.2.2.2.2.2.2.2.2.2.2.2.2.2.2.2.2.2.2.2.2.2.2.2.2.2.2.2.2.2.2.2.2.2.2.2.2.2.2.2.2.2.2.2.1
theorem dX1_compare_83 : decode cX1_compare 83 = .ok (.iload_n 2, 1) := DX1_compare.2.2.2.2.2.2.2.2.2.2.2.2.2.2.2.2.2.2.2.2.2.2.2.2.2.2.2.2.2.2.2.2.2.2.2.2.2.2.2.2.2.2.2.2.2.2.2.2.2.2.2.2.2.2.2.2.2.2.1
theorem dX1_compare_84 : decode cX1_compare 84 = .ok (.iaload, 1) := DX1_compare.2.2.2.2.2.2.2.2.2.2.2.2.2.2.2.2.2.2.2.2.2.2.2.2.2.2.2.2.2.2.2.2.2.2.2.2.2.2.2.2.2.2.2.2.2.2.2.2.2.2.2.2.2.2.2.2.2.2.2.1
theorem dX1_compare_85 : decode cX1_compare 85 = .ok (.aload_n 0, 1) := DX1_compare.2.2.2.2.2.2.2.2.2.2.2.2.2.2.2.2.2.2.2.2.2.2.2.2.2.2.2.2.2.2.2.2.2.2.2.2.2.2.2.2.2.2.2.2.2.2.2.2.2.2.2.2.2.2.2.2.2.2.2.2.1
theorem dX1_compare_86 : decode cX1_compare 86 = .ok (.getfield 17, 3) := DX1_compare.2.2.2.2.2.2.2.2.2.2.2.2.2.2.2.2.2.2.2.2.2.2.2.2.2.2.2.2.2.2.2.2.2.2.2.2.2.2.2.2.2.2.2.2.2.2.2.2.2.2.2.2.2.2.2.2.2.2.2.2.2.1
theorem dX1_compare_89 : decode cX1_compare 89 = .ok (.iload_n 2, 1) := DX1_compare.2.2.2.2.2.2.2.2.2.2.2.2.2.2.2.2.2.2.2.2.2.2.2.2.2.2.2.2.2.2.2.2.2.2.2.2.2.2.2.2.2.2.2.2.2.2.2.2.2.2.2.2.2.2.2.2.2.2.2.2.2.2.1
theorem dX1_compare_90 : decode cX1_compare 90 = .ok (.iaload, 1) := DX1_compare.2.2.2.2.2.2.2.2.2.2.2.2.2.2.2.2.2.2.2.2.2.2.2.2.2.2.2.2.2.2.2.2.2.2.2.2.2.2.2.2.2.2.2.2.2.2.2.2.2.2.2.2.2.2.2.2.2.2.2.2.2.2.2.1
theorem dX1_compare_91 : decode cX1_compare 91 = .ok (.isub, 1) := DX1_compare.2.2.2.2.2.2.2.2.2.2.2.2.2.2.2.2.2.2.2.2.2.2.2.2.2.2.2.2.2.2.2.2.2.2.2.2.2.2.2.2.2.2.2.2.2.2.2.2.2.2.2.2.2.2.2.2.2.2.2.2.2.2.2.2.1
theorem dX1_compare_92 : decode cX1_compare 92 = .ok (.i2l, 1) := DX1_compare.2.2.2.2.2.2.2.2.2.2.2.2.2.2.2.2.2.2.2.2.2.2.2.2.2.2.2.2.2.2.2.2.2.2.2.2.2.2.2.2.2.2.2.2.2.2.2.2.2.2.2.2.2.2.2.2.2.2.2.2.2.2.2.2.2.1
theorem dX1_compare_93 : decode cX1_compare 93 = .ok (.iload_n 3, 1) := DX1_compare.2.2.2.2.2.2.2.2.2.2.2.2.2.2.2.2.2.2.2.2.2.2.2.2.2.2.2.2.2.2.2.2.2.2.2.2.2.2.2.2.2.2.2.2.2.2.2.2.2.2.2.2.2.2.2.2.2.2.2.2.2.2.2.2.2.2.1
theorem dX1_compare_94 : decode cX1_compare 94 = .ok (.aload_n 0, 1) := DX1_compare.2.2.2.2.2.2.2.2.2.2.2.2.2.2.2.2.2.2.2.2.2.2.2.2.2.2.2.2.2.2.2.2.2.2.2.2.2.2.2.2.2.2.2.2.2.2.2.2.2.2.2.2.2.2.2.2.2.2.2.2.2.2.2.2.2.2.2.1
theorem dX1_compare_95 : decode cX1_compare 95 = .ok (.getfield 13, 3) := DX1_compare.2.2.2.2.2.2.2.2.2.2.2.2.2.2.2.2.2.2.2.2.2.2.2.2.2.2.2.2.2.2.2.2.2.2.2.2.2.2.2.2.2.2.2.2.2.2.2.2.2.2.2.2.2.2.2.2.2.2.2.2.2.2.2.2.2.2.2.2.1
theorem dX1_compare_98 : decode cX1_compare 98 = .ok (.iload_n 2, 1) := DX1_compare.2.2.2.2.2.2.2.2.2.2.2.2.2.2.2.2.2.2.2.2.2.2.2.2.2.2.2.2.2.2.2.2.2.2.2.2.2.2.2.2.2.2.2.2.2.2.2.2.2.2.2.2.2.2.2.2.2.2.2.2.2.2.2.2.2.2.2.2.2.1
theorem dX1_compare_99 : decode cX1_compare 99 = .ok (.iaload, 1) := DX1_compare.2.2.2.2.2.2.2.2.2.2.2.2.2.2.2.2.2.2.2.2.2.2.2.2.2.2.2.2.2.2.2.2.2.2.2.2.2.2.2.2.2.2.2.2.2.2.2.2.2.2.2.2.2.2.2.2.2.2.2.2.2.2.2.2.2.2.2.2.2.2.1
theorem dX1_compare_100 : decode cX1_compare 100 = .ok (.isub, 1) := DX1_compare.2.2.2.2.2.2.2.2.2.2.2.2.2.2.2.2.2.2.2.2.2.2.2.2.2.2.2.2.2.2.2.2.2.2.2.2.2.2.2.2.2.2.2.2.2.2.2.2.2.2.2.2.2.2.2.2.2.2.2.2.2.2.2.2.2.2.2.2.2.2.2.1
theorem dX1_compare_101 : decode cX1_compare 101 = .ok (.i2l, 1) := DX1_compare.2.2.2.2.2.2.2.2.2.2.2.2.2.2.2.2.2.2.2.2.2.2.2.2.2.2.2.2.2.2.2.2.2.2.2.2.2.2.2.2.2.2.2.2.2.2.2.2.2.2.2.2.2.2.2.2.2.2.2.2.2.2.2.2.2.2.2.2.2.2.2.2.1
theorem dX1_compare_102 : decode cX1_compare 102 = .ok (.lmul, 1) := DX1_compare.2.2.2.2.2.2.2.2.2.2.2.2.2.2.2.2.2.2.2.2.2.2.2.2.2.2.2.2.2.2.2.2.2.2.2.2.2.2.2.2.2.2.2.2.2.2.2.2.2.2.2.2.2.2.2.2.2.2.2.2.2.2.2.2.2.2.2.2.2.2.2.2.2.1
theorem dX1_compare_103 : decode cX1_compare 103 = .ok (.ladd, 1) := DX1_compare.2.2.2.2.2.2.2.2.2.2.2.2.2.2.2.2.2.2.2.2.2.2.2.2.2.2.2.2.2.2.2.2.2.2.2.2.2.2.2.2.2.2.2.2.2.2.2.2.2.2.2.2.2.2.2.2.2.2.2.2.2.2.2.2.2.2.2.2.2.2.2.2.2.2.1
theorem dX1_compare_104 : decode cX1_compare 104 = .ok (.lstore 10, 2) := DX1_compare.2.2.2.2.2.2.2.2.2.2.2.2.2.2.2.2.2.2.2.2.2.2.2.2.2.2.2.2.2.2.2.2.2.2.2.2.2.2.2.2.2.2.2.2.2.2.2.2.2.2.2.2.2.2.2.2.2.2.2.2.2.2.2.2.2.2.2.2.2.2.2.2.2.2.2.1
theorem dX1_compare_106 : decode cX1_compare 106 = .ok (.lload 8, 2) := DX1_compare.2.2.2.2.2.2.2.2.2.2.2.2.2.2.2.2.2.2.2.2.2.2.2.2.2.2.2.2.2.2.2.2.2.2.2.2.2.2.2.2.2.2.2.2.2.2.2.2.2.2.2.2.2.2.2.2.2.2.2.2.2.2.2.2.2.2.2.2.2.2.2.2.2.2.2.2.1
theorem dX1_compare_108 : decode cX1_compare 108 = .ok (.lload 6, 2) := DX1_compare.2.2.2.2.2.2.2.2.2.2.2.2.2.2.2.2.2.2.2.2.2.2.2.2.2.2.2.2.2.2.2.2.2.2.2.2.2.2.2.2.2.2.2.2.2.2.2.2.2.2.2.2.2.2.2.2.2.2.2.2.2.2.2.2.2.2.2.2.2.2.2.2.2.2.2.2.2.1
theorem dX1_compare_110 : decode cX1_compare 110 = .ok (.lmul, 1) := DX1_compare.2.2.2.2.2.2.2.2.2.2.2.2.2.2.2.2.2.2.2.2.2.2.2.2.2.2.2.2.2.2.2.2.2.2.2.2.2.2.2.2.2.2.2.2.2.2.2.2.2.2.2.2.2.2.2.2.2.2.2.2.2.2.2.2.2.2.2.2.2.2.2.2.2.2.2.2.2.2.1
theorem dX1_compare_111 : decode cX1_compare 111 = .ok (.lload 10, 2) := DX1_compare.2.2.2.2.2.2.2.2.2.2.2.2.2.2.2.2.2.2.2.2.2.2.2.2.2.2.2.2.2.2.2.2.2.2.2.2.2.2.2.2.2.2.2.2.2.2.2.2.2.2.2.2.2.2.2.2.2.2.2.2.2.2.2.2.2.2.2.2.2.2.2.2.2.2.2.2.2.2.2.1
theorem dX1_compare_113 : decode cX1_compare 113 = .ok (.lload 4, 2) := DX1_compare.2.2.2.2.2.2.2.2.2.2.2.2.2.2.2.2.2.2.2.2.2.2.2.2.2.2.2.2.2.2.2.2.2.2.2.2.2.2.2.2.2.2.2.2.2.2.2.2.2.2.2.2.2.2.2.2.2.2.2.2.2.2.2.2.2.2.2.2.2.2.2.2.2.2.2.2.2.2.2.2.1
theorem dX1_compare_115 : decode cX1_compare 115 = .ok (.lmul, 1) := DX1_compare.2.2.2.2.2.2.2.2.2.2.2.2.2.2.2.2.2.2.2.2.2.2.2.2.2.2.2.2.2.2.2.2.2.2.2.2.2.2.2.2.2.2.2.2.2.2.2.2.2.2.2.2.2.2.2.2.2.2.2.2.2.2.2.2.2.2.2.2.2.2.2.2.2.2.2.2.2.2.2.2.2.1
theorem dX1_compare_116 : decode cX1_compare 116 = .ok (.lsub, 1) := DX1_compare.2.2.2.2.2.2.2.2.2.2.2.2.2.2.2.2.2.2.2.2.2.2.2.2.2.2.2.2.2.2.2.2.2.2.2.2.2.2.2.2.2.2.2.2.2.2.2.2.2.2.2.2.2.2.2.2.2.2.2.2.2.2.2.2.2.2.2.2.2.2.2.2.2.2.2.2.2.2.2.2.2.2.1
theorem dX1_compare_117 : decode cX1_compare 117 = .ok (.lstore 12, 2) := DX1_compare.2.2.2.2.2.2.2.2.2.2.2.2.2.2.2.2.2.2.2.2.2.2.2.2.2.2.2.2.2.2.2.2.2.2.2.2.2.2.2.2.2.2.2.2.2.2.2.2.2.2.2.2.2.2.2.2.2.2.2.2.2.2.2.2.2.2.2.2.2.2.2.2.2.2.2.2.2.2.2.2.2.2.2.1
theorem dX1_compare_119 : decode cX1_compare 119 = .ok (.lload 12, 2) := DX1_compare.2.2.2.2.2.2.2.2.2.2.2.2.2.2.2.2.2.2.2.2.2.2.2.2.2.2.2.2.2.2.2.2.2.2.2.2.2.2.2.2.2.2.2.2.2.2.2.2.2.2.2.2.2.2.2.2.2.2.2.2.2.2.2.2.2.2.2.2.2.2.2.2.2.2.2.2.2.2.2.2.2.2.2.2.1
theorem dX1_compare_121 : decode cX1_compare 121 = .ok (.invokestatic 61, 3) := DX1_compare.2.2.2.2.2.2.2.2.2.2.2.2.2.2.2.2.2.2.2.2.2.2.2.2.2.2.2.2.2.2.2.2.2.2.2.2.2.2.2.2.2.2.2.2.2.2.2.2.2.2.2.2.2.2.2.2.2.2.2.2.2.2.2.2.2.2.2.2.2.2.2.2.2.2.2.2.2.2.2.2.2.2.2.2.2.1
theorem dX1_compare_124 : decode cX1_compare 124 = .ok (.lload 4, 2) := DX1_compare.2.2.2.2.2.2.2.2.2.2.2.2.2.2.2.2.2.2.2.2.2.2.2.2.2.2.2.2.2.2.2.2.2.2.2.2.2.2.2.2.2.2.2.2.2.2.2.2.2.2.2.2.2.2.2.2.2.2.2.2.2.2.2.2.2.2.2.2.2.2.2.2.2.2.2.2.2.2.2.2.2.2.2.2.2.2.1
theorem dX1_compare_126 : decode cX1_compare 126 = .ok (.invokestatic 61, 3) := DX1_compare.2.2.2.2.2.2.2.2.2.2.2.2.2.2.2.2.2.2.2.2.2.2.2.2.2.2.2.2.2.2.2.2.2.2.2.2.2.2.2.2.2.2.2.2.2.2.2.2.2.2.2.2.2.2.2.2.2.2.2.2.2.2.2.2.2.2.2.2.2.2.2.2.2.2.2.2.2.2.2.2.2.2.2.2.2.2.2.1
theorem dX1_compare_129 : decode cX1_compare 129 = .ok (.imul, 1) := DX1_compare.2.2.2.2.2.2.2.2.2.2.2.2.2.2.2.2.2.2.2.2.2.2.2.2.2.2.2.2.2.2.2.2.2.2.2.2.2.2.2.2.2.2.2.2.2.2.2.2.2.2.2.2.2.2.2.2.2.2.2.2.2.2.2.2.2.2.2.2.2.2.2.2.2.2.2.2.2.2.2.2.2.2.2.2.2.2.2.2.1
theorem dX1_compare_130 : decode cX1_compare 130 = .ok (.lload 6, 2) := DX1_compare.2.2.2.2.2.2.2.2.2.2.2.2.2.2.2.2.2.2.2.2.2.2.2.2.2.2.2.2.2.2.2.2.2.2.2.2.2.2.2.2.2.2.2.2.2.2.2.2.2.2.2.2.2.2.2.2.2.2.2.2.2.2.2.2.2.2.2.2.2.2.2.2.2.2.2.2.2.2.2.2.2.2.2.2.2.2.2.2.2.1
theorem dX1_compare_132 : decode cX1_compare 132 = .ok (.invokestatic 61, 3) := DX1_compare.2.2.2.2.2.2.2.2.2.2.2.2.2.2.2.2.2.2.2.2.2.2.2.2.2.2.2.2.2.2.2.2.2.2.2.2.2.2.2.2.2.2.2.2.2.2.2.2.2.2.2.2.2.2.2.2.2.2.2.2.2.2.2.2.2.2.2.2.2.2.2.2.2.2.2.2.2.2.2.2.2.2.2.2.2.2.2.2.2.2.1
theorem dX1_compare_135 : decode cX1_compare 135 = .ok (.imul, 1) := DX1_compare.2.2.2.2.2.2.2.2.2.2.2.2.2.2.2.2.2.2.2.2.2.2.2.2.2.2.2.2.2.2.2.2.2.2.2.2.2.2.2.2.2.2.2.2.2.2.2.2.2.2.2.2.2.2.2.2.2.2.2.2.2.2.2.2.2.2.2.2.2.2.2.2.2.2.2.2.2.2.2.2.2.2.2.2.2.2.2.2.2.2.2.1
theorem dX1_compare_136 : decode cX1_compare 136 = .ok (.ireturn, 1) := DX1_compare.2.2.2.2.2.2.2.2.2.2.2.2.2.2.2.2.2.2.2.2.2.2.2.2.2.2.2.2.2.2.2.2.2.2.2.2.2.2.2.2.2.2.2.2.2.2.2.2.2.2.2.2.2.2.2.2.2.2.2.2.2.2.2.2.2.2.2.2.2.2.2.2.2.2.2.2.2.2.2.2.2.2.2.2.2.2.2.2.2.2.2.2
theorem dX1_nodeBelow_0 : decode cX1_nodeBelow 0 = .ok (.aconst_null, 1) := DX1_nodeBelow.1
theorem dX1_nodeBelow_1 : decode cX1_nodeBelow 1 = .ok (.astore_n 3, 1) := DX1_nodeBelow.2.1
theorem dX1_nodeBelow_2 : decode cX1_nodeBelow 2 = .ok (.iconst 0, 1) := DX1_nodeBelow.2.2.1
theorem dX1_nodeBelow_3 : decode cX1_nodeBelow 3 = .ok (.istore 4, 2) := DX1_nodeBelow.2.2.2.1
theorem dX1_nodeBelow_5 : decode cX1_nodeBelow 5 = .ok (.iload 4, 2) := DX1_nodeBelow.2.2.2.2.1
theorem dX1_nodeBelow_7 : decode cX1_nodeBelow 7 = .ok (.aload_n 0, 1) := DX1_nodeBelow.2.2.2.2.2.1
theorem dX1_nodeBelow_8 : decode cX1_nodeBelow 8 = .ok (.getfield 29, 3) := DX1_nodeBelow.2.2.2.2.2.2.1
theorem dX1_nodeBelow_11 : decode cX1_nodeBelow 11 = .ok (.invokevirtual 110, 3) := DX1_nodeBelow.2.2.2.2.2.2.2.1
theorem dX1_nodeBelow_14 : decode cX1_nodeBelow 14 = .ok (.if_icmp .ge 60, 3) := DX1_nodeBelow.2.2.2.2.2.2.2.2.1
theorem dX1_nodeBelow_17 : decode cX1_nodeBelow 17 = .ok (.aload_n 0, 1) := DX1_nodeBelow.2.2.2.2.2.2.2.2.2.1
theorem dX1_nodeBelow_18 : decode cX1_nodeBelow 18 = .ok (.getfield 29, 3) := DX1_nodeBelow.2.2.2.2.2.2.2.2.2.2.1
theorem dX1_nodeBelow_21 : decode cX1_nodeBelow 21 = .ok (.iload 4, 2) := DX1_nodeBelow.2.2.2.2.2.2.2.2.2.2.2.1
theorem dX1_nodeBelow_23 : decode cX1_nodeBelow 23 = .ok (.invokevirtual 114, 3) := DX1_nodeBelow.2.2.2.2.2.2.2.2.2.2.2.2.1
theorem dX1_nodeBelow_26 : decode cX1_nodeBelow 26 = .ok (.checkcast 118, 3) := DX1_nodeBelow.2.2.2.2.2.2.2.2.2.2.2.2.2.1
theorem dX1_nodeBelow_29 : decode cX1_nodeBelow 29 = .ok (.astore 5, 2) := DX1_nodeBelow.2.2.2.2.2.2.2.2.2.2.2.2.2.2.1
theorem dX1_nodeBelow_31 : decode cX1_nodeBelow 31 = .ok (.aload 5, 2) := DX1_nodeBelow.2.2.2.2.2.2.2.2.2.2.2.2.2.2.2.1
theorem dX1_nodeBelow_33 : decode cX1_nodeBelow 33 = .ok (.getfield 120, 3) := DX1_nodeBelow.2.2.2.2.2.2.2.2.2.2.2.2.2.2.2.2.1
theorem dX1_nodeBelow_36 : decode cX1_nodeBelow 36 = .ok (.iload_n 1, 1) := DX1_nodeBelow.2.2.2.2.2.2.2.2.2.2.2.2.2.2.2.2.2.1
theorem dX1_nodeBelow_37 : decode cX1_nodeBelow 37 = .ok (.if_icmp .ne 31, 3) := DX1_nodeBelow.2.2.2.2.2.2.2.2.2.2.2.2.2.2.2.2.2.2.1
theorem dX1_nodeBelow_40 : decode cX1_nodeBelow 40 = .ok (.aload 5, 2) := DX1_nodeBelow.2.2.2.2.2.2.2.2.2.2.2.2.2.2.2.2.2.2.2.1
theorem dX1_nodeBelow_42 : decode cX1_nodeBelow 42 = .ok (.getfield 123, 3) := DX1_nodeBelow.2.2.2.2.2.2.2.2.2.2.2.2.2.2.2.2.2.2.2.2.1
theorem dX1_nodeBelow_45 : decode cX1_nodeBelow 45 = .ok (.iload_n 2, 1) := DX1_nodeBelow.2.2.2.2.2.2.2.2.2.2.2.2.2.2.2.2.2.2.2.2.2.1
theorem dX1_nodeBelow_46 : decode cX1_nodeBelow 46 = .ok (.if_icmp .ge 22, 3) := DX1_nodeBelow.2.2.2.2.2.2.2.2.2.2.2.2.2.2.2.2.2.2.2.2.2.2.1
theorem dX1_nodeBelow_49 : decode cX1_nodeBelow 49 = .ok (.aload_n 3, 1) := DX1_nodeBelow.2.2.2.2.2.2.2.2.2.2.2.2.2.2.2.2.2.2.2.2.2.2.2.1
theorem dX1_nodeBelow_50 : decode cX1_nodeBelow 50 = .ok (.ifnull 15, 3) := DX1_nodeBelow.2.2.2.2.2.2.2.2.2.2.2.2.2.2.2.2.2.2.2.2.2.2.2.2.1
theorem dX1_nodeBelow_53 : decode cX1_nodeBelow 53 = .ok (.aload 5, 2) := DX1_nodeBelow.2.2.2.2.2.2.2.2.2.2.2.2.2.2.2.2.2.2.2.2.2.2.2.2.2.1
theorem dX1_nodeBelow_55 : decode cX1_nodeBelow 55 = .ok (.getfield 123, 3) := DX1_nodeBelow.2.2.2.2.2.2.2.2.2.2.2.2.2.2.2.2.2.2.2.2.2.2.2.2.2.2.1
theorem dX1_nodeBelow_58 : decode cX1_nodeBelow 58 = .ok (.aload_n 3, 1) := DX1_nodeBelow.2.2.2.2.2.2.2.2.2.2.2.2.2.2.2.2.2.2.2.2.2.2.2.2.2.2.2.1
theorem dX1_nodeBelow_59 : decode cX1_nodeBelow 59 = .ok (.getfield 123, 3) := DX1_nodeBelow.2.2.2.2.2.2.2.2.2.2.2.2.2.2.2.2.2.2.2.2.2.2.2.2.2.2.2.2.1
theorem dX1_nodeBelow_62 : decode cX1_nodeBelow 62 = .ok (.if_icmp .le 6, 3) := DX1_nodeBelow.2.2.2.2.2.2.2.2.2.2.2.2.2.2.2.2.2.2.2.2.2.2.2.2.2.2.2.2.2.1
theorem dX1_nodeBelow_65 : decode cX1_nodeBelow 65 = .ok (.aload 5, 2) := DX1_nodeBelow.2.2.2.2.2.2.2.2.2.2.2.2.2.2.2.2.2.2.2.2.2.2.2.2.2.2.2.2.2.2.1
theorem dX1_nodeBelow_67 : decode cX1_nodeBelow 67 = .ok (.astore_n 3, 1) := DX1_nodeBelow.2.2.2.2.2.2.2.2.2.2.2.2.2.2.2.2.2.2.2.2.2.2.2.2.2.2.2.2.2.2.2.1
theorem dX1_nodeBelow_68 : decode cX1_nodeBelow 68 = .ok (.iinc 4 1, 3) := DX1_nodeBelow.2.2.2.2.2.2.2.2.2.2.2.2.2.2.2.2.2.2.2.2.2.2.2.2.2.2.2.2.2.2.2.2.1
theorem dX1_nodeBelow_71 : decode cX1_nodeBelow 71 = .ok (.goto (-66), 3) := DX1_nodeBelow.2.2.2.2.2.2.2.2.2.2.2.2.2.2.2.2.2.2.2.2.2.2.2.2.2.2.2.2.2.2.2.2.2.1
theorem dX1_nodeBelow_74 : decode cX1_nodeBelow 74 = .ok (.aload_n 3, 1) := DX1_nodeBelow.2.2.2.2.2.2.2.2.2.2.2.2.2.2.2.2.2.2.2.2.2.2.2.2.2.2.2.2.2.2.2.2.2.2.1
theorem dX1_nodeBelow_75 : decode cX1_nodeBelow 75 = .ok (.areturn, 1) := DX1_nodeBelow.2.2.2.2.2.2.2.2.2.2.2.2.2.2.2.2.2.2.2.2.2.2.2.2.2.2.2.2.2.2.2.2.2.2.2
theorem dX1_sort_0 : decode cX1_sort 0 = .ok (.iconst 2, 1) := DX1_sort.1
theorem dX1_sort_1 : decode cX1_sort 1 = .ok (.istore_n 1, 1) := DX1_sort.2.1
theorem dX1_sort_2 : decode cX1_sort 2 = .ok (.iload_n 1, 1) := DX1_sort.2.2.1
theorem dX1_sort_3 : decode cX1_sort 3 = .ok (.aload_n 0, 1) := DX1_sort.2.2.2.1
theorem dX1_sort_4 : decode cX1_sort 4 = .ok (.getfield 42, 3) := DX1_sort.2.2.2.2.1
theorem dX1_sort_7 : decode cX1_sort 7 = .ok (.invokevirtual 110, 3) := DX1_sort.2.2.2.2.2.1
theorem dX1_sort_10 : decode cX1_sort 10 = .ok (.if_icmp .ge 66, 3) := DX1_sort.2.2.2.2.2.2.1
theorem dX1_sort_13 : decode cX1_sort 13 = .ok (.aload_n 0, 1) := DX1_sort.2.2.2.2.2.2.2.1
theorem dX1_sort_14 : decode cX1_sort 14 = .ok (.getfield 42, 3) := DX1_sort.2.2.2.2.2.2.2.2.1
theorem dX1_sort_17 : decode cX1_sort 17 = .ok (.iload_n 1, 1) := DX1_sort.2.2.2.2.2.2.2.2.2.1
theorem dX1_sort_18 : decode cX1_sort 18 = .ok (.invokevirtual 226, 3) := DX1_sort.2.2.2.2.2.2.2.2.2.2.1
theorem dX1_sort_21 : decode cX1_sort 21 = .ok (.checkcast 209, 3) := DX1_sort.2.2.2.2.2.2.2.2.2.2.2.1
theorem dX1_sort_24 : decode cX1_sort 24 = .ok (.astore_n 2, 1) := DX1_sort.2.2.2.2.2.2.2.2.2.2.2.2.1
theorem dX1_sort_25 : decode cX1_sort 25 = .ok (.iload_n 1, 1) := DX1_sort.2.2.2.2.2.2.2.2.2.2.2.2.2.1
theorem dX1_sort_26 : decode cX1_sort 26 = .ok (.istore_n 3, 1) := DX1_sort.2.2.2.2.2.2.2.2.2.2.2.2.2.2.1
theorem dX1_sort_27 : decode cX1_sort 27 = .ok (.iload_n 3, 1) := DX1_sort.2.2.2.2.2.2.2.2.2.2.2.2.2.2.2.1
theorem dX1_sort_28 : decode cX1_sort 28 = .ok (.iconst 1, 1) := DX1_sort.2.2.2.2.2.2.2.2.2.2.2.2.2.2.2.2.1
theorem dX1_sort_29 : decode cX1_sort 29 = .ok (.if_icmp .le 32, 3) := DX1_sort.2.2.2.2.2.2.2.2.2.2.2.2.2.2.2.2.2.1
theorem dX1_sort_32 : decode cX1_sort 32 = .ok (.aload_n 0, 1) := DX1_sort.2.2.2.2.2.2.2.2.2.2.2.2.2.2.2.2.2.2.1
theorem dX1_sort_33 : decode cX1_sort 33 = .ok (.getfield 42, 3) := DX1_sort.2.2.2.2.2.2.2.2.2.2.2.2.2.2.2.2.2.2.2.1
theorem dX1_sort_36 : decode cX1_sort 36 = .ok (.iload_n 3, 1) := DX1_sort.2.2.2.2.2.2.2.2.2.2.2.2.2.2.2.2.2.2.2.2.1
theorem dX1_sort_37 : decode cX1_sort 37 = .ok (.iconst 1, 1) := DX1_sort.2.2.2.2.2.2.2.2.2.2.2.2.2.2.2.2.2.2.2.2.2.1
theorem dX1_sort_38 : decode cX1_sort 38 = .ok (.isub, 1) := DX1_sort.2.2.2.2.2.2.2.2.2.2.2.2.2.2.2.2.2.2.2.2.2.2.1
theorem dX1_sort_39 : decode cX1_sort 39 = .ok (.invokevirtual 114, 3) := DX1_sort.2.2.2.2.2.2.2.2.2.2.2.2.2.2.2.2.2.2.2.2.2.2.2.1
theorem dX1_sort_42 : decode cX1_sort 42 = .ok (.checkcast 209, 3) := DX1_sort.2.2.2.2.2.2.2.2.2.2.2.2.2.2.2.2.2.2.2.2.2.2.2.2.1
theorem dX1_sort_45 : decode cX1_sort 45 = .ok (.getfield 229, 3) := DX1_sort.2.2.2.2.2.2.2.2.2.2.2.2.2.2.2.2.2.2.2.2.2.2.2.2.2.1
theorem dX1_sort_48 : decode cX1_sort 48 = .ok (.aload_n 2, 1) := DX1_sort.2.2.2.2.2.2.2.2.2.2.2.2.2.2.2.2.2.2.2.2.2.2.2.2.2.2.1
theorem dX1_sort_49 : decode cX1_sort 49 = .ok (.getfield 229, 3) := DX1_sort.2.2.2.2.2.2.2.2.2.2.2.2.2.2.2.2.2.2.2.2.2.2.2.2.2.2.2.1
theorem dX1_sort_52 : decode cX1_sort 52 = .ok (.if_icmp .le 9, 3) := DX1_sort.2.2.2.2.2.2.2.2.2.2.2.2.2.2.2.2.2.2.2.2.2.2.2.2.2.2.2.2.1
theorem dX1_sort_55 : decode cX1_sort 55 = .ok (.iinc 3 (-1), 3) := DX1_sort.2.2.2.2.2.2.2.2.2.2.2.2.2.2.2.2.2.2.2.2.2.2.2.2.2.2.2.2.2.1
theorem dX1_sort_58 : decode cX1_sort 58 = .ok (.goto (-31), 3) := DX1_sort.2.2.2.2.2.2.2.2.2.2.2.2.2.2.2.2.2.2.2.2.2.2.2.2.2.2.2.2.2.2.1
theorem dX1_sort_61 : decode cX1_sort 61 = .ok (.aload_n 0, 1) := DX1_sort.2.2.2.2.2.2.2.2.2.2.2.2.2.2.2.2.2.2.2.2.2.2.2.2.2.2.2.2.2.2.2.1
theorem dX1_sort_62 : decode cX1_sort 62 = .ok (.getfield 42, 3) := DX1_sort.2.2.2.2.2.2.2.2.2.2.2.2.2.2.2.2.2.2.2.2.2.2.2.2.2.2.2.2.2.2.2.2.1
theorem dX1_sort_65 : decode cX1_sort 65 = .ok (.iload_n 3, 1) := DX1_sort.2.2.2.2.2.2.2.2.2.2.2.2.2.2.2.2.2.2.2.2.2.2.2.2.2.2.2.2.2.2.2.2.2.1
theorem dX1_sort_66 : decode cX1_sort 66 = .ok (.aload_n 2, 1) := DX1_sort.2.2.2.2.2.2.2.2.2.2.2.2.2.2.2.2.2.2.2.2.2.2.2.2.2.2.2.2.2.2.2.2.2.2.1
theorem dX1_sort_67 : decode cX1_sort 67 = .ok (.invokevirtual 232, 3) := DX1_sort.2.2.2.2.2.2.2.2.2.2.2.2.2.2.2.2.2.2.2.2.2.2.2.2.2.2.2.2.2.2.2.2.2.2.2.1
theorem dX1_sort_70 : decode cX1_sort 70 = .ok (.iinc 1 1, 3) := DX1_sort.2.2.2.2.2.2.2.2.2.2.2.2.2.2.2.2.2.2.2.2.2.2.2.2.2.2.2.2.2.2.2.2.2.2.2.2.1
theorem dX1_sort_73 : decode cX1_sort 73 = .ok (.goto (-71), 3) := DX1_sort.2.2.2.2.2.2.2.2.2.2.2.2.2.2.2.2.2.2.2.2.2.2.2.2.2.2.2.2.2.2.2.2.2.2.2.2.2.1
theorem dX1_sort_76 : decode cX1_sort 76 = .ok (.return_, 1) := DX1_sort.2.2.2.2.2.2.2.2.2.2.2.2.2.2.2.2.2.2.2.2.2.2.2.2.2.2.2.2.2.2.2.2.2.2.2.2.2.2
theorem dX1_findPieces_0 : decode cX1_findPieces 0 = .ok (.aload_n 0, 1) := DX1_findPieces.1
theorem dX1_findPieces_1 : decode cX1_findPieces 1 = .ok (.iconst 0, 1) := DX1_findPieces.2.1
theorem dX1_findPieces_2 : decode cX1_findPieces 2 = .ok (.putfield 235, 3) := DX1_findPieces.2.2.1
theorem dX1_findPieces_5 : decode cX1_findPieces 5 = .ok (.iconst 0, 1) := DX1_findPieces.2.2.2.1
theorem dX1_findPieces_6 : decode cX1_findPieces 6 = .ok (.istore_n 1, 1) := DX1_findPieces.2.2.2.2.1
theorem dX1_findPieces_7 : decode cX1_findPieces 7 = .ok (.iload_n 1, 1) := DX1_findPieces.2.2.2.2.2.1
theorem dX1_findPieces_8 : decode cX1_findPieces 8 = .ok (.bipush 60, 2) := DX1_findPieces.2.2.2.2.2.2.1
theorem dX1_findPieces_10 : decode cX1_findPieces 10 = .ok (.if_icmp .ge 16, 3) := DX1_findPieces.2.2.2.2.2.2.2.1
theorem dX1_findPieces_13 : decode cX1_findPieces 13 = .ok (.aload_n 0, 1) := DX1_findPieces.2.2.2.2.2.2.2.2.1
theorem dX1_findPieces_14 : decode cX1_findPieces 14 = .ok (.getfield 45, 3) := DX1_findPieces.2.2.2.2.2.2.2.2.2.1
theorem dX1_findPieces_17 : decode cX1_findPieces 17 = .ok (.iload_n 1, 1) := DX1_findPieces.2.2.2.2.2.2.2.2.2.2.1
theorem dX1_findPieces_18 : decode cX1_findPieces 18 = .ok (.iconst (-1), 1) := DX1_findPieces.2.2.2.2.2.2.2.2.2.2.2.1
theorem dX1_findPieces_19 : decode cX1_findPieces 19 = .ok (.iastore, 1) := DX1_findPieces.2.2.2.2.2.2.2.2.2.2.2.2.1
theorem dX1_findPieces_20 : decode cX1_findPieces 20 = .ok (.iinc 1 1, 3) := DX1_findPieces.2.2.2.2.2.2.2.2.2.2.2.2.2.1
theorem dX1_findPieces_23 : decode cX1_findPieces 23 = .ok (.goto (-16), 3) := DX1_findPieces.2.2.2.2.2.2.2.2.2.2.2.2.2.2.1
theorem dX1_findPieces_26 : decode cX1_findPieces 26 = .ok (.iconst 0, 1) := DX1_findPieces.2.2.2.2.2.2.2.2.2.2.2.2.2.2.2.1
theorem dX1_findPieces_27 : decode cX1_findPieces 27 = .ok (.istore_n 1, 1) := DX1_findPieces.2.2.2.2.2.2.2.2.2.2.2.2.2.2.2.2.1
theorem dX1_findPieces_28 : decode cX1_findPieces 28 = .ok (.iload_n 1, 1) := DX1_findPieces.2.2.2.2.2.2.2.2.2.2.2.2.2.2.2.2.2.1
theorem dX1_findPieces_29 : decode cX1_findPieces 29 = .ok (.bipush 60, 2) := DX1_findPieces.2.2.2.2.2.2.2.2.2.2.2.2.2.2.2.2.2.2.1
theorem dX1_findPieces_31 : decode cX1_findPieces 31 = .ok (.if_icmp .ge 43, 3) := DX1_findPieces.2.2.2.2.2.2.2.2.2.2.2.2.2.2.2.2.2.2.2.1
theorem dX1_findPieces_34 : decode cX1_findPieces 34 = .ok (.aload_n 0, 1) := DX1_findPieces.2.2.2.2.2.2.2.2.2.2.2.2.2.2.2.2.2.2.2.2.1
theorem dX1_findPieces_35 : decode cX1_findPieces 35 = .ok (.getfield 7, 3) := DX1_findPieces.2.2.2.2.2.2.2.2.2.2.2.2.2.2.2.2.2.2.2.2.2.1
theorem dX1_findPieces_38 : decode cX1_findPieces 38 = .ok (.iload_n 1, 1) := DX1_findPieces.2.2.2.2.2.2.2.2.2.2.2.2.2.2.2.2.2.2.2.2.2.2.1
theorem dX1_findPieces_39 : decode cX1_findPieces 39 = .ok (.baload, 1) := DX1_findPieces.2.2.2.2.2.2.2.2.2.2.2.2.2.2.2.2.2.2.2.2.2.2.2.1
theorem dX1_findPieces_40 : decode cX1_findPieces 40 = .ok (.ifCond .eq 28, 3) := DX1_findPieces.2.2.2.2.2.2.2.2.2.2.2.2.2.2.2.2.2.2.2.2.2.2.2.2.1
theorem dX1_findPieces_43 : decode cX1_findPieces 43 = .ok (.aload_n 0, 1) := DX1_findPieces.2.2.2.2.2.2.2.2.2.2.2.2.2.2.2.2.2.2.2.2.2.2.2.2.2.1
theorem dX1_findPieces_44 : decode cX1_findPieces 44 = .ok (.getfield 45, 3) := DX1_findPieces.2.2.2.2.2.2.2.2.2.2.2.2.2.2.2.2.2.2.2.2.2.2.2.2.2.2.1
theorem dX1_findPieces_47 : decode cX1_findPieces 47 = .ok (.iload_n 1, 1) := DX1_findPieces.2.2.2.2.2.2.2.2.2.2.2.2.2.2.2.2.2.2.2.2.2.2.2.2.2.2.2.1
theorem dX1_findPieces_48 : decode cX1_findPieces 48 = .ok (.iaload, 1) := DX1_findPieces.2.2.2.2.2.2.2.2.2.2.2.2.2.2.2.2.2.2.2.2.2.2.2.2.2.2.2.2.1
theorem dX1_findPieces_49 : decode cX1_findPieces 49 = .ok (.ifCond .ge 19, 3) := DX1_findPieces.2.2.2.2.2.2.2.2.2.2.2.2.2.2.2.2.2.2.2.2.2.2.2.2.2.2.2.2.2.1
theorem dX1_findPieces_52 : decode cX1_findPieces 52 = .ok (.aload_n 0, 1) := DX1_findPieces.2.2.2.2.2.2.2.2.2.2.2.2.2.2.2.2.2.2.2.2.2.2.2.2.2.2.2.2.2.2.1
theorem dX1_findPieces_53 : decode cX1_findPieces 53 = .ok (.iload_n 1, 1) := DX1_findPieces.2.2.2.2.2.2.2.2.2.2.2.2.2.2.2.2.2.2.2.2.2.2.2.2.2.2.2.2.2.2.2.1
theorem dX1_findPieces_54 : decode cX1_findPieces 54 = .ok (.aload_n 0, 1) := DX1_findPieces.2.2.2.2.2.2.2.2.2.2.2.2.2.2.2.2.2.2.2.2.2.2.2.2.2.2.2.2.2.2.2.2.1
theorem dX1_findPieces_55 : decode cX1_findPieces 55 = .ok (.dup, 1) := DX1_findPieces.2.2.2.2.2.2.2.2.2.2.2.2.2.2.2.2.2.2.2.2.2.2.2.2.2.2.2.2.2.2.2.2.2.1
theorem dX1_findPieces_56 : decode cX1_findPieces 56 = .ok (.getfield 235, 3) := DX1_findPieces.2.2.2.2.2.2.2.2.2.2.2.2.2.2.2.2.2.2.2.2.2.2.2.2.2.2.2.2.2.2.2.2.2.2.1
