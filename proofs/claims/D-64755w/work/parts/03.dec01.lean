set_option maxRecDepth 100000
theorem DJ2_add_2 : (decode cJ2_add_2 0 = .ok (.iload_n 3, 1)) ∧
  (decode cJ2_add_2 1 = .ok (.aload_n 2, 1)) ∧
  (decode cJ2_add_2 2 = .ok (.arraylength, 1)) ∧
  (decode cJ2_add_2 3 = .ok (.if_icmp .ne 8, 3)) ∧
  (decode cJ2_add_2 6 = .ok (.aload_n 0, 1)) ∧
  (decode cJ2_add_2 7 = .ok (.invokevirtual 129, 3)) ∧
  (decode cJ2_add_2 10 = .ok (.astore_n 2, 1)) ∧
  (decode cJ2_add_2 11 = .ok (.aload_n 2, 1)) ∧
  (decode cJ2_add_2 12 = .ok (.iload_n 3, 1)) ∧
  (decode cJ2_add_2 13 = .ok (.aload_n 1, 1)) ∧
  (decode cJ2_add_2 14 = .ok (.aastore, 1)) ∧
  (decode cJ2_add_2 15 = .ok (.aload_n 0, 1)) ∧
  (decode cJ2_add_2 16 = .ok (.iload_n 3, 1)) ∧
  (decode cJ2_add_2 17 = .ok (.iconst 1, 1)) ∧
  (decode cJ2_add_2 18 = .ok (.iadd, 1)) ∧
  (decode cJ2_add_2 19 = .ok (.putfield 48, 3)) ∧
  (decode cJ2_add_2 22 = .ok (.return_, 1)) :=
  ⟨by decide +kernel, by decide +kernel, by decide +kernel, by decide +kernel, by decide +kernel, by decide +kernel, by decide +kernel, by decide +kernel, by decide +kernel, by decide +kernel, by decide +kernel, by decide +kernel, by decide +kernel, by decide +kernel, by decide +kernel, by decide +kernel, by decide +kernel⟩
theorem DJ2_grow : (decode cJ2_grow 0 = .ok (.aload_n 0, 1)) ∧
  (decode cJ2_grow 1 = .ok (.aload_n 0, 1)) ∧
  (decode cJ2_grow 2 = .ok (.getfield 48, 3)) ∧
  (decode cJ2_grow 5 = .ok (.iconst 1, 1)) ∧
  (decode cJ2_grow 6 = .ok (.iadd, 1)) ∧
  (decode cJ2_grow 7 = .ok (.invokevirtual 69, 3)) ∧
  (decode cJ2_grow 10 = .ok (.areturn, 1)) :=
  ⟨by decide +kernel, by decide +kernel, by decide +kernel, by decide +kernel, by decide +kernel, by decide +kernel, by decide +kernel⟩
theorem DJ2_grow_2 : (decode cJ2_grow_2 0 = .ok (.aload_n 0, 1)) ∧
  (decode cJ2_grow_2 1 = .ok (.getfield 9, 3)) ∧
  (decode cJ2_grow_2 4 = .ok (.arraylength, 1)) ∧
  (decode cJ2_grow_2 5 = .ok (.istore_n 2, 1)) ∧
  (decode cJ2_grow_2 6 = .ok (.iload_n 2, 1)) ∧
  (decode cJ2_grow_2 7 = .ok (.ifCond .gt 13, 3)) ∧
  (decode cJ2_grow_2 10 = .ok (.aload_n 0, 1)) ∧
  (decode cJ2_grow_2 11 = .ok (.getfield 9, 3)) ∧
  (decode cJ2_grow_2 14 = .ok (.getstatic 39, 3)) ∧
  (decode cJ2_grow_2 17 = .ok (.if_acmp .eq 28, 3)) ∧
  (decode cJ2_grow_2 20 = .ok (.iload_n 2, 1)) ∧
  (decode cJ2_grow_2 21 = .ok (.iload_n 1, 1)) ∧
  (decode cJ2_grow_2 22 = .ok (.iload_n 2, 1)) ∧
  (decode cJ2_grow_2 23 = .ok (.isub, 1)) ∧
  (decode cJ2_grow_2 24 = .ok (.iload_n 2, 1)) ∧
  (decode cJ2_grow_2 25 = .ok (.iconst 1, 1)) ∧
  (decode cJ2_grow_2 26 = .ok (.ishr, 1)) ∧
  (decode cJ2_grow_2 27 = .ok (.invokestatic 73, 3)) ∧
  (decode cJ2_grow_2 30 = .ok (.istore_n 3, 1)) ∧
  (decode cJ2_grow_2 31 = .ok (.aload_n 0, 1)) ∧
  (decode cJ2_grow_2 32 = .ok (.aload_n 0, 1)) ∧
  (decode cJ2_grow_2 33 = .ok (.getfield 9, 3)) ∧
  (decode cJ2_grow_2 36 = .ok (.iload_n 3, 1)) ∧
  (decode cJ2_grow_2 37 = .ok (.invokestatic 66, 3)) ∧
  (decode cJ2_grow_2 40 = .ok (.dup_x1, 1)) ∧
  (decode cJ2_grow_2 41 = .ok (.putfield 9, 3)) ∧
  (decode cJ2_grow_2 44 = .ok (.areturn, 1)) ∧
  (decode cJ2_grow_2 45 = .ok (.aload_n 0, 1)) ∧
  (decode cJ2_grow_2 46 = .ok (.bipush 10, 2)) ∧
  (decode cJ2_grow_2 48 = .ok (.iload_n 1, 1)) ∧
  (decode cJ2_grow_2 49 = .ok (.invokestatic 79, 3)) ∧
  (decode cJ2_grow_2 52 = .ok (.anewarray 7, 3)) ∧
  (decode cJ2_grow_2 55 = .ok (.dup_x1, 1)) ∧
  (decode cJ2_grow_2 56 = .ok (.putfield 9, 3)) ∧
  (decode cJ2_grow_2 59 = .ok (.areturn, 1)) :=
  ⟨by decide +kernel, by decide +kernel, by decide +kernel, by decide +kernel, by decide +kernel, by decide +kernel, by decide +kernel, by decide +kernel, by decide +kernel, by decide +kernel, by decide +kernel, by decide +kernel, by decide +kernel, by decide +kernel, by decide +kernel, by decide +kernel, by decide +kernel, by decide +kernel, by decide +kernel, by decide +kernel, by decide +kernel, by decide +kernel, by decide +kernel, by decide +kernel, by decide +kernel, by decide +kernel, by decide +kernel, by decide +kernel, by decide +kernel, by decide +kernel, by decide +kernel, by decide +kernel, by decide +kernel, by decide +kernel, by decide +kernel⟩
theorem DJ2_add_3 : (decode cJ2_add_3 0 = .ok (.aload_n 0, 1)) ∧
  (decode cJ2_add_3 1 = .ok (.iload_n 1, 1)) ∧
  (decode cJ2_add_3 2 = .ok (.invokevirtual 135, 3)) ∧
  (decode cJ2_add_3 5 = .ok (.aload_n 0, 1)) ∧
  (decode cJ2_add_3 6 = .ok (.dup, 1)) ∧
  (decode cJ2_add_3 7 = .ok (.getfield 63, 3)) ∧
  (decode cJ2_add_3 10 = .ok (.iconst 1, 1)) ∧
  (decode cJ2_add_3 11 = .ok (.iadd, 1)) ∧
  (decode cJ2_add_3 12 = .ok (.putfield 63, 3)) ∧
  (decode cJ2_add_3 15 = .ok (.aload_n 0, 1)) ∧
  (decode cJ2_add_3 16 = .ok (.getfield 48, 3)) ∧
  (decode cJ2_add_3 19 = .ok (.dup, 1)) ∧
  (decode cJ2_add_3 20 = .ok (.istore_n 3, 1)) ∧
  (decode cJ2_add_3 21 = .ok (.aload_n 0, 1)) ∧
  (decode cJ2_add_3 22 = .ok (.getfield 9, 3)) ∧
  (decode cJ2_add_3 25 = .ok (.dup, 1)) ∧
  (decode cJ2_add_3 26 = .ok (.astore 4, 2)) ∧
  (decode cJ2_add_3 28 = .ok (.arraylength, 1)) ∧
  (decode cJ2_add_3 29 = .ok (.if_icmp .ne 9, 3)) ∧
  (decode cJ2_add_3 32 = .ok (.aload_n 0, 1)) ∧
  (decode cJ2_add_3 33 = .ok (.invokevirtual 129, 3)) ∧
  (decode cJ2_add_3 36 = .ok (.astore 4, 2)) ∧
  (decode cJ2_add_3 38 = .ok (.aload 4, 2)) ∧
  (decode cJ2_add_3 40 = .ok (.iload_n 1, 1)) ∧
  (decode cJ2_add_3 41 = .ok (.aload 4, 2)) ∧
  (decode cJ2_add_3 43 = .ok (.iload_n 1, 1)) ∧
  (decode cJ2_add_3 44 = .ok (.iconst 1, 1)) ∧
  (decode cJ2_add_3 45 = .ok (.iadd, 1)) ∧
  (decode cJ2_add_3 46 = .ok (.iload_n 3, 1)) ∧
  (decode cJ2_add_3 47 = .ok (.iload_n 1, 1)) ∧
  (decode cJ2_add_3 48 = .ok (.isub, 1)) ∧
  (decode cJ2_add_3 49 = .ok (.invokestatic 112, 3)) ∧
  (decode cJ2_add_3 52 = .ok (.aload 4, 2)) ∧
  (decode cJ2_add_3 54 = .ok (.iload_n 1, 1)) ∧
  (decode cJ2_add_3 55 = .ok (.aload_n 2, 1)) ∧
  (decode cJ2_add_3 56 = .ok (.aastore, 1)) ∧
  (decode cJ2_add_3 57 = .ok (.aload_n 0, 1)) ∧
  (decode cJ2_add_3 58 = .ok (.iload_n 3, 1)) ∧
  (decode cJ2_add_3 59 = .ok (.iconst 1, 1)) ∧
  (decode cJ2_add_3 60 = .ok (.iadd, 1)) ∧
  (decode cJ2_add_3 61 = .ok (.putfield 48, 3)) ∧
  (decode cJ2_add_3 64 = .ok (.return_, 1)) :=
  ⟨by decide +kernel, by decide +kernel, by decide +kernel, by decide +kernel, by decide +kernel, by decide +kernel, by decide +kernel, by decide +kernel, by decide +kernel, by decide +kernel, by decide +kernel, by decide +kernel, by decide +kernel, by decide +kernel, by decide +kernel, by decide +kernel, by decide +kernel, by decide +kernel, by decide +kernel, by decide +kernel, by decide +kernel, by decide +kernel, by decide +kernel, by decide +kernel, by decide +kernel, by decide +kernel, by decide +kernel, by decide +kernel, by decide +kernel, by decide +kernel, by decide +kernel, by decide +kernel, by decide +kernel, by decide +kernel, by decide +kernel, by decide +kernel, by decide +kernel, by decide +kernel, by decide +kernel, by decide +kernel, by decide +kernel, by decide +kernel⟩
theorem DJ2_rangeCheckForAdd : (decode cJ2_rangeCheckForAdd 0 = .ok (.iload_n 1, 1)) ∧
  (decode cJ2_rangeCheckForAdd 1 = .ok (.aload_n 0, 1)) ∧
  (decode cJ2_rangeCheckForAdd 2 = .ok (.getfield 48, 3)) ∧
  (decode cJ2_rangeCheckForAdd 5 = .ok (.if_icmp .gt 7, 3)) ∧
  (decode cJ2_rangeCheckForAdd 8 = .ok (.iload_n 1, 1)) ∧
  (decode cJ2_rangeCheckForAdd 9 = .ok (.ifCond .ge 16, 3)) ∧
  (decode cJ2_rangeCheckForAdd 12 = .ok (.new 187, 3)) ∧
  (decode cJ2_rangeCheckForAdd 15 = .ok (.dup, 1)) ∧
  (decode cJ2_rangeCheckForAdd 16 = .ok (.aload_n 0, 1)) ∧
  (decode cJ2_rangeCheckForAdd 17 = .ok (.iload_n 1, 1)) ∧
  (decode cJ2_rangeCheckForAdd 18 = .ok (.invokevirtual 198, 3)) ∧
  (decode cJ2_rangeCheckForAdd 21 = .ok (.invokespecial 193, 3)) ∧
  (decode cJ2_rangeCheckForAdd 24 = .ok (.athrow, 1)) ∧
  (decode cJ2_rangeCheckForAdd 25 = .ok (.return_, 1)) :=
  ⟨by decide +kernel, by decide +kernel, by decide +kernel, by decide +kernel, by decide +kernel, by decide +kernel, by decide +kernel, by decide +kernel, by decide +kernel, by decide +kernel, by decide +kernel, by decide +kernel, by decide +kernel, by decide +kernel⟩
theorem DJ2_outOfBoundsMsg : (decode cJ2_outOfBoundsMsg 0 = .ok (.new 20, 3)) ∧
  (decode cJ2_outOfBoundsMsg 3 = .ok (.dup, 1)) ∧
  (decode cJ2_outOfBoundsMsg 4 = .ok (.invokespecial 22, 3)) ∧
  (decode cJ2_outOfBoundsMsg 7 = .ok (.ldc 201, 2)) ∧
  (decode cJ2_outOfBoundsMsg 9 = .ok (.invokevirtual 25, 3)) ∧
  (decode cJ2_outOfBoundsMsg 12 = .ok (.iload_n 1, 1)) ∧
  (decode cJ2_outOfBoundsMsg 13 = .ok (.invokevirtual 29, 3)) ∧
  (decode cJ2_outOfBoundsMsg 16 = .ok (.ldc 203, 2)) ∧
  (decode cJ2_outOfBoundsMsg 18 = .ok (.invokevirtual 25, 3)) ∧
  (decode cJ2_outOfBoundsMsg 21 = .ok (.aload_n 0, 1)) ∧
  (decode cJ2_outOfBoundsMsg 22 = .ok (.getfield 48, 3)) ∧
  (decode cJ2_outOfBoundsMsg 25 = .ok (.invokevirtual 29, 3)) ∧
  (decode cJ2_outOfBoundsMsg 28 = .ok (.invokevirtual 32, 3)) ∧
  (decode cJ2_outOfBoundsMsg 31 = .ok (.areturn, 1)) :=
  ⟨by decide +kernel, by decide +kernel, by decide +kernel, by decide +kernel, by decide +kernel, by decide +kernel, by decide +kernel, by decide +kernel, by decide +kernel, by decide +kernel, by decide +kernel, by decide +kernel, by decide +kernel, by decide +kernel⟩
theorem DJ2_remove : (decode cJ2_remove 0 = .ok (.iload_n 1, 1)) ∧
  (decode cJ2_remove 1 = .ok (.aload_n 0, 1)) ∧
  (decode cJ2_remove 2 = .ok (.getfield 48, 3)) ∧
  (decode cJ2_remove 5 = .ok (.invokestatic 118, 3)) ∧
  (decode cJ2_remove 8 = .ok (.pop, 1)) ∧
  (decode cJ2_remove 9 = .ok (.aload_n 0, 1)) ∧
  (decode cJ2_remove 10 = .ok (.getfield 9, 3)) ∧
  (decode cJ2_remove 13 = .ok (.astore_n 2, 1)) ∧
  (decode cJ2_remove 14 = .ok (.aload_n 2, 1)) ∧
  (decode cJ2_remove 15 = .ok (.iload_n 1, 1)) ∧
  (decode cJ2_remove 16 = .ok (.aaload, 1)) ∧
  (decode cJ2_remove 17 = .ok (.astore_n 3, 1)) ∧
  (decode cJ2_remove 18 = .ok (.aload_n 0, 1)) ∧
  (decode cJ2_remove 19 = .ok (.aload_n 2, 1)) ∧
  (decode cJ2_remove 20 = .ok (.iload_n 1, 1)) ∧
  (decode cJ2_remove 21 = .ok (.invokevirtual 144, 3)) ∧
  (decode cJ2_remove 24 = .ok (.aload_n 3, 1)) ∧
  (decode cJ2_remove 25 = .ok (.areturn, 1)) :=
  ⟨by decide +kernel, by decide +kernel, by decide +kernel, by decide +kernel, by decide +kernel, by decide +kernel, by decide +kernel, by decide +kernel, by decide +kernel, by decide +kernel, by decide +kernel, by decide +kernel, by decide +kernel, by decide +kernel, by decide +kernel, by decide +kernel, by decide +kernel, by decide +kernel⟩
theorem DJ2_fastRemove : (decode cJ2_fastRemove 0 = .ok (.aload_n 0, 1)) ∧
  (decode cJ2_fastRemove 1 = .ok (.dup, 1)) ∧
  (decode cJ2_fastRemove 2 = .ok (.getfield 63, 3)) ∧
  (decode cJ2_fastRemove 5 = .ok (.iconst 1, 1)) ∧
  (decode cJ2_fastRemove 6 = .ok (.iadd, 1)) ∧
  (decode cJ2_fastRemove 7 = .ok (.putfield 63, 3)) ∧
  (decode cJ2_fastRemove 10 = .ok (.aload_n 0, 1)) ∧
  (decode cJ2_fastRemove 11 = .ok (.getfield 48, 3)) ∧
  (decode cJ2_fastRemove 14 = .ok (.iconst 1, 1)) ∧
  (decode cJ2_fastRemove 15 = .ok (.isub, 1)) ∧
  (decode cJ2_fastRemove 16 = .ok (.dup, 1)) ∧
  (decode cJ2_fastRemove 17 = .ok (.istore_n 3, 1)) ∧
  (decode cJ2_fastRemove 18 = .ok (.iload_n 2, 1)) ∧
  (decode cJ2_fastRemove 19 = .ok (.if_icmp .le 15, 3)) ∧
  (decode cJ2_fastRemove 22 = .ok (.aload_n 1, 1)) ∧
  (decode cJ2_fastRemove 23 = .ok (.iload_n 2, 1)) ∧
  (decode cJ2_fastRemove 24 = .ok (.iconst 1, 1)) ∧
  (decode cJ2_fastRemove 25 = .ok (.iadd, 1)) ∧
  (decode cJ2_fastRemove 26 = .ok (.aload_n 1, 1)) ∧
  (decode cJ2_fastRemove 27 = .ok (.iload_n 2, 1)) ∧
  (decode cJ2_fastRemove 28 = .ok (.iload_n 3, 1)) ∧
  (decode cJ2_fastRemove 29 = .ok (.iload_n 2, 1)) ∧
  (decode cJ2_fastRemove 30 = .ok (.isub, 1)) ∧
  (decode cJ2_fastRemove 31 = .ok (.invokestatic 112, 3)) ∧
  (decode cJ2_fastRemove 34 = .ok (.aload_n 1, 1)) ∧
  (decode cJ2_fastRemove 35 = .ok (.aload_n 0, 1)) ∧
  (decode cJ2_fastRemove 36 = .ok (.iload_n 3, 1)) ∧
  (decode cJ2_fastRemove 37 = .ok (.dup_x1, 1)) ∧
  (decode cJ2_fastRemove 38 = .ok (.putfield 48, 3)) ∧
  (decode cJ2_fastRemove 41 = .ok (.aconst_null, 1)) ∧
  (decode cJ2_fastRemove 42 = .ok (.aastore, 1)) ∧
  (decode cJ2_fastRemove 43 = .ok (.return_, 1)) :=
  ⟨by decide +kernel, by decide +kernel, by decide +kernel, by decide +kernel, by decide +kernel, by decide +kernel, by decide +kernel, by decide +kernel, by decide +kernel, by decide +kernel, by decide +kernel, by decide +kernel, by decide +kernel, by decide +kernel, by decide +kernel, by decide +kernel, by decide +kernel, by decide +kernel, by decide +kernel, by decide +kernel, by decide +kernel, by decide +kernel, by decide +kernel, by decide +kernel, by decide +kernel, by decide +kernel, by decide +kernel, by decide +kernel, by decide +kernel, by decide +kernel, by decide +kernel, by decide +kernel⟩
theorem DJ2_isEmpty : (decode cJ2_isEmpty 0 = .ok (.aload_n 0, 1)) ∧
  (decode cJ2_isEmpty 1 = .ok (.getfield 48, 3)) ∧
  (decode cJ2_isEmpty 4 = .ok (.ifCond .ne 7, 3)) ∧
  (decode cJ2_isEmpty 7 = .ok (.iconst 1, 1)) ∧
  (decode cJ2_isEmpty 8 = .ok (.goto 4, 3)) ∧
  (decode cJ2_isEmpty 11 = .ok (.iconst 0, 1)) ∧
  (decode cJ2_isEmpty 12 = .ok (.ireturn, 1)) :=
  ⟨by decide +kernel, by decide +kernel, by decide +kernel, by decide +kernel, by decide +kernel, by decide +kernel, by decide +kernel⟩
theorem DJ8_signum : (decode cJ8_signum 0 = .ok (.lload_n 0, 1)) ∧
  (decode cJ8_signum 1 = .ok (.bipush 63, 2)) ∧
  (decode cJ8_signum 3 = .ok (.lshr, 1)) ∧
  (decode cJ8_signum 4 = .ok (.lload_n 0, 1)) ∧
  (decode cJ8_signum 5 = .ok (.lneg, 1)) ∧
  (decode cJ8_signum 6 = .ok (.bipush 63, 2)) ∧
  (decode cJ8_signum 8 = .ok (.lushr, 1)) ∧
  (decode cJ8_signum 9 = .ok (.lor, 1)) ∧
  (decode cJ8_signum 10 = .ok (.l2i, 1)) ∧
  (decode cJ8_signum 11 = .ok (.ireturn, 1)) :=
  ⟨by decide +kernel, by decide +kernel, by decide +kernel, by decide +kernel, by decide +kernel, by decide +kernel, by decide +kernel, by decide +kernel, by decide +kernel, by decide +kernel⟩
theorem DJ9_max : (decode cJ9_max 0 = .ok (.iload_n 0, 1)) ∧
  (decode cJ9_max 1 = .ok (.iload_n 1, 1)) ∧
  (decode cJ9_max 2 = .ok (.if_icmp .lt 7, 3)) ∧
  (decode cJ9_max 5 = .ok (.iload_n 0, 1)) ∧
  (decode cJ9_max 6 = .ok (.goto 4, 3)) ∧
  (decode cJ9_max 9 = .ok (.iload_n 1, 1)) ∧
  (decode cJ9_max 10 = .ok (.ireturn, 1)) :=
  ⟨by decide +kernel, by decide +kernel, by decide +kernel, by decide +kernel, by decide +kernel, by decide +kernel, by decide +kernel⟩
theorem DJ9_min : (decode cJ9_min 0 = .ok (.iload_n 0, 1)) ∧
  (decode cJ9_min 1 = .ok (.iload_n 1, 1)) ∧
  (decode cJ9_min 2 = .ok (.if_icmp .gt 7, 3)) ∧
  (decode cJ9_min 5 = .ok (.iload_n 0, 1)) ∧
  (decode cJ9_min 6 = .ok (.goto 4, 3)) ∧
  (decode cJ9_min 9 = .ok (.iload_n 1, 1)) ∧
  (decode cJ9_min 10 = .ok (.ireturn, 1)) :=
  ⟨by decide +kernel, by decide +kernel, by decide +kernel, by decide +kernel, by decide +kernel, by decide +kernel, by decide +kernel⟩
theorem DJ10_checkIndex : (decode cJ10_checkIndex 0 = .ok (.iload_n 0, 1)) ∧
  (decode cJ10_checkIndex 1 = .ok (.iload_n 1, 1)) ∧
  (decode cJ10_checkIndex 2 = .ok (.aconst_null, 1)) ∧
  (decode cJ10_checkIndex 3 = .ok (.invokestatic 105, 3)) ∧
  (decode cJ10_checkIndex 6 = .ok (.ireturn, 1)) :=
  ⟨by decide +kernel, by decide +kernel, by decide +kernel, by decide +kernel, by decide +kernel⟩
theorem DJ11_checkIndex : (decode cJ11_checkIndex 0 = .ok (.iload_n 0, 1)) ∧
  (decode cJ11_checkIndex 1 = .ok (.ifCond .lt 8, 3)) ∧
  (decode cJ11_checkIndex 4 = .ok (.iload_n 0, 1)) ∧
  (decode cJ11_checkIndex 5 = .ok (.iload_n 1, 1)) ∧
  (decode cJ11_checkIndex 6 = .ok (.if_icmp .lt 10, 3)) ∧
  (decode cJ11_checkIndex 9 = .ok (.aload_n 2, 1)) ∧
  (decode cJ11_checkIndex 10 = .ok (.iload_n 0, 1)) ∧
  (decode cJ11_checkIndex 11 = .ok (.iload_n 1, 1)) ∧
  (decode cJ11_checkIndex 12 = .ok (.invokestatic 95, 3)) ∧
  (decode cJ11_checkIndex 15 = .ok (.athrow, 1)) ∧
  (decode cJ11_checkIndex 16 = .ok (.iload_n 0, 1)) ∧
  (decode cJ11_checkIndex 17 = .ok (.ireturn, 1)) :=
  ⟨by decide +kernel, by decide +kernel, by decide +kernel, by decide +kernel, by decide +kernel, by decide +kernel, by decide +kernel, by decide +kernel, by decide +kernel, by decide +kernel, by decide +kernel, by decide +kernel⟩
theorem DJ11_checkFromToIndex : (decode cJ11_checkFromToIndex 0 = .ok (.iload_n 0, 1)) ∧
  (decode cJ11_checkFromToIndex 1 = .ok (.ifCond .lt 13, 3)) ∧
  (decode cJ11_checkFromToIndex 4 = .ok (.iload_n 0, 1)) ∧
  (decode cJ11_checkFromToIndex 5 = .ok (.iload_n 1, 1)) ∧
  (decode cJ11_checkFromToIndex 6 = .ok (.if_icmp .gt 8, 3)) ∧
  (decode cJ11_checkFromToIndex 9 = .ok (.iload_n 1, 1)) ∧
  (decode cJ11_checkFromToIndex 10 = .ok (.iload_n 2, 1)) ∧
  (decode cJ11_checkFromToIndex 11 = .ok (.if_icmp .le 11, 3)) ∧
  (decode cJ11_checkFromToIndex 14 = .ok (.aload_n 3, 1)) ∧
  (decode cJ11_checkFromToIndex 15 = .ok (.iload_n 0, 1)) ∧
  (decode cJ11_checkFromToIndex 16 = .ok (.iload_n 1, 1)) ∧
  (decode cJ11_checkFromToIndex 17 = .ok (.iload_n 2, 1)) ∧
  (decode cJ11_checkFromToIndex 18 = .ok (.invokestatic 99, 3)) ∧
  (decode cJ11_checkFromToIndex 21 = .ok (.athrow, 1)) ∧
  (decode cJ11_checkFromToIndex 22 = .ok (.iload_n 0, 1)) ∧
  (decode cJ11_checkFromToIndex 23 = .ok (.ireturn, 1)) :=
  ⟨by decide +kernel, by decide +kernel, by decide +kernel, by decide +kernel, by decide +kernel, by decide +kernel, by decide +kernel, by decide +kernel, by decide +kernel, by decide +kernel, by decide +kernel, by decide +kernel, by decide +kernel, by decide +kernel, by decide +kernel, by decide +kernel⟩
theorem DJ11_checkFromIndexSize : (decode cJ11_checkFromIndexSize 0 = .ok (.iload_n 2, 1)) ∧
  (decode cJ11_checkFromIndexSize 1 = .ok (.iload_n 0, 1)) ∧
  (decode cJ11_checkFromIndexSize 2 = .ok (.ior, 1)) ∧
  (decode cJ11_checkFromIndexSize 3 = .ok (.iload_n 1, 1)) ∧
  (decode cJ11_checkFromIndexSize 4 = .ok (.ior, 1)) ∧
  (decode cJ11_checkFromIndexSize 5 = .ok (.ifCond .lt 10, 3)) ∧
  (decode cJ11_checkFromIndexSize 8 = .ok (.iload_n 1, 1)) ∧
  (decode cJ11_checkFromIndexSize 9 = .ok (.iload_n 2, 1)) ∧
  (decode cJ11_checkFromIndexSize 10 = .ok (.iload_n 0, 1)) ∧
  (decode cJ11_checkFromIndexSize 11 = .ok (.isub, 1)) ∧
  (decode cJ11_checkFromIndexSize 12 = .ok (.if_icmp .le 11, 3)) ∧
  (decode cJ11_checkFromIndexSize 15 = .ok (.aload_n 3, 1)) ∧
  (decode cJ11_checkFromIndexSize 16 = .ok (.iload_n 0, 1)) ∧
  (decode cJ11_checkFromIndexSize 17 = .ok (.iload_n 1, 1)) ∧
  (decode cJ11_checkFromIndexSize 18 = .ok (.iload_n 2, 1)) ∧
  (decode cJ11_checkFromIndexSize 19 = .ok (.invokestatic 103, 3)) ∧
  (decode cJ11_checkFromIndexSize 22 = .ok (.athrow, 1)) ∧
  (decode cJ11_checkFromIndexSize 23 = .ok (.iload_n 0, 1)) ∧
  (decode cJ11_checkFromIndexSize 24 = .ok (.ireturn, 1)) :=
  ⟨by decide +kernel, by decide +kernel, by decide +kernel, by decide +kernel, by decide +kernel, by decide +kernel, by decide +kernel, by decide +kernel, by decide +kernel, by decide +kernel, by decide +kernel, by decide +kernel, by decide +kernel, by decide +kernel, by decide +kernel, by decide +kernel, by decide +kernel, by decide +kernel, by decide +kernel⟩
theorem DJ12_newLength : (decode cJ12_newLength 0 = .ok (.iload_n 0, 1)) ∧
  (decode cJ12_newLength 1 = .ok (.iload_n 1, 1)) ∧
  (decode cJ12_newLength 2 = .ok (.iload_n 2, 1)) ∧
  (decode cJ12_newLength 3 = .ok (.invokestatic 194, 3)) ∧
  (decode cJ12_newLength 6 = .ok (.iadd, 1)) ∧
  (decode cJ12_newLength 7 = .ok (.istore_n 3, 1)) ∧
  (decode cJ12_newLength 8 = .ok (.iconst 0, 1)) ∧
  (decode cJ12_newLength 9 = .ok (.iload_n 3, 1)) ∧
  (decode cJ12_newLength 10 = .ok (.if_icmp .ge 11, 3)) ∧
  (decode cJ12_newLength 13 = .ok (.iload_n 3, 1)) ∧
  (decode cJ12_newLength 14 = .ok (.ldc 200, 2)) ∧
  (decode cJ12_newLength 16 = .ok (.if_icmp .gt 5, 3)) ∧
  (decode cJ12_newLength 19 = .ok (.iload_n 3, 1)) ∧
  (decode cJ12_newLength 20 = .ok (.ireturn, 1)) ∧
  (decode cJ12_newLength 21 = .ok (.iload_n 0, 1)) ∧
  (decode cJ12_newLength 22 = .ok (.iload_n 1, 1)) ∧
  (decode cJ12_newLength 23 = .ok (.invokestatic 201, 3)) ∧
  (decode cJ12_newLength 26 = .ok (.ireturn, 1)) :=
  ⟨by decide +kernel, by decide +kernel, by decide +kernel, by decide +kernel, by decide +kernel, by decide +kernel, by decide +kernel, by decide +kernel, by decide +kernel, by decide +kernel, by decide +kernel, by decide +kernel, by decide +kernel, by decide +kernel, by decide +kernel, by decide +kernel, by decide +kernel, by decide +kernel⟩
theorem DJ12_hugeLength : (decode cJ12_hugeLength 0 = .ok (.iload_n 0, 1)) ∧
  (decode cJ12_hugeLength 1 = .ok (.iload_n 1, 1)) ∧
  (decode cJ12_hugeLength 2 = .ok (.iadd, 1)) ∧
  (decode cJ12_hugeLength 3 = .ok (.istore_n 2, 1)) ∧
  (decode cJ12_hugeLength 4 = .ok (.iload_n 2, 1)) ∧
  (decode cJ12_hugeLength 5 = .ok (.ifCond .ge 44, 3)) ∧
  (decode cJ12_hugeLength 8 = .ok (.new 204, 3)) ∧
  (decode cJ12_hugeLength 11 = .ok (.dup, 1)) ∧
  (decode cJ12_hugeLength 12 = .ok (.new 89, 3)) ∧
  (decode cJ12_hugeLength 15 = .ok (.dup, 1)) ∧
  (decode cJ12_hugeLength 16 = .ok (.invokespecial 91, 3)) ∧
  (decode cJ12_hugeLength 19 = .ok (.ldc 206, 2)) ∧
  (decode cJ12_hugeLength 21 = .ok (.invokevirtual 94, 3)) ∧
  (decode cJ12_hugeLength 24 = .ok (.iload_n 0, 1)) ∧
  (decode cJ12_hugeLength 25 = .ok (.invokevirtual 98, 3)) ∧
  (decode cJ12_hugeLength 28 = .ok (.ldc 208, 2)) ∧
  (decode cJ12_hugeLength 30 = .ok (.invokevirtual 94, 3)) ∧
  (decode cJ12_hugeLength 33 = .ok (.iload_n 1, 1)) ∧
  (decode cJ12_hugeLength 34 = .ok (.invokevirtual 98, 3)) ∧
  (decode cJ12_hugeLength 37 = .ok (.ldc 210, 2)) ∧
  (decode cJ12_hugeLength 39 = .ok (.invokevirtual 94, 3)) ∧
  (decode cJ12_hugeLength 42 = .ok (.invokevirtual 101, 3)) ∧
  (decode cJ12_hugeLength 45 = .ok (.invokespecial 212, 3)) ∧
  (decode cJ12_hugeLength 48 = .ok (.athrow, 1)) ∧
  (decode cJ12_hugeLength 49 = .ok (.iload_n 2, 1)) ∧
  (decode cJ12_hugeLength 50 = .ok (.ldc 200, 2)) ∧
  (decode cJ12_hugeLength 52 = .ok (.if_icmp .gt 6, 3)) ∧
  (decode cJ12_hugeLength 55 = .ok (.ldc 200, 2)) ∧
  (decode cJ12_hugeLength 57 = .ok (.ireturn, 1)) ∧
  (decode cJ12_hugeLength 58 = .ok (.iload_n 2, 1)) ∧
  (decode cJ12_hugeLength 59 = .ok (.ireturn, 1)) :=
  ⟨by decide +kernel, by decide +kernel, by decide +kernel, by decide +kernel, by decide +kernel, by decide +kernel, by decide +kernel, by decide +kernel, by decide +kernel, by decide +kernel, by decide +kernel, by decide +kernel, by decide +kernel, by decide +kernel, by decide +kernel, by decide +kernel, by decide +kernel, by decide +kernel, by decide +kernel, by decide +kernel, by decide +kernel, by decide +kernel, by decide +kernel, by decide +kernel, by decide +kernel, by decide +kernel, by decide +kernel, by decide +kernel, by decide +kernel, by decide +kernel, by decide +kernel⟩
theorem DJ13_copyOf : (decode cJ13_copyOf 0 = .ok (.aload_n 0, 1)) ∧
  (decode cJ13_copyOf 1 = .ok (.iload_n 1, 1)) ∧
  (decode cJ13_copyOf 2 = .ok (.aload_n 0, 1)) ∧
  (decode cJ13_copyOf 3 = .ok (.invokevirtual 86, 3)) ∧
  (decode cJ13_copyOf 6 = .ok (.invokestatic 300, 3)) ∧
  (decode cJ13_copyOf 9 = .ok (.areturn, 1)) :=
  ⟨by decide +kernel, by decide +kernel, by decide +kernel, by decide +kernel, by decide +kernel, by decide +kernel⟩
theorem DJ13_copyOf_2 : (decode cJ13_copyOf_2 0 = .ok (.aload_n 2, 1)) ∧
  (decode cJ13_copyOf_2 1 = .ok (.ldc 110, 2)) ∧
  (decode cJ13_copyOf_2 3 = .ok (.if_acmp .ne 10, 3)) ∧
  (decode cJ13_copyOf_2 6 = .ok (.iload_n 1, 1)) ∧
  (decode cJ13_copyOf_2 7 = .ok (.anewarray 2, 3)) ∧
  (decode cJ13_copyOf_2 10 = .ok (.goto 14, 3)) ∧
  (decode cJ13_copyOf_2 13 = .ok (.aload_n 2, 1)) ∧
  (decode cJ13_copyOf_2 14 = .ok (.invokevirtual 90, 3)) ∧
  (decode cJ13_copyOf_2 17 = .ok (.iload_n 1, 1)) ∧
  (decode cJ13_copyOf_2 18 = .ok (.invokestatic 95, 3)) ∧
  (decode cJ13_copyOf_2 21 = .ok (.checkcast 110, 3)) ∧
  (decode cJ13_copyOf_2 24 = .ok (.astore_n 3, 1)) ∧
  (decode cJ13_copyOf_2 25 = .ok (.aload_n 0, 1)) ∧
  (decode cJ13_copyOf_2 26 = .ok (.iconst 0, 1)) ∧
  (decode cJ13_copyOf_2 27 = .ok (.aload_n 3, 1)) ∧
  (decode cJ13_copyOf_2 28 = .ok (.iconst 0, 1)) ∧
  (decode cJ13_copyOf_2 29 = .ok (.aload_n 0, 1)) ∧
  (decode cJ13_copyOf_2 30 = .ok (.arraylength, 1)) ∧
  (decode cJ13_copyOf_2 31 = .ok (.iload_n 1, 1)) ∧
  (decode cJ13_copyOf_2 32 = .ok (.invokestatic 304, 3)) ∧
  (decode cJ13_copyOf_2 35 = .ok (.invokestatic 150, 3)) ∧
  (decode cJ13_copyOf_2 38 = .ok (.aload_n 3, 1)) ∧
  (decode cJ13_copyOf_2 39 = .ok (.areturn, 1)) :=
  ⟨by decide +kernel, by decide +kernel, by decide +kernel, by decide +kernel, by decide +kernel, by decide +kernel, by decide +kernel, by decide +kernel, by decide +kernel, by decide +kernel, by decide +kernel, by decide +kernel, by decide +kernel, by decide +kernel, by decide +kernel, by decide +kernel, by decide +kernel, by decide +kernel, by decide +kernel, by decide +kernel, by decide +kernel, by decide +kernel, by decide +kernel⟩
theorem DJ13_copyOf_3 : (decode cJ13_copyOf_3 0 = .ok (.iload_n 1, 1)) ∧
  (decode cJ13_copyOf_3 1 = .ok (.aload_n 0, 1)) ∧
  (decode cJ13_copyOf_3 2 = .ok (.arraylength, 1)) ∧
  (decode cJ13_copyOf_3 3 = .ok (.if_icmp .ne 11, 3)) ∧
  (decode cJ13_copyOf_3 6 = .ok (.aload_n 0, 1)) ∧
  (decode cJ13_copyOf_3 7 = .ok (.invokevirtual 310, 3)) ∧
  (decode cJ13_copyOf_3 10 = .ok (.checkcast 311, 3)) ∧
  (decode cJ13_copyOf_3 13 = .ok (.areturn, 1)) ∧
  (decode cJ13_copyOf_3 14 = .ok (.iload_n 1, 1)) ∧
  (decode cJ13_copyOf_3 15 = .ok (.newarray .byte, 2)) ∧
  (decode cJ13_copyOf_3 17 = .ok (.astore_n 2, 1)) ∧
  (decode cJ13_copyOf_3 18 = .ok (.aload_n 0, 1)) ∧
  (decode cJ13_copyOf_3 19 = .ok (.iconst 0, 1)) ∧
  (decode cJ13_copyOf_3 20 = .ok (.aload_n 2, 1)) ∧
  (decode cJ13_copyOf_3 21 = .ok (.iconst 0, 1)) ∧
  (decode cJ13_copyOf_3 22 = .ok (.aload_n 0, 1)) ∧
  (decode cJ13_copyOf_3 23 = .ok (.arraylength, 1)) ∧
  (decode cJ13_copyOf_3 24 = .ok (.iload_n 1, 1)) ∧
  (decode cJ13_copyOf_3 25 = .ok (.invokestatic 304, 3)) ∧
  (decode cJ13_copyOf_3 28 = .ok (.invokestatic 150, 3)) ∧
  (decode cJ13_copyOf_3 31 = .ok (.aload_n 2, 1)) ∧
  (decode cJ13_copyOf_3 32 = .ok (.areturn, 1)) :=
  ⟨by decide +kernel, by decide +kernel, by decide +kernel, by decide +kernel, by decide +kernel, by decide +kernel, by decide +kernel, by decide +kernel, by decide +kernel, by decide +kernel, by decide +kernel, by decide +kernel, by decide +kernel, by decide +kernel, by decide +kernel, by decide +kernel, by decide +kernel, by decide +kernel, by decide +kernel, by decide +kernel, by decide +kernel, by decide +kernel⟩
theorem DJ13_copyOfRange : (decode cJ13_copyOfRange 0 = .ok (.iload_n 1, 1)) ∧
  (decode cJ13_copyOfRange 1 = .ok (.ifCond .ne 9, 3)) ∧
  (decode cJ13_copyOfRange 4 = .ok (.iload_n 2, 1)) ∧
  (decode cJ13_copyOfRange 5 = .ok (.aload_n 0, 1)) ∧
  (decode cJ13_copyOfRange 6 = .ok (.arraylength, 1)) ∧
  (decode cJ13_copyOfRange 7 = .ok (.if_icmp .eq 10, 3)) ∧
  (decode cJ13_copyOfRange 10 = .ok (.aload_n 0, 1)) ∧
  (decode cJ13_copyOfRange 11 = .ok (.iload_n 1, 1)) ∧
  (decode cJ13_copyOfRange 12 = .ok (.iload_n 2, 1)) ∧
  (decode cJ13_copyOfRange 13 = .ok (.invokestatic 339, 3)) ∧
  (decode cJ13_copyOfRange 16 = .ok (.areturn, 1)) ∧
  (decode cJ13_copyOfRange 17 = .ok (.aload_n 0, 1)) ∧
  (decode cJ13_copyOfRange 18 = .ok (.invokevirtual 310, 3)) ∧
  (decode cJ13_copyOfRange 21 = .ok (.checkcast 311, 3)) ∧
  (decode cJ13_copyOfRange 24 = .ok (.areturn, 1)) :=
  ⟨by decide +kernel, by decide +kernel, by decide +kernel, by decide +kernel, by decide +kernel, by decide +kernel, by decide +kernel, by decide +kernel, by decide +kernel, by decide +kernel, by decide +kernel, by decide +kernel, by decide +kernel, by decide +kernel, by decide +kernel⟩
theorem DJ13_copyOfRangeByte : (decode cJ13_copyOfRangeByte 0 = .ok (.iload_n 1, 1)) ∧
  (decode cJ13_copyOfRangeByte 1 = .ok (.iload_n 2, 1)) ∧
  (decode cJ13_copyOfRangeByte 2 = .ok (.invokestatic 343, 3)) ∧
  (decode cJ13_copyOfRangeByte 5 = .ok (.iload_n 2, 1)) ∧
  (decode cJ13_copyOfRangeByte 6 = .ok (.iload_n 1, 1)) ∧
  (decode cJ13_copyOfRangeByte 7 = .ok (.isub, 1)) ∧
  (decode cJ13_copyOfRangeByte 8 = .ok (.istore_n 3, 1)) ∧
  (decode cJ13_copyOfRangeByte 9 = .ok (.iload_n 3, 1)) ∧
  (decode cJ13_copyOfRangeByte 10 = .ok (.newarray .byte, 2)) ∧
  (decode cJ13_copyOfRangeByte 12 = .ok (.astore 4, 2)) ∧
  (decode cJ13_copyOfRangeByte 14 = .ok (.aload_n 0, 1)) ∧
  (decode cJ13_copyOfRangeByte 15 = .ok (.iload_n 1, 1)) ∧
  (decode cJ13_copyOfRangeByte 16 = .ok (.aload 4, 2)) ∧
  (decode cJ13_copyOfRangeByte 18 = .ok (.iconst 0, 1)) ∧
  (decode cJ13_copyOfRangeByte 19 = .ok (.aload_n 0, 1)) ∧
  (decode cJ13_copyOfRangeByte 20 = .ok (.arraylength, 1)) ∧
  (decode cJ13_copyOfRangeByte 21 = .ok (.iload_n 1, 1)) ∧
  (decode cJ13_copyOfRangeByte 22 = .ok (.isub, 1)) ∧
  (decode cJ13_copyOfRangeByte 23 = .ok (.iload_n 3, 1)) ∧
  (decode cJ13_copyOfRangeByte 24 = .ok (.invokestatic 304, 3)) ∧
  (decode cJ13_copyOfRangeByte 27 = .ok (.invokestatic 150, 3)) ∧
  (decode cJ13_copyOfRangeByte 30 = .ok (.aload 4, 2)) ∧
  (decode cJ13_copyOfRangeByte 32 = .ok (.areturn, 1)) :=
  ⟨by decide +kernel, by decide +kernel, by decide +kernel, by decide +kernel, by decide +kernel, by decide +kernel, by decide +kernel, by decide +kernel, by decide +kernel, by decide +kernel, by decide +kernel, by decide +kernel, by decide +kernel, by decide +kernel, by decide +kernel, by decide +kernel, by decide +kernel, by decide +kernel, by decide +kernel, by decide +kernel, by decide +kernel, by decide +kernel, by decide +kernel⟩
theorem DJ20_compare : (decode cJ20_compare 0 = .ok (.iload_n 0, 1)) ∧
  (decode cJ20_compare 1 = .ok (.iload_n 1, 1)) ∧
  (decode cJ20_compare 2 = .ok (.if_icmp .ge 7, 3)) ∧
  (decode cJ20_compare 5 = .ok (.iconst (-1), 1)) ∧
  (decode cJ20_compare 6 = .ok (.goto 13, 3)) ∧
  (decode cJ20_compare 9 = .ok (.iload_n 0, 1)) ∧
  (decode cJ20_compare 10 = .ok (.iload_n 1, 1)) ∧
  (decode cJ20_compare 11 = .ok (.if_icmp .ne 7, 3)) ∧
  (decode cJ20_compare 14 = .ok (.iconst 0, 1)) ∧
  (decode cJ20_compare 15 = .ok (.goto 4, 3)) ∧
  (decode cJ20_compare 18 = .ok (.iconst 1, 1)) ∧
  (decode cJ20_compare 19 = .ok (.ireturn, 1)) :=
  ⟨by decide +kernel, by decide +kernel, by decide +kernel, by decide +kernel, by decide +kernel, by decide +kernel, by decide +kernel, by decide +kernel, by decide +kernel, by decide +kernel, by decide +kernel, by decide +kernel⟩
theorem DX0_add : (decode cX0_add 0 = .ok (.aload 5, 2)) ∧
  (decode cX0_add 2 = .ok (.iconst 0, 1)) ∧
  (decode cX0_add 3 = .ok (.aload_n 0, 1)) ∧
  (decode cX0_add 4 = .ok (.iload_n 1, 1)) ∧
  (decode cX0_add 5 = .ok (.iload_n 2, 1)) ∧
  (decode cX0_add 6 = .ok (.iload_n 3, 1)) ∧
  (decode cX0_add 7 = .ok (.iload 4, 2)) ∧
  (decode cX0_add 9 = .ok (.invokevirtual 7, 3)) ∧
  (decode cX0_add 12 = .ok (.i2l, 1)) ∧
  (decode cX0_add 13 = .ok (.lastore, 1)) ∧
  (decode cX0_add 14 = .ok (.goto 11, 3)) ∧
  (decode cX0_add 17 = .ok (.astore 6, 2)) ∧
  (decode cX0_add 19 = .ok (.iconst 1, 1)) ∧
  (decode cX0_add 20 = .ok (.ireturn, 1)) ∧
  (decode cX0_add 21 = .ok (.astore 6, 2)) ∧
  (decode cX0_add 23 = .ok (.iconst 2, 1)) ∧
  (decode cX0_add 24 = .ok (.ireturn, 1)) ∧
  (decode cX0_add 25 = .ok (.iconst 0, 1)) ∧
  (decode cX0_add 26 = .ok (.ireturn, 1)) :=
  ⟨by decide +kernel, by decide +kernel, by decide +kernel, by decide +kernel, by decide +kernel, by decide +kernel, by decide +kernel, by decide +kernel, by decide +kernel, by decide +kernel, by decide +kernel, by decide +kernel, by decide +kernel, by decide +kernel, by decide +kernel, by decide +kernel, by decide +kernel, by decide +kernel, by decide +kernel⟩
theorem DX0_begins : (decode cX0_begins 0 = .ok (.aload_n 3, 1)) ∧
  (decode cX0_begins 1 = .ok (.iconst 0, 1)) ∧
  (decode cX0_begins 2 = .ok (.aload_n 0, 1)) ∧
  (decode cX0_begins 3 = .ok (.iload_n 1, 1)) ∧
  (decode cX0_begins 4 = .ok (.iload_n 2, 1)) ∧
  (decode cX0_begins 5 = .ok (.invokevirtual 17, 3)) ∧
  (decode cX0_begins 8 = .ok (.i2l, 1)) ∧
  (decode cX0_begins 9 = .ok (.lastore, 1)) ∧
  (decode cX0_begins 10 = .ok (.goto 7, 3)) ∧
  (decode cX0_begins 13 = .ok (.astore 4, 2)) ∧
  (decode cX0_begins 15 = .ok (.iconst 1, 1)) ∧
  (decode cX0_begins 16 = .ok (.ireturn, 1)) ∧
  (decode cX0_begins 17 = .ok (.iconst 0, 1)) ∧
  (decode cX0_begins 18 = .ok (.ireturn, 1)) :=
  ⟨by decide +kernel, by decide +kernel, by decide +kernel, by decide +kernel, by decide +kernel, by decide +kernel, by decide +kernel, by decide +kernel, by decide +kernel, by decide +kernel, by decide +kernel, by decide +kernel, by decide +kernel, by decide +kernel⟩
