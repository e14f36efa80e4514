set_option maxRecDepth 100000
section LEAF
variable {E : gV} {l : Launch} {h : gH}
theorem pu_X2_isIn (v : Int) (hv : -2147483648 ≤ v ∧ v ≤ 2147483647) : gPu E l gX2_isIn 1 [vI v] h (vI (bI (-16000 ≤ v ∧ v ≤ 16000))) := by
  intro d hd
  refine gOk_of gmok_X2_isIn rfl (Nat.le_of_ble_eq_true rfl) (L := [some _]) rfl ?_
  refine G_iload_0 (pc := 0) dX2_isIn_0 ?_
  refine G_sipush (pc := 1) dX2_isIn_1 (by omega) ?_
  refine G_icmp_lt (pc := 4) 18 dX2_isIn_4 (by decide) (by omega) (by omega) (fun c4 => ?_) (fun c4 => ?_)
  · skip
    refine G_iconst (pc := 18) dX2_isIn_18 ?_
    refine G_ireturn (pc := 19) dX2_isIn_19 rfl rfl (by omega) (by omega) ?_
    exact ⟨_, rfl, _, rfl, by first | exact congrArg vI (bI_pos (by omega)).symm | exact congrArg vI (bI_neg (by omega)).symm, rfl⟩
  · skip
    refine G_iload_0 (pc := 7) dX2_isIn_7 ?_
    refine G_sipush (pc := 8) dX2_isIn_8 (by omega) ?_
    refine G_icmp_gt (pc := 11) 18 dX2_isIn_11 (by decide) (by omega) (by omega) (fun c11 => ?_) (fun c11 => ?_)
    · skip
      refine G_iconst (pc := 18) dX2_isIn_18 ?_
      refine G_ireturn (pc := 19) dX2_isIn_19 rfl rfl (by omega) (by omega) ?_
      exact ⟨_, rfl, _, rfl, by first | exact congrArg vI (bI_pos (by omega)).symm | exact congrArg vI (bI_neg (by omega)).symm, rfl⟩
    · skip
      refine G_iconst (pc := 14) dX2_isIn_14 ?_
      refine G_goto (pc := 15) 19 dX2_isIn_15 (by decide) ?_
      refine G_ireturn (pc := 19) dX2_isIn_19 rfl rfl (by omega) (by omega) ?_
      exact ⟨_, rfl, _, rfl, by first | exact congrArg vI (bI_pos (by omega)).symm | exact congrArg vI (bI_neg (by omega)).symm, rfl⟩
theorem pu_X2_back (v : Nat) (hv : v < 120) : gPu E l gX2_back 1 [vI v] h (vI (zB v : Nat)) := by
  intro d hd
  refine gOk_of gmok_X2_back rfl (Nat.le_of_ble_eq_true rfl) (L := [some _]) rfl ?_
  refine G_iload_0 (pc := 0) dX2_back_0 ?_
  refine G_iconst (pc := 1) dX2_back_1 ?_
  refine G_irem (pc := 2) dX2_back_2 (by omega) (by omega) ?_
  refine G_if_ne (pc := 3) 12 dX2_back_3 (by decide) (by omega) (fun c3 => ?_) (fun c3 => ?_)
  · skip
    refine G_iload_0 (pc := 12) dX2_back_12 ?_
    refine G_iconst (pc := 13) dX2_back_13 ?_
    refine G_isub (pc := 14) dX2_back_14 ?_
    refine G_ireturn (pc := 15) dX2_back_15 rfl rfl (by omega) (by omega) ?_
    exact ⟨_, rfl, _, rfl, by congr 2; unfold zB; split <;> omega, rfl⟩
  · skip
    refine G_iload_0 (pc := 6) dX2_back_6 ?_
    refine G_iconst (pc := 7) dX2_back_7 ?_
    refine G_iadd (pc := 8) dX2_back_8 ?_
    refine G_goto (pc := 9) 15 dX2_back_9 (by decide) ?_
    refine G_ireturn (pc := 15) dX2_back_15 rfl rfl (by omega) (by omega) ?_
    exact ⟨_, rfl, _, rfl, by congr 2; unfold zB; split <;> omega, rfl⟩
theorem pu_X2_sign (v : Int) (hv : -9223372036854775808 ≤ v ∧ v ≤ 9223372036854775807) : gPu E l gX2_sign 1 [vJ v] h (vI v.sign) := by
  intro d hd
  refine gOk_of gmok_X2_sign rfl (Nat.le_of_ble_eq_true rfl) (L := [some _, none]) rfl ?_
  refine G_lload_0 (pc := 0) dX2_sign_0 ?_
  refine G_lconst0 (pc := 1) dX2_sign_1 ?_
  refine G_lcmp_le (pc := 2) 10 dX2_sign_2 dX2_sign_3 (by decide) (by omega) (by omega) (fun c2 => ?_) (fun c2 => ?_)
  · skip
    refine G_lload_0 (pc := 10) dX2_sign_10 ?_
    refine G_lconst0 (pc := 11) dX2_sign_11 ?_
    refine G_lcmp_ge (pc := 12) 20 dX2_sign_12 dX2_sign_13 (by decide) (by omega) (by omega) (fun c12 => ?_) (fun c12 => ?_)
    · skip
      refine G_iconst (pc := 20) dX2_sign_20 ?_
      refine G_ireturn (pc := 21) dX2_sign_21 rfl rfl (by omega) (by omega) ?_
      exact ⟨_, rfl, _, rfl, by congr 2; first | (rw [Int.sign_eq_one_of_pos (by omega)]) | (rw [Int.sign_eq_neg_one_of_neg (by omega)]) | (rw [show v = 0 by omega]; rfl), rfl⟩
    · skip
      refine G_iconst (pc := 16) dX2_sign_16 ?_
      refine G_goto (pc := 17) 21 dX2_sign_17 (by decide) ?_
      refine G_ireturn (pc := 21) dX2_sign_21 rfl rfl (by omega) (by omega) ?_
      exact ⟨_, rfl, _, rfl, by congr 2; first | (rw [Int.sign_eq_one_of_pos (by omega)]) | (rw [Int.sign_eq_neg_one_of_neg (by omega)]) | (rw [show v = 0 by omega]; rfl), rfl⟩
  · skip
    refine G_iconst (pc := 6) dX2_sign_6 ?_
    refine G_goto (pc := 7) 21 dX2_sign_7 (by decide) ?_
    refine G_ireturn (pc := 21) dX2_sign_21 rfl rfl (by omega) (by omega) ?_
    exact ⟨_, rfl, _, rfl, by congr 2; first | (rw [Int.sign_eq_one_of_pos (by omega)]) | (rw [Int.sign_eq_neg_one_of_neg (by omega)]) | (rw [show v = 0 by omega]; rfl), rfl⟩
theorem pu_X2_side {ax ay bx yb cx cy : Int} (h1 : -16000 ≤ ax ∧ ax ≤ 16000) (h2 : -16000 ≤ ay ∧ ay ≤ 16000) (h3 : -16000 ≤ bx ∧ bx ≤ 16000) (h4 : -16000 ≤ yb ∧ yb ≤ 16000) (h5 : -16000 ≤ cx ∧ cx ≤ 16000) (h6 : -16000 ≤ cy ∧ cy ≤ 16000) :
    gPu E l gX2_side 2 [vI ax, vI ay, vI bx, vI yb, vI cx, vI cy] h (vI (zc ax ay bx yb cx cy).sign) := by
  intro d hd
  have m := zc_b h1 h2 h3 h4 h5 h6
  unfold zc at m ⊢
  refine gOk_of gmok_X2_side rfl (Nat.le_of_ble_eq_true rfl) (L := [some _, some _, some _, some _, some _, some _]) rfl ?_
  refine G_iload_2 (pc := 0) dX2_side_0 ?_
  refine G_iload_0 (pc := 1) dX2_side_1 ?_
  refine G_isub (pc := 2) dX2_side_2 ?_
  refine G_i2l (pc := 3) dX2_side_3 (by omega) ?_
  refine G_iload_5 (pc := 4) dX2_side_4 ?_
  refine G_iload_1 (pc := 6) dX2_side_6 ?_
  refine G_isub (pc := 7) dX2_side_7 ?_
  refine G_i2l (pc := 8) dX2_side_8 (by omega) ?_
  refine G_lmul (pc := 9) dX2_side_9 ?_
  refine G_iload_3 (pc := 10) dX2_side_10 ?_
  refine G_iload_1 (pc := 11) dX2_side_11 ?_
  refine G_isub (pc := 12) dX2_side_12 ?_
  refine G_i2l (pc := 13) dX2_side_13 (by omega) ?_
  refine G_iload_4 (pc := 14) dX2_side_14 ?_
  refine G_iload_0 (pc := 16) dX2_side_16 ?_
  refine G_isub (pc := 17) dX2_side_17 ?_
  refine G_i2l (pc := 18) dX2_side_18 (by omega) ?_
  refine G_lmul (pc := 19) dX2_side_19 ?_
  refine G_lsub (pc := 20) dX2_side_20 ?_
  refine G_pS1 (pc := 21) dX2_side_21 rfl rfl (pu_X2_sign _ (by omega)) (by omega) (by omega) (by omega) (Nat.le_of_ble_eq_true rfl) ?_
  refine G_ireturn (pc := 24) dX2_side_24 rfl rfl (by omega) (by omega) ?_
  exact ⟨_, rfl, _, rfl, rfl, rfl⟩
theorem sign_b (x : Int) : -1 ≤ x.sign ∧ x.sign ≤ 1 := by
  rcases Int.lt_trichotomy x 0 with h | h | h
  · rw [Int.sign_eq_neg_one_of_neg h]; omega
  · rw [h]; decide
  · rw [Int.sign_eq_one_of_pos h]; omega
theorem pu_X2_isOn {ax ay bx yb x y : Int} (h1 : -16000 ≤ ax ∧ ax ≤ 16000) (h2 : -16000 ≤ ay ∧ ay ≤ 16000) (h3 : -16000 ≤ bx ∧ bx ≤ 16000) (h4 : -16000 ≤ yb ∧ yb ≤ 16000) (h5 : -16000 ≤ x ∧ x ≤ 16000) (h6 : -16000 ≤ y ∧ y ≤ 16000) :
    gPu E l gX2_isOn 3 [vI ax, vI ay, vI bx, vI yb, vI x, vI y] h (vI (bI (zon ax ay bx yb x y))) := by
  intro d hd
  refine gOk_of gmok_X2_isOn rfl (Nat.le_of_ble_eq_true rfl) (L := [some _, some _, some _, some _, some _, some _, none, none, none]) rfl ?_
  obtain ⟨Q, hQ⟩ : ∃ Q, Q = gRet (gRv fun v h' => v = vI (bI (zon ax ay bx yb x y)) ∧ h' = h) := ⟨_, rfl⟩
  rw [← hQ]
  have hs := sign_b (zc ax ay bx yb x y)
  have hz : (zc ax ay bx yb x y).sign = 0 ↔ zc ax ay bx yb x y = 0 := Int.sign_eq_zero_iff_zero
  have k107 : ∀ b : Int, b = bI (min ay yb ≤ y ∧ y ≤ max ay yb) → G E l gX2_isOn d 0 0 Q 107 [some (vI ax), some (vI ay), some (vI bx), some (vI yb), some (vI x), some (vI y), some (vI (bI (zc ax ay bx yb x y = 0))), some (vI (bI (min ax bx ≤ x ∧ x ≤ max ax bx))), none] [vI b] h 0 0 := by
    intro b hb
    subst hb
    refine G_istore_8 (pc := 107) dX2_isOn_107 (by decide) rfl ?_
    refine G_iload_6 (pc := 109) dX2_isOn_109 ?_
    refine G_ifb_eq (pc := 111) 128 dX2_isOn_111 (by decide) (fun c111 => ?_) (fun c111 => ?_)
    · skip
      refine G_iconst (pc := 128) dX2_isOn_128 ?_
      refine G_ireturn (pc := 129) dX2_isOn_129 rfl rfl (by omega) (by omega) ?_
      subst hQ; exact ⟨_, rfl, _, rfl, by unfold zon; first | exact congrArg vI (bI_pos (by grind)).symm | exact congrArg vI (bI_neg (by grind)).symm, rfl⟩
    · skip
      refine G_iload_7 (pc := 114) dX2_isOn_114 ?_
      refine G_ifb_eq (pc := 116) 128 dX2_isOn_116 (by decide) (fun c116 => ?_) (fun c116 => ?_)
      · skip
        refine G_iconst (pc := 128) dX2_isOn_128 ?_
        refine G_ireturn (pc := 129) dX2_isOn_129 rfl rfl (by omega) (by omega) ?_
        subst hQ; exact ⟨_, rfl, _, rfl, by unfold zon; first | exact congrArg vI (bI_pos (by grind)).symm | exact congrArg vI (bI_neg (by grind)).symm, rfl⟩
      · skip
        refine G_iload_8 (pc := 119) dX2_isOn_119 ?_
        refine G_ifb_eq (pc := 121) 128 dX2_isOn_121 (by decide) (fun c121 => ?_) (fun c121 => ?_)
        · skip
          refine G_iconst (pc := 128) dX2_isOn_128 ?_
          refine G_ireturn (pc := 129) dX2_isOn_129 rfl rfl (by omega) (by omega) ?_
          subst hQ; exact ⟨_, rfl, _, rfl, by unfold zon; first | exact congrArg vI (bI_pos (by grind)).symm | exact congrArg vI (bI_neg (by grind)).symm, rfl⟩
        · skip
          refine G_iconst (pc := 124) dX2_isOn_124 ?_
          refine G_goto (pc := 125) 129 dX2_isOn_125 (by decide) ?_
          refine G_ireturn (pc := 129) dX2_isOn_129 rfl rfl (by omega) (by omega) ?_
          subst hQ; exact ⟨_, rfl, _, rfl, by unfold zon; first | exact congrArg vI (bI_pos (by grind)).symm | exact congrArg vI (bI_neg (by grind)).symm, rfl⟩
  have k63 : ∀ b : Int, b = bI (min ax bx ≤ x ∧ x ≤ max ax bx) → G E l gX2_isOn d 0 0 Q 63 [some (vI ax), some (vI ay), some (vI bx), some (vI yb), some (vI x), some (vI y), some (vI (bI (zc ax ay bx yb x y = 0))), none, none] [vI b] h 0 0 := by
    intro b hb
    subst hb
    refine G_istore_7 (pc := 63) dX2_isOn_63 (by decide) rfl ?_
    refine G_iload_1 (pc := 65) dX2_isOn_65 ?_
    refine G_iload_3 (pc := 66) dX2_isOn_66 ?_
    refine G_icmp_ge (pc := 67) 90 dX2_isOn_67 (by decide) (by omega) (by omega) (fun c67 => ?_) (fun c67 => ?_)
    · skip
      refine G_iload_5 (pc := 90) dX2_isOn_90 ?_
      refine G_iload_3 (pc := 92) dX2_isOn_92 ?_
      refine G_icmp_lt (pc := 93) 106 dX2_isOn_93 (by decide) (by omega) (by omega) (fun c93 => ?_) (fun c93 => ?_)
      · skip
        refine G_iconst (pc := 106) dX2_isOn_106 ?_
        exact k107 _ (by first | exact (bI_pos (by omega)).symm | exact (bI_neg (by omega)).symm)
      · skip
        refine G_iload_5 (pc := 96) dX2_isOn_96 ?_
        refine G_iload_1 (pc := 98) dX2_isOn_98 ?_
        refine G_icmp_gt (pc := 99) 106 dX2_isOn_99 (by decide) (by omega) (by omega) (fun c99 => ?_) (fun c99 => ?_)
        · skip
          refine G_iconst (pc := 106) dX2_isOn_106 ?_
          exact k107 _ (by first | exact (bI_pos (by omega)).symm | exact (bI_neg (by omega)).symm)
        · skip
          refine G_iconst (pc := 102) dX2_isOn_102 ?_
          refine G_goto (pc := 103) 107 dX2_isOn_103 (by decide) ?_
          exact k107 _ (by first | exact (bI_pos (by omega)).symm | exact (bI_neg (by omega)).symm)
    · skip
      refine G_iload_5 (pc := 70) dX2_isOn_70 ?_
      refine G_iload_1 (pc := 72) dX2_isOn_72 ?_
      refine G_icmp_lt (pc := 73) 86 dX2_isOn_73 (by decide) (by omega) (by omega) (fun c73 => ?_) (fun c73 => ?_)
      · skip
        refine G_iconst (pc := 86) dX2_isOn_86 ?_
        refine G_goto (pc := 87) 107 dX2_isOn_87 (by decide) ?_
        exact k107 _ (by first | exact (bI_pos (by omega)).symm | exact (bI_neg (by omega)).symm)
      · skip
        refine G_iload_5 (pc := 76) dX2_isOn_76 ?_
        refine G_iload_3 (pc := 78) dX2_isOn_78 ?_
        refine G_icmp_gt (pc := 79) 86 dX2_isOn_79 (by decide) (by omega) (by omega) (fun c79 => ?_) (fun c79 => ?_)
        · skip
          refine G_iconst (pc := 86) dX2_isOn_86 ?_
          refine G_goto (pc := 87) 107 dX2_isOn_87 (by decide) ?_
          exact k107 _ (by first | exact (bI_pos (by omega)).symm | exact (bI_neg (by omega)).symm)
        · skip
          refine G_iconst (pc := 82) dX2_isOn_82 ?_
          refine G_goto (pc := 83) 107 dX2_isOn_83 (by decide) ?_
          exact k107 _ (by first | exact (bI_pos (by omega)).symm | exact (bI_neg (by omega)).symm)
  have k19 : ∀ b : Int, b = bI (zc ax ay bx yb x y = 0) → G E l gX2_isOn d 0 0 Q 19 [some (vI ax), some (vI ay), some (vI bx), some (vI yb), some (vI x), some (vI y), none, none, none] [vI b] h 0 0 := by
    intro b hb
    subst hb
    refine G_istore_6 (pc := 19) dX2_isOn_19 (by decide) rfl ?_
    refine G_iload_0 (pc := 21) dX2_isOn_21 ?_
    refine G_iload_2 (pc := 22) dX2_isOn_22 ?_
    refine G_icmp_ge (pc := 23) 46 dX2_isOn_23 (by decide) (by omega) (by omega) (fun c23 => ?_) (fun c23 => ?_)
    · skip
      refine G_iload_4 (pc := 46) dX2_isOn_46 ?_
      refine G_iload_2 (pc := 48) dX2_isOn_48 ?_
      refine G_icmp_lt (pc := 49) 62 dX2_isOn_49 (by decide) (by omega) (by omega) (fun c49 => ?_) (fun c49 => ?_)
      · skip
        refine G_iconst (pc := 62) dX2_isOn_62 ?_
        exact k63 _ (by first | exact (bI_pos (by omega)).symm | exact (bI_neg (by omega)).symm)
      · skip
        refine G_iload_4 (pc := 52) dX2_isOn_52 ?_
        refine G_iload_0 (pc := 54) dX2_isOn_54 ?_
        refine G_icmp_gt (pc := 55) 62 dX2_isOn_55 (by decide) (by omega) (by omega) (fun c55 => ?_) (fun c55 => ?_)
        · skip
          refine G_iconst (pc := 62) dX2_isOn_62 ?_
          exact k63 _ (by first | exact (bI_pos (by omega)).symm | exact (bI_neg (by omega)).symm)
        · skip
          refine G_iconst (pc := 58) dX2_isOn_58 ?_
          refine G_goto (pc := 59) 63 dX2_isOn_59 (by decide) ?_
          exact k63 _ (by first | exact (bI_pos (by omega)).symm | exact (bI_neg (by omega)).symm)
    · skip
      refine G_iload_4 (pc := 26) dX2_isOn_26 ?_
      refine G_iload_0 (pc := 28) dX2_isOn_28 ?_
      refine G_icmp_lt (pc := 29) 42 dX2_isOn_29 (by decide) (by omega) (by omega) (fun c29 => ?_) (fun c29 => ?_)
      · skip
        refine G_iconst (pc := 42) dX2_isOn_42 ?_
        refine G_goto (pc := 43) 63 dX2_isOn_43 (by decide) ?_
        exact k63 _ (by first | exact (bI_pos (by omega)).symm | exact (bI_neg (by omega)).symm)
      · skip
        refine G_iload_4 (pc := 32) dX2_isOn_32 ?_
        refine G_iload_2 (pc := 34) dX2_isOn_34 ?_
        refine G_icmp_gt (pc := 35) 42 dX2_isOn_35 (by decide) (by omega) (by omega) (fun c35 => ?_) (fun c35 => ?_)
        · skip
          refine G_iconst (pc := 42) dX2_isOn_42 ?_
          refine G_goto (pc := 43) 63 dX2_isOn_43 (by decide) ?_
          exact k63 _ (by first | exact (bI_pos (by omega)).symm | exact (bI_neg (by omega)).symm)
        · skip
          refine G_iconst (pc := 38) dX2_isOn_38 ?_
          refine G_goto (pc := 39) 63 dX2_isOn_39 (by decide) ?_
          exact k63 _ (by first | exact (bI_pos (by omega)).symm | exact (bI_neg (by omega)).symm)
  refine G_iload_0 (pc := 0) dX2_isOn_0 ?_
  refine G_iload_1 (pc := 1) dX2_isOn_1 ?_
  refine G_iload_2 (pc := 2) dX2_isOn_2 ?_
  refine G_iload_3 (pc := 3) dX2_isOn_3 ?_
  refine G_iload_4 (pc := 4) dX2_isOn_4 ?_
  refine G_iload_5 (pc := 6) dX2_isOn_6 ?_
  refine G_pS6 (pc := 8) dX2_isOn_8 rfl rfl (pu_X2_side (by omega) (by omega) (by omega) (by omega) (by omega) (by omega)) (by omega) (by omega) (by omega) (Nat.le_of_ble_eq_true rfl) ?_
  refine G_if_ne (pc := 11) 18 dX2_isOn_11 (by decide) (by omega) (fun c11 => ?_) (fun c11 => ?_)
  · skip
    refine G_iconst (pc := 18) dX2_isOn_18 ?_
    exact k19 _ (by first | exact (bI_pos (by omega)).symm | exact (bI_neg (by omega)).symm)
  · skip
    refine G_iconst (pc := 14) dX2_isOn_14 ?_
    refine G_goto (pc := 15) 19 dX2_isOn_15 (by decide) ?_
    exact k19 _ (by first | exact (bI_pos (by omega)).symm | exact (bI_neg (by omega)).symm)
end LEAF
