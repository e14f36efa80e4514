set_option maxRecDepth 100000
def mEnd (cx cy dx dy x y : Int) : Prop := (cx = x ∧ cy = y) ∨ (dx = x ∧ dy = y)
theorem sign_mul_b (x y : Int) : -1 ≤ x.sign * y.sign ∧ x.sign * y.sign ≤ 1 := by
  rw [← Int.sign_mul]
  exact sign_b _
def mMeets (ax ay bx yb cx cy dx dy : Int) : Prop :=
  (mEnd cx cy dx dy ax ay ∧ mEnd cx cy dx dy bx yb) ∨ (zon ax ay bx yb cx cy ∧ ¬ (cx = ax ∧ cy = ay) ∧ ¬ (cx = bx ∧ cy = yb)) ∨ (zon ax ay bx yb dx dy ∧ ¬ (dx = ax ∧ dy = ay) ∧ ¬ (dx = bx ∧ dy = yb)) ∨
  ((zon cx cy dx dy ax ay ∧ ¬ mEnd cx cy dx dy ax ay) ∨ (zon cx cy dx dy bx yb ∧ ¬ mEnd cx cy dx dy bx yb)) ∨
  ((zc ax ay bx yb cx cy).sign * (zc ax ay bx yb dx dy).sign < 0 ∧ (zc cx cy dx dy ax ay).sign * (zc cx cy dx dy bx yb).sign < 0)
section MOD1
variable {E : gV} {l : Launch} {h : gH} {S : mS}
theorem mp_X2_isEnd (hm : zMo E h S) {s : Nat} (hs : s < 60) {x y : Int} (hx : -2147483648 ≤ x ∧ x ≤ 2147483647) (hy : -2147483648 ≤ y ∧ y ≤ 2147483647) :
    gPu E l gX2_isEnd 1 [.ref (gBase E + 12), vI s, vI x, vI y] h (vI (bI (mEnd (S.2 2 (2 * s)) (S.2 3 (2 * s)) (S.2 2 (2 * s + 1)) (S.2 3 (2 * s + 1)) x y))) := by
  intro d hd
  have e1 : (2 * (s : Int)).toNat = 2 * s := by omega
  have e2 : (2 * (s : Int) + 1).toNat = 2 * s + 1 := by omega
  refine gOk_of gmok_X2_isEnd rfl (Nat.le_of_ble_eq_true rfl) (L := [some _, some _, some _, some _]) rfl ?_
  refine G_aload_0 (pc := 0) dX2_isEnd_0 ?_
  refine G_mref (pc := 1) dX2_isEnd_1 rfl hm rfl ?_
  refine G_iconst (pc := 4) dX2_isEnd_4 ?_
  refine G_iload_1 (pc := 5) dX2_isEnd_5 ?_
  refine G_imul (pc := 6) dX2_isEnd_6 ?_
  refine G_mi (pc := 7) (n := 120) dX2_isEnd_7 hm rfl rfl rfl (by omega) (fun b7 => ?_)
  refine G_iload_2 (pc := 8) dX2_isEnd_8 ?_
  refine G_icmp_ne (pc := 9) 24 dX2_isEnd_9 (by decide) (by omega) (by omega) (fun c9 => ?_) (fun c9 => ?_)
  · skip
    refine G_aload_0 (pc := 24) dX2_isEnd_24 ?_
    refine G_mref (pc := 25) dX2_isEnd_25 rfl hm rfl ?_
    refine G_iconst (pc := 28) dX2_isEnd_28 ?_
    refine G_iload_1 (pc := 29) dX2_isEnd_29 ?_
    refine G_imul (pc := 30) dX2_isEnd_30 ?_
    refine G_iconst (pc := 31) dX2_isEnd_31 ?_
    refine G_iadd (pc := 32) dX2_isEnd_32 ?_
    refine G_mi (pc := 33) (n := 120) dX2_isEnd_33 hm rfl rfl rfl (by omega) (fun b33 => ?_)
    refine G_iload_2 (pc := 34) dX2_isEnd_34 ?_
    refine G_icmp_ne (pc := 35) 56 dX2_isEnd_35 (by decide) (by omega) (by omega) (fun c35 => ?_) (fun c35 => ?_)
    · skip
      refine G_iconst (pc := 56) dX2_isEnd_56 ?_
      refine G_ireturn (pc := 57) dX2_isEnd_57 rfl rfl (by omega) (by omega) ?_
      rw [e1] at *; (try rw [e2] at *); exact ⟨_, rfl, _, rfl, by unfold mEnd; first | exact congrArg vI (bI_pos (by grind)).symm | exact congrArg vI (bI_neg (by grind)).symm, rfl⟩
    · skip
      refine G_aload_0 (pc := 38) dX2_isEnd_38 ?_
      refine G_mref (pc := 39) dX2_isEnd_39 rfl hm rfl ?_
      refine G_iconst (pc := 42) dX2_isEnd_42 ?_
      refine G_iload_1 (pc := 43) dX2_isEnd_43 ?_
      refine G_imul (pc := 44) dX2_isEnd_44 ?_
      refine G_iconst (pc := 45) dX2_isEnd_45 ?_
      refine G_iadd (pc := 46) dX2_isEnd_46 ?_
      refine G_mi (pc := 47) (n := 120) dX2_isEnd_47 hm rfl rfl rfl (by omega) (fun b47 => ?_)
      refine G_iload_3 (pc := 48) dX2_isEnd_48 ?_
      refine G_icmp_ne (pc := 49) 56 dX2_isEnd_49 (by decide) (by omega) (by omega) (fun c49 => ?_) (fun c49 => ?_)
      · skip
        refine G_iconst (pc := 56) dX2_isEnd_56 ?_
        refine G_ireturn (pc := 57) dX2_isEnd_57 rfl rfl (by omega) (by omega) ?_
        rw [e1] at *; (try rw [e2] at *); exact ⟨_, rfl, _, rfl, by unfold mEnd; first | exact congrArg vI (bI_pos (by grind)).symm | exact congrArg vI (bI_neg (by grind)).symm, rfl⟩
      · skip
        refine G_iconst (pc := 52) dX2_isEnd_52 ?_
        refine G_goto (pc := 53) 57 dX2_isEnd_53 (by decide) ?_
        refine G_ireturn (pc := 57) dX2_isEnd_57 rfl rfl (by omega) (by omega) ?_
        rw [e1] at *; (try rw [e2] at *); exact ⟨_, rfl, _, rfl, by unfold mEnd; first | exact congrArg vI (bI_pos (by grind)).symm | exact congrArg vI (bI_neg (by grind)).symm, rfl⟩
  · skip
    refine G_aload_0 (pc := 12) dX2_isEnd_12 ?_
    refine G_mref (pc := 13) dX2_isEnd_13 rfl hm rfl ?_
    refine G_iconst (pc := 16) dX2_isEnd_16 ?_
    refine G_iload_1 (pc := 17) dX2_isEnd_17 ?_
    refine G_imul (pc := 18) dX2_isEnd_18 ?_
    refine G_mi (pc := 19) (n := 120) dX2_isEnd_19 hm rfl rfl rfl (by omega) (fun b19 => ?_)
    refine G_iload_3 (pc := 20) dX2_isEnd_20 ?_
    refine G_icmp_eq (pc := 21) 52 dX2_isEnd_21 (by decide) (by omega) (by omega) (fun c21 => ?_) (fun c21 => ?_)
    · skip
      refine G_iconst (pc := 52) dX2_isEnd_52 ?_
      refine G_goto (pc := 53) 57 dX2_isEnd_53 (by decide) ?_
      refine G_ireturn (pc := 57) dX2_isEnd_57 rfl rfl (by omega) (by omega) ?_
      rw [e1] at *; (try rw [e2] at *); exact ⟨_, rfl, _, rfl, by unfold mEnd; first | exact congrArg vI (bI_pos (by grind)).symm | exact congrArg vI (bI_neg (by grind)).symm, rfl⟩
    · skip
      refine G_aload_0 (pc := 24) dX2_isEnd_24 ?_
      refine G_mref (pc := 25) dX2_isEnd_25 rfl hm rfl ?_
      refine G_iconst (pc := 28) dX2_isEnd_28 ?_
      refine G_iload_1 (pc := 29) dX2_isEnd_29 ?_
      refine G_imul (pc := 30) dX2_isEnd_30 ?_
      refine G_iconst (pc := 31) dX2_isEnd_31 ?_
      refine G_iadd (pc := 32) dX2_isEnd_32 ?_
      refine G_mi (pc := 33) (n := 120) dX2_isEnd_33 hm rfl rfl rfl (by omega) (fun b33 => ?_)
      refine G_iload_2 (pc := 34) dX2_isEnd_34 ?_
      refine G_icmp_ne (pc := 35) 56 dX2_isEnd_35 (by decide) (by omega) (by omega) (fun c35 => ?_) (fun c35 => ?_)
      · skip
        refine G_iconst (pc := 56) dX2_isEnd_56 ?_
        refine G_ireturn (pc := 57) dX2_isEnd_57 rfl rfl (by omega) (by omega) ?_
        rw [e1] at *; (try rw [e2] at *); exact ⟨_, rfl, _, rfl, by unfold mEnd; first | exact congrArg vI (bI_pos (by grind)).symm | exact congrArg vI (bI_neg (by grind)).symm, rfl⟩
      · skip
        refine G_aload_0 (pc := 38) dX2_isEnd_38 ?_
        refine G_mref (pc := 39) dX2_isEnd_39 rfl hm rfl ?_
        refine G_iconst (pc := 42) dX2_isEnd_42 ?_
        refine G_iload_1 (pc := 43) dX2_isEnd_43 ?_
        refine G_imul (pc := 44) dX2_isEnd_44 ?_
        refine G_iconst (pc := 45) dX2_isEnd_45 ?_
        refine G_iadd (pc := 46) dX2_isEnd_46 ?_
        refine G_mi (pc := 47) (n := 120) dX2_isEnd_47 hm rfl rfl rfl (by omega) (fun b47 => ?_)
        refine G_iload_3 (pc := 48) dX2_isEnd_48 ?_
        refine G_icmp_ne (pc := 49) 56 dX2_isEnd_49 (by decide) (by omega) (by omega) (fun c49 => ?_) (fun c49 => ?_)
        · skip
          refine G_iconst (pc := 56) dX2_isEnd_56 ?_
          refine G_ireturn (pc := 57) dX2_isEnd_57 rfl rfl (by omega) (by omega) ?_
          rw [e1] at *; (try rw [e2] at *); exact ⟨_, rfl, _, rfl, by unfold mEnd; first | exact congrArg vI (bI_pos (by grind)).symm | exact congrArg vI (bI_neg (by grind)).symm, rfl⟩
        · skip
          refine G_iconst (pc := 52) dX2_isEnd_52 ?_
          refine G_goto (pc := 53) 57 dX2_isEnd_53 (by decide) ?_
          refine G_ireturn (pc := 57) dX2_isEnd_57 rfl rfl (by omega) (by omega) ?_
          rw [e1] at *; (try rw [e2] at *); exact ⟨_, rfl, _, rfl, by unfold mEnd; first | exact congrArg vI (bI_pos (by grind)).symm | exact congrArg vI (bI_neg (by grind)).symm, rfl⟩
theorem mp_X2_thrown (hm : zMo E h S) : gPu E l gX2_thrown 1 [.ref (gBase E + 12)] h (vI (S.1 0)) := by
  intro d hd
  refine gOk_of gmok_X2_thrown rfl (Nat.le_of_ble_eq_true rfl) (L := [some _]) rfl ?_
  refine G_aload_0 (pc := 0) dX2_thrown_0 ?_
  refine G_mget (pc := 1) dX2_thrown_1 rfl hm rfl rfl (fun b1 => ?_)
  refine G_ireturn (pc := 4) dX2_thrown_4 rfl rfl (by omega) (by omega) ?_
  exact ⟨_, rfl, _, rfl, rfl, rfl⟩
theorem mo_X2_refused {x : Int} (hx : 0 ≤ x ∧ x ≤ 2) : mOk E l gX2_refused 1 [.ref (gBase E + 12), vI x] S (fun v S' => ∃ w, v = some w ∧ w = vI (bI (0 < x)) ∧ S' = mUs S 0 x) := by
  intro h hm d hd
  have hk := gKeepM_rf E h
  refine gOk_of gmok_X2_refused rfl (Nat.le_of_ble_eq_true rfl) (L := [some _, some _]) rfl ?_
  refine G_aload_0 (pc := 0) dX2_refused_0 ?_
  refine G_iload_1 (pc := 1) dX2_refused_1 ?_
  refine G_mputI (pc := 2) dX2_refused_2 rfl hm hk rfl rfl (by omega) (fun h hm hk => ?_)
  refine G_iload_1 (pc := 5) dX2_refused_5 ?_
  refine G_if_le (pc := 6) 13 dX2_refused_6 (by decide) (by omega) (fun c6 => ?_) (fun c6 => ?_)
  · skip
    refine G_iconst (pc := 13) dX2_refused_13 ?_
    refine G_ireturn (pc := 14) dX2_refused_14 rfl rfl (by omega) (by omega) ?_
    exact ⟨_, rfl, _, hm, hk, _, rfl, by first | exact congrArg vI (bI_pos (by omega)).symm | exact congrArg vI (bI_neg (by omega)).symm, rfl⟩
  · skip
    refine G_iconst (pc := 9) dX2_refused_9 ?_
    refine G_goto (pc := 10) 14 dX2_refused_10 (by decide) ?_
    refine G_ireturn (pc := 14) dX2_refused_14 rfl rfl (by omega) (by omega) ?_
    exact ⟨_, rfl, _, hm, hk, _, rfl, by first | exact congrArg vI (bI_pos (by omega)).symm | exact congrArg vI (bI_neg (by omega)).symm, rfl⟩
theorem mp_X2_leaves (hm : zMo E h S) {k : Nat} (hs : k < 120) {x y : Int} (hx : -2147483648 ≤ x ∧ x ≤ 2147483647) (hy : -2147483648 ≤ y ∧ y ≤ 2147483647) :
    gPu E l gX2_leaves 1 [.ref (gBase E + 12), vI k, vI x, vI y] h (vI (bI (S.2 1 (k / 2) = 1 ∧ S.2 2 k = x ∧ S.2 3 k = y))) := by
  intro d hd
  have e1 : ((k : Int) / 2).toNat = k / 2 := by omega
  have e2 : (k : Int).toNat = k := by omega
  refine gOk_of gmok_X2_leaves rfl (Nat.le_of_ble_eq_true rfl) (L := [some _, some _, some _, some _]) rfl ?_
  refine G_aload_0 (pc := 0) dX2_leaves_0 ?_
  refine G_mref (pc := 1) dX2_leaves_1 rfl hm rfl ?_
  refine G_iload_1 (pc := 4) dX2_leaves_4 ?_
  refine G_iconst (pc := 5) dX2_leaves_5 ?_
  refine G_idiv (pc := 6) dX2_leaves_6 (by omega) (by omega) ?_
  refine G_mb (pc := 7) dX2_leaves_7 hm (by omega) (fun b7 => ?_)
  refine G_if_eq (pc := 8) 35 dX2_leaves_8 (by decide) (by omega) (fun c8 => ?_) (fun c8 => ?_)
  · skip
    refine G_iconst (pc := 35) dX2_leaves_35 ?_
    refine G_ireturn (pc := 36) dX2_leaves_36 rfl rfl (by omega) (by omega) ?_
    rw [e1] at *; (try rw [e2] at *); exact ⟨_, rfl, _, rfl, by first | exact congrArg vI (bI_pos (by grind)).symm | exact congrArg vI (bI_neg (by grind)).symm, rfl⟩
  · skip
    refine G_aload_0 (pc := 11) dX2_leaves_11 ?_
    refine G_mref (pc := 12) dX2_leaves_12 rfl hm rfl ?_
    refine G_iload_1 (pc := 15) dX2_leaves_15 ?_
    refine G_mi (pc := 16) (n := 120) dX2_leaves_16 hm rfl rfl rfl (by omega) (fun b16 => ?_)
    refine G_iload_2 (pc := 17) dX2_leaves_17 ?_
    refine G_icmp_ne (pc := 18) 35 dX2_leaves_18 (by decide) (by omega) (by omega) (fun c18 => ?_) (fun c18 => ?_)
    · skip
      refine G_iconst (pc := 35) dX2_leaves_35 ?_
      refine G_ireturn (pc := 36) dX2_leaves_36 rfl rfl (by omega) (by omega) ?_
      rw [e1] at *; (try rw [e2] at *); exact ⟨_, rfl, _, rfl, by first | exact congrArg vI (bI_pos (by grind)).symm | exact congrArg vI (bI_neg (by grind)).symm, rfl⟩
    · skip
      refine G_aload_0 (pc := 21) dX2_leaves_21 ?_
      refine G_mref (pc := 22) dX2_leaves_22 rfl hm rfl ?_
      refine G_iload_1 (pc := 25) dX2_leaves_25 ?_
      refine G_mi (pc := 26) (n := 120) dX2_leaves_26 hm rfl rfl rfl (by omega) (fun b26 => ?_)
      refine G_iload_3 (pc := 27) dX2_leaves_27 ?_
      refine G_icmp_ne (pc := 28) 35 dX2_leaves_28 (by decide) (by omega) (by omega) (fun c28 => ?_) (fun c28 => ?_)
      · skip
        refine G_iconst (pc := 35) dX2_leaves_35 ?_
        refine G_ireturn (pc := 36) dX2_leaves_36 rfl rfl (by omega) (by omega) ?_
        rw [e1] at *; (try rw [e2] at *); exact ⟨_, rfl, _, rfl, by first | exact congrArg vI (bI_pos (by grind)).symm | exact congrArg vI (bI_neg (by grind)).symm, rfl⟩
      · skip
        refine G_iconst (pc := 31) dX2_leaves_31 ?_
        refine G_goto (pc := 32) 36 dX2_leaves_32 (by decide) ?_
        refine G_ireturn (pc := 36) dX2_leaves_36 rfl rfl (by omega) (by omega) ?_
        rw [e1] at *; (try rw [e2] at *); exact ⟨_, rfl, _, rfl, by first | exact congrArg vI (bI_pos (by grind)).symm | exact congrArg vI (bI_neg (by grind)).symm, rfl⟩
theorem mp_X2_isHalf (hm : zMo E h S) {x : Int} (hx : -2147483648 ≤ x ∧ x ≤ 2147483647) :
    gPu E l gX2_isHalf 1 [.ref (gBase E + 12), vI x] h (vI (bI (0 ≤ x ∧ x < 120 ∧ S.2 1 (x.toNat / 2) = 1))) := by
  intro d hd
  have e1 : 0 ≤ x → (x / 2).toNat = x.toNat / 2 := by omega
  refine gOk_of gmok_X2_isHalf rfl (Nat.le_of_ble_eq_true rfl) (L := [some _, some _]) rfl ?_
  refine G_iload_1 (pc := 0) dX2_isHalf_0 ?_
  refine G_if_lt (pc := 1) 25 dX2_isHalf_1 (by decide) (by omega) (fun c1 => ?_) (fun c1 => ?_)
  · skip
    refine G_iconst (pc := 25) dX2_isHalf_25 ?_
    refine G_ireturn (pc := 26) dX2_isHalf_26 rfl rfl (by omega) (by omega) ?_
    exact ⟨_, rfl, _, rfl, by first | exact congrArg vI (bI_pos (by grind)).symm | exact congrArg vI (bI_neg (by grind)).symm, rfl⟩
  · skip
    refine G_iload_1 (pc := 4) dX2_isHalf_4 ?_
    refine G_bipush (pc := 5) dX2_isHalf_5 (by omega) ?_
    refine G_icmp_ge (pc := 7) 25 dX2_isHalf_7 (by decide) (by omega) (by omega) (fun c7 => ?_) (fun c7 => ?_)
    · skip
      refine G_iconst (pc := 25) dX2_isHalf_25 ?_
      refine G_ireturn (pc := 26) dX2_isHalf_26 rfl rfl (by omega) (by omega) ?_
      exact ⟨_, rfl, _, rfl, by first | exact congrArg vI (bI_pos (by grind)).symm | exact congrArg vI (bI_neg (by grind)).symm, rfl⟩
    · skip
      refine G_aload_0 (pc := 10) dX2_isHalf_10 ?_
      refine G_mref (pc := 11) dX2_isHalf_11 rfl hm rfl ?_
      refine G_iload_1 (pc := 14) dX2_isHalf_14 ?_
      refine G_iconst (pc := 15) dX2_isHalf_15 ?_
      refine G_idiv (pc := 16) dX2_isHalf_16 (by omega) (by omega) ?_
      refine G_mb (pc := 17) dX2_isHalf_17 hm (by omega) (fun b17 => ?_)
      refine G_if_eq (pc := 18) 25 dX2_isHalf_18 (by decide) (by omega) (fun c18 => ?_) (fun c18 => ?_)
      · skip
        refine G_iconst (pc := 25) dX2_isHalf_25 ?_
        refine G_ireturn (pc := 26) dX2_isHalf_26 rfl rfl (by omega) (by omega) ?_
        exact ⟨_, rfl, _, rfl, by first | exact congrArg vI (bI_pos (by grind)).symm | exact congrArg vI (bI_neg (by grind)).symm, rfl⟩
      · skip
        refine G_iconst (pc := 21) dX2_isHalf_21 ?_
        refine G_goto (pc := 22) 26 dX2_isHalf_22 (by decide) ?_
        refine G_ireturn (pc := 26) dX2_isHalf_26 rfl rfl (by omega) (by omega) ?_
        exact ⟨_, rfl, _, rfl, by first | exact congrArg vI (bI_pos (by grind)).symm | exact congrArg vI (bI_neg (by grind)).symm, rfl⟩
theorem mp_X2_left (hm : zMo E h S) {k : Nat} (hs : k < 120) (hr : 0 ≤ S.2 9 k ∧ S.2 9 k < 120) :
    gPu E l gX2_left 1 [.ref (gBase E + 12), vI k] h (vI (S.2 13 (S.2 9 k).toNat)) := by
  intro d hd
  have e2 : (k : Int).toNat = k := by omega
  refine gOk_of gmok_X2_left rfl (Nat.le_of_ble_eq_true rfl) (L := [some _, some _]) rfl ?_
  refine G_aload_0 (pc := 0) dX2_left_0 ?_
  refine G_mref (pc := 1) dX2_left_1 rfl hm rfl ?_
  refine G_aload_0 (pc := 4) dX2_left_4 ?_
  refine G_mref (pc := 5) dX2_left_5 rfl hm rfl ?_
  refine G_iload_1 (pc := 8) dX2_left_8 ?_
  refine G_mi (pc := 9) (n := 120) dX2_left_9 hm rfl rfl rfl (by omega) (fun b9 => ?_)
  refine G_mi (pc := 10) (n := 120) dX2_left_10 hm rfl rfl rfl (by rw [e2]; omega) (fun b10 => ?_)
  refine G_ireturn (pc := 11) dX2_left_11 rfl rfl (by omega) (by omega) ?_
  rw [e2]; exact ⟨_, rfl, _, rfl, rfl, rfl⟩
theorem mp_X2_crossOf (hm : zMo E h S) {i j : Nat} (hi : i < 120) (hj : j < 120) (cc : ∀ k, k = i ∨ k = zB i ∨ k = j ∨ k = zB j → (-16000 ≤ S.2 2 k ∧ S.2 2 k ≤ 16000) ∧ (-16000 ≤ S.2 3 k ∧ S.2 3 k ≤ 16000)) :
    gPu E l gX2_crossOf 2 [.ref (gBase E + 12), vI i, vI j] h (vJ ((S.2 2 (zB i) - S.2 2 i) * (S.2 3 (zB j) - S.2 3 j) - (S.2 3 (zB i) - S.2 3 i) * (S.2 2 (zB j) - S.2 2 j))) := by
  intro d hd
  have e1 : (i : Int).toNat = i := by omega
  have e2 : (j : Int).toNat = j := by omega
  have e3 : ((zB i : Nat) : Int).toNat = zB i := by omega
  have e4 : ((zB j : Nat) : Int).toNat = zB j := by omega
  have l1 := zB_lt hi
  have l2 := zB_lt hj
  have q1 := cc i (Or.inl rfl)
  have q2 := cc (zB i) (Or.inr (Or.inl rfl))
  have q3 := cc j (Or.inr (Or.inr (Or.inl rfl)))
  have q4 := cc (zB j) (Or.inr (Or.inr (Or.inr rfl)))
  refine gOk_of gmok_X2_crossOf rfl (Nat.le_of_ble_eq_true rfl) (L := [some _, some _, some _, none, none, none, none, none, none, none, none]) rfl ?_
  refine G_aload_0 (pc := 0) dX2_crossOf_0 ?_
  refine G_mref (pc := 1) dX2_crossOf_1 rfl hm rfl ?_
  refine G_iload_1 (pc := 4) dX2_crossOf_4 ?_
  refine G_pS1 (pc := 5) dX2_crossOf_5 rfl rfl (pu_X2_back _ (by omega)) (by omega) (by omega) (by omega) (Nat.le_of_ble_eq_true rfl) ?_
  refine G_mi (pc := 8) (n := 120) dX2_crossOf_8 hm rfl rfl rfl (by omega) (fun b8 => ?_)
  refine G_aload_0 (pc := 9) dX2_crossOf_9 ?_
  refine G_mref (pc := 10) dX2_crossOf_10 rfl hm rfl ?_
  refine G_iload_1 (pc := 13) dX2_crossOf_13 ?_
  refine G_mi (pc := 14) (n := 120) dX2_crossOf_14 hm rfl rfl rfl (by omega) (fun b14 => ?_)
  refine G_isub (pc := 15) dX2_crossOf_15 ?_
  simp only [Int.toNat_natCast]
  refine G_i2l (pc := 16) dX2_crossOf_16 (by omega) ?_
  refine G_lstore_3 (pc := 17) dX2_crossOf_17 (by decide) rfl ?_
  refine G_aload_0 (pc := 18) dX2_crossOf_18 ?_
  refine G_mref (pc := 19) dX2_crossOf_19 rfl hm rfl ?_
  refine G_iload_1 (pc := 22) dX2_crossOf_22 ?_
  refine G_pS1 (pc := 23) dX2_crossOf_23 rfl rfl (pu_X2_back _ (by omega)) (by omega) (by omega) (by omega) (Nat.le_of_ble_eq_true rfl) ?_
  refine G_mi (pc := 26) (n := 120) dX2_crossOf_26 hm rfl rfl rfl (by omega) (fun b26 => ?_)
  refine G_aload_0 (pc := 27) dX2_crossOf_27 ?_
  refine G_mref (pc := 28) dX2_crossOf_28 rfl hm rfl ?_
  refine G_iload_1 (pc := 31) dX2_crossOf_31 ?_
  refine G_mi (pc := 32) (n := 120) dX2_crossOf_32 hm rfl rfl rfl (by omega) (fun b32 => ?_)
  refine G_isub (pc := 33) dX2_crossOf_33 ?_
  simp only [Int.toNat_natCast]
  refine G_i2l (pc := 34) dX2_crossOf_34 (by omega) ?_
  refine G_lstore_5 (pc := 35) dX2_crossOf_35 (by decide) rfl ?_
  refine G_aload_0 (pc := 37) dX2_crossOf_37 ?_
  refine G_mref (pc := 38) dX2_crossOf_38 rfl hm rfl ?_
  refine G_iload_2 (pc := 41) dX2_crossOf_41 ?_
  refine G_pS1 (pc := 42) dX2_crossOf_42 rfl rfl (pu_X2_back _ (by omega)) (by omega) (by omega) (by omega) (Nat.le_of_ble_eq_true rfl) ?_
  refine G_mi (pc := 45) (n := 120) dX2_crossOf_45 hm rfl rfl rfl (by omega) (fun b45 => ?_)
  refine G_aload_0 (pc := 46) dX2_crossOf_46 ?_
  refine G_mref (pc := 47) dX2_crossOf_47 rfl hm rfl ?_
  refine G_iload_2 (pc := 50) dX2_crossOf_50 ?_
  refine G_mi (pc := 51) (n := 120) dX2_crossOf_51 hm rfl rfl rfl (by omega) (fun b51 => ?_)
  refine G_isub (pc := 52) dX2_crossOf_52 ?_
  simp only [Int.toNat_natCast]
  refine G_i2l (pc := 53) dX2_crossOf_53 (by omega) ?_
  refine G_lstore_7 (pc := 54) dX2_crossOf_54 (by decide) rfl ?_
  refine G_aload_0 (pc := 56) dX2_crossOf_56 ?_
  refine G_mref (pc := 57) dX2_crossOf_57 rfl hm rfl ?_
  refine G_iload_2 (pc := 60) dX2_crossOf_60 ?_
  refine G_pS1 (pc := 61) dX2_crossOf_61 rfl rfl (pu_X2_back _ (by omega)) (by omega) (by omega) (by omega) (Nat.le_of_ble_eq_true rfl) ?_
  refine G_mi (pc := 64) (n := 120) dX2_crossOf_64 hm rfl rfl rfl (by omega) (fun b64 => ?_)
  refine G_aload_0 (pc := 65) dX2_crossOf_65 ?_
  refine G_mref (pc := 66) dX2_crossOf_66 rfl hm rfl ?_
  refine G_iload_2 (pc := 69) dX2_crossOf_69 ?_
  refine G_mi (pc := 70) (n := 120) dX2_crossOf_70 hm rfl rfl rfl (by omega) (fun b70 => ?_)
  refine G_isub (pc := 71) dX2_crossOf_71 ?_
  simp only [Int.toNat_natCast]
  refine G_i2l (pc := 72) dX2_crossOf_72 (by omega) ?_
  refine G_lstore_9 (pc := 73) dX2_crossOf_73 (by decide) rfl ?_
  refine G_lload_3 (pc := 75) dX2_crossOf_75 ?_
  refine G_lload_9 (pc := 76) dX2_crossOf_76 ?_
  refine G_lmul (pc := 78) dX2_crossOf_78 ?_
  refine G_lload_5 (pc := 79) dX2_crossOf_79 ?_
  refine G_lload_7 (pc := 81) dX2_crossOf_81 ?_
  refine G_lmul (pc := 83) dX2_crossOf_83 ?_
  refine G_lsub (pc := 84) dX2_crossOf_84 ?_
  refine G_lreturn (pc := 85) dX2_crossOf_85 rfl (by omega) (by omega) ?_
  exact ⟨_, rfl, _, rfl, rfl, rfl⟩
theorem mp_X2_turned (hm : zMo E h S) {i j : Nat} (hi : i < 120) (hj : j < 120) (cc : ∀ k, k = i ∨ k = zB i ∨ k = j ∨ k = zB j → (-16000 ≤ S.2 2 k ∧ S.2 2 k ≤ 16000) ∧ (-16000 ≤ S.2 3 k ∧ S.2 3 k ≤ 16000)) {c : Int} (ec : c = (S.2 2 (zB i) - S.2 2 i) * (S.2 3 (zB j) - S.2 3 j) - (S.2 3 (zB i) - S.2 3 i) * (S.2 2 (zB j) - S.2 2 j)) :
    gPu E l gX2_turned 3 [.ref (gBase E + 12), vI i, vI j] h (vI (if c < 0 then 0 else if c = 0 then 1 else 2)) := by
  intro d hd
  have q1 := cc i (Or.inl rfl)
  have q2 := cc (zB i) (Or.inr (Or.inl rfl))
  have q3 := cc j (Or.inr (Or.inr (Or.inl rfl)))
  have q4 := cc (zB j) (Or.inr (Or.inr (Or.inr rfl)))
  have m1 := mul_b (a := S.2 2 (zB i) - S.2 2 i) (b := S.2 3 (zB j) - S.2 3 j) (by omega) (by omega)
  have m2 := mul_b (a := S.2 3 (zB i) - S.2 3 i) (b := S.2 2 (zB j) - S.2 2 j) (by omega) (by omega)
  have hc : -2048000000 ≤ c ∧ c ≤ 2048000000 := by omega
  refine gOk_of gmok_X2_turned rfl (Nat.le_of_ble_eq_true rfl) (L := [some _, some _, some _, none, none]) rfl ?_
  refine G_aload_0 (pc := 0) dX2_turned_0 ?_
  refine G_iload_1 (pc := 1) dX2_turned_1 ?_
  refine G_iload_2 (pc := 2) dX2_turned_2 ?_
  refine G_pV2 (pc := 3) dX2_turned_3 rfl hm.1 (by decide) rfl (mp_X2_crossOf hm hi hj cc) (by omega) (by omega) (by omega) (Nat.le_of_ble_eq_true rfl) ?_
  rw [← ec]
  refine G_lstore_3 (pc := 6) dX2_turned_6 (by decide) rfl ?_
  refine G_lload_3 (pc := 7) dX2_turned_7 ?_
  refine G_lconst0 (pc := 8) dX2_turned_8 ?_
  refine G_lcmp_ge (pc := 9) 17 dX2_turned_9 dX2_turned_10 (by decide) (by omega) (by omega) (fun c9 => ?_) (fun c9 => ?_)
  · skip
    refine G_lload_3 (pc := 17) dX2_turned_17 ?_
    refine G_lconst0 (pc := 18) dX2_turned_18 ?_
    refine G_lcmp_ne (pc := 19) 27 dX2_turned_19 dX2_turned_20 (by decide) (by omega) (by omega) (fun c19 => ?_) (fun c19 => ?_)
    · skip
      refine G_iconst (pc := 27) dX2_turned_27 ?_
      refine G_ireturn (pc := 28) dX2_turned_28 rfl rfl (by omega) (by omega) ?_
      exact ⟨_, rfl, _, rfl, by congr 2; split <;> (try split) <;> omega, rfl⟩
    · skip
      refine G_iconst (pc := 23) dX2_turned_23 ?_
      refine G_goto (pc := 24) 28 dX2_turned_24 (by decide) ?_
      refine G_ireturn (pc := 28) dX2_turned_28 rfl rfl (by omega) (by omega) ?_
      exact ⟨_, rfl, _, rfl, by congr 2; split <;> (try split) <;> omega, rfl⟩
  · skip
    refine G_iconst (pc := 13) dX2_turned_13 ?_
    refine G_goto (pc := 14) 28 dX2_turned_14 (by decide) ?_
    refine G_ireturn (pc := 28) dX2_turned_28 rfl rfl (by omega) (by omega) ?_
    exact ⟨_, rfl, _, rfl, by congr 2; split <;> (try split) <;> omega, rfl⟩
theorem mp_X2_meets (hm : zMo E h S) {s : Nat} (hs : s < 60) {ax ay bx yb : Int} (h1 : -16000 ≤ ax ∧ ax ≤ 16000) (h2 : -16000 ≤ ay ∧ ay ≤ 16000) (h3 : -16000 ≤ bx ∧ bx ≤ 16000) (h4 : -16000 ≤ yb ∧ yb ≤ 16000)
    (cc : ∀ k, k = 2 * s ∨ k = 2 * s + 1 → (-16000 ≤ S.2 2 k ∧ S.2 2 k ≤ 16000) ∧ (-16000 ≤ S.2 3 k ∧ S.2 3 k ≤ 16000)) :
    gPu E l gX2_meets 4 [.ref (gBase E + 12), vI s, vI ax, vI ay, vI bx, vI yb] h (vI (bI (mMeets ax ay bx yb (S.2 2 (2 * s)) (S.2 3 (2 * s)) (S.2 2 (2 * s + 1)) (S.2 3 (2 * s + 1))))) := by
  intro d hd
  have e1 : (2 * (s : Int)).toNat = 2 * s := by omega
  have e2 : (2 * (s : Int) + 1).toNat = 2 * s + 1 := by omega
  have q1 := cc (2 * s) (Or.inl rfl)
  have q2 := cc (2 * s + 1) (Or.inr rfl)
  refine gOk_of gmok_X2_meets rfl (Nat.le_of_ble_eq_true rfl) (L := [some _, some _, some _, some _, some _, some _, none, none, none, none]) rfl ?_
  obtain ⟨Q, hQ⟩ : ∃ Q, Q = gRet (gRv fun v h' => v = vI (bI (mMeets ax ay bx yb (S.2 2 (2 * s)) (S.2 3 (2 * s)) (S.2 2 (2 * s + 1)) (S.2 3 (2 * s + 1)))) ∧ h' = h) := ⟨_, rfl⟩
  rw [← hQ]
  have he := fun {x y : Int} (hx : -2147483648 ≤ x ∧ x ≤ 2147483647) (hy : -2147483648 ≤ y ∧ y ≤ 2147483647) => mp_X2_isEnd (l := l) hm hs hx hy
  obtain ⟨cx, ecx⟩ : ∃ z, z = S.2 2 (2 * s) := ⟨_, rfl⟩
  obtain ⟨cy, ecy⟩ : ∃ z, z = S.2 3 (2 * s) := ⟨_, rfl⟩
  obtain ⟨dx, edx⟩ : ∃ z, z = S.2 2 (2 * s + 1) := ⟨_, rfl⟩
  obtain ⟨dy, edy⟩ : ∃ z, z = S.2 3 (2 * s + 1) := ⟨_, rfl⟩
  simp only [← ecx, ← ecy, ← edx, ← edy] at hQ q1 q2 he
  have fin : ∀ b : Int, b = bI (mMeets ax ay bx yb cx cy dx dy) → Q (.returned (some (vI b))) h := by
    intro b hb
    subst hb; subst hQ
    exact ⟨_, rfl, _, rfl, rfl, rfl⟩
  have s1 := sign_mul_b (zc ax ay bx yb cx cy) (zc ax ay bx yb dx dy)
  have s2 := sign_mul_b (zc cx cy dx dy ax ay) (zc cx cy dx dy bx yb)
  have k214 : ¬ (mEnd cx cy dx dy ax ay ∧ mEnd cx cy dx dy bx yb) → ¬ (zon ax ay bx yb cx cy ∧ ¬ (cx = ax ∧ cy = ay) ∧ ¬ (cx = bx ∧ cy = yb)) → ¬ (zon ax ay bx yb dx dy ∧ ¬ (dx = ax ∧ dy = ay) ∧ ¬ (dx = bx ∧ dy = yb)) → ¬ ((zon cx cy dx dy ax ay ∧ ¬ mEnd cx cy dx dy ax ay) ∨ (zon cx cy dx dy bx yb ∧ ¬ mEnd cx cy dx dy bx yb)) →
      G E l gX2_meets d 0 0 Q 214 [some (.ref (gBase E + 12)), some (vI s), some (vI ax), some (vI ay), some (vI bx), some (vI yb), some (vI cx), some (vI cy), some (vI dx), some (vI dy)] [] h 0 0 := by
    intro n1 n2 n3 n4
    refine G_iload_2 (pc := 214) dX2_meets_214 ?_
    refine G_iload_3 (pc := 215) dX2_meets_215 ?_
    refine G_iload_4 (pc := 216) dX2_meets_216 ?_
    refine G_iload_5 (pc := 218) dX2_meets_218 ?_
    refine G_iload_6 (pc := 220) dX2_meets_220 ?_
    refine G_iload_7 (pc := 222) dX2_meets_222 ?_
    refine G_pS6 (pc := 224) dX2_meets_224 rfl rfl (pu_X2_side (by omega) (by omega) (by omega) (by omega) (by omega) (by omega)) (by omega) (by omega) (by omega) (Nat.le_of_ble_eq_true rfl) ?_
    refine G_iload_2 (pc := 227) dX2_meets_227 ?_
    refine G_iload_3 (pc := 228) dX2_meets_228 ?_
    refine G_iload_4 (pc := 229) dX2_meets_229 ?_
    refine G_iload_5 (pc := 231) dX2_meets_231 ?_
    refine G_iload_8 (pc := 233) dX2_meets_233 ?_
    refine G_iload_9 (pc := 235) dX2_meets_235 ?_
    refine G_pS6 (pc := 237) dX2_meets_237 rfl rfl (pu_X2_side (by omega) (by omega) (by omega) (by omega) (by omega) (by omega)) (by omega) (by omega) (by omega) (Nat.le_of_ble_eq_true rfl) ?_
    refine G_imul (pc := 240) dX2_meets_240 ?_
    refine G_if_ge (pc := 241) 280 dX2_meets_241 (by decide) (by omega) (fun c241 => ?_) (fun c241 => ?_)
    · skip
      refine G_iconst (pc := 280) dX2_meets_280 ?_
      refine G_ireturn (pc := 281) dX2_meets_281 rfl rfl (by omega) (by omega) ?_
      refine fin _ ?_
      unfold mMeets
      first | exact (bI_pos (by grind)).symm | exact (bI_neg (by grind)).symm
    · skip
      refine G_iload_6 (pc := 244) dX2_meets_244 ?_
      refine G_iload_7 (pc := 246) dX2_meets_246 ?_
      refine G_iload_8 (pc := 248) dX2_meets_248 ?_
      refine G_iload_9 (pc := 250) dX2_meets_250 ?_
      refine G_iload_2 (pc := 252) dX2_meets_252 ?_
      refine G_iload_3 (pc := 253) dX2_meets_253 ?_
      refine G_pS6 (pc := 254) dX2_meets_254 rfl rfl (pu_X2_side (by omega) (by omega) (by omega) (by omega) (by omega) (by omega)) (by omega) (by omega) (by omega) (Nat.le_of_ble_eq_true rfl) ?_
      refine G_iload_6 (pc := 257) dX2_meets_257 ?_
      refine G_iload_7 (pc := 259) dX2_meets_259 ?_
      refine G_iload_8 (pc := 261) dX2_meets_261 ?_
      refine G_iload_9 (pc := 263) dX2_meets_263 ?_
      refine G_iload_4 (pc := 265) dX2_meets_265 ?_
      refine G_iload_5 (pc := 267) dX2_meets_267 ?_
      refine G_pS6 (pc := 269) dX2_meets_269 rfl rfl (pu_X2_side (by omega) (by omega) (by omega) (by omega) (by omega) (by omega)) (by omega) (by omega) (by omega) (Nat.le_of_ble_eq_true rfl) ?_
      refine G_imul (pc := 272) dX2_meets_272 ?_
      refine G_if_ge (pc := 273) 280 dX2_meets_273 (by decide) (by omega) (fun c273 => ?_) (fun c273 => ?_)
      · skip
        refine G_iconst (pc := 280) dX2_meets_280 ?_
        refine G_ireturn (pc := 281) dX2_meets_281 rfl rfl (by omega) (by omega) ?_
        refine fin _ ?_
        unfold mMeets
        first | exact (bI_pos (by grind)).symm | exact (bI_neg (by grind)).symm
      · skip
        refine G_iconst (pc := 276) dX2_meets_276 ?_
        refine G_goto (pc := 277) 281 dX2_meets_277 (by decide) ?_
        refine G_ireturn (pc := 281) dX2_meets_281 rfl rfl (by omega) (by omega) ?_
        refine fin _ ?_
        unfold mMeets
        first | exact (bI_pos (by grind)).symm | exact (bI_neg (by grind)).symm
  have k156 : ¬ (mEnd cx cy dx dy ax ay ∧ mEnd cx cy dx dy bx yb) → ¬ (zon ax ay bx yb cx cy ∧ ¬ (cx = ax ∧ cy = ay) ∧ ¬ (cx = bx ∧ cy = yb)) → ¬ (zon ax ay bx yb dx dy ∧ ¬ (dx = ax ∧ dy = ay) ∧ ¬ (dx = bx ∧ dy = yb)) →
      G E l gX2_meets d 0 0 Q 156 [some (.ref (gBase E + 12)), some (vI s), some (vI ax), some (vI ay), some (vI bx), some (vI yb), some (vI cx), some (vI cy), some (vI dx), some (vI dy)] [] h 0 0 := by
    intro n1 n2 n3
    refine G_iload_6 (pc := 156) dX2_meets_156 ?_
    refine G_iload_7 (pc := 158) dX2_meets_158 ?_
    refine G_iload_8 (pc := 160) dX2_meets_160 ?_
    refine G_iload_9 (pc := 162) dX2_meets_162 ?_
    refine G_iload_2 (pc := 164) dX2_meets_164 ?_
    refine G_iload_3 (pc := 165) dX2_meets_165 ?_
    refine G_pS6 (pc := 166) dX2_meets_166 rfl rfl (pu_X2_isOn (by omega) (by omega) (by omega) (by omega) (by omega) (by omega)) (by omega) (by omega) (by omega) (Nat.le_of_ble_eq_true rfl) ?_
    refine G_ifb_eq (pc := 169) 182 dX2_meets_169 (by decide) (fun c169 => ?_) (fun c169 => ?_)
    · skip
      refine G_iload_6 (pc := 182) dX2_meets_182 ?_
      refine G_iload_7 (pc := 184) dX2_meets_184 ?_
      refine G_iload_8 (pc := 186) dX2_meets_186 ?_
      refine G_iload_9 (pc := 188) dX2_meets_188 ?_
      refine G_iload_4 (pc := 190) dX2_meets_190 ?_
      refine G_iload_5 (pc := 192) dX2_meets_192 ?_
      refine G_pS6 (pc := 194) dX2_meets_194 rfl rfl (pu_X2_isOn (by omega) (by omega) (by omega) (by omega) (by omega) (by omega)) (by omega) (by omega) (by omega) (Nat.le_of_ble_eq_true rfl) ?_
      refine G_ifb_eq (pc := 197) 214 dX2_meets_197 (by decide) (fun c197 => ?_) (fun c197 => ?_)
      · skip
        exact k214 n1 n2 n3 (by grind)
      · skip
        refine G_aload_0 (pc := 200) dX2_meets_200 ?_
        refine G_iload_1 (pc := 201) dX2_meets_201 ?_
        refine G_iload_4 (pc := 202) dX2_meets_202 ?_
        refine G_iload_5 (pc := 204) dX2_meets_204 ?_
        refine G_pV3 (pc := 206) dX2_meets_206 rfl hm.1 (by decide) rfl (he (by omega) (by omega)) (by omega) (by omega) (by omega) (Nat.le_of_ble_eq_true rfl) ?_
        refine G_ifb_ne (pc := 209) 214 dX2_meets_209 (by decide) (fun c209 => ?_) (fun c209 => ?_)
        · skip
          exact k214 n1 n2 n3 (by grind)
        · skip
          refine G_iconst (pc := 212) dX2_meets_212 ?_
          refine G_ireturn (pc := 213) dX2_meets_213 rfl rfl (by omega) (by omega) ?_
          refine fin _ ?_
          unfold mMeets
          exact (bI_pos (by grind)).symm
    · skip
      refine G_aload_0 (pc := 172) dX2_meets_172 ?_
      refine G_iload_1 (pc := 173) dX2_meets_173 ?_
      refine G_iload_2 (pc := 174) dX2_meets_174 ?_
      refine G_iload_3 (pc := 175) dX2_meets_175 ?_
      refine G_pV3 (pc := 176) dX2_meets_176 rfl hm.1 (by decide) rfl (he (by omega) (by omega)) (by omega) (by omega) (by omega) (Nat.le_of_ble_eq_true rfl) ?_
      refine G_ifb_eq (pc := 179) 212 dX2_meets_179 (by decide) (fun c179 => ?_) (fun c179 => ?_)
      · skip
        refine G_iconst (pc := 212) dX2_meets_212 ?_
        refine G_ireturn (pc := 213) dX2_meets_213 rfl rfl (by omega) (by omega) ?_
        refine fin _ ?_
        unfold mMeets
        exact (bI_pos (by grind)).symm
      · skip
        refine G_iload_6 (pc := 182) dX2_meets_182 ?_
        refine G_iload_7 (pc := 184) dX2_meets_184 ?_
        refine G_iload_8 (pc := 186) dX2_meets_186 ?_
        refine G_iload_9 (pc := 188) dX2_meets_188 ?_
        refine G_iload_4 (pc := 190) dX2_meets_190 ?_
        refine G_iload_5 (pc := 192) dX2_meets_192 ?_
        refine G_pS6 (pc := 194) dX2_meets_194 rfl rfl (pu_X2_isOn (by omega) (by omega) (by omega) (by omega) (by omega) (by omega)) (by omega) (by omega) (by omega) (Nat.le_of_ble_eq_true rfl) ?_
        refine G_ifb_eq (pc := 197) 214 dX2_meets_197 (by decide) (fun c197 => ?_) (fun c197 => ?_)
        · skip
          exact k214 n1 n2 n3 (by grind)
        · skip
          refine G_aload_0 (pc := 200) dX2_meets_200 ?_
          refine G_iload_1 (pc := 201) dX2_meets_201 ?_
          refine G_iload_4 (pc := 202) dX2_meets_202 ?_
          refine G_iload_5 (pc := 204) dX2_meets_204 ?_
          refine G_pV3 (pc := 206) dX2_meets_206 rfl hm.1 (by decide) rfl (he (by omega) (by omega)) (by omega) (by omega) (by omega) (Nat.le_of_ble_eq_true rfl) ?_
          refine G_ifb_ne (pc := 209) 214 dX2_meets_209 (by decide) (fun c209 => ?_) (fun c209 => ?_)
          · skip
            exact k214 n1 n2 n3 (by grind)
          · skip
            refine G_iconst (pc := 212) dX2_meets_212 ?_
            refine G_ireturn (pc := 213) dX2_meets_213 rfl rfl (by omega) (by omega) ?_
            refine fin _ ?_
            unfold mMeets
            exact (bI_pos (by grind)).symm
  have k112 : ¬ (mEnd cx cy dx dy ax ay ∧ mEnd cx cy dx dy bx yb) → ¬ (zon ax ay bx yb cx cy ∧ ¬ (cx = ax ∧ cy = ay) ∧ ¬ (cx = bx ∧ cy = yb)) →
      G E l gX2_meets d 0 0 Q 112 [some (.ref (gBase E + 12)), some (vI s), some (vI ax), some (vI ay), some (vI bx), some (vI yb), some (vI cx), some (vI cy), some (vI dx), some (vI dy)] [] h 0 0 := by
    intro n1 n2
    refine G_iload_2 (pc := 112) dX2_meets_112 ?_
    refine G_iload_3 (pc := 113) dX2_meets_113 ?_
    refine G_iload_4 (pc := 114) dX2_meets_114 ?_
    refine G_iload_5 (pc := 116) dX2_meets_116 ?_
    refine G_iload_8 (pc := 118) dX2_meets_118 ?_
    refine G_iload_9 (pc := 120) dX2_meets_120 ?_
    refine G_pS6 (pc := 122) dX2_meets_122 rfl rfl (pu_X2_isOn (by omega) (by omega) (by omega) (by omega) (by omega) (by omega)) (by omega) (by omega) (by omega) (Nat.le_of_ble_eq_true rfl) ?_
    refine G_ifb_eq (pc := 125) 156 dX2_meets_125 (by decide) (fun c125 => ?_) (fun c125 => ?_)
    · skip
      exact k156 n1 n2 (by grind)
    · skip
      refine G_iload_8 (pc := 128) dX2_meets_128 ?_
      refine G_iload_2 (pc := 130) dX2_meets_130 ?_
      refine G_icmp_ne (pc := 131) 140 dX2_meets_131 (by decide) (by omega) (by omega) (fun c131 => ?_) (fun c131 => ?_)
      · skip
        refine G_iload_8 (pc := 140) dX2_meets_140 ?_
        refine G_iload_4 (pc := 142) dX2_meets_142 ?_
        refine G_icmp_ne (pc := 144) 154 dX2_meets_144 (by decide) (by omega) (by omega) (fun c144 => ?_) (fun c144 => ?_)
        · skip
          refine G_iconst (pc := 154) dX2_meets_154 ?_
          refine G_ireturn (pc := 155) dX2_meets_155 rfl rfl (by omega) (by omega) ?_
          refine fin _ ?_
          unfold mMeets
          exact (bI_pos (by grind)).symm
        · skip
          refine G_iload_9 (pc := 147) dX2_meets_147 ?_
          refine G_iload_5 (pc := 149) dX2_meets_149 ?_
          refine G_icmp_eq (pc := 151) 156 dX2_meets_151 (by decide) (by omega) (by omega) (fun c151 => ?_) (fun c151 => ?_)
          · skip
            exact k156 n1 n2 (by grind)
          · skip
            refine G_iconst (pc := 154) dX2_meets_154 ?_
            refine G_ireturn (pc := 155) dX2_meets_155 rfl rfl (by omega) (by omega) ?_
            refine fin _ ?_
            unfold mMeets
            exact (bI_pos (by grind)).symm
      · skip
        refine G_iload_9 (pc := 134) dX2_meets_134 ?_
        refine G_iload_3 (pc := 136) dX2_meets_136 ?_
        refine G_icmp_eq (pc := 137) 156 dX2_meets_137 (by decide) (by omega) (by omega) (fun c137 => ?_) (fun c137 => ?_)
        · skip
          exact k156 n1 n2 (by grind)
        · skip
          refine G_iload_8 (pc := 140) dX2_meets_140 ?_
          refine G_iload_4 (pc := 142) dX2_meets_142 ?_
          refine G_icmp_ne (pc := 144) 154 dX2_meets_144 (by decide) (by omega) (by omega) (fun c144 => ?_) (fun c144 => ?_)
          · skip
            refine G_iconst (pc := 154) dX2_meets_154 ?_
            refine G_ireturn (pc := 155) dX2_meets_155 rfl rfl (by omega) (by omega) ?_
            refine fin _ ?_
            unfold mMeets
            exact (bI_pos (by grind)).symm
          · skip
            refine G_iload_9 (pc := 147) dX2_meets_147 ?_
            refine G_iload_5 (pc := 149) dX2_meets_149 ?_
            refine G_icmp_eq (pc := 151) 156 dX2_meets_151 (by decide) (by omega) (by omega) (fun c151 => ?_) (fun c151 => ?_)
            · skip
              exact k156 n1 n2 (by grind)
            · skip
              refine G_iconst (pc := 154) dX2_meets_154 ?_
              refine G_ireturn (pc := 155) dX2_meets_155 rfl rfl (by omega) (by omega) ?_
              refine fin _ ?_
              unfold mMeets
              exact (bI_pos (by grind)).symm
  have k68 : ¬ (mEnd cx cy dx dy ax ay ∧ mEnd cx cy dx dy bx yb) → G E l gX2_meets d 0 0 Q 68 [some (.ref (gBase E + 12)), some (vI s), some (vI ax), some (vI ay), some (vI bx), some (vI yb), some (vI cx), some (vI cy), some (vI dx), some (vI dy)] [] h 0 0 := by
    intro n1
    refine G_iload_2 (pc := 68) dX2_meets_68 ?_
    refine G_iload_3 (pc := 69) dX2_meets_69 ?_
    refine G_iload_4 (pc := 70) dX2_meets_70 ?_
    refine G_iload_5 (pc := 72) dX2_meets_72 ?_
    refine G_iload_6 (pc := 74) dX2_meets_74 ?_
    refine G_iload_7 (pc := 76) dX2_meets_76 ?_
    refine G_pS6 (pc := 78) dX2_meets_78 rfl rfl (pu_X2_isOn (by omega) (by omega) (by omega) (by omega) (by omega) (by omega)) (by omega) (by omega) (by omega) (Nat.le_of_ble_eq_true rfl) ?_
    refine G_ifb_eq (pc := 81) 112 dX2_meets_81 (by decide) (fun c81 => ?_) (fun c81 => ?_)
    · skip
      exact k112 n1 (by grind)
    · skip
      refine G_iload_6 (pc := 84) dX2_meets_84 ?_
      refine G_iload_2 (pc := 86) dX2_meets_86 ?_
      refine G_icmp_ne (pc := 87) 96 dX2_meets_87 (by decide) (by omega) (by omega) (fun c87 => ?_) (fun c87 => ?_)
      · skip
        refine G_iload_6 (pc := 96) dX2_meets_96 ?_
        refine G_iload_4 (pc := 98) dX2_meets_98 ?_
        refine G_icmp_ne (pc := 100) 110 dX2_meets_100 (by decide) (by omega) (by omega) (fun c100 => ?_) (fun c100 => ?_)
        · skip
          refine G_iconst (pc := 110) dX2_meets_110 ?_
          refine G_ireturn (pc := 111) dX2_meets_111 rfl rfl (by omega) (by omega) ?_
          refine fin _ ?_
          unfold mMeets
          exact (bI_pos (by grind)).symm
        · skip
          refine G_iload_7 (pc := 103) dX2_meets_103 ?_
          refine G_iload_5 (pc := 105) dX2_meets_105 ?_
          refine G_icmp_eq (pc := 107) 112 dX2_meets_107 (by decide) (by omega) (by omega) (fun c107 => ?_) (fun c107 => ?_)
          · skip
            exact k112 n1 (by grind)
          · skip
            refine G_iconst (pc := 110) dX2_meets_110 ?_
            refine G_ireturn (pc := 111) dX2_meets_111 rfl rfl (by omega) (by omega) ?_
            refine fin _ ?_
            unfold mMeets
            exact (bI_pos (by grind)).symm
      · skip
        refine G_iload_7 (pc := 90) dX2_meets_90 ?_
        refine G_iload_3 (pc := 92) dX2_meets_92 ?_
        refine G_icmp_eq (pc := 93) 112 dX2_meets_93 (by decide) (by omega) (by omega) (fun c93 => ?_) (fun c93 => ?_)
        · skip
          exact k112 n1 (by grind)
        · skip
          refine G_iload_6 (pc := 96) dX2_meets_96 ?_
          refine G_iload_4 (pc := 98) dX2_meets_98 ?_
          refine G_icmp_ne (pc := 100) 110 dX2_meets_100 (by decide) (by omega) (by omega) (fun c100 => ?_) (fun c100 => ?_)
          · skip
            refine G_iconst (pc := 110) dX2_meets_110 ?_
            refine G_ireturn (pc := 111) dX2_meets_111 rfl rfl (by omega) (by omega) ?_
            refine fin _ ?_
            unfold mMeets
            exact (bI_pos (by grind)).symm
          · skip
            refine G_iload_7 (pc := 103) dX2_meets_103 ?_
            refine G_iload_5 (pc := 105) dX2_meets_105 ?_
            refine G_icmp_eq (pc := 107) 112 dX2_meets_107 (by decide) (by omega) (by omega) (fun c107 => ?_) (fun c107 => ?_)
            · skip
              exact k112 n1 (by grind)
            · skip
              refine G_iconst (pc := 110) dX2_meets_110 ?_
              refine G_ireturn (pc := 111) dX2_meets_111 rfl rfl (by omega) (by omega) ?_
              refine fin _ ?_
              unfold mMeets
              exact (bI_pos (by grind)).symm
  refine G_aload_0 (pc := 0) dX2_meets_0 ?_
  refine G_mref (pc := 1) dX2_meets_1 rfl hm rfl ?_
  refine G_iconst (pc := 4) dX2_meets_4 ?_
  refine G_iload_1 (pc := 5) dX2_meets_5 ?_
  refine G_imul (pc := 6) dX2_meets_6 ?_
  refine G_mi (pc := 7) (n := 120) dX2_meets_7 hm rfl rfl rfl (by omega) (fun b7 => ?_)
  refine G_istore_6 (pc := 8) dX2_meets_8 (by decide) rfl ?_
  refine G_aload_0 (pc := 10) dX2_meets_10 ?_
  refine G_mref (pc := 11) dX2_meets_11 rfl hm rfl ?_
  refine G_iconst (pc := 14) dX2_meets_14 ?_
  refine G_iload_1 (pc := 15) dX2_meets_15 ?_
  refine G_imul (pc := 16) dX2_meets_16 ?_
  refine G_mi (pc := 17) (n := 120) dX2_meets_17 hm rfl rfl rfl (by omega) (fun b17 => ?_)
  refine G_istore_7 (pc := 18) dX2_meets_18 (by decide) rfl ?_
  refine G_aload_0 (pc := 20) dX2_meets_20 ?_
  refine G_mref (pc := 21) dX2_meets_21 rfl hm rfl ?_
  refine G_iconst (pc := 24) dX2_meets_24 ?_
  refine G_iload_1 (pc := 25) dX2_meets_25 ?_
  refine G_imul (pc := 26) dX2_meets_26 ?_
  refine G_iconst (pc := 27) dX2_meets_27 ?_
  refine G_iadd (pc := 28) dX2_meets_28 ?_
  refine G_mi (pc := 29) (n := 120) dX2_meets_29 hm rfl rfl rfl (by omega) (fun b29 => ?_)
  refine G_istore_8 (pc := 30) dX2_meets_30 (by decide) rfl ?_
  refine G_aload_0 (pc := 32) dX2_meets_32 ?_
  refine G_mref (pc := 33) dX2_meets_33 rfl hm rfl ?_
  refine G_iconst (pc := 36) dX2_meets_36 ?_
  refine G_iload_1 (pc := 37) dX2_meets_37 ?_
  refine G_imul (pc := 38) dX2_meets_38 ?_
  refine G_iconst (pc := 39) dX2_meets_39 ?_
  refine G_iadd (pc := 40) dX2_meets_40 ?_
  refine G_mi (pc := 41) (n := 120) dX2_meets_41 hm rfl rfl rfl (by omega) (fun b41 => ?_)
  refine G_istore_9 (pc := 42) dX2_meets_42 (by decide) rfl ?_
  simp only [e1, e2, ← ecx, ← ecy, ← edx, ← edy]
  refine G_aload_0 (pc := 44) dX2_meets_44 ?_
  refine G_iload_1 (pc := 45) dX2_meets_45 ?_
  refine G_iload_2 (pc := 46) dX2_meets_46 ?_
  refine G_iload_3 (pc := 47) dX2_meets_47 ?_
  refine G_pV3 (pc := 48) dX2_meets_48 rfl hm.1 (by decide) rfl (he (by omega) (by omega)) (by omega) (by omega) (by omega) (Nat.le_of_ble_eq_true rfl) ?_
  refine G_ifb_eq (pc := 51) 68 dX2_meets_51 (by decide) (fun c51 => ?_) (fun c51 => ?_)
  · skip
    exact k68 (by grind)
  · skip
    refine G_aload_0 (pc := 54) dX2_meets_54 ?_
    refine G_iload_1 (pc := 55) dX2_meets_55 ?_
    refine G_iload_4 (pc := 56) dX2_meets_56 ?_
    refine G_iload_5 (pc := 58) dX2_meets_58 ?_
    refine G_pV3 (pc := 60) dX2_meets_60 rfl hm.1 (by decide) rfl (he (by omega) (by omega)) (by omega) (by omega) (by omega) (Nat.le_of_ble_eq_true rfl) ?_
    refine G_ifb_eq (pc := 63) 68 dX2_meets_63 (by decide) (fun c63 => ?_) (fun c63 => ?_)
    · skip
      exact k68 (by grind)
    · skip
      refine G_iconst (pc := 66) dX2_meets_66 ?_
      refine G_ireturn (pc := 67) dX2_meets_67 rfl rfl (by omega) (by omega) ?_
      refine fin _ ?_
      unfold mMeets
      exact (bI_pos (by grind)).symm
end MOD1
