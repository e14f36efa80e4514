set_option maxRecDepth 100000
section CLS1
variable {E : gV} {l : Launch} {h : gH} {T : tT} {S : mS}
theorem pu_X1_isIn (v : Int) (hv : -2147483648 ≤ v ∧ v ≤ 2147483647) : gPu E l gX1_isIn 1 [vI v] h (vI (bI (-16000 ≤ v ∧ v ≤ 16000))) := by
  intro d hd
  refine gOk_of gmok_X1_isIn rfl (Nat.le_of_ble_eq_true rfl) (L := [some _]) rfl ?_
  refine G_iload_0 (pc := 0) dX1_isIn_0 ?_
  refine G_sipush (pc := 1) dX1_isIn_1 (by omega) ?_
  refine G_icmp_lt (pc := 4) 18 dX1_isIn_4 (by decide) (by omega) (by omega) (fun c4 => ?_) (fun c4 => ?_)
  · skip
    refine G_iconst (pc := 18) dX1_isIn_18 ?_
    refine G_ireturn (pc := 19) dX1_isIn_19 rfl rfl (by omega) (by omega) ?_
    exact ⟨_, rfl, _, rfl, by first | exact congrArg vI (bI_pos (by omega)).symm | exact congrArg vI (bI_neg (by omega)).symm, rfl⟩
  · skip
    refine G_iload_0 (pc := 7) dX1_isIn_7 ?_
    refine G_sipush (pc := 8) dX1_isIn_8 (by omega) ?_
    refine G_icmp_gt (pc := 11) 18 dX1_isIn_11 (by decide) (by omega) (by omega) (fun c11 => ?_) (fun c11 => ?_)
    · skip
      refine G_iconst (pc := 18) dX1_isIn_18 ?_
      refine G_ireturn (pc := 19) dX1_isIn_19 rfl rfl (by omega) (by omega) ?_
      exact ⟨_, rfl, _, rfl, by first | exact congrArg vI (bI_pos (by omega)).symm | exact congrArg vI (bI_neg (by omega)).symm, rfl⟩
    · skip
      refine G_iconst (pc := 14) dX1_isIn_14 ?_
      refine G_goto (pc := 15) 19 dX1_isIn_15 (by decide) ?_
      refine G_ireturn (pc := 19) dX1_isIn_19 rfl rfl (by omega) (by omega) ?_
      exact ⟨_, rfl, _, rfl, by first | exact congrArg vI (bI_pos (by omega)).symm | exact congrArg vI (bI_neg (by omega)).symm, rfl⟩
theorem pu_X1_cross (a b c e : Int) : gPu E l gX1_cross 1 [vJ a, vJ b, vJ c, vJ e] h (vJ (a * e - b * c)) := by
  intro d hd
  refine gOk_of gmok_X1_cross rfl (Nat.le_of_ble_eq_true rfl) (L := [some _, none, some _, none, some _, none, some _, none]) rfl ?_
  refine G_lload_0 (pc := 0) dX1_cross_0 ?_
  refine G_lload_6 (pc := 1) dX1_cross_1 ?_
  refine G_lmul (pc := 3) dX1_cross_3 ?_
  refine G_lload_2 (pc := 4) dX1_cross_4 ?_
  refine G_lload_4 (pc := 5) dX1_cross_5 ?_
  refine G_lmul (pc := 7) dX1_cross_7 ?_
  refine G_lsub (pc := 8) dX1_cross_8 ?_
  refine G_lreturn (pc := 9) dX1_cross_9 rfl (by omega) (by omega) ?_
  exact ⟨_, rfl, _, rfl, rfl, rfl⟩
/-- the segment's ends are within bounds -/
def kIn (S : mS) (s : Nat) : Prop := ((-16000 ≤ S.2 2 s ∧ S.2 2 s ≤ 16000) ∧ (-16000 ≤ S.2 3 s ∧ S.2 3 s ≤ 16000)) ∧ ((-16000 ≤ S.2 4 s ∧ S.2 4 s ≤ 16000) ∧ (-16000 ≤ S.2 5 s ∧ S.2 5 s ≤ 16000))
def kc (S : mS) (s : Nat) (x y : Int) : Int := zc (S.2 2 s) (S.2 3 s) (S.2 4 s) (S.2 5 s) x y
def kon (S : mS) (s : Nat) (x y : Int) : Prop := zon (S.2 2 s) (S.2 3 s) (S.2 4 s) (S.2 5 s) x y
def kend (S : mS) (s : Nat) (x y : Int) : Prop := (S.2 2 s = x ∧ S.2 3 s = y) ∨ (S.2 4 s = x ∧ S.2 5 s = y)
theorem kc_b {s : Nat} {x y : Int} (b : kIn S s) (hx : -16000 ≤ x ∧ x ≤ 16000) (hy : -16000 ≤ y ∧ y ≤ 16000) : -2048000000 ≤ kc S s x y ∧ kc S s x y ≤ 2048000000 := by
  obtain ⟨⟨b1, b2⟩, b3, b4⟩ := b
  exact zc_b b1 b2 b3 b4 hx hy
theorem pu_X1_side (ht : zT E h T) (hz : zK E T S) {s : Nat} (hs : s < 60) (b : kIn S s) {x y : Int} (hx : -16000 ≤ x ∧ x ≤ 16000) (hy : -16000 ≤ y ∧ y ≤ 16000) : gPu E l gX1_side 2 [.ref (gBase E), vI s, vI x, vI y] h (vI (kc S s x y).sign) := by
  intro d hd
  have hb := kc_b b hx hy
  have b0 := b
  obtain ⟨⟨b1, b2⟩, b3, b4⟩ := b
  have es : (s : Int).toNat = s := by omega
  have ekc : (S.2 4 s - S.2 2 s) * (y - S.2 3 s) - (S.2 5 s - S.2 3 s) * (x - S.2 2 s) = kc S s x y := rfl
  refine gOk_of gmok_X1_side rfl (Nat.le_of_ble_eq_true rfl) (L := [some _, some _, some _, some _]) rfl ?_
  refine G_aload_0 (pc := 0) dX1_side_0 ?_
  refine G_kref (pc := 1) dX1_side_1 rfl ht hz rfl ?_
  refine G_iload_1 (pc := 4) dX1_side_4 ?_
  refine G_ki (pc := 5) dX1_side_5 ht hz rfl rfl (by omega) (fun b5 => ?_)
  refine G_aload_0 (pc := 6) dX1_side_6 ?_
  refine G_kref (pc := 7) dX1_side_7 rfl ht hz rfl ?_
  refine G_iload_1 (pc := 10) dX1_side_10 ?_
  refine G_ki (pc := 11) dX1_side_11 ht hz rfl rfl (by omega) (fun b11 => ?_)
  refine G_isub (pc := 12) dX1_side_12 ?_
  simp only [es]
  refine G_i2l (pc := 13) dX1_side_13 (by omega) ?_
  refine G_aload_0 (pc := 14) dX1_side_14 ?_
  refine G_kref (pc := 15) dX1_side_15 rfl ht hz rfl ?_
  refine G_iload_1 (pc := 18) dX1_side_18 ?_
  refine G_ki (pc := 19) dX1_side_19 ht hz rfl rfl (by omega) (fun b19 => ?_)
  refine G_aload_0 (pc := 20) dX1_side_20 ?_
  refine G_kref (pc := 21) dX1_side_21 rfl ht hz rfl ?_
  refine G_iload_1 (pc := 24) dX1_side_24 ?_
  refine G_ki (pc := 25) dX1_side_25 ht hz rfl rfl (by omega) (fun b25 => ?_)
  refine G_isub (pc := 26) dX1_side_26 ?_
  simp only [es]
  refine G_i2l (pc := 27) dX1_side_27 (by omega) ?_
  refine G_iload_2 (pc := 28) dX1_side_28 ?_
  refine G_aload_0 (pc := 29) dX1_side_29 ?_
  refine G_kref (pc := 30) dX1_side_30 rfl ht hz rfl ?_
  refine G_iload_1 (pc := 33) dX1_side_33 ?_
  refine G_ki (pc := 34) dX1_side_34 ht hz rfl rfl (by omega) (fun b34 => ?_)
  refine G_isub (pc := 35) dX1_side_35 ?_
  simp only [es]
  refine G_i2l (pc := 36) dX1_side_36 (by omega) ?_
  refine G_iload_3 (pc := 37) dX1_side_37 ?_
  refine G_aload_0 (pc := 38) dX1_side_38 ?_
  refine G_kref (pc := 39) dX1_side_39 rfl ht hz rfl ?_
  refine G_iload_1 (pc := 42) dX1_side_42 ?_
  refine G_ki (pc := 43) dX1_side_43 ht hz rfl rfl (by omega) (fun b43 => ?_)
  refine G_isub (pc := 44) dX1_side_44 ?_
  simp only [es]
  refine G_i2l (pc := 45) dX1_side_45 (by omega) ?_
  refine G_pS4 (pc := 46) dX1_side_46 rfl rfl (pu_X1_cross _ _ _ _) (by omega) (by omega) (by omega) (Nat.le_of_ble_eq_true rfl) ?_
  rw [ekc]
  refine G_pS1 (pc := 49) dX1_side_49 rfl rfl (pu_signum (by omega)) (by omega) (by omega) (by omega) (Nat.le_of_ble_eq_true rfl) ?_
  refine G_ireturn (pc := 52) dX1_side_52 rfl rfl (by omega) (by omega) ?_
  exact ⟨_, rfl, _, rfl, rfl, rfl⟩
theorem pu_X1_isEnd (ht : zT E h T) (hz : zK E T S) {s : Nat} (hs : s < 60) {x y : Int} (hx : -2147483648 ≤ x ∧ x ≤ 2147483647) (hy : -2147483648 ≤ y ∧ y ≤ 2147483647) : gPu E l gX1_isEnd 1 [.ref (gBase E), vI s, vI x, vI y] h (vI (bI (kend S s x y))) := by
  intro d hd
  have es : (s : Int).toNat = s := by omega
  have fin : ∀ z : Int, z = bI (kend S s x y) → gRet (gRv (fun w h' => w = vI (bI (kend S s x y)) ∧ h' = h)) (.returned (some (vI z))) h := by
    intro z q
    subst q
    exact ⟨_, rfl, _, rfl, rfl, rfl⟩
  refine gOk_of gmok_X1_isEnd rfl (Nat.le_of_ble_eq_true rfl) (L := [some _, some _, some _, some _]) rfl ?_
  refine G_aload_0 (pc := 0) dX1_isEnd_0 ?_
  refine G_kref (pc := 1) dX1_isEnd_1 rfl ht hz rfl ?_
  refine G_iload_1 (pc := 4) dX1_isEnd_4 ?_
  refine G_ki (pc := 5) dX1_isEnd_5 ht hz rfl rfl (by omega) (fun b5 => ?_)
  rw [es] at b5 ⊢
  refine G_iload_2 (pc := 6) dX1_isEnd_6 ?_
  refine G_icmp_ne (pc := 7) 20 dX1_isEnd_7 (by decide) (by omega) (by omega) (fun c7 => ?_) (fun c7 => ?_)
  · skip
    refine G_aload_0 (pc := 20) dX1_isEnd_20 ?_
    refine G_kref (pc := 21) dX1_isEnd_21 rfl ht hz rfl ?_
    refine G_iload_1 (pc := 24) dX1_isEnd_24 ?_
    refine G_ki (pc := 25) dX1_isEnd_25 ht hz rfl rfl (by omega) (fun b25 => ?_)
    rw [es] at b25 ⊢
    refine G_iload_2 (pc := 26) dX1_isEnd_26 ?_
    refine G_icmp_ne (pc := 27) 44 dX1_isEnd_27 (by decide) (by omega) (by omega) (fun c27 => ?_) (fun c27 => ?_)
    · skip
      refine G_iconst (pc := 44) dX1_isEnd_44 ?_
      refine G_ireturn (pc := 45) dX1_isEnd_45 rfl rfl (by omega) (by omega) ?_
      refine fin _ ?_
      unfold kend
      first | exact (bI_pos (by omega)).symm | exact (bI_neg (by omega)).symm
    · skip
      refine G_aload_0 (pc := 30) dX1_isEnd_30 ?_
      refine G_kref (pc := 31) dX1_isEnd_31 rfl ht hz rfl ?_
      refine G_iload_1 (pc := 34) dX1_isEnd_34 ?_
      refine G_ki (pc := 35) dX1_isEnd_35 ht hz rfl rfl (by omega) (fun b35 => ?_)
      rw [es] at b35 ⊢
      refine G_iload_3 (pc := 36) dX1_isEnd_36 ?_
      refine G_icmp_ne (pc := 37) 44 dX1_isEnd_37 (by decide) (by omega) (by omega) (fun c37 => ?_) (fun c37 => ?_)
      · skip
        refine G_iconst (pc := 44) dX1_isEnd_44 ?_
        refine G_ireturn (pc := 45) dX1_isEnd_45 rfl rfl (by omega) (by omega) ?_
        refine fin _ ?_
        unfold kend
        first | exact (bI_pos (by omega)).symm | exact (bI_neg (by omega)).symm
      · skip
        refine G_iconst (pc := 40) dX1_isEnd_40 ?_
        refine G_goto (pc := 41) 45 dX1_isEnd_41 (by decide) ?_
        refine G_ireturn (pc := 45) dX1_isEnd_45 rfl rfl (by omega) (by omega) ?_
        refine fin _ ?_
        unfold kend
        first | exact (bI_pos (by omega)).symm | exact (bI_neg (by omega)).symm
  · skip
    refine G_aload_0 (pc := 10) dX1_isEnd_10 ?_
    refine G_kref (pc := 11) dX1_isEnd_11 rfl ht hz rfl ?_
    refine G_iload_1 (pc := 14) dX1_isEnd_14 ?_
    refine G_ki (pc := 15) dX1_isEnd_15 ht hz rfl rfl (by omega) (fun b15 => ?_)
    rw [es] at b15 ⊢
    refine G_iload_3 (pc := 16) dX1_isEnd_16 ?_
    refine G_icmp_eq (pc := 17) 40 dX1_isEnd_17 (by decide) (by omega) (by omega) (fun c17 => ?_) (fun c17 => ?_)
    · skip
      refine G_iconst (pc := 40) dX1_isEnd_40 ?_
      refine G_goto (pc := 41) 45 dX1_isEnd_41 (by decide) ?_
      refine G_ireturn (pc := 45) dX1_isEnd_45 rfl rfl (by omega) (by omega) ?_
      refine fin _ ?_
      unfold kend
      first | exact (bI_pos (by omega)).symm | exact (bI_neg (by omega)).symm
    · skip
      refine G_aload_0 (pc := 20) dX1_isEnd_20 ?_
      refine G_kref (pc := 21) dX1_isEnd_21 rfl ht hz rfl ?_
      refine G_iload_1 (pc := 24) dX1_isEnd_24 ?_
      refine G_ki (pc := 25) dX1_isEnd_25 ht hz rfl rfl (by omega) (fun b25 => ?_)
      rw [es] at b25 ⊢
      refine G_iload_2 (pc := 26) dX1_isEnd_26 ?_
      refine G_icmp_ne (pc := 27) 44 dX1_isEnd_27 (by decide) (by omega) (by omega) (fun c27 => ?_) (fun c27 => ?_)
      · skip
        refine G_iconst (pc := 44) dX1_isEnd_44 ?_
        refine G_ireturn (pc := 45) dX1_isEnd_45 rfl rfl (by omega) (by omega) ?_
        refine fin _ ?_
        unfold kend
        first | exact (bI_pos (by omega)).symm | exact (bI_neg (by omega)).symm
      · skip
        refine G_aload_0 (pc := 30) dX1_isEnd_30 ?_
        refine G_kref (pc := 31) dX1_isEnd_31 rfl ht hz rfl ?_
        refine G_iload_1 (pc := 34) dX1_isEnd_34 ?_
        refine G_ki (pc := 35) dX1_isEnd_35 ht hz rfl rfl (by omega) (fun b35 => ?_)
        rw [es] at b35 ⊢
        refine G_iload_3 (pc := 36) dX1_isEnd_36 ?_
        refine G_icmp_ne (pc := 37) 44 dX1_isEnd_37 (by decide) (by omega) (by omega) (fun c37 => ?_) (fun c37 => ?_)
        · skip
          refine G_iconst (pc := 44) dX1_isEnd_44 ?_
          refine G_ireturn (pc := 45) dX1_isEnd_45 rfl rfl (by omega) (by omega) ?_
          refine fin _ ?_
          unfold kend
          first | exact (bI_pos (by omega)).symm | exact (bI_neg (by omega)).symm
        · skip
          refine G_iconst (pc := 40) dX1_isEnd_40 ?_
          refine G_goto (pc := 41) 45 dX1_isEnd_41 (by decide) ?_
          refine G_ireturn (pc := 45) dX1_isEnd_45 rfl rfl (by omega) (by omega) ?_
          refine fin _ ?_
          unfold kend
          first | exact (bI_pos (by omega)).symm | exact (bI_neg (by omega)).symm
theorem pu_X1_isOn (ht : zT E h T) (hz : zK E T S) {s : Nat} (hs : s < 60) (b : kIn S s) {x y : Int} (hx : -16000 ≤ x ∧ x ≤ 16000) (hy : -16000 ≤ y ∧ y ≤ 16000) : gPu E l gX1_isOn 3 [.ref (gBase E), vI s, vI x, vI y] h (vI (bI (kon S s x y))) := by
  intro d hd
  have hb := kc_b b hx hy
  have b0 := b
  obtain ⟨⟨b1, b2⟩, b3, b4⟩ := b
  have es : (s : Int).toNat = s := by omega
  have hsg : (kc S s x y).sign = 0 ↔ kc S s x y = 0 := Int.sign_eq_zero_iff_zero
  have hsb : -1 ≤ (kc S s x y).sign ∧ (kc S s x y).sign ≤ 1 := by rw [← sgI_sign]; unfold sgI; split <;> (try split) <;> omega
  have fin : ∀ z : Int, z = bI (kon S s x y) → gRet (gRv (fun w h' => w = vI (bI (kon S s x y)) ∧ h' = h)) (.returned (some (vI z))) h := by
    intro z q
    subst q
    exact ⟨_, rfl, _, rfl, rfl, rfl⟩
  have n1 : mnI (S.2 2 s) (S.2 4 s) = min (S.2 2 s) (S.2 4 s) := by unfold mnI; split <;> omega
  have n2 : mxI (S.2 2 s) (S.2 4 s) = max (S.2 2 s) (S.2 4 s) := by unfold mxI; split <;> omega
  have n3 : mnI (S.2 3 s) (S.2 5 s) = min (S.2 3 s) (S.2 5 s) := by unfold mnI; split <;> omega
  have n4 : mxI (S.2 3 s) (S.2 5 s) = max (S.2 3 s) (S.2 5 s) := by unfold mxI; split <;> omega
  obtain ⟨k, ek⟩ : ∃ k, k = kc S s x y := ⟨_, rfl⟩
  have eon : kon S s x y = (k = 0 ∧ (min (S.2 2 s) (S.2 4 s) ≤ x ∧ x ≤ max (S.2 2 s) (S.2 4 s)) ∧ (min (S.2 3 s) (S.2 5 s) ≤ y ∧ y ≤ max (S.2 3 s) (S.2 5 s))) := by rw [ek]; rfl
  rw [← ek] at hsg hsb hb
  refine gOk_of gmok_X1_isOn rfl (Nat.le_of_ble_eq_true rfl) (L := [some _, some _, some _, some _]) rfl ?_
  refine G_aload_0 (pc := 0) dX1_isOn_0 ?_
  refine G_iload_1 (pc := 1) dX1_isOn_1 ?_
  refine G_iload_2 (pc := 2) dX1_isOn_2 ?_
  refine G_iload_3 (pc := 3) dX1_isOn_3 ?_
  refine G_pV3 (pc := 4) dX1_isOn_4 rfl (zK_k ht hz) (by decide) rfl (pu_X1_side ht hz hs b0 hx hy) (by omega) (by omega) (by omega) (Nat.le_of_ble_eq_true rfl) ?_
  rw [← ek]
  refine G_if_ne (pc := 7) 90 dX1_isOn_7 (by decide) (by omega) (fun c7 => ?_) (fun c7 => ?_)
  · skip
    refine G_iconst (pc := 90) dX1_isOn_90 ?_
    refine G_ireturn (pc := 91) dX1_isOn_91 rfl rfl (by omega) (by omega) ?_
    refine fin _ ?_
    rw [eon]
    first | exact (bI_pos (by omega)).symm | exact (bI_neg (by omega)).symm
  · skip
    refine G_iload_2 (pc := 10) dX1_isOn_10 ?_
    refine G_aload_0 (pc := 11) dX1_isOn_11 ?_
    refine G_kref (pc := 12) dX1_isOn_12 rfl ht hz rfl ?_
    refine G_iload_1 (pc := 15) dX1_isOn_15 ?_
    refine G_ki (pc := 16) dX1_isOn_16 ht hz rfl rfl (by omega) (fun b16 => ?_)
    refine G_aload_0 (pc := 17) dX1_isOn_17 ?_
    refine G_kref (pc := 18) dX1_isOn_18 rfl ht hz rfl ?_
    refine G_iload_1 (pc := 21) dX1_isOn_21 ?_
    refine G_ki (pc := 22) dX1_isOn_22 ht hz rfl rfl (by omega) (fun b22 => ?_)
    simp only [es]
    refine G_pS2 (pc := 23) dX1_isOn_23 rfl rfl (pu_J9_min (by omega) (by omega)) (by omega) (by omega) (by omega) (Nat.le_of_ble_eq_true rfl) ?_
    simp only [n1, n3]
    refine G_icmp_lt (pc := 26) 90 dX1_isOn_26 (by decide) (by omega) (by omega) (fun c26 => ?_) (fun c26 => ?_)
    · skip
      refine G_iconst (pc := 90) dX1_isOn_90 ?_
      refine G_ireturn (pc := 91) dX1_isOn_91 rfl rfl (by omega) (by omega) ?_
      refine fin _ ?_
      rw [eon]
      first | exact (bI_pos (by omega)).symm | exact (bI_neg (by omega)).symm
    · skip
      refine G_iload_2 (pc := 29) dX1_isOn_29 ?_
      refine G_aload_0 (pc := 30) dX1_isOn_30 ?_
      refine G_kref (pc := 31) dX1_isOn_31 rfl ht hz rfl ?_
      refine G_iload_1 (pc := 34) dX1_isOn_34 ?_
      refine G_ki (pc := 35) dX1_isOn_35 ht hz rfl rfl (by omega) (fun b35 => ?_)
      refine G_aload_0 (pc := 36) dX1_isOn_36 ?_
      refine G_kref (pc := 37) dX1_isOn_37 rfl ht hz rfl ?_
      refine G_iload_1 (pc := 40) dX1_isOn_40 ?_
      refine G_ki (pc := 41) dX1_isOn_41 ht hz rfl rfl (by omega) (fun b41 => ?_)
      simp only [es]
      refine G_pS2 (pc := 42) dX1_isOn_42 rfl rfl (pu_J9_max (by omega) (by omega)) (by omega) (by omega) (by omega) (Nat.le_of_ble_eq_true rfl) ?_
      simp only [n2, n4]
      refine G_icmp_gt (pc := 45) 90 dX1_isOn_45 (by decide) (by omega) (by omega) (fun c45 => ?_) (fun c45 => ?_)
      · skip
        refine G_iconst (pc := 90) dX1_isOn_90 ?_
        refine G_ireturn (pc := 91) dX1_isOn_91 rfl rfl (by omega) (by omega) ?_
        refine fin _ ?_
        rw [eon]
        first | exact (bI_pos (by omega)).symm | exact (bI_neg (by omega)).symm
      · skip
        refine G_iload_3 (pc := 48) dX1_isOn_48 ?_
        refine G_aload_0 (pc := 49) dX1_isOn_49 ?_
        refine G_kref (pc := 50) dX1_isOn_50 rfl ht hz rfl ?_
        refine G_iload_1 (pc := 53) dX1_isOn_53 ?_
        refine G_ki (pc := 54) dX1_isOn_54 ht hz rfl rfl (by omega) (fun b54 => ?_)
        refine G_aload_0 (pc := 55) dX1_isOn_55 ?_
        refine G_kref (pc := 56) dX1_isOn_56 rfl ht hz rfl ?_
        refine G_iload_1 (pc := 59) dX1_isOn_59 ?_
        refine G_ki (pc := 60) dX1_isOn_60 ht hz rfl rfl (by omega) (fun b60 => ?_)
        simp only [es]
        refine G_pS2 (pc := 61) dX1_isOn_61 rfl rfl (pu_J9_min (by omega) (by omega)) (by omega) (by omega) (by omega) (Nat.le_of_ble_eq_true rfl) ?_
        simp only [n1, n3]
        refine G_icmp_lt (pc := 64) 90 dX1_isOn_64 (by decide) (by omega) (by omega) (fun c64 => ?_) (fun c64 => ?_)
        · skip
          refine G_iconst (pc := 90) dX1_isOn_90 ?_
          refine G_ireturn (pc := 91) dX1_isOn_91 rfl rfl (by omega) (by omega) ?_
          refine fin _ ?_
          rw [eon]
          first | exact (bI_pos (by omega)).symm | exact (bI_neg (by omega)).symm
        · skip
          refine G_iload_3 (pc := 67) dX1_isOn_67 ?_
          refine G_aload_0 (pc := 68) dX1_isOn_68 ?_
          refine G_kref (pc := 69) dX1_isOn_69 rfl ht hz rfl ?_
          refine G_iload_1 (pc := 72) dX1_isOn_72 ?_
          refine G_ki (pc := 73) dX1_isOn_73 ht hz rfl rfl (by omega) (fun b73 => ?_)
          refine G_aload_0 (pc := 74) dX1_isOn_74 ?_
          refine G_kref (pc := 75) dX1_isOn_75 rfl ht hz rfl ?_
          refine G_iload_1 (pc := 78) dX1_isOn_78 ?_
          refine G_ki (pc := 79) dX1_isOn_79 ht hz rfl rfl (by omega) (fun b79 => ?_)
          simp only [es]
          refine G_pS2 (pc := 80) dX1_isOn_80 rfl rfl (pu_J9_max (by omega) (by omega)) (by omega) (by omega) (by omega) (Nat.le_of_ble_eq_true rfl) ?_
          simp only [n2, n4]
          refine G_icmp_gt (pc := 83) 90 dX1_isOn_83 (by decide) (by omega) (by omega) (fun c83 => ?_) (fun c83 => ?_)
          · skip
            refine G_iconst (pc := 90) dX1_isOn_90 ?_
            refine G_ireturn (pc := 91) dX1_isOn_91 rfl rfl (by omega) (by omega) ?_
            refine fin _ ?_
            rw [eon]
            first | exact (bI_pos (by omega)).symm | exact (bI_neg (by omega)).symm
          · skip
            refine G_iconst (pc := 86) dX1_isOn_86 ?_
            refine G_goto (pc := 87) 91 dX1_isOn_87 (by decide) ?_
            refine G_ireturn (pc := 91) dX1_isOn_91 rfl rfl (by omega) (by omega) ?_
            refine fin _ ?_
            rw [eon]
            first | exact (bI_pos (by omega)).symm | exact (bI_neg (by omega)).symm
/-- two segments of the class have something in common but an end of both -/
def kMeet (S : mS) (s u : Nat) : Prop :=
  ((kon S s (S.2 2 u) (S.2 3 u) ∧ ¬ kend S s (S.2 2 u) (S.2 3 u)) ∨ (kon S s (S.2 4 u) (S.2 5 u) ∧ ¬ kend S s (S.2 4 u) (S.2 5 u))) ∨
  ((kon S u (S.2 2 s) (S.2 3 s) ∧ ¬ kend S u (S.2 2 s) (S.2 3 s)) ∨ (kon S u (S.2 4 s) (S.2 5 s) ∧ ¬ kend S u (S.2 4 s) (S.2 5 s))) ∨
  (kend S s (S.2 2 u) (S.2 3 u) ∧ kend S s (S.2 4 u) (S.2 5 u)) ∨
  ((kc S s (S.2 2 u) (S.2 3 u)).sign * (kc S s (S.2 4 u) (S.2 5 u)).sign < 0 ∧ (kc S u (S.2 2 s) (S.2 3 s)).sign * (kc S u (S.2 4 s) (S.2 5 s)).sign < 0)
theorem pu_X1_meet (ht : zT E h T) (hz : zK E T S) {s u : Nat} (hs : s < 60) (hu : u < 60) (b : kIn S s) (b' : kIn S u) : gPu E l gX1_meet 4 [.ref (gBase E), vI s, vI u] h (vI (bI (kMeet S s u))) := by
  intro d hd
  have es : (s : Int).toNat = s := by omega
  have eu : (u : Int).toNat = u := by omega
  have m1 := sign_mul_b (kc S s (S.2 2 u) (S.2 3 u)) (kc S s (S.2 4 u) (S.2 5 u))
  have m2 := sign_mul_b (kc S u (S.2 2 s) (S.2 3 s)) (kc S u (S.2 4 s) (S.2 5 s))
  have c1 := b
  have c2 := b'
  unfold kIn at c1 c2
  have fin : ∀ z : Int, z = bI (kMeet S s u) → gRet (gRv (fun w h' => w = vI (bI (kMeet S s u)) ∧ h' = h)) (.returned (some (vI z))) h := by
    intro z q
    subst q
    exact ⟨_, rfl, _, rfl, rfl, rfl⟩
  obtain ⟨A1, eA1⟩ : ∃ p, p = kon S s (S.2 2 u) (S.2 3 u) := ⟨_, rfl⟩
  obtain ⟨A2, eA2⟩ : ∃ p, p = kend S s (S.2 2 u) (S.2 3 u) := ⟨_, rfl⟩
  obtain ⟨A3, eA3⟩ : ∃ p, p = kon S s (S.2 4 u) (S.2 5 u) := ⟨_, rfl⟩
  obtain ⟨A4, eA4⟩ : ∃ p, p = kend S s (S.2 4 u) (S.2 5 u) := ⟨_, rfl⟩
  obtain ⟨B1, eB1⟩ : ∃ p, p = kon S u (S.2 2 s) (S.2 3 s) := ⟨_, rfl⟩
  obtain ⟨B2, eB2⟩ : ∃ p, p = kend S u (S.2 2 s) (S.2 3 s) := ⟨_, rfl⟩
  obtain ⟨B3, eB3⟩ : ∃ p, p = kon S u (S.2 4 s) (S.2 5 s) := ⟨_, rfl⟩
  obtain ⟨B4, eB4⟩ : ∃ p, p = kend S u (S.2 4 s) (S.2 5 s) := ⟨_, rfl⟩
  have em : kMeet S s u = (((A1 ∧ ¬ A2) ∨ (A3 ∧ ¬ A4)) ∨ ((B1 ∧ ¬ B2) ∨ (B3 ∧ ¬ B4)) ∨ (A2 ∧ A4) ∨ ((kc S s (S.2 2 u) (S.2 3 u)).sign * (kc S s (S.2 4 u) (S.2 5 u)).sign < 0 ∧ (kc S u (S.2 2 s) (S.2 3 s)).sign * (kc S u (S.2 4 s) (S.2 5 s)).sign < 0)) := by
    rw [eA1, eA2, eA3, eA4, eB1, eB2, eB3, eB4]; rfl
  refine gOk_of gmok_X1_meet rfl (Nat.le_of_ble_eq_true rfl) (L := [some _, some _, some _]) rfl ?_
  obtain ⟨Q, hQ⟩ : ∃ Q, Q = gRet (gRv (fun w h' => w = vI (bI (kMeet S s u)) ∧ h' = h)) := ⟨_, rfl⟩
  rw [← hQ] at fin ⊢
  have k206 : ¬ ((A1 ∧ ¬ A2) ∨ (A3 ∧ ¬ A4)) → ¬ ((B1 ∧ ¬ B2) ∨ (B3 ∧ ¬ B4)) → ¬ (A2 ∧ A4) → G E l gX1_meet d 0 0 Q 206 [some (.ref (gBase E)), some (vI s), some (vI u)] [] h 0 0 := by
    intro n1 n2 n3
    refine G_aload_0 (pc := 206) dX1_meet_206 ?_
    refine G_iload_1 (pc := 207) dX1_meet_207 ?_
    refine G_aload_0 (pc := 208) dX1_meet_208 ?_
    refine G_kref (pc := 209) dX1_meet_209 rfl ht hz rfl ?_
    refine G_iload_2 (pc := 212) dX1_meet_212 ?_
    refine G_ki (pc := 213) dX1_meet_213 ht hz rfl rfl (by omega) (fun b213 => ?_)
    refine G_aload_0 (pc := 214) dX1_meet_214 ?_
    refine G_kref (pc := 215) dX1_meet_215 rfl ht hz rfl ?_
    refine G_iload_2 (pc := 218) dX1_meet_218 ?_
    refine G_ki (pc := 219) dX1_meet_219 ht hz rfl rfl (by omega) (fun b219 => ?_)
    simp only [es, eu]
    refine G_pV3 (pc := 220) dX1_meet_220 rfl (zK_k ht hz) (by decide) rfl (pu_X1_side ht hz (by omega) (by assumption) (by omega) (by omega)) (by omega) (by omega) (by omega) (Nat.le_of_ble_eq_true rfl) ?_
    refine G_aload_0 (pc := 223) dX1_meet_223 ?_
    refine G_iload_1 (pc := 224) dX1_meet_224 ?_
    refine G_aload_0 (pc := 225) dX1_meet_225 ?_
    refine G_kref (pc := 226) dX1_meet_226 rfl ht hz rfl ?_
    refine G_iload_2 (pc := 229) dX1_meet_229 ?_
    refine G_ki (pc := 230) dX1_meet_230 ht hz rfl rfl (by omega) (fun b230 => ?_)
    refine G_aload_0 (pc := 231) dX1_meet_231 ?_
    refine G_kref (pc := 232) dX1_meet_232 rfl ht hz rfl ?_
    refine G_iload_2 (pc := 235) dX1_meet_235 ?_
    refine G_ki (pc := 236) dX1_meet_236 ht hz rfl rfl (by omega) (fun b236 => ?_)
    simp only [es, eu]
    refine G_pV3 (pc := 237) dX1_meet_237 rfl (zK_k ht hz) (by decide) rfl (pu_X1_side ht hz (by omega) (by assumption) (by omega) (by omega)) (by omega) (by omega) (by omega) (Nat.le_of_ble_eq_true rfl) ?_
    refine G_imul (pc := 240) dX1_meet_240 ?_
    refine G_if_ge (pc := 241) 286 dX1_meet_241 (by decide) (by omega) (fun c241 => ?_) (fun c241 => ?_)
    · skip
      refine G_iconst (pc := 286) dX1_meet_286 ?_
      refine G_ireturn (pc := 287) dX1_meet_287 rfl rfl (by omega) (by omega) ?_
      refine fin _ ?_
      rw [em]
      first | exact (bI_pos (Or.inr (Or.inr (Or.inr ⟨c241, c279⟩)))).symm | exact (bI_pos (Or.inr (Or.inr (Or.inr ⟨by omega, by omega⟩)))).symm | exact (bI_neg (fun q => q.elim n1 (fun q => q.elim n2 (fun q => q.elim n3 (fun q => by omega))))).symm
    · skip
      refine G_aload_0 (pc := 244) dX1_meet_244 ?_
      refine G_iload_2 (pc := 245) dX1_meet_245 ?_
      refine G_aload_0 (pc := 246) dX1_meet_246 ?_
      refine G_kref (pc := 247) dX1_meet_247 rfl ht hz rfl ?_
      refine G_iload_1 (pc := 250) dX1_meet_250 ?_
      refine G_ki (pc := 251) dX1_meet_251 ht hz rfl rfl (by omega) (fun b251 => ?_)
      refine G_aload_0 (pc := 252) dX1_meet_252 ?_
      refine G_kref (pc := 253) dX1_meet_253 rfl ht hz rfl ?_
      refine G_iload_1 (pc := 256) dX1_meet_256 ?_
      refine G_ki (pc := 257) dX1_meet_257 ht hz rfl rfl (by omega) (fun b257 => ?_)
      simp only [es, eu]
      refine G_pV3 (pc := 258) dX1_meet_258 rfl (zK_k ht hz) (by decide) rfl (pu_X1_side ht hz (by omega) (by assumption) (by omega) (by omega)) (by omega) (by omega) (by omega) (Nat.le_of_ble_eq_true rfl) ?_
      refine G_aload_0 (pc := 261) dX1_meet_261 ?_
      refine G_iload_2 (pc := 262) dX1_meet_262 ?_
      refine G_aload_0 (pc := 263) dX1_meet_263 ?_
      refine G_kref (pc := 264) dX1_meet_264 rfl ht hz rfl ?_
      refine G_iload_1 (pc := 267) dX1_meet_267 ?_
      refine G_ki (pc := 268) dX1_meet_268 ht hz rfl rfl (by omega) (fun b268 => ?_)
      refine G_aload_0 (pc := 269) dX1_meet_269 ?_
      refine G_kref (pc := 270) dX1_meet_270 rfl ht hz rfl ?_
      refine G_iload_1 (pc := 273) dX1_meet_273 ?_
      refine G_ki (pc := 274) dX1_meet_274 ht hz rfl rfl (by omega) (fun b274 => ?_)
      simp only [es, eu]
      refine G_pV3 (pc := 275) dX1_meet_275 rfl (zK_k ht hz) (by decide) rfl (pu_X1_side ht hz (by omega) (by assumption) (by omega) (by omega)) (by omega) (by omega) (by omega) (Nat.le_of_ble_eq_true rfl) ?_
      refine G_imul (pc := 278) dX1_meet_278 ?_
      refine G_if_ge (pc := 279) 286 dX1_meet_279 (by decide) (by omega) (fun c279 => ?_) (fun c279 => ?_)
      · skip
        refine G_iconst (pc := 286) dX1_meet_286 ?_
        refine G_ireturn (pc := 287) dX1_meet_287 rfl rfl (by omega) (by omega) ?_
        refine fin _ ?_
        rw [em]
        first | exact (bI_pos (Or.inr (Or.inr (Or.inr ⟨c241, c279⟩)))).symm | exact (bI_pos (Or.inr (Or.inr (Or.inr ⟨by omega, by omega⟩)))).symm | exact (bI_neg (fun q => q.elim n1 (fun q => q.elim n2 (fun q => q.elim n3 (fun q => by omega))))).symm
      · skip
        refine G_iconst (pc := 282) dX1_meet_282 ?_
        refine G_goto (pc := 283) 287 dX1_meet_283 (by decide) ?_
        refine G_ireturn (pc := 287) dX1_meet_287 rfl rfl (by omega) (by omega) ?_
        refine fin _ ?_
        rw [em]
        first | exact (bI_pos (Or.inr (Or.inr (Or.inr ⟨c241, c279⟩)))).symm | exact (bI_pos (Or.inr (Or.inr (Or.inr ⟨by omega, by omega⟩)))).symm | exact (bI_neg (fun q => q.elim n1 (fun q => q.elim n2 (fun q => q.elim n3 (fun q => by omega))))).symm
  have k164 : ¬ ((A1 ∧ ¬ A2) ∨ (A3 ∧ ¬ A4)) → ¬ ((B1 ∧ ¬ B2) ∨ (B3 ∧ ¬ B4)) → G E l gX1_meet d 0 0 Q 164 [some (.ref (gBase E)), some (vI s), some (vI u)] [] h 0 0 := by
    intro n1 n2
    refine G_aload_0 (pc := 164) dX1_meet_164 ?_
    refine G_iload_1 (pc := 165) dX1_meet_165 ?_
    refine G_aload_0 (pc := 166) dX1_meet_166 ?_
    refine G_kref (pc := 167) dX1_meet_167 rfl ht hz rfl ?_
    refine G_iload_2 (pc := 170) dX1_meet_170 ?_
    refine G_ki (pc := 171) dX1_meet_171 ht hz rfl rfl (by omega) (fun b171 => ?_)
    refine G_aload_0 (pc := 172) dX1_meet_172 ?_
    refine G_kref (pc := 173) dX1_meet_173 rfl ht hz rfl ?_
    refine G_iload_2 (pc := 176) dX1_meet_176 ?_
    refine G_ki (pc := 177) dX1_meet_177 ht hz rfl rfl (by omega) (fun b177 => ?_)
    simp only [es, eu]
    refine G_pV3 (pc := 178) dX1_meet_178 rfl (zK_k ht hz) (by decide) rfl (pu_X1_isEnd ht hz (by omega) (by omega) (by omega)) (by omega) (by omega) (by omega) (Nat.le_of_ble_eq_true rfl) ?_
    rw [← eA2]
    refine G_ifb_eq (pc := 181) 206 dX1_meet_181 (by decide) (fun c181 => ?_) (fun c181 => ?_)
    · skip
      exact k206 n1 n2 (fun q => by first | exact c181 q.1 | exact c201 q.2)
    · skip
      refine G_aload_0 (pc := 184) dX1_meet_184 ?_
      refine G_iload_1 (pc := 185) dX1_meet_185 ?_
      refine G_aload_0 (pc := 186) dX1_meet_186 ?_
      refine G_kref (pc := 187) dX1_meet_187 rfl ht hz rfl ?_
      refine G_iload_2 (pc := 190) dX1_meet_190 ?_
      refine G_ki (pc := 191) dX1_meet_191 ht hz rfl rfl (by omega) (fun b191 => ?_)
      refine G_aload_0 (pc := 192) dX1_meet_192 ?_
      refine G_kref (pc := 193) dX1_meet_193 rfl ht hz rfl ?_
      refine G_iload_2 (pc := 196) dX1_meet_196 ?_
      refine G_ki (pc := 197) dX1_meet_197 ht hz rfl rfl (by omega) (fun b197 => ?_)
      simp only [es, eu]
      refine G_pV3 (pc := 198) dX1_meet_198 rfl (zK_k ht hz) (by decide) rfl (pu_X1_isEnd ht hz (by omega) (by omega) (by omega)) (by omega) (by omega) (by omega) (Nat.le_of_ble_eq_true rfl) ?_
      rw [← eA4]
      refine G_ifb_eq (pc := 201) 206 dX1_meet_201 (by decide) (fun c201 => ?_) (fun c201 => ?_)
      · skip
        exact k206 n1 n2 (fun q => by first | exact c181 q.1 | exact c201 q.2)
      · skip
        refine G_iconst (pc := 204) dX1_meet_204 ?_
        refine G_ireturn (pc := 205) dX1_meet_205 rfl rfl (by omega) (by omega) ?_
        refine fin _ ?_
        rw [em]
        exact (bI_pos (Or.inr (Or.inr (Or.inl ⟨c181, c201⟩)))).symm
  have k162 : ((B1 ∧ ¬ B2) ∨ (B3 ∧ ¬ B4)) → G E l gX1_meet d 0 0 Q 162 [some (.ref (gBase E)), some (vI s), some (vI u)] [] h 0 0 := by
    intro y
    refine G_iconst (pc := 162) dX1_meet_162 ?_
    refine G_ireturn (pc := 163) dX1_meet_163 rfl rfl (by omega) (by omega) ?_
    refine fin _ ?_
    rw [em]
    exact (bI_pos (Or.inr (Or.inl y))).symm
  have k122 : ¬ ((A1 ∧ ¬ A2) ∨ (A3 ∧ ¬ A4)) → ¬ (B1 ∧ ¬ B2) → G E l gX1_meet d 0 0 Q 122 [some (.ref (gBase E)), some (vI s), some (vI u)] [] h 0 0 := by
    intro n1 n2
    refine G_aload_0 (pc := 122) dX1_meet_122 ?_
    refine G_iload_2 (pc := 123) dX1_meet_123 ?_
    refine G_aload_0 (pc := 124) dX1_meet_124 ?_
    refine G_kref (pc := 125) dX1_meet_125 rfl ht hz rfl ?_
    refine G_iload_1 (pc := 128) dX1_meet_128 ?_
    refine G_ki (pc := 129) dX1_meet_129 ht hz rfl rfl (by omega) (fun b129 => ?_)
    refine G_aload_0 (pc := 130) dX1_meet_130 ?_
    refine G_kref (pc := 131) dX1_meet_131 rfl ht hz rfl ?_
    refine G_iload_1 (pc := 134) dX1_meet_134 ?_
    refine G_ki (pc := 135) dX1_meet_135 ht hz rfl rfl (by omega) (fun b135 => ?_)
    simp only [es, eu]
    refine G_pV3 (pc := 136) dX1_meet_136 rfl (zK_k ht hz) (by decide) rfl (pu_X1_isOn ht hz (by omega) (by assumption) (by omega) (by omega)) (by omega) (by omega) (by omega) (Nat.le_of_ble_eq_true rfl) ?_
    rw [← eB3]
    refine G_ifb_eq (pc := 139) 164 dX1_meet_139 (by decide) (fun c139 => ?_) (fun c139 => ?_)
    · skip
      exact k164 n1 (fun q => q.elim n2 (fun q => by first | exact c139 q.1 | exact q.2 c159))
    · skip
      refine G_aload_0 (pc := 142) dX1_meet_142 ?_
      refine G_iload_2 (pc := 143) dX1_meet_143 ?_
      refine G_aload_0 (pc := 144) dX1_meet_144 ?_
      refine G_kref (pc := 145) dX1_meet_145 rfl ht hz rfl ?_
      refine G_iload_1 (pc := 148) dX1_meet_148 ?_
      refine G_ki (pc := 149) dX1_meet_149 ht hz rfl rfl (by omega) (fun b149 => ?_)
      refine G_aload_0 (pc := 150) dX1_meet_150 ?_
      refine G_kref (pc := 151) dX1_meet_151 rfl ht hz rfl ?_
      refine G_iload_1 (pc := 154) dX1_meet_154 ?_
      refine G_ki (pc := 155) dX1_meet_155 ht hz rfl rfl (by omega) (fun b155 => ?_)
      simp only [es, eu]
      refine G_pV3 (pc := 156) dX1_meet_156 rfl (zK_k ht hz) (by decide) rfl (pu_X1_isEnd ht hz (by omega) (by omega) (by omega)) (by omega) (by omega) (by omega) (Nat.le_of_ble_eq_true rfl) ?_
      rw [← eB4]
      refine G_ifb_ne (pc := 159) 164 dX1_meet_159 (by decide) (fun c159 => ?_) (fun c159 => ?_)
      · skip
        exact k164 n1 (fun q => q.elim n2 (fun q => by first | exact c139 q.1 | exact q.2 c159))
      · skip
        exact k162 (Or.inr ⟨c139, c159⟩)
  have k82 : ¬ ((A1 ∧ ¬ A2) ∨ (A3 ∧ ¬ A4)) → G E l gX1_meet d 0 0 Q 82 [some (.ref (gBase E)), some (vI s), some (vI u)] [] h 0 0 := by
    intro n1
    refine G_aload_0 (pc := 82) dX1_meet_82 ?_
    refine G_iload_2 (pc := 83) dX1_meet_83 ?_
    refine G_aload_0 (pc := 84) dX1_meet_84 ?_
    refine G_kref (pc := 85) dX1_meet_85 rfl ht hz rfl ?_
    refine G_iload_1 (pc := 88) dX1_meet_88 ?_
    refine G_ki (pc := 89) dX1_meet_89 ht hz rfl rfl (by omega) (fun b89 => ?_)
    refine G_aload_0 (pc := 90) dX1_meet_90 ?_
    refine G_kref (pc := 91) dX1_meet_91 rfl ht hz rfl ?_
    refine G_iload_1 (pc := 94) dX1_meet_94 ?_
    refine G_ki (pc := 95) dX1_meet_95 ht hz rfl rfl (by omega) (fun b95 => ?_)
    simp only [es, eu]
    refine G_pV3 (pc := 96) dX1_meet_96 rfl (zK_k ht hz) (by decide) rfl (pu_X1_isOn ht hz (by omega) (by assumption) (by omega) (by omega)) (by omega) (by omega) (by omega) (Nat.le_of_ble_eq_true rfl) ?_
    rw [← eB1]
    refine G_ifb_eq (pc := 99) 122 dX1_meet_99 (by decide) (fun c99 => ?_) (fun c99 => ?_)
    · skip
      exact k122 n1 (fun q => by first | exact c99 q.1 | exact q.2 c119)
    · skip
      refine G_aload_0 (pc := 102) dX1_meet_102 ?_
      refine G_iload_2 (pc := 103) dX1_meet_103 ?_
      refine G_aload_0 (pc := 104) dX1_meet_104 ?_
      refine G_kref (pc := 105) dX1_meet_105 rfl ht hz rfl ?_
      refine G_iload_1 (pc := 108) dX1_meet_108 ?_
      refine G_ki (pc := 109) dX1_meet_109 ht hz rfl rfl (by omega) (fun b109 => ?_)
      refine G_aload_0 (pc := 110) dX1_meet_110 ?_
      refine G_kref (pc := 111) dX1_meet_111 rfl ht hz rfl ?_
      refine G_iload_1 (pc := 114) dX1_meet_114 ?_
      refine G_ki (pc := 115) dX1_meet_115 ht hz rfl rfl (by omega) (fun b115 => ?_)
      simp only [es, eu]
      refine G_pV3 (pc := 116) dX1_meet_116 rfl (zK_k ht hz) (by decide) rfl (pu_X1_isEnd ht hz (by omega) (by omega) (by omega)) (by omega) (by omega) (by omega) (Nat.le_of_ble_eq_true rfl) ?_
      rw [← eB2]
      refine G_ifb_eq (pc := 119) 162 dX1_meet_119 (by decide) (fun c119 => ?_) (fun c119 => ?_)
      · skip
        exact k162 (Or.inl ⟨c99, c119⟩)
      · skip
        exact k122 n1 (fun q => by first | exact c99 q.1 | exact q.2 c119)
  have k80 : ((A1 ∧ ¬ A2) ∨ (A3 ∧ ¬ A4)) → G E l gX1_meet d 0 0 Q 80 [some (.ref (gBase E)), some (vI s), some (vI u)] [] h 0 0 := by
    intro y
    refine G_iconst (pc := 80) dX1_meet_80 ?_
    refine G_ireturn (pc := 81) dX1_meet_81 rfl rfl (by omega) (by omega) ?_
    refine fin _ ?_
    rw [em]
    exact (bI_pos (Or.inl y)).symm
  have k40 : ¬ (A1 ∧ ¬ A2) → G E l gX1_meet d 0 0 Q 40 [some (.ref (gBase E)), some (vI s), some (vI u)] [] h 0 0 := by
    intro n1
    refine G_aload_0 (pc := 40) dX1_meet_40 ?_
    refine G_iload_1 (pc := 41) dX1_meet_41 ?_
    refine G_aload_0 (pc := 42) dX1_meet_42 ?_
    refine G_kref (pc := 43) dX1_meet_43 rfl ht hz rfl ?_
    refine G_iload_2 (pc := 46) dX1_meet_46 ?_
    refine G_ki (pc := 47) dX1_meet_47 ht hz rfl rfl (by omega) (fun b47 => ?_)
    refine G_aload_0 (pc := 48) dX1_meet_48 ?_
    refine G_kref (pc := 49) dX1_meet_49 rfl ht hz rfl ?_
    refine G_iload_2 (pc := 52) dX1_meet_52 ?_
    refine G_ki (pc := 53) dX1_meet_53 ht hz rfl rfl (by omega) (fun b53 => ?_)
    simp only [es, eu]
    refine G_pV3 (pc := 54) dX1_meet_54 rfl (zK_k ht hz) (by decide) rfl (pu_X1_isOn ht hz (by omega) (by assumption) (by omega) (by omega)) (by omega) (by omega) (by omega) (Nat.le_of_ble_eq_true rfl) ?_
    rw [← eA3]
    refine G_ifb_eq (pc := 57) 82 dX1_meet_57 (by decide) (fun c57 => ?_) (fun c57 => ?_)
    · skip
      exact k82 (fun q => q.elim n1 (fun q => by first | exact c57 q.1 | exact q.2 c77))
    · skip
      refine G_aload_0 (pc := 60) dX1_meet_60 ?_
      refine G_iload_1 (pc := 61) dX1_meet_61 ?_
      refine G_aload_0 (pc := 62) dX1_meet_62 ?_
      refine G_kref (pc := 63) dX1_meet_63 rfl ht hz rfl ?_
      refine G_iload_2 (pc := 66) dX1_meet_66 ?_
      refine G_ki (pc := 67) dX1_meet_67 ht hz rfl rfl (by omega) (fun b67 => ?_)
      refine G_aload_0 (pc := 68) dX1_meet_68 ?_
      refine G_kref (pc := 69) dX1_meet_69 rfl ht hz rfl ?_
      refine G_iload_2 (pc := 72) dX1_meet_72 ?_
      refine G_ki (pc := 73) dX1_meet_73 ht hz rfl rfl (by omega) (fun b73 => ?_)
      simp only [es, eu]
      refine G_pV3 (pc := 74) dX1_meet_74 rfl (zK_k ht hz) (by decide) rfl (pu_X1_isEnd ht hz (by omega) (by omega) (by omega)) (by omega) (by omega) (by omega) (Nat.le_of_ble_eq_true rfl) ?_
      rw [← eA4]
      refine G_ifb_ne (pc := 77) 82 dX1_meet_77 (by decide) (fun c77 => ?_) (fun c77 => ?_)
      · skip
        exact k82 (fun q => q.elim n1 (fun q => by first | exact c57 q.1 | exact q.2 c77))
      · skip
        exact k80 (Or.inr ⟨c57, c77⟩)
  refine G_aload_0 (pc := 0) dX1_meet_0 ?_
  refine G_iload_1 (pc := 1) dX1_meet_1 ?_
  refine G_aload_0 (pc := 2) dX1_meet_2 ?_
  refine G_kref (pc := 3) dX1_meet_3 rfl ht hz rfl ?_
  refine G_iload_2 (pc := 6) dX1_meet_6 ?_
  refine G_ki (pc := 7) dX1_meet_7 ht hz rfl rfl (by omega) (fun b7 => ?_)
  refine G_aload_0 (pc := 8) dX1_meet_8 ?_
  refine G_kref (pc := 9) dX1_meet_9 rfl ht hz rfl ?_
  refine G_iload_2 (pc := 12) dX1_meet_12 ?_
  refine G_ki (pc := 13) dX1_meet_13 ht hz rfl rfl (by omega) (fun b13 => ?_)
  simp only [es, eu]
  refine G_pV3 (pc := 14) dX1_meet_14 rfl (zK_k ht hz) (by decide) rfl (pu_X1_isOn ht hz (by omega) (by assumption) (by omega) (by omega)) (by omega) (by omega) (by omega) (Nat.le_of_ble_eq_true rfl) ?_
  rw [← eA1]
  refine G_ifb_eq (pc := 17) 40 dX1_meet_17 (by decide) (fun c17 => ?_) (fun c17 => ?_)
  · skip
    exact k40 (fun q => by first | exact c17 q.1 | exact q.2 c37)
  · skip
    refine G_aload_0 (pc := 20) dX1_meet_20 ?_
    refine G_iload_1 (pc := 21) dX1_meet_21 ?_
    refine G_aload_0 (pc := 22) dX1_meet_22 ?_
    refine G_kref (pc := 23) dX1_meet_23 rfl ht hz rfl ?_
    refine G_iload_2 (pc := 26) dX1_meet_26 ?_
    refine G_ki (pc := 27) dX1_meet_27 ht hz rfl rfl (by omega) (fun b27 => ?_)
    refine G_aload_0 (pc := 28) dX1_meet_28 ?_
    refine G_kref (pc := 29) dX1_meet_29 rfl ht hz rfl ?_
    refine G_iload_2 (pc := 32) dX1_meet_32 ?_
    refine G_ki (pc := 33) dX1_meet_33 ht hz rfl rfl (by omega) (fun b33 => ?_)
    simp only [es, eu]
    refine G_pV3 (pc := 34) dX1_meet_34 rfl (zK_k ht hz) (by decide) rfl (pu_X1_isEnd ht hz (by omega) (by omega) (by omega)) (by omega) (by omega) (by omega) (Nat.le_of_ble_eq_true rfl) ?_
    rw [← eA2]
    refine G_ifb_eq (pc := 37) 80 dX1_meet_37 (by decide) (fun c37 => ?_) (fun c37 => ?_)
    · skip
      exact k80 (Or.inl ⟨c17, c37⟩)
    · skip
      exact k40 (fun q => by first | exact c17 q.1 | exact q.2 c37)
end CLS1
