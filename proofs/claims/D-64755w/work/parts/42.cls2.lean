set_option maxRecDepth 100000
def kdr (S : mS) (s : Nat) : Int := if S.2 4 s > S.2 2 s then 1 else -1
def kov (S : mS) (s : Nat) (x : Int) : Prop := S.2 2 s ≠ S.2 4 s ∧ min (S.2 2 s) (S.2 4 s) < x ∧ x < max (S.2 2 s) (S.2 4 s)
def kha (S : mS) (s : Nat) (x y : Int) : Int := (kc S s x y).sign * kdr S s
def kab (S : mS) (s : Nat) (x y : Int) : Prop := 0 < kha S s x y
def khg (S : mS) (s : Nat) (x : Int) : Int := S.2 3 s * (S.2 4 s - S.2 2 s) + (S.2 5 s - S.2 3 s) * (x - S.2 2 s)
def kcp (S : mS) (s u : Nat) (x : Int) : Int := (khg S s x * (S.2 4 u - S.2 2 u) - khg S u x * (S.2 4 s - S.2 2 s)).sign * (S.2 4 s - S.2 2 s).sign * (S.2 4 u - S.2 2 u).sign
theorem mul_b3 {a b : Int} (ha : -3000000000 ≤ a ∧ a ≤ 3000000000) (hb : -32000 ≤ b ∧ b ≤ 32000) : -96000000000000 ≤ a * b ∧ a * b ≤ 96000000000000 := by
  have h1 := Int.mul_nonneg (show 0 ≤ 3000000000 - a by omega) (show 0 ≤ 32000 - b by omega)
  have h2 := Int.mul_nonneg (show 0 ≤ 3000000000 + a by omega) (show 0 ≤ 32000 + b by omega)
  have h3 := Int.mul_nonneg (show 0 ≤ 3000000000 - a by omega) (show 0 ≤ 32000 + b by omega)
  have h4 := Int.mul_nonneg (show 0 ≤ 3000000000 + a by omega) (show 0 ≤ 32000 - b by omega)
  constructor <;> grind
theorem kdr_b (S : mS) (s : Nat) : kdr S s = 1 ∨ kdr S s = -1 := by unfold kdr; split <;> simp
theorem sgn_b (x : Int) : -1 ≤ x.sign ∧ x.sign ≤ 1 := by rw [← sgI_sign]; unfold sgI; split <;> (try split) <;> omega
theorem kha_b (S : mS) (s : Nat) (x y : Int) : -1 ≤ kha S s x y ∧ kha S s x y ≤ 1 := by
  unfold kha
  have := sgn_b (kc S s x y)
  rcases kdr_b S s with e | e <;> rw [e] <;> omega
theorem khg_b {S : mS} {s : Nat} {x : Int} (b : kIn S s) (hx : -16000 ≤ x ∧ x ≤ 16000) : -3000000000 ≤ khg S s x ∧ khg S s x ≤ 3000000000 := by
  obtain ⟨⟨b1, b2⟩, b3, b4⟩ := b
  have m1 := mul_b (a := S.2 3 s) (b := S.2 4 s - S.2 2 s) (by omega) (by omega)
  have m2 := mul_b (a := S.2 5 s - S.2 3 s) (b := x - S.2 2 s) (by omega) (by omega)
  unfold khg
  omega
theorem kcp_b (S : mS) (s u : Nat) (x : Int) : -1 ≤ kcp S s u x ∧ kcp S s u x ≤ 1 := by
  unfold kcp
  rw [← Int.sign_mul, ← Int.sign_mul]
  exact sgn_b _
theorem mn_min (x y : Int) : mnI x y = min x y := by unfold mnI; split <;> omega
theorem mx_max (x y : Int) : mxI x y = max x y := by unfold mxI; split <;> omega
section CLS2
variable {E : gV} {l : Launch} {h : gH} {T : tT} {S : mS}
theorem pu_X1_isOver (ht : zT E h T) (hz : zK E T S) {s : Nat} (hs : s < 60) (b : kIn S s) {x : Int} (hx : -16000 ≤ x ∧ x ≤ 16000) : gPu E l gX1_isOver 2 [.ref (gBase E), vI s, vI x] h (vI (bI (kov S s x))) := by
  intro d hd
  obtain ⟨⟨b1, b2⟩, b3, b4⟩ := b
  have es : (s : Int).toNat = s := by omega
  have fin : ∀ z : Int, z = bI (kov S s x) → gRet (gRv (fun w h' => w = vI (bI (kov S s x)) ∧ h' = h)) (.returned (some (vI z))) h := by
    intro z q
    subst q
    exact ⟨_, rfl, _, rfl, rfl, rfl⟩
  refine gOk_of gmok_X1_isOver rfl (Nat.le_of_ble_eq_true rfl) (L := [some _, some _, some _]) rfl ?_
  refine G_aload_0 (pc := 0) dX1_isOver_0 ?_
  refine G_kref (pc := 1) dX1_isOver_1 rfl ht hz rfl ?_
  refine G_iload_1 (pc := 4) dX1_isOver_4 ?_
  refine G_ki (pc := 5) dX1_isOver_5 ht hz rfl rfl (by omega) (fun b5 => ?_)
  refine G_aload_0 (pc := 6) dX1_isOver_6 ?_
  refine G_kref (pc := 7) dX1_isOver_7 rfl ht hz rfl ?_
  refine G_iload_1 (pc := 10) dX1_isOver_10 ?_
  refine G_ki (pc := 11) dX1_isOver_11 ht hz rfl rfl (by omega) (fun b11 => ?_)
  simp only [es]
  refine G_icmp_eq (pc := 12) 57 dX1_isOver_12 (by decide) (by omega) (by omega) (fun c12 => ?_) (fun c12 => ?_)
  · skip
    refine G_iconst (pc := 57) dX1_isOver_57 ?_
    refine G_ireturn (pc := 58) dX1_isOver_58 rfl rfl (by omega) (by omega) ?_
    refine fin _ ?_
    unfold kov
    first | exact (bI_pos (by omega)).symm | exact (bI_neg (by omega)).symm
  · skip
    refine G_iload_2 (pc := 15) dX1_isOver_15 ?_
    refine G_aload_0 (pc := 16) dX1_isOver_16 ?_
    refine G_kref (pc := 17) dX1_isOver_17 rfl ht hz rfl ?_
    refine G_iload_1 (pc := 20) dX1_isOver_20 ?_
    refine G_ki (pc := 21) dX1_isOver_21 ht hz rfl rfl (by omega) (fun b21 => ?_)
    refine G_aload_0 (pc := 22) dX1_isOver_22 ?_
    refine G_kref (pc := 23) dX1_isOver_23 rfl ht hz rfl ?_
    refine G_iload_1 (pc := 26) dX1_isOver_26 ?_
    refine G_ki (pc := 27) dX1_isOver_27 ht hz rfl rfl (by omega) (fun b27 => ?_)
    simp only [es]
    refine G_pS2 (pc := 28) dX1_isOver_28 rfl rfl (pu_J9_min (by omega) (by omega)) (by omega) (by omega) (by omega) (Nat.le_of_ble_eq_true rfl) ?_
    rw [mn_min]
    refine G_icmp_le (pc := 31) 57 dX1_isOver_31 (by decide) (by omega) (by omega) (fun c31 => ?_) (fun c31 => ?_)
    · skip
      refine G_iconst (pc := 57) dX1_isOver_57 ?_
      refine G_ireturn (pc := 58) dX1_isOver_58 rfl rfl (by omega) (by omega) ?_
      refine fin _ ?_
      unfold kov
      first | exact (bI_pos (by omega)).symm | exact (bI_neg (by omega)).symm
    · skip
      refine G_iload_2 (pc := 34) dX1_isOver_34 ?_
      refine G_aload_0 (pc := 35) dX1_isOver_35 ?_
      refine G_kref (pc := 36) dX1_isOver_36 rfl ht hz rfl ?_
      refine G_iload_1 (pc := 39) dX1_isOver_39 ?_
      refine G_ki (pc := 40) dX1_isOver_40 ht hz rfl rfl (by omega) (fun b40 => ?_)
      refine G_aload_0 (pc := 41) dX1_isOver_41 ?_
      refine G_kref (pc := 42) dX1_isOver_42 rfl ht hz rfl ?_
      refine G_iload_1 (pc := 45) dX1_isOver_45 ?_
      refine G_ki (pc := 46) dX1_isOver_46 ht hz rfl rfl (by omega) (fun b46 => ?_)
      simp only [es]
      refine G_pS2 (pc := 47) dX1_isOver_47 rfl rfl (pu_J9_max (by omega) (by omega)) (by omega) (by omega) (by omega) (Nat.le_of_ble_eq_true rfl) ?_
      rw [mx_max]
      refine G_icmp_ge (pc := 50) 57 dX1_isOver_50 (by decide) (by omega) (by omega) (fun c50 => ?_) (fun c50 => ?_)
      · skip
        refine G_iconst (pc := 57) dX1_isOver_57 ?_
        refine G_ireturn (pc := 58) dX1_isOver_58 rfl rfl (by omega) (by omega) ?_
        refine fin _ ?_
        unfold kov
        first | exact (bI_pos (by omega)).symm | exact (bI_neg (by omega)).symm
      · skip
        refine G_iconst (pc := 53) dX1_isOver_53 ?_
        refine G_goto (pc := 54) 58 dX1_isOver_54 (by decide) ?_
        refine G_ireturn (pc := 58) dX1_isOver_58 rfl rfl (by omega) (by omega) ?_
        refine fin _ ?_
        unfold kov
        first | exact (bI_pos (by omega)).symm | exact (bI_neg (by omega)).symm
theorem pu_X1_heightAgainst (ht : zT E h T) (hz : zK E T S) {s : Nat} (hs : s < 60) (b : kIn S s) {x y : Int} (hx : -16000 ≤ x ∧ x ≤ 16000) (hy : -16000 ≤ y ∧ y ≤ 16000) : gPu E l gX1_heightAgainst 3 [.ref (gBase E), vI s, vI x, vI y] h (vI (kha S s x y)) := by
  intro d hd
  have b0 := b
  obtain ⟨⟨b1, b2⟩, b3, b4⟩ := b0
  have es : (s : Int).toNat = s := by omega
  have fin : ∀ z : Int, z = kha S s x y → gRet (gRv (fun w h' => w = vI (kha S s x y) ∧ h' = h)) (.returned (some (vI z))) h := by
    intro z q
    subst q
    exact ⟨_, rfl, _, rfl, rfl, rfl⟩
  refine gOk_of gmok_X1_heightAgainst rfl (Nat.le_of_ble_eq_true rfl) (L := [some _, some _, some _, some _]) rfl ?_
  refine G_aload_0 (pc := 0) dX1_heightAgainst_0 ?_
  refine G_iload_1 (pc := 1) dX1_heightAgainst_1 ?_
  refine G_iload_2 (pc := 2) dX1_heightAgainst_2 ?_
  refine G_iload_3 (pc := 3) dX1_heightAgainst_3 ?_
  try simp only [es]
  refine G_pV3 (pc := 4) dX1_heightAgainst_4 rfl (zK_k ht hz) (by decide) rfl (pu_X1_side ht hz (by omega) (by assumption) (by omega) (by omega)) (by omega) (by omega) (by omega) (Nat.le_of_ble_eq_true rfl) ?_
  refine G_aload_0 (pc := 7) dX1_heightAgainst_7 ?_
  refine G_kref (pc := 8) dX1_heightAgainst_8 rfl ht hz rfl ?_
  refine G_iload_1 (pc := 11) dX1_heightAgainst_11 ?_
  refine G_ki (pc := 12) dX1_heightAgainst_12 ht hz rfl rfl (by omega) (fun b12 => ?_)
  refine G_aload_0 (pc := 13) dX1_heightAgainst_13 ?_
  refine G_kref (pc := 14) dX1_heightAgainst_14 rfl ht hz rfl ?_
  refine G_iload_1 (pc := 17) dX1_heightAgainst_17 ?_
  refine G_ki (pc := 18) dX1_heightAgainst_18 ht hz rfl rfl (by omega) (fun b18 => ?_)
  simp only [es]
  refine G_icmp_le (pc := 19) 26 dX1_heightAgainst_19 (by decide) (by omega) (by omega) (fun c19 => ?_) (fun c19 => ?_)
  · skip
    refine G_iconst (pc := 26) dX1_heightAgainst_26 ?_
    refine G_imul (pc := 27) dX1_heightAgainst_27 ?_
    refine G_ireturn (pc := 28) dX1_heightAgainst_28 rfl rfl (by omega) (by omega) ?_
    refine fin _ ?_
    unfold kha kdr
    first | rw [if_pos (by omega)] | rw [if_neg (by omega)]
  · skip
    refine G_iconst (pc := 22) dX1_heightAgainst_22 ?_
    refine G_goto (pc := 23) 27 dX1_heightAgainst_23 (by decide) ?_
    refine G_imul (pc := 27) dX1_heightAgainst_27 ?_
    refine G_ireturn (pc := 28) dX1_heightAgainst_28 rfl rfl (by omega) (by omega) ?_
    refine fin _ ?_
    unfold kha kdr
    first | rw [if_pos (by omega)] | rw [if_neg (by omega)]
theorem pu_X1_isAbove (ht : zT E h T) (hz : zK E T S) {s : Nat} (hs : s < 60) (b : kIn S s) {x y : Int} (hx : -16000 ≤ x ∧ x ≤ 16000) (hy : -16000 ≤ y ∧ y ≤ 16000) : gPu E l gX1_isAbove 3 [.ref (gBase E), vI s, vI x, vI y] h (vI (bI (kab S s x y))) := by
  intro d hd
  have b0 := b
  obtain ⟨⟨b1, b2⟩, b3, b4⟩ := b0
  have es : (s : Int).toNat = s := by omega
  have hsb := sgn_b (kc S s x y)
  have fin : ∀ z : Int, z = bI (kab S s x y) → gRet (gRv (fun w h' => w = vI (bI (kab S s x y)) ∧ h' = h)) (.returned (some (vI z))) h := by
    intro z q
    subst q
    exact ⟨_, rfl, _, rfl, rfl, rfl⟩
  have e1 : S.2 4 s > S.2 2 s → kab S s x y = (0 < (kc S s x y).sign * 1) := fun q => by unfold kab kha kdr; rw [if_pos q]
  have e2 : ¬ S.2 4 s > S.2 2 s → kab S s x y = (0 < (kc S s x y).sign * (-1)) := fun q => by unfold kab kha kdr; rw [if_neg q]
  refine gOk_of gmok_X1_isAbove rfl (Nat.le_of_ble_eq_true rfl) (L := [some _, some _, some _, some _]) rfl ?_
  refine G_aload_0 (pc := 0) dX1_isAbove_0 ?_
  refine G_iload_1 (pc := 1) dX1_isAbove_1 ?_
  refine G_iload_2 (pc := 2) dX1_isAbove_2 ?_
  refine G_iload_3 (pc := 3) dX1_isAbove_3 ?_
  try simp only [es]
  refine G_pV3 (pc := 4) dX1_isAbove_4 rfl (zK_k ht hz) (by decide) rfl (pu_X1_side ht hz (by omega) (by assumption) (by omega) (by omega)) (by omega) (by omega) (by omega) (Nat.le_of_ble_eq_true rfl) ?_
  refine G_aload_0 (pc := 7) dX1_isAbove_7 ?_
  refine G_kref (pc := 8) dX1_isAbove_8 rfl ht hz rfl ?_
  refine G_iload_1 (pc := 11) dX1_isAbove_11 ?_
  refine G_ki (pc := 12) dX1_isAbove_12 ht hz rfl rfl (by omega) (fun b12 => ?_)
  refine G_aload_0 (pc := 13) dX1_isAbove_13 ?_
  refine G_kref (pc := 14) dX1_isAbove_14 rfl ht hz rfl ?_
  refine G_iload_1 (pc := 17) dX1_isAbove_17 ?_
  refine G_ki (pc := 18) dX1_isAbove_18 ht hz rfl rfl (by omega) (fun b18 => ?_)
  simp only [es]
  refine G_icmp_le (pc := 19) 26 dX1_isAbove_19 (by decide) (by omega) (by omega) (fun c19 => ?_) (fun c19 => ?_)
  · skip
    refine G_iconst (pc := 26) dX1_isAbove_26 ?_
    refine G_imul (pc := 27) dX1_isAbove_27 ?_
    refine G_if_le (pc := 28) 35 dX1_isAbove_28 (by decide) (by omega) (fun c28 => ?_) (fun c28 => ?_)
    · skip
      refine G_iconst (pc := 35) dX1_isAbove_35 ?_
      refine G_ireturn (pc := 36) dX1_isAbove_36 rfl rfl (by omega) (by omega) ?_
      refine fin _ ?_
      first | rw [e1 (by omega)] | rw [e2 (by omega)]
      first | exact (bI_pos (by omega)).symm | exact (bI_neg (by omega)).symm
    · skip
      refine G_iconst (pc := 31) dX1_isAbove_31 ?_
      refine G_goto (pc := 32) 36 dX1_isAbove_32 (by decide) ?_
      refine G_ireturn (pc := 36) dX1_isAbove_36 rfl rfl (by omega) (by omega) ?_
      refine fin _ ?_
      first | rw [e1 (by omega)] | rw [e2 (by omega)]
      first | exact (bI_pos (by omega)).symm | exact (bI_neg (by omega)).symm
  · skip
    refine G_iconst (pc := 22) dX1_isAbove_22 ?_
    refine G_goto (pc := 23) 27 dX1_isAbove_23 (by decide) ?_
    refine G_imul (pc := 27) dX1_isAbove_27 ?_
    refine G_if_le (pc := 28) 35 dX1_isAbove_28 (by decide) (by omega) (fun c28 => ?_) (fun c28 => ?_)
    · skip
      refine G_iconst (pc := 35) dX1_isAbove_35 ?_
      refine G_ireturn (pc := 36) dX1_isAbove_36 rfl rfl (by omega) (by omega) ?_
      refine fin _ ?_
      first | rw [e1 (by omega)] | rw [e2 (by omega)]
      first | exact (bI_pos (by omega)).symm | exact (bI_neg (by omega)).symm
    · skip
      refine G_iconst (pc := 31) dX1_isAbove_31 ?_
      refine G_goto (pc := 32) 36 dX1_isAbove_32 (by decide) ?_
      refine G_ireturn (pc := 36) dX1_isAbove_36 rfl rfl (by omega) (by omega) ?_
      refine fin _ ?_
      first | rw [e1 (by omega)] | rw [e2 (by omega)]
      first | exact (bI_pos (by omega)).symm | exact (bI_neg (by omega)).symm
theorem pu_X1_compare (ht : zT E h T) (hz : zK E T S) {s u : Nat} (hs : s < 60) (hu : u < 60) (b : kIn S s) (b' : kIn S u) {x : Int} (hx : -16000 ≤ x ∧ x ≤ 16000) : gPu E l gX1_compare 2 [.ref (gBase E), vI s, vI u, vI x] h (vI (kcp S s u x)) := by
  intro d hd
  have q1 := khg_b b hx
  have q2 := khg_b b' hx
  obtain ⟨⟨b1, b2⟩, b3, b4⟩ := b
  obtain ⟨⟨d1, d2⟩, d3, d4⟩ := b'
  have es : (s : Int).toNat = s := by omega
  have eu : (u : Int).toNat = u := by omega
  have m1 := mul_b3 (a := khg S s x) (b := S.2 4 u - S.2 2 u) q1 (by omega)
  have m2 := mul_b3 (a := khg S u x) (b := S.2 4 s - S.2 2 s) q2 (by omega)
  have e1 : S.2 3 s * (S.2 4 s - S.2 2 s) + (S.2 5 s - S.2 3 s) * (x - S.2 2 s) = khg S s x := rfl
  have e2 : S.2 3 u * (S.2 4 u - S.2 2 u) + (S.2 5 u - S.2 3 u) * (x - S.2 2 u) = khg S u x := rfl
  refine gOk_of gmok_X1_compare rfl (Nat.le_of_ble_eq_true rfl) (L := [some _, some _, some _, some _, none, none, none, none, none, none, none, none, none, none]) rfl ?_
  refine G_aload_0 (pc := 0) dX1_compare_0 ?_
  refine G_kref (pc := 1) dX1_compare_1 rfl ht hz rfl ?_
  refine G_iload_1 (pc := 4) dX1_compare_4 ?_
  refine G_ki (pc := 5) dX1_compare_5 ht hz rfl rfl (by omega) (fun b5 => ?_)
  refine G_aload_0 (pc := 6) dX1_compare_6 ?_
  refine G_kref (pc := 7) dX1_compare_7 rfl ht hz rfl ?_
  refine G_iload_1 (pc := 10) dX1_compare_10 ?_
  refine G_ki (pc := 11) dX1_compare_11 ht hz rfl rfl (by omega) (fun b11 => ?_)
  refine G_isub (pc := 12) dX1_compare_12 ?_
  simp only [es, eu]
  refine G_i2l (pc := 13) dX1_compare_13 (by omega) ?_
  refine G_lstore_4 (pc := 14) dX1_compare_14 (by decide) rfl ?_
  refine G_aload_0 (pc := 16) dX1_compare_16 ?_
  refine G_kref (pc := 17) dX1_compare_17 rfl ht hz rfl ?_
  refine G_iload_2 (pc := 20) dX1_compare_20 ?_
  refine G_ki (pc := 21) dX1_compare_21 ht hz rfl rfl (by omega) (fun b21 => ?_)
  refine G_aload_0 (pc := 22) dX1_compare_22 ?_
  refine G_kref (pc := 23) dX1_compare_23 rfl ht hz rfl ?_
  refine G_iload_2 (pc := 26) dX1_compare_26 ?_
  refine G_ki (pc := 27) dX1_compare_27 ht hz rfl rfl (by omega) (fun b27 => ?_)
  refine G_isub (pc := 28) dX1_compare_28 ?_
  simp only [es, eu]
  refine G_i2l (pc := 29) dX1_compare_29 (by omega) ?_
  refine G_lstore_6 (pc := 30) dX1_compare_30 (by decide) rfl ?_
  refine G_aload_0 (pc := 32) dX1_compare_32 ?_
  refine G_kref (pc := 33) dX1_compare_33 rfl ht hz rfl ?_
  refine G_iload_1 (pc := 36) dX1_compare_36 ?_
  refine G_ki (pc := 37) dX1_compare_37 ht hz rfl rfl (by omega) (fun b37 => ?_)
  simp only [es, eu]
  refine G_i2l (pc := 38) dX1_compare_38 (by omega) ?_
  refine G_lload_4 (pc := 39) dX1_compare_39 ?_
  refine G_lmul (pc := 41) dX1_compare_41 ?_
  refine G_aload_0 (pc := 42) dX1_compare_42 ?_
  refine G_kref (pc := 43) dX1_compare_43 rfl ht hz rfl ?_
  refine G_iload_1 (pc := 46) dX1_compare_46 ?_
  refine G_ki (pc := 47) dX1_compare_47 ht hz rfl rfl (by omega) (fun b47 => ?_)
  refine G_aload_0 (pc := 48) dX1_compare_48 ?_
  refine G_kref (pc := 49) dX1_compare_49 rfl ht hz rfl ?_
  refine G_iload_1 (pc := 52) dX1_compare_52 ?_
  refine G_ki (pc := 53) dX1_compare_53 ht hz rfl rfl (by omega) (fun b53 => ?_)
  refine G_isub (pc := 54) dX1_compare_54 ?_
  simp only [es, eu]
  refine G_i2l (pc := 55) dX1_compare_55 (by omega) ?_
  refine G_iload_3 (pc := 56) dX1_compare_56 ?_
  refine G_aload_0 (pc := 57) dX1_compare_57 ?_
  refine G_kref (pc := 58) dX1_compare_58 rfl ht hz rfl ?_
  refine G_iload_1 (pc := 61) dX1_compare_61 ?_
  refine G_ki (pc := 62) dX1_compare_62 ht hz rfl rfl (by omega) (fun b62 => ?_)
  refine G_isub (pc := 63) dX1_compare_63 ?_
  simp only [es, eu]
  refine G_i2l (pc := 64) dX1_compare_64 (by omega) ?_
  refine G_lmul (pc := 65) dX1_compare_65 ?_
  refine G_ladd (pc := 66) dX1_compare_66 ?_
  rw [e1]
  refine G_lstore_8 (pc := 67) dX1_compare_67 (by decide) rfl ?_
  refine G_aload_0 (pc := 69) dX1_compare_69 ?_
  refine G_kref (pc := 70) dX1_compare_70 rfl ht hz rfl ?_
  refine G_iload_2 (pc := 73) dX1_compare_73 ?_
  refine G_ki (pc := 74) dX1_compare_74 ht hz rfl rfl (by omega) (fun b74 => ?_)
  simp only [es, eu]
  refine G_i2l (pc := 75) dX1_compare_75 (by omega) ?_
  refine G_lload_6 (pc := 76) dX1_compare_76 ?_
  refine G_lmul (pc := 78) dX1_compare_78 ?_
  refine G_aload_0 (pc := 79) dX1_compare_79 ?_
  refine G_kref (pc := 80) dX1_compare_80 rfl ht hz rfl ?_
  refine G_iload_2 (pc := 83) dX1_compare_83 ?_
  refine G_ki (pc := 84) dX1_compare_84 ht hz rfl rfl (by omega) (fun b84 => ?_)
  refine G_aload_0 (pc := 85) dX1_compare_85 ?_
  refine G_kref (pc := 86) dX1_compare_86 rfl ht hz rfl ?_
  refine G_iload_2 (pc := 89) dX1_compare_89 ?_
  refine G_ki (pc := 90) dX1_compare_90 ht hz rfl rfl (by omega) (fun b90 => ?_)
  refine G_isub (pc := 91) dX1_compare_91 ?_
  simp only [es, eu]
  refine G_i2l (pc := 92) dX1_compare_92 (by omega) ?_
  refine G_iload_3 (pc := 93) dX1_compare_93 ?_
  refine G_aload_0 (pc := 94) dX1_compare_94 ?_
  refine G_kref (pc := 95) dX1_compare_95 rfl ht hz rfl ?_
  refine G_iload_2 (pc := 98) dX1_compare_98 ?_
  refine G_ki (pc := 99) dX1_compare_99 ht hz rfl rfl (by omega) (fun b99 => ?_)
  refine G_isub (pc := 100) dX1_compare_100 ?_
  simp only [es, eu]
  refine G_i2l (pc := 101) dX1_compare_101 (by omega) ?_
  refine G_lmul (pc := 102) dX1_compare_102 ?_
  refine G_ladd (pc := 103) dX1_compare_103 ?_
  rw [e2]
  refine G_lstore_10 (pc := 104) dX1_compare_104 (by decide) rfl ?_
  refine G_lload_8 (pc := 106) dX1_compare_106 ?_
  refine G_lload_6 (pc := 108) dX1_compare_108 ?_
  refine G_lmul (pc := 110) dX1_compare_110 ?_
  refine G_lload_10 (pc := 111) dX1_compare_111 ?_
  refine G_lload_4 (pc := 113) dX1_compare_113 ?_
  refine G_lmul (pc := 115) dX1_compare_115 ?_
  refine G_lsub (pc := 116) dX1_compare_116 ?_
  refine G_lstore_12 (pc := 117) dX1_compare_117 (by decide) rfl ?_
  refine G_lload_12 (pc := 119) dX1_compare_119 ?_
  refine G_pS1 (pc := 121) dX1_compare_121 rfl rfl (pu_signum (by omega)) (by omega) (by omega) (by omega) (Nat.le_of_ble_eq_true rfl) ?_
  refine G_lload_4 (pc := 124) dX1_compare_124 ?_
  refine G_pS1 (pc := 126) dX1_compare_126 rfl rfl (pu_signum (by omega)) (by omega) (by omega) (by omega) (Nat.le_of_ble_eq_true rfl) ?_
  refine G_imul (pc := 129) dX1_compare_129 ?_
  refine G_lload_6 (pc := 130) dX1_compare_130 ?_
  refine G_pS1 (pc := 132) dX1_compare_132 rfl rfl (pu_signum (by omega)) (by omega) (by omega) (by omega) (Nat.le_of_ble_eq_true rfl) ?_
  refine G_imul (pc := 135) dX1_compare_135 ?_
  refine G_ireturn (pc := 136) dX1_compare_136 rfl rfl (by omega) (by omega) ?_
  exact ⟨_, rfl, _, rfl, rfl, rfl⟩
/-- the segment next below a place, of the first n -/
noncomputable def ksb (S : mS) (x y : Int) : Nat → Int
  | 0 => -1
  | n + 1 => zI (S.2 1 n = 1 ∧ kov S n x ∧ kab S n x y ∧ (ksb S x y n < 0 ∨ 0 < kcp S n (ksb S x y n).toNat x)) (n : Int) (ksb S x y n)
theorem ksb_b (S : mS) (x y : Int) (n : Nat) : -1 ≤ ksb S x y n ∧ ksb S x y n < n ∧ (0 ≤ ksb S x y n → S.2 1 (ksb S x y n).toNat = 1) := by
  induction n with
  | zero => simp [ksb]
  | succ n ih =>
    by_cases c : S.2 1 n = 1 ∧ kov S n x ∧ kab S n x y ∧ (ksb S x y n < 0 ∨ 0 < kcp S n (ksb S x y n).toNat x)
    · rw [ksb, zI_pos c]; refine ⟨by omega, by omega, fun _ => ?_⟩; rw [Int.toNat_natCast]; exact c.1
    · rw [ksb, zI_neg c]; exact ⟨ih.1, by omega, ih.2.2⟩
theorem pu_X1_segmentBelow (ht : zT E h T) (hz : zK E T S) (b : ∀ s, s < 60 → S.2 1 s = 1 → kIn S s) {x y : Int} (hx : -16000 ≤ x ∧ x ≤ 16000) (hy : -16000 ≤ y ∧ y ≤ 16000) : gPu E l gX1_segmentBelow 4 [.ref (gBase E), vI x, vI y] h (vI (ksb S x y 60)) := by
  intro d hd
  refine gOk_of gmok_X1_segmentBelow rfl (Nat.le_of_ble_eq_true rfl) (L := [some _, some _, some _, none, none]) rfl ?_
  obtain ⟨Q, hQ⟩ : ∃ Q, Q = gRet (gRv (fun w h' => w = vI (ksb S x y 60) ∧ h' = h)) := ⟨_, rfl⟩
  rw [← hQ]
  have k5 : ∀ (n k : Nat), k + n = 60 → G E l gX1_segmentBelow d 0 0 Q 5 [some (.ref (gBase E)), some (vI x), some (vI y), some (vI (ksb S x y k)), some (vI k)] [] h 0 0 := by
    intro n
    induction n with
    | zero =>
      intro k hn
      have ek : k = 60 := by omega
      subst ek
      refine G_iload_4 (pc := 5) dX1_segmentBelow_5 ?_
      refine G_bipush (pc := 7) dX1_segmentBelow_7 (by omega) ?_
      refine G_icmp_ge (pc := 9) 67 dX1_segmentBelow_9 (by decide) (by omega) (by omega) (fun c9 => ?_) (fun c9 => ?_)
      · skip
        refine G_iload_3 (pc := 67) dX1_segmentBelow_67 ?_
        refine G_ireturn (pc := 68) dX1_segmentBelow_68 rfl rfl (by omega) (by omega) ?_
        subst hQ
        exact ⟨_, rfl, _, rfl, rfl, rfl⟩
      · exact absurd c9 (by omega)
    | succ n ih =>
      intro k hn
      have hb := ksb_b S x y k
      have ekn : (k : Int).toNat = k := by omega
      have go : ∀ v : Int, v = ksb S x y (k + 1) → G E l gX1_segmentBelow d 0 0 Q 61 [some (.ref (gBase E)), some (vI x), some (vI y), some (vI v), some (vI k)] [] h 0 0 := by
        intro v hv
        subst hv
        refine G_iinc_4 (pc := 61) dX1_segmentBelow_61 (by decide) rfl ?_
        refine G_goto (pc := 64) 5 dX1_segmentBelow_64 (by decide) ?_
        rw [show ((k : Int) + 1) = ((k + 1 : Nat) : Int) by omega]
        exact ih (k + 1) (by omega)
      have gp : (S.2 1 k = 1 ∧ kov S k x ∧ kab S k x y ∧ (ksb S x y k < 0 ∨ 0 < kcp S k (ksb S x y k).toNat x)) → (k : Int) = ksb S x y (k + 1) := fun c => by rw [ksb, zI_pos c]
      have gn : ¬ (S.2 1 k = 1 ∧ kov S k x ∧ kab S k x y ∧ (ksb S x y k < 0 ∨ 0 < kcp S k (ksb S x y k).toNat x)) → ksb S x y k = ksb S x y (k + 1) := fun c => by rw [ksb, zI_neg c]
      refine G_iload_4 (pc := 5) dX1_segmentBelow_5 ?_
      refine G_bipush (pc := 7) dX1_segmentBelow_7 (by omega) ?_
      refine G_icmp_ge (pc := 9) 67 dX1_segmentBelow_9 (by decide) (by omega) (by omega) (fun c9 => ?_) (fun c9 => ?_)
      · exact absurd c9 (by omega)
      · skip
        refine G_aload_0 (pc := 12) dX1_segmentBelow_12 ?_
        refine G_kref (pc := 13) dX1_segmentBelow_13 rfl ht hz rfl ?_
        refine G_iload_4 (pc := 16) dX1_segmentBelow_16 ?_
        refine G_kb (pc := 18) dX1_segmentBelow_18 ht hz (by omega) (fun b18 => ?_)
        rw [ekn] at b18 ⊢
        refine G_if_eq (pc := 19) 61 dX1_segmentBelow_19 (by decide) (by omega) (fun c19 => ?_) (fun c19 => ?_)
        · skip
          first | exact go _ (gn (fun q => by omega)) | exact go _ (gn (fun q => c29 q.2.1)) | exact go _ (gn (fun q => c40 q.2.2.1)) | exact go _ (gp ⟨hl, c29, c40, by omega⟩)
        · skip
          have hl : S.2 1 k = 1 := by omega
          have bk := b k (by omega) hl
          refine G_aload_0 (pc := 22) dX1_segmentBelow_22 ?_
          refine G_iload_4 (pc := 23) dX1_segmentBelow_23 ?_
          refine G_iload_1 (pc := 25) dX1_segmentBelow_25 ?_
          refine G_pV2 (pc := 26) dX1_segmentBelow_26 rfl (zK_k ht hz) (by decide) rfl (pu_X1_isOver ht hz (by omega) bk hx) (by omega) (by omega) (by omega) (Nat.le_of_ble_eq_true rfl) ?_
          refine G_ifb_eq (pc := 29) 61 dX1_segmentBelow_29 (by decide) (fun c29 => ?_) (fun c29 => ?_)
          · skip
            first | exact go _ (gn (fun q => by omega)) | exact go _ (gn (fun q => c29 q.2.1)) | exact go _ (gn (fun q => c40 q.2.2.1)) | exact go _ (gp ⟨hl, c29, c40, by omega⟩)
          · skip
            refine G_aload_0 (pc := 32) dX1_segmentBelow_32 ?_
            refine G_iload_4 (pc := 33) dX1_segmentBelow_33 ?_
            refine G_iload_1 (pc := 35) dX1_segmentBelow_35 ?_
            refine G_iload_2 (pc := 36) dX1_segmentBelow_36 ?_
            refine G_pV3 (pc := 37) dX1_segmentBelow_37 rfl (zK_k ht hz) (by decide) rfl (pu_X1_isAbove ht hz (by omega) bk hx hy) (by omega) (by omega) (by omega) (Nat.le_of_ble_eq_true rfl) ?_
            refine G_ifb_eq (pc := 40) 61 dX1_segmentBelow_40 (by decide) (fun c40 => ?_) (fun c40 => ?_)
            · skip
              first | exact go _ (gn (fun q => by omega)) | exact go _ (gn (fun q => c29 q.2.1)) | exact go _ (gn (fun q => c40 q.2.2.1)) | exact go _ (gp ⟨hl, c29, c40, by omega⟩)
            · skip
              refine G_iload_3 (pc := 43) dX1_segmentBelow_43 ?_
              refine G_if_lt (pc := 44) 58 dX1_segmentBelow_44 (by decide) (by omega) (fun c44 => ?_) (fun c44 => ?_)
              · skip
                refine G_iload_4 (pc := 58) dX1_segmentBelow_58 ?_
                refine G_istore_3 (pc := 60) dX1_segmentBelow_60 (by decide) rfl ?_
                first | exact go _ (gn (fun q => by omega)) | exact go _ (gn (fun q => c29 q.2.1)) | exact go _ (gn (fun q => c40 q.2.2.1)) | exact go _ (gp ⟨hl, c29, c40, by omega⟩)
              · skip
                obtain ⟨j, ej⟩ : ∃ j : Nat, ksb S x y k = j := ⟨(ksb S x y k).toNat, by omega⟩
                have hlj : S.2 1 j = 1 := by (have := hb.2.2 (by omega); rw [ej, Int.toNat_natCast] at this; exact this)
                rw [ej] at gp gn hb ⊢
                rw [Int.toNat_natCast] at gp gn
                have hcp := kcp_b S k j x
                refine G_aload_0 (pc := 47) dX1_segmentBelow_47 ?_
                refine G_iload_4 (pc := 48) dX1_segmentBelow_48 ?_
                refine G_iload_3 (pc := 50) dX1_segmentBelow_50 ?_
                refine G_iload_1 (pc := 51) dX1_segmentBelow_51 ?_
                refine G_pV3 (pc := 52) dX1_segmentBelow_52 rfl (zK_k ht hz) (by decide) rfl (pu_X1_compare ht hz (by omega) (by omega) bk (b j (by omega) hlj) hx) (by omega) (by omega) (by omega) (Nat.le_of_ble_eq_true rfl) ?_
                refine G_if_le (pc := 55) 61 dX1_segmentBelow_55 (by decide) (by omega) (fun c55 => ?_) (fun c55 => ?_)
                · skip
                  first | exact go _ (gn (fun q => by omega)) | exact go _ (gn (fun q => c29 q.2.1)) | exact go _ (gn (fun q => c40 q.2.2.1)) | exact go _ (gp ⟨hl, c29, c40, by omega⟩)
                · skip
                  refine G_iload_4 (pc := 58) dX1_segmentBelow_58 ?_
                  refine G_istore_3 (pc := 60) dX1_segmentBelow_60 (by decide) rfl ?_
                  first | exact go _ (gn (fun q => by omega)) | exact go _ (gn (fun q => c29 q.2.1)) | exact go _ (gn (fun q => c40 q.2.2.1)) | exact go _ (gp ⟨hl, c29, c40, by omega⟩)
  refine G_iconst (pc := 0) dX1_segmentBelow_0 ?_
  refine G_istore_3 (pc := 1) dX1_segmentBelow_1 (by decide) rfl ?_
  refine G_iconst (pc := 2) dX1_segmentBelow_2 ?_
  refine G_istore_4 (pc := 3) dX1_segmentBelow_3 (by decide) rfl ?_
  exact k5 60 0 rfl
end CLS2
