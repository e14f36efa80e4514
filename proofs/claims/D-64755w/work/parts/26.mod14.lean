set_option maxRecDepth 100000
def sHg (S : mS) (x y : Int) (s : Nat) : Int := hgtF (S.2 2 (2 * s)) (S.2 3 (2 * s)) (S.2 2 (2 * s + 1)) (S.2 3 (2 * s + 1)) x y
def sWd (S : mS) (s : Nat) : Int := wdF (S.2 2 (2 * s)) (S.2 2 (2 * s + 1))
def sMt (S : mS) (x y : Int) (s : Nat) : Prop := metF (S.2 2 (2 * s)) (S.2 3 (2 * s)) (S.2 2 (2 * s + 1)) (S.2 3 (2 * s + 1)) x y
noncomputable def abR (S : mS) (x y : Int) : Nat → Int
  | 0 => -1
  | n + 1 => zI (S.2 1 n = 1 ∧ sMt S x y n ∧ (abR S x y n < 0 ∨ sHg S x y n * sWd S (abR S x y n).toNat < sHg S x y (abR S x y n).toNat * sWd S n)) (n : Int) (abR S x y n)
theorem abR_b (S : mS) (x y : Int) (n : Nat) : -1 ≤ abR S x y n ∧ abR S x y n < n ∧ (0 ≤ abR S x y n → S.2 1 (abR S x y n).toNat = 1) := by
  induction n with
  | zero => simp [abR]
  | succ n ih =>
    by_cases c : S.2 1 n = 1 ∧ sMt S x y n ∧ (abR S x y n < 0 ∨ sHg S x y n * sWd S (abR S x y n).toNat < sHg S x y (abR S x y n).toNat * sWd S n)
    · rw [abR, zI_pos c]
      exact ⟨by omega, by omega, fun _ => by rw [Int.toNat_natCast]; exact c.1⟩
    · rw [abR, zI_neg c]
      exact ⟨ih.1, by omega, ih.2.2⟩
theorem mul_hw {a b : Int} (ha : -3000000000 ≤ a ∧ a ≤ 3000000000) (hb : 1 ≤ b ∧ b ≤ 32000) : -96000000000000 ≤ a * b ∧ a * b ≤ 96000000000000 := by
  have h1 := Int.mul_nonneg (show 0 ≤ 3000000000 - a by omega) (show 0 ≤ b by omega)
  have h2 := Int.mul_nonneg (show 0 ≤ 3000000000 + a by omega) (show 0 ≤ b by omega)
  constructor <;> grind
section MOD14
variable {E : gV} {l : Launch} {S : mS}
theorem mp_X2_width {h : gH} (hm : zMo E h S) {s : Nat} (hs : s < 60) {cx dx : Int} (ecx : S.2 2 (2 * s) = cx) (edx : S.2 2 (2 * s + 1) = dx) (h1 : -16000 ≤ cx ∧ cx ≤ 16000) (h2 : -16000 ≤ dx ∧ dx ≤ 16000) :
    gPu E l gX2_width 1 [.ref (gBase E + 12), vI s] h (vJ (wdF cx dx)) := by
  intro d hd
  have e1 : (2 * (s : Int)).toNat = 2 * s := by omega
  have e2 : (2 * (s : Int) + 1).toNat = 2 * s + 1 := by omega
  refine gOk_of gmok_X2_width rfl (Nat.le_of_ble_eq_true rfl) (L := [some _, some _, none]) rfl ?_
  refine G_aload_0 (pc := 0) dX2_width_0 ?_
  refine G_mref (pc := 1) dX2_width_1 rfl hm rfl ?_
  refine G_iconst (pc := 4) dX2_width_4 ?_
  refine G_iload_1 (pc := 5) dX2_width_5 ?_
  refine G_imul (pc := 6) dX2_width_6 ?_
  refine G_iconst (pc := 7) dX2_width_7 ?_
  refine G_iadd (pc := 8) dX2_width_8 ?_
  refine G_mi (pc := 9) (n := 120) dX2_width_9 hm rfl rfl rfl (by omega) (fun b9 => ?_)
  refine G_aload_0 (pc := 10) dX2_width_10 ?_
  refine G_mref (pc := 11) dX2_width_11 rfl hm rfl ?_
  refine G_iconst (pc := 14) dX2_width_14 ?_
  refine G_iload_1 (pc := 15) dX2_width_15 ?_
  refine G_imul (pc := 16) dX2_width_16 ?_
  refine G_mi (pc := 17) (n := 120) dX2_width_17 hm rfl rfl rfl (by omega) (fun b17 => ?_)
  simp only [e1, e2, ecx, edx]
  refine G_isub (pc := 18) dX2_width_18 ?_
  refine G_istore_2 (pc := 19) dX2_width_19 (by decide) rfl ?_
  refine G_iload_2 (pc := 20) dX2_width_20 ?_
  refine G_if_ne (pc := 21) 28 dX2_width_21 (by decide) (by omega) (fun c21 => ?_) (fun c21 => ?_)
  · skip
    refine G_iload_2 (pc := 28) dX2_width_28 ?_
    refine G_if_ge (pc := 29) 38 dX2_width_29 (by decide) (by omega) (fun c29 => ?_) (fun c29 => ?_)
    · skip
      refine G_iload_2 (pc := 38) dX2_width_38 ?_
      refine G_i2l (pc := 39) dX2_width_39 (by omega) ?_
      refine G_lreturn (pc := 40) dX2_width_40 rfl (by omega) (by omega) ?_
      exact ⟨_, rfl, _, rfl, by unfold wdF; congr 2; split <;> (try split) <;> omega, rfl⟩
    · skip
      refine G_iload_2 (pc := 32) dX2_width_32 ?_
      refine G_ineg (pc := 33) dX2_width_33 ?_
      refine G_i2l (pc := 34) dX2_width_34 (by omega) ?_
      refine G_goto (pc := 35) 40 dX2_width_35 (by decide) ?_
      refine G_lreturn (pc := 40) dX2_width_40 rfl (by omega) (by omega) ?_
      exact ⟨_, rfl, _, rfl, by unfold wdF; congr 2; split <;> (try split) <;> omega, rfl⟩
  · skip
    refine G_lconst1 (pc := 24) dX2_width_24 ?_
    refine G_goto (pc := 25) 40 dX2_width_25 (by decide) ?_
    refine G_lreturn (pc := 40) dX2_width_40 rfl (by omega) (by omega) ?_
    exact ⟨_, rfl, _, rfl, by unfold wdF; congr 2; split <;> (try split) <;> omega, rfl⟩
theorem mp_X2_isMet {h : gH} (hm : zMo E h S) {s : Nat} (hs : s < 60) {x y cx cy dx dy : Int} (ecx : S.2 2 (2 * s) = cx) (ecy : S.2 3 (2 * s) = cy) (edx : S.2 2 (2 * s + 1) = dx) (edy : S.2 3 (2 * s + 1) = dy) (h1 : -16000 ≤ cx ∧ cx ≤ 16000) (h2 : -16000 ≤ dx ∧ dx ≤ 16000) (h3 : -16000 ≤ cy ∧ cy ≤ 16000) (h4 : -16000 ≤ dy ∧ dy ≤ 16000) (h5 : -16000 ≤ x ∧ x ≤ 16000) (h6 : -16000 ≤ y ∧ y ≤ 16000) :
    gPu E l gX2_isMet 3 [.ref (gBase E + 12), vI s, vI x, vI y] h (vI (bI (metF cx cy dx dy x y))) := by
  intro d hd
  have e1 : (2 * (s : Int)).toNat = 2 * s := by omega
  have e2 : (2 * (s : Int) + 1).toNat = 2 * s + 1 := by omega
  have b1 := hgtF_b h1 h2 h3 h4 h5 h6
  have b2 := wdF_b h1 h2
  have b3 := mul_hw (a := y) (b := wdF cx dx) (by omega) b2
  refine gOk_of gmok_X2_isMet rfl (Nat.le_of_ble_eq_true rfl) (L := [some _, some _, some _, some _, none, none, none]) rfl ?_
  obtain ⟨Q, hQ⟩ : ∃ Q, Q = gRet (gRv fun v h' => v = vI (bI (metF cx cy dx dy x y)) ∧ h' = h) := ⟨_, rfl⟩
  rw [← hQ]
  have fin : ∀ z : Int, z = bI (metF cx cy dx dy x y) → Q (.returned (some (vI z))) h := by
    intro z hz
    subst hz; subst hQ
    exact ⟨_, rfl, _, rfl, rfl, rfl⟩
  refine G_aload_0 (pc := 0) dX2_isMet_0 ?_
  refine G_mref (pc := 1) dX2_isMet_1 rfl hm rfl ?_
  refine G_iconst (pc := 4) dX2_isMet_4 ?_
  refine G_iload_1 (pc := 5) dX2_isMet_5 ?_
  refine G_imul (pc := 6) dX2_isMet_6 ?_
  refine G_mi (pc := 7) (n := 120) dX2_isMet_7 hm rfl rfl rfl (by omega) (fun b7 => ?_)
  simp only [e1, ecx]
  refine G_istore_4 (pc := 8) dX2_isMet_8 (by decide) rfl ?_
  refine G_aload_0 (pc := 10) dX2_isMet_10 ?_
  refine G_mref (pc := 11) dX2_isMet_11 rfl hm rfl ?_
  refine G_iconst (pc := 14) dX2_isMet_14 ?_
  refine G_iload_1 (pc := 15) dX2_isMet_15 ?_
  refine G_imul (pc := 16) dX2_isMet_16 ?_
  refine G_iconst (pc := 17) dX2_isMet_17 ?_
  refine G_iadd (pc := 18) dX2_isMet_18 ?_
  refine G_mi (pc := 19) (n := 120) dX2_isMet_19 hm rfl rfl rfl (by omega) (fun b19 => ?_)
  simp only [e2, edx]
  refine G_istore_5 (pc := 20) dX2_isMet_20 (by decide) rfl ?_
  refine G_iload_4 (pc := 22) dX2_isMet_22 ?_
  refine G_iload_5 (pc := 24) dX2_isMet_24 ?_
  refine G_icmp_ne (pc := 26) 54 dX2_isMet_26 (by decide) (by omega) (by omega) (fun c26 => ?_) (fun c26 => ?_)
  · skip
    refine G_iload_4 (pc := 54) dX2_isMet_54 ?_
    refine G_iload_5 (pc := 56) dX2_isMet_56 ?_
    refine G_icmp_ge (pc := 58) 81 dX2_isMet_58 (by decide) (by omega) (by omega) (fun c58 => ?_) (fun c58 => ?_)
    · skip
      refine G_iload_2 (pc := 81) dX2_isMet_81 ?_
      refine G_iload_5 (pc := 82) dX2_isMet_82 ?_
      refine G_icmp_lt (pc := 84) 97 dX2_isMet_84 (by decide) (by omega) (by omega) (fun c84 => ?_) (fun c84 => ?_)
      · skip
        refine G_iconst (pc := 97) dX2_isMet_97 ?_
        refine G_istore_6 (pc := 98) dX2_isMet_98 (by decide) rfl ?_
        refine G_iload_6 (pc := 100) dX2_isMet_100 ?_
        refine G_if_eq (pc := 102) 128 dX2_isMet_102 (by decide) (by decide) (fun _ => ?_) (fun q => absurd q (by decide))
        refine G_iconst (pc := 128) dX2_isMet_128 ?_
        refine G_ireturn (pc := 129) dX2_isMet_129 rfl rfl (by omega) (by omega) ?_
        refine fin _ ?_
        unfold metF
        first | exact (bI_pos (by omega)).symm | exact (bI_neg (by omega)).symm
      · skip
        refine G_iload_2 (pc := 87) dX2_isMet_87 ?_
        refine G_iload_4 (pc := 88) dX2_isMet_88 ?_
        refine G_icmp_gt (pc := 90) 97 dX2_isMet_90 (by decide) (by omega) (by omega) (fun c90 => ?_) (fun c90 => ?_)
        · skip
          refine G_iconst (pc := 97) dX2_isMet_97 ?_
          refine G_istore_6 (pc := 98) dX2_isMet_98 (by decide) rfl ?_
          refine G_iload_6 (pc := 100) dX2_isMet_100 ?_
          refine G_if_eq (pc := 102) 128 dX2_isMet_102 (by decide) (by decide) (fun _ => ?_) (fun q => absurd q (by decide))
          refine G_iconst (pc := 128) dX2_isMet_128 ?_
          refine G_ireturn (pc := 129) dX2_isMet_129 rfl rfl (by omega) (by omega) ?_
          refine fin _ ?_
          unfold metF
          first | exact (bI_pos (by omega)).symm | exact (bI_neg (by omega)).symm
        · skip
          refine G_iconst (pc := 93) dX2_isMet_93 ?_
          refine G_goto (pc := 94) 98 dX2_isMet_94 (by decide) ?_
          refine G_istore_6 (pc := 98) dX2_isMet_98 (by decide) rfl ?_
          refine G_iload_6 (pc := 100) dX2_isMet_100 ?_
          refine G_if_eq (pc := 102) 128 dX2_isMet_102 (by decide) (by decide) (fun q => absurd q (by decide)) (fun _ => ?_)
          refine G_aload_0 (pc := 105) dX2_isMet_105 ?_
          refine G_iload_1 (pc := 106) dX2_isMet_106 ?_
          refine G_iload_2 (pc := 107) dX2_isMet_107 ?_
          refine G_iload_3 (pc := 108) dX2_isMet_108 ?_
          refine G_pV3 (pc := 109) dX2_isMet_109 rfl hm.1 (by decide) rfl (mp_X2_height hm hs ecx ecy edx edy h1 h2 h3 h4 h5 h6) (by omega) (by omega) (by omega) (Nat.le_of_ble_eq_true rfl) ?_
          refine G_iload_3 (pc := 112) dX2_isMet_112 ?_
          refine G_i2l (pc := 113) dX2_isMet_113 (by omega) ?_
          refine G_aload_0 (pc := 114) dX2_isMet_114 ?_
          refine G_iload_1 (pc := 115) dX2_isMet_115 ?_
          refine G_pV1 (pc := 116) dX2_isMet_116 rfl hm.1 (by decide) rfl (mp_X2_width hm hs ecx edx h1 h2) (by omega) (by omega) (by omega) (Nat.le_of_ble_eq_true rfl) ?_
          refine G_lmul (pc := 119) dX2_isMet_119 ?_
          refine G_lcmp_le (pc := 120) 128 dX2_isMet_120 dX2_isMet_121 (by decide) (by omega) (by omega) (fun c120 => ?_) (fun c120 => ?_)
          · skip
            refine G_iconst (pc := 128) dX2_isMet_128 ?_
            refine G_ireturn (pc := 129) dX2_isMet_129 rfl rfl (by omega) (by omega) ?_
            refine fin _ ?_
            unfold metF
            first | exact (bI_pos (by omega)).symm | exact (bI_neg (by omega)).symm
          · skip
            refine G_iconst (pc := 124) dX2_isMet_124 ?_
            refine G_goto (pc := 125) 129 dX2_isMet_125 (by decide) ?_
            refine G_ireturn (pc := 129) dX2_isMet_129 rfl rfl (by omega) (by omega) ?_
            refine fin _ ?_
            unfold metF
            first | exact (bI_pos (by omega)).symm | exact (bI_neg (by omega)).symm
    · skip
      refine G_iload_2 (pc := 61) dX2_isMet_61 ?_
      refine G_iload_4 (pc := 62) dX2_isMet_62 ?_
      refine G_icmp_lt (pc := 64) 77 dX2_isMet_64 (by decide) (by omega) (by omega) (fun c64 => ?_) (fun c64 => ?_)
      · skip
        refine G_iconst (pc := 77) dX2_isMet_77 ?_
        refine G_goto (pc := 78) 98 dX2_isMet_78 (by decide) ?_
        refine G_istore_6 (pc := 98) dX2_isMet_98 (by decide) rfl ?_
        refine G_iload_6 (pc := 100) dX2_isMet_100 ?_
        refine G_if_eq (pc := 102) 128 dX2_isMet_102 (by decide) (by decide) (fun _ => ?_) (fun q => absurd q (by decide))
        refine G_iconst (pc := 128) dX2_isMet_128 ?_
        refine G_ireturn (pc := 129) dX2_isMet_129 rfl rfl (by omega) (by omega) ?_
        refine fin _ ?_
        unfold metF
        first | exact (bI_pos (by omega)).symm | exact (bI_neg (by omega)).symm
      · skip
        refine G_iload_2 (pc := 67) dX2_isMet_67 ?_
        refine G_iload_5 (pc := 68) dX2_isMet_68 ?_
        refine G_icmp_gt (pc := 70) 77 dX2_isMet_70 (by decide) (by omega) (by omega) (fun c70 => ?_) (fun c70 => ?_)
        · skip
          refine G_iconst (pc := 77) dX2_isMet_77 ?_
          refine G_goto (pc := 78) 98 dX2_isMet_78 (by decide) ?_
          refine G_istore_6 (pc := 98) dX2_isMet_98 (by decide) rfl ?_
          refine G_iload_6 (pc := 100) dX2_isMet_100 ?_
          refine G_if_eq (pc := 102) 128 dX2_isMet_102 (by decide) (by decide) (fun _ => ?_) (fun q => absurd q (by decide))
          refine G_iconst (pc := 128) dX2_isMet_128 ?_
          refine G_ireturn (pc := 129) dX2_isMet_129 rfl rfl (by omega) (by omega) ?_
          refine fin _ ?_
          unfold metF
          first | exact (bI_pos (by omega)).symm | exact (bI_neg (by omega)).symm
        · skip
          refine G_iconst (pc := 73) dX2_isMet_73 ?_
          refine G_goto (pc := 74) 98 dX2_isMet_74 (by decide) ?_
          refine G_istore_6 (pc := 98) dX2_isMet_98 (by decide) rfl ?_
          refine G_iload_6 (pc := 100) dX2_isMet_100 ?_
          refine G_if_eq (pc := 102) 128 dX2_isMet_102 (by decide) (by decide) (fun q => absurd q (by decide)) (fun _ => ?_)
          refine G_aload_0 (pc := 105) dX2_isMet_105 ?_
          refine G_iload_1 (pc := 106) dX2_isMet_106 ?_
          refine G_iload_2 (pc := 107) dX2_isMet_107 ?_
          refine G_iload_3 (pc := 108) dX2_isMet_108 ?_
          refine G_pV3 (pc := 109) dX2_isMet_109 rfl hm.1 (by decide) rfl (mp_X2_height hm hs ecx ecy edx edy h1 h2 h3 h4 h5 h6) (by omega) (by omega) (by omega) (Nat.le_of_ble_eq_true rfl) ?_
          refine G_iload_3 (pc := 112) dX2_isMet_112 ?_
          refine G_i2l (pc := 113) dX2_isMet_113 (by omega) ?_
          refine G_aload_0 (pc := 114) dX2_isMet_114 ?_
          refine G_iload_1 (pc := 115) dX2_isMet_115 ?_
          refine G_pV1 (pc := 116) dX2_isMet_116 rfl hm.1 (by decide) rfl (mp_X2_width hm hs ecx edx h1 h2) (by omega) (by omega) (by omega) (Nat.le_of_ble_eq_true rfl) ?_
          refine G_lmul (pc := 119) dX2_isMet_119 ?_
          refine G_lcmp_le (pc := 120) 128 dX2_isMet_120 dX2_isMet_121 (by decide) (by omega) (by omega) (fun c120 => ?_) (fun c120 => ?_)
          · skip
            refine G_iconst (pc := 128) dX2_isMet_128 ?_
            refine G_ireturn (pc := 129) dX2_isMet_129 rfl rfl (by omega) (by omega) ?_
            refine fin _ ?_
            unfold metF
            first | exact (bI_pos (by omega)).symm | exact (bI_neg (by omega)).symm
          · skip
            refine G_iconst (pc := 124) dX2_isMet_124 ?_
            refine G_goto (pc := 125) 129 dX2_isMet_125 (by decide) ?_
            refine G_ireturn (pc := 129) dX2_isMet_129 rfl rfl (by omega) (by omega) ?_
            refine fin _ ?_
            unfold metF
            first | exact (bI_pos (by omega)).symm | exact (bI_neg (by omega)).symm
  · skip
    refine G_iload_4 (pc := 29) dX2_isMet_29 ?_
    refine G_iload_2 (pc := 31) dX2_isMet_31 ?_
    refine G_icmp_ne (pc := 32) 52 dX2_isMet_32 (by decide) (by omega) (by omega) (fun c32 => ?_) (fun c32 => ?_)
    · skip
      refine G_iconst (pc := 52) dX2_isMet_52 ?_
      refine G_ireturn (pc := 53) dX2_isMet_53 rfl rfl (by omega) (by omega) ?_
      refine fin _ ?_
      unfold metF
      first | exact (bI_pos (by omega)).symm | exact (bI_neg (by omega)).symm
    · skip
      refine G_aload_0 (pc := 35) dX2_isMet_35 ?_
      refine G_iload_1 (pc := 36) dX2_isMet_36 ?_
      refine G_iload_2 (pc := 37) dX2_isMet_37 ?_
      refine G_iload_3 (pc := 38) dX2_isMet_38 ?_
      refine G_pV3 (pc := 39) dX2_isMet_39 rfl hm.1 (by decide) rfl (mp_X2_height hm hs ecx ecy edx edy h1 h2 h3 h4 h5 h6) (by omega) (by omega) (by omega) (Nat.le_of_ble_eq_true rfl) ?_
      refine G_iload_3 (pc := 42) dX2_isMet_42 ?_
      refine G_i2l (pc := 43) dX2_isMet_43 (by omega) ?_
      refine G_lcmp_lt (pc := 44) 52 dX2_isMet_44 dX2_isMet_45 (by decide) (by omega) (by omega) (fun c44 => ?_) (fun c44 => ?_)
      · skip
        refine G_iconst (pc := 52) dX2_isMet_52 ?_
        refine G_ireturn (pc := 53) dX2_isMet_53 rfl rfl (by omega) (by omega) ?_
        refine fin _ ?_
        unfold metF
        first | exact (bI_pos (by omega)).symm | exact (bI_neg (by omega)).symm
      · skip
        refine G_iconst (pc := 48) dX2_isMet_48 ?_
        refine G_goto (pc := 49) 53 dX2_isMet_49 (by decide) ?_
        refine G_ireturn (pc := 53) dX2_isMet_53 rfl rfl (by omega) (by omega) ?_
        refine fin _ ?_
        unfold metF
        first | exact (bI_pos (by omega)).symm | exact (bI_neg (by omega)).symm
theorem mo_X2_above (K : zOK (mP S)) (cur : S.1 4 = 1 → mCur S) {x y : Int} (hx : -2147483648 ≤ x ∧ x ≤ 2147483647) (hy : -2147483648 ≤ y ∧ y ≤ 2147483647) :
    mOk E l gX2_above 4 [.ref (gBase E + 12), vI x, vI y] S (fun v S' => ∃ w, v = some w ∧ gInt w ∧ S' = mUs S 0 (bI (¬ ((-16000 ≤ x ∧ x ≤ 16000) ∧ (-16000 ≤ y ∧ y ≤ 16000)))) ∧ (((-16000 ≤ x ∧ x ≤ 16000) ∧ (-16000 ≤ y ∧ y ≤ 16000)) → w = vI (abR S x y 60))) := by
  intro h hm d hd
  have hk := gKeepM_rf E h
  refine gOk_of gmok_X2_above rfl (Nat.le_of_ble_eq_true rfl) (L := [some _, some _, some _, none, none, none]) rfl ?_
  obtain ⟨Q, hQ⟩ : ∃ Q, Q = gRet (fun v h' => ∃ S', zMo E h' S' ∧ gKeepM E h h' ∧ ∃ w, v = some w ∧ gInt w ∧ S' = mUs S 0 (bI (¬ ((-16000 ≤ x ∧ x ≤ 16000) ∧ (-16000 ≤ y ∧ y ≤ 16000)))) ∧ (((-16000 ≤ x ∧ x ≤ 16000) ∧ (-16000 ≤ y ∧ y ≤ 16000)) → w = vI (abR S x y 60))) := ⟨_, rfl⟩
  rw [← hQ]
  have k33 : ((-16000 ≤ x ∧ x ≤ 16000) ∧ (-16000 ≤ y ∧ y ≤ 16000)) → ∀ (h1 : gH), zMo E h1 (mUs S 0 0) → gKeepM E h h1 → ∀ (n k : Nat), k + n = 60 → G E l gX2_above d 0 0 Q 33 [some (.ref (gBase E + 12)), some (vI x), some (vI y), some (vI (abR S x y k)), some (vI k), none] [] h1 0 0 := by
    intro hxy h1 hm hk n
    induction n with
    | zero =>
      intro k hn
      have ek : k = 60 := by omega
      subst ek
      refine G_iload_4 (pc := 33) dX2_above_33 ?_
      refine G_bipush (pc := 35) dX2_above_35 (by omega) ?_
      refine G_icmp_ge (pc := 37) 122 dX2_above_37 (by decide) (by omega) (by omega) (fun c37 => ?_) (fun c37 => ?_)
      · skip
        refine G_iload_3 (pc := 122) dX2_above_122 ?_
        refine G_ireturn (pc := 123) dX2_above_123 rfl rfl (by omega) (by omega) ?_
        subst hQ
        exact ⟨_, rfl, _, hm, hk, _, rfl, ⟨_, rfl⟩, by rw [bI_neg (fun z => z hxy)], fun _ => rfl⟩
      · exact absurd c37 (by omega)
    | succ n ih =>
      intro k hn
      have hb := abR_b S x y k
      have go : ∀ b : Int, b = abR S x y (k + 1) → G E l gX2_above d 0 0 Q 116 [some (.ref (gBase E + 12)), some (vI x), some (vI y), some (vI b), some (vI k), none] [] h1 0 0 := by
        intro b hb
        subst hb
        refine G_iinc_4 (pc := 116) dX2_above_116 (by decide) rfl ?_
        refine G_goto (pc := 119) 33 dX2_above_119 (by decide) ?_
        rw [show ((k : Int) + 1) = ((k + 1 : Nat) : Int) by omega]
        exact ih (k + 1) (by omega)
      have gp : (S.2 1 k = 1 ∧ sMt S x y k ∧ (abR S x y k < 0 ∨ sHg S x y k * sWd S (abR S x y k).toNat < sHg S x y (abR S x y k).toNat * sWd S k)) → (k : Int) = abR S x y (k + 1) := fun c => by rw [abR, zI_pos c]
      have gn : ¬ (S.2 1 k = 1 ∧ sMt S x y k ∧ (abR S x y k < 0 ∨ sHg S x y k * sWd S (abR S x y k).toNat < sHg S x y (abR S x y k).toNat * sWd S k)) → abR S x y k = abR S x y (k + 1) := fun c => by rw [abR, zI_neg c]
      have bnd : ∀ s, s < 60 → S.2 1 s = 1 → ((-16000 ≤ S.2 2 (2 * s) ∧ S.2 2 (2 * s) ≤ 16000) ∧ (-16000 ≤ S.2 2 (2 * s + 1) ∧ S.2 2 (2 * s + 1) ≤ 16000)) ∧ ((-16000 ≤ S.2 3 (2 * s) ∧ S.2 3 (2 * s) ≤ 16000) ∧ (-16000 ≤ S.2 3 (2 * s + 1) ∧ S.2 3 (2 * s + 1) ≤ 16000)) := by
        intro s hs hl
        have q1 : (-16000 ≤ S.2 2 (2 * s) ∧ S.2 2 (2 * s) ≤ 16000) ∧ (-16000 ≤ S.2 3 (2 * s) ∧ S.2 3 (2 * s) ≤ 16000) := K.1 (2 * s) (mP_L.mpr ⟨by omega, by rw [show 2 * s / 2 = s by omega]; exact hl⟩)
        have q2 : (-16000 ≤ S.2 2 (2 * s + 1) ∧ S.2 2 (2 * s + 1) ≤ 16000) ∧ (-16000 ≤ S.2 3 (2 * s + 1) ∧ S.2 3 (2 * s + 1) ≤ 16000) := K.1 (2 * s + 1) (mP_L.mpr ⟨by omega, by rw [show (2 * s + 1) / 2 = s by omega]; exact hl⟩)
        exact ⟨⟨q1.1, q2.1⟩, ⟨q1.2, q2.2⟩⟩
      have hH : ∀ s, s < 60 → S.2 1 s = 1 → gPu E l gX2_height 2 [.ref (gBase E + 12), vI s, vI x, vI y] h1 (vJ (sHg S x y s)) := fun s hs hl => mp_X2_height hm hs rfl rfl rfl rfl (bnd s hs hl).1.1 (bnd s hs hl).1.2 (bnd s hs hl).2.1 (bnd s hs hl).2.2 hxy.1 hxy.2
      have hW : ∀ s, s < 60 → S.2 1 s = 1 → gPu E l gX2_width 1 [.ref (gBase E + 12), vI s] h1 (vJ (sWd S s)) := fun s hs hl => mp_X2_width hm hs rfl rfl (bnd s hs hl).1.1 (bnd s hs hl).1.2
      have hbH : ∀ s, s < 60 → S.2 1 s = 1 → -3000000000 ≤ sHg S x y s ∧ sHg S x y s ≤ 3000000000 := fun s hs hl => hgtF_b (bnd s hs hl).1.1 (bnd s hs hl).1.2 (bnd s hs hl).2.1 (bnd s hs hl).2.2 hxy.1 hxy.2
      have hbW : ∀ s, s < 60 → S.2 1 s = 1 → 1 ≤ sWd S s ∧ sWd S s ≤ 32000 := fun s hs hl => wdF_b (bnd s hs hl).1.1 (bnd s hs hl).1.2
      refine G_iload_4 (pc := 33) dX2_above_33 ?_
      refine G_bipush (pc := 35) dX2_above_35 (by omega) ?_
      refine G_icmp_ge (pc := 37) 122 dX2_above_37 (by decide) (by omega) (by omega) (fun c37 => ?_) (fun c37 => ?_)
      · exact absurd c37 (by omega)
      · skip
        refine G_aload_0 (pc := 40) dX2_above_40 ?_
        refine G_mref (pc := 41) dX2_above_41 rfl hm rfl ?_
        refine G_iload_4 (pc := 44) dX2_above_44 ?_
        refine G_mb (pc := 46) dX2_above_46 hm (by omega) (fun b46 => ?_)
        rw [Int.toNat_natCast, show (mUs S 0 0).2 1 k = S.2 1 k from rfl] at *
        refine G_if_eq (pc := 47) 116 dX2_above_47 (by decide) (by omega) (fun c47 => ?_) (fun c47 => ?_)
        · skip
          exact go _ (gn (fun z => by omega))
          skip
        · skip
          have hl : S.2 1 k = 1 := by omega
          refine G_aload_0 (pc := 50) dX2_above_50 ?_
          refine G_iload_4 (pc := 51) dX2_above_51 ?_
          refine G_iload_1 (pc := 53) dX2_above_53 ?_
          refine G_iload_2 (pc := 54) dX2_above_54 ?_
          refine G_pV3 (v := vI (bI (sMt S x y k))) dX2_above_55 rfl hm.1 (by decide) rfl (mp_X2_isMet hm (by omega) rfl rfl rfl rfl (bnd k (by omega) hl).1.1 (bnd k (by omega) hl).1.2 (bnd k (by omega) hl).2.1 (bnd k (by omega) hl).2.2 hxy.1 hxy.2) (by omega) (by omega) (by omega) (Nat.le_of_ble_eq_true rfl) ?_
          refine G_ifb_eq (pc := 58) 116 dX2_above_58 (by decide) (fun c58 => ?_) (fun c58 => ?_)
          · skip
            exact go _ (gn (fun z => c58 z.2.1))
            skip
          · skip
            refine G_iload_3 (pc := 61) dX2_above_61 ?_
            refine G_if_lt (pc := 62) 97 dX2_above_62 (by decide) (by omega) (fun c62 => ?_) (fun c62 => ?_)
            · skip
              refine G_iconst (pc := 97) dX2_above_97 ?_
              refine G_goto (pc := 98) 102 dX2_above_98 (by decide) ?_
              refine G_istore_5 (pc := 102) dX2_above_102 (by decide) rfl ?_
              refine G_iload_5 (pc := 104) dX2_above_104 ?_
              refine G_if_eq (pc := 106) 114 dX2_above_106 (by decide) (by decide) (fun q => absurd q (by decide)) (fun _ => ?_)
              refine G_iload_4 (pc := 109) dX2_above_109 ?_
              refine G_goto (pc := 111) 115 dX2_above_111 (by decide) ?_
              refine G_istore_3 (pc := 115) dX2_above_115 (by decide) rfl ?_
              refine G_drop_5 ?_
              first | exact go _ (gp ⟨hl, c58, by omega⟩) | exact go _ (gn (fun z => by omega))
            · skip
              obtain ⟨b, eb⟩ : ∃ b : Nat, abR S x y k = b := ⟨(abR S x y k).toNat, by omega⟩
              have hlb : S.2 1 b = 1 := by (have := hb.2.2 (by omega); rw [eb, Int.toNat_natCast] at this; exact this)
              rw [eb] at gp gn hb ⊢
              rw [Int.toNat_natCast] at gp gn
              have m1 := mul_hw (hbH k (by omega) hl) (hbW b (by omega) hlb)
              have m2 := mul_hw (hbH b (by omega) hlb) (hbW k (by omega) hl)
              refine G_aload_0 (pc := 65) dX2_above_65 ?_
              refine G_iload_4 (pc := 66) dX2_above_66 ?_
              refine G_iload_1 (pc := 68) dX2_above_68 ?_
              refine G_iload_2 (pc := 69) dX2_above_69 ?_
              refine G_pV3 (pc := 70) dX2_above_70 rfl hm.1 (by decide) rfl (hH k (by omega) hl) (by omega) (by omega) (by omega) (Nat.le_of_ble_eq_true rfl) ?_
              refine G_aload_0 (pc := 73) dX2_above_73 ?_
              refine G_iload_3 (pc := 74) dX2_above_74 ?_
              refine G_pV1 (pc := 75) dX2_above_75 rfl hm.1 (by decide) rfl (hW b (by omega) hlb) (by omega) (by omega) (by omega) (Nat.le_of_ble_eq_true rfl) ?_
              refine G_lmul (pc := 78) dX2_above_78 ?_
              refine G_aload_0 (pc := 79) dX2_above_79 ?_
              refine G_iload_3 (pc := 80) dX2_above_80 ?_
              refine G_iload_1 (pc := 81) dX2_above_81 ?_
              refine G_iload_2 (pc := 82) dX2_above_82 ?_
              refine G_pV3 (pc := 83) dX2_above_83 rfl hm.1 (by decide) rfl (hH b (by omega) hlb) (by omega) (by omega) (by omega) (Nat.le_of_ble_eq_true rfl) ?_
              refine G_aload_0 (pc := 86) dX2_above_86 ?_
              refine G_iload_4 (pc := 87) dX2_above_87 ?_
              refine G_pV1 (pc := 89) dX2_above_89 rfl hm.1 (by decide) rfl (hW k (by omega) hl) (by omega) (by omega) (by omega) (Nat.le_of_ble_eq_true rfl) ?_
              refine G_lmul (pc := 92) dX2_above_92 ?_
              refine G_lcmp_ge (pc := 93) 101 dX2_above_93 dX2_above_94 (by decide) (by omega) (by omega) (fun c93 => ?_) (fun c93 => ?_)
              · skip
                refine G_iconst (pc := 101) dX2_above_101 ?_
                refine G_istore_5 (pc := 102) dX2_above_102 (by decide) rfl ?_
                refine G_iload_5 (pc := 104) dX2_above_104 ?_
                refine G_if_eq (pc := 106) 114 dX2_above_106 (by decide) (by decide) (fun _ => ?_) (fun q => absurd q (by decide))
                refine G_iload_3 (pc := 114) dX2_above_114 ?_
                refine G_istore_3 (pc := 115) dX2_above_115 (by decide) rfl ?_
                refine G_drop_5 ?_
                first | exact go _ (gp ⟨hl, c58, by omega⟩) | exact go _ (gn (fun z => by omega))
              · skip
                refine G_iconst (pc := 97) dX2_above_97 ?_
                refine G_goto (pc := 98) 102 dX2_above_98 (by decide) ?_
                refine G_istore_5 (pc := 102) dX2_above_102 (by decide) rfl ?_
                refine G_iload_5 (pc := 104) dX2_above_104 ?_
                refine G_if_eq (pc := 106) 114 dX2_above_106 (by decide) (by decide) (fun q => absurd q (by decide)) (fun _ => ?_)
                refine G_iload_4 (pc := 109) dX2_above_109 ?_
                refine G_goto (pc := 111) 115 dX2_above_111 (by decide) ?_
                refine G_istore_3 (pc := 115) dX2_above_115 (by decide) rfl ?_
                refine G_drop_5 ?_
                first | exact go _ (gp ⟨hl, c58, by omega⟩) | exact go _ (gn (fun z => by omega))
  refine G_aload_0 (pc := 0) dX2_above_0 ?_
  refine G_iload_1 (pc := 1) dX2_above_1 ?_
  refine G_pS1 (pc := 2) dX2_above_2 rfl rfl (pu_X2_isIn _ (by omega)) (by omega) (by omega) (by omega) (Nat.le_of_ble_eq_true rfl) ?_
  refine G_ifb_eq (pc := 5) 19 dX2_above_5 (by decide) (fun c5 => ?_) (fun c5 => ?_)
  · skip
    refine G_iconst (pc := 19) dX2_above_19 ?_
    refine G_m1v (pc := 20) dX2_above_20 rfl rfl rfl hm hk (mo_X2_refused (by omega)) (by omega) (by omega) (by omega) (Nat.le_of_ble_eq_true rfl) (fun x20 h S20 hm hk q20 => ?_)
    obtain ⟨rfl, rfl⟩ := q20
    rw [bI_pos (p := (0 : Int) < 1) (by decide)]
    refine G_if_eq (pc := 23) 28 dX2_above_23 (by decide) (by decide) (fun q => absurd q (by decide)) (fun _ => ?_)
    refine G_iconst (pc := 26) dX2_above_26 ?_
    refine G_ireturn (pc := 27) dX2_above_27 rfl rfl (by omega) (by omega) ?_
    subst hQ
    exact ⟨_, rfl, _, hm, hk, _, rfl, ⟨_, rfl⟩, by rw [bI_pos (by omega)], fun z => by omega⟩
  · skip
    refine G_iload_2 (pc := 8) dX2_above_8 ?_
    refine G_pS1 (pc := 9) dX2_above_9 rfl rfl (pu_X2_isIn _ (by omega)) (by omega) (by omega) (by omega) (Nat.le_of_ble_eq_true rfl) ?_
    refine G_ifb_eq (pc := 12) 19 dX2_above_12 (by decide) (fun c12 => ?_) (fun c12 => ?_)
    · skip
      refine G_iconst (pc := 19) dX2_above_19 ?_
      refine G_m1v (pc := 20) dX2_above_20 rfl rfl rfl hm hk (mo_X2_refused (by omega)) (by omega) (by omega) (by omega) (Nat.le_of_ble_eq_true rfl) (fun x20 h S20 hm hk q20 => ?_)
      obtain ⟨rfl, rfl⟩ := q20
      rw [bI_pos (p := (0 : Int) < 1) (by decide)]
      refine G_if_eq (pc := 23) 28 dX2_above_23 (by decide) (by decide) (fun q => absurd q (by decide)) (fun _ => ?_)
      refine G_iconst (pc := 26) dX2_above_26 ?_
      refine G_ireturn (pc := 27) dX2_above_27 rfl rfl (by omega) (by omega) ?_
      subst hQ
      exact ⟨_, rfl, _, hm, hk, _, rfl, ⟨_, rfl⟩, by rw [bI_pos (by omega)], fun z => by omega⟩
    · skip
      refine G_iconst (pc := 15) dX2_above_15 ?_
      refine G_goto (pc := 16) 20 dX2_above_16 (by decide) ?_
      refine G_m1v (pc := 20) dX2_above_20 rfl rfl rfl hm hk (mo_X2_refused (by omega)) (by omega) (by omega) (by omega) (Nat.le_of_ble_eq_true rfl) (fun x20 h S20 hm hk q20 => ?_)
      obtain ⟨rfl, rfl⟩ := q20
      rw [bI_neg (p := (0 : Int) < 0) (by decide)]
      refine G_if_eq (pc := 23) 28 dX2_above_23 (by decide) (by decide) (fun _ => ?_) (fun q => absurd q (by decide))
      refine G_iconst (pc := 28) dX2_above_28 ?_
      refine G_istore_3 (pc := 29) dX2_above_29 (by decide) rfl ?_
      refine G_iconst (pc := 30) dX2_above_30 ?_
      refine G_istore_4 (pc := 31) dX2_above_31 (by decide) rfl ?_
      exact k33 ⟨c5, c12⟩ _ hm hk 60 0 rfl
end MOD14
