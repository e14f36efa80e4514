set_option maxRecDepth 100000
def lo (S : mS) (h : Nat) : Nat := if S.2 2 h < S.2 2 (zB h) then h else zB h
def ovr (S : mS) (x y : Int) (h : Nat) : Prop := S.2 2 (lo S h) ≤ x ∧ x < S.2 2 (zB (lo S h)) ∧ zc (S.2 2 (lo S h)) (S.2 3 (lo S h)) (S.2 2 (zB (lo S h))) (S.2 3 (zB (lo S h))) x y < 0
def wth (S : mS) (R x y : Int) (h : Nat) : Prop := S.2 1 (h / 2) = 1 ∧ S.2 9 h = R ∧ ovr S x y h
noncomputable def cW (S : mS) (R x y : Int) (n : Nat) : Nat := zC n (fun h => zD (wth S R x y h))
theorem cW_pos {S : mS} {R x y : Int} {n : Nat} (h : wth S R x y n) : cW S R x y (n + 1) = cW S R x y n + 1 := by
  show zC n _ + (if zD (wth S R x y n) = true then 1 else 0) = zC n _ + 1
  rw [if_pos ((zD_iff _).mpr h)]
theorem cW_neg {S : mS} {R x y : Int} {n : Nat} (h : ¬ wth S R x y n) : cW S R x y (n + 1) = cW S R x y n := by
  show zC n _ + (if zD (wth S R x y n) = true then 1 else 0) = zC n _
  rw [if_neg (fun q => h ((zD_iff _).mp q))]
  rfl
section MOD6
variable {E : gV} {l : Launch} {h : gH} {S : mS}
theorem mp_X2_isWithin (hm : zMo E h S) (K : zOK (mP S)) {R x y : Int} (hR : -2147483648 ≤ R ∧ R ≤ 2147483647) (hx : -16000 ≤ x ∧ x ≤ 16000) (hy : -16000 ≤ y ∧ y ≤ 16000) :
    gPu E l gX2_isWithin 3 [.ref (gBase E + 12), vI R, vI x, vI y] h (vI (bI (cW S R x y 120 % 2 = 1))) := by
  intro d hd
  refine gOk_of gmok_X2_isWithin rfl (Nat.le_of_ble_eq_true rfl) (L := [some _, some _, some _, some _, none, none, none, none, none]) rfl ?_
  obtain ⟨Q, hQ⟩ : ∃ Q, Q = gRet (gRv fun v h' => v = vI (bI (cW S R x y 120 % 2 = 1)) ∧ h' = h) := ⟨_, rfl⟩
  rw [← hQ]
  have k6 : ∀ (n k : Nat), k + n = 120 → G E l gX2_isWithin d 0 0 Q 6 [some (.ref (gBase E + 12)), some (vI R), some (vI x), some (vI y), some (vI (bI (cW S R x y k % 2 = 1))), some (vI k), none, none, none] [] h 0 0 := by
    intro n
    induction n with
    | zero =>
      intro k hn
      have ek : k = 120 := by omega
      subst ek
      refine G_iload_5 (pc := 6) dX2_isWithin_6 ?_
      refine G_bipush (pc := 8) dX2_isWithin_8 (by omega) ?_
      refine G_icmp_ge (pc := 10) 168 dX2_isWithin_10 (by decide) (by omega) (by omega) (fun c10 => ?_) (fun c10 => ?_)
      · skip
        refine G_iload_4 (pc := 168) dX2_isWithin_168 ?_
        refine G_ireturn (pc := 170) dX2_isWithin_170 rfl (nar_bI _) (by omega) (by omega) ?_
        subst hQ
        exact ⟨_, rfl, _, rfl, rfl, rfl⟩
      · skip
        exact absurd c10 (by omega)
    | succ n ih =>
      intro k hn
      have hk120 : k < 120 := by omega
      have hBk := zB_lt hk120
      have go : ∀ b : Int, b = bI (cW S R x y (k + 1) % 2 = 1) → G E l gX2_isWithin d 0 0 Q 162 [some (.ref (gBase E + 12)), some (vI R), some (vI x), some (vI y), some (vI b), some (vI k), none, none, none] [] h 0 0 := by
        intro b hb
        subst hb
        refine G_iinc_5 (pc := 162) dX2_isWithin_162 (by decide) rfl ?_
        refine G_goto (pc := 165) 6 dX2_isWithin_165 (by decide) ?_
        rw [show ((k : Int) + 1) = ((k + 1 : Nat) : Int) by omega]
        exact ih (k + 1) (by omega)
      by_cases hlv : S.2 1 (k / 2) = 1
      · have hlk : zL (mP S) k = true := mP_L.mpr ⟨hk120, hlv⟩
        have q1 : (-16000 ≤ S.2 2 k ∧ S.2 2 k ≤ 16000) ∧ (-16000 ≤ S.2 3 k ∧ S.2 3 k ≤ 16000) := K.1 k hlk
        have q2 : (-16000 ≤ S.2 2 (zB k) ∧ S.2 2 (zB k) ≤ 16000) ∧ (-16000 ≤ S.2 3 (zB k) ∧ S.2 3 (zB k) ≤ 16000) := K.1 (zB k) (by rw [zL_B]; exact hlk)
        have hlo : lo S k < 120 ∧ zB (lo S k) < 120 := by
          unfold lo
          split
          · exact ⟨hk120, hBk⟩
          · rw [zB_B]; exact ⟨hBk, hk120⟩
        have q3 : ((-16000 ≤ S.2 2 (lo S k) ∧ S.2 2 (lo S k) ≤ 16000) ∧ (-16000 ≤ S.2 3 (lo S k) ∧ S.2 3 (lo S k) ≤ 16000)) ∧ ((-16000 ≤ S.2 2 (zB (lo S k)) ∧ S.2 2 (zB (lo S k)) ≤ 16000) ∧ (-16000 ≤ S.2 3 (zB (lo S k)) ∧ S.2 3 (zB (lo S k)) ≤ 16000)) := by
          unfold lo
          split
          · exact ⟨q1, q2⟩
          · rw [zB_B]; exact ⟨q2, q1⟩
        have k66 : S.2 9 k = R → ∀ z : Nat, z = lo S k → G E l gX2_isWithin d 0 0 Q 66 [some (.ref (gBase E + 12)), some (vI R), some (vI x), some (vI y), some (vI (bI (cW S R x y k % 2 = 1))), some (vI k), none, none, none] [vI z] h 0 0 := by
          intro hr z hz
          subst hz
          have hsg := sign_b (zc (S.2 2 (lo S k)) (S.2 3 (lo S k)) (S.2 2 (zB (lo S k))) (S.2 3 (zB (lo S k))) x y)
          have hs2 : (zc (S.2 2 (lo S k)) (S.2 3 (lo S k)) (S.2 2 (zB (lo S k))) (S.2 3 (zB (lo S k))) x y).sign < 0 ↔ zc (S.2 2 (lo S k)) (S.2 3 (lo S k)) (S.2 2 (zB (lo S k))) (S.2 3 (zB (lo S k))) x y < 0 := Int.sign_neg_iff
          have k138 : ∀ b : Int, b = bI (wth S R x y k) → G E l gX2_isWithin d 0 0 Q 138 [some (.ref (gBase E + 12)), some (vI R), some (vI x), some (vI y), some (vI (bI (cW S R x y k % 2 = 1))), some (vI k), some (vI (lo S k)), some (vI (zB (lo S k) : Nat)), none] [vI b] h 0 0 := by
            intro b hb
            subst hb
            refine G_istore_8 (pc := 138) dX2_isWithin_138 (by decide) rfl ?_
            refine G_iload_8 (pc := 140) dX2_isWithin_140 ?_
            refine G_ifb_eq (pc := 142) 158 dX2_isWithin_142 (by decide) (fun c142 => ?_) (fun c142 => ?_)
            · skip
              refine G_iload_4 (pc := 158) dX2_isWithin_158 ?_
              refine G_istore_4 (pc := 160) dX2_isWithin_160 (by decide) rfl ?_
              refine G_drop_6 ?_
              refine G_drop_7 ?_
              refine G_drop_8 ?_
              refine go _ ?_
              first | (rw [cW_neg c142]) | (rw [cW_pos c142]; first | exact (bI_pos (by omega)).symm | exact (bI_neg (by omega)).symm)
            · skip
              refine G_iload_4 (pc := 145) dX2_isWithin_145 ?_
              refine G_ifb_ne (pc := 147) 154 dX2_isWithin_147 (by decide) (fun c147 => ?_) (fun c147 => ?_)
              · skip
                refine G_iconst (pc := 154) dX2_isWithin_154 ?_
                refine G_goto (pc := 155) 160 dX2_isWithin_155 (by decide) ?_
                refine G_istore_4 (pc := 160) dX2_isWithin_160 (by decide) rfl ?_
                refine G_drop_6 ?_
                refine G_drop_7 ?_
                refine G_drop_8 ?_
                refine go _ ?_
                first | (rw [cW_neg c142]) | (rw [cW_pos c142]; first | exact (bI_pos (by omega)).symm | exact (bI_neg (by omega)).symm)
              · skip
                refine G_iconst (pc := 150) dX2_isWithin_150 ?_
                refine G_goto (pc := 151) 160 dX2_isWithin_151 (by decide) ?_
                refine G_istore_4 (pc := 160) dX2_isWithin_160 (by decide) rfl ?_
                refine G_drop_6 ?_
                refine G_drop_7 ?_
                refine G_drop_8 ?_
                refine go _ ?_
                first | (rw [cW_neg c142]) | (rw [cW_pos c142]; first | exact (bI_pos (by omega)).symm | exact (bI_neg (by omega)).symm)
          refine G_istore_6 (pc := 66) dX2_isWithin_66 (by decide) rfl ?_
          refine G_iload_6 (pc := 68) dX2_isWithin_68 ?_
          refine G_pS1 (pc := 70) dX2_isWithin_70 rfl rfl (pu_X2_back _ (by omega)) (by omega) (by omega) (by omega) (Nat.le_of_ble_eq_true rfl) ?_
          refine G_istore_7 (pc := 73) dX2_isWithin_73 (by decide) rfl ?_
          refine G_aload_0 (pc := 75) dX2_isWithin_75 ?_
          refine G_mref (pc := 76) dX2_isWithin_76 rfl hm rfl ?_
          refine G_iload_6 (pc := 79) dX2_isWithin_79 ?_
          refine G_mi (pc := 81) (n := 120) dX2_isWithin_81 hm rfl rfl rfl (by omega) (fun b81 => ?_)
          rw [Int.toNat_natCast] at *
          refine G_iload_2 (pc := 82) dX2_isWithin_82 ?_
          refine G_icmp_gt (pc := 83) 137 dX2_isWithin_83 (by decide) (by omega) (by omega) (fun c83 => ?_) (fun c83 => ?_)
          · skip
            refine G_iconst (pc := 137) dX2_isWithin_137 ?_
            exact k138 _ (by unfold wth ovr; first | exact (bI_pos ⟨hlv, hr, by omega, by omega, by omega⟩).symm | exact (bI_neg (fun z => by omega)).symm)
          · skip
            refine G_iload_2 (pc := 86) dX2_isWithin_86 ?_
            refine G_aload_0 (pc := 87) dX2_isWithin_87 ?_
            refine G_mref (pc := 88) dX2_isWithin_88 rfl hm rfl ?_
            refine G_iload_7 (pc := 91) dX2_isWithin_91 ?_
            refine G_mi (pc := 93) (n := 120) dX2_isWithin_93 hm rfl rfl rfl (by omega) (fun b93 => ?_)
            rw [Int.toNat_natCast] at *
            refine G_icmp_ge (pc := 94) 137 dX2_isWithin_94 (by decide) (by omega) (by omega) (fun c94 => ?_) (fun c94 => ?_)
            · skip
              refine G_iconst (pc := 137) dX2_isWithin_137 ?_
              exact k138 _ (by unfold wth ovr; first | exact (bI_pos ⟨hlv, hr, by omega, by omega, by omega⟩).symm | exact (bI_neg (fun z => by omega)).symm)
            · skip
              refine G_aload_0 (pc := 97) dX2_isWithin_97 ?_
              refine G_mref (pc := 98) dX2_isWithin_98 rfl hm rfl ?_
              refine G_iload_6 (pc := 101) dX2_isWithin_101 ?_
              refine G_mi (pc := 103) (n := 120) dX2_isWithin_103 hm rfl rfl rfl (by omega) (fun b103 => ?_)
              refine G_aload_0 (pc := 104) dX2_isWithin_104 ?_
              refine G_mref (pc := 105) dX2_isWithin_105 rfl hm rfl ?_
              refine G_iload_6 (pc := 108) dX2_isWithin_108 ?_
              refine G_mi (pc := 110) (n := 120) dX2_isWithin_110 hm rfl rfl rfl (by omega) (fun b110 => ?_)
              refine G_aload_0 (pc := 111) dX2_isWithin_111 ?_
              refine G_mref (pc := 112) dX2_isWithin_112 rfl hm rfl ?_
              refine G_iload_7 (pc := 115) dX2_isWithin_115 ?_
              refine G_mi (pc := 117) (n := 120) dX2_isWithin_117 hm rfl rfl rfl (by omega) (fun b117 => ?_)
              refine G_aload_0 (pc := 118) dX2_isWithin_118 ?_
              refine G_mref (pc := 119) dX2_isWithin_119 rfl hm rfl ?_
              refine G_iload_7 (pc := 122) dX2_isWithin_122 ?_
              refine G_mi (pc := 124) (n := 120) dX2_isWithin_124 hm rfl rfl rfl (by omega) (fun b124 => ?_)
              refine G_iload_2 (pc := 125) dX2_isWithin_125 ?_
              refine G_iload_3 (pc := 126) dX2_isWithin_126 ?_
              simp only [Int.toNat_natCast] at *
              refine G_pS6 (pc := 127) dX2_isWithin_127 rfl rfl (pu_X2_side (by omega) (by omega) (by omega) (by omega) (by omega) (by omega)) (by omega) (by omega) (by omega) (Nat.le_of_ble_eq_true rfl) ?_
              refine G_if_ge (pc := 130) 137 dX2_isWithin_130 (by decide) (by omega) (fun c130 => ?_) (fun c130 => ?_)
              · skip
                refine G_iconst (pc := 137) dX2_isWithin_137 ?_
                exact k138 _ (by unfold wth ovr; first | exact (bI_pos ⟨hlv, hr, by omega, by omega, by omega⟩).symm | exact (bI_neg (fun z => by omega)).symm)
              · skip
                refine G_iconst (pc := 133) dX2_isWithin_133 ?_
                refine G_goto (pc := 134) 138 dX2_isWithin_134 (by decide) ?_
                exact k138 _ (by unfold wth ovr; first | exact (bI_pos ⟨hlv, hr, by omega, by omega, by omega⟩).symm | exact (bI_neg (fun z => by omega)).symm)
        refine G_iload_5 (pc := 6) dX2_isWithin_6 ?_
        refine G_bipush (pc := 8) dX2_isWithin_8 (by omega) ?_
        refine G_icmp_ge (pc := 10) 168 dX2_isWithin_10 (by decide) (by omega) (by omega) (fun c10 => ?_) (fun c10 => ?_)
        · skip
          exact absurd c10 (by omega)
        · skip
          refine G_aload_0 (pc := 13) dX2_isWithin_13 ?_
          refine G_mref (pc := 14) dX2_isWithin_14 rfl hm rfl ?_
          refine G_iload_5 (pc := 17) dX2_isWithin_17 ?_
          refine G_iconst (pc := 19) dX2_isWithin_19 ?_
          refine G_idiv (pc := 20) dX2_isWithin_20 (by omega) (by omega) ?_
          refine G_mb (pc := 21) dX2_isWithin_21 hm (by omega) (fun b21 => ?_)
          rw [tn_div] at *
          refine G_if_eq (pc := 22) 162 dX2_isWithin_22 (by decide) (by omega) (fun c22 => ?_) (fun c22 => ?_)
          · skip
            first | exact absurd hlv (by omega) | exact go _ (by rw [cW_neg (fun z => c33 z.2.1)])
          · skip
            refine G_aload_0 (pc := 25) dX2_isWithin_25 ?_
            refine G_mref (pc := 26) dX2_isWithin_26 rfl hm rfl ?_
            refine G_iload_5 (pc := 29) dX2_isWithin_29 ?_
            refine G_mi (pc := 31) (n := 120) dX2_isWithin_31 hm rfl rfl rfl (by omega) (fun b31 => ?_)
            rw [Int.toNat_natCast] at *
            refine G_iload_1 (pc := 32) dX2_isWithin_32 ?_
            refine G_icmp_ne (pc := 33) 162 dX2_isWithin_33 (by decide) (by omega) (by omega) (fun c33 => ?_) (fun c33 => ?_)
            · skip
              first | exact absurd hlv (by omega) | exact go _ (by rw [cW_neg (fun z => c33 z.2.1)])
            · skip
              refine G_aload_0 (pc := 36) dX2_isWithin_36 ?_
              refine G_mref (pc := 37) dX2_isWithin_37 rfl hm rfl ?_
              refine G_iload_5 (pc := 40) dX2_isWithin_40 ?_
              refine G_mi (pc := 42) (n := 120) dX2_isWithin_42 hm rfl rfl rfl (by omega) (fun b42 => ?_)
              refine G_aload_0 (pc := 43) dX2_isWithin_43 ?_
              refine G_mref (pc := 44) dX2_isWithin_44 rfl hm rfl ?_
              refine G_iload_5 (pc := 47) dX2_isWithin_47 ?_
              refine G_pS1 (pc := 49) dX2_isWithin_49 rfl rfl (pu_X2_back _ (by omega)) (by omega) (by omega) (by omega) (Nat.le_of_ble_eq_true rfl) ?_
              refine G_mi (pc := 52) (n := 120) dX2_isWithin_52 hm rfl rfl rfl (by omega) (fun b52 => ?_)
              simp only [Int.toNat_natCast] at *
              refine G_icmp_ge (pc := 53) 61 dX2_isWithin_53 (by decide) (by omega) (by omega) (fun c53 => ?_) (fun c53 => ?_)
              · skip
                refine G_iload_5 (pc := 61) dX2_isWithin_61 ?_
                refine G_pS1 (pc := 63) dX2_isWithin_63 rfl rfl (pu_X2_back _ (by omega)) (by omega) (by omega) (by omega) (Nat.le_of_ble_eq_true rfl) ?_
                exact k66 c33 _ (by unfold lo; split <;> first | rfl | omega)
              · skip
                refine G_iload_5 (pc := 56) dX2_isWithin_56 ?_
                refine G_goto (pc := 58) 66 dX2_isWithin_58 (by decide) ?_
                exact k66 c33 _ (by unfold lo; split <;> first | rfl | omega)
      · skip
        refine G_iload_5 (pc := 6) dX2_isWithin_6 ?_
        refine G_bipush (pc := 8) dX2_isWithin_8 (by omega) ?_
        refine G_icmp_ge (pc := 10) 168 dX2_isWithin_10 (by decide) (by omega) (by omega) (fun c10 => ?_) (fun c10 => ?_)
        · skip
          exact absurd c10 (by omega)
        · skip
          refine G_aload_0 (pc := 13) dX2_isWithin_13 ?_
          refine G_mref (pc := 14) dX2_isWithin_14 rfl hm rfl ?_
          refine G_iload_5 (pc := 17) dX2_isWithin_17 ?_
          refine G_iconst (pc := 19) dX2_isWithin_19 ?_
          refine G_idiv (pc := 20) dX2_isWithin_20 (by omega) (by omega) ?_
          refine G_mb (pc := 21) dX2_isWithin_21 hm (by omega) (fun b21 => ?_)
          rw [tn_div] at *
          refine G_if_eq (pc := 22) 162 dX2_isWithin_22 (by decide) (by omega) (fun c22 => ?_) (fun c22 => ?_)
          · skip
            exact go _ (by rw [cW_neg (fun z => hlv z.1)])
          · skip
            exact absurd (show S.2 1 (k / 2) = 1 by omega) hlv
  refine G_iconst (pc := 0) dX2_isWithin_0 ?_
  refine G_istore_4 (pc := 1) dX2_isWithin_1 (by decide) rfl ?_
  refine G_iconst (pc := 3) dX2_isWithin_3 ?_
  refine G_istore_5 (pc := 4) dX2_isWithin_4 (by decide) rfl ?_
  have e0 : (0 : Int) = bI (cW S R x y 0 % 2 = 1) := (bI_neg (by show ¬ (0 % 2 = 1); omega)).symm
  have := k6 120 0 rfl
  rw [← e0] at this
  exact this
end MOD6
