set_option maxRecDepth 100000
def kmt (S : mS) (s : Nat) (x y : Int) : Prop := (min (S.2 2 s) (S.2 4 s) ≤ x ∧ x ≤ max (S.2 2 s) (S.2 4 s)) ∧ ((S.2 2 s = S.2 4 s ∧ y < max (S.2 3 s) (S.2 5 s)) ∨ (S.2 2 s ≠ S.2 4 s ∧ ¬ kon S s x y ∧ ¬ kab S s x y))
def klo (S : mS) (s : Nat) (y : Int) : Int := max y (min (S.2 3 s) (S.2 5 s))
def ksn (S : mS) (s u : Nat) (x y : Int) : Int :=
  if S.2 2 s = S.2 4 s then (if S.2 2 u = S.2 4 u then (klo S s y - klo S u y).sign else kha S u x (klo S s y)) else (if S.2 2 u = S.2 4 u then - kha S s x (klo S u y) else kcp S s u x)
section CLS3
variable {E : gV} {l : Launch} {h : gH} {T : tT} {S : mS}
theorem pu_X1_isMet (ht : zT E h T) (hz : zK E T S) {s : Nat} (hs : s < 60) (b : kIn S s) {x y : Int} (hx : -16000 ≤ x ∧ x ≤ 16000) (hy : -16000 ≤ y ∧ y ≤ 16000) : gPu E l gX1_isMet 4 [.ref (gBase E), vI s, vI x, vI y] h (vI (bI (kmt S s x y))) := by
  intro d hd
  have b0 := b
  obtain ⟨⟨b1, b2⟩, b3, b4⟩ := b0
  have es : (s : Int).toNat = s := by omega
  have eu := es
  obtain ⟨A, eA⟩ : ∃ p, p = kon S s x y := ⟨_, rfl⟩
  obtain ⟨B, eB⟩ : ∃ p, p = kab S s x y := ⟨_, rfl⟩
  have em : kmt S s x y = ((min (S.2 2 s) (S.2 4 s) ≤ x ∧ x ≤ max (S.2 2 s) (S.2 4 s)) ∧ ((S.2 2 s = S.2 4 s ∧ y < max (S.2 3 s) (S.2 5 s)) ∨ (S.2 2 s ≠ S.2 4 s ∧ ¬ A ∧ ¬ B))) := by rw [eA, eB]; rfl
  have fin : ∀ z : Int, z = bI (kmt S s x y) → gRet (gRv (fun w h' => w = vI (bI (kmt S s x y)) ∧ h' = h)) (.returned (some (vI z))) h := by
    intro z q
    subst q
    exact ⟨_, rfl, _, rfl, rfl, rfl⟩
  refine gOk_of gmok_X1_isMet rfl (Nat.le_of_ble_eq_true rfl) (L := [some _, some _, some _, some _]) rfl ?_
  refine G_iload_2 (pc := 0) dX1_isMet_0 ?_
  refine G_aload_0 (pc := 1) dX1_isMet_1 ?_
  refine G_kref (pc := 2) dX1_isMet_2 rfl ht hz rfl ?_
  refine G_iload_1 (pc := 5) dX1_isMet_5 ?_
  refine G_ki (pc := 6) dX1_isMet_6 ht hz rfl rfl (by omega) (fun b6 => ?_)
  refine G_aload_0 (pc := 7) dX1_isMet_7 ?_
  refine G_kref (pc := 8) dX1_isMet_8 rfl ht hz rfl ?_
  refine G_iload_1 (pc := 11) dX1_isMet_11 ?_
  refine G_ki (pc := 12) dX1_isMet_12 ht hz rfl rfl (by omega) (fun b12 => ?_)
  try simp only [es, eu]
  refine G_pS2 (pc := 13) dX1_isMet_13 rfl rfl (pu_J9_min (by omega) (by omega)) (by omega) (by omega) (by omega) (Nat.le_of_ble_eq_true rfl) ?_
  rw [mn_min]
  refine G_icmp_lt (pc := 16) 38 dX1_isMet_16 (by decide) (by omega) (by omega) (fun c16 => ?_) (fun c16 => ?_)
  · skip
    refine G_iconst (pc := 38) dX1_isMet_38 ?_
    refine G_ireturn (pc := 39) dX1_isMet_39 rfl rfl (by omega) (by omega) ?_
    refine fin _ ?_
    first | exact (bI_neg nm).symm | (rw [em]; first | exact (bI_neg (fun q => by omega)).symm | exact (bI_pos ⟨by omega, Or.inl (by omega)⟩).symm | exact (bI_neg (fun q => q.2.elim (fun z => by omega) (fun z => z.2.1 c89))).symm | exact (bI_pos ⟨by omega, Or.inr ⟨by omega, c89, c99⟩⟩).symm)
  · skip
    refine G_iload_2 (pc := 19) dX1_isMet_19 ?_
    refine G_aload_0 (pc := 20) dX1_isMet_20 ?_
    refine G_kref (pc := 21) dX1_isMet_21 rfl ht hz rfl ?_
    refine G_iload_1 (pc := 24) dX1_isMet_24 ?_
    refine G_ki (pc := 25) dX1_isMet_25 ht hz rfl rfl (by omega) (fun b25 => ?_)
    refine G_aload_0 (pc := 26) dX1_isMet_26 ?_
    refine G_kref (pc := 27) dX1_isMet_27 rfl ht hz rfl ?_
    refine G_iload_1 (pc := 30) dX1_isMet_30 ?_
    refine G_ki (pc := 31) dX1_isMet_31 ht hz rfl rfl (by omega) (fun b31 => ?_)
    try simp only [es, eu]
    refine G_pS2 (pc := 32) dX1_isMet_32 rfl rfl (pu_J9_max (by omega) (by omega)) (by omega) (by omega) (by omega) (Nat.le_of_ble_eq_true rfl) ?_
    rw [mx_max]
    refine G_icmp_le (pc := 35) 40 dX1_isMet_35 (by decide) (by omega) (by omega) (fun c35 => ?_) (fun c35 => ?_)
    · skip
      refine G_aload_0 (pc := 40) dX1_isMet_40 ?_
      refine G_kref (pc := 41) dX1_isMet_41 rfl ht hz rfl ?_
      refine G_iload_1 (pc := 44) dX1_isMet_44 ?_
      refine G_ki (pc := 45) dX1_isMet_45 ht hz rfl rfl (by omega) (fun b45 => ?_)
      refine G_aload_0 (pc := 46) dX1_isMet_46 ?_
      refine G_kref (pc := 47) dX1_isMet_47 rfl ht hz rfl ?_
      refine G_iload_1 (pc := 50) dX1_isMet_50 ?_
      refine G_ki (pc := 51) dX1_isMet_51 ht hz rfl rfl (by omega) (fun b51 => ?_)
      simp only [es]
      refine G_icmp_ne (pc := 52) 82 dX1_isMet_52 (by decide) (by omega) (by omega) (fun c52 => ?_) (fun c52 => ?_)
      · skip
        refine G_aload_0 (pc := 82) dX1_isMet_82 ?_
        refine G_iload_1 (pc := 83) dX1_isMet_83 ?_
        refine G_iload_2 (pc := 84) dX1_isMet_84 ?_
        refine G_iload_3 (pc := 85) dX1_isMet_85 ?_
        refine G_pV3 (pc := 86) dX1_isMet_86 rfl (zK_k ht hz) (by decide) rfl (pu_X1_isOn ht hz hs b hx hy) (by omega) (by omega) (by omega) (Nat.le_of_ble_eq_true rfl) ?_
        rw [← eA]
        refine G_ifb_ne (pc := 89) 106 dX1_isMet_89 (by decide) (fun c89 => ?_) (fun c89 => ?_)
        · skip
          refine G_iconst (pc := 106) dX1_isMet_106 ?_
          refine G_ireturn (pc := 107) dX1_isMet_107 rfl rfl (by omega) (by omega) ?_
          refine fin _ ?_
          first | exact (bI_neg nm).symm | (rw [em]; first | exact (bI_neg (fun q => by omega)).symm | exact (bI_pos ⟨by omega, Or.inl (by omega)⟩).symm | exact (bI_neg (fun q => q.2.elim (fun z => by omega) (fun z => z.2.1 c89))).symm | exact (bI_pos ⟨by omega, Or.inr ⟨by omega, c89, c99⟩⟩).symm)
        · skip
          refine G_aload_0 (pc := 92) dX1_isMet_92 ?_
          refine G_iload_1 (pc := 93) dX1_isMet_93 ?_
          refine G_iload_2 (pc := 94) dX1_isMet_94 ?_
          refine G_iload_3 (pc := 95) dX1_isMet_95 ?_
          refine G_pV3 (pc := 96) dX1_isMet_96 rfl (zK_k ht hz) (by decide) rfl (pu_X1_isAbove ht hz hs b hx hy) (by omega) (by omega) (by omega) (Nat.le_of_ble_eq_true rfl) ?_
          rw [← eB]
          refine G_ifb_ne (pc := 99) 106 dX1_isMet_99 (by decide) (fun c99 => ?_) (fun c99 => ?_)
          · skip
            have nm : ¬ kmt S s x y := by (rw [em]; intro q; rcases q.2 with z | z; exact absurd z.1 c52; exact z.2.2 c99)
            refine G_iconst (pc := 106) dX1_isMet_106 ?_
            refine G_ireturn (pc := 107) dX1_isMet_107 rfl rfl (by omega) (by omega) ?_
            refine fin _ ?_
            first | exact (bI_neg nm).symm | (rw [em]; first | exact (bI_neg (fun q => by omega)).symm | exact (bI_pos ⟨by omega, Or.inl (by omega)⟩).symm | exact (bI_neg (fun q => q.2.elim (fun z => by omega) (fun z => z.2.1 c89))).symm | exact (bI_pos ⟨by omega, Or.inr ⟨by omega, c89, c99⟩⟩).symm)
          · skip
            refine G_iconst (pc := 102) dX1_isMet_102 ?_
            refine G_goto (pc := 103) 107 dX1_isMet_103 (by decide) ?_
            refine G_ireturn (pc := 107) dX1_isMet_107 rfl rfl (by omega) (by omega) ?_
            refine fin _ ?_
            first | exact (bI_neg nm).symm | (rw [em]; first | exact (bI_neg (fun q => by omega)).symm | exact (bI_pos ⟨by omega, Or.inl (by omega)⟩).symm | exact (bI_neg (fun q => q.2.elim (fun z => by omega) (fun z => z.2.1 c89))).symm | exact (bI_pos ⟨by omega, Or.inr ⟨by omega, c89, c99⟩⟩).symm)
      · skip
        refine G_aload_0 (pc := 55) dX1_isMet_55 ?_
        refine G_kref (pc := 56) dX1_isMet_56 rfl ht hz rfl ?_
        refine G_iload_1 (pc := 59) dX1_isMet_59 ?_
        refine G_ki (pc := 60) dX1_isMet_60 ht hz rfl rfl (by omega) (fun b60 => ?_)
        refine G_aload_0 (pc := 61) dX1_isMet_61 ?_
        refine G_kref (pc := 62) dX1_isMet_62 rfl ht hz rfl ?_
        refine G_iload_1 (pc := 65) dX1_isMet_65 ?_
        refine G_ki (pc := 66) dX1_isMet_66 ht hz rfl rfl (by omega) (fun b66 => ?_)
        try simp only [es, eu]
        refine G_pS2 (pc := 67) dX1_isMet_67 rfl rfl (pu_J9_max (by omega) (by omega)) (by omega) (by omega) (by omega) (Nat.le_of_ble_eq_true rfl) ?_
        rw [mx_max]
        refine G_iload_3 (pc := 70) dX1_isMet_70 ?_
        refine G_icmp_le (pc := 71) 78 dX1_isMet_71 (by decide) (by omega) (by omega) (fun c71 => ?_) (fun c71 => ?_)
        · skip
          refine G_iconst (pc := 78) dX1_isMet_78 ?_
          refine G_goto (pc := 79) 107 dX1_isMet_79 (by decide) ?_
          refine G_ireturn (pc := 107) dX1_isMet_107 rfl rfl (by omega) (by omega) ?_
          refine fin _ ?_
          first | exact (bI_neg nm).symm | (rw [em]; first | exact (bI_neg (fun q => by omega)).symm | exact (bI_pos ⟨by omega, Or.inl (by omega)⟩).symm | exact (bI_neg (fun q => q.2.elim (fun z => by omega) (fun z => z.2.1 c89))).symm | exact (bI_pos ⟨by omega, Or.inr ⟨by omega, c89, c99⟩⟩).symm)
        · skip
          refine G_iconst (pc := 74) dX1_isMet_74 ?_
          refine G_goto (pc := 75) 107 dX1_isMet_75 (by decide) ?_
          refine G_ireturn (pc := 107) dX1_isMet_107 rfl rfl (by omega) (by omega) ?_
          refine fin _ ?_
          first | exact (bI_neg nm).symm | (rw [em]; first | exact (bI_neg (fun q => by omega)).symm | exact (bI_pos ⟨by omega, Or.inl (by omega)⟩).symm | exact (bI_neg (fun q => q.2.elim (fun z => by omega) (fun z => z.2.1 c89))).symm | exact (bI_pos ⟨by omega, Or.inr ⟨by omega, c89, c99⟩⟩).symm)
    · skip
      refine G_iconst (pc := 38) dX1_isMet_38 ?_
      refine G_ireturn (pc := 39) dX1_isMet_39 rfl rfl (by omega) (by omega) ?_
      refine fin _ ?_
      first | exact (bI_neg nm).symm | (rw [em]; first | exact (bI_neg (fun q => by omega)).symm | exact (bI_pos ⟨by omega, Or.inl (by omega)⟩).symm | exact (bI_neg (fun q => q.2.elim (fun z => by omega) (fun z => z.2.1 c89))).symm | exact (bI_pos ⟨by omega, Or.inr ⟨by omega, c89, c99⟩⟩).symm)
theorem ksn_b (S : mS) (s u : Nat) (x y : Int) : -1 ≤ ksn S s u x y ∧ ksn S s u x y ≤ 1 := by
  unfold ksn
  split
  · split
    · exact sgn_b _
    · exact kha_b _ _ _ _
  · split
    · have := kha_b S s x (klo S u y); omega
    · exact kcp_b _ _ _ _
theorem pu_X1_sooner (ht : zT E h T) (hz : zK E T S) {s u : Nat} (hs : s < 60) (hu : u < 60) (b : kIn S s) (b' : kIn S u) {x y : Int} (hx : -16000 ≤ x ∧ x ≤ 16000) (hy : -16000 ≤ y ∧ y ≤ 16000) : gPu E l gX1_sooner 4 [.ref (gBase E), vI s, vI u, vI x, vI y] h (vI (ksn S s u x y)) := by
  intro d hd
  have b0 := b
  have b0' := b'
  obtain ⟨⟨b1, b2⟩, b3, b4⟩ := b
  obtain ⟨⟨d1, d2⟩, d3, d4⟩ := b'
  have es : (s : Int).toNat = s := by omega
  have eu : (u : Int).toNat = u := by omega
  have l1 : -16000 ≤ klo S s y ∧ klo S s y ≤ 16000 := by unfold klo; omega
  have l2 : -16000 ≤ klo S u y ∧ klo S u y ≤ 16000 := by unfold klo; omega
  have e1 : max y (min (S.2 3 s) (S.2 5 s)) = klo S s y := rfl
  have e2 : max y (min (S.2 3 u) (S.2 5 u)) = klo S u y := rfl
  have fin : ∀ z : Int, z = ksn S s u x y → gRet (gRv (fun w h' => w = vI (ksn S s u x y) ∧ h' = h)) (.returned (some (vI z))) h := by
    intro z q
    subst q
    exact ⟨_, rfl, _, rfl, rfl, rfl⟩
  refine gOk_of gmok_X1_sooner rfl (Nat.le_of_ble_eq_true rfl) (L := [some _, some _, some _, some _, some _, none, none, none, none]) rfl ?_
  obtain ⟨Q, hQ⟩ : ∃ Q, Q = gRet (gRv (fun w h' => w = vI (ksn S s u x y) ∧ h' = h)) := ⟨_, rfl⟩
  rw [← hQ] at fin ⊢
  have k44 : ∀ p q : Int, (p = 1 ∧ S.2 2 s = S.2 4 s ∨ p = 0 ∧ S.2 2 s ≠ S.2 4 s) → (q = 1 ∧ S.2 2 u = S.2 4 u ∨ q = 0 ∧ S.2 2 u ≠ S.2 4 u) → G E l gX1_sooner d 0 0 Q 44 [some (.ref (gBase E)), some (vI s), some (vI u), some (vI x), some (vI y), some (vI p), some (vI q), none, none] [] h 0 0 := by
    intro p q hp hq
    refine G_iload_5 (pc := 44) dX1_sooner_44 ?_
    refine G_if_ne (pc := 46) 62 dX1_sooner_46 (by decide) (by omega) (fun c46 => ?_) (fun c46 => ?_)
    · skip
      refine G_iload_4 (pc := 62) dX1_sooner_62 ?_
      refine G_aload_0 (pc := 64) dX1_sooner_64 ?_
      refine G_kref (pc := 65) dX1_sooner_65 rfl ht hz rfl ?_
      refine G_iload_1 (pc := 68) dX1_sooner_68 ?_
      refine G_ki (pc := 69) dX1_sooner_69 ht hz rfl rfl (by omega) (fun b69 => ?_)
      refine G_aload_0 (pc := 70) dX1_sooner_70 ?_
      refine G_kref (pc := 71) dX1_sooner_71 rfl ht hz rfl ?_
      refine G_iload_1 (pc := 74) dX1_sooner_74 ?_
      refine G_ki (pc := 75) dX1_sooner_75 ht hz rfl rfl (by omega) (fun b75 => ?_)
      try simp only [es, eu]
      refine G_pS2 (pc := 76) dX1_sooner_76 rfl rfl (pu_J9_min (by omega) (by omega)) (by omega) (by omega) (by omega) (Nat.le_of_ble_eq_true rfl) ?_
      rw [mn_min]
      try simp only [es, eu]
      refine G_pS2 (pc := 79) dX1_sooner_79 rfl rfl (pu_J9_max (by omega) (by omega)) (by omega) (by omega) (by omega) (Nat.le_of_ble_eq_true rfl) ?_
      rw [mx_max]
      rw [e1]
      refine G_istore_7 (pc := 82) dX1_sooner_82 (by decide) rfl ?_
      refine G_iload_4 (pc := 84) dX1_sooner_84 ?_
      refine G_aload_0 (pc := 86) dX1_sooner_86 ?_
      refine G_kref (pc := 87) dX1_sooner_87 rfl ht hz rfl ?_
      refine G_iload_2 (pc := 90) dX1_sooner_90 ?_
      refine G_ki (pc := 91) dX1_sooner_91 ht hz rfl rfl (by omega) (fun b91 => ?_)
      refine G_aload_0 (pc := 92) dX1_sooner_92 ?_
      refine G_kref (pc := 93) dX1_sooner_93 rfl ht hz rfl ?_
      refine G_iload_2 (pc := 96) dX1_sooner_96 ?_
      refine G_ki (pc := 97) dX1_sooner_97 ht hz rfl rfl (by omega) (fun b97 => ?_)
      try simp only [es, eu]
      refine G_pS2 (pc := 98) dX1_sooner_98 rfl rfl (pu_J9_min (by omega) (by omega)) (by omega) (by omega) (by omega) (Nat.le_of_ble_eq_true rfl) ?_
      rw [mn_min]
      try simp only [es, eu]
      refine G_pS2 (pc := 101) dX1_sooner_101 rfl rfl (pu_J9_max (by omega) (by omega)) (by omega) (by omega) (by omega) (Nat.le_of_ble_eq_true rfl) ?_
      rw [mx_max]
      rw [e2]
      refine G_istore_8 (pc := 104) dX1_sooner_104 (by decide) rfl ?_
      refine G_iload_5 (pc := 106) dX1_sooner_106 ?_
      refine G_if_eq (pc := 108) 124 dX1_sooner_108 (by decide) (by omega) (fun c108 => ?_) (fun c108 => ?_)
      · skip
        refine G_iload_5 (pc := 124) dX1_sooner_124 ?_
        refine G_if_eq (pc := 126) 140 dX1_sooner_126 (by decide) (by omega) (fun c126 => ?_) (fun c126 => ?_)
        · skip
          refine G_aload_0 (pc := 140) dX1_sooner_140 ?_
          refine G_iload_1 (pc := 141) dX1_sooner_141 ?_
          refine G_iload_3 (pc := 142) dX1_sooner_142 ?_
          refine G_iload_8 (pc := 143) dX1_sooner_143 ?_
          refine G_pV3 (pc := 145) dX1_sooner_145 rfl (zK_k ht hz) (by decide) rfl (pu_X1_heightAgainst ht hz hs b0 hx l2) (by omega) (by omega) (by omega) (Nat.le_of_ble_eq_true rfl) ?_
          refine G_ineg (pc := 148) dX1_sooner_148 ?_
          refine G_ireturn (pc := 149) dX1_sooner_149 rfl rfl (by omega) (by omega) ?_
          first | (exfalso; omega) | (refine fin _ ?_; unfold ksn; first | rw [if_pos (by omega), if_pos (by omega)] | rw [if_pos (by omega), if_neg (by omega)] | rw [if_neg (by omega), if_pos (by omega)] | rw [if_neg (by omega), if_neg (by omega)])
        · skip
          refine G_aload_0 (pc := 129) dX1_sooner_129 ?_
          refine G_iload_2 (pc := 130) dX1_sooner_130 ?_
          refine G_iload_3 (pc := 131) dX1_sooner_131 ?_
          refine G_iload_7 (pc := 132) dX1_sooner_132 ?_
          refine G_pV3 (pc := 134) dX1_sooner_134 rfl (zK_k ht hz) (by decide) rfl (pu_X1_heightAgainst ht hz hu b0' hx l1) (by omega) (by omega) (by omega) (Nat.le_of_ble_eq_true rfl) ?_
          refine G_goto (pc := 137) 149 dX1_sooner_137 (by decide) ?_
          refine G_ireturn (pc := 149) dX1_sooner_149 rfl rfl (by omega) (by omega) ?_
          first | (exfalso; omega) | (refine fin _ ?_; unfold ksn; first | rw [if_pos (by omega), if_pos (by omega)] | rw [if_pos (by omega), if_neg (by omega)] | rw [if_neg (by omega), if_pos (by omega)] | rw [if_neg (by omega), if_neg (by omega)])
      · skip
        refine G_iload_6 (pc := 111) dX1_sooner_111 ?_
        refine G_if_eq (pc := 113) 124 dX1_sooner_113 (by decide) (by omega) (fun c113 => ?_) (fun c113 => ?_)
        · skip
          refine G_iload_5 (pc := 124) dX1_sooner_124 ?_
          refine G_if_eq (pc := 126) 140 dX1_sooner_126 (by decide) (by omega) (fun c126 => ?_) (fun c126 => ?_)
          · skip
            refine G_aload_0 (pc := 140) dX1_sooner_140 ?_
            refine G_iload_1 (pc := 141) dX1_sooner_141 ?_
            refine G_iload_3 (pc := 142) dX1_sooner_142 ?_
            refine G_iload_8 (pc := 143) dX1_sooner_143 ?_
            refine G_pV3 (pc := 145) dX1_sooner_145 rfl (zK_k ht hz) (by decide) rfl (pu_X1_heightAgainst ht hz hs b0 hx l2) (by omega) (by omega) (by omega) (Nat.le_of_ble_eq_true rfl) ?_
            refine G_ineg (pc := 148) dX1_sooner_148 ?_
            refine G_ireturn (pc := 149) dX1_sooner_149 rfl rfl (by omega) (by omega) ?_
            first | (exfalso; omega) | (refine fin _ ?_; unfold ksn; first | rw [if_pos (by omega), if_pos (by omega)] | rw [if_pos (by omega), if_neg (by omega)] | rw [if_neg (by omega), if_pos (by omega)] | rw [if_neg (by omega), if_neg (by omega)])
          · skip
            refine G_aload_0 (pc := 129) dX1_sooner_129 ?_
            refine G_iload_2 (pc := 130) dX1_sooner_130 ?_
            refine G_iload_3 (pc := 131) dX1_sooner_131 ?_
            refine G_iload_7 (pc := 132) dX1_sooner_132 ?_
            refine G_pV3 (pc := 134) dX1_sooner_134 rfl (zK_k ht hz) (by decide) rfl (pu_X1_heightAgainst ht hz hu b0' hx l1) (by omega) (by omega) (by omega) (Nat.le_of_ble_eq_true rfl) ?_
            refine G_goto (pc := 137) 149 dX1_sooner_137 (by decide) ?_
            refine G_ireturn (pc := 149) dX1_sooner_149 rfl rfl (by omega) (by omega) ?_
            first | (exfalso; omega) | (refine fin _ ?_; unfold ksn; first | rw [if_pos (by omega), if_pos (by omega)] | rw [if_pos (by omega), if_neg (by omega)] | rw [if_neg (by omega), if_pos (by omega)] | rw [if_neg (by omega), if_neg (by omega)])
        · skip
          refine G_iload_7 (pc := 116) dX1_sooner_116 ?_
          refine G_iload_8 (pc := 118) dX1_sooner_118 ?_
          refine G_pS2 (pc := 120) dX1_sooner_120 rfl rfl (pu_J20_compare (by omega) (by omega)) (by omega) (by omega) (by omega) (Nat.le_of_ble_eq_true rfl) ?_
          rw [sgI_sign]
          refine G_ireturn (pc := 123) dX1_sooner_123 rfl rfl (by omega) (by omega) ?_
          first | (exfalso; omega) | (refine fin _ ?_; unfold ksn; first | rw [if_pos (by omega), if_pos (by omega)] | rw [if_pos (by omega), if_neg (by omega)] | rw [if_neg (by omega), if_pos (by omega)] | rw [if_neg (by omega), if_neg (by omega)])
    · skip
      refine G_iload_6 (pc := 49) dX1_sooner_49 ?_
      refine G_if_ne (pc := 51) 62 dX1_sooner_51 (by decide) (by omega) (fun c51 => ?_) (fun c51 => ?_)
      · skip
        refine G_iload_4 (pc := 62) dX1_sooner_62 ?_
        refine G_aload_0 (pc := 64) dX1_sooner_64 ?_
        refine G_kref (pc := 65) dX1_sooner_65 rfl ht hz rfl ?_
        refine G_iload_1 (pc := 68) dX1_sooner_68 ?_
        refine G_ki (pc := 69) dX1_sooner_69 ht hz rfl rfl (by omega) (fun b69 => ?_)
        refine G_aload_0 (pc := 70) dX1_sooner_70 ?_
        refine G_kref (pc := 71) dX1_sooner_71 rfl ht hz rfl ?_
        refine G_iload_1 (pc := 74) dX1_sooner_74 ?_
        refine G_ki (pc := 75) dX1_sooner_75 ht hz rfl rfl (by omega) (fun b75 => ?_)
        try simp only [es, eu]
        refine G_pS2 (pc := 76) dX1_sooner_76 rfl rfl (pu_J9_min (by omega) (by omega)) (by omega) (by omega) (by omega) (Nat.le_of_ble_eq_true rfl) ?_
        rw [mn_min]
        try simp only [es, eu]
        refine G_pS2 (pc := 79) dX1_sooner_79 rfl rfl (pu_J9_max (by omega) (by omega)) (by omega) (by omega) (by omega) (Nat.le_of_ble_eq_true rfl) ?_
        rw [mx_max]
        rw [e1]
        refine G_istore_7 (pc := 82) dX1_sooner_82 (by decide) rfl ?_
        refine G_iload_4 (pc := 84) dX1_sooner_84 ?_
        refine G_aload_0 (pc := 86) dX1_sooner_86 ?_
        refine G_kref (pc := 87) dX1_sooner_87 rfl ht hz rfl ?_
        refine G_iload_2 (pc := 90) dX1_sooner_90 ?_
        refine G_ki (pc := 91) dX1_sooner_91 ht hz rfl rfl (by omega) (fun b91 => ?_)
        refine G_aload_0 (pc := 92) dX1_sooner_92 ?_
        refine G_kref (pc := 93) dX1_sooner_93 rfl ht hz rfl ?_
        refine G_iload_2 (pc := 96) dX1_sooner_96 ?_
        refine G_ki (pc := 97) dX1_sooner_97 ht hz rfl rfl (by omega) (fun b97 => ?_)
        try simp only [es, eu]
        refine G_pS2 (pc := 98) dX1_sooner_98 rfl rfl (pu_J9_min (by omega) (by omega)) (by omega) (by omega) (by omega) (Nat.le_of_ble_eq_true rfl) ?_
        rw [mn_min]
        try simp only [es, eu]
        refine G_pS2 (pc := 101) dX1_sooner_101 rfl rfl (pu_J9_max (by omega) (by omega)) (by omega) (by omega) (by omega) (Nat.le_of_ble_eq_true rfl) ?_
        rw [mx_max]
        rw [e2]
        refine G_istore_8 (pc := 104) dX1_sooner_104 (by decide) rfl ?_
        refine G_iload_5 (pc := 106) dX1_sooner_106 ?_
        refine G_if_eq (pc := 108) 124 dX1_sooner_108 (by decide) (by omega) (fun c108 => ?_) (fun c108 => ?_)
        · skip
          refine G_iload_5 (pc := 124) dX1_sooner_124 ?_
          refine G_if_eq (pc := 126) 140 dX1_sooner_126 (by decide) (by omega) (fun c126 => ?_) (fun c126 => ?_)
          · skip
            refine G_aload_0 (pc := 140) dX1_sooner_140 ?_
            refine G_iload_1 (pc := 141) dX1_sooner_141 ?_
            refine G_iload_3 (pc := 142) dX1_sooner_142 ?_
            refine G_iload_8 (pc := 143) dX1_sooner_143 ?_
            refine G_pV3 (pc := 145) dX1_sooner_145 rfl (zK_k ht hz) (by decide) rfl (pu_X1_heightAgainst ht hz hs b0 hx l2) (by omega) (by omega) (by omega) (Nat.le_of_ble_eq_true rfl) ?_
            refine G_ineg (pc := 148) dX1_sooner_148 ?_
            refine G_ireturn (pc := 149) dX1_sooner_149 rfl rfl (by omega) (by omega) ?_
            first | (exfalso; omega) | (refine fin _ ?_; unfold ksn; first | rw [if_pos (by omega), if_pos (by omega)] | rw [if_pos (by omega), if_neg (by omega)] | rw [if_neg (by omega), if_pos (by omega)] | rw [if_neg (by omega), if_neg (by omega)])
          · skip
            refine G_aload_0 (pc := 129) dX1_sooner_129 ?_
            refine G_iload_2 (pc := 130) dX1_sooner_130 ?_
            refine G_iload_3 (pc := 131) dX1_sooner_131 ?_
            refine G_iload_7 (pc := 132) dX1_sooner_132 ?_
            refine G_pV3 (pc := 134) dX1_sooner_134 rfl (zK_k ht hz) (by decide) rfl (pu_X1_heightAgainst ht hz hu b0' hx l1) (by omega) (by omega) (by omega) (Nat.le_of_ble_eq_true rfl) ?_
            refine G_goto (pc := 137) 149 dX1_sooner_137 (by decide) ?_
            refine G_ireturn (pc := 149) dX1_sooner_149 rfl rfl (by omega) (by omega) ?_
            first | (exfalso; omega) | (refine fin _ ?_; unfold ksn; first | rw [if_pos (by omega), if_pos (by omega)] | rw [if_pos (by omega), if_neg (by omega)] | rw [if_neg (by omega), if_pos (by omega)] | rw [if_neg (by omega), if_neg (by omega)])
        · skip
          refine G_iload_6 (pc := 111) dX1_sooner_111 ?_
          refine G_if_eq (pc := 113) 124 dX1_sooner_113 (by decide) (by omega) (fun c113 => ?_) (fun c113 => ?_)
          · skip
            refine G_iload_5 (pc := 124) dX1_sooner_124 ?_
            refine G_if_eq (pc := 126) 140 dX1_sooner_126 (by decide) (by omega) (fun c126 => ?_) (fun c126 => ?_)
            · skip
              refine G_aload_0 (pc := 140) dX1_sooner_140 ?_
              refine G_iload_1 (pc := 141) dX1_sooner_141 ?_
              refine G_iload_3 (pc := 142) dX1_sooner_142 ?_
              refine G_iload_8 (pc := 143) dX1_sooner_143 ?_
              refine G_pV3 (pc := 145) dX1_sooner_145 rfl (zK_k ht hz) (by decide) rfl (pu_X1_heightAgainst ht hz hs b0 hx l2) (by omega) (by omega) (by omega) (Nat.le_of_ble_eq_true rfl) ?_
              refine G_ineg (pc := 148) dX1_sooner_148 ?_
              refine G_ireturn (pc := 149) dX1_sooner_149 rfl rfl (by omega) (by omega) ?_
              first | (exfalso; omega) | (refine fin _ ?_; unfold ksn; first | rw [if_pos (by omega), if_pos (by omega)] | rw [if_pos (by omega), if_neg (by omega)] | rw [if_neg (by omega), if_pos (by omega)] | rw [if_neg (by omega), if_neg (by omega)])
            · skip
              refine G_aload_0 (pc := 129) dX1_sooner_129 ?_
              refine G_iload_2 (pc := 130) dX1_sooner_130 ?_
              refine G_iload_3 (pc := 131) dX1_sooner_131 ?_
              refine G_iload_7 (pc := 132) dX1_sooner_132 ?_
              refine G_pV3 (pc := 134) dX1_sooner_134 rfl (zK_k ht hz) (by decide) rfl (pu_X1_heightAgainst ht hz hu b0' hx l1) (by omega) (by omega) (by omega) (Nat.le_of_ble_eq_true rfl) ?_
              refine G_goto (pc := 137) 149 dX1_sooner_137 (by decide) ?_
              refine G_ireturn (pc := 149) dX1_sooner_149 rfl rfl (by omega) (by omega) ?_
              first | (exfalso; omega) | (refine fin _ ?_; unfold ksn; first | rw [if_pos (by omega), if_pos (by omega)] | rw [if_pos (by omega), if_neg (by omega)] | rw [if_neg (by omega), if_pos (by omega)] | rw [if_neg (by omega), if_neg (by omega)])
          · skip
            refine G_iload_7 (pc := 116) dX1_sooner_116 ?_
            refine G_iload_8 (pc := 118) dX1_sooner_118 ?_
            refine G_pS2 (pc := 120) dX1_sooner_120 rfl rfl (pu_J20_compare (by omega) (by omega)) (by omega) (by omega) (by omega) (Nat.le_of_ble_eq_true rfl) ?_
            rw [sgI_sign]
            refine G_ireturn (pc := 123) dX1_sooner_123 rfl rfl (by omega) (by omega) ?_
            first | (exfalso; omega) | (refine fin _ ?_; unfold ksn; first | rw [if_pos (by omega), if_pos (by omega)] | rw [if_pos (by omega), if_neg (by omega)] | rw [if_neg (by omega), if_pos (by omega)] | rw [if_neg (by omega), if_neg (by omega)])
      · skip
        refine G_aload_0 (pc := 54) dX1_sooner_54 ?_
        refine G_iload_1 (pc := 55) dX1_sooner_55 ?_
        refine G_iload_2 (pc := 56) dX1_sooner_56 ?_
        refine G_iload_3 (pc := 57) dX1_sooner_57 ?_
        refine G_pV3 (pc := 58) dX1_sooner_58 rfl (zK_k ht hz) (by decide) rfl (pu_X1_compare ht hz hs hu b0 b0' hx) (by omega) (by omega) (by omega) (Nat.le_of_ble_eq_true rfl) ?_
        refine G_ireturn (pc := 61) dX1_sooner_61 rfl rfl (by omega) (by omega) ?_
        first | (exfalso; omega) | (refine fin _ ?_; unfold ksn; first | rw [if_pos (by omega), if_pos (by omega)] | rw [if_pos (by omega), if_neg (by omega)] | rw [if_neg (by omega), if_pos (by omega)] | rw [if_neg (by omega), if_neg (by omega)])
  refine G_aload_0 (pc := 0) dX1_sooner_0 ?_
  refine G_kref (pc := 1) dX1_sooner_1 rfl ht hz rfl ?_
  refine G_iload_1 (pc := 4) dX1_sooner_4 ?_
  refine G_ki (pc := 5) dX1_sooner_5 ht hz rfl rfl (by omega) (fun b5 => ?_)
  refine G_aload_0 (pc := 6) dX1_sooner_6 ?_
  refine G_kref (pc := 7) dX1_sooner_7 rfl ht hz rfl ?_
  refine G_iload_1 (pc := 10) dX1_sooner_10 ?_
  refine G_ki (pc := 11) dX1_sooner_11 ht hz rfl rfl (by omega) (fun b11 => ?_)
  simp only [es]
  refine G_icmp_ne (pc := 12) 19 dX1_sooner_12 (by decide) (by omega) (by omega) (fun c12 => ?_) (fun c12 => ?_)
  · skip
    refine G_iconst (pc := 19) dX1_sooner_19 ?_
    refine G_istore_5 (pc := 20) dX1_sooner_20 (by decide) rfl ?_
    refine G_aload_0 (pc := 22) dX1_sooner_22 ?_
    refine G_kref (pc := 23) dX1_sooner_23 rfl ht hz rfl ?_
    refine G_iload_2 (pc := 26) dX1_sooner_26 ?_
    refine G_ki (pc := 27) dX1_sooner_27 ht hz rfl rfl (by omega) (fun b27 => ?_)
    refine G_aload_0 (pc := 28) dX1_sooner_28 ?_
    refine G_kref (pc := 29) dX1_sooner_29 rfl ht hz rfl ?_
    refine G_iload_2 (pc := 32) dX1_sooner_32 ?_
    refine G_ki (pc := 33) dX1_sooner_33 ht hz rfl rfl (by omega) (fun b33 => ?_)
    simp only [eu]
    refine G_icmp_ne (pc := 34) 41 dX1_sooner_34 (by decide) (by omega) (by omega) (fun c34 => ?_) (fun c34 => ?_)
    · skip
      refine G_iconst (pc := 41) dX1_sooner_41 ?_
      refine G_istore_6 (pc := 42) dX1_sooner_42 (by decide) rfl ?_
      exact k44 _ _ (by omega) (by omega)
    · skip
      refine G_iconst (pc := 37) dX1_sooner_37 ?_
      refine G_goto (pc := 38) 42 dX1_sooner_38 (by decide) ?_
      refine G_istore_6 (pc := 42) dX1_sooner_42 (by decide) rfl ?_
      exact k44 _ _ (by omega) (by omega)
  · skip
    refine G_iconst (pc := 15) dX1_sooner_15 ?_
    refine G_goto (pc := 16) 20 dX1_sooner_16 (by decide) ?_
    refine G_istore_5 (pc := 20) dX1_sooner_20 (by decide) rfl ?_
    refine G_aload_0 (pc := 22) dX1_sooner_22 ?_
    refine G_kref (pc := 23) dX1_sooner_23 rfl ht hz rfl ?_
    refine G_iload_2 (pc := 26) dX1_sooner_26 ?_
    refine G_ki (pc := 27) dX1_sooner_27 ht hz rfl rfl (by omega) (fun b27 => ?_)
    refine G_aload_0 (pc := 28) dX1_sooner_28 ?_
    refine G_kref (pc := 29) dX1_sooner_29 rfl ht hz rfl ?_
    refine G_iload_2 (pc := 32) dX1_sooner_32 ?_
    refine G_ki (pc := 33) dX1_sooner_33 ht hz rfl rfl (by omega) (fun b33 => ?_)
    simp only [eu]
    refine G_icmp_ne (pc := 34) 41 dX1_sooner_34 (by decide) (by omega) (by omega) (fun c34 => ?_) (fun c34 => ?_)
    · skip
      refine G_iconst (pc := 41) dX1_sooner_41 ?_
      refine G_istore_6 (pc := 42) dX1_sooner_42 (by decide) rfl ?_
      exact k44 _ _ (by omega) (by omega)
    · skip
      refine G_iconst (pc := 37) dX1_sooner_37 ?_
      refine G_goto (pc := 38) 42 dX1_sooner_38 (by decide) ?_
      refine G_istore_6 (pc := 42) dX1_sooner_42 (by decide) rfl ?_
      exact k44 _ _ (by omega) (by omega)
/-- the segment first met above a place, of the first n -/
noncomputable def kbv (S : mS) (x y : Int) : Nat → Int
  | 0 => -1
  | n + 1 => zI (S.2 1 n = 1 ∧ kmt S n x y ∧ (kbv S x y n < 0 ∨ ksn S n (kbv S x y n).toNat x y < 0)) (n : Int) (kbv S x y n)
theorem kbv_b (S : mS) (x y : Int) (n : Nat) : -1 ≤ kbv S x y n ∧ kbv S x y n < n ∧ (0 ≤ kbv S x y n → S.2 1 (kbv S x y n).toNat = 1) := by
  induction n with
  | zero => simp [kbv]
  | succ n ih =>
    by_cases c : S.2 1 n = 1 ∧ kmt S n x y ∧ (kbv S x y n < 0 ∨ ksn S n (kbv S x y n).toNat x y < 0)
    · rw [kbv, zI_pos c]; refine ⟨by omega, by omega, fun _ => ?_⟩; rw [Int.toNat_natCast]; exact c.1
    · rw [kbv, zI_neg c]; exact ⟨ih.1, by omega, ih.2.2⟩
theorem ok_X1_argue {d : Nat} (hd : 1 ≤ d) : gOk E l gX1_argue d 0 0 [vI 1] h (gRu (fun h' => h' = h)) := by
  refine gOk_of gmok_X1_argue rfl (Nat.le_of_ble_eq_true rfl) (L := [some _]) rfl ?_
  refine G_iload_0 (pc := 0) dX1_argue_0 ?_
  refine G_if_ne (pc := 1) 12 dX1_argue_1 (by decide) (by omega) (fun _ => ?_) (fun q => absurd q (by decide))
  refine G_return (pc := 12) dX1_argue_12 rfl (by omega) (by omega) ?_
  exact ⟨_, rfl, rfl, rfl⟩
theorem pu_X1_above (ht : zT E h T) (hz : zK E T S) (b : ∀ s, s < 60 → S.2 1 s = 1 → kIn S s) {x y : Int} (hx : -16000 ≤ x ∧ x ≤ 16000) (hy : -16000 ≤ y ∧ y ≤ 16000) : gPu E l gX1_above 5 [.ref (gBase E), vI x, vI y] h (vI (kbv S x y 60)) := by
  intro d hd
  refine gOk_of gmok_X1_above rfl (Nat.le_of_ble_eq_true rfl) (L := [some _, some _, some _, none, none]) rfl ?_
  obtain ⟨Q, hQ⟩ : ∃ Q, Q = gRet (gRv (fun w h' => w = vI (kbv S x y 60) ∧ h' = h)) := ⟨_, rfl⟩
  rw [← hQ]
  have k27 : ∀ (n k : Nat), k + n = 60 → G E l gX1_above d 0 0 Q 27 [some (.ref (gBase E)), some (vI x), some (vI y), some (vI (kbv S x y k)), some (vI k)] [] h 0 0 := by
    intro n
    induction n with
    | zero =>
      intro k hn
      have ek : k = 60 := by omega
      subst ek
      refine G_iload_4 (pc := 27) dX1_above_27 ?_
      refine G_bipush (pc := 29) dX1_above_29 (by omega) ?_
      refine G_icmp_ge (pc := 31) 80 dX1_above_31 (by decide) (by omega) (by omega) (fun c31 => ?_) (fun c31 => ?_)
      · skip
        refine G_iload_3 (pc := 80) dX1_above_80 ?_
        refine G_ireturn (pc := 81) dX1_above_81 rfl rfl (by omega) (by omega) ?_
        subst hQ
        exact ⟨_, rfl, _, rfl, rfl, rfl⟩
      · exact absurd c31 (by omega)
    | succ n ih =>
      intro k hn
      have hb := kbv_b S x y k
      have ekn : (k : Int).toNat = k := by omega
      have go : ∀ v : Int, v = kbv S x y (k + 1) → G E l gX1_above d 0 0 Q 74 [some (.ref (gBase E)), some (vI x), some (vI y), some (vI v), some (vI k)] [] h 0 0 := by
        intro v hv
        subst hv
        refine G_iinc_4 (pc := 74) dX1_above_74 (by decide) rfl ?_
        refine G_goto (pc := 77) 27 dX1_above_77 (by decide) ?_
        rw [show ((k : Int) + 1) = ((k + 1 : Nat) : Int) by omega]
        exact ih (k + 1) (by omega)
      have gp : (S.2 1 k = 1 ∧ kmt S k x y ∧ (kbv S x y k < 0 ∨ ksn S k (kbv S x y k).toNat x y < 0)) → (k : Int) = kbv S x y (k + 1) := fun c => by rw [kbv, zI_pos c]
      have gn : ¬ (S.2 1 k = 1 ∧ kmt S k x y ∧ (kbv S x y k < 0 ∨ ksn S k (kbv S x y k).toNat x y < 0)) → kbv S x y k = kbv S x y (k + 1) := fun c => by rw [kbv, zI_neg c]
      refine G_iload_4 (pc := 27) dX1_above_27 ?_
      refine G_bipush (pc := 29) dX1_above_29 (by omega) ?_
      refine G_icmp_ge (pc := 31) 80 dX1_above_31 (by decide) (by omega) (by omega) (fun c31 => ?_) (fun c31 => ?_)
      · exact absurd c31 (by omega)
      · skip
        refine G_aload_0 (pc := 34) dX1_above_34 ?_
        refine G_kref (pc := 35) dX1_above_35 rfl ht hz rfl ?_
        refine G_iload_4 (pc := 38) dX1_above_38 ?_
        refine G_kb (pc := 40) dX1_above_40 ht hz (by omega) (fun b40 => ?_)
        rw [ekn] at b40 ⊢
        refine G_if_eq (pc := 41) 74 dX1_above_41 (by decide) (by omega) (fun c41 => ?_) (fun c41 => ?_)
        · skip
          first | exact go _ (gn (fun q => by omega)) | exact go _ (gn (fun q => c52 q.2.1)) | exact go _ (gp ⟨hl, c52, by omega⟩)
        · skip
          have hl : S.2 1 k = 1 := by omega
          have bk := b k (by omega) hl
          refine G_aload_0 (pc := 44) dX1_above_44 ?_
          refine G_iload_4 (pc := 45) dX1_above_45 ?_
          refine G_iload_1 (pc := 47) dX1_above_47 ?_
          refine G_iload_2 (pc := 48) dX1_above_48 ?_
          refine G_pV3 (pc := 49) dX1_above_49 rfl (zK_k ht hz) (by decide) rfl (pu_X1_isMet ht hz (by omega) bk hx hy) (by omega) (by omega) (by omega) (Nat.le_of_ble_eq_true rfl) ?_
          refine G_ifb_eq (pc := 52) 74 dX1_above_52 (by decide) (fun c52 => ?_) (fun c52 => ?_)
          · skip
            first | exact go _ (gn (fun q => by omega)) | exact go _ (gn (fun q => c52 q.2.1)) | exact go _ (gp ⟨hl, c52, by omega⟩)
          · skip
            refine G_iload_3 (pc := 55) dX1_above_55 ?_
            refine G_if_lt (pc := 56) 71 dX1_above_56 (by decide) (by omega) (fun c56 => ?_) (fun c56 => ?_)
            · skip
              refine G_iload_4 (pc := 71) dX1_above_71 ?_
              refine G_istore_3 (pc := 73) dX1_above_73 (by decide) rfl ?_
              first | exact go _ (gn (fun q => by omega)) | exact go _ (gn (fun q => c52 q.2.1)) | exact go _ (gp ⟨hl, c52, by omega⟩)
            · skip
              obtain ⟨j, ej⟩ : ∃ j : Nat, kbv S x y k = j := ⟨(kbv S x y k).toNat, by omega⟩
              have hlj : S.2 1 j = 1 := by (have := hb.2.2 (by omega); rw [ej, Int.toNat_natCast] at this; exact this)
              rw [ej] at gp gn hb ⊢
              rw [Int.toNat_natCast] at gp gn
              have hcp := ksn_b S k j x y
              refine G_aload_0 (pc := 59) dX1_above_59 ?_
              refine G_iload_4 (pc := 60) dX1_above_60 ?_
              refine G_iload_3 (pc := 62) dX1_above_62 ?_
              refine G_iload_1 (pc := 63) dX1_above_63 ?_
              refine G_iload_2 (pc := 64) dX1_above_64 ?_
              refine G_pV4 (pc := 65) dX1_above_65 rfl (zK_k ht hz) (by decide) rfl (pu_X1_sooner ht hz (by omega) (by omega) bk (b j (by omega) hlj) hx hy) (by omega) (by omega) (by omega) (Nat.le_of_ble_eq_true rfl) ?_
              refine G_if_ge (pc := 68) 74 dX1_above_68 (by decide) (by omega) (fun c68 => ?_) (fun c68 => ?_)
              · skip
                first | exact go _ (gn (fun q => by omega)) | exact go _ (gn (fun q => c52 q.2.1)) | exact go _ (gp ⟨hl, c52, by omega⟩)
              · skip
                refine G_iload_4 (pc := 71) dX1_above_71 ?_
                refine G_istore_3 (pc := 73) dX1_above_73 (by decide) rfl ?_
                first | exact go _ (gn (fun q => by omega)) | exact go _ (gn (fun q => c52 q.2.1)) | exact go _ (gp ⟨hl, c52, by omega⟩)
  refine G_iload_1 (pc := 0) dX1_above_0 ?_
  refine G_pS1 (pc := 1) dX1_above_1 rfl rfl (pu_X1_isIn _ (by omega)) (by omega) (by omega) (by omega) (Nat.le_of_ble_eq_true rfl) ?_
  refine G_ifb_eq (pc := 4) 18 dX1_above_4 (by decide) (fun c4 => ?_) (fun c4 => ?_)
  · exact absurd c4 (fun q => q hx)
  · skip
    refine G_iload_2 (pc := 7) dX1_above_7 ?_
    refine G_pS1 (pc := 8) dX1_above_8 rfl rfl (pu_X1_isIn _ (by omega)) (by omega) (by omega) (by omega) (Nat.le_of_ble_eq_true rfl) ?_
    refine G_ifb_eq (pc := 11) 18 dX1_above_11 (by decide) (fun c11 => ?_) (fun c11 => ?_)
    · exact absurd c11 (fun q => q hy)
    · skip
      refine G_iconst (pc := 14) dX1_above_14 ?_
      refine G_goto (pc := 15) 19 dX1_above_15 (by decide) ?_
      refine G_callS1u (d' := 1) dX1_above_19 rfl rfl (ok_X1_argue (Nat.le_refl _)) (by omega) (by omega) (by omega) (Nat.le_of_ble_eq_true rfl) (fun h' q => ?_)
      subst q
      refine G_iconst (pc := 22) dX1_above_22 ?_
      refine G_istore_3 (pc := 23) dX1_above_23 (by decide) rfl ?_
      refine G_iconst (pc := 24) dX1_above_24 ?_
      refine G_istore_4 (pc := 25) dX1_above_25 (by decide) rfl ?_
      exact k27 60 0 rfl
end CLS3
