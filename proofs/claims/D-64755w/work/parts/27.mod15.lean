set_option maxRecDepth 100000
def lvs (S : mS) (x y : Int) (k : Nat) : Prop := S.2 1 (k / 2) = 1 ∧ S.2 2 k = x ∧ S.2 3 k = y
def onS (S : mS) (x y : Int) (s : Nat) : Prop := S.2 1 s = 1 ∧ zon (S.2 2 (2 * s)) (S.2 3 (2 * s)) (S.2 2 (2 * s + 1)) (S.2 3 (2 * s + 1)) x y
/-- where a place is, by the reference -/
def lcP (S : mS) (x y v : Int) : Prop :=
  (∃ k, k < 120 ∧ lvs S x y k ∧ (∀ j, j < k → ¬ lvs S x y j) ∧ v = -100 - k) ∨
  ((∀ j, j < 120 → ¬ lvs S x y j) ∧ ∃ s, s < 60 ∧ onS S x y s ∧ (∀ j, j < s → ¬ onS S x y j) ∧ v = -2 - s) ∨
  ((∀ j, j < 120 → ¬ lvs S x y j) ∧ (∀ j, j < 60 → ¬ onS S x y j) ∧ v = if lsR S x y (-1) (S.1 8).toNat < 0 then 0 else S.2 13 (lsR S x y (-1) (S.1 8).toNat).toNat)
section MOD15
variable {E : gV} {l : Launch} {S : mS}
theorem mo_X2_locate (K : zOK (mP S)) (tr : mTr S) (pr : mPrd S) (cur : S.1 4 = 1 → mCur S) {x y : Int} (hx : -2147483648 ≤ x ∧ x ≤ 2147483647) (hy : -2147483648 ≤ y ∧ y ≤ 2147483647) :
    mOk E l gX2_locate 8 [.ref (gBase E + 12), vI x, vI y] S (fun v S' => ∃ w, v = some w ∧ gInt w ∧ mKp S S' ∧ S'.1 0 = bI (¬ ((-16000 ≤ x ∧ x ≤ 16000) ∧ (-16000 ≤ y ∧ y ≤ 16000))) ∧ (((-16000 ≤ x ∧ x ≤ 16000) ∧ (-16000 ≤ y ∧ y ≤ 16000)) → mCur S' ∧ ∃ v, w = vI v ∧ lcP S' x y v)) := by
  intro h hm d hd
  have hk := gKeepM_rf E h
  refine gOk_of gmok_X2_locate rfl (Nat.le_of_ble_eq_true rfl) (L := [some _, some _, some _, none]) rfl ?_
  obtain ⟨Q, hQ⟩ : ∃ Q, Q = gRet (fun v h' => ∃ S', zMo E h' S' ∧ gKeepM E h h' ∧ ∃ w, v = some w ∧ gInt w ∧ mKp S S' ∧ S'.1 0 = bI (¬ ((-16000 ≤ x ∧ x ≤ 16000) ∧ (-16000 ≤ y ∧ y ≤ 16000))) ∧ (((-16000 ≤ x ∧ x ≤ 16000) ∧ (-16000 ≤ y ∧ y ≤ 16000)) → mCur S' ∧ ∃ v, w = vI v ∧ lcP S' x y v)) := ⟨_, rfl⟩
  rw [← hQ]
  have all : ∀ (S1 : mS), mCur S1 → S1.2 1 = S.2 1 → S1.2 2 = S.2 2 → S1.2 3 = S.2 3 → S1.1 0 = 0 → ((-16000 ≤ x ∧ x ≤ 16000) ∧ (-16000 ≤ y ∧ y ≤ 16000)) → ∀ (h1 : gH), zMo E h1 S1 → gKeepM E h h1 → G E l gX2_locate d 0 0 Q 34 [some (.ref (gBase E + 12)), some (vI x), some (vI y), some (vI 0)] [] h1 0 0 := by
    intro S1 q1 q4 q5 q6 q0 hxy h1 hm hk
    have hb := mCur_b q1
    have eP : mP S1 = mP S := mP_eq q4 q5 q6
    have K1 : zOK (mP S1) := by rw [eP]; exact K
    have fin : ∀ s : Int, lcP S1 x y s → Q (.returned (some (vI s))) h1 := by
      intro s hs
      subst hQ
      exact ⟨_, rfl, S1, hm, hk, _, rfl, ⟨_, rfl⟩, ⟨⟨q4, q5, q6⟩, fun _ => q1⟩, by rw [q0]; exact (bI_neg (fun z => z hxy)).symm, fun _ => ⟨q1, s, rfl, hs⟩⟩
    have hls := lsR_b S1 x y (-1) (S1.1 8).toNat
    have k63 : (∀ j, j < 120 → ¬ lvs S1 x y j) → ∀ (n k : Nat), k + n = 60 → (∀ j, j < k → ¬ onS S1 x y j) → G E l gX2_locate d 0 0 Q 63 [some (.ref (gBase E + 12)), some (vI x), some (vI y), some (vI k)] [] h1 0 0 := by
      intro nl n
      induction n with
      | zero =>
        intro k hn no
        have ek : k = 60 := by omega
        subst ek
        refine G_iload_3 (pc := 63) dX2_locate_63 ?_
        refine G_bipush (pc := 64) dX2_locate_64 (by omega) ?_
        refine G_icmp_ge (pc := 66) 133 dX2_locate_66 (by decide) (by omega) (by omega) (fun c66 => ?_) (fun c66 => ?_)
        · skip
          refine G_aload_0 (pc := 133) dX2_locate_133 ?_
          refine G_iload_1 (pc := 134) dX2_locate_134 ?_
          refine G_iload_2 (pc := 135) dX2_locate_135 ?_
          refine G_iconst (pc := 136) dX2_locate_136 ?_
          refine G_pV3 (pc := 137) dX2_locate_137 rfl hm.1 (by decide) rfl (mp_X2_least hm K1 (R := (S1.1 8).toNat) (by omega) (by omega) (fun r hr => by have := hb.2.2.2.2 r (by omega); exact ⟨this.1, this.2.1⟩) hxy.1 hxy.2 (by omega)) (by omega) (by omega) (by omega) (Nat.le_of_ble_eq_true rfl) ?_
          refine G_istore_3 (pc := 140) dX2_locate_140 (by decide) rfl ?_
          refine G_iload_3 (pc := 141) dX2_locate_141 ?_
          refine G_if_ge (pc := 142) 149 dX2_locate_142 (by decide) (by omega) (fun c142 => ?_) (fun c142 => ?_)
          · skip
            refine G_aload_0 (pc := 149) dX2_locate_149 ?_
            refine G_mref (pc := 150) dX2_locate_150 rfl hm rfl ?_
            refine G_iload_3 (pc := 153) dX2_locate_153 ?_
            refine G_mi (pc := 154) (n := 120) dX2_locate_154 hm rfl rfl rfl (by omega) (fun b154 => ?_)
            refine G_ireturn (pc := 155) dX2_locate_155 rfl rfl (by omega) (by omega) ?_
            refine fin _ (Or.inr (Or.inr ⟨nl, no, ?_⟩))
            first | rw [if_pos (by omega)] | rw [if_neg (by omega)]
          · skip
            refine G_iconst (pc := 145) dX2_locate_145 ?_
            refine G_goto (pc := 146) 155 dX2_locate_146 (by decide) ?_
            refine G_ireturn (pc := 155) dX2_locate_155 rfl rfl (by omega) (by omega) ?_
            refine fin _ (Or.inr (Or.inr ⟨nl, no, ?_⟩))
            first | rw [if_pos (by omega)] | rw [if_neg (by omega)]
        · exact absurd c66 (by omega)
      | succ n ih =>
        intro k hn no
        have go : ¬ onS S1 x y k → G E l gX2_locate d 0 0 Q 127 [some (.ref (gBase E + 12)), some (vI x), some (vI y), some (vI k)] [] h1 0 0 := by
          intro nk
          refine G_iinc_3 (pc := 127) dX2_locate_127 (by decide) rfl ?_
          refine G_goto (pc := 130) 63 dX2_locate_130 (by decide) ?_
          rw [show ((k : Int) + 1) = ((k + 1 : Nat) : Int) by omega]
          refine ih (k + 1) (by omega) (fun j hj => ?_)
          by_cases e : j = k
          · subst e; exact nk
          · exact no j (by omega)
        have e1 : (2 * (k : Int)).toNat = 2 * k := by omega
        have e2 : (2 * (k : Int) + 1).toNat = 2 * k + 1 := by omega
        by_cases hl : S1.2 1 k = 1
        · have q1 : (-16000 ≤ S1.2 2 (2 * k) ∧ S1.2 2 (2 * k) ≤ 16000) ∧ (-16000 ≤ S1.2 3 (2 * k) ∧ S1.2 3 (2 * k) ≤ 16000) := K1.1 (2 * k) (mP_L.mpr ⟨by omega, by rw [show 2 * k / 2 = k by omega]; exact hl⟩)
          have q2 : (-16000 ≤ S1.2 2 (2 * k + 1) ∧ S1.2 2 (2 * k + 1) ≤ 16000) ∧ (-16000 ≤ S1.2 3 (2 * k + 1) ∧ S1.2 3 (2 * k + 1) ≤ 16000) := K1.1 (2 * k + 1) (mP_L.mpr ⟨by omega, by rw [show (2 * k + 1) / 2 = k by omega]; exact hl⟩)
          refine G_iload_3 (pc := 63) dX2_locate_63 ?_
          refine G_bipush (pc := 64) dX2_locate_64 (by omega) ?_
          refine G_icmp_ge (pc := 66) 133 dX2_locate_66 (by decide) (by omega) (by omega) (fun c66 => ?_) (fun c66 => ?_)
          · exact absurd c66 (by omega)
          · skip
            refine G_aload_0 (pc := 69) dX2_locate_69 ?_
            refine G_mref (pc := 70) dX2_locate_70 rfl hm rfl ?_
            refine G_iload_3 (pc := 73) dX2_locate_73 ?_
            refine G_mb (pc := 74) dX2_locate_74 hm (by omega) (fun b74 => ?_)
            rw [Int.toNat_natCast] at *
            refine G_if_eq (pc := 75) 127 dX2_locate_75 (by decide) (by omega) (fun c75 => ?_) (fun c75 => ?_)
            · exact absurd c75 (by omega)
            · skip
              refine G_aload_0 (pc := 78) dX2_locate_78 ?_
              refine G_mref (pc := 79) dX2_locate_79 rfl hm rfl ?_
              refine G_iconst (pc := 82) dX2_locate_82 ?_
              refine G_iload_3 (pc := 83) dX2_locate_83 ?_
              refine G_imul (pc := 84) dX2_locate_84 ?_
              refine G_mi (pc := 85) (n := 120) dX2_locate_85 hm rfl rfl rfl (by omega) (fun b85 => ?_)
              refine G_aload_0 (pc := 86) dX2_locate_86 ?_
              refine G_mref (pc := 87) dX2_locate_87 rfl hm rfl ?_
              refine G_iconst (pc := 90) dX2_locate_90 ?_
              refine G_iload_3 (pc := 91) dX2_locate_91 ?_
              refine G_imul (pc := 92) dX2_locate_92 ?_
              refine G_mi (pc := 93) (n := 120) dX2_locate_93 hm rfl rfl rfl (by omega) (fun b93 => ?_)
              refine G_aload_0 (pc := 94) dX2_locate_94 ?_
              refine G_mref (pc := 95) dX2_locate_95 rfl hm rfl ?_
              refine G_iconst (pc := 98) dX2_locate_98 ?_
              refine G_iload_3 (pc := 99) dX2_locate_99 ?_
              refine G_imul (pc := 100) dX2_locate_100 ?_
              refine G_iconst (pc := 101) dX2_locate_101 ?_
              refine G_iadd (pc := 102) dX2_locate_102 ?_
              refine G_mi (pc := 103) (n := 120) dX2_locate_103 hm rfl rfl rfl (by omega) (fun b103 => ?_)
              refine G_aload_0 (pc := 104) dX2_locate_104 ?_
              refine G_mref (pc := 105) dX2_locate_105 rfl hm rfl ?_
              refine G_iconst (pc := 108) dX2_locate_108 ?_
              refine G_iload_3 (pc := 109) dX2_locate_109 ?_
              refine G_imul (pc := 110) dX2_locate_110 ?_
              refine G_iconst (pc := 111) dX2_locate_111 ?_
              refine G_iadd (pc := 112) dX2_locate_112 ?_
              refine G_mi (pc := 113) (n := 120) dX2_locate_113 hm rfl rfl rfl (by omega) (fun b113 => ?_)
              refine G_iload_1 (pc := 114) dX2_locate_114 ?_
              refine G_iload_2 (pc := 115) dX2_locate_115 ?_
              simp only [e1, e2]
              refine G_pS6 (pc := 116) dX2_locate_116 rfl rfl (pu_X2_isOn (by omega) (by omega) (by omega) (by omega) (by omega) (by omega)) (by omega) (by omega) (by omega) (Nat.le_of_ble_eq_true rfl) ?_
              refine G_ifb_eq (pc := 119) 127 dX2_locate_119 (by decide) (fun c119 => ?_) (fun c119 => ?_)
              · skip
                exact go (fun z => c119 z.2)
              · skip
                refine G_bipush (pc := 122) dX2_locate_122 (by omega) ?_
                refine G_iload_3 (pc := 124) dX2_locate_124 ?_
                refine G_isub (pc := 125) dX2_locate_125 ?_
                refine G_ireturn (pc := 126) dX2_locate_126 rfl rfl (by omega) (by omega) ?_
                exact fin _ (Or.inr (Or.inl ⟨nl, k, by omega, ⟨hl, c119⟩, no, rfl⟩))
        · skip
          refine G_iload_3 (pc := 63) dX2_locate_63 ?_
          refine G_bipush (pc := 64) dX2_locate_64 (by omega) ?_
          refine G_icmp_ge (pc := 66) 133 dX2_locate_66 (by decide) (by omega) (by omega) (fun c66 => ?_) (fun c66 => ?_)
          · exact absurd c66 (by omega)
          · skip
            refine G_aload_0 (pc := 69) dX2_locate_69 ?_
            refine G_mref (pc := 70) dX2_locate_70 rfl hm rfl ?_
            refine G_iload_3 (pc := 73) dX2_locate_73 ?_
            refine G_mb (pc := 74) dX2_locate_74 hm (by omega) (fun b74 => ?_)
            rw [Int.toNat_natCast] at *
            refine G_if_eq (pc := 75) 127 dX2_locate_75 (by decide) (by omega) (fun c75 => ?_) (fun c75 => ?_)
            · skip
              exact go (fun z => hl z.1)
            · exact absurd c75 (by intro q; exact hl (by omega))
    have k34 : ∀ (n k : Nat), k + n = 120 → (∀ j, j < k → ¬ lvs S1 x y j) → G E l gX2_locate d 0 0 Q 34 [some (.ref (gBase E + 12)), some (vI x), some (vI y), some (vI k)] [] h1 0 0 := by
      intro n
      induction n with
      | zero =>
        intro k hn no
        have ek : k = 120 := by omega
        subst ek
        refine G_iload_3 (pc := 34) dX2_locate_34 ?_
        refine G_bipush (pc := 35) dX2_locate_35 (by omega) ?_
        refine G_icmp_ge (pc := 37) 61 dX2_locate_37 (by decide) (by omega) (by omega) (fun c37 => ?_) (fun c37 => ?_)
        · skip
          refine G_iconst (pc := 61) dX2_locate_61 ?_
          refine G_istore_3 (pc := 62) dX2_locate_62 (by decide) rfl ?_
          exact k63 no 60 0 rfl (fun j hj => absurd hj (by omega))
        · exact absurd c37 (by omega)
      | succ n ih =>
        intro k hn no
        refine G_iload_3 (pc := 34) dX2_locate_34 ?_
        refine G_bipush (pc := 35) dX2_locate_35 (by omega) ?_
        refine G_icmp_ge (pc := 37) 61 dX2_locate_37 (by decide) (by omega) (by omega) (fun c37 => ?_) (fun c37 => ?_)
        · exact absurd c37 (by omega)
        · skip
          refine G_aload_0 (pc := 40) dX2_locate_40 ?_
          refine G_iload_3 (pc := 41) dX2_locate_41 ?_
          refine G_iload_1 (pc := 42) dX2_locate_42 ?_
          refine G_iload_2 (pc := 43) dX2_locate_43 ?_
          refine G_pV3 (v := vI (bI (lvs S1 x y k))) dX2_locate_44 rfl hm.1 (by decide) rfl (mp_X2_leaves hm (by omega) (by omega) (by omega)) (by omega) (by omega) (by omega) (Nat.le_of_ble_eq_true rfl) ?_
          refine G_ifb_eq (pc := 47) 55 dX2_locate_47 (by decide) (fun c47 => ?_) (fun c47 => ?_)
          · skip
            refine G_iinc_3 (pc := 55) dX2_locate_55 (by decide) rfl ?_
            refine G_goto (pc := 58) 34 dX2_locate_58 (by decide) ?_
            rw [show ((k : Int) + 1) = ((k + 1 : Nat) : Int) by omega]
            refine ih (k + 1) (by omega) (fun j hj => ?_)
            by_cases e : j = k
            · subst e; exact c47
            · exact no j (by omega)
          · skip
            refine G_bipush (pc := 50) dX2_locate_50 (by omega) ?_
            refine G_iload_3 (pc := 52) dX2_locate_52 ?_
            refine G_isub (pc := 53) dX2_locate_53 ?_
            refine G_ireturn (pc := 54) dX2_locate_54 rfl rfl (by omega) (by omega) ?_
            exact fin _ (Or.inl ⟨k, by omega, c47, no, rfl⟩)
    exact k34 120 0 rfl (fun j hj => absurd hj (by omega))
  refine G_aload_0 (pc := 0) dX2_locate_0 ?_
  refine G_iload_1 (pc := 1) dX2_locate_1 ?_
  refine G_pS1 (pc := 2) dX2_locate_2 rfl rfl (pu_X2_isIn _ (by omega)) (by omega) (by omega) (by omega) (Nat.le_of_ble_eq_true rfl) ?_
  refine G_ifb_eq (pc := 5) 19 dX2_locate_5 (by decide) (fun c5 => ?_) (fun c5 => ?_)
  · skip
    refine G_iconst (pc := 19) dX2_locate_19 ?_
    refine G_m1v (pc := 20) dX2_locate_20 rfl rfl rfl hm hk (mo_X2_refused (by omega)) (by omega) (by omega) (by omega) (Nat.le_of_ble_eq_true rfl) (fun x20 h S20 hm hk q20 => ?_)
    obtain ⟨rfl, rfl⟩ := q20
    rw [bI_pos (p := (0 : Int) < 1) (by decide)]
    refine G_if_eq (pc := 23) 28 dX2_locate_23 (by decide) (by decide) (fun q => absurd q (by decide)) (fun _ => ?_)
    refine G_iconst (pc := 26) dX2_locate_26 ?_
    refine G_ireturn (pc := 27) dX2_locate_27 rfl rfl (by omega) (by omega) ?_
    subst hQ
    exact ⟨_, rfl, _, hm, hk, _, rfl, ⟨_, rfl⟩, mKp_0 cur, by rw [bI_pos (by omega)]; rfl, fun z => by omega⟩
  · skip
    refine G_iload_2 (pc := 8) dX2_locate_8 ?_
    refine G_pS1 (pc := 9) dX2_locate_9 rfl rfl (pu_X2_isIn _ (by omega)) (by omega) (by omega) (by omega) (Nat.le_of_ble_eq_true rfl) ?_
    refine G_ifb_eq (pc := 12) 19 dX2_locate_12 (by decide) (fun c12 => ?_) (fun c12 => ?_)
    · skip
      refine G_iconst (pc := 19) dX2_locate_19 ?_
      refine G_m1v (pc := 20) dX2_locate_20 rfl rfl rfl hm hk (mo_X2_refused (by omega)) (by omega) (by omega) (by omega) (Nat.le_of_ble_eq_true rfl) (fun x20 h S20 hm hk q20 => ?_)
      obtain ⟨rfl, rfl⟩ := q20
      rw [bI_pos (p := (0 : Int) < 1) (by decide)]
      refine G_if_eq (pc := 23) 28 dX2_locate_23 (by decide) (by decide) (fun q => absurd q (by decide)) (fun _ => ?_)
      refine G_iconst (pc := 26) dX2_locate_26 ?_
      refine G_ireturn (pc := 27) dX2_locate_27 rfl rfl (by omega) (by omega) ?_
      subst hQ
      exact ⟨_, rfl, _, hm, hk, _, rfl, ⟨_, rfl⟩, mKp_0 cur, by rw [bI_pos (by omega)]; rfl, fun z => by omega⟩
    · skip
      refine G_iconst (pc := 15) dX2_locate_15 ?_
      refine G_goto (pc := 16) 20 dX2_locate_16 (by decide) ?_
      refine G_m1v (pc := 20) dX2_locate_20 rfl rfl rfl hm hk (mo_X2_refused (by omega)) (by omega) (by omega) (by omega) (Nat.le_of_ble_eq_true rfl) (fun x20 h S20 hm hk q20 => ?_)
      obtain ⟨rfl, rfl⟩ := q20
      rw [bI_neg (p := (0 : Int) < 0) (by decide)]
      refine G_if_eq (pc := 23) 28 dX2_locate_23 (by decide) (by decide) (fun _ => ?_) (fun q => absurd q (by decide))
      refine G_aload_0 (pc := 28) dX2_locate_28 ?_
      refine G_m0u (pc := 29) dX2_locate_29 rfl rfl rfl hm hk (mo_X2_make (S := mUs S 0 0) K tr pr (fun q => mCur_0 0 (cur q))) (by omega) (by omega) (by omega) (Nat.le_of_ble_eq_true rfl) (fun h S1 hm hk q => ?_)
      obtain ⟨q1, q2, q3, q4, q5, q6⟩ := q
      refine G_iconst (pc := 32) dX2_locate_32 ?_
      refine G_istore_3 (pc := 33) dX2_locate_33 (by decide) rfl ?_
      exact all S1 q1 q4 q5 q6 q3 ⟨c5, c12⟩ _ hm hk
end MOD15
