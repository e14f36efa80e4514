set_option maxRecDepth 100000
theorem bd1_b (S : mS) (f w : Int) (n : Nat) : 0 ≤ bd1 S f w n ∧ bd1 S f w n ≤ n := by
  induction n with
  | zero => simp [bd1]
  | succ n ih =>
    by_cases c : S.2 13 n = f ∧ (w = 0 ∨ (w = 3 ∧ S.2 11 n ≤ 0))
    · rw [bd1, zI_pos c]; omega
    · rw [bd1, zI_neg c]; omega
theorem bd2_b (S : mS) (f w n0 : Int) (n : Nat) : n0 ≤ (bd2 S f w n0 n).1 ∧ (bd2 S f w n0 n).1 ≤ n0 + n ∧ -1 ≤ (bd2 S f w n0 n).2 ∧ (bd2 S f w n0 n).2 < 120 := by
  induction n with
  | zero => simp [bd2]
  | succ n ih =>
    simp only [bd2]
    by_cases c : S.2 1 ((119 - n) / 2) = 1 ∧ S.2 13 (S.2 9 (119 - n)).toNat = f
    · rw [zI_pos c]
      by_cases c2 : w = 1
      · rw [zI_pos c2]; simp only []; omega
      · rw [zI_neg c2]; simp only []; omega
    · rw [zI_neg c]; omega
/-- what border answers -/
noncomputable def bdA (S : mS) (f w : Int) : Int := zI (w = 2) (bd2 S f w (bd1 S f w (S.1 8).toNat) 120).2 (zI (w = 0 ∨ w = 1 ∨ w = 3) (bd2 S f w (bd1 S f w (S.1 8).toNat) 120).1 (-1))
section MOD12
variable {E : gV} {l : Launch} {S : mS}
theorem mo_X2_border (K : zOK (mP S)) (tr : mTr S) (pr : mPrd S) (cur : S.1 4 = 1 → mCur S) {x w : Int} (hx : -2147483648 ≤ x ∧ x ≤ 2147483647) (hw : -2147483648 ≤ w ∧ w ≤ 2147483647) :
    mOk E l gX2_border 8 [.ref (gBase E + 12), vI x, vI w] S (fun v S' => ∃ z, v = some z ∧ gInt z ∧ mKp S S' ∧ mCur S' ∧ S'.1 0 = bI (¬ (0 ≤ x ∧ x < S'.1 12)) ∧ ((0 ≤ x ∧ x < S'.1 12) → z = vI (bdA S' x w))) := by
  intro h hm d hd
  have hk := gKeepM_rf E h
  refine gOk_of gmok_X2_border rfl (Nat.le_of_ble_eq_true rfl) (L := [some _, some _, some _, none, none, none]) rfl ?_
  obtain ⟨Q, hQ⟩ : ∃ Q, Q = gRet (fun v h' => ∃ S', zMo E h' S' ∧ gKeepM E h h' ∧ ∃ z, v = some z ∧ gInt z ∧ mKp S S' ∧ mCur S' ∧ S'.1 0 = bI (¬ (0 ≤ x ∧ x < S'.1 12)) ∧ ((0 ≤ x ∧ x < S'.1 12) → z = vI (bdA S' x w))) := ⟨_, rfl⟩
  rw [← hQ]
  have all : ∀ (S1 : mS), mCur S1 → S1.2 1 = S.2 1 → S1.2 2 = S.2 2 → S1.2 3 = S.2 3 → (0 ≤ x ∧ x < S1.1 12) → S1.1 0 = 0 → ∀ (h1 : gH), zMo E h1 S1 → gKeepM E h h1 → G E l gX2_border d 0 0 Q 30 [some (.ref (gBase E + 12)), some (vI x), some (vI w), some (vI 0), some (vI (-1)), some (vI 0)] [] h1 0 0 := by
    intro S1 q1 q4 q5 q6 hx1 q0 h1 hm hk
    have hb := mCur_b q1
    have fin : ∀ s : Int, s = bdA S1 x w → Q (.returned (some (vI s))) h1 := by
      intro s hs
      subst hs; subst hQ
      exact ⟨_, rfl, S1, hm, hk, _, rfl, ⟨_, rfl⟩, ⟨⟨q4, q5, q6⟩, fun _ => q1⟩, q1, by rw [q0]; exact (bI_neg (fun z => z hx1)).symm, fun _ => rfl⟩
    have b1 := bd1_b S1 x w (S1.1 8).toNat
    have k89 : ∀ (n k : Nat), k + n = 120 → G E l gX2_border d 0 0 Q 89 [some (.ref (gBase E + 12)), some (vI x), some (vI w), some (vI (bd2 S1 x w (bd1 S1 x w (S1.1 8).toNat) k).1), some (vI (bd2 S1 x w (bd1 S1 x w (S1.1 8).toNat) k).2), some (vI (119 - (k : Int)))] [] h1 0 0 := by
      intro n
      induction n with
      | zero =>
        intro k hn
        have ek : k = 120 := by omega
        subst ek
        refine G_iload_5 (pc := 89) dX2_border_89 ?_
        refine G_if_lt (pc := 91) 139 dX2_border_91 (by decide) (by omega) (fun c91 => ?_) (fun c91 => ?_)
        · skip
          refine G_iload_2 (pc := 139) dX2_border_139 ?_
          refine G_iconst (pc := 140) dX2_border_140 ?_
          refine G_icmp_ne (pc := 141) 149 dX2_border_141 (by decide) (by omega) (by omega) (fun c141 => ?_) (fun c141 => ?_)
          · skip
            refine G_iload_2 (pc := 149) dX2_border_149 ?_
            refine G_if_eq (pc := 150) 163 dX2_border_150 (by decide) (by omega) (fun c150 => ?_) (fun c150 => ?_)
            · skip
              refine G_iload_3 (pc := 163) dX2_border_163 ?_
              refine G_goto (pc := 164) 168 dX2_border_164 (by decide) ?_
              refine G_ireturn (pc := 168) dX2_border_168 rfl rfl (by omega) (by omega) ?_
              refine fin _ ?_
              unfold bdA
              first | rw [zI_pos (by omega)] | (rw [zI_neg (by omega)]; first | rw [zI_pos (by omega)] | rw [zI_neg (by omega)])
            · skip
              refine G_iload_2 (pc := 153) dX2_border_153 ?_
              refine G_iconst (pc := 154) dX2_border_154 ?_
              refine G_icmp_eq (pc := 155) 163 dX2_border_155 (by decide) (by omega) (by omega) (fun c155 => ?_) (fun c155 => ?_)
              · skip
                refine G_iload_3 (pc := 163) dX2_border_163 ?_
                refine G_goto (pc := 164) 168 dX2_border_164 (by decide) ?_
                refine G_ireturn (pc := 168) dX2_border_168 rfl rfl (by omega) (by omega) ?_
                refine fin _ ?_
                unfold bdA
                first | rw [zI_pos (by omega)] | (rw [zI_neg (by omega)]; first | rw [zI_pos (by omega)] | rw [zI_neg (by omega)])
              · skip
                refine G_iload_2 (pc := 158) dX2_border_158 ?_
                refine G_iconst (pc := 159) dX2_border_159 ?_
                refine G_icmp_ne (pc := 160) 167 dX2_border_160 (by decide) (by omega) (by omega) (fun c160 => ?_) (fun c160 => ?_)
                · skip
                  refine G_iconst (pc := 167) dX2_border_167 ?_
                  refine G_ireturn (pc := 168) dX2_border_168 rfl rfl (by omega) (by omega) ?_
                  refine fin _ ?_
                  unfold bdA
                  first | rw [zI_pos (by omega)] | (rw [zI_neg (by omega)]; first | rw [zI_pos (by omega)] | rw [zI_neg (by omega)])
                · skip
                  refine G_iload_3 (pc := 163) dX2_border_163 ?_
                  refine G_goto (pc := 164) 168 dX2_border_164 (by decide) ?_
                  refine G_ireturn (pc := 168) dX2_border_168 rfl rfl (by omega) (by omega) ?_
                  refine fin _ ?_
                  unfold bdA
                  first | rw [zI_pos (by omega)] | (rw [zI_neg (by omega)]; first | rw [zI_pos (by omega)] | rw [zI_neg (by omega)])
          · skip
            refine G_iload_4 (pc := 144) dX2_border_144 ?_
            refine G_goto (pc := 146) 168 dX2_border_146 (by decide) ?_
            refine G_ireturn (pc := 168) dX2_border_168 rfl rfl (by omega) (by omega) ?_
            refine fin _ ?_
            unfold bdA
            first | rw [zI_pos (by omega)] | (rw [zI_neg (by omega)]; first | rw [zI_pos (by omega)] | rw [zI_neg (by omega)])
        · exact absurd c91 (by omega)
      | succ n ih =>
        intro k hn
        have b2 := bd2_b S1 x w (bd1 S1 x w (S1.1 8).toNat) k
        obtain ⟨j, ej⟩ : ∃ j : Nat, j = 119 - k := ⟨_, rfl⟩
        have ejI : (119 - (k : Int)) = (j : Int) := by omega
        have hj : j < 120 := by omega
        have hst : bd2 S1 x w (bd1 S1 x w (S1.1 8).toNat) (k + 1) = zI (S1.2 1 (j / 2) = 1 ∧ S1.2 13 (S1.2 9 j).toNat = x) (zI (w = 1) ((bd2 S1 x w (bd1 S1 x w (S1.1 8).toNat) k).1 + 1) (bd2 S1 x w (bd1 S1 x w (S1.1 8).toNat) k).1, (j : Int)) (bd2 S1 x w (bd1 S1 x w (S1.1 8).toNat) k) := by rw [ej]; rfl
        have go : ∀ (a b : Int), (bd2 S1 x w (bd1 S1 x w (S1.1 8).toNat) (k + 1)) = (a, b) → G E l gX2_border d 0 0 Q 133 [some (.ref (gBase E + 12)), some (vI x), some (vI w), some (vI a), some (vI b), some (vI j)] [] h1 0 0 := by
          intro a b hab
          refine G_iinc_5 (pc := 133) dX2_border_133 (by decide) rfl ?_
          refine G_goto (pc := 136) 89 dX2_border_136 (by decide) ?_
          have := ih (k + 1) (by omega)
          rw [hab] at this
          rw [show ((j : Int) + -1) = (119 - ((k + 1 : Nat) : Int)) by omega]
          exact this
        rw [ejI]
        by_cases hl : S1.2 1 (j / 2) = 1
        · have hl1 : mLv S1 j := mP_L.mpr ⟨hj, hl⟩
          have hb9 := hb.2.2.2.1 j hl1
          refine G_iload_5 (pc := 89) dX2_border_89 ?_
          refine G_if_lt (pc := 91) 139 dX2_border_91 (by decide) (by omega) (fun c91 => ?_) (fun c91 => ?_)
          · exact absurd c91 (by omega)
          · skip
            refine G_aload_0 (pc := 94) dX2_border_94 ?_
            refine G_mref (pc := 95) dX2_border_95 rfl hm rfl ?_
            refine G_iload_5 (pc := 98) dX2_border_98 ?_
            refine G_iconst (pc := 100) dX2_border_100 ?_
            refine G_idiv (pc := 101) dX2_border_101 (by omega) (by omega) ?_
            refine G_mb (pc := 102) dX2_border_102 hm (by omega) (fun b102 => ?_)
            rw [tn_div] at *
            refine G_if_eq (pc := 103) 133 dX2_border_103 (by decide) (by omega) (fun c103 => ?_) (fun c103 => ?_)
            · exact absurd c103 (by omega)
            · skip
              refine G_aload_0 (pc := 106) dX2_border_106 ?_
              refine G_iload_5 (pc := 107) dX2_border_107 ?_
              refine G_pV1 (pc := 109) dX2_border_109 rfl hm.1 (by decide) rfl (mp_X2_left hm (by omega) (by omega)) (by omega) (by omega) (by omega) (Nat.le_of_ble_eq_true rfl) ?_
              refine G_iload_1 (pc := 112) dX2_border_112 ?_
              refine G_icmp_ne (pc := 113) 133 dX2_border_113 (by decide) (by have := hm.2.2 13 rfl; have := (this.2.2.2 (S1.2 9 j).toNat (by show _ < 120; omega)).2; rw [mRg_i rfl rfl rfl] at this; exact this) (by omega) (fun c113 => ?_) (fun c113 => ?_)
              · skip
                first | exact go _ _ (by rw [hst, zI_neg (fun z => c113 z.2)]) | exact go _ _ (by rw [hst, zI_pos ⟨hl, c113⟩]; first | rw [zI_pos c118] | rw [zI_neg c118])
              · skip
                refine G_iload_2 (pc := 116) dX2_border_116 ?_
                refine G_iconst (pc := 117) dX2_border_117 ?_
                refine G_icmp_ne (pc := 118) 127 dX2_border_118 (by decide) (by omega) (by omega) (fun c118 => ?_) (fun c118 => ?_)
                · skip
                  refine G_iload_3 (pc := 127) dX2_border_127 ?_
                  refine G_istore_3 (pc := 128) dX2_border_128 (by decide) rfl ?_
                  refine G_iload_5 (pc := 129) dX2_border_129 ?_
                  refine G_istore_4 (pc := 131) dX2_border_131 (by decide) rfl ?_
                  first | exact go _ _ (by rw [hst, zI_neg (fun z => c113 z.2)]) | exact go _ _ (by rw [hst, zI_pos ⟨hl, c113⟩]; first | rw [zI_pos c118] | rw [zI_neg c118])
                · skip
                  refine G_iload_3 (pc := 121) dX2_border_121 ?_
                  refine G_iconst (pc := 122) dX2_border_122 ?_
                  refine G_iadd (pc := 123) dX2_border_123 ?_
                  refine G_goto (pc := 124) 128 dX2_border_124 (by decide) ?_
                  refine G_istore_3 (pc := 128) dX2_border_128 (by decide) rfl ?_
                  refine G_iload_5 (pc := 129) dX2_border_129 ?_
                  refine G_istore_4 (pc := 131) dX2_border_131 (by decide) rfl ?_
                  first | exact go _ _ (by rw [hst, zI_neg (fun z => c113 z.2)]) | exact go _ _ (by rw [hst, zI_pos ⟨hl, c113⟩]; first | rw [zI_pos c118] | rw [zI_neg c118])
        · skip
          refine G_iload_5 (pc := 89) dX2_border_89 ?_
          refine G_if_lt (pc := 91) 139 dX2_border_91 (by decide) (by omega) (fun c91 => ?_) (fun c91 => ?_)
          · exact absurd c91 (by omega)
          · skip
            refine G_aload_0 (pc := 94) dX2_border_94 ?_
            refine G_mref (pc := 95) dX2_border_95 rfl hm rfl ?_
            refine G_iload_5 (pc := 98) dX2_border_98 ?_
            refine G_iconst (pc := 100) dX2_border_100 ?_
            refine G_idiv (pc := 101) dX2_border_101 (by omega) (by omega) ?_
            refine G_mb (pc := 102) dX2_border_102 hm (by omega) (fun b102 => ?_)
            rw [tn_div] at *
            refine G_if_eq (pc := 103) 133 dX2_border_103 (by decide) (by omega) (fun c103 => ?_) (fun c103 => ?_)
            · skip
              exact go _ _ (by rw [hst, zI_neg (fun z => hl z.1)])
            · exact absurd c103 (by intro q; exact hl (by omega))
    have k30 : ∀ (n k : Nat), k + n = (S1.1 8).toNat → G E l gX2_border d 0 0 Q 30 [some (.ref (gBase E + 12)), some (vI x), some (vI w), some (vI (bd1 S1 x w k)), some (vI (-1)), some (vI k)] [] h1 0 0 := by
      intro n
      induction n with
      | zero =>
        intro k hn
        have ek : k = (S1.1 8).toNat := by omega
        subst ek
        refine G_iload_5 (pc := 30) dX2_border_30 ?_
        refine G_aload_0 (pc := 32) dX2_border_32 ?_
        refine G_mget (pc := 33) dX2_border_33 rfl hm rfl rfl (fun b33 => ?_)
        refine G_icmp_ge (pc := 36) 85 dX2_border_36 (by decide) (by omega) (by omega) (fun c36 => ?_) (fun c36 => ?_)
        · skip
          refine G_bipush (pc := 85) dX2_border_85 (by omega) ?_
          refine G_istore_5 (pc := 87) dX2_border_87 (by decide) rfl ?_
          exact k89 120 0 rfl
        · exact absurd c36 (by omega)
      | succ n ih =>
        intro k hn
        have bk := bd1_b S1 x w k
        have gp : (S1.2 13 k = x ∧ (w = 0 ∨ (w = 3 ∧ S1.2 11 k ≤ 0))) → bd1 S1 x w k + 1 = bd1 S1 x w (k + 1) := fun c => by rw [bd1, zI_pos c]
        have gn : ¬ (S1.2 13 k = x ∧ (w = 0 ∨ (w = 3 ∧ S1.2 11 k ≤ 0))) → bd1 S1 x w k = bd1 S1 x w (k + 1) := fun c => by rw [bd1, zI_neg c]
        have go : ∀ b : Int, b = bd1 S1 x w (k + 1) → G E l gX2_border d 0 0 Q 79 [some (.ref (gBase E + 12)), some (vI x), some (vI w), some (vI b), some (vI (-1)), some (vI k)] [] h1 0 0 := by
          intro b hb
          subst hb
          refine G_iinc_5 (pc := 79) dX2_border_79 (by decide) rfl ?_
          refine G_goto (pc := 82) 30 dX2_border_82 (by decide) ?_
          rw [show ((k : Int) + 1) = ((k + 1 : Nat) : Int) by omega]
          exact ih (k + 1) (by omega)
        refine G_iload_5 (pc := 30) dX2_border_30 ?_
        refine G_aload_0 (pc := 32) dX2_border_32 ?_
        refine G_mget (pc := 33) dX2_border_33 rfl hm rfl rfl (fun b33 => ?_)
        refine G_icmp_ge (pc := 36) 85 dX2_border_36 (by decide) (by omega) (by omega) (fun c36 => ?_) (fun c36 => ?_)
        · exact absurd c36 (by omega)
        · skip
          refine G_aload_0 (pc := 39) dX2_border_39 ?_
          refine G_mref (pc := 40) dX2_border_40 rfl hm rfl ?_
          refine G_iload_5 (pc := 43) dX2_border_43 ?_
          refine G_mi (pc := 45) (n := 120) dX2_border_45 hm rfl rfl rfl (by omega) (fun b45 => ?_)
          rw [Int.toNat_natCast] at *
          refine G_iload_1 (pc := 46) dX2_border_46 ?_
          refine G_icmp_ne (pc := 47) 77 dX2_border_47 (by decide) (by omega) (by omega) (fun c47 => ?_) (fun c47 => ?_)
          · skip
            refine G_iload_3 (pc := 77) dX2_border_77 ?_
            refine G_istore_3 (pc := 78) dX2_border_78 (by decide) rfl ?_
            first | exact go _ (gp (by omega)) | exact go _ (gn (by omega))
          · skip
            refine G_iload_2 (pc := 50) dX2_border_50 ?_
            refine G_if_eq (pc := 51) 71 dX2_border_51 (by decide) (by omega) (fun c51 => ?_) (fun c51 => ?_)
            · skip
              refine G_iload_3 (pc := 71) dX2_border_71 ?_
              refine G_iconst (pc := 72) dX2_border_72 ?_
              refine G_iadd (pc := 73) dX2_border_73 ?_
              refine G_goto (pc := 74) 78 dX2_border_74 (by decide) ?_
              refine G_istore_3 (pc := 78) dX2_border_78 (by decide) rfl ?_
              first | exact go _ (gp (by omega)) | exact go _ (gn (by omega))
            · skip
              refine G_iload_2 (pc := 54) dX2_border_54 ?_
              refine G_iconst (pc := 55) dX2_border_55 ?_
              refine G_icmp_ne (pc := 56) 77 dX2_border_56 (by decide) (by omega) (by omega) (fun c56 => ?_) (fun c56 => ?_)
              · skip
                refine G_iload_3 (pc := 77) dX2_border_77 ?_
                refine G_istore_3 (pc := 78) dX2_border_78 (by decide) rfl ?_
                first | exact go _ (gp (by omega)) | exact go _ (gn (by omega))
              · skip
                refine G_aload_0 (pc := 59) dX2_border_59 ?_
                refine G_mref (pc := 60) dX2_border_60 rfl hm rfl ?_
                refine G_iload_5 (pc := 63) dX2_border_63 ?_
                refine G_ml (pc := 65) dX2_border_65 hm (by omega) (fun b65 => ?_)
                rw [Int.toNat_natCast] at *
                refine G_lconst0 (pc := 66) dX2_border_66 ?_
                refine G_lcmp_gt (pc := 67) 77 dX2_border_67 dX2_border_68 (by decide) (by omega) (by omega) (fun c67 => ?_) (fun c67 => ?_)
                · skip
                  refine G_iload_3 (pc := 77) dX2_border_77 ?_
                  refine G_istore_3 (pc := 78) dX2_border_78 (by decide) rfl ?_
                  first | exact go _ (gp (by omega)) | exact go _ (gn (by omega))
                · skip
                  refine G_iload_3 (pc := 71) dX2_border_71 ?_
                  refine G_iconst (pc := 72) dX2_border_72 ?_
                  refine G_iadd (pc := 73) dX2_border_73 ?_
                  refine G_goto (pc := 74) 78 dX2_border_74 (by decide) ?_
                  refine G_istore_3 (pc := 78) dX2_border_78 (by decide) rfl ?_
                  first | exact go _ (gp (by omega)) | exact go _ (gn (by omega))
    exact k30 (S1.1 8).toNat 0 (by omega)
  refine G_aload_0 (pc := 0) dX2_border_0 ?_
  refine G_aload_0 (pc := 1) dX2_border_1 ?_
  refine G_iload_1 (pc := 2) dX2_border_2 ?_
  refine G_m1v (pc := 3) dX2_border_3 rfl rfl rfl hm hk (mo_X2_isFace K tr pr cur (by omega)) (by omega) (by omega) (by omega) (Nat.le_of_ble_eq_true rfl) (fun x3 h S1 hm hk q => ?_)
  obtain ⟨rfl, q1, q2, q3, q4, q5, q6⟩ := q
  have hb := mCur_b q1
  refine G_ifb_eq (pc := 6) 13 dX2_border_6 (by decide) (fun c6 => ?_) (fun c6 => ?_)
  · skip
    refine G_iconst (pc := 13) dX2_border_13 ?_
    refine G_m1v (pc := 14) dX2_border_14 rfl rfl rfl hm hk (mo_X2_refused (by omega)) (by omega) (by omega) (by omega) (Nat.le_of_ble_eq_true rfl) (fun x14 h S14 hm hk q14 => ?_)
    obtain ⟨rfl, rfl⟩ := q14
    rw [bI_pos (p := (0 : Int) < 1) (by decide)]
    refine G_if_eq (pc := 17) 22 dX2_border_17 (by decide) (by decide) (fun q => absurd q (by decide)) (fun _ => ?_)
    refine G_iconst (pc := 20) dX2_border_20 ?_
    refine G_ireturn (pc := 21) dX2_border_21 rfl rfl (by omega) (by omega) ?_
    subst hQ
    exact ⟨_, rfl, _, hm, hk, _, rfl, ⟨_, rfl⟩, ⟨⟨q4, q5, q6⟩, fun _ => mCur_0 _ q1⟩, mCur_0 _ q1, (bI_pos c6).symm, fun z => absurd z c6⟩
  · skip
    refine G_iconst (pc := 9) dX2_border_9 ?_
    refine G_goto (pc := 10) 14 dX2_border_10 (by decide) ?_
    refine G_m1v (pc := 14) dX2_border_14 rfl rfl rfl hm hk (mo_X2_refused (by omega)) (by omega) (by omega) (by omega) (Nat.le_of_ble_eq_true rfl) (fun x14 h S14 hm hk q14 => ?_)
    obtain ⟨rfl, rfl⟩ := q14
    rw [bI_neg (p := (0 : Int) < 0) (by decide)]
    refine G_if_eq (pc := 17) 22 dX2_border_17 (by decide) (by decide) (fun _ => ?_) (fun q => absurd q (by decide))
    refine G_iconst (pc := 22) dX2_border_22 ?_
    refine G_istore_3 (pc := 23) dX2_border_23 (by decide) rfl ?_
    refine G_iconst (pc := 24) dX2_border_24 ?_
    refine G_istore_4 (pc := 25) dX2_border_25 (by decide) rfl ?_
    refine G_iconst (pc := 27) dX2_border_27 ?_
    refine G_istore_5 (pc := 28) dX2_border_28 (by decide) rfl ?_
    exact all _ (mCur_0 _ q1) q4 q5 q6 c6 rfl _ hm hk
end MOD12
