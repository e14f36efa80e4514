set_option maxRecDepth 100000
def nlv (S : mS) (h j : Nat) : Prop := ∀ i, i < j → ¬ lvs S (S.2 2 h) (S.2 3 h) i
/-- whether half h counts -/
def cnP (S : mS) (w : Int) (h : Nat) : Prop := S.2 1 (h / 2) = 1 ∧ ((w = 1 ∧ nlv S h h) ∨ (w ≠ 1 ∧ h % 2 = 0 ∧ (w = 0 ∨ S.2 13 (S.2 9 h).toNat = S.2 13 (S.2 9 (h + 1)).toNat)))
noncomputable def cnR (S : mS) (w : Int) : Nat → Int
  | 0 => 0
  | h + 1 => zI (cnP S w h) (cnR S w h + 1) (cnR S w h)
theorem cnR_b (S : mS) (w : Int) (n : Nat) : 0 ≤ cnR S w n ∧ cnR S w n ≤ n := by
  induction n with
  | zero => simp [cnR]
  | succ n ih =>
    by_cases c : cnP S w n
    · rw [cnR, zI_pos c]; omega
    · rw [cnR, zI_neg c]; omega
/-- what count answers -/
noncomputable def ctA (S : mS) (w : Int) : Int := zI (w = 2) (S.1 12) (zI (w = 3) (S.1 7) (zI (w = 5) (S.1 8) (zI (w = 0 ∨ w = 1 ∨ w = 4) (cnR S w 120) (-1))))
section MOD16
variable {E : gV} {l : Launch} {S : mS}
theorem mo_X2_count (K : zOK (mP S)) (tr : mTr S) (pr : mPrd S) (cur : S.1 4 = 1 → mCur S) {w : Int} (hw : -2147483648 ≤ w ∧ w ≤ 2147483647) :
    mOk E l gX2_count 8 [.ref (gBase E + 12), vI w] S (fun v S' => mKp S S' ∧ mCur S' ∧ S'.1 0 = 0 ∧ v = some (vI (ctA S' w))) := by
  intro h hm d hd
  have hk := gKeepM_rf E h
  refine gOk_of gmok_X2_count rfl (Nat.le_of_ble_eq_true rfl) (L := [some _, some _, none, none, none, none]) rfl ?_
  obtain ⟨Q, hQ⟩ : ∃ Q, Q = gRet (fun v h' => ∃ S', zMo E h' S' ∧ gKeepM E h h' ∧ mKp S S' ∧ mCur S' ∧ S'.1 0 = 0 ∧ v = some (vI (ctA S' w))) := ⟨_, rfl⟩
  rw [← hQ]
  have all : ∀ (S1 : mS), mCur S1 → S1.2 1 = S.2 1 → S1.2 2 = S.2 2 → S1.2 3 = S.2 3 → S1.1 0 = 0 → ∀ (h1 : gH), zMo E h1 S1 → gKeepM E h h1 → G E l gX2_count d 0 0 Q 9 [some (.ref (gBase E + 12)), some (vI w), none, none, none, none] [] h1 0 0 := by
    intro S1 q1 q4 q5 q6 q0 h1 hm hk
    have hb := mCur_b q1
    have eP : mP S1 = mP S := mP_eq q4 q5 q6
    have K1 : zOK (mP S1) := by rw [eP]; exact K
    have fin : ∀ s : Int, s = ctA S1 w → Q (.returned (some (vI s))) h1 := by
      intro s hs
      subst hs; subst hQ
      exact ⟨_, rfl, S1, hm, hk, ⟨⟨q4, q5, q6⟩, fun _ => q1⟩, q1, q0, rfl⟩
    have k57 : w ≠ 2 → w ≠ 3 → w ≠ 5 → ∀ (n k : Nat), k + n = 120 → G E l gX2_count d 0 0 Q 57 [some (.ref (gBase E + 12)), some (vI w), some (vI (cnR S1 w k)), some (vI k), none, none] [] h1 0 0 := by
      intro w2 w3 w5 n
      induction n with
      | zero =>
        intro k hn
        have ek : k = 120 := by omega
        subst ek
        have hc := cnR_b S1 w 120
        refine G_iload_3 (pc := 57) dX2_count_57 ?_
        refine G_bipush (pc := 58) dX2_count_58 (by omega) ?_
        refine G_icmp_ge (pc := 60) 186 dX2_count_60 (by decide) (by omega) (by omega) (fun c60 => ?_) (fun c60 => ?_)
        · skip
          refine G_iload_1 (pc := 186) dX2_count_186 ?_
          refine G_if_eq (pc := 187) 200 dX2_count_187 (by decide) (by omega) (fun c187 => ?_) (fun c187 => ?_)
          · skip
            refine G_iload_2 (pc := 200) dX2_count_200 ?_
            refine G_goto (pc := 201) 205 dX2_count_201 (by decide) ?_
            refine G_ireturn (pc := 205) dX2_count_205 rfl rfl (by omega) (by omega) ?_
            refine fin _ ?_
            unfold ctA
            rw [zI_neg w2, zI_neg w3, zI_neg w5]
            first | rw [zI_pos (by omega)] | rw [zI_neg (by omega)]
          · skip
            refine G_iload_1 (pc := 190) dX2_count_190 ?_
            refine G_iconst (pc := 191) dX2_count_191 ?_
            refine G_icmp_eq (pc := 192) 200 dX2_count_192 (by decide) (by omega) (by omega) (fun c192 => ?_) (fun c192 => ?_)
            · skip
              refine G_iload_2 (pc := 200) dX2_count_200 ?_
              refine G_goto (pc := 201) 205 dX2_count_201 (by decide) ?_
              refine G_ireturn (pc := 205) dX2_count_205 rfl rfl (by omega) (by omega) ?_
              refine fin _ ?_
              unfold ctA
              rw [zI_neg w2, zI_neg w3, zI_neg w5]
              first | rw [zI_pos (by omega)] | rw [zI_neg (by omega)]
            · skip
              refine G_iload_1 (pc := 195) dX2_count_195 ?_
              refine G_iconst (pc := 196) dX2_count_196 ?_
              refine G_icmp_ne (pc := 197) 204 dX2_count_197 (by decide) (by omega) (by omega) (fun c197 => ?_) (fun c197 => ?_)
              · skip
                refine G_iconst (pc := 204) dX2_count_204 ?_
                refine G_ireturn (pc := 205) dX2_count_205 rfl rfl (by omega) (by omega) ?_
                refine fin _ ?_
                unfold ctA
                rw [zI_neg w2, zI_neg w3, zI_neg w5]
                first | rw [zI_pos (by omega)] | rw [zI_neg (by omega)]
              · skip
                refine G_iload_2 (pc := 200) dX2_count_200 ?_
                refine G_goto (pc := 201) 205 dX2_count_201 (by decide) ?_
                refine G_ireturn (pc := 205) dX2_count_205 rfl rfl (by omega) (by omega) ?_
                refine fin _ ?_
                unfold ctA
                rw [zI_neg w2, zI_neg w3, zI_neg w5]
                first | rw [zI_pos (by omega)] | rw [zI_neg (by omega)]
        · exact absurd c60 (by omega)
      | succ n ih =>
        intro k hn
        have hc := cnR_b S1 w k
        have go : ∀ b : Int, b = cnR S1 w (k + 1) → G E l gX2_count d 0 0 Q 180 [some (.ref (gBase E + 12)), some (vI w), some (vI b), some (vI k), none, none] [] h1 0 0 := by
          intro b hb
          subst hb
          refine G_iinc_3 (pc := 180) dX2_count_180 (by decide) rfl ?_
          refine G_goto (pc := 183) 57 dX2_count_183 (by decide) ?_
          rw [show ((k : Int) + 1) = ((k + 1 : Nat) : Int) by omega]
          exact ih (k + 1) (by omega)
        by_cases hl : S1.2 1 (k / 2) = 1
        · have hl1 : mLv S1 k := mP_L.mpr ⟨by omega, hl⟩
          have hb9 := hb.2.2.2.1 k hl1
          have gp : cnP S1 w k → cnR S1 w k + 1 = cnR S1 w (k + 1) := fun c => by rw [cnR, zI_pos c]
          have gn : ¬ cnP S1 w k → cnR S1 w k = cnR S1 w (k + 1) := fun c => by rw [cnR, zI_neg c]
          have k167 : ∀ v : Int, v = bI (cnP S1 w k) → G E l gX2_count d 0 0 Q 167 [some (.ref (gBase E + 12)), some (vI w), some (vI (cnR S1 w k)), some (vI k), none, some (vI v)] [] h1 0 0 := by
            intro v hv
            subst hv
            refine G_iload_5 (pc := 167) dX2_count_167 ?_
            refine G_ifb_eq (pc := 169) 178 dX2_count_169 (by decide) (fun c169 => ?_) (fun c169 => ?_)
            · skip
              refine G_iload_2 (pc := 178) dX2_count_178 ?_
              refine G_istore_2 (pc := 179) dX2_count_179 (by decide) rfl ?_
              refine G_drop_5 ?_
              first | exact go _ (gp c169) | exact go _ (gn c169)
            · skip
              refine G_iload_2 (pc := 172) dX2_count_172 ?_
              refine G_iconst (pc := 173) dX2_count_173 ?_
              refine G_iadd (pc := 174) dX2_count_174 ?_
              refine G_goto (pc := 175) 179 dX2_count_175 (by decide) ?_
              refine G_istore_2 (pc := 179) dX2_count_179 (by decide) rfl ?_
              refine G_drop_5 ?_
              first | exact go _ (gp c169) | exact go _ (gn c169)
          have k125 : G E l gX2_count d 0 0 Q 125 [some (.ref (gBase E + 12)), some (vI w), some (vI (cnR S1 w k)), some (vI k), some (vI (bI (nlv S1 k k))), none] [] h1 0 0 := by
            by_cases ev : k % 2 = 0
            · have hl2 : mLv S1 (k + 1) := mP_L.mpr ⟨by omega, by rw [show (k + 1) / 2 = k / 2 by omega]; exact hl⟩
              have hb92 := hb.2.2.2.1 (k + 1) hl2
              have r1 := (hm.2.2 13 rfl).2.2.2 (S1.2 9 k).toNat (by show _ < 120; omega)
              have r2 := (hm.2.2 13 rfl).2.2.2 (S1.2 9 (k + 1)).toNat (by show _ < 120; omega)
              rw [mRg_i rfl rfl rfl] at r1 r2
              refine G_iload_1 (pc := 125) dX2_count_125 ?_
              refine G_iconst (pc := 126) dX2_count_126 ?_
              refine G_icmp_ne (pc := 127) 135 dX2_count_127 (by decide) (by omega) (by omega) (fun c127 => ?_) (fun c127 => ?_)
              · skip
                refine G_iload_3 (pc := 135) dX2_count_135 ?_
                refine G_iconst (pc := 136) dX2_count_136 ?_
                refine G_irem (pc := 137) dX2_count_137 (by omega) (by omega) ?_
                refine G_if_ne (pc := 138) 164 dX2_count_138 (by decide) (by omega) (fun c138 => ?_) (fun c138 => ?_)
                · exact absurd c138 (by omega)
                · skip
                  refine G_iload_1 (pc := 141) dX2_count_141 ?_
                  refine G_if_eq (pc := 142) 160 dX2_count_142 (by decide) (by omega) (fun c142 => ?_) (fun c142 => ?_)
                  · skip
                    refine G_iconst (pc := 160) dX2_count_160 ?_
                    refine G_goto (pc := 161) 165 dX2_count_161 (by decide) ?_
                    refine G_istore_5 (pc := 165) dX2_count_165 (by decide) rfl ?_
                    refine G_drop_4 ?_
                    refine k167 _ ?_
                    unfold cnP
                    first | exact congrArg bI (propext ⟨fun z => ⟨hl, Or.inl ⟨by omega, z⟩⟩, fun z => z.2.elim (fun q => q.2) (fun q => absurd ‹w = 1› q.1)⟩) | exact (bI_pos ⟨hl, Or.inr ⟨by omega, ev, by omega⟩⟩).symm | exact (bI_neg (fun z => z.2.elim (fun q => by omega) (fun q => by omega))).symm
                  · skip
                    refine G_aload_0 (pc := 145) dX2_count_145 ?_
                    refine G_iload_3 (pc := 146) dX2_count_146 ?_
                    refine G_pV1 (pc := 147) dX2_count_147 rfl hm.1 (by decide) rfl (mp_X2_left hm (by omega) (by omega)) (by omega) (by omega) (by omega) (Nat.le_of_ble_eq_true rfl) ?_
                    refine G_aload_0 (pc := 150) dX2_count_150 ?_
                    refine G_iload_3 (pc := 151) dX2_count_151 ?_
                    refine G_iconst (pc := 152) dX2_count_152 ?_
                    refine G_iadd (pc := 153) dX2_count_153 ?_
                    rw [show ((k : Int) + 1) = ((k + 1 : Nat) : Int) by omega]
                    refine G_pV1 (pc := 154) dX2_count_154 rfl hm.1 (by decide) rfl (mp_X2_left hm (by omega) (by omega)) (by omega) (by omega) (by omega) (Nat.le_of_ble_eq_true rfl) ?_
                    refine G_icmp_ne (pc := 157) 164 dX2_count_157 (by decide) r1.2 r2.2 (fun c157 => ?_) (fun c157 => ?_)
                    · skip
                      refine G_iconst (pc := 164) dX2_count_164 ?_
                      refine G_istore_5 (pc := 165) dX2_count_165 (by decide) rfl ?_
                      refine G_drop_4 ?_
                      refine k167 _ ?_
                      unfold cnP
                      first | exact congrArg bI (propext ⟨fun z => ⟨hl, Or.inl ⟨by omega, z⟩⟩, fun z => z.2.elim (fun q => q.2) (fun q => absurd ‹w = 1› q.1)⟩) | exact (bI_pos ⟨hl, Or.inr ⟨by omega, ev, by omega⟩⟩).symm | exact (bI_neg (fun z => z.2.elim (fun q => by omega) (fun q => by omega))).symm
                    · skip
                      refine G_iconst (pc := 160) dX2_count_160 ?_
                      refine G_goto (pc := 161) 165 dX2_count_161 (by decide) ?_
                      refine G_istore_5 (pc := 165) dX2_count_165 (by decide) rfl ?_
                      refine G_drop_4 ?_
                      refine k167 _ ?_
                      unfold cnP
                      first | exact congrArg bI (propext ⟨fun z => ⟨hl, Or.inl ⟨by omega, z⟩⟩, fun z => z.2.elim (fun q => q.2) (fun q => absurd ‹w = 1› q.1)⟩) | exact (bI_pos ⟨hl, Or.inr ⟨by omega, ev, by omega⟩⟩).symm | exact (bI_neg (fun z => z.2.elim (fun q => by omega) (fun q => by omega))).symm
              · skip
                refine G_iload_4 (pc := 130) dX2_count_130 ?_
                refine G_goto (pc := 132) 165 dX2_count_132 (by decide) ?_
                refine G_istore_5 (pc := 165) dX2_count_165 (by decide) rfl ?_
                refine G_drop_4 ?_
                refine k167 _ ?_
                unfold cnP
                first | exact congrArg bI (propext ⟨fun z => ⟨hl, Or.inl ⟨by omega, z⟩⟩, fun z => z.2.elim (fun q => q.2) (fun q => absurd ‹w = 1› q.1)⟩) | exact (bI_pos ⟨hl, Or.inr ⟨by omega, ev, by omega⟩⟩).symm | exact (bI_neg (fun z => z.2.elim (fun q => by omega) (fun q => by omega))).symm
            · skip
              refine G_iload_1 (pc := 125) dX2_count_125 ?_
              refine G_iconst (pc := 126) dX2_count_126 ?_
              refine G_icmp_ne (pc := 127) 135 dX2_count_127 (by decide) (by omega) (by omega) (fun c127 => ?_) (fun c127 => ?_)
              · skip
                refine G_iload_3 (pc := 135) dX2_count_135 ?_
                refine G_iconst (pc := 136) dX2_count_136 ?_
                refine G_irem (pc := 137) dX2_count_137 (by omega) (by omega) ?_
                refine G_if_ne (pc := 138) 164 dX2_count_138 (by decide) (by omega) (fun c138 => ?_) (fun c138 => ?_)
                · skip
                  refine G_iconst (pc := 164) dX2_count_164 ?_
                  refine G_istore_5 (pc := 165) dX2_count_165 (by decide) rfl ?_
                  refine G_drop_4 ?_
                  refine k167 _ ?_
                  unfold cnP
                  first | exact congrArg bI (propext ⟨fun z => ⟨hl, Or.inl ⟨by omega, z⟩⟩, fun z => z.2.elim (fun q => q.2) (fun q => absurd ‹w = 1› q.1)⟩) | exact (bI_neg (fun z => z.2.elim (fun q => by omega) (fun q => by omega))).symm
                · exact absurd c138 (by omega)
              · skip
                refine G_iload_4 (pc := 130) dX2_count_130 ?_
                refine G_goto (pc := 132) 165 dX2_count_132 (by decide) ?_
                refine G_istore_5 (pc := 165) dX2_count_165 (by decide) rfl ?_
                refine G_drop_4 ?_
                refine k167 _ ?_
                unfold cnP
                first | exact congrArg bI (propext ⟨fun z => ⟨hl, Or.inl ⟨by omega, z⟩⟩, fun z => z.2.elim (fun q => q.2) (fun q => absurd ‹w = 1› q.1)⟩) | exact (bI_neg (fun z => z.2.elim (fun q => by omega) (fun q => by omega))).symm
          have k80 : ∀ (m j : Nat), j + m = k → G E l gX2_count d 0 0 Q 80 [some (.ref (gBase E + 12)), some (vI w), some (vI (cnR S1 w k)), some (vI k), some (vI (bI (nlv S1 k j))), some (vI j)] [] h1 0 0 := by
            intro m
            induction m with
            | zero =>
              intro j hm0
              have ej : j = k := by omega
              subst ej
              refine G_iload_5 (pc := 80) dX2_count_80 ?_
              refine G_iload_3 (pc := 82) dX2_count_82 ?_
              refine G_icmp_ge (pc := 83) 125 dX2_count_83 (by decide) (by omega) (by omega) (fun c83 => ?_) (fun c83 => ?_)
              · skip
                refine G_drop_5 ?_
                exact k125
              · exact absurd c83 (by omega)
            | succ m ihm =>
              intro j hm0
              have go2 : ∀ v : Int, v = bI (nlv S1 k (j + 1)) → G E l gX2_count d 0 0 Q 119 [some (.ref (gBase E + 12)), some (vI w), some (vI (cnR S1 w k)), some (vI k), some (vI v), some (vI j)] [] h1 0 0 := by
                intro v hv
                subst hv
                refine G_iinc_5 (pc := 119) dX2_count_119 (by decide) rfl ?_
                refine G_goto (pc := 122) 80 dX2_count_122 (by decide) ?_
                rw [show ((j : Int) + 1) = ((j + 1 : Nat) : Int) by omega]
                exact ihm (j + 1) (by omega)
              have r2 := (hm.2.2 2 rfl).2.2.2 k (by show _ < 120; omega)
              have r3 := (hm.2.2 3 rfl).2.2.2 k (by show _ < 120; omega)
              rw [mRg_i rfl rfl rfl] at r2 r3
              refine G_iload_5 (pc := 80) dX2_count_80 ?_
              refine G_iload_3 (pc := 82) dX2_count_82 ?_
              refine G_icmp_ge (pc := 83) 125 dX2_count_83 (by decide) (by omega) (by omega) (fun c83 => ?_) (fun c83 => ?_)
              · exact absurd c83 (by omega)
              · skip
                refine G_iload_4 (pc := 86) dX2_count_86 ?_
                refine G_ifb_eq (pc := 88) 116 dX2_count_88 (by decide) (fun c88 => ?_) (fun c88 => ?_)
                · skip
                  refine G_iconst (pc := 116) dX2_count_116 ?_
                  refine G_istore_4 (pc := 117) dX2_count_117 (by decide) rfl ?_
                  refine go2 _ ?_
                  first | exact (bI_neg (fun z => c88 (fun i hi => z i (by omega)))).symm | exact (bI_neg (fun z => z j (by omega) c109)).symm | exact (bI_pos (fun i hi => if e : i = j then (by subst e; exact c109) else c88 i (by omega))).symm
                · skip
                  refine G_aload_0 (pc := 91) dX2_count_91 ?_
                  refine G_iload_5 (pc := 92) dX2_count_92 ?_
                  refine G_aload_0 (pc := 94) dX2_count_94 ?_
                  refine G_mref (pc := 95) dX2_count_95 rfl hm rfl ?_
                  refine G_iload_3 (pc := 98) dX2_count_98 ?_
                  refine G_mi (pc := 99) (n := 120) dX2_count_99 hm rfl rfl rfl (by omega) (fun b99 => ?_)
                  refine G_aload_0 (pc := 100) dX2_count_100 ?_
                  refine G_mref (pc := 101) dX2_count_101 rfl hm rfl ?_
                  refine G_iload_3 (pc := 104) dX2_count_104 ?_
                  refine G_mi (pc := 105) (n := 120) dX2_count_105 hm rfl rfl rfl (by omega) (fun b105 => ?_)
                  rw [Int.toNat_natCast]
                  refine G_pV3 (v := vI (bI (lvs S1 (S1.2 2 k) (S1.2 3 k) j))) dX2_count_106 rfl hm.1 (by decide) rfl (mp_X2_leaves hm (by omega) (by omega) (by omega)) (by omega) (by omega) (by omega) (Nat.le_of_ble_eq_true rfl) ?_
                  refine G_ifb_ne (pc := 109) 116 dX2_count_109 (by decide) (fun c109 => ?_) (fun c109 => ?_)
                  · skip
                    refine G_iconst (pc := 116) dX2_count_116 ?_
                    refine G_istore_4 (pc := 117) dX2_count_117 (by decide) rfl ?_
                    refine go2 _ ?_
                    first | exact (bI_neg (fun z => c88 (fun i hi => z i (by omega)))).symm | exact (bI_neg (fun z => z j (by omega) c109)).symm | exact (bI_pos (fun i hi => if e : i = j then (by subst e; exact c109) else c88 i (by omega))).symm
                  · skip
                    refine G_iconst (pc := 112) dX2_count_112 ?_
                    refine G_goto (pc := 113) 117 dX2_count_113 (by decide) ?_
                    refine G_istore_4 (pc := 117) dX2_count_117 (by decide) rfl ?_
                    refine go2 _ ?_
                    first | exact (bI_neg (fun z => c88 (fun i hi => z i (by omega)))).symm | exact (bI_neg (fun z => z j (by omega) c109)).symm | exact (bI_pos (fun i hi => if e : i = j then (by subst e; exact c109) else c88 i (by omega))).symm
          refine G_iload_3 (pc := 57) dX2_count_57 ?_
          refine G_bipush (pc := 58) dX2_count_58 (by omega) ?_
          refine G_icmp_ge (pc := 60) 186 dX2_count_60 (by decide) (by omega) (by omega) (fun c60 => ?_) (fun c60 => ?_)
          · exact absurd c60 (by omega)
          · skip
            refine G_aload_0 (pc := 63) dX2_count_63 ?_
            refine G_mref (pc := 64) dX2_count_64 rfl hm rfl ?_
            refine G_iload_3 (pc := 67) dX2_count_67 ?_
            refine G_iconst (pc := 68) dX2_count_68 ?_
            refine G_idiv (pc := 69) dX2_count_69 (by omega) (by omega) ?_
            refine G_mb (pc := 70) dX2_count_70 hm (by omega) (fun b70 => ?_)
            rw [tn_div] at *
            refine G_if_eq (pc := 71) 180 dX2_count_71 (by decide) (by omega) (fun c71 => ?_) (fun c71 => ?_)
            · exact absurd c71 (by omega)
            · skip
              refine G_iconst (pc := 74) dX2_count_74 ?_
              refine G_istore_4 (pc := 75) dX2_count_75 (by decide) rfl ?_
              refine G_iconst (pc := 77) dX2_count_77 ?_
              refine G_istore_5 (pc := 78) dX2_count_78 (by decide) rfl ?_
              have := k80 k 0 (by omega)
              rw [bI_pos (show nlv S1 k 0 from fun i hi => absurd hi (by omega))] at this
              exact this
        · skip
          refine G_iload_3 (pc := 57) dX2_count_57 ?_
          refine G_bipush (pc := 58) dX2_count_58 (by omega) ?_
          refine G_icmp_ge (pc := 60) 186 dX2_count_60 (by decide) (by omega) (by omega) (fun c60 => ?_) (fun c60 => ?_)
          · exact absurd c60 (by omega)
          · skip
            refine G_aload_0 (pc := 63) dX2_count_63 ?_
            refine G_mref (pc := 64) dX2_count_64 rfl hm rfl ?_
            refine G_iload_3 (pc := 67) dX2_count_67 ?_
            refine G_iconst (pc := 68) dX2_count_68 ?_
            refine G_idiv (pc := 69) dX2_count_69 (by omega) (by omega) ?_
            refine G_mb (pc := 70) dX2_count_70 hm (by omega) (fun b70 => ?_)
            rw [tn_div] at *
            refine G_if_eq (pc := 71) 180 dX2_count_71 (by decide) (by omega) (fun c71 => ?_) (fun c71 => ?_)
            · skip
              exact go _ (by rw [cnR, zI_neg (fun z => hl z.1)])
            · exact absurd c71 (by intro q; exact hl (by omega))
    refine G_iload_1 (pc := 9) dX2_count_9 ?_
    refine G_iconst (pc := 10) dX2_count_10 ?_
    refine G_icmp_eq (pc := 11) 24 dX2_count_11 (by decide) (by omega) (by omega) (fun c11 => ?_) (fun c11 => ?_)
    · skip
      refine G_iload_1 (pc := 24) dX2_count_24 ?_
      refine G_iconst (pc := 25) dX2_count_25 ?_
      refine G_icmp_ne (pc := 26) 36 dX2_count_26 (by decide) (by omega) (by omega) (fun c26 => ?_) (fun c26 => ?_)
      · skip
        refine G_iload_1 (pc := 36) dX2_count_36 ?_
        refine G_iconst (pc := 37) dX2_count_37 ?_
        refine G_icmp_ne (pc := 38) 48 dX2_count_38 (by decide) (by omega) (by omega) (fun c38 => ?_) (fun c38 => ?_)
        · skip
          refine G_aload_0 (pc := 48) dX2_count_48 ?_
          refine G_mget (pc := 49) dX2_count_49 rfl hm rfl rfl (fun b49 => ?_)
          refine G_ireturn (pc := 52) dX2_count_52 rfl rfl (by omega) (by omega) ?_
          refine fin _ ?_
          unfold ctA
          first | (exfalso; omega) | rw [zI_pos (by omega)] | (rw [zI_neg (by omega)]; first | rw [zI_pos (by omega)] | (rw [zI_neg (by omega)]; rw [zI_pos (by omega)]))
        · skip
          refine G_aload_0 (pc := 41) dX2_count_41 ?_
          refine G_mget (pc := 42) dX2_count_42 rfl hm rfl rfl (fun b42 => ?_)
          refine G_goto (pc := 45) 52 dX2_count_45 (by decide) ?_
          refine G_ireturn (pc := 52) dX2_count_52 rfl rfl (by omega) (by omega) ?_
          refine fin _ ?_
          unfold ctA
          first | (exfalso; omega) | rw [zI_pos (by omega)] | (rw [zI_neg (by omega)]; first | rw [zI_pos (by omega)] | (rw [zI_neg (by omega)]; rw [zI_pos (by omega)]))
      · skip
        refine G_aload_0 (pc := 29) dX2_count_29 ?_
        refine G_mget (pc := 30) dX2_count_30 rfl hm rfl rfl (fun b30 => ?_)
        refine G_goto (pc := 33) 52 dX2_count_33 (by decide) ?_
        refine G_ireturn (pc := 52) dX2_count_52 rfl rfl (by omega) (by omega) ?_
        refine fin _ ?_
        unfold ctA
        first | (exfalso; omega) | rw [zI_pos (by omega)] | (rw [zI_neg (by omega)]; first | rw [zI_pos (by omega)] | (rw [zI_neg (by omega)]; rw [zI_pos (by omega)]))
    · skip
      refine G_iload_1 (pc := 14) dX2_count_14 ?_
      refine G_iconst (pc := 15) dX2_count_15 ?_
      refine G_icmp_eq (pc := 16) 24 dX2_count_16 (by decide) (by omega) (by omega) (fun c16 => ?_) (fun c16 => ?_)
      · skip
        refine G_iload_1 (pc := 24) dX2_count_24 ?_
        refine G_iconst (pc := 25) dX2_count_25 ?_
        refine G_icmp_ne (pc := 26) 36 dX2_count_26 (by decide) (by omega) (by omega) (fun c26 => ?_) (fun c26 => ?_)
        · skip
          refine G_iload_1 (pc := 36) dX2_count_36 ?_
          refine G_iconst (pc := 37) dX2_count_37 ?_
          refine G_icmp_ne (pc := 38) 48 dX2_count_38 (by decide) (by omega) (by omega) (fun c38 => ?_) (fun c38 => ?_)
          · skip
            refine G_aload_0 (pc := 48) dX2_count_48 ?_
            refine G_mget (pc := 49) dX2_count_49 rfl hm rfl rfl (fun b49 => ?_)
            refine G_ireturn (pc := 52) dX2_count_52 rfl rfl (by omega) (by omega) ?_
            refine fin _ ?_
            unfold ctA
            first | (exfalso; omega) | rw [zI_pos (by omega)] | (rw [zI_neg (by omega)]; first | rw [zI_pos (by omega)] | (rw [zI_neg (by omega)]; rw [zI_pos (by omega)]))
          · skip
            refine G_aload_0 (pc := 41) dX2_count_41 ?_
            refine G_mget (pc := 42) dX2_count_42 rfl hm rfl rfl (fun b42 => ?_)
            refine G_goto (pc := 45) 52 dX2_count_45 (by decide) ?_
            refine G_ireturn (pc := 52) dX2_count_52 rfl rfl (by omega) (by omega) ?_
            refine fin _ ?_
            unfold ctA
            first | (exfalso; omega) | rw [zI_pos (by omega)] | (rw [zI_neg (by omega)]; first | rw [zI_pos (by omega)] | (rw [zI_neg (by omega)]; rw [zI_pos (by omega)]))
        · skip
          refine G_aload_0 (pc := 29) dX2_count_29 ?_
          refine G_mget (pc := 30) dX2_count_30 rfl hm rfl rfl (fun b30 => ?_)
          refine G_goto (pc := 33) 52 dX2_count_33 (by decide) ?_
          refine G_ireturn (pc := 52) dX2_count_52 rfl rfl (by omega) (by omega) ?_
          refine fin _ ?_
          unfold ctA
          first | (exfalso; omega) | rw [zI_pos (by omega)] | (rw [zI_neg (by omega)]; first | rw [zI_pos (by omega)] | (rw [zI_neg (by omega)]; rw [zI_pos (by omega)]))
      · skip
        refine G_iload_1 (pc := 19) dX2_count_19 ?_
        refine G_iconst (pc := 20) dX2_count_20 ?_
        refine G_icmp_ne (pc := 21) 53 dX2_count_21 (by decide) (by omega) (by omega) (fun c21 => ?_) (fun c21 => ?_)
        · skip
          refine G_iconst (pc := 53) dX2_count_53 ?_
          refine G_istore_2 (pc := 54) dX2_count_54 (by decide) rfl ?_
          refine G_iconst (pc := 55) dX2_count_55 ?_
          refine G_istore_3 (pc := 56) dX2_count_56 (by decide) rfl ?_
          exact k57 (by omega) (by omega) (by omega) 120 0 rfl
        · skip
          refine G_iload_1 (pc := 24) dX2_count_24 ?_
          refine G_iconst (pc := 25) dX2_count_25 ?_
          refine G_icmp_ne (pc := 26) 36 dX2_count_26 (by decide) (by omega) (by omega) (fun c26 => ?_) (fun c26 => ?_)
          · skip
            refine G_iload_1 (pc := 36) dX2_count_36 ?_
            refine G_iconst (pc := 37) dX2_count_37 ?_
            refine G_icmp_ne (pc := 38) 48 dX2_count_38 (by decide) (by omega) (by omega) (fun c38 => ?_) (fun c38 => ?_)
            · skip
              refine G_aload_0 (pc := 48) dX2_count_48 ?_
              refine G_mget (pc := 49) dX2_count_49 rfl hm rfl rfl (fun b49 => ?_)
              refine G_ireturn (pc := 52) dX2_count_52 rfl rfl (by omega) (by omega) ?_
              refine fin _ ?_
              unfold ctA
              first | (exfalso; omega) | rw [zI_pos (by omega)] | (rw [zI_neg (by omega)]; first | rw [zI_pos (by omega)] | (rw [zI_neg (by omega)]; rw [zI_pos (by omega)]))
            · skip
              refine G_aload_0 (pc := 41) dX2_count_41 ?_
              refine G_mget (pc := 42) dX2_count_42 rfl hm rfl rfl (fun b42 => ?_)
              refine G_goto (pc := 45) 52 dX2_count_45 (by decide) ?_
              refine G_ireturn (pc := 52) dX2_count_52 rfl rfl (by omega) (by omega) ?_
              refine fin _ ?_
              unfold ctA
              first | (exfalso; omega) | rw [zI_pos (by omega)] | (rw [zI_neg (by omega)]; first | rw [zI_pos (by omega)] | (rw [zI_neg (by omega)]; rw [zI_pos (by omega)]))
          · skip
            refine G_aload_0 (pc := 29) dX2_count_29 ?_
            refine G_mget (pc := 30) dX2_count_30 rfl hm rfl rfl (fun b30 => ?_)
            refine G_goto (pc := 33) 52 dX2_count_33 (by decide) ?_
            refine G_ireturn (pc := 52) dX2_count_52 rfl rfl (by omega) (by omega) ?_
            refine fin _ ?_
            unfold ctA
            first | (exfalso; omega) | rw [zI_pos (by omega)] | (rw [zI_neg (by omega)]; first | rw [zI_pos (by omega)] | (rw [zI_neg (by omega)]; rw [zI_pos (by omega)]))
  refine G_aload_0 (pc := 0) dX2_count_0 ?_
  refine G_iconst (pc := 1) dX2_count_1 ?_
  refine G_mputI (pc := 2) dX2_count_2 rfl hm hk rfl rfl (by omega) (fun h hm hk => ?_)
  refine G_aload_0 (pc := 5) dX2_count_5 ?_
  refine G_m0u (pc := 6) dX2_count_6 rfl rfl rfl hm hk (mo_X2_make (S := mUs S 0 0) K tr pr (fun q => mCur_0 0 (cur q))) (by omega) (by omega) (by omega) (Nat.le_of_ble_eq_true rfl) (fun h S1 hm hk q => ?_)
  obtain ⟨q1, q2, q3, q4, q5, q6⟩ := q
  exact all S1 q1 q4 q5 q6 q3 _ hm hk
end MOD16
