set_option maxRecDepth 100000
theorem G_ldc2m {E : gV} {l : Launch} {M : gM} {d mc ms : Nat} {Q : Outcome → gH → Prop} {pc : Nat} {lv : gLs} {st : List Value} {h : gH} {uc us : Nat} (hd : decode M.2.1 pc = .ok (.ldc2_w 140, 3)) (hm : M.2.2.2.2.1 = 2) (k : G E l M d mc ms Q (pc + 3) lv (vJ (-100000) :: st) h uc us) : G E l M d mc ms Q pc lv st h uc us := by
  intro p e R s m args below meth c ls H locs X hl hR hlo
  have hown := X.2.2.2.2.1
  rw [hm] at hown
  exact lv_ldc2 X.1 X.2.1 hown (X.2.2.2.2.2.1 _ q1262) hd (k p e R s m args below meth c ls H locs X hl hR hlo)
def hgtF (cx cy dx dy x y : Int) : Int := if cx = dx then (if y < min cy dy then min cy dy else if y < max cy dy then y else -100000) else if cx < dx then cy * (dx - cx) + (dy - cy) * (x - cx) else dy * (cx - dx) + (cy - dy) * (x - dx)
def wdF (cx dx : Int) : Int := if dx - cx = 0 then 1 else if dx - cx < 0 then -(dx - cx) else dx - cx
def metF (cx cy dx dy x y : Int) : Prop := (cx = dx ∧ cx = x ∧ y ≤ hgtF cx cy dx dy x y) ∨ (cx ≠ dx ∧ (min cx dx ≤ x ∧ x ≤ max cx dx) ∧ y * wdF cx dx < hgtF cx cy dx dy x y)
theorem wdF_b {cx dx : Int} (h1 : -16000 ≤ cx ∧ cx ≤ 16000) (h2 : -16000 ≤ dx ∧ dx ≤ 16000) : 1 ≤ wdF cx dx ∧ wdF cx dx ≤ 32000 := by unfold wdF; split <;> (try split) <;> omega
theorem hgtF_b {cx cy dx dy x y : Int} (h1 : -16000 ≤ cx ∧ cx ≤ 16000) (h2 : -16000 ≤ dx ∧ dx ≤ 16000) (h3 : -16000 ≤ cy ∧ cy ≤ 16000) (h4 : -16000 ≤ dy ∧ dy ≤ 16000) (h5 : -16000 ≤ x ∧ x ≤ 16000) (h6 : -16000 ≤ y ∧ y ≤ 16000) : -3000000000 ≤ hgtF cx cy dx dy x y ∧ hgtF cx cy dx dy x y ≤ 3000000000 := by
  have m1 := mul_b (a := cy) (b := dx - cx) (by omega) (by omega)
  have m2 := mul_b (a := dy - cy) (b := x - cx) (by omega) (by omega)
  have m3 := mul_b (a := dy) (b := cx - dx) (by omega) (by omega)
  have m4 := mul_b (a := cy - dy) (b := x - dx) (by omega) (by omega)
  unfold hgtF
  split
  · split
    · omega
    · split <;> omega
  · split <;> omega
section MOD13
variable {E : gV} {l : Launch} {h : gH} {S : mS}
theorem mp_X2_height (hm : zMo E h S) {s : Nat} (hs : s < 60) {x y cx cy dx dy : Int} (ecx : S.2 2 (2 * s) = cx) (ecy : S.2 3 (2 * s) = cy) (edx : S.2 2 (2 * s + 1) = dx) (edy : S.2 3 (2 * s + 1) = dy) (h1 : -16000 ≤ cx ∧ cx ≤ 16000) (h2 : -16000 ≤ dx ∧ dx ≤ 16000) (h3 : -16000 ≤ cy ∧ cy ≤ 16000) (h4 : -16000 ≤ dy ∧ dy ≤ 16000) (h5 : -16000 ≤ x ∧ x ≤ 16000) (h6 : -16000 ≤ y ∧ y ≤ 16000) :
    gPu E l gX2_height 2 [.ref (gBase E + 12), vI s, vI x, vI y] h (vJ (hgtF cx cy dx dy x y)) := by
  intro d hd
  have e1 : (2 * (s : Int)).toNat = 2 * s := by omega
  have e2 : (2 * (s : Int) + 1).toNat = 2 * s + 1 := by omega
  have z1 : (2 * (s : Int)) = ((2 * s : Nat) : Int) := by omega
  have z2 : (2 * (s : Int) + 1) = ((2 * s + 1 : Nat) : Int) := by omega
  have b1 : zB (2 * s) = 2 * s + 1 := by unfold zB; split <;> omega
  have b2 : zB (2 * s + 1) = 2 * s := by unfold zB; split <;> omega
  refine gOk_of gmok_X2_height rfl (Nat.le_of_ble_eq_true rfl) (L := [some _, some _, some _, some _, none, none, none, none]) rfl ?_
  obtain ⟨Q, hQ⟩ : ∃ Q, Q = gRet (gRv fun v h' => v = vJ (hgtF cx cy dx dy x y) ∧ h' = h) := ⟨_, rfl⟩
  rw [← hQ]
  have fin : ∀ z : Int, z = hgtF cx cy dx dy x y → Q (.returned (some (vJ z))) h := by
    intro z hz
    subst hz; subst hQ
    exact ⟨_, rfl, _, rfl, rfl, rfl⟩
  rcases Int.lt_trichotomy cx dx with c | c | c
  · skip
    refine G_aload_0 (pc := 0) dX2_height_0 ?_
    refine G_mref (pc := 1) dX2_height_1 rfl hm rfl ?_
    refine G_iconst (pc := 4) dX2_height_4 ?_
    refine G_iload_1 (pc := 5) dX2_height_5 ?_
    refine G_imul (pc := 6) dX2_height_6 ?_
    refine G_mi (pc := 7) (n := 120) dX2_height_7 hm rfl rfl rfl (by omega) (fun b7 => ?_)
    refine G_aload_0 (pc := 8) dX2_height_8 ?_
    refine G_mref (pc := 9) dX2_height_9 rfl hm rfl ?_
    refine G_iconst (pc := 12) dX2_height_12 ?_
    refine G_iload_1 (pc := 13) dX2_height_13 ?_
    refine G_imul (pc := 14) dX2_height_14 ?_
    refine G_iconst (pc := 15) dX2_height_15 ?_
    refine G_iadd (pc := 16) dX2_height_16 ?_
    refine G_mi (pc := 17) (n := 120) dX2_height_17 hm rfl rfl rfl (by omega) (fun b17 => ?_)
    simp only [e1, e2, ecx, edx]
    refine G_icmp_ge (pc := 18) 27 dX2_height_18 (by decide) (by omega) (by omega) (fun c18 => ?_) (fun c18 => ?_)
    · exact absurd c18 (by omega)
    · skip
      refine G_iconst (pc := 21) dX2_height_21 ?_
      refine G_iload_1 (pc := 22) dX2_height_22 ?_
      refine G_imul (pc := 23) dX2_height_23 ?_
      refine G_goto (pc := 24) 32 dX2_height_24 (by decide) ?_
      rw [z1]
      refine G_istore_4 (pc := 32) dX2_height_32 (by decide) rfl ?_
      refine G_iload_4 (pc := 34) dX2_height_34 ?_
      refine G_pS1 (pc := 36) dX2_height_36 rfl rfl (pu_X2_back _ (by omega)) (by omega) (by omega) (by omega) (Nat.le_of_ble_eq_true rfl) ?_
      rw [b1]
      refine G_istore_5 (pc := 39) dX2_height_39 (by decide) rfl ?_
      refine G_aload_0 (pc := 41) dX2_height_41 ?_
      refine G_mref (pc := 42) dX2_height_42 rfl hm rfl ?_
      refine G_iload_4 (pc := 45) dX2_height_45 ?_
      refine G_mi (pc := 47) (n := 120) dX2_height_47 hm rfl rfl rfl (by omega) (fun b47 => ?_)
      refine G_aload_0 (pc := 48) dX2_height_48 ?_
      refine G_mref (pc := 49) dX2_height_49 rfl hm rfl ?_
      refine G_iload_5 (pc := 52) dX2_height_52 ?_
      refine G_mi (pc := 54) (n := 120) dX2_height_54 hm rfl rfl rfl (by omega) (fun b54 => ?_)
      simp only [Int.toNat_natCast, ecx, edx]
      refine G_icmp_ne (pc := 55) 157 dX2_height_55 (by decide) (by omega) (by omega) (fun c55 => ?_) (fun c55 => ?_)
      · skip
        refine G_aload_0 (pc := 157) dX2_height_157 ?_
        refine G_mref (pc := 158) dX2_height_158 rfl hm rfl ?_
        refine G_iload_4 (pc := 161) dX2_height_161 ?_
        refine G_mi (pc := 163) (n := 120) dX2_height_163 hm rfl rfl rfl (by omega) (fun b163 => ?_)
        simp only [Int.toNat_natCast, ecy]
        refine G_i2l (pc := 164) dX2_height_164 (by omega) ?_
        refine G_aload_0 (pc := 165) dX2_height_165 ?_
        refine G_mref (pc := 166) dX2_height_166 rfl hm rfl ?_
        refine G_iload_5 (pc := 169) dX2_height_169 ?_
        refine G_mi (pc := 171) (n := 120) dX2_height_171 hm rfl rfl rfl (by omega) (fun b171 => ?_)
        refine G_aload_0 (pc := 172) dX2_height_172 ?_
        refine G_mref (pc := 173) dX2_height_173 rfl hm rfl ?_
        refine G_iload_4 (pc := 176) dX2_height_176 ?_
        refine G_mi (pc := 178) (n := 120) dX2_height_178 hm rfl rfl rfl (by omega) (fun b178 => ?_)
        simp only [Int.toNat_natCast, ecx, edx]
        refine G_isub (pc := 179) dX2_height_179 ?_
        refine G_i2l (pc := 180) dX2_height_180 (by omega) ?_
        refine G_lmul (pc := 181) dX2_height_181 ?_
        refine G_aload_0 (pc := 182) dX2_height_182 ?_
        refine G_mref (pc := 183) dX2_height_183 rfl hm rfl ?_
        refine G_iload_5 (pc := 186) dX2_height_186 ?_
        refine G_mi (pc := 188) (n := 120) dX2_height_188 hm rfl rfl rfl (by omega) (fun b188 => ?_)
        refine G_aload_0 (pc := 189) dX2_height_189 ?_
        refine G_mref (pc := 190) dX2_height_190 rfl hm rfl ?_
        refine G_iload_4 (pc := 193) dX2_height_193 ?_
        refine G_mi (pc := 195) (n := 120) dX2_height_195 hm rfl rfl rfl (by omega) (fun b195 => ?_)
        simp only [Int.toNat_natCast, ecy, edy]
        refine G_isub (pc := 196) dX2_height_196 ?_
        refine G_i2l (pc := 197) dX2_height_197 (by omega) ?_
        refine G_iload_2 (pc := 198) dX2_height_198 ?_
        refine G_aload_0 (pc := 199) dX2_height_199 ?_
        refine G_mref (pc := 200) dX2_height_200 rfl hm rfl ?_
        refine G_iload_4 (pc := 203) dX2_height_203 ?_
        refine G_mi (pc := 205) (n := 120) dX2_height_205 hm rfl rfl rfl (by omega) (fun b205 => ?_)
        simp only [Int.toNat_natCast, ecx]
        refine G_isub (pc := 206) dX2_height_206 ?_
        refine G_i2l (pc := 207) dX2_height_207 (by omega) ?_
        refine G_lmul (pc := 208) dX2_height_208 ?_
        refine G_ladd (pc := 209) dX2_height_209 ?_
        refine G_lreturn (pc := 210) dX2_height_210 rfl (by omega) (by omega) ?_
        refine fin _ ?_
        unfold hgtF
        rw [if_neg (by omega), if_pos c]
      · exact absurd c55 (by omega)
  · subst c
    refine G_aload_0 (pc := 0) dX2_height_0 ?_
    refine G_mref (pc := 1) dX2_height_1 rfl hm rfl ?_
    refine G_iconst (pc := 4) dX2_height_4 ?_
    refine G_iload_1 (pc := 5) dX2_height_5 ?_
    refine G_imul (pc := 6) dX2_height_6 ?_
    refine G_mi (pc := 7) (n := 120) dX2_height_7 hm rfl rfl rfl (by omega) (fun b7 => ?_)
    refine G_aload_0 (pc := 8) dX2_height_8 ?_
    refine G_mref (pc := 9) dX2_height_9 rfl hm rfl ?_
    refine G_iconst (pc := 12) dX2_height_12 ?_
    refine G_iload_1 (pc := 13) dX2_height_13 ?_
    refine G_imul (pc := 14) dX2_height_14 ?_
    refine G_iconst (pc := 15) dX2_height_15 ?_
    refine G_iadd (pc := 16) dX2_height_16 ?_
    refine G_mi (pc := 17) (n := 120) dX2_height_17 hm rfl rfl rfl (by omega) (fun b17 => ?_)
    simp only [e1, e2, ecx, edx]
    refine G_icmp_ge (pc := 18) 27 dX2_height_18 (by decide) (by omega) (by omega) (fun c18 => ?_) (fun c18 => ?_)
    · skip
      refine G_iconst (pc := 27) dX2_height_27 ?_
      refine G_iload_1 (pc := 28) dX2_height_28 ?_
      refine G_imul (pc := 29) dX2_height_29 ?_
      refine G_iconst (pc := 30) dX2_height_30 ?_
      refine G_iadd (pc := 31) dX2_height_31 ?_
      rw [z2]
      refine G_istore_4 (pc := 32) dX2_height_32 (by decide) rfl ?_
      refine G_iload_4 (pc := 34) dX2_height_34 ?_
      refine G_pS1 (pc := 36) dX2_height_36 rfl rfl (pu_X2_back _ (by omega)) (by omega) (by omega) (by omega) (Nat.le_of_ble_eq_true rfl) ?_
      rw [b2]
      refine G_istore_5 (pc := 39) dX2_height_39 (by decide) rfl ?_
      refine G_aload_0 (pc := 41) dX2_height_41 ?_
      refine G_mref (pc := 42) dX2_height_42 rfl hm rfl ?_
      refine G_iload_4 (pc := 45) dX2_height_45 ?_
      refine G_mi (pc := 47) (n := 120) dX2_height_47 hm rfl rfl rfl (by omega) (fun b47 => ?_)
      refine G_aload_0 (pc := 48) dX2_height_48 ?_
      refine G_mref (pc := 49) dX2_height_49 rfl hm rfl ?_
      refine G_iload_5 (pc := 52) dX2_height_52 ?_
      refine G_mi (pc := 54) (n := 120) dX2_height_54 hm rfl rfl rfl (by omega) (fun b54 => ?_)
      simp only [Int.toNat_natCast, ecx, edx]
      refine G_icmp_ne (pc := 55) 157 dX2_height_55 (by decide) (by omega) (by omega) (fun c55 => ?_) (fun c55 => ?_)
      · exact absurd c55 (by omega)
      · skip
        refine G_aload_0 (pc := 58) dX2_height_58 ?_
        refine G_mref (pc := 59) dX2_height_59 rfl hm rfl ?_
        refine G_iload_4 (pc := 62) dX2_height_62 ?_
        refine G_mi (pc := 64) (n := 120) dX2_height_64 hm rfl rfl rfl (by omega) (fun b64 => ?_)
        refine G_aload_0 (pc := 65) dX2_height_65 ?_
        refine G_mref (pc := 66) dX2_height_66 rfl hm rfl ?_
        refine G_iload_5 (pc := 69) dX2_height_69 ?_
        refine G_mi (pc := 71) (n := 120) dX2_height_71 hm rfl rfl rfl (by omega) (fun b71 => ?_)
        simp only [Int.toNat_natCast, ecy, edy]
        refine G_icmp_ge (pc := 72) 85 dX2_height_72 (by decide) (by omega) (by omega) (fun c72 => ?_) (fun c72 => ?_)
        · skip
          refine G_aload_0 (pc := 85) dX2_height_85 ?_
          refine G_mref (pc := 86) dX2_height_86 rfl hm rfl ?_
          refine G_iload_5 (pc := 89) dX2_height_89 ?_
          refine G_mi (pc := 91) (n := 120) dX2_height_91 hm rfl rfl rfl (by omega) (fun b91 => ?_)
          simp only [Int.toNat_natCast, ecy, edy]
          refine G_istore_6 (pc := 92) dX2_height_92 (by decide) rfl ?_
          refine G_aload_0 (pc := 94) dX2_height_94 ?_
          refine G_mref (pc := 95) dX2_height_95 rfl hm rfl ?_
          refine G_iload_4 (pc := 98) dX2_height_98 ?_
          refine G_mi (pc := 100) (n := 120) dX2_height_100 hm rfl rfl rfl (by omega) (fun b100 => ?_)
          refine G_aload_0 (pc := 101) dX2_height_101 ?_
          refine G_mref (pc := 102) dX2_height_102 rfl hm rfl ?_
          refine G_iload_5 (pc := 105) dX2_height_105 ?_
          refine G_mi (pc := 107) (n := 120) dX2_height_107 hm rfl rfl rfl (by omega) (fun b107 => ?_)
          simp only [Int.toNat_natCast, ecy, edy]
          refine G_icmp_ge (pc := 108) 121 dX2_height_108 (by decide) (by omega) (by omega) (fun c108 => ?_) (fun c108 => ?_)
          · skip
            refine G_aload_0 (pc := 121) dX2_height_121 ?_
            refine G_mref (pc := 122) dX2_height_122 rfl hm rfl ?_
            refine G_iload_4 (pc := 125) dX2_height_125 ?_
            refine G_mi (pc := 127) (n := 120) dX2_height_127 hm rfl rfl rfl (by omega) (fun b127 => ?_)
            simp only [Int.toNat_natCast, ecy, edy]
            refine G_istore_7 (pc := 128) dX2_height_128 (by decide) rfl ?_
            refine G_iload_6 (pc := 130) dX2_height_130 ?_
            refine G_iload_3 (pc := 132) dX2_height_132 ?_
            refine G_icmp_le (pc := 133) 142 dX2_height_133 (by decide) (by omega) (by omega) (fun c133 => ?_) (fun c133 => ?_)
            · skip
              refine G_iload_7 (pc := 142) dX2_height_142 ?_
              refine G_iload_3 (pc := 144) dX2_height_144 ?_
              refine G_icmp_le (pc := 145) 153 dX2_height_145 (by decide) (by omega) (by omega) (fun c145 => ?_) (fun c145 => ?_)
              · skip
                refine G_ldc2m (pc := 153) dX2_height_153 rfl ?_
                refine G_lreturn (pc := 156) dX2_height_156 rfl (by omega) (by omega) ?_
                refine fin _ ?_
                unfold hgtF
                rw [if_pos rfl]
                first | (rw [if_pos (by omega)]; omega) | (rw [if_neg (by omega)]; first | rw [if_pos (by omega)] | rw [if_neg (by omega)])
              · skip
                refine G_iload_3 (pc := 148) dX2_height_148 ?_
                refine G_i2l (pc := 149) dX2_height_149 (by omega) ?_
                refine G_goto (pc := 150) 156 dX2_height_150 (by decide) ?_
                refine G_lreturn (pc := 156) dX2_height_156 rfl (by omega) (by omega) ?_
                refine fin _ ?_
                unfold hgtF
                rw [if_pos rfl]
                first | (rw [if_pos (by omega)]; omega) | (rw [if_neg (by omega)]; first | rw [if_pos (by omega)] | rw [if_neg (by omega)])
            · skip
              refine G_iload_6 (pc := 136) dX2_height_136 ?_
              refine G_i2l (pc := 138) dX2_height_138 (by omega) ?_
              refine G_goto (pc := 139) 156 dX2_height_139 (by decide) ?_
              refine G_lreturn (pc := 156) dX2_height_156 rfl (by omega) (by omega) ?_
              refine fin _ ?_
              unfold hgtF
              rw [if_pos rfl]
              first | (rw [if_pos (by omega)]; omega) | (rw [if_neg (by omega)]; first | rw [if_pos (by omega)] | rw [if_neg (by omega)])
          · skip
            refine G_aload_0 (pc := 111) dX2_height_111 ?_
            refine G_mref (pc := 112) dX2_height_112 rfl hm rfl ?_
            refine G_iload_5 (pc := 115) dX2_height_115 ?_
            refine G_mi (pc := 117) (n := 120) dX2_height_117 hm rfl rfl rfl (by omega) (fun b117 => ?_)
            refine G_goto (pc := 118) 128 dX2_height_118 (by decide) ?_
            simp only [Int.toNat_natCast, ecy, edy]
            refine G_istore_7 (pc := 128) dX2_height_128 (by decide) rfl ?_
            refine G_iload_6 (pc := 130) dX2_height_130 ?_
            refine G_iload_3 (pc := 132) dX2_height_132 ?_
            refine G_icmp_le (pc := 133) 142 dX2_height_133 (by decide) (by omega) (by omega) (fun c133 => ?_) (fun c133 => ?_)
            · skip
              refine G_iload_7 (pc := 142) dX2_height_142 ?_
              refine G_iload_3 (pc := 144) dX2_height_144 ?_
              refine G_icmp_le (pc := 145) 153 dX2_height_145 (by decide) (by omega) (by omega) (fun c145 => ?_) (fun c145 => ?_)
              · skip
                refine G_ldc2m (pc := 153) dX2_height_153 rfl ?_
                refine G_lreturn (pc := 156) dX2_height_156 rfl (by omega) (by omega) ?_
                refine fin _ ?_
                unfold hgtF
                rw [if_pos rfl]
                first | (rw [if_pos (by omega)]; omega) | (rw [if_neg (by omega)]; first | rw [if_pos (by omega)] | rw [if_neg (by omega)])
              · skip
                refine G_iload_3 (pc := 148) dX2_height_148 ?_
                refine G_i2l (pc := 149) dX2_height_149 (by omega) ?_
                refine G_goto (pc := 150) 156 dX2_height_150 (by decide) ?_
                refine G_lreturn (pc := 156) dX2_height_156 rfl (by omega) (by omega) ?_
                refine fin _ ?_
                unfold hgtF
                rw [if_pos rfl]
                first | (rw [if_pos (by omega)]; omega) | (rw [if_neg (by omega)]; first | rw [if_pos (by omega)] | rw [if_neg (by omega)])
            · skip
              refine G_iload_6 (pc := 136) dX2_height_136 ?_
              refine G_i2l (pc := 138) dX2_height_138 (by omega) ?_
              refine G_goto (pc := 139) 156 dX2_height_139 (by decide) ?_
              refine G_lreturn (pc := 156) dX2_height_156 rfl (by omega) (by omega) ?_
              refine fin _ ?_
              unfold hgtF
              rw [if_pos rfl]
              first | (rw [if_pos (by omega)]; omega) | (rw [if_neg (by omega)]; first | rw [if_pos (by omega)] | rw [if_neg (by omega)])
        · skip
          refine G_aload_0 (pc := 75) dX2_height_75 ?_
          refine G_mref (pc := 76) dX2_height_76 rfl hm rfl ?_
          refine G_iload_4 (pc := 79) dX2_height_79 ?_
          refine G_mi (pc := 81) (n := 120) dX2_height_81 hm rfl rfl rfl (by omega) (fun b81 => ?_)
          refine G_goto (pc := 82) 92 dX2_height_82 (by decide) ?_
          simp only [Int.toNat_natCast, ecy, edy]
          refine G_istore_6 (pc := 92) dX2_height_92 (by decide) rfl ?_
          refine G_aload_0 (pc := 94) dX2_height_94 ?_
          refine G_mref (pc := 95) dX2_height_95 rfl hm rfl ?_
          refine G_iload_4 (pc := 98) dX2_height_98 ?_
          refine G_mi (pc := 100) (n := 120) dX2_height_100 hm rfl rfl rfl (by omega) (fun b100 => ?_)
          refine G_aload_0 (pc := 101) dX2_height_101 ?_
          refine G_mref (pc := 102) dX2_height_102 rfl hm rfl ?_
          refine G_iload_5 (pc := 105) dX2_height_105 ?_
          refine G_mi (pc := 107) (n := 120) dX2_height_107 hm rfl rfl rfl (by omega) (fun b107 => ?_)
          simp only [Int.toNat_natCast, ecy, edy]
          refine G_icmp_ge (pc := 108) 121 dX2_height_108 (by decide) (by omega) (by omega) (fun c108 => ?_) (fun c108 => ?_)
          · skip
            refine G_aload_0 (pc := 121) dX2_height_121 ?_
            refine G_mref (pc := 122) dX2_height_122 rfl hm rfl ?_
            refine G_iload_4 (pc := 125) dX2_height_125 ?_
            refine G_mi (pc := 127) (n := 120) dX2_height_127 hm rfl rfl rfl (by omega) (fun b127 => ?_)
            simp only [Int.toNat_natCast, ecy, edy]
            refine G_istore_7 (pc := 128) dX2_height_128 (by decide) rfl ?_
            refine G_iload_6 (pc := 130) dX2_height_130 ?_
            refine G_iload_3 (pc := 132) dX2_height_132 ?_
            refine G_icmp_le (pc := 133) 142 dX2_height_133 (by decide) (by omega) (by omega) (fun c133 => ?_) (fun c133 => ?_)
            · skip
              refine G_iload_7 (pc := 142) dX2_height_142 ?_
              refine G_iload_3 (pc := 144) dX2_height_144 ?_
              refine G_icmp_le (pc := 145) 153 dX2_height_145 (by decide) (by omega) (by omega) (fun c145 => ?_) (fun c145 => ?_)
              · skip
                refine G_ldc2m (pc := 153) dX2_height_153 rfl ?_
                refine G_lreturn (pc := 156) dX2_height_156 rfl (by omega) (by omega) ?_
                refine fin _ ?_
                unfold hgtF
                rw [if_pos rfl]
                first | (rw [if_pos (by omega)]; omega) | (rw [if_neg (by omega)]; first | rw [if_pos (by omega)] | rw [if_neg (by omega)])
              · skip
                refine G_iload_3 (pc := 148) dX2_height_148 ?_
                refine G_i2l (pc := 149) dX2_height_149 (by omega) ?_
                refine G_goto (pc := 150) 156 dX2_height_150 (by decide) ?_
                refine G_lreturn (pc := 156) dX2_height_156 rfl (by omega) (by omega) ?_
                refine fin _ ?_
                unfold hgtF
                rw [if_pos rfl]
                first | (rw [if_pos (by omega)]; omega) | (rw [if_neg (by omega)]; first | rw [if_pos (by omega)] | rw [if_neg (by omega)])
            · skip
              refine G_iload_6 (pc := 136) dX2_height_136 ?_
              refine G_i2l (pc := 138) dX2_height_138 (by omega) ?_
              refine G_goto (pc := 139) 156 dX2_height_139 (by decide) ?_
              refine G_lreturn (pc := 156) dX2_height_156 rfl (by omega) (by omega) ?_
              refine fin _ ?_
              unfold hgtF
              rw [if_pos rfl]
              first | (rw [if_pos (by omega)]; omega) | (rw [if_neg (by omega)]; first | rw [if_pos (by omega)] | rw [if_neg (by omega)])
          · skip
            refine G_aload_0 (pc := 111) dX2_height_111 ?_
            refine G_mref (pc := 112) dX2_height_112 rfl hm rfl ?_
            refine G_iload_5 (pc := 115) dX2_height_115 ?_
            refine G_mi (pc := 117) (n := 120) dX2_height_117 hm rfl rfl rfl (by omega) (fun b117 => ?_)
            refine G_goto (pc := 118) 128 dX2_height_118 (by decide) ?_
            simp only [Int.toNat_natCast, ecy, edy]
            refine G_istore_7 (pc := 128) dX2_height_128 (by decide) rfl ?_
            refine G_iload_6 (pc := 130) dX2_height_130 ?_
            refine G_iload_3 (pc := 132) dX2_height_132 ?_
            refine G_icmp_le (pc := 133) 142 dX2_height_133 (by decide) (by omega) (by omega) (fun c133 => ?_) (fun c133 => ?_)
            · skip
              refine G_iload_7 (pc := 142) dX2_height_142 ?_
              refine G_iload_3 (pc := 144) dX2_height_144 ?_
              refine G_icmp_le (pc := 145) 153 dX2_height_145 (by decide) (by omega) (by omega) (fun c145 => ?_) (fun c145 => ?_)
              · skip
                refine G_ldc2m (pc := 153) dX2_height_153 rfl ?_
                refine G_lreturn (pc := 156) dX2_height_156 rfl (by omega) (by omega) ?_
                refine fin _ ?_
                unfold hgtF
                rw [if_pos rfl]
                first | (rw [if_pos (by omega)]; omega) | (rw [if_neg (by omega)]; first | rw [if_pos (by omega)] | rw [if_neg (by omega)])
              · skip
                refine G_iload_3 (pc := 148) dX2_height_148 ?_
                refine G_i2l (pc := 149) dX2_height_149 (by omega) ?_
                refine G_goto (pc := 150) 156 dX2_height_150 (by decide) ?_
                refine G_lreturn (pc := 156) dX2_height_156 rfl (by omega) (by omega) ?_
                refine fin _ ?_
                unfold hgtF
                rw [if_pos rfl]
                first | (rw [if_pos (by omega)]; omega) | (rw [if_neg (by omega)]; first | rw [if_pos (by omega)] | rw [if_neg (by omega)])
            · skip
              refine G_iload_6 (pc := 136) dX2_height_136 ?_
              refine G_i2l (pc := 138) dX2_height_138 (by omega) ?_
              refine G_goto (pc := 139) 156 dX2_height_139 (by decide) ?_
              refine G_lreturn (pc := 156) dX2_height_156 rfl (by omega) (by omega) ?_
              refine fin _ ?_
              unfold hgtF
              rw [if_pos rfl]
              first | (rw [if_pos (by omega)]; omega) | (rw [if_neg (by omega)]; first | rw [if_pos (by omega)] | rw [if_neg (by omega)])
    · exact absurd c18 (by omega)
  · skip
    refine G_aload_0 (pc := 0) dX2_height_0 ?_
    refine G_mref (pc := 1) dX2_height_1 rfl hm rfl ?_
    refine G_iconst (pc := 4) dX2_height_4 ?_
    refine G_iload_1 (pc := 5) dX2_height_5 ?_
    refine G_imul (pc := 6) dX2_height_6 ?_
    refine G_mi (pc := 7) (n := 120) dX2_height_7 hm rfl rfl rfl (by omega) (fun b7 => ?_)
    refine G_aload_0 (pc := 8) dX2_height_8 ?_
    refine G_mref (pc := 9) dX2_height_9 rfl hm rfl ?_
    refine G_iconst (pc := 12) dX2_height_12 ?_
    refine G_iload_1 (pc := 13) dX2_height_13 ?_
    refine G_imul (pc := 14) dX2_height_14 ?_
    refine G_iconst (pc := 15) dX2_height_15 ?_
    refine G_iadd (pc := 16) dX2_height_16 ?_
    refine G_mi (pc := 17) (n := 120) dX2_height_17 hm rfl rfl rfl (by omega) (fun b17 => ?_)
    simp only [e1, e2, ecx, edx]
    refine G_icmp_ge (pc := 18) 27 dX2_height_18 (by decide) (by omega) (by omega) (fun c18 => ?_) (fun c18 => ?_)
    · skip
      refine G_iconst (pc := 27) dX2_height_27 ?_
      refine G_iload_1 (pc := 28) dX2_height_28 ?_
      refine G_imul (pc := 29) dX2_height_29 ?_
      refine G_iconst (pc := 30) dX2_height_30 ?_
      refine G_iadd (pc := 31) dX2_height_31 ?_
      rw [z2]
      refine G_istore_4 (pc := 32) dX2_height_32 (by decide) rfl ?_
      refine G_iload_4 (pc := 34) dX2_height_34 ?_
      refine G_pS1 (pc := 36) dX2_height_36 rfl rfl (pu_X2_back _ (by omega)) (by omega) (by omega) (by omega) (Nat.le_of_ble_eq_true rfl) ?_
      rw [b2]
      refine G_istore_5 (pc := 39) dX2_height_39 (by decide) rfl ?_
      refine G_aload_0 (pc := 41) dX2_height_41 ?_
      refine G_mref (pc := 42) dX2_height_42 rfl hm rfl ?_
      refine G_iload_4 (pc := 45) dX2_height_45 ?_
      refine G_mi (pc := 47) (n := 120) dX2_height_47 hm rfl rfl rfl (by omega) (fun b47 => ?_)
      refine G_aload_0 (pc := 48) dX2_height_48 ?_
      refine G_mref (pc := 49) dX2_height_49 rfl hm rfl ?_
      refine G_iload_5 (pc := 52) dX2_height_52 ?_
      refine G_mi (pc := 54) (n := 120) dX2_height_54 hm rfl rfl rfl (by omega) (fun b54 => ?_)
      simp only [Int.toNat_natCast, ecx, edx]
      refine G_icmp_ne (pc := 55) 157 dX2_height_55 (by decide) (by omega) (by omega) (fun c55 => ?_) (fun c55 => ?_)
      · skip
        refine G_aload_0 (pc := 157) dX2_height_157 ?_
        refine G_mref (pc := 158) dX2_height_158 rfl hm rfl ?_
        refine G_iload_4 (pc := 161) dX2_height_161 ?_
        refine G_mi (pc := 163) (n := 120) dX2_height_163 hm rfl rfl rfl (by omega) (fun b163 => ?_)
        simp only [Int.toNat_natCast, edy]
        refine G_i2l (pc := 164) dX2_height_164 (by omega) ?_
        refine G_aload_0 (pc := 165) dX2_height_165 ?_
        refine G_mref (pc := 166) dX2_height_166 rfl hm rfl ?_
        refine G_iload_5 (pc := 169) dX2_height_169 ?_
        refine G_mi (pc := 171) (n := 120) dX2_height_171 hm rfl rfl rfl (by omega) (fun b171 => ?_)
        refine G_aload_0 (pc := 172) dX2_height_172 ?_
        refine G_mref (pc := 173) dX2_height_173 rfl hm rfl ?_
        refine G_iload_4 (pc := 176) dX2_height_176 ?_
        refine G_mi (pc := 178) (n := 120) dX2_height_178 hm rfl rfl rfl (by omega) (fun b178 => ?_)
        simp only [Int.toNat_natCast, ecx, edx]
        refine G_isub (pc := 179) dX2_height_179 ?_
        refine G_i2l (pc := 180) dX2_height_180 (by omega) ?_
        refine G_lmul (pc := 181) dX2_height_181 ?_
        refine G_aload_0 (pc := 182) dX2_height_182 ?_
        refine G_mref (pc := 183) dX2_height_183 rfl hm rfl ?_
        refine G_iload_5 (pc := 186) dX2_height_186 ?_
        refine G_mi (pc := 188) (n := 120) dX2_height_188 hm rfl rfl rfl (by omega) (fun b188 => ?_)
        refine G_aload_0 (pc := 189) dX2_height_189 ?_
        refine G_mref (pc := 190) dX2_height_190 rfl hm rfl ?_
        refine G_iload_4 (pc := 193) dX2_height_193 ?_
        refine G_mi (pc := 195) (n := 120) dX2_height_195 hm rfl rfl rfl (by omega) (fun b195 => ?_)
        simp only [Int.toNat_natCast, ecy, edy]
        refine G_isub (pc := 196) dX2_height_196 ?_
        refine G_i2l (pc := 197) dX2_height_197 (by omega) ?_
        refine G_iload_2 (pc := 198) dX2_height_198 ?_
        refine G_aload_0 (pc := 199) dX2_height_199 ?_
        refine G_mref (pc := 200) dX2_height_200 rfl hm rfl ?_
        refine G_iload_4 (pc := 203) dX2_height_203 ?_
        refine G_mi (pc := 205) (n := 120) dX2_height_205 hm rfl rfl rfl (by omega) (fun b205 => ?_)
        simp only [Int.toNat_natCast, edx]
        refine G_isub (pc := 206) dX2_height_206 ?_
        refine G_i2l (pc := 207) dX2_height_207 (by omega) ?_
        refine G_lmul (pc := 208) dX2_height_208 ?_
        refine G_ladd (pc := 209) dX2_height_209 ?_
        refine G_lreturn (pc := 210) dX2_height_210 rfl (by omega) (by omega) ?_
        refine fin _ ?_
        unfold hgtF
        rw [if_neg (by omega), if_neg (by omega)]
      · exact absurd c55 (by omega)
    · exact absurd c18 (by omega)
end MOD13
