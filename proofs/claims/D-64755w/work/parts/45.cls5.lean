set_option maxRecDepth 100000
/-- the ends written -/
def kSeg (S : mS) (f : Nat) (x y tx ty : Int) : mS := mU (mU (mU (mU S 2 f x) 3 f y) 4 f tx) 5 f ty
theorem kSeg_1 (S : mS) (f : Nat) (x y tx ty : Int) (g i : Nat) (h : g = 1 ∨ i ≠ f) : (kSeg S f x y tx ty).2 g i = S.2 g i := by
  unfold kSeg mU
  simp only []
  rcases h with h | h
  · subst h; simp
  · simp [h]
theorem kSeg_f (S : mS) (f : Nat) (x y tx ty : Int) : (kSeg S f x y tx ty).2 2 f = x ∧ (kSeg S f x y tx ty).2 3 f = y ∧ (kSeg S f x y tx ty).2 4 f = tx ∧ (kSeg S f x y tx ty).2 5 f = ty := by
  unfold kSeg mU
  simp
section CLS5
variable {E : gV} {l : Launch} {T : tT} {S : mS}
theorem ko_X1_add (b : ∀ s, s < 60 → S.2 1 s = 1 → kIn S s) (hg : 0 ≤ S.1 0 ∧ S.1 0 < 60) {f : Nat} (hf : f < 60) (hf0 : S.2 1 f = 0) (hf1 : ∀ j, j < f → S.2 1 j = 1) {x y tx ty : Int} (hx : -16000 ≤ x ∧ x ≤ 16000) (hy : -16000 ≤ y ∧ y ≤ 16000) (htx : -16000 ≤ tx ∧ tx ≤ 16000) (hty : -16000 ≤ ty ∧ ty ≤ 16000) (hne : x ≠ tx ∨ y ≠ ty) :
    kOk E l gX1_add 5 0 0 [.ref (gBase E), vI x, vI y, vI tx, vI ty] T S (fun v S' => ((∃ u, u < 60 ∧ S.2 1 u = 1 ∧ kMeet (kSeg S f x y tx ty) f u) ∧ v = some (vI (-1)) ∧ S' = kSeg S f x y tx ty) ∨ ((∀ u, u < 60 → S.2 1 u = 1 → ¬ kMeet (kSeg S f x y tx ty) f u) ∧ v = some (vI f) ∧ S' = mUs (mUs (mU (kSeg S f x y tx ty) 1 f 1) 0 (S.1 0 + 1)) 6 0)) := by
  intro h ht hz d hd
  have hk := kKp_rf E T
  refine gOk_of gmok_X1_add rfl (Nat.le_of_ble_eq_true rfl) (L := [some _, some _, some _, some _, some _, none, none]) rfl ?_
  obtain ⟨Q, hQ⟩ : ∃ Q, Q = gRet (fun v h' => ∃ T' S', zT E h' T' ∧ zK E T' S' ∧ kKp E T T' ∧ (((∃ u, u < 60 ∧ S.2 1 u = 1 ∧ kMeet (kSeg S f x y tx ty) f u) ∧ v = some (vI (-1)) ∧ S' = kSeg S f x y tx ty) ∨ ((∀ u, u < 60 → S.2 1 u = 1 → ¬ kMeet (kSeg S f x y tx ty) f u) ∧ v = some (vI f) ∧ S' = mUs (mUs (mU (kSeg S f x y tx ty) 1 f 1) 0 (S.1 0 + 1)) 6 0))) := ⟨_, rfl⟩
  rw [← hQ]
  have efn : (f : Int).toNat = f := by omega
  have hin : kIn (kSeg S f x y tx ty) f := by
    obtain ⟨e1, e2, e3, e4⟩ := kSeg_f S f x y tx ty
    unfold kIn
    rw [e1, e2, e3, e4]
    exact ⟨⟨hx, hy⟩, htx, hty⟩
  have hin2 : ∀ u, u < 60 → S.2 1 u = 1 → kIn (kSeg S f x y tx ty) u := by
    intro u hu hl
    have hne : u ≠ f := by intro e; subst e; omega
    have := b u hu hl
    unfold kIn at this ⊢
    rw [kSeg_1 _ _ _ _ _ _ 2 u (Or.inr hne), kSeg_1 _ _ _ _ _ _ 3 u (Or.inr hne), kSeg_1 _ _ _ _ _ _ 4 u (Or.inr hne), kSeg_1 _ _ _ _ _ _ 5 u (Or.inr hne)]
    exact this
  have k120 : ∀ (n k : Nat), k + n = 60 → (∀ u, u < k → S.2 1 u = 1 → ¬ kMeet (kSeg S f x y tx ty) f u) → ∀ (h1 : gH) (T1 : tT), zT E h1 T1 → zK E T1 (kSeg S f x y tx ty) → kKp E T T1 → G E l gX1_add d 0 0 Q 120 [some (.ref (gBase E)), some (vI x), some (vI y), some (vI tx), some (vI ty), some (vI f), some (vI k)] [] h1 0 0 := by
    intro n
    induction n with
    | zero =>
      intro k hn no h1 T1 ht hz hk
      have ek : k = 60 := by omega
      subst ek
      refine G_iload_6 (pc := 120) dX1_add_120 ?_
      refine G_bipush (pc := 122) dX1_add_122 (by omega) ?_
      refine G_icmp_ge (pc := 124) 156 dX1_add_124 (by decide) (by omega) (by omega) (fun c124 => ?_) (fun c124 => ?_)
      · skip
        refine G_aload_0 (pc := 156) dX1_add_156 ?_
        refine G_kref (pc := 157) dX1_add_157 rfl ht hz rfl ?_
        refine G_iload_5 (pc := 160) dX1_add_160 ?_
        refine G_iconst (pc := 162) dX1_add_162 ?_
        refine G_kbs (pc := 163) dX1_add_163 ht hz (by omega) (by omega) (fun h ht hz => ?_)
        refine G_aload_0 (pc := 164) dX1_add_164 ?_
        refine G_dup (pc := 165) dX1_add_165 rfl ?_
        refine G_kget (pc := 166) dX1_add_166 rfl ht hz rfl rfl rfl (fun b166 => ?_)
        refine G_iconst (pc := 169) dX1_add_169 ?_
        refine G_iadd (pc := 170) dX1_add_170 ?_
        refine G_kput (pc := 171) dX1_add_171 rfl ht hz (by decide) (by show _ ≤ S.1 0 + 1 ∧ S.1 0 + 1 ≤ _; omega) (fun h ht hz => ?_)
        refine G_aload_0 (pc := 174) dX1_add_174 ?_
        refine G_iconst (pc := 175) dX1_add_175 ?_
        refine G_kputB (pc := 176) dX1_add_176 rfl ht hz (by omega) (fun h ht hz => ?_)
        refine G_iload_5 (pc := 179) dX1_add_179 ?_
        refine G_ireturn (pc := 181) dX1_add_181 rfl rfl (by omega) (by omega) ?_
        subst hQ
        refine ⟨_, rfl, _, _, ht, hz, kKp_set (kKp_set (kKp_set hk (by omega) (by show gBase E + 1 < _; omega)) (by omega) (by omega)) (by omega) (by omega), Or.inr ⟨no, rfl, ?_⟩⟩
        rw [efn]
        rfl
      · exact absurd c124 (by omega)
    | succ n ih =>
      intro k hn no h1 T1 ht hz hk
      have ekn : (k : Int).toNat = k := by omega
      have go : (S.2 1 k = 1 → ¬ kMeet (kSeg S f x y tx ty) f k) → G E l gX1_add d 0 0 Q 150 [some (.ref (gBase E)), some (vI x), some (vI y), some (vI tx), some (vI ty), some (vI f), some (vI k)] [] h1 0 0 := by
        intro c
        refine G_iinc_6 (pc := 150) dX1_add_150 (by decide) rfl ?_
        refine G_goto (pc := 153) 120 dX1_add_153 (by decide) ?_
        rw [show ((k : Int) + 1) = ((k + 1 : Nat) : Int) by omega]
        refine ih (k + 1) (by omega) (fun u hu hl => ?_) h1 T1 ht hz hk
        by_cases e : u = k
        · subst e; exact c hl
        · exact no u (by omega) hl
      refine G_iload_6 (pc := 120) dX1_add_120 ?_
      refine G_bipush (pc := 122) dX1_add_122 (by omega) ?_
      refine G_icmp_ge (pc := 124) 156 dX1_add_124 (by decide) (by omega) (by omega) (fun c124 => ?_) (fun c124 => ?_)
      · exact absurd c124 (by omega)
      · skip
        refine G_aload_0 (pc := 127) dX1_add_127 ?_
        refine G_kref (pc := 128) dX1_add_128 rfl ht hz rfl ?_
        refine G_iload_6 (pc := 131) dX1_add_131 ?_
        refine G_kb (pc := 133) dX1_add_133 ht hz (by omega) (fun b133 => ?_)
        rw [ekn, kSeg_1 _ _ _ _ _ _ 1 k (Or.inl rfl)] at b133 ⊢
        refine G_if_eq (pc := 134) 150 dX1_add_134 (by decide) (by omega) (fun c134 => ?_) (fun c134 => ?_)
        · skip
          exact go (fun q => by first | (exfalso; omega) | exact c145)
        · skip
          have hl : S.2 1 k = 1 := by omega
          refine G_aload_0 (pc := 137) dX1_add_137 ?_
          refine G_iload_5 (pc := 138) dX1_add_138 ?_
          refine G_iload_6 (pc := 140) dX1_add_140 ?_
          refine G_pV2 (pc := 142) dX1_add_142 rfl (zK_k ht hz) (by decide) rfl (pu_X1_meet ht hz hf (by omega) hin (hin2 k (by omega) hl)) (by omega) (by omega) (by omega) (Nat.le_of_ble_eq_true rfl) ?_
          refine G_ifb_eq (pc := 145) 150 dX1_add_145 (by decide) (fun c145 => ?_) (fun c145 => ?_)
          · skip
            exact go (fun q => by first | (exfalso; omega) | exact c145)
          · skip
            refine G_iconst (pc := 148) dX1_add_148 ?_
            refine G_ireturn (pc := 149) dX1_add_149 rfl rfl (by omega) (by omega) ?_
            subst hQ
            exact ⟨_, rfl, T1, _, ht, hz, hk, Or.inl ⟨⟨k, by omega, hl, c145⟩, rfl, rfl⟩⟩
  have k68 : ∀ (n k : Nat), k + n = f → G E l gX1_add d 0 0 Q 68 [some (.ref (gBase E)), some (vI x), some (vI y), some (vI tx), some (vI ty), some (vI k), none] [] h 0 0 := by
    intro n
    induction n with
    | zero =>
      intro k hn
      have ek : k = f := by omega
      subst ek
      refine G_aload_0 (pc := 68) dX1_add_68 ?_
      refine G_kref (pc := 69) dX1_add_69 rfl ht hz rfl ?_
      refine G_iload_5 (pc := 72) dX1_add_72 ?_
      refine G_kb (pc := 74) dX1_add_74 ht hz (by omega) (fun b74 => ?_)
      rw [efn] at b74 ⊢
      refine G_if_eq (pc := 75) 84 dX1_add_75 (by decide) (by omega) (fun c75 => ?_) (fun c75 => ?_)
      · skip
        refine G_aload_0 (pc := 84) dX1_add_84 ?_
        refine G_kref (pc := 85) dX1_add_85 rfl ht hz rfl ?_
        refine G_iload_5 (pc := 88) dX1_add_88 ?_
        refine G_iload_1 (pc := 90) dX1_add_90 ?_
        refine G_kis (pc := 91) dX1_add_91 ht hz rfl rfl (by omega) (by omega) (fun h ht hz => ?_)
        refine G_aload_0 (pc := 92) dX1_add_92 ?_
        refine G_kref (pc := 93) dX1_add_93 rfl ht hz rfl ?_
        refine G_iload_5 (pc := 96) dX1_add_96 ?_
        refine G_iload_2 (pc := 98) dX1_add_98 ?_
        refine G_kis (pc := 99) dX1_add_99 ht hz rfl rfl (by omega) (by omega) (fun h ht hz => ?_)
        refine G_aload_0 (pc := 100) dX1_add_100 ?_
        refine G_kref (pc := 101) dX1_add_101 rfl ht hz rfl ?_
        refine G_iload_5 (pc := 104) dX1_add_104 ?_
        refine G_iload_3 (pc := 106) dX1_add_106 ?_
        refine G_kis (pc := 107) dX1_add_107 ht hz rfl rfl (by omega) (by omega) (fun h ht hz => ?_)
        refine G_aload_0 (pc := 108) dX1_add_108 ?_
        refine G_kref (pc := 109) dX1_add_109 rfl ht hz rfl ?_
        refine G_iload_5 (pc := 112) dX1_add_112 ?_
        refine G_iload_4 (pc := 114) dX1_add_114 ?_
        refine G_kis (pc := 116) dX1_add_116 ht hz rfl rfl (by omega) (by omega) (fun h ht hz => ?_)
        refine G_iconst (pc := 117) dX1_add_117 ?_
        refine G_istore_6 (pc := 118) dX1_add_118 (by decide) rfl ?_
        simp only [efn] at ht hz
        exact k120 60 0 rfl (fun u hu => absurd hu (by omega)) _ _ ht hz (kKp_set (kKp_set (kKp_set (kKp_set hk (by omega) (by show gBase E + 2 < _; omega)) (by omega) (by show gBase E + 3 < _; omega)) (by omega) (by show gBase E + 4 < _; omega)) (by omega) (by show gBase E + 5 < _; omega))
      · exact absurd c75 (by omega)
    | succ n ih =>
      intro k hn
      have ekn : (k : Int).toNat = k := by omega
      have := hf1 k (by omega)
      refine G_aload_0 (pc := 68) dX1_add_68 ?_
      refine G_kref (pc := 69) dX1_add_69 rfl ht hz rfl ?_
      refine G_iload_5 (pc := 72) dX1_add_72 ?_
      refine G_kb (pc := 74) dX1_add_74 ht hz (by omega) (fun b74 => ?_)
      rw [ekn] at b74 ⊢
      refine G_if_eq (pc := 75) 84 dX1_add_75 (by decide) (by omega) (fun c75 => ?_) (fun c75 => ?_)
      · exact absurd c75 (by omega)
      · skip
        refine G_iinc_5 (pc := 78) dX1_add_78 (by decide) rfl ?_
        refine G_goto (pc := 81) 68 dX1_add_81 (by decide) ?_
        rw [show ((k : Int) + 1) = ((k + 1 : Nat) : Int) by omega]
        exact ih (k + 1) (by omega)
  refine G_iload_1 (pc := 0) dX1_add_0 ?_
  refine G_pS1 (pc := 1) dX1_add_1 rfl rfl (pu_X1_isIn _ (by omega)) (by omega) (by omega) (by omega) (Nat.le_of_ble_eq_true rfl) ?_
  refine G_ifb_eq (pc := 4) 44 dX1_add_4 (by decide) (fun c4 => ?_) (fun c4 => ?_)
  · exact absurd c4 (fun q => q hx)
  · skip
    refine G_iload_2 (pc := 7) dX1_add_7 ?_
    refine G_pS1 (pc := 8) dX1_add_8 rfl rfl (pu_X1_isIn _ (by omega)) (by omega) (by omega) (by omega) (Nat.le_of_ble_eq_true rfl) ?_
    refine G_ifb_eq (pc := 11) 44 dX1_add_11 (by decide) (fun c11 => ?_) (fun c11 => ?_)
    · exact absurd c11 (fun q => q hy)
    · skip
      refine G_iload_3 (pc := 14) dX1_add_14 ?_
      refine G_pS1 (pc := 15) dX1_add_15 rfl rfl (pu_X1_isIn _ (by omega)) (by omega) (by omega) (by omega) (Nat.le_of_ble_eq_true rfl) ?_
      refine G_ifb_eq (pc := 18) 44 dX1_add_18 (by decide) (fun c18 => ?_) (fun c18 => ?_)
      · exact absurd c18 (fun q => q htx)
      · skip
        refine G_iload_4 (pc := 21) dX1_add_21 ?_
        refine G_pS1 (pc := 23) dX1_add_23 rfl rfl (pu_X1_isIn _ (by omega)) (by omega) (by omega) (by omega) (Nat.le_of_ble_eq_true rfl) ?_
        refine G_ifb_eq (pc := 26) 44 dX1_add_26 (by decide) (fun c26 => ?_) (fun c26 => ?_)
        · exact absurd c26 (fun q => q hty)
        · skip
          refine G_iload_1 (pc := 29) dX1_add_29 ?_
          refine G_iload_3 (pc := 30) dX1_add_30 ?_
          refine G_icmp_ne (pc := 31) 40 dX1_add_31 (by decide) (by omega) (by omega) (fun c31 => ?_) (fun c31 => ?_)
          · skip
            refine G_iconst (pc := 40) dX1_add_40 ?_
            refine G_goto (pc := 41) 45 dX1_add_41 (by decide) ?_
            refine G_callS1u (d' := 1) dX1_add_45 rfl rfl (ok_X1_argue (Nat.le_refl _)) (by omega) (by omega) (by omega) (Nat.le_of_ble_eq_true rfl) (fun h' q => ?_)
            subst q
            refine G_aload_0 (pc := 48) dX1_add_48 ?_
            refine G_kget (pc := 49) dX1_add_49 rfl ht hz rfl rfl rfl (fun b49 => ?_)
            refine G_bipush (pc := 52) dX1_add_52 (by omega) ?_
            refine G_icmp_ne (pc := 54) 65 dX1_add_54 (by decide) (by omega) (by omega) (fun c54 => ?_) (fun c54 => ?_)
            · skip
              refine G_iconst (pc := 65) dX1_add_65 ?_
              refine G_istore_5 (pc := 66) dX1_add_66 (by decide) rfl ?_
              exact k68 f 0 (by omega)
            · exact absurd c54 (by omega)
          · skip
            refine G_iload_2 (pc := 34) dX1_add_34 ?_
            refine G_iload_4 (pc := 35) dX1_add_35 ?_
            refine G_icmp_eq (pc := 37) 44 dX1_add_37 (by decide) (by omega) (by omega) (fun c37 => ?_) (fun c37 => ?_)
            · exact absurd c37 (by omega)
            · skip
              refine G_iconst (pc := 40) dX1_add_40 ?_
              refine G_goto (pc := 41) 45 dX1_add_41 (by decide) ?_
              refine G_callS1u (d' := 1) dX1_add_45 rfl rfl (ok_X1_argue (Nat.le_refl _)) (by omega) (by omega) (by omega) (Nat.le_of_ble_eq_true rfl) (fun h' q => ?_)
              subst q
              refine G_aload_0 (pc := 48) dX1_add_48 ?_
              refine G_kget (pc := 49) dX1_add_49 rfl ht hz rfl rfl rfl (fun b49 => ?_)
              refine G_bipush (pc := 52) dX1_add_52 (by omega) ?_
              refine G_icmp_ne (pc := 54) 65 dX1_add_54 (by decide) (by omega) (by omega) (fun c54 => ?_) (fun c54 => ?_)
              · skip
                refine G_iconst (pc := 65) dX1_add_65 ?_
                refine G_istore_5 (pc := 66) dX1_add_66 (by decide) rfl ?_
                exact k68 f 0 (by omega)
              · exact absurd c54 (by omega)
end CLS5
