set_option maxRecDepth 100000
/-- the plan that the reference holds -/
def mP (S : mS) : zP := (fun s => decide (S.2 1 s = 1), S.2 2, S.2 3)
theorem mP_L {S : mS} {k : Nat} : zL (mP S) k = true ↔ k < 120 ∧ S.2 1 (k / 2) = 1 := by simp [zL, mP]
def aSound (ax ay bx yb : Int) : Prop := (-16000 ≤ ax ∧ ax ≤ 16000) ∧ (-16000 ≤ ay ∧ ay ≤ 16000) ∧ (-16000 ≤ bx ∧ bx ≤ 16000) ∧ (-16000 ≤ yb ∧ yb ≤ 16000) ∧ ¬ (ax = bx ∧ ay = yb)
def aFree (T : Nat → Int) (f : Int) : Prop := (f = -1 ∧ ∀ t, t < 60 → T t ≠ 0) ∨ (0 ≤ f ∧ f < 60 ∧ T f.toNat = 0 ∧ ∀ t, t < f.toNat → T t ≠ 0)
def aFr (T : Nat → Int) (s f : Int) : Prop := (f = -1 ∧ ∀ t : Nat, t < 60 → s < (t : Int) → T t ≠ 0) ∨ (s < f ∧ f < 60 ∧ T f.toNat = 0 ∧ ∀ t : Nat, t < f.toNat → s < (t : Int) → T t ≠ 0)
theorem aFr_hit {T : Nat → Int} {s : Int} (h0 : 0 ≤ s ∧ s < 60) (c : T s.toNat = 0) : aFr T (s + -1) s := Or.inr ⟨by omega, by omega, c, fun t ht hs => absurd ht (by omega)⟩
theorem aFr_skip {T : Nat → Int} {s f : Int} (h0 : 0 ≤ s) (c : T s.toNat ≠ 0) (h : aFr T s f) : aFr T (s + -1) f := by
  have key : ∀ t : Nat, s + -1 < (t : Int) → ¬ s < (t : Int) → T t ≠ 0 := by
    intro t h1 h2
    have : t = s.toNat := by omega
    rw [this]; exact c
  rcases h with ⟨a, b⟩ | ⟨a, b, c, e⟩
  · exact Or.inl ⟨a, fun t ht hs => by by_cases q : s < (t : Int); exact b t ht q; exact key t hs q⟩
  · exact Or.inr ⟨by omega, b, c, fun t ht hs => by by_cases q : s < (t : Int); exact e t ht q; exact key t hs q⟩
theorem aFr_end {T : Nat → Int} {f : Int} (h : aFr T (-1) f) : aFree T f := by
  rcases h with ⟨a, b⟩ | ⟨a, b, c, e⟩
  · exact Or.inl ⟨a, fun t ht => b t ht (by omega)⟩
  · exact Or.inr ⟨by omega, b, c, fun t ht => e t ht (by omega)⟩
def aHit (S : mS) (ax ay bx yb : Int) (s : Nat) : Prop := S.2 1 s = 1 ∧ mMeets ax ay bx yb (S.2 2 (2 * s)) (S.2 3 (2 * s)) (S.2 2 (2 * s + 1)) (S.2 3 (2 * s + 1))
def mAdd (S : mS) (f ax ay bx yb : Int) : mS := mUs (mU (mU (mU (mU (mU (mUs S 0 0) 1 f.toNat 1) 2 (2 * f).toNat ax) 3 (2 * f).toNat ay) 2 (2 * f + 1).toNat bx) 3 (2 * f + 1).toNat yb) 4 0
/-- what the reference's add does -/
def aPost (S : mS) (ax ay bx yb : Int) (v : Value) (S' : mS) : Prop :=
  (¬ aSound ax ay bx yb ∧ S' = mUs S 0 1 ∧ v = vI 0) ∨
  (aSound ax ay bx yb ∧ aFree (S.2 1) (-1) ∧ S' = mUs S 0 2 ∧ v = vI 0) ∨
  (aSound ax ay bx yb ∧ (∃ f, 0 ≤ f ∧ aFree (S.2 1) f) ∧ (∃ s, s < 60 ∧ aHit S ax ay bx yb s) ∧ S' = mUs S 0 0 ∧ v = vI (-1)) ∨
  (aSound ax ay bx yb ∧ ∃ f, 0 ≤ f ∧ aFree (S.2 1) f ∧ (∀ s, s < 60 → ¬ aHit S ax ay bx yb s) ∧ S' = mAdd S f ax ay bx yb ∧ v = vI f)
section MOD2
variable {E : gV} {l : Launch} {S : mS}
theorem mo_X2_add (K : zOK (mP S)) {ax ay bx yb : Int} (g1 : -2147483648 ≤ ax ∧ ax ≤ 2147483647) (g2 : -2147483648 ≤ ay ∧ ay ≤ 2147483647) (g3 : -2147483648 ≤ bx ∧ bx ≤ 2147483647) (g4 : -2147483648 ≤ yb ∧ yb ≤ 2147483647) :
    mOk E l gX2_add 5 [.ref (gBase E + 12), vI ax, vI ay, vI bx, vI yb] S (fun v S' => ∃ w, v = some w ∧ aPost S ax ay bx yb w S') := by
  intro h hm d hd
  have hk := gKeepM_rf E h
  refine gOk_of gmok_X2_add rfl (Nat.le_of_ble_eq_true rfl) (L := [some _, some _, some _, some _, some _, none, none, none]) rfl ?_
  obtain ⟨Q, hQ⟩ : ∃ Q, Q = gRet (fun v h' => ∃ S', zMo E h' S' ∧ gKeepM E h h' ∧ ∃ w, v = some w ∧ aPost S ax ay bx yb w S') := ⟨_, rfl⟩
  rw [← hQ]
  have fin : ∀ (h' : gH) (S' : mS) (x : Int), zMo E h' S' → gKeepM E h h' → aPost S ax ay bx yb (vI x) S' → Q (.returned (some (vI x))) h' := by
    intro h' S' x a b c
    subst hQ
    exact ⟨_, rfl, S', a, b, _, rfl, c⟩
  -- behind the refusals: the segments that are there
  have k154 : ∀ (h1 : gH) (f : Int), zMo E h1 (mUs S 0 0) → gKeepM E h h1 → 0 ≤ f → f < 60 → aFree (S.2 1) f → aSound ax ay bx yb → (∀ s, s < 60 → ¬ aHit S ax ay bx yb s) →
      G E l gX2_add d 0 0 Q 154 [some (.ref (gBase E + 12)), some (vI ax), some (vI ay), some (vI bx), some (vI yb), some (vI (bI (aSound ax ay bx yb))), some (vI f), some (vI 60)] [] h1 0 0 := by
    intro h1 f hm hk f0 f1 hf hs no
    refine G_aload_0 (pc := 154) dX2_add_154 ?_
    refine G_mref (pc := 155) dX2_add_155 rfl hm rfl ?_
    refine G_iload_6 (pc := 158) dX2_add_158 ?_
    refine G_iconst (pc := 160) dX2_add_160 ?_
    refine G_mbs (pc := 161) dX2_add_161 hm hk (by omega) (by omega) (fun h hm hk => ?_)
    refine G_aload_0 (pc := 162) dX2_add_162 ?_
    refine G_mref (pc := 163) dX2_add_163 rfl hm rfl ?_
    refine G_iconst (pc := 166) dX2_add_166 ?_
    refine G_iload_6 (pc := 167) dX2_add_167 ?_
    refine G_imul (pc := 169) dX2_add_169 ?_
    refine G_iload_1 (pc := 170) dX2_add_170 ?_
    refine G_mis (pc := 171) (n := 120) dX2_add_171 hm hk rfl rfl rfl (by omega) (by omega) (fun h hm hk => ?_)
    refine G_aload_0 (pc := 172) dX2_add_172 ?_
    refine G_mref (pc := 173) dX2_add_173 rfl hm rfl ?_
    refine G_iconst (pc := 176) dX2_add_176 ?_
    refine G_iload_6 (pc := 177) dX2_add_177 ?_
    refine G_imul (pc := 179) dX2_add_179 ?_
    refine G_iload_2 (pc := 180) dX2_add_180 ?_
    refine G_mis (pc := 181) (n := 120) dX2_add_181 hm hk rfl rfl rfl (by omega) (by omega) (fun h hm hk => ?_)
    refine G_aload_0 (pc := 182) dX2_add_182 ?_
    refine G_mref (pc := 183) dX2_add_183 rfl hm rfl ?_
    refine G_iconst (pc := 186) dX2_add_186 ?_
    refine G_iload_6 (pc := 187) dX2_add_187 ?_
    refine G_imul (pc := 189) dX2_add_189 ?_
    refine G_iconst (pc := 190) dX2_add_190 ?_
    refine G_iadd (pc := 191) dX2_add_191 ?_
    refine G_iload_3 (pc := 192) dX2_add_192 ?_
    refine G_mis (pc := 193) (n := 120) dX2_add_193 hm hk rfl rfl rfl (by omega) (by omega) (fun h hm hk => ?_)
    refine G_aload_0 (pc := 194) dX2_add_194 ?_
    refine G_mref (pc := 195) dX2_add_195 rfl hm rfl ?_
    refine G_iconst (pc := 198) dX2_add_198 ?_
    refine G_iload_6 (pc := 199) dX2_add_199 ?_
    refine G_imul (pc := 201) dX2_add_201 ?_
    refine G_iconst (pc := 202) dX2_add_202 ?_
    refine G_iadd (pc := 203) dX2_add_203 ?_
    refine G_iload_4 (pc := 204) dX2_add_204 ?_
    refine G_mis (pc := 206) (n := 120) dX2_add_206 hm hk rfl rfl rfl (by omega) (by omega) (fun h hm hk => ?_)
    refine G_aload_0 (pc := 207) dX2_add_207 ?_
    refine G_iconst (pc := 208) dX2_add_208 ?_
    refine G_mputB (pc := 209) dX2_add_209 rfl hm hk (by omega) (fun h hm hk => ?_)
    refine G_iload_6 (pc := 212) dX2_add_212 ?_
    refine G_ireturn (pc := 214) dX2_add_214 rfl rfl (by omega) (by omega) ?_
    exact fin _ _ _ hm hk (Or.inr (Or.inr (Or.inr ⟨hs, f, f0, hf, no, rfl, rfl⟩)))
  have k115 : ∀ (n : Nat) (h1 : gH) (f s : Int), s + n = 60 → 0 ≤ s → zMo E h1 (mUs S 0 0) → gKeepM E h h1 → 0 ≤ f → f < 60 → aFree (S.2 1) f → aSound ax ay bx yb → (∀ t, t < s.toNat → ¬ aHit S ax ay bx yb t) →
      G E l gX2_add d 0 0 Q 115 [some (.ref (gBase E + 12)), some (vI ax), some (vI ay), some (vI bx), some (vI yb), some (vI (bI (aSound ax ay bx yb))), some (vI f), some (vI s)] [] h1 0 0 := by
    intro n
    induction n with
    | zero =>
      intro h1 f s hn s0 hm hk f0 f1 hf hs no
      refine G_iload_7 (pc := 115) dX2_add_115 ?_
      refine G_bipush (pc := 117) dX2_add_117 (by omega) ?_
      refine G_icmp_ge (pc := 119) 154 dX2_add_119 (by decide) (by omega) (by omega) (fun c119 => ?_) (fun c119 => ?_)
      · skip
        have es : s = 60 := by omega
        subst es
        exact k154 h1 f hm hk f0 f1 hf hs no
      · skip
        exact absurd c119 (by omega)
    | succ n ih =>
      intro h1 f s hn s0 hm hk f0 f1 hf hs no
      have hb : ∀ k, k = 2 * s.toNat ∨ k = 2 * s.toNat + 1 → S.2 1 s.toNat = 1 → (-16000 ≤ S.2 2 k ∧ S.2 2 k ≤ 16000) ∧ (-16000 ≤ S.2 3 k ∧ S.2 3 k ≤ 16000) := by
        intro k hk hl
        exact K.1 k (mP_L.mpr ⟨by omega, by rw [show k / 2 = s.toNat by omega]; exact hl⟩)
      have esn : ((s.toNat : Nat) : Int) = s := by omega
      have hs' := hs
      unfold aSound at hs'
      refine G_iload_7 (pc := 115) dX2_add_115 ?_
      refine G_bipush (pc := 117) dX2_add_117 (by omega) ?_
      refine G_icmp_ge (pc := 119) 154 dX2_add_119 (by decide) (by omega) (by omega) (fun c119 => ?_) (fun c119 => ?_)
      · skip
        exact absurd c119 (by omega)
      · skip
        refine G_aload_0 (pc := 122) dX2_add_122 ?_
        refine G_mref (pc := 123) dX2_add_123 rfl hm rfl ?_
        refine G_iload_7 (pc := 126) dX2_add_126 ?_
        refine G_mb (pc := 128) dX2_add_128 hm (by omega) (fun b128 => ?_)
        refine G_if_eq (pc := 129) 148 dX2_add_129 (by decide) (by omega) (fun c129 => ?_) (fun c129 => ?_)
        · skip
          refine G_iinc_7 (pc := 148) dX2_add_148 (by decide) rfl ?_
          refine G_goto (pc := 151) 115 dX2_add_151 (by decide) ?_
          exact ih h1 f (s + 1) (by omega) (by omega) hm hk f0 f1 hf hs (fun t ht => by
            by_cases e : t = s.toNat
            · subst e; unfold aHit; simp only [mUs] at *; grind
            · exact no t (by omega))
        · skip
          refine G_aload_0 (pc := 132) dX2_add_132 ?_
          refine G_iload_7 (pc := 133) dX2_add_133 ?_
          refine G_iload_1 (pc := 135) dX2_add_135 ?_
          refine G_iload_2 (pc := 136) dX2_add_136 ?_
          refine G_iload_3 (pc := 137) dX2_add_137 ?_
          refine G_iload_4 (pc := 138) dX2_add_138 ?_
          rw [← esn]
          refine G_pV5 (pc := 140) dX2_add_140 rfl hm.1 (by decide) rfl (mp_X2_meets hm (s := s.toNat) (by omega) (by omega) (by omega) (by omega) (by omega) (fun k hk => hb k hk (by simp only [mUs] at b128 c129; omega))) (by omega) (by omega) (by omega) (Nat.le_of_ble_eq_true rfl) ?_
          rw [esn]
          refine G_ifb_eq (pc := 143) 148 dX2_add_143 (by decide) (fun c143 => ?_) (fun c143 => ?_)
          · skip
            refine G_iinc_7 (pc := 148) dX2_add_148 (by decide) rfl ?_
            refine G_goto (pc := 151) 115 dX2_add_151 (by decide) ?_
            exact ih h1 f (s + 1) (by omega) (by omega) hm hk f0 f1 hf hs (fun t ht => by
              by_cases e : t = s.toNat
              · subst e; unfold aHit; simp only [mUs] at *; grind
              · exact no t (by omega))
          · skip
            refine G_iconst (pc := 146) dX2_add_146 ?_
            refine G_ireturn (pc := 147) dX2_add_147 rfl rfl (by omega) (by omega) ?_
            exact fin _ _ _ hm hk (Or.inr (Or.inr (Or.inl ⟨hs, ⟨f, f0, hf⟩, ⟨s.toNat, by omega, by unfold aHit; simp only [mUs] at *; exact ⟨by omega, c143⟩⟩, rfl, rfl⟩)))
  have k84 : ∀ (f : Int), aFree (S.2 1) f → G E l gX2_add d 0 0 Q 84 [some (.ref (gBase E + 12)), some (vI ax), some (vI ay), some (vI bx), some (vI yb), some (vI (bI (aSound ax ay bx yb))), some (vI f), some (vI (-1))] [] h 0 0 := by
    intro f hf
    have hf' := hf
    unfold aFree at hf'
    have k104 : ∀ x : Int, (x = 1 ∧ ¬ aSound ax ay bx yb ∨ x = 2 ∧ aSound ax ay bx yb ∧ f = -1 ∨ x = 0 ∧ aSound ax ay bx yb ∧ 0 ≤ f) → G E l gX2_add d 0 0 Q 104 [some (.ref (gBase E + 12)), some (vI ax), some (vI ay), some (vI bx), some (vI yb), some (vI (bI (aSound ax ay bx yb))), some (vI f), some (vI (-1))] [vI x, .ref (gBase E + 12)] h 0 0 := by
      intro x hx
      refine G_m1v (S := S) dX2_add_104 rfl rfl rfl hm hk (mo_X2_refused (by omega)) (by omega) (by omega) (by omega) (Nat.le_of_ble_eq_true rfl) (fun w h1 S1 hm hk q => ?_)
      obtain ⟨rfl, rfl⟩ := q
      refine G_ifb_eq (pc := 107) 112 dX2_add_107 (by decide) (fun c107 => ?_) (fun c107 => ?_)
      · skip
        have ex : x = 0 := by omega
        subst ex
        refine G_iconst (pc := 112) dX2_add_112 ?_
        refine G_istore_7 (pc := 113) dX2_add_113 (by decide) rfl ?_
        exact k115 60 h1 f 0 rfl (by omega) hm hk (by omega) (by omega) hf (by grind) (fun t ht => absurd ht (by omega))
      · skip
        refine G_iconst (pc := 110) dX2_add_110 ?_
        refine G_ireturn (pc := 111) dX2_add_111 rfl rfl (by omega) (by omega) ?_
        rcases hx with ⟨rfl, hx⟩ | ⟨rfl, hx, rfl⟩ | ⟨rfl, hx⟩
        · exact fin _ _ _ hm hk (Or.inl ⟨hx, rfl, rfl⟩)
        · exact fin _ _ _ hm hk (Or.inr (Or.inl ⟨hx, hf, rfl, rfl⟩))
        · omega
    refine G_aload_0 (pc := 84) dX2_add_84 ?_
    refine G_iload_5 (pc := 85) dX2_add_85 ?_
    refine G_ifb_ne (pc := 87) 94 dX2_add_87 (by decide) (fun c87 => ?_) (fun c87 => ?_)
    · skip
      refine G_iload_6 (pc := 94) dX2_add_94 ?_
      refine G_if_ge (pc := 96) 103 dX2_add_96 (by decide) (by omega) (fun c96 => ?_) (fun c96 => ?_)
      · skip
        refine G_iconst (pc := 103) dX2_add_103 ?_
        exact k104 _ (by grind)
      · skip
        refine G_iconst (pc := 99) dX2_add_99 ?_
        refine G_goto (pc := 100) 104 dX2_add_100 (by decide) ?_
        exact k104 _ (by grind)
    · skip
      refine G_iconst (pc := 90) dX2_add_90 ?_
      refine G_goto (pc := 91) 104 dX2_add_91 (by decide) ?_
      exact k104 _ (by grind)
  have k54 : ∀ (n : Nat) (s f : Int), s + 1 = n → s < 60 → (-1 ≤ f ∧ f < 60) → aFr (S.2 1) s f →
      G E l gX2_add d 0 0 Q 54 [some (.ref (gBase E + 12)), some (vI ax), some (vI ay), some (vI bx), some (vI yb), some (vI (bI (aSound ax ay bx yb))), some (vI f), some (vI s)] [] h 0 0 := by
    intro n
    induction n with
    | zero =>
      intro s f hn hs hfb hf
      refine G_iload_7 (pc := 54) dX2_add_54 ?_
      refine G_if_lt (pc := 56) 84 dX2_add_56 (by decide) (by omega) (fun c56 => ?_) (fun c56 => ?_)
      · skip
        have es : s = -1 := by omega
        subst es
        exact k84 f (aFr_end hf)
      · skip
        exact absurd c56 (by omega)
    | succ n ih =>
      intro s f hn hs hfb hf
      refine G_iload_7 (pc := 54) dX2_add_54 ?_
      refine G_if_lt (pc := 56) 84 dX2_add_56 (by decide) (by omega) (fun c56 => ?_) (fun c56 => ?_)
      · skip
        exact absurd c56 (by omega)
      · skip
        refine G_aload_0 (pc := 59) dX2_add_59 ?_
        refine G_mref (pc := 60) dX2_add_60 rfl hm rfl ?_
        refine G_iload_7 (pc := 63) dX2_add_63 ?_
        refine G_mb (pc := 65) dX2_add_65 hm (by omega) (fun b65 => ?_)
        refine G_if_eq (pc := 66) 74 dX2_add_66 (by decide) (by omega) (fun c66 => ?_) (fun c66 => ?_)
        · skip
          refine G_iload_7 (pc := 74) dX2_add_74 ?_
          refine G_istore_6 (pc := 76) dX2_add_76 (by decide) rfl ?_
          refine G_iinc_7 (pc := 78) dX2_add_78 (by decide) rfl ?_
          refine G_goto (pc := 81) 54 dX2_add_81 (by decide) ?_
          exact ih (s + -1) _ (by omega) (by omega) (by omega) (by first | exact aFr_hit (by omega) c66 | exact aFr_skip (by omega) c66 hf)
        · skip
          refine G_iload_6 (pc := 69) dX2_add_69 ?_
          refine G_goto (pc := 71) 76 dX2_add_71 (by decide) ?_
          refine G_istore_6 (pc := 76) dX2_add_76 (by decide) rfl ?_
          refine G_iinc_7 (pc := 78) dX2_add_78 (by decide) rfl ?_
          refine G_goto (pc := 81) 54 dX2_add_81 (by decide) ?_
          exact ih (s + -1) _ (by omega) (by omega) (by omega) (by first | exact aFr_hit (by omega) c66 | exact aFr_skip (by omega) c66 hf)
  have k45 : ∀ b : Int, b = bI (aSound ax ay bx yb) → G E l gX2_add d 0 0 Q 45 [some (.ref (gBase E + 12)), some (vI ax), some (vI ay), some (vI bx), some (vI yb), none, none, none] [vI b] h 0 0 := by
    intro b hb
    subst hb
    refine G_istore_5 (pc := 45) dX2_add_45 (by decide) rfl ?_
    refine G_iconst (pc := 47) dX2_add_47 ?_
    refine G_istore_6 (pc := 48) dX2_add_48 (by decide) rfl ?_
    refine G_bipush (pc := 50) dX2_add_50 (by omega) ?_
    refine G_istore_7 (pc := 52) dX2_add_52 (by decide) rfl ?_
    exact k54 60 59 (-1) rfl (by omega) (by omega) (Or.inl ⟨rfl, fun t ht hs => absurd ht (by omega)⟩)
  refine G_iload_1 (pc := 0) dX2_add_0 ?_
  refine G_pS1 (pc := 1) dX2_add_1 rfl rfl (pu_X2_isIn _ (by omega)) (by omega) (by omega) (by omega) (Nat.le_of_ble_eq_true rfl) ?_
  refine G_ifb_eq (pc := 4) 44 dX2_add_4 (by decide) (fun c4 => ?_) (fun c4 => ?_)
  · skip
    refine G_iconst (pc := 44) dX2_add_44 ?_
    exact k45 _ (by unfold aSound; first | exact (bI_pos (by omega)).symm | exact (bI_neg (by omega)).symm)
  · skip
    refine G_iload_2 (pc := 7) dX2_add_7 ?_
    refine G_pS1 (pc := 8) dX2_add_8 rfl rfl (pu_X2_isIn _ (by omega)) (by omega) (by omega) (by omega) (Nat.le_of_ble_eq_true rfl) ?_
    refine G_ifb_eq (pc := 11) 44 dX2_add_11 (by decide) (fun c11 => ?_) (fun c11 => ?_)
    · skip
      refine G_iconst (pc := 44) dX2_add_44 ?_
      exact k45 _ (by unfold aSound; first | exact (bI_pos (by omega)).symm | exact (bI_neg (by omega)).symm)
    · skip
      refine G_iload_3 (pc := 14) dX2_add_14 ?_
      refine G_pS1 (pc := 15) dX2_add_15 rfl rfl (pu_X2_isIn _ (by omega)) (by omega) (by omega) (by omega) (Nat.le_of_ble_eq_true rfl) ?_
      refine G_ifb_eq (pc := 18) 44 dX2_add_18 (by decide) (fun c18 => ?_) (fun c18 => ?_)
      · skip
        refine G_iconst (pc := 44) dX2_add_44 ?_
        exact k45 _ (by unfold aSound; first | exact (bI_pos (by omega)).symm | exact (bI_neg (by omega)).symm)
      · skip
        refine G_iload_4 (pc := 21) dX2_add_21 ?_
        refine G_pS1 (pc := 23) dX2_add_23 rfl rfl (pu_X2_isIn _ (by omega)) (by omega) (by omega) (by omega) (Nat.le_of_ble_eq_true rfl) ?_
        refine G_ifb_eq (pc := 26) 44 dX2_add_26 (by decide) (fun c26 => ?_) (fun c26 => ?_)
        · skip
          refine G_iconst (pc := 44) dX2_add_44 ?_
          exact k45 _ (by unfold aSound; first | exact (bI_pos (by omega)).symm | exact (bI_neg (by omega)).symm)
        · skip
          refine G_iload_1 (pc := 29) dX2_add_29 ?_
          refine G_iload_3 (pc := 30) dX2_add_30 ?_
          refine G_icmp_ne (pc := 31) 40 dX2_add_31 (by decide) (by omega) (by omega) (fun c31 => ?_) (fun c31 => ?_)
          · skip
            refine G_iconst (pc := 40) dX2_add_40 ?_
            refine G_goto (pc := 41) 45 dX2_add_41 (by decide) ?_
            exact k45 _ (by unfold aSound; first | exact (bI_pos (by omega)).symm | exact (bI_neg (by omega)).symm)
          · skip
            refine G_iload_2 (pc := 34) dX2_add_34 ?_
            refine G_iload_4 (pc := 35) dX2_add_35 ?_
            refine G_icmp_eq (pc := 37) 44 dX2_add_37 (by decide) (by omega) (by omega) (fun c37 => ?_) (fun c37 => ?_)
            · skip
              refine G_iconst (pc := 44) dX2_add_44 ?_
              exact k45 _ (by unfold aSound; first | exact (bI_pos (by omega)).symm | exact (bI_neg (by omega)).symm)
            · skip
              refine G_iconst (pc := 40) dX2_add_40 ?_
              refine G_goto (pc := 41) 45 dX2_add_41 (by decide) ?_
              exact k45 _ (by unfold aSound; first | exact (bI_pos (by omega)).symm | exact (bI_neg (by omega)).symm)
end MOD2
