set_option maxRecDepth 100000
theorem nmR_f (S : mS) {R : Nat} (F0 : Nat → Int) {n : Nat} (h : n ≤ R) : (∀ v, (nmR S R F0 n).2.1 v < (nmR S R F0 n).1) ∧ ∀ r, r < n → 0 ≤ (nmR S R F0 n).2.2 r ∧ (nmR S R F0 n).2.2 r < (nmR S R F0 n).1 := by
  induction n with
  | zero => exact ⟨fun v => by simp [nmR], fun r hr => absurd hr (by omega)⟩
  | succ n ih =>
    obtain ⟨i1, i2⟩ := ih (by omega)
    have hb := nmR_b S F0 (show n ≤ R by omega)
    simp only [nmR]
    by_cases c1 : ofR S R n < 0
    · rw [zI_pos c1]
      refine ⟨i1, fun r hr => ?_⟩
      simp only [updI]
      split
      · omega
      · exact i2 r (by omega)
    · rw [zI_neg c1]
      by_cases c2 : (nmR S R F0 n).2.1 (ofR S R n).toNat < 0
      · rw [zI_pos c2]
        refine ⟨fun v => ?_, fun r hr => ?_⟩
        · simp only [updI]
          have := i1 v
          split <;> omega
        · simp only [updI]
          split
          · omega
          · have := i2 r (by omega); omega
      · rw [zI_neg c2]
        refine ⟨i1, fun r hr => ?_⟩
        simp only [updI]
        split
        · have := i1 (ofR S R n).toNat; omega
        · exact i2 r (by omega)
theorem mCur_f {S : mS} (c : mCur S) : ∀ r : Nat, (r : Int) < S.1 8 → 0 ≤ S.2 13 r ∧ S.2 13 r < S.1 12 := by
  obtain ⟨nx, F0, c1, c2, c3, c4, c5, c6, c7, c8⟩ := c
  intro r hr
  rw [c7, c8 r (by omega)]
  exact (nmR_f S F0 (Nat.le_refl _)).2 r (by omega)
/-- the face left of half h -/
def lf (S : mS) (h : Nat) : Nat := (S.2 13 (S.2 9 h).toNat).toNat
/-- to be come to in n steps -/
def rch (S : mS) (a : Nat) : Nat → Nat → Prop
  | 0, f => f = a
  | n + 1, f => ∃ k, mLv S k ∧ rch S a n (lf S k) ∧ lf S (zB k) = f
def acJ (S : mS) (a : Nat) (D : Nat → Int) : Prop := D a = 0 ∧ ∀ f : Nat, (f : Int) < S.1 12 → (0 ≤ D f ∧ D f ≤ 1000) ∧ (D f = 1000 ∨ ∃ n : Nat, rch S a n f ∧ D f = n)
def acC (S : mS) (D : Nat → Int) (n : Nat) : Prop := ∀ k, k < n → mLv S k → D (lf S (zB k)) ≤ D (lf S k) + 1
/-- what across answers -/
def acP (S : mS) (a b : Nat) (v : Int) : Prop := ∃ D, acJ S a D ∧ acC S D 120 ∧ v = D b
def mD (S : mS) (D : Nat → Int) : mS := (S.1, fun g i => if g = 15 then D i else S.2 g i)
theorem mD_set (S : mS) (Lb : Nat → Int) (k : Nat) (x : Int) : mU (mD S Lb) 15 k x = mD S (updI Lb k x) := by
  unfold mU mD updI
  refine Prod.ext rfl ?_
  funext g i
  by_cases e : g = 15
  · subst e; by_cases e2 : i = k <;> simp [e2]
  · simp [e]
theorem mD_self (S : mS) : mD S (S.2 15) = S := by
  unfold mD
  refine Prod.ext rfl ?_
  funext g i
  by_cases e : g = 15
  · subst e; simp
  · simp [e]
theorem rch_D (S : mS) (D : Nat → Int) (a n f : Nat) : rch (mD S D) a n f = rch S a n f := by
  induction n generalizing f with
  | zero => rfl
  | succ n ih =>
    show (∃ k, mLv S k ∧ rch (mD S D) a n (lf S k) ∧ lf S (zB k) = f) = (∃ k, mLv S k ∧ rch S a n (lf S k) ∧ lf S (zB k) = f)
    simp only [ih]
theorem acP_D (S : mS) (D : Nat → Int) (a b : Nat) (v : Int) : acP (mD S D) a b v = acP S a b v := by
  have e1 : ∀ D', acJ (mD S D) a D' = acJ S a D' := by
    intro D'
    unfold acJ
    simp only [rch_D]
    rfl
  have e2 : ∀ D' n, acC (mD S D) D' n = acC S D' n := fun D' n => rfl
  unfold acP
  simp only [e1, e2]
theorem iS_upd {n f : Nat} (D : Nat → Int) (x : Int) (h : f < n) : iS n (updI D f x) = iS n D - D f + x := by
  have same : ∀ m, m ≤ f → iS m (updI D f x) = iS m D := by
    intro m hm
    induction m with
    | zero => rfl
    | succ m ih => rw [iS, iS, ih (by omega)]; simp [updI, show m ≠ f by omega]
  induction n with
  | zero => omega
  | succ n ih =>
    rw [iS, iS]
    by_cases e : f = n
    · subst e; rw [same f (Nat.le_refl _)]; simp [updI]
    · rw [ih (by omega)]; simp [updI, show n ≠ f by omega]; omega
theorem iS_nn {n : Nat} {D : Nat → Int} (h : ∀ f, f < n → 0 ≤ D f) : 0 ≤ iS n D := by
  induction n with
  | zero => simp [iS]
  | succ n ih => rw [iS]; have := ih (fun f hf => h f (by omega)); have := h n (by omega); omega
section MOD17
variable {E : gV} {l : Launch} {S : mS}
theorem mo_X2_make1 (cur : S.1 4 = 1) :
    mOk E l gX2_make 6 [.ref (gBase E + 12)] S (fun v S' => v = none ∧ S' = S) := by
  intro h hm d hd
  have hk := gKeepM_rf E h
  refine gOk_of gmok_X2_make rfl (Nat.le_of_ble_eq_true rfl) (L := [some _, none]) rfl ?_
  refine G_aload_0 (pc := 0) dX2_make_0 ?_
  refine G_mgetB (pc := 1) dX2_make_1 rfl hm (fun b1 => ?_)
  refine G_if_eq (pc := 4) 8 dX2_make_4 (by decide) (by omega) (fun c4 => ?_) (fun c4 => ?_)
  · exact absurd c4 (by omega)
  · skip
    refine G_return (pc := 7) dX2_make_7 rfl (by omega) (by omega) ?_
    exact ⟨_, rfl, _, hm, hk, rfl, rfl⟩
theorem mo_X2_isFace1 (cur : S.1 4 = 1) {x : Int} (hx : -2147483648 ≤ x ∧ x ≤ 2147483647) :
    mOk E l gX2_isFace 7 [.ref (gBase E + 12), vI x] S (fun v S' => ∃ w, v = some w ∧ w = vI (bI (0 ≤ x ∧ x < S.1 12)) ∧ S' = S) := by
  intro h hm d hd
  have hk := gKeepM_rf E h
  refine gOk_of gmok_X2_isFace rfl (Nat.le_of_ble_eq_true rfl) (L := [some _, some _]) rfl ?_
  refine G_aload_0 (pc := 0) dX2_isFace_0 ?_
  refine G_m0u (pc := 1) dX2_isFace_1 rfl rfl rfl hm hk (mo_X2_make1 cur) (by omega) (by omega) (by omega) (Nat.le_of_ble_eq_true rfl) (fun h S1 hm hk q => ?_)
  obtain ⟨q⟩ := q
  refine G_iload_1 (pc := 4) dX2_isFace_4 ?_
  refine G_if_lt (pc := 5) 20 dX2_isFace_5 (by decide) (by omega) (fun c5 => ?_) (fun c5 => ?_)
  · skip
    refine G_iconst (pc := 20) dX2_isFace_20 ?_
    refine G_ireturn (pc := 21) dX2_isFace_21 rfl rfl (by omega) (by omega) ?_
    exact ⟨_, rfl, _, hm, hk, _, rfl, by first | exact congrArg vI (bI_pos (by omega)).symm | exact congrArg vI (bI_neg (by omega)).symm, rfl⟩
  · skip
    refine G_iload_1 (pc := 8) dX2_isFace_8 ?_
    refine G_aload_0 (pc := 9) dX2_isFace_9 ?_
    refine G_mget (pc := 10) dX2_isFace_10 rfl hm rfl rfl (fun b10 => ?_)
    refine G_icmp_ge (pc := 13) 20 dX2_isFace_13 (by decide) (by omega) (by omega) (fun c13 => ?_) (fun c13 => ?_)
    · skip
      refine G_iconst (pc := 20) dX2_isFace_20 ?_
      refine G_ireturn (pc := 21) dX2_isFace_21 rfl rfl (by omega) (by omega) ?_
      exact ⟨_, rfl, _, hm, hk, _, rfl, by first | exact congrArg vI (bI_pos (by omega)).symm | exact congrArg vI (bI_neg (by omega)).symm, rfl⟩
    · skip
      refine G_iconst (pc := 16) dX2_isFace_16 ?_
      refine G_goto (pc := 17) 21 dX2_isFace_17 (by decide) ?_
      refine G_ireturn (pc := 21) dX2_isFace_21 rfl rfl (by omega) (by omega) ?_
      exact ⟨_, rfl, _, hm, hk, _, rfl, by first | exact congrArg vI (bI_pos (by omega)).symm | exact congrArg vI (bI_neg (by omega)).symm, rfl⟩
theorem mo_X2_across (K : zOK (mP S)) (tr : mTr S) (pr : mPrd S) (cur : S.1 4 = 1 → mCur S) {a b : Int} (ha : -2147483648 ≤ a ∧ a ≤ 2147483647) (hb : -2147483648 ≤ b ∧ b ≤ 2147483647) :
    mOk E l gX2_across 8 [.ref (gBase E + 12), vI a, vI b] S (fun v S' => ∃ z, v = some z ∧ gInt z ∧ mKp S S' ∧ mCur S' ∧ S'.1 0 = bI (¬ ((0 ≤ a ∧ a < S'.1 12) ∧ (0 ≤ b ∧ b < S'.1 12))) ∧ (((0 ≤ a ∧ a < S'.1 12) ∧ (0 ≤ b ∧ b < S'.1 12)) → ∃ y, z = vI y ∧ acP S' a.toNat b.toNat y)) := by
  intro h hm d hd
  have hk := gKeepM_rf E h
  refine gOk_of gmok_X2_across rfl (Nat.le_of_ble_eq_true rfl) (L := [some _, some _, some _, none, none]) rfl ?_
  obtain ⟨Q, hQ⟩ : ∃ Q, Q = gRet (fun v h' => ∃ S', zMo E h' S' ∧ gKeepM E h h' ∧ ∃ z, v = some z ∧ gInt z ∧ mKp S S' ∧ mCur S' ∧ S'.1 0 = bI (¬ ((0 ≤ a ∧ a < S'.1 12) ∧ (0 ≤ b ∧ b < S'.1 12))) ∧ (((0 ≤ a ∧ a < S'.1 12) ∧ (0 ≤ b ∧ b < S'.1 12)) → ∃ y, z = vI y ∧ acP S' a.toNat b.toNat y)) := ⟨_, rfl⟩
  rw [← hQ]
  have all : ∀ (S1 : mS), mCur S1 → S1.2 1 = S.2 1 → S1.2 2 = S.2 2 → S1.2 3 = S.2 3 → S1.1 0 = 0 → (0 ≤ a ∧ a < S1.1 12) → (0 ≤ b ∧ b < S1.1 12) → ∀ (h1 : gH), zMo E h1 S1 → gKeepM E h h1 → G E l gX2_across d 0 0 Q 30 [some (.ref (gBase E + 12)), some (vI a), some (vI b), none, none] [] h1 0 0 := by
    intro S1 q1 q4 q5 q6 q0 xa xb h1 hm hk
    have hc := mCur_b q1
    have hf := mCur_f q1
    have hlf : ∀ k, mLv S1 k → k < 120 ∧ (0 ≤ S1.2 9 k ∧ S1.2 9 k < 120) ∧ S1.2 13 (S1.2 9 k).toNat = (lf S1 k : Nat) ∧ (lf S1 k : Int) < S1.1 12 := by
      intro k hl
      have h9 := hc.2.2.2.1 k hl
      have h13 := hf (S1.2 9 k).toNat (by omega)
      exact ⟨zL_lt hl, by omega, by unfold lf; omega, by unfold lf; omega⟩
    obtain ⟨A, eA⟩ : ∃ A : Nat, a = A := ⟨a.toNat, by omega⟩
    obtain ⟨B, eB⟩ : ∃ B : Nat, b = B := ⟨b.toNat, by omega⟩
    subst eA; subst eB
    obtain ⟨F, eF⟩ : ∃ F : Nat, S1.1 12 = F := ⟨(S1.1 12).toNat, by omega⟩
    have cD : ∀ D, mCur (mD S1 D) := fun D => mCur_eq (S := S1) (fun g hg => by show (fun i => if g = 15 then D i else S1.2 g i) = S1.2 g; funext i; rw [if_neg (by omega)]) (fun g _ => rfl) q1
    have fin : ∀ (D : Nat → Int) (h2 : gH), zMo E h2 (mD S1 D) → gKeepM E h h2 → acJ S1 A D → acC S1 D 120 → Q (.returned (some (vI (D B)))) h2 := by
      intro D h2 hm2 hk2 j c
      subst hQ
      exact ⟨_, rfl, mD S1 D, hm2, hk2, _, rfl, ⟨_, rfl⟩, ⟨⟨q4, q5, q6⟩, fun _ => cD D⟩, cD D, by rw [show (mD S1 D).1 0 = 0 from q0]; exact (bI_neg (fun z => z ⟨xa, xb⟩)).symm, fun _ => ⟨_, rfl, by rw [Int.toNat_natCast, Int.toNat_natCast, acP_D]; exact ⟨D, j, c, rfl⟩⟩⟩
    have k162 : ∀ (D : Nat → Int) (h2 : gH) (m : Int), zMo E h2 (mD S1 D) → gKeepM E h h2 → acJ S1 A D → acC S1 D 120 → G E l gX2_across d 0 0 Q 162 [some (.ref (gBase E + 12)), some (vI A), some (vI B), some (vI m), none] [] h2 0 0 := by
      intro D h2 m hm hk j c
      refine G_aload_0 (pc := 162) dX2_across_162 ?_
      refine G_mref (pc := 163) dX2_across_163 rfl hm rfl ?_
      refine G_iload_2 (pc := 166) dX2_across_166 ?_
      refine G_mi (pc := 167) (n := 122) dX2_across_167 hm rfl rfl rfl (by omega) (fun b167 => ?_)
      refine G_ireturn (pc := 168) dX2_across_168 rfl rfl (by omega) (by omega) ?_
      rw [Int.toNat_natCast]
      exact fin D h2 hm hk j c
    have stp : ∀ (g f : Nat) (D : Nat → Int), acJ S1 A D → (∃ k, mLv S1 k ∧ lf S1 k = f ∧ lf S1 (zB k) = g) → (f : Int) < S1.1 12 → (g : Int) < S1.1 12 → D f + 1 < D g → acJ S1 A (updI D g (D f + 1)) := by
      intro g f D j ⟨k, e1, e2, e3⟩ hf1 hg1 hlt
      have d1 := j.2 f hf1
      have d2 := j.2 g hg1
      have hne : A ≠ g := by intro e; have := j.1; rw [e] at this; omega
      refine ⟨by simp only [updI]; rw [if_neg hne]; exact j.1, fun x hx => ?_⟩
      simp only [updI]
      by_cases e : x = g
      · rw [if_pos e]
        refine ⟨by omega, Or.inr ?_⟩
        rcases d1.2 with q | ⟨n, q1, q2⟩
        · omega
        · exact ⟨n + 1, ⟨k, e1, by rw [e2]; exact q1, by rw [e3, e]⟩, by omega⟩
      · rw [if_neg e]; exact j.2 x hx
    have ini : ∀ D : Nat → Int, (∀ f : Nat, (f : Int) < S1.1 12 → D f = if f = A then 0 else 1000) → acJ S1 A D := by
      intro D hD
      refine ⟨by rw [hD A xa.2, if_pos rfl], fun f hf' => ?_⟩
      have := hD f hf'
      by_cases e : f = A
      · rw [if_pos e] at this
        exact ⟨by omega, Or.inr ⟨0, e, this⟩⟩
      · rw [if_neg e] at this
        exact ⟨by omega, Or.inl this⟩
    have k66 : ∀ (N : Nat) (D : Nat → Int) (h2 : gH), iS F D < N → zMo E h2 (mD S1 D) → gKeepM E h h2 → acJ S1 A D → G E l gX2_across d 0 0 Q 66 [some (.ref (gBase E + 12)), some (vI A), some (vI B), some (vI 1), none] [] h2 0 0 := by
      intro N
      induction N with
      | zero =>
        intro D h2 hN _ _ j
        have := iS_nn (n := F) (fun f hf' => ((j.2 f (by omega)).1).1)
        omega
      | succ N ihN =>
        intro D0 h0 hN0 hm0 hk0 j0
        have k75 : ∀ (n k : Nat), k + n = 120 → ∀ (D : Nat → Int) (m : Int) (h2 : gH), zMo E h2 (mD S1 D) → gKeepM E h h2 → acJ S1 A D → ((m = 0 ∧ iS F D < ((N + 1 : Nat) : Int) ∧ acC S1 D k) ∨ (m = 1 ∧ iS F D < N)) → G E l gX2_across d 0 0 Q 75 [some (.ref (gBase E + 12)), some (vI A), some (vI B), some (vI m), some (vI k)] [] h2 0 0 := by
          intro n
          induction n with
          | zero =>
            intro k hn D m h2 hm hk j hv
            have ek : k = 120 := by omega
            subst ek
            have hm01 : m = 0 ∨ m = 1 := by rcases hv with q | q <;> omega
            refine G_iload_4 (pc := 75) dX2_across_75 ?_
            refine G_bipush (pc := 77) dX2_across_77 (by omega) ?_
            refine G_icmp_ge (pc := 79) 159 dX2_across_79 (by decide) (by omega) (by omega) (fun c79 => ?_) (fun c79 => ?_)
            · skip
              refine G_goto (pc := 159) 66 dX2_across_159 (by decide) ?_
              refine G_drop_4 ?_
              rcases hv with ⟨rfl, _, cl⟩ | ⟨rfl, lt⟩
              · refine G_iload_3 (pc := 66) dX2_across_66 ?_
                refine G_if_eq (pc := 67) 162 dX2_across_67 (by decide) (by omega) (fun c67 => ?_) (fun c67 => absurd rfl c67)
                exact k162 D h2 0 hm hk j cl
              · exact ihN D h2 lt hm hk j
            · exact absurd c79 (by omega)
          | succ n ih =>
            intro k hn D m h2 hm hk j hv
            have go : ∀ (D' : Nat → Int) (m' : Int) (h3 : gH), zMo E h3 (mD S1 D') → gKeepM E h h3 → acJ S1 A D' → ((m' = 0 ∧ iS F D' < ((N + 1 : Nat) : Int) ∧ acC S1 D' (k + 1)) ∨ (m' = 1 ∧ iS F D' < N)) → G E l gX2_across d 0 0 Q 153 [some (.ref (gBase E + 12)), some (vI A), some (vI B), some (vI m'), some (vI k)] [] h3 0 0 := by
              intro D' m' h3 hm3 hk3 j3 v3
              refine G_iinc_4 (pc := 153) dX2_across_153 (by decide) rfl ?_
              refine G_goto (pc := 156) 75 dX2_across_156 (by decide) ?_
              rw [show ((k : Int) + 1) = ((k + 1 : Nat) : Int) by omega]
              exact ih (k + 1) (by omega) D' m' h3 hm3 hk3 j3 v3
            have keep : (mLv S1 k → D (lf S1 (zB k)) ≤ D (lf S1 k) + 1) → ((m = 0 ∧ iS F D < ((N + 1 : Nat) : Int) ∧ acC S1 D (k + 1)) ∨ (m = 1 ∧ iS F D < N)) := by
              intro c
              rcases hv with ⟨e1, e2, e3⟩ | e
              · refine Or.inl ⟨e1, e2, fun k' hk' hl' => ?_⟩
                by_cases e : k' = k
                · subst e; exact c hl'
                · exact e3 k' (by omega) hl'
              · exact Or.inr e
            by_cases hl : S1.2 1 (k / 2) = 1
            · have hl1 : mLv S1 k := mP_L.mpr ⟨by omega, hl⟩
              have hl2 : mLv S1 (zB k) := by unfold mLv; rw [zL_B]; exact hl1
              obtain ⟨u1, u2, u3, u4⟩ := hlf k hl1
              obtain ⟨w1, w2, w3, w4⟩ := hlf (zB k) hl2
              have d1 := j.2 (lf S1 k) u4
              have d2 := j.2 (lf S1 (zB k)) w4
              have L1 : gPu E l gX2_left 1 [.ref (gBase E + 12), vI k] h2 (vI (lf S1 k)) := by rw [← u3]; exact mp_X2_left (S := mD S1 D) hm (by omega) u2
              have L2 : gPu E l gX2_left 1 [.ref (gBase E + 12), vI (zB k)] h2 (vI (lf S1 (zB k))) := by rw [← w3]; exact mp_X2_left (S := mD S1 D) hm w1 w2
              obtain ⟨f, ef⟩ : ∃ f, lf S1 k = f := ⟨_, rfl⟩
              obtain ⟨g, eg⟩ : ∃ f, lf S1 (zB k) = f := ⟨_, rfl⟩
              rw [ef] at u4 d1 L1 keep
              rw [eg] at w4 d2 L2 keep
              refine G_iload_4 (pc := 75) dX2_across_75 ?_
              refine G_bipush (pc := 77) dX2_across_77 (by omega) ?_
              refine G_icmp_ge (pc := 79) 159 dX2_across_79 (by decide) (by omega) (by omega) (fun c79 => ?_) (fun c79 => ?_)
              · exact absurd c79 (by omega)
              · skip
                refine G_aload_0 (pc := 82) dX2_across_82 ?_
                refine G_mref (pc := 83) dX2_across_83 rfl hm rfl ?_
                refine G_iload_4 (pc := 86) dX2_across_86 ?_
                refine G_iconst (pc := 88) dX2_across_88 ?_
                refine G_idiv (pc := 89) dX2_across_89 (by omega) (by omega) ?_
                refine G_mb (pc := 90) dX2_across_90 hm (by omega) (fun b90 => ?_)
                rw [tn_div, show (mD S1 D).2 1 (k / 2) = S1.2 1 (k / 2) from rfl] at *
                refine G_if_eq (pc := 91) 153 dX2_across_91 (by decide) (by omega) (fun c91 => ?_) (fun c91 => ?_)
                · exact absurd c91 (by omega)
                · skip
                  refine G_aload_0 (pc := 94) dX2_across_94 ?_
                  refine G_mref (pc := 95) dX2_across_95 rfl hm rfl ?_
                  refine G_aload_0 (pc := 98) dX2_across_98 ?_
                  refine G_iload_4 (pc := 99) dX2_across_99 ?_
                  refine G_pV1 (pc := 101) dX2_across_101 rfl hm.1 (by decide) rfl L1 (by omega) (by omega) (by omega) (Nat.le_of_ble_eq_true rfl) ?_
                  refine G_mi (pc := 104) (n := 122) dX2_across_104 hm rfl rfl rfl (by omega) (fun b104 => ?_)
                  rw [show (mD S1 D).2 15 (f : Int).toNat = D f by rw [Int.toNat_natCast]; rfl]
                  refine G_iconst (pc := 105) dX2_across_105 ?_
                  refine G_iadd (pc := 106) dX2_across_106 ?_
                  refine G_aload_0 (pc := 107) dX2_across_107 ?_
                  refine G_mref (pc := 108) dX2_across_108 rfl hm rfl ?_
                  refine G_aload_0 (pc := 111) dX2_across_111 ?_
                  refine G_iload_4 (pc := 112) dX2_across_112 ?_
                  refine G_pS1 (pc := 114) dX2_across_114 rfl rfl (pu_X2_back _ (by omega)) (by omega) (by omega) (by omega) (Nat.le_of_ble_eq_true rfl) ?_
                  refine G_pV1 (pc := 117) dX2_across_117 rfl hm.1 (by decide) rfl L2 (by omega) (by omega) (by omega) (Nat.le_of_ble_eq_true rfl) ?_
                  refine G_mi (pc := 120) (n := 122) dX2_across_120 hm rfl rfl rfl (by omega) (fun b120 => ?_)
                  rw [show (mD S1 D).2 15 (g : Int).toNat = D g by rw [Int.toNat_natCast]; rfl]
                  refine G_icmp_ge (pc := 121) 153 dX2_across_121 (by decide) (by omega) (by omega) (fun c121 => ?_) (fun c121 => ?_)
                  · skip
                    first | exact go D m h2 hm hk j (keep (fun _ => by omega)) | exact go (updI D g (D f + 1)) 1 _ hm hk (stp g f D j ⟨k, hl1, ef, eg⟩ u4 w4 (by omega)) (Or.inr ⟨rfl, by rw [iS_upd D _ (by omega)]; rcases hv with q | q <;> omega⟩)
                  · skip
                    refine G_aload_0 (pc := 124) dX2_across_124 ?_
                    refine G_mref (pc := 125) dX2_across_125 rfl hm rfl ?_
                    refine G_aload_0 (pc := 128) dX2_across_128 ?_
                    refine G_iload_4 (pc := 129) dX2_across_129 ?_
                    refine G_pS1 (pc := 131) dX2_across_131 rfl rfl (pu_X2_back _ (by omega)) (by omega) (by omega) (by omega) (Nat.le_of_ble_eq_true rfl) ?_
                    refine G_pV1 (pc := 134) dX2_across_134 rfl hm.1 (by decide) rfl L2 (by omega) (by omega) (by omega) (Nat.le_of_ble_eq_true rfl) ?_
                    refine G_aload_0 (pc := 137) dX2_across_137 ?_
                    refine G_mref (pc := 138) dX2_across_138 rfl hm rfl ?_
                    refine G_aload_0 (pc := 141) dX2_across_141 ?_
                    refine G_iload_4 (pc := 142) dX2_across_142 ?_
                    refine G_pV1 (pc := 144) dX2_across_144 rfl hm.1 (by decide) rfl L1 (by omega) (by omega) (by omega) (Nat.le_of_ble_eq_true rfl) ?_
                    refine G_mi (pc := 147) (n := 122) dX2_across_147 hm rfl rfl rfl (by omega) (fun b147 => ?_)
                    rw [show (mD S1 D).2 15 (f : Int).toNat = D f by rw [Int.toNat_natCast]; rfl]
                    refine G_iconst (pc := 148) dX2_across_148 ?_
                    refine G_iadd (pc := 149) dX2_across_149 ?_
                    refine G_mis (pc := 150) (n := 122) dX2_across_150 hm hk rfl rfl rfl (by omega) (by omega) (fun h hm hk => ?_)
                    rw [Int.toNat_natCast, mD_set] at hm
                    refine G_iconst (pc := 151) dX2_across_151 ?_
                    refine G_istore_3 (pc := 152) dX2_across_152 (by decide) rfl ?_
                    first | exact go D m h2 hm hk j (keep (fun _ => by omega)) | exact go (updI D g (D f + 1)) 1 _ hm hk (stp g f D j ⟨k, hl1, ef, eg⟩ u4 w4 (by omega)) (Or.inr ⟨rfl, by rw [iS_upd D _ (by omega)]; rcases hv with q | q <;> omega⟩)
            · skip
              refine G_iload_4 (pc := 75) dX2_across_75 ?_
              refine G_bipush (pc := 77) dX2_across_77 (by omega) ?_
              refine G_icmp_ge (pc := 79) 159 dX2_across_79 (by decide) (by omega) (by omega) (fun c79 => ?_) (fun c79 => ?_)
              · exact absurd c79 (by omega)
              · skip
                refine G_aload_0 (pc := 82) dX2_across_82 ?_
                refine G_mref (pc := 83) dX2_across_83 rfl hm rfl ?_
                refine G_iload_4 (pc := 86) dX2_across_86 ?_
                refine G_iconst (pc := 88) dX2_across_88 ?_
                refine G_idiv (pc := 89) dX2_across_89 (by omega) (by omega) ?_
                refine G_mb (pc := 90) dX2_across_90 hm (by omega) (fun b90 => ?_)
                rw [tn_div, show (mD S1 D).2 1 (k / 2) = S1.2 1 (k / 2) from rfl] at *
                refine G_if_eq (pc := 91) 153 dX2_across_91 (by decide) (by omega) (fun c91 => ?_) (fun c91 => ?_)
                · skip
                  exact go D m h2 hm hk j (keep (fun z => absurd (mP_L.mp z).2 hl))
                · exact absurd c91 (by intro q; exact hl (by omega))
        refine G_iload_3 (pc := 66) dX2_across_66 ?_
        refine G_if_eq (pc := 67) 162 dX2_across_67 (by decide) (by omega) (fun c67 => absurd c67 (by decide)) (fun c67 => ?_)
        refine G_iconst (pc := 70) dX2_across_70 ?_
        refine G_istore_3 (pc := 71) dX2_across_71 (by decide) rfl ?_
        refine G_iconst (pc := 72) dX2_across_72 ?_
        refine G_istore_4 (pc := 73) dX2_across_73 (by decide) rfl ?_
        exact k75 120 0 rfl D0 0 h0 hm0 hk0 j0 (Or.inl ⟨rfl, hN0, fun k hk' => absurd hk' (by omega)⟩)
    have k32 : ∀ (n k : Nat), k + n = F → ∀ (D : Nat → Int) (h2 : gH), zMo E h2 (mD S1 D) → gKeepM E h h2 → (∀ f, f < k → D f = if f = A then 0 else 1000) → G E l gX2_across d 0 0 Q 32 [some (.ref (gBase E + 12)), some (vI A), some (vI B), some (vI k), none] [] h2 0 0 := by
      intro n
      induction n with
      | zero =>
        intro k hn D h2 hm hk hv
        have ek : k = F := by omega
        subst ek
        have hF : (mD S1 D).1 12 = (k : Nat) := eF
        refine G_iload_3 (pc := 32) dX2_across_32 ?_
        refine G_aload_0 (pc := 33) dX2_across_33 ?_
        refine G_mget (pc := 34) dX2_across_34 rfl hm rfl rfl (fun b34 => ?_)
        rw [hF]
        refine G_icmp_ge (pc := 37) 64 dX2_across_37 (by decide) (by omega) (by omega) (fun c37 => ?_) (fun c37 => ?_)
        · skip
          refine G_iconst (pc := 64) dX2_across_64 ?_
          refine G_istore_3 (pc := 65) dX2_across_65 (by decide) rfl ?_
          exact k66 (iS k D + 1).toNat D h2 (by omega) hm hk (ini D (fun f hf' => hv f (by omega)))
        · exact absurd c37 (by omega)
      | succ n ih =>
        intro k hn D h2 hm hk hv
        have hF : (mD S1 D).1 12 = (F : Nat) := eF
        have go : ∀ (x : Int) (h3 : gH), zMo E h3 (mD S1 (updI D k x)) → gKeepM E h h3 → x = (if k = A then 0 else 1000) → G E l gX2_across d 0 0 Q 58 [some (.ref (gBase E + 12)), some (vI A), some (vI B), some (vI k), none] [] h3 0 0 := by
          intro x h3 hm3 hk3 e3
          refine G_iinc_3 (pc := 58) dX2_across_58 (by decide) rfl ?_
          refine G_goto (pc := 61) 32 dX2_across_61 (by decide) ?_
          rw [show ((k : Int) + 1) = ((k + 1 : Nat) : Int) by omega]
          refine ih (k + 1) (by omega) _ h3 hm3 hk3 (fun f hf' => ?_)
          simp only [updI]
          by_cases e : f = k
          · rw [if_pos e, e3, e]
          · rw [if_neg e]; exact hv f (by omega)
        refine G_iload_3 (pc := 32) dX2_across_32 ?_
        refine G_aload_0 (pc := 33) dX2_across_33 ?_
        refine G_mget (pc := 34) dX2_across_34 rfl hm rfl rfl (fun b34 => ?_)
        rw [hF]
        refine G_icmp_ge (pc := 37) 64 dX2_across_37 (by decide) (by omega) (by omega) (fun c37 => ?_) (fun c37 => ?_)
        · exact absurd c37 (by omega)
        · skip
          refine G_aload_0 (pc := 40) dX2_across_40 ?_
          refine G_mref (pc := 41) dX2_across_41 rfl hm rfl ?_
          refine G_iload_3 (pc := 44) dX2_across_44 ?_
          refine G_iload_3 (pc := 45) dX2_across_45 ?_
          refine G_iload_1 (pc := 46) dX2_across_46 ?_
          refine G_icmp_ne (pc := 47) 54 dX2_across_47 (by decide) (by omega) (by omega) (fun c47 => ?_) (fun c47 => ?_)
          · skip
            refine G_sipush (pc := 54) dX2_across_54 (by omega) ?_
            refine G_mis (pc := 57) (n := 122) dX2_across_57 hm hk rfl rfl rfl (by omega) (by omega) (fun h hm hk => ?_)
            rw [Int.toNat_natCast, mD_set] at hm
            first | exact go _ _ hm hk (if_pos (by omega)).symm | exact go _ _ hm hk (if_neg (by omega)).symm
          · skip
            refine G_iconst (pc := 50) dX2_across_50 ?_
            refine G_goto (pc := 51) 57 dX2_across_51 (by decide) ?_
            refine G_mis (pc := 57) (n := 122) dX2_across_57 hm hk rfl rfl rfl (by omega) (by omega) (fun h hm hk => ?_)
            rw [Int.toNat_natCast, mD_set] at hm
            first | exact go _ _ hm hk (if_pos (by omega)).symm | exact go _ _ hm hk (if_neg (by omega)).symm
    refine G_iconst (pc := 30) dX2_across_30 ?_
    refine G_istore_3 (pc := 31) dX2_across_31 (by decide) rfl ?_
    exact k32 F 0 (by omega) (S1.2 15) h1 (by rw [mD_self]; exact hm) hk (fun f hf' => absurd hf' (by omega))
  refine G_aload_0 (pc := 0) dX2_across_0 ?_
  refine G_aload_0 (pc := 1) dX2_across_1 ?_
  refine G_iload_1 (pc := 2) dX2_across_2 ?_
  refine G_m1v (pc := 3) dX2_across_3 rfl rfl rfl hm hk (mo_X2_isFace K tr pr cur (by omega)) (by omega) (by omega) (by omega) (Nat.le_of_ble_eq_true rfl) (fun x3 h S1 hm hk q => ?_)
  obtain ⟨rfl, q1, q2, q3, q4, q5, q6⟩ := q
  refine G_ifb_eq (pc := 6) 21 dX2_across_6 (by decide) (fun c6 => ?_) (fun c6 => ?_)
  · skip
    refine G_iconst (pc := 21) dX2_across_21 ?_
    refine G_m1v (pc := 22) dX2_across_22 rfl rfl rfl hm hk (mo_X2_refused (by omega)) (by omega) (by omega) (by omega) (Nat.le_of_ble_eq_true rfl) (fun x22 h S22 hm hk q22 => ?_)
    obtain ⟨rfl, rfl⟩ := q22
    rw [bI_pos (p := (0 : Int) < 1) (by decide)]
    refine G_if_eq (pc := 25) 30 dX2_across_25 (by decide) (by decide) (fun q => absurd q (by decide)) (fun _ => ?_)
    refine G_iconst (pc := 28) dX2_across_28 ?_
    refine G_ireturn (pc := 29) dX2_across_29 rfl rfl (by omega) (by omega) ?_
    subst hQ
    exact ⟨_, rfl, _, hm, hk, _, rfl, ⟨_, rfl⟩, ⟨⟨q4, q5, q6⟩, fun _ => mCur_0 _ q1⟩, mCur_0 _ q1, by first | exact (bI_pos (fun z => c6 z.1)).symm | exact (bI_pos (fun z => c14 z.2)).symm, fun z => by first | exact absurd z.1 c6 | exact absurd z.2 c14⟩
  · skip
    refine G_aload_0 (pc := 9) dX2_across_9 ?_
    refine G_iload_2 (pc := 10) dX2_across_10 ?_
    refine G_m1v (pc := 11) dX2_across_11 rfl rfl rfl hm hk (mo_X2_isFace1 q2 (by omega)) (by omega) (by omega) (by omega) (Nat.le_of_ble_eq_true rfl) (fun x11 h S2 hm hk q => ?_)
    obtain ⟨rfl, e2⟩ := q
    rw [e2] at hm
    refine G_ifb_eq (pc := 14) 21 dX2_across_14 (by decide) (fun c14 => ?_) (fun c14 => ?_)
    · skip
      refine G_iconst (pc := 21) dX2_across_21 ?_
      refine G_m1v (pc := 22) dX2_across_22 rfl rfl rfl hm hk (mo_X2_refused (by omega)) (by omega) (by omega) (by omega) (Nat.le_of_ble_eq_true rfl) (fun x22 h S22 hm hk q22 => ?_)
      obtain ⟨rfl, rfl⟩ := q22
      rw [bI_pos (p := (0 : Int) < 1) (by decide)]
      refine G_if_eq (pc := 25) 30 dX2_across_25 (by decide) (by decide) (fun q => absurd q (by decide)) (fun _ => ?_)
      refine G_iconst (pc := 28) dX2_across_28 ?_
      refine G_ireturn (pc := 29) dX2_across_29 rfl rfl (by omega) (by omega) ?_
      subst hQ
      exact ⟨_, rfl, _, hm, hk, _, rfl, ⟨_, rfl⟩, ⟨⟨q4, q5, q6⟩, fun _ => mCur_0 _ q1⟩, mCur_0 _ q1, by first | exact (bI_pos (fun z => c6 z.1)).symm | exact (bI_pos (fun z => c14 z.2)).symm, fun z => by first | exact absurd z.1 c6 | exact absurd z.2 c14⟩
    · skip
      refine G_iconst (pc := 17) dX2_across_17 ?_
      refine G_goto (pc := 18) 22 dX2_across_18 (by decide) ?_
      refine G_m1v (pc := 22) dX2_across_22 rfl rfl rfl hm hk (mo_X2_refused (by omega)) (by omega) (by omega) (by omega) (Nat.le_of_ble_eq_true rfl) (fun x22 h S22 hm hk q22 => ?_)
      obtain ⟨rfl, rfl⟩ := q22
      rw [bI_neg (p := (0 : Int) < 0) (by decide)]
      refine G_if_eq (pc := 25) 30 dX2_across_25 (by decide) (by decide) (fun _ => ?_) (fun q => absurd q (by decide))
      exact all _ (mCur_0 _ q1) q4 q5 q6 rfl c6 c14 _ hm hk
end MOD17
