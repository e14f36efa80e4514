set_option maxRecDepth 100000
noncomputable def otR (S : mS) (p : Int) : Nat → Int
  | 0 => -1
  | n + 1 => zI (S.2 6 (S.2 10 n).toNat = p ∧ S.2 11 n ≤ 0) (n : Int) (otR S p n)
theorem otR_b (S : mS) (p : Int) (n : Nat) : -1 ≤ otR S p n ∧ otR S p n < n := by
  induction n with
  | zero => simp [otR]
  | succ n ih =>
    by_cases c : S.2 6 (S.2 10 n).toNat = p ∧ S.2 11 n ≤ 0
    · rw [otR, zI_pos c]; omega
    · rw [otR, zI_neg c]; omega
noncomputable def arR (S : mS) (f : Int) : Nat → Int
  | 0 => 0
  | n + 1 => zI (S.2 13 n = f) (arR S f n + S.2 11 n) (arR S f n)
noncomputable def bd1 (S : mS) (f w : Int) : Nat → Int
  | 0 => 0
  | n + 1 => zI (S.2 13 n = f ∧ (w = 0 ∨ (w = 3 ∧ S.2 11 n ≤ 0))) (bd1 S f w n + 1) (bd1 S f w n)
/-- over the halves from the last one down: how many, and the least -/
noncomputable def bd2 (S : mS) (f w : Int) (n0 : Int) : Nat → Int × Int
  | 0 => (n0, -1)
  | n + 1 =>
    let q := bd2 S f w n0 n
    zI (S.2 1 ((119 - n) / 2) = 1 ∧ S.2 13 (S.2 9 (119 - n)).toNat = f) (zI (w = 1) (q.1 + 1) q.1, ((119 - n : Nat) : Int)) q
theorem mUs_7 (S : mS) (x : Int) : (mUs S 0 x).1 7 = S.1 7 := rfl
theorem mUs_8 (S : mS) (x : Int) : (mUs S 0 x).1 8 = S.1 8 := rfl
theorem mUs_12 (S : mS) (x : Int) : (mUs S 0 x).1 12 = S.1 12 := rfl
section MOD11
variable {E : gV} {l : Launch} {S : mS}
theorem mp_X2_outer {h : gH} (hm : zMo E h S) {R : Nat} (hR : S.1 8 = R) (hR1 : R ≤ 120) (hF : ∀ r, r < R → 0 ≤ S.2 10 r ∧ S.2 10 r < 120) {p : Int} (hp : -2147483648 ≤ p ∧ p ≤ 2147483647) :
    gPu E l gX2_outer 1 [.ref (gBase E + 12), vI p] h (vI (otR S p R)) := by
  intro d hd
  refine gOk_of gmok_X2_outer rfl (Nat.le_of_ble_eq_true rfl) (L := [some _, some _, none, none]) rfl ?_
  obtain ⟨Q, hQ⟩ : ∃ Q, Q = gRet (gRv fun v h' => v = vI (otR S p R) ∧ h' = h) := ⟨_, rfl⟩
  rw [← hQ]
  have k4 : ∀ (n k : Nat), k + n = R → G E l gX2_outer d 0 0 Q 4 [some (.ref (gBase E + 12)), some (vI p), some (vI (otR S p k)), some (vI k)] [] h 0 0 := by
    intro n
    induction n with
    | zero =>
      intro k hn
      have ek : k = R := by omega
      subst ek
      refine G_iload_3 (pc := 4) dX2_outer_4 ?_
      refine G_aload_0 (pc := 5) dX2_outer_5 ?_
      refine G_mget (pc := 6) dX2_outer_6 rfl hm rfl rfl (fun b6 => ?_)
      rw [hR]
      refine G_icmp_ge (pc := 9) 50 dX2_outer_9 (by decide) (by omega) (by omega) (fun c9 => ?_) (fun c9 => ?_)
      · skip
        refine G_iload_2 (pc := 50) dX2_outer_50 ?_
        refine G_ireturn (pc := 51) dX2_outer_51 rfl rfl (by omega) (by omega) ?_
        subst hQ
        exact ⟨_, rfl, _, rfl, rfl, rfl⟩
      · exact absurd c9 (by omega)
    | succ n ih =>
      intro k hn
      have hf := hF k (by omega)
      have hb := otR_b S p k
      have gp : (S.2 6 (S.2 10 k).toNat = p ∧ S.2 11 k ≤ 0) → (k : Int) = otR S p (k + 1) := fun c => by rw [otR, zI_pos c]
      have gn : ¬ (S.2 6 (S.2 10 k).toNat = p ∧ S.2 11 k ≤ 0) → otR S p k = otR S p (k + 1) := fun c => by rw [otR, zI_neg c]
      have go : ∀ b : Int, b = otR S p (k + 1) → G E l gX2_outer d 0 0 Q 44 [some (.ref (gBase E + 12)), some (vI p), some (vI b), some (vI k)] [] h 0 0 := by
        intro b hb
        subst hb
        refine G_iinc_3 (pc := 44) dX2_outer_44 (by decide) rfl ?_
        refine G_goto (pc := 47) 4 dX2_outer_47 (by decide) ?_
        rw [show ((k : Int) + 1) = ((k + 1 : Nat) : Int) by omega]
        exact ih (k + 1) (by omega)
      refine G_iload_3 (pc := 4) dX2_outer_4 ?_
      refine G_aload_0 (pc := 5) dX2_outer_5 ?_
      refine G_mget (pc := 6) dX2_outer_6 rfl hm rfl rfl (fun b6 => ?_)
      rw [hR]
      refine G_icmp_ge (pc := 9) 50 dX2_outer_9 (by decide) (by omega) (by omega) (fun c9 => ?_) (fun c9 => ?_)
      · exact absurd c9 (by omega)
      · skip
        refine G_aload_0 (pc := 12) dX2_outer_12 ?_
        refine G_mref (pc := 13) dX2_outer_13 rfl hm rfl ?_
        refine G_aload_0 (pc := 16) dX2_outer_16 ?_
        refine G_mref (pc := 17) dX2_outer_17 rfl hm rfl ?_
        refine G_iload_3 (pc := 20) dX2_outer_20 ?_
        refine G_mi (pc := 21) (n := 120) dX2_outer_21 hm rfl rfl rfl (by omega) (fun b21 => ?_)
        rw [Int.toNat_natCast] at *
        refine G_mi (pc := 22) (n := 120) dX2_outer_22 hm rfl rfl rfl (by omega) (fun b22 => ?_)
        refine G_iload_1 (pc := 23) dX2_outer_23 ?_
        refine G_icmp_ne (pc := 24) 42 dX2_outer_24 (by decide) (by omega) (by omega) (fun c24 => ?_) (fun c24 => ?_)
        · skip
          refine G_iload_2 (pc := 42) dX2_outer_42 ?_
          refine G_istore_2 (pc := 43) dX2_outer_43 (by decide) rfl ?_
          first | exact go _ (gp ⟨by omega, by omega⟩) | exact go _ (gn (fun z => by omega))
        · skip
          refine G_aload_0 (pc := 27) dX2_outer_27 ?_
          refine G_mref (pc := 28) dX2_outer_28 rfl hm rfl ?_
          refine G_iload_3 (pc := 31) dX2_outer_31 ?_
          refine G_ml (pc := 32) dX2_outer_32 hm (by omega) (fun b32 => ?_)
          rw [Int.toNat_natCast] at *
          refine G_lconst0 (pc := 33) dX2_outer_33 ?_
          refine G_lcmp_gt (pc := 34) 42 dX2_outer_34 dX2_outer_35 (by decide) (by omega) (by omega) (fun c34 => ?_) (fun c34 => ?_)
          · skip
            refine G_iload_2 (pc := 42) dX2_outer_42 ?_
            refine G_istore_2 (pc := 43) dX2_outer_43 (by decide) rfl ?_
            first | exact go _ (gp ⟨by omega, by omega⟩) | exact go _ (gn (fun z => by omega))
          · skip
            refine G_iload_3 (pc := 38) dX2_outer_38 ?_
            refine G_goto (pc := 39) 43 dX2_outer_39 (by decide) ?_
            refine G_istore_2 (pc := 43) dX2_outer_43 (by decide) rfl ?_
            first | exact go _ (gp ⟨by omega, by omega⟩) | exact go _ (gn (fun z => by omega))
  refine G_iconst (pc := 0) dX2_outer_0 ?_
  refine G_istore_2 (pc := 1) dX2_outer_1 (by decide) rfl ?_
  refine G_iconst (pc := 2) dX2_outer_2 ?_
  refine G_istore_3 (pc := 3) dX2_outer_3 (by decide) rfl ?_
  exact k4 R 0 (by omega)
theorem mo_X2_isFace (K : zOK (mP S)) (tr : mTr S) (pr : mPrd S) (cur : S.1 4 = 1 → mCur S) {x : Int} (hx : -2147483648 ≤ x ∧ x ≤ 2147483647) :
    mOk E l gX2_isFace 7 [.ref (gBase E + 12), vI x] S (fun v S' => ∃ w, v = some w ∧ w = vI (bI (0 ≤ x ∧ x < S'.1 12)) ∧ mCur S' ∧ S'.1 4 = 1 ∧ S'.1 0 = S.1 0 ∧ S'.2 1 = S.2 1 ∧ S'.2 2 = S.2 2 ∧ S'.2 3 = S.2 3) := by
  intro h hm d hd
  have hk := gKeepM_rf E h
  refine gOk_of gmok_X2_isFace rfl (Nat.le_of_ble_eq_true rfl) (L := [some _, some _]) rfl ?_
  refine G_aload_0 (pc := 0) dX2_isFace_0 ?_
  refine G_m0u (pc := 1) dX2_isFace_1 rfl rfl rfl hm hk (mo_X2_make K tr pr cur) (by omega) (by omega) (by omega) (Nat.le_of_ble_eq_true rfl) (fun h S1 hm hk q => ?_)
  refine G_iload_1 (pc := 4) dX2_isFace_4 ?_
  refine G_if_lt (pc := 5) 20 dX2_isFace_5 (by decide) (by omega) (fun c5 => ?_) (fun c5 => ?_)
  · skip
    refine G_iconst (pc := 20) dX2_isFace_20 ?_
    refine G_ireturn (pc := 21) dX2_isFace_21 rfl rfl (by omega) (by omega) ?_
    exact ⟨_, rfl, _, hm, hk, _, rfl, by first | exact congrArg vI (bI_pos (by omega)).symm | exact congrArg vI (bI_neg (by omega)).symm, q⟩
  · skip
    refine G_iload_1 (pc := 8) dX2_isFace_8 ?_
    refine G_aload_0 (pc := 9) dX2_isFace_9 ?_
    refine G_mget (pc := 10) dX2_isFace_10 rfl hm rfl rfl (fun b10 => ?_)
    refine G_icmp_ge (pc := 13) 20 dX2_isFace_13 (by decide) (by omega) (by omega) (fun c13 => ?_) (fun c13 => ?_)
    · skip
      refine G_iconst (pc := 20) dX2_isFace_20 ?_
      refine G_ireturn (pc := 21) dX2_isFace_21 rfl rfl (by omega) (by omega) ?_
      exact ⟨_, rfl, _, hm, hk, _, rfl, by first | exact congrArg vI (bI_pos (by omega)).symm | exact congrArg vI (bI_neg (by omega)).symm, q⟩
    · skip
      refine G_iconst (pc := 16) dX2_isFace_16 ?_
      refine G_goto (pc := 17) 21 dX2_isFace_17 (by decide) ?_
      refine G_ireturn (pc := 21) dX2_isFace_21 rfl rfl (by omega) (by omega) ?_
      exact ⟨_, rfl, _, hm, hk, _, rfl, by first | exact congrArg vI (bI_pos (by omega)).symm | exact congrArg vI (bI_neg (by omega)).symm, q⟩
theorem mo_X2_around (K : zOK (mP S)) (tr : mTr S) (pr : mPrd S) (cur : S.1 4 = 1 → mCur S) (out : ∀ S', mCur S' → S'.2 1 = S.2 1 → S'.2 2 = S.2 2 → S'.2 3 = S.2 3 → ∀ p, 0 ≤ p → p < S'.1 7 → 0 ≤ otR S' p (S'.1 8).toNat) {x : Int} (hx : -2147483648 ≤ x ∧ x ≤ 2147483647) :
    mOk E l gX2_around 7 [.ref (gBase E + 12), vI x] S (fun v S' => ∃ w, v = some w ∧ gInt w ∧ mKp S S' ∧ mCur S' ∧ S'.1 0 = bI (¬ (0 ≤ x ∧ x < S'.1 7)) ∧ ((0 ≤ x ∧ x < S'.1 7) → w = vI (S'.2 13 (otR S' x (S'.1 8).toNat).toNat))) := by
  intro h hm d hd
  have hk := gKeepM_rf E h
  refine gOk_of gmok_X2_around rfl (Nat.le_of_ble_eq_true rfl) (L := [some _, some _]) rfl ?_
  refine G_aload_0 (pc := 0) dX2_around_0 ?_
  refine G_m0u (pc := 1) dX2_around_1 rfl rfl rfl hm hk (mo_X2_make K tr pr cur) (by omega) (by omega) (by omega) (Nat.le_of_ble_eq_true rfl) (fun h S1 hm hk q => ?_)
  obtain ⟨q1, q2, q3, q4, q5, q6⟩ := q
  have hb := mCur_b q1
  refine G_aload_0 (pc := 4) dX2_around_4 ?_
  refine G_iload_1 (pc := 5) dX2_around_5 ?_
  refine G_if_lt (pc := 6) 21 dX2_around_6 (by decide) (by omega) (fun c6 => ?_) (fun c6 => ?_)
  · skip
    refine G_iconst (pc := 21) dX2_around_21 ?_
    refine G_m1v (pc := 22) dX2_around_22 rfl rfl rfl hm hk (mo_X2_refused (by omega)) (by omega) (by omega) (by omega) (Nat.le_of_ble_eq_true rfl) (fun x22 h S22 hm hk q22 => ?_)
    obtain ⟨rfl, rfl⟩ := q22
    rw [bI_pos (p := (0 : Int) < 1) (by decide)]
    refine G_if_eq (pc := 25) 32 dX2_around_25 (by decide) (by decide) (fun q => absurd q (by decide)) (fun _ => ?_)
    refine G_iconst (pc := 28) dX2_around_28 ?_
    refine G_goto (pc := 29) 42 dX2_around_29 (by decide) ?_
    refine G_ireturn (pc := 42) dX2_around_42 rfl rfl (by omega) (by omega) ?_
    refine ⟨_, rfl, _, hm, hk, _, rfl, ⟨_, rfl⟩, ⟨⟨q4, q5, q6⟩, fun _ => mCur_0 _ q1⟩, mCur_0 _ q1, ?_, ?_⟩
    · rw [mUs_7]
      first | exact (bI_pos (by omega)).symm | exact (bI_neg (by omega)).symm
    · rw [mUs_7, mUs_8]
      intro z
      first | omega | rw [eo]
  · skip
    refine G_iload_1 (pc := 9) dX2_around_9 ?_
    refine G_aload_0 (pc := 10) dX2_around_10 ?_
    refine G_mget (pc := 11) dX2_around_11 rfl hm rfl rfl (fun b11 => ?_)
    refine G_icmp_ge (pc := 14) 21 dX2_around_14 (by decide) (by omega) (by omega) (fun c14 => ?_) (fun c14 => ?_)
    · skip
      refine G_iconst (pc := 21) dX2_around_21 ?_
      refine G_m1v (pc := 22) dX2_around_22 rfl rfl rfl hm hk (mo_X2_refused (by omega)) (by omega) (by omega) (by omega) (Nat.le_of_ble_eq_true rfl) (fun x22 h S22 hm hk q22 => ?_)
      obtain ⟨rfl, rfl⟩ := q22
      rw [bI_pos (p := (0 : Int) < 1) (by decide)]
      refine G_if_eq (pc := 25) 32 dX2_around_25 (by decide) (by decide) (fun q => absurd q (by decide)) (fun _ => ?_)
      refine G_iconst (pc := 28) dX2_around_28 ?_
      refine G_goto (pc := 29) 42 dX2_around_29 (by decide) ?_
      refine G_ireturn (pc := 42) dX2_around_42 rfl rfl (by omega) (by omega) ?_
      refine ⟨_, rfl, _, hm, hk, _, rfl, ⟨_, rfl⟩, ⟨⟨q4, q5, q6⟩, fun _ => mCur_0 _ q1⟩, mCur_0 _ q1, ?_, ?_⟩
      · rw [mUs_7]
        first | exact (bI_pos (by omega)).symm | exact (bI_neg (by omega)).symm
      · rw [mUs_7, mUs_8]
        intro z
        first | omega | rw [eo]
    · skip
      refine G_iconst (pc := 17) dX2_around_17 ?_
      refine G_goto (pc := 18) 22 dX2_around_18 (by decide) ?_
      refine G_m1v (pc := 22) dX2_around_22 rfl rfl rfl hm hk (mo_X2_refused (by omega)) (by omega) (by omega) (by omega) (Nat.le_of_ble_eq_true rfl) (fun x22 h S22 hm hk q22 => ?_)
      obtain ⟨rfl, rfl⟩ := q22
      rw [bI_neg (p := (0 : Int) < 0) (by decide)]
      refine G_if_eq (pc := 25) 32 dX2_around_25 (by decide) (by decide) (fun _ => ?_) (fun q => absurd q (by decide))
      refine G_aload_0 (pc := 32) dX2_around_32 ?_
      refine G_mref (pc := 33) dX2_around_33 rfl hm rfl ?_
      refine G_aload_0 (pc := 36) dX2_around_36 ?_
      refine G_iload_1 (pc := 37) dX2_around_37 ?_
      have ho := out S1 q1 q4 q5 q6 x (by omega) (by omega)
      have hob := otR_b S1 x (S1.1 8).toNat
      refine G_pV1 (pc := 38) dX2_around_38 rfl hm.1 (by decide) rfl (mp_X2_outer (S := mUs S1 0 0) (R := (S1.1 8).toNat) hm (by show S1.1 8 = _; omega) (by omega) (fun r hr => by have := hb.2.2.2.2 r (by omega); exact ⟨this.1, this.2.1⟩) (by omega)) (by omega) (by omega) (by omega) (Nat.le_of_ble_eq_true rfl) ?_
      have eo : ∀ n, otR (mUs S1 0 0) x n = otR S1 x n := by
        intro n
        induction n with
        | zero => rfl
        | succ n ih => simp only [otR]; rw [ih]; rfl
      rw [eo]
      refine G_mi (pc := 41) (n := 120) dX2_around_41 hm rfl rfl rfl (by omega) (fun b41 => ?_)
      refine G_ireturn (pc := 42) dX2_around_42 rfl rfl (by omega) (by omega) ?_
      refine ⟨_, rfl, _, hm, hk, _, rfl, ⟨_, rfl⟩, ⟨⟨q4, q5, q6⟩, fun _ => mCur_0 _ q1⟩, mCur_0 _ q1, ?_, ?_⟩
      · rw [mUs_7]
        first | exact (bI_pos (by omega)).symm | exact (bI_neg (by omega)).symm
      · rw [mUs_7, mUs_8]
        intro z
        first | omega | rw [eo]
theorem arR_b {S : mS} {f : Int} {n : Nat} (h : ∀ r, r < n → -1000000000000 ≤ S.2 11 r ∧ S.2 11 r ≤ 1000000000000) : -(1000000000000 * (n : Int)) ≤ arR S f n ∧ arR S f n ≤ 1000000000000 * (n : Int) := by
  induction n with
  | zero => simp [arR]
  | succ n ih =>
    have h1 := ih (fun i hi => h i (by omega))
    have h2 := h n (by omega)
    by_cases c : S.2 13 n = f
    · rw [arR, zI_pos c]; omega
    · rw [arR, zI_neg c]; omega
theorem mCur_ar {S : mS} (K : zOK (mP S)) (c : mCur S) : ∀ r : Nat, (r : Int) < S.1 8 → -1000000000000 ≤ S.2 11 r ∧ S.2 11 r ≤ 1000000000000 := by
  intro r hr
  obtain ⟨nx, F0, c1, c2, c3, c4, c5, c6, c7, c8⟩ := c
  obtain ⟨f, f1, f2, f3⟩ := rk_sur (L := mLv S) (R := orb nx) 120 r (by omega)
  obtain ⟨d1, m, d2, d3⟩ := c6 f f2
  rw [f3] at d3
  have hL : ∀ n, mLv S (itN nx n f) := by
    intro n
    induction n with
    | zero => exact f2.1
    | succ n ih => exact nxSpec_L ih (c1 _ ih).2
  have hcr : ∀ k, mLv S k → -1000000000 ≤ cr S k ∧ cr S k ≤ 1000000000 := by
    intro k hk
    have q1 : (-16000 ≤ S.2 2 k ∧ S.2 2 k ≤ 16000) ∧ (-16000 ≤ S.2 3 k ∧ S.2 3 k ≤ 16000) := K.1 k hk
    have q2 : (-16000 ≤ S.2 2 (zB k) ∧ S.2 2 (zB k) ≤ 16000) ∧ (-16000 ≤ S.2 3 (zB k) ∧ S.2 3 (zB k) ≤ 16000) := K.1 (zB k) (by rw [zL_B]; exact hk)
    have m1 := mul_b2 (a := S.2 2 k) (b := S.2 3 (zB k)) (by omega) (by omega)
    have m2 := mul_b2 (a := S.2 2 (zB k)) (b := S.2 3 k) (by omega) (by omega)
    unfold cr
    omega
  have := iS_b (n := m) (f := fun n => cr S (itN nx n f)) (fun i _ => hcr _ (hL i))
  have := d2.2.1
  omega
theorem mo_X2_area (K : zOK (mP S)) (tr : mTr S) (pr : mPrd S) (cur : S.1 4 = 1 → mCur S) {x : Int} (hx : -2147483648 ≤ x ∧ x ≤ 2147483647) :
    mOk E l gX2_area 8 [.ref (gBase E + 12), vI x] S (fun v S' => ∃ w, v = some w ∧ gInt w ∧ mKp S S' ∧ mCur S' ∧ S'.1 0 = bI (¬ (0 ≤ x ∧ x < S'.1 12)) ∧ ((0 ≤ x ∧ x < S'.1 12) → w = vI (if x = 0 then 0 else arR S' x (S'.1 8).toNat))) := by
  intro h hm d hd
  have hk := gKeepM_rf E h
  refine gOk_of gmok_X2_area rfl (Nat.le_of_ble_eq_true rfl) (L := [some _, some _, none, none, none]) rfl ?_
  obtain ⟨Q, hQ⟩ : ∃ Q, Q = gRet (fun v h' => ∃ S', zMo E h' S' ∧ gKeepM E h h' ∧ ∃ w, v = some w ∧ gInt w ∧ mKp S S' ∧ mCur S' ∧ S'.1 0 = bI (¬ (0 ≤ x ∧ x < S'.1 12)) ∧ ((0 ≤ x ∧ x < S'.1 12) → w = vI (if x = 0 then 0 else arR S' x (S'.1 8).toNat))) := ⟨_, rfl⟩
  rw [← hQ]
  have k27 : ∀ (S1 : mS), mCur S1 → S1.2 1 = S.2 1 → S1.2 2 = S.2 2 → S1.2 3 = S.2 3 → (0 ≤ x ∧ x < S1.1 12) → S1.1 0 = 0 → ∀ (h1 : gH), zMo E h1 S1 → gKeepM E h h1 → ∀ (n k : Nat), k + n = (S1.1 8).toNat → ∀ s : Int, s = (if x = 0 then 0 else arR S1 x k) → G E l gX2_area d 0 0 Q 27 [some (.ref (gBase E + 12)), some (vI x), some (vJ s), none, some (vI k)] [] h1 0 0 := by
    intro S1 q1 q4 q5 q6 hx1 q0 h1 hm hk n
    have hb := mCur_b q1
    have eP : mP S1 = mP S := mP_eq q4 q5 q6
    have hA := mCur_ar (by rw [eP]; exact K) q1
    have fin : ∀ s : Int, s = (if x = 0 then 0 else arR S1 x (S1.1 8).toNat) → Q (.returned (some (vI s))) h1 := by
      intro s hs
      subst hs; subst hQ
      exact ⟨_, rfl, S1, hm, hk, _, rfl, ⟨_, rfl⟩, ⟨⟨q4, q5, q6⟩, fun _ => q1⟩, q1, by rw [q0]; exact (bI_neg (fun z => z hx1)).symm, fun _ => rfl⟩
    induction n with
    | zero =>
      intro k hn s hs
      refine G_iload_4 (pc := 27) dX2_area_27 ?_
      refine G_aload_0 (pc := 29) dX2_area_29 ?_
      refine G_mget (pc := 30) dX2_area_30 rfl hm rfl rfl (fun b30 => ?_)
      refine G_icmp_ge (pc := 33) 71 dX2_area_33 (by decide) (by omega) (by omega) (fun c33 => ?_) (fun c33 => ?_)
      · skip
        refine G_lload_2 (pc := 71) dX2_area_71 ?_
        refine G_l2i (pc := 72) dX2_area_72 ?_
        refine G_ireturn (pc := 73) dX2_area_73 rfl rfl (by omega) (by omega) ?_
        exact fin s (by rw [hs, show k = (S1.1 8).toNat by omega])
      · exact absurd c33 (by omega)
    | succ n ih =>
      intro k hn s hs
      have hAk := hA k (by omega)
      have hAs := arR_b (S := S1) (f := x) (n := k) (fun r hr => hA r (by omega))
      have go : ∀ s' : Int, s' = (if x = 0 then 0 else arR S1 x (k + 1)) → G E l gX2_area d 0 0 Q 65 [some (.ref (gBase E + 12)), some (vI x), some (vJ s'), none, some (vI k)] [] h1 0 0 := by
        intro s' hs'
        refine G_iinc_4 (pc := 65) dX2_area_65 (by decide) rfl ?_
        refine G_goto (pc := 68) 27 dX2_area_68 (by decide) ?_
        rw [show ((k : Int) + 1) = ((k + 1 : Nat) : Int) by omega]
        exact ih (k + 1) (by omega) s' hs'
      by_cases x0 : x = 0
      · rw [if_pos x0] at hs
        refine G_iload_4 (pc := 27) dX2_area_27 ?_
        refine G_aload_0 (pc := 29) dX2_area_29 ?_
        refine G_mget (pc := 30) dX2_area_30 rfl hm rfl rfl (fun b30 => ?_)
        refine G_icmp_ge (pc := 33) 71 dX2_area_33 (by decide) (by omega) (by omega) (fun c33 => ?_) (fun c33 => ?_)
        · exact absurd c33 (by omega)
        · skip
          refine G_iload_1 (pc := 36) dX2_area_36 ?_
          refine G_if_le (pc := 37) 71 dX2_area_37 (by decide) (by omega) (fun c37 => ?_) (fun c37 => ?_)
          · skip
            refine G_lload_2 (pc := 71) dX2_area_71 ?_
            refine G_l2i (pc := 72) dX2_area_72 ?_
            refine G_ireturn (pc := 73) dX2_area_73 rfl rfl (by omega) (by omega) ?_
            exact fin s (by rw [hs, if_pos x0])
          · exact absurd c37 (by omega)
      · rw [if_neg x0] at hs
        refine G_iload_4 (pc := 27) dX2_area_27 ?_
        refine G_aload_0 (pc := 29) dX2_area_29 ?_
        refine G_mget (pc := 30) dX2_area_30 rfl hm rfl rfl (fun b30 => ?_)
        refine G_icmp_ge (pc := 33) 71 dX2_area_33 (by decide) (by omega) (by omega) (fun c33 => ?_) (fun c33 => ?_)
        · exact absurd c33 (by omega)
        · skip
          refine G_iload_1 (pc := 36) dX2_area_36 ?_
          refine G_if_le (pc := 37) 71 dX2_area_37 (by decide) (by omega) (fun c37 => ?_) (fun c37 => ?_)
          · exact absurd c37 (by omega)
          · skip
            refine G_aload_0 (pc := 40) dX2_area_40 ?_
            refine G_mref (pc := 41) dX2_area_41 rfl hm rfl ?_
            refine G_iload_4 (pc := 44) dX2_area_44 ?_
            refine G_mi (pc := 46) (n := 120) dX2_area_46 hm rfl rfl rfl (by omega) (fun b46 => ?_)
            refine G_iload_1 (pc := 47) dX2_area_47 ?_
            rw [Int.toNat_natCast] at *
            refine G_icmp_ne (pc := 48) 63 dX2_area_48 (by decide) (by omega) (by omega) (fun c48 => ?_) (fun c48 => ?_)
            · skip
              refine G_lload_2 (pc := 63) dX2_area_63 ?_
              refine G_lstore_2 (pc := 64) dX2_area_64 (by decide) rfl ?_
              refine go _ ?_
              rw [if_neg x0, arR]
              first | rw [zI_pos c48, hs] | rw [zI_neg c48, hs]
            · skip
              refine G_lload_2 (pc := 51) dX2_area_51 ?_
              refine G_aload_0 (pc := 52) dX2_area_52 ?_
              refine G_mref (pc := 53) dX2_area_53 rfl hm rfl ?_
              refine G_iload_4 (pc := 56) dX2_area_56 ?_
              refine G_ml (pc := 58) dX2_area_58 hm (by omega) (fun b58 => ?_)
              rw [Int.toNat_natCast] at *
              refine G_ladd (pc := 59) dX2_area_59 ?_
              refine G_goto (pc := 60) 64 dX2_area_60 (by decide) ?_
              refine G_lstore_2 (pc := 64) dX2_area_64 (by decide) rfl ?_
              refine go _ ?_
              rw [if_neg x0, arR]
              first | rw [zI_pos c48, hs] | rw [zI_neg c48, hs]
  refine G_aload_0 (pc := 0) dX2_area_0 ?_
  refine G_aload_0 (pc := 1) dX2_area_1 ?_
  refine G_iload_1 (pc := 2) dX2_area_2 ?_
  refine G_m1v (pc := 3) dX2_area_3 rfl rfl rfl hm hk (mo_X2_isFace K tr pr cur (by omega)) (by omega) (by omega) (by omega) (Nat.le_of_ble_eq_true rfl) (fun x3 h S1 hm hk q => ?_)
  obtain ⟨rfl, q1, q2, q3, q4, q5, q6⟩ := q
  have hb := mCur_b q1
  refine G_ifb_eq (pc := 6) 13 dX2_area_6 (by decide) (fun c6 => ?_) (fun c6 => ?_)
  · skip
    refine G_iconst (pc := 13) dX2_area_13 ?_
    refine G_m1v (pc := 14) dX2_area_14 rfl rfl rfl hm hk (mo_X2_refused (by omega)) (by omega) (by omega) (by omega) (Nat.le_of_ble_eq_true rfl) (fun x14 h S14 hm hk q14 => ?_)
    obtain ⟨rfl, rfl⟩ := q14
    rw [bI_pos (p := (0 : Int) < 1) (by decide)]
    refine G_if_eq (pc := 17) 22 dX2_area_17 (by decide) (by decide) (fun q => absurd q (by decide)) (fun _ => ?_)
    refine G_iconst (pc := 20) dX2_area_20 ?_
    refine G_ireturn (pc := 21) dX2_area_21 rfl rfl (by omega) (by omega) ?_
    subst hQ
    exact ⟨_, rfl, _, hm, hk, _, rfl, ⟨_, rfl⟩, ⟨⟨q4, q5, q6⟩, fun _ => mCur_0 _ q1⟩, mCur_0 _ q1, (bI_pos c6).symm, fun z => absurd z c6⟩
  · skip
    refine G_iconst (pc := 9) dX2_area_9 ?_
    refine G_goto (pc := 10) 14 dX2_area_10 (by decide) ?_
    refine G_m1v (pc := 14) dX2_area_14 rfl rfl rfl hm hk (mo_X2_refused (by omega)) (by omega) (by omega) (by omega) (Nat.le_of_ble_eq_true rfl) (fun x14 h S14 hm hk q14 => ?_)
    obtain ⟨rfl, rfl⟩ := q14
    rw [bI_neg (p := (0 : Int) < 0) (by decide)]
    refine G_if_eq (pc := 17) 22 dX2_area_17 (by decide) (by decide) (fun _ => ?_) (fun q => absurd q (by decide))
    refine G_lconst0 (pc := 22) dX2_area_22 ?_
    refine G_lstore_2 (pc := 23) dX2_area_23 (by decide) rfl ?_
    refine G_iconst (pc := 24) dX2_area_24 ?_
    refine G_istore_4 (pc := 25) dX2_area_25 (by decide) rfl ?_
    refine k27 _ (mCur_0 _ q1) q4 q5 q6 c6 rfl _ hm hk (S1.1 8).toNat 0 (by show 0 + _ = (S1.1 8).toNat; omega) 0 (by simp [arR])
end MOD11
