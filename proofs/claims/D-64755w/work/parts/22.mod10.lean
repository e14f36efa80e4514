set_option maxRecDepth 100000
/-- an int -/
abbrev gInt (v : Value) : Prop := ∃ x : Int, v = vI x
/-! what the made state rests on -/
theorem lsR_eq {S S' : mS} (h : ∀ g, g = 1 ∨ g = 2 ∨ g = 3 ∨ g = 6 ∨ g = 9 ∨ g = 10 ∨ g = 11 → S'.2 g = S.2 g) (x y but : Int) (n : Nat) : lsR S' x y but n = lsR S x y but n := by
  have hc : ∀ R m, cW S' R x y m = cW S R x y m := by
    intro R m
    unfold cW wth ovr lo
    rw [h 1 (by omega), h 9 (by omega), h 2 (by omega), h 3 (by omega)]
  induction n with
  | zero => rfl
  | succ n ih =>
    simp only [lsR]
    rw [ih]
    unfold lcd
    rw [h 11 (by omega), h 6 (by omega), h 10 (by omega), hc]
theorem nmR_eq {S S' : mS} (h : ∀ g, g = 1 ∨ g = 2 ∨ g = 3 ∨ g = 6 ∨ g = 9 ∨ g = 10 ∨ g = 11 → S'.2 g = S.2 g) (R : Nat) (F0 : Nat → Int) (n : Nat) : nmR S' R F0 n = nmR S R F0 n := by
  have ho : ∀ r, ofR S' R r = ofR S R r := by
    intro r
    unfold ofR
    rw [h 11 (by omega), h 10 (by omega), h 2 (by omega), h 3 (by omega), h 6 (by omega), lsR_eq h]
  induction n with
  | zero => rfl
  | succ n ih => simp only [nmR]; rw [ih, ho]
theorem mCur_eq {S S' : mS} (h : ∀ g, g = 1 ∨ g = 2 ∨ g = 3 ∨ g = 5 ∨ g = 6 ∨ g = 9 ∨ g = 10 ∨ g = 11 ∨ g = 13 → S'.2 g = S.2 g) (hs : ∀ g, g = 7 ∨ g = 8 ∨ g = 12 → S'.1 g = S.1 g) (c : mCur S) : mCur S' := by
  obtain ⟨nx, F0, c1, c2, c3, c4, c5, c6, c7, c8⟩ := c
  have eP : mP S' = mP S := mP_eq (h 1 (by omega)) (h 2 (by omega)) (h 3 (by omega))
  have eL : mLv S' = mLv S := by funext k; unfold mLv; rw [eP]
  have ecr : (fun k => cr S' k) = (fun k => cr S k) := by funext k; unfold cr; rw [h 2 (by omega), h 3 (by omega)]
  have hn := nmR_eq (S := S) (S' := S') (fun g hg => h g (by omega))
  refine ⟨nx, F0, ?_⟩
  rw [eL, eP, h 5 (by omega), h 6 (by omega), h 9 (by omega), h 10 (by omega), h 11 (by omega), h 13 (by omega), hs 7 (by omega), hs 8 (by omega), hs 12 (by omega), hn]
  refine ⟨fun k hk => ⟨(c1 k hk).1, (nxSpec_eq (h 1 (by omega)) (h 2 (by omega)) (h 3 (by omega)) _ _).mpr (c1 k hk).2⟩, c2, c3, c4, c5, fun f hf => ?_, c7, c8⟩
  obtain ⟨d1, m, d2, d3⟩ := c6 f hf
  refine ⟨d1, m, d2, ?_⟩
  rw [d3]
  congr 1
  funext n
  exact (congrFun ecr _).symm
theorem mCur_0 {S : mS} (x : Int) (c : mCur S) : mCur (mUs S 0 x) := mCur_eq (S := S) (fun g _ => rfl) (fun g hg => by show (if g = 0 then x else S.1 g) = S.1 g; rw [if_neg (by omega)]) c
/-- the plan stays, and what is made stands for it -/
def mKp (S S' : mS) : Prop := (S'.2 1 = S.2 1 ∧ S'.2 2 = S.2 2 ∧ S'.2 3 = S.2 3) ∧ (S'.1 4 = 1 → mCur S')
theorem rk_sur {L : Nat → Prop} {R : Nat → Nat → Prop} : ∀ n r, r < rk L R n → ∃ f, f < n ∧ fst L R f ∧ rk L R f = r := by
  intro n
  induction n with
  | zero => intro r hr; exact absurd hr (by show ¬ r < 0; omega)
  | succ n ih =>
    intro r hr
    by_cases q : fst L R n
    · rw [rk_pos q] at hr
      by_cases e : r = rk L R n
      · exact ⟨n, by omega, q, e.symm⟩
      · obtain ⟨f, f1, f2⟩ := ih r (by omega)
        exact ⟨f, by omega, f2⟩
    · rw [rk_neg q] at hr
      obtain ⟨f, f1, f2⟩ := ih r hr
      exact ⟨f, by omega, f2⟩
/-- bounds of what is made -/
theorem mCur_b {S : mS} (c : mCur S) : (0 ≤ S.1 8 ∧ S.1 8 ≤ 120) ∧ (0 ≤ S.1 7 ∧ S.1 7 ≤ 120) ∧ (1 ≤ S.1 12 ∧ S.1 12 ≤ 121) ∧ (∀ k, mLv S k → 0 ≤ S.2 9 k ∧ S.2 9 k < S.1 8) ∧ (∀ r : Nat, (r : Int) < S.1 8 → 0 ≤ S.2 10 r ∧ S.2 10 r < 120 ∧ mLv S (S.2 10 r).toNat ∧ S.2 9 (S.2 10 r).toNat = r) := by
  obtain ⟨nx, F0, c1, c2, c3, c4, c5, c6, c7, c8⟩ := c
  have r1 := rk_n (L := mLv S) (R := zSame (mP S)) 120
  have r2 := rk_n (L := mLv S) (R := orb nx) 120
  have r3 := nmR_b S F0 (Nat.le_refl (rk (mLv S) (orb nx) 120))
  refine ⟨by omega, by omega, by omega, fun k hk => ?_, fun r hr => ?_⟩
  · obtain ⟨f, f1, f2, f3⟩ := c4 k hk
    have := rk_lt (zL_lt f1.1) f1
    omega
  · obtain ⟨f, f1, f2, f3⟩ := rk_sur (L := mLv S) (R := orb nx) 120 r (by omega)
    obtain ⟨d1, m, d2, _⟩ := c6 f f2
    rw [f3] at d1
    have := zL_lt f2.1
    rw [d1, Int.toNat_natCast]
    refine ⟨by omega, by omega, f2.1, ?_⟩
    obtain ⟨f', g1, g2, g3⟩ := c4 f f2.1
    have : f' ≤ f := by
      rcases Nat.lt_or_ge f f' with q | q
      · exact absurd (orb_sy d2 (by
          -- f' reaches f; its way comes back
          obtain ⟨n, hn⟩ := g2
          exact orb_rf nx f)) (fun _ => by
            have := g1.2 f q f2.1
            obtain ⟨_, m', d2', _⟩ := c6 f' g1
            exact this (orb_sy d2' g2))
      · exact q
    rcases Nat.lt_or_ge f' f with q | q
    · exact absurd g2 (f2.2 f' q g1.1)
    · have e : f' = f := by omega
      subst e
      rw [g3, f3]
section MOD10
variable {E : gV} {l : Launch} {S : mS}
def hv (S : mS) (x : Int) : Prop := 0 ≤ x ∧ x < 120 ∧ S.2 1 (x.toNat / 2) = 1
theorem hv_L {S : mS} {x : Int} (h : hv S x) : mLv S x.toNat := mP_L.mpr ⟨by unfold hv at h; omega, h.2.2⟩
theorem mo_X2_begins {x y : Int} (hx : -2147483648 ≤ x ∧ x ≤ 2147483647) (hy : y = 0 ∨ y = 1) :
    mOk E l gX2_begins 2 [.ref (gBase E + 12), vI x, vI y] S (fun v S' => ∃ w, v = some w ∧ gInt w ∧ S' = mUs S 0 (bI (¬ hv S x)) ∧ (hv S x → w = if y = 1 then vI (S.2 3 x.toNat) else vI (S.2 2 x.toNat))) := by
  intro h hm d hd
  have hk := gKeepM_rf E h
  refine gOk_of gmok_X2_begins rfl (Nat.le_of_ble_eq_true rfl) (L := [some _, some _, some _]) rfl ?_
  refine G_aload_0 (pc := 0) dX2_begins_0 ?_
  refine G_aload_0 (pc := 1) dX2_begins_1 ?_
  refine G_iload_1 (pc := 2) dX2_begins_2 ?_
  refine G_pV1 (pc := 3) dX2_begins_3 rfl hm.1 (by decide) rfl (mp_X2_isHalf hm (by omega)) (by omega) (by omega) (by omega) (Nat.le_of_ble_eq_true rfl) ?_
  refine G_ifb_eq (pc := 6) 13 dX2_begins_6 (by decide) (fun c6 => ?_) (fun c6 => ?_)
  · skip
    have e0 : bI (¬ hv S x) = 1 := bI_pos c6
    refine G_iconst (pc := 13) dX2_begins_13 ?_
    refine G_m1v (pc := 14) dX2_begins_14 rfl rfl rfl hm hk (mo_X2_refused (by omega)) (by omega) (by omega) (by omega) (Nat.le_of_ble_eq_true rfl) (fun x14 h S14 hm hk q14 => ?_)
    obtain ⟨rfl, rfl⟩ := q14
    rw [bI_pos (p := (0 : Int) < 1) (by decide)]
    refine G_if_eq (pc := 17) 24 dX2_begins_17 (by decide) (by decide) (fun q => absurd q (by decide)) (fun _ => ?_)
    refine G_iconst (pc := 20) dX2_begins_20 ?_
    refine G_goto (pc := 21) 43 dX2_begins_21 (by decide) ?_
    refine G_ireturn (pc := 43) dX2_begins_43 rfl rfl (by omega) (by omega) ?_
    refine ⟨_, rfl, _, hm, hk, _, rfl, ⟨_, rfl⟩, by rw [e0], fun q => ?_⟩
    first | (exact absurd q c6) | (rw [if_pos (by omega)]; rfl) | (rw [if_neg (by omega)]; rfl)
  · skip
    have e0 : bI (¬ hv S x) = 0 := bI_neg (fun q => q c6)
    have c6' := c6.1
    refine G_iconst (pc := 9) dX2_begins_9 ?_
    refine G_goto (pc := 10) 14 dX2_begins_10 (by decide) ?_
    refine G_m1v (pc := 14) dX2_begins_14 rfl rfl rfl hm hk (mo_X2_refused (by omega)) (by omega) (by omega) (by omega) (Nat.le_of_ble_eq_true rfl) (fun x14 h S14 hm hk q14 => ?_)
    obtain ⟨rfl, rfl⟩ := q14
    rw [bI_neg (p := (0 : Int) < 0) (by decide)]
    refine G_if_eq (pc := 17) 24 dX2_begins_17 (by decide) (by decide) (fun _ => ?_) (fun q => absurd q (by decide))
    refine G_iload_2 (pc := 24) dX2_begins_24 ?_
    refine G_if_eq (pc := 25) 37 dX2_begins_25 (by decide) (by omega) (fun c25 => ?_) (fun c25 => ?_)
    · skip
      refine G_aload_0 (pc := 37) dX2_begins_37 ?_
      refine G_mref (pc := 38) dX2_begins_38 rfl hm rfl ?_
      refine G_iload_1 (pc := 41) dX2_begins_41 ?_
      refine G_mi (pc := 42) (n := 120) dX2_begins_42 hm rfl rfl rfl (by omega) (fun b42 => ?_)
      refine G_ireturn (pc := 43) dX2_begins_43 rfl rfl (by omega) (by omega) ?_
      refine ⟨_, rfl, _, hm, hk, _, rfl, ⟨_, rfl⟩, by rw [e0], fun q => ?_⟩
      first | (exact absurd q c6) | (rw [if_pos (by omega)]; rfl) | (rw [if_neg (by omega)]; rfl)
    · skip
      refine G_aload_0 (pc := 28) dX2_begins_28 ?_
      refine G_mref (pc := 29) dX2_begins_29 rfl hm rfl ?_
      refine G_iload_1 (pc := 32) dX2_begins_32 ?_
      refine G_mi (pc := 33) (n := 120) dX2_begins_33 hm rfl rfl rfl (by omega) (fun b33 => ?_)
      refine G_goto (pc := 34) 43 dX2_begins_34 (by decide) ?_
      refine G_ireturn (pc := 43) dX2_begins_43 rfl rfl (by omega) (by omega) ?_
      refine ⟨_, rfl, _, hm, hk, _, rfl, ⟨_, rfl⟩, by rw [e0], fun q => ?_⟩
      first | (exact absurd q c6) | (rw [if_pos (by omega)]; rfl) | (rw [if_neg (by omega)]; rfl)
theorem mKp_0 {x : Int} (cur : S.1 4 = 1 → mCur S) : mKp S (mUs S 0 x) := ⟨⟨rfl, rfl, rfl⟩, fun q => mCur_0 x (cur q)⟩
theorem mo_X2_next (K : zOK (mP S)) (tr : mTr S) (pr : mPrd S) (cur : S.1 4 = 1 → mCur S) {x : Int} (hx : -2147483648 ≤ x ∧ x ≤ 2147483647) :
    mOk E l gX2_next 7 [.ref (gBase E + 12), vI x] S (fun v S' => ∃ w, v = some w ∧ gInt w ∧ mKp S S' ∧ S'.1 0 = bI (¬ hv S x) ∧ (hv S x → mCur S' ∧ w = vI (S'.2 5 x.toNat))) := by
  intro h hm d hd
  have hk := gKeepM_rf E h
  refine gOk_of gmok_X2_next rfl (Nat.le_of_ble_eq_true rfl) (L := [some _, some _]) rfl ?_
  refine G_aload_0 (pc := 0) dX2_next_0 ?_
  refine G_aload_0 (pc := 1) dX2_next_1 ?_
  refine G_iload_1 (pc := 2) dX2_next_2 ?_
  refine G_pV1 (pc := 3) dX2_next_3 rfl hm.1 (by decide) rfl (mp_X2_isHalf hm (by omega)) (by omega) (by omega) (by omega) (Nat.le_of_ble_eq_true rfl) ?_
  refine G_ifb_eq (pc := 6) 13 dX2_next_6 (by decide) (fun c6 => ?_) (fun c6 => ?_)
  · skip
    have e0 : bI (¬ hv S x) = 1 := bI_pos c6
    refine G_iconst (pc := 13) dX2_next_13 ?_
    refine G_m1v (pc := 14) dX2_next_14 rfl rfl rfl hm hk (mo_X2_refused (by omega)) (by omega) (by omega) (by omega) (Nat.le_of_ble_eq_true rfl) (fun x14 h S14 hm hk q14 => ?_)
    obtain ⟨rfl, rfl⟩ := q14
    rw [bI_pos (p := (0 : Int) < 1) (by decide)]
    refine G_if_eq (pc := 17) 22 dX2_next_17 (by decide) (by decide) (fun q => absurd q (by decide)) (fun _ => ?_)
    refine G_iconst (pc := 20) dX2_next_20 ?_
    refine G_ireturn (pc := 21) dX2_next_21 rfl rfl (by omega) (by omega) ?_
    exact ⟨_, rfl, _, hm, hk, _, rfl, ⟨_, rfl⟩, mKp_0 cur, by rw [e0]; rfl, fun q => absurd q c6⟩
  · skip
    have e0 : bI (¬ hv S x) = 0 := bI_neg (fun q => q c6)
    have c6' := c6.1
    refine G_iconst (pc := 9) dX2_next_9 ?_
    refine G_goto (pc := 10) 14 dX2_next_10 (by decide) ?_
    refine G_m1v (pc := 14) dX2_next_14 rfl rfl rfl hm hk (mo_X2_refused (by omega)) (by omega) (by omega) (by omega) (Nat.le_of_ble_eq_true rfl) (fun x14 h S14 hm hk q14 => ?_)
    obtain ⟨rfl, rfl⟩ := q14
    rw [bI_neg (p := (0 : Int) < 0) (by decide)]
    refine G_if_eq (pc := 17) 22 dX2_next_17 (by decide) (by decide) (fun _ => ?_) (fun q => absurd q (by decide))
    refine G_aload_0 (pc := 22) dX2_next_22 ?_
    refine G_m0u (pc := 23) dX2_next_23 rfl rfl rfl hm hk (mo_X2_make (S := mUs S 0 0) K tr pr (fun q => mCur_0 0 (cur q))) (by omega) (by omega) (by omega) (Nat.le_of_ble_eq_true rfl) (fun h S1 hm hk q => ?_)
    obtain ⟨q1, q2, q3, q4, q5, q6⟩ := q
    refine G_aload_0 (pc := 26) dX2_next_26 ?_
    refine G_mref (pc := 27) dX2_next_27 rfl hm rfl ?_
    refine G_iload_1 (pc := 30) dX2_next_30 ?_
    refine G_mi (pc := 31) (n := 120) dX2_next_31 hm rfl rfl rfl (by omega) (fun b31 => ?_)
    refine G_ireturn (pc := 32) dX2_next_32 rfl rfl (by omega) (by omega) ?_
    exact ⟨_, rfl, _, hm, hk, _, rfl, ⟨_, rfl⟩, ⟨⟨q4, q5, q6⟩, fun _ => q1⟩, by rw [e0, q3]; rfl, fun _ => ⟨q1, rfl⟩⟩
theorem mo_X2_piece (K : zOK (mP S)) (tr : mTr S) (pr : mPrd S) (cur : S.1 4 = 1 → mCur S) {x : Int} (hx : -2147483648 ≤ x ∧ x ≤ 2147483647) :
    mOk E l gX2_piece 7 [.ref (gBase E + 12), vI x] S (fun v S' => ∃ w, v = some w ∧ gInt w ∧ mKp S S' ∧ S'.1 0 = bI (¬ hv S x) ∧ (hv S x → mCur S' ∧ w = vI (S'.2 6 x.toNat))) := by
  intro h hm d hd
  have hk := gKeepM_rf E h
  refine gOk_of gmok_X2_piece rfl (Nat.le_of_ble_eq_true rfl) (L := [some _, some _]) rfl ?_
  refine G_aload_0 (pc := 0) dX2_piece_0 ?_
  refine G_aload_0 (pc := 1) dX2_piece_1 ?_
  refine G_iload_1 (pc := 2) dX2_piece_2 ?_
  refine G_pV1 (pc := 3) dX2_piece_3 rfl hm.1 (by decide) rfl (mp_X2_isHalf hm (by omega)) (by omega) (by omega) (by omega) (Nat.le_of_ble_eq_true rfl) ?_
  refine G_ifb_eq (pc := 6) 13 dX2_piece_6 (by decide) (fun c6 => ?_) (fun c6 => ?_)
  · skip
    have e0 : bI (¬ hv S x) = 1 := bI_pos c6
    refine G_iconst (pc := 13) dX2_piece_13 ?_
    refine G_m1v (pc := 14) dX2_piece_14 rfl rfl rfl hm hk (mo_X2_refused (by omega)) (by omega) (by omega) (by omega) (Nat.le_of_ble_eq_true rfl) (fun x14 h S14 hm hk q14 => ?_)
    obtain ⟨rfl, rfl⟩ := q14
    rw [bI_pos (p := (0 : Int) < 1) (by decide)]
    refine G_if_eq (pc := 17) 22 dX2_piece_17 (by decide) (by decide) (fun q => absurd q (by decide)) (fun _ => ?_)
    refine G_iconst (pc := 20) dX2_piece_20 ?_
    refine G_ireturn (pc := 21) dX2_piece_21 rfl rfl (by omega) (by omega) ?_
    exact ⟨_, rfl, _, hm, hk, _, rfl, ⟨_, rfl⟩, mKp_0 cur, by rw [e0]; rfl, fun q => absurd q c6⟩
  · skip
    have e0 : bI (¬ hv S x) = 0 := bI_neg (fun q => q c6)
    have c6' := c6.1
    refine G_iconst (pc := 9) dX2_piece_9 ?_
    refine G_goto (pc := 10) 14 dX2_piece_10 (by decide) ?_
    refine G_m1v (pc := 14) dX2_piece_14 rfl rfl rfl hm hk (mo_X2_refused (by omega)) (by omega) (by omega) (by omega) (Nat.le_of_ble_eq_true rfl) (fun x14 h S14 hm hk q14 => ?_)
    obtain ⟨rfl, rfl⟩ := q14
    rw [bI_neg (p := (0 : Int) < 0) (by decide)]
    refine G_if_eq (pc := 17) 22 dX2_piece_17 (by decide) (by decide) (fun _ => ?_) (fun q => absurd q (by decide))
    refine G_aload_0 (pc := 22) dX2_piece_22 ?_
    refine G_m0u (pc := 23) dX2_piece_23 rfl rfl rfl hm hk (mo_X2_make (S := mUs S 0 0) K tr pr (fun q => mCur_0 0 (cur q))) (by omega) (by omega) (by omega) (Nat.le_of_ble_eq_true rfl) (fun h S1 hm hk q => ?_)
    obtain ⟨q1, q2, q3, q4, q5, q6⟩ := q
    refine G_aload_0 (pc := 26) dX2_piece_26 ?_
    refine G_mref (pc := 27) dX2_piece_27 rfl hm rfl ?_
    refine G_iload_1 (pc := 30) dX2_piece_30 ?_
    refine G_mi (pc := 31) (n := 120) dX2_piece_31 hm rfl rfl rfl (by omega) (fun b31 => ?_)
    refine G_ireturn (pc := 32) dX2_piece_32 rfl rfl (by omega) (by omega) ?_
    exact ⟨_, rfl, _, hm, hk, _, rfl, ⟨_, rfl⟩, ⟨⟨q4, q5, q6⟩, fun _ => q1⟩, by rw [e0, q3]; rfl, fun _ => ⟨q1, rfl⟩⟩
theorem mo_X2_face (K : zOK (mP S)) (tr : mTr S) (pr : mPrd S) (cur : S.1 4 = 1 → mCur S) {x : Int} (hx : -2147483648 ≤ x ∧ x ≤ 2147483647) :
    mOk E l gX2_face 7 [.ref (gBase E + 12), vI x] S (fun v S' => ∃ w, v = some w ∧ gInt w ∧ mKp S S' ∧ S'.1 0 = bI (¬ hv S x) ∧ (hv S x → mCur S' ∧ w = vI (S'.2 13 (S'.2 9 x.toNat).toNat))) := by
  intro h hm d hd
  have hk := gKeepM_rf E h
  refine gOk_of gmok_X2_face rfl (Nat.le_of_ble_eq_true rfl) (L := [some _, some _]) rfl ?_
  refine G_aload_0 (pc := 0) dX2_face_0 ?_
  refine G_aload_0 (pc := 1) dX2_face_1 ?_
  refine G_iload_1 (pc := 2) dX2_face_2 ?_
  refine G_pV1 (pc := 3) dX2_face_3 rfl hm.1 (by decide) rfl (mp_X2_isHalf hm (by omega)) (by omega) (by omega) (by omega) (Nat.le_of_ble_eq_true rfl) ?_
  refine G_ifb_eq (pc := 6) 13 dX2_face_6 (by decide) (fun c6 => ?_) (fun c6 => ?_)
  · skip
    have e0 : bI (¬ hv S x) = 1 := bI_pos c6
    refine G_iconst (pc := 13) dX2_face_13 ?_
    refine G_m1v (pc := 14) dX2_face_14 rfl rfl rfl hm hk (mo_X2_refused (by omega)) (by omega) (by omega) (by omega) (Nat.le_of_ble_eq_true rfl) (fun x14 h S14 hm hk q14 => ?_)
    obtain ⟨rfl, rfl⟩ := q14
    rw [bI_pos (p := (0 : Int) < 1) (by decide)]
    refine G_if_eq (pc := 17) 22 dX2_face_17 (by decide) (by decide) (fun q => absurd q (by decide)) (fun _ => ?_)
    refine G_iconst (pc := 20) dX2_face_20 ?_
    refine G_ireturn (pc := 21) dX2_face_21 rfl rfl (by omega) (by omega) ?_
    exact ⟨_, rfl, _, hm, hk, _, rfl, ⟨_, rfl⟩, mKp_0 cur, by rw [e0]; rfl, fun q => absurd q c6⟩
  · skip
    have e0 : bI (¬ hv S x) = 0 := bI_neg (fun q => q c6)
    have c6' := c6.1
    have hl := hv_L c6
    refine G_iconst (pc := 9) dX2_face_9 ?_
    refine G_goto (pc := 10) 14 dX2_face_10 (by decide) ?_
    refine G_m1v (pc := 14) dX2_face_14 rfl rfl rfl hm hk (mo_X2_refused (by omega)) (by omega) (by omega) (by omega) (Nat.le_of_ble_eq_true rfl) (fun x14 h S14 hm hk q14 => ?_)
    obtain ⟨rfl, rfl⟩ := q14
    rw [bI_neg (p := (0 : Int) < 0) (by decide)]
    refine G_if_eq (pc := 17) 22 dX2_face_17 (by decide) (by decide) (fun _ => ?_) (fun q => absurd q (by decide))
    refine G_aload_0 (pc := 22) dX2_face_22 ?_
    refine G_m0u (pc := 23) dX2_face_23 rfl rfl rfl hm hk (mo_X2_make (S := mUs S 0 0) K tr pr (fun q => mCur_0 0 (cur q))) (by omega) (by omega) (by omega) (Nat.le_of_ble_eq_true rfl) (fun h S1 hm hk q => ?_)
    obtain ⟨q1, q2, q3, q4, q5, q6⟩ := q
    have eP : mP S1 = mP S := mP_eq q4 q5 q6
    have hl1 : mLv S1 x.toNat := by (unfold mLv; rw [eP]; exact hl)
    have hb := mCur_b q1
    have hb9 := hb.2.2.2.1 _ hl1
    have exn : ((x.toNat : Nat) : Int) = x := by omega
    refine G_aload_0 (pc := 26) dX2_face_26 ?_
    refine G_iload_1 (pc := 27) dX2_face_27 ?_
    rw [← exn]
    refine G_pV1 (pc := 28) dX2_face_28 rfl hm.1 (by decide) rfl (mp_X2_left hm (by omega) (by omega)) (by omega) (by omega) (by omega) (Nat.le_of_ble_eq_true rfl) ?_
    refine G_ireturn (pc := 31) dX2_face_31 rfl rfl (by omega) (by omega) ?_
    exact ⟨_, rfl, _, hm, hk, _, rfl, ⟨_, rfl⟩, ⟨⟨q4, q5, q6⟩, fun _ => q1⟩, by rw [exn, e0, q3]; rfl, fun _ => ⟨q1, rfl⟩⟩
end MOD10
