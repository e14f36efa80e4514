set_option maxRecDepth 100000
theorem zMo_congr {E : gV} {h : gH} {S S' : mS} (hm : zMo E h S) (h1 : ∀ f, mIsS f = true → S'.1 f = S.1 f) (h2 : ∀ f i, mIsA f = true → i < mLn f → S'.2 f i = S.2 f i) : zMo E h S' := by
  refine ⟨hm.1, fun f hf => ?_, fun f hf => ?_⟩
  · rw [h1 f hf]; exact hm.2.1 f hf
  · obtain ⟨a, b, c, e⟩ := hm.2.2 f hf
    exact ⟨a, b, c, fun i hi => by rw [h2 f i hf hi]; exact e i hi⟩
def iS : Nat → (Nat → Int) → Int
  | 0, _ => 0
  | n + 1, f => iS n f + f n
def tt (c : Int) : Int := if c < 0 then 0 else if c = 0 then 1 else 2
theorem tt_b (c : Int) : 0 ≤ tt c ∧ tt c ≤ 2 := by unfold tt; split <;> (try split) <;> omega
def mx (S : mS) (i j : Nat) : Int := (S.2 2 (zB i) - S.2 2 i) * (S.2 3 (zB j) - S.2 3 j) - (S.2 3 (zB i) - S.2 3 i) * (S.2 2 (zB j) - S.2 2 j)
def bef (S : mS) (w j k : Nat) : Prop := tt (mx S w j) < tt (mx S w k) ∨ (tt (mx S w j) = tt (mx S w k) ∧ mx S j k < 0)
def cand (S : mS) (w k : Nat) : Prop := k < 120 ∧ k ≠ w ∧ S.2 1 (k / 2) = 1 ∧ S.2 2 k = S.2 2 w ∧ S.2 3 k = S.2 3 w
section MOD3
variable {E : gV} {l : Launch} {S : mS}
theorem mo_X2_remove {x : Int} (hx : -2147483648 ≤ x ∧ x ≤ 2147483647) :
    mOk E l gX2_remove 1 [.ref (gBase E + 12), vI x] S (fun v S' => ∃ w, v = some w ∧ w = vI (bI (0 ≤ x ∧ x < 60 ∧ S.2 1 x.toNat = 1)) ∧ S' = if 0 ≤ x ∧ x < 60 ∧ S.2 1 x.toNat = 1 then mUs (mU (mUs S 0 0) 1 x.toNat 0) 4 0 else mUs S 0 0) := by
  intro h hm d hd
  have hk := gKeepM_rf E h
  refine gOk_of gmok_X2_remove rfl (Nat.le_of_ble_eq_true rfl) (L := [some _, some _, none]) rfl ?_
  obtain ⟨Q, hQ⟩ : ∃ Q, Q = gRet (fun v h' => ∃ S', zMo E h' S' ∧ gKeepM E h h' ∧ ∃ w, v = some w ∧ w = vI (bI (0 ≤ x ∧ x < 60 ∧ S.2 1 x.toNat = 1)) ∧ S' = if 0 ≤ x ∧ x < 60 ∧ S.2 1 x.toNat = 1 then mUs (mU (mUs S 0 0) 1 x.toNat 0) 4 0 else mUs S 0 0) := ⟨_, rfl⟩
  rw [← hQ]
  have k29 : ∀ (h1 : gH) (b : Int), zMo E h1 (mUs S 0 0) → gKeepM E h h1 → b = bI (0 ≤ x ∧ x < 60 ∧ S.2 1 x.toNat = 1) → G E l gX2_remove d 0 0 Q 29 [some (.ref (gBase E + 12)), some (vI x), none] [vI b] h1 0 0 := by
    intro h1 b hm hk hb
    subst hb
    refine G_istore_2 (pc := 29) dX2_remove_29 (by decide) rfl ?_
    refine G_iload_2 (pc := 30) dX2_remove_30 ?_
    refine G_ifb_eq (pc := 31) 46 dX2_remove_31 (by decide) (fun c31 => ?_) (fun c31 => ?_)
    · skip
      refine G_iload_2 (pc := 46) dX2_remove_46 ?_
      refine G_ireturn (pc := 47) dX2_remove_47 rfl (nar_bI _) (by omega) (by omega) ?_
      subst hQ
      first | exact ⟨_, rfl, _, hm, hk, _, rfl, rfl, (if_pos c31).symm⟩ | exact ⟨_, rfl, _, hm, hk, _, rfl, rfl, (if_neg c31).symm⟩
    · skip
      refine G_aload_0 (pc := 34) dX2_remove_34 ?_
      refine G_mref (pc := 35) dX2_remove_35 rfl hm rfl ?_
      refine G_iload_1 (pc := 38) dX2_remove_38 ?_
      refine G_iconst (pc := 39) dX2_remove_39 ?_
      refine G_mbs (pc := 40) dX2_remove_40 hm hk (by omega) (by omega) (fun h hm hk => ?_)
      refine G_aload_0 (pc := 41) dX2_remove_41 ?_
      refine G_iconst (pc := 42) dX2_remove_42 ?_
      refine G_mputB (pc := 43) dX2_remove_43 rfl hm hk (by omega) (fun h hm hk => ?_)
      refine G_iload_2 (pc := 46) dX2_remove_46 ?_
      refine G_ireturn (pc := 47) dX2_remove_47 rfl (nar_bI _) (by omega) (by omega) ?_
      subst hQ
      first | exact ⟨_, rfl, _, hm, hk, _, rfl, rfl, (if_pos c31).symm⟩ | exact ⟨_, rfl, _, hm, hk, _, rfl, rfl, (if_neg c31).symm⟩
  refine G_aload_0 (pc := 0) dX2_remove_0 ?_
  refine G_iconst (pc := 1) dX2_remove_1 ?_
  refine G_mputI (pc := 2) dX2_remove_2 rfl hm hk rfl rfl (by omega) (fun h hm hk => ?_)
  refine G_iload_1 (pc := 5) dX2_remove_5 ?_
  refine G_if_lt (pc := 6) 28 dX2_remove_6 (by decide) (by omega) (fun c6 => ?_) (fun c6 => ?_)
  · skip
    refine G_iconst (pc := 28) dX2_remove_28 ?_
    exact k29 _ _ hm hk (by first | exact (bI_pos (by simp only [mUs] at *; omega)).symm | exact (bI_neg (by simp only [mUs] at *; omega)).symm)
  · skip
    refine G_iload_1 (pc := 9) dX2_remove_9 ?_
    refine G_bipush (pc := 10) dX2_remove_10 (by omega) ?_
    refine G_icmp_ge (pc := 12) 28 dX2_remove_12 (by decide) (by omega) (by omega) (fun c12 => ?_) (fun c12 => ?_)
    · skip
      refine G_iconst (pc := 28) dX2_remove_28 ?_
      exact k29 _ _ hm hk (by first | exact (bI_pos (by simp only [mUs] at *; omega)).symm | exact (bI_neg (by simp only [mUs] at *; omega)).symm)
    · skip
      refine G_aload_0 (pc := 15) dX2_remove_15 ?_
      refine G_mref (pc := 16) dX2_remove_16 rfl hm rfl ?_
      refine G_iload_1 (pc := 19) dX2_remove_19 ?_
      refine G_mb (pc := 20) dX2_remove_20 hm (by omega) (fun b20 => ?_)
      refine G_if_eq (pc := 21) 28 dX2_remove_21 (by decide) (by omega) (fun c21 => ?_) (fun c21 => ?_)
      · skip
        refine G_iconst (pc := 28) dX2_remove_28 ?_
        exact k29 _ _ hm hk (by first | exact (bI_pos (by simp only [mUs] at *; omega)).symm | exact (bI_neg (by simp only [mUs] at *; omega)).symm)
      · skip
        refine G_iconst (pc := 24) dX2_remove_24 ?_
        refine G_goto (pc := 25) 29 dX2_remove_25 (by decide) ?_
        exact k29 _ _ hm hk (by first | exact (bI_pos (by simp only [mUs] at *; omega)).symm | exact (bI_neg (by simp only [mUs] at *; omega)).symm)
theorem mo_X2_clear : mOk E l gX2_clear 1 [.ref (gBase E + 12)] S (fun v S' => ∃ w, v = some w ∧ w = vI (iS 60 (S.2 1)) ∧ S' = (fun g => if g = 4 then 0 else if g = 0 then 0 else S.1 g, fun g i => if g = 1 ∧ i < 60 then 0 else S.2 g i)) := by
  intro h hm d hd
  have hk := gKeepM_rf E h
  refine gOk_of gmok_X2_clear rfl (Nat.le_of_ble_eq_true rfl) (L := [some _, none, none]) rfl ?_
  obtain ⟨Q, hQ⟩ : ∃ Q, Q = gRet (fun v h' => ∃ S', zMo E h' S' ∧ gKeepM E h h' ∧ ∃ w, v = some w ∧ w = vI (iS 60 (S.2 1)) ∧ S' = ((fun g => if g = 4 then 0 else if g = 0 then 0 else S.1 g, fun g i => if g = 1 ∧ i < 60 then 0 else S.2 g i) : mS)) := ⟨_, rfl⟩
  rw [← hQ]
  have hb : ∀ i, i < 60 → S.2 1 i = 0 ∨ S.2 1 i = 1 := by
    intro i hi
    have := ((hm.2.2 1 rfl).2.2.2 i hi).2
    unfold mRg at this
    simpa using this
  have k9 : ∀ (n s : Nat) (h1 : gH), s + n = 60 → zMo E h1 (fun g => if g = 0 then 0 else S.1 g, fun g i => if g = 1 ∧ i < s then 0 else S.2 g i) → gKeepM E h h1 → (0 ≤ iS s (S.2 1) ∧ iS s (S.2 1) ≤ s) → G E l gX2_clear d 0 0 Q 9 [some (.ref (gBase E + 12)), some (vI (iS s (S.2 1))), some (vI s)] [] h1 0 0 := by
    intro n
    induction n with
    | zero =>
      intro s h1 hn hm hk hs
      have es : s = 60 := by omega
      subst es
      refine G_iload_2 (pc := 9) dX2_clear_9 ?_
      refine G_bipush (pc := 10) dX2_clear_10 (by omega) ?_
      refine G_icmp_ge (pc := 12) 45 dX2_clear_12 (by decide) (by omega) (by omega) (fun c12 => ?_) (fun c12 => ?_)
      · skip
        refine G_aload_0 (pc := 45) dX2_clear_45 ?_
        refine G_iconst (pc := 46) dX2_clear_46 ?_
        refine G_mputB (pc := 47) dX2_clear_47 rfl hm hk (by omega) (fun h hm hk => ?_)
        refine G_iload_1 (pc := 50) dX2_clear_50 ?_
        refine G_ireturn (pc := 51) dX2_clear_51 rfl rfl (by omega) (by omega) ?_
        subst hQ
        refine ⟨_, rfl, _, hm, hk, _, rfl, rfl, ?_⟩
        simp only [mUs]
      · skip
        exact absurd c12 (by omega)
    | succ n ih =>
      intro s h1 hn hm hk hs
      have hbs := hb s (by omega)
      have e1 : (s : Int).toNat = s := by omega
      have go : ∀ (h2 : gH) (c : Int), zMo E h2 (mU (fun g => if g = 0 then 0 else S.1 g, fun g i => if g = 1 ∧ i < s then 0 else S.2 g i) 1 (s : Int).toNat 0) → gKeepM E h h2 → c = iS s (S.2 1) + S.2 1 s → G E l gX2_clear d 0 0 Q 39 [some (.ref (gBase E + 12)), some (vI c), some (vI s)] [] h2 0 0 := by
        intro h2 c hm hk hc
        refine G_iinc_2 dX2_clear_39 (by decide) rfl ?_
        refine G_goto 9 dX2_clear_42 (by decide) ?_
        rw [show ((s : Int) + 1) = ((s + 1 : Nat) : Int) by omega, hc]
        refine ih (s + 1) h2 (by omega) (zMo_congr hm (fun f _ => rfl) (fun f i hf hi => ?_)) hk (by simp only [iS]; omega)
        simp only [mU, e1]
        by_cases q : f = 1
        · subst q
          by_cases q2 : i = s
          · subst q2; simp
          · simp only [q2, and_false, if_false]
            by_cases q3 : i < s
            · simp [q3, show i < s + 1 by omega]
            · simp [q3, show ¬ i < s + 1 by omega]
        · simp [q]
      have b20' : (fun (g i : Nat) => if g = 1 ∧ i < s then (0 : Int) else S.2 g i) 1 (s : Int).toNat = S.2 1 s := by
        simp only [e1]
        rw [if_neg (by omega)]
      refine G_iload_2 (pc := 9) dX2_clear_9 ?_
      refine G_bipush (pc := 10) dX2_clear_10 (by omega) ?_
      refine G_icmp_ge (pc := 12) 45 dX2_clear_12 (by decide) (by omega) (by omega) (fun c12 => ?_) (fun c12 => ?_)
      · skip
        exact absurd c12 (by omega)
      · skip
        refine G_aload_0 (pc := 15) dX2_clear_15 ?_
        refine G_mref (pc := 16) dX2_clear_16 rfl hm rfl ?_
        refine G_iload_2 (pc := 19) dX2_clear_19 ?_
        refine G_mb (pc := 20) dX2_clear_20 hm (by omega) (fun b20 => ?_)
        refine G_if_eq (pc := 21) 30 dX2_clear_21 (by decide) (by omega) (fun c21 => ?_) (fun c21 => ?_)
        · skip
          refine G_iload_1 (pc := 30) dX2_clear_30 ?_
          refine G_istore_1 (pc := 31) dX2_clear_31 (by decide) rfl ?_
          refine G_aload_0 (pc := 32) dX2_clear_32 ?_
          refine G_mref (pc := 33) dX2_clear_33 rfl hm rfl ?_
          refine G_iload_2 (pc := 36) dX2_clear_36 ?_
          refine G_iconst (pc := 37) dX2_clear_37 ?_
          refine G_mbs (pc := 38) dX2_clear_38 hm hk (by omega) (by omega) (fun h hm hk => ?_)
          exact go _ _ hm hk (by simp only [b20'] at *; omega)
        · skip
          refine G_iload_1 (pc := 24) dX2_clear_24 ?_
          refine G_iconst (pc := 25) dX2_clear_25 ?_
          refine G_iadd (pc := 26) dX2_clear_26 ?_
          refine G_goto (pc := 27) 31 dX2_clear_27 (by decide) ?_
          refine G_istore_1 (pc := 31) dX2_clear_31 (by decide) rfl ?_
          refine G_aload_0 (pc := 32) dX2_clear_32 ?_
          refine G_mref (pc := 33) dX2_clear_33 rfl hm rfl ?_
          refine G_iload_2 (pc := 36) dX2_clear_36 ?_
          refine G_iconst (pc := 37) dX2_clear_37 ?_
          refine G_mbs (pc := 38) dX2_clear_38 hm hk (by omega) (by omega) (fun h hm hk => ?_)
          exact go _ _ hm hk (by simp only [b20'] at *; omega)
  refine G_aload_0 (pc := 0) dX2_clear_0 ?_
  refine G_iconst (pc := 1) dX2_clear_1 ?_
  refine G_mputI (pc := 2) dX2_clear_2 rfl hm hk rfl rfl (by omega) (fun h hm hk => ?_)
  refine G_iconst (pc := 5) dX2_clear_5 ?_
  refine G_istore_1 (pc := 6) dX2_clear_6 (by decide) rfl ?_
  refine G_iconst (pc := 7) dX2_clear_7 ?_
  refine G_istore_2 (pc := 8) dX2_clear_8 (by decide) rfl ?_
  exact k9 60 0 h (by omega) (zMo_congr hm (fun f _ => rfl) (fun f i _ _ => by simp [mUs])) hk (by simp [iS])
def nxSpec (S : mS) (w r : Nat) : Prop := (r = w ∧ ∀ j, ¬ cand S w j) ∨ (cand S w r ∧ ∀ j, cand S w j → ¬ bef S w j r)
def nInv (S : mS) (w k : Nat) (b : Int) : Prop := (b = -1 ∧ ∀ j, j < k → ¬ cand S w j) ∨ ∃ r : Nat, b = r ∧ cand S w r ∧ ∀ j, j < k → cand S w j → ¬ bef S w j r
theorem nInv_skip {w k : Nat} {b : Int} (hv : nInv S w k b) (nc : ¬ cand S w k) : nInv S w (k + 1) b := by
  rcases hv with ⟨a, e⟩ | ⟨r, a, c, e⟩
  · refine Or.inl ⟨a, fun j hj hc => ?_⟩
    by_cases q : j = k
    · subst q; exact nc hc
    · exact e j (by omega) hc
  · refine Or.inr ⟨r, a, c, fun j hj hc => ?_⟩
    by_cases q : j = k
    · subst q; exact absurd hc nc
    · exact e j (by omega) hc
theorem bef_self (w k : Nat) : ¬ bef S w k k := by
  intro h
  rcases h with h | h
  · omega
  · have : mx S k k = 0 := by unfold mx; grind
    omega
theorem nInv_new {w k : Nat} (hv : nInv S w k (-1)) (hc : cand S w k) : nInv S w (k + 1) k := by
  rcases hv with ⟨a, e⟩ | ⟨r, a, c, e⟩
  · refine Or.inr ⟨k, rfl, hc, fun j hj hcj => ?_⟩
    by_cases q : j = k
    · subst q; exact bef_self w j
    · exact absurd hcj (e j (by omega))
  · omega
theorem nInv_keep {w k r : Nat} (hv : nInv S w k r) (nb : ¬ bef S w k r) : nInv S w (k + 1) r := by
  rcases hv with ⟨a, e⟩ | ⟨r', a, c, e⟩
  · omega
  · have : r = r' := by omega
    subst this
    refine Or.inr ⟨r, rfl, c, fun j hj hcj => ?_⟩
    by_cases q : j = k
    · subst q; exact nb
    · exact e j (by omega) hcj
theorem nInv_bet {w k r : Nat} (tr : ∀ a b c, cand S w a → cand S w b → cand S w c → bef S w a b → bef S w b c → bef S w a c) (hv : nInv S w k r) (hc : cand S w k) (nb : bef S w k r) : nInv S w (k + 1) k := by
  rcases hv with ⟨a, e⟩ | ⟨r', a, c, e⟩
  · omega
  · have : r = r' := by omega
    subst this
    refine Or.inr ⟨k, rfl, hc, fun j hj hcj hbf => ?_⟩
    by_cases q : j = k
    · subst q; exact bef_self w j hbf
    · exact e j (by omega) hcj (tr j k r hcj hc c hbf nb)
theorem mo_X2_nextOf (K : zOK (mP S)) {i : Nat} (hl : zL (mP S) i = true) (tr : ∀ a b c, cand S (zB i) a → cand S (zB i) b → cand S (zB i) c → bef S (zB i) a b → bef S (zB i) b c → bef S (zB i) a c) :
    mOk E l gX2_nextOf 4 [.ref (gBase E + 12), vI i] S (fun v S' => ∃ w, v = some w ∧ S' = S ∧ ∃ r : Nat, w = vI r ∧ nxSpec S (zB i) r) := by
  intro h hm d hd
  have hk := gKeepM_rf E h
  have hi := zL_lt hl
  have hw := zB_lt hi
  have hlw : S.2 1 (zB i / 2) = 1 := by rw [zB_half]; exact (mP_L.mp hl).2
  have hB : ∀ k, k < 120 → S.2 1 (k / 2) = 1 → (-16000 ≤ S.2 2 k ∧ S.2 2 k ≤ 16000) ∧ (-16000 ≤ S.2 3 k ∧ S.2 3 k ≤ 16000) := fun k h1 h2 => K.1 k (mP_L.mpr ⟨h1, h2⟩)
  have hB2 : ∀ k, k < 120 → S.2 1 (k / 2) = 1 → (-16000 ≤ S.2 2 (zB k) ∧ S.2 2 (zB k) ≤ 16000) ∧ (-16000 ≤ S.2 3 (zB k) ∧ S.2 3 (zB k) ≤ 16000) := fun k h1 h2 => hB (zB k) (zB_lt h1) (by rw [zB_half]; exact h2)
  have hB4 : ∀ {a b}, a < 120 → S.2 1 (a / 2) = 1 → b < 120 → S.2 1 (b / 2) = 1 → ∀ k, k = a ∨ k = zB a ∨ k = b ∨ k = zB b → (-16000 ≤ S.2 2 k ∧ S.2 2 k ≤ 16000) ∧ (-16000 ≤ S.2 3 k ∧ S.2 3 k ≤ 16000) := by
    intro a b h1 h2 h3 h4 k hk
    rcases hk with rfl | rfl | rfl | rfl
    · exact hB _ h1 h2
    · exact hB2 _ h1 h2
    · exact hB _ h3 h4
    · exact hB2 _ h3 h4
  have mxb : ∀ a b, a < 120 → S.2 1 (a / 2) = 1 → b < 120 → S.2 1 (b / 2) = 1 → -2048000000 ≤ mx S a b ∧ mx S a b ≤ 2048000000 := by
    intro a b h1 h2 h3 h4
    have q1 := hB a h1 h2
    have q2 := hB2 a h1 h2
    have q3 := hB b h3 h4
    have q4 := hB2 b h3 h4
    have m1 := mul_b (a := S.2 2 (zB a) - S.2 2 a) (b := S.2 3 (zB b) - S.2 3 b) (by omega) (by omega)
    have m2 := mul_b (a := S.2 3 (zB a) - S.2 3 a) (b := S.2 2 (zB b) - S.2 2 b) (by omega) (by omega)
    unfold mx
    omega
  obtain ⟨w, ew⟩ : ∃ w, w = zB i := ⟨_, rfl⟩
  refine gOk_of gmok_X2_nextOf rfl (Nat.le_of_ble_eq_true rfl) (L := [some _, some _, none, none, none, none]) rfl ?_
  obtain ⟨Q, hQ⟩ : ∃ Q, Q = gRet (fun v h' => ∃ S', zMo E h' S' ∧ gKeepM E h h' ∧ ∃ z, v = some z ∧ S' = S ∧ ∃ r : Nat, z = vI r ∧ nxSpec S (zB i) r) := ⟨_, rfl⟩
  rw [← hQ]
  have fin : ∀ r : Nat, nxSpec S w r → Q (.returned (some (vI r))) h := by
    intro r hr
    subst hQ; subst ew
    exact ⟨_, rfl, S, hm, hk, _, rfl, rfl, r, rfl, hr⟩
  rw [← ew] at tr hw hlw
  have tu : ∀ {a b}, a < 120 → S.2 1 (a / 2) = 1 → b < 120 → S.2 1 (b / 2) = 1 → gPu E l gX2_turned 3 [.ref (gBase E + 12), vI a, vI b] h (vI (tt (mx S a b))) := fun h1 h2 h3 h4 => mp_X2_turned hm h1 h3 (hB4 h1 h2 h3 h4) rfl
  have k10 : ∀ (n k : Nat) (b : Int), k + n = 120 → nInv S w k b → G E l gX2_nextOf d 0 0 Q 10 [some (.ref (gBase E + 12)), some (vI i), some (vI w), some (vI b), some (vI k), none] [] h 0 0 := by
    intro n
    induction n with
    | zero =>
      intro k b hn hv
      have ek : k = 120 := by omega
      subst ek
      rcases hv with ⟨rfl, e⟩ | ⟨r, rfl, c, e⟩
      · skip
        refine G_iload_4 (pc := 10) dX2_nextOf_10 ?_
        refine G_bipush (pc := 12) dX2_nextOf_12 (by omega) ?_
        refine G_icmp_ge (pc := 14) 117 dX2_nextOf_14 (by decide) (by omega) (by omega) (fun c14 => ?_) (fun c14 => ?_)
        · skip
          refine G_iload_3 (pc := 117) dX2_nextOf_117 ?_
          refine G_if_ge (pc := 118) 125 dX2_nextOf_118 (by decide) (by omega) (fun c118 => ?_) (fun c118 => ?_)
          · skip
            exact absurd c118 (by omega)
          · skip
            refine G_iload_2 (pc := 121) dX2_nextOf_121 ?_
            refine G_goto (pc := 122) 126 dX2_nextOf_122 (by decide) ?_
            refine G_ireturn (pc := 126) dX2_nextOf_126 rfl rfl (by omega) (by omega) ?_
            exact fin w (Or.inl ⟨rfl, fun j hj => e j hj.1 hj⟩)
        · skip
          exact absurd c14 (by omega)
      · have hr := c.1
        refine G_iload_4 (pc := 10) dX2_nextOf_10 ?_
        refine G_bipush (pc := 12) dX2_nextOf_12 (by omega) ?_
        refine G_icmp_ge (pc := 14) 117 dX2_nextOf_14 (by decide) (by omega) (by omega) (fun c14 => ?_) (fun c14 => ?_)
        · skip
          refine G_iload_3 (pc := 117) dX2_nextOf_117 ?_
          refine G_if_ge (pc := 118) 125 dX2_nextOf_118 (by decide) (by omega) (fun c118 => ?_) (fun c118 => ?_)
          · skip
            refine G_iload_3 (pc := 125) dX2_nextOf_125 ?_
            refine G_ireturn (pc := 126) dX2_nextOf_126 rfl rfl (by omega) (by omega) ?_
            exact fin r (Or.inr ⟨c, fun j hj => e j hj.1 hj⟩)
          · skip
            exact absurd c118 (by omega)
        · skip
          exact absurd c14 (by omega)
    | succ n ih =>
      intro k b hn hv
      have hk120 : k < 120 := by omega
      have e1 : (w : Int).toNat = w := by omega
      have go : ∀ b' : Int, nInv S w (k + 1) b' → G E l gX2_nextOf d 0 0 Q 111 [some (.ref (gBase E + 12)), some (vI i), some (vI w), some (vI b'), some (vI k), none] [] h 0 0 := by
        intro b' hb
        refine G_iinc_4 dX2_nextOf_111 (by decide) rfl ?_
        refine G_goto 10 dX2_nextOf_114 (by decide) ?_
        rw [show ((k : Int) + 1) = ((k + 1 : Nat) : Int) by omega]
        exact ih (k + 1) b' (by omega) hb
      rcases hv' : hv with ⟨rfl, e⟩ | ⟨r, rfl, c, e⟩
      · skip
        refine G_iload_4 (pc := 10) dX2_nextOf_10 ?_
        refine G_bipush (pc := 12) dX2_nextOf_12 (by omega) ?_
        refine G_icmp_ge (pc := 14) 117 dX2_nextOf_14 (by decide) (by omega) (by omega) (fun c14 => ?_) (fun c14 => ?_)
        · skip
          exact absurd c14 (by omega)
        · skip
          refine G_iload_4 (pc := 17) dX2_nextOf_17 ?_
          refine G_iload_2 (pc := 19) dX2_nextOf_19 ?_
          refine G_icmp_eq (pc := 20) 111 dX2_nextOf_20 (by decide) (by omega) (by omega) (fun c20 => ?_) (fun c20 => ?_)
          · skip
            refine G_drop_5 ?_
            first | exact go _ (nInv_new hv ⟨hk120, by omega, c41⟩) | exact go _ (nInv_skip hv (fun q => by unfold cand at q; first | omega | exact c41 q.2.2))
          · skip
            refine G_aload_0 (pc := 23) dX2_nextOf_23 ?_
            refine G_iload_4 (pc := 24) dX2_nextOf_24 ?_
            refine G_aload_0 (pc := 26) dX2_nextOf_26 ?_
            refine G_mref (pc := 27) dX2_nextOf_27 rfl hm rfl ?_
            refine G_iload_2 (pc := 30) dX2_nextOf_30 ?_
            refine G_mi (pc := 31) (n := 120) dX2_nextOf_31 hm rfl rfl rfl (by omega) (fun b31 => ?_)
            refine G_aload_0 (pc := 32) dX2_nextOf_32 ?_
            refine G_mref (pc := 33) dX2_nextOf_33 rfl hm rfl ?_
            refine G_iload_2 (pc := 36) dX2_nextOf_36 ?_
            refine G_mi (pc := 37) (n := 120) dX2_nextOf_37 hm rfl rfl rfl (by omega) (fun b37 => ?_)
            simp only [e1] at *
            refine G_pV3 (pc := 38) dX2_nextOf_38 rfl hm.1 (by decide) rfl (mp_X2_leaves hm (by omega) (by omega) (by omega)) (by omega) (by omega) (by omega) (Nat.le_of_ble_eq_true rfl) ?_
            refine G_ifb_eq (pc := 41) 111 dX2_nextOf_41 (by decide) (fun c41 => ?_) (fun c41 => ?_)
            · skip
              refine G_drop_5 ?_
              first | exact go _ (nInv_new hv ⟨hk120, by omega, c41⟩) | exact go _ (nInv_skip hv (fun q => by unfold cand at q; first | omega | exact c41 q.2.2))
            · skip
              refine G_iload_3 (pc := 44) dX2_nextOf_44 ?_
              refine G_if_lt (pc := 45) 92 dX2_nextOf_45 (by decide) (by omega) (fun c45 => ?_) (fun c45 => ?_)
              · skip
                refine G_iconst (pc := 92) dX2_nextOf_92 ?_
                refine G_goto (pc := 93) 97 dX2_nextOf_93 (by decide) ?_
                refine G_istore_5 (pc := 97) dX2_nextOf_97 (by decide) rfl ?_
                refine G_iload_5 (pc := 99) dX2_nextOf_99 ?_
                refine G_if_eq (pc := 101) 109 dX2_nextOf_101 (by decide) (by decide) (fun q => absurd q (by decide)) (fun _ => ?_)
                refine G_iload_4 (pc := 104) dX2_nextOf_104 ?_
                refine G_goto (pc := 106) 110 dX2_nextOf_106 (by decide) ?_
                refine G_istore_3 (pc := 110) dX2_nextOf_110 (by decide) rfl ?_
                refine G_drop_5 ?_
                first | exact go _ (nInv_new hv ⟨hk120, by omega, c41⟩) | exact go _ (nInv_skip hv (fun q => by unfold cand at q; first | omega | exact c41 q.2.2))
              · skip
                exact absurd c45 (by omega)
      · have hr := c.1
        have hlr := c.2.2.1
        refine G_iload_4 (pc := 10) dX2_nextOf_10 ?_
        refine G_bipush (pc := 12) dX2_nextOf_12 (by omega) ?_
        refine G_icmp_ge (pc := 14) 117 dX2_nextOf_14 (by decide) (by omega) (by omega) (fun c14 => ?_) (fun c14 => ?_)
        · skip
          exact absurd c14 (by omega)
        · skip
          refine G_iload_4 (pc := 17) dX2_nextOf_17 ?_
          refine G_iload_2 (pc := 19) dX2_nextOf_19 ?_
          refine G_icmp_eq (pc := 20) 111 dX2_nextOf_20 (by decide) (by omega) (by omega) (fun c20 => ?_) (fun c20 => ?_)
          · skip
            refine G_drop_5 ?_
            first | exact go _ (nInv_skip hv (fun q => by unfold cand at q; first | omega | exact c41 q.2.2)) | exact go _ (nInv_bet tr hv ⟨hk120, by omega, c41⟩ (by unfold bef; omega)) | exact go _ (nInv_keep hv (by unfold bef; omega))
          · skip
            refine G_aload_0 (pc := 23) dX2_nextOf_23 ?_
            refine G_iload_4 (pc := 24) dX2_nextOf_24 ?_
            refine G_aload_0 (pc := 26) dX2_nextOf_26 ?_
            refine G_mref (pc := 27) dX2_nextOf_27 rfl hm rfl ?_
            refine G_iload_2 (pc := 30) dX2_nextOf_30 ?_
            refine G_mi (pc := 31) (n := 120) dX2_nextOf_31 hm rfl rfl rfl (by omega) (fun b31 => ?_)
            refine G_aload_0 (pc := 32) dX2_nextOf_32 ?_
            refine G_mref (pc := 33) dX2_nextOf_33 rfl hm rfl ?_
            refine G_iload_2 (pc := 36) dX2_nextOf_36 ?_
            refine G_mi (pc := 37) (n := 120) dX2_nextOf_37 hm rfl rfl rfl (by omega) (fun b37 => ?_)
            simp only [e1] at *
            refine G_pV3 (pc := 38) dX2_nextOf_38 rfl hm.1 (by decide) rfl (mp_X2_leaves hm (by omega) (by omega) (by omega)) (by omega) (by omega) (by omega) (Nat.le_of_ble_eq_true rfl) ?_
            refine G_ifb_eq (pc := 41) 111 dX2_nextOf_41 (by decide) (fun c41 => ?_) (fun c41 => ?_)
            · skip
              refine G_drop_5 ?_
              first | exact go _ (nInv_skip hv (fun q => by unfold cand at q; first | omega | exact c41 q.2.2)) | exact go _ (nInv_bet tr hv ⟨hk120, by omega, c41⟩ (by unfold bef; omega)) | exact go _ (nInv_keep hv (by unfold bef; omega))
            · skip
              have hlk := c41.1
              have t1 := tt_b (mx S w k)
              have t2 := tt_b (mx S w r)
              have m3 := mxb k r hk120 hlk hr hlr
              refine G_iload_3 (pc := 44) dX2_nextOf_44 ?_
              refine G_if_lt (pc := 45) 92 dX2_nextOf_45 (by decide) (by omega) (fun c45 => ?_) (fun c45 => ?_)
              · skip
                refine G_iconst (pc := 92) dX2_nextOf_92 ?_
                refine G_goto (pc := 93) 97 dX2_nextOf_93 (by decide) ?_
                refine G_istore_5 (pc := 97) dX2_nextOf_97 (by decide) rfl ?_
                refine G_iload_5 (pc := 99) dX2_nextOf_99 ?_
                refine G_if_eq (pc := 101) 109 dX2_nextOf_101 (by decide) (by decide) (fun q => absurd q (by decide)) (fun _ => ?_)
                refine G_iload_4 (pc := 104) dX2_nextOf_104 ?_
                refine G_goto (pc := 106) 110 dX2_nextOf_106 (by decide) ?_
                refine G_istore_3 (pc := 110) dX2_nextOf_110 (by decide) rfl ?_
                refine G_drop_5 ?_
                first | exact go _ (nInv_skip hv (fun q => by unfold cand at q; first | omega | exact c41 q.2.2)) | exact go _ (nInv_bet tr hv ⟨hk120, by omega, c41⟩ (by unfold bef; omega)) | exact go _ (nInv_keep hv (by unfold bef; omega))
              · skip
                refine G_aload_0 (pc := 48) dX2_nextOf_48 ?_
                refine G_iload_2 (pc := 49) dX2_nextOf_49 ?_
                refine G_iload_4 (pc := 50) dX2_nextOf_50 ?_
                refine G_pV2 (pc := 52) dX2_nextOf_52 rfl hm.1 (by decide) rfl (tu (by omega) (by assumption) (by omega) (by assumption)) (by omega) (by omega) (by omega) (Nat.le_of_ble_eq_true rfl) ?_
                refine G_aload_0 (pc := 55) dX2_nextOf_55 ?_
                refine G_iload_2 (pc := 56) dX2_nextOf_56 ?_
                refine G_iload_3 (pc := 57) dX2_nextOf_57 ?_
                refine G_pV2 (pc := 58) dX2_nextOf_58 rfl hm.1 (by decide) rfl (tu (by omega) (by assumption) (by omega) (by assumption)) (by omega) (by omega) (by omega) (Nat.le_of_ble_eq_true rfl) ?_
                refine G_icmp_lt (pc := 61) 92 dX2_nextOf_61 (by decide) (by omega) (by omega) (fun c61 => ?_) (fun c61 => ?_)
                · skip
                  refine G_iconst (pc := 92) dX2_nextOf_92 ?_
                  refine G_goto (pc := 93) 97 dX2_nextOf_93 (by decide) ?_
                  refine G_istore_5 (pc := 97) dX2_nextOf_97 (by decide) rfl ?_
                  refine G_iload_5 (pc := 99) dX2_nextOf_99 ?_
                  refine G_if_eq (pc := 101) 109 dX2_nextOf_101 (by decide) (by decide) (fun q => absurd q (by decide)) (fun _ => ?_)
                  refine G_iload_4 (pc := 104) dX2_nextOf_104 ?_
                  refine G_goto (pc := 106) 110 dX2_nextOf_106 (by decide) ?_
                  refine G_istore_3 (pc := 110) dX2_nextOf_110 (by decide) rfl ?_
                  refine G_drop_5 ?_
                  first | exact go _ (nInv_skip hv (fun q => by unfold cand at q; first | omega | exact c41 q.2.2)) | exact go _ (nInv_bet tr hv ⟨hk120, by omega, c41⟩ (by unfold bef; omega)) | exact go _ (nInv_keep hv (by unfold bef; omega))
                · skip
                  refine G_aload_0 (pc := 64) dX2_nextOf_64 ?_
                  refine G_iload_2 (pc := 65) dX2_nextOf_65 ?_
                  refine G_iload_4 (pc := 66) dX2_nextOf_66 ?_
                  refine G_pV2 (pc := 68) dX2_nextOf_68 rfl hm.1 (by decide) rfl (tu (by omega) (by assumption) (by omega) (by assumption)) (by omega) (by omega) (by omega) (Nat.le_of_ble_eq_true rfl) ?_
                  refine G_aload_0 (pc := 71) dX2_nextOf_71 ?_
                  refine G_iload_2 (pc := 72) dX2_nextOf_72 ?_
                  refine G_iload_3 (pc := 73) dX2_nextOf_73 ?_
                  refine G_pV2 (pc := 74) dX2_nextOf_74 rfl hm.1 (by decide) rfl (tu (by omega) (by assumption) (by omega) (by assumption)) (by omega) (by omega) (by omega) (Nat.le_of_ble_eq_true rfl) ?_
                  refine G_icmp_ne (pc := 77) 96 dX2_nextOf_77 (by decide) (by omega) (by omega) (fun c77 => ?_) (fun c77 => ?_)
                  · skip
                    refine G_iconst (pc := 96) dX2_nextOf_96 ?_
                    refine G_istore_5 (pc := 97) dX2_nextOf_97 (by decide) rfl ?_
                    refine G_iload_5 (pc := 99) dX2_nextOf_99 ?_
                    refine G_if_eq (pc := 101) 109 dX2_nextOf_101 (by decide) (by decide) (fun _ => ?_) (fun q => absurd q (by decide))
                    refine G_iload_3 (pc := 109) dX2_nextOf_109 ?_
                    refine G_istore_3 (pc := 110) dX2_nextOf_110 (by decide) rfl ?_
                    refine G_drop_5 ?_
                    first | exact go _ (nInv_skip hv (fun q => by unfold cand at q; first | omega | exact c41 q.2.2)) | exact go _ (nInv_bet tr hv ⟨hk120, by omega, c41⟩ (by unfold bef; omega)) | exact go _ (nInv_keep hv (by unfold bef; omega))
                  · skip
                    refine G_aload_0 (pc := 80) dX2_nextOf_80 ?_
                    refine G_iload_4 (pc := 81) dX2_nextOf_81 ?_
                    refine G_iload_3 (pc := 83) dX2_nextOf_83 ?_
                    refine G_pV2 (v := vJ (mx S k r)) dX2_nextOf_84 rfl hm.1 (by decide) rfl (mp_X2_crossOf hm (by omega) (by omega) (hB4 hk120 hlk hr hlr)) (by omega) (by omega) (by omega) (Nat.le_of_ble_eq_true rfl) ?_
                    refine G_lconst0 (pc := 87) dX2_nextOf_87 ?_
                    refine G_lcmp_ge (pc := 88) 96 dX2_nextOf_88 dX2_nextOf_89 (by decide) (by omega) (by omega) (fun c88 => ?_) (fun c88 => ?_)
                    · skip
                      refine G_iconst (pc := 96) dX2_nextOf_96 ?_
                      refine G_istore_5 (pc := 97) dX2_nextOf_97 (by decide) rfl ?_
                      refine G_iload_5 (pc := 99) dX2_nextOf_99 ?_
                      refine G_if_eq (pc := 101) 109 dX2_nextOf_101 (by decide) (by decide) (fun _ => ?_) (fun q => absurd q (by decide))
                      refine G_iload_3 (pc := 109) dX2_nextOf_109 ?_
                      refine G_istore_3 (pc := 110) dX2_nextOf_110 (by decide) rfl ?_
                      refine G_drop_5 ?_
                      first | exact go _ (nInv_skip hv (fun q => by unfold cand at q; first | omega | exact c41 q.2.2)) | exact go _ (nInv_bet tr hv ⟨hk120, by omega, c41⟩ (by unfold bef; omega)) | exact go _ (nInv_keep hv (by unfold bef; omega))
                    · skip
                      refine G_iconst (pc := 92) dX2_nextOf_92 ?_
                      refine G_goto (pc := 93) 97 dX2_nextOf_93 (by decide) ?_
                      refine G_istore_5 (pc := 97) dX2_nextOf_97 (by decide) rfl ?_
                      refine G_iload_5 (pc := 99) dX2_nextOf_99 ?_
                      refine G_if_eq (pc := 101) 109 dX2_nextOf_101 (by decide) (by decide) (fun q => absurd q (by decide)) (fun _ => ?_)
                      refine G_iload_4 (pc := 104) dX2_nextOf_104 ?_
                      refine G_goto (pc := 106) 110 dX2_nextOf_106 (by decide) ?_
                      refine G_istore_3 (pc := 110) dX2_nextOf_110 (by decide) rfl ?_
                      refine G_drop_5 ?_
                      first | exact go _ (nInv_skip hv (fun q => by unfold cand at q; first | omega | exact c41 q.2.2)) | exact go _ (nInv_bet tr hv ⟨hk120, by omega, c41⟩ (by unfold bef; omega)) | exact go _ (nInv_keep hv (by unfold bef; omega))
  refine G_iload_1 (pc := 0) dX2_nextOf_0 ?_
  refine G_pS1 (pc := 1) dX2_nextOf_1 rfl rfl (pu_X2_back _ (by omega)) (by omega) (by omega) (by omega) (Nat.le_of_ble_eq_true rfl) ?_
  rw [← ew]
  refine G_istore_2 (pc := 4) dX2_nextOf_4 (by decide) rfl ?_
  refine G_iconst (pc := 5) dX2_nextOf_5 ?_
  refine G_istore_3 (pc := 6) dX2_nextOf_6 (by decide) rfl ?_
  refine G_iconst (pc := 7) dX2_nextOf_7 ?_
  refine G_istore_4 (pc := 8) dX2_nextOf_8 (by decide) rfl ?_
  exact k10 120 0 (-1) rfl (Or.inl ⟨rfl, fun j hj => absurd hj (by omega)⟩)
end MOD3
