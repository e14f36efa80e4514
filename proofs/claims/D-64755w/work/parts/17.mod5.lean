set_option maxRecDepth 100000
def itN (nx : Nat → Nat) : Nat → Nat → Nat
  | 0, h => h
  | n + 1, h => nx (itN nx n h)
def cr (S : mS) (k : Nat) : Int := S.2 2 k * S.2 3 (zB k) - S.2 2 (zB k) * S.2 3 k
/-- first halves, rounds of halves, areas alone are others -/
def mR (S : mS) (Fi Rb Ar : Nat → Int) : mS := (S.1, fun g i => if g = 10 then Fi i else if g = 9 then Rb i else if g = 11 then Ar i else S.2 g i)
theorem mR_ne (S : mS) (Fi Rb Ar : Nat → Int) {g : Nat} (h1 : g ≠ 9) (h2 : g ≠ 10) (h3 : g ≠ 11) (i : Nat) : (mR S Fi Rb Ar).2 g i = S.2 g i := by simp [mR, h1, h2, h3]
theorem mR_set9 (S : mS) (Fi Rb Ar : Nat → Int) (k : Nat) (x : Int) : mU (mR S Fi Rb Ar) 9 k x = mR S Fi (updI Rb k x) Ar := by
  unfold mU mR updI
  refine Prod.ext rfl ?_
  funext g i
  by_cases e : g = 9
  · subst e; by_cases e2 : i = k <;> simp [e2]
  · simp [e]
theorem mR_set10 (S : mS) (Fi Rb Ar : Nat → Int) (k : Nat) (x : Int) : mU (mR S Fi Rb Ar) 10 k x = mR S (updI Fi k x) Rb Ar := by
  unfold mU mR updI
  refine Prod.ext rfl ?_
  funext g i
  by_cases e : g = 10
  · subst e; by_cases e2 : i = k <;> simp [e2]
  · simp [e]
theorem mR_set11 (S : mS) (Fi Rb Ar : Nat → Int) (k : Nat) (x : Int) : mU (mR S Fi Rb Ar) 11 k x = mR S Fi Rb (updI Ar k x) := by
  unfold mU mR updI
  refine Prod.ext rfl ?_
  funext g i
  by_cases e : g = 11
  · subst e; by_cases e2 : i = k <;> simp [e2]
  · simp [e]
theorem mR_self (S : mS) : mR S (S.2 10) (S.2 9) (S.2 11) = S := by
  unfold mR
  refine Prod.ext rfl ?_
  funext g i
  by_cases e : g = 10
  · subst e; simp
  · by_cases e2 : g = 9
    · subst e2; simp
    · by_cases e3 : g = 11
      · subst e3; simp
      · simp [e, e2, e3]
theorem mR_1 (S : mS) (Fi Rb Ar : Nat → Int) : (mR S Fi Rb Ar).1 = S.1 := rfl
theorem mR_2 (S : mS) (Fi Rb Ar : Nat → Int) (i : Nat) : (mR S Fi Rb Ar).2 2 i = S.2 2 i := rfl
theorem mR_3 (S : mS) (Fi Rb Ar : Nat → Int) (i : Nat) : (mR S Fi Rb Ar).2 3 i = S.2 3 i := rfl
theorem mR_5 (S : mS) (Fi Rb Ar : Nat → Int) (i : Nat) : (mR S Fi Rb Ar).2 5 i = S.2 5 i := rfl
theorem mR_9 (S : mS) (Fi Rb Ar : Nat → Int) (i : Nat) : (mR S Fi Rb Ar).2 9 i = Rb i := rfl
theorem mR_10 (S : mS) (Fi Rb Ar : Nat → Int) (i : Nat) : (mR S Fi Rb Ar).2 10 i = Fi i := rfl
theorem mR_11 (S : mS) (Fi Rb Ar : Nat → Int) (i : Nat) : (mR S Fi Rb Ar).2 11 i = Ar i := rfl
theorem updI_self (f : Nat → Int) (k : Nat) (x : Int) : updI f k x k = x := by simp [updI]
theorem updI_upd (f : Nat → Int) (k : Nat) (x y : Int) : updI (updI f k x) k y = updI f k y := by funext i; unfold updI; split <;> rfl
theorem iS_b {n : Nat} {f : Nat → Int} (h : ∀ i, i < n → -1000000000 ≤ f i ∧ f i ≤ 1000000000) : -(1000000000 * (n : Int)) ≤ iS n f ∧ iS n f ≤ 1000000000 * (n : Int) := by
  induction n with
  | zero => simp [iS]
  | succ n ih =>
    have h1 := ih (fun i hi => h i (by omega))
    have h2 := h n (by omega)
    simp only [iS]
    omega
/-- the round of a half, set for the first n of the way from i -/
noncomputable def rdN (nx : Nat → Nat) (i n : Nat) (R : Int) (Rb : Nat → Int) : Nat → Int := fun k => @ite Int (∃ n', n' < n ∧ itN nx n' i = k) (Classical.propDecidable _) R (Rb k)
theorem rdN_succ (nx : Nat → Nat) (i n : Nat) (R : Int) (Rb : Nat → Int) : updI (rdN nx i n R Rb) (itN nx n i) R = rdN nx i (n + 1) R Rb := by
  funext k
  unfold updI rdN
  by_cases e : k = itN nx n i
  · rw [if_pos e, @if_pos _ (Classical.propDecidable _) ⟨n, by omega, e.symm⟩]
  · rw [if_neg e]
    by_cases q : ∃ n', n' < n ∧ itN nx n' i = k
    · obtain ⟨n', a, b⟩ := q
      rw [@if_pos _ (Classical.propDecidable _) ⟨n', a, b⟩, @if_pos _ (Classical.propDecidable _) ⟨n', by omega, b⟩]
    · rw [@if_neg _ (Classical.propDecidable _) q, @if_neg _ (Classical.propDecidable _) (fun ⟨n', a, b⟩ => by
        by_cases q2 : n' = n
        · subst q2; exact e b.symm
        · exact q ⟨n', by omega, b⟩)]
theorem rdN_zero (nx : Nat → Nat) (i : Nat) (R : Int) (Rb : Nat → Int) : rdN nx i 0 R Rb = Rb := by
  funext k
  unfold rdN
  exact @if_neg _ (Classical.propDecidable _) (fun ⟨n', a, _⟩ => by omega) _ _ _
theorem mul_b2 {a b : Int} (ha : -16000 ≤ a ∧ a ≤ 16000) (hb : -16000 ≤ b ∧ b ≤ 16000) : -256000000 ≤ a * b ∧ a * b ≤ 256000000 := by
  have h1 := Int.mul_nonneg (show 0 ≤ 16000 - a by omega) (show 0 ≤ 16000 - b by omega)
  have h2 := Int.mul_nonneg (show 0 ≤ 16000 + a by omega) (show 0 ≤ 16000 + b by omega)
  have h3 := Int.mul_nonneg (show 0 ≤ 16000 - a by omega) (show 0 ≤ 16000 + b by omega)
  have h4 := Int.mul_nonneg (show 0 ≤ 16000 + a by omega) (show 0 ≤ 16000 - b by omega)
  constructor <;> grind
section MOD5
variable {E : gV} {l : Launch} {S : mS}
theorem mo_X2_makeRound (K : zOK (mP S)) {nx : Nat → Nat} (hnx : ∀ k, zL (mP S) k = true → S.2 5 k = nx k ∧ zL (mP S) (nx k) = true) {i : Nat} (hl : zL (mP S) i = true) {R m : Nat} (hR : S.1 8 = R) (hR1 : R < 120) (m0 : 0 < m) (m1 : m ≤ 120) (hm1 : itN nx m i = i) (hm2 : ∀ n, 0 < n → n < m → itN nx n i ≠ i) :
    mOk E l gX2_makeRound 2 [.ref (gBase E + 12), vI i] S (fun v S' => v = none ∧ S' = mUs (mR S (updI (S.2 10) R i) (rdN nx i m R (S.2 9)) (updI (S.2 11) R (iS m (fun n => cr S (itN nx n i))))) 8 (R + 1)) := by
  intro h hm d hd
  have hk := gKeepM_rf E h
  have hi := zL_lt hl
  have hB : ∀ k, zL (mP S) k = true → (-16000 ≤ S.2 2 k ∧ S.2 2 k ≤ 16000) ∧ (-16000 ≤ S.2 3 k ∧ S.2 3 k ≤ 16000) := fun k h1 => K.1 k h1
  have hB2 : ∀ k, zL (mP S) k = true → (-16000 ≤ S.2 2 (zB k) ∧ S.2 2 (zB k) ≤ 16000) ∧ (-16000 ≤ S.2 3 (zB k) ∧ S.2 3 (zB k) ≤ 16000) := fun k h1 => K.1 (zB k) (by rw [zL_B]; exact h1)
  have hLn : ∀ n, zL (mP S) (itN nx n i) = true := by
    intro n
    induction n with
    | zero => exact hl
    | succ n ih => exact (hnx _ ih).2
  have hcr : ∀ k, zL (mP S) k = true → (-256000000 ≤ S.2 2 k * S.2 3 (zB k) ∧ S.2 2 k * S.2 3 (zB k) ≤ 256000000) ∧ (-256000000 ≤ S.2 2 (zB k) * S.2 3 k ∧ S.2 2 (zB k) * S.2 3 k ≤ 256000000) ∧ (-1000000000 ≤ cr S k ∧ cr S k ≤ 1000000000) := by
    intro k hk
    have q1 := hB k hk
    have q2 := hB2 k hk
    have m1 := mul_b2 (a := S.2 2 k) (b := S.2 3 (zB k)) (by omega) (by omega)
    have m2 := mul_b2 (a := S.2 2 (zB k)) (b := S.2 3 k) (by omega) (by omega)
    refine ⟨m1, m2, ?_⟩
    unfold cr
    omega
  refine gOk_of gmok_X2_makeRound rfl (Nat.le_of_ble_eq_true rfl) (L := [some _, some _, none, none]) rfl ?_
  obtain ⟨Q, hQ⟩ : ∃ Q, Q = gRet (fun v h' => ∃ S', zMo E h' S' ∧ gKeepM E h h' ∧ v = none ∧ S' = mUs (mR S (updI (S.2 10) R i) (rdN nx i m R (S.2 9)) (updI (S.2 11) R (iS m (fun n => cr S (itN nx n i))))) 8 (R + 1)) := ⟨_, rfl⟩
  rw [← hQ]
  have k115 : ∀ (h1 : gH) (k : Nat), zMo E h1 (mR S (updI (S.2 10) R i) (rdN nx i m R (S.2 9)) (updI (S.2 11) R (iS m (fun n => cr S (itN nx n i))))) → gKeepM E h h1 → G E l gX2_makeRound d 0 0 Q 115 [some (.ref (gBase E + 12)), some (vI i), some (vI k), some (vI 0)] [] h1 0 0 := by
    intro h1 k hm hk
    refine G_aload_0 (pc := 115) dX2_makeRound_115 ?_
    refine G_dup (pc := 116) dX2_makeRound_116 rfl ?_
    refine G_mget (pc := 117) dX2_makeRound_117 rfl hm rfl rfl (fun b117 => ?_)
    rw [mR_1, hR]
    refine G_iconst (pc := 120) dX2_makeRound_120 ?_
    refine G_iadd (pc := 121) dX2_makeRound_121 ?_
    refine G_mputI (pc := 122) dX2_makeRound_122 rfl hm hk rfl rfl (by omega) (fun h hm hk => ?_)
    refine G_return (pc := 125) dX2_makeRound_125 rfl (by omega) (by omega) ?_
    subst hQ
    exact ⟨_, rfl, _, hm, hk, rfl, rfl⟩
  have loop : ∀ (t n : Nat) (h1 : gH), n + t = m → n < m → zMo E h1 (mR S (updI (S.2 10) R i) (rdN nx i n R (S.2 9)) (updI (S.2 11) R (iS n (fun n => cr S (itN nx n i))))) → gKeepM E h h1 → G E l gX2_makeRound d 0 0 Q 28 [some (.ref (gBase E + 12)), some (vI i), some (vI (itN nx n i)), some (vI 1)] [] h1 0 0 := by
    intro t
    induction t with
    | zero => intro n h1 hn hlt; omega
    | succ t ih =>
      intro n h1 hn hlt hm hk
      have hLk := hLn n
      have hkk := zL_lt hLk
      have hBk := zB_lt hkk
      have b1 := hB _ hLk
      have b2 := hB2 _ hLk
      have b3 := hcr _ hLk
      have b4 := iS_b (n := n) (f := fun n => cr S (itN nx n i)) (fun j _ => (hcr _ (hLn j)).2.2)
      obtain ⟨en, eL⟩ := hnx _ hLk
      have hnk := zL_lt eL
      obtain ⟨k, ek⟩ : ∃ k, k = itN nx n i := ⟨_, rfl⟩
      have hsucc : itN nx (n + 1) i = nx k := by rw [ek]; rfl
      have hacc : iS (n + 1) (fun n => cr S (itN nx n i)) = iS n (fun n => cr S (itN nx n i)) + S.2 2 k * S.2 3 (zB k) - S.2 2 (zB k) * S.2 3 k := by
        simp only [iS]
        rw [← ek]
        unfold cr
        omega
      have hrd := rdN_succ nx i n R (S.2 9)
      rw [← ek] at hLk hkk hBk b1 b2 b3 en eL hnk hrd ⊢
      refine G_aload_0 (pc := 28) dX2_makeRound_28 ?_
      refine G_mref (pc := 29) dX2_makeRound_29 rfl hm rfl ?_
      refine G_iload_2 (pc := 32) dX2_makeRound_32 ?_
      refine G_aload_0 (pc := 33) dX2_makeRound_33 ?_
      refine G_mget (pc := 34) dX2_makeRound_34 rfl hm rfl rfl (fun b34 => ?_)
      rw [mR_1, hR]
      refine G_mis (pc := 37) (n := 120) dX2_makeRound_37 hm hk rfl rfl rfl (by omega) (by omega) (fun h hm hk => ?_)
      rw [Int.toNat_natCast, mR_set9, hrd] at hm
      refine G_aload_0 (pc := 38) dX2_makeRound_38 ?_
      refine G_mref (pc := 39) dX2_makeRound_39 rfl hm rfl ?_
      refine G_aload_0 (pc := 42) dX2_makeRound_42 ?_
      refine G_mget (pc := 43) dX2_makeRound_43 rfl hm rfl rfl (fun b43 => ?_)
      rw [mR_1, hR]
      refine G_aload_0 (pc := 46) dX2_makeRound_46 ?_
      refine G_mref (pc := 47) dX2_makeRound_47 rfl hm rfl ?_
      refine G_aload_0 (pc := 50) dX2_makeRound_50 ?_
      refine G_mget (pc := 51) dX2_makeRound_51 rfl hm rfl rfl (fun b51 => ?_)
      rw [mR_1, hR]
      refine G_ml (pc := 54) dX2_makeRound_54 hm (by omega) (fun b54 => ?_)
      rw [Int.toNat_natCast, mR_11, updI_self]
      refine G_aload_0 (pc := 55) dX2_makeRound_55 ?_
      refine G_mref (pc := 56) dX2_makeRound_56 rfl hm rfl ?_
      refine G_iload_2 (pc := 59) dX2_makeRound_59 ?_
      refine G_mi (pc := 60) (n := 120) dX2_makeRound_60 hm rfl rfl rfl (by omega) (fun b60 => ?_)
      rw [mR_2, Int.toNat_natCast]
      refine G_i2l (pc := 61) dX2_makeRound_61 (by omega) ?_
      refine G_aload_0 (pc := 62) dX2_makeRound_62 ?_
      refine G_mref (pc := 63) dX2_makeRound_63 rfl hm rfl ?_
      refine G_iload_2 (pc := 66) dX2_makeRound_66 ?_
      refine G_pS1 (pc := 67) dX2_makeRound_67 rfl rfl (pu_X2_back _ (by omega)) (by omega) (by omega) (by omega) (Nat.le_of_ble_eq_true rfl) ?_
      refine G_mi (pc := 70) (n := 120) dX2_makeRound_70 hm rfl rfl rfl (by omega) (fun b70 => ?_)
      rw [mR_3, Int.toNat_natCast]
      refine G_i2l (pc := 71) dX2_makeRound_71 (by omega) ?_
      refine G_lmul (pc := 72) dX2_makeRound_72 ?_
      refine G_ladd (pc := 73) dX2_makeRound_73 ?_
      refine G_aload_0 (pc := 74) dX2_makeRound_74 ?_
      refine G_mref (pc := 75) dX2_makeRound_75 rfl hm rfl ?_
      refine G_iload_2 (pc := 78) dX2_makeRound_78 ?_
      refine G_pS1 (pc := 79) dX2_makeRound_79 rfl rfl (pu_X2_back _ (by omega)) (by omega) (by omega) (by omega) (Nat.le_of_ble_eq_true rfl) ?_
      refine G_mi (pc := 82) (n := 120) dX2_makeRound_82 hm rfl rfl rfl (by omega) (fun b82 => ?_)
      rw [mR_2, Int.toNat_natCast]
      refine G_i2l (pc := 83) dX2_makeRound_83 (by omega) ?_
      refine G_aload_0 (pc := 84) dX2_makeRound_84 ?_
      refine G_mref (pc := 85) dX2_makeRound_85 rfl hm rfl ?_
      refine G_iload_2 (pc := 88) dX2_makeRound_88 ?_
      refine G_mi (pc := 89) (n := 120) dX2_makeRound_89 hm rfl rfl rfl (by omega) (fun b89 => ?_)
      rw [mR_3, Int.toNat_natCast]
      refine G_i2l (pc := 90) dX2_makeRound_90 (by omega) ?_
      refine G_lmul (pc := 91) dX2_makeRound_91 ?_
      refine G_lsub (pc := 92) dX2_makeRound_92 ?_
      refine G_mls (pc := 93) dX2_makeRound_93 hm hk (by omega) (by omega) (fun h hm hk => ?_)
      rw [Int.toNat_natCast, mR_set11, updI_upd, ← hacc] at hm
      refine G_aload_0 (pc := 94) dX2_makeRound_94 ?_
      refine G_mref (pc := 95) dX2_makeRound_95 rfl hm rfl ?_
      refine G_iload_2 (pc := 98) dX2_makeRound_98 ?_
      refine G_mi (pc := 99) (n := 120) dX2_makeRound_99 hm rfl rfl rfl (by omega) (fun b99 => ?_)
      rw [mR_5, Int.toNat_natCast, en]
      refine G_istore_2 (pc := 100) dX2_makeRound_100 (by decide) rfl ?_
      refine G_iload_2 (pc := 101) dX2_makeRound_101 ?_
      refine G_iload_1 (pc := 102) dX2_makeRound_102 ?_
      refine G_icmp_eq (pc := 103) 110 dX2_makeRound_103 (by decide) (by omega) (by omega) (fun c103 => ?_) (fun c103 => ?_)
      · skip
        have q : n + 1 = m := by
          rcases Nat.lt_or_ge (n + 1) m with q | q
          · exact absurd (by rw [hsucc]; omega) (hm2 (n + 1) (by omega) q)
          · omega
        rw [q] at hm
        refine G_iconst (pc := 110) dX2_makeRound_110 ?_
        refine G_istore_3 (pc := 111) dX2_makeRound_111 (by decide) rfl ?_
        refine G_goto (pc := 112) 24 dX2_makeRound_112 (by decide) ?_
        refine G_iload_3 (pc := 24) dX2_makeRound_24 ?_
        refine G_if_eq (pc := 25) 115 dX2_makeRound_25 (by decide) (by decide) (fun _ => ?_) (fun q => absurd q (by decide))
        exact k115 _ _ hm hk
      · skip
        have q : n + 1 < m := by
          rcases Nat.lt_or_ge (n + 1) m with q | q
          · exact q
          · exact absurd (show ((nx k : Nat) : Int) = i by rw [← hsucc, show n + 1 = m by omega, hm1]) c103
        refine G_iconst (pc := 106) dX2_makeRound_106 ?_
        refine G_goto (pc := 107) 111 dX2_makeRound_107 (by decide) ?_
        refine G_istore_3 (pc := 111) dX2_makeRound_111 (by decide) rfl ?_
        refine G_goto (pc := 112) 24 dX2_makeRound_112 (by decide) ?_
        refine G_iload_3 (pc := 24) dX2_makeRound_24 ?_
        refine G_if_eq (pc := 25) 115 dX2_makeRound_25 (by decide) (by decide) (fun q => absurd q (by decide)) (fun _ => ?_)
        rw [← hsucc]
        exact ih (n + 1) _ (by omega) q hm hk
  refine G_aload_0 (pc := 0) dX2_makeRound_0 ?_
  refine G_mref (pc := 1) dX2_makeRound_1 rfl hm rfl ?_
  refine G_aload_0 (pc := 4) dX2_makeRound_4 ?_
  refine G_mget (pc := 5) dX2_makeRound_5 rfl hm rfl rfl (fun b5 => ?_)
  refine G_iload_1 (pc := 8) dX2_makeRound_8 ?_
  rw [hR]
  refine G_mis (pc := 9) (n := 120) dX2_makeRound_9 hm hk rfl rfl rfl (by omega) (by omega) (fun h hm hk => ?_)
  rw [Int.toNat_natCast] at hm
  refine G_aload_0 (pc := 10) dX2_makeRound_10 ?_
  refine G_mref (pc := 11) dX2_makeRound_11 rfl hm rfl ?_
  refine G_aload_0 (pc := 14) dX2_makeRound_14 ?_
  refine G_mget (pc := 15) dX2_makeRound_15 rfl hm rfl rfl (fun b15 => ?_)
  rw [show (mU S 10 R i).1 8 = (R : Int) from hR]
  refine G_lconst0 (pc := 18) dX2_makeRound_18 ?_
  refine G_mls (pc := 19) dX2_makeRound_19 hm hk (by omega) (by omega) (fun h hm hk => ?_)
  rw [Int.toNat_natCast] at hm
  refine G_iload_1 (pc := 20) dX2_makeRound_20 ?_
  refine G_istore_2 (pc := 21) dX2_makeRound_21 (by decide) rfl ?_
  refine G_iconst (pc := 22) dX2_makeRound_22 ?_
  refine G_istore_3 (pc := 23) dX2_makeRound_23 (by decide) rfl ?_
  refine G_iload_3 (pc := 24) dX2_makeRound_24 ?_
  refine G_if_eq (pc := 25) 115 dX2_makeRound_25 (by decide) (by decide) (fun q => absurd q (by decide)) (fun _ => ?_)
  refine loop m 0 _ (by omega) m0 ?_ hk
  rw [rdN_zero]
  have e : mU (mU S 10 R i) 11 R 0 = mR S (updI (S.2 10) R i) (S.2 9) (updI (S.2 11) R 0) := by
    rw [← mR_set11, ← mR_set10, mR_self]
  rw [e] at hm
  exact hm
end MOD5
