set_option maxRecDepth 100000
def lcd (S : mS) (x y but : Int) (n : Nat) (b : Int) : Prop := 0 < S.2 11 n ∧ S.2 6 (S.2 10 n).toNat ≠ but ∧ (b < 0 ∨ S.2 11 n < S.2 11 b.toNat) ∧ cW S n x y 120 % 2 = 1
noncomputable def lsR (S : mS) (x y but : Int) : Nat → Int
  | 0 => -1
  | n + 1 => zI (lcd S x y but n (lsR S x y but n)) (n : Int) (lsR S x y but n)
theorem lsR_b (S : mS) (x y but : Int) (n : Nat) : -1 ≤ lsR S x y but n ∧ lsR S x y but n < n := by
  induction n with
  | zero => simp [lsR]
  | succ n ih =>
    by_cases c : lcd S x y but n (lsR S x y but n)
    · rw [lsR, zI_pos c]; omega
    · rw [lsR, zI_neg c]; omega
section MOD7
variable {E : gV} {l : Launch} {S : mS}
theorem mp_X2_least {h : gH} (hm : zMo E h S) (K : zOK (mP S)) {R : Nat} (hR : S.1 8 = R) (hR1 : R ≤ 120) (hF : ∀ r, r < R → 0 ≤ S.2 10 r ∧ S.2 10 r < 120) {x y but : Int} (hx : -16000 ≤ x ∧ x ≤ 16000) (hy : -16000 ≤ y ∧ y ≤ 16000) (hb : -2147483648 ≤ but ∧ but ≤ 2147483647) :
    gPu E l gX2_least 4 [.ref (gBase E + 12), vI x, vI y, vI but] h (vI (lsR S x y but R)) := by
  intro d hd
  refine gOk_of gmok_X2_least rfl (Nat.le_of_ble_eq_true rfl) (L := [some _, some _, some _, some _, none, none, none]) rfl ?_
  obtain ⟨Q, hQ⟩ : ∃ Q, Q = gRet (gRv fun v h' => v = vI (lsR S x y but R) ∧ h' = h) := ⟨_, rfl⟩
  rw [← hQ]
  have k6 : ∀ (n k : Nat), k + n = R → G E l gX2_least d 0 0 Q 6 [some (.ref (gBase E + 12)), some (vI x), some (vI y), some (vI but), some (vI (lsR S x y but k)), some (vI k), none] [] h 0 0 := by
    intro n
    induction n with
    | zero =>
      intro k hn
      have ek : k = R := by omega
      subst ek
      refine G_iload_5 (pc := 6) dX2_least_6 ?_
      refine G_aload_0 (pc := 8) dX2_least_8 ?_
      refine G_mget (pc := 9) dX2_least_9 rfl hm rfl rfl (fun b9 => ?_)
      rw [hR]
      refine G_icmp_ge (pc := 12) 104 dX2_least_12 (by decide) (by omega) (by omega) (fun c12 => ?_) (fun c12 => ?_)
      · skip
        refine G_iload_4 (pc := 104) dX2_least_104 ?_
        refine G_ireturn (pc := 106) dX2_least_106 rfl rfl (by omega) (by omega) ?_
        subst hQ
        exact ⟨_, rfl, _, rfl, rfl, rfl⟩
      · skip
        exact absurd c12 (by omega)
    | succ n ih =>
      intro k hn
      have hkR : k < R := by omega
      have hbb := lsR_b S x y but k
      have hf := hF k hkR
      have go : ∀ b : Int, b = lsR S x y but (k + 1) → G E l gX2_least d 0 0 Q 98 [some (.ref (gBase E + 12)), some (vI x), some (vI y), some (vI but), some (vI b), some (vI k), none] [] h 0 0 := by
        intro b hb
        subst hb
        refine G_iinc_5 (pc := 98) dX2_least_98 (by decide) rfl ?_
        refine G_goto (pc := 101) 6 dX2_least_101 (by decide) ?_
        rw [show ((k : Int) + 1) = ((k + 1 : Nat) : Int) by omega]
        exact ih (k + 1) (by omega)
      have gp : lcd S x y but k (lsR S x y but k) → (k : Int) = lsR S x y but (k + 1) := fun c => by rw [lsR, zI_pos c]
      have gn : ¬ lcd S x y but k (lsR S x y but k) → lsR S x y but k = lsR S x y but (k + 1) := fun c => by rw [lsR, zI_neg c]
      unfold lcd at gp gn
      refine G_iload_5 (pc := 6) dX2_least_6 ?_
      refine G_aload_0 (pc := 8) dX2_least_8 ?_
      refine G_mget (pc := 9) dX2_least_9 rfl hm rfl rfl (fun b9 => ?_)
      rw [hR]
      refine G_icmp_ge (pc := 12) 104 dX2_least_12 (by decide) (by omega) (by omega) (fun c12 => ?_) (fun c12 => ?_)
      · skip
        exact absurd c12 (by omega)
      · skip
        refine G_aload_0 (pc := 15) dX2_least_15 ?_
        refine G_mref (pc := 16) dX2_least_16 rfl hm rfl ?_
        refine G_iload_5 (pc := 19) dX2_least_19 ?_
        refine G_ml (pc := 21) dX2_least_21 hm (by omega) (fun b21 => ?_)
        rw [Int.toNat_natCast] at *
        refine G_lconst0 (pc := 22) dX2_least_22 ?_
        refine G_lcmp_le (pc := 23) 70 dX2_least_23 dX2_least_24 (by decide) (by omega) (by omega) (fun c23 => ?_) (fun c23 => ?_)
        · skip
          refine G_iconst (pc := 70) dX2_least_70 ?_
          refine G_istore_6 (pc := 71) dX2_least_71 (by decide) rfl ?_
          refine G_iload_6 (pc := 73) dX2_least_73 ?_
          refine G_if_eq (pc := 75) 94 dX2_least_75 (by decide) (by decide) (fun _ => ?_) (fun q => absurd q (by decide))
          refine G_iload_4 (pc := 94) dX2_least_94 ?_
          refine G_istore_4 (pc := 96) dX2_least_96 (by decide) rfl ?_
          refine G_drop_6 ?_
          first | exact go _ (gp ⟨by omega, by omega, by omega, c86⟩) | exact go _ (gn (fun z => by first | omega | exact c86 z.2.2.2))
        · skip
          refine G_aload_0 (pc := 27) dX2_least_27 ?_
          refine G_mref (pc := 28) dX2_least_28 rfl hm rfl ?_
          refine G_aload_0 (pc := 31) dX2_least_31 ?_
          refine G_mref (pc := 32) dX2_least_32 rfl hm rfl ?_
          refine G_iload_5 (pc := 35) dX2_least_35 ?_
          refine G_mi (pc := 37) (n := 120) dX2_least_37 hm rfl rfl rfl (by omega) (fun b37 => ?_)
          rw [Int.toNat_natCast] at *
          refine G_mi (pc := 38) (n := 120) dX2_least_38 hm rfl rfl rfl (by omega) (fun b38 => ?_)
          refine G_iload_3 (pc := 39) dX2_least_39 ?_
          refine G_icmp_eq (pc := 40) 70 dX2_least_40 (by decide) (by omega) (by omega) (fun c40 => ?_) (fun c40 => ?_)
          · skip
            refine G_iconst (pc := 70) dX2_least_70 ?_
            refine G_istore_6 (pc := 71) dX2_least_71 (by decide) rfl ?_
            refine G_iload_6 (pc := 73) dX2_least_73 ?_
            refine G_if_eq (pc := 75) 94 dX2_least_75 (by decide) (by decide) (fun _ => ?_) (fun q => absurd q (by decide))
            refine G_iload_4 (pc := 94) dX2_least_94 ?_
            refine G_istore_4 (pc := 96) dX2_least_96 (by decide) rfl ?_
            refine G_drop_6 ?_
            first | exact go _ (gp ⟨by omega, by omega, by omega, c86⟩) | exact go _ (gn (fun z => by first | omega | exact c86 z.2.2.2))
          · skip
            refine G_iload_4 (pc := 43) dX2_least_43 ?_
            refine G_if_lt (pc := 45) 66 dX2_least_45 (by decide) (by omega) (fun c45 => ?_) (fun c45 => ?_)
            · skip
              refine G_iconst (pc := 66) dX2_least_66 ?_
              refine G_goto (pc := 67) 71 dX2_least_67 (by decide) ?_
              refine G_istore_6 (pc := 71) dX2_least_71 (by decide) rfl ?_
              refine G_iload_6 (pc := 73) dX2_least_73 ?_
              refine G_if_eq (pc := 75) 94 dX2_least_75 (by decide) (by decide) (fun q => absurd q (by decide)) (fun _ => ?_)
              refine G_aload_0 (pc := 78) dX2_least_78 ?_
              refine G_iload_5 (pc := 79) dX2_least_79 ?_
              refine G_iload_1 (pc := 81) dX2_least_81 ?_
              refine G_iload_2 (pc := 82) dX2_least_82 ?_
              refine G_pV3 (pc := 83) dX2_least_83 rfl hm.1 (by decide) rfl (mp_X2_isWithin hm K (by omega) (by omega) (by omega)) (by omega) (by omega) (by omega) (Nat.le_of_ble_eq_true rfl) ?_
              refine G_ifb_eq (pc := 86) 94 dX2_least_86 (by decide) (fun c86 => ?_) (fun c86 => ?_)
              · skip
                refine G_iload_4 (pc := 94) dX2_least_94 ?_
                refine G_istore_4 (pc := 96) dX2_least_96 (by decide) rfl ?_
                refine G_drop_6 ?_
                first | exact go _ (gp ⟨by omega, by omega, by omega, c86⟩) | exact go _ (gn (fun z => by first | omega | exact c86 z.2.2.2))
              · skip
                refine G_iload_5 (pc := 89) dX2_least_89 ?_
                refine G_goto (pc := 91) 96 dX2_least_91 (by decide) ?_
                refine G_istore_4 (pc := 96) dX2_least_96 (by decide) rfl ?_
                refine G_drop_6 ?_
                first | exact go _ (gp ⟨by omega, by omega, by omega, c86⟩) | exact go _ (gn (fun z => by first | omega | exact c86 z.2.2.2))
            · skip
              refine G_aload_0 (pc := 48) dX2_least_48 ?_
              refine G_mref (pc := 49) dX2_least_49 rfl hm rfl ?_
              refine G_iload_5 (pc := 52) dX2_least_52 ?_
              refine G_ml (pc := 54) dX2_least_54 hm (by omega) (fun b54 => ?_)
              rw [Int.toNat_natCast] at *
              refine G_aload_0 (pc := 55) dX2_least_55 ?_
              refine G_mref (pc := 56) dX2_least_56 rfl hm rfl ?_
              refine G_iload_4 (pc := 59) dX2_least_59 ?_
              refine G_ml (pc := 61) dX2_least_61 hm (by omega) (fun b61 => ?_)
              refine G_lcmp_ge (pc := 62) 70 dX2_least_62 dX2_least_63 (by decide) (by omega) (by omega) (fun c62 => ?_) (fun c62 => ?_)
              · skip
                refine G_iconst (pc := 70) dX2_least_70 ?_
                refine G_istore_6 (pc := 71) dX2_least_71 (by decide) rfl ?_
                refine G_iload_6 (pc := 73) dX2_least_73 ?_
                refine G_if_eq (pc := 75) 94 dX2_least_75 (by decide) (by decide) (fun _ => ?_) (fun q => absurd q (by decide))
                refine G_iload_4 (pc := 94) dX2_least_94 ?_
                refine G_istore_4 (pc := 96) dX2_least_96 (by decide) rfl ?_
                refine G_drop_6 ?_
                first | exact go _ (gp ⟨by omega, by omega, by omega, c86⟩) | exact go _ (gn (fun z => by first | omega | exact c86 z.2.2.2))
              · skip
                refine G_iconst (pc := 66) dX2_least_66 ?_
                refine G_goto (pc := 67) 71 dX2_least_67 (by decide) ?_
                refine G_istore_6 (pc := 71) dX2_least_71 (by decide) rfl ?_
                refine G_iload_6 (pc := 73) dX2_least_73 ?_
                refine G_if_eq (pc := 75) 94 dX2_least_75 (by decide) (by decide) (fun q => absurd q (by decide)) (fun _ => ?_)
                refine G_aload_0 (pc := 78) dX2_least_78 ?_
                refine G_iload_5 (pc := 79) dX2_least_79 ?_
                refine G_iload_1 (pc := 81) dX2_least_81 ?_
                refine G_iload_2 (pc := 82) dX2_least_82 ?_
                refine G_pV3 (pc := 83) dX2_least_83 rfl hm.1 (by decide) rfl (mp_X2_isWithin hm K (by omega) (by omega) (by omega)) (by omega) (by omega) (by omega) (Nat.le_of_ble_eq_true rfl) ?_
                refine G_ifb_eq (pc := 86) 94 dX2_least_86 (by decide) (fun c86 => ?_) (fun c86 => ?_)
                · skip
                  refine G_iload_4 (pc := 94) dX2_least_94 ?_
                  refine G_istore_4 (pc := 96) dX2_least_96 (by decide) rfl ?_
                  refine G_drop_6 ?_
                  first | exact go _ (gp ⟨by omega, by omega, by omega, c86⟩) | exact go _ (gn (fun z => by first | omega | exact c86 z.2.2.2))
                · skip
                  refine G_iload_5 (pc := 89) dX2_least_89 ?_
                  refine G_goto (pc := 91) 96 dX2_least_91 (by decide) ?_
                  refine G_istore_4 (pc := 96) dX2_least_96 (by decide) rfl ?_
                  refine G_drop_6 ?_
                  first | exact go _ (gp ⟨by omega, by omega, by omega, c86⟩) | exact go _ (gn (fun z => by first | omega | exact c86 z.2.2.2))
  refine G_iconst (pc := 0) dX2_least_0 ?_
  refine G_istore_4 (pc := 1) dX2_least_1 (by decide) rfl ?_
  refine G_iconst (pc := 3) dX2_least_3 ?_
  refine G_istore_5 (pc := 4) dX2_least_4 (by decide) rfl ?_
  exact k6 R 0 (by omega)
/-- the round whose face a round has part in -/
noncomputable def ofR (S : mS) (R r : Nat) : Int := zI (0 < S.2 11 r) (r : Int) (lsR S (S.2 2 (S.2 10 r).toNat) (S.2 3 (S.2 10 r).toNat) (S.2 6 (S.2 10 r).toNat) R)
theorem ofR_b (S : mS) {R r : Nat} (h : r < R) : -1 ≤ ofR S R r ∧ ofR S R r < R := by
  unfold ofR
  by_cases c : 0 < S.2 11 r
  · rw [zI_pos c]; omega
  · rw [zI_neg c]; exact lsR_b _ _ _ _ _
/-- faces, numbers of rounds' faces, faces of rounds, when n rounds are numbered -/
noncomputable def nmR (S : mS) (R : Nat) (F0 : Nat → Int) : Nat → Int × (Nat → Int) × (Nat → Int)
  | 0 => (1, fun _ => -1, F0)
  | n + 1 =>
    let q := nmR S R F0 n
    zI (ofR S R n < 0) (q.1, q.2.1, updI q.2.2 n 0)
      (zI (q.2.1 (ofR S R n).toNat < 0) (q.1 + 1, updI q.2.1 (ofR S R n).toNat q.1, updI q.2.2 n q.1)
        (q.1, q.2.1, updI q.2.2 n (q.2.1 (ofR S R n).toNat)))
def mN (S : mS) (f : Int) (N F : Nat → Int) : mS := (fun g => if g = 12 then f else S.1 g, fun g i => if g = 14 then N i else if g = 13 then F i else S.2 g i)
theorem mN_set14 (S : mS) (f : Int) (N F : Nat → Int) (k : Nat) (x : Int) : mU (mN S f N F) 14 k x = mN S f (updI N k x) F := by
  unfold mU mN updI
  refine Prod.ext rfl ?_
  funext g i
  by_cases e : g = 14
  · subst e; by_cases e2 : i = k <;> simp [e2]
  · simp [e]
theorem mN_set13 (S : mS) (f : Int) (N F : Nat → Int) (k : Nat) (x : Int) : mU (mN S f N F) 13 k x = mN S f N (updI F k x) := by
  unfold mU mN updI
  refine Prod.ext rfl ?_
  funext g i
  by_cases e : g = 13
  · subst e; by_cases e2 : i = k <;> simp [e2]
  · simp [e]
theorem mN_set12 (S : mS) (f : Int) (N F : Nat → Int) (x : Int) : mUs (mN S f N F) 12 x = mN S x N F := by
  unfold mUs mN
  refine Prod.ext ?_ rfl
  funext g
  by_cases e : g = 12 <;> simp [e]
theorem nmR_b (S : mS) {R : Nat} (F0 : Nat → Int) {n : Nat} (h : n ≤ R) : 1 ≤ (nmR S R F0 n).1 ∧ (nmR S R F0 n).1 ≤ n + 1 ∧ ∀ v, -1 ≤ (nmR S R F0 n).2.1 v ∧ (nmR S R F0 n).2.1 v ≤ n := by
  induction n with
  | zero => simp [nmR]
  | succ n ih =>
    obtain ⟨h1, h2, h3⟩ := ih (by omega)
    simp only [nmR]
    by_cases c : ofR S R n < 0
    · rw [zI_pos c]
      exact ⟨h1, by simp only []; omega, fun v => by have := h3 v; simp only []; omega⟩
    · rw [zI_neg c]
      by_cases c2 : (nmR S R F0 n).2.1 (ofR S R n).toNat < 0
      · rw [zI_pos c2]
        refine ⟨by simp only []; omega, by simp only []; omega, fun v => ?_⟩
        have := h3 v
        simp only [updI]
        split <;> omega
      · rw [zI_neg c2]
        exact ⟨h1, by simp only []; omega, fun v => by have := h3 v; simp only []; omega⟩
theorem mN_ls (S : mS) (f : Int) (N F : Nat → Int) (x y but : Int) (n : Nat) : lsR (mN S f N F) x y but n = lsR S x y but n := by
  induction n with
  | zero => rfl
  | succ n ih =>
    simp only [lsR]
    rw [ih]
    rfl
theorem mo_X2_number (K : zOK (mP S)) {R : Nat} (hR : S.1 8 = R) (hR1 : R ≤ 120) (hF : ∀ r, r < R → 0 ≤ S.2 10 r ∧ S.2 10 r < 120 ∧ S.2 1 ((S.2 10 r).toNat / 2) = 1) :
    mOk E l gX2_number 5 [.ref (gBase E + 12)] S (fun v S' => v = none ∧ ∃ N, S' = mN S (nmR S R (S.2 13) R).1 N (nmR S R (S.2 13) R).2.2) := by
  intro h hm d hd
  have hk := gKeepM_rf E h
  refine gOk_of gmok_X2_number rfl (Nat.le_of_ble_eq_true rfl) (L := [some _, none, none, none]) rfl ?_
  obtain ⟨Q, hQ⟩ : ∃ Q, Q = gRet (fun v h' => ∃ S', zMo E h' S' ∧ gKeepM E h h' ∧ v = none ∧ ∃ N, S' = mN S (nmR S R (S.2 13) R).1 N (nmR S R (S.2 13) R).2.2) := ⟨_, rfl⟩
  rw [← hQ]
  have k30 : ∀ (n r : Nat) (h1 : gH) (N : Nat → Int), r + n = R → zMo E h1 (mN S (nmR S R (S.2 13) r).1 N (nmR S R (S.2 13) r).2.2) → gKeepM E h h1 → (∀ v, v < R → N v = (nmR S R (S.2 13) r).2.1 v) → G E l gX2_number d 0 0 Q 30 [some (.ref (gBase E + 12)), some (vI r), none, none] [] h1 0 0 := by
    intro n
    induction n with
    | zero =>
      intro r h1 N hn hm hk hN
      have er : r = R := by omega
      subst er
      refine G_iload_1 (pc := 30) dX2_number_30 ?_
      refine G_aload_0 (pc := 31) dX2_number_31 ?_
      refine G_mget (pc := 32) dX2_number_32 rfl hm rfl rfl (fun b32 => ?_)
      rw [show (mN S (nmR S r (S.2 13) r).1 N (nmR S r (S.2 13) r).2.2).1 8 = (r : Int) from hR]
      refine G_icmp_ge (pc := 35) 144 dX2_number_35 (by decide) (by omega) (by omega) (fun c35 => ?_) (fun c35 => ?_)
      · skip
        refine G_return (pc := 144) dX2_number_144 rfl (by omega) (by omega) ?_
        subst hQ
        exact ⟨_, rfl, _, hm, hk, rfl, N, rfl⟩
      · skip
        exact absurd c35 (by omega)
    | succ n ih =>
      intro r h1 N hn hm hk hN
      have hrR : r < R := by omega
      obtain ⟨qf, eq1⟩ : ∃ z, z = (nmR S R (S.2 13) r).1 := ⟨_, rfl⟩
      obtain ⟨qF, eq2⟩ : ∃ z, z = (nmR S R (S.2 13) r).2.2 := ⟨_, rfl⟩
      have hb := nmR_b S (S.2 13) (show r ≤ R by omega)
      have hf := hF r hrR
      have hob := ofR_b S hrR
      have hl0 : zL (mP S) (S.2 10 r).toNat = true := mP_L.mpr ⟨by omega, hf.2.2⟩
      have hxy : (-16000 ≤ S.2 2 (S.2 10 r).toNat ∧ S.2 2 (S.2 10 r).toNat ≤ 16000) ∧ (-16000 ≤ S.2 3 (S.2 10 r).toNat ∧ S.2 3 (S.2 10 r).toNat ≤ 16000) := K.1 _ hl0
      have hstep : nmR S R (S.2 13) (r + 1) = zI (ofR S R r < 0) ((nmR S R (S.2 13) r).1, (nmR S R (S.2 13) r).2.1, updI (nmR S R (S.2 13) r).2.2 r 0)
          (zI ((nmR S R (S.2 13) r).2.1 (ofR S R r).toNat < 0) ((nmR S R (S.2 13) r).1 + 1, updI (nmR S R (S.2 13) r).2.1 (ofR S R r).toNat (nmR S R (S.2 13) r).1, updI (nmR S R (S.2 13) r).2.2 r (nmR S R (S.2 13) r).1)
            ((nmR S R (S.2 13) r).1, (nmR S R (S.2 13) r).2.1, updI (nmR S R (S.2 13) r).2.2 r ((nmR S R (S.2 13) r).2.1 (ofR S R r).toNat))) := rfl
      have go : ∀ (h2 : gH) (f' : Int) (N' F' : Nat → Int), zMo E h2 (mN S f' N' F') → gKeepM E h h2 → (nmR S R (S.2 13) (r + 1)).1 = f' → (nmR S R (S.2 13) (r + 1)).2.2 = F' → (∀ v, v < R → N' v = (nmR S R (S.2 13) (r + 1)).2.1 v) → G E l gX2_number d 0 0 Q 138 [some (.ref (gBase E + 12)), some (vI r), none, none] [] h2 0 0 := by
        intro h2 f' N' F' hm hk e1 e2 hN'
        refine G_iinc_1 (pc := 138) dX2_number_138 (by decide) rfl ?_
        refine G_goto (pc := 141) 30 dX2_number_141 (by decide) ?_
        rw [show ((r : Int) + 1) = ((r + 1 : Nat) : Int) by omega]
        exact ih (r + 1) h2 N' (by omega) (by rw [e1, e2]; exact hm) hk hN'
      rw [← eq1, ← eq2] at hm
      have k82 : ∀ z : Int, z = ofR S R r → G E l gX2_number d 0 0 Q 82 [some (.ref (gBase E + 12)), some (vI r), some (vI (S.2 10 r)), none] [vI z] h1 0 0 := by
        intro z hz
        rw [← hz] at hob hstep
        by_cases c : z < 0
        · rw [zI_pos c] at hstep
          refine G_istore_3 (pc := 82) dX2_number_82 (by decide) rfl ?_
          refine G_iload_3 (pc := 83) dX2_number_83 ?_
          refine G_if_ge (pc := 84) 97 dX2_number_84 (by decide) (by omega) (fun c84 => ?_) (fun c84 => ?_)
          · skip
            exact absurd c84 (by omega)
          · skip
            refine G_aload_0 (pc := 87) dX2_number_87 ?_
            refine G_mref (pc := 88) dX2_number_88 rfl hm rfl ?_
            refine G_iload_1 (pc := 91) dX2_number_91 ?_
            refine G_iconst (pc := 92) dX2_number_92 ?_
            refine G_mis (pc := 93) (n := 120) dX2_number_93 hm hk rfl rfl rfl (by omega) (by omega) (fun h hm hk => ?_)
            rw [Int.toNat_natCast, mN_set13] at hm
            refine G_goto (pc := 94) 138 dX2_number_94 (by decide) ?_
            refine G_drop_2 ?_
            refine G_drop_3 ?_
            refine go _ _ _ _ hm hk (by rw [hstep, eq1]) (by rw [hstep, eq2]) (fun v hv => by rw [hstep]; exact hN v hv)
        · rw [zI_neg c] at hstep
          have hNz := hN z.toNat (by omega)
          have hbz := hb.2.2 z.toNat
          by_cases c2 : (nmR S R (S.2 13) r).2.1 z.toNat < 0
          · rw [zI_pos c2] at hstep
            rw [← eq1] at hb hstep
            rw [← eq2] at hstep
            refine G_istore_3 (pc := 82) dX2_number_82 (by decide) rfl ?_
            refine G_iload_3 (pc := 83) dX2_number_83 ?_
            refine G_if_ge (pc := 84) 97 dX2_number_84 (by decide) (by omega) (fun c84 => ?_) (fun c84 => ?_)
            · skip
              refine G_aload_0 (pc := 97) dX2_number_97 ?_
              refine G_mref (pc := 98) dX2_number_98 rfl hm rfl ?_
              refine G_iload_3 (pc := 101) dX2_number_101 ?_
              refine G_mi (pc := 102) (n := 122) dX2_number_102 hm rfl rfl rfl (by omega) (fun b102 => ?_)
              rw [show (mN S qf N qF).2 14 z.toNat = N z.toNat from rfl, hNz]
              refine G_if_ge (pc := 103) 126 dX2_number_103 (by decide) (by omega) (fun c103 => ?_) (fun c103 => ?_)
              · exact absurd c103 (by omega)
              · skip
                refine G_aload_0 (pc := 106) dX2_number_106 ?_
                refine G_mref (pc := 107) dX2_number_107 rfl hm rfl ?_
                refine G_iload_3 (pc := 110) dX2_number_110 ?_
                refine G_aload_0 (pc := 111) dX2_number_111 ?_
                refine G_mget (pc := 112) dX2_number_112 rfl hm rfl rfl (fun b112 => ?_)
                rw [show (mN S qf N qF).1 12 = qf from rfl]
                refine G_mis (pc := 115) (n := 122) dX2_number_115 hm hk rfl rfl rfl (by omega) (by omega) (fun h hm hk => ?_)
                rw [mN_set14] at hm
                refine G_aload_0 (pc := 116) dX2_number_116 ?_
                refine G_dup (pc := 117) dX2_number_117 rfl ?_
                refine G_mget (pc := 118) dX2_number_118 rfl hm rfl rfl (fun b118 => ?_)
                rw [show (mN S qf (updI N z.toNat qf) qF).1 12 = qf from rfl]
                refine G_iconst (pc := 121) dX2_number_121 ?_
                refine G_iadd (pc := 122) dX2_number_122 ?_
                refine G_mputI (pc := 123) dX2_number_123 rfl hm hk rfl rfl (by omega) (fun h hm hk => ?_)
                rw [mN_set12] at hm
                refine G_aload_0 (pc := 126) dX2_number_126 ?_
                refine G_mref (pc := 127) dX2_number_127 rfl hm rfl ?_
                refine G_iload_1 (pc := 130) dX2_number_130 ?_
                refine G_aload_0 (pc := 131) dX2_number_131 ?_
                refine G_mref (pc := 132) dX2_number_132 rfl hm rfl ?_
                refine G_iload_3 (pc := 135) dX2_number_135 ?_
                refine G_mi (pc := 136) (n := 122) dX2_number_136 hm rfl rfl rfl (by omega) (fun b136 => ?_)
                rw [show (mN S (qf + 1) (updI N z.toNat qf) qF).2 14 z.toNat = qf from updI_self N z.toNat qf]
                refine G_mis (pc := 137) (n := 120) dX2_number_137 hm hk rfl rfl rfl (by omega) (by omega) (fun h hm hk => ?_)
                rw [Int.toNat_natCast, mN_set13] at hm
                refine G_drop_2 ?_
                refine G_drop_3 ?_
                refine go _ _ _ _ hm hk (by rw [hstep]) (by rw [hstep]) (fun v hv => ?_)
                rw [hstep]
                simp only [updI]
                split
                · rfl
                · exact hN v hv
            · skip
              exact absurd c84 (by omega)
          · rw [zI_neg c2] at hstep
            refine G_istore_3 (pc := 82) dX2_number_82 (by decide) rfl ?_
            refine G_iload_3 (pc := 83) dX2_number_83 ?_
            refine G_if_ge (pc := 84) 97 dX2_number_84 (by decide) (by omega) (fun c84 => ?_) (fun c84 => ?_)
            · skip
              refine G_aload_0 (pc := 97) dX2_number_97 ?_
              refine G_mref (pc := 98) dX2_number_98 rfl hm rfl ?_
              refine G_iload_3 (pc := 101) dX2_number_101 ?_
              refine G_mi (pc := 102) (n := 122) dX2_number_102 hm rfl rfl rfl (by omega) (fun b102 => ?_)
              rw [show (mN S qf N qF).2 14 z.toNat = N z.toNat from rfl, hNz]
              refine G_if_ge (pc := 103) 126 dX2_number_103 (by decide) (by omega) (fun c103 => ?_) (fun c103 => ?_)
              · skip
                refine G_aload_0 (pc := 126) dX2_number_126 ?_
                refine G_mref (pc := 127) dX2_number_127 rfl hm rfl ?_
                refine G_iload_1 (pc := 130) dX2_number_130 ?_
                refine G_aload_0 (pc := 131) dX2_number_131 ?_
                refine G_mref (pc := 132) dX2_number_132 rfl hm rfl ?_
                refine G_iload_3 (pc := 135) dX2_number_135 ?_
                refine G_mi (pc := 136) (n := 122) dX2_number_136 hm rfl rfl rfl (by omega) (fun b136 => ?_)
                rw [show (mN S qf N qF).2 14 z.toNat = N z.toNat from rfl, hNz]
                refine G_mis (pc := 137) (n := 120) dX2_number_137 hm hk rfl rfl rfl (by omega) (by omega) (fun h hm hk => ?_)
                rw [Int.toNat_natCast, mN_set13] at hm
                refine G_drop_2 ?_
                refine G_drop_3 ?_
                refine go _ _ _ _ hm hk (by rw [hstep, eq1]) (by rw [hstep, eq2]) (fun v hv => by rw [hstep]; exact hN v hv)
              · skip
                exact absurd c103 (by omega)
            · skip
              exact absurd c84 (by omega)
      refine G_iload_1 (pc := 30) dX2_number_30 ?_
      refine G_aload_0 (pc := 31) dX2_number_31 ?_
      refine G_mget (pc := 32) dX2_number_32 rfl hm rfl rfl (fun b32 => ?_)
      rw [show (mN S qf N qF).1 8 = (R : Int) from hR]
      refine G_icmp_ge (pc := 35) 144 dX2_number_35 (by decide) (by omega) (by omega) (fun c35 => ?_) (fun c35 => ?_)
      · skip
        exact absurd c35 (by omega)
      · skip
        refine G_aload_0 (pc := 38) dX2_number_38 ?_
        refine G_mref (pc := 39) dX2_number_39 rfl hm rfl ?_
        refine G_iload_1 (pc := 42) dX2_number_42 ?_
        refine G_mi (pc := 43) (n := 120) dX2_number_43 hm rfl rfl rfl (by omega) (fun b43 => ?_)
        rw [Int.toNat_natCast, show (mN S qf N qF).2 10 r = S.2 10 r from rfl]
        refine G_istore_2 (pc := 44) dX2_number_44 (by decide) rfl ?_
        refine G_aload_0 (pc := 45) dX2_number_45 ?_
        refine G_mref (pc := 46) dX2_number_46 rfl hm rfl ?_
        refine G_iload_1 (pc := 49) dX2_number_49 ?_
        refine G_ml (pc := 50) dX2_number_50 hm (by omega) (fun b50 => ?_)
        rw [Int.toNat_natCast, show (mN S qf N qF).2 11 r = S.2 11 r from rfl] at *
        refine G_lconst0 (pc := 51) dX2_number_51 ?_
        refine G_lcmp_le (pc := 52) 60 dX2_number_52 dX2_number_53 (by decide) (by omega) (by omega) (fun c52 => ?_) (fun c52 => ?_)
        · skip
          refine G_aload_0 (pc := 60) dX2_number_60 ?_
          refine G_aload_0 (pc := 61) dX2_number_61 ?_
          refine G_mref (pc := 62) dX2_number_62 rfl hm rfl ?_
          refine G_iload_2 (pc := 65) dX2_number_65 ?_
          refine G_mi (pc := 66) (n := 120) dX2_number_66 hm rfl rfl rfl (by omega) (fun b66 => ?_)
          refine G_aload_0 (pc := 67) dX2_number_67 ?_
          refine G_mref (pc := 68) dX2_number_68 rfl hm rfl ?_
          refine G_iload_2 (pc := 71) dX2_number_71 ?_
          refine G_mi (pc := 72) (n := 120) dX2_number_72 hm rfl rfl rfl (by omega) (fun b72 => ?_)
          refine G_aload_0 (pc := 73) dX2_number_73 ?_
          refine G_mref (pc := 74) dX2_number_74 rfl hm rfl ?_
          refine G_iload_2 (pc := 77) dX2_number_77 ?_
          refine G_mi (pc := 78) (n := 120) dX2_number_78 hm rfl rfl rfl (by omega) (fun b78 => ?_)
          refine G_pV3 (pc := 79) dX2_number_79 rfl hm.1 (by decide) rfl (mp_X2_least hm (show zOK (mP (mN S qf N qF)) from K) (show (mN S qf N qF).1 8 = (R : Int) from hR) hR1 (fun r hr => ⟨(hF r hr).1, (hF r hr).2.1⟩) hxy.1 hxy.2 (by omega)) (by omega) (by omega) (by omega) (Nat.le_of_ble_eq_true rfl) ?_
          rw [mN_ls]
          refine k82 _ ?_
          unfold ofR
          first | rw [zI_pos (by omega)] | (rw [zI_neg (by omega)]; rfl)
        · skip
          refine G_iload_1 (pc := 56) dX2_number_56 ?_
          refine G_goto (pc := 57) 82 dX2_number_57 (by decide) ?_
          refine k82 _ ?_
          unfold ofR
          first | rw [zI_pos (by omega)] | (rw [zI_neg (by omega)]; rfl)
  have k7 : ∀ (n r : Nat) (h1 : gH), r + n = R + 1 → zMo E h1 (mN S 1 (fun i => if i < r then -1 else S.2 14 i) (S.2 13)) → gKeepM E h h1 → G E l gX2_number d 0 0 Q 7 [some (.ref (gBase E + 12)), some (vI r), none, none] [] h1 0 0 := by
    intro n
    induction n with
    | zero =>
      intro r h1 hn hm hk
      refine G_iload_1 (pc := 7) dX2_number_7 ?_
      refine G_aload_0 (pc := 8) dX2_number_8 ?_
      refine G_mget (pc := 9) dX2_number_9 rfl hm rfl rfl (fun b9 => ?_)
      rw [show (mN S 1 (fun i => if i < r then -1 else S.2 14 i) (S.2 13)).1 8 = (R : Int) from hR]
      refine G_icmp_gt (pc := 12) 28 dX2_number_12 (by decide) (by omega) (by omega) (fun c12 => ?_) (fun c12 => ?_)
      · skip
        refine G_iconst (pc := 28) dX2_number_28 ?_
        refine G_istore_1 (pc := 29) dX2_number_29 (by decide) rfl ?_
        refine k30 R 0 h1 _ (by omega) hm hk (fun v hv => ?_)
        show (if v < r then (-1 : Int) else S.2 14 v) = -1
        rw [if_pos (by omega)]
      · skip
        exact absurd c12 (by omega)
    | succ n ih =>
      intro r h1 hn hm hk
      refine G_iload_1 (pc := 7) dX2_number_7 ?_
      refine G_aload_0 (pc := 8) dX2_number_8 ?_
      refine G_mget (pc := 9) dX2_number_9 rfl hm rfl rfl (fun b9 => ?_)
      rw [show (mN S 1 (fun i => if i < r then -1 else S.2 14 i) (S.2 13)).1 8 = (R : Int) from hR]
      refine G_icmp_gt (pc := 12) 28 dX2_number_12 (by decide) (by omega) (by omega) (fun c12 => ?_) (fun c12 => ?_)
      · skip
        exact absurd c12 (by omega)
      · skip
        refine G_aload_0 (pc := 15) dX2_number_15 ?_
        refine G_mref (pc := 16) dX2_number_16 rfl hm rfl ?_
        refine G_iload_1 (pc := 19) dX2_number_19 ?_
        refine G_iconst (pc := 20) dX2_number_20 ?_
        refine G_mis (pc := 21) (n := 122) dX2_number_21 hm hk rfl rfl rfl (by omega) (by omega) (fun h hm hk => ?_)
        rw [Int.toNat_natCast, mN_set14] at hm
        refine G_iinc_1 (pc := 22) dX2_number_22 (by decide) rfl ?_
        refine G_goto (pc := 25) 7 dX2_number_25 (by decide) ?_
        rw [show ((r : Int) + 1) = ((r + 1 : Nat) : Int) by omega]
        refine ih (r + 1) _ (by omega) ?_ hk
        have e : updI (fun i => if i < r then (-1 : Int) else S.2 14 i) r (-1) = (fun i => if i < r + 1 then -1 else S.2 14 i) := by
          funext i
          unfold updI
          by_cases q : i = r
          · subst q; simp
          · by_cases q2 : i < r
            · simp [q, q2, show i < r + 1 by omega]
            · simp [q, q2, show ¬ i < r + 1 by omega]
        rw [← e]
        exact hm
  refine G_aload_0 (pc := 0) dX2_number_0 ?_
  refine G_iconst (pc := 1) dX2_number_1 ?_
  refine G_mputI (pc := 2) dX2_number_2 rfl hm hk rfl rfl (by omega) (fun h hm hk => ?_)
  refine G_iconst (pc := 5) dX2_number_5 ?_
  refine G_istore_1 (pc := 6) dX2_number_6 (by decide) rfl ?_
  refine k7 (R + 1) 0 _ (by omega) (zMo_congr hm (fun f _ => rfl) (fun f i _ _ => ?_)) hk
  show (if f = 14 then (if i < 0 then (-1 : Int) else S.2 14 i) else if f = 13 then S.2 13 i else S.2 f i) = S.2 f i
  by_cases q : f = 14
  · subst q; simp
  · by_cases q2 : f = 13
    · subst q2; simp
    · simp [q, q2]
end MOD7
