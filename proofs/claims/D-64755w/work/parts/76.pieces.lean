set_option maxRecDepth 100000
def tQ (E : gV) (T T' : tT) : Prop := T'.2 = T.2 ∧ ∀ b, (T.1 b).1 ≠ 0 → b ≠ gBase E → b ≠ gBase E + 10 → b ≠ gBase E + 11 → T'.1 b = T.1 b
theorem tQ_rf (E : gV) (T : tT) : tQ E T T := ⟨rfl, fun _ _ _ _ _ => rfl⟩
theorem tQ_tr {E : gV} {T T' T'' : tT} (h1 : tQ E T T') (h2 : tQ E T' T'') : tQ E T T'' := by
  refine ⟨by rw [h2.1, h1.1], fun b k n1 n2 n3 => ?_⟩
  have e := h1.2 b k n1 n2 n3
  rw [h2.2 b (by rw [e]; exact k) n1 n2 n3, e]
theorem tQ_x {E : gV} {T T' : tT} (h : tX T T') : tQ E T T' := ⟨h.1, fun b k _ _ _ => h.2 b k⟩
theorem tQ_P {E : gV} {T T' : tT} (h : tP E T T') : tQ E T T' := ⟨h.1, fun b _ _ n _ => h.2 b n⟩
theorem tQ_set {E : gV} {T : tT} {a f : Nat} {v : Value} (h : a = gBase E ∨ a = gBase E + 10 ∨ a = gBase E + 11) : tQ E T (tSet T a f v) := ⟨rfl, fun b _ n1 n2 n3 => tSet_at T (fun e => by subst e; rcases h with h | h | h; exact n1 h; exact n2 h; exact n3 h)⟩
section PIECES
variable {E : gV} {l : Launch} {T : tT} {S : mS} {d : Nat} {h : gH} {HA ND : Nat → Nat} {ns : List Nat} {NX NY : Nat → Int} {LA : Nat → Nat} {LN : Nat → List Nat} {rs : List Nat} {RA : Nat → Nat} {FC : Nat → Option Nat}
theorem jG_Q {T' : tT} (j : jG E S T HA ND ns NX NY LA LN) {S' : mS} (z : zK E T S') (x : tQ E T T') : jG E S T' HA ND ns NX NY LA LN := by
  obtain ⟨j0, j1, j2, j3, j4, j5, j6⟩ := j
  have k0 := z.1
  have k10 : (T.1 (gBase E + 10)).1 = 31 := (z.2.2.1 11 rfl).2.1
  have k11 := z.2.2.2.2.2.2.1
  have ne : ∀ b, (T.1 b).1 = 3 ∨ (T.1 b).1 = 4 ∨ (T.1 b).1 = 34 → T'.1 b = T.1 b := fun b hb => x.2 b (by omega) (fun e => by rw [e] at hb; omega) (fun e => by rw [e] at hb; omega) (fun e => by rw [e] at hb; omega)
  refine ⟨nJ_keep j0 (fun m hm => ne m (Or.inr (Or.inl (j0.2.1 m hm).1.1))) (fun m hm => by rw [x.1]) (by rw [x.1]), fun k L => ?_, j2, fun k hk => by rw [ne _ (Or.inr (Or.inr j6))]; exact j3 k hk, j4, j5, by rw [ne _ (Or.inr (Or.inr j6))]; exact j6⟩
  have q := j1 k L
  have e := ne (HA k) (Or.inl q.1.1.1)
  unfold hF
  rw [e]
  exact q
theorem gR_Q {T' : tT} {nx : Nat → Nat} (g : gR E S T HA nx rs RA FC) (h3 : ∀ k, kLv S k → (T.1 (HA k)).1 = 3) {S' : mS} (z : zK E T S') (x : tQ E T T') : gR E S T' HA nx rs RA FC := by
  obtain ⟨g1, g2, g3, g4⟩ := g
  have k0 := z.1
  have k10 : (T.1 (gBase E + 10)).1 = 31 := (z.2.2.1 11 rfl).2.1
  have k11 := z.2.2.2.2.2.2.1
  have ne : ∀ b, (T.1 b).1 = 3 ∨ (T.1 b).1 = 5 → T'.1 b = T.1 b := fun b hb => x.2 b (by omega) (fun e => by rw [e] at hb; omega) (fun e => by rw [e] at hb; omega) (fun e => by rw [e] at hb; omega)
  refine ⟨by rw [x.1]; exact g1, g2, fun f F => ?_, fun k L => ?_⟩
  · have q := g3 f F
    rw [ne (RA f) (Or.inr q.2.1)]
    exact q
  · obtain ⟨f, a, b, c⟩ := g4 k L
    exact ⟨f, a, b, by rw [ne (HA k) (Or.inl (h3 k L))]; exact c⟩
theorem rk_half (S : mS) : ∀ n, rk (kLv S) (zSame (kPl S)) (2 * n) ≤ n := by
  intro n
  induction n with
  | zero => exact Nat.le_refl _
  | succ n ih =>
    have nf : ¬ fst (kLv S) (zSame (kPl S)) (2 * n + 1) := by
      intro f
      have L2 := f.1
      have L1 : kLv S (2 * n) := by have := kLv_B L2; rw [(zB_2n n).2] at this; exact this
      refine f.2 (2 * n) (by omega) L1 ?_
      have := zSame_tw (P := kPl S) (a := 2 * n) (kPl_L.mpr L1)
      rw [(zB_2n n).1] at this
      exact this
    rw [show 2 * (n + 1) = 2 * n + 1 + 1 by omega, rk_neg nf]
    by_cases q : fst (kLv S) (zSame (kPl S)) (2 * n)
    · rw [rk_pos q]; omega
    · rw [rk_neg q]; omega
/-- pieces found among the first n segments -/
def pcI (S : mS) (PO : Nat → Int) (n : Nat) : Prop := (∀ k, kLv S k → (∃ f, f < 2 * n ∧ fst (kLv S) (zSame (kPl S)) f ∧ zSame (kPl S) f k ∧ PO (k / 2) = (rk (kLv S) (zSame (kPl S)) f : Int)) ∨ (PO (k / 2) = -1 ∧ ∀ f, f < 2 * n → fst (kLv S) (zSame (kPl S)) f → ¬ zSame (kPl S) f k))
theorem nf_odd {S : mS} (n : Nat) : ¬ fst (kLv S) (zSame (kPl S)) (2 * n + 1) := by
  intro f
  have L2 := f.1
  have L1 : kLv S (2 * n) := by have := kLv_B L2; rw [(zB_2n n).2] at this; exact this
  refine f.2 (2 * n) (by omega) L1 ?_
  have := zSame_tw (P := kPl S) (a := 2 * n) (kPl_L.mpr L1)
  rw [(zB_2n n).1] at this
  exact this
theorem pcI_skip {PO : Nat → Int} {n : Nat} (h : pcI S PO n) (nf : ¬ fst (kLv S) (zSame (kPl S)) (2 * n)) : pcI S PO (n + 1) ∧ rk (kLv S) (zSame (kPl S)) (2 * (n + 1)) = rk (kLv S) (zSame (kPl S)) (2 * n) := by
  refine ⟨fun k L => ?_, ?_⟩
  · rcases h k L with ⟨f, a, b⟩ | ⟨a, b⟩
    · exact Or.inl ⟨f, by omega, b⟩
    · refine Or.inr ⟨a, fun f hf F => ?_⟩
      by_cases e1 : f = 2 * n
      · subst e1; exact absurd F nf
      · by_cases e2 : f = 2 * n + 1
        · subst e2; exact absurd F (nf_odd n)
        · exact b f (by omega) F
  · rw [show 2 * (n + 1) = 2 * n + 1 + 1 by omega, rk_neg (nf_odd n), rk_neg nf]
theorem pcI_new (j : jG E S T HA ND ns NX NY LA LN) {PO PO' : Nat → Int} {n : Nat} (hn : n < 60) (ln : S.2 1 n = 1) (h : pcI S PO n) (neg : PO n < 0) (sk : spK S PO n (rk (kLv S) (zSame (kPl S)) (2 * n)) PO') (cl : clN ns LN PO' (rk (kLv S) (zSame (kPl S)) (2 * n)) ns.length) :
    pcI S PO' (n + 1) ∧ rk (kLv S) (zSame (kPl S)) (2 * (n + 1)) = rk (kLv S) (zSame (kPl S)) (2 * n) + 1 := by
  have L : kLv S (2 * n) := ⟨by omega, by rw [show 2 * n / 2 = n by omega]; exact ln⟩
  have no : ∀ f, f < 2 * n → fst (kLv S) (zSame (kPl S)) f → ¬ zSame (kPl S) f (2 * n) := by
    rcases h (2 * n) L with ⟨f, a, b, c, e⟩ | ⟨a, b⟩
    · rw [show 2 * n / 2 = n by omega] at e; omega
    · exact b
  have F : fst (kLv S) (zSame (kPl S)) (2 * n) := by
    refine ⟨L, fun g hg G o => ?_⟩
    obtain ⟨f, a1, a2, a3⟩ := fst_ex (L := kLv S) (R := zSame (kPl S)) (fun a _ => zSame_rf _ a) (fun _ _ _ h h' => zSame_tr h h') g G
    exact no f (by omega) a2 (zSame_tr a3 o)
  have full : ∀ k, zSame (kPl S) (2 * n) k → kLv S k ∧ PO' (k / 2) = (rk (kLv S) (zSame (kPl S)) (2 * n) : Int) := by
    intro k z
    refine z (fun k => kLv S k ∧ PO' (k / 2) = (rk (kLv S) (zSame (kPl S)) (2 * n) : Int)) ⟨L, by rw [show 2 * n / 2 = n by omega]; exact sk.1⟩ (fun a _ q => ⟨kLv_B q.1, by rw [zB_half]; exact q.2⟩) (fun a b A B e1 e2 q => ?_)
    have A := kPl_L.mp A
    have B := kPl_L.mp B
    have wa := j.2.1 a A
    have wb := j.2.1 b B
    have en : ND a = ND b := by
      refine j.1.2.2 _ _ wa.2.1 wb.2.1 (Or.inl ⟨?_, ?_⟩)
      · rw [wa.2.2.2.1, wb.2.2.2.1]; exact e1
      · rw [wa.2.2.2.2, wb.2.2.2.2]; exact e2
    obtain ⟨k', hk', ek⟩ := List.getElem_of_mem wa.2.1
    exact ⟨B, cl k' (ND a) a b hk' (by rw [List.getElem?_eq_getElem hk', ek]) wa.2.2.1 (by rw [en]; exact wb.2.2.1) q.2⟩
  refine ⟨fun k Lk => ?_, ?_⟩
  · by_cases z : zSame (kPl S) (2 * n) k
    · exact Or.inl ⟨2 * n, by omega, F, z, (full k z).2⟩
    · have e : PO' (k / 2) = PO (k / 2) := by
        by_cases c : PO' (k / 2) = PO (k / 2)
        · exact c
        · exact absurd (zSame_tr (sk.2 _ c).2.2.2 (zS_seg Lk).1) z
      rw [e]
      rcases h k Lk with ⟨f, a, b⟩ | ⟨a, b⟩
      · exact Or.inl ⟨f, by omega, b⟩
      · refine Or.inr ⟨a, fun f hf Ff => ?_⟩
        by_cases e1 : f = 2 * n
        · subst e1; exact z
        · by_cases e2 : f = 2 * n + 1
          · subst e2; exact absurd Ff (nf_odd n)
          · exact b f (by omega) Ff
  · rw [show 2 * (n + 1) = 2 * n + 1 + 1 by omega, rk_neg (nf_odd n), rk_pos F]
theorem kP_12 (S : mS) (PO : Nat → Int) (x : Int) : mUs (kP S PO) 12 x = kP (mUs S 12 x) PO := rfl
theorem mUs_mUs (S : mS) (f : Nat) (x y : Int) : mUs (mUs S f x) f y = mUs S f y := by
  unfold mUs
  congr 1
  funext g
  by_cases e : g = f <;> simp [e]
theorem ok_X1_findPieces (ht : zT E h T) (hz : zK E T S) (g : kGd S) (j : jG E S T HA ND ns NX NY LA LN) (nn : nxG S (nxF LN ND)) (gr' : gR E S T HA (nxF LN ND) rs RA FC)
    (up : ∀ f f', fst (kLv S) (orb (nxF LN ND)) f → fst (kLv S) (orb (nxF LN ND)) f' → ¬ 0 < kAr S (nxF LN ND) f → ¬ 0 < kAr S (nxF LN ND) f' → zSame (kPl S) f f' → f = f') (hd : 6 ≤ d) :
    gOk E l gX1_findPieces d 120 360 [.ref (gBase E)] h (gRu (fun h' => ∃ T' PO, zT E h' T' ∧ zK E T' (kP (mUs S 12 (rk (kLv S) (zSame (kPl S)) 120 : Nat)) PO) ∧ tQ E T T' ∧ pcI S PO 60 ∧
      (∀ f, fst (kLv S) (orb (nxF LN ND)) f → ¬ 0 < kAr S (nxF LN ND) f → (T'.1 (gBase E + 11)).2.2 (PO (f / 2)).toNat = .ref (RA f)))) := by
  refine gOk_of gmok_X1_findPieces rfl (Nat.le_of_ble_eq_true rfl) (L := [some _, none, none]) rfl ?_
  obtain ⟨Q, hQ⟩ : ∃ Q, Q = gRet (gRu (fun h' => ∃ T' PO, zT E h' T' ∧ zK E T' (kP (mUs S 12 (rk (kLv S) (zSame (kPl S)) 120 : Nat)) PO) ∧ tQ E T T' ∧ pcI S PO 60 ∧
      (∀ f, fst (kLv S) (orb (nxF LN ND)) f → ¬ 0 < kAr S (nxF LN ND) f → (T'.1 (gBase E + 11)).2.2 (PO (f / 2)).toNat = .ref (RA f)))) := ⟨_, rfl⟩
  rw [← hQ]
  have j3 : ∀ k, kLv S k → (T.1 (HA k)).1 = 3 := fun k L => (j.2.1 k L).1.1.1
  have rl : rs.length ≤ 120 := by rw [gr'.2.1]; exact rk_n _
  have rp : rk (kLv S) (zSame (kPl S)) 120 ≤ 60 := rk_half S 60
  -- the last loop
  have k76 : ∀ (PO : Nat → Int), pcI S PO 60 → ∀ (m k : Nat), k + m = rs.length → ∀ h T1 uc us, zT E h T1 → zK E T1 (kP (mUs S 12 (rk (kLv S) (zSame (kPl S)) 120 : Nat)) PO) → tQ E T T1 → (∀ f, fst (kLv S) (orb (nxF LN ND)) f → ¬ 0 < kAr S (nxF LN ND) f → rk (kLv S) (orb (nxF LN ND)) f < k → (T1.1 (gBase E + 11)).2.2 (PO (f / 2)).toNat = .ref (RA f)) → uc ≤ k → us ≤ 3 * k → G E l gX1_findPieces d 120 360 Q 76 [some (.ref (gBase E)), some (vI k), none] [] h uc us := by
    intro PO pc m
    induction m with
    | zero =>
      intro k hn h T1 uc us ht hz' tq ho hu hv
      have ek : k = rs.length := by omega
      subst ek
      have g1 := gR_Q gr' j3 hz tq
      refine G_iload_1 (pc := 76) dX1_findPieces_76 ?_
      refine G_aload_0 (pc := 77) dX1_findPieces_77 ?_
      refine G_tget (pc := 78) dX1_findPieces_78 rfl ht hz'.1 hz'.2.2.2.1.2.1 ?_
      refine G_lsize (pc := 81) dX1_findPieces_81 rfl ht g1.1 (by omega) (by omega) (by omega) (Nat.le_of_ble_eq_true rfl) ?_
      refine G_icmp_ge (pc := 84) 134 dX1_findPieces_84 (by decide) (by omega) (by omega) (fun _ => ?_) (fun q => absurd q (by omega))
      refine G_return (pc := 134) dX1_findPieces_134 rfl (by omega) (by omega) ?_
      subst hQ
      exact ⟨_, rfl, rfl, T1, PO, ht, hz', tq, pc, fun f F np => ho f F np (by rw [gr'.2.1]; exact rk_lt F.1.1 F)⟩
    | succ m ih =>
      intro k hn h T1 uc us ht hz' tq ho hu hv
      have g1 := gR_Q gr' j3 hz tq
      have j1 := jG_Q j hz tq
      obtain ⟨f, _, F, ef⟩ := rk_srj (L := kLv S) (R := orb (nxF LN ND)) 120 k (by rw [← gr'.2.1]; omega)
      have q := g1.2.2.1 f F
      rw [ef] at q
      have kb := kAr_b g nn F.1
      refine G_iload_1 (pc := 76) dX1_findPieces_76 ?_
      refine G_aload_0 (pc := 77) dX1_findPieces_77 ?_
      refine G_tget (pc := 78) dX1_findPieces_78 rfl ht hz'.1 hz'.2.2.2.1.2.1 ?_
      refine G_lsize (pc := 81) dX1_findPieces_81 rfl ht g1.1 (by omega) (by omega) (by omega) (Nat.le_of_ble_eq_true rfl) ?_
      refine G_icmp_ge (pc := 84) 134 dX1_findPieces_84 (by decide) (by omega) (by omega) (fun q => absurd q (by omega)) (fun _ => ?_)
      refine G_aload_0 (pc := 87) dX1_findPieces_87 ?_
      refine G_tget (pc := 88) dX1_findPieces_88 rfl ht hz'.1 hz'.2.2.2.1.2.1 ?_
      refine G_iload_1 (pc := 91) dX1_findPieces_91 ?_
      refine G_lget (pc := 92) dX1_findPieces_92 rfl ht g1.1 q.1 (by omega) (by omega) (by omega) (Nat.le_of_ble_eq_true rfl) ?_
      refine G_tcast (pc := 95) dX1_findPieces_95 rfl ht q.2.1 ?_
      refine G_astore_2 (pc := 98) dX1_findPieces_98 (by decide) rfl ?_
      refine G_aload_2 (pc := 99) dX1_findPieces_99 ?_
      refine G_callV0v (pc := 100) (d' := 4) dX1_findPieces_100 rfl (by rw [zT_at ht q.2.1 (by omega)]; exact q.2.1) (by decide) rfl (ok_area ht (jG_rA g j1 nn g1 F) (Nat.le_refl _)) (by omega) (by omega) (by omega) (Nat.le_of_ble_eq_true rfl) (fun v h z => ?_)
      obtain ⟨rfl, T2, ht2, x⟩ := z
      have hz2 := zK_x x hz'
      have tq2 := tQ_tr tq (tQ_x x)
      have g2 := gR_Q gr' j3 hz tq2
      have j2 := jG_Q j hz tq2
      have q2 := g2.2.2.1 f F
      have e11 : T2.1 (gBase E + 11) = T1.1 (gBase E + 11) := x.2 _ (by rw [hz'.2.2.2.2.2.2.1]; decide)
      refine G_lconst0 (pc := 103) dX1_findPieces_103 ?_
      refine G_lcmp_gt (pc := 104) 128 dX1_findPieces_104 dX1_findPieces_105 (by decide) (by omega) (by omega) (fun c => ?_) (fun c => ?_)
      · refine G_iinc_1 (pc := 128) dX1_findPieces_128 (by decide) rfl ?_
        refine G_goto (pc := 131) 76 dX1_findPieces_131 (by decide) ?_
        refine G_drop_2 ?_
        rw [show ((k : Int) + 1) = ((k + 1 : Nat) : Int) by omega]
        refine ih (k + 1) (by omega) h T2 _ _ ht2 hz2 tq2 (fun f' F' np hk => ?_) (by omega) (by omega)
        rw [e11]
        refine ho f' F' np ?_
        have : rk (kLv S) (orb (nxF LN ND)) f' ≠ k := fun e => np (by rw [rk_inj F' F (by rw [e, ef])]; exact c)
        omega
      · have fb := F.1.1
        have Lf := F.1
        obtain ⟨f0, a1, a2, a3, a4⟩ : ∃ f0, f0 < 2 * 60 ∧ fst (kLv S) (zSame (kPl S)) f0 ∧ zSame (kPl S) f0 f ∧ PO (f / 2) = (rk (kLv S) (zSame (kPl S)) f0 : Int) := by
          rcases pc f Lf with w | ⟨w1, w2⟩
          · exact w
          · exfalso
            obtain ⟨f0, a1, a2, a3⟩ := fst_ex (L := kLv S) (R := zSame (kPl S)) (fun a _ => zSame_rf _ a) (fun _ _ _ h h' => zSame_tr h h') f Lf
            exact w2 f0 (by omega) a2 a3
        have plt : rk (kLv S) (zSame (kPl S)) f0 < 60 := by have := rk_lt (L := kLv S) (R := zSame (kPl S)) (show f0 < 120 by omega) a2; omega
        have k13 := hz2.2.2.2.2.2
        refine G_aload_0 (pc := 108) dX1_findPieces_108 ?_
        refine G_tget (pc := 109) dX1_findPieces_109 rfl ht2 hz2.1 k13.1 ?_
        refine G_aload_0 (pc := 112) dX1_findPieces_112 ?_
        refine G_kref (pc := 113) dX1_findPieces_113 rfl ht2 hz2 rfl ?_
        refine G_aload_2 (pc := 116) dX1_findPieces_116 ?_
        refine G_tget (pc := 117) dX1_findPieces_117 rfl ht2 q2.2.1 q2.2.2.1 ?_
        refine G_tget (pc := 120) dX1_findPieces_120 rfl ht2 (j2.2.1 f Lf).1.1.1 (j2.2.1 f Lf).1.1.2.1 ?_
        refine G_iconst (pc := 123) dX1_findPieces_123 ?_
        refine G_idiv (pc := 124) dX1_findPieces_124 (by omega) (by omega) ?_
        rw [show (f : Int) / 2 = ((f / 2 : Nat) : Int) by omega]
        refine G_ki (pc := 125) dX1_findPieces_125 ht2 hz2 rfl rfl (by omega) (fun b125 => ?_)
        rw [Int.toNat_natCast]
        have ev : (kP (mUs S 12 (rk (kLv S) (zSame (kPl S)) 120 : Nat)) PO).2 11 (f / 2) = PO (f / 2) := rfl
        rw [ev]
        refine G_aload_2 (pc := 126) dX1_findPieces_126 ?_
        refine G_taast (pc := 127) dX1_findPieces_127 ht2 (Or.inr ⟨k13.2.1, q2.2.1⟩) (by rw [k13.2.2]; omega) (by rw [k13.2.2]; omega) (fun h ht3 => ?_)
        refine G_iinc_1 (pc := 128) dX1_findPieces_128 (by decide) rfl ?_
        refine G_goto (pc := 131) 76 dX1_findPieces_131 (by decide) ?_
        refine G_drop_2 ?_
        rw [show ((k : Int) + 1) = ((k + 1 : Nat) : Int) by omega]
        refine ih (k + 1) (by omega) h _ _ _ ht3 (zK_else hz2 (Or.inl (by omega))) (tQ_tr tq2 (tQ_set (Or.inr (Or.inr rfl)))) (fun f' F' np hk => ?_) (by omega) (by omega)
        rw [tSet_v]
        by_cases e : f' = f
        · subst e
          rw [if_pos ⟨rfl, rfl⟩]
        · have np' : rk (kLv S) (orb (nxF LN ND)) f' ≠ k := fun w => e (rk_inj F' F (by rw [w, ef]))
          rw [if_neg, e11]
          · exact ho f' F' np (by omega)
          · rintro ⟨_, w⟩
            obtain ⟨f1, b1, b2, b3, b4⟩ : ∃ f0, f0 < 2 * 60 ∧ fst (kLv S) (zSame (kPl S)) f0 ∧ zSame (kPl S) f0 f' ∧ PO (f' / 2) = (rk (kLv S) (zSame (kPl S)) f0 : Int) := by
              rcases pc f' F'.1 with w | ⟨w1, w2⟩
              · exact w
              · exfalso
                obtain ⟨f0, a1, a2, a3⟩ := fst_ex (L := kLv S) (R := zSame (kPl S)) (fun a _ => zSame_rf _ a) (fun _ _ _ h h' => zSame_tr h h') f' F'.1
                have := F'.1.1
                exact w2 f0 (by omega) a2 a3
            have : f1 = f0 := rk_inj b2 a2 (by omega)
            subst this
            exact e (up f' f F' F np (by omega) (zSame_tr (zSame_sy b3) a3))
  -- the second loop
  have k28 : ∀ (m n : Nat), n + m = 60 → ∀ h T1 PO, zT E h T1 → zK E T1 (kP (mUs S 12 (rk (kLv S) (zSame (kPl S)) (2 * n) : Nat)) PO) → tQ E T T1 → pcI S PO n → G E l gX1_findPieces d 120 360 Q 28 [some (.ref (gBase E)), some (vI n), none] [] h 0 0 := by
    intro m
    induction m with
    | zero =>
      intro n hn h T1 PO ht hz' tq pc
      have en : n = 60 := by omega
      subst en
      refine G_iload_1 (pc := 28) dX1_findPieces_28 ?_
      refine G_bipush (pc := 29) dX1_findPieces_29 (by omega) ?_
      refine G_icmp_ge (pc := 31) 74 dX1_findPieces_31 (by decide) (by omega) (by omega) (fun _ => ?_) (fun q => absurd q (by omega))
      refine G_iconst (pc := 74) dX1_findPieces_74 ?_
      refine G_istore_1 (pc := 75) dX1_findPieces_75 (by decide) rfl ?_
      exact k76 PO pc rs.length 0 (by omega) h T1 0 0 ht hz' tq (fun f F np hk => by omega) (by omega) (by omega)
    | succ m ih =>
      intro n hn h T1 PO ht hz' tq pc
      have rb := rk_half S n
      have go : ∀ h T1 PO, zT E h T1 → zK E T1 (kP (mUs S 12 (rk (kLv S) (zSame (kPl S)) (2 * (n + 1)) : Nat)) PO) → tQ E T T1 → pcI S PO (n + 1) → G E l gX1_findPieces d 120 360 Q 68 [some (.ref (gBase E)), some (vI n), none] [] h 0 0 := by
        intro h T1 PO ht hz' tq pc
        refine G_iinc_1 (pc := 68) dX1_findPieces_68 (by decide) rfl ?_
        refine G_goto (pc := 71) 28 dX1_findPieces_71 (by decide) ?_
        rw [show ((n : Int) + 1) = ((n + 1 : Nat) : Int) by omega]
        exact ih (n + 1) (by omega) h T1 PO ht hz' tq pc
      refine G_iload_1 (pc := 28) dX1_findPieces_28 ?_
      refine G_bipush (pc := 29) dX1_findPieces_29 (by omega) ?_
      refine G_icmp_ge (pc := 31) 74 dX1_findPieces_31 (by decide) (by omega) (by omega) (fun q => absurd q (by omega)) (fun _ => ?_)
      refine G_aload_0 (pc := 34) dX1_findPieces_34 ?_
      refine G_kref (pc := 35) dX1_findPieces_35 rfl ht hz' rfl ?_
      refine G_iload_1 (pc := 38) dX1_findPieces_38 ?_
      refine G_kb (pc := 39) dX1_findPieces_39 ht hz' (by omega) (fun b39 => ?_)
      rw [Int.toNat_natCast] at b39 ⊢
      have b39 : S.2 1 n = 0 ∨ S.2 1 n = 1 := b39
      refine G_if_eq (pc := 40) 68 dX1_findPieces_40 (by decide) (by show -2147483648 ≤ S.2 1 n ∧ S.2 1 n ≤ 2147483647; omega) (fun c40 => ?_) (fun c40 => ?_)
      · have c40 : S.2 1 n = 0 := c40
        have sk := pcI_skip pc (fun F => by have := F.1.2; rw [show 2 * n / 2 = n by omega] at this; omega)
        exact go h T1 PO ht (by rw [sk.2]; exact hz') tq sk.1
      · have ln : S.2 1 n = 1 := by have c40 : S.2 1 n ≠ 0 := c40; omega
        have L : kLv S (2 * n) := ⟨by omega, by rw [show 2 * n / 2 = n by omega]; exact ln⟩
        refine G_aload_0 (pc := 43) dX1_findPieces_43 ?_
        refine G_kref (pc := 44) dX1_findPieces_44 rfl ht hz' rfl ?_
        refine G_iload_1 (pc := 47) dX1_findPieces_47 ?_
        refine G_ki (pc := 48) dX1_findPieces_48 ht hz' rfl rfl (by omega) (fun b48 => ?_)
        rw [Int.toNat_natCast] at b48 ⊢
        have b48 : -2147483648 ≤ PO n ∧ PO n ≤ 2147483647 := b48
        refine G_if_ge (pc := 49) 68 dX1_findPieces_49 (by decide) b48 (fun c49 => ?_) (fun c49 => ?_)
        · have c49 : 0 ≤ PO n := c49
          have sk := pcI_skip pc (fun F => by
            rcases pc (2 * n) L with ⟨f, w1, w2, w3, w4⟩ | ⟨w1, w2⟩
            · exact F.2 f w1 w2.1 w3
            · rw [show 2 * n / 2 = n by omega] at w1; omega)
          exact go h T1 PO ht (by rw [sk.2]; exact hz') tq sk.1
        · have c49 : PO n < 0 := c49
          refine G_aload_0 (pc := 52) dX1_findPieces_52 ?_
          refine G_iload_1 (pc := 53) dX1_findPieces_53 ?_
          refine G_aload_0 (pc := 54) dX1_findPieces_54 ?_
          refine G_dup (pc := 55) dX1_findPieces_55 rfl ?_
          refine G_kget (pc := 56) dX1_findPieces_56 rfl ht hz' rfl rfl rfl (fun b56 => ?_)
          have ev : (kP (mUs S 12 (rk (kLv S) (zSame (kPl S)) (2 * n) : Nat)) PO).1 12 = ((rk (kLv S) (zSame (kPl S)) (2 * n) : Nat) : Int) := rfl
          rw [ev]
          refine G_dup_x1 (pc := 59) dX1_findPieces_59 rfl rfl ?_
          refine G_iconst (pc := 60) dX1_findPieces_60 ?_
          refine G_iadd (pc := 61) dX1_findPieces_61 ?_
          refine G_kput (pc := 62) dX1_findPieces_62 rfl ht hz' (by decide) (by omega) (fun h ht2 hz2 => ?_)
          rw [kP_12, mUs_mUs] at hz2
          have tq2 := tQ_tr tq (tQ_set (E := E) (T := T1) (a := gBase E) (f := 12) (v := vI (((rk (kLv S) (zSame (kPl S)) (2 * n) : Nat) : Int) + 1)) (Or.inl rfl))
          have j2 := jG_Q j hz tq2
          have H : spH (mUs S 12 (((rk (kLv S) (zSame (kPl S)) (2 * n) : Nat) : Int) + 1)) PO n (rk (kLv S) (zSame (kPl S)) (2 * n) : Nat) := by
            refine ⟨⟨by omega, ln⟩, by omega, fun s hs ls e => ?_, fun s hs ls z => ?_⟩
            · have Ls : kLv S (2 * s) := ⟨by omega, by rw [show 2 * s / 2 = s by omega]; exact ls⟩
              rcases pc (2 * s) Ls with ⟨f, w1, w2, w3, w4⟩ | ⟨w1, w2⟩
              · rw [show 2 * s / 2 = s by omega] at w4
                have := rk_lt w1 w2
                omega
              · rw [show 2 * s / 2 = s by omega] at w1; omega
            · have Ls : kLv S (2 * s) := ⟨by omega, by rw [show 2 * s / 2 = s by omega]; exact ls⟩
              rcases pc (2 * s) Ls with ⟨f, w1, w2, w3, w4⟩ | ⟨w1, w2⟩
              · exfalso
                rcases pc (2 * n) L with ⟨f', v1, v2, v3, v4⟩ | ⟨v1, v2⟩
                · rw [show 2 * n / 2 = n by omega] at v4; omega
                · exact v2 f w1 w2 (zSame_tr w3 (zSame_sy z))
              · rw [show 2 * s / 2 = s by omega] at w1; omega
          refine G_callV2u (pc := 65) (d' := 5) dX1_findPieces_65 rfl (zK_k ht2 hz2) (by decide) rfl (ok_X1_spread (S := mUs S 12 (((rk (kLv S) (zSame (kPl S)) (2 * n) : Nat) : Int) + 1)) ht2 hz2 j2 H (Nat.le_refl _)) (by omega) (by omega) (by omega) (Nat.le_of_ble_eq_true rfl) (fun h z => ?_)
          obtain ⟨T3, PO', ht3, hz3, tp, sk, cl⟩ := z
          have nw := pcI_new j (by omega) ln pc c49 sk cl
          refine go h T3 PO' ht3 ?_ (tQ_tr tq2 (tQ_P tp)) nw.1
          rw [nw.2]
          exact hz3
  -- the first loop
  have k7 : ∀ (m n : Nat), n + m = 60 → ∀ h T1 PO, zT E h T1 → zK E T1 (kP (mUs S 12 0) PO) → tQ E T T1 → (∀ s, s < n → PO s = -1) → G E l gX1_findPieces d 120 360 Q 7 [some (.ref (gBase E)), some (vI n), none] [] h 0 0 := by
    intro m
    induction m with
    | zero =>
      intro n hn h T1 PO ht hz' tq hp
      have en : n = 60 := by omega
      subst en
      refine G_iload_1 (pc := 7) dX1_findPieces_7 ?_
      refine G_bipush (pc := 8) dX1_findPieces_8 (by omega) ?_
      refine G_icmp_ge (pc := 10) 26 dX1_findPieces_10 (by decide) (by omega) (by omega) (fun _ => ?_) (fun q => absurd q (by omega))
      refine G_iconst (pc := 26) dX1_findPieces_26 ?_
      refine G_istore_1 (pc := 27) dX1_findPieces_27 (by decide) rfl ?_
      exact k28 60 0 rfl h T1 PO ht hz' tq (fun k L => Or.inr ⟨hp _ (by have := L.1; omega), fun f hf => by omega⟩)
    | succ m ih =>
      intro n hn h T1 PO ht hz' tq hp
      refine G_iload_1 (pc := 7) dX1_findPieces_7 ?_
      refine G_bipush (pc := 8) dX1_findPieces_8 (by omega) ?_
      refine G_icmp_ge (pc := 10) 26 dX1_findPieces_10 (by decide) (by omega) (by omega) (fun q => absurd q (by omega)) (fun _ => ?_)
      refine G_aload_0 (pc := 13) dX1_findPieces_13 ?_
      refine G_kref (pc := 14) dX1_findPieces_14 rfl ht hz' rfl ?_
      refine G_iload_1 (pc := 17) dX1_findPieces_17 ?_
      refine G_iconst (pc := 18) dX1_findPieces_18 ?_
      refine G_kis (pc := 19) dX1_findPieces_19 ht hz' rfl rfl (by omega) (by omega) (fun h ht2 hz2 => ?_)
      rw [Int.toNat_natCast] at ht2 hz2
      rw [kP_set] at hz2
      refine G_iinc_1 (pc := 20) dX1_findPieces_20 (by decide) rfl ?_
      refine G_goto (pc := 23) 7 dX1_findPieces_23 (by decide) ?_
      rw [show ((n : Int) + 1) = ((n + 1 : Nat) : Int) by omega]
      refine ih (n + 1) (by omega) h _ _ ht2 hz2 (tQ_tr tq (tQ_set (Or.inr (Or.inl rfl)))) (fun s hs => ?_)
      unfold updI
      by_cases e : s = n
      · rw [if_pos e]
      · rw [if_neg e]; exact hp s (by omega)
  refine G_aload_0 (pc := 0) dX1_findPieces_0 ?_
  refine G_iconst (pc := 1) dX1_findPieces_1 ?_
  refine G_kput (pc := 2) dX1_findPieces_2 rfl ht hz (by decide) (by omega) (fun h ht2 hz2 => ?_)
  refine G_iconst (pc := 5) dX1_findPieces_5 ?_
  refine G_istore_1 (pc := 6) dX1_findPieces_6 (by decide) rfl ?_
  refine k7 60 0 rfl h _ (S.2 11) ht2 ?_ (tQ_set (Or.inl rfl)) (fun s hs => by omega)
  have := kP_id (mUs S 12 0)
  rw [show (mUs S 12 0).2 11 = S.2 11 from rfl] at this
  rw [this]
  exact hz2
end PIECES
