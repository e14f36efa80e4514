set_option maxRecDepth 100000
section TELL4
variable {E : gV} {l : Launch} {T : tT} {S : mS} {d : Nat} {h : gH}
/-- what a border tells -/
noncomputable def bdC (S : mS) (nx : Nat → Nat) (FA : Nat → Nat) (a0 : Nat) (XS : Nat → List Nat) (LS : Nat → Int) (o : Nat → Nat) (a : Nat) (w : Int) : Int :=
  zI (w = 0) ((XS a).length : Int) (zI (w = 1) (iS (XS a).length (fun k => (per nx ((XS a).getD k 0) : Int))) (zI (w = 2) (zI (XS a = []) (-1) (LS a)) (zI (w = 3) (inC (fun p => fdA (rsC S nx) FA a0 (o p)) a (rk (kLv S) (zSame (kPl S)) 120)) (-1))))
theorem ok_X1_border (ht : zT E h T) (c : cS E T S) {i : Nat} {w : Int} (hw : -2147483648 ≤ w ∧ w ≤ 2147483647) (hd : 13 ≤ d) (hi : ∀ T' S' HA ND ns NX NY LA LN rs RA FA a0 vs xs FL XS LS, cR E T S T' S' → cM0 E S' T' HA ND ns NX NY LA LN rs RA FA a0 vs xs FL XS LS → i < xs.length) :
    gOk E l gX1_border d 6005 96284 [.ref (gBase E), vI i, vI w] h (gRv (fun v h' => ∃ T' S' HA ND ns NX NY LA LN rs RA FA a0 vs xs FL XS LS a o, zT E h' T' ∧ cR E T S T' S' ∧ cM0 E S' T' HA ND ns NX NY LA LN rs RA FA a0 vs xs FL XS LS ∧ xs[i]? = some a ∧
      (∀ p, p < rk (kLv S') (zSame (kPl S')) 120 → fst (kLv S') (orb (nxF LN ND)) (o p) ∧ ¬ 0 < kAr S' (nxF LN ND) (o p) ∧ S'.2 11 (o p / 2) = p) ∧ v = vI (bdC S' (nxF LN ND) FA a0 XS LS o a w))) := by
  refine gOk_of gmok_X1_border rfl (Nat.le_of_ble_eq_true rfl) (L := [some _, some _, some _, none]) rfl ?_
  refine G_aload_0 (pc := 0) dX1_border_0 ?_
  refine G_iload_1 (pc := 1) dX1_border_1 ?_
  refine G_callV1v (pc := 2) (d' := 12) dX1_border_2 rfl (zK_k ht c.1) (by decide) rfl (ok_X1_faceAt ht c (Nat.le_refl _) hi) (by omega) (by omega) (by omega) (Nat.le_of_ble_eq_true rfl) (fun v h z => ?_)
  obtain ⟨T', S', HA, ND, ns, NX, NY, LA, LN, rs, RA, FA, a0, vs, xs, FL, XS, LS, a, ht, r, m, rfl, ha⟩ := z
  have hz := r.1
  have K' := zOK_cg (kEq_P r.2.1) c.2.1
  have av := (m.2.2.2.1.2.1 a).mp (List.mem_of_getElem? ha)
  have q := m.2.2.1.2 a av
  have lx : (XS a).length ≤ 120 := nodup_len q.2.2.2.1 (fun k hk => ((q.2.2.2.2.1 k).mp hk).1.1.1)
  let o : Nat → Nat := fun p => Classical.epsilon (fun f => fst (kLv S') (orb (nxF LN ND)) f ∧ ¬ 0 < kAr S' (nxF LN ND) f ∧ S'.2 11 (f / 2) = p ∧ (T'.1 (gBase E + 11)).2.2 p = .ref (RA f))
  have ho : ∀ p, p < rk (kLv S') (zSame (kPl S')) 120 → fst (kLv S') (orb (nxF LN ND)) (o p) ∧ ¬ 0 < kAr S' (nxF LN ND) (o p) ∧ S'.2 11 (o p / 2) = p ∧ (T'.1 (gBase E + 11)).2.2 p = .ref (RA (o p)) := fun p hp => Classical.epsilon_spec (p := fun f => fst (kLv S') (orb (nxF LN ND)) f ∧ ¬ 0 < kAr S' (nxF LN ND) f ∧ S'.2 11 (f / 2) = p ∧ (T'.1 (gBase E + 11)).2.2 p = .ref (RA f)) (n_outer K' m hp)
  have ho' : ∀ p, p < rk (kLv S') (zSame (kPl S')) 120 → fst (kLv S') (orb (nxF LN ND)) (o p) ∧ ¬ 0 < kAr S' (nxF LN ND) (o p) ∧ S'.2 11 (o p / 2) = p := fun p hp => ⟨(ho p hp).1, (ho p hp).2.1, (ho p hp).2.2.1⟩
  refine G_astore_3 (pc := 5) dX1_border_5 (by decide) rfl ?_
  refine G_iload_2 (pc := 6) dX1_border_6 ?_
  by_cases w0 : w = 0
  · subst w0
    refine G_tswI (pc := 7) 36 dX1_border_7 (by omega) (by omega) (off := 29) rfl (by decide) ?_
    refine G_aload_3 (pc := 36) dX1_border_36 ?_
    refine G_tget (pc := 37) dX1_border_37 rfl ht q.1.1 q.1.2.1 ?_
    refine G_lsize (pc := 40) dX1_border_40 rfl ht q.2.1 (by omega) (by omega) (by omega) (Nat.le_of_ble_eq_true rfl) ?_
    refine G_goto (pc := 43) 84 dX1_border_43 (by decide) ?_
    refine G_ireturn (pc := 84) dX1_border_84 rfl rfl (by omega) (by omega) ?_
    refine ⟨_, rfl, _, rfl, T', S', HA, ND, ns, NX, NY, LA, LN, rs, RA, FA, a0, vs, xs, FL, XS, LS, a, o, ht, r, m, ha, ho', ?_⟩
    unfold bdC
    rw [zI_pos rfl, List.length_map]
  by_cases w1 : w = 1
  · subst w1
    refine G_tswI (pc := 7) 46 dX1_border_7 (by omega) (by omega) (off := 39) rfl (by decide) ?_
    refine G_aload_0 (pc := 46) dX1_border_46 ?_
    refine G_aload_3 (pc := 47) dX1_border_47 ?_
    refine G_callV1v (pc := 48) (d' := 5) dX1_border_48 rfl (zK_k ht hz) (by decide) rfl (ok_X1_length ht hz K' m av (Nat.le_refl _)) (by omega) (by omega) (by omega) (Nat.le_of_ble_eq_true rfl) (fun v h z => ?_)
    obtain ⟨rfl, T2, ht2, x⟩ := z
    refine G_goto (pc := 51) 84 dX1_border_51 (by decide) ?_
    refine G_ireturn (pc := 84) dX1_border_84 rfl rfl (by omega) (by omega) ?_
    refine ⟨_, rfl, _, rfl, T2, S', HA, ND, ns, NX, NY, LA, LN, rs, RA, FA, a0, vs, xs, FL, XS, LS, a, o, ht2, ⟨zK_x x r.1, r.2.1, r.2.2.1, r.2.2.2.1, r.2.2.2.2.1, tK_tr r.2.2.2.2.2 (tK_x x)⟩, cM0_x m hz x, ha, ho', ?_⟩
    unfold bdC
    rw [zI_neg w0, zI_pos rfl]
  by_cases w2 : w = 2
  · subst w2
    refine G_tswI (pc := 7) 54 dX1_border_7 (by omega) (by omega) (off := 47) rfl (by decide) ?_
    refine G_aload_3 (pc := 54) dX1_border_54 ?_
    refine G_tget (pc := 55) dX1_border_55 rfl ht q.1.1 q.1.2.1 ?_
    refine G_lemp (pc := 58) dX1_border_58 rfl ht q.2.1 (by omega) (by omega) (by omega) (Nat.le_of_ble_eq_true rfl) ?_
    have eE : ((XS a).map RA = []) ↔ XS a = [] := List.map_eq_nil_iff
    refine G_ifb_eq (pc := 61) 68 dX1_border_61 (by decide) (fun c61 => ?_) (fun c61 => ?_)
    · refine G_aload_3 (pc := 68) dX1_border_68 ?_
      refine G_tget (pc := 69) dX1_border_69 rfl ht q.1.1 q.1.2.2 ?_
      refine G_goto (pc := 72) 84 dX1_border_72 (by decide) ?_
      refine G_ireturn (pc := 84) dX1_border_84 rfl rfl (by omega) (by omega) ?_
      refine ⟨_, rfl, _, rfl, T', S', HA, ND, ns, NX, NY, LA, LN, rs, RA, FA, a0, vs, xs, FL, XS, LS, a, o, ht, r, m, ha, ho', ?_⟩
      unfold bdC
      rw [zI_neg w0, zI_neg w1, zI_pos rfl, zI_neg (fun e => c61 (eE.mpr e))]
    · refine G_iconst (pc := 64) dX1_border_64 ?_
      refine G_goto (pc := 65) 84 dX1_border_65 (by decide) ?_
      refine G_ireturn (pc := 84) dX1_border_84 rfl rfl (by omega) (by omega) ?_
      refine ⟨_, rfl, _, rfl, T', S', HA, ND, ns, NX, NY, LA, LN, rs, RA, FA, a0, vs, xs, FL, XS, LS, a, o, ht, r, m, ha, ho', ?_⟩
      unfold bdC
      rw [zI_neg w0, zI_neg w1, zI_pos rfl, zI_pos (eE.mp c61)]
  by_cases w3 : w = 3
  · subst w3
    refine G_tswI (pc := 7) 75 dX1_border_7 (by omega) (by omega) (off := 68) rfl (by decide) ?_
    refine G_aload_0 (pc := 75) dX1_border_75 ?_
    refine G_aload_3 (pc := 76) dX1_border_76 ?_
    refine G_pV1 (pc := 77) dX1_border_77 rfl (zK_k ht hz) (by decide) rfl (pu_X1_inside ht hz K' m (o := o) (fun p hp => ⟨(ho p hp).1, (ho p hp).2.2.2⟩)) (by omega) (by omega) (by omega) (Nat.le_of_ble_eq_true rfl) ?_
    refine G_goto (pc := 80) 84 dX1_border_80 (by decide) ?_
    refine G_ireturn (pc := 84) dX1_border_84 rfl rfl (by omega) (by omega) ?_
    refine ⟨_, rfl, _, rfl, T', S', HA, ND, ns, NX, NY, LA, LN, rs, RA, FA, a0, vs, xs, FL, XS, LS, a, o, ht, r, m, ha, ho', ?_⟩
    unfold bdC
    rw [zI_neg w0, zI_neg w1, zI_neg w2, zI_pos rfl]
  · refine G_tswO (pc := 7) 83 dX1_border_7 (by omega) (by omega) (by decide) ?_
    refine G_iconst (pc := 83) dX1_border_83 ?_
    refine G_ireturn (pc := 84) dX1_border_84 rfl rfl (by omega) (by omega) ?_
    refine ⟨_, rfl, _, rfl, T', S', HA, ND, ns, NX, NY, LA, LN, rs, RA, FA, a0, vs, xs, FL, XS, LS, a, o, ht, r, m, ha, ho', ?_⟩
    unfold bdC
    rw [zI_neg w0, zI_neg w1, zI_neg w2, zI_neg w3]
variable {HA ND : Nat → Nat} {ns : List Nat} {NX NY : Nat → Int} {LA : Nat → Nat} {LN : Nat → List Nat} {rs : List Nat} {RA FA : Nat → Nat} {a0 : Nat} {vs xs : List Nat} {FL : Nat → Nat} {XS : Nat → List Nat} {LS : Nat → Int}
/-- how many segments have the same face on both sides -/
noncomputable def brC (S : mS) (fa : Nat → Nat) : Nat → Int
  | 0 => 0
  | n + 1 => brC S fa n + bI (S.2 1 n = 1 ∧ fa (2 * n) = fa (2 * n + 1))
theorem pu_X1_bridges (ht : zT E h T) (hz : zK E T S) (K : zOK (kPl S)) (m : cM0 E S T HA ND ns NX NY LA LN rs RA FA a0 vs xs FL XS LS) : gPu E l gX1_bridges 1 [.ref (gBase E)] h (vI (brC S (fdA (rsC S (nxF LN ND)) FA a0) 60)) := by
  intro d hd
  refine gOk_of gmok_X1_bridges rfl (Nat.le_of_ble_eq_true rfl) (L := [some _, none, none]) rfl ?_
  obtain ⟨Q, hQ⟩ : ∃ Q, Q = gRet (gRv (fun x h' => x = vI (brC S (fdA (rsC S (nxF LN ND)) FA a0) 60) ∧ h' = h)) := ⟨_, rfl⟩
  rw [← hQ]
  have k8 := hz.2.2.2.2.1
  have k4 : ∀ (q k : Nat), k + q = 60 → G E l gX1_bridges d 0 0 Q 4 [some (.ref (gBase E)), some (vI (brC S (fdA (rsC S (nxF LN ND)) FA a0) k)), some (vI k)] [] h 0 0 := by
    intro q
    induction q with
    | zero =>
      intro k hk
      have ek : k = 60 := by omega
      subst ek
      refine G_iload_2 (pc := 4) dX1_bridges_4 ?_
      refine G_bipush (pc := 5) dX1_bridges_5 (by omega) ?_
      refine G_icmp_ge (pc := 7) 66 dX1_bridges_7 (by decide) (by omega) (by omega) (fun _ => ?_) (fun q => absurd q (by omega))
      refine G_iload_1 (pc := 66) dX1_bridges_66 ?_
      refine G_ireturn (pc := 67) dX1_bridges_67 rfl rfl (by omega) (by omega) ?_
      subst hQ
      exact ⟨_, rfl, _, rfl, rfl, rfl⟩
    | succ q ih =>
      intro k hk
      have fin : ∀ t : Int, t = bI (S.2 1 k = 1 ∧ fdA (rsC S (nxF LN ND)) FA a0 (2 * k) = fdA (rsC S (nxF LN ND)) FA a0 (2 * k + 1)) → G E l gX1_bridges d 0 0 Q 58 [some (.ref (gBase E)), some (vI (brC S (fdA (rsC S (nxF LN ND)) FA a0) k)), some (vI k)] [vI t, vI (brC S (fdA (rsC S (nxF LN ND)) FA a0) k)] h 0 0 := by
        intro t et
        refine G_iadd (pc := 58) dX1_bridges_58 ?_
        refine G_istore_1 (pc := 59) dX1_bridges_59 (by decide) rfl ?_
        refine G_iinc_2 (pc := 60) dX1_bridges_60 (by decide) rfl ?_
        refine G_goto (pc := 63) 4 dX1_bridges_63 (by decide) ?_
        rw [show ((k : Int) + 1) = ((k + 1 : Nat) : Int) by omega, et]
        exact ih (k + 1) (by omega)
      refine G_iload_2 (pc := 4) dX1_bridges_4 ?_
      refine G_bipush (pc := 5) dX1_bridges_5 (by omega) ?_
      refine G_icmp_ge (pc := 7) 66 dX1_bridges_7 (by decide) (by omega) (by omega) (fun q => absurd q (by omega)) (fun _ => ?_)
      refine G_iload_1 (pc := 10) dX1_bridges_10 ?_
      refine G_aload_0 (pc := 11) dX1_bridges_11 ?_
      refine G_kref (pc := 12) dX1_bridges_12 rfl ht hz rfl ?_
      refine G_iload_2 (pc := 15) dX1_bridges_15 ?_
      refine G_kb (pc := 16) dX1_bridges_16 ht hz (by omega) (fun b16 => ?_)
      rw [Int.toNat_natCast] at b16 ⊢
      refine G_if_eq (pc := 17) 57 dX1_bridges_17 (by decide) (by omega) (fun c17 => ?_) (fun c17 => ?_)
      · refine G_iconst (pc := 57) dX1_bridges_57 ?_
        exact fin 0 (bI_neg (fun w => by have := w.1; omega)).symm
      · have ls : S.2 1 k = 1 := by omega
        have L1 : kLv S (2 * k) := ⟨by omega, by rw [show 2 * k / 2 = k by omega]; exact ls⟩
        have L2 : kLv S (2 * k + 1) := ⟨by omega, by rw [show (2 * k + 1) / 2 = k by omega]; exact ls⟩
        have a1 := m.1.2.2.2.1 _ L1.1
        have a2 := m.1.2.2.2.1 _ L2.1
        rw [zI_pos L1] at a1
        rw [zI_pos L2] at a2
        obtain ⟨f, f1, f2, f3, f4, f5⟩ := cM0_fc K m L1
        obtain ⟨g, g1, g2, g3, g4, g5⟩ := cM0_fc K m L2
        refine G_aload_0 (pc := 20) dX1_bridges_20 ?_
        refine G_tget (pc := 21) dX1_bridges_21 rfl ht hz.1 k8.1 ?_
        refine G_iconst (pc := 24) dX1_bridges_24 ?_
        refine G_iload_2 (pc := 25) dX1_bridges_25 ?_
        refine G_imul (pc := 26) dX1_bridges_26 ?_
        rw [show (2 : Int) * (k : Int) = ((2 * k : Nat) : Int) by omega]
        refine G_taald (pc := 27) (v := .ref (HA (2 * k))) dX1_bridges_27 ht (Or.inl k8.2.1) (by rw [k8.2.2]; omega) (by rw [k8.2.2]; omega) (by rw [Int.toNat_natCast]; exact a1) ?_
        refine G_tget (pc := 28) dX1_bridges_28 rfl ht (m.1.2.1 _ L1).1.1.1 f1 ?_
        refine G_tget (pc := 31) dX1_bridges_31 rfl ht f4.1 f4.2 ?_
        refine G_aload_0 (pc := 34) dX1_bridges_34 ?_
        refine G_tget (pc := 35) dX1_bridges_35 rfl ht hz.1 k8.1 ?_
        refine G_iconst (pc := 38) dX1_bridges_38 ?_
        refine G_iload_2 (pc := 39) dX1_bridges_39 ?_
        refine G_imul (pc := 40) dX1_bridges_40 ?_
        refine G_iconst (pc := 41) dX1_bridges_41 ?_
        refine G_iadd (pc := 42) dX1_bridges_42 ?_
        rw [show (2 : Int) * (k : Int) + 1 = ((2 * k + 1 : Nat) : Int) by omega]
        refine G_taald (pc := 43) (v := .ref (HA (2 * k + 1))) dX1_bridges_43 ht (Or.inl k8.2.1) (by rw [k8.2.2]; omega) (by rw [k8.2.2]; omega) (by rw [Int.toNat_natCast]; exact a2) ?_
        refine G_tget (pc := 44) dX1_bridges_44 rfl ht (m.1.2.1 _ L2).1.1.1 g1 ?_
        refine G_tget (pc := 47) dX1_bridges_47 rfl ht g4.1 g4.2 ?_
        refine G_acmp_ne (pc := 50) 57 dX1_bridges_50 (by decide) (fun c50 => ?_) (fun c50 => ?_)
        · refine G_iconst (pc := 57) dX1_bridges_57 ?_
          exact fin 0 (bI_neg (fun w => c50 w.2)).symm
        · refine G_iconst (pc := 53) dX1_bridges_53 ?_
          refine G_goto (pc := 54) 58 dX1_bridges_54 (by decide) ?_
          exact fin 1 (bI_pos ⟨ls, c50⟩).symm
  refine G_iconst (pc := 0) dX1_bridges_0 ?_
  refine G_istore_1 (pc := 1) dX1_bridges_1 (by decide) rfl ?_
  refine G_iconst (pc := 2) dX1_bridges_2 ?_
  refine G_istore_2 (pc := 3) dX1_bridges_3 (by decide) rfl ?_
  exact k4 60 0 rfl
noncomputable def ctC (S : mS) (fa : Nat → Nat) (nN nF nR : Nat) (w : Int) : Int := zI (w = 0) (S.1 0) (zI (w = 1) (nN : Int) (zI (w = 2) (nF : Int) (zI (w = 3) (S.1 12) (zI (w = 4) (brC S fa 60) (zI (w = 5) (nR : Int) (-1))))))
theorem ok_X1_count (ht : zT E h T) (c : cS E T S) {w : Int} (hw : -2147483648 ≤ w ∧ w ≤ 2147483647) (hd : 12 ≤ d) :
    gOk E l gX1_count d 5885 95924 [.ref (gBase E), vI w] h (gRv (fun v h' => ∃ T' S' HA ND ns NX NY LA LN rs RA FA a0 vs xs FL XS LS, zT E h' T' ∧ cR E T S T' S' ∧ cM0 E S' T' HA ND ns NX NY LA LN rs RA FA a0 vs xs FL XS LS ∧ v = vI (ctC S' (fdA (rsC S' (nxF LN ND)) FA a0) ns.length xs.length rs.length w))) := by
  refine gOk_of gmok_X1_count rfl (Nat.le_of_ble_eq_true rfl) (L := [some _, some _]) rfl ?_
  refine G_aload_0 (pc := 0) dX1_count_0 ?_
  refine G_callV0u (pc := 1) (d' := 11) dX1_count_1 rfl (zK_k ht c.1) (by decide) rfl (ok_make ht c (Nat.le_refl _)) (by omega) (by omega) (by omega) (Nat.le_of_ble_eq_true rfl) (fun h z => ?_)
  obtain ⟨T', S', HA, ND, ns, NX, NY, LA, LN, rs, RA, FA, a0, vs, xs, FL, XS, LS, ht, r, m⟩ := z
  have hz := r.1
  have K' := zOK_cg (kEq_P r.2.1) c.2.1
  have fin : ∀ v : Int, v = ctC S' (fdA (rsC S' (nxF LN ND)) FA a0) ns.length xs.length rs.length w → G E l gX1_count d 5885 95924 (gRet (gRv (fun v h' => ∃ T' S' HA ND ns NX NY LA LN rs RA FA a0 vs xs FL XS LS, zT E h' T' ∧ cR E T S T' S' ∧ cM0 E S' T' HA ND ns NX NY LA LN rs RA FA a0 vs xs FL XS LS ∧ v = vI (ctC S' (fdA (rsC S' (nxF LN ND)) FA a0) ns.length xs.length rs.length w)))) 96 [some (.ref (gBase E)), some (vI w)] [vI v] h (0 + 5885) (0 + 95924) := by
    intro v e
    refine G_ireturn (pc := 96) dX1_count_96 rfl rfl (by omega) (by omega) ?_
    exact ⟨_, rfl, _, rfl, T', S', HA, ND, ns, NX, NY, LA, LN, rs, RA, FA, a0, vs, xs, FL, XS, LS, ht, r, m, by rw [e]⟩
  unfold ctC at fin
  refine G_iload_1 (pc := 4) dX1_count_4 ?_
  by_cases w0 : w = 0
  · subst w0
    refine G_tswI (pc := 5) 44 dX1_count_5 (by omega) (by omega) (off := 39) rfl (by decide) ?_
    refine G_aload_0 (pc := 44) dX1_count_44 ?_
    refine G_kget (pc := 45) dX1_count_45 rfl ht hz rfl rfl rfl (fun b => ?_)
    refine G_goto (pc := 48) 96 dX1_count_48 (by decide) ?_
    exact fin _ (by rw [zI_pos rfl])
  by_cases w1 : w = 1
  · subst w1
    refine G_tswI (pc := 5) 51 dX1_count_5 (by omega) (by omega) (off := 46) rfl (by decide) ?_
    refine G_aload_0 (pc := 51) dX1_count_51 ?_
    refine G_tget (pc := 52) dX1_count_52 rfl ht hz.1 hz.2.2.2.1.1 ?_
    refine G_lsize (pc := 55) dX1_count_55 rfl ht m.1.1.1 (by omega) (by omega) (by omega) (Nat.le_of_ble_eq_true rfl) ?_
    refine G_goto (pc := 58) 96 dX1_count_58 (by decide) ?_
    exact fin _ (by rw [zI_neg w0, zI_pos rfl])
  by_cases w2 : w = 2
  · subst w2
    refine G_tswI (pc := 5) 61 dX1_count_5 (by omega) (by omega) (off := 56) rfl (by decide) ?_
    refine G_aload_0 (pc := 61) dX1_count_61 ?_
    refine G_tget (pc := 62) dX1_count_62 rfl ht hz.1 hz.2.2.2.1.2.2 ?_
    refine G_lsize (pc := 65) dX1_count_65 rfl ht m.2.2.2.1.1 (by omega) (by omega) (by omega) (Nat.le_of_ble_eq_true rfl) ?_
    refine G_goto (pc := 68) 96 dX1_count_68 (by decide) ?_
    exact fin _ (by rw [zI_neg w0, zI_neg w1, zI_pos rfl])
  by_cases w3 : w = 3
  · subst w3
    refine G_tswI (pc := 5) 71 dX1_count_5 (by omega) (by omega) (off := 66) rfl (by decide) ?_
    refine G_aload_0 (pc := 71) dX1_count_71 ?_
    refine G_kget (pc := 72) dX1_count_72 rfl ht hz rfl rfl rfl (fun b => ?_)
    refine G_goto (pc := 75) 96 dX1_count_75 (by decide) ?_
    exact fin _ (by rw [zI_neg w0, zI_neg w1, zI_neg w2, zI_pos rfl])
  by_cases w4 : w = 4
  · subst w4
    refine G_tswI (pc := 5) 78 dX1_count_5 (by omega) (by omega) (off := 73) rfl (by decide) ?_
    refine G_aload_0 (pc := 78) dX1_count_78 ?_
    refine G_pV0 (pc := 79) dX1_count_79 rfl (zK_k ht hz) (by decide) rfl (pu_X1_bridges ht hz K' m) (by omega) (by omega) (by omega) (Nat.le_of_ble_eq_true rfl) ?_
    refine G_goto (pc := 82) 96 dX1_count_82 (by decide) ?_
    exact fin _ (by rw [zI_neg w0, zI_neg w1, zI_neg w2, zI_neg w3, zI_pos rfl])
  by_cases w5 : w = 5
  · subst w5
    refine G_tswI (pc := 5) 85 dX1_count_5 (by omega) (by omega) (off := 80) rfl (by decide) ?_
    refine G_aload_0 (pc := 85) dX1_count_85 ?_
    refine G_tget (pc := 86) dX1_count_86 rfl ht hz.1 hz.2.2.2.1.2.1 ?_
    refine G_lsize (pc := 89) dX1_count_89 rfl ht m.2.1.1 (by omega) (by omega) (by omega) (Nat.le_of_ble_eq_true rfl) ?_
    refine G_goto (pc := 92) 96 dX1_count_92 (by decide) ?_
    exact fin _ (by rw [zI_neg w0, zI_neg w1, zI_neg w2, zI_neg w3, zI_neg w4, zI_pos rfl])
  · refine G_tswO (pc := 5) 95 dX1_count_5 (by omega) (by omega) (by decide) ?_
    refine G_iconst (pc := 95) dX1_count_95 ?_
    exact fin _ (by rw [zI_neg w0, zI_neg w1, zI_neg w2, zI_neg w3, zI_neg w4, zI_neg w5])
end TELL4
