set_option maxRecDepth 100000
section TELL2
variable {E : gV} {l : Launch} {T : tT} {S : mS} {d : Nat} {h : gH} {HA ND : Nat → Nat} {ns : List Nat} {NX NY : Nat → Int} {LA : Nat → Nat} {LN : Nat → List Nat} {rs : List Nat} {RA FA : Nat → Nat} {a0 : Nat} {vs xs : List Nat} {FL : Nat → Nat} {XS : Nat → List Nat} {LS : Nat → Int}
/-- the round around a piece -/
theorem n_outer (K : zOK (kPl S)) (m : cM0 E S T HA ND ns NX NY LA LN rs RA FA a0 vs xs FL XS LS) {p : Nat} (hp : p < rk (kLv S) (zSame (kPl S)) 120) :
    ∃ f, fst (kLv S) (orb (nxF LN ND)) f ∧ ¬ 0 < kAr S (nxF LN ND) f ∧ S.2 11 (f / 2) = p ∧ (T.1 (gBase E + 11)).2.2 p = .ref (RA f) := by
  obtain ⟨g, g1, G, g3⟩ := rk_srj (L := kLv S) (R := zSame (kPl S)) 120 p hp
  obtain ⟨b, sb, hb⟩ := z_cor_ex K (kPl_L.mpr G.1)
  have B := kPl_L.mp hb.1
  have hc := cRo_is (nx := nxF LN ND) B
  have sf := jG_osame K m.1 hc.1.1 hc.2
  have np := (jG_cor K m.1 hc.1 hb (zSame_symm sf)).mpr hc.2
  have e : S.2 11 (cRo S (nxF LN ND) b / 2) = p := by
    rcases m.2.2.2.2.2.1.1 _ hc.1.1 with ⟨f, w1, w2, w3, w4⟩ | ⟨w1, w2⟩
    · have : f = g := fst_one (L := kLv S) (R := zSame (kPl S)) (fun _ _ h => zSame_sy h) (fun _ _ _ h h' => zSame_tr h h') w2 G (k := b) (zSame_tr w3 sf) sb
      subst this
      rw [w4, g3]
    · exact absurd (zSame_tr sb (zSame_sy sf)) (w2 g (by omega) G)
  refine ⟨_, hc.1, np, e, ?_⟩
  have := m.2.2.2.2.2.2 _ hc.1 np
  rw [e, Int.toNat_natCast] at this
  exact this
theorem n_pc (m : cM0 E S T HA ND ns NX NY LA LN rs RA FA a0 vs xs FL XS LS) : S.1 12 = (rk (kLv S) (zSame (kPl S)) 120 : Nat) ∧ rk (kLv S) (zSame (kPl S)) 120 ≤ 60 := ⟨m.2.2.2.2.2.1.2, rk_half S 60⟩
theorem n_fl (K : zOK (kPl S)) (m : cM0 E S T HA ND ns NX NY LA LN rs RA FA a0 vs xs FL XS LS) : xs.length ≤ 121 := by
  obtain ⟨_, xl, _, _⟩ := n_all K m
  have rb := rk_n (L := cLf S (nxF LN ND)) (R := cEf S (nxF LN ND)) 120
  omega
theorem ok_X1_faceAt (ht : zT E h T) (c : cS E T S) {i : Nat} (hd : 12 ≤ d) (hi : ∀ T' S' HA ND ns NX NY LA LN rs RA FA a0 vs xs FL XS LS, cR E T S T' S' → cM0 E S' T' HA ND ns NX NY LA LN rs RA FA a0 vs xs FL XS LS → i < xs.length) :
    gOk E l gX1_faceAt d 5885 95924 [.ref (gBase E), vI i] h (gRv (fun v h' => ∃ T' S' HA ND ns NX NY LA LN rs RA FA a0 vs xs FL XS LS a, zT E h' T' ∧ cR E T S T' S' ∧ cM0 E S' T' HA ND ns NX NY LA LN rs RA FA a0 vs xs FL XS LS ∧ v = .ref a ∧ xs[i]? = some a)) := by
  refine gOk_of gmok_X1_faceAt rfl (Nat.le_of_ble_eq_true rfl) (L := [some _, some _]) rfl ?_
  refine G_aload_0 (pc := 0) dX1_faceAt_0 ?_
  refine G_callV0u (pc := 1) (d' := 11) dX1_faceAt_1 rfl (zK_k ht c.1) (by decide) rfl (ok_make ht c (Nat.le_refl _)) (by omega) (by omega) (by omega) (Nat.le_of_ble_eq_true rfl) (fun h z => ?_)
  obtain ⟨T', S', HA, ND, ns, NX, NY, LA, LN, rs, RA, FA, a0, vs, xs, FL, XS, LS, ht, r, m⟩ := z
  have hz := r.1
  have K' := zOK_cg (kEq_P r.2.1) c.2.1
  have il := hi T' S' HA ND ns NX NY LA LN rs RA FA a0 vs xs FL XS LS r m
  have xl := n_fl K' m
  obtain ⟨a, ea⟩ : ∃ a, a = xs[i] := ⟨_, rfl⟩
  have hg : xs[i]? = some a := by rw [ea]; exact List.getElem?_eq_getElem il
  have av := (m.2.2.2.1.2.1 a).mp (List.mem_of_getElem? hg)
  have k7 := (m.2.2.1.2 a av).1.1
  refine G_iload_1 (pc := 4) dX1_faceAt_4 ?_
  refine G_if_lt (pc := 5) 19 dX1_faceAt_5 (by decide) (by omega) (fun q => absurd q (by omega)) (fun _ => ?_)
  refine G_iload_1 (pc := 8) dX1_faceAt_8 ?_
  refine G_aload_0 (pc := 9) dX1_faceAt_9 ?_
  refine G_tget (pc := 10) dX1_faceAt_10 rfl ht hz.1 hz.2.2.2.1.2.2 ?_
  refine G_lsize (pc := 13) dX1_faceAt_13 rfl ht m.2.2.2.1.1 (by omega) (by omega) (by omega) (Nat.le_of_ble_eq_true rfl) ?_
  refine G_icmp_lt (pc := 16) 27 dX1_faceAt_16 (by decide) (by omega) (by omega) (fun _ => ?_) (fun q => absurd q (by omega))
  refine G_aload_0 (pc := 27) dX1_faceAt_27 ?_
  refine G_tget (pc := 28) dX1_faceAt_28 rfl ht hz.1 hz.2.2.2.1.2.2 ?_
  refine G_iload_1 (pc := 31) dX1_faceAt_31 ?_
  refine G_lget (pc := 32) dX1_faceAt_32 rfl ht m.2.2.2.1.1 hg (by omega) (by omega) (by omega) (Nat.le_of_ble_eq_true rfl) ?_
  refine G_tcast (pc := 35) dX1_faceAt_35 rfl ht k7 ?_
  refine G_areturn (pc := 38) dX1_faceAt_38 rfl (Or.inl ⟨_, rfl⟩) (Or.inr ⟨_, rfl⟩) (by omega) (by omega) ?_
  exact ⟨_, rfl, _, rfl, T', S', HA, ND, ns, NX, NY, LA, LN, rs, RA, FA, a0, vs, xs, FL, XS, LS, a, ht, r, m, rfl, hg⟩
theorem ok_X1_around (ht : zT E h T) (c : cS E T S) {p : Nat} (hp : p < rk (kLv S) (zSame (kPl S)) 120) (hd : 12 ≤ d) :
    gOk E l gX1_around d 5885 95924 [.ref (gBase E), vI p] h (gRv (fun x h' => ∃ T' S' HA ND ns NX NY LA LN rs RA FA a0 vs xs FL XS LS f v, zT E h' T' ∧ cR E T S T' S' ∧ cM0 E S' T' HA ND ns NX NY LA LN rs RA FA a0 vs xs FL XS LS ∧ x = vI (v : Nat) ∧ cNo S' (nxF LN ND) f v ∧ fst (kLv S') (orb (nxF LN ND)) f ∧ ¬ 0 < kAr S' (nxF LN ND) f ∧ S'.2 11 (f / 2) = p)) := by
  refine gOk_of gmok_X1_around rfl (Nat.le_of_ble_eq_true rfl) (L := [some _, some _]) rfl ?_
  refine G_aload_0 (pc := 0) dX1_around_0 ?_
  refine G_callV0u (pc := 1) (d' := 11) dX1_around_1 rfl (zK_k ht c.1) (by decide) rfl (ok_make ht c (Nat.le_refl _)) (by omega) (by omega) (by omega) (Nat.le_of_ble_eq_true rfl) (fun h z => ?_)
  obtain ⟨T', S', HA, ND, ns, NX, NY, LA, LN, rs, RA, FA, a0, vs, xs, FL, XS, LS, ht, r, m⟩ := z
  have hz := r.1
  have K' := zOK_cg (kEq_P r.2.1) c.2.1
  have pe := n_pc m
  have hp' : p < rk (kLv S') (zSame (kPl S')) 120 := by rw [kEq_L r.2.1, pEq_sameE (kEq_P r.2.1)]; exact hp
  obtain ⟨f, F, np, e, ou⟩ := n_outer K' m hp'
  have q := m.2.1.2.2.1 f F
  obtain ⟨v, v1, v2⟩ := n_face K' m F.1
  have k13 := hz.2.2.2.2.2
  refine G_iload_1 (pc := 4) dX1_around_4 ?_
  refine G_if_lt (pc := 5) 16 dX1_around_5 (by decide) (by omega) (fun q => absurd q (by omega)) (fun _ => ?_)
  refine G_iload_1 (pc := 8) dX1_around_8 ?_
  refine G_aload_0 (pc := 9) dX1_around_9 ?_
  refine G_kget (pc := 10) dX1_around_10 rfl ht hz rfl rfl rfl (fun b10 => ?_)
  rw [pe.1]
  refine G_icmp_lt (pc := 13) 24 dX1_around_13 (by decide) (by omega) (by omega) (fun _ => ?_) (fun q => absurd q (by omega))
  refine G_aload_0 (pc := 24) dX1_around_24 ?_
  refine G_aload_0 (pc := 25) dX1_around_25 ?_
  refine G_tget (pc := 26) dX1_around_26 rfl ht hz.1 k13.1 ?_
  refine G_iload_1 (pc := 29) dX1_around_29 ?_
  refine G_taald (pc := 30) (v := .ref (RA f)) dX1_around_30 ht (Or.inr k13.2.1) (by rw [k13.2.2]; omega) (by rw [k13.2.2]; omega) (by rw [Int.toNat_natCast]; exact ou) ?_
  refine G_tget (pc := 31) (v := .ref (fdA (rsC S' (nxF LN ND)) FA a0 f)) dX1_around_31 rfl ht q.2.1 q.2.2.2 ?_
  refine G_pV1 (pc := 34) dX1_around_34 rfl (zK_k ht hz) (by decide) rfl (n_num ht hz K' m v2) (by omega) (by omega) (by omega) (Nat.le_of_ble_eq_true rfl) ?_
  refine G_ireturn (pc := 37) dX1_around_37 rfl rfl (by omega) (by omega) ?_
  exact ⟨_, rfl, _, rfl, T', S', HA, ND, ns, NX, NY, LA, LN, rs, RA, FA, a0, vs, xs, FL, XS, LS, f, v, ht, r, m, rfl, v1, F, np, e⟩
theorem ok_X1_area (ht : zT E h T) (c : cS E T S) {i : Nat} (hd : 13 ≤ d) (hi : ∀ T' S' HA ND ns NX NY LA LN rs RA FA a0 vs xs FL XS LS, cR E T S T' S' → cM0 E S' T' HA ND ns NX NY LA LN rs RA FA a0 vs xs FL XS LS → i < xs.length) :
    gOk E l gX1_area d 6005 96284 [.ref (gBase E), vI i] h (gRv (fun v h' => ∃ T' S' HA ND ns NX NY LA LN rs RA FA a0 vs xs FL XS LS a, zT E h' T' ∧ cR E T S T' S' ∧ cM0 E S' T' HA ND ns NX NY LA LN rs RA FA a0 vs xs FL XS LS ∧ xs[i]? = some a ∧ v = vI (if i = 0 then 0 else iS (XS a).length (fun k => kAr S' (nxF LN ND) ((XS a).getD k 0))))) := by
  refine gOk_of gmok_X1_area rfl (Nat.le_of_ble_eq_true rfl) (L := [some _, some _, none]) rfl ?_
  refine G_aload_0 (pc := 0) dX1_area_0 ?_
  refine G_iload_1 (pc := 1) dX1_area_1 ?_
  refine G_callV1v (pc := 2) (d' := 12) dX1_area_2 rfl (zK_k ht c.1) (by decide) rfl (ok_X1_faceAt ht c (Nat.le_refl _) hi) (by omega) (by omega) (by omega) (Nat.le_of_ble_eq_true rfl) (fun v h z => ?_)
  obtain ⟨T', S', HA, ND, ns, NX, NY, LA, LN, rs, RA, FA, a0, vs, xs, FL, XS, LS, a, ht, r, m, rfl, ha⟩ := z
  have hz := r.1
  have K' := zOK_cg (kEq_P r.2.1) c.2.1
  have g' := kGd_of K'
  have nn' := jG_nn K' m.1
  have il := hi T' S' HA ND ns NX NY LA LN rs RA FA a0 vs xs FL XS LS r m
  have xl := n_fl K' m
  have av := (m.2.2.2.1.2.1 a).mp (List.mem_of_getElem? ha)
  have q := m.2.2.1.2 a av
  have lx : (XS a).length ≤ 120 := nodup_len q.2.2.2.1 (fun k hk => ((q.2.2.2.2.1 k).mp hk).1.1.1)
  refine G_astore_2 (pc := 5) dX1_area_5 (by decide) rfl ?_
  refine G_iload_1 (pc := 6) dX1_area_6 ?_
  refine G_if_ne (pc := 7) 14 dX1_area_7 (by decide) (by omega) (fun c7 => ?_) (fun c7 => ?_)
  · refine G_aload_2 (pc := 14) dX1_area_14 ?_
    have inj := gR_inj m.2.1 (jG_inj m.1)
    have xm : ∀ f, f ∈ XS a → fst (kLv S') (orb (nxF LN ND)) f := fun f hf => ((q.2.2.2.2.1 f).mp hf).1
    have ar := ok_X7_area (l := l) ht (f := a) (b := FL a) (xs := (XS a).map RA) (A := fun y => kAr S' (nxF LN ND) (hInv (fst (kLv S') (orb (nxF LN ND))) RA y)) q.1.1 q.1.2.1 q.2.1 (fun y hy => by
      obtain ⟨f, hf, ef⟩ := List.mem_map.mp hy
      subst ef
      show rA T' (RA f) (kAr S' (nxF LN ND) (hInv (fst (kLv S') (orb (nxF LN ND))) RA (RA f)))
      rw [hInv_is inj (xm f hf)]
      exact jG_rA g' m.1 nn' m.2.1 (xm f hf)) (by rw [List.length_map]; omega) (Nat.le_refl 5)
    rw [List.length_map] at ar
    refine G_callV0v (pc := 15) (d' := 5) dX1_area_15 rfl (by rw [zT_at ht q.1.1 (by omega)]; exact q.1.1) (by decide) rfl ar (by omega) (by omega) (by omega) (Nat.le_of_ble_eq_true rfl) (fun v h z => ?_)
    obtain ⟨rfl, T2, ht2, x⟩ := z
    refine G_l2i (pc := 18) dX1_area_18 ?_
    refine G_ireturn (pc := 19) dX1_area_19 rfl rfl (by omega) (by omega) ?_
    refine ⟨_, rfl, _, rfl, T2, S', HA, ND, ns, NX, NY, LA, LN, rs, RA, FA, a0, vs, xs, FL, XS, LS, a, ht2, ⟨zK_x x r.1, r.2.1, r.2.2.1, r.2.2.2.1, r.2.2.2.2.1, tK_tr r.2.2.2.2.2 (tK_x x)⟩, cM0_x m hz x, ha, ?_⟩
    rw [if_neg (by omega)]
    congr 1
    have : ∀ n, n ≤ (XS a).length → iS n (fun k => kAr S' (nxF LN ND) (hInv (fst (kLv S') (orb (nxF LN ND))) RA (((XS a).map RA).getD k 0))) = iS n (fun k => kAr S' (nxF LN ND) ((XS a).getD k 0)) := by
      intro n
      induction n with
      | zero => intro _; rfl
      | succ n ihn =>
        intro hn
        simp only [iS]
        rw [ihn (by omega)]
        have hl : n < (XS a).length := by omega
        have e1 : ((XS a).map RA).getD n 0 = RA ((XS a).getD n 0) := by
          rw [List.getD_eq_getElem?_getD, List.getD_eq_getElem?_getD, List.getElem?_map, List.getElem?_eq_getElem hl]
          rfl
        have e2 : (XS a).getD n 0 ∈ XS a := by
          rw [List.getD_eq_getElem?_getD, List.getElem?_eq_getElem hl]
          exact List.getElem_mem hl
        rw [e1, hInv_is inj (xm _ e2)]
    rw [this _ (Nat.le_refl _)]
  · refine G_iconst (pc := 10) dX1_area_10 ?_
    refine G_goto (pc := 11) 19 dX1_area_11 (by decide) ?_
    refine G_ireturn (pc := 19) dX1_area_19 rfl rfl (by omega) (by omega) ?_
    exact ⟨_, rfl, _, rfl, T', S', HA, ND, ns, NX, NY, LA, LN, rs, RA, FA, a0, vs, xs, FL, XS, LS, a, ht, r, m, ha, by rw [if_pos (by omega)]⟩
end TELL2
