set_option maxRecDepth 100000
/-! what is told, where nothing is refused -/
def cS (E : gV) (T : tT) (S : mS) : Prop := zK E T S ∧ zOK (kPl S) ∧ (T.2 (gBase E + 6) ≠ none ∧ T.2 (gBase E + 8) ≠ none ∧ T.2 (gBase E + 9) ≠ none) ∧ (S.1 6 = 1 → cMd E S T)
def cR (E : gV) (T : tT) (S : mS) (T' : tT) (S' : mS) : Prop := zK E T' S' ∧ kEq S S' ∧ S'.1 0 = S.1 0 ∧ S'.1 6 = 1 ∧ (∀ f, 1 ≤ f → f ≤ 5 → S'.2 f = S.2 f) ∧ tK (xC E) T T'
theorem zOK_cg {P P' : zP} (e : pEq P P') (K : zOK P) : zOK P' := by
  have on : ∀ g x y, zL P g = true → (zOn P' g x y ↔ zOn P g x y) ∧ (zEnd P' g x y ↔ zEnd P g x y) ∧ zO P' g x y = zO P g x y := by
    intro g x y G
    have G' : zL P (zB g) = true := by rw [zL_B]; exact G
    unfold zOn zEnd zO
    rw [(e.2 g G).1, (e.2 g G).2, (e.2 _ G').1, (e.2 _ G').2]
    exact ⟨Iff.rfl, Iff.rfl, rfl⟩
  refine ⟨fun h H => ?_, fun h H => ?_, fun g h G H e1 e2 ne M => ?_⟩
  · rw [e.1] at H
    rw [(e.2 h H).1, (e.2 h H).2]
    exact K.1 h H
  · rw [e.1] at H
    have H' : zL P (zB h) = true := by rw [zL_B]; exact H
    rw [(e.2 h H).1, (e.2 h H).2, (e.2 _ H').1, (e.2 _ H').2]
    exact K.2.1 h H
  · rw [e.1] at G H
    refine K.2.2 g h G H e1 e2 ne ?_
    have G' : zL P (zB g) = true := by rw [zL_B]; exact G
    have H' : zL P (zB h) = true := by rw [zL_B]; exact H
    unfold zMeet at M
    rw [(e.2 g G).1, (e.2 g G).2, (e.2 _ G').1, (e.2 _ G').2, (e.2 h H).1, (e.2 h H).2, (e.2 _ H').1, (e.2 _ H').2] at M
    simp only [(on g _ _ G).1, (on g _ _ G).2.1, (on g _ _ G).2.2, (on h _ _ H).1, (on h _ _ H).2.1, (on h _ _ H).2.2] at M
    exact M
theorem cM0_ls {E : gV} {S : mS} {T : tT} (c : cMd E S T) : T.2 (gBase E + 6) ≠ none ∧ T.2 (gBase E + 8) ≠ none ∧ T.2 (gBase E + 9) ≠ none := by
  obtain ⟨HA, ND, ns, NX, NY, LA, LN, rs, RA, FA, a0, vs, xs, FL, XS, LS, j, g, v, x, o, p, u⟩ := c
  exact ⟨by rw [j.1.1]; simp, by rw [g.1]; simp, by rw [x.1]; simp⟩
theorem cM0_x {E : gV} {S : mS} {T T' : tT} {HA ND : Nat → Nat} {ns : List Nat} {NX NY : Nat → Int} {LA : Nat → Nat} {LN : Nat → List Nat} {rs : List Nat} {RA FA : Nat → Nat} {a0 : Nat} {vs xs : List Nat} {FL : Nat → Nat} {XS : Nat → List Nat} {LS : Nat → Int}
    (c : cM0 E S T HA ND ns NX NY LA LN rs RA FA a0 vs xs FL XS LS) (hz : zK E T S) (x : tX T T') : cM0 E S T' HA ND ns NX NY LA LN rs RA FA a0 vs xs FL XS LS := by
  obtain ⟨j, g, ⟨v1, v2⟩, w, o, p, u⟩ := c
  refine ⟨jG_keep j (tG_x x) (tl_x x), gR_x g (fun k L => (j.2.1 k L).1.1.1) x, ⟨v1, fun a ha => ?_⟩, ⟨by rw [x.1]; exact w.1, w.2⟩, o, p, fun f F np => ?_⟩
  · have q := v2 a ha
    unfold fM
    rw [x.2 a (by rw [q.1.1]; decide), x.1]
    exact q
  · rw [x.2 _ (by rw [hz.2.2.2.2.2.2.1]; decide)]
    exact u f F np
theorem cS_of {E : gV} {T T' : tT} {S S' : mS} (c : cS E T S) (r : cR E T S T' S') (m : cMd E S' T') : cS E T' S' := ⟨r.1, zOK_cg (kEq_P r.2.1) c.2.1, cM0_ls m, fun _ => m⟩
section TELL
variable {E : gV} {l : Launch} {T : tT} {S : mS} {d : Nat} {h : gH}
theorem ok_make (ht : zT E h T) (c : cS E T S) (hd : 11 ≤ d) :
    gOk E l gX1_make d 5885 95924 [.ref (gBase E)] h (gRu (fun h' => ∃ T' S' HA ND ns NX NY LA LN rs RA FA a0 vs xs FL XS LS, zT E h' T' ∧ cR E T S T' S' ∧ cM0 E S' T' HA ND ns NX NY LA LN rs RA FA a0 vs xs FL XS LS)) := by
  refine gOk_mono ?_ (ok_X1_make ht c.1 c.2.1 c.2.2.1 c.2.2.2 hd)
  rintro v h' ⟨e, T', S', t1, t2, t3, t4, t5, t6, t7, t8⟩
  obtain ⟨HA, ND, ns, NX, NY, LA, LN, rs, RA, FA, a0, vs, xs, FL, XS, LS, m⟩ := t7
  exact ⟨e, T', S', HA, ND, ns, NX, NY, LA, LN, rs, RA, FA, a0, vs, xs, FL, XS, LS, t1, ⟨t2, t3, t4, t5, t6, t8⟩, m⟩
theorem ok_X1_half (ht : zT E h T) (c : cS E T S) {k : Nat} (L : kLv S k) (hd : 12 ≤ d) :
    gOk E l gX1_half d 5885 95924 [.ref (gBase E), vI k] h (gRv (fun v h' => ∃ T' S' HA ND ns NX NY LA LN rs RA FA a0 vs xs FL XS LS, zT E h' T' ∧ cR E T S T' S' ∧ cM0 E S' T' HA ND ns NX NY LA LN rs RA FA a0 vs xs FL XS LS ∧ v = .ref (HA k))) := by
  refine gOk_of gmok_X1_half rfl (Nat.le_of_ble_eq_true rfl) (L := [some _, some _]) rfl ?_
  have kb := L.1
  refine G_aload_0 (pc := 0) dX1_half_0 ?_
  refine G_callV0u (pc := 1) (d' := 11) dX1_half_1 rfl (zK_k ht c.1) (by decide) rfl (ok_make ht c (Nat.le_refl _)) (by omega) (by omega) (by omega) (Nat.le_of_ble_eq_true rfl) (fun h z => ?_)
  obtain ⟨T', S', HA, ND, ns, NX, NY, LA, LN, rs, RA, FA, a0, vs, xs, FL, XS, LS, ht, r, m⟩ := z
  have hz := r.1
  have k8 := hz.2.2.2.2.1
  have L' : kLv S' k := by rw [kEq_L r.2.1]; exact L
  have arr := m.1.2.2.2.1 k kb
  rw [zI_pos L'] at arr
  refine G_iload_1 (pc := 4) dX1_half_4 ?_
  refine G_if_lt (pc := 5) 26 dX1_half_5 (by decide) (by omega) (fun q => absurd q (by omega)) (fun _ => ?_)
  refine G_iload_1 (pc := 8) dX1_half_8 ?_
  refine G_aload_0 (pc := 9) dX1_half_9 ?_
  refine G_tget (pc := 10) dX1_half_10 rfl ht hz.1 k8.1 ?_
  refine G_talen (pc := 13) dX1_half_13 ht (by omega) k8.2.2 ?_
  refine G_icmp_ge (pc := 14) 26 dX1_half_14 (by decide) (by omega) (by omega) (fun q => absurd q (by omega)) (fun _ => ?_)
  refine G_aload_0 (pc := 17) dX1_half_17 ?_
  refine G_tget (pc := 18) dX1_half_18 rfl ht hz.1 k8.1 ?_
  refine G_iload_1 (pc := 21) dX1_half_21 ?_
  refine G_taald (pc := 22) (v := .ref (HA k)) dX1_half_22 ht (Or.inl k8.2.1) (by rw [k8.2.2]; omega) (by rw [k8.2.2]; omega) (by rw [Int.toNat_natCast]; exact arr) ?_
  refine G_ifnonnull (pc := 23) 34 dX1_half_23 (by decide) ?_
  refine G_aload_0 (pc := 34) dX1_half_34 ?_
  refine G_tget (pc := 35) dX1_half_35 rfl ht hz.1 k8.1 ?_
  refine G_iload_1 (pc := 38) dX1_half_38 ?_
  refine G_taald (pc := 39) (v := .ref (HA k)) dX1_half_39 ht (Or.inl k8.2.1) (by rw [k8.2.2]; omega) (by rw [k8.2.2]; omega) (by rw [Int.toNat_natCast]; exact arr) ?_
  refine G_areturn (pc := 40) dX1_half_40 rfl (Or.inl ⟨_, rfl⟩) (Or.inr ⟨_, rfl⟩) (by omega) (by omega) ?_
  exact ⟨_, rfl, _, rfl, T', S', HA, ND, ns, NX, NY, LA, LN, rs, RA, FA, a0, vs, xs, FL, XS, LS, ht, r, m, rfl⟩
theorem ok_X1_next (ht : zT E h T) (c : cS E T S) {k : Nat} (L : kLv S k) (hd : 13 ≤ d) :
    gOk E l gX1_next d 5885 95924 [.ref (gBase E), vI k] h (gRv (fun v h' => ∃ T' S' HA ND ns NX NY LA LN rs RA FA a0 vs xs FL XS LS, zT E h' T' ∧ cR E T S T' S' ∧ cM0 E S' T' HA ND ns NX NY LA LN rs RA FA a0 vs xs FL XS LS ∧ v = vI (nxF LN ND k))) := by
  refine gOk_of gmok_X1_next rfl (Nat.le_of_ble_eq_true rfl) (L := [some _, some _]) rfl ?_
  refine G_aload_0 (pc := 0) dX1_next_0 ?_
  refine G_iload_1 (pc := 1) dX1_next_1 ?_
  refine G_callV1v (pc := 2) (d' := 12) dX1_next_2 rfl (zK_k ht c.1) (by decide) rfl (ok_X1_half ht c L (Nat.le_refl _)) (by omega) (by omega) (by omega) (Nat.le_of_ble_eq_true rfl) (fun v h z => ?_)
  obtain ⟨T', S', HA, ND, ns, NX, NY, LA, LN, rs, RA, FA, a0, vs, xs, FL, XS, LS, ht, r, m, rfl⟩ := z
  have L' : kLv S' k := by rw [kEq_L r.2.1]; exact L
  have K' := zOK_cg (kEq_P r.2.1) c.2.1
  have q := m.1.2.1 k L'
  have q2 := m.1.2.1 _ ((jG_nn K' m.1).1 k L')
  refine G_tget (pc := 5) dX1_next_5 rfl ht q.1.1.1 q.1.2 ?_
  refine G_tget (pc := 8) dX1_next_8 rfl ht q2.1.1.1 q2.1.1.2.1 ?_
  refine G_ireturn (pc := 11) dX1_next_11 rfl rfl (by omega) (by omega) ?_
  exact ⟨_, rfl, _, rfl, T', S', HA, ND, ns, NX, NY, LA, LN, rs, RA, FA, a0, vs, xs, FL, XS, LS, ht, r, m, rfl⟩
theorem ok_X1_begins (ht : zT E h T) (c : cS E T S) {k : Nat} (L : kLv S k) {y : Int} (hy : y = 0 ∨ y = 1) (hd : 13 ≤ d) :
    gOk E l gX1_begins d 5885 95924 [.ref (gBase E), vI k, vI y] h (gRv (fun v h' => ∃ T' S' HA ND ns NX NY LA LN rs RA FA a0 vs xs FL XS LS, zT E h' T' ∧ cR E T S T' S' ∧ cM0 E S' T' HA ND ns NX NY LA LN rs RA FA a0 vs xs FL XS LS ∧ v = vI (if y = 0 then kX S k else kY S k))) := by
  refine gOk_of gmok_X1_begins rfl (Nat.le_of_ble_eq_true rfl) (L := [some _, some _, some _, none]) rfl ?_
  refine G_aload_0 (pc := 0) dX1_begins_0 ?_
  refine G_iload_1 (pc := 1) dX1_begins_1 ?_
  refine G_callV1v (pc := 2) (d' := 12) dX1_begins_2 rfl (zK_k ht c.1) (by decide) rfl (ok_X1_half ht c L (Nat.le_refl _)) (by omega) (by omega) (by omega) (Nat.le_of_ble_eq_true rfl) (fun v h z => ?_)
  obtain ⟨T', S', HA, ND, ns, NX, NY, LA, LN, rs, RA, FA, a0, vs, xs, FL, XS, LS, ht, r, m, rfl⟩ := z
  have L' : kLv S' k := by rw [kEq_L r.2.1]; exact L
  have q := m.1.2.1 k L'
  have nq := (m.1.1.2.1 _ q.2.1).1
  rw [q.2.2.2.1, q.2.2.2.2, (r.2.1.2 k L).1, (r.2.1.2 k L).2] at nq
  refine G_tget (pc := 5) dX1_begins_5 rfl ht q.1.1.1 q.1.1.2.2.1 ?_
  refine G_astore_3 (pc := 8) dX1_begins_8 (by decide) rfl ?_
  refine G_iload_2 (pc := 9) dX1_begins_9 ?_
  refine G_if_eq (pc := 10) 20 dX1_begins_10 (by decide) (by omega) (fun c10 => ?_) (fun c10 => ?_)
  · refine G_aload_3 (pc := 20) dX1_begins_20 ?_
    refine G_tget (pc := 21) dX1_begins_21 rfl ht nq.1 nq.2.1 ?_
    refine G_ireturn (pc := 24) dX1_begins_24 rfl rfl (by omega) (by omega) ?_
    exact ⟨_, rfl, _, rfl, T', S', HA, ND, ns, NX, NY, LA, LN, rs, RA, FA, a0, vs, xs, FL, XS, LS, ht, r, m, by rw [if_pos c10]⟩
  · refine G_aload_3 (pc := 13) dX1_begins_13 ?_
    refine G_tget (pc := 14) dX1_begins_14 rfl ht nq.1 nq.2.2 ?_
    refine G_goto (pc := 17) 24 dX1_begins_17 (by decide) ?_
    refine G_ireturn (pc := 24) dX1_begins_24 rfl rfl (by omega) (by omega) ?_
    exact ⟨_, rfl, _, rfl, T', S', HA, ND, ns, NX, NY, LA, LN, rs, RA, FA, a0, vs, xs, FL, XS, LS, ht, r, m, by rw [if_neg c10]⟩
/-- the face of a half, as an object -/
theorem cM0_fc {HA ND : Nat → Nat} {ns : List Nat} {NX NY : Nat → Int} {LA : Nat → Nat} {LN : Nat → List Nat} {rs : List Nat} {RA FA : Nat → Nat} {a0 : Nat} {vs xs : List Nat} {FL : Nat → Nat} {XS : Nat → List Nat} {LS : Nat → Int}
    (K : zOK (kPl S)) (m : cM0 E S T HA ND ns NX NY LA LN rs RA FA a0 vs xs FL XS LS) {k : Nat} (L : kLv S k) : ∃ f, (T.1 (HA k)).2.2 4 = .ref (RA f) ∧ fst (kLv S) (orb (nxF LN ND)) f ∧ orb (nxF LN ND) f k ∧ ((T.1 (RA f)).1 = 5 ∧ (T.1 (RA f)).2.2 1 = .ref (fdA (rsC S (nxF LN ND)) FA a0 k)) ∧ fdA (rsC S (nxF LN ND)) FA a0 f = fdA (rsC S (nxF LN ND)) FA a0 k := by
  obtain ⟨f, F, o, e⟩ := m.2.1.2.2.2 k L
  have q := m.2.1.2.2.1 f F
  have ef : fdA (rsC S (nxF LN ND)) FA a0 f = fdA (rsC S (nxF LN ND)) FA a0 k := by unfold fdA; rw [rsC_orb K m.1 F.1 o]
  refine ⟨f, e, F, o, ⟨q.2.1, ?_⟩, ef⟩
  rw [q.2.2.2, ← ef]
  rfl
theorem ok_X1_piece (ht : zT E h T) (c : cS E T S) {k : Nat} (L : kLv S k) (hd : 13 ≤ d) :
    gOk E l gX1_piece d 5885 95924 [.ref (gBase E), vI k] h (gRv (fun v h' => ∃ T' S' HA ND ns NX NY LA LN rs RA FA a0 vs xs FL XS LS, zT E h' T' ∧ cR E T S T' S' ∧ cM0 E S' T' HA ND ns NX NY LA LN rs RA FA a0 vs xs FL XS LS ∧ v = vI (S'.2 11 (k / 2)))) := by
  refine gOk_of gmok_X1_piece rfl (Nat.le_of_ble_eq_true rfl) (L := [some _, some _]) rfl ?_
  have kb := L.1
  refine G_aload_0 (pc := 0) dX1_piece_0 ?_
  refine G_kref (pc := 1) dX1_piece_1 rfl ht c.1 rfl ?_
  refine G_aload_0 (pc := 4) dX1_piece_4 ?_
  refine G_iload_1 (pc := 5) dX1_piece_5 ?_
  refine G_callV1v (pc := 6) (d' := 12) dX1_piece_6 rfl (zK_k ht c.1) (by decide) rfl (ok_X1_half ht c L (Nat.le_refl _)) (by omega) (by omega) (by omega) (Nat.le_of_ble_eq_true rfl) (fun v h z => ?_)
  obtain ⟨T', S', HA, ND, ns, NX, NY, LA, LN, rs, RA, FA, a0, vs, xs, FL, XS, LS, ht, r, m, rfl⟩ := z
  have L' : kLv S' k := by rw [kEq_L r.2.1]; exact L
  have q := m.1.2.1 k L'
  refine G_tget (pc := 9) dX1_piece_9 rfl ht q.1.1.1 q.1.1.2.1 ?_
  refine G_iconst (pc := 12) dX1_piece_12 ?_
  refine G_idiv (pc := 13) dX1_piece_13 (by omega) (by omega) ?_
  rw [show (k : Int) / 2 = ((k / 2 : Nat) : Int) by omega]
  refine G_ki (pc := 14) dX1_piece_14 ht r.1 rfl rfl (by omega) (fun b14 => ?_)
  rw [Int.toNat_natCast]
  refine G_ireturn (pc := 15) dX1_piece_15 rfl rfl (by omega) (by omega) ?_
  exact ⟨_, rfl, _, rfl, T', S', HA, ND, ns, NX, NY, LA, LN, rs, RA, FA, a0, vs, xs, FL, XS, LS, ht, r, m, rfl⟩
end TELL
