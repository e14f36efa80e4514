set_option maxRecDepth 100000
def fM (T : tT) (S : mS) (nx : Nat → Nat) (RA : Nat → Nat) (FC : Nat → Option Nat) (FL : Nat → Nat) (XS : Nat → List Nat) (LS : Nat → Int) (a : Nat) : Prop :=
  ((T.1 a).1 = 7 ∧ (T.1 a).2.2 0 = .ref (FL a) ∧ (T.1 a).2.2 1 = vI (LS a)) ∧ T.2 (FL a) = some ((XS a).map RA) ∧ (0 ≤ LS a ∧ LS a ≤ 120) ∧ (XS a).Nodup ∧ (∀ f, f ∈ XS a ↔ (fst (kLv S) (orb nx) f ∧ FC f = some a)) ∧ lsP (XS a) (LS a)
noncomputable def fcM (S : mS) (nx : Nat → Nat) (FA : Nat → Nat) (a0 f : Nat) : Option Nat := some (fdA (rsC S nx) FA a0 f)
/-- the made class -/
def cM0 (E : gV) (S : mS) (T : tT) (HA ND : Nat → Nat) (ns : List Nat) (NX NY : Nat → Int) (LA : Nat → Nat) (LN : Nat → List Nat) (rs : List Nat) (RA FA : Nat → Nat) (a0 : Nat) (vs xs : List Nat) (FL : Nat → Nat) (XS : Nat → List Nat) (LS : Nat → Int) : Prop :=
  jG E S T HA ND ns NX NY LA LN ∧ gR E S T HA (nxF LN ND) rs RA (fcM S (nxF LN ND) FA a0) ∧ (vs.Nodup ∧ ∀ a, a ∈ vs → fM T S (nxF LN ND) RA (fcM S (nxF LN ND) FA a0) FL XS LS a) ∧
  (T.2 (gBase E + 9) = some xs ∧ sI LS vs xs vs.length) ∧ faO S (nxF LN ND) FA a0 vs 120 ∧ (pcI S (S.2 11) 60 ∧ S.1 12 = (rk (kLv S) (zSame (kPl S)) 120 : Nat)) ∧
  (∀ f, fst (kLv S) (orb (nxF LN ND)) f → ¬ 0 < kAr S (nxF LN ND) f → (T.1 (gBase E + 11)).2.2 (S.2 11 (f / 2)).toNat = .ref (RA f))
def cMd (E : gV) (S : mS) (T : tT) : Prop := ∃ HA ND ns NX NY LA LN rs RA FA a0 vs xs FL XS LS, cM0 E S T HA ND ns NX NY LA LN rs RA FA a0 vs xs FL XS LS
theorem gR_fc {E : gV} {S : mS} {T : tT} {HA nx : Nat → Nat} {rs : List Nat} {RA : Nat → Nat} {FC FC' : Nat → Option Nat} (g : gR E S T HA nx rs RA FC) (e : ∀ f, fst (kLv S) (orb nx) f → FC' f = FC f) : gR E S T HA nx rs RA FC' := ⟨g.1, g.2.1, fun f F => by rw [e f F]; exact g.2.2.1 f F, g.2.2.2⟩
theorem cMd_cg {E : gV} {S S' : mS} {T : tT} (K : zOK (kPl S)) (e : kEq S S') (e11 : S'.2 11 = S.2 11) (e12 : S'.1 12 = S.1 12) (c : cMd E S T) : cMd E S' T := by
  obtain ⟨HA, ND, ns, NX, NY, LA, LN, rs, RA, FA, a0, vs, xs, FL, XS, LS, j, g, ⟨v1, v2⟩, x, o, p, u⟩ := c
  have nn := jG_nn K j
  have eL := kEq_L e
  have er : ∀ f, fst (kLv S) (orb (nxF LN ND)) f → fcM S' (nxF LN ND) FA a0 f = fcM S (nxF LN ND) FA a0 f := fun f F => by unfold fcM fdA; rw [kEq_rs e _ F.1]
  have ea : ∀ f, fst (kLv S) (orb (nxF LN ND)) f → kAr S' (nxF LN ND) f = kAr S (nxF LN ND) f := fun f F => kEq_ar e nn F.1
  refine ⟨HA, ND, ns, NX, NY, LA, LN, rs, RA, FA, a0, vs, xs, FL, XS, LS, kEq_jG e j, ?_, ⟨v1, fun a ha => ?_⟩, x, ?_, ?_, ?_⟩
  · unfold gR
    rw [eL]
    exact gR_fc g er
  · obtain ⟨q1, q2, q3, q4, q5, q6⟩ := v2 a ha
    refine ⟨q1, q2, q3, q4, fun f => ?_, q6⟩
    rw [q5 f, eL]
    exact ⟨fun w => ⟨w.1, by rw [er f w.1]; exact w.2⟩, fun w => ⟨w.1, by rw [← er f w.1]; exact w.2⟩⟩
  · obtain ⟨o1, o2, o3, o4, o5⟩ := o
    unfold faO
    rw [eL]
    refine ⟨o1, o2, fun a ha => ?_, fun q Q pq h => o4 q Q (by rw [← ea q Q]; exact pq) h, fun q q' Q pq h Q' pq' h' w => o5 q q' Q (by rw [← ea q Q]; exact pq) h Q' (by rw [← ea q' Q']; exact pq') h' w⟩
    rcases o3 a ha with w | ⟨q, w1, w2, w3, w4⟩
    · exact Or.inl w
    · exact Or.inr ⟨q, w1, by rw [ea q w1]; exact w2, w3, w4⟩
  · unfold pcI
    rw [eL, pEq_sameE (kEq_P e), e11, e12]
    exact p
  · rw [eL, e11]
    intro f F np
    exact u f F (by rw [← ea f F]; exact np)
def xC (E : gV) (b : Nat) : Prop := gBase E ≤ b ∧ b < gBase E + 12
section MAKE
variable {E : gV} {l : Launch} {T : tT} {S : mS} {d : Nat} {h : gH}
theorem ok_X1_make (ht : zT E h T) (hz : zK E T S) (K : zOK (kPl S)) (ls : T.2 (gBase E + 6) ≠ none ∧ T.2 (gBase E + 8) ≠ none ∧ T.2 (gBase E + 9) ≠ none) (md : S.1 6 = 1 → cMd E S T) (hd : 11 ≤ d) :
    gOk E l gX1_make d 5885 95924 [.ref (gBase E)] h (gRu (fun h' => ∃ T' S', zT E h' T' ∧ zK E T' S' ∧ kEq S S' ∧ S'.1 0 = S.1 0 ∧ S'.1 6 = 1 ∧ (∀ f, 1 ≤ f → f ≤ 5 → S'.2 f = S.2 f) ∧ cMd E S' T' ∧ tK (xC E) T T')) := by
  refine gOk_of gmok_X1_make rfl (Nat.le_of_ble_eq_true rfl) (L := [some _]) rfl ?_
  obtain ⟨Q, hQ⟩ : ∃ Q, Q = gRet (gRu (fun h' => ∃ T' S', zT E h' T' ∧ zK E T' S' ∧ kEq S S' ∧ S'.1 0 = S.1 0 ∧ S'.1 6 = 1 ∧ (∀ f, 1 ≤ f → f ≤ 5 → S'.2 f = S.2 f) ∧ cMd E S' T' ∧ tK (xC E) T T')) := ⟨_, rfl⟩
  rw [← hQ]
  refine G_aload_0 (pc := 0) dX1_make_0 ?_
  refine G_kgetB (pc := 1) dX1_make_1 rfl ht hz (fun b1 => ?_)
  refine G_if_eq (pc := 4) 8 dX1_make_4 (by decide) (by omega) (fun c4 => ?_) (fun c4 => ?_)
  · refine G_aload_0 (pc := 8) dX1_make_8 ?_
    refine G_iconst (pc := 9) dX1_make_9 ?_
    refine G_kputB (pc := 10) dX1_make_10 rfl ht hz (by omega) (fun h ht1 hz1 => ?_)
    obtain ⟨S1, e1⟩ : ∃ S1, S1 = mUs S 6 1 := ⟨_, rfl⟩
    obtain ⟨T1, eT1⟩ : ∃ T1, T1 = tSet T (gBase E) 6 (vI 1) := ⟨_, rfl⟩
    rw [← e1] at hz1
    rw [← eT1] at ht1 hz1
    have l1 : T1.2 = T.2 := by rw [eT1]; rfl
    have k1 : kEq S S1 := by rw [e1]; exact ⟨rfl, fun _ _ => ⟨rfl, rfl⟩⟩
    have K1 : zOK (kPl S1) := by rw [e1]; exact K
    have g := kGd_of K1
    have t1 : tK (xC E) T T1 := by rw [eT1]; exact tK_set (Or.inr ⟨by omega, by omega⟩)
    obtain ⟨n6, h6⟩ : ∃ n6, T1.2 (gBase E + 6) = some n6 := by rw [l1]; exact Option.ne_none_iff_exists'.mp ls.1
    obtain ⟨n8, h8⟩ : ∃ n8, T1.2 (gBase E + 8) = some n8 := by rw [l1]; exact Option.ne_none_iff_exists'.mp ls.2.1
    obtain ⟨n9, h9⟩ : ∃ n9, T1.2 (gBase E + 9) = some n9 := by rw [l1]; exact Option.ne_none_iff_exists'.mp ls.2.2
    refine G_aload_0 (pc := 13) dX1_make_13 ?_
    refine G_callV0u (pc := 14) (d' := 9) dX1_make_14 rfl (zK_k ht1 hz1) (by decide) rfl (ok_X1_join ht1 hz1 g h6 (Nat.le_refl _)) (by omega) (by omega) (by omega) (Nat.le_of_ble_eq_true rfl) (fun h z => ?_)
    obtain ⟨T2, HA, ND, ns, NX, NY, LA, LN, ht2, jo⟩ := z
    have j2 := jG_of jo (by rw [h8]; simp) (by rw [h9]; simp)
    have nn := jG_nn K1 j2
    have hz2 := jo.1
    have t2 : tK (xC E) T T2 := tK_tr t1 (tK_up jo.2.1.1 (fun b e => ⟨by omega, by omega⟩))
    have h8' : T2.2 (gBase E + 8) = some n8 := by rw [jo.2.1.2.1 _ (by rw [h8]; simp) (by omega)]; exact h8
    have h9' : T2.2 (gBase E + 9) = some n9 := by rw [jo.2.1.2.1 _ (by rw [h9]; simp) (by omega)]; exact h9
    have r4 : ∀ k, kLv S1 k → (T2.1 (HA k)).2.2 4 = .null := fun k L => (jo.2.2.1.2.1 k L (by have := L.1; omega)).1.2
    refine G_aload_0 (pc := 17) dX1_make_17 ?_
    refine G_callV0u (pc := 18) (d' := 9) dX1_make_18 rfl (zK_k ht2 hz2) (by decide) rfl (ok_X1_goRound ht2 hz2 j2 nn r4 h8' (Nat.le_refl _)) (by omega) (by omega) (by omega) (Nat.le_of_ble_eq_true rfl) (fun h z => ?_)
    obtain ⟨T3, rs, RA, ht3, hz3, tg3, ⟨tl3, l93⟩, gi⟩ := z
    have j3 := jG_keep j2 tg3 tl3
    have g3 := gR_of gi
    have t3 : tK (xC E) T T3 := tK_tr t2 (tK_up (tG_K tg3) (fun b e => e.elim))
    have h93 : T3.2 (gBase E + 9) = some n9 := by rw [l93]; exact h9'
    refine G_aload_0 (pc := 21) dX1_make_21 ?_
    refine G_callV0u (pc := 22) (d' := 10) dX1_make_22 rfl (zK_k ht3 hz3) (by decide) rfl (ok_X1_findFaces ht3 hz3 g j3 nn g3 h93 (res := rsC S1 (nxF LN ND)) (rsC_1 K1 j3) (fun f p F e => rsC_2 K1 j3 f p F.1 e) (jG_hch K1 j3) (jG_un K1 j3) (jG_cb K1 j3) (Nat.le_refl _)) (by omega) (by omega) (by omega) (Nat.le_of_ble_eq_true rfl) (fun h z => ?_)
    obtain ⟨T4, FA, a0, vs, xs, FL, XS, LS, ht4, i4, l94, si, fo⟩ := z
    have hz4 := fI_K hz3 i4
    have j4 := jG_keepF j3 i4.2.1.1 i4.2.1.2
    have t4 : tK (xC E) T T4 := tK_tr t3 (fun b k _ => i4.2.1.1 b (Or.inr (Or.inr k)))
    refine G_aload_0 (pc := 25) dX1_make_25 ?_
    refine G_callV0u (pc := 26) (d' := 6) dX1_make_26 rfl (zK_k ht4 hz4) (by decide) rfl (ok_X1_findPieces ht4 hz4 g j4 nn i4.1 (jG_up K1 j4) (Nat.le_refl _)) (by omega) (by omega) (by omega) (Nat.le_of_ble_eq_true rfl) (fun h z => ?_)
    obtain ⟨T5, PO, ht5, hz5, tq, pc, ou⟩ := z
    obtain ⟨S5, e5⟩ : ∃ S5, S5 = kP (mUs S1 12 (rk (kLv S1) (zSame (kPl S1)) 120 : Nat)) PO := ⟨_, rfl⟩
    rw [← e5] at hz5
    have k5 : kEq S1 S5 := by rw [e5]; exact ⟨rfl, fun _ _ => ⟨rfl, rfl⟩⟩
    have j5 := jG_Q j4 hz4 tq
    have g5 := gR_Q i4.1 (fun k L => (j4.2.1 k L).1.1.1) hz4 tq
    have t5 : tK (xC E) T T5 := tK_tr t4 (fun b k nx => tq.2 b (by unfold tKd at k; omega) (fun e => nx ⟨by omega, by omega⟩) (fun e => nx ⟨by omega, by omega⟩) (fun e => nx ⟨by omega, by omega⟩))
    have k0 := hz4.1
    have k10 : (T4.1 (gBase E + 10)).1 = 31 := (hz4.2.2.1 11 rfl).2.1
    have k11 := hz4.2.2.2.2.2.2.1
    refine G_return (pc := 29) dX1_make_29 rfl (by omega) (by omega) ?_
    subst hQ
    have c1 : cMd E (kP (mUs S1 12 (rk (kLv S1) (zSame (kPl S1)) 120 : Nat)) PO) T5 := by
      have er : ∀ f, fst (kLv S1) (orb (nxF LN ND)) f → fcM (kP (mUs S1 12 (rk (kLv S1) (zSame (kPl S1)) 120 : Nat)) PO) (nxF LN ND) FA a0 f = some (fdA (rsC S1 (nxF LN ND)) FA a0 f) := fun f F => by
        unfold fcM fdA
        rw [kEq_rs (by rw [← e5]; exact k5) _ F.1]
      rw [← e5] at er ⊢
      have eL := kEq_L k5
      have ea : ∀ f, fst (kLv S1) (orb (nxF LN ND)) f → kAr S5 (nxF LN ND) f = kAr S1 (nxF LN ND) f := fun f F => kEq_ar k5 nn F.1
      have e11 : S5.2 11 = PO := by rw [e5]; rfl
      have e12 : S5.1 12 = (rk (kLv S1) (zSame (kPl S1)) 120 : Nat) := by rw [e5]; rfl
      refine ⟨HA, ND, ns, NX, NY, LA, LN, rs, RA, FA, a0, vs, xs, FL, XS, LS, kEq_jG k5 j5, ?_, ⟨i4.2.2.1, fun a ha => ?_⟩, ⟨by rw [tq.1]; exact l94, si⟩, ?_, ?_, ?_⟩
      · unfold gR
        rw [eL]
        exact gR_fc g5 er
      · obtain ⟨q1, q2, q3, q4, q5, q6⟩ := i4.2.2.2.1 a ha
        have ka : T5.1 a = T4.1 a := tq.2 a (by rw [q1.1]; decide) (fun e => by have := q1.1; rw [e] at this; omega) (fun e => by have := q1.1; rw [e] at this; omega) (fun e => by have := q1.1; rw [e] at this; omega)
        refine ⟨by rw [ka]; exact q1, by rw [tq.1]; exact q2.1, q3, q4, fun f => ?_, q6⟩
        rw [q5 f, eL]
        exact ⟨fun w => ⟨w.1, (er f w.1).trans w.2⟩, fun w => ⟨w.1, (er f w.1).symm.trans w.2⟩⟩
      · obtain ⟨o1, o2, o3, o4, o5⟩ := fo
        unfold faO
        rw [eL]
        refine ⟨o1, o2, fun a ha => ?_, fun q Q pq h => o4 q Q (by rw [← ea q Q]; exact pq) h, fun q q' Q pq h Q' pq' h' w => o5 q q' Q (by rw [← ea q Q]; exact pq) h Q' (by rw [← ea q' Q']; exact pq') h' w⟩
        rcases o3 a ha with w | ⟨q, w1, w2, w3, w4⟩
        · exact Or.inl w
        · exact Or.inr ⟨q, w1, by rw [ea q w1]; exact w2, w3, w4⟩
      · unfold pcI
        rw [eL, pEq_sameE (kEq_P k5), e11, e12]
        exact ⟨pc, rfl⟩
      · rw [eL, e11]
        intro f F np
        exact ou f F (by rw [← ea f F]; exact np)
    rw [← e5] at c1
    refine ⟨_, rfl, rfl, T5, S5, ht5, hz5, kEq_tr k1 k5, by rw [e5, e1]; rfl, by rw [e5, e1]; rfl, fun f f1 f5 => ?_, c1, t5⟩
    rw [e5, e1]
    funext i
    show (if f = 11 then PO i else S.2 f i) = S.2 f i
    rw [if_neg (by omega)]
  · refine G_return (pc := 7) dX1_make_7 rfl (by omega) (by omega) ?_
    subst hQ
    exact ⟨_, rfl, rfl, T, S, ht, hz, ⟨rfl, fun _ _ => ⟨rfl, rfl⟩⟩, rfl, by omega, fun _ _ _ => rfl, md (by omega), tK_rf _ _⟩
end MAKE
