set_option maxRecDepth 100000
theorem kAr_b {S : mS} (g : kGd S) {nx : Nat → Nat} (nn : nxG S nx) {f : Nat} (L : kLv S f) : -1000000000000 ≤ kAr S nx f ∧ kAr S nx f ≤ 1000000000000 := by
  obtain ⟨m, pm⟩ := nn.2 f L
  have pp := per_is pm
  have := iS_b (n := per nx f) (f := fun k => kX S (itN nx k f) * kY S (zB (itN nx k f)) - kY S (itN nx k f) * kX S (zB (itN nx k f))) (fun i _ => by
    have L1 := itN_L nn.1 L i
    have a := kX_b g L1
    have b := kX_b g (kLv_B L1)
    have m1 := mul_b (a := kX S (itN nx i f)) (b := kY S (zB (itN nx i f))) (by omega) (by omega)
    have m2 := mul_b (a := kY S (itN nx i f)) (b := kX S (zB (itN nx i f))) (by omega) (by omega)
    have q1 := Int.mul_nonneg (show 0 ≤ 16000 - kX S (itN nx i f) by omega) (show 0 ≤ 16000 - kY S (zB (itN nx i f)) by omega)
    have q2 := Int.mul_nonneg (show 0 ≤ 16000 + kX S (itN nx i f) by omega) (show 0 ≤ 16000 + kY S (zB (itN nx i f)) by omega)
    have q3 := Int.mul_nonneg (show 0 ≤ 16000 - kX S (itN nx i f) by omega) (show 0 ≤ 16000 + kY S (zB (itN nx i f)) by omega)
    have q4 := Int.mul_nonneg (show 0 ≤ 16000 + kX S (itN nx i f) by omega) (show 0 ≤ 16000 - kY S (zB (itN nx i f)) by omega)
    have p1 := Int.mul_nonneg (show 0 ≤ 16000 - kY S (itN nx i f) by omega) (show 0 ≤ 16000 - kX S (zB (itN nx i f)) by omega)
    have p2 := Int.mul_nonneg (show 0 ≤ 16000 + kY S (itN nx i f) by omega) (show 0 ≤ 16000 + kX S (zB (itN nx i f)) by omega)
    have p3 := Int.mul_nonneg (show 0 ≤ 16000 - kY S (itN nx i f) by omega) (show 0 ≤ 16000 + kX S (zB (itN nx i f)) by omega)
    have p4 := Int.mul_nonneg (show 0 ≤ 16000 + kY S (itN nx i f) by omega) (show 0 ≤ 16000 - kX S (zB (itN nx i f)) by omega)
    constructor <;> grind)
  have := pp.2.1
  unfold kAr
  omega
/-- what is known of the faces' objects: one for each round of positive area, and a0 -/
def faO (S : mS) (nx : Nat → Nat) (FA : Nat → Nat) (a0 : Nat) (vs : List Nat) (k : Nat) : Prop := vs[0]? = some a0 ∧ vs.length ≤ 1 + k ∧ (∀ a, a ∈ vs → a = a0 ∨ ∃ p, fst (kLv S) (orb nx) p ∧ 0 < kAr S nx p ∧ rk (kLv S) (orb nx) p < k ∧ a = FA p) ∧
  (∀ p, fst (kLv S) (orb nx) p → 0 < kAr S nx p → rk (kLv S) (orb nx) p < k → FA p ∈ vs ∧ FA p ≠ a0) ∧ (∀ p p', fst (kLv S) (orb nx) p → 0 < kAr S nx p → rk (kLv S) (orb nx) p < k → fst (kLv S) (orb nx) p' → 0 < kAr S nx p' → rk (kLv S) (orb nx) p' < k → FA p = FA p' → p = p')
noncomputable def fc1 (S : mS) (nx : Nat → Nat) (FA : Nat → Nat) (k : Nat) (f : Nat) : Option Nat := zI (0 < kAr S nx f ∧ rk (kLv S) (orb nx) f < k) (some (FA f)) none
theorem faO_go {S : mS} {nx : Nat → Nat} {FA : Nat → Nat} {a0 a : Nat} {vs : List Nat} {f : Nat} (o : faO S nx FA a0 vs (rk (kLv S) (orb nx) f)) (F : fst (kLv S) (orb nx) f) (pos : 0 < kAr S nx f) (na : a ∉ vs) : faO S nx (fU FA f a) a0 (vs ++ [a]) (rk (kLv S) (orb nx) f + 1) := by
  obtain ⟨o1, o2, o3, o4, o5⟩ := o
  have a0v := List.mem_of_getElem? o1
  have l0 : 0 < vs.length := List.length_pos_of_mem a0v
  have ne : ∀ p, rk (kLv S) (orb nx) p < rk (kLv S) (orb nx) f → p ≠ f := fun p h e => by subst e; omega
  have sp : ∀ p, fst (kLv S) (orb nx) p → rk (kLv S) (orb nx) p < rk (kLv S) (orb nx) f + 1 → p = f ∨ rk (kLv S) (orb nx) p < rk (kLv S) (orb nx) f := fun p P h => by
    by_cases e : p = f
    · exact Or.inl e
    · have : rk (kLv S) (orb nx) p ≠ rk (kLv S) (orb nx) f := fun w => e (rk_inj P F w)
      exact Or.inr (by omega)
  refine ⟨by rw [List.getElem?_append_left l0]; exact o1, by rw [List.length_append]; show vs.length + 1 ≤ _; omega, fun b hb => ?_, fun p P pp hp => ?_, fun p p' P pp hp P' pp' hp' e => ?_⟩
  · rcases List.mem_append.mp hb with hb | hb
    · rcases o3 b hb with w | ⟨p, w1, w2, w3, w4⟩
      · exact Or.inl w
      · exact Or.inr ⟨p, w1, w2, by omega, by rw [fU_n _ _ (ne p w3)]; exact w4⟩
    · have eb : b = a := by simpa using hb
      exact Or.inr ⟨f, F, pos, by omega, by rw [fU_s]; exact eb⟩
  · rcases sp p P hp with e | w
    · subst e
      rw [fU_s]
      exact ⟨by simp, fun e => na (by rw [e]; exact a0v)⟩
    · rw [fU_n _ _ (ne p w)]
      have := o4 p P pp w
      exact ⟨List.mem_append_left _ this.1, this.2⟩
  · rcases sp p P hp with w | w <;> rcases sp p' P' hp' with w' | w'
    · rw [w, w']
    · rw [w, fU_s, fU_n _ _ (ne p' w')] at e
      exact absurd (o4 p' P' pp' w').1 (by rw [← e]; exact na)
    · rw [w', fU_s, fU_n _ _ (ne p w)] at e
      exact absurd (o4 p P pp w).1 (by rw [e]; exact na)
    · rw [fU_n _ _ (ne p w), fU_n _ _ (ne p' w')] at e
      exact o5 p p' P pp w P' pp' w' e
theorem faO_skip {S : mS} {nx : Nat → Nat} {FA : Nat → Nat} {a0 : Nat} {vs : List Nat} {f : Nat} (o : faO S nx FA a0 vs (rk (kLv S) (orb nx) f)) (F : fst (kLv S) (orb nx) f) (pos : ¬ 0 < kAr S nx f) : faO S nx FA a0 vs (rk (kLv S) (orb nx) f + 1) := by
  obtain ⟨o1, o2, o3, o4, o5⟩ := o
  have sp : ∀ p, fst (kLv S) (orb nx) p → 0 < kAr S nx p → rk (kLv S) (orb nx) p < rk (kLv S) (orb nx) f + 1 → rk (kLv S) (orb nx) p < rk (kLv S) (orb nx) f := fun p P pp h => by
    by_cases e : p = f
    · subst e; exact absurd pp pos
    · have : rk (kLv S) (orb nx) p ≠ rk (kLv S) (orb nx) f := fun w => e (rk_inj P F w)
      omega
  refine ⟨o1, by omega, fun b hb => ?_, fun p P pp hp => o4 p P pp (sp p P pp hp), fun p p' P pp hp P' pp' hp' e => o5 p p' P pp (sp p P pp hp) P' pp' (sp p' P' pp' hp') e⟩
  rcases o3 b hb with w | ⟨p, w1, w2, w3, w4⟩
  · exact Or.inl w
  · exact Or.inr ⟨p, w1, w2, by omega, w4⟩
section FIND3
variable {E : gV} {l : Launch} {T : tT} {S : mS} {d : Nat} {h : gH} {HA ND : Nat → Nat} {ns : List Nat} {NX NY : Nat → Int} {LA : Nat → Nat} {LN : Nat → List Nat} {rs : List Nat} {RA : Nat → Nat} {FC : Nat → Option Nat} {T0 : tT}
theorem fp1 {Q : Outcome → gH → Prop} (hd : 9 ≤ d) (hz0 : zK E T0 S) (g : kGd S) (j : jG E S T0 HA ND ns NX NY LA LN) (nn : nxG S (nxF LN ND)) (h8 : T0.2 (gBase E + 8) ≠ none) (h9 : T0.2 (gBase E + 9) ≠ none) {a0 : Nat} {mc ms : Nat} (hb1 : 723 ≤ mc) (hb2 : 3120 ≤ ms)
    (kk : ∀ h T1 FA vs FL XS LS uc us, zT E h T1 → fI E S T0 T1 HA (nxF LN ND) rs RA (fc1 S (nxF LN ND) FA 120) vs FL XS LS → T1.2 (gBase E + 9) = some vs → faO S (nxF LN ND) FA a0 vs 120 → uc ≤ 723 → us ≤ 3120 → G E l gX1_findFaces d mc ms Q 95 [some (.ref (gBase E)), some (vI rs.length), none] [] h uc us) :
    ∀ (m k : Nat), k + m = rs.length → ∀ h T1 FA vs FL XS LS uc us, zT E h T1 → fI E S T0 T1 HA (nxF LN ND) rs RA (fc1 S (nxF LN ND) FA k) vs FL XS LS → T1.2 (gBase E + 9) = some vs → faO S (nxF LN ND) FA a0 vs k → uc ≤ 3 + 6 * k → us ≤ 6 + 22 * k + rgs vs.length → G E l gX1_findFaces d mc ms Q 24 [some (.ref (gBase E)), some (vI k), none] [] h uc us := by
  have hg6 : gN 6 = 3 := rfl
  intro m
  induction m with
  | zero =>
    intro k hn h T1 FA vs FL XS LS uc us ht i l9 fo hu hvv
    have hz := fI_K hz0 i
    have ek : k = rs.length := by omega
    subst ek
    have rl : rs.length ≤ 120 := by rw [i.1.2.1]; exact rk_n _
    have lt : ∀ f, fst (kLv S) (orb (nxF LN ND)) f → rk (kLv S) (orb (nxF LN ND)) f < rs.length := fun f F => by rw [i.1.2.1]; exact rk_lt F.1.1 F
    have rb := rgs_b (show vs.length ≤ 149 by have := fo.2.1; omega)
    refine G_iload_1 (pc := 24) dX1_findFaces_24 ?_
    refine G_aload_0 (pc := 25) dX1_findFaces_25 ?_
    refine G_tget (pc := 26) dX1_findFaces_26 rfl ht hz.1 hz.2.2.2.1.2.1 ?_
    refine G_lsize (pc := 29) dX1_findFaces_29 rfl ht i.1.1 (by omega) (by omega) (by omega) (Nat.le_of_ble_eq_true rfl) ?_
    refine G_icmp_ge (pc := 32) 95 dX1_findFaces_32 (by decide) (by omega) (by omega) (fun _ => ?_) (fun q => absurd q (by omega))
    refine kk h T1 FA vs FL XS LS uc us ht (fI_fc i (fun f F => ?_)) l9 ?_ (by omega) (by omega)
    · unfold fc1
      have := lt f F
      by_cases c : 0 < kAr S (nxF LN ND) f
      · rw [zI_pos ⟨c, by omega⟩, zI_pos ⟨c, this⟩]
      · rw [zI_neg (fun w => c w.1), zI_neg (fun w => c w.1)]
    · obtain ⟨o1, o2, o3, o4, o5⟩ := fo
      refine ⟨o1, by omega, fun a ha => ?_, fun p P pp _ => o4 p P pp (lt p P), fun p p' P pp _ P' pp' _ e => o5 p p' P pp (lt p P) P' pp' (lt p' P') e⟩
      rcases o3 a ha with w | ⟨p, w1, w2, w3, w4⟩
      · exact Or.inl w
      · exact Or.inr ⟨p, w1, w2, by omega, w4⟩
  | succ m ih =>
    intro k hn h T1 FA vs FL XS LS uc us ht i l9 fo hu hvv
    have hz := fI_K hz0 i
    have rl : rs.length ≤ 120 := by rw [i.1.2.1]; exact rk_n _
    obtain ⟨f, _, F, ef⟩ := rk_srj (L := kLv S) (R := orb (nxF LN ND)) 120 k (by rw [← i.1.2.1]; omega)
    have q := i.1.2.2.1 f F
    rw [ef] at q
    have j1 := jG_keepF j i.2.1.1 i.2.1.2
    have kb := kAr_b g nn F.1
    have vl := fo.2.1
    have rb := rgs_b (show vs.length ≤ 149 by omega)
    have rb1 := rgs_b (show vs.length + 1 ≤ 149 by omega)
    have rs1 : rgs (vs.length + 1) = rgs vs.length + grc vs.length := rfl
    have gb := gr_c (show vs.length < 150 by omega)
    have g0 := gr_c (show 0 < 150 by omega)
    have gc0 : grc 0 = 10 := rfl
    refine G_iload_1 (pc := 24) dX1_findFaces_24 ?_
    refine G_aload_0 (pc := 25) dX1_findFaces_25 ?_
    refine G_tget (pc := 26) dX1_findFaces_26 rfl ht hz.1 hz.2.2.2.1.2.1 ?_
    refine G_lsize (pc := 29) dX1_findFaces_29 rfl ht i.1.1 (by omega) (by omega) (by omega) (Nat.le_of_ble_eq_true rfl) ?_
    refine G_icmp_ge (pc := 32) 95 dX1_findFaces_32 (by decide) (by omega) (by omega) (fun q => absurd q (by omega)) (fun _ => ?_)
    refine G_aload_0 (pc := 35) dX1_findFaces_35 ?_
    refine G_tget (pc := 36) dX1_findFaces_36 rfl ht hz.1 hz.2.2.2.1.2.1 ?_
    refine G_iload_1 (pc := 39) dX1_findFaces_39 ?_
    refine G_lget (pc := 40) dX1_findFaces_40 rfl ht i.1.1 q.1 (by omega) (by omega) (by omega) (Nat.le_of_ble_eq_true rfl) ?_
    refine G_tcast (pc := 43) dX1_findFaces_43 rfl ht q.2.1 ?_
    refine G_callV0v (pc := 46) (d' := 4) dX1_findFaces_46 rfl (by rw [zT_at ht q.2.1 (by omega)]; exact q.2.1) (by decide) rfl (ok_area ht (jG_rA g j1 nn i.1 F) (Nat.le_refl _)) (by omega) (by omega) (by omega) (Nat.le_of_ble_eq_true rfl) (fun v h z => ?_)
    obtain ⟨rfl, T2, ht2, x⟩ := z
    have i2 := fI_x i (fun k L => (j1.2.1 k L).1.1.1) x
    have hz2 := fI_K hz0 i2
    have l9' : T2.2 (gBase E + 9) = some vs := by rw [x.1]; exact l9
    have q2 := i2.1.2.2.1 f F
    rw [ef] at q2
    have j2 := jG_keepF j i2.2.1.1 i2.2.1.2
    refine G_lconst0 (pc := 49) dX1_findFaces_49 ?_
    refine G_lcmp_gt (pc := 50) 57 dX1_findFaces_50 dX1_findFaces_51 (by decide) (by omega) (by omega) (fun c50 => ?_) (fun c50 => ?_)
    · refine G_tnew (pc := 57) (ci := 6) dX1_findFaces_57 rfl ht2 (by omega) (by omega) (by omega) (fun a h fr1 fr2 fr3 ht3 => ?_)
      refine G_dup (pc := 60) dX1_findFaces_60 rfl ?_
      refine G_callN0u (pc := 61) (d' := 5) dX1_findFaces_61 rfl rfl (ok_X7_init ht3 (by rw [tNew_self]) (Nat.le_refl _)) (by omega) (by omega) (by omega) (Nat.le_of_ble_eq_true rfl) (fun h z => ?_)
      obtain ⟨b, b1, b2, b3, ht4⟩ := z
      obtain ⟨T4, e4⟩ : ∃ T4, T4 = tSet (tSet (tLs (tNew T2 a (6 + 1, gN 6, fun f => defaultValue (gTy 6 f))) b []) a 0 (.ref b)) a 1 (vI 120) := ⟨_, rfl⟩
      rw [← e4] at ht4
      obtain ⟨i4, w1, w2, na, _⟩ := fI_init i2 (fun k L => (j2.2.1 k L).1.1.1) h9 (by rw [l9']; simp) fr1 b2 b3 e4
      have hz4 := fI_K hz0 i4
      have a4 := i4.2.2.2.1 a (by simp)
      have q4 := i4.1.2.2.1 f F
      rw [ef] at q4
      have l94 : T4.2 (gBase E + 9) = some vs := by
        rw [w2 _ (fun e => by rw [← e] at b2; have b2 : T2.2 (gBase E + 9) = none := b2; rw [l9'] at b2; cases b2)]; exact l9'
      have nf : fc1 S (nxF LN ND) FA k f = none := zI_neg (fun w => by have := w.2; omega) _ _
      have xs0 : (fU XS a [] a) = [] := fU_s _ _ _
      refine G_astore_2 (pc := 64) dX1_findFaces_64 (by decide) rfl ?_
      refine G_aload_2 (pc := 65) dX1_findFaces_65 ?_
      refine G_aload_0 (pc := 66) dX1_findFaces_66 ?_
      refine G_tget (pc := 67) dX1_findFaces_67 rfl ht4 hz4.1 hz4.2.2.2.1.2.1 ?_
      refine G_iload_1 (pc := 70) dX1_findFaces_70 ?_
      refine G_lget (pc := 71) dX1_findFaces_71 rfl ht4 i4.1.1 q4.1 (by omega) (by omega) (by omega) (Nat.le_of_ble_eq_true rfl) ?_
      refine G_tcast (pc := 74) dX1_findFaces_74 rfl ht4 q4.2.1 ?_
      have fa := ok_fadd (l := l) ht4 j nn i4 h8 h9 (a := a) (by simp) F nf (Nat.le_refl 8)
      rw [xs0] at fa
      have fa : gOk E l gX7_add 8 2 (gr 0 + 3) [.ref a, .ref (RA f)] h _ := fa
      refine G_callV1u (pc := 77) (d' := 8) dX1_findFaces_77 rfl (by rw [zT_at ht4 a4.1.1 (by omega)]; exact a4.1.1) (by decide) rfl fa (by omega) (by omega) (by omega) (Nat.le_of_ble_eq_true rfl) (fun h z => ?_)
      obtain ⟨T5, ht5, i5, v9, vl5, vk⟩ := z
      have hz5 := fI_K hz0 i5
      have a5 := i5.2.2.2.1 a (by simp)
      refine G_aload_0 (pc := 80) dX1_findFaces_80 ?_
      refine G_tget (pc := 81) dX1_findFaces_81 rfl ht5 hz5.1 hz5.2.2.2.1.2.2 ?_
      refine G_aload_2 (pc := 84) dX1_findFaces_84 ?_
      refine G_lapp (pc := 85) dX1_findFaces_85 rfl ht5 (by rw [v9]; exact l94) (by rw [a5.1.1]; rfl) (by omega) (by omega) (by omega) (by omega) (Nat.le_of_ble_eq_true rfl) (fun h ht6 => ?_)
      refine G_pop (pc := 88) dX1_findFaces_88 rfl ?_
      refine G_iinc_1 (pc := 89) dX1_findFaces_89 (by decide) rfl ?_
      refine G_goto (pc := 92) 24 dX1_findFaces_92 (by decide) ?_
      refine G_drop_2 ?_
      rw [show ((k : Int) + 1) = ((k + 1 : Nat) : Int) by omega]
      have fo' : faO S (nxF LN ND) (fU FA f a) a0 (vs ++ [a]) (k + 1) := by
        rw [← ef] at fo ⊢
        exact faO_go fo F c50 na
      refine ih (k + 1) (by omega) h _ (fU FA f a) (vs ++ [a]) _ _ _ _ _ ht6 (fI_fc (fI_9 i5 h9 _) (fun f' F' => ?_)) (tLs_self _ _ _) fo' (by omega) ?_
      · unfold fc1
        by_cases e : f' = f
        · subst e
          rw [fU_s, fU_s, zI_pos ⟨c50, by omega⟩]
        · rw [fU_n _ _ e, fU_n _ _ e]
          have ne : rk (kLv S) (orb (nxF LN ND)) f' ≠ k := fun e' => e (rk_inj F' F (by rw [e', ef]))
          by_cases c : 0 < kAr S (nxF LN ND) f' ∧ rk (kLv S) (orb (nxF LN ND)) f' < k
          · rw [zI_pos c, zI_pos ⟨c.1, by omega⟩]
          · rw [zI_neg c, zI_neg (fun w => c ⟨w.1, by omega⟩)]
      · rw [List.length_append]
        show _ ≤ 6 + 22 * (k + 1) + rgs (vs.length + 1)
        omega
    · refine G_goto (pc := 54) 89 dX1_findFaces_54 (by decide) ?_
      refine G_iinc_1 (pc := 89) dX1_findFaces_89 (by decide) rfl ?_
      refine G_goto (pc := 92) 24 dX1_findFaces_92 (by decide) ?_
      rw [show ((k : Int) + 1) = ((k + 1 : Nat) : Int) by omega]
      refine ih (k + 1) (by omega) h T2 FA vs FL XS LS _ _ ht2 (fI_fc i2 (fun f' F' => ?_)) l9' ?_ (by omega) (by omega)
      · unfold fc1
        by_cases e : f' = f
        · subst e
          rw [zI_neg (fun w => by have := w.1; omega), zI_neg (fun w => by have := w.1; omega)]
        · have ne : rk (kLv S) (orb (nxF LN ND)) f' ≠ k := fun e' => e (rk_inj F' F (by rw [e', ef]))
          by_cases c : 0 < kAr S (nxF LN ND) f' ∧ rk (kLv S) (orb (nxF LN ND)) f' < k
          · rw [zI_pos c, zI_pos ⟨c.1, by omega⟩]
          · rw [zI_neg c, zI_neg (fun w => c ⟨w.1, by omega⟩)]
      · rw [← ef] at fo ⊢
        exact faO_skip fo F (by omega)
/-- faces found and sorted -/
def fF (E : gV) (S : mS) (T T' : tT) (HA : Nat → Nat) (nx : Nat → Nat) (rs : List Nat) (RA : Nat → Nat) (res : Nat → Option Nat) (FA : Nat → Nat) (a0 : Nat) (vs xs : List Nat) (FL : Nat → Nat) (XS : Nat → List Nat) (LS : Nat → Int) : Prop :=
  fI E S T T' HA nx rs RA (fun f => some (fdA res FA a0 f)) vs FL XS LS ∧ T'.2 (gBase E + 9) = some xs ∧ sI LS vs xs vs.length ∧ faO S nx FA a0 vs 120
theorem ok_X1_findFaces (ht : zT E h T) (hz : zK E T S) (g : kGd S) (j : jG E S T HA ND ns NX NY LA LN) (nn : nxG S (nxF LN ND)) (gr' : gR E S T HA (nxF LN ND) rs RA (fun _ => none)) {fs0 : List Nat} (h9 : T.2 (gBase E + 9) = some fs0) {res : Nat → Option Nat}
    (hr1 : ∀ f, fst (kLv S) (orb (nxF LN ND)) f → 0 < kAr S (nxF LN ND) f → res f = some f) (hr2 : ∀ f p, fst (kLv S) (orb (nxF LN ND)) f → res f = some p → fst (kLv S) (orb (nxF LN ND)) p ∧ 0 < kAr S (nxF LN ND) p)
    (hch : ∀ FA a0 f, fst (kLv S) (orb (nxF LN ND)) f → ¬ 0 < kAr S (nxF LN ND) f → fch S HA ns NX NY LN (nxF LN ND) (fc3 S (nxF LN ND) res FA a0 0) a0 60 f (fdA res FA a0 f))
    (un : ∀ f f' z, fst (kLv S) (orb (nxF LN ND)) f → fst (kLv S) (orb (nxF LN ND)) f' → orb (nxF LN ND) f z → orb (nxF LN ND) f' z → f = f') (cb : c2 S (nxF LN ND) 120 ≤ 60) (hd : 10 ≤ d) :
    gOk E l gX1_findFaces d 4805 54050 [.ref (gBase E)] h (gRu (fun h' => ∃ T' FA a0 vs xs FL XS LS, zT E h' T' ∧ fF E S T T' HA (nxF LN ND) rs RA res FA a0 vs xs FL XS LS)) := by
  refine gOk_of gmok_X1_findFaces rfl (Nat.le_of_ble_eq_true rfl) (L := [some _, none, none]) rfl ?_
  obtain ⟨Q, hQ⟩ : ∃ Q, Q = gRet (gRu (fun h' => ∃ T' FA a0 vs xs FL XS LS, zT E h' T' ∧ fF E S T T' HA (nxF LN ND) rs RA res FA a0 vs xs FL XS LS)) := ⟨_, rfl⟩
  rw [← hQ]
  have hg6 : gN 6 = 3 := rfl
  have hg7 : gN 7 = 3 := rfl
  have h8n : T.2 (gBase E + 8) ≠ none := by rw [gr'.1]; simp
  have h9n : T.2 (gBase E + 9) ≠ none := by rw [h9]; simp
  have g0 := gr_c (show 0 < 150 by omega)
  have gc0 : grc 0 = 10 := rfl
  refine G_aload_0 (pc := 0) dX1_findFaces_0 ?_
  refine G_tget (pc := 1) dX1_findFaces_1 rfl ht hz.1 hz.2.2.2.1.2.2 ?_
  refine G_lclr (pc := 4) dX1_findFaces_4 rfl ht h9 (by omega) (by omega) (by omega) (Nat.le_of_ble_eq_true rfl) (fun h ht1 => ?_)
  have i1 : fI E S T (tLs T (gBase E + 9) []) HA (nxF LN ND) rs RA (fun _ => none) [] (fun _ => 0) (fun _ => []) (fun _ => 0) := by
    refine ⟨⟨by rw [tLs_ne _ _ (by omega)]; exact gr'.1, gr'.2.1, gr'.2.2.1, gr'.2.2.2⟩, ⟨tH_ls _ _ _, fun b b9 _ => tLs_ne _ _ b9⟩, List.nodup_nil, fun a ha => absurd ha (by simp), fun a a' ha => absurd ha (by simp), fun f a _ q => absurd q (by simp)⟩
  have hz1 := fI_K hz i1
  refine G_aload_0 (pc := 7) dX1_findFaces_7 ?_
  refine G_tget (pc := 8) dX1_findFaces_8 rfl ht1 hz1.1 hz1.2.2.2.1.2.2 ?_
  refine G_tnew (pc := 11) (ci := 6) dX1_findFaces_11 rfl ht1 (by omega) (by omega) (by omega) (fun a0 h fr1 fr2 fr3 ht2 => ?_)
  refine G_dup (pc := 14) dX1_findFaces_14 rfl ?_
  refine G_callN0u (pc := 15) (d' := 5) dX1_findFaces_15 rfl rfl (ok_X7_init ht2 (by rw [tNew_self]) (Nat.le_refl _)) (by omega) (by omega) (by omega) (Nat.le_of_ble_eq_true rfl) (fun h z => ?_)
  obtain ⟨b, b1, b2, b3, ht3⟩ := z
  obtain ⟨T3, e3⟩ : ∃ T3, T3 = tSet (tSet (tLs (tNew (tLs T (gBase E + 9) []) a0 (6 + 1, gN 6, fun f => defaultValue (gTy 6 f))) b []) a0 0 (.ref b)) a0 1 (vI 120) := ⟨_, rfl⟩
  rw [← e3] at ht3
  obtain ⟨i3, w1, w2, _, _⟩ := fI_init i1 (fun k L => (j.2.1 k L).1.1.1) h9n (by rw [tLs_self]; simp) fr1 b2 b3 e3
  have hz3 := fI_K hz i3
  have a3 := i3.2.2.2.1 a0 (by simp)
  have l93 : T3.2 (gBase E + 9) = some [] := by
    rw [w2 _ (fun e => by rw [← e] at b2; have b2 : (tLs T (gBase E + 9) []).2 (gBase E + 9) = none := b2; rw [tLs_self] at b2; cases b2)]; exact tLs_self _ _ _
  refine G_lapp (pc := 18) dX1_findFaces_18 rfl ht3 l93 (by rw [a3.1.1]; rfl) (by show (0 : Nat) < 150; omega) (by omega) (by omega) (by show _ + gr 0 ≤ _; omega) (Nat.le_of_ble_eq_true rfl) (fun h ht4 => ?_)
  refine G_pop (pc := 21) dX1_findFaces_21 rfl ?_
  refine G_iconst (pc := 22) dX1_findFaces_22 ?_
  refine G_istore_1 (pc := 23) dX1_findFaces_23 (by decide) rfl ?_
  have i4 := fI_9 i3 h9n ([] ++ [a0])
  refine fp1 (T0 := T) (by omega) hz g j nn h8n h9n (a0 := a0) (by omega) (by omega) ?_ rs.length 0 (by omega) h _ (fun _ => 0) ([] ++ [a0]) _ _ _ _ _ ht4 (fI_fc i4 (fun f F => zI_neg (fun w => by have := w.2; omega) _ _)) (tLs_self _ _ _) ?_ (by omega) (by show _ + gr 0 ≤ 6 + 22 * 0 + (0 + grc 0); omega)
  · intro h T1 FA vs FL XS LS uc us ht i l9 fo hu hv
    have hz1 := fI_K hz i
    have lt : ∀ f, fst (kLv S) (orb (nxF LN ND)) f → rk (kLv S) (orb (nxF LN ND)) f < 120 := fun f F => by have := rk_lt F.1.1 F; have := rk_n (L := kLv S) (R := orb (nxF LN ND)) 120; omega
    have fdv : ∀ f, fst (kLv S) (orb (nxF LN ND)) f → fdA res FA a0 f ∈ vs := by
      intro f F
      unfold fdA
      cases hres : res f with
      | none => exact List.mem_of_getElem? fo.1
      | some p =>
        have := hr2 f p F hres
        exact (fo.2.2.2.1 p this.1 this.2 (lt p this.1)).1
    have i' : fI E S T T1 HA (nxF LN ND) rs RA (fc3 S (nxF LN ND) res FA a0 0) vs FL XS LS := by
      refine fI_fc i (fun f F => ?_)
      unfold fc3 fc1
      by_cases c : 0 < kAr S (nxF LN ND) f
      · rw [zI_pos (Or.inl c), zI_pos ⟨c, lt f F⟩]
        unfold fdA
        rw [hr1 f F c]
      · rw [zI_neg (fun w => by rcases w with w | w; exact c w; omega), zI_neg (fun w => c w.1)]
    refine G_tnewL (pc := 95) dX1_findFaces_95 rfl ht (by omega) (by omega) (fun w h raw => ?_)
    refine G_dup (pc := 98) dX1_findFaces_98 rfl ?_
    refine G_lini (pc := 99) dX1_findFaces_99 rfl raw (by omega) (by omega) (by omega) (Nat.le_of_ble_eq_true rfl) (fun h ht2 => ?_)
    have wn := raw.2.2.2.2.2.1
    have w9 : w ≠ gBase E + 9 := fun e => by rw [e, l9] at wn; cases wn
    have w0 : T.2 w = none := by
      by_cases q : T.2 w = none
      · exact q
      · exfalso
        have := i.2.1.2 w w9 q
        rw [wn] at this
        exact q this.symm
    have wf : ∀ a, a ∈ vs → FL a ≠ w := fun a ha e => by have := (i.2.2.2.1 a ha).2.1.1; rw [e, wn] at this; cases this
    have i2 := fI_o i' w0 h8n wf []
    refine G_astore_1 (pc := 102) dX1_findFaces_102 (by decide) rfl ?_
    refine G_iconst (pc := 103) dX1_findFaces_103 ?_
    refine G_istore_2 (pc := 104) dX1_findFaces_104 (by decide) rfl ?_
    refine fp2 (T0 := T) (uc0 := 724) (us0 := 3123) (by omega) hz g j nn h8n fdv fo.1 wf w0 w9 (hch FA a0) un cb (by omega) (by omega) ?_ rs.length 0 (by omega) h _ [] _ _ ht2 i2 (by rw [tLs_ne _ _ (Ne.symm w9)]; exact l9) (tLs_self _ _ _) rfl (fun f F hk => by omega) (by omega) (by omega)
    intro h T3 fnd uc us ht3 i3 l93 lw hf hu hv
    refine G_iconst (pc := 142) dX1_findFaces_142 ?_
    refine G_istore_2 (pc := 143) dX1_findFaces_143 (by decide) rfl ?_
    refine fp3 (T0 := T) (uc0 := 4444) (us0 := 14397) (by omega) hz j nn h8n h9n fdv hf wf w9 (by omega) (by omega) ?_ rs.length 0 (by omega) h T3 XS LS uc us ht3 i3 l93 lw (by omega) (by omega)
    intro h T4 XS LS uc us ht4 i4 l94 hu hv
    have hz4 := fI_K hz i4
    have a0v := List.mem_of_getElem? fo.1
    refine G_aload_0 (pc := 200) dX1_findFaces_200 ?_
    refine G_callV0u (pc := 201) (d' := 9) dX1_findFaces_201 rfl (zK_k ht4 hz4) (by decide) rfl (ok_X1_sort ht4 hz4 l94 (fun a ha => ⟨(i4.2.2.2.1 a ha).1.1, (i4.2.2.2.1 a ha).1.2.2, (i4.2.2.2.1 a ha).2.2.1⟩) ⟨List.length_pos_of_mem a0v, by have := fo.2.1; omega⟩ i4.2.2.1 (Nat.le_refl _)) (by omega) (by omega) (by omega) (Nat.le_of_ble_eq_true rfl) (fun h z => ?_)
    obtain ⟨xs, ht5, si⟩ := z
    refine G_return (pc := 204) dX1_findFaces_204 rfl (by omega) (by omega) ?_
    subst hQ
    refine ⟨_, rfl, rfl, _, FA, a0, vs, xs, FL, XS, LS, ht5, fI_fc (fI_9 i4 h9n xs) (fun f F => ?_), tLs_self _ _ _, si, fo⟩
    exact (zI_pos (Or.inr (lt f F)) _ _).symm
  · refine ⟨rfl, by simp, fun a ha => Or.inl (by simpa using ha), fun p _ _ hp => by omega, fun p p' _ _ hp => by omega⟩
end FIND3
