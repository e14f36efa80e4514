set_option maxRecDepth 100000
/-! the numbers of the class' faces -/
def cLf (S : mS) (nx : Nat → Nat) (h : Nat) : Prop := kLv S h ∧ rsC S nx h ≠ none
def cEf (S : mS) (nx : Nat → Nat) (a b : Nat) : Prop := rsC S nx a = rsC S nx b
theorem rk_flat {L : Nat → Prop} {R : Nat → Nat → Prop} {a : Nat} : ∀ b, a ≤ b → (∀ g, a ≤ g → g < b → ¬ fst L R g) → rk L R b = rk L R a := by
  intro b
  induction b with
  | zero => intro h _; have : a = 0 := by omega
            rw [this]
  | succ b ih =>
    intro h no
    by_cases e : a = b + 1
    · rw [e]
    · rw [rk_neg (no b (by omega) (by omega))]
      exact ih (by omega) (fun g h1 h2 => no g h1 (by omega))
theorem rk_seq {L : Nat → Prop} {R : Nat → Nat → Prop} {s : Nat → Nat} {m : Nat} (h1 : ∀ i, i < m → fst L R (s i)) (h2 : ∀ i j, i < j → j < m → s i < s j) (h3 : ∀ g, fst L R g → ∃ i, i < m ∧ s i = g) :
    (∀ i, i < m → rk L R (s i) = i) ∧ ∀ N, (∀ i, i < m → s i < N) → rk L R N = m := by
  have a : ∀ i, i < m → rk L R (s i) = i := by
    intro i
    induction i with
    | zero =>
      intro hi
      have := rk_flat (L := L) (R := R) (a := 0) (s 0) (by omega) (fun g _ hg F => by
        obtain ⟨j, hj, ej⟩ := h3 g F
        by_cases c : j = 0
        · subst c; omega
        · have := h2 0 j (by omega) hj
          omega)
      rw [this]
      rfl
    | succ i ih =>
      intro hi
      have lt := h2 i (i + 1) (by omega) hi
      rw [rk_flat (L := L) (R := R) (a := s i + 1) (s (i + 1)) (by omega) (fun g g1 g2 F => by
        obtain ⟨j, hj, ej⟩ := h3 g F
        rcases Nat.lt_trichotomy j i with c | c | c
        · have := h2 j i c (by omega); omega
        · subst c; omega
        · by_cases c' : j = i + 1
          · subst c'; omega
          · have := h2 (i + 1) j (by omega) hj; omega), rk_pos (h1 i (by omega)), ih (by omega)]
  refine ⟨a, fun N hN => ?_⟩
  cases m with
  | zero =>
    have := rk_flat (L := L) (R := R) (a := 0) N (by omega) (fun g _ _ F => by obtain ⟨j, hj, _⟩ := h3 g F; omega)
    rw [this]
    rfl
  | succ m =>
    have := hN m (by omega)
    rw [rk_flat (L := L) (R := R) (a := s m + 1) N (by omega) (fun g g1 g2 F => by
      obtain ⟨j, hj, ej⟩ := h3 g F
      by_cases c : j = m
      · subst c; omega
      · have := h2 j m (by omega) (by omega); omega), rk_pos (h1 m (by omega)), a m (by omega)]
section NUMB
variable {E : gV} {l : Launch} {T : tT} {S : mS} {d : Nat} {h : gH} {HA ND : Nat → Nat} {ns : List Nat} {NX NY : Nat → Int} {LA : Nat → Nat} {LN : Nat → List Nat} {rs : List Nat} {RA FA : Nat → Nat} {a0 : Nat} {vs xs : List Nat} {FL : Nat → Nat} {XS : Nat → List Nat} {LS : Nat → Int}
theorem rk120 (K : zOK (kPl S)) {f : Nat} (F : fst (kLv S) (orb (nxF LN ND)) f) : rk (kLv S) (orb (nxF LN ND)) f < 120 := by
  have h1 := rk_lt F.1.1 F
  have h2 := rk_n (L := kLv S) (R := orb (nxF LN ND)) 120
  omega
/-- the least half of a face -/
theorem n_least (K : zOK (kPl S)) (m : cM0 E S T HA ND ns NX NY LA LN rs RA FA a0 vs xs FL XS LS) {p : Nat} (P : fst (kLv S) (orb (nxF LN ND)) p) (pos : 0 < kAr S (nxF LN ND) p) :
    ∃ g : Nat, LS (FA p) = (g : Int) ∧ fst (cLf S (nxF LN ND)) (cEf S (nxF LN ND)) g ∧ rsC S (nxF LN ND) g = some p ∧ FA p ∈ vs ∧ FA p ≠ a0 := by
  have o := m.2.2.2.2.1
  have pv := o.2.2.2.1 p P pos (rk120 K P)
  have q := m.2.2.1.2 _ pv.1
  have mem : ∀ f, fst (kLv S) (orb (nxF LN ND)) f → (f ∈ XS (FA p) ↔ rsC S (nxF LN ND) f = some p) := by
    intro f F
    rw [q.2.2.2.2.1 f]
    unfold fcM fdA
    cases hr : rsC S (nxF LN ND) f with
    | none =>
      constructor
      · intro w; exact absurd (Option.some.inj w.2).symm pv.2
      · intro w; cases w
    | some p' =>
      have hp' := rsC_2 K m.1 f p' F.1 hr
      constructor
      · intro w
        have e := Option.some.inj w.2
        rw [o.2.2.2.2 p' p hp'.1 hp'.2 (rk120 K hp'.1) P pos (rk120 K P) e]
      · intro w
        have := Option.some.inj w
        subst this
        exact ⟨F, rfl⟩
  have pin := (mem p P).mpr (rsC_1 K m.1 p P pos)
  obtain ⟨l1, l2⟩ := q.2.2.2.2.2
  rcases l2 with ⟨w, _⟩ | ⟨g, g1, g2⟩
  · rw [w] at pin; cases pin
  · have G := ((q.2.2.2.2.1 g).mp g1).1
    have rg := (mem g G).mp g1
    refine ⟨g, g2, ⟨⟨G.1, by rw [rg]; simp⟩, fun g' hg' L' e => ?_⟩, rg, pv.1, pv.2⟩
    have hc := cRo_is (nx := nxF LN ND) L'.1
    have le : cRo S (nxF LN ND) g' ≤ g' := by
      rcases Nat.lt_or_ge g' (cRo S (nxF LN ND) g') with w | w
      · exact absurd (jG_osy K m.1 _ _ hc.1.1 hc.2) (hc.1.2 g' w L'.1)
      · exact w
    have e2 : rsC S (nxF LN ND) (cRo S (nxF LN ND) g') = some p := by
      rw [rsC_orb K m.1 hc.1.1 hc.2]
      exact Eq.trans e rg
    have := l1 _ ((mem _ hc.1).mpr e2)
    omega
theorem n_all (K : zOK (kPl S)) (m : cM0 E S T HA ND ns NX NY LA LN rs RA FA a0 vs xs FL XS LS) :
    xs[0]? = some a0 ∧ xs.length = 1 + rk (cLf S (nxF LN ND)) (cEf S (nxF LN ND)) 120 ∧ xs.Nodup ∧
    ∀ p, fst (kLv S) (orb (nxF LN ND)) p → 0 < kAr S (nxF LN ND) p → ∃ g, fst (cLf S (nxF LN ND)) (cEf S (nxF LN ND)) g ∧ rsC S (nxF LN ND) g = some p ∧ LS (FA p) = (g : Int) ∧ xs[1 + rk (cLf S (nxF LN ND)) (cEf S (nxF LN ND)) g]? = some (FA p) := by
  have o := m.2.2.2.2.1
  obtain ⟨s1, s2, s3, s4, s5⟩ := m.2.2.2.1.2
  have x0 : xs[0]? = some a0 := by rw [s4]; exact o.1
  have len : 0 < xs.length := List.length_pos_of_mem (List.mem_of_getElem? x0)
  have nd := List.pairwise_iff_getElem.mp s3
  have at' : ∀ i, i + 1 < xs.length → ∃ p, fst (kLv S) (orb (nxF LN ND)) p ∧ 0 < kAr S (nxF LN ND) p ∧ xs[i + 1]? = some (FA p) := by
    intro i hi
    have hg : xs[i + 1]? = some xs[i + 1] := List.getElem?_eq_getElem hi
    rcases o.2.2.1 _ ((s1 _).mp (List.getElem_mem hi)) with w | ⟨p, w1, w2, _, w4⟩
    · exfalso
      have e0 : xs[0] = a0 := by rw [List.getElem?_eq_getElem len] at x0; exact Option.some.inj x0
      exact nd 0 (i + 1) len hi (by omega) (by rw [e0, w])
    · exact ⟨p, w1, w2, by rw [hg, w4]⟩
  let s : Nat → Nat := fun i => (LS (xs.getD (i + 1) 0)).toNat
  have sv : ∀ i, i + 1 < xs.length → ∃ p g, fst (kLv S) (orb (nxF LN ND)) p ∧ 0 < kAr S (nxF LN ND) p ∧ xs[i + 1]? = some (FA p) ∧ LS (FA p) = (g : Nat) ∧ s i = g ∧ fst (cLf S (nxF LN ND)) (cEf S (nxF LN ND)) g ∧ rsC S (nxF LN ND) g = some p := by
    intro i hi
    obtain ⟨p, P, pos, e⟩ := at' i hi
    obtain ⟨g, g1, g2, g3, _⟩ := n_least K m P pos
    refine ⟨p, g, P, pos, e, g1, ?_, g2, g3⟩
    show (LS (xs.getD (i + 1) 0)).toNat = g
    rw [List.getD_eq_getElem?_getD, e]
    show (LS (FA p)).toNat = g
    rw [g1]
    rfl
  have seq := rk_seq (L := cLf S (nxF LN ND)) (R := cEf S (nxF LN ND)) (s := s) (m := xs.length - 1) (fun i hi => by
      obtain ⟨p, g, _, _, _, _, e, F, _⟩ := sv i (by omega)
      rw [e]; exact F)
    (fun i k hik hk => by
      obtain ⟨p, g, P, pos, e, g1, e1, F, r1⟩ := sv i (by omega)
      obtain ⟨p', g', P', pos', e', g1', e1', F', r1'⟩ := sv k (by omega)
      have le := s5 (i + 1) (k + 1) _ _ (by omega) (by omega) (by rw [← s2]; omega) e e'
      rw [g1, g1'] at le
      have ne : g ≠ g' := fun w => by
        subst w
        rw [r1] at r1'
        have := Option.some.inj r1'
        subst this
        have h1 : i + 1 < xs.length := by omega
        have h2 : k + 1 < xs.length := by omega
        rw [List.getElem?_eq_getElem h1] at e
        rw [List.getElem?_eq_getElem h2] at e'
        exact nd (i + 1) (k + 1) h1 h2 (by omega) (by rw [Option.some.inj e, Option.some.inj e'])
      rw [e1, e1']
      omega)
    (fun g F => by
      cases hr : rsC S (nxF LN ND) g with
      | none => exact absurd hr F.1.2
      | some p =>
        have hp := rsC_2 K m.1 g p F.1.1 hr
        obtain ⟨g', w1, w2, w3, w4, w5⟩ := n_least K m hp.1 hp.2
        have eg : g' = g := fst_one (L := cLf S (nxF LN ND)) (R := cEf S (nxF LN ND)) (fun _ _ h => Eq.symm h) (fun _ _ _ h h' => Eq.trans h h') w2 F (k := g) (by unfold cEf; rw [w3, hr]) rfl
        obtain ⟨i, hi, ei⟩ := List.getElem_of_mem ((s1 _).mpr w4)
        have i0 : i ≠ 0 := fun w => by
          subst w
          rw [List.getElem?_eq_getElem hi, ei] at x0
          exact w5 (Option.some.inj x0)
        refine ⟨i - 1, by omega, ?_⟩
        show (LS (xs.getD (i - 1 + 1) 0)).toNat = g
        rw [show i - 1 + 1 = i by omega, List.getD_eq_getElem?_getD, List.getElem?_eq_getElem hi, ei]
        show (LS (FA p)).toNat = g
        rw [w1, eg]
        rfl)
  refine ⟨x0, ?_, s3, fun p P pos => ?_⟩
  · have := seq.2 120 (fun i hi => by
      obtain ⟨p, g, _, _, _, _, e, F, _⟩ := sv i (by omega)
      rw [e]; exact F.1.1.1)
    omega
  · obtain ⟨g, w1, w2, w3, w4, w5⟩ := n_least K m P pos
    refine ⟨g, w2, w3, w1, ?_⟩
    obtain ⟨i, hi, ei⟩ := List.getElem_of_mem ((s1 _).mpr w4)
    have i0 : i ≠ 0 := fun w => by
      subst w
      rw [List.getElem?_eq_getElem hi, ei] at x0
      exact w5 (Option.some.inj x0)
    have := seq.1 (i - 1) (by omega)
    have es : s (i - 1) = g := by
      show (LS (xs.getD (i - 1 + 1) 0)).toNat = g
      rw [show i - 1 + 1 = i by omega, List.getD_eq_getElem?_getD, List.getElem?_eq_getElem hi, ei]
      show (LS (FA p)).toNat = g
      rw [w1]
      rfl
    rw [es] at this
    rw [this, show 1 + (i - 1) = i by omega, List.getElem?_eq_getElem hi, ei]
/-- the number of a half's face -/
def cNo (S : mS) (nx : Nat → Nat) (h v : Nat) : Prop := (rsC S nx h = none ∧ v = 0) ∨ ∃ f, fst (cLf S nx) (cEf S nx) f ∧ cEf S nx f h ∧ v = 1 + rk (cLf S nx) (cEf S nx) f
theorem n_face (K : zOK (kPl S)) (m : cM0 E S T HA ND ns NX NY LA LN rs RA FA a0 vs xs FL XS LS) {k : Nat} (L : kLv S k) : ∃ v, cNo S (nxF LN ND) k v ∧ xs[v]? = some (fdA (rsC S (nxF LN ND)) FA a0 k) := by
  obtain ⟨x0, _, _, al⟩ := n_all K m
  cases hr : rsC S (nxF LN ND) k with
  | none => exact ⟨0, Or.inl ⟨hr, rfl⟩, by unfold fdA; rw [hr]; exact x0⟩
  | some p =>
    have hp := rsC_2 K m.1 k p L hr
    obtain ⟨g, g1, g2, g3, g4⟩ := al p hp.1 hp.2
    exact ⟨_, Or.inr ⟨g, g1, by unfold cEf; rw [g2, hr], rfl⟩, by unfold fdA; rw [hr]; exact g4⟩
theorem n_num (ht : zT E h T) (hz : zK E T S) (K : zOK (kPl S)) (m : cM0 E S T HA ND ns NX NY LA LN rs RA FA a0 vs xs FL XS LS) {v a : Nat} (e : xs[v]? = some a) : gPu E l gX1_number 4 [.ref (gBase E), .ref a] h (vI v) := by
  obtain ⟨x0, xl, nd, _⟩ := n_all K m
  have nd := List.pairwise_iff_getElem.mp nd
  have vl : v < xs.length := by
    rcases Nat.lt_or_ge v xs.length with w | w
    · exact w
    · rw [List.getElem?_eq_none w] at e; cases e
  have rb := rk_n (L := cLf S (nxF LN ND)) (R := cEf S (nxF LN ND)) 120
  refine pu_X1_number ht hz m.2.2.2.1.1 e (fun i g hi hg w => ?_) (by omega)
  subst w
  have hil : i < xs.length := by omega
  rw [List.getElem?_eq_getElem vl] at e
  rw [List.getElem?_eq_getElem hil] at hg
  exact nd i v hil vl hi (by rw [Option.some.inj hg, Option.some.inj e])
theorem ok_X1_face (ht : zT E h T) (c : cS E T S) {k : Nat} (L : kLv S k) (hd : 13 ≤ d) :
    gOk E l gX1_face d 5885 95924 [.ref (gBase E), vI k] h (gRv (fun x h' => ∃ T' S' HA ND ns NX NY LA LN rs RA FA a0 vs xs FL XS LS v, zT E h' T' ∧ cR E T S T' S' ∧ cM0 E S' T' HA ND ns NX NY LA LN rs RA FA a0 vs xs FL XS LS ∧ x = vI (v : Nat) ∧ cNo S' (nxF LN ND) k v)) := by
  refine gOk_of gmok_X1_face rfl (Nat.le_of_ble_eq_true rfl) (L := [some _, some _]) rfl ?_
  refine G_aload_0 (pc := 0) dX1_face_0 ?_
  refine G_aload_0 (pc := 1) dX1_face_1 ?_
  refine G_iload_1 (pc := 2) dX1_face_2 ?_
  refine G_callV1v (pc := 3) (d' := 12) dX1_face_3 rfl (zK_k ht c.1) (by decide) rfl (ok_X1_half ht c L (Nat.le_refl _)) (by omega) (by omega) (by omega) (Nat.le_of_ble_eq_true rfl) (fun v h z => ?_)
  obtain ⟨T', S', HA, ND, ns, NX, NY, LA, LN, rs, RA, FA, a0, vs, xs, FL, XS, LS, ht, r, m, rfl⟩ := z
  have L' : kLv S' k := by rw [kEq_L r.2.1]; exact L
  have K' := zOK_cg (kEq_P r.2.1) c.2.1
  have q := m.1.2.1 k L'
  obtain ⟨f, f1, f2, f3, f4, f5⟩ := cM0_fc K' m L'
  obtain ⟨v, v1, v2⟩ := n_face K' m L'
  refine G_tget (pc := 6) dX1_face_6 rfl ht q.1.1.1 f1 ?_
  refine G_tget (pc := 9) dX1_face_9 rfl ht f4.1 f4.2 ?_
  refine G_pV1 (pc := 12) dX1_face_12 rfl (zK_k ht r.1) (by decide) rfl (n_num ht r.1 K' m v2) (by omega) (by omega) (by omega) (Nat.le_of_ble_eq_true rfl) ?_
  refine G_ireturn (pc := 15) dX1_face_15 rfl rfl (by omega) (by omega) ?_
  exact ⟨_, rfl, _, rfl, T', S', HA, ND, ns, NX, NY, LA, LN, rs, RA, FA, a0, vs, xs, FL, XS, LS, v, ht, r, m, rfl, v1⟩
end NUMB
