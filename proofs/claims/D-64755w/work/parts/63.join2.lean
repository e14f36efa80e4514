set_option maxRecDepth 100000
theorem zB_2n (n : Nat) : zB (2 * n) = 2 * n + 1 ∧ zB (2 * n + 1) = 2 * n := by unfold zB; constructor <;> split <;> omega
theorem zB_lt2 {k n : Nat} (h : k < 2 * n) : zB k < 2 * n := by unfold zB; split <;> omega
theorem kX_2n (S : mS) (n : Nat) : (kX S (2 * n) = S.2 2 n ∧ kY S (2 * n) = S.2 3 n) ∧ (kX S (2 * n + 1) = S.2 4 n ∧ kY S (2 * n + 1) = S.2 5 n) := by
  unfold kX kY
  rw [if_pos (by omega), if_pos (by omega), if_neg (by omega), if_neg (by omega)]
  rw [show 2 * n / 2 = n by omega, show (2 * n + 1) / 2 = n by omega]
  exact ⟨⟨rfl, rfl⟩, ⟨rfl, rfl⟩⟩
/-- the nodes one half further: how many there are -/
theorem rk_node {S : mS} {k : Nat} {ND : Nat → Nat} {ns ns1 : List Nat} {NX NY : Nat → Int} {m : Nat} (L : kLv S k)
    (hk : ∀ g, kLv S g → g < k → ND g ∈ ns ∧ NX (ND g) = kX S g ∧ NY (ND g) = kY S g) (hs : ∀ i, i ∈ ns → ∃ g, kLv S g ∧ g < k ∧ NX i = kX S g ∧ NY i = kY S g)
    (h : (ns1 = ns ∧ m ∈ ns ∧ NX m = kX S k ∧ NY m = kY S k) ∨ (ns1 = ns ++ [m] ∧ ∀ i, i ∈ ns → ¬ (NX i = kX S k ∧ NY i = kY S k))) (e : ns.length = rk (kLv S) (kSp S) k) : ns1.length = rk (kLv S) (kSp S) (k + 1) := by
  rcases h with ⟨h1, h2, h3, h4⟩ | ⟨h1, h2⟩
  · rw [h1, e, rk_neg]
    intro f
    obtain ⟨g, g1, g2, g3, g4⟩ := hs m h2
    exact f.2 g g2 g1 ⟨by omega, by omega⟩
  · rw [h1, rk_pos, List.length_append, e]
    · rfl
    · refine ⟨L, fun g hg G s => ?_⟩
      obtain ⟨q1, q2, q3⟩ := hk g G hg
      exact h2 _ q1 ⟨by rw [q2]; exact s.1, by rw [q3]; exact s.2⟩
theorem jM_of {E : gV} {S : mS} {T0 T T2 T4 T6 T8 T9 : tT} {n a1 a2 m1 m2 : Nat} {HA ND : Nat → Nat} {ns ns1 ns2 : List Nat} {NX NY NX1 NY1 NX2 NY2 : Nat → Int} {LA LA1 LA2 : Nat → Nat} {LN : Nat → List Nat} {LH1 LH2 : Nat → List Nat}
    (hn : n < 60) (lv : S.2 1 n = 1) (j : jI E S T n HA ND ns NX NY LA LN) (h7 : (T.1 (gBase E + 7)).1 = 34) (l0 : ∀ i, i ∈ ns → T0.2 (LA i) = none) (lF : ∀ b, T0.2 b ≠ none → b ≠ gBase E + 6 → T.2 b = T0.2 b)
    (f1 : (T.1 a1).1 = 0 ∧ T.2 a1 = none) (p1 : nP E (tNew T a1 (3, gN 2, fun f => defaultValue (gTy 2 f))) T2 (kX S (2 * n)) (kY S (2 * n)) m1 ns NX NY LA (fun m => (LN m).map HA) ns1 NX1 NY1 LA1 LH1)
    (e4 : T4 = tSet (tSet (tSet T2 a1 0 (vI ((2 * n : Nat) : Int))) a1 1 (.ref m1)) (gBase E + 7) (2 * n) (.ref a1))
    (f2 : (T4.1 a2).1 = 0 ∧ T4.2 a2 = none) (p2 : nP E (tNew T4 a2 (3, gN 2, fun f => defaultValue (gTy 2 f))) T6 (kX S (2 * n + 1)) (kY S (2 * n + 1)) m2 ns1 NX1 NY1 LA1 LH1 ns2 NX2 NY2 LA2 LH2)
    (e8 : T8 = tSet (tSet (tSet T6 a2 0 (vI ((2 * n + 1 : Nat) : Int))) a2 1 (.ref m2)) (gBase E + 7) (2 * n + 1) (.ref a2)) (e9 : T9 = tSet (tSet T8 a1 2 (.ref a2)) a2 2 (.ref a1)) :
    jM E S T0 T9 n HA ND ns LN (fU (fU HA (2 * n) a1) (2 * n + 1) a2) (fU (fU ND (2 * n) m1) (2 * n + 1) m2) ns2 NX2 NY2 LA2 (fun m => zI (m ∈ ns) (LN m) []) ∧
    (∀ b, (T.1 b).1 ≠ 0 → b ≠ gBase E + 7 → T9.1 b = T.1 b) ∧ ((T9.1 (gBase E + 7)).1 = 34 ∧ (T9.1 (gBase E + 7)).2.1 = (T.1 (gBase E + 7)).2.1) ∧ (∀ b, T.2 b ≠ none → b ≠ gBase E + 6 → T9.2 b = T.2 b) := by
  obtain ⟨j0, j1, j2, j3, j4⟩ := j
  obtain ⟨s1, s2, s3, s4, s5, s6⟩ := hs_one h7 f1 p1 e4
  obtain ⟨r1, r2, r3, r4, r5, r6⟩ := hs_one s4.1 f2 p2 e8
  obtain ⟨P1, P2, P3, P4, P5⟩ := p1
  obtain ⟨Q1, Q2, Q3, Q4, Q5⟩ := p2
  have a12 : a1 ≠ a2 := by intro e; have := s2.1; rw [e] at this; omega
  have a17 : a1 ≠ gBase E + 7 := by intro e; rw [e] at f1; omega
  have a27 : a2 ≠ gBase E + 7 := by intro e; rw [e] at f2; have := s4.1; omega
  have t81 : T8.1 a1 = T4.1 a1 := r3 a1 (by rw [s2.1]; decide) a17
  have at9 : ∀ b, b ≠ a1 → b ≠ a2 → T9.1 b = T8.1 b := by
    intro b h1 h2
    rw [e9, tSet_at _ h2, tSet_at _ h1]
  have l9 : T9.2 = T8.2 := by rw [e9]; rfl
  have fr : ∀ b, (T.1 b).1 ≠ 0 → b ≠ gBase E + 7 → T9.1 b = T.1 b := by
    intro b hb b7
    have b1 : b ≠ a1 := fun e => hb (by rw [e]; exact f1.1)
    have e4' := s3 b hb b7
    have b2 : b ≠ a2 := fun e => hb (by rw [← e4', e]; exact f2.1)
    rw [at9 b b1 b2, r3 b (by rw [e4']; exact hb) b7, e4']
  have fl : ∀ b, T.2 b ≠ none → b ≠ gBase E + 6 → T9.2 b = T.2 b := by
    intro b hb b6
    have e4' := s5 b hb b6
    rw [l9, r5 b (by rw [e4']; exact hb) b6, e4']
  have z2 := zB_2n n
  have L1 : kLv S (2 * n) := ⟨by omega, by rw [show 2 * n / 2 = n by omega]; exact lv⟩
  have L2 : kLv S (2 * n + 1) := ⟨by omega, by rw [show (2 * n + 1) / 2 = n by omega]; exact lv⟩
  have H1 : fU (fU HA (2 * n) a1) (2 * n + 1) a2 (2 * n) = a1 := by rw [fU_n _ _ (by omega), fU_s]
  have H2 : fU (fU HA (2 * n) a1) (2 * n + 1) a2 (2 * n + 1) = a2 := fU_s _ _ _
  have N1 : fU (fU ND (2 * n) m1) (2 * n + 1) m2 (2 * n) = m1 := by rw [fU_n _ _ (by omega), fU_s]
  have N2 : fU (fU ND (2 * n) m1) (2 * n + 1) m2 (2 * n + 1) = m2 := fU_s _ _ _
  have Ho : ∀ k, k < 2 * n → fU (fU HA (2 * n) a1) (2 * n + 1) a2 k = HA k := fun k hk => by rw [fU_n _ _ (by omega), fU_n _ _ (by omega)]
  have No : ∀ k, k < 2 * n → fU (fU ND (2 * n) m1) (2 * n + 1) m2 k = ND k := fun k hk => by rw [fU_n _ _ (by omega), fU_n _ _ (by omega)]
  have sub : ∀ i, i ∈ ns → i ∈ ns2 ∧ NX2 i = NX i ∧ NY2 i = NY i ∧ LA2 i = LA i ∧ LH2 i = (LN i).map HA := by
    intro i hi
    have x1 := P3 i hi
    have x2 := Q3 i x1.1
    exact ⟨x2.1, by rw [x2.2.1, x1.2.1], by rw [x2.2.2.1, x1.2.2.1], by rw [x2.2.2.2.1, x1.2.2.2.1], by rw [x2.2.2.2.2, x1.2.2.2.2]⟩
  have m1in : m1 ∈ ns2 ∧ NX2 m1 = kX S (2 * n) ∧ NY2 m1 = kY S (2 * n) := by
    have x2 := Q3 m1 P2.1
    exact ⟨x2.1, by rw [x2.2.1]; exact P2.2.1, by rw [x2.2.2.1]; exact P2.2.2⟩
  have new : ∀ i, i ∈ ns2 → i ∉ ns → (i = m1 ∨ i = m2) ∧ LH2 i = [] ∧ T0.2 (LA2 i) = none := by
    intro i hi ni
    have c1 : i ∈ ns1 → (i = m1 ∨ i = m2) ∧ LH2 i = [] ∧ T0.2 (LA2 i) = none := by
      intro h1
      have x2 := Q3 i h1
      rcases P4 with ⟨e, _⟩ | ⟨e, y1, _, _, _, y2⟩
      · rw [e] at h1; exact absurd h1 ni
      · rw [e] at h1
        rcases List.mem_append.mp h1 with h | h
        · exact absurd h ni
        · have e1 : i = m1 := by simpa using h
          refine ⟨Or.inl e1, by rw [x2.2.2.2.2, e1, y1], ?_⟩
          rw [x2.2.2.2.1, e1]
          by_cases q : T0.2 (LA1 m1) = none
          · exact q
          · exfalso
            have y2 : T.2 (LA1 m1) = none := y2
            have h6 : LA1 m1 ≠ gBase E + 6 := (P1.2.1 m1 P2.1).2.2.2
            exact q (by rw [← lF _ q h6]; exact y2)
    rcases Q4 with ⟨e, _⟩ | ⟨e, y1, _, _, _, y2⟩
    · rw [e] at hi; exact c1 hi
    · rw [e] at hi
      rcases List.mem_append.mp hi with h | h
      · exact c1 h
      · have e1 : i = m2 := by simpa using h
        refine ⟨Or.inr e1, by rw [e1, y1], ?_⟩
        rw [e1]
        by_cases q : T0.2 (LA2 m2) = none
        · exact q
        · exfalso
          have y2 : T4.2 (LA2 m2) = none := y2
          have h6 : LA2 m2 ≠ gBase E + 6 := (Q1.2.1 m2 Q2.1).2.2.2
          have e' := lF _ q h6
          have e'' := s5 (LA2 m2) (by rw [e']; exact q) h6
          exact q (by rw [← e', ← e'']; exact y2)
  have k9a : T9.1 a1 = (tSet T8 a1 2 (.ref a2)).1 a1 := by rw [e9, tSet_at _ a12]
  have k9b : (T9.1 a2).1 = 3 ∧ (T9.1 a2).2.2 0 = vI ((2 * n + 1 : Nat) : Int) ∧ (T9.1 a2).2.2 1 = .ref m2 ∧ (T9.1 a2).2.2 2 = .ref a1 ∧ (T9.1 a2).2.2 4 = .null := by
    rw [e9]
    have q : (tSet T8 a1 2 (.ref a2)).1 a2 = T8.1 a2 := tSet_at _ (Ne.symm a12)
    refine ⟨by rw [tSet_k, q]; exact r2.1, ?_, ?_, ?_, ?_⟩
    · rw [tSet_v, if_neg (by omega), q]; exact r2.2.1
    · rw [tSet_v, if_neg (by omega), q]; exact r2.2.2.1
    · rw [tSet_v, if_pos ⟨rfl, rfl⟩]
    · rw [tSet_v, if_neg (by omega), q]; exact r2.2.2.2
  have k9c : (T9.1 a1).1 = 3 ∧ (T9.1 a1).2.2 0 = vI ((2 * n : Nat) : Int) ∧ (T9.1 a1).2.2 1 = .ref m1 ∧ (T9.1 a1).2.2 2 = .ref a2 ∧ (T9.1 a1).2.2 4 = .null := by
    rw [k9a]
    refine ⟨by rw [tSet_k, t81]; exact s2.1, ?_, ?_, ?_, ?_⟩
    · rw [tSet_v, if_neg (by omega), t81]; exact s2.2.1
    · rw [tSet_v, if_neg (by omega), t81]; exact s2.2.2.1
    · rw [tSet_v, if_pos ⟨rfl, rfl⟩]
    · rw [tSet_v, if_neg (by omega), t81]; exact s2.2.2.2
  have k97 : T9.1 (gBase E + 7) = T8.1 (gBase E + 7) := at9 _ (Ne.symm a17) (Ne.symm a27)
  refine ⟨⟨?_, ?_, ?_, ?_, ?_, ?_, ?_, ?_⟩, fr, ⟨by rw [k97]; exact r4.1, by rw [k97, r4.2.1, s4.2.1]⟩, fl⟩
  · refine nJ_ext (nJ_keep r1 (fun i hi => at9 i ?_ ?_) (fun i _ => by rw [l9]) (by rw [l9])) (fun i hi => ?_)
    · intro e
      have := (r1.2.1 i hi).1.1
      rw [e, t81, s2.1] at this
      omega
    · intro e
      have := (r1.2.1 i hi).1.1
      rw [e, r2.1] at this
      omega
    · show (zI (i ∈ ns) (LN i) []).map _ = LH2 i
      by_cases q : i ∈ ns
      · rw [zI_pos q, (sub i q).2.2.2.2]
        exact List.map_congr_left (fun k hk => Ho k ((j2 i q).2.1 k hk).2.1)
      · rw [zI_neg q, (new i hi q).2.1]
        rfl
  · intro k L hk
    by_cases c : k < 2 * n
    · have q := j1 k L c
      have q2 := j1 (zB k) (kLv_B L) (zB_lt2 c)
      have e1 := fr (HA k) (by rw [q.1.1.1]; decide) (by intro e; have w := q.1.1.1; rw [e] at w; omega)
      have x := sub _ q.2.1
      refine ⟨⟨⟨?_, ?_, ?_, ?_⟩, ?_⟩, ?_, ?_, ?_⟩
      · rw [Ho k c, e1]; exact q.1.1.1
      · rw [Ho k c, e1]; exact q.1.1.2.1
      · rw [Ho k c, e1, No k c]; exact q.1.1.2.2.1
      · rw [Ho k c, e1, Ho (zB k) (zB_lt2 c)]; exact q.1.1.2.2.2
      · rw [Ho k c, e1]; exact q.1.2
      · rw [No k c]; exact x.1
      · rw [No k c, x.2.1]; exact q.2.2.2.1
      · rw [No k c, x.2.2.1]; exact q.2.2.2.2
    · by_cases c2 : k = 2 * n
      · subst c2
        unfold hF
        rw [H1, N1, z2.1, H2]
        exact ⟨⟨⟨k9c.1, k9c.2.1, k9c.2.2.1, k9c.2.2.2.1⟩, k9c.2.2.2.2⟩, m1in⟩
      · have c3 : k = 2 * n + 1 := by omega
        subst c3
        unfold hF
        rw [H2, N2, z2.2, H1]
        exact ⟨⟨⟨k9b.1, k9b.2.1, k9b.2.2.1, k9b.2.2.2.1⟩, k9b.2.2.2.2⟩, Q2⟩
  · exact fun k hk => ⟨Ho k hk, No k hk⟩
  · exact fun i hi => ⟨(sub i hi).1, zI_pos hi _ _⟩
  · intro i hi ni
    rw [N1, N2]
    exact ⟨(new i hi ni).1, zI_neg ni _ _⟩
  · intro k hk
    rw [k97, r4.2.2 k, s4.2.2 k]
    by_cases c2 : k = 2 * n + 1
    · subst c2
      rw [if_pos rfl, zI_pos L2, H2]
    · rw [if_neg c2]
      by_cases c1 : k = 2 * n
      · subst c1
        rw [if_pos rfl, zI_pos L1, H1]
      · rw [if_neg c1, j3 k (by omega), Ho k (by omega)]
  · have a := rk_node (ND := ND) (ns := ns) (ns1 := ns1) (NX := NX) (NY := NY) (m := m1) L1 (fun g G hg => by have q := j1 g G hg; exact ⟨q.2.1, q.2.2.2.1, q.2.2.2.2⟩)
      (fun i hi => by
        obtain ⟨k, hk⟩ := (j2 i hi).1
        have q := (j2 i hi).2.1 k hk
        have w := j1 k q.1 q.2.1
        rw [q.2.2] at w
        exact ⟨k, q.1, q.2.1, w.2.2.2.1, w.2.2.2.2⟩)
      (by
        rcases P4 with ⟨e, h⟩ | ⟨e, _, h, _⟩
        · exact Or.inl ⟨e, h, by rw [← (P3 m1 h).2.1]; exact P2.2.1, by rw [← (P3 m1 h).2.2.1]; exact P2.2.2⟩
        · exact Or.inr ⟨e, h⟩) j4
    have b := rk_node (ND := fU ND (2 * n) m1) (ns := ns1) (ns1 := ns2) (NX := NX1) (NY := NY1) (m := m2) L2 (fun g G hg => by
        by_cases c : g = 2 * n
        · subst c; rw [fU_s]; exact P2
        · rw [fU_n _ _ c]
          have q := j1 g G (by omega)
          have x := P3 _ q.2.1
          exact ⟨x.1, by rw [x.2.1]; exact q.2.2.2.1, by rw [x.2.2.1]; exact q.2.2.2.2⟩)
      (fun i hi => by
        by_cases c : i ∈ ns
        · obtain ⟨k, hk⟩ := (j2 i c).1
          have q := (j2 i c).2.1 k hk
          have w := j1 k q.1 q.2.1
          rw [q.2.2] at w
          have x := P3 i c
          exact ⟨k, q.1, by have := q.2.1; omega, by rw [x.2.1]; exact w.2.2.2.1, by rw [x.2.2.1]; exact w.2.2.2.2⟩
        · rcases P4 with ⟨e, _⟩ | ⟨e, _⟩
          · rw [e] at hi; exact absurd hi c
          · rw [e] at hi
            rcases List.mem_append.mp hi with h | h
            · exact absurd h c
            · have e1 : i = m1 := by simpa using h
              subst e1
              exact ⟨2 * n, L1, by omega, P2.2.1, P2.2.2⟩)
      (by
        rcases Q4 with ⟨e, h⟩ | ⟨e, _, h, _⟩
        · exact Or.inl ⟨e, h, by rw [← (Q3 m2 h).2.1]; exact Q2.2.1, by rw [← (Q3 m2 h).2.2.1]; exact Q2.2.2⟩
        · exact Or.inr ⟨e, h⟩) a
    rw [b]
    rfl
  · intro i hi
    by_cases q : i ∈ ns
    · rw [(sub i q).2.2.2.1]; exact l0 i q
    · exact (new i hi q).2.2
