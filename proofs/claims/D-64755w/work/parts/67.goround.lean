set_option maxRecDepth 100000
/-- nodes and halves are kept, but for the rounds of halves -/
def tG (T T' : tT) : Prop := (∀ b, (T.1 b).1 = 3 → (T'.1 b).1 = 3 ∧ ∀ f, f < 4 → (T'.1 b).2.2 f = (T.1 b).2.2 f) ∧ ∀ b, ((T.1 b).1 = 4 ∨ tKd (T.1 b).1) → T'.1 b = T.1 b
def tl (E : gV) (T T' : tT) : Prop := ∀ b, b ≠ gBase E + 8 → b ≠ gBase E + 9 → T.2 b ≠ none → T'.2 b = T.2 b
theorem tG_rf (T : tT) : tG T T := ⟨fun _ h => ⟨h, fun _ _ => rfl⟩, fun _ _ => rfl⟩
theorem tG_tr {T T' T'' : tT} (h1 : tG T T') (h2 : tG T' T'') : tG T T'' := by
  refine ⟨fun b hb => ?_, fun b hb => ?_⟩
  · have a := h1.1 b hb
    have c := h2.1 b a.1
    exact ⟨c.1, fun f hf => by rw [c.2 f hf, a.2 f hf]⟩
  · have a := h1.2 b hb
    rw [h2.2 b (by rw [a]; exact hb), a]
theorem tl_rf (E : gV) (T : tT) : tl E T T := fun _ _ _ _ => rfl
theorem tl_tr {E : gV} {T T' T'' : tT} (h1 : tl E T T') (h2 : tl E T' T'') : tl E T T'' := fun b b8 b9 hb => by
  have a := h1 b b8 b9 hb
  rw [h2 b b8 b9 (by rw [a]; exact hb), a]
theorem tG_x {T T' : tT} (h : tX T T') : tG T T' := ⟨fun b hb => by rw [h.2 b (by omega)]; exact ⟨hb, fun _ _ => rfl⟩, fun b hb => h.2 b (by unfold tKd at hb; omega)⟩
theorem tl_x {E : gV} {T T' : tT} (h : tX T T') : tl E T T' := fun b _ _ _ => by rw [h.1]
theorem tG_K {T T' : tT} (h : tG T T') : tK xN T T' := fun b k _ => h.2 b (Or.inr k)
theorem tG_new {T : tT} {a : Nat} {q : gE} (h : (T.1 a).1 = 0) : tG T (tNew T a q) := by
  have ne : ∀ b, (T.1 b).1 ≠ 0 → b ≠ a := fun b hb e => hb (by rw [e]; exact h)
  refine ⟨fun b hb => by rw [tNew_ne _ _ (ne b (by omega))]; exact ⟨hb, fun _ _ => rfl⟩, fun b hb => tNew_ne _ _ (ne b (by unfold tKd at hb; omega))⟩
theorem tG_set {T : tT} {a f : Nat} {v : Value} (h : (T.1 a).1 = 5 ∨ (T.1 a).1 = 6 ∨ (T.1 a).1 = 7 ∨ ((T.1 a).1 = 3 ∧ f = 4)) : tG T (tSet T a f v) := by
  refine ⟨fun b hb => ⟨by rw [tSet_k]; exact hb, fun g hg => ?_⟩, fun b hb => tSet_at T (fun e => ?_)⟩
  · rw [tSet_v]
    by_cases e : b = a ∧ g = f
    · exfalso
      rw [e.1] at hb
      omega
    · rw [if_neg e]
  · subst e
    unfold tKd at hb
    omega
theorem tG_ls (T : tT) (a : Nat) (xs : List Nat) : tG T (tLs T a xs) := ⟨fun _ h => ⟨h, fun _ _ => rfl⟩, fun _ _ => rfl⟩
theorem tl_ls {E : gV} {T : tT} {a : Nat} {xs : List Nat} (h : a = gBase E + 8 ∨ a = gBase E + 9 ∨ T.2 a = none) : tl E T (tLs T a xs) := fun b b8 b9 hb => tLs_ne _ _ (fun e => by
  subst e
  rcases h with h | h | h
  · exact b8 h
  · exact b9 h
  · exact hb h)
/-- the joined graph -/
def jG (E : gV) (S : mS) (T : tT) (HA ND : Nat → Nat) (ns : List Nat) (NX NY : Nat → Int) (LA : Nat → Nat) (LN : Nat → List Nat) : Prop :=
  nJ E T ns NX NY LA (fun m => (LN m).map HA) ∧
  (∀ k, kLv S k → (hF T HA ND k ∧ (T.1 (HA k)).2.2 3 = .ref (HA (nxF LN ND k))) ∧ (ND k ∈ ns ∧ k ∈ LN (ND k) ∧ NX (ND k) = kX S k ∧ NY (ND k) = kY S k)) ∧
  (∀ m, m ∈ ns → (∃ k, k ∈ LN m) ∧ (∀ k, k ∈ LN m → kLv S k ∧ ND k = m) ∧ srt S (LN m) ∧ (LN m).Nodup) ∧
  (∀ k, k < 120 → (T.1 (gBase E + 7)).2.2 k = zI (kLv S k) (.ref (HA k)) .null) ∧
  ns.length = rk (kLv S) (kSp S) 120 ∧ (∀ m, m ∈ ns → LA m ≠ gBase E + 8 ∧ LA m ≠ gBase E + 9) ∧ (T.1 (gBase E + 7)).1 = 34
theorem jG_of {E : gV} {S : mS} {T T' : tT} {HA ND : Nat → Nat} {ns : List Nat} {NX NY : Nat → Int} {LA : Nat → Nat} {LN : Nat → List Nat} (o : jO E S T T' HA ND ns NX NY LA LN) (h8 : T.2 (gBase E + 8) ≠ none) (h9 : T.2 (gBase E + 9) ≠ none) : jG E S T' HA ND ns NX NY LA LN := by
  obtain ⟨o1, o2, ⟨n0, j1, j2, j3, j4⟩, o4⟩ := o
  refine ⟨n0, fun k L => ?_, fun m hm => ?_, j3, j4, fun m hm => ⟨fun e => h8 (by rw [← e]; exact o2.2.2 m hm), fun e => h9 (by rw [← e]; exact o2.2.2 m hm)⟩, o1.2.2.2.2.1.2.1⟩
  · have q := j1 k L (by have := L.1; omega)
    exact ⟨⟨q.1.1, o4 k L⟩, q.2⟩
  · have q := j2 m hm
    exact ⟨q.1, fun k hk => ⟨(q.2.1 k hk).1, (q.2.1 k hk).2.2⟩, q.2.2⟩
theorem jG_keep {E : gV} {S : mS} {T T' : tT} {HA ND : Nat → Nat} {ns : List Nat} {NX NY : Nat → Int} {LA : Nat → Nat} {LN : Nat → List Nat} (j : jG E S T HA ND ns NX NY LA LN) (h1 : tG T T') (h2 : tl E T T') : jG E S T' HA ND ns NX NY LA LN := by
  obtain ⟨j0, j1, j2, j3, j4, j5, j6⟩ := j
  have e7 := h1.2 (gBase E + 7) (Or.inr (by unfold tKd; omega))
  refine ⟨nJ_keep j0 (fun m hm => h1.2 m (Or.inl (j0.2.1 m hm).1.1)) (fun m hm => h2 _ (j5 m hm).1 (j5 m hm).2 (by rw [(j0.2.1 m hm).2.1.2]; simp)) (h2 _ (by omega) (by omega) (by rw [j0.1]; simp)), fun k L => ?_, j2, fun k hk => by rw [e7]; exact j3 k hk, j4, j5, by rw [e7]; exact j6⟩
  have q := j1 k L
  have e := h1.1 (HA k) q.1.1.1
  refine ⟨⟨⟨e.1, ?_, ?_, ?_⟩, ?_⟩, q.2⟩
  · rw [e.2 0 (by omega)]; exact q.1.1.2.1
  · rw [e.2 1 (by omega)]; exact q.1.1.2.2.1
  · rw [e.2 2 (by omega)]; exact q.1.1.2.2.2
  · rw [e.2 3 (by omega)]; exact q.1.2
theorem jG_inj {E : gV} {S : mS} {T : tT} {HA ND : Nat → Nat} {ns : List Nat} {NX NY : Nat → Int} {LA : Nat → Nat} {LN : Nat → List Nat} (j : jG E S T HA ND ns NX NY LA LN) : ∀ a b, kLv S a → kLv S b → HA a = HA b → a = b := by
  intro a b A B e
  have h1 := (j.2.1 a A).1.1.2.1
  have h2 := (j.2.1 b B).1.1.2.1
  rw [e, h2] at h1
  exact (vI_inj B.1 A.1 h1).symm
/-- what goes on stays among the halves and comes round -/
def nxG (S : mS) (nx : Nat → Nat) : Prop := (∀ k, kLv S k → kLv S (nx k)) ∧ ∀ k, kLv S k → ∃ m, prd nx k m
theorem jG_cyc {E : gV} {S : mS} {T : tT} {HA ND : Nat → Nat} {ns : List Nat} {NX NY : Nat → Int} {LA : Nat → Nat} {LN : Nat → List Nat} (j : jG E S T HA ND ns NX NY LA LN) (nn : nxG S (nxF LN ND)) {f m : Nat} (F : kLv S f) (p : prd (nxF LN ND) f m) : cyc T (fun k => HA (itN (nxF LN ND) k f)) m := by
  have L := itN_L nn.1 F
  refine ⟨p.1, fun k _ => ⟨(j.2.1 _ (L k)).1.1.1, (j.2.1 _ (L k)).1.2⟩, ?_, fun k h0 hk e => ?_⟩
  · show HA (itN _ m f) = HA f
    rw [p.2.2.1]
  · exact p.2.2.2 k h0 hk (jG_inj j _ _ (L k) F e)
/-- the rounds, those whose first half is below n -/
def gI (E : gV) (S : mS) (T : tT) (HA : Nat → Nat) (nx : Nat → Nat) (rs : List Nat) (RA : Nat → Nat) (n : Nat) : Prop :=
  T.2 (gBase E + 8) = some rs ∧ rs.length = rk (kLv S) (orb nx) n ∧
  (∀ f, f < n → fst (kLv S) (orb nx) f → rs[rk (kLv S) (orb nx) f]? = some (RA f) ∧ (T.1 (RA f)).1 = 5 ∧ (T.1 (RA f)).2.2 0 = .ref (HA f) ∧ (T.1 (RA f)).2.2 1 = .null) ∧
  (∀ k, kLv S k → (∃ f, f < n ∧ fst (kLv S) (orb nx) f ∧ orb nx f k ∧ (T.1 (HA k)).2.2 4 = .ref (RA f)) ∨ ((∀ f, f < n → fst (kLv S) (orb nx) f → ¬ orb nx f k) ∧ (T.1 (HA k)).2.2 4 = .null))
theorem gI_skip {E : gV} {S : mS} {T : tT} {HA nx : Nat → Nat} {rs : List Nat} {RA : Nat → Nat} {n : Nat} (g : gI E S T HA nx rs RA n) (nf : ¬ fst (kLv S) (orb nx) n) : gI E S T HA nx rs RA (n + 1) := by
  obtain ⟨g1, g2, g3, g4⟩ := g
  have ne : ∀ f, f < n + 1 → fst (kLv S) (orb nx) f → f < n := fun f hf F => by
    by_cases e : f = n
    · subst e; exact absurd F nf
    · omega
  refine ⟨g1, by rw [rk_neg nf]; exact g2, fun f hf F => g3 f (ne f hf F) F, fun k L => ?_⟩
  rcases g4 k L with ⟨f, a, b⟩ | ⟨a, b⟩
  · exact Or.inl ⟨f, by omega, b⟩
  · exact Or.inr ⟨fun f hf F => a f (ne f hf F) F, b⟩
/-- the halves of a new round have it -/
def rdI (T T1 : tT) (p : Nat → Nat) (w r k : Nat) : Prop := T1.2 = T.2 ∧ (∀ b, b ≠ w → (∀ i, i < k → b ≠ p i) → T1.1 b = T.1 b) ∧ (∀ i, i < k → (T1.1 (p i)).1 = 3 ∧ (∀ f, f < 4 → (T1.1 (p i)).2.2 f = (T.1 (p i)).2.2 f) ∧ (T1.1 (p i)).2.2 4 = .ref r)
theorem rdI_go {T T1 : tT} {p : Nat → Nat} {w r k q : Nat} {b : Int} (h : rdI T T1 p w r k) (hw : ∀ i, i ≤ k → p i ≠ w) (hk : (T1.1 (p k)).1 = 3) (h3 : ∀ f, f < 4 → (T1.1 (p k)).2.2 f = (T.1 (p k)).2.2 f) : rdI T (tSet (tSet (tSet T1 w 1 (.ref q)) w 2 (vI b)) (p k) 4 (.ref r)) p w r (k + 1) := by
  obtain ⟨h1, h2, h4⟩ := h
  refine ⟨h1, fun b hb hn => ?_, fun i hi => ?_⟩
  · rw [tSet_at _ (hn k (by omega)), tSet_at _ hb, tSet_at _ hb]
    exact h2 b hb (fun i hi => hn i (by omega))
  · by_cases e : p i = p k
    · rw [e]
      refine ⟨by rw [tSet_k, tSet_k, tSet_k]; exact hk, fun f hf => ?_, by rw [tSet_v, if_pos ⟨rfl, rfl⟩]⟩
      rw [tSet_v, if_neg (by omega), tSet_v, if_neg (fun q => hw k (Nat.le_refl _) q.1), tSet_v, if_neg (fun q => hw k (Nat.le_refl _) q.1)]
      exact h3 f hf
    · have a := h4 i (by by_cases c : i = k; (subst c; exact absurd rfl e); omega)
      rw [tSet_at _ e, tSet_at _ (hw i (by omega)), tSet_at _ (hw i (by omega))]
      exact a
