set_option maxRecDepth 100000
/-! the nodes, their points and lists -/
def fU {α : Type} (f : Nat → α) (a : Nat) (v : α) : Nat → α := fun b => if b = a then v else f b
theorem fU_s {α : Type} (f : Nat → α) (a : Nat) (v : α) : fU f a v a = v := if_pos rfl
theorem fU_n {α : Type} (f : Nat → α) {a b : Nat} (v : α) (e : b ≠ a) : fU f a v b = f b := if_neg e
def nJ (E : gV) (T : tT) (ns : List Nat) (NX NY : Nat → Int) (LA : Nat → Nat) (LH : Nat → List Nat) : Prop :=
  T.2 (gBase E + 6) = some ns ∧
  (∀ m, m ∈ ns → ((T.1 m).1 = 4 ∧ (T.1 m).2.2 0 = vI (NX m) ∧ (T.1 m).2.2 1 = vI (NY m)) ∧ ((T.1 m).2.2 2 = .ref (LA m) ∧ T.2 (LA m) = some (LH m)) ∧ ((-16000 ≤ NX m ∧ NX m ≤ 16000) ∧ (-16000 ≤ NY m ∧ NY m ≤ 16000)) ∧ LA m ≠ gBase E + 6) ∧
  (∀ m m', m ∈ ns → m' ∈ ns → ((NX m = NX m' ∧ NY m = NY m') ∨ LA m = LA m') → m = m')
theorem nJ_keep {E : gV} {T T' : tT} {ns : List Nat} {NX NY : Nat → Int} {LA : Nat → Nat} {LH : Nat → List Nat} (n : nJ E T ns NX NY LA LH) (h1 : ∀ m, m ∈ ns → T'.1 m = T.1 m) (h2 : ∀ m, m ∈ ns → T'.2 (LA m) = T.2 (LA m)) (h3 : T'.2 (gBase E + 6) = T.2 (gBase E + 6)) : nJ E T' ns NX NY LA LH := by
  obtain ⟨a, b, c⟩ := n
  refine ⟨by rw [h3]; exact a, fun m hm => ?_, c⟩
  rw [h1 m hm, h2 m hm]
  exact b m hm
/-- more seen, lists kept but the nodes' -/
def tY (E : gV) (T T' : tT) : Prop := (∀ b, (T.1 b).1 ≠ 0 → T'.1 b = T.1 b) ∧ ∀ b, b ≠ gBase E + 6 → T.2 b ≠ none → T'.2 b = T.2 b
theorem tY_rf (E : gV) (T : tT) : tY E T T := ⟨fun _ _ => rfl, fun _ _ _ => rfl⟩
theorem tY_tr {E : gV} {T T' T'' : tT} (h1 : tY E T T') (h2 : tY E T' T'') : tY E T T'' := by
  refine ⟨fun b hb => ?_, fun b hb hn => ?_⟩
  · have e := h1.1 b hb
    rw [h2.1 b (by rw [e]; exact hb), e]
  · have e := h1.2 b hb hn
    rw [h2.2 b hb (by rw [e]; exact hn), e]
theorem tNode_at {T : tT} {E : gV} {n b : Nat} {x y : Int} {ns : List Nat} {c : Nat} (hc : c ≠ n) : (tNode T E n b x y ns).1 c = T.1 c := by
  unfold tNode tLs tSet tNew va_up
  simp [hc]
theorem tNode_ls {T : tT} {E : gV} {n b : Nat} {x y : Int} {ns : List Nat} {c : Nat} (hc : c ≠ b) (h6 : c ≠ gBase E + 6) : (tNode T E n b x y ns).2 c = T.2 c := by
  unfold tNode tLs tSet tNew va_up
  simp [hc, h6]
theorem tNode_6 {T : tT} {E : gV} {n b : Nat} {x y : Int} {ns : List Nat} : (tNode T E n b x y ns).2 (gBase E + 6) = some (ns ++ [n]) := by
  unfold tNode
  exact tLs_self _ _ _
theorem tNode_b {T : tT} {E : gV} {n b : Nat} {x y : Int} {ns : List Nat} (h6 : b ≠ gBase E + 6) : (tNode T E n b x y ns).2 b = some [] := by
  unfold tNode tLs tSet tNew va_up
  simp [h6]
theorem tNode_n {T : tT} {E : gV} {n b : Nat} {x y : Int} {ns : List Nat} : ((tNode T E n b x y ns).1 n).1 = 4 ∧ ((tNode T E n b x y ns).1 n).2.2 0 = vI x ∧ ((tNode T E n b x y ns).1 n).2.2 1 = vI y ∧ ((tNode T E n b x y ns).1 n).2.2 2 = .ref b := by
  unfold tNode tLs tSet tNew va_up updV
  simp
theorem nJ_new {E : gV} {T : tT} {ns : List Nat} {NX NY : Nat → Int} {LA : Nat → Nat} {LH : Nat → List Nat} (n : nJ E T ns NX NY LA LH) {m b : Nat} {x y : Int} (hx : -16000 ≤ x ∧ x ≤ 16000) (hy : -16000 ≤ y ∧ y ≤ 16000) (f1 : (T.1 m).1 = 0 ∧ T.2 m = none) (f2 : (T.1 b).1 = 0 ∧ T.2 b = none) (no : ∀ i, i ∈ ns → ¬ (NX i = x ∧ NY i = y)) :
    nJ E (tNode T E m b x y ns) (ns ++ [m]) (fU NX m x) (fU NY m y) (fU LA m b) (fU LH m []) := by
  obtain ⟨a1, a2, a3⟩ := n
  have nm : ∀ i, i ∈ ns → i ≠ m := by
    intro i hi e
    have := (a2 i hi).1.1
    rw [e] at this
    omega
  have b6 : b ≠ gBase E + 6 := by intro e; have := f2.2; rw [e, a1] at this; cases this
  have nb : ∀ i, i ∈ ns → LA i ≠ b := by
    intro i hi e
    have := (a2 i hi).2.1.2
    rw [e, f2.2] at this
    cases this
  refine ⟨tNode_6, fun i hi => ?_, fun i j hi hj h => ?_⟩
  · rcases List.mem_append.mp hi with hi | hi
    · have e := nm i hi
      have q := a2 i hi
      rw [fU_n _ _ e, fU_n _ _ e, fU_n _ _ e, fU_n _ _ e, tNode_at e, tNode_ls (nb i hi) q.2.2.2]
      exact q
    · have e : i = m := by simpa using hi
      subst e
      rw [fU_s, fU_s, fU_s, fU_s, tNode_b b6]
      have t := tNode_n (T := T) (E := E) (n := i) (b := b) (x := x) (y := y) (ns := ns)
      exact ⟨⟨t.1, t.2.1, t.2.2.1⟩, ⟨t.2.2.2, rfl⟩, ⟨hx, hy⟩, b6⟩
  · rcases List.mem_append.mp hi with hi' | hi' <;> rcases List.mem_append.mp hj with hj' | hj'
    · have e1 := nm i hi'
      have e2 := nm j hj'
      rw [fU_n _ _ e1, fU_n _ _ e1, fU_n _ _ e1, fU_n _ _ e2, fU_n _ _ e2, fU_n _ _ e2] at h
      exact a3 i j hi' hj' h
    · have e : j = m := by simpa using hj'
      subst e
      have e1 := nm i hi'
      rw [fU_n _ _ e1, fU_n _ _ e1, fU_n _ _ e1, fU_s, fU_s, fU_s] at h
      rcases h with h | h
      · exact absurd h (no i hi')
      · exact absurd h (nb i hi')
    · have e : i = m := by simpa using hi'
      subst e
      have e1 := nm j hj'
      rw [fU_n _ _ e1, fU_n _ _ e1, fU_n _ _ e1, fU_s, fU_s, fU_s] at h
      rcases h with h | h
      · exact absurd ⟨h.1.symm, h.2.symm⟩ (no j hj')
      · exact absurd h.symm (nb j hj')
    · have e1 : i = m := by simpa using hi'
      have e2 : j = m := by simpa using hj'
      rw [e1, e2]
/-- a list of a node has one more -/
theorem nJ_put {E : gV} {T : tT} {ns : List Nat} {NX NY : Nat → Int} {LA : Nat → Nat} {LH : Nat → List Nat} (n : nJ E T ns NX NY LA LH) {m : Nat} (hm : m ∈ ns) (xs : List Nat) : nJ E (tLs T (LA m) xs) ns NX NY LA (fU LH m xs) := by
  obtain ⟨a1, a2, a3⟩ := n
  have q := a2 m hm
  refine ⟨by rw [tLs_ne _ _ (Ne.symm q.2.2.2)]; exact a1, fun i hi => ?_, a3⟩
  have qi := a2 i hi
  refine ⟨qi.1, ⟨qi.2.1.1, ?_⟩, qi.2.2⟩
  by_cases e : i = m
  · subst e; rw [tLs_self, fU_s]
  · have : LA i ≠ LA m := fun h => e (a3 i m hi hm (Or.inr h))
    rw [tLs_ne _ _ this, fU_n _ _ e]
    exact qi.2.1.2
def nP (E : gV) (T T' : tT) (x y : Int) (m : Nat) (ns : List Nat) (NX NY : Nat → Int) (LA : Nat → Nat) (LH : Nat → List Nat) (ns' : List Nat) (NX' NY' : Nat → Int) (LA' : Nat → Nat) (LH' : Nat → List Nat) : Prop :=
  nJ E T' ns' NX' NY' LA' LH' ∧ (m ∈ ns' ∧ NX' m = x ∧ NY' m = y) ∧ (∀ i, i ∈ ns → i ∈ ns' ∧ NX' i = NX i ∧ NY' i = NY i ∧ LA' i = LA i ∧ LH' i = LH i) ∧
  ((ns' = ns ∧ m ∈ ns) ∨ (ns' = ns ++ [m] ∧ LH' m = [] ∧ (∀ i, i ∈ ns → ¬ (NX i = x ∧ NY i = y)) ∧ m ∉ ns ∧ (T.1 m).1 = 0 ∧ T.2 (LA' m) = none)) ∧ tY E T T'
theorem ok_node {E : gV} {l : Launch} {h : gH} {T : tT} {S : mS} (ht : zT E h T) (hz : zK E T S) {ns : List Nat} {NX NY : Nat → Int} {LA : Nat → Nat} {LH : Nat → List Nat} (n : nJ E T ns NX NY LA LH) {x y : Int} (hx : -16000 ≤ x ∧ x ≤ 16000) (hy : -16000 ≤ y ∧ y ≤ 16000) (hlen : ns.length < 150) {d : Nat} (hd : 8 ≤ d) :
    gOk E l gX1_node d 3 (6 + gr ns.length) [.ref (gBase E), vI x, vI y] h (gRv (fun v h' => ∃ m T' ns' NX' NY' LA' LH', v = .ref m ∧ zT E h' T' ∧ nP E T T' x y m ns NX NY LA LH ns' NX' NY' LA' LH')) := by
  refine gOk_mono ?_ (ok_X1_node ht hz n.1 (NX := NX) (NY := NY) (fun m hm => (n.2.1 m hm).1) (fun m hm => (n.2.1 m hm).2.2.1) hx hy hlen hd)
  rintro v h' ⟨w, e, q⟩
  refine ⟨w, e, ?_⟩
  rcases q with ⟨m, m1, m2, m3, m4, m5⟩ | ⟨no, m, b, m1, m2, m3, m4, m5⟩
  · exact ⟨m, T, ns, NX, NY, LA, LH, m4, m5, n, ⟨m1, m2, m3⟩, fun i hi => ⟨hi, rfl, rfl, rfl, rfl⟩, Or.inl ⟨rfl, m1⟩, tY_rf E T⟩
  · have nm : ∀ i, i ∈ ns → i ≠ m := by
      intro i hi e
      have := (n.2.1 i hi).1.1
      rw [e] at this
      omega
    have mm : m ∉ ns := fun q => nm m q rfl
    refine ⟨m, _, _, _, _, _, _, m1, m5, nJ_new n hx hy m2 m3 no, ⟨by simp, fU_s _ _ _, fU_s _ _ _⟩, fun i hi => ?_, Or.inr ⟨rfl, fU_s _ _ _, no, mm, m2.1, by rw [fU_s]; exact m3.2⟩, ?_, ?_⟩
    · have e := nm i hi
      exact ⟨by simp [hi], fU_n _ _ e, fU_n _ _ e, fU_n _ _ e, fU_n _ _ e⟩
    · intro c hc
      exact tNode_at (fun e => hc (by rw [e]; exact m2.1))
    · intro c h6 hc
      exact tNode_ls (fun e => hc (by rw [e]; exact m3.2)) h6
