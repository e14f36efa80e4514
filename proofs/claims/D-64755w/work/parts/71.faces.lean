set_option maxRecDepth 100000
/-! faces while they are found; T0: when finding began -/
def tH (T T' : tT) : Prop := ∀ b, ((T.1 b).1 = 3 ∨ (T.1 b).1 = 4 ∨ tKd (T.1 b).1) → T'.1 b = T.1 b
def tlF (E : gV) (T T' : tT) : Prop := ∀ b, b ≠ gBase E + 9 → T.2 b ≠ none → T'.2 b = T.2 b
theorem tH_rf (T : tT) : tH T T := fun _ _ => rfl
theorem tH_tr {T T' T'' : tT} (h1 : tH T T') (h2 : tH T' T'') : tH T T'' := fun b hb => by
  have a := h1 b hb
  rw [h2 b (by rw [a]; exact hb), a]
theorem tH_G {T T' : tT} (h : tH T T') : tG T T' := ⟨fun b hb => by rw [h b (Or.inl hb)]; exact ⟨hb, fun _ _ => rfl⟩, fun b hb => h b (by rcases hb with q | q; exact Or.inr (Or.inl q); exact Or.inr (Or.inr q))⟩
theorem tH_x {T T' : tT} (h : tX T T') : tH T T' := fun b hb => h.2 b (by unfold tKd at hb; omega)
theorem tH_set {T : tT} {a f : Nat} {v : Value} (h : (T.1 a).1 = 5 ∨ (T.1 a).1 = 6 ∨ (T.1 a).1 = 7) : tH T (tSet T a f v) := fun b hb => tSet_at T (fun e => by subst e; unfold tKd at hb; omega)
theorem tH_new {T : tT} {a : Nat} {q : gE} (h : (T.1 a).1 = 0) : tH T (tNew T a q) := fun b hb => tNew_ne T q (fun e => by subst e; unfold tKd at hb; omega)
theorem tH_ls (T : tT) (a : Nat) (xs : List Nat) : tH T (tLs T a xs) := fun _ _ => rfl
theorem jG_keepF {E : gV} {S : mS} {T T' : tT} {HA ND : Nat → Nat} {ns : List Nat} {NX NY : Nat → Int} {LA : Nat → Nat} {LN : Nat → List Nat} (j : jG E S T HA ND ns NX NY LA LN) (h1 : tH T T') (h2 : tlF E T T') : jG E S T' HA ND ns NX NY LA LN :=
  jG_keep j (tH_G h1) (fun b _ b9 hb => h2 b b9 hb)
def lsP (xs : List Nat) (L : Int) : Prop := (∀ f, f ∈ xs → L ≤ (f : Int)) ∧ ((xs = [] ∧ L = 120) ∨ ∃ f, f ∈ xs ∧ L = (f : Int))
/-- a face's object and list -/
def fO (T0 T : tT) (S : mS) (nx : Nat → Nat) (RA : Nat → Nat) (FC : Nat → Option Nat) (FL : Nat → Nat) (XS : Nat → List Nat) (LS : Nat → Int) (a : Nat) : Prop :=
  ((T.1 a).1 = 7 ∧ (T.1 a).2.2 0 = .ref (FL a) ∧ (T.1 a).2.2 1 = vI (LS a)) ∧ (T.2 (FL a) = some ((XS a).map RA) ∧ T0.2 (FL a) = none) ∧ (0 ≤ LS a ∧ LS a ≤ 120) ∧ (XS a).Nodup ∧ (∀ f, f ∈ XS a ↔ (fst (kLv S) (orb nx) f ∧ FC f = some a)) ∧ lsP (XS a) (LS a)
def fI (E : gV) (S : mS) (T0 T : tT) (HA : Nat → Nat) (nx : Nat → Nat) (rs : List Nat) (RA : Nat → Nat) (FC : Nat → Option Nat) (vs : List Nat) (FL : Nat → Nat) (XS : Nat → List Nat) (LS : Nat → Int) : Prop :=
  gR E S T HA nx rs RA FC ∧ (tH T0 T ∧ tlF E T0 T) ∧ vs.Nodup ∧ (∀ a, a ∈ vs → fO T0 T S nx RA FC FL XS LS a) ∧ (∀ a a', a ∈ vs → a' ∈ vs → FL a = FL a' → a = a') ∧ (∀ f a, fst (kLv S) (orb nx) f → FC f = some a → a ∈ vs)
section FACES
variable {E : gV} {S : mS} {T0 T : tT} {HA : Nat → Nat} {nx : Nat → Nat} {rs : List Nat} {RA : Nat → Nat} {FC : Nat → Option Nat} {vs : List Nat} {FL : Nat → Nat} {XS : Nat → List Nat} {LS : Nat → Int}
theorem fI_x {T' : tT} (i : fI E S T0 T HA nx rs RA FC vs FL XS LS) (h3 : ∀ k, kLv S k → (T.1 (HA k)).1 = 3) (x : tX T T') : fI E S T0 T' HA nx rs RA FC vs FL XS LS := by
  obtain ⟨i1, i2, i3, i4, i5, i6⟩ := i
  refine ⟨gR_x i1 h3 x, ⟨tH_tr i2.1 (tH_x x), fun b b9 hb => by rw [x.1]; exact i2.2 b b9 hb⟩, i3, fun a ha => ?_, i5, i6⟩
  have q := i4 a ha
  unfold fO
  rw [x.2 a (by rw [q.1.1]; omega), x.1]
  exact q
theorem fI_9 (i : fI E S T0 T HA nx rs RA FC vs FL XS LS) (h9 : T0.2 (gBase E + 9) ≠ none) (ys : List Nat) : fI E S T0 (tLs T (gBase E + 9) ys) HA nx rs RA FC vs FL XS LS := by
  obtain ⟨⟨g1, g2, g3, g4⟩, i2, i3, i4, i5, i6⟩ := i
  refine ⟨⟨by rw [tLs_ne _ _ (by omega)]; exact g1, g2, g3, g4⟩, ⟨tH_tr i2.1 (tH_ls _ _ _), fun b b9 hb => by rw [tLs_ne _ _ b9]; exact i2.2 b b9 hb⟩, i3, fun a ha => ?_, i5, i6⟩
  have q := i4 a ha
  refine ⟨q.1, ⟨?_, q.2.1.2⟩, q.2.2⟩
  rw [tLs_ne _ _ (fun e => h9 (by rw [← e]; exact q.2.1.2))]
  exact q.2.1.1
/-- a list that is nobody's -/
theorem fI_o (i : fI E S T0 T HA nx rs RA FC vs FL XS LS) {w : Nat} (hw : T0.2 w = none) (h8 : T0.2 (gBase E + 8) ≠ none) (no : ∀ a, a ∈ vs → FL a ≠ w) (ys : List Nat) : fI E S T0 (tLs T w ys) HA nx rs RA FC vs FL XS LS := by
  obtain ⟨⟨g1, g2, g3, g4⟩, i2, i3, i4, i5, i6⟩ := i
  refine ⟨⟨by rw [tLs_ne _ _ (fun e => h8 (by rw [e]; exact hw))]; exact g1, g2, g3, g4⟩, ⟨tH_tr i2.1 (tH_ls _ _ _), fun b b9 hb => by rw [tLs_ne _ _ (fun e => hb (by rw [e]; exact hw))]; exact i2.2 b b9 hb⟩, i3, fun a ha => ?_, i5, i6⟩
  have q := i4 a ha
  refine ⟨q.1, ⟨?_, q.2.1.2⟩, q.2.2⟩
  rw [tLs_ne _ _ (no a ha)]
  exact q.2.1.1
theorem fI_init (i : fI E S T0 T HA nx rs RA FC vs FL XS LS) (h3 : ∀ k, kLv S k → (T.1 (HA k)).1 = 3) (h9 : T0.2 (gBase E + 9) ≠ none) (h9' : T.2 (gBase E + 9) ≠ none) {a b : Nat} (fa : (T.1 a).1 = 0) (fb : T.2 b = none) (ab : b ≠ a) {T' : tT}
    (e : T' = tSet (tSet (tLs (tNew T a (6 + 1, gN 6, fun f => defaultValue (gTy 6 f))) b []) a 0 (.ref b)) a 1 (vI 120)) : fI E S T0 T' HA nx rs RA FC (vs ++ [a]) (fU FL a b) (fU XS a []) (fU LS a 120) ∧ (∀ c, c ≠ a → T'.1 c = T.1 c) ∧ (∀ c, c ≠ b → T'.2 c = T.2 c) ∧ a ∉ vs ∧ (T'.1 a).2.2 2 = vI 0 := by
  obtain ⟨⟨g1, g2, g3, g4⟩, i2, i3, i4, i5, i6⟩ := i
  have at' : ∀ c, c ≠ a → T'.1 c = T.1 c := fun c hc => by
    rw [e, tSet_at _ hc, tSet_at _ hc]
    exact tNew_ne _ _ hc
  have l' : ∀ c, c ≠ b → T'.2 c = T.2 c := fun c hc => by
    rw [e]
    show (tLs (tNew T a _) b []).2 c = _
    rw [tLs_ne _ _ hc]
    rfl
  have lb : T'.2 b = some [] := by
    rw [e]
    show (tLs (tNew T a _) b []).2 b = _
    exact tLs_self _ _ _
  have nv : ∀ c, c ∈ vs → c ≠ a := fun c hc ec => by have := (i4 c hc).1.1; rw [ec] at this; omega
  have nb : ∀ c, T.2 c ≠ none → c ≠ b := fun c hc ec => hc (by rw [ec]; exact fb)
  have t0b : T0.2 b = none := by
    by_cases q : T0.2 b = none
    · exact q
    · exfalso
      by_cases c : b = gBase E + 9
      · rw [c] at fb; exact h9' fb
      · have := i2.2 b c q
        rw [fb] at this
        exact q this.symm
  have nl : ∀ c, c ∈ vs → FL c ≠ b := fun c hc => nb _ (by rw [(i4 c hc).2.1.1]; simp)
  have av : a ∉ vs := fun q => nv a q rfl
  have nfa : ∀ f, fst (kLv S) (orb nx) f → FC f ≠ some a := fun f F q => av (i6 f a F q)
  refine ⟨⟨⟨?_, g2, fun f F => ?_, fun k L => ?_⟩, ⟨tH_tr i2.1 (fun c hc => at' c (fun ec => by rw [ec] at hc; unfold tKd at hc; omega)), fun c c9 hc => ?_⟩, ?_, fun c hc => ?_, fun c c' hc hc' h => ?_, fun f c F q => List.mem_append_left _ (i6 f c F q)⟩, at', l', av, ?_⟩
  · rw [l' _ (nb _ (by rw [g1]; simp))]; exact g1
  · have q := g3 f F
    rw [at' _ (fun ec => by have := q.2.1; rw [ec] at this; omega)]
    exact q
  · obtain ⟨f, a1, a2, a3⟩ := g4 k L
    refine ⟨f, a1, a2, ?_⟩
    rw [at' _ (fun ec => by have := h3 k L; rw [ec] at this; omega)]
    exact a3
  · have := i2.2 c c9 hc
    rw [l' c (nb c (by rw [this]; exact hc)), this]
  · rw [List.nodup_append]
    exact ⟨i3, by simp, fun x hx y hy => by have : y = a := by simpa using hy
                                            rw [this]; exact nv x hx⟩
  · rcases List.mem_append.mp hc with hc | hc
    · have q := i4 c hc
      have ne := nv c hc
      unfold fO
      rw [fU_n _ _ ne, fU_n _ _ ne, fU_n _ _ ne, at' c ne, l' _ (nl c hc)]
      exact q
    · have ec : c = a := by simpa using hc
      subst ec
      unfold fO
      rw [fU_s, fU_s, fU_s, lb]
      refine ⟨⟨?_, ?_, ?_⟩, ⟨rfl, t0b⟩, by omega, List.nodup_nil, fun f => ⟨fun q => absurd q (by simp), fun q => absurd q.2 (nfa f q.1)⟩, fun f q => absurd q (by simp), Or.inl ⟨rfl, rfl⟩⟩
      · rw [e, tSet_k, tSet_k]
        show ((tNew T c _).1 c).1 = 7
        rw [tNew_self]
      · rw [e, tSet_v, if_neg (by omega), tSet_v, if_pos ⟨rfl, rfl⟩]
      · rw [e, tSet_v, if_pos ⟨rfl, rfl⟩]
  · rcases List.mem_append.mp hc with hc1 | hc1 <;> rcases List.mem_append.mp hc' with hc2 | hc2
    · rw [fU_n _ _ (nv c hc1), fU_n _ _ (nv c' hc2)] at h
      exact i5 c c' hc1 hc2 h
    · have ec : c' = a := by simpa using hc2
      rw [ec, fU_n _ _ (nv c hc1), fU_s] at h
      exact absurd h (nl c hc1)
    · have ec : c = a := by simpa using hc1
      rw [ec, fU_n _ _ (nv c' hc2), fU_s] at h
      exact absurd h.symm (nl c' hc2)
    · have e1 : c = a := by simpa using hc1
      have e2 : c' = a := by simpa using hc2
      rw [e1, e2]
  · rw [e, tSet_v, if_neg (by omega), tSet_v, if_neg (by omega)]
    show ((tNew T a _).1 a).2.2 2 = vI 0
    rw [tNew_self]
    rfl
theorem fI_add (i : fI E S T0 T HA nx rs RA FC vs FL XS LS) (h3 : ∀ k, kLv S k → (T.1 (HA k)).1 = 3) (h8 : T0.2 (gBase E + 8) ≠ none) (h9 : T0.2 (gBase E + 9) ≠ none) (inj : ∀ a b, fst (kLv S) (orb nx) a → fst (kLv S) (orb nx) b → RA a = RA b → a = b) {a f : Nat} (ha : a ∈ vs) (F : fst (kLv S) (orb nx) f) (no : FC f = none) {T3 T' : tT}
    (x : tX (tLs (tSet T (RA f) 1 (.ref a)) (FL a) ((XS a).map RA ++ [RA f])) T3) (e : T' = tSet T3 a 1 (vI (mnI (LS a) f))) :
    fI E S T0 T' HA nx rs RA (fU FC f (some a)) vs FL (fU XS a (XS a ++ [f])) (fU LS a (mnI (LS a) f)) ∧ T'.2 (gBase E + 9) = T.2 (gBase E + 9) ∧ (∀ c, c ≠ FL a → T'.2 c = T.2 c) ∧ (∀ c, (T.1 c).1 ≠ 0 → (T'.1 c).1 = (T.1 c).1) ∧ (∀ c, (T.1 c).1 = 7 → (T'.1 c).2.2 2 = (T.1 c).2.2 2) := by
  obtain ⟨⟨g1, g2, g3, g4⟩, i2, i3, i4, i5, i6⟩ := i
  have qa := i4 a ha
  have qf := g3 f F
  have ra : RA f ≠ a := fun q => by have := qf.2.1; rw [q] at this; have := qa.1.1; omega
  have at3 : ∀ c, (T.1 c).1 ≠ 0 → c ≠ RA f → T3.1 c = T.1 c := fun c hc ne => by
    have : (tLs (tSet T (RA f) 1 (.ref a)) (FL a) ((XS a).map RA ++ [RA f])).1 c = T.1 c := tSet_at T ne
    rw [x.2 c (by rw [this]; exact hc), this]
  have at' : ∀ c, (T.1 c).1 ≠ 0 → c ≠ RA f → c ≠ a → T'.1 c = T.1 c := fun c hc n1 n2 => by rw [e, tSet_at _ n2, at3 c hc n1]
  have r3 : T3.1 (RA f) = (tSet T (RA f) 1 (.ref a)).1 (RA f) := by
    rw [x.2 (RA f) (by show ((tSet T (RA f) 1 (.ref a)).1 (RA f)).1 ≠ 0; rw [tSet_k, qf.2.1]; decide)]
    rfl
  have r' : T'.1 (RA f) = (tSet T (RA f) 1 (.ref a)).1 (RA f) := by rw [e, tSet_at _ ra, r3]
  have a3 : T3.1 a = T.1 a := at3 a (by rw [qa.1.1]; decide) (Ne.symm ra)
  have l' : T'.2 = (tLs (tSet T (RA f) 1 (.ref a)) (FL a) ((XS a).map RA ++ [RA f])).2 := by rw [e]; exact x.1
  have ln : ∀ c, c ≠ FL a → T'.2 c = T.2 c := fun c hc => by rw [l', tLs_ne _ _ hc]; rfl
  have la : T'.2 (FL a) = some ((XS a ++ [f]).map RA) := by rw [l', tLs_self, List.map_append]; rfl
  have n0 : ∀ c, T0.2 c ≠ none → c ≠ FL a := fun c hc ec => hc (by rw [ec]; exact qa.2.1.2)
  have fx : f ∉ XS a := fun q => by have := (qa.2.2.2.2.1 f).mp q; rw [no] at this; exact absurd this.2 (by simp)
  have mn : mnI (LS a) (f : Int) ≤ LS a ∧ mnI (LS a) (f : Int) ≤ f ∧ (mnI (LS a) (f : Int) = LS a ∨ mnI (LS a) (f : Int) = f) := by unfold mnI; split <;> omega
  have fl : f < 120 := F.1.1
  refine ⟨⟨⟨?_, g2, fun g G => ?_, fun k L => ?_⟩, ⟨tH_tr i2.1 (fun c hc => at' c (by unfold tKd at hc; omega) (fun q => by rw [q] at hc; unfold tKd at hc; omega) (fun q => by rw [q] at hc; have := qa.1.1; unfold tKd at hc; omega)), fun c c9 hc => ?_⟩, i3, fun c hc => ?_, i5, fun g c G q => ?_⟩, ln _ (n0 _ h9), ln, ?_, ?_⟩
  · rw [ln _ (n0 _ h8)]; exact g1
  · have q := g3 g G
    by_cases eg : g = f
    · subst eg
      rw [r', fU_s]
      refine ⟨q.1, by rw [tSet_k]; exact q.2.1, ?_, ?_⟩
      · rw [tSet_v, if_neg (by omega)]; exact q.2.2.1
      · rw [tSet_v, if_pos ⟨rfl, rfl⟩]; rfl
    · have nr : RA g ≠ RA f := fun w => eg (inj g f G F w)
      rw [at' (RA g) (by omega) nr (fun w => by have := q.2.1; rw [w] at this; have := qa.1.1; omega), fU_n _ _ eg]
      exact q
  · obtain ⟨g, a1, a2, a4⟩ := g4 k L
    have k3 := h3 k L
    refine ⟨g, a1, a2, ?_⟩
    rw [at' (HA k) (by omega) (fun w => by rw [w] at k3; omega) (fun w => by rw [w] at k3; have := qa.1.1; omega)]
    exact a4
  · have := i2.2 c c9 hc
    rw [ln c (n0 c hc), this]
  · have q := i4 c hc
    by_cases ec : c = a
    · subst ec
      unfold fO
      rw [fU_s, fU_s, la]
      refine ⟨⟨by rw [e, tSet_k, a3]; exact q.1.1, by rw [e, tSet_v, if_neg (by omega), a3]; exact q.1.2.1, by rw [e, tSet_v, if_pos ⟨rfl, rfl⟩]⟩, ⟨rfl, q.2.1.2⟩, ?_, ?_, fun g => ?_, ?_⟩
      · have := q.2.2.1
        have h1 := mn
        omega
      · rw [List.nodup_append]
        exact ⟨q.2.2.2.1, by simp, fun u hu v hv => by have : v = f := by simpa using hv
                                                       rw [this]; intro w; subst w; exact fx hu⟩
      · rw [List.mem_append]
        by_cases eg : g = f
        · subst eg
          rw [fU_s]
          exact ⟨fun _ => ⟨F, rfl⟩, fun _ => Or.inr (by simp)⟩
        · rw [fU_n _ _ eg]
          constructor
          · intro w
            rcases w with w | w
            · exact (q.2.2.2.2.1 g).mp w
            · exact absurd (by simpa using w) eg
          · intro w
            exact Or.inl ((q.2.2.2.2.1 g).mpr w)
      · obtain ⟨l1, l2⟩ := q.2.2.2.2.2
        refine ⟨fun g hg => ?_, Or.inr ?_⟩
        · rcases List.mem_append.mp hg with w | w
          · have := l1 g w; omega
          · have : g = f := by simpa using w
            subst this; omega
        · rcases mn.2.2 with w | w
          · rcases l2 with ⟨u, v⟩ | ⟨g, u, v⟩
            · exfalso; omega
            · exact ⟨g, List.mem_append_left _ u, by omega⟩
          · exact ⟨f, List.mem_append_right _ (by simp), w⟩
    · have ne : FL c ≠ FL a := fun w => ec (i5 c a hc ha w)
      unfold fO
      rw [fU_n _ _ ec, fU_n _ _ ec, at' c (by rw [q.1.1]; decide) (fun w => by have := q.1.1; rw [w] at this; omega) ec, ln _ ne]
      refine ⟨q.1, q.2.1, q.2.2.1, q.2.2.2.1, fun g => ?_, q.2.2.2.2.2⟩
      rw [q.2.2.2.2.1 g]
      by_cases eg : g = f
      · subst eg
        rw [fU_s, no]
        constructor
        · intro w; exact absurd w.2 (by simp)
        · intro w; exact absurd (Option.some.inj w.2).symm ec
      · rw [fU_n _ _ eg]
  · by_cases eg : g = f
    · subst eg
      rw [fU_s] at q
      have := Option.some.inj q
      subst this
      exact ha
    · rw [fU_n _ _ eg] at q
      exact i6 g c G q
  · intro c hc
    by_cases c1 : c = RA f
    · rw [c1, r', tSet_k]
    · by_cases c2 : c = a
      · rw [c2, e, tSet_k, a3]
      · rw [at' c hc c1 c2]
  · intro c hc
    by_cases c2 : c = a
    · rw [c2, e, tSet_v, if_neg (by omega), a3]
    · rw [at' c (by omega) (fun w => by rw [w] at hc; omega) c2]
end FACES
