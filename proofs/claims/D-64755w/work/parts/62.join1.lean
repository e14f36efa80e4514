set_option maxRecDepth 100000
theorem nJ_ext {E : gV} {T : tT} {ns : List Nat} {NX NY : Nat → Int} {LA : Nat → Nat} {LH LH' : Nat → List Nat} (n : nJ E T ns NX NY LA LH) (e : ∀ m, m ∈ ns → LH' m = LH m) : nJ E T ns NX NY LA LH' := by
  obtain ⟨a, b, c⟩ := n
  refine ⟨a, fun m hm => ?_, c⟩
  rw [e m hm]
  exact b m hm
theorem hD_of {S : mS} (g : kGd S) {T : tT} {HA ND : Nat → Nat} {NX NY : Nat → Int} {k : Nat} (L : kLv S k) (f1 : hF T HA ND k) (f2 : hF T HA ND (zB k))
    (n1 : (T.1 (ND k)).1 = 4 ∧ (T.1 (ND k)).2.2 0 = vI (NX (ND k)) ∧ (T.1 (ND k)).2.2 1 = vI (NY (ND k))) (e1 : NX (ND k) = kX S k ∧ NY (ND k) = kY S k)
    (n2 : (T.1 (ND (zB k))).1 = 4 ∧ (T.1 (ND (zB k))).2.2 0 = vI (NX (ND (zB k))) ∧ (T.1 (ND (zB k))).2.2 1 = vI (NY (ND (zB k)))) (e2 : NX (ND (zB k)) = kX S (zB k) ∧ NY (ND (zB k)) = kY S (zB k)) :
    hC T (HA k) (kX S k) (kY S k) (kX S (zB k)) (kY S (zB k)) ∧ hD T (HA k) (kdx S k) (kdy S k) := by
  have c : hC T (HA k) (kX S k) (kY S k) (kX S (zB k)) (kY S (zB k)) := by
    rw [e1.1, e1.2] at n1
    rw [e2.1, e2.2] at n2
    exact ⟨f1.1, ND k, HA (zB k), ND (zB k), ⟨f1.2.2.1, f1.2.2.2⟩, ⟨f2.1, f2.2.2.1⟩, ⟨n1.1, n2.1⟩, n1.2, n2.2⟩
  have b := kdx_b g L
  exact ⟨c, _, _, _, _, c, rfl, rfl, b.1, b.2⟩
/-- one half made: its object, its node, its place among the halves -/
theorem hs_one {E : gV} {T T2 : tT} {a m k : Nat} {x y : Int} {ns ns' : List Nat} {NX NY NX' NY' : Nat → Int} {LA LA' : Nat → Nat} {LH LH' : Nat → List Nat}
    (h7 : (T.1 (gBase E + 7)).1 = 34) (fa : (T.1 a).1 = 0 ∧ T.2 a = none) (p : nP E (tNew T a (3, gN 2, fun f => defaultValue (gTy 2 f))) T2 x y m ns NX NY LA LH ns' NX' NY' LA' LH') {T4 : tT}
    (e4 : T4 = tSet (tSet (tSet T2 a 0 (vI k)) a 1 (.ref m)) (gBase E + 7) k (.ref a)) :
    nJ E T4 ns' NX' NY' LA' LH' ∧ ((T4.1 a).1 = 3 ∧ (T4.1 a).2.2 0 = vI k ∧ (T4.1 a).2.2 1 = .ref m ∧ (T4.1 a).2.2 4 = .null) ∧ (∀ b, (T.1 b).1 ≠ 0 → b ≠ gBase E + 7 → T4.1 b = T.1 b) ∧
    ((T4.1 (gBase E + 7)).1 = 34 ∧ (T4.1 (gBase E + 7)).2.1 = (T.1 (gBase E + 7)).2.1 ∧ ∀ j, (T4.1 (gBase E + 7)).2.2 j = if j = k then .ref a else (T.1 (gBase E + 7)).2.2 j) ∧
    (∀ b, T.2 b ≠ none → b ≠ gBase E + 6 → T4.2 b = T.2 b) ∧ T4.2 = T2.2 := by
  obtain ⟨p1, p2, p3, p4, p5⟩ := p
  have a7 : a ≠ gBase E + 7 := by intro e; rw [e] at fa; omega
  have ka : T2.1 a = (3, gN 2, fun f => defaultValue (gTy 2 f)) := by rw [p5.1 a (by rw [tNew_self]; decide), tNew_self]
  have k7 : T2.1 (gBase E + 7) = T.1 (gBase E + 7) := by rw [p5.1 _ (by rw [tNew_ne _ _ (Ne.symm a7)]; omega), tNew_ne _ _ (Ne.symm a7)]
  have nm : ∀ i, i ∈ ns' → i ≠ a ∧ i ≠ gBase E + 7 := by
    intro i hi
    have q := (p1.2.1 i hi).1.1
    constructor
    · intro e; rw [e, ka] at q; exact absurd q (by decide)
    · intro e; rw [e, k7] at q; omega
  have at4 : ∀ b, b ≠ a → b ≠ gBase E + 7 → T4.1 b = T2.1 b := by
    intro b h1 h2
    rw [e4, tSet_at _ h2, tSet_at _ h1, tSet_at _ h1]
  have l4 : T4.2 = T2.2 := by rw [e4]; rfl
  refine ⟨nJ_keep p1 (fun i hi => at4 i (nm i hi).1 (nm i hi).2) (fun i _ => by rw [l4]) (by rw [l4]), ?_, ?_, ?_, ?_, l4⟩
  · have e : T4.1 a = (tSet (tSet T2 a 0 (vI k)) a 1 (.ref m)).1 a := by rw [e4, tSet_at _ a7]
    rw [e]
    refine ⟨by rw [tSet_k, tSet_k, ka], ?_, ?_, ?_⟩
    · rw [tSet_v, if_neg (by omega), tSet_v, if_pos ⟨rfl, rfl⟩]
    · rw [tSet_v, if_pos ⟨rfl, rfl⟩]
    · rw [tSet_v, if_neg (by omega), tSet_v, if_neg (by omega), ka]; rfl
  · intro b hb h7'
    have ba : b ≠ a := by intro e; rw [e] at hb; exact hb fa.1
    rw [at4 b ba h7', p5.1 b (by rw [tNew_ne _ _ ba]; exact hb), tNew_ne _ _ ba]
  · rw [e4]
    refine ⟨by rw [tSet_k, tSet_k, tSet_k, k7]; exact h7, by rw [tSet_n, tSet_n, tSet_n, k7], fun j => ?_⟩
    rw [tSet_v]
    by_cases e : j = k
    · rw [if_pos ⟨rfl, e⟩, if_pos e]
    · rw [if_neg (fun q => e q.2), if_neg e, tSet_v, if_neg (fun q => a7 q.1.symm), tSet_v, if_neg (fun q => a7 q.1.symm), k7]
  · intro b hb h6
    have := p5.2 b h6 (by exact hb)
    rw [l4, this]
    rfl
/-- the state when both halves of segment n have their objects and each other -/
def jM (E : gV) (S : mS) (T0 T9 : tT) (n : Nat) (HA ND : Nat → Nat) (ns : List Nat) (LN : Nat → List Nat) (HA' ND' : Nat → Nat) (ns' : List Nat) (NX' NY' : Nat → Int) (LA' : Nat → Nat) (LNa : Nat → List Nat) : Prop :=
  nJ E T9 ns' NX' NY' LA' (fun m => (LNa m).map HA') ∧
  (∀ k, kLv S k → k < 2 * (n + 1) → (hF T9 HA' ND' k ∧ (T9.1 (HA' k)).2.2 4 = .null) ∧ (ND' k ∈ ns' ∧ NX' (ND' k) = kX S k ∧ NY' (ND' k) = kY S k)) ∧
  (∀ k, k < 2 * n → HA' k = HA k ∧ ND' k = ND k) ∧
  (∀ i, i ∈ ns → i ∈ ns' ∧ LNa i = LN i) ∧
  (∀ i, i ∈ ns' → i ∉ ns → (i = ND' (2 * n) ∨ i = ND' (2 * n + 1)) ∧ LNa i = []) ∧
  (∀ k, k < 2 * (n + 1) → (T9.1 (gBase E + 7)).2.2 k = zI (kLv S k) (.ref (HA' k)) .null) ∧
  ns'.length = rk (kLv S) (kSp S) (2 * (n + 1)) ∧
  (∀ i, i ∈ ns' → T0.2 (LA' i) = none)
