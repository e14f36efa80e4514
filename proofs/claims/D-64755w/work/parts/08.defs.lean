/-! a plan: which segments are there, and where halves begin (half 2 s, 2 s + 1: segment s from either end) -/
abbrev zP : Type := (Nat → Bool) × (Nat → Int) × (Nat → Int)
def zB (h : Nat) : Nat := if h % 2 = 0 then h + 1 else h - 1
def zL (P : zP) (h : Nat) : Bool := decide (h < 120) && P.1 (h / 2)
/-- the side of half h on which a place is: above 0 to its left -/
def zO (P : zP) (h : Nat) (x y : Int) : Int := (P.2.1 (zB h) - P.2.1 h) * (y - P.2.2 h) - (P.2.2 (zB h) - P.2.2 h) * (x - P.2.1 h)
def zEnd (P : zP) (h : Nat) (x y : Int) : Prop := (P.2.1 h = x ∧ P.2.2 h = y) ∨ (P.2.1 (zB h) = x ∧ P.2.2 (zB h) = y)
def zOn (P : zP) (h : Nat) (x y : Int) : Prop := zO P h x y = 0 ∧ (min (P.2.1 h) (P.2.1 (zB h)) ≤ x ∧ x ≤ max (P.2.1 h) (P.2.1 (zB h))) ∧ (min (P.2.2 h) (P.2.2 (zB h)) ≤ y ∧ y ≤ max (P.2.2 h) (P.2.2 (zB h)))
/-- two segments have something in common but an end of both -/
def zMeet (P : zP) (g h : Nat) : Prop :=
  (zOn P g (P.2.1 h) (P.2.2 h) ∧ ¬ zEnd P g (P.2.1 h) (P.2.2 h)) ∨ (zOn P g (P.2.1 (zB h)) (P.2.2 (zB h)) ∧ ¬ zEnd P g (P.2.1 (zB h)) (P.2.2 (zB h))) ∨
  (zOn P h (P.2.1 g) (P.2.2 g) ∧ ¬ zEnd P h (P.2.1 g) (P.2.2 g)) ∨ (zOn P h (P.2.1 (zB g)) (P.2.2 (zB g)) ∧ ¬ zEnd P h (P.2.1 (zB g)) (P.2.2 (zB g))) ∨
  (zEnd P g (P.2.1 h) (P.2.2 h) ∧ zEnd P g (P.2.1 (zB h)) (P.2.2 (zB h))) ∨
  (zO P g (P.2.1 h) (P.2.2 h) * zO P g (P.2.1 (zB h)) (P.2.2 (zB h)) < 0 ∧ zO P h (P.2.1 g) (P.2.2 g) * zO P h (P.2.1 (zB g)) (P.2.2 (zB g)) < 0)
/-- what holds of every plan that the class holds -/
def zOK (P : zP) : Prop :=
  (∀ h, zL P h = true → (-16000 ≤ P.2.1 h ∧ P.2.1 h ≤ 16000) ∧ (-16000 ≤ P.2.2 h ∧ P.2.2 h ≤ 16000)) ∧
  (∀ h, zL P h = true → ¬ (P.2.1 h = P.2.1 (zB h) ∧ P.2.2 h = P.2.2 (zB h))) ∧
  (∀ g h, zL P g = true → zL P h = true → g % 2 = 0 → h % 2 = 0 → g ≠ h → ¬ zMeet P g h)
theorem zB_B (h : Nat) : zB (zB h) = h := by unfold zB; split <;> split <;> omega
theorem zB_lt {h : Nat} (H : h < 120) : zB h < 120 := by unfold zB; split <;> omega
theorem zB_half (h : Nat) : zB h / 2 = h / 2 := by unfold zB; split <;> omega
theorem zB_ne (h : Nat) : zB h ≠ h := by unfold zB; split <;> omega
theorem zB_of {g h : Nat} (e : g / 2 = h / 2) : g = h ∨ g = zB h := by unfold zB; split <;> omega
theorem zB_inj {g h : Nat} (e : zB g = zB h) : g = h := by rw [← zB_B g, e, zB_B]
theorem zL_lt {P : zP} {h : Nat} (H : zL P h = true) : h < 120 := by simp [zL] at H; exact H.1
theorem zL_B (P : zP) (h : Nat) : zL P (zB h) = zL P h := by
  unfold zL
  rw [zB_half]
  have : decide (zB h < 120) = decide (h < 120) := by
    unfold zB
    split <;> simp <;> omega
  rw [this]
/-- 1 if it holds, else 0 -/
noncomputable def bI (p : Prop) : Int := @ite Int p (Classical.propDecidable p) 1 0
theorem bI_pos {p : Prop} (h : p) : bI p = 1 := @if_pos p (Classical.propDecidable p) h Int 1 0
theorem bI_neg {p : Prop} (h : ¬ p) : bI p = 0 := @if_neg p (Classical.propDecidable p) h Int 1 0
theorem bI_01 (p : Prop) : bI p = 0 ∨ bI p = 1 := by
  by_cases h : p
  · exact Or.inr (bI_pos h)
  · exact Or.inl (bI_neg h)
theorem bI_one {p : Prop} : bI p = 1 ↔ p := by
  constructor
  · intro e
    by_cases h : p
    · exact h
    · rw [bI_neg h] at e; omega
  · exact bI_pos
theorem bI_zero {p : Prop} : bI p = 0 ↔ ¬ p := by
  constructor
  · intro e h
    rw [bI_pos h] at e; omega
  · exact bI_neg
theorem bI_congr {p q : Prop} (h : p ↔ q) : bI p = bI q := by
  by_cases c : p
  · rw [bI_pos c, bI_pos (h.mp c)]
  · rw [bI_neg c, bI_neg (fun x => c (h.mpr x))]
theorem mul_b {a b : Int} (ha : -32000 ≤ a ∧ a ≤ 32000) (hb : -32000 ≤ b ∧ b ≤ 32000) : -1024000000 ≤ a * b ∧ a * b ≤ 1024000000 := by
  have h1 := Int.mul_nonneg (show 0 ≤ 32000 - a by omega) (show 0 ≤ 32000 - b by omega)
  have h2 := Int.mul_nonneg (show 0 ≤ 32000 + a by omega) (show 0 ≤ 32000 + b by omega)
  have h3 := Int.mul_nonneg (show 0 ≤ 32000 - a by omega) (show 0 ≤ 32000 + b by omega)
  have h4 := Int.mul_nonneg (show 0 ≤ 32000 + a by omega) (show 0 ≤ 32000 - b by omega)
  constructor <;> grind
/-- twice the area of a triangle, signed -/
def zc (ax ay bx yb cx cy : Int) : Int := (bx - ax) * (cy - ay) - (yb - ay) * (cx - ax)
theorem zc_b {ax ay bx yb cx cy : Int} (h1 : -16000 ≤ ax ∧ ax ≤ 16000) (h2 : -16000 ≤ ay ∧ ay ≤ 16000) (h3 : -16000 ≤ bx ∧ bx ≤ 16000) (h4 : -16000 ≤ yb ∧ yb ≤ 16000) (h5 : -16000 ≤ cx ∧ cx ≤ 16000) (h6 : -16000 ≤ cy ∧ cy ≤ 16000) : -2048000000 ≤ zc ax ay bx yb cx cy ∧ zc ax ay bx yb cx cy ≤ 2048000000 := by
  have m1 := mul_b (a := bx - ax) (b := cy - ay) (by omega) (by omega)
  have m2 := mul_b (a := yb - ay) (b := cx - ax) (by omega) (by omega)
  unfold zc
  omega
def zon (ax ay bx yb x y : Int) : Prop := zc ax ay bx yb x y = 0 ∧ (min ax bx ≤ x ∧ x ≤ max ax bx) ∧ (min ay yb ≤ y ∧ y ≤ max ay yb)
/-! counting -/
def zC : Nat → (Nat → Bool) → Nat
  | 0, _ => 0
  | n + 1, A => zC n A + (if A n = true then 1 else 0)
theorem zC_le {n : Nat} {A B : Nat → Bool} (h : ∀ i, i < n → A i = true → B i = true) : zC n A ≤ zC n B := by
  induction n with
  | zero => simp [zC]
  | succ n ih =>
    simp only [zC]
    have h1 := ih (fun i hi => h i (by omega))
    have h2 := h n (by omega)
    by_cases e : A n = true
    · rw [if_pos e, if_pos (h2 e)]; omega
    · rw [if_neg e]; omega
theorem zC_lt {n : Nat} {A B : Nat → Bool} (h : ∀ i, i < n → A i = true → B i = true) (j : Nat) (hj : j < n) (hA : A j = false) (hB : B j = true) : zC n A < zC n B := by
  induction n with
  | zero => omega
  | succ n ih =>
    simp only [zC]
    have h1 := zC_le (fun i (hi : i < n) => h i (by omega))
    have h2 := h n (by omega)
    by_cases e : j = n
    · subst e; simp [hA, hB]; omega
    · have := ih (fun i hi => h i (by omega)) (by omega)
      by_cases e : A n = true
      · rw [if_pos e, if_pos (h2 e)]; omega
      · rw [if_neg e]; omega
theorem zC_bound (n : Nat) (A : Nat → Bool) : zC n A ≤ n := by
  induction n with
  | zero => simp [zC]
  | succ n ih => simp only [zC]; split <;> omega
/-- what hangs together -/
def zSame (P : zP) (h g : Nat) : Prop := ∀ S : Nat → Prop, S h → (∀ a, zL P a = true → S a → S (zB a)) → (∀ a b, zL P a = true → zL P b = true → P.2.1 a = P.2.1 b → P.2.2 a = P.2.2 b → S a → S b) → S g
noncomputable def zD (p : Prop) : Bool := @decide p (Classical.propDecidable p)
theorem zD_iff (p : Prop) : zD p = true ↔ p := @decide_eq_true_iff p (Classical.propDecidable p)
theorem zD_not (p : Prop) : zD p = false ↔ ¬ p := @decide_eq_false_iff_not p (Classical.propDecidable p)
/-- one of two, by what holds -/
noncomputable def zI {α : Type} (p : Prop) (a b : α) : α := @ite α p (Classical.propDecidable p) a b
theorem zI_pos {α : Type} {p : Prop} (h : p) (a b : α) : zI p a b = a := @if_pos p (Classical.propDecidable p) h α a b
theorem zI_neg {α : Type} {p : Prop} (h : ¬ p) (a b : α) : zI p a b = b := @if_neg p (Classical.propDecidable p) h α a b
/-! numbering by least members -/
def fst (L : Nat → Prop) (R : Nat → Nat → Prop) (f : Nat) : Prop := L f ∧ ∀ g, g < f → L g → ¬ R g f
noncomputable def rk (L : Nat → Prop) (R : Nat → Nat → Prop) (n : Nat) : Nat := zC n (fun g => zD (fst L R g))
theorem rk_pos {L : Nat → Prop} {R : Nat → Nat → Prop} {n : Nat} (h : fst L R n) : rk L R (n + 1) = rk L R n + 1 := by
  show zC n _ + (if zD (fst L R n) = true then 1 else 0) = zC n _ + 1
  rw [if_pos ((zD_iff _).mpr h)]
theorem rk_neg {L : Nat → Prop} {R : Nat → Nat → Prop} {n : Nat} (h : ¬ fst L R n) : rk L R (n + 1) = rk L R n := by
  show zC n _ + (if zD (fst L R n) = true then 1 else 0) = zC n _
  rw [if_neg (fun q => h ((zD_iff _).mp q))]
  rfl
theorem rk_le {L : Nat → Prop} {R : Nat → Nat → Prop} {a b : Nat} (h : a ≤ b) : rk L R a ≤ rk L R b := by
  induction b with
  | zero => have : a = 0 := by omega
            subst this; exact Nat.le_refl _
  | succ b ih =>
    by_cases e : a = b + 1
    · subst e; exact Nat.le_refl _
    · have := ih (by omega)
      by_cases q : fst L R b
      · rw [rk_pos q]; omega
      · rw [rk_neg q]; exact this
theorem rk_lt {L : Nat → Prop} {R : Nat → Nat → Prop} {a b : Nat} (h : a < b) (q : fst L R a) : rk L R a < rk L R b := by
  have := rk_le (L := L) (R := R) (show a + 1 ≤ b by omega)
  rw [rk_pos q] at this
  omega
theorem rk_n {L : Nat → Prop} {R : Nat → Nat → Prop} (n : Nat) : rk L R n ≤ n := zC_bound _ _
theorem rk_inj {L : Nat → Prop} {R : Nat → Nat → Prop} {a b : Nat} (ha : fst L R a) (hb : fst L R b) (e : rk L R a = rk L R b) : a = b := by
  rcases Nat.lt_trichotomy a b with h | h | h
  · have := rk_lt h ha; omega
  · exact h
  · have := rk_lt h hb; omega
/-- each has a least one of its kind -/
theorem fst_ex {L : Nat → Prop} {R : Nat → Nat → Prop} (rf : ∀ a, L a → R a a) (tr : ∀ a b c, R a b → R b c → R a c) : ∀ k, L k → ∃ f, f ≤ k ∧ fst L R f ∧ R f k := by
  intro k
  induction k using Nat.strongRecOn with
  | ind k ih =>
    intro hk
    by_cases q : ∃ g, g < k ∧ L g ∧ R g k
    · obtain ⟨g, g1, g2, g3⟩ := q
      obtain ⟨f, f1, f2, f3⟩ := ih g g1 g2
      exact ⟨f, by omega, f2, tr f g k f3 g3⟩
    · exact ⟨k, Nat.le_refl _, ⟨hk, fun g g1 g2 g3 => q ⟨g, g1, g2, g3⟩⟩, rf k hk⟩
theorem fst_one {L : Nat → Prop} {R : Nat → Nat → Prop} (sy : ∀ a b, R a b → R b a) (tr : ∀ a b c, R a b → R b c → R a c) {a b k : Nat} (ha : fst L R a) (hb : fst L R b) (h1 : R a k) (h2 : R b k) : a = b := by
  rcases Nat.lt_trichotomy a b with h | h | h
  · exact absurd (tr a k b h1 (sy b k h2)) (hb.2 a h ha.1)
  · exact h
  · exact absurd (tr b k a h2 (sy a k h1)) (ha.2 b h hb.1)
/-- labels by rank -/
def lab (L : Nat → Prop) (R : Nat → Nat → Prop) (lb : Nat → Int) : Prop := ∀ k, L k → ∃ f, fst L R f ∧ R f k ∧ lb k = rk L R f
theorem lab_one {L : Nat → Prop} {R : Nat → Nat → Prop} (sy : ∀ a b, R a b → R b a) (tr : ∀ a b c, R a b → R b c → R a c) {l1 l2 : Nat → Int} (h1 : lab L R l1) (h2 : lab L R l2) {k : Nat} (hk : L k) : l1 k = l2 k := by
  obtain ⟨f, a1, a2, a3⟩ := h1 k hk
  obtain ⟨g, b1, b2, b3⟩ := h2 k hk
  have := fst_one sy tr a1 b1 a2 b2
  subst this
  rw [a3, b3]
theorem lab_eq {L : Nat → Prop} {R : Nat → Nat → Prop} (sy : ∀ a b, R a b → R b a) (tr : ∀ a b c, R a b → R b c → R a c) {lb : Nat → Int} (h1 : lab L R lb) {j k : Nat} (hj : L j) (hk : L k) : lb j = lb k ↔ R j k := by
  obtain ⟨f, a1, a2, a3⟩ := h1 j hj
  obtain ⟨g, b1, b2, b3⟩ := h1 k hk
  constructor
  · intro e
    have : f = g := rk_inj a1 b1 (by omega)
    subst this
    exact tr _ _ _ (sy _ _ a2) b2
  · intro r
    have := fst_one sy tr a1 b1 (tr _ _ _ a2 r) b2
    subst this
    rw [a3, b3]
theorem zSame_rf (P : zP) (h : Nat) : zSame P h h := fun _ a _ _ => a
theorem zSame_tr {P : zP} {a b c : Nat} (h1 : zSame P a b) (h2 : zSame P b c) : zSame P a c := fun S s0 s1 s2 => h2 S (h1 S s0 s1 s2) s1 s2
theorem zSame_tw {P : zP} {a : Nat} (A : zL P a = true) : zSame P a (zB a) := fun _ s0 s1 _ => s1 a A s0
theorem zSame_at {P : zP} {a b : Nat} (A : zL P a = true) (B : zL P b = true) (e1 : P.2.1 a = P.2.1 b) (e2 : P.2.2 a = P.2.2 b) : zSame P a b := fun _ s0 _ s2 => s2 a b A B e1 e2 s0
theorem zSame_sy {P : zP} {a b : Nat} (h : zSame P a b) : zSame P b a := by
  refine h (fun x => zSame P x a) (zSame_rf P a) ?_ ?_
  · intro x X s
    have := zSame_tw (P := P) (a := zB x) (by rw [zL_B]; exact X)
    rw [zB_B] at this
    exact zSame_tr this s
  · intro x y X Y e1 e2 s
    exact zSame_tr (zSame_at Y X e1.symm e2.symm) s
