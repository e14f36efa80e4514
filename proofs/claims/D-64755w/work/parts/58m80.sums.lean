/-! sums over the first n numbers -/
def zS : Nat → (Nat → Rat) → Rat
  | 0, _ => 0
  | n + 1, f => zS n f + f n
theorem zS_congr {n : Nat} {f g : Nat → Rat} (h : ∀ i, i < n → f i = g i) : zS n f = zS n g := by
  induction n with
  | zero => rfl
  | succ n ih => simp only [zS]; rw [ih (fun i hi => h i (by omega)), h n (by omega)]
theorem zS_zero (n : Nat) : zS n (fun _ => 0) = 0 := by
  induction n with
  | zero => rfl
  | succ n ih => simp only [zS]; rw [ih]; grind
theorem zS_zero' {n : Nat} {f : Nat → Rat} (h : ∀ i, i < n → f i = 0) : zS n f = 0 := (zS_congr h).trans (zS_zero n)
theorem zS_add (n : Nat) (f g : Nat → Rat) : zS n (fun i => f i + g i) = zS n f + zS n g := by
  induction n with
  | zero => simp only [zS]; grind
  | succ n ih => simp only [zS]; rw [ih]; grind
theorem zS_sub (n : Nat) (f g : Nat → Rat) : zS n (fun i => f i - g i) = zS n f - zS n g := by
  induction n with
  | zero => simp only [zS]; grind
  | succ n ih => simp only [zS]; rw [ih]; grind
theorem zS_mul (n : Nat) (c : Rat) (f : Nat → Rat) : zS n (fun i => c * f i) = c * zS n f := by
  induction n with
  | zero => simp only [zS]; grind
  | succ n ih => simp only [zS]; rw [ih]; grind
theorem zS_swap (n m : Nat) (f : Nat → Nat → Rat) : zS n (fun i => zS m (fun j => f i j)) = zS m (fun j => zS n (fun i => f i j)) := by
  induction n with
  | zero => simp only [zS]; rw [zS_zero]
  | succ n ih => simp only [zS]; rw [ih, zS_add]
theorem zS_nonneg {n : Nat} {f : Nat → Rat} (h : ∀ i, i < n → 0 ≤ f i) : 0 ≤ zS n f := by
  induction n with
  | zero => simp only [zS]; grind
  | succ n ih =>
    have h1 := ih (fun i hi => h i (by omega))
    have h2 := h n (by omega)
    simp only [zS]; grind
theorem zS_pos {n : Nat} {f : Nat → Rat} (h : ∀ i, i < n → 0 ≤ f i) (j : Nat) (hj : j < n) (hp : 0 < f j) : 0 < zS n f := by
  induction n with
  | zero => omega
  | succ n ih =>
    have h1 := zS_nonneg (fun i (hi : i < n) => h i (by omega))
    have h2 := h n (by omega)
    simp only [zS]
    by_cases e : j = n
    · subst e; grind
    · have := ih (fun i hi => h i (by omega)) (by omega); grind
theorem zS_one {n : Nat} {f : Nat → Rat} (j : Nat) (hj : j < n) (h : ∀ i, i < n → i ≠ j → f i = 0) : zS n f = f j := by
  induction n with
  | zero => omega
  | succ n ih =>
    simp only [zS]
    by_cases e : j = n
    · subst e; rw [zS_zero' (fun i hi => h i (by omega) (by omega))]; grind
    · rw [ih (by omega) (fun i hi => h i (by omega)), h n (by omega) (by omega)]; grind
theorem zS_two {n : Nat} {f : Nat → Rat} (j k : Nat) (hj : j < n) (hk : k < n) (hjk : j ≠ k) (h : ∀ i, i < n → i ≠ j → i ≠ k → f i = 0) : zS n f = f j + f k := by
  have h1 : zS n f = zS n (fun i => (if i = j then f j else 0) + (if i = k then f k else 0)) := by
    refine zS_congr fun i hi => ?_
    by_cases e : i = j
    · subst e; rw [if_pos rfl, if_neg hjk]; grind
    · by_cases e2 : i = k
      · subst e2; rw [if_pos rfl, if_neg e]; grind
      · rw [if_neg e, if_neg e2, h i hi e e2]; grind
  rw [h1, zS_add, zS_one j hj (fun i _ hij => if_neg hij), zS_one k hk (fun i _ hij => if_neg hij), if_pos rfl, if_pos rfl]
theorem zS_all_zero {n : Nat} {f : Nat → Rat} (h : ∀ i, i < n → 0 ≤ f i) (hs : zS n f = 0) (j : Nat) (hj : j < n) : f j = 0 := by
  have h1 := h j hj
  by_cases e : 0 < f j
  · have := zS_pos h j hj e; grind
  · grind
theorem zS_le {n : Nat} {f g : Nat → Rat} (h : ∀ i, i < n → f i ≤ g i) : zS n f ≤ zS n g := by
  have h1 := zS_nonneg (f := fun i => g i - f i) (fun i hi => by have := h i hi; grind)
  rw [zS_sub] at h1; grind
/-- a map of a finite set into itself that is one to one meets each once -/
theorem zS_bij {n : Nat} (L : Nat → Bool) (nx : Nat → Nat) (h1 : ∀ i, i < n → L i = true → nx i < n ∧ L (nx i) = true) (h2 : ∀ i j, i < n → j < n → L i = true → L j = true → nx i = nx j → i = j) (k : Nat) (hk : k < n) (hL : L k = true) :
    zS n (fun i => if L i = true ∧ nx i = k then 1 else 0) = 1 := by
  have cnt : ∀ g, g < n → zS n (fun i => if L i = true ∧ nx i = g then 1 else 0) ≤ 1 := by
    intro g hg
    by_cases e : ∃ i, i < n ∧ L i = true ∧ nx i = g
    · obtain ⟨i, hi, hl, hx⟩ := e
      rw [zS_one i hi (fun j hj hji => if_neg fun ⟨a, b⟩ => hji (h2 j i hj hi a hl (b.trans hx.symm))), if_pos ⟨hl, hx⟩]; grind
    · rw [zS_zero' (fun i hi => if_neg fun ⟨a, b⟩ => e ⟨i, hi, a, b⟩)]; grind
  have cnt0 : ∀ g, g < n → L g = false → zS n (fun i => if L i = true ∧ nx i = g then (1 : Rat) else 0) = 0 := by
    intro g hg hgL
    exact zS_zero' (fun i hi => if_neg fun ⟨a, b⟩ => by have := (h1 i hi a).2; rw [b, hgL] at this; cases this)
  have tot : zS n (fun g => zS n (fun i => if L i = true ∧ nx i = g then (1 : Rat) else 0)) = zS n (fun i => if L i = true then 1 else 0) := by
    rw [zS_swap]
    refine zS_congr fun i hi => ?_
    by_cases e : L i = true
    · rw [if_pos e, zS_one (nx i) (h1 i hi e).1 (fun j _ hj => if_neg fun q => hj q.2.symm), if_pos ⟨e, rfl⟩]
    · rw [if_neg e, zS_zero' (fun j _ => if_neg fun q => e q.1)]
  have key := zS_all_zero (n := n) (f := fun g => (if L g = true then 1 else 0) - zS n (fun i => if L i = true ∧ nx i = g then (1 : Rat) else 0)) (fun g hg => by
    by_cases e : L g = true
    · have := cnt g hg; rw [if_pos e]; grind
    · have := cnt0 g hg (by simpa using e); rw [if_neg e, this]; grind) (by rw [zS_sub, tot]; grind) k hk
  simp only [hL, if_true] at key
  grind
/-- so what is summed along it is the same -/
theorem zS_re {n : Nat} (L : Nat → Bool) (nx : Nat → Nat) (h1 : ∀ i, i < n → L i = true → nx i < n ∧ L (nx i) = true) (h2 : ∀ i j, i < n → j < n → L i = true → L j = true → nx i = nx j → i = j) (F : Nat → Rat) :
    zS n (fun i => if L i = true then F (nx i) else 0) = zS n (fun i => if L i = true then F i else 0) := by
  have e1 : zS n (fun i => if L i = true then F (nx i) else 0) = zS n (fun i => zS n (fun g => F g * (if L i = true ∧ nx i = g then 1 else 0))) := by
    refine zS_congr fun i hi => ?_
    by_cases e : L i = true
    · rw [if_pos e, zS_one (nx i) (h1 i hi e).1 (fun j _ hj => by rw [if_neg fun q => hj q.2.symm]; grind), if_pos ⟨e, rfl⟩]; grind
    · rw [if_neg e, zS_zero' (fun j _ => by rw [if_neg fun q => e q.1]; grind)]
  rw [e1, zS_swap]
  refine zS_congr fun g hg => ?_
  rw [zS_mul]
  by_cases e : L g = true
  · rw [if_pos e, zS_bij L nx h1 h2 g hg e]; grind
  · rw [if_neg e, zS_zero' (fun i hi => if_neg fun ⟨a, b⟩ => e (by rw [← b]; exact (h1 i hi a).2))]; grind
/-! summing by parts -/
theorem z_min {n : Nat} (A : Nat → Bool) (M : Nat → Rat) (j : Nat) (hj : j < n) (hA : A j = true) : ∃ i, i < n ∧ A i = true ∧ ∀ k, k < n → A k = true → M i ≤ M k := by
  induction n generalizing j with
  | zero => omega
  | succ n ih =>
    by_cases h : ∃ k, k < n ∧ A k = true
    · obtain ⟨k, hk, hAk⟩ := h
      obtain ⟨i, hi, hAi, hm⟩ := ih k hk hAk
      by_cases h2 : A n = true ∧ M n < M i
      · refine ⟨n, by omega, h2.1, fun k hk hA => ?_⟩
        by_cases e : k = n
        · subst e; grind
        · have := hm k (by omega) hA; grind
      · refine ⟨i, by omega, hAi, fun k hk hA => ?_⟩
        by_cases e : k = n
        · subst e; grind
        · exact hm k (by omega) hA
    · have e : j = n := by
        by_cases e : j = n
        · exact e
        · exact absurd ⟨j, by omega, hA⟩ h
      subst e
      refine ⟨j, by omega, hA, fun k hk hA => ?_⟩
      by_cases e : k = j
      · subst e; grind
      · exact absurd ⟨k, by omega, hA⟩ h
/-- the weights at or above each height are not below 0 in sum: so is the sum of the heights -/
theorem z_abel (n N : Nat) (w M : Nat → Rat) : ∀ (A : Nat → Bool), zC n A ≤ N →
    (∀ μ : Rat, 0 ≤ zS n (fun i => if A i = true ∧ μ ≤ M i then w i else 0)) → (∀ μ : Rat, 0 ≤ zS n (fun i => if A i = true ∧ μ < M i then w i else 0)) →
    ∀ μ0 : Rat, (∀ i, i < n → A i = true → μ0 < M i) → 0 ≤ zS n (fun i => if A i = true then w i * (M i - μ0) else 0) ∧
      ((∃ μ : Rat, 0 < zS n (fun i => if A i = true ∧ μ ≤ M i then w i else 0)) → 0 < zS n (fun i => if A i = true then w i * (M i - μ0) else 0)) := by
  induction N with
  | zero =>
    intro A hN h1 h2 μ0 hm
    have hA : ∀ i, i < n → A i = false := by
      intro i hi
      by_cases e : A i = true
      · have := zC_lt (A := fun _ => false) (B := A) (n := n) (fun i _ h => by cases h) i hi rfl e
        omega
      · simpa using e
    have z1 : zS n (fun i => if A i = true then w i * (M i - μ0) else 0) = 0 := zS_zero' (fun i hi => by rw [hA i hi]; simp)
    refine ⟨by rw [z1]; grind, ?_⟩
    intro ⟨μ, hp⟩
    rw [zS_zero' (fun i hi => by rw [hA i hi]; simp)] at hp
    grind
  | succ N ih =>
    intro A hN h1 h2 μ0 hm
    by_cases e : ∃ j, j < n ∧ A j = true
    · obtain ⟨j, hj, hAj⟩ := e
      obtain ⟨i, hi, hAi, hmin⟩ := z_min A M j hj hAj
      let A' : Nat → Bool := fun k => A k && decide (M i < M k)
      have hA' : ∀ k, A' k = true ↔ A k = true ∧ M i < M k := by intro k; simp [A']
      have hc : zC n A' ≤ N := by
        have := zC_lt (A := A') (B := A) (n := n) (fun k _ h => ((hA' k).mp h).1) i hi (by
          have : ¬ A' i = true := by rw [hA']; grind
          simpa using this) hAi
        omega
      have q1 : ∀ μ : Rat, M i < μ → zS n (fun k => if A' k = true ∧ μ ≤ M k then w k else 0) = zS n (fun k => if A k = true ∧ μ ≤ M k then w k else 0) := by
        intro μ hμ
        refine zS_congr fun k _ => ?_
        by_cases c : A k = true ∧ μ ≤ M k
        · rw [if_pos c, if_pos ⟨(hA' k).mpr ⟨c.1, by grind⟩, c.2⟩]
        · rw [if_neg c, if_neg fun q => c ⟨((hA' k).mp q.1).1, q.2⟩]
      have q2 : ∀ μ : Rat, μ ≤ M i → zS n (fun k => if A' k = true ∧ μ ≤ M k then w k else 0) = zS n (fun k => if A k = true ∧ M i < M k then w k else 0) := by
        intro μ hμ
        refine zS_congr fun k _ => ?_
        by_cases c : A k = true ∧ M i < M k
        · rw [if_pos c, if_pos ⟨(hA' k).mpr c, by grind⟩]
        · rw [if_neg c, if_neg fun q => c ((hA' k).mp q.1)]
      have q3 : ∀ μ : Rat, M i ≤ μ → zS n (fun k => if A' k = true ∧ μ < M k then w k else 0) = zS n (fun k => if A k = true ∧ μ < M k then w k else 0) := by
        intro μ hμ
        refine zS_congr fun k _ => ?_
        by_cases c : A k = true ∧ μ < M k
        · rw [if_pos c, if_pos ⟨(hA' k).mpr ⟨c.1, by grind⟩, c.2⟩]
        · rw [if_neg c, if_neg fun q => c ⟨((hA' k).mp q.1).1, q.2⟩]
      have q4 : ∀ μ : Rat, μ < M i → zS n (fun k => if A' k = true ∧ μ < M k then w k else 0) = zS n (fun k => if A k = true ∧ M i < M k then w k else 0) := by
        intro μ hμ
        refine zS_congr fun k _ => ?_
        by_cases c : A k = true ∧ M i < M k
        · rw [if_pos c, if_pos ⟨(hA' k).mpr c, by grind⟩]
        · rw [if_neg c, if_neg fun q => c ((hA' k).mp q.1)]
      have hih := ih A' hc (fun μ => by
          by_cases c : M i < μ
          · rw [q1 μ c]; exact h1 μ
          · rw [q2 μ (by grind)]; exact h2 _) (fun μ => by
          by_cases c : M i ≤ μ
          · rw [q3 μ c]; exact h2 μ
          · rw [q4 μ (by grind)]; exact h2 _) (M i) (fun k _ h => ((hA' k).mp h).2)
      have hsplit : zS n (fun k => if A k = true then w k * (M k - μ0) else 0) = zS n (fun k => if A' k = true then w k * (M k - M i) else 0) + (M i - μ0) * zS n (fun k => if A k = true ∧ M i ≤ M k then w k else 0) := by
        rw [← zS_mul, ← zS_add]
        refine zS_congr fun k hk => ?_
        by_cases c : A k = true
        · have := hmin k hk c
          rw [if_pos c, if_pos (c := A k = true ∧ M i ≤ M k) ⟨c, this⟩]
          by_cases c2 : M i < M k
          · rw [if_pos ((hA' k).mpr ⟨c, c2⟩)]; grind
          · rw [if_neg fun q => c2 ((hA' k).mp q).2]
            have : M k = M i := by grind
            rw [this]; grind
        · rw [if_neg c, if_neg (c := A' k = true) (fun q => c ((hA' k).mp q).1), if_neg (c := A k = true ∧ M i ≤ M k) (fun q => c q.1)]; grind
      have hg : 0 < M i - μ0 := by have := hm i hi hAi; grind
      have hs := h1 (M i)
      rw [hsplit]
      refine ⟨?_, ?_⟩
      · have := Rat.mul_nonneg (Rat.le_of_lt hg) hs
        have := hih.1
        grind
      · intro ⟨μ, hp⟩
        by_cases c : M i < μ
        · have h3 := hih.2 ⟨μ, by rw [q1 μ c]; exact hp⟩
          have := Rat.mul_nonneg (Rat.le_of_lt hg) hs
          grind
        · have e1 : zS n (fun k => if A k = true ∧ μ ≤ M k then w k else 0) = zS n (fun k => if A k = true ∧ M i ≤ M k then w k else 0) := by
            refine zS_congr fun k hk => ?_
            by_cases c1 : A k = true
            · have := hmin k hk c1
              rw [if_pos ⟨c1, by grind⟩, if_pos ⟨c1, this⟩]
            · rw [if_neg fun q => c1 q.1, if_neg fun q => c1 q.1]
          rw [e1] at hp
          have := Rat.mul_pos hg hp
          have := hih.1
          grind
    · have hA : ∀ i, i < n → A i = false := by
        intro i hi
        by_cases c : A i = true
        · exact absurd ⟨i, hi, c⟩ e
        · simpa using c
      have z1 : zS n (fun i => if A i = true then w i * (M i - μ0) else 0) = 0 := zS_zero' (fun i hi => by rw [hA i hi]; simp)
      refine ⟨by rw [z1]; grind, ?_⟩
      intro ⟨μ, hp⟩
      rw [zS_zero' (fun i hi => by rw [hA i hi]; simp)] at hp
      grind
/-- a sum over a stretch of whole numbers, each a step of G -/
theorem z_steps (n : Nat) (B a b : Int) (G : Int → Rat) (ha : -B ≤ a) (hab : a ≤ b) (hb : b ≤ (n : Int) - B) :
    zS n (fun j => if a ≤ (j : Int) - B ∧ (j : Int) - B < b then G ((j : Int) - B + 1) - G ((j : Int) - B) else 0) = G b - G a := by
  have key : ∀ m : Nat, zS m (fun j => if a ≤ (j : Int) - B ∧ (j : Int) - B < b then G ((j : Int) - B + 1) - G ((j : Int) - B) else 0) = G (max a (min b ((m : Int) - B))) - G a := by
    intro m
    induction m with
    | zero =>
      simp only [zS]
      have : max a (min b (((0 : Nat) : Int) - B)) = a := by omega
      rw [this]; grind
    | succ m ih =>
      simp only [zS]
      rw [ih]
      by_cases c : a ≤ (m : Int) - B ∧ (m : Int) - B < b
      · rw [if_pos c]
        have e1 : max a (min b ((m : Int) - B)) = (m : Int) - B := by omega
        have e2 : max a (min b (((m + 1 : Nat) : Int) - B)) = (m : Int) - B + 1 := by omega
        rw [e1, e2]; grind
      · rw [if_neg c]
        have e1 : max a (min b ((m : Int) - B)) = max a (min b (((m + 1 : Nat) : Int) - B)) := by omega
        rw [e1]; grind
  rw [key n]
  have : max a (min b ((n : Int) - B)) = b := by omega
  rw [this]
