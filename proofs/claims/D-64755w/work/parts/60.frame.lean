set_option maxRecDepth 100000
/-! what a method of the class may change: objects of its own, and what X says -/
def tKd (k : Nat) : Prop := k = 1 ∨ k = 2 ∨ 30 ≤ k
def tK (X : Nat → Prop) (T T' : tT) : Prop := ∀ b, tKd (T.1 b).1 → ¬ X b → T'.1 b = T.1 b
def xN : Nat → Prop := fun _ => False
theorem tK_rf (X : Nat → Prop) (T : tT) : tK X T T := fun _ _ _ => rfl
theorem tK_tr {X : Nat → Prop} {T T' T'' : tT} (h1 : tK X T T') (h2 : tK X T' T'') : tK X T T'' := fun b k n => by
  have e := h1 b k n
  rw [h2 b (by rw [e]; exact k) n, e]
theorem tK_up {X Y : Nat → Prop} {T T' : tT} (h : tK X T T') (s : ∀ b, X b → Y b) : tK Y T T' := fun b k n => h b k (fun q => n (s b q))
theorem tSet_at (T : tT) {a f : Nat} {v : Value} {b : Nat} (e : b ≠ a) : (tSet T a f v).1 b = T.1 b := by
  unfold tSet va_up; simp [e]
theorem tK_set {X : Nat → Prop} {T : tT} {a f : Nat} {v : Value} (h : ¬ tKd (T.1 a).1 ∨ X a) : tK X T (tSet T a f v) := fun b k n => tSet_at T (fun e => by
  subst e
  rcases h with h | h
  · exact h k
  · exact n h)
theorem tK_new {X : Nat → Prop} {T : tT} {a : Nat} {q : gE} (h : (T.1 a).1 = 0) : tK X T (tNew T a q) := fun b k _ => tNew_ne T q (fun e => by
  subst e
  unfold tKd at k
  omega)
theorem tK_ls (X : Nat → Prop) (T : tT) (a : Nat) (xs : List Nat) : tK X T (tLs T a xs) := fun _ _ _ => rfl
theorem tK_x {X : Nat → Prop} {T T' : tT} (h : tX T T') : tK X T T' := fun b k _ => h.2 b (by unfold tKd at k; omega)
theorem tK_y {E : gV} {X : Nat → Prop} {T T' : tT} (h : tY E T T') : tK X T T' := fun b k _ => h.1 b (by unfold tKd at k; omega)
theorem tKd_o {k : Nat} (h : 3 ≤ k ∧ k ≤ 29) : ¬ tKd k := by unfold tKd; omega
/-- the class' own numbers are kept if its object and arrays are -/
theorem zK_cong {E : gV} {T T' : tT} {S : mS} (z : zK E T S) (h : tK xN T T') : zK E T' S := by
  obtain ⟨z1, z2, z3, z4⟩ := z
  have e0 := h (gBase E) (by unfold tKd; omega) (fun q => q)
  refine ⟨by rw [e0]; exact z1, fun f hf => by rw [e0]; exact z2 f hf, fun f hf => ?_, ?_⟩
  · have q := z3 f hf
    have ea := h (gBase E + kAd f) (by have := kKd_or f; unfold tKd; omega) (fun q => q)
    rw [e0, ea]
    exact q
  · unfold kO at *
    have e7 := h (gBase E + 7) (by unfold tKd; omega) (fun q => q)
    have e11 := h (gBase E + 11) (by unfold tKd; omega) (fun q => q)
    rw [e0, e7, e11]
    exact z4
theorem zK_cong7 {E : gV} {T T' : tT} {S : mS} (z : zK E T S) (h : tK (fun b => b = gBase E + 7) T T') (h7 : (T'.1 (gBase E + 7)).1 = (T.1 (gBase E + 7)).1 ∧ (T'.1 (gBase E + 7)).2.1 = (T.1 (gBase E + 7)).2.1) : zK E T' S := by
  obtain ⟨z1, z2, z3, z4⟩ := z
  have e0 := h (gBase E) (by unfold tKd; omega) (by omega)
  refine ⟨by rw [e0]; exact z1, fun f hf => by rw [e0]; exact z2 f hf, fun f hf => ?_, ?_⟩
  · have q := z3 f hf
    have kl := kAd_lt hf
    have ea := h (gBase E + kAd f) (by have := kKd_or f; unfold tKd; omega) (by omega)
    rw [e0, ea]
    exact q
  · unfold kO at *
    have e11 := h (gBase E + 11) (by unfold tKd; omega) (by omega)
    rw [e0, h7.1, h7.2, e11]
    exact z4
/-! slots of lists that grow -/
def grc (n : Nat) : Nat := if n = 0 then 10 else if n = 10 then 15 else if n = 15 then 22 else if n = 22 then 33 else if n = 33 then 49 else if n = 49 then 73 else if n = 73 then 109 else if n = 109 then 163 else 0
theorem gr_c {n : Nat} (h : n < 150) : gr n ≤ grc n := by
  unfold gr
  by_cases c : n = 0 ∨ tCap n
  · rw [zI_pos c]
    unfold ncap
    rcases c with c | c
    · subst c; decide
    · unfold tCap at c
      rcases c with c | c | c | c | c | c | c | c <;> first | omega | (subst c; decide)
  · rw [zI_neg c]; omega
theorem gr_163 {n : Nat} (h : n < 150) : gr n ≤ 163 := by
  have := gr_c h
  unfold grc at this
  split at this <;> (try split at this) <;> (try split at this) <;> (try split at this) <;> (try split at this) <;> (try split at this) <;> (try split at this) <;> (try split at this) <;> omega
def rgs : Nat → Nat
  | 0 => 0
  | n + 1 => rgs n + grc n
theorem rgs_le {a b : Nat} (h : a ≤ b) : rgs a ≤ rgs b := by
  induction b with
  | zero => have : a = 0 := by omega
            subst this; exact Nat.le_refl _
  | succ b ih =>
    by_cases e : a = b + 1
    · subst e; exact Nat.le_refl _
    · have := ih (by omega)
      show rgs a ≤ rgs b + grc b
      omega
theorem rgs_b {n : Nat} (h : n ≤ 149) : rgs n ≤ 474 := by
  have := rgs_le h
  have e : rgs 149 = 474 := by decide
  omega
