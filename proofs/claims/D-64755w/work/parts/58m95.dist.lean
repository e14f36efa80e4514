/-! how far from face to face -/
def dst (S : mS) (a f n : Nat) : Prop := rch S a n f ∧ ∀ n', n' < n → ¬ rch S a n' f
theorem dst_one {S : mS} {a f n m : Nat} (h1 : dst S a f n) (h2 : dst S a f m) : n = m := by
  rcases Nat.lt_trichotomy n m with h | h | h
  · exact absurd h1.1 (h2.2 n h)
  · exact h
  · exact absurd h2.1 (h1.2 m h)
theorem dst_pre {S : mS} {a f n : Nat} (h : dst S a f (n + 1)) : ∃ k, mLv S k ∧ dst S a (lf S k) n ∧ lf S (zB k) = f := by
  obtain ⟨⟨k, k1, k2, k3⟩, h2⟩ := h
  exact ⟨k, k1, ⟨k2, fun n' hn' r => h2 (n' + 1) (by omega) ⟨k, k1, r, k3⟩⟩, k3⟩
section DST
variable {S : mS} {nx : Nat → Nat}
theorem dst_ex (K : zOK (mP S)) (M : mMd S nx) {a f : Nat} (ha : (a : Int) < S.1 12) (hf : (f : Int) < S.1 12) : ∃ n, dst S a f n := by
  obtain ⟨n, hn⟩ := d_conn K M ha f hf
  obtain ⟨m, m1, m2, m3⟩ := least_ex (p := fun n => rch S a n f) n hn
  exact ⟨m, m2, m3⟩
theorem dst_dn (K : zOK (mP S)) (M : mMd S nx) {a : Nat} : ∀ n (f : Nat), (f : Int) < S.1 12 → dst S a f n → ∀ i, i ≤ n → ∃ g : Nat, (g : Int) < S.1 12 ∧ dst S a g i := by
  intro n
  induction n with
  | zero => intro f hf h i hi; have : i = 0 := by omega
            subst this; exact ⟨f, hf, h⟩
  | succ n ih =>
    intro f hf h i hi
    by_cases e : i = n + 1
    · subst e; exact ⟨f, hf, h⟩
    · obtain ⟨k, k1, k2, k3⟩ := dst_pre h
      exact ih (lf S k) (d_lfl K M k1) k2 i (by omega)
theorem d_faces (K : zOK (mP S)) (M : mMd S nx) : (0 : Int) < S.1 12 ∧ S.1 12 ≤ 121 := by
  rw [M.2.2.2.2.2.2.1]
  have := rk_n (L := fL S) (R := fE S) 120
  omega
theorem dst_le (K : zOK (mP S)) (M : mMd S nx) {a f n : Nat} (hf : (f : Int) < S.1 12) (h : dst S a f n) : n ≤ 120 := by
  rcases Nat.lt_or_ge 120 n with q | q
  · exfalso
    have dn := dst_dn K M n f hf h
    have fb := d_faces K M
    let F : Nat → Nat := fun i => Classical.epsilon (fun g : Nat => (g : Int) < S.1 12 ∧ dst S a g i)
    have hF : ∀ i, i ≤ 121 → (F i : Int) < S.1 12 ∧ dst S a (F i) i := fun i hi => Classical.epsilon_spec (p := fun g : Nat => (g : Int) < S.1 12 ∧ dst S a g i) (dn i (by omega))
    obtain ⟨i, j, h1, h2, h3⟩ := pig 121 F (fun i hi => by have := (hF i hi).1; omega)
    have a1 := (hF i (by omega)).2
    have a2 := (hF j h2).2
    rw [h3] at a1
    have := dst_one a1 a2
    omega
  · exact q
theorem d_ac (K : zOK (mP S)) (M : mMd S nx) {a b : Nat} (ha : (a : Int) < S.1 12) (hb : (b : Int) < S.1 12) {v : Int} (h : acP S a b v) : ∃ n, dst S a b n ∧ v = n ∧ n ≤ 120 := by
  obtain ⟨D, ⟨D0, DJ⟩, DC, e⟩ := h
  obtain ⟨n, hn⟩ := dst_ex K M ha hb
  have hn' := dst_le K M hb hn
  have up : ∀ n f, rch S a n f → D f ≤ n := by
    intro n
    induction n with
    | zero => intro f h; have h : f = a := h
              subst h; omega
    | succ n ih =>
      intro f h
      obtain ⟨k, k1, k2, k3⟩ := h
      have := ih _ k2
      have c := DC k (zL_lt k1) k1
      rw [k3] at c
      omega
  have u := up n b hn.1
  refine ⟨n, hn, ?_, hn'⟩
  rcases (DJ b hb).2 with q | ⟨m, m1, m2⟩
  · omega
  · have : ¬ m < n := fun q => hn.2 m q m1
    omega
end DST
