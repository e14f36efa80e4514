theorem cand_at {S : mS} {w k : Nat} (W : mLv S w) (h : cand S w k) : dAt S w k := by
  refine ⟨⟨W, ?_⟩, ⟨h.2.2.2.1.symm, h.2.2.2.2.symm⟩, Ne.symm h.2.1⟩
  unfold mLv zL
  simp only [mP]
  have h1 := h.1
  have h2 := h.2.2.1
  simp [h1, h2]
theorem cand_of {S : mS} {w k : Nat} (h : dAt S w k) : cand S w k := by
  have h1 := h.1.2
  unfold mLv zL at h1
  simp only [mP] at h1
  simp at h1
  exact ⟨h1.1, Ne.symm h.2.2, h1.2, h.2.1.1.symm, h.2.1.2.symm⟩
theorem dAt_tr {S : mS} {w a b : Nat} (h1 : dAt S w a) (h2 : dAt S w b) (n : a ≠ b) : dAt S a b := ⟨⟨h1.1.2, h2.1.2⟩, ⟨h1.2.1.1.symm.trans h2.2.1.1, h1.2.1.2.symm.trans h2.2.1.2⟩, n⟩
theorem bef_irr {S : mS} {w a : Nat} : ¬ bef S w a a := by
  unfold bef mx
  intro h
  rcases h with h | h
  · omega
  · have := h.2; grind
theorem bef_or {S : mS} (K : zOK (mP S)) {w a b : Nat} (h1 : dAt S w a) (h2 : dAt S w b) (n : a ≠ b) : bef S w a b ∨ bef S w b a := by
  have h3 := dAt_tr h1 h2 n
  rw [d_befz K h1 h3 (dAt_sy h2), d_befz K h2 (dAt_sy h3) (dAt_sy h1)]
  have o1 := dAt_zor K h1
  have o2 := dAt_zor K h2
  have o3 := dAt_zor K h3
  rcases o1 with o1 | o1 <;> rcases o2 with o2 | o2 <;> rcases o3 with o3 | o3 <;> simp [o1, o2, o3]
theorem bef_tr {S : mS} (K : zOK (mP S)) {w a b c : Nat} (h1 : dAt S w a) (h2 : dAt S w b) (h3 : dAt S w c) (n1 : bef S w a b) (n2 : bef S w b c) : bef S w a c := by
  by_cases e1 : a = b
  · subst e1; exact n2
  by_cases e2 : b = c
  · subst e2; exact n1
  have m1 := (d_befz K h1 (dAt_tr h1 h2 e1) (dAt_sy h2)).mp n1
  have m2 := (d_befz K h2 (dAt_tr h2 h3 e2) (dAt_sy h3)).mp n2
  by_cases e3 : a = c
  · subst e3
    exfalso
    have a1 := zLt_irr (P := mP S) (a := w)
    have a2 := zLt_irr (P := mP S) (a := a)
    rcases m1 with m1 | m1 | m1 <;> rcases m2 with m2 | m2 | m2
    · exact a2 (zLt_trans m2.1 m1.1)
    · exact a1 (zLt_trans m2.2 m1.2)
    · exact a2 (zLt_trans m2.2 m1.1)
    · exact a1 (zLt_trans m1.2 m2.2)
    · exact a1 (zLt_trans m1.2 m2.1)
    · exact a1 (zLt_trans m2.1 m1.1)
    · exact a2 (zLt_trans m2.1 m1.2)
    · exact a1 (zLt_trans m1.1 m2.1)
    · exact a2 (zLt_trans m2.2 m1.2)
  refine (d_befz K h1 (dAt_tr h1 h3 e3) (dAt_sy h3)).mpr ?_
  have a1 := zLt_irr (P := mP S) (a := w)
  rcases m1 with m1 | m1 | m1 <;> rcases m2 with m2 | m2 | m2
  · exact Or.inl ⟨zLt_trans m2.1 m1.1, m1.2⟩
  · exact Or.inr (Or.inl ⟨m1.2, m2.2⟩)
  · exact Or.inl ⟨zLt_trans m2.2 m1.1, m1.2⟩
  · exact absurd (zLt_trans m1.2 m2.2) a1
  · exact absurd (zLt_trans m1.2 m2.1) a1
  · exact Or.inr (Or.inl ⟨m1.1, m2.1⟩)
  · exact absurd (zLt_trans m1.1 m2.2) a1
  · exact absurd (zLt_trans m1.1 m2.1) a1
  · exact Or.inr (Or.inr ⟨m2.1, zLt_trans m2.2 m1.2⟩)
theorem m_tr {S : mS} (K : zOK (mP S)) : mTr S := by
  intro i I a b c ha hb hc n1 n2
  have W := mLv_B I
  exact bef_tr K (cand_at W ha) (cand_at W hb) (cand_at W hc) n1 n2
/-- what goes on is one -/
theorem nx_one {S : mS} (K : zOK (mP S)) {w r r' : Nat} (W : mLv S w) (h1 : nxSpec S w r) (h2 : nxSpec S w r') : r = r' := by
  rcases h1 with ⟨e1, n1⟩ | ⟨c1, n1⟩ <;> rcases h2 with ⟨e2, n2⟩ | ⟨c2, n2⟩
  · rw [e1, e2]
  · exact absurd c2 (n1 r')
  · exact absurd c1 (n2 r)
  · by_cases e : r = r'
    · exact e
    · rcases bef_or K (cand_at W c1) (cand_at W c2) e with h | h
      · exact absurd h (n2 r c1)
      · exact absurd h (n1 r' c2)
theorem nx_z {S : mS} (K : zOK (mP S)) {h r : Nat} (H : mLv S h) (h1 : nxSpec S (zB h) r) : zNx (mP S) h r := by
  have W := mLv_B H
  have atX : ∀ j, zL (mP S) j = true → zX (mP S) j = zX (mP S) (zB h) → j ≠ zB h → dAt S (zB h) j := by
    intro j J e n
    have := zX_inj K J W e
    exact ⟨⟨W, J⟩, ⟨this.1.symm, this.2.symm⟩, Ne.symm n⟩
  rcases h1 with ⟨e1, n1⟩ | ⟨c1, n1⟩
  · subst e1
    refine ⟨W, rfl, Or.inr ⟨?_, ?_⟩⟩
    · intro j J e q
      by_cases n : j = zB h
      · subst n; exact zLt_irr q
      · exact n1 j (cand_of (atX j J e n))
    · intro j J e q
      by_cases n : j = zB h
      · subst n; exact zLt_irr q
      · exact n1 j (cand_of (atX j J e n))
  · have a1 := cand_at W c1
    refine ⟨a1.1.2, by unfold zX; simp only [mP]; have := a1.2.1; omega, ?_⟩
    rcases dAt_zor K a1 with o | o
    · right
      constructor
      · intro j J e q
        have n : j ≠ zB h := by intro n; subst n; exact zLt_irr q
        have n2 : j ≠ r := by intro n; subst n; exact zLt_as o q
        have a2 := atX j J e n
        exact n1 j (cand_of a2) ((d_befz K a2 (dAt_tr a2 a1 n2) (dAt_sy a1)).mpr (Or.inr (Or.inl ⟨q, o⟩)))
      · intro j J e q
        have n : j ≠ zB h := by intro n; subst n; exact zLt_as o q
        have n2 : j ≠ r := by intro n; subst n; exact zLt_irr q
        have a2 := atX j J e n
        exact n1 j (cand_of a2) ((d_befz K a2 (dAt_tr a2 a1 n2) (dAt_sy a1)).mpr (Or.inr (Or.inr ⟨o, q⟩)))
    · left
      refine ⟨o, ?_⟩
      intro j J e q
      have n : j ≠ zB h := by intro n; subst n; exact zLt_irr q.2
      have n2 : j ≠ r := by intro n; subst n; exact zLt_irr q.1
      have a2 := atX j J e n
      exact n1 j (cand_of a2) ((d_befz K a2 (dAt_tr a2 a1 n2) (dAt_sy a1)).mpr (Or.inl ⟨q.1, q.2⟩))
/-- the class' way: the one before it in the order from straight right on, or the last if it is the first -/
def pvSpec (S : mS) (w r : Nat) : Prop := mLv S r ∧ (S.2 2 w = S.2 2 r ∧ S.2 3 w = S.2 3 r) ∧
  ((dKb S r w ∧ ∀ j, dAt S w j → ¬ (dKb S r j ∧ dKb S j w)) ∨ ((∀ j, dAt S w j → ¬ dKb S j w) ∧ (∀ j, dAt S w j → ¬ dKb S r j)))
theorem pv_nx {S : mS} (K : zOK (mP S)) {w r : Nat} (W : mLv S w) (h : pvSpec S w r) : nxSpec S w r := by
  obtain ⟨R, e, h⟩ := h
  by_cases n : r = w
  · left
    refine ⟨n, ?_⟩
    intro j c
    have a := cand_at W c
    subst n
    have o := dAt_kor K a
    rcases h with h | h
    · exact dKb_as K W W h.1 h.1
    · rcases o with o | o
      · exact h.2 j a o
      · exact h.1 j a o
  · right
    have a1 : dAt S w r := ⟨⟨W, R⟩, e, Ne.symm n⟩
    refine ⟨cand_of a1, ?_⟩
    intro j c q
    have a2 := cand_at W c
    have n2 : j ≠ r := by intro n; subst n; exact bef_irr q
    have m := (d_befk K a2 (dAt_tr a2 a1 n2) (dAt_sy a1)).mp q
    rcases h with h | h
    · rcases m with m | m | m
      · exact h.2 j a2 m
      · exact dKb_as K W R m.2 h.1
      · exact dKb_as K W R m.1 h.1
    · rcases m with m | m | m
      · exact h.1 j a2 m.2
      · exact h.1 j a2 m.1
      · exact h.2 j a2 m.2
/-! a way that is one to one comes round -/
theorem pig (n : Nat) : ∀ f : Nat → Nat, (∀ i, i ≤ n → f i < n) → ∃ i j, i < j ∧ j ≤ n ∧ f i = f j := by
  induction n with
  | zero => intro f h; exact absurd (h 0 (Nat.le_refl _)) (by omega)
  | succ n ih =>
    intro f h
    by_cases q : ∃ i, i ≤ n ∧ f i = f (n + 1)
    · obtain ⟨i, h1, h2⟩ := q
      exact ⟨i, n + 1, by omega, Nat.le_refl _, h2⟩
    · have := ih (fun i => if f i = n then f (n + 1) else f i) (by
        intro i hi
        have h1 := h i (by omega)
        have h2 := h (n + 1) (Nat.le_refl _)
        have h3 : f i ≠ f (n + 1) := fun e => q ⟨i, hi, e⟩
        show (if f i = n then f (n + 1) else f i) < n
        split <;> omega)
      obtain ⟨i, j, h1, h2, h3⟩ := this
      refine ⟨i, j, h1, by omega, ?_⟩
      have h4 : f i ≠ f (n + 1) := fun e => q ⟨i, by omega, e⟩
      have h5 : f j ≠ f (n + 1) := fun e => q ⟨j, by omega, e⟩
      split at h3 <;> split at h3 <;> omega
theorem least_ex {p : Nat → Prop} : ∀ n, p n → ∃ m, m ≤ n ∧ p m ∧ ∀ k, k < m → ¬ p k := by
  intro n
  induction n using Nat.strongRecOn with
  | ind n ih =>
    intro h
    by_cases q : ∃ k, k < n ∧ p k
    · obtain ⟨k, k1, k2⟩ := q
      obtain ⟨m, m1, m2, m3⟩ := ih k k1 k2
      exact ⟨m, by omega, m2, m3⟩
    · exact ⟨n, Nat.le_refl _, h, fun k k1 k2 => q ⟨k, k1, k2⟩⟩
theorem prd_ex {L : Nat → Prop} {nx : Nat → Nat} (lt : ∀ i, L i → i < 120) (go : ∀ i, L i → L (nx i)) (inj : ∀ i j, L i → L j → nx i = nx j → i = j) {i : Nat} (I : L i) : ∃ m, prd nx i m := by
  have Li : ∀ n, L (itN nx n i) := by
    intro n
    induction n with
    | zero => exact I
    | succ n ih => exact go _ ih
  have can : ∀ a b, itN nx a i = itN nx (a + b) i → itN nx b i = i := by
    intro a
    induction a with
    | zero => intro b e; rw [Nat.zero_add] at e; exact e.symm
    | succ a ih =>
      intro b e
      refine ih b ?_
      have : nx (itN nx a i) = nx (itN nx (a + b) i) := by
        have e2 : a + 1 + b = a + b + 1 := by omega
        rw [e2] at e
        exact e
      exact inj _ _ (Li a) (Li (a + b)) this
  obtain ⟨a, b, h1, h2, h3⟩ := pig 120 (fun n => itN nx n i) (fun n _ => lt _ (Li n))
  have hb : b = a + (b - a) := by omega
  have := can a (b - a) (by rw [← hb]; exact h3)
  obtain ⟨m, m1, m2, m3⟩ := least_ex (p := fun n => 0 < n ∧ itN nx n i = i) (b - a) ⟨by omega, this⟩
  exact ⟨m, m2.1, by omega, m2.2, fun n n1 n2 e => m3 n n2 ⟨n1, e⟩⟩
theorem m_prd {S : mS} (K : zOK (mP S)) : mPrd S := by
  intro nx hx i I
  refine prd_ex (L := mLv S) (fun i h => zL_lt h) (fun i h => (nx_z K h (hx i h)).1) ?_ I
  intro a b A B e
  exact zNx_inj K A B (nx_z K A (hx a A)) (by rw [e]; exact nx_z K B (hx b B))
