set_option maxRecDepth 100000
/-! ways round -/
theorem itN_add (nx : Nat → Nat) (a b h : Nat) : itN nx (a + b) h = itN nx a (itN nx b h) := by
  induction a with
  | zero => rw [Nat.zero_add]; rfl
  | succ a ih => rw [Nat.succ_add]; show nx _ = nx _; rw [ih]
def orb (nx : Nat → Nat) (a b : Nat) : Prop := ∃ n, itN nx n a = b
def prd (nx : Nat → Nat) (i m : Nat) : Prop := 0 < m ∧ m ≤ 120 ∧ itN nx m i = i ∧ ∀ n, 0 < n → n < m → itN nx n i ≠ i
theorem orb_rf (nx : Nat → Nat) (a : Nat) : orb nx a a := ⟨0, rfl⟩
theorem orb_tr {nx : Nat → Nat} {a b c : Nat} (h1 : orb nx a b) (h2 : orb nx b c) : orb nx a c := by
  obtain ⟨n, rfl⟩ := h1
  obtain ⟨m, rfl⟩ := h2
  exact ⟨m + n, itN_add nx m n a⟩
theorem itN_mul {nx : Nat → Nat} {m i : Nat} (h : itN nx m i = i) (n : Nat) : itN nx (m * n) i = i := by
  induction n with
  | zero => rfl
  | succ n ih => rw [Nat.mul_succ, Nat.add_comm, itN_add, ih, h]
theorem orb_lt {nx : Nat → Nat} {m i k : Nat} (h : prd nx i m) : orb nx i k ↔ ∃ n, n < m ∧ itN nx n i = k := by
  constructor
  · rintro ⟨n, rfl⟩
    refine ⟨n % m, Nat.mod_lt _ h.1, ?_⟩
    have e : n = n % m + m * (n / m) := by have := Nat.mod_add_div n m; omega
    have : itN nx n i = itN nx (n % m + m * (n / m)) i := by rw [← e]
    rw [this, itN_add, itN_mul h.2.2.1]
  · rintro ⟨n, _, e⟩
    exact ⟨n, e⟩
theorem orb_sy {nx : Nat → Nat} {m i k : Nat} (h : prd nx i m) (o : orb nx i k) : orb nx k i := by
  obtain ⟨n, hn, rfl⟩ := (orb_lt h).mp o
  refine ⟨m - n, ?_⟩
  rw [← itN_add, show m - n + n = m by omega]
  exact h.2.2.1
/-! what the making rests on, and what it leaves -/
def mLv (S : mS) (k : Nat) : Prop := zL (mP S) k = true
def mTr (S : mS) : Prop := ∀ i, mLv S i → ∀ a b c, cand S (zB i) a → cand S (zB i) b → cand S (zB i) c → bef S (zB i) a b → bef S (zB i) b c → bef S (zB i) a c
def mPrd (S : mS) : Prop := ∀ nx : Nat → Nat, (∀ k, mLv S k → nxSpec S (zB k) (nx k)) → ∀ i, mLv S i → ∃ m, prd nx i m
theorem mP_eq {S S2 : mS} (e1 : S2.2 1 = S.2 1) (e2 : S2.2 2 = S.2 2) (e3 : S2.2 3 = S.2 3) : mP S2 = mP S := by
  unfold mP
  rw [e1, e2, e3]
theorem nxSpec_eq {S S2 : mS} (e1 : S2.2 1 = S.2 1) (e2 : S2.2 2 = S.2 2) (e3 : S2.2 3 = S.2 3) (w r : Nat) : nxSpec S2 w r ↔ nxSpec S w r := by
  unfold nxSpec cand bef mx
  rw [e1, e2, e3]
theorem nxSpec_L {S : mS} {k r : Nat} (h : mLv S k) (n : nxSpec S (zB k) r) : mLv S r := by
  unfold mLv at *
  rcases n with ⟨rfl, _⟩ | ⟨c, _⟩
  · rw [zL_B]; exact h
  · exact mP_L.mpr ⟨c.1, c.2.2.1⟩
/-- the reference, made -/
def mCur (S : mS) : Prop := ∃ (nx : Nat → Nat) (F0 : Nat → Int), (∀ k, mLv S k → S.2 5 k = nx k ∧ nxSpec S (zB k) (nx k)) ∧
  lab (mLv S) (zSame (mP S)) (S.2 6) ∧ S.1 7 = rk (mLv S) (zSame (mP S)) 120 ∧
  lab (mLv S) (orb nx) (S.2 9) ∧ S.1 8 = rk (mLv S) (orb nx) 120 ∧
  (∀ f, fst (mLv S) (orb nx) f → S.2 10 (rk (mLv S) (orb nx) f) = f ∧ ∃ m, prd nx f m ∧ S.2 11 (rk (mLv S) (orb nx) f) = iS m (fun n => cr S (itN nx n f))) ∧
  S.1 12 = (nmR S (rk (mLv S) (orb nx) 120) F0 (rk (mLv S) (orb nx) 120)).1 ∧ (∀ r, r < rk (mLv S) (orb nx) 120 → S.2 13 r = (nmR S (rk (mLv S) (orb nx) 120) F0 (rk (mLv S) (orb nx) 120)).2.2 r)
def mk2 (S S2 : mS) (h : Nat) : Prop := (S2.2 1 = S.2 1 ∧ S2.2 2 = S.2 2 ∧ S2.2 3 = S.2 3 ∧ S2.1 0 = S.1 0 ∧ S2.1 4 = 1) ∧ S2.1 8 = 0 ∧ (∀ k, k < 120 → S2.2 9 k = -1) ∧
  (∀ k, mLv S k → k < h → ∃ r : Nat, S2.2 5 k = r ∧ nxSpec S (zB k) r) ∧ S2.1 7 = rk (mLv S) (zSame (mP S)) h ∧
  (∀ k, mLv S k → (∃ f, f < h ∧ fst (mLv S) (zSame (mP S)) f ∧ zSame (mP S) f k ∧ S2.2 6 k = rk (mLv S) (zSame (mP S)) f) ∨ (S2.2 6 k = -1 ∧ ∀ f, f < h → fst (mLv S) (zSame (mP S)) f → ¬ zSame (mP S) f k))
def mk3 (S : mS) (nx : Nat → Nat) (S2 : mS) (h : Nat) : Prop := (S2.2 1 = S.2 1 ∧ S2.2 2 = S.2 2 ∧ S2.2 3 = S.2 3 ∧ S2.1 0 = S.1 0 ∧ S2.1 4 = 1) ∧
  (∀ k, mLv S k → S2.2 5 k = nx k) ∧ S2.1 7 = rk (mLv S) (zSame (mP S)) 120 ∧ lab (mLv S) (zSame (mP S)) (S2.2 6) ∧ S2.1 8 = rk (mLv S) (orb nx) h ∧
  (∀ k, mLv S k → (∃ f, f < h ∧ fst (mLv S) (orb nx) f ∧ orb nx f k ∧ S2.2 9 k = rk (mLv S) (orb nx) f) ∨ (S2.2 9 k = -1 ∧ ∀ f, f < h → fst (mLv S) (orb nx) f → ¬ orb nx f k)) ∧
  (∀ f, f < h → fst (mLv S) (orb nx) f → S2.2 10 (rk (mLv S) (orb nx) f) = f ∧ ∃ m, prd nx f m ∧ S2.2 11 (rk (mLv S) (orb nx) f) = iS m (fun n => cr S (itN nx n f)))
section MOD8
variable {S : mS}
/-- when nothing of its kind came before it is the first -/
theorem fst_new {L : Nat → Prop} {R : Nat → Nat → Prop} (rf : ∀ a, L a → R a a) (tr : ∀ a b c, R a b → R b c → R a c) {h : Nat} (hl : L h) (no : ∀ f, f < h → fst L R f → ¬ R f h) : fst L R h := by
  refine ⟨hl, fun g g1 g2 g3 => ?_⟩
  obtain ⟨f, f1, f2, f3⟩ := fst_ex rf tr g g2
  exact no f (by omega) f2 (tr f g h f3 g3)
/-- a step of the pieces: a half that has one already, or is not there -/
theorem mk2_skip {S2 : mS} {h : Nat} (hv : mk2 S S2 h) (hn : ¬ fst (mLv S) (zSame (mP S)) h) (hx : mLv S h → ∃ r : Nat, S2.2 5 h = r ∧ nxSpec S (zB h) r) : mk2 S S2 (h + 1) := by
  obtain ⟨a1, a2, a3, a4, a5, a6⟩ := hv
  refine ⟨a1, a2, a3, fun k hk hlt => ?_, by rw [rk_neg hn]; exact a5, fun k hk => ?_⟩
  · by_cases e : k = h
    · subst e; exact hx hk
    · exact a4 k hk (by omega)
  · rcases a6 k hk with ⟨f, f1, f2⟩ | ⟨b1, b2⟩
    · exact Or.inl ⟨f, by omega, f2⟩
    · refine Or.inr ⟨b1, fun f f1 f2 => ?_⟩
      by_cases e : f = h
      · subst e; exact absurd f2 hn
      · exact b2 f (by omega) f2
theorem mk2_new {S2 S3 : mS} {h : Nat} {Lb : Nat → Int} (hv : mk2 S S2 h) (hl : mLv S h) (h6 : S2.2 6 h = -1) (hx : ∃ r : Nat, S2.2 5 h = r ∧ nxSpec S (zB h) r) (hJ : spJ S2 h (rk (mLv S) (zSame (mP S)) h : Nat) Lb) (hc : ∀ k, k < 120 → ¬ tchs S2 Lb (rk (mLv S) (zSame (mP S)) h : Nat) k) (e3 : S3 = mUs (mL S2 Lb) 7 (rk (mLv S) (zSame (mP S)) h + 1)) : mk2 S S3 (h + 1) := by
  have hv0 := hv
  obtain ⟨⟨a1, a1', a1'', a10, a14⟩, a2, a3, a4, a5, a6⟩ := hv
  have eP : mP S2 = mP S := mP_eq a1 a1' a1''
  have no : ∀ f, f < h → fst (mLv S) (zSame (mP S)) f → ¬ zSame (mP S) f h := by
    rcases a6 h hl with ⟨f, _, _, _, q⟩ | ⟨_, q⟩
    · omega
    · exact q
  have hf : fst (mLv S) (zSame (mP S)) h := fst_new (fun a _ => zSame_rf _ a) (fun _ _ _ => zSame_tr) hl no
  obtain ⟨j1, j2⟩ := hJ
  -- all that hangs together with h has the new number
  have key : ∀ k, zSame (mP S) h k → mLv S k ∧ Lb k = (rk (mLv S) (zSame (mP S)) h : Nat) := by
    intro k s
    have un : ∀ k, mLv S k → zSame (mP S) h k → S2.2 6 k = -1 := by
      intro k hk s
      rcases a6 k hk with ⟨f, f1, f2, f3, _⟩ | ⟨q, _⟩
      · exact absurd (zSame_tr f3 (zSame_sy s)) (no f f1 f2)
      · exact q
    have go : mLv S k ∧ zSame (mP S) h k ∧ Lb k = (rk (mLv S) (zSame (mP S)) h : Nat) := by
      refine s (fun k => mLv S k ∧ zSame (mP S) h k ∧ Lb k = (rk (mLv S) (zSame (mP S)) h : Nat)) ⟨hl, zSame_rf _ _, j1⟩ ?_ ?_
      · rintro a A ⟨b1, b2, b3⟩
        have A' : mLv S (zB a) := by unfold mLv; rw [zL_B]; exact A
        have s' := zSame_tr b2 (zSame_tw A)
        refine ⟨A', s', ?_⟩
        by_cases q : Lb (zB a) = S2.2 6 (zB a)
        · refine absurd ?_ (hc (zB a) (zL_lt A'))
          have l1 := mP_L.mp A'
          have l2 := mP_L.mp A
          refine ⟨by rw [a1]; exact l1.2, by rw [q, un _ A' s']; omega, a, zL_lt A, b3, by rw [a1]; exact l2.2, Or.inr (zB_B a).symm⟩
        · exact (j2 _ q).1
      · rintro a b A B e1 e2 ⟨b1, b2, b3⟩
        have s' := zSame_tr b2 (zSame_at A B e1 e2)
        refine ⟨B, s', ?_⟩
        by_cases q : Lb b = S2.2 6 b
        · refine absurd ?_ (hc b (zL_lt B))
          have l1 := mP_L.mp A
          have l2 := mP_L.mp B
          refine ⟨by rw [a1]; exact l2.2, by rw [q, un _ B s']; omega, a, zL_lt A, b3, by rw [a1]; exact l1.2, Or.inl ?_⟩
          rw [a1', a1'']
          exact ⟨e1, e2⟩
        · exact (j2 _ q).1
    exact ⟨go.1, go.2.2⟩
  subst e3
  refine ⟨⟨a1, a1', a1'', a10, a14⟩, a2, a3, fun k hk hlt => ?_, ?_, fun k hk => ?_⟩
  · by_cases e : k = h
    · subst e; exact hx
    · exact a4 k hk (by omega)
  · rw [rk_pos hf]; show ((rk (mLv S) (zSame (mP S)) h : Int) + 1) = _; omega
  · show (∃ f, f < h + 1 ∧ fst (mLv S) (zSame (mP S)) f ∧ zSame (mP S) f k ∧ Lb k = rk (mLv S) (zSame (mP S)) f) ∨ (Lb k = -1 ∧ _)
    by_cases s : zSame (mP S) h k
    · exact Or.inl ⟨h, by omega, hf, s, (key k s).2⟩
    · have q : Lb k = S2.2 6 k := by
        by_cases q : Lb k = S2.2 6 k
        · exact q
        · have := (j2 k q).2.2.2.2
          rw [eP] at this
          exact absurd this s
      rw [q]
      rcases a6 k hk with ⟨f, f1, f2⟩ | ⟨b1, b2⟩
      · exact Or.inl ⟨f, by omega, f2⟩
      · refine Or.inr ⟨b1, fun f f1 f2 => ?_⟩
        by_cases e : f = h
        · subst e; exact s
        · exact b2 f (by omega) f2
theorem mk3_skip {nx : Nat → Nat} {S2 : mS} {h : Nat} (hv : mk3 S nx S2 h) (hn : ¬ fst (mLv S) (orb nx) h) : mk3 S nx S2 (h + 1) := by
  obtain ⟨a1, a2, a3, a4, a5, a6, a7⟩ := hv
  refine ⟨a1, a2, a3, a4, by rw [rk_neg hn]; exact a5, fun k hk => ?_, fun f hf hff => ?_⟩
  · rcases a6 k hk with ⟨f, f1, f2⟩ | ⟨b1, b2⟩
    · exact Or.inl ⟨f, by omega, f2⟩
    · refine Or.inr ⟨b1, fun f f1 f2 => ?_⟩
      by_cases e : f = h
      · subst e; exact absurd f2 hn
      · exact b2 f (by omega) f2
  · by_cases e : f = h
    · subst e; exact absurd hff hn
    · exact a7 f (by omega) hff
theorem mk3_new {nx : Nat → Nat} {S2 S3 : mS} {h m : Nat} (hv : mk3 S nx S2 h) (hper : ∀ i, mLv S i → ∃ m, prd nx i m) (hl : mLv S h) (h9 : S2.2 9 h = -1) (hp : prd nx h m) (e3 : S3 = mUs (mR S2 (updI (S2.2 10) (rk (mLv S) (orb nx) h) h) (rdN nx h m (rk (mLv S) (orb nx) h : Nat) (S2.2 9)) (updI (S2.2 11) (rk (mLv S) (orb nx) h) (iS m (fun n => cr S2 (itN nx n h))))) 8 (rk (mLv S) (orb nx) h + 1)) : mk3 S nx S3 (h + 1) := by
  obtain ⟨⟨a1, a1', a1'', a10, a14⟩, a2, a3, a4, a5, a6, a7⟩ := hv
  have no : ∀ f, f < h → fst (mLv S) (orb nx) f → ¬ orb nx f h := by
    rcases a6 h hl with ⟨f, _, _, _, q⟩ | ⟨_, q⟩
    · omega
    · exact q
  have hf : fst (mLv S) (orb nx) h := fst_new (fun a _ => orb_rf _ a) (fun _ _ _ => orb_tr) hl no
  have ecr : ∀ k, cr S2 k = cr S k := by intro k; unfold cr; rw [a1', a1'']
  have hrk : ∀ f, f < h → fst (mLv S) (orb nx) f → rk (mLv S) (orb nx) f ≠ rk (mLv S) (orb nx) h := fun f f1 f2 => by have := rk_lt f1 f2; omega
  subst e3
  refine ⟨⟨a1, a1', a1'', a10, a14⟩, a2, a3, a4, ?_, fun k hk => ?_, fun f hf1 hff => ?_⟩
  · rw [rk_pos hf]; show ((rk (mLv S) (orb nx) h : Int) + 1) = _; omega
  · show (∃ f, f < h + 1 ∧ fst (mLv S) (orb nx) f ∧ orb nx f k ∧ rdN nx h m (rk (mLv S) (orb nx) h : Nat) (S2.2 9) k = rk (mLv S) (orb nx) f) ∨ (rdN nx h m (rk (mLv S) (orb nx) h : Nat) (S2.2 9) k = -1 ∧ _)
    by_cases s : orb nx h k
    · left
      refine ⟨h, by omega, hf, s, ?_⟩
      unfold rdN
      exact @if_pos _ (Classical.propDecidable _) ((orb_lt hp).mp s) _ _ _
    · have q : rdN nx h m (rk (mLv S) (orb nx) h : Nat) (S2.2 9) k = S2.2 9 k := by
        unfold rdN
        exact @if_neg _ (Classical.propDecidable _) (fun z => s ((orb_lt hp).mpr z)) _ _ _
      rw [q]
      rcases a6 k hk with ⟨f, f1, f2⟩ | ⟨b1, b2⟩
      · exact Or.inl ⟨f, by omega, f2⟩
      · refine Or.inr ⟨b1, fun f f1 f2 => ?_⟩
        by_cases e : f = h
        · subst e; exact s
        · exact b2 f (by omega) f2
  · show updI (S2.2 10) (rk (mLv S) (orb nx) h) h (rk (mLv S) (orb nx) f) = f ∧ ∃ m', prd nx f m' ∧ updI (S2.2 11) (rk (mLv S) (orb nx) h) (iS m (fun n => cr S2 (itN nx n h))) (rk (mLv S) (orb nx) f) = _
    by_cases e : f = h
    · subst e
      rw [updI_self, updI_self]
      refine ⟨rfl, m, hp, ?_⟩
      congr 1
      funext n
      exact ecr _
    · have r := hrk f (by omega) hff
      obtain ⟨b1, m', b2, b3⟩ := a7 f (by omega) hff
      unfold updI
      rw [if_neg r, if_neg r]
      exact ⟨b1, m', b2, b3⟩
end MOD8
