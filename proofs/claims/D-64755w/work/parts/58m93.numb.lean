/-! the numbers of faces -/
noncomputable def zfc (P : zP) (ρ : Nat → Nat) (h : Nat) : Option Nat := Classical.epsilon (fun res => zFc P ρ (fun r => zW P (zcr ρ r) h) res)
theorem zfc_is {P : zP} (K : zOK P) {nx ρ : Nat → Nat} (N : ∀ h, zL P h = true → zNx P h (nx h)) (Ro : zRo P nx ρ) {h : Nat} (H : zL P h = true) : zFc P ρ (fun r => zW P (zcr ρ r) h) (zfc P ρ h) := Classical.epsilon_spec (z_fc_ex K N Ro h H)
theorem zfc_eq {P : zP} (K : zOK P) {nx ρ : Nat → Nat} (N : ∀ h, zL P h = true → zNx P h (nx h)) (Ro : zRo P nx ρ) {h : Nat} (H : zL P h = true) {res : Option Nat} (e : zFc P ρ (fun r => zW P (zcr ρ r) h) res) : zfc P ρ h = res := zFc_one (zfc_is K N Ro H) e
theorem zfc_nx {P : zP} (K : zOK P) {nx ρ : Nat → Nat} (N : ∀ h, zL P h = true → zNx P h (nx h)) (Ro : zRo P nx ρ) {h : Nat} (H : zL P h = true) : zfc P ρ (nx h) = zfc P ρ h := by
  have h1 := zfc_is K N Ro (N h H).1
  refine (zfc_eq K N Ro H ?_).symm
  refine zFc_congr (fun r _ => ?_) h1
  exact z_turn K (z_circ K N (zcr_nx Ro r)) H (N h H)
/-- numbering classes of numbers below n by an invariant O, those below 0 apart -/
def nL (O : Nat → Int) (r : Nat) : Prop := 0 ≤ O r
def nE (O : Nat → Int) (a b : Nat) : Prop := O a = O b
def nNo (O : Nat → Int) (r : Nat) (v : Int) : Prop := (O r < 0 ∧ v = 0) ∨ ∃ f, fst (nL O) (nE O) f ∧ O f = O r ∧ v = 1 + (rk (nL O) (nE O) f : Int)
theorem nmR_is (S : mS) (R : Nat) (F0 : Nat → Int) : ∀ n, (nmR S R F0 n).1 = 1 + (rk (nL (ofR S R)) (nE (ofR S R)) n : Int) ∧ (∀ r, r < n → nNo (ofR S R) r ((nmR S R F0 n).2.2 r)) ∧
    (∀ k : Nat, ((nmR S R F0 n).2.1 k < 0 ∧ ∀ r, r < n → ofR S R r ≠ k) ∨ (0 ≤ (nmR S R F0 n).2.1 k ∧ ∃ f, f < n ∧ fst (nL (ofR S R)) (nE (ofR S R)) f ∧ ofR S R f = k ∧ (nmR S R F0 n).2.1 k = 1 + (rk (nL (ofR S R)) (nE (ofR S R)) f : Int))) := by
  intro n
  induction n with
  | zero => exact ⟨rfl, fun r h => by omega, fun k => Or.inl ⟨by show (-1 : Int) < 0; omega, fun r h => by omega⟩⟩
  | succ n ih =>
    obtain ⟨i1, i2, i3⟩ := ih
    have ee : nmR S R F0 (n + 1) = zI (ofR S R n < 0) ((nmR S R F0 n).1, (nmR S R F0 n).2.1, updI (nmR S R F0 n).2.2 n 0)
      (zI ((nmR S R F0 n).2.1 (ofR S R n).toNat < 0) ((nmR S R F0 n).1 + 1, updI (nmR S R F0 n).2.1 (ofR S R n).toNat (nmR S R F0 n).1, updI (nmR S R F0 n).2.2 n (nmR S R F0 n).1)
        ((nmR S R F0 n).1, (nmR S R F0 n).2.1, updI (nmR S R F0 n).2.2 n ((nmR S R F0 n).2.1 (ofR S R n).toNat))) := rfl
    rw [ee]
    generalize nmR S R F0 n = q at *
    have up : ∀ (x : Int), nNo (ofR S R) n x → ∀ r, r < n + 1 → nNo (ofR S R) r (updI q.2.2 n x r) := by
      intro x hx r hr
      unfold updI
      by_cases e : r = n
      · subst e; rw [if_pos rfl]; exact hx
      · rw [if_neg e]; exact i2 r (by omega)
    by_cases c : ofR S R n < 0
    · rw [zI_pos c]
      have nf : ¬ fst (nL (ofR S R)) (nE (ofR S R)) n := fun h => by have : 0 ≤ ofR S R n := h.1; omega
      refine ⟨by rw [rk_neg nf]; exact i1, up 0 (Or.inl ⟨c, rfl⟩), fun k => ?_⟩
      rcases i3 k with ⟨h1, h2⟩ | ⟨h1, f, h2, h3⟩
      · refine Or.inl ⟨h1, fun r hr => ?_⟩
        by_cases e : r = n
        · subst e; omega
        · exact h2 r (by omega)
      · exact Or.inr ⟨h1, f, by omega, h3⟩
    · rw [zI_neg c]
      have ek : ((ofR S R n).toNat : Int) = ofR S R n := by omega
      by_cases d : q.2.1 (ofR S R n).toNat < 0
      · rw [zI_pos d]
        have hn := i3 (ofR S R n).toNat
        have no : ∀ r, r < n → ofR S R r ≠ ofR S R n := by
          rcases hn with ⟨_, h2⟩ | ⟨h1, _⟩
          · intro r hr; rw [← ek]; exact h2 r hr
          · omega
        have nf : fst (nL (ofR S R)) (nE (ofR S R)) n := ⟨by unfold nL; omega, fun g hg _ e => no g hg e⟩
        refine ⟨by rw [rk_pos nf]; omega, up q.1 (Or.inr ⟨n, nf, rfl, i1⟩), fun k => ?_⟩
        show ((updI q.2.1 (ofR S R n).toNat q.1 k < 0 ∧ _) ∨ (0 ≤ updI q.2.1 (ofR S R n).toNat q.1 k ∧ _))
        by_cases e : k = (ofR S R n).toNat
        · right
          have : updI q.2.1 (ofR S R n).toNat q.1 k = q.1 := by unfold updI; rw [if_pos e]
          refine ⟨by rw [this]; omega, n, by omega, nf, by omega, ?_⟩
          show updI q.2.1 (ofR S R n).toNat q.1 k = _
          rw [this]; exact i1
        · have : updI q.2.1 (ofR S R n).toNat q.1 k = q.2.1 k := by unfold updI; rw [if_neg e]
          rw [this]
          rcases i3 k with ⟨h1, h2⟩ | ⟨h1, f, h2, h3, h4, h5⟩
          · refine Or.inl ⟨h1, fun r hr => ?_⟩
            by_cases e' : r = n
            · subst e'; omega
            · exact h2 r (by omega)
          · exact Or.inr ⟨h1, f, by omega, h3, h4, by show updI q.2.1 (ofR S R n).toNat q.1 k = _; rw [this]; exact h5⟩
      · rw [zI_neg d]
        have hn := i3 (ofR S R n).toNat
        rcases hn with ⟨h1, _⟩ | ⟨h1, f, h2, h3, h4, h5⟩
        · exact absurd h1 d
        have nf : ¬ fst (nL (ofR S R)) (nE (ofR S R)) n := fun h => h.2 f h2 h3.1 (by unfold nE; omega)
        refine ⟨by rw [rk_neg nf]; exact i1, up _ (Or.inr ⟨f, h3, by omega, h5⟩), fun k => ?_⟩
        rcases i3 k with ⟨k1, h2⟩ | ⟨h1, g, h2, h3⟩
        · refine Or.inl ⟨k1, fun r hr => ?_⟩
          by_cases e : r = n
          · subst e
            intro e2
            have : (ofR S R r).toNat = k := by omega
            rw [this] at d
            exact d k1
          · exact h2 r (by omega)
        · exact Or.inr ⟨h1, g, by omega, h3⟩
/-- the number of a half's face: 0, or 1 and its rank among the faces by least halves -/
def fL (S : mS) (h : Nat) : Prop := mLv S h ∧ zfc (mP S) (mrho S) h ≠ none
def fE (S : mS) (a b : Nat) : Prop := zfc (mP S) (mrho S) a = zfc (mP S) (mrho S) b
def fNo (S : mS) (h : Nat) (v : Int) : Prop := (zfc (mP S) (mrho S) h = none ∧ v = 0) ∨ ∃ f, fst (fL S) (fE S) f ∧ fE S f h ∧ v = 1 + (rk (fL S) (fE S) f : Int)
theorem fNo_one {S : mS} {g h : Nat} {v w : Int} (e : fE S g h) (h1 : fNo S g v) (h2 : fNo S h w) : v = w := by
  unfold fE at *
  rcases h1 with ⟨a1, a2⟩ | ⟨f, a1, a2, a3⟩ <;> rcases h2 with ⟨b1, b2⟩ | ⟨f', b1, b2, b3⟩
  · omega
  · exfalso; exact b1.1.2 (by unfold fE at b2; rw [b2, ← e, a1])
  · exfalso; exact a1.1.2 (by unfold fE at a2; rw [a2, e, b1])
  · have : f = f' := fst_one (L := fL S) (R := fE S) (fun _ _ h => Eq.symm h) (fun _ _ _ h h' => Eq.trans h h') a1 b1 (k := h) (by unfold fE at *; rw [a2, e]) b2
    subst this
    omega
theorem fNo_inj {S : mS} {g h : Nat} {v : Int} (h1 : fNo S g v) (h2 : fNo S h v) : fE S g h := by
  unfold fE at *
  rcases h1 with ⟨a1, a2⟩ | ⟨f, a1, a2, a3⟩ <;> rcases h2 with ⟨b1, b2⟩ | ⟨f', b1, b2, b3⟩
  · rw [a1, b1]
  · exfalso; omega
  · exfalso; omega
  · have : f = f' := rk_inj a1 b1 (by omega)
    subst this
    unfold fE at *
    rw [← a2, b2]
theorem oI_inj {a b : Option Nat} (h : oI a = oI b) : a = b := by
  cases a <;> cases b <;> simp only [oI] at h <;> first | rfl | (exfalso; omega) | (congr 1; omega)
theorem oI_neg {a : Option Nat} : oI a < 0 ↔ a = none := by
  cases a <;> simp [oI] <;> omega
section NUM
variable {S : mS} {nx : Nat → Nat}
theorem m_fco (K : zOK (mP S)) (hx : ∀ k, mLv S k → nxSpec S (zB k) (nx k)) (l9 : lab (mLv S) (orb nx) (S.2 9)) {a b : Nat} (A : mLv S a) (o : orb nx a b) : fE S a b := by
  obtain ⟨n, e⟩ := o
  rw [← e]
  clear e
  induction n with
  | zero => exact rfl
  | succ n ih =>
    refine Eq.trans ih ?_
    exact (zfc_nx K (m_N K hx) (m_Ro K hx l9) (itN_L (m_go K hx) A n)).symm
theorem m_O (K : zOK (mP S)) (hx : ∀ k, mLv S k → nxSpec S (zB k) (nx k)) (l9 : lab (mLv S) (orb nx) (S.2 9)) (l10 : ∀ f, fst (mLv S) (orb nx) f → S.2 10 (rk (mLv S) (orb nx) f) = f ∧ ∃ m, prd nx f m ∧ S.2 11 (rk (mLv S) (orb nx) f) = iS m (fun n => cr S (itN nx n f))) (l6 : lab (mLv S) (zSame (mP S)) (S.2 6)) {h : Nat} (H : mLv S h) : ofR S (rk (mLv S) (orb nx) 120) (mrho S h) = oI (zfc (mP S) (mrho S) h) := by
  obtain ⟨f, a1, a2, a3⟩ := l9 h H
  have e := m_fco K hx l9 a1.1 a2
  have := m_of K hx l9 l10 l6 a1 (zfc_is K (m_N K hx) (m_Ro K hx l9) a1.1)
  rw [← e, ← this]
  unfold mrho
  rw [a3]
  rfl
theorem m_rkk (K : zOK (mP S)) (hx : ∀ k, mLv S k → nxSpec S (zB k) (nx k)) (l9 : lab (mLv S) (orb nx) (S.2 9)) (l10 : ∀ f, fst (mLv S) (orb nx) f → S.2 10 (rk (mLv S) (orb nx) f) = f ∧ ∃ m, prd nx f m ∧ S.2 11 (rk (mLv S) (orb nx) f) = iS m (fun n => cr S (itN nx n f))) (l6 : lab (mLv S) (zSame (mP S)) (S.2 6)) : ∀ n, n ≤ 120 → rk (fL S) (fE S) n = rk (nL (ofR S (rk (mLv S) (orb nx) 120))) (nE (ofR S (rk (mLv S) (orb nx) 120))) (rk (mLv S) (orb nx) n) := by
  intro n
  induction n with
  | zero => intro _; rfl
  | succ n ih =>
    intro hn
    have ih := ih (by omega)
    by_cases q : fst (mLv S) (orb nx) n
    · rw [rk_pos q]
      have rn := (m_rf K hx l9 q).2
      have On := m_O K hx l9 l10 l6 q.1
      have iff : fst (fL S) (fE S) n ↔ fst (nL (ofR S (rk (mLv S) (orb nx) 120))) (nE (ofR S (rk (mLv S) (orb nx) 120))) (rk (mLv S) (orb nx) n) := by
        rw [← rn]
        constructor
        · intro h
          refine ⟨?_, ?_⟩
          · unfold nL; rw [On]
            have := h.1.2
            rw [Ne, ← oI_neg] at this
            omega
          · intro r hr hr' e
            rw [rn] at hr
            obtain ⟨f, f1, f2, f3⟩ := rk_srj n r hr
            have rf := (m_rf K hx l9 f2).2
            have Of := m_O K hx l9 l10 l6 f2.1
            unfold nE at e
            unfold nL at hr'
            rw [← f3, ← rf, Of] at e hr'
            rw [On] at e
            refine h.2 f f1 ⟨f2.1, ?_⟩ (oI_inj e)
            intro z
            have := oI_neg.mpr z
            omega
        · intro h
          have h1 := h.1
          unfold nL at h1
          rw [On] at h1
          refine ⟨⟨q.1, fun z => by have := oI_neg.mpr z; omega⟩, ?_⟩
          intro g hg G e
          obtain ⟨f, a1, a2, a3⟩ := l9 g G.1
          have fg : f ≤ g := by
            rcases Nat.lt_or_ge g f with lt | ge
            · exact absurd (m_osy K hx f g a1.1 a2) (a1.2 g lt G.1)
            · exact ge
          have Of := m_O K hx l9 l10 l6 a1.1
          have rf := (m_rf K hx l9 a1).2
          have ef := m_fco K hx l9 a1.1 a2
          have lt := rk_lt (show f < n by omega) a1
          rw [← rf, ← rn] at lt
          refine h.2 (mrho S f) lt ?_ ?_
          · unfold nL; rw [Of]
            have := G.2
            rw [← ef, Ne, ← oI_neg] at this
            omega
          · unfold nE; rw [Of, On]
            unfold fE at ef e
            rw [ef, e]
      by_cases c : fst (fL S) (fE S) n
      · rw [rk_pos c, rk_pos (iff.mp c), ih]
      · rw [rk_neg c, rk_neg (fun h => c (iff.mpr h)), ih]
    · rw [rk_neg q, rk_neg, ih]
      intro c
      refine q ⟨c.1.1, ?_⟩
      intro g hg G o
      have e := m_fco K hx l9 G o
      refine c.2 g hg ⟨G, ?_⟩ e
      have := c.1.2
      unfold fE at e
      rw [e]
      exact this
theorem m_num (K : zOK (mP S)) (hx : ∀ k, mLv S k → nxSpec S (zB k) (nx k)) (l9 : lab (mLv S) (orb nx) (S.2 9)) (l10 : ∀ f, fst (mLv S) (orb nx) f → S.2 10 (rk (mLv S) (orb nx) f) = f ∧ ∃ m, prd nx f m ∧ S.2 11 (rk (mLv S) (orb nx) f) = iS m (fun n => cr S (itN nx n f))) (l6 : lab (mLv S) (zSame (mP S)) (S.2 6)) {F0 : Nat → Int} (e12 : S.1 12 = (nmR S (rk (mLv S) (orb nx) 120) F0 (rk (mLv S) (orb nx) 120)).1) (e13 : ∀ r, r < rk (mLv S) (orb nx) 120 → S.2 13 r = (nmR S (rk (mLv S) (orb nx) 120) F0 (rk (mLv S) (orb nx) 120)).2.2 r) :
    S.1 12 = 1 + (rk (fL S) (fE S) 120 : Int) ∧ ∀ h, mLv S h → fNo S h (S.2 13 (mrho S h)) := by
  have nm := nmR_is S (rk (mLv S) (orb nx) 120) F0 (rk (mLv S) (orb nx) 120)
  constructor
  · rw [e12, nm.1, m_rkk K hx l9 l10 l6 120 (Nat.le_refl _)]
  · intro h H
    have lt := (m_9 K hx l9 H).2
    have := nm.2.1 (mrho S h) lt
    rw [← e13 _ lt] at this
    have Oh := m_O K hx l9 l10 l6 H
    rcases this with ⟨a1, a2⟩ | ⟨r, a1, a2, a3⟩
    · left
      rw [Oh] at a1
      exact ⟨oI_neg.mp a1, a2⟩
    · right
      have hr : r < rk (mLv S) (orb nx) 120 := by
        rcases Nat.lt_or_ge (mrho S h) r with q | q
        · exact absurd a2.symm (a1.2 (mrho S h) q (by have := a1.1; unfold nL at *; omega))
        · omega
      obtain ⟨f, f1, f2, f3⟩ := rk_srj 120 r hr
      have rf := (m_rf K hx l9 f2).2
      have Of := m_O K hx l9 l10 l6 f2.1
      rw [← f3, ← rf, Of, Oh] at a2
      have e := oI_inj a2
      have kk := m_rkk K hx l9 l10 l6 f (by omega)
      have nn : zfc (mP S) (mrho S) f ≠ none := by
        intro z
        have := a1.1
        unfold nL at this
        rw [← f3, ← rf, Of] at this
        have := oI_neg.mpr z
        omega
      refine ⟨f, ⟨⟨f2.1, nn⟩, ?_⟩, e, ?_⟩
      · intro g hg G e'
        obtain ⟨f', b1, b2, b3⟩ := l9 g G.1
        have fg : f' ≤ g := by
          rcases Nat.lt_or_ge g f' with lt | ge
          · exact absurd (m_osy K hx f' g b1.1 b2) (b1.2 g lt G.1)
          · exact ge
        have lt' := rk_lt (show f' < f by omega) b1
        have ef := m_fco K hx l9 b1.1 b2
        have Of' := m_O K hx l9 l10 l6 b1.1
        have rf' := (m_rf K hx l9 b1).2
        rw [f3] at lt'
        refine a1.2 _ lt' ?_ ?_
        · unfold nL; rw [← rf', Of']
          have := G.2
          rw [← ef, Ne, ← oI_neg] at this
          omega
        · unfold nE; rw [← f3, ← rf', ← rf, Of', Of]
          unfold fE at ef e'
          rw [ef, e']
      · rw [a3, kk, f3]
end NUM
