/-! the least round around a place, as the reference finds it -/
def oI (r : Option Nat) : Int := match r with
  | none => -1
  | some n => (n : Int)
def lsq (S : mS) (x y but : Int) (r : Nat) : Prop := 0 < S.2 11 r ∧ S.2 6 (S.2 10 r).toNat ≠ but ∧ cW S r x y 120 % 2 = 1
theorem lsR_spec (S : mS) (x y but : Int) : ∀ n, (lsR S x y but n = -1 ∧ ∀ r, r < n → ¬ lsq S x y but r) ∨ (∃ r0 : Nat, r0 < n ∧ lsR S x y but n = r0 ∧ lsq S x y but r0 ∧ ∀ r, r < n → lsq S x y but r → S.2 11 r0 ≤ S.2 11 r) := by
  intro n
  induction n with
  | zero => exact Or.inl ⟨rfl, fun r h => by omega⟩
  | succ n ih =>
    show ((zI (lcd S x y but n (lsR S x y but n)) (n : Int) (lsR S x y but n)) = -1 ∧ _) ∨ (∃ r0 : Nat, r0 < n + 1 ∧ (zI (lcd S x y but n (lsR S x y but n)) (n : Int) (lsR S x y but n)) = r0 ∧ _)
    by_cases c : lcd S x y but n (lsR S x y but n)
    · rw [zI_pos c]
      right
      obtain ⟨c1, c2, c3, c4⟩ := c
      refine ⟨n, by omega, rfl, ⟨c1, c2, c4⟩, ?_⟩
      intro r hr q
      by_cases e : r = n
      · subst e; exact Int.le_refl _
      · rcases ih with ⟨h1, h2⟩ | ⟨r0, h1, h2, h3, h4⟩
        · exact absurd q (h2 r (by omega))
        · have := h4 r (by omega) q
          rw [h2] at c3
          simp at c3
          omega
    · rw [zI_neg c]
      rcases ih with ⟨h1, h2⟩ | ⟨r0, h1, h2, h3, h4⟩
      · left
        refine ⟨h1, fun r hr q => ?_⟩
        by_cases e : r = n
        · subst e
          exact c ⟨q.1, q.2.1, Or.inl (by omega), q.2.2⟩
        · exact h2 r (by omega) q
      · right
        refine ⟨r0, by omega, h2, h3, fun r hr q => ?_⟩
        by_cases e : r = n
        · subst e
          by_cases lt : S.2 11 r < S.2 11 r0
          · exact absurd ⟨q.1, q.2.1, Or.inr (by rw [h2]; exact lt), q.2.2⟩ c
          · omega
        · exact h4 r (by omega) q
theorem w_offs {S : mS} (K : zOK (mP S)) {g f : Nat} (G : mLv S g) (F : mLv S f) (ns : ¬ zSame (mP S) g f) (e1 : S.2 2 g = S.2 2 (zB g)) (e2 : S.2 2 g = S.2 2 f) : ¬ (min (S.2 3 g) (S.2 3 (zB g)) ≤ S.2 3 f ∧ S.2 3 f < max (S.2 3 g) (S.2 3 (zB g))) := by
  intro h
  have hne : g / 2 ≠ f / 2 := by
    intro q
    rcases zB_of q with q | q
    · subst q; exact ns (zSame_refl _ _)
    · subst q; have := zSame_B (P := mP S) G; rw [zB_B] at this; exact ns this
  have nm := zNM K G F hne
  have on : zOn (mP S) g (S.2 2 f) (S.2 3 f) := by
    refine ⟨?_, ?_, ?_⟩
    · unfold zO; simp only [mP]; rw [← e1, e2]; grind
    · simp only [mP]; omega
    · simp only [mP]; omega
  by_cases en : zEnd (mP S) g (S.2 2 f) (S.2 3 f)
  · rcases en with en | en
    · exact ns (zSame_pt G F en.1 en.2)
    · exact ns (zSame_trans (zSame_B G) (zSame_pt (mLv_B G) F en.1 en.2))
  · exact nm (Or.inl ⟨on, en⟩)
section LEAST
variable {S : mS} {nx : Nat → Nat}
theorem m_ar (K : zOK (mP S)) (hx : ∀ k, mLv S k → nxSpec S (zB k) (nx k)) (l9 : lab (mLv S) (orb nx) (S.2 9)) (l10 : ∀ f, fst (mLv S) (orb nx) f → S.2 10 (rk (mLv S) (orb nx) f) = f ∧ ∃ m, prd nx f m ∧ S.2 11 (rk (mLv S) (orb nx) f) = iS m (fun n => cr S (itN nx n f))) {r : Nat} (h : r < rk (mLv S) (orb nx) 120) : ∃ f, fst (mLv S) (orb nx) f ∧ rk (mLv S) (orb nx) f = r ∧ S.2 10 r = f ∧ mrho S f = r ∧ zArea (mP S) (zcr (mrho S) r) = ((40000 * S.2 11 r : Int) : Rat) := by
  obtain ⟨f, f1, f2, f3⟩ := rk_srj 120 r h
  obtain ⟨e1, m, p, e2⟩ := l10 f f2
  have := m_area K hx l9 f2 p e2
  subst f3
  exact ⟨f, f2, rfl, e1, (m_rf K hx l9 f2).2, this⟩
theorem m_posi (K : zOK (mP S)) (hx : ∀ k, mLv S k → nxSpec S (zB k) (nx k)) (l9 : lab (mLv S) (orb nx) (S.2 9)) (l10 : ∀ f, fst (mLv S) (orb nx) f → S.2 10 (rk (mLv S) (orb nx) f) = f ∧ ∃ m, prd nx f m ∧ S.2 11 (rk (mLv S) (orb nx) f) = iS m (fun n => cr S (itN nx n f))) {r : Nat} (h : r < rk (mLv S) (orb nx) 120) : zPos (mP S) (mrho S) r ↔ 0 < S.2 11 r := by
  obtain ⟨f, f1, f2, f3, f4, f5⟩ := m_ar K hx l9 l10 h
  unfold zPos
  rw [f5]
  have : (0 : Rat) < ((40000 * S.2 11 r : Int) : Rat) ↔ 0 < 40000 * S.2 11 r := zRat_lt (a := 0)
  rw [this]
  constructor
  · intro q; have := q.2; omega
  · intro q; exact ⟨⟨f, f1.1, f4⟩, by omega⟩
theorem m_alt (K : zOK (mP S)) (hx : ∀ k, mLv S k → nxSpec S (zB k) (nx k)) (l9 : lab (mLv S) (orb nx) (S.2 9)) (l10 : ∀ f, fst (mLv S) (orb nx) f → S.2 10 (rk (mLv S) (orb nx) f) = f ∧ ∃ m, prd nx f m ∧ S.2 11 (rk (mLv S) (orb nx) f) = iS m (fun n => cr S (itN nx n f))) {r r' : Nat} (h : r < rk (mLv S) (orb nx) 120) (h' : r' < rk (mLv S) (orb nx) 120) : zArea (mP S) (zcr (mrho S) r) < zArea (mP S) (zcr (mrho S) r') ↔ S.2 11 r < S.2 11 r' := by
  obtain ⟨f, f1, f2, f3, f4, f5⟩ := m_ar K hx l9 l10 h
  obtain ⟨g, g1, g2, g3, g4, g5⟩ := m_ar K hx l9 l10 h'
  rw [f5, g5, zRat_lt]
  omega
theorem m_pR (K : zOK (mP S)) (hx : ∀ k, mLv S k → nxSpec S (zB k) (nx k)) (l9 : lab (mLv S) (orb nx) (S.2 9)) (l10 : ∀ f, fst (mLv S) (orb nx) f → S.2 10 (rk (mLv S) (orb nx) f) = f ∧ ∃ m, prd nx f m ∧ S.2 11 (rk (mLv S) (orb nx) f) = iS m (fun n => cr S (itN nx n f))) {r : Nat} (h : zPos (mP S) (mrho S) r) : r < rk (mLv S) (orb nx) 120 := by
  obtain ⟨⟨g, G, e⟩, _⟩ := h
  rw [← e]
  exact (m_9 K hx l9 G).2
theorem m_ls (K : zOK (mP S)) (hx : ∀ k, mLv S k → nxSpec S (zB k) (nx k)) (l9 : lab (mLv S) (orb nx) (S.2 9)) (l10 : ∀ f, fst (mLv S) (orb nx) f → S.2 10 (rk (mLv S) (orb nx) f) = f ∧ ∃ m, prd nx f m ∧ S.2 11 (rk (mLv S) (orb nx) f) = iS m (fun n => cr S (itN nx n f))) {v : Nat → Rat} {res : Option Nat} (F : zFc (mP S) (mrho S) v res) {x y but : Int} (q : ∀ r, zPos (mP S) (mrho S) r → (lsq S x y but r ↔ v r = 1)) : lsR S x y but (rk (mLv S) (orb nx) 120) = oI res := by
  have ps := fun {r} h => m_posi K hx l9 l10 (r := r) h
  rcases lsR_spec S x y but (rk (mLv S) (orb nx) 120) with ⟨h1, h2⟩ | ⟨r0, h1, h2, h3, h4⟩
  · cases res with
    | none => exact h1
    | some r =>
      have := (q r F.1).mpr F.2.1
      exact absurd this (h2 r (m_pR K hx l9 l10 F.1))
  · have p0 := (ps h1).mpr h3.1
    have v0 := (q r0 p0).mp h3
    cases res with
    | none => have := F r0 p0; rw [v0] at this; grind
    | some r =>
      by_cases e : r0 = r
      · subst e; exact h2
      · exfalso
        rcases F.2.2 r0 p0 e with z | ⟨z, lt⟩
        · rw [v0] at z; grind
        · have hr := m_pR K hx l9 l10 F.1
          have := (m_alt K hx l9 l10 hr h1).mp lt
          have := h4 r hr ((q r F.1).mpr F.2.1)
          omega
theorem m_in (K : zOK (mP S)) (hx : ∀ k, mLv S k → nxSpec S (zB k) (nx k)) (l9 : lab (mLv S) (orb nx) (S.2 9)) (l10 : ∀ f, fst (mLv S) (orb nx) f → S.2 10 (rk (mLv S) (orb nx) f) = f ∧ ∃ m, prd nx f m ∧ S.2 11 (rk (mLv S) (orb nx) f) = iS m (fun n => cr S (itN nx n f))) {r : Nat} (hr : zPos (mP S) (mrho S) r) {x y : Int} (by' : -16000 ≤ y ∧ y ≤ 16000)
    (off : ∀ g, mLv S g → mrho S g = r → S.2 2 g = S.2 2 (zB g) → S.2 2 g = x → ¬ (min (S.2 3 g) (S.2 3 (zB g)) ≤ y ∧ y < max (S.2 3 g) (S.2 3 (zB g)))) :
    cW S r x y 120 % 2 = 1 ↔ zAR (mP S) (zcr (mrho S) r) (40000 * x + y) (y : Rat) = 1 := by
  have Ro := m_Ro K hx l9
  have C := z_circ K (m_N K hx) (zcr_nx Ro r)
  have ws := w_sum K C (x := x) by' (fun g G c => off g G (by
    by_cases e : mrho S g = r
    · exact e
    · exact absurd (zcr_ne e) c))
  obtain ⟨z, h1, h2⟩ := w_par (S := S) (ρ := mrho S) (r := r) (R := (r : Int)) (x := x) (y := y) (fun g G => by have := (m_9 K hx l9 G).1; omega) 120 (Nat.le_refl _)
  rw [ws] at h1
  obtain ⟨res, hres⟩ := z_place K (m_N K hx) Ro (40000 * x + y) (y : Rat)
  rcases zFc_01 hres hr with e | e
  · rw [h1] at e
    rw [h1]
    have z0 : z = 0 := zRat_eq.mp (by rw [e]; rfl)
    subst z0
    constructor
    · intro q; omega
    · intro q; exfalso; have := (zRat_eq (a := (0 : Int)) (b := (1 : Int))).mp q; omega
  · rw [h1] at e
    rw [h1]
    have z0 : z = 1 := zRat_eq.mp (by rw [e]; rfl)
    subst z0
    constructor
    · intro q; rfl
    · intro q; omega
theorem m_of (K : zOK (mP S)) (hx : ∀ k, mLv S k → nxSpec S (zB k) (nx k)) (l9 : lab (mLv S) (orb nx) (S.2 9)) (l10 : ∀ f, fst (mLv S) (orb nx) f → S.2 10 (rk (mLv S) (orb nx) f) = f ∧ ∃ m, prd nx f m ∧ S.2 11 (rk (mLv S) (orb nx) f) = iS m (fun n => cr S (itN nx n f))) (l6 : lab (mLv S) (zSame (mP S)) (S.2 6)) {f : Nat} (hf : fst (mLv S) (orb nx) f) {res : Option Nat} (F : zFc (mP S) (mrho S) (fun r => zW (mP S) (zcr (mrho S) r) f) res) :
    ofR S (rk (mLv S) (orb nx) 120) (rk (mLv S) (orb nx) f) = oI res := by
  have Ro := m_Ro K hx l9
  have N := m_N K hx
  have fR := rk_lt (zL_lt hf.1) hf
  have rf := m_rf K hx l9 hf
  obtain ⟨e10, m, p, e11⟩ := l10 f hf
  have ar := m_area K hx l9 hf p e11
  unfold ofR
  by_cases pos : 0 < S.2 11 (rk (mLv S) (orb nx) f)
  · rw [zI_pos pos]
    have hp := ((m_posi K hx l9 l10 fR).mpr pos).2
    rw [← rf.2] at hp
    have := z_fc_self K N Ro hf.1 hp
    have := zFc_one F this
    rw [this, rf.2]
    rfl
  · rw [zI_neg pos, e10]
    simp only [Int.toNat_natCast]
    have hp : ¬ 0 < zArea (mP S) (zcr (mrho S) (mrho S f)) := by
      rw [rf.2]
      intro q
      exact pos ((m_posi K hx l9 l10 fR).mp ⟨⟨f, hf.1, rf.2⟩, q⟩)
    obtain ⟨b, sb, hb⟩ := z_cor_ex K hf.1
    have sb := zSame_symm sb
    refine m_ls K hx l9 l10 F ?_
    intro r hr
    have rR := m_pR K hx l9 l10 hr
    obtain ⟨f', f1, f2, f3, f4, f5⟩ := m_ar K hx l9 l10 rR
    have l6e := lab_eq (R := zSame (mP S)) (fun _ _ h => zSame_symm h) (fun _ _ _ h h' => zSame_trans h h') l6 f1.1 hf.1
    unfold lsq
    rw [f3]
    simp only [Int.toNat_natCast]
    have bd := K.1 f hf.1
    simp only [mP] at bd
    by_cases s : zSame (mP S) f' f
    · have z := z_fc_val K N Ro hb sb hp hr
      rcases z with z | z
      · rw [z.1]
        constructor
        · intro q; exact absurd (l6e.mpr s) q.2.1
        · intro q; exfalso; grind
      · have := z.1 f' (zSame_trans sb (zSame_symm s))
        rw [zcr, if_pos f4] at this
        exfalso; grind
    · have z : ∀ g, zSame (mP S) f g → zcr (mrho S) r g = 0 := by
        intro g sg
        refine zcr_ne fun e => s ?_
        have := Ro.2 f' g f1.1 (zSame_L hf.1 sg) (by rw [f4, e])
        exact zSame_trans this (zSame_symm sg)
      have wp := w_pc K N (zcr_nx Ro r) hf.1 z
      have wi := m_in K hx l9 l10 hr (x := S.2 2 f) (y := S.2 3 f) bd.2 (fun g G eg e1 e2 => w_offs K G hf.1 (by
        intro sg
        have := z g (zSame_symm sg)
        rw [zcr, if_pos eg] at this
        grind) e1 e2)
      have eX : zX (mP S) f = 40000 * S.2 2 f + S.2 3 f := rfl
      have eY : zY (mP S) f = S.2 3 f := rfl
      rw [eX, eY] at wp
      rw [wi, wp]
      constructor
      · intro q; exact q.2.2
      · intro q; exact ⟨(m_posi K hx l9 l10 rR).mp hr, fun q' => s (l6e.mp q'), q⟩
end LEAST
