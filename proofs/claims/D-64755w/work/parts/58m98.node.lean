/-! a node next below -/
def dx (S : mS) (h : Nat) : Int := S.2 2 (zB h) - S.2 2 h
def dy (S : mS) (h : Nat) : Int := S.2 3 (zB h) - S.2 3 h
/-- at the point of f -/
def atP (S : mS) (f j : Nat) : Prop := mLv S j ∧ S.2 2 j = S.2 2 f ∧ S.2 3 j = S.2 3 f
/-- the first one to the right round from straight up -/
def bfUp (S : mS) (f z : Nat) : Prop := atP S f z ∧ ((0 < dx S z ∧ 0 ≤ dy S z ∧ ∀ j, atP S f j → 0 < dx S j → 0 ≤ dy S j → ¬ dKb S z j) ∨ ((∀ j, atP S f j → ¬ (0 < dx S j ∧ 0 ≤ dy S j)) ∧ ∀ j, atP S f j → ¬ dKb S z j))
theorem mx_d (S : mS) (a b : Nat) : mx S a b = dx S a * dy S b - dy S a * dx S b := rfl
theorem dKb_d {S : mS} {a b : Nat} : dKb S a b ↔ ((kup (dx S a) (dy S a) ∧ ¬ kup (dx S b) (dy S b)) ∨ ((kup (dx S a) (dy S a) ↔ kup (dx S b) (dy S b)) ∧ 0 < mx S a b)) := Iff.rfl
theorem dfz_d (S : mS) (h : Nat) : dfz S h = 40000 * dx S h + dy S h := rfl
theorem b_up {S : mS} (K : zOK (mP S)) {c : Nat → Rat} (C : zCirc (mP S) c) {f z : Nat} (nu : ∀ j, atP S f j → ¬ (dx S j = 0 ∧ 0 < dy S j)) (h : bfUp S f z) : zW (mP S) c z = zAR (mP S) c (zX (mP S) z) (zY (mP S) z : Rat) := by
  obtain ⟨⟨Z, z1, z2⟩, h⟩ := h
  have at' : ∀ j, mLv S j → zX (mP S) j = zX (mP S) z → atP S f j := by
    intro j J e
    have := zX_inj K J Z e
    simp only [mP] at this
    exact ⟨J, by omega, by omega⟩
  have bz := d_bd K Z
  have bz : ((-32000 ≤ dx S z ∧ dx S z ≤ 32000) ∧ (-32000 ≤ dy S z ∧ dy S z ≤ 32000)) ∧ ¬ (dx S z = 0 ∧ dy S z = 0) := bz
  have sg : ∀ j, mLv S j → (zR (mP S) j ↔ 0 < 40000 * dx S j + dy S j) := fun j J => by rw [dfz_R, dfz_d]
  have bj : ∀ j, mLv S j → ((-32000 ≤ dx S j ∧ dx S j ≤ 32000) ∧ (-32000 ≤ dy S j ∧ dy S j ≤ 32000)) ∧ ¬ (dx S j = 0 ∧ dy S j = 0) := fun j J => d_bd K J
  have lt : ∀ j, mLv S j → (zR (mP S) z ↔ zR (mP S) j) → (zm (mP S) z < zm (mP S) j ↔ 0 < mx S z j) := fun j J e => zm_lt K Z J (by rw [← dfz_R, ← dfz_R]; exact e)
  have right : ∀ j, atP S f j → zR (mP S) j → 0 < dx S j := by
    intro j J r
    have a := (sg j J.1).mp r
    have b := nu j J
    have b' := bj j J.1
    omega
  by_cases some : ∃ i, atP S f i ∧ zR (mP S) i
  · -- z is the topmost to the right
    have rz : 0 < dx S z ∧ ∀ j, atP S f j → 0 < dx S j → ¬ 0 < mx S z j := by
      rcases h with ⟨h1, h2, h3⟩ | ⟨h1, h2⟩
      · refine ⟨h1, fun j J hj m => ?_⟩
        rw [mx_d] at m
        have p1 := Int.mul_nonneg h2 (Int.le_of_lt hj)
        have s := d_sg (dx S z) (dy S j)
        have hy : 0 < dy S j := by
          rcases Int.lt_trichotomy (dy S j) 0 with q | q | q
          · have := s.2.2.1 h1 q; omega
          · rw [q] at m; omega
          · exact q
        refine h3 j J hj (by omega) (dKb_d.mpr (Or.inr ⟨?_, by rw [mx_d]; exact m⟩))
        unfold kup; omega
      · obtain ⟨i, I, ri⟩ := some
        have xi := right i I ri
        have yi : dy S i < 0 := by have := h1 i I; omega
        have ni := h2 i I
        rw [dKb_d] at ni
        have kz : ¬ kup (dx S z) (dy S z) := by
          intro k
          exact ni (Or.inl ⟨k, by unfold kup; omega⟩)
        have ki : ¬ kup (dx S i) (dy S i) := by unfold kup; omega
        have mi : ¬ 0 < mx S z i := fun m => ni (Or.inr ⟨⟨fun q => absurd q kz, fun q => absurd q ki⟩, m⟩)
        have xz : 0 < dx S z := by
          rcases Int.lt_or_le 0 (dx S z) with q | q
          · exact q
          · exfalso
            apply mi
            rw [mx_d]
            unfold kup at kz
            have s1 := d_sg (dx S z) (dy S i)
            have s2 := d_sg (dy S z) (dx S i)
            have z1 : dx S z = 0 → dx S z * dy S i = 0 := by intro e; rw [e]; omega
            have z2 : dy S z = 0 → dy S z * dx S i = 0 := by intro e; rw [e]; omega
            generalize dx S z * dy S i = u at *
            generalize dy S z * dx S i = v at *
            omega
        refine ⟨xz, fun j J hj m => ?_⟩
        have yj : dy S j < 0 := by have := h1 j J; omega
        have kj : ¬ kup (dx S j) (dy S j) := by unfold kup; omega
        exact h2 j J (dKb_d.mpr (Or.inr ⟨⟨fun q => absurd q kz, fun q => absurd q kj⟩, m⟩))
    have Rz : zR (mP S) z := (sg z Z).mpr (by have := rz.1; omega)
    refine w_top K Z Rz ?_
    intro j J rj e
    have J' := at' j J e
    have := rz.2 j J' (right j J' rj)
    have l := lt j J ⟨fun _ => rj, fun _ => Rz⟩
    grind
  · have no : ∀ j, zL (mP S) j = true → zX (mP S) j = zX (mP S) z → ¬ zR (mP S) j := fun j J e r => some ⟨j, at' j J e, r⟩
    refine w_low K C Z no ?_
    intro j J e
    have J' := at' j J e
    have l := lt j J ⟨fun q => absurd q (no z Z rfl), fun q => absurd q (no j J e)⟩
    have nj := no j J e
    have nz := no z Z rfl
    rw [sg j J] at nj
    rw [sg z Z] at nz
    have b' := bj j J
    have m : ¬ 0 < mx S z j := by
      intro m
      have nd : ¬ dKb S z j := by
        rcases h with ⟨h1, _, _⟩ | ⟨_, h2⟩
        · exfalso; omega
        · exact h2 j J'
      rw [dKb_d] at nd
      by_cases kz : kup (dx S z) (dy S z)
      · by_cases kj : kup (dx S j) (dy S j)
        · exact nd (Or.inr ⟨⟨fun _ => kj, fun _ => kz⟩, m⟩)
        · exact nd (Or.inl ⟨kz, kj⟩)
      · by_cases kj : kup (dx S j) (dy S j)
        · rw [mx_d] at m
          unfold kup at kz kj
          have nu' := nu j J'
          have s1 := d_sg (dx S z) (dy S j)
          have s2 := d_sg (dy S z) (dx S j)
          have z1 : dx S z = 0 → dx S z * dy S j = 0 := by intro e; rw [e]; omega
          have z2 : dy S z = 0 → dy S z * dx S j = 0 := by intro e; rw [e]; omega
          generalize dx S z * dy S j = u at *
          generalize dy S z * dx S j = v at *
          omega
        · exact nd (Or.inr ⟨⟨fun q => absurd q kz, fun q => absurd q kj⟩, m⟩)
    grind
theorem b_node {S : mS} {x y : Int} {c : Nat → Rat} (K : zOK (mP S)) (C : zCirc (mP S) c) (by' : -16000 ≤ y ∧ y ≤ 16000) (off : ∀ g, mLv S g → c g ≠ 0 → ¬ zOn (mP S) g x y)
    {f z : Nat} (F : mLv S f) (f1 : S.2 2 f = x) (f2 : S.2 3 f < y) (hi : ∀ h, mLv S h → S.2 2 h = x → S.2 3 h < y → S.2 3 h ≤ S.2 3 f)
    (ab : ∀ q, mLv S q → S.2 2 q < x → x < S.2 2 (zB q) → 0 < zO (mP S) q x y → 0 < zO (mP S) q x (S.2 3 f))
    (nu : ∀ j, atP S f j → ¬ (dx S j = 0 ∧ 0 < dy S j)) (h : bfUp S f z) : zW (mP S) c z = zAR (mP S) c (40000 * x + y) (y : Rat) := by
  have Z := h.1
  rw [b_up K C nu h]
  have bf := K.1 f F
  simp only [mP] at bf
  have eX : zX (mP S) z = 40000 * x + S.2 3 f := by unfold zX; simp only [mP]; rw [Z.2.1, Z.2.2, f1]
  have eY : zY (mP S) z = S.2 3 f := Z.2.2
  rw [eX, eY]
  rw [← w_sum K C (x := x) (y := S.2 3 f) bf.2 (fun g G cz e1 e2 q => by
    -- an upright one from or through the node on, up
    have top : ∃ t, mLv S t ∧ (t = g ∨ t = zB g) ∧ S.2 2 t = x ∧ S.2 3 t = max (S.2 3 g) (S.2 3 (zB g)) := by
      rcases Int.le_total (S.2 3 g) (S.2 3 (zB g)) with w | w
      · exact ⟨zB g, mLv_B G, Or.inr rfl, by omega, by omega⟩
      · exact ⟨g, G, Or.inl rfl, by omega, by omega⟩
    obtain ⟨t, T, _, t1, t2⟩ := top
    by_cases lt : S.2 3 t < y
    · have := hi t T t1 lt; omega
    · refine off g G cz ⟨?_, ?_, ?_⟩
      · unfold zO; simp only [mP]; rw [← e1, e2]; grind
      · simp only [mP]; omega
      · simp only [mP]; omega)]
  rw [← w_sum K C (x := x) (y := y) by' (fun g G cz e1 e2 q => by
    refine off g G cz ⟨?_, ?_, ?_⟩
    · unfold zO; simp only [mP]; rw [← e1, e2]; grind
    · simp only [mP]; omega
    · simp only [mP]; omega)]
  refine zS_congr fun g _ => ?_
  by_cases G : zL (mP S) g = true
  · by_cases cz : c g = 0
    · rw [zw_0 cz]
      by_cases a : ovr S x (S.2 3 f) g <;> by_cases b : ovr S x y g <;> simp only [zI_pos, zI_neg, a, b, not_false_eq_true]
    · have key : ovr S x (S.2 3 f) g ↔ ovr S x y g := by
        have G' : mLv S g := G
        have Q : mLv S (lo S g) := by unfold lo; split; exact G'; exact mLv_B G'
        have oq : zOn (mP S) (lo S g) x y ↔ zOn (mP S) g x y := by
          unfold lo; split
          · exact Iff.rfl
          · exact zOn_B _ _ _ _
        have of := off g G cz
        rw [← oq] at of
        unfold ovr
        generalize lo S g = q at *
        have zz : ∀ y, zc (S.2 2 q) (S.2 3 q) (S.2 2 (zB q)) (S.2 3 (zB q)) x y = zO (mP S) q x y := fun _ => rfl
        rw [zz, zz]
        have inc : zO (mP S) q x y = zO (mP S) q x (S.2 3 f) + (S.2 2 (zB q) - S.2 2 q) * (y - S.2 3 f) := by
          unfold zO; simp only [mP]; grind
        constructor
        · rintro ⟨h1, h2, h3⟩
          refine ⟨h1, h2, ?_⟩
          have rq := zR_dx K Q (by omega)
          have bq := K.1 q Q
          have bq' := K.1 (zB q) (mLv_B Q)
          simp only [mP] at bq bq'
          have g1 : zX (mP S) q = 40000 * S.2 2 q + S.2 3 q := rfl
          have g2 : zX (mP S) (zB q) = 40000 * S.2 2 (zB q) + S.2 3 (zB q) := rfl
          have at0 : S.2 2 q = x → ∀ y, zO (mP S) q x y = (S.2 2 (zB q) - S.2 2 q) * (y - S.2 3 q) := by
            intro e y
            unfold zO; simp only [mP]; rw [e]; grind
          rcases Int.lt_trichotomy (zO (mP S) q x y) 0 with w | w | w
          · exact w
          · exfalso
            by_cases e : S.2 2 q = x
            · have := at0 e y
              rw [w] at this
              rcases Int.mul_eq_zero.mp this.symm with k | k
              · omega
              · refine of ⟨w, ?_, ?_⟩
                · simp only [mP]; omega
                · simp only [mP]; omega
            · exact of (zOn_of K Q rq x y (by omega) (by omega) ((zO_zero K Q rq x y).mp w))
          · exfalso
            by_cases e : S.2 2 q = x
            · have a1 := at0 e y
              have a2 := at0 e (S.2 3 f)
              have s1 := d_sg (S.2 2 (zB q) - S.2 2 q) (y - S.2 3 q)
              have lt : S.2 3 q < y := by
                rcases Int.lt_trichotomy (S.2 3 q) y with k | k | k
                · exact k
                · rw [k, Int.sub_self, Int.mul_zero] at a1; omega
                · have := s1.2.2.1 (by omega) (by omega); omega
              have := hi q Q e lt
              have nn := Int.mul_nonneg (show 0 ≤ S.2 2 (zB q) - S.2 2 q by omega) (show 0 ≤ S.2 3 f - S.2 3 q by omega)
              omega
            · have := ab q Q (by omega) h2 w
              omega
        · rintro ⟨h1, h2, h3⟩
          refine ⟨h1, h2, ?_⟩
          have := Int.mul_pos (show 0 < S.2 2 (zB q) - S.2 2 q by omega) (show 0 < y - S.2 3 f by omega)
          omega
      by_cases b : ovr S x y g
      · rw [zI_pos b, zI_pos (key.mpr b)]
      · rw [zI_neg b, zI_neg (fun k => b (key.mp k))]
  · rw [zw_dead G]
    by_cases a : ovr S x (S.2 3 f) g <;> by_cases b : ovr S x y g <;> simp only [zI_pos, zI_neg, a, b, not_false_eq_true]
