/-! the plane sheared: x times 40000 plus y tells points apart, no segment is upright -/
def zX (P : zP) (h : Nat) : Int := 40000 * P.2.1 h + P.2.2 h
def zY (P : zP) (h : Nat) : Int := P.2.2 h
def zR (P : zP) (h : Nat) : Prop := zX P h < zX P (zB h)
def zm (P : zP) (h : Nat) : Rat := ((zY P (zB h) : Rat) - (zY P h : Rat)) / ((zX P (zB h) : Rat) - (zX P h : Rat))
def zf (P : zP) (h : Nat) (x : Rat) : Rat := (zY P h : Rat) + zm P h * (x - (zX P h : Rat))
def zxl (P : zP) (h : Nat) : Int := min (zX P h) (zX P (zB h))
def zxr (P : zP) (h : Nat) : Int := max (zX P h) (zX P (zB h))
theorem zX_ne {P : zP} (K : zOK P) {h : Nat} (H : zL P h = true) : zX P h ≠ zX P (zB h) := by
  have h1 := K.1 h H
  have h2 := K.1 (zB h) (by rw [zL_B]; exact H)
  have h3 := K.2.1 h H
  unfold zX
  omega
theorem zX_inj {P : zP} (K : zOK P) {g h : Nat} (G : zL P g = true) (H : zL P h = true) (e : zX P g = zX P h) : P.2.1 g = P.2.1 h ∧ P.2.2 g = P.2.2 h := by
  have h1 := K.1 h H
  have h2 := K.1 g G
  unfold zX at e
  omega
theorem zR_or {P : zP} (K : zOK P) {h : Nat} (H : zL P h = true) : zR P h ∨ zR P (zB h) := by
  have := zX_ne K H
  unfold zR
  rw [zB_B]
  omega
theorem zR_not {P : zP} {h : Nat} (H : zR P h) : ¬ zR P (zB h) := by
  unfold zR at *
  rw [zB_B]
  omega
theorem zRat_lt {a b : Int} : ((a : Rat) < (b : Rat)) ↔ a < b := Rat.intCast_lt_intCast
theorem zRat_le {a b : Int} : ((a : Rat) ≤ (b : Rat)) ↔ a ≤ b := Rat.intCast_le_intCast
theorem zRat_eq {a b : Int} : ((a : Rat) = (b : Rat)) ↔ a = b := Rat.intCast_inj
theorem zm_eq {P : zP} (K : zOK P) {h : Nat} (H : zL P h = true) : zm P h * ((zX P (zB h) : Rat) - (zX P h : Rat)) = (zY P (zB h) : Rat) - (zY P h : Rat) := by
  unfold zm
  refine Rat.div_mul_cancel ?_
  intro e
  have : (zX P (zB h) : Rat) = (zX P h : Rat) := by grind
  exact zX_ne K H (zRat_eq.mp this).symm
theorem zm_B {P : zP} (K : zOK P) {h : Nat} (H : zL P h = true) : zm P (zB h) = zm P h := by
  have h1 := zm_eq K H
  have h2 := zm_eq K (h := zB h) (by rw [zL_B]; exact H)
  rw [zB_B] at h2
  have h3 : (zX P (zB h) : Rat) - (zX P h : Rat) ≠ 0 := by
    intro e
    have : (zX P (zB h) : Rat) = (zX P h : Rat) := by grind
    exact zX_ne K H (zRat_eq.mp this).symm
  have h4 : (zm P (zB h) - zm P h) * ((zX P (zB h) : Rat) - (zX P h : Rat)) = 0 := by grind
  rcases Rat.mul_eq_zero.mp h4 with e | e
  · grind
  · exact absurd e h3
theorem zf_self (P : zP) (h : Nat) : zf P h (zX P h : Rat) = (zY P h : Rat) := by unfold zf; grind
theorem zf_end {P : zP} (K : zOK P) {h : Nat} (H : zL P h = true) : zf P h (zX P (zB h) : Rat) = (zY P (zB h) : Rat) := by
  have := zm_eq K H
  unfold zf; grind
theorem zf_B {P : zP} (K : zOK P) {h : Nat} (H : zL P h = true) (x : Rat) : zf P (zB h) x = zf P h x := by
  have h1 := zm_eq K H
  have h2 := zm_B K H
  unfold zf
  rw [h2]
  grind
theorem zxl_B (P : zP) (h : Nat) : zxl P (zB h) = zxl P h := by unfold zxl; rw [zB_B]; omega
theorem zxr_B (P : zP) (h : Nat) : zxr P (zB h) = zxr P h := by unfold zxr; rw [zB_B]; omega
theorem zxl_R {P : zP} {h : Nat} (H : zR P h) : zxl P h = zX P h := by unfold zxl zR at *; omega
theorem zxr_R {P : zP} {h : Nat} (H : zR P h) : zxr P h = zX P (zB h) := by unfold zxr zR at *; omega
theorem zxl_N {P : zP} {h : Nat} (H : ¬ zR P h) : zxl P h = zX P (zB h) := by unfold zxl zR at *; omega
theorem zxr_N {P : zP} {h : Nat} (H : ¬ zR P h) : zxr P h = zX P h := by unfold zxr zR at *; omega
theorem zxl_lt {P : zP} (K : zOK P) {h : Nat} (H : zL P h = true) : zxl P h < zxr P h := by
  have := zX_ne K H
  unfold zxl zxr
  omega
/-- the side of a half tells above from below -/
theorem zO_key {P : zP} (K : zOK P) {h : Nat} (H : zL P h = true) (x y : Int) : (40000 : Rat) * ((zO P h x y : Int) : Rat) = ((zX P (zB h) : Rat) - (zX P h : Rat)) * ((y : Rat) - zf P h ((40000 * x + y : Int) : Rat)) := by
  have h1 := zm_eq K H
  unfold zf
  unfold zO
  unfold zX zY at *
  simp only [Rat.intCast_add, Rat.intCast_mul, Rat.intCast_sub, Rat.intCast_ofNat] at *
  grind
theorem zO_pos {P : zP} (K : zOK P) {h : Nat} (H : zL P h = true) (R : zR P h) (x y : Int) : 0 < zO P h x y ↔ zf P h ((40000 * x + y : Int) : Rat) < (y : Rat) := by
  have h1 := zO_key K H x y
  have hd : 0 < (zX P (zB h) : Rat) - (zX P h : Rat) := by have := zRat_lt.mpr R; grind
  have h2 := Rat.mul_pos_iff_of_pos_left (b := (y : Rat) - zf P h ((40000 * x + y : Int) : Rat)) hd
  rw [← h1] at h2
  have h3 := Rat.mul_pos_iff_of_pos_left (a := 40000) (b := ((zO P h x y : Int) : Rat)) (by grind)
  rw [h3] at h2
  rw [← Rat.intCast_pos, h2]
  grind
theorem zO_neg {P : zP} (K : zOK P) {h : Nat} (H : zL P h = true) (R : zR P h) (x y : Int) : zO P h x y < 0 ↔ (y : Rat) < zf P h ((40000 * x + y : Int) : Rat) := by
  have h1 := zO_key K H x y
  have hd : 0 < (zX P (zB h) : Rat) - (zX P h : Rat) := by have := zRat_lt.mpr R; grind
  have h2 := Rat.mul_neg_iff_of_pos_left (b := (y : Rat) - zf P h ((40000 * x + y : Int) : Rat)) hd
  rw [← h1] at h2
  have h3 := Rat.mul_neg_iff_of_pos_left (a := 40000) (b := ((zO P h x y : Int) : Rat)) (by grind)
  rw [h3] at h2
  rw [← Rat.intCast_neg_iff, h2]
  grind
theorem zO_zero {P : zP} (K : zOK P) {h : Nat} (H : zL P h = true) (R : zR P h) (x y : Int) : zO P h x y = 0 ↔ (y : Rat) = zf P h ((40000 * x + y : Int) : Rat) := by
  have h1 := zO_pos K H R x y
  have h2 := zO_neg K H R x y
  constructor
  · intro e
    have a : ¬ 0 < zO P h x y := by omega
    have b : ¬ zO P h x y < 0 := by omega
    rw [h1] at a
    rw [h2] at b
    grind
  · intro e
    have a : ¬ 0 < zO P h x y := by rw [h1]; grind
    have b : ¬ zO P h x y < 0 := by rw [h2]; grind
    omega
theorem zO_B (P : zP) (h : Nat) (x y : Int) : zO P (zB h) x y = - zO P h x y := by
  unfold zO
  rw [zB_B]
  grind
/-- on the line and between the ends: on the segment -/
theorem zOn_of {P : zP} (K : zOK P) {h : Nat} (H : zL P h = true) (R : zR P h) (x y : Int) (h1 : zX P h ≤ 40000 * x + y) (h2 : 40000 * x + y ≤ zX P (zB h)) (e : (y : Rat) = zf P h ((40000 * x + y : Int) : Rat)) : zOn P h x y := by
  have hd : 0 < (zX P (zB h) : Rat) - (zX P h : Rat) := by have := zRat_lt.mpr R; grind
  have hm := zm_eq K H
  obtain ⟨t, ht⟩ : ∃ t : Rat, t = (((40000 * x + y : Int) : Rat) - (zX P h : Rat)) / ((zX P (zB h) : Rat) - (zX P h : Rat)) := ⟨_, rfl⟩
  have ht1 : t * ((zX P (zB h) : Rat) - (zX P h : Rat)) = ((40000 * x + y : Int) : Rat) - (zX P h : Rat) := by rw [ht]; exact Rat.div_mul_cancel (by grind)
  have g1 : (zX P h : Rat) ≤ ((40000 * x + y : Int) : Rat) := zRat_le.mpr h1
  have g2 : ((40000 * x + y : Int) : Rat) ≤ (zX P (zB h) : Rat) := zRat_le.mpr h2
  have t0 : 0 ≤ t := Rat.le_of_mul_le_mul_right (c := (zX P (zB h) : Rat) - (zX P h : Rat)) (by rw [ht1]; grind) hd
  have t1 : t ≤ 1 := Rat.le_of_mul_le_mul_right (c := (zX P (zB h) : Rat) - (zX P h : Rat)) (by rw [ht1]; grind) hd
  have ey : (y : Rat) - (P.2.2 h : Rat) = t * ((P.2.2 (zB h) : Rat) - (P.2.2 h : Rat)) := by
    unfold zf at e
    rw [← ht1] at e
    unfold zY at *
    grind
  have ex : (x : Rat) - (P.2.1 h : Rat) = t * ((P.2.1 (zB h) : Rat) - (P.2.1 h : Rat)) := by
    unfold zX at ht1
    simp only [Rat.intCast_add, Rat.intCast_mul, Rat.intCast_ofNat] at ht1
    grind
  have bet : ∀ a b z : Int, (z : Rat) - (a : Rat) = t * ((b : Rat) - (a : Rat)) → min a b ≤ z ∧ z ≤ max a b := by
    intro a b z ez
    by_cases c : a ≤ b
    · have c' : 0 ≤ (b : Rat) - (a : Rat) := by have := zRat_le.mpr c; grind
      have p1 := Rat.mul_nonneg t0 c'
      have p2 := Rat.mul_nonneg (a := 1 - t) (by grind) c'
      have q1 : (a : Rat) ≤ (z : Rat) := by grind
      have q2 : (z : Rat) ≤ (b : Rat) := by grind
      have q1 := zRat_le.mp q1
      have q2 := zRat_le.mp q2
      omega
    · have c' : 0 ≤ (a : Rat) - (b : Rat) := by have := zRat_lt.mpr (Int.not_le.mp c); grind
      have p1 := Rat.mul_nonneg t0 c'
      have p2 := Rat.mul_nonneg (a := 1 - t) (by grind) c'
      have q1 : (b : Rat) ≤ (z : Rat) := by grind
      have q2 : (z : Rat) ≤ (a : Rat) := by grind
      have q1 := zRat_le.mp q1
      have q2 := zRat_le.mp q2
      omega
  exact ⟨(zO_zero K H R x y).mpr e, bet _ _ _ ex, bet _ _ _ ey⟩
theorem zEnd_B (P : zP) (h : Nat) (x y : Int) : zEnd P (zB h) x y ↔ zEnd P h x y := by
  unfold zEnd
  rw [zB_B]
  exact Or.comm
theorem zOn_B (P : zP) (h : Nat) (x y : Int) : zOn P (zB h) x y ↔ zOn P h x y := by
  unfold zOn
  rw [zO_B, zB_B]
  constructor <;> (intro h; omega)
theorem zMeet_B1 (P : zP) (g h : Nat) : zMeet P (zB g) h → zMeet P g h := by
  unfold zMeet
  simp only [zOn_B, zEnd_B, zO_B, zB_B]
  intro H
  rcases H with H | H | H | H | H | H
  · exact Or.inl H
  · exact Or.inr (Or.inl H)
  · exact Or.inr (Or.inr (Or.inr (Or.inl H)))
  · exact Or.inr (Or.inr (Or.inl H))
  · exact Or.inr (Or.inr (Or.inr (Or.inr (Or.inl H))))
  · refine Or.inr (Or.inr (Or.inr (Or.inr (Or.inr ⟨?_, ?_⟩))))
    · have := H.1; grind
    · have := H.2; grind
theorem zMeet_B2 (P : zP) (g h : Nat) : zMeet P g (zB h) → zMeet P g h := by
  unfold zMeet
  simp only [zOn_B, zEnd_B, zO_B, zB_B]
  intro H
  rcases H with H | H | H | H | H | H
  · exact Or.inr (Or.inl H)
  · exact Or.inl H
  · exact Or.inr (Or.inr (Or.inl H))
  · exact Or.inr (Or.inr (Or.inr (Or.inl H)))
  · exact Or.inr (Or.inr (Or.inr (Or.inr (Or.inl H.symm))))
  · refine Or.inr (Or.inr (Or.inr (Or.inr (Or.inr ⟨?_, ?_⟩))))
    · have := H.1; grind
    · have := H.2; grind
theorem zNM {P : zP} (K : zOK P) {g h : Nat} (G : zL P g = true) (H : zL P h = true) (hne : g / 2 ≠ h / 2) : ¬ zMeet P g h := by
  intro M
  have ev : ∀ a : Nat, a % 2 = 0 ∨ zB a % 2 = 0 := by intro a; unfold zB; split <;> omega
  rcases ev g with eg | eg <;> rcases ev h with eh | eh
  · exact K.2.2 g h G H eg eh (by omega) M
  · exact K.2.2 g (zB h) G (by rw [zL_B]; exact H) eg eh (by have := zB_half h; omega) (zMeet_B2 P g (zB h) (by rw [zB_B]; exact M))
  · exact K.2.2 (zB g) h (by rw [zL_B]; exact G) H eg eh (by have := zB_half g; omega) (zMeet_B1 P (zB g) h (by rw [zB_B]; exact M))
  · exact K.2.2 (zB g) (zB h) (by rw [zL_B]; exact G) (by rw [zL_B]; exact H) eg eh (by have := zB_half g; have := zB_half h; omega) (zMeet_B1 P (zB g) (zB h) (by rw [zB_B]; exact zMeet_B2 P g (zB h) (by rw [zB_B]; exact M)))
/-- the left end of one on the other is an end of it -/
theorem z_touch {P : zP} (K : zOK P) {g h q : Nat} (G : zL P g = true) (H : zL P h = true) (hne : g / 2 ≠ h / 2) (R : zR P g) (hq : q = h ∨ q = zB h) (h1 : zX P g ≤ zX P q) (h2 : zX P q ≤ zX P (zB g)) (e : (zY P q : Rat) = zf P g (zX P q : Rat)) : zX P q = zX P g ∨ zX P q = zX P (zB g) := by
  have on : zOn P g (P.2.1 q) (P.2.2 q) := zOn_of K G R _ _ h1 h2 e
  have en : zEnd P g (P.2.1 q) (P.2.2 q) := by
    by_cases c : zEnd P g (P.2.1 q) (P.2.2 q)
    · exact c
    · refine absurd ?_ (zNM K G H hne)
      rcases hq with rfl | rfl
      · exact Or.inl ⟨on, c⟩
      · exact Or.inr (Or.inl ⟨on, c⟩)
  rcases en with ⟨a, b⟩ | ⟨a, b⟩
  · left; unfold zX; rw [a, b]
  · right; unfold zX; rw [a, b]
theorem zX_lit {P : zP} {h : Nat} : zX P h = 40000 * P.2.1 h + P.2.2 h := rfl
set_option maxHeartbeats 4000000 in
/-- two segments over a common stretch do not cross, and touch at most at a common end -/
theorem z_nc0 {P : zP} (K : zOK P) {g h : Nat} (G : zL P g = true) (H : zL P h = true) (hne : g / 2 ≠ h / 2) (Rg : zR P g) (Rh : zR P h) {L R : Int} (eL : L = max (zX P g) (zX P h)) (eR : R = min (zX P (zB g)) (zX P (zB h))) (hLR : L < R) :
    ((0 ≤ zf P g (L : Rat) - zf P h (L : Rat) ∧ 0 ≤ zf P g (R : Rat) - zf P h (R : Rat)) ∨ (zf P g (L : Rat) - zf P h (L : Rat) ≤ 0 ∧ zf P g (R : Rat) - zf P h (R : Rat) ≤ 0)) ∧
    (zf P g (L : Rat) - zf P h (L : Rat) = 0 → zX P g = zX P h) ∧ (zf P g (R : Rat) - zf P h (R : Rat) = 0 → zX P (zB g) = zX P (zB h)) ∧
    ¬ (zf P g (L : Rat) - zf P h (L : Rat) = 0 ∧ zf P g (R : Rat) - zf P h (R : Rat) = 0) := by
  have eqL : zf P g (L : Rat) - zf P h (L : Rat) = 0 → zX P g = zX P h := by
    intro e
    by_cases c : zX P g ≤ zX P h
    · have eL' : L = zX P h := by omega
      rw [eL', zf_self] at e
      rcases z_touch K G H hne Rg (q := h) (Or.inl rfl) c (by omega) (by grind) with q | q <;> omega
    · have eL' : L = zX P g := by omega
      rw [eL', zf_self] at e
      rcases z_touch K H G (Ne.symm hne) Rh (q := g) (Or.inl rfl) (by omega) (by omega) (by grind) with q | q <;> omega
  have eqR : zf P g (R : Rat) - zf P h (R : Rat) = 0 → zX P (zB g) = zX P (zB h) := by
    intro e
    by_cases c : zX P (zB h) ≤ zX P (zB g)
    · have eR' : R = zX P (zB h) := by omega
      rw [eR', zf_end K H] at e
      rcases z_touch K G H hne Rg (q := zB h) (Or.inr rfl) (by omega) c (by grind) with q | q <;> omega
    · have eR' : R = zX P (zB g) := by omega
      rw [eR', zf_end K G] at e
      rcases z_touch K H G (Ne.symm hne) Rh (q := zB g) (Or.inr rfl) (by omega) (by omega) (by grind) with q | q <;> omega
  -- crossing: one above the other left, below it right
  have cross : ∀ (a b : Nat), zL P a = true → zL P b = true → a / 2 ≠ b / 2 → zR P a → zR P b → zX P a ≤ L → zX P b ≤ L → R ≤ zX P (zB a) → R ≤ zX P (zB b) → 0 < zf P a (L : Rat) - zf P b (L : Rat) → zf P a (R : Rat) - zf P b (R : Rat) < 0 → False := by
    intro a b A B hab Ra Rb a1 b1 a2 b2 d1 d2
    have hlr : (0 : Rat) < (R : Rat) - (L : Rat) := by have := zRat_lt.mpr hLR; grind
    obtain ⟨s, hs⟩ : ∃ s : Rat, s = zm P b - zm P a := ⟨_, rfl⟩
    have aff : ∀ x z : Rat, (zf P a x - zf P b x) - (zf P a z - zf P b z) = s * (z - x) := by
      intro x z
      unfold zf
      grind
    have s0 : 0 < s := by
      have h1 := aff (L : Rat) (R : Rat)
      have h2 : 0 < s * ((R : Rat) - (L : Rat)) := by grind
      exact (Rat.mul_pos_iff_of_pos_right hlr).mp h2
    have left : ∀ x : Int, x ≤ L → 0 < zf P a (x : Rat) - zf P b (x : Rat) := by
      intro x hx
      have h1 := aff (x : Rat) (L : Rat)
      have h2 : 0 ≤ (L : Rat) - (x : Rat) := by have := zRat_le.mpr hx; grind
      have h3 := Rat.mul_nonneg (Rat.le_of_lt s0) h2
      grind
    have right : ∀ x : Int, R ≤ x → zf P a (x : Rat) - zf P b (x : Rat) < 0 := by
      intro x hx
      have h1 := aff (R : Rat) (x : Rat)
      have h2 : 0 ≤ (x : Rat) - (R : Rat) := by have := zRat_le.mpr hx; grind
      have h3 := Rat.mul_nonneg (Rat.le_of_lt s0) h2
      grind
    have p1 := left _ a1
    have p2 := left _ b1
    have p3 := right _ a2
    have p4 := right _ b2
    rw [zf_self] at p1 p2
    rw [zf_end K A] at p3
    rw [zf_end K B] at p4
    refine zNM K A B hab (Or.inr (Or.inr (Or.inr (Or.inr (Or.inr ⟨?_, ?_⟩)))))
    · have q1 : zO P a (P.2.1 b) (P.2.2 b) < 0 := (zO_neg K A Ra _ _).mpr (by rw [← zX_lit]; unfold zY at p2; grind)
      have q2 : 0 < zO P a (P.2.1 (zB b)) (P.2.2 (zB b)) := (zO_pos K A Ra _ _).mpr (by rw [← zX_lit]; unfold zY at p4; grind)
      exact Int.mul_neg_of_neg_of_pos q1 q2
    · have q1 : 0 < zO P b (P.2.1 a) (P.2.2 a) := (zO_pos K B Rb _ _).mpr (by rw [← zX_lit]; unfold zY at p1; grind)
      have q2 : zO P b (P.2.1 (zB a)) (P.2.2 (zB a)) < 0 := (zO_neg K B Rb _ _).mpr (by rw [← zX_lit]; unfold zY at p3; grind)
      exact Int.mul_neg_of_pos_of_neg q1 q2
  refine ⟨?_, eqL, eqR, ?_⟩
  · have c1 := cross g h G H hne Rg Rh (by omega) (by omega) (by omega) (by omega)
    have c2 := cross h g H G (Ne.symm hne) Rh Rg (by omega) (by omega) (by omega) (by omega)
    grind
  · intro ⟨e1, e2⟩
    have q1 := zX_inj K G H (eqL e1)
    have q2 := zX_inj K (g := zB g) (h := zB h) (by rw [zL_B]; exact G) (by rw [zL_B]; exact H) (eqR e2)
    exact zNM K G H hne (Or.inr (Or.inr (Or.inr (Or.inr (Or.inl ⟨Or.inl ⟨q1.1, q1.2⟩, Or.inr ⟨q2.1, q2.2⟩⟩)))))
/-- the right-going half of a segment -/
def zr (P : zP) (h : Nat) : Nat := if zX P h < zX P (zB h) then h else zB h
theorem zr_or (P : zP) (h : Nat) : zr P h = h ∨ zr P h = zB h := by unfold zr; split <;> simp
theorem zr_half (P : zP) (h : Nat) : zr P h / 2 = h / 2 := by
  rcases zr_or P h with e | e <;> rw [e]
  exact zB_half h
theorem zr_L {P : zP} {h : Nat} (H : zL P h = true) : zL P (zr P h) = true := by
  rcases zr_or P h with e | e <;> rw [e]
  · exact H
  · rw [zL_B]; exact H
theorem zr_R {P : zP} (K : zOK P) {h : Nat} (H : zL P h = true) : zR P (zr P h) := by
  unfold zr
  split
  · assumption
  · rcases zR_or K H with e | e
    · contradiction
    · exact e
theorem zr_f {P : zP} (K : zOK P) {h : Nat} (H : zL P h = true) (x : Rat) : zf P (zr P h) x = zf P h x := by
  rcases zr_or P h with e | e <;> rw [e]
  exact zf_B K H x
theorem zr_xl {P : zP} (K : zOK P) {h : Nat} (H : zL P h = true) : zX P (zr P h) = zxl P h := by
  have := zxl_R (zr_R K H)
  rw [← this]
  rcases zr_or P h with e | e <;> rw [e]
  exact zxl_B P h
theorem zr_xr {P : zP} (K : zOK P) {h : Nat} (H : zL P h = true) : zX P (zB (zr P h)) = zxr P h := by
  have := zxr_R (zr_R K H)
  rw [← this]
  rcases zr_or P h with e | e <;> rw [e]
  exact zxr_B P h
def zM (P : zP) (h : Nat) (k : Int) : Rat := zf P h (k : Rat) + zf P h ((k + 1 : Int) : Rat)
theorem zM_B {P : zP} (K : zOK P) {h : Nat} (H : zL P h = true) (k : Int) : zM P (zB h) k = zM P h k := by unfold zM; rw [zf_B K H, zf_B K H]
set_option maxHeartbeats 4000000 in
/-- over a strip one is above the other, and so over all that they have in common -/
theorem z_strip {P : zP} (K : zOK P) {g h : Nat} (G : zL P g = true) (H : zL P h = true) (hne : g / 2 ≠ h / 2) {k : Int} (g1 : zxl P g ≤ k) (g2 : k < zxr P g) (h1 : zxl P h ≤ k) (h2 : k < zxr P h) {x : Rat} (x1 : (zxl P g : Rat) ≤ x) (x2 : (zxl P h : Rat) ≤ x) (x3 : x ≤ (zxr P g : Rat)) (x4 : x ≤ (zxr P h : Rat)) :
    ((zM P h k < zM P g k ∧ 0 ≤ zf P g x - zf P h x) ∨ (zM P g k < zM P h k ∧ zf P g x - zf P h x ≤ 0)) ∧ (zf P g x = zf P h x → (x = (zxl P g : Rat) ∧ x = (zxl P h : Rat)) ∨ (x = (zxr P g : Rat) ∧ x = (zxr P h : Rat))) := by
  obtain ⟨L, eL⟩ : ∃ L : Int, L = max (zxl P g) (zxl P h) := ⟨_, rfl⟩
  obtain ⟨R, eR⟩ : ∃ R : Int, R = min (zxr P g) (zxr P h) := ⟨_, rfl⟩
  have hLR : L < R := by omega
  have nc := z_nc0 K (zr_L G) (zr_L H) (by rw [zr_half, zr_half]; exact hne) (zr_R K G) (zr_R K H) (L := L) (R := R) (by rw [zr_xl K G, zr_xl K H]; exact eL) (by rw [zr_xr K G, zr_xr K H]; exact eR) hLR
  simp only [zr_f K G, zr_f K H, zr_xl K G, zr_xl K H, zr_xr K G, zr_xr K H] at nc
  obtain ⟨n1, n2, n3, n4⟩ := nc
  have hlr : (0 : Rat) < (R : Rat) - (L : Rat) := by have := zRat_lt.mpr hLR; grind
  obtain ⟨s, hs⟩ : ∃ s : Rat, s = zm P g - zm P h := ⟨_, rfl⟩
  have aff : ∀ x z : Rat, (zf P g x - zf P h x) - (zf P g z - zf P h z) = s * (x - z) := by
    intro x z
    unfold zf
    grind
  obtain ⟨D, hD⟩ : ∃ D : Rat → Rat, ∀ x, D x = zf P g x - zf P h x := ⟨fun x => zf P g x - zf P h x, fun _ => rfl⟩
  simp only [← hD] at aff n1 n2 n3 n4 ⊢
  have mix : ∀ x : Rat, ((R : Rat) - (L : Rat)) * D x = ((R : Rat) - x) * D L + (x - (L : Rat)) * D R := by
    intro x
    have a1 := aff x L
    have a2 := aff R L
    grind
  have hxL : (L : Rat) ≤ x := by
    rcases (show L = zxl P g ∨ L = zxl P h by omega) with e | e <;> rw [e] <;> assumption
  have hxR : x ≤ (R : Rat) := by
    rcases (show R = zxr P g ∨ R = zxr P h by omega) with e | e <;> rw [e] <;> assumption
  have kL : (L : Rat) ≤ (k : Rat) := zRat_le.mpr (by omega)
  have kR : ((k + 1 : Int) : Rat) ≤ (R : Rat) := zRat_le.mpr (by omega)
  have kk : ((k + 1 : Int) : Rat) = (k : Rat) + 1 := by simp
  have hM : zM P g k - zM P h k = D (k : Rat) + D ((k + 1 : Int) : Rat) := by
    unfold zM
    rw [hD, hD]
    grind
  -- the signs at x, k and k + 1 follow those at the ends
  have pos : ∀ z : Rat, (L : Rat) ≤ z → z ≤ (R : Rat) → 0 ≤ D L → 0 ≤ D R → 0 ≤ D z := by
    intro z z1 z2 d1 d2
    have m := mix z
    have p1 := Rat.mul_nonneg (a := (R : Rat) - z) (by grind) d1
    have p2 := Rat.mul_nonneg (a := z - (L : Rat)) (by grind) d2
    refine Rat.le_of_mul_le_mul_left (c := (R : Rat) - (L : Rat)) ?_ hlr
    grind
  have neg : ∀ z : Rat, (L : Rat) ≤ z → z ≤ (R : Rat) → D L ≤ 0 → D R ≤ 0 → D z ≤ 0 := by
    intro z z1 z2 d1 d2
    have m := mix z
    have p1 := Rat.mul_nonneg (a := (R : Rat) - z) (b := - D L) (by grind) (by grind)
    have p2 := Rat.mul_nonneg (a := z - (L : Rat)) (b := - D R) (by grind) (by grind)
    refine Rat.le_of_mul_le_mul_left (c := (R : Rat) - (L : Rat)) ?_ hlr
    grind
  have zer : ∀ z : Rat, (L : Rat) ≤ z → z ≤ (R : Rat) → D z = 0 → z = (L : Rat) ∧ D L = 0 ∨ z = (R : Rat) ∧ D R = 0 := by
    intro z z1 z2 d
    have m := mix z
    rw [d] at m
    rcases n1 with ⟨d1, d2⟩ | ⟨d1, d2⟩
    · have p1 := Rat.mul_nonneg (a := (R : Rat) - z) (by grind) d1
      have p2 := Rat.mul_nonneg (a := z - (L : Rat)) (by grind) d2
      have q1 : ((R : Rat) - z) * D L = 0 := by grind
      have q2 : (z - (L : Rat)) * D R = 0 := by grind
      rcases Rat.mul_eq_zero.mp q1 with e | e
      · right
        refine ⟨by grind, ?_⟩
        rcases Rat.mul_eq_zero.mp q2 with e2 | e2
        · grind
        · exact e2
      · left
        refine ⟨?_, e⟩
        rcases Rat.mul_eq_zero.mp q2 with e2 | e2
        · grind
        · exact absurd ⟨e, e2⟩ n4
    · have p1 := Rat.mul_nonneg (a := (R : Rat) - z) (b := - D L) (by grind) (by grind)
      have p2 := Rat.mul_nonneg (a := z - (L : Rat)) (b := - D R) (by grind) (by grind)
      have q1 : ((R : Rat) - z) * D L = 0 := by grind
      have q2 : (z - (L : Rat)) * D R = 0 := by grind
      rcases Rat.mul_eq_zero.mp q1 with e | e
      · right
        refine ⟨by grind, ?_⟩
        rcases Rat.mul_eq_zero.mp q2 with e2 | e2
        · grind
        · exact e2
      · left
        refine ⟨?_, e⟩
        rcases Rat.mul_eq_zero.mp q2 with e2 | e2
        · grind
        · exact absurd ⟨e, e2⟩ n4
  have nz : D (k : Rat) + D ((k + 1 : Int) : Rat) ≠ 0 ∨ (D (k : Rat) ≠ 0 ∧ D ((k + 1 : Int) : Rat) ≠ 0) ∨ True := Or.inr (Or.inr trivial)
  have both : ¬ (D (k : Rat) = 0 ∧ D ((k + 1 : Int) : Rat) = 0) := by
    intro ⟨e1, e2⟩
    have z1 := zer _ kL (by grind) e1
    have z2 := zer _ (by grind) kR e2
    rcases z1 with ⟨a, b⟩ | ⟨a, b⟩
    · rcases z2 with ⟨c, d⟩ | ⟨c, d⟩
      · grind
      · exact n4 ⟨b, d⟩
    · grind
  refine ⟨?_, ?_⟩
  · rcases n1 with ⟨d1, d2⟩ | ⟨d1, d2⟩
    · left
      refine ⟨?_, pos x hxL hxR d1 d2⟩
      have e1 := pos _ kL (by grind) d1 d2
      have e2 := pos _ (by grind) kR d1 d2
      grind
    · right
      refine ⟨?_, neg x hxL hxR d1 d2⟩
      have e1 := neg _ kL (by grind) d1 d2
      have e2 := neg _ (by grind) kR d1 d2
      grind
  · intro e
    have d0 : D x = 0 := by rw [hD]; grind
    rcases zer x hxL hxR d0 with ⟨a, b⟩ | ⟨a, b⟩
    · left
      have := n2 b
      have e1 : L = zxl P g := by omega
      have e2 : L = zxl P h := by omega
      exact ⟨by rw [a, e1], by rw [a, e2]⟩
    · right
      have := n3 b
      have e1 : R = zxr P g := by omega
      have e2 : R = zxr P h := by omega
      exact ⟨by rw [a, e1], by rw [a, e2]⟩
