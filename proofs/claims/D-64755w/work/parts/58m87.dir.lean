/-! directions round a point: three of them, and the order from a line on -/
theorem d_sg (x y : Int) : (0 < x → 0 < y → 0 < x * y) ∧ (x < 0 → 0 < y → x * y < 0) ∧ (0 < x → y < 0 → x * y < 0) ∧ (x < 0 → y < 0 → 0 < x * y) := by
  refine ⟨fun a b => Int.mul_pos a b, fun a b => Int.mul_neg_of_neg_of_pos a b, fun a b => Int.mul_neg_of_pos_of_neg a b, fun a b => Int.mul_pos_of_neg_of_neg a b⟩
/-- A, B, C: on which side of the line; p, q, r: the turns from w to j, j to k, k to w -/
def dR (A B p : Int) : Prop := (0 < A ∧ ¬ 0 < B) ∨ ((0 < A ↔ 0 < B) ∧ 0 < p)
theorem d_cyc {A B C p q r : Int} (a : A ≠ 0) (b : B ≠ 0) (c : C ≠ 0) (e : p * C + q * A + r * B = 0)
    (h1 : p = 0 → (0 < A ↔ ¬ 0 < B)) (h2 : q = 0 → (0 < B ↔ ¬ 0 < C)) (h3 : r = 0 → (0 < C ↔ ¬ 0 < A)) :
    (tt p < tt (-r) ∨ (tt p = tt (-r) ∧ q < 0)) ↔ ((dR C B (-q) ∧ dR B A (-p)) ∨ (dR B A (-p) ∧ dR A C (-r)) ∨ (dR A C (-r) ∧ dR C B (-q))) := by
  have s1 := d_sg p C
  have s2 := d_sg q A
  have s3 := d_sg r B
  have z1 : p = 0 → p * C = 0 := by intro h; rw [h]; omega
  have z2 : q = 0 → q * A = 0 := by intro h; rw [h]; omega
  have z3 : r = 0 → r * B = 0 := by intro h; rw [h]; omega
  generalize p * C = u at *
  generalize q * A = v at *
  generalize r * B = w at *
  unfold dR tt
  rcases Int.lt_trichotomy p 0 with hp | hp | hp <;> rcases Int.lt_trichotomy q 0 with hq | hq | hq <;> rcases Int.lt_trichotomy r 0 with hr | hr | hr <;>
  rcases Int.lt_or_gt_of_ne a with ha | ha <;> rcases Int.lt_or_gt_of_ne b with hb | hb <;> rcases Int.lt_or_gt_of_ne c with hc | hc <;>
  grind
theorem mLv_B {S : mS} {h : Nat} (H : mLv S h) : mLv S (zB h) := by unfold mLv at *; rw [zL_B]; exact H
theorem d_bd {S : mS} (K : zOK (mP S)) {h : Nat} (H : mLv S h) : ((-32000 ≤ S.2 2 (zB h) - S.2 2 h ∧ S.2 2 (zB h) - S.2 2 h ≤ 32000) ∧ (-32000 ≤ S.2 3 (zB h) - S.2 3 h ∧ S.2 3 (zB h) - S.2 3 h ≤ 32000)) ∧ ¬ (S.2 2 (zB h) - S.2 2 h = 0 ∧ S.2 3 (zB h) - S.2 3 h = 0) := by
  have h1 := K.1 h H
  have h2 := K.1 (zB h) (mLv_B H)
  have h3 := K.2.1 h H
  simp only [mP] at h1 h2 h3
  omega
def dfz (S : mS) (h : Nat) : Int := 40000 * (S.2 2 (zB h) - S.2 2 h) + (S.2 3 (zB h) - S.2 3 h)
def dfk (S : mS) (h : Nat) : Int := (S.2 2 (zB h) - S.2 2 h) + 40000 * (S.2 3 (zB h) - S.2 3 h)
theorem dfz_ne {S : mS} (K : zOK (mP S)) {h : Nat} (H : mLv S h) : dfz S h ≠ 0 := by have := d_bd K H; unfold dfz; omega
theorem dfk_ne {S : mS} (K : zOK (mP S)) {h : Nat} (H : mLv S h) : dfk S h ≠ 0 := by have := d_bd K H; unfold dfk; omega
theorem dfz_X (S : mS) (h : Nat) : dfz S h = zX (mP S) (zB h) - zX (mP S) h := by unfold dfz zX; simp only [mP]; omega
theorem dfz_R (S : mS) (h : Nat) : zR (mP S) h ↔ 0 < dfz S h := by rw [dfz_X]; unfold zR; omega
theorem mx_sw (S : mS) (i j : Nat) : mx S j i = - mx S i j := by unfold mx; grind
theorem zm_lt {S : mS} (K : zOK (mP S)) {a b : Nat} (A : mLv S a) (B : mLv S b) (s : 0 < dfz S a ↔ 0 < dfz S b) : zm (mP S) a < zm (mP S) b ↔ 0 < mx S a b := by
  have e1 := zm_eq K A
  have e2 := zm_eq K B
  have n1 := dfz_ne K A
  have n2 := dfz_ne K B
  have r1 := dfz_X S a
  have r2 := dfz_X S b
  have q1 : ((zX (mP S) (zB a) : Int) : Rat) - ((zX (mP S) a : Int) : Rat) = ((dfz S a : Int) : Rat) := by rw [r1]; exact (Rat.intCast_sub _ _).symm
  have q2 : ((zX (mP S) (zB b) : Int) : Rat) - ((zX (mP S) b : Int) : Rat) = ((dfz S b : Int) : Rat) := by rw [r2]; exact (Rat.intCast_sub _ _).symm
  rw [q1] at e1
  rw [q2] at e2
  have pz : 0 < dfz S a * dfz S b := by
    have := d_sg (dfz S a) (dfz S b)
    rcases Int.lt_or_gt_of_ne n1 with h | h <;> rcases Int.lt_or_gt_of_ne n2 with h' | h'
    · exact this.2.2.2 h h'
    · omega
    · omega
    · exact this.1 h h'
  have pq : (0 : Rat) < ((dfz S a * dfz S b : Int) : Rat) := by have := zRat_lt.mpr pz; exact this
  have key : (zm (mP S) b - zm (mP S) a) * ((dfz S a * dfz S b : Int) : Rat) = ((40000 * mx S a b : Int) : Rat) := by
    have e : (40000 * mx S a b : Int) = dfz S a * (zY (mP S) (zB b) - zY (mP S) b) - dfz S b * (zY (mP S) (zB a) - zY (mP S) a) := by
      unfold dfz mx zY; simp only [mP]; grind
    rw [e, Rat.intCast_sub, Rat.intCast_mul, Rat.intCast_mul, Rat.intCast_mul, Rat.intCast_sub, Rat.intCast_sub, ← e1, ← e2]
    grind
  have hh := Rat.mul_pos_iff_of_pos_left (b := zm (mP S) b - zm (mP S) a) pq
  rw [Rat.mul_comm, key] at hh
  have : (0 : Rat) < ((40000 * mx S a b : Int) : Rat) ↔ 0 < 40000 * mx S a b := zRat_lt (a := 0)
  rw [this] at hh
  constructor
  · intro h
    have : 0 < zm (mP S) b - zm (mP S) a := by grind
    have := hh.mpr this
    omega
  · intro h
    have := hh.mp (by omega)
    grind
theorem zLt_iff {S : mS} (K : zOK (mP S)) {a b : Nat} (A : mLv S a) (B : mLv S b) : zLt (mP S) a b ↔ dR (dfz S a) (dfz S b) (mx S a b) := by
  unfold zLt dR
  rw [dfz_R, dfz_R]
  constructor
  · rintro (h | h)
    · exact Or.inl h
    · exact Or.inr ⟨h.1, (zm_lt K A B h.1).mp h.2⟩
  · rintro (h | h)
    · exact Or.inl h
    · exact Or.inr ⟨h.1, (zm_lt K A B h.1).mpr h.2⟩
def dKb (S : mS) (a b : Nat) : Prop := kbf (S.2 2 (zB a) - S.2 2 a) (S.2 3 (zB a) - S.2 3 a) (S.2 2 (zB b) - S.2 2 b) (S.2 3 (zB b) - S.2 3 b)
theorem dfk_up {S : mS} (K : zOK (mP S)) {a : Nat} (A : mLv S a) : kup (S.2 2 (zB a) - S.2 2 a) (S.2 3 (zB a) - S.2 3 a) ↔ 0 < dfk S a := by
  have := d_bd K A
  unfold kup dfk
  omega
theorem dKb_iff {S : mS} (K : zOK (mP S)) {a b : Nat} (A : mLv S a) (B : mLv S b) : dKb S a b ↔ dR (dfk S a) (dfk S b) (mx S a b) := by
  unfold dKb kbf dR
  rw [dfk_up K A, dfk_up K B]
  exact Iff.rfl
/-- live, from the same point, and not the same -/
def dAt (S : mS) (a b : Nat) : Prop := (mLv S a ∧ mLv S b) ∧ (S.2 2 a = S.2 2 b ∧ S.2 3 a = S.2 3 b) ∧ a ≠ b
theorem dAt_sy {S : mS} {a b : Nat} (h : dAt S a b) : dAt S b a := ⟨⟨h.1.2, h.1.1⟩, ⟨h.2.1.1.symm, h.2.1.2.symm⟩, Ne.symm h.2.2⟩
theorem dAt_z {S : mS} (K : zOK (mP S)) {a b : Nat} (h : dAt S a b) : mx S a b = 0 → (0 < dfz S a ↔ ¬ 0 < dfz S b) := by
  intro e
  have := zLt_or K h.1.1 h.1.2 (by unfold zX; simp only [mP]; have := h.2.1; omega) h.2.2
  rw [zLt_iff K h.1.1 h.1.2, zLt_iff K h.1.2 h.1.1, mx_sw S a b, e] at this
  unfold dR at this
  omega
theorem dAt_k {S : mS} (K : zOK (mP S)) {a b : Nat} (h : dAt S a b) : mx S a b = 0 → (0 < dfk S a ↔ ¬ 0 < dfk S b) := by
  intro e
  have h1 := dAt_z K h e
  have n1 := dfz_ne K h.1.1
  have n2 := dfz_ne K h.1.2
  have n3 := dfk_ne K h.1.1
  have n4 := dfk_ne K h.1.2
  have key : dfz S a * dfk S b = dfz S b * dfk S a := by
    have : dfz S a * dfk S b - dfz S b * dfk S a = 1599999999 * mx S a b := by unfold dfz dfk mx; grind
    rw [e] at this
    omega
  have s1 := d_sg (dfz S a) (dfk S b)
  have s2 := d_sg (dfz S b) (dfk S a)
  rw [key] at s1
  generalize dfz S b * dfk S a = u at *
  omega
theorem d_befz {S : mS} (K : zOK (mP S)) {w j k : Nat} (h1 : dAt S w j) (h2 : dAt S j k) (h3 : dAt S k w) :
    bef S w j k ↔ ((zLt (mP S) k j ∧ zLt (mP S) j w) ∨ (zLt (mP S) j w ∧ zLt (mP S) w k) ∨ (zLt (mP S) w k ∧ zLt (mP S) k j)) := by
  have := d_cyc (A := dfz S w) (B := dfz S j) (C := dfz S k) (p := mx S w j) (q := mx S j k) (r := mx S k w) (dfz_ne K h1.1.1) (dfz_ne K h1.1.2) (dfz_ne K h3.1.1)
    (by unfold mx dfz; grind) (dAt_z K h1) (dAt_z K h2) (dAt_z K h3)
  rw [← mx_sw, ← mx_sw, ← mx_sw] at this
  rw [zLt_iff K h3.1.1 h1.1.2, zLt_iff K h1.1.2 h1.1.1, zLt_iff K h1.1.1 h3.1.1]
  exact this
theorem d_befk {S : mS} (K : zOK (mP S)) {w j k : Nat} (h1 : dAt S w j) (h2 : dAt S j k) (h3 : dAt S k w) :
    bef S w j k ↔ ((dKb S k j ∧ dKb S j w) ∨ (dKb S j w ∧ dKb S w k) ∨ (dKb S w k ∧ dKb S k j)) := by
  have := d_cyc (A := dfk S w) (B := dfk S j) (C := dfk S k) (p := mx S w j) (q := mx S j k) (r := mx S k w) (dfk_ne K h1.1.1) (dfk_ne K h1.1.2) (dfk_ne K h3.1.1)
    (by unfold mx dfk; grind) (dAt_k K h1) (dAt_k K h2) (dAt_k K h3)
  rw [← mx_sw, ← mx_sw, ← mx_sw] at this
  rw [dKb_iff K h3.1.1 h1.1.2, dKb_iff K h1.1.2 h1.1.1, dKb_iff K h1.1.1 h3.1.1]
  exact this
theorem dAt_zor {S : mS} (K : zOK (mP S)) {a b : Nat} (h : dAt S a b) : zLt (mP S) a b ∨ zLt (mP S) b a := zLt_or K h.1.1 h.1.2 (by unfold zX; simp only [mP]; have := h.2.1; omega) h.2.2
theorem dAt_kor {S : mS} (K : zOK (mP S)) {a b : Nat} (h : dAt S a b) : dKb S a b ∨ dKb S b a := by
  have h1 := dAt_k K h
  have n3 := dfk_ne K h.1.1
  have n4 := dfk_ne K h.1.2
  rw [dKb_iff K h.1.1 h.1.2, dKb_iff K h.1.2 h.1.1, mx_sw S a b]
  unfold dR
  generalize mx S a b = u at *
  omega
theorem dKb_as {S : mS} (K : zOK (mP S)) {a b : Nat} (A : mLv S a) (B : mLv S b) : dKb S a b → ¬ dKb S b a := by
  rw [dKb_iff K A B, dKb_iff K B A, mx_sw S a b]
  unfold dR
  generalize mx S a b = u
  omega
theorem zLt_as {P : zP} {a b : Nat} (h : zLt P a b) : ¬ zLt P b a := fun q => zLt_irr (zLt_trans h q)
