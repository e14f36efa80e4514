/-! what is straight below a place -/
def zh (S : mS) (g : Nat) (x : Int) : Rat := (S.2 3 g : Rat) + (((S.2 3 (zB g) - S.2 3 g : Int) : Rat) / ((S.2 2 (zB g) - S.2 2 g : Int) : Rat)) * ((x : Rat) - (S.2 2 g : Rat))
/-- strictly over x -/
def zst (S : mS) (g : Nat) (x : Int) : Prop := min (S.2 2 g) (S.2 2 (zB g)) < x ∧ x < max (S.2 2 g) (S.2 2 (zB g))
theorem zh_mul {S : mS} {g : Nat} {x : Int} (n : S.2 2 g ≠ S.2 2 (zB g)) : (zh S g x - (S.2 3 g : Rat)) * ((S.2 2 (zB g) - S.2 2 g : Int) : Rat) = ((S.2 3 (zB g) - S.2 3 g : Int) : Rat) * ((x : Rat) - (S.2 2 g : Rat)) := by
  have d0 : ((S.2 2 (zB g) - S.2 2 g : Int) : Rat) ≠ 0 := by
    intro e
    have := (zRat_eq (a := S.2 2 (zB g) - S.2 2 g) (b := 0)).mp e
    omega
  have h1 := Rat.div_mul_cancel (a := ((S.2 3 (zB g) - S.2 3 g : Int) : Rat)) d0
  unfold zh
  generalize ((S.2 3 (zB g) - S.2 3 g : Int) : Rat) / ((S.2 2 (zB g) - S.2 2 g : Int) : Rat) = q at *
  grind
theorem zh_B {S : mS} {g : Nat} {x : Int} (n : S.2 2 g ≠ S.2 2 (zB g)) : zh S (zB g) x = zh S g x := by
  have h1 := zh_mul (x := x) n
  have h2 := zh_mul (S := S) (g := zB g) (x := x) (by rw [zB_B]; exact Ne.symm n)
  rw [zB_B] at h2
  rw [Rat.intCast_sub, Rat.intCast_sub] at h1 h2
  have d0 : ((S.2 2 (zB g) : Int) : Rat) - ((S.2 2 g : Int) : Rat) ≠ 0 := by
    intro e
    exact n (zRat_eq.mp (by grind))
  have : (zh S (zB g) x - zh S g x) * (((S.2 2 (zB g) : Int) : Rat) - ((S.2 2 g : Int) : Rat)) = 0 := by grind
  rcases Rat.mul_eq_zero.mp this with h | h
  · grind
  · exact absurd h d0
theorem zh_O {S : mS} {g : Nat} {x : Int} (n : S.2 2 g ≠ S.2 2 (zB g)) (y : Int) : ((zO (mP S) g x y : Int) : Rat) = ((S.2 2 (zB g) - S.2 2 g : Int) : Rat) * ((y : Rat) - zh S g x) := by
  have h1 := zh_mul (x := x) n
  unfold zO
  simp only [mP]
  rw [Rat.intCast_sub, Rat.intCast_mul, Rat.intCast_mul, Rat.intCast_sub y, Rat.intCast_sub x]
  grind
theorem zh_ab {S : mS} {g : Nat} {x : Int} (n : S.2 2 g < S.2 2 (zB g)) (y : Int) : (0 < zO (mP S) g x y ↔ zh S g x < (y : Rat)) ∧ (zO (mP S) g x y < 0 ↔ (y : Rat) < zh S g x) := by
  have h1 := zh_O (S := S) (g := g) (x := x) (by omega) y
  have hd : (0 : Rat) < ((S.2 2 (zB g) - S.2 2 g : Int) : Rat) := (zRat_lt (a := 0)).mpr (by omega)
  have h2 := Rat.mul_pos_iff_of_pos_left (b := (y : Rat) - zh S g x) hd
  have h3 := Rat.mul_neg_iff_of_pos_left (b := (y : Rat) - zh S g x) hd
  rw [← h1] at h2 h3
  have c1 : ((0 : Rat) < ((zO (mP S) g x y : Int) : Rat)) ↔ 0 < zO (mP S) g x y := zRat_lt (a := 0)
  have c2 : (((zO (mP S) g x y : Int) : Rat) < 0) ↔ zO (mP S) g x y < 0 := zRat_lt (b := 0)
  rw [c1] at h2
  rw [c2] at h3
  constructor
  · rw [h2]; constructor <;> intro h <;> grind
  · rw [h3]; constructor <;> intro h <;> grind
/-- in the sheared plane, at the point of g straight over or under x -/
theorem zh_f {S : mS} (K : zOK (mP S)) {g : Nat} (G : mLv S g) {x : Int} (n : S.2 2 g ≠ S.2 2 (zB g)) (η : Rat) : (η - zf (mP S) g ((40000 * x : Int) + η)) * ((zX (mP S) (zB g) : Rat) - (zX (mP S) g : Rat)) = 40000 * (((S.2 2 (zB g) - S.2 2 g : Int) : Rat) * (η - zh S g x)) := by
  have h1 := zh_mul (x := x) n
  have h2 := zm_eq K G
  unfold zf
  have e1 : ((zX (mP S) (zB g) : Int) : Rat) = 40000 * ((S.2 2 (zB g) : Int) : Rat) + ((S.2 3 (zB g) : Int) : Rat) := by
    unfold zX; simp only [mP]; rw [Rat.intCast_add, Rat.intCast_mul]; rfl
  have e2 : ((zX (mP S) g : Int) : Rat) = 40000 * ((S.2 2 g : Int) : Rat) + ((S.2 3 g : Int) : Rat) := by
    unfold zX; simp only [mP]; rw [Rat.intCast_add, Rat.intCast_mul]; rfl
  have e3 : ((40000 * x : Int) : Rat) = 40000 * (x : Rat) := by rw [Rat.intCast_mul]; rfl
  have e4 : zY (mP S) g = S.2 3 g := rfl
  have e5 : zY (mP S) (zB g) = S.2 3 (zB g) := rfl
  rw [e1, e2, e4, e5] at h2
  rw [e1, e2, e3, e4]
  rw [Rat.intCast_sub, Rat.intCast_sub] at h1
  rw [Rat.intCast_sub]
  grind
theorem zX_q (S : mS) (g : Nat) : ((zX (mP S) g : Int) : Rat) = 40000 * ((S.2 2 g : Int) : Rat) + ((S.2 3 g : Int) : Rat) := by
  unfold zX; simp only [mP]; rw [Rat.intCast_add, Rat.intCast_mul]; rfl
theorem zR_dx {S : mS} (K : zOK (mP S)) {g : Nat} (G : mLv S g) (n : S.2 2 g < S.2 2 (zB g)) : zR (mP S) g := by
  have b1 := K.1 g G
  have b2 := K.1 (zB g) (mLv_B G)
  simp only [mP] at b1 b2
  unfold zR zX
  simp only [mP]
  omega
theorem zh_fe {S : mS} (K : zOK (mP S)) {g : Nat} (G : mLv S g) {x : Int} (n : S.2 2 g < S.2 2 (zB g)) : zf (mP S) g ((40000 * x : Int) + zh S g x) = zh S g x := by
  have h := zh_f K G (x := x) (by omega) (zh S g x)
  have r := zR_dx K G n
  have d : (0 : Rat) < (zX (mP S) (zB g) : Rat) - (zX (mP S) g : Rat) := by have := zRat_lt.mpr r; grind
  have : (zh S g x - zf (mP S) g ((40000 * x : Int) + zh S g x)) * ((zX (mP S) (zB g) : Rat) - (zX (mP S) g : Rat)) = 0 := by rw [h]; grind
  rcases Rat.mul_eq_zero.mp this with h | h
  · grind
  · exfalso; grind
theorem zh_le {S : mS} (K : zOK (mP S)) {g : Nat} (G : mLv S g) {x : Int} (n : S.2 2 g < S.2 2 (zB g)) {η : Rat} (h : η ≤ zh S g x) : η ≤ zf (mP S) g ((40000 * x : Int) + η) := by
  have h1 := zh_f K G (x := x) (by omega) η
  have r := zR_dx K G n
  have d : (0 : Rat) < (zX (mP S) (zB g) : Rat) - (zX (mP S) g : Rat) := by have := zRat_lt.mpr r; grind
  have hd : (0 : Rat) < ((S.2 2 (zB g) - S.2 2 g : Int) : Rat) := (zRat_lt (a := 0)).mpr (by omega)
  have m1 : (0 : Rat) ≤ ((S.2 2 (zB g) - S.2 2 g : Int) : Rat) * (zh S g x - η) := Rat.mul_nonneg (by grind) (by grind)
  have q := Rat.mul_pos_iff_of_pos_left (b := η - zf (mP S) g ((40000 * x : Int) + η)) d
  rw [Rat.mul_comm] at q
  grind
theorem zh_mid {S : mS} (K : zOK (mP S)) {g : Nat} (G : mLv S g) {x : Int} (n : S.2 2 g < x) (n' : x < S.2 2 (zB g)) : (zX (mP S) g : Rat) < (40000 * x : Int) + zh S g x ∧ (40000 * x : Int) + zh S g x < (zX (mP S) (zB g) : Rat) := by
  have r := zR_dx K G (by omega)
  have d : (0 : Rat) < (zX (mP S) (zB g) : Rat) - (zX (mP S) g : Rat) := by have := zRat_lt.mpr r; grind
  have hd : (0 : Rat) < ((S.2 2 (zB g) : Int) : Rat) - ((S.2 2 g : Int) : Rat) := by rw [← Rat.intCast_sub]; exact (zRat_lt (a := 0)).mpr (by omega)
  have h1 := zh_mul (S := S) (g := g) (x := x) (by omega)
  have hx1 : (0 : Rat) < (x : Rat) - ((S.2 2 g : Int) : Rat) := by rw [← Rat.intCast_sub]; exact (zRat_lt (a := 0)).mpr (by omega)
  have hx2 : (0 : Rat) < ((S.2 2 (zB g) : Int) : Rat) - (x : Rat) := by rw [← Rat.intCast_sub]; exact (zRat_lt (a := 0)).mpr (by omega)
  rw [Rat.intCast_sub, Rat.intCast_sub] at h1
  have e3 : ((40000 * x : Int) : Rat) = 40000 * (x : Rat) := by rw [Rat.intCast_mul]; rfl
  rw [zX_q, zX_q] at *
  rw [e3]
  have k1 : (40000 * (x : Rat) + zh S g x - (40000 * ((S.2 2 g : Int) : Rat) + ((S.2 3 g : Int) : Rat))) * (((S.2 2 (zB g) : Int) : Rat) - ((S.2 2 g : Int) : Rat)) = ((x : Rat) - ((S.2 2 g : Int) : Rat)) * (40000 * ((S.2 2 (zB g) : Int) : Rat) + ((S.2 3 (zB g) : Int) : Rat) - (40000 * ((S.2 2 g : Int) : Rat) + ((S.2 3 g : Int) : Rat))) := by grind
  have k2 : (40000 * ((S.2 2 (zB g) : Int) : Rat) + ((S.2 3 (zB g) : Int) : Rat) - (40000 * (x : Rat) + zh S g x)) * (((S.2 2 (zB g) : Int) : Rat) - ((S.2 2 g : Int) : Rat)) = (((S.2 2 (zB g) : Int) : Rat) - (x : Rat)) * (40000 * ((S.2 2 (zB g) : Int) : Rat) + ((S.2 3 (zB g) : Int) : Rat) - (40000 * ((S.2 2 g : Int) : Rat) + ((S.2 3 g : Int) : Rat))) := by grind
  have p1 := Rat.mul_pos hx1 d
  have p2 := Rat.mul_pos hx2 d
  rw [← k1] at p1
  rw [← k2] at p2
  have q1 := (Rat.mul_pos_iff_of_pos_left (b := 40000 * (x : Rat) + zh S g x - (40000 * ((S.2 2 g : Int) : Rat) + ((S.2 3 g : Int) : Rat))) hd).mp (by rw [Rat.mul_comm]; exact p1)
  have q2 := (Rat.mul_pos_iff_of_pos_left (b := 40000 * ((S.2 2 (zB g) : Int) : Rat) + ((S.2 3 (zB g) : Int) : Rat) - (40000 * (x : Rat) + zh S g x)) hd).mp (by rw [Rat.mul_comm]; exact p2)
  constructor <;> grind
theorem zh_nc {S : mS} (K : zOK (mP S)) {g s : Nat} (G : mLv S g) (T : mLv S s) (hne : g / 2 ≠ s / 2) {x : Int} (g1 : S.2 2 g < x) (g2 : x < S.2 2 (zB g)) (s1 : S.2 2 s < x) (s2 : x < S.2 2 (zB s)) (le : zh S g x ≤ zh S s x)
    {k : Int} (k1 : zX (mP S) g < k) (k2 : k < zX (mP S) (zB g)) (k3 : zX (mP S) s < k) (k4 : k < zX (mP S) (zB s)) : zf (mP S) g (k : Rat) ≤ zf (mP S) s (k : Rat) := by
  have rg := zR_dx K G (by omega)
  have rs := zR_dx K T (by omega)
  have lg := zxl_R rg
  have ls := zxl_R rs
  have ug := zxr_R rg
  have us := zxr_R rs
  have mg := zh_mid K G g1 g2
  have ms := zh_mid K T s1 s2
  have fg := zh_fe K G (x := x) (by omega)
  have fs := zh_le K T (x := x) (by omega) le
  have b : ((40000 * x : Int) : Rat) + zh S g x ≤ (40000 * x : Int) + zh S s x := by grind
  have bd1 := K.1 s T
  have bd2 := K.1 g G
  have bd3 := K.1 (zB s) (mLv_B T)
  -- the point of g is over s too
  have o1 : (zX (mP S) s : Rat) ≤ (40000 * x : Int) + zh S g x := by
    -- zX s is at least 24000 less than 40000 x
    have w : zX (mP S) s ≤ 40000 * x - 24000 := by unfold zX; simp only [mP] at *; omega
    have w' := zRat_le.mpr w
    -- and zh is at least -16000
    have hl : (-16000 : Rat) ≤ zh S g x := by
      have h1 := zh_mul (S := S) (g := g) (x := x) (by omega)
      have bdg := K.1 (zB g) (mLv_B G)
      simp only [mP] at bd2 bdg
      have hd : (0 : Rat) < ((S.2 2 (zB g) : Int) : Rat) - ((S.2 2 g : Int) : Rat) := by rw [← Rat.intCast_sub]; exact (zRat_lt (a := 0)).mpr (by omega)
      have hx1 : (0 : Rat) < (x : Rat) - ((S.2 2 g : Int) : Rat) := by rw [← Rat.intCast_sub]; exact (zRat_lt (a := 0)).mpr (by omega)
      have hx2 : (0 : Rat) < ((S.2 2 (zB g) : Int) : Rat) - (x : Rat) := by rw [← Rat.intCast_sub]; exact (zRat_lt (a := 0)).mpr (by omega)
      have y1 : (0 : Rat) ≤ ((S.2 3 g : Int) : Rat) + 16000 := by have := (zRat_le (a := -16000) (b := S.2 3 g)).mpr bd2.2.1; grind
      have y2 : (0 : Rat) ≤ ((S.2 3 (zB g) : Int) : Rat) + 16000 := by have := (zRat_le (a := -16000) (b := S.2 3 (zB g))).mpr bdg.2.1; grind
      rw [Rat.intCast_sub, Rat.intCast_sub] at h1
      have key : (zh S g x + 16000) * (((S.2 2 (zB g) : Int) : Rat) - ((S.2 2 g : Int) : Rat)) = (((S.2 3 g : Int) : Rat) + 16000) * (((S.2 2 (zB g) : Int) : Rat) - (x : Rat)) + (((S.2 3 (zB g) : Int) : Rat) + 16000) * ((x : Rat) - ((S.2 2 g : Int) : Rat)) := by grind
      have p1 := Rat.mul_nonneg y1 (show (0 : Rat) ≤ ((S.2 2 (zB g) : Int) : Rat) - (x : Rat) by grind)
      have p2 := Rat.mul_nonneg y2 (show (0 : Rat) ≤ (x : Rat) - ((S.2 2 g : Int) : Rat) by grind)
      have nn := Rat.mul_neg_iff_of_pos_left (b := zh S g x + 16000) hd
      rw [Rat.mul_comm, key] at nn
      grind
    rw [Rat.intCast_sub] at w'
    have e24 : ((24000 : Int) : Rat) = 24000 := rfl
    rw [e24] at w'
    grind
  have o2 : ((40000 * x : Int) : Rat) + zh S g x ≤ (zX (mP S) (zB s) : Rat) := by grind
  have z1 := z_strip K G T hne (k := k) (by omega) (by omega) (by omega) (by omega) (x := (40000 * x : Int) + zh S g x) (by rw [lg]; grind) (by rw [ls]; exact o1) (by rw [ug]; grind) (by rw [us]; exact o2)
  have z2 := z_strip K G T hne (k := k) (by omega) (by omega) (by omega) (by omega) (x := (k : Rat)) (by rw [lg]; exact zRat_le.mpr (by omega)) (by rw [ls]; exact zRat_le.mpr (by omega)) (by rw [ug]; exact zRat_le.mpr (by omega)) (by rw [us]; exact zRat_le.mpr (by omega))
  rcases z1.1 with a | a
  · exfalso
    rw [fg] at a z1
    have := z1.2 (by grind)
    rw [lg, ug] at this
    grind
  · rcases z2.1 with b | b
    · exfalso; grind
    · grind
