/-! straight above a place, against above it in the sheared plane -/
theorem w_ov {S : mS} (K : zOK (mP S)) {q : Nat} (Q : mLv S q) {x y : Int} (by' : -16000 ≤ y ∧ y ≤ 16000) (lt : S.2 2 q < S.2 2 (zB q)) :
    (bI (S.2 2 q ≤ x ∧ x < S.2 2 (zB q) ∧ zO (mP S) q x y < 0)) - bI ((zxl (mP S) q ≤ 40000 * x + y ∧ 40000 * x + y < zxr (mP S) q) ∧ (y : Rat) < zf (mP S) q ((40000 * x + y : Int) : Rat))
      = bI (S.2 2 q = x ∧ y < S.2 3 q) - bI (S.2 2 (zB q) = x ∧ y < S.2 3 (zB q)) := by
  have b1 := K.1 q Q
  have b2 := K.1 (zB q) (mLv_B Q)
  have r : zR (mP S) q := by
    unfold zR zX
    simp only [mP] at *
    omega
  rw [zxl_R r, zxr_R r]
  have e1 : zX (mP S) q = 40000 * S.2 2 q + S.2 3 q := rfl
  have e2 : zX (mP S) (zB q) = 40000 * S.2 2 (zB q) + S.2 3 (zB q) := rfl
  rw [e1, e2]
  simp only [mP] at b1 b2
  rw [show ((y : Rat) < zf (mP S) q ((40000 * x + y : Int) : Rat)) = (zO (mP S) q x y < 0) from propext (zO_neg K Q r x y).symm]
  have o1 : S.2 2 q = x → zO (mP S) q x y = (S.2 2 (zB q) - S.2 2 q) * (y - S.2 3 q) := by
    intro h; unfold zO; simp only [mP]; rw [← h]; grind
  have o2 : S.2 2 (zB q) = x → zO (mP S) q x y = (S.2 2 (zB q) - S.2 2 q) * (y - S.2 3 (zB q)) := by
    intro h; unfold zO; simp only [mP]; rw [← h]; grind
  have s1 := d_sg (S.2 2 (zB q) - S.2 2 q) (y - S.2 3 q)
  have s2 := d_sg (S.2 2 (zB q) - S.2 2 q) (y - S.2 3 (zB q))
  have z1 : y - S.2 3 q = 0 → (S.2 2 (zB q) - S.2 2 q) * (y - S.2 3 q) = 0 := by intro h; rw [h]; omega
  have z2 : y - S.2 3 (zB q) = 0 → (S.2 2 (zB q) - S.2 2 q) * (y - S.2 3 (zB q)) = 0 := by intro h; rw [h]; omega
  generalize (S.2 2 (zB q) - S.2 2 q) * (y - S.2 3 q) = u1 at *
  generalize (S.2 2 (zB q) - S.2 2 q) * (y - S.2 3 (zB q)) = u2 at *
  generalize zO (mP S) q x y = o at *
  by_cases c1 : S.2 2 q = x
  · by_cases c2 : y < S.2 3 q
    · rw [bI_pos (by omega), bI_neg (by omega), bI_pos ⟨c1, c2⟩, bI_neg (by omega)]
    · rw [bI_neg (by omega), bI_neg (by omega), bI_neg (by omega), bI_neg (by omega)]
  · by_cases c2 : S.2 2 (zB q) = x
    · by_cases c3 : y < S.2 3 (zB q)
      · rw [bI_neg (by omega), bI_pos (by omega), bI_neg (by omega), bI_pos ⟨c2, c3⟩]
      · rw [bI_neg (by omega), bI_neg (by omega), bI_neg (by omega), bI_neg (by omega)]
    · rw [bI_neg (p := S.2 2 q = x ∧ y < S.2 3 q) (by omega), bI_neg (p := S.2 2 (zB q) = x ∧ y < S.2 3 (zB q)) (by omega)]
      rw [bI_congr (p := S.2 2 q ≤ x ∧ x < S.2 2 (zB q) ∧ o < 0) (q := (40000 * S.2 2 q + S.2 3 q ≤ 40000 * x + y ∧ 40000 * x + y < 40000 * S.2 2 (zB q) + S.2 3 (zB q)) ∧ o < 0) (by omega)]
      omega
theorem bI_if (p : Prop) [Decidable p] (a : Rat) : (if p then a else 0) = ((bI p : Int) : Rat) * a := by
  by_cases h : p
  · rw [if_pos h, bI_pos h]; grind
  · rw [if_neg h, bI_neg h]; grind
theorem bI_zI (p : Prop) (a : Rat) : zI p a 0 = ((bI p : Int) : Rat) * a := by
  by_cases h : p
  · rw [zI_pos h, bI_pos h]; grind
  · rw [zI_neg h, bI_neg h]; grind
theorem zf_up {S : mS} (K : zOK (mP S)) {g : Nat} (G : mLv S g) {x y : Int} (e : S.2 2 g = S.2 2 (zB g)) (ex : S.2 2 g = x) : zf (mP S) g ((40000 * x + y : Int) : Rat) = (y : Rat) := by
  have o : zO (mP S) (zr (mP S) g) x y = 0 := by
    rcases zr_or (mP S) g with q | q <;> rw [q] <;> unfold zO <;> simp only [mP]
    · rw [← e, ex]; grind
    · rw [zB_B, ← e, ex]; grind
  have := (zO_zero K (zr_L G) (zr_R K G) x y).mp o
  rw [zr_f K G] at this
  exact this.symm
theorem w_one {S : mS} (K : zOK (mP S)) {c : Nat → Rat} {x y : Int} (by' : -16000 ≤ y ∧ y ≤ 16000) {g : Nat}
    (off : mLv S g → c g ≠ 0 → S.2 2 g = S.2 2 (zB g) → S.2 2 g = x → ¬ (min (S.2 3 g) (S.2 3 (zB g)) ≤ y ∧ y < max (S.2 3 g) (S.2 3 (zB g)))) :
    zI (ovr S x y g) (zw (mP S) c g) 0 - (if (zxl (mP S) g ≤ 40000 * x + y ∧ 40000 * x + y < zxr (mP S) g) ∧ (y : Rat) < zf (mP S) g ((40000 * x + y : Int) : Rat) then zw (mP S) c g else 0)
      = - (if zL (mP S) g = true then c g * ((fun X Y : Int => if X - Y = 40000 * x ∧ y < Y then (1 : Rat) else 0) (zX (mP S) g) (zY (mP S) g) - (fun X Y : Int => if X - Y = 40000 * x ∧ y < Y then (1 : Rat) else 0) (zX (mP S) (zB g)) (zY (mP S) (zB g))) else 0) := by
  by_cases G : zL (mP S) g = true
  · rw [if_pos G]
    have G' : zL (mP S) (zB g) = true := by rw [zL_B]; exact G
    have b1 := K.1 g G
    have b2 := K.1 (zB g) G'
    simp only [mP] at b1 b2
    have c1 : ∀ k, (fun X Y : Int => if X - Y = 40000 * x ∧ y < Y then (1 : Rat) else 0) (zX (mP S) k) (zY (mP S) k) = ((bI (S.2 2 k = x ∧ y < S.2 3 k) : Int) : Rat) := by
      intro k
      have : (zX (mP S) k - zY (mP S) k = 40000 * x ∧ y < zY (mP S) k) ↔ (S.2 2 k = x ∧ y < S.2 3 k) := by
        unfold zX zY; simp only [mP]; omega
      by_cases q : S.2 2 k = x ∧ y < S.2 3 k
      · rw [bI_pos q]; exact if_pos (this.mpr q)
      · rw [bI_neg q]; exact if_neg (fun h => q (this.mp h))
    rw [c1, c1, bI_zI, bI_if]
    rcases Int.lt_trichotomy (S.2 2 g) (S.2 2 (zB g)) with lt | e | lt
    · have h := w_ov K G by' lt (x := x)
      have r : zX (mP S) g < zX (mP S) (zB g) := by unfold zX; simp only [mP]; omega
      rw [zw_R G r]
      have el : lo S g = g := by unfold lo; rw [if_pos lt]
      have eo : ovr S x y g = (S.2 2 g ≤ x ∧ x < S.2 2 (zB g) ∧ zO (mP S) g x y < 0) := by unfold ovr; rw [el]; rfl
      rw [eo]
      generalize bI (S.2 2 g ≤ x ∧ x < S.2 2 (zB g) ∧ zO (mP S) g x y < 0) = i1 at *
      generalize bI ((zxl (mP S) g ≤ 40000 * x + y ∧ 40000 * x + y < zxr (mP S) g) ∧ (y : Rat) < zf (mP S) g ((40000 * x + y : Int) : Rat)) = i2 at *
      generalize bI (S.2 2 g = x ∧ y < S.2 3 g) = i3 at *
      generalize bI (S.2 2 (zB g) = x ∧ y < S.2 3 (zB g)) = i4 at *
      have h' : (i1 : Rat) - (i2 : Rat) = (i3 : Rat) - (i4 : Rat) := by rw [← Rat.intCast_sub, ← Rat.intCast_sub, h]
      grind
    · rw [bI_neg (p := ovr S x y g) (by unfold ovr lo; rw [if_neg (by omega), zB_B]; omega)]
      by_cases ex : S.2 2 g = x
      · rw [bI_neg (by rw [zf_up K G e ex]; intro h; exact absurd h.2 (by grind))]
        by_cases cz : c g = 0
        · rw [cz]; grind
        · have := off G cz e ex
          rw [bI_congr (p := S.2 2 g = x ∧ y < S.2 3 g) (q := S.2 2 (zB g) = x ∧ y < S.2 3 (zB g)) (by omega)]
          grind
      · rw [bI_neg (p := (zxl (mP S) g ≤ 40000 * x + y ∧ 40000 * x + y < zxr (mP S) g) ∧ (y : Rat) < zf (mP S) g ((40000 * x + y : Int) : Rat)) (by
          intro h
          have := h.1
          unfold zxl zxr zX at this
          simp only [mP] at this
          omega), bI_neg (by omega), bI_neg (by omega)]
        grind
    · have G2 : mLv S (zB g) := G'
      have h := w_ov K G2 by' (by rw [zB_B]; exact lt) (x := x)
      rw [zB_B] at h
      have r : ¬ zX (mP S) g < zX (mP S) (zB g) := by unfold zX; simp only [mP]; omega
      rw [zw_N G r]
      have el : lo S g = zB g := by unfold lo; rw [if_neg (by omega)]
      have eo : ovr S x y g = (S.2 2 (zB g) ≤ x ∧ x < S.2 2 g ∧ zO (mP S) (zB g) x y < 0) := by unfold ovr; rw [el, zB_B]; unfold zO zc; rw [zB_B]; rfl
      rw [eo]
      rw [zxl_B, zxr_B, zf_B K G] at h
      generalize bI (S.2 2 (zB g) ≤ x ∧ x < S.2 2 g ∧ zO (mP S) (zB g) x y < 0) = i1 at *
      generalize bI ((zxl (mP S) g ≤ 40000 * x + y ∧ 40000 * x + y < zxr (mP S) g) ∧ (y : Rat) < zf (mP S) g ((40000 * x + y : Int) : Rat)) = i2 at *
      generalize bI (S.2 2 g = x ∧ y < S.2 3 g) = i3 at *
      generalize bI (S.2 2 (zB g) = x ∧ y < S.2 3 (zB g)) = i4 at *
      have h' : (i1 : Rat) - (i2 : Rat) = (i4 : Rat) - (i3 : Rat) := by rw [← Rat.intCast_sub, ← Rat.intCast_sub, h]
      grind
  · rw [if_neg G, zw_dead G, bI_zI, bI_if]
    grind
theorem w_sum {S : mS} (K : zOK (mP S)) {c : Nat → Rat} (C : zCirc (mP S) c) {x y : Int} (by' : -16000 ≤ y ∧ y ≤ 16000)
    (off : ∀ g, mLv S g → c g ≠ 0 → S.2 2 g = S.2 2 (zB g) → S.2 2 g = x → ¬ (min (S.2 3 g) (S.2 3 (zB g)) ≤ y ∧ y < max (S.2 3 g) (S.2 3 (zB g)))) :
    zS 120 (fun g => zI (ovr S x y g) (zw (mP S) c g) 0) = zAR (mP S) c (40000 * x + y) (y : Rat) := by
  have h := C (fun X Y : Int => if X - Y = 40000 * x ∧ y < Y then (1 : Rat) else 0)
  have e := zS_congr (n := 120) (fun g _ => w_one K (c := c) (x := x) (y := y) by' (off g))
  rw [zS_sub] at e
  have e2 := zS_mul 120 (-1) (fun g => (if zL (mP S) g = true then c g * ((fun X Y : Int => if X - Y = 40000 * x ∧ y < Y then (1 : Rat) else 0) (zX (mP S) g) (zY (mP S) g) - (fun X Y : Int => if X - Y = 40000 * x ∧ y < Y then (1 : Rat) else 0) (zX (mP S) (zB g)) (zY (mP S) (zB g))) else 0))
  rw [h] at e2
  unfold zAR
  have e3 : zS 120 (fun g => - (if zL (mP S) g = true then c g * ((fun X Y : Int => if X - Y = 40000 * x ∧ y < Y then (1 : Rat) else 0) (zX (mP S) g) (zY (mP S) g) - (fun X Y : Int => if X - Y = 40000 * x ∧ y < Y then (1 : Rat) else 0) (zX (mP S) (zB g)) (zY (mP S) (zB g))) else 0)) = 0 := by
    rw [show (-1 : Rat) * 0 = 0 by grind] at e2
    rw [← e2]
    refine zS_congr fun g _ => ?_
    grind
  rw [e3] at e
  grind
/-- the parity of how many halves of a round are over a place -/
theorem w_par {S : mS} {ρ : Nat → Nat} {r : Nat} {R x y : Int} (e : ∀ g, mLv S g → (S.2 9 g = R ↔ ρ g = r)) :
    ∀ n, n ≤ 120 → ∃ z : Int, zS n (fun g => zI (ovr S x y g) (zw (mP S) (zcr ρ r) g) 0) = (z : Rat) ∧ z % 2 = (cW S R x y n : Int) % 2 := by
  intro n
  induction n with
  | zero => intro _; exact ⟨0, rfl, rfl⟩
  | succ n ih =>
    intro hn
    obtain ⟨z, h1, h2⟩ := ih (by omega)
    simp only [zS]
    rw [h1]
    have hc : (cW S R x y (n + 1) : Int) = cW S R x y n + (if zD (wth S R x y n) = true then 1 else 0 : Nat) := by
      unfold cW; simp only [zC]; omega
    by_cases w : wth S R x y n
    · rw [if_pos ((zD_iff _).mpr w)] at hc
      have L : zL (mP S) n = true := by unfold zL; simp only [mP]; simp [w.1]; omega
      have er := (e n L).mp w.2.1
      rw [zI_pos w.2.2]
      by_cases q : zX (mP S) n < zX (mP S) (zB n)
      · refine ⟨z - 1, ?_, by omega⟩
        rw [zw_R L q, zcr, if_pos er, Rat.intCast_sub]; grind
      · refine ⟨z + 1, ?_, by omega⟩
        rw [zw_N L q, zcr, if_pos er, Rat.intCast_add]; grind
    · rw [if_neg (fun h => w ((zD_iff _).mp h))] at hc
      refine ⟨z, ?_, by omega⟩
      by_cases o : ovr S x y n
      · rw [zI_pos o]
        by_cases L : zL (mP S) n = true
        · have t : S.2 1 (n / 2) = 1 := by
            have := L
            unfold zL at this
            simp only [mP] at this
            simp at this
            exact this.2
          have er : ρ n ≠ r := fun h => w ⟨t, (e n L).mpr h, o⟩
          have : zw (mP S) (zcr ρ r) n = 0 := by
            unfold zw; rw [if_pos L, zcr_ne er]; split <;> grind
          rw [this]; grind
        · rw [zw_dead L]; grind
      · rw [zI_neg o]; grind
