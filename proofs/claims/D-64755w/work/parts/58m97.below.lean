theorem zw_0 {P : zP} {c : Nat → Rat} {g : Nat} (h : c g = 0) : zw P c g = 0 := by
  unfold zw; rw [h]; split <;> (try split) <;> grind
/-- what lies over the column of a place and not above it -/
theorem b_cl {S : mS} (K : zOK (mP S)) {g : Nat} (G : mLv S g) {x y : Int} (by' : -16000 ≤ y ∧ y ≤ 16000) (off : ¬ zOn (mP S) g x y) (o1 : zxl (mP S) g ≤ 40000 * x + y) (o2 : 40000 * x + y < zxr (mP S) g) (le : ¬ (y : Rat) < zf (mP S) g ((40000 * x + y : Int) : Rat)) :
    ∃ q, mLv S q ∧ q / 2 = g / 2 ∧ S.2 2 q < S.2 2 (zB q) ∧ (S.2 2 q ≤ x ∧ x < S.2 2 (zB q)) ∧ 0 < zO (mP S) q x y ∧ (S.2 2 q = x → S.2 3 q < y) ∧ (zxl (mP S) g = zX (mP S) q ∧ zxr (mP S) g = zX (mP S) (zB q)) ∧ ∀ k, zf (mP S) q k = zf (mP S) g k := by
  have bz := K.1 g G
  have bz' := K.1 (zB g) (mLv_B G)
  simp only [mP] at bz bz'
  have Q : mLv S (zr (mP S) g) := zr_L G
  have Rq := zr_R K G
  have ex := zr_xl K G
  have ex' := zr_xr K G
  have hq := zr_half (mP S) g
  have hf := zr_f K G
  have oq : ∀ x y, zOn (mP S) (zr (mP S) g) x y ↔ zOn (mP S) g x y := by
    intro x y
    rcases zr_or (mP S) g with e | e <;> rw [e]
    exact zOn_B _ _ _ _
  generalize zr (mP S) g = q at *
  have b1 := K.1 q Q
  have b2 := K.1 (zB q) (mLv_B Q)
  have ne := K.2.1 q Q
  simp only [mP] at b1 b2 ne
  have e1 : zX (mP S) q = 40000 * S.2 2 q + S.2 3 q := rfl
  have e2 : zX (mP S) (zB q) = 40000 * S.2 2 (zB q) + S.2 3 (zB q) := rfl
  have Rq' : zX (mP S) q < zX (mP S) (zB q) := Rq
  rw [← hf, ← zO_neg K Q Rq] at le
  have lt : S.2 2 q < S.2 2 (zB q) := by
    rcases Int.lt_trichotomy (S.2 2 q) (S.2 2 (zB q)) with h | h | h
    · exact h
    · exfalso
      refine off ((oq x y).mp ⟨?_, ?_, ?_⟩)
      · unfold zO; simp only [mP]
        have : S.2 2 q = x := by omega
        rw [← h, this]; grind
      · simp only [mP]; omega
      · simp only [mP]; omega
    · exfalso; omega
  have pos : 0 < zO (mP S) q x y := by
    rcases Int.lt_trichotomy (zO (mP S) q x y) 0 with h | h | h
    · exact absurd h le
    · exfalso
      exact off ((oq x y).mp (zOn_of K Q Rq x y (by omega) (by omega) ((zO_zero K Q Rq x y).mp h)))
    · exact h
  have s1 := d_sg (S.2 2 (zB q) - S.2 2 q) (y - S.2 3 q)
  have s2 := d_sg (S.2 2 (zB q) - S.2 2 q) (y - S.2 3 (zB q))
  have z1 : y - S.2 3 q = 0 → (S.2 2 (zB q) - S.2 2 q) * (y - S.2 3 q) = 0 := by intro h; rw [h]; omega
  refine ⟨q, Q, hq, lt, ⟨by omega, ?_⟩, pos, ?_, ⟨ex.symm, ex'.symm⟩, hf⟩
  · rcases Int.lt_trichotomy x (S.2 2 (zB q)) with h | h | h
    · exact h
    · exfalso
      have : zO (mP S) q x y = (S.2 2 (zB q) - S.2 2 q) * (y - S.2 3 (zB q)) := by
        unfold zO; simp only [mP]; rw [h]; grind
      rw [this] at pos
      have := s2.2.2.1 (by omega) (by omega)
      omega
    · exfalso; omega
  · intro h
    have : zO (mP S) q x y = (S.2 2 (zB q) - S.2 2 q) * (y - S.2 3 q) := by
      unfold zO; simp only [mP]; rw [h]; grind
    rw [this] at pos
    rcases Int.lt_trichotomy (S.2 3 q) y with h' | h' | h'
    · exact h'
    · have := z1 (by omega); omega
    · have := s1.2.2.1 (by omega) (by omega); omega
section BELOW
variable {S : mS} {x y : Int} {c : Nat → Rat}
/-- nothing below -/
theorem b_none (K : zOK (mP S)) (C : zCirc (mP S) c) (by' : -16000 ≤ y ∧ y ≤ 16000) (off : ∀ g, mLv S g → c g ≠ 0 → ¬ zOn (mP S) g x y)
    (nS : ∀ q, mLv S q → S.2 2 q < x → x < S.2 2 (zB q) → ¬ 0 < zO (mP S) q x y) (nN : ∀ h, mLv S h → S.2 2 h = x → ¬ S.2 3 h < y) : zAR (mP S) c (40000 * x + y) (y : Rat) = 0 := by
  rw [← z_total K C (40000 * x + y)]
  unfold zAR
  refine zS_congr fun g _ => ?_
  by_cases G : zL (mP S) g = true
  · by_cases cz : c g = 0
    · rw [zw_0 cz]; simp
    · refine z_if _ _ ?_ _
      constructor
      · exact fun h => h.1
      · intro h
        refine ⟨h, ?_⟩
        by_cases le : (y : Rat) < zf (mP S) g ((40000 * x + y : Int) : Rat)
        · exact le
        · exfalso
          obtain ⟨q, q1, q2, q3, q4, q5, q6, q7, q8⟩ := b_cl K G by' (off g G cz) h.1 h.2 le
          by_cases e : S.2 2 q = x
          · exact nN q q1 e (q6 e)
          · exact nS q q1 (by omega) q4.2 q5
  · rw [zw_dead G]; simp
/-- a segment next below -/
theorem b_seg (K : zOK (mP S)) (C : zCirc (mP S) c) (by' : -16000 ≤ y ∧ y ≤ 16000) (off : ∀ g, mLv S g → c g ≠ 0 → ¬ zOn (mP S) g x y)
    {s : Nat} (T : mLv S s) (s1 : S.2 2 s < x) (s2 : x < S.2 2 (zB s)) (s3 : 0 < zO (mP S) s x y)
    (hi : ∀ q, mLv S q → S.2 2 q < x → x < S.2 2 (zB q) → 0 < zO (mP S) q x y → zh S q x ≤ zh S s x) (nN : ∀ h, mLv S h → S.2 2 h = x → S.2 3 h < y → ¬ 0 < zO (mP S) s x (S.2 3 h)) :
    zW (mP S) c s = zAR (mP S) c (40000 * x + y) (y : Rat) := by
  have rs := zR_dx K T (by omega)
  have bz := K.1 s T
  have bz' := K.1 (zB s) (mLv_B T)
  simp only [mP] at bz bz'
  have e1 : zX (mP S) s = 40000 * S.2 2 s + S.2 3 s := rfl
  have e2 : zX (mP S) (zB s) = 40000 * S.2 2 (zB s) + S.2 3 (zB s) := rfl
  have l := zxl_R rs
  have u := zxr_R rs
  have w1 := zW_any K C T (k := 40000 * x + y) (by omega) (by omega)
  have w2 := (z_R K c T (k := 40000 * x + y) (by omega) (by omega)).1
  rw [← w1]
  unfold zWl
  have rs' : zX (mP S) s < zX (mP S) (zB s) := rs
  rw [if_pos rs', w2]
  have ab := (zO_pos K T rs x y).mp s3
  unfold zAR
  refine zS_congr fun g _ => ?_
  by_cases G : zL (mP S) g = true
  · by_cases cz : c g = 0
    · rw [zw_0 cz]; simp
    · refine z_if _ _ ?_ _
      constructor
      · intro h
        refine ⟨h.1, ?_⟩
        by_cases le : (y : Rat) < zf (mP S) g ((40000 * x + y : Int) : Rat)
        · exact le
        · exfalso
          obtain ⟨q, q1, q2, q3, q4, q5, q6, q7, q8⟩ := b_cl K G by' (off g G cz) h.1.1 h.1.2 le
          have lt := h.2
          rw [← q8] at lt
          have bq := K.1 q q1
          have bq' := K.1 (zB q) (mLv_B q1)
          simp only [mP] at bq bq'
          have f1 : zX (mP S) q = 40000 * S.2 2 q + S.2 3 q := rfl
          have f2 : zX (mP S) (zB q) = 40000 * S.2 2 (zB q) + S.2 3 (zB q) := rfl
          have hne : q / 2 ≠ s / 2 := by
            intro e
            rw [(z_same K T e).1] at lt
            grind
          by_cases e : S.2 2 q = x
          · have nn := nN q q1 e (q6 e)
            rw [← e] at nn
            have nn' : ¬ 0 < zO (mP S) s (S.2 2 q) (S.2 3 q) := nn
            rw [zO_pos K T rs] at nn'
            have rq := zR_dx K q1 q3
            have lq := zxl_R rq
            have uq := zxr_R rq
            have y6 := q6 e
            have fq : zf (mP S) q (zX (mP S) q : Rat) = (S.2 3 q : Rat) := zf_self (mP S) q
            rw [← f1] at nn'
            have t1 := z_strip K q1 T hne (k := 40000 * x + y) (by omega) (by omega) (by omega) (by omega) (x := (zX (mP S) q : Rat)) (by rw [lq]; grind) (by rw [l]; exact zRat_le.mpr (by omega)) (by rw [uq]; exact zRat_le.mpr (by omega)) (by rw [u]; exact zRat_le.mpr (by omega))
            have t2 := z_strip K q1 T hne (k := 40000 * x + y) (by omega) (by omega) (by omega) (by omega) (x := ((40000 * x + y : Int) : Rat)) (by rw [lq]; exact zRat_le.mpr (by omega)) (by rw [l]; exact zRat_le.mpr (by omega)) (by rw [uq]; exact zRat_le.mpr (by omega)) (by rw [u]; exact zRat_le.mpr (by omega))
            have m : zM (mP S) s (40000 * x + y) < zM (mP S) q (40000 * x + y) := by
              rcases t2.1 with a | a
              · exact a.1
              · exfalso; grind
            have m2 : 0 ≤ zf (mP S) q (zX (mP S) q : Rat) - zf (mP S) s (zX (mP S) q : Rat) := by
              rcases t1.1 with a | a
              · exact a.2
              · exfalso; grind
            have eq : zf (mP S) q (zX (mP S) q : Rat) = zf (mP S) s (zX (mP S) q : Rat) := by grind
            rcases t1.2 eq with a | a
            · have := zRat_eq.mp a.2
              omega
            · have := zRat_eq.mp a.1
              omega
          · have := zh_nc K q1 T hne (x := x) (by omega) q4.2 s1 s2 (hi q q1 (by omega) q4.2 q5) (k := 40000 * x + y) (by omega) (by omega) (by omega) (by omega)
            grind
      · intro h
        exact ⟨h.1, by grind⟩
  · rw [zw_dead G]; simp
end BELOW
