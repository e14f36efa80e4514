/-! around a point -/
/-- halves that leave a point, to the left round from straight down -/
def zLt (P : zP) (a b : Nat) : Prop := (zR P a ∧ ¬ zR P b) ∨ ((zR P a ↔ zR P b) ∧ zm P a < zm P b)
/-- k goes on from h: the first to the right round from the way back -/
def zNx (P : zP) (h k : Nat) : Prop := zL P k = true ∧ zX P k = zX P (zB h) ∧
  ((zLt P k (zB h) ∧ ∀ j, zL P j = true → zX P j = zX P (zB h) → ¬ (zLt P k j ∧ zLt P j (zB h))) ∨
   ((∀ j, zL P j = true → zX P j = zX P (zB h) → ¬ zLt P j (zB h)) ∧ (∀ j, zL P j = true → zX P j = zX P (zB h) → ¬ zLt P k j)))
/-- one that begins at column K, to the right, against what is over the column -/
theorem z_begR {P : zP} (K : zOK P) {a g : Nat} (A : zL P a = true) (G : zL P g = true) (s1 : zxl P g ≤ zxl P a) (s2 : zxl P a < zxr P g) :
    (g / 2 = a / 2 ∧ zM P g (zxl P a) = zM P a (zxl P a) ∧ zf P g (zxl P a : Rat) = zf P a (zxl P a : Rat)) ∨
    (g / 2 ≠ a / 2 ∧ ((zM P a (zxl P a) < zM P g (zxl P a) ∧ zf P a (zxl P a : Rat) ≤ zf P g (zxl P a : Rat)) ∨ (zM P g (zxl P a) < zM P a (zxl P a) ∧ zf P g (zxl P a : Rat) ≤ zf P a (zxl P a : Rat))) ∧ (zf P g (zxl P a : Rat) = zf P a (zxl P a : Rat) → zxl P g = zxl P a)) := by
  have hlr := zxl_lt K A
  by_cases e : g / 2 = a / 2
  · have := z_same K A e
    exact Or.inl ⟨e, this.2.1 _, this.1 _⟩
  · right
    have h := z_strip K G A e s1 s2 (Int.le_refl _) hlr (x := (zxl P a : Rat)) (zRat_le.mpr s1) (by grind) (zRat_le.mpr (by omega)) (zRat_le.mpr (by omega))
    refine ⟨e, by grind, fun q => ?_⟩
    rcases h.2 q with ⟨q1, _⟩ | ⟨_, q2⟩
    · exact (zRat_eq.mp q1).symm
    · have := zRat_eq.mp q2; omega
theorem z_begL {P : zP} (K : zOK P) {a g : Nat} (A : zL P a = true) (G : zL P g = true) (s1 : zxl P g < zxr P a) (s2 : zxr P a ≤ zxr P g) :
    (g / 2 = a / 2 ∧ zM P g (zxr P a - 1) = zM P a (zxr P a - 1) ∧ zf P g (zxr P a : Rat) = zf P a (zxr P a : Rat)) ∨
    (g / 2 ≠ a / 2 ∧ ((zM P a (zxr P a - 1) < zM P g (zxr P a - 1) ∧ zf P a (zxr P a : Rat) ≤ zf P g (zxr P a : Rat)) ∨ (zM P g (zxr P a - 1) < zM P a (zxr P a - 1) ∧ zf P g (zxr P a : Rat) ≤ zf P a (zxr P a : Rat))) ∧ (zf P g (zxr P a : Rat) = zf P a (zxr P a : Rat) → zxr P g = zxr P a)) := by
  have hlr := zxl_lt K A
  by_cases e : g / 2 = a / 2
  · have := z_same K A e
    exact Or.inl ⟨e, this.2.1 _, this.1 _⟩
  · right
    have h := z_strip K G A e (k := zxr P a - 1) (by omega) (by omega) (by omega) (by omega) (x := (zxr P a : Rat)) (zRat_le.mpr (by omega)) (zRat_le.mpr (by omega)) (zRat_le.mpr s2) (by grind)
    refine ⟨e, by grind, fun q => ?_⟩
    rcases h.2 q with ⟨_, q1⟩ | ⟨q2, _⟩
    · have := zRat_eq.mp q1; omega
    · exact (zRat_eq.mp q2).symm
section
variable {P : zP} (c : Nat → Rat)
theorem z_c1 (K : zOK P) {t : Nat} (T : zL P t = true) (low : ∀ g, zL P g = true → zxl P g = zxl P t → zM P t (zxl P t) ≤ zM P g (zxl P t)) :
    zH P c (zxl P t) (zM P t (zxl P t)) = zBR P c (zxl P t) (zf P t (zxl P t : Rat)) := by
  refine z_sums fun g G => ?_
  by_cases s : zxl P g ≤ zxl P t ∧ zxl P t < zxr P g
  · have h := z_begR K T G s.1 s.2
    have l := low g G
    grind
  · constructor <;> intro q <;> exact absurd q.1 s
theorem z_c2 (K : zOK P) {a : Nat} (A : zL P a = true) (top : ∀ g, zL P g = true → zxl P g = zxl P a → zM P g (zxl P a) ≤ zM P a (zxl P a)) :
    zG P c (zxl P a) (zM P a (zxl P a)) = zAR P c (zxl P a) (zf P a (zxl P a : Rat)) := by
  refine z_sums fun g G => ?_
  by_cases s : zxl P g ≤ zxl P a ∧ zxl P a < zxr P g
  · have h := z_begR K A G s.1 s.2
    have l := top g G
    grind
  · constructor <;> intro q <;> exact absurd q.1 s
theorem z_c3 (K : zOK P) {t : Nat} (T : zL P t = true) (top : ∀ g, zL P g = true → zxr P g = zxr P t → zM P g (zxr P t - 1) ≤ zM P t (zxr P t - 1)) :
    zG P c (zxr P t - 1) (zM P t (zxr P t - 1)) = zAL P c (zxr P t) (zf P t (zxr P t : Rat)) := by
  refine z_sums fun g G => ?_
  by_cases s : zxl P g < zxr P t ∧ zxr P t ≤ zxr P g
  · have h := z_begL K T G s.1 s.2
    have l := top g G
    have s' : zxl P g ≤ zxr P t - 1 ∧ zxr P t - 1 < zxr P g := by omega
    grind
  · constructor <;> intro q <;> exact absurd q.1 (by omega)
theorem z_c4 (K : zOK P) {a : Nat} (A : zL P a = true) (low : ∀ g, zL P g = true → zxr P g = zxr P a → zM P a (zxr P a - 1) ≤ zM P g (zxr P a - 1)) :
    zH P c (zxr P a - 1) (zM P a (zxr P a - 1)) = zBL P c (zxr P a) (zf P a (zxr P a : Rat)) := by
  refine z_sums fun g G => ?_
  by_cases s : zxl P g < zxr P a ∧ zxr P a ≤ zxr P g
  · have h := z_begL K A G s.1 s.2
    have l := low g G
    have s' : zxl P g ≤ zxr P a - 1 ∧ zxr P a - 1 < zxr P g := by omega
    grind
  · constructor <;> intro q <;> exact absurd q.1 (by omega)
theorem z_c5 (K : zOK P) {t k : Nat} (T : zL P t = true) (Hk : zL P k = true) (e : zxl P k = zxl P t) (ef : zf P k (zxl P t : Rat) = zf P t (zxl P t : Rat)) (lt : zM P k (zxl P t) < zM P t (zxl P t)) (no : ∀ g, zL P g = true → zxl P g = zxl P t → ¬ (zM P k (zxl P t) < zM P g (zxl P t) ∧ zM P g (zxl P t) < zM P t (zxl P t))) :
    zH P c (zxl P t) (zM P t (zxl P t)) = zG P c (zxl P t) (zM P k (zxl P t)) := by
  refine z_sums fun g G => ?_
  by_cases s : zxl P g ≤ zxl P t ∧ zxl P t < zxr P g
  · have h := z_begR K T G s.1 s.2
    have h2 := z_begR K Hk G (by omega) (by omega)
    rw [e] at h2
    have l := no g G
    grind
  · constructor <;> intro q <;> exact absurd q.1 s
theorem z_c6 (K : zOK P) {t k : Nat} (T : zL P t = true) (Hk : zL P k = true) (e : zxr P k = zxr P t) (ef : zf P k (zxr P t : Rat) = zf P t (zxr P t : Rat)) (lt : zM P t (zxr P t - 1) < zM P k (zxr P t - 1)) (no : ∀ g, zL P g = true → zxr P g = zxr P t → ¬ (zM P t (zxr P t - 1) < zM P g (zxr P t - 1) ∧ zM P g (zxr P t - 1) < zM P k (zxr P t - 1))) :
    zG P c (zxr P t - 1) (zM P t (zxr P t - 1)) = zH P c (zxr P t - 1) (zM P k (zxr P t - 1)) := by
  refine z_sums fun g G => ?_
  by_cases s : zxl P g < zxr P t ∧ zxr P t ≤ zxr P g
  · have h := z_begL K T G s.1 s.2
    have h2 := z_begL K Hk G (by omega) (by omega)
    rw [e] at h2
    have l := no g G
    have s' : zxl P g ≤ zxr P t - 1 ∧ zxr P t - 1 < zxr P g := by omega
    grind
  · constructor <;> intro q <;> exact absurd q.1 (by omega)
theorem z_c7 (K : zOK P) {t : Nat} (T : zL P t = true) (no : ∀ g, zL P g = true → zxl P g ≠ zxr P t) : zAR P c (zxr P t) (zf P t (zxr P t : Rat)) = zBR P c (zxr P t) (zf P t (zxr P t : Rat)) := by
  refine z_sums fun g G => ?_
  by_cases s : zxl P g ≤ zxr P t ∧ zxr P t < zxr P g
  · have n := no g G
    have h := z_begL K T G (by omega) (by omega)
    have hs : g / 2 ≠ t / 2 := fun e => by have := z_same K T e; omega
    have hr : zxr P g ≠ zxr P t := by omega
    grind
  · constructor <;> intro q <;> exact absurd q.1 s
theorem z_c8 (K : zOK P) {t : Nat} (T : zL P t = true) (no : ∀ g, zL P g = true → zxr P g ≠ zxl P t) : zAL P c (zxl P t) (zf P t (zxl P t : Rat)) = zBL P c (zxl P t) (zf P t (zxl P t : Rat)) := by
  refine z_sums fun g G => ?_
  by_cases s : zxl P g < zxl P t ∧ zxl P t ≤ zxr P g
  · have n := no g G
    have h := z_begR K T G (by omega) (by omega)
    have hs : g / 2 ≠ t / 2 := fun e => by have := z_same K T e; omega
    have hr : zxl P g ≠ zxl P t := by omega
    grind
  · constructor <;> intro q <;> exact absurd q.1 s
end
/-- order of those to the right, of those to the left -/
theorem zM_right {P : zP} {a b : Nat} (K : zOK P) (A : zL P a = true) (B : zL P b = true) (ra : zR P a) (rb : zR P b) (e : zX P a = zX P b) : zM P a (zX P a) < zM P b (zX P a) ↔ zm P a < zm P b := by
  have ey := (zX_inj K A B e).2
  unfold zM zf
  rw [e]
  unfold zY
  rw [ey]
  simp only [Rat.intCast_add]
  constructor <;> intro q <;> grind
theorem zM_left {P : zP} {a b : Nat} (K : zOK P) (A : zL P a = true) (B : zL P b = true) (e : zX P a = zX P b) : zM P a (zX P a - 1) < zM P b (zX P a - 1) ↔ zm P b < zm P a := by
  have ey := (zX_inj K A B e).2
  unfold zM zf
  rw [e]
  unfold zY
  rw [ey]
  simp only [Rat.intCast_add, Rat.intCast_sub]
  constructor <;> intro q <;> grind
theorem zR_xl {P : zP} {a : Nat} (r : zR P a) : zxl P a = zX P a := zxl_R r
theorem z_at_R {P : zP} (K : zOK P) {g : Nat} (G : zL P g = true) : ∃ j, zL P j = true ∧ j / 2 = g / 2 ∧ zR P j ∧ zX P j = zxl P g := ⟨zr P g, zr_L G, zr_half P g, zr_R K G, zr_xl K G⟩
theorem z_at_L {P : zP} (K : zOK P) {g : Nat} (G : zL P g = true) : ∃ j, zL P j = true ∧ j / 2 = g / 2 ∧ ¬ zR P j ∧ zX P j = zxr P g := ⟨zB (zr P g), by rw [zL_B]; exact zr_L G, by rw [zB_half, zr_half], zR_not (zr_R K G), zr_xr K G⟩
/-- round a point, from the way back to what goes on -/
theorem z_turn {P : zP} (K : zOK P) {c : Nat → Rat} (C : zCirc P c) {h k : Nat} (H : zL P h = true) (N : zNx P h k) : zW P c h = zW P c k := by
  obtain ⟨Hk, ek, hN⟩ := N
  have H' : zL P (zB h) = true := by rw [zL_B]; exact H
  generalize ht : zB h = t at *
  have hht : h = zB t := by rw [← ht, zB_B]
  have ey : zY P k = zY P t := (zX_inj K Hk H' ek).2
  have yk : zf P k (zX P t : Rat) = (zY P t : Rat) := by rw [← ek, zf_self, ey]
  have yt : zf P t (zX P t : Rat) = (zY P t : Rat) := zf_self P t
  have lrt := zxl_lt K H'
  have lrk := zxl_lt K Hk
  -- what lies left of h beside t, what lies left of k
  have eh : zW P c h = if zX P t < zX P (zB t) then zH P c (zX P t) (zM P t (zX P t)) else zG P c (zX P t - 1) (zM P t (zX P t - 1)) := by
    split
    · next r =>
      have xl : zxl P t = zX P t := zxl_R r
      rw [← zW_any K C H (k := zX P t) (by rw [hht, zxl_B]; omega) (by rw [hht, zxr_B]; omega)]
      unfold zWl
      rw [hht, zB_B, if_neg (by omega), zM_B K H']
    · next r =>
      have xr : zxr P t = zX P t := zxr_N r
      rw [← zW_any K C H (k := zX P t - 1) (by rw [hht, zxl_B]; omega) (by rw [hht, zxr_B]; omega)]
      unfold zWl
      have := zX_ne K H'
      rw [hht, zB_B, if_pos (by omega), zM_B K H']
  have ekw : zW P c k = if zX P k < zX P (zB k) then zG P c (zX P t) (zM P k (zX P t)) else zH P c (zX P t - 1) (zM P k (zX P t - 1)) := by
    split
    · next r =>
      have xl : zxl P k = zX P k := zxl_R r
      rw [← zW_any K C Hk (k := zX P t) (by omega) (by omega)]
      unfold zWl
      rw [if_pos r]
    · next r =>
      have xr : zxr P k = zX P k := zxr_N r
      rw [← zW_any K C Hk (k := zX P t - 1) (by omega) (by omega)]
      unfold zWl
      rw [if_neg r]
  have AA := z_AA K C (zX P t) (zY P t : Rat)
  have BB := z_BB K C (zX P t) (zY P t : Rat)
  -- orders
  have oR : ∀ a b, zL P a = true → zL P b = true → zR P a → zR P b → zX P a = zX P t → zX P b = zX P t → (zM P a (zX P t) < zM P b (zX P t) ↔ zm P a < zm P b) := by
    intro a b A B ra rb ea eb
    have := zM_right K A B ra rb (by omega)
    rw [ea] at this
    exact this
  have oL : ∀ a b, zL P a = true → zL P b = true → zX P a = zX P t → zX P b = zX P t → (zM P a (zX P t - 1) < zM P b (zX P t - 1) ↔ zm P b < zm P a) := by
    intro a b A B ea eb
    have := zM_left K A B (by omega)
    rw [ea] at this
    exact this
  rw [eh, ekw]
  by_cases rt : zX P t < zX P (zB t)
  · have xlt : zxl P t = zX P t := zxl_R rt
    rw [if_pos rt]
    by_cases rk : zX P k < zX P (zB k)
    · have xlk : zxl P k = zX P k := zxl_R rk
      rw [if_pos rk]
      rcases hN with ⟨l1, l2⟩ | ⟨l1, l2⟩
      · have mkt : zm P k < zm P t := by unfold zLt zR at l1; grind
        have := z_c5 c K H' Hk (by omega) (by rw [xlt, yk, yt]) (by rw [xlt]; exact (oR k t Hk H' rk rt ek rfl).mpr mkt) (fun g G eg q => by
          obtain ⟨j, J, jg, rj, ej⟩ := z_at_R K G
          have ejt : zX P j = zX P t := by omega
          rw [xlt, ← (z_same K G jg).2.1, ] at q
          rw [oR k j Hk J rk rj ek ejt, oR j t J H' rj rt ejt rfl] at q
          exact l2 j J ejt ⟨Or.inr ⟨by unfold zR at *; exact iff_of_true rk rj, q.1⟩, Or.inr ⟨by unfold zR at *; exact iff_of_true rj rt, q.2⟩⟩)
        rw [xlt] at this
        exact this
      · have noL : ∀ g, zL P g = true → zxr P g ≠ zX P t := by
          intro g G eg
          obtain ⟨j, J, jg, rj, ej⟩ := z_at_L K G
          exact l2 j J (by omega) (Or.inl ⟨rk, rj⟩)
        have c1 := z_c1 c K H' (fun g G eg => by
          obtain ⟨j, J, jg, rj, ej⟩ := z_at_R K G
          have ejt : zX P j = zX P t := by omega
          rw [xlt, ← (z_same K G jg).2.1]
          have n := l1 j J ejt
          have := oR j t J H' rj rt ejt rfl
          unfold zLt zR at n
          unfold zR at rj
          grind)
        have c2 := z_c2 c K Hk (fun g G eg => by
          obtain ⟨j, J, jg, rj, ej⟩ := z_at_R K G
          have ejt : zX P j = zX P t := by omega
          rw [xlk, ek, ← (z_same K G jg).2.1]
          have n := l2 j J ejt
          have := oR k j Hk J rk rj ek ejt
          unfold zLt zR at n
          unfold zR at rj
          grind)
        have c8 := z_c8 c K H' (fun g G => by rw [xlt]; exact noL g G)
        rw [xlt, yt] at c1 c8
        rw [xlk, ek, yk] at c2
        rw [c1, c2, ← BB, ← AA, c8]
    · have xrk : zxr P k = zX P k := zxr_N rk
      rw [if_neg rk]
      rcases hN with ⟨l1, l2⟩ | ⟨l1, l2⟩
      · unfold zLt zR at l1; grind
      · have c1 := z_c1 c K H' (fun g G eg => by
          obtain ⟨j, J, jg, rj, ej⟩ := z_at_R K G
          have ejt : zX P j = zX P t := by omega
          rw [xlt, ← (z_same K G jg).2.1]
          have n := l1 j J ejt
          have := oR j t J H' rj rt ejt rfl
          unfold zLt zR at n
          unfold zR at rj
          grind)
        have c4 := z_c4 c K Hk (fun g G eg => by
          obtain ⟨j, J, jg, rj, ej⟩ := z_at_L K G
          have ejt : zX P j = zX P t := by omega
          rw [xrk, ek, ← (z_same K G jg).2.1]
          have n := l2 j J ejt
          have := oL j k J Hk ejt ek
          unfold zLt zR at n
          unfold zR at rj
          grind)
        rw [xlt, yt] at c1
        rw [xrk, ek, yk] at c4
        rw [c1, c4, BB]
  · have xrt : zxr P t = zX P t := zxr_N rt
    rw [if_neg rt]
    by_cases rk : zX P k < zX P (zB k)
    · have xlk : zxl P k = zX P k := zxl_R rk
      rw [if_pos rk]
      rcases hN with ⟨l1, l2⟩ | ⟨l1, l2⟩
      · have c2 := z_c2 c K Hk (fun g G eg => by
          obtain ⟨j, J, jg, rj, ej⟩ := z_at_R K G
          have ejt : zX P j = zX P t := by omega
          rw [xlk, ek, ← (z_same K G jg).2.1]
          have n := l2 j J ejt
          have := oR k j Hk J rk rj ek ejt
          unfold zLt zR at n
          unfold zR at rj
          grind)
        have c3 := z_c3 c K H' (fun g G eg => by
          obtain ⟨j, J, jg, rj, ej⟩ := z_at_L K G
          have ejt : zX P j = zX P t := by omega
          rw [xrt, ← (z_same K G jg).2.1]
          have n := l2 j J ejt
          have := oL t j H' J rfl ejt
          unfold zLt zR at n
          unfold zR at rj
          grind)
        rw [xlk, ek, yk] at c2
        rw [xrt, yt] at c3
        rw [c2, c3, AA]
      · exact absurd (Or.inl ⟨rk, rt⟩) (l1 k Hk ek)
    · have xrk : zxr P k = zX P k := zxr_N rk
      rw [if_neg rk]
      rcases hN with ⟨l1, l2⟩ | ⟨l1, l2⟩
      · have mkt : zm P k < zm P t := by unfold zLt zR at l1; grind
        have := z_c6 c K H' Hk (by omega) (by rw [xrt, yk, yt]) (by rw [xrt]; exact (oL t k H' Hk rfl ek).mpr mkt) (fun g G eg q => by
          obtain ⟨j, J, jg, rj, ej⟩ := z_at_L K G
          have ejt : zX P j = zX P t := by omega
          rw [xrt, ← (z_same K G jg).2.1] at q
          rw [oL t j H' J rfl ejt, oL j k J Hk ejt ek] at q
          exact l2 j J ejt ⟨Or.inr ⟨by unfold zR at *; exact iff_of_false rk rj, q.2⟩, Or.inr ⟨by unfold zR at *; exact iff_of_false rj rt, q.1⟩⟩)
        rw [xrt] at this
        exact this
      · have noR : ∀ g, zL P g = true → zxl P g ≠ zX P t := by
          intro g G eg
          obtain ⟨j, J, jg, rj, ej⟩ := z_at_R K G
          exact l1 j J (by omega) (Or.inl ⟨rj, rt⟩)
        have c3 := z_c3 c K H' (fun g G eg => by
          obtain ⟨j, J, jg, rj, ej⟩ := z_at_L K G
          have ejt : zX P j = zX P t := by omega
          rw [xrt, ← (z_same K G jg).2.1]
          have n := l1 j J ejt
          have := oL t j H' J rfl ejt
          unfold zLt zR at n
          unfold zR at rj
          grind)
        have c4 := z_c4 c K Hk (fun g G eg => by
          obtain ⟨j, J, jg, rj, ej⟩ := z_at_L K G
          have ejt : zX P j = zX P t := by omega
          rw [xrk, ek, ← (z_same K G jg).2.1]
          have n := l2 j J ejt
          have := oL j k J Hk ejt ek
          unfold zLt zR at n
          unfold zR at rj
          grind)
        have c7 := z_c7 c K H' (fun g G => by rw [xrt]; exact noR g G)
        rw [xrt, yt] at c3 c7
        rw [xrk, ek, yk] at c4
        rw [c3, c4, AA, BB, c7]
