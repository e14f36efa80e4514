/-! flows along the halves, summed above a place -/
def zw (P : zP) (c : Nat → Rat) (g : Nat) : Rat := if zL P g = true then (if zX P g < zX P (zB g) then - c g else c g) else 0
/-- what flows in flows out -/
def zCirc (P : zP) (c : Nat → Rat) : Prop := ∀ χ : Int → Int → Rat, zS 120 (fun h => if zL P h = true then c h * (χ (zX P h) (zY P h) - χ (zX P (zB h)) (zY P (zB h))) else 0) = 0
def zAR (P : zP) (c : Nat → Rat) (K : Int) (y : Rat) : Rat := zS 120 (fun g => if (zxl P g ≤ K ∧ K < zxr P g) ∧ y < zf P g (K : Rat) then zw P c g else 0)
def zBR (P : zP) (c : Nat → Rat) (K : Int) (y : Rat) : Rat := zS 120 (fun g => if (zxl P g ≤ K ∧ K < zxr P g) ∧ y ≤ zf P g (K : Rat) then zw P c g else 0)
def zAL (P : zP) (c : Nat → Rat) (K : Int) (y : Rat) : Rat := zS 120 (fun g => if (zxl P g < K ∧ K ≤ zxr P g) ∧ y < zf P g (K : Rat) then zw P c g else 0)
def zBL (P : zP) (c : Nat → Rat) (K : Int) (y : Rat) : Rat := zS 120 (fun g => if (zxl P g < K ∧ K ≤ zxr P g) ∧ y ≤ zf P g (K : Rat) then zw P c g else 0)
theorem zw_dead {P : zP} {c : Nat → Rat} {g : Nat} (h : ¬ zL P g = true) : zw P c g = 0 := if_neg h
theorem zw_R {P : zP} {c : Nat → Rat} {g : Nat} (h : zL P g = true) (r : zX P g < zX P (zB g)) : zw P c g = - c g := by unfold zw; rw [if_pos h, if_pos r]
theorem zw_N {P : zP} {c : Nat → Rat} {g : Nat} (h : zL P g = true) (r : ¬ zX P g < zX P (zB g)) : zw P c g = c g := by unfold zw; rw [if_pos h, if_neg r]
theorem z_if (p q : Prop) [Decidable p] [Decidable q] (h : p ↔ q) (a : Rat) : (if p then a else 0) = (if q then a else 0) := by
  by_cases c : p
  · rw [if_pos c, if_pos (h.mp c)]
  · rw [if_neg c, if_neg fun q => c (h.mpr q)]
/-- the generic step: a side of the column K against the other, for a test T of heights -/
theorem z_col {P : zP} (K : zOK P) {c : Nat → Rat} (C : zCirc P c) (k : Int) (T : Rat → Bool) :
    zS 120 (fun g => if (zxl P g < k ∧ k ≤ zxr P g) ∧ T (zf P g (k : Rat)) = true then zw P c g else 0) = zS 120 (fun g => if (zxl P g ≤ k ∧ k < zxr P g) ∧ T (zf P g (k : Rat)) = true then zw P c g else 0) := by
  have h := C (fun X Y => if X = k ∧ T (Y : Rat) = true then 1 else 0)
  have e : zS 120 (fun g => (if (zxl P g < k ∧ k ≤ zxr P g) ∧ T (zf P g (k : Rat)) = true then zw P c g else 0) - (if (zxl P g ≤ k ∧ k < zxr P g) ∧ T (zf P g (k : Rat)) = true then zw P c g else 0)) = 0 := by
    rw [← h]
    refine zS_congr fun g hg => ?_
    by_cases hl : zL P g = true
    · rw [if_pos hl]
      have hne := zX_ne K hl
      by_cases r : zX P g < zX P (zB g)
      · rw [zw_R hl r, zxl_R r, zxr_R r]
        by_cases c1 : zX P g = k
        · have f1 : zf P g (k : Rat) = (zY P g : Rat) := by rw [← c1]; exact zf_self P g
          rw [f1, if_neg (by omega)]
          by_cases t : T (zY P g : Rat) = true
          · rw [if_pos ⟨by omega, t⟩, if_pos ⟨c1, t⟩, if_neg (by omega)]; grind
          · rw [if_neg fun q => t q.2, if_neg fun q => t q.2, if_neg (by omega)]; grind
        · by_cases c2 : zX P (zB g) = k
          · have f1 : zf P g (k : Rat) = (zY P (zB g) : Rat) := by rw [← c2]; exact zf_end K hl
            rw [f1, if_neg (c := (zX P g ≤ k ∧ k < zX P (zB g)) ∧ _) (by omega)]
            by_cases t : T (zY P (zB g) : Rat) = true
            · rw [if_pos ⟨by omega, t⟩, if_neg (by omega), if_pos ⟨c2, t⟩]; grind
            · rw [if_neg fun q => t q.2, if_neg (by omega), if_neg fun q => t q.2]; grind
          · rw [if_neg (c := zX P g = k ∧ _) (fun q => c1 q.1), if_neg (c := zX P (zB g) = k ∧ _) (fun q => c2 q.1)]
            have hc : (zX P g < k ∧ k ≤ zX P (zB g)) ↔ (zX P g ≤ k ∧ k < zX P (zB g)) := by omega
            simp only [hc]
            grind
      · rw [zw_N hl r, zxl_N r, zxr_N r]
        by_cases c1 : zX P g = k
        · have f1 : zf P g (k : Rat) = (zY P g : Rat) := by rw [← c1]; exact zf_self P g
          rw [f1, if_neg (c := (zX P (zB g) ≤ k ∧ k < zX P g) ∧ _) (by omega)]
          by_cases t : T (zY P g : Rat) = true
          · rw [if_pos ⟨by omega, t⟩, if_pos ⟨c1, t⟩, if_neg (by omega)]; grind
          · rw [if_neg fun q => t q.2, if_neg fun q => t q.2, if_neg (by omega)]; grind
        · by_cases c2 : zX P (zB g) = k
          · have f1 : zf P g (k : Rat) = (zY P (zB g) : Rat) := by rw [← c2]; exact zf_end K hl
            rw [f1, if_neg (c := (zX P (zB g) < k ∧ k ≤ zX P g) ∧ _) (by omega)]
            by_cases t : T (zY P (zB g) : Rat) = true
            · rw [if_pos ⟨by omega, t⟩, if_neg (by omega), if_pos ⟨c2, t⟩]; grind
            · rw [if_neg fun q => t q.2, if_neg (by omega), if_neg fun q => t q.2]; grind
          · rw [if_neg (c := zX P g = k ∧ _) (fun q => c1 q.1), if_neg (c := zX P (zB g) = k ∧ _) (fun q => c2 q.1)]
            have hc : (zX P (zB g) < k ∧ k ≤ zX P g) ↔ (zX P (zB g) ≤ k ∧ k < zX P g) := by omega
            simp only [hc]
            grind
    · simp only [zw_dead hl, ite_self, if_neg hl]
      grind
  rw [zS_sub] at e
  grind
theorem z_AA {P : zP} (K : zOK P) {c : Nat → Rat} (C : zCirc P c) (k : Int) (y : Rat) : zAL P c k y = zAR P c k y := by
  have := z_col K C k (fun f => decide (y < f))
  simp only [decide_eq_true_eq] at this
  exact this
theorem z_BB {P : zP} (K : zOK P) {c : Nat → Rat} (C : zCirc P c) (k : Int) (y : Rat) : zBL P c k y = zBR P c k y := by
  have := z_col K C k (fun f => decide (y ≤ f))
  simp only [decide_eq_true_eq] at this
  exact this
/-! sums over a strip -/
def zG (P : zP) (c : Nat → Rat) (k : Int) (μ : Rat) : Rat := zS 120 (fun g => if (zxl P g ≤ k ∧ k < zxr P g) ∧ μ < zM P g k then zw P c g else 0)
def zH (P : zP) (c : Nat → Rat) (k : Int) (μ : Rat) : Rat := zS 120 (fun g => if (zxl P g ≤ k ∧ k < zxr P g) ∧ μ ≤ zM P g k then zw P c g else 0)
/-- two sums over live halves whose tests agree -/
theorem z_sums {P : zP} {c : Nat → Rat} {p q : Nat → Prop} [DecidablePred p] [DecidablePred q] (h : ∀ g, zL P g = true → (p g ↔ q g)) : zS 120 (fun g => if p g then zw P c g else 0) = zS 120 (fun g => if q g then zw P c g else 0) := by
  refine zS_congr fun g _ => ?_
  by_cases hl : zL P g = true
  · exact z_if _ _ (h g hl) _
  · rw [zw_dead hl]; simp
theorem z_same {P : zP} (K : zOK P) {g h : Nat} (H : zL P h = true) (e : g / 2 = h / 2) : (∀ x, zf P g x = zf P h x) ∧ (∀ k, zM P g k = zM P h k) ∧ zxl P g = zxl P h ∧ zxr P g = zxr P h := by
  rcases zB_of e with rfl | rfl
  · exact ⟨fun _ => rfl, fun _ => rfl, rfl, rfl⟩
  · exact ⟨fun x => zf_B K H x, fun k => zM_B K H k, zxl_B P h, zxr_B P h⟩
/-- within a segment its neighbours over a strip are those at a column -/
theorem z_cmp {P : zP} (K : zOK P) {g h : Nat} (G : zL P g = true) (H : zL P h = true) {k : Int} (g1 : zxl P g ≤ k) (g2 : k < zxr P g) (h1 : zxl P h ≤ k) (h2 : k < zxr P h) {x : Rat} (x1 : (zxl P g : Rat) ≤ x) (x2 : (zxl P h : Rat) < x) (x3 : x ≤ (zxr P g : Rat)) (x4 : x < (zxr P h : Rat)) :
    (zM P h k < zM P g k ↔ zf P h x < zf P g x) ∧ (zM P h k ≤ zM P g k ↔ zf P h x ≤ zf P g x) := by
  by_cases e : g / 2 = h / 2
  · have := z_same K H e
    rw [this.1, this.2.1]
    grind
  · have := z_strip K G H e g1 g2 h1 h2 x1 (Rat.le_of_lt x2) x3 (Rat.le_of_lt x4)
    grind
theorem z_L {P : zP} (K : zOK P) (c : Nat → Rat) {h : Nat} (H : zL P h = true) {k : Int} (h1 : zxl P h ≤ k) (h2 : k + 1 < zxr P h) :
    zG P c k (zM P h k) = zAL P c (k + 1) (zf P h ((k + 1 : Int) : Rat)) ∧ zH P c k (zM P h k) = zBL P c (k + 1) (zf P h ((k + 1 : Int) : Rat)) := by
  have key : ∀ g, zL P g = true → (zxl P g ≤ k ∧ k < zxr P g) → (zM P h k < zM P g k ↔ zf P h ((k + 1 : Int) : Rat) < zf P g ((k + 1 : Int) : Rat)) ∧ (zM P h k ≤ zM P g k ↔ zf P h ((k + 1 : Int) : Rat) ≤ zf P g ((k + 1 : Int) : Rat)) :=
    fun g G s => z_cmp K G H s.1 s.2 h1 (by omega) (zRat_le.mpr (by omega)) (zRat_lt.mpr (by omega)) (zRat_le.mpr (by omega)) (zRat_lt.mpr (by omega))
  constructor
  · refine z_sums fun g G => ?_
    by_cases s : zxl P g ≤ k ∧ k < zxr P g
    · rw [(key g G s).1]
      constructor <;> intro q <;> exact ⟨by omega, q.2⟩
    · constructor <;> intro q <;> exact absurd q.1 (by omega)
  · refine z_sums fun g G => ?_
    by_cases s : zxl P g ≤ k ∧ k < zxr P g
    · rw [(key g G s).2]
      constructor <;> intro q <;> exact ⟨by omega, q.2⟩
    · constructor <;> intro q <;> exact absurd q.1 (by omega)
theorem z_R {P : zP} (K : zOK P) (c : Nat → Rat) {h : Nat} (H : zL P h = true) {k : Int} (h1 : zxl P h < k) (h2 : k < zxr P h) :
    zG P c k (zM P h k) = zAR P c k (zf P h (k : Rat)) ∧ zH P c k (zM P h k) = zBR P c k (zf P h (k : Rat)) := by
  have key : ∀ g, zL P g = true → (zxl P g ≤ k ∧ k < zxr P g) → (zM P h k < zM P g k ↔ zf P h (k : Rat) < zf P g (k : Rat)) ∧ (zM P h k ≤ zM P g k ↔ zf P h (k : Rat) ≤ zf P g (k : Rat)) :=
    fun g G s => z_cmp K G H s.1 s.2 (by omega) h2 (zRat_le.mpr (by omega)) (zRat_lt.mpr (by omega)) (zRat_le.mpr (by omega)) (zRat_lt.mpr (by omega))
  constructor
  · refine z_sums fun g G => ?_
    by_cases s : zxl P g ≤ k ∧ k < zxr P g
    · rw [(key g G s).1]
    · constructor <;> intro q <;> exact absurd q.1 s
  · refine z_sums fun g G => ?_
    by_cases s : zxl P g ≤ k ∧ k < zxr P g
    · rw [(key g G s).2]
    · constructor <;> intro q <;> exact absurd q.1 s
/-- the flow above the left side of a half, over a strip -/
def zWl (P : zP) (c : Nat → Rat) (h : Nat) (k : Int) : Rat := if zX P h < zX P (zB h) then zG P c k (zM P h k) else zH P c k (zM P h k)
theorem zWl_step {P : zP} (K : zOK P) {c : Nat → Rat} (C : zCirc P c) {h : Nat} (H : zL P h = true) {k : Int} (h1 : zxl P h ≤ k) (h2 : k + 1 < zxr P h) : zWl P c h k = zWl P c h (k + 1) := by
  have a := z_L K c H h1 h2
  have b := z_R K c H (k := k + 1) (by omega) h2
  unfold zWl
  split
  · rw [a.1, b.1, z_AA K C]
  · rw [a.2, b.2, z_BB K C]
def zW (P : zP) (c : Nat → Rat) (h : Nat) : Rat := zWl P c h (zxl P h)
theorem zW_at {P : zP} (K : zOK P) {c : Nat → Rat} (C : zCirc P c) {h : Nat} (H : zL P h = true) (n : Nat) : zxl P h + n < zxr P h → zWl P c h (zxl P h + n) = zW P c h := by
  induction n with
  | zero => intro _; unfold zW; congr 1; omega
  | succ n ih =>
    intro hn
    have := zWl_step K C H (k := zxl P h + n) (by omega) (by omega)
    rw [← ih (by omega), this]
    congr 1
    omega
theorem zW_any {P : zP} (K : zOK P) {c : Nat → Rat} (C : zCirc P c) {h : Nat} (H : zL P h = true) {k : Int} (h1 : zxl P h ≤ k) (h2 : k < zxr P h) : zWl P c h k = zW P c h := by
  have := zW_at K C H (k - zxl P h).toNat (by omega)
  rw [← this]
  congr 1
  omega
/-- across a half -/
theorem z_twin {P : zP} (K : zOK P) (c : Nat → Rat) {h : Nat} (H : zL P h = true) : zW P c h - zW P c (zB h) = c h - c (zB h) := by
  have H' : zL P (zB h) = true := by rw [zL_B]; exact H
  have hd : ∀ g, zL P g = true → zR P g → zH P c (zxl P g) (zM P g (zxl P g)) = zG P c (zxl P g) (zM P g (zxl P g)) + (c (zB g) - c g) := by
    intro g G r
    have G' : zL P (zB g) = true := by rw [zL_B]; exact G
    have hlr := zxl_lt K G
    unfold zH zG
    have e : zS 120 (fun i => (if (zxl P i ≤ zxl P g ∧ zxl P g < zxr P i) ∧ zM P g (zxl P g) ≤ zM P i (zxl P g) then zw P c i else 0) - (if (zxl P i ≤ zxl P g ∧ zxl P g < zxr P i) ∧ zM P g (zxl P g) < zM P i (zxl P g) then zw P c i else 0)) = zw P c g + zw P c (zB g) := by
      rw [zS_two g (zB g) (zL_lt G) (zL_lt G') (Ne.symm (zB_ne g))]
      · rw [zM_B K G, zxl_B, zxr_B, if_pos ⟨by omega, by grind⟩, if_neg (by grind), if_pos ⟨by omega, by grind⟩, if_neg (by grind)]
        grind
      · intro i hi n1 n2
        by_cases hl : zL P i = true
        · by_cases s : zxl P i ≤ zxl P g ∧ zxl P g < zxr P i
          · have hne : i / 2 ≠ g / 2 := by
              intro e
              rcases zB_of e with e | e <;> contradiction
            have := z_strip K hl G hne s.1 s.2 (Int.le_refl _) hlr (x := (zxl P g : Rat)) (zRat_le.mpr s.1) (by grind) (zRat_le.mpr (by omega)) (zRat_le.mpr (by omega))
            rw [z_if _ ((zxl P i ≤ zxl P g ∧ zxl P g < zxr P i) ∧ zM P g (zxl P g) < zM P i (zxl P g)) (by grind)]
            grind
          · rw [if_neg fun q => s q.1, if_neg fun q => s q.1]; grind
        · simp only [zw_dead hl, ite_self]; grind
    rw [zS_sub] at e
    have w1 := zw_R (c := c) G r
    have w2 := zw_N (c := c) G' (zR_not r)
    grind
  unfold zW zWl
  rw [zB_B]
  rcases zR_or K H with r | r
  · have n : ¬ zX P (zB h) < zX P h := by unfold zR at r; omega
    have r0 : zX P h < zX P (zB h) := r
    rw [if_pos r0, if_neg n, zxl_B, zM_B K H, hd h H r]
    grind
  · have n : ¬ zX P h < zX P (zB h) := by unfold zR at r; rw [zB_B] at r; omega
    have r' : zX P (zB h) < zX P h := by unfold zR at r; rw [zB_B] at r; exact r
    have := hd (zB h) H' r
    rw [zB_B, zM_B K H, zxl_B] at this
    rw [if_neg n, if_pos r', zxl_B, zM_B K H, this]
    grind
