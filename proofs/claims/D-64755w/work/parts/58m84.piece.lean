/-! pieces: what hangs together -/
theorem zLt_irr {P : zP} {a : Nat} : ¬ zLt P a a := by unfold zLt; grind
theorem zLt_trans {P : zP} {a b c : Nat} (h1 : zLt P a b) (h2 : zLt P b c) : zLt P a c := by unfold zLt at *; grind
theorem zR_B {P : zP} (K : zOK P) {h : Nat} (H : zL P h = true) : zR P (zB h) ↔ ¬ zR P h := by
  constructor
  · intro r q
    exact zR_not q r
  · intro r
    rcases zR_or K H with e | e
    · contradiction
    · exact e
/-- halves that leave a point go different ways -/
theorem zLt_or {P : zP} (K : zOK P) {a b : Nat} (A : zL P a = true) (B : zL P b = true) (e : zX P a = zX P b) (hne : a ≠ b) : zLt P a b ∨ zLt P b a := by
  by_cases ra : zR P a <;> by_cases rb : zR P b
  · have hs : a / 2 ≠ b / 2 := by
      intro q
      rcases zB_of q with q | q
      · exact hne q
      · rw [q] at ra; exact zR_not rb ra
    have xa := zxl_R ra
    have xb := zxl_R rb
    have la := zxl_lt K A
    have lb := zxl_lt K B
    have h := z_strip K A B hs (k := zX P a) (by omega) (by omega) (by omega) (by omega) (x := (zX P a : Rat)) (zRat_le.mpr (by omega)) (zRat_le.mpr (by omega)) (zRat_le.mpr (by omega)) (zRat_le.mpr (by omega))
    have m1 := zM_right K A B ra rb e
    have m2 := zM_right K B A rb ra e.symm
    rw [← e] at m2
    unfold zLt
    grind
  · left; exact Or.inl ⟨ra, rb⟩
  · right; exact Or.inl ⟨rb, ra⟩
  · have hs : a / 2 ≠ b / 2 := by
      intro q
      rcases zB_of q with q | q
      · exact hne q
      · rw [q, zR_B K B] at ra; exact ra rb
    have xa := zxr_N ra
    have xb := zxr_N rb
    have la := zxl_lt K A
    have lb := zxl_lt K B
    have h := z_strip K A B hs (k := zX P a - 1) (by omega) (by omega) (by omega) (by omega) (x := (zX P a : Rat)) (zRat_le.mpr (by omega)) (zRat_le.mpr (by omega)) (zRat_le.mpr (by omega)) (zRat_le.mpr (by omega))
    have m1 := zM_left K A B e
    have m2 := zM_left K B A e.symm
    rw [← e] at m2
    unfold zLt
    grind
theorem zNx_inj {P : zP} (K : zOK P) {g h k : Nat} (G : zL P g = true) (H : zL P h = true) (n1 : zNx P g k) (n2 : zNx P h k) : g = h := by
  by_cases e : g = h
  · exact e
  · exfalso
    have G' : zL P (zB g) = true := by rw [zL_B]; exact G
    have H' : zL P (zB h) = true := by rw [zL_B]; exact H
    obtain ⟨k1, k2, k3⟩ := n1
    obtain ⟨_, k5, k6⟩ := n2
    have ne : zB g ≠ zB h := fun q => e (zB_inj q)
    have tr := zLt_or K G' H' (by omega) ne
    generalize zB g = t at *
    generalize zB h = u at *
    rcases tr with tr | tr
    · rcases k6 with ⟨a1, a2⟩ | ⟨a1, a2⟩
      · rcases k3 with ⟨b1, b2⟩ | ⟨b1, b2⟩
        · exact a2 t G' (by omega) ⟨b1, tr⟩
        · exact b2 u H' (by omega) a1
      · exact a1 t G' (by omega) tr
    · rcases k3 with ⟨a1, a2⟩ | ⟨a1, a2⟩
      · rcases k6 with ⟨b1, b2⟩ | ⟨b1, b2⟩
        · exact a2 u H' (by omega) ⟨b1, tr⟩
        · exact b2 t G' (by omega) a1
      · exact a1 u H' (by omega) tr
/-- what is the same along the way is a flow -/
theorem z_circ {P : zP} (K : zOK P) {nx : Nat → Nat} (N : ∀ h, zL P h = true → zNx P h (nx h)) {c : Nat → Rat} (hc : ∀ h, zL P h = true → c (nx h) = c h) : zCirc P c := by
  intro χ
  have h1 := zS_re (n := 120) (zL P) nx (fun i _ hi => ⟨zL_lt (N i hi).1, (N i hi).1⟩) (fun i j _ _ hi hj e => zNx_inj K hi hj (k := nx i) (N i hi) (by rw [e]; exact N j hj)) (fun i => c i * χ (zX P i) (zY P i))
  have h2 : zS 120 (fun i => if zL P i = true then c (nx i) * χ (zX P (nx i)) (zY P (nx i)) else 0) = zS 120 (fun i => if zL P i = true then c i * χ (zX P (zB i)) (zY P (zB i)) else 0) := by
    refine zS_congr fun i _ => ?_
    by_cases hl : zL P i = true
    · have hn := N i hl
      have hy := (zX_inj K hn.1 (by rw [zL_B]; exact hl) hn.2.1).2
      rw [if_pos hl, if_pos hl, hc i hl, hn.2.1]
      unfold zY
      rw [hy]
    · rw [if_neg hl, if_neg hl]
  rw [h2] at h1
  have h3 : zS 120 (fun h => if zL P h = true then c h * (χ (zX P h) (zY P h) - χ (zX P (zB h)) (zY P (zB h))) else 0) = zS 120 (fun h => (if zL P h = true then c h * χ (zX P h) (zY P h) else 0) - (if zL P h = true then c h * χ (zX P (zB h)) (zY P (zB h)) else 0)) := by
    refine zS_congr fun i _ => ?_
    by_cases hl : zL P i = true
    · rw [if_pos hl, if_pos hl, if_pos hl]; grind
    · rw [if_neg hl, if_neg hl, if_neg hl]; grind
  rw [h3, zS_sub, h1]
  grind
theorem zSame_refl (P : zP) (h : Nat) : zSame P h h := fun _ a _ _ => a
theorem zSame_trans {P : zP} {a b c : Nat} (h1 : zSame P a b) (h2 : zSame P b c) : zSame P a c := fun S s0 s1 s2 => h2 S (h1 S s0 s1 s2) s1 s2
theorem zSame_B {P : zP} {a : Nat} (A : zL P a = true) : zSame P a (zB a) := fun _ s0 s1 _ => s1 a A s0
theorem zSame_pt {P : zP} {a b : Nat} (A : zL P a = true) (B : zL P b = true) (e1 : P.2.1 a = P.2.1 b) (e2 : P.2.2 a = P.2.2 b) : zSame P a b := fun _ s0 _ s2 => s2 a b A B e1 e2 s0
theorem zSame_X {P : zP} (K : zOK P) {a b : Nat} (A : zL P a = true) (B : zL P b = true) (e : zX P a = zX P b) : zSame P a b := zSame_pt A B (zX_inj K A B e).1 (zX_inj K A B e).2
theorem zSame_symm {P : zP} {a b : Nat} (h : zSame P a b) : zSame P b a := by
  refine h (fun x => zSame P x a) (zSame_refl P a) ?_ ?_
  · intro x X s
    have := zSame_B (P := P) (a := zB x) (by rw [zL_B]; exact X)
    rw [zB_B] at this
    exact zSame_trans this s
  · intro x y X Y e1 e2 s
    exact zSame_trans (zSame_pt Y X e1.symm e2.symm) s
theorem zSame_L {P : zP} {a b : Nat} (A : zL P a = true) (h : zSame P a b) : zL P b = true :=
  h (fun x => zL P x = true) A (fun x X _ => by rw [zL_B]; exact X) (fun _ _ _ Y _ _ _ => Y)
theorem zSame_nx {P : zP} (K : zOK P) {h k : Nat} (H : zL P h = true) (n : zNx P h k) : zSame P h k :=
  zSame_trans (zSame_B H) (zSame_X K (by rw [zL_B]; exact H) n.1 n.2.1.symm)
/-- what is the same across halves and along the way is the same round a point -/
theorem z_point {P : zP} (K : zOK P) {nx : Nat → Nat} (N : ∀ h, zL P h = true → zNx P h (nx h)) {φ : Nat → Rat} (f1 : ∀ h, zL P h = true → φ (zB h) = φ h) (f2 : ∀ h, zL P h = true → φ (nx h) = φ h) {a b : Nat} (A : zL P a = true) (B : zL P b = true) (e : zX P a = zX P b) : φ a = φ b := by
  have key : ∀ (n : Nat) (x : Nat), zL P x = true → zX P x = zX P a → zC 120 (fun j => zD (zL P j = true ∧ zX P j = zX P a ∧ zLt P j x)) ≤ n → ∃ m, zL P m = true ∧ zX P m = zX P a ∧ (∀ j, zL P j = true → zX P j = zX P a → ¬ zLt P j m) ∧ φ x = φ m := by
    intro n
    induction n with
    | zero =>
      intro x X ex hc
      refine ⟨x, X, ex, fun j J ej hj => ?_, rfl⟩
      have := zC_lt (n := 120) (A := fun _ => false) (B := fun j => zD (zL P j = true ∧ zX P j = zX P a ∧ zLt P j x)) (fun _ _ h => by cases h) j (zL_lt J) rfl (by rw [zD_iff]; exact ⟨J, ej, hj⟩)
      omega
    | succ n ih =>
      intro x X ex hc
      by_cases q : ∃ j, zL P j = true ∧ zX P j = zX P a ∧ zLt P j x
      · obtain ⟨j, J, ej, hj⟩ := q
        have X' : zL P (zB x) = true := by rw [zL_B]; exact X
        have nn := N (zB x) X'
        unfold zNx at nn
        rw [zB_B] at nn
        obtain ⟨k1, k2, k3⟩ := nn
        have lt : zLt P (nx (zB x)) x := by
          rcases k3 with ⟨a1, _⟩ | ⟨a1, _⟩
          · exact a1
          · exact absurd hj (a1 j J (by omega))
        obtain ⟨m, m1, m2, m3, m4⟩ := ih (nx (zB x)) k1 (by omega) (by
          have := zC_lt (n := 120) (A := fun j => zD (zL P j = true ∧ zX P j = zX P a ∧ zLt P j (nx (zB x)))) (B := fun j => zD (zL P j = true ∧ zX P j = zX P a ∧ zLt P j x)) (fun i _ h => by
            rw [zD_iff] at h ⊢
            exact ⟨h.1, h.2.1, zLt_trans h.2.2 lt⟩) (nx (zB x)) (zL_lt k1) (by rw [zD_not]; exact fun h => zLt_irr h.2.2) (by rw [zD_iff]; exact ⟨k1, by omega, lt⟩)
          omega)
        exact ⟨m, m1, m2, m3, by rw [← m4, f2 _ X', f1 _ X]⟩
      · exact ⟨x, X, ex, fun j J ej hj => q ⟨j, J, ej, hj⟩, rfl⟩
  obtain ⟨m, m1, m2, m3, m4⟩ := key 120 a A rfl (zC_bound _ _)
  obtain ⟨m', m1', m2', m3', m4'⟩ := key 120 b B e.symm (zC_bound _ _)
  have : m = m' := by
    by_cases q : m = m'
    · exact q
    · rcases zLt_or K m1 m1' (by omega) q with r | r
      · exact absurd r (m3' m m1 m2)
      · exact absurd r (m3 m' m1' m2')
  rw [m4, m4', this]
theorem z_const {P : zP} (K : zOK P) {nx : Nat → Nat} (N : ∀ h, zL P h = true → zNx P h (nx h)) {φ : Nat → Rat} (f1 : ∀ h, zL P h = true → φ (zB h) = φ h) (f2 : ∀ h, zL P h = true → φ (nx h) = φ h) {a b : Nat} (h : zSame P a b) : φ b = φ a :=
  h (fun x => φ x = φ a) rfl (fun x X s => by rw [f1 x X]; exact s) (fun x y X Y e1 e2 s => by rw [← z_point K N f1 f2 X Y (by unfold zX; rw [e1, e2])]; exact s)
/-- a flow above a half, less the flow along it, is the same over a piece -/
theorem z_phi {P : zP} (K : zOK P) {nx : Nat → Nat} (N : ∀ h, zL P h = true → zNx P h (nx h)) {c : Nat → Rat} (hc : ∀ h, zL P h = true → c (nx h) = c h) {a b : Nat} (h : zSame P a b) : zW P c b - c b = zW P c a - c a :=
  z_const K N (φ := fun x => zW P c x - c x) (fun x X => by have := z_twin K c X; grind) (fun x X => by
    have := z_turn K (z_circ K N hc) X (N x X)
    have := hc x X
    grind) h
/-! the corner of a piece -/
def zCor (P : zP) (b : Nat) : Prop := zL P b = true ∧ (∀ g, zSame P b g → zX P b ≤ zX P g) ∧ (∀ g, zL P g = true → zX P g = zX P b → zm P g ≤ zm P b)
theorem z_cor_R {P : zP} (K : zOK P) {b : Nat} (h : zCor P b) {g : Nat} (G : zL P g = true) (e : zX P g = zX P b) : zR P g := by
  have s := zSame_trans (zSame_X K h.1 G e.symm) (zSame_B G)
  have := h.2.1 _ s
  have := zX_ne K G
  unfold zR
  omega
theorem z_cor_ex {P : zP} (K : zOK P) {h : Nat} (H : zL P h = true) : ∃ b, zSame P h b ∧ zCor P b := by
  obtain ⟨i, hi, i1, i2⟩ := z_min (n := 120) (fun j => zD (zSame P h j)) (fun j => (zX P j : Rat)) h (zL_lt H) (by rw [zD_iff]; exact zSame_refl P h)
  rw [zD_iff] at i1
  have hiL := zSame_L H i1
  obtain ⟨b, hb, b1, b2⟩ := z_min (n := 120) (fun j => zL P j && decide (zX P j = zX P i)) (fun j => - zm P j) i hi (by simp [hiL])
  simp only [Bool.and_eq_true, decide_eq_true_eq] at b1 b2
  have sb : zSame P h b := zSame_trans i1 (zSame_X K hiL b1.1 b1.2.symm)
  refine ⟨b, sb, b1.1, fun g s => ?_, fun g G e => ?_⟩
  · have s' := zSame_trans sb s
    have := i2 g (zL_lt (zSame_L H s')) (by rw [zD_iff]; exact s')
    rw [zRat_le] at this
    omega
  · have := b2 g (zL_lt G) ⟨G, by omega⟩
    grind
theorem z_cor_W {P : zP} (K : zOK P) {c : Nat → Rat} (C : zCirc P c) {b : Nat} (h : zCor P b) : zW P c b = zAR P c (zX P b) (zY P b : Rat) := by
  have rb := z_cor_R K h h.1 rfl
  have xl := zxl_R rb
  have := z_c2 c K h.1 (fun g G eg => by
    obtain ⟨j, J, jg, rj, ej⟩ := z_at_R K G
    have ejb : zX P j = zX P b := by omega
    rw [xl, ← (z_same K G jg).2.1]
    have m := h.2.2 j J ejb
    have := zM_right K h.1 J rb rj ejb.symm
    grind)
  rw [xl, zf_self] at this
  rw [← this]
  have rb0 : zX P b < zX P (zB b) := rb
  unfold zW zWl
  rw [if_pos rb0, xl]
/-- what lies above a place, left of it: the half next above it, if there is one -/
theorem z_above {P : zP} (K : zOK P) (k : Int) (y : Rat) : (∀ c, zAL P c k y = 0) ∨ ∃ g, zL P g = true ∧ zxl P g < k ∧ ∀ c, zCirc P c → zAL P c k y = zW P c g := by
  by_cases e : ∃ g, zL P g = true ∧ (zxl P g < k ∧ k ≤ zxr P g) ∧ y < zf P g (k : Rat)
  · right
    obtain ⟨g0, a1, a2, a3⟩ := e
    obtain ⟨i, hi, i1, i2⟩ := z_min (n := 120) (fun g => zL P g && (decide (zxl P g < k ∧ k ≤ zxr P g) && decide (y < zf P g (k : Rat)))) (fun g => zM P g (k - 1)) g0 (zL_lt a1) (by simp [a1, a2, a3])
    simp only [Bool.and_eq_true, decide_eq_true_eq] at i1 i2
    obtain ⟨iL, is, iy⟩ := i1
    have lr := zxl_lt K iL
    obtain ⟨j, J, ji, rj, ej⟩ := z_at_L K iL
    have sm := z_same K iL ji
    refine ⟨j, J, by omega, fun c C => ?_⟩
    rw [← zW_any K C J (k := k - 1) (by omega) (by omega)]
    have rj0 : ¬ zX P j < zX P (zB j) := rj
    unfold zWl
    rw [if_neg rj0, sm.2.1]
    refine z_sums fun g G => ?_
    by_cases s : zxl P g < k ∧ k ≤ zxr P g
    · have h2 := i2 g (zL_lt G)
      have s' : zxl P g ≤ k - 1 ∧ k - 1 < zxr P g := by omega
      by_cases q : g / 2 = i / 2
      · have := z_same K iL q
        constructor
        · intro _; exact ⟨s', by rw [this.2.1]; grind⟩
        · intro _; exact ⟨s, by rw [this.1]; exact iy⟩
      · have h := z_strip K G iL q (k := k - 1) (by omega) (by omega) (by omega) (by omega) (x := (k : Rat)) (zRat_le.mpr (by omega)) (zRat_le.mpr (by omega)) (zRat_le.mpr (by omega)) (zRat_le.mpr (by omega))
        constructor
        · intro w; exact ⟨s', h2 ⟨G, s, w.2⟩⟩
        · intro w; exact ⟨s, by grind⟩
    · constructor <;> intro q <;> exact absurd q.1 (by omega)
  · left
    intro c
    refine zS_zero' fun g _ => ?_
    by_cases q : (zxl P g < k ∧ k ≤ zxr P g) ∧ y < zf P g (k : Rat)
    · by_cases G : zL P g = true
      · exact absurd ⟨g, G, q⟩ e
      · rw [zw_dead G]; simp
    · rw [if_neg q]
