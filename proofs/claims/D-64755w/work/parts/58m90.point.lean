/-! the half whose left side is what lies just above a point, right of it -/
theorem w_top {P : zP} (K : zOK P) {c : Nat → Rat} {b : Nat} (B : zL P b = true) (rb : zR P b) (top : ∀ j, zL P j = true → zR P j → zX P j = zX P b → zm P j ≤ zm P b) : zW P c b = zAR P c (zX P b) (zY P b : Rat) := by
  have xl := zxl_R rb
  have := z_c2 c K B (fun g G eg => by
    obtain ⟨j, J, jg, rj, ej⟩ := z_at_R K G
    have ejb : zX P j = zX P b := by omega
    rw [xl, ← (z_same K G jg).2.1]
    have m := top j J rj ejb
    have := zM_right K B J rb rj ejb.symm
    grind)
  rw [xl, zf_self] at this
  rw [← this]
  have rb0 : zX P b < zX P (zB b) := rb
  unfold zW zWl
  rw [if_pos rb0, xl]
theorem w_low {P : zP} (K : zOK P) {c : Nat → Rat} (C : zCirc P c) {a : Nat} (A : zL P a = true) (no : ∀ j, zL P j = true → zX P j = zX P a → ¬ zR P j) (low : ∀ j, zL P j = true → zX P j = zX P a → zm P j ≤ zm P a) : zW P c a = zAR P c (zX P a) (zY P a : Rat) := by
  have ra := no a A rfl
  have xr := zxr_N ra
  have lr := zxl_lt K A
  have h1 := z_c4 c K A (fun g G eg => by
    obtain ⟨j, J, jg, rj, ej⟩ := z_at_L K G
    have ejb : zX P j = zX P a := by omega
    rw [xr, ← (z_same K G jg).2.1]
    have m := low j J ejb
    have := zM_left K J A ejb
    rw [ejb] at this
    grind)
  have h2 := z_c7 c K A (fun g G eg => by
    obtain ⟨j, J, jg, rj, ej⟩ := z_at_R K G
    exact no j J (by omega) rj)
  have h3 := z_BB K C (zxr P a) (zf P a (zxr P a : Rat))
  have h4 := zW_any K C A (k := zxr P a - 1) (by omega) (by omega)
  rw [← h4]
  have ra0 : ¬ zX P a < zX P (zB a) := ra
  unfold zWl
  rw [if_neg ra0, h1, h3, ← h2, xr, zf_self]
theorem w_pt {P : zP} (K : zOK P) {h : Nat} (H : zL P h = true) : ∃ h', zL P h' = true ∧ zX P h' = zX P h ∧ ∀ c, zCirc P c → zW P c h' = zAR P c (zX P h) (zY P h : Rat) := by
  by_cases e : ∃ g, zL P g = true ∧ zR P g ∧ zX P g = zX P h
  · obtain ⟨g, g1, g2, g3⟩ := e
    obtain ⟨i, hi, i1, i2⟩ := z_min (n := 120) (fun g => zL P g && (decide (zX P g < zX P (zB g)) && decide (zX P g = zX P h))) (fun g => - zm P g) g (zL_lt g1) (by
      have g2 : zX P g < zX P (zB g) := g2
      rw [g1, decide_eq_true g2, decide_eq_true g3]; rfl)
    simp only [Bool.and_eq_true, decide_eq_true_eq] at i1 i2
    refine ⟨i, i1.1, i1.2.2, fun c C => ?_⟩
    rw [w_top K (c := c) i1.1 i1.2.1 (fun j J rj ej => by
      have := i2 j (zL_lt J) ⟨J, rj, by rw [ej]; exact i1.2.2⟩
      grind)]
    rw [i1.2.2]
    have := (zX_inj K i1.1 H i1.2.2).2
    unfold zY
    rw [this]
  · obtain ⟨i, hi, i1, i2⟩ := z_min (n := 120) (fun g => zL P g && decide (zX P g = zX P h)) (fun g => - zm P g) h (zL_lt H) (by simp [H])
    simp only [Bool.and_eq_true, decide_eq_true_eq] at i1 i2
    refine ⟨i, i1.1, i1.2, fun c C => ?_⟩
    rw [w_low K C i1.1 (fun j J ej rj => e ⟨j, J, rj, by rw [ej]; exact i1.2⟩) (fun j J ej => by
      have := i2 j (zL_lt J) ⟨J, by rw [ej]; exact i1.2⟩
      grind)]
    rw [i1.2]
    have := (zX_inj K i1.1 H i1.2).2
    unfold zY
    rw [this]
/-- a flow that is nowhere on a piece: at each of its points what it is at each of its halves -/
theorem w_pc {P : zP} (K : zOK P) {nx : Nat → Nat} (N : ∀ h, zL P h = true → zNx P h (nx h)) {c : Nat → Rat} (hc : ∀ h, zL P h = true → c (nx h) = c h) {h : Nat} (H : zL P h = true) (h0 : ∀ g, zSame P h g → c g = 0) :
    zAR P c (zX P h) (zY P h : Rat) = zW P c h := by
  obtain ⟨h', a1, a2, a3⟩ := w_pt K H
  have C := z_circ K N hc
  have s := zSame_X K H a1 a2.symm
  have := z_phi K N hc s
  rw [h0 h (zSame_refl P h), h0 h' s, a3 c C] at this
  grind
/-! every half has its face -/
theorem z_fc_ex {P : zP} (K : zOK P) {nx ρ : Nat → Nat} (N : ∀ h, zL P h = true → zNx P h (nx h)) (Ro : zRo P nx ρ) : ∀ h, zL P h = true → ∃ res, zFc P ρ (fun r => zW P (zcr ρ r) h) res := by
  refine z_ind K _ ?_
  intro b hb ih h s
  by_cases hp : 0 < zArea P (zcr ρ (ρ h))
  · exact ⟨_, z_fc_self K N Ro (zSame_L hb.1 s) hp⟩
  · rcases z_above K (zX P b) (zY P b : Rat) with e | ⟨g, G, gl, e⟩
    · exact ⟨none, z_fc_none K N Ro hb s hp (fun c C _ => by rw [← z_AA K C, e c])⟩
    · obtain ⟨res, hr⟩ := ih g G gl
      refine ⟨res, z_fc_go K N Ro hb s hp G ?_ (fun c C _ => by rw [← z_AA K C, e c C]) hr⟩
      unfold zxl at gl
      by_cases q : zX P g < zX P b
      · exact ⟨g, zSame_refl P g, q⟩
      · exact ⟨zB g, zSame_B G, by omega⟩
/-- what a place lies in -/
theorem z_place {P : zP} (K : zOK P) {nx ρ : Nat → Nat} (N : ∀ h, zL P h = true → zNx P h (nx h)) (Ro : zRo P nx ρ) (k : Int) (y : Rat) : ∃ res, zFc P ρ (fun r => zAR P (zcr ρ r) k y) res := by
  rcases z_above K k y with e | ⟨g, G, gl, e⟩
  · refine ⟨none, fun r _ => ?_⟩
    show zAR P (zcr ρ r) k y = 0
    rw [← z_AA K (z_circ K N (zcr_nx Ro r)), e]
  · obtain ⟨res, hr⟩ := z_fc_ex K N Ro g G
    refine ⟨res, zFc_congr (fun r _ => ?_) hr⟩
    show zAR P (zcr ρ r) k y = zW P (zcr ρ r) g
    rw [← z_AA K (z_circ K N (zcr_nx Ro r)), e _ (z_circ K N (zcr_nx Ro r))]
theorem zFc_01 {P : zP} {ρ : Nat → Nat} {v : Nat → Rat} {a : Option Nat} (h : zFc P ρ v a) {r : Nat} (hr : zPos P ρ r) : v r = 0 ∨ v r = 1 := by
  cases a with
  | none => exact Or.inl (h r hr)
  | some q =>
    by_cases e : r = q
    · subst e; exact Or.inr h.2.1
    · rcases h.2.2 r hr e with h | h
      · exact Or.inl h
      · exact Or.inr h.1
