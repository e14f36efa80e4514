/-! rounds: the flow once round -/
def zcr (ρ : Nat → Nat) (r : Nat) : Nat → Rat := fun h => if ρ h = r then 1 else 0
def zRo (P : zP) (nx ρ : Nat → Nat) : Prop := (∀ h, zL P h = true → ρ (nx h) = ρ h) ∧ (∀ g h, zL P g = true → zL P h = true → ρ g = ρ h → zSame P g h)
theorem zcr_nx {P : zP} {nx ρ : Nat → Nat} (Ro : zRo P nx ρ) (r : Nat) : ∀ h, zL P h = true → zcr ρ r (nx h) = zcr ρ r h := by
  intro h H
  unfold zcr
  rw [Ro.1 h H]
theorem z_cor_zero {P : zP} (K : zOK P) {c : Nat → Rat} (C : zCirc P c) {b : Nat} (hb : zCor P b) (h0 : ∀ g, zL P g = true → ¬ zSame P b g → c g = 0) : zW P c b = 0 := by
  rw [z_cor_W K C hb, ← z_AA K C]
  refine zS_zero' fun g _ => ?_
  by_cases q : (zxl P g < zX P b ∧ zX P b ≤ zxr P g) ∧ (zY P b : Rat) < zf P g (zX P b : Rat)
  · rw [if_pos q]
    by_cases G : zL P g = true
    · have : c g = 0 := by
        refine h0 g G fun s => ?_
        have a1 := hb.2.1 g s
        have a2 := hb.2.1 (zB g) (zSame_trans s (zSame_B G))
        have := q.1.1
        unfold zxl at this
        omega
      unfold zw
      rw [this, if_pos G]
      split <;> grind
    · exact zw_dead G
  · rw [if_neg q]
theorem zX_low {P : zP} (K : zOK P) {h : Nat} (H : zL P h = true) : -640016000 ≤ zX P h ∧ zX P h ≤ 640016000 := by
  have := K.1 h H
  unfold zX
  omega
/-- a flow that is nowhere but on a piece is all round another what it is at its corner, and that is what it is further left -/
theorem z_off {P : zP} (K : zOK P) {nx : Nat → Nat} (N : ∀ h, zL P h = true → zNx P h (nx h)) {c : Nat → Rat} (hc : ∀ h, zL P h = true → c (nx h) = c h) {b h : Nat} (hb : zCor P b) (s : zSame P b h) (h0 : ∀ g, zSame P b g → c g = 0) :
    zW P c h = zAL P c (zX P b) (zY P b : Rat) := by
  have C := z_circ K N hc
  have h1 := z_phi K N hc s
  rw [h0 h s, h0 b (zSame_refl P b)] at h1
  rw [z_AA K C, ← z_cor_W K C hb]
  grind
/-- going left from piece to piece -/
theorem z_ind {P : zP} (K : zOK P) (S : Nat → Prop) (step : ∀ b, zCor P b → (∀ g, zL P g = true → zxl P g < zX P b → S g) → ∀ h, zSame P b h → S h) : ∀ h, zL P h = true → S h := by
  have key : ∀ (n : Nat) (b : Nat), zCor P b → (zX P b + 640016000).toNat ≤ n → ∀ h, zSame P b h → S h := by
    intro n
    induction n with
    | zero =>
      intro b hb hn
      refine step b hb fun g G hg => ?_
      have := zX_low K hb.1
      have := zX_low K G
      have := zX_low K (h := zB g) (by rw [zL_B]; exact G)
      unfold zxl at hg
      omega
    | succ n ih =>
      intro b hb hn
      refine step b hb fun g G hg => ?_
      obtain ⟨b', s', c'⟩ := z_cor_ex K G
      refine ih b' c' ?_ g (zSame_symm s')
      have l1 := c'.2.1 g (zSame_symm s')
      have l2 := c'.2.1 (zB g) (zSame_trans (zSame_symm s') (zSame_B G))
      have := zX_low K hb.1
      have := zX_low K c'.1
      unfold zxl at hg
      omega
  intro h H
  obtain ⟨b, s, c⟩ := z_cor_ex K H
  exact key _ b c (Nat.le_refl _) h (zSame_symm s)
theorem z_val {P : zP} (K : zOK P) {nx ρ : Nat → Nat} (N : ∀ h, zL P h = true → zNx P h (nx h)) (Ro : zRo P nx ρ) {b h0 : Nat} (hb : zCor P b) (s0 : zSame P b h0) :
    ∀ h, zL P h = true → (zSame P b h → zW P (zcr ρ (ρ h0)) h = zcr ρ (ρ h0) h - zcr ρ (ρ h0) b) ∧ (ρ b ≠ ρ h0 → zW P (zcr ρ (ρ h0)) h = 0 ∨ zW P (zcr ρ (ρ h0)) h = 1) ∧ (ρ b = ρ h0 → zW P (zcr ρ (ρ h0)) h = 0 ∨ zW P (zcr ρ (ρ h0)) h = -1) := by
  have hc := zcr_nx Ro (ρ h0)
  have C := z_circ K N hc
  have H0 := zSame_L hb.1 s0
  have off : ∀ g, zL P g = true → ¬ zSame P b g → zcr ρ (ρ h0) g = 0 := by
    intro g G s
    unfold zcr
    rw [if_neg]
    intro e
    exact s (zSame_trans s0 (Ro.2 h0 g H0 G e.symm))
  have wb := z_cor_zero K C hb off
  have one : ∀ h, zSame P b h → zW P (zcr ρ (ρ h0)) h = zcr ρ (ρ h0) h - zcr ρ (ρ h0) b := by
    intro h s
    have := z_phi K N hc s
    grind
  refine z_ind K _ fun b' hb' ih h s => ?_
  refine ⟨one h, ?_⟩
  by_cases sb : zSame P b h
  · rw [one h sb]
    unfold zcr
    constructor
    · intro ne
      rw [if_neg ne]
      split <;> grind
    · intro e
      rw [if_pos e]
      split <;> grind
  · have hw := z_off K N hc hb' s (fun g sg => by
      have G := zSame_L hb'.1 sg
      exact off g G fun q => sb (zSame_trans (zSame_trans q (zSame_symm sg)) s))
    rcases z_above K (zX P b') (zY P b' : Rat) with z | ⟨g, G, gl, gw⟩
    · rw [hw, z]
      exact ⟨fun _ => Or.inl rfl, fun _ => Or.inl rfl⟩
    · rw [hw, gw _ C]
      exact (ih g G gl).2
/-! areas -/
def zArea (P : zP) (c : Nat → Rat) : Rat := zS 120 (fun h => if zL P h = true then c h * ((zX P h : Rat) * (zY P (zB h) : Rat) - (zX P (zB h) : Rat) * (zY P h : Rat)) else 0)
theorem z_area_sum {P : zP} (K : zOK P) {c : Nat → Rat} (C : zCirc P c) : zArea P c = zS 1400000000 (fun j => zS 120 (fun g => if zxl P g ≤ (j : Int) - 700000000 ∧ (j : Int) - 700000000 < zxr P g then zw P c g * zM P g ((j : Int) - 700000000) else 0)) := by
  rw [zS_swap]
  have e : ∀ g, g < 120 → zS 1400000000 (fun j => if zxl P g ≤ (j : Int) - 700000000 ∧ (j : Int) - 700000000 < zxr P g then zw P c g * zM P g ((j : Int) - 700000000) else 0) = (if zL P g = true then c g * ((zX P g : Rat) * (zY P (zB g) : Rat) - (zX P (zB g) : Rat) * (zY P g : Rat)) else 0) + (if zL P g = true then c g * ((zX P g : Rat) * (zY P g : Rat) - (zX P (zB g) : Rat) * (zY P (zB g) : Rat)) else 0) := by
    intro g hg
    by_cases G : zL P g = true
    · have lr := zxl_lt K G
      have x1 := zX_low K G
      have x2 := zX_low K (h := zB g) (by rw [zL_B]; exact G)
      have st := z_steps 1400000000 700000000 (zxl P g) (zxr P g) (fun x => 2 * (zY P g : Rat) * (x : Rat) + zm P g * (((x : Rat) - (zX P g : Rat)) * ((x : Rat) - (zX P g : Rat)))) (by unfold zxl; omega) (by omega) (by unfold zxr; omega)
      have e1 : zS 1400000000 (fun j => if zxl P g ≤ (j : Int) - 700000000 ∧ (j : Int) - 700000000 < zxr P g then zw P c g * zM P g ((j : Int) - 700000000) else 0) = zw P c g * zS 1400000000 (fun j => if zxl P g ≤ (j : Int) - 700000000 ∧ (j : Int) - 700000000 < zxr P g then (fun x : Int => 2 * (zY P g : Rat) * (x : Rat) + zm P g * (((x : Rat) - (zX P g : Rat)) * ((x : Rat) - (zX P g : Rat)))) ((j : Int) - 700000000 + 1) - (fun x : Int => 2 * (zY P g : Rat) * (x : Rat) + zm P g * (((x : Rat) - (zX P g : Rat)) * ((x : Rat) - (zX P g : Rat)))) ((j : Int) - 700000000) else 0) := by
        rw [← zS_mul]
        refine zS_congr fun j _ => ?_
        split
        · generalize (j : Int) - 700000000 = x
          unfold zM zf
          simp only [Rat.intCast_add, Rat.intCast_ofNat]
          grind
        · grind
      rw [e1, st, if_pos G, if_pos G]
      have hm := zm_eq K G
      by_cases r : zX P g < zX P (zB g)
      · rw [zw_R G r, zxl_R r, zxr_R r]
        grind
      · rw [zw_N G r, zxl_N r, zxr_N r]
        grind
    · rw [if_neg G, if_neg G]
      rw [zS_zero' fun j _ => by rw [zw_dead G]; split <;> grind]
      grind
  have hC : zS 120 (fun g => if zL P g = true then c g * ((zX P g : Rat) * (zY P g : Rat) - (zX P (zB g) : Rat) * (zY P (zB g) : Rat)) else 0) = 0 := C (fun X Y => (X : Rat) * (Y : Rat))
  rw [zS_congr e, zS_add, hC]
  unfold zArea
  grind
theorem z_total {P : zP} (K : zOK P) {c : Nat → Rat} (C : zCirc P c) (k : Int) : zS 120 (fun g => if zxl P g ≤ k ∧ k < zxr P g then zw P c g else 0) = 0 := by
  have h := C (fun X _ => if X ≤ k then 1 else 0)
  have e : zS 120 (fun g => if zxl P g ≤ k ∧ k < zxr P g then zw P c g else 0) = (-1) * zS 120 (fun h => if zL P h = true then c h * ((fun (X : Int) (_ : Int) => if X ≤ k then (1 : Rat) else 0) (zX P h) (zY P h) - (fun (X : Int) (_ : Int) => if X ≤ k then (1 : Rat) else 0) (zX P (zB h)) (zY P (zB h))) else 0) := by
    rw [← zS_mul]
    refine zS_congr fun g _ => ?_
    by_cases G : zL P g = true
    · rw [if_pos G]
      by_cases r : zX P g < zX P (zB g)
      · rw [zw_R G r, zxl_R r, zxr_R r]
        grind
      · rw [zw_N G r, zxl_N r, zxr_N r]
        grind
    · rw [if_neg G, zw_dead G]
      grind
  rw [e, h]
  grind
/-- a sum over the upper part of a strip is what lies above a half -/
theorem z_upper {P : zP} (K : zOK P) (k : Int) (T : Rat → Bool) (up : ∀ a b : Rat, a ≤ b → T a = true → T b = true) :
    (∀ c, zS 120 (fun g => if (zxl P g ≤ k ∧ k < zxr P g) ∧ T (zM P g k) = true then zw P c g else 0) = 0) ∨ ∃ g, zL P g = true ∧ (zxl P g ≤ k ∧ k < zxr P g) ∧ ¬ zX P g < zX P (zB g) ∧ ∀ c, zS 120 (fun g => if (zxl P g ≤ k ∧ k < zxr P g) ∧ T (zM P g k) = true then zw P c g else 0) = zH P c k (zM P g k) := by
  by_cases e : ∃ g, zL P g = true ∧ (zxl P g ≤ k ∧ k < zxr P g) ∧ T (zM P g k) = true
  · right
    obtain ⟨g0, a1, a2, a3⟩ := e
    obtain ⟨i, hi, i1, i2⟩ := z_min (n := 120) (fun g => zL P g && (decide (zxl P g ≤ k ∧ k < zxr P g) && T (zM P g k))) (fun g => zM P g k) g0 (zL_lt a1) (by simp [a1, a2, a3])
    simp only [Bool.and_eq_true, decide_eq_true_eq] at i1 i2
    obtain ⟨iL, is, iT⟩ := i1
    obtain ⟨j, J, ji, rj, ej⟩ := z_at_L K iL
    have sm := z_same K iL ji
    refine ⟨j, J, by omega, rj, fun c => ?_⟩
    rw [sm.2.1]
    refine z_sums fun g G => ?_
    constructor
    · intro q; exact ⟨q.1, i2 g (zL_lt G) ⟨G, q⟩⟩
    · intro q; exact ⟨q.1, up _ _ q.2 iT⟩
  · left
    intro c
    refine zS_zero' fun g _ => ?_
    by_cases q : (zxl P g ≤ k ∧ k < zxr P g) ∧ T (zM P g k) = true
    · by_cases G : zL P g = true
      · exact absurd ⟨g, G, q⟩ e
      · rw [zw_dead G]; simp
    · rw [if_neg q]
theorem z_low {n : Nat} (A : Nat → Bool) (M : Nat → Rat) : ∃ μ : Rat, ∀ i, i < n → A i = true → μ < M i := by
  by_cases e : ∃ j, j < n ∧ A j = true
  · obtain ⟨j, hj, hA⟩ := e
    obtain ⟨i, _, _, h⟩ := z_min A M j hj hA
    exact ⟨M i - 1, fun k hk hk2 => by have := h k hk hk2; grind⟩
  · exact ⟨0, fun i hi hA => absurd ⟨i, hi, hA⟩ e⟩
/-- a flow that is nowhere below 0 has an area that is not below 0 -/
theorem z_area {P : zP} (K : zOK P) {c : Nat → Rat} (C : zCirc P c) (h0 : ∀ h, zL P h = true → 0 ≤ zW P c h) : 0 ≤ zArea P c ∧ ((∃ h, zL P h = true ∧ 0 < zW P c h) → 0 < zArea P c) := by
  have up1 : ∀ k μ, 0 ≤ zS 120 (fun g => if (zxl P g ≤ k ∧ k < zxr P g) ∧ decide (μ ≤ zM P g k) = true then zw P c g else 0) := by
    intro k μ
    rcases z_upper K k (fun f => decide (μ ≤ f)) (fun a b hab ha => by simp only [decide_eq_true_eq] at *; grind) with z | ⟨g, G, s, r, e⟩
    · rw [z]; grind
    · rw [e]
      have h := h0 g G
      rw [← zW_any K C G s.1 s.2] at h
      unfold zWl at h
      rw [if_neg r] at h
      exact h
  have up2 : ∀ k μ, 0 ≤ zS 120 (fun g => if (zxl P g ≤ k ∧ k < zxr P g) ∧ decide (μ < zM P g k) = true then zw P c g else 0) := by
    intro k μ
    rcases z_upper K k (fun f => decide (μ < f)) (fun a b hab ha => by simp only [decide_eq_true_eq] at *; grind) with z | ⟨g, G, s, r, e⟩
    · rw [z]; grind
    · rw [e]
      have h := h0 g G
      rw [← zW_any K C G s.1 s.2] at h
      unfold zWl at h
      rw [if_neg r] at h
      exact h
  simp only [decide_eq_true_eq] at up1 up2
  have strip : ∀ k : Int, 0 ≤ zS 120 (fun g => if zxl P g ≤ k ∧ k < zxr P g then zw P c g * zM P g k else 0) ∧ ((∃ μ, 0 < zH P c k μ) → 0 < zS 120 (fun g => if zxl P g ≤ k ∧ k < zxr P g then zw P c g * zM P g k else 0)) := by
    intro k
    obtain ⟨μ0, hμ⟩ := z_low (n := 120) (fun g => decide (zxl P g ≤ k ∧ k < zxr P g)) (fun g => zM P g k)
    have ab := z_abel 120 120 (zw P c) (fun g => zM P g k) (fun g => decide (zxl P g ≤ k ∧ k < zxr P g)) (zC_bound _ _) (fun μ => by simp only [decide_eq_true_eq]; exact up1 k μ) (fun μ => by simp only [decide_eq_true_eq]; exact up2 k μ) μ0 hμ
    simp only [decide_eq_true_eq] at ab
    have e : zS 120 (fun g => if zxl P g ≤ k ∧ k < zxr P g then zw P c g * (zM P g k - μ0) else 0) = zS 120 (fun g => if zxl P g ≤ k ∧ k < zxr P g then zw P c g * zM P g k else 0) := by
      have t := z_total K C k
      have : zS 120 (fun g => if zxl P g ≤ k ∧ k < zxr P g then zw P c g * (zM P g k - μ0) else 0) = zS 120 (fun g => if zxl P g ≤ k ∧ k < zxr P g then zw P c g * zM P g k else 0) - μ0 * zS 120 (fun g => if zxl P g ≤ k ∧ k < zxr P g then zw P c g else 0) := by
        rw [← zS_mul, ← zS_sub]
        refine zS_congr fun g _ => ?_
        split <;> grind
      rw [this, t]
      grind
    rw [e] at ab
    exact ab
  rw [z_area_sum K C]
  refine ⟨zS_nonneg fun j _ => (strip _).1, ?_⟩
  intro ⟨h, H, hp⟩
  have lr := zxl_lt K H
  have x1 := zX_low K H
  have x2 := zX_low K (h := zB h) (by rw [zL_B]; exact H)
  have xl : -640016000 ≤ zxl P h ∧ zxl P h ≤ 640016000 := by unfold zxl; omega
  obtain ⟨j, hj, ej⟩ : ∃ j : Nat, j < 1400000000 ∧ (j : Int) - 700000000 = zxl P h := ⟨(zxl P h + 700000000).toNat, by omega, by omega⟩
  refine zS_pos (fun j _ => (strip _).1) j hj ((strip _).2 ?_)
  rw [ej]
  unfold zW zWl at hp
  split at hp
  · rcases z_upper K (zxl P h) (fun f => decide (zM P h (zxl P h) < f)) (fun a b hab ha => by simp only [decide_eq_true_eq] at *; grind) with z | ⟨g, G, s, r, e⟩
    · have := z c
      simp only [decide_eq_true_eq] at this
      unfold zG at hp
      rw [this] at hp
      grind
    · have := e c
      simp only [decide_eq_true_eq] at this
      unfold zG at hp
      rw [this] at hp
      exact ⟨_, hp⟩
  · exact ⟨_, hp⟩
