/-! of two rounds around a place the inner one has the lesser area -/
theorem zw_sub (P : zP) (c d : Nat → Rat) (g : Nat) : zw P (fun h => c h - d h) g = zw P c g - zw P d g := by
  unfold zw
  split
  · split <;> grind
  · grind
theorem zS_if_sub (n : Nat) (p : Nat → Prop) [DecidablePred p] (f g h : Nat → Rat) (e : ∀ i, f i = g i - h i) : zS n (fun i => if p i then f i else 0) = zS n (fun i => if p i then g i else 0) - zS n (fun i => if p i then h i else 0) := by
  rw [← zS_sub]
  refine zS_congr fun i _ => ?_
  split
  · exact e i
  · grind
theorem zW_sub (P : zP) (c d : Nat → Rat) (h : Nat) : zW P (fun h => c h - d h) h = zW P c h - zW P d h := by
  unfold zW zWl zG zH
  split
  · exact zS_if_sub _ _ _ _ _ (zw_sub P c d)
  · exact zS_if_sub _ _ _ _ _ (zw_sub P c d)
theorem zArea_sub (P : zP) (c d : Nat → Rat) : zArea P (fun h => c h - d h) = zArea P c - zArea P d := by
  unfold zArea
  exact zS_if_sub _ _ _ _ _ (fun i => by grind)
theorem zCirc_sub {P : zP} {c d : Nat → Rat} (h1 : zCirc P c) (h2 : zCirc P d) : zCirc P (fun h => c h - d h) := by
  intro χ
  have := zS_if_sub 120 (fun h => zL P h = true) (fun h => (c h - d h) * (χ (zX P h) (zY P h) - χ (zX P (zB h)) (zY P (zB h)))) (fun h => c h * (χ (zX P h) (zY P h) - χ (zX P (zB h)) (zY P (zB h)))) (fun h => d h * (χ (zX P h) (zY P h) - χ (zX P (zB h)) (zY P (zB h)))) (fun i => by grind)
  rw [this, h1, h2]
  grind
theorem zcr_self (ρ : Nat → Nat) (h : Nat) : zcr ρ (ρ h) h = 1 := if_pos rfl
theorem zcr_ne {ρ : Nat → Nat} {r h : Nat} (e : ρ h ≠ r) : zcr ρ r h = 0 := if_neg e
theorem zcr_01 (ρ : Nat → Nat) (r h : Nat) : zcr ρ r h = 0 ∨ zcr ρ r h = 1 := by unfold zcr; split <;> simp
/-- each piece has one round whose area is not above 0, that of its corner -/
theorem z_sign {P : zP} (K : zOK P) {nx ρ : Nat → Nat} (N : ∀ h, zL P h = true → zNx P h (nx h)) (Ro : zRo P nx ρ) {b h0 : Nat} (hb : zCor P b) (s0 : zSame P b h0) :
    0 < zArea P (zcr ρ (ρ h0)) ↔ ρ b ≠ ρ h0 := by
  have hc := zcr_nx Ro (ρ h0)
  have C := z_circ K N hc
  have v := z_val K N Ro hb s0
  have H0 := zSame_L hb.1 s0
  constructor
  · intro hp e
    have C0 : zCirc P (fun _ => 0) := z_circ K N (fun _ _ => rfl)
    have := z_area K (zCirc_sub C0 C) (fun h H => by
      rw [zW_sub]
      have z : zW P (fun _ => 0) h = 0 := by
        unfold zW zWl zG zH
        have : ∀ g, zw P (fun _ => 0) g = 0 := by intro g; unfold zw; split <;> (try split) <;> grind
        split <;> exact zS_zero' fun i _ => by rw [this]; simp
      rw [z]
      have := (v h H).2.2 e
      grind)
    rw [zArea_sub] at this
    have z : zArea P (fun _ => 0) = 0 := zS_zero' fun i _ => by split <;> grind
    rw [z] at this
    grind
  · intro ne
    refine (z_area K C fun h H => ?_).2 ⟨h0, H0, ?_⟩
    · have := (v h H).2.1 ne
      grind
    · rw [(v h0 H0).1 s0, zcr_self, zcr_ne ne]
      grind
/-- a flow on one piece, seen from another -/
theorem z_left {P : zP} (K : zOK P) {c : Nat → Rat} {b b' : Nat} (hb : zCor P b) (h0 : ∀ g, zL P g = true → ¬ zSame P b g → c g = 0) (hX : zX P b' ≤ zX P b) (y : Rat) : zAL P c (zX P b') y = 0 := by
  refine zS_zero' fun g _ => ?_
  by_cases q : (zxl P g < zX P b' ∧ zX P b' ≤ zxr P g) ∧ y < zf P g (zX P b' : Rat)
  · rw [if_pos q]
    by_cases G : zL P g = true
    · have : c g = 0 := by
        refine h0 g G fun s => ?_
        have a1 := hb.2.1 g s
        have a2 := hb.2.1 (zB g) (zSame_trans s (zSame_B G))
        have := q.1.1
        unfold zxl at this
        omega
      unfold zw
      rw [this, if_pos G]
      split <;> grind
    · exact zw_dead G
  · rw [if_neg q]
theorem zcr_off {P : zP} {nx ρ : Nat → Nat} (Ro : zRo P nx ρ) {b h0 : Nat} (hb : zCor P b) (s0 : zSame P b h0) : ∀ g, zL P g = true → ¬ zSame P b g → zcr ρ (ρ h0) g = 0 := by
  intro g G s
  refine zcr_ne fun e => s (zSame_trans s0 (Ro.2 h0 g (zSame_L hb.1 s0) G e.symm))
theorem z_inner {P : zP} (K : zOK P) {nx ρ : Nat → Nat} (N : ∀ h, zL P h = true → zNx P h (nx h)) (Ro : zRo P nx ρ) {b h0 b' h1 : Nat} (hb : zCor P b) (s0 : zSame P b h0) (hb' : zCor P b') (s1 : zSame P b' h1) (ns : ¬ zSame P b b') (o0 : ρ b ≠ ρ h0) (o1 : ρ b' ≠ ρ h1) (w : zW P (zcr ρ (ρ h1)) h0 = 1) :
    zArea P (zcr ρ (ρ h0)) < zArea P (zcr ρ (ρ h1)) := by
  have hc0 := zcr_nx Ro (ρ h0)
  have hc1 := zcr_nx Ro (ρ h1)
  have C0 := z_circ K N hc0
  have C1 := z_circ K N hc1
  have v0 := z_val K N Ro hb s0
  have v1 := z_val K N Ro hb' s1
  have H0 := zSame_L hb.1 s0
  have H1 := zSame_L hb'.1 s1
  have of0 := zcr_off Ro hb s0
  have of1 := zcr_off Ro hb' s1
  -- the outer one comes from further left
  have on1 : ∀ h, zSame P b h → zW P (zcr ρ (ρ h1)) h = zAL P (zcr ρ (ρ h1)) (zX P b) (zY P b : Rat) := by
    intro h s
    refine z_off K N hc1 hb s fun g sg => ?_
    exact of1 g (zSame_L hb.1 sg) fun q => ns (zSame_trans sg (zSame_symm q))
  have hX : zX P b' < zX P b := by
    by_cases q : zX P b ≤ zX P b'
    · have := on1 h0 s0
      rw [z_left K hb' of1 q, w] at this
      grind
    · omega
  have on0 : ∀ h, zSame P b' h → zW P (zcr ρ (ρ h0)) h = 0 := by
    intro h s
    rw [z_off K N hc0 hb' s fun g sg => of0 g (zSame_L hb'.1 sg) fun q => ns (zSame_trans q (zSame_symm sg)), z_left K hb of0 (by omega)]
  have le : ∀ h, zL P h = true → zW P (zcr ρ (ρ h0)) h ≤ zW P (zcr ρ (ρ h1)) h := by
    refine z_ind K _ fun b'' hb'' ih h s => ?_
    have H := zSame_L hb''.1 s
    by_cases q0 : zSame P b h
    · have e1 : zW P (zcr ρ (ρ h1)) h = 1 := by rw [on1 h q0, ← on1 h0 s0]; exact w
      have := (v0 h H).2.1 o0
      grind
    · by_cases q1 : zSame P b' h
      · rw [on0 h q1]
        have := (v1 h H).2.1 o1
        grind
      · have e0 := z_off K N hc0 hb'' s fun g sg => of0 g (zSame_L hb''.1 sg) fun q => q0 (zSame_trans (zSame_trans q (zSame_symm sg)) s)
        have e1 := z_off K N hc1 hb'' s fun g sg => of1 g (zSame_L hb''.1 sg) fun q => q1 (zSame_trans (zSame_trans q (zSame_symm sg)) s)
        rw [e0, e1]
        rcases z_above K (zX P b'') (zY P b'' : Rat) with z | ⟨g, G, gl, gw⟩
        · rw [z, z]; grind
        · rw [gw _ C0, gw _ C1]
          exact ih g G gl
  have ar := (z_area K (zCirc_sub C1 C0) (fun h H => by rw [zW_sub]; have := le h H; grind)).2 ⟨h1, H1, by
    rw [zW_sub, on0 h1 s1, (v1 h1 H1).1 s1, zcr_self, zcr_ne o1]
    grind⟩
  rw [zArea_sub] at ar
  grind
/-! what a place lies in -/
def zPos (P : zP) (ρ : Nat → Nat) (r : Nat) : Prop := (∃ g, zL P g = true ∧ ρ g = r) ∧ 0 < zArea P (zcr ρ r)
def zFc (P : zP) (ρ : Nat → Nat) (v : Nat → Rat) (res : Option Nat) : Prop := match res with
  | none => ∀ r, zPos P ρ r → v r = 0
  | some r => zPos P ρ r ∧ v r = 1 ∧ ∀ r', zPos P ρ r' → r' ≠ r → v r' = 0 ∨ (v r' = 1 ∧ zArea P (zcr ρ r) < zArea P (zcr ρ r'))
theorem zFc_one {P : zP} {ρ : Nat → Nat} {v : Nat → Rat} {a b : Option Nat} (h1 : zFc P ρ v a) (h2 : zFc P ρ v b) : a = b := by
  cases a with
  | none =>
    cases b with
    | none => rfl
    | some r => have := h1 r h2.1; have := h2.2.1; grind
  | some r =>
    cases b with
    | none => have := h2 r h1.1; have := h1.2.1; grind
    | some r' =>
      by_cases e : r = r'
      · rw [e]
      · exfalso
        have a1 := h1.2.2 r' h2.1 (Ne.symm e)
        have a2 := h2.2.2 r h1.1 e
        have := h1.2.1
        have := h2.2.1
        grind
theorem zFc_congr {P : zP} {ρ : Nat → Nat} {v v' : Nat → Rat} {a : Option Nat} (e : ∀ r, zPos P ρ r → v r = v' r) (h : zFc P ρ v' a) : zFc P ρ v a := by
  cases a with
  | none => intro r hr; rw [e r hr]; exact h r hr
  | some r =>
    refine ⟨h.1, by rw [e r h.1]; exact h.2.1, fun r' hr' ne => ?_⟩
    rw [e r' hr']
    exact h.2.2 r' hr' ne
theorem z_fc_self {P : zP} (K : zOK P) {nx ρ : Nat → Nat} (N : ∀ h, zL P h = true → zNx P h (nx h)) (Ro : zRo P nx ρ) {h : Nat} (H : zL P h = true) (hp : 0 < zArea P (zcr ρ (ρ h))) : zFc P ρ (fun r => zW P (zcr ρ r) h) (some (ρ h)) := by
  obtain ⟨b, sb, hb⟩ := z_cor_ex K H
  have sb := zSame_symm sb
  have o0 := (z_sign K N Ro hb sb).mp hp
  refine ⟨⟨⟨h, H, rfl⟩, hp⟩, ?_, ?_⟩
  · show zW P (zcr ρ (ρ h)) h = 1
    rw [(z_val K N Ro hb sb h H).1 sb, zcr_self, zcr_ne o0]; grind
  · intro r' ⟨⟨g, G, eg⟩, hp'⟩ ne
    subst eg
    obtain ⟨b', sb', hb'⟩ := z_cor_ex K G
    have sb' := zSame_symm sb'
    have o1 := (z_sign K N Ro hb' sb').mp hp'
    have v := z_val K N Ro hb' sb' h H
    show zW P (zcr ρ (ρ g)) h = 0 ∨ (zW P (zcr ρ (ρ g)) h = 1 ∧ _)
    rcases v.2.1 o1 with e | e
    · exact Or.inl e
    · right
      refine ⟨e, z_inner K N Ro hb sb hb' sb' ?_ o0 o1 e⟩
      intro s
      have s2 : zSame P b' h := zSame_trans (zSame_symm s) sb
      rw [v.1 s2, zcr_ne (Ne.symm ne), zcr_ne o1] at e
      grind
/-- in the round around a piece: what its corner lies in -/
theorem z_fc_val {P : zP} (K : zOK P) {nx ρ : Nat → Nat} (N : ∀ h, zL P h = true → zNx P h (nx h)) (Ro : zRo P nx ρ) {h b : Nat} (hb : zCor P b) (sb : zSame P b h) (hp : ¬ 0 < zArea P (zcr ρ (ρ h))) {r : Nat} (hr : zPos P ρ r) :
    (zW P (zcr ρ r) h = 0 ∧ (∃ g, zSame P b g ∧ ρ g = r)) ∨ ((∀ g, zSame P b g → zcr ρ r g = 0) ∧ zW P (zcr ρ r) h = zAR P (zcr ρ r) (zX P b) (zY P b : Rat)) := by
  obtain ⟨⟨g, G, eg⟩, hp'⟩ := hr
  subst eg
  have H := zSame_L hb.1 sb
  have eb : ρ b = ρ h := by
    by_cases q : ρ b = ρ h
    · exact q
    · exact absurd ((z_sign K N Ro hb sb).mpr q) hp
  by_cases s : zSame P b g
  · left
    have o := (z_sign K N Ro hb s).mp hp'
    refine ⟨?_, g, s, rfl⟩
    rw [(z_val K N Ro hb s h H).1 sb, zcr_ne (by omega), zcr_ne o]
    grind
  · right
    have z : ∀ g', zSame P b g' → zcr ρ (ρ g) g' = 0 := by
      intro g' s'
      refine zcr_ne fun e => s (zSame_trans s' (Ro.2 g' g (zSame_L hb.1 s') G e))
    exact ⟨z, by rw [z_off K N (zcr_nx Ro _) hb sb z, z_AA K (z_circ K N (zcr_nx Ro _))]⟩
theorem z_fc_none {P : zP} (K : zOK P) {nx ρ : Nat → Nat} (N : ∀ h, zL P h = true → zNx P h (nx h)) (Ro : zRo P nx ρ) {h b : Nat} (hb : zCor P b) (sb : zSame P b h) (hp : ¬ 0 < zArea P (zcr ρ (ρ h)))
    (no : ∀ c, zCirc P c → (∀ g, zSame P b g → c g = 0) → zAR P c (zX P b) (zY P b : Rat) = 0) : zFc P ρ (fun r => zW P (zcr ρ r) h) none := by
  intro r hr
  rcases z_fc_val K N Ro hb sb hp hr with ⟨e, _⟩ | ⟨z, e⟩
  · exact e
  · show zW P (zcr ρ r) h = 0
    rw [e]
    exact no _ (z_circ K N (zcr_nx Ro _)) z
theorem z_fc_go {P : zP} (K : zOK P) {nx ρ : Nat → Nat} (N : ∀ h, zL P h = true → zNx P h (nx h)) (Ro : zRo P nx ρ) {h b g : Nat} (hb : zCor P b) (sb : zSame P b h) (hp : ¬ 0 < zArea P (zcr ρ (ρ h))) (G : zL P g = true) (gl : ∃ g', zSame P g g' ∧ zX P g' < zX P b)
    (go : ∀ c, zCirc P c → (∀ g, zSame P b g → c g = 0) → zAR P c (zX P b) (zY P b : Rat) = zW P c g) {res : Option Nat} (hg : zFc P ρ (fun r => zW P (zcr ρ r) g) res) : zFc P ρ (fun r => zW P (zcr ρ r) h) res := by
  refine zFc_congr (fun r hr => ?_) hg
  rcases z_fc_val K N Ro hb sb hp hr with ⟨e, g', s', e'⟩ | ⟨z, e⟩
  · show zW P (zcr ρ r) h = zW P (zcr ρ r) g
    rw [e]
    subst e'
    obtain ⟨b', sb', hb'⟩ := z_cor_ex K G
    obtain ⟨g'', s1, s2⟩ := gl
    have sb' := zSame_symm sb'
    have lt : zX P b' < zX P b := by have := hb'.2.1 g'' (zSame_trans sb' s1); omega
    have of := zcr_off Ro hb s'
    have ns : ¬ zSame P b b' := fun q => by have := hb.2.1 b' q; omega
    rw [z_off K N (zcr_nx Ro _) hb' sb' fun i si => of i (zSame_L hb'.1 si) fun q => ns (zSame_trans q (zSame_symm si)), z_left K hb of (by omega)]
  · show zW P (zcr ρ r) h = zW P (zcr ρ r) g
    rw [e]
    exact go _ (z_circ K N (zcr_nx Ro _)) z
