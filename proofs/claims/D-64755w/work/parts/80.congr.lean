set_option maxRecDepth 100000
/-! what depends on live halves alone -/
def kEq (S S' : mS) : Prop := S'.2 1 = S.2 1 ∧ ∀ k, kLv S k → kX S' k = kX S k ∧ kY S' k = kY S k
theorem kEq_L {S S' : mS} (e : kEq S S') : kLv S' = kLv S := by
  funext k
  unfold kLv
  rw [e.1]
theorem kEq_sy {S S' : mS} (e : kEq S S') : kEq S' S := ⟨e.1.symm, fun k L => by rw [kEq_L e] at L; exact ⟨(e.2 k L).1.symm, (e.2 k L).2.symm⟩⟩
theorem kEq_tr {S S' S'' : mS} (e : kEq S S') (e' : kEq S' S'') : kEq S S'' := ⟨e'.1.trans e.1, fun k L => by have h := e'.2 k (by rw [kEq_L e]; exact L); have h' := e.2 k L; exact ⟨h.1.trans h'.1, h.2.trans h'.2⟩⟩
/-- two plans that agree on what is live -/
def pEq (P P' : zP) : Prop := (∀ k, zL P' k = zL P k) ∧ ∀ k, zL P k = true → P'.2.1 k = P.2.1 k ∧ P'.2.2 k = P.2.2 k
theorem kEq_P {S S' : mS} (e : kEq S S') : pEq (kPl S) (kPl S') := by
  refine ⟨fun k => ?_, fun k L => e.2 k (kPl_L.mp L)⟩
  unfold zL kPl
  rw [e.1]
theorem pEq_sy {P P' : zP} (e : pEq P P') : pEq P' P := ⟨fun k => (e.1 k).symm, fun k L => by rw [e.1] at L; exact ⟨(e.2 k L).1.symm, (e.2 k L).2.symm⟩⟩
theorem pEq_same {P P' : zP} (e : pEq P P') {a b : Nat} (h : zSame P a b) : zSame P' a b := fun S s0 s1 s2 => h S s0 (fun x X s => s1 x (by rw [e.1]; exact X) s) (fun x y X Y e1 e2 s => s2 x y (by rw [e.1]; exact X) (by rw [e.1]; exact Y) (by rw [(e.2 x X).1, (e.2 y Y).1]; exact e1) (by rw [(e.2 x X).2, (e.2 y Y).2]; exact e2) s)
theorem pEq_sameE {P P' : zP} (e : pEq P P') : zSame P' = zSame P := by
  funext a b
  exact propext ⟨fun h => pEq_same (pEq_sy e) h, fun h => pEq_same e h⟩
theorem pEq_X {P P' : zP} (e : pEq P P') {k : Nat} (L : zL P k = true) : zX P' k = zX P k ∧ zY P' k = zY P k := by
  unfold zX zY
  rw [(e.2 k L).1, (e.2 k L).2]
  exact ⟨rfl, rfl⟩
theorem pEq_at {P P' : zP} (e : pEq P P') {k : Nat} (L : zL P k = true) : (zxl P' k = zxl P k ∧ zxr P' k = zxr P k) ∧ (zX P' k = zX P k ∧ zX P' (zB k) = zX P (zB k)) ∧ (∀ x, zf P' k x = zf P k x) ∧ ∀ i, zM P' k i = zM P k i := by
  have L' : zL P (zB k) = true := by rw [zL_B]; exact L
  have h1 := pEq_X e L
  have h2 := pEq_X e L'
  have m : zm P' k = zm P k := by unfold zm; rw [h1.1, h1.2, h2.1, h2.2]
  have f : ∀ x, zf P' k x = zf P k x := fun x => by unfold zf; rw [m, h1.1, h1.2]
  refine ⟨⟨by unfold zxl; rw [h1.1, h2.1], by unfold zxr; rw [h1.1, h2.1]⟩, ⟨h1.1, h2.1⟩, f, fun i => by unfold zM; rw [f, f]⟩
theorem pEq_w {P P' : zP} (e : pEq P P') (c : Nat → Rat) (g : Nat) : zw P' c g = zw P c g := by
  unfold zw
  by_cases L : zL P g = true
  · have h := pEq_at e L
    rw [if_pos L, if_pos (by rw [e.1]; exact L), h.2.1.1, h.2.1.2]
  · rw [if_neg L, if_neg (by rw [e.1]; exact L)]
theorem pEq_W {P P' : zP} (e : pEq P P') (c : Nat → Rat) {h : Nat} (H : zL P h = true) : zW P' c h = zW P c h := by
  have hh := pEq_at e H
  unfold zW zWl zG zH
  rw [hh.1.1, hh.2.1.1, hh.2.1.2, hh.2.2.2]
  have key : ∀ g, (zxl P' g ≤ zxl P h ∧ zxl P h < zxr P' g) = (zxl P g ≤ zxl P h ∧ zxl P h < zxr P g) ∨ zw P c g = 0 := by
    intro g
    by_cases L : zL P g = true
    · left; rw [(pEq_at e L).1.1, (pEq_at e L).1.2]
    · right; exact zw_dead L
  split
  · refine zS_congr fun g _ => ?_
    rw [pEq_w e]
    by_cases L : zL P g = true
    · have := pEq_at e L
      rw [this.1.1, this.1.2, this.2.2.2]
    · rw [zw_dead L]; simp
  · refine zS_congr fun g _ => ?_
    rw [pEq_w e]
    by_cases L : zL P g = true
    · have := pEq_at e L
      rw [this.1.1, this.1.2, this.2.2.2]
    · rw [zw_dead L]; simp
theorem pEq_A {P P' : zP} (e : pEq P P') (c : Nat → Rat) : zArea P' c = zArea P c := by
  unfold zArea
  refine zS_congr fun g _ => ?_
  by_cases L : zL P g = true
  · have L' : zL P (zB g) = true := by rw [zL_B]; exact L
    rw [if_pos L, if_pos (by rw [e.1]; exact L), (pEq_X e L).1, (pEq_X e L).2, (pEq_X e L').1, (pEq_X e L').2]
  · rw [if_neg L, if_neg (by rw [e.1]; exact L)]
theorem pEq_pos {P P' : zP} (e : pEq P P') {ρ : Nat → Nat} {r : Nat} : zPos P' ρ r ↔ zPos P ρ r := by
  unfold zPos
  rw [pEq_A e]
  constructor
  · rintro ⟨⟨g, G, h⟩, p⟩; exact ⟨⟨g, by rw [← e.1]; exact G, h⟩, p⟩
  · rintro ⟨⟨g, G, h⟩, p⟩; exact ⟨⟨g, by rw [e.1]; exact G, h⟩, p⟩
theorem pEq_Fc {P P' : zP} (e : pEq P P') {ρ : Nat → Nat} {v : Nat → Rat} {res : Option Nat} : zFc P' ρ v res ↔ zFc P ρ v res := by
  cases res with
  | none =>
    show (∀ r, zPos P' ρ r → v r = 0) ↔ (∀ r, zPos P ρ r → v r = 0)
    constructor
    · intro h r hr; exact h r ((pEq_pos e).mpr hr)
    · intro h r hr; exact h r ((pEq_pos e).mp hr)
  | some q =>
    show (zPos P' ρ q ∧ v q = 1 ∧ ∀ r', zPos P' ρ r' → r' ≠ q → v r' = 0 ∨ (v r' = 1 ∧ zArea P' (zcr ρ q) < zArea P' (zcr ρ r'))) ↔ (zPos P ρ q ∧ v q = 1 ∧ ∀ r', zPos P ρ r' → r' ≠ q → v r' = 0 ∨ (v r' = 1 ∧ zArea P (zcr ρ q) < zArea P (zcr ρ r')))
    rw [pEq_pos e]
    constructor
    · rintro ⟨a, b, c⟩
      refine ⟨a, b, fun r hr ne => ?_⟩
      have := c r ((pEq_pos e).mpr hr) ne
      rw [pEq_A e, pEq_A e] at this
      exact this
    · rintro ⟨a, b, c⟩
      refine ⟨a, b, fun r hr ne => ?_⟩
      rw [pEq_A e, pEq_A e]
      exact c r ((pEq_pos e).mp hr) ne
theorem pEq_fc {P P' : zP} (e : pEq P P') (ρ : Nat → Nat) {h : Nat} (H : zL P h = true) : zfc P' ρ h = zfc P ρ h := by
  unfold zfc
  congr 1
  funext res
  have : (fun r => zW P' (zcr ρ r) h) = (fun r => zW P (zcr ρ r) h) := by funext r; exact pEq_W e _ H
  rw [this]
  exact propext (pEq_Fc e)
theorem rk_cg {L : Nat → Prop} {R R' : Nat → Nat → Prop} (h : ∀ a b, L a → L b → (R a b ↔ R' a b)) : fst L R = fst L R' ∧ rk L R = rk L R' := by
  have e : fst L R = fst L R' := by
    funext f
    refine propext ⟨fun q => ⟨q.1, fun g hg G o => q.2 g hg G ((h g f G q.1).mpr o)⟩, fun q => ⟨q.1, fun g hg G o => q.2 g hg G ((h g f G q.1).mp o)⟩⟩
  refine ⟨e, ?_⟩
  funext n
  unfold rk
  rw [e]
section CONGR
variable {E : gV} {T : tT} {S S' : mS} {HA ND : Nat → Nat} {ns : List Nat} {NX NY : Nat → Int} {LA : Nat → Nat} {LN : Nat → List Nat}
theorem kEq_Kb (e : kEq S S') {a b : Nat} (A : kLv S a) (B : kLv S b) : kKb S' a b ↔ kKb S a b := by
  unfold kKb kdx kdy
  rw [(e.2 a A).1, (e.2 a A).2, (e.2 b B).1, (e.2 b B).2, (e.2 _ (kLv_B A)).1, (e.2 _ (kLv_B A)).2, (e.2 _ (kLv_B B)).1, (e.2 _ (kLv_B B)).2]
theorem kEq_jG (e : kEq S S') (j : jG E S T HA ND ns NX NY LA LN) : jG E S' T HA ND ns NX NY LA LN := by
  obtain ⟨j0, j1, j2, j3, j4, j5, j6⟩ := j
  unfold jG
  rw [kEq_L e]
  refine ⟨j0, fun k L => ?_, fun m hm => ?_, j3, ?_, j5, j6⟩
  · have q := j1 k L
    rw [(e.2 k L).1, (e.2 k L).2]
    exact q
  · have q := j2 m hm
    refine ⟨q.1, q.2.1, ?_, q.2.2.2⟩
    exact List.Pairwise.imp_of_mem (fun {a b} ha hb h => (kEq_Kb e (q.2.1 a ha).1 (q.2.1 b hb).1).mpr h) q.2.2.1
  · rw [j4, (rk_cg (L := kLv S) (R := kSp S) (R' := kSp S') (fun a b A B => ?_)).2]
    unfold kSp
    rw [(e.2 a A).1, (e.2 a A).2, (e.2 b B).1, (e.2 b B).2]
theorem kEq_ar (e : kEq S S') {nx : Nat → Nat} (nn : nxG S nx) {f : Nat} (L : kLv S f) : kAr S' nx f = kAr S nx f := by
  unfold kAr
  have : (fun k => kX S' (itN nx k f) * kY S' (zB (itN nx k f)) - kY S' (itN nx k f) * kX S' (zB (itN nx k f))) = (fun k => kX S (itN nx k f) * kY S (zB (itN nx k f)) - kY S (itN nx k f) * kX S (zB (itN nx k f))) := by
    funext k
    have L1 := itN_L nn.1 L k
    rw [(e.2 _ L1).1, (e.2 _ L1).2, (e.2 _ (kLv_B L1)).1, (e.2 _ (kLv_B L1)).2]
  rw [this]
theorem kEq_rs (e : kEq S S') (nx : Nat → Nat) {f : Nat} (L : kLv S f) : rsC S' nx f = rsC S nx f := by
  unfold rsC
  have : cRo S' nx = cRo S nx := by funext k; unfold cRo; rw [kEq_L e]
  rw [this]
  exact pEq_fc (kEq_P e) _ (kPl_L.mpr L)
end CONGR
