set_option maxRecDepth 100000
/-! rounds by their first halves -/
noncomputable def cRo (S : mS) (nx : Nat → Nat) (k : Nat) : Nat := Classical.epsilon (fun f => fst (kLv S) (orb nx) f ∧ orb nx f k)
theorem bi_min {X Y : Nat → Int} : ∀ n k, k < n → X (bi X Y n) < X k ∨ (X (bi X Y n) = X k ∧ Y (bi X Y n) ≤ Y k) := by
  intro n
  induction n with
  | zero => intro k h; omega
  | succ n ih =>
    intro k hk
    show X (if X n < X (bi X Y n) ∨ (X n = X (bi X Y n) ∧ Y n < Y (bi X Y n)) then n else bi X Y n) < X k ∨ (X (if X n < X (bi X Y n) ∨ (X n = X (bi X Y n) ∧ Y n < Y (bi X Y n)) then n else bi X Y n) = X k ∧ Y (if X n < X (bi X Y n) ∨ (X n = X (bi X Y n) ∧ Y n < Y (bi X Y n)) then n else bi X Y n) ≤ Y k)
    by_cases c : X n < X (bi X Y n) ∨ (X n = X (bi X Y n) ∧ Y n < Y (bi X Y n))
    · rw [if_pos c]
      by_cases e : k = n
      · subst e; exact Or.inr ⟨rfl, Int.le_refl _⟩
      · have := ih k (by omega); omega
    · rw [if_neg c]
      by_cases e : k = n
      · subst e; omega
      · exact ih k (by omega)
theorem zC_inj {A : Nat → Bool} (φ : Nat → Nat) (m : Nat) : ∀ n (B : Nat → Bool), (∀ i, i < n → A i = true → φ i < m ∧ B (φ i) = true) → (∀ i i', i < n → i' < n → A i = true → A i' = true → φ i = φ i' → i = i') → zC n A ≤ zC m B := by
  intro n
  induction n with
  | zero => intro B _ _; exact Nat.zero_le _
  | succ n ih =>
    intro B hB inj
    simp only [zC]
    by_cases c : A n = true
    · rw [if_pos c]
      have hn := hB n (by omega) c
      have h1 := ih (fun i => B i && decide (i ≠ φ n)) (fun i hi hA => by
        have := hB i (by omega) hA
        refine ⟨this.1, ?_⟩
        have ne : φ i ≠ φ n := fun e => by have := inj i n (by omega) (by omega) hA c e; omega
        simp [this.2, ne]) (fun i i' hi hi' => inj i i' (by omega) (by omega))
      have h2 := zC_lt (n := m) (A := fun i => B i && decide (i ≠ φ n)) (B := B) (fun i _ h => by simp at h; exact h.1) (φ n) hn.1 (by simp) hn.2
      omega
    · rw [if_neg c]
      exact ih B (fun i hi => hB i (by omega)) (fun i i' hi hi' => inj i i' (by omega) (by omega))
section CHAIN
variable {E : gV} {T : tT} {S : mS} {HA ND : Nat → Nat} {ns : List Nat} {NX NY : Nat → Int} {LA : Nat → Nat} {LN : Nat → List Nat}
theorem jG_N (K : zOK (kPl S)) (j : jG E S T HA ND ns NX NY LA LN) : ∀ h, zL (kPl S) h = true → zNx (kPl S) h (nxF LN ND h) := m_N (S := cV S) K (jG_hx K j)
theorem jG_osy (K : zOK (kPl S)) (j : jG E S T HA ND ns NX NY LA LN) : ∀ a b, kLv S a → orb (nxF LN ND) a b → orb (nxF LN ND) b a := fun a b A o => m_osy (S := cV S) K (jG_hx K j) a b (cV_L.mpr A) o
theorem jG_oL (K : zOK (kPl S)) (j : jG E S T HA ND ns NX NY LA LN) {a b : Nat} (A : kLv S a) (o : orb (nxF LN ND) a b) : kLv S b := cV_L.mp (m_oL (S := cV S) K (jG_hx K j) (cV_L.mpr A) o)
theorem jG_osame (K : zOK (kPl S)) (j : jG E S T HA ND ns NX NY LA LN) {a b : Nat} (A : kLv S a) (o : orb (nxF LN ND) a b) : zSame (kPl S) a b := m_osame (S := cV S) K (jG_hx K j) (cV_L.mpr A) o
theorem cRo_is {nx : Nat → Nat} {k : Nat} (L : kLv S k) : fst (kLv S) (orb nx) (cRo S nx k) ∧ orb nx (cRo S nx k) k := by
  obtain ⟨f, a1, a2, a3⟩ := fst_ex (L := kLv S) (R := orb nx) (fun a _ => orb_rf nx a) m_otr k L
  exact Classical.epsilon_spec (p := fun f => fst (kLv S) (orb nx) f ∧ orb nx f k) ⟨f, a2, a3⟩
theorem jG_un (K : zOK (kPl S)) (j : jG E S T HA ND ns NX NY LA LN) : ∀ f f' z, fst (kLv S) (orb (nxF LN ND)) f → fst (kLv S) (orb (nxF LN ND)) f' → orb (nxF LN ND) f z → orb (nxF LN ND) f' z → f = f' := fun f f' z F F' h h' => fst_oneL (jG_osy K j) m_otr F F' h h'
theorem cRo_eq (K : zOK (kPl S)) (j : jG E S T HA ND ns NX NY LA LN) {a b : Nat} (A : kLv S a) (B : kLv S b) : cRo S (nxF LN ND) a = cRo S (nxF LN ND) b ↔ orb (nxF LN ND) a b := by
  have ha := cRo_is (nx := nxF LN ND) A
  have hb := cRo_is (nx := nxF LN ND) B
  constructor
  · intro e
    rw [← e] at hb
    exact orb_tr (jG_osy K j _ _ ha.1.1 ha.2) hb.2
  · intro o
    exact jG_un K j _ _ b ha.1 hb.1 (orb_tr ha.2 o) hb.2
theorem cRo_f (K : zOK (kPl S)) (j : jG E S T HA ND ns NX NY LA LN) {f : Nat} (F : fst (kLv S) (orb (nxF LN ND)) f) : cRo S (nxF LN ND) f = f := jG_un K j _ _ f (cRo_is F.1).1 F (cRo_is F.1).2 (orb_rf _ _)
theorem jG_Ro (K : zOK (kPl S)) (j : jG E S T HA ND ns NX NY LA LN) : zRo (kPl S) (nxF LN ND) (cRo S (nxF LN ND)) := by
  have nn := jG_nn K j
  constructor
  · intro h H
    have H := kPl_L.mp H
    exact (cRo_eq K j (nn.1 h H) H).mpr (jG_osy K j _ _ H ⟨1, rfl⟩)
  · intro g h G H e
    exact jG_osame K j (kPl_L.mp G) ((cRo_eq K j (kPl_L.mp G) (kPl_L.mp H)).mp e)
theorem jG_area (K : zOK (kPl S)) (j : jG E S T HA ND ns NX NY LA LN) {f : Nat} (F : fst (kLv S) (orb (nxF LN ND)) f) : zArea (kPl S) (zcr (cRo S (nxF LN ND)) f) = ((40000 * kAr S (nxF LN ND) f : Int) : Rat) := by
  have nn := jG_nn K j
  obtain ⟨m0, pm0⟩ := nn.2 f F.1
  have p := per_is pm0
  obtain ⟨m, em⟩ : ∃ m, m = per (nxF LN ND) f := ⟨_, rfl⟩
  rw [← em] at p
  have injx : ∀ a b, kLv S a → kLv S b → nxF LN ND a = nxF LN ND b → a = b := fun a b A B e => m_inj (S := cV S) K (jG_hx K j) a b (cV_L.mpr A) (cV_L.mpr B) e
  have inj := fun i k (hi : i < m) (hk : k < m) e => itN_inj nn.1 injx F.1 p hi hk e
  have Lp := itN_L nn.1 F.1
  have h1 := zS_enum (N := 120) (fun n => itN (nxF LN ND) n f) (fun h => ((40000 * (kX S h * kY S (zB h) - kY S h * kX S (zB h)) : Int) : Rat)) m inj (fun i _ => (Lp i).1)
  unfold kAr
  rw [← em, Rat.intCast_mul, iS_cast, ← zS_mul]
  have h2 : zS m (fun n => ((40000 : Int) : Rat) * ((kX S (itN (nxF LN ND) n f) * kY S (zB (itN (nxF LN ND) n f)) - kY S (itN (nxF LN ND) n f) * kX S (zB (itN (nxF LN ND) n f)) : Int) : Rat)) = zS m (fun n => ((40000 * (kX S (itN (nxF LN ND) n f) * kY S (zB (itN (nxF LN ND) n f)) - kY S (itN (nxF LN ND) n f) * kX S (zB (itN (nxF LN ND) n f))) : Int) : Rat)) := zS_congr fun n _ => (Rat.intCast_mul _ _).symm
  rw [h2]
  refine Eq.trans ?_ h1
  unfold zArea
  refine zS_congr fun h hh => ?_
  by_cases H : zL (kPl S) h = true
  · rw [if_pos H]
    have H' := kPl_L.mp H
    by_cases o : orb (nxF LN ND) f h
    · have e : cRo S (nxF LN ND) h = f := by rw [← (cRo_eq K j F.1 H').mpr o]; exact cRo_f K j F
      rw [zI_pos ((orb_lt p).mp o), zcr, if_pos e]
      have : (40000 * (kX S h * kY S (zB h) - kY S h * kX S (zB h)) : Int) = zX (kPl S) h * zY (kPl S) (zB h) - zX (kPl S) (zB h) * zY (kPl S) h := by
        unfold zX zY kPl; simp only; grind
      rw [this, Rat.intCast_sub, Rat.intCast_mul, Rat.intCast_mul]
      grind
    · have e : cRo S (nxF LN ND) h ≠ f := fun e => o (by have := (cRo_is (nx := nxF LN ND) H').2; rw [e] at this; exact this)
      rw [zI_neg (fun q => o ((orb_lt p).mpr q)), zcr_ne e]
      grind
  · rw [if_neg H, zI_neg (fun q => H (by obtain ⟨n, n1, n2⟩ := q; rw [← n2]; exact kPl_L.mpr (Lp n)))]
theorem jG_pos (K : zOK (kPl S)) (j : jG E S T HA ND ns NX NY LA LN) {f : Nat} (F : fst (kLv S) (orb (nxF LN ND)) f) : 0 < zArea (kPl S) (zcr (cRo S (nxF LN ND)) f) ↔ 0 < kAr S (nxF LN ND) f := by
  rw [jG_area K j F]
  have : (0 : Rat) < ((40000 * kAr S (nxF LN ND) f : Int) : Rat) ↔ 0 < 40000 * kAr S (nxF LN ND) f := zRat_lt (a := 0)
  rw [this]
  omega
noncomputable def rsC (S : mS) (nx : Nat → Nat) (f : Nat) : Option Nat := zfc (kPl S) (cRo S nx) f
theorem rsC_is (K : zOK (kPl S)) (j : jG E S T HA ND ns NX NY LA LN) {h : Nat} (H : kLv S h) : zFc (kPl S) (cRo S (nxF LN ND)) (fun r => zW (kPl S) (zcr (cRo S (nxF LN ND)) r) h) (rsC S (nxF LN ND) h) := zfc_is K (jG_N K j) (jG_Ro K j) (kPl_L.mpr H)
theorem rsC_eq (K : zOK (kPl S)) (j : jG E S T HA ND ns NX NY LA LN) {h : Nat} (H : kLv S h) {res : Option Nat} (e : zFc (kPl S) (cRo S (nxF LN ND)) (fun r => zW (kPl S) (zcr (cRo S (nxF LN ND)) r) h) res) : rsC S (nxF LN ND) h = res := zfc_eq K (jG_N K j) (jG_Ro K j) (kPl_L.mpr H) e
theorem rsC_orb (K : zOK (kPl S)) (j : jG E S T HA ND ns NX NY LA LN) {a b : Nat} (A : kLv S a) (o : orb (nxF LN ND) a b) : rsC S (nxF LN ND) a = rsC S (nxF LN ND) b := by
  have nn := jG_nn K j
  obtain ⟨n, e⟩ := o
  rw [← e]
  clear e
  induction n with
  | zero => exact rfl
  | succ n ih =>
    refine Eq.trans ih ?_
    exact (zfc_nx K (jG_N K j) (jG_Ro K j) (kPl_L.mpr (itN_L nn.1 A n))).symm
theorem rsC_1 (K : zOK (kPl S)) (j : jG E S T HA ND ns NX NY LA LN) : ∀ f, fst (kLv S) (orb (nxF LN ND)) f → 0 < kAr S (nxF LN ND) f → rsC S (nxF LN ND) f = some f := by
  intro f F p
  have e := cRo_f K j F
  have := z_fc_self K (jG_N K j) (jG_Ro K j) (h := f) (kPl_L.mpr F.1) (by rw [e]; exact (jG_pos K j F).mpr p)
  rw [rsC_eq K j F.1 this, e]
theorem rsC_2 (K : zOK (kPl S)) (j : jG E S T HA ND ns NX NY LA LN) : ∀ f p, kLv S f → rsC S (nxF LN ND) f = some p → fst (kLv S) (orb (nxF LN ND)) p ∧ 0 < kAr S (nxF LN ND) p := by
  intro f p F e
  have := rsC_is K j F
  rw [e] at this
  obtain ⟨⟨g, G, eg⟩, pos⟩ := this.1
  have hg := cRo_is (nx := nxF LN ND) (kPl_L.mp G)
  rw [eg] at hg
  exact ⟨hg.1, (jG_pos K j hg.1).mp pos⟩
/-- rounds around pieces -/
theorem jG_cor (K : zOK (kPl S)) (j : jG E S T HA ND ns NX NY LA LN) {f b : Nat} (F : fst (kLv S) (orb (nxF LN ND)) f) (hb : zCor (kPl S) b) (s : zSame (kPl S) b f) : ¬ 0 < kAr S (nxF LN ND) f ↔ orb (nxF LN ND) f b := by
  have B := kPl_L.mp hb.1
  have := z_sign K (jG_N K j) (jG_Ro K j) hb s
  rw [cRo_f K j F, jG_pos K j F] at this
  have e := cRo_eq K j F.1 B
  rw [cRo_f K j F] at e
  rw [this, ← e]
  constructor
  · intro w
    by_cases c : f = cRo S (nxF LN ND) b
    · exact c
    · exact absurd (Ne.symm c) w
  · intro w v
    exact v w.symm
theorem jG_up (K : zOK (kPl S)) (j : jG E S T HA ND ns NX NY LA LN) : ∀ f f', fst (kLv S) (orb (nxF LN ND)) f → fst (kLv S) (orb (nxF LN ND)) f' → ¬ 0 < kAr S (nxF LN ND) f → ¬ 0 < kAr S (nxF LN ND) f' → zSame (kPl S) f f' → f = f' := by
  intro f f' F F' np np' s
  obtain ⟨b, sb, hb⟩ := z_cor_ex K (kPl_L.mpr F.1)
  have o1 := (jG_cor K j F hb (zSame_symm sb)).mp np
  have o2 := (jG_cor K j F' hb (zSame_trans (zSame_symm sb) s)).mp np'
  exact jG_un K j f f' b F F' o1 o2
theorem jG_cb (K : zOK (kPl S)) (j : jG E S T HA ND ns NX NY LA LN) : c2 S (nxF LN ND) 120 ≤ 60 := by
  have h := rk_half S 60
  refine Nat.le_trans (zC_inj (fun f => Classical.epsilon (fun g => fst (kLv S) (zSame (kPl S)) g ∧ zSame (kPl S) g f)) 120 120 (fun g => zD (fst (kLv S) (zSame (kPl S)) g)) (fun i _ hA => ?_) (fun i i' _ _ hA hA' e => ?_)) h
  · have A := (zD_iff _).mp hA
    obtain ⟨g, a1, a2, a3⟩ := fst_ex (L := kLv S) (R := zSame (kPl S)) (fun a _ => zSame_rf _ a) (fun _ _ _ h h' => zSame_tr h h') i A.1.1
    have := Classical.epsilon_spec (p := fun g => fst (kLv S) (zSame (kPl S)) g ∧ zSame (kPl S) g i) ⟨g, a2, a3⟩
    exact ⟨this.1.1.1, (zD_iff _).mpr this.1⟩
  · have A := (zD_iff _).mp hA
    have A' := (zD_iff _).mp hA'
    obtain ⟨g, a1, a2, a3⟩ := fst_ex (L := kLv S) (R := zSame (kPl S)) (fun a _ => zSame_rf _ a) (fun _ _ _ h h' => zSame_tr h h') i A.1.1
    obtain ⟨g', b1, b2, b3⟩ := fst_ex (L := kLv S) (R := zSame (kPl S)) (fun a _ => zSame_rf _ a) (fun _ _ _ h h' => zSame_tr h h') i' A'.1.1
    have w := Classical.epsilon_spec (p := fun g => fst (kLv S) (zSame (kPl S)) g ∧ zSame (kPl S) g i) ⟨g, a2, a3⟩
    have w' := Classical.epsilon_spec (p := fun g => fst (kLv S) (zSame (kPl S)) g ∧ zSame (kPl S) g i') ⟨g', b2, b3⟩
    rw [← e] at w'
    exact jG_up K j i i' A.1 A'.1 A.2.1 A'.2.1 (zSame_tr (zSame_sy w.2) w'.2)
theorem on_same (K : zOK (kPl S)) {g b : Nat} (G : kLv S g) (B : kLv S b) (on : zOn (kPl S) g (kX S b) (kY S b)) : zSame (kPl S) b g := by
  have G' := kPl_L.mpr G
  have B' := kPl_L.mpr B
  by_cases q : g / 2 = b / 2
  · rcases zB_of q with e | e
    · subst e; exact zSame_rf _ _
    · rw [e]; exact zSame_tw B'
  · by_cases en : zEnd (kPl S) g (kX S b) (kY S b)
    · rcases en with en | en
      · exact zSame_sy (zSame_at G' B' en.1 en.2)
      · exact zSame_sy (zSame_tr (zSame_tw G') (zSame_at (by rw [zL_B]; exact G') B' en.1 en.2))
    · exact absurd (Or.inl ⟨on, en⟩) (zNM K G' B' q)
noncomputable def cCt (S : mS) (b : Nat) : Nat := zC 120 (fun g => zD (fst (kLv S) (zSame (kPl S)) g ∧ ∃ b', zCor (kPl S) b' ∧ zSame (kPl S) g b' ∧ zX (kPl S) b' < zX (kPl S) b))
theorem fch_any {FC : Nat → Option Nat} {a0 n f a : Nat} {nx : Nat → Nat} (h : FC f = some a) : fch S HA ns NX NY LN nx FC a0 n f a := by
  cases n with
  | zero => exact h
  | succ n => exact Or.inl h
theorem jG_step (K : zOK (kPl S)) (j : jG E S T HA ND ns NX NY LA LN) {f b m : Nat} {r : Option Nat} (F : fst (kLv S) (orb (nxF LN ND)) f) (np : ¬ 0 < kAr S (nxF LN ND) f) (hb : zCor (kPl S) b) (sb : zSame (kPl S) b f) (pm : prd (nxF LN ND) f m)
    (hB' : hB S HA ns NX NY LN (kX S (crn S (nxF LN ND) f m)) (kY S (crn S (nxF LN ND) f m)) r) :
    (r = none ∧ rsC S (nxF LN ND) f = none) ∨ ∃ z, r = some (HA z) ∧ kLv S z ∧ rsC S (nxF LN ND) f = rsC S (nxF LN ND) z ∧ ∃ b', zCor (kPl S) b' ∧ zSame (kPl S) b' z ∧ zX (kPl S) b' < zX (kPl S) b := by
  have g := kGd_of K
  have nn := jG_nn K j
  have B := kPl_L.mp hb.1
  have o := (jG_cor K j F hb sb).mp np
  obtain ⟨i, hi, ei⟩ := (orb_lt pm).mp o
  have Lc : kLv S (crn S (nxF LN ND) f m) := itN_L nn.1 F.1 _
  have sc : zSame (kPl S) b (crn S (nxF LN ND) f m) := zSame_trans sb (jG_osame K j F.1 ⟨_, rfl⟩)
  have mn := bi_min (X := fun k => kX S (itN (nxF LN ND) k f)) (Y := fun k => kY S (itN (nxF LN ND) k f)) m i hi
  have mn : kX S (crn S (nxF LN ND) f m) < kX S (itN (nxF LN ND) i f) ∨ (kX S (crn S (nxF LN ND) f m) = kX S (itN (nxF LN ND) i f) ∧ kY S (crn S (nxF LN ND) f m) ≤ kY S (itN (nxF LN ND) i f)) := mn
  rw [ei] at mn
  have le := hb.2.1 _ sc
  have bb := kX_b g B
  have bc := kX_b g Lc
  have le : 40000 * kX S b + kY S b ≤ 40000 * kX S (crn S (nxF LN ND) f m) + kY S (crn S (nxF LN ND) f m) := le
  have e1 : kX S (crn S (nxF LN ND) f m) = kX S b := by omega
  have e2 : kY S (crn S (nxF LN ND) f m) = kY S b := by omega
  rw [e1, e2] at hB'
  have hp : ¬ 0 < zArea (kPl S) (zcr (cRo S (nxF LN ND)) (cRo S (nxF LN ND) f)) := by rw [cRo_f K j F, jG_pos K j F]; exact np
  have off : ∀ c : Nat → Rat, (∀ g, zSame (kPl S) b g → c g = 0) → ∀ g, kLv S g → c g ≠ 0 → ¬ zOn (kPl S) g (kX S b) (kY S b) := fun c h0 g G cg on => cg (h0 g (on_same K G B on))
  have nu : ∀ k, kLv S k → kX S k = kX S b → kY S k < kY S b → kX S (zB k) = kX S b → ¬ kY S b ≤ kY S (zB k) := by
    intro k L k1 k2 k3 k4
    have on : zOn (kPl S) k (kX S b) (kY S b) := by
      refine ⟨?_, ?_, ?_⟩
      · show (kX S (zB k) - kX S k) * (kY S b - kY S k) - (kY S (zB k) - kY S k) * (kX S b - kX S k) = 0
        rw [k3, k1]; grind
      · show min (kX S k) (kX S (zB k)) ≤ kX S b ∧ kX S b ≤ max (kX S k) (kX S (zB k))
        omega
      · show min (kY S k) (kY S (zB k)) ≤ kY S b ∧ kY S b ≤ max (kY S k) (kY S (zB k))
        omega
    have := hb.2.1 k (on_same K L B on)
    have : 40000 * kX S b + kY S b ≤ 40000 * kX S k + kY S k := this
    omega
  have eX : zX (kPl S) b = 40000 * kX S b + kY S b := rfl
  have eY : zY (kPl S) b = kY S b := rfl
  rcases hB_is K j bb.2 hB' nu with ⟨h1, h2⟩ | ⟨z, h1, h2, h3, h4⟩
  · left
    refine ⟨h1, rsC_eq K j F.1 (z_fc_none K (jG_N K j) (jG_Ro K j) hb sb hp (fun c C h0 => ?_))⟩
    rw [eX, eY]
    exact h2 c C (off c h0)
  · right
    obtain ⟨g', g1, g2⟩ := h3
    obtain ⟨b', sb', hb'⟩ := z_cor_ex K (kPl_L.mpr h2)
    refine ⟨z, h1, h2, rsC_eq K j F.1 (z_fc_go K (jG_N K j) (jG_Ro K j) hb sb hp (kPl_L.mpr h2) ⟨g', g1, g2⟩ (fun c C h0 => ?_) (rsC_is K j h2)), b', hb', zSame_symm sb', ?_⟩
    · rw [eX, eY]
      exact (h4 c C (off c h0)).symm
    · have := hb'.2.1 g' (zSame_trans (zSame_symm sb') g1)
      omega
theorem cCt_lt (K : zOK (kPl S)) {b b' z : Nat} (hb' : zCor (kPl S) b') (sz : zSame (kPl S) b' z) (lt : zX (kPl S) b' < zX (kPl S) b) : cCt S b' < cCt S b := by
  obtain ⟨g0, a1, a2, a3⟩ := fst_ex (L := kLv S) (R := zSame (kPl S)) (fun a _ => zSame_rf _ a) (fun _ _ _ h h' => zSame_tr h h') b' (kPl_L.mp hb'.1)
  refine zC_lt (fun i _ h => ?_) g0 a2.1.1 ((zD_not _).mpr ?_) ((zD_iff _).mpr ⟨a2, b', hb', a3, lt⟩)
  · have := (zD_iff _).mp h
    obtain ⟨F, c, c1, c2, c3⟩ := this
    exact (zD_iff _).mpr ⟨F, c, c1, c2, by omega⟩
  · rintro ⟨_, c, c1, c2, c3⟩
    have := hb'.2.1 c (zSame_trans (zSame_sy a3) c2)
    omega
theorem cCt_b (K : zOK (kPl S)) {b : Nat} (hb : zCor (kPl S) b) : cCt S b ≤ 59 := by
  have h := rk_half S 60
  have h : zC 120 (fun g => zD (fst (kLv S) (zSame (kPl S)) g)) ≤ 60 := h
  obtain ⟨g0, a1, a2, a3⟩ := fst_ex (L := kLv S) (R := zSame (kPl S)) (fun a _ => zSame_rf _ a) (fun _ _ _ h h' => zSame_tr h h') b (kPl_L.mp hb.1)
  have : cCt S b < zC 120 (fun g => zD (fst (kLv S) (zSame (kPl S)) g)) := by
    refine zC_lt (fun i _ h => (zD_iff _).mpr ((zD_iff _).mp h).1) g0 a2.1.1 ((zD_not _).mpr ?_) ((zD_iff _).mpr a2)
    rintro ⟨_, c, c1, c2, c3⟩
    have := hb.2.1 c (zSame_trans (zSame_sy a3) c2)
    omega
  omega
theorem jG_ch (K : zOK (kPl S)) (j : jG E S T HA ND ns NX NY LA LN) (FA : Nat → Nat) (a0 : Nat) : ∀ n f b, fst (kLv S) (orb (nxF LN ND)) f → ¬ 0 < kAr S (nxF LN ND) f → zCor (kPl S) b → zSame (kPl S) b f → cCt S b ≤ n →
    fch S HA ns NX NY LN (nxF LN ND) (fc3 S (nxF LN ND) (rsC S (nxF LN ND)) FA a0 0) a0 (n + 1) f (fdA (rsC S (nxF LN ND)) FA a0 f) := by
  intro n
  induction n with
  | zero =>
    intro f b F np hb sb ct
    refine Or.inr ⟨zI_neg (fun w => by rcases w with w | w; exact np w; omega) _ _, fun m pm r hB' => ?_⟩
    rcases jG_step K j F np hb sb pm hB' with ⟨h1, h2⟩ | ⟨z, h1, h2, h3, b', h4, h5, h6⟩
    · exact Or.inl ⟨h1, by unfold fdA; rw [h2]⟩
    · have := cCt_lt (b := b) K h4 h5 h6
      omega
  | succ n ih =>
    intro f b F np hb sb ct
    refine Or.inr ⟨zI_neg (fun w => by rcases w with w | w; exact np w; omega) _ _, fun m pm r hB' => ?_⟩
    rcases jG_step K j F np hb sb pm hB' with ⟨h1, h2⟩ | ⟨z, h1, h2, h3, b', h4, h5, h6⟩
    · exact Or.inl ⟨h1, by unfold fdA; rw [h2]⟩
    · right
      have hz := cRo_is (nx := nxF LN ND) h2
      refine ⟨z, cRo S (nxF LN ND) z, h1, h2, hz.1, hz.2, ?_⟩
      have e := rsC_orb K j hz.1.1 hz.2
      have ed : fdA (rsC S (nxF LN ND)) FA a0 f = fdA (rsC S (nxF LN ND)) FA a0 (cRo S (nxF LN ND) z) := by unfold fdA; rw [h3, e]
      rw [ed]
      by_cases p : 0 < kAr S (nxF LN ND) (cRo S (nxF LN ND) z)
      · exact fch_any (zI_pos (Or.inl p) _ _)
      · have := cCt_lt (b := b) K h4 h5 h6
        exact ih _ b' hz.1 p h4 (zSame_trans h5 (zSame_symm (jG_osame K j hz.1.1 hz.2))) (by omega)
theorem jG_hch (K : zOK (kPl S)) (j : jG E S T HA ND ns NX NY LA LN) : ∀ FA a0 f, fst (kLv S) (orb (nxF LN ND)) f → ¬ 0 < kAr S (nxF LN ND) f → fch S HA ns NX NY LN (nxF LN ND) (fc3 S (nxF LN ND) (rsC S (nxF LN ND)) FA a0 0) a0 60 f (fdA (rsC S (nxF LN ND)) FA a0 f) := by
  intro FA a0 f F np
  obtain ⟨b, sb, hb⟩ := z_cor_ex K (kPl_L.mpr F.1)
  exact jG_ch K j FA a0 59 f b F np hb (zSame_symm sb) (cCt_b K hb)
end CHAIN
