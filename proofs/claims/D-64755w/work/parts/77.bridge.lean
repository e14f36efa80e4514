set_option maxRecDepth 100000
/-! the class' plan as one of the reference -/
def cV (S : mS) : mS := (S.1, fun g i => if g = 1 then S.2 1 i else if g = 2 then kX S i else if g = 3 then kY S i else 0)
theorem cV_P (S : mS) : mP (cV S) = kPl S := rfl
theorem cV_L {S : mS} {k : Nat} : mLv (cV S) k ↔ kLv S k := by
  unfold mLv
  rw [cV_P]
  exact kPl_L
theorem cV_Lf (S : mS) : mLv (cV S) = kLv S := by
  funext k
  exact propext cV_L
theorem cV_Kb {S : mS} {a b : Nat} : dKb (cV S) a b ↔ kKb S a b := Iff.rfl
theorem kGd_of {S : mS} (K : zOK (kPl S)) : kGd S := by
  refine ⟨fun s hs ls => ?_, fun a b A B sp ne => ?_⟩
  · have L1 : kLv S (2 * s) := ⟨by omega, by rw [show 2 * s / 2 = s by omega]; exact ls⟩
    have L2 : kLv S (2 * s + 1) := ⟨by omega, by rw [show (2 * s + 1) / 2 = s by omega]; exact ls⟩
    have h1 : (-16000 ≤ kX S (2 * s) ∧ kX S (2 * s) ≤ 16000) ∧ (-16000 ≤ kY S (2 * s) ∧ kY S (2 * s) ≤ 16000) := K.1 _ (kPl_L.mpr L1)
    have h2 : (-16000 ≤ kX S (2 * s + 1) ∧ kX S (2 * s + 1) ≤ 16000) ∧ (-16000 ≤ kY S (2 * s + 1) ∧ kY S (2 * s + 1) ≤ 16000) := K.1 _ (kPl_L.mpr L2)
    have h3 : ¬ (kX S (2 * s) = kX S (zB (2 * s)) ∧ kY S (2 * s) = kY S (zB (2 * s))) := K.2.1 _ (kPl_L.mpr L1)
    have kx := kX_2n S s
    rw [(zB_2n s).1] at h3
    rw [kx.1.1, kx.1.2] at h1
    rw [kx.2.1, kx.2.2] at h2
    rw [kx.1.1, kx.1.2, kx.2.1, kx.2.2] at h3
    exact ⟨⟨h1, h2⟩, h3⟩
  · exact dAt_kor (S := cV S) K ⟨⟨cV_L.mpr A, cV_L.mpr B⟩, sp, ne⟩
section BRIDGE
variable {E : gV} {T : tT} {S : mS} {HA ND : Nat → Nat} {ns : List Nat} {NX NY : Nat → Int} {LA : Nat → Nat} {LN : Nat → List Nat}
theorem jG_nd (j : jG E S T HA ND ns NX NY LA LN) {a b : Nat} (A : kLv S a) (B : kLv S b) (sp : kSp S a b) : ND a = ND b := by
  have wa := j.2.1 a A
  have wb := j.2.1 b B
  refine j.1.2.2 _ _ wa.2.1 wb.2.1 (Or.inl ⟨?_, ?_⟩)
  · rw [wa.2.2.2.1, wb.2.2.2.1]; exact sp.1
  · rw [wa.2.2.2.2, wb.2.2.2.2]; exact sp.2
theorem jG_sp (j : jG E S T HA ND ns NX NY LA LN) {a b : Nat} (A : kLv S a) (B : kLv S b) (e : ND a = ND b) : kSp S a b := by
  have wa := j.2.1 a A
  have wb := j.2.1 b B
  rw [e] at wa
  exact ⟨by rw [← wa.2.2.2.1, ← wb.2.2.2.1], by rw [← wa.2.2.2.2, ← wb.2.2.2.2]⟩
theorem srt_lt {L : List Nat} (h : srt S L) {i k a b : Nat} (hi : L[i]? = some a) (hk : L[k]? = some b) (lt : i < k) : kKb S a b := by
  have hl : k < L.length := by
    rcases Nat.lt_or_ge k L.length with w | w
    · exact w
    · rw [List.getElem?_eq_none w] at hk; cases hk
  have := List.pairwise_iff_getElem.mp h i k (by omega) hl lt
  rw [List.getElem?_eq_getElem (by omega)] at hi
  rw [List.getElem?_eq_getElem hl] at hk
  rw [Option.some.inj hi, Option.some.inj hk] at this
  exact this
theorem kKb_as {S : mS} (g : kGd S) {a b : Nat} (A : kLv S a) (B : kLv S b) (h : kKb S a b) : ¬ kKb S b a := fun q => kKb_irr S a (kKb_tr g A B A h q)
/-- what goes on in the class is what goes on in the reference -/
theorem jG_pv (K : zOK (kPl S)) (j : jG E S T HA ND ns NX NY LA LN) {k : Nat} (L : kLv S k) : pvSpec (cV S) (zB k) (nxF LN ND k) := by
  have g := kGd_of K
  have Lb := kLv_B L
  have wb := j.2.1 (zB k) Lb
  have q := j.2.2.1 _ wb.2.1
  obtain ⟨M, eM⟩ : ∃ M, M = LN (ND (zB k)) := ⟨_, rfl⟩
  rw [← eM] at q
  have im : M[M.idxOf (zB k)]? = some (zB k) := by
    have : zB k ∈ M := by rw [eM]; exact wb.2.2.1
    rw [List.getElem?_eq_getElem (List.idxOf_lt_length_of_mem this), List.getElem_idxOf]
  have il : M.idxOf (zB k) < M.length := List.idxOf_lt_length_of_mem (by rw [eM]; exact wb.2.2.1)
  obtain ⟨i, ei⟩ : ∃ i, i = M.idxOf (zB k) := ⟨_, rfl⟩
  rw [← ei] at im il
  have er : nxF LN ND k = prv M i := by unfold nxF; rw [ei, eM]
  have hr := prv_get (L := M) (j := i) il
  rw [← er] at hr
  have rm := q.2.1 _ (List.mem_of_getElem? hr)
  have all : ∀ x, dAt (cV S) (zB k) x → kLv S x ∧ ∃ a : Nat, M[a]? = some x := by
    intro x h
    have Lx := cV_L.mp h.1.2
    have e := jG_nd j Lb Lx h.2.1
    have := (j.2.1 x Lx).2.2.1
    rw [← e, ← eM] at this
    obtain ⟨a, ha, ea⟩ := List.getElem_of_mem this
    exact ⟨Lx, a, by rw [List.getElem?_eq_getElem ha, ea]⟩
  refine ⟨cV_L.mpr rm.1, jG_sp j Lb rm.1 rm.2.symm, ?_⟩
  have lt : ∀ {a b x y : Nat}, M[a]? = some x → M[b]? = some y → kKb S x y → a < b := by
    intro a b x y h1 h2 hk
    have Lx := (q.2.1 x (List.mem_of_getElem? h1)).1
    have Ly := (q.2.1 y (List.mem_of_getElem? h2)).1
    rcases Nat.lt_trichotomy a b with w | w | w
    · exact w
    · subst w
      rw [h1] at h2
      have := Option.some.inj h2
      subst this
      exact absurd hk (kKb_irr S _)
    · exact absurd hk (kKb_as g Ly Lx (srt_lt q.2.2.1 h2 h1 w))
  by_cases c : i = 0
  · right
    subst c
    rw [show (0 + M.length - 1) % M.length = M.length - 1 by rw [Nat.zero_add]; exact Nat.mod_eq_of_lt (by omega)] at hr
    constructor
    · intro x h w
      obtain ⟨_, a, ha⟩ := all x h
      have := lt ha im w
      omega
    · intro x h w
      obtain ⟨_, a, ha⟩ := all x h
      have := lt hr ha w
      have : a < M.length := by
        rcases Nat.lt_or_ge a M.length with w | w
        · exact w
        · rw [List.getElem?_eq_none w] at ha; cases ha
      omega
  · left
    rw [show (i + M.length - 1) % M.length = i - 1 by
      rw [show i + M.length - 1 = (i - 1) + M.length by omega, Nat.add_mod_right]
      exact Nat.mod_eq_of_lt (by omega)] at hr
    refine ⟨srt_lt q.2.2.1 hr im (by omega), ?_⟩
    rintro x h ⟨w1, w2⟩
    obtain ⟨_, a, ha⟩ := all x h
    have := lt hr ha w1
    have := lt ha im w2
    omega
theorem jG_hx (K : zOK (kPl S)) (j : jG E S T HA ND ns NX NY LA LN) : ∀ k, mLv (cV S) k → nxSpec (cV S) (zB k) (nxF LN ND k) := fun k L => pv_nx (S := cV S) K (mLv_B L) (jG_pv K j (cV_L.mp L))
theorem jG_nn (K : zOK (kPl S)) (j : jG E S T HA ND ns NX NY LA LN) : nxG S (nxF LN ND) := by
  have hx := jG_hx K j
  refine ⟨fun k L => cV_L.mp (m_go (S := cV S) K hx k (cV_L.mpr L)), fun k L => m_prd (S := cV S) K _ hx k (cV_L.mpr L)⟩
/-! heights -/
def qr (S : mS) (s : Nat) : Nat := 2 * s + (if S.2 4 s > S.2 2 s then 0 else 1)
theorem qr_h (S : mS) (s : Nat) : qr S s / 2 = s := by unfold qr; split <;> omega
theorem qr_zB (S : mS) (s : Nat) : zB (qr S s) = 2 * s + (if S.2 4 s > S.2 2 s then 1 else 0) := by
  unfold qr
  split
  · exact (zB_2n s).1
  · exact (zB_2n s).2
theorem qr_x (S : mS) (s : Nat) : kX S (qr S s) = (if S.2 4 s > S.2 2 s then S.2 2 s else S.2 4 s) ∧ kX S (zB (qr S s)) = (if S.2 4 s > S.2 2 s then S.2 4 s else S.2 2 s) := by
  rw [qr_zB]
  unfold qr
  have := kX_2n S s
  split
  · exact ⟨this.1.1, this.2.1⟩
  · exact ⟨this.2.1, this.1.1⟩
theorem kov_q {s : Nat} {x : Int} : kov S s x ↔ (kX S (qr S s) < x ∧ x < kX S (zB (qr S s))) := by
  have := qr_x S s
  rw [this.1, this.2]
  unfold kov
  split <;> omega
theorem kab_q {s : Nat} {x y : Int} : kab S s x y ↔ 0 < zO (kPl S) (qr S s) x y := by
  have o : zO (kPl S) (2 * s) x y = kc S s x y := by
    have kx := kX_2n S s
    unfold zO kc zc kPl
    simp only
    rw [(zB_2n s).1, kx.1.1, kx.1.2, kx.2.1, kx.2.2]
  have o2 : zO (kPl S) (2 * s + 1) x y = - kc S s x y := by
    have := zO_B (kPl S) (2 * s) x y
    rw [(zB_2n s).1, o] at this
    exact this
  unfold kab kha kdr qr
  split
  · rw [Nat.add_zero, o, Int.mul_one]
    exact Int.sign_pos_iff
  · rw [o2]
    constructor
    · intro h
      have : Int.sign (kc S s x y) < 0 := by omega
      have := Int.sign_neg_iff.mp this
      omega
    · intro h
      have := Int.sign_neg_iff.mpr (show kc S s x y < 0 by omega)
      omega
theorem zh_k {s : Nat} {x : Int} (n : S.2 2 s ≠ S.2 4 s) : zh (cV S) (qr S s) x * ((S.2 4 s - S.2 2 s : Int) : Rat) = ((khg S s x : Int) : Rat) := by
  have kx := kX_2n S s
  have n2 : (cV S).2 2 (2 * s) ≠ (cV S).2 2 (zB (2 * s)) := by
    show kX S (2 * s) ≠ kX S (zB (2 * s))
    rw [(zB_2n s).1, kx.1.1, kx.2.1]; exact n
  have e : zh (cV S) (qr S s) x = zh (cV S) (2 * s) x := by
    unfold qr
    split
    · rfl
    · have := zh_B (S := cV S) (g := 2 * s) (x := x) n2
      rw [(zB_2n s).1] at this
      exact this
  rw [e]
  have m := zh_mul (S := cV S) (g := 2 * s) (x := x) n2
  have m : (zh (cV S) (2 * s) x - ((kY S (2 * s) : Int) : Rat)) * ((kX S (zB (2 * s)) - kX S (2 * s) : Int) : Rat) = ((kY S (zB (2 * s)) - kY S (2 * s) : Int) : Rat) * ((x : Rat) - ((kX S (2 * s) : Int) : Rat)) := m
  rw [(zB_2n s).1, kx.1.1, kx.1.2, kx.2.1, kx.2.2] at m
  unfold khg
  rw [Rat.intCast_add, Rat.intCast_mul, Rat.intCast_mul, Rat.intCast_sub x]
  grind
theorem kcp_q {s u : Nat} {x : Int} (n : S.2 2 s ≠ S.2 4 s) (n' : S.2 2 u ≠ S.2 4 u) : 0 < kcp S s u x ↔ zh (cV S) (qr S u) x < zh (cV S) (qr S s) x := by
  have h1 := zh_k (x := x) n
  have h2 := zh_k (x := x) n'
  obtain ⟨a, ea⟩ : ∃ a, a = S.2 4 s - S.2 2 s := ⟨_, rfl⟩
  obtain ⟨b, eb⟩ : ∃ b, b = S.2 4 u - S.2 2 u := ⟨_, rfl⟩
  rw [← ea] at h1
  rw [← eb] at h2
  unfold kcp
  rw [← ea, ← eb]
  generalize khg S s x = p at *
  generalize khg S u x = q at *
  generalize zh (cV S) (qr S s) x = r at *
  generalize zh (cV S) (qr S u) x = t at *
  have a0 : a ≠ 0 := by omega
  have b0 : b ≠ 0 := by omega
  have key : ((p * b - q * a : Int) : Rat) = (r - t) * ((a * b : Int) : Rat) := by
    rw [Rat.intCast_sub, Rat.intCast_mul, Rat.intCast_mul, Rat.intCast_mul, ← h1, ← h2]
    grind
  have sg : (p * b - q * a).sign * a.sign * b.sign = (p * b - q * a).sign * (a * b).sign := by rw [Int.sign_mul]; exact Int.mul_assoc _ _ _
  rw [sg]
  have ab0 : a * b ≠ 0 := Int.mul_ne_zero a0 b0
  generalize p * b - q * a = w at *
  generalize a * b = c at *
  rcases Int.lt_or_gt_of_ne ab0 with hc | hc
  · rw [Int.sign_eq_neg_one_of_neg hc]
    have hcr : ((c : Int) : Rat) < 0 := (zRat_lt (b := 0)).mpr hc
    constructor
    · intro h
      have : w < 0 := Int.sign_neg_iff.mp (by omega)
      have wr : ((w : Int) : Rat) < 0 := (zRat_lt (b := 0)).mpr this
      rw [key] at wr
      have hn : (0 : Rat) < -((c : Int) : Rat) := by grind
      have := (Rat.mul_pos_iff_of_pos_left (b := r - t) hn).mp (by grind)
      grind
    · intro h
      have hn : (0 : Rat) < -((c : Int) : Rat) := by grind
      have := (Rat.mul_pos_iff_of_pos_left (b := r - t) hn).mpr (by grind)
      have wr : ((w : Int) : Rat) < 0 := by rw [key]; grind
      have := (zRat_lt (b := 0)).mp wr
      rw [Int.sign_eq_neg_one_of_neg this]
      omega
  · rw [Int.sign_eq_one_of_pos hc, Int.mul_one, Int.sign_pos_iff]
    have hcr : (0 : Rat) < ((c : Int) : Rat) := (zRat_lt (a := 0)).mpr hc
    constructor
    · intro h
      have wr : (0 : Rat) < ((w : Int) : Rat) := (zRat_lt (a := 0)).mpr h
      rw [key] at wr
      have := (Rat.mul_pos_iff_of_pos_left (b := r - t) hcr).mp (by grind)
      grind
    · intro h
      have := (Rat.mul_pos_iff_of_pos_left (b := r - t) hcr).mpr (by grind)
      have wr : (0 : Rat) < ((w : Int) : Rat) := by rw [key]; grind
      exact (zRat_lt (a := 0)).mp wr
/-- the segment next below -/
theorem ksb_spec (x y : Int) : ∀ n, (ksb S x y n = -1 ∧ ∀ u, u < n → S.2 1 u = 1 → kov S u x → ¬ kab S u x y) ∨ (∃ s : Nat, s < n ∧ ksb S x y n = s ∧ S.2 1 s = 1 ∧ kov S s x ∧ kab S s x y ∧ ∀ u, u < n → S.2 1 u = 1 → kov S u x → kab S u x y → zh (cV S) (qr S u) x ≤ zh (cV S) (qr S s) x) := by
  intro n
  induction n with
  | zero => exact Or.inl ⟨rfl, fun u h => by omega⟩
  | succ n ih =>
    show ((zI _ (n : Int) (ksb S x y n)) = -1 ∧ _) ∨ (∃ s : Nat, s < n + 1 ∧ (zI _ (n : Int) (ksb S x y n)) = s ∧ _)
    by_cases c : S.2 1 n = 1 ∧ kov S n x ∧ kab S n x y ∧ (ksb S x y n < 0 ∨ 0 < kcp S n (ksb S x y n).toNat x)
    · rw [zI_pos c]
      right
      refine ⟨n, by omega, rfl, c.1, c.2.1, c.2.2.1, fun u hu lu ou au => ?_⟩
      by_cases e : u = n
      · subst e; exact Rat.le_refl
      · rcases ih with ⟨h1, h2⟩ | ⟨s, h1, h2, h3, h4, h5, h6⟩
        · exact absurd au (h2 u (by omega) lu ou)
        · have a := h6 u (by omega) lu ou au
          have b := c.2.2.2
          rw [h2] at b
          rcases b with b | b
          · omega
          · rw [Int.toNat_natCast, kcp_q c.2.1.1 h4.1] at b
            grind
    · rw [zI_neg c]
      rcases ih with ⟨h1, h2⟩ | ⟨s, h1, h2, h3, h4, h5, h6⟩
      · left
        refine ⟨h1, fun u hu lu ou au => ?_⟩
        by_cases e : u = n
        · subst e; exact c ⟨lu, ou, au, Or.inl (by omega)⟩
        · exact h2 u (by omega) lu ou au
      · right
        refine ⟨s, by omega, h2, h3, h4, h5, fun u hu lu ou au => ?_⟩
        by_cases e : u = n
        · subst e
          by_cases q : zh (cV S) (qr S u) x ≤ zh (cV S) (qr S s) x
          · exact q
          · exfalso
            refine c ⟨lu, ou, au, Or.inr ?_⟩
            rw [h2, Int.toNat_natCast, kcp_q ou.1 h4.1]
            grind
        · exact h6 u (by omega) lu ou au
end BRIDGE
