set_option maxRecDepth 100000
/-! halves of the class, by number -/
def kX (S : mS) (k : Nat) : Int := if k % 2 = 0 then S.2 2 (k / 2) else S.2 4 (k / 2)
def kY (S : mS) (k : Nat) : Int := if k % 2 = 0 then S.2 3 (k / 2) else S.2 5 (k / 2)
def kLv (S : mS) (k : Nat) : Prop := k < 120 ∧ S.2 1 (k / 2) = 1
def kSp (S : mS) (a b : Nat) : Prop := kX S a = kX S b ∧ kY S a = kY S b
def kdx (S : mS) (k : Nat) : Int := kX S (zB k) - kX S k
def kdy (S : mS) (k : Nat) : Int := kY S (zB k) - kY S k
def kKb (S : mS) (a b : Nat) : Prop := kbf (kdx S a) (kdy S a) (kdx S b) (kdy S b)
/-- bounds, and halves from a point go different ways -/
def kGd (S : mS) : Prop := (∀ s, s < 60 → S.2 1 s = 1 → kIn S s ∧ ¬ (S.2 2 s = S.2 4 s ∧ S.2 3 s = S.2 5 s)) ∧ ∀ a b, kLv S a → kLv S b → kSp S a b → a ≠ b → kKb S a b ∨ kKb S b a
theorem kLv_B {S : mS} {k : Nat} (h : kLv S k) : kLv S (zB k) := ⟨zB_lt h.1, by rw [zB_half]; exact h.2⟩
theorem kX_b {S : mS} (g : kGd S) {k : Nat} (h : kLv S k) : (-16000 ≤ kX S k ∧ kX S k ≤ 16000) ∧ (-16000 ≤ kY S k ∧ kY S k ≤ 16000) := by
  have := (g.1 (k / 2) (by have := h.1; omega) h.2).1
  unfold kIn at this
  unfold kX kY
  split <;> omega
theorem kdx_b {S : mS} (g : kGd S) {k : Nat} (h : kLv S k) : (-32000 ≤ kdx S k ∧ kdx S k ≤ 32000) ∧ (-32000 ≤ kdy S k ∧ kdy S k ≤ 32000) := by
  have h1 := kX_b g h
  have h2 := kX_b g (kLv_B h)
  unfold kdx kdy
  omega
theorem kd_nz {S : mS} (g : kGd S) {k : Nat} (h : kLv S k) : ¬ (kdx S k = 0 ∧ kdy S k = 0) := by
  have := (g.1 (k / 2) (by have := h.1; omega) h.2).2
  unfold kdx kdy kX kY
  rw [zB_half]
  have e : zB k % 2 = 1 - k % 2 := by unfold zB; split <;> omega
  rw [e]
  rcases Nat.mod_two_eq_zero_or_one k with q | q <;> rw [q] <;> simp <;> omega
theorem kKb_tr {S : mS} (g : kGd S) {a b c : Nat} (A : kLv S a) (B : kLv S b) (C : kLv S c) (h1 : kKb S a b) (h2 : kKb S b c) : kKb S a c := kbf_tr (kd_nz g A) (kd_nz g B) (kd_nz g C) h1 h2
theorem kKb_irr (S : mS) (a : Nat) : ¬ kKb S a a := kbf_irr _ _
/-- the number of a half's object -/
noncomputable def hInv (L : Nat → Prop) (HA : Nat → Nat) (y : Nat) : Nat := Classical.epsilon (fun k => L k ∧ HA k = y)
theorem hInv_is {L : Nat → Prop} {HA : Nat → Nat} (inj : ∀ a b, L a → L b → HA a = HA b → a = b) {k : Nat} (h : L k) : hInv L HA (HA k) = k := by
  have := Classical.epsilon_spec (p := fun j => L j ∧ HA j = HA k) ⟨k, h, rfl⟩
  exact inj _ _ this.1 h this.2
/-- a half's object -/
def hF (T : tT) (HA ND : Nat → Nat) (k : Nat) : Prop := (T.1 (HA k)).1 = 3 ∧ (T.1 (HA k)).2.2 0 = vI k ∧ (T.1 (HA k)).2.2 1 = .ref (ND k) ∧ (T.1 (HA k)).2.2 2 = .ref (HA (zB k))
theorem vI_inj {a b : Nat} (ha : a < 120) (hb : b < 120) (e : vI (a : Int) = vI (b : Int)) : a = b := by
  have h := Value.int.inj e
  have h2 := congrArg Int32.toInt h
  rw [Int32.toInt_ofInt_of_le (by omega) (by omega), Int32.toInt_ofInt_of_le (by omega) (by omega)] at h2
  omega
def srt (S : mS) (L : List Nat) : Prop := L.Pairwise (fun a b => kKb S a b)
theorem srt_ins {S : mS} (g : kGd S) {L : List Nat} (hL : ∀ i, i ∈ L → kLv S i) (h : srt S L) {x k : Nat} (hx : kLv S x) (sp : ∀ i, i ∈ L → kSp S i x ∧ i ≠ x) (hk : k ≤ L.length) (h1 : ∀ j y, j < k → L[j]? = some y → kKb S y x) (h2 : ∀ y, L[k]? = some y → ¬ kKb S y x) : srt S (insL L k x) := by
  unfold srt at *
  unfold insL
  have hsp : L.take k ++ L.drop k = L := List.take_append_drop k L
  rw [← hsp, List.pairwise_append] at h
  obtain ⟨a1, a2, a3⟩ := h
  have mt : ∀ i, i ∈ L.take k → kKb S i x := by
    intro i hi
    obtain ⟨j, hj, ej⟩ := List.getElem_of_mem hi
    rw [List.length_take] at hj
    refine h1 j i (by omega) ?_
    rw [← ej, List.getElem_take, List.getElem?_eq_getElem]
  have md : ∀ i, i ∈ L.drop k → kKb S x i := by
    intro i hi
    cases hd : L.drop k with
    | nil => rw [hd] at hi; cases hi
    | cons y ys =>
      have ey : L[k]? = some y := by
        have : (L.drop k)[0]? = some y := by rw [hd]; rfl
        rw [List.getElem?_drop] at this
        simpa using this
      have ym : y ∈ L := List.mem_of_getElem? ey
      have ny := h2 y ey
      have xy : kKb S x y := by
        rcases g.2 y x (hL y ym) hx (sp y ym).1 (sp y ym).2 with q | q
        · exact absurd q ny
        · exact q
      rw [hd] at hi a2
      rcases List.mem_cons.mp hi with e | hi
      · rw [e]; exact xy
      · have := (List.pairwise_cons.mp a2).1 i hi
        have im : i ∈ L := List.mem_of_mem_drop (by rw [hd]; exact List.mem_cons_of_mem _ hi)
        exact kKb_tr g hx (hL y ym) (hL i im) xy this
  rw [List.pairwise_append, List.pairwise_cons]
  refine ⟨a1, ⟨md, a2⟩, ?_⟩
  intro a ha b hb
  rcases List.mem_cons.mp hb with e | hb
  · rw [e]; exact mt a ha
  · exact a3 a ha b hb
/-- nodes and halves while they are joined, those of the first n segments -/
def jH (E : gV) (S : mS) (T : tT) (n : Nat) (HA ND : Nat → Nat) (ns : List Nat) (NX NY : Nat → Int) (LN : Nat → List Nat) : Prop :=
  (∀ k, kLv S k → k < 2 * n → (hF T HA ND k ∧ (T.1 (HA k)).2.2 4 = .null) ∧ (ND k ∈ ns ∧ k ∈ LN (ND k) ∧ NX (ND k) = kX S k ∧ NY (ND k) = kY S k)) ∧
  (∀ m, m ∈ ns → (∃ k, k ∈ LN m) ∧ (∀ k, k ∈ LN m → kLv S k ∧ k < 2 * n ∧ ND k = m) ∧ srt S (LN m) ∧ (LN m).Nodup) ∧
  (∀ k, k < 2 * n → (T.1 (gBase E + 7)).2.2 k = zI (kLv S k) (.ref (HA k)) .null) ∧
  ns.length = rk (kLv S) (kSp S) (2 * n)
def jI (E : gV) (S : mS) (T : tT) (n : Nat) (HA ND : Nat → Nat) (ns : List Nat) (NX NY : Nat → Int) (LA : Nat → Nat) (LN : Nat → List Nat) : Prop :=
  nJ E T ns NX NY LA (fun m => (LN m).map HA) ∧ jH E S T n HA ND ns NX NY LN
theorem jH_inj {E : gV} {S : mS} {T : tT} {n : Nat} {HA ND : Nat → Nat} {ns : List Nat} {NX NY : Nat → Int} {LN : Nat → List Nat} (j : jH E S T n HA ND ns NX NY LN) : ∀ a b, (kLv S a ∧ a < 2 * n) → (kLv S b ∧ b < 2 * n) → HA a = HA b → a = b := by
  intro a b A B e
  have h1 := (j.1 a A.1 A.2).1.1.2.1
  have h2 := (j.1 b B.1 B.2).1.1.2.1
  rw [e, h2] at h1
  exact (vI_inj B.1.1 A.1.1 h1).symm
theorem nodup_len {L : List Nat} (h : L.Nodup) (b : ∀ k, k ∈ L → k < 120) : L.length ≤ 120 := by
  rcases Nat.lt_or_ge 120 L.length with q | q
  · exfalso
    obtain ⟨i, j, h1, h2, h3⟩ := pig 120 (fun i => L.getD i 0) (fun i hi => by
      have hl : i < L.length := by omega
      show L.getD i 0 < 120
      rw [List.getD_eq_getElem?_getD, List.getElem?_eq_getElem hl]
      exact b _ (List.getElem_mem hl))
    have hi : i < L.length := by omega
    have hj : j < L.length := by omega
    rw [List.getD_eq_getElem?_getD, List.getElem?_eq_getElem hi, List.getD_eq_getElem?_getD, List.getElem?_eq_getElem hj] at h3
    exact (List.pairwise_iff_getElem.mp h) i j hi hj h1 h3
  · exact q
theorem mem_insL {xs : List Nat} {i x y : Nat} (h : y ∈ xs) : y ∈ insL xs i x := by
  unfold insL
  rw [← List.take_append_drop i xs] at h
  rcases List.mem_append.mp h with h | h
  · exact List.mem_append_left _ h
  · exact List.mem_append_right _ (List.mem_cons_of_mem _ h)
theorem self_insL (xs : List Nat) (i x : Nat) : x ∈ insL xs i x := List.mem_append_right _ List.mem_cons_self
theorem nodup_ins {xs : List Nat} {i x : Nat} (h : xs.Nodup) (hx : x ∉ xs) : (insL xs i x).Nodup := by
  unfold insL
  have hs : (xs.take i ++ xs.drop i).Nodup := by rw [List.take_append_drop]; exact h
  rw [List.nodup_append] at hs ⊢
  obtain ⟨a1, a2, a3⟩ := hs
  refine ⟨a1, List.nodup_cons.mpr ⟨fun q => hx (List.mem_of_mem_drop q), a2⟩, ?_⟩
  intro a ha b hb
  rcases List.mem_cons.mp hb with e | hb
  · subst e; intro e; subst e; exact hx (List.mem_of_mem_take ha)
  · exact a3 a ha b hb
theorem map_insL {HA : Nat → Nat} {xs : List Nat} {i x : Nat} : (insL xs i x).map HA = insL (xs.map HA) i (HA x) := by
  unfold insL
  rw [List.map_append, List.map_cons, List.map_take, List.map_drop]
