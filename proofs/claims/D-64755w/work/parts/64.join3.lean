set_option maxRecDepth 100000
def jL (S : mS) (n k : Nat) : Prop := kLv S k ∧ k < 2 * n
noncomputable def jU (S : mS) (n : Nat) (HA : Nat → Nat) (y : Nat) : Int := kdx S (hInv (jL S n) HA y)
noncomputable def jV (S : mS) (n : Nat) (HA : Nat → Nat) (y : Nat) : Int := kdy S (hInv (jL S n) HA y)
theorem putP_L {S : mS} {n : Nat} {HA : Nat → Nat} (inj : ∀ a b, jL S n a → jL S n b → HA a = HA b → a = b) {xs : List Nat} (hx : ∀ i, i ∈ xs → jL S n i) {x p : Nat} (h : putP (jU S n HA) (jV S n HA) (kdx S x) (kdy S x) (xs.map HA) p) :
    p ≤ xs.length ∧ (∀ j y, j < p → xs[j]? = some y → kKb S y x) ∧ (∀ y, xs[p]? = some y → ¬ kKb S y x) := by
  obtain ⟨h1, h2, h3⟩ := h
  rw [List.length_map] at h1
  refine ⟨h1, fun j y hj e => ?_, fun y e => ?_⟩
  · have := h2 j (HA y) hj (by rw [List.getElem?_map, e]; rfl)
    unfold jU jV at this
    rw [hInv_is inj (hx y (List.mem_of_getElem? e))] at this
    exact this
  · have := h3 (HA y) (by rw [List.getElem?_map, e]; rfl)
    unfold jU jV at this
    rw [hInv_is inj (hx y (List.mem_of_getElem? e))] at this
    exact this
section JOIN3
variable {E : gV} {S : mS} {T0 T9 : tT} {n : Nat} {HA ND : Nat → Nat} {ns : List Nat} {LN : Nat → List Nat} {HA' ND' : Nat → Nat} {ns' : List Nat} {NX' NY' : Nat → Int} {LA' : Nat → Nat} {LNa : Nat → List Nat}
theorem jM_inj (M : jM E S T0 T9 n HA ND ns LN HA' ND' ns' NX' NY' LA' LNa) : ∀ a b, jL S (n + 1) a → jL S (n + 1) b → HA' a = HA' b → a = b := by
  intro a b A B e
  have h1 := (M.2.1 a A.1 A.2).1.1.2.1
  have h2 := (M.2.1 b B.1 B.2).1.1.2.1
  rw [e, h2] at h1
  exact (vI_inj B.1.1 A.1.1 h1).symm
theorem jM_hD (g : kGd S) (M : jM E S T0 T9 n HA ND ns LN HA' ND' ns' NX' NY' LA' LNa) {T : tT} (e : T.1 = T9.1) {k : Nat} (L : jL S (n + 1) k) : hD T (HA' k) (kdx S k) (kdy S k) := by
  have q1 := M.2.1 k L.1 L.2
  have q2 := M.2.1 (zB k) (kLv_B L.1) (zB_lt2 L.2)
  have f : ∀ k, hF T9 HA' ND' k → hF T HA' ND' k := by intro k h; unfold hF; rw [e]; exact h
  have n1 := (M.1.2.1 _ q1.2.1).1
  have n2 := (M.1.2.1 _ q2.2.1).1
  rw [← e] at n1 n2
  exact (hD_of g L.1 (f _ q1.1.1) (f _ q2.1.1) n1 q1.2.2 n2 q2.2.2).2
theorem jM_hU (g : kGd S) (M : jM E S T0 T9 n HA ND ns LN HA' ND' ns' NX' NY' LA' LNa) {T : tT} (e : T.1 = T9.1) {xs : List Nat} (hx : ∀ i, i ∈ xs → jL S (n + 1) i) : ∀ y, y ∈ xs.map HA' → hD T y (jU S (n + 1) HA' y) (jV S (n + 1) HA' y) := by
  intro y hy
  obtain ⟨k, hk, ek⟩ := List.mem_map.mp hy
  subst ek
  unfold jU jV
  rw [hInv_is (jM_inj M) (hx k hk)]
  exact jM_hD g M e (hx k hk)
theorem jM_el (M : jM E S T0 T9 n HA ND ns LN HA' ND' ns' NX' NY' LA' LNa) (j2 : ∀ m, m ∈ ns → (∃ k, k ∈ LN m) ∧ (∀ k, k ∈ LN m → kLv S k ∧ k < 2 * n ∧ ND k = m) ∧ srt S (LN m) ∧ (LN m).Nodup) :
    ∀ m, m ∈ ns' → (∀ k, k ∈ LNa m → kLv S k ∧ k < 2 * n ∧ ND' k = m) ∧ srt S (LNa m) ∧ (LNa m).Nodup := by
  intro m hm
  by_cases q : m ∈ ns
  · rw [(M.2.2.2.1 m q).2]
    have := j2 m q
    refine ⟨fun k hk => ?_, this.2.2⟩
    have w := this.2.1 k hk
    exact ⟨w.1, w.2.1, by rw [(M.2.2.1 k w.2.1).2]; exact w.2.2⟩
  · rw [(M.2.2.2.2.1 m hm q).2]
    exact ⟨fun k hk => absurd hk (by simp), List.Pairwise.nil, List.nodup_nil⟩
theorem jI_put (g : kGd S) (hn : n < 60) (lv : S.2 1 n = 1) (M : jM E S T0 T9 n HA ND ns LN HA' ND' ns' NX' NY' LA' LNa)
    (j1 : ∀ k, kLv S k → k < 2 * n → ND k ∈ ns ∧ k ∈ LN (ND k)) (j2 : ∀ m, m ∈ ns → (∃ k, k ∈ LN m) ∧ (∀ k, k ∈ LN m → kLv S k ∧ k < 2 * n ∧ ND k = m) ∧ srt S (LN m) ∧ (LN m).Nodup) {T10 T11 : tT} {p1 p2 : Nat} {LNb LNc : Nat → List Nat}
    (q1 : putP (jU S (n + 1) HA') (jV S (n + 1) HA') (kdx S (2 * n)) (kdy S (2 * n)) ((LNa (ND' (2 * n))).map HA') p1) (eb : LNb = fU LNa (ND' (2 * n)) (insL (LNa (ND' (2 * n))) p1 (2 * n))) (e10 : T10 = tLs T9 (LA' (ND' (2 * n))) (insL ((LNa (ND' (2 * n))).map HA') p1 (HA' (2 * n))))
    (q2 : putP (jU S (n + 1) HA') (jV S (n + 1) HA') (kdx S (2 * n + 1)) (kdy S (2 * n + 1)) ((LNb (ND' (2 * n + 1))).map HA') p2) (ec : LNc = fU LNb (ND' (2 * n + 1)) (insL (LNb (ND' (2 * n + 1))) p2 (2 * n + 1))) (e11 : T11 = tLs T10 (LA' (ND' (2 * n + 1))) (insL ((LNb (ND' (2 * n + 1))).map HA') p2 (HA' (2 * n + 1)))) :
    jI E S T11 (n + 1) HA' ND' ns' NX' NY' LA' LNc := by
  have L1 : kLv S (2 * n) := ⟨by omega, by rw [show 2 * n / 2 = n by omega]; exact lv⟩
  have L2 : kLv S (2 * n + 1) := ⟨by omega, by rw [show (2 * n + 1) / 2 = n by omega]; exact lv⟩
  have el := jM_el M j2
  have m1 := M.2.1 _ L1 (by omega)
  have m2 := M.2.1 _ L2 (by omega)
  obtain ⟨a, ea⟩ : ∃ a, a = ND' (2 * n) := ⟨_, rfl⟩
  obtain ⟨b, ebb⟩ : ∃ b, b = ND' (2 * n + 1) := ⟨_, rfl⟩
  rw [← ea] at q1 eb e10 m1
  rw [← ebb] at q2 ec e11 m2
  have inj := jM_inj M
  have n10 : nJ E T10 ns' NX' NY' LA' (fun m => (LNb m).map HA') := by
    rw [e10]
    refine nJ_ext (nJ_put M.1 m1.2.1 _) (fun m hm => ?_)
    rw [eb]
    by_cases e : m = a
    · subst e; rw [fU_s, fU_s, map_insL]
    · rw [fU_n _ _ e, fU_n _ _ e]
  have n11 : nJ E T11 ns' NX' NY' LA' (fun m => (LNc m).map HA') := by
    rw [e11]
    refine nJ_ext (nJ_put n10 m2.2.1 _) (fun m hm => ?_)
    rw [ec]
    by_cases e : m = b
    · subst e; rw [fU_s, fU_s, map_insL]
    · rw [fU_n _ _ e, fU_n _ _ e]
  have sp : ∀ m, m ∈ ns' → ∀ i k, kLv S i → i < 2 * (n + 1) → kLv S k → k < 2 * (n + 1) → ND' i = m → ND' k = m → kSp S i k := by
    intro m _ i k I Il Kk Kl e1 e2
    have w1 := M.2.1 i I Il
    have w2 := M.2.1 k Kk Kl
    rw [e1] at w1
    rw [e2] at w2
    exact ⟨by rw [← w1.2.2.1, ← w2.2.2.1], by rw [← w1.2.2.2, ← w2.2.2.2]⟩
  have P1 := putP_L inj (fun i hi => ⟨((el a m1.2.1).1 i hi).1, by have := ((el a m1.2.1).1 i hi).2.1; omega⟩) q1
  -- after the first
  have elb : ∀ m, m ∈ ns' → (∀ k, k ∈ LNb m → kLv S k ∧ k < 2 * n + 1 ∧ ND' k = m) ∧ srt S (LNb m) ∧ (LNb m).Nodup := by
    intro m hm
    rw [eb]
    by_cases e : m = a
    · subst e
      rw [fU_s]
      have w := el m hm
      refine ⟨fun k hk => ?_, ?_, ?_⟩
      · rcases insL_mem hk with q | q
        · subst q; exact ⟨L1, by omega, ea.symm⟩
        · have := w.1 k q; exact ⟨this.1, by omega, this.2.2⟩
      · refine srt_ins g (fun i hi => (w.1 i hi).1) w.2.1 L1 (fun i hi => ?_) P1.1 P1.2.1 P1.2.2
        have x := w.1 i hi
        exact ⟨sp m hm i (2 * n) x.1 (by omega) L1 (by omega) x.2.2 ea.symm, by omega⟩
      · exact nodup_ins w.2.2 (fun q => by have := (w.1 _ q).2.1; omega)
    · rw [fU_n _ _ e]
      have w := el m hm
      exact ⟨fun k hk => by have := w.1 k hk; exact ⟨this.1, by omega, this.2.2⟩, w.2⟩
  have P2 := putP_L inj (fun i hi => ⟨((elb b m2.2.1).1 i hi).1, by have := ((elb b m2.2.1).1 i hi).2.1; omega⟩) q2
  have memb : ∀ m k, k ∈ LNa m → k ∈ LNb m := by
    intro m k hk
    rw [eb]
    by_cases e : m = a
    · subst e; rw [fU_s]; exact mem_insL hk
    · rw [fU_n _ _ e]; exact hk
  have memc : ∀ m k, k ∈ LNb m → k ∈ LNc m := by
    intro m k hk
    rw [ec]
    by_cases e : m = b
    · subst e; rw [fU_s]; exact mem_insL hk
    · rw [fU_n _ _ e]; exact hk
  have in1 : 2 * n ∈ LNc a := memc _ _ (by rw [eb, fU_s]; exact self_insL _ _ _)
  have in2 : 2 * n + 1 ∈ LNc b := by rw [ec, fU_s]; exact self_insL _ _ _
  have t1 : T11.1 = T9.1 := by rw [e11, e10]; rfl
  refine ⟨n11, ?_, ?_, ?_, M.2.2.2.2.2.2.1⟩
  · intro k L hk
    have w := M.2.1 k L hk
    refine ⟨⟨by unfold hF; rw [t1]; exact w.1.1, by rw [t1]; exact w.1.2⟩, w.2.1, ?_, w.2.2⟩
    by_cases c : k < 2 * n
    · have o := M.2.2.1 k c
      have z := j1 k L c
      rw [o.2]
      exact memc _ _ (memb _ _ (by rw [(M.2.2.2.1 _ z.1).2]; exact z.2))
    · by_cases c1 : k = 2 * n
      · subst c1; rw [← ea]; exact in1
      · have c2 : k = 2 * n + 1 := by omega
        subst c2; rw [← ebb]; exact in2
  · intro m hm
    have w := elb m hm
    refine ⟨?_, ?_⟩
    · by_cases q : m ∈ ns
      · obtain ⟨k, hk⟩ := (j2 m q).1
        exact ⟨k, memc _ _ (memb _ _ (by rw [(M.2.2.2.1 m q).2]; exact hk))⟩
      · rcases (M.2.2.2.2.1 m hm q).1 with e | e
        · rw [← ea] at e; subst e; exact ⟨_, in1⟩
        · rw [← ebb] at e; subst e; exact ⟨_, in2⟩
    · rw [ec]
      by_cases e : m = b
      · subst e
        rw [fU_s]
        refine ⟨fun k hk => ?_, ?_, ?_⟩
        · rcases insL_mem hk with q | q
          · subst q; exact ⟨L2, by omega, ebb.symm⟩
          · have := w.1 k q; exact ⟨this.1, by omega, this.2.2⟩
        · refine srt_ins g (fun i hi => (w.1 i hi).1) w.2.1 L2 (fun i hi => ?_) P2.1 P2.2.1 P2.2.2
          have x := w.1 i hi
          exact ⟨sp m hm i (2 * n + 1) x.1 (by omega) L2 (by omega) x.2.2 ebb.symm, by omega⟩
        · exact nodup_ins w.2.2 (fun q => by have := (w.1 _ q).2.1; omega)
      · rw [fU_n _ _ e]
        exact ⟨fun k hk => by have := w.1 k hk; exact ⟨this.1, by omega, this.2.2⟩, w.2⟩
  · intro k hk
    rw [t1]
    exact M.2.2.2.2.2.1 k hk
end JOIN3
