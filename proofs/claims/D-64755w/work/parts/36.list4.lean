set_option maxRecDepth 100000
def insL (xs : List Nat) (i x : Nat) : List Nat := xs.take i ++ x :: xs.drop i
def delL (xs : List Nat) (i : Nat) : List Nat := xs.take i ++ xs.drop (i + 1)
theorem insL_len {xs : List Nat} {i x : Nat} (h : i ≤ xs.length) : (insL xs i x).length = xs.length + 1 := by
  unfold insL; simp; omega
theorem delL_len {xs : List Nat} {i : Nat} (h : i < xs.length) : (delL xs i).length + 1 = xs.length := by
  unfold delL; simp; omega
theorem insL_get {xs : List Nat} {i x : Nat} (h : i ≤ xs.length) (j : Nat) : (insL xs i x)[j]? = if j < i then xs[j]? else if j = i then some x else xs[j - 1]? := by
  unfold insL
  have hl : (xs.take i).length = i := by simp; omega
  by_cases c : j < i
  · rw [if_pos c, List.getElem?_append_left (by omega), List.getElem?_take_of_lt c]
  · rw [if_neg c, List.getElem?_append_right (by omega), hl]
    by_cases c2 : j = i
    · rw [if_pos c2, c2]; simp
    · rw [if_neg c2, show j - i = (j - 1 - i) + 1 by omega, List.getElem?_cons_succ, List.getElem?_drop]
      congr 1
      omega
theorem delL_get {xs : List Nat} {i : Nat} (h : i < xs.length) (j : Nat) : (delL xs i)[j]? = if j < i then xs[j]? else xs[j + 1]? := by
  unfold delL
  have hl : (xs.take i).length = i := by simp; omega
  by_cases c : j < i
  · rw [if_pos c, List.getElem?_append_left (by omega), List.getElem?_take_of_lt c]
  · rw [if_neg c, List.getElem?_append_right (by omega), hl, List.getElem?_drop]
    congr 1
    omega
theorem insL_mem {xs : List Nat} {i x y : Nat} (h : y ∈ insL xs i x) : y = x ∨ y ∈ xs := by
  unfold insL at h
  rcases List.mem_append.mp h with q | q
  · exact Or.inr (List.mem_of_mem_take q)
  · rcases List.mem_cons.mp q with q | q
    · exact Or.inl q
    · exact Or.inr (List.mem_of_mem_drop q)
theorem delL_mem {xs : List Nat} {i y : Nat} (h : y ∈ delL xs i) : y ∈ xs := by
  unfold delL at h
  rcases List.mem_append.mp h with q | q
  · exact List.mem_of_mem_take q
  · exact List.mem_of_mem_drop q
section LIST4
variable {E : gV} {l : Launch} {h : gH} {ow : Nat → Nat} {a : Nat} {xs : List Nat} {e cap : Nat}
theorem ok_J2_rangeCheckForAdd (r : lR E ow h a xs e cap) {i : Nat} (hi : i ≤ xs.length) {d : Nat} (hd : 1 ≤ d) : gOk E l gJ2_rangeCheckForAdd d 0 0 [.ref a, vI i] h (gRu (fun h' => h' = h)) := by
  refine gOk_of gmok_J2_rangeCheckForAdd rfl (Nat.le_of_ble_eq_true rfl) (L := [some _, some _]) rfl ?_
  have hl := lR_cap r
  have hle := r.2.2.2.2.2.2.1
  refine G_iload_1 (pc := 0) dJ2_rangeCheckForAdd_0 ?_
  refine G_aload_0 (pc := 1) dJ2_rangeCheckForAdd_1 ?_
  refine G_get (pc := 2) dJ2_rangeCheckForAdd_2 rfl r.1.1 r.2.2.2.1 ?_
  refine G_icmp_gt (pc := 5) 12 dJ2_rangeCheckForAdd_5 (by decide) (by omega) (by omega) (fun q => absurd q (by omega)) (fun _ => ?_)
  refine G_iload_1 (pc := 8) dJ2_rangeCheckForAdd_8 ?_
  refine G_if_ge (pc := 9) 25 dJ2_rangeCheckForAdd_9 (by decide) (by omega) (fun _ => ?_) (fun q => absurd q (by omega))
  refine G_return (pc := 25) dJ2_rangeCheckForAdd_25 rfl (by omega) (by omega) ?_
  exact ⟨_, rfl, rfl, rfl⟩
/-- the modification counted -/
theorem lR_mod (r : lR E ow h a xs e cap) {m : Int} : lR E ow (gSet h a ((h.2 a).1, (h.2 a).2.1, updV (h.2 a).2.2 0 (vI m))) a xs e cap :=
  (lR_put (g := updV (h.2 a).2.2 0 (vI m)) (n := (h.2 a).2.1) r ⟨m, rfl⟩ (by simp [updV]; exact r.2.2.1) (by simp [updV]; exact r.2.2.2.1)).1
theorem adQ_back {h1 h2 : gH} {ys : List Nat} (es : h1.1 = h.1) (ene : ∀ b, b ≠ a → h1.2 b = h.2 b) (q : adQ E ow h1 a ys h2) : adQ E ow h a ys h2 := by
  obtain ⟨ow', e', cap', q1, q2, q3⟩ := q
  refine ⟨ow', e', cap', q1, ⟨by rw [← es]; exact q2.1, fun b hb hba hbn => ?_⟩, fun b hb => q3 b (by rw [es]; exact hb)⟩
  rw [q2.2 b (by rw [es]; exact hb) hba (by rw [ene b hba]; exact hbn)]
  exact ene b hba
theorem ok_J2_add_3 (r : lR E ow h a xs e cap) (hc : xs.length < 150) (hB : gBase E ≤ h.1) {x i : Nat} (hx : x < h.1 ∧ gFitA 33 (h.2 x).1 = true) (hi : i ≤ xs.length) {d : Nat} (hd : 7 ≤ d) :
    gOk E l gJ2_add_3 d 1 (gr xs.length) [.ref a, vI i, .ref x] h (gRu (adQ E ow h a (insL xs i x))) := by
  refine gOk_of gmok_J2_add_3 rfl (Nat.le_of_ble_eq_true rfl) (L := [some _, some _, some _, none, none]) rfl ?_
  obtain ⟨m, hm0⟩ := r.2.1
  refine G_aload_0 (pc := 0) dJ2_add_3_0 ?_
  refine G_iload_1 (pc := 1) dJ2_add_3_1 ?_
  refine G_callV1u (pc := 2) (d' := 1) dJ2_add_3_2 rfl r.1.1 (by decide) rfl (ok_J2_rangeCheckForAdd r hi (Nat.le_refl _)) (by omega) (by omega) (by omega) (Nat.le_of_ble_eq_true rfl) (fun h' q => ?_)
  subst q
  refine G_aload_0 (pc := 5) dJ2_add_3_5 ?_
  refine G_dup (pc := 6) dJ2_add_3_6 rfl ?_
  refine G_get (pc := 7) dJ2_add_3_7 rfl r.1.1 hm0 ?_
  refine G_iconst (pc := 10) dJ2_add_3_10 ?_
  refine G_iadd (pc := 11) dJ2_add_3_11 ?_
  refine G_put (pc := 12) dJ2_add_3_12 rfl r.1.1 r.1.2.1 rfl rfl rfl ?_
  have r1 := lR_mod r (m := m + 1)
  obtain ⟨h0, eh⟩ : ∃ h1, h1 = gSet h' a ((h'.2 a).1, (h'.2 a).2.1, updV (h'.2 a).2.2 0 (vI (m + 1))) := ⟨_, rfl⟩
  have es : h0.1 = h'.1 := by rw [eh]; rfl
  have ene : ∀ b, b ≠ a → h0.2 b = h'.2 b := fun b hb => by rw [eh, gSet_ne _ _ hb]
  rw [← eh] at r1 ⊢
  have hxa : x ≠ a := by intro q; subst q; exact (fit_33 hx.2).1 r.1.1
  have hx0 : x < h0.1 ∧ gFitA 33 (h0.2 x).1 = true := by rw [es, ene x hxa]; exact hx
  obtain ⟨Q, hQ⟩ : ∃ Q, Q = gRet (gRu (adQ E ow h' a (insL xs i x))) := ⟨_, rfl⟩
  rw [← hQ]
  have hcap := lR_cap r1
  have hle := r1.2.2.2.2.2.2.1
  have k38 : ∀ (h1 : gH) (ow1 : Nat → Nat) (e1 cap1 uc us : Nat), lR E ow1 h1 a xs e1 cap1 → xs.length < cap1 → fr E ow a h0 h1 → (∀ b, b < h0.1 → ow1 b = ow b) → (∀ b, b < h0.1 → (gBase E ≤ b ∧ (h1.2 b).1 = 33 ∧ ow1 b = a) → (h0.2 b).1 = 33) → uc ≤ 1 → us ≤ gr xs.length → G E l gJ2_add_3 d 1 (gr xs.length) Q 38 [some (.ref a), some (vI i), some (.ref x), some (vI (xs.length : Nat)), some (.ref e1)] [] h1 uc us := by
    intro h1 ow1 e1 cap1 uc us r1 hlt hf1 how hk33 hu1 hu2
    have ho := lR_own r1 (by omega)
    have hcb := lR_cap r1
    have he := lR_e r1
    have hx1 : x < h1.1 ∧ gFitA 33 (h1.2 x).1 = true := by
      have hf := fit_33 hx0.2
      rw [hf1.2 x hx0.1 hxa (fun q => hf.2 q.2.1)]
      exact ⟨Nat.lt_of_lt_of_le hx0.1 hf1.1, hx0.2⟩
    refine G_aload_4 (pc := 38) dJ2_add_3_38 ?_
    refine G_iload_1 (pc := 40) dJ2_add_3_40 ?_
    refine G_aload_4 (pc := 41) dJ2_add_3_41 ?_
    refine G_iload_1 (pc := 43) dJ2_add_3_43 ?_
    refine G_iconst (pc := 44) dJ2_add_3_44 ?_
    refine G_iadd (pc := 45) dJ2_add_3_45 ?_
    refine G_iload_3 (pc := 46) dJ2_add_3_46 ?_
    refine G_iload_1 (pc := 47) dJ2_add_3_47 ?_
    refine G_isub (pc := 48) dJ2_add_3_48 ?_
    refine G_copy (pc := 49) dJ2_add_3_49 q681 r1.2.2.2.2.1.1 r1.2.2.2.2.1.1 ho.1 (by rw [r1.2.2.2.2.1.2]; omega) (by rw [r1.2.2.2.2.1.2]; omega) (fun j hj => ?_) (by omega) (Nat.le_of_ble_eq_true rfl) ?_
    · rw [Int.toNat_natCast]
      have hg : xs[i + j]? = some xs[i + j] := List.getElem?_eq_getElem (by omega)
      exact Or.inr ⟨_, r1.2.2.2.2.2.2.2.1 (i + j) _ hg, (r1.2.2.2.2.2.2.2.2 _ (List.getElem_mem _)).2⟩
    rw [r1.2.2.2.2.1.1, r1.2.2.2.2.1.2, Int.toNat_natCast, show ((i : Int) + 1).toNat = i + 1 by omega, show (((xs.length : Nat) : Int) - i).toNat = xs.length - i by omega]
    obtain ⟨h2, eh2⟩ : ∃ h2, h2 = gSet h1 e1 (33, cap1, cpV (h1.2 e1).2.2 (h1.2 e1).2.2 i (i + 1) (xs.length - i)) := ⟨_, rfl⟩
    rw [← eh2]
    have t1 : h2.2 e1 = (33, cap1, cpV (h1.2 e1).2.2 (h1.2 e1).2.2 i (i + 1) (xs.length - i)) := by rw [eh2, gSet_self]
    have t2 : ∀ b, b ≠ e1 → h2.2 b = h1.2 b := fun b hb => by rw [eh2, gSet_ne _ _ hb]
    have t3 : h2.1 = h1.1 := by rw [eh2]; rfl
    have hxe : x ≠ e1 := by intro q; subst q; exact (fit_33 hx1.2).2 r1.2.2.2.2.1.1
    refine G_aload_4 (pc := 52) dJ2_add_3_52 ?_
    refine G_iload_1 (pc := 54) dJ2_add_3_54 ?_
    refine G_aload_2 (pc := 55) dJ2_add_3_55 ?_
    refine G_aast (pc := 56) dJ2_add_3_56 (by rw [t1, t2 x hxe]; exact hx1.2) ho.1 (by rw [t1]; simp only []; omega) (by rw [t1]; simp only []; omega) ?_
    rw [t1, Int.toNat_natCast]
    simp only []
    obtain ⟨h3, eh3⟩ : ∃ h3, h3 = gSet h2 e1 (33, cap1, updV (cpV (h1.2 e1).2.2 (h1.2 e1).2.2 i (i + 1) (xs.length - i)) i (.ref x)) := ⟨_, rfl⟩
    rw [← eh3]
    have w1 : h3.2 e1 = (33, cap1, updV (cpV (h1.2 e1).2.2 (h1.2 e1).2.2 i (i + 1) (xs.length - i)) i (.ref x)) := by rw [eh3, gSet_self]
    have w2 : ∀ b, b ≠ e1 → h3.2 b = h1.2 b := fun b hb => by rw [eh3, gSet_ne _ _ hb, t2 b hb]
    have w3 : h3.1 = h1.1 := by rw [eh3, gSet_sz, t3]
    refine G_aload_0 (pc := 57) dJ2_add_3_57 ?_
    refine G_iload_3 (pc := 58) dJ2_add_3_58 ?_
    refine G_iconst (pc := 59) dJ2_add_3_59 ?_
    refine G_iadd (pc := 60) dJ2_add_3_60 ?_
    refine G_put (pc := 61) dJ2_add_3_61 rfl (by rw [w2 a (Ne.symm he)]; exact r1.1.1) r1.1.2.1 rfl rfl rfl ?_
    refine G_return (pc := 64) dJ2_add_3_64 rfl hu1 hu2 ?_
    subst hQ
    obtain ⟨m, hm0⟩ := r1.2.1
    have hgi : ∀ j y, (insL xs i x)[j]? = some y → updV (cpV (h1.2 e1).2.2 (h1.2 e1).2.2 i (i + 1) (xs.length - i)) i (.ref x) j = .ref y := by
      intro j y hj
      have hjl : j < (insL xs i x).length := (List.getElem?_eq_some_iff.mp hj).1
      rw [insL_len hi] at hjl
      rw [insL_get hi] at hj
      simp only [updV, cpV]
      by_cases c : j < i
      · rw [if_pos c] at hj
        rw [if_neg (by omega), if_neg (by omega)]
        exact r1.2.2.2.2.2.2.2.1 j y hj
      · rw [if_neg c] at hj
        by_cases c2 : j = i
        · rw [if_pos c2] at hj
          rw [if_pos c2, Option.some.inj hj]
        · rw [if_neg c2] at hj
          rw [if_neg c2, if_pos (by omega), show i + (j - (i + 1)) = j - 1 by omega]
          exact r1.2.2.2.2.2.2.2.1 (j - 1) y hj
    have hyy : ∀ y ∈ insL xs i x, y < h1.1 ∧ gFitA 33 (h1.2 y).1 = true := by
      intro y hy
      rcases insL_mem hy with q | q
      · rw [q]; exact hx1
      · exact r1.2.2.2.2.2.2.2.2 y q
    obtain ⟨n1, n2⟩ := lR_new (ys := insL xs i x) r1 (by omega) (h2 := gSet h3 a ((h3.2 a).1, (h3.2 a).2.1, updV (h3.2 a).2.2 2 (vI (((xs.length : Nat) : Int) + 1))))
      (g := updV (cpV (h1.2 e1).2.2 (h1.2 e1).2.2 i (i + 1) (xs.length - i)) i (.ref x)) (g' := updV (h1.2 a).2.2 2 (vI (((xs.length : Nat) : Int) + 1))) (n := (h1.2 a).2.1)
      (by rw [insL_len hi]; omega) hgi hyy ⟨m, by simp [updV, hm0]⟩ (by simp [updV]; exact r1.2.2.1) (by rw [insL_len hi]; simp [updV]) (by rw [gSet_sz, w3]) (by rw [gSet_ne _ _ he, w1]) (by rw [gSet_self, w2 a (Ne.symm he), r1.1.1]) (fun b hb1 hb2 => by rw [gSet_ne _ _ hb2, w2 b hb1])
    refine ⟨_, rfl, rfl, adQ_back es ene ⟨ow1, e1, cap1, n1, ⟨Nat.le_trans hf1.1 n2.1, fun b hb hba hbn => ?_⟩, how⟩⟩
    rw [n2.2 b (Nat.lt_of_lt_of_le hb hf1.1) hba (fun q => hbn ⟨q.1, hk33 b hb q, by rw [← how b hb]; exact q.2.2⟩)]
    exact hf1.2 b hb hba hbn
  refine G_aload_0 (pc := 15) dJ2_add_3_15 ?_
  refine G_get (pc := 16) dJ2_add_3_16 rfl r1.1.1 r1.2.2.2.1 ?_
  refine G_dup (pc := 19) dJ2_add_3_19 rfl ?_
  refine G_istore_3 (pc := 20) dJ2_add_3_20 (by decide) rfl ?_
  refine G_aload_0 (pc := 21) dJ2_add_3_21 ?_
  refine G_get (pc := 22) dJ2_add_3_22 rfl r1.1.1 r1.2.2.1 ?_
  refine G_dup (pc := 25) dJ2_add_3_25 rfl ?_
  refine G_astore_4 (pc := 26) dJ2_add_3_26 (by decide) rfl ?_
  refine G_alen (pc := 28) dJ2_add_3_28 (by rw [r1.2.2.2.2.1.1]; decide) ?_
  rw [r1.2.2.2.2.1.2]
  refine G_icmp_ne (pc := 29) 38 dJ2_add_3_29 (by decide) (by omega) (by omega) (fun c => ?_) (fun c => ?_)
  · exact k38 h0 ow e cap _ _ r1 (by omega) (fr_rf _ _ _ _) (fun _ _ => rfl) (fun b _ q => q.2.1) (by omega) (by omega)
  · have hfull : xs.length = cap := by omega
    have hgr : gr xs.length = ncap cap := by
      unfold gr
      rw [hfull]
      rw [zI_pos (show cap = 0 ∨ tCap cap from r.2.2.2.2.2.1.elim (fun q => Or.inl q.2.2) (fun q => Or.inr q.2.2.2))]
    refine G_aload_0 (pc := 32) dJ2_add_3_32 ?_
    refine G_callV0v (pc := 33) (d' := 5) dJ2_add_3_33 rfl r1.1.1 (by decide) rfl (ok_J2_grow r1 hfull (by omega) (by rw [es]; exact hB) (Nat.le_refl _)) (by omega) (by omega) (by omega) (Nat.le_of_ble_eq_true rfl) (fun y h' q => ?_)
    obtain ⟨rfl, q1, q2, q3⟩ := q
    refine G_astore_4 (pc := 36) dJ2_add_3_36 (by decide) rfl ?_
    have hnc : cap < ncap cap := by
      unfold ncap
      split
      · omega
      · rcases r.2.2.2.2.2.1 with q | q
        · omega
        · have := tCap_b q.2.2.2; omega
    refine k38 h' _ _ _ _ _ q1 (by omega) ⟨by omega, fun b hb hba _ => q3 b hb hba⟩ (fun b hb => by simp [upN]; omega) (fun b hb q => ?_) (by omega) (by omega)
    have hba : b ≠ a := by intro z; subst z; have := q1.1.1; omega
    rw [← q3 b hb hba]; exact q.2.1
end LIST4
