set_option maxRecDepth 100000
noncomputable def gr (n : Nat) : Nat := zI (n = 0 ∨ tCap n) (ncap n) 0
theorem gr_b (n : Nat) : gr n ≤ 244 := by
  unfold gr
  by_cases c : n = 0 ∨ tCap n
  · rw [zI_pos c]
    unfold ncap
    rcases c with c | c
    · rw [if_pos c]; omega
    · have := tCap_b c; split <;> omega
  · rw [zI_neg c]; omega
/-- a list changed: its elements are xs -/
def adQ (E : gV) (ow : Nat → Nat) (h : gH) (a : Nat) (xs : List Nat) (h' : gH) : Prop := ∃ ow' e' cap', lR E ow' h' a xs e' cap' ∧ fr E ow a h h' ∧ ∀ b, b < h.1 → ow' b = ow b
section LIST3
variable {E : gV} {l : Launch} {h : gH} {ow : Nat → Nat} {a : Nat} {xs : List Nat} {e cap : Nat}
theorem lR_own (r : lR E ow h a xs e cap) (hc : cap ≠ 0) : gBase E ≤ e ∧ e < h.1 ∧ ow e = a ∧ tCap cap := by
  rcases r.2.2.2.2.2.1 with q | q
  · exact absurd q.2.2 hc
  · exact q
/-- the array and the length written -/
theorem lR_new (r : lR E ow h a xs e cap) (hc : cap ≠ 0) {ys : List Nat} {g g' : Nat → Value} {n : Nat} (hl : ys.length ≤ cap) (hg : ∀ i x, ys[i]? = some x → g i = .ref x) (hy : ∀ x ∈ ys, x < h.1 ∧ gFitA 33 (h.2 x).1 = true) (g0 : ∃ m, g' 0 = vI m) (g1 : g' 1 = .ref e) (g2 : g' 2 = vI (ys.length : Nat)) {h2 : gH} (e1 : h2.1 = h.1) (e2 : h2.2 e = (33, cap, g)) (e3 : h2.2 a = (8, n, g')) (e4 : ∀ b, b ≠ e → b ≠ a → h2.2 b = h.2 b) :
    lR E ow h2 a ys e cap ∧ fr E ow a h h2 := by
  have ho := lR_own r hc
  have r0 := r
  obtain ⟨⟨r1, r2, r3⟩, ⟨m, r4⟩, r5, r6, ⟨r7, r8⟩, r9, r10, r11, r12⟩ := r
  refine ⟨⟨⟨by rw [e3], r2, by rw [e1]; exact r3⟩, by rw [e3]; exact g0, by rw [e3]; exact g1, by rw [e3]; exact g2, ⟨by rw [e2], by rw [e2]⟩, Or.inr ⟨ho.1, by rw [e1]; exact ho.2.1, ho.2.2⟩, hl, fun i x hi => by rw [e2]; exact hg i x hi, fun x hx => ?_⟩, by rw [e1]; exact Nat.le_refl _, fun b _ hb1 hb2 => e4 b (fun q => ?_) hb1⟩
  · have := hy x hx
    have hf := fit_33 this.2
    rw [e1, e4 x (fun q => by subst q; exact hf.2 r7) (fun q => by subst q; exact hf.1 r1)]
    exact this
  · subst q; exact hb2 ⟨ho.1, r7, ho.2.2.1⟩
theorem ok_J2_add_2 (r : lR E ow h a xs e cap) (hc : xs.length < 150) (hB : gBase E ≤ h.1) {x : Nat} (hx : x < h.1 ∧ gFitA 33 (h.2 x).1 = true) {d : Nat} (hd : 6 ≤ d) :
    gOk E l gJ2_add_2 d 1 (gr xs.length) [.ref a, .ref x, .ref e, vI (xs.length : Nat)] h (gRu (adQ E ow h a (xs ++ [x]))) := by
  refine gOk_of gmok_J2_add_2 rfl (Nat.le_of_ble_eq_true rfl) (L := [some _, some _, some _, some _]) rfl ?_
  have hcap := lR_cap r
  have hle := r.2.2.2.2.2.2.1
  obtain ⟨Q, hQ⟩ : ∃ Q, Q = gRet (gRu (adQ E ow h a (xs ++ [x]))) := ⟨_, rfl⟩
  rw [← hQ]
  have k11 : ∀ (h1 : gH) (ow1 : Nat → Nat) (e1 cap1 uc us : Nat), lR E ow1 h1 a xs e1 cap1 → xs.length < cap1 → fr E ow a h h1 → (∀ b, b < h.1 → ow1 b = ow b) → (∀ b, b < h.1 → (gBase E ≤ b ∧ (h1.2 b).1 = 33 ∧ ow1 b = a) → (h.2 b).1 = 33) → uc ≤ 1 → us ≤ gr xs.length → G E l gJ2_add_2 d 1 (gr xs.length) Q 11 [some (.ref a), some (.ref x), some (.ref e1), some (vI (xs.length : Nat))] [] h1 uc us := by
    intro h1 ow1 e1 cap1 uc us r1 hlt hf1 how hk33 hu1 hu2
    have ho := lR_own r1 (by omega)
    have hcb := lR_cap r1
    have he := lR_e r1
    have hx1 : x < h1.1 ∧ gFitA 33 (h1.2 x).1 = true := by
      have hf := fit_33 hx.2
      rw [hf1.2 x hx.1 (fun q => by subst q; exact hf.1 r.1.1) (fun q => hf.2 q.2.1)]
      exact ⟨Nat.lt_of_lt_of_le hx.1 hf1.1, hx.2⟩
    refine G_aload_2 (pc := 11) dJ2_add_2_11 ?_
    refine G_iload_3 (pc := 12) dJ2_add_2_12 ?_
    refine G_aload_1 (pc := 13) dJ2_add_2_13 ?_
    refine G_aast (pc := 14) dJ2_add_2_14 (by rw [r1.2.2.2.2.1.1]; exact hx1.2) ho.1 (by rw [r1.2.2.2.2.1.2]; omega) (by rw [r1.2.2.2.2.1.2]; omega) ?_
    refine G_aload_0 (pc := 15) dJ2_add_2_15 ?_
    refine G_iload_3 (pc := 16) dJ2_add_2_16 ?_
    refine G_iconst (pc := 17) dJ2_add_2_17 ?_
    refine G_iadd (pc := 18) dJ2_add_2_18 ?_
    refine G_put (pc := 19) dJ2_add_2_19 rfl (by rw [gSet_ne _ _ (Ne.symm he)]; exact r1.1.1) r1.1.2.1 rfl rfl rfl ?_
    refine G_return (pc := 22) dJ2_add_2_22 rfl hu1 hu2 ?_
    subst hQ
    obtain ⟨m, hm0⟩ := r1.2.1
    have hgi : ∀ i y, (xs ++ [x])[i]? = some y → updV (h1.2 e1).2.2 xs.length (.ref x) i = .ref y := by
      intro i y hi
      simp only [updV]
      by_cases c : i = xs.length
      · rw [if_pos c]
        subst c
        simp at hi
        rw [hi]
      · rw [if_neg c]
        have hlt' : i < (xs ++ [x]).length := (List.getElem?_eq_some_iff.mp hi).1
        rw [List.length_append, List.length_singleton] at hlt'
        rw [List.getElem?_append_left (by omega)] at hi
        exact r1.2.2.2.2.2.2.2.1 i y hi
    have hyy : ∀ y ∈ xs ++ [x], y < h1.1 ∧ gFitA 33 (h1.2 y).1 = true := by
      intro y hy
      rcases List.mem_append.mp hy with q | q
      · exact r1.2.2.2.2.2.2.2.2 y q
      · rw [List.mem_singleton.mp q]; exact hx1
    obtain ⟨n1, n2⟩ := lR_new (ys := xs ++ [x]) r1 (by omega) (h2 := gSet (gSet h1 e1 ((h1.2 e1).1, (h1.2 e1).2.1, updV (h1.2 e1).2.2 ((xs.length : Nat) : Int).toNat (.ref x))) a (((gSet h1 e1 ((h1.2 e1).1, (h1.2 e1).2.1, updV (h1.2 e1).2.2 ((xs.length : Nat) : Int).toNat (.ref x))).2 a).1, ((gSet h1 e1 ((h1.2 e1).1, (h1.2 e1).2.1, updV (h1.2 e1).2.2 ((xs.length : Nat) : Int).toNat (.ref x))).2 a).2.1, updV ((gSet h1 e1 ((h1.2 e1).1, (h1.2 e1).2.1, updV (h1.2 e1).2.2 ((xs.length : Nat) : Int).toNat (.ref x))).2 a).2.2 2 (vI (((xs.length : Nat) : Int) + 1))))
      (g := updV (h1.2 e1).2.2 xs.length (.ref x)) (g' := updV (h1.2 a).2.2 2 (vI (((xs.length : Nat) : Int) + 1))) (n := (h1.2 a).2.1)
      (by simp; omega) hgi hyy ⟨m, by simp [updV, hm0]⟩ (by simp [updV]; exact r1.2.2.1) (by simp [updV]) rfl (by rw [gSet_ne _ _ he, gSet_self, r1.2.2.2.2.1.1, r1.2.2.2.2.1.2]; rfl) (by rw [gSet_self, gSet_ne _ _ (Ne.symm he), r1.1.1]) (fun b hb1 hb2 => by rw [gSet_ne _ _ hb2, gSet_ne _ _ hb1])
    refine ⟨_, rfl, rfl, ow1, e1, cap1, n1, ⟨Nat.le_trans hf1.1 n2.1, fun b hb hba hbn => ?_⟩, how⟩
    rw [n2.2 b (Nat.lt_of_lt_of_le hb hf1.1) hba (fun q => hbn ⟨q.1, hk33 b hb q, by rw [← how b hb]; exact q.2.2⟩)]
    exact hf1.2 b hb hba hbn
  refine G_iload_3 (pc := 0) dJ2_add_2_0 ?_
  refine G_aload_2 (pc := 1) dJ2_add_2_1 ?_
  refine G_alen (pc := 2) dJ2_add_2_2 (by rw [r.2.2.2.2.1.1]; decide) ?_
  rw [r.2.2.2.2.1.2]
  refine G_icmp_ne (pc := 3) 11 dJ2_add_2_3 (by decide) (by omega) (by omega) (fun c => ?_) (fun c => ?_)
  · exact k11 h ow e cap 0 0 r (by omega) (fr_rf _ _ _ _) (fun _ _ => rfl) (fun b _ q => q.2.1) (by omega) (by omega)
  · have hfull : xs.length = cap := by omega
    have hgr : gr xs.length = ncap cap := by
      unfold gr
      rw [hfull]
      rw [zI_pos (show cap = 0 ∨ tCap cap from r.2.2.2.2.2.1.elim (fun q => Or.inl q.2.2) (fun q => Or.inr q.2.2.2))]
    refine G_aload_0 (pc := 6) dJ2_add_2_6 ?_
    refine G_callV0v (pc := 7) (d' := 5) dJ2_add_2_7 rfl r.1.1 (by decide) rfl (ok_J2_grow r hfull (by omega) hB (Nat.le_refl _)) (by omega) (by omega) (by omega) (Nat.le_of_ble_eq_true rfl) (fun y h' q => ?_)
    obtain ⟨rfl, q1, q2, q3⟩ := q
    refine G_astore_2 (pc := 10) dJ2_add_2_10 (by decide) rfl ?_
    have hnc : cap < ncap cap := by
      unfold ncap
      split
      · omega
      · rcases r.2.2.2.2.2.1 with q | q
        · omega
        · have := tCap_b q.2.2.2; omega
    refine k11 h' _ _ _ _ _ q1 (by omega) ⟨by omega, fun b hb hba _ => q3 b hb hba⟩ (fun b hb => by simp [upN]; omega) (fun b hb q => ?_) (by omega) (by omega)
    have hba : b ≠ a := by intro z; subst z; have := q1.1.1; omega
    rw [← q3 b hb hba]; exact q.2.1
theorem ok_J2_add (r : lR E ow h a xs e cap) (hc : xs.length < 150) (hB : gBase E ≤ h.1) {x : Nat} (hx : x < h.1 ∧ gFitA 33 (h.2 x).1 = true) {d : Nat} (hd : 7 ≤ d) :
    gOk E l gJ2_add d 1 (gr xs.length) [.ref a, .ref x] h (gRv (fun v h' => v = vI 1 ∧ adQ E ow h a (xs ++ [x]) h')) := by
  refine gOk_of gmok_J2_add rfl (Nat.le_of_ble_eq_true rfl) (L := [some _, some _]) rfl ?_
  obtain ⟨m, hm0⟩ := r.2.1
  refine G_aload_0 (pc := 0) dJ2_add_0 ?_
  refine G_dup (pc := 1) dJ2_add_1 rfl ?_
  refine G_get (pc := 2) dJ2_add_2 rfl r.1.1 hm0 ?_
  refine G_iconst (pc := 5) dJ2_add_5 ?_
  refine G_iadd (pc := 6) dJ2_add_6 ?_
  refine G_put (pc := 7) dJ2_add_7 rfl r.1.1 r.1.2.1 rfl rfl rfl ?_
  obtain ⟨r1, f1⟩ := lR_put (g := updV (h.2 a).2.2 0 (vI (m + 1))) (n := (h.2 a).2.1) r ⟨m + 1, rfl⟩ (by simp [updV]; exact r.2.2.1) (by simp [updV]; exact r.2.2.2.1)
  obtain ⟨h1, eh⟩ : ∃ h1, h1 = gSet h a ((h.2 a).1, (h.2 a).2.1, updV (h.2 a).2.2 0 (vI (m + 1))) := ⟨_, rfl⟩
  have es : h1.1 = h.1 := by rw [eh]; rfl
  have ene : ∀ b, b ≠ a → h1.2 b = h.2 b := fun b hb => by rw [eh, gSet_ne _ _ hb]
  rw [← eh] at r1 f1 ⊢
  have hxa : x ≠ a := by intro q; subst q; exact (fit_33 hx.2).1 r.1.1
  refine G_aload_0 (pc := 10) dJ2_add_10 ?_
  refine G_aload_1 (pc := 11) dJ2_add_11 ?_
  refine G_aload_0 (pc := 12) dJ2_add_12 ?_
  refine G_get (pc := 13) dJ2_add_13 rfl r1.1.1 r1.2.2.1 ?_
  refine G_aload_0 (pc := 16) dJ2_add_16 ?_
  refine G_get (pc := 17) dJ2_add_17 rfl r1.1.1 r1.2.2.2.1 ?_
  refine G_callV3u (pc := 20) (d' := 6) dJ2_add_20 rfl r1.1.1 (by decide) rfl (ok_J2_add_2 r1 hc (by rw [es]; exact hB) (by rw [es, ene x hxa]; exact hx) (Nat.le_refl _)) (by omega) (by omega) (by omega) (Nat.le_of_ble_eq_true rfl) (fun h' q => ?_)
  refine G_iconst (pc := 23) dJ2_add_23 ?_
  refine G_ireturn (pc := 24) dJ2_add_24 rfl rfl (by omega) (by omega) ?_
  obtain ⟨ow', e', cap', q1, q2, q3⟩ := q
  refine ⟨_, rfl, _, rfl, rfl, ow', e', cap', q1, ⟨by rw [← es]; exact q2.1, fun b hb hba hbn => ?_⟩, fun b hb => q3 b (by rw [es]; exact hb)⟩
  rw [q2.2 b (by rw [es]; exact hb) hba (by rw [ene b hba]; exact hbn)]
  exact ene b hba
end LIST3
