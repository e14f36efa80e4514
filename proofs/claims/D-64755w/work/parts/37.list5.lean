set_option maxRecDepth 100000
section LIST5
variable {E : gV} {l : Launch} {h : gH} {ow : Nat → Nat} {a : Nat} {xs : List Nat} {e cap : Nat}
theorem ok_J2_fastRemove (r : lR E ow h a xs e cap) {i : Nat} (hi : i < xs.length) {d : Nat} (hd : 2 ≤ d) :
    gOk E l gJ2_fastRemove d 0 0 [.ref a, .ref e, vI i] h (gRu (adQ E ow h a (delL xs i))) := by
  refine gOk_of gmok_J2_fastRemove rfl (Nat.le_of_ble_eq_true rfl) (L := [some _, some _, some _, none]) rfl ?_
  obtain ⟨m, hm0⟩ := r.2.1
  refine G_aload_0 (pc := 0) dJ2_fastRemove_0 ?_
  refine G_dup (pc := 1) dJ2_fastRemove_1 rfl ?_
  refine G_get (pc := 2) dJ2_fastRemove_2 rfl r.1.1 hm0 ?_
  refine G_iconst (pc := 5) dJ2_fastRemove_5 ?_
  refine G_iadd (pc := 6) dJ2_fastRemove_6 ?_
  refine G_put (pc := 7) dJ2_fastRemove_7 rfl r.1.1 r.1.2.1 rfl rfl rfl ?_
  have r1 := lR_mod r (m := m + 1)
  obtain ⟨h1, eh⟩ : ∃ h1, h1 = gSet h a ((h.2 a).1, (h.2 a).2.1, updV (h.2 a).2.2 0 (vI (m + 1))) := ⟨_, rfl⟩
  have es : h1.1 = h.1 := by rw [eh]; rfl
  have ene : ∀ b, b ≠ a → h1.2 b = h.2 b := fun b hb => by rw [eh, gSet_ne _ _ hb]
  rw [← eh] at r1 ⊢
  have hle := r1.2.2.2.2.2.2.1
  have ho := lR_own r1 (by omega)
  have hcb := lR_cap r1
  have he := lR_e r1
  have hdl := delL_len hi
  obtain ⟨n, hn⟩ : ∃ n, xs.length = n + 1 := ⟨xs.length - 1, by omega⟩
  refine G_aload_0 (pc := 10) dJ2_fastRemove_10 ?_
  refine G_get (pc := 11) dJ2_fastRemove_11 rfl r1.1.1 r1.2.2.2.1 ?_
  refine G_iconst (pc := 14) dJ2_fastRemove_14 ?_
  refine G_isub (pc := 15) dJ2_fastRemove_15 ?_
  rw [show ((xs.length : Nat) : Int) - 1 = (n : Int) by omega]
  refine G_dup (pc := 16) dJ2_fastRemove_16 rfl ?_
  refine G_istore_3 (pc := 17) dJ2_fastRemove_17 (by decide) rfl ?_
  refine G_iload_2 (pc := 18) dJ2_fastRemove_18 ?_
  obtain ⟨Q, hQ⟩ : ∃ Q, Q = gRet (gRu (adQ E ow h a (delL xs i))) := ⟨_, rfl⟩
  rw [← hQ]
  have k34 : ∀ (h2 : gH) (g : Nat → Value), h2.1 = h1.1 → h2.2 e = (33, cap, g) → (∀ b, b ≠ e → h2.2 b = h1.2 b) → (∀ j y, (delL xs i)[j]? = some y → g j = .ref y) → G E l gJ2_fastRemove d 0 0 Q 34 [some (.ref a), some (.ref e), some (vI i), some (vI n)] [] h2 0 0 := by
    intro h2 g t3 t1 t2 hg
    refine G_aload_1 (pc := 34) dJ2_fastRemove_34 ?_
    refine G_aload_0 (pc := 35) dJ2_fastRemove_35 ?_
    refine G_iload_3 (pc := 36) dJ2_fastRemove_36 ?_
    refine G_dup_x1 (pc := 37) dJ2_fastRemove_37 rfl rfl ?_
    refine G_put (pc := 38) dJ2_fastRemove_38 rfl (by rw [t2 a (Ne.symm he)]; exact r1.1.1) r1.1.2.1 rfl rfl rfl ?_
    refine G_aconst_null (pc := 41) dJ2_fastRemove_41 ?_
    refine G_aastN (pc := 42) dJ2_fastRemove_42 (by rw [gSet_ne _ _ he, t1]; exact List.mem_cons_self) ho.1 (by rw [gSet_ne _ _ he, t1]; simp only []; omega) (by rw [gSet_ne _ _ he, t1]; simp only []; omega) ?_
    rw [gSet_ne _ _ he, t1, Int.toNat_natCast]
    simp only []
    refine G_return (pc := 43) dJ2_fastRemove_43 rfl (by omega) (by omega) ?_
    subst hQ
    obtain ⟨m', hm1⟩ := r1.2.1
    have hgi : ∀ j y, (delL xs i)[j]? = some y → updV g n .null j = .ref y := by
      intro j y hj
      have hjl : j < (delL xs i).length := (List.getElem?_eq_some_iff.mp hj).1
      simp only [updV]
      rw [if_neg (by omega)]
      exact hg j y hj
    obtain ⟨n1, n2⟩ := lR_new (ys := delL xs i) r1 (by omega) (h2 := gSet (gSet h2 a ((h2.2 a).1, (h2.2 a).2.1, updV (h2.2 a).2.2 2 (vI (n : Int)))) e (33, cap, updV g n .null))
      (g := updV g n .null) (g' := updV (h1.2 a).2.2 2 (vI (n : Int))) (n := (h1.2 a).2.1)
      (by omega) hgi (fun y hy => r1.2.2.2.2.2.2.2.2 y (delL_mem hy)) ⟨m', by simp [updV, hm1]⟩ (by simp [updV]; exact r1.2.2.1) (by rw [show (delL xs i).length = n by omega]; rfl) (by rw [gSet_sz, gSet_sz, t3]) (by rw [gSet_self]) (by rw [gSet_ne _ _ (Ne.symm he), gSet_self, t2 a (Ne.symm he), r1.1.1]) (fun b hb1 hb2 => by rw [gSet_ne _ _ hb1, gSet_ne _ _ hb2, t2 b hb1])
    exact ⟨_, rfl, rfl, adQ_back es ene ⟨ow, e, cap, n1, n2, fun _ _ => rfl⟩⟩
  refine G_icmp_le (pc := 19) 34 dJ2_fastRemove_19 (by decide) (by omega) (by omega) (fun c => ?_) (fun c => ?_)
  · refine k34 h1 (h1.2 e).2.2 rfl (by rw [← r1.2.2.2.2.1.1, ← r1.2.2.2.2.1.2]) (fun _ _ => rfl) (fun j y hj => ?_)
    have hjl : j < (delL xs i).length := (List.getElem?_eq_some_iff.mp hj).1
    rw [delL_get hi, if_pos (by omega)] at hj
    exact r1.2.2.2.2.2.2.2.1 j y hj
  · refine G_aload_1 (pc := 22) dJ2_fastRemove_22 ?_
    refine G_iload_2 (pc := 23) dJ2_fastRemove_23 ?_
    refine G_iconst (pc := 24) dJ2_fastRemove_24 ?_
    refine G_iadd (pc := 25) dJ2_fastRemove_25 ?_
    refine G_aload_1 (pc := 26) dJ2_fastRemove_26 ?_
    refine G_iload_2 (pc := 27) dJ2_fastRemove_27 ?_
    refine G_iload_3 (pc := 28) dJ2_fastRemove_28 ?_
    refine G_iload_2 (pc := 29) dJ2_fastRemove_29 ?_
    refine G_isub (pc := 30) dJ2_fastRemove_30 ?_
    refine G_copy (pc := 31) dJ2_fastRemove_31 q681 r1.2.2.2.2.1.1 r1.2.2.2.2.1.1 ho.1 (by rw [r1.2.2.2.2.1.2]; omega) (by rw [r1.2.2.2.2.1.2]; omega) (fun j hj => ?_) (by omega) (Nat.le_of_ble_eq_true rfl) ?_
    · rw [show ((i : Int) + 1).toNat = i + 1 by omega]
      have hg : xs[i + 1 + j]? = some xs[i + 1 + j] := List.getElem?_eq_getElem (by omega)
      exact Or.inr ⟨_, r1.2.2.2.2.2.2.2.1 (i + 1 + j) _ hg, (r1.2.2.2.2.2.2.2.2 _ (List.getElem_mem _)).2⟩
    rw [r1.2.2.2.2.1.1, r1.2.2.2.2.1.2, Int.toNat_natCast, show ((i : Int) + 1).toNat = i + 1 by omega, show ((n : Int) - i).toNat = n - i by omega]
    refine k34 _ (cpV (h1.2 e).2.2 (h1.2 e).2.2 (i + 1) i (n - i)) rfl (by rw [gSet_self]) (fun b hb => gSet_ne _ _ hb) (fun j y hj => ?_)
    have hjl : j < (delL xs i).length := (List.getElem?_eq_some_iff.mp hj).1
    rw [delL_get hi] at hj
    simp only [cpV]
    by_cases c2 : j < i
    · rw [if_pos c2] at hj
      rw [if_neg (by omega)]
      exact r1.2.2.2.2.2.2.2.1 j y hj
    · rw [if_neg c2] at hj
      rw [if_pos (by omega), show i + 1 + (j - i) = j + 1 by omega]
      exact r1.2.2.2.2.2.2.2.1 (j + 1) y hj
theorem ok_J2_remove (r : lR E ow h a xs e cap) {i x : Nat} (hx : xs[i]? = some x) {d : Nat} (hd : 3 ≤ d) :
    gOk E l gJ2_remove d 0 0 [.ref a, vI i] h (gRv (fun v h' => v = .ref x ∧ adQ E ow h a (delL xs i) h')) := by
  refine gOk_of gmok_J2_remove rfl (Nat.le_of_ble_eq_true rfl) (L := [some _, some _, none, none]) rfl ?_
  have hl := lR_cap r
  have hlen := r.2.2.2.2.2.2.1
  have hi : i < xs.length := (List.getElem?_eq_some_iff.mp hx).1
  refine G_iload_1 (pc := 0) dJ2_remove_0 ?_
  refine G_aload_0 (pc := 1) dJ2_remove_1 ?_
  refine G_get (pc := 2) dJ2_remove_2 rfl r.1.1 r.2.2.2.1 ?_
  refine G_pS2 (pc := 5) dJ2_remove_5 rfl rfl (pu_J10_checkIndex (by omega) (by omega)) (by omega) (by omega) (by omega) (Nat.le_of_ble_eq_true rfl) ?_
  refine G_pop (pc := 8) dJ2_remove_8 rfl ?_
  refine G_aload_0 (pc := 9) dJ2_remove_9 ?_
  refine G_get (pc := 10) dJ2_remove_10 rfl r.1.1 r.2.2.1 ?_
  refine G_astore_2 (pc := 13) dJ2_remove_13 (by decide) rfl ?_
  refine G_aload_2 (pc := 14) dJ2_remove_14 ?_
  refine G_iload_1 (pc := 15) dJ2_remove_15 ?_
  refine G_aald (pc := 16) (v := .ref x) dJ2_remove_16 (by rw [r.2.2.2.2.1.1]; decide) (by rw [r.2.2.2.2.1.2]; omega) (by rw [r.2.2.2.2.1.2]; omega) (r.2.2.2.2.2.2.2.1 i x hx) ?_
  refine G_astore_3 (pc := 17) dJ2_remove_17 (by decide) rfl ?_
  refine G_aload_0 (pc := 18) dJ2_remove_18 ?_
  refine G_aload_2 (pc := 19) dJ2_remove_19 ?_
  refine G_iload_1 (pc := 20) dJ2_remove_20 ?_
  refine G_callV2u (pc := 21) (d' := 2) dJ2_remove_21 rfl r.1.1 (by decide) rfl (ok_J2_fastRemove r hi (Nat.le_refl _)) (by omega) (by omega) (by omega) (Nat.le_of_ble_eq_true rfl) (fun h' q => ?_)
  refine G_aload_3 (pc := 24) dJ2_remove_24 ?_
  refine G_areturn (pc := 25) dJ2_remove_25 rfl (Or.inl ⟨_, rfl⟩) (Or.inr ⟨_, rfl⟩) (by omega) (by omega) ?_
  exact ⟨_, rfl, _, rfl, rfl, q⟩
theorem ok_J2_clear (r : lR E ow h a xs e cap) {d : Nat} (hd : 1 ≤ d) : gOk E l gJ2_clear d 0 0 [.ref a] h (gRu (adQ E ow h a [])) := by
  refine gOk_of gmok_J2_clear rfl (Nat.le_of_ble_eq_true rfl) (L := [some _, none, none, none]) rfl ?_
  obtain ⟨m, hm0⟩ := r.2.1
  refine G_aload_0 (pc := 0) dJ2_clear_0 ?_
  refine G_dup (pc := 1) dJ2_clear_1 rfl ?_
  refine G_get (pc := 2) dJ2_clear_2 rfl r.1.1 hm0 ?_
  refine G_iconst (pc := 5) dJ2_clear_5 ?_
  refine G_iadd (pc := 6) dJ2_clear_6 ?_
  refine G_put (pc := 7) dJ2_clear_7 rfl r.1.1 r.1.2.1 rfl rfl rfl ?_
  have r1 := lR_mod r (m := m + 1)
  obtain ⟨h1, eh⟩ : ∃ h1, h1 = gSet h a ((h.2 a).1, (h.2 a).2.1, updV (h.2 a).2.2 0 (vI (m + 1))) := ⟨_, rfl⟩
  have es : h1.1 = h.1 := by rw [eh]; rfl
  have ene : ∀ b, b ≠ a → h1.2 b = h.2 b := fun b hb => by rw [eh, gSet_ne _ _ hb]
  rw [← eh] at r1 ⊢
  have hle := r1.2.2.2.2.2.2.1
  have hcb := lR_cap r1
  have he := lR_e r1
  refine G_aload_0 (pc := 10) dJ2_clear_10 ?_
  refine G_get (pc := 11) dJ2_clear_11 rfl r1.1.1 r1.2.2.1 ?_
  refine G_astore_1 (pc := 14) dJ2_clear_14 (by decide) rfl ?_
  refine G_aload_0 (pc := 15) dJ2_clear_15 ?_
  refine G_get (pc := 16) dJ2_clear_16 rfl r1.1.1 r1.2.2.2.1 ?_
  refine G_istore_2 (pc := 19) dJ2_clear_19 (by decide) rfl ?_
  refine G_aload_0 (pc := 20) dJ2_clear_20 ?_
  refine G_iconst (pc := 21) dJ2_clear_21 ?_
  refine G_dup_x1 (pc := 22) dJ2_clear_22 rfl rfl ?_
  refine G_put (pc := 23) dJ2_clear_23 rfl r1.1.1 r1.1.2.1 rfl rfl rfl ?_
  refine G_istore_3 (pc := 26) dJ2_clear_26 (by decide) rfl ?_
  obtain ⟨m', hm1⟩ := r1.2.1
  obtain ⟨Q, hQ⟩ : ∃ Q, Q = gRet (gRu (adQ E ow h a [])) := ⟨_, rfl⟩
  rw [← hQ]
  have k27 : ∀ (n k : Nat), k + n = xs.length → ∀ (h2 : gH) (g : Nat → Value), h2.1 = h1.1 → h2.2 a = (8, (h1.2 a).2.1, updV (h1.2 a).2.2 2 (vI 0)) → ((k = 0 ∧ h2.2 e = h1.2 e) ∨ (1 ≤ k ∧ h2.2 e = (33, cap, g))) → (∀ b, b ≠ e → b ≠ a → h2.2 b = h1.2 b) → G E l gJ2_clear d 0 0 Q 27 [some (.ref a), some (.ref e), some (vI (xs.length : Nat)), some (vI k)] [] h2 0 0 := by
    intro n
    induction n with
    | zero =>
      intro k hn h2 g t1 t2 t3 t4
      refine G_iload_3 (pc := 27) dJ2_clear_27 ?_
      refine G_iload_2 (pc := 28) dJ2_clear_28 ?_
      refine G_icmp_ge (pc := 29) 42 dJ2_clear_29 (by decide) (by omega) (by omega) (fun _ => ?_) (fun q => absurd q (by omega))
      refine G_return (pc := 42) dJ2_clear_42 rfl (by omega) (by omega) ?_
      subst hQ
      have t3' : ∃ g, h2.2 e = (33, cap, g) := by
        rcases t3 with q | q
        · exact ⟨_, by rw [q.2, ← r1.2.2.2.2.1.1, ← r1.2.2.2.2.1.2]⟩
        · exact ⟨_, q.2⟩
      obtain ⟨g, t3'⟩ := t3'
      refine ⟨_, rfl, rfl, adQ_back es ene ⟨ow, e, cap, ⟨⟨by rw [t2], r1.1.2.1, by rw [t1]; exact r1.1.2.2⟩, ⟨m', by rw [t2]; simp [updV, hm1]⟩, by rw [t2]; simp [updV]; exact r1.2.2.1, by rw [t2]; simp [updV], ⟨by rw [t3'], by rw [t3']⟩, by rw [t1]; exact r1.2.2.2.2.2.1, by simp, fun i x hi => by simp at hi, fun x hx => by simp at hx⟩, ⟨by omega, fun b hb hba hbn => ?_⟩, fun _ _ => rfl⟩⟩
      by_cases c : b = e
      · subst c
        by_cases c0 : cap = 0
        · have hz : xs.length = 0 := by omega
          rcases t3 with q | q
          · exact q.2
          · omega
        · have ho := lR_own r1 c0
          exact absurd ⟨ho.1, r1.2.2.2.2.1.1, ho.2.2.1⟩ hbn
      · exact t4 b c hba
    | succ n ih =>
      intro k hn h2 g t1 t2 t3 t4
      have ho := lR_own r1 (by omega)
      have t3' : ∃ g, h2.2 e = (33, cap, g) := by
        rcases t3 with q | q
        · exact ⟨_, by rw [q.2, ← r1.2.2.2.2.1.1, ← r1.2.2.2.2.1.2]⟩
        · exact ⟨_, q.2⟩
      obtain ⟨g, t3'⟩ := t3'
      refine G_iload_3 (pc := 27) dJ2_clear_27 ?_
      refine G_iload_2 (pc := 28) dJ2_clear_28 ?_
      refine G_icmp_ge (pc := 29) 42 dJ2_clear_29 (by decide) (by omega) (by omega) (fun q => absurd q (by omega)) (fun _ => ?_)
      refine G_aload_1 (pc := 32) dJ2_clear_32 ?_
      refine G_iload_3 (pc := 33) dJ2_clear_33 ?_
      refine G_aconst_null (pc := 34) dJ2_clear_34 ?_
      refine G_aastN (pc := 35) dJ2_clear_35 (by rw [t3']; exact List.mem_cons_self) ho.1 (by rw [t3']; simp only []; omega) (by rw [t3']; simp only []; omega) ?_
      refine G_iinc_3 (pc := 36) dJ2_clear_36 (by decide) rfl ?_
      refine G_goto (pc := 39) 27 dJ2_clear_39 (by decide) ?_
      rw [show ((k : Int) + 1) = ((k + 1 : Nat) : Int) by omega]
      refine ih (k + 1) (by omega) _ (updV g (k : Int).toNat .null) (by rw [gSet_sz, t1]) (by rw [gSet_ne _ _ (Ne.symm he), t2]) (Or.inr ⟨by omega, by rw [gSet_self, t3']⟩) (fun b hb1 hb2 => by rw [gSet_ne _ _ hb1, t4 b hb1 hb2])
  exact k27 xs.length 0 (by omega) _ (fun _ => .null) rfl (by rw [gSet_self, r1.1.1]) (Or.inl ⟨rfl, gSet_ne _ _ he⟩) (fun b hb1 hb2 => gSet_ne _ _ hb2)
theorem ok_J0_init {d : Nat} (hd : 2 ≤ d) : gOk E l gJ0_init d 0 0 [.ref a] h (gRu (fun h' => h' = h)) := by
  refine gOk_of gmok_J0_init rfl (Nat.le_of_ble_eq_true rfl) (L := [some _]) rfl ?_
  refine G_aload_0 (pc := 0) dJ0_init_0 ?_
  refine G_objInit (pc := 1) dJ0_init_1 (by decide) (by omega) (Nat.le_of_ble_eq_true rfl) ?_
  refine G_return (pc := 4) dJ0_init_4 rfl (by omega) (by omega) ?_
  exact ⟨_, rfl, rfl, rfl⟩
theorem ok_J1_init (h1 : (h.2 a).1 = 8) (h2 : gBase E ≤ a) {d : Nat} (hd : 3 ≤ d) : gOk E l gJ1_init d 0 0 [.ref a] h (gRu (fun h' => h' = gSet h a ((h.2 a).1, (h.2 a).2.1, updV (h.2 a).2.2 0 (vI 0)))) := by
  refine gOk_of gmok_J1_init rfl (Nat.le_of_ble_eq_true rfl) (L := [some _]) rfl ?_
  refine G_aload_0 (pc := 0) dJ1_init_0 ?_
  refine G_callI0u (pc := 1) (d' := 2) dJ1_init_1 rfl rfl (ok_J0_init (Nat.le_refl _)) (by omega) (by omega) (by omega) (Nat.le_of_ble_eq_true rfl) (fun h' q => ?_)
  subst q
  refine G_aload_0 (pc := 4) dJ1_init_4 ?_
  refine G_iconst (pc := 5) dJ1_init_5 ?_
  refine G_put (pc := 6) dJ1_init_6 rfl h1 h2 rfl rfl rfl ?_
  refine G_return (pc := 9) dJ1_init_9 rfl (by omega) (by omega) ?_
  exact ⟨_, rfl, rfl, rfl⟩
theorem ok_J2_init (h1 : (h.2 a).1 = 8) (h2 : gBase E ≤ a) (h3 : a < h.1) (h4 : (h.2 a).2.2 2 = vI 0) (hE : gEm E < gBase E ∧ (h.2 (gEm E)).1 = 33 ∧ (h.2 (gEm E)).2.1 = 0) {d : Nat} (hd : 4 ≤ d) :
    gOk E l gJ2_init d 0 0 [.ref a] h (gRu (fun h' => lR E ow h' a [] (gEm E) 0 ∧ h'.1 = h.1 ∧ ∀ b, b ≠ a → h'.2 b = h.2 b)) := by
  refine gOk_of gmok_J2_init rfl (Nat.le_of_ble_eq_true rfl) (L := [some _]) rfl ?_
  refine G_aload_0 (pc := 0) dJ2_init_0 ?_
  refine G_callI0u (pc := 1) (d' := 3) dJ2_init_1 rfl rfl (ok_J1_init h1 h2 (Nat.le_refl _)) (by omega) (by omega) (by omega) (Nat.le_of_ble_eq_true rfl) (fun h' q => ?_)
  refine G_aload_0 (pc := 4) dJ2_init_4 ?_
  refine G_getEmpty (pc := 5) dJ2_init_5 rfl ?_
  refine G_put (pc := 8) dJ2_init_8 rfl (by rw [q, gSet_self]; exact h1) h2 rfl rfl rfl ?_
  refine G_return (pc := 11) dJ2_init_11 rfl (by omega) (by omega) ?_
  have hne : gEm E ≠ a := by omega
  refine ⟨_, rfl, rfl, ⟨⟨by rw [gSet_self, q, gSet_self]; exact h1, h2, by rw [gSet_sz, q]; exact h3⟩, ⟨0, by rw [gSet_self, q, gSet_self]; rfl⟩, by rw [gSet_self]; rfl, by rw [gSet_self, q, gSet_self]; simp [updV]; exact h4, ⟨by rw [gSet_ne _ _ hne, q, gSet_ne _ _ hne]; exact hE.2.1, by rw [gSet_ne _ _ hne, q, gSet_ne _ _ hne]; exact hE.2.2⟩, Or.inl ⟨rfl, hE.1, rfl⟩, by simp, fun i x hi => by simp at hi, fun x hx => by simp at hx⟩, by rw [gSet_sz, q]; rfl, fun b hb => by rw [gSet_ne _ _ hb, q, gSet_ne _ _ hb]⟩
end LIST5
