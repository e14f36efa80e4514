set_option maxRecDepth 100000
/-! a list's object and its array; methods that read -/
def tCap (n : Nat) : Prop := n = 10 ∨ n = 15 ∨ n = 22 ∨ n = 33 ∨ n = 49 ∨ n = 73 ∨ n = 109 ∨ n = 163
def ncap (n : Nat) : Nat := if n = 0 then 10 else n + n / 2
abbrev gEm (E : gV) : Nat := E.2.2.2.2 0
theorem tCap_b {n : Nat} (h : tCap n) : 10 ≤ n ∧ n ≤ 163 := by unfold tCap at h; omega
theorem tCap_n {n : Nat} (h : tCap n) (hn : n < 163) : tCap (ncap n) := by
  unfold tCap at *
  unfold ncap
  rw [if_neg (by omega)]
  omega
/-- a list's object at a: its elements xs, its array e of cap places; ow: the list whose array it is -/
def lR (E : gV) (ow : Nat → Nat) (h : gH) (a : Nat) (xs : List Nat) (e cap : Nat) : Prop :=
  ((h.2 a).1 = 8 ∧ gBase E ≤ a ∧ a < h.1) ∧ (∃ m, (h.2 a).2.2 0 = vI m) ∧ (h.2 a).2.2 1 = .ref e ∧ (h.2 a).2.2 2 = vI (xs.length : Nat) ∧ ((h.2 e).1 = 33 ∧ (h.2 e).2.1 = cap) ∧
  ((e = gEm E ∧ e < gBase E ∧ cap = 0) ∨ (gBase E ≤ e ∧ e < h.1 ∧ ow e = a ∧ tCap cap)) ∧ xs.length ≤ cap ∧ (∀ i x, xs[i]? = some x → (h.2 e).2.2 i = .ref x) ∧ ∀ x ∈ xs, x < h.1 ∧ gFitA 33 (h.2 x).1 = true
def fr (E : gV) (ow : Nat → Nat) (a : Nat) (h h' : gH) : Prop := h.1 ≤ h'.1 ∧ ∀ b, b < h.1 → b ≠ a → ¬ (gBase E ≤ b ∧ (h.2 b).1 = 33 ∧ ow b = a) → h'.2 b = h.2 b
theorem fr_rf (E : gV) (ow : Nat → Nat) (a : Nat) (h : gH) : fr E ow a h h := ⟨Nat.le_refl _, fun _ _ _ _ => rfl⟩
theorem fit_33 {k : Nat} (h : gFitA 33 k = true) : k ≠ 8 ∧ k ≠ 33 := by
  refine ⟨fun e => ?_, fun e => ?_⟩ <;> (subst e; exact absurd h (by decide))
theorem lR_e {E : gV} {ow : Nat → Nat} {h : gH} {a : Nat} {xs : List Nat} {e cap : Nat} (r : lR E ow h a xs e cap) : e ≠ a := by
  intro q
  have h1 := r.1.1
  have h2 := r.2.2.2.2.1.1
  rw [q] at h2
  omega
theorem lR_cap {E : gV} {ow : Nat → Nat} {h : gH} {a : Nat} {xs : List Nat} {e cap : Nat} (r : lR E ow h a xs e cap) : cap ≤ 163 := by
  rcases r.2.2.2.2.2.1 with q | q
  · omega
  · exact (tCap_b q.2.2.2).2
/-- a write into the list's object -/
theorem lR_put {E : gV} {ow : Nat → Nat} {h : gH} {a : Nat} {xs : List Nat} {e cap : Nat} {g : Nat → Value} {n : Nat} (r : lR E ow h a xs e cap) (g0 : ∃ m, g 0 = vI m) (g1 : g 1 = .ref e) (g2 : g 2 = vI (xs.length : Nat)) : lR E ow (gSet h a ((h.2 a).1, n, g)) a xs e cap ∧ fr E ow a h (gSet h a ((h.2 a).1, n, g)) := by
  have he := lR_e r
  obtain ⟨⟨r1, r2, r3⟩, r4, r5, r6, ⟨r7, r8⟩, r9, r10, r11, r12⟩ := r
  refine ⟨⟨⟨by rw [gSet_self]; exact r1, r2, r3⟩, by rw [gSet_self]; exact g0, by rw [gSet_self]; exact g1, by rw [gSet_self]; exact g2, ⟨by rw [gSet_ne _ _ he]; exact r7, by rw [gSet_ne _ _ he]; exact r8⟩, r9, r10, fun i x hi => by rw [gSet_ne _ _ he]; exact r11 i x hi, fun x hx => ?_⟩, Nat.le_refl _, fun b _ hb _ => gSet_ne _ _ hb⟩
  have := r12 x hx
  rw [gSet_ne _ _ (fun q => by subst q; exact (fit_33 this.2).1 r1)]
  exact this
section LIST
variable {E : gV} {l : Launch} {h : gH} {ow : Nat → Nat} {a : Nat} {xs : List Nat} {e cap : Nat}
theorem pu_J2_size (r : lR E ow h a xs e cap) : gPu E l gJ2_size 1 [.ref a] h (vI (xs.length : Nat)) := by
  intro d hd
  refine gOk_of gmok_J2_size rfl (Nat.le_of_ble_eq_true rfl) (L := [some _]) rfl ?_
  refine G_aload_0 (pc := 0) dJ2_size_0 ?_
  refine G_get (pc := 1) dJ2_size_1 rfl r.1.1 r.2.2.2.1 ?_
  refine G_ireturn (pc := 4) dJ2_size_4 rfl rfl (Nat.zero_le _) (Nat.zero_le _) ?_
  exact ⟨_, rfl, _, rfl, rfl, rfl⟩
theorem pu_J2_isEmpty (r : lR E ow h a xs e cap) : gPu E l gJ2_isEmpty 1 [.ref a] h (vI (bI (xs = []))) := by
  intro d hd
  have hl := lR_cap r
  have hlen := r.2.2.2.2.2.2.1
  have hz : xs = [] ↔ xs.length = 0 := by simp
  refine gOk_of gmok_J2_isEmpty rfl (Nat.le_of_ble_eq_true rfl) (L := [some _]) rfl ?_
  refine G_aload_0 (pc := 0) dJ2_isEmpty_0 ?_
  refine G_get (pc := 1) dJ2_isEmpty_1 rfl r.1.1 r.2.2.2.1 ?_
  refine G_if_ne (pc := 4) 11 dJ2_isEmpty_4 (by decide) (by omega) (fun c4 => ?_) (fun c4 => ?_)
  · skip
    refine G_iconst (pc := 11) dJ2_isEmpty_11 ?_
    refine G_ireturn (pc := 12) dJ2_isEmpty_12 rfl rfl (by omega) (by omega) ?_
    exact ⟨_, rfl, _, rfl, by first | exact congrArg vI (bI_pos (by rw [hz]; omega)).symm | exact congrArg vI (bI_neg (by rw [hz]; omega)).symm, rfl⟩
  · skip
    refine G_iconst (pc := 7) dJ2_isEmpty_7 ?_
    refine G_goto (pc := 8) 12 dJ2_isEmpty_8 (by decide) ?_
    refine G_ireturn (pc := 12) dJ2_isEmpty_12 rfl rfl (by omega) (by omega) ?_
    exact ⟨_, rfl, _, rfl, by first | exact congrArg vI (bI_pos (by rw [hz]; omega)).symm | exact congrArg vI (bI_neg (by rw [hz]; omega)).symm, rfl⟩
theorem pu_J11_checkIndex {i n : Int} (hi : 0 ≤ i ∧ i < n) (hn : n ≤ 2147483647) : gPu E l gJ11_checkIndex 1 [vI i, vI n, .null] h (vI i) := by
  intro d hd
  refine gOk_of gmok_J11_checkIndex rfl (Nat.le_of_ble_eq_true rfl) (L := [some _, some _, some _]) rfl ?_
  refine G_iload_0 (pc := 0) dJ11_checkIndex_0 ?_
  refine G_if_lt (pc := 1) 9 dJ11_checkIndex_1 (by decide) (by omega) (fun c1 => ?_) (fun c1 => ?_)
  · exact absurd c1 (by omega)
  · skip
    refine G_iload_0 (pc := 4) dJ11_checkIndex_4 ?_
    refine G_iload_1 (pc := 5) dJ11_checkIndex_5 ?_
    refine G_icmp_lt (pc := 6) 16 dJ11_checkIndex_6 (by decide) (by omega) (by omega) (fun c6 => ?_) (fun c6 => ?_)
    · skip
      refine G_iload_0 (pc := 16) dJ11_checkIndex_16 ?_
      refine G_ireturn (pc := 17) dJ11_checkIndex_17 rfl rfl (by omega) (by omega) ?_
      exact ⟨_, rfl, _, rfl, rfl, rfl⟩
    · exact absurd c6 (by omega)
theorem pu_J10_checkIndex {i n : Int} (hi : 0 ≤ i ∧ i < n) (hn : n ≤ 2147483647) : gPu E l gJ10_checkIndex 2 [vI i, vI n] h (vI i) := by
  intro d hd
  refine gOk_of gmok_J10_checkIndex rfl (Nat.le_of_ble_eq_true rfl) (L := [some _, some _]) rfl ?_
  refine G_iload_0 (pc := 0) dJ10_checkIndex_0 ?_
  refine G_iload_1 (pc := 1) dJ10_checkIndex_1 ?_
  refine G_aconst_null (pc := 2) dJ10_checkIndex_2 ?_
  refine G_pS3 (pc := 3) dJ10_checkIndex_3 rfl rfl (pu_J11_checkIndex hi hn) (by omega) (by omega) (by omega) (Nat.le_of_ble_eq_true rfl) ?_
  refine G_ireturn (pc := 6) dJ10_checkIndex_6 rfl rfl (by omega) (by omega) ?_
  exact ⟨_, rfl, _, rfl, rfl, rfl⟩
theorem pu_J2_elementData (r : lR E ow h a xs e cap) {i : Nat} {x : Nat} (hx : xs[i]? = some x) : gPu E l gJ2_elementData 1 [.ref a, vI i] h (.ref x) := by
  intro d hd
  have hl := lR_cap r
  have hlen := r.2.2.2.2.2.2.1
  have hi : i < xs.length := (List.getElem?_eq_some_iff.mp hx).1
  refine gOk_of gmok_J2_elementData rfl (Nat.le_of_ble_eq_true rfl) (L := [some _, some _]) rfl ?_
  refine G_aload_0 (pc := 0) dJ2_elementData_0 ?_
  refine G_get (pc := 1) dJ2_elementData_1 rfl r.1.1 r.2.2.1 ?_
  refine G_iload_1 (pc := 4) dJ2_elementData_4 ?_
  refine G_aald (pc := 5) (v := .ref x) dJ2_elementData_5 (by rw [r.2.2.2.2.1.1]; decide) (by rw [r.2.2.2.2.1.2]; omega) (by rw [r.2.2.2.2.1.2]; omega) (r.2.2.2.2.2.2.2.1 i x hx) ?_
  refine G_areturn (pc := 6) dJ2_elementData_6 rfl (Or.inl ⟨_, rfl⟩) (Or.inr ⟨_, rfl⟩) (Nat.zero_le _) (Nat.zero_le _) ?_
  exact ⟨_, rfl, _, rfl, rfl, rfl⟩
theorem pu_J2_get (r : lR E ow h a xs e cap) {i : Nat} {x : Nat} (hx : xs[i]? = some x) : gPu E l gJ2_get 3 [.ref a, vI i] h (.ref x) := by
  intro d hd
  have hl := lR_cap r
  have hlen := r.2.2.2.2.2.2.1
  have hi : i < xs.length := (List.getElem?_eq_some_iff.mp hx).1
  refine gOk_of gmok_J2_get rfl (Nat.le_of_ble_eq_true rfl) (L := [some _, some _]) rfl ?_
  refine G_iload_1 (pc := 0) dJ2_get_0 ?_
  refine G_aload_0 (pc := 1) dJ2_get_1 ?_
  refine G_get (pc := 2) dJ2_get_2 rfl r.1.1 r.2.2.2.1 ?_
  refine G_pS2 (pc := 5) dJ2_get_5 rfl rfl (pu_J10_checkIndex (by omega) (by omega)) (by omega) (by omega) (by omega) (Nat.le_of_ble_eq_true rfl) ?_
  refine G_pop (pc := 8) dJ2_get_8 rfl ?_
  refine G_aload_0 (pc := 9) dJ2_get_9 ?_
  refine G_iload_1 (pc := 10) dJ2_get_10 ?_
  refine G_pV1 (pc := 11) dJ2_get_11 rfl r.1.1 (by decide) rfl (pu_J2_elementData r hx) (by omega) (by omega) (by omega) (Nat.le_of_ble_eq_true rfl) ?_
  refine G_areturn (pc := 14) dJ2_get_14 rfl (Or.inl ⟨_, rfl⟩) (Or.inr ⟨_, rfl⟩) (Nat.zero_le _) (Nat.zero_le _) ?_
  exact ⟨_, rfl, _, rfl, rfl, rfl⟩
theorem pu_J12_newLength {c p : Int} (hc : 1 ≤ c ∧ c ≤ 1000) (hp : 1 ≤ p ∧ p ≤ 1000) : gPu E l gJ12_newLength 2 [vI c, vI 1, vI p] h (vI (c + p)) := by
  intro d hd
  refine gOk_of gmok_J12_newLength rfl (Nat.le_of_ble_eq_true rfl) (L := [some _, some _, some _, none]) rfl ?_
  refine G_iload_0 (pc := 0) dJ12_newLength_0 ?_
  refine G_iload_1 (pc := 1) dJ12_newLength_1 ?_
  refine G_iload_2 (pc := 2) dJ12_newLength_2 ?_
  refine G_pS2 (pc := 3) dJ12_newLength_3 rfl rfl (pu_J9_max (by omega) (by omega)) (by omega) (by omega) (by omega) (Nat.le_of_ble_eq_true rfl) ?_
  rw [show mxI 1 p = p by unfold mxI; split <;> omega]
  refine G_iadd (pc := 6) dJ12_newLength_6 ?_
  refine G_istore_3 (pc := 7) dJ12_newLength_7 (by decide) rfl ?_
  refine G_iconst (pc := 8) dJ12_newLength_8 ?_
  refine G_iload_3 (pc := 9) dJ12_newLength_9 ?_
  refine G_icmp_ge (pc := 10) 21 dJ12_newLength_10 (by decide) (by omega) (by omega) (fun q => absurd q (by omega)) (fun _ => ?_)
  refine G_iload_3 (pc := 13) dJ12_newLength_13 ?_
  refine G_ldcI (pc := 14) (x := 2147483639) dJ12_newLength_14 q264 ?_
  refine G_icmp_gt (pc := 16) 21 dJ12_newLength_16 (by decide) (by omega) (by omega) (fun q => absurd q (by omega)) (fun _ => ?_)
  refine G_iload_3 (pc := 19) dJ12_newLength_19 ?_
  refine G_ireturn (pc := 20) dJ12_newLength_20 rfl rfl (Nat.zero_le _) (Nat.zero_le _) ?_
  exact ⟨_, rfl, _, rfl, rfl, rfl⟩
end LIST
