set_option maxRecDepth 100000
theorem gPush_self (h : gH) (q : gE) : (gPush h q).2 h.1 = q := by simp [gPush, va_up]
theorem gPush_ne (h : gH) {b : Nat} (q : gE) (e : b ≠ h.1) : (gPush h q).2 b = h.2 b := by simp [gPush, va_up, e]
theorem gPush_sz (h : gH) (q : gE) : (gPush h q).1 = h.1 + 1 := rfl
section LIST2
variable {E : gV} {l : Launch} {h : gH} {ow : Nat → Nat} {a : Nat} {xs : List Nat} {e cap : Nat}
/-- a longer array with the same beginning -/
def cpQ (h : gH) (e cap n : Nat) (x : Value) (h' : gH) : Prop := x = .ref h.1 ∧ h'.1 = h.1 + 1 ∧ (∀ b, b < h.1 → h'.2 b = h.2 b) ∧ ((h'.2 h.1).1 = 33 ∧ (h'.2 h.1).2.1 = n) ∧ ∀ i, i < cap → (h'.2 h.1).2.2 i = (h.2 e).2.2 i
theorem ok_J13_copyOf_2 {n : Nat} (hB : gBase E ≤ h.1) (h1 : (h.2 e).1 = 33) (h2 : (h.2 e).2.1 = cap) (h3 : e < h.1) (hn : cap ≤ n ∧ n ≤ 1000) (hf : ∀ i, i < cap → ∃ b, (h.2 e).2.2 i = .ref b ∧ b < h.1 ∧ gFitA 33 (h.2 b).1 = true) {d : Nat} (hd : 2 ≤ d) :
    gOk E l gJ13_copyOf_2 d 1 n [.ref e, vI n, .ref (E.2.2.2.2 1)] h (gRv (cpQ h e cap n)) := by
  refine gOk_of gmok_J13_copyOf_2 rfl (Nat.le_of_ble_eq_true rfl) (L := [some _, some _, some _, none]) rfl ?_
  refine G_aload_2 (pc := 0) dJ13_copyOf_2_0 ?_
  refine G_ldcM (pc := 1) dJ13_copyOf_2_1 rfl ?_
  refine G_acmp_ne (pc := 3) 13 dJ13_copyOf_2_3 (by decide) (fun q => absurd rfl q) (fun _ => ?_)
  refine G_iload_1 (pc := 6) dJ13_copyOf_2_6 ?_
  refine G_anew (pc := 7) (ak := 3) dJ13_copyOf_2_7 rfl (by omega) (by omega) (by omega) ?_
  rw [Int.toNat_natCast]
  obtain ⟨h0, eh⟩ : ∃ h0, h0 = gPush h (3 + 30, n, fun _ => Value.null) := ⟨_, rfl⟩
  have e1 : h0.2 h.1 = (33, n, fun _ => Value.null) := by rw [eh, gPush_self]
  have e2 : ∀ b, b < h.1 → h0.2 b = h.2 b := fun b hb => by rw [eh, gPush_ne _ _ (by omega)]
  rw [← eh]
  refine G_goto (pc := 10) 24 dJ13_copyOf_2_10 (by decide) ?_
  refine G_astore_3 (pc := 24) dJ13_copyOf_2_24 (by decide) rfl ?_
  refine G_aload_0 (pc := 25) dJ13_copyOf_2_25 ?_
  refine G_iconst (pc := 26) dJ13_copyOf_2_26 ?_
  refine G_aload_3 (pc := 27) dJ13_copyOf_2_27 ?_
  refine G_iconst (pc := 28) dJ13_copyOf_2_28 ?_
  refine G_aload_0 (pc := 29) dJ13_copyOf_2_29 ?_
  refine G_alen (pc := 30) dJ13_copyOf_2_30 (by rw [e2 e h3, h1]; decide) ?_
  rw [e2 e h3, h2]
  refine G_iload_1 (pc := 31) dJ13_copyOf_2_31 ?_
  refine G_pS2 (pc := 32) dJ13_copyOf_2_32 rfl rfl (pu_J9_min (by omega) (by omega)) (by omega) (by omega) (by omega) (Nat.le_of_ble_eq_true rfl) ?_
  rw [show mnI (cap : Int) (n : Int) = cap by unfold mnI; split <;> omega]
  refine G_copy (pc := 35) dJ13_copyOf_2_35 q298 (by rw [e2 e h3]; exact h1) (by rw [e1]) hB (by rw [e2 e h3, e1, h2]; simp only []; omega) (by rw [e2 e h3, e1, h2]; simp only []; omega) (fun i hi => ?_) (by omega) (Nat.le_of_ble_eq_true rfl) ?_
  · obtain ⟨b, b1, b2, b3⟩ := hf i (by omega)
    refine Or.inr ⟨b, ?_, by rw [e2 b b2]; exact b3⟩
    rw [e2 e h3, show (0 : Int).toNat + i = i by simp]
    exact b1
  · refine G_aload_3 (pc := 38) dJ13_copyOf_2_38 ?_
    refine G_areturn (pc := 39) dJ13_copyOf_2_39 rfl (Or.inr ⟨_, rfl⟩) (Or.inr ⟨_, rfl⟩) (by omega) (by omega) ?_
    refine ⟨_, rfl, _, rfl, rfl, by rw [gSet_sz, eh, gPush_sz], fun b hb => by rw [gSet_ne _ _ (by omega), e2 b hb], ⟨by rw [gSet_self, e1], by rw [gSet_self, e1]⟩, fun i hi => ?_⟩
    rw [gSet_self, e2 e h3]
    simp only [cpV, Int.toNat_natCast, Int.toNat_zero]
    rw [if_pos (by omega)]
    rw [Nat.zero_add, Nat.sub_zero]
theorem ok_J13_copyOf {n : Nat} (hB : gBase E ≤ h.1) (h1 : (h.2 e).1 = 33) (h2 : (h.2 e).2.1 = cap) (h3 : e < h.1) (hn : cap ≤ n ∧ n ≤ 1000) (hf : ∀ i, i < cap → ∃ b, (h.2 e).2.2 i = .ref b ∧ b < h.1 ∧ gFitA 33 (h.2 b).1 = true) {d : Nat} (hd : 3 ≤ d) :
    gOk E l gJ13_copyOf d 1 n [.ref e, vI n] h (gRv (cpQ h e cap n)) := by
  refine gOk_of gmok_J13_copyOf rfl (Nat.le_of_ble_eq_true rfl) (L := [some _, some _]) rfl ?_
  refine G_aload_0 (pc := 0) dJ13_copyOf_0 ?_
  refine G_iload_1 (pc := 1) dJ13_copyOf_1 ?_
  refine G_aload_0 (pc := 2) dJ13_copyOf_2 ?_
  refine G_getC (pc := 3) dJ13_copyOf_3 rfl h1 (by omega) (Nat.le_of_ble_eq_true rfl) ?_
  refine G_callS3v (pc := 6) (d' := 2) dJ13_copyOf_6 rfl rfl (ok_J13_copyOf_2 hB h1 h2 h3 hn hf (Nat.le_refl _)) (by omega) (by omega) (by omega) (Nat.le_of_ble_eq_true rfl) (fun x h' q => ?_)
  obtain ⟨rfl, q⟩ := q
  refine G_areturn (pc := 9) dJ13_copyOf_9 rfl (Or.inr ⟨_, rfl⟩) (Or.inr ⟨_, rfl⟩) (by omega) (by omega) ?_
  exact ⟨_, rfl, _, rfl, rfl, q⟩
/-- the array grown -/
def upN (f : Nat → Nat) (k x : Nat) : Nat → Nat := fun i => if i = k then x else f i
def grQ (E : gV) (ow : Nat → Nat) (h : gH) (a : Nat) (xs : List Nat) (cap : Nat) (x : Value) (h' : gH) : Prop := x = .ref h.1 ∧ lR E (upN ow h.1 a) h' a xs h.1 (ncap cap) ∧ h'.1 = h.1 + 1 ∧ ∀ b, b < h.1 → b ≠ a → h'.2 b = h.2 b
theorem grQ_of (r : lR E ow h a xs e cap) (hc : cap < 163) (hB : gBase E ≤ h.1) {h1 : gH} (s1 : h1.1 = h.1 + 1) (s2 : ∀ b, b < h.1 → h1.2 b = h.2 b) (s3 : (h1.2 h.1).1 = 33 ∧ (h1.2 h.1).2.1 = ncap cap) (s4 : ∀ i x, xs[i]? = some x → (h1.2 h.1).2.2 i = .ref x) : grQ E ow h a xs cap (.ref h.1) (gSet h1 a ((h1.2 a).1, (h1.2 a).2.1, updV (h1.2 a).2.2 1 (.ref h.1))) := by
  have he := lR_e r
  obtain ⟨⟨r1, r2, r3⟩, ⟨m, r4⟩, r5, r6, ⟨r7, r8⟩, r9, r10, r11, r12⟩ := r
  have hne : h.1 ≠ a := by omega
  refine ⟨rfl, ⟨⟨by rw [gSet_self, s2 a r3]; exact r1, r2, by rw [gSet_sz, s1]; omega⟩, ⟨m, by rw [gSet_self, s2 a r3]; simp [updV, r4]⟩, by rw [gSet_self]; simp [updV], by rw [gSet_self, s2 a r3]; simp [updV, r6], ⟨by rw [gSet_ne _ _ hne]; exact s3.1, by rw [gSet_ne _ _ hne]; exact s3.2⟩, Or.inr ⟨hB, by rw [gSet_sz, s1]; omega, by simp [upN], ?_⟩, ?_, fun i x hi => by rw [gSet_ne _ _ hne]; exact s4 i x hi, fun x hx => ?_⟩, by rw [gSet_sz, s1], fun b hb hb2 => by rw [gSet_ne _ _ hb2, s2 b hb]⟩
  · rcases r9 with q | q
    · rw [q.2.2]; exact Or.inl rfl
    · exact tCap_n q.2.2.2 hc
  · have : cap ≤ ncap cap := by unfold ncap; split <;> omega
    omega
  · have := r12 x hx
    rw [gSet_sz, s1, gSet_ne _ _ (fun q => by subst q; exact (fit_33 this.2).1 r1), s2 x this.1]
    exact ⟨by omega, this.2⟩
theorem shr_cap {n : Nat} (h : tCap n) : Int32.ofInt (n : Int) >>> (Int32.ofInt 1 &&& 31) = Int32.ofInt ((n / 2 : Nat) : Int) := by
  unfold tCap at h
  rcases h with rfl | rfl | rfl | rfl | rfl | rfl | rfl | rfl <;> decide
theorem ok_J2_grow_2 (r : lR E ow h a xs e cap) (hfull : xs.length = cap) (hc : cap < 163) (hB : gBase E ≤ h.1) {d : Nat} (hd : 4 ≤ d) :
    gOk E l gJ2_grow_2 d 1 (ncap cap) [.ref a, vI ((cap : Int) + 1)] h (gRv (grQ E ow h a xs cap)) := by
  refine gOk_of gmok_J2_grow_2 rfl (Nat.le_of_ble_eq_true rfl) (L := [some _, some _, none, none]) rfl ?_
  have r0 := r
  obtain ⟨⟨r1, r2, r3⟩, ⟨m, r4⟩, r5, r6, ⟨r7, r8⟩, r9, r10, r11, r12⟩ := r
  refine G_aload_0 (pc := 0) dJ2_grow_2_0 ?_
  refine G_get (pc := 1) dJ2_grow_2_1 rfl r1 r5 ?_
  refine G_alen (pc := 4) dJ2_grow_2_4 (by rw [r7]; decide) ?_
  rw [r8]
  refine G_istore_2 (pc := 5) dJ2_grow_2_5 (by decide) rfl ?_
  refine G_iload_2 (pc := 6) dJ2_grow_2_6 ?_
  rcases r9 with ⟨q1, q2, q3⟩ | ⟨q1, q2, q3, q4⟩
  · have hx : xs = [] := List.length_eq_zero_iff.mp (by omega)
    refine G_if_gt (pc := 7) 20 dJ2_grow_2_7 (by decide) (by omega) (fun q => absurd q (by omega)) (fun _ => ?_)
    refine G_aload_0 (pc := 10) dJ2_grow_2_10 ?_
    refine G_get (pc := 11) dJ2_grow_2_11 rfl r1 r5 ?_
    refine G_getEmpty (pc := 14) dJ2_grow_2_14 rfl ?_
    refine G_acmp_eq (pc := 17) 45 dJ2_grow_2_17 (by decide) (fun _ => ?_) (fun q => absurd q1 q)
    refine G_aload_0 (pc := 45) dJ2_grow_2_45 ?_
    refine G_bipush (pc := 46) dJ2_grow_2_46 (by omega) ?_
    refine G_iload_1 (pc := 48) dJ2_grow_2_48 ?_
    refine G_pS2 (pc := 49) dJ2_grow_2_49 rfl rfl (pu_J9_max (by omega) (by omega)) (by omega) (by omega) (by omega) (Nat.le_of_ble_eq_true rfl) ?_
    have en : ncap cap = 10 := by unfold ncap; rw [if_pos q3]
    rw [show mxI 10 ((cap : Int) + 1) = (10 : Nat) by unfold mxI; rw [if_neg (by omega)]; rfl]
    refine G_anew (pc := 52) (ak := 3) dJ2_grow_2_52 rfl (by omega) (by omega) (by rw [Int.toNat_natCast]; omega) ?_
    rw [Int.toNat_natCast]
    refine G_dup_x1 (pc := 55) dJ2_grow_2_55 rfl rfl ?_
    refine G_put (pc := 56) dJ2_grow_2_56 rfl (by rw [gPush_ne _ _ (by omega)]; exact r1) r2 rfl rfl rfl ?_
    refine G_areturn (pc := 59) dJ2_grow_2_59 rfl (Or.inr ⟨_, rfl⟩) (Or.inr ⟨_, rfl⟩) (by omega) (by omega) ?_
    exact ⟨_, rfl, _, rfl, grQ_of r0 hc hB rfl (fun b hb => gPush_ne _ _ (by omega)) ⟨by rw [gPush_self], by rw [gPush_self, en]⟩ (fun i x hi => by rw [hx] at hi; simp at hi)⟩
  · have hb := tCap_b q4
    have en : ncap cap = cap + cap / 2 := by unfold ncap; rw [if_neg (by omega)]
    refine G_if_gt (pc := 7) 20 dJ2_grow_2_7 (by decide) (by omega) (fun _ => ?_) (fun q => absurd q (by omega))
    refine G_iload_2 (pc := 20) dJ2_grow_2_20 ?_
    refine G_iload_1 (pc := 21) dJ2_grow_2_21 ?_
    refine G_iload_2 (pc := 22) dJ2_grow_2_22 ?_
    refine G_isub (pc := 23) dJ2_grow_2_23 ?_
    rw [show (cap : Int) + 1 - cap = 1 by omega]
    refine G_iload_2 (pc := 24) dJ2_grow_2_24 ?_
    refine G_iconst (pc := 25) dJ2_grow_2_25 ?_
    refine G_ishrR (pc := 26) dJ2_grow_2_26 ?_
    rw [shr_cap q4]
    refine G_pS3 (pc := 27) dJ2_grow_2_27 rfl rfl (pu_J12_newLength (p := ((cap / 2 : Nat) : Int)) (by omega) (by omega)) (by omega) (by omega) (by omega) (Nat.le_of_ble_eq_true rfl) ?_
    rw [show (cap : Int) + ((cap / 2 : Nat) : Int) = ((ncap cap : Nat) : Int) by omega]
    refine G_istore_3 (pc := 30) dJ2_grow_2_30 (by decide) rfl ?_
    refine G_aload_0 (pc := 31) dJ2_grow_2_31 ?_
    refine G_aload_0 (pc := 32) dJ2_grow_2_32 ?_
    refine G_get (pc := 33) dJ2_grow_2_33 rfl r1 r5 ?_
    refine G_iload_3 (pc := 36) dJ2_grow_2_36 ?_
    refine G_callS2v (pc := 37) (d' := 3) dJ2_grow_2_37 rfl rfl (ok_J13_copyOf (cap := cap) hB r7 r8 q2 (by omega) (fun i hi => ?_) (Nat.le_refl _)) (by omega) (by omega) (by omega) (Nat.le_of_ble_eq_true rfl) (fun x h' q => ?_)
    · have hxi : xs[i]? = some xs[i] := List.getElem?_eq_getElem (by omega)
      have := r12 xs[i] (List.getElem_mem _)
      exact ⟨xs[i], r11 i _ hxi, this.1, this.2⟩
    obtain ⟨rfl, s1, s2, s3, s4⟩ := q
    refine G_dup_x1 (pc := 40) dJ2_grow_2_40 rfl rfl ?_
    refine G_put (pc := 41) dJ2_grow_2_41 rfl (by rw [s2 a r3]; exact r1) r2 rfl rfl rfl ?_
    refine G_areturn (pc := 44) dJ2_grow_2_44 rfl (Or.inr ⟨_, rfl⟩) (Or.inr ⟨_, rfl⟩) (by omega) (by omega) ?_
    refine ⟨_, rfl, _, rfl, grQ_of r0 hc hB s1 s2 s3 (fun i x hi => ?_)⟩
    have : i < xs.length := (List.getElem?_eq_some_iff.mp hi).1
    rw [s4 i (by omega)]
    exact r11 i x hi
theorem ok_J2_grow (r : lR E ow h a xs e cap) (hfull : xs.length = cap) (hc : cap < 163) (hB : gBase E ≤ h.1) {d : Nat} (hd : 5 ≤ d) :
    gOk E l gJ2_grow d 1 (ncap cap) [.ref a] h (gRv (grQ E ow h a xs cap)) := by
  refine gOk_of gmok_J2_grow rfl (Nat.le_of_ble_eq_true rfl) (L := [some _]) rfl ?_
  refine G_aload_0 (pc := 0) dJ2_grow_0 ?_
  refine G_aload_0 (pc := 1) dJ2_grow_1 ?_
  refine G_get (pc := 2) dJ2_grow_2 rfl r.1.1 r.2.2.2.1 ?_
  refine G_iconst (pc := 5) dJ2_grow_5 ?_
  refine G_iadd (pc := 6) dJ2_grow_6 ?_
  rw [hfull]
  refine G_callV1v (pc := 7) (d' := 4) dJ2_grow_7 rfl r.1.1 (by decide) rfl (ok_J2_grow_2 r hfull hc hB (Nat.le_refl _)) (by omega) (by omega) (by omega) (Nat.le_of_ble_eq_true rfl) (fun x h' q => ?_)
  obtain ⟨rfl, q⟩ := q
  refine G_areturn (pc := 10) dJ2_grow_10 rfl (Or.inr ⟨_, rfl⟩) (Or.inr ⟨_, rfl⟩) (by omega) (by omega) ?_
  exact ⟨_, rfl, _, rfl, rfl, q⟩
end LIST2
