set_option maxRecDepth 100000
/-- the reference's object, n of its arrays made -/
def zMi (E : gV) (h0 h : gH) (n : Nat) : Prop := h.1 = gBase E + 13 + n ∧ (h.2 (gBase E + 12)).1 = 2 ∧ (∀ f, mIsS f = true → (h.2 (gBase E + 12)).2.2 f = vI 0) ∧ (∀ f, mIsA f = true → mAd f < 13 + n → (h.2 (gBase E + 12)).2.2 f = .ref (gBase E + mAd f) ∧ (h.2 (gBase E + mAd f)).1 = mKd f ∧ (h.2 (gBase E + mAd f)).2.1 = mLn f ∧ ∀ i, (h.2 (gBase E + mAd f)).2.2 i = mVal f 0) ∧ ∀ b, b < gBase E + 12 → h.2 b = h0.2 b
theorem zMi_go {E : gV} {h0 h : gH} {n f : Nat} (z : zMi E h0 h n) (hA : mIsA f = true) (ha : mAd f = 13 + n) {q : gE} (q1 : q.1 = mKd f) (q2 : q.2.1 = mLn f) (q3 : ∀ i, q.2.2 i = mVal f 0) : zMi E h0 (gSet (gPush h q) (gBase E + 12) (((gPush h q).2 (gBase E + 12)).1, ((gPush h q).2 (gBase E + 12)).2.1, updV ((gPush h q).2 (gBase E + 12)).2.2 f (.ref h.1))) (n + 1) := by
  obtain ⟨z1, z2, z3, z4, z5⟩ := z
  have e12 : (gPush h q).2 (gBase E + 12) = h.2 (gBase E + 12) := gPush_ne _ _ (by omega)
  refine ⟨by rw [gSet_sz, gPush_sz, z1]; omega, by rw [gSet_self, e12]; exact z2, fun g hg => ?_, fun g hg hlt => ?_, fun b hb => by rw [gSet_ne _ _ (by omega), gPush_ne _ _ (by omega)]; exact z5 b hb⟩
  · have hne : g ≠ f := by intro e; subst e; unfold mIsA at hA; split at hA <;> simp_all [mIsS]
    rw [gSet_self, e12]
    simp only [updV]
    rw [if_neg hne]
    exact z3 g hg
  · have hgl := mAd_lt hg
    rw [gSet_self, gSet_ne _ _ (show gBase E + mAd g ≠ gBase E + 12 by omega), e12]
    simp only [updV]
    by_cases e : g = f
    · subst e
      have eh : gBase E + mAd g = h.1 := by omega
      rw [if_pos rfl, eh, gPush_self]
      exact ⟨rfl, q1, q2, q3⟩
    · have hna : mAd g ≠ mAd f := fun x => e (mAd_inj hg hA x)
      rw [if_neg e, gPush_ne _ _ (by omega)]
      exact z4 g hg (by omega)
def mS0 : mS := (fun _ => 0, fun _ _ => 0)
theorem zMi_end {E : gV} {h0 h : gH} (z : zMi E h0 h 11) : zMo E h mS0 := by
  obtain ⟨z1, z2, z3, z4, z5⟩ := z
  refine ⟨z2, fun f hf => ⟨z3 f hf, ?_⟩, fun f hf => ?_⟩
  · show mRg f 0
    unfold mRg; split
    · omega
    · split
      · exact Or.inl rfl
      · omega
  · have hl := mAd_lt hf
    obtain ⟨k1, k2, k3, k4⟩ := z4 f hf (by omega)
    refine ⟨k1, k2, k3, fun i _ => ⟨k4 i, ?_⟩⟩
    show mRg f 0
    unfold mRg; split
    · omega
    · split
      · exact Or.inl rfl
      · omega
section MINIT
variable {E : gV} {l : Launch} {h : gH}
theorem ok_X2_init (z : zMi E h h 0) {d : Nat} (hd : 2 ≤ d) : gOk E l gX2_init d 11 1264 [.ref (gBase E + 12)] h (gRu (fun h' => zMo E h' mS0 ∧ h'.1 = gBase E + 24 ∧ ∀ b, b < gBase E + 12 → h'.2 b = h.2 b)) := by
  refine gOk_of gmok_X2_init rfl (Nat.le_of_ble_eq_true rfl) (L := [some _]) rfl ?_
  obtain ⟨Q, hQ⟩ : ∃ Q, Q = gRet (gRu (fun h' => zMo E h' mS0 ∧ h'.1 = gBase E + 24 ∧ ∀ b, b < gBase E + 12 → h'.2 b = h.2 b)) := ⟨_, rfl⟩
  rw [← hQ]
  refine G_aload_0 (pc := 0) dX2_init_0 ?_
  refine G_objInit (pc := 1) dX2_init_1 (by decide) (by omega) (Nat.le_of_ble_eq_true rfl) ?_
  obtain ⟨h1, eh1⟩ : ∃ h1, h1 = h := ⟨_, rfl⟩
  have z0 : zMi E h h1 0 := by rw [eh1]; exact z
  rw [← eh1]
  refine G_aload_0 (pc := 4) dX2_init_4 ?_
  refine G_bipush (pc := 5) dX2_init_5 (by omega) ?_
  refine G_newa (pc := 7) (ak := 0) dX2_init_7 rfl (by omega) (by omega) (Nat.le_of_ble_eq_true rfl) ?_
  refine G_putF (pc := 9) dX2_init_9 rfl (by rw [gPush_ne _ _ (by have := z0.1; omega)]; exact z0.2.1) (by omega) rfl rfl rfl rfl (by omega) ?_
  have z1 := zMi_go z0 (f := 1) (q := (0 + 30, (60 : Int).toNat, fun _ => defaultValue (newarray.typeOf .boolean))) rfl rfl rfl rfl (fun _ => rfl)
  obtain ⟨h2, eh2⟩ : ∃ x, x = gSet (gPush h1 (0 + 30, (60 : Int).toNat, fun _ => defaultValue (newarray.typeOf .boolean))) (gBase E + 12) (((gPush h1 (0 + 30, (60 : Int).toNat, fun _ => defaultValue (newarray.typeOf .boolean))).2 (gBase E + 12)).1, ((gPush h1 (0 + 30, (60 : Int).toNat, fun _ => defaultValue (newarray.typeOf .boolean))).2 (gBase E + 12)).2.1, updV ((gPush h1 (0 + 30, (60 : Int).toNat, fun _ => defaultValue (newarray.typeOf .boolean))).2 (gBase E + 12)).2.2 1 (.ref h1.1)) := ⟨_, rfl⟩
  rw [← eh2] at z1 ⊢
  refine G_aload_0 (pc := 12) dX2_init_12 ?_
  refine G_bipush (pc := 13) dX2_init_13 (by omega) ?_
  refine G_newa (pc := 15) (ak := 1) dX2_init_15 rfl (by omega) (by omega) (Nat.le_of_ble_eq_true rfl) ?_
  refine G_putF (pc := 17) dX2_init_17 rfl (by rw [gPush_ne _ _ (by have := z1.1; omega)]; exact z1.2.1) (by omega) rfl rfl rfl rfl (by omega) ?_
  have z2 := zMi_go z1 (f := 2) (q := (1 + 30, (120 : Int).toNat, fun _ => defaultValue (newarray.typeOf .int))) rfl rfl rfl rfl (fun _ => rfl)
  obtain ⟨h3, eh3⟩ : ∃ x, x = gSet (gPush h2 (1 + 30, (120 : Int).toNat, fun _ => defaultValue (newarray.typeOf .int))) (gBase E + 12) (((gPush h2 (1 + 30, (120 : Int).toNat, fun _ => defaultValue (newarray.typeOf .int))).2 (gBase E + 12)).1, ((gPush h2 (1 + 30, (120 : Int).toNat, fun _ => defaultValue (newarray.typeOf .int))).2 (gBase E + 12)).2.1, updV ((gPush h2 (1 + 30, (120 : Int).toNat, fun _ => defaultValue (newarray.typeOf .int))).2 (gBase E + 12)).2.2 2 (.ref h2.1)) := ⟨_, rfl⟩
  rw [← eh3] at z2 ⊢
  refine G_aload_0 (pc := 20) dX2_init_20 ?_
  refine G_bipush (pc := 21) dX2_init_21 (by omega) ?_
  refine G_newa (pc := 23) (ak := 1) dX2_init_23 rfl (by omega) (by omega) (Nat.le_of_ble_eq_true rfl) ?_
  refine G_putF (pc := 25) dX2_init_25 rfl (by rw [gPush_ne _ _ (by have := z2.1; omega)]; exact z2.2.1) (by omega) rfl rfl rfl rfl (by omega) ?_
  have z3 := zMi_go z2 (f := 3) (q := (1 + 30, (120 : Int).toNat, fun _ => defaultValue (newarray.typeOf .int))) rfl rfl rfl rfl (fun _ => rfl)
  obtain ⟨h4, eh4⟩ : ∃ x, x = gSet (gPush h3 (1 + 30, (120 : Int).toNat, fun _ => defaultValue (newarray.typeOf .int))) (gBase E + 12) (((gPush h3 (1 + 30, (120 : Int).toNat, fun _ => defaultValue (newarray.typeOf .int))).2 (gBase E + 12)).1, ((gPush h3 (1 + 30, (120 : Int).toNat, fun _ => defaultValue (newarray.typeOf .int))).2 (gBase E + 12)).2.1, updV ((gPush h3 (1 + 30, (120 : Int).toNat, fun _ => defaultValue (newarray.typeOf .int))).2 (gBase E + 12)).2.2 3 (.ref h3.1)) := ⟨_, rfl⟩
  rw [← eh4] at z3 ⊢
  refine G_aload_0 (pc := 28) dX2_init_28 ?_
  refine G_bipush (pc := 29) dX2_init_29 (by omega) ?_
  refine G_newa (pc := 31) (ak := 1) dX2_init_31 rfl (by omega) (by omega) (Nat.le_of_ble_eq_true rfl) ?_
  refine G_putF (pc := 33) dX2_init_33 rfl (by rw [gPush_ne _ _ (by have := z3.1; omega)]; exact z3.2.1) (by omega) rfl rfl rfl rfl (by omega) ?_
  have z4 := zMi_go z3 (f := 5) (q := (1 + 30, (120 : Int).toNat, fun _ => defaultValue (newarray.typeOf .int))) rfl rfl rfl rfl (fun _ => rfl)
  obtain ⟨h5, eh5⟩ : ∃ x, x = gSet (gPush h4 (1 + 30, (120 : Int).toNat, fun _ => defaultValue (newarray.typeOf .int))) (gBase E + 12) (((gPush h4 (1 + 30, (120 : Int).toNat, fun _ => defaultValue (newarray.typeOf .int))).2 (gBase E + 12)).1, ((gPush h4 (1 + 30, (120 : Int).toNat, fun _ => defaultValue (newarray.typeOf .int))).2 (gBase E + 12)).2.1, updV ((gPush h4 (1 + 30, (120 : Int).toNat, fun _ => defaultValue (newarray.typeOf .int))).2 (gBase E + 12)).2.2 5 (.ref h4.1)) := ⟨_, rfl⟩
  rw [← eh5] at z4 ⊢
  refine G_aload_0 (pc := 36) dX2_init_36 ?_
  refine G_bipush (pc := 37) dX2_init_37 (by omega) ?_
  refine G_newa (pc := 39) (ak := 1) dX2_init_39 rfl (by omega) (by omega) (Nat.le_of_ble_eq_true rfl) ?_
  refine G_putF (pc := 41) dX2_init_41 rfl (by rw [gPush_ne _ _ (by have := z4.1; omega)]; exact z4.2.1) (by omega) rfl rfl rfl rfl (by omega) ?_
  have z5 := zMi_go z4 (f := 6) (q := (1 + 30, (120 : Int).toNat, fun _ => defaultValue (newarray.typeOf .int))) rfl rfl rfl rfl (fun _ => rfl)
  obtain ⟨h6, eh6⟩ : ∃ x, x = gSet (gPush h5 (1 + 30, (120 : Int).toNat, fun _ => defaultValue (newarray.typeOf .int))) (gBase E + 12) (((gPush h5 (1 + 30, (120 : Int).toNat, fun _ => defaultValue (newarray.typeOf .int))).2 (gBase E + 12)).1, ((gPush h5 (1 + 30, (120 : Int).toNat, fun _ => defaultValue (newarray.typeOf .int))).2 (gBase E + 12)).2.1, updV ((gPush h5 (1 + 30, (120 : Int).toNat, fun _ => defaultValue (newarray.typeOf .int))).2 (gBase E + 12)).2.2 6 (.ref h5.1)) := ⟨_, rfl⟩
  rw [← eh6] at z5 ⊢
  refine G_aload_0 (pc := 44) dX2_init_44 ?_
  refine G_bipush (pc := 45) dX2_init_45 (by omega) ?_
  refine G_newa (pc := 47) (ak := 1) dX2_init_47 rfl (by omega) (by omega) (Nat.le_of_ble_eq_true rfl) ?_
  refine G_putF (pc := 49) dX2_init_49 rfl (by rw [gPush_ne _ _ (by have := z5.1; omega)]; exact z5.2.1) (by omega) rfl rfl rfl rfl (by omega) ?_
  have z6 := zMi_go z5 (f := 9) (q := (1 + 30, (120 : Int).toNat, fun _ => defaultValue (newarray.typeOf .int))) rfl rfl rfl rfl (fun _ => rfl)
  obtain ⟨h7, eh7⟩ : ∃ x, x = gSet (gPush h6 (1 + 30, (120 : Int).toNat, fun _ => defaultValue (newarray.typeOf .int))) (gBase E + 12) (((gPush h6 (1 + 30, (120 : Int).toNat, fun _ => defaultValue (newarray.typeOf .int))).2 (gBase E + 12)).1, ((gPush h6 (1 + 30, (120 : Int).toNat, fun _ => defaultValue (newarray.typeOf .int))).2 (gBase E + 12)).2.1, updV ((gPush h6 (1 + 30, (120 : Int).toNat, fun _ => defaultValue (newarray.typeOf .int))).2 (gBase E + 12)).2.2 9 (.ref h6.1)) := ⟨_, rfl⟩
  rw [← eh7] at z6 ⊢
  refine G_aload_0 (pc := 52) dX2_init_52 ?_
  refine G_bipush (pc := 53) dX2_init_53 (by omega) ?_
  refine G_newa (pc := 55) (ak := 1) dX2_init_55 rfl (by omega) (by omega) (Nat.le_of_ble_eq_true rfl) ?_
  refine G_putF (pc := 57) dX2_init_57 rfl (by rw [gPush_ne _ _ (by have := z6.1; omega)]; exact z6.2.1) (by omega) rfl rfl rfl rfl (by omega) ?_
  have z7 := zMi_go z6 (f := 10) (q := (1 + 30, (120 : Int).toNat, fun _ => defaultValue (newarray.typeOf .int))) rfl rfl rfl rfl (fun _ => rfl)
  obtain ⟨h8, eh8⟩ : ∃ x, x = gSet (gPush h7 (1 + 30, (120 : Int).toNat, fun _ => defaultValue (newarray.typeOf .int))) (gBase E + 12) (((gPush h7 (1 + 30, (120 : Int).toNat, fun _ => defaultValue (newarray.typeOf .int))).2 (gBase E + 12)).1, ((gPush h7 (1 + 30, (120 : Int).toNat, fun _ => defaultValue (newarray.typeOf .int))).2 (gBase E + 12)).2.1, updV ((gPush h7 (1 + 30, (120 : Int).toNat, fun _ => defaultValue (newarray.typeOf .int))).2 (gBase E + 12)).2.2 10 (.ref h7.1)) := ⟨_, rfl⟩
  rw [← eh8] at z7 ⊢
  refine G_aload_0 (pc := 60) dX2_init_60 ?_
  refine G_bipush (pc := 61) dX2_init_61 (by omega) ?_
  refine G_newa (pc := 63) (ak := 2) dX2_init_63 rfl (by omega) (by omega) (Nat.le_of_ble_eq_true rfl) ?_
  refine G_putF (pc := 65) dX2_init_65 rfl (by rw [gPush_ne _ _ (by have := z7.1; omega)]; exact z7.2.1) (by omega) rfl rfl rfl rfl (by omega) ?_
  have z8 := zMi_go z7 (f := 11) (q := (2 + 30, (120 : Int).toNat, fun _ => defaultValue (newarray.typeOf .long))) rfl rfl rfl rfl (fun _ => rfl)
  obtain ⟨h9, eh9⟩ : ∃ x, x = gSet (gPush h8 (2 + 30, (120 : Int).toNat, fun _ => defaultValue (newarray.typeOf .long))) (gBase E + 12) (((gPush h8 (2 + 30, (120 : Int).toNat, fun _ => defaultValue (newarray.typeOf .long))).2 (gBase E + 12)).1, ((gPush h8 (2 + 30, (120 : Int).toNat, fun _ => defaultValue (newarray.typeOf .long))).2 (gBase E + 12)).2.1, updV ((gPush h8 (2 + 30, (120 : Int).toNat, fun _ => defaultValue (newarray.typeOf .long))).2 (gBase E + 12)).2.2 11 (.ref h8.1)) := ⟨_, rfl⟩
  rw [← eh9] at z8 ⊢
  refine G_aload_0 (pc := 68) dX2_init_68 ?_
  refine G_bipush (pc := 69) dX2_init_69 (by omega) ?_
  refine G_newa (pc := 71) (ak := 1) dX2_init_71 rfl (by omega) (by omega) (Nat.le_of_ble_eq_true rfl) ?_
  refine G_putF (pc := 73) dX2_init_73 rfl (by rw [gPush_ne _ _ (by have := z8.1; omega)]; exact z8.2.1) (by omega) rfl rfl rfl rfl (by omega) ?_
  have z9 := zMi_go z8 (f := 13) (q := (1 + 30, (120 : Int).toNat, fun _ => defaultValue (newarray.typeOf .int))) rfl rfl rfl rfl (fun _ => rfl)
  obtain ⟨h10, eh10⟩ : ∃ x, x = gSet (gPush h9 (1 + 30, (120 : Int).toNat, fun _ => defaultValue (newarray.typeOf .int))) (gBase E + 12) (((gPush h9 (1 + 30, (120 : Int).toNat, fun _ => defaultValue (newarray.typeOf .int))).2 (gBase E + 12)).1, ((gPush h9 (1 + 30, (120 : Int).toNat, fun _ => defaultValue (newarray.typeOf .int))).2 (gBase E + 12)).2.1, updV ((gPush h9 (1 + 30, (120 : Int).toNat, fun _ => defaultValue (newarray.typeOf .int))).2 (gBase E + 12)).2.2 13 (.ref h9.1)) := ⟨_, rfl⟩
  rw [← eh10] at z9 ⊢
  refine G_aload_0 (pc := 76) dX2_init_76 ?_
  refine G_bipush (pc := 77) dX2_init_77 (by omega) ?_
  refine G_newa (pc := 79) (ak := 1) dX2_init_79 rfl (by omega) (by omega) (Nat.le_of_ble_eq_true rfl) ?_
  refine G_putF (pc := 81) dX2_init_81 rfl (by rw [gPush_ne _ _ (by have := z9.1; omega)]; exact z9.2.1) (by omega) rfl rfl rfl rfl (by omega) ?_
  have z10 := zMi_go z9 (f := 14) (q := (1 + 30, (122 : Int).toNat, fun _ => defaultValue (newarray.typeOf .int))) rfl rfl rfl rfl (fun _ => rfl)
  obtain ⟨h11, eh11⟩ : ∃ x, x = gSet (gPush h10 (1 + 30, (122 : Int).toNat, fun _ => defaultValue (newarray.typeOf .int))) (gBase E + 12) (((gPush h10 (1 + 30, (122 : Int).toNat, fun _ => defaultValue (newarray.typeOf .int))).2 (gBase E + 12)).1, ((gPush h10 (1 + 30, (122 : Int).toNat, fun _ => defaultValue (newarray.typeOf .int))).2 (gBase E + 12)).2.1, updV ((gPush h10 (1 + 30, (122 : Int).toNat, fun _ => defaultValue (newarray.typeOf .int))).2 (gBase E + 12)).2.2 14 (.ref h10.1)) := ⟨_, rfl⟩
  rw [← eh11] at z10 ⊢
  refine G_aload_0 (pc := 84) dX2_init_84 ?_
  refine G_bipush (pc := 85) dX2_init_85 (by omega) ?_
  refine G_newa (pc := 87) (ak := 1) dX2_init_87 rfl (by omega) (by omega) (Nat.le_of_ble_eq_true rfl) ?_
  refine G_putF (pc := 89) dX2_init_89 rfl (by rw [gPush_ne _ _ (by have := z10.1; omega)]; exact z10.2.1) (by omega) rfl rfl rfl rfl (by omega) ?_
  have z11 := zMi_go z10 (f := 15) (q := (1 + 30, (122 : Int).toNat, fun _ => defaultValue (newarray.typeOf .int))) rfl rfl rfl rfl (fun _ => rfl)
  obtain ⟨h12, eh12⟩ : ∃ x, x = gSet (gPush h11 (1 + 30, (122 : Int).toNat, fun _ => defaultValue (newarray.typeOf .int))) (gBase E + 12) (((gPush h11 (1 + 30, (122 : Int).toNat, fun _ => defaultValue (newarray.typeOf .int))).2 (gBase E + 12)).1, ((gPush h11 (1 + 30, (122 : Int).toNat, fun _ => defaultValue (newarray.typeOf .int))).2 (gBase E + 12)).2.1, updV ((gPush h11 (1 + 30, (122 : Int).toNat, fun _ => defaultValue (newarray.typeOf .int))).2 (gBase E + 12)).2.2 15 (.ref h11.1)) := ⟨_, rfl⟩
  rw [← eh12] at z11 ⊢
  refine G_return (pc := 92) dX2_init_92 rfl (by omega) (Nat.le_of_ble_eq_true rfl) ?_
  subst hQ
  exact ⟨_, rfl, rfl, zMi_end z11, z11.1, z11.2.2.2.2⟩
end MINIT
