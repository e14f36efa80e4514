set_option maxRecDepth 100000
def iF (i : Nat) : Nat := match i with
  | 0 => 1 | 1 => 2 | 2 => 3 | 3 => 4 | 4 => 5 | 5 => 7 | 6 => 8 | 7 => 9 | 8 => 10 | 9 => 11
  | _ => 13
def iK (i : Nat) : Nat := match i with
  | 0 => 30 | 6 => 34 | 10 => 35
  | _ => 31
def iN (i : Nat) : Nat := if i = 6 then 120 else 60
def iD (i : Nat) : Value := if i = 6 ∨ i = 10 then .null else vI 0
def iL (i : Nat) : Prop := i = 5 ∨ i = 7 ∨ i = 8
def itP (T : tT) (a i : Nat) : Prop := (iL i → T.2 a = some []) ∧ (¬ iL i → T.1 a = (iK i, iN i, fun _ => iD i))
/-- the class' object, n of its arrays and lists made -/
def zCi (B : Nat → gE) (E : gV) (h : gH) (T : tT) (n : Nat) : Prop := zT E h T ∧ h.1 = gBase E + 1 + n ∧ (T.1 (gBase E)).1 = 1 ∧ (∀ f, kIsS f = true → (T.1 (gBase E)).2.2 f = vI 0) ∧ (∀ i, i < n → (T.1 (gBase E)).2.2 (iF i) = .ref (gBase E + 1 + i) ∧ itP T (gBase E + 1 + i) i) ∧ ∀ b, b < gBase E → T.1 b = B b
theorem iF_n (i : Nat) : iF i ≠ 0 ∧ iF i ≠ 6 ∧ iF i ≠ 12 := by unfold iF; split <;> omega
theorem iF_inj {i j : Nat} (hi : i < 11) (hj : j < 11) (e : iF i = iF j) : i = j := by
  have key : ∀ i, i < 11 → ∀ j, j < 11 → iF i = iF j → i = j := by decide
  exact key i hi j hj e
theorem zCi_a {B : Nat → gE} {E : gV} {h : gH} {T : tT} {n : Nat} (z : zCi B E h T n) (hn : n < 11) (hl : ¬ iL n) : zCi B E (gSet (gPush h (iK n, iN n, fun _ => iD n)) (gBase E) (((gPush h (iK n, iN n, fun _ => iD n)).2 (gBase E)).1, ((gPush h (iK n, iN n, fun _ => iD n)).2 (gBase E)).2.1, updV ((gPush h (iK n, iN n, fun _ => iD n)).2 (gBase E)).2.2 (iF n) (.ref h.1))) (tSet (tNew T h.1 (iK n, iN n, fun _ => iD n)) (gBase E) (iF n) (.ref h.1)) (n + 1) := by
  obtain ⟨z1, z2, z3, z4, z5, zb⟩ := z
  have hk : iK n ≠ 0 ∧ iK n ≠ 8 ∧ iK n ≠ 33 := by unfold iK; split <;> decide
  have e0 : (tNew T h.1 (iK n, iN n, fun _ => iD n)).1 (gBase E) = T.1 (gBase E) := tNew_ne _ _ (by omega)
  have t1 := zT_push z1 (q := (iK n, iN n, fun _ => iD n)) hk.1 hk.2.1 hk.2.2
  refine ⟨zT_set t1 (k := 1) (by rw [e0]; exact z3) (by omega) (by omega) _ _, by rw [gSet_sz, gPush_sz]; omega, by rw [tSet_k, e0]; exact z3, fun f hf => ?_, fun i hi => ?_, fun b hb => ?_⟩
  · have := kIsS_n hf
    have := iF_n n
    rw [tSet_v, if_neg (by omega), e0]; exact z4 f hf
  · by_cases e : i = n
    · subst e
      refine ⟨by rw [tSet_v, if_pos ⟨rfl, rfl⟩, z2], fun q => absurd q hl, fun _ => ?_⟩
      show va_up (tNew T h.1 _).1 (gBase E) _ (gBase E + 1 + i) = _
      unfold va_up
      rw [if_neg (by omega), ← z2, tNew_self]
    · have hz := z5 i (by omega)
      refine ⟨by rw [tSet_v, if_neg (fun q => e (iF_inj (by omega) hn q.2)), e0]; exact hz.1, fun q => hz.2.1 q, fun q => ?_⟩
      show va_up (tNew T h.1 _).1 (gBase E) _ (gBase E + 1 + i) = _
      unfold va_up
      rw [if_neg (by omega), tNew_ne _ _ (by omega)]
      exact hz.2.2 q
  · show va_up (tNew T h.1 _).1 (gBase E) _ b = _
    unfold va_up
    rw [if_neg (by omega), tNew_ne _ _ (by omega)]
    exact zb b hb
theorem zCi_l {B : Nat → gE} {E : gV} {h h' : gH} {T : tT} {n : Nat} (z : zCi B E h T n) (hn : n < 11) (hl : iL n) (t1 : zT E h' (tLs T h.1 [])) (s1 : h'.1 = h.1 + 1) : zCi B E (gSet h' (gBase E) ((h'.2 (gBase E)).1, (h'.2 (gBase E)).2.1, updV (h'.2 (gBase E)).2.2 (iF n) (.ref h.1))) (tSet (tLs T h.1 []) (gBase E) (iF n) (.ref h.1)) (n + 1) := by
  obtain ⟨z1, z2, z3, z4, z5, zb⟩ := z
  refine ⟨zT_set t1 (k := 1) z3 (by omega) (by omega) _ _, by rw [gSet_sz]; omega, by rw [tSet_k]; exact z3, fun f hf => ?_, fun i hi => ?_, fun b hb => ?_⟩
  · have := kIsS_n hf
    have := iF_n n
    rw [tSet_v, if_neg (by omega)]; exact z4 f hf
  · by_cases e : i = n
    · subst e
      refine ⟨by rw [tSet_v, if_pos ⟨rfl, rfl⟩, z2], fun _ => ?_, fun q => absurd hl q⟩
      rw [tSet_l, ← z2, tLs_self]
    · have hz := z5 i (by omega)
      refine ⟨by rw [tSet_v, if_neg (fun q => e (iF_inj (by omega) hn q.2))]; exact hz.1, fun q => ?_, fun q => ?_⟩
      · rw [tSet_l, tLs_ne _ _ (by omega)]; exact hz.2.1 q
      · show va_up T.1 (gBase E) _ (gBase E + 1 + i) = _
        unfold va_up
        rw [if_neg (by omega)]
        exact hz.2.2 q
  · show va_up T.1 (gBase E) _ b = _
    unfold va_up
    rw [if_neg (by omega)]
    exact zb b hb
theorem lR_e0 {E : gV} {ow ow' : Nat → Nat} {h : gH} {a : Nat} (r : lR E ow h a [] (gEm E) 0) : lR E ow' h a [] (gEm E) 0 := by
  obtain ⟨r1, r4, r5, r6, r7, r9, r10⟩ := r
  refine ⟨r1, r4, r5, r6, r7, ?_, r10⟩
  rcases r9 with z | z
  · exact Or.inl z
  · exact absurd (tCap_b z.2.2.2) (by omega)
section CINIT
variable {B : Nat → gE} {E : gV} {l : Launch} {h : gH} {T : tT}
theorem ok_X1_init (z : zCi B E h T 0) {d : Nat} (hd : 5 ≤ d) : gOk E l gX1_init d 11 1000 [.ref (gBase E)] h (gRu (fun h' => ∃ T', zCi B E h' T' 11)) := by
  refine gOk_of gmok_X1_init rfl (Nat.le_of_ble_eq_true rfl) (L := [some _]) rfl ?_
  obtain ⟨Q, hQ⟩ : ∃ Q, Q = gRet (gRu (fun h' => ∃ T', zCi B E h' T' 11)) := ⟨_, rfl⟩
  rw [← hQ]
  refine G_aload_0 (pc := 0) dX1_init_0 ?_
  refine G_objInit (pc := 1) dX1_init_1 (by decide) (by omega) (Nat.le_of_ble_eq_true rfl) ?_
  obtain ⟨h0, T0, z0, eh0⟩ : ∃ h0 T0, zCi B E h0 T0 0 ∧ h0 = h := ⟨h, T, z, rfl⟩
  rw [← eh0]
  refine G_aload_0 (pc := 4) dX1_init_4 ?_
  refine G_bipush (pc := 5) dX1_init_5 (by omega) ?_
  refine G_newa (pc := 7) (ak := 0) dX1_init_7 rfl (by omega) (by omega) (Nat.le_of_ble_eq_true rfl) ?_
  refine G_putF (pc := 9) dX1_init_9 rfl (by rw [gPush_ne _ _ (by have := z0.2.1; omega)]; rw [zT_at z0.1 z0.2.2.1 (by omega)]; exact z0.2.2.1) (by omega) rfl rfl rfl rfl (by omega) ?_
  obtain ⟨h1, T1, z1, e1⟩ : ∃ h' T', zCi B E h' T' 1 ∧ h' = _ := ⟨_, _, zCi_a z0 (by omega) (by unfold iL; omega), rfl⟩
  refine Eq.mp (congrArg (fun q => G E l gX1_init d 11 1000 Q _ _ _ q _ _) e1) ?_
  refine G_aload_0 (pc := 12) dX1_init_12 ?_
  refine G_bipush (pc := 13) dX1_init_13 (by omega) ?_
  refine G_newa (pc := 15) (ak := 1) dX1_init_15 rfl (by omega) (by omega) (Nat.le_of_ble_eq_true rfl) ?_
  refine G_putF (pc := 17) dX1_init_17 rfl (by rw [gPush_ne _ _ (by have := z1.2.1; omega)]; rw [zT_at z1.1 z1.2.2.1 (by omega)]; exact z1.2.2.1) (by omega) rfl rfl rfl rfl (by omega) ?_
  obtain ⟨h2, T2, z2, e2⟩ : ∃ h' T', zCi B E h' T' 2 ∧ h' = _ := ⟨_, _, zCi_a z1 (by omega) (by unfold iL; omega), rfl⟩
  refine Eq.mp (congrArg (fun q => G E l gX1_init d 11 1000 Q _ _ _ q _ _) e2) ?_
  refine G_aload_0 (pc := 20) dX1_init_20 ?_
  refine G_bipush (pc := 21) dX1_init_21 (by omega) ?_
  refine G_newa (pc := 23) (ak := 1) dX1_init_23 rfl (by omega) (by omega) (Nat.le_of_ble_eq_true rfl) ?_
  refine G_putF (pc := 25) dX1_init_25 rfl (by rw [gPush_ne _ _ (by have := z2.2.1; omega)]; rw [zT_at z2.1 z2.2.2.1 (by omega)]; exact z2.2.2.1) (by omega) rfl rfl rfl rfl (by omega) ?_
  obtain ⟨h3, T3, z3, e3⟩ : ∃ h' T', zCi B E h' T' 3 ∧ h' = _ := ⟨_, _, zCi_a z2 (by omega) (by unfold iL; omega), rfl⟩
  refine Eq.mp (congrArg (fun q => G E l gX1_init d 11 1000 Q _ _ _ q _ _) e3) ?_
  refine G_aload_0 (pc := 28) dX1_init_28 ?_
  refine G_bipush (pc := 29) dX1_init_29 (by omega) ?_
  refine G_newa (pc := 31) (ak := 1) dX1_init_31 rfl (by omega) (by omega) (Nat.le_of_ble_eq_true rfl) ?_
  refine G_putF (pc := 33) dX1_init_33 rfl (by rw [gPush_ne _ _ (by have := z3.2.1; omega)]; rw [zT_at z3.1 z3.2.2.1 (by omega)]; exact z3.2.2.1) (by omega) rfl rfl rfl rfl (by omega) ?_
  obtain ⟨h4, T4, z4, e4⟩ : ∃ h' T', zCi B E h' T' 4 ∧ h' = _ := ⟨_, _, zCi_a z3 (by omega) (by unfold iL; omega), rfl⟩
  refine Eq.mp (congrArg (fun q => G E l gX1_init d 11 1000 Q _ _ _ q _ _) e4) ?_
  refine G_aload_0 (pc := 36) dX1_init_36 ?_
  refine G_bipush (pc := 37) dX1_init_37 (by omega) ?_
  refine G_newa (pc := 39) (ak := 1) dX1_init_39 rfl (by omega) (by omega) (Nat.le_of_ble_eq_true rfl) ?_
  refine G_putF (pc := 41) dX1_init_41 rfl (by rw [gPush_ne _ _ (by have := z4.2.1; omega)]; rw [zT_at z4.1 z4.2.2.1 (by omega)]; exact z4.2.2.1) (by omega) rfl rfl rfl rfl (by omega) ?_
  obtain ⟨h5, T5, z5, e5⟩ : ∃ h' T', zCi B E h' T' 5 ∧ h' = _ := ⟨_, _, zCi_a z4 (by omega) (by unfold iL; omega), rfl⟩
  refine Eq.mp (congrArg (fun q => G E l gX1_init d 11 1000 Q _ _ _ q _ _) e5) ?_
  refine G_aload_0 (pc := 44) dX1_init_44 ?_
  refine G_new (pc := 45) (ci := 7) dX1_init_45 rfl (by omega) (Nat.le_of_ble_eq_true rfl) ?_
  refine G_dup (pc := 48) dX1_init_48 rfl ?_
  have r5 : rawL E (gPush h5 (7 + 1, gN 7, fun f => defaultValue (gTy 7 f))) T5 h5.1 := ⟨zT_pushL z5.1 _, by rw [gPush_self], z5.1.1, by rw [gPush_sz]; omega, by rw [gPush_self]; rfl, (zT_fresh z5.1).2, (zT_fresh z5.1).1⟩
  refine G_callI0u (pc := 49) (d' := 4) dX1_init_49 rfl rfl (ok_J2_init (ow := fun _ => 0) r5.2.1 r5.2.2.1 r5.2.2.2.1 r5.2.2.2.2.1 r5.1.2.1 (Nat.le_refl _)) (by omega) (by omega) (Nat.le_of_ble_eq_true rfl) (Nat.le_of_ble_eq_true rfl) (fun g5 q => ?_)
  have t5 : zT E g5 (tLs T5 h5.1 []) := zT_init r5 (fun ow => lR_e0 q.1) q.2.1 q.2.2
  refine G_putF (pc := 52) dX1_init_52 rfl (by rw [zT_at t5 (a := gBase E) (k := 1) z5.2.2.1 (by omega)]; exact z5.2.2.1) (by omega) rfl rfl rfl rfl (by omega) ?_
  obtain ⟨h6, T6, z6, e6⟩ : ∃ h' T', zCi B E h' T' 6 ∧ h' = _ := ⟨_, _, zCi_l z5 (by omega) (by unfold iL; omega) t5 (by rw [q.2.1, gPush_sz]), rfl⟩
  refine Eq.mp (congrArg (fun q => G E l gX1_init d 11 1000 Q _ _ _ q _ _) e6) ?_
  refine G_aload_0 (pc := 55) dX1_init_55 ?_
  refine G_bipush (pc := 56) dX1_init_56 (by omega) ?_
  refine G_anew (pc := 58) (ak := 4) dX1_init_58 rfl (by omega) (by omega) (Nat.le_of_ble_eq_true rfl) ?_
  refine G_putF (pc := 61) dX1_init_61 rfl (by rw [gPush_ne _ _ (by have := z6.2.1; omega)]; rw [zT_at z6.1 z6.2.2.1 (by omega)]; exact z6.2.2.1) (by omega) rfl rfl rfl rfl (by omega) ?_
  obtain ⟨h7, T7, z7, e7⟩ : ∃ h' T', zCi B E h' T' 7 ∧ h' = _ := ⟨_, _, zCi_a z6 (by omega) (by unfold iL; omega), rfl⟩
  refine Eq.mp (congrArg (fun q => G E l gX1_init d 11 1000 Q _ _ _ q _ _) e7) ?_
  refine G_aload_0 (pc := 64) dX1_init_64 ?_
  refine G_new (pc := 65) (ci := 7) dX1_init_65 rfl (by omega) (Nat.le_of_ble_eq_true rfl) ?_
  refine G_dup (pc := 68) dX1_init_68 rfl ?_
  have r7 : rawL E (gPush h7 (7 + 1, gN 7, fun f => defaultValue (gTy 7 f))) T7 h7.1 := ⟨zT_pushL z7.1 _, by rw [gPush_self], z7.1.1, by rw [gPush_sz]; omega, by rw [gPush_self]; rfl, (zT_fresh z7.1).2, (zT_fresh z7.1).1⟩
  refine G_callI0u (pc := 69) (d' := 4) dX1_init_69 rfl rfl (ok_J2_init (ow := fun _ => 0) r7.2.1 r7.2.2.1 r7.2.2.2.1 r7.2.2.2.2.1 r7.1.2.1 (Nat.le_refl _)) (by omega) (by omega) (Nat.le_of_ble_eq_true rfl) (Nat.le_of_ble_eq_true rfl) (fun g7 q => ?_)
  have t7 : zT E g7 (tLs T7 h7.1 []) := zT_init r7 (fun ow => lR_e0 q.1) q.2.1 q.2.2
  refine G_putF (pc := 72) dX1_init_72 rfl (by rw [zT_at t7 (a := gBase E) (k := 1) z7.2.2.1 (by omega)]; exact z7.2.2.1) (by omega) rfl rfl rfl rfl (by omega) ?_
  obtain ⟨h8, T8, z8, e8⟩ : ∃ h' T', zCi B E h' T' 8 ∧ h' = _ := ⟨_, _, zCi_l z7 (by omega) (by unfold iL; omega) t7 (by rw [q.2.1, gPush_sz]), rfl⟩
  refine Eq.mp (congrArg (fun q => G E l gX1_init d 11 1000 Q _ _ _ q _ _) e8) ?_
  refine G_aload_0 (pc := 75) dX1_init_75 ?_
  refine G_new (pc := 76) (ci := 7) dX1_init_76 rfl (by omega) (Nat.le_of_ble_eq_true rfl) ?_
  refine G_dup (pc := 79) dX1_init_79 rfl ?_
  have r8 : rawL E (gPush h8 (7 + 1, gN 7, fun f => defaultValue (gTy 7 f))) T8 h8.1 := ⟨zT_pushL z8.1 _, by rw [gPush_self], z8.1.1, by rw [gPush_sz]; omega, by rw [gPush_self]; rfl, (zT_fresh z8.1).2, (zT_fresh z8.1).1⟩
  refine G_callI0u (pc := 80) (d' := 4) dX1_init_80 rfl rfl (ok_J2_init (ow := fun _ => 0) r8.2.1 r8.2.2.1 r8.2.2.2.1 r8.2.2.2.2.1 r8.1.2.1 (Nat.le_refl _)) (by omega) (by omega) (Nat.le_of_ble_eq_true rfl) (Nat.le_of_ble_eq_true rfl) (fun g8 q => ?_)
  have t8 : zT E g8 (tLs T8 h8.1 []) := zT_init r8 (fun ow => lR_e0 q.1) q.2.1 q.2.2
  refine G_putF (pc := 83) dX1_init_83 rfl (by rw [zT_at t8 (a := gBase E) (k := 1) z8.2.2.1 (by omega)]; exact z8.2.2.1) (by omega) rfl rfl rfl rfl (by omega) ?_
  obtain ⟨h9, T9, z9, e9⟩ : ∃ h' T', zCi B E h' T' 9 ∧ h' = _ := ⟨_, _, zCi_l z8 (by omega) (by unfold iL; omega) t8 (by rw [q.2.1, gPush_sz]), rfl⟩
  refine Eq.mp (congrArg (fun q => G E l gX1_init d 11 1000 Q _ _ _ q _ _) e9) ?_
  refine G_aload_0 (pc := 86) dX1_init_86 ?_
  refine G_bipush (pc := 87) dX1_init_87 (by omega) ?_
  refine G_newa (pc := 89) (ak := 1) dX1_init_89 rfl (by omega) (by omega) (Nat.le_of_ble_eq_true rfl) ?_
  refine G_putF (pc := 91) dX1_init_91 rfl (by rw [gPush_ne _ _ (by have := z9.2.1; omega)]; rw [zT_at z9.1 z9.2.2.1 (by omega)]; exact z9.2.2.1) (by omega) rfl rfl rfl rfl (by omega) ?_
  obtain ⟨h10, T10, z10, e10⟩ : ∃ h' T', zCi B E h' T' 10 ∧ h' = _ := ⟨_, _, zCi_a z9 (by omega) (by unfold iL; omega), rfl⟩
  refine Eq.mp (congrArg (fun q => G E l gX1_init d 11 1000 Q _ _ _ q _ _) e10) ?_
  refine G_aload_0 (pc := 94) dX1_init_94 ?_
  refine G_bipush (pc := 95) dX1_init_95 (by omega) ?_
  refine G_anew (pc := 97) (ak := 5) dX1_init_97 rfl (by omega) (by omega) (Nat.le_of_ble_eq_true rfl) ?_
  refine G_putF (pc := 100) dX1_init_100 rfl (by rw [gPush_ne _ _ (by have := z10.2.1; omega)]; rw [zT_at z10.1 z10.2.2.1 (by omega)]; exact z10.2.2.1) (by omega) rfl rfl rfl rfl (by omega) ?_
  obtain ⟨h11, T11, z11, e11⟩ : ∃ h' T', zCi B E h' T' 11 ∧ h' = _ := ⟨_, _, zCi_a z10 (by omega) (by unfold iL; omega), rfl⟩
  refine Eq.mp (congrArg (fun q => G E l gX1_init d 11 1000 Q _ _ _ q _ _) e11) ?_
  refine G_return (pc := 103) dX1_init_103 rfl (by omega) (Nat.le_of_ble_eq_true rfl) ?_
  subst hQ
  exact ⟨_, rfl, rfl, T11, z11⟩
end CINIT
