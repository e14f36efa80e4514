set_option maxRecDepth 100000
section RND2
variable {E : gV} {l : Launch} {h : gH} {T : tT}
theorem wk_6 {h1 : gH} {T1 : tT} {w f p : Nat} {b : Int} (ht : zT E h1 T1) (hw : wk T T1 w f p b) : (h1.2 w).1 = 6 := by rw [zT_at ht hw.2.2.2.1 (by omega)]; exact hw.2.2.2.1
theorem ok_X5_area (ht : zT E h T) {r m : Nat} {p : Nat → Nat} (hr : (T.1 r).1 = 5) (h0 : (T.1 r).2.2 0 = .ref (p 0)) (c : cyc T p m) {X Y X2 Y2 : Nat → Int} (hc : ∀ k, k < m → hC T (p k) (X k) (Y k) (X2 k) (Y2 k)) (hb : ∀ k, k < m → ((-16000 ≤ X k ∧ X k ≤ 16000) ∧ (-16000 ≤ Y k ∧ Y k ≤ 16000)) ∧ ((-16000 ≤ X2 k ∧ X2 k ≤ 16000) ∧ (-16000 ≤ Y2 k ∧ Y2 k ≤ 16000))) {d : Nat} (hd : 4 ≤ d) :
    gOk E l gX5_area d 1 3 [.ref r] h (gRv (fun v h' => v = vJ (iS m (fun k => X k * Y2 k - Y k * X2 k)) ∧ ∃ T', zT E h' T' ∧ tX T T')) := by
  refine gOk_of gmok_X5_area rfl (Nat.le_of_ble_eq_true rfl) (L := [some _, none, none, none, none]) rfl ?_
  obtain ⟨Q, hQ⟩ : ∃ Q, Q = gRet (gRv (fun v h' => v = vJ (iS m (fun k => X k * Y2 k - Y k * X2 k)) ∧ ∃ T', zT E h' T' ∧ tX T T')) := ⟨_, rfl⟩
  rw [← hQ]
  have k7 : ∀ (n k : Nat), k + n = m → ∀ (h1 : gH) (T1 : tT) (w : Nat), zT E h1 T1 → wk T T1 w (p 0) (p k) (bI (k = m)) → G E l gX5_area d 1 3 Q 7 [some (.ref r), some (vJ (iS k (fun k => X k * Y2 k - Y k * X2 k))), none, some (.ref w), none] [] h1 1 3 := by
    intro n
    induction n with
    | zero =>
      intro k hn h1 T1 w ht hw
      have ek : k = m := by omega
      subst ek
      have hb := hw.2.2.2.2.2.2
      rw [bI_pos rfl] at hb
      refine G_aload_3 (pc := 7) dX5_area_7 ?_
      refine G_has (pc := 8) dX5_area_8 q773 (wk_6 ht hw) (pu_X6_hasNext ht hw.2.2.2.1 hb (Or.inr rfl)) (by omega) (by omega) (by omega) (Nat.le_of_ble_eq_true rfl) ?_
      refine G_if_eq (pc := 13) 78 dX5_area_13 (by decide) (by omega) (fun _ => ?_) (fun q => absurd rfl q)
      refine G_lload_1 (pc := 78) dX5_area_78 ?_
      refine G_lreturn (pc := 79) dX5_area_79 rfl (by omega) (by omega) ?_
      subst hQ
      exact ⟨_, rfl, _, rfl, rfl, T1, ht, wk_x hw⟩
    | succ n ih =>
      intro k hn h1 T1 w ht hw
      have hbb := hb k (by omega)
      have hb := hw.2.2.2.2.2.2
      rw [bI_neg (show ¬ k = m by omega)] at hb
      have cx := (cyc_x (wk_x hw) c).2.1 k (by omega)
      refine G_aload_3 (pc := 7) dX5_area_7 ?_
      refine G_has (pc := 8) dX5_area_8 q773 (wk_6 ht hw) (pu_X6_hasNext ht hw.2.2.2.1 hb (Or.inl rfl)) (by omega) (by omega) (by omega) (Nat.le_of_ble_eq_true rfl) ?_
      refine G_if_eq (pc := 13) 78 dX5_area_13 (by decide) (by omega) (fun q => absurd q (by decide)) (fun _ => ?_)
      refine G_aload_3 (pc := 16) dX5_area_16 ?_
      refine G_nxt (pc := 17) (d' := 2) dX5_area_17 q775 (wk_6 ht hw) (ok_X6_next ht hw.2.2.2.1 hw.2.2.2.2.1 hw.2.2.2.2.2.1 cx.1 cx.2 (Nat.le_refl _)) (by omega) (by omega) (by omega) (Nat.le_of_ble_eq_true rfl) (fun x h' z => ?_)
      obtain ⟨rfl, z⟩ := z
      rw [cyc_b c (by omega)] at z
      have hw2 := wk_go (q := p (k + 1)) (b' := bI (k + 1 = m)) hw
      have hcx := hC_x (wk_x hw2) (hc k (by omega))
      obtain ⟨T2, eT⟩ : ∃ T2, T2 = tSet (tSet T1 w 1 (.ref (p (k + 1)))) w 2 (vI (bI (k + 1 = m))) := ⟨_, rfl⟩
      rw [← eT] at z hw2 hcx
      have ht := z
      refine G_tcast (pc := 22) dX5_area_22 rfl ht hcx.1 ?_
      obtain ⟨c1, f, w', g, ⟨c2, c3⟩, ⟨c4, c5⟩, ⟨c6, c7⟩, ⟨c8, c9⟩, c10, c11⟩ := hcx
      refine G_astore_4 (pc := 25) dX5_area_25 (by decide) rfl ?_
      refine G_lload_1 (pc := 27) dX5_area_27 ?_
      refine G_aload_4 (pc := 28) dX5_area_28 ?_
      refine G_tget (pc := 30) dX5_area_30 rfl ht c1 c2 ?_
      refine G_tget (pc := 33) dX5_area_33 rfl ht c6 c8 ?_
      refine G_i2l (pc := 36) dX5_area_36 (by omega) ?_
      refine G_aload_4 (pc := 37) dX5_area_37 ?_
      refine G_tget (pc := 39) dX5_area_39 rfl ht c1 c2 ?_
      refine G_tget (pc := 42) dX5_area_42 rfl ht c6 c9 ?_
      refine G_i2l (pc := 45) dX5_area_45 (by omega) ?_
      refine G_aload_4 (pc := 46) dX5_area_46 ?_
      refine G_tget (pc := 48) dX5_area_48 rfl ht c1 c3 ?_
      refine G_tget (pc := 51) dX5_area_51 rfl ht c4 c5 ?_
      refine G_tget (pc := 54) dX5_area_54 rfl ht c7 c10 ?_
      refine G_i2l (pc := 57) dX5_area_57 (by omega) ?_
      refine G_aload_4 (pc := 58) dX5_area_58 ?_
      refine G_tget (pc := 60) dX5_area_60 rfl ht c1 c3 ?_
      refine G_tget (pc := 63) dX5_area_63 rfl ht c4 c5 ?_
      refine G_tget (pc := 66) dX5_area_66 rfl ht c7 c11 ?_
      refine G_i2l (pc := 69) dX5_area_69 (by omega) ?_
      refine G_pT4 (pc := 70) dX5_area_70 rfl rfl (pu_X1_cross _ _ _ _) (by omega) (by omega) (by omega) (Nat.le_of_ble_eq_true rfl) ?_
      refine G_ladd (pc := 73) dX5_area_73 ?_
      refine G_lstore_1 (pc := 74) dX5_area_74 (by decide) rfl ?_
      refine G_goto (pc := 75) 7 dX5_area_75 (by decide) ?_
      refine G_drop_4 ?_
      exact ih (k + 1) (by omega) _ _ w ht hw2
  refine G_lconst0 (pc := 0) dX5_area_0 ?_
  refine G_lstore_1 (pc := 1) dX5_area_1 (by decide) rfl ?_
  refine G_aload_0 (pc := 2) dX5_area_2 ?_
  refine G_callV0v (pc := 3) (d' := 3) dX5_area_3 rfl (by rw [zT_at ht hr (by omega)]; exact hr) (by decide) rfl (ok_X5_iterator ht hr h0 (Nat.le_refl _)) (by omega) (by omega) (by omega) (Nat.le_of_ble_eq_true rfl) (fun x h' z => ?_)
  obtain ⟨w, T1, rfl, z1, z2⟩ := z
  refine G_astore_3 (pc := 6) dX5_area_6 (by decide) rfl ?_
  exact k7 m 0 (by omega) h' T1 w z1 (by rw [bI_neg (show ¬ 0 = m by have := c.1; omega)]; exact z2)
/-- the least number of the first k -/
def lsN (N : Nat → Int) : Nat → Int
  | 0 => N 0
  | k + 1 => mnI (lsN N k) (N k)
theorem lsN_b {N : Nat → Int} {m : Nat} (hm : 0 < m) (hb : ∀ k, k < m → 0 ≤ N k ∧ N k < 120) (k : Nat) (hk : k ≤ m) : 0 ≤ lsN N k ∧ lsN N k < 120 := by
  induction k with
  | zero => exact hb 0 hm
  | succ k ih =>
    have := ih (by omega)
    have := hb k (by omega)
    unfold lsN mnI
    split <;> omega
theorem ok_X5_least (ht : zT E h T) {r m : Nat} {p : Nat → Nat} (hr : (T.1 r).1 = 5) (h0 : (T.1 r).2.2 0 = .ref (p 0)) (c : cyc T p m) {N : Nat → Int} (hN : ∀ k, k < m → (T.1 (p k)).2.2 0 = vI (N k)) (hb : ∀ k, k < m → 0 ≤ N k ∧ N k < 120) {d : Nat} (hd : 4 ≤ d) :
    gOk E l gX5_least d 1 3 [.ref r] h (gRv (fun v h' => v = vI (lsN N m) ∧ ∃ T', zT E h' T' ∧ tX T T')) := by
  refine gOk_of gmok_X5_least rfl (Nat.le_of_ble_eq_true rfl) (L := [some _, none, none, none]) rfl ?_
  obtain ⟨Q, hQ⟩ : ∃ Q, Q = gRet (gRv (fun v h' => v = vI (lsN N m) ∧ ∃ T', zT E h' T' ∧ tX T T')) := ⟨_, rfl⟩
  rw [← hQ]
  have k13 : ∀ (n k : Nat), k + n = m → ∀ (h1 : gH) (T1 : tT) (w : Nat), zT E h1 T1 → wk T T1 w (p 0) (p k) (bI (k = m)) → G E l gX5_least d 1 3 Q 13 [some (.ref r), some (vI (lsN N k)), some (.ref w), none] [] h1 1 3 := by
    intro n
    induction n with
    | zero =>
      intro k hn h1 T1 w ht hw
      have ek : k = m := by omega
      subst ek
      have hb := hw.2.2.2.2.2.2
      rw [bI_pos rfl] at hb
      refine G_aload_2 (pc := 13) dX5_least_13 ?_
      refine G_has (pc := 14) dX5_least_14 q773 (wk_6 ht hw) (pu_X6_hasNext ht hw.2.2.2.1 hb (Or.inr rfl)) (by omega) (by omega) (by omega) (Nat.le_of_ble_eq_true rfl) ?_
      refine G_if_eq (pc := 19) 44 dX5_least_19 (by decide) (by omega) (fun _ => ?_) (fun q => absurd rfl q)
      refine G_iload_1 (pc := 44) dX5_least_44 ?_
      refine G_ireturn (pc := 45) dX5_least_45 rfl rfl (by omega) (by omega) ?_
      subst hQ
      exact ⟨_, rfl, _, rfl, rfl, T1, ht, wk_x hw⟩
    | succ n ih =>
      intro k hn h1 T1 w ht hw
      have hbb := hb k (by omega)
      have hbl := lsN_b c.1 hb k (by omega)
      have hb := hw.2.2.2.2.2.2
      rw [bI_neg (show ¬ k = m by omega)] at hb
      have cx := (cyc_x (wk_x hw) c).2.1 k (by omega)
      refine G_aload_2 (pc := 13) dX5_least_13 ?_
      refine G_has (pc := 14) dX5_least_14 q773 (wk_6 ht hw) (pu_X6_hasNext ht hw.2.2.2.1 hb (Or.inl rfl)) (by omega) (by omega) (by omega) (Nat.le_of_ble_eq_true rfl) ?_
      refine G_if_eq (pc := 19) 44 dX5_least_19 (by decide) (by omega) (fun q => absurd q (by decide)) (fun _ => ?_)
      refine G_aload_2 (pc := 22) dX5_least_22 ?_
      refine G_nxt (pc := 23) (d' := 2) dX5_least_23 q775 (wk_6 ht hw) (ok_X6_next ht hw.2.2.2.1 hw.2.2.2.2.1 hw.2.2.2.2.2.1 cx.1 cx.2 (Nat.le_refl _)) (by omega) (by omega) (by omega) (Nat.le_of_ble_eq_true rfl) (fun x h' z => ?_)
      obtain ⟨rfl, z⟩ := z
      rw [cyc_b c (by omega)] at z
      have hw2 := wk_go (q := p (k + 1)) (b' := bI (k + 1 = m)) hw
      obtain ⟨T2, eT⟩ : ∃ T2, T2 = tSet (tSet T1 w 1 (.ref (p (k + 1)))) w 2 (vI (bI (k + 1 = m))) := ⟨_, rfl⟩
      rw [← eT] at z hw2
      have ck := (c.2.1 k (by omega)).1
      have e2 := (wk_x hw2).2 (p k) (by omega)
      have c1 : (T2.1 (p k)).1 = 3 := by rw [e2]; exact ck
      have c2 : (T2.1 (p k)).2.2 0 = vI (N k) := by rw [e2]; exact hN k (by omega)
      have ht := z
      refine G_tcast (pc := 28) dX5_least_28 rfl ht c1 ?_
      refine G_astore_3 (pc := 31) dX5_least_31 (by decide) rfl ?_
      refine G_iload_1 (pc := 32) dX5_least_32 ?_
      refine G_aload_3 (pc := 33) dX5_least_33 ?_
      refine G_tget (pc := 34) dX5_least_34 rfl ht c1 c2 ?_
      refine G_pS2 (pc := 37) dX5_least_37 rfl rfl (pu_J9_min (by omega) (by omega)) (by omega) (by omega) (by omega) (Nat.le_of_ble_eq_true rfl) ?_
      refine G_istore_1 (pc := 40) dX5_least_40 (by decide) rfl ?_
      refine G_goto (pc := 41) 13 dX5_least_41 (by decide) ?_
      refine G_drop_3 ?_
      exact ih (k + 1) (by omega) _ _ w ht hw2
  have c0 := (c.2.1 0 c.1).1
  refine G_aload_0 (pc := 0) dX5_least_0 ?_
  refine G_tget (pc := 1) dX5_least_1 rfl ht hr h0 ?_
  refine G_tget (pc := 4) dX5_least_4 rfl ht c0 (hN 0 c.1) ?_
  refine G_istore_1 (pc := 7) dX5_least_7 (by decide) rfl ?_
  refine G_aload_0 (pc := 8) dX5_least_8 ?_
  refine G_callV0v (pc := 9) (d' := 3) dX5_least_9 rfl (by rw [zT_at ht hr (by omega)]; exact hr) (by decide) rfl (ok_X5_iterator ht hr h0 (Nat.le_refl _)) (by omega) (by omega) (by omega) (Nat.le_of_ble_eq_true rfl) (fun x h' z => ?_)
  obtain ⟨w, T1, rfl, z1, z2⟩ := z
  refine G_astore_2 (pc := 12) dX5_least_12 (by decide) rfl ?_
  exact k13 m 0 (by omega) h' T1 w z1 (by rw [bI_neg (show ¬ 0 = m by have := c.1; omega)]; exact z2)
end RND2
