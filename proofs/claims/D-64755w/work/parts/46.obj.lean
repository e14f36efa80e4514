set_option maxRecDepth 100000
/-- half a goes from (x, y) to (x2, y2) -/
def hC (T : tT) (a : Nat) (x y x2 y2 : Int) : Prop := (T.1 a).1 = 3 ∧ ∃ f w g, ((T.1 a).2.2 1 = .ref f ∧ (T.1 a).2.2 2 = .ref w) ∧ ((T.1 w).1 = 3 ∧ (T.1 w).2.2 1 = .ref g) ∧ ((T.1 f).1 = 4 ∧ (T.1 g).1 = 4) ∧ ((T.1 f).2.2 0 = vI x ∧ (T.1 f).2.2 1 = vI y) ∧ ((T.1 g).2.2 0 = vI x2 ∧ (T.1 g).2.2 1 = vI y2)
def kup (dx dy : Int) : Prop := 0 < dy ∨ (dy = 0 ∧ 0 < dx)
def kbf (ux uy dx dy : Int) : Prop := (kup ux uy ∧ ¬ kup dx dy) ∨ ((kup ux uy ↔ kup dx dy) ∧ 0 < ux * dy - uy * dx)
section OBJ
variable {E : gV} {l : Launch} {h : gH} {T : tT}
theorem hC_k (t : zT E h T) {a : Nat} {x y x2 y2 : Int} (c : hC T a x y x2 y2) : (h.2 a).1 = 3 := by rw [zT_at t c.1 (by omega)]; exact c.1
theorem pu_X3_dx (ht : zT E h T) {a : Nat} {x y x2 y2 : Int} (c : hC T a x y x2 y2) : gPu E l gX3_dx 1 [.ref a] h (vI (x2 - x)) := by
  intro d hd
  obtain ⟨c1, f, w, g, ⟨c2, c3⟩, ⟨c4, c5⟩, ⟨c6, c7⟩, ⟨c8, c9⟩, c10, c11⟩ := c
  refine gOk_of gmok_X3_dx rfl (Nat.le_of_ble_eq_true rfl) (L := [some _]) rfl ?_
  refine G_aload_0 (pc := 0) dX3_dx_0 ?_
  refine G_tget (pc := 1) dX3_dx_1 rfl ht c1 c3 ?_
  refine G_tget (pc := 4) dX3_dx_4 rfl ht c4 c5 ?_
  refine G_tget (pc := 7) dX3_dx_7 rfl ht c7 c10 ?_
  refine G_aload_0 (pc := 10) dX3_dx_10 ?_
  refine G_tget (pc := 11) dX3_dx_11 rfl ht c1 c2 ?_
  refine G_tget (pc := 14) dX3_dx_14 rfl ht c6 c8 ?_
  refine G_isub (pc := 17) dX3_dx_17 ?_
  refine G_ireturn (pc := 18) dX3_dx_18 rfl rfl (by omega) (by omega) ?_
  exact ⟨_, rfl, _, rfl, rfl, rfl⟩
theorem pu_X3_dy (ht : zT E h T) {a : Nat} {x y x2 y2 : Int} (c : hC T a x y x2 y2) : gPu E l gX3_dy 1 [.ref a] h (vI (y2 - y)) := by
  intro d hd
  obtain ⟨c1, f, w, g, ⟨c2, c3⟩, ⟨c4, c5⟩, ⟨c6, c7⟩, ⟨c8, c9⟩, c10, c11⟩ := c
  refine gOk_of gmok_X3_dy rfl (Nat.le_of_ble_eq_true rfl) (L := [some _]) rfl ?_
  refine G_aload_0 (pc := 0) dX3_dy_0 ?_
  refine G_tget (pc := 1) dX3_dy_1 rfl ht c1 c3 ?_
  refine G_tget (pc := 4) dX3_dy_4 rfl ht c4 c5 ?_
  refine G_tget (pc := 7) dX3_dy_7 rfl ht c7 c11 ?_
  refine G_aload_0 (pc := 10) dX3_dy_10 ?_
  refine G_tget (pc := 11) dX3_dy_11 rfl ht c1 c2 ?_
  refine G_tget (pc := 14) dX3_dy_14 rfl ht c6 c9 ?_
  refine G_isub (pc := 17) dX3_dy_17 ?_
  refine G_ireturn (pc := 18) dX3_dy_18 rfl rfl (by omega) (by omega) ?_
  exact ⟨_, rfl, _, rfl, rfl, rfl⟩
theorem pu_X3_isUpper {x y : Int} (hx : -2147483648 ≤ x ∧ x ≤ 2147483647) (hy : -2147483648 ≤ y ∧ y ≤ 2147483647) : gPu E l gX3_isUpper 1 [vI x, vI y] h (vI (bI (kup x y))) := by
  intro d hd
  refine gOk_of gmok_X3_isUpper rfl (Nat.le_of_ble_eq_true rfl) (L := [some _, some _]) rfl ?_
  refine G_iload_1 (pc := 0) dX3_isUpper_0 ?_
  refine G_if_gt (pc := 1) 12 dX3_isUpper_1 (by decide) (by omega) (fun c1 => ?_) (fun c1 => ?_)
  · skip
    refine G_iconst (pc := 12) dX3_isUpper_12 ?_
    refine G_goto (pc := 13) 17 dX3_isUpper_13 (by decide) ?_
    refine G_ireturn (pc := 17) dX3_isUpper_17 rfl rfl (by omega) (by omega) ?_
    exact ⟨_, rfl, _, rfl, by unfold kup; first | exact congrArg vI (bI_pos (by omega)).symm | exact congrArg vI (bI_neg (by omega)).symm, rfl⟩
  · skip
    refine G_iload_1 (pc := 4) dX3_isUpper_4 ?_
    refine G_if_ne (pc := 5) 16 dX3_isUpper_5 (by decide) (by omega) (fun c5 => ?_) (fun c5 => ?_)
    · skip
      refine G_iconst (pc := 16) dX3_isUpper_16 ?_
      refine G_ireturn (pc := 17) dX3_isUpper_17 rfl rfl (by omega) (by omega) ?_
      exact ⟨_, rfl, _, rfl, by unfold kup; first | exact congrArg vI (bI_pos (by omega)).symm | exact congrArg vI (bI_neg (by omega)).symm, rfl⟩
    · skip
      refine G_iload_0 (pc := 8) dX3_isUpper_8 ?_
      refine G_if_le (pc := 9) 16 dX3_isUpper_9 (by decide) (by omega) (fun c9 => ?_) (fun c9 => ?_)
      · skip
        refine G_iconst (pc := 16) dX3_isUpper_16 ?_
        refine G_ireturn (pc := 17) dX3_isUpper_17 rfl rfl (by omega) (by omega) ?_
        exact ⟨_, rfl, _, rfl, by unfold kup; first | exact congrArg vI (bI_pos (by omega)).symm | exact congrArg vI (bI_neg (by omega)).symm, rfl⟩
      · skip
        refine G_iconst (pc := 12) dX3_isUpper_12 ?_
        refine G_goto (pc := 13) 17 dX3_isUpper_13 (by decide) ?_
        refine G_ireturn (pc := 17) dX3_isUpper_17 rfl rfl (by omega) (by omega) ?_
        exact ⟨_, rfl, _, rfl, by unfold kup; first | exact congrArg vI (bI_pos (by omega)).symm | exact congrArg vI (bI_neg (by omega)).symm, rfl⟩
theorem pu_X3_isBefore (ht : zT E h T) {a : Nat} {x y x2 y2 : Int} (c : hC T a x y x2 y2) (b1 : -32000 ≤ x2 - x ∧ x2 - x ≤ 32000) (b2 : -32000 ≤ y2 - y ∧ y2 - y ≤ 32000) {u v : Int} (b3 : -32000 ≤ u ∧ u ≤ 32000) (b4 : -32000 ≤ v ∧ v ≤ 32000) : gPu E l gX3_isBefore 2 [.ref a, vI u, vI v] h (vI (bI (kbf (x2 - x) (y2 - y) u v))) := by
  intro d hd
  have m1 := mul_b b1 b4
  have m2 := mul_b b2 b3
  have e1 := bI_01 (kup (x2 - x) (y2 - y))
  have e2 := bI_01 (kup u v)
  have f1 := bI_one (p := kup (x2 - x) (y2 - y))
  have f2 := bI_one (p := kup u v)
  have fin : ∀ z : Int, z = bI (kbf (x2 - x) (y2 - y) u v) → gRet (gRv (fun w h' => w = vI (bI (kbf (x2 - x) (y2 - y) u v)) ∧ h' = h)) (.returned (some (vI z))) h := by
    intro z q
    subst q
    exact ⟨_, rfl, _, rfl, rfl, rfl⟩
  have iffT : bI (kup (x2 - x) (y2 - y)) = bI (kup u v) → (kup (x2 - x) (y2 - y) ↔ kup u v) := fun q => ⟨fun z => f2.mp (by rw [← q]; exact f1.mpr z), fun z => f1.mp (by rw [q]; exact f2.mpr z)⟩
  have neq : bI (kup (x2 - x) (y2 - y)) ≠ bI (kup u v) → bI (kup (x2 - x) (y2 - y)) = bI (kbf (x2 - x) (y2 - y) u v) := by
    intro q
    refine bI_congr ⟨fun z => Or.inl ⟨z, fun z2 => q (by rw [bI_pos z, bI_pos z2])⟩, fun z => ?_⟩
    rcases z with z | z
    · exact z.1
    · exact absurd (bI_congr z.1) q
  refine gOk_of gmok_X3_isBefore rfl (Nat.le_of_ble_eq_true rfl) (L := [some _, some _, some _, none]) rfl ?_
  refine G_aload_0 (pc := 0) dX3_isBefore_0 ?_
  refine G_pV0 (pc := 1) dX3_isBefore_1 rfl (hC_k ht c) (by decide) rfl (pu_X3_dx ht c) (by omega) (by omega) (by omega) (Nat.le_of_ble_eq_true rfl) ?_
  refine G_aload_0 (pc := 4) dX3_isBefore_4 ?_
  refine G_pV0 (pc := 5) dX3_isBefore_5 rfl (hC_k ht c) (by decide) rfl (pu_X3_dy ht c) (by omega) (by omega) (by omega) (Nat.le_of_ble_eq_true rfl) ?_
  refine G_pS2 (pc := 8) dX3_isBefore_8 rfl rfl (pu_X3_isUpper (by omega) (by omega)) (by omega) (by omega) (by omega) (Nat.le_of_ble_eq_true rfl) ?_
  refine G_istore_3 (pc := 11) dX3_isBefore_11 (by decide) rfl ?_
  refine G_iload_3 (pc := 12) dX3_isBefore_12 ?_
  refine G_iload_1 (pc := 13) dX3_isBefore_13 ?_
  refine G_iload_2 (pc := 14) dX3_isBefore_14 ?_
  refine G_pS2 (pc := 15) dX3_isBefore_15 rfl rfl (pu_X3_isUpper (by omega) (by omega)) (by omega) (by omega) (by omega) (Nat.le_of_ble_eq_true rfl) ?_
  refine G_icmp_eq (pc := 18) 25 dX3_isBefore_18 (by decide) (by omega) (by omega) (fun c18 => ?_) (fun c18 => ?_)
  · skip
    refine G_aload_0 (pc := 25) dX3_isBefore_25 ?_
    refine G_pV0 (pc := 26) dX3_isBefore_26 rfl (hC_k ht c) (by decide) rfl (pu_X3_dx ht c) (by omega) (by omega) (by omega) (Nat.le_of_ble_eq_true rfl) ?_
    refine G_i2l (pc := 29) dX3_isBefore_29 (by omega) ?_
    refine G_aload_0 (pc := 30) dX3_isBefore_30 ?_
    refine G_pV0 (pc := 31) dX3_isBefore_31 rfl (hC_k ht c) (by decide) rfl (pu_X3_dy ht c) (by omega) (by omega) (by omega) (Nat.le_of_ble_eq_true rfl) ?_
    refine G_i2l (pc := 34) dX3_isBefore_34 (by omega) ?_
    refine G_iload_1 (pc := 35) dX3_isBefore_35 ?_
    refine G_i2l (pc := 36) dX3_isBefore_36 (by omega) ?_
    refine G_iload_2 (pc := 37) dX3_isBefore_37 ?_
    refine G_i2l (pc := 38) dX3_isBefore_38 (by omega) ?_
    refine G_pT4 (pc := 39) dX3_isBefore_39 rfl rfl (pu_X1_cross _ _ _ _) (by omega) (by omega) (by omega) (Nat.le_of_ble_eq_true rfl) ?_
    refine G_lconst0 (pc := 42) dX3_isBefore_42 ?_
    refine G_lcmp_le (pc := 43) 51 dX3_isBefore_43 dX3_isBefore_44 (by decide) (by omega) (by omega) (fun c43 => ?_) (fun c43 => ?_)
    · skip
      refine G_iconst (pc := 51) dX3_isBefore_51 ?_
      refine G_ireturn (pc := 52) dX3_isBefore_52 rfl rfl (by omega) (by omega) ?_
      refine fin _ ?_
      first | exact neq c18 | exact (bI_pos (Or.inr ⟨iffT c18, by omega⟩)).symm | exact (bI_neg (fun q => q.elim (fun z => z.2 ((iffT c18).mp z.1)) (fun z => by omega))).symm
    · skip
      refine G_iconst (pc := 47) dX3_isBefore_47 ?_
      refine G_goto (pc := 48) 52 dX3_isBefore_48 (by decide) ?_
      refine G_ireturn (pc := 52) dX3_isBefore_52 rfl rfl (by omega) (by omega) ?_
      refine fin _ ?_
      first | exact neq c18 | exact (bI_pos (Or.inr ⟨iffT c18, by omega⟩)).symm | exact (bI_neg (fun q => q.elim (fun z => z.2 ((iffT c18).mp z.1)) (fun z => by omega))).symm
  · skip
    refine G_iload_3 (pc := 21) dX3_isBefore_21 ?_
    refine G_goto (pc := 22) 52 dX3_isBefore_22 (by decide) ?_
    refine G_ireturn (pc := 52) dX3_isBefore_52 rfl (nar_bI _) (by omega) (by omega) ?_
    refine fin _ ?_
    first | exact neq c18 | exact (bI_pos (Or.inr ⟨iffT c18, by omega⟩)).symm | exact (bI_neg (fun q => q.elim (fun z => z.2 ((iffT c18).mp z.1)) (fun z => by omega))).symm
/-! going round -/
theorem ok_X6_init (ht : zT E h T) {w f : Nat} (hw : (T.1 w).1 = 6) {d : Nat} (hd : 2 ≤ d) : gOk E l gX6_init d 0 0 [.ref w, .ref f] h (gRu (fun h' => zT E h' (tSet (tSet T w 0 (.ref f)) w 1 (.ref f)))) := by
  refine gOk_of gmok_X6_init rfl (Nat.le_of_ble_eq_true rfl) (L := [some _, some _]) rfl ?_
  refine G_aload_0 (pc := 0) dX6_init_0 ?_
  refine G_objInit (pc := 1) dX6_init_1 (by decide) (by omega) (Nat.le_of_ble_eq_true rfl) ?_
  refine G_aload_0 (pc := 4) dX6_init_4 ?_
  refine G_aload_1 (pc := 5) dX6_init_5 ?_
  refine G_tputF (pc := 6) dX6_init_6 rfl ht hw rfl rfl rfl rfl (by omega) (fun h ht => ?_)
  refine G_aload_0 (pc := 9) dX6_init_9 ?_
  refine G_aload_1 (pc := 10) dX6_init_10 ?_
  refine G_tput (pc := 11) dX6_init_11 rfl ht (by rw [tSet_k]; exact hw) (by omega) rfl rfl rfl (fun h ht => ?_)
  refine G_return (pc := 14) dX6_init_14 rfl (by omega) (by omega) ?_
  exact ⟨_, rfl, rfl, ht⟩
theorem pu_X6_hasNext (ht : zT E h T) {w : Nat} (hw : (T.1 w).1 = 6) {b : Int} (hb : (T.1 w).2.2 2 = vI b) (h01 : b = 0 ∨ b = 1) : gPu E l gX6_hasNext 1 [.ref w] h (vI (1 - b)) := by
  intro d hd
  refine gOk_of gmok_X6_hasNext rfl (Nat.le_of_ble_eq_true rfl) (L := [some _]) rfl ?_
  refine G_aload_0 (pc := 0) dX6_hasNext_0 ?_
  refine G_tget (pc := 1) dX6_hasNext_1 rfl ht hw hb ?_
  refine G_if_ne (pc := 4) 11 dX6_hasNext_4 (by decide) (by omega) (fun c4 => ?_) (fun c4 => ?_)
  · skip
    refine G_iconst (pc := 11) dX6_hasNext_11 ?_
    refine G_ireturn (pc := 12) dX6_hasNext_12 rfl rfl (by omega) (by omega) ?_
    exact ⟨_, rfl, _, rfl, by first | exact congrArg vI (by omega), rfl⟩
  · skip
    refine G_iconst (pc := 7) dX6_hasNext_7 ?_
    refine G_goto (pc := 8) 12 dX6_hasNext_8 (by decide) ?_
    refine G_ireturn (pc := 12) dX6_hasNext_12 rfl rfl (by omega) (by omega) ?_
    exact ⟨_, rfl, _, rfl, by first | exact congrArg vI (by omega), rfl⟩
theorem ok_X6_next_2 (ht : zT E h T) {w f p q : Nat} (hw : (T.1 w).1 = 6) (h0 : (T.1 w).2.2 0 = .ref f) (h1 : (T.1 w).2.2 1 = .ref p) (hp : (T.1 p).1 = 3) (hq : (T.1 p).2.2 3 = .ref q) {d : Nat} (hd : 1 ≤ d) : gOk E l gX6_next_2 d 0 0 [.ref w] h (gRv (fun v h' => v = .ref p ∧ zT E h' (tSet (tSet T w 1 (.ref q)) w 2 (vI (bI (q = f)))))) := by
  have hwp : w ≠ p := by intro e; subst e; omega
  refine gOk_of gmok_X6_next_2 rfl (Nat.le_of_ble_eq_true rfl) (L := [some _, none]) rfl ?_
  refine G_aload_0 (pc := 0) dX6_next_2_0 ?_
  refine G_tget (pc := 1) dX6_next_2_1 rfl ht hw h1 ?_
  refine G_astore_1 (pc := 4) dX6_next_2_4 (by decide) rfl ?_
  refine G_aload_0 (pc := 5) dX6_next_2_5 ?_
  refine G_aload_0 (pc := 6) dX6_next_2_6 ?_
  refine G_tget (pc := 7) dX6_next_2_7 rfl ht hw h1 ?_
  refine G_tget (pc := 10) dX6_next_2_10 rfl ht hp hq ?_
  refine G_tput (pc := 13) dX6_next_2_13 rfl ht hw (by omega) rfl rfl rfl (fun h ht => ?_)
  refine G_aload_0 (pc := 16) dX6_next_2_16 ?_
  refine G_aload_0 (pc := 17) dX6_next_2_17 ?_
  refine G_tget (pc := 18) (v := .ref q) dX6_next_2_18 rfl ht (by rw [tSet_k]; exact hw) (by rw [tSet_v, if_pos ⟨rfl, rfl⟩]) ?_
  refine G_aload_0 (pc := 21) dX6_next_2_21 ?_
  refine G_tget (pc := 22) (v := .ref f) dX6_next_2_22 rfl ht (by rw [tSet_k]; exact hw) (by rw [tSet_v, if_neg (by omega)]; exact h0) ?_
  refine G_acmp_ne (pc := 25) 32 dX6_next_2_25 (by decide) (fun c25 => ?_) (fun c25 => ?_)
  · refine G_iconst (pc := 32) dX6_next_2_32 ?_
    refine G_tput (pc := 33) dX6_next_2_33 rfl ht (by rw [tSet_k]; exact hw) (by omega) rfl rfl rfl (fun h ht => ?_)
    refine G_aload_1 (pc := 36) dX6_next_2_36 ?_
    refine G_areturn (pc := 37) dX6_next_2_37 rfl (Or.inl ⟨_, rfl⟩) (Or.inr ⟨_, rfl⟩) (by omega) (by omega) ?_
    exact ⟨_, rfl, _, rfl, rfl, by rw [bI_neg c25]; exact ht⟩
  · refine G_iconst (pc := 28) dX6_next_2_28 ?_
    refine G_goto (pc := 29) 33 dX6_next_2_29 (by decide) ?_
    refine G_tput (pc := 33) dX6_next_2_33 rfl ht (by rw [tSet_k]; exact hw) (by omega) rfl rfl rfl (fun h ht => ?_)
    refine G_aload_1 (pc := 36) dX6_next_2_36 ?_
    refine G_areturn (pc := 37) dX6_next_2_37 rfl (Or.inl ⟨_, rfl⟩) (Or.inr ⟨_, rfl⟩) (by omega) (by omega) ?_
    exact ⟨_, rfl, _, rfl, rfl, by rw [bI_pos c25]; exact ht⟩
theorem ok_X6_next (ht : zT E h T) {w f p q : Nat} (hw : (T.1 w).1 = 6) (h0 : (T.1 w).2.2 0 = .ref f) (h1 : (T.1 w).2.2 1 = .ref p) (hp : (T.1 p).1 = 3) (hq : (T.1 p).2.2 3 = .ref q) {d : Nat} (hd : 2 ≤ d) : gOk E l gX6_next d 0 0 [.ref w] h (gRv (fun v h' => v = .ref p ∧ zT E h' (tSet (tSet T w 1 (.ref q)) w 2 (vI (bI (q = f)))))) := by
  refine gOk_of gmok_X6_next rfl (Nat.le_of_ble_eq_true rfl) (L := [some _]) rfl ?_
  refine G_aload_0 (pc := 0) dX6_next_0 ?_
  refine G_callV0v (pc := 1) (d' := 1) dX6_next_1 rfl (by rw [zT_at ht hw (by omega)]; exact hw) (by decide) rfl (ok_X6_next_2 ht hw h0 h1 hp hq (Nat.le_refl _)) (by omega) (by omega) (by omega) (Nat.le_of_ble_eq_true rfl) (fun x h' z => ?_)
  obtain ⟨rfl, z⟩ := z
  refine G_areturn (pc := 4) dX6_next_4 rfl (Or.inl ⟨_, rfl⟩) (Or.inr ⟨_, rfl⟩) (by omega) (by omega) ?_
  exact ⟨_, rfl, _, rfl, rfl, z⟩
end OBJ
