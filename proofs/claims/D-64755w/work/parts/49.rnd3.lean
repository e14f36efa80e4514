set_option maxRecDepth 100000
/-- which of the first k halves begins at the lowest one of the points farthest to the left -/
def bi (X Y : Nat → Int) : Nat → Nat
  | 0 => 0
  | k + 1 => if X k < X (bi X Y k) ∨ (X k = X (bi X Y k) ∧ Y k < Y (bi X Y k)) then k else bi X Y k
theorem bi_lt (X Y : Nat → Int) (k : Nat) : bi X Y k ≤ k - 1 := by
  induction k with
  | zero => simp [bi]
  | succ k ih => unfold bi; split <;> omega
section RND3
variable {E : gV} {l : Launch} {h : gH} {T : tT}
theorem ok_X5_corner (ht : zT E h T) {r m : Nat} {p F : Nat → Nat} (hr : (T.1 r).1 = 5) (h0 : (T.1 r).2.2 0 = .ref (p 0)) (c : cyc T p m) {X Y : Nat → Int} (hF : ∀ k, k < m → (T.1 (p k)).2.2 1 = .ref (F k) ∧ (T.1 (F k)).1 = 4 ∧ (T.1 (F k)).2.2 0 = vI (X k) ∧ (T.1 (F k)).2.2 1 = vI (Y k)) (hb : ∀ k, k < m → (-16000 ≤ X k ∧ X k ≤ 16000) ∧ (-16000 ≤ Y k ∧ Y k ≤ 16000)) {d : Nat} (hd : 4 ≤ d) :
    gOk E l gX5_corner d 1 3 [.ref r] h (gRv (fun v h' => v = .ref (F (bi X Y m)) ∧ ∃ T', zT E h' T' ∧ tX T T')) := by
  refine gOk_of gmok_X5_corner rfl (Nat.le_of_ble_eq_true rfl) (L := [some _, none, none, none]) rfl ?_
  obtain ⟨Q, hQ⟩ : ∃ Q, Q = gRet (gRv (fun v h' => v = .ref (F (bi X Y m)) ∧ ∃ T', zT E h' T' ∧ tX T T')) := ⟨_, rfl⟩
  rw [← hQ]
  have hm := c.1
  have k13 : ∀ (n k : Nat), k + n = m → ∀ (h1 : gH) (T1 : tT) (w : Nat), zT E h1 T1 → wk T T1 w (p 0) (p k) (bI (k = m)) → G E l gX5_corner d 1 3 Q 13 [some (.ref r), some (.ref (F (bi X Y k))), some (.ref w), none] [] h1 1 3 := by
    intro n
    induction n with
    | zero =>
      intro k hn h1 T1 w ht hw
      have ek : k = m := by omega
      subst ek
      have hb := hw.2.2.2.2.2.2
      rw [bI_pos rfl] at hb
      refine G_aload_2 (pc := 13) dX5_corner_13 ?_
      refine G_has (pc := 14) dX5_corner_14 q773 (wk_6 ht hw) (pu_X6_hasNext ht hw.2.2.2.1 hb (Or.inr rfl)) (by omega) (by omega) (by omega) (Nat.le_of_ble_eq_true rfl) ?_
      refine G_if_eq (pc := 19) 82 dX5_corner_19 (by decide) (by omega) (fun _ => ?_) (fun q => absurd rfl q)
      refine G_aload_1 (pc := 82) dX5_corner_82 ?_
      refine G_areturn (pc := 83) dX5_corner_83 rfl (Or.inl ⟨_, rfl⟩) (Or.inr ⟨_, rfl⟩) (by omega) (by omega) ?_
      subst hQ
      exact ⟨_, rfl, _, rfl, rfl, T1, ht, wk_x hw⟩
    | succ n ih =>
      intro k hn h1 T1 w ht hw
      have hj := bi_lt X Y k
      obtain ⟨j, ej⟩ : ∃ j, j = bi X Y k := ⟨_, rfl⟩
      have hbb := hb k (by omega)
      have hbj := hb j (by omega)
      have hFk := hF k (by omega)
      have hFj := hF j (by omega)
      have hb := hw.2.2.2.2.2.2
      rw [bI_neg (show ¬ k = m by omega)] at hb
      have cx := (cyc_x (wk_x hw) c).2.1 k (by omega)
      refine G_aload_2 (pc := 13) dX5_corner_13 ?_
      refine G_has (pc := 14) dX5_corner_14 q773 (wk_6 ht hw) (pu_X6_hasNext ht hw.2.2.2.1 hb (Or.inl rfl)) (by omega) (by omega) (by omega) (Nat.le_of_ble_eq_true rfl) ?_
      refine G_if_eq (pc := 19) 82 dX5_corner_19 (by decide) (by omega) (fun q => absurd q (by decide)) (fun _ => ?_)
      refine G_aload_2 (pc := 22) dX5_corner_22 ?_
      refine G_nxt (pc := 23) (d' := 2) dX5_corner_23 q775 (wk_6 ht hw) (ok_X6_next ht hw.2.2.2.1 hw.2.2.2.2.1 hw.2.2.2.2.2.1 cx.1 cx.2 (Nat.le_refl _)) (by omega) (by omega) (by omega) (Nat.le_of_ble_eq_true rfl) (fun x h' z => ?_)
      obtain ⟨rfl, z⟩ := z
      rw [cyc_b c (by omega)] at z
      have hw2 := wk_go (q := p (k + 1)) (b' := bI (k + 1 = m)) hw
      obtain ⟨T2, eT⟩ : ∃ T2, T2 = tSet (tSet T1 w 1 (.ref (p (k + 1)))) w 2 (vI (bI (k + 1 = m))) := ⟨_, rfl⟩
      rw [← eT] at z hw2
      have ck := (c.2.1 k (by omega)).1
      have e2 := (wk_x hw2).2 (p k) (by omega)
      have e3 := (wk_x hw2).2 (F k) (by omega)
      have e4 := (wk_x hw2).2 (F j) (by omega)
      have c1 : (T2.1 (p k)).1 = 3 := by rw [e2]; exact ck
      have c2 : (T2.1 (p k)).2.2 1 = .ref (F k) := by rw [e2]; exact hFk.1
      have c3 : (T2.1 (F k)).1 = 4 := by rw [e3]; exact hFk.2.1
      have c4 : (T2.1 (F k)).2.2 0 = vI (X k) := by rw [e3]; exact hFk.2.2.1
      have c5 : (T2.1 (F k)).2.2 1 = vI (Y k) := by rw [e3]; exact hFk.2.2.2
      have c6 : (T2.1 (F j)).1 = 4 := by rw [e4]; exact hFj.2.1
      have c7 : (T2.1 (F j)).2.2 0 = vI (X j) := by rw [e4]; exact hFj.2.2.1
      have c8 : (T2.1 (F j)).2.2 1 = vI (Y j) := by rw [e4]; exact hFj.2.2.2
      have ht := z
      have gp : (X k < X j ∨ (X k = X j ∧ Y k < Y j)) → bi X Y (k + 1) = k := fun q => by unfold bi; rw [← ej, if_pos q]
      have gn : ¬ (X k < X j ∨ (X k = X j ∧ Y k < Y j)) → bi X Y (k + 1) = j := fun q => by unfold bi; rw [← ej, if_neg q]
      have ih2 := ih (k + 1) (by omega) _ _ w ht hw2
      rw [← ej]
      refine G_tcast (pc := 28) dX5_corner_28 rfl ht c1 ?_
      refine G_astore_3 (pc := 31) dX5_corner_31 (by decide) rfl ?_
      refine G_aload_3 (pc := 32) dX5_corner_32 ?_
      refine G_tget (pc := 33) dX5_corner_33 rfl ht c1 c2 ?_
      refine G_tget (pc := 36) dX5_corner_36 rfl ht c3 c4 ?_
      refine G_aload_1 (pc := 39) dX5_corner_39 ?_
      refine G_tget (pc := 40) dX5_corner_40 rfl ht c6 c7 ?_
      refine G_icmp_lt (pc := 43) 74 dX5_corner_43 (by decide) (by omega) (by omega) (fun c43 => ?_) (fun c43 => ?_)
      · skip
        refine G_aload_3 (pc := 74) dX5_corner_74 ?_
        refine G_tget (pc := 75) dX5_corner_75 rfl ht c1 c2 ?_
        refine G_astore_1 (pc := 78) dX5_corner_78 (by decide) rfl ?_
        refine G_goto (pc := 79) 13 dX5_corner_79 (by decide) ?_
        refine G_drop_3 ?_
        first | (rw [gp (by omega)] at ih2; exact ih2) | (rw [gn (by omega)] at ih2; exact ih2)
      · skip
        refine G_aload_3 (pc := 46) dX5_corner_46 ?_
        refine G_tget (pc := 47) dX5_corner_47 rfl ht c1 c2 ?_
        refine G_tget (pc := 50) dX5_corner_50 rfl ht c3 c4 ?_
        refine G_aload_1 (pc := 53) dX5_corner_53 ?_
        refine G_tget (pc := 54) dX5_corner_54 rfl ht c6 c7 ?_
        refine G_icmp_ne (pc := 57) 79 dX5_corner_57 (by decide) (by omega) (by omega) (fun c57 => ?_) (fun c57 => ?_)
        · skip
          refine G_goto (pc := 79) 13 dX5_corner_79 (by decide) ?_
          refine G_drop_3 ?_
          first | (rw [gp (by omega)] at ih2; exact ih2) | (rw [gn (by omega)] at ih2; exact ih2)
        · skip
          refine G_aload_3 (pc := 60) dX5_corner_60 ?_
          refine G_tget (pc := 61) dX5_corner_61 rfl ht c1 c2 ?_
          refine G_tget (pc := 64) dX5_corner_64 rfl ht c3 c5 ?_
          refine G_aload_1 (pc := 67) dX5_corner_67 ?_
          refine G_tget (pc := 68) dX5_corner_68 rfl ht c6 c8 ?_
          refine G_icmp_ge (pc := 71) 79 dX5_corner_71 (by decide) (by omega) (by omega) (fun c71 => ?_) (fun c71 => ?_)
          · skip
            refine G_goto (pc := 79) 13 dX5_corner_79 (by decide) ?_
            refine G_drop_3 ?_
            first | (rw [gp (by omega)] at ih2; exact ih2) | (rw [gn (by omega)] at ih2; exact ih2)
          · skip
            refine G_aload_3 (pc := 74) dX5_corner_74 ?_
            refine G_tget (pc := 75) dX5_corner_75 rfl ht c1 c2 ?_
            refine G_astore_1 (pc := 78) dX5_corner_78 (by decide) rfl ?_
            refine G_goto (pc := 79) 13 dX5_corner_79 (by decide) ?_
            refine G_drop_3 ?_
            first | (rw [gp (by omega)] at ih2; exact ih2) | (rw [gn (by omega)] at ih2; exact ih2)
  have c0 := (c.2.1 0 c.1).1
  refine G_aload_0 (pc := 0) dX5_corner_0 ?_
  refine G_tget (pc := 1) dX5_corner_1 rfl ht hr h0 ?_
  refine G_tget (pc := 4) dX5_corner_4 rfl ht c0 (hF 0 c.1).1 ?_
  refine G_astore_1 (pc := 7) dX5_corner_7 (by decide) rfl ?_
  refine G_aload_0 (pc := 8) dX5_corner_8 ?_
  refine G_callV0v (pc := 9) (d' := 3) dX5_corner_9 rfl (by rw [zT_at ht hr (by omega)]; exact hr) (by decide) rfl (ok_X5_iterator ht hr h0 (Nat.le_refl _)) (by omega) (by omega) (by omega) (Nat.le_of_ble_eq_true rfl) (fun x h' z => ?_)
  obtain ⟨w, T1, rfl, z1, z2⟩ := z
  refine G_astore_2 (pc := 12) dX5_corner_12 (by decide) rfl ?_
  exact k13 m 0 (by omega) h' T1 w z1 (by rw [bI_neg (show ¬ 0 = m by have := c.1; omega)]; exact z2)
/-! constructors -/
theorem ok_X3_init (ht : zT E h T) {a f : Nat} {n : Int} (ha : (T.1 a).1 = 3) {d : Nat} (hd : 2 ≤ d) : gOk E l gX3_init d 0 0 [.ref a, vI n, .ref f] h (gRu (fun h' => zT E h' (tSet (tSet T a 0 (vI n)) a 1 (.ref f)))) := by
  refine gOk_of gmok_X3_init rfl (Nat.le_of_ble_eq_true rfl) (L := [some _, some _, some _]) rfl ?_
  refine G_aload_0 (pc := 0) dX3_init_0 ?_
  refine G_objInit (pc := 1) dX3_init_1 (by decide) (by omega) (Nat.le_of_ble_eq_true rfl) ?_
  refine G_aload_0 (pc := 4) dX3_init_4 ?_
  refine G_iload_1 (pc := 5) dX3_init_5 ?_
  refine G_tputF (pc := 6) dX3_init_6 rfl ht ha rfl rfl rfl rfl (by omega) (fun h ht => ?_)
  refine G_aload_0 (pc := 9) dX3_init_9 ?_
  refine G_aload_2 (pc := 10) dX3_init_10 ?_
  refine G_tputF (pc := 11) dX3_init_11 rfl ht (by rw [tSet_k]; exact ha) rfl rfl rfl rfl (by omega) (fun h ht => ?_)
  refine G_return (pc := 14) dX3_init_14 rfl (by omega) (by omega) ?_
  exact ⟨_, rfl, rfl, ht⟩
theorem ok_X5_init (ht : zT E h T) {a f : Nat} (ha : (T.1 a).1 = 5) {d : Nat} (hd : 2 ≤ d) : gOk E l gX5_init d 0 0 [.ref a, .ref f] h (gRu (fun h' => zT E h' (tSet T a 0 (.ref f)))) := by
  refine gOk_of gmok_X5_init rfl (Nat.le_of_ble_eq_true rfl) (L := [some _, some _]) rfl ?_
  refine G_aload_0 (pc := 0) dX5_init_0 ?_
  refine G_objInit (pc := 1) dX5_init_1 (by decide) (by omega) (Nat.le_of_ble_eq_true rfl) ?_
  refine G_aload_0 (pc := 4) dX5_init_4 ?_
  refine G_aload_1 (pc := 5) dX5_init_5 ?_
  refine G_tputF (pc := 6) dX5_init_6 rfl ht ha rfl rfl rfl rfl (by omega) (fun h ht => ?_)
  refine G_return (pc := 9) dX5_init_9 rfl (by omega) (by omega) ?_
  exact ⟨_, rfl, rfl, ht⟩
/-- a node: where it is, its list -/
theorem ok_X4_init (ht : zT E h T) {a : Nat} {x y : Int} (ha : (T.1 a).1 = 4) {d : Nat} (hd : 5 ≤ d) : gOk E l gX4_init d 1 3 [.ref a, vI x, vI y] h (gRu (fun h' => ∃ b, (T.1 b).1 = 0 ∧ T.2 b = none ∧ b ≠ a ∧ zT E h' (tSet (tSet (tSet (tLs T b []) a 2 (.ref b)) a 0 (vI x)) a 1 (vI y)))) := by
  refine gOk_of gmok_X4_init rfl (Nat.le_of_ble_eq_true rfl) (L := [some _, some _, some _]) rfl ?_
  refine G_aload_0 (pc := 0) dX4_init_0 ?_
  refine G_objInit (pc := 1) dX4_init_1 (by decide) (by omega) (Nat.le_of_ble_eq_true rfl) ?_
  refine G_aload_0 (pc := 4) dX4_init_4 ?_
  refine G_tnewL (pc := 5) dX4_init_5 rfl ht (by omega) (Nat.le_refl _) (fun b h hr => ?_)
  have hb0 := hr.2.2.2.2.2
  have hba : b ≠ a := by intro e; subst e; omega
  refine G_dup (pc := 8) dX4_init_8 rfl ?_
  refine G_lini (pc := 9) dX4_init_9 rfl hr (by omega) (by omega) (Nat.le_refl _) (Nat.le_of_ble_eq_true rfl) (fun h ht => ?_)
  refine G_tputF (pc := 12) dX4_init_12 rfl ht ha rfl rfl rfl rfl (by omega) (fun h ht => ?_)
  refine G_aload_0 (pc := 15) dX4_init_15 ?_
  refine G_iload_1 (pc := 16) dX4_init_16 ?_
  refine G_tputF (pc := 17) dX4_init_17 rfl ht (by rw [tSet_k]; exact ha) rfl rfl rfl rfl (by omega) (fun h ht => ?_)
  refine G_aload_0 (pc := 20) dX4_init_20 ?_
  refine G_iload_2 (pc := 21) dX4_init_21 ?_
  refine G_tputF (pc := 22) dX4_init_22 rfl ht (by rw [tSet_k, tSet_k]; exact ha) rfl rfl rfl rfl (by omega) (fun h ht => ?_)
  refine G_return (pc := 25) dX4_init_25 rfl (by omega) (Nat.le_refl _) ?_
  exact ⟨_, rfl, rfl, b, hb0.2, hb0.1, hba, ht⟩
theorem ok_X7_init (ht : zT E h T) {a : Nat} (ha : (T.1 a).1 = 7) {d : Nat} (hd : 5 ≤ d) : gOk E l gX7_init d 1 3 [.ref a] h (gRu (fun h' => ∃ b, (T.1 b).1 = 0 ∧ T.2 b = none ∧ b ≠ a ∧ zT E h' (tSet (tSet (tLs T b []) a 0 (.ref b)) a 1 (vI 120)))) := by
  refine gOk_of gmok_X7_init rfl (Nat.le_of_ble_eq_true rfl) (L := [some _]) rfl ?_
  refine G_aload_0 (pc := 0) dX7_init_0 ?_
  refine G_objInit (pc := 1) dX7_init_1 (by decide) (by omega) (Nat.le_of_ble_eq_true rfl) ?_
  refine G_aload_0 (pc := 4) dX7_init_4 ?_
  refine G_tnewL (pc := 5) dX7_init_5 rfl ht (by omega) (Nat.le_refl _) (fun b h hr => ?_)
  have hb0 := hr.2.2.2.2.2
  have hba : b ≠ a := by intro e; subst e; omega
  refine G_dup (pc := 8) dX7_init_8 rfl ?_
  refine G_lini (pc := 9) dX7_init_9 rfl hr (by omega) (by omega) (Nat.le_refl _) (Nat.le_of_ble_eq_true rfl) (fun h ht => ?_)
  refine G_tputF (pc := 12) dX7_init_12 rfl ht ha rfl rfl rfl rfl (by omega) (fun h ht => ?_)
  refine G_aload_0 (pc := 15) dX7_init_15 ?_
  refine G_bipush (pc := 16) dX7_init_16 (by omega) ?_
  refine G_tput (pc := 18) dX7_init_18 rfl ht (by rw [tSet_k]; exact ha) (by omega) rfl rfl rfl (fun h ht => ?_)
  refine G_return (pc := 21) dX7_init_21 rfl (by omega) (Nat.le_refl _) ?_
  exact ⟨_, rfl, rfl, b, hb0.2, hb0.1, hba, ht⟩
end RND3
