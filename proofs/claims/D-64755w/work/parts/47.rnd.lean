set_option maxRecDepth 100000
/-- more is seen, and nothing of what was seen has changed -/
def tX (T T' : tT) : Prop := T'.2 = T.2 ∧ ∀ b, (T.1 b).1 ≠ 0 → T'.1 b = T.1 b
theorem tX_rf (T : tT) : tX T T := ⟨rfl, fun _ _ => rfl⟩
theorem tX_tr {T T' T'' : tT} (a : tX T T') (b : tX T' T'') : tX T T'' := ⟨b.1.trans a.1, fun c hc => (b.2 c (by rw [a.2 c hc]; exact hc)).trans (a.2 c hc)⟩
theorem hC_x {T T' : tT} (q : tX T T') {a : Nat} {x y x2 y2 : Int} (c : hC T a x y x2 y2) : hC T' a x y x2 y2 := by
  obtain ⟨c1, f, w, g, ⟨c2, c3⟩, ⟨c4, c5⟩, ⟨c6, c7⟩, ⟨c8, c9⟩, c10, c11⟩ := c
  have ea := q.2 a (by omega)
  have ew := q.2 w (by omega)
  have ef := q.2 f (by omega)
  have eg := q.2 g (by omega)
  exact ⟨by rw [ea]; exact c1, f, w, g, ⟨by rw [ea]; exact c2, by rw [ea]; exact c3⟩, ⟨by rw [ew]; exact c4, by rw [ew]; exact c5⟩, ⟨by rw [ef]; exact c6, by rw [eg]; exact c7⟩, ⟨by rw [ef]; exact c8, by rw [ef]; exact c9⟩, by rw [eg]; exact c10, by rw [eg]; exact c11⟩
theorem zK_x {E : gV} {T T' : tT} {S : mS} (q : tX T T') (z : zK E T S) : zK E T' S := by
  obtain ⟨z1, z2, z3, z4⟩ := z
  have e0 := q.2 (gBase E) (by omega)
  refine ⟨by rw [e0]; exact z1, fun f hf => by rw [e0]; exact z2 f hf, fun f hf => ?_, ?_⟩
  · have k := z3 f hf
    have hk := kKd_or f
    rw [e0, q.2 (gBase E + kAd f) (by omega)]
    exact k
  · obtain ⟨o1, o2, o3⟩ := z4
    unfold kO
    rw [e0, q.2 (gBase E + 7) (by omega), q.2 (gBase E + 11) (by omega)]
    exact ⟨o1, o2, o3⟩
/-- a walk w from f on, at p; b: whether it is done -/
def wk (T T' : tT) (w f p : Nat) (b : Int) : Prop := T'.2 = T.2 ∧ (∀ c, c ≠ w → T'.1 c = T.1 c) ∧ (T.1 w).1 = 0 ∧ (T'.1 w).1 = 6 ∧ (T'.1 w).2.2 0 = .ref f ∧ (T'.1 w).2.2 1 = .ref p ∧ (T'.1 w).2.2 2 = vI b
theorem wk_x {T T' : tT} {w f p : Nat} {b : Int} (k : wk T T' w f p b) : tX T T' := ⟨k.1, fun c hc => k.2.1 c (fun e => hc (by rw [e]; exact k.2.2.1))⟩
theorem wk_go {T T' : tT} {w f p q : Nat} {b b' : Int} (k : wk T T' w f p b) : wk T (tSet (tSet T' w 1 (.ref q)) w 2 (vI b')) w f q b' := by
  obtain ⟨k1, k2, k3, k4, k5, k6, k7⟩ := k
  refine ⟨k1, fun c hc => ?_, k3, by rw [tSet_k, tSet_k]; exact k4, by rw [tSet_v, if_neg (by omega), tSet_v, if_neg (by omega)]; exact k5, by rw [tSet_v, if_neg (by omega), tSet_v, if_pos ⟨rfl, rfl⟩], by rw [tSet_v, if_pos ⟨rfl, rfl⟩]⟩
  rw [← k2 c hc]
  show va_up (va_up T'.1 w _) w _ c = T'.1 c
  unfold va_up
  rw [if_neg hc, if_neg hc]
/-- halves that follow one another, m of them -/
def cyc (T : tT) (p : Nat → Nat) (m : Nat) : Prop := 0 < m ∧ (∀ k, k < m → (T.1 (p k)).1 = 3 ∧ (T.1 (p k)).2.2 3 = .ref (p (k + 1))) ∧ p m = p 0 ∧ ∀ k, 0 < k → k < m → p k ≠ p 0
theorem cyc_x {T T' : tT} (q : tX T T') {p : Nat → Nat} {m : Nat} (c : cyc T p m) : cyc T' p m := ⟨c.1, fun k hk => by rw [q.2 (p k) (by rw [(c.2.1 k hk).1]; omega)]; exact c.2.1 k hk, c.2.2⟩
theorem cyc_b {T : tT} {p : Nat → Nat} {m k : Nat} (c : cyc T p m) (hk : k < m) : bI (p (k + 1) = p 0) = bI (k + 1 = m) := by
  refine bI_congr ⟨fun e => ?_, fun e => by rw [e]; exact c.2.2.1⟩
  by_cases z : k + 1 = m
  · exact z
  · exact absurd e (c.2.2.2 (k + 1) (by omega) (by omega))
section RND
variable {E : gV} {l : Launch} {h : gH} {T : tT}
theorem ok_X5_iterator (ht : zT E h T) {r f : Nat} (hr : (T.1 r).1 = 5) (h0 : (T.1 r).2.2 0 = .ref f) {d : Nat} (hd : 3 ≤ d) : gOk E l gX5_iterator d 1 3 [.ref r] h (gRv (fun v h' => ∃ w T', v = .ref w ∧ zT E h' T' ∧ wk T T' w f f 0)) := by
  refine gOk_of gmok_X5_iterator rfl (Nat.le_of_ble_eq_true rfl) (L := [some _]) rfl ?_
  refine G_tnew (pc := 0) (ci := 5) dX5_iterator_0 rfl ht (by omega) (by omega) (Nat.le_refl _) (fun a h fr1 fr2 fr3 ht => ?_)
  have hra : r ≠ a := by intro e; subst e; omega
  refine G_dup (pc := 3) dX5_iterator_3 rfl ?_
  refine G_aload_0 (pc := 4) dX5_iterator_4 ?_
  refine G_tget (pc := 5) (v := .ref f) dX5_iterator_5 rfl ht (by rw [tNew_ne _ _ hra]; exact hr) (by rw [tNew_ne _ _ hra]; exact h0) ?_
  refine G_callI1u (pc := 8) (d' := 2) dX5_iterator_8 rfl rfl (ok_X6_init ht (by rw [tNew_self]) (Nat.le_refl _)) (by omega) (by omega) (Nat.le_refl _) (Nat.le_of_ble_eq_true rfl) (fun h' q => ?_)
  refine G_areturn (pc := 11) dX5_iterator_11 rfl (Or.inl ⟨_, rfl⟩) (Or.inr ⟨_, rfl⟩) (by omega) (Nat.le_refl _) ?_
  refine ⟨_, rfl, _, rfl, a, _, rfl, q, rfl, fun c hc => ?_, fr1, by rw [tSet_k, tSet_k, tNew_self], by rw [tSet_v, if_neg (by omega), tSet_v, if_pos ⟨rfl, rfl⟩], by rw [tSet_v, if_pos ⟨rfl, rfl⟩], by rw [tSet_v, if_neg (by omega), tSet_v, if_neg (by omega), tNew_self]; rfl⟩
  rw [← tNew_ne T (5 + 1, gN 5, fun f => defaultValue (gTy 5 f)) hc]
  show va_up (va_up _ a _) a _ c = _
  unfold va_up
  rw [if_neg hc, if_neg hc]
theorem ok_X5_size (ht : zT E h T) {r m : Nat} {p : Nat → Nat} (hr : (T.1 r).1 = 5) (h0 : (T.1 r).2.2 0 = .ref (p 0)) (c : cyc T p m) (hm : m ≤ 1000) {d : Nat} (hd : 4 ≤ d) : gOk E l gX5_size d 1 3 [.ref r] h (gRv (fun v h' => v = vI m ∧ ∃ T', zT E h' T' ∧ tX T T')) := by
  refine gOk_of gmok_X5_size rfl (Nat.le_of_ble_eq_true rfl) (L := [some _, none, none]) rfl ?_
  obtain ⟨Q, hQ⟩ : ∃ Q, Q = gRet (gRv (fun v h' => v = vI m ∧ ∃ T', zT E h' T' ∧ tX T T')) := ⟨_, rfl⟩
  rw [← hQ]
  have k7 : ∀ (n k : Nat), k + n = m → ∀ (h1 : gH) (T1 : tT) (w : Nat), zT E h1 T1 → wk T T1 w (p 0) (p k) (bI (k = m)) → G E l gX5_size d 1 3 Q 7 [some (.ref r), some (vI k), some (.ref w)] [] h1 1 3 := by
    intro n
    induction n with
    | zero =>
      intro k hn h1 T1 w ht hw
      have ek : k = m := by omega
      subst ek
      have hb := hw.2.2.2.2.2.2
      rw [bI_pos rfl] at hb
      refine G_aload_2 (pc := 7) dX5_size_7 ?_
      refine G_has (pc := 8) dX5_size_8 q773 (by rw [zT_at ht hw.2.2.2.1 (by omega)]; exact hw.2.2.2.1) (pu_X6_hasNext ht hw.2.2.2.1 hb (Or.inr rfl)) (by omega) (by omega) (by omega) (Nat.le_of_ble_eq_true rfl) ?_
      refine G_if_eq (pc := 13) 29 dX5_size_13 (by decide) (by omega) (fun _ => ?_) (fun q => absurd rfl q)
      refine G_iload_1 (pc := 29) dX5_size_29 ?_
      refine G_ireturn (pc := 30) dX5_size_30 rfl rfl (by omega) (by omega) ?_
      subst hQ
      exact ⟨_, rfl, _, rfl, rfl, T1, ht, wk_x hw⟩
    | succ n ih =>
      intro k hn h1 T1 w ht hw
      have hb := hw.2.2.2.2.2.2
      rw [bI_neg (show ¬ k = m by omega)] at hb
      have cx := (cyc_x (wk_x hw) c).2.1 k (by omega)
      have k6 : (h1.2 w).1 = 6 := by rw [zT_at ht hw.2.2.2.1 (by omega)]; exact hw.2.2.2.1
      refine G_aload_2 (pc := 7) dX5_size_7 ?_
      refine G_has (pc := 8) dX5_size_8 q773 k6 (pu_X6_hasNext ht hw.2.2.2.1 hb (Or.inl rfl)) (by omega) (by omega) (by omega) (Nat.le_of_ble_eq_true rfl) ?_
      refine G_if_eq (pc := 13) 29 dX5_size_13 (by decide) (by omega) (fun q => absurd q (by decide)) (fun _ => ?_)
      refine G_iinc_1 (pc := 16) dX5_size_16 (by decide) rfl ?_
      refine G_aload_2 (pc := 19) dX5_size_19 ?_
      refine G_nxt (pc := 20) (d' := 2) dX5_size_20 q775 k6 (ok_X6_next ht hw.2.2.2.1 hw.2.2.2.2.1 hw.2.2.2.2.2.1 cx.1 cx.2 (Nat.le_refl _)) (by omega) (by omega) (by omega) (Nat.le_of_ble_eq_true rfl) (fun x h' z => ?_)
      obtain ⟨rfl, z⟩ := z
      refine G_pop (pc := 25) dX5_size_25 rfl ?_
      refine G_goto (pc := 26) 7 dX5_size_26 (by decide) ?_
      rw [show ((k : Int) + 1) = ((k + 1 : Nat) : Int) by omega]
      rw [cyc_b c (by omega)] at z
      exact ih (k + 1) (by omega) _ _ w z (wk_go hw)
  refine G_iconst (pc := 0) dX5_size_0 ?_
  refine G_istore_1 (pc := 1) dX5_size_1 (by decide) rfl ?_
  refine G_aload_0 (pc := 2) dX5_size_2 ?_
  refine G_callV0v (pc := 3) (d' := 3) dX5_size_3 rfl (by rw [zT_at ht hr (by omega)]; exact hr) (by decide) rfl (ok_X5_iterator ht hr h0 (Nat.le_refl _)) (by omega) (by omega) (by omega) (Nat.le_of_ble_eq_true rfl) (fun x h' z => ?_)
  obtain ⟨w, T1, rfl, z1, z2⟩ := z
  refine G_astore_2 (pc := 6) dX5_size_6 (by decide) rfl ?_
  exact k7 m 0 (by omega) h' T1 w z1 (by rw [bI_neg (show ¬ 0 = m by have := c.1; omega)]; exact z2)
end RND
