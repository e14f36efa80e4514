set_option maxRecDepth 100000
/-- round r has area a -/
def rA (T : tT) (r : Nat) (a : Int) : Prop := ∃ (p : Nat → Nat) (m : Nat) (X Y X2 Y2 : Nat → Int), (T.1 r).1 = 5 ∧ (T.1 r).2.2 0 = .ref (p 0) ∧ cyc T p m ∧ (∀ k, k < m → hC T (p k) (X k) (Y k) (X2 k) (Y2 k)) ∧ (∀ k, k < m → ((-16000 ≤ X k ∧ X k ≤ 16000) ∧ (-16000 ≤ Y k ∧ Y k ≤ 16000)) ∧ ((-16000 ≤ X2 k ∧ X2 k ≤ 16000) ∧ (-16000 ≤ Y2 k ∧ Y2 k ≤ 16000))) ∧ a = iS m (fun k => X k * Y2 k - Y k * X2 k)
theorem rA_x {T T' : tT} (q : tX T T') {r : Nat} {a : Int} (c : rA T r a) : rA T' r a := by
  obtain ⟨p, m, X, Y, X2, Y2, c1, c2, c3, c4, c5, c6⟩ := c
  have e := q.2 r (by omega)
  exact ⟨p, m, X, Y, X2, Y2, by rw [e]; exact c1, by rw [e]; exact c2, cyc_x q c3, fun k hk => hC_x q (c4 k hk), c5, c6⟩
section FACE
variable {E : gV} {l : Launch} {h : gH} {T : tT}
theorem ok_area (ht : zT E h T) {r : Nat} {a : Int} (c : rA T r a) {d : Nat} (hd : 4 ≤ d) : gOk E l gX5_area d 1 3 [.ref r] h (gRv (fun v h' => v = vJ a ∧ ∃ T', zT E h' T' ∧ tX T T')) := by
  obtain ⟨p, m, X, Y, X2, Y2, c1, c2, c3, c4, c5, rfl⟩ := c
  exact ok_X5_area ht c1 c2 c3 c4 c5 hd
theorem ok_X7_area (ht : zT E h T) {f b : Nat} {xs : List Nat} (hf : (T.1 f).1 = 7) (hl : (T.1 f).2.2 0 = .ref b) (hls : T.2 b = some xs) {A : Nat → Int} (hA : ∀ r, r ∈ xs → rA T r (A r)) (hlen : xs.length < 150) {d : Nat} (hd : 5 ≤ d) :
    gOk E l gX7_area d xs.length (3 * xs.length) [.ref f] h (gRv (fun v h' => v = vJ (iS xs.length (fun k => A (xs.getD k 0))) ∧ ∃ T', zT E h' T' ∧ tX T T')) := by
  refine gOk_of gmok_X7_area rfl (Nat.le_of_ble_eq_true rfl) (L := [some _, none, none, none]) rfl ?_
  obtain ⟨Q, hQ⟩ : ∃ Q, Q = gRet (gRv (fun v h' => v = vJ (iS xs.length (fun k => A (xs.getD k 0))) ∧ ∃ T', zT E h' T' ∧ tX T T')) := ⟨_, rfl⟩
  rw [← hQ]
  have k4 : ∀ (m k : Nat), k + m = xs.length → ∀ (h1 : gH) (T1 : tT), zT E h1 T1 → tX T T1 → G E l gX7_area d xs.length (3 * xs.length) Q 4 [some (.ref f), some (vJ (iS k (fun k => A (xs.getD k 0)))), none, some (vI k)] [] h1 k (3 * k) := by
    intro m
    induction m with
    | zero =>
      intro k hn h1 T1 ht hx
      have ek : k = xs.length := by omega
      have ef := hx.2 f (by omega)
      have hf1 : (T1.1 f).1 = 7 := by rw [ef]; exact hf
      have hl1 : (T1.1 f).2.2 0 = .ref b := by rw [ef]; exact hl
      have hs1 : T1.2 b = some xs := by rw [hx.1]; exact hls
      refine G_iload_3 (pc := 4) dX7_area_4 ?_
      refine G_aload_0 (pc := 5) dX7_area_5 ?_
      refine G_tget (pc := 6) dX7_area_6 rfl ht hf1 hl1 ?_
      refine G_lsize (pc := 9) dX7_area_9 rfl ht hs1 (by omega) (by omega) (by omega) (Nat.le_of_ble_eq_true rfl) ?_
      refine G_icmp_ge (pc := 12) 38 dX7_area_12 (by decide) (by omega) (by omega) (fun _ => ?_) (fun q => absurd q (by omega))
      refine G_lload_1 (pc := 38) dX7_area_38 ?_
      refine G_lreturn (pc := 39) dX7_area_39 rfl (by omega) (by omega) ?_
      subst hQ
      exact ⟨_, rfl, _, rfl, by rw [ek], T1, ht, hx⟩
    | succ m ih =>
      intro k hn h1 T1 ht hx
      have ef := hx.2 f (by omega)
      have hf1 : (T1.1 f).1 = 7 := by rw [ef]; exact hf
      have hl1 : (T1.1 f).2.2 0 = .ref b := by rw [ef]; exact hl
      have hs1 : T1.2 b = some xs := by rw [hx.1]; exact hls
      have hget : xs[k]? = some (xs.getD k 0) := by rw [List.getD_eq_getElem?_getD, List.getElem?_eq_getElem (by omega)]; rfl
      have hm : xs.getD k 0 ∈ xs := List.mem_of_getElem? hget
      have hr := rA_x hx (hA _ hm)
      have hr5 : (T1.1 (xs.getD k 0)).1 = 5 := by obtain ⟨p, m, X, Y, X2, Y2, c1, -⟩ := hr; exact c1
      refine G_iload_3 (pc := 4) dX7_area_4 ?_
      refine G_aload_0 (pc := 5) dX7_area_5 ?_
      refine G_tget (pc := 6) dX7_area_6 rfl ht hf1 hl1 ?_
      refine G_lsize (pc := 9) dX7_area_9 rfl ht hs1 (by omega) (by omega) (by omega) (Nat.le_of_ble_eq_true rfl) ?_
      refine G_icmp_ge (pc := 12) 38 dX7_area_12 (by decide) (by omega) (by omega) (fun q => absurd q (by omega)) (fun _ => ?_)
      refine G_lload_1 (pc := 15) dX7_area_15 ?_
      refine G_aload_0 (pc := 16) dX7_area_16 ?_
      refine G_tget (pc := 17) dX7_area_17 rfl ht hf1 hl1 ?_
      refine G_iload_3 (pc := 20) dX7_area_20 ?_
      refine G_lget (pc := 21) dX7_area_21 rfl ht hs1 hget (by omega) (by omega) (by omega) (Nat.le_of_ble_eq_true rfl) ?_
      refine G_tcast (pc := 24) dX7_area_24 rfl ht hr5 ?_
      refine G_callV0v (pc := 27) (d' := 4) dX7_area_27 rfl (by rw [zT_at ht hr5 (by omega)]; exact hr5) (by decide) rfl (ok_area ht hr (Nat.le_refl _)) (by omega) (by omega) (by omega) (Nat.le_of_ble_eq_true rfl) (fun v h' z => ?_)
      obtain ⟨rfl, T2, ht2, hx2⟩ := z
      refine G_ladd (pc := 30) dX7_area_30 ?_
      refine G_lstore_1 (pc := 31) dX7_area_31 (by decide) rfl ?_
      refine G_iinc_3 (pc := 32) dX7_area_32 (by decide) rfl ?_
      refine G_goto (pc := 35) 4 dX7_area_35 (by decide) ?_
      rw [show ((k : Int) + 1) = ((k + 1 : Nat) : Int) by omega]
      exact ih (k + 1) (by omega) h' T2 ht2 (tX_tr hx hx2)
  refine G_lconst0 (pc := 0) dX7_area_0 ?_
  refine G_lstore_1 (pc := 1) dX7_area_1 (by decide) rfl ?_
  refine G_iconst (pc := 2) dX7_area_2 ?_
  refine G_istore_3 (pc := 3) dX7_area_3 (by decide) rfl ?_
  exact k4 xs.length 0 (by omega) h T ht (tX_rf T)
theorem ok_X7_add (ht : zT E h T) {f b r m : Nat} {p : Nat → Nat} {xs : List Nat} {L : Int} {N : Nat → Int} (hf : (T.1 f).1 = 7) (hl : (T.1 f).2.2 0 = .ref b) (hL : (T.1 f).2.2 1 = vI L) (hLb : 0 ≤ L ∧ L ≤ 120) (hls : T.2 b = some xs) (hr : (T.1 r).1 = 5) (h0 : (T.1 r).2.2 0 = .ref (p 0)) (c : cyc T p m) (hN : ∀ k, k < m → (T.1 (p k)).2.2 0 = vI (N k)) (hb : ∀ k, k < m → 0 ≤ N k ∧ N k < 120) (hlen : xs.length < 150) {d : Nat} (hd : 8 ≤ d) :
    gOk E l gX7_add d 2 (gr xs.length + 3) [.ref f, .ref r] h (gRu (fun h' => ∃ T3, tX (tLs (tSet T r 1 (.ref f)) b (xs ++ [r])) T3 ∧ zT E h' (tSet T3 f 1 (vI (mnI L (lsN N m)))))) := by
  refine gOk_of gmok_X7_add rfl (Nat.le_of_ble_eq_true rfl) (L := [some _, some _]) rfl ?_
  have hfr : f ≠ r := by intro e; subst e; omega
  refine G_aload_1 (pc := 0) dX7_add_0 ?_
  refine G_aload_0 (pc := 1) dX7_add_1 ?_
  refine G_tput (pc := 2) dX7_add_2 rfl ht hr (by omega) rfl rfl rfl (fun h ht => ?_)
  have e1 : ∀ g, ((tSet T r 1 (.ref f)).1 f).2.2 g = (T.1 f).2.2 g := fun g => by rw [tSet_v, if_neg (by omega)]
  refine G_aload_0 (pc := 5) dX7_add_5 ?_
  refine G_tget (pc := 6) (v := .ref b) dX7_add_6 rfl ht (by rw [tSet_k]; exact hf) (by rw [e1]; exact hl) ?_
  refine G_aload_1 (pc := 9) dX7_add_9 ?_
  refine G_lapp (pc := 10) dX7_add_10 rfl ht hls (by rw [tSet_k, hr]; rfl) hlen (by omega) (by omega) (by omega) (Nat.le_of_ble_eq_true rfl) (fun h ht => ?_)
  obtain ⟨T2, eT⟩ : ∃ T2, T2 = tLs (tSet T r 1 (.ref f)) b (xs ++ [r]) := ⟨_, rfl⟩
  have ek : ∀ a, (T2.1 a).1 = (T.1 a).1 := fun a => by rw [eT]; exact tSet_k _ _ _ _ _
  have ev : ∀ a g, a ≠ r ∨ g ≠ 1 → (T2.1 a).2.2 g = (T.1 a).2.2 g := fun a g q => by rw [eT]; show ((tSet T r 1 (.ref f)).1 a).2.2 g = _; rw [tSet_v, if_neg (by omega)]
  rw [← eT] at ht ⊢
  have hpr : ∀ k, k < m → p k ≠ r := fun k hk e => by have := (c.2.1 k hk).1; rw [e] at this; omega
  have c2 : cyc T2 p m := ⟨c.1, fun k hk => by rw [ek, ev _ _ (Or.inl (hpr k hk))]; exact c.2.1 k hk, c.2.2⟩
  have hr2 : (T2.1 r).1 = 5 := by rw [ek]; exact hr
  have hlb := lsN_b c.1 hb m (Nat.le_refl _)
  refine G_pop (pc := 13) dX7_add_13 rfl ?_
  refine G_aload_0 (pc := 14) dX7_add_14 ?_
  refine G_aload_0 (pc := 15) dX7_add_15 ?_
  refine G_tget (pc := 16) (v := vI L) dX7_add_16 rfl ht (by rw [ek]; exact hf) (by rw [ev _ _ (Or.inl hfr)]; exact hL) ?_
  refine G_aload_1 (pc := 19) dX7_add_19 ?_
  refine G_callV0v (pc := 20) (d' := 4) dX7_add_20 rfl (by rw [zT_at ht hr2 (by omega)]; exact hr2) (by decide) rfl (ok_X5_least ht hr2 (by rw [ev _ _ (Or.inr (by omega))]; exact h0) c2 (fun k hk => by rw [ev _ _ (Or.inr (by omega))]; exact hN k hk) hb (Nat.le_refl _)) (by omega) (by omega) (by omega) (Nat.le_of_ble_eq_true rfl) (fun v h' z => ?_)
  obtain ⟨rfl, T3, ht3, hx3⟩ := z
  refine G_pS2 (pc := 23) dX7_add_23 rfl rfl (pu_J9_min (by omega) (by omega)) (by omega) (by omega) (by omega) (Nat.le_of_ble_eq_true rfl) ?_
  refine G_tput (pc := 26) dX7_add_26 rfl ht3 (by rw [hx3.2 f (by rw [ek]; omega), ek]; exact hf) (by omega) rfl rfl rfl (fun h ht => ?_)
  refine G_return (pc := 29) dX7_add_29 rfl (by omega) (by omega) ?_
  exact ⟨_, rfl, rfl, T3, hx3, ht⟩
end FACE
