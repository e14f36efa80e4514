set_option maxRecDepth 100000
def lsA (N : Nat → Int) (xs : List Nat) : Nat → Int
  | 0 => 120
  | k + 1 => mnI (lsA N xs k) (N (xs.getD k 0))
section NODE3
variable {E : gV} {l : Launch} {h : gH} {T : tT} {S : mS}
theorem pu_X1_number (ht : zT E h T) (hz : zK E T S) {fs : List Nat} (hls : T.2 (gBase E + 9) = some fs) {f k : Nat} (hk : fs[k]? = some f) (hno : ∀ j g, j < k → fs[j]? = some g → g ≠ f) (hlen : fs.length < 150) : gPu E l gX1_number 4 [.ref (gBase E), .ref f] h (vI k) := by
  intro d hd
  refine gOk_of gmok_X1_number rfl (Nat.le_of_ble_eq_true rfl) (L := [some _, some _, none]) rfl ?_
  obtain ⟨Q, hQ⟩ : ∃ Q, Q = gRet (gRv (fun v h' => v = vI k ∧ h' = h)) := ⟨_, rfl⟩
  rw [← hQ]
  have hkl : k < fs.length := (List.getElem?_eq_some_iff.mp hk).1
  have hl := hz.2.2.2.1.2.2
  have k2 : ∀ (n j : Nat), j + n = k → G E l gX1_number d 0 0 Q 2 [some (.ref (gBase E)), some (.ref f), some (vI j)] [] h 0 0 := by
    intro n
    induction n with
    | zero =>
      intro j hn
      have ej : j = k := by omega
      subst ej
      refine G_aload_0 (pc := 2) dX1_number_2 ?_
      refine G_tget (pc := 3) dX1_number_3 rfl ht hz.1 hl ?_
      refine G_iload_2 (pc := 6) dX1_number_6 ?_
      refine G_lget (pc := 7) dX1_number_7 rfl ht hls hk (by omega) (by omega) (by omega) (Nat.le_of_ble_eq_true rfl) ?_
      refine G_aload_1 (pc := 10) dX1_number_10 ?_
      refine G_acmp_eq (pc := 11) 20 dX1_number_11 (by decide) (fun _ => ?_) (fun q => absurd rfl q)
      refine G_iload_2 (pc := 20) dX1_number_20 ?_
      refine G_ireturn (pc := 21) dX1_number_21 rfl rfl (by omega) (by omega) ?_
      subst hQ
      exact ⟨_, rfl, _, rfl, rfl, rfl⟩
    | succ n ih =>
      intro j hn
      have hget : fs[j]? = some fs[j] := List.getElem?_eq_getElem (by omega)
      refine G_aload_0 (pc := 2) dX1_number_2 ?_
      refine G_tget (pc := 3) dX1_number_3 rfl ht hz.1 hl ?_
      refine G_iload_2 (pc := 6) dX1_number_6 ?_
      refine G_lget (pc := 7) dX1_number_7 rfl ht hls hget (by omega) (by omega) (by omega) (Nat.le_of_ble_eq_true rfl) ?_
      refine G_aload_1 (pc := 10) dX1_number_10 ?_
      refine G_acmp_eq (pc := 11) 20 dX1_number_11 (by decide) (fun q => absurd q (hno j _ (by omega) hget)) (fun _ => ?_)
      refine G_iinc_2 (pc := 14) dX1_number_14 (by decide) rfl ?_
      refine G_goto (pc := 17) 2 dX1_number_17 (by decide) ?_
      rw [show ((j : Int) + 1) = ((j + 1 : Nat) : Int) by omega]
      exact ih (j + 1) (by omega)
  refine G_iconst (pc := 0) dX1_number_0 ?_
  refine G_istore_2 (pc := 1) dX1_number_1 (by decide) rfl ?_
  exact k2 k 0 (by omega)
theorem lsA_b {N : Nat → Int} {xs : List Nat} (hb : ∀ y, y ∈ xs → 0 ≤ N y ∧ N y < 120) (k : Nat) (hk : k ≤ xs.length) : 0 ≤ lsA N xs k ∧ lsA N xs k ≤ 120 := by
  induction k with
  | zero => simp [lsA]
  | succ k ih =>
    have h1 := ih (by omega)
    have h2 := hb (xs.getD k 0) (by rw [List.getD_eq_getElem?_getD, List.getElem?_eq_getElem (by omega)]; exact List.getElem_mem _)
    unfold lsA mnI
    split <;> omega
theorem pu_X1_leastAt (ht : zT E h T) {n b : Nat} {xs : List Nat} (hn4 : (T.1 n).1 = 4) (hl : (T.1 n).2.2 2 = .ref b) (hls : T.2 b = some xs) {N : Nat → Int} (hN : ∀ y, y ∈ xs → (T.1 y).1 = 3 ∧ (T.1 y).2.2 0 = vI (N y)) (hb : ∀ y, y ∈ xs → 0 ≤ N y ∧ N y < 120) (hlen : xs.length < 150) : gPu E l gX1_leastAt 4 [.ref (gBase E), .ref n] h (vI (lsA N xs xs.length)) := by
  intro d hd
  refine gOk_of gmok_X1_leastAt rfl (Nat.le_of_ble_eq_true rfl) (L := [some _, some _, none, none]) rfl ?_
  obtain ⟨Q, hQ⟩ : ∃ Q, Q = gRet (gRv (fun v h' => v = vI (lsA N xs xs.length) ∧ h' = h)) := ⟨_, rfl⟩
  rw [← hQ]
  have k5 : ∀ (m k : Nat), k + m = xs.length → G E l gX1_leastAt d 0 0 Q 5 [some (.ref (gBase E)), some (.ref n), some (vI (lsA N xs k)), some (vI k)] [] h 0 0 := by
    intro m
    induction m with
    | zero =>
      intro k hn
      have ek : k = xs.length := by omega
      refine G_iload_3 (pc := 5) dX1_leastAt_5 ?_
      refine G_aload_1 (pc := 6) dX1_leastAt_6 ?_
      refine G_tget (pc := 7) dX1_leastAt_7 rfl ht hn4 hl ?_
      refine G_lsize (pc := 10) dX1_leastAt_10 rfl ht hls (by omega) (by omega) (by omega) (Nat.le_of_ble_eq_true rfl) ?_
      refine G_icmp_ge (pc := 13) 41 dX1_leastAt_13 (by decide) (by omega) (by omega) (fun _ => ?_) (fun q => absurd q (by omega))
      refine G_iload_2 (pc := 41) dX1_leastAt_41 ?_
      refine G_ireturn (pc := 42) dX1_leastAt_42 rfl rfl (by omega) (by omega) ?_
      subst hQ
      exact ⟨_, rfl, _, rfl, by rw [ek], rfl⟩
    | succ m ih =>
      intro k hn
      have hget : xs[k]? = some (xs.getD k 0) := by rw [List.getD_eq_getElem?_getD, List.getElem?_eq_getElem (by omega)]; rfl
      have hm : xs.getD k 0 ∈ xs := List.mem_of_getElem? hget
      have hy := hN _ hm
      have hyb := hb _ hm
      have hlb := lsA_b hb k (by omega)
      refine G_iload_3 (pc := 5) dX1_leastAt_5 ?_
      refine G_aload_1 (pc := 6) dX1_leastAt_6 ?_
      refine G_tget (pc := 7) dX1_leastAt_7 rfl ht hn4 hl ?_
      refine G_lsize (pc := 10) dX1_leastAt_10 rfl ht hls (by omega) (by omega) (by omega) (Nat.le_of_ble_eq_true rfl) ?_
      refine G_icmp_ge (pc := 13) 41 dX1_leastAt_13 (by decide) (by omega) (by omega) (fun q => absurd q (by omega)) (fun _ => ?_)
      refine G_iload_2 (pc := 16) dX1_leastAt_16 ?_
      refine G_aload_1 (pc := 17) dX1_leastAt_17 ?_
      refine G_tget (pc := 18) dX1_leastAt_18 rfl ht hn4 hl ?_
      refine G_iload_3 (pc := 21) dX1_leastAt_21 ?_
      refine G_lget (pc := 22) dX1_leastAt_22 rfl ht hls hget (by omega) (by omega) (by omega) (Nat.le_of_ble_eq_true rfl) ?_
      refine G_tcast (pc := 25) dX1_leastAt_25 rfl ht hy.1 ?_
      refine G_tget (pc := 28) dX1_leastAt_28 rfl ht hy.1 hy.2 ?_
      refine G_pS2 (pc := 31) dX1_leastAt_31 rfl rfl (pu_J9_min (by omega) (by omega)) (by omega) (by omega) (by omega) (Nat.le_of_ble_eq_true rfl) ?_
      refine G_istore_2 (pc := 34) dX1_leastAt_34 (by decide) rfl ?_
      refine G_iinc_3 (pc := 35) dX1_leastAt_35 (by decide) rfl ?_
      refine G_goto (pc := 38) 5 dX1_leastAt_38 (by decide) ?_
      rw [show ((k : Int) + 1) = ((k + 1 : Nat) : Int) by omega]
      exact ih (k + 1) (by omega)
  refine G_bipush (pc := 0) dX1_leastAt_0 (by omega) ?_
  refine G_istore_2 (pc := 2) dX1_leastAt_2 (by decide) rfl ?_
  refine G_iconst (pc := 3) dX1_leastAt_3 ?_
  refine G_istore_3 (pc := 4) dX1_leastAt_4 (by decide) rfl ?_
  exact k5 xs.length 0 (by omega)
/-- the node next below a place, of the first k -/
def nbP (NX NY : Nat → Int) (x y : Int) (ns : List Nat) (k : Nat) (r : Option Nat) : Prop :=
  (r = none ∧ ∀ j n, j < k → ns[j]? = some n → ¬ (NX n = x ∧ NY n < y)) ∨ ∃ n, r = some n ∧ n ∈ ns ∧ NX n = x ∧ NY n < y ∧ ∀ j m, j < k → ns[j]? = some m → NX m = x → NY m < y → NY m ≤ NY n
def rfO (r : Option Nat) : Value := match r with
  | some n => .ref n
  | none => .null
theorem ok_X1_nodeBelow (ht : zT E h T) (hz : zK E T S) {ns : List Nat} (hls : T.2 (gBase E + 6) = some ns) {NX NY : Nat → Int} (hN : ∀ n, n ∈ ns → (T.1 n).1 = 4 ∧ (T.1 n).2.2 0 = vI (NX n) ∧ (T.1 n).2.2 1 = vI (NY n)) (hNb : ∀ n, n ∈ ns → (-16000 ≤ NX n ∧ NX n ≤ 16000) ∧ (-16000 ≤ NY n ∧ NY n ≤ 16000)) {x y : Int} (hx : -16000 ≤ x ∧ x ≤ 16000) (hy : -16000 ≤ y ∧ y ≤ 16000) (hlen : ns.length < 150) {d : Nat} (hd : 4 ≤ d) :
    gOk E l gX1_nodeBelow d 0 0 [.ref (gBase E), vI x, vI y] h (gRv (fun v h' => h' = h ∧ ∃ r, v = rfO r ∧ nbP NX NY x y ns ns.length r)) := by
  refine gOk_of gmok_X1_nodeBelow rfl (Nat.le_of_ble_eq_true rfl) (L := [some _, some _, some _, none, none, none]) rfl ?_
  obtain ⟨Q, hQ⟩ : ∃ Q, Q = gRet (gRv (fun v h' => h' = h ∧ ∃ r, v = rfO r ∧ nbP NX NY x y ns ns.length r)) := ⟨_, rfl⟩
  rw [← hQ]
  have hl7 := hz.2.2.2.1.1
  have k5 : ∀ (m k : Nat), k + m = ns.length → ∀ r, nbP NX NY x y ns k r → G E l gX1_nodeBelow d 0 0 Q 5 [some (.ref (gBase E)), some (vI x), some (vI y), some (rfO r), some (vI k), none] [] h 0 0 := by
    intro m
    induction m with
    | zero =>
      intro k hn r hr
      have ek : k = ns.length := by omega
      subst ek
      refine G_iload_4 (pc := 5) dX1_nodeBelow_5 ?_
      refine G_aload_0 (pc := 7) dX1_nodeBelow_7 ?_
      refine G_tget (pc := 8) dX1_nodeBelow_8 rfl ht hz.1 hl7 ?_
      refine G_lsize (pc := 11) dX1_nodeBelow_11 rfl ht hls (by omega) (by omega) (by omega) (Nat.le_of_ble_eq_true rfl) ?_
      refine G_icmp_ge (pc := 14) 74 dX1_nodeBelow_14 (by decide) (by omega) (by omega) (fun _ => ?_) (fun q => absurd q (by omega))
      cases r with
      | none =>
        refine G_aloadN_3 (pc := 74) dX1_nodeBelow_74 ?_
        refine G_areturn (pc := 75) dX1_nodeBelow_75 rfl (Or.inl ⟨_, rfl⟩) (Or.inl rfl) (by omega) (by omega) ?_
        subst hQ
        exact ⟨_, rfl, _, rfl, rfl, none, rfl, hr⟩
      | some n =>
        refine G_aload_3 (pc := 74) dX1_nodeBelow_74 ?_
        refine G_areturn (pc := 75) dX1_nodeBelow_75 rfl (Or.inl ⟨_, rfl⟩) (Or.inr ⟨_, rfl⟩) (by omega) (by omega) ?_
        subst hQ
        exact ⟨_, rfl, _, rfl, rfl, some n, rfl, hr⟩
    | succ m ih =>
      intro k hn r hr
      have hget : ns[k]? = some ns[k] := List.getElem?_eq_getElem (by omega)
      have hm : ns[k] ∈ ns := List.getElem_mem _
      obtain ⟨n, en⟩ : ∃ n, n = ns[k] := ⟨_, rfl⟩
      rw [← en] at hget hm
      have hn1 := hN n hm
      have hn2 := hNb n hm
      have go : ∀ r', nbP NX NY x y ns (k + 1) r' → G E l gX1_nodeBelow d 0 0 Q 68 [some (.ref (gBase E)), some (vI x), some (vI y), some (rfO r'), some (vI k), some (.ref n)] [] h 0 0 := by
        intro r' hr'
        refine G_drop_5 ?_
        refine G_iinc_4 (pc := 68) dX1_nodeBelow_68 (by decide) (by cases r' <;> rfl) ?_
        refine G_goto (pc := 71) 5 dX1_nodeBelow_71 (by decide) ?_
        rw [show ((k : Int) + 1) = ((k + 1 : Nat) : Int) by omega]
        exact ih (k + 1) (by omega) r' hr'
      have keep : (¬ (NX n = x ∧ NY n < y) ∨ ∃ q, r = some q ∧ NY n ≤ NY q) → nbP NX NY x y ns (k + 1) r := by
        intro c
        rcases hr with ⟨e, hr⟩ | ⟨q, e, q1, q2, q3, q4⟩
        · refine Or.inl ⟨e, fun j z hj hz' => ?_⟩
          by_cases ej : j = k
          · subst ej; rw [hget] at hz'; cases hz'
            rcases c with c | ⟨q, c, -⟩
            · exact c
            · rw [e] at c; cases c
          · exact hr j z (by omega) hz'
        · refine Or.inr ⟨q, e, q1, q2, q3, fun j z hj hz' h1 h2 => ?_⟩
          by_cases ej : j = k
          · subst ej; rw [hget] at hz'; cases hz'
            rcases c with c | ⟨q', c, c'⟩
            · exact absurd ⟨h1, h2⟩ c
            · rw [e] at c; cases c; exact c'
          · exact q4 j z (by omega) hz' h1 h2
      have take : NX n = x → NY n < y → (∀ q, r = some q → NY q < NY n) → nbP NX NY x y ns (k + 1) (some n) := by
        intro h1 h2 h3
        refine Or.inr ⟨n, rfl, hm, h1, h2, fun j z hj hz' g1 g2 => ?_⟩
        by_cases ej : j = k
        · subst ej; rw [hget] at hz'; cases hz'; exact Int.le_refl _
        · rcases hr with ⟨e, hr⟩ | ⟨q, e, q1, q2, q3, q4⟩
          · exact absurd ⟨g1, g2⟩ (hr j z (by omega) hz')
          · have := q4 j z (by omega) hz' g1 g2
            have := h3 q e
            omega
      refine G_iload_4 (pc := 5) dX1_nodeBelow_5 ?_
      refine G_aload_0 (pc := 7) dX1_nodeBelow_7 ?_
      refine G_tget (pc := 8) dX1_nodeBelow_8 rfl ht hz.1 hl7 ?_
      refine G_lsize (pc := 11) dX1_nodeBelow_11 rfl ht hls (by omega) (by omega) (by omega) (Nat.le_of_ble_eq_true rfl) ?_
      refine G_icmp_ge (pc := 14) 74 dX1_nodeBelow_14 (by decide) (by omega) (by omega) (fun q => absurd q (by omega)) (fun _ => ?_)
      refine G_aload_0 (pc := 17) dX1_nodeBelow_17 ?_
      refine G_tget (pc := 18) dX1_nodeBelow_18 rfl ht hz.1 hl7 ?_
      refine G_iload_4 (pc := 21) dX1_nodeBelow_21 ?_
      refine G_lget (pc := 23) dX1_nodeBelow_23 rfl ht hls hget (by omega) (by omega) (by omega) (Nat.le_of_ble_eq_true rfl) ?_
      refine G_tcast (pc := 26) dX1_nodeBelow_26 rfl ht hn1.1 ?_
      refine G_astore_5 (pc := 29) dX1_nodeBelow_29 (by decide) rfl ?_
      refine G_aload_5 (pc := 31) dX1_nodeBelow_31 ?_
      refine G_tget (pc := 33) dX1_nodeBelow_33 rfl ht hn1.1 hn1.2.1 ?_
      refine G_iload_1 (pc := 36) dX1_nodeBelow_36 ?_
      refine G_icmp_ne (pc := 37) 68 dX1_nodeBelow_37 (by decide) (by omega) (by omega) (fun c => go r (keep (Or.inl (fun q => c q.1)))) (fun c1 => ?_)
      refine G_aload_5 (pc := 40) dX1_nodeBelow_40 ?_
      refine G_tget (pc := 42) dX1_nodeBelow_42 rfl ht hn1.1 hn1.2.2 ?_
      refine G_iload_2 (pc := 45) dX1_nodeBelow_45 ?_
      refine G_icmp_ge (pc := 46) 68 dX1_nodeBelow_46 (by decide) (by omega) (by omega) (fun c => go r (keep (Or.inl (fun q => by omega)))) (fun c2 => ?_)
      cases r with
      | none =>
        refine G_aloadN_3 (pc := 49) dX1_nodeBelow_49 ?_
        refine G_ifnullN (pc := 50) 65 dX1_nodeBelow_50 (by decide) ?_
        refine G_aload_5 (pc := 65) dX1_nodeBelow_65 ?_
        refine G_astore_3 (pc := 67) dX1_nodeBelow_67 (by decide) rfl ?_
        exact go (some n) (take c1 (by omega) (fun q e => by cases e))
      | some q =>
        have hqm : q ∈ ns := by
          rcases hr with ⟨e, -⟩ | ⟨q', e, q1, -⟩
          · cases e
          · cases e; exact q1
        have hq1 := hN q hqm
        have hq2 := hNb q hqm
        refine G_aload_3 (pc := 49) dX1_nodeBelow_49 ?_
        refine G_ifnull (pc := 50) dX1_nodeBelow_50 ?_
        refine G_aload_5 (pc := 53) dX1_nodeBelow_53 ?_
        refine G_tget (pc := 55) dX1_nodeBelow_55 rfl ht hn1.1 hn1.2.2 ?_
        refine G_aload_3 (pc := 58) dX1_nodeBelow_58 ?_
        refine G_tget (pc := 59) dX1_nodeBelow_59 rfl ht hq1.1 hq1.2.2 ?_
        refine G_icmp_le (pc := 62) 68 dX1_nodeBelow_62 (by decide) (by omega) (by omega) (fun c => go (some q) (keep (Or.inr ⟨q, rfl, c⟩))) (fun c3 => ?_)
        refine G_aload_5 (pc := 65) dX1_nodeBelow_65 ?_
        refine G_astore_3 (pc := 67) dX1_nodeBelow_67 (by decide) rfl ?_
        exact go (some n) (take c1 (by omega) (fun q' e => by cases e; omega))
  refine G_aconst_null (pc := 0) dX1_nodeBelow_0 ?_
  refine G_astoreN_3 (pc := 1) dX1_nodeBelow_1 (by decide) rfl ?_
  refine G_iconst (pc := 2) dX1_nodeBelow_2 ?_
  refine G_istore_4 (pc := 3) dX1_nodeBelow_3 (by decide) rfl ?_
  exact k5 ns.length 0 (by omega) none (Or.inl ⟨rfl, fun j n hj => absurd hj (by omega)⟩)
end NODE3
