set_option maxRecDepth 100000
/-- the new node -/
def tNode (T : tT) (E : gV) (n b : Nat) (x y : Int) (ns : List Nat) : tT := tLs (tSet (tSet (tSet (tLs (tNew T n (3 + 1, gN 3, fun f => defaultValue (gTy 3 f))) b []) n 2 (.ref b)) n 0 (vI x)) n 1 (vI y)) (gBase E + 6) (ns ++ [n])
section NODE2
variable {E : gV} {l : Launch} {h : gH} {T : tT} {S : mS}
theorem ok_X1_node (ht : zT E h T) (hz : zK E T S) {ns : List Nat} (hls : T.2 (gBase E + 6) = some ns) {NX NY : Nat → Int} (hN : ∀ n, n ∈ ns → (T.1 n).1 = 4 ∧ (T.1 n).2.2 0 = vI (NX n) ∧ (T.1 n).2.2 1 = vI (NY n)) (hNb : ∀ n, n ∈ ns → (-16000 ≤ NX n ∧ NX n ≤ 16000) ∧ (-16000 ≤ NY n ∧ NY n ≤ 16000)) {x y : Int} (hx : -16000 ≤ x ∧ x ≤ 16000) (hy : -16000 ≤ y ∧ y ≤ 16000) (hlen : ns.length < 150) {d : Nat} (hd : 8 ≤ d) :
    gOk E l gX1_node d 3 (6 + gr ns.length) [.ref (gBase E), vI x, vI y] h (gRv (fun v h' => (∃ n, n ∈ ns ∧ NX n = x ∧ NY n = y ∧ v = .ref n ∧ zT E h' T) ∨ ((∀ n, n ∈ ns → ¬ (NX n = x ∧ NY n = y)) ∧ ∃ n b, v = .ref n ∧ ((T.1 n).1 = 0 ∧ T.2 n = none) ∧ ((T.1 b).1 = 0 ∧ T.2 b = none) ∧ b ≠ n ∧ zT E h' (tNode T E n b x y ns)))) := by
  refine gOk_of gmok_X1_node rfl (Nat.le_of_ble_eq_true rfl) (L := [some _, some _, some _, none]) rfl ?_
  obtain ⟨Q, hQ⟩ : ∃ Q, Q = gRet (gRv (fun v h' => (∃ n, n ∈ ns ∧ NX n = x ∧ NY n = y ∧ v = .ref n ∧ zT E h' T) ∨ ((∀ n, n ∈ ns → ¬ (NX n = x ∧ NY n = y)) ∧ ∃ n b, v = .ref n ∧ ((T.1 n).1 = 0 ∧ T.2 n = none) ∧ ((T.1 b).1 = 0 ∧ T.2 b = none) ∧ b ≠ n ∧ zT E h' (tNode T E n b x y ns)))) := ⟨_, rfl⟩
  rw [← hQ]
  have hg3 : gN 3 = 3 := rfl
  have hl7 := hz.2.2.2.1.1
  have k67 : (∀ n, n ∈ ns → ¬ (NX n = x ∧ NY n = y)) → G E l gX1_node d 3 (6 + gr ns.length) Q 67 [some (.ref (gBase E)), some (vI x), some (vI y), none] [] h 0 0 := by
    intro no
    refine G_tnew (pc := 67) (ci := 3) dX1_node_67 rfl ht (by omega) (by omega) (by omega) (fun n h fr1 fr2 fr3 ht => ?_)
    refine G_dup (pc := 70) dX1_node_70 rfl ?_
    refine G_iload_1 (pc := 71) dX1_node_71 ?_
    refine G_iload_2 (pc := 72) dX1_node_72 ?_
    refine G_callI2u (pc := 73) (d' := 5) dX1_node_73 rfl rfl (ok_X4_init ht (by rw [tNew_self]) (Nat.le_refl _)) (by omega) (by omega) (by omega) (Nat.le_of_ble_eq_true rfl) (fun h' q => ?_)
    obtain ⟨b, q1, q2, q3, ht⟩ := q
    rw [tNew_ne _ _ q3] at q1
    have hne : n ≠ gBase E := by intro e; have := hz.1; rw [← e] at this; omega
    have hb6 : b ≠ gBase E + 6 := by intro e; rw [e] at q2; have : T.2 (gBase E + 6) = none := q2; rw [hls] at this; cases this
    have hn6 : n ≠ gBase E + 6 := by intro e; rw [e] at fr2; rw [hls] at fr2; cases fr2
    refine G_astore_3 (pc := 76) dX1_node_76 (by decide) rfl ?_
    refine G_aload_0 (pc := 77) dX1_node_77 ?_
    refine G_tget (pc := 78) (v := .ref (gBase E + 6)) dX1_node_78 rfl ht (by rw [tSet_k, tSet_k, tSet_k]; show ((tNew T n _).1 (gBase E)).1 = 1; rw [tNew_ne _ _ (Ne.symm hne)]; exact hz.1) (by rw [tSet_v, if_neg (by omega), tSet_v, if_neg (by omega), tSet_v, if_neg (by omega)]; show ((tNew T n _).1 (gBase E)).2.2 7 = _; rw [tNew_ne _ _ (Ne.symm hne)]; exact hl7) ?_
    refine G_aload_3 (pc := 81) dX1_node_81 ?_
    refine G_lapp (pc := 82) dX1_node_82 rfl ht (by show (tLs (tNew T n _) b []).2 (gBase E + 6) = _; rw [tLs_ne _ _ (Ne.symm hb6)]; exact hls) (by rw [tSet_k, tSet_k, tSet_k]; show gFitA 33 ((tNew T n _).1 n).1 = true; rw [tNew_self]; rfl) hlen (by omega) (by omega) (by omega) (Nat.le_of_ble_eq_true rfl) (fun h ht => ?_)
    refine G_pop (pc := 85) dX1_node_85 rfl ?_
    refine G_aload_3 (pc := 86) dX1_node_86 ?_
    refine G_areturn (pc := 87) dX1_node_87 rfl (Or.inl ⟨_, rfl⟩) (Or.inr ⟨_, rfl⟩) (by omega) (by omega) ?_
    subst hQ
    exact ⟨_, rfl, _, rfl, Or.inr ⟨no, n, b, rfl, ⟨fr1, fr2⟩, ⟨q1, q2⟩, q3, ht⟩⟩
  have k2 : ∀ (m k : Nat), k + m = ns.length → (∀ j n, j < k → ns[j]? = some n → ¬ (NX n = x ∧ NY n = y)) → G E l gX1_node d 3 (6 + gr ns.length) Q 2 [some (.ref (gBase E)), some (vI x), some (vI y), some (vI k)] [] h 0 0 := by
    intro m
    induction m with
    | zero =>
      intro k hn no
      refine G_iload_3 (pc := 2) dX1_node_2 ?_
      refine G_aload_0 (pc := 3) dX1_node_3 ?_
      refine G_tget (pc := 4) dX1_node_4 rfl ht hz.1 hl7 ?_
      refine G_lsize (pc := 7) dX1_node_7 rfl ht hls (by omega) (by omega) (by omega) (Nat.le_of_ble_eq_true rfl) ?_
      refine G_icmp_ge (pc := 10) 67 dX1_node_10 (by decide) (by omega) (by omega) (fun _ => ?_) (fun q => absurd q (by omega))
      refine G_drop_3 ?_
      refine k67 (fun n hn' => ?_)
      obtain ⟨j, hj, ej⟩ := List.getElem_of_mem hn'
      exact no j n (by omega) (by rw [List.getElem?_eq_getElem hj, ej])
    | succ m ih =>
      intro k hn no
      have hget : ns[k]? = some ns[k] := List.getElem?_eq_getElem (by omega)
      have hm : ns[k] ∈ ns := List.getElem_mem _
      obtain ⟨n, en⟩ : ∃ n, n = ns[k] := ⟨_, rfl⟩
      rw [← en] at hget hm
      have hn1 := hN n hm
      have hn2 := hNb n hm
      have go : ¬ (NX n = x ∧ NY n = y) → G E l gX1_node d 3 (6 + gr ns.length) Q 61 [some (.ref (gBase E)), some (vI x), some (vI y), some (vI k)] [] h 0 0 := by
        intro c
        refine G_iinc_3 (pc := 61) dX1_node_61 (by decide) rfl ?_
        refine G_goto (pc := 64) 2 dX1_node_64 (by decide) ?_
        rw [show ((k : Int) + 1) = ((k + 1 : Nat) : Int) by omega]
        refine ih (k + 1) (by omega) (fun j z hj hz' => ?_)
        by_cases e : j = k
        · subst e; rw [hget] at hz'; cases hz'; exact c
        · exact no j z (by omega) hz'
      refine G_iload_3 (pc := 2) dX1_node_2 ?_
      refine G_aload_0 (pc := 3) dX1_node_3 ?_
      refine G_tget (pc := 4) dX1_node_4 rfl ht hz.1 hl7 ?_
      refine G_lsize (pc := 7) dX1_node_7 rfl ht hls (by omega) (by omega) (by omega) (Nat.le_of_ble_eq_true rfl) ?_
      refine G_icmp_ge (pc := 10) 67 dX1_node_10 (by decide) (by omega) (by omega) (fun q => absurd q (by omega)) (fun _ => ?_)
      refine G_aload_0 (pc := 13) dX1_node_13 ?_
      refine G_tget (pc := 14) dX1_node_14 rfl ht hz.1 hl7 ?_
      refine G_iload_3 (pc := 17) dX1_node_17 ?_
      refine G_lget (pc := 18) dX1_node_18 rfl ht hls hget (by omega) (by omega) (by omega) (Nat.le_of_ble_eq_true rfl) ?_
      refine G_tcast (pc := 21) dX1_node_21 rfl ht hn1.1 ?_
      refine G_tget (pc := 24) dX1_node_24 rfl ht hn1.1 hn1.2.1 ?_
      refine G_iload_1 (pc := 27) dX1_node_27 ?_
      refine G_icmp_ne (pc := 28) 61 dX1_node_28 (by decide) (by omega) (by omega) (fun c => go (fun q => c q.1)) (fun c => ?_)
      refine G_aload_0 (pc := 31) dX1_node_31 ?_
      refine G_tget (pc := 32) dX1_node_32 rfl ht hz.1 hl7 ?_
      refine G_iload_3 (pc := 35) dX1_node_35 ?_
      refine G_lget (pc := 36) dX1_node_36 rfl ht hls hget (by omega) (by omega) (by omega) (Nat.le_of_ble_eq_true rfl) ?_
      refine G_tcast (pc := 39) dX1_node_39 rfl ht hn1.1 ?_
      refine G_tget (pc := 42) dX1_node_42 rfl ht hn1.1 hn1.2.2 ?_
      refine G_iload_2 (pc := 45) dX1_node_45 ?_
      refine G_icmp_ne (pc := 46) 61 dX1_node_46 (by decide) (by omega) (by omega) (fun c => go (fun q => c q.2)) (fun c2 => ?_)
      refine G_aload_0 (pc := 49) dX1_node_49 ?_
      refine G_tget (pc := 50) dX1_node_50 rfl ht hz.1 hl7 ?_
      refine G_iload_3 (pc := 53) dX1_node_53 ?_
      refine G_lget (pc := 54) dX1_node_54 rfl ht hls hget (by omega) (by omega) (by omega) (Nat.le_of_ble_eq_true rfl) ?_
      refine G_tcast (pc := 57) dX1_node_57 rfl ht hn1.1 ?_
      refine G_areturn (pc := 60) dX1_node_60 rfl (Or.inl ⟨_, rfl⟩) (Or.inr ⟨_, rfl⟩) (by omega) (by omega) ?_
      subst hQ
      exact ⟨_, rfl, _, rfl, Or.inl ⟨n, hm, c, c2, rfl, ht⟩⟩
  refine G_iconst (pc := 0) dX1_node_0 ?_
  refine G_istore_3 (pc := 1) dX1_node_1 (by decide) rfl ?_
  exact k2 ns.length 0 (by omega) (fun j n hj => absurd hj (by omega))
end NODE2
