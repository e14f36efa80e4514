set_option maxRecDepth 100000
theorem rdI_G {T T1 : tT} {p : Nat → Nat} {w r k : Nat} (h : rdI T T1 p w r k) (hw : (T.1 w).1 = 0) (hp : ∀ i, i < k → (T.1 (p i)).1 = 3) : tG T T1 := by
  obtain ⟨h1, h2, h4⟩ := h
  have nw : ∀ b, (T.1 b).1 ≠ 0 → b ≠ w := fun b hb e => hb (by rw [e]; exact hw)
  refine ⟨fun b hb => ?_, fun b hb => h2 b (nw b (by unfold tKd at hb; omega)) (fun i hi e => ?_)⟩
  · by_cases c : ∃ i, i < k ∧ b = p i
    · obtain ⟨i, hi, e⟩ := c
      rw [e]
      exact ⟨(h4 i hi).1, (h4 i hi).2.1⟩
    · rw [h2 b (nw b (by omega)) (fun i hi e => c ⟨i, hi, e⟩)]
      exact ⟨hb, fun _ _ => rfl⟩
  · have := hp i hi
    rw [← e] at this
    unfold tKd at hb
    omega
theorem gI_new {E : gV} {S : mS} {T T2 T3 T4 : tT} {HA nx : Nat → Nat} {rs : List Nat} {RA : Nat → Nat} {n r w m : Nat} (g : gI E S T HA nx rs RA n) (hH : ∀ k, kLv S k → (T.1 (HA k)).1 = 3) (inj : ∀ a b, kLv S a → kLv S b → HA a = HA b → a = b) (nn : nxG S nx) (L : kLv S n) (F : fst (kLv S) (orb nx) n) (p : prd nx n m)
    (hr : (T.1 r).1 = 0) (e2 : T2 = tSet (tNew T r (4 + 1, gN 4, fun f => defaultValue (gTy 4 f))) r 0 (.ref (HA n))) (hw : (T2.1 w).1 = 0) (h : rdI T2 T3 (fun i => HA (itN nx i n)) w r m) (e4 : T4 = tLs T3 (gBase E + 8) (rs ++ [r])) : gI E S T4 HA nx (rs ++ [r]) (fU RA n r) (n + 1) := by
  obtain ⟨g1, g2, g3, g4⟩ := g
  obtain ⟨h1, h2, h3⟩ := h
  have at2 : ∀ b, b ≠ r → T2.1 b = T.1 b := fun b hb => by rw [e2, tSet_at _ hb, tNew_ne _ _ hb]
  have r2 : (T2.1 r).1 = 5 ∧ (T2.1 r).2.2 0 = .ref (HA n) ∧ (T2.1 r).2.2 1 = .null := by
    rw [e2]
    refine ⟨by rw [tSet_k, tNew_self], by rw [tSet_v, if_pos ⟨rfl, rfl⟩], by rw [tSet_v, if_neg (by omega), tNew_self]; rfl⟩
  have Lp := itN_L nn.1 L
  have kp : ∀ i, (T2.1 (HA (itN nx i n))).1 = 3 := fun i => by
    have := hH _ (Lp i)
    rw [at2 _ (fun e => by rw [e] at this; omega)]
    exact this
  have at3 : ∀ b, (T2.1 b).1 = 5 → T3.1 b = T2.1 b := fun b hb => h2 b (fun e => by rw [e] at hb; omega) (fun i _ e => by have := kp i; have e : b = HA (itN nx i n) := e; rw [← e] at this; omega)
  have t4 : T4.1 = T3.1 := by rw [e4]; rfl
  refine ⟨by rw [e4]; exact tLs_self _ _ _, by rw [List.length_append, rk_pos F, g2]; rfl, fun f hf Ff => ?_, fun k Lk => ?_⟩
  · rw [t4]
    by_cases e : f = n
    · subst e
      rw [fU_s, at3 r r2.1]
      refine ⟨?_, r2⟩
      rw [← g2, List.getElem?_append_right (Nat.le_refl _), Nat.sub_self]
      rfl
    · rw [fU_n _ _ e]
      have q := g3 f (by omega) Ff
      have nr : RA f ≠ r := fun e => by have := q.2.1; rw [e] at this; omega
      have k5 : (T2.1 (RA f)).1 = 5 := by rw [at2 _ nr]; exact q.2.1
      rw [at3 _ k5, at2 _ nr]
      refine ⟨?_, q.2⟩
      rw [List.getElem?_append_left (by rw [g2]; exact rk_lt (by omega) Ff)]
      exact q.1
  · rw [t4]
    by_cases o : orb nx n k
    · left
      obtain ⟨i, hi, ei⟩ := (orb_lt p).mp o
      refine ⟨n, by omega, F, o, ?_⟩
      rw [← ei, fU_s]
      exact (h3 i hi).2.2
    · have kk := hH k Lk
      have ne : HA k ≠ r := fun e => by rw [e] at kk; omega
      have e3 : T3.1 (HA k) = T.1 (HA k) := by
        rw [h2 (HA k) (fun e => by rw [← e, at2 _ ne] at hw; omega) (fun i _ e => o ⟨i, inj _ _ (Lp i) Lk e.symm⟩), at2 _ ne]
      rw [e3]
      rcases g4 k Lk with ⟨f, a, b, c, dd⟩ | ⟨a, b⟩
      · exact Or.inl ⟨f, by omega, b, c, by rw [fU_n _ _ (by omega)]; exact dd⟩
      · refine Or.inr ⟨fun f hf Ff => ?_, b⟩
        by_cases e : f = n
        · subst e; exact o
        · exact a f (by omega) Ff
section GOR
variable {E : gV} {l : Launch} {T : tT} {S : mS} {d : Nat} {h : gH} {HA ND : Nat → Nat} {ns : List Nat} {NX NY : Nat → Int} {LA : Nat → Nat} {LN : Nat → List Nat}
theorem ok_X1_goRound (ht : zT E h T) (hz : zK E T S) (j : jG E S T HA ND ns NX NY LA LN) (nn : nxG S (nxF LN ND)) (r4 : ∀ k, kLv S k → (T.1 (HA k)).2.2 4 = .null) {rs0 : List Nat} (hr : T.2 (gBase E + 8) = some rs0) (hd : 9 ≤ d) :
    gOk E l gX1_goRound d 360 1074 [.ref (gBase E)] h (gRu (fun h' => ∃ T' rs RA, zT E h' T' ∧ zK E T' S ∧ tG T T' ∧ (tl E T T' ∧ T'.2 (gBase E + 9) = T.2 (gBase E + 9)) ∧ gI E S T' HA (nxF LN ND) rs RA 120)) := by
  refine gOk_of gmok_X1_goRound rfl (Nat.le_of_ble_eq_true rfl) (L := [some _, none, none, none, none]) rfl ?_
  obtain ⟨Q, hQ⟩ : ∃ Q, Q = gRet (gRu (fun h' => ∃ T' rs RA, zT E h' T' ∧ zK E T' S ∧ tG T T' ∧ (tl E T T' ∧ T'.2 (gBase E + 9) = T.2 (gBase E + 9)) ∧ gI E S T' HA (nxF LN ND) rs RA 120)) := ⟨_, rfl⟩
  rw [← hQ]
  have hg4 : gN 4 = 2 := rfl
  obtain ⟨nx, enx⟩ : ∃ nx, nx = nxF LN ND := ⟨_, rfl⟩
  rw [← enx] at nn
  have k9 : ∀ (m n : Nat), n + m = 120 → ∀ h T1 rs RA uc us, zT E h T1 → zK E T1 S → tG T T1 → (tl E T T1 ∧ T1.2 (gBase E + 9) = T.2 (gBase E + 9)) → gI E S T1 HA nx rs RA n → uc ≤ 3 * n → us ≤ 5 * n + rgs rs.length → G E l gX1_goRound d 360 1074 Q 9 [some (.ref (gBase E)), some (vI n), none, none, none] [] h uc us := by
    intro m
    induction m with
    | zero =>
      intro n hn h T1 rs RA uc us ht hz tg tl' gi hu hv
      have en : n = 120 := by omega
      subst en
      have hrs : rs.length ≤ 120 := by rw [gi.2.1]; exact rk_n _
      have rb := rgs_b (show rs.length ≤ 149 by omega)
      have k8 := hz.2.2.2.2.1
      refine G_iload_1 (pc := 9) dX1_goRound_9 ?_
      refine G_aload_0 (pc := 10) dX1_goRound_10 ?_
      refine G_tget (pc := 11) dX1_goRound_11 rfl ht hz.1 k8.1 ?_
      refine G_talen (pc := 14) dX1_goRound_14 ht (by omega) k8.2.2 ?_
      refine G_icmp_ge (pc := 15) 105 dX1_goRound_15 (by decide) (by omega) (by omega) (fun _ => ?_) (fun q => absurd q (by omega))
      refine G_return (pc := 105) dX1_goRound_105 rfl (by omega) (by omega) ?_
      subst hQ
      exact ⟨_, rfl, rfl, T1, rs, RA, ht, hz, tg, tl', by rw [← enx]; exact gi⟩
    | succ m ih =>
      intro n hn h T1 rs RA uc us ht hz tg tl' gi hu hv
      have hrs : rs.length ≤ n := by rw [gi.2.1]; exact rk_n _
      have rb := rgs_b (show rs.length ≤ 149 by omega)
      have k8 := hz.2.2.2.2.1
      have j1 := jG_keep j tg tl'.1
      have go : gI E S T1 HA nx rs RA (n + 1) → G E l gX1_goRound d 360 1074 Q 99 [some (.ref (gBase E)), some (vI n), none, none, none] [] h uc us := by
        intro gi2
        refine G_iinc_1 (pc := 99) dX1_goRound_99 (by decide) rfl ?_
        refine G_goto (pc := 102) 9 dX1_goRound_102 (by decide) ?_
        rw [show ((n : Int) + 1) = ((n + 1 : Nat) : Int) by omega]
        exact ih (n + 1) (by omega) h T1 rs RA uc us ht hz tg tl' gi2 (by omega) (by omega)
      have arr := j1.2.2.2.1 n (by omega)
      refine G_iload_1 (pc := 9) dX1_goRound_9 ?_
      refine G_aload_0 (pc := 10) dX1_goRound_10 ?_
      refine G_tget (pc := 11) dX1_goRound_11 rfl ht hz.1 k8.1 ?_
      refine G_talen (pc := 14) dX1_goRound_14 ht (by omega) k8.2.2 ?_
      refine G_icmp_ge (pc := 15) 105 dX1_goRound_15 (by decide) (by omega) (by omega) (fun q => absurd q (by omega)) (fun _ => ?_)
      refine G_aload_0 (pc := 18) dX1_goRound_18 ?_
      refine G_tget (pc := 19) dX1_goRound_19 rfl ht hz.1 k8.1 ?_
      refine G_iload_1 (pc := 22) dX1_goRound_22 ?_
      by_cases L : kLv S n
      · rw [zI_pos L] at arr
        have q := j1.2.1 n L
        refine G_taald (pc := 23) (v := .ref (HA n)) dX1_goRound_23 ht (Or.inl k8.2.1) (by rw [k8.2.2]; omega) (by rw [k8.2.2]; omega) (by rw [Int.toNat_natCast]; exact arr) ?_
        refine G_ifnull (pc := 24) dX1_goRound_24 ?_
        refine G_aload_0 (pc := 27) dX1_goRound_27 ?_
        refine G_tget (pc := 28) dX1_goRound_28 rfl ht hz.1 k8.1 ?_
        refine G_iload_1 (pc := 31) dX1_goRound_31 ?_
        refine G_taald (pc := 32) (v := .ref (HA n)) dX1_goRound_32 ht (Or.inl k8.2.1) (by rw [k8.2.2]; omega) (by rw [k8.2.2]; omega) (by rw [Int.toNat_natCast]; exact arr) ?_
        rcases gi.2.2.2 n L with ⟨f, f1, f2, f3, f4⟩ | ⟨nf, f4⟩
        · refine G_tget (pc := 33) dX1_goRound_33 rfl ht q.1.1.1 f4 ?_
          refine G_ifnull (pc := 36) dX1_goRound_36 ?_
          refine G_goto (pc := 39) 99 dX1_goRound_39 (by decide) ?_
          exact go (gI_skip gi (fun F => F.2 f f1 f2.1 f3))
        · have F : fst (kLv S) (orb nx) n := by
            refine ⟨L, fun g hg G o => ?_⟩
            obtain ⟨f, a1, a2, a3⟩ := fst_ex (L := kLv S) (R := orb nx) (fun a _ => orb_rf nx a) m_otr g G
            exact nf f (by omega) a2 (orb_tr a3 o)
          obtain ⟨M, pM⟩ := nn.2 n L
          have gb := gr_c (show rs.length < 150 by omega)
          have rs1 : rgs (rs.length + 1) = rgs rs.length + grc rs.length := rfl
          have rb1 := rgs_b (show rs.length + 1 ≤ 149 by omega)
          refine G_tget (pc := 33) dX1_goRound_33 rfl ht q.1.1.1 f4 ?_
          refine G_ifnullN (pc := 36) 42 dX1_goRound_36 (by decide) ?_
          refine G_tnew (pc := 42) (ci := 4) dX1_goRound_42 rfl ht (by omega) (by omega) (by omega) (fun r h fr1 fr2 fr3 ht2 => ?_)
          have hz2 := zK_new (q := (4 + 1, gN 4, fun f => defaultValue (gTy 4 f))) hz fr1
          have r7 : gBase E + 7 ≠ r := fun e => by have := k8.2.1; rw [e] at this; omega
          refine G_dup (pc := 45) dX1_goRound_45 rfl ?_
          refine G_aload_0 (pc := 46) dX1_goRound_46 ?_
          refine G_tget (pc := 47) dX1_goRound_47 rfl ht2 hz2.1 hz2.2.2.2.2.1.1 ?_
          refine G_iload_1 (pc := 50) dX1_goRound_50 ?_
          refine G_taald (pc := 51) (v := .ref (HA n)) dX1_goRound_51 ht2 (Or.inl hz2.2.2.2.2.1.2.1) (by rw [hz2.2.2.2.2.1.2.2]; omega) (by rw [hz2.2.2.2.2.1.2.2]; omega) (by rw [Int.toNat_natCast, tNew_ne _ _ r7]; exact arr) ?_
          refine G_callI1u (pc := 52) (d' := 2) dX1_goRound_52 rfl rfl (ok_X5_init ht2 (by rw [tNew_self]) (Nat.le_refl _)) (by omega) (by omega) (by omega) (Nat.le_of_ble_eq_true rfl) (fun h ht3 => ?_)
          obtain ⟨T2, e2⟩ : ∃ T2, T2 = tSet (tNew T1 r (4 + 1, gN 4, fun f => defaultValue (gTy 4 f))) r 0 (.ref (HA n)) := ⟨_, rfl⟩
          rw [← e2] at ht3
          have tg2 : tG T1 T2 := by rw [e2]; exact tG_tr (tG_new fr1) (tG_set (Or.inl (by rw [tNew_self])))
          have tl2 : tl E T1 T2 := by rw [e2]; exact fun _ _ _ _ => rfl
          have j2 := jG_keep j1 tg2 tl2
          rw [enx] at pM
          have cy := jG_cyc j2 (by rw [← enx]; exact nn) L pM
          rw [← enx] at pM cy
          have k5 : (T2.1 r).1 = 5 := by rw [e2, tSet_k, tNew_self]
          have v5 : (T2.1 r).2.2 0 = .ref (HA n) := by rw [e2, tSet_v, if_pos ⟨rfl, rfl⟩]
          refine G_astore_2 (pc := 55) dX1_goRound_55 (by decide) rfl ?_
          refine G_aload_2 (pc := 56) dX1_goRound_56 ?_
          refine G_callV0v (pc := 57) (d' := 3) dX1_goRound_57 rfl (by rw [zT_at ht3 k5 (by omega)]; exact k5) (by decide) rfl (ok_X5_iterator ht3 k5 v5 (Nat.le_refl _)) (by omega) (by omega) (by omega) (Nat.le_of_ble_eq_true rfl) (fun x h z => ?_)
          obtain ⟨w, T3, rfl, ht4, wk3⟩ := z
          refine G_astore_3 (pc := 60) dX1_goRound_60 (by decide) rfl ?_
          have w0 := wk3.2.2.1
          have pw : ∀ i, i < M → HA (itN nx i n) ≠ w := fun i hi e => by have : (T2.1 (HA (itN nx i n))).1 = 3 := (cy.2.1 i hi).1; rw [e] at this; omega
          have k61 : ∀ (q k : Nat), k + q = M → ∀ h T4, zT E h T4 → rdI T2 T4 (fun i => HA (itN nx i n)) w r k → ((T4.1 w).1 = 6 ∧ (T4.1 w).2.2 0 = .ref (HA n) ∧ (T4.1 w).2.2 1 = .ref (HA (itN nx k n)) ∧ (T4.1 w).2.2 2 = vI (bI (k = M))) → G E l gX1_goRound d 360 1074 Q 61 [some (.ref (gBase E)), some (vI n), some (.ref r), some (.ref w), none] [] h (uc + 1 + 1) (us + gN 4 + 3) := by
            intro q
            induction q with
            | zero =>
              intro k hk h T4 ht rd wz
              have ek : k = M := by omega
              subst ek
              rw [bI_pos rfl] at wz
              have tg4 := rdI_G rd w0 (fun i hi => (cy.2.1 i hi).1)
              have hz4 := zK_cong (zK_cong hz (tG_K tg2)) (tG_K tg4)
              have l4 : T4.2 = T1.2 := by rw [rd.1, e2]; rfl
              have k4 : (T4.1 r).1 = 5 := by
                rw [rd.2.1 r (fun e => by rw [← e] at w0; omega) (fun i hi e => by have : (T2.1 (HA (itN nx i n))).1 = 3 := (cy.2.1 i hi).1; have e : r = HA (itN nx i n) := e; rw [← e] at this; omega)]; exact k5
              refine G_aload_3 (pc := 61) dX1_goRound_61 ?_
              refine G_has (pc := 62) dX1_goRound_62 q721 (by rw [zT_at ht wz.1 (by omega)]; exact wz.1) (pu_X6_hasNext ht wz.1 wz.2.2.2 (Or.inr rfl)) (by omega) (by omega) (by omega) (Nat.le_of_ble_eq_true rfl) ?_
              refine G_if_eq (pc := 67) 90 dX1_goRound_67 (by decide) (by omega) (fun _ => ?_) (fun q => absurd rfl q)
              refine G_aload_0 (pc := 90) dX1_goRound_90 ?_
              refine G_tget (pc := 91) dX1_goRound_91 rfl ht hz4.1 hz4.2.2.2.1.2.1 ?_
              refine G_aload_2 (pc := 94) dX1_goRound_94 ?_
              refine G_lapp (pc := 95) dX1_goRound_95 rfl ht (by rw [l4]; exact gi.1) (by rw [k4]; rfl) (by omega) (by omega) (by omega) (by omega) (Nat.le_of_ble_eq_true rfl) (fun h ht => ?_)
              refine G_pop (pc := 98) dX1_goRound_98 rfl ?_
              refine G_iinc_1 (pc := 99) dX1_goRound_99 (by decide) rfl ?_
              refine G_goto (pc := 102) 9 dX1_goRound_102 (by decide) ?_
              refine G_drop_2 ?_
              refine G_drop_3 ?_
              rw [show ((n : Int) + 1) = ((n + 1 : Nat) : Int) by omega]
              refine ih (n + 1) (by omega) h _ _ _ _ _ ht (zK_ls hz4) (tG_tr tg (tG_tr tg2 (tG_tr tg4 (tG_ls _ _ _)))) ⟨tl_tr tl'.1 (tl_tr tl2 (tl_tr (fun b _ _ _ => by rw [rd.1]) (tl_ls (Or.inl rfl)))), by rw [tLs_ne _ _ (by omega), l4]; exact tl'.2⟩ (gI_new gi (fun k L => (j1.2.1 k L).1.1.1) (jG_inj j1) nn L F pM fr1 e2 w0 rd rfl) (by omega) ?_
              rw [List.length_append]
              show _ ≤ 5 * (n + 1) + rgs (rs.length + 1)
              omega
            | succ q ihq =>
              intro k hk h T4 ht rd wz
              rw [bI_neg (show ¬ k = M by omega)] at wz
              have ck := cy.2.1 k (by omega)
              have c4 : (T4.1 (HA (itN nx k n))).1 = 3 ∧ ∀ f, f < 4 → (T4.1 (HA (itN nx k n))).2.2 f = (T2.1 (HA (itN nx k n))).2.2 f := by
                by_cases c : ∃ i, i < k ∧ HA (itN nx k n) = HA (itN nx i n)
                · obtain ⟨i, hi, e⟩ := c
                  rw [e]
                  have := rd.2.2 i hi
                  exact ⟨this.1, this.2.1⟩
                · rw [rd.2.1 _ (pw k (by omega)) (fun i hi e => c ⟨i, hi, e⟩)]
                  exact ⟨ck.1, fun _ _ => rfl⟩
              refine G_aload_3 (pc := 61) dX1_goRound_61 ?_
              refine G_has (pc := 62) dX1_goRound_62 q721 (by rw [zT_at ht wz.1 (by omega)]; exact wz.1) (pu_X6_hasNext ht wz.1 wz.2.2.2 (Or.inl rfl)) (by omega) (by omega) (by omega) (Nat.le_of_ble_eq_true rfl) ?_
              refine G_if_eq (pc := 67) 90 dX1_goRound_67 (by decide) (by omega) (fun q => absurd q (by decide)) (fun _ => ?_)
              refine G_aload_3 (pc := 70) dX1_goRound_70 ?_
              refine G_nxt (pc := 71) (d' := 2) dX1_goRound_71 q731 (by rw [zT_at ht wz.1 (by omega)]; exact wz.1) (ok_X6_next ht wz.1 wz.2.1 wz.2.2.1 c4.1 (by rw [c4.2 3 (by omega)]; exact ck.2) (Nat.le_refl _)) (by omega) (by omega) (by omega) (Nat.le_of_ble_eq_true rfl) (fun x h z => ?_)
              obtain ⟨rfl, z⟩ := z
              have cb := cyc_b cy (show k < M by omega)
              have cb : bI (HA (itN nx (k + 1) n) = HA n) = bI (k + 1 = M) := cb
              rw [cb] at z
              have pk : HA (itN nx k n) ≠ w := pw k (by omega)
              refine G_tcast (pc := 76) dX1_goRound_76 rfl z (by rw [tSet_k, tSet_k]; exact c4.1) ?_
              refine G_astore_4 (pc := 79) dX1_goRound_79 (by decide) rfl ?_
              refine G_aload_4 (pc := 81) dX1_goRound_81 ?_
              refine G_aload_2 (pc := 83) dX1_goRound_83 ?_
              refine G_tput (pc := 84) dX1_goRound_84 rfl z (by rw [tSet_k, tSet_k]; exact c4.1) (by omega) rfl rfl rfl (fun h ht => ?_)
              refine G_goto (pc := 87) 61 dX1_goRound_87 (by decide) ?_
              refine G_drop_4 ?_
              refine ihq (k + 1) (by omega) h _ ht (rdI_go rd (fun i hi => pw i (by omega)) c4.1 c4.2) ⟨?_, ?_, ?_, ?_⟩
              · rw [tSet_k, tSet_k, tSet_k]; exact wz.1
              · rw [tSet_v, if_neg (fun q => pk q.1.symm), tSet_v, if_neg (by omega), tSet_v, if_neg (by omega)]; exact wz.2.1
              · rw [tSet_v, if_neg (fun q => pk q.1.symm), tSet_v, if_neg (by omega), tSet_v, if_pos ⟨rfl, rfl⟩]
              · rw [tSet_v, if_neg (fun q => pk q.1.symm), tSet_v, if_pos ⟨rfl, rfl⟩]
          refine k61 M 0 (by omega) h T3 ht4 ⟨wk3.1, fun b hb _ => wk3.2.1 b hb, fun i hi => by omega⟩ ⟨wk3.2.2.2.1, wk3.2.2.2.2.1, wk3.2.2.2.2.2.1, ?_⟩
          rw [bI_neg (show ¬ 0 = M by have := pM.1; omega)]
          exact wk3.2.2.2.2.2.2
      · rw [zI_neg L] at arr
        refine G_taald (pc := 23) (v := .null) dX1_goRound_23 ht (Or.inl k8.2.1) (by rw [k8.2.2]; omega) (by rw [k8.2.2]; omega) (by rw [Int.toNat_natCast]; exact arr) ?_
        refine G_ifnullN (pc := 24) 99 dX1_goRound_24 (by decide) ?_
        exact go (gI_skip gi (fun F => L F.1))
  refine G_aload_0 (pc := 0) dX1_goRound_0 ?_
  refine G_tget (pc := 1) dX1_goRound_1 rfl ht hz.1 hz.2.2.2.1.2.1 ?_
  refine G_lclr (pc := 4) dX1_goRound_4 rfl ht hr (by omega) (by omega) (by omega) (Nat.le_of_ble_eq_true rfl) (fun h ht => ?_)
  refine G_iconst (pc := 7) dX1_goRound_7 ?_
  refine G_istore_1 (pc := 8) dX1_goRound_8 (by decide) rfl ?_
  refine k9 120 0 rfl h _ [] (fun _ => 0) 0 0 ht (zK_ls hz) (tG_ls _ _ _) ⟨tl_ls (Or.inl rfl), tLs_ne _ _ (by omega)⟩ ⟨tLs_self _ _ _, rfl, fun f hf => by omega, fun k L => Or.inr ⟨fun f hf => by omega, r4 k L⟩⟩ (by omega) (by omega)
end GOR
