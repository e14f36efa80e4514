set_option maxRecDepth 100000
section SWITCH
variable {E : gV} {l : Launch} {M : gM} {d mc ms : Nat} {Q : Outcome → gH → Prop} {pc : Nat} {lv : gLs} {st : List Value} {h : gH} {uc us : Nat}
theorem G_tswI {x df low high off : Int} {offs : Array Int} {len : Nat} (tgt : Nat) (hd : decode M.2.1 pc = .ok (.tableswitch df low high offs, len)) (hx : -2147483648 ≤ x ∧ x ≤ 2147483647) (hin : low ≤ x ∧ x ≤ high) (ho : offs[(x - low).toNat]? = some off) (ht : (pc : Int) + off = (tgt : Int)) (k : G E l M d mc ms Q tgt lv st h uc us) : G E l M d mc ms Q pc lv (vI x :: st) h uc us := by
  intro p e R s m args below meth c ls H locs X hl hR hlo
  have k := k p e R s m args below meth c ls H locs X hl hR hlo
  have ex : (Int32.ofInt x).toInt = x := Int32.toInt_ofInt_of_le (by simp; omega) (by simp; omega)
  intro T hT Y
  obtain ⟨t, a, b⟩ := k T hT Y
  refine ⟨t, Y.tableswitchIn X.1 rfl rfl (default := df) (low := low) (high := high) (offsets := offs) (len := len) (by rw [X.2.1]; exact hd) (by rw [ex]; omega) (off := off) (by rw [ex]; exact ho) (by show 0 ≤ (pc : Int) + off; omega) t ?_, b⟩
  show Steps p.tables e below (T.setTop { method := m, pc := ((pc : Int) + off).toNat, locals := ls, stack := st, locked := none }) t
  rw [show ((pc : Int) + off).toNat = tgt by omega]
  exact a
theorem G_tswO {x df low high : Int} {offs : Array Int} {len : Nat} (tgt : Nat) (hd : decode M.2.1 pc = .ok (.tableswitch df low high offs, len)) (hx : -2147483648 ≤ x ∧ x ≤ 2147483647) (hout : x < low ∨ high < x) (ht : (pc : Int) + df = (tgt : Int)) (k : G E l M d mc ms Q tgt lv st h uc us) : G E l M d mc ms Q pc lv (vI x :: st) h uc us := by
  intro p e R s m args below meth c ls H locs X hl hR hlo
  have k := k p e R s m args below meth c ls H locs X hl hR hlo
  have ex : (Int32.ofInt x).toInt = x := Int32.toInt_ofInt_of_le (by simp; omega) (by simp; omega)
  intro T hT Y
  obtain ⟨t, a, b⟩ := k T hT Y
  refine ⟨t, Y.tableswitchOut X.1 rfl rfl (default := df) (low := low) (high := high) (offsets := offs) (len := len) (by rw [X.2.1]; exact hd) (by rw [ex]; omega) (by show 0 ≤ (pc : Int) + df; omega) t ?_, b⟩
  show Steps p.tables e below (T.setTop { method := m, pc := ((pc : Int) + df).toNat, locals := ls, stack := st, locked := none }) t
  rw [show ((pc : Int) + df).toNat = tgt by omega]
  exact a
end SWITCH
section TELL3
variable {E : gV} {l : Launch} {T : tT} {S : mS} {d : Nat} {h : gH} {HA ND : Nat → Nat} {ns : List Nat} {NX NY : Nat → Int} {LA : Nat → Nat} {LN : Nat → List Nat} {rs : List Nat} {RA FA : Nat → Nat} {a0 : Nat} {vs xs : List Nat} {FL : Nat → Nat} {XS : Nat → List Nat} {LS : Nat → Int}
/-- how many pieces lie in a face: o p is the first half of the round around piece p -/
noncomputable def inC (fa : Nat → Nat) (a : Nat) : Nat → Int
  | 0 => 0
  | n + 1 => inC fa a n + bI (fa n = a)
theorem inC_b (fa : Nat → Nat) (a : Nat) : ∀ n, 0 ≤ inC fa a n ∧ inC fa a n ≤ n := by
  intro n
  induction n with
  | zero => exact ⟨Int.le_refl _, Int.le_refl _⟩
  | succ n ih =>
    have := bI_01 (fa n = a)
    simp only [inC]
    omega
theorem pu_X1_inside (ht : zT E h T) (hz : zK E T S) (K : zOK (kPl S)) (m : cM0 E S T HA ND ns NX NY LA LN rs RA FA a0 vs xs FL XS LS) {o : Nat → Nat} (ho : ∀ p, p < rk (kLv S) (zSame (kPl S)) 120 → fst (kLv S) (orb (nxF LN ND)) (o p) ∧ (T.1 (gBase E + 11)).2.2 p = .ref (RA (o p))) {a : Nat} :
    gPu E l gX1_inside 1 [.ref (gBase E), .ref a] h (vI (inC (fun p => fdA (rsC S (nxF LN ND)) FA a0 (o p)) a (rk (kLv S) (zSame (kPl S)) 120))) := by
  intro d hd
  refine gOk_of gmok_X1_inside rfl (Nat.le_of_ble_eq_true rfl) (L := [some _, some _, none, none]) rfl ?_
  obtain ⟨Q, hQ⟩ : ∃ Q, Q = gRet (gRv (fun x h' => x = vI (inC (fun p => fdA (rsC S (nxF LN ND)) FA a0 (o p)) a (rk (kLv S) (zSame (kPl S)) 120)) ∧ h' = h)) := ⟨_, rfl⟩
  rw [← hQ]
  have pe := n_pc m
  have k13 := hz.2.2.2.2.2
  obtain ⟨N, eN⟩ : ∃ N, N = rk (kLv S) (zSame (kPl S)) 120 := ⟨_, rfl⟩
  rw [← eN] at ho pe hQ
  have k4 : ∀ (q k : Nat), k + q = N → G E l gX1_inside d 0 0 Q 4 [some (.ref (gBase E)), some (.ref a), some (vI (inC (fun p => fdA (rsC S (nxF LN ND)) FA a0 (o p)) a k)), some (vI k)] [] h 0 0 := by
    intro q
    induction q with
    | zero =>
      intro k hk
      have ek : k = N := by omega
      subst ek
      refine G_iload_3 (pc := 4) dX1_inside_4 ?_
      refine G_aload_0 (pc := 5) dX1_inside_5 ?_
      refine G_kget (pc := 6) dX1_inside_6 rfl ht hz rfl rfl rfl (fun b6 => ?_)
      rw [pe.1]
      refine G_icmp_ge (pc := 9) 39 dX1_inside_9 (by decide) (by omega) (by omega) (fun _ => ?_) (fun q => absurd q (by omega))
      refine G_iload_2 (pc := 39) dX1_inside_39 ?_
      refine G_ireturn (pc := 40) dX1_inside_40 rfl rfl (by omega) (by omega) ?_
      subst hQ
      exact ⟨_, rfl, _, rfl, rfl, rfl⟩
    | succ q ih =>
      intro k hk
      have hok := ho k (by omega)
      have qf := m.2.1.2.2.1 _ hok.1
      refine G_iload_3 (pc := 4) dX1_inside_4 ?_
      refine G_aload_0 (pc := 5) dX1_inside_5 ?_
      refine G_kget (pc := 6) dX1_inside_6 rfl ht hz rfl rfl rfl (fun b6 => ?_)
      rw [pe.1]
      refine G_icmp_ge (pc := 9) 39 dX1_inside_9 (by decide) (by omega) (by omega) (fun q => absurd q (by omega)) (fun _ => ?_)
      refine G_iload_2 (pc := 12) dX1_inside_12 ?_
      refine G_aload_0 (pc := 13) dX1_inside_13 ?_
      refine G_tget (pc := 14) dX1_inside_14 rfl ht hz.1 k13.1 ?_
      refine G_iload_3 (pc := 17) dX1_inside_17 ?_
      refine G_taald (pc := 18) (v := .ref (RA (o k))) dX1_inside_18 ht (Or.inr k13.2.1) (by rw [k13.2.2]; omega) (by rw [k13.2.2]; omega) (by rw [Int.toNat_natCast]; exact hok.2) ?_
      refine G_tget (pc := 19) (v := .ref (fdA (rsC S (nxF LN ND)) FA a0 (o k))) dX1_inside_19 rfl ht qf.2.1 qf.2.2.2 ?_
      refine G_aload_1 (pc := 22) dX1_inside_22 ?_
      have fin : ∀ t : Int, t = bI (fdA (rsC S (nxF LN ND)) FA a0 (o k) = a) → G E l gX1_inside d 0 0 Q 31 [some (.ref (gBase E)), some (.ref a), some (vI (inC (fun p => fdA (rsC S (nxF LN ND)) FA a0 (o p)) a k)), some (vI k)] [vI t, vI (inC (fun p => fdA (rsC S (nxF LN ND)) FA a0 (o p)) a k)] h 0 0 := by
        intro t et
        refine G_iadd (pc := 31) dX1_inside_31 ?_
        refine G_istore_2 (pc := 32) dX1_inside_32 (by decide) rfl ?_
        refine G_iinc_3 (pc := 33) dX1_inside_33 (by decide) rfl ?_
        refine G_goto (pc := 36) 4 dX1_inside_36 (by decide) ?_
        rw [show ((k : Int) + 1) = ((k + 1 : Nat) : Int) by omega, et]
        exact ih (k + 1) (by omega)
      refine G_acmp_ne (pc := 23) 30 dX1_inside_23 (by decide) (fun c => ?_) (fun c => ?_)
      · refine G_iconst (pc := 30) dX1_inside_30 ?_
        exact fin 0 (bI_neg c).symm
      · refine G_iconst (pc := 26) dX1_inside_26 ?_
        refine G_goto (pc := 27) 31 dX1_inside_27 (by decide) ?_
        exact fin 1 (bI_pos c).symm
  refine G_iconst (pc := 0) dX1_inside_0 ?_
  refine G_istore_2 (pc := 1) dX1_inside_1 (by decide) rfl ?_
  refine G_iconst (pc := 2) dX1_inside_2 ?_
  refine G_istore_3 (pc := 3) dX1_inside_3 (by decide) rfl ?_
  exact k4 N 0 (by omega)
theorem ok_X1_length (ht : zT E h T) (hz : zK E T S) (K : zOK (kPl S)) (m : cM0 E S T HA ND ns NX NY LA LN rs RA FA a0 vs xs FL XS LS) {a : Nat} (av : a ∈ vs) (hd : 5 ≤ d) :
    gOk E l gX1_length d (XS a).length (3 * (XS a).length) [.ref (gBase E), .ref a] h (gRv (fun v h' => v = vI (iS (XS a).length (fun k => (per (nxF LN ND) ((XS a).getD k 0) : Int))) ∧ ∃ T', zT E h' T' ∧ tX T T')) := by
  refine gOk_of gmok_X1_length rfl (Nat.le_of_ble_eq_true rfl) (L := [some _, some _, none, none]) rfl ?_
  obtain ⟨Q, hQ⟩ : ∃ Q, Q = gRet (gRv (fun v h' => v = vI (iS (XS a).length (fun k => (per (nxF LN ND) ((XS a).getD k 0) : Int))) ∧ ∃ T', zT E h' T' ∧ tX T T')) := ⟨_, rfl⟩
  rw [← hQ]
  have q := m.2.2.1.2 a av
  have nn := jG_nn K m.1
  have lx : (XS a).length ≤ 120 := nodup_len q.2.2.2.1 (fun k hk => ((q.2.2.2.2.1 k).mp hk).1.1.1)
  have k4 : ∀ (u k : Nat), k + u = (XS a).length → ∀ h T1, zT E h T1 → tX T T1 → G E l gX1_length d (XS a).length (3 * (XS a).length) Q 4 [some (.ref (gBase E)), some (.ref a), some (vI (iS k (fun k => (per (nxF LN ND) ((XS a).getD k 0) : Int)))), some (vI k)] [] h k (3 * k) := by
    intro u
    induction u with
    | zero =>
      intro k hk h T1 ht x
      have ek : k = (XS a).length := by omega
      have ea := x.2 a (by rw [q.1.1]; decide)
      have k7 : (T1.1 a).1 = 7 := by rw [ea]; exact q.1.1
      have f0 : (T1.1 a).2.2 0 = .ref (FL a) := by rw [ea]; exact q.1.2.1
      refine G_iload_3 (pc := 4) dX1_length_4 ?_
      refine G_aload_1 (pc := 5) dX1_length_5 ?_
      refine G_tget (pc := 6) dX1_length_6 rfl ht k7 f0 ?_
      refine G_lsize (pc := 9) dX1_length_9 rfl ht (by rw [x.1]; exact q.2.1) (by omega) (by omega) (by omega) (Nat.le_of_ble_eq_true rfl) ?_
      rw [List.length_map]
      refine G_icmp_ge (pc := 12) 38 dX1_length_12 (by decide) (by omega) (by omega) (fun _ => ?_) (fun q => absurd q (by omega))
      refine G_iload_2 (pc := 38) dX1_length_38 ?_
      refine G_ireturn (pc := 39) dX1_length_39 rfl rfl (by omega) (by omega) ?_
      subst hQ
      exact ⟨_, rfl, _, rfl, by rw [ek], T1, ht, x⟩
    | succ u ih =>
      intro k hk h T1 ht x
      have ea := x.2 a (by rw [q.1.1]; decide)
      have k7 : (T1.1 a).1 = 7 := by rw [ea]; exact q.1.1
      have f0 : (T1.1 a).2.2 0 = .ref (FL a) := by rw [ea]; exact q.1.2.1
      have hl : k < (XS a).length := by omega
      obtain ⟨f, ef⟩ : ∃ f, f = (XS a).getD k 0 := ⟨_, rfl⟩
      have hf : (XS a)[k]? = some f := by rw [ef, List.getD_eq_getElem?_getD, List.getElem?_eq_getElem hl]; rfl
      have F := ((q.2.2.2.2.1 f).mp (List.mem_of_getElem? hf)).1
      have m1 := cM0_x m hz x
      have qf := m1.2.1.2.2.1 f F
      obtain ⟨mm, pm⟩ := nn.2 f F.1
      have pp := per_is pm
      refine G_iload_3 (pc := 4) dX1_length_4 ?_
      refine G_aload_1 (pc := 5) dX1_length_5 ?_
      refine G_tget (pc := 6) dX1_length_6 rfl ht k7 f0 ?_
      refine G_lsize (pc := 9) dX1_length_9 rfl ht (by rw [x.1]; exact q.2.1) (by omega) (by omega) (by omega) (Nat.le_of_ble_eq_true rfl) ?_
      rw [List.length_map]
      refine G_icmp_ge (pc := 12) 38 dX1_length_12 (by decide) (by omega) (by omega) (fun q => absurd q (by omega)) (fun _ => ?_)
      refine G_iload_2 (pc := 15) dX1_length_15 ?_
      refine G_aload_1 (pc := 16) dX1_length_16 ?_
      refine G_tget (pc := 17) dX1_length_17 rfl ht k7 f0 ?_
      refine G_iload_3 (pc := 20) dX1_length_20 ?_
      refine G_lget (pc := 21) dX1_length_21 rfl ht (by rw [x.1]; exact q.2.1) (by rw [List.getElem?_map, hf]; rfl) (by omega) (by omega) (by omega) (Nat.le_of_ble_eq_true rfl) ?_
      refine G_tcast (pc := 24) dX1_length_24 rfl ht qf.2.1 ?_
      refine G_callV0v (pc := 27) (d' := 4) dX1_length_27 rfl (by rw [zT_at ht qf.2.1 (by omega)]; exact qf.2.1) (by decide) rfl (ok_X5_size ht qf.2.1 qf.2.2.1 (jG_cyc m1.1 nn F.1 pp) (by have := pp.2.1; omega) (Nat.le_refl _)) (by omega) (by omega) (by omega) (Nat.le_of_ble_eq_true rfl) (fun v h z => ?_)
      obtain ⟨rfl, T2, ht2, x2⟩ := z
      refine G_iadd (pc := 30) dX1_length_30 ?_
      refine G_istore_2 (pc := 31) dX1_length_31 (by decide) rfl ?_
      refine G_iinc_3 (pc := 32) dX1_length_32 (by decide) rfl ?_
      refine G_goto (pc := 35) 4 dX1_length_35 (by decide) ?_
      rw [show ((k : Int) + 1) = ((k + 1 : Nat) : Int) by omega, ef]
      exact ih (k + 1) (by omega) h T2 ht2 (tX_tr x x2)
  refine G_iconst (pc := 0) dX1_length_0 ?_
  refine G_istore_2 (pc := 1) dX1_length_1 (by decide) rfl ?_
  refine G_iconst (pc := 2) dX1_length_2 ?_
  refine G_istore_3 (pc := 3) dX1_length_3 (by decide) rfl ?_
  exact k4 (XS a).length 0 (by omega) h T ht (tX_rf T)
end TELL3
