set_option maxRecDepth 100000
theorem lsA_min {N : Nat → Int} {xs : List Nat} (hb : ∀ y, y ∈ xs → 0 ≤ N y ∧ N y < 120) : ∀ k, k ≤ xs.length → (∀ i, i < k → lsA N xs k ≤ N (xs.getD i 0)) ∧ ((k = 0 ∧ lsA N xs k = 120) ∨ ∃ i, i < k ∧ lsA N xs k = N (xs.getD i 0)) := by
  intro k
  induction k with
  | zero => intro _; exact ⟨fun i h => by omega, Or.inl ⟨rfl, rfl⟩⟩
  | succ k ih =>
    intro hk
    obtain ⟨h1, h2⟩ := ih (by omega)
    have hl : k < xs.length := by omega
    have km : xs.getD k 0 ∈ xs := by rw [List.getD_eq_getElem?_getD, List.getElem?_eq_getElem hl]; exact List.getElem_mem hl
    have kb := hb _ km
    have e : lsA N xs (k + 1) = mnI (lsA N xs k) (N (xs.getD k 0)) := rfl
    have mn : mnI (lsA N xs k) (N (xs.getD k 0)) ≤ lsA N xs k ∧ mnI (lsA N xs k) (N (xs.getD k 0)) ≤ N (xs.getD k 0) ∧ (mnI (lsA N xs k) (N (xs.getD k 0)) = lsA N xs k ∨ mnI (lsA N xs k) (N (xs.getD k 0)) = N (xs.getD k 0)) := by unfold mnI; split <;> omega
    rw [e]
    refine ⟨fun i hi => ?_, Or.inr ?_⟩
    · by_cases c : i = k
      · subst c; exact mn.2.1
      · have := h1 i (by omega); omega
    · rcases mn.2.2 with w | w
      · rcases h2 with ⟨a, b⟩ | ⟨i, a, b⟩
        · exact ⟨k, by omega, by omega⟩
        · exact ⟨i, by omega, by omega⟩
      · exact ⟨k, by omega, w⟩
theorem kon_q {S : mS} {s : Nat} {x y : Int} : kon S s x y ↔ zOn (kPl S) (2 * s) x y := by
  have kx := kX_2n S s
  unfold kon zon zOn zO zc kPl
  simp only
  rw [(zB_2n s).1, kx.1.1, kx.1.2, kx.2.1, kx.2.2]
/-- what a place is told to lie at, on or in -/
def lcC (S : mS) (nx : Nat → Nat) (x y v : Int) : Prop :=
  (∃ k : Nat, kLv S k ∧ kX S k = x ∧ kY S k = y ∧ (∀ i, kLv S i → kX S i = x → kY S i = y → k ≤ i) ∧ v = -100 - (k : Int)) ∨
  ((∀ k, kLv S k → ¬ (kX S k = x ∧ kY S k = y)) ∧ ∃ s : Nat, s < 60 ∧ S.2 1 s = 1 ∧ kon S s x y ∧ (∀ u, u < s → S.2 1 u = 1 → ¬ kon S u x y) ∧ v = -2 - (s : Int)) ∨
  ((∀ k, kLv S k → ¬ (kX S k = x ∧ kY S k = y)) ∧ (∀ u, u < 60 → S.2 1 u = 1 → ¬ kon S u x y) ∧
    ((v = 0 ∧ ∀ c, zCirc (kPl S) c → zAR (kPl S) c (40000 * x + y) (y : Rat) = 0) ∨ ∃ z n : Nat, kLv S z ∧ cNo S nx z n ∧ v = (n : Int) ∧ ∀ c, zCirc (kPl S) c → zW (kPl S) c z = zAR (kPl S) c (40000 * x + y) (y : Rat)))
section LOCATE
variable {E : gV} {l : Launch} {T : tT} {S : mS} {d : Nat} {h : gH}
theorem ok_X1_locate (ht : zT E h T) (c : cS E T S) {x y : Int} (hx : -16000 ≤ x ∧ x ≤ 16000) (hy : -16000 ≤ y ∧ y ≤ 16000) (hd : 12 ≤ d) :
    gOk E l gX1_locate d 5885 95924 [.ref (gBase E), vI x, vI y] h (gRv (fun v h' => ∃ T' S' HA ND ns NX NY LA LN rs RA FA a0 vs xs FL XS LS w, zT E h' T' ∧ cR E T S T' S' ∧ cM0 E S' T' HA ND ns NX NY LA LN rs RA FA a0 vs xs FL XS LS ∧ v = vI w ∧ lcC S' (nxF LN ND) x y w)) := by
  refine gOk_of gmok_X1_locate rfl (Nat.le_of_ble_eq_true rfl) (L := [some _, some _, some _, none]) rfl ?_
  obtain ⟨Q, hQ⟩ : ∃ Q, Q = gRet (gRv (fun v h' => ∃ T' S' HA ND ns NX NY LA LN rs RA FA a0 vs xs FL XS LS w, zT E h' T' ∧ cR E T S T' S' ∧ cM0 E S' T' HA ND ns NX NY LA LN rs RA FA a0 vs xs FL XS LS ∧ v = vI w ∧ lcC S' (nxF LN ND) x y w)) := ⟨_, rfl⟩
  rw [← hQ]
  refine G_iload_1 (pc := 0) dX1_locate_0 ?_
  refine G_pS1 (pc := 1) dX1_locate_1 rfl rfl (pu_X1_isIn x (by omega)) (by omega) (by omega) (by omega) (Nat.le_of_ble_eq_true rfl) ?_
  refine G_ifb_eq (pc := 4) 18 dX1_locate_4 (by decide) (fun q => absurd hx q) (fun _ => ?_)
  refine G_iload_2 (pc := 7) dX1_locate_7 ?_
  refine G_pS1 (pc := 8) dX1_locate_8 rfl rfl (pu_X1_isIn y (by omega)) (by omega) (by omega) (by omega) (Nat.le_of_ble_eq_true rfl) ?_
  refine G_ifb_eq (pc := 11) 18 dX1_locate_11 (by decide) (fun q => absurd hy q) (fun _ => ?_)
  refine G_iconst (pc := 14) dX1_locate_14 ?_
  refine G_goto (pc := 15) 19 dX1_locate_15 (by decide) ?_
  refine G_callS1u (pc := 19) (d' := 1) dX1_locate_19 rfl rfl (ok_X1_argue (Nat.le_refl _)) (by omega) (by omega) (by omega) (Nat.le_of_ble_eq_true rfl) (fun h' q => ?_)
  subst q
  refine G_aload_0 (pc := 22) dX1_locate_22 ?_
  refine G_callV0u (pc := 23) (d' := 11) dX1_locate_23 rfl (zK_k ht c.1) (by decide) rfl (ok_make ht c (Nat.le_refl _)) (by omega) (by omega) (by omega) (Nat.le_of_ble_eq_true rfl) (fun h z => ?_)
  obtain ⟨T', S', HA, ND, ns, NX, NY, LA, LN, rs, RA, FA, a0, vs, xs, FL, XS, LS, ht, r, m⟩ := z
  have hz := r.1
  have K' := zOK_cg (kEq_P r.2.1) c.2.1
  have g' := kGd_of K'
  have nl := jG_ns m.1
  have ret : ∀ w : Int, lcC S' (nxF LN ND) x y w → Q (.returned (some (vI w))) h := by
    intro w lw
    subst hQ
    exact ⟨_, rfl, _, rfl, T', S', HA, ND, ns, NX, NY, LA, LN, rs, RA, FA, a0, vs, xs, FL, XS, LS, w, ht, r, m, rfl, lw⟩
  -- below
  have k138 : (∀ k, kLv S' k → ¬ (kX S' k = x ∧ kY S' k = y)) → (∀ u, u < 60 → S'.2 1 u = 1 → ¬ kon S' u x y) → ∀ v3, G E l gX1_locate d 5885 95924 Q 138 [some (.ref (gBase E)), some (vI x), some (vI y), v3] [] h (0 + 0 + 5885) (0 + 0 + 95924) := by
    intro no1 no2 v3
    have off : ∀ g, kLv S' g → ¬ zOn (kPl S') g x y := by
      intro g G on
      refine no2 (g / 2) (by have := G.1; omega) G.2 (kon_q.mpr ?_)
      have e : 2 * (g / 2) = g ∨ 2 * (g / 2) = zB g := by unfold zB; split <;> omega
      rcases e with e | e
      · rw [e]; exact on
      · rw [e, zOn_B]; exact on
    have nu : ∀ k, kLv S' k → kX S' k = x → kY S' k < y → kX S' (zB k) = x → ¬ y ≤ kY S' (zB k) := by
      intro k L k1 k2 k3 k4
      refine off k L ⟨?_, ?_, ?_⟩
      · show (kX S' (zB k) - kX S' k) * (y - kY S' k) - (kY S' (zB k) - kY S' k) * (x - kX S' k) = 0
        rw [k3, k1]; grind
      · show min (kX S' k) (kX S' (zB k)) ≤ x ∧ x ≤ max (kX S' k) (kX S' (zB k))
        omega
      · show min (kY S' k) (kY S' (zB k)) ≤ y ∧ y ≤ max (kY S' k) (kY S' (zB k))
        omega
    refine G_aload_0 (pc := 138) dX1_locate_138 ?_
    refine G_iload_1 (pc := 139) dX1_locate_139 ?_
    refine G_iload_2 (pc := 140) dX1_locate_140 ?_
    refine G_callV2v (pc := 141) (d' := 5) dX1_locate_141 rfl (zK_k ht hz) (by decide) rfl (ok_below ht hz g' m.1 hx hy (Nat.le_refl _)) (by omega) (by omega) (by omega) (Nat.le_of_ble_eq_true rfl) (fun v h3 z => ?_)
    obtain ⟨e3, rr, rfl, hb⟩ := z
    subst e3
    rcases hB_is K' m.1 hy hb nu with ⟨h1, h2⟩ | ⟨z, h1, h2, h3, h4⟩
    · subst h1
      refine G_astoreN_3 (pc := 144) dX1_locate_144 (by decide) rfl ?_
      refine G_aloadN_3 (pc := 145) dX1_locate_145 ?_
      refine G_ifnonnullN (pc := 146) dX1_locate_146 ?_
      refine G_iconst (pc := 149) dX1_locate_149 ?_
      refine G_goto (pc := 150) 164 dX1_locate_150 (by decide) ?_
      refine G_ireturn (pc := 164) dX1_locate_164 rfl rfl (by omega) (by omega) ?_
      exact ret 0 (Or.inr (Or.inr ⟨no1, no2, Or.inl ⟨rfl, fun c C => h2 c C (fun g G _ => off g G)⟩⟩))
    · subst h1
      obtain ⟨f, f1, f2, f3, f4, f5⟩ := cM0_fc K' m h2
      obtain ⟨n, n1, n2⟩ := n_face K' m h2
      refine G_astore_3 (pc := 144) dX1_locate_144 (by decide) rfl ?_
      refine G_aload_3 (pc := 145) dX1_locate_145 ?_
      refine G_ifnonnull (pc := 146) 153 dX1_locate_146 (by decide) ?_
      refine G_aload_0 (pc := 153) dX1_locate_153 ?_
      refine G_aload_3 (pc := 154) dX1_locate_154 ?_
      refine G_tget (pc := 155) dX1_locate_155 rfl ht (m.1.2.1 z h2).1.1.1 f1 ?_
      refine G_tget (pc := 158) dX1_locate_158 rfl ht f4.1 f4.2 ?_
      refine G_pV1 (pc := 161) dX1_locate_161 rfl (zK_k ht hz) (by decide) rfl (n_num ht hz K' m n2) (by omega) (by omega) (by omega) (Nat.le_of_ble_eq_true rfl) ?_
      refine G_ireturn (pc := 164) dX1_locate_164 rfl rfl (by omega) (by omega) ?_
      exact ret _ (Or.inr (Or.inr ⟨no1, no2, Or.inr ⟨z, n, h2, n1, rfl, fun c C => h4 c C (fun g G _ => off g G)⟩⟩))
  -- on a segment
  have k102 : (∀ k, kLv S' k → ¬ (kX S' k = x ∧ kY S' k = y)) → ∀ (q s : Nat), s + q = 60 → (∀ u, u < s → S'.2 1 u = 1 → ¬ kon S' u x y) → G E l gX1_locate d 5885 95924 Q 102 [some (.ref (gBase E)), some (vI x), some (vI y), some (vI s)] [] h (0 + 0 + 5885) (0 + 0 + 95924) := by
    intro no1 q
    induction q with
    | zero =>
      intro s hs no2
      have es : s = 60 := by omega
      subst es
      refine G_iload_3 (pc := 102) dX1_locate_102 ?_
      refine G_bipush (pc := 103) dX1_locate_103 (by omega) ?_
      refine G_icmp_ge (pc := 105) 138 dX1_locate_105 (by decide) (by omega) (by omega) (fun _ => ?_) (fun q => absurd q (by omega))
      exact k138 no1 no2 _
    | succ q ih =>
      intro s hs no2
      have go : ¬ (S'.2 1 s = 1 ∧ kon S' s x y) → G E l gX1_locate d 5885 95924 Q 132 [some (.ref (gBase E)), some (vI x), some (vI y), some (vI s)] [] h (0 + 0 + 5885) (0 + 0 + 95924) := by
        intro no
        refine G_iinc_3 (pc := 132) dX1_locate_132 (by decide) rfl ?_
        refine G_goto (pc := 135) 102 dX1_locate_135 (by decide) ?_
        rw [show ((s : Int) + 1) = ((s + 1 : Nat) : Int) by omega]
        refine ih (s + 1) (by omega) (fun u hu lu ou => ?_)
        by_cases e : u = s
        · subst e; exact no ⟨lu, ou⟩
        · exact no2 u (by omega) lu ou
      refine G_iload_3 (pc := 102) dX1_locate_102 ?_
      refine G_bipush (pc := 103) dX1_locate_103 (by omega) ?_
      refine G_icmp_ge (pc := 105) 138 dX1_locate_105 (by decide) (by omega) (by omega) (fun q => absurd q (by omega)) (fun _ => ?_)
      refine G_aload_0 (pc := 108) dX1_locate_108 ?_
      refine G_kref (pc := 109) dX1_locate_109 rfl ht hz rfl ?_
      refine G_iload_3 (pc := 112) dX1_locate_112 ?_
      refine G_kb (pc := 113) dX1_locate_113 ht hz (by omega) (fun b113 => ?_)
      rw [Int.toNat_natCast] at b113 ⊢
      refine G_if_eq (pc := 114) 132 dX1_locate_114 (by decide) (by omega) (fun c114 => go (fun w => by have := w.1; omega)) (fun c114 => ?_)
      have ls : S'.2 1 s = 1 := by omega
      refine G_aload_0 (pc := 117) dX1_locate_117 ?_
      refine G_iload_3 (pc := 118) dX1_locate_118 ?_
      refine G_iload_1 (pc := 119) dX1_locate_119 ?_
      refine G_iload_2 (pc := 120) dX1_locate_120 ?_
      refine G_pV3 (pc := 121) dX1_locate_121 rfl (zK_k ht hz) (by decide) rfl (pu_X1_isOn ht hz (by omega) (g'.1 s (by omega) ls).1 hx hy) (by omega) (by omega) (by omega) (Nat.le_of_ble_eq_true rfl) ?_
      refine G_ifb_eq (pc := 124) 132 dX1_locate_124 (by decide) (fun c124 => go (fun w => c124 w.2)) (fun c124 => ?_)
      refine G_bipush (pc := 127) dX1_locate_127 (by omega) ?_
      refine G_iload_3 (pc := 129) dX1_locate_129 ?_
      refine G_isub (pc := 130) dX1_locate_130 ?_
      refine G_ireturn (pc := 131) dX1_locate_131 rfl rfl (by omega) (by omega) ?_
      exact ret _ (Or.inr (Or.inl ⟨no1, s, by omega, ls, c124, no2, rfl⟩))
  -- at a node
  have k28 : ∀ (q k : Nat), k + q = ns.length → (∀ i n, i < k → ns[i]? = some n → ¬ (NX n = x ∧ NY n = y)) → G E l gX1_locate d 5885 95924 Q 28 [some (.ref (gBase E)), some (vI x), some (vI y), some (vI k)] [] h (0 + 0 + 5885) (0 + 0 + 95924) := by
    intro q
    induction q with
    | zero =>
      intro k hk no
      refine G_iload_3 (pc := 28) dX1_locate_28 ?_
      refine G_aload_0 (pc := 29) dX1_locate_29 ?_
      refine G_tget (pc := 30) dX1_locate_30 rfl ht hz.1 hz.2.2.2.1.1 ?_
      refine G_lsize (pc := 33) dX1_locate_33 rfl ht m.1.1.1 (by omega) (by omega) (by omega) (Nat.le_of_ble_eq_true rfl) ?_
      refine G_icmp_ge (pc := 36) 100 dX1_locate_36 (by decide) (by omega) (by omega) (fun _ => ?_) (fun q => absurd q (by omega))
      refine G_iconst (pc := 100) dX1_locate_100 ?_
      refine G_istore_3 (pc := 101) dX1_locate_101 (by decide) rfl ?_
      refine k102 (fun i L e => ?_) 60 0 rfl (fun u hu => by omega)
      have w := m.1.2.1 i L
      obtain ⟨j, hj, ej⟩ := List.getElem_of_mem w.2.1
      exact no j (ND i) (by omega) (by rw [List.getElem?_eq_getElem hj, ej]) ⟨by rw [w.2.2.2.1]; exact e.1, by rw [w.2.2.2.2]; exact e.2⟩
    | succ q ih =>
      intro k hk no
      obtain ⟨n, en⟩ : ∃ n, n = ns[k] := ⟨_, rfl⟩
      have hg : ns[k]? = some n := by rw [en]; exact List.getElem?_eq_getElem (by omega)
      have nm := List.mem_of_getElem? hg
      have nq := m.1.1.2.1 n nm
      have nb := nq.2.2.1
      have go : ¬ (NX n = x ∧ NY n = y) → G E l gX1_locate d 5885 95924 Q 94 [some (.ref (gBase E)), some (vI x), some (vI y), some (vI k)] [] h (0 + 0 + 5885) (0 + 0 + 95924) := by
        intro nn
        refine G_iinc_3 (pc := 94) dX1_locate_94 (by decide) rfl ?_
        refine G_goto (pc := 97) 28 dX1_locate_97 (by decide) ?_
        rw [show ((k : Int) + 1) = ((k + 1 : Nat) : Int) by omega]
        refine ih (k + 1) (by omega) (fun i n' hi hn' => ?_)
        by_cases e : i = k
        · subst e; rw [hg] at hn'; cases hn'; exact nn
        · exact no i n' (by omega) hn'
      refine G_iload_3 (pc := 28) dX1_locate_28 ?_
      refine G_aload_0 (pc := 29) dX1_locate_29 ?_
      refine G_tget (pc := 30) dX1_locate_30 rfl ht hz.1 hz.2.2.2.1.1 ?_
      refine G_lsize (pc := 33) dX1_locate_33 rfl ht m.1.1.1 (by omega) (by omega) (by omega) (Nat.le_of_ble_eq_true rfl) ?_
      refine G_icmp_ge (pc := 36) 100 dX1_locate_36 (by decide) (by omega) (by omega) (fun q => absurd q (by omega)) (fun _ => ?_)
      refine G_aload_0 (pc := 39) dX1_locate_39 ?_
      refine G_tget (pc := 40) dX1_locate_40 rfl ht hz.1 hz.2.2.2.1.1 ?_
      refine G_iload_3 (pc := 43) dX1_locate_43 ?_
      refine G_lget (pc := 44) dX1_locate_44 rfl ht m.1.1.1 hg (by omega) (by omega) (by omega) (Nat.le_of_ble_eq_true rfl) ?_
      refine G_tcast (pc := 47) dX1_locate_47 rfl ht nq.1.1 ?_
      refine G_tget (pc := 50) dX1_locate_50 rfl ht nq.1.1 nq.1.2.1 ?_
      refine G_iload_1 (pc := 53) dX1_locate_53 ?_
      refine G_icmp_ne (pc := 54) 94 dX1_locate_54 (by decide) (by omega) (by omega) (fun cc => go (fun w => cc w.1)) (fun c1 => ?_)
      refine G_aload_0 (pc := 57) dX1_locate_57 ?_
      refine G_tget (pc := 58) dX1_locate_58 rfl ht hz.1 hz.2.2.2.1.1 ?_
      refine G_iload_3 (pc := 61) dX1_locate_61 ?_
      refine G_lget (pc := 62) dX1_locate_62 rfl ht m.1.1.1 hg (by omega) (by omega) (by omega) (Nat.le_of_ble_eq_true rfl) ?_
      refine G_tcast (pc := 65) dX1_locate_65 rfl ht nq.1.1 ?_
      refine G_tget (pc := 68) dX1_locate_68 rfl ht nq.1.1 nq.1.2.2 ?_
      refine G_iload_2 (pc := 71) dX1_locate_71 ?_
      refine G_icmp_ne (pc := 72) 94 dX1_locate_72 (by decide) (by omega) (by omega) (fun cc => go (fun w => cc w.2)) (fun c2 => ?_)
      have je := m.1.2.2.1 n nm
      have ll := jG_len m.1 nm
      have inj := jG_inj m.1
      have nums : ∀ y', y' ∈ (LN n).map HA → (T'.1 y').1 = 3 ∧ (T'.1 y').2.2 0 = vI ((hInv (kLv S') HA y' : Nat) : Int) := by
        intro y' hy'
        obtain ⟨i, hi, ei⟩ := List.mem_map.mp hy'
        subst ei
        have Li := (je.2.1 i hi).1
        rw [hInv_is inj Li]
        exact ⟨(m.1.2.1 i Li).1.1.1, (m.1.2.1 i Li).1.1.2.1⟩
      have nb' : ∀ y', y' ∈ (LN n).map HA → 0 ≤ ((hInv (kLv S') HA y' : Nat) : Int) ∧ ((hInv (kLv S') HA y' : Nat) : Int) < 120 := by
        intro y' hy'
        obtain ⟨i, hi, ei⟩ := List.mem_map.mp hy'
        subst ei
        have Li := (je.2.1 i hi).1
        rw [hInv_is inj Li]
        have := Li.1
        omega
      refine G_bipush (pc := 75) dX1_locate_75 (by omega) ?_
      refine G_aload_0 (pc := 77) dX1_locate_77 ?_
      refine G_aload_0 (pc := 78) dX1_locate_78 ?_
      refine G_tget (pc := 79) dX1_locate_79 rfl ht hz.1 hz.2.2.2.1.1 ?_
      refine G_iload_3 (pc := 82) dX1_locate_82 ?_
      refine G_lget (pc := 83) dX1_locate_83 rfl ht m.1.1.1 hg (by omega) (by omega) (by omega) (Nat.le_of_ble_eq_true rfl) ?_
      refine G_tcast (pc := 86) dX1_locate_86 rfl ht nq.1.1 ?_
      refine G_pV1 (pc := 89) dX1_locate_89 rfl (zK_k ht hz) (by decide) rfl (pu_X1_leastAt ht nq.1.1 nq.2.1.1 nq.2.1.2 (N := fun y' => ((hInv (kLv S') HA y' : Nat) : Int)) nums nb' (by rw [List.length_map]; omega)) (by omega) (by omega) (by omega) (Nat.le_of_ble_eq_true rfl) ?_
      refine G_isub (pc := 92) dX1_locate_92 ?_
      refine G_ireturn (pc := 93) dX1_locate_93 rfl rfl (by omega) (by omega) ?_
      obtain ⟨l1, l2⟩ := lsA_min (N := fun y' => ((hInv (kLv S') HA y' : Nat) : Int)) (xs := (LN n).map HA) nb' _ (Nat.le_refl _)
      rcases l2 with ⟨w, _⟩ | ⟨i, hi, ei⟩
      · rw [List.length_map] at w; omega
      · rw [List.length_map] at hi
        have gi : ∀ i, i < (LN n).length → ((hInv (kLv S') HA (((LN n).map HA).getD i 0) : Nat) : Int) = (((LN n).getD i 0 : Nat) : Int) ∧ (LN n).getD i 0 ∈ LN n := by
          intro i hi
          have e1 : ((LN n).map HA).getD i 0 = HA ((LN n).getD i 0) := by
            rw [List.getD_eq_getElem?_getD, List.getD_eq_getElem?_getD, List.getElem?_map, List.getElem?_eq_getElem hi]
            rfl
          have e2 : (LN n).getD i 0 ∈ LN n := by
            rw [List.getD_eq_getElem?_getD, List.getElem?_eq_getElem hi]
            exact List.getElem_mem hi
          rw [e1, hInv_is inj (je.2.1 _ e2).1]
          exact ⟨rfl, e2⟩
        have g0 := gi i hi
        have L0 := je.2.1 _ g0.2
        have w0 := m.1.2.1 _ L0.1
        rw [L0.2] at w0
        refine ret _ (Or.inl ⟨(LN n).getD i 0, L0.1, by rw [← w0.2.2.2.1]; exact c1, by rw [← w0.2.2.2.2]; exact c2, fun u Lu ux uy => ?_, ?_⟩)
        · have wu := m.1.2.1 u Lu
          have en : ND u = n := m.1.1.2.2 _ _ wu.2.1 nm (Or.inl ⟨by rw [wu.2.2.2.1]; omega, by rw [wu.2.2.2.2]; omega⟩)
          have um := wu.2.2.1
          rw [en] at um
          obtain ⟨j, hj, ej⟩ := List.getElem_of_mem um
          have gj := gi j hj
          have := l1 j (by rw [List.length_map]; exact hj)
          rw [ei, g0.1, gj.1] at this
          have eu : (LN n).getD j 0 = u := by rw [List.getD_eq_getElem?_getD, List.getElem?_eq_getElem hj, ej]; rfl
          rw [eu] at this
          omega
        · rw [ei, g0.1]
  refine G_iconst (pc := 26) dX1_locate_26 ?_
  refine G_istore_3 (pc := 27) dX1_locate_27 (by decide) rfl ?_
  exact k28 ns.length 0 (by omega) (fun i n hi => by omega)
end LOCATE
