set_option maxRecDepth 100000
def jF (E : gV) (T T1 : tT) (ns : List Nat) (LA : Nat → Nat) : Prop := tK (fun b => b = gBase E + 7) T T1 ∧ (∀ b, T.2 b ≠ none → b ≠ gBase E + 6 → T1.2 b = T.2 b) ∧ (∀ i, i ∈ ns → T.2 (LA i) = none)
theorem jI_7 {E : gV} {S : mS} {T T' : tT} {n : Nat} {HA ND : Nat → Nat} {ns : List Nat} {NX NY : Nat → Int} {LA : Nat → Nat} {LN : Nat → List Nat} (j : jI E S T n HA ND ns NX NY LA LN) (h7 : (T.1 (gBase E + 7)).1 = 34) (e1 : ∀ b, b ≠ gBase E + 7 → T'.1 b = T.1 b) (e2 : T'.2 = T.2) (e3 : ∀ k, k < 2 * n → (T'.1 (gBase E + 7)).2.2 k = (T.1 (gBase E + 7)).2.2 k) : jI E S T' n HA ND ns NX NY LA LN := by
  obtain ⟨j0, j1, j2, j3, j4⟩ := j
  refine ⟨nJ_keep j0 (fun i hi => e1 i (by intro e; have := (j0.2.1 i hi).1.1; rw [e] at this; omega)) (fun i _ => by rw [e2]) (by rw [e2]), fun k L hk => ?_, j2, fun k hk => by rw [e3 k hk]; exact j3 k hk, j4⟩
  have q := j1 k L hk
  have e := e1 (HA k) (by intro e; have := q.1.1.1; rw [e] at this; omega)
  refine ⟨⟨?_, by rw [e]; exact q.1.2⟩, q.2⟩
  unfold hF
  rw [e]
  exact q.1.1
theorem jI_skip {E : gV} {S : mS} {T : tT} {n : Nat} {HA ND : Nat → Nat} {ns : List Nat} {NX NY : Nat → Int} {LA : Nat → Nat} {LN : Nat → List Nat} (j : jI E S T n HA ND ns NX NY LA LN) (nl : S.2 1 n ≠ 1) (e1 : (T.1 (gBase E + 7)).2.2 (2 * n) = .null) (e2 : (T.1 (gBase E + 7)).2.2 (2 * n + 1) = .null) : jI E S T (n + 1) HA ND ns NX NY LA LN := by
  obtain ⟨j0, j1, j2, j3, j4⟩ := j
  have d1 : ¬ kLv S (2 * n) := fun L => nl (by have := L.2; rw [show 2 * n / 2 = n by omega] at this; exact this)
  have d2 : ¬ kLv S (2 * n + 1) := fun L => nl (by have := L.2; rw [show (2 * n + 1) / 2 = n by omega] at this; exact this)
  refine ⟨j0, fun k L hk => j1 k L ?_, fun m hm => ?_, fun k hk => ?_, ?_⟩
  · by_cases c1 : k = 2 * n
    · subst c1; exact absurd L d1
    · by_cases c2 : k = 2 * n + 1
      · subst c2; exact absurd L d2
      · omega
  · have w := j2 m hm
    exact ⟨w.1, fun k hk => by have := w.2.1 k hk; exact ⟨this.1, by omega, this.2.2⟩, w.2.2⟩
  · by_cases c1 : k = 2 * n
    · subst c1; rw [e1, zI_neg d1]
    · by_cases c2 : k = 2 * n + 1
      · subst c2; rw [e2, zI_neg d2]
      · exact j3 k (by omega)
  · rw [show 2 * (n + 1) = 2 * n + 1 + 1 by omega, rk_neg (fun f => d2 f.1), rk_neg (fun f => d1 f.1)]
    exact j4
section JOIN4
variable {E : gV} {l : Launch} {T : tT} {S : mS} {d : Nat} {Q : Outcome → gH → Prop}
theorem jn1 (hd : 9 ≤ d) (g : kGd S)
    (kk : ∀ h1 T1 HA ND ns NX NY LA LN uc us, zT E h1 T1 → zK E T1 S → jF E T T1 ns LA → jI E S T1 60 HA ND ns NX NY LA LN → uc ≤ 600 → us ≤ 40440 → G E l gX1_join d 600 40440 Q 155 [some (.ref (gBase E)), some (vI 60), none, none, none] [] h1 uc us) :
    ∀ (m n : Nat), n + m = 60 → ∀ h T1 HA ND ns NX NY LA LN uc us, zT E h T1 → zK E T1 S → jF E T T1 ns LA → jI E S T1 n HA ND ns NX NY LA LN → uc ≤ 10 * n → us ≤ 674 * n → G E l gX1_join d 600 40440 Q 9 [some (.ref (gBase E)), some (vI n), none, none, none] [] h uc us := by
  have hg2 : gN 2 = 5 := rfl
  intro m
  induction m with
  | zero =>
    intro n hn h T1 HA ND ns NX NY LA LN uc us ht hz jf j hu hv
    have en : n = 60 := by omega
    subst en
    refine G_iload_1 (pc := 9) dX1_join_9 ?_
    refine G_bipush (pc := 10) dX1_join_10 (by omega) ?_
    refine G_icmp_ge (pc := 12) 155 dX1_join_12 (by decide) (by omega) (by omega) (fun _ => ?_) (fun q => absurd q (by omega))
    exact kk h T1 HA ND ns NX NY LA LN uc us ht hz jf j (by omega) (by omega)
  | succ m ih =>
    intro n hn h T1 HA ND ns NX NY LA LN uc us ht hz jf j hu hv
    have k8 := hz.2.2.2.2.1
    obtain ⟨Tn, eTn⟩ : ∃ Tn, Tn = tSet (tSet T1 (gBase E + 7) (2 * n + 1) .null) (gBase E + 7) (2 * n) .null := ⟨_, rfl⟩
    have hzn : zK E Tn S := by rw [eTn]; exact zK_else (zK_else hz (Or.inr rfl)) (Or.inr rfl)
    have an : ∀ b, b ≠ gBase E + 7 → Tn.1 b = T1.1 b := fun b hb => by rw [eTn, tSet_at _ hb, tSet_at _ hb]
    have jn : jI E S Tn n HA ND ns NX NY LA LN := jI_7 j k8.2.1 an (by rw [eTn]; rfl) (fun k hk => by rw [eTn, tSet_v, if_neg (by omega), tSet_v, if_neg (by omega)])
    have n1 : (Tn.1 (gBase E + 7)).2.2 (2 * n) = .null := by rw [eTn, tSet_v, if_pos ⟨rfl, rfl⟩]
    have n2 : (Tn.1 (gBase E + 7)).2.2 (2 * n + 1) = .null := by rw [eTn, tSet_v, if_neg (by omega), tSet_v, if_pos ⟨rfl, rfl⟩]
    have jfn : jF E T Tn ns LA := ⟨tK_tr jf.1 (fun b _ hb => an b hb), fun b hb h6 => by rw [show Tn.2 = T1.2 by rw [eTn]; rfl]; exact jf.2.1 b hb h6, jf.2.2⟩
    refine G_iload_1 (pc := 9) dX1_join_9 ?_
    refine G_bipush (pc := 10) dX1_join_10 (by omega) ?_
    refine G_icmp_ge (pc := 12) 155 dX1_join_12 (by decide) (by omega) (by omega) (fun q => absurd q (by omega)) (fun _ => ?_)
    have e2n : (2 : Int) * (n : Int) = ((2 * n : Nat) : Int) := by omega
    have e2n1 : ((2 * n : Nat) : Int) + 1 = ((2 * n + 1 : Nat) : Int) := by omega
    refine G_aload_0 (pc := 15) dX1_join_15 ?_
    refine G_tget (pc := 16) dX1_join_16 rfl ht hz.1 hz.2.2.2.2.1.1 ?_
    refine G_iconst (pc := 19) dX1_join_19 ?_
    refine G_iload_1 (pc := 20) dX1_join_20 ?_
    refine G_imul (pc := 21) dX1_join_21 ?_
    refine G_aload_0 (pc := 22) dX1_join_22 ?_
    refine G_tget (pc := 23) dX1_join_23 rfl ht hz.1 hz.2.2.2.2.1.1 ?_
    refine G_iconst (pc := 26) dX1_join_26 ?_
    refine G_iload_1 (pc := 27) dX1_join_27 ?_
    refine G_imul (pc := 28) dX1_join_28 ?_
    rw [e2n]
    refine G_iconst (pc := 29) dX1_join_29 ?_
    refine G_iadd (pc := 30) dX1_join_30 ?_
    rw [e2n1]
    refine G_aconst_null (pc := 31) dX1_join_31 ?_
    refine G_dup_x2 (pc := 32) dX1_join_32 rfl rfl rfl ?_
    refine G_taastN (pc := 33) dX1_join_33 ht (Or.inl k8.2.1) (by rw [k8.2.2]; omega) (by rw [k8.2.2]; omega) (fun h ht1 => ?_)
    refine G_taastN (pc := 34) dX1_join_34 ht1 (Or.inl (by rw [tSet_k]; exact k8.2.1)) (by rw [tSet_n, k8.2.2]; omega) (by rw [tSet_n, k8.2.2]; omega) (fun h ht2 => ?_)
    rw [Int.toNat_natCast, Int.toNat_natCast, ← eTn] at ht2
    skip
    have hlen : ns.length ≤ 120 := by rw [j.2.2.2.2]; exact Nat.le_trans (rk_n _) (by omega)
    have g1 := gr_163 (show ns.length < 150 by omega)
    refine G_aload_0 (pc := 35) dX1_join_35 ?_
    refine G_kref (pc := 36) dX1_join_36 rfl ht2 hzn rfl ?_
    refine G_iload_1 (pc := 39) dX1_join_39 ?_
    refine G_kb (pc := 40) dX1_join_40 ht2 hzn (by omega) (fun b40 => ?_)
    rw [Int.toNat_natCast] at b40 ⊢
    refine G_if_ne (pc := 41) 47 dX1_join_41 (by decide) (by omega) (fun c41 => ?_) (fun c41 => ?_)
    · have lv : S.2 1 n = 1 := by omega
      have gi := g.1 n (by omega) lv
      have kx := kX_2n S n
      have Ln1 : kLv S (2 * n) := ⟨by omega, by rw [show 2 * n / 2 = n by omega]; exact lv⟩
      have Ln2 : kLv S (2 * n + 1) := ⟨by omega, by rw [show (2 * n + 1) / 2 = n by omega]; exact lv⟩
      have bx1 := kX_b g Ln1
      have bx2 := kX_b g Ln2
      refine G_aload_0 (pc := 47) dX1_join_47 ?_
      refine G_tget (pc := 48) dX1_join_48 rfl ht2 hzn.1 hzn.2.2.2.2.1.1 ?_
      refine G_iconst (pc := 51) dX1_join_51 ?_
      refine G_iload_1 (pc := 52) dX1_join_52 ?_
      refine G_imul (pc := 53) dX1_join_53 ?_
      refine G_tnew (pc := 54) (ci := 2) dX1_join_54 rfl ht2 (by omega) (by omega) (by omega) (fun a1 h f1 f1' f1b ht => ?_)
      have hz := zK_new (q := (2 + 1, gN 2, fun f => defaultValue (gTy 2 f))) hzn f1
      have nj1 : nJ E (tNew Tn a1 (2 + 1, gN 2, fun f => defaultValue (gTy 2 f))) ns NX NY LA (fun m => (LN m).map HA) := nJ_keep jn.1 (fun i hi => tNew_ne _ _ (by intro e; have w := (jn.1.2.1 i hi).1.1; rw [e] at w; omega)) (fun _ _ => rfl) rfl
      refine G_dup (pc := 57) dX1_join_57 rfl ?_
      refine G_iconst (pc := 58) dX1_join_58 ?_
      refine G_iload_1 (pc := 59) dX1_join_59 ?_
      refine G_imul (pc := 60) dX1_join_60 ?_
      rw [e2n]
      refine G_aload_0 (pc := 61) dX1_join_61 ?_
      refine G_aload_0 (pc := 62) dX1_join_62 ?_
      refine G_kref (pc := 63) dX1_join_63 rfl ht hz rfl ?_
      refine G_iload_1 (pc := 66) dX1_join_66 ?_
      refine G_ki (pc := 67) dX1_join_67 ht hz rfl rfl (by omega) (fun b67 => ?_)
      refine G_aload_0 (pc := 68) dX1_join_68 ?_
      refine G_kref (pc := 69) dX1_join_69 rfl ht hz rfl ?_
      refine G_iload_1 (pc := 72) dX1_join_72 ?_
      refine G_ki (pc := 73) dX1_join_73 ht hz rfl rfl (by omega) (fun b73 => ?_)
      rw [Int.toNat_natCast, ← kx.1.1, ← kx.1.2]
      refine G_callV2v (pc := 74) (d' := 8) dX1_join_74 rfl (zK_k ht hz) (by decide) rfl (ok_node ht hz nj1 bx1.1 bx1.2 (by omega) (Nat.le_refl _)) (by omega) (by omega) (by omega) (Nat.le_of_ble_eq_true rfl) (fun v h q => ?_)
      clear ht
      obtain ⟨m1, T2, ns1, NX1, NY1, LA1, LH1, rfl, ht, p1⟩ := q
      have ka1 : (T2.1 a1).1 = 3 := by rw [p1.2.2.2.2.1 a1 (by rw [tNew_self]; decide), tNew_self]
      have hz := zK_cong hz (tK_y p1.2.2.2.2)
      refine G_callI2u (pc := 77) (d' := 2) dX1_join_77 rfl rfl (ok_X3_init ht ka1 (Nat.le_refl _)) (by omega) (by omega) (by omega) (Nat.le_of_ble_eq_true rfl) (fun h ht => ?_)
      have hz := zK_cong hz (tK_set (X := xN) (T := T2) (f := 0) (v := vI ((2 * n : Nat) : Int)) (Or.inl (by rw [ka1]; exact tKd_o (by omega))))
      have hz := zK_cong hz (tK_set (X := xN) (f := 1) (v := .ref m1) (Or.inl (by rw [tSet_k, ka1]; exact tKd_o (by omega))))
      refine G_dup_x2 (pc := 80) dX1_join_80 rfl rfl rfl ?_
      refine G_taast (pc := 81) dX1_join_81 ht (Or.inl ⟨hz.2.2.2.2.1.2.1, by rw [tSet_k, tSet_k]; exact ka1⟩) (by rw [hz.2.2.2.2.1.2.2]; omega) (by rw [hz.2.2.2.2.1.2.2]; omega) (fun h ht => ?_)
      rw [Int.toNat_natCast] at ht
      obtain ⟨T4, e4⟩ : ∃ T4, T4 = tSet (tSet (tSet T2 a1 0 (vI ((2 * n : Nat) : Int))) a1 1 (.ref m1)) (gBase E + 7) (2 * n) (.ref a1) := ⟨_, rfl⟩
      rw [← e4] at ht
      have hz : zK E T4 S := by rw [e4]; exact zK_else hz (Or.inr rfl)
      have s := hs_one hzn.2.2.2.2.1.2.1 ⟨f1, f1'⟩ p1 e4
      have hl1 : ns1.length ≤ 121 := by
        rcases p1.2.2.2.1 with ⟨e, _⟩ | ⟨e, _⟩
        · rw [e]; omega
        · rw [e, List.length_append]; show ns.length + 1 ≤ 121; omega
      have g2 := gr_163 (show ns1.length < 150 by omega)
      refine G_astore_2 (pc := 82) dX1_join_82 (by decide) rfl ?_
      refine G_aload_0 (pc := 83) dX1_join_83 ?_
      refine G_tget (pc := 84) dX1_join_84 rfl ht hz.1 hz.2.2.2.2.1.1 ?_
      refine G_iconst (pc := 87) dX1_join_87 ?_
      refine G_iload_1 (pc := 88) dX1_join_88 ?_
      refine G_imul (pc := 89) dX1_join_89 ?_
      refine G_iconst (pc := 90) dX1_join_90 ?_
      refine G_iadd (pc := 91) dX1_join_91 ?_
      rw [e2n, e2n1]
      refine G_tnew (pc := 92) (ci := 2) dX1_join_92 rfl ht (by omega) (by omega) (by omega) (fun a2 h f2 f2' f2b ht => ?_)
      have hz := zK_new (q := (2 + 1, gN 2, fun f => defaultValue (gTy 2 f))) hz f2
      have nj2 : nJ E (tNew T4 a2 (2 + 1, gN 2, fun f => defaultValue (gTy 2 f))) ns1 NX1 NY1 LA1 LH1 := nJ_keep s.1 (fun i hi => tNew_ne _ _ (by intro e; have w := (s.1.2.1 i hi).1.1; rw [e] at w; omega)) (fun _ _ => rfl) rfl
      refine G_dup (pc := 95) dX1_join_95 rfl ?_
      refine G_iconst (pc := 96) dX1_join_96 ?_
      refine G_iload_1 (pc := 97) dX1_join_97 ?_
      refine G_imul (pc := 98) dX1_join_98 ?_
      refine G_iconst (pc := 99) dX1_join_99 ?_
      refine G_iadd (pc := 100) dX1_join_100 ?_
      rw [e2n, e2n1]
      refine G_aload_0 (pc := 101) dX1_join_101 ?_
      refine G_aload_0 (pc := 102) dX1_join_102 ?_
      refine G_kref (pc := 103) dX1_join_103 rfl ht hz rfl ?_
      refine G_iload_1 (pc := 106) dX1_join_106 ?_
      refine G_ki (pc := 107) dX1_join_107 ht hz rfl rfl (by omega) (fun b107 => ?_)
      refine G_aload_0 (pc := 108) dX1_join_108 ?_
      refine G_kref (pc := 109) dX1_join_109 rfl ht hz rfl ?_
      refine G_iload_1 (pc := 112) dX1_join_112 ?_
      refine G_ki (pc := 113) dX1_join_113 ht hz rfl rfl (by omega) (fun b113 => ?_)
      rw [Int.toNat_natCast, ← kx.2.1, ← kx.2.2]
      refine G_callV2v (pc := 114) (d' := 8) dX1_join_114 rfl (zK_k ht hz) (by decide) rfl (ok_node ht hz nj2 bx2.1 bx2.2 (by omega) (Nat.le_refl _)) (by omega) (by omega) (by omega) (Nat.le_of_ble_eq_true rfl) (fun v h q => ?_)
      clear ht
      obtain ⟨m2, T6, ns2, NX2, NY2, LA2, LH2, rfl, ht, p2⟩ := q
      have ka2 : (T6.1 a2).1 = 3 := by rw [p2.2.2.2.2.1 a2 (by rw [tNew_self]; decide), tNew_self]
      have hz := zK_cong hz (tK_y p2.2.2.2.2)
      refine G_callI2u (pc := 117) (d' := 2) dX1_join_117 rfl rfl (ok_X3_init ht ka2 (Nat.le_refl _)) (by omega) (by omega) (by omega) (Nat.le_of_ble_eq_true rfl) (fun h ht => ?_)
      have hz := zK_cong hz (tK_set (X := xN) (T := T6) (f := 0) (v := vI ((2 * n + 1 : Nat) : Int)) (Or.inl (by rw [ka2]; exact tKd_o (by omega))))
      have hz := zK_cong hz (tK_set (X := xN) (f := 1) (v := .ref m2) (Or.inl (by rw [tSet_k, ka2]; exact tKd_o (by omega))))
      refine G_dup_x2 (pc := 120) dX1_join_120 rfl rfl rfl ?_
      refine G_taast (pc := 121) dX1_join_121 ht (Or.inl ⟨hz.2.2.2.2.1.2.1, by rw [tSet_k, tSet_k]; exact ka2⟩) (by rw [hz.2.2.2.2.1.2.2]; omega) (by rw [hz.2.2.2.2.1.2.2]; omega) (fun h ht => ?_)
      rw [Int.toNat_natCast] at ht
      obtain ⟨T8, e8⟩ : ∃ T8, T8 = tSet (tSet (tSet T6 a2 0 (vI ((2 * n + 1 : Nat) : Int))) a2 1 (.ref m2)) (gBase E + 7) (2 * n + 1) (.ref a2) := ⟨_, rfl⟩
      rw [← e8] at ht
      have s2 := hs_one s.2.2.2.1.1 ⟨f2, f2'⟩ p2 e8
      have a17 : a1 ≠ gBase E + 7 := by intro e; have w := f1; rw [e] at w; have := hzn.2.2.2.2.1.2.1; omega
      have k81 : (T8.1 a1).1 = 3 := by rw [s2.2.2.1 a1 (by rw [s.2.1.1]; decide) a17]; exact s.2.1.1
      refine G_astore_3 (pc := 122) dX1_join_122 (by decide) rfl ?_
      refine G_aload_2 (pc := 123) dX1_join_123 ?_
      refine G_aload_3 (pc := 124) dX1_join_124 ?_
      refine G_tput (pc := 125) dX1_join_125 rfl ht k81 (by omega) rfl rfl rfl (fun h ht => ?_)
      refine G_aload_3 (pc := 128) dX1_join_128 ?_
      refine G_aload_2 (pc := 129) dX1_join_129 ?_
      refine G_tput (pc := 130) dX1_join_130 rfl ht (by rw [tSet_k]; exact s2.2.1.1) (by omega) rfl rfl rfl (fun h ht => ?_)
      obtain ⟨T9, e9⟩ : ∃ T9, T9 = tSet (tSet T8 a1 2 (.ref a2)) a2 2 (.ref a1) := ⟨_, rfl⟩
      rw [← e9] at ht
      obtain ⟨M, fr, f7, fl⟩ := jM_of (T0 := T) (by omega) lv jn hzn.2.2.2.2.1.2.1 jfn.2.2 jfn.2.1 ⟨f1, f1'⟩ p1 e4 ⟨f2, f2'⟩ p2 e8 e9
      have H1 : fU (fU HA (2 * n) a1) (2 * n + 1) a2 (2 * n) = a1 := by rw [fU_n _ _ (by omega), fU_s]
      have H2 : fU (fU HA (2 * n) a1) (2 * n + 1) a2 (2 * n + 1) = a2 := fU_s _ _ _
      have N1 : fU (fU ND (2 * n) m1) (2 * n + 1) m2 (2 * n) = m1 := by rw [fU_n _ _ (by omega), fU_s]
      have N2 : fU (fU ND (2 * n) m1) (2 * n + 1) m2 (2 * n + 1) = m2 := fU_s _ _ _
      generalize fU (fU HA (2 * n) a1) (2 * n + 1) a2 = HA' at *
      generalize fU (fU ND (2 * n) m1) (2 * n + 1) m2 = ND' at *
      generalize (fun m => zI (m ∈ ns) (LN m) []) = LNa at *
      have q1 := M.2.1 (2 * n) Ln1 (by omega)
      have q2 := M.2.1 (2 * n + 1) Ln2 (by omega)
      have el := jM_el M jn.2.2.1
      unfold hF at q1 q2
      rw [H1, N1] at q1
      rw [H2, N2] at q2
      have w1 := M.1.2.1 m1 q1.2.1
      have w1l : T9.2 (LA2 m1) = some ((LNa m1).map HA') := w1.2.1.2
      have ll1 : (LNa m1).length ≤ 120 := nodup_len (el m1 q1.2.1).2.2 (fun k hk => ((el m1 q1.2.1).1 k hk).1.1)
      have g3 := gr_163 (show ((LNa m1).map HA').length < 150 by rw [List.length_map]; omega)
      have hz9 : zK E T9 S := zK_cong7 hzn (fun b k nb => fr b (by unfold tKd at k; omega) nb) ⟨by rw [f7.1]; exact hzn.2.2.2.2.1.2.1.symm, f7.2⟩
      refine G_aload_2 (pc := 133) dX1_join_133 ?_
      refine G_tget (pc := 134) (v := .ref m1) dX1_join_134 rfl ht q1.1.1.1 q1.1.1.2.2.1 ?_
      refine G_aload_2 (pc := 137) dX1_join_137 ?_
      have hx1 := jM_hD g M (T := T9) rfl (k := 2 * n) ⟨Ln1, by omega⟩
      rw [H1] at hx1
      refine G_callV1u (pc := 138) (d' := 8) dX1_join_138 rfl (by rw [zT_at ht w1.1.1 (by omega)]; exact w1.1.1) (by decide) rfl (ok_X4_put ht w1.1.1 w1.2.1.1 w1l (jM_hU g M rfl (fun i hi => ⟨((el m1 q1.2.1).1 i hi).1, by have := ((el m1 q1.2.1).1 i hi).2.1; omega⟩)) hx1 (by rw [List.length_map]; omega) (Nat.le_refl _)) (by omega) (by omega) (by omega) (Nat.le_of_ble_eq_true rfl) (fun h q => ?_)
      clear ht
      obtain ⟨p, P1, ht⟩ := q
      obtain ⟨T10, e10⟩ : ∃ T10, T10 = tLs T9 (LA2 m1) (insL ((LNa m1).map HA') p a1) := ⟨_, rfl⟩
      rw [← e10] at ht
      obtain ⟨LNb, eb⟩ : ∃ LNb, LNb = fU LNa m1 (insL (LNa m1) p (2 * n)) := ⟨_, rfl⟩
      have n10 : nJ E T10 ns2 NX2 NY2 LA2 (fun m => (LNb m).map HA') := by
        rw [e10]
        refine nJ_ext (nJ_put M.1 q1.2.1 _) (fun m hm => ?_)
        rw [eb]
        by_cases e : m = m1
        · subst e; rw [fU_s, fU_s, map_insL, H1]
        · rw [fU_n _ _ e, fU_n _ _ e]
      have x2 := n10.2.1 m2 q2.2.1
      have x2l : T10.2 (LA2 m2) = some ((LNb m2).map HA') := x2.2.1.2
      have t10 : T10.1 = T9.1 := by rw [e10]; rfl
      have elb : ∀ i, i ∈ LNb m2 → jL S (n + 1) i := by
        intro i hi
        rw [eb] at hi
        by_cases e : m2 = m1
        · rw [e, fU_s] at hi
          rcases insL_mem hi with q | q
          · subst q; exact ⟨Ln1, by omega⟩
          · exact ⟨((el m1 q1.2.1).1 i q).1, by have := ((el m1 q1.2.1).1 i q).2.1; omega⟩
        · rw [fU_n _ _ e] at hi
          exact ⟨((el m2 q2.2.1).1 i hi).1, by have := ((el m2 q2.2.1).1 i hi).2.1; omega⟩
      have ndb : (LNb m2).Nodup := by
        rw [eb]
        by_cases e : m2 = m1
        · rw [e, fU_s]; exact nodup_ins (el m1 q1.2.1).2.2 (fun q => by have := ((el m1 q1.2.1).1 _ q).2.1; omega)
        · rw [fU_n _ _ e]; exact (el m2 q2.2.1).2.2
      have ll2 : (LNb m2).length ≤ 120 := nodup_len ndb (fun k hk => (elb k hk).1.1)
      have g4 := gr_163 (show ((LNb m2).map HA').length < 150 by rw [List.length_map]; omega)
      have hx2 := jM_hD g M (T := T10) t10 (k := 2 * n + 1) ⟨Ln2, by omega⟩
      rw [H2] at hx2
      refine G_aload_3 (pc := 141) dX1_join_141 ?_
      refine G_tget (pc := 142) (v := .ref m2) dX1_join_142 rfl ht (by rw [t10]; exact q2.1.1.1) (by rw [t10]; exact q2.1.1.2.2.1) ?_
      refine G_aload_3 (pc := 145) dX1_join_145 ?_
      refine G_callV1u (pc := 146) (d' := 8) dX1_join_146 rfl (by rw [zT_at ht x2.1.1 (by omega)]; exact x2.1.1) (by decide) rfl (ok_X4_put ht x2.1.1 x2.2.1.1 x2l (jM_hU g M t10 elb) hx2 (by rw [List.length_map]; omega) (Nat.le_refl _)) (by omega) (by omega) (by omega) (Nat.le_of_ble_eq_true rfl) (fun h q => ?_)
      clear ht
      obtain ⟨p', P2, ht⟩ := q
      obtain ⟨T11, e11⟩ : ∃ T11, T11 = tLs T10 (LA2 m2) (insL ((LNb m2).map HA') p' a2) := ⟨_, rfl⟩
      rw [← e11] at ht
      have t11 : T11.1 = T9.1 := by rw [e11]; exact t10
      have fin := jI_put g (by omega) lv M (fun k L hk => by have z := jn.2.1 k L hk; exact ⟨z.2.1, z.2.2.1⟩) jn.2.2.1 (T10 := T10) (T11 := T11) (p1 := p) (p2 := p') (LNb := LNb) (LNc := fU LNb m2 (insL (LNb m2) p' (2 * n + 1)))
        (by rw [N1]; exact P1) (by rw [N1]; exact eb) (by rw [N1, H1]; exact e10) (by rw [N2]; exact P2) (by rw [N2]) (by rw [N2, H2]; exact e11)
      have l0 : ∀ b, T.2 b ≠ none → ∀ i, i ∈ ns2 → b ≠ LA2 i := fun b hb i hi e => hb (by rw [e]; exact M.2.2.2.2.2.2.2 i hi)
      have jf2 : jF E T T11 ns2 LA2 := by
        refine ⟨fun b k nb => ?_, fun b hb h6 => ?_, M.2.2.2.2.2.2.2⟩
        · have e := jfn.1 b k nb
          rw [t11, fr b (by rw [e]; unfold tKd at k; omega) nb, e]
        · have e := jfn.2.1 b hb h6
          rw [e11, tLs_ne _ _ (l0 b hb m2 q2.2.1), e10, tLs_ne _ _ (l0 b hb m1 q1.2.1), fl b (by rw [e]; exact hb) h6, e]
      have hz11 : zK E T11 S := by
        refine zK_cong hz9 (fun b _ _ => by rw [t11])
      refine G_iinc_1 (pc := 149) dX1_join_149 (by decide) rfl ?_
      refine G_goto (pc := 152) 9 dX1_join_152 (by decide) ?_
      refine G_drop_2 ?_
      refine G_drop_3 ?_
      rw [show ((n : Int) + 1) = ((n + 1 : Nat) : Int) by omega]
      exact ih (n + 1) (by omega) h T11 _ _ _ _ _ _ _ _ _ ht hz11 jf2 fin (by omega) (by omega)
    · refine G_goto (pc := 44) 149 dX1_join_44 (by decide) ?_
      refine G_iinc_1 (pc := 149) dX1_join_149 (by decide) rfl ?_
      refine G_goto (pc := 152) 9 dX1_join_152 (by decide) ?_
      rw [show ((n : Int) + 1) = ((n + 1 : Nat) : Int) by omega]
      exact ih (n + 1) (by omega) h Tn _ _ _ _ _ _ _ _ _ ht2 hzn jfn (jI_skip jn (by omega) n1 n2) (by omega) (by omega)
end JOIN4
