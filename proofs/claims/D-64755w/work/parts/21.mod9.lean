set_option maxRecDepth 100000
section MOD9
variable {E : gV} {l : Launch} {S : mS}
theorem nmR_mN (S : mS) (f : Int) (N F : Nat → Int) (R : Nat) (F0 : Nat → Int) (n : Nat) : nmR (mN S f N F) R F0 n = nmR S R F0 n := by
  have ho : ∀ r, ofR (mN S f N F) R r = ofR S R r := by
    intro r
    unfold ofR
    rw [mN_ls]
    rfl
  induction n with
  | zero => rfl
  | succ n ih => simp only [nmR]; rw [ih, ho]
/-- what is left by the making -/
theorem mk3_cur {nx : Nat → Nat} {S2 S3 : mS} {N : Nat → Int} (hv : mk3 S nx S2 120) (hx : ∀ k, mLv S k → nxSpec S (zB k) (nx k)) (hper : ∀ i, mLv S i → ∃ m, prd nx i m) (e3 : S3 = mN S2 (nmR S2 (rk (mLv S) (orb nx) 120) (S2.2 13) (rk (mLv S) (orb nx) 120)).1 N (nmR S2 (rk (mLv S) (orb nx) 120) (S2.2 13) (rk (mLv S) (orb nx) 120)).2.2) : mCur S3 ∧ S3.1 4 = 1 ∧ S3.1 0 = S.1 0 ∧ S3.2 1 = S.2 1 ∧ S3.2 2 = S.2 2 ∧ S3.2 3 = S.2 3 := by
  obtain ⟨⟨a1, a1', a1'', a10, a14⟩, a2, a3, a4, a5, a6, a7⟩ := hv
  have b1 : S3.2 1 = S.2 1 := by rw [e3]; exact a1
  have b2 : S3.2 2 = S.2 2 := by rw [e3]; exact a1'
  have b3 : S3.2 3 = S.2 3 := by rw [e3]; exact a1''
  have eP : mP S3 = mP S := mP_eq b1 b2 b3
  have eL : mLv S3 = mLv S := by funext k; unfold mLv; rw [eP]
  have ecr : ∀ k, cr S3 k = cr S k := by intro k; unfold cr; rw [b2, b3]
  refine ⟨⟨nx, S2.2 13, ?_⟩, by rw [e3]; exact a14, by rw [e3]; exact a10, b1, b2, b3⟩
  rw [eL, eP]
  refine ⟨fun k hk => ⟨by rw [e3]; exact a2 k hk, (nxSpec_eq b1 b2 b3 _ _).mpr (hx k hk)⟩, by rw [e3]; exact a4, by rw [e3]; exact a3, fun k hk => ?_, by rw [e3]; exact a5, fun f hf => ?_, ?_, ?_⟩
  · rcases a6 k hk with ⟨f, f1, f2, f3, f4⟩ | ⟨q1, q2⟩
    · exact ⟨f, f2, f3, by rw [e3]; exact f4⟩
    · obtain ⟨f, f1, f2, f3⟩ := fst_ex (fun a _ => orb_rf nx a) (fun _ _ _ => orb_tr) k hk
      exact absurd f3 (q2 f (by have := zL_lt hk; omega) f2)
  · obtain ⟨c1, m, c2, c3⟩ := a7 f (zL_lt hf.1) hf
    refine ⟨by rw [e3]; exact c1, m, c2, ?_⟩
    have : (fun n => cr S3 (itN nx n f)) = (fun n => cr S (itN nx n f)) := by funext n; exact ecr _
    rw [this, e3]
    exact c3
  · subst e3; rw [nmR_mN]; rfl
  · intro r hr; subst e3; rw [nmR_mN]; rfl
theorem mo_X2_make (K : zOK (mP S)) (tr : mTr S) (pr : mPrd S) (cur : S.1 4 = 1 → mCur S) :
    mOk E l gX2_make 6 [.ref (gBase E + 12)] S (fun v S' => v = none ∧ mCur S' ∧ S'.1 4 = 1 ∧ S'.1 0 = S.1 0 ∧ S'.2 1 = S.2 1 ∧ S'.2 2 = S.2 2 ∧ S'.2 3 = S.2 3) := by
  intro h hm d hd
  have hk := gKeepM_rf E h
  refine gOk_of gmok_X2_make rfl (Nat.le_of_ble_eq_true rfl) (L := [some _, none]) rfl ?_
  obtain ⟨Q, hQ⟩ : ∃ Q, Q = gRet (fun v h' => ∃ S', zMo E h' S' ∧ gKeepM E h h' ∧ v = none ∧ mCur S' ∧ S'.1 4 = 1 ∧ S'.1 0 = S.1 0 ∧ S'.2 1 = S.2 1 ∧ S'.2 2 = S.2 2 ∧ S'.2 3 = S.2 3) := ⟨_, rfl⟩
  rw [← hQ]
  -- the rounds
  have k117 : ∀ (nx : Nat → Nat), (∀ k, mLv S k → nxSpec S (zB k) (nx k)) → ∀ (n k : Nat) (h1 : gH) (S2 : mS), k + n = 120 → zMo E h1 S2 → gKeepM E h h1 → mk3 S nx S2 k → G E l gX2_make d 0 0 Q 117 [some (.ref (gBase E + 12)), some (vI k)] [] h1 0 0 := by
    intro nx hx n
    have hper := pr nx hx
    induction n with
    | zero =>
      intro k h1 S2 hn hm hk hv
      have ek : k = 120 := by omega
      subst ek
      have hv0 := hv
      obtain ⟨⟨a1, a1', a1'', a10, a14⟩, a2, a3, a4, a5, a6, a7⟩ := hv
      have eP : mP S2 = mP S := mP_eq a1 a1' a1''
      have hRn := rk_n (L := mLv S) (R := orb nx) 120
      -- every number below the count is that of a first half
      have hsur : ∀ n r, r < rk (mLv S) (orb nx) n → ∃ f, f < n ∧ fst (mLv S) (orb nx) f ∧ rk (mLv S) (orb nx) f = r := by
        intro n
        induction n with
        | zero => intro r hr; exact absurd hr (by show ¬ r < 0; omega)
        | succ n ih =>
          intro r hr
          by_cases q : fst (mLv S) (orb nx) n
          · rw [rk_pos q] at hr
            by_cases e : r = rk (mLv S) (orb nx) n
            · exact ⟨n, by omega, q, e.symm⟩
            · obtain ⟨f, f1, f2⟩ := ih r (by omega)
              exact ⟨f, by omega, f2⟩
          · rw [rk_neg q] at hr
            obtain ⟨f, f1, f2⟩ := ih r hr
            exact ⟨f, by omega, f2⟩
      refine G_iload_1 (pc := 117) dX2_make_117 ?_
      refine G_bipush (pc := 118) dX2_make_118 (by omega) ?_
      refine G_icmp_ge (pc := 120) 154 dX2_make_120 (by decide) (by omega) (by omega) (fun c120 => ?_) (fun c120 => ?_)
      · skip
        refine G_aload_0 (pc := 154) dX2_make_154 ?_
        refine G_m0u (S := S2) dX2_make_155 rfl rfl rfl hm hk (mo_X2_number (by rw [eP]; exact K) a5 hRn (fun r hr => ?_)) (by omega) (by omega) (by omega) (Nat.le_of_ble_eq_true rfl) (fun h1 S3 hm hk q => ?_)
        · obtain ⟨f, f1, f2, f3⟩ := hsur 120 r hr
          obtain ⟨c1, _⟩ := a7 f f1 f2
          rw [f3] at c1
          have l1 := mP_L.mp f2.1
          rw [c1, a1]
          exact ⟨by omega, by omega, by rw [Int.toNat_natCast]; exact l1.2⟩
        obtain ⟨N, e3⟩ := q
        refine G_return (pc := 158) dX2_make_158 rfl (by omega) (by omega) ?_
        subst hQ
        exact ⟨_, rfl, S3, hm, hk, rfl, mk3_cur hv0 hx hper e3⟩
      · exact absurd c120 (by omega)
    | succ n ih =>
      intro k h1 S2 hn hm hk hv
      have hk120 : k < 120 := by omega
      have hv0 := hv
      obtain ⟨⟨a1, a1', a1'', a10, a14⟩, a2, a3, a4, a5, a6, a7⟩ := hv
      have eP : mP S2 = mP S := mP_eq a1 a1' a1''
      have go : ∀ (h2 : gH) (S3 : mS), zMo E h2 S3 → gKeepM E h h2 → mk3 S nx S3 (k + 1) → G E l gX2_make d 0 0 Q 148 [some (.ref (gBase E + 12)), some (vI k)] [] h2 0 0 := by
        intro h2 S3 hm hk hv
        refine G_iinc_1 (pc := 148) dX2_make_148 (by decide) rfl ?_
        refine G_goto (pc := 151) 117 dX2_make_151 (by decide) ?_
        rw [show ((k : Int) + 1) = ((k + 1 : Nat) : Int) by omega]
        exact ih (k + 1) h2 S3 (by omega) hm hk hv
      refine G_iload_1 (pc := 117) dX2_make_117 ?_
      refine G_bipush (pc := 118) dX2_make_118 (by omega) ?_
      refine G_icmp_ge (pc := 120) 154 dX2_make_120 (by decide) (by omega) (by omega) (fun c120 => ?_) (fun c120 => ?_)
      · exact absurd c120 (by omega)
      · skip
        refine G_aload_0 (pc := 123) dX2_make_123 ?_
        refine G_mref (pc := 124) dX2_make_124 rfl hm rfl ?_
        refine G_iload_1 (pc := 127) dX2_make_127 ?_
        refine G_iconst (pc := 128) dX2_make_128 ?_
        refine G_idiv (pc := 129) dX2_make_129 (by omega) (by omega) ?_
        refine G_mb (pc := 130) dX2_make_130 hm (by omega) (fun b130 => ?_)
        rw [tn_div, a1] at b130 ⊢
        refine G_if_eq (pc := 131) 148 dX2_make_131 (by decide) (by omega) (fun c131 => ?_) (fun c131 => ?_)
        · skip
          exact go _ _ hm hk (mk3_skip hv0 (fun z => by have := (mP_L.mp z.1).2; omega))
          skip
        · skip
          have hl : mLv S k := mP_L.mpr ⟨hk120, by omega⟩
          refine G_aload_0 (pc := 134) dX2_make_134 ?_
          refine G_mref (pc := 135) dX2_make_135 rfl hm rfl ?_
          refine G_iload_1 (pc := 138) dX2_make_138 ?_
          refine G_mi (pc := 139) (n := 120) dX2_make_139 hm rfl rfl rfl (by omega) (fun b139 => ?_)
          rw [Int.toNat_natCast] at *
          refine G_if_ge (pc := 140) 148 dX2_make_140 (by decide) (by omega) (fun c140 => ?_) (fun c140 => ?_)
          · skip
            refine go _ _ hm hk (mk3_skip hv0 (fun z => ?_))
            rcases a6 k hl with ⟨f, f1, f2, f3, _⟩ | ⟨q, _⟩
            · exact z.2 f f1 f2.1 f3
            · omega
            skip
          · skip
            refine G_aload_0 (pc := 143) dX2_make_143 ?_
            refine G_iload_1 (pc := 144) dX2_make_144 ?_
            have h9 : S2.2 9 k = -1 := by
              rcases a6 k hl with ⟨f, f1, f2, f3, q⟩ | ⟨q, _⟩
              · omega
              · exact q
            obtain ⟨m, hp⟩ := hper k hl
            have hR1 := rk_n (L := mLv S) (R := orb nx) k
            refine G_m1u (S := S2) dX2_make_145 rfl rfl rfl hm hk (mo_X2_makeRound (by rw [eP]; exact K) (nx := nx) (fun k hk => ?_) (by rw [eP]; exact hl) a5 (by omega) hp.1 hp.2.1 hp.2.2.1 hp.2.2.2) (by omega) (by omega) (by omega) (Nat.le_of_ble_eq_true rfl) (fun h1 S3 hm hk q => ?_)
            · rw [eP] at hk ⊢
              exact ⟨a2 k hk, nxSpec_L hk (hx k hk)⟩
            exact go _ _ hm hk (mk3_new hv0 hper hl h9 hp q)
            skip
  have k53 : ∀ (n k : Nat) (h1 : gH) (S2 : mS), k + n = 120 → zMo E h1 S2 → gKeepM E h h1 → mk2 S S2 k → G E l gX2_make d 0 0 Q 53 [some (.ref (gBase E + 12)), some (vI k)] [] h1 0 0 := by
    intro n
    induction n with
    | zero =>
      intro k h1 S2 hn hm hk hv
      have ek : k = 120 := by omega
      subst ek
      obtain ⟨⟨a1, a1', a1'', a10, a14⟩, a2, a3, a4, a5, a6⟩ := hv
      have hch : ∃ nx : Nat → Nat, ∀ k, mLv S k → S2.2 5 k = nx k ∧ nxSpec S (zB k) (nx k) := by
        refine ⟨fun k => (S2.2 5 k).toNat, fun k hk => ?_⟩
        obtain ⟨r, e, q⟩ := a4 k hk (zL_lt hk)
        show S2.2 5 k = ((S2.2 5 k).toNat : Nat) ∧ nxSpec S (zB k) (S2.2 5 k).toNat
        rw [e, Int.toNat_natCast]
        exact ⟨rfl, q⟩
      obtain ⟨nx, hnx⟩ := hch
      refine G_iload_1 (pc := 53) dX2_make_53 ?_
      refine G_bipush (pc := 54) dX2_make_54 (by omega) ?_
      refine G_icmp_ge (pc := 56) 115 dX2_make_56 (by decide) (by omega) (by omega) (fun c56 => ?_) (fun c56 => ?_)
      · skip
        refine G_iconst (pc := 115) dX2_make_115 ?_
        refine G_istore_1 (pc := 116) dX2_make_116 (by decide) rfl ?_
        refine k117 nx (fun k hk => (hnx k hk).2) 120 0 h1 S2 rfl hm hk ⟨⟨a1, a1', a1'', a10, a14⟩, fun k hk => (hnx k hk).1, a5, fun k hk => ?_, a2, fun k hk => Or.inr ⟨a3 k (zL_lt hk), fun f hf => absurd hf (by omega)⟩, fun f hf => absurd hf (by omega)⟩
        rcases a6 k hk with ⟨f, f1, f2, f3, f4⟩ | ⟨q1, q2⟩
        · exact ⟨f, f2, f3, f4⟩
        · obtain ⟨f, f1, f2, f3⟩ := fst_ex (fun a _ => zSame_rf (mP S) a) (fun _ _ _ => zSame_tr) k hk
          exact absurd f3 (q2 f (by have := zL_lt hk; omega) f2)
      · exact absurd c56 (by omega)
    | succ n ih =>
      intro k h1 S2 hn hm hk hv
      have hk120 : k < 120 := by omega
      have hv0 := hv
      obtain ⟨⟨a1, a1', a1'', a10, a14⟩, a2, a3, a4, a5, a6⟩ := hv
      have eP : mP S2 = mP S := mP_eq a1 a1' a1''
      have go : ∀ (h2 : gH) (S3 : mS), zMo E h2 S3 → gKeepM E h h2 → mk2 S S3 (k + 1) → G E l gX2_make d 0 0 Q 109 [some (.ref (gBase E + 12)), some (vI k)] [] h2 0 0 := by
        intro h2 S3 hm hk hv
        refine G_iinc_1 (pc := 109) dX2_make_109 (by decide) rfl ?_
        refine G_goto (pc := 112) 53 dX2_make_112 (by decide) ?_
        rw [show ((k : Int) + 1) = ((k + 1 : Nat) : Int) by omega]
        exact ih (k + 1) h2 S3 (by omega) hm hk hv
      refine G_iload_1 (pc := 53) dX2_make_53 ?_
      refine G_bipush (pc := 54) dX2_make_54 (by omega) ?_
      refine G_icmp_ge (pc := 56) 115 dX2_make_56 (by decide) (by omega) (by omega) (fun c56 => ?_) (fun c56 => ?_)
      · exact absurd c56 (by omega)
      · skip
        refine G_aload_0 (pc := 59) dX2_make_59 ?_
        refine G_mref (pc := 60) dX2_make_60 rfl hm rfl ?_
        refine G_iload_1 (pc := 63) dX2_make_63 ?_
        refine G_iconst (pc := 64) dX2_make_64 ?_
        refine G_idiv (pc := 65) dX2_make_65 (by omega) (by omega) ?_
        refine G_mb (pc := 66) dX2_make_66 hm (by omega) (fun b66 => ?_)
        rw [tn_div, a1] at b66 ⊢
        refine G_if_eq (pc := 67) 109 dX2_make_67 (by decide) (by omega) (fun c67 => ?_) (fun c67 => ?_)
        · skip
          exact go _ _ hm hk (mk2_skip hv0 (fun z => by have := (mP_L.mp z.1).2; omega) (fun z => by have := (mP_L.mp z).2; omega))
          first | exact go _ _ hm hk (mk2_new hv1 hl h6 hx1 hJ hc rfl) | skip
          skip
        · skip
          have hl : mLv S k := mP_L.mpr ⟨hk120, by omega⟩
          refine G_aload_0 (pc := 70) dX2_make_70 ?_
          refine G_mref (pc := 71) dX2_make_71 rfl hm rfl ?_
          refine G_iload_1 (pc := 74) dX2_make_74 ?_
          refine G_aload_0 (pc := 75) dX2_make_75 ?_
          refine G_iload_1 (pc := 76) dX2_make_76 ?_
          refine G_m1v (S := S2) dX2_make_77 rfl rfl rfl hm hk (mo_X2_nextOf (by rw [eP]; exact K) (by rw [eP]; exact hl) (fun a b c => ?_)) (by omega) (by omega) (by omega) (Nat.le_of_ble_eq_true rfl) (fun x h1 S3 hm hk q => ?_)
          · unfold cand bef mx
            rw [a1, a1', a1'']
            exact tr k hl a b c
          obtain ⟨e3, r, rfl, hr⟩ := q
          rw [e3] at hm
          rw [nxSpec_eq a1 a1' a1''] at hr
          have hrl := zL_lt (nxSpec_L hl hr)
          refine G_mis (pc := 80) (n := 120) dX2_make_80 hm hk rfl rfl rfl (by omega) (by omega) (fun h hm hk => ?_)
          rw [Int.toNat_natCast] at hm
          have hv1 : mk2 S (mU S2 5 k r) k := ⟨⟨a1, a1', a1'', a10, a14⟩, a2, a3, fun j hj hlt => by
              have hne : ¬ j = k := by omega
              show ∃ r' : Nat, (if 5 = 5 ∧ j = k then (r : Int) else S2.2 5 j) = r' ∧ _
              rw [if_neg (by omega)]
              exact a4 j hj hlt, a5, a6⟩
          have hx1 : ∃ r' : Nat, (mU S2 5 k r).2 5 k = r' ∧ nxSpec S (zB k) r' := ⟨r, by show (if 5 = 5 ∧ k = k then (r : Int) else S2.2 5 k) = r; rw [if_pos ⟨rfl, rfl⟩], hr⟩
          refine G_aload_0 (pc := 81) dX2_make_81 ?_
          refine G_mref (pc := 82) dX2_make_82 rfl hm rfl ?_
          refine G_iload_1 (pc := 85) dX2_make_85 ?_
          refine G_mi (pc := 86) (n := 120) dX2_make_86 hm rfl rfl rfl (by omega) (fun b86 => ?_)
          rw [Int.toNat_natCast] at *
          refine G_if_ge (pc := 87) 109 dX2_make_87 (by decide) (by omega) (fun c87 => ?_) (fun c87 => ?_)
          · skip
            refine go _ _ hm hk (mk2_skip hv1 (fun z => ?_) (fun _ => hx1))
            rcases a6 k hl with ⟨f, f1, f2, f3, _⟩ | ⟨q, _⟩
            · exact z.2 f f1 f2.1 f3
            · have e6 : (mU S2 5 k r).2 6 k = S2.2 6 k := rfl
              omega
            first | exact go _ _ hm hk (mk2_new hv1 hl h6 hx1 hJ hc rfl) | skip
            skip
          · skip
            refine G_aload_0 (pc := 90) dX2_make_90 ?_
            refine G_iload_1 (pc := 91) dX2_make_91 ?_
            refine G_aload_0 (pc := 92) dX2_make_92 ?_
            refine G_mget (pc := 93) dX2_make_93 rfl hm rfl rfl (fun b93 => ?_)
            have e7 : (mU S2 5 k r).1 7 = (rk (mLv S) (zSame (mP S)) k : Nat) := a5
            rw [e7]
            have h6 : S2.2 6 k = -1 := by
              have e6 : (mU S2 5 k r).2 6 k = S2.2 6 k := rfl
              rcases a6 k hl with ⟨f, f1, f2, f3, q⟩ | ⟨q, _⟩
              · omega
              · exact q
            have hR1 := rk_n (L := mLv S) (R := zSame (mP S)) k
            refine G_m2u (S := mU S2 5 k r) dX2_make_96 rfl rfl rfl hm hk (mo_X2_spreadPiece (by rw [show mP (mU S2 5 k r) = mP S2 from rfl, eP]; exact hl) (by omega) (fun j hj hjl e => ?_) (by show S2.2 6 k < 0; omega)) (by omega) (by omega) (by omega) (Nat.le_of_ble_eq_true rfl) (fun h1 S4 hm hk q => ?_)
            · have hjl2 : mLv S j := mP_L.mpr ⟨hj, by rw [← a1]; exact hjl⟩
              have e6 : (mU S2 5 k r).2 6 j = S2.2 6 j := rfl
              rcases a6 j hjl2 with ⟨f, f1, f2, f3, q⟩ | ⟨q, _⟩
              · have := rk_lt f1 f2; omega
              · omega
            obtain ⟨Lb, e4, hJ, hc⟩ := q
            subst e4
            refine G_aload_0 (pc := 99) dX2_make_99 ?_
            refine G_dup (pc := 100) dX2_make_100 rfl ?_
            refine G_mget (pc := 101) dX2_make_101 rfl hm rfl rfl (fun b101 => ?_)
            rw [show (mL (mU S2 5 k r) Lb).1 7 = (rk (mLv S) (zSame (mP S)) k : Nat) from a5]
            refine G_iconst (pc := 104) dX2_make_104 ?_
            refine G_iadd (pc := 105) dX2_make_105 ?_
            refine G_mputI (pc := 106) dX2_make_106 rfl hm hk rfl rfl (by omega) (fun h hm hk => ?_)
            first | exact go _ _ hm hk (mk2_new hv1 hl h6 hx1 hJ hc rfl) | skip
            skip
  have k25 : ∀ (n k : Nat) (h1 : gH) (S2 : mS), k + n = 120 → zMo E h1 S2 → gKeepM E h h1 → (S2.2 1 = S.2 1 ∧ S2.2 2 = S.2 2 ∧ S2.2 3 = S.2 3 ∧ S2.1 0 = S.1 0 ∧ S2.1 4 = 1) → S2.1 7 = 0 → S2.1 8 = 0 → (∀ j, j < k → S2.2 6 j = -1 ∧ S2.2 9 j = -1) → G E l gX2_make d 0 0 Q 25 [some (.ref (gBase E + 12)), some (vI k)] [] h1 0 0 := by
    intro n
    induction n with
    | zero =>
      intro k h1 S2 hn hm hk ha h7 h8 hv
      have ek : k = 120 := by omega
      subst ek
      refine G_iload_1 (pc := 25) dX2_make_25 ?_
      refine G_bipush (pc := 26) dX2_make_26 (by omega) ?_
      refine G_icmp_ge (pc := 28) 51 dX2_make_28 (by decide) (by omega) (by omega) (fun c28 => ?_) (fun c28 => ?_)
      · skip
        refine G_iconst (pc := 51) dX2_make_51 ?_
        refine G_istore_1 (pc := 52) dX2_make_52 (by decide) rfl ?_
        exact k53 120 0 h1 S2 rfl hm hk ⟨ha, h8, fun j hj => (hv j hj).2, fun j _ hj => absurd hj (by omega), h7, fun j hj => Or.inr ⟨(hv j (zL_lt hj)).1, fun f hf => absurd hf (by omega)⟩⟩
      · exact absurd c28 (by omega)
    | succ n ih =>
      intro k h1 S2 hn hm hk ha h7 h8 hv
      have hk120 : k < 120 := by omega
      refine G_iload_1 (pc := 25) dX2_make_25 ?_
      refine G_bipush (pc := 26) dX2_make_26 (by omega) ?_
      refine G_icmp_ge (pc := 28) 51 dX2_make_28 (by decide) (by omega) (by omega) (fun c28 => ?_) (fun c28 => ?_)
      · exact absurd c28 (by omega)
      · skip
        refine G_aload_0 (pc := 31) dX2_make_31 ?_
        refine G_mref (pc := 32) dX2_make_32 rfl hm rfl ?_
        refine G_iload_1 (pc := 35) dX2_make_35 ?_
        refine G_iconst (pc := 36) dX2_make_36 ?_
        refine G_mis (pc := 37) (n := 120) dX2_make_37 hm hk rfl rfl rfl (by omega) (by omega) (fun h hm hk => ?_)
        refine G_aload_0 (pc := 38) dX2_make_38 ?_
        refine G_mref (pc := 39) dX2_make_39 rfl hm rfl ?_
        refine G_iload_1 (pc := 42) dX2_make_42 ?_
        refine G_iconst (pc := 43) dX2_make_43 ?_
        refine G_mis (pc := 44) (n := 120) dX2_make_44 hm hk rfl rfl rfl (by omega) (by omega) (fun h hm hk => ?_)
        rw [Int.toNat_natCast] at hm
        refine G_iinc_1 (pc := 45) dX2_make_45 (by decide) rfl ?_
        refine G_goto (pc := 48) 25 dX2_make_48 (by decide) ?_
        rw [show ((k : Int) + 1) = ((k + 1 : Nat) : Int) by omega]
        refine ih (k + 1) _ _ (by omega) hm hk ha h7 h8 (fun j hj => ?_)
        show (if 6 = 9 ∧ j = k then (-1 : Int) else (if 6 = 6 ∧ j = k then (-1 : Int) else S2.2 6 j)) = -1 ∧ (if 9 = 9 ∧ j = k then (-1 : Int) else (if 9 = 6 ∧ j = k then (-1 : Int) else S2.2 9 j)) = -1
        by_cases e : j = k
        · simp [e]
        · simp [e]
          exact hv j (by omega)
  refine G_aload_0 (pc := 0) dX2_make_0 ?_
  refine G_mgetB (pc := 1) dX2_make_1 rfl hm (fun b1 => ?_)
  refine G_if_eq (pc := 4) 8 dX2_make_4 (by decide) (by omega) (fun c4 => ?_) (fun c4 => ?_)
  · skip
    refine G_aload_0 (pc := 8) dX2_make_8 ?_
    refine G_iconst (pc := 9) dX2_make_9 ?_
    refine G_mputB (pc := 10) dX2_make_10 rfl hm hk (by omega) (fun h hm hk => ?_)
    refine G_aload_0 (pc := 13) dX2_make_13 ?_
    refine G_iconst (pc := 14) dX2_make_14 ?_
    refine G_mputI (pc := 15) dX2_make_15 rfl hm hk rfl rfl (by omega) (fun h hm hk => ?_)
    refine G_aload_0 (pc := 18) dX2_make_18 ?_
    refine G_iconst (pc := 19) dX2_make_19 ?_
    refine G_mputI (pc := 20) dX2_make_20 rfl hm hk rfl rfl (by omega) (fun h hm hk => ?_)
    refine G_iconst (pc := 23) dX2_make_23 ?_
    refine G_istore_1 (pc := 24) dX2_make_24 (by decide) rfl ?_
    exact k25 120 0 _ _ rfl hm hk ⟨rfl, rfl, rfl, rfl, rfl⟩ rfl rfl (fun j hj => absurd hj (by omega))
  · skip
    refine G_return (pc := 7) dX2_make_7 rfl (by omega) (by omega) ?_
    subst hQ
    exact ⟨_, rfl, S, hm, hk, rfl, cur (by omega), by omega, rfl, rfl, rfl, rfl⟩
end MOD9
