set_option maxRecDepth 100000
/-- the rounds, all of them; FC: the faces that they have -/
def gR (E : gV) (S : mS) (T : tT) (HA : Nat → Nat) (nx : Nat → Nat) (rs : List Nat) (RA : Nat → Nat) (FC : Nat → Option Nat) : Prop :=
  T.2 (gBase E + 8) = some rs ∧ rs.length = rk (kLv S) (orb nx) 120 ∧
  (∀ f, fst (kLv S) (orb nx) f → rs[rk (kLv S) (orb nx) f]? = some (RA f) ∧ (T.1 (RA f)).1 = 5 ∧ (T.1 (RA f)).2.2 0 = .ref (HA f) ∧ (T.1 (RA f)).2.2 1 = rfO (FC f)) ∧
  (∀ k, kLv S k → ∃ f, fst (kLv S) (orb nx) f ∧ orb nx f k ∧ (T.1 (HA k)).2.2 4 = .ref (RA f))
theorem gR_of {E : gV} {S : mS} {T : tT} {HA nx : Nat → Nat} {rs : List Nat} {RA : Nat → Nat} (g : gI E S T HA nx rs RA 120) : gR E S T HA nx rs RA (fun _ => none) := by
  obtain ⟨g1, g2, g3, g4⟩ := g
  refine ⟨g1, g2, fun f F => g3 f F.1.1 F, fun k L => ?_⟩
  rcases g4 k L with ⟨f, a, b⟩ | ⟨a, b⟩
  · exact ⟨f, b⟩
  · exfalso
    obtain ⟨f, a1, a2, a3⟩ := fst_ex (L := kLv S) (R := orb nx) (fun a _ => orb_rf nx a) m_otr k L
    exact a f a2.1.1 a2 a3
theorem gR_x {E : gV} {S : mS} {T T' : tT} {HA nx : Nat → Nat} {rs : List Nat} {RA : Nat → Nat} {FC : Nat → Option Nat} (g : gR E S T HA nx rs RA FC) (h3 : ∀ k, kLv S k → (T.1 (HA k)).1 = 3) (x : tX T T') : gR E S T' HA nx rs RA FC := by
  obtain ⟨g1, g2, g3, g4⟩ := g
  refine ⟨by rw [x.1]; exact g1, g2, fun f F => ?_, fun k L => ?_⟩
  · have q := g3 f F
    rw [x.2 (RA f) (by omega)]
    exact q
  · obtain ⟨f, a, b, c⟩ := g4 k L
    exact ⟨f, a, b, by rw [x.2 (HA k) (by rw [h3 k L]; omega)]; exact c⟩
/-- a half at the lowest point of those farthest to the left of a round -/
def crn (S : mS) (nx : Nat → Nat) (f m : Nat) : Nat := itN nx (bi (fun k => kX S (itN nx k f)) (fun k => kY S (itN nx k f)) m) f
noncomputable def kU (S : mS) (HA : Nat → Nat) (y : Nat) : Int := kdx S (hInv (kLv S) HA y)
noncomputable def kV (S : mS) (HA : Nat → Nat) (y : Nat) : Int := kdy S (hInv (kLv S) HA y)
def hB (S : mS) (HA : Nat → Nat) (ns : List Nat) (NX NY : Nat → Int) (LN : Nat → List Nat) (x y : Int) (r : Option Nat) : Prop := hbP S NX NY ns (fun m => (LN m).map HA) (kU S HA) (kV S HA) HA x y r
section AROUND
variable {E : gV} {l : Launch} {T : tT} {S : mS} {d : Nat} {h : gH} {HA ND : Nat → Nat} {ns : List Nat} {NX NY : Nat → Int} {LA : Nat → Nat} {LN : Nat → List Nat} {rs : List Nat} {RA : Nat → Nat} {FC : Nat → Option Nat}
theorem jG_len (j : jG E S T HA ND ns NX NY LA LN) {m : Nat} (hm : m ∈ ns) : 0 < (LN m).length ∧ (LN m).length ≤ 120 := by
  have q := j.2.2.1 m hm
  obtain ⟨k, hk⟩ := q.1
  exact ⟨List.length_pos_of_mem hk, nodup_len q.2.2.2 (fun i hi => (q.2.1 i hi).1.1)⟩
theorem jG_hC (g : kGd S) (j : jG E S T HA ND ns NX NY LA LN) {k : Nat} (L : kLv S k) : hC T (HA k) (kX S k) (kY S k) (kX S (zB k)) (kY S (zB k)) ∧ hD T (HA k) (kdx S k) (kdy S k) := by
  have q1 := j.2.1 k L
  have q2 := j.2.1 (zB k) (kLv_B L)
  exact hD_of g L q1.1.1 q2.1.1 (j.1.2.1 _ q1.2.1).1 q1.2.2.2 (j.1.2.1 _ q2.2.1).1 q2.2.2.2
theorem jG_hU (g : kGd S) (j : jG E S T HA ND ns NX NY LA LN) {m : Nat} (hm : m ∈ ns) : ∀ y, y ∈ (LN m).map HA → hD T y (kU S HA y) (kV S HA y) := by
  intro y hy
  obtain ⟨k, hk, ek⟩ := List.mem_map.mp hy
  subst ek
  have L := ((j.2.2.1 m hm).2.1 k hk).1
  unfold kU kV
  rw [hInv_is (jG_inj j) L]
  exact (jG_hC g j L).2
theorem jG_ns (j : jG E S T HA ND ns NX NY LA LN) : ns.length ≤ 120 := by rw [j.2.2.2.2.1]; exact rk_n _
theorem ok_below (ht : zT E h T) (hz : zK E T S) (g : kGd S) (j : jG E S T HA ND ns NX NY LA LN) {x y : Int} (hx : -16000 ≤ x ∧ x ≤ 16000) (hy : -16000 ≤ y ∧ y ≤ 16000) (hd : 5 ≤ d) :
    gOk E l gX1_halfBelow d 0 0 [.ref (gBase E), vI x, vI y] h (gRv (fun v h' => h' = h ∧ ∃ r, v = rfO r ∧ hB S HA ns NX NY LN x y r)) := by
  have hl := jG_ns j
  refine ok_X1_halfBelow ht hz (fun s hs ls => (g.1 s hs ls).1) j.1.1 (fun m hm => (j.1.2.1 m hm).1) (fun m hm => (j.1.2.1 m hm).2.2.1) (LA := LA) (fun m hm => ⟨(j.1.2.1 m hm).2.1.1, (j.1.2.1 m hm).2.1.2, ?_⟩) (fun m hm => jG_hU g j hm) (fun s hs ls => ?_) hx hy (by omega) hd
  · have := jG_len j hm
    rw [List.length_map]
    omega
  · have L1 : kLv S (2 * s) := ⟨by omega, by rw [show 2 * s / 2 = s by omega]; exact ls⟩
    have L2 : kLv S (2 * s + 1) := ⟨by omega, by rw [show (2 * s + 1) / 2 = s by omega]; exact ls⟩
    rw [j.2.2.2.1 _ L1.1, j.2.2.2.1 _ L2.1, zI_pos L1, zI_pos L2]
    exact ⟨rfl, rfl⟩
/-- from round to round, at most n times, to a face -/
def fch (S : mS) (HA : Nat → Nat) (ns : List Nat) (NX NY : Nat → Int) (LN : Nat → List Nat) (nx : Nat → Nat) (FC : Nat → Option Nat) (a0 : Nat) : Nat → Nat → Nat → Prop
  | 0, f, a => FC f = some a
  | n + 1, f, a => FC f = some a ∨ (FC f = none ∧ ∀ m, prd nx f m → ∀ r, hB S HA ns NX NY LN (kX S (crn S nx f m)) (kY S (crn S nx f m)) r → (r = none ∧ a = a0) ∨ ∃ z f', r = some (HA z) ∧ kLv S z ∧ fst (kLv S) (orb nx) f' ∧ orb nx f' z ∧ fch S HA ns NX NY LN nx FC a0 n f' a)
theorem ok_X1_faceAround (ht : zT E h T) (hz : zK E T S) (g : kGd S) (j : jG E S T HA ND ns NX NY LA LN) (nn : nxG S (nxF LN ND)) (gr' : gR E S T HA (nxF LN ND) rs RA FC) {fs : List Nat} (hfs : T.2 (gBase E + 9) = some fs) {a0 : Nat} (h0 : fs[0]? = some a0) (k0 : (T.1 a0).1 = 7)
    {n f a : Nat} (F : fst (kLv S) (orb (nxF LN ND)) f) (ch : fch S HA ns NX NY LN (nxF LN ND) FC a0 n f a) (un : ∀ f f' z, fst (kLv S) (orb (nxF LN ND)) f → fst (kLv S) (orb (nxF LN ND)) f' → orb (nxF LN ND) f z → orb (nxF LN ND) f' z → f = f') (hd : 6 ≤ d) :
    gOk E l gX1_faceAround d n (3 * n) [.ref (gBase E), .ref (RA f)] h (gRv (fun v h' => v = .ref a ∧ ∃ T', zT E h' T' ∧ tX T T')) := by
  refine gOk_of gmok_X1_faceAround rfl (Nat.le_of_ble_eq_true rfl) (L := [some _, some _, none, none, none]) rfl ?_
  obtain ⟨Q, hQ⟩ : ∃ Q, Q = gRet (gRv (fun v h' => v = .ref a ∧ ∃ T', zT E h' T' ∧ tX T T')) := ⟨_, rfl⟩
  rw [← hQ]
  obtain ⟨N, eN⟩ : ∃ N, N = n := ⟨_, rfl⟩
  rw [← eN] at ch ⊢
  obtain ⟨r0, er0⟩ : ∃ r0, r0 = RA f := ⟨_, rfl⟩
  rw [← er0]
  have k2 : ∀ (n f : Nat), n ≤ N → fst (kLv S) (orb (nxF LN ND)) f → fch S HA ns NX NY LN (nxF LN ND) FC a0 n f a → ∀ h T1 uc us, zT E h T1 → tX T T1 → uc + n ≤ N → us + 3 * n ≤ 3 * N → G E l gX1_faceAround d N (3 * N) Q 2 [some (.ref (gBase E)), some (.ref r0), some (.ref (RA f)), none, none] [] h uc us := by
    intro n
    induction n with
    | zero =>
      intro f _ F ch h T1 uc us ht x hu hv
      have q := (gR_x gr' (fun k L => (j.2.1 k L).1.1.1) x).2.2.1 f F
      have ch : FC f = some a := ch
      rw [ch] at q
      refine G_aload_2 (pc := 2) dX1_faceAround_2 ?_
      refine G_tget (pc := 3) dX1_faceAround_3 rfl ht q.2.1 q.2.2.2 ?_
      refine G_ifnonnull (pc := 6) 54 dX1_faceAround_6 (by decide) ?_
      refine G_aload_2 (pc := 54) dX1_faceAround_54 ?_
      refine G_tget (pc := 55) dX1_faceAround_55 rfl ht q.2.1 q.2.2.2 ?_
      refine G_areturn (pc := 58) dX1_faceAround_58 rfl (Or.inl ⟨_, rfl⟩) (Or.inr ⟨_, rfl⟩) (by omega) (by omega) ?_
      subst hQ
      exact ⟨_, rfl, _, rfl, rfl, T1, ht, x⟩
    | succ n ih =>
      intro f hn F ch h T1 uc us ht x hu hv
      have g1 := gR_x gr' (fun k L => (j.2.1 k L).1.1.1) x
      have q := g1.2.2.1 f F
      rcases ch with ch | ⟨ch, go⟩
      · rw [ch] at q
        refine G_aload_2 (pc := 2) dX1_faceAround_2 ?_
        refine G_tget (pc := 3) dX1_faceAround_3 rfl ht q.2.1 q.2.2.2 ?_
        refine G_ifnonnull (pc := 6) 54 dX1_faceAround_6 (by decide) ?_
        refine G_aload_2 (pc := 54) dX1_faceAround_54 ?_
        refine G_tget (pc := 55) dX1_faceAround_55 rfl ht q.2.1 q.2.2.2 ?_
        refine G_areturn (pc := 58) dX1_faceAround_58 rfl (Or.inl ⟨_, rfl⟩) (Or.inr ⟨_, rfl⟩) (by omega) (by omega) ?_
        subst hQ
        exact ⟨_, rfl, _, rfl, rfl, T1, ht, x⟩
      · rw [ch] at q
        obtain ⟨m, pm⟩ := nn.2 f F.1
        have j1 := jG_keep j (tG_x x) (tl_x x)
        have hz1 := zK_x x hz
        have cy := jG_cyc j1 nn F.1 pm
        have Lp := itN_L nn.1 F.1
        have Lc : kLv S (crn S (nxF LN ND) f m) := Lp _
        have qc := j1.2.1 _ Lc
        have nc := j1.1.2.1 _ qc.2.1
        refine G_aload_2 (pc := 2) dX1_faceAround_2 ?_
        refine G_tget (pc := 3) dX1_faceAround_3 rfl ht q.2.1 q.2.2.2 ?_
        refine G_ifnonnullN (pc := 6) dX1_faceAround_6 ?_
        refine G_aload_2 (pc := 9) dX1_faceAround_9 ?_
        refine G_callV0v (pc := 10) (d' := 4) dX1_faceAround_10 rfl (by rw [zT_at ht q.2.1 (by omega)]; exact q.2.1) (by decide) rfl (ok_X5_corner ht q.2.1 q.2.2.1 cy (F := fun k => ND (itN (nxF LN ND) k f)) (X := fun k => kX S (itN (nxF LN ND) k f)) (Y := fun k => kY S (itN (nxF LN ND) k f)) (fun k hk => ?_) (fun k hk => kX_b g (Lp k)) (Nat.le_refl _)) (by omega) (by omega) (by omega) (Nat.le_of_ble_eq_true rfl) (fun v h z => ?_)
        · have w := j1.2.1 _ (Lp k)
          have nw := (j1.1.2.1 _ w.2.1).1
          rw [w.2.2.2.1, w.2.2.2.2] at nw
          exact ⟨w.1.1.2.2.1, nw⟩
        obtain ⟨rfl, T2, ht2, x2⟩ := z
        have x12 := tX_tr x x2
        have j2 := jG_keep j (tG_x x12) (tl_x x12)
        have hz2 := zK_x x12 hz
        have qc2 := j2.2.1 _ Lc
        have nc2 := (j2.1.2.1 _ qc2.2.1).1
        rw [qc2.2.2.2.1, qc2.2.2.2.2] at nc2
        have bc := kX_b g Lc
        show G E l gX1_faceAround d N (3 * N) Q (10 + 3) _ (.ref (ND (crn S (nxF LN ND) f m)) :: []) h _ _
        refine G_astore_3 (pc := 13) dX1_faceAround_13 (by decide) rfl ?_
        refine G_aload_0 (pc := 14) dX1_faceAround_14 ?_
        refine G_aload_3 (pc := 15) dX1_faceAround_15 ?_
        refine G_tget (pc := 16) dX1_faceAround_16 rfl ht2 nc2.1 nc2.2.1 ?_
        refine G_aload_3 (pc := 19) dX1_faceAround_19 ?_
        refine G_tget (pc := 20) dX1_faceAround_20 rfl ht2 nc2.1 nc2.2.2 ?_
        refine G_callV2v (pc := 23) (d' := 5) dX1_faceAround_23 rfl (zK_k ht2 hz2) (by decide) rfl (ok_below ht2 hz2 g j2 bc.1 bc.2 (Nat.le_refl _)) (by omega) (by omega) (by omega) (Nat.le_of_ble_eq_true rfl) (fun v h3 z => ?_)
        obtain ⟨rfl, r, rfl, hb⟩ := z
        rcases go m pm r hb with ⟨e1, e2⟩ | ⟨z, f', e1, Lz, F', o', ch'⟩
        · subst e1
          refine G_astoreN_4 (pc := 26) dX1_faceAround_26 (by decide) rfl ?_
          refine G_aloadN_4 (pc := 28) dX1_faceAround_28 ?_
          refine G_ifnonnullN (pc := 30) dX1_faceAround_30 ?_
          refine G_aload_0 (pc := 33) dX1_faceAround_33 ?_
          refine G_tget (pc := 34) dX1_faceAround_34 rfl ht2 hz2.1 hz2.2.2.2.1.2.2 ?_
          refine G_iconst (pc := 37) dX1_faceAround_37 ?_
          refine G_lget (pc := 38) (i := 0) dX1_faceAround_38 rfl ht2 (by rw [x12.1]; exact hfs) h0 (by omega) (by omega) (by omega) (Nat.le_of_ble_eq_true rfl) ?_
          refine G_tcast (pc := 41) dX1_faceAround_41 rfl ht2 (by rw [x12.2 a0 (by omega)]; exact k0) ?_
          refine G_areturn (pc := 44) dX1_faceAround_44 rfl (Or.inl ⟨_, rfl⟩) (Or.inr ⟨_, rfl⟩) (by omega) (by omega) ?_
          subst hQ
          exact ⟨_, rfl, _, rfl, by rw [e2], T2, ht2, x12⟩
        · subst e1
          have g2 := gR_x gr' (fun k L => (j.2.1 k L).1.1.1) x12
          obtain ⟨f2, F2, o2, v2⟩ := g2.2.2.2 z Lz
          have ef := un f2 f' z F2 F' o2 o'
          rw [ef] at v2
          refine G_astore_4 (pc := 26) dX1_faceAround_26 (by decide) rfl ?_
          refine G_aload_4 (pc := 28) dX1_faceAround_28 ?_
          refine G_ifnonnull (pc := 30) 45 dX1_faceAround_30 (by decide) ?_
          refine G_aload_4 (pc := 45) dX1_faceAround_45 ?_
          refine G_tget (pc := 47) dX1_faceAround_47 rfl ht2 (j2.2.1 z Lz).1.1.1 v2 ?_
          refine G_astore_2 (pc := 50) dX1_faceAround_50 (by decide) rfl ?_
          refine G_goto (pc := 51) 2 dX1_faceAround_51 (by decide) ?_
          refine G_drop_3 ?_
          refine G_drop_4 ?_
          exact ih f' (by omega) F' ch' _ T2 _ _ ht2 x12 (by omega) (by omega)
  refine G_aload_1 (pc := 0) dX1_faceAround_0 ?_
  refine G_astore_2 (pc := 1) dX1_faceAround_1 (by decide) rfl ?_
  rw [er0]
  rw [er0] at k2
  exact k2 N f (Nat.le_refl _) F ch h T 0 0 ht (tX_rf T) (by omega) (by omega)
end AROUND
