set_option maxRecDepth 100000
/-! from face to face -/
def rX (L : Nat → Prop) (fn : Nat → Nat) (a : Nat) : Nat → Nat → Prop
  | 0, f => f = a
  | n + 1, f => ∃ k, L k ∧ rX L fn a n (fn k) ∧ fn (zB k) = f
def dX (L : Nat → Prop) (fn : Nat → Nat) (a f n : Nat) : Prop := rX L fn a n f ∧ ∀ n', n' < n → ¬ rX L fn a n' f
theorem dX_one {L : Nat → Prop} {fn : Nat → Nat} {a f n m : Nat} (h1 : dX L fn a f n) (h2 : dX L fn a f m) : n = m := by
  rcases Nat.lt_trichotomy n m with h | h | h
  · exact absurd h1.1 (h2.2 n h)
  · exact h
  · exact absurd h2.1 (h1.2 m h)
theorem dX_ex {L : Nat → Prop} {fn : Nat → Nat} {a f n : Nat} (h : rX L fn a n f) : ∃ m, m ≤ n ∧ dX L fn a f m := by
  obtain ⟨m, m1, m2, m3⟩ := least_ex (p := fun n => rX L fn a n f) n h
  exact ⟨m, m1, m2, m3⟩
theorem dX_pre {L : Nat → Prop} {fn : Nat → Nat} {a f n : Nat} (h : dX L fn a f (n + 1)) : ∃ k, L k ∧ dX L fn a (fn k) n ∧ fn (zB k) = f := by
  obtain ⟨⟨k, k1, k2, k3⟩, h2⟩ := h
  exact ⟨k, k1, ⟨k2, fun n' hn' r => h2 (n' + 1) (by omega) ⟨k, k1, r, k3⟩⟩, k3⟩
noncomputable def fnC (S : mS) (nx : Nat → Nat) (h : Nat) : Nat := Classical.epsilon (fun v => cNo S nx h v)
theorem cNo_one {S : mS} {nx : Nat → Nat} {g h v w : Nat} (e : cEf S nx g h) (h1 : cNo S nx g v) (h2 : cNo S nx h w) : v = w := by
  unfold cEf at *
  rcases h1 with ⟨a1, a2⟩ | ⟨f, a1, a2, a3⟩ <;> rcases h2 with ⟨b1, b2⟩ | ⟨f', b1, b2, b3⟩
  · omega
  · exfalso; exact b1.1.2 (by unfold cEf at b2; rw [b2, ← e, a1])
  · exfalso; exact a1.1.2 (by unfold cEf at a2; rw [a2, e, b1])
  · have : f = f' := fst_one (L := cLf S nx) (R := cEf S nx) (fun _ _ h => Eq.symm h) (fun _ _ _ h h' => Eq.trans h h') a1 b1 (k := h) (by unfold cEf at *; rw [a2, e]) b2
    subst this
    omega
theorem fnC_is {S : mS} {nx : Nat → Nat} {h v : Nat} (c : cNo S nx h v) : fnC S nx h = v := cNo_one (S := S) (nx := nx) rfl (Classical.epsilon_spec (p := fun v => cNo S nx h v) ⟨v, c⟩) c
/-- distances found in D rounds, and those of the halves below h in the next -/
def acD (L : Nat → Prop) (fn : Nat → Nat) (a F : Nat) (D h : Nat) (DD : Nat → Int) : Prop := ∀ f, f < F → (-1 ≤ DD f ∧ DD f ≤ 1000) ∧ (0 ≤ DD f → ∃ n, n ≤ D + 1 ∧ dX L fn a f n ∧ DD f = n) ∧ (∀ n, n ≤ D → dX L fn a f n → DD f = n) ∧ ∀ k, k < h → L k → fn k < F → fn (zB k) = f → DD (fn k) = D → 0 ≤ DD f
theorem acD_go {L : Nat → Prop} {fn : Nat → Nat} {a F D h : Nat} {DD : Nat → Int} (g : acD L fn a F D h DD) (hD : D < 900) (Lh : L h) (fh : fn h < F) (fb : fn (zB h) < F) (e : DD (fn h) = D) (neg : DD (fn (zB h)) < 0) : acD L fn a F D (h + 1) (updI DD (fn (zB h)) ((D : Int) + 1)) := by
  have dh : dX L fn a (fn h) D := by
    obtain ⟨n, n1, n2, n3⟩ := (g _ fh).2.1 (by omega)
    have : n = D := by omega
    subst this; exact n2
  have db : dX L fn a (fn (zB h)) (D + 1) := by
    refine ⟨⟨h, Lh, dh.1, rfl⟩, fun n' hn' r => ?_⟩
    obtain ⟨m, m1, m2⟩ := dX_ex r
    have := (g _ fb).2.2.1 m (by omega) m2
    omega
  have ne : fn h ≠ fn (zB h) := fun q => by rw [q] at e; omega
  intro f hf
  have gf := g f hf
  unfold updI
  by_cases c : f = fn (zB h)
  · rw [if_pos c, c]
    refine ⟨by omega, fun _ => ⟨D + 1, by omega, db, by omega⟩, fun n hn dn => ?_, fun k hk Lk fk ek q => by omega⟩
    have := dX_one dn db
    omega
  · rw [if_neg c]
    refine ⟨gf.1, gf.2.1, gf.2.2.1, fun k hk Lk fk ek q => ?_⟩
    by_cases c2 : k = h
    · subst c2; exact absurd ek.symm c
    · by_cases c3 : fn k = fn (zB h)
      · rw [if_pos c3] at q; omega
      · rw [if_neg c3] at q
        exact gf.2.2.2 k (by omega) Lk fk ek q
theorem acD_skip {L : Nat → Prop} {fn : Nat → Nat} {a F D h : Nat} {DD : Nat → Int} (g : acD L fn a F D h DD) (no : L h → fn h < F → DD (fn h) = D → 0 ≤ DD (fn (zB h))) : acD L fn a F D (h + 1) DD := by
  intro f hf
  have gf := g f hf
  refine ⟨gf.1, gf.2.1, gf.2.2.1, fun k hk Lk fk ek q => ?_⟩
  by_cases c2 : k = h
  · subst c2
    rw [← ek]
    exact no Lk fk q
  · exact gf.2.2.2 k (by omega) Lk fk ek q
def acH (L : Nat → Prop) (fn : Nat → Nat) (a F : Nat) (D : Nat) (DD : Nat → Int) : Prop := ∀ f, f < F → (-1 ≤ DD f ∧ DD f ≤ 1000) ∧ (0 ≤ DD f → ∃ n, n ≤ D ∧ dX L fn a f n ∧ DD f = n) ∧ (∀ n, n ≤ D → dX L fn a f n → DD f = n)
theorem acH_D {L : Nat → Prop} {fn : Nat → Nat} {a F D : Nat} {DD : Nat → Int} (g : acH L fn a F D DD) : acD L fn a F D 0 DD := fun f hf => ⟨(g f hf).1, fun q => by obtain ⟨n, n1, n2⟩ := (g f hf).2.1 q; exact ⟨n, by omega, n2⟩, (g f hf).2.2, fun k hk => by omega⟩
theorem acD_end {L : Nat → Prop} {fn : Nat → Nat} {a F D : Nat} {DD : Nat → Int} (lt : ∀ k, L k → k < 120 ∧ fn k < F) (g : acD L fn a F D 120 DD) : acH L fn a F (D + 1) DD := by
  intro f hf
  have gf := g f hf
  refine ⟨gf.1, fun q => gf.2.1 q, fun n hn dn => ?_⟩
  · by_cases c : n = D + 1
    · subst c
      obtain ⟨k, k1, k2, k3⟩ := dX_pre dn
      have lk := lt k k1
      have e := (g _ lk.2).2.2.1 D (Nat.le_refl _) k2
      have nn := gf.2.2.2 k lk.1 k1 lk.2 k3 e
      obtain ⟨n, n1, n2, n3⟩ := gf.2.1 nn
      rw [n3, dX_one n2 dn]
    · exact gf.2.2.1 n (by omega) dn
section ACROSS
variable {E : gV} {l : Launch} {T : tT} {S : mS} {d : Nat} {h : gH} {HA ND : Nat → Nat} {ns : List Nat} {NX NY : Nat → Int} {LA : Nat → Nat} {LN : Nat → List Nat} {rs : List Nat} {RA FA : Nat → Nat} {a0 : Nat} {vs xs : List Nat} {FL : Nat → Nat} {XS : Nat → List Nat} {LS : Nat → Int}
theorem cM0_d (m : cM0 E S T HA ND ns NX NY LA LN rs RA FA a0 vs xs FL XS LS) (hz : zK E T S) {a : Nat} {v : Value} (k7 : (T.1 a).1 = 7) : cM0 E S (tSet T a 2 v) HA ND ns NX NY LA LN rs RA FA a0 vs xs FL XS LS := by
  obtain ⟨j, g, ⟨v1, v2⟩, w, o, p, u⟩ := m
  have at' : ∀ b, (T.1 b).1 ≠ 7 → (tSet T a 2 v).1 b = T.1 b := fun b hb => tSet_at T (fun e => hb (by rw [e]; exact k7))
  refine ⟨jG_keep j (tG_set (Or.inr (Or.inr (Or.inl k7)))) (fun _ _ _ _ => rfl), ⟨g.1, g.2.1, fun f F => ?_, fun k L => ?_⟩, ⟨v1, fun b hb => ?_⟩, w, o, p, fun f F np => ?_⟩
  · have q := g.2.2.1 f F
    rw [at' _ (by rw [q.2.1]; decide)]
    exact q
  · obtain ⟨f, a1, a2, a3⟩ := g.2.2.2 k L
    exact ⟨f, a1, a2, by rw [at' _ (by rw [(j.2.1 k L).1.1.1]; decide)]; exact a3⟩
  · have q := v2 b hb
    refine ⟨⟨by rw [tSet_k]; exact q.1.1, by rw [tSet_v, if_neg (by omega)]; exact q.1.2.1, by rw [tSet_v, if_neg (by omega)]; exact q.1.2.2⟩, q.2⟩
  · rw [at' _ (by rw [hz.2.2.2.2.2.2.1]; decide)]
    exact u f F np
theorem n_lt (K : zOK (kPl S)) (m : cM0 E S T HA ND ns NX NY LA LN rs RA FA a0 vs xs FL XS LS) {k : Nat} (L : kLv S k) : fnC S (nxF LN ND) k < xs.length ∧ xs[fnC S (nxF LN ND) k]? = some (fdA (rsC S (nxF LN ND)) FA a0 k) := by
  obtain ⟨v, v1, v2⟩ := n_face K m L
  rw [fnC_is v1]
  refine ⟨?_, v2⟩
  rcases Nat.lt_or_ge v xs.length with w | w
  · exact w
  · rw [List.getElem?_eq_none w] at v2; cases v2
theorem n_inj (K : zOK (kPl S)) (m : cM0 E S T HA ND ns NX NY LA LN rs RA FA a0 vs xs FL XS LS) {i k a : Nat} (h1 : xs[i]? = some a) (h2 : xs[k]? = some a) : i = k := by
  obtain ⟨_, _, nd, _⟩ := n_all K m
  have nd := List.pairwise_iff_getElem.mp nd
  have l1 : i < xs.length := by
    rcases Nat.lt_or_ge i xs.length with w | w
    · exact w
    · rw [List.getElem?_eq_none w] at h1; cases h1
  have l2 : k < xs.length := by
    rcases Nat.lt_or_ge k xs.length with w | w
    · exact w
    · rw [List.getElem?_eq_none w] at h2; cases h2
  rw [List.getElem?_eq_getElem l1] at h1
  rw [List.getElem?_eq_getElem l2] at h2
  rcases Nat.lt_trichotomy i k with w | w | w
  · exact absurd (by rw [Option.some.inj h1, Option.some.inj h2]) (nd i k l1 l2 w)
  · exact w
  · exact absurd (by rw [Option.some.inj h1, Option.some.inj h2]) (nd k i l2 l1 w)
/-- the faces' distances -/
def dsT (T : tT) (xs : List Nat) (DD : Nat → Int) (n : Nat) : Prop := ∀ i a : Nat, i < n → xs[i]? = some a → (T.1 a).2.2 2 = vI (DD i)
theorem ok_make0 (ht : zT E h T) (c : cS E T S) (h6 : S.1 6 = 1) (hd : 1 ≤ d) : gOk E l gX1_make d 0 0 [.ref (gBase E)] h (gRu (fun h' => h' = h)) := by
  refine gOk_of gmok_X1_make rfl (Nat.le_of_ble_eq_true rfl) (L := [some _]) rfl ?_
  have hz := c.1
  refine G_aload_0 (pc := 0) dX1_make_0 ?_
  refine G_kgetB (pc := 1) dX1_make_1 rfl ht hz (fun b1 => ?_)
  refine G_if_eq (pc := 4) 8 dX1_make_4 (by decide) (by omega) (fun q => absurd q (by omega)) (fun c4 => ?_)
  refine G_return (pc := 7) dX1_make_7 rfl (by omega) (by omega) ?_
  exact ⟨_, rfl, rfl, rfl⟩
theorem ok_X1_faceAt0 (ht : zT E h T) (c : cS E T S) (h6 : S.1 6 = 1) (m : cM0 E S T HA ND ns NX NY LA LN rs RA FA a0 vs xs FL XS LS) {i a : Nat} (hg : xs[i]? = some a) (hd : 5 ≤ d) :
    gOk E l gX1_faceAt d 0 0 [.ref (gBase E), vI i] h (gRv (fun v h' => v = .ref a ∧ h' = h)) := by
  refine gOk_of gmok_X1_faceAt rfl (Nat.le_of_ble_eq_true rfl) (L := [some _, some _]) rfl ?_
  refine G_aload_0 (pc := 0) dX1_faceAt_0 ?_
  refine G_callV0u (pc := 1) (d' := 1) dX1_faceAt_1 rfl (zK_k ht c.1) (by decide) rfl (ok_make0 ht c h6 (Nat.le_refl _)) (by omega) (by omega) (by omega) (Nat.le_of_ble_eq_true rfl) (fun h' z => ?_)
  subst z
  have hz := c.1
  have il : i < xs.length := by
    rcases Nat.lt_or_ge i xs.length with w | w
    · exact w
    · rw [List.getElem?_eq_none w] at hg; cases hg
  have xl := n_fl c.2.1 m
  have av := (m.2.2.2.1.2.1 a).mp (List.mem_of_getElem? hg)
  have k7 := (m.2.2.1.2 a av).1.1
  refine G_iload_1 (pc := 4) dX1_faceAt_4 ?_
  refine G_if_lt (pc := 5) 19 dX1_faceAt_5 (by decide) (by omega) (fun q => absurd q (by omega)) (fun _ => ?_)
  refine G_iload_1 (pc := 8) dX1_faceAt_8 ?_
  refine G_aload_0 (pc := 9) dX1_faceAt_9 ?_
  refine G_tget (pc := 10) dX1_faceAt_10 rfl ht hz.1 hz.2.2.2.1.2.2 ?_
  refine G_lsize (pc := 13) dX1_faceAt_13 rfl ht m.2.2.2.1.1 (by omega) (by omega) (by omega) (Nat.le_of_ble_eq_true rfl) ?_
  refine G_icmp_lt (pc := 16) 27 dX1_faceAt_16 (by decide) (by omega) (by omega) (fun _ => ?_) (fun q => absurd q (by omega))
  refine G_aload_0 (pc := 27) dX1_faceAt_27 ?_
  refine G_tget (pc := 28) dX1_faceAt_28 rfl ht hz.1 hz.2.2.2.1.2.2 ?_
  refine G_iload_1 (pc := 31) dX1_faceAt_31 ?_
  refine G_lget (pc := 32) dX1_faceAt_32 rfl ht m.2.2.2.1.1 hg (by omega) (by omega) (by omega) (Nat.le_of_ble_eq_true rfl) ?_
  refine G_tcast (pc := 35) dX1_faceAt_35 rfl ht k7 ?_
  refine G_areturn (pc := 38) dX1_faceAt_38 rfl (Or.inl ⟨_, rfl⟩) (Or.inr ⟨_, rfl⟩) (by omega) (by omega) ?_
  exact ⟨_, rfl, _, rfl, rfl, rfl⟩
theorem ok_X1_across (ht : zT E h T) (c : cS E T S) {i t N : Nat} (hN : N ≤ 120) (hd : 13 ≤ d)
    (hi : ∀ T' S' HA ND ns NX NY LA LN rs RA FA a0 vs xs FL XS LS, cR E T S T' S' → cM0 E S' T' HA ND ns NX NY LA LN rs RA FA a0 vs xs FL XS LS → i < xs.length ∧ t < xs.length ∧ dX (kLv S') (fnC S' (nxF LN ND)) i t N) :
    gOk E l gX1_across d 5885 95924 [.ref (gBase E), vI i, vI t] h (gRv (fun v h' => v = vI N ∧ ∃ T' S', zT E h' T' ∧ cR E T S T' S' ∧ cMd E S' T')) := by
  refine gOk_of gmok_X1_across rfl (Nat.le_of_ble_eq_true rfl) (L := [some _, some _, some _, none, none, none, none]) rfl ?_
  obtain ⟨Q, hQ⟩ : ∃ Q, Q = gRet (gRv (fun v h' => v = vI N ∧ ∃ T' S', zT E h' T' ∧ cR E T S T' S' ∧ cMd E S' T')) := ⟨_, rfl⟩
  rw [← hQ]
  refine G_aload_0 (pc := 0) dX1_across_0 ?_
  refine G_iload_1 (pc := 1) dX1_across_1 ?_
  refine G_callV1v (pc := 2) (d' := 12) dX1_across_2 rfl (zK_k ht c.1) (by decide) rfl (ok_X1_faceAt ht c (Nat.le_refl _) (fun T' S' HA ND ns NX NY LA LN rs RA FA a0 vs xs FL XS LS r m => (hi T' S' HA ND ns NX NY LA LN rs RA FA a0 vs xs FL XS LS r m).1)) (by omega) (by omega) (by omega) (Nat.le_of_ble_eq_true rfl) (fun v h z => ?_)
  obtain ⟨T2, S2, HA, ND, ns, NX, NY, LA, LN, rs, RA, FA, a0, vs, xs, FL, XS, LS, a1, ht2, r, m2, rfl, ha1⟩ := z
  have c2 := cS_of c r ⟨HA, ND, ns, NX, NY, LA, LN, rs, RA, FA, a0, vs, xs, FL, XS, LS, m2⟩
  obtain ⟨hif, htf, dN⟩ := hi T2 S2 HA ND ns NX NY LA LN rs RA FA a0 vs xs FL XS LS r m2
  have K2 := c2.2.1
  have xl := n_fl K2 m2
  obtain ⟨ag, eag⟩ : ∃ ag, ag = xs[t] := ⟨_, rfl⟩
  have hag : xs[t]? = some ag := by rw [eag]; exact List.getElem?_eq_getElem htf
  refine G_pop (pc := 5) dX1_across_5 rfl ?_
  refine G_aload_0 (pc := 6) dX1_across_6 ?_
  refine G_iload_2 (pc := 7) dX1_across_7 ?_
  refine G_callV1v (pc := 8) (d' := 5) dX1_across_8 rfl (zK_k ht2 c2.1) (by decide) rfl (ok_X1_faceAt0 ht2 c2 r.2.2.2.1 m2 hag (Nat.le_refl _)) (by omega) (by omega) (by omega) (Nat.le_of_ble_eq_true rfl) (fun v h' z => ?_)
  obtain ⟨rfl, ez⟩ := z
  subst ez
  have xk : ∀ {T' : tT}, cM0 E S2 T' HA ND ns NX NY LA LN rs RA FA a0 vs xs FL XS LS → ∀ i a : Nat, xs[i]? = some a → (T'.1 a).1 = 7 := fun {T'} m i a e => (m.2.2.1.2 a ((m.2.2.2.1.2.1 a).mp (List.mem_of_getElem? e))).1.1
  have zS : ∀ {T' : tT} {a : Nat} {v : Value}, zK E T' S2 → (T'.1 a).1 = 7 → zK E (tSet T' a 2 v) S2 ∧ tK (xC E) T' (tSet T' a 2 v) := fun {T' a v} z k7 => ⟨zK_cong z (tK_set (Or.inl (by rw [k7]; exact tKd_o (by omega)))), tK_set (Or.inl (by rw [k7]; exact tKd_o (by omega)))⟩
  obtain ⟨L, eL⟩ : ∃ L, L = kLv S2 := ⟨_, rfl⟩
  obtain ⟨fn, efn⟩ : ∃ fn, fn = fnC S2 (nxF LN ND) := ⟨_, rfl⟩
  rw [← eL, ← efn] at dN
  have lt : ∀ k, L k → k < 120 ∧ fn k < xs.length := fun k Lk => by rw [eL] at Lk; rw [efn]; exact ⟨Lk.1, (n_lt K2 m2 Lk).1⟩
  have LB : ∀ k, L k → L (zB k) := fun k Lk => by rw [eL] at Lk ⊢; exact kLv_B Lk
  have set' : ∀ {T' : tT} {DD : Nat → Int} {n k a : Nat} {x : Int}, xs[k]? = some a → dsT T' xs DD n → dsT (tSet T' a 2 (vI x)) xs (updI DD k x) n := by
    intro T' DD n k a x hk ds i b hin hb
    rw [tSet_v]
    unfold updI
    by_cases e : i = k
    · subst e
      rw [hk] at hb
      rw [if_pos ⟨(Option.some.inj hb).symm, rfl⟩, if_pos rfl]
    · rw [if_neg (fun w => e (by have := w.1; subst this; exact n_inj K2 m2 hb hk)), if_neg e]
      exact ds i b hin hb
  -- the passes
  have k62 : ∀ (q D : Nat), D + q = N → ∀ h T3 DD, zT E h T3 → zK E T3 S2 → tK (xC E) T T3 → cM0 E S2 T3 HA ND ns NX NY LA LN rs RA FA a0 vs xs FL XS LS → dsT T3 xs DD xs.length → acH L fn i xs.length D DD → G E l gX1_across d 5885 95924 Q 62 [some (.ref (gBase E)), some (vI i), some (vI t), some (.ref ag), some (vI D), none, none] [] h (0 + 5885 + 0) (0 + 95924 + 0) := by
    intro q
    induction q with
    | zero =>
      intro D hD h T3 DD ht hz tk m ds ac
      have eD : D = N := by omega
      subst eD
      have e := (ac t htf).2.2 D (Nat.le_refl _) dN
      have dt := ds t ag htf hag
      rw [e] at dt
      refine G_aload_3 (pc := 62) dX1_across_62 ?_
      refine G_tget (pc := 63) dX1_across_63 rfl ht (xk m t ag hag) dt ?_
      refine G_if_ge (pc := 66) 163 dX1_across_66 (by decide) (by omega) (fun _ => ?_) (fun q => absurd q (by omega))
      refine G_aload_3 (pc := 163) dX1_across_163 ?_
      refine G_tget (pc := 164) dX1_across_164 rfl ht (xk m t ag hag) dt ?_
      refine G_ireturn (pc := 167) dX1_across_167 rfl rfl (by omega) (by omega) ?_
      subst hQ
      exact ⟨_, rfl, _, rfl, rfl, T3, S2, ht, ⟨hz, r.2.1, r.2.2.1, r.2.2.2.1, r.2.2.2.2.1, tk⟩, HA, ND, ns, NX, NY, LA, LN, rs, RA, FA, a0, vs, xs, FL, XS, LS, m⟩
    | succ q ih =>
      intro D hD h T3 DD ht hz tk m ds ac
      have dt := ds t ag htf hag
      have bt := (ac t htf).1
      have neg : DD t < 0 := by
        rcases Int.lt_or_le (DD t) 0 with w | w
        · exact w
        · exfalso
          obtain ⟨n, n1, n2, n3⟩ := (ac t htf).2.1 w
          have e := dX_one n2 dN
          omega
      -- one pass
      have k72 : ∀ (u k : Nat), k + u = 120 → ∀ h T3 DD v6, zT E h T3 → zK E T3 S2 → tK (xC E) T T3 → cM0 E S2 T3 HA ND ns NX NY LA LN rs RA FA a0 vs xs FL XS LS → dsT T3 xs DD xs.length → acD L fn i xs.length D k DD → G E l gX1_across d 5885 95924 Q 72 [some (.ref (gBase E)), some (vI i), some (vI t), some (.ref ag), some (vI D), some (vI k), v6] [] h (0 + 5885 + 0) (0 + 95924 + 0) := by
        intro u
        induction u with
        | zero =>
          intro k hk h T3 DD v6 ht hz tk m ds ac
          have ek : k = 120 := by omega
          subst ek
          have k8 := hz.2.2.2.2.1
          refine G_iload_5 (pc := 72) dX1_across_72 ?_
          refine G_aload_0 (pc := 74) dX1_across_74 ?_
          refine G_tget (pc := 75) dX1_across_75 rfl ht hz.1 k8.1 ?_
          refine G_talen (pc := 78) dX1_across_78 ht (by omega) k8.2.2 ?_
          refine G_icmp_ge (pc := 79) 157 dX1_across_79 (by decide) (by omega) (by omega) (fun _ => ?_) (fun q => absurd q (by omega))
          refine G_iinc_4 (pc := 157) dX1_across_157 (by decide) rfl ?_
          refine G_goto (pc := 160) 62 dX1_across_160 (by decide) ?_
          refine G_drop_5 ?_
          refine G_drop_6 ?_
          rw [show ((D : Int) + 1) = ((D + 1 : Nat) : Int) by omega]
          exact ih (D + 1) (by omega) h T3 DD ht hz tk m ds (acD_end lt ac)
        | succ u ihu =>
          intro k hk h T3 DD v6 ht hz tk m ds ac
          have k8 := hz.2.2.2.2.1
          have arr := m.1.2.2.2.1 k (by omega)
          have go : ∀ v6, acD L fn i xs.length D (k + 1) DD → G E l gX1_across d 5885 95924 Q 151 [some (.ref (gBase E)), some (vI i), some (vI t), some (.ref ag), some (vI D), some (vI k), v6] [] h (0 + 5885 + 0) (0 + 95924 + 0) := by
            intro v6 ac'
            refine G_iinc_5 (pc := 151) dX1_across_151 (by decide) rfl ?_
            refine G_goto (pc := 154) 72 dX1_across_154 (by decide) ?_
            rw [show ((k : Int) + 1) = ((k + 1 : Nat) : Int) by omega]
            exact ihu (k + 1) (by omega) h T3 DD v6 ht hz tk m ds ac'
          refine G_iload_5 (pc := 72) dX1_across_72 ?_
          refine G_aload_0 (pc := 74) dX1_across_74 ?_
          refine G_tget (pc := 75) dX1_across_75 rfl ht hz.1 k8.1 ?_
          refine G_talen (pc := 78) dX1_across_78 ht (by omega) k8.2.2 ?_
          refine G_icmp_ge (pc := 79) 157 dX1_across_79 (by decide) (by omega) (by omega) (fun q => absurd q (by omega)) (fun _ => ?_)
          refine G_aload_0 (pc := 82) dX1_across_82 ?_
          refine G_tget (pc := 83) dX1_across_83 rfl ht hz.1 k8.1 ?_
          refine G_iload_5 (pc := 86) dX1_across_86 ?_
          by_cases Lk : kLv S2 k
          · rw [zI_pos Lk] at arr
            have Lb := kLv_B Lk
            have wk' := m.1.2.1 k Lk
            have wb := m.1.2.1 _ Lb
            obtain ⟨f, f1, f2, f3, f4, f5⟩ := cM0_fc K2 m Lk
            obtain ⟨g, g1, g2, g3, g4, g5⟩ := cM0_fc K2 m Lb
            have nk := n_lt K2 m Lk
            have nb := n_lt K2 m Lb
            rw [← efn] at nk nb
            have dk := ds _ _ nk.1 nk.2
            have db := ds _ _ nb.1 nb.2
            have bk := (ac _ nk.1).1
            have bb := (ac _ nb.1).1
            refine G_taald (pc := 88) (v := .ref (HA k)) dX1_across_88 ht (Or.inl k8.2.1) (by rw [k8.2.2]; omega) (by rw [k8.2.2]; omega) (by rw [Int.toNat_natCast]; exact arr) ?_
            refine G_ifnull (pc := 89) dX1_across_89 ?_
            refine G_aload_0 (pc := 92) dX1_across_92 ?_
            refine G_tget (pc := 93) dX1_across_93 rfl ht hz.1 k8.1 ?_
            refine G_iload_5 (pc := 96) dX1_across_96 ?_
            refine G_taald (pc := 98) (v := .ref (HA k)) dX1_across_98 ht (Or.inl k8.2.1) (by rw [k8.2.2]; omega) (by rw [k8.2.2]; omega) (by rw [Int.toNat_natCast]; exact arr) ?_
            refine G_tget (pc := 99) dX1_across_99 rfl ht wk'.1.1.1 f1 ?_
            refine G_tget (pc := 102) dX1_across_102 rfl ht f4.1 f4.2 ?_
            refine G_tget (pc := 105) dX1_across_105 rfl ht (xk m _ _ nk.2) dk ?_
            refine G_iload_4 (pc := 108) dX1_across_108 ?_
            refine G_icmp_eq (pc := 110) 116 dX1_across_110 (by decide) (by omega) (by omega) (fun c110 => ?_) (fun c110 => ?_)
            · refine G_aload_0 (pc := 116) dX1_across_116 ?_
              refine G_tget (pc := 117) dX1_across_117 rfl ht hz.1 k8.1 ?_
              refine G_iload_5 (pc := 120) dX1_across_120 ?_
              refine G_taald (pc := 122) (v := .ref (HA k)) dX1_across_122 ht (Or.inl k8.2.1) (by rw [k8.2.2]; omega) (by rw [k8.2.2]; omega) (by rw [Int.toNat_natCast]; exact arr) ?_
              refine G_tget (pc := 123) dX1_across_123 rfl ht wk'.1.1.1 wk'.1.1.2.2.2 ?_
              refine G_tget (pc := 126) dX1_across_126 rfl ht wb.1.1.1 g1 ?_
              refine G_tget (pc := 129) dX1_across_129 rfl ht g4.1 g4.2 ?_
              refine G_astore_6 (pc := 132) dX1_across_132 (by decide) rfl ?_
              refine G_aload_6 (pc := 134) dX1_across_134 ?_
              refine G_tget (pc := 136) dX1_across_136 rfl ht (xk m _ _ nb.2) db ?_
              refine G_if_ge (pc := 139) 151 dX1_across_139 (by decide) (by omega) (fun c139 => ?_) (fun c139 => ?_)
              · exact go _ (acD_skip ac (fun _ _ _ => c139))
              · refine G_aload_6 (pc := 142) dX1_across_142 ?_
                refine G_iload_4 (pc := 144) dX1_across_144 ?_
                refine G_iconst (pc := 146) dX1_across_146 ?_
                refine G_iadd (pc := 147) dX1_across_147 ?_
                refine G_tput (pc := 148) dX1_across_148 rfl ht (xk m _ _ nb.2) (by omega) rfl rfl rfl (fun h ht2 => ?_)
                have z2 := zS (v := vI ((D : Int) + 1)) hz (xk m _ _ nb.2)
                refine G_iinc_5 (pc := 151) dX1_across_151 (by decide) rfl ?_
                refine G_goto (pc := 154) 72 dX1_across_154 (by decide) ?_
                rw [show ((k : Int) + 1) = ((k + 1 : Nat) : Int) by omega]
                exact ihu (k + 1) (by omega) h _ _ _ ht2 z2.1 (tK_tr tk z2.2) (cM0_d m hz (xk m _ _ nb.2)) (set' nb.2 ds) (acD_go ac (by omega) (by rw [eL]; exact Lk) nk.1 nb.1 c110 (by omega))
            · refine G_goto (pc := 113) 151 dX1_across_113 (by decide) ?_
              exact go _ (acD_skip ac (fun _ _ q => absurd q c110))
          · rw [zI_neg Lk] at arr
            refine G_taald (pc := 88) (v := .null) dX1_across_88 ht (Or.inl k8.2.1) (by rw [k8.2.2]; omega) (by rw [k8.2.2]; omega) (by rw [Int.toNat_natCast]; exact arr) ?_
            refine G_ifnullN (pc := 89) 151 dX1_across_89 (by decide) ?_
            exact go _ (acD_skip ac (fun q => absurd (by rw [← eL]; exact q) Lk))
      refine G_aload_3 (pc := 62) dX1_across_62 ?_
      refine G_tget (pc := 63) dX1_across_63 rfl ht (xk m t ag hag) dt ?_
      refine G_if_ge (pc := 66) 163 dX1_across_66 (by decide) (by omega) (fun q => absurd q (by omega)) (fun _ => ?_)
      refine G_iconst (pc := 69) dX1_across_69 ?_
      refine G_istore_5 (pc := 70) dX1_across_70 (by decide) rfl ?_
      exact k72 120 0 rfl h T3 DD none ht hz tk m ds (acH_D ac)
  -- the start
  have k15 : ∀ (q k : Nat), k + q = xs.length → ∀ h T3, zT E h T3 → zK E T3 S2 → tK (xC E) T T3 → cM0 E S2 T3 HA ND ns NX NY LA LN rs RA FA a0 vs xs FL XS LS → dsT T3 xs (fun f => if f = i then 0 else -1) k → G E l gX1_across d 5885 95924 Q 15 [some (.ref (gBase E)), some (vI i), some (vI t), some (.ref ag), some (vI k), none, none] [] h (0 + 5885 + 0) (0 + 95924 + 0) := by
    intro q
    induction q with
    | zero =>
      intro k hk h T3 ht hz tk m ds
      have ek : k = xs.length := by omega
      subst ek
      refine G_iload_4 (pc := 15) dX1_across_15 ?_
      refine G_aload_0 (pc := 17) dX1_across_17 ?_
      refine G_tget (pc := 18) dX1_across_18 rfl ht hz.1 hz.2.2.2.1.2.2 ?_
      refine G_lsize (pc := 21) dX1_across_21 rfl ht m.2.2.2.1.1 (by omega) (by omega) (by omega) (Nat.le_of_ble_eq_true rfl) ?_
      refine G_icmp_ge (pc := 24) 59 dX1_across_24 (by decide) (by omega) (by omega) (fun _ => ?_) (fun q => absurd q (by omega))
      refine G_iconst (pc := 59) dX1_across_59 ?_
      refine G_istore_4 (pc := 60) dX1_across_60 (by decide) rfl ?_
      refine k62 N 0 (by omega) h T3 _ ht hz tk m ds (fun f hf => ?_)
      by_cases e : f = i
      · rw [if_pos e]
        refine ⟨by omega, fun _ => ⟨0, by omega, ⟨e, fun n' hn' => by omega⟩, rfl⟩, fun n hn _ => ?_⟩
        have : n = 0 := by omega
        rw [this]
        rfl
      · rw [if_neg e]
        refine ⟨by omega, fun q => by omega, fun n hn dn => ?_⟩
        have : n = 0 := by omega
        subst this
        exact absurd dn.1 e
    | succ q ih =>
      intro k hk h T3 ht hz tk m ds
      obtain ⟨b, eb⟩ : ∃ b, b = xs[k] := ⟨_, rfl⟩
      have hb : xs[k]? = some b := by rw [eb]; exact List.getElem?_eq_getElem (by omega)
      have fin : ∀ w : Int, (w = if k = i then 0 else -1) → G E l gX1_across d 5885 95924 Q 50 [some (.ref (gBase E)), some (vI i), some (vI t), some (.ref ag), some (vI k), none, none] [vI w, .ref b] h (0 + 5885 + 0) (0 + 95924 + 0) := by
        intro w ew
        refine G_tput (pc := 50) dX1_across_50 rfl ht (xk m k b hb) (by omega) rfl rfl rfl (fun h ht2 => ?_)
        have z2 := zS (v := vI w) hz (xk m k b hb)
        refine G_iinc_4 (pc := 53) dX1_across_53 (by decide) rfl ?_
        refine G_goto (pc := 56) 15 dX1_across_56 (by decide) ?_
        rw [show ((k : Int) + 1) = ((k + 1 : Nat) : Int) by omega]
        refine ih (k + 1) (by omega) h _ ht2 z2.1 (tK_tr tk z2.2) (cM0_d m hz (xk m k b hb)) (fun j a hj ha => ?_)
        rw [tSet_v]
        by_cases e : j = k
        · subst e
          rw [hb] at ha
          rw [if_pos ⟨(Option.some.inj ha).symm, rfl⟩, ew]
        · rw [if_neg (fun u => e (by have := u.1; subst this; exact n_inj K2 m2 ha hb))]
          exact ds j a (by omega) ha
      refine G_iload_4 (pc := 15) dX1_across_15 ?_
      refine G_aload_0 (pc := 17) dX1_across_17 ?_
      refine G_tget (pc := 18) dX1_across_18 rfl ht hz.1 hz.2.2.2.1.2.2 ?_
      refine G_lsize (pc := 21) dX1_across_21 rfl ht m.2.2.2.1.1 (by omega) (by omega) (by omega) (Nat.le_of_ble_eq_true rfl) ?_
      refine G_icmp_ge (pc := 24) 59 dX1_across_24 (by decide) (by omega) (by omega) (fun q => absurd q (by omega)) (fun _ => ?_)
      refine G_aload_0 (pc := 27) dX1_across_27 ?_
      refine G_tget (pc := 28) dX1_across_28 rfl ht hz.1 hz.2.2.2.1.2.2 ?_
      refine G_iload_4 (pc := 31) dX1_across_31 ?_
      refine G_lget (pc := 33) dX1_across_33 rfl ht m.2.2.2.1.1 hb (by omega) (by omega) (by omega) (Nat.le_of_ble_eq_true rfl) ?_
      refine G_tcast (pc := 36) dX1_across_36 rfl ht (xk m k b hb) ?_
      refine G_iload_4 (pc := 39) dX1_across_39 ?_
      refine G_iload_1 (pc := 41) dX1_across_41 ?_
      refine G_icmp_ne (pc := 42) 49 dX1_across_42 (by decide) (by omega) (by omega) (fun c42 => ?_) (fun c42 => ?_)
      · refine G_iconst (pc := 49) dX1_across_49 ?_
        exact fin (-1) (by rw [if_neg (by omega)])
      · refine G_iconst (pc := 45) dX1_across_45 ?_
        refine G_goto (pc := 46) 50 dX1_across_46 (by decide) ?_
        exact fin 0 (by rw [if_pos (by omega)])
  refine G_astore_3 (pc := 11) dX1_across_11 (by decide) rfl ?_
  refine G_iconst (pc := 12) dX1_across_12 ?_
  refine G_istore_4 (pc := 13) dX1_across_13 (by decide) rfl ?_
  exact k15 xs.length 0 (by omega) h' T2 ht2 r.1 r.2.2.2.2.2 m2 (fun j a hj => by omega)
end ACROSS
