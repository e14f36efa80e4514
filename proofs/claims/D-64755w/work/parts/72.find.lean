set_option maxRecDepth 100000
noncomputable def per (nx : Nat → Nat) (f : Nat) : Nat := Classical.epsilon (fun m => prd nx f m)
theorem per_is {nx : Nat → Nat} {f m : Nat} (h : prd nx f m) : prd nx f (per nx f) := Classical.epsilon_spec (p := fun m => prd nx f m) ⟨m, h⟩
theorem prd_one {nx : Nat → Nat} {f m m' : Nat} (h : prd nx f m) (h' : prd nx f m') : m = m' := by
  rcases Nat.lt_trichotomy m m' with q | q | q
  · exact absurd h.2.2.1 (h'.2.2.2 m h.1 q)
  · exact q
  · exact absurd h'.2.2.1 (h.2.2.2 m' h'.1 q)
noncomputable def kAr (S : mS) (nx : Nat → Nat) (f : Nat) : Int := iS (per nx f) (fun k => kX S (itN nx k f) * kY S (zB (itN nx k f)) - kY S (itN nx k f) * kX S (zB (itN nx k f)))
theorem lsN_fst {S : mS} {nx : Nat → Nat} (nn : nxG S nx) {f : Nat} (F : fst (kLv S) (orb nx) f) : ∀ m, lsN (fun k => ((itN nx k f : Nat) : Int)) m = f := by
  have ge : ∀ k, f ≤ itN nx k f := by
    intro k
    rcases Nat.lt_or_ge (itN nx k f) f with q | q
    · exfalso
      obtain ⟨m, pm⟩ := nn.2 f F.1
      exact F.2 _ q (itN_L nn.1 F.1 k) (orb_sy pm ⟨k, rfl⟩)
    · exact q
  intro m
  induction m with
  | zero => rfl
  | succ m ih =>
    show mnI (lsN _ m) ((itN nx m f : Nat) : Int) = f
    rw [ih]
    have := ge m
    unfold mnI
    split <;> omega
theorem gR_inj {E : gV} {S : mS} {T : tT} {HA nx : Nat → Nat} {rs : List Nat} {RA : Nat → Nat} {FC : Nat → Option Nat} (g : gR E S T HA nx rs RA FC) (inj : ∀ a b, kLv S a → kLv S b → HA a = HA b → a = b) : ∀ a b, fst (kLv S) (orb nx) a → fst (kLv S) (orb nx) b → RA a = RA b → a = b := by
  intro a b A B e
  have h1 := (g.2.2.1 a A).2.2.1
  have h2 := (g.2.2.1 b B).2.2.1
  rw [e, h2] at h1
  have : HA b = HA a := by injection h1
  exact (inj b a B.1 A.1 this).symm
section FIND
variable {E : gV} {l : Launch} {T : tT} {S : mS} {d : Nat} {h : gH} {HA ND : Nat → Nat} {ns : List Nat} {NX NY : Nat → Int} {LA : Nat → Nat} {LN : Nat → List Nat} {rs : List Nat} {RA : Nat → Nat} {FC : Nat → Option Nat}
theorem jG_rA (g : kGd S) (j : jG E S T HA ND ns NX NY LA LN) (nn : nxG S (nxF LN ND)) (gr' : gR E S T HA (nxF LN ND) rs RA FC) {f : Nat} (F : fst (kLv S) (orb (nxF LN ND)) f) : rA T (RA f) (kAr S (nxF LN ND) f) := by
  obtain ⟨m, pm⟩ := nn.2 f F.1
  have q := gr'.2.2.1 f F
  have pp := per_is pm
  have L := itN_L nn.1 F.1
  exact ⟨fun k => HA (itN (nxF LN ND) k f), per (nxF LN ND) f, fun k => kX S (itN (nxF LN ND) k f), fun k => kY S (itN (nxF LN ND) k f), fun k => kX S (zB (itN (nxF LN ND) k f)), fun k => kY S (zB (itN (nxF LN ND) k f)), q.2.1, q.2.2.1, jG_cyc j nn F.1 pp, fun k _ => (jG_hC g j (L k)).1, fun k _ => ⟨kX_b g (L k), kX_b g (kLv_B (L k))⟩, rfl⟩
variable {T0 : tT} {vs : List Nat} {FL : Nat → Nat} {XS : Nat → List Nat} {LS : Nat → Int}
theorem ok_fadd (ht : zT E h T) (j : jG E S T0 HA ND ns NX NY LA LN) (nn : nxG S (nxF LN ND)) (i : fI E S T0 T HA (nxF LN ND) rs RA FC vs FL XS LS) (h8 : T0.2 (gBase E + 8) ≠ none) (h9 : T0.2 (gBase E + 9) ≠ none) {a f : Nat} (ha : a ∈ vs) (F : fst (kLv S) (orb (nxF LN ND)) f) (no : FC f = none) (hd : 8 ≤ d) :
    gOk E l gX7_add d 2 (gr (XS a).length + 3) [.ref a, .ref (RA f)] h (gRu (fun h' => ∃ T', zT E h' T' ∧ fI E S T0 T' HA (nxF LN ND) rs RA (fU FC f (some a)) vs FL (fU XS a (XS a ++ [f])) (fU LS a (mnI (LS a) f)) ∧ T'.2 (gBase E + 9) = T.2 (gBase E + 9) ∧ (∀ c, c ≠ FL a → T'.2 c = T.2 c) ∧ (∀ c, (T.1 c).1 ≠ 0 → (T'.1 c).1 = (T.1 c).1))) := by
  have j1 := jG_keepF j i.2.1.1 i.2.1.2
  have qa := i.2.2.2.1 a ha
  have qf := i.1.2.2.1 f F
  obtain ⟨m, pm⟩ := nn.2 f F.1
  have L := itN_L nn.1 F.1
  have ll : (XS a).length ≤ 120 := nodup_len qa.2.2.2.1 (fun k hk => ((qa.2.2.2.2.1 k).mp hk).1.1.1)
  have := ok_X7_add (l := l) ht (f := a) (b := FL a) (r := RA f) (m := m) (p := fun k => HA (itN (nxF LN ND) k f)) (xs := (XS a).map RA) (L := LS a) (N := fun k => ((itN (nxF LN ND) k f : Nat) : Int)) qa.1.1 qa.1.2.1 qa.1.2.2 qa.2.2.1 qa.2.1.1 qf.2.1 qf.2.2.1 (jG_cyc j1 nn F.1 pm) (fun k _ => (j1.2.1 _ (L k)).1.1.2.1) (fun k _ => by have := (L k).1; omega) (by rw [List.length_map]; omega) hd
  rw [List.length_map] at this
  refine gOk_mono ?_ this
  rintro v h' ⟨e, T3, x, z⟩
  rw [lsN_fst nn F] at z
  obtain ⟨w1, w2, w3, w4, _⟩ := fI_add i (fun k L => (j1.2.1 k L).1.1.1) h8 h9 (gR_inj i.1 (jG_inj j)) ha F no x rfl
  exact ⟨e, _, z, w1, w2, w3, w4⟩
theorem fI_fc {FC' : Nat → Option Nat} {nx : Nat → Nat} (i : fI E S T0 T HA nx rs RA FC vs FL XS LS) (e : ∀ f, fst (kLv S) (orb nx) f → FC' f = FC f) : fI E S T0 T HA nx rs RA FC' vs FL XS LS := by
  obtain ⟨⟨g1, g2, g3, g4⟩, i2, i3, i4, i5, i6⟩ := i
  refine ⟨⟨g1, g2, fun f F => by rw [e f F]; exact g3 f F, g4⟩, i2, i3, fun a ha => ?_, i5, fun f a F q => i6 f a F (by rw [← e f F]; exact q)⟩
  have q := i4 a ha
  refine ⟨q.1, q.2.1, q.2.2.1, q.2.2.2.1, fun f => ?_, q.2.2.2.2.2⟩
  rw [q.2.2.2.2.1 f]
  constructor
  · intro w; exact ⟨w.1, by rw [e f w.1]; exact w.2⟩
  · intro w; exact ⟨w.1, by rw [← e f w.1]; exact w.2⟩
theorem fI_len {nx : Nat → Nat} (i : fI E S T0 T HA nx rs RA FC vs FL XS LS) {a : Nat} (ha : a ∈ vs) : (XS a).length ≤ 120 := nodup_len (i.2.2.2.1 a ha).2.2.2.1 (fun k hk => (((i.2.2.2.1 a ha).2.2.2.2.1 k).mp hk).1.1.1)
/-- the face that is found, and what is known of faces: res f is the round of positive area, if there is one -/
def fdA (res : Nat → Option Nat) (FA : Nat → Nat) (a0 f : Nat) : Nat := match res f with
  | none => a0
  | some p => FA p
noncomputable def fc3 (S : mS) (nx : Nat → Nat) (res : Nat → Option Nat) (FA : Nat → Nat) (a0 k : Nat) (f : Nat) : Option Nat := zI (0 < kAr S nx f ∨ rk (kLv S) (orb nx) f < k) (some (fdA res FA a0 f)) none
theorem fI_K {nx : Nat → Nat} (hz0 : zK E T0 S) (i : fI E S T0 T HA nx rs RA FC vs FL XS LS) : zK E T S := zK_cong hz0 (fun b k _ => i.2.1.1 b (Or.inr (Or.inr k)))
theorem fp3 {Q : Outcome → gH → Prop} (hd : 9 ≤ d) (hz0 : zK E T0 S) (j : jG E S T0 HA ND ns NX NY LA LN) (nn : nxG S (nxF LN ND)) (h8 : T0.2 (gBase E + 8) ≠ none) (h9 : T0.2 (gBase E + 9) ≠ none) {res : Nat → Option Nat} {FA : Nat → Nat} {a0 w : Nat} {fnd : List Nat} {mc ms uc0 us0 : Nat}
    (hv : ∀ f, fst (kLv S) (orb (nxF LN ND)) f → fdA res FA a0 f ∈ vs) (hf : ∀ f, fst (kLv S) (orb (nxF LN ND)) f → fnd[rk (kLv S) (orb (nxF LN ND)) f]? = some (fdA res FA a0 f)) (hw : ∀ a, a ∈ vs → FL a ≠ w) (hw9 : w ≠ gBase E + 9)
    (hb1 : uc0 + 240 + 121 ≤ mc) (hb2 : us0 + 19920 + 19723 ≤ ms)
    (kk : ∀ h T1 XS LS uc us, zT E h T1 → fI E S T0 T1 HA (nxF LN ND) rs RA (fc3 S (nxF LN ND) res FA a0 120) vs FL XS LS → T1.2 (gBase E + 9) = some vs → uc ≤ uc0 + 240 → us ≤ us0 + 19920 → G E l gX1_findFaces d mc ms Q 200 [some (.ref (gBase E)), some (.ref w), some (vI rs.length)] [] h uc us) :
    ∀ (m k : Nat), k + m = rs.length → ∀ h T1 XS LS uc us, zT E h T1 → fI E S T0 T1 HA (nxF LN ND) rs RA (fc3 S (nxF LN ND) res FA a0 k) vs FL XS LS → T1.2 (gBase E + 9) = some vs → T1.2 w = some fnd → uc ≤ uc0 + 2 * k → us ≤ us0 + 166 * k → G E l gX1_findFaces d mc ms Q 144 [some (.ref (gBase E)), some (.ref w), some (vI k)] [] h uc us := by
  intro m
  induction m with
  | zero =>
    intro k hn h T1 XS LS uc us ht i l9 lw hu hvv
    have hz := fI_K hz0 i
    have ek : k = rs.length := by omega
    subst ek
    have rl : rs.length ≤ 120 := by rw [i.1.2.1]; exact rk_n _
    refine G_iload_2 (pc := 144) dX1_findFaces_144 ?_
    refine G_aload_0 (pc := 145) dX1_findFaces_145 ?_
    refine G_tget (pc := 146) dX1_findFaces_146 rfl ht hz.1 hz.2.2.2.1.2.1 ?_
    refine G_lsize (pc := 149) dX1_findFaces_149 rfl ht i.1.1 (by omega) (by omega) (by omega) (Nat.le_of_ble_eq_true rfl) ?_
    refine G_icmp_ge (pc := 152) 200 dX1_findFaces_152 (by decide) (by omega) (by omega) (fun _ => ?_) (fun q => absurd q (by omega))
    refine kk h T1 XS LS uc us ht (fI_fc i (fun f F => ?_)) l9 (by omega) (by omega)
    unfold fc3
    have r1 : rk (kLv S) (orb (nxF LN ND)) f < rs.length := by rw [i.1.2.1]; exact rk_lt F.1.1 F
    rw [zI_pos (Or.inr (by omega)), zI_pos (Or.inr r1)]
  | succ m ih =>
    intro k hn h T1 XS LS uc us ht i l9 lw hu hvv
    have hz := fI_K hz0 i
    have rl : rs.length ≤ 120 := by rw [i.1.2.1]; exact rk_n _
    obtain ⟨f, _, F, ef⟩ := rk_srj (L := kLv S) (R := orb (nxF LN ND)) 120 k (by rw [← i.1.2.1]; omega)
    have q := i.1.2.2.1 f F
    rw [ef] at q
    have go : ∀ h T2 XS LS uc' us', zT E h T2 → fI E S T0 T2 HA (nxF LN ND) rs RA (fc3 S (nxF LN ND) res FA a0 (k + 1)) vs FL XS LS → T2.2 (gBase E + 9) = some vs → T2.2 w = some fnd → uc' ≤ uc0 + 2 * (k + 1) → us' ≤ us0 + 166 * (k + 1) → G E l gX1_findFaces d mc ms Q 194 [some (.ref (gBase E)), some (.ref w), some (vI k)] [] h uc' us' := by
      intro h T2 XS LS uc' us' ht i l9 lw hu hvv
      refine G_iinc_2 (pc := 194) dX1_findFaces_194 (by decide) rfl ?_
      refine G_goto (pc := 197) 144 dX1_findFaces_197 (by decide) ?_
      rw [show ((k : Int) + 1) = ((k + 1 : Nat) : Int) by omega]
      exact ih (k + 1) (by omega) h T2 XS LS uc' us' ht i l9 lw hu hvv
    have uq : ∀ f', fst (kLv S) (orb (nxF LN ND)) f' → f' ≠ f → (rk (kLv S) (orb (nxF LN ND)) f' < k + 1 ↔ rk (kLv S) (orb (nxF LN ND)) f' < k) := by
      intro f' F' ne
      have : rk (kLv S) (orb (nxF LN ND)) f' ≠ k := fun e => ne (rk_inj F' F (by rw [e, ef]))
      omega
    refine G_iload_2 (pc := 144) dX1_findFaces_144 ?_
    refine G_aload_0 (pc := 145) dX1_findFaces_145 ?_
    refine G_tget (pc := 146) dX1_findFaces_146 rfl ht hz.1 hz.2.2.2.1.2.1 ?_
    refine G_lsize (pc := 149) dX1_findFaces_149 rfl ht i.1.1 (by omega) (by omega) (by omega) (Nat.le_of_ble_eq_true rfl) ?_
    refine G_icmp_ge (pc := 152) 200 dX1_findFaces_152 (by decide) (by omega) (by omega) (fun q => absurd q (by omega)) (fun _ => ?_)
    refine G_aload_0 (pc := 155) dX1_findFaces_155 ?_
    refine G_tget (pc := 156) dX1_findFaces_156 rfl ht hz.1 hz.2.2.2.1.2.1 ?_
    refine G_iload_2 (pc := 159) dX1_findFaces_159 ?_
    refine G_lget (pc := 160) dX1_findFaces_160 rfl ht i.1.1 q.1 (by omega) (by omega) (by omega) (Nat.le_of_ble_eq_true rfl) ?_
    refine G_tcast (pc := 163) dX1_findFaces_163 rfl ht q.2.1 ?_
    refine G_tget (pc := 166) dX1_findFaces_166 rfl ht q.2.1 q.2.2.2 ?_
    by_cases pos : 0 < kAr S (nxF LN ND) f
    · have e1 : fc3 S (nxF LN ND) res FA a0 k f = some (fdA res FA a0 f) := zI_pos (Or.inl pos) _ _
      rw [e1]
      refine G_ifnonnull (pc := 169) 194 dX1_findFaces_169 (by decide) ?_
      refine go h T1 XS LS uc us ht (fI_fc i (fun f' F' => ?_)) l9 lw (by omega) (by omega)
      unfold fc3
      by_cases e : f' = f
      · subst e; rw [zI_pos (Or.inl pos), zI_pos (Or.inl pos)]
      · rw [uq f' F' e]
    · have e1 : fc3 S (nxF LN ND) res FA a0 k f = none := zI_neg (fun w => by rcases w with w | w; exact pos w; omega) _ _
      rw [e1]
      have fm := i.2.2.2.1 _ (hv f F)
      have ff := hf f F
      rw [ef] at ff
      have lx := fI_len i (hv f F)
      have gb := gr_163 (show (XS (fdA res FA a0 f)).length < 150 by omega)
      refine G_ifnonnullN (pc := 169) dX1_findFaces_169 ?_
      refine G_aload_1 (pc := 172) dX1_findFaces_172 ?_
      refine G_iload_2 (pc := 173) dX1_findFaces_173 ?_
      refine G_lget (pc := 174) dX1_findFaces_174 rfl ht lw ff (by omega) (by omega) (by omega) (Nat.le_of_ble_eq_true rfl) ?_
      refine G_tcast (pc := 177) dX1_findFaces_177 rfl ht fm.1.1 ?_
      refine G_aload_0 (pc := 180) dX1_findFaces_180 ?_
      refine G_tget (pc := 181) dX1_findFaces_181 rfl ht hz.1 hz.2.2.2.1.2.1 ?_
      refine G_iload_2 (pc := 184) dX1_findFaces_184 ?_
      refine G_lget (pc := 185) dX1_findFaces_185 rfl ht i.1.1 q.1 (by omega) (by omega) (by omega) (Nat.le_of_ble_eq_true rfl) ?_
      refine G_tcast (pc := 188) dX1_findFaces_188 rfl ht q.2.1 ?_
      refine G_callV1u (pc := 191) (d' := 8) dX1_findFaces_191 rfl (by rw [zT_at ht fm.1.1 (by omega)]; exact fm.1.1) (by decide) rfl (ok_fadd ht j nn i h8 h9 (hv f F) F e1 (Nat.le_refl _)) (by omega) (by omega) (by omega) (Nat.le_of_ble_eq_true rfl) (fun h z => ?_)
      obtain ⟨T2, ht2, i2, w9, wl, wk⟩ := z
      refine go h T2 _ _ _ _ ht2 (fI_fc i2 (fun f' F' => ?_)) (by rw [w9]; exact l9) (by rw [wl w (Ne.symm (hw _ (hv f F)))]; exact lw) (by omega) (by omega)
      by_cases e : f' = f
      · subst e
        rw [fU_s]
        exact zI_pos (Or.inr (by omega)) _ _
      · rw [fU_n _ _ e]
        unfold fc3
        rw [uq f' F' e]
end FIND
