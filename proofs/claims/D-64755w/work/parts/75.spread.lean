set_option maxRecDepth 100000
def kPl (S : mS) : zP := (fun s => decide (S.2 1 s = 1), kX S, kY S)
theorem kPl_L {S : mS} {k : Nat} : zL (kPl S) k = true ↔ kLv S k := by
  unfold zL kPl kLv
  simp
def kP (S : mS) (PO : Nat → Int) : mS := (S.1, fun g i => if g = 11 then PO i else S.2 g i)
theorem kP_id (S : mS) : kP S (S.2 11) = S := by
  unfold kP
  have : (fun g i => if g = 11 then S.2 11 i else S.2 g i) = S.2 := by
    funext g i
    by_cases e : g = 11
    · rw [if_pos e, e]
    · rw [if_neg e]
  rw [this]
theorem kP_set (S : mS) (PO : Nat → Int) (s : Nat) (x : Int) : mU (kP S PO) 11 s x = kP S (updI PO s x) := by
  unfold mU kP updI
  congr 1
  funext g i
  by_cases e : g = 11 <;> by_cases e' : i = s <;> simp [e, e']
theorem ior_b {a b : Int} (ha : a = 0 ∨ a = 1) (hb : b = 0 ∨ b = 1) : Int32.ofInt a ||| Int32.ofInt b = Int32.ofInt (if a = 1 ∨ b = 1 then 1 else 0) := by
  rcases ha with rfl | rfl <;> rcases hb with rfl | rfl <;> decide
theorem zS_seg {S : mS} {i : Nat} (L : kLv S i) : zSame (kPl S) (2 * (i / 2)) i ∧ zSame (kPl S) i (2 * (i / 2)) := by
  have e : 2 * (i / 2) = i ∨ 2 * (i / 2) = zB i := by unfold zB; split <;> omega
  rcases e with e | e
  · rw [e]; exact ⟨zSame_rf _ _, zSame_rf _ _⟩
  · rw [e]
    have := zSame_tw (P := kPl S) (a := i) (kPl_L.mpr L)
    exact ⟨zSame_sy this, this⟩
/-- labels spread from s0 on -/
def spK (S : mS) (PO0 : Nat → Int) (s0 : Nat) (p : Int) (PO : Nat → Int) : Prop := PO s0 = p ∧ ∀ s, PO s ≠ PO0 s → PO s = p ∧ s < 60 ∧ S.2 1 s = 1 ∧ zSame (kPl S) (2 * s0) (2 * s)
def u60 (PO : Nat → Int) : Nat := zC 60 (fun s => decide (PO s < 0))
theorem u60_lt {PO : Nat → Int} {s : Nat} {p : Int} (hs : s < 60) (h : PO s < 0) (hp : 0 ≤ p) : u60 (updI PO s p) < u60 PO := by
  refine zC_lt (fun i _ hi => ?_) s hs ?_ ?_
  · have hi' : updI PO s p i < 0 := by simpa using hi
    show decide (PO i < 0) = true
    unfold updI at hi'
    split at hi'
    · omega
    · simpa using hi'
  · simp only [updI, if_true, decide_eq_false_iff_not]; omega
  · simp only [decide_eq_true_eq]; exact h
def spH (S : mS) (PO0 : Nat → Int) (s0 : Nat) (p : Int) : Prop := (s0 < 60 ∧ S.2 1 s0 = 1) ∧ (0 ≤ p ∧ p ≤ 1000) ∧ (∀ s, s < 60 → S.2 1 s = 1 → PO0 s ≠ p) ∧ (∀ s, s < 60 → S.2 1 s = 1 → zSame (kPl S) (2 * s0) (2 * s) → PO0 s < 0)
theorem spK_p {S : mS} {PO0 PO : Nat → Int} {s0 s : Nat} {p : Int} (H : spH S PO0 s0 p) (k : spK S PO0 s0 p PO) (hs : s < 60) (ls : S.2 1 s = 1) (e : PO s = p) : zSame (kPl S) (2 * s0) (2 * s) := by
  by_cases c : PO s = PO0 s
  · exact absurd (c.symm.trans e) (H.2.2.1 s hs ls)
  · exact (k.2 s c).2.2.2
theorem spK_set {S : mS} {PO0 PO : Nat → Int} {s0 s : Nat} {p : Int} (k : spK S PO0 s0 p PO) (hs : s < 60) (ls : S.2 1 s = 1) (z : zSame (kPl S) (2 * s0) (2 * s)) : spK S PO0 s0 p (updI PO s p) := by
  refine ⟨?_, fun u hu => ?_⟩
  · unfold updI; split
    · rfl
    · exact k.1
  · unfold updI at *
    by_cases e : u = s
    · subst e; rw [if_pos rfl]; exact ⟨rfl, hs, ls, z⟩
    · rw [if_neg e] at hu ⊢; exact k.2 u hu
theorem updI_same {PO : Nat → Int} {s : Nat} {p : Int} (h : PO s = p) : updI PO s p = PO := by
  funext i
  unfold updI
  by_cases e : i = s
  · rw [if_pos e, e, h]
  · rw [if_neg e]
def tP (E : gV) (T T1 : tT) : Prop := T1.2 = T.2 ∧ ∀ b, b ≠ gBase E + 10 → T1.1 b = T.1 b
theorem tP_rf (E : gV) (T : tT) : tP E T T := ⟨rfl, fun _ _ => rfl⟩
theorem tP_set {E : gV} {T T1 : tT} (h : tP E T T1) (f : Nat) (v : Value) : tP E T (tSet T1 (gBase E + 10) f v) := ⟨h.1, fun b hb => by rw [tSet_at _ hb]; exact h.2 b hb⟩
theorem jG_P {E : gV} {S : mS} {T T' : tT} {HA ND : Nat → Nat} {ns : List Nat} {NX NY : Nat → Int} {LA : Nat → Nat} {LN : Nat → List Nat} (j : jG E S T HA ND ns NX NY LA LN) (h10 : (T.1 (gBase E + 10)).1 = 31) (x : tP E T T') : jG E S T' HA ND ns NX NY LA LN := by
  obtain ⟨j0, j1, j2, j3, j4, j5, j6⟩ := j
  have ne : ∀ b, (T.1 b).1 ≠ 31 → T'.1 b = T.1 b := fun b hb => x.2 b (fun e => hb (by rw [e]; exact h10))
  refine ⟨nJ_keep j0 (fun m hm => ne m (by rw [(j0.2.1 m hm).1.1]; decide)) (fun m hm => by rw [x.1]) (by rw [x.1]), fun k L => ?_, j2, fun k hk => by rw [x.2 _ (by omega)]; exact j3 k hk, j4, j5, by rw [x.2 _ (by omega)]; exact j6⟩
  have q := j1 k L
  have e := ne (HA k) (by rw [q.1.1.1]; decide)
  unfold hF
  rw [e]
  exact q
/-- nodes below k are of one piece, or of none of it -/
def clN (ns : List Nat) (LN : Nat → List Nat) (PO : Nat → Int) (p : Int) (k : Nat) : Prop := ∀ k' m i i', k' < k → ns[k']? = some m → i ∈ LN m → i' ∈ LN m → PO (i / 2) = p → PO (i' / 2) = p
section SPREAD
variable {E : gV} {l : Launch} {T : tT} {S : mS} {d : Nat} {h : gH} {HA ND : Nat → Nat} {ns : List Nat} {NX NY : Nat → Int} {LA : Nat → Nat} {LN : Nat → List Nat} {PO0 : Nat → Int} {s0 : Nat} {p : Int}
theorem jG_same (j : jG E S T HA ND ns NX NY LA LN) {m i i' : Nat} (hm : m ∈ ns) (hi : i ∈ LN m) (hi' : i' ∈ LN m) : zSame (kPl S) (2 * (i / 2)) (2 * (i' / 2)) := by
  have q := j.2.2.1 m hm
  have a := q.2.1 i hi
  have b := q.2.1 i' hi'
  have wa := j.2.1 i a.1
  have wb := j.2.1 i' b.1
  rw [a.2] at wa
  rw [b.2] at wb
  refine zSame_tr (zS_seg a.1).1 (zSame_tr (zSame_at (kPl_L.mpr a.1) (kPl_L.mpr b.1) ?_ ?_) (zS_seg b.1).2)
  · show kX S i = kX S i'
    rw [← wa.2.2.2.1, ← wb.2.2.2.1]
  · show kY S i = kY S i'
    rw [← wa.2.2.2.2, ← wb.2.2.2.2]
theorem ok_X1_spread (ht : zT E h T) (hz : zK E T (kP S PO0)) (j : jG E S T HA ND ns NX NY LA LN) (H : spH S PO0 s0 p) (hd : 5 ≤ d) :
    gOk E l gX1_spread d 0 0 [.ref (gBase E), vI s0, vI p] h (gRu (fun h' => ∃ T' PO, zT E h' T' ∧ zK E T' (kP S PO) ∧ tP E T T' ∧ spK S PO0 s0 p PO ∧ clN ns LN PO p ns.length)) := by
  refine gOk_of gmok_X1_spread rfl (Nat.le_of_ble_eq_true rfl) (L := [some _, some _, some _, none, none, none, none, none, none]) rfl ?_
  obtain ⟨Q, hQ⟩ : ∃ Q, Q = gRet (gRu (fun h' => ∃ T' PO, zT E h' T' ∧ zK E T' (kP S PO) ∧ tP E T T' ∧ spK S PO0 s0 p PO ∧ clN ns LN PO p ns.length)) := ⟨_, rfl⟩
  rw [← hQ]
  have h10 : (T.1 (gBase E + 10)).1 = 31 := (hz.2.2.1 11 rfl).2.1
  have hl := jG_ns j
  obtain ⟨⟨s0b, s0l⟩, ⟨p0, p1⟩, hno, hun⟩ := H
  have H : spH S PO0 s0 p := ⟨⟨s0b, s0l⟩, ⟨p0, p1⟩, hno, hun⟩
  -- done
  have k9_0 : ∀ h T1 PO, zT E h T1 → zK E T1 (kP S PO) → tP E T T1 → spK S PO0 s0 p PO → clN ns LN PO p ns.length → G E l gX1_spread d 0 0 Q 9 [some (.ref (gBase E)), some (vI s0), some (vI p), some (vI 0), none, none, none, none, none] [] h 0 0 := by
    intro h T1 PO ht hz tp sk cl
    refine G_iload_3 (pc := 9) dX1_spread_9 ?_
    refine G_if_eq (pc := 10) 179 dX1_spread_10 (by decide) (by omega) (fun _ => ?_) (fun q => absurd rfl q)
    refine G_return (pc := 179) dX1_spread_179 rfl (by omega) (by omega) ?_
    subst hQ
    exact ⟨_, rfl, rfl, T1, PO, ht, hz, tp, sk, cl⟩
  have k9_1 : ∀ (N : Nat) (POs : Nat → Int), u60 POs ≤ N → ∀ h T1, zT E h T1 → zK E T1 (kP S POs) → tP E T T1 → spK S PO0 s0 p POs → G E l gX1_spread d 0 0 Q 9 [some (.ref (gBase E)), some (vI s0), some (vI p), some (vI 1), none, none, none, none, none] [] h 0 0 := by
    intro N
    induction N using Nat.strongRecOn with
    | ind N ihN =>
    intro POs uN h T1 ht hz tp sk
    -- a pass over the nodes
    have k18 : ∀ (m k : Nat), k + m = ns.length → ∀ h T1 PO (mo : Int), zT E h T1 → zK E T1 (kP S PO) → tP E T T1 → spK S PO0 s0 p PO → (mo = 0 ∨ mo = 1) → (mo = 0 → PO = POs ∧ clN ns LN PO p k) → (mo = 1 → u60 PO < u60 POs) → G E l gX1_spread d 0 0 Q 18 [some (.ref (gBase E)), some (vI s0), some (vI p), some (vI mo), some (vI k), none, none, none, none] [] h 0 0 := by
      intro m
      induction m with
      | zero =>
        intro k hn h T1 PO mo ht hz tp sk m01 m0 m1
        have ek : k = ns.length := by omega
        subst ek
        have j1 := jG_P j h10 tp
        refine G_iload_4 (pc := 18) dX1_spread_18 ?_
        refine G_aload_0 (pc := 20) dX1_spread_20 ?_
        refine G_tget (pc := 21) dX1_spread_21 rfl ht hz.1 hz.2.2.2.1.1 ?_
        refine G_lsize (pc := 24) dX1_spread_24 rfl ht j1.1.1 (by omega) (by omega) (by omega) (Nat.le_of_ble_eq_true rfl) ?_
        refine G_icmp_ge (pc := 27) 176 dX1_spread_27 (by decide) (by omega) (by omega) (fun _ => ?_) (fun q => absurd q (by omega))
        refine G_goto (pc := 176) 9 dX1_spread_176 (by decide) ?_
        refine G_drop_4 ?_
        rcases m01 with e | e
        · subst e
          exact k9_0 h T1 PO ht hz tp sk (m0 rfl).2
        · subst e
          have := m1 rfl
          exact ihN (u60 PO) (by omega) PO (Nat.le_refl _) h T1 ht hz tp sk
      | succ m ih =>
        intro k hn h T1 PO mo ht hz tp sk m01 m0 m1
        have j1 := jG_P j h10 tp
        obtain ⟨a, ea⟩ : ∃ a, a = ns[k] := ⟨_, rfl⟩
        have hget : ns[k]? = some a := by rw [ea]; exact List.getElem?_eq_getElem (by omega)
        have ham : a ∈ ns := List.mem_of_getElem? hget
        have jel := j1.2.2.1 a ham
        have ll := jG_len j1 ham
        have nq := j1.1.2.1 a ham
        have nl : T1.2 (LA a) = some ((LN a).map HA) := nq.2.1.2
        -- the end of a node
        have k170 : ∀ h T2 PO2 (mo2 : Int) (v6 v7 v8 : Option Value), zT E h T2 → zK E T2 (kP S PO2) → tP E T T2 → spK S PO0 s0 p PO2 → (mo2 = 0 ∨ mo2 = 1) → (mo2 = 0 → PO2 = POs ∧ clN ns LN PO2 p (k + 1)) → (mo2 = 1 → u60 PO2 < u60 POs) → G E l gX1_spread d 0 0 Q 170 [some (.ref (gBase E)), some (vI s0), some (vI p), some (vI mo2), some (vI k), some (.ref (LA a)), v6, v7, v8] [] h 0 0 := by
          intro h T2 PO2 mo2 v6 v7 v8 ht hz tp sk m01 m0 m1
          refine G_iinc_4 (pc := 170) dX1_spread_170 (by decide) rfl ?_
          refine G_goto (pc := 173) 18 dX1_spread_173 (by decide) ?_
          refine G_drop_5 ?_
          refine G_drop_6 ?_
          refine G_drop_7 ?_
          refine G_drop_8 ?_
          rw [show ((k : Int) + 1) = ((k + 1 : Nat) : Int) by omega]
          exact ih (k + 1) (by omega) h T2 PO2 mo2 ht hz tp sk m01 m0 m1
        -- the second loop, some being so
        have k106 : (∃ i, i ∈ LN a ∧ PO (i / 2) = p) → ∀ (q i : Nat), i + q = (LN a).length → ∀ h T2 PO2 (mo2 : Int) (v8 : Option Value), zT E h T2 → zK E T2 (kP S PO2) → tP E T T2 → spK S PO0 s0 p PO2 → (mo2 = 0 ∨ mo2 = 1) → (mo2 = 0 → PO2 = POs ∧ clN ns LN PO2 p k) → (mo2 = 1 → u60 PO2 < u60 POs) → u60 PO2 ≤ u60 POs → (∀ jj x, jj < i → (LN a)[jj]? = some x → PO2 (x / 2) = p) →
            G E l gX1_spread d 0 0 Q 106 [some (.ref (gBase E)), some (vI s0), some (vI p), some (vI mo2), some (vI k), some (.ref (LA a)), some (vI 1), some (vI i), v8] [] h 0 0 := by
          intro hsome q
          obtain ⟨i0, hi0, e0⟩ := hsome
          have z0 : ∀ x, x ∈ LN a → zSame (kPl S) (2 * s0) (2 * (x / 2)) := fun x hx => by
            have L0 := (jel.2.1 i0 hi0).1
            exact zSame_tr (spK_p H sk (by have := L0.1; omega) L0.2 e0) (jG_same j1 ham hi0 hx)
          induction q with
          | zero =>
            intro i hi h T2 PO2 mo2 v8 ht hz tp sk m01 m0 m1 ule cl
            have j2 := jG_P j h10 tp
            have nl2 : T2.2 (LA a) = some ((LN a).map HA) := by rw [tp.1, ← (jG_P j h10 (tP_rf E T)).1.2.1 a ham |>.2.1.2]
            refine G_iload_7 (pc := 106) dX1_spread_106 ?_
            refine G_aload_5 (pc := 108) dX1_spread_108 ?_
            refine G_lsize (pc := 110) dX1_spread_110 rfl ht nl2 (by omega) (by omega) (by omega) (Nat.le_of_ble_eq_true rfl) ?_
            rw [List.length_map]
            refine G_icmp_ge (pc := 113) 170 dX1_spread_113 (by decide) (by omega) (by omega) (fun _ => ?_) (fun q => absurd q (by omega))
            refine k170 h T2 PO2 mo2 _ _ _ ht hz tp sk m01 (fun e => ?_) m1
            refine ⟨(m0 e).1, fun k' mm x x' hk hm hx hx' ex => ?_⟩
            by_cases c : k' = k
            · subst c
              rw [hget] at hm
              cases hm
              obtain ⟨jj, hj, ej⟩ := List.getElem_of_mem hx'
              exact cl jj x' (by omega) (by rw [List.getElem?_eq_getElem hj, ej])
            · exact (m0 e).2 k' mm x x' (by omega) hm hx hx' ex
          | succ q ihq =>
            intro i hi h T2 PO2 mo2 v8 ht hz tp sk m01 m0 m1 ule cl
            have j2 := jG_P j h10 tp
            have nl2 : T2.2 (LA a) = some ((LN a).map HA) := (j2.1.2.1 a ham).2.1.2
            obtain ⟨x, ex⟩ : ∃ x, x = (LN a)[i] := ⟨_, rfl⟩
            have hx : (LN a)[i]? = some x := by rw [ex]; exact List.getElem?_eq_getElem (by omega)
            have xm := jel.2.1 x (List.mem_of_getElem? hx)
            have fx := j2.2.1 x xm.1
            have xb := xm.1.1
            have zx := z0 x (List.mem_of_getElem? hx)
            have neg := hun (x / 2) (by omega) xm.1.2 zx
            refine G_iload_7 (pc := 106) dX1_spread_106 ?_
            refine G_aload_5 (pc := 108) dX1_spread_108 ?_
            refine G_lsize (pc := 110) dX1_spread_110 rfl ht nl2 (by omega) (by omega) (by omega) (Nat.le_of_ble_eq_true rfl) ?_
            rw [List.length_map]
            refine G_icmp_ge (pc := 113) 170 dX1_spread_113 (by decide) (by omega) (by omega) (fun q => absurd q (by omega)) (fun _ => ?_)
            refine G_iload_6 (pc := 116) dX1_spread_116 ?_
            refine G_if_eq (pc := 118) 170 dX1_spread_118 (by decide) (by omega) (fun q => absurd q (by decide)) (fun _ => ?_)
            refine G_aload_5 (pc := 121) dX1_spread_121 ?_
            refine G_iload_7 (pc := 123) dX1_spread_123 ?_
            refine G_lget (pc := 125) dX1_spread_125 rfl ht nl2 (by rw [List.getElem?_map, hx]; rfl) (by omega) (by omega) (by omega) (Nat.le_of_ble_eq_true rfl) ?_
            refine G_tcast (pc := 128) dX1_spread_128 rfl ht fx.1.1.1 ?_
            refine G_tget (pc := 131) dX1_spread_131 rfl ht fx.1.1.1 fx.1.1.2.1 ?_
            refine G_iconst (pc := 134) dX1_spread_134 ?_
            refine G_idiv (pc := 135) dX1_spread_135 (by omega) (by omega) ?_
            rw [show (x : Int) / 2 = ((x / 2 : Nat) : Int) by omega]
            refine G_istore_8 (pc := 136) dX1_spread_136 (by decide) rfl ?_
            refine G_iload_3 (pc := 138) dX1_spread_138 ?_
            refine G_aload_0 (pc := 139) dX1_spread_139 ?_
            refine G_kref (pc := 140) dX1_spread_140 rfl ht hz rfl ?_
            refine G_iload_8 (pc := 143) dX1_spread_143 ?_
            refine G_ki (pc := 145) dX1_spread_145 ht hz rfl rfl (by omega) (fun b145 => ?_)
            rw [Int.toNat_natCast] at b145 ⊢
            have b145 : -2147483648 ≤ PO2 (x / 2) ∧ PO2 (x / 2) ≤ 2147483647 := b145
            have fin : ∀ (t : Int), (t = if PO2 (x / 2) < 0 then 1 else 0) → G E l gX1_spread d 0 0 Q 154 [some (.ref (gBase E)), some (vI s0), some (vI p), some (vI mo2), some (vI k), some (.ref (LA a)), some (vI 1), some (vI i), some (vI ((x / 2 : Nat) : Int))] [vI t, vI mo2] h 0 0 := by
              intro t et
              refine G_iorR (pc := 154) dX1_spread_154 ?_
              rw [ior_b m01 (by rw [et]; split <;> omega)]
              refine G_istore_3 (pc := 155) dX1_spread_155 (by decide) rfl ?_
              refine G_aload_0 (pc := 156) dX1_spread_156 ?_
              refine G_kref (pc := 157) dX1_spread_157 rfl ht hz rfl ?_
              refine G_iload_8 (pc := 160) dX1_spread_160 ?_
              refine G_iload_2 (pc := 162) dX1_spread_162 ?_
              refine G_kis (pc := 163) dX1_spread_163 ht hz rfl rfl (by omega) (by omega) (fun h ht3 hz3 => ?_)
              rw [Int.toNat_natCast] at ht3 hz3
              rw [kP_set] at hz3
              refine G_iinc_7 (pc := 164) dX1_spread_164 (by decide) rfl ?_
              refine G_goto (pc := 167) 106 dX1_spread_167 (by decide) ?_
              rw [show ((i : Int) + 1) = ((i + 1 : Nat) : Int) by omega]
              by_cases c : PO2 (x / 2) < 0
              · rw [if_pos c] at et
                rw [if_pos (Or.inr et)]
                have ul := u60_lt (show x / 2 < 60 by omega) c p0
                refine ihq (i + 1) (by omega) h _ _ 1 _ ht3 hz3 (tP_set tp _ _) (spK_set sk (by omega) xm.1.2 zx) (Or.inr rfl) (fun e => absurd e (by decide)) (fun _ => by omega) (by omega) (fun jj y hj hy => ?_)
                unfold updI
                by_cases e : y / 2 = x / 2
                · rw [if_pos e]
                · rw [if_neg e]
                  by_cases ej : jj = i
                  · subst ej; rw [hx] at hy; cases hy; exact absurd rfl e
                  · exact cl jj y (by omega) hy
              · rw [if_neg c] at et
                have ep : PO2 (x / 2) = p := by
                  by_cases e : PO2 (x / 2) = PO0 (x / 2)
                  · omega
                  · exact (sk.2 _ e).1
                rw [updI_same ep] at hz3
                have em : (if mo2 = 1 ∨ t = 1 then (1 : Int) else 0) = mo2 := by
                  rcases m01 with e | e <;> subst e <;> subst et <;> decide
                rw [em]
                refine ihq (i + 1) (by omega) h _ PO2 mo2 _ ht3 hz3 (tP_set tp _ _) sk m01 m0 m1 ule (fun jj y hj hy => ?_)
                by_cases ej : jj = i
                · subst ej; rw [hx] at hy; cases hy; exact ep
                · exact cl jj y (by omega) hy
            refine G_if_ge (pc := 146) 153 dX1_spread_146 (by decide) (by omega) (fun c146 => ?_) (fun c146 => ?_)
            · refine G_iconst (pc := 153) dX1_spread_153 ?_
              have c146 : 0 ≤ PO2 (x / 2) := c146
              exact fin 0 (by rw [if_neg (by omega)])
            · refine G_iconst (pc := 149) dX1_spread_149 ?_
              refine G_goto (pc := 150) 154 dX1_spread_150 (by decide) ?_
              have c146 : PO2 (x / 2) < 0 := c146
              exact fin 1 (by rw [if_pos (by omega)])
        -- the first loop
        have k53 : ∀ (q i : Nat), i + q = (LN a).length → ∀ (so : Int), so = bI (∃ jj x, jj < i ∧ (LN a)[jj]? = some x ∧ PO (x / 2) = p) → G E l gX1_spread d 0 0 Q 53 [some (.ref (gBase E)), some (vI s0), some (vI p), some (vI mo), some (vI k), some (.ref (LA a)), some (vI so), some (vI i), none] [] h 0 0 := by
          intro q
          induction q with
          | zero =>
            intro i hi so hso
            refine G_iload_7 (pc := 53) dX1_spread_53 ?_
            refine G_aload_5 (pc := 55) dX1_spread_55 ?_
            refine G_lsize (pc := 57) dX1_spread_57 rfl ht nl (by omega) (by omega) (by omega) (Nat.le_of_ble_eq_true rfl) ?_
            rw [List.length_map]
            refine G_icmp_ge (pc := 60) 103 dX1_spread_60 (by decide) (by omega) (by omega) (fun _ => ?_) (fun q => absurd q (by omega))
            refine G_iconst (pc := 103) dX1_spread_103 ?_
            refine G_istore_7 (pc := 104) dX1_spread_104 (by decide) rfl ?_
            by_cases c : ∃ jj x, jj < i ∧ (LN a)[jj]? = some x ∧ PO (x / 2) = p
            · rw [bI_pos c] at hso
              subst hso
              obtain ⟨jj, x, c1, c2, c3⟩ := c
              exact k106 ⟨x, List.mem_of_getElem? c2, c3⟩ (LN a).length 0 (by omega) h T1 PO mo none ht hz tp sk m01 m0 m1 (by rcases m01 with e | e; (rw [(m0 e).1]; exact Nat.le_refl _); (have := m1 e; omega)) (fun jj x hj => by omega)
            · rw [bI_neg c] at hso
              subst hso
              refine G_iload_7 (pc := 106) dX1_spread_106 ?_
              refine G_aload_5 (pc := 108) dX1_spread_108 ?_
              refine G_lsize (pc := 110) dX1_spread_110 rfl ht nl (by omega) (by omega) (by omega) (Nat.le_of_ble_eq_true rfl) ?_
              rw [List.length_map]
              refine G_icmp_ge (pc := 113) 170 dX1_spread_113 (by decide) (by omega) (by omega) (fun q => absurd q (by omega)) (fun _ => ?_)
              refine G_iload_6 (pc := 116) dX1_spread_116 ?_
              refine G_if_eq (pc := 118) 170 dX1_spread_118 (by decide) (by omega) (fun _ => ?_) (fun q => absurd rfl q)
              refine k170 h T1 PO mo _ _ _ ht hz tp sk m01 (fun e => ⟨(m0 e).1, fun k' mm x x' hk hm hx hx' ex => ?_⟩) m1
              by_cases c' : k' = k
              · exfalso
                subst c'
                rw [hget] at hm
                cases hm
                obtain ⟨jj, hj, ej⟩ := List.getElem_of_mem hx
                exact c ⟨jj, x, by omega, by rw [List.getElem?_eq_getElem hj, ej], ex⟩
              · exact (m0 e).2 k' mm x x' (by omega) hm hx hx' ex
          | succ q ihq =>
            intro i hi so hso
            obtain ⟨x, ex⟩ : ∃ x, x = (LN a)[i] := ⟨_, rfl⟩
            have hx : (LN a)[i]? = some x := by rw [ex]; exact List.getElem?_eq_getElem (by omega)
            have xm := jel.2.1 x (List.mem_of_getElem? hx)
            have fx := j1.2.1 x xm.1
            have xb := xm.1.1
            have s01 : so = 0 ∨ so = 1 := by rw [hso]; exact bI_01 _
            refine G_iload_7 (pc := 53) dX1_spread_53 ?_
            refine G_aload_5 (pc := 55) dX1_spread_55 ?_
            refine G_lsize (pc := 57) dX1_spread_57 rfl ht nl (by omega) (by omega) (by omega) (Nat.le_of_ble_eq_true rfl) ?_
            rw [List.length_map]
            refine G_icmp_ge (pc := 60) 103 dX1_spread_60 (by decide) (by omega) (by omega) (fun q => absurd q (by omega)) (fun _ => ?_)
            refine G_iload_6 (pc := 63) dX1_spread_63 ?_
            refine G_aload_0 (pc := 65) dX1_spread_65 ?_
            refine G_kref (pc := 66) dX1_spread_66 rfl ht hz rfl ?_
            refine G_aload_5 (pc := 69) dX1_spread_69 ?_
            refine G_iload_7 (pc := 71) dX1_spread_71 ?_
            refine G_lget (pc := 73) dX1_spread_73 rfl ht nl (by rw [List.getElem?_map, hx]; rfl) (by omega) (by omega) (by omega) (Nat.le_of_ble_eq_true rfl) ?_
            refine G_tcast (pc := 76) dX1_spread_76 rfl ht fx.1.1.1 ?_
            refine G_tget (pc := 79) dX1_spread_79 rfl ht fx.1.1.1 fx.1.1.2.1 ?_
            refine G_iconst (pc := 82) dX1_spread_82 ?_
            refine G_idiv (pc := 83) dX1_spread_83 (by omega) (by omega) ?_
            rw [show (x : Int) / 2 = ((x / 2 : Nat) : Int) by omega]
            refine G_ki (pc := 84) dX1_spread_84 ht hz rfl rfl (by omega) (fun b84 => ?_)
            rw [Int.toNat_natCast] at b84 ⊢
            have b84 : -2147483648 ≤ PO (x / 2) ∧ PO (x / 2) ≤ 2147483647 := b84
            refine G_iload_2 (pc := 85) dX1_spread_85 ?_
            have fin : ∀ (t : Int), (t = 0 ∨ t = 1) → (t = 1 ↔ PO (x / 2) = p) → G E l gX1_spread d 0 0 Q 94 [some (.ref (gBase E)), some (vI s0), some (vI p), some (vI mo), some (vI k), some (.ref (LA a)), some (vI so), some (vI i), none] [vI t, vI so] h 0 0 := by
              intro t t01 et
              refine G_iorR (pc := 94) dX1_spread_94 ?_
              rw [ior_b s01 t01]
              refine G_istore_6 (pc := 95) dX1_spread_95 (by decide) rfl ?_
              refine G_iinc_7 (pc := 97) dX1_spread_97 (by decide) rfl ?_
              refine G_goto (pc := 100) 53 dX1_spread_100 (by decide) ?_
              rw [show ((i : Int) + 1) = ((i + 1 : Nat) : Int) by omega]
              refine ihq (i + 1) (by omega) _ ?_
              by_cases c : ∃ jj x, jj < i + 1 ∧ (LN a)[jj]? = some x ∧ PO (x / 2) = p
              · rw [bI_pos c]
                refine if_pos ?_
                obtain ⟨jj, y, c1, c2, c3⟩ := c
                by_cases ej : jj = i
                · subst ej; rw [hx] at c2; cases c2; exact Or.inr (et.mpr c3)
                · refine Or.inl ?_
                  rw [hso]
                  exact bI_pos ⟨jj, y, by omega, c2, c3⟩
              · rw [bI_neg c]
                refine if_neg ?_
                rintro (w | w)
                · rw [hso] at w
                  obtain ⟨jj, y, c1, c2, c3⟩ := bI_one.mp w
                  exact c ⟨jj, y, by omega, c2, c3⟩
                · exact c ⟨i, x, by omega, hx, et.mp w⟩
            refine G_icmp_ne (pc := 86) 93 dX1_spread_86 (by decide) (by show -2147483648 ≤ PO (x / 2) ∧ PO (x / 2) ≤ 2147483647; omega) (by omega) (fun c86 => ?_) (fun c86 => ?_)
            · refine G_iconst (pc := 93) dX1_spread_93 ?_
              exact fin 0 (Or.inl rfl) ⟨fun q => absurd q (by decide), fun q => absurd q c86⟩
            · refine G_iconst (pc := 89) dX1_spread_89 ?_
              refine G_goto (pc := 90) 94 dX1_spread_90 (by decide) ?_
              exact fin 1 (Or.inr rfl) ⟨fun _ => c86, fun _ => rfl⟩
        refine G_iload_4 (pc := 18) dX1_spread_18 ?_
        refine G_aload_0 (pc := 20) dX1_spread_20 ?_
        refine G_tget (pc := 21) dX1_spread_21 rfl ht hz.1 hz.2.2.2.1.1 ?_
        refine G_lsize (pc := 24) dX1_spread_24 rfl ht j1.1.1 (by omega) (by omega) (by omega) (Nat.le_of_ble_eq_true rfl) ?_
        refine G_icmp_ge (pc := 27) 176 dX1_spread_27 (by decide) (by omega) (by omega) (fun q => absurd q (by omega)) (fun _ => ?_)
        refine G_aload_0 (pc := 30) dX1_spread_30 ?_
        refine G_tget (pc := 31) dX1_spread_31 rfl ht hz.1 hz.2.2.2.1.1 ?_
        refine G_iload_4 (pc := 34) dX1_spread_34 ?_
        refine G_lget (pc := 36) dX1_spread_36 rfl ht j1.1.1 hget (by omega) (by omega) (by omega) (Nat.le_of_ble_eq_true rfl) ?_
        refine G_tcast (pc := 39) dX1_spread_39 rfl ht nq.1.1 ?_
        refine G_tget (pc := 42) dX1_spread_42 rfl ht nq.1.1 nq.2.1.1 ?_
        refine G_astore_5 (pc := 45) dX1_spread_45 (by decide) rfl ?_
        refine G_iconst (pc := 47) dX1_spread_47 ?_
        refine G_istore_6 (pc := 48) dX1_spread_48 (by decide) rfl ?_
        refine G_iconst (pc := 50) dX1_spread_50 ?_
        refine G_istore_7 (pc := 51) dX1_spread_51 (by decide) rfl ?_
        exact k53 (LN a).length 0 (by omega) 0 (bI_neg (fun ⟨jj, x, c1, _⟩ => by omega)).symm
    refine G_iload_3 (pc := 9) dX1_spread_9 ?_
    refine G_if_eq (pc := 10) 179 dX1_spread_10 (by decide) (by omega) (fun q => absurd q (by decide)) (fun _ => ?_)
    refine G_iconst (pc := 13) dX1_spread_13 ?_
    refine G_istore_3 (pc := 14) dX1_spread_14 (by decide) rfl ?_
    refine G_iconst (pc := 15) dX1_spread_15 ?_
    refine G_istore_4 (pc := 16) dX1_spread_16 (by decide) rfl ?_
    exact k18 ns.length 0 (by omega) h T1 POs 0 ht hz tp sk (Or.inl rfl) (fun _ => ⟨rfl, fun k' m i i' hk => by omega⟩) (fun e => absurd e (by decide))
  refine G_aload_0 (pc := 0) dX1_spread_0 ?_
  refine G_kref (pc := 1) dX1_spread_1 rfl ht hz rfl ?_
  refine G_iload_1 (pc := 4) dX1_spread_4 ?_
  refine G_iload_2 (pc := 5) dX1_spread_5 ?_
  refine G_kis (pc := 6) dX1_spread_6 ht hz rfl rfl (by omega) (by omega) (fun h ht2 hz2 => ?_)
  rw [Int.toNat_natCast] at ht2 hz2
  rw [kP_set] at hz2
  refine G_iconst (pc := 7) dX1_spread_7 ?_
  refine G_istore_3 (pc := 8) dX1_spread_8 (by decide) rfl ?_
  refine k9_1 _ _ (Nat.le_refl _) h _ ht2 hz2 (tP_set (tP_rf E T) _ _) ⟨by unfold updI; rw [if_pos rfl], fun s hs => ?_⟩
  unfold updI at *
  by_cases e : s = s0
  · subst e; rw [if_pos rfl]; exact ⟨rfl, s0b, s0l, zSame_rf _ _⟩
  · rw [if_neg e] at hs; exact absurd rfl hs
end SPREAD
