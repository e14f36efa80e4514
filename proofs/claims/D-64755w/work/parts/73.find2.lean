set_option maxRecDepth 100000
noncomputable def c2 (S : mS) (nx : Nat → Nat) (k : Nat) : Nat := zC 120 (fun f => zD (fst (kLv S) (orb nx) f ∧ ¬ 0 < kAr S nx f ∧ rk (kLv S) (orb nx) f < k))
theorem c2_le {S : mS} {nx : Nat → Nat} {a b : Nat} (h : a ≤ b) : c2 S nx a ≤ c2 S nx b := zC_le (fun i _ q => (zD_iff _).mpr (by have := (zD_iff _).mp q; exact ⟨this.1, this.2.1, by have := this.2.2; omega⟩))
theorem c2_lt {S : mS} {nx : Nat → Nat} {f : Nat} (F : fst (kLv S) (orb nx) f) (np : ¬ 0 < kAr S nx f) : c2 S nx (rk (kLv S) (orb nx) f) < c2 S nx (rk (kLv S) (orb nx) f + 1) := by
  refine zC_lt (fun i _ q => (zD_iff _).mpr (by have := (zD_iff _).mp q; exact ⟨this.1, this.2.1, by have := this.2.2; omega⟩)) f F.1.1 ?_ ((zD_iff _).mpr ⟨F, np, by omega⟩)
  exact (zD_not _).mpr (fun q => by have := q.2.2; omega)
section FIND2
variable {E : gV} {l : Launch} {T : tT} {S : mS} {d : Nat} {h : gH} {HA ND : Nat → Nat} {ns : List Nat} {NX NY : Nat → Int} {LA : Nat → Nat} {LN : Nat → List Nat} {rs : List Nat} {RA : Nat → Nat} {FC : Nat → Option Nat} {T0 : tT} {vs : List Nat} {FL : Nat → Nat} {XS : Nat → List Nat} {LS : Nat → Int}
/-- the loop that finds the faces of all rounds -/
theorem fp2 {Q : Outcome → gH → Prop} (hd : 9 ≤ d) (hz0 : zK E T0 S) (g : kGd S) (j : jG E S T0 HA ND ns NX NY LA LN) (nn : nxG S (nxF LN ND)) (h8 : T0.2 (gBase E + 8) ≠ none) {res : Nat → Option Nat} {FA : Nat → Nat} {a0 w : Nat} {mc ms uc0 us0 : Nat}
    (hv : ∀ f, fst (kLv S) (orb (nxF LN ND)) f → fdA res FA a0 f ∈ vs) (v0 : vs[0]? = some a0) (hw : ∀ a, a ∈ vs → FL a ≠ w) (hw0 : T0.2 w = none) (hw9 : w ≠ gBase E + 9)
    (hch : ∀ f, fst (kLv S) (orb (nxF LN ND)) f → ¬ 0 < kAr S (nxF LN ND) f → fch S HA ns NX NY LN (nxF LN ND) (fc3 S (nxF LN ND) res FA a0 0) a0 60 f (fdA res FA a0 f))
    (un : ∀ f f' z, fst (kLv S) (orb (nxF LN ND)) f → fst (kLv S) (orb (nxF LN ND)) f' → orb (nxF LN ND) f z → orb (nxF LN ND) f' z → f = f') (cb : c2 S (nxF LN ND) 120 ≤ 60)
    (hb1 : uc0 + 3720 ≤ mc) (hb2 : us0 + 11274 ≤ ms)
    (kk : ∀ h T1 fnd uc us, zT E h T1 → fI E S T0 T1 HA (nxF LN ND) rs RA (fc3 S (nxF LN ND) res FA a0 0) vs FL XS LS → T1.2 (gBase E + 9) = some vs → T1.2 w = some fnd → (∀ f, fst (kLv S) (orb (nxF LN ND)) f → fnd[rk (kLv S) (orb (nxF LN ND)) f]? = some (fdA res FA a0 f)) → uc ≤ uc0 + 3720 → us ≤ us0 + 11274 → G E l gX1_findFaces d mc ms Q 142 [some (.ref (gBase E)), some (.ref w), some (vI rs.length)] [] h uc us) :
    ∀ (m k : Nat), k + m = rs.length → ∀ h T1 fnd uc us, zT E h T1 → fI E S T0 T1 HA (nxF LN ND) rs RA (fc3 S (nxF LN ND) res FA a0 0) vs FL XS LS → T1.2 (gBase E + 9) = some vs → T1.2 w = some fnd → fnd.length = k → (∀ f, fst (kLv S) (orb (nxF LN ND)) f → rk (kLv S) (orb (nxF LN ND)) f < k → fnd[rk (kLv S) (orb (nxF LN ND)) f]? = some (fdA res FA a0 f)) →
      uc ≤ uc0 + k + 60 * c2 S (nxF LN ND) k → us ≤ us0 + rgs k + 180 * c2 S (nxF LN ND) k → G E l gX1_findFaces d mc ms Q 105 [some (.ref (gBase E)), some (.ref w), some (vI k)] [] h uc us := by
  intro m
  induction m with
  | zero =>
    intro k hn h T1 fnd uc us ht i l9 lw ln hf hu hvv
    have hz := fI_K hz0 i
    have ek : k = rs.length := by omega
    subst ek
    have rl : rs.length ≤ 120 := by rw [i.1.2.1]; exact rk_n _
    have cc := c2_le (S := S) (nx := nxF LN ND) rl
    have rb := rgs_b (show rs.length ≤ 149 by omega)
    refine G_iload_2 (pc := 105) dX1_findFaces_105 ?_
    refine G_aload_0 (pc := 106) dX1_findFaces_106 ?_
    refine G_tget (pc := 107) dX1_findFaces_107 rfl ht hz.1 hz.2.2.2.1.2.1 ?_
    refine G_lsize (pc := 110) dX1_findFaces_110 rfl ht i.1.1 (by omega) (by omega) (by omega) (Nat.le_of_ble_eq_true rfl) ?_
    refine G_icmp_ge (pc := 113) 142 dX1_findFaces_113 (by decide) (by omega) (by omega) (fun _ => ?_) (fun q => absurd q (by omega))
    refine kk h T1 fnd uc us ht i l9 lw (fun f F => hf f F ?_) (by omega) (by omega)
    rw [i.1.2.1]; exact rk_lt F.1.1 F
  | succ m ih =>
    intro k hn h T1 fnd uc us ht i l9 lw ln hf hu hvv
    have hz := fI_K hz0 i
    have rl : rs.length ≤ 120 := by rw [i.1.2.1]; exact rk_n _
    obtain ⟨f, _, F, ef⟩ := rk_srj (L := kLv S) (R := orb (nxF LN ND)) 120 k (by rw [← i.1.2.1]; omega)
    have q := i.1.2.2.1 f F
    rw [ef] at q
    have j1 := jG_keepF j i.2.1.1 i.2.1.2
    have rb := rgs_b (show k ≤ 149 by omega)
    have rb1 := rgs_b (show k + 1 ≤ 149 by omega)
    have rs1 : rgs (k + 1) = rgs k + grc k := rfl
    have cc := c2_le (S := S) (nx := nxF LN ND) (show k + 1 ≤ 120 by omega)
    have cc0 := c2_le (S := S) (nx := nxF LN ND) (show k ≤ k + 1 by omega)
    have gb := gr_c (show fnd.length < 150 by omega)
    rw [ln] at gb
    have a0k : (T1.1 a0).1 = 7 := (i.2.2.2.1 a0 (List.mem_of_getElem? v0)).1.1
    -- how many steps
    obtain ⟨N, ch, nb⟩ : ∃ N, fch S HA ns NX NY LN (nxF LN ND) (fc3 S (nxF LN ND) res FA a0 0) a0 N f (fdA res FA a0 f) ∧ N + 60 * c2 S (nxF LN ND) k ≤ 60 * c2 S (nxF LN ND) (k + 1) := by
      by_cases pos : 0 < kAr S (nxF LN ND) f
      · exact ⟨0, zI_pos (Or.inl pos) _ _, by omega⟩
      · have := c2_lt F pos
        rw [ef] at this
        exact ⟨60, hch f F pos, by omega⟩
    have fin : ∀ h T2, zT E h T2 → tX T1 T2 → G E l gX1_findFaces d mc ms Q 132 [some (.ref (gBase E)), some (.ref w), some (vI k)] [.ref (fdA res FA a0 f), .ref w] h (uc + N) (us + 3 * N) := by
      intro h T2 ht2 x
      have i2 := fI_x i (fun k L => (j1.2.1 k L).1.1.1) x
      have fk := (i2.2.2.2.1 _ (hv f F)).1.1
      refine G_lapp (pc := 132) dX1_findFaces_132 rfl ht2 (by rw [x.1]; exact lw) (by rw [fk]; rfl) (by omega) (by omega) (by omega) (by rw [ln]; omega) (Nat.le_of_ble_eq_true rfl) (fun h ht3 => ?_)
      refine G_pop (pc := 135) dX1_findFaces_135 rfl ?_
      refine G_iinc_2 (pc := 136) dX1_findFaces_136 (by decide) rfl ?_
      refine G_goto (pc := 139) 105 dX1_findFaces_139 (by decide) ?_
      rw [show ((k : Int) + 1) = ((k + 1 : Nat) : Int) by omega]
      refine ih (k + 1) (by omega) h _ (fnd ++ [fdA res FA a0 f]) _ _ ht3 (fI_o i2 hw0 h8 hw _) (by rw [tLs_ne _ _ (Ne.symm hw9), x.1]; exact l9) (tLs_self _ _ _) (by rw [List.length_append, ln]; rfl) (fun f' F' hk => ?_) (by omega) (by rw [ln]; omega)
      by_cases e : f' = f
      · subst e
        rw [ef, ← ln, List.getElem?_append_right (Nat.le_refl _), Nat.sub_self]
        rfl
      · have ne : rk (kLv S) (orb (nxF LN ND)) f' ≠ k := fun e' => e (rk_inj F' F (by rw [e', ef]))
        rw [List.getElem?_append_left (by rw [ln]; omega)]
        exact hf f' F' (by omega)
    refine G_iload_2 (pc := 105) dX1_findFaces_105 ?_
    refine G_aload_0 (pc := 106) dX1_findFaces_106 ?_
    refine G_tget (pc := 107) dX1_findFaces_107 rfl ht hz.1 hz.2.2.2.1.2.1 ?_
    refine G_lsize (pc := 110) dX1_findFaces_110 rfl ht i.1.1 (by omega) (by omega) (by omega) (Nat.le_of_ble_eq_true rfl) ?_
    refine G_icmp_ge (pc := 113) 142 dX1_findFaces_113 (by decide) (by omega) (by omega) (fun q => absurd q (by omega)) (fun _ => ?_)
    refine G_aload_1 (pc := 116) dX1_findFaces_116 ?_
    refine G_aload_0 (pc := 117) dX1_findFaces_117 ?_
    refine G_aload_0 (pc := 118) dX1_findFaces_118 ?_
    refine G_tget (pc := 119) dX1_findFaces_119 rfl ht hz.1 hz.2.2.2.1.2.1 ?_
    refine G_iload_2 (pc := 122) dX1_findFaces_122 ?_
    refine G_lget (pc := 123) dX1_findFaces_123 rfl ht i.1.1 q.1 (by omega) (by omega) (by omega) (Nat.le_of_ble_eq_true rfl) ?_
    refine G_tcast (pc := 126) dX1_findFaces_126 rfl ht q.2.1 ?_
    refine G_callV1v (pc := 129) (d' := 6) dX1_findFaces_129 rfl (zK_k ht hz) (by decide) rfl (ok_X1_faceAround ht hz g j1 nn i.1 l9 v0 a0k F ch un (Nat.le_refl _)) (by omega) (by omega) (by omega) (Nat.le_of_ble_eq_true rfl) (fun v h z => ?_)
    obtain ⟨rfl, T2, ht2, x⟩ := z
    exact fin h T2 ht2 x
end FIND2
