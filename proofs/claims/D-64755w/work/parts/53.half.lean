set_option maxRecDepth 100000
/-- the half to whose left a place lies, found straight below it -/
def hbP (S : mS) (NX NY : Nat → Int) (ns : List Nat) (LB : Nat → List Nat) (U V : Nat → Int) (HA : Nat → Nat) (x y : Int) (r : Option Nat) : Prop :=
  ∃ q, nbP NX NY x y ns ns.length q ∧
    ((∃ n z, q = some n ∧ (ksb S x y 60 < 0 ∨ kab S (ksb S x y 60).toNat (NX n) (NY n)) ∧ befP U V 0 1 (LB n) z ∧ r = some z) ∨
     ((∀ n, q = some n → 0 ≤ ksb S x y 60 ∧ ¬ kab S (ksb S x y 60).toNat (NX n) (NY n)) ∧ ((ksb S x y 60 < 0 ∧ r = none) ∨ (0 ≤ ksb S x y 60 ∧ r = some (HA (2 * (ksb S x y 60).toNat + (if S.2 4 (ksb S x y 60).toNat > S.2 2 (ksb S x y 60).toNat then 0 else 1)))))))
section HALF
variable {E : gV} {l : Launch} {h : gH} {T : tT} {S : mS}
theorem ok_X1_halfBelow (ht : zT E h T) (hz : zK E T S) (b : ∀ s, s < 60 → S.2 1 s = 1 → kIn S s) {ns : List Nat} (hls : T.2 (gBase E + 6) = some ns) {NX NY : Nat → Int} {LB : Nat → List Nat} {LA : Nat → Nat} (hN : ∀ n, n ∈ ns → (T.1 n).1 = 4 ∧ (T.1 n).2.2 0 = vI (NX n) ∧ (T.1 n).2.2 1 = vI (NY n)) (hNb : ∀ n, n ∈ ns → (-16000 ≤ NX n ∧ NX n ≤ 16000) ∧ (-16000 ≤ NY n ∧ NY n ≤ 16000))
    (hL : ∀ n, n ∈ ns → (T.1 n).2.2 2 = .ref (LA n) ∧ T.2 (LA n) = some (LB n) ∧ (0 < (LB n).length ∧ (LB n).length < 150)) {U V : Nat → Int} (hU : ∀ n, n ∈ ns → ∀ y, y ∈ LB n → hD T y (U y) (V y)) {HA : Nat → Nat} (hH : ∀ s, s < 60 → S.2 1 s = 1 → (T.1 (gBase E + 7)).2.2 (2 * s) = .ref (HA (2 * s)) ∧ (T.1 (gBase E + 7)).2.2 (2 * s + 1) = .ref (HA (2 * s + 1)))
    {x y : Int} (hx : -16000 ≤ x ∧ x ≤ 16000) (hy : -16000 ≤ y ∧ y ≤ 16000) (hlen : ns.length < 150) {d : Nat} (hd : 5 ≤ d) :
    gOk E l gX1_halfBelow d 0 0 [.ref (gBase E), vI x, vI y] h (gRv (fun v h' => h' = h ∧ ∃ r, v = rfO r ∧ hbP S NX NY ns LB U V HA x y r)) := by
  refine gOk_of gmok_X1_halfBelow rfl (Nat.le_of_ble_eq_true rfl) (L := [some _, some _, some _, none, none]) rfl ?_
  obtain ⟨Q, hQ⟩ : ∃ Q, Q = gRet (gRv (fun v h' => h' = h ∧ ∃ r, v = rfO r ∧ hbP S NX NY ns LB U V HA x y r)) := ⟨_, rfl⟩
  rw [← hQ]
  have hsb := ksb_b S x y 60
  have k50 : ∀ q, nbP NX NY x y ns ns.length q → (∀ n, q = some n → 0 ≤ ksb S x y 60 ∧ ¬ kab S (ksb S x y 60).toNat (NX n) (NY n)) → G E l gX1_halfBelow d 0 0 Q 50 [some (.ref (gBase E)), some (vI x), some (vI y), some (vI (ksb S x y 60)), none] [] h 0 0 := by
    intro q hq hno
    refine G_iload_3 (pc := 50) dX1_halfBelow_50 ?_
    refine G_if_ge (pc := 51) 58 dX1_halfBelow_51 (by decide) (by omega) (fun c => ?_) (fun c => ?_)
    · obtain ⟨s, es⟩ : ∃ s : Nat, ksb S x y 60 = s := ⟨(ksb S x y 60).toNat, by omega⟩
      have hl : S.2 1 s = 1 := by have := hsb.2.2 (by omega); rw [es, Int.toNat_natCast] at this; exact this
      have hk := b s (by omega) hl
      have hh := hH s (by omega) hl
      obtain ⟨⟨b1, b2⟩, b3, b4⟩ := hk
      have esn : (s : Int).toNat = s := by omega
      have fin : ∀ i, i = 2 * s + (if S.2 4 s > S.2 2 s then 0 else 1) → Q (.returned (some (.ref (HA i)))) h := by
        intro i hi
        subst hi; subst hQ
        refine ⟨_, rfl, _, rfl, rfl, some _, rfl, q, hq, Or.inr ⟨hno, Or.inr ⟨c, ?_⟩⟩⟩
        rw [es, Int.toNat_natCast]
      rw [es]
      refine G_aload_0 (pc := 58) dX1_halfBelow_58 ?_
      refine G_tget (pc := 59) dX1_halfBelow_59 rfl ht hz.1 hz.2.2.2.2.1.1 ?_
      refine G_iconst (pc := 62) dX1_halfBelow_62 ?_
      refine G_iload_3 (pc := 63) dX1_halfBelow_63 ?_
      refine G_imul (pc := 64) dX1_halfBelow_64 ?_
      refine G_aload_0 (pc := 65) dX1_halfBelow_65 ?_
      refine G_kref (pc := 66) dX1_halfBelow_66 rfl ht hz rfl ?_
      refine G_iload_3 (pc := 69) dX1_halfBelow_69 ?_
      refine G_ki (pc := 70) dX1_halfBelow_70 ht hz rfl rfl (by omega) (fun b70 => ?_)
      refine G_aload_0 (pc := 71) dX1_halfBelow_71 ?_
      refine G_kref (pc := 72) dX1_halfBelow_72 rfl ht hz rfl ?_
      refine G_iload_3 (pc := 75) dX1_halfBelow_75 ?_
      refine G_ki (pc := 76) dX1_halfBelow_76 ht hz rfl rfl (by omega) (fun b76 => ?_)
      simp only [esn]
      refine G_icmp_le (pc := 77) 84 dX1_halfBelow_77 (by decide) (by omega) (by omega) (fun c77 => ?_) (fun c77 => ?_)
      · refine G_iconst (pc := 84) dX1_halfBelow_84 ?_
        refine G_iadd (pc := 85) dX1_halfBelow_85 ?_
        refine G_taald (pc := 86) (v := .ref (HA (2 * s + 1))) dX1_halfBelow_86 ht (Or.inl hz.2.2.2.2.1.2.1) (by rw [hz.2.2.2.2.1.2.2]; omega) (by rw [hz.2.2.2.2.1.2.2]; omega) (by rw [show (2 * (s : Int) + 1).toNat = 2 * s + 1 by omega]; exact hh.2) ?_
        refine G_areturn (pc := 87) dX1_halfBelow_87 rfl (Or.inl ⟨_, rfl⟩) (Or.inr ⟨_, rfl⟩) (by omega) (by omega) ?_
        exact fin _ (by rw [if_neg (by omega)])
      · refine G_iconst (pc := 80) dX1_halfBelow_80 ?_
        refine G_goto (pc := 81) 85 dX1_halfBelow_81 (by decide) ?_
        refine G_iadd (pc := 85) dX1_halfBelow_85 ?_
        refine G_taald (pc := 86) (v := .ref (HA (2 * s))) dX1_halfBelow_86 ht (Or.inl hz.2.2.2.2.1.2.1) (by rw [hz.2.2.2.2.1.2.2]; omega) (by rw [hz.2.2.2.2.1.2.2]; omega) (by rw [show (2 * (s : Int) + 0).toNat = 2 * s by omega]; exact hh.1) ?_
        refine G_areturn (pc := 87) dX1_halfBelow_87 rfl (Or.inl ⟨_, rfl⟩) (Or.inr ⟨_, rfl⟩) (by omega) (by omega) ?_
        exact fin _ (by rw [if_pos (by omega)]; rfl)
    · refine G_aconst_null (pc := 54) dX1_halfBelow_54 ?_
      refine G_goto (pc := 55) 87 dX1_halfBelow_55 (by decide) ?_
      refine G_areturn (pc := 87) dX1_halfBelow_87 rfl (Or.inl ⟨_, rfl⟩) (Or.inl rfl) (by omega) (by omega) ?_
      subst hQ
      exact ⟨_, rfl, _, rfl, rfl, none, rfl, q, hq, Or.inr ⟨hno, Or.inl ⟨by omega, rfl⟩⟩⟩
  refine G_aload_0 (pc := 0) dX1_halfBelow_0 ?_
  refine G_iload_1 (pc := 1) dX1_halfBelow_1 ?_
  refine G_iload_2 (pc := 2) dX1_halfBelow_2 ?_
  refine G_pV2 (pc := 3) dX1_halfBelow_3 rfl (zK_k ht hz) (by decide) rfl (pu_X1_segmentBelow ht hz b hx hy) (by omega) (by omega) (by omega) (Nat.le_of_ble_eq_true rfl) ?_
  refine G_istore_3 (pc := 6) dX1_halfBelow_6 (by decide) rfl ?_
  refine G_aload_0 (pc := 7) dX1_halfBelow_7 ?_
  refine G_iload_1 (pc := 8) dX1_halfBelow_8 ?_
  refine G_iload_2 (pc := 9) dX1_halfBelow_9 ?_
  refine G_callV2v (pc := 10) (d' := 4) dX1_halfBelow_10 rfl (zK_k ht hz) (by decide) rfl (ok_X1_nodeBelow ht hz hls hN hNb hx hy hlen (Nat.le_refl _)) (by omega) (by omega) (by omega) (Nat.le_of_ble_eq_true rfl) (fun v h' z => ?_)
  obtain ⟨rfl, q, rfl, hq⟩ := z
  cases q with
  | none =>
    refine G_astoreN_4 (pc := 13) dX1_halfBelow_13 (by decide) rfl ?_
    refine G_aloadN_4 (pc := 15) dX1_halfBelow_15 ?_
    refine G_ifnullN (pc := 17) 50 dX1_halfBelow_17 (by decide) ?_
    refine G_drop_4 ?_
    exact k50 none hq (fun n e => by cases e)
  | some n =>
    have hm : n ∈ ns := by
      rcases hq with ⟨e, -⟩ | ⟨n', e, q1, -⟩
      · cases e
      · cases e; exact q1
    have hn1 := hN n hm
    have hn2 := hNb n hm
    have hn3 := hL n hm
    have k42 : (ksb S x y 60 < 0 ∨ kab S (ksb S x y 60).toNat (NX n) (NY n)) → G E l gX1_halfBelow d 0 0 Q 42 [some (.ref (gBase E)), some (vI x), some (vI y), some (vI (ksb S x y 60)), some (.ref n)] [] h' 0 0 := by
      intro c
      refine G_aload_4 (pc := 42) dX1_halfBelow_42 ?_
      refine G_iconst (pc := 44) dX1_halfBelow_44 ?_
      refine G_iconst (pc := 45) dX1_halfBelow_45 ?_
      refine G_callV2v (pc := 46) (d' := 4) dX1_halfBelow_46 rfl (by rw [zT_at ht hn1.1 (by omega)]; exact hn1.1) (by decide) rfl (ok_X4_before ht hn1.1 hn3.1 hn3.2.1 (hU n hm) (by omega) (by omega) hn3.2.2 (Nat.le_refl _)) (by omega) (by omega) (by omega) (Nat.le_of_ble_eq_true rfl) (fun v h'' z => ?_)
      obtain ⟨rfl, r, rfl, hr⟩ := z
      refine G_areturn (pc := 49) dX1_halfBelow_49 rfl (Or.inl ⟨_, rfl⟩) (Or.inr ⟨_, rfl⟩) (by omega) (by omega) ?_
      subst hQ
      exact ⟨_, rfl, _, rfl, rfl, some r, rfl, some n, hq, Or.inl ⟨n, r, rfl, c, hr, rfl⟩⟩
    refine G_astore_4 (pc := 13) dX1_halfBelow_13 (by decide) rfl ?_
    refine G_aload_4 (pc := 15) dX1_halfBelow_15 ?_
    refine G_ifnull (pc := 17) dX1_halfBelow_17 ?_
    refine G_iload_3 (pc := 20) dX1_halfBelow_20 ?_
    refine G_if_lt (pc := 21) 42 dX1_halfBelow_21 (by decide) (by omega) (fun c => k42 (Or.inl c)) (fun c => ?_)
    obtain ⟨s, es⟩ : ∃ s : Nat, ksb S x y 60 = s := ⟨(ksb S x y 60).toNat, by omega⟩
    have hl : S.2 1 s = 1 := by have := hsb.2.2 (by omega); rw [es, Int.toNat_natCast] at this; exact this
    rw [es] at k42 k50 ⊢
    rw [Int.toNat_natCast] at k42 k50
    refine G_aload_0 (pc := 24) dX1_halfBelow_24 ?_
    refine G_iload_3 (pc := 25) dX1_halfBelow_25 ?_
    refine G_aload_4 (pc := 26) dX1_halfBelow_26 ?_
    refine G_tget (pc := 28) dX1_halfBelow_28 rfl ht hn1.1 hn1.2.1 ?_
    refine G_aload_4 (pc := 31) dX1_halfBelow_31 ?_
    refine G_tget (pc := 33) dX1_halfBelow_33 rfl ht hn1.1 hn1.2.2 ?_
    refine G_pV3 (pc := 36) dX1_halfBelow_36 rfl (zK_k ht hz) (by decide) rfl (pu_X1_isAbove ht hz (by omega) (b s (by omega) hl) hn2.1 hn2.2) (by omega) (by omega) (by omega) (Nat.le_of_ble_eq_true rfl) ?_
    refine G_ifb_eq (pc := 39) 50 dX1_halfBelow_39 (by decide) (fun c39 => ?_) (fun c39 => k42 (Or.inr c39))
    refine G_drop_4 ?_
    exact k50 (some n) hq (fun n' e => by cases e; exact ⟨by omega, c39⟩)
end HALF
