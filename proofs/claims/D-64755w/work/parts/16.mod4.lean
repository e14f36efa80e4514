set_option maxRecDepth 100000
/-- the labels of the pieces alone are others -/
def mL (S : mS) (Lb : Nat → Int) : mS := (S.1, fun g i => if g = 6 then Lb i else S.2 g i)
def updI (f : Nat → Int) (k : Nat) (x : Int) : Nat → Int := fun i => if i = k then x else f i
theorem mL_ne (S : mS) (Lb : Nat → Int) {g : Nat} (h : g ≠ 6) (i : Nat) : (mL S Lb).2 g i = S.2 g i := by simp [mL, h]
theorem mL_6 (S : mS) (Lb : Nat → Int) (i : Nat) : (mL S Lb).2 6 i = Lb i := by simp [mL]
theorem mL_set (S : mS) (Lb : Nat → Int) (k : Nat) (x : Int) : mU (mL S Lb) 6 k x = mL S (updI Lb k x) := by
  unfold mU mL updI
  refine Prod.ext rfl ?_
  funext g i
  by_cases e : g = 6
  · subst e; by_cases e2 : i = k <;> simp [e2]
  · simp [e]
theorem mL_self (S : mS) : mL S (S.2 6) = S := by
  unfold mL
  refine Prod.ext rfl ?_
  funext g i
  by_cases e : g = 6
  · subst e; simp
  · simp [e]
/-- half j, which is of piece p, touches half k -/
def tch (S : mS) (Lb : Nat → Int) (p : Int) (k j : Nat) : Prop := Lb j = p ∧ S.2 1 (j / 2) = 1 ∧ ((S.2 2 j = S.2 2 k ∧ S.2 3 j = S.2 3 k) ∨ j = zB k)
def tchB (S : mS) (Lb : Nat → Int) (p : Int) (k j : Nat) : Prop := ∃ j', j' < j ∧ tch S Lb p k j'
theorem tchB_succ {S : mS} {Lb : Nat → Int} {p : Int} {k j : Nat} : tchB S Lb p k (j + 1) ↔ (tchB S Lb p k j ∨ tch S Lb p k j) := by
  constructor
  · rintro ⟨j', a, b⟩
    by_cases q : j' = j
    · subst q; exact Or.inr b
    · exact Or.inl ⟨j', by omega, b⟩
  · rintro (⟨j', a, b⟩ | b)
    · exact ⟨j', by omega, b⟩
    · exact ⟨j, by omega, b⟩
def tchs (S : mS) (Lb : Nat → Int) (p : Int) (k : Nat) : Prop := S.2 1 (k / 2) = 1 ∧ Lb k < 0 ∧ tchB S Lb p k 120
def spJ (S : mS) (h : Nat) (p : Int) (Lb : Nat → Int) : Prop := Lb h = p ∧ (∀ k, Lb k ≠ S.2 6 k → Lb k = p ∧ k < 120 ∧ S.2 6 k < 0 ∧ S.2 1 (k / 2) = 1 ∧ zSame (mP S) h k)
def unl (Lb : Nat → Int) : Nat := zC 120 (fun k => decide (Lb k < 0))
theorem unl_lt {Lb : Nat → Int} {k : Nat} {p : Int} (hk : k < 120) (h : Lb k < 0) (hp : 0 ≤ p) : unl (updI Lb k p) < unl Lb := by
  refine zC_lt (fun i _ hi => ?_) k hk ?_ ?_
  · have hi' : updI Lb k p i < 0 := by simpa using hi
    show decide (Lb i < 0) = true
    unfold updI at hi'
    split at hi'
    · omega
    · simpa using hi'
  · simp only [updI, if_true, decide_eq_false_iff_not]; omega
  · simp only [decide_eq_true_eq]; exact h
theorem tl_keep {A B C D : Prop} {t : Int} (h : t ≠ 0) (ht : t = bI (A ∧ B ∧ C)) : 1 = bI (A ∧ B ∧ (C ∨ D)) := by
  have := bI_01 (A ∧ B ∧ C)
  have h2 := bI_one.mp (show bI (A ∧ B ∧ C) = 1 by omega)
  exact (bI_pos ⟨h2.1, h2.2.1, Or.inl h2.2.2⟩).symm
theorem tl_new {A B C D : Prop} (a : A) (b : B) (c : D) : 1 = bI (A ∧ B ∧ (C ∨ D)) := (bI_pos ⟨a, b, Or.inr c⟩).symm
theorem tl_no {A B C D : Prop} {t : Int} (h : t = 0) (ht : t = bI (A ∧ B ∧ C)) (nd : ¬ D) : 0 = bI (A ∧ B ∧ (C ∨ D)) := by
  have h2 := bI_zero.mp (ht.symm.trans h)
  refine (bI_neg ?_).symm
  rintro ⟨a, b, c | c⟩
  · exact h2 ⟨a, b, c⟩
  · exact nd c
theorem tn_div (k : Nat) : ((k : Int) / 2).toNat = k / 2 := by omega
section MOD4
variable {E : gV} {l : Launch} {S : mS}
theorem spJ_step {h k : Nat} {p : Int} {Lb : Nat → Int} (no : ∀ k, k < 120 → S.2 1 (k / 2) = 1 → S.2 6 k ≠ p) (hJ : spJ S h p Lb) (hk : k < 120) (hp : 0 ≤ p) (ht : tchs S Lb p k) : spJ S h p (updI Lb k p) := by
  obtain ⟨h1, h2⟩ := hJ
  obtain ⟨t1, t2, j, hj, t3, t4, t5⟩ := ht
  have lk : zL (mP S) k = true := mP_L.mpr ⟨hk, t1⟩
  have lj : zL (mP S) j = true := mP_L.mpr ⟨hj, t4⟩
  have sj : zSame (mP S) h j := by
    by_cases e : Lb j = S.2 6 j
    · exact absurd (e.symm.trans t3) (no j hj t4)
    · exact (h2 j e).2.2.2.2
  have sk : zSame (mP S) h k := by
    intro T s0 s1 s2
    have tj := sj T s0 s1 s2
    rcases t5 with ⟨e1, e2⟩ | e
    · exact s2 j k lj lk e1 e2 tj
    · have := s1 j lj tj
      rw [e, zB_B] at this
      exact this
  have k6 : S.2 6 k < 0 := by
    by_cases e : Lb k = S.2 6 k
    · omega
    · have := (h2 k e).1; omega
  refine ⟨?_, fun i hi => ?_⟩
  · unfold updI; split
    · rfl
    · exact h1
  · unfold updI at hi ⊢
    split at hi
    · next q => subst q; rw [if_pos rfl]; exact ⟨rfl, hk, k6, t1, sk⟩
    · next q => rw [if_neg q]; exact h2 i hi
theorem mo_X2_spreadPiece {i : Nat} (hl : zL (mP S) i = true) {p : Int} (hp : 0 ≤ p ∧ p ≤ 1000) (no : ∀ k, k < 120 → S.2 1 (k / 2) = 1 → S.2 6 k ≠ p) (hi6 : S.2 6 i < 0) :
    mOk E l gX2_spreadPiece 2 [.ref (gBase E + 12), vI i, vI p] S (fun v S' => v = none ∧ ∃ Lb, S' = mL S Lb ∧ spJ S i p Lb ∧ ∀ k, k < 120 → ¬ tchs S Lb p k) := by
  intro h hm d hd
  have hk := gKeepM_rf E h
  have hi := zL_lt hl
  refine gOk_of gmok_X2_spreadPiece rfl (Nat.le_of_ble_eq_true rfl) (L := [some _, some _, some _, none, none, none, none]) rfl ?_
  obtain ⟨Q, hQ⟩ : ∃ Q, Q = gRet (fun v h' => ∃ S', zMo E h' S' ∧ gKeepM E h h' ∧ v = none ∧ ∃ Lb, S' = mL S Lb ∧ spJ S i p Lb ∧ ∀ k, k < 120 → ¬ tchs S Lb p k) := ⟨_, rfl⟩
  rw [← hQ]
  -- the inner loop
  have k31 : ∀ (Lb : Nat → Int) (h1 : gH) (m : Int) (k : Nat), zMo E h1 (mL S Lb) → gKeepM E h h1 → k < 120 →
      (∀ t : Int, t = bI (tchs S Lb p k) → G E l gX2_spreadPiece d 0 0 Q 145 [some (.ref (gBase E + 12)), some (vI i), some (vI p), some (vI m), some (vI k), some (vI t), none] [] h1 0 0) →
      ∀ (n j : Nat) (t : Int), j + n = 120 → t = bI (S.2 1 (k / 2) = 1 ∧ Lb k < 0 ∧ tchB S Lb p k j) → G E l gX2_spreadPiece d 0 0 Q 31 [some (.ref (gBase E + 12)), some (vI i), some (vI p), some (vI m), some (vI k), some (vI t), some (vI j)] [] h1 0 0 := by
    intro Lb h1 m k hm hk hk120 kk n
    have e1 : ((k : Int) / 2).toNat = k / 2 := by omega
    have e2 : (k : Int).toNat = k := by omega
    induction n with
    | zero =>
      intro j t hn ht
      have ej : j = 120 := by omega
      subst ej
      refine G_iload_6 (pc := 31) dX2_spreadPiece_31 ?_
      refine G_bipush (pc := 33) dX2_spreadPiece_33 (by omega) ?_
      refine G_icmp_ge (pc := 35) 145 dX2_spreadPiece_35 (by decide) (by omega) (by omega) (fun c35 => ?_) (fun c35 => ?_)
      · skip
        refine G_drop_6 ?_
        exact kk t ht
      · skip
        exact absurd c35 (by omega)
    | succ n ih =>
      intro j t hn ht
      have e3 : ((j : Int) / 2).toNat = j / 2 := by omega
      have e4 : (j : Int).toNat = j := by omega
      have hB := zB_lt hk120
      have go : ∀ t' : Int, t' = bI (S.2 1 (k / 2) = 1 ∧ Lb k < 0 ∧ tchB S Lb p k (j + 1)) → G E l gX2_spreadPiece d 0 0 Q 137 [some (.ref (gBase E + 12)), some (vI i), some (vI p), some (vI m), some (vI k), some (vI t), some (vI j)] [vI t'] h1 0 0 := by
        intro t' ht'
        refine G_istore_5 (pc := 137) dX2_spreadPiece_137 (by decide) rfl ?_
        refine G_iinc_6 (pc := 139) dX2_spreadPiece_139 (by decide) rfl ?_
        refine G_goto (pc := 142) 31 dX2_spreadPiece_142 (by decide) ?_
        rw [show ((j : Int) + 1) = ((j + 1 : Nat) : Int) by omega]
        exact ih (j + 1) t' (by omega) ht'
      have ht01 := bI_01 (S.2 1 (k / 2) = 1 ∧ Lb k < 0 ∧ tchB S Lb p k j)
      rw [← ht] at ht01
      have n1 : ¬ (S.2 1 (k / 2) = 1 ∧ Lb k < 0) → t = bI (tchs S Lb p k) := by
        intro q
        rw [ht, bI_neg (fun z => q ⟨z.1, z.2.1⟩), bI_neg (fun z => q ⟨z.1, z.2.1⟩)]
      have n2 : t ≠ 0 → tchB S Lb p k j := by
        intro q
        have : t = 1 := by omega
        rw [ht, bI_one] at this
        exact this.2.2
      have n3 : t = 0 → S.2 1 (k / 2) = 1 → Lb k < 0 → ¬ tchB S Lb p k j := by
        intro q q1 q2 q3
        rw [q, eq_comm, bI_zero] at ht
        exact ht ⟨q1, q2, q3⟩
      refine G_iload_6 (pc := 31) dX2_spreadPiece_31 ?_
      refine G_bipush (pc := 33) dX2_spreadPiece_33 (by omega) ?_
      refine G_icmp_ge (pc := 35) 145 dX2_spreadPiece_35 (by decide) (by omega) (by omega) (fun c35 => ?_) (fun c35 => ?_)
      · skip
        refine G_drop_6 ?_
        exact kk t (n1 (by omega))
      · skip
        refine G_aload_0 (pc := 38) dX2_spreadPiece_38 ?_
        refine G_mref (pc := 39) dX2_spreadPiece_39 rfl hm rfl ?_
        refine G_iload_4 (pc := 42) dX2_spreadPiece_42 ?_
        refine G_iconst (pc := 44) dX2_spreadPiece_44 ?_
        refine G_idiv (pc := 45) dX2_spreadPiece_45 (by omega) (by omega) ?_
        refine G_mb (pc := 46) dX2_spreadPiece_46 hm (by omega) (fun b46 => ?_)
        simp only [tn_div, mL_ne S Lb (show 1 ≠ 6 by decide)] at *
        refine G_if_eq (pc := 47) 145 dX2_spreadPiece_47 (by decide) (by omega) (fun c47 => ?_) (fun c47 => ?_)
        · skip
          refine G_drop_6 ?_
          exact kk t (n1 (by omega))
        · skip
          refine G_aload_0 (pc := 50) dX2_spreadPiece_50 ?_
          refine G_mref (pc := 51) dX2_spreadPiece_51 rfl hm rfl ?_
          refine G_iload_4 (pc := 54) dX2_spreadPiece_54 ?_
          refine G_mi (pc := 56) (n := 120) dX2_spreadPiece_56 hm rfl rfl rfl (by omega) (fun b56 => ?_)
          simp only [Int.toNat_natCast, mL_6] at *
          refine G_if_ge (pc := 57) 145 dX2_spreadPiece_57 (by decide) (by omega) (fun c57 => ?_) (fun c57 => ?_)
          · skip
            refine G_drop_6 ?_
            exact kk t (n1 (by omega))
          · skip
            refine G_iload_5 (pc := 60) dX2_spreadPiece_60 ?_
            refine G_if_ne (pc := 62) 132 dX2_spreadPiece_62 (by decide) (by omega) (fun c62 => ?_) (fun c62 => ?_)
            · skip
              refine G_iconst (pc := 132) dX2_spreadPiece_132 ?_
              refine G_goto (pc := 133) 137 dX2_spreadPiece_133 (by decide) ?_
              refine go _ ?_
              rw [tchB_succ]
              first | exact tl_keep (by omega) ht | exact tl_new (by omega) (by omega) ⟨by omega, by omega, by omega⟩ | exact tl_no (by omega) ht (fun z => by unfold tch at z; omega)
            · skip
              refine G_aload_0 (pc := 65) dX2_spreadPiece_65 ?_
              refine G_mref (pc := 66) dX2_spreadPiece_66 rfl hm rfl ?_
              refine G_iload_6 (pc := 69) dX2_spreadPiece_69 ?_
              refine G_mi (pc := 71) (n := 120) dX2_spreadPiece_71 hm rfl rfl rfl (by omega) (fun b71 => ?_)
              simp only [Int.toNat_natCast, mL_6] at *
              refine G_iload_2 (pc := 72) dX2_spreadPiece_72 ?_
              refine G_icmp_ne (pc := 73) 136 dX2_spreadPiece_73 (by decide) (by omega) (by omega) (fun c73 => ?_) (fun c73 => ?_)
              · skip
                refine G_iconst (pc := 136) dX2_spreadPiece_136 ?_
                refine go _ ?_
                rw [tchB_succ]
                first | exact tl_keep (by omega) ht | exact tl_new (by omega) (by omega) ⟨by omega, by omega, by omega⟩ | exact tl_no (by omega) ht (fun z => by unfold tch at z; omega)
              · skip
                refine G_aload_0 (pc := 76) dX2_spreadPiece_76 ?_
                refine G_mref (pc := 77) dX2_spreadPiece_77 rfl hm rfl ?_
                refine G_iload_6 (pc := 80) dX2_spreadPiece_80 ?_
                refine G_iconst (pc := 82) dX2_spreadPiece_82 ?_
                refine G_idiv (pc := 83) dX2_spreadPiece_83 (by omega) (by omega) ?_
                refine G_mb (pc := 84) dX2_spreadPiece_84 hm (by omega) (fun b84 => ?_)
                simp only [tn_div, mL_ne S Lb (show 1 ≠ 6 by decide)] at *
                refine G_if_eq (pc := 85) 136 dX2_spreadPiece_85 (by decide) (by omega) (fun c85 => ?_) (fun c85 => ?_)
                · skip
                  refine G_iconst (pc := 136) dX2_spreadPiece_136 ?_
                  refine go _ ?_
                  rw [tchB_succ]
                  first | exact tl_keep (by omega) ht | exact tl_new (by omega) (by omega) ⟨by omega, by omega, by omega⟩ | exact tl_no (by omega) ht (fun z => by unfold tch at z; omega)
                · skip
                  refine G_aload_0 (pc := 88) dX2_spreadPiece_88 ?_
                  refine G_mref (pc := 89) dX2_spreadPiece_89 rfl hm rfl ?_
                  refine G_iload_6 (pc := 92) dX2_spreadPiece_92 ?_
                  refine G_mi (pc := 94) (n := 120) dX2_spreadPiece_94 hm rfl rfl rfl (by omega) (fun b94 => ?_)
                  refine G_aload_0 (pc := 95) dX2_spreadPiece_95 ?_
                  refine G_mref (pc := 96) dX2_spreadPiece_96 rfl hm rfl ?_
                  refine G_iload_4 (pc := 99) dX2_spreadPiece_99 ?_
                  refine G_mi (pc := 101) (n := 120) dX2_spreadPiece_101 hm rfl rfl rfl (by omega) (fun b101 => ?_)
                  simp only [Int.toNat_natCast, mL_ne S Lb (show 2 ≠ 6 by decide)] at *
                  refine G_icmp_ne (pc := 102) 122 dX2_spreadPiece_102 (by decide) (by omega) (by omega) (fun c102 => ?_) (fun c102 => ?_)
                  · skip
                    refine G_iload_6 (pc := 122) dX2_spreadPiece_122 ?_
                    refine G_iload_4 (pc := 124) dX2_spreadPiece_124 ?_
                    refine G_pS1 (pc := 126) dX2_spreadPiece_126 rfl rfl (pu_X2_back _ (by omega)) (by omega) (by omega) (by omega) (Nat.le_of_ble_eq_true rfl) ?_
                    refine G_icmp_ne (pc := 129) 136 dX2_spreadPiece_129 (by decide) (by omega) (by omega) (fun c129 => ?_) (fun c129 => ?_)
                    · skip
                      refine G_iconst (pc := 136) dX2_spreadPiece_136 ?_
                      refine go _ ?_
                      rw [tchB_succ]
                      first | exact tl_keep (by omega) ht | exact tl_new (by omega) (by omega) ⟨by omega, by omega, by omega⟩ | exact tl_no (by omega) ht (fun z => by unfold tch at z; omega)
                    · skip
                      refine G_iconst (pc := 132) dX2_spreadPiece_132 ?_
                      refine G_goto (pc := 133) 137 dX2_spreadPiece_133 (by decide) ?_
                      refine go _ ?_
                      rw [tchB_succ]
                      first | exact tl_keep (by omega) ht | exact tl_new (by omega) (by omega) ⟨by omega, by omega, by omega⟩ | exact tl_no (by omega) ht (fun z => by unfold tch at z; omega)
                  · skip
                    refine G_aload_0 (pc := 105) dX2_spreadPiece_105 ?_
                    refine G_mref (pc := 106) dX2_spreadPiece_106 rfl hm rfl ?_
                    refine G_iload_6 (pc := 109) dX2_spreadPiece_109 ?_
                    refine G_mi (pc := 111) (n := 120) dX2_spreadPiece_111 hm rfl rfl rfl (by omega) (fun b111 => ?_)
                    refine G_aload_0 (pc := 112) dX2_spreadPiece_112 ?_
                    refine G_mref (pc := 113) dX2_spreadPiece_113 rfl hm rfl ?_
                    refine G_iload_4 (pc := 116) dX2_spreadPiece_116 ?_
                    refine G_mi (pc := 118) (n := 120) dX2_spreadPiece_118 hm rfl rfl rfl (by omega) (fun b118 => ?_)
                    simp only [Int.toNat_natCast, mL_ne S Lb (show 3 ≠ 6 by decide)] at *
                    refine G_icmp_eq (pc := 119) 132 dX2_spreadPiece_119 (by decide) (by omega) (by omega) (fun c119 => ?_) (fun c119 => ?_)
                    · skip
                      refine G_iconst (pc := 132) dX2_spreadPiece_132 ?_
                      refine G_goto (pc := 133) 137 dX2_spreadPiece_133 (by decide) ?_
                      refine go _ ?_
                      rw [tchB_succ]
                      first | exact tl_keep (by omega) ht | exact tl_new (by omega) (by omega) ⟨by omega, by omega, by omega⟩ | exact tl_no (by omega) ht (fun z => by unfold tch at z; omega)
                    · skip
                      refine G_iload_6 (pc := 122) dX2_spreadPiece_122 ?_
                      refine G_iload_4 (pc := 124) dX2_spreadPiece_124 ?_
                      refine G_pS1 (pc := 126) dX2_spreadPiece_126 rfl rfl (pu_X2_back _ (by omega)) (by omega) (by omega) (by omega) (Nat.le_of_ble_eq_true rfl) ?_
                      refine G_icmp_ne (pc := 129) 136 dX2_spreadPiece_129 (by decide) (by omega) (by omega) (fun c129 => ?_) (fun c129 => ?_)
                      · skip
                        refine G_iconst (pc := 136) dX2_spreadPiece_136 ?_
                        refine go _ ?_
                        rw [tchB_succ]
                        first | exact tl_keep (by omega) ht | exact tl_new (by omega) (by omega) ⟨by omega, by omega, by omega⟩ | exact tl_no (by omega) ht (fun z => by unfold tch at z; omega)
                      · skip
                        refine G_iconst (pc := 132) dX2_spreadPiece_132 ?_
                        refine G_goto (pc := 133) 137 dX2_spreadPiece_133 (by decide) ?_
                        refine go _ ?_
                        rw [tchB_succ]
                        first | exact tl_keep (by omega) ht | exact tl_new (by omega) (by omega) ⟨by omega, by omega, by omega⟩ | exact tl_no (by omega) ht (fun z => by unfold tch at z; omega)
  -- one pass, and the passes
  have passes : ∀ (N : Nat), (∀ (Lb : Nat → Int) (h1 : gH), unl Lb < N → zMo E h1 (mL S Lb) → gKeepM E h h1 → spJ S i p Lb → G E l gX2_spreadPiece d 0 0 Q 9 [some (.ref (gBase E + 12)), some (vI i), some (vI p), some (vI 1), none, none, none] [] h1 0 0) → ∀ (Lb : Nat → Int) (h1 : gH), unl Lb ≤ N → zMo E h1 (mL S Lb) → gKeepM E h h1 → spJ S i p Lb → G E l gX2_spreadPiece d 0 0 Q 9 [some (.ref (gBase E + 12)), some (vI i), some (vI p), some (vI 1), none, none, none] [] h1 0 0 := by
    intro N ih Lb0 h0 hN hm hk hJ
    -- over the halves: nothing found yet, or fewer are left
    have k18 : ∀ (n k : Nat) (m : Int) (Lb : Nat → Int) (h1 : gH), k + n = 120 → zMo E h1 (mL S Lb) → gKeepM E h h1 → spJ S i p Lb → ((m = 0 ∧ ∀ k', k' < k → ¬ tchs S Lb p k') ∨ (m = 1 ∧ unl Lb < N)) → unl Lb ≤ N → G E l gX2_spreadPiece d 0 0 Q 18 [some (.ref (gBase E + 12)), some (vI i), some (vI p), some (vI m), some (vI k), none, none] [] h1 0 0 := by
      intro n
      induction n with
      | zero =>
        intro k m Lb h1 hn hm hk hJ hv hu
        have ek : k = 120 := by omega
        subst ek
        refine G_iload_4 (pc := 18) dX2_spreadPiece_18 ?_
        refine G_bipush (pc := 20) dX2_spreadPiece_20 (by omega) ?_
        refine G_icmp_ge (pc := 22) 166 dX2_spreadPiece_22 (by decide) (by omega) (by omega) (fun c22 => ?_) (fun c22 => absurd c22 (by omega))
        refine G_goto (pc := 166) 9 dX2_spreadPiece_166 (by decide) ?_
        refine G_drop_4 ?_
        rcases hv with ⟨rfl, hv⟩ | ⟨rfl, hv⟩
        · refine G_iload_3 (pc := 9) dX2_spreadPiece_9 ?_
          refine G_if_eq (pc := 10) 169 dX2_spreadPiece_10 (by decide) (by decide) (fun _ => ?_) (fun q => absurd q (by decide))
          refine G_return (pc := 169) dX2_spreadPiece_169 rfl (by omega) (by omega) ?_
          subst hQ
          exact ⟨_, rfl, _, hm, hk, rfl, Lb, rfl, hJ, hv⟩
        · exact ih Lb h1 hv hm hk hJ
      | succ n ihn =>
        intro k m Lb h1 hn hm hk hJ hv hu
        have hk120 : k < 120 := by omega
        have hmb : m = 0 ∨ m = 1 := by rcases hv with ⟨a, _⟩ | ⟨a, _⟩ <;> omega
        refine G_iload_4 (pc := 18) dX2_spreadPiece_18 ?_
        refine G_bipush (pc := 20) dX2_spreadPiece_20 (by omega) ?_
        refine G_icmp_ge (pc := 22) 166 dX2_spreadPiece_22 (by decide) (by omega) (by omega) (fun c22 => ?_) (fun c22 => ?_)
        · skip
          exact absurd c22 (by omega)
        · skip
          refine G_iconst (pc := 25) dX2_spreadPiece_25 ?_
          refine G_istore_5 (pc := 26) dX2_spreadPiece_26 (by decide) rfl ?_
          refine G_iconst (pc := 28) dX2_spreadPiece_28 ?_
          refine G_istore_6 (pc := 29) dX2_spreadPiece_29 (by decide) rfl ?_
          refine k31 Lb h1 m k hm hk hk120 (fun t ht => ?_) 120 0 0 rfl (bI_neg (fun z => by obtain ⟨_, _, j, hj, _⟩ := z; omega)).symm
          have ht01 := bI_01 (tchs S Lb p k)
          rw [← ht] at ht01
          refine G_iload_5 (pc := 145) dX2_spreadPiece_145 ?_
          refine G_if_eq (pc := 147) 160 dX2_spreadPiece_147 (by decide) (by omega) (fun c147 => ?_) (fun c147 => ?_)
          · have nt : ¬ tchs S Lb p k := bI_zero.mp (ht.symm.trans c147)
            refine G_drop_5 ?_
            refine G_iinc_4 (pc := 160) dX2_spreadPiece_160 (by decide) rfl ?_
            refine G_goto (pc := 163) 18 dX2_spreadPiece_163 (by decide) ?_
            rw [show ((k : Int) + 1) = ((k + 1 : Nat) : Int) by omega]
            refine ihn (k + 1) m Lb h1 (by omega) hm hk hJ ?_ hu
            rcases hv with ⟨a, b⟩ | hv
            · refine Or.inl ⟨a, fun k' hk' => ?_⟩
              by_cases e : k' = k
              · subst e; exact nt
              · exact b k' (by omega)
            · exact Or.inr hv
          · have yt : tchs S Lb p k := bI_one.mp (show bI _ = 1 by rw [← ht]; omega)
            have hul := unl_lt hk120 yt.2.1 hp.1
            refine G_aload_0 (pc := 150) dX2_spreadPiece_150 ?_
            refine G_mref (pc := 151) dX2_spreadPiece_151 rfl hm rfl ?_
            refine G_iload_4 (pc := 154) dX2_spreadPiece_154 ?_
            refine G_iload_2 (pc := 156) dX2_spreadPiece_156 ?_
            refine G_mis (pc := 157) (n := 120) dX2_spreadPiece_157 hm hk rfl rfl rfl (by omega) (by omega) (fun h hm hk => ?_)
            rw [Int.toNat_natCast, mL_set] at hm
            refine G_iconst (pc := 158) dX2_spreadPiece_158 ?_
            refine G_istore_3 (pc := 159) dX2_spreadPiece_159 (by decide) rfl ?_
            refine G_drop_5 ?_
            refine G_iinc_4 (pc := 160) dX2_spreadPiece_160 (by decide) rfl ?_
            refine G_goto (pc := 163) 18 dX2_spreadPiece_163 (by decide) ?_
            rw [show ((k : Int) + 1) = ((k + 1 : Nat) : Int) by omega]
            exact ihn (k + 1) 1 (updI Lb k p) h (by omega) hm hk (spJ_step no hJ hk120 hp.1 yt) (Or.inr ⟨rfl, by omega⟩) (by omega)
    refine G_iload_3 (pc := 9) dX2_spreadPiece_9 ?_
    refine G_if_eq (pc := 10) 169 dX2_spreadPiece_10 (by decide) (by omega) (fun c10 => ?_) (fun c10 => ?_)
    · skip
      exact absurd c10 (by decide)
    · skip
      refine G_iconst (pc := 13) dX2_spreadPiece_13 ?_
      refine G_istore_3 (pc := 14) dX2_spreadPiece_14 (by decide) rfl ?_
      refine G_iconst (pc := 15) dX2_spreadPiece_15 ?_
      refine G_istore_4 (pc := 16) dX2_spreadPiece_16 (by decide) rfl ?_
      exact k18 120 0 0 Lb0 h0 rfl hm hk hJ (Or.inl ⟨rfl, fun k' hk' => absurd hk' (by omega)⟩) hN
  have pass : ∀ (N : Nat) (Lb : Nat → Int) (h1 : gH), unl Lb ≤ N → zMo E h1 (mL S Lb) → gKeepM E h h1 → spJ S i p Lb → G E l gX2_spreadPiece d 0 0 Q 9 [some (.ref (gBase E + 12)), some (vI i), some (vI p), some (vI 1), none, none, none] [] h1 0 0 := by
    intro N
    induction N with
    | zero =>
      intro Lb h1 hN hm hk hJ
      exact passes 0 (fun Lb' _ hu => absurd hu (by omega)) Lb h1 hN hm hk hJ
    | succ N ih =>
      intro Lb h1 hN hm hk hJ
      exact passes (N + 1) (fun Lb' h1 hu hm hk hJ => ih Lb' h1 (by omega) hm hk hJ) Lb h1 hN hm hk hJ
  refine G_aload_0 (pc := 0) dX2_spreadPiece_0 ?_
  refine G_mref (pc := 1) dX2_spreadPiece_1 rfl hm rfl ?_
  refine G_iload_1 (pc := 4) dX2_spreadPiece_4 ?_
  refine G_iload_2 (pc := 5) dX2_spreadPiece_5 ?_
  refine G_mis (pc := 6) (n := 120) dX2_spreadPiece_6 hm hk rfl rfl rfl (by omega) (by omega) (fun h hm hk => ?_)
  rw [show (i : Int).toNat = i by omega] at hm
  refine G_iconst (pc := 7) dX2_spreadPiece_7 ?_
  refine G_istore_3 (pc := 8) dX2_spreadPiece_8 (by decide) rfl ?_
  have hm2 : zMo E h (mL S (updI (S.2 6) i p)) := by rw [← mL_set, mL_self]; exact hm
  exact pass _ _ h (Nat.le_refl _) hm2 hk ⟨by simp [updI], fun k hne => by
    by_cases e : k = i
    · subst e; exact ⟨by simp [updI], hi, hi6, (mP_L.mp hl).2, fun _ s _ _ => s⟩
    · exact absurd (by simp [updI, e]) hne⟩
end MOD4
