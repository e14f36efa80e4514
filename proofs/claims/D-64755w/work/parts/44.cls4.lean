set_option maxRecDepth 100000
/-- what add, remove and clear leave alone -/
def kKp (E : gV) (T T' : tT) : Prop := T'.2 = T.2 ∧ ∀ b, (b < gBase E ∨ gBase E + 6 ≤ b) → T'.1 b = T.1 b
theorem kKp_rf (E : gV) (T : tT) : kKp E T T := ⟨rfl, fun _ _ => rfl⟩
theorem kKp_set {E : gV} {T T' : tT} {a f : Nat} {v : Value} (k : kKp E T T') (h1 : gBase E ≤ a) (h2 : a < gBase E + 6) : kKp E T (tSet T' a f v) := by
  refine ⟨k.1, fun b hb => ?_⟩
  rw [← k.2 b hb]
  show va_up T'.1 a _ b = T'.1 b
  unfold va_up
  rw [if_neg (by omega)]
section CLS4
variable {E : gV} {l : Launch} {T : tT} {S : mS}
def kOk (E : gV) (l : Launch) (M : gM) (D mc ms : Nat) (av : List Value) (T : tT) (S : mS) (Q : Option Value → mS → Prop) : Prop := ∀ h, zT E h T → zK E T S → ∀ d, D ≤ d → gOk E l M d mc ms av h (fun v h' => ∃ T' S', zT E h' T' ∧ zK E T' S' ∧ kKp E T T' ∧ Q v S')
theorem ko_X1_remove {x : Int} (hx : -2147483648 ≤ x ∧ x ≤ 2147483647) (hg : 0 ≤ S.1 0 ∧ S.1 0 ≤ 60) :
    kOk E l gX1_remove 1 0 0 [.ref (gBase E), vI x] T S (fun v S' => v = some (vI (bI (0 ≤ x ∧ x < 60 ∧ S.2 1 x.toNat = 1))) ∧ ((0 ≤ x ∧ x < 60 ∧ S.2 1 x.toNat = 1) → S' = mUs (mUs (mU S 1 x.toNat 0) 0 (S.1 0 - 1)) 6 0) ∧ (¬ (0 ≤ x ∧ x < 60 ∧ S.2 1 x.toNat = 1) → S' = S)) := by
  intro h ht hz d hd
  have hk := kKp_rf E T
  refine gOk_of gmok_X1_remove rfl (Nat.le_of_ble_eq_true rfl) (L := [some _, some _]) rfl ?_
  refine G_iload_1 (pc := 0) dX1_remove_0 ?_
  refine G_if_lt (pc := 1) 19 dX1_remove_1 (by decide) (by omega) (fun c1 => ?_) (fun c1 => ?_)
  · skip
    refine G_iconst (pc := 19) dX1_remove_19 ?_
    refine G_ireturn (pc := 20) dX1_remove_20 rfl rfl (by omega) (by omega) ?_
    exact ⟨_, rfl, T, S, ht, hz, hk, by rw [bI_neg (by omega)], fun q => absurd q (by omega), fun _ => rfl⟩
  · skip
    refine G_iload_1 (pc := 4) dX1_remove_4 ?_
    refine G_bipush (pc := 5) dX1_remove_5 (by omega) ?_
    refine G_icmp_ge (pc := 7) 19 dX1_remove_7 (by decide) (by omega) (by omega) (fun c7 => ?_) (fun c7 => ?_)
    · skip
      refine G_iconst (pc := 19) dX1_remove_19 ?_
      refine G_ireturn (pc := 20) dX1_remove_20 rfl rfl (by omega) (by omega) ?_
      exact ⟨_, rfl, T, S, ht, hz, hk, by rw [bI_neg (by omega)], fun q => absurd q (by omega), fun _ => rfl⟩
    · skip
      refine G_aload_0 (pc := 10) dX1_remove_10 ?_
      refine G_kref (pc := 11) dX1_remove_11 rfl ht hz rfl ?_
      refine G_iload_1 (pc := 14) dX1_remove_14 ?_
      refine G_kb (pc := 15) dX1_remove_15 ht hz (by omega) (fun b15 => ?_)
      refine G_if_ne (pc := 16) 21 dX1_remove_16 (by decide) (by omega) (fun c16 => ?_) (fun c16 => ?_)
      · skip
        refine G_aload_0 (pc := 21) dX1_remove_21 ?_
        refine G_kref (pc := 22) dX1_remove_22 rfl ht hz rfl ?_
        refine G_iload_1 (pc := 25) dX1_remove_25 ?_
        refine G_iconst (pc := 26) dX1_remove_26 ?_
        refine G_kbs (pc := 27) dX1_remove_27 ht hz (by omega) (by omega) (fun h ht hz => ?_)
        refine G_aload_0 (pc := 28) dX1_remove_28 ?_
        refine G_dup (pc := 29) dX1_remove_29 rfl ?_
        refine G_kget (pc := 30) dX1_remove_30 rfl ht hz rfl rfl rfl (fun b30 => ?_)
        refine G_iconst (pc := 33) dX1_remove_33 ?_
        refine G_isub (pc := 34) dX1_remove_34 ?_
        refine G_kput (pc := 35) dX1_remove_35 rfl ht hz (by decide) (by show _ ≤ S.1 0 - 1 ∧ S.1 0 - 1 ≤ _; omega) (fun h ht hz => ?_)
        refine G_aload_0 (pc := 38) dX1_remove_38 ?_
        refine G_iconst (pc := 39) dX1_remove_39 ?_
        refine G_kputB (pc := 40) dX1_remove_40 rfl ht hz (by omega) (fun h ht hz => ?_)
        refine G_iconst (pc := 43) dX1_remove_43 ?_
        refine G_ireturn (pc := 44) dX1_remove_44 rfl rfl (by omega) (by omega) ?_
        exact ⟨_, rfl, _, _, ht, hz, kKp_set (kKp_set (kKp_set hk (by omega) (by show gBase E + 1 < _; omega)) (by omega) (by omega)) (by omega) (by omega), by rw [bI_pos (by omega)], fun _ => rfl, fun q => absurd (by omega) q⟩
      · skip
        refine G_iconst (pc := 19) dX1_remove_19 ?_
        refine G_ireturn (pc := 20) dX1_remove_20 rfl rfl (by omega) (by omega) ?_
        exact ⟨_, rfl, T, S, ht, hz, hk, by rw [bI_neg (by omega)], fun q => absurd q (by omega), fun _ => rfl⟩
theorem ko_X1_clear (hg : 0 ≤ S.1 0 ∧ S.1 0 ≤ 60) :
    kOk E l gX1_clear 1 0 0 [.ref (gBase E)] T S (fun v S' => v = some (vI (S.1 0)) ∧ S' = (fun g => if g = 6 then 0 else if g = 0 then 0 else S.1 g, fun g i => if g = 1 ∧ i < 60 then 0 else S.2 g i)) := by
  intro h ht hz d hd
  have hk := kKp_rf E T
  refine gOk_of gmok_X1_clear rfl (Nat.le_of_ble_eq_true rfl) (L := [some _, none, none]) rfl ?_
  obtain ⟨Q, hQ⟩ : ∃ Q, Q = gRet (fun v h' => ∃ T' S', zT E h' T' ∧ zK E T' S' ∧ kKp E T T' ∧ v = some (vI (S.1 0)) ∧ S' = (fun g => if g = 6 then 0 else if g = 0 then 0 else S.1 g, fun g i => if g = 1 ∧ i < 60 then 0 else S.2 g i)) := ⟨_, rfl⟩
  rw [← hQ]
  have k7 : ∀ (n k : Nat), k + n = 60 → ∀ (h1 : gH) (T1 : tT), zT E h1 T1 → zK E T1 (S.1, fun g i => if g = 1 ∧ i < k then 0 else S.2 g i) → kKp E T T1 → G E l gX1_clear d 0 0 Q 7 [some (.ref (gBase E)), some (vI (S.1 0)), some (vI k)] [] h1 0 0 := by
    intro n
    induction n with
    | zero =>
      intro k hn h1 T1 ht hz hk
      have ek : k = 60 := by omega
      subst ek
      refine G_iload_2 (pc := 7) dX1_clear_7 ?_
      refine G_bipush (pc := 8) dX1_clear_8 (by omega) ?_
      refine G_icmp_ge (pc := 10) 26 dX1_clear_10 (by decide) (by omega) (by omega) (fun c10 => ?_) (fun c10 => ?_)
      · skip
        refine G_aload_0 (pc := 26) dX1_clear_26 ?_
        refine G_iconst (pc := 27) dX1_clear_27 ?_
        refine G_kput (pc := 28) dX1_clear_28 rfl ht hz (by decide) (by omega) (fun h ht hz => ?_)
        refine G_aload_0 (pc := 31) dX1_clear_31 ?_
        refine G_iconst (pc := 32) dX1_clear_32 ?_
        refine G_kputB (pc := 33) dX1_clear_33 rfl ht hz (by omega) (fun h ht hz => ?_)
        refine G_iload_1 (pc := 36) dX1_clear_36 ?_
        refine G_ireturn (pc := 37) dX1_clear_37 rfl rfl (by omega) (by omega) ?_
        subst hQ
        refine ⟨_, rfl, _, _, ht, hz, kKp_set (kKp_set hk (by omega) (by omega)) (by omega) (by omega), rfl, ?_⟩
        rfl
      · exact absurd c10 (by omega)
    | succ n ih =>
      intro k hn h1 T1 ht hz hk
      refine G_iload_2 (pc := 7) dX1_clear_7 ?_
      refine G_bipush (pc := 8) dX1_clear_8 (by omega) ?_
      refine G_icmp_ge (pc := 10) 26 dX1_clear_10 (by decide) (by omega) (by omega) (fun c10 => ?_) (fun c10 => ?_)
      · exact absurd c10 (by omega)
      · skip
        refine G_aload_0 (pc := 13) dX1_clear_13 ?_
        refine G_kref (pc := 14) dX1_clear_14 rfl ht hz rfl ?_
        refine G_iload_2 (pc := 17) dX1_clear_17 ?_
        refine G_iconst (pc := 18) dX1_clear_18 ?_
        refine G_kbs (pc := 19) dX1_clear_19 ht hz (by omega) (by omega) (fun h ht hz => ?_)
        refine G_iinc_2 (pc := 20) dX1_clear_20 (by decide) rfl ?_
        refine G_goto (pc := 23) 7 dX1_clear_23 (by decide) ?_
        rw [show ((k : Int) + 1) = ((k + 1 : Nat) : Int) by omega]
        refine ih (k + 1) (by omega) _ _ ht ?_ (kKp_set hk (by omega) (by show gBase E + 1 < _; omega))
        have e : mU (S.1, fun g i => if g = 1 ∧ i < k then 0 else S.2 g i) 1 (k : Int).toNat 0 = (S.1, fun g i => if g = 1 ∧ i < k + 1 then 0 else S.2 g i) := by
          unfold mU
          refine Prod.ext rfl ?_
          funext g i
          rw [Int.toNat_natCast]
          by_cases c1 : g = 1
          · subst c1
            by_cases c2 : i = k
            · subst c2; simp
            · by_cases c3 : i < k
              · simp [c2, c3]; omega
              · simp [c2, c3]; omega
          · simp [c1]
        rw [← e]
        exact hz
  refine G_aload_0 (pc := 0) dX1_clear_0 ?_
  refine G_kget (pc := 1) dX1_clear_1 rfl ht hz rfl rfl rfl (fun b1 => ?_)
  refine G_istore_1 (pc := 4) dX1_clear_4 (by decide) rfl ?_
  refine G_iconst (pc := 5) dX1_clear_5 ?_
  refine G_istore_2 (pc := 6) dX1_clear_6 (by decide) rfl ?_
  refine k7 60 0 rfl _ _ ht ?_ hk
  have e : (S.1, fun g i => if g = 1 ∧ i < 0 then 0 else S.2 g i) = S := by
    refine Prod.ext rfl ?_
    funext g i
    simp
  rw [e]
  exact hz
end CLS4
