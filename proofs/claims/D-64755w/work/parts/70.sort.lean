set_option maxRecDepth 100000
theorem tLs_tLs (T : tT) (a : Nat) (xs ys : List Nat) : tLs (tLs T a xs) a ys = tLs T a ys := by
  unfold tLs
  congr 1
  funext b
  unfold va_up
  by_cases e : b = a <;> simp [e]
theorem tLs_id {T : tT} {a : Nat} {xs : List Nat} (h : T.2 a = some xs) : tLs T a xs = T := by
  unfold tLs
  have : va_up T.2 a (some xs) = T.2 := by
    funext b
    unfold va_up
    by_cases e : b = a
    · rw [if_pos e, e, h]
    · rw [if_neg e]
  rw [this]
/-- sorted up to k, the first one apart -/
def sI (LS : Nat → Int) (fs xs : List Nat) (k : Nat) : Prop := (∀ a, a ∈ xs ↔ a ∈ fs) ∧ xs.length = fs.length ∧ xs.Nodup ∧ xs[0]? = fs[0]? ∧ ∀ (i i' a a' : Nat), 1 ≤ i → i < i' → i' < k → xs[i]? = some a → xs[i']? = some a' → LS a ≤ LS a'
theorem sI_go {LS : Nat → Int} {fs xs : List Nat} {k j f : Nat} (h : sI LS fs xs k) (hk : xs[k]? = some f) (hj : 1 ≤ j ∧ j ≤ k) (up : ∀ (i a : Nat), j ≤ i → i < k → xs[i]? = some a → LS f ≤ LS a) (lo : ∀ (i a : Nat), 1 ≤ i → i < j → xs[i]? = some a → LS a ≤ LS f) : sI LS fs (insL (delL xs k) j f) (k + 1) := by
  obtain ⟨h1, h2, h3, h4, h5⟩ := h
  have kl : k < xs.length := by
    rcases Nat.lt_or_ge k xs.length with w | w
    · exact w
    · rw [List.getElem?_eq_none w] at hk; cases hk
  have dl := delL_len kl
  have il := insL_len (xs := delL xs k) (i := j) (x := f) (by omega)
  have get : ∀ i : Nat, (insL (delL xs k) j f)[i]? = if i < j then xs[i]? else if i = j then some f else if i - 1 < k then xs[i - 1]? else xs[i]? := by
    intro i
    rw [insL_get (by omega)]
    by_cases c1 : i < j
    · rw [if_pos c1, if_pos c1, delL_get kl, if_pos (by omega)]
    · rw [if_neg c1, if_neg c1]
      by_cases c2 : i = j
      · rw [if_pos c2, if_pos c2]
      · rw [if_neg c2, if_neg c2, delL_get kl]
        by_cases c3 : i - 1 < k
        · rw [if_pos c3, if_pos c3]
        · rw [if_neg c3, if_neg c3, show i - 1 + 1 = i by omega]
  have fm : f ∈ xs := List.mem_of_getElem? hk
  have nd := List.pairwise_iff_getElem.mp h3
  have fd : f ∉ delL xs k := by
    intro q
    obtain ⟨i, hi, ei⟩ := List.getElem_of_mem q
    have e : (delL xs k)[i]? = some f := by rw [List.getElem?_eq_getElem hi, ei]
    rw [delL_get kl] at e
    have ek : xs[k] = f := by rw [List.getElem?_eq_getElem kl] at hk; exact Option.some.inj hk
    by_cases c : i < k
    · rw [if_pos c, List.getElem?_eq_getElem (by omega)] at e
      exact nd i k (by omega) kl c (by rw [Option.some.inj e, ek])
    · rw [if_neg c] at e
      have hi1 : i + 1 < xs.length := by omega
      rw [List.getElem?_eq_getElem hi1] at e
      exact nd k (i + 1) kl hi1 (by omega) (by rw [Option.some.inj e, ek])
  have mem : ∀ a, a ∈ insL (delL xs k) j f ↔ a ∈ xs := by
    intro a
    constructor
    · intro q
      rcases insL_mem q with e | q
      · rw [e]; exact fm
      · exact delL_mem q
    · intro q
      by_cases e : a = f
      · rw [e]; exact self_insL _ _ _
      · refine mem_insL ?_
        unfold delL
        rw [← List.take_append_drop k xs] at q
        rcases List.mem_append.mp q with q | q
        · exact List.mem_append_left _ q
        · refine List.mem_append_right _ ?_
          rw [List.drop_eq_getElem_cons kl] at q
          rcases List.mem_cons.mp q with q | q
          · exfalso
            apply e
            rw [q]
            rw [List.getElem?_eq_getElem kl] at hk
            exact Option.some.inj hk
          · exact q
  refine ⟨fun a => (mem a).trans (h1 a), by omega, ?_, ?_, ?_⟩
  · refine nodup_ins ?_ fd
    unfold delL
    have hs : (xs.take k ++ xs.drop k).Nodup := by rw [List.take_append_drop]; exact h3
    rw [List.nodup_append] at hs ⊢
    refine ⟨hs.1, ?_, fun a ha b hb => hs.2.2 a ha b ?_⟩
    · rw [List.drop_eq_getElem_cons kl, List.nodup_cons] at hs
      exact hs.2.1.2
    · rw [List.drop_eq_getElem_cons kl]; exact List.mem_cons_of_mem _ hb
  · rw [get 0, if_pos (by omega)]; exact h4
  · intro i i' a a' i1 ii ik e1 e2
    rw [get] at e1 e2
    by_cases c1 : i' < j
    · rw [if_pos c1] at e2
      rw [if_pos (show i < j by omega)] at e1
      exact h5 i i' a a' i1 ii (by omega) e1 e2
    · rw [if_neg c1] at e2
      by_cases c2 : i' = j
      · rw [if_pos c2] at e2
        rw [if_pos (show i < j by omega)] at e1
        have := Option.some.inj e2
        subst this
        exact lo i a i1 (by omega) e1
      · rw [if_neg c2, if_pos (show i' - 1 < k by omega)] at e2
        by_cases d1 : i < j
        · rw [if_pos d1] at e1
          exact h5 i (i' - 1) a a' i1 (by omega) (by omega) e1 e2
        · rw [if_neg d1] at e1
          by_cases d2 : i = j
          · rw [if_pos d2] at e1
            have := Option.some.inj e1
            subst this
            exact up (i' - 1) a' (by omega) (by omega) e2
          · rw [if_neg d2, if_pos (show i - 1 < k by omega)] at e1
            exact h5 (i - 1) (i' - 1) a a' (by omega) (by omega) (by omega) e1 e2
section SORT
variable {E : gV} {l : Launch} {T : tT} {S : mS} {d : Nat} {h : gH}
theorem ok_X1_sort (ht : zT E h T) (hz : zK E T S) {fs : List Nat} (hfs : T.2 (gBase E + 9) = some fs) {LS : Nat → Int} (hk : ∀ a, a ∈ fs → (T.1 a).1 = 7 ∧ (T.1 a).2.2 1 = vI (LS a) ∧ (0 ≤ LS a ∧ LS a ≤ 120)) (hlen : 1 ≤ fs.length ∧ fs.length ≤ 121) (nd : fs.Nodup) (hd : 9 ≤ d) :
    gOk E l gX1_sort d 121 19723 [.ref (gBase E)] h (gRu (fun h' => ∃ xs, zT E h' (tLs T (gBase E + 9) xs) ∧ sI LS fs xs fs.length)) := by
  refine gOk_of gmok_X1_sort rfl (Nat.le_of_ble_eq_true rfl) (L := [some _, none, none, none]) rfl ?_
  obtain ⟨Q, hQ⟩ : ∃ Q, Q = gRet (gRu (fun h' => ∃ xs, zT E h' (tLs T (gBase E + 9) xs) ∧ sI LS fs xs fs.length)) := ⟨_, rfl⟩
  rw [← hQ]
  have k2 : ∀ (m k : Nat), (k + m = fs.length ∨ (m = 0 ∧ fs.length ≤ k)) → 2 ≤ k ∧ k ≤ 121 → ∀ h xs uc us, zT E h (tLs T (gBase E + 9) xs) → sI LS fs xs k → uc ≤ k → us ≤ 163 * k → G E l gX1_sort d 121 19723 Q 2 [some (.ref (gBase E)), some (vI k), none, none] [] h uc us := by
    intro m
    induction m with
    | zero =>
      intro k hn hk2 h xs uc us ht si hu hv
      have ll := si.2.1
      have hz1 := zK_ls (a := gBase E + 9) (xs := xs) hz
      have hkk : fs.length ≤ k := by omega
      have end' : G E l gX1_sort d 121 19723 Q 76 [some (.ref (gBase E)), some (vI k), none, none] [] h uc us := by
        refine G_return (pc := 76) dX1_sort_76 rfl ?_ ?_ ?_
        · omega
        · omega
        · subst hQ
          refine ⟨_, rfl, rfl, xs, ht, si.1, si.2.1, si.2.2.1, si.2.2.2.1, fun i i' a a' i1 ii ik e1 e2 => si.2.2.2.2 i i' a a' i1 ii (by omega) e1 e2⟩
      refine G_iload_1 (pc := 2) dX1_sort_2 ?_
      refine G_aload_0 (pc := 3) dX1_sort_3 ?_
      refine G_tget (pc := 4) dX1_sort_4 rfl ht hz1.1 hz1.2.2.2.1.2.2 ?_
      refine G_lsize (pc := 7) dX1_sort_7 rfl ht (tLs_self _ _ _) (by omega) (by omega) (by omega) (Nat.le_of_ble_eq_true rfl) ?_
      refine G_icmp_ge (pc := 10) 76 dX1_sort_10 (by decide) (by omega) (by omega) (fun _ => end') (fun q => absurd q (by omega))
    | succ m ih =>
      intro k hn hk2 h xs uc us ht si hu hv
      have ll := si.2.1
      have hz1 := zK_ls (a := gBase E + 9) (xs := xs) hz
      have kl : k < xs.length := by omega
      obtain ⟨f, ef⟩ : ∃ f, f = xs[k] := ⟨_, rfl⟩
      have hget : xs[k]? = some f := by rw [ef]; exact List.getElem?_eq_getElem kl
      have fm := hk f ((si.1 f).mp (List.mem_of_getElem? hget))
      have dl := delL_len kl
      refine G_iload_1 (pc := 2) dX1_sort_2 ?_
      refine G_aload_0 (pc := 3) dX1_sort_3 ?_
      refine G_tget (pc := 4) dX1_sort_4 rfl ht hz1.1 hz1.2.2.2.1.2.2 ?_
      refine G_lsize (pc := 7) dX1_sort_7 rfl ht (tLs_self _ _ _) (by omega) (by omega) (by omega) (Nat.le_of_ble_eq_true rfl) ?_
      refine G_icmp_ge (pc := 10) 76 dX1_sort_10 (by decide) (by omega) (by omega) (fun q => absurd q (by omega)) (fun _ => ?_)
      refine G_aload_0 (pc := 13) dX1_sort_13 ?_
      refine G_tget (pc := 14) dX1_sort_14 rfl ht hz1.1 hz1.2.2.2.1.2.2 ?_
      refine G_iload_1 (pc := 17) dX1_sort_17 ?_
      refine G_ldel (pc := 18) dX1_sort_18 rfl ht (tLs_self _ _ _) hget (by omega) (by omega) (by omega) (Nat.le_of_ble_eq_true rfl) (fun h ht2 => ?_)
      rw [tLs_tLs] at ht2
      have hz2 := zK_ls (a := gBase E + 9) (xs := delL xs k) hz
      refine G_tcast (pc := 21) dX1_sort_21 rfl ht2 fm.1 ?_
      refine G_astore_2 (pc := 24) dX1_sort_24 (by decide) rfl ?_
      refine G_iload_1 (pc := 25) dX1_sort_25 ?_
      refine G_istore_3 (pc := 26) dX1_sort_26 (by decide) rfl ?_
      have k27 : ∀ (q j : Nat), j = 1 + q → j ≤ k → (∀ (i a : Nat), j ≤ i → i < k → xs[i]? = some a → LS f ≤ LS a) → G E l gX1_sort d 121 19723 Q 27 [some (.ref (gBase E)), some (vI k), some (.ref f), some (vI j)] [] h uc us := by
        intro q
        induction q with
        | zero =>
          intro j hj jk up
          have fin := sI_go si hget ⟨by omega, jk⟩ up (fun i a i1 ij => by omega)
          refine G_iload_3 (pc := 27) dX1_sort_27 ?_
          refine G_iconst (pc := 28) dX1_sort_28 ?_
          refine G_icmp_le (pc := 29) 61 dX1_sort_29 (by decide) (by omega) (by omega) (fun _ => ?_) (fun q => absurd q (by omega))
          refine G_aload_0 (pc := 61) dX1_sort_61 ?_
          refine G_tget (pc := 62) dX1_sort_62 rfl ht2 hz2.1 hz2.2.2.2.1.2.2 ?_
          refine G_iload_3 (pc := 65) dX1_sort_65 ?_
          refine G_aload_2 (pc := 66) dX1_sort_66 ?_
          have gb := gr_163 (show (delL xs k).length < 150 by omega)
          refine G_lins (pc := 67) dX1_sort_67 rfl ht2 (tLs_self _ _ _) (by show gFitA 33 (T.1 f).1 = true; rw [fm.1]; rfl) (by omega) (by omega) (by omega) (by omega) (by omega) (Nat.le_of_ble_eq_true rfl) (fun h ht3 => ?_)
          rw [tLs_tLs] at ht3
          refine G_iinc_1 (pc := 70) dX1_sort_70 (by decide) rfl ?_
          refine G_goto (pc := 73) 2 dX1_sort_73 (by decide) ?_
          refine G_drop_2 ?_
          refine G_drop_3 ?_
          rw [show ((k : Int) + 1) = ((k + 1 : Nat) : Int) by omega]
          exact ih (k + 1) (by omega) ⟨by omega, by omega⟩ h _ _ _ ht3 fin (by omega) (by omega)
        | succ q ihq =>
          intro j hj jk up
          have j1 : j - 1 < xs.length := by omega
          obtain ⟨b, eb⟩ : ∃ b, b = xs[j - 1] := ⟨_, rfl⟩
          have gb : xs[j - 1]? = some b := by rw [eb]; exact List.getElem?_eq_getElem j1
          have gd : (delL xs k)[j - 1]? = some b := by rw [delL_get kl, if_pos (by omega)]; exact gb
          have bm := hk b ((si.1 b).mp (List.mem_of_getElem? gb))
          refine G_iload_3 (pc := 27) dX1_sort_27 ?_
          refine G_iconst (pc := 28) dX1_sort_28 ?_
          refine G_icmp_le (pc := 29) 61 dX1_sort_29 (by decide) (by omega) (by omega) (fun q => absurd q (by omega)) (fun _ => ?_)
          refine G_aload_0 (pc := 32) dX1_sort_32 ?_
          refine G_tget (pc := 33) dX1_sort_33 rfl ht2 hz2.1 hz2.2.2.2.1.2.2 ?_
          refine G_iload_3 (pc := 36) dX1_sort_36 ?_
          refine G_iconst (pc := 37) dX1_sort_37 ?_
          refine G_isub (pc := 38) dX1_sort_38 ?_
          rw [show (j : Int) - 1 = ((j - 1 : Nat) : Int) by omega]
          refine G_lget (pc := 39) dX1_sort_39 rfl ht2 (tLs_self _ _ _) gd (by omega) (by omega) (by omega) (Nat.le_of_ble_eq_true rfl) ?_
          refine G_tcast (pc := 42) dX1_sort_42 rfl ht2 bm.1 ?_
          refine G_tget (pc := 45) dX1_sort_45 rfl ht2 bm.1 bm.2.1 ?_
          refine G_aload_2 (pc := 48) dX1_sort_48 ?_
          refine G_tget (pc := 49) dX1_sort_49 rfl ht2 fm.1 fm.2.1 ?_
          refine G_icmp_le (pc := 52) 61 dX1_sort_52 (by decide) (by omega) (by omega) (fun c52 => ?_) (fun c52 => ?_)
          · have fin := sI_go si hget ⟨by omega, jk⟩ up (fun i a i1 ij e => by
              by_cases c : i = j - 1
              · rw [c, gb] at e
                have := Option.some.inj e
                subst this
                exact c52
              · have := si.2.2.2.2 i (j - 1) a b i1 (by omega) (by omega) e gb
                omega)
            refine G_aload_0 (pc := 61) dX1_sort_61 ?_
            refine G_tget (pc := 62) dX1_sort_62 rfl ht2 hz2.1 hz2.2.2.2.1.2.2 ?_
            refine G_iload_3 (pc := 65) dX1_sort_65 ?_
            refine G_aload_2 (pc := 66) dX1_sort_66 ?_
            have gb := gr_163 (show (delL xs k).length < 150 by omega)
            refine G_lins (pc := 67) dX1_sort_67 rfl ht2 (tLs_self _ _ _) (by show gFitA 33 (T.1 f).1 = true; rw [fm.1]; rfl) (by omega) (by omega) (by omega) (by omega) (by omega) (Nat.le_of_ble_eq_true rfl) (fun h ht3 => ?_)
            rw [tLs_tLs] at ht3
            refine G_iinc_1 (pc := 70) dX1_sort_70 (by decide) rfl ?_
            refine G_goto (pc := 73) 2 dX1_sort_73 (by decide) ?_
            refine G_drop_2 ?_
            refine G_drop_3 ?_
            rw [show ((k : Int) + 1) = ((k + 1 : Nat) : Int) by omega]
            exact ih (k + 1) (by omega) ⟨by omega, by omega⟩ h _ _ _ ht3 fin (by omega) (by omega)
          · refine G_iinc_3 (pc := 55) dX1_sort_55 (by decide) rfl ?_
            refine G_goto (pc := 58) 27 dX1_sort_58 (by decide) ?_
            rw [show ((j : Int) + -1) = ((j - 1 : Nat) : Int) by omega]
            refine ihq (j - 1) (by omega) (by omega) (fun i a hi hik e => ?_)
            by_cases c : i = j - 1
            · rw [c, gb] at e
              have := Option.some.inj e
              subst this
              omega
            · exact up i a (by omega) hik e
      exact k27 (k - 1) k (by omega) (Nat.le_refl _) (fun i a hi hik => by omega)
  refine G_iconst (pc := 0) dX1_sort_0 ?_
  refine G_istore_1 (pc := 1) dX1_sort_1 (by decide) rfl ?_
  refine k2 (fs.length - 2) 2 (by omega) ⟨by omega, by omega⟩ h fs 0 0 (by rw [tLs_id hfs]; exact ht) ⟨fun _ => Iff.rfl, rfl, nd, rfl, fun i i' a a' i1 ii ik => by omega⟩ (by omega) (by omega)
end SORT
