set_option maxRecDepth 100000
/-- half a's direction -/
def hD (T : tT) (a : Nat) (u v : Int) : Prop := ∃ x y x2 y2, hC T a x y x2 y2 ∧ u = x2 - x ∧ v = y2 - y ∧ (-32000 ≤ x2 - x ∧ x2 - x ≤ 32000) ∧ (-32000 ≤ y2 - y ∧ y2 - y ≤ 32000)
section NODE
variable {E : gV} {l : Launch} {h : gH} {T : tT}
theorem hD_k (t : zT E h T) {a : Nat} {u v : Int} (c : hD T a u v) : (h.2 a).1 = 3 := by
  obtain ⟨x, y, x2, y2, c, -⟩ := c
  exact hC_k t c
theorem hD_3 {a : Nat} {u v : Int} (c : hD T a u v) : (T.1 a).1 = 3 := by
  obtain ⟨x, y, x2, y2, c, -⟩ := c
  exact c.1
theorem hD_b {a : Nat} {u v : Int} (c : hD T a u v) : (-32000 ≤ u ∧ u ≤ 32000) ∧ (-32000 ≤ v ∧ v ≤ 32000) := by
  obtain ⟨x, y, x2, y2, -, rfl, rfl, b⟩ := c
  exact b
theorem pu_dx (ht : zT E h T) {a : Nat} {u v : Int} (c : hD T a u v) : gPu E l gX3_dx 1 [.ref a] h (vI u) := by
  obtain ⟨x, y, x2, y2, c, rfl, rfl, -⟩ := c
  exact pu_X3_dx ht c
theorem pu_dy (ht : zT E h T) {a : Nat} {u v : Int} (c : hD T a u v) : gPu E l gX3_dy 1 [.ref a] h (vI v) := by
  obtain ⟨x, y, x2, y2, c, rfl, rfl, -⟩ := c
  exact pu_X3_dy ht c
theorem pu_bef (ht : zT E h T) {a : Nat} {u v u2 v2 : Int} (c : hD T a u v) (b3 : -32000 ≤ u2 ∧ u2 ≤ 32000) (b4 : -32000 ≤ v2 ∧ v2 ≤ 32000) : gPu E l gX3_isBefore 2 [.ref a, vI u2, vI v2] h (vI (bI (kbf u v u2 v2))) := by
  obtain ⟨x, y, x2, y2, c, rfl, rfl, b1, b2⟩ := c
  exact pu_X3_isBefore ht c b1 b2 b3 b4
/-- put: behind all that come before, up to the first that does not -/
def putP (U V : Nat → Int) (u v : Int) (xs : List Nat) (k : Nat) : Prop := k ≤ xs.length ∧ (∀ j y, j < k → xs[j]? = some y → kbf (U y) (V y) u v) ∧ (∀ y, xs[k]? = some y → ¬ kbf (U y) (V y) u v)
theorem ok_X4_put (ht : zT E h T) {a b x : Nat} {xs : List Nat} (ha : (T.1 a).1 = 4) (hl : (T.1 a).2.2 2 = .ref b) (hls : T.2 b = some xs) {U V : Nat → Int} (hU : ∀ y, y ∈ xs → hD T y (U y) (V y)) {u v : Int} (hx : hD T x u v) (hlen : xs.length < 150) {d : Nat} (hd : 8 ≤ d) :
    gOk E l gX4_put d 1 (gr xs.length) [.ref a, .ref x] h (gRu (fun h' => ∃ k, putP U V u v xs k ∧ zT E h' (tLs T b (insL xs k x)))) := by
  refine gOk_of gmok_X4_put rfl (Nat.le_of_ble_eq_true rfl) (L := [some _, some _, none]) rfl ?_
  obtain ⟨Q, hQ⟩ : ∃ Q, Q = gRet (gRu (fun h' => ∃ k, putP U V u v xs k ∧ zT E h' (tLs T b (insL xs k x)))) := ⟨_, rfl⟩
  rw [← hQ]
  have hxb := hD_b hx
  have k44 : ∀ k, putP U V u v xs k → G E l gX4_put d 1 (gr xs.length) Q 44 [some (.ref a), some (.ref x), some (vI k)] [] h 0 0 := by
    intro k hk
    refine G_aload_0 (pc := 44) dX4_put_44 ?_
    refine G_tget (pc := 45) dX4_put_45 rfl ht ha hl ?_
    refine G_iload_2 (pc := 48) dX4_put_48 ?_
    refine G_aload_1 (pc := 49) dX4_put_49 ?_
    refine G_lins (pc := 50) dX4_put_50 rfl ht hls (by rw [hD_3 hx]; rfl) hk.1 hlen (by omega) (by omega) (by omega) (Nat.le_of_ble_eq_true rfl) (fun h ht => ?_)
    refine G_return (pc := 53) dX4_put_53 rfl (by omega) (by omega) ?_
    subst hQ
    exact ⟨_, rfl, rfl, k, hk, ht⟩
  have k2 : ∀ (n k : Nat), k + n = xs.length → (∀ j y, j < k → xs[j]? = some y → kbf (U y) (V y) u v) → G E l gX4_put d 1 (gr xs.length) Q 2 [some (.ref a), some (.ref x), some (vI k)] [] h 0 0 := by
    intro n
    induction n with
    | zero =>
      intro k hn hv
      refine G_iload_2 (pc := 2) dX4_put_2 ?_
      refine G_aload_0 (pc := 3) dX4_put_3 ?_
      refine G_tget (pc := 4) dX4_put_4 rfl ht ha hl ?_
      refine G_lsize (pc := 7) dX4_put_7 rfl ht hls (by omega) (by omega) (by omega) (Nat.le_of_ble_eq_true rfl) ?_
      refine G_icmp_ge (pc := 10) 44 dX4_put_10 (by decide) (by omega) (by omega) (fun _ => ?_) (fun q => absurd q (by omega))
      exact k44 k ⟨by omega, hv, fun y hy => by rw [List.getElem?_eq_none (by omega)] at hy; cases hy⟩
    | succ n ih =>
      intro k hn hv
      have hget : xs[k]? = some xs[k] := List.getElem?_eq_getElem (by omega)
      have hm : xs[k] ∈ xs := List.getElem_mem _
      obtain ⟨y, ey⟩ : ∃ y, y = xs[k] := ⟨_, rfl⟩
      rw [← ey] at hget hm
      have hy := hU y hm
      refine G_iload_2 (pc := 2) dX4_put_2 ?_
      refine G_aload_0 (pc := 3) dX4_put_3 ?_
      refine G_tget (pc := 4) dX4_put_4 rfl ht ha hl ?_
      refine G_lsize (pc := 7) dX4_put_7 rfl ht hls (by omega) (by omega) (by omega) (Nat.le_of_ble_eq_true rfl) ?_
      refine G_icmp_ge (pc := 10) 44 dX4_put_10 (by decide) (by omega) (by omega) (fun q => absurd q (by omega)) (fun _ => ?_)
      refine G_aload_0 (pc := 13) dX4_put_13 ?_
      refine G_tget (pc := 14) dX4_put_14 rfl ht ha hl ?_
      refine G_iload_2 (pc := 17) dX4_put_17 ?_
      refine G_lget (pc := 18) dX4_put_18 rfl ht hls hget (by omega) (by omega) (by omega) (Nat.le_of_ble_eq_true rfl) ?_
      refine G_tcast (pc := 21) dX4_put_21 rfl ht (hD_3 hy) ?_
      refine G_aload_1 (pc := 24) dX4_put_24 ?_
      refine G_pV0 (pc := 25) dX4_put_25 rfl (hD_k ht hx) (by decide) rfl (pu_dx ht hx) (by omega) (by omega) (by omega) (Nat.le_of_ble_eq_true rfl) ?_
      refine G_aload_1 (pc := 28) dX4_put_28 ?_
      refine G_pV0 (pc := 29) dX4_put_29 rfl (hD_k ht hx) (by decide) rfl (pu_dy ht hx) (by omega) (by omega) (by omega) (Nat.le_of_ble_eq_true rfl) ?_
      refine G_pV2 (pc := 32) dX4_put_32 rfl (hD_k ht hy) (by decide) rfl (pu_bef ht hy hxb.1 hxb.2) (by omega) (by omega) (by omega) (Nat.le_of_ble_eq_true rfl) ?_
      refine G_ifb_eq (pc := 35) 44 dX4_put_35 (by decide) (fun c => ?_) (fun c => ?_)
      · exact k44 k ⟨by omega, hv, fun z hz => by rw [hget] at hz; cases hz; exact c⟩
      · refine G_iinc_2 (pc := 38) dX4_put_38 (by decide) rfl ?_
        refine G_goto (pc := 41) 2 dX4_put_41 (by decide) ?_
        rw [show ((k : Int) + 1) = ((k + 1 : Nat) : Int) by omega]
        refine ih (k + 1) (by omega) (fun j z hj hz => ?_)
        by_cases e : j = k
        · subst e; rw [hget] at hz; cases hz; exact c
        · exact hv j z (by omega) hz
  refine G_iconst (pc := 0) dX4_put_0 ?_
  refine G_istore_2 (pc := 1) dX4_put_1 (by decide) rfl ?_
  exact k2 xs.length 0 (by omega) (fun j y hj => absurd hj (by omega))
/-- the last before a direction, to the left round -/
def befP (U V : Nat → Int) (u v : Int) (xs : List Nat) (r : Nat) : Prop := (∃ k : Nat, xs[k]? = some r ∧ kbf (U r) (V r) u v ∧ ∀ (j : Nat) (y : Nat), k < j → xs[j]? = some y → ¬ kbf (U y) (V y) u v) ∨ ((∀ (j : Nat) (y : Nat), xs[j]? = some y → ¬ kbf (U y) (V y) u v) ∧ xs[xs.length - 1]? = some r)
theorem ok_X4_before (ht : zT E h T) {a b : Nat} {xs : List Nat} (ha : (T.1 a).1 = 4) (hl : (T.1 a).2.2 2 = .ref b) (hls : T.2 b = some xs) {U V : Nat → Int} (hU : ∀ y, y ∈ xs → hD T y (U y) (V y)) {u v : Int} (hu : -32000 ≤ u ∧ u ≤ 32000) (hv : -32000 ≤ v ∧ v ≤ 32000) (hlen : 0 < xs.length ∧ xs.length < 150) {d : Nat} (hd : 4 ≤ d) :
    gOk E l gX4_before d 0 0 [.ref a, vI u, vI v] h (gRv (fun z h' => h' = h ∧ ∃ r, z = .ref r ∧ befP U V u v xs r)) := by
  refine gOk_of gmok_X4_before rfl (Nat.le_of_ble_eq_true rfl) (L := [some _, some _, some _, none]) rfl ?_
  obtain ⟨Q, hQ⟩ : ∃ Q, Q = gRet (gRv (fun z h' => h' = h ∧ ∃ r, z = .ref r ∧ befP U V u v xs r)) := ⟨_, rfl⟩
  rw [← hQ]
  have k39 : ∀ k, k < xs.length → (∀ j y, k < j → xs[j]? = some y → ¬ kbf (U y) (V y) u v) → (k = 0 ∨ ∀ y, xs[k]? = some y → kbf (U y) (V y) u v) → G E l gX4_before d 0 0 Q 39 [some (.ref a), some (vI u), some (vI v), some (vI k)] [] h 0 0 := by
    intro k hk hgt hor
    have hget : xs[k]? = some xs[k] := List.getElem?_eq_getElem (by omega)
    have hm : xs[k] ∈ xs := List.getElem_mem _
    obtain ⟨y, ey⟩ : ∃ y, y = xs[k] := ⟨_, rfl⟩
    rw [← ey] at hget hm
    have hy := hU y hm
    refine G_aload_0 (pc := 39) dX4_before_39 ?_
    refine G_tget (pc := 40) dX4_before_40 rfl ht ha hl ?_
    refine G_iload_3 (pc := 43) dX4_before_43 ?_
    refine G_lget (pc := 44) dX4_before_44 rfl ht hls hget (by omega) (by omega) (by omega) (Nat.le_of_ble_eq_true rfl) ?_
    refine G_tcast (pc := 47) dX4_before_47 rfl ht (hD_3 hy) ?_
    refine G_iload_1 (pc := 50) dX4_before_50 ?_
    refine G_iload_2 (pc := 51) dX4_before_51 ?_
    refine G_pV2 (pc := 52) dX4_before_52 rfl (hD_k ht hy) (by decide) rfl (pu_bef ht hy hu hv) (by omega) (by omega) (by omega) (Nat.le_of_ble_eq_true rfl) ?_
    refine G_ifb_eq (pc := 55) 72 dX4_before_55 (by decide) (fun c => ?_) (fun c => ?_)
    · have hlast : xs[xs.length - 1]? = some xs[xs.length - 1] := List.getElem?_eq_getElem (by omega)
      have hml : xs[xs.length - 1] ∈ xs := List.getElem_mem _
      obtain ⟨z, ez⟩ : ∃ z, z = xs[xs.length - 1] := ⟨_, rfl⟩
      rw [← ez] at hlast hml
      refine G_aload_0 (pc := 72) dX4_before_72 ?_
      refine G_tget (pc := 73) dX4_before_73 rfl ht ha hl ?_
      refine G_aload_0 (pc := 76) dX4_before_76 ?_
      refine G_tget (pc := 77) dX4_before_77 rfl ht ha hl ?_
      refine G_lsize (pc := 80) dX4_before_80 rfl ht hls (by omega) (by omega) (by omega) (Nat.le_of_ble_eq_true rfl) ?_
      refine G_iconst (pc := 83) dX4_before_83 ?_
      refine G_isub (pc := 84) dX4_before_84 ?_
      rw [show ((xs.length : Nat) : Int) - 1 = ((xs.length - 1 : Nat) : Int) by omega]
      refine G_lget (pc := 85) dX4_before_85 rfl ht hls hlast (by omega) (by omega) (by omega) (Nat.le_of_ble_eq_true rfl) ?_
      refine G_tcast (pc := 88) dX4_before_88 rfl ht (hD_3 (hU z hml)) ?_
      refine G_areturn (pc := 91) dX4_before_91 rfl (Or.inl ⟨_, rfl⟩) (Or.inr ⟨_, rfl⟩) (by omega) (by omega) ?_
      subst hQ
      refine ⟨_, rfl, _, rfl, rfl, z, rfl, Or.inr ⟨fun j y' hj => ?_, hlast⟩⟩
      rcases hor with e | e
      · subst e
        by_cases ej : j = 0
        · subst ej; rw [hget] at hj; cases hj; exact c
        · exact hgt j y' (by omega) hj
      · exact absurd (e y hget) c
    · refine G_aload_0 (pc := 58) dX4_before_58 ?_
      refine G_tget (pc := 59) dX4_before_59 rfl ht ha hl ?_
      refine G_iload_3 (pc := 62) dX4_before_62 ?_
      refine G_lget (pc := 63) dX4_before_63 rfl ht hls hget (by omega) (by omega) (by omega) (Nat.le_of_ble_eq_true rfl) ?_
      refine G_tcast (pc := 66) dX4_before_66 rfl ht (hD_3 hy) ?_
      refine G_goto (pc := 69) 91 dX4_before_69 (by decide) ?_
      refine G_areturn (pc := 91) dX4_before_91 rfl (Or.inl ⟨_, rfl⟩) (Or.inr ⟨_, rfl⟩) (by omega) (by omega) ?_
      subst hQ
      exact ⟨_, rfl, _, rfl, rfl, y, rfl, Or.inl ⟨k, hget, c, hgt⟩⟩
  have k10 : ∀ (k : Nat), k < xs.length → (∀ j y, k < j → xs[j]? = some y → ¬ kbf (U y) (V y) u v) → G E l gX4_before d 0 0 Q 10 [some (.ref a), some (vI u), some (vI v), some (vI k)] [] h 0 0 := by
    intro k
    induction k with
    | zero =>
      intro hk hgt
      refine G_iload_3 (pc := 10) dX4_before_10 ?_
      refine G_if_le (pc := 11) 39 dX4_before_11 (by decide) (by omega) (fun _ => ?_) (fun q => absurd q (by omega))
      exact k39 0 hk hgt (Or.inl rfl)
    | succ k ih =>
      intro hk hgt
      have hget : xs[k + 1]? = some xs[k + 1] := List.getElem?_eq_getElem (by omega)
      have hm : xs[k + 1] ∈ xs := List.getElem_mem _
      obtain ⟨y, ey⟩ : ∃ y, y = xs[k + 1] := ⟨_, rfl⟩
      rw [← ey] at hget hm
      have hy := hU y hm
      refine G_iload_3 (pc := 10) dX4_before_10 ?_
      refine G_if_le (pc := 11) 39 dX4_before_11 (by decide) (by omega) (fun q => absurd q (by omega)) (fun _ => ?_)
      refine G_aload_0 (pc := 14) dX4_before_14 ?_
      refine G_tget (pc := 15) dX4_before_15 rfl ht ha hl ?_
      refine G_iload_3 (pc := 18) dX4_before_18 ?_
      refine G_lget (pc := 19) dX4_before_19 rfl ht hls hget (by omega) (by omega) (by omega) (Nat.le_of_ble_eq_true rfl) ?_
      refine G_tcast (pc := 22) dX4_before_22 rfl ht (hD_3 hy) ?_
      refine G_iload_1 (pc := 25) dX4_before_25 ?_
      refine G_iload_2 (pc := 26) dX4_before_26 ?_
      refine G_pV2 (pc := 27) dX4_before_27 rfl (hD_k ht hy) (by decide) rfl (pu_bef ht hy hu hv) (by omega) (by omega) (by omega) (Nat.le_of_ble_eq_true rfl) ?_
      refine G_ifb_ne (pc := 30) 39 dX4_before_30 (by decide) (fun c => ?_) (fun c => ?_)
      · exact k39 (k + 1) hk hgt (Or.inr (fun z hz => by rw [hget] at hz; cases hz; exact c))
      · refine G_iinc_3 (pc := 33) dX4_before_33 (by decide) rfl ?_
        refine G_goto (pc := 36) 10 dX4_before_36 (by decide) ?_
        rw [show (((k + 1 : Nat) : Int) + -1) = (k : Int) by omega]
        refine ih (by omega) (fun j z hj hz => ?_)
        by_cases e : j = k + 1
        · subst e; rw [hget] at hz; cases hz; exact c
        · exact hgt j z (by omega) hz
  refine G_aload_0 (pc := 0) dX4_before_0 ?_
  refine G_tget (pc := 1) dX4_before_1 rfl ht ha hl ?_
  refine G_lsize (pc := 4) dX4_before_4 rfl ht hls (by omega) (by omega) (by omega) (Nat.le_of_ble_eq_true rfl) ?_
  refine G_iconst (pc := 7) dX4_before_7 ?_
  refine G_isub (pc := 8) dX4_before_8 ?_
  rw [show ((xs.length : Nat) : Int) - 1 = ((xs.length - 1 : Nat) : Int) by omega]
  refine G_istore_3 (pc := 9) dX4_before_9 (by decide) rfl ?_
  exact k10 (xs.length - 1) (by omega) (fun j y hj hy => by rw [List.getElem?_eq_none (by omega)] at hy; cases hy)
end NODE
