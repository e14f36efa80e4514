set_option maxRecDepth 100000
theorem qr_of {S : mS} {q : Nat} (lt : kX S q < kX S (zB q)) : qr S (q / 2) = q := by
  have h : ∀ s, q = 2 * s ∨ q = 2 * s + 1 → qr S s = q := by
    intro s hs
    have kx := kX_2n S s
    unfold qr
    rcases hs with e | e
    · subst e
      rw [(zB_2n s).1, kx.1.1, kx.2.1] at lt
      rw [if_pos (by omega)]
      rfl
    · subst e
      rw [(zB_2n s).2, kx.1.1, kx.2.1] at lt
      rw [if_neg (by omega)]
  exact h (q / 2) (by omega)
theorem kbf_up {u v : Int} : kbf u v 0 1 ↔ (0 < u ∧ 0 ≤ v) := by
  unfold kbf kup
  rw [Int.mul_one, Int.mul_zero]
  omega
theorem hB_is {E : gV} {T : tT} {S : mS} {HA ND : Nat → Nat} {ns : List Nat} {NX NY : Nat → Int} {LA : Nat → Nat} {LN : Nat → List Nat} (K : zOK (kPl S)) (j : jG E S T HA ND ns NX NY LA LN) {x y : Int} (by' : -16000 ≤ y ∧ y ≤ 16000) {r : Option Nat} (hb : hB S HA ns NX NY LN x y r)
    (nu : ∀ k, kLv S k → kX S k = x → kY S k < y → kX S (zB k) = x → ¬ y ≤ kY S (zB k)) :
    (r = none ∧ ∀ c, zCirc (kPl S) c → (∀ g, kLv S g → c g ≠ 0 → ¬ zOn (kPl S) g x y) → zAR (kPl S) c (40000 * x + y) (y : Rat) = 0) ∨
    ∃ z, r = some (HA z) ∧ kLv S z ∧ (∃ g', zSame (kPl S) z g' ∧ zX (kPl S) g' < 40000 * x + y) ∧ ∀ c, zCirc (kPl S) c → (∀ g, kLv S g → c g ≠ 0 → ¬ zOn (kPl S) g x y) → zW (kPl S) c z = zAR (kPl S) c (40000 * x + y) (y : Rat) := by
  have g := kGd_of K
  obtain ⟨q, nb, hb⟩ := hb
  have ks := ksb_spec (S := S) x y 60
  have lv2 : ∀ {k : Nat}, kLv S k → k / 2 < 60 ∧ S.2 1 (k / 2) = 1 := fun {k} L => ⟨by have := L.1; omega, L.2⟩
  have qL : ∀ s, s < 60 → S.2 1 s = 1 → kLv S (qr S s) := fun s hs ls => ⟨by unfold qr; split <;> omega, by rw [qr_h]; exact ls⟩
  have nx1 : ∀ k, kLv S k → ND k ∈ ns ∧ NX (ND k) = kX S k ∧ NY (ND k) = kY S k := fun k L => by have := j.2.1 k L; exact ⟨this.2.1, this.2.2.2.1, this.2.2.2.2⟩
  have offc : ∀ {c : Nat → Rat}, (∀ g, kLv S g → c g ≠ 0 → ¬ zOn (kPl S) g x y) → ∀ g, mLv (cV S) g → c g ≠ 0 → ¬ zOn (mP (cV S)) g x y := fun h g G => h g (cV_L.mp G)
  rcases hb with ⟨n, z, e1, e2, e3, e4⟩ | ⟨e1, e2⟩
  · right
    -- by a node
    rcases nb with ⟨w, _⟩ | ⟨n', w1, w2, w3, w4, w5⟩
    · rw [w] at e1; cases e1
    rw [w1] at e1
    have := Option.some.inj e1
    subst this
    have jq := j.2.2.1 n' w2
    obtain ⟨f, hf⟩ := jq.1
    have fm := jq.2.1 f hf
    have nf := nx1 f fm.1
    rw [fm.2] at nf
    have fx : kX S f = x := by rw [← nf.2.1]; exact w3
    have fy : kY S f = NY n' := nf.2.2.symm
    have zm : z ∈ (LN n').map HA := by
      rcases e3 with ⟨k, h1, _⟩ | ⟨_, h1⟩ <;> exact List.mem_of_getElem? h1
    obtain ⟨w, hw, ew⟩ := List.mem_map.mp zm
    have wm := jq.2.1 w hw
    have inj := jG_inj j
    have sw := jG_sp j wm.1 fm.1 (by rw [wm.2, fm.2])
    have atm : ∀ k, atP (cV S) f k → kLv S k ∧ ∃ a : Nat, (LN n')[a]? = some k := by
      intro k h
      have Lk := cV_L.mp h.1
      have e := jG_nd j Lk fm.1 ⟨h.2.1, h.2.2⟩
      have := (j.2.1 k Lk).2.2.1
      rw [e, fm.2] at this
      obtain ⟨a, ha, ea⟩ := List.getElem_of_mem this
      exact ⟨Lk, a, by rw [List.getElem?_eq_getElem ha, ea]⟩
    have kU' : ∀ k, kLv S k → kU S HA (HA k) = kdx S k ∧ kV S HA (HA k) = kdy S k := fun k L => by unfold kU kV; rw [hInv_is inj L]; exact ⟨rfl, rfl⟩
    have lt : ∀ {a b u v : Nat}, (LN n')[a]? = some u → (LN n')[b]? = some v → kKb S u v → a < b := by
      intro a b u v h1 h2 hk
      have Lx := (jq.2.1 u (List.mem_of_getElem? h1)).1
      have Ly := (jq.2.1 v (List.mem_of_getElem? h2)).1
      rcases Nat.lt_trichotomy a b with w | w | w
      · exact w
      · subst w
        rw [h1] at h2
        have := Option.some.inj h2
        subst this
        exact absurd hk (kKb_irr S _)
      · exact absurd hk (kKb_as g Ly Lx (srt_lt jq.2.2.1 h2 h1 w))
    have bu : bfUp (cV S) f w := by
      refine ⟨⟨cV_L.mpr wm.1, sw.1, sw.2⟩, ?_⟩
      rcases e3 with ⟨k, h1, h2, h3⟩ | ⟨h1, h2⟩
      · left
        rw [← ew, (kU' w wm.1).1, (kU' w wm.1).2, kbf_up] at h2
        refine ⟨h2.1, h2.2, fun i hi dx' dy' kb => ?_⟩
        obtain ⟨Li, a, ha⟩ := atm i hi
        rw [List.getElem?_map] at h1
        have hwk : (LN n')[k]? = some w := by
          cases hh : (LN n')[k]? with
          | none => rw [hh] at h1; cases h1
          | some w' =>
            rw [hh, ← ew] at h1
            have e : HA w' = HA w := Option.some.inj h1
            rw [inj w' w (jq.2.1 w' (List.mem_of_getElem? hh)).1 wm.1 e]
        have l := lt hwk ha kb
        refine h3 a (HA i) l (by rw [List.getElem?_map, ha]; rfl) ?_
        rw [(kU' i Li).1, (kU' i Li).2, kbf_up]
        exact ⟨dx', dy'⟩
      · right
        refine ⟨fun i hi dd => ?_, fun i hi kb => ?_⟩
        · obtain ⟨Li, a, ha⟩ := atm i hi
          refine h1 a (HA i) (by rw [List.getElem?_map, ha]; rfl) ?_
          rw [(kU' i Li).1, (kU' i Li).2, kbf_up]
          exact dd
        · obtain ⟨Li, a, ha⟩ := atm i hi
          rw [List.getElem?_map, List.length_map] at h2
          have hwk : (LN n')[(LN n').length - 1]? = some w := by
            cases hh : (LN n')[(LN n').length - 1]? with
            | none => rw [hh] at h2; cases h2
            | some w' =>
              rw [hh, ← ew] at h2
              have e : HA w' = HA w := Option.some.inj h2
              rw [inj w' w (jq.2.1 w' (List.mem_of_getElem? hh)).1 wm.1 e]
          have l := lt hwk ha kb
          have : a < (LN n').length := by
            rcases Nat.lt_or_ge a (LN n').length with q | q
            · exact q
            · rw [List.getElem?_eq_none q] at ha; cases ha
          omega
    have hi : ∀ k, kLv S k → kX S k = x → kY S k < y → kY S k ≤ kY S f := by
      intro k L kx ky
      have nk := nx1 k L
      obtain ⟨a, ha, ea⟩ := List.getElem_of_mem nk.1
      have := w5 a (ND k) ha (by rw [List.getElem?_eq_getElem ha, ea]) (by rw [nk.2.1]; exact kx) (by rw [nk.2.2]; exact ky)
      rw [nk.2.2] at this
      omega
    refine ⟨w, by rw [e4, ew], wm.1, ⟨w, zSame_rf _ _, ?_⟩, fun c C off => ?_⟩
    · show 40000 * kX S w + kY S w < 40000 * x + y
      have h1 : kX S w = kX S f := sw.1
      have h2 : kY S w = kY S f := sw.2
      omega
    · refine b_node (S := cV S) K C by' (offc off) (f := f) (cV_L.mpr fm.1) fx (by show kY S f < y; omega) (fun h L kx ky => hi h (cV_L.mp L) kx ky) (fun u U u1 u2 u3 => ?_) (fun i hI dd => ?_) bu
      · have Lu := cV_L.mp U
        have u1 : kX S u < x := u1
        have u2 : x < kX S (zB u) := u2
        have eq := qr_of (S := S) (q := u) (by omega)
        have l2 := lv2 Lu
        have ou : kov S (u / 2) x := kov_q.mpr (by rw [eq]; exact ⟨u1, u2⟩)
        have au : kab S (u / 2) x y := kab_q.mpr (by rw [eq]; exact u3)
        rcases ks with ⟨k1, k2⟩ | ⟨s, k1, k2, k3, k4, k5, k6⟩
        · exact absurd au (k2 _ l2.1 l2.2 ou)
        · rcases e2 with e2 | e2
          · omega
          · rw [k2, Int.toNat_natCast, w3, ← fy] at e2
            have e2 := kab_q.mp e2
            have hle := k6 (u / 2) l2.1 l2.2 ou au
            rw [eq] at hle
            have kq := kov_q.mp k4
            have a1 := (zh_ab (S := cV S) (g := qr S s) (x := x) (by show kX S (qr S s) < kX S (zB (qr S s)); omega) (kY S f)).1
            have a2 := (zh_ab (S := cV S) (g := u) (x := x) (by show kX S u < kX S (zB u); omega) (kY S f)).1
            have b1 := a1.mp e2
            exact a2.mpr (by grind)
      · have Li := cV_L.mp hI.1
        have i1 : kX S i = kX S f := hI.2.1
        have i2 : kY S i = kY S f := hI.2.2
        have d1 : kX S (zB i) - kX S i = 0 := dd.1
        have d2 : 0 < kY S (zB i) - kY S i := dd.2
        by_cases c : y ≤ kY S (zB i)
        · exact nu i Li (by omega) (by omega) (by omega) c
        · have := hi (zB i) (kLv_B Li) (by omega) (by omega)
          omega
  · -- by a segment, or nothing
    have noN : q = none → ∀ k, kLv S k → kX S k = x → ¬ kY S k < y := by
      intro eq k L kx ky
      rcases nb with ⟨_, w⟩ | ⟨n, w, _⟩
      · have nk := nx1 k L
        obtain ⟨a, ha, ea⟩ := List.getElem_of_mem nk.1
        exact w a (ND k) ha (by rw [List.getElem?_eq_getElem ha, ea]) ⟨by rw [nk.2.1]; exact kx, by rw [nk.2.2]; exact ky⟩
      · rw [eq] at w; cases w
    rcases e2 with ⟨e2, e3⟩ | ⟨e2, e3⟩
    · left
      refine ⟨e3, fun c C off => ?_⟩
      have qn : q = none := by
        cases q with
        | none => rfl
        | some n => have := (e1 n rfl).1; omega
      refine b_none (S := cV S) K C by' (offc off) (fun u U u1 u2 u3 => ?_) (fun h L kx ky => noN qn h (cV_L.mp L) kx ky)
      have Lu := cV_L.mp U
      have u1 : kX S u < x := u1
      have u2 : x < kX S (zB u) := u2
      have eq := qr_of (S := S) (q := u) (by omega)
      have l2 := lv2 Lu
      have ou : kov S (u / 2) x := kov_q.mpr (by rw [eq]; exact ⟨u1, u2⟩)
      have au : kab S (u / 2) x y := kab_q.mpr (by rw [eq]; exact u3)
      rcases ks with ⟨k1, k2⟩ | ⟨s, k1, k2, _⟩
      · exact k2 _ l2.1 l2.2 ou au
      · omega
    · right
      rcases ks with ⟨k1, _⟩ | ⟨s, k1, k2, k3, k4, k5, k6⟩
      · omega
      have kq := kov_q.mp k4
      have Ls := qL s k1 k3
      have aq := kab_q.mp k5
      refine ⟨qr S s, by rw [e3, k2]; rfl, Ls, ⟨qr S s, zSame_rf _ _, ?_⟩, fun c C off => ?_⟩
      · have b := kX_b g Ls
        show 40000 * kX S (qr S s) + kY S (qr S s) < 40000 * x + y
        omega
      · refine b_seg (S := cV S) K C by' (offc off) (s := qr S s) (cV_L.mpr Ls) kq.1 kq.2 aq (fun u U u1 u2 u3 => ?_) (fun h L kx ky ab => ?_)
        · have Lu := cV_L.mp U
          have u1 : kX S u < x := u1
          have u2 : x < kX S (zB u) := u2
          have eq := qr_of (S := S) (q := u) (by omega)
          have l2 := lv2 Lu
          have ou : kov S (u / 2) x := kov_q.mpr (by rw [eq]; exact ⟨u1, u2⟩)
          have au : kab S (u / 2) x y := kab_q.mpr (by rw [eq]; exact u3)
          have := k6 (u / 2) l2.1 l2.2 ou au
          rw [eq] at this
          exact this
        · have Lh := cV_L.mp L
          have kx : kX S h = x := kx
          have ky : kY S h < y := ky
          cases hq : q with
          | none => exact noN hq h Lh kx ky
          | some n =>
            have e1n := (e1 n hq).2
            rcases nb with ⟨w, _⟩ | ⟨n', w1, w2, w3, w4, w5⟩
            · rw [hq] at w; cases w
            rw [hq] at w1
            have := Option.some.inj w1
            subst this
            have nk := nx1 h Lh
            obtain ⟨a, ha, ea⟩ := List.getElem_of_mem nk.1
            have le := w5 a (ND h) ha (by rw [List.getElem?_eq_getElem ha, ea]) (by rw [nk.2.1]; exact kx) (by rw [nk.2.2]; exact ky)
            rw [nk.2.2] at le
            rw [k2, Int.toNat_natCast, kab_q, w3] at e1n
            have a1 := (zh_ab (S := cV S) (g := qr S s) (x := x) (by show kX S (qr S s) < kX S (zB (qr S s)); omega) (NY n)).1
            have a2 := (zh_ab (S := cV S) (g := qr S s) (x := x) (by show kX S (qr S s) < kX S (zB (qr S s)); omega) (kY S h)).1
            have b1 := a2.mp ab
            have le' := zRat_le.mpr le
            exact e1n (a1.mpr (by grind))
