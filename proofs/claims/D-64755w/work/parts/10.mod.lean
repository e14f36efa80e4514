set_option maxRecDepth 100000
/-! the reference's object: its numbers and arrays by the places of their fields -/
abbrev mS : Type := (Nat → Int) × (Nat → Nat → Int)
def mAd (f : Nat) : Nat := match f with
  | 1 => 13 | 2 => 14 | 3 => 15 | 5 => 16 | 6 => 17 | 9 => 18 | 10 => 19 | 11 => 20 | 13 => 21 | 14 => 22 | 15 => 23
  | _ => 0
def mLn (f : Nat) : Nat := match f with
  | 1 => 60 | 14 => 122 | 15 => 122
  | _ => 120
def mKd (f : Nat) : Nat := match f with
  | 1 => 30 | 11 => 32
  | _ => 31
def mIsA (f : Nat) : Bool := match f with
  | 1 => true | 2 => true | 3 => true | 5 => true | 6 => true | 9 => true | 10 => true | 11 => true | 13 => true | 14 => true | 15 => true
  | _ => false
def mIsS (f : Nat) : Bool := match f with
  | 0 => true | 4 => true | 7 => true | 8 => true | 12 => true
  | _ => false
def mVal (f : Nat) (x : Int) : Value := if f = 11 then vJ x else vI x
def mRg (f : Nat) (x : Int) : Prop := if f = 11 then (-9223372036854775808 ≤ x ∧ x ≤ 9223372036854775807) else if f = 1 ∨ f = 4 then (x = 0 ∨ x = 1) else (-2147483648 ≤ x ∧ x ≤ 2147483647)
def zMo (E : gV) (h : gH) (S : mS) : Prop := (h.2 (gBase E + 12)).1 = 2 ∧ (∀ f, mIsS f = true → (h.2 (gBase E + 12)).2.2 f = vI (S.1 f) ∧ mRg f (S.1 f)) ∧
  (∀ f, mIsA f = true → (h.2 (gBase E + 12)).2.2 f = .ref (gBase E + mAd f) ∧ (h.2 (gBase E + mAd f)).1 = mKd f ∧ (h.2 (gBase E + mAd f)).2.1 = mLn f ∧ ∀ i, i < mLn f → (h.2 (gBase E + mAd f)).2.2 i = mVal f (S.2 f i) ∧ mRg f (S.2 f i))
def gKeepM (E : gV) (h h' : gH) : Prop := h'.1 = h.1 ∧ ∀ a, (a < gBase E + 12 ∨ gBase E + 24 ≤ a) → h'.2 a = h.2 a
theorem gKeepM_rf (E : gV) (h : gH) : gKeepM E h h := ⟨rfl, fun _ _ => rfl⟩
theorem gKeepM_tr {E : gV} {h h' h'' : gH} (a : gKeepM E h h') (b : gKeepM E h' h'') : gKeepM E h h'' := ⟨b.1.trans a.1, fun x hx => (b.2 x hx).trans (a.2 x hx)⟩
def mU (S : mS) (f j : Nat) (x : Int) : mS := (S.1, fun g i => if g = f ∧ i = j then x else S.2 g i)
def mUs (S : mS) (f : Nat) (x : Int) : mS := (fun g => if g = f then x else S.1 g, S.2)
theorem mAd_lt {f : Nat} (h : mIsA f = true) : 13 ≤ mAd f ∧ mAd f < 24 := by
  unfold mIsA at h
  split at h <;> simp_all [mAd]
theorem mAd_inj {f g : Nat} (hf : mIsA f = true) (hg : mIsA g = true) (e : mAd f = mAd g) : f = g := by
  unfold mIsA at hf hg
  split at hf <;> split at hg <;> simp_all [mAd]
theorem gSet_self (h : gH) (a : Nat) (q : gE) : (gSet h a q).2 a = q := by simp [gSet, va_up]
theorem gSet_ne (h : gH) {a b : Nat} (q : gE) (e : b ≠ a) : (gSet h a q).2 b = h.2 b := by simp [gSet, va_up, e]
theorem gSet_sz (h : gH) (a : Nat) (q : gE) : (gSet h a q).1 = h.1 := rfl
theorem zMo_set {E : gV} {h : gH} {S : mS} (hm : zMo E h S) {f j : Nat} {x : Int} (ha : mIsA f = true) (hj : j < mLn f) (hx : mRg f x) : zMo E (gSet h (gBase E + mAd f) ((h.2 (gBase E + mAd f)).1, (h.2 (gBase E + mAd f)).2.1, updV (h.2 (gBase E + mAd f)).2.2 j (mVal f x))) (mU S f j x) := by
  obtain ⟨h1, h2, h3⟩ := hm
  have hf := mAd_lt ha
  refine ⟨?_, fun g hg => ?_, fun g hg => ?_⟩
  · rw [gSet_ne _ _ (by omega)]; exact h1
  · rw [gSet_ne _ _ (by omega)]; exact h2 g hg
  · rw [gSet_ne _ _ (show gBase E + 12 ≠ gBase E + mAd f by omega)]
    obtain ⟨k1, k2, k3, k4⟩ := h3 g hg
    by_cases e : g = f
    · subst e
      rw [gSet_self]
      refine ⟨k1, k2, k3, fun i hi => ?_⟩
      obtain ⟨a1, a2⟩ := k4 i hi
      simp only [mU, updV]
      by_cases q : i = j
      · subst q
        simp only [and_self, if_true]
        exact ⟨trivial, hx⟩
      · simp only [q, and_false, if_false]
        exact ⟨a1, a2⟩
    · rw [gSet_ne _ _ (fun q => e (mAd_inj hg ha (by omega)))]
      refine ⟨k1, k2, k3, fun i hi => ?_⟩
      simp only [mU, e, false_and, if_false]
      exact k4 i hi
theorem zMo_setS {E : gV} {h : gH} {S : mS} (hm : zMo E h S) {f : Nat} {x : Int} (hs : mIsS f = true) (hx : mRg f x) : zMo E (gSet h (gBase E + 12) ((h.2 (gBase E + 12)).1, (h.2 (gBase E + 12)).2.1, updV (h.2 (gBase E + 12)).2.2 f (vI x))) (mUs S f x) := by
  obtain ⟨h1, h2, h3⟩ := hm
  refine ⟨?_, fun g hg => ?_, fun g hg => ?_⟩
  · rw [gSet_self]; exact h1
  · rw [gSet_self]
    simp only [updV, mUs]
    by_cases e : g = f
    · subst e; simp only [if_true]; exact ⟨trivial, hx⟩
    · simp only [e, if_false]; exact h2 g hg
  · have hg' := mAd_lt hg
    rw [gSet_ne _ _ (show gBase E + mAd g ≠ gBase E + 12 by omega), gSet_self]
    obtain ⟨k1, k2, k3, k4⟩ := h3 g hg
    refine ⟨?_, k2, k3, k4⟩
    have e : g ≠ f := by
      intro e
      subst e
      unfold mIsA at hg
      split at hg <;> simp_all [mIsS]
    simp only [updV, e, if_false]
    exact k1
theorem gKeepM_set {E : gV} {h0 h : gH} {a : Nat} {q : gE} (hk : gKeepM E h0 h) (h1 : gBase E + 12 ≤ a) (h2 : a < gBase E + 24) : gKeepM E h0 (gSet h a q) := ⟨hk.1, fun x hx => by rw [gSet_ne _ _ (by omega)]; exact hk.2 x hx⟩
/-- a method that reads only: its answer -/
def gPu (E : gV) (l : Launch) (M : gM) (D : Nat) (av : List Value) (h : gH) (v : Value) : Prop := ∀ d, D ≤ d → gOk E l M d 0 0 av h (gRv (fun x h' => x = v ∧ h' = h))
/-- a method of the reference -/
def mOk (E : gV) (l : Launch) (M : gM) (D : Nat) (av : List Value) (S : mS) (Q : Option Value → mS → Prop) : Prop := ∀ h, zMo E h S → ∀ d, D ≤ d → gOk E l M d 0 0 av h (fun v h' => ∃ S', zMo E h' S' ∧ gKeepM E h h' ∧ Q v S')
section MROWS
variable {E : gV} {l : Launch} {M : gM} {d mc ms : Nat} {Q : Outcome → gH → Prop} {pc : Nat} {lv : gLs} {st : List Value} {h : gH} {uc us : Nat} {S : mS}
theorem mRg_i {f : Nat} {x : Int} (h1 : (f == 11) = false) (h2 : (f == 1) = false) (h3 : (f == 4) = false) : mRg f x ↔ (-2147483648 ≤ x ∧ x ≤ 2147483647) := by
  simp only [beq_eq_false_iff_ne] at h1 h2 h3
  unfold mRg
  rw [if_neg h1, if_neg (by omega)]
theorem mKd_31 {f : Nat} (h : mKd f = 31) : (f == 11) = false ∧ (f == 1) = false := by
  constructor <;> (rw [beq_eq_false_iff_ne]; intro e; subst e; exact absurd h (by decide))
theorem mIsA_4 {f : Nat} (h : mIsA f = true) : (f == 4) = false := by
  rw [beq_eq_false_iff_ne]; intro e; subst e; exact absurd h (by decide)
theorem mIsS_n {f : Nat} (h : mIsS f = true) : (f == 11) = false ∧ (f == 1) = false := by
  constructor <;> (rw [beq_eq_false_iff_ne]; intro e; subst e; exact absurd h (by decide))
theorem G_mget {k f : Nat} (hd : decode M.2.1 pc = .ok (.getfield k, 3)) (hf : gF M.2.2.2.2.1 k = some (1, f)) (hm : zMo E h S) (hs : mIsS f = true) (h4 : (f == 4) = false) (k : (-2147483648 ≤ S.1 f ∧ S.1 f ≤ 2147483647) → G E l M d mc ms Q (pc + 3) lv (vI (S.1 f) :: st) h uc us) : G E l M d mc ms Q pc lv (.ref (gBase E + 12) :: st) h uc us :=
  G_get hd hf hm.1 (hm.2.1 f hs).1 (k ((mRg_i (mIsS_n hs).1 (mIsS_n hs).2 h4).mp (hm.2.1 f hs).2))
theorem G_mgetB {k : Nat} (hd : decode M.2.1 pc = .ok (.getfield k, 3)) (hf : gF M.2.2.2.2.1 k = some (1, 4)) (hm : zMo E h S) (k : (S.1 4 = 0 ∨ S.1 4 = 1) → G E l M d mc ms Q (pc + 3) lv (vI (S.1 4) :: st) h uc us) : G E l M d mc ms Q pc lv (.ref (gBase E + 12) :: st) h uc us :=
  G_get hd hf hm.1 (hm.2.1 4 rfl).1 (k (by have := (hm.2.1 4 rfl).2; unfold mRg at this; simpa using this))
theorem G_mref {k f : Nat} (hd : decode M.2.1 pc = .ok (.getfield k, 3)) (hf : gF M.2.2.2.2.1 k = some (1, f)) (hm : zMo E h S) (hs : mIsA f = true) (k : G E l M d mc ms Q (pc + 3) lv (.ref (gBase E + mAd f) :: st) h uc us) : G E l M d mc ms Q pc lv (.ref (gBase E + 12) :: st) h uc us :=
  G_get hd hf hm.1 (hm.2.2 f hs).1 k
theorem mLn_b (f : Nat) : mLn f ≤ 122 := by unfold mLn; split <;> omega
theorem G_mi {f n : Nat} {j : Int} (hd : decode M.2.1 pc = .ok (.iaload, 1)) (hm : zMo E h S) (hs : mIsA f = true) (hkd : mKd f = 31) (hln : mLn f = n) (hj : 0 ≤ j ∧ j < (n : Int)) (k : (-2147483648 ≤ S.2 f j.toNat ∧ S.2 f j.toNat ≤ 2147483647) → G E l M d mc ms Q (pc + 1) lv (vI (S.2 f j.toNat) :: st) h uc us) : G E l M d mc ms Q pc lv (vI j :: .ref (gBase E + mAd f) :: st) h uc us := by
  subst hln
  obtain ⟨k1, k2, k3, k4⟩ := hm.2.2 f hs
  have hb := mLn_b f
  have k5 := k4 j.toNat (by omega)
  refine G_iald hd (by rw [k2, hkd]; simp) (by rw [k3]; exact hj) (by rw [k3]; omega) (k5.1.trans (if_neg fun e => by subst e; exact absurd hkd (by decide))) (k ((mRg_i (mKd_31 hkd).1 (mKd_31 hkd).2 (mIsA_4 hs)).mp k5.2))
theorem G_mb {j : Int} (hd : decode M.2.1 pc = .ok (.baload, 1)) (hm : zMo E h S) (hj : 0 ≤ j ∧ j < 60) (k : (S.2 1 j.toNat = 0 ∨ S.2 1 j.toNat = 1) → G E l M d mc ms Q (pc + 1) lv (vI (S.2 1 j.toNat) :: st) h uc us) : G E l M d mc ms Q pc lv (vI j :: .ref (gBase E + mAd 1) :: st) h uc us := by
  obtain ⟨k1, k2, k3, k4⟩ := hm.2.2 1 rfl
  have k5 := k4 j.toNat (by show _ < 60; omega)
  refine G_bald hd (by rw [k2]; simp [mKd]) (by rw [k3]; exact hj) (by rw [k3]; decide) k5.1 (k ?_)
  have := k5.2
  unfold mRg at this
  simpa using this
theorem G_ml {j : Int} (hd : decode M.2.1 pc = .ok (.laload, 1)) (hm : zMo E h S) (hj : 0 ≤ j ∧ j < 120) (k : (-9223372036854775808 ≤ S.2 11 j.toNat ∧ S.2 11 j.toNat ≤ 9223372036854775807) → G E l M d mc ms Q (pc + 1) lv (vJ (S.2 11 j.toNat) :: st) h uc us) : G E l M d mc ms Q pc lv (vI j :: .ref (gBase E + mAd 11) :: st) h uc us := by
  obtain ⟨k1, k2, k3, k4⟩ := hm.2.2 11 rfl
  have k5 := k4 j.toNat (by show _ < 120; omega)
  refine G_lald hd (by rw [k2]; simp [mKd]) (by rw [k3]; exact hj) (by rw [k3]; decide) k5.1 (k ?_)
  have := k5.2
  unfold mRg at this
  simpa using this
theorem G_mis {f n : Nat} {j x : Int} {h0 : gH} (hd : decode M.2.1 pc = .ok (.iastore, 1)) (hm : zMo E h S) (hk : gKeepM E h0 h) (hs : mIsA f = true) (hkd : mKd f = 31) (hln : mLn f = n) (hj : 0 ≤ j ∧ j < (n : Int)) (hx : -2147483648 ≤ x ∧ x ≤ 2147483647) (k : ∀ h, zMo E h (mU S f j.toNat x) → gKeepM E h0 h → G E l M d mc ms Q (pc + 1) lv st h uc us) : G E l M d mc ms Q pc lv (vI x :: vI j :: .ref (gBase E + mAd f) :: st) h uc us := by
  subst hln
  obtain ⟨k1, k2, k3, k4⟩ := hm.2.2 f hs
  have hb := mLn_b f
  have ha := mAd_lt hs
  have hf : f ≠ 11 := by intro e; subst e; exact absurd hkd (by decide)
  have hf1 : f ≠ 1 := by intro e; subst e; exact absurd hkd (by decide)
  have hf4 : f ≠ 4 := by intro e; subst e; exact absurd hs (by decide)
  refine G_iast hd (by rw [k2, hkd]) (by omega) (by rw [k3]; exact hj) (by rw [k3]; omega) ?_
  have := zMo_set hm hs (j := j.toNat) (x := x) (by omega) (by unfold mRg; rw [if_neg hf, if_neg (by omega)]; exact hx)
  rw [show mVal f x = vI x from if_neg hf] at this
  exact k _ this (gKeepM_set hk (by omega) (by omega))
theorem G_mbs {j x : Int} {h0 : gH} (hd : decode M.2.1 pc = .ok (.bastore, 1)) (hm : zMo E h S) (hk : gKeepM E h0 h) (hj : 0 ≤ j ∧ j < 60) (hx : x = 0 ∨ x = 1) (k : ∀ h, zMo E h (mU S 1 j.toNat x) → gKeepM E h0 h → G E l M d mc ms Q (pc + 1) lv st h uc us) : G E l M d mc ms Q pc lv (vI x :: vI j :: .ref (gBase E + mAd 1) :: st) h uc us := by
  obtain ⟨k1, k2, k3, k4⟩ := hm.2.2 1 rfl
  refine G_bast hd k2 (by omega) (by rw [k3]; exact hj) (by rw [k3]; decide) hx ?_
  have := zMo_set hm (f := 1) rfl (j := j.toNat) (x := x) (by show _ < 60; omega) (by unfold mRg; simpa using hx)
  exact k _ this (gKeepM_set hk (by simp [mAd]) (by simp [mAd]))
theorem G_mls {j x : Int} {h0 : gH} (hd : decode M.2.1 pc = .ok (.lastore, 1)) (hm : zMo E h S) (hk : gKeepM E h0 h) (hj : 0 ≤ j ∧ j < 120) (hx : -9223372036854775808 ≤ x ∧ x ≤ 9223372036854775807) (k : ∀ h, zMo E h (mU S 11 j.toNat x) → gKeepM E h0 h → G E l M d mc ms Q (pc + 1) lv st h uc us) : G E l M d mc ms Q pc lv (vJ x :: vI j :: .ref (gBase E + mAd 11) :: st) h uc us := by
  obtain ⟨k1, k2, k3, k4⟩ := hm.2.2 11 rfl
  refine G_last hd k2 (by omega) (by rw [k3]; exact hj) (by rw [k3]; decide) ?_
  have := zMo_set hm (f := 11) rfl (j := j.toNat) (x := x) (by show _ < 120; omega) (by unfold mRg; simpa using hx)
  exact k _ this (gKeepM_set hk (by simp [mAd]) (by simp [mAd]))
theorem G_mput {k f : Nat} {x : Int} {h0 : gH} (hd : decode M.2.1 pc = .ok (.putfield k, 3)) (hf : gF M.2.2.2.2.1 k = some (1, f)) (hm : zMo E h S) (hk : gKeepM E h0 h) (hs : mIsS f = true) (hx : mRg f x) (k : ∀ h, zMo E h (mUs S f x) → gKeepM E h0 h → G E l M d mc ms Q (pc + 3) lv st h uc us) : G E l M d mc ms Q pc lv (vI x :: .ref (gBase E + 12) :: st) h uc us := by
  have key : narrow (gTy 1 f) (vI x) = vI x ∧ fits (gTy 1 f) (vI x) = true ∧ (gT 1 f).2.2.2 = false := by
    unfold mIsS at hs
    split at hs
    · exact ⟨rfl, rfl, rfl⟩
    · have : x = 0 ∨ x = 1 := by unfold mRg at hx; simpa using hx
      rcases this with rfl | rfl <;> exact ⟨rfl, rfl, rfl⟩
    · exact ⟨rfl, rfl, rfl⟩
    · exact ⟨rfl, rfl, rfl⟩
    · exact ⟨rfl, rfl, rfl⟩
    · cases hs
  exact G_put hd hf hm.1 (by omega) key.1 key.2.1 key.2.2 (k _ (zMo_setS hm hs hx) (gKeepM_set hk (by omega) (by omega)))
theorem G_mputI {k f : Nat} {x : Int} {h0 : gH} (hd : decode M.2.1 pc = .ok (.putfield k, 3)) (hf : gF M.2.2.2.2.1 k = some (1, f)) (hm : zMo E h S) (hk : gKeepM E h0 h) (hs : mIsS f = true) (h4 : (f == 4) = false) (hx : -2147483648 ≤ x ∧ x ≤ 2147483647) (k : ∀ h, zMo E h (mUs S f x) → gKeepM E h0 h → G E l M d mc ms Q (pc + 3) lv st h uc us) : G E l M d mc ms Q pc lv (vI x :: .ref (gBase E + 12) :: st) h uc us :=
  G_mput hd hf hm hk hs ((mRg_i (mIsS_n hs).1 (mIsS_n hs).2 h4).mpr hx) k
theorem G_mputB {k : Nat} {x : Int} {h0 : gH} (hd : decode M.2.1 pc = .ok (.putfield k, 3)) (hf : gF M.2.2.2.2.1 k = some (1, 4)) (hm : zMo E h S) (hk : gKeepM E h0 h) (hx : x = 0 ∨ x = 1) (k : ∀ h, zMo E h (mUs S 4 x) → gKeepM E h0 h → G E l M d mc ms Q (pc + 3) lv st h uc us) : G E l M d mc ms Q pc lv (vI x :: .ref (gBase E + 12) :: st) h uc us :=
  G_mput hd hf hm hk rfl (by unfold mRg; simpa using hx) k
end MROWS
