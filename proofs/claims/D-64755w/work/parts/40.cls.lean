set_option maxRecDepth 100000
/-! the class' own object and arrays: its numbers by the places of their fields -/
def kAd (f : Nat) : Nat := match f with
  | 1 => 1 | 2 => 2 | 3 => 3 | 4 => 4 | 5 => 5 | 11 => 10
  | _ => 0
def kIsA (f : Nat) : Bool := match f with
  | 1 => true | 2 => true | 3 => true | 4 => true | 5 => true | 11 => true
  | _ => false
def kIsS (f : Nat) : Bool := match f with
  | 0 => true | 6 => true | 12 => true
  | _ => false
def kKd (f : Nat) : Nat := if f = 1 then 30 else 31
def kRg (f : Nat) (x : Int) : Prop := if f = 1 ∨ f = 6 then (x = 0 ∨ x = 1) else (-2147483648 ≤ x ∧ x ≤ 2147483647)
/-- lists and arrays of objects -/
def kO (E : gV) (T : tT) : Prop := ((T.1 (gBase E)).2.2 7 = .ref (gBase E + 6) ∧ (T.1 (gBase E)).2.2 9 = .ref (gBase E + 8) ∧ (T.1 (gBase E)).2.2 10 = .ref (gBase E + 9)) ∧ ((T.1 (gBase E)).2.2 8 = .ref (gBase E + 7) ∧ (T.1 (gBase E + 7)).1 = 34 ∧ (T.1 (gBase E + 7)).2.1 = 120) ∧ ((T.1 (gBase E)).2.2 13 = .ref (gBase E + 11) ∧ (T.1 (gBase E + 11)).1 = 35 ∧ (T.1 (gBase E + 11)).2.1 = 60)
def zK (E : gV) (T : tT) (S : mS) : Prop := (T.1 (gBase E)).1 = 1 ∧ (∀ f, kIsS f = true → (T.1 (gBase E)).2.2 f = vI (S.1 f) ∧ kRg f (S.1 f)) ∧
  (∀ f, kIsA f = true → (T.1 (gBase E)).2.2 f = .ref (gBase E + kAd f) ∧ (T.1 (gBase E + kAd f)).1 = kKd f ∧ (T.1 (gBase E + kAd f)).2.1 = 60 ∧ ∀ i, i < 60 → (T.1 (gBase E + kAd f)).2.2 i = vI (S.2 f i) ∧ kRg f (S.2 f i)) ∧ kO E T
theorem kAd_lt {f : Nat} (h : kIsA f = true) : 1 ≤ kAd f ∧ kAd f < 11 ∧ kAd f ≠ 7 := by
  unfold kIsA at h
  split at h <;> simp_all [kAd]
theorem kAd_inj {f g : Nat} (hf : kIsA f = true) (hg : kIsA g = true) (e : kAd f = kAd g) : f = g := by
  unfold kIsA at hf hg
  split at hf <;> split at hg <;> simp_all [kAd]
theorem kIsA_n {f : Nat} (h : kIsA f = true) : f ≠ 0 ∧ f ≠ 6 ∧ f ≠ 12 ∧ f ≠ 7 ∧ f ≠ 8 ∧ f ≠ 9 ∧ f ≠ 10 ∧ f ≠ 13 := by
  unfold kIsA at h
  split at h <;> simp_all
theorem kIsS_n {f : Nat} (h : kIsS f = true) : f = 0 ∨ f = 6 ∨ f = 12 := by
  unfold kIsS at h
  split at h <;> simp_all
theorem kKd_or (f : Nat) : kKd f = 30 ∨ kKd f = 31 := by unfold kKd; split <;> simp
/-- what is written elsewhere does not touch it -/
theorem zK_else {E : gV} {T : tT} {S : mS} (z : zK E T S) {a f : Nat} {v : Value} (ha : gBase E + 11 ≤ a ∨ a = gBase E + 7) : zK E (tSet T a f v) S := by
  obtain ⟨z1, z2, z3, z4⟩ := z
  have e0 : ∀ g, ((tSet T a f v).1 (gBase E)).2.2 g = (T.1 (gBase E)).2.2 g := fun g => by rw [tSet_v, if_neg (by omega)]
  refine ⟨by rw [tSet_k]; exact z1, fun g hg => by rw [e0]; exact z2 g hg, fun g hg => ?_, ?_⟩
  · obtain ⟨k1, k2, k3, k4⟩ := z3 g hg
    have hl := kAd_lt hg
    refine ⟨by rw [e0]; exact k1, by rw [tSet_k]; exact k2, by rw [tSet_n]; exact k3, fun i hi => ?_⟩
    rw [tSet_v, if_neg (by omega)]
    exact k4 i hi
  · unfold kO
    simp only [e0, tSet_k, tSet_n]
    exact z4
theorem zK_new {E : gV} {T : tT} {S : mS} (z : zK E T S) {a : Nat} {q : gE} (ha : (T.1 a).1 = 0) : zK E (tNew T a q) S := by
  obtain ⟨z1, z2, z3, z4⟩ := z
  have e0 : (tNew T a q).1 (gBase E) = T.1 (gBase E) := tNew_ne _ _ (fun e => by rw [← e, z1] at ha; omega)
  refine ⟨by rw [e0]; exact z1, fun g hg => by rw [e0]; exact z2 g hg, fun g hg => ?_, ?_⟩
  · obtain ⟨k1, k2, k3, k4⟩ := z3 g hg
    have hk := kKd_or g
    have e1 : (tNew T a q).1 (gBase E + kAd g) = T.1 (gBase E + kAd g) := tNew_ne _ _ (fun e => by rw [← e, k2] at ha; omega)
    rw [e0, e1]
    exact ⟨k1, k2, k3, k4⟩
  · obtain ⟨o1, o2, o3⟩ := z4
    have e7 : (tNew T a q).1 (gBase E + 7) = T.1 (gBase E + 7) := tNew_ne _ _ (fun e => by rw [← e, o2.2.1] at ha; omega)
    have e11 : (tNew T a q).1 (gBase E + 11) = T.1 (gBase E + 11) := tNew_ne _ _ (fun e => by rw [← e, o3.2.1] at ha; omega)
    unfold kO
    rw [e0, e7, e11]
    exact ⟨o1, o2, o3⟩
theorem zK_ls {E : gV} {T : tT} {S : mS} (z : zK E T S) {a : Nat} {xs : List Nat} : zK E (tLs T a xs) S := z
theorem zK_set {E : gV} {T : tT} {S : mS} (z : zK E T S) {f j : Nat} {x : Int} (hf : kIsA f = true) (hj : j < 60) (hx : kRg f x) : zK E (tSet T (gBase E + kAd f) j (vI x)) (mU S f j x) := by
  obtain ⟨z1, z2, z3, z4⟩ := z
  have hl := kAd_lt hf
  have e0 : ∀ g, ((tSet T (gBase E + kAd f) j (vI x)).1 (gBase E)).2.2 g = (T.1 (gBase E)).2.2 g := fun g => by rw [tSet_v, if_neg (by omega)]
  refine ⟨by rw [tSet_k]; exact z1, fun g hg => by rw [e0]; exact z2 g hg, fun g hg => ?_, ?_⟩
  · obtain ⟨k1, k2, k3, k4⟩ := z3 g hg
    refine ⟨by rw [e0]; exact k1, by rw [tSet_k]; exact k2, by rw [tSet_n]; exact k3, fun i hi => ?_⟩
    rw [tSet_v]
    by_cases e : g = f ∧ i = j
    · obtain ⟨rfl, rfl⟩ := e
      rw [if_pos ⟨rfl, rfl⟩]
      simp only [mU, and_self, if_true]
      exact ⟨trivial, hx⟩
    · rw [if_neg (fun q => e ⟨kAd_inj hg hf (by omega), q.2⟩)]
      simp only [mU, e, if_false]
      exact k4 i hi
  · unfold kO
    simp only [e0, tSet_k, tSet_n]
    exact z4
theorem zK_setS {E : gV} {T : tT} {S : mS} (z : zK E T S) {f : Nat} {x : Int} (hf : kIsS f = true) (hx : kRg f x) : zK E (tSet T (gBase E) f (vI x)) (mUs S f x) := by
  obtain ⟨z1, z2, z3, z4⟩ := z
  have hs := kIsS_n hf
  have e0 : ∀ g, g ≠ f → ((tSet T (gBase E) f (vI x)).1 (gBase E)).2.2 g = (T.1 (gBase E)).2.2 g := fun g hg => by rw [tSet_v, if_neg (by omega)]
  refine ⟨by rw [tSet_k]; exact z1, fun g hg => ?_, fun g hg => ?_, ?_⟩
  · rw [tSet_v]
    by_cases e : g = f
    · subst e
      rw [if_pos ⟨rfl, rfl⟩]
      simp only [mUs, if_true]
      exact ⟨trivial, hx⟩
    · rw [if_neg (by omega)]
      simp only [mUs, e, if_false]
      exact z2 g hg
  · obtain ⟨k1, k2, k3, k4⟩ := z3 g hg
    have hl := kAd_lt hg
    have hn := kIsA_n hg
    refine ⟨by rw [e0 g (by omega)]; exact k1, by rw [tSet_k]; exact k2, by rw [tSet_n]; exact k3, fun i hi => ?_⟩
    rw [tSet_v, if_neg (by omega)]
    exact k4 i hi
  · unfold kO
    rw [e0 7 (by omega), e0 8 (by omega), e0 9 (by omega), e0 10 (by omega), e0 13 (by omega)]
    simp only [tSet_k, tSet_n]
    exact z4
section KROWS
variable {E : gV} {l : Launch} {M : gM} {d mc ms : Nat} {Q : Outcome → gH → Prop} {pc : Nat} {lv : gLs} {st : List Value} {h : gH} {uc us : Nat} {T : tT} {S : mS}
theorem kRg_i {f : Nat} {x : Int} (h1 : (f == 1) = false) (h6 : (f == 6) = false) : kRg f x ↔ (-2147483648 ≤ x ∧ x ≤ 2147483647) := by
  simp only [beq_eq_false_iff_ne] at h1 h6
  unfold kRg
  rw [if_neg (by omega)]
theorem kRg_b {f : Nat} {x : Int} (h1 : f = 1 ∨ f = 6) : kRg f x ↔ (x = 0 ∨ x = 1) := by
  unfold kRg
  rw [if_pos h1]
theorem G_kget {k f : Nat} (hd : decode M.2.1 pc = .ok (.getfield k, 3)) (hf : gF M.2.2.2.2.1 k = some (0, f)) (t : zT E h T) (z : zK E T S) (hs : kIsS f = true) (h1 : (f == 1) = false) (h6 : (f == 6) = false) (k : (-2147483648 ≤ S.1 f ∧ S.1 f ≤ 2147483647) → G E l M d mc ms Q (pc + 3) lv (vI (S.1 f) :: st) h uc us) : G E l M d mc ms Q pc lv (.ref (gBase E) :: st) h uc us :=
  G_tget hd hf t z.1 (z.2.1 f hs).1 (k ((kRg_i h1 h6).mp (z.2.1 f hs).2))
theorem G_kgetB {k : Nat} (hd : decode M.2.1 pc = .ok (.getfield k, 3)) (hf : gF M.2.2.2.2.1 k = some (0, 6)) (t : zT E h T) (z : zK E T S) (k : (S.1 6 = 0 ∨ S.1 6 = 1) → G E l M d mc ms Q (pc + 3) lv (vI (S.1 6) :: st) h uc us) : G E l M d mc ms Q pc lv (.ref (gBase E) :: st) h uc us :=
  G_tget hd hf t z.1 (z.2.1 6 rfl).1 (k ((kRg_b (Or.inr rfl)).mp (z.2.1 6 rfl).2))
theorem G_kref {k f : Nat} (hd : decode M.2.1 pc = .ok (.getfield k, 3)) (hf : gF M.2.2.2.2.1 k = some (0, f)) (t : zT E h T) (z : zK E T S) (hs : kIsA f = true) (k : G E l M d mc ms Q (pc + 3) lv (.ref (gBase E + kAd f) :: st) h uc us) : G E l M d mc ms Q pc lv (.ref (gBase E) :: st) h uc us :=
  G_tget hd hf t z.1 (z.2.2.1 f hs).1 k
theorem G_ki {f : Nat} {j : Int} (hd : decode M.2.1 pc = .ok (.iaload, 1)) (t : zT E h T) (z : zK E T S) (hs : kIsA f = true) (h1 : (f == 1) = false) (hj : 0 ≤ j ∧ j < 60) (k : (-2147483648 ≤ S.2 f j.toNat ∧ S.2 f j.toNat ≤ 2147483647) → G E l M d mc ms Q (pc + 1) lv (vI (S.2 f j.toNat) :: st) h uc us) : G E l M d mc ms Q pc lv (vI j :: .ref (gBase E + kAd f) :: st) h uc us := by
  obtain ⟨k1, k2, k3, k4⟩ := z.2.2.1 f hs
  have k5 := k4 j.toNat (by omega)
  have hn := kIsA_n hs
  refine G_tiald hd t (Or.inl (by rw [k2]; unfold kKd; rw [if_neg (by simpa using h1)])) (by rw [k3]; omega) (by rw [k3]; omega) k5.1 (k ((kRg_i h1 (by simp; omega)).mp k5.2))
theorem G_kb {j : Int} (hd : decode M.2.1 pc = .ok (.baload, 1)) (t : zT E h T) (z : zK E T S) (hj : 0 ≤ j ∧ j < 60) (k : (S.2 1 j.toNat = 0 ∨ S.2 1 j.toNat = 1) → G E l M d mc ms Q (pc + 1) lv (vI (S.2 1 j.toNat) :: st) h uc us) : G E l M d mc ms Q pc lv (vI j :: .ref (gBase E + kAd 1) :: st) h uc us := by
  obtain ⟨k1, k2, k3, k4⟩ := z.2.2.1 1 rfl
  have k5 := k4 j.toNat (by omega)
  exact G_tbald hd t k2 (by rw [k3]; omega) (by rw [k3]; omega) k5.1 (k ((kRg_b (Or.inl rfl)).mp k5.2))
theorem G_kput {k f : Nat} {x : Int} (hd : decode M.2.1 pc = .ok (.putfield k, 3)) (hf : gF M.2.2.2.2.1 k = some (0, f)) (t : zT E h T) (z : zK E T S) (hs : f = 0 ∨ f = 12) (hx : -2147483648 ≤ x ∧ x ≤ 2147483647) (k : ∀ h, zT E h (tSet T (gBase E) f (vI x)) → zK E (tSet T (gBase E) f (vI x)) (mUs S f x) → G E l M d mc ms Q (pc + 3) lv st h uc us) : G E l M d mc ms Q pc lv (vI x :: .ref (gBase E) :: st) h uc us := by
  have hS : kIsS f = true := by rcases hs with e | e <;> subst e <;> rfl
  have hr : kRg f x := (kRg_i (by simp; omega) (by simp; omega)).mpr hx
  refine G_tput hd hf t z.1 (by omega) ?_ ?_ ?_ (fun h t => k h t (zK_setS z hS hr))
  · rcases hs with e | e <;> subst e <;> rfl
  · rcases hs with e | e <;> subst e <;> rfl
  · rcases hs with e | e <;> subst e <;> rfl
theorem G_kputB {k : Nat} {x : Int} (hd : decode M.2.1 pc = .ok (.putfield k, 3)) (hf : gF M.2.2.2.2.1 k = some (0, 6)) (t : zT E h T) (z : zK E T S) (hx : x = 0 ∨ x = 1) (k : ∀ h, zT E h (tSet T (gBase E) 6 (vI x)) → zK E (tSet T (gBase E) 6 (vI x)) (mUs S 6 x) → G E l M d mc ms Q (pc + 3) lv st h uc us) : G E l M d mc ms Q pc lv (vI x :: .ref (gBase E) :: st) h uc us := by
  refine G_tput hd hf t z.1 (by omega) ?_ ?_ rfl (fun h t => k h t (zK_setS z rfl ((kRg_b (Or.inr rfl)).mpr hx)))
  · rcases hx with e | e <;> subst e <;> rfl
  · rcases hx with e | e <;> subst e <;> rfl
theorem G_kis {f : Nat} {j x : Int} (hd : decode M.2.1 pc = .ok (.iastore, 1)) (t : zT E h T) (z : zK E T S) (hs : kIsA f = true) (h1 : (f == 1) = false) (hj : 0 ≤ j ∧ j < 60) (hx : -2147483648 ≤ x ∧ x ≤ 2147483647) (k : ∀ h, zT E h (tSet T (gBase E + kAd f) j.toNat (vI x)) → zK E (tSet T (gBase E + kAd f) j.toNat (vI x)) (mU S f j.toNat x) → G E l M d mc ms Q (pc + 1) lv st h uc us) : G E l M d mc ms Q pc lv (vI x :: vI j :: .ref (gBase E + kAd f) :: st) h uc us := by
  obtain ⟨k1, k2, k3, k4⟩ := z.2.2.1 f hs
  have hn := kIsA_n hs
  exact G_tiast hd t (by rw [k2]; unfold kKd; rw [if_neg (by simpa using h1)]) (by rw [k3]; omega) (by rw [k3]; omega) (fun h t => k h t (zK_set z hs (by omega) ((kRg_i h1 (by simp; omega)).mpr hx)))
theorem G_kbs {j x : Int} (hd : decode M.2.1 pc = .ok (.bastore, 1)) (t : zT E h T) (z : zK E T S) (hj : 0 ≤ j ∧ j < 60) (hx : x = 0 ∨ x = 1) (k : ∀ h, zT E h (tSet T (gBase E + kAd 1) j.toNat (vI x)) → zK E (tSet T (gBase E + kAd 1) j.toNat (vI x)) (mU S 1 j.toNat x) → G E l M d mc ms Q (pc + 1) lv st h uc us) : G E l M d mc ms Q pc lv (vI x :: vI j :: .ref (gBase E + kAd 1) :: st) h uc us := by
  obtain ⟨k1, k2, k3, k4⟩ := z.2.2.1 1 rfl
  exact G_tbast hd t k2 (by rw [k3]; omega) (by rw [k3]; omega) hx (fun h t => k h t (zK_set z rfl (by omega) ((kRg_b (Or.inl rfl)).mpr hx)))
theorem zK_k (t : zT E h T) (z : zK E T S) : (h.2 (gBase E)).1 = 1 := by rw [zT_at t z.1 (by omega)]; exact z.1
end KROWS
theorem sgI_sign (x : Int) : sgI x = x.sign := by
  unfold sgI
  rcases Int.lt_trichotomy x 0 with c | c | c
  · rw [if_pos c, Int.sign_eq_neg_one_of_neg c]
  · subst c; rfl
  · rw [if_neg (by omega), if_neg (by omega), Int.sign_eq_one_of_pos c]
theorem pu_signum {E : gV} {l : Launch} {h : gH} {x : Int} (hx : -9223372036854775808 < x ∧ x ≤ 9223372036854775807) : gPu E l gJ8_signum 1 [vJ x] h (vI x.sign) := by
  rw [← sgI_sign]
  exact pu_J8_signum hx
