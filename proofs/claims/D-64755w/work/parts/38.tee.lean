set_option maxRecDepth 100000
/-! the class' heap, seen through: T.1 the objects and arrays that are seen, T.2 the lists' elements -/
abbrev tT : Type := (Nat → gE) × (Nat → Option (List Nat))
def zT (E : gV) (h : gH) (T : tT) : Prop := gBase E ≤ h.1 ∧ (gEm E < gBase E ∧ (h.2 (gEm E)).1 = 33 ∧ (h.2 (gEm E)).2.1 = 0) ∧ (∀ a, (T.1 a).1 ≠ 0 → h.2 a = T.1 a ∧ a < h.1 ∧ ((T.1 a).1 = 36 ∨ gBase E ≤ a) ∧ (T.1 a).1 ≠ 33 ∧ (T.1 a).1 ≠ 8) ∧
  ∃ ow, ∀ a xs, T.2 a = some xs → (∃ e cap, lR E ow h a xs e cap) ∧ ∀ x ∈ xs, (T.1 x).1 ≠ 0
def tSet (T : tT) (a f : Nat) (v : Value) : tT := (va_up T.1 a ((T.1 a).1, (T.1 a).2.1, updV (T.1 a).2.2 f v), T.2)
def tNew (T : tT) (a : Nat) (q : gE) : tT := (va_up T.1 a q, T.2)
def tLs (T : tT) (a : Nat) (xs : List Nat) : tT := (T.1, va_up T.2 a (some xs))
theorem tSet_k (T : tT) (a f : Nat) (v : Value) (b : Nat) : ((tSet T a f v).1 b).1 = (T.1 b).1 := by
  unfold tSet va_up; simp only []; by_cases e : b = a
  · rw [if_pos e, e]
  · rw [if_neg e]
theorem tSet_n (T : tT) (a f : Nat) (v : Value) (b : Nat) : ((tSet T a f v).1 b).2.1 = (T.1 b).2.1 := by
  unfold tSet va_up; simp only []; by_cases e : b = a
  · rw [if_pos e, e]
  · rw [if_neg e]
theorem tSet_v (T : tT) (a f : Nat) (v : Value) (b g : Nat) : ((tSet T a f v).1 b).2.2 g = if b = a ∧ g = f then v else (T.1 b).2.2 g := by
  unfold tSet va_up updV; simp only []; by_cases e : b = a
  · subst e; rw [if_pos rfl]; simp only [true_and]
  · rw [if_neg e, if_neg (fun q => e q.1)]
theorem tSet_l (T : tT) (a f : Nat) (v : Value) : (tSet T a f v).2 = T.2 := rfl
theorem tNew_ne (T : tT) {a b : Nat} (q : gE) (e : b ≠ a) : (tNew T a q).1 b = T.1 b := by unfold tNew va_up; simp [e]
theorem tNew_self (T : tT) (a : Nat) (q : gE) : (tNew T a q).1 a = q := by unfold tNew va_up; simp
theorem tLs_self (T : tT) (a : Nat) (xs : List Nat) : (tLs T a xs).2 a = some xs := by unfold tLs va_up; simp
theorem tLs_ne (T : tT) {a b : Nat} (xs : List Nat) (e : b ≠ a) : (tLs T a xs).2 b = T.2 b := by unfold tLs va_up; simp [e]
section TEE
variable {E : gV} {h : gH} {T : tT}
theorem zT_at (t : zT E h T) {a k : Nat} (hk : (T.1 a).1 = k) (h0 : k ≠ 0) : h.2 a = T.1 a := (t.2.2.1 a (by rw [hk]; exact h0)).1
theorem zT_lt (t : zT E h T) {a : Nat} (hk : (T.1 a).1 ≠ 0) : a < h.1 := (t.2.2.1 a hk).2.1
theorem zT_base (t : zT E h T) {a k : Nat} (hk : (T.1 a).1 = k) (h0 : k ≠ 0) (h36 : k ≠ 36) : gBase E ≤ a := (t.2.2.1 a (by rw [hk]; exact h0)).2.2.1.resolve_left (by rw [hk]; exact h36)
theorem zT_ls (t : zT E h T) {a : Nat} {xs : List Nat} (hl : T.2 a = some xs) : ∃ ow e cap, lR E ow h a xs e cap := by
  obtain ⟨ow, ho⟩ := t.2.2.2
  obtain ⟨⟨e, cap, r⟩, -⟩ := ho a xs hl
  exact ⟨ow, e, cap, r⟩
theorem zT_k8 (t : zT E h T) {a : Nat} {xs : List Nat} (hl : T.2 a = some xs) : (h.2 a).1 = 8 := by
  obtain ⟨ow, e, cap, r⟩ := zT_ls t hl
  exact r.1.1
theorem zT_vis (t : zT E h T) {a : Nat} {xs : List Nat} (hl : T.2 a = some xs) : (T.1 a).1 = 0 := by
  have h8 := zT_k8 t hl
  by_cases c : (T.1 a).1 = 0
  · exact c
  · have q := t.2.2.1 a c
    rw [q.1] at h8
    exact absurd h8 q.2.2.2.2
theorem zT_els (t : zT E h T) {a : Nat} {xs : List Nat} (hl : T.2 a = some xs) : ∀ x ∈ xs, (T.1 x).1 ≠ 0 := by
  obtain ⟨ow, ho⟩ := t.2.2.2
  exact (ho a xs hl).2
theorem lR_else {ow : Nat → Nat} {a b : Nat} {xs : List Nat} {e cap n : Nat} {g : Nat → Value} (r : lR E ow h b xs e cap) (h8 : (h.2 a).1 ≠ 8) (h33 : (h.2 a).1 ≠ 33) : lR E ow (gSet h a ((h.2 a).1, n, g)) b xs e cap := by
  have hb : b ≠ a := fun q => by subst q; exact h8 r.1.1
  have he : e ≠ a := fun q => by subst q; exact h33 r.2.2.2.2.1.1
  obtain ⟨⟨r1, r2, r3⟩, r4, r5, r6, ⟨r7, r8⟩, r9, r10, r11, r12⟩ := r
  refine ⟨⟨by rw [gSet_ne _ _ hb]; exact r1, r2, r3⟩, by rw [gSet_ne _ _ hb]; exact r4, by rw [gSet_ne _ _ hb]; exact r5, by rw [gSet_ne _ _ hb]; exact r6, ⟨by rw [gSet_ne _ _ he]; exact r7, by rw [gSet_ne _ _ he]; exact r8⟩, r9, r10, fun i x hi => by rw [gSet_ne _ _ he]; exact r11 i x hi, fun x hx => ?_⟩
  have := r12 x hx
  refine ⟨this.1, ?_⟩
  by_cases q : x = a
  · subst q; rw [gSet_self]; exact this.2
  · rw [gSet_ne _ _ q]; exact this.2
theorem lR_push {ow : Nat → Nat} {b : Nat} {xs : List Nat} {e cap : Nat} {q : gE} (hB : gBase E ≤ h.1) (r : lR E ow h b xs e cap) : lR E ow (gPush h q) b xs e cap := by
  obtain ⟨⟨r1, r2, r3⟩, r4, r5, r6, ⟨r7, r8⟩, r9, r10, r11, r12⟩ := r
  have hb : b ≠ h.1 := by omega
  have he : e ≠ h.1 := by rcases r9 with q | q <;> omega
  refine ⟨⟨by rw [gPush_ne _ _ hb]; exact r1, r2, by rw [gPush_sz]; omega⟩, by rw [gPush_ne _ _ hb]; exact r4, by rw [gPush_ne _ _ hb]; exact r5, by rw [gPush_ne _ _ hb]; exact r6, ⟨by rw [gPush_ne _ _ he]; exact r7, by rw [gPush_ne _ _ he]; exact r8⟩, ?_, r10, fun i x hi => by rw [gPush_ne _ _ he]; exact r11 i x hi, fun x hx => ?_⟩
  · rcases r9 with q | q
    · exact Or.inl q
    · exact Or.inr ⟨q.1, by rw [gPush_sz]; omega, q.2.2⟩
  · have := r12 x hx
    rw [gPush_sz, gPush_ne _ _ (by omega)]
    exact ⟨by omega, this.2⟩
theorem zT_set (t : zT E h T) {a k : Nat} (hk : (T.1 a).1 = k) (h0 : k ≠ 0) (h36 : k ≠ 36) (f : Nat) (v : Value) : zT E (gSet h a ((h.2 a).1, (h.2 a).2.1, updV (h.2 a).2.2 f v)) (tSet T a f v) := by
  have hv := t.2.2.1 a (by rw [hk]; exact h0)
  have hb := zT_base t hk h0 h36
  obtain ⟨ow, ho⟩ := t.2.2.2
  have hne : gEm E ≠ a := by have := t.2.1.1; omega
  refine ⟨t.1, ⟨t.2.1.1, by rw [gSet_ne _ _ hne]; exact t.2.1.2.1, by rw [gSet_ne _ _ hne]; exact t.2.1.2.2⟩, fun b hb' => ?_, ow, fun b xs hl => ?_⟩
  · rw [tSet_k] at hb' ⊢
    obtain ⟨v1, v2⟩ := t.2.2.1 b hb'
    refine ⟨?_, v2⟩
    by_cases e : b = a
    · subst e
      rw [gSet_self, v1]
      show _ = (tSet T b f v).1 b
      unfold tSet va_up
      simp
    · rw [gSet_ne _ _ e, v1]
      show T.1 b = (va_up T.1 a _) b
      unfold va_up
      simp [e]
  · obtain ⟨⟨e, cap, r⟩, r2⟩ := ho b xs hl
    exact ⟨⟨e, cap, lR_else r (by rw [hv.1]; exact hv.2.2.2.2) (by rw [hv.1]; exact hv.2.2.2.1)⟩, fun x hx => by rw [tSet_k]; exact r2 x hx⟩
theorem zT_fresh (t : zT E h T) : (T.1 h.1).1 = 0 ∧ T.2 h.1 = none := by
  refine ⟨?_, ?_⟩
  · by_cases c : (T.1 h.1).1 = 0
    · exact c
    · have := zT_lt t c; omega
  · cases e : T.2 h.1 with
    | none => rfl
    | some xs => obtain ⟨ow, e, cap, r⟩ := zT_ls t e; have := r.1.2.2; omega
theorem zT_push (t : zT E h T) {q : gE} (h0 : q.1 ≠ 0) (h8 : q.1 ≠ 8) (h33 : q.1 ≠ 33) : zT E (gPush h q) (tNew T h.1 q) := by
  have hf := zT_fresh t
  obtain ⟨ow, ho⟩ := t.2.2.2
  have hne : gEm E ≠ h.1 := by have := t.2.1.1; have := t.1; omega
  refine ⟨by rw [gPush_sz]; have := t.1; omega, ⟨t.2.1.1, by rw [gPush_ne _ _ hne]; exact t.2.1.2.1, by rw [gPush_ne _ _ hne]; exact t.2.1.2.2⟩, fun b hb' => ?_, ow, fun b xs hl => ?_⟩
  · by_cases e : b = h.1
    · subst e
      rw [tNew_self, gPush_self, gPush_sz]
      exact ⟨rfl, by omega, Or.inr t.1, h33, h8⟩
    · rw [tNew_ne _ _ e] at hb' ⊢
      rw [gPush_ne _ _ e, gPush_sz]
      obtain ⟨v1, v2, v3⟩ := t.2.2.1 b hb'
      exact ⟨v1, by omega, v3⟩
  · obtain ⟨⟨e, cap, r⟩, r2⟩ := ho b xs hl
    refine ⟨⟨e, cap, lR_push t.1 r⟩, fun x hx => ?_⟩
    have := r2 x hx
    have hx2 := zT_lt t this
    rw [tNew_ne _ _ (by omega)]
    exact this
/-- a push that is not seen -/
theorem zT_pushL (t : zT E h T) (q : gE) : zT E (gPush h q) T := by
  have hf := zT_fresh t
  obtain ⟨ow, ho⟩ := t.2.2.2
  have hne : gEm E ≠ h.1 := by have := t.2.1.1; have := t.1; omega
  refine ⟨by rw [gPush_sz]; have := t.1; omega, ⟨t.2.1.1, by rw [gPush_ne _ _ hne]; exact t.2.1.2.1, by rw [gPush_ne _ _ hne]; exact t.2.1.2.2⟩, fun b hb' => ?_, ow, fun b xs hl => ?_⟩
  · obtain ⟨v1, v2, v3⟩ := t.2.2.1 b hb'
    rw [gPush_ne _ _ (by omega), gPush_sz]
    exact ⟨v1, by omega, v3⟩
  · obtain ⟨⟨e, cap, r⟩, r2⟩ := ho b xs hl
    exact ⟨⟨e, cap, lR_push t.1 r⟩, r2⟩
theorem zT_ad {ow : Nat → Nat} (hB : gBase E ≤ h.1) (hE : gEm E < gBase E ∧ (h.2 (gEm E)).1 = 33 ∧ (h.2 (gEm E)).2.1 = 0) (tv : ∀ a, (T.1 a).1 ≠ 0 → h.2 a = T.1 a ∧ a < h.1 ∧ ((T.1 a).1 = 36 ∨ gBase E ≤ a) ∧ (T.1 a).1 ≠ 33 ∧ (T.1 a).1 ≠ 8) (ho : ∀ a xs, T.2 a = some xs → (∃ e cap, lR E ow h a xs e cap) ∧ ∀ x ∈ xs, (T.1 x).1 ≠ 0)
    {a : Nat} {ys : List Nat} {h' : gH} (ha : (h.2 a).1 = 8 ∧ gBase E ≤ a) (q : adQ E ow h a ys h') (hy : ∀ y ∈ ys, (T.1 y).1 ≠ 0) : zT E h' (tLs T a ys) := by
  obtain ⟨ow', e', cap', q1, q2, q3⟩ := q
  have fe : h'.2 (gEm E) = h.2 (gEm E) := q2.2 _ (by omega) (by omega) (fun z => by omega)
  refine ⟨Nat.le_trans hB q2.1, ⟨hE.1, by rw [fe]; exact hE.2.1, by rw [fe]; exact hE.2.2⟩, fun b hb' => ?_, ow', fun b xs hl => ?_⟩
  · obtain ⟨v1, v2, v3, v4, v5⟩ := tv b hb'
    have hba : b ≠ a := fun z => by subst z; rw [v1] at ha; exact v5 ha.1
    exact ⟨(q2.2 b v2 hba (fun z => v4 (by rw [← v1]; exact z.2.1))).trans v1, Nat.lt_of_lt_of_le v2 q2.1, v3, v4, v5⟩
  · by_cases e : b = a
    · subst e
      rw [tLs_self] at hl
      cases hl
      exact ⟨⟨e', cap', q1⟩, hy⟩
    · rw [tLs_ne _ _ e] at hl
      obtain ⟨⟨e1, cap1, r⟩, r2⟩ := ho b xs hl
      refine ⟨⟨e1, cap1, ?_⟩, r2⟩
      obtain ⟨⟨r1, r2, r3⟩, r4, r5, r6, ⟨r7, r8⟩, r9, r10, r11, r12⟩ := r
      have fb : h'.2 b = h.2 b := q2.2 b r3 e (fun z => by rw [r1] at z; exact absurd z.2.1 (by decide))
      have hea : e1 ≠ a := fun z => by subst z; rw [r7] at ha; exact absurd ha.1 (by decide)
      have fe1 : h'.2 e1 = h.2 e1 := by
        rcases r9 with z | z
        · rw [z.1]; exact fe
        · exact q2.2 e1 z.2.1 hea (fun w => e (by rw [← z.2.2.1]; exact w.2.2))
      refine ⟨⟨by rw [fb]; exact r1, r2, Nat.lt_of_lt_of_le r3 q2.1⟩, by rw [fb]; exact r4, by rw [fb]; exact r5, by rw [fb]; exact r6, ⟨by rw [fe1]; exact r7, by rw [fe1]; exact r8⟩, ?_, r10, fun i x hi => by rw [fe1]; exact r11 i x hi, fun x hx => ?_⟩
      · rcases r9 with z | z
        · exact Or.inl z
        · exact Or.inr ⟨z.1, Nat.lt_of_lt_of_le z.2.1 q2.1, by rw [q3 e1 z.2.1]; exact z.2.2⟩
      · have := r12 x hx
        have hf := fit_33 this.2
        rw [q2.2 x this.1 (fun z => by subst z; exact hf.1 ha.1) (fun z => hf.2 z.2.1)]
        exact ⟨Nat.lt_of_lt_of_le this.1 q2.1, this.2⟩
/-- a list that is made: not yet begun -/
def rawL (E : gV) (h : gH) (T : tT) (a : Nat) : Prop := zT E h T ∧ (h.2 a).1 = 8 ∧ gBase E ≤ a ∧ a < h.1 ∧ (h.2 a).2.2 2 = vI 0 ∧ T.2 a = none ∧ (T.1 a).1 = 0
theorem zT_init {a : Nat} {h' : gH} (t : rawL E h T a) (q : ∀ ow, lR E ow h' a [] (gEm E) 0) (q2 : h'.1 = h.1) (q3 : ∀ b, b ≠ a → h'.2 b = h.2 b) : zT E h' (tLs T a []) := by
  obtain ⟨t, t1, t2, t3, t4, t5, t6⟩ := t
  have ht := t
  obtain ⟨hB, hE, tv, ow, ho⟩ := t
  exact zT_ad hB hE tv ho ⟨t1, t2⟩ ⟨ow, _, _, q ow, ⟨by rw [q2]; exact Nat.le_refl _, fun b _ hb _ => q3 b hb⟩, fun _ _ => rfl⟩ (fun y hy => by simp at hy)
end TEE
