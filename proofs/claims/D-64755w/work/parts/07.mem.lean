set_option maxRecDepth 100000
def gAnew (o i : Nat) : Option Nat := match gKl o i with
  | some 2 => some 4
  | some 4 => some 5
  | _ => if o = 8 ∧ i = 7 then some 3 else if o = 14 ∧ i = 2 then some 3 else none
def gNt (ty : ArrayType) : Option Nat := match ty with
  | .boolean => some 0
  | .int => some 1
  | .long => some 2
  | _ => none
def gItf (o i : Nat) : Option gM := if (o = 1 ∧ i = 170) ∨ (o = 5 ∧ i = 22) then some gX6_hasNext else if (o = 1 ∧ i = 176) ∨ (o = 5 ∧ i = 28) then some gX6_next else none
def gT (ci k : Nat) : String × String × String × Bool := match gCl[ci]? with
  | some q => q.2.1 k
  | none => ("", "", "", true)
def gCat (r : List Value) : Prop := (r.map fun v => v.category).sum ≤ 8
/-- which kinds of arrays take which kinds of objects -/
def gFitA (ka kb : Nat) : Bool := match ka with
  | 33 => kb == 3 || kb == 4 || kb == 5 || kb == 7
  | 34 => kb == 3
  | 35 => kb == 5
  | _ => false
def gRv (Q : Value → gH → Prop) : Option Value → gH → Prop := fun v h => ∃ x, v = some x ∧ Q x h
def gRu (Q : gH → Prop) : Option Value → gH → Prop := fun v h => v = none ∧ Q h
theorem gDecl {ci f : Nat} {q : vw_C} (hc : ci < 7) (hq : gCl[ci]? = some q) (hf : f < q.2.2) : (q.2.1 f).1 = gOwn (ci + 1) := by
  have key : ∀ ci, ci < 7 → ∀ f, f < gN ci → (gT ci f).1 = gOwn (ci + 1) := by decide +kernel
  have h := key ci hc f (by unfold gN; rw [hq]; exact hf)
  unfold gT at h
  rw [hq] at h
  exact h
def gNestNe (w : Cond) : Bool := match w with
  | .fieldLinkNest o _ r _ _ _ => o != r
  | _ => true
theorem gNest_ne : ∀ w ∈ gNest, gNestNe w = true := by decide +kernel
section GS
variable {p : Program} {l : Launch} {e : Env} {R : Room} {s : State} {m : MethodId} {args : Array Value} {below : List Frame} {meth : Method} {c : Code} {ls : Array Slot} {H : Heap} {locs : List Loc} {uc us : Nat} {Qs : State → Prop}
variable {E : gV} {M : gM} {d mc ms : Nat} {pc : Nat} {rest : List Value} {h : gH}
theorem gN_of {ci : Nat} {q : vw_C} (hc : gCl[ci]? = some q) : gN ci = q.2.2 := by
  unfold gN
  rw [hc]
theorem gCl_lt {ci : Nat} {q : vw_C} (hc : gCl[ci]? = some q) : ci < 29 := by
  have := (List.getElem?_eq_some_iff.mp hc).1
  have h2 : gCl.length = 11 := rfl
  omega
theorem gT_of {ci : Nat} {q : vw_C} (hc : gCl[ci]? = some q) (k : Nat) : gT ci k = q.2.1 k := by
  unfold gT
  rw [hc]
theorem g_get (X : gCtx E M d mc ms p R s m args meth c) (hR : gRep E h H) {a ci f k : Nat} (hf : gF M.2.2.2.2.1 k = some (ci, f)) (hk : (h.2 a).1 = ci + 1) (hdg : decode M.2.1 pc = .ok (.getfield k, 3))
    (kk : W p l e R s m args below meth c H locs uc us Qs (F0 m (pc + 3) ls ((h.2 a).2.2 f :: rest))) : W p l e R s m args below meth c H locs uc us Qs (F0 m pc ls (.ref a :: rest)) := by
  obtain ⟨hx, hb, hr, hml, hown, hts, hlocks, hK, -⟩ := X
  obtain ⟨q, hc, hlt, hlink⟩ := gF_ok hf
  obtain ⟨cell, q1, q2, q3, q5, q4⟩ := gRep_obj hR hk (gCl_lt hc)
  obtain ⟨hS, hfc, kC, hkC, hkind⟩ := hK.1.1 ci q hc
  obtain ⟨cf, kf, fi, fd, hi, hsl⟩ := hS f hlt
  have hcl := gCl_ok ci q hc
  have hst := (u_facts hfc hkC (u_lays hts hcl.1 hlt) hi).1
  have hv : cell.slots[fd.slot]? = some ((h.2 a).2.2 f) := by
    rw [hsl]
    exact q4 f (by rw [gN_of hc]; exact hlt)
  rcases hlink with ⟨ref, hl1, hl2⟩ | ⟨host, hl1⟩
  · have hsame : s.fieldFound? ref (q.2.1 f).2.1 (q.2.1 f).2.2.1 = some (cf, kf, fi, fd) := by
      rcases hl2 with rfl | h2
      · exact hi
      · exact u_same (hts _ h2) _ hi
    exact W.getf hx hb hown (hts _ hl1) hsame hst q1 (by rw [q3]; exact fun h => by cases h) hv rfl rfl hdg kk
  · exact va_Wgetf hx hb hown (va_Nw.use (A := args) rfl (hK.2.1 _ hl1)) hi hst q1 (by rw [q3]; exact fun h => by cases h) hv rfl rfl hdg kk
theorem g_put (X : gCtx E M d mc ms p R s m args meth c) (hR : gRep E h H) (hlo : ∀ q ∈ locs, gFree E q.base) {a ci f k : Nat} {v : Value} (hf : gF M.2.2.2.2.1 k = some (ci, f)) (hk : (h.2 a).1 = ci + 1) (ha : gBase E ≤ a) (hn : narrow (gTy ci f) v = v) (hv : fits (gTy ci f) v = true)
    (hfin : (gT ci f).2.2.2 = false ∨ (M.1.name = "<init>" ∧ M.2.2.2.2.1 = ci + 1 ∧ ci < 7)) (hdg : decode M.2.1 pc = .ok (.putfield k, 3))
    (kk : ∀ (H' : Heap) (locs' : List Loc), gRep E (gSet h a ((h.2 a).1, (h.2 a).2.1, updV (h.2 a).2.2 f v)) H' → (∀ q ∈ locs', gFree E q.base) → W p l e R s m args below meth c H' locs' uc us Qs (F0 m (pc + 3) ls rest)) : W p l e R s m args below meth c H locs uc us Qs (F0 m pc ls (v :: .ref a :: rest)) := by
  obtain ⟨hx, hb, hr, hml, hown, hts, hlocks, hK, -, -, -, -, hname, -⟩ := X
  obtain ⟨q, hc, hlt, hlink⟩ := gF_ok hf
  obtain ⟨cell, q1, q2, q3, q5, q4⟩ := gRep_obj hR hk (gCl_lt hc)
  obtain ⟨hS, hfc, kC, hkC, hkind⟩ := hK.1.1 ci q hc
  obtain ⟨cf, kf, fi, fd, hi, hsl⟩ := hS f hlt
  have hcl := gCl_ok ci q hc
  have hap := va_apart (own := gOwn M.2.2.2.2.1) hts hcl.1 (gTy ci) hcl.2.2.1 hcl.2.1 hK.1 hc
  have hst := (u_facts hfc hkC (u_lays hts hcl.1 hlt) hi).1
  have hd := hcl.2.2.1 f hlt
  have q4' : ∀ k, k < q.2.2 → cell.slots[E.2.1 ci k]? = some ((h.2 a).2.2 k) := by rw [← gN_of hc]; exact q4
  have hslot : fd.slot < cell.slots.size := by rw [hsl]; exact k2_hasslot (q4' f hlt)
  have fin : ∀ H' : Heap, H'[a]? = some (cell.setSlot fd.slot v) → H'.size = H.size → (∀ q, q ≠ a → H'[q]? = H[q]?) → W p l e R s m args below meth c H' (locs ++ [⟨a, fd.slot⟩]) uc us Qs (F0 m (pc + 3) ls rest) := by
    intro H' e1 e2 e3
    refine kk H' _ (gRep_set hR ha ?_ e2 e3) ?_
    · rw [e1, hk]
      refine gAt_obj (gCl_lt hc) q2 q3 q5 ?_
      rw [hsl, gN_of hc]
      exact t_set q4' hap hlt v
    · intro z hz
      rcases List.mem_append.mp hz with h1 | h1
      · exact hlo z h1
      · rw [List.mem_singleton.mp h1]
        exact ha
  have hlay := hts _ (hcl.1 _ (u_in_lay hlt))
  unfold u_lay at hlay
  rw [gT_of hc] at hfin
  rcases hlink with ⟨ref, hl1, hl2⟩ | ⟨host, hl1⟩
  · have hsame : s.fieldFound? ref (q.2.1 f).2.1 (q.2.1 f).2.2.1 = some (cf, kf, fi, fd) := by
      rcases hl2 with rfl | h2
      · exact hi
      · exact u_same (hts _ h2) _ hi
    by_cases hff : (q.2.1 f).2.2.2 = true
    · rcases hfin with hfin | ⟨hn1, hn2, hn3⟩
      · rw [hff] at hfin; cases hfin
      · rw [if_pos hff] at hlay
        have hcf : m.cls = cf := by
          obtain ⟨_, _, c', _, _, _, -, -, hf', -, -, -, hown2, -⟩ := Cond.laysFinal_spec hlay
          have e1 : c' = cf := by have := hi.symm.trans hf'; simp at this; exact this.1.symm
          rw [gDecl hn3 hc hlt, ← hn2] at hown2
          rw [← e1]
          exact Option.some.inj (hown.symm.trans hown2)
        exact W.putFinK hx hb hown (hts _ hl1) hsame hst hcf (hname.trans hn1) (by rw [q2]; exact u_fits hfc hkC hkind (Or.inr hlay) hi hd hn hv) q1 q3 hslot rfl rfl hdg fin
    · rw [if_neg hff] at hlay
      exact W.putK hx hb (f := fd) ⟨hown, hts _ hl1, ⟨_, _, _, hsame⟩, hst⟩ (by rw [q2]; exact u_store hfc hkC hkind hlay hi hd hn hv) q1 q3 hslot rfl rfl hdg fin
  · by_cases hff : (q.2.1 f).2.2.2 = true
    · rcases hfin with hfin | ⟨hn1, hn2, hn3⟩
      · rw [hff] at hfin; cases hfin
      · have := gNest_ne _ hl1
        simp only [gNestNe, gDecl hn3 hc hlt, hn2] at this
        simp at this
    · rw [if_neg hff] at hlay
      exact va_WputK hx hb (f := fd) hown (va_Nw.use (A := args) rfl (hK.2.1 _ hl1)) hi hst (by rw [q2]; exact u_store hfc hkC hkind hlay hi hd hn hv) q1 q3 hslot rfl rfl hdg fin
theorem g_ty (hK : gK E s) {ak : Nat} (h : ak < 6) : ∃ ty, (gTys E)[ak]? = some (E.2.2.1 ak, ty) ∧ ArrOfT s (E.2.2.1 ak) ty ∧ va_RA s (E.2.2.1 ak) ty := by
  have h1 : ∃ ty, (gTys E)[ak]? = some (E.2.2.1 ak, ty) := by
    match ak, h with
    | 0, _ => exact ⟨_, rfl⟩
    | 1, _ => exact ⟨_, rfl⟩
    | 2, _ => exact ⟨_, rfl⟩
    | 3, _ => exact ⟨_, rfl⟩
    | 4, _ => exact ⟨_, rfl⟩
    | 5, _ => exact ⟨_, rfl⟩
  obtain ⟨ty, h1⟩ := h1
  exact ⟨ty, h1, hK.1.2 ak _ h1⟩
theorem g_new (X : gCtx E M d mc ms p R s m args meth c) (hR : gRep E h H) {k ci : Nat} (hf : gKl M.2.2.2.2.1 k = some ci) (h1 : uc + 1 ≤ mc) (h2 : us + gN ci ≤ ms) (hdg : decode M.2.1 pc = .ok (.new k, 3))
    (kk : ∀ H' : Heap, gRep E (gPush h (ci + 1, gN ci, fun f => defaultValue (gTy ci f))) H' → W p l e R s m args below meth c H' locs (uc + 1) (us + gN ci) Qs (F0 m (pc + 3) ls (.ref h.1 :: rest))) : W p l e R s m args below meth c H locs uc us Qs (F0 m pc ls rest) := by
  obtain ⟨hx, hb, hr, hml, hown, hts, hlocks, hK, -, -, hR3, hR4, -⟩ := X
  obtain ⟨q, hc, hl⟩ := gKl_ok hf
  have hcl := gCl_ok ci q hc
  have hn : gN ci = q.2.2 := gN_of hc
  refine W.newc hx hb hown (hts _ hl) (n := gN ci) (by rw [hn]; exact hts _ hcl.2.2.2.2) (hts _ hcl.2.2.2.1) rfl hdg (by omega) (by omega) fun cC kC e1 e2 e3 e4 => ?_
  have hKn := hK.1.1 ci q hc
  have hcC : cC = E.1 ci := Option.some.inj (e1.symm.trans hKn.2.1)
  subst hcC
  rw [← hR.1] at kk
  refine kk _ (gRep_push hR ?_)
  have hB := u_born (o := 0) (H := #[blank (E.1 ci) kC]) (gTy ci) hts hcl.1 hKn e2 (by simp) hcl.2.2.1
  obtain ⟨cell, b1, b2, b3, b4⟩ := hB
  have b0 : cell = blank (E.1 ci) kC := by simpa using b1.symm
  subst b0
  exact gAt_obj (gCl_lt hc) rfl rfl rfl (by rw [hn]; exact b4)
theorem g_newa (X : gCtx E M d mc ms p R s m args meth c) (hR : gRep E h H) {ty : ArrayType} {ak : Nat} {x : Int32} (hf : gNt ty = some ak) (hx0 : ¬ x < 0) (hx8 : x.toNatClampNeg * 8 ≤ 536870912) (h1 : uc + 1 ≤ mc) (h2 : us + x.toNatClampNeg ≤ ms) (hdg : decode M.2.1 pc = .ok (.newarray ty, 2))
    (kk : ∀ H' : Heap, gRep E (gPush h (ak + 30, x.toNatClampNeg, fun _ => defaultValue (newarray.typeOf ty))) H' → W p l e R s m args below meth c H' locs (uc + 1) (us + x.toNatClampNeg) Qs (F0 m (pc + 2) ls (.ref h.1 :: rest))) : W p l e R s m args below meth c H locs uc us Qs (F0 m pc ls (.int x :: rest)) := by
  obtain ⟨hx, hb, hr, hml, hown, hts, hlocks, hK, -, -, hR3, hR4, -⟩ := X
  have key : (Cond.arrayClass (newarray.typeOf ty)) ∈ lw_all ∧ componentBytes (newarray.typeOf ty) ≤ 8 ∧ s.vm.findClass ("[" ++ (newarray.typeOf ty).toString) = some (E.2.2.1 ak) := by
    cases ty <;> simp only [gNt, Option.some.injEq, reduceCtorEq] at hf
    all_goals subst hf
    · exact ⟨q121, by decide, (hK.1.2 0 _ rfl).2⟩
    · exact ⟨q122, by decide, (hK.1.2 1 _ rfl).2⟩
    · exact ⟨q1114, by decide, (hK.1.2 2 _ rfl).2⟩
  refine W.newa hx hb (hts _ key.1) rfl hdg rfl hx0 (Nat.le_trans (Nat.mul_le_mul_left _ key.2.1) hx8) (by omega) (by omega) fun cA kA comp e1 e2 e3 => ?_
  have hcC : cA = E.2.2.1 ak := Option.some.inj (e1.symm.trans key.2.2)
  subst hcC
  rw [← hR.1] at kk
  refine kk _ (gRep_push hR (gAt_arr rfl (fun h => by cases h) (fun _ h => by cases h) (by simp) fun j hj => by simp [hj]))
theorem g_anew (X : gCtx E M d mc ms p R s m args meth c) (hR : gRep E h H) {k ak : Nat} {x : Int32} (hf : gAnew M.2.2.2.2.1 k = some ak) (hx0 : ¬ x < 0) (hx8 : x.toNatClampNeg * 4 ≤ 536870912) (h1 : uc + 1 ≤ mc) (h2 : us + x.toNatClampNeg ≤ ms) (hdg : decode M.2.1 pc = .ok (.anewarray k, 3))
    (kk : ∀ H' : Heap, gRep E (gPush h (ak + 30, x.toNatClampNeg, fun _ => .null)) H' → W p l e R s m args below meth c H' locs (uc + 1) (us + x.toNatClampNeg) Qs (F0 m (pc + 3) ls (.ref h.1 :: rest))) : W p l e R s m args below meth c H locs uc us Qs (F0 m pc ls (.int x :: rest)) := by
  obtain ⟨hx, hb, hr, hml, hown, hts, hlocks, hK, -, -, hR3, hR4, -⟩ := X
  have key : ∃ C, (Cond.classLink (gOwn M.2.2.2.2.1) k C) ∈ lw_all ∧ va_AO C s ∧ s.vm.findClass ("[" ++ (FieldType.object C).toString) = some (E.2.2.1 ak) := by
    unfold gAnew at hf
    split at hf
    · next e =>
      cases hf
      obtain ⟨q, hc, hl⟩ := gKl_ok e
      cases hc
      obtain ⟨_, _, _, _, _, e4⟩ := (hK.1.2 4 _ rfl).2
      exact ⟨_, hl, hK.2.2.2.2.2.1, e4⟩
    · next e =>
      cases hf
      obtain ⟨q, hc, hl⟩ := gKl_ok e
      cases hc
      obtain ⟨_, _, _, _, _, e4⟩ := (hK.1.2 5 _ rfl).2
      exact ⟨_, hl, hK.2.2.2.2.2.2.1, e4⟩
    · obtain ⟨_, _, _, _, _, e4⟩ := (hK.1.2 3 _ rfl).2
      split at hf
      · next e => cases hf; rw [e.1, e.2]; exact ⟨"java/lang/Object", q302, hK.2.2.2.2.1, e4⟩
      · split at hf
        · next e => cases hf; rw [e.1, e.2]; exact ⟨"java/lang/Object", q294, hK.2.2.2.2.1, e4⟩
        · cases hf
  obtain ⟨C, k1, k2, k3⟩ := key
  refine W.anew hx hb hown (hts _ k1) (va_AO.use k2) rfl hdg rfl hx0 hx8 (by omega) (by omega) fun cA kA comp e1 e2 e3 e5 => ?_
  have hcC : cA = E.2.2.1 ak := Option.some.inj (e1.symm.trans k3)
  subst hcC
  rw [← hR.1] at kk
  refine kk _ (gRep_push hR (gAt_arr rfl (fun h => by cases h) (fun _ h => by cases h) (by simp) fun j hj => by simp [hj]))
theorem g_iald (X : gCtx E M d mc ms p R s m args meth c) (hR : gRep E h H) {a : Nat} {j : Int32} (hk : (h.2 a).1 ∈ ([31, 36] : List Nat)) (hin : ¬ (j < 0 ∨ (h.2 a).2.1 ≤ j.toNatClampNeg)) (hdg : decode M.2.1 pc = .ok (.iaload, 1))
    (kk : W p l e R s m args below meth c H locs uc us Qs (F0 m (pc + 1) ls ((h.2 a).2.2 j.toNatClampNeg :: rest))) : W p l e R s m args below meth c H locs uc us Qs (F0 m pc ls (.int j :: .ref a :: rest)) := by
  obtain ⟨hx, hb, hr, hml, hown, hts, hlocks, hK, -⟩ := X
  have hlt : j.toNatClampNeg < (h.2 a).2.1 := Nat.not_le.mp fun q => hin (Or.inr q)
  simp only [List.mem_cons, List.not_mem_nil, or_false] at hk
  rcases hk with hk | hk
  · obtain ⟨cell, c1, c2, c3, c4, c5, c6⟩ := gRep_arr (ak := 1) hR hk
    exact W.iald hx hb c1 (gArrOf (hK.1.2 1 _ rfl).1 c2 c4) c3 (by rw [c5]; exact hin) (c6 _ hlt) rfl rfl hdg kk
  · obtain ⟨cell, c1, c2, c3, c4, c5, c6⟩ := gRep_arr (ak := 6) hR hk
    exact W.iald hx hb c1 (gArrOf hK.2.2.2.1 c2 c4) c3 (by rw [c5]; exact hin) (c6 _ hlt) rfl rfl hdg kk
theorem g_bald (X : gCtx E M d mc ms p R s m args meth c) (hR : gRep E h H) {a : Nat} {j : Int32} (hk : (h.2 a).1 ∈ ([30] : List Nat)) (hin : ¬ (j < 0 ∨ (h.2 a).2.1 ≤ j.toNatClampNeg)) (hdg : decode M.2.1 pc = .ok (.baload, 1))
    (kk : W p l e R s m args below meth c H locs uc us Qs (F0 m (pc + 1) ls ((h.2 a).2.2 j.toNatClampNeg :: rest))) : W p l e R s m args below meth c H locs uc us Qs (F0 m pc ls (.int j :: .ref a :: rest)) := by
  obtain ⟨hx, hb, hr, hml, hown, hts, hlocks, hK, -⟩ := X
  have hlt : j.toNatClampNeg < (h.2 a).2.1 := Nat.not_le.mp fun q => hin (Or.inr q)
  simp only [List.mem_cons, List.not_mem_nil, or_false] at hk
  obtain ⟨cell, c1, c2, c3, c4, c5, c6⟩ := gRep_arr (ak := 0) hR hk
  exact W.zald hx hb c1 (gArrOf (hK.1.2 0 _ rfl).1 c2 c4) c3 (by rw [c5]; exact hin) (c6 _ hlt) rfl rfl hdg kk
theorem g_lald (X : gCtx E M d mc ms p R s m args meth c) (hR : gRep E h H) {a : Nat} {j : Int32} (hk : (h.2 a).1 ∈ ([32] : List Nat)) (hin : ¬ (j < 0 ∨ (h.2 a).2.1 ≤ j.toNatClampNeg)) (hdg : decode M.2.1 pc = .ok (.laload, 1))
    (kk : W p l e R s m args below meth c H locs uc us Qs (F0 m (pc + 1) ls ((h.2 a).2.2 j.toNatClampNeg :: rest))) : W p l e R s m args below meth c H locs uc us Qs (F0 m pc ls (.int j :: .ref a :: rest)) := by
  obtain ⟨hx, hb, hr, hml, hown, hts, hlocks, hK, -⟩ := X
  have hlt : j.toNatClampNeg < (h.2 a).2.1 := Nat.not_le.mp fun q => hin (Or.inr q)
  simp only [List.mem_cons, List.not_mem_nil, or_false] at hk
  obtain ⟨cell, c1, c2, c3, c4, c5, c6⟩ := gRep_arr (ak := 2) hR hk
  exact W.lald hx hb c1 (gArrOf (hK.1.2 2 _ rfl).1 c2 c4) c3 (by rw [c5]; exact hin) (c6 _ hlt) rfl rfl hdg kk
theorem g_aald (X : gCtx E M d mc ms p R s m args meth c) (hR : gRep E h H) {a : Nat} {j : Int32} (hk : (h.2 a).1 ∈ ([33, 34, 35] : List Nat)) (hin : ¬ (j < 0 ∨ (h.2 a).2.1 ≤ j.toNatClampNeg)) (hdg : decode M.2.1 pc = .ok (.aaload, 1))
    (kk : W p l e R s m args below meth c H locs uc us Qs (F0 m (pc + 1) ls ((h.2 a).2.2 j.toNatClampNeg :: rest))) : W p l e R s m args below meth c H locs uc us Qs (F0 m pc ls (.int j :: .ref a :: rest)) := by
  obtain ⟨hx, hb, hr, hml, hown, hts, hlocks, hK, -⟩ := X
  have hlt : j.toNatClampNeg < (h.2 a).2.1 := Nat.not_le.mp fun q => hin (Or.inr q)
  simp only [List.mem_cons, List.not_mem_nil, or_false] at hk
  rcases hk with hk | hk | hk
  · obtain ⟨cell, c1, c2, c3, c4, c5, c6⟩ := gRep_arr (ak := 3) hR hk
    exact W.aald hx hb c1 (gArrOf (hK.1.2 3 _ rfl).1 c2 c4) rfl c3 (by rw [c5]; exact hin) (c6 _ hlt) rfl rfl hdg kk
  · obtain ⟨cell, c1, c2, c3, c4, c5, c6⟩ := gRep_arr (ak := 4) hR hk
    exact W.aald hx hb c1 (gArrOf (hK.1.2 4 _ rfl).1 c2 c4) rfl c3 (by rw [c5]; exact hin) (c6 _ hlt) rfl rfl hdg kk
  · obtain ⟨cell, c1, c2, c3, c4, c5, c6⟩ := gRep_arr (ak := 5) hR hk
    exact W.aald hx hb c1 (gArrOf (hK.1.2 5 _ rfl).1 c2 c4) rfl c3 (by rw [c5]; exact hin) (c6 _ hlt) rfl rfl hdg kk
theorem g_alen (X : gCtx E M d mc ms p R s m args meth c) (hR : gRep E h H) {a : Nat} (hk : (h.2 a).1 ∈ ([30, 31, 32, 33, 34, 35, 36] : List Nat)) (hdg : decode M.2.1 pc = .ok (.arraylength, 1))
    (kk : W p l e R s m args below meth c H locs uc us Qs (F0 m (pc + 1) ls (.int (Int32.ofNat (h.2 a).2.1) :: rest))) : W p l e R s m args below meth c H locs uc us Qs (F0 m pc ls (.ref a :: rest)) := by
  obtain ⟨hx, hb, hr, hml, hown, hts, hlocks, hK, -⟩ := X
  simp only [List.mem_cons, List.not_mem_nil, or_false] at hk
  rcases hk with hk | hk | hk | hk | hk | hk | hk
  · obtain ⟨cell, c1, c2, c3, c4, c5, c6⟩ := gRep_arr (ak := 0) hR hk
    exact W.alen hx hb c1 (gArrOf (hK.1.2 0 _ rfl).1 c2 c4) (by rw [c5]) rfl rfl hdg kk
  · obtain ⟨cell, c1, c2, c3, c4, c5, c6⟩ := gRep_arr (ak := 1) hR hk
    exact W.alen hx hb c1 (gArrOf (hK.1.2 1 _ rfl).1 c2 c4) (by rw [c5]) rfl rfl hdg kk
  · obtain ⟨cell, c1, c2, c3, c4, c5, c6⟩ := gRep_arr (ak := 2) hR hk
    exact W.alen hx hb c1 (gArrOf (hK.1.2 2 _ rfl).1 c2 c4) (by rw [c5]) rfl rfl hdg kk
  · obtain ⟨cell, c1, c2, c3, c4, c5, c6⟩ := gRep_arr (ak := 3) hR hk
    exact W.alen hx hb c1 (gArrOf (hK.1.2 3 _ rfl).1 c2 c4) (by rw [c5]) rfl rfl hdg kk
  · obtain ⟨cell, c1, c2, c3, c4, c5, c6⟩ := gRep_arr (ak := 4) hR hk
    exact W.alen hx hb c1 (gArrOf (hK.1.2 4 _ rfl).1 c2 c4) (by rw [c5]) rfl rfl hdg kk
  · obtain ⟨cell, c1, c2, c3, c4, c5, c6⟩ := gRep_arr (ak := 5) hR hk
    exact W.alen hx hb c1 (gArrOf (hK.1.2 5 _ rfl).1 c2 c4) (by rw [c5]) rfl rfl hdg kk
  · obtain ⟨cell, c1, c2, c3, c4, c5, c6⟩ := gRep_arr (ak := 6) hR hk
    exact W.alen hx hb c1 (gArrOf hK.2.2.2.1 c2 c4) (by rw [c5]) rfl rfl hdg kk
theorem gSet_at {cell : Cell} {n j : Nat} {f : Nat → Value} {v : Value} (h4 : cell.slots.size = n) (h5 : ∀ i, i < n → cell.slots[i]? = some (f i)) : (cell.setSlot j v).slots.size = n ∧ ∀ i, i < n → (cell.setSlot j v).slots[i]? = some (updV f j v i) := by
  refine ⟨by simp [Cell.setSlot, h4], fun i hi => ?_⟩
  simp only [Cell.setSlot, Array.getElem?_setIfInBounds, updV]
  by_cases q : j = i
  · subst q
    simp [h4, hi]
  · have : ¬ i = j := fun e => q e.symm
    simp only [q, this, if_false]
    exact h5 i hi
theorem g_iast (X : gCtx E M d mc ms p R s m args meth c) (hR : gRep E h H) (hlo : ∀ q ∈ locs, gFree E q.base) {a : Nat} {j : Int32} {x : Int32} (hk : (h.2 a).1 = 31) (ha : gBase E ≤ a) (hin : ¬ (j < 0 ∨ (h.2 a).2.1 ≤ j.toNatClampNeg)) (hdg : decode M.2.1 pc = .ok (.iastore, 1))
    (kk : ∀ (H' : Heap) (locs' : List Loc), gRep E (gSet h a ((h.2 a).1, (h.2 a).2.1, updV (h.2 a).2.2 j.toNatClampNeg (.int x))) H' → (∀ q ∈ locs', gFree E q.base) → W p l e R s m args below meth c H' locs' uc us Qs (F0 m (pc + 1) ls rest)) : W p l e R s m args below meth c H locs uc us Qs (F0 m pc ls (.int x :: .int j :: .ref a :: rest)) := by
  obtain ⟨hx, hb, hr, hml, hown, hts, hlocks, hK, -⟩ := X
  obtain ⟨cell, c1, c2, c3, c4, c5, c6⟩ := gRep_arr (ak := 1) hR hk
  refine W.iast hx hb c1 (gArrOf (hK.1.2 1 _ rfl).1 c2 c4) c3 (by rw [c5]; exact hin) rfl rfl hdg fun H' e1 e2 e3 => ?_
  refine kk H' _ (gRep_set hR ha ?_ e2 e3) (fun z hz => ?_)
  · rw [e1, hk]
    exact gAt_arr c2 c3 c4 (gSet_at c5 c6).1 (gSet_at c5 c6).2
  · rcases List.mem_append.mp hz with h1 | h1
    · exact hlo z h1
    · rw [List.mem_singleton.mp h1]
      exact ha
theorem g_last (X : gCtx E M d mc ms p R s m args meth c) (hR : gRep E h H) (hlo : ∀ q ∈ locs, gFree E q.base) {a : Nat} {j : Int32} {x : Int64} (hk : (h.2 a).1 = 32) (ha : gBase E ≤ a) (hin : ¬ (j < 0 ∨ (h.2 a).2.1 ≤ j.toNatClampNeg)) (hdg : decode M.2.1 pc = .ok (.lastore, 1))
    (kk : ∀ (H' : Heap) (locs' : List Loc), gRep E (gSet h a ((h.2 a).1, (h.2 a).2.1, updV (h.2 a).2.2 j.toNatClampNeg (.long x))) H' → (∀ q ∈ locs', gFree E q.base) → W p l e R s m args below meth c H' locs' uc us Qs (F0 m (pc + 1) ls rest)) : W p l e R s m args below meth c H locs uc us Qs (F0 m pc ls (.long x :: .int j :: .ref a :: rest)) := by
  obtain ⟨hx, hb, hr, hml, hown, hts, hlocks, hK, -⟩ := X
  obtain ⟨cell, c1, c2, c3, c4, c5, c6⟩ := gRep_arr (ak := 2) hR hk
  refine W.last hx hb c1 (gArrOf (hK.1.2 2 _ rfl).1 c2 c4) c3 (by rw [c5]; exact hin) rfl rfl hdg fun H' e1 e2 e3 => ?_
  refine kk H' _ (gRep_set hR ha ?_ e2 e3) (fun z hz => ?_)
  · rw [e1, hk]
    exact gAt_arr c2 c3 c4 (gSet_at c5 c6).1 (gSet_at c5 c6).2
  · rcases List.mem_append.mp hz with h1 | h1
    · exact hlo z h1
    · rw [List.mem_singleton.mp h1]
      exact ha
theorem g_bast (X : gCtx E M d mc ms p R s m args meth c) (hR : gRep E h H) (hlo : ∀ q ∈ locs, gFree E q.base) {a : Nat} {j : Int32} {y : Int} (hk : (h.2 a).1 = 30) (ha : gBase E ≤ a) (hin : ¬ (j < 0 ∨ (h.2 a).2.1 ≤ j.toNatClampNeg)) (hy : y = 0 ∨ y = 1) (hdg : decode M.2.1 pc = .ok (.bastore, 1))
    (kk : ∀ (H' : Heap) (locs' : List Loc), gRep E (gSet h a ((h.2 a).1, (h.2 a).2.1, updV (h.2 a).2.2 j.toNatClampNeg (vI y))) H' → (∀ q ∈ locs', gFree E q.base) → W p l e R s m args below meth c H' locs' uc us Qs (F0 m (pc + 1) ls rest)) : W p l e R s m args below meth c H locs uc us Qs (F0 m pc ls (vI y :: .int j :: .ref a :: rest)) := by
  obtain ⟨hx, hb, hr, hml, hown, hts, hlocks, hK, -⟩ := X
  obtain ⟨cell, c1, c2, c3, c4, c5, c6⟩ := gRep_arr (ak := 0) hR hk
  refine W.zast hx hb c1 (gArrOf (hK.1.2 0 _ rfl).1 c2 c4) c3 (by rw [c5]; exact hin) rfl rfl hdg fun H' e1 e2 e3 => ?_
  refine kk H' _ (gRep_set hR ha ?_ e2 e3) (fun z hz => ?_)
  · rw [e1, hk, show narrow .boolean (vI y) = vI y by rcases hy with rfl | rfl <;> rfl]
    exact gAt_arr c2 c3 c4 (gSet_at c5 c6).1 (gSet_at c5 c6).2
  · rcases List.mem_append.mp hz with h1 | h1
    · exact hlo z h1
    · rw [List.mem_singleton.mp h1]
      exact ha
theorem g_aastN (X : gCtx E M d mc ms p R s m args meth c) (hR : gRep E h H) (hlo : ∀ q ∈ locs, gFree E q.base) {a : Nat} {j : Int32} (hk : (h.2 a).1 ∈ ([33, 34, 35] : List Nat)) (ha : gBase E ≤ a) (hin : ¬ (j < 0 ∨ (h.2 a).2.1 ≤ j.toNatClampNeg)) (hdg : decode M.2.1 pc = .ok (.aastore, 1))
    (kk : ∀ (H' : Heap) (locs' : List Loc), gRep E (gSet h a ((h.2 a).1, (h.2 a).2.1, updV (h.2 a).2.2 j.toNatClampNeg .null)) H' → (∀ q ∈ locs', gFree E q.base) → W p l e R s m args below meth c H' locs' uc us Qs (F0 m (pc + 1) ls rest)) : W p l e R s m args below meth c H locs uc us Qs (F0 m pc ls (.null :: .int j :: .ref a :: rest)) := by
  obtain ⟨hx, hb, hr, hml, hown, hts, hlocks, hK, -⟩ := X
  have key : ∃ ak C, (h.2 a).1 = ak + 30 ∧ (gTys E)[ak]? = some (E.2.2.1 ak, .object C) := by
    simp only [List.mem_cons, List.not_mem_nil, or_false] at hk
    rcases hk with hk | hk | hk
    · exact ⟨3, _, hk, rfl⟩
    · exact ⟨4, _, hk, rfl⟩
    · exact ⟨5, _, hk, rfl⟩
  obtain ⟨ak, C, hk, ht⟩ := key
  obtain ⟨cell, c1, c2, c3, c4, c5, c6⟩ := gRep_arr (ak := ak) hR hk
  refine va_WaastN hx hb c1 (gArrOf (hK.1.2 ak _ ht).1 c2 c4) c3 (by rw [c5]; exact hin) rfl rfl hdg fun H' e1 e2 e3 => ?_
  refine kk H' _ (gRep_set hR ha ?_ e2 e3) (fun z hz => ?_)
  · rw [e1, hk]
    exact gAt_arr c2 c3 c4 (gSet_at c5 c6).1 (gSet_at c5 c6).2
  · rcases List.mem_append.mp hz with h1 | h1
    · exact hlo z h1
    · rw [List.mem_singleton.mp h1]
      exact ha
theorem gFitA_cases {ka kb : Nat} (hk : gFitA ka kb = true) : ∃ ak ci, ka = ak + 30 ∧ kb = ci + 1 ∧ ((ak = 3 ∧ ci ∈ ([2, 3, 4, 6] : List Nat)) ∨ (ak = 4 ∧ ci = 2) ∨ (ak = 5 ∧ ci = 4)) := by
  unfold gFitA at hk
  split at hk
  · simp only [Bool.or_eq_true, beq_iff_eq] at hk
    rcases hk with ((rfl | rfl) | rfl) | rfl
    · exact ⟨3, 2, rfl, rfl, Or.inl ⟨rfl, by decide⟩⟩
    · exact ⟨3, 3, rfl, rfl, Or.inl ⟨rfl, by decide⟩⟩
    · exact ⟨3, 4, rfl, rfl, Or.inl ⟨rfl, by decide⟩⟩
    · exact ⟨3, 6, rfl, rfl, Or.inl ⟨rfl, by decide⟩⟩
  · simp only [beq_iff_eq] at hk
    subst hk
    exact ⟨4, 2, rfl, rfl, Or.inr (Or.inl ⟨rfl, rfl⟩)⟩
  · simp only [beq_iff_eq] at hk
    subst hk
    exact ⟨5, 4, rfl, rfl, Or.inr (Or.inr ⟨rfl, rfl⟩)⟩
  · cases hk
theorem g_assign (hK : gK E s) {ak ci : Nat} {q : vw_C} (hq : gCl[ci]? = some q) (hc : (ak = 3 ∧ ci ∈ ([2, 3, 4, 6] : List Nat)) ∨ (ak = 4 ∧ ci = 2) ∨ (ak = 5 ∧ ci = 4)) : ∃ (kA kcomp : Class) (comp : ClassId) (C : String), s.vm.classes[E.2.2.1 ak]? = some kA ∧ kA.kind = .array comp (.object C) ∧ s.vm.classes[comp]? = some kcomp ∧ s.vm.assignable (E.1 ci) comp = true := by
  have hcls := (hK.1.1 ci q hq).2
  obtain ⟨kC, hkC, -⟩ := hcls.2
  rcases hc with ⟨rfl, hci⟩ | ⟨rfl, rfl⟩ | ⟨rfl, rfl⟩
  · obtain ⟨kA, comp, k1, k2, k3, -⟩ := (hK.1.2 3 _ rfl).2
    have hcast : va_Nw (.castable q.1 "java/lang/Object") s := by
      simp only [List.mem_cons, List.not_mem_nil, or_false] at hci
      rcases hci with rfl | rfl | rfl | rfl <;> cases hq
      · exact hK.2.2.1 _ (List.mem_of_getElem? (i := 0) rfl)
      · exact hK.2.2.1 _ (List.mem_of_getElem? (i := 1) rfl)
      · exact hK.2.2.1 _ (List.mem_of_getElem? (i := 2) rfl)
      · exact hK.2.2.1 _ (List.mem_of_getElem? (i := 3) rfl)
    obtain ⟨c0, t0, f1, f2, f3⟩ := Cond.castable_spec (va_Nw.use (A := #[]) rfl hcast)
    cases hcls.1.symm.trans f1
    cases k3.symm.trans f2
    obtain ⟨kt, hkt, -⟩ := Vm.findClass_spec k3
    exact ⟨kA, kt, comp, _, k1, k2, hkt, f3⟩
  · cases hq
    obtain ⟨kA, comp, k1, k2, k3, -⟩ := (hK.1.2 4 _ rfl).2
    have hcomp : comp = E.1 2 := Option.some.inj (k3.symm.trans hcls.1)
    subst hcomp
    exact ⟨kA, kC, _, _, k1, k2, hkC, va_assign hcls⟩
  · cases hq
    obtain ⟨kA, comp, k1, k2, k3, -⟩ := (hK.1.2 5 _ rfl).2
    have hcomp : comp = E.1 4 := Option.some.inj (k3.symm.trans hcls.1)
    subst hcomp
    exact ⟨kA, kC, _, _, k1, k2, hkC, va_assign hcls⟩
theorem g_aast (X : gCtx E M d mc ms p R s m args meth c) (hR : gRep E h H) (hlo : ∀ q ∈ locs, gFree E q.base) {a b : Nat} {j : Int32} (hk : gFitA (h.2 a).1 (h.2 b).1 = true) (ha : gBase E ≤ a) (hin : ¬ (j < 0 ∨ (h.2 a).2.1 ≤ j.toNatClampNeg)) (hdg : decode M.2.1 pc = .ok (.aastore, 1))
    (kk : ∀ (H' : Heap) (locs' : List Loc), gRep E (gSet h a ((h.2 a).1, (h.2 a).2.1, updV (h.2 a).2.2 j.toNatClampNeg (.ref b))) H' → (∀ q ∈ locs', gFree E q.base) → W p l e R s m args below meth c H' locs' uc us Qs (F0 m (pc + 1) ls rest)) : W p l e R s m args below meth c H locs uc us Qs (F0 m pc ls (.ref b :: .int j :: .ref a :: rest)) := by
  obtain ⟨hx, hb, hr, hml, hown, hts, hlocks, hK, -⟩ := X
  obtain ⟨ak, ci, ka, kb, hc⟩ := gFitA_cases hk
  obtain ⟨cell, c1, c2, c3, c4, c5, c6⟩ := gRep_arr (ak := ak) hR ka
  have hci : ∃ q : vw_C, gCl[ci]? = some q := by
    rcases hc with ⟨-, hci⟩ | ⟨-, rfl⟩ | ⟨-, rfl⟩
    · simp only [List.mem_cons, List.not_mem_nil, or_false] at hci
      rcases hci with rfl | rfl | rfl | rfl <;> exact ⟨_, rfl⟩
    · exact ⟨_, rfl⟩
    · exact ⟨_, rfl⟩
  obtain ⟨q, hq⟩ := hci
  obtain ⟨cv, v1, v2, v3, v5, v4⟩ := gRep_obj hR kb (gCl_lt hq)
  obtain ⟨kA, kcomp, comp, C, a1, a2, a3, a4⟩ := g_assign hK hq hc
  have hcls := (hK.1.1 ci q hq).2
  obtain ⟨kC, hkC, -⟩ := hcls.2
  refine W.aast hx hb c1 c4 c3 (by rw [c2]; exact a1) a2 rfl a3 ⟨fun q => hin (Or.inl q), by rw [c5]; exact Nat.not_le.mp fun q => hin (Or.inr q)⟩ v1 (fun q e => by rw [v3] at e; cases e) (by rw [v2]; exact hkC) (by rw [v2]; exact a4) rfl rfl hdg fun H' e1 e2 e3 => ?_
  refine kk H' _ (gRep_set hR ha ?_ e2 e3) (fun z hz => ?_)
  · rw [e1, ka]
    exact gAt_arr c2 c3 c4 (gSet_at c5 c6).1 (gSet_at c5 c6).2
  · rcases List.mem_append.mp hz with h1 | h1
    · exact hlo z h1
    · rw [List.mem_singleton.mp h1]
      exact ha
theorem g_recv (hK : gK E s) (hR : gRep E h H) {a ci : Nat} {q : vw_C} (hq : gCl[ci]? = some q) (hk : (h.2 a).1 = ci + 1) : ∃ cell : Cell, H[a]? = some cell ∧ cell.vm.isStatics = false ∧ s.vm.findClass q.1 = some cell.cls := by
  obtain ⟨cv, v1, v2, v3, v5, v4⟩ := gRep_obj hR hk (gCl_lt hq)
  exact ⟨cv, v1, by rw [v3]; rfl, by rw [v2]; exact (hK.1.1 ci q hq).2.1⟩
theorem g_cast (X : gCtx E M d mc ms p R s m args meth c) (hR : gRep E h H) {a k ci : Nat} (hf : gKl M.2.2.2.2.1 k = some ci) (hk : (h.2 a).1 = ci + 1) (hdg : decode M.2.1 pc = .ok (.checkcast k, 3))
    (kk : W p l e R s m args below meth c H locs uc us Qs (F0 m (pc + 3) ls (.ref a :: rest))) : W p l e R s m args below meth c H locs uc us Qs (F0 m pc ls (.ref a :: rest)) := by
  obtain ⟨hx, hb, hr, hml, hown, hts, hlocks, hK, -⟩ := X
  obtain ⟨q, hc, hl⟩ := gKl_ok hf
  exact va_castS hx hb hown (hts _ hl) (hK.1.1 ci q hc).2 (g_recv hK hR hc hk) hdg kk
theorem g_objInit (X : gCtx E M d mc ms p R s m args meth c) (hsz : ls.size = M.2.2.1) {a k : Nat} (hf : (M.2.2.2.2.1, k) ∈ gOT) (h1 : 1 ≤ d) (hc : gCat rest) (hdg : decode M.2.1 pc = .ok (.invokespecial k, 3))
    (kk : W p l e R s m args below meth c H locs uc us Qs (F0 m (pc + 3) ls rest)) : W p l e R s m args below meth c H locs uc us Qs (F0 m pc ls (.ref a :: rest)) := by
  obtain ⟨hx, hb, hr, hml, hown, hts, hlocks, hK, hd1, hd2, -⟩ := X
  unfold gCat at hc
  refine W.objInit hx hb hown (hts _ (gOT_ok (M.2.2.2.2.1, k) hf)) (hts _ q93) (hts _ q94) rfl (by rw [hml]; exact hsz) rfl hdg (by omega) (by show 2 * 0 + _ + 12 ≤ _; omega) kk
theorem g_getEmpty (X : gCtx E M d mc ms p R s m args meth c) (hR : gRep E h H) (hm : M.2.2.2.2.1 = 8) (hdg : decode M.2.1 pc = .ok (.getstatic 39, 3))
    (kk : W p l e R s m args below meth c H locs uc us Qs (F0 m (pc + 3) ls (.ref (E.2.2.2.2 0) :: rest))) : W p l e R s m args below meth c H locs uc us Qs (F0 m pc ls rest) := by
  obtain ⟨hx, hb, hr, hml, hown, hts, hlocks, hK, -⟩ := X
  obtain ⟨cf, kf, fi, f, a, cell, h1, h2, h3, h4, h5, h6, h7, h8⟩ := hK.2.2.2.2.2.2.2.1
  rw [hm] at hown
  have ha : a < gBase E := Nat.not_le.mp h8
  exact W.gets hx hb hown (hts _ q107) h1 h2 h3 h4 (by rw [hR.2.2.1 a ha]; exact h5) (fun e => by rw [e] at h6; cases h6) h7 rfl hdg kk
/-! calls -/
theorem g_run {ln mc' ms' : Nat} {st0 : List Value} {a' : Array Value} {Q' : Option Value → gH → Prop}
    (hr : ∀ T : State, T.heap = H → Stand p l e R s m args below meth c T locs uc us → ∃ (v : Option Value) (st₀ t T' : State) (L : List Loc), st₀.heap = H ∧ Stand p l e R s m args below meth c T' (locs ++ L) (uc + mc') (us + ms') ∧ (∀ q ∈ L, gFree E q.base) ∧ T'.heap = t.heap ∧ T'.vm = t.vm ∧ gQc E (gRet Q') a' st₀ (.returned v) t ∧
      Goes p e below T (F0 m pc ls st0) T' { (F0 m pc ls st0) with pc := pc + ln, stack := v.toList ++ rest })
    (hlo : ∀ q ∈ locs, gFree E q.base)
    (kk : ∀ v h' (H' : Heap) (locs' : List Loc), gRep E h' H' → Q' v h' → (∀ q ∈ locs', gFree E q.base) → W p l e R s m args below meth c H' locs' (uc + mc') (us + ms') Qs (F0 m (pc + ln) ls (v.toList ++ rest))) : W p l e R s m args below meth c H locs uc us Qs (F0 m pc ls st0) := by
  intro T hT X
  obtain ⟨v, st₀, t, T', L, h0, X', hL, e1, e2, ⟨h', r1, v', hv, q⟩, st⟩ := hr T hT X
  cases hv
  obtain ⟨t2, a1, b1⟩ := kk v h' T'.heap (locs ++ L) (by rw [e1]; exact r1) q (fun z hz => by
    rcases List.mem_append.mp hz with h1 | h1
    · exact hlo z h1
    · exact hL z h1) T' rfl X'
  exact ⟨t2, st t2 a1, b1⟩
theorem gPc_blind {av : List Value} : FrameBlind (gPc E av h) := fun a U g mk q => ⟨q.1, q.2.1, gK_calling q.2.2⟩
theorem gPc_at (hK : gK E s) (hR : gRep E h H) {av : List Value} : ∀ U : State, U.heap = H → s.WarmedH U.vm → gPc E av h av.toArray U := fun U hU hW => ⟨rfl, by rw [hU]; exact hR, gK_warm hW hK⟩
theorem gRoom_ok {M' : gM} {d' : Nat} (X : gCtx E M d mc ms p R s m args meth c) (hM : gMok M') (hdd : d' + 1 ≤ d) : d' + 1 ≤ R.frames ∧ 8 + (M'.2.2.1 + 11) + 64 * d' ≤ R.locals := by
  obtain ⟨hx, hb, hr, hml, hown, hts, hlocks, hK, hd1, hd2, -⟩ := X
  have := hM.2.2.2.1
  omega
/-- the class of objects whose methods M holds -/
theorem gOwn_ci {M' : gM} (hM : gMok M') (h1 : 1 ≤ M'.2.2.2.2.1) (h2 : M'.2.2.2.2.1 ≤ 8) : ∃ ci q, gCl[ci]? = some q ∧ M'.2.2.2.2.1 = ci + 1 ∧ q.1 = M'.1.cls := by
  have key : ∀ o, 1 ≤ o → o ≤ 8 → ∃ ci q, gCl[ci]? = some q ∧ o = ci + 1 ∧ q.1 = gOwn o := by
    intro o h1 h2
    match o, h1, h2 with
    | 1, _, _ => exact ⟨0, _, rfl, rfl, rfl⟩
    | 2, _, _ => exact ⟨1, _, rfl, rfl, rfl⟩
    | 3, _, _ => exact ⟨2, _, rfl, rfl, rfl⟩
    | 4, _, _ => exact ⟨3, _, rfl, rfl, rfl⟩
    | 5, _, _ => exact ⟨4, _, rfl, rfl, rfl⟩
    | 6, _, _ => exact ⟨5, _, rfl, rfl, rfl⟩
    | 7, _, _ => exact ⟨6, _, rfl, rfl, rfl⟩
    | 8, _, _ => exact ⟨7, _, rfl, rfl, rfl⟩
  obtain ⟨ci, q, a, b, c⟩ := key _ h1 h2
  exact ⟨ci, q, a, b, c.trans hM.2.2.2.2⟩
theorem g_callV (X : gCtx E M d mc ms p R s m args meth c) (hR : gRep E h H) (hlo : ∀ q ∈ locs, gFree E q.base) {k d' mc' ms' : Nat} {M' : gM} {b : Nat} {As : List Value} {Q' : Option Value → gH → Prop} (hC : gC M.2.2.2.2.1 k = some (0, M')) (hk : (h.2 b).1 = M'.2.2.2.2.1) (ho : 1 ≤ M'.2.2.2.2.1 ∧ M'.2.2.2.2.1 ≤ 8) (hn : As.length = M'.2.2.2.2.2) (hM : gOk E l M' d' mc' ms' (.ref b :: As) h Q') (hdd : d' + 1 ≤ d) (h1 : uc + mc' ≤ mc) (h2 : us + ms' ≤ ms) (hc : gCat rest) (hsz : ls.size = M.2.2.1) (hdg : decode M.2.1 pc = .ok (.invokevirtual k, 3))
    (kk : ∀ v h' (H' : Heap) (locs' : List Loc), gRep E h' H' → Q' v h' → (∀ q ∈ locs', gFree E q.base) → W p l e R s m args below meth c H' locs' (uc + mc') (us + ms') Qs (F0 m (pc + 3) ls (v.toList ++ rest))) : W p l e R s m args below meth c H locs uc us Qs (F0 m pc ls (As.reverse ++ .ref b :: rest)) := by
  have hroom := fun hM => gRoom_ok (M' := M') (d' := d') X hM hdd
  obtain ⟨hx, hb, hr, hml, hown, hts, hlocks, hK, hd1, hd2, hd3, hd4, -⟩ := X
  obtain ⟨hMok, hl1, hl2, hl3⟩ := gC_ok hC
  obtain ⟨ci, q, hq, hk2, hcls⟩ := gOwn_ci hMok ho.1 ho.2
  refine g_run (ln := 3) (va_runV (cc := M.2.1) (nL := M.2.2.1) (Ts := lw_all) (own := gOwn M.2.2.2.2.1) (As := As) (rest := rest) (n := M'.2.2.2.2.2) ⟨hx, hb, hml, hown, hts⟩ hM (cwV (C := M'.1.cls) _ hts (lw_V hl1 hl2 hl3 hMok.2.1 hMok.1) rfl rfl rfl ⟨rfl, hMok.2.2.1⟩ (hroom hMok)) ⟨gPc_blind, by rw [← hcls]; exact g_recv hK hR hq (hk.trans hk2), gPc_at hK hR⟩ rfl hn hsz rfl (by show 2 * 0 + _ ≤ 8; unfold gCat at hc; omega) hdg ⟨by omega, by omega⟩) hlo kk
theorem g_callS (X : gCtx E M d mc ms p R s m args meth c) (hR : gRep E h H) (hlo : ∀ q ∈ locs, gFree E q.base) {k d' mc' ms' : Nat} {M' : gM} {As : List Value} {Q' : Option Value → gH → Prop} (hC : gC M.2.2.2.2.1 k = some (1, M')) (hn : As.length = M'.2.2.2.2.2) (hM : gOk E l M' d' mc' ms' As h Q') (hdd : d' + 1 ≤ d) (h1 : uc + mc' ≤ mc) (h2 : us + ms' ≤ ms) (hc : gCat rest) (hsz : ls.size = M.2.2.1) (hdg : decode M.2.1 pc = .ok (.invokestatic k, 3))
    (kk : ∀ v h' (H' : Heap) (locs' : List Loc), gRep E h' H' → Q' v h' → (∀ q ∈ locs', gFree E q.base) → W p l e R s m args below meth c H' locs' (uc + mc') (us + ms') Qs (F0 m (pc + 3) ls (v.toList ++ rest))) : W p l e R s m args below meth c H locs uc us Qs (F0 m pc ls (As.reverse ++ rest)) := by
  have hroom := fun hM => gRoom_ok (M' := M') (d' := d') X hM hdd
  obtain ⟨hx, hb, hr, hml, hown, hts, hlocks, hK, hd1, hd2, hd3, hd4, -⟩ := X
  obtain ⟨hMok, hl1, hl2⟩ := gC_ok hC
  refine g_run (ln := 3) (va_runS (cc := M.2.1) (nL := M.2.2.1) (Ts := lw_all) (own := gOwn M.2.2.2.2.1) (As := As) (rest := rest) (n := M'.2.2.2.2.2) ⟨hx, hb, hml, hown, hts⟩ hM (va_cwS _ hts (lw_S hl1 hl2 hMok.2.1 hMok.1) rfl rfl rfl hMok.2.2.1 (hroom hMok)) ⟨gPc_blind, gPc_at hK hR⟩ rfl hn hsz rfl (by show 2 * 0 + _ ≤ 8; unfold gCat at hc; omega) hdg ⟨by omega, by omega⟩) hlo kk
theorem g_callI (X : gCtx E M d mc ms p R s m args meth c) (hR : gRep E h H) (hlo : ∀ q ∈ locs, gFree E q.base) {k d' mc' ms' : Nat} {M' : gM} {b : Nat} {As : List Value} {Q' : Option Value → gH → Prop} (hC : gC M.2.2.2.2.1 k = some (2, M')) (hn : As.length = M'.2.2.2.2.2) (hM : gOk E l M' d' mc' ms' (.ref b :: As) h Q') (hdd : d' + 1 ≤ d) (h1 : uc + mc' ≤ mc) (h2 : us + ms' ≤ ms) (hc : gCat rest) (hsz : ls.size = M.2.2.1) (hdg : decode M.2.1 pc = .ok (.invokespecial k, 3))
    (kk : ∀ v h' (H' : Heap) (locs' : List Loc), gRep E h' H' → Q' v h' → (∀ q ∈ locs', gFree E q.base) → W p l e R s m args below meth c H' locs' (uc + mc') (us + ms') Qs (F0 m (pc + 3) ls (v.toList ++ rest))) : W p l e R s m args below meth c H locs uc us Qs (F0 m pc ls (As.reverse ++ .ref b :: rest)) := by
  have hroom := fun hM => gRoom_ok (M' := M') (d' := d') X hM hdd
  obtain ⟨hx, hb, hr, hml, hown, hts, hlocks, hK, hd1, hd2, hd3, hd4, -⟩ := X
  obtain ⟨hMok, hl1, hl2, hl3, hl4⟩ := gC_ok hC
  unfold gOk at hM
  have hm1 := hMok.1
  rw [hl4] at hM hm1
  refine g_run (ln := 3) (va_runI (cc := M.2.1) (nL := M.2.2.1) (Ts := lw_all) (own := gOwn M.2.2.2.2.1) (As := As) (rest := rest) (n := M'.2.2.2.2.2) ⟨hx, hb, hml, hown, hts⟩ hM (cwI _ hts (lw_meth hm1) rfl rfl rfl (hts _ hMok.2.1) (hts _ hl1) (hts _ hl2) hl3 hMok.2.2.1 (hroom hMok)) ⟨gPc_blind, gPc_at hK hR⟩ rfl hn hsz rfl (by show 2 * 0 + _ ≤ 8; unfold gCat at hc; omega) hdg ⟨by omega, by omega⟩) hlo kk
theorem g_callT (X : gCtx E M d mc ms p R s m args meth c) (hR : gRep E h H) (hlo : ∀ q ∈ locs, gFree E q.base) {k d' mc' ms' : Nat} {M' : gM} {As : List Value} {Q' : Option Value → gH → Prop} (hC : gC M.2.2.2.2.1 k = some (3, M')) (hn : As.length = M'.2.2.2.2.2) (hM : gOk E l M' d' mc' ms' As h Q') (hdd : d' + 1 ≤ d) (h1 : uc + mc' ≤ mc) (h2 : us + ms' ≤ ms) (hc : gCat rest) (hsz : ls.size = M.2.2.1) (hdg : decode M.2.1 pc = .ok (.invokestatic k, 3))
    (kk : ∀ v h' (H' : Heap) (locs' : List Loc), gRep E h' H' → Q' v h' → (∀ q ∈ locs', gFree E q.base) → W p l e R s m args below meth c H' locs' (uc + mc') (us + ms') Qs (F0 m (pc + 3) ls (v.toList ++ rest))) : W p l e R s m args below meth c H locs uc us Qs (F0 m pc ls (As.reverse ++ rest)) := by
  have hroom := fun hM => gRoom_ok (M' := M') (d' := d') X hM hdd
  obtain ⟨hx, hb, hr, hml, hown, hts, hlocks, hK, hd1, hd2, hd3, hd4, -⟩ := X
  obtain ⟨hMok, ⟨host, hl1⟩, hl2⟩ := gC_ok hC
  refine g_run (ln := 3) (va_runSN (cc := M.2.1) (nL := M.2.2.1) (Ts := lw_all) (own := gOwn M.2.2.2.2.1) (host := host) (As := As) (rest := rest) (n := M'.2.2.2.2.2) ⟨hx, hb, hml, hown, hts⟩ hM ⟨va_cnB _ hts (lw_meth hMok.1) rfl rfl rfl (hK.2.1 _ hl1) (hts _ hMok.2.1) hMok.2.2.1 (hroom hMok), hts _ hl2, trivial⟩ ⟨gPc_blind, gPc_at hK hR⟩ rfl hn hsz rfl (by show 2 * 0 + _ ≤ 8; unfold gCat at hc; omega) hdg ⟨by omega, by omega⟩) hlo kk
theorem g_callN (X : gCtx E M d mc ms p R s m args meth c) (hR : gRep E h H) (hlo : ∀ q ∈ locs, gFree E q.base) {k d' mc' ms' : Nat} {M' : gM} {b : Nat} {As : List Value} {Q' : Option Value → gH → Prop} (hC : gC M.2.2.2.2.1 k = some (4, M')) (hn : As.length = M'.2.2.2.2.2) (hM : gOk E l M' d' mc' ms' (.ref b :: As) h Q') (hdd : d' + 1 ≤ d) (h1 : uc + mc' ≤ mc) (h2 : us + ms' ≤ ms) (hc : gCat rest) (hsz : ls.size = M.2.2.1) (hdg : decode M.2.1 pc = .ok (.invokespecial k, 3))
    (kk : ∀ v h' (H' : Heap) (locs' : List Loc), gRep E h' H' → Q' v h' → (∀ q ∈ locs', gFree E q.base) → W p l e R s m args below meth c H' locs' (uc + mc') (us + ms') Qs (F0 m (pc + 3) ls (v.toList ++ rest))) : W p l e R s m args below meth c H locs uc us Qs (F0 m pc ls (As.reverse ++ .ref b :: rest)) := by
  have hroom := fun hM => gRoom_ok (M' := M') (d' := d') X hM hdd
  obtain ⟨hx, hb, hr, hml, hown, hts, hlocks, hK, hd1, hd2, hd3, hd4, -⟩ := X
  obtain ⟨hMok, ⟨host, hl1⟩, hl2, hl3, hl4⟩ := gC_ok hC
  unfold gOk at hM
  have hm1 := hMok.1
  rw [hl4] at hM hm1
  refine g_run (ln := 3) (va_runIN (cc := M.2.1) (nL := M.2.2.1) (Ts := lw_all) (own := gOwn M.2.2.2.2.1) (host := host) (As := As) (rest := rest) (n := M'.2.2.2.2.2) ⟨hx, hb, hml, hown, hts⟩ hM ⟨va_cnB _ hts (lw_meth hm1) rfl rfl rfl (hK.2.1 _ hl1) (hts _ hMok.2.1) hMok.2.2.1 (hroom hMok), hl3, hts _ hl2⟩ ⟨gPc_blind, gPc_at hK hR⟩ rfl hn hsz rfl (by show 2 * 0 + _ ≤ 8; unfold gCat at hc; omega) hdg ⟨by omega, by omega⟩) hlo kk
end GS
section MEM
variable {E : gV} {l : Launch} {M : gM} {d mc ms : Nat} {Q : Outcome → gH → Prop} {pc : Nat} {lv : gLs} {st : List Value} {h : gH} {uc us : Nat}
theorem G_get {a ci f k : Nat} {v : Value} (hd : decode M.2.1 pc = .ok (.getfield k, 3)) (hf : gF M.2.2.2.2.1 k = some (ci, f)) (hk : (h.2 a).1 = ci + 1) (hv : (h.2 a).2.2 f = v) (k : G E l M d mc ms Q (pc + 3) lv (v :: st) h uc us) : G E l M d mc ms Q pc lv (.ref a :: st) h uc us := by
  intro p e R s m args below meth c ls H locs X hl hR hlo
  subst hv
  exact g_get X hR hf hk hd (k p e R s m args below meth c ls H locs X hl hR hlo)
theorem G_put {a ci f k : Nat} {v : Value} (hd : decode M.2.1 pc = .ok (.putfield k, 3)) (hf : gF M.2.2.2.2.1 k = some (ci, f)) (hk : (h.2 a).1 = ci + 1) (ha : gBase E ≤ a) (hn : narrow (gTy ci f) v = v) (hv : fits (gTy ci f) v = true) (hfin : (gT ci f).2.2.2 = false)
    (k : G E l M d mc ms Q (pc + 3) lv st (gSet h a ((h.2 a).1, (h.2 a).2.1, updV (h.2 a).2.2 f v)) uc us) : G E l M d mc ms Q pc lv (v :: .ref a :: st) h uc us := by
  intro p e R s m args below meth c ls H locs X hl hR hlo
  exact g_put X hR hlo hf hk ha hn hv (Or.inl hfin) hd (fun H' locs' hR' hlo' => k p e R s m args below meth c ls H' locs' X hl hR' hlo')
theorem G_putF {a ci f k : Nat} {v : Value} (hd : decode M.2.1 pc = .ok (.putfield k, 3)) (hf : gF M.2.2.2.2.1 k = some (ci, f)) (hk : (h.2 a).1 = ci + 1) (ha : gBase E ≤ a) (hn : narrow (gTy ci f) v = v) (hv : fits (gTy ci f) v = true) (hin : M.1.name = "<init>") (hown : M.2.2.2.2.1 = ci + 1) (hci : ci < 7)
    (k : G E l M d mc ms Q (pc + 3) lv st (gSet h a ((h.2 a).1, (h.2 a).2.1, updV (h.2 a).2.2 f v)) uc us) : G E l M d mc ms Q pc lv (v :: .ref a :: st) h uc us := by
  intro p e R s m args below meth c ls H locs X hl hR hlo
  exact g_put X hR hlo hf hk ha hn hv (Or.inr ⟨hin, hown, hci⟩) hd (fun H' locs' hR' hlo' => k p e R s m args below meth c ls H' locs' X hl hR' hlo')
theorem G_new {k ci : Nat} (hd : decode M.2.1 pc = .ok (.new k, 3)) (hf : gKl M.2.2.2.2.1 k = some ci) (h1 : uc + 1 ≤ mc) (h2 : us + gN ci ≤ ms) (k : G E l M d mc ms Q (pc + 3) lv (.ref h.1 :: st) (gPush h (ci + 1, gN ci, fun f => defaultValue (gTy ci f))) (uc + 1) (us + gN ci)) : G E l M d mc ms Q pc lv st h uc us := by
  intro p e R s m args below meth c ls H locs X hl hR hlo
  exact g_new X hR hf h1 h2 hd (fun H' hR' => k p e R s m args below meth c ls H' locs X hl hR' hlo)
theorem G_newa {ty : ArrayType} {ak : Nat} {x : Int} (hd : decode M.2.1 pc = .ok (.newarray ty, 2)) (hf : gNt ty = some ak) (hx : 0 ≤ x ∧ x ≤ 1000000) (h1 : uc + 1 ≤ mc) (h2 : us + x.toNat ≤ ms) (k : G E l M d mc ms Q (pc + 2) lv (.ref h.1 :: st) (gPush h (ak + 30, x.toNat, fun _ => defaultValue (newarray.typeOf ty))) (uc + 1) (us + x.toNat)) : G E l M d mc ms Q pc lv (vI x :: st) h uc us := by
  intro p e_ R s m args below meth c ls H locs X hl hR hlo
  have e := i32_cl (x := x) (by omega)
  exact g_newa X hR hf (by rw [i32_0, i32_lt (by omega) (by omega)]; omega) (by rw [e]; omega) h1 (by rw [e]; exact h2) hd (fun H' hR' => by rw [e] at hR' ⊢; exact k p e_ R s m args below meth c ls H' locs X hl hR' hlo)
theorem G_anew {k ak : Nat} {x : Int} (hd : decode M.2.1 pc = .ok (.anewarray k, 3)) (hf : gAnew M.2.2.2.2.1 k = some ak) (hx : 0 ≤ x ∧ x ≤ 1000000) (h1 : uc + 1 ≤ mc) (h2 : us + x.toNat ≤ ms) (k : G E l M d mc ms Q (pc + 3) lv (.ref h.1 :: st) (gPush h (ak + 30, x.toNat, fun _ => .null)) (uc + 1) (us + x.toNat)) : G E l M d mc ms Q pc lv (vI x :: st) h uc us := by
  intro p e_ R s m args below meth c ls H locs X hl hR hlo
  have e := i32_cl (x := x) (by omega)
  exact g_anew X hR hf (by rw [i32_0, i32_lt (by omega) (by omega)]; omega) (by rw [e]; omega) h1 (by rw [e]; exact h2) hd (fun H' hR' => by rw [e] at hR' ⊢; exact k p e_ R s m args below meth c ls H' locs X hl hR' hlo)
theorem G_iald {a : Nat} {j : Int} {v : Value} (hd : decode M.2.1 pc = .ok (.iaload, 1)) (hk : (h.2 a).1 ∈ ([31, 36] : List Nat)) (hj : 0 ≤ j ∧ j < ((h.2 a).2.1 : Nat)) (hb : (h.2 a).2.1 ≤ 2147483647) (hv : (h.2 a).2.2 j.toNat = v) (k : G E l M d mc ms Q (pc + 1) lv (v :: st) h uc us) : G E l M d mc ms Q pc lv (vI j :: .ref a :: st) h uc us := by
  intro p e R s m args below meth c ls H locs X hl hR hlo
  subst hv
  have e1 := i32_cl (x := j) (by omega)
  have hin := i32_in (n := (h.2 a).2.1) hj hb
  rw [e1] at hin
  have k := k p e R s m args below meth c ls H locs X hl hR hlo
  rw [← e1] at k hin
  exact g_iald X hR hk hin hd k
theorem G_bald {a : Nat} {j : Int} {v : Value} (hd : decode M.2.1 pc = .ok (.baload, 1)) (hk : (h.2 a).1 ∈ ([30] : List Nat)) (hj : 0 ≤ j ∧ j < ((h.2 a).2.1 : Nat)) (hb : (h.2 a).2.1 ≤ 2147483647) (hv : (h.2 a).2.2 j.toNat = v) (k : G E l M d mc ms Q (pc + 1) lv (v :: st) h uc us) : G E l M d mc ms Q pc lv (vI j :: .ref a :: st) h uc us := by
  intro p e R s m args below meth c ls H locs X hl hR hlo
  subst hv
  have e1 := i32_cl (x := j) (by omega)
  have hin := i32_in (n := (h.2 a).2.1) hj hb
  rw [e1] at hin
  have k := k p e R s m args below meth c ls H locs X hl hR hlo
  rw [← e1] at k hin
  exact g_bald X hR hk hin hd k
theorem G_lald {a : Nat} {j : Int} {v : Value} (hd : decode M.2.1 pc = .ok (.laload, 1)) (hk : (h.2 a).1 ∈ ([32] : List Nat)) (hj : 0 ≤ j ∧ j < ((h.2 a).2.1 : Nat)) (hb : (h.2 a).2.1 ≤ 2147483647) (hv : (h.2 a).2.2 j.toNat = v) (k : G E l M d mc ms Q (pc + 1) lv (v :: st) h uc us) : G E l M d mc ms Q pc lv (vI j :: .ref a :: st) h uc us := by
  intro p e R s m args below meth c ls H locs X hl hR hlo
  subst hv
  have e1 := i32_cl (x := j) (by omega)
  have hin := i32_in (n := (h.2 a).2.1) hj hb
  rw [e1] at hin
  have k := k p e R s m args below meth c ls H locs X hl hR hlo
  rw [← e1] at k hin
  exact g_lald X hR hk hin hd k
theorem G_aald {a : Nat} {j : Int} {v : Value} (hd : decode M.2.1 pc = .ok (.aaload, 1)) (hk : (h.2 a).1 ∈ ([33, 34, 35] : List Nat)) (hj : 0 ≤ j ∧ j < ((h.2 a).2.1 : Nat)) (hb : (h.2 a).2.1 ≤ 2147483647) (hv : (h.2 a).2.2 j.toNat = v) (k : G E l M d mc ms Q (pc + 1) lv (v :: st) h uc us) : G E l M d mc ms Q pc lv (vI j :: .ref a :: st) h uc us := by
  intro p e R s m args below meth c ls H locs X hl hR hlo
  subst hv
  have e1 := i32_cl (x := j) (by omega)
  have hin := i32_in (n := (h.2 a).2.1) hj hb
  rw [e1] at hin
  have k := k p e R s m args below meth c ls H locs X hl hR hlo
  rw [← e1] at k hin
  exact g_aald X hR hk hin hd k
theorem G_alen {a : Nat} (hd : decode M.2.1 pc = .ok (.arraylength, 1)) (hk : (h.2 a).1 ∈ ([30, 31, 32, 33, 34, 35, 36] : List Nat)) (k : G E l M d mc ms Q (pc + 1) lv (vI ((h.2 a).2.1 : Nat) :: st) h uc us) : G E l M d mc ms Q pc lv (.ref a :: st) h uc us := by
  intro p e R s m args below meth c ls H locs X hl hR hlo
  refine g_alen X hR hk hd ?_
  have : Int32.ofNat (h.2 a).2.1 = Int32.ofInt ((h.2 a).2.1 : Nat) := Int32.ofInt_eq_ofNat.symm
  rw [this]
  exact k p e R s m args below meth c ls H locs X hl hR hlo
theorem G_iast {a : Nat} {j : Int} {x : Int} (hd : decode M.2.1 pc = .ok (.iastore, 1)) (hk : (h.2 a).1 = 31) (ha : gBase E ≤ a) (hj : 0 ≤ j ∧ j < ((h.2 a).2.1 : Nat)) (hb : (h.2 a).2.1 ≤ 2147483647) (k : G E l M d mc ms Q (pc + 1) lv st (gSet h a ((h.2 a).1, (h.2 a).2.1, updV (h.2 a).2.2 j.toNat (vI x))) uc us) : G E l M d mc ms Q pc lv (vI x :: vI j :: .ref a :: st) h uc us := by
  intro p e R s m args below meth c ls H locs X hl hR hlo
  have e1 := i32_cl (x := j) (by omega)
  have hin := i32_in (n := (h.2 a).2.1) hj hb
  refine g_iast X hR hlo hk ha hin hd (fun H' locs' hR' hlo' => ?_)
  rw [e1] at hR'
  exact k p e R s m args below meth c ls H' locs' X hl hR' hlo'
theorem G_last {a : Nat} {j : Int} {x : Int} (hd : decode M.2.1 pc = .ok (.lastore, 1)) (hk : (h.2 a).1 = 32) (ha : gBase E ≤ a) (hj : 0 ≤ j ∧ j < ((h.2 a).2.1 : Nat)) (hb : (h.2 a).2.1 ≤ 2147483647) (k : G E l M d mc ms Q (pc + 1) lv st (gSet h a ((h.2 a).1, (h.2 a).2.1, updV (h.2 a).2.2 j.toNat (vJ x))) uc us) : G E l M d mc ms Q pc lv (vJ x :: vI j :: .ref a :: st) h uc us := by
  intro p e R s m args below meth c ls H locs X hl hR hlo
  have e1 := i32_cl (x := j) (by omega)
  have hin := i32_in (n := (h.2 a).2.1) hj hb
  refine g_last X hR hlo hk ha hin hd (fun H' locs' hR' hlo' => ?_)
  rw [e1] at hR'
  exact k p e R s m args below meth c ls H' locs' X hl hR' hlo'
theorem G_bast {a : Nat} {j : Int} {x : Int} (hd : decode M.2.1 pc = .ok (.bastore, 1)) (hk : (h.2 a).1 = 30) (ha : gBase E ≤ a) (hj : 0 ≤ j ∧ j < ((h.2 a).2.1 : Nat)) (hb : (h.2 a).2.1 ≤ 2147483647) (hx : x = 0 ∨ x = 1) (k : G E l M d mc ms Q (pc + 1) lv st (gSet h a ((h.2 a).1, (h.2 a).2.1, updV (h.2 a).2.2 j.toNat (vI x))) uc us) : G E l M d mc ms Q pc lv (vI x :: vI j :: .ref a :: st) h uc us := by
  intro p e R s m args below meth c ls H locs X hl hR hlo
  have e1 := i32_cl (x := j) (by omega)
  have hin := i32_in (n := (h.2 a).2.1) hj hb
  refine g_bast X hR hlo hk ha hin hx hd (fun H' locs' hR' hlo' => ?_)
  rw [e1] at hR'
  exact k p e R s m args below meth c ls H' locs' X hl hR' hlo'
theorem G_aastN {a : Nat} {j : Int} (hd : decode M.2.1 pc = .ok (.aastore, 1)) (hk : (h.2 a).1 ∈ ([33, 34, 35] : List Nat)) (ha : gBase E ≤ a) (hj : 0 ≤ j ∧ j < ((h.2 a).2.1 : Nat)) (hb : (h.2 a).2.1 ≤ 2147483647) (k : G E l M d mc ms Q (pc + 1) lv st (gSet h a ((h.2 a).1, (h.2 a).2.1, updV (h.2 a).2.2 j.toNat .null)) uc us) : G E l M d mc ms Q pc lv (.null :: vI j :: .ref a :: st) h uc us := by
  intro p e R s m args below meth c ls H locs X hl hR hlo
  have e1 := i32_cl (x := j) (by omega)
  have hin := i32_in (n := (h.2 a).2.1) hj hb
  refine g_aastN X hR hlo hk ha hin hd (fun H' locs' hR' hlo' => ?_)
  rw [e1] at hR'
  exact k p e R s m args below meth c ls H' locs' X hl hR' hlo'
theorem G_aast {a b : Nat} {j : Int} (hd : decode M.2.1 pc = .ok (.aastore, 1)) (hk : gFitA (h.2 a).1 (h.2 b).1 = true) (ha : gBase E ≤ a) (hj : 0 ≤ j ∧ j < ((h.2 a).2.1 : Nat)) (hb : (h.2 a).2.1 ≤ 2147483647) (k : G E l M d mc ms Q (pc + 1) lv st (gSet h a ((h.2 a).1, (h.2 a).2.1, updV (h.2 a).2.2 j.toNat (.ref b))) uc us) : G E l M d mc ms Q pc lv (.ref b :: vI j :: .ref a :: st) h uc us := by
  intro p e R s m args below meth c ls H locs X hl hR hlo
  have e1 := i32_cl (x := j) (by omega)
  have hin := i32_in (n := (h.2 a).2.1) hj hb
  refine g_aast X hR hlo hk ha hin hd (fun H' locs' hR' hlo' => ?_)
  rw [e1] at hR'
  exact k p e R s m args below meth c ls H' locs' X hl hR' hlo'
theorem G_cast {a k ci : Nat} (hd : decode M.2.1 pc = .ok (.checkcast k, 3)) (hf : gKl M.2.2.2.2.1 k = some ci) (hk : (h.2 a).1 = ci + 1) (k : G E l M d mc ms Q (pc + 3) lv (.ref a :: st) h uc us) : G E l M d mc ms Q pc lv (.ref a :: st) h uc us := by
  intro p e R s m args below meth c ls H locs X hl hR hlo
  exact g_cast X hR hf hk hd (k p e R s m args below meth c ls H locs X hl hR hlo)
theorem G_castN {k : Nat} (hd : decode M.2.1 pc = .ok (.checkcast k, 3)) (k : G E l M d mc ms Q (pc + 3) lv (.null :: st) h uc us) : G E l M d mc ms Q pc lv (.null :: st) h uc us := by
  intro p e R s m args below meth c ls H locs X hl hR hlo
  exact lv_castN X.1 X.2.1 hd (k p e R s m args below meth c ls H locs X hl hR hlo)
theorem G_objInit {a k : Nat} (hd : decode M.2.1 pc = .ok (.invokespecial k, 3)) (hf : (M.2.2.2.2.1, k) ∈ gOT) (h1 : 1 ≤ d) (hc : gCat st) (k : G E l M d mc ms Q (pc + 3) lv st h uc us) : G E l M d mc ms Q pc lv (.ref a :: st) h uc us := by
  intro p e R s m args below meth c ls H locs X hl hR hlo
  exact g_objInit X hl.1 hf h1 hc hd (k p e R s m args below meth c ls H locs X hl hR hlo)
theorem G_getEmpty (hd : decode M.2.1 pc = .ok (.getstatic 39, 3)) (hm : M.2.2.2.2.1 = 8) (k : G E l M d mc ms Q (pc + 3) lv (.ref (E.2.2.2.2 0) :: st) h uc us) : G E l M d mc ms Q pc lv st h uc us := by
  intro p e R s m args below meth c ls H locs X hl hR hlo
  exact g_getEmpty X hR hm hd (k p e R s m args below meth c ls H locs X hl hR hlo)
theorem G_callV0v {k d' mc' ms' : Nat} {M' : gM} {b : Nat} {Q' : Value → gH → Prop} (hd : decode M.2.1 pc = .ok (.invokevirtual k, 3)) (hC : gC M.2.2.2.2.1 k = some (0, M')) (hk : (h.2 b).1 = M'.2.2.2.2.1) (ho : 1 ≤ M'.2.2.2.2.1 ∧ M'.2.2.2.2.1 ≤ 8) (hn : M'.2.2.2.2.2 = 0) (hM : gOk E l M' d' mc' ms' [.ref b] h (gRv Q')) (hdd : d' + 1 ≤ d) (h1 : uc + mc' ≤ mc) (h2 : us + ms' ≤ ms) (hc : gCat st) (kk : ∀ x h', Q' x h' → G E l M d mc ms Q (pc + 3) lv (x :: st) h' (uc + mc') (us + ms')) : G E l M d mc ms Q pc lv (.ref b :: st) h uc us := by
  intro p e R s m args below meth c ls H locs X hl hR hlo
  refine g_callV X hR hlo (As := []) (rest := st) hC hk ho hn.symm hM hdd h1 h2 hc hl.1 hd (fun v h' H' locs' hR' hq hlo' => ?_)
  obtain ⟨x, rfl, hq⟩ := hq
  exact kk x h' hq p e R s m args below meth c ls H' locs' X hl hR' hlo'
theorem G_callV0u {k d' mc' ms' : Nat} {M' : gM} {b : Nat} {Q' : gH → Prop} (hd : decode M.2.1 pc = .ok (.invokevirtual k, 3)) (hC : gC M.2.2.2.2.1 k = some (0, M')) (hk : (h.2 b).1 = M'.2.2.2.2.1) (ho : 1 ≤ M'.2.2.2.2.1 ∧ M'.2.2.2.2.1 ≤ 8) (hn : M'.2.2.2.2.2 = 0) (hM : gOk E l M' d' mc' ms' [.ref b] h (gRu Q')) (hdd : d' + 1 ≤ d) (h1 : uc + mc' ≤ mc) (h2 : us + ms' ≤ ms) (hc : gCat st) (kk : ∀ h', Q' h' → G E l M d mc ms Q (pc + 3) lv st h' (uc + mc') (us + ms')) : G E l M d mc ms Q pc lv (.ref b :: st) h uc us := by
  intro p e R s m args below meth c ls H locs X hl hR hlo
  refine g_callV X hR hlo (As := []) (rest := st) hC hk ho hn.symm hM hdd h1 h2 hc hl.1 hd (fun v h' H' locs' hR' hq hlo' => ?_)
  obtain ⟨rfl, hq⟩ := hq
  exact kk h' hq p e R s m args below meth c ls H' locs' X hl hR' hlo'
theorem G_callV1v {k d' mc' ms' : Nat} {M' : gM} {b : Nat} {x1 : Value} {Q' : Value → gH → Prop} (hd : decode M.2.1 pc = .ok (.invokevirtual k, 3)) (hC : gC M.2.2.2.2.1 k = some (0, M')) (hk : (h.2 b).1 = M'.2.2.2.2.1) (ho : 1 ≤ M'.2.2.2.2.1 ∧ M'.2.2.2.2.1 ≤ 8) (hn : M'.2.2.2.2.2 = 1) (hM : gOk E l M' d' mc' ms' [.ref b, x1] h (gRv Q')) (hdd : d' + 1 ≤ d) (h1 : uc + mc' ≤ mc) (h2 : us + ms' ≤ ms) (hc : gCat st) (kk : ∀ x h', Q' x h' → G E l M d mc ms Q (pc + 3) lv (x :: st) h' (uc + mc') (us + ms')) : G E l M d mc ms Q pc lv (x1 :: .ref b :: st) h uc us := by
  intro p e R s m args below meth c ls H locs X hl hR hlo
  refine g_callV X hR hlo (As := [x1]) (rest := st) hC hk ho hn.symm hM hdd h1 h2 hc hl.1 hd (fun v h' H' locs' hR' hq hlo' => ?_)
  obtain ⟨x, rfl, hq⟩ := hq
  exact kk x h' hq p e R s m args below meth c ls H' locs' X hl hR' hlo'
theorem G_callV1u {k d' mc' ms' : Nat} {M' : gM} {b : Nat} {x1 : Value} {Q' : gH → Prop} (hd : decode M.2.1 pc = .ok (.invokevirtual k, 3)) (hC : gC M.2.2.2.2.1 k = some (0, M')) (hk : (h.2 b).1 = M'.2.2.2.2.1) (ho : 1 ≤ M'.2.2.2.2.1 ∧ M'.2.2.2.2.1 ≤ 8) (hn : M'.2.2.2.2.2 = 1) (hM : gOk E l M' d' mc' ms' [.ref b, x1] h (gRu Q')) (hdd : d' + 1 ≤ d) (h1 : uc + mc' ≤ mc) (h2 : us + ms' ≤ ms) (hc : gCat st) (kk : ∀ h', Q' h' → G E l M d mc ms Q (pc + 3) lv st h' (uc + mc') (us + ms')) : G E l M d mc ms Q pc lv (x1 :: .ref b :: st) h uc us := by
  intro p e R s m args below meth c ls H locs X hl hR hlo
  refine g_callV X hR hlo (As := [x1]) (rest := st) hC hk ho hn.symm hM hdd h1 h2 hc hl.1 hd (fun v h' H' locs' hR' hq hlo' => ?_)
  obtain ⟨rfl, hq⟩ := hq
  exact kk h' hq p e R s m args below meth c ls H' locs' X hl hR' hlo'
theorem G_callV2v {k d' mc' ms' : Nat} {M' : gM} {b : Nat} {x1 x2 : Value} {Q' : Value → gH → Prop} (hd : decode M.2.1 pc = .ok (.invokevirtual k, 3)) (hC : gC M.2.2.2.2.1 k = some (0, M')) (hk : (h.2 b).1 = M'.2.2.2.2.1) (ho : 1 ≤ M'.2.2.2.2.1 ∧ M'.2.2.2.2.1 ≤ 8) (hn : M'.2.2.2.2.2 = 2) (hM : gOk E l M' d' mc' ms' [.ref b, x1, x2] h (gRv Q')) (hdd : d' + 1 ≤ d) (h1 : uc + mc' ≤ mc) (h2 : us + ms' ≤ ms) (hc : gCat st) (kk : ∀ x h', Q' x h' → G E l M d mc ms Q (pc + 3) lv (x :: st) h' (uc + mc') (us + ms')) : G E l M d mc ms Q pc lv (x2 :: x1 :: .ref b :: st) h uc us := by
  intro p e R s m args below meth c ls H locs X hl hR hlo
  refine g_callV X hR hlo (As := [x1, x2]) (rest := st) hC hk ho hn.symm hM hdd h1 h2 hc hl.1 hd (fun v h' H' locs' hR' hq hlo' => ?_)
  obtain ⟨x, rfl, hq⟩ := hq
  exact kk x h' hq p e R s m args below meth c ls H' locs' X hl hR' hlo'
theorem G_callV2u {k d' mc' ms' : Nat} {M' : gM} {b : Nat} {x1 x2 : Value} {Q' : gH → Prop} (hd : decode M.2.1 pc = .ok (.invokevirtual k, 3)) (hC : gC M.2.2.2.2.1 k = some (0, M')) (hk : (h.2 b).1 = M'.2.2.2.2.1) (ho : 1 ≤ M'.2.2.2.2.1 ∧ M'.2.2.2.2.1 ≤ 8) (hn : M'.2.2.2.2.2 = 2) (hM : gOk E l M' d' mc' ms' [.ref b, x1, x2] h (gRu Q')) (hdd : d' + 1 ≤ d) (h1 : uc + mc' ≤ mc) (h2 : us + ms' ≤ ms) (hc : gCat st) (kk : ∀ h', Q' h' → G E l M d mc ms Q (pc + 3) lv st h' (uc + mc') (us + ms')) : G E l M d mc ms Q pc lv (x2 :: x1 :: .ref b :: st) h uc us := by
  intro p e R s m args below meth c ls H locs X hl hR hlo
  refine g_callV X hR hlo (As := [x1, x2]) (rest := st) hC hk ho hn.symm hM hdd h1 h2 hc hl.1 hd (fun v h' H' locs' hR' hq hlo' => ?_)
  obtain ⟨rfl, hq⟩ := hq
  exact kk h' hq p e R s m args below meth c ls H' locs' X hl hR' hlo'
theorem G_callV3v {k d' mc' ms' : Nat} {M' : gM} {b : Nat} {x1 x2 x3 : Value} {Q' : Value → gH → Prop} (hd : decode M.2.1 pc = .ok (.invokevirtual k, 3)) (hC : gC M.2.2.2.2.1 k = some (0, M')) (hk : (h.2 b).1 = M'.2.2.2.2.1) (ho : 1 ≤ M'.2.2.2.2.1 ∧ M'.2.2.2.2.1 ≤ 8) (hn : M'.2.2.2.2.2 = 3) (hM : gOk E l M' d' mc' ms' [.ref b, x1, x2, x3] h (gRv Q')) (hdd : d' + 1 ≤ d) (h1 : uc + mc' ≤ mc) (h2 : us + ms' ≤ ms) (hc : gCat st) (kk : ∀ x h', Q' x h' → G E l M d mc ms Q (pc + 3) lv (x :: st) h' (uc + mc') (us + ms')) : G E l M d mc ms Q pc lv (x3 :: x2 :: x1 :: .ref b :: st) h uc us := by
  intro p e R s m args below meth c ls H locs X hl hR hlo
  refine g_callV X hR hlo (As := [x1, x2, x3]) (rest := st) hC hk ho hn.symm hM hdd h1 h2 hc hl.1 hd (fun v h' H' locs' hR' hq hlo' => ?_)
  obtain ⟨x, rfl, hq⟩ := hq
  exact kk x h' hq p e R s m args below meth c ls H' locs' X hl hR' hlo'
theorem G_callV3u {k d' mc' ms' : Nat} {M' : gM} {b : Nat} {x1 x2 x3 : Value} {Q' : gH → Prop} (hd : decode M.2.1 pc = .ok (.invokevirtual k, 3)) (hC : gC M.2.2.2.2.1 k = some (0, M')) (hk : (h.2 b).1 = M'.2.2.2.2.1) (ho : 1 ≤ M'.2.2.2.2.1 ∧ M'.2.2.2.2.1 ≤ 8) (hn : M'.2.2.2.2.2 = 3) (hM : gOk E l M' d' mc' ms' [.ref b, x1, x2, x3] h (gRu Q')) (hdd : d' + 1 ≤ d) (h1 : uc + mc' ≤ mc) (h2 : us + ms' ≤ ms) (hc : gCat st) (kk : ∀ h', Q' h' → G E l M d mc ms Q (pc + 3) lv st h' (uc + mc') (us + ms')) : G E l M d mc ms Q pc lv (x3 :: x2 :: x1 :: .ref b :: st) h uc us := by
  intro p e R s m args below meth c ls H locs X hl hR hlo
  refine g_callV X hR hlo (As := [x1, x2, x3]) (rest := st) hC hk ho hn.symm hM hdd h1 h2 hc hl.1 hd (fun v h' H' locs' hR' hq hlo' => ?_)
  obtain ⟨rfl, hq⟩ := hq
  exact kk h' hq p e R s m args below meth c ls H' locs' X hl hR' hlo'
theorem G_callV4v {k d' mc' ms' : Nat} {M' : gM} {b : Nat} {x1 x2 x3 x4 : Value} {Q' : Value → gH → Prop} (hd : decode M.2.1 pc = .ok (.invokevirtual k, 3)) (hC : gC M.2.2.2.2.1 k = some (0, M')) (hk : (h.2 b).1 = M'.2.2.2.2.1) (ho : 1 ≤ M'.2.2.2.2.1 ∧ M'.2.2.2.2.1 ≤ 8) (hn : M'.2.2.2.2.2 = 4) (hM : gOk E l M' d' mc' ms' [.ref b, x1, x2, x3, x4] h (gRv Q')) (hdd : d' + 1 ≤ d) (h1 : uc + mc' ≤ mc) (h2 : us + ms' ≤ ms) (hc : gCat st) (kk : ∀ x h', Q' x h' → G E l M d mc ms Q (pc + 3) lv (x :: st) h' (uc + mc') (us + ms')) : G E l M d mc ms Q pc lv (x4 :: x3 :: x2 :: x1 :: .ref b :: st) h uc us := by
  intro p e R s m args below meth c ls H locs X hl hR hlo
  refine g_callV X hR hlo (As := [x1, x2, x3, x4]) (rest := st) hC hk ho hn.symm hM hdd h1 h2 hc hl.1 hd (fun v h' H' locs' hR' hq hlo' => ?_)
  obtain ⟨x, rfl, hq⟩ := hq
  exact kk x h' hq p e R s m args below meth c ls H' locs' X hl hR' hlo'
theorem G_callV4u {k d' mc' ms' : Nat} {M' : gM} {b : Nat} {x1 x2 x3 x4 : Value} {Q' : gH → Prop} (hd : decode M.2.1 pc = .ok (.invokevirtual k, 3)) (hC : gC M.2.2.2.2.1 k = some (0, M')) (hk : (h.2 b).1 = M'.2.2.2.2.1) (ho : 1 ≤ M'.2.2.2.2.1 ∧ M'.2.2.2.2.1 ≤ 8) (hn : M'.2.2.2.2.2 = 4) (hM : gOk E l M' d' mc' ms' [.ref b, x1, x2, x3, x4] h (gRu Q')) (hdd : d' + 1 ≤ d) (h1 : uc + mc' ≤ mc) (h2 : us + ms' ≤ ms) (hc : gCat st) (kk : ∀ h', Q' h' → G E l M d mc ms Q (pc + 3) lv st h' (uc + mc') (us + ms')) : G E l M d mc ms Q pc lv (x4 :: x3 :: x2 :: x1 :: .ref b :: st) h uc us := by
  intro p e R s m args below meth c ls H locs X hl hR hlo
  refine g_callV X hR hlo (As := [x1, x2, x3, x4]) (rest := st) hC hk ho hn.symm hM hdd h1 h2 hc hl.1 hd (fun v h' H' locs' hR' hq hlo' => ?_)
  obtain ⟨rfl, hq⟩ := hq
  exact kk h' hq p e R s m args below meth c ls H' locs' X hl hR' hlo'
theorem G_callV5v {k d' mc' ms' : Nat} {M' : gM} {b : Nat} {x1 x2 x3 x4 x5 : Value} {Q' : Value → gH → Prop} (hd : decode M.2.1 pc = .ok (.invokevirtual k, 3)) (hC : gC M.2.2.2.2.1 k = some (0, M')) (hk : (h.2 b).1 = M'.2.2.2.2.1) (ho : 1 ≤ M'.2.2.2.2.1 ∧ M'.2.2.2.2.1 ≤ 8) (hn : M'.2.2.2.2.2 = 5) (hM : gOk E l M' d' mc' ms' [.ref b, x1, x2, x3, x4, x5] h (gRv Q')) (hdd : d' + 1 ≤ d) (h1 : uc + mc' ≤ mc) (h2 : us + ms' ≤ ms) (hc : gCat st) (kk : ∀ x h', Q' x h' → G E l M d mc ms Q (pc + 3) lv (x :: st) h' (uc + mc') (us + ms')) : G E l M d mc ms Q pc lv (x5 :: x4 :: x3 :: x2 :: x1 :: .ref b :: st) h uc us := by
  intro p e R s m args below meth c ls H locs X hl hR hlo
  refine g_callV X hR hlo (As := [x1, x2, x3, x4, x5]) (rest := st) hC hk ho hn.symm hM hdd h1 h2 hc hl.1 hd (fun v h' H' locs' hR' hq hlo' => ?_)
  obtain ⟨x, rfl, hq⟩ := hq
  exact kk x h' hq p e R s m args below meth c ls H' locs' X hl hR' hlo'
theorem G_callV5u {k d' mc' ms' : Nat} {M' : gM} {b : Nat} {x1 x2 x3 x4 x5 : Value} {Q' : gH → Prop} (hd : decode M.2.1 pc = .ok (.invokevirtual k, 3)) (hC : gC M.2.2.2.2.1 k = some (0, M')) (hk : (h.2 b).1 = M'.2.2.2.2.1) (ho : 1 ≤ M'.2.2.2.2.1 ∧ M'.2.2.2.2.1 ≤ 8) (hn : M'.2.2.2.2.2 = 5) (hM : gOk E l M' d' mc' ms' [.ref b, x1, x2, x3, x4, x5] h (gRu Q')) (hdd : d' + 1 ≤ d) (h1 : uc + mc' ≤ mc) (h2 : us + ms' ≤ ms) (hc : gCat st) (kk : ∀ h', Q' h' → G E l M d mc ms Q (pc + 3) lv st h' (uc + mc') (us + ms')) : G E l M d mc ms Q pc lv (x5 :: x4 :: x3 :: x2 :: x1 :: .ref b :: st) h uc us := by
  intro p e R s m args below meth c ls H locs X hl hR hlo
  refine g_callV X hR hlo (As := [x1, x2, x3, x4, x5]) (rest := st) hC hk ho hn.symm hM hdd h1 h2 hc hl.1 hd (fun v h' H' locs' hR' hq hlo' => ?_)
  obtain ⟨rfl, hq⟩ := hq
  exact kk h' hq p e R s m args below meth c ls H' locs' X hl hR' hlo'
theorem G_callS1v {k d' mc' ms' : Nat} {M' : gM} {x1 : Value} {Q' : Value → gH → Prop} (hd : decode M.2.1 pc = .ok (.invokestatic k, 3)) (hC : gC M.2.2.2.2.1 k = some (1, M')) (hn : M'.2.2.2.2.2 = 1) (hM : gOk E l M' d' mc' ms' [x1] h (gRv Q')) (hdd : d' + 1 ≤ d) (h1 : uc + mc' ≤ mc) (h2 : us + ms' ≤ ms) (hc : gCat st) (kk : ∀ x h', Q' x h' → G E l M d mc ms Q (pc + 3) lv (x :: st) h' (uc + mc') (us + ms')) : G E l M d mc ms Q pc lv (x1 :: st) h uc us := by
  intro p e R s m args below meth c ls H locs X hl hR hlo
  refine g_callS X hR hlo (As := [x1]) (rest := st) hC hn.symm hM hdd h1 h2 hc hl.1 hd (fun v h' H' locs' hR' hq hlo' => ?_)
  obtain ⟨x, rfl, hq⟩ := hq
  exact kk x h' hq p e R s m args below meth c ls H' locs' X hl hR' hlo'
theorem G_callS1u {k d' mc' ms' : Nat} {M' : gM} {x1 : Value} {Q' : gH → Prop} (hd : decode M.2.1 pc = .ok (.invokestatic k, 3)) (hC : gC M.2.2.2.2.1 k = some (1, M')) (hn : M'.2.2.2.2.2 = 1) (hM : gOk E l M' d' mc' ms' [x1] h (gRu Q')) (hdd : d' + 1 ≤ d) (h1 : uc + mc' ≤ mc) (h2 : us + ms' ≤ ms) (hc : gCat st) (kk : ∀ h', Q' h' → G E l M d mc ms Q (pc + 3) lv st h' (uc + mc') (us + ms')) : G E l M d mc ms Q pc lv (x1 :: st) h uc us := by
  intro p e R s m args below meth c ls H locs X hl hR hlo
  refine g_callS X hR hlo (As := [x1]) (rest := st) hC hn.symm hM hdd h1 h2 hc hl.1 hd (fun v h' H' locs' hR' hq hlo' => ?_)
  obtain ⟨rfl, hq⟩ := hq
  exact kk h' hq p e R s m args below meth c ls H' locs' X hl hR' hlo'
theorem G_callS2v {k d' mc' ms' : Nat} {M' : gM} {x1 x2 : Value} {Q' : Value → gH → Prop} (hd : decode M.2.1 pc = .ok (.invokestatic k, 3)) (hC : gC M.2.2.2.2.1 k = some (1, M')) (hn : M'.2.2.2.2.2 = 2) (hM : gOk E l M' d' mc' ms' [x1, x2] h (gRv Q')) (hdd : d' + 1 ≤ d) (h1 : uc + mc' ≤ mc) (h2 : us + ms' ≤ ms) (hc : gCat st) (kk : ∀ x h', Q' x h' → G E l M d mc ms Q (pc + 3) lv (x :: st) h' (uc + mc') (us + ms')) : G E l M d mc ms Q pc lv (x2 :: x1 :: st) h uc us := by
  intro p e R s m args below meth c ls H locs X hl hR hlo
  refine g_callS X hR hlo (As := [x1, x2]) (rest := st) hC hn.symm hM hdd h1 h2 hc hl.1 hd (fun v h' H' locs' hR' hq hlo' => ?_)
  obtain ⟨x, rfl, hq⟩ := hq
  exact kk x h' hq p e R s m args below meth c ls H' locs' X hl hR' hlo'
theorem G_callS2u {k d' mc' ms' : Nat} {M' : gM} {x1 x2 : Value} {Q' : gH → Prop} (hd : decode M.2.1 pc = .ok (.invokestatic k, 3)) (hC : gC M.2.2.2.2.1 k = some (1, M')) (hn : M'.2.2.2.2.2 = 2) (hM : gOk E l M' d' mc' ms' [x1, x2] h (gRu Q')) (hdd : d' + 1 ≤ d) (h1 : uc + mc' ≤ mc) (h2 : us + ms' ≤ ms) (hc : gCat st) (kk : ∀ h', Q' h' → G E l M d mc ms Q (pc + 3) lv st h' (uc + mc') (us + ms')) : G E l M d mc ms Q pc lv (x2 :: x1 :: st) h uc us := by
  intro p e R s m args below meth c ls H locs X hl hR hlo
  refine g_callS X hR hlo (As := [x1, x2]) (rest := st) hC hn.symm hM hdd h1 h2 hc hl.1 hd (fun v h' H' locs' hR' hq hlo' => ?_)
  obtain ⟨rfl, hq⟩ := hq
  exact kk h' hq p e R s m args below meth c ls H' locs' X hl hR' hlo'
theorem G_callS3v {k d' mc' ms' : Nat} {M' : gM} {x1 x2 x3 : Value} {Q' : Value → gH → Prop} (hd : decode M.2.1 pc = .ok (.invokestatic k, 3)) (hC : gC M.2.2.2.2.1 k = some (1, M')) (hn : M'.2.2.2.2.2 = 3) (hM : gOk E l M' d' mc' ms' [x1, x2, x3] h (gRv Q')) (hdd : d' + 1 ≤ d) (h1 : uc + mc' ≤ mc) (h2 : us + ms' ≤ ms) (hc : gCat st) (kk : ∀ x h', Q' x h' → G E l M d mc ms Q (pc + 3) lv (x :: st) h' (uc + mc') (us + ms')) : G E l M d mc ms Q pc lv (x3 :: x2 :: x1 :: st) h uc us := by
  intro p e R s m args below meth c ls H locs X hl hR hlo
  refine g_callS X hR hlo (As := [x1, x2, x3]) (rest := st) hC hn.symm hM hdd h1 h2 hc hl.1 hd (fun v h' H' locs' hR' hq hlo' => ?_)
  obtain ⟨x, rfl, hq⟩ := hq
  exact kk x h' hq p e R s m args below meth c ls H' locs' X hl hR' hlo'
theorem G_callS3u {k d' mc' ms' : Nat} {M' : gM} {x1 x2 x3 : Value} {Q' : gH → Prop} (hd : decode M.2.1 pc = .ok (.invokestatic k, 3)) (hC : gC M.2.2.2.2.1 k = some (1, M')) (hn : M'.2.2.2.2.2 = 3) (hM : gOk E l M' d' mc' ms' [x1, x2, x3] h (gRu Q')) (hdd : d' + 1 ≤ d) (h1 : uc + mc' ≤ mc) (h2 : us + ms' ≤ ms) (hc : gCat st) (kk : ∀ h', Q' h' → G E l M d mc ms Q (pc + 3) lv st h' (uc + mc') (us + ms')) : G E l M d mc ms Q pc lv (x3 :: x2 :: x1 :: st) h uc us := by
  intro p e R s m args below meth c ls H locs X hl hR hlo
  refine g_callS X hR hlo (As := [x1, x2, x3]) (rest := st) hC hn.symm hM hdd h1 h2 hc hl.1 hd (fun v h' H' locs' hR' hq hlo' => ?_)
  obtain ⟨rfl, hq⟩ := hq
  exact kk h' hq p e R s m args below meth c ls H' locs' X hl hR' hlo'
theorem G_callS4v {k d' mc' ms' : Nat} {M' : gM} {x1 x2 x3 x4 : Value} {Q' : Value → gH → Prop} (hd : decode M.2.1 pc = .ok (.invokestatic k, 3)) (hC : gC M.2.2.2.2.1 k = some (1, M')) (hn : M'.2.2.2.2.2 = 4) (hM : gOk E l M' d' mc' ms' [x1, x2, x3, x4] h (gRv Q')) (hdd : d' + 1 ≤ d) (h1 : uc + mc' ≤ mc) (h2 : us + ms' ≤ ms) (hc : gCat st) (kk : ∀ x h', Q' x h' → G E l M d mc ms Q (pc + 3) lv (x :: st) h' (uc + mc') (us + ms')) : G E l M d mc ms Q pc lv (x4 :: x3 :: x2 :: x1 :: st) h uc us := by
  intro p e R s m args below meth c ls H locs X hl hR hlo
  refine g_callS X hR hlo (As := [x1, x2, x3, x4]) (rest := st) hC hn.symm hM hdd h1 h2 hc hl.1 hd (fun v h' H' locs' hR' hq hlo' => ?_)
  obtain ⟨x, rfl, hq⟩ := hq
  exact kk x h' hq p e R s m args below meth c ls H' locs' X hl hR' hlo'
theorem G_callS4u {k d' mc' ms' : Nat} {M' : gM} {x1 x2 x3 x4 : Value} {Q' : gH → Prop} (hd : decode M.2.1 pc = .ok (.invokestatic k, 3)) (hC : gC M.2.2.2.2.1 k = some (1, M')) (hn : M'.2.2.2.2.2 = 4) (hM : gOk E l M' d' mc' ms' [x1, x2, x3, x4] h (gRu Q')) (hdd : d' + 1 ≤ d) (h1 : uc + mc' ≤ mc) (h2 : us + ms' ≤ ms) (hc : gCat st) (kk : ∀ h', Q' h' → G E l M d mc ms Q (pc + 3) lv st h' (uc + mc') (us + ms')) : G E l M d mc ms Q pc lv (x4 :: x3 :: x2 :: x1 :: st) h uc us := by
  intro p e R s m args below meth c ls H locs X hl hR hlo
  refine g_callS X hR hlo (As := [x1, x2, x3, x4]) (rest := st) hC hn.symm hM hdd h1 h2 hc hl.1 hd (fun v h' H' locs' hR' hq hlo' => ?_)
  obtain ⟨rfl, hq⟩ := hq
  exact kk h' hq p e R s m args below meth c ls H' locs' X hl hR' hlo'
theorem G_callS5v {k d' mc' ms' : Nat} {M' : gM} {x1 x2 x3 x4 x5 : Value} {Q' : Value → gH → Prop} (hd : decode M.2.1 pc = .ok (.invokestatic k, 3)) (hC : gC M.2.2.2.2.1 k = some (1, M')) (hn : M'.2.2.2.2.2 = 5) (hM : gOk E l M' d' mc' ms' [x1, x2, x3, x4, x5] h (gRv Q')) (hdd : d' + 1 ≤ d) (h1 : uc + mc' ≤ mc) (h2 : us + ms' ≤ ms) (hc : gCat st) (kk : ∀ x h', Q' x h' → G E l M d mc ms Q (pc + 3) lv (x :: st) h' (uc + mc') (us + ms')) : G E l M d mc ms Q pc lv (x5 :: x4 :: x3 :: x2 :: x1 :: st) h uc us := by
  intro p e R s m args below meth c ls H locs X hl hR hlo
  refine g_callS X hR hlo (As := [x1, x2, x3, x4, x5]) (rest := st) hC hn.symm hM hdd h1 h2 hc hl.1 hd (fun v h' H' locs' hR' hq hlo' => ?_)
  obtain ⟨x, rfl, hq⟩ := hq
  exact kk x h' hq p e R s m args below meth c ls H' locs' X hl hR' hlo'
theorem G_callS5u {k d' mc' ms' : Nat} {M' : gM} {x1 x2 x3 x4 x5 : Value} {Q' : gH → Prop} (hd : decode M.2.1 pc = .ok (.invokestatic k, 3)) (hC : gC M.2.2.2.2.1 k = some (1, M')) (hn : M'.2.2.2.2.2 = 5) (hM : gOk E l M' d' mc' ms' [x1, x2, x3, x4, x5] h (gRu Q')) (hdd : d' + 1 ≤ d) (h1 : uc + mc' ≤ mc) (h2 : us + ms' ≤ ms) (hc : gCat st) (kk : ∀ h', Q' h' → G E l M d mc ms Q (pc + 3) lv st h' (uc + mc') (us + ms')) : G E l M d mc ms Q pc lv (x5 :: x4 :: x3 :: x2 :: x1 :: st) h uc us := by
  intro p e R s m args below meth c ls H locs X hl hR hlo
  refine g_callS X hR hlo (As := [x1, x2, x3, x4, x5]) (rest := st) hC hn.symm hM hdd h1 h2 hc hl.1 hd (fun v h' H' locs' hR' hq hlo' => ?_)
  obtain ⟨rfl, hq⟩ := hq
  exact kk h' hq p e R s m args below meth c ls H' locs' X hl hR' hlo'
theorem G_callS6v {k d' mc' ms' : Nat} {M' : gM} {x1 x2 x3 x4 x5 x6 : Value} {Q' : Value → gH → Prop} (hd : decode M.2.1 pc = .ok (.invokestatic k, 3)) (hC : gC M.2.2.2.2.1 k = some (1, M')) (hn : M'.2.2.2.2.2 = 6) (hM : gOk E l M' d' mc' ms' [x1, x2, x3, x4, x5, x6] h (gRv Q')) (hdd : d' + 1 ≤ d) (h1 : uc + mc' ≤ mc) (h2 : us + ms' ≤ ms) (hc : gCat st) (kk : ∀ x h', Q' x h' → G E l M d mc ms Q (pc + 3) lv (x :: st) h' (uc + mc') (us + ms')) : G E l M d mc ms Q pc lv (x6 :: x5 :: x4 :: x3 :: x2 :: x1 :: st) h uc us := by
  intro p e R s m args below meth c ls H locs X hl hR hlo
  refine g_callS X hR hlo (As := [x1, x2, x3, x4, x5, x6]) (rest := st) hC hn.symm hM hdd h1 h2 hc hl.1 hd (fun v h' H' locs' hR' hq hlo' => ?_)
  obtain ⟨x, rfl, hq⟩ := hq
  exact kk x h' hq p e R s m args below meth c ls H' locs' X hl hR' hlo'
theorem G_callS6u {k d' mc' ms' : Nat} {M' : gM} {x1 x2 x3 x4 x5 x6 : Value} {Q' : gH → Prop} (hd : decode M.2.1 pc = .ok (.invokestatic k, 3)) (hC : gC M.2.2.2.2.1 k = some (1, M')) (hn : M'.2.2.2.2.2 = 6) (hM : gOk E l M' d' mc' ms' [x1, x2, x3, x4, x5, x6] h (gRu Q')) (hdd : d' + 1 ≤ d) (h1 : uc + mc' ≤ mc) (h2 : us + ms' ≤ ms) (hc : gCat st) (kk : ∀ h', Q' h' → G E l M d mc ms Q (pc + 3) lv st h' (uc + mc') (us + ms')) : G E l M d mc ms Q pc lv (x6 :: x5 :: x4 :: x3 :: x2 :: x1 :: st) h uc us := by
  intro p e R s m args below meth c ls H locs X hl hR hlo
  refine g_callS X hR hlo (As := [x1, x2, x3, x4, x5, x6]) (rest := st) hC hn.symm hM hdd h1 h2 hc hl.1 hd (fun v h' H' locs' hR' hq hlo' => ?_)
  obtain ⟨rfl, hq⟩ := hq
  exact kk h' hq p e R s m args below meth c ls H' locs' X hl hR' hlo'
theorem G_callT1v {k d' mc' ms' : Nat} {M' : gM} {x1 : Value} {Q' : Value → gH → Prop} (hd : decode M.2.1 pc = .ok (.invokestatic k, 3)) (hC : gC M.2.2.2.2.1 k = some (3, M')) (hn : M'.2.2.2.2.2 = 1) (hM : gOk E l M' d' mc' ms' [x1] h (gRv Q')) (hdd : d' + 1 ≤ d) (h1 : uc + mc' ≤ mc) (h2 : us + ms' ≤ ms) (hc : gCat st) (kk : ∀ x h', Q' x h' → G E l M d mc ms Q (pc + 3) lv (x :: st) h' (uc + mc') (us + ms')) : G E l M d mc ms Q pc lv (x1 :: st) h uc us := by
  intro p e R s m args below meth c ls H locs X hl hR hlo
  refine g_callT X hR hlo (As := [x1]) (rest := st) hC hn.symm hM hdd h1 h2 hc hl.1 hd (fun v h' H' locs' hR' hq hlo' => ?_)
  obtain ⟨x, rfl, hq⟩ := hq
  exact kk x h' hq p e R s m args below meth c ls H' locs' X hl hR' hlo'
theorem G_callT1u {k d' mc' ms' : Nat} {M' : gM} {x1 : Value} {Q' : gH → Prop} (hd : decode M.2.1 pc = .ok (.invokestatic k, 3)) (hC : gC M.2.2.2.2.1 k = some (3, M')) (hn : M'.2.2.2.2.2 = 1) (hM : gOk E l M' d' mc' ms' [x1] h (gRu Q')) (hdd : d' + 1 ≤ d) (h1 : uc + mc' ≤ mc) (h2 : us + ms' ≤ ms) (hc : gCat st) (kk : ∀ h', Q' h' → G E l M d mc ms Q (pc + 3) lv st h' (uc + mc') (us + ms')) : G E l M d mc ms Q pc lv (x1 :: st) h uc us := by
  intro p e R s m args below meth c ls H locs X hl hR hlo
  refine g_callT X hR hlo (As := [x1]) (rest := st) hC hn.symm hM hdd h1 h2 hc hl.1 hd (fun v h' H' locs' hR' hq hlo' => ?_)
  obtain ⟨rfl, hq⟩ := hq
  exact kk h' hq p e R s m args below meth c ls H' locs' X hl hR' hlo'
theorem G_callT2v {k d' mc' ms' : Nat} {M' : gM} {x1 x2 : Value} {Q' : Value → gH → Prop} (hd : decode M.2.1 pc = .ok (.invokestatic k, 3)) (hC : gC M.2.2.2.2.1 k = some (3, M')) (hn : M'.2.2.2.2.2 = 2) (hM : gOk E l M' d' mc' ms' [x1, x2] h (gRv Q')) (hdd : d' + 1 ≤ d) (h1 : uc + mc' ≤ mc) (h2 : us + ms' ≤ ms) (hc : gCat st) (kk : ∀ x h', Q' x h' → G E l M d mc ms Q (pc + 3) lv (x :: st) h' (uc + mc') (us + ms')) : G E l M d mc ms Q pc lv (x2 :: x1 :: st) h uc us := by
  intro p e R s m args below meth c ls H locs X hl hR hlo
  refine g_callT X hR hlo (As := [x1, x2]) (rest := st) hC hn.symm hM hdd h1 h2 hc hl.1 hd (fun v h' H' locs' hR' hq hlo' => ?_)
  obtain ⟨x, rfl, hq⟩ := hq
  exact kk x h' hq p e R s m args below meth c ls H' locs' X hl hR' hlo'
theorem G_callT2u {k d' mc' ms' : Nat} {M' : gM} {x1 x2 : Value} {Q' : gH → Prop} (hd : decode M.2.1 pc = .ok (.invokestatic k, 3)) (hC : gC M.2.2.2.2.1 k = some (3, M')) (hn : M'.2.2.2.2.2 = 2) (hM : gOk E l M' d' mc' ms' [x1, x2] h (gRu Q')) (hdd : d' + 1 ≤ d) (h1 : uc + mc' ≤ mc) (h2 : us + ms' ≤ ms) (hc : gCat st) (kk : ∀ h', Q' h' → G E l M d mc ms Q (pc + 3) lv st h' (uc + mc') (us + ms')) : G E l M d mc ms Q pc lv (x2 :: x1 :: st) h uc us := by
  intro p e R s m args below meth c ls H locs X hl hR hlo
  refine g_callT X hR hlo (As := [x1, x2]) (rest := st) hC hn.symm hM hdd h1 h2 hc hl.1 hd (fun v h' H' locs' hR' hq hlo' => ?_)
  obtain ⟨rfl, hq⟩ := hq
  exact kk h' hq p e R s m args below meth c ls H' locs' X hl hR' hlo'
theorem G_callT3v {k d' mc' ms' : Nat} {M' : gM} {x1 x2 x3 : Value} {Q' : Value → gH → Prop} (hd : decode M.2.1 pc = .ok (.invokestatic k, 3)) (hC : gC M.2.2.2.2.1 k = some (3, M')) (hn : M'.2.2.2.2.2 = 3) (hM : gOk E l M' d' mc' ms' [x1, x2, x3] h (gRv Q')) (hdd : d' + 1 ≤ d) (h1 : uc + mc' ≤ mc) (h2 : us + ms' ≤ ms) (hc : gCat st) (kk : ∀ x h', Q' x h' → G E l M d mc ms Q (pc + 3) lv (x :: st) h' (uc + mc') (us + ms')) : G E l M d mc ms Q pc lv (x3 :: x2 :: x1 :: st) h uc us := by
  intro p e R s m args below meth c ls H locs X hl hR hlo
  refine g_callT X hR hlo (As := [x1, x2, x3]) (rest := st) hC hn.symm hM hdd h1 h2 hc hl.1 hd (fun v h' H' locs' hR' hq hlo' => ?_)
  obtain ⟨x, rfl, hq⟩ := hq
  exact kk x h' hq p e R s m args below meth c ls H' locs' X hl hR' hlo'
theorem G_callT3u {k d' mc' ms' : Nat} {M' : gM} {x1 x2 x3 : Value} {Q' : gH → Prop} (hd : decode M.2.1 pc = .ok (.invokestatic k, 3)) (hC : gC M.2.2.2.2.1 k = some (3, M')) (hn : M'.2.2.2.2.2 = 3) (hM : gOk E l M' d' mc' ms' [x1, x2, x3] h (gRu Q')) (hdd : d' + 1 ≤ d) (h1 : uc + mc' ≤ mc) (h2 : us + ms' ≤ ms) (hc : gCat st) (kk : ∀ h', Q' h' → G E l M d mc ms Q (pc + 3) lv st h' (uc + mc') (us + ms')) : G E l M d mc ms Q pc lv (x3 :: x2 :: x1 :: st) h uc us := by
  intro p e R s m args below meth c ls H locs X hl hR hlo
  refine g_callT X hR hlo (As := [x1, x2, x3]) (rest := st) hC hn.symm hM hdd h1 h2 hc hl.1 hd (fun v h' H' locs' hR' hq hlo' => ?_)
  obtain ⟨rfl, hq⟩ := hq
  exact kk h' hq p e R s m args below meth c ls H' locs' X hl hR' hlo'
theorem G_callT4v {k d' mc' ms' : Nat} {M' : gM} {x1 x2 x3 x4 : Value} {Q' : Value → gH → Prop} (hd : decode M.2.1 pc = .ok (.invokestatic k, 3)) (hC : gC M.2.2.2.2.1 k = some (3, M')) (hn : M'.2.2.2.2.2 = 4) (hM : gOk E l M' d' mc' ms' [x1, x2, x3, x4] h (gRv Q')) (hdd : d' + 1 ≤ d) (h1 : uc + mc' ≤ mc) (h2 : us + ms' ≤ ms) (hc : gCat st) (kk : ∀ x h', Q' x h' → G E l M d mc ms Q (pc + 3) lv (x :: st) h' (uc + mc') (us + ms')) : G E l M d mc ms Q pc lv (x4 :: x3 :: x2 :: x1 :: st) h uc us := by
  intro p e R s m args below meth c ls H locs X hl hR hlo
  refine g_callT X hR hlo (As := [x1, x2, x3, x4]) (rest := st) hC hn.symm hM hdd h1 h2 hc hl.1 hd (fun v h' H' locs' hR' hq hlo' => ?_)
  obtain ⟨x, rfl, hq⟩ := hq
  exact kk x h' hq p e R s m args below meth c ls H' locs' X hl hR' hlo'
theorem G_callT4u {k d' mc' ms' : Nat} {M' : gM} {x1 x2 x3 x4 : Value} {Q' : gH → Prop} (hd : decode M.2.1 pc = .ok (.invokestatic k, 3)) (hC : gC M.2.2.2.2.1 k = some (3, M')) (hn : M'.2.2.2.2.2 = 4) (hM : gOk E l M' d' mc' ms' [x1, x2, x3, x4] h (gRu Q')) (hdd : d' + 1 ≤ d) (h1 : uc + mc' ≤ mc) (h2 : us + ms' ≤ ms) (hc : gCat st) (kk : ∀ h', Q' h' → G E l M d mc ms Q (pc + 3) lv st h' (uc + mc') (us + ms')) : G E l M d mc ms Q pc lv (x4 :: x3 :: x2 :: x1 :: st) h uc us := by
  intro p e R s m args below meth c ls H locs X hl hR hlo
  refine g_callT X hR hlo (As := [x1, x2, x3, x4]) (rest := st) hC hn.symm hM hdd h1 h2 hc hl.1 hd (fun v h' H' locs' hR' hq hlo' => ?_)
  obtain ⟨rfl, hq⟩ := hq
  exact kk h' hq p e R s m args below meth c ls H' locs' X hl hR' hlo'
theorem G_callI0u {k d' mc' ms' : Nat} {M' : gM} {b : Nat} {Q' : gH → Prop} (hd : decode M.2.1 pc = .ok (.invokespecial k, 3)) (hC : gC M.2.2.2.2.1 k = some (2, M')) (hn : M'.2.2.2.2.2 = 0) (hM : gOk E l M' d' mc' ms' [.ref b] h (gRu Q')) (hdd : d' + 1 ≤ d) (h1 : uc + mc' ≤ mc) (h2 : us + ms' ≤ ms) (hc : gCat st) (kk : ∀ h', Q' h' → G E l M d mc ms Q (pc + 3) lv st h' (uc + mc') (us + ms')) : G E l M d mc ms Q pc lv (.ref b :: st) h uc us := by
  intro p e R s m args below meth c ls H locs X hl hR hlo
  refine g_callI X hR hlo (As := []) (rest := st) hC hn.symm hM hdd h1 h2 hc hl.1 hd (fun v h' H' locs' hR' hq hlo' => ?_)
  obtain ⟨rfl, hq⟩ := hq
  exact kk h' hq p e R s m args below meth c ls H' locs' X hl hR' hlo'
theorem G_callN0u {k d' mc' ms' : Nat} {M' : gM} {b : Nat} {Q' : gH → Prop} (hd : decode M.2.1 pc = .ok (.invokespecial k, 3)) (hC : gC M.2.2.2.2.1 k = some (4, M')) (hn : M'.2.2.2.2.2 = 0) (hM : gOk E l M' d' mc' ms' [.ref b] h (gRu Q')) (hdd : d' + 1 ≤ d) (h1 : uc + mc' ≤ mc) (h2 : us + ms' ≤ ms) (hc : gCat st) (kk : ∀ h', Q' h' → G E l M d mc ms Q (pc + 3) lv st h' (uc + mc') (us + ms')) : G E l M d mc ms Q pc lv (.ref b :: st) h uc us := by
  intro p e R s m args below meth c ls H locs X hl hR hlo
  refine g_callN X hR hlo (As := []) (rest := st) hC hn.symm hM hdd h1 h2 hc hl.1 hd (fun v h' H' locs' hR' hq hlo' => ?_)
  obtain ⟨rfl, hq⟩ := hq
  exact kk h' hq p e R s m args below meth c ls H' locs' X hl hR' hlo'
theorem G_callI1u {k d' mc' ms' : Nat} {M' : gM} {b : Nat} {x1 : Value} {Q' : gH → Prop} (hd : decode M.2.1 pc = .ok (.invokespecial k, 3)) (hC : gC M.2.2.2.2.1 k = some (2, M')) (hn : M'.2.2.2.2.2 = 1) (hM : gOk E l M' d' mc' ms' [.ref b, x1] h (gRu Q')) (hdd : d' + 1 ≤ d) (h1 : uc + mc' ≤ mc) (h2 : us + ms' ≤ ms) (hc : gCat st) (kk : ∀ h', Q' h' → G E l M d mc ms Q (pc + 3) lv st h' (uc + mc') (us + ms')) : G E l M d mc ms Q pc lv (x1 :: .ref b :: st) h uc us := by
  intro p e R s m args below meth c ls H locs X hl hR hlo
  refine g_callI X hR hlo (As := [x1]) (rest := st) hC hn.symm hM hdd h1 h2 hc hl.1 hd (fun v h' H' locs' hR' hq hlo' => ?_)
  obtain ⟨rfl, hq⟩ := hq
  exact kk h' hq p e R s m args below meth c ls H' locs' X hl hR' hlo'
theorem G_callN1u {k d' mc' ms' : Nat} {M' : gM} {b : Nat} {x1 : Value} {Q' : gH → Prop} (hd : decode M.2.1 pc = .ok (.invokespecial k, 3)) (hC : gC M.2.2.2.2.1 k = some (4, M')) (hn : M'.2.2.2.2.2 = 1) (hM : gOk E l M' d' mc' ms' [.ref b, x1] h (gRu Q')) (hdd : d' + 1 ≤ d) (h1 : uc + mc' ≤ mc) (h2 : us + ms' ≤ ms) (hc : gCat st) (kk : ∀ h', Q' h' → G E l M d mc ms Q (pc + 3) lv st h' (uc + mc') (us + ms')) : G E l M d mc ms Q pc lv (x1 :: .ref b :: st) h uc us := by
  intro p e R s m args below meth c ls H locs X hl hR hlo
  refine g_callN X hR hlo (As := [x1]) (rest := st) hC hn.symm hM hdd h1 h2 hc hl.1 hd (fun v h' H' locs' hR' hq hlo' => ?_)
  obtain ⟨rfl, hq⟩ := hq
  exact kk h' hq p e R s m args below meth c ls H' locs' X hl hR' hlo'
theorem G_callI2u {k d' mc' ms' : Nat} {M' : gM} {b : Nat} {x1 x2 : Value} {Q' : gH → Prop} (hd : decode M.2.1 pc = .ok (.invokespecial k, 3)) (hC : gC M.2.2.2.2.1 k = some (2, M')) (hn : M'.2.2.2.2.2 = 2) (hM : gOk E l M' d' mc' ms' [.ref b, x1, x2] h (gRu Q')) (hdd : d' + 1 ≤ d) (h1 : uc + mc' ≤ mc) (h2 : us + ms' ≤ ms) (hc : gCat st) (kk : ∀ h', Q' h' → G E l M d mc ms Q (pc + 3) lv st h' (uc + mc') (us + ms')) : G E l M d mc ms Q pc lv (x2 :: x1 :: .ref b :: st) h uc us := by
  intro p e R s m args below meth c ls H locs X hl hR hlo
  refine g_callI X hR hlo (As := [x1, x2]) (rest := st) hC hn.symm hM hdd h1 h2 hc hl.1 hd (fun v h' H' locs' hR' hq hlo' => ?_)
  obtain ⟨rfl, hq⟩ := hq
  exact kk h' hq p e R s m args below meth c ls H' locs' X hl hR' hlo'
theorem G_callN2u {k d' mc' ms' : Nat} {M' : gM} {b : Nat} {x1 x2 : Value} {Q' : gH → Prop} (hd : decode M.2.1 pc = .ok (.invokespecial k, 3)) (hC : gC M.2.2.2.2.1 k = some (4, M')) (hn : M'.2.2.2.2.2 = 2) (hM : gOk E l M' d' mc' ms' [.ref b, x1, x2] h (gRu Q')) (hdd : d' + 1 ≤ d) (h1 : uc + mc' ≤ mc) (h2 : us + ms' ≤ ms) (hc : gCat st) (kk : ∀ h', Q' h' → G E l M d mc ms Q (pc + 3) lv st h' (uc + mc') (us + ms')) : G E l M d mc ms Q pc lv (x2 :: x1 :: .ref b :: st) h uc us := by
  intro p e R s m args below meth c ls H locs X hl hR hlo
  refine g_callN X hR hlo (As := [x1, x2]) (rest := st) hC hn.symm hM hdd h1 h2 hc hl.1 hd (fun v h' H' locs' hR' hq hlo' => ?_)
  obtain ⟨rfl, hq⟩ := hq
  exact kk h' hq p e R s m args below meth c ls H' locs' X hl hR' hlo'
end MEM
