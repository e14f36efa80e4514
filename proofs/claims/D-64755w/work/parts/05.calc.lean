set_option maxRecDepth 100000
/-! the calculus: an abstract heap and its tie to the machine's -/
abbrev gE : Type := Nat × Nat × (Nat → Value)
abbrev gH : Type := Nat × (Nat → gE)
/-- numbers of the classes, their slots, numbers of the array classes, the heap at the start, what statics hold -/
abbrev gV : Type := (Nat → ClassId) × (Nat → Nat → Nat) × (Nat → ClassId) × Heap × (Nat → Nat)
abbrev gLv : Type := List (Nat × Value)
def gN (ci : Nat) : Nat := match gCl[ci]? with
  | some q => q.2.2
  | none => 0
abbrev gTys (E : gV) : List (ClassId × FieldType) := [(E.2.2.1 0, .boolean), (E.2.2.1 1, .int), (E.2.2.1 2, .long), (E.2.2.1 3, .object "java/lang/Object"), (E.2.2.1 4, .object "PlaneFaces$Half"), (E.2.2.1 5, .object "PlaneFaces$Round")]
def gBase (E : gV) : Nat := E.2.2.2.1.size
def gFree (E : gV) : Addr → Prop := fun q => gBase E ≤ q
/-- a cell as the picture has it: kind 0: nothing said; 1 + ci: an object of class ci; 30 + ak: an array -/
def gAt (E : gV) (q : gE) (c : Option Cell) : Prop :=
  (0 < q.1 → q.1 < 30 → ∃ cell : Cell, c = some cell ∧ cell.cls = E.1 (q.1 - 1) ∧ cell.vm = .none ∧ cell.monitor = {} ∧ ∀ k, k < gN (q.1 - 1) → cell.slots[E.2.1 (q.1 - 1) k]? = some (q.2.2 k)) ∧
  (30 ≤ q.1 → ∃ cell : Cell, c = some cell ∧ cell.cls = E.2.2.1 (q.1 - 30) ∧ cell.vm ≠ .unknown ∧ (∀ k, cell.vm ≠ .statics k) ∧ cell.slots.size = q.2.1 ∧ ∀ j, j < q.2.1 → cell.slots[j]? = some (q.2.2 j))
def gRep (E : gV) (h : gH) (H : Heap) : Prop := H.size = h.1 ∧ gBase E ≤ h.1 ∧ (∀ q : Nat, q < gBase E → H[q]? = E.2.2.2.1[q]?) ∧ ∀ a : Nat, gAt E (h.2 a) H[a]?
def gSet (h : gH) (a : Nat) (q : gE) : gH := (h.1, va_up h.2 a q)
def gPush (h : gH) (q : gE) : gH := (h.1 + 1, va_up h.2 h.1 q)
def gCasts : List Cond := [.castable "PlaneFaces$Half" "java/lang/Object", .castable "PlaneFaces$Node" "java/lang/Object", .castable "PlaneFaces$Round" "java/lang/Object", .castable "PlaneFaces$Face" "java/lang/Object"]
abbrev gxHas : MethodName := ⟨"java/util/Iterator", "hasNext", "()Z"⟩
abbrev gxNext : MethodName := ⟨"java/util/Iterator", "next", "()Ljava/lang/Object;"⟩
/-- of the exceptions: what the tables say beyond the words at hand -/
abbrev gIA : String := "java/lang/IllegalArgumentException"
abbrev gIS : String := "java/lang/IllegalStateException"
abbrev gIB : String := "java/lang/IndexOutOfBoundsException"
def gXc : List Cond := [.castable gIA gIA, .castable gIS gIS, .castable gIB gIB]
def gXd : List MethodName := [⟨"java/lang/RuntimeException", "<init>", "()V"⟩, ⟨"java/lang/Exception", "<init>", "()V"⟩, ⟨"java/lang/Throwable", "<init>", "()V"⟩]
/-- a static field, laid and holding a reference -/
def gSt (E : gV) (C n d : String) (U : State) : Prop := ∃ (c : ClassId) (k : Class) (i : Nat) (f : Field) (a : Nat) (cell : Cell) (v : Value), U.vm.findClass C = some c ∧ U.fieldFound? C n d = some (c, k, i, f) ∧ f.isStatic = true ∧ k.statics = some a ∧ E.2.2.2.1[a]? = some cell ∧ cell.vm.isStatics = true ∧ cell.cls = c ∧ f.slot < cell.slots.size ∧ k.staticTypes[f.slot]? = some f.type ∧ cell.slots[f.slot]? = some v ∧ (v = .null ∨ ∃ t, v = .ref t) ∧ a < gBase E
def gNo (C T : String) (U : State) : Prop := ∃ c t, U.vm.findClass C = some c ∧ U.vm.findClass T = some t ∧ U.vm.assignable c t = false
def gKx (E : gV) (U : State) : Prop := (∀ w ∈ gXc, va_Nw w U) ∧ (∀ x ∈ gXd, va_Nw (.declares x) U) ∧ gSt E "java/lang/Throwable" "UNASSIGNED_STACK" "[Ljava/lang/StackTraceElement;" U ∧ gSt E "java/lang/Throwable" "SUPPRESSED_SENTINEL" "Ljava/util/List;" U ∧ gNo gIS gIA U
theorem gSt_moved {E : gV} {C n d : String} {u U : State} (hvm : u.vm.Alike U.vm) (h : gSt E C n d u) : gSt E C n d U := by
  obtain ⟨c, k, i, f, a, cell, v, h0, h1, h2, h3, h4, h5, h6, h7, h8, h9⟩ := h
  obtain ⟨k', hi', he⟩ := State.fieldFound?_setVm hvm h1
  exact ⟨c, k', i, f, a, cell, v, by rw [hvm.findClass]; exact h0, hi', h2, by rw [he]; exact h3, h4, h5, h6, h7, by rw [he]; exact h8, h9⟩
theorem gNo_moved {C T : String} {u U : State} (hvm : u.vm.Alike U.vm) (h : gNo C T u) : gNo C T U := by
  obtain ⟨c, t, h1, h2, h3⟩ := h
  exact ⟨c, t, by rw [hvm.findClass]; exact h1, by rw [hvm.findClass]; exact h2, by rw [hvm.assignable]; exact h3⟩
theorem gKx_warm {E : gV} {s U : State} (hW : s.WarmedH U.vm) (h : gKx E s) : gKx E U := by
  obtain ⟨h1, h2, h3, h4, h5⟩ := h
  refine ⟨fun w hw => ?_, fun x hx => va_Nw.warmD hW (h2 x hx), gSt_moved hW.alike h3, gSt_moved hW.alike h4, gNo_moved hW.alike h5⟩
  have h6 := h1 w hw
  simp only [gXc, List.mem_cons, List.not_mem_nil, or_false] at hw
  rcases hw with rfl | rfl | rfl <;> exact va_Nw.warmC hW h6
/-- what a method carries of the tables -/
def gK (E : gV) (U : State) : Prop := va_K (E.1, E.2.1) gCl (gTys E) U ∧ (∀ w ∈ gNest, va_Nw w U) ∧ (∀ w ∈ gCasts, va_Nw w U) ∧ ArrOfT U (E.2.2.1 6) .int ∧ va_AO "java/lang/Object" U ∧ va_AO "PlaneFaces$Half" U ∧ va_AO "PlaneFaces$Round" U ∧
  va_Z "java/util/ArrayList" "DEFAULTCAPACITY_EMPTY_ELEMENTDATA" "[Ljava/lang/Object;" (.ref (E.2.2.2.2 0)) (gFree E) U E.2.2.2.1 ∧ va_Fw "PlaneFaces$Walk" gxHas gX6_hasNext.1 U ∧ va_Fw "PlaneFaces$Walk" gxNext gX6_next.1 U ∧ va_Mi "[Ljava/lang/Object;" (E.2.2.2.2 1) U ∧ va_Dc U ∧ gKx E U
theorem gNw_warm {w : Cond} (hw : gNestish w = true) {s U : State} (hW : s.WarmedH U.vm) (h : va_Nw w s) : va_Nw w U := by
  cases w <;> first | exact va_Nw.warmF hW h | exact va_Nw.warmM hW h | (simp [gNestish] at hw)
theorem gCast_warm {w : Cond} (hw : w ∈ gCasts) {s U : State} (hW : s.WarmedH U.vm) (h : va_Nw w s) : va_Nw w U := by
  simp only [gCasts, List.mem_cons, List.not_mem_nil, or_false] at hw
  rcases hw with rfl | rfl | rfl | rfl <;> exact va_Nw.warmC hW h
theorem gK_warm {E : gV} {s U : State} (hW : s.WarmedH U.vm) (h : gK E s) : gK E U := by
  obtain ⟨h1, h2, h3, h4, h5, h6, h7, h8, h9, h10, h11, h12, h13⟩ := h
  exact ⟨va_K.moved hW.alike h1, fun w hw => gNw_warm (gNest_ish w hw) hW (h2 w hw), fun w hw => gCast_warm hw hW (h3 w hw), arrOfT_moved hW.alike h4, va_AO.moved hW.alike h5, va_AO.moved hW.alike h6, va_AO.moved hW.alike h7, h8.moved hW.alike, va_Fw.moved (by decide) hW.alike h9, va_Fw.moved (by decide) hW.alike h10, h11.moved hW.alike, h12.moved hW.alike, gKx_warm hW h13⟩
theorem gK_calling {E : gV} {U : State} {g : JFrame} {mk : MethodId} {a : Array Value} (h : gK E U) : gK E (U.calling g mk a) :=
  gK_warm (U := U.calling g mk a) (State.WarmedH.refl U) h
theorem gRep_obj {E : gV} {h : gH} {H : Heap} {a ci : Nat} (hR : gRep E h H) (hk : (h.2 a).1 = ci + 1) (hc : ci < 29) :
    ∃ cell : Cell, H[a]? = some cell ∧ cell.cls = E.1 ci ∧ cell.vm = .none ∧ cell.monitor = {} ∧ ∀ k, k < gN ci → cell.slots[E.2.1 ci k]? = some ((h.2 a).2.2 k) := by
  have := (hR.2.2.2 a).1 (by omega) (by omega)
  rw [hk] at this
  exact this
theorem gRep_arr {E : gV} {h : gH} {H : Heap} {a ak : Nat} (hR : gRep E h H) (hk : (h.2 a).1 = ak + 30) :
    ∃ cell : Cell, H[a]? = some cell ∧ cell.cls = E.2.2.1 ak ∧ cell.vm ≠ .unknown ∧ (∀ k, cell.vm ≠ .statics k) ∧ cell.slots.size = (h.2 a).2.1 ∧ ∀ j, j < (h.2 a).2.1 → cell.slots[j]? = some ((h.2 a).2.2 j) := by
  have := (hR.2.2.2 a).2 (by omega)
  rw [hk] at this
  exact this
theorem gRep_set {E : gV} {h : gH} {H H' : Heap} {a : Nat} {q : gE} (hR : gRep E h H) (ha : gBase E ≤ a) (hq : gAt E q H'[a]?) (hz : H'.size = H.size) (ho : ∀ q : Nat, q ≠ a → H'[q]? = H[q]?) : gRep E (gSet h a q) H' := by
  obtain ⟨h1, h2, h3, h4⟩ := hR
  refine ⟨hz.trans h1, h2, fun x hx => ?_, fun x => ?_⟩
  · rw [ho x (by omega)]
    exact h3 x hx
  · by_cases hx : x = a
    · subst hx
      simp only [gSet, va_up_self]
      exact hq
    · simp only [gSet, va_up_ne h.2 q hx]
      rw [ho x hx]
      exact h4 x
theorem gRep_push {E : gV} {h : gH} {H : Heap} {q : gE} {cell : Cell} (hR : gRep E h H) (hq : gAt E q (some cell)) : gRep E (gPush h q) (H.push cell) := by
  obtain ⟨h1, h2, h3, h4⟩ := hR
  refine ⟨by simp [gPush, h1], by simp only [gPush]; omega, fun x hx => ?_, fun x => ?_⟩
  · rw [Array.getElem?_push_lt (by omega)]
    rw [← h3 x hx, Array.getElem?_eq_getElem (by omega)]
  · by_cases hx : x = h.1
    · subst hx
      simp only [gPush, va_up_self]
      rw [← h1, Array.getElem?_push_size]
      exact hq
    · simp only [gPush, va_up_ne h.2 q hx]
      have h5 := h4 x
      by_cases hl : x < H.size
      · rw [Array.getElem?_push_lt hl, ← Array.getElem?_eq_getElem hl]
        exact h5
      · rw [Array.getElem?_eq_none (by omega)] at h5
        rw [Array.getElem?_eq_none (by rw [Array.size_push]; omega)]
        exact h5
theorem gAt_arr {E : gV} {ak n : Nat} {f : Nat → Value} {cell : Cell} (h1 : cell.cls = E.2.2.1 ak) (h2 : cell.vm ≠ .unknown) (h3 : ∀ k, cell.vm ≠ .statics k) (h4 : cell.slots.size = n) (h5 : ∀ j, j < n → cell.slots[j]? = some (f j)) : gAt E (ak + 30, n, f) (some cell) :=
  ⟨fun _ h => absurd h (by simp), fun _ => ⟨cell, rfl, h1, h2, h3, h4, h5⟩⟩
theorem gAt_obj {E : gV} {ci n : Nat} {f : Nat → Value} {cell : Cell} (hc : ci < 29) (h1 : cell.cls = E.1 ci) (h2 : cell.vm = .none) (h3 : cell.monitor = {}) (h5 : ∀ j, j < gN ci → cell.slots[E.2.1 ci j]? = some (f j)) : gAt E (ci + 1, n, f) (some cell) :=
  ⟨fun _ _ => ⟨cell, rfl, h1, h2, h3, h5⟩, fun h => absurd h (by simp; omega)⟩
theorem gArrOf {U : State} {cA : ClassId} {ty : FieldType} {cell : Cell} (h : ArrOfT U cA ty) (h1 : cell.cls = cA) (h2 : ∀ k, cell.vm ≠ .statics k) : U.isArrayOf cell ty := by
  obtain ⟨-, k, hk, comp, hkind⟩ := h 0 (fun _ => .null)
  exact ⟨h2, k, by rw [h1]; exact hk, comp, hkind⟩
/-! locals, by place -/
abbrev gLs : Type := List (Option Value)
def gLz : Nat → gLs → gLv
  | _, [] => []
  | i, none :: r => gLz (i + 1) r
  | i, some v :: r => (i, v) :: gLz (i + 1) r
theorem gLz_mem {k : Nat} {L : gLs} {q : Nat × Value} : q ∈ gLz k L ↔ ∃ n, q.1 = k + n ∧ L[n]? = some (some q.2) := by
  induction L generalizing k with
  | nil => simp [gLz]
  | cons a r ih =>
    cases a with
    | none =>
      simp only [gLz, ih]
      constructor
      · rintro ⟨n, h1, h2⟩
        exact ⟨n + 1, by omega, by simpa using h2⟩
      · rintro ⟨n, h1, h2⟩
        cases n with
        | zero => simp at h2
        | succ n => exact ⟨n, by omega, by simpa using h2⟩
    | some v =>
      simp only [gLz, List.mem_cons, ih]
      constructor
      · rintro (rfl | ⟨n, h1, h2⟩)
        · exact ⟨0, by simp, by simp⟩
        · exact ⟨n + 1, by omega, by simpa using h2⟩
      · rintro ⟨n, h1, h2⟩
        cases n with
        | zero =>
          left
          obtain ⟨a, b⟩ := q
          simp at h1 h2
          rw [h1, h2]
        | succ n => exact Or.inr ⟨n, by omega, by simpa using h2⟩
/-- no long, no double -/
def gC1 (a : Option Value) : Bool := match a with
  | some v => v.category != 2
  | none => true
def gC1p (L : gLs) (i : Nat) : Bool := match i with
  | 0 => true
  | i + 1 => gC1 (L[i]?.join)
theorem gLz_get {ls : Array Slot} {nL : Nat} {L : gLs} (h : lv_has ls nL (gLz 0 L)) {i : Nat} {v : Value} (hi : L[i]? = some (some v)) : ls[i]? = some (.val v) :=
  h.2.2 (i, v) (gLz_mem.mpr ⟨i, by simp, hi⟩)
theorem gLz_set1 {ls : Array Slot} {nL : Nat} {L : gLs} {i : Nat} {v : Value} (hc : gC1p L i = true) (h : lv_has ls nL ((i, v) :: (gLz 0 L).filter (fun q => !(q.1 == i) && !(q.1 + 1 == i && q.2.category == 2)))) : lv_has ls nL (gLz 0 (L.set i (some v))) := by
  refine ⟨h.1, h.2.1, fun q hq => h.2.2 q ?_⟩
  obtain ⟨n, h1, h2⟩ := gLz_mem.mp hq
  rw [List.getElem?_set] at h2
  by_cases e : i = n
  · subst e
    rw [if_pos rfl] at h2
    split at h2
    · obtain ⟨a, b⟩ := q
      simp at h1 h2
      rw [h1, h2]
      exact List.mem_cons_self
    · cases h2
  · rw [if_neg e] at h2
    refine List.mem_cons_of_mem _ (List.mem_filter.mpr ⟨gLz_mem.mpr ⟨n, h1, h2⟩, ?_⟩)
    have e1 : (q.1 == i) = false := by simp; omega
    rw [e1]
    by_cases e2 : q.1 + 1 = i
    · have e3 : i = n + 1 := by omega
      subst e3
      have hc2 : gC1 (L[n]?.join) = true := hc
      rw [h2] at hc2
      have hc : q.2.category ≠ 2 := by simpa [gC1] using hc2
      simp [hc]
    · simp [e2]
theorem gLz_set2 {ls : Array Slot} {nL : Nat} {L : gLs} {i : Nat} {v : Value} (hc : gC1p L i = true) (h : lv_has ls nL ((i, v) :: (gLz 0 L).filter (fun q => !(q.1 == i) && (!(q.1 == i + 1) && !(q.1 + 1 == i && q.2.category == 2))))) : lv_has ls nL (gLz 0 ((L.set i (some v)).set (i + 1) none)) := by
  refine ⟨h.1, h.2.1, fun q hq => h.2.2 q ?_⟩
  obtain ⟨n, h1, h2⟩ := gLz_mem.mp hq
  rw [List.getElem?_set] at h2
  by_cases e0 : i + 1 = n
  · rw [if_pos e0] at h2
    split at h2 <;> cases h2
  · rw [if_neg e0, List.getElem?_set] at h2
    by_cases e : i = n
    · subst e
      rw [if_pos rfl] at h2
      split at h2
      · obtain ⟨a, b⟩ := q
        simp at h1 h2
        rw [h1, h2]
        exact List.mem_cons_self
      · cases h2
    · rw [if_neg e] at h2
      refine List.mem_cons_of_mem _ (List.mem_filter.mpr ⟨gLz_mem.mpr ⟨n, h1, h2⟩, ?_⟩)
      have e1 : (q.1 == i) = false := by simp; omega
      have e4 : (q.1 == i + 1) = false := by simp; omega
      rw [e1, e4]
      by_cases e2 : q.1 + 1 = i
      · have e3 : i = n + 1 := by omega
        subst e3
        have hc2 : gC1 (L[n]?.join) = true := hc
        rw [h2] at hc2
        have hc : q.2.category ≠ 2 := by simpa [gC1] using hc2
        simp [hc]
      · simp [e2]
/-! ### a method's body -/
def gQc (E : gV) (Q : Outcome → gH → Prop) : Array Value → State → Outcome → State → Prop := fun _ _ o t => ∃ h', gRep E h' t.heap ∧ Q o h'
/-- the handlers of the law's own methods -/
def gTup (x : ExceptionTableEntry) : Nat × Nat × Nat × Nat := (x.startPc, x.endPc, x.handlerPc, x.catchType)
def gHt0 (n : String) : List (Nat × Nat × Nat × Nat) :=
  if n = "add" then [(0, 14, 17, 13), (0, 14, 21, 15)] else if n = "begins" ∨ n = "border" ∨ n = "across" then [(0, 10, 13, 21)] else if n = "locate" ∨ n = "above" then [(0, 10, 13, 13)] else if n = "next" ∨ n = "face" ∨ n = "piece" ∨ n = "around" ∨ n = "area" then [(0, 9, 12, 21)] else []
def gHt (M : gM) : List (Nat × Nat × Nat × Nat) := match M.2.2.2.2.1 with
  | 0 => gHt0 M.1.name
  | _ + 1 => []
def gCtx (E : gV) (M : gM) (d mc ms : Nat) (p : Program) (R : Room) (s : State) (m : MethodId) (args : Array Value) (meth : Method) (c : Code) : Prop :=
  p.tables.exec = Jvm.exec ∧ c.code = M.2.1 ∧ meth.sig.returnType = M.2.2.2.1 ∧ c.maxLocals = M.2.2.1 ∧ s.vm.findClass (gOwn M.2.2.2.2.1) = some m.cls ∧ (∀ w ∈ lw_all, w.before args s = true) ∧ meth.locks = false ∧ gK E s ∧ d ≤ R.frames ∧ 64 * d ≤ R.locals ∧ mc ≤ R.cells ∧ ms ≤ R.slots ∧ meth.name = M.1.name ∧ c.exceptionTable.toList.map gTup = gHt M
/-- the end of a body, by return or by throw -/
def gFin (E : gV) (Q : Outcome → gH → Prop) (below : List Frame) (args : Array Value) (s : State) (mc ms : Nat) : State → Prop := fun t =>
  ∃ o, t.status = .running ∧ Ended t below o ∧ gQc E Q args s o t ∧ ∃ L, (s.WarmedH t.vm ∧ s.sameButNew { t with vm := s.vm } L mc ms) ∧ ∀ q ∈ L, gFree E q.base
theorem gFin_of {E : gV} {Q : Outcome → gH → Prop} {below : List Frame} {args : Array Value} {s : State} {mc ms : Nat} {t : State} (h : MQ below (gQc E Q) args s mc ms (gFree E) t) : gFin E Q below args s mc ms t := by
  obtain ⟨o, h1, h2, h3, L, h4, h5⟩ := h
  exact ⟨o, h1, h2, h3, L, h4.2, h5⟩
theorem W_post {p : Program} {l : Launch} {e : Env} {R : Room} {s : State} {m : MethodId} {args : Array Value} {below : List Frame} {meth : Method} {c : Code} {H : Heap} {locs : List Loc} {uc us : Nat} {Q Q' : State → Prop} {g : JFrame} (hq : ∀ t, Q t → Q' t) (k : W p l e R s m args below meth c H locs uc us Q g) : W p l e R s m args below meth c H locs uc us Q' g := by
  intro T hT X
  obtain ⟨t, a, b⟩ := k T hT X
  exact ⟨t, a, hq t b⟩
def G (E : gV) (l : Launch) (M : gM) (d mc ms : Nat) (Q : Outcome → gH → Prop) (pc : Nat) (lv : gLs) (st : List Value) (h : gH) (uc us : Nat) : Prop :=
  ∀ (p : Program) (e : Env) (R : Room) (s : State) (m : MethodId) (args : Array Value) (below : List Frame) (meth : Method) (c : Code) (ls : Array Slot) (H : Heap) (locs : List Loc),
    gCtx E M d mc ms p R s m args meth c → lv_has ls M.2.2.1 (gLz 0 lv) → gRep E h H → (∀ q ∈ locs, gFree E q.base) →
    W p l e R s m args below meth c H locs uc us (gFin E Q below args s mc ms) (F0 m pc ls st)
def gPc (E : gV) (av : List Value) (h : gH) : Array Value → State → Prop := fun v U => v = av.toArray ∧ gRep E h U.heap ∧ gK E U
abbrev gRm (d mc ms : Nat) : Room := { frames := d, cells := mc, slots := ms, locals := 64 * d }
/-- the contract of a method: called with av over the heap h it returns, with Q -/
def gOk (E : gV) (l : Launch) (M : gM) (d mc ms : Nat) (av : List Value) (h : gH) (Q : Option Value → gH → Prop) : Prop :=
  Met l M.1 (ws_ M.1 M.2.1 M.2.2.1 M.2.2.2.1) (gRm d mc ms) (gPc E av h) (gQc E (fun o h' => ∃ v, o = .returned v ∧ Q v h')) mc ms (gFree E)
abbrev gRet (Q : Option Value → gH → Prop) : Outcome → gH → Prop := fun o h' => ∃ v, o = .returned v ∧ Q v h'
theorem gOk_of {E : gV} {l : Launch} {M : gM} {d mc ms : Nat} {av : List Value} {h : gH} {Q : Option Value → gH → Prop} (hM : gMok M) (hy : plainName M.1.cls = true) (hlen : (lg_sl av).length ≤ M.2.2.1) {L : gLs} (hL : gLz 0 L = lv_args 0 av)
    (k : G E l M d mc ms (gRet Q) 0 L [] h 0 0) (hh : gHt M = [] := by first | rfl | decide) : gOk E l M d mc ms av h Q := by
  refine Met.ofW (cc := M.2.1) (maxL := M.2.2.1) (ret := M.2.2.2.1) hy rfl ?_
  intro p e s m args below meth c s₁ B hml hv
  obtain ⟨rfl, hR, hK⟩ := hv
  have hts := atoms_spec (ws := ws_ M.1 M.2.1 M.2.2.1 M.2.2.2.1) B.pre
  have hts : ∀ w ∈ lw_all, w.before _ s = true := fun w h => hts w (List.mem_cons_of_mem _ h)
  have hown : s.vm.findClass M.1.cls = some m.cls := findClass_of_methodNamed B.named
  rw [lg_entry_eq]
  refine W_post ?_ (k p e _ s m _ below meth c _ _ [] ⟨B.exec, B.bytes, B.returns, hml, by rw [hM.2.2.2.2]; exact hown, hts, B.notSynchronized, hK, Nat.le_refl _, Nat.le_refl _, Nat.le_refl _, Nat.le_refl _, (name_of_methodNamed B.named B.method).1, by rw [hh]; have := B.noHandlers (atoms_spec (ws := ws_ M.1 M.2.1 M.2.2.1 M.2.2.2.1) B.pre _ List.mem_cons_self); rw [Array.isEmpty_iff.mp this]; rfl⟩ (by rw [hL]; exact lv_entry av hlen) hR (fun q hq => by cases hq))
  intro t ht
  obtain ⟨o, h1, h2, h3, L, h4, h5⟩ := ht
  obtain ⟨h', h6, v, h7, h8⟩ := h3
  exact ⟨o, h1, h2, ⟨h', h6, v, h7, h8⟩, L, ⟨⟨v, h7⟩, h4⟩, h5⟩
theorem gOk_mono {E : gV} {l : Launch} {M : gM} {d mc ms : Nat} {av : List Value} {h : gH} {Q Q' : Option Value → gH → Prop} (hq : ∀ v h', Q v h' → Q' v h') (k : gOk E l M d mc ms av h Q) : gOk E l M d mc ms av h Q' := by
  intro p e h1 h2 h3 s m args below h4 h5 h6 h7
  obtain ⟨n, o, k1, k2, k3, k4, k5⟩ := k p e h1 h2 h3 s m args below h4 h5 h6 h7
  obtain ⟨h', k6, v, k7, k8⟩ := k4
  exact ⟨n, o, k1, k2, k3, ⟨h', k6, v, k7, hq v h' k8⟩, k5⟩
theorem G.sub {E : gV} {l : Launch} {M : gM} {d mc ms : Nat} {Q : Outcome → gH → Prop} {pc : Nat} {lv : gLs} (lv' : gLs) {st : List Value} {h : gH} {uc us : Nat} (hs : ∀ (i : Nat) (v : Value), lv'[i]? = some (some v) → lv[i]? = some (some v)) (k : G E l M d mc ms Q pc lv' st h uc us) : G E l M d mc ms Q pc lv st h uc us := by
  intro p e R s m args below meth c ls H locs X hl hR hlo
  exact k p e R s m args below meth c ls H locs X ⟨hl.1, hl.2.1, fun q hq => hl.2.2 q (by obtain ⟨n, h1, h2⟩ := gLz_mem.mp hq; exact gLz_mem.mpr ⟨n, h1, hs n _ h2⟩)⟩ hR hlo
theorem G.widen {E : gV} {l : Launch} {M : gM} {d mc ms : Nat} {Q : Outcome → gH → Prop} {pc : Nat} {lv : gLs} {st : List Value} {h : gH} {uc us : Nat} (uc' us' : Nat) (h1 : uc ≤ uc') (h2 : us ≤ us') (k : G E l M d mc ms Q pc lv st h uc' us') : G E l M d mc ms Q pc lv st h uc us := by
  intro p e R s m args below meth c ls H locs X hl hR hlo
  exact W.widen h1 h2 (k p e R s m args below meth c ls H locs X hl hR hlo)
theorem G.mono {E : gV} {l : Launch} {M : gM} {d mc ms : Nat} {Q Q' : Outcome → gH → Prop} {pc : Nat} {lv : gLs} {st : List Value} {h : gH} {uc us : Nat} (hq : ∀ o h, Q o h → Q' o h) (k : G E l M d mc ms Q pc lv st h uc us) : G E l M d mc ms Q' pc lv st h uc us := by
  intro p e R s m args below meth c ls H locs X hl hR hlo
  refine W_post ?_ (k p e R s m args below meth c ls H locs X hl hR hlo)
  intro t ht
  obtain ⟨o, h1, h2, ⟨h', h6, h7⟩, h4⟩ := ht
  exact ⟨o, h1, h2, ⟨h', h6, hq _ _ h7⟩, h4⟩
