set_option maxRecDepth 100000
/-! System.arraycopy among arrays of objects, getClass of one, the constant Object[].class -/
def cpV (f g : Nat → Value) (sp dp n : Nat) : Nat → Value := fun j => if dp ≤ j ∧ j < dp + n then f (sp + (j - dp)) else g j
theorem i32_nn {z : Int32} (hz : ¬ z < 0) : z.toInt = (z.toNatClampNeg : Int) := by
  have hz0 : (0 : Int) ≤ z.toInt := by
    have := Int32.not_lt.mp hz
    simpa using Int32.le_iff_toInt_le.mp this
  show z.toInt = ((z.toInt.toNat : Nat) : Int)
  omega
section GCOPY
variable {p : Program} {l : Launch} {e : Env} {R : Room} {s : State} {m : MethodId} {args : Array Value} {below : List Frame} {meth : Method} {c : Code} {ls : Array Slot} {H : Heap} {locs : List Loc} {uc us : Nat} {Qs : State → Prop}
variable {E : gV} {M : gM} {d mc ms : Nat} {pc : Nat} {rest : List Value} {h : gH}
theorem g_copy (X : gCtx E M d mc ms p R s m args meth c) (hsz : ls.size = M.2.2.1) (hR : gRep E h H) (hlo : ∀ q ∈ locs, gFree E q.base) {k a0 a : Nat} {sp dp n : Int32} (hlink : (Cond.methodLink (gOwn M.2.2.2.2.1) k arraycopyName) ∈ lw_all) (hk0 : (h.2 a0).1 = 33) (hk : (h.2 a).1 = 33) (ha : gBase E ≤ a) (h1 : ¬ sp < 0) (h2 : ¬ dp < 0) (h3 : ¬ n < 0) (h4 : sp.toNatClampNeg + n.toNatClampNeg ≤ (h.2 a0).2.1) (h5 : dp.toNatClampNeg + n.toNatClampNeg ≤ (h.2 a).2.1)
    (hel : ∀ i, i < n.toNatClampNeg → (h.2 a0).2.2 (sp.toNatClampNeg + i) = .null ∨ ∃ b, (h.2 a0).2.2 (sp.toNatClampNeg + i) = .ref b ∧ gFitA 33 (h.2 b).1 = true) (hd1 : 1 ≤ d) (hc : gCat rest) (hdg : decode M.2.1 pc = .ok (.invokestatic k, 3))
    (kk : ∀ (H' : Heap) (locs' : List Loc), gRep E (gSet h a ((h.2 a).1, (h.2 a).2.1, cpV (h.2 a0).2.2 (h.2 a).2.2 sp.toNatClampNeg dp.toNatClampNeg n.toNatClampNeg)) H' → (∀ q ∈ locs', gFree E q.base) → W p l e R s m args below meth c H' locs' uc us Qs (F0 m (pc + 3) ls rest)) : W p l e R s m args below meth c H locs uc us Qs (F0 m pc ls (.int n :: .int dp :: .ref a :: .int sp :: .ref a0 :: rest)) := by
  obtain ⟨hx, hb, hr, hml, hown, hts, hlocks, hK, hd2, hd3, -⟩ := X
  obtain ⟨cs, c1, c2, c3, c4, c5, c6⟩ := gRep_arr (ak := 3) hR hk0
  obtain ⟨cd, e1, e2, e3, e4, e5, e6⟩ := gRep_arr (ak := 3) hR hk
  obtain ⟨kA, comp, k1, k2, k3, -⟩ := (hK.1.2 3 _ rfl).2
  have hw : nativeFrameWords "java/lang/System" "arraycopy" 5 ≤ 40 := by decide
  intro T hT X
  unfold gCat at hc
  obtain ⟨vm', X', step⟩ := X.arraycopy hx hown (hts _ hlink) (hts _ q300) (hts _ q299) (hts _ q75) (src := a0) (dst := a) (cs := cs) (cd := cd) (srcPos := sp) (destPos := dp) (n := n) (by rw [hT]; exact c1) (by rw [hT]; exact e1)
    c4 e4 c3 e3 (by rw [c2]; exact k1) (by rw [e2]; exact k1) k2 k2 rfl h1 h2 h3
    (by rw [i32_nn h1, i32_nn h3, c5]; omega) (by rw [i32_nn h2, i32_nn h3, e5]; omega)
    (fun vm₁ hal i hi => by
      have e : cs.slots.getD (sp.toNatClampNeg + i) .null = (h.2 a0).2.2 (sp.toNatClampNeg + i) := by
        rw [Array.getD_eq_getD_getElem?, c6 _ (by omega)]; rfl
      rw [e]
      rcases hel i hi with e0 | ⟨b, e0, hf⟩
      · rw [e0]; exact ⟨rfl, trivial⟩
      · rw [e0]
        obtain ⟨ak, ci, ka, kb, hc'⟩ := gFitA_cases hf
        have hak : ak = 3 := by omega
        subst hak
        have hci : ∃ q : vw_C, gCl[ci]? = some q := by
          rcases hc' with ⟨-, hci⟩ | ⟨q, -⟩ | ⟨q, -⟩
          · simp only [List.mem_cons, List.not_mem_nil, or_false] at hci
            rcases hci with rfl | rfl | rfl | rfl <;> exact ⟨_, rfl⟩
          · cases q
          · cases q
        obtain ⟨q, hq⟩ := hci
        obtain ⟨cv, v1, v2, v3, v5, v4⟩ := gRep_obj hR kb (gCl_lt hq)
        obtain ⟨kA', kcomp, comp', C', a1, a2, a3, a4⟩ := g_assign hK hq hc'
        cases a1.symm.trans k1
        cases a2.symm.trans k2
        obtain ⟨kC, hkC, -⟩ := (hK.1.1 ci q hq).2.2
        obtain ⟨kC', hkC', -⟩ := hal.2.2 _ _ hkC
        obtain ⟨kE', hkE', -⟩ := hal.2.2 _ _ a3
        refine ⟨rfl, cv, (show T.heap[b]? = some cv by rw [hT]; exact v1), (fun z hz => by rw [v3] at hz; cases hz), ⟨kC', by rw [v2]; exact hkC'⟩, ⟨kE', hkE'⟩, ?_⟩
        show vm₁.assignable _ _ = true
        rw [hal.assignable, v2]
        exact a4)
    (g := F0 m pc ls (.int n :: .int dp :: .ref a :: .int sp :: .ref a0 :: rest)) rfl (by rw [hml]; exact hsz) (rest := rest) rfl (by rw [hb]; exact hdg) (by omega) (by show 2 * 0 + _ + _ ≤ _; omega)
  have hl : a < H.size := (Array.getElem?_eq_some_iff.mp e1).1
  have hsl : (cs.stretch sp.toNatClampNeg n.toNatClampNeg).length = n.toNatClampNeg := by simp [Cell.stretch]
  have hf := cd.storeRun_facts dp.toNatClampNeg (cs.stretch sp.toNatClampNeg n.toNatClampNeg)
  have hheap : ((T.setVm vm').setCell a (copied cs cd sp dp n)).heap = H.setIfInBounds a (copied cs cd sp dp n) := by rw [← hT]; rfl
  have oq : ∀ q : Nat, q ≠ a → (H.setIfInBounds a (copied cs cd sp dp n))[q]? = H[q]? := fun q hq => by simp [Array.getElem?_setIfInBounds, Ne.symm hq]
  have hset : gRep E (gSet h a ((h.2 a).1, (h.2 a).2.1, cpV (h.2 a0).2.2 (h.2 a).2.2 sp.toNatClampNeg dp.toNatClampNeg n.toNatClampNeg)) (H.setIfInBounds a (copied cs cd sp dp n)) := by
    refine gRep_set hR ha ?_ (by simp) oq
    rw [show (H.setIfInBounds a (copied cs cd sp dp n))[a]? = some (copied cs cd sp dp n) by simp [Array.getElem?_setIfInBounds, hl], hk]
    refine gAt_arr (ak := 3) (hf.1.trans e2) (by rw [show (copied cs cd sp dp n).vm = cd.vm from hf.2.1]; exact e3) (by rw [show (copied cs cd sp dp n).vm = cd.vm from hf.2.1]; exact e4) (hf.2.2.1.trans e5) (fun j hj => ?_)
    show (cd.storeRun dp.toNatClampNeg (cs.stretch sp.toNatClampNeg n.toNatClampNeg)).slots[j]? = _
    rw [Cell.storeRun_get _ _ _ _ (by rw [hsl, e5]; exact h5), hsl]
    unfold cpV
    by_cases q : dp.toNatClampNeg ≤ j ∧ j < dp.toNatClampNeg + n.toNatClampNeg
    · rw [if_pos q, if_pos q]
      unfold Cell.stretch
      rw [List.getElem?_map, List.getElem?_range (by omega)]
      show some (cs.slots.getD _ _) = _
      rw [Array.getD_eq_getD_getElem?, c6 _ (by omega)]
      rfl
    · rw [if_neg q, if_neg q, e6 j hj]
  obtain ⟨t, a1, b1⟩ := kk _ _ hset (fun q hq => by
      rcases List.mem_append.mp hq with h | h
      · exact hlo q h
      · obtain ⟨z, -, hz⟩ := List.mem_map.mp h
        rw [← hz]
        exact ha) _ hheap X'
  exact ⟨t, step t a1, b1⟩
end GCOPY
section GROWS2
variable {E : gV} {l : Launch} {M : gM} {d mc ms : Nat} {Q : Outcome → gH → Prop} {pc : Nat} {lv : gLs} {st : List Value} {h : gH} {uc us : Nat}
theorem G_copy {k a0 a : Nat} {sp dp n : Int} (hd : decode M.2.1 pc = .ok (.invokestatic k, 3)) (hlink : (Cond.methodLink (gOwn M.2.2.2.2.1) k arraycopyName) ∈ lw_all) (hk0 : (h.2 a0).1 = 33) (hk : (h.2 a).1 = 33) (ha : gBase E ≤ a) (hn : 0 ≤ sp ∧ 0 ≤ dp ∧ 0 ≤ n ∧ sp + n ≤ ((h.2 a0).2.1 : Nat) ∧ dp + n ≤ ((h.2 a).2.1 : Nat)) (hb : (h.2 a0).2.1 ≤ 1000000 ∧ (h.2 a).2.1 ≤ 1000000)
    (hel : ∀ i : Nat, (i : Int) < n → (h.2 a0).2.2 (sp.toNat + i) = .null ∨ ∃ b, (h.2 a0).2.2 (sp.toNat + i) = .ref b ∧ gFitA 33 (h.2 b).1 = true) (hd1 : 1 ≤ d) (hc : gCat st)
    (k : G E l M d mc ms Q (pc + 3) lv st (gSet h a ((h.2 a).1, (h.2 a).2.1, cpV (h.2 a0).2.2 (h.2 a).2.2 sp.toNat dp.toNat n.toNat)) uc us) : G E l M d mc ms Q pc lv (vI n :: vI dp :: .ref a :: vI sp :: .ref a0 :: st) h uc us := by
  have cl : ∀ z : Int, 0 ≤ z → z ≤ 1000000 → (Int32.ofInt z).toNatClampNeg = z.toNat ∧ ¬ Int32.ofInt z < 0 := by
    intro z z1 z2
    have t : (Int32.ofInt z).toInt = z := by
      rw [Int32.toInt_ofInt]
      simp [Int.bmod_def]
      omega
    refine ⟨by show (Int32.ofInt z).toInt.toNat = _; rw [t], fun q => ?_⟩
    have := Int32.lt_iff_toInt_lt.mp q
    rw [t] at this
    simp at this
    omega
  obtain ⟨n1, n2, n3, n4, n5⟩ := hn
  obtain ⟨s1, s2⟩ := cl sp n1 (by omega)
  obtain ⟨s3, s4⟩ := cl dp n2 (by omega)
  obtain ⟨s5, s6⟩ := cl n n3 (by omega)
  intro p e R s m args below meth c ls H locs X hl hR hlo
  refine g_copy X hl.1 hR hlo hlink hk0 hk ha s2 s4 s6 (by rw [s1, s5]; omega) (by rw [s3, s5]; omega) (fun i hi => ?_) hd1 hc hd (fun H' locs' hR' hlo' => ?_)
  · rw [s1]; rw [s5] at hi; exact hel i (by omega)
  · rw [s1, s3, s5] at hR'
    exact k p e R s m args below meth c ls H' locs' X hl hR' hlo'
end GROWS2
