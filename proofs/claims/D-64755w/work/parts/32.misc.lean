set_option maxRecDepth 100000
/-! getClass of an Object[], the constant Object[].class, an int constant, calls of a Walk by its interface -/
section GMISC
variable {p : Program} {l : Launch} {e : Env} {R : Room} {s : State} {m : MethodId} {args : Array Value} {below : List Frame} {meth : Method} {c : Code} {ls : Array Slot} {H : Heap} {locs : List Loc} {uc us : Nat} {Qs : State → Prop}
variable {E : gV} {M : gM} {d mc ms : Nat} {pc : Nat} {rest : List Value} {h : gH}
theorem g_getC (X : gCtx E M d mc ms p R s m args meth c) (hsz : ls.size = M.2.2.1) (hR : gRep E h H) {a : Nat} (hm : M.2.2.2.2.1 = 14) (hk : (h.2 a).1 = 33) (hd1 : 1 ≤ d) (hc : gCat rest) (hdg : decode M.2.1 pc = .ok (.invokevirtual 86, 3))
    (kk : W p l e R s m args below meth c H locs uc us Qs (F0 m (pc + 3) ls (.ref (E.2.2.2.2 1) :: rest))) : W p l e R s m args below meth c H locs uc us Qs (F0 m pc ls (.ref a :: rest)) := by
  obtain ⟨hx, hb, hr, hml, hown, hts, hlocks, hK, hd2, hd3, -⟩ := X
  rw [hm] at hown
  obtain ⟨cell, c1, c2, c3, c4, c5, c6⟩ := gRep_arr (ak := 3) hR hk
  have hst : cell.vm.isStatics = false := by
    cases hv : cell.vm <;> first | rfl | exact absurd hv (c4 _)
  unfold gCat at hc
  exact va_getC hx hb (hml.trans hsz.symm) hown (hts _ q271) hK.2.2.2.2.2.2.2.2.2.2.2.1.use (hts _ q1284) (hts _ q272) (hts _ q288) hK.2.2.2.2.2.2.2.2.2.2.1 ⟨cell, c1, hst, by rw [c2]; exact va_nmO (hK.1.2 3 _ rfl).2 (by decide)⟩ (by omega) (by omega) hdg kk
theorem g_ldcM (X : gCtx E M d mc ms p R s m args meth c) (hm : M.2.2.2.2.1 = 14) (hdg : decode M.2.1 pc = .ok (.ldc 110, 2))
    (kk : W p l e R s m args below meth c H locs uc us Qs (F0 m (pc + 2) ls (.ref (E.2.2.2.2 1) :: rest))) : W p l e R s m args below meth c H locs uc us Qs (F0 m pc ls rest) := by
  obtain ⟨hx, hb, hr, hml, hown, hts, hlocks, hK, hd2, hd3, -⟩ := X
  rw [hm] at hown
  exact va_ldcM hx hb hown (hts _ q292) hK.2.2.2.2.2.2.2.2.2.2.1 hdg kk
theorem g_callF (X : gCtx E M d mc ms p R s m args meth c) (hR : gRep E h H) (hlo : ∀ q ∈ locs, gFree E q.base) {k n d' mc' ms' : Nat} {M' : gM} {x : MethodName} {b : Nat} {Q' : Option Value → gH → Prop} (hl : Cond.methodLink (gOwn M.2.2.2.2.1) k x ∈ lw_all) (hs : Cond.selects "PlaneFaces$Walk" x M'.1 ∈ lw_all) (hi : Cond.instanceMethod M'.1 ∈ lw_all) (hMok : gMok M') (hF : ∀ U, gK E U → va_Fw "PlaneFaces$Walk" x M'.1 U) (hxd : x.cls ≠ "java/lang/invoke/MethodHandle" ∧ x.cls ≠ "java/lang/invoke/VarHandle" ∧ (parseMethodDescriptor x.desc).map (fun d => d.parameters.length) = some 0)
    (hk : (h.2 b).1 = 6) (hM : gOk E l M' d' mc' ms' [.ref b] h Q') (hdd : d' + 1 ≤ d) (h1 : uc + mc' ≤ mc) (h2 : us + ms' ≤ ms) (hc : gCat rest) (hsz : ls.size = M.2.2.1) (hdg : decode M.2.1 pc = .ok (.invokeinterface k n, 5))
    (kk : ∀ v h' (H' : Heap) (locs' : List Loc), gRep E h' H' → Q' v h' → (∀ q ∈ locs', gFree E q.base) → W p l e R s m args below meth c H' locs' (uc + mc') (us + ms') Qs (F0 m (pc + 5) ls (v.toList ++ rest))) : W p l e R s m args below meth c H locs uc us Qs (F0 m pc ls (.ref b :: rest)) := by
  have hroom := gRoom_ok (M' := M') (d' := d') X hMok hdd
  obtain ⟨hx, hb, hr, hml, hown, hts, hlocks, hK, hd1, hd2, hd3, hd4, -⟩ := X
  have hG : GoodIn lw_all (va_wsF (gOwn M.2.2.2.2.1) k "PlaneFaces$Walk" x M'.1 (ws_ M'.1 M'.2.1 M'.2.2.1 M'.2.2.2.1)) := by
    refine lw_app ?_ (lw_meth hMok.1)
    intro w hw
    simp only [List.mem_cons, List.not_mem_nil, or_false] at hw
    rcases hw with e | e | e | e
    · rw [e]; exact hl
    · rw [e]; exact hs
    · rw [e]; exact hi
    · rw [e]; exact hMok.2.1
  refine g_run (ln := 5) (va_runF (cc := M.2.1) (nL := M.2.2.1) (Ts := lw_all) (own := gOwn M.2.2.2.2.1) (As := []) (rest := rest) (n := 0) (hK.1.1 5 _ rfl).2 ⟨hx, hb, hml, hown, hts⟩ hM (va_cwF 0 hts hG rfl rfl rfl (hF s hK) hxd hroom) ⟨gPc_blind, g_recv hK hR (ci := 5) rfl hk, gPc_at hK hR⟩ rfl rfl hsz rfl (by show 2 * 0 + _ ≤ 8; unfold gCat at hc; omega) hdg ⟨by omega, by omega⟩) hlo kk
end GMISC
section GROWS3
variable {E : gV} {l : Launch} {M : gM} {d mc ms : Nat} {Q : Outcome → gH → Prop} {pc : Nat} {lv : gLs} {st : List Value} {h : gH} {uc us : Nat}
theorem G_getC {a : Nat} (hd : decode M.2.1 pc = .ok (.invokevirtual 86, 3)) (hm : M.2.2.2.2.1 = 14) (hk : (h.2 a).1 = 33) (hd1 : 1 ≤ d) (hc : gCat st) (k : G E l M d mc ms Q (pc + 3) lv (.ref (E.2.2.2.2 1) :: st) h uc us) : G E l M d mc ms Q pc lv (.ref a :: st) h uc us := by
  intro p e R s m args below meth c ls H locs X hl hR hlo
  exact g_getC X hl.1 hR hm hk hd1 hc hd (k p e R s m args below meth c ls H locs X hl hR hlo)
theorem G_ldcM (hd : decode M.2.1 pc = .ok (.ldc 110, 2)) (hm : M.2.2.2.2.1 = 14) (k : G E l M d mc ms Q (pc + 2) lv (.ref (E.2.2.2.2 1) :: st) h uc us) : G E l M d mc ms Q pc lv st h uc us := by
  intro p e R s m args below meth c ls H locs X hl hR hlo
  exact g_ldcM X hm hd (k p e R s m args below meth c ls H locs X hl hR hlo)
theorem G_ldcI {i : Nat} {x : Int} (hd : decode M.2.1 pc = .ok (.ldc i, 2)) (hw : Cond.constant (gOwn M.2.2.2.2.1) i (Int32.ofInt x) ∈ lw_all) (k : G E l M d mc ms Q (pc + 2) lv (vI x :: st) h uc us) : G E l M d mc ms Q pc lv st h uc us := by
  intro p e R s m args below meth c ls H locs X hl hR hlo
  exact lv_ldc X.1 X.2.1 X.2.2.2.2.1 (X.2.2.2.2.2.1 _ hw) hd (k p e R s m args below meth c ls H locs X hl hR hlo)
theorem G_has {k n d' : Nat} {b : Nat} {v : Value} (hd : decode M.2.1 pc = .ok (.invokeinterface k n, 5)) (hl : Cond.methodLink (gOwn M.2.2.2.2.1) k gxHas ∈ lw_all) (hk : (h.2 b).1 = 6) (hM : gPu E l gX6_hasNext d' [.ref b] h v) (hdd : d' + 1 ≤ d) (h1 : uc ≤ mc) (h2 : us ≤ ms) (hc : gCat st) (kk : G E l M d mc ms Q (pc + 5) lv (v :: st) h uc us) : G E l M d mc ms Q pc lv (.ref b :: st) h uc us := by
  intro p e R s m args below meth c ls H locs X hl' hR hlo
  refine g_callF X hR hlo (x := gxHas) (M' := gX6_hasNext) (d' := d') hl q725 q727 gmok_X6_hasNext (fun U hU => hU.2.2.2.2.2.2.2.2.1) (by decide +kernel) hk (hM d' (Nat.le_refl _)) hdd h1 h2 hc hl'.1 hd (fun v' h' H' locs' hR' hq hlo' => ?_)
  obtain ⟨x, rfl, rfl, rfl⟩ := hq
  exact kk p e R s m args below meth c ls H' locs' X hl' hR' hlo'
theorem G_nxt {k n d' mc' ms' : Nat} {b : Nat} {Q' : Value → gH → Prop} (hd : decode M.2.1 pc = .ok (.invokeinterface k n, 5)) (hl : Cond.methodLink (gOwn M.2.2.2.2.1) k gxNext ∈ lw_all) (hk : (h.2 b).1 = 6) (hM : gOk E l gX6_next d' mc' ms' [.ref b] h (gRv Q')) (hdd : d' + 1 ≤ d) (h1 : uc + mc' ≤ mc) (h2 : us + ms' ≤ ms) (hc : gCat st) (kk : ∀ x h', Q' x h' → G E l M d mc ms Q (pc + 5) lv (x :: st) h' (uc + mc') (us + ms')) : G E l M d mc ms Q pc lv (.ref b :: st) h uc us := by
  intro p e R s m args below meth c ls H locs X hl' hR hlo
  refine g_callF X hR hlo (x := gxNext) (M' := gX6_next) (d' := d') hl q734 q736 gmok_X6_next (fun U hU => hU.2.2.2.2.2.2.2.2.2.1) (by decide +kernel) hk hM hdd h1 h2 hc hl'.1 hd (fun v' h' H' locs' hR' hq hlo' => ?_)
  obtain ⟨x, rfl, hq⟩ := hq
  exact kk x h' hq p e R s m args below meth c ls H' locs' X hl' hR' hlo'
end GROWS3
