set_option maxRecDepth 100000
/-! rows over the class' heap -/
section TROWS
variable {E : gV} {l : Launch} {M : gM} {d mc ms : Nat} {Q : Outcome → gH → Prop} {pc : Nat} {lv : gLs} {st : List Value} {h : gH} {uc us : Nat} {T : tT}
theorem G_tget {a ci f k : Nat} {v : Value} (hd : decode M.2.1 pc = .ok (.getfield k, 3)) (hf : gF M.2.2.2.2.1 k = some (ci, f)) (t : zT E h T) (hk : (T.1 a).1 = ci + 1) (hv : (T.1 a).2.2 f = v) (k : G E l M d mc ms Q (pc + 3) lv (v :: st) h uc us) : G E l M d mc ms Q pc lv (.ref a :: st) h uc us := by
  have e := zT_at t hk (by omega)
  exact G_get hd hf (by rw [e]; exact hk) (by rw [e]; exact hv) k
theorem G_tput {a ci f k : Nat} {v : Value} (hd : decode M.2.1 pc = .ok (.putfield k, 3)) (hf : gF M.2.2.2.2.1 k = some (ci, f)) (t : zT E h T) (hk : (T.1 a).1 = ci + 1) (hci : ci < 7) (hn : narrow (gTy ci f) v = v) (hv : fits (gTy ci f) v = true) (hfin : (gT ci f).2.2.2 = false) (k : ∀ h, zT E h (tSet T a f v) → G E l M d mc ms Q (pc + 3) lv st h uc us) : G E l M d mc ms Q pc lv (v :: .ref a :: st) h uc us := by
  have e := zT_at t hk (by omega)
  exact G_put hd hf (by rw [e]; exact hk) (zT_base t hk (by omega) (by omega)) hn hv hfin (k _ (zT_set t hk (by omega) (by omega) f v))
theorem G_tputF {a ci f k : Nat} {v : Value} (hd : decode M.2.1 pc = .ok (.putfield k, 3)) (hf : gF M.2.2.2.2.1 k = some (ci, f)) (t : zT E h T) (hk : (T.1 a).1 = ci + 1) (hn : narrow (gTy ci f) v = v) (hv : fits (gTy ci f) v = true) (hin : M.1.name = "<init>") (hown : M.2.2.2.2.1 = ci + 1) (hci : ci < 7) (k : ∀ h, zT E h (tSet T a f v) → G E l M d mc ms Q (pc + 3) lv st h uc us) : G E l M d mc ms Q pc lv (v :: .ref a :: st) h uc us := by
  have e := zT_at t hk (by omega)
  exact G_putF hd hf (by rw [e]; exact hk) (zT_base t hk (by omega) (by omega)) hn hv hin hown hci (k _ (zT_set t hk (by omega) (by omega) f v))
theorem G_tnew {k ci : Nat} (hd : decode M.2.1 pc = .ok (.new k, 3)) (hf : gKl M.2.2.2.2.1 k = some ci) (t : zT E h T) (hci : ci < 7) (h1 : uc + 1 ≤ mc) (h2 : us + gN ci ≤ ms) (k : ∀ a h, (T.1 a).1 = 0 → T.2 a = none → gBase E ≤ a → zT E h (tNew T a (ci + 1, gN ci, fun f => defaultValue (gTy ci f))) → G E l M d mc ms Q (pc + 3) lv (.ref a :: st) h (uc + 1) (us + gN ci)) : G E l M d mc ms Q pc lv st h uc us := by
  have hf' := zT_fresh t
  exact G_new hd hf h1 h2 (k h.1 _ hf'.1 hf'.2 t.1 (zT_push t (by simp) (by simp; omega) (by simp; omega)))
theorem G_tnewL {k : Nat} (hd : decode M.2.1 pc = .ok (.new k, 3)) (hf : gKl M.2.2.2.2.1 k = some 7) (t : zT E h T) (h1 : uc + 1 ≤ mc) (h2 : us + gN 7 ≤ ms) (k : ∀ a h, rawL E h T a → G E l M d mc ms Q (pc + 3) lv (.ref a :: st) h (uc + 1) (us + gN 7)) : G E l M d mc ms Q pc lv st h uc us := by
  have hf' := zT_fresh t
  exact G_new hd hf h1 h2 (k h.1 _ ⟨zT_pushL t _, by rw [gPush_self], t.1, by rw [gPush_sz]; omega, by rw [gPush_self]; rfl, hf'.2, hf'.1⟩)
theorem G_tiald {a : Nat} {j : Int} {v : Value} (hd : decode M.2.1 pc = .ok (.iaload, 1)) (t : zT E h T) (hk : (T.1 a).1 = 31 ∨ (T.1 a).1 = 36) (hj : 0 ≤ j ∧ j < ((T.1 a).2.1 : Nat)) (hb : (T.1 a).2.1 ≤ 2147483647) (hv : (T.1 a).2.2 j.toNat = v) (k : G E l M d mc ms Q (pc + 1) lv (v :: st) h uc us) : G E l M d mc ms Q pc lv (vI j :: .ref a :: st) h uc us := by
  have e : h.2 a = T.1 a := (t.2.2.1 a (by omega)).1
  exact G_iald hd (by rw [e]; rcases hk with q | q <;> rw [q] <;> decide) (by rw [e]; exact hj) (by rw [e]; exact hb) (by rw [e]; exact hv) k
theorem G_tbald {a : Nat} {j : Int} {v : Value} (hd : decode M.2.1 pc = .ok (.baload, 1)) (t : zT E h T) (hk : (T.1 a).1 = 30) (hj : 0 ≤ j ∧ j < ((T.1 a).2.1 : Nat)) (hb : (T.1 a).2.1 ≤ 2147483647) (hv : (T.1 a).2.2 j.toNat = v) (k : G E l M d mc ms Q (pc + 1) lv (v :: st) h uc us) : G E l M d mc ms Q pc lv (vI j :: .ref a :: st) h uc us := by
  have e := zT_at t hk (by omega)
  exact G_bald hd (by rw [e, hk]; decide) (by rw [e]; exact hj) (by rw [e]; exact hb) (by rw [e]; exact hv) k
theorem G_taald {a : Nat} {j : Int} {v : Value} (hd : decode M.2.1 pc = .ok (.aaload, 1)) (t : zT E h T) (hk : (T.1 a).1 = 34 ∨ (T.1 a).1 = 35) (hj : 0 ≤ j ∧ j < ((T.1 a).2.1 : Nat)) (hb : (T.1 a).2.1 ≤ 2147483647) (hv : (T.1 a).2.2 j.toNat = v) (k : G E l M d mc ms Q (pc + 1) lv (v :: st) h uc us) : G E l M d mc ms Q pc lv (vI j :: .ref a :: st) h uc us := by
  have e : h.2 a = T.1 a := (t.2.2.1 a (by omega)).1
  exact G_aald hd (by rw [e]; rcases hk with q | q <;> rw [q] <;> decide) (by rw [e]; exact hj) (by rw [e]; exact hb) (by rw [e]; exact hv) k
theorem G_talen {a n : Nat} (hd : decode M.2.1 pc = .ok (.arraylength, 1)) (t : zT E h T) (hk : 30 ≤ (T.1 a).1 ∧ (T.1 a).1 ≤ 36) (hn : (T.1 a).2.1 = n) (k : G E l M d mc ms Q (pc + 1) lv (vI (n : Nat) :: st) h uc us) : G E l M d mc ms Q pc lv (.ref a :: st) h uc us := by
  have e : h.2 a = T.1 a := (t.2.2.1 a (by omega)).1
  refine G_alen hd (by rw [e]; simp; omega) ?_
  rw [e, hn]
  exact k
theorem G_tiast {a : Nat} {j x : Int} (hd : decode M.2.1 pc = .ok (.iastore, 1)) (t : zT E h T) (hk : (T.1 a).1 = 31) (hj : 0 ≤ j ∧ j < ((T.1 a).2.1 : Nat)) (hb : (T.1 a).2.1 ≤ 2147483647) (k : ∀ h, zT E h (tSet T a j.toNat (vI x)) → G E l M d mc ms Q (pc + 1) lv st h uc us) : G E l M d mc ms Q pc lv (vI x :: vI j :: .ref a :: st) h uc us := by
  have e := zT_at t hk (by omega)
  exact G_iast hd (by rw [e]; exact hk) (zT_base t hk (by omega) (by omega)) (by rw [e]; exact hj) (by rw [e]; exact hb) (k _ (zT_set t hk (by omega) (by omega) _ _))
theorem G_tlast {a : Nat} {j x : Int} (hd : decode M.2.1 pc = .ok (.lastore, 1)) (t : zT E h T) (hk : (T.1 a).1 = 32) (hj : 0 ≤ j ∧ j < ((T.1 a).2.1 : Nat)) (hb : (T.1 a).2.1 ≤ 2147483647) (k : ∀ h, zT E h (tSet T a j.toNat (vJ x)) → G E l M d mc ms Q (pc + 1) lv st h uc us) : G E l M d mc ms Q pc lv (vJ x :: vI j :: .ref a :: st) h uc us := by
  have e := zT_at t hk (by omega)
  exact G_last hd (by rw [e]; exact hk) (zT_base t hk (by omega) (by omega)) (by rw [e]; exact hj) (by rw [e]; exact hb) (k _ (zT_set t hk (by omega) (by omega) _ _))
theorem G_tbast {a : Nat} {j x : Int} (hd : decode M.2.1 pc = .ok (.bastore, 1)) (t : zT E h T) (hk : (T.1 a).1 = 30) (hj : 0 ≤ j ∧ j < ((T.1 a).2.1 : Nat)) (hb : (T.1 a).2.1 ≤ 2147483647) (hx : x = 0 ∨ x = 1) (k : ∀ h, zT E h (tSet T a j.toNat (vI x)) → G E l M d mc ms Q (pc + 1) lv st h uc us) : G E l M d mc ms Q pc lv (vI x :: vI j :: .ref a :: st) h uc us := by
  have e := zT_at t hk (by omega)
  exact G_bast hd (by rw [e]; exact hk) (zT_base t hk (by omega) (by omega)) (by rw [e]; exact hj) (by rw [e]; exact hb) hx (k _ (zT_set t hk (by omega) (by omega) _ _))
theorem G_taastN {a : Nat} {j : Int} (hd : decode M.2.1 pc = .ok (.aastore, 1)) (t : zT E h T) (hk : (T.1 a).1 = 34 ∨ (T.1 a).1 = 35) (hj : 0 ≤ j ∧ j < ((T.1 a).2.1 : Nat)) (hb : (T.1 a).2.1 ≤ 2147483647) (k : ∀ h, zT E h (tSet T a j.toNat .null) → G E l M d mc ms Q (pc + 1) lv st h uc us) : G E l M d mc ms Q pc lv (.null :: vI j :: .ref a :: st) h uc us := by
  have e : h.2 a = T.1 a := (t.2.2.1 a (by omega)).1
  exact G_aastN hd (by rw [e]; rcases hk with q | q <;> rw [q] <;> decide) (zT_base t rfl (by omega) (by omega)) (by rw [e]; exact hj) (by rw [e]; exact hb) (k _ (zT_set t rfl (by omega) (by omega) _ _))
theorem G_taast {a b : Nat} {j : Int} (hd : decode M.2.1 pc = .ok (.aastore, 1)) (t : zT E h T) (hk : ((T.1 a).1 = 34 ∧ (T.1 b).1 = 3) ∨ ((T.1 a).1 = 35 ∧ (T.1 b).1 = 5)) (hj : 0 ≤ j ∧ j < ((T.1 a).2.1 : Nat)) (hb : (T.1 a).2.1 ≤ 2147483647) (k : ∀ h, zT E h (tSet T a j.toNat (.ref b)) → G E l M d mc ms Q (pc + 1) lv st h uc us) : G E l M d mc ms Q pc lv (.ref b :: vI j :: .ref a :: st) h uc us := by
  have e : h.2 a = T.1 a := (t.2.2.1 a (by omega)).1
  have e2 : h.2 b = T.1 b := (t.2.2.1 b (by omega)).1
  exact G_aast hd (by rw [e, e2]; rcases hk with q | q <;> rw [q.1, q.2] <;> rfl) (zT_base t rfl (by omega) (by omega)) (by rw [e]; exact hj) (by rw [e]; exact hb) (k _ (zT_set t rfl (by omega) (by omega) _ _))
theorem G_tcast {a k ci : Nat} (hd : decode M.2.1 pc = .ok (.checkcast k, 3)) (hf : gKl M.2.2.2.2.1 k = some ci) (t : zT E h T) (hk : (T.1 a).1 = ci + 1) (k : G E l M d mc ms Q (pc + 3) lv (.ref a :: st) h uc us) : G E l M d mc ms Q pc lv (.ref a :: st) h uc us :=
  G_cast hd hf (by rw [zT_at t hk (by omega)]; exact hk) k
/-! lists -/
theorem G_lsize {a k : Nat} {xs : List Nat} (hd : decode M.2.1 pc = .ok (.invokevirtual k, 3)) (hC : gC M.2.2.2.2.1 k = some (0, gJ2_size)) (t : zT E h T) (hl : T.2 a = some xs) (hdd : 2 ≤ d) (h1 : uc ≤ mc) (h2 : us ≤ ms) (hc : gCat st) (kk : G E l M d mc ms Q (pc + 3) lv (vI (xs.length : Nat) :: st) h uc us) : G E l M d mc ms Q pc lv (.ref a :: st) h uc us := by
  obtain ⟨ow, e, cap, r⟩ := zT_ls t hl
  exact G_pV0 hd hC r.1.1 (by decide) rfl (pu_J2_size r) hdd h1 h2 hc kk
theorem G_lemp {a k : Nat} {xs : List Nat} (hd : decode M.2.1 pc = .ok (.invokevirtual k, 3)) (hC : gC M.2.2.2.2.1 k = some (0, gJ2_isEmpty)) (t : zT E h T) (hl : T.2 a = some xs) (hdd : 2 ≤ d) (h1 : uc ≤ mc) (h2 : us ≤ ms) (hc : gCat st) (kk : G E l M d mc ms Q (pc + 3) lv (vI (bI (xs = [])) :: st) h uc us) : G E l M d mc ms Q pc lv (.ref a :: st) h uc us := by
  obtain ⟨ow, e, cap, r⟩ := zT_ls t hl
  exact G_pV0 hd hC r.1.1 (by decide) rfl (pu_J2_isEmpty r) hdd h1 h2 hc kk
theorem G_lget {a k i x : Nat} {xs : List Nat} (hd : decode M.2.1 pc = .ok (.invokevirtual k, 3)) (hC : gC M.2.2.2.2.1 k = some (0, gJ2_get)) (t : zT E h T) (hl : T.2 a = some xs) (hx : xs[i]? = some x) (hdd : 4 ≤ d) (h1 : uc ≤ mc) (h2 : us ≤ ms) (hc : gCat st) (kk : G E l M d mc ms Q (pc + 3) lv (.ref x :: st) h uc us) : G E l M d mc ms Q pc lv (vI i :: .ref a :: st) h uc us := by
  obtain ⟨ow, e, cap, r⟩ := zT_ls t hl
  exact G_pV1 hd hC r.1.1 (by decide) rfl (pu_J2_get r hx) hdd h1 h2 hc kk
theorem zT_fit (t : zT E h T) {x : Nat} (hx : gFitA 33 (T.1 x).1 = true) : x < h.1 ∧ gFitA 33 (h.2 x).1 = true := by
  have h0 : (T.1 x).1 ≠ 0 := fun e => by rw [e] at hx; exact absurd hx (by decide)
  have q := t.2.2.1 x h0
  exact ⟨q.2.1, by rw [q.1]; exact hx⟩
theorem fit_vis {x : Nat} (hx : gFitA 33 (T.1 x).1 = true) : (T.1 x).1 ≠ 0 := fun e => by rw [e] at hx; exact absurd hx (by decide)
theorem G_lapp {a k x : Nat} {xs : List Nat} (hd : decode M.2.1 pc = .ok (.invokevirtual k, 3)) (hC : gC M.2.2.2.2.1 k = some (0, gJ2_add)) (t : zT E h T) (hl : T.2 a = some xs) (hx : gFitA 33 (T.1 x).1 = true) (hlen : xs.length < 150) (hdd : 8 ≤ d) (h1 : uc + 1 ≤ mc) (h2 : us + gr xs.length ≤ ms) (hc : gCat st) (kk : ∀ h, zT E h (tLs T a (xs ++ [x])) → G E l M d mc ms Q (pc + 3) lv (vI 1 :: st) h (uc + 1) (us + gr xs.length)) : G E l M d mc ms Q pc lv (.ref x :: .ref a :: st) h uc us := by
  have tt := t
  obtain ⟨hB, hE, tv, ow, ho⟩ := t
  obtain ⟨⟨e, cap, r⟩, r2⟩ := ho a xs hl
  refine G_callV1v (d' := 7) hd hC r.1.1 (by decide) rfl (ok_J2_add r hlen hB (zT_fit tt hx) (Nat.le_refl _)) (by omega) h1 h2 hc (fun v h' q => ?_)
  obtain ⟨rfl, q⟩ := q
  refine kk h' (zT_ad hB hE tv ho ⟨r.1.1, r.1.2.1⟩ q (fun y hy => ?_))
  rcases List.mem_append.mp hy with z | z
  · exact r2 y z
  · rw [List.mem_singleton.mp z]; exact fit_vis hx
theorem G_lins {a k i x : Nat} {xs : List Nat} (hd : decode M.2.1 pc = .ok (.invokevirtual k, 3)) (hC : gC M.2.2.2.2.1 k = some (0, gJ2_add_3)) (t : zT E h T) (hl : T.2 a = some xs) (hx : gFitA 33 (T.1 x).1 = true) (hi : i ≤ xs.length) (hlen : xs.length < 150) (hdd : 8 ≤ d) (h1 : uc + 1 ≤ mc) (h2 : us + gr xs.length ≤ ms) (hc : gCat st) (kk : ∀ h, zT E h (tLs T a (insL xs i x)) → G E l M d mc ms Q (pc + 3) lv st h (uc + 1) (us + gr xs.length)) : G E l M d mc ms Q pc lv (.ref x :: vI i :: .ref a :: st) h uc us := by
  have tt := t
  obtain ⟨hB, hE, tv, ow, ho⟩ := t
  obtain ⟨⟨e, cap, r⟩, r2⟩ := ho a xs hl
  refine G_callV2u (d' := 7) hd hC r.1.1 (by decide) rfl (ok_J2_add_3 r hlen hB (zT_fit tt hx) hi (Nat.le_refl _)) (by omega) h1 h2 hc (fun h' q => ?_)
  refine kk h' (zT_ad hB hE tv ho ⟨r.1.1, r.1.2.1⟩ q (fun y hy => ?_))
  rcases insL_mem hy with z | z
  · rw [z]; exact fit_vis hx
  · exact r2 y z
theorem G_ldel {a k i x : Nat} {xs : List Nat} (hd : decode M.2.1 pc = .ok (.invokevirtual k, 3)) (hC : gC M.2.2.2.2.1 k = some (0, gJ2_remove)) (t : zT E h T) (hl : T.2 a = some xs) (hx : xs[i]? = some x) (hdd : 4 ≤ d) (h1 : uc ≤ mc) (h2 : us ≤ ms) (hc : gCat st) (kk : ∀ h, zT E h (tLs T a (delL xs i)) → G E l M d mc ms Q (pc + 3) lv (.ref x :: st) h uc us) : G E l M d mc ms Q pc lv (vI i :: .ref a :: st) h uc us := by
  obtain ⟨hB, hE, tv, ow, ho⟩ := t
  obtain ⟨⟨e, cap, r⟩, r2⟩ := ho a xs hl
  refine G_callV1v (d' := 3) hd hC r.1.1 (by decide) rfl (ok_J2_remove r hx (Nat.le_refl _)) (by omega) h1 h2 hc (fun v h' q => ?_)
  obtain ⟨rfl, q⟩ := q
  exact kk h' (zT_ad hB hE tv ho ⟨r.1.1, r.1.2.1⟩ q (fun y hy => r2 y (delL_mem hy)))
theorem G_lclr {a k : Nat} {xs : List Nat} (hd : decode M.2.1 pc = .ok (.invokevirtual k, 3)) (hC : gC M.2.2.2.2.1 k = some (0, gJ2_clear)) (t : zT E h T) (hl : T.2 a = some xs) (hdd : 2 ≤ d) (h1 : uc ≤ mc) (h2 : us ≤ ms) (hc : gCat st) (kk : ∀ h, zT E h (tLs T a []) → G E l M d mc ms Q (pc + 3) lv st h uc us) : G E l M d mc ms Q pc lv (.ref a :: st) h uc us := by
  obtain ⟨hB, hE, tv, ow, ho⟩ := t
  obtain ⟨⟨e, cap, r⟩, r2⟩ := ho a xs hl
  refine G_callV0u (d' := 1) hd hC r.1.1 (by decide) rfl (ok_J2_clear r (Nat.le_refl _)) (by omega) h1 h2 hc (fun h' q => ?_)
  exact kk h' (zT_ad hB hE tv ho ⟨r.1.1, r.1.2.1⟩ q (fun y hy => by simp at hy))
theorem G_lini {a k : Nat} (hd : decode M.2.1 pc = .ok (.invokespecial k, 3)) (hC : gC M.2.2.2.2.1 k = some (2, gJ2_init)) (t : rawL E h T a) (hdd : 5 ≤ d) (h1 : uc ≤ mc) (h2 : us ≤ ms) (hc : gCat st) (kk : ∀ h, zT E h (tLs T a []) → G E l M d mc ms Q (pc + 3) lv st h uc us) : G E l M d mc ms Q pc lv (.ref a :: st) h uc us := by
  have hq : gOk E l gJ2_init 4 0 0 [.ref a] h (gRu (fun h' => zT E h' (tLs T a []))) := by
    refine gOk_mono (fun v h' q => ?_) (ok_J2_init (ow := fun _ => 0) t.2.1 t.2.2.1 t.2.2.2.1 t.2.2.2.2.1 t.1.2.1 (Nat.le_refl _))
    obtain ⟨rfl, q1, q2, q3⟩ := q
    refine ⟨rfl, zT_init t (fun ow => ?_) q2 q3⟩
    obtain ⟨r1, r4, r5, r6, r7, r9, r10⟩ := q1
    refine ⟨r1, r4, r5, r6, r7, ?_, r10⟩
    rcases r9 with z | z
    · exact Or.inl z
    · exact absurd (tCap_b z.2.2.2) (by omega)
  exact G_callI0u (d' := 4) hd hC rfl hq (by omega) h1 h2 hc (fun h' q => kk h' q)
end TROWS
