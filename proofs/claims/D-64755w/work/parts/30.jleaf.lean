set_option maxRecDepth 100000
/-! the JDK's small ones -/
def sgI (x : Int) : Int := if x < 0 then -1 else if x = 0 then 0 else 1
def mxI (x y : Int) : Int := if x < y then y else x
def mnI (x y : Int) : Int := if y < x then y else x
theorem sgB_neg {b : BitVec 64} (h : b.msb = true) : b.sshiftRight 63 = BitVec.allOnes 64 := by
  ext i hi
  rw [BitVec.getElem_sshiftRight, BitVec.getElem_allOnes]
  split
  · have : i = 0 := by omega
    subst this
    rw [BitVec.msb_eq_getLsbD_last] at h
    simpa using h
  · exact h
theorem sgB_pos {b : BitVec 64} (h : b.msb = false) : b.sshiftRight 63 = 0#64 := by
  ext i hi
  rw [BitVec.getElem_sshiftRight]
  simp [h]
  intro q
  have : i = 0 := by omega
  subst this
  rw [BitVec.msb_eq_getLsbD_last] at h
  simpa using h
theorem sgB_u1 {b : BitVec 64} (h : b.msb = true) : b >>> 63 = 1#64 := by
  apply BitVec.eq_of_toNat_eq
  rw [BitVec.msb_eq_decide] at h
  simp at h
  simp [BitVec.toNat_ushiftRight, Nat.shiftRight_eq_div_pow]
  have := b.isLt
  omega
theorem signum_of (x : Int) (h : -9223372036854775808 < x ∧ x ≤ 9223372036854775807) : ((Int64.ofInt x >>> ((63 : Int32).toInt64 &&& 63)) ||| ((-(Int64.ofInt x)).toUInt64 >>> ((63 : Int32).toInt64.toUInt64 &&& Int64.toUInt64 63)).toInt64).toInt32 = Int32.ofInt (sgI x) := by
  have e1 : ((63 : Int32).toInt64 &&& 63) = (63 : Int64) := by decide
  have e2 : ((63 : Int32).toInt64.toUInt64 &&& Int64.toUInt64 63) = (63 : UInt64) := by decide
  rw [e1, e2]
  apply Int32.toBitVec_inj.mp
  have tb : ∀ y : Int, -9223372036854775808 ≤ y → y ≤ 9223372036854775807 → (BitVec.ofInt 64 y).msb = decide (y < 0) := by
    intro y h1 h2
    rw [BitVec.msb_eq_toInt, BitVec.toInt_ofInt]
    congr 1
    simp [Int.bmod_def]
    omega
  have t1 : (Int64.ofInt x >>> (63 : Int64)).toBitVec = (BitVec.ofInt 64 x).sshiftRight 63 := by
    rw [Int64.toBitVec_shiftRight]; rfl
  have t2 : (((-(Int64.ofInt x)).toUInt64 >>> (63 : UInt64)).toInt64).toBitVec = (BitVec.ofInt 64 (-x)) >>> 63 := by
    rw [← Int64.ofInt_neg]
    rfl
  rw [Int64.toBitVec_toInt32, Int64.toBitVec_or, t1, t2]
  unfold sgI
  by_cases c : x < 0
  · rw [if_pos c, sgB_neg (by rw [tb x (by omega) (by omega)]; simpa using c), BitVec.allOnes_or]
    decide
  · rw [if_neg c, sgB_pos (by rw [tb x (by omega) (by omega)]; simpa using c)]
    by_cases c2 : x = 0
    · subst c2; decide
    · rw [if_neg c2, sgB_u1 (by rw [tb (-x) (by omega) (by omega)]; simp; omega)]
      decide
theorem mathRows0 : (Jvm.natives.all fun r => r.cls != "java/lang/Math" || (["(D)D", "(DD)D", "(DDD)D", "(F)F", "(FF)F", "(FFF)F"] : List String).contains r.desc) = true := by decide +kernel
theorem mathPlain0 {x : MethodName} (hc : x.cls = "java/lang/Math") (hd : (["(D)D", "(DD)D", "(DDD)D", "(F)F", "(FF)F", "(FFF)F"] : List String).contains x.desc = false) : plainFor x = true := by
  unfold plainFor
  rw [Bool.or_eq_true]; right
  rw [Option.isNone_iff_eq_none, NativeRow.find?, List.find?_eq_none]
  intro r hr h
  have := List.all_eq_true.mp mathRows0 r hr
  simp only [Bool.and_eq_true, beq_iff_eq] at h
  rw [h.1.2, h.2, hc, hd] at this
  simp at this
theorem gOk_ofF {E : gV} {l : Launch} {M : gM} {d mc ms : Nat} {av : List Value} {h : gH} {Q : Option Value → gH → Prop} (hM : gMok M) (hy : plainFor M.1 = true) (hlen : (lg_sl av).length ≤ M.2.2.1) {L : gLs} (hL : gLz 0 L = lv_args 0 av)
    (k : G E l M d mc ms (gRet Q) 0 L [] h 0 0) (hh : gHt M = [] := by first | rfl | decide) : gOk E l M d mc ms av h Q := by
  unfold gOk
  refine MetFree.of_bodySF (code := M.2.1) (maxLocals := M.2.2.1) (ret := M.2.2.2.1) hy ?_ ?_
  · intro args s m h hn
    obtain ⟨meth, c, h1, h2, h3, h4, h5, h6, -, -⟩ := Cond.code_spec hn (atoms_spec (ws := ws_ M.1 M.2.1 M.2.2.1 M.2.2.2.1) h _ List.mem_cons_self)
    exact ⟨meth, c, h1, h2, h3, h4, h5, h6⟩
  · intro p e s m args below meth c s₁ B hml hv _
    have hh0 : s₁.heap = s.heap := by rw [B.state]; rfl
    obtain ⟨rfl, hR, hK⟩ := hv
    have hts := atoms_spec (ws := ws_ M.1 M.2.1 M.2.2.1 M.2.2.2.1) B.pre
    have hts : ∀ w ∈ lw_all, w.before _ s = true := fun w h => hts w (List.mem_cons_of_mem _ h)
    have hown : s.vm.findClass M.1.cls = some m.cls := findClass_of_methodNamed B.named
    have kk := k p e (headSpec (ws_ M.1 M.2.1 M.2.2.1 M.2.2.2.1) (gRm d mc ms)).room s m av.toArray below meth c _ _ [] ⟨B.exec, B.bytes, B.returns, hml, by rw [hM.2.2.2.2]; exact hown, hts, B.notSynchronized, hK, Nat.le_refl _, Nat.le_refl _, Nat.le_refl _, Nat.le_refl _, (name_of_methodNamed B.named B.method).1, by rw [hh]; have := B.noHandlers (atoms_spec (ws := ws_ M.1 M.2.1 M.2.2.1 M.2.2.2.1) B.pre _ List.mem_cons_self); rw [Array.isEmpty_iff.mp this]; rfl⟩ (by rw [hL]; exact lv_entry av hlen) hR (fun q hq => by cases hq)
    rw [← lg_entry_eq] at kk
    obtain ⟨t, a1, o, h1, h2, h3, L, h4, h5⟩ := kk s₁ hh0 (Stand.of_body B)
    obtain ⟨h', h6, v, h7, h8⟩ := h3
    exact ⟨t, o, a1, h1, h2, ⟨⟨h', h6, v, h7, h8⟩, L, ⟨⟨v, h7⟩, h4⟩, h5⟩⟩
section JLEAF
variable {E : gV} {l : Launch} {h : gH}
theorem pu_J9_max {x y : Int} (hx : -2147483648 ≤ x ∧ x ≤ 2147483647) (hy : -2147483648 ≤ y ∧ y ≤ 2147483647) : gPu E l gJ9_max 1 [vI x, vI y] h (vI (mxI x y)) := by
  intro d hd
  refine gOk_ofF gmok_J9_max (mathPlain0 rfl rfl) (Nat.le_of_ble_eq_true rfl) (L := [some _, some _]) rfl ?_
  refine G_iload_0 (pc := 0) dJ9_max_0 ?_
  refine G_iload_1 (pc := 1) dJ9_max_1 ?_
  refine G_icmp_lt (pc := 2) 9 dJ9_max_2 (by decide) (by omega) (by omega) (fun c2 => ?_) (fun c2 => ?_)
  · skip
    refine G_iload_1 (pc := 9) dJ9_max_9 ?_
    refine G_ireturn (pc := 10) dJ9_max_10 rfl rfl (by omega) (by omega) ?_
    exact ⟨_, rfl, _, rfl, by unfold mxI; first | rw [if_pos (by omega)] | rw [if_neg (by omega)], rfl⟩
  · skip
    refine G_iload_0 (pc := 5) dJ9_max_5 ?_
    refine G_goto (pc := 6) 10 dJ9_max_6 (by decide) ?_
    refine G_ireturn (pc := 10) dJ9_max_10 rfl rfl (by omega) (by omega) ?_
    exact ⟨_, rfl, _, rfl, by unfold mxI; first | rw [if_pos (by omega)] | rw [if_neg (by omega)], rfl⟩
theorem pu_J9_min {x y : Int} (hx : -2147483648 ≤ x ∧ x ≤ 2147483647) (hy : -2147483648 ≤ y ∧ y ≤ 2147483647) : gPu E l gJ9_min 1 [vI x, vI y] h (vI (mnI x y)) := by
  intro d hd
  refine gOk_ofF gmok_J9_min (mathPlain0 rfl rfl) (Nat.le_of_ble_eq_true rfl) (L := [some _, some _]) rfl ?_
  refine G_iload_0 (pc := 0) dJ9_min_0 ?_
  refine G_iload_1 (pc := 1) dJ9_min_1 ?_
  refine G_icmp_gt (pc := 2) 9 dJ9_min_2 (by decide) (by omega) (by omega) (fun c2 => ?_) (fun c2 => ?_)
  · skip
    refine G_iload_1 (pc := 9) dJ9_min_9 ?_
    refine G_ireturn (pc := 10) dJ9_min_10 rfl rfl (by omega) (by omega) ?_
    exact ⟨_, rfl, _, rfl, by unfold mnI; first | rw [if_pos (by omega)] | rw [if_neg (by omega)], rfl⟩
  · skip
    refine G_iload_0 (pc := 5) dJ9_min_5 ?_
    refine G_goto (pc := 6) 10 dJ9_min_6 (by decide) ?_
    refine G_ireturn (pc := 10) dJ9_min_10 rfl rfl (by omega) (by omega) ?_
    exact ⟨_, rfl, _, rfl, by unfold mnI; first | rw [if_pos (by omega)] | rw [if_neg (by omega)], rfl⟩
theorem pu_J20_compare {x y : Int} (hx : -2147483648 ≤ x ∧ x ≤ 2147483647) (hy : -2147483648 ≤ y ∧ y ≤ 2147483647) : gPu E l gJ20_compare 1 [vI x, vI y] h (vI (sgI (x - y))) := by
  intro d hd
  refine gOk_of gmok_J20_compare rfl (Nat.le_of_ble_eq_true rfl) (L := [some _, some _]) rfl ?_
  refine G_iload_0 (pc := 0) dJ20_compare_0 ?_
  refine G_iload_1 (pc := 1) dJ20_compare_1 ?_
  refine G_icmp_ge (pc := 2) 9 dJ20_compare_2 (by decide) (by omega) (by omega) (fun c2 => ?_) (fun c2 => ?_)
  · skip
    refine G_iload_0 (pc := 9) dJ20_compare_9 ?_
    refine G_iload_1 (pc := 10) dJ20_compare_10 ?_
    refine G_icmp_ne (pc := 11) 18 dJ20_compare_11 (by decide) (by omega) (by omega) (fun c11 => ?_) (fun c11 => ?_)
    · skip
      refine G_iconst (pc := 18) dJ20_compare_18 ?_
      refine G_ireturn (pc := 19) dJ20_compare_19 rfl rfl (by omega) (by omega) ?_
      exact ⟨_, rfl, _, rfl, by unfold sgI; first | rw [if_pos (by omega)] | (rw [if_neg (by omega)]; first | rw [if_pos (by omega)] | rw [if_neg (by omega)]), rfl⟩
    · skip
      refine G_iconst (pc := 14) dJ20_compare_14 ?_
      refine G_goto (pc := 15) 19 dJ20_compare_15 (by decide) ?_
      refine G_ireturn (pc := 19) dJ20_compare_19 rfl rfl (by omega) (by omega) ?_
      exact ⟨_, rfl, _, rfl, by unfold sgI; first | rw [if_pos (by omega)] | (rw [if_neg (by omega)]; first | rw [if_pos (by omega)] | rw [if_neg (by omega)]), rfl⟩
  · skip
    refine G_iconst (pc := 5) dJ20_compare_5 ?_
    refine G_goto (pc := 6) 19 dJ20_compare_6 (by decide) ?_
    refine G_ireturn (pc := 19) dJ20_compare_19 rfl rfl (by omega) (by omega) ?_
    exact ⟨_, rfl, _, rfl, by unfold sgI; first | rw [if_pos (by omega)] | (rw [if_neg (by omega)]; first | rw [if_pos (by omega)] | rw [if_neg (by omega)]), rfl⟩
theorem pu_J8_signum {x : Int} (hx : -9223372036854775808 < x ∧ x ≤ 9223372036854775807) : gPu E l gJ8_signum 1 [vJ x] h (vI (sgI x)) := by
  intro d hd
  refine gOk_of gmok_J8_signum rfl (Nat.le_of_ble_eq_true rfl) (L := [some _, none]) rfl ?_
  refine G_lload_0 (pc := 0) dJ8_signum_0 ?_
  refine G_bipush (pc := 1) dJ8_signum_1 (by omega) ?_
  refine G_lshr (pc := 3) dJ8_signum_3 ?_
  refine G_lload_0 (pc := 4) dJ8_signum_4 ?_
  refine G_lneg (pc := 5) dJ8_signum_5 ?_
  refine G_bipush (pc := 6) dJ8_signum_6 (by omega) ?_
  refine G_lushr (pc := 8) dJ8_signum_8 ?_
  refine G_lor (pc := 9) dJ8_signum_9 ?_
  refine G_l2iR (pc := 10) dJ8_signum_10 ?_
  have e := signum_of x hx
  have e2 : Int32.ofInt 63 = (63 : Int32) := by decide
  rw [e2, e]
  refine G_ireturn (x := sgI x) (pc := 11) dJ8_signum_11 rfl rfl (Nat.zero_le _) (Nat.zero_le _) ?_
  exact ⟨_, rfl, _, rfl, rfl, rfl⟩
end JLEAF
