set_option maxRecDepth 100000
/-! rows of the calculus, numbers as whole numbers -/
abbrev vI (x : Int) : Value := .int (Int32.ofInt x)
abbrev vJ (x : Int) : Value := .long (Int64.ofInt x)
theorem i32_lt {x y : Int} (hx : -2147483648 ≤ x ∧ x ≤ 2147483647) (hy : -2147483648 ≤ y ∧ y ≤ 2147483647) : Int32.ofInt x < Int32.ofInt y ↔ x < y := by
  rw [Int32.lt_iff_toInt_lt, Int32.toInt_ofInt_of_le (by simp; omega) (by simp; omega), Int32.toInt_ofInt_of_le (by simp; omega) (by simp; omega)]
theorem i32_le {x y : Int} (hx : -2147483648 ≤ x ∧ x ≤ 2147483647) (hy : -2147483648 ≤ y ∧ y ≤ 2147483647) : Int32.ofInt x ≤ Int32.ofInt y ↔ x ≤ y := by
  rw [Int32.le_iff_toInt_le, Int32.toInt_ofInt_of_le (by simp; omega) (by simp; omega), Int32.toInt_ofInt_of_le (by simp; omega) (by simp; omega)]
theorem i32_eq {x y : Int} (hx : -2147483648 ≤ x ∧ x ≤ 2147483647) (hy : -2147483648 ≤ y ∧ y ≤ 2147483647) : Int32.ofInt x = Int32.ofInt y ↔ x = y := by
  rw [← Int32.toInt_inj, Int32.toInt_ofInt_of_le (by simp; omega) (by simp; omega), Int32.toInt_ofInt_of_le (by simp; omega) (by simp; omega)]
theorem i32_0 : (0 : Int32) = Int32.ofInt 0 := rfl
theorem i32_cl {x : Int} (h : 0 ≤ x ∧ x ≤ 2147483647) : (Int32.ofInt x).toNatClampNeg = x.toNat := by
  rw [← Int32.toNat_toInt, Int32.toInt_ofInt_of_le (by simp; omega) (by simp; omega)]
theorem i32_in {x : Int} {n : Nat} (h : 0 ≤ x ∧ x < n) (hn : n ≤ 2147483647) : ¬ (Int32.ofInt x < 0 ∨ n ≤ (Int32.ofInt x).toNatClampNeg) := by
  rw [i32_0, i32_lt (by omega) (by omega), i32_cl (by omega)]
  omega
theorem i64_of {x : Int} (h : -2147483648 ≤ x ∧ x ≤ 2147483647) : (Int32.ofInt x).toInt64 = Int64.ofInt x := by
  rw [← Int64.toInt_inj, Int32.toInt_toInt64, Int32.toInt_ofInt_of_le (by simp; omega) (by simp; omega), Int64.toInt_ofInt_of_le (by simp; omega) (by simp; omega)]
theorem i64_lt {x y : Int} (hx : -9223372036854775808 ≤ x ∧ x ≤ 9223372036854775807) (hy : -9223372036854775808 ≤ y ∧ y ≤ 9223372036854775807) : Int64.ofInt x < Int64.ofInt y ↔ x < y := by
  rw [Int64.lt_iff_toInt_lt, Int64.toInt_ofInt_of_le (by simp; omega) (by simp; omega), Int64.toInt_ofInt_of_le (by simp; omega) (by simp; omega)]
theorem i64_eq {x y : Int} (hx : -9223372036854775808 ≤ x ∧ x ≤ 9223372036854775807) (hy : -9223372036854775808 ≤ y ∧ y ≤ 9223372036854775807) : Int64.ofInt x = Int64.ofInt y ↔ x = y := by
  rw [← Int64.toInt_inj, Int64.toInt_ofInt_of_le (by simp; omega) (by simp; omega), Int64.toInt_ofInt_of_le (by simp; omega) (by simp; omega)]
theorem i8_of {z : Int} (h : -128 ≤ z ∧ z ≤ 127) : (Int8.ofInt z).toInt32 = Int32.ofInt z := by
  rw [← Int32.toInt_inj, Int8.toInt_toInt32, Int8.toInt_ofInt_of_le (by simp; omega) (by simp; omega), Int32.toInt_ofInt_of_le (by simp; omega) (by simp; omega)]
theorem i16_of {z : Int} (h : -32768 ≤ z ∧ z ≤ 32767) : (Int16.ofInt z).toInt32 = Int32.ofInt z := by
  rw [← Int32.toInt_inj, Int16.toInt_toInt32, Int16.toInt_ofInt_of_le (by simp; omega) (by simp; omega), Int32.toInt_ofInt_of_le (by simp; omega) (by simp; omega)]
theorem l2i_of (x : Int) : (Int64.ofInt x).toInt32 = Int32.ofInt x := by simp
theorem i32_ne {y : Int} (hy : 0 < y ∧ y ≤ 2147483647) : ¬ Int32.ofInt y = 0 := by
  rw [i32_0, i32_eq (by omega) (by omega)]
  omega
theorem i32_div {x y : Int} (hx : 0 ≤ x ∧ x ≤ 2147483647) (hy : 0 < y ∧ y ≤ 2147483647) : Int32.ofInt x / Int32.ofInt y = Int32.ofInt (x / y) := by
  have h1 : 0 ≤ x / y := Int.ediv_nonneg hx.1 (by omega)
  have h2 : x / y ≤ x := Int.ediv_le_self y hx.1
  rw [← Int32.toInt_inj, Int32.toInt_div_of_ne_right _ _ (by
    intro e
    rw [← Int32.toInt_inj, Int32.toInt_ofInt_of_le (by simp; omega) (by simp; omega)] at e
    have : ((-1 : Int32)).toInt = -1 := by decide
    omega), Int32.toInt_ofInt_of_le (by simp; omega) (by simp; omega), Int32.toInt_ofInt_of_le (by simp; omega) (by simp; omega), Int32.toInt_ofInt_of_le (by simp; omega) (by simp; omega)]
  exact Int.tdiv_eq_ediv_of_nonneg hx.1
theorem i32_rem {x y : Int} (hx : 0 ≤ x ∧ x ≤ 2147483647) (hy : 0 < y ∧ y ≤ 2147483647) : Int32.ofInt x - Int32.ofInt x / Int32.ofInt y * Int32.ofInt y = Int32.ofInt (x % y) := by
  rw [i32_div hx hy, ← Int32.ofInt_mul, ← Int32.ofInt_sub]
  congr 1
  have := Int.mul_ediv_add_emod x y
  grind
theorem lcmp_eq {x y : Int} (hx : -9223372036854775808 ≤ x ∧ x ≤ 9223372036854775807) (hy : -9223372036854775808 ≤ y ∧ y ≤ 9223372036854775807) : lg_cmp (Int64.ofInt x) (Int64.ofInt y) = 0 ↔ x = y := by
  have h1 := i64_lt hy hx
  have h2 := i64_eq hx hy
  unfold lg_cmp
  split
  · next q => have : y < x := h1.mp q; constructor <;> intro e <;> first | (exact absurd e (by decide)) | omega
  · split
    · next q => have := h2.mp q; simp [this]
    · next q => have : ¬ x = y := fun e => q (h2.mpr e); constructor <;> intro e <;> first | (exact absurd e (by decide)) | omega
theorem lcmp_lt {x y : Int} (hx : -9223372036854775808 ≤ x ∧ x ≤ 9223372036854775807) (hy : -9223372036854775808 ≤ y ∧ y ≤ 9223372036854775807) : lg_cmp (Int64.ofInt x) (Int64.ofInt y) < 0 ↔ x < y := by
  have h1 := i64_lt hy hx
  have h2 := i64_eq hx hy
  unfold lg_cmp
  split
  · next q => have : y < x := h1.mp q; constructor <;> intro e <;> first | (exact absurd e (by decide)) | omega
  · next q0 =>
    split
    · next q => have := h2.mp q; constructor <;> intro e <;> first | (exact absurd e (by decide)) | omega
    · next q => have : ¬ x = y := fun e => q (h2.mpr e); have : ¬ y < x := fun e => q0 (h1.mpr e); constructor <;> intro e <;> first | decide | omega
theorem lcmp_gt {x y : Int} (hx : -9223372036854775808 ≤ x ∧ x ≤ 9223372036854775807) (hy : -9223372036854775808 ≤ y ∧ y ≤ 9223372036854775807) : 0 < lg_cmp (Int64.ofInt x) (Int64.ofInt y) ↔ y < x := by
  have h1 := i64_lt hy hx
  have h2 := i64_eq hx hy
  unfold lg_cmp
  split
  · next q => have : y < x := h1.mp q; constructor <;> intro e <;> first | decide | omega
  · next q0 =>
    split
    · next q => have := h2.mp q; constructor <;> intro e <;> first | (exact absurd e (by decide)) | omega
    · next q => have : ¬ x = y := fun e => q (h2.mpr e); have : ¬ y < x := fun e => q0 (h1.mpr e); constructor <;> intro e <;> first | (exact absurd e (by decide)) | omega
theorem lcmp_ne {x y : Int} (hx : -9223372036854775808 ≤ x ∧ x ≤ 9223372036854775807) (hy : -9223372036854775808 ≤ y ∧ y ≤ 9223372036854775807) : lg_cmp (Int64.ofInt x) (Int64.ofInt y) = 0 ↔ x = y := lcmp_eq hx hy
theorem lcmp_ge {x y : Int} (hx : -9223372036854775808 ≤ x ∧ x ≤ 9223372036854775807) (hy : -9223372036854775808 ≤ y ∧ y ≤ 9223372036854775807) : 0 ≤ lg_cmp (Int64.ofInt x) (Int64.ofInt y) ↔ y ≤ x := by
  rw [← Int32.not_lt, lcmp_lt hx hy]; omega
theorem lcmp_le {x y : Int} (hx : -9223372036854775808 ≤ x ∧ x ≤ 9223372036854775807) (hy : -9223372036854775808 ≤ y ∧ y ≤ 9223372036854775807) : lg_cmp (Int64.ofInt x) (Int64.ofInt y) ≤ 0 ↔ x ≤ y := by
  rw [← Int32.not_lt, lcmp_gt hx hy]; omega
section ROWS
variable {E : gV} {l : Launch} {M : gM} {d mc ms : Nat} {Q : Outcome → gH → Prop} {pc : Nat} {lv : gLs} {st : List Value} {h : gH} {uc us : Nat}
theorem G_iconst {z : Int} (hd : decode M.2.1 pc = .ok (.iconst z, 1)) (k : G E l M d mc ms Q (pc + 1) lv (vI z :: st) h uc us) : G E l M d mc ms Q pc lv (st) h uc us := by
  intro p e R s m args below meth c ls H locs X hl hR hlo
  exact lv_iconst X.1 X.2.1 hd rfl (k p e R s m args below meth c ls H locs X hl hR hlo)
theorem G_bipush {z : Int} (hd : decode M.2.1 pc = .ok (.bipush z, 2)) (hz : -128 ≤ z ∧ z ≤ 127) (k : G E l M d mc ms Q (pc + 2) lv (vI z :: st) h uc us) : G E l M d mc ms Q pc lv (st) h uc us := by
  intro p e R s m args below meth c ls H locs X hl hR hlo
  exact lv_bipush X.1 X.2.1 hd (i8_of hz) (k p e R s m args below meth c ls H locs X hl hR hlo)
theorem G_sipush {z : Int} (hd : decode M.2.1 pc = .ok (.sipush z, 3)) (hz : -32768 ≤ z ∧ z ≤ 32767) (k : G E l M d mc ms Q (pc + 3) lv (vI z :: st) h uc us) : G E l M d mc ms Q pc lv (st) h uc us := by
  intro p e R s m args below meth c ls H locs X hl hR hlo
  exact lv_sipush X.1 X.2.1 hd (i16_of hz) (k p e R s m args below meth c ls H locs X hl hR hlo)
theorem G_lconst0 (hd : decode M.2.1 pc = .ok (.lconst 0, 1)) (k : G E l M d mc ms Q (pc + 1) lv (vJ 0 :: st) h uc us) : G E l M d mc ms Q pc lv (st) h uc us := by
  intro p e R s m args below meth c ls H locs X hl hR hlo
  exact lv_lconst X.1 X.2.1 hd rfl (k p e R s m args below meth c ls H locs X hl hR hlo)
theorem G_lconst1 (hd : decode M.2.1 pc = .ok (.lconst 1, 1)) (k : G E l M d mc ms Q (pc + 1) lv (vJ 1 :: st) h uc us) : G E l M d mc ms Q pc lv (st) h uc us := by
  intro p e R s m args below meth c ls H locs X hl hR hlo
  exact lv_lconst X.1 X.2.1 hd rfl (k p e R s m args below meth c ls H locs X hl hR hlo)
theorem G_iadd {x y : Int} (hd : decode M.2.1 pc = .ok (.iadd, 1)) (k : G E l M d mc ms Q (pc + 1) lv (vI (x + y) :: st) h uc us) : G E l M d mc ms Q pc lv (vI y :: vI x :: st) h uc us := by
  intro p e R s m args below meth c ls H locs X hl hR hlo
  refine lv_iadd X.1 X.2.1 hd  ?_
  rw [← Int32.ofInt_add]
  exact k p e R s m args below meth c ls H locs X hl hR hlo
theorem G_ladd {x y : Int} (hd : decode M.2.1 pc = .ok (.ladd, 1)) (k : G E l M d mc ms Q (pc + 1) lv (vJ (x + y) :: st) h uc us) : G E l M d mc ms Q pc lv (vJ y :: vJ x :: st) h uc us := by
  intro p e R s m args below meth c ls H locs X hl hR hlo
  refine lv_ladd X.1 X.2.1 hd  ?_
  rw [← Int64.ofInt_add]
  exact k p e R s m args below meth c ls H locs X hl hR hlo
theorem G_isub {x y : Int} (hd : decode M.2.1 pc = .ok (.isub, 1)) (k : G E l M d mc ms Q (pc + 1) lv (vI (x - y) :: st) h uc us) : G E l M d mc ms Q pc lv (vI y :: vI x :: st) h uc us := by
  intro p e R s m args below meth c ls H locs X hl hR hlo
  refine lv_isub X.1 X.2.1 hd  ?_
  rw [← Int32.ofInt_sub]
  exact k p e R s m args below meth c ls H locs X hl hR hlo
theorem G_lsub {x y : Int} (hd : decode M.2.1 pc = .ok (.lsub, 1)) (k : G E l M d mc ms Q (pc + 1) lv (vJ (x - y) :: st) h uc us) : G E l M d mc ms Q pc lv (vJ y :: vJ x :: st) h uc us := by
  intro p e R s m args below meth c ls H locs X hl hR hlo
  refine lv_lsub X.1 X.2.1 hd  ?_
  rw [← Int64.ofInt_sub]
  exact k p e R s m args below meth c ls H locs X hl hR hlo
theorem G_imul {x y : Int} (hd : decode M.2.1 pc = .ok (.imul, 1)) (k : G E l M d mc ms Q (pc + 1) lv (vI (x * y) :: st) h uc us) : G E l M d mc ms Q pc lv (vI y :: vI x :: st) h uc us := by
  intro p e R s m args below meth c ls H locs X hl hR hlo
  refine lv_imul X.1 X.2.1 hd  ?_
  rw [← Int32.ofInt_mul]
  exact k p e R s m args below meth c ls H locs X hl hR hlo
theorem G_lmul {x y : Int} (hd : decode M.2.1 pc = .ok (.lmul, 1)) (k : G E l M d mc ms Q (pc + 1) lv (vJ (x * y) :: st) h uc us) : G E l M d mc ms Q pc lv (vJ y :: vJ x :: st) h uc us := by
  intro p e R s m args below meth c ls H locs X hl hR hlo
  refine lv_lmul X.1 X.2.1 hd  ?_
  rw [← Int64.ofInt_mul]
  exact k p e R s m args below meth c ls H locs X hl hR hlo
theorem G_ineg {x : Int} (hd : decode M.2.1 pc = .ok (.ineg, 1)) (k : G E l M d mc ms Q (pc + 1) lv (vI (-x) :: st) h uc us) : G E l M d mc ms Q pc lv (vI x :: st) h uc us := by
  intro p e R s m args below meth c ls H locs X hl hR hlo
  refine lv_ineg X.1 X.2.1 hd  ?_
  rw [← Int32.ofInt_neg]
  exact k p e R s m args below meth c ls H locs X hl hR hlo
theorem G_lneg {x : Int64} (hd : decode M.2.1 pc = .ok (.lneg, 1)) (k : G E l M d mc ms Q (pc + 1) lv (.long (-x) :: st) h uc us) : G E l M d mc ms Q pc lv (.long x :: st) h uc us := by
  intro p e R s m args below meth c ls H locs X hl hR hlo
  exact lv_lneg X.1 X.2.1 hd  (k p e R s m args below meth c ls H locs X hl hR hlo)
theorem G_lor {x y : Int64} (hd : decode M.2.1 pc = .ok (.lor, 1)) (k : G E l M d mc ms Q (pc + 1) lv (.long (x ||| y) :: st) h uc us) : G E l M d mc ms Q pc lv (.long y :: .long x :: st) h uc us := by
  intro p e R s m args below meth c ls H locs X hl hR hlo
  exact lv_lor X.1 X.2.1 hd  (k p e R s m args below meth c ls H locs X hl hR hlo)
theorem G_lshr {x : Int64} {y : Int32} (hd : decode M.2.1 pc = .ok (.lshr, 1)) (k : G E l M d mc ms Q (pc + 1) lv (.long (x >>> (y.toInt64 &&& 63)) :: st) h uc us) : G E l M d mc ms Q pc lv (.int y :: .long x :: st) h uc us := by
  intro p e R s m args below meth c ls H locs X hl hR hlo
  exact lv_lshr X.1 X.2.1 hd rfl (k p e R s m args below meth c ls H locs X hl hR hlo)
theorem G_lushr {x : Int64} {y : Int32} (hd : decode M.2.1 pc = .ok (.lushr, 1)) (k : G E l M d mc ms Q (pc + 1) lv (.long (x.toUInt64 >>> (y.toInt64.toUInt64 &&& Int64.toUInt64 63)).toInt64 :: st) h uc us) : G E l M d mc ms Q pc lv (.int y :: .long x :: st) h uc us := by
  intro p e R s m args below meth c ls H locs X hl hR hlo
  exact lv_lushr X.1 X.2.1 hd rfl (k p e R s m args below meth c ls H locs X hl hR hlo)
theorem G_l2iR {x : Int64} (hd : decode M.2.1 pc = .ok (.l2i, 1)) (k : G E l M d mc ms Q (pc + 1) lv (.int x.toInt32 :: st) h uc us) : G E l M d mc ms Q pc lv (.long x :: st) h uc us := by
  intro p e R s m args below meth c ls H locs X hl hR hlo
  exact lv_l2i X.1 X.2.1 hd rfl (k p e R s m args below meth c ls H locs X hl hR hlo)
theorem G_l2i {x : Int} (hd : decode M.2.1 pc = .ok (.l2i, 1)) (k : G E l M d mc ms Q (pc + 1) lv (vI x :: st) h uc us) : G E l M d mc ms Q pc lv (vJ x :: st) h uc us := by
  intro p e R s m args below meth c ls H locs X hl hR hlo
  exact lv_l2i X.1 X.2.1 hd (l2i_of x) (k p e R s m args below meth c ls H locs X hl hR hlo)
theorem G_i2l {x : Int} (hd : decode M.2.1 pc = .ok (.i2l, 1)) (hx : -2147483648 ≤ x ∧ x ≤ 2147483647) (k : G E l M d mc ms Q (pc + 1) lv (vJ x :: st) h uc us) : G E l M d mc ms Q pc lv (vI x :: st) h uc us := by
  intro p e R s m args below meth c ls H locs X hl hR hlo
  exact lv_i2l X.1 X.2.1 hd (i64_of hx) (k p e R s m args below meth c ls H locs X hl hR hlo)
theorem G_idiv {x y : Int} (hd : decode M.2.1 pc = .ok (.idiv, 1)) (hx : 0 ≤ x ∧ x ≤ 2147483647) (hy : 0 < y ∧ y ≤ 2147483647) (k : G E l M d mc ms Q (pc + 1) lv (vI (x / y) :: st) h uc us) : G E l M d mc ms Q pc lv (vI y :: vI x :: st) h uc us := by
  intro p e R s m args below meth c ls H locs X hl hR hlo
  refine lv_idiv X.1 X.2.1 hd (i32_ne hy) ?_
  rw [i32_div hx hy]
  exact k p e R s m args below meth c ls H locs X hl hR hlo
theorem G_irem {x y : Int} (hd : decode M.2.1 pc = .ok (.irem, 1)) (hx : 0 ≤ x ∧ x ≤ 2147483647) (hy : 0 < y ∧ y ≤ 2147483647) (k : G E l M d mc ms Q (pc + 1) lv (vI (x % y) :: st) h uc us) : G E l M d mc ms Q pc lv (vI y :: vI x :: st) h uc us := by
  intro p e R s m args below meth c ls H locs X hl hR hlo
  refine lv_irem X.1 X.2.1 hd (i32_ne hy) ?_
  rw [i32_rem hx hy]
  exact k p e R s m args below meth c ls H locs X hl hR hlo
theorem G_iorR {x y : Int32} (hd : decode M.2.1 pc = .ok (.ior, 1)) (k : G E l M d mc ms Q (pc + 1) lv (.int (x ||| y) :: st) h uc us) : G E l M d mc ms Q pc lv (.int y :: .int x :: st) h uc us := by
  intro p e R s m args below meth c ls H locs X hl hR hlo
  exact lv_ior X.1 X.2.1 hd  (k p e R s m args below meth c ls H locs X hl hR hlo)
theorem G_iandR {x y : Int32} (hd : decode M.2.1 pc = .ok (.iand, 1)) (k : G E l M d mc ms Q (pc + 1) lv (.int (x &&& y) :: st) h uc us) : G E l M d mc ms Q pc lv (.int y :: .int x :: st) h uc us := by
  intro p e R s m args below meth c ls H locs X hl hR hlo
  exact lv_iand X.1 X.2.1 hd  (k p e R s m args below meth c ls H locs X hl hR hlo)
theorem G_ishrR {x y : Int32} (hd : decode M.2.1 pc = .ok (.ishr, 1)) (k : G E l M d mc ms Q (pc + 1) lv (.int (x >>> (y &&& 31)) :: st) h uc us) : G E l M d mc ms Q pc lv (.int y :: .int x :: st) h uc us := by
  intro p e R s m args below meth c ls H locs X hl hR hlo
  exact lv_ishr X.1 X.2.1 hd  (k p e R s m args below meth c ls H locs X hl hR hlo)
theorem G_aconst_null (hd : decode M.2.1 pc = .ok (.aconst_null, 1)) (k : G E l M d mc ms Q (pc + 1) lv (.null :: st) h uc us) : G E l M d mc ms Q pc lv (st) h uc us := by
  intro p e R s m args below meth c ls H locs X hl hR hlo
  exact lv_null X.1 X.2.1 hd  (k p e R s m args below meth c ls H locs X hl hR hlo)
theorem G_dup {v : Value} (hd : decode M.2.1 pc = .ok (.dup, 1)) (hv : v.category = 1) (k : G E l M d mc ms Q (pc + 1) lv (v :: v :: st) h uc us) : G E l M d mc ms Q pc lv (v :: st) h uc us := by
  intro p e R s m args below meth c ls H locs X hl hR hlo
  exact lv_dup X.1 X.2.1 hd hv (k p e R s m args below meth c ls H locs X hl hR hlo)
theorem G_pop {v : Value} (hd : decode M.2.1 pc = .ok (.pop, 1)) (hv : v.category = 1) (k : G E l M d mc ms Q (pc + 1) lv (st) h uc us) : G E l M d mc ms Q pc lv (v :: st) h uc us := by
  intro p e R s m args below meth c ls H locs X hl hR hlo
  exact lv_pop X.1 X.2.1 hd hv (k p e R s m args below meth c ls H locs X hl hR hlo)
theorem G_dup_x1 {v w : Value} (hd : decode M.2.1 pc = .ok (.dup_x1, 1)) (hv : v.category = 1) (hw : w.category = 1) (k : G E l M d mc ms Q (pc + 1) lv (v :: w :: v :: st) h uc us) : G E l M d mc ms Q pc lv (v :: w :: st) h uc us := by
  intro p e R s m args below meth c ls H locs X hl hR hlo
  exact lv_dup_x1 X.1 X.2.1 hd hv hw (k p e R s m args below meth c ls H locs X hl hR hlo)
theorem G_dup_x2 {v w z : Value} (hd : decode M.2.1 pc = .ok (.dup_x2, 1)) (hv : v.category = 1) (hw : w.category = 1) (hz : z.category = 1) (k : G E l M d mc ms Q (pc + 1) lv (v :: w :: z :: v :: st) h uc us) : G E l M d mc ms Q pc lv (v :: w :: z :: st) h uc us := by
  intro p e R s m args below meth c ls H locs X hl hR hlo
  exact lv_dup_x2 X.1 X.2.1 hd hv hw hz (k p e R s m args below meth c ls H locs X hl hR hlo)
theorem G_iload_0 {x : Int} (hd : decode M.2.1 pc = .ok (.iload_n 0, 1)) (k : G E l M d mc ms Q (pc + 1) (some (vI x) :: lv) (vI x :: st) h uc us) : G E l M d mc ms Q pc (some (vI x) :: lv) st h uc us := by
  intro p e R s m args below meth c ls H locs X hl hR hlo
  exact lv_iload_n X.1 X.2.1 hd rfl (gLz_get (i := 0) hl rfl) (k p e R s m args below meth c ls H locs X hl hR hlo)
theorem G_lload_0 {x : Int} (hd : decode M.2.1 pc = .ok (.lload_n 0, 1)) (k : G E l M d mc ms Q (pc + 1) (some (vJ x) :: lv) (vJ x :: st) h uc us) : G E l M d mc ms Q pc (some (vJ x) :: lv) st h uc us := by
  intro p e R s m args below meth c ls H locs X hl hR hlo
  exact lv_lload_n X.1 X.2.1 hd rfl (gLz_get (i := 0) hl rfl) (k p e R s m args below meth c ls H locs X hl hR hlo)
theorem G_aload_0 {x : Nat} (hd : decode M.2.1 pc = .ok (.aload_n 0, 1)) (k : G E l M d mc ms Q (pc + 1) (some (.ref x) :: lv) (.ref x :: st) h uc us) : G E l M d mc ms Q pc (some (.ref x) :: lv) st h uc us := by
  intro p e R s m args below meth c ls H locs X hl hR hlo
  exact lv_aload_n X.1 X.2.1 hd rfl (gLz_get (i := 0) hl rfl) (k p e R s m args below meth c ls H locs X hl hR hlo)
theorem G_aloadN_0 (hd : decode M.2.1 pc = .ok (.aload_n 0, 1)) (k : G E l M d mc ms Q (pc + 1) (some (.null) :: lv) (.null :: st) h uc us) : G E l M d mc ms Q pc (some (.null) :: lv) st h uc us := by
  intro p e R s m args below meth c ls H locs X hl hR hlo
  exact lv_aload_nN X.1 X.2.1 hd rfl (gLz_get (i := 0) hl rfl) (k p e R s m args below meth c ls H locs X hl hR hlo)
theorem G_istore_0 {z : Option Value} {x : Int} (hd : decode M.2.1 pc = .ok (.istore_n 0, 1)) (hn : 0 < M.2.2.1) (k : G E l M d mc ms Q (pc + 1) (some (vI x) :: lv) st h uc us) : G E l M d mc ms Q pc (z :: lv) (vI x :: st) h uc us := by
  intro p e R s m args below meth c ls H locs X hl hR hlo
  exact lv_istore_n X.1 X.2.1 hd rfl hl hn rfl (fun ls hl => k p e R s m args below meth c ls H locs X (gLz_set1 (L := (z :: lv)) (i := 0) rfl hl) hR hlo)
theorem G_astore_0 {z : Option Value} {x : Nat} (hd : decode M.2.1 pc = .ok (.astore_n 0, 1)) (hn : 0 < M.2.2.1) (k : G E l M d mc ms Q (pc + 1) (some (.ref x) :: lv) st h uc us) : G E l M d mc ms Q pc (z :: lv) (.ref x :: st) h uc us := by
  intro p e R s m args below meth c ls H locs X hl hR hlo
  exact lv_astore_n X.1 X.2.1 hd rfl hl hn rfl (fun ls hl => k p e R s m args below meth c ls H locs X (gLz_set1 (L := (z :: lv)) (i := 0) rfl hl) hR hlo)
theorem G_astoreN_0 {z : Option Value} (hd : decode M.2.1 pc = .ok (.astore_n 0, 1)) (hn : 0 < M.2.2.1) (k : G E l M d mc ms Q (pc + 1) (some (.null) :: lv) st h uc us) : G E l M d mc ms Q pc (z :: lv) (.null :: st) h uc us := by
  intro p e R s m args below meth c ls H locs X hl hR hlo
  exact lv_astore_nN X.1 X.2.1 hd rfl hl hn rfl (fun ls hl => k p e R s m args below meth c ls H locs X (gLz_set1 (L := (z :: lv)) (i := 0) rfl hl) hR hlo)
theorem G_lstore_0 {z z2 : Option Value} {x : Int} (hd : decode M.2.1 pc = .ok (.lstore_n 0, 1)) (hn : 0 + 1 < M.2.2.1) (k : G E l M d mc ms Q (pc + 1) (some (vJ x) :: none :: lv) st h uc us) : G E l M d mc ms Q pc (z :: z2 :: lv) (vJ x :: st) h uc us := by
  intro p e R s m args below meth c ls H locs X hl hR hlo
  exact lv_lstore_n X.1 X.2.1 hd rfl hl hn rfl (fun ls hl => k p e R s m args below meth c ls H locs X (gLz_set2 (L := (z :: z2 :: lv)) (i := 0) rfl hl) hR hlo)
theorem G_iinc_0 {x z : Int} (hd : decode M.2.1 pc = .ok (.iinc 0 z, 3)) (hn : 0 < M.2.2.1) (k : G E l M d mc ms Q (pc + 3) (some (vI (x + z)) :: lv) st h uc us) : G E l M d mc ms Q pc (some (vI x) :: lv) st h uc us := by
  intro p e R s m args below meth c ls H locs X hl hR hlo
  obtain ⟨j, hj⟩ := List.getElem?_of_mem (gLz_mem.mpr ⟨0, by simp, rfl⟩ : (0, vI x) ∈ gLz 0 (some (vI x) :: lv))
  exact lv_iinc X.1 X.2.1 hd hl hj (Int32.ofInt_add x z).symm hn rfl (fun ls hl => k p e R s m args below meth c ls H locs X (gLz_set1 (L := (some (vI x) :: lv)) (i := 0) rfl hl) hR hlo)
theorem G_iload_1 {a0 : Option Value} {x : Int} (hd : decode M.2.1 pc = .ok (.iload_n 1, 1)) (k : G E l M d mc ms Q (pc + 1) (a0 :: some (vI x) :: lv) (vI x :: st) h uc us) : G E l M d mc ms Q pc (a0 :: some (vI x) :: lv) st h uc us := by
  intro p e R s m args below meth c ls H locs X hl hR hlo
  exact lv_iload_n X.1 X.2.1 hd rfl (gLz_get (i := 1) hl rfl) (k p e R s m args below meth c ls H locs X hl hR hlo)
theorem G_lload_1 {a0 : Option Value} {x : Int} (hd : decode M.2.1 pc = .ok (.lload_n 1, 1)) (k : G E l M d mc ms Q (pc + 1) (a0 :: some (vJ x) :: lv) (vJ x :: st) h uc us) : G E l M d mc ms Q pc (a0 :: some (vJ x) :: lv) st h uc us := by
  intro p e R s m args below meth c ls H locs X hl hR hlo
  exact lv_lload_n X.1 X.2.1 hd rfl (gLz_get (i := 1) hl rfl) (k p e R s m args below meth c ls H locs X hl hR hlo)
theorem G_aload_1 {a0 : Option Value} {x : Nat} (hd : decode M.2.1 pc = .ok (.aload_n 1, 1)) (k : G E l M d mc ms Q (pc + 1) (a0 :: some (.ref x) :: lv) (.ref x :: st) h uc us) : G E l M d mc ms Q pc (a0 :: some (.ref x) :: lv) st h uc us := by
  intro p e R s m args below meth c ls H locs X hl hR hlo
  exact lv_aload_n X.1 X.2.1 hd rfl (gLz_get (i := 1) hl rfl) (k p e R s m args below meth c ls H locs X hl hR hlo)
theorem G_aloadN_1 {a0 : Option Value} (hd : decode M.2.1 pc = .ok (.aload_n 1, 1)) (k : G E l M d mc ms Q (pc + 1) (a0 :: some (.null) :: lv) (.null :: st) h uc us) : G E l M d mc ms Q pc (a0 :: some (.null) :: lv) st h uc us := by
  intro p e R s m args below meth c ls H locs X hl hR hlo
  exact lv_aload_nN X.1 X.2.1 hd rfl (gLz_get (i := 1) hl rfl) (k p e R s m args below meth c ls H locs X hl hR hlo)
theorem G_istore_1 {a0 : Option Value} {z : Option Value} {x : Int} (hd : decode M.2.1 pc = .ok (.istore_n 1, 1)) (hn : 1 < M.2.2.1) (hc : gC1 a0 = true) (k : G E l M d mc ms Q (pc + 1) (a0 :: some (vI x) :: lv) st h uc us) : G E l M d mc ms Q pc (a0 :: z :: lv) (vI x :: st) h uc us := by
  intro p e R s m args below meth c ls H locs X hl hR hlo
  exact lv_istore_n X.1 X.2.1 hd rfl hl hn rfl (fun ls hl => k p e R s m args below meth c ls H locs X (gLz_set1 (L := (a0 :: z :: lv)) (i := 1) hc hl) hR hlo)
theorem G_astore_1 {a0 : Option Value} {z : Option Value} {x : Nat} (hd : decode M.2.1 pc = .ok (.astore_n 1, 1)) (hn : 1 < M.2.2.1) (hc : gC1 a0 = true) (k : G E l M d mc ms Q (pc + 1) (a0 :: some (.ref x) :: lv) st h uc us) : G E l M d mc ms Q pc (a0 :: z :: lv) (.ref x :: st) h uc us := by
  intro p e R s m args below meth c ls H locs X hl hR hlo
  exact lv_astore_n X.1 X.2.1 hd rfl hl hn rfl (fun ls hl => k p e R s m args below meth c ls H locs X (gLz_set1 (L := (a0 :: z :: lv)) (i := 1) hc hl) hR hlo)
theorem G_astoreN_1 {a0 : Option Value} {z : Option Value} (hd : decode M.2.1 pc = .ok (.astore_n 1, 1)) (hn : 1 < M.2.2.1) (hc : gC1 a0 = true) (k : G E l M d mc ms Q (pc + 1) (a0 :: some (.null) :: lv) st h uc us) : G E l M d mc ms Q pc (a0 :: z :: lv) (.null :: st) h uc us := by
  intro p e R s m args below meth c ls H locs X hl hR hlo
  exact lv_astore_nN X.1 X.2.1 hd rfl hl hn rfl (fun ls hl => k p e R s m args below meth c ls H locs X (gLz_set1 (L := (a0 :: z :: lv)) (i := 1) hc hl) hR hlo)
theorem G_lstore_1 {a0 : Option Value} {z z2 : Option Value} {x : Int} (hd : decode M.2.1 pc = .ok (.lstore_n 1, 1)) (hn : 1 + 1 < M.2.2.1) (hc : gC1 a0 = true) (k : G E l M d mc ms Q (pc + 1) (a0 :: some (vJ x) :: none :: lv) st h uc us) : G E l M d mc ms Q pc (a0 :: z :: z2 :: lv) (vJ x :: st) h uc us := by
  intro p e R s m args below meth c ls H locs X hl hR hlo
  exact lv_lstore_n X.1 X.2.1 hd rfl hl hn rfl (fun ls hl => k p e R s m args below meth c ls H locs X (gLz_set2 (L := (a0 :: z :: z2 :: lv)) (i := 1) hc hl) hR hlo)
theorem G_iinc_1 {a0 : Option Value} {x z : Int} (hd : decode M.2.1 pc = .ok (.iinc 1 z, 3)) (hn : 1 < M.2.2.1) (hc : gC1 a0 = true) (k : G E l M d mc ms Q (pc + 3) (a0 :: some (vI (x + z)) :: lv) st h uc us) : G E l M d mc ms Q pc (a0 :: some (vI x) :: lv) st h uc us := by
  intro p e R s m args below meth c ls H locs X hl hR hlo
  obtain ⟨j, hj⟩ := List.getElem?_of_mem (gLz_mem.mpr ⟨1, by simp, rfl⟩ : (1, vI x) ∈ gLz 0 (a0 :: some (vI x) :: lv))
  exact lv_iinc X.1 X.2.1 hd hl hj (Int32.ofInt_add x z).symm hn rfl (fun ls hl => k p e R s m args below meth c ls H locs X (gLz_set1 (L := (a0 :: some (vI x) :: lv)) (i := 1) hc hl) hR hlo)
theorem G_iload_2 {a0 a1 : Option Value} {x : Int} (hd : decode M.2.1 pc = .ok (.iload_n 2, 1)) (k : G E l M d mc ms Q (pc + 1) (a0 :: a1 :: some (vI x) :: lv) (vI x :: st) h uc us) : G E l M d mc ms Q pc (a0 :: a1 :: some (vI x) :: lv) st h uc us := by
  intro p e R s m args below meth c ls H locs X hl hR hlo
  exact lv_iload_n X.1 X.2.1 hd rfl (gLz_get (i := 2) hl rfl) (k p e R s m args below meth c ls H locs X hl hR hlo)
theorem G_lload_2 {a0 a1 : Option Value} {x : Int} (hd : decode M.2.1 pc = .ok (.lload_n 2, 1)) (k : G E l M d mc ms Q (pc + 1) (a0 :: a1 :: some (vJ x) :: lv) (vJ x :: st) h uc us) : G E l M d mc ms Q pc (a0 :: a1 :: some (vJ x) :: lv) st h uc us := by
  intro p e R s m args below meth c ls H locs X hl hR hlo
  exact lv_lload_n X.1 X.2.1 hd rfl (gLz_get (i := 2) hl rfl) (k p e R s m args below meth c ls H locs X hl hR hlo)
theorem G_aload_2 {a0 a1 : Option Value} {x : Nat} (hd : decode M.2.1 pc = .ok (.aload_n 2, 1)) (k : G E l M d mc ms Q (pc + 1) (a0 :: a1 :: some (.ref x) :: lv) (.ref x :: st) h uc us) : G E l M d mc ms Q pc (a0 :: a1 :: some (.ref x) :: lv) st h uc us := by
  intro p e R s m args below meth c ls H locs X hl hR hlo
  exact lv_aload_n X.1 X.2.1 hd rfl (gLz_get (i := 2) hl rfl) (k p e R s m args below meth c ls H locs X hl hR hlo)
theorem G_aloadN_2 {a0 a1 : Option Value} (hd : decode M.2.1 pc = .ok (.aload_n 2, 1)) (k : G E l M d mc ms Q (pc + 1) (a0 :: a1 :: some (.null) :: lv) (.null :: st) h uc us) : G E l M d mc ms Q pc (a0 :: a1 :: some (.null) :: lv) st h uc us := by
  intro p e R s m args below meth c ls H locs X hl hR hlo
  exact lv_aload_nN X.1 X.2.1 hd rfl (gLz_get (i := 2) hl rfl) (k p e R s m args below meth c ls H locs X hl hR hlo)
theorem G_istore_2 {a0 a1 : Option Value} {z : Option Value} {x : Int} (hd : decode M.2.1 pc = .ok (.istore_n 2, 1)) (hn : 2 < M.2.2.1) (hc : gC1 a1 = true) (k : G E l M d mc ms Q (pc + 1) (a0 :: a1 :: some (vI x) :: lv) st h uc us) : G E l M d mc ms Q pc (a0 :: a1 :: z :: lv) (vI x :: st) h uc us := by
  intro p e R s m args below meth c ls H locs X hl hR hlo
  exact lv_istore_n X.1 X.2.1 hd rfl hl hn rfl (fun ls hl => k p e R s m args below meth c ls H locs X (gLz_set1 (L := (a0 :: a1 :: z :: lv)) (i := 2) hc hl) hR hlo)
theorem G_astore_2 {a0 a1 : Option Value} {z : Option Value} {x : Nat} (hd : decode M.2.1 pc = .ok (.astore_n 2, 1)) (hn : 2 < M.2.2.1) (hc : gC1 a1 = true) (k : G E l M d mc ms Q (pc + 1) (a0 :: a1 :: some (.ref x) :: lv) st h uc us) : G E l M d mc ms Q pc (a0 :: a1 :: z :: lv) (.ref x :: st) h uc us := by
  intro p e R s m args below meth c ls H locs X hl hR hlo
  exact lv_astore_n X.1 X.2.1 hd rfl hl hn rfl (fun ls hl => k p e R s m args below meth c ls H locs X (gLz_set1 (L := (a0 :: a1 :: z :: lv)) (i := 2) hc hl) hR hlo)
theorem G_astoreN_2 {a0 a1 : Option Value} {z : Option Value} (hd : decode M.2.1 pc = .ok (.astore_n 2, 1)) (hn : 2 < M.2.2.1) (hc : gC1 a1 = true) (k : G E l M d mc ms Q (pc + 1) (a0 :: a1 :: some (.null) :: lv) st h uc us) : G E l M d mc ms Q pc (a0 :: a1 :: z :: lv) (.null :: st) h uc us := by
  intro p e R s m args below meth c ls H locs X hl hR hlo
  exact lv_astore_nN X.1 X.2.1 hd rfl hl hn rfl (fun ls hl => k p e R s m args below meth c ls H locs X (gLz_set1 (L := (a0 :: a1 :: z :: lv)) (i := 2) hc hl) hR hlo)
theorem G_lstore_2 {a0 a1 : Option Value} {z z2 : Option Value} {x : Int} (hd : decode M.2.1 pc = .ok (.lstore_n 2, 1)) (hn : 2 + 1 < M.2.2.1) (hc : gC1 a1 = true) (k : G E l M d mc ms Q (pc + 1) (a0 :: a1 :: some (vJ x) :: none :: lv) st h uc us) : G E l M d mc ms Q pc (a0 :: a1 :: z :: z2 :: lv) (vJ x :: st) h uc us := by
  intro p e R s m args below meth c ls H locs X hl hR hlo
  exact lv_lstore_n X.1 X.2.1 hd rfl hl hn rfl (fun ls hl => k p e R s m args below meth c ls H locs X (gLz_set2 (L := (a0 :: a1 :: z :: z2 :: lv)) (i := 2) hc hl) hR hlo)
theorem G_iinc_2 {a0 a1 : Option Value} {x z : Int} (hd : decode M.2.1 pc = .ok (.iinc 2 z, 3)) (hn : 2 < M.2.2.1) (hc : gC1 a1 = true) (k : G E l M d mc ms Q (pc + 3) (a0 :: a1 :: some (vI (x + z)) :: lv) st h uc us) : G E l M d mc ms Q pc (a0 :: a1 :: some (vI x) :: lv) st h uc us := by
  intro p e R s m args below meth c ls H locs X hl hR hlo
  obtain ⟨j, hj⟩ := List.getElem?_of_mem (gLz_mem.mpr ⟨2, by simp, rfl⟩ : (2, vI x) ∈ gLz 0 (a0 :: a1 :: some (vI x) :: lv))
  exact lv_iinc X.1 X.2.1 hd hl hj (Int32.ofInt_add x z).symm hn rfl (fun ls hl => k p e R s m args below meth c ls H locs X (gLz_set1 (L := (a0 :: a1 :: some (vI x) :: lv)) (i := 2) hc hl) hR hlo)
theorem G_iload_3 {a0 a1 a2 : Option Value} {x : Int} (hd : decode M.2.1 pc = .ok (.iload_n 3, 1)) (k : G E l M d mc ms Q (pc + 1) (a0 :: a1 :: a2 :: some (vI x) :: lv) (vI x :: st) h uc us) : G E l M d mc ms Q pc (a0 :: a1 :: a2 :: some (vI x) :: lv) st h uc us := by
  intro p e R s m args below meth c ls H locs X hl hR hlo
  exact lv_iload_n X.1 X.2.1 hd rfl (gLz_get (i := 3) hl rfl) (k p e R s m args below meth c ls H locs X hl hR hlo)
theorem G_lload_3 {a0 a1 a2 : Option Value} {x : Int} (hd : decode M.2.1 pc = .ok (.lload_n 3, 1)) (k : G E l M d mc ms Q (pc + 1) (a0 :: a1 :: a2 :: some (vJ x) :: lv) (vJ x :: st) h uc us) : G E l M d mc ms Q pc (a0 :: a1 :: a2 :: some (vJ x) :: lv) st h uc us := by
  intro p e R s m args below meth c ls H locs X hl hR hlo
  exact lv_lload_n X.1 X.2.1 hd rfl (gLz_get (i := 3) hl rfl) (k p e R s m args below meth c ls H locs X hl hR hlo)
theorem G_aload_3 {a0 a1 a2 : Option Value} {x : Nat} (hd : decode M.2.1 pc = .ok (.aload_n 3, 1)) (k : G E l M d mc ms Q (pc + 1) (a0 :: a1 :: a2 :: some (.ref x) :: lv) (.ref x :: st) h uc us) : G E l M d mc ms Q pc (a0 :: a1 :: a2 :: some (.ref x) :: lv) st h uc us := by
  intro p e R s m args below meth c ls H locs X hl hR hlo
  exact lv_aload_n X.1 X.2.1 hd rfl (gLz_get (i := 3) hl rfl) (k p e R s m args below meth c ls H locs X hl hR hlo)
theorem G_aloadN_3 {a0 a1 a2 : Option Value} (hd : decode M.2.1 pc = .ok (.aload_n 3, 1)) (k : G E l M d mc ms Q (pc + 1) (a0 :: a1 :: a2 :: some (.null) :: lv) (.null :: st) h uc us) : G E l M d mc ms Q pc (a0 :: a1 :: a2 :: some (.null) :: lv) st h uc us := by
  intro p e R s m args below meth c ls H locs X hl hR hlo
  exact lv_aload_nN X.1 X.2.1 hd rfl (gLz_get (i := 3) hl rfl) (k p e R s m args below meth c ls H locs X hl hR hlo)
theorem G_istore_3 {a0 a1 a2 : Option Value} {z : Option Value} {x : Int} (hd : decode M.2.1 pc = .ok (.istore_n 3, 1)) (hn : 3 < M.2.2.1) (hc : gC1 a2 = true) (k : G E l M d mc ms Q (pc + 1) (a0 :: a1 :: a2 :: some (vI x) :: lv) st h uc us) : G E l M d mc ms Q pc (a0 :: a1 :: a2 :: z :: lv) (vI x :: st) h uc us := by
  intro p e R s m args below meth c ls H locs X hl hR hlo
  exact lv_istore_n X.1 X.2.1 hd rfl hl hn rfl (fun ls hl => k p e R s m args below meth c ls H locs X (gLz_set1 (L := (a0 :: a1 :: a2 :: z :: lv)) (i := 3) hc hl) hR hlo)
theorem G_astore_3 {a0 a1 a2 : Option Value} {z : Option Value} {x : Nat} (hd : decode M.2.1 pc = .ok (.astore_n 3, 1)) (hn : 3 < M.2.2.1) (hc : gC1 a2 = true) (k : G E l M d mc ms Q (pc + 1) (a0 :: a1 :: a2 :: some (.ref x) :: lv) st h uc us) : G E l M d mc ms Q pc (a0 :: a1 :: a2 :: z :: lv) (.ref x :: st) h uc us := by
  intro p e R s m args below meth c ls H locs X hl hR hlo
  exact lv_astore_n X.1 X.2.1 hd rfl hl hn rfl (fun ls hl => k p e R s m args below meth c ls H locs X (gLz_set1 (L := (a0 :: a1 :: a2 :: z :: lv)) (i := 3) hc hl) hR hlo)
theorem G_astoreN_3 {a0 a1 a2 : Option Value} {z : Option Value} (hd : decode M.2.1 pc = .ok (.astore_n 3, 1)) (hn : 3 < M.2.2.1) (hc : gC1 a2 = true) (k : G E l M d mc ms Q (pc + 1) (a0 :: a1 :: a2 :: some (.null) :: lv) st h uc us) : G E l M d mc ms Q pc (a0 :: a1 :: a2 :: z :: lv) (.null :: st) h uc us := by
  intro p e R s m args below meth c ls H locs X hl hR hlo
  exact lv_astore_nN X.1 X.2.1 hd rfl hl hn rfl (fun ls hl => k p e R s m args below meth c ls H locs X (gLz_set1 (L := (a0 :: a1 :: a2 :: z :: lv)) (i := 3) hc hl) hR hlo)
theorem G_lstore_3 {a0 a1 a2 : Option Value} {z z2 : Option Value} {x : Int} (hd : decode M.2.1 pc = .ok (.lstore_n 3, 1)) (hn : 3 + 1 < M.2.2.1) (hc : gC1 a2 = true) (k : G E l M d mc ms Q (pc + 1) (a0 :: a1 :: a2 :: some (vJ x) :: none :: lv) st h uc us) : G E l M d mc ms Q pc (a0 :: a1 :: a2 :: z :: z2 :: lv) (vJ x :: st) h uc us := by
  intro p e R s m args below meth c ls H locs X hl hR hlo
  exact lv_lstore_n X.1 X.2.1 hd rfl hl hn rfl (fun ls hl => k p e R s m args below meth c ls H locs X (gLz_set2 (L := (a0 :: a1 :: a2 :: z :: z2 :: lv)) (i := 3) hc hl) hR hlo)
theorem G_iinc_3 {a0 a1 a2 : Option Value} {x z : Int} (hd : decode M.2.1 pc = .ok (.iinc 3 z, 3)) (hn : 3 < M.2.2.1) (hc : gC1 a2 = true) (k : G E l M d mc ms Q (pc + 3) (a0 :: a1 :: a2 :: some (vI (x + z)) :: lv) st h uc us) : G E l M d mc ms Q pc (a0 :: a1 :: a2 :: some (vI x) :: lv) st h uc us := by
  intro p e R s m args below meth c ls H locs X hl hR hlo
  obtain ⟨j, hj⟩ := List.getElem?_of_mem (gLz_mem.mpr ⟨3, by simp, rfl⟩ : (3, vI x) ∈ gLz 0 (a0 :: a1 :: a2 :: some (vI x) :: lv))
  exact lv_iinc X.1 X.2.1 hd hl hj (Int32.ofInt_add x z).symm hn rfl (fun ls hl => k p e R s m args below meth c ls H locs X (gLz_set1 (L := (a0 :: a1 :: a2 :: some (vI x) :: lv)) (i := 3) hc hl) hR hlo)
theorem G_iload_4 {a0 a1 a2 a3 : Option Value} {x : Int} (hd : decode M.2.1 pc = .ok (.iload 4, 2)) (k : G E l M d mc ms Q (pc + 2) (a0 :: a1 :: a2 :: a3 :: some (vI x) :: lv) (vI x :: st) h uc us) : G E l M d mc ms Q pc (a0 :: a1 :: a2 :: a3 :: some (vI x) :: lv) st h uc us := by
  intro p e R s m args below meth c ls H locs X hl hR hlo
  exact lv_iload X.1 X.2.1 hd (gLz_get (i := 4) hl rfl) (k p e R s m args below meth c ls H locs X hl hR hlo)
theorem G_lload_4 {a0 a1 a2 a3 : Option Value} {x : Int} (hd : decode M.2.1 pc = .ok (.lload 4, 2)) (k : G E l M d mc ms Q (pc + 2) (a0 :: a1 :: a2 :: a3 :: some (vJ x) :: lv) (vJ x :: st) h uc us) : G E l M d mc ms Q pc (a0 :: a1 :: a2 :: a3 :: some (vJ x) :: lv) st h uc us := by
  intro p e R s m args below meth c ls H locs X hl hR hlo
  exact lv_lload X.1 X.2.1 hd (gLz_get (i := 4) hl rfl) (k p e R s m args below meth c ls H locs X hl hR hlo)
theorem G_aload_4 {a0 a1 a2 a3 : Option Value} {x : Nat} (hd : decode M.2.1 pc = .ok (.aload 4, 2)) (k : G E l M d mc ms Q (pc + 2) (a0 :: a1 :: a2 :: a3 :: some (.ref x) :: lv) (.ref x :: st) h uc us) : G E l M d mc ms Q pc (a0 :: a1 :: a2 :: a3 :: some (.ref x) :: lv) st h uc us := by
  intro p e R s m args below meth c ls H locs X hl hR hlo
  exact lv_aload X.1 X.2.1 hd (gLz_get (i := 4) hl rfl) (k p e R s m args below meth c ls H locs X hl hR hlo)
theorem G_aloadN_4 {a0 a1 a2 a3 : Option Value} (hd : decode M.2.1 pc = .ok (.aload 4, 2)) (k : G E l M d mc ms Q (pc + 2) (a0 :: a1 :: a2 :: a3 :: some (.null) :: lv) (.null :: st) h uc us) : G E l M d mc ms Q pc (a0 :: a1 :: a2 :: a3 :: some (.null) :: lv) st h uc us := by
  intro p e R s m args below meth c ls H locs X hl hR hlo
  exact lv_aloadN X.1 X.2.1 hd (gLz_get (i := 4) hl rfl) (k p e R s m args below meth c ls H locs X hl hR hlo)
theorem G_istore_4 {a0 a1 a2 a3 : Option Value} {z : Option Value} {x : Int} (hd : decode M.2.1 pc = .ok (.istore 4, 2)) (hn : 4 < M.2.2.1) (hc : gC1 a3 = true) (k : G E l M d mc ms Q (pc + 2) (a0 :: a1 :: a2 :: a3 :: some (vI x) :: lv) st h uc us) : G E l M d mc ms Q pc (a0 :: a1 :: a2 :: a3 :: z :: lv) (vI x :: st) h uc us := by
  intro p e R s m args below meth c ls H locs X hl hR hlo
  exact lv_istore X.1 X.2.1 hd hl hn rfl (fun ls hl => k p e R s m args below meth c ls H locs X (gLz_set1 (L := (a0 :: a1 :: a2 :: a3 :: z :: lv)) (i := 4) hc hl) hR hlo)
theorem G_astore_4 {a0 a1 a2 a3 : Option Value} {z : Option Value} {x : Nat} (hd : decode M.2.1 pc = .ok (.astore 4, 2)) (hn : 4 < M.2.2.1) (hc : gC1 a3 = true) (k : G E l M d mc ms Q (pc + 2) (a0 :: a1 :: a2 :: a3 :: some (.ref x) :: lv) st h uc us) : G E l M d mc ms Q pc (a0 :: a1 :: a2 :: a3 :: z :: lv) (.ref x :: st) h uc us := by
  intro p e R s m args below meth c ls H locs X hl hR hlo
  exact lv_astore X.1 X.2.1 hd hl hn rfl (fun ls hl => k p e R s m args below meth c ls H locs X (gLz_set1 (L := (a0 :: a1 :: a2 :: a3 :: z :: lv)) (i := 4) hc hl) hR hlo)
theorem G_astoreN_4 {a0 a1 a2 a3 : Option Value} {z : Option Value} (hd : decode M.2.1 pc = .ok (.astore 4, 2)) (hn : 4 < M.2.2.1) (hc : gC1 a3 = true) (k : G E l M d mc ms Q (pc + 2) (a0 :: a1 :: a2 :: a3 :: some (.null) :: lv) st h uc us) : G E l M d mc ms Q pc (a0 :: a1 :: a2 :: a3 :: z :: lv) (.null :: st) h uc us := by
  intro p e R s m args below meth c ls H locs X hl hR hlo
  exact lv_astoreN X.1 X.2.1 hd hl hn rfl (fun ls hl => k p e R s m args below meth c ls H locs X (gLz_set1 (L := (a0 :: a1 :: a2 :: a3 :: z :: lv)) (i := 4) hc hl) hR hlo)
theorem G_lstore_4 {a0 a1 a2 a3 : Option Value} {z z2 : Option Value} {x : Int} (hd : decode M.2.1 pc = .ok (.lstore 4, 2)) (hn : 4 + 1 < M.2.2.1) (hc : gC1 a3 = true) (k : G E l M d mc ms Q (pc + 2) (a0 :: a1 :: a2 :: a3 :: some (vJ x) :: none :: lv) st h uc us) : G E l M d mc ms Q pc (a0 :: a1 :: a2 :: a3 :: z :: z2 :: lv) (vJ x :: st) h uc us := by
  intro p e R s m args below meth c ls H locs X hl hR hlo
  exact lv_lstore X.1 X.2.1 hd hl hn rfl (fun ls hl => k p e R s m args below meth c ls H locs X (gLz_set2 (L := (a0 :: a1 :: a2 :: a3 :: z :: z2 :: lv)) (i := 4) hc hl) hR hlo)
theorem G_iinc_4 {a0 a1 a2 a3 : Option Value} {x z : Int} (hd : decode M.2.1 pc = .ok (.iinc 4 z, 3)) (hn : 4 < M.2.2.1) (hc : gC1 a3 = true) (k : G E l M d mc ms Q (pc + 3) (a0 :: a1 :: a2 :: a3 :: some (vI (x + z)) :: lv) st h uc us) : G E l M d mc ms Q pc (a0 :: a1 :: a2 :: a3 :: some (vI x) :: lv) st h uc us := by
  intro p e R s m args below meth c ls H locs X hl hR hlo
  obtain ⟨j, hj⟩ := List.getElem?_of_mem (gLz_mem.mpr ⟨4, by simp, rfl⟩ : (4, vI x) ∈ gLz 0 (a0 :: a1 :: a2 :: a3 :: some (vI x) :: lv))
  exact lv_iinc X.1 X.2.1 hd hl hj (Int32.ofInt_add x z).symm hn rfl (fun ls hl => k p e R s m args below meth c ls H locs X (gLz_set1 (L := (a0 :: a1 :: a2 :: a3 :: some (vI x) :: lv)) (i := 4) hc hl) hR hlo)
theorem G_iload_5 {a0 a1 a2 a3 a4 : Option Value} {x : Int} (hd : decode M.2.1 pc = .ok (.iload 5, 2)) (k : G E l M d mc ms Q (pc + 2) (a0 :: a1 :: a2 :: a3 :: a4 :: some (vI x) :: lv) (vI x :: st) h uc us) : G E l M d mc ms Q pc (a0 :: a1 :: a2 :: a3 :: a4 :: some (vI x) :: lv) st h uc us := by
  intro p e R s m args below meth c ls H locs X hl hR hlo
  exact lv_iload X.1 X.2.1 hd (gLz_get (i := 5) hl rfl) (k p e R s m args below meth c ls H locs X hl hR hlo)
theorem G_lload_5 {a0 a1 a2 a3 a4 : Option Value} {x : Int} (hd : decode M.2.1 pc = .ok (.lload 5, 2)) (k : G E l M d mc ms Q (pc + 2) (a0 :: a1 :: a2 :: a3 :: a4 :: some (vJ x) :: lv) (vJ x :: st) h uc us) : G E l M d mc ms Q pc (a0 :: a1 :: a2 :: a3 :: a4 :: some (vJ x) :: lv) st h uc us := by
  intro p e R s m args below meth c ls H locs X hl hR hlo
  exact lv_lload X.1 X.2.1 hd (gLz_get (i := 5) hl rfl) (k p e R s m args below meth c ls H locs X hl hR hlo)
theorem G_aload_5 {a0 a1 a2 a3 a4 : Option Value} {x : Nat} (hd : decode M.2.1 pc = .ok (.aload 5, 2)) (k : G E l M d mc ms Q (pc + 2) (a0 :: a1 :: a2 :: a3 :: a4 :: some (.ref x) :: lv) (.ref x :: st) h uc us) : G E l M d mc ms Q pc (a0 :: a1 :: a2 :: a3 :: a4 :: some (.ref x) :: lv) st h uc us := by
  intro p e R s m args below meth c ls H locs X hl hR hlo
  exact lv_aload X.1 X.2.1 hd (gLz_get (i := 5) hl rfl) (k p e R s m args below meth c ls H locs X hl hR hlo)
theorem G_aloadN_5 {a0 a1 a2 a3 a4 : Option Value} (hd : decode M.2.1 pc = .ok (.aload 5, 2)) (k : G E l M d mc ms Q (pc + 2) (a0 :: a1 :: a2 :: a3 :: a4 :: some (.null) :: lv) (.null :: st) h uc us) : G E l M d mc ms Q pc (a0 :: a1 :: a2 :: a3 :: a4 :: some (.null) :: lv) st h uc us := by
  intro p e R s m args below meth c ls H locs X hl hR hlo
  exact lv_aloadN X.1 X.2.1 hd (gLz_get (i := 5) hl rfl) (k p e R s m args below meth c ls H locs X hl hR hlo)
theorem G_istore_5 {a0 a1 a2 a3 a4 : Option Value} {z : Option Value} {x : Int} (hd : decode M.2.1 pc = .ok (.istore 5, 2)) (hn : 5 < M.2.2.1) (hc : gC1 a4 = true) (k : G E l M d mc ms Q (pc + 2) (a0 :: a1 :: a2 :: a3 :: a4 :: some (vI x) :: lv) st h uc us) : G E l M d mc ms Q pc (a0 :: a1 :: a2 :: a3 :: a4 :: z :: lv) (vI x :: st) h uc us := by
  intro p e R s m args below meth c ls H locs X hl hR hlo
  exact lv_istore X.1 X.2.1 hd hl hn rfl (fun ls hl => k p e R s m args below meth c ls H locs X (gLz_set1 (L := (a0 :: a1 :: a2 :: a3 :: a4 :: z :: lv)) (i := 5) hc hl) hR hlo)
theorem G_astore_5 {a0 a1 a2 a3 a4 : Option Value} {z : Option Value} {x : Nat} (hd : decode M.2.1 pc = .ok (.astore 5, 2)) (hn : 5 < M.2.2.1) (hc : gC1 a4 = true) (k : G E l M d mc ms Q (pc + 2) (a0 :: a1 :: a2 :: a3 :: a4 :: some (.ref x) :: lv) st h uc us) : G E l M d mc ms Q pc (a0 :: a1 :: a2 :: a3 :: a4 :: z :: lv) (.ref x :: st) h uc us := by
  intro p e R s m args below meth c ls H locs X hl hR hlo
  exact lv_astore X.1 X.2.1 hd hl hn rfl (fun ls hl => k p e R s m args below meth c ls H locs X (gLz_set1 (L := (a0 :: a1 :: a2 :: a3 :: a4 :: z :: lv)) (i := 5) hc hl) hR hlo)
theorem G_astoreN_5 {a0 a1 a2 a3 a4 : Option Value} {z : Option Value} (hd : decode M.2.1 pc = .ok (.astore 5, 2)) (hn : 5 < M.2.2.1) (hc : gC1 a4 = true) (k : G E l M d mc ms Q (pc + 2) (a0 :: a1 :: a2 :: a3 :: a4 :: some (.null) :: lv) st h uc us) : G E l M d mc ms Q pc (a0 :: a1 :: a2 :: a3 :: a4 :: z :: lv) (.null :: st) h uc us := by
  intro p e R s m args below meth c ls H locs X hl hR hlo
  exact lv_astoreN X.1 X.2.1 hd hl hn rfl (fun ls hl => k p e R s m args below meth c ls H locs X (gLz_set1 (L := (a0 :: a1 :: a2 :: a3 :: a4 :: z :: lv)) (i := 5) hc hl) hR hlo)
theorem G_lstore_5 {a0 a1 a2 a3 a4 : Option Value} {z z2 : Option Value} {x : Int} (hd : decode M.2.1 pc = .ok (.lstore 5, 2)) (hn : 5 + 1 < M.2.2.1) (hc : gC1 a4 = true) (k : G E l M d mc ms Q (pc + 2) (a0 :: a1 :: a2 :: a3 :: a4 :: some (vJ x) :: none :: lv) st h uc us) : G E l M d mc ms Q pc (a0 :: a1 :: a2 :: a3 :: a4 :: z :: z2 :: lv) (vJ x :: st) h uc us := by
  intro p e R s m args below meth c ls H locs X hl hR hlo
  exact lv_lstore X.1 X.2.1 hd hl hn rfl (fun ls hl => k p e R s m args below meth c ls H locs X (gLz_set2 (L := (a0 :: a1 :: a2 :: a3 :: a4 :: z :: z2 :: lv)) (i := 5) hc hl) hR hlo)
theorem G_iinc_5 {a0 a1 a2 a3 a4 : Option Value} {x z : Int} (hd : decode M.2.1 pc = .ok (.iinc 5 z, 3)) (hn : 5 < M.2.2.1) (hc : gC1 a4 = true) (k : G E l M d mc ms Q (pc + 3) (a0 :: a1 :: a2 :: a3 :: a4 :: some (vI (x + z)) :: lv) st h uc us) : G E l M d mc ms Q pc (a0 :: a1 :: a2 :: a3 :: a4 :: some (vI x) :: lv) st h uc us := by
  intro p e R s m args below meth c ls H locs X hl hR hlo
  obtain ⟨j, hj⟩ := List.getElem?_of_mem (gLz_mem.mpr ⟨5, by simp, rfl⟩ : (5, vI x) ∈ gLz 0 (a0 :: a1 :: a2 :: a3 :: a4 :: some (vI x) :: lv))
  exact lv_iinc X.1 X.2.1 hd hl hj (Int32.ofInt_add x z).symm hn rfl (fun ls hl => k p e R s m args below meth c ls H locs X (gLz_set1 (L := (a0 :: a1 :: a2 :: a3 :: a4 :: some (vI x) :: lv)) (i := 5) hc hl) hR hlo)
theorem G_iload_6 {a0 a1 a2 a3 a4 a5 : Option Value} {x : Int} (hd : decode M.2.1 pc = .ok (.iload 6, 2)) (k : G E l M d mc ms Q (pc + 2) (a0 :: a1 :: a2 :: a3 :: a4 :: a5 :: some (vI x) :: lv) (vI x :: st) h uc us) : G E l M d mc ms Q pc (a0 :: a1 :: a2 :: a3 :: a4 :: a5 :: some (vI x) :: lv) st h uc us := by
  intro p e R s m args below meth c ls H locs X hl hR hlo
  exact lv_iload X.1 X.2.1 hd (gLz_get (i := 6) hl rfl) (k p e R s m args below meth c ls H locs X hl hR hlo)
theorem G_lload_6 {a0 a1 a2 a3 a4 a5 : Option Value} {x : Int} (hd : decode M.2.1 pc = .ok (.lload 6, 2)) (k : G E l M d mc ms Q (pc + 2) (a0 :: a1 :: a2 :: a3 :: a4 :: a5 :: some (vJ x) :: lv) (vJ x :: st) h uc us) : G E l M d mc ms Q pc (a0 :: a1 :: a2 :: a3 :: a4 :: a5 :: some (vJ x) :: lv) st h uc us := by
  intro p e R s m args below meth c ls H locs X hl hR hlo
  exact lv_lload X.1 X.2.1 hd (gLz_get (i := 6) hl rfl) (k p e R s m args below meth c ls H locs X hl hR hlo)
theorem G_aload_6 {a0 a1 a2 a3 a4 a5 : Option Value} {x : Nat} (hd : decode M.2.1 pc = .ok (.aload 6, 2)) (k : G E l M d mc ms Q (pc + 2) (a0 :: a1 :: a2 :: a3 :: a4 :: a5 :: some (.ref x) :: lv) (.ref x :: st) h uc us) : G E l M d mc ms Q pc (a0 :: a1 :: a2 :: a3 :: a4 :: a5 :: some (.ref x) :: lv) st h uc us := by
  intro p e R s m args below meth c ls H locs X hl hR hlo
  exact lv_aload X.1 X.2.1 hd (gLz_get (i := 6) hl rfl) (k p e R s m args below meth c ls H locs X hl hR hlo)
theorem G_aloadN_6 {a0 a1 a2 a3 a4 a5 : Option Value} (hd : decode M.2.1 pc = .ok (.aload 6, 2)) (k : G E l M d mc ms Q (pc + 2) (a0 :: a1 :: a2 :: a3 :: a4 :: a5 :: some (.null) :: lv) (.null :: st) h uc us) : G E l M d mc ms Q pc (a0 :: a1 :: a2 :: a3 :: a4 :: a5 :: some (.null) :: lv) st h uc us := by
  intro p e R s m args below meth c ls H locs X hl hR hlo
  exact lv_aloadN X.1 X.2.1 hd (gLz_get (i := 6) hl rfl) (k p e R s m args below meth c ls H locs X hl hR hlo)
theorem G_istore_6 {a0 a1 a2 a3 a4 a5 : Option Value} {z : Option Value} {x : Int} (hd : decode M.2.1 pc = .ok (.istore 6, 2)) (hn : 6 < M.2.2.1) (hc : gC1 a5 = true) (k : G E l M d mc ms Q (pc + 2) (a0 :: a1 :: a2 :: a3 :: a4 :: a5 :: some (vI x) :: lv) st h uc us) : G E l M d mc ms Q pc (a0 :: a1 :: a2 :: a3 :: a4 :: a5 :: z :: lv) (vI x :: st) h uc us := by
  intro p e R s m args below meth c ls H locs X hl hR hlo
  exact lv_istore X.1 X.2.1 hd hl hn rfl (fun ls hl => k p e R s m args below meth c ls H locs X (gLz_set1 (L := (a0 :: a1 :: a2 :: a3 :: a4 :: a5 :: z :: lv)) (i := 6) hc hl) hR hlo)
theorem G_astore_6 {a0 a1 a2 a3 a4 a5 : Option Value} {z : Option Value} {x : Nat} (hd : decode M.2.1 pc = .ok (.astore 6, 2)) (hn : 6 < M.2.2.1) (hc : gC1 a5 = true) (k : G E l M d mc ms Q (pc + 2) (a0 :: a1 :: a2 :: a3 :: a4 :: a5 :: some (.ref x) :: lv) st h uc us) : G E l M d mc ms Q pc (a0 :: a1 :: a2 :: a3 :: a4 :: a5 :: z :: lv) (.ref x :: st) h uc us := by
  intro p e R s m args below meth c ls H locs X hl hR hlo
  exact lv_astore X.1 X.2.1 hd hl hn rfl (fun ls hl => k p e R s m args below meth c ls H locs X (gLz_set1 (L := (a0 :: a1 :: a2 :: a3 :: a4 :: a5 :: z :: lv)) (i := 6) hc hl) hR hlo)
theorem G_astoreN_6 {a0 a1 a2 a3 a4 a5 : Option Value} {z : Option Value} (hd : decode M.2.1 pc = .ok (.astore 6, 2)) (hn : 6 < M.2.2.1) (hc : gC1 a5 = true) (k : G E l M d mc ms Q (pc + 2) (a0 :: a1 :: a2 :: a3 :: a4 :: a5 :: some (.null) :: lv) st h uc us) : G E l M d mc ms Q pc (a0 :: a1 :: a2 :: a3 :: a4 :: a5 :: z :: lv) (.null :: st) h uc us := by
  intro p e R s m args below meth c ls H locs X hl hR hlo
  exact lv_astoreN X.1 X.2.1 hd hl hn rfl (fun ls hl => k p e R s m args below meth c ls H locs X (gLz_set1 (L := (a0 :: a1 :: a2 :: a3 :: a4 :: a5 :: z :: lv)) (i := 6) hc hl) hR hlo)
theorem G_lstore_6 {a0 a1 a2 a3 a4 a5 : Option Value} {z z2 : Option Value} {x : Int} (hd : decode M.2.1 pc = .ok (.lstore 6, 2)) (hn : 6 + 1 < M.2.2.1) (hc : gC1 a5 = true) (k : G E l M d mc ms Q (pc + 2) (a0 :: a1 :: a2 :: a3 :: a4 :: a5 :: some (vJ x) :: none :: lv) st h uc us) : G E l M d mc ms Q pc (a0 :: a1 :: a2 :: a3 :: a4 :: a5 :: z :: z2 :: lv) (vJ x :: st) h uc us := by
  intro p e R s m args below meth c ls H locs X hl hR hlo
  exact lv_lstore X.1 X.2.1 hd hl hn rfl (fun ls hl => k p e R s m args below meth c ls H locs X (gLz_set2 (L := (a0 :: a1 :: a2 :: a3 :: a4 :: a5 :: z :: z2 :: lv)) (i := 6) hc hl) hR hlo)
theorem G_iinc_6 {a0 a1 a2 a3 a4 a5 : Option Value} {x z : Int} (hd : decode M.2.1 pc = .ok (.iinc 6 z, 3)) (hn : 6 < M.2.2.1) (hc : gC1 a5 = true) (k : G E l M d mc ms Q (pc + 3) (a0 :: a1 :: a2 :: a3 :: a4 :: a5 :: some (vI (x + z)) :: lv) st h uc us) : G E l M d mc ms Q pc (a0 :: a1 :: a2 :: a3 :: a4 :: a5 :: some (vI x) :: lv) st h uc us := by
  intro p e R s m args below meth c ls H locs X hl hR hlo
  obtain ⟨j, hj⟩ := List.getElem?_of_mem (gLz_mem.mpr ⟨6, by simp, rfl⟩ : (6, vI x) ∈ gLz 0 (a0 :: a1 :: a2 :: a3 :: a4 :: a5 :: some (vI x) :: lv))
  exact lv_iinc X.1 X.2.1 hd hl hj (Int32.ofInt_add x z).symm hn rfl (fun ls hl => k p e R s m args below meth c ls H locs X (gLz_set1 (L := (a0 :: a1 :: a2 :: a3 :: a4 :: a5 :: some (vI x) :: lv)) (i := 6) hc hl) hR hlo)
theorem G_iload_7 {a0 a1 a2 a3 a4 a5 a6 : Option Value} {x : Int} (hd : decode M.2.1 pc = .ok (.iload 7, 2)) (k : G E l M d mc ms Q (pc + 2) (a0 :: a1 :: a2 :: a3 :: a4 :: a5 :: a6 :: some (vI x) :: lv) (vI x :: st) h uc us) : G E l M d mc ms Q pc (a0 :: a1 :: a2 :: a3 :: a4 :: a5 :: a6 :: some (vI x) :: lv) st h uc us := by
  intro p e R s m args below meth c ls H locs X hl hR hlo
  exact lv_iload X.1 X.2.1 hd (gLz_get (i := 7) hl rfl) (k p e R s m args below meth c ls H locs X hl hR hlo)
theorem G_lload_7 {a0 a1 a2 a3 a4 a5 a6 : Option Value} {x : Int} (hd : decode M.2.1 pc = .ok (.lload 7, 2)) (k : G E l M d mc ms Q (pc + 2) (a0 :: a1 :: a2 :: a3 :: a4 :: a5 :: a6 :: some (vJ x) :: lv) (vJ x :: st) h uc us) : G E l M d mc ms Q pc (a0 :: a1 :: a2 :: a3 :: a4 :: a5 :: a6 :: some (vJ x) :: lv) st h uc us := by
  intro p e R s m args below meth c ls H locs X hl hR hlo
  exact lv_lload X.1 X.2.1 hd (gLz_get (i := 7) hl rfl) (k p e R s m args below meth c ls H locs X hl hR hlo)
theorem G_aload_7 {a0 a1 a2 a3 a4 a5 a6 : Option Value} {x : Nat} (hd : decode M.2.1 pc = .ok (.aload 7, 2)) (k : G E l M d mc ms Q (pc + 2) (a0 :: a1 :: a2 :: a3 :: a4 :: a5 :: a6 :: some (.ref x) :: lv) (.ref x :: st) h uc us) : G E l M d mc ms Q pc (a0 :: a1 :: a2 :: a3 :: a4 :: a5 :: a6 :: some (.ref x) :: lv) st h uc us := by
  intro p e R s m args below meth c ls H locs X hl hR hlo
  exact lv_aload X.1 X.2.1 hd (gLz_get (i := 7) hl rfl) (k p e R s m args below meth c ls H locs X hl hR hlo)
theorem G_aloadN_7 {a0 a1 a2 a3 a4 a5 a6 : Option Value} (hd : decode M.2.1 pc = .ok (.aload 7, 2)) (k : G E l M d mc ms Q (pc + 2) (a0 :: a1 :: a2 :: a3 :: a4 :: a5 :: a6 :: some (.null) :: lv) (.null :: st) h uc us) : G E l M d mc ms Q pc (a0 :: a1 :: a2 :: a3 :: a4 :: a5 :: a6 :: some (.null) :: lv) st h uc us := by
  intro p e R s m args below meth c ls H locs X hl hR hlo
  exact lv_aloadN X.1 X.2.1 hd (gLz_get (i := 7) hl rfl) (k p e R s m args below meth c ls H locs X hl hR hlo)
theorem G_istore_7 {a0 a1 a2 a3 a4 a5 a6 : Option Value} {z : Option Value} {x : Int} (hd : decode M.2.1 pc = .ok (.istore 7, 2)) (hn : 7 < M.2.2.1) (hc : gC1 a6 = true) (k : G E l M d mc ms Q (pc + 2) (a0 :: a1 :: a2 :: a3 :: a4 :: a5 :: a6 :: some (vI x) :: lv) st h uc us) : G E l M d mc ms Q pc (a0 :: a1 :: a2 :: a3 :: a4 :: a5 :: a6 :: z :: lv) (vI x :: st) h uc us := by
  intro p e R s m args below meth c ls H locs X hl hR hlo
  exact lv_istore X.1 X.2.1 hd hl hn rfl (fun ls hl => k p e R s m args below meth c ls H locs X (gLz_set1 (L := (a0 :: a1 :: a2 :: a3 :: a4 :: a5 :: a6 :: z :: lv)) (i := 7) hc hl) hR hlo)
theorem G_astore_7 {a0 a1 a2 a3 a4 a5 a6 : Option Value} {z : Option Value} {x : Nat} (hd : decode M.2.1 pc = .ok (.astore 7, 2)) (hn : 7 < M.2.2.1) (hc : gC1 a6 = true) (k : G E l M d mc ms Q (pc + 2) (a0 :: a1 :: a2 :: a3 :: a4 :: a5 :: a6 :: some (.ref x) :: lv) st h uc us) : G E l M d mc ms Q pc (a0 :: a1 :: a2 :: a3 :: a4 :: a5 :: a6 :: z :: lv) (.ref x :: st) h uc us := by
  intro p e R s m args below meth c ls H locs X hl hR hlo
  exact lv_astore X.1 X.2.1 hd hl hn rfl (fun ls hl => k p e R s m args below meth c ls H locs X (gLz_set1 (L := (a0 :: a1 :: a2 :: a3 :: a4 :: a5 :: a6 :: z :: lv)) (i := 7) hc hl) hR hlo)
theorem G_astoreN_7 {a0 a1 a2 a3 a4 a5 a6 : Option Value} {z : Option Value} (hd : decode M.2.1 pc = .ok (.astore 7, 2)) (hn : 7 < M.2.2.1) (hc : gC1 a6 = true) (k : G E l M d mc ms Q (pc + 2) (a0 :: a1 :: a2 :: a3 :: a4 :: a5 :: a6 :: some (.null) :: lv) st h uc us) : G E l M d mc ms Q pc (a0 :: a1 :: a2 :: a3 :: a4 :: a5 :: a6 :: z :: lv) (.null :: st) h uc us := by
  intro p e R s m args below meth c ls H locs X hl hR hlo
  exact lv_astoreN X.1 X.2.1 hd hl hn rfl (fun ls hl => k p e R s m args below meth c ls H locs X (gLz_set1 (L := (a0 :: a1 :: a2 :: a3 :: a4 :: a5 :: a6 :: z :: lv)) (i := 7) hc hl) hR hlo)
theorem G_lstore_7 {a0 a1 a2 a3 a4 a5 a6 : Option Value} {z z2 : Option Value} {x : Int} (hd : decode M.2.1 pc = .ok (.lstore 7, 2)) (hn : 7 + 1 < M.2.2.1) (hc : gC1 a6 = true) (k : G E l M d mc ms Q (pc + 2) (a0 :: a1 :: a2 :: a3 :: a4 :: a5 :: a6 :: some (vJ x) :: none :: lv) st h uc us) : G E l M d mc ms Q pc (a0 :: a1 :: a2 :: a3 :: a4 :: a5 :: a6 :: z :: z2 :: lv) (vJ x :: st) h uc us := by
  intro p e R s m args below meth c ls H locs X hl hR hlo
  exact lv_lstore X.1 X.2.1 hd hl hn rfl (fun ls hl => k p e R s m args below meth c ls H locs X (gLz_set2 (L := (a0 :: a1 :: a2 :: a3 :: a4 :: a5 :: a6 :: z :: z2 :: lv)) (i := 7) hc hl) hR hlo)
theorem G_iinc_7 {a0 a1 a2 a3 a4 a5 a6 : Option Value} {x z : Int} (hd : decode M.2.1 pc = .ok (.iinc 7 z, 3)) (hn : 7 < M.2.2.1) (hc : gC1 a6 = true) (k : G E l M d mc ms Q (pc + 3) (a0 :: a1 :: a2 :: a3 :: a4 :: a5 :: a6 :: some (vI (x + z)) :: lv) st h uc us) : G E l M d mc ms Q pc (a0 :: a1 :: a2 :: a3 :: a4 :: a5 :: a6 :: some (vI x) :: lv) st h uc us := by
  intro p e R s m args below meth c ls H locs X hl hR hlo
  obtain ⟨j, hj⟩ := List.getElem?_of_mem (gLz_mem.mpr ⟨7, by simp, rfl⟩ : (7, vI x) ∈ gLz 0 (a0 :: a1 :: a2 :: a3 :: a4 :: a5 :: a6 :: some (vI x) :: lv))
  exact lv_iinc X.1 X.2.1 hd hl hj (Int32.ofInt_add x z).symm hn rfl (fun ls hl => k p e R s m args below meth c ls H locs X (gLz_set1 (L := (a0 :: a1 :: a2 :: a3 :: a4 :: a5 :: a6 :: some (vI x) :: lv)) (i := 7) hc hl) hR hlo)
theorem G_iload_8 {a0 a1 a2 a3 a4 a5 a6 a7 : Option Value} {x : Int} (hd : decode M.2.1 pc = .ok (.iload 8, 2)) (k : G E l M d mc ms Q (pc + 2) (a0 :: a1 :: a2 :: a3 :: a4 :: a5 :: a6 :: a7 :: some (vI x) :: lv) (vI x :: st) h uc us) : G E l M d mc ms Q pc (a0 :: a1 :: a2 :: a3 :: a4 :: a5 :: a6 :: a7 :: some (vI x) :: lv) st h uc us := by
  intro p e R s m args below meth c ls H locs X hl hR hlo
  exact lv_iload X.1 X.2.1 hd (gLz_get (i := 8) hl rfl) (k p e R s m args below meth c ls H locs X hl hR hlo)
theorem G_lload_8 {a0 a1 a2 a3 a4 a5 a6 a7 : Option Value} {x : Int} (hd : decode M.2.1 pc = .ok (.lload 8, 2)) (k : G E l M d mc ms Q (pc + 2) (a0 :: a1 :: a2 :: a3 :: a4 :: a5 :: a6 :: a7 :: some (vJ x) :: lv) (vJ x :: st) h uc us) : G E l M d mc ms Q pc (a0 :: a1 :: a2 :: a3 :: a4 :: a5 :: a6 :: a7 :: some (vJ x) :: lv) st h uc us := by
  intro p e R s m args below meth c ls H locs X hl hR hlo
  exact lv_lload X.1 X.2.1 hd (gLz_get (i := 8) hl rfl) (k p e R s m args below meth c ls H locs X hl hR hlo)
theorem G_aload_8 {a0 a1 a2 a3 a4 a5 a6 a7 : Option Value} {x : Nat} (hd : decode M.2.1 pc = .ok (.aload 8, 2)) (k : G E l M d mc ms Q (pc + 2) (a0 :: a1 :: a2 :: a3 :: a4 :: a5 :: a6 :: a7 :: some (.ref x) :: lv) (.ref x :: st) h uc us) : G E l M d mc ms Q pc (a0 :: a1 :: a2 :: a3 :: a4 :: a5 :: a6 :: a7 :: some (.ref x) :: lv) st h uc us := by
  intro p e R s m args below meth c ls H locs X hl hR hlo
  exact lv_aload X.1 X.2.1 hd (gLz_get (i := 8) hl rfl) (k p e R s m args below meth c ls H locs X hl hR hlo)
theorem G_aloadN_8 {a0 a1 a2 a3 a4 a5 a6 a7 : Option Value} (hd : decode M.2.1 pc = .ok (.aload 8, 2)) (k : G E l M d mc ms Q (pc + 2) (a0 :: a1 :: a2 :: a3 :: a4 :: a5 :: a6 :: a7 :: some (.null) :: lv) (.null :: st) h uc us) : G E l M d mc ms Q pc (a0 :: a1 :: a2 :: a3 :: a4 :: a5 :: a6 :: a7 :: some (.null) :: lv) st h uc us := by
  intro p e R s m args below meth c ls H locs X hl hR hlo
  exact lv_aloadN X.1 X.2.1 hd (gLz_get (i := 8) hl rfl) (k p e R s m args below meth c ls H locs X hl hR hlo)
theorem G_istore_8 {a0 a1 a2 a3 a4 a5 a6 a7 : Option Value} {z : Option Value} {x : Int} (hd : decode M.2.1 pc = .ok (.istore 8, 2)) (hn : 8 < M.2.2.1) (hc : gC1 a7 = true) (k : G E l M d mc ms Q (pc + 2) (a0 :: a1 :: a2 :: a3 :: a4 :: a5 :: a6 :: a7 :: some (vI x) :: lv) st h uc us) : G E l M d mc ms Q pc (a0 :: a1 :: a2 :: a3 :: a4 :: a5 :: a6 :: a7 :: z :: lv) (vI x :: st) h uc us := by
  intro p e R s m args below meth c ls H locs X hl hR hlo
  exact lv_istore X.1 X.2.1 hd hl hn rfl (fun ls hl => k p e R s m args below meth c ls H locs X (gLz_set1 (L := (a0 :: a1 :: a2 :: a3 :: a4 :: a5 :: a6 :: a7 :: z :: lv)) (i := 8) hc hl) hR hlo)
theorem G_astore_8 {a0 a1 a2 a3 a4 a5 a6 a7 : Option Value} {z : Option Value} {x : Nat} (hd : decode M.2.1 pc = .ok (.astore 8, 2)) (hn : 8 < M.2.2.1) (hc : gC1 a7 = true) (k : G E l M d mc ms Q (pc + 2) (a0 :: a1 :: a2 :: a3 :: a4 :: a5 :: a6 :: a7 :: some (.ref x) :: lv) st h uc us) : G E l M d mc ms Q pc (a0 :: a1 :: a2 :: a3 :: a4 :: a5 :: a6 :: a7 :: z :: lv) (.ref x :: st) h uc us := by
  intro p e R s m args below meth c ls H locs X hl hR hlo
  exact lv_astore X.1 X.2.1 hd hl hn rfl (fun ls hl => k p e R s m args below meth c ls H locs X (gLz_set1 (L := (a0 :: a1 :: a2 :: a3 :: a4 :: a5 :: a6 :: a7 :: z :: lv)) (i := 8) hc hl) hR hlo)
theorem G_astoreN_8 {a0 a1 a2 a3 a4 a5 a6 a7 : Option Value} {z : Option Value} (hd : decode M.2.1 pc = .ok (.astore 8, 2)) (hn : 8 < M.2.2.1) (hc : gC1 a7 = true) (k : G E l M d mc ms Q (pc + 2) (a0 :: a1 :: a2 :: a3 :: a4 :: a5 :: a6 :: a7 :: some (.null) :: lv) st h uc us) : G E l M d mc ms Q pc (a0 :: a1 :: a2 :: a3 :: a4 :: a5 :: a6 :: a7 :: z :: lv) (.null :: st) h uc us := by
  intro p e R s m args below meth c ls H locs X hl hR hlo
  exact lv_astoreN X.1 X.2.1 hd hl hn rfl (fun ls hl => k p e R s m args below meth c ls H locs X (gLz_set1 (L := (a0 :: a1 :: a2 :: a3 :: a4 :: a5 :: a6 :: a7 :: z :: lv)) (i := 8) hc hl) hR hlo)
theorem G_lstore_8 {a0 a1 a2 a3 a4 a5 a6 a7 : Option Value} {z z2 : Option Value} {x : Int} (hd : decode M.2.1 pc = .ok (.lstore 8, 2)) (hn : 8 + 1 < M.2.2.1) (hc : gC1 a7 = true) (k : G E l M d mc ms Q (pc + 2) (a0 :: a1 :: a2 :: a3 :: a4 :: a5 :: a6 :: a7 :: some (vJ x) :: none :: lv) st h uc us) : G E l M d mc ms Q pc (a0 :: a1 :: a2 :: a3 :: a4 :: a5 :: a6 :: a7 :: z :: z2 :: lv) (vJ x :: st) h uc us := by
  intro p e R s m args below meth c ls H locs X hl hR hlo
  exact lv_lstore X.1 X.2.1 hd hl hn rfl (fun ls hl => k p e R s m args below meth c ls H locs X (gLz_set2 (L := (a0 :: a1 :: a2 :: a3 :: a4 :: a5 :: a6 :: a7 :: z :: z2 :: lv)) (i := 8) hc hl) hR hlo)
theorem G_iinc_8 {a0 a1 a2 a3 a4 a5 a6 a7 : Option Value} {x z : Int} (hd : decode M.2.1 pc = .ok (.iinc 8 z, 3)) (hn : 8 < M.2.2.1) (hc : gC1 a7 = true) (k : G E l M d mc ms Q (pc + 3) (a0 :: a1 :: a2 :: a3 :: a4 :: a5 :: a6 :: a7 :: some (vI (x + z)) :: lv) st h uc us) : G E l M d mc ms Q pc (a0 :: a1 :: a2 :: a3 :: a4 :: a5 :: a6 :: a7 :: some (vI x) :: lv) st h uc us := by
  intro p e R s m args below meth c ls H locs X hl hR hlo
  obtain ⟨j, hj⟩ := List.getElem?_of_mem (gLz_mem.mpr ⟨8, by simp, rfl⟩ : (8, vI x) ∈ gLz 0 (a0 :: a1 :: a2 :: a3 :: a4 :: a5 :: a6 :: a7 :: some (vI x) :: lv))
  exact lv_iinc X.1 X.2.1 hd hl hj (Int32.ofInt_add x z).symm hn rfl (fun ls hl => k p e R s m args below meth c ls H locs X (gLz_set1 (L := (a0 :: a1 :: a2 :: a3 :: a4 :: a5 :: a6 :: a7 :: some (vI x) :: lv)) (i := 8) hc hl) hR hlo)
theorem G_iload_9 {a0 a1 a2 a3 a4 a5 a6 a7 a8 : Option Value} {x : Int} (hd : decode M.2.1 pc = .ok (.iload 9, 2)) (k : G E l M d mc ms Q (pc + 2) (a0 :: a1 :: a2 :: a3 :: a4 :: a5 :: a6 :: a7 :: a8 :: some (vI x) :: lv) (vI x :: st) h uc us) : G E l M d mc ms Q pc (a0 :: a1 :: a2 :: a3 :: a4 :: a5 :: a6 :: a7 :: a8 :: some (vI x) :: lv) st h uc us := by
  intro p e R s m args below meth c ls H locs X hl hR hlo
  exact lv_iload X.1 X.2.1 hd (gLz_get (i := 9) hl rfl) (k p e R s m args below meth c ls H locs X hl hR hlo)
theorem G_lload_9 {a0 a1 a2 a3 a4 a5 a6 a7 a8 : Option Value} {x : Int} (hd : decode M.2.1 pc = .ok (.lload 9, 2)) (k : G E l M d mc ms Q (pc + 2) (a0 :: a1 :: a2 :: a3 :: a4 :: a5 :: a6 :: a7 :: a8 :: some (vJ x) :: lv) (vJ x :: st) h uc us) : G E l M d mc ms Q pc (a0 :: a1 :: a2 :: a3 :: a4 :: a5 :: a6 :: a7 :: a8 :: some (vJ x) :: lv) st h uc us := by
  intro p e R s m args below meth c ls H locs X hl hR hlo
  exact lv_lload X.1 X.2.1 hd (gLz_get (i := 9) hl rfl) (k p e R s m args below meth c ls H locs X hl hR hlo)
theorem G_aload_9 {a0 a1 a2 a3 a4 a5 a6 a7 a8 : Option Value} {x : Nat} (hd : decode M.2.1 pc = .ok (.aload 9, 2)) (k : G E l M d mc ms Q (pc + 2) (a0 :: a1 :: a2 :: a3 :: a4 :: a5 :: a6 :: a7 :: a8 :: some (.ref x) :: lv) (.ref x :: st) h uc us) : G E l M d mc ms Q pc (a0 :: a1 :: a2 :: a3 :: a4 :: a5 :: a6 :: a7 :: a8 :: some (.ref x) :: lv) st h uc us := by
  intro p e R s m args below meth c ls H locs X hl hR hlo
  exact lv_aload X.1 X.2.1 hd (gLz_get (i := 9) hl rfl) (k p e R s m args below meth c ls H locs X hl hR hlo)
theorem G_aloadN_9 {a0 a1 a2 a3 a4 a5 a6 a7 a8 : Option Value} (hd : decode M.2.1 pc = .ok (.aload 9, 2)) (k : G E l M d mc ms Q (pc + 2) (a0 :: a1 :: a2 :: a3 :: a4 :: a5 :: a6 :: a7 :: a8 :: some (.null) :: lv) (.null :: st) h uc us) : G E l M d mc ms Q pc (a0 :: a1 :: a2 :: a3 :: a4 :: a5 :: a6 :: a7 :: a8 :: some (.null) :: lv) st h uc us := by
  intro p e R s m args below meth c ls H locs X hl hR hlo
  exact lv_aloadN X.1 X.2.1 hd (gLz_get (i := 9) hl rfl) (k p e R s m args below meth c ls H locs X hl hR hlo)
theorem G_istore_9 {a0 a1 a2 a3 a4 a5 a6 a7 a8 : Option Value} {z : Option Value} {x : Int} (hd : decode M.2.1 pc = .ok (.istore 9, 2)) (hn : 9 < M.2.2.1) (hc : gC1 a8 = true) (k : G E l M d mc ms Q (pc + 2) (a0 :: a1 :: a2 :: a3 :: a4 :: a5 :: a6 :: a7 :: a8 :: some (vI x) :: lv) st h uc us) : G E l M d mc ms Q pc (a0 :: a1 :: a2 :: a3 :: a4 :: a5 :: a6 :: a7 :: a8 :: z :: lv) (vI x :: st) h uc us := by
  intro p e R s m args below meth c ls H locs X hl hR hlo
  exact lv_istore X.1 X.2.1 hd hl hn rfl (fun ls hl => k p e R s m args below meth c ls H locs X (gLz_set1 (L := (a0 :: a1 :: a2 :: a3 :: a4 :: a5 :: a6 :: a7 :: a8 :: z :: lv)) (i := 9) hc hl) hR hlo)
theorem G_astore_9 {a0 a1 a2 a3 a4 a5 a6 a7 a8 : Option Value} {z : Option Value} {x : Nat} (hd : decode M.2.1 pc = .ok (.astore 9, 2)) (hn : 9 < M.2.2.1) (hc : gC1 a8 = true) (k : G E l M d mc ms Q (pc + 2) (a0 :: a1 :: a2 :: a3 :: a4 :: a5 :: a6 :: a7 :: a8 :: some (.ref x) :: lv) st h uc us) : G E l M d mc ms Q pc (a0 :: a1 :: a2 :: a3 :: a4 :: a5 :: a6 :: a7 :: a8 :: z :: lv) (.ref x :: st) h uc us := by
  intro p e R s m args below meth c ls H locs X hl hR hlo
  exact lv_astore X.1 X.2.1 hd hl hn rfl (fun ls hl => k p e R s m args below meth c ls H locs X (gLz_set1 (L := (a0 :: a1 :: a2 :: a3 :: a4 :: a5 :: a6 :: a7 :: a8 :: z :: lv)) (i := 9) hc hl) hR hlo)
theorem G_astoreN_9 {a0 a1 a2 a3 a4 a5 a6 a7 a8 : Option Value} {z : Option Value} (hd : decode M.2.1 pc = .ok (.astore 9, 2)) (hn : 9 < M.2.2.1) (hc : gC1 a8 = true) (k : G E l M d mc ms Q (pc + 2) (a0 :: a1 :: a2 :: a3 :: a4 :: a5 :: a6 :: a7 :: a8 :: some (.null) :: lv) st h uc us) : G E l M d mc ms Q pc (a0 :: a1 :: a2 :: a3 :: a4 :: a5 :: a6 :: a7 :: a8 :: z :: lv) (.null :: st) h uc us := by
  intro p e R s m args below meth c ls H locs X hl hR hlo
  exact lv_astoreN X.1 X.2.1 hd hl hn rfl (fun ls hl => k p e R s m args below meth c ls H locs X (gLz_set1 (L := (a0 :: a1 :: a2 :: a3 :: a4 :: a5 :: a6 :: a7 :: a8 :: z :: lv)) (i := 9) hc hl) hR hlo)
theorem G_lstore_9 {a0 a1 a2 a3 a4 a5 a6 a7 a8 : Option Value} {z z2 : Option Value} {x : Int} (hd : decode M.2.1 pc = .ok (.lstore 9, 2)) (hn : 9 + 1 < M.2.2.1) (hc : gC1 a8 = true) (k : G E l M d mc ms Q (pc + 2) (a0 :: a1 :: a2 :: a3 :: a4 :: a5 :: a6 :: a7 :: a8 :: some (vJ x) :: none :: lv) st h uc us) : G E l M d mc ms Q pc (a0 :: a1 :: a2 :: a3 :: a4 :: a5 :: a6 :: a7 :: a8 :: z :: z2 :: lv) (vJ x :: st) h uc us := by
  intro p e R s m args below meth c ls H locs X hl hR hlo
  exact lv_lstore X.1 X.2.1 hd hl hn rfl (fun ls hl => k p e R s m args below meth c ls H locs X (gLz_set2 (L := (a0 :: a1 :: a2 :: a3 :: a4 :: a5 :: a6 :: a7 :: a8 :: z :: z2 :: lv)) (i := 9) hc hl) hR hlo)
theorem G_iinc_9 {a0 a1 a2 a3 a4 a5 a6 a7 a8 : Option Value} {x z : Int} (hd : decode M.2.1 pc = .ok (.iinc 9 z, 3)) (hn : 9 < M.2.2.1) (hc : gC1 a8 = true) (k : G E l M d mc ms Q (pc + 3) (a0 :: a1 :: a2 :: a3 :: a4 :: a5 :: a6 :: a7 :: a8 :: some (vI (x + z)) :: lv) st h uc us) : G E l M d mc ms Q pc (a0 :: a1 :: a2 :: a3 :: a4 :: a5 :: a6 :: a7 :: a8 :: some (vI x) :: lv) st h uc us := by
  intro p e R s m args below meth c ls H locs X hl hR hlo
  obtain ⟨j, hj⟩ := List.getElem?_of_mem (gLz_mem.mpr ⟨9, by simp, rfl⟩ : (9, vI x) ∈ gLz 0 (a0 :: a1 :: a2 :: a3 :: a4 :: a5 :: a6 :: a7 :: a8 :: some (vI x) :: lv))
  exact lv_iinc X.1 X.2.1 hd hl hj (Int32.ofInt_add x z).symm hn rfl (fun ls hl => k p e R s m args below meth c ls H locs X (gLz_set1 (L := (a0 :: a1 :: a2 :: a3 :: a4 :: a5 :: a6 :: a7 :: a8 :: some (vI x) :: lv)) (i := 9) hc hl) hR hlo)
theorem G_iload_10 {a0 a1 a2 a3 a4 a5 a6 a7 a8 a9 : Option Value} {x : Int} (hd : decode M.2.1 pc = .ok (.iload 10, 2)) (k : G E l M d mc ms Q (pc + 2) (a0 :: a1 :: a2 :: a3 :: a4 :: a5 :: a6 :: a7 :: a8 :: a9 :: some (vI x) :: lv) (vI x :: st) h uc us) : G E l M d mc ms Q pc (a0 :: a1 :: a2 :: a3 :: a4 :: a5 :: a6 :: a7 :: a8 :: a9 :: some (vI x) :: lv) st h uc us := by
  intro p e R s m args below meth c ls H locs X hl hR hlo
  exact lv_iload X.1 X.2.1 hd (gLz_get (i := 10) hl rfl) (k p e R s m args below meth c ls H locs X hl hR hlo)
theorem G_lload_10 {a0 a1 a2 a3 a4 a5 a6 a7 a8 a9 : Option Value} {x : Int} (hd : decode M.2.1 pc = .ok (.lload 10, 2)) (k : G E l M d mc ms Q (pc + 2) (a0 :: a1 :: a2 :: a3 :: a4 :: a5 :: a6 :: a7 :: a8 :: a9 :: some (vJ x) :: lv) (vJ x :: st) h uc us) : G E l M d mc ms Q pc (a0 :: a1 :: a2 :: a3 :: a4 :: a5 :: a6 :: a7 :: a8 :: a9 :: some (vJ x) :: lv) st h uc us := by
  intro p e R s m args below meth c ls H locs X hl hR hlo
  exact lv_lload X.1 X.2.1 hd (gLz_get (i := 10) hl rfl) (k p e R s m args below meth c ls H locs X hl hR hlo)
theorem G_aload_10 {a0 a1 a2 a3 a4 a5 a6 a7 a8 a9 : Option Value} {x : Nat} (hd : decode M.2.1 pc = .ok (.aload 10, 2)) (k : G E l M d mc ms Q (pc + 2) (a0 :: a1 :: a2 :: a3 :: a4 :: a5 :: a6 :: a7 :: a8 :: a9 :: some (.ref x) :: lv) (.ref x :: st) h uc us) : G E l M d mc ms Q pc (a0 :: a1 :: a2 :: a3 :: a4 :: a5 :: a6 :: a7 :: a8 :: a9 :: some (.ref x) :: lv) st h uc us := by
  intro p e R s m args below meth c ls H locs X hl hR hlo
  exact lv_aload X.1 X.2.1 hd (gLz_get (i := 10) hl rfl) (k p e R s m args below meth c ls H locs X hl hR hlo)
theorem G_aloadN_10 {a0 a1 a2 a3 a4 a5 a6 a7 a8 a9 : Option Value} (hd : decode M.2.1 pc = .ok (.aload 10, 2)) (k : G E l M d mc ms Q (pc + 2) (a0 :: a1 :: a2 :: a3 :: a4 :: a5 :: a6 :: a7 :: a8 :: a9 :: some (.null) :: lv) (.null :: st) h uc us) : G E l M d mc ms Q pc (a0 :: a1 :: a2 :: a3 :: a4 :: a5 :: a6 :: a7 :: a8 :: a9 :: some (.null) :: lv) st h uc us := by
  intro p e R s m args below meth c ls H locs X hl hR hlo
  exact lv_aloadN X.1 X.2.1 hd (gLz_get (i := 10) hl rfl) (k p e R s m args below meth c ls H locs X hl hR hlo)
theorem G_istore_10 {a0 a1 a2 a3 a4 a5 a6 a7 a8 a9 : Option Value} {z : Option Value} {x : Int} (hd : decode M.2.1 pc = .ok (.istore 10, 2)) (hn : 10 < M.2.2.1) (hc : gC1 a9 = true) (k : G E l M d mc ms Q (pc + 2) (a0 :: a1 :: a2 :: a3 :: a4 :: a5 :: a6 :: a7 :: a8 :: a9 :: some (vI x) :: lv) st h uc us) : G E l M d mc ms Q pc (a0 :: a1 :: a2 :: a3 :: a4 :: a5 :: a6 :: a7 :: a8 :: a9 :: z :: lv) (vI x :: st) h uc us := by
  intro p e R s m args below meth c ls H locs X hl hR hlo
  exact lv_istore X.1 X.2.1 hd hl hn rfl (fun ls hl => k p e R s m args below meth c ls H locs X (gLz_set1 (L := (a0 :: a1 :: a2 :: a3 :: a4 :: a5 :: a6 :: a7 :: a8 :: a9 :: z :: lv)) (i := 10) hc hl) hR hlo)
theorem G_astore_10 {a0 a1 a2 a3 a4 a5 a6 a7 a8 a9 : Option Value} {z : Option Value} {x : Nat} (hd : decode M.2.1 pc = .ok (.astore 10, 2)) (hn : 10 < M.2.2.1) (hc : gC1 a9 = true) (k : G E l M d mc ms Q (pc + 2) (a0 :: a1 :: a2 :: a3 :: a4 :: a5 :: a6 :: a7 :: a8 :: a9 :: some (.ref x) :: lv) st h uc us) : G E l M d mc ms Q pc (a0 :: a1 :: a2 :: a3 :: a4 :: a5 :: a6 :: a7 :: a8 :: a9 :: z :: lv) (.ref x :: st) h uc us := by
  intro p e R s m args below meth c ls H locs X hl hR hlo
  exact lv_astore X.1 X.2.1 hd hl hn rfl (fun ls hl => k p e R s m args below meth c ls H locs X (gLz_set1 (L := (a0 :: a1 :: a2 :: a3 :: a4 :: a5 :: a6 :: a7 :: a8 :: a9 :: z :: lv)) (i := 10) hc hl) hR hlo)
theorem G_astoreN_10 {a0 a1 a2 a3 a4 a5 a6 a7 a8 a9 : Option Value} {z : Option Value} (hd : decode M.2.1 pc = .ok (.astore 10, 2)) (hn : 10 < M.2.2.1) (hc : gC1 a9 = true) (k : G E l M d mc ms Q (pc + 2) (a0 :: a1 :: a2 :: a3 :: a4 :: a5 :: a6 :: a7 :: a8 :: a9 :: some (.null) :: lv) st h uc us) : G E l M d mc ms Q pc (a0 :: a1 :: a2 :: a3 :: a4 :: a5 :: a6 :: a7 :: a8 :: a9 :: z :: lv) (.null :: st) h uc us := by
  intro p e R s m args below meth c ls H locs X hl hR hlo
  exact lv_astoreN X.1 X.2.1 hd hl hn rfl (fun ls hl => k p e R s m args below meth c ls H locs X (gLz_set1 (L := (a0 :: a1 :: a2 :: a3 :: a4 :: a5 :: a6 :: a7 :: a8 :: a9 :: z :: lv)) (i := 10) hc hl) hR hlo)
theorem G_lstore_10 {a0 a1 a2 a3 a4 a5 a6 a7 a8 a9 : Option Value} {z z2 : Option Value} {x : Int} (hd : decode M.2.1 pc = .ok (.lstore 10, 2)) (hn : 10 + 1 < M.2.2.1) (hc : gC1 a9 = true) (k : G E l M d mc ms Q (pc + 2) (a0 :: a1 :: a2 :: a3 :: a4 :: a5 :: a6 :: a7 :: a8 :: a9 :: some (vJ x) :: none :: lv) st h uc us) : G E l M d mc ms Q pc (a0 :: a1 :: a2 :: a3 :: a4 :: a5 :: a6 :: a7 :: a8 :: a9 :: z :: z2 :: lv) (vJ x :: st) h uc us := by
  intro p e R s m args below meth c ls H locs X hl hR hlo
  exact lv_lstore X.1 X.2.1 hd hl hn rfl (fun ls hl => k p e R s m args below meth c ls H locs X (gLz_set2 (L := (a0 :: a1 :: a2 :: a3 :: a4 :: a5 :: a6 :: a7 :: a8 :: a9 :: z :: z2 :: lv)) (i := 10) hc hl) hR hlo)
theorem G_iinc_10 {a0 a1 a2 a3 a4 a5 a6 a7 a8 a9 : Option Value} {x z : Int} (hd : decode M.2.1 pc = .ok (.iinc 10 z, 3)) (hn : 10 < M.2.2.1) (hc : gC1 a9 = true) (k : G E l M d mc ms Q (pc + 3) (a0 :: a1 :: a2 :: a3 :: a4 :: a5 :: a6 :: a7 :: a8 :: a9 :: some (vI (x + z)) :: lv) st h uc us) : G E l M d mc ms Q pc (a0 :: a1 :: a2 :: a3 :: a4 :: a5 :: a6 :: a7 :: a8 :: a9 :: some (vI x) :: lv) st h uc us := by
  intro p e R s m args below meth c ls H locs X hl hR hlo
  obtain ⟨j, hj⟩ := List.getElem?_of_mem (gLz_mem.mpr ⟨10, by simp, rfl⟩ : (10, vI x) ∈ gLz 0 (a0 :: a1 :: a2 :: a3 :: a4 :: a5 :: a6 :: a7 :: a8 :: a9 :: some (vI x) :: lv))
  exact lv_iinc X.1 X.2.1 hd hl hj (Int32.ofInt_add x z).symm hn rfl (fun ls hl => k p e R s m args below meth c ls H locs X (gLz_set1 (L := (a0 :: a1 :: a2 :: a3 :: a4 :: a5 :: a6 :: a7 :: a8 :: a9 :: some (vI x) :: lv)) (i := 10) hc hl) hR hlo)
theorem G_iload_11 {a0 a1 a2 a3 a4 a5 a6 a7 a8 a9 a10 : Option Value} {x : Int} (hd : decode M.2.1 pc = .ok (.iload 11, 2)) (k : G E l M d mc ms Q (pc + 2) (a0 :: a1 :: a2 :: a3 :: a4 :: a5 :: a6 :: a7 :: a8 :: a9 :: a10 :: some (vI x) :: lv) (vI x :: st) h uc us) : G E l M d mc ms Q pc (a0 :: a1 :: a2 :: a3 :: a4 :: a5 :: a6 :: a7 :: a8 :: a9 :: a10 :: some (vI x) :: lv) st h uc us := by
  intro p e R s m args below meth c ls H locs X hl hR hlo
  exact lv_iload X.1 X.2.1 hd (gLz_get (i := 11) hl rfl) (k p e R s m args below meth c ls H locs X hl hR hlo)
theorem G_lload_11 {a0 a1 a2 a3 a4 a5 a6 a7 a8 a9 a10 : Option Value} {x : Int} (hd : decode M.2.1 pc = .ok (.lload 11, 2)) (k : G E l M d mc ms Q (pc + 2) (a0 :: a1 :: a2 :: a3 :: a4 :: a5 :: a6 :: a7 :: a8 :: a9 :: a10 :: some (vJ x) :: lv) (vJ x :: st) h uc us) : G E l M d mc ms Q pc (a0 :: a1 :: a2 :: a3 :: a4 :: a5 :: a6 :: a7 :: a8 :: a9 :: a10 :: some (vJ x) :: lv) st h uc us := by
  intro p e R s m args below meth c ls H locs X hl hR hlo
  exact lv_lload X.1 X.2.1 hd (gLz_get (i := 11) hl rfl) (k p e R s m args below meth c ls H locs X hl hR hlo)
theorem G_aload_11 {a0 a1 a2 a3 a4 a5 a6 a7 a8 a9 a10 : Option Value} {x : Nat} (hd : decode M.2.1 pc = .ok (.aload 11, 2)) (k : G E l M d mc ms Q (pc + 2) (a0 :: a1 :: a2 :: a3 :: a4 :: a5 :: a6 :: a7 :: a8 :: a9 :: a10 :: some (.ref x) :: lv) (.ref x :: st) h uc us) : G E l M d mc ms Q pc (a0 :: a1 :: a2 :: a3 :: a4 :: a5 :: a6 :: a7 :: a8 :: a9 :: a10 :: some (.ref x) :: lv) st h uc us := by
  intro p e R s m args below meth c ls H locs X hl hR hlo
  exact lv_aload X.1 X.2.1 hd (gLz_get (i := 11) hl rfl) (k p e R s m args below meth c ls H locs X hl hR hlo)
theorem G_aloadN_11 {a0 a1 a2 a3 a4 a5 a6 a7 a8 a9 a10 : Option Value} (hd : decode M.2.1 pc = .ok (.aload 11, 2)) (k : G E l M d mc ms Q (pc + 2) (a0 :: a1 :: a2 :: a3 :: a4 :: a5 :: a6 :: a7 :: a8 :: a9 :: a10 :: some (.null) :: lv) (.null :: st) h uc us) : G E l M d mc ms Q pc (a0 :: a1 :: a2 :: a3 :: a4 :: a5 :: a6 :: a7 :: a8 :: a9 :: a10 :: some (.null) :: lv) st h uc us := by
  intro p e R s m args below meth c ls H locs X hl hR hlo
  exact lv_aloadN X.1 X.2.1 hd (gLz_get (i := 11) hl rfl) (k p e R s m args below meth c ls H locs X hl hR hlo)
theorem G_istore_11 {a0 a1 a2 a3 a4 a5 a6 a7 a8 a9 a10 : Option Value} {z : Option Value} {x : Int} (hd : decode M.2.1 pc = .ok (.istore 11, 2)) (hn : 11 < M.2.2.1) (hc : gC1 a10 = true) (k : G E l M d mc ms Q (pc + 2) (a0 :: a1 :: a2 :: a3 :: a4 :: a5 :: a6 :: a7 :: a8 :: a9 :: a10 :: some (vI x) :: lv) st h uc us) : G E l M d mc ms Q pc (a0 :: a1 :: a2 :: a3 :: a4 :: a5 :: a6 :: a7 :: a8 :: a9 :: a10 :: z :: lv) (vI x :: st) h uc us := by
  intro p e R s m args below meth c ls H locs X hl hR hlo
  exact lv_istore X.1 X.2.1 hd hl hn rfl (fun ls hl => k p e R s m args below meth c ls H locs X (gLz_set1 (L := (a0 :: a1 :: a2 :: a3 :: a4 :: a5 :: a6 :: a7 :: a8 :: a9 :: a10 :: z :: lv)) (i := 11) hc hl) hR hlo)
theorem G_astore_11 {a0 a1 a2 a3 a4 a5 a6 a7 a8 a9 a10 : Option Value} {z : Option Value} {x : Nat} (hd : decode M.2.1 pc = .ok (.astore 11, 2)) (hn : 11 < M.2.2.1) (hc : gC1 a10 = true) (k : G E l M d mc ms Q (pc + 2) (a0 :: a1 :: a2 :: a3 :: a4 :: a5 :: a6 :: a7 :: a8 :: a9 :: a10 :: some (.ref x) :: lv) st h uc us) : G E l M d mc ms Q pc (a0 :: a1 :: a2 :: a3 :: a4 :: a5 :: a6 :: a7 :: a8 :: a9 :: a10 :: z :: lv) (.ref x :: st) h uc us := by
  intro p e R s m args below meth c ls H locs X hl hR hlo
  exact lv_astore X.1 X.2.1 hd hl hn rfl (fun ls hl => k p e R s m args below meth c ls H locs X (gLz_set1 (L := (a0 :: a1 :: a2 :: a3 :: a4 :: a5 :: a6 :: a7 :: a8 :: a9 :: a10 :: z :: lv)) (i := 11) hc hl) hR hlo)
theorem G_astoreN_11 {a0 a1 a2 a3 a4 a5 a6 a7 a8 a9 a10 : Option Value} {z : Option Value} (hd : decode M.2.1 pc = .ok (.astore 11, 2)) (hn : 11 < M.2.2.1) (hc : gC1 a10 = true) (k : G E l M d mc ms Q (pc + 2) (a0 :: a1 :: a2 :: a3 :: a4 :: a5 :: a6 :: a7 :: a8 :: a9 :: a10 :: some (.null) :: lv) st h uc us) : G E l M d mc ms Q pc (a0 :: a1 :: a2 :: a3 :: a4 :: a5 :: a6 :: a7 :: a8 :: a9 :: a10 :: z :: lv) (.null :: st) h uc us := by
  intro p e R s m args below meth c ls H locs X hl hR hlo
  exact lv_astoreN X.1 X.2.1 hd hl hn rfl (fun ls hl => k p e R s m args below meth c ls H locs X (gLz_set1 (L := (a0 :: a1 :: a2 :: a3 :: a4 :: a5 :: a6 :: a7 :: a8 :: a9 :: a10 :: z :: lv)) (i := 11) hc hl) hR hlo)
theorem G_lstore_11 {a0 a1 a2 a3 a4 a5 a6 a7 a8 a9 a10 : Option Value} {z z2 : Option Value} {x : Int} (hd : decode M.2.1 pc = .ok (.lstore 11, 2)) (hn : 11 + 1 < M.2.2.1) (hc : gC1 a10 = true) (k : G E l M d mc ms Q (pc + 2) (a0 :: a1 :: a2 :: a3 :: a4 :: a5 :: a6 :: a7 :: a8 :: a9 :: a10 :: some (vJ x) :: none :: lv) st h uc us) : G E l M d mc ms Q pc (a0 :: a1 :: a2 :: a3 :: a4 :: a5 :: a6 :: a7 :: a8 :: a9 :: a10 :: z :: z2 :: lv) (vJ x :: st) h uc us := by
  intro p e R s m args below meth c ls H locs X hl hR hlo
  exact lv_lstore X.1 X.2.1 hd hl hn rfl (fun ls hl => k p e R s m args below meth c ls H locs X (gLz_set2 (L := (a0 :: a1 :: a2 :: a3 :: a4 :: a5 :: a6 :: a7 :: a8 :: a9 :: a10 :: z :: z2 :: lv)) (i := 11) hc hl) hR hlo)
theorem G_iinc_11 {a0 a1 a2 a3 a4 a5 a6 a7 a8 a9 a10 : Option Value} {x z : Int} (hd : decode M.2.1 pc = .ok (.iinc 11 z, 3)) (hn : 11 < M.2.2.1) (hc : gC1 a10 = true) (k : G E l M d mc ms Q (pc + 3) (a0 :: a1 :: a2 :: a3 :: a4 :: a5 :: a6 :: a7 :: a8 :: a9 :: a10 :: some (vI (x + z)) :: lv) st h uc us) : G E l M d mc ms Q pc (a0 :: a1 :: a2 :: a3 :: a4 :: a5 :: a6 :: a7 :: a8 :: a9 :: a10 :: some (vI x) :: lv) st h uc us := by
  intro p e R s m args below meth c ls H locs X hl hR hlo
  obtain ⟨j, hj⟩ := List.getElem?_of_mem (gLz_mem.mpr ⟨11, by simp, rfl⟩ : (11, vI x) ∈ gLz 0 (a0 :: a1 :: a2 :: a3 :: a4 :: a5 :: a6 :: a7 :: a8 :: a9 :: a10 :: some (vI x) :: lv))
  exact lv_iinc X.1 X.2.1 hd hl hj (Int32.ofInt_add x z).symm hn rfl (fun ls hl => k p e R s m args below meth c ls H locs X (gLz_set1 (L := (a0 :: a1 :: a2 :: a3 :: a4 :: a5 :: a6 :: a7 :: a8 :: a9 :: a10 :: some (vI x) :: lv)) (i := 11) hc hl) hR hlo)
theorem G_iload_12 {a0 a1 a2 a3 a4 a5 a6 a7 a8 a9 a10 a11 : Option Value} {x : Int} (hd : decode M.2.1 pc = .ok (.iload 12, 2)) (k : G E l M d mc ms Q (pc + 2) (a0 :: a1 :: a2 :: a3 :: a4 :: a5 :: a6 :: a7 :: a8 :: a9 :: a10 :: a11 :: some (vI x) :: lv) (vI x :: st) h uc us) : G E l M d mc ms Q pc (a0 :: a1 :: a2 :: a3 :: a4 :: a5 :: a6 :: a7 :: a8 :: a9 :: a10 :: a11 :: some (vI x) :: lv) st h uc us := by
  intro p e R s m args below meth c ls H locs X hl hR hlo
  exact lv_iload X.1 X.2.1 hd (gLz_get (i := 12) hl rfl) (k p e R s m args below meth c ls H locs X hl hR hlo)
theorem G_lload_12 {a0 a1 a2 a3 a4 a5 a6 a7 a8 a9 a10 a11 : Option Value} {x : Int} (hd : decode M.2.1 pc = .ok (.lload 12, 2)) (k : G E l M d mc ms Q (pc + 2) (a0 :: a1 :: a2 :: a3 :: a4 :: a5 :: a6 :: a7 :: a8 :: a9 :: a10 :: a11 :: some (vJ x) :: lv) (vJ x :: st) h uc us) : G E l M d mc ms Q pc (a0 :: a1 :: a2 :: a3 :: a4 :: a5 :: a6 :: a7 :: a8 :: a9 :: a10 :: a11 :: some (vJ x) :: lv) st h uc us := by
  intro p e R s m args below meth c ls H locs X hl hR hlo
  exact lv_lload X.1 X.2.1 hd (gLz_get (i := 12) hl rfl) (k p e R s m args below meth c ls H locs X hl hR hlo)
theorem G_aload_12 {a0 a1 a2 a3 a4 a5 a6 a7 a8 a9 a10 a11 : Option Value} {x : Nat} (hd : decode M.2.1 pc = .ok (.aload 12, 2)) (k : G E l M d mc ms Q (pc + 2) (a0 :: a1 :: a2 :: a3 :: a4 :: a5 :: a6 :: a7 :: a8 :: a9 :: a10 :: a11 :: some (.ref x) :: lv) (.ref x :: st) h uc us) : G E l M d mc ms Q pc (a0 :: a1 :: a2 :: a3 :: a4 :: a5 :: a6 :: a7 :: a8 :: a9 :: a10 :: a11 :: some (.ref x) :: lv) st h uc us := by
  intro p e R s m args below meth c ls H locs X hl hR hlo
  exact lv_aload X.1 X.2.1 hd (gLz_get (i := 12) hl rfl) (k p e R s m args below meth c ls H locs X hl hR hlo)
theorem G_aloadN_12 {a0 a1 a2 a3 a4 a5 a6 a7 a8 a9 a10 a11 : Option Value} (hd : decode M.2.1 pc = .ok (.aload 12, 2)) (k : G E l M d mc ms Q (pc + 2) (a0 :: a1 :: a2 :: a3 :: a4 :: a5 :: a6 :: a7 :: a8 :: a9 :: a10 :: a11 :: some (.null) :: lv) (.null :: st) h uc us) : G E l M d mc ms Q pc (a0 :: a1 :: a2 :: a3 :: a4 :: a5 :: a6 :: a7 :: a8 :: a9 :: a10 :: a11 :: some (.null) :: lv) st h uc us := by
  intro p e R s m args below meth c ls H locs X hl hR hlo
  exact lv_aloadN X.1 X.2.1 hd (gLz_get (i := 12) hl rfl) (k p e R s m args below meth c ls H locs X hl hR hlo)
theorem G_istore_12 {a0 a1 a2 a3 a4 a5 a6 a7 a8 a9 a10 a11 : Option Value} {z : Option Value} {x : Int} (hd : decode M.2.1 pc = .ok (.istore 12, 2)) (hn : 12 < M.2.2.1) (hc : gC1 a11 = true) (k : G E l M d mc ms Q (pc + 2) (a0 :: a1 :: a2 :: a3 :: a4 :: a5 :: a6 :: a7 :: a8 :: a9 :: a10 :: a11 :: some (vI x) :: lv) st h uc us) : G E l M d mc ms Q pc (a0 :: a1 :: a2 :: a3 :: a4 :: a5 :: a6 :: a7 :: a8 :: a9 :: a10 :: a11 :: z :: lv) (vI x :: st) h uc us := by
  intro p e R s m args below meth c ls H locs X hl hR hlo
  exact lv_istore X.1 X.2.1 hd hl hn rfl (fun ls hl => k p e R s m args below meth c ls H locs X (gLz_set1 (L := (a0 :: a1 :: a2 :: a3 :: a4 :: a5 :: a6 :: a7 :: a8 :: a9 :: a10 :: a11 :: z :: lv)) (i := 12) hc hl) hR hlo)
theorem G_astore_12 {a0 a1 a2 a3 a4 a5 a6 a7 a8 a9 a10 a11 : Option Value} {z : Option Value} {x : Nat} (hd : decode M.2.1 pc = .ok (.astore 12, 2)) (hn : 12 < M.2.2.1) (hc : gC1 a11 = true) (k : G E l M d mc ms Q (pc + 2) (a0 :: a1 :: a2 :: a3 :: a4 :: a5 :: a6 :: a7 :: a8 :: a9 :: a10 :: a11 :: some (.ref x) :: lv) st h uc us) : G E l M d mc ms Q pc (a0 :: a1 :: a2 :: a3 :: a4 :: a5 :: a6 :: a7 :: a8 :: a9 :: a10 :: a11 :: z :: lv) (.ref x :: st) h uc us := by
  intro p e R s m args below meth c ls H locs X hl hR hlo
  exact lv_astore X.1 X.2.1 hd hl hn rfl (fun ls hl => k p e R s m args below meth c ls H locs X (gLz_set1 (L := (a0 :: a1 :: a2 :: a3 :: a4 :: a5 :: a6 :: a7 :: a8 :: a9 :: a10 :: a11 :: z :: lv)) (i := 12) hc hl) hR hlo)
theorem G_astoreN_12 {a0 a1 a2 a3 a4 a5 a6 a7 a8 a9 a10 a11 : Option Value} {z : Option Value} (hd : decode M.2.1 pc = .ok (.astore 12, 2)) (hn : 12 < M.2.2.1) (hc : gC1 a11 = true) (k : G E l M d mc ms Q (pc + 2) (a0 :: a1 :: a2 :: a3 :: a4 :: a5 :: a6 :: a7 :: a8 :: a9 :: a10 :: a11 :: some (.null) :: lv) st h uc us) : G E l M d mc ms Q pc (a0 :: a1 :: a2 :: a3 :: a4 :: a5 :: a6 :: a7 :: a8 :: a9 :: a10 :: a11 :: z :: lv) (.null :: st) h uc us := by
  intro p e R s m args below meth c ls H locs X hl hR hlo
  exact lv_astoreN X.1 X.2.1 hd hl hn rfl (fun ls hl => k p e R s m args below meth c ls H locs X (gLz_set1 (L := (a0 :: a1 :: a2 :: a3 :: a4 :: a5 :: a6 :: a7 :: a8 :: a9 :: a10 :: a11 :: z :: lv)) (i := 12) hc hl) hR hlo)
theorem G_lstore_12 {a0 a1 a2 a3 a4 a5 a6 a7 a8 a9 a10 a11 : Option Value} {z z2 : Option Value} {x : Int} (hd : decode M.2.1 pc = .ok (.lstore 12, 2)) (hn : 12 + 1 < M.2.2.1) (hc : gC1 a11 = true) (k : G E l M d mc ms Q (pc + 2) (a0 :: a1 :: a2 :: a3 :: a4 :: a5 :: a6 :: a7 :: a8 :: a9 :: a10 :: a11 :: some (vJ x) :: none :: lv) st h uc us) : G E l M d mc ms Q pc (a0 :: a1 :: a2 :: a3 :: a4 :: a5 :: a6 :: a7 :: a8 :: a9 :: a10 :: a11 :: z :: z2 :: lv) (vJ x :: st) h uc us := by
  intro p e R s m args below meth c ls H locs X hl hR hlo
  exact lv_lstore X.1 X.2.1 hd hl hn rfl (fun ls hl => k p e R s m args below meth c ls H locs X (gLz_set2 (L := (a0 :: a1 :: a2 :: a3 :: a4 :: a5 :: a6 :: a7 :: a8 :: a9 :: a10 :: a11 :: z :: z2 :: lv)) (i := 12) hc hl) hR hlo)
theorem G_iinc_12 {a0 a1 a2 a3 a4 a5 a6 a7 a8 a9 a10 a11 : Option Value} {x z : Int} (hd : decode M.2.1 pc = .ok (.iinc 12 z, 3)) (hn : 12 < M.2.2.1) (hc : gC1 a11 = true) (k : G E l M d mc ms Q (pc + 3) (a0 :: a1 :: a2 :: a3 :: a4 :: a5 :: a6 :: a7 :: a8 :: a9 :: a10 :: a11 :: some (vI (x + z)) :: lv) st h uc us) : G E l M d mc ms Q pc (a0 :: a1 :: a2 :: a3 :: a4 :: a5 :: a6 :: a7 :: a8 :: a9 :: a10 :: a11 :: some (vI x) :: lv) st h uc us := by
  intro p e R s m args below meth c ls H locs X hl hR hlo
  obtain ⟨j, hj⟩ := List.getElem?_of_mem (gLz_mem.mpr ⟨12, by simp, rfl⟩ : (12, vI x) ∈ gLz 0 (a0 :: a1 :: a2 :: a3 :: a4 :: a5 :: a6 :: a7 :: a8 :: a9 :: a10 :: a11 :: some (vI x) :: lv))
  exact lv_iinc X.1 X.2.1 hd hl hj (Int32.ofInt_add x z).symm hn rfl (fun ls hl => k p e R s m args below meth c ls H locs X (gLz_set1 (L := (a0 :: a1 :: a2 :: a3 :: a4 :: a5 :: a6 :: a7 :: a8 :: a9 :: a10 :: a11 :: some (vI x) :: lv)) (i := 12) hc hl) hR hlo)
theorem G_iload_13 {a0 a1 a2 a3 a4 a5 a6 a7 a8 a9 a10 a11 a12 : Option Value} {x : Int} (hd : decode M.2.1 pc = .ok (.iload 13, 2)) (k : G E l M d mc ms Q (pc + 2) (a0 :: a1 :: a2 :: a3 :: a4 :: a5 :: a6 :: a7 :: a8 :: a9 :: a10 :: a11 :: a12 :: some (vI x) :: lv) (vI x :: st) h uc us) : G E l M d mc ms Q pc (a0 :: a1 :: a2 :: a3 :: a4 :: a5 :: a6 :: a7 :: a8 :: a9 :: a10 :: a11 :: a12 :: some (vI x) :: lv) st h uc us := by
  intro p e R s m args below meth c ls H locs X hl hR hlo
  exact lv_iload X.1 X.2.1 hd (gLz_get (i := 13) hl rfl) (k p e R s m args below meth c ls H locs X hl hR hlo)
theorem G_lload_13 {a0 a1 a2 a3 a4 a5 a6 a7 a8 a9 a10 a11 a12 : Option Value} {x : Int} (hd : decode M.2.1 pc = .ok (.lload 13, 2)) (k : G E l M d mc ms Q (pc + 2) (a0 :: a1 :: a2 :: a3 :: a4 :: a5 :: a6 :: a7 :: a8 :: a9 :: a10 :: a11 :: a12 :: some (vJ x) :: lv) (vJ x :: st) h uc us) : G E l M d mc ms Q pc (a0 :: a1 :: a2 :: a3 :: a4 :: a5 :: a6 :: a7 :: a8 :: a9 :: a10 :: a11 :: a12 :: some (vJ x) :: lv) st h uc us := by
  intro p e R s m args below meth c ls H locs X hl hR hlo
  exact lv_lload X.1 X.2.1 hd (gLz_get (i := 13) hl rfl) (k p e R s m args below meth c ls H locs X hl hR hlo)
theorem G_aload_13 {a0 a1 a2 a3 a4 a5 a6 a7 a8 a9 a10 a11 a12 : Option Value} {x : Nat} (hd : decode M.2.1 pc = .ok (.aload 13, 2)) (k : G E l M d mc ms Q (pc + 2) (a0 :: a1 :: a2 :: a3 :: a4 :: a5 :: a6 :: a7 :: a8 :: a9 :: a10 :: a11 :: a12 :: some (.ref x) :: lv) (.ref x :: st) h uc us) : G E l M d mc ms Q pc (a0 :: a1 :: a2 :: a3 :: a4 :: a5 :: a6 :: a7 :: a8 :: a9 :: a10 :: a11 :: a12 :: some (.ref x) :: lv) st h uc us := by
  intro p e R s m args below meth c ls H locs X hl hR hlo
  exact lv_aload X.1 X.2.1 hd (gLz_get (i := 13) hl rfl) (k p e R s m args below meth c ls H locs X hl hR hlo)
theorem G_aloadN_13 {a0 a1 a2 a3 a4 a5 a6 a7 a8 a9 a10 a11 a12 : Option Value} (hd : decode M.2.1 pc = .ok (.aload 13, 2)) (k : G E l M d mc ms Q (pc + 2) (a0 :: a1 :: a2 :: a3 :: a4 :: a5 :: a6 :: a7 :: a8 :: a9 :: a10 :: a11 :: a12 :: some (.null) :: lv) (.null :: st) h uc us) : G E l M d mc ms Q pc (a0 :: a1 :: a2 :: a3 :: a4 :: a5 :: a6 :: a7 :: a8 :: a9 :: a10 :: a11 :: a12 :: some (.null) :: lv) st h uc us := by
  intro p e R s m args below meth c ls H locs X hl hR hlo
  exact lv_aloadN X.1 X.2.1 hd (gLz_get (i := 13) hl rfl) (k p e R s m args below meth c ls H locs X hl hR hlo)
theorem G_istore_13 {a0 a1 a2 a3 a4 a5 a6 a7 a8 a9 a10 a11 a12 : Option Value} {z : Option Value} {x : Int} (hd : decode M.2.1 pc = .ok (.istore 13, 2)) (hn : 13 < M.2.2.1) (hc : gC1 a12 = true) (k : G E l M d mc ms Q (pc + 2) (a0 :: a1 :: a2 :: a3 :: a4 :: a5 :: a6 :: a7 :: a8 :: a9 :: a10 :: a11 :: a12 :: some (vI x) :: lv) st h uc us) : G E l M d mc ms Q pc (a0 :: a1 :: a2 :: a3 :: a4 :: a5 :: a6 :: a7 :: a8 :: a9 :: a10 :: a11 :: a12 :: z :: lv) (vI x :: st) h uc us := by
  intro p e R s m args below meth c ls H locs X hl hR hlo
  exact lv_istore X.1 X.2.1 hd hl hn rfl (fun ls hl => k p e R s m args below meth c ls H locs X (gLz_set1 (L := (a0 :: a1 :: a2 :: a3 :: a4 :: a5 :: a6 :: a7 :: a8 :: a9 :: a10 :: a11 :: a12 :: z :: lv)) (i := 13) hc hl) hR hlo)
theorem G_astore_13 {a0 a1 a2 a3 a4 a5 a6 a7 a8 a9 a10 a11 a12 : Option Value} {z : Option Value} {x : Nat} (hd : decode M.2.1 pc = .ok (.astore 13, 2)) (hn : 13 < M.2.2.1) (hc : gC1 a12 = true) (k : G E l M d mc ms Q (pc + 2) (a0 :: a1 :: a2 :: a3 :: a4 :: a5 :: a6 :: a7 :: a8 :: a9 :: a10 :: a11 :: a12 :: some (.ref x) :: lv) st h uc us) : G E l M d mc ms Q pc (a0 :: a1 :: a2 :: a3 :: a4 :: a5 :: a6 :: a7 :: a8 :: a9 :: a10 :: a11 :: a12 :: z :: lv) (.ref x :: st) h uc us := by
  intro p e R s m args below meth c ls H locs X hl hR hlo
  exact lv_astore X.1 X.2.1 hd hl hn rfl (fun ls hl => k p e R s m args below meth c ls H locs X (gLz_set1 (L := (a0 :: a1 :: a2 :: a3 :: a4 :: a5 :: a6 :: a7 :: a8 :: a9 :: a10 :: a11 :: a12 :: z :: lv)) (i := 13) hc hl) hR hlo)
theorem G_astoreN_13 {a0 a1 a2 a3 a4 a5 a6 a7 a8 a9 a10 a11 a12 : Option Value} {z : Option Value} (hd : decode M.2.1 pc = .ok (.astore 13, 2)) (hn : 13 < M.2.2.1) (hc : gC1 a12 = true) (k : G E l M d mc ms Q (pc + 2) (a0 :: a1 :: a2 :: a3 :: a4 :: a5 :: a6 :: a7 :: a8 :: a9 :: a10 :: a11 :: a12 :: some (.null) :: lv) st h uc us) : G E l M d mc ms Q pc (a0 :: a1 :: a2 :: a3 :: a4 :: a5 :: a6 :: a7 :: a8 :: a9 :: a10 :: a11 :: a12 :: z :: lv) (.null :: st) h uc us := by
  intro p e R s m args below meth c ls H locs X hl hR hlo
  exact lv_astoreN X.1 X.2.1 hd hl hn rfl (fun ls hl => k p e R s m args below meth c ls H locs X (gLz_set1 (L := (a0 :: a1 :: a2 :: a3 :: a4 :: a5 :: a6 :: a7 :: a8 :: a9 :: a10 :: a11 :: a12 :: z :: lv)) (i := 13) hc hl) hR hlo)
theorem G_lstore_13 {a0 a1 a2 a3 a4 a5 a6 a7 a8 a9 a10 a11 a12 : Option Value} {z z2 : Option Value} {x : Int} (hd : decode M.2.1 pc = .ok (.lstore 13, 2)) (hn : 13 + 1 < M.2.2.1) (hc : gC1 a12 = true) (k : G E l M d mc ms Q (pc + 2) (a0 :: a1 :: a2 :: a3 :: a4 :: a5 :: a6 :: a7 :: a8 :: a9 :: a10 :: a11 :: a12 :: some (vJ x) :: none :: lv) st h uc us) : G E l M d mc ms Q pc (a0 :: a1 :: a2 :: a3 :: a4 :: a5 :: a6 :: a7 :: a8 :: a9 :: a10 :: a11 :: a12 :: z :: z2 :: lv) (vJ x :: st) h uc us := by
  intro p e R s m args below meth c ls H locs X hl hR hlo
  exact lv_lstore X.1 X.2.1 hd hl hn rfl (fun ls hl => k p e R s m args below meth c ls H locs X (gLz_set2 (L := (a0 :: a1 :: a2 :: a3 :: a4 :: a5 :: a6 :: a7 :: a8 :: a9 :: a10 :: a11 :: a12 :: z :: z2 :: lv)) (i := 13) hc hl) hR hlo)
theorem G_iinc_13 {a0 a1 a2 a3 a4 a5 a6 a7 a8 a9 a10 a11 a12 : Option Value} {x z : Int} (hd : decode M.2.1 pc = .ok (.iinc 13 z, 3)) (hn : 13 < M.2.2.1) (hc : gC1 a12 = true) (k : G E l M d mc ms Q (pc + 3) (a0 :: a1 :: a2 :: a3 :: a4 :: a5 :: a6 :: a7 :: a8 :: a9 :: a10 :: a11 :: a12 :: some (vI (x + z)) :: lv) st h uc us) : G E l M d mc ms Q pc (a0 :: a1 :: a2 :: a3 :: a4 :: a5 :: a6 :: a7 :: a8 :: a9 :: a10 :: a11 :: a12 :: some (vI x) :: lv) st h uc us := by
  intro p e R s m args below meth c ls H locs X hl hR hlo
  obtain ⟨j, hj⟩ := List.getElem?_of_mem (gLz_mem.mpr ⟨13, by simp, rfl⟩ : (13, vI x) ∈ gLz 0 (a0 :: a1 :: a2 :: a3 :: a4 :: a5 :: a6 :: a7 :: a8 :: a9 :: a10 :: a11 :: a12 :: some (vI x) :: lv))
  exact lv_iinc X.1 X.2.1 hd hl hj (Int32.ofInt_add x z).symm hn rfl (fun ls hl => k p e R s m args below meth c ls H locs X (gLz_set1 (L := (a0 :: a1 :: a2 :: a3 :: a4 :: a5 :: a6 :: a7 :: a8 :: a9 :: a10 :: a11 :: a12 :: some (vI x) :: lv)) (i := 13) hc hl) hR hlo)
theorem G_iload_14 {a0 a1 a2 a3 a4 a5 a6 a7 a8 a9 a10 a11 a12 a13 : Option Value} {x : Int} (hd : decode M.2.1 pc = .ok (.iload 14, 2)) (k : G E l M d mc ms Q (pc + 2) (a0 :: a1 :: a2 :: a3 :: a4 :: a5 :: a6 :: a7 :: a8 :: a9 :: a10 :: a11 :: a12 :: a13 :: some (vI x) :: lv) (vI x :: st) h uc us) : G E l M d mc ms Q pc (a0 :: a1 :: a2 :: a3 :: a4 :: a5 :: a6 :: a7 :: a8 :: a9 :: a10 :: a11 :: a12 :: a13 :: some (vI x) :: lv) st h uc us := by
  intro p e R s m args below meth c ls H locs X hl hR hlo
  exact lv_iload X.1 X.2.1 hd (gLz_get (i := 14) hl rfl) (k p e R s m args below meth c ls H locs X hl hR hlo)
theorem G_lload_14 {a0 a1 a2 a3 a4 a5 a6 a7 a8 a9 a10 a11 a12 a13 : Option Value} {x : Int} (hd : decode M.2.1 pc = .ok (.lload 14, 2)) (k : G E l M d mc ms Q (pc + 2) (a0 :: a1 :: a2 :: a3 :: a4 :: a5 :: a6 :: a7 :: a8 :: a9 :: a10 :: a11 :: a12 :: a13 :: some (vJ x) :: lv) (vJ x :: st) h uc us) : G E l M d mc ms Q pc (a0 :: a1 :: a2 :: a3 :: a4 :: a5 :: a6 :: a7 :: a8 :: a9 :: a10 :: a11 :: a12 :: a13 :: some (vJ x) :: lv) st h uc us := by
  intro p e R s m args below meth c ls H locs X hl hR hlo
  exact lv_lload X.1 X.2.1 hd (gLz_get (i := 14) hl rfl) (k p e R s m args below meth c ls H locs X hl hR hlo)
theorem G_aload_14 {a0 a1 a2 a3 a4 a5 a6 a7 a8 a9 a10 a11 a12 a13 : Option Value} {x : Nat} (hd : decode M.2.1 pc = .ok (.aload 14, 2)) (k : G E l M d mc ms Q (pc + 2) (a0 :: a1 :: a2 :: a3 :: a4 :: a5 :: a6 :: a7 :: a8 :: a9 :: a10 :: a11 :: a12 :: a13 :: some (.ref x) :: lv) (.ref x :: st) h uc us) : G E l M d mc ms Q pc (a0 :: a1 :: a2 :: a3 :: a4 :: a5 :: a6 :: a7 :: a8 :: a9 :: a10 :: a11 :: a12 :: a13 :: some (.ref x) :: lv) st h uc us := by
  intro p e R s m args below meth c ls H locs X hl hR hlo
  exact lv_aload X.1 X.2.1 hd (gLz_get (i := 14) hl rfl) (k p e R s m args below meth c ls H locs X hl hR hlo)
theorem G_aloadN_14 {a0 a1 a2 a3 a4 a5 a6 a7 a8 a9 a10 a11 a12 a13 : Option Value} (hd : decode M.2.1 pc = .ok (.aload 14, 2)) (k : G E l M d mc ms Q (pc + 2) (a0 :: a1 :: a2 :: a3 :: a4 :: a5 :: a6 :: a7 :: a8 :: a9 :: a10 :: a11 :: a12 :: a13 :: some (.null) :: lv) (.null :: st) h uc us) : G E l M d mc ms Q pc (a0 :: a1 :: a2 :: a3 :: a4 :: a5 :: a6 :: a7 :: a8 :: a9 :: a10 :: a11 :: a12 :: a13 :: some (.null) :: lv) st h uc us := by
  intro p e R s m args below meth c ls H locs X hl hR hlo
  exact lv_aloadN X.1 X.2.1 hd (gLz_get (i := 14) hl rfl) (k p e R s m args below meth c ls H locs X hl hR hlo)
theorem G_istore_14 {a0 a1 a2 a3 a4 a5 a6 a7 a8 a9 a10 a11 a12 a13 : Option Value} {z : Option Value} {x : Int} (hd : decode M.2.1 pc = .ok (.istore 14, 2)) (hn : 14 < M.2.2.1) (hc : gC1 a13 = true) (k : G E l M d mc ms Q (pc + 2) (a0 :: a1 :: a2 :: a3 :: a4 :: a5 :: a6 :: a7 :: a8 :: a9 :: a10 :: a11 :: a12 :: a13 :: some (vI x) :: lv) st h uc us) : G E l M d mc ms Q pc (a0 :: a1 :: a2 :: a3 :: a4 :: a5 :: a6 :: a7 :: a8 :: a9 :: a10 :: a11 :: a12 :: a13 :: z :: lv) (vI x :: st) h uc us := by
  intro p e R s m args below meth c ls H locs X hl hR hlo
  exact lv_istore X.1 X.2.1 hd hl hn rfl (fun ls hl => k p e R s m args below meth c ls H locs X (gLz_set1 (L := (a0 :: a1 :: a2 :: a3 :: a4 :: a5 :: a6 :: a7 :: a8 :: a9 :: a10 :: a11 :: a12 :: a13 :: z :: lv)) (i := 14) hc hl) hR hlo)
theorem G_astore_14 {a0 a1 a2 a3 a4 a5 a6 a7 a8 a9 a10 a11 a12 a13 : Option Value} {z : Option Value} {x : Nat} (hd : decode M.2.1 pc = .ok (.astore 14, 2)) (hn : 14 < M.2.2.1) (hc : gC1 a13 = true) (k : G E l M d mc ms Q (pc + 2) (a0 :: a1 :: a2 :: a3 :: a4 :: a5 :: a6 :: a7 :: a8 :: a9 :: a10 :: a11 :: a12 :: a13 :: some (.ref x) :: lv) st h uc us) : G E l M d mc ms Q pc (a0 :: a1 :: a2 :: a3 :: a4 :: a5 :: a6 :: a7 :: a8 :: a9 :: a10 :: a11 :: a12 :: a13 :: z :: lv) (.ref x :: st) h uc us := by
  intro p e R s m args below meth c ls H locs X hl hR hlo
  exact lv_astore X.1 X.2.1 hd hl hn rfl (fun ls hl => k p e R s m args below meth c ls H locs X (gLz_set1 (L := (a0 :: a1 :: a2 :: a3 :: a4 :: a5 :: a6 :: a7 :: a8 :: a9 :: a10 :: a11 :: a12 :: a13 :: z :: lv)) (i := 14) hc hl) hR hlo)
theorem G_astoreN_14 {a0 a1 a2 a3 a4 a5 a6 a7 a8 a9 a10 a11 a12 a13 : Option Value} {z : Option Value} (hd : decode M.2.1 pc = .ok (.astore 14, 2)) (hn : 14 < M.2.2.1) (hc : gC1 a13 = true) (k : G E l M d mc ms Q (pc + 2) (a0 :: a1 :: a2 :: a3 :: a4 :: a5 :: a6 :: a7 :: a8 :: a9 :: a10 :: a11 :: a12 :: a13 :: some (.null) :: lv) st h uc us) : G E l M d mc ms Q pc (a0 :: a1 :: a2 :: a3 :: a4 :: a5 :: a6 :: a7 :: a8 :: a9 :: a10 :: a11 :: a12 :: a13 :: z :: lv) (.null :: st) h uc us := by
  intro p e R s m args below meth c ls H locs X hl hR hlo
  exact lv_astoreN X.1 X.2.1 hd hl hn rfl (fun ls hl => k p e R s m args below meth c ls H locs X (gLz_set1 (L := (a0 :: a1 :: a2 :: a3 :: a4 :: a5 :: a6 :: a7 :: a8 :: a9 :: a10 :: a11 :: a12 :: a13 :: z :: lv)) (i := 14) hc hl) hR hlo)
theorem G_lstore_14 {a0 a1 a2 a3 a4 a5 a6 a7 a8 a9 a10 a11 a12 a13 : Option Value} {z z2 : Option Value} {x : Int} (hd : decode M.2.1 pc = .ok (.lstore 14, 2)) (hn : 14 + 1 < M.2.2.1) (hc : gC1 a13 = true) (k : G E l M d mc ms Q (pc + 2) (a0 :: a1 :: a2 :: a3 :: a4 :: a5 :: a6 :: a7 :: a8 :: a9 :: a10 :: a11 :: a12 :: a13 :: some (vJ x) :: none :: lv) st h uc us) : G E l M d mc ms Q pc (a0 :: a1 :: a2 :: a3 :: a4 :: a5 :: a6 :: a7 :: a8 :: a9 :: a10 :: a11 :: a12 :: a13 :: z :: z2 :: lv) (vJ x :: st) h uc us := by
  intro p e R s m args below meth c ls H locs X hl hR hlo
  exact lv_lstore X.1 X.2.1 hd hl hn rfl (fun ls hl => k p e R s m args below meth c ls H locs X (gLz_set2 (L := (a0 :: a1 :: a2 :: a3 :: a4 :: a5 :: a6 :: a7 :: a8 :: a9 :: a10 :: a11 :: a12 :: a13 :: z :: z2 :: lv)) (i := 14) hc hl) hR hlo)
theorem G_iinc_14 {a0 a1 a2 a3 a4 a5 a6 a7 a8 a9 a10 a11 a12 a13 : Option Value} {x z : Int} (hd : decode M.2.1 pc = .ok (.iinc 14 z, 3)) (hn : 14 < M.2.2.1) (hc : gC1 a13 = true) (k : G E l M d mc ms Q (pc + 3) (a0 :: a1 :: a2 :: a3 :: a4 :: a5 :: a6 :: a7 :: a8 :: a9 :: a10 :: a11 :: a12 :: a13 :: some (vI (x + z)) :: lv) st h uc us) : G E l M d mc ms Q pc (a0 :: a1 :: a2 :: a3 :: a4 :: a5 :: a6 :: a7 :: a8 :: a9 :: a10 :: a11 :: a12 :: a13 :: some (vI x) :: lv) st h uc us := by
  intro p e R s m args below meth c ls H locs X hl hR hlo
  obtain ⟨j, hj⟩ := List.getElem?_of_mem (gLz_mem.mpr ⟨14, by simp, rfl⟩ : (14, vI x) ∈ gLz 0 (a0 :: a1 :: a2 :: a3 :: a4 :: a5 :: a6 :: a7 :: a8 :: a9 :: a10 :: a11 :: a12 :: a13 :: some (vI x) :: lv))
  exact lv_iinc X.1 X.2.1 hd hl hj (Int32.ofInt_add x z).symm hn rfl (fun ls hl => k p e R s m args below meth c ls H locs X (gLz_set1 (L := (a0 :: a1 :: a2 :: a3 :: a4 :: a5 :: a6 :: a7 :: a8 :: a9 :: a10 :: a11 :: a12 :: a13 :: some (vI x) :: lv)) (i := 14) hc hl) hR hlo)
theorem G_iload_15 {a0 a1 a2 a3 a4 a5 a6 a7 a8 a9 a10 a11 a12 a13 a14 : Option Value} {x : Int} (hd : decode M.2.1 pc = .ok (.iload 15, 2)) (k : G E l M d mc ms Q (pc + 2) (a0 :: a1 :: a2 :: a3 :: a4 :: a5 :: a6 :: a7 :: a8 :: a9 :: a10 :: a11 :: a12 :: a13 :: a14 :: some (vI x) :: lv) (vI x :: st) h uc us) : G E l M d mc ms Q pc (a0 :: a1 :: a2 :: a3 :: a4 :: a5 :: a6 :: a7 :: a8 :: a9 :: a10 :: a11 :: a12 :: a13 :: a14 :: some (vI x) :: lv) st h uc us := by
  intro p e R s m args below meth c ls H locs X hl hR hlo
  exact lv_iload X.1 X.2.1 hd (gLz_get (i := 15) hl rfl) (k p e R s m args below meth c ls H locs X hl hR hlo)
theorem G_lload_15 {a0 a1 a2 a3 a4 a5 a6 a7 a8 a9 a10 a11 a12 a13 a14 : Option Value} {x : Int} (hd : decode M.2.1 pc = .ok (.lload 15, 2)) (k : G E l M d mc ms Q (pc + 2) (a0 :: a1 :: a2 :: a3 :: a4 :: a5 :: a6 :: a7 :: a8 :: a9 :: a10 :: a11 :: a12 :: a13 :: a14 :: some (vJ x) :: lv) (vJ x :: st) h uc us) : G E l M d mc ms Q pc (a0 :: a1 :: a2 :: a3 :: a4 :: a5 :: a6 :: a7 :: a8 :: a9 :: a10 :: a11 :: a12 :: a13 :: a14 :: some (vJ x) :: lv) st h uc us := by
  intro p e R s m args below meth c ls H locs X hl hR hlo
  exact lv_lload X.1 X.2.1 hd (gLz_get (i := 15) hl rfl) (k p e R s m args below meth c ls H locs X hl hR hlo)
theorem G_aload_15 {a0 a1 a2 a3 a4 a5 a6 a7 a8 a9 a10 a11 a12 a13 a14 : Option Value} {x : Nat} (hd : decode M.2.1 pc = .ok (.aload 15, 2)) (k : G E l M d mc ms Q (pc + 2) (a0 :: a1 :: a2 :: a3 :: a4 :: a5 :: a6 :: a7 :: a8 :: a9 :: a10 :: a11 :: a12 :: a13 :: a14 :: some (.ref x) :: lv) (.ref x :: st) h uc us) : G E l M d mc ms Q pc (a0 :: a1 :: a2 :: a3 :: a4 :: a5 :: a6 :: a7 :: a8 :: a9 :: a10 :: a11 :: a12 :: a13 :: a14 :: some (.ref x) :: lv) st h uc us := by
  intro p e R s m args below meth c ls H locs X hl hR hlo
  exact lv_aload X.1 X.2.1 hd (gLz_get (i := 15) hl rfl) (k p e R s m args below meth c ls H locs X hl hR hlo)
theorem G_aloadN_15 {a0 a1 a2 a3 a4 a5 a6 a7 a8 a9 a10 a11 a12 a13 a14 : Option Value} (hd : decode M.2.1 pc = .ok (.aload 15, 2)) (k : G E l M d mc ms Q (pc + 2) (a0 :: a1 :: a2 :: a3 :: a4 :: a5 :: a6 :: a7 :: a8 :: a9 :: a10 :: a11 :: a12 :: a13 :: a14 :: some (.null) :: lv) (.null :: st) h uc us) : G E l M d mc ms Q pc (a0 :: a1 :: a2 :: a3 :: a4 :: a5 :: a6 :: a7 :: a8 :: a9 :: a10 :: a11 :: a12 :: a13 :: a14 :: some (.null) :: lv) st h uc us := by
  intro p e R s m args below meth c ls H locs X hl hR hlo
  exact lv_aloadN X.1 X.2.1 hd (gLz_get (i := 15) hl rfl) (k p e R s m args below meth c ls H locs X hl hR hlo)
theorem G_istore_15 {a0 a1 a2 a3 a4 a5 a6 a7 a8 a9 a10 a11 a12 a13 a14 : Option Value} {z : Option Value} {x : Int} (hd : decode M.2.1 pc = .ok (.istore 15, 2)) (hn : 15 < M.2.2.1) (hc : gC1 a14 = true) (k : G E l M d mc ms Q (pc + 2) (a0 :: a1 :: a2 :: a3 :: a4 :: a5 :: a6 :: a7 :: a8 :: a9 :: a10 :: a11 :: a12 :: a13 :: a14 :: some (vI x) :: lv) st h uc us) : G E l M d mc ms Q pc (a0 :: a1 :: a2 :: a3 :: a4 :: a5 :: a6 :: a7 :: a8 :: a9 :: a10 :: a11 :: a12 :: a13 :: a14 :: z :: lv) (vI x :: st) h uc us := by
  intro p e R s m args below meth c ls H locs X hl hR hlo
  exact lv_istore X.1 X.2.1 hd hl hn rfl (fun ls hl => k p e R s m args below meth c ls H locs X (gLz_set1 (L := (a0 :: a1 :: a2 :: a3 :: a4 :: a5 :: a6 :: a7 :: a8 :: a9 :: a10 :: a11 :: a12 :: a13 :: a14 :: z :: lv)) (i := 15) hc hl) hR hlo)
theorem G_astore_15 {a0 a1 a2 a3 a4 a5 a6 a7 a8 a9 a10 a11 a12 a13 a14 : Option Value} {z : Option Value} {x : Nat} (hd : decode M.2.1 pc = .ok (.astore 15, 2)) (hn : 15 < M.2.2.1) (hc : gC1 a14 = true) (k : G E l M d mc ms Q (pc + 2) (a0 :: a1 :: a2 :: a3 :: a4 :: a5 :: a6 :: a7 :: a8 :: a9 :: a10 :: a11 :: a12 :: a13 :: a14 :: some (.ref x) :: lv) st h uc us) : G E l M d mc ms Q pc (a0 :: a1 :: a2 :: a3 :: a4 :: a5 :: a6 :: a7 :: a8 :: a9 :: a10 :: a11 :: a12 :: a13 :: a14 :: z :: lv) (.ref x :: st) h uc us := by
  intro p e R s m args below meth c ls H locs X hl hR hlo
  exact lv_astore X.1 X.2.1 hd hl hn rfl (fun ls hl => k p e R s m args below meth c ls H locs X (gLz_set1 (L := (a0 :: a1 :: a2 :: a3 :: a4 :: a5 :: a6 :: a7 :: a8 :: a9 :: a10 :: a11 :: a12 :: a13 :: a14 :: z :: lv)) (i := 15) hc hl) hR hlo)
theorem G_astoreN_15 {a0 a1 a2 a3 a4 a5 a6 a7 a8 a9 a10 a11 a12 a13 a14 : Option Value} {z : Option Value} (hd : decode M.2.1 pc = .ok (.astore 15, 2)) (hn : 15 < M.2.2.1) (hc : gC1 a14 = true) (k : G E l M d mc ms Q (pc + 2) (a0 :: a1 :: a2 :: a3 :: a4 :: a5 :: a6 :: a7 :: a8 :: a9 :: a10 :: a11 :: a12 :: a13 :: a14 :: some (.null) :: lv) st h uc us) : G E l M d mc ms Q pc (a0 :: a1 :: a2 :: a3 :: a4 :: a5 :: a6 :: a7 :: a8 :: a9 :: a10 :: a11 :: a12 :: a13 :: a14 :: z :: lv) (.null :: st) h uc us := by
  intro p e R s m args below meth c ls H locs X hl hR hlo
  exact lv_astoreN X.1 X.2.1 hd hl hn rfl (fun ls hl => k p e R s m args below meth c ls H locs X (gLz_set1 (L := (a0 :: a1 :: a2 :: a3 :: a4 :: a5 :: a6 :: a7 :: a8 :: a9 :: a10 :: a11 :: a12 :: a13 :: a14 :: z :: lv)) (i := 15) hc hl) hR hlo)
theorem G_lstore_15 {a0 a1 a2 a3 a4 a5 a6 a7 a8 a9 a10 a11 a12 a13 a14 : Option Value} {z z2 : Option Value} {x : Int} (hd : decode M.2.1 pc = .ok (.lstore 15, 2)) (hn : 15 + 1 < M.2.2.1) (hc : gC1 a14 = true) (k : G E l M d mc ms Q (pc + 2) (a0 :: a1 :: a2 :: a3 :: a4 :: a5 :: a6 :: a7 :: a8 :: a9 :: a10 :: a11 :: a12 :: a13 :: a14 :: some (vJ x) :: none :: lv) st h uc us) : G E l M d mc ms Q pc (a0 :: a1 :: a2 :: a3 :: a4 :: a5 :: a6 :: a7 :: a8 :: a9 :: a10 :: a11 :: a12 :: a13 :: a14 :: z :: z2 :: lv) (vJ x :: st) h uc us := by
  intro p e R s m args below meth c ls H locs X hl hR hlo
  exact lv_lstore X.1 X.2.1 hd hl hn rfl (fun ls hl => k p e R s m args below meth c ls H locs X (gLz_set2 (L := (a0 :: a1 :: a2 :: a3 :: a4 :: a5 :: a6 :: a7 :: a8 :: a9 :: a10 :: a11 :: a12 :: a13 :: a14 :: z :: z2 :: lv)) (i := 15) hc hl) hR hlo)
theorem G_iinc_15 {a0 a1 a2 a3 a4 a5 a6 a7 a8 a9 a10 a11 a12 a13 a14 : Option Value} {x z : Int} (hd : decode M.2.1 pc = .ok (.iinc 15 z, 3)) (hn : 15 < M.2.2.1) (hc : gC1 a14 = true) (k : G E l M d mc ms Q (pc + 3) (a0 :: a1 :: a2 :: a3 :: a4 :: a5 :: a6 :: a7 :: a8 :: a9 :: a10 :: a11 :: a12 :: a13 :: a14 :: some (vI (x + z)) :: lv) st h uc us) : G E l M d mc ms Q pc (a0 :: a1 :: a2 :: a3 :: a4 :: a5 :: a6 :: a7 :: a8 :: a9 :: a10 :: a11 :: a12 :: a13 :: a14 :: some (vI x) :: lv) st h uc us := by
  intro p e R s m args below meth c ls H locs X hl hR hlo
  obtain ⟨j, hj⟩ := List.getElem?_of_mem (gLz_mem.mpr ⟨15, by simp, rfl⟩ : (15, vI x) ∈ gLz 0 (a0 :: a1 :: a2 :: a3 :: a4 :: a5 :: a6 :: a7 :: a8 :: a9 :: a10 :: a11 :: a12 :: a13 :: a14 :: some (vI x) :: lv))
  exact lv_iinc X.1 X.2.1 hd hl hj (Int32.ofInt_add x z).symm hn rfl (fun ls hl => k p e R s m args below meth c ls H locs X (gLz_set1 (L := (a0 :: a1 :: a2 :: a3 :: a4 :: a5 :: a6 :: a7 :: a8 :: a9 :: a10 :: a11 :: a12 :: a13 :: a14 :: some (vI x) :: lv)) (i := 15) hc hl) hR hlo)
theorem G_iload_16 {a0 a1 a2 a3 a4 a5 a6 a7 a8 a9 a10 a11 a12 a13 a14 a15 : Option Value} {x : Int} (hd : decode M.2.1 pc = .ok (.iload 16, 2)) (k : G E l M d mc ms Q (pc + 2) (a0 :: a1 :: a2 :: a3 :: a4 :: a5 :: a6 :: a7 :: a8 :: a9 :: a10 :: a11 :: a12 :: a13 :: a14 :: a15 :: some (vI x) :: lv) (vI x :: st) h uc us) : G E l M d mc ms Q pc (a0 :: a1 :: a2 :: a3 :: a4 :: a5 :: a6 :: a7 :: a8 :: a9 :: a10 :: a11 :: a12 :: a13 :: a14 :: a15 :: some (vI x) :: lv) st h uc us := by
  intro p e R s m args below meth c ls H locs X hl hR hlo
  exact lv_iload X.1 X.2.1 hd (gLz_get (i := 16) hl rfl) (k p e R s m args below meth c ls H locs X hl hR hlo)
theorem G_lload_16 {a0 a1 a2 a3 a4 a5 a6 a7 a8 a9 a10 a11 a12 a13 a14 a15 : Option Value} {x : Int} (hd : decode M.2.1 pc = .ok (.lload 16, 2)) (k : G E l M d mc ms Q (pc + 2) (a0 :: a1 :: a2 :: a3 :: a4 :: a5 :: a6 :: a7 :: a8 :: a9 :: a10 :: a11 :: a12 :: a13 :: a14 :: a15 :: some (vJ x) :: lv) (vJ x :: st) h uc us) : G E l M d mc ms Q pc (a0 :: a1 :: a2 :: a3 :: a4 :: a5 :: a6 :: a7 :: a8 :: a9 :: a10 :: a11 :: a12 :: a13 :: a14 :: a15 :: some (vJ x) :: lv) st h uc us := by
  intro p e R s m args below meth c ls H locs X hl hR hlo
  exact lv_lload X.1 X.2.1 hd (gLz_get (i := 16) hl rfl) (k p e R s m args below meth c ls H locs X hl hR hlo)
theorem G_aload_16 {a0 a1 a2 a3 a4 a5 a6 a7 a8 a9 a10 a11 a12 a13 a14 a15 : Option Value} {x : Nat} (hd : decode M.2.1 pc = .ok (.aload 16, 2)) (k : G E l M d mc ms Q (pc + 2) (a0 :: a1 :: a2 :: a3 :: a4 :: a5 :: a6 :: a7 :: a8 :: a9 :: a10 :: a11 :: a12 :: a13 :: a14 :: a15 :: some (.ref x) :: lv) (.ref x :: st) h uc us) : G E l M d mc ms Q pc (a0 :: a1 :: a2 :: a3 :: a4 :: a5 :: a6 :: a7 :: a8 :: a9 :: a10 :: a11 :: a12 :: a13 :: a14 :: a15 :: some (.ref x) :: lv) st h uc us := by
  intro p e R s m args below meth c ls H locs X hl hR hlo
  exact lv_aload X.1 X.2.1 hd (gLz_get (i := 16) hl rfl) (k p e R s m args below meth c ls H locs X hl hR hlo)
theorem G_aloadN_16 {a0 a1 a2 a3 a4 a5 a6 a7 a8 a9 a10 a11 a12 a13 a14 a15 : Option Value} (hd : decode M.2.1 pc = .ok (.aload 16, 2)) (k : G E l M d mc ms Q (pc + 2) (a0 :: a1 :: a2 :: a3 :: a4 :: a5 :: a6 :: a7 :: a8 :: a9 :: a10 :: a11 :: a12 :: a13 :: a14 :: a15 :: some (.null) :: lv) (.null :: st) h uc us) : G E l M d mc ms Q pc (a0 :: a1 :: a2 :: a3 :: a4 :: a5 :: a6 :: a7 :: a8 :: a9 :: a10 :: a11 :: a12 :: a13 :: a14 :: a15 :: some (.null) :: lv) st h uc us := by
  intro p e R s m args below meth c ls H locs X hl hR hlo
  exact lv_aloadN X.1 X.2.1 hd (gLz_get (i := 16) hl rfl) (k p e R s m args below meth c ls H locs X hl hR hlo)
theorem G_istore_16 {a0 a1 a2 a3 a4 a5 a6 a7 a8 a9 a10 a11 a12 a13 a14 a15 : Option Value} {z : Option Value} {x : Int} (hd : decode M.2.1 pc = .ok (.istore 16, 2)) (hn : 16 < M.2.2.1) (hc : gC1 a15 = true) (k : G E l M d mc ms Q (pc + 2) (a0 :: a1 :: a2 :: a3 :: a4 :: a5 :: a6 :: a7 :: a8 :: a9 :: a10 :: a11 :: a12 :: a13 :: a14 :: a15 :: some (vI x) :: lv) st h uc us) : G E l M d mc ms Q pc (a0 :: a1 :: a2 :: a3 :: a4 :: a5 :: a6 :: a7 :: a8 :: a9 :: a10 :: a11 :: a12 :: a13 :: a14 :: a15 :: z :: lv) (vI x :: st) h uc us := by
  intro p e R s m args below meth c ls H locs X hl hR hlo
  exact lv_istore X.1 X.2.1 hd hl hn rfl (fun ls hl => k p e R s m args below meth c ls H locs X (gLz_set1 (L := (a0 :: a1 :: a2 :: a3 :: a4 :: a5 :: a6 :: a7 :: a8 :: a9 :: a10 :: a11 :: a12 :: a13 :: a14 :: a15 :: z :: lv)) (i := 16) hc hl) hR hlo)
theorem G_astore_16 {a0 a1 a2 a3 a4 a5 a6 a7 a8 a9 a10 a11 a12 a13 a14 a15 : Option Value} {z : Option Value} {x : Nat} (hd : decode M.2.1 pc = .ok (.astore 16, 2)) (hn : 16 < M.2.2.1) (hc : gC1 a15 = true) (k : G E l M d mc ms Q (pc + 2) (a0 :: a1 :: a2 :: a3 :: a4 :: a5 :: a6 :: a7 :: a8 :: a9 :: a10 :: a11 :: a12 :: a13 :: a14 :: a15 :: some (.ref x) :: lv) st h uc us) : G E l M d mc ms Q pc (a0 :: a1 :: a2 :: a3 :: a4 :: a5 :: a6 :: a7 :: a8 :: a9 :: a10 :: a11 :: a12 :: a13 :: a14 :: a15 :: z :: lv) (.ref x :: st) h uc us := by
  intro p e R s m args below meth c ls H locs X hl hR hlo
  exact lv_astore X.1 X.2.1 hd hl hn rfl (fun ls hl => k p e R s m args below meth c ls H locs X (gLz_set1 (L := (a0 :: a1 :: a2 :: a3 :: a4 :: a5 :: a6 :: a7 :: a8 :: a9 :: a10 :: a11 :: a12 :: a13 :: a14 :: a15 :: z :: lv)) (i := 16) hc hl) hR hlo)
theorem G_astoreN_16 {a0 a1 a2 a3 a4 a5 a6 a7 a8 a9 a10 a11 a12 a13 a14 a15 : Option Value} {z : Option Value} (hd : decode M.2.1 pc = .ok (.astore 16, 2)) (hn : 16 < M.2.2.1) (hc : gC1 a15 = true) (k : G E l M d mc ms Q (pc + 2) (a0 :: a1 :: a2 :: a3 :: a4 :: a5 :: a6 :: a7 :: a8 :: a9 :: a10 :: a11 :: a12 :: a13 :: a14 :: a15 :: some (.null) :: lv) st h uc us) : G E l M d mc ms Q pc (a0 :: a1 :: a2 :: a3 :: a4 :: a5 :: a6 :: a7 :: a8 :: a9 :: a10 :: a11 :: a12 :: a13 :: a14 :: a15 :: z :: lv) (.null :: st) h uc us := by
  intro p e R s m args below meth c ls H locs X hl hR hlo
  exact lv_astoreN X.1 X.2.1 hd hl hn rfl (fun ls hl => k p e R s m args below meth c ls H locs X (gLz_set1 (L := (a0 :: a1 :: a2 :: a3 :: a4 :: a5 :: a6 :: a7 :: a8 :: a9 :: a10 :: a11 :: a12 :: a13 :: a14 :: a15 :: z :: lv)) (i := 16) hc hl) hR hlo)
theorem G_lstore_16 {a0 a1 a2 a3 a4 a5 a6 a7 a8 a9 a10 a11 a12 a13 a14 a15 : Option Value} {z z2 : Option Value} {x : Int} (hd : decode M.2.1 pc = .ok (.lstore 16, 2)) (hn : 16 + 1 < M.2.2.1) (hc : gC1 a15 = true) (k : G E l M d mc ms Q (pc + 2) (a0 :: a1 :: a2 :: a3 :: a4 :: a5 :: a6 :: a7 :: a8 :: a9 :: a10 :: a11 :: a12 :: a13 :: a14 :: a15 :: some (vJ x) :: none :: lv) st h uc us) : G E l M d mc ms Q pc (a0 :: a1 :: a2 :: a3 :: a4 :: a5 :: a6 :: a7 :: a8 :: a9 :: a10 :: a11 :: a12 :: a13 :: a14 :: a15 :: z :: z2 :: lv) (vJ x :: st) h uc us := by
  intro p e R s m args below meth c ls H locs X hl hR hlo
  exact lv_lstore X.1 X.2.1 hd hl hn rfl (fun ls hl => k p e R s m args below meth c ls H locs X (gLz_set2 (L := (a0 :: a1 :: a2 :: a3 :: a4 :: a5 :: a6 :: a7 :: a8 :: a9 :: a10 :: a11 :: a12 :: a13 :: a14 :: a15 :: z :: z2 :: lv)) (i := 16) hc hl) hR hlo)
theorem G_iinc_16 {a0 a1 a2 a3 a4 a5 a6 a7 a8 a9 a10 a11 a12 a13 a14 a15 : Option Value} {x z : Int} (hd : decode M.2.1 pc = .ok (.iinc 16 z, 3)) (hn : 16 < M.2.2.1) (hc : gC1 a15 = true) (k : G E l M d mc ms Q (pc + 3) (a0 :: a1 :: a2 :: a3 :: a4 :: a5 :: a6 :: a7 :: a8 :: a9 :: a10 :: a11 :: a12 :: a13 :: a14 :: a15 :: some (vI (x + z)) :: lv) st h uc us) : G E l M d mc ms Q pc (a0 :: a1 :: a2 :: a3 :: a4 :: a5 :: a6 :: a7 :: a8 :: a9 :: a10 :: a11 :: a12 :: a13 :: a14 :: a15 :: some (vI x) :: lv) st h uc us := by
  intro p e R s m args below meth c ls H locs X hl hR hlo
  obtain ⟨j, hj⟩ := List.getElem?_of_mem (gLz_mem.mpr ⟨16, by simp, rfl⟩ : (16, vI x) ∈ gLz 0 (a0 :: a1 :: a2 :: a3 :: a4 :: a5 :: a6 :: a7 :: a8 :: a9 :: a10 :: a11 :: a12 :: a13 :: a14 :: a15 :: some (vI x) :: lv))
  exact lv_iinc X.1 X.2.1 hd hl hj (Int32.ofInt_add x z).symm hn rfl (fun ls hl => k p e R s m args below meth c ls H locs X (gLz_set1 (L := (a0 :: a1 :: a2 :: a3 :: a4 :: a5 :: a6 :: a7 :: a8 :: a9 :: a10 :: a11 :: a12 :: a13 :: a14 :: a15 :: some (vI x) :: lv)) (i := 16) hc hl) hR hlo)
theorem G_iload_17 {a0 a1 a2 a3 a4 a5 a6 a7 a8 a9 a10 a11 a12 a13 a14 a15 a16 : Option Value} {x : Int} (hd : decode M.2.1 pc = .ok (.iload 17, 2)) (k : G E l M d mc ms Q (pc + 2) (a0 :: a1 :: a2 :: a3 :: a4 :: a5 :: a6 :: a7 :: a8 :: a9 :: a10 :: a11 :: a12 :: a13 :: a14 :: a15 :: a16 :: some (vI x) :: lv) (vI x :: st) h uc us) : G E l M d mc ms Q pc (a0 :: a1 :: a2 :: a3 :: a4 :: a5 :: a6 :: a7 :: a8 :: a9 :: a10 :: a11 :: a12 :: a13 :: a14 :: a15 :: a16 :: some (vI x) :: lv) st h uc us := by
  intro p e R s m args below meth c ls H locs X hl hR hlo
  exact lv_iload X.1 X.2.1 hd (gLz_get (i := 17) hl rfl) (k p e R s m args below meth c ls H locs X hl hR hlo)
theorem G_lload_17 {a0 a1 a2 a3 a4 a5 a6 a7 a8 a9 a10 a11 a12 a13 a14 a15 a16 : Option Value} {x : Int} (hd : decode M.2.1 pc = .ok (.lload 17, 2)) (k : G E l M d mc ms Q (pc + 2) (a0 :: a1 :: a2 :: a3 :: a4 :: a5 :: a6 :: a7 :: a8 :: a9 :: a10 :: a11 :: a12 :: a13 :: a14 :: a15 :: a16 :: some (vJ x) :: lv) (vJ x :: st) h uc us) : G E l M d mc ms Q pc (a0 :: a1 :: a2 :: a3 :: a4 :: a5 :: a6 :: a7 :: a8 :: a9 :: a10 :: a11 :: a12 :: a13 :: a14 :: a15 :: a16 :: some (vJ x) :: lv) st h uc us := by
  intro p e R s m args below meth c ls H locs X hl hR hlo
  exact lv_lload X.1 X.2.1 hd (gLz_get (i := 17) hl rfl) (k p e R s m args below meth c ls H locs X hl hR hlo)
theorem G_aload_17 {a0 a1 a2 a3 a4 a5 a6 a7 a8 a9 a10 a11 a12 a13 a14 a15 a16 : Option Value} {x : Nat} (hd : decode M.2.1 pc = .ok (.aload 17, 2)) (k : G E l M d mc ms Q (pc + 2) (a0 :: a1 :: a2 :: a3 :: a4 :: a5 :: a6 :: a7 :: a8 :: a9 :: a10 :: a11 :: a12 :: a13 :: a14 :: a15 :: a16 :: some (.ref x) :: lv) (.ref x :: st) h uc us) : G E l M d mc ms Q pc (a0 :: a1 :: a2 :: a3 :: a4 :: a5 :: a6 :: a7 :: a8 :: a9 :: a10 :: a11 :: a12 :: a13 :: a14 :: a15 :: a16 :: some (.ref x) :: lv) st h uc us := by
  intro p e R s m args below meth c ls H locs X hl hR hlo
  exact lv_aload X.1 X.2.1 hd (gLz_get (i := 17) hl rfl) (k p e R s m args below meth c ls H locs X hl hR hlo)
theorem G_aloadN_17 {a0 a1 a2 a3 a4 a5 a6 a7 a8 a9 a10 a11 a12 a13 a14 a15 a16 : Option Value} (hd : decode M.2.1 pc = .ok (.aload 17, 2)) (k : G E l M d mc ms Q (pc + 2) (a0 :: a1 :: a2 :: a3 :: a4 :: a5 :: a6 :: a7 :: a8 :: a9 :: a10 :: a11 :: a12 :: a13 :: a14 :: a15 :: a16 :: some (.null) :: lv) (.null :: st) h uc us) : G E l M d mc ms Q pc (a0 :: a1 :: a2 :: a3 :: a4 :: a5 :: a6 :: a7 :: a8 :: a9 :: a10 :: a11 :: a12 :: a13 :: a14 :: a15 :: a16 :: some (.null) :: lv) st h uc us := by
  intro p e R s m args below meth c ls H locs X hl hR hlo
  exact lv_aloadN X.1 X.2.1 hd (gLz_get (i := 17) hl rfl) (k p e R s m args below meth c ls H locs X hl hR hlo)
theorem G_istore_17 {a0 a1 a2 a3 a4 a5 a6 a7 a8 a9 a10 a11 a12 a13 a14 a15 a16 : Option Value} {z : Option Value} {x : Int} (hd : decode M.2.1 pc = .ok (.istore 17, 2)) (hn : 17 < M.2.2.1) (hc : gC1 a16 = true) (k : G E l M d mc ms Q (pc + 2) (a0 :: a1 :: a2 :: a3 :: a4 :: a5 :: a6 :: a7 :: a8 :: a9 :: a10 :: a11 :: a12 :: a13 :: a14 :: a15 :: a16 :: some (vI x) :: lv) st h uc us) : G E l M d mc ms Q pc (a0 :: a1 :: a2 :: a3 :: a4 :: a5 :: a6 :: a7 :: a8 :: a9 :: a10 :: a11 :: a12 :: a13 :: a14 :: a15 :: a16 :: z :: lv) (vI x :: st) h uc us := by
  intro p e R s m args below meth c ls H locs X hl hR hlo
  exact lv_istore X.1 X.2.1 hd hl hn rfl (fun ls hl => k p e R s m args below meth c ls H locs X (gLz_set1 (L := (a0 :: a1 :: a2 :: a3 :: a4 :: a5 :: a6 :: a7 :: a8 :: a9 :: a10 :: a11 :: a12 :: a13 :: a14 :: a15 :: a16 :: z :: lv)) (i := 17) hc hl) hR hlo)
theorem G_astore_17 {a0 a1 a2 a3 a4 a5 a6 a7 a8 a9 a10 a11 a12 a13 a14 a15 a16 : Option Value} {z : Option Value} {x : Nat} (hd : decode M.2.1 pc = .ok (.astore 17, 2)) (hn : 17 < M.2.2.1) (hc : gC1 a16 = true) (k : G E l M d mc ms Q (pc + 2) (a0 :: a1 :: a2 :: a3 :: a4 :: a5 :: a6 :: a7 :: a8 :: a9 :: a10 :: a11 :: a12 :: a13 :: a14 :: a15 :: a16 :: some (.ref x) :: lv) st h uc us) : G E l M d mc ms Q pc (a0 :: a1 :: a2 :: a3 :: a4 :: a5 :: a6 :: a7 :: a8 :: a9 :: a10 :: a11 :: a12 :: a13 :: a14 :: a15 :: a16 :: z :: lv) (.ref x :: st) h uc us := by
  intro p e R s m args below meth c ls H locs X hl hR hlo
  exact lv_astore X.1 X.2.1 hd hl hn rfl (fun ls hl => k p e R s m args below meth c ls H locs X (gLz_set1 (L := (a0 :: a1 :: a2 :: a3 :: a4 :: a5 :: a6 :: a7 :: a8 :: a9 :: a10 :: a11 :: a12 :: a13 :: a14 :: a15 :: a16 :: z :: lv)) (i := 17) hc hl) hR hlo)
theorem G_astoreN_17 {a0 a1 a2 a3 a4 a5 a6 a7 a8 a9 a10 a11 a12 a13 a14 a15 a16 : Option Value} {z : Option Value} (hd : decode M.2.1 pc = .ok (.astore 17, 2)) (hn : 17 < M.2.2.1) (hc : gC1 a16 = true) (k : G E l M d mc ms Q (pc + 2) (a0 :: a1 :: a2 :: a3 :: a4 :: a5 :: a6 :: a7 :: a8 :: a9 :: a10 :: a11 :: a12 :: a13 :: a14 :: a15 :: a16 :: some (.null) :: lv) st h uc us) : G E l M d mc ms Q pc (a0 :: a1 :: a2 :: a3 :: a4 :: a5 :: a6 :: a7 :: a8 :: a9 :: a10 :: a11 :: a12 :: a13 :: a14 :: a15 :: a16 :: z :: lv) (.null :: st) h uc us := by
  intro p e R s m args below meth c ls H locs X hl hR hlo
  exact lv_astoreN X.1 X.2.1 hd hl hn rfl (fun ls hl => k p e R s m args below meth c ls H locs X (gLz_set1 (L := (a0 :: a1 :: a2 :: a3 :: a4 :: a5 :: a6 :: a7 :: a8 :: a9 :: a10 :: a11 :: a12 :: a13 :: a14 :: a15 :: a16 :: z :: lv)) (i := 17) hc hl) hR hlo)
theorem G_lstore_17 {a0 a1 a2 a3 a4 a5 a6 a7 a8 a9 a10 a11 a12 a13 a14 a15 a16 : Option Value} {z z2 : Option Value} {x : Int} (hd : decode M.2.1 pc = .ok (.lstore 17, 2)) (hn : 17 + 1 < M.2.2.1) (hc : gC1 a16 = true) (k : G E l M d mc ms Q (pc + 2) (a0 :: a1 :: a2 :: a3 :: a4 :: a5 :: a6 :: a7 :: a8 :: a9 :: a10 :: a11 :: a12 :: a13 :: a14 :: a15 :: a16 :: some (vJ x) :: none :: lv) st h uc us) : G E l M d mc ms Q pc (a0 :: a1 :: a2 :: a3 :: a4 :: a5 :: a6 :: a7 :: a8 :: a9 :: a10 :: a11 :: a12 :: a13 :: a14 :: a15 :: a16 :: z :: z2 :: lv) (vJ x :: st) h uc us := by
  intro p e R s m args below meth c ls H locs X hl hR hlo
  exact lv_lstore X.1 X.2.1 hd hl hn rfl (fun ls hl => k p e R s m args below meth c ls H locs X (gLz_set2 (L := (a0 :: a1 :: a2 :: a3 :: a4 :: a5 :: a6 :: a7 :: a8 :: a9 :: a10 :: a11 :: a12 :: a13 :: a14 :: a15 :: a16 :: z :: z2 :: lv)) (i := 17) hc hl) hR hlo)
theorem G_iinc_17 {a0 a1 a2 a3 a4 a5 a6 a7 a8 a9 a10 a11 a12 a13 a14 a15 a16 : Option Value} {x z : Int} (hd : decode M.2.1 pc = .ok (.iinc 17 z, 3)) (hn : 17 < M.2.2.1) (hc : gC1 a16 = true) (k : G E l M d mc ms Q (pc + 3) (a0 :: a1 :: a2 :: a3 :: a4 :: a5 :: a6 :: a7 :: a8 :: a9 :: a10 :: a11 :: a12 :: a13 :: a14 :: a15 :: a16 :: some (vI (x + z)) :: lv) st h uc us) : G E l M d mc ms Q pc (a0 :: a1 :: a2 :: a3 :: a4 :: a5 :: a6 :: a7 :: a8 :: a9 :: a10 :: a11 :: a12 :: a13 :: a14 :: a15 :: a16 :: some (vI x) :: lv) st h uc us := by
  intro p e R s m args below meth c ls H locs X hl hR hlo
  obtain ⟨j, hj⟩ := List.getElem?_of_mem (gLz_mem.mpr ⟨17, by simp, rfl⟩ : (17, vI x) ∈ gLz 0 (a0 :: a1 :: a2 :: a3 :: a4 :: a5 :: a6 :: a7 :: a8 :: a9 :: a10 :: a11 :: a12 :: a13 :: a14 :: a15 :: a16 :: some (vI x) :: lv))
  exact lv_iinc X.1 X.2.1 hd hl hj (Int32.ofInt_add x z).symm hn rfl (fun ls hl => k p e R s m args below meth c ls H locs X (gLz_set1 (L := (a0 :: a1 :: a2 :: a3 :: a4 :: a5 :: a6 :: a7 :: a8 :: a9 :: a10 :: a11 :: a12 :: a13 :: a14 :: a15 :: a16 :: some (vI x) :: lv)) (i := 17) hc hl) hR hlo)
theorem G_iload_18 {a0 a1 a2 a3 a4 a5 a6 a7 a8 a9 a10 a11 a12 a13 a14 a15 a16 a17 : Option Value} {x : Int} (hd : decode M.2.1 pc = .ok (.iload 18, 2)) (k : G E l M d mc ms Q (pc + 2) (a0 :: a1 :: a2 :: a3 :: a4 :: a5 :: a6 :: a7 :: a8 :: a9 :: a10 :: a11 :: a12 :: a13 :: a14 :: a15 :: a16 :: a17 :: some (vI x) :: lv) (vI x :: st) h uc us) : G E l M d mc ms Q pc (a0 :: a1 :: a2 :: a3 :: a4 :: a5 :: a6 :: a7 :: a8 :: a9 :: a10 :: a11 :: a12 :: a13 :: a14 :: a15 :: a16 :: a17 :: some (vI x) :: lv) st h uc us := by
  intro p e R s m args below meth c ls H locs X hl hR hlo
  exact lv_iload X.1 X.2.1 hd (gLz_get (i := 18) hl rfl) (k p e R s m args below meth c ls H locs X hl hR hlo)
theorem G_lload_18 {a0 a1 a2 a3 a4 a5 a6 a7 a8 a9 a10 a11 a12 a13 a14 a15 a16 a17 : Option Value} {x : Int} (hd : decode M.2.1 pc = .ok (.lload 18, 2)) (k : G E l M d mc ms Q (pc + 2) (a0 :: a1 :: a2 :: a3 :: a4 :: a5 :: a6 :: a7 :: a8 :: a9 :: a10 :: a11 :: a12 :: a13 :: a14 :: a15 :: a16 :: a17 :: some (vJ x) :: lv) (vJ x :: st) h uc us) : G E l M d mc ms Q pc (a0 :: a1 :: a2 :: a3 :: a4 :: a5 :: a6 :: a7 :: a8 :: a9 :: a10 :: a11 :: a12 :: a13 :: a14 :: a15 :: a16 :: a17 :: some (vJ x) :: lv) st h uc us := by
  intro p e R s m args below meth c ls H locs X hl hR hlo
  exact lv_lload X.1 X.2.1 hd (gLz_get (i := 18) hl rfl) (k p e R s m args below meth c ls H locs X hl hR hlo)
theorem G_aload_18 {a0 a1 a2 a3 a4 a5 a6 a7 a8 a9 a10 a11 a12 a13 a14 a15 a16 a17 : Option Value} {x : Nat} (hd : decode M.2.1 pc = .ok (.aload 18, 2)) (k : G E l M d mc ms Q (pc + 2) (a0 :: a1 :: a2 :: a3 :: a4 :: a5 :: a6 :: a7 :: a8 :: a9 :: a10 :: a11 :: a12 :: a13 :: a14 :: a15 :: a16 :: a17 :: some (.ref x) :: lv) (.ref x :: st) h uc us) : G E l M d mc ms Q pc (a0 :: a1 :: a2 :: a3 :: a4 :: a5 :: a6 :: a7 :: a8 :: a9 :: a10 :: a11 :: a12 :: a13 :: a14 :: a15 :: a16 :: a17 :: some (.ref x) :: lv) st h uc us := by
  intro p e R s m args below meth c ls H locs X hl hR hlo
  exact lv_aload X.1 X.2.1 hd (gLz_get (i := 18) hl rfl) (k p e R s m args below meth c ls H locs X hl hR hlo)
theorem G_aloadN_18 {a0 a1 a2 a3 a4 a5 a6 a7 a8 a9 a10 a11 a12 a13 a14 a15 a16 a17 : Option Value} (hd : decode M.2.1 pc = .ok (.aload 18, 2)) (k : G E l M d mc ms Q (pc + 2) (a0 :: a1 :: a2 :: a3 :: a4 :: a5 :: a6 :: a7 :: a8 :: a9 :: a10 :: a11 :: a12 :: a13 :: a14 :: a15 :: a16 :: a17 :: some (.null) :: lv) (.null :: st) h uc us) : G E l M d mc ms Q pc (a0 :: a1 :: a2 :: a3 :: a4 :: a5 :: a6 :: a7 :: a8 :: a9 :: a10 :: a11 :: a12 :: a13 :: a14 :: a15 :: a16 :: a17 :: some (.null) :: lv) st h uc us := by
  intro p e R s m args below meth c ls H locs X hl hR hlo
  exact lv_aloadN X.1 X.2.1 hd (gLz_get (i := 18) hl rfl) (k p e R s m args below meth c ls H locs X hl hR hlo)
theorem G_istore_18 {a0 a1 a2 a3 a4 a5 a6 a7 a8 a9 a10 a11 a12 a13 a14 a15 a16 a17 : Option Value} {z : Option Value} {x : Int} (hd : decode M.2.1 pc = .ok (.istore 18, 2)) (hn : 18 < M.2.2.1) (hc : gC1 a17 = true) (k : G E l M d mc ms Q (pc + 2) (a0 :: a1 :: a2 :: a3 :: a4 :: a5 :: a6 :: a7 :: a8 :: a9 :: a10 :: a11 :: a12 :: a13 :: a14 :: a15 :: a16 :: a17 :: some (vI x) :: lv) st h uc us) : G E l M d mc ms Q pc (a0 :: a1 :: a2 :: a3 :: a4 :: a5 :: a6 :: a7 :: a8 :: a9 :: a10 :: a11 :: a12 :: a13 :: a14 :: a15 :: a16 :: a17 :: z :: lv) (vI x :: st) h uc us := by
  intro p e R s m args below meth c ls H locs X hl hR hlo
  exact lv_istore X.1 X.2.1 hd hl hn rfl (fun ls hl => k p e R s m args below meth c ls H locs X (gLz_set1 (L := (a0 :: a1 :: a2 :: a3 :: a4 :: a5 :: a6 :: a7 :: a8 :: a9 :: a10 :: a11 :: a12 :: a13 :: a14 :: a15 :: a16 :: a17 :: z :: lv)) (i := 18) hc hl) hR hlo)
theorem G_astore_18 {a0 a1 a2 a3 a4 a5 a6 a7 a8 a9 a10 a11 a12 a13 a14 a15 a16 a17 : Option Value} {z : Option Value} {x : Nat} (hd : decode M.2.1 pc = .ok (.astore 18, 2)) (hn : 18 < M.2.2.1) (hc : gC1 a17 = true) (k : G E l M d mc ms Q (pc + 2) (a0 :: a1 :: a2 :: a3 :: a4 :: a5 :: a6 :: a7 :: a8 :: a9 :: a10 :: a11 :: a12 :: a13 :: a14 :: a15 :: a16 :: a17 :: some (.ref x) :: lv) st h uc us) : G E l M d mc ms Q pc (a0 :: a1 :: a2 :: a3 :: a4 :: a5 :: a6 :: a7 :: a8 :: a9 :: a10 :: a11 :: a12 :: a13 :: a14 :: a15 :: a16 :: a17 :: z :: lv) (.ref x :: st) h uc us := by
  intro p e R s m args below meth c ls H locs X hl hR hlo
  exact lv_astore X.1 X.2.1 hd hl hn rfl (fun ls hl => k p e R s m args below meth c ls H locs X (gLz_set1 (L := (a0 :: a1 :: a2 :: a3 :: a4 :: a5 :: a6 :: a7 :: a8 :: a9 :: a10 :: a11 :: a12 :: a13 :: a14 :: a15 :: a16 :: a17 :: z :: lv)) (i := 18) hc hl) hR hlo)
theorem G_astoreN_18 {a0 a1 a2 a3 a4 a5 a6 a7 a8 a9 a10 a11 a12 a13 a14 a15 a16 a17 : Option Value} {z : Option Value} (hd : decode M.2.1 pc = .ok (.astore 18, 2)) (hn : 18 < M.2.2.1) (hc : gC1 a17 = true) (k : G E l M d mc ms Q (pc + 2) (a0 :: a1 :: a2 :: a3 :: a4 :: a5 :: a6 :: a7 :: a8 :: a9 :: a10 :: a11 :: a12 :: a13 :: a14 :: a15 :: a16 :: a17 :: some (.null) :: lv) st h uc us) : G E l M d mc ms Q pc (a0 :: a1 :: a2 :: a3 :: a4 :: a5 :: a6 :: a7 :: a8 :: a9 :: a10 :: a11 :: a12 :: a13 :: a14 :: a15 :: a16 :: a17 :: z :: lv) (.null :: st) h uc us := by
  intro p e R s m args below meth c ls H locs X hl hR hlo
  exact lv_astoreN X.1 X.2.1 hd hl hn rfl (fun ls hl => k p e R s m args below meth c ls H locs X (gLz_set1 (L := (a0 :: a1 :: a2 :: a3 :: a4 :: a5 :: a6 :: a7 :: a8 :: a9 :: a10 :: a11 :: a12 :: a13 :: a14 :: a15 :: a16 :: a17 :: z :: lv)) (i := 18) hc hl) hR hlo)
theorem G_lstore_18 {a0 a1 a2 a3 a4 a5 a6 a7 a8 a9 a10 a11 a12 a13 a14 a15 a16 a17 : Option Value} {z z2 : Option Value} {x : Int} (hd : decode M.2.1 pc = .ok (.lstore 18, 2)) (hn : 18 + 1 < M.2.2.1) (hc : gC1 a17 = true) (k : G E l M d mc ms Q (pc + 2) (a0 :: a1 :: a2 :: a3 :: a4 :: a5 :: a6 :: a7 :: a8 :: a9 :: a10 :: a11 :: a12 :: a13 :: a14 :: a15 :: a16 :: a17 :: some (vJ x) :: none :: lv) st h uc us) : G E l M d mc ms Q pc (a0 :: a1 :: a2 :: a3 :: a4 :: a5 :: a6 :: a7 :: a8 :: a9 :: a10 :: a11 :: a12 :: a13 :: a14 :: a15 :: a16 :: a17 :: z :: z2 :: lv) (vJ x :: st) h uc us := by
  intro p e R s m args below meth c ls H locs X hl hR hlo
  exact lv_lstore X.1 X.2.1 hd hl hn rfl (fun ls hl => k p e R s m args below meth c ls H locs X (gLz_set2 (L := (a0 :: a1 :: a2 :: a3 :: a4 :: a5 :: a6 :: a7 :: a8 :: a9 :: a10 :: a11 :: a12 :: a13 :: a14 :: a15 :: a16 :: a17 :: z :: z2 :: lv)) (i := 18) hc hl) hR hlo)
theorem G_iinc_18 {a0 a1 a2 a3 a4 a5 a6 a7 a8 a9 a10 a11 a12 a13 a14 a15 a16 a17 : Option Value} {x z : Int} (hd : decode M.2.1 pc = .ok (.iinc 18 z, 3)) (hn : 18 < M.2.2.1) (hc : gC1 a17 = true) (k : G E l M d mc ms Q (pc + 3) (a0 :: a1 :: a2 :: a3 :: a4 :: a5 :: a6 :: a7 :: a8 :: a9 :: a10 :: a11 :: a12 :: a13 :: a14 :: a15 :: a16 :: a17 :: some (vI (x + z)) :: lv) st h uc us) : G E l M d mc ms Q pc (a0 :: a1 :: a2 :: a3 :: a4 :: a5 :: a6 :: a7 :: a8 :: a9 :: a10 :: a11 :: a12 :: a13 :: a14 :: a15 :: a16 :: a17 :: some (vI x) :: lv) st h uc us := by
  intro p e R s m args below meth c ls H locs X hl hR hlo
  obtain ⟨j, hj⟩ := List.getElem?_of_mem (gLz_mem.mpr ⟨18, by simp, rfl⟩ : (18, vI x) ∈ gLz 0 (a0 :: a1 :: a2 :: a3 :: a4 :: a5 :: a6 :: a7 :: a8 :: a9 :: a10 :: a11 :: a12 :: a13 :: a14 :: a15 :: a16 :: a17 :: some (vI x) :: lv))
  exact lv_iinc X.1 X.2.1 hd hl hj (Int32.ofInt_add x z).symm hn rfl (fun ls hl => k p e R s m args below meth c ls H locs X (gLz_set1 (L := (a0 :: a1 :: a2 :: a3 :: a4 :: a5 :: a6 :: a7 :: a8 :: a9 :: a10 :: a11 :: a12 :: a13 :: a14 :: a15 :: a16 :: a17 :: some (vI x) :: lv)) (i := 18) hc hl) hR hlo)
theorem G_iload_19 {a0 a1 a2 a3 a4 a5 a6 a7 a8 a9 a10 a11 a12 a13 a14 a15 a16 a17 a18 : Option Value} {x : Int} (hd : decode M.2.1 pc = .ok (.iload 19, 2)) (k : G E l M d mc ms Q (pc + 2) (a0 :: a1 :: a2 :: a3 :: a4 :: a5 :: a6 :: a7 :: a8 :: a9 :: a10 :: a11 :: a12 :: a13 :: a14 :: a15 :: a16 :: a17 :: a18 :: some (vI x) :: lv) (vI x :: st) h uc us) : G E l M d mc ms Q pc (a0 :: a1 :: a2 :: a3 :: a4 :: a5 :: a6 :: a7 :: a8 :: a9 :: a10 :: a11 :: a12 :: a13 :: a14 :: a15 :: a16 :: a17 :: a18 :: some (vI x) :: lv) st h uc us := by
  intro p e R s m args below meth c ls H locs X hl hR hlo
  exact lv_iload X.1 X.2.1 hd (gLz_get (i := 19) hl rfl) (k p e R s m args below meth c ls H locs X hl hR hlo)
theorem G_lload_19 {a0 a1 a2 a3 a4 a5 a6 a7 a8 a9 a10 a11 a12 a13 a14 a15 a16 a17 a18 : Option Value} {x : Int} (hd : decode M.2.1 pc = .ok (.lload 19, 2)) (k : G E l M d mc ms Q (pc + 2) (a0 :: a1 :: a2 :: a3 :: a4 :: a5 :: a6 :: a7 :: a8 :: a9 :: a10 :: a11 :: a12 :: a13 :: a14 :: a15 :: a16 :: a17 :: a18 :: some (vJ x) :: lv) (vJ x :: st) h uc us) : G E l M d mc ms Q pc (a0 :: a1 :: a2 :: a3 :: a4 :: a5 :: a6 :: a7 :: a8 :: a9 :: a10 :: a11 :: a12 :: a13 :: a14 :: a15 :: a16 :: a17 :: a18 :: some (vJ x) :: lv) st h uc us := by
  intro p e R s m args below meth c ls H locs X hl hR hlo
  exact lv_lload X.1 X.2.1 hd (gLz_get (i := 19) hl rfl) (k p e R s m args below meth c ls H locs X hl hR hlo)
theorem G_aload_19 {a0 a1 a2 a3 a4 a5 a6 a7 a8 a9 a10 a11 a12 a13 a14 a15 a16 a17 a18 : Option Value} {x : Nat} (hd : decode M.2.1 pc = .ok (.aload 19, 2)) (k : G E l M d mc ms Q (pc + 2) (a0 :: a1 :: a2 :: a3 :: a4 :: a5 :: a6 :: a7 :: a8 :: a9 :: a10 :: a11 :: a12 :: a13 :: a14 :: a15 :: a16 :: a17 :: a18 :: some (.ref x) :: lv) (.ref x :: st) h uc us) : G E l M d mc ms Q pc (a0 :: a1 :: a2 :: a3 :: a4 :: a5 :: a6 :: a7 :: a8 :: a9 :: a10 :: a11 :: a12 :: a13 :: a14 :: a15 :: a16 :: a17 :: a18 :: some (.ref x) :: lv) st h uc us := by
  intro p e R s m args below meth c ls H locs X hl hR hlo
  exact lv_aload X.1 X.2.1 hd (gLz_get (i := 19) hl rfl) (k p e R s m args below meth c ls H locs X hl hR hlo)
theorem G_aloadN_19 {a0 a1 a2 a3 a4 a5 a6 a7 a8 a9 a10 a11 a12 a13 a14 a15 a16 a17 a18 : Option Value} (hd : decode M.2.1 pc = .ok (.aload 19, 2)) (k : G E l M d mc ms Q (pc + 2) (a0 :: a1 :: a2 :: a3 :: a4 :: a5 :: a6 :: a7 :: a8 :: a9 :: a10 :: a11 :: a12 :: a13 :: a14 :: a15 :: a16 :: a17 :: a18 :: some (.null) :: lv) (.null :: st) h uc us) : G E l M d mc ms Q pc (a0 :: a1 :: a2 :: a3 :: a4 :: a5 :: a6 :: a7 :: a8 :: a9 :: a10 :: a11 :: a12 :: a13 :: a14 :: a15 :: a16 :: a17 :: a18 :: some (.null) :: lv) st h uc us := by
  intro p e R s m args below meth c ls H locs X hl hR hlo
  exact lv_aloadN X.1 X.2.1 hd (gLz_get (i := 19) hl rfl) (k p e R s m args below meth c ls H locs X hl hR hlo)
theorem G_istore_19 {a0 a1 a2 a3 a4 a5 a6 a7 a8 a9 a10 a11 a12 a13 a14 a15 a16 a17 a18 : Option Value} {z : Option Value} {x : Int} (hd : decode M.2.1 pc = .ok (.istore 19, 2)) (hn : 19 < M.2.2.1) (hc : gC1 a18 = true) (k : G E l M d mc ms Q (pc + 2) (a0 :: a1 :: a2 :: a3 :: a4 :: a5 :: a6 :: a7 :: a8 :: a9 :: a10 :: a11 :: a12 :: a13 :: a14 :: a15 :: a16 :: a17 :: a18 :: some (vI x) :: lv) st h uc us) : G E l M d mc ms Q pc (a0 :: a1 :: a2 :: a3 :: a4 :: a5 :: a6 :: a7 :: a8 :: a9 :: a10 :: a11 :: a12 :: a13 :: a14 :: a15 :: a16 :: a17 :: a18 :: z :: lv) (vI x :: st) h uc us := by
  intro p e R s m args below meth c ls H locs X hl hR hlo
  exact lv_istore X.1 X.2.1 hd hl hn rfl (fun ls hl => k p e R s m args below meth c ls H locs X (gLz_set1 (L := (a0 :: a1 :: a2 :: a3 :: a4 :: a5 :: a6 :: a7 :: a8 :: a9 :: a10 :: a11 :: a12 :: a13 :: a14 :: a15 :: a16 :: a17 :: a18 :: z :: lv)) (i := 19) hc hl) hR hlo)
theorem G_astore_19 {a0 a1 a2 a3 a4 a5 a6 a7 a8 a9 a10 a11 a12 a13 a14 a15 a16 a17 a18 : Option Value} {z : Option Value} {x : Nat} (hd : decode M.2.1 pc = .ok (.astore 19, 2)) (hn : 19 < M.2.2.1) (hc : gC1 a18 = true) (k : G E l M d mc ms Q (pc + 2) (a0 :: a1 :: a2 :: a3 :: a4 :: a5 :: a6 :: a7 :: a8 :: a9 :: a10 :: a11 :: a12 :: a13 :: a14 :: a15 :: a16 :: a17 :: a18 :: some (.ref x) :: lv) st h uc us) : G E l M d mc ms Q pc (a0 :: a1 :: a2 :: a3 :: a4 :: a5 :: a6 :: a7 :: a8 :: a9 :: a10 :: a11 :: a12 :: a13 :: a14 :: a15 :: a16 :: a17 :: a18 :: z :: lv) (.ref x :: st) h uc us := by
  intro p e R s m args below meth c ls H locs X hl hR hlo
  exact lv_astore X.1 X.2.1 hd hl hn rfl (fun ls hl => k p e R s m args below meth c ls H locs X (gLz_set1 (L := (a0 :: a1 :: a2 :: a3 :: a4 :: a5 :: a6 :: a7 :: a8 :: a9 :: a10 :: a11 :: a12 :: a13 :: a14 :: a15 :: a16 :: a17 :: a18 :: z :: lv)) (i := 19) hc hl) hR hlo)
theorem G_astoreN_19 {a0 a1 a2 a3 a4 a5 a6 a7 a8 a9 a10 a11 a12 a13 a14 a15 a16 a17 a18 : Option Value} {z : Option Value} (hd : decode M.2.1 pc = .ok (.astore 19, 2)) (hn : 19 < M.2.2.1) (hc : gC1 a18 = true) (k : G E l M d mc ms Q (pc + 2) (a0 :: a1 :: a2 :: a3 :: a4 :: a5 :: a6 :: a7 :: a8 :: a9 :: a10 :: a11 :: a12 :: a13 :: a14 :: a15 :: a16 :: a17 :: a18 :: some (.null) :: lv) st h uc us) : G E l M d mc ms Q pc (a0 :: a1 :: a2 :: a3 :: a4 :: a5 :: a6 :: a7 :: a8 :: a9 :: a10 :: a11 :: a12 :: a13 :: a14 :: a15 :: a16 :: a17 :: a18 :: z :: lv) (.null :: st) h uc us := by
  intro p e R s m args below meth c ls H locs X hl hR hlo
  exact lv_astoreN X.1 X.2.1 hd hl hn rfl (fun ls hl => k p e R s m args below meth c ls H locs X (gLz_set1 (L := (a0 :: a1 :: a2 :: a3 :: a4 :: a5 :: a6 :: a7 :: a8 :: a9 :: a10 :: a11 :: a12 :: a13 :: a14 :: a15 :: a16 :: a17 :: a18 :: z :: lv)) (i := 19) hc hl) hR hlo)
theorem G_lstore_19 {a0 a1 a2 a3 a4 a5 a6 a7 a8 a9 a10 a11 a12 a13 a14 a15 a16 a17 a18 : Option Value} {z z2 : Option Value} {x : Int} (hd : decode M.2.1 pc = .ok (.lstore 19, 2)) (hn : 19 + 1 < M.2.2.1) (hc : gC1 a18 = true) (k : G E l M d mc ms Q (pc + 2) (a0 :: a1 :: a2 :: a3 :: a4 :: a5 :: a6 :: a7 :: a8 :: a9 :: a10 :: a11 :: a12 :: a13 :: a14 :: a15 :: a16 :: a17 :: a18 :: some (vJ x) :: none :: lv) st h uc us) : G E l M d mc ms Q pc (a0 :: a1 :: a2 :: a3 :: a4 :: a5 :: a6 :: a7 :: a8 :: a9 :: a10 :: a11 :: a12 :: a13 :: a14 :: a15 :: a16 :: a17 :: a18 :: z :: z2 :: lv) (vJ x :: st) h uc us := by
  intro p e R s m args below meth c ls H locs X hl hR hlo
  exact lv_lstore X.1 X.2.1 hd hl hn rfl (fun ls hl => k p e R s m args below meth c ls H locs X (gLz_set2 (L := (a0 :: a1 :: a2 :: a3 :: a4 :: a5 :: a6 :: a7 :: a8 :: a9 :: a10 :: a11 :: a12 :: a13 :: a14 :: a15 :: a16 :: a17 :: a18 :: z :: z2 :: lv)) (i := 19) hc hl) hR hlo)
theorem G_iinc_19 {a0 a1 a2 a3 a4 a5 a6 a7 a8 a9 a10 a11 a12 a13 a14 a15 a16 a17 a18 : Option Value} {x z : Int} (hd : decode M.2.1 pc = .ok (.iinc 19 z, 3)) (hn : 19 < M.2.2.1) (hc : gC1 a18 = true) (k : G E l M d mc ms Q (pc + 3) (a0 :: a1 :: a2 :: a3 :: a4 :: a5 :: a6 :: a7 :: a8 :: a9 :: a10 :: a11 :: a12 :: a13 :: a14 :: a15 :: a16 :: a17 :: a18 :: some (vI (x + z)) :: lv) st h uc us) : G E l M d mc ms Q pc (a0 :: a1 :: a2 :: a3 :: a4 :: a5 :: a6 :: a7 :: a8 :: a9 :: a10 :: a11 :: a12 :: a13 :: a14 :: a15 :: a16 :: a17 :: a18 :: some (vI x) :: lv) st h uc us := by
  intro p e R s m args below meth c ls H locs X hl hR hlo
  obtain ⟨j, hj⟩ := List.getElem?_of_mem (gLz_mem.mpr ⟨19, by simp, rfl⟩ : (19, vI x) ∈ gLz 0 (a0 :: a1 :: a2 :: a3 :: a4 :: a5 :: a6 :: a7 :: a8 :: a9 :: a10 :: a11 :: a12 :: a13 :: a14 :: a15 :: a16 :: a17 :: a18 :: some (vI x) :: lv))
  exact lv_iinc X.1 X.2.1 hd hl hj (Int32.ofInt_add x z).symm hn rfl (fun ls hl => k p e R s m args below meth c ls H locs X (gLz_set1 (L := (a0 :: a1 :: a2 :: a3 :: a4 :: a5 :: a6 :: a7 :: a8 :: a9 :: a10 :: a11 :: a12 :: a13 :: a14 :: a15 :: a16 :: a17 :: a18 :: some (vI x) :: lv)) (i := 19) hc hl) hR hlo)
theorem G_drop_0 {z : Option Value} (k : G E l M d mc ms Q pc (none :: lv) st h uc us) : G E l M d mc ms Q pc (z :: lv) st h uc us := by
  intro p e R s m args below meth c ls H locs X hl hR hlo
  refine k p e R s m args below meth c ls H locs X ⟨hl.1, hl.2.1, fun q hq => hl.2.2 q ?_⟩ hR hlo
  obtain ⟨n, h1, h2⟩ := gLz_mem.mp hq
  refine gLz_mem.mpr ⟨n, h1, ?_⟩
  rw [← h2]
  by_cases e : n = 0
  · subst e; cases h2
  · obtain ⟨n, rfl⟩ : ∃ z, n = z + 1 := ⟨n - 1, by omega⟩
    rfl
theorem G_drop_1 {a0 : Option Value} {z : Option Value} (k : G E l M d mc ms Q pc (a0 :: none :: lv) st h uc us) : G E l M d mc ms Q pc (a0 :: z :: lv) st h uc us := by
  intro p e R s m args below meth c ls H locs X hl hR hlo
  refine k p e R s m args below meth c ls H locs X ⟨hl.1, hl.2.1, fun q hq => hl.2.2 q ?_⟩ hR hlo
  obtain ⟨n, h1, h2⟩ := gLz_mem.mp hq
  refine gLz_mem.mpr ⟨n, h1, ?_⟩
  rw [← h2]
  by_cases e : n = 1
  · subst e; cases h2
  · rcases Nat.lt_or_gt_of_ne e with e | e
    · match n, e with
      | 0, _ => rfl
    · obtain ⟨n, rfl⟩ : ∃ z, n = z + 2 := ⟨n - 2, by omega⟩
      rfl
theorem G_drop_2 {a0 a1 : Option Value} {z : Option Value} (k : G E l M d mc ms Q pc (a0 :: a1 :: none :: lv) st h uc us) : G E l M d mc ms Q pc (a0 :: a1 :: z :: lv) st h uc us := by
  intro p e R s m args below meth c ls H locs X hl hR hlo
  refine k p e R s m args below meth c ls H locs X ⟨hl.1, hl.2.1, fun q hq => hl.2.2 q ?_⟩ hR hlo
  obtain ⟨n, h1, h2⟩ := gLz_mem.mp hq
  refine gLz_mem.mpr ⟨n, h1, ?_⟩
  rw [← h2]
  by_cases e : n = 2
  · subst e; cases h2
  · rcases Nat.lt_or_gt_of_ne e with e | e
    · match n, e with
      | 0, _ => rfl
      | 1, _ => rfl
    · obtain ⟨n, rfl⟩ : ∃ z, n = z + 3 := ⟨n - 3, by omega⟩
      rfl
theorem G_drop_3 {a0 a1 a2 : Option Value} {z : Option Value} (k : G E l M d mc ms Q pc (a0 :: a1 :: a2 :: none :: lv) st h uc us) : G E l M d mc ms Q pc (a0 :: a1 :: a2 :: z :: lv) st h uc us := by
  intro p e R s m args below meth c ls H locs X hl hR hlo
  refine k p e R s m args below meth c ls H locs X ⟨hl.1, hl.2.1, fun q hq => hl.2.2 q ?_⟩ hR hlo
  obtain ⟨n, h1, h2⟩ := gLz_mem.mp hq
  refine gLz_mem.mpr ⟨n, h1, ?_⟩
  rw [← h2]
  by_cases e : n = 3
  · subst e; cases h2
  · rcases Nat.lt_or_gt_of_ne e with e | e
    · match n, e with
      | 0, _ => rfl
      | 1, _ => rfl
      | 2, _ => rfl
    · obtain ⟨n, rfl⟩ : ∃ z, n = z + 4 := ⟨n - 4, by omega⟩
      rfl
theorem G_drop_4 {a0 a1 a2 a3 : Option Value} {z : Option Value} (k : G E l M d mc ms Q pc (a0 :: a1 :: a2 :: a3 :: none :: lv) st h uc us) : G E l M d mc ms Q pc (a0 :: a1 :: a2 :: a3 :: z :: lv) st h uc us := by
  intro p e R s m args below meth c ls H locs X hl hR hlo
  refine k p e R s m args below meth c ls H locs X ⟨hl.1, hl.2.1, fun q hq => hl.2.2 q ?_⟩ hR hlo
  obtain ⟨n, h1, h2⟩ := gLz_mem.mp hq
  refine gLz_mem.mpr ⟨n, h1, ?_⟩
  rw [← h2]
  by_cases e : n = 4
  · subst e; cases h2
  · rcases Nat.lt_or_gt_of_ne e with e | e
    · match n, e with
      | 0, _ => rfl
      | 1, _ => rfl
      | 2, _ => rfl
      | 3, _ => rfl
    · obtain ⟨n, rfl⟩ : ∃ z, n = z + 5 := ⟨n - 5, by omega⟩
      rfl
theorem G_drop_5 {a0 a1 a2 a3 a4 : Option Value} {z : Option Value} (k : G E l M d mc ms Q pc (a0 :: a1 :: a2 :: a3 :: a4 :: none :: lv) st h uc us) : G E l M d mc ms Q pc (a0 :: a1 :: a2 :: a3 :: a4 :: z :: lv) st h uc us := by
  intro p e R s m args below meth c ls H locs X hl hR hlo
  refine k p e R s m args below meth c ls H locs X ⟨hl.1, hl.2.1, fun q hq => hl.2.2 q ?_⟩ hR hlo
  obtain ⟨n, h1, h2⟩ := gLz_mem.mp hq
  refine gLz_mem.mpr ⟨n, h1, ?_⟩
  rw [← h2]
  by_cases e : n = 5
  · subst e; cases h2
  · rcases Nat.lt_or_gt_of_ne e with e | e
    · match n, e with
      | 0, _ => rfl
      | 1, _ => rfl
      | 2, _ => rfl
      | 3, _ => rfl
      | 4, _ => rfl
    · obtain ⟨n, rfl⟩ : ∃ z, n = z + 6 := ⟨n - 6, by omega⟩
      rfl
theorem G_drop_6 {a0 a1 a2 a3 a4 a5 : Option Value} {z : Option Value} (k : G E l M d mc ms Q pc (a0 :: a1 :: a2 :: a3 :: a4 :: a5 :: none :: lv) st h uc us) : G E l M d mc ms Q pc (a0 :: a1 :: a2 :: a3 :: a4 :: a5 :: z :: lv) st h uc us := by
  intro p e R s m args below meth c ls H locs X hl hR hlo
  refine k p e R s m args below meth c ls H locs X ⟨hl.1, hl.2.1, fun q hq => hl.2.2 q ?_⟩ hR hlo
  obtain ⟨n, h1, h2⟩ := gLz_mem.mp hq
  refine gLz_mem.mpr ⟨n, h1, ?_⟩
  rw [← h2]
  by_cases e : n = 6
  · subst e; cases h2
  · rcases Nat.lt_or_gt_of_ne e with e | e
    · match n, e with
      | 0, _ => rfl
      | 1, _ => rfl
      | 2, _ => rfl
      | 3, _ => rfl
      | 4, _ => rfl
      | 5, _ => rfl
    · obtain ⟨n, rfl⟩ : ∃ z, n = z + 7 := ⟨n - 7, by omega⟩
      rfl
theorem G_drop_7 {a0 a1 a2 a3 a4 a5 a6 : Option Value} {z : Option Value} (k : G E l M d mc ms Q pc (a0 :: a1 :: a2 :: a3 :: a4 :: a5 :: a6 :: none :: lv) st h uc us) : G E l M d mc ms Q pc (a0 :: a1 :: a2 :: a3 :: a4 :: a5 :: a6 :: z :: lv) st h uc us := by
  intro p e R s m args below meth c ls H locs X hl hR hlo
  refine k p e R s m args below meth c ls H locs X ⟨hl.1, hl.2.1, fun q hq => hl.2.2 q ?_⟩ hR hlo
  obtain ⟨n, h1, h2⟩ := gLz_mem.mp hq
  refine gLz_mem.mpr ⟨n, h1, ?_⟩
  rw [← h2]
  by_cases e : n = 7
  · subst e; cases h2
  · rcases Nat.lt_or_gt_of_ne e with e | e
    · match n, e with
      | 0, _ => rfl
      | 1, _ => rfl
      | 2, _ => rfl
      | 3, _ => rfl
      | 4, _ => rfl
      | 5, _ => rfl
      | 6, _ => rfl
    · obtain ⟨n, rfl⟩ : ∃ z, n = z + 8 := ⟨n - 8, by omega⟩
      rfl
theorem G_drop_8 {a0 a1 a2 a3 a4 a5 a6 a7 : Option Value} {z : Option Value} (k : G E l M d mc ms Q pc (a0 :: a1 :: a2 :: a3 :: a4 :: a5 :: a6 :: a7 :: none :: lv) st h uc us) : G E l M d mc ms Q pc (a0 :: a1 :: a2 :: a3 :: a4 :: a5 :: a6 :: a7 :: z :: lv) st h uc us := by
  intro p e R s m args below meth c ls H locs X hl hR hlo
  refine k p e R s m args below meth c ls H locs X ⟨hl.1, hl.2.1, fun q hq => hl.2.2 q ?_⟩ hR hlo
  obtain ⟨n, h1, h2⟩ := gLz_mem.mp hq
  refine gLz_mem.mpr ⟨n, h1, ?_⟩
  rw [← h2]
  by_cases e : n = 8
  · subst e; cases h2
  · rcases Nat.lt_or_gt_of_ne e with e | e
    · match n, e with
      | 0, _ => rfl
      | 1, _ => rfl
      | 2, _ => rfl
      | 3, _ => rfl
      | 4, _ => rfl
      | 5, _ => rfl
      | 6, _ => rfl
      | 7, _ => rfl
    · obtain ⟨n, rfl⟩ : ∃ z, n = z + 9 := ⟨n - 9, by omega⟩
      rfl
theorem G_drop_9 {a0 a1 a2 a3 a4 a5 a6 a7 a8 : Option Value} {z : Option Value} (k : G E l M d mc ms Q pc (a0 :: a1 :: a2 :: a3 :: a4 :: a5 :: a6 :: a7 :: a8 :: none :: lv) st h uc us) : G E l M d mc ms Q pc (a0 :: a1 :: a2 :: a3 :: a4 :: a5 :: a6 :: a7 :: a8 :: z :: lv) st h uc us := by
  intro p e R s m args below meth c ls H locs X hl hR hlo
  refine k p e R s m args below meth c ls H locs X ⟨hl.1, hl.2.1, fun q hq => hl.2.2 q ?_⟩ hR hlo
  obtain ⟨n, h1, h2⟩ := gLz_mem.mp hq
  refine gLz_mem.mpr ⟨n, h1, ?_⟩
  rw [← h2]
  by_cases e : n = 9
  · subst e; cases h2
  · rcases Nat.lt_or_gt_of_ne e with e | e
    · match n, e with
      | 0, _ => rfl
      | 1, _ => rfl
      | 2, _ => rfl
      | 3, _ => rfl
      | 4, _ => rfl
      | 5, _ => rfl
      | 6, _ => rfl
      | 7, _ => rfl
      | 8, _ => rfl
    · obtain ⟨n, rfl⟩ : ∃ z, n = z + 10 := ⟨n - 10, by omega⟩
      rfl
theorem G_drop_10 {a0 a1 a2 a3 a4 a5 a6 a7 a8 a9 : Option Value} {z : Option Value} (k : G E l M d mc ms Q pc (a0 :: a1 :: a2 :: a3 :: a4 :: a5 :: a6 :: a7 :: a8 :: a9 :: none :: lv) st h uc us) : G E l M d mc ms Q pc (a0 :: a1 :: a2 :: a3 :: a4 :: a5 :: a6 :: a7 :: a8 :: a9 :: z :: lv) st h uc us := by
  intro p e R s m args below meth c ls H locs X hl hR hlo
  refine k p e R s m args below meth c ls H locs X ⟨hl.1, hl.2.1, fun q hq => hl.2.2 q ?_⟩ hR hlo
  obtain ⟨n, h1, h2⟩ := gLz_mem.mp hq
  refine gLz_mem.mpr ⟨n, h1, ?_⟩
  rw [← h2]
  by_cases e : n = 10
  · subst e; cases h2
  · rcases Nat.lt_or_gt_of_ne e with e | e
    · match n, e with
      | 0, _ => rfl
      | 1, _ => rfl
      | 2, _ => rfl
      | 3, _ => rfl
      | 4, _ => rfl
      | 5, _ => rfl
      | 6, _ => rfl
      | 7, _ => rfl
      | 8, _ => rfl
      | 9, _ => rfl
    · obtain ⟨n, rfl⟩ : ∃ z, n = z + 11 := ⟨n - 11, by omega⟩
      rfl
theorem G_drop_11 {a0 a1 a2 a3 a4 a5 a6 a7 a8 a9 a10 : Option Value} {z : Option Value} (k : G E l M d mc ms Q pc (a0 :: a1 :: a2 :: a3 :: a4 :: a5 :: a6 :: a7 :: a8 :: a9 :: a10 :: none :: lv) st h uc us) : G E l M d mc ms Q pc (a0 :: a1 :: a2 :: a3 :: a4 :: a5 :: a6 :: a7 :: a8 :: a9 :: a10 :: z :: lv) st h uc us := by
  intro p e R s m args below meth c ls H locs X hl hR hlo
  refine k p e R s m args below meth c ls H locs X ⟨hl.1, hl.2.1, fun q hq => hl.2.2 q ?_⟩ hR hlo
  obtain ⟨n, h1, h2⟩ := gLz_mem.mp hq
  refine gLz_mem.mpr ⟨n, h1, ?_⟩
  rw [← h2]
  by_cases e : n = 11
  · subst e; cases h2
  · rcases Nat.lt_or_gt_of_ne e with e | e
    · match n, e with
      | 0, _ => rfl
      | 1, _ => rfl
      | 2, _ => rfl
      | 3, _ => rfl
      | 4, _ => rfl
      | 5, _ => rfl
      | 6, _ => rfl
      | 7, _ => rfl
      | 8, _ => rfl
      | 9, _ => rfl
      | 10, _ => rfl
    · obtain ⟨n, rfl⟩ : ∃ z, n = z + 12 := ⟨n - 12, by omega⟩
      rfl
theorem G_drop_12 {a0 a1 a2 a3 a4 a5 a6 a7 a8 a9 a10 a11 : Option Value} {z : Option Value} (k : G E l M d mc ms Q pc (a0 :: a1 :: a2 :: a3 :: a4 :: a5 :: a6 :: a7 :: a8 :: a9 :: a10 :: a11 :: none :: lv) st h uc us) : G E l M d mc ms Q pc (a0 :: a1 :: a2 :: a3 :: a4 :: a5 :: a6 :: a7 :: a8 :: a9 :: a10 :: a11 :: z :: lv) st h uc us := by
  intro p e R s m args below meth c ls H locs X hl hR hlo
  refine k p e R s m args below meth c ls H locs X ⟨hl.1, hl.2.1, fun q hq => hl.2.2 q ?_⟩ hR hlo
  obtain ⟨n, h1, h2⟩ := gLz_mem.mp hq
  refine gLz_mem.mpr ⟨n, h1, ?_⟩
  rw [← h2]
  by_cases e : n = 12
  · subst e; cases h2
  · rcases Nat.lt_or_gt_of_ne e with e | e
    · match n, e with
      | 0, _ => rfl
      | 1, _ => rfl
      | 2, _ => rfl
      | 3, _ => rfl
      | 4, _ => rfl
      | 5, _ => rfl
      | 6, _ => rfl
      | 7, _ => rfl
      | 8, _ => rfl
      | 9, _ => rfl
      | 10, _ => rfl
      | 11, _ => rfl
    · obtain ⟨n, rfl⟩ : ∃ z, n = z + 13 := ⟨n - 13, by omega⟩
      rfl
theorem G_drop_13 {a0 a1 a2 a3 a4 a5 a6 a7 a8 a9 a10 a11 a12 : Option Value} {z : Option Value} (k : G E l M d mc ms Q pc (a0 :: a1 :: a2 :: a3 :: a4 :: a5 :: a6 :: a7 :: a8 :: a9 :: a10 :: a11 :: a12 :: none :: lv) st h uc us) : G E l M d mc ms Q pc (a0 :: a1 :: a2 :: a3 :: a4 :: a5 :: a6 :: a7 :: a8 :: a9 :: a10 :: a11 :: a12 :: z :: lv) st h uc us := by
  intro p e R s m args below meth c ls H locs X hl hR hlo
  refine k p e R s m args below meth c ls H locs X ⟨hl.1, hl.2.1, fun q hq => hl.2.2 q ?_⟩ hR hlo
  obtain ⟨n, h1, h2⟩ := gLz_mem.mp hq
  refine gLz_mem.mpr ⟨n, h1, ?_⟩
  rw [← h2]
  by_cases e : n = 13
  · subst e; cases h2
  · rcases Nat.lt_or_gt_of_ne e with e | e
    · match n, e with
      | 0, _ => rfl
      | 1, _ => rfl
      | 2, _ => rfl
      | 3, _ => rfl
      | 4, _ => rfl
      | 5, _ => rfl
      | 6, _ => rfl
      | 7, _ => rfl
      | 8, _ => rfl
      | 9, _ => rfl
      | 10, _ => rfl
      | 11, _ => rfl
      | 12, _ => rfl
    · obtain ⟨n, rfl⟩ : ∃ z, n = z + 14 := ⟨n - 14, by omega⟩
      rfl
theorem G_drop_14 {a0 a1 a2 a3 a4 a5 a6 a7 a8 a9 a10 a11 a12 a13 : Option Value} {z : Option Value} (k : G E l M d mc ms Q pc (a0 :: a1 :: a2 :: a3 :: a4 :: a5 :: a6 :: a7 :: a8 :: a9 :: a10 :: a11 :: a12 :: a13 :: none :: lv) st h uc us) : G E l M d mc ms Q pc (a0 :: a1 :: a2 :: a3 :: a4 :: a5 :: a6 :: a7 :: a8 :: a9 :: a10 :: a11 :: a12 :: a13 :: z :: lv) st h uc us := by
  intro p e R s m args below meth c ls H locs X hl hR hlo
  refine k p e R s m args below meth c ls H locs X ⟨hl.1, hl.2.1, fun q hq => hl.2.2 q ?_⟩ hR hlo
  obtain ⟨n, h1, h2⟩ := gLz_mem.mp hq
  refine gLz_mem.mpr ⟨n, h1, ?_⟩
  rw [← h2]
  by_cases e : n = 14
  · subst e; cases h2
  · rcases Nat.lt_or_gt_of_ne e with e | e
    · match n, e with
      | 0, _ => rfl
      | 1, _ => rfl
      | 2, _ => rfl
      | 3, _ => rfl
      | 4, _ => rfl
      | 5, _ => rfl
      | 6, _ => rfl
      | 7, _ => rfl
      | 8, _ => rfl
      | 9, _ => rfl
      | 10, _ => rfl
      | 11, _ => rfl
      | 12, _ => rfl
      | 13, _ => rfl
    · obtain ⟨n, rfl⟩ : ∃ z, n = z + 15 := ⟨n - 15, by omega⟩
      rfl
theorem G_drop_15 {a0 a1 a2 a3 a4 a5 a6 a7 a8 a9 a10 a11 a12 a13 a14 : Option Value} {z : Option Value} (k : G E l M d mc ms Q pc (a0 :: a1 :: a2 :: a3 :: a4 :: a5 :: a6 :: a7 :: a8 :: a9 :: a10 :: a11 :: a12 :: a13 :: a14 :: none :: lv) st h uc us) : G E l M d mc ms Q pc (a0 :: a1 :: a2 :: a3 :: a4 :: a5 :: a6 :: a7 :: a8 :: a9 :: a10 :: a11 :: a12 :: a13 :: a14 :: z :: lv) st h uc us := by
  intro p e R s m args below meth c ls H locs X hl hR hlo
  refine k p e R s m args below meth c ls H locs X ⟨hl.1, hl.2.1, fun q hq => hl.2.2 q ?_⟩ hR hlo
  obtain ⟨n, h1, h2⟩ := gLz_mem.mp hq
  refine gLz_mem.mpr ⟨n, h1, ?_⟩
  rw [← h2]
  by_cases e : n = 15
  · subst e; cases h2
  · rcases Nat.lt_or_gt_of_ne e with e | e
    · match n, e with
      | 0, _ => rfl
      | 1, _ => rfl
      | 2, _ => rfl
      | 3, _ => rfl
      | 4, _ => rfl
      | 5, _ => rfl
      | 6, _ => rfl
      | 7, _ => rfl
      | 8, _ => rfl
      | 9, _ => rfl
      | 10, _ => rfl
      | 11, _ => rfl
      | 12, _ => rfl
      | 13, _ => rfl
      | 14, _ => rfl
    · obtain ⟨n, rfl⟩ : ∃ z, n = z + 16 := ⟨n - 16, by omega⟩
      rfl
theorem G_if_eq {x off : Int} (tgt : Nat) (hd : decode M.2.1 pc = .ok (.ifCond .eq off, 3)) (ht : (pc : Int) + off = (tgt : Int)) (hx : -2147483648 ≤ x ∧ x ≤ 2147483647) (kt : x = 0 → G E l M d mc ms Q tgt lv st h uc us) (kf : x ≠ 0 → G E l M d mc ms Q (pc + 3) lv st h uc us) : G E l M d mc ms Q pc lv (vI x :: st) h uc us := by
  intro p e R s m args below meth c ls H locs X hl hR hlo
  have hz : -2147483648 ≤ (0 : Int) ∧ (0 : Int) ≤ 2147483647 := by omega
  refine lv_if_eq X.1 X.2.1 hd ht (fun q => ?_) (fun q => ?_)
  · rw [i32_0, i32_eq hx hz] at q
    exact kt (by omega) p e R s m args below meth c ls H locs X hl hR hlo
  · rw [i32_0, i32_eq hx hz] at q
    exact kf (by omega) p e R s m args below meth c ls H locs X hl hR hlo
theorem G_icmp_eq {x y off : Int} (tgt : Nat) (hd : decode M.2.1 pc = .ok (.if_icmp .eq off, 3)) (ht : (pc : Int) + off = (tgt : Int)) (hx : -2147483648 ≤ x ∧ x ≤ 2147483647) (hy : -2147483648 ≤ y ∧ y ≤ 2147483647) (kt : x = y → G E l M d mc ms Q tgt lv st h uc us) (kf : x ≠ y → G E l M d mc ms Q (pc + 3) lv st h uc us) : G E l M d mc ms Q pc lv (vI y :: vI x :: st) h uc us := by
  intro p e R s m args below meth c ls H locs X hl hR hlo
  refine lv_icmp_eq X.1 X.2.1 hd ht (fun q => ?_) (fun q => ?_)
  · rw [i32_eq hx hy] at q
    exact kt (by omega) p e R s m args below meth c ls H locs X hl hR hlo
  · rw [i32_eq hx hy] at q
    exact kf (by omega) p e R s m args below meth c ls H locs X hl hR hlo
theorem G_lcmp_eq {x y off : Int} (tgt : Nat) (hd0 : decode M.2.1 pc = .ok (.lcmp, 1)) (hd : decode M.2.1 (pc + 1) = .ok (.ifCond .eq off, 3)) (ht : ((pc + 1 : Nat) : Int) + off = (tgt : Int)) (hx : -9223372036854775808 ≤ x ∧ x ≤ 9223372036854775807) (hy : -9223372036854775808 ≤ y ∧ y ≤ 9223372036854775807) (kt : x = y → G E l M d mc ms Q tgt lv st h uc us) (kf : x ≠ y → G E l M d mc ms Q (pc + 4) lv st h uc us) : G E l M d mc ms Q pc lv (vJ y :: vJ x :: st) h uc us := by
  intro p e R s m args below meth c ls H locs X hl hR hlo
  refine W.lcmp X.1 X.2.1 hd0 ?_
  refine lv_if_eq X.1 X.2.1 hd ht (fun q => ?_) (fun q => ?_)
  · have q2 := lcmp_eq hx hy
    exact kt (by rw [q2] at q; omega) p e R s m args below meth c ls H locs X hl hR hlo
  · have q2 := lcmp_eq hx hy
    exact kf (by rw [q2] at q; omega) p e R s m args below meth c ls H locs X hl hR hlo
theorem G_if_ne {x off : Int} (tgt : Nat) (hd : decode M.2.1 pc = .ok (.ifCond .ne off, 3)) (ht : (pc : Int) + off = (tgt : Int)) (hx : -2147483648 ≤ x ∧ x ≤ 2147483647) (kt : x ≠ 0 → G E l M d mc ms Q tgt lv st h uc us) (kf : x = 0 → G E l M d mc ms Q (pc + 3) lv st h uc us) : G E l M d mc ms Q pc lv (vI x :: st) h uc us := by
  intro p e R s m args below meth c ls H locs X hl hR hlo
  have hz : -2147483648 ≤ (0 : Int) ∧ (0 : Int) ≤ 2147483647 := by omega
  refine lv_if_ne X.1 X.2.1 hd ht (fun q => ?_) (fun q => ?_)
  · rw [i32_0, i32_eq hx hz] at q
    exact kt (by omega) p e R s m args below meth c ls H locs X hl hR hlo
  · rw [i32_0, i32_eq hx hz] at q
    exact kf (by omega) p e R s m args below meth c ls H locs X hl hR hlo
theorem G_icmp_ne {x y off : Int} (tgt : Nat) (hd : decode M.2.1 pc = .ok (.if_icmp .ne off, 3)) (ht : (pc : Int) + off = (tgt : Int)) (hx : -2147483648 ≤ x ∧ x ≤ 2147483647) (hy : -2147483648 ≤ y ∧ y ≤ 2147483647) (kt : x ≠ y → G E l M d mc ms Q tgt lv st h uc us) (kf : x = y → G E l M d mc ms Q (pc + 3) lv st h uc us) : G E l M d mc ms Q pc lv (vI y :: vI x :: st) h uc us := by
  intro p e R s m args below meth c ls H locs X hl hR hlo
  refine lv_icmp_ne X.1 X.2.1 hd ht (fun q => ?_) (fun q => ?_)
  · rw [i32_eq hx hy] at q
    exact kt (by omega) p e R s m args below meth c ls H locs X hl hR hlo
  · rw [i32_eq hx hy] at q
    exact kf (by omega) p e R s m args below meth c ls H locs X hl hR hlo
theorem G_lcmp_ne {x y off : Int} (tgt : Nat) (hd0 : decode M.2.1 pc = .ok (.lcmp, 1)) (hd : decode M.2.1 (pc + 1) = .ok (.ifCond .ne off, 3)) (ht : ((pc + 1 : Nat) : Int) + off = (tgt : Int)) (hx : -9223372036854775808 ≤ x ∧ x ≤ 9223372036854775807) (hy : -9223372036854775808 ≤ y ∧ y ≤ 9223372036854775807) (kt : x ≠ y → G E l M d mc ms Q tgt lv st h uc us) (kf : x = y → G E l M d mc ms Q (pc + 4) lv st h uc us) : G E l M d mc ms Q pc lv (vJ y :: vJ x :: st) h uc us := by
  intro p e R s m args below meth c ls H locs X hl hR hlo
  refine W.lcmp X.1 X.2.1 hd0 ?_
  refine lv_if_ne X.1 X.2.1 hd ht (fun q => ?_) (fun q => ?_)
  · have q2 := lcmp_ne hx hy
    exact kt (by rw [q2] at q; omega) p e R s m args below meth c ls H locs X hl hR hlo
  · have q2 := lcmp_ne hx hy
    exact kf (by rw [q2] at q; omega) p e R s m args below meth c ls H locs X hl hR hlo
theorem G_if_lt {x off : Int} (tgt : Nat) (hd : decode M.2.1 pc = .ok (.ifCond .lt off, 3)) (ht : (pc : Int) + off = (tgt : Int)) (hx : -2147483648 ≤ x ∧ x ≤ 2147483647) (kt : x < 0 → G E l M d mc ms Q tgt lv st h uc us) (kf : 0 ≤ x → G E l M d mc ms Q (pc + 3) lv st h uc us) : G E l M d mc ms Q pc lv (vI x :: st) h uc us := by
  intro p e R s m args below meth c ls H locs X hl hR hlo
  have hz : -2147483648 ≤ (0 : Int) ∧ (0 : Int) ≤ 2147483647 := by omega
  refine lv_if_lt X.1 X.2.1 hd ht (fun q => ?_) (fun q => ?_)
  · rw [i32_0, i32_lt hx hz] at q
    exact kt (by omega) p e R s m args below meth c ls H locs X hl hR hlo
  · rw [i32_0, i32_lt hx hz] at q
    exact kf (by omega) p e R s m args below meth c ls H locs X hl hR hlo
theorem G_icmp_lt {x y off : Int} (tgt : Nat) (hd : decode M.2.1 pc = .ok (.if_icmp .lt off, 3)) (ht : (pc : Int) + off = (tgt : Int)) (hx : -2147483648 ≤ x ∧ x ≤ 2147483647) (hy : -2147483648 ≤ y ∧ y ≤ 2147483647) (kt : x < y → G E l M d mc ms Q tgt lv st h uc us) (kf : y ≤ x → G E l M d mc ms Q (pc + 3) lv st h uc us) : G E l M d mc ms Q pc lv (vI y :: vI x :: st) h uc us := by
  intro p e R s m args below meth c ls H locs X hl hR hlo
  refine lv_icmp_lt X.1 X.2.1 hd ht (fun q => ?_) (fun q => ?_)
  · rw [i32_lt hx hy] at q
    exact kt (by omega) p e R s m args below meth c ls H locs X hl hR hlo
  · rw [i32_lt hx hy] at q
    exact kf (by omega) p e R s m args below meth c ls H locs X hl hR hlo
theorem G_lcmp_lt {x y off : Int} (tgt : Nat) (hd0 : decode M.2.1 pc = .ok (.lcmp, 1)) (hd : decode M.2.1 (pc + 1) = .ok (.ifCond .lt off, 3)) (ht : ((pc + 1 : Nat) : Int) + off = (tgt : Int)) (hx : -9223372036854775808 ≤ x ∧ x ≤ 9223372036854775807) (hy : -9223372036854775808 ≤ y ∧ y ≤ 9223372036854775807) (kt : x < y → G E l M d mc ms Q tgt lv st h uc us) (kf : y ≤ x → G E l M d mc ms Q (pc + 4) lv st h uc us) : G E l M d mc ms Q pc lv (vJ y :: vJ x :: st) h uc us := by
  intro p e R s m args below meth c ls H locs X hl hR hlo
  refine W.lcmp X.1 X.2.1 hd0 ?_
  refine lv_if_lt X.1 X.2.1 hd ht (fun q => ?_) (fun q => ?_)
  · have q2 := lcmp_lt hx hy
    exact kt (by rw [q2] at q; omega) p e R s m args below meth c ls H locs X hl hR hlo
  · have q2 := lcmp_lt hx hy
    exact kf (by rw [q2] at q; omega) p e R s m args below meth c ls H locs X hl hR hlo
theorem G_if_ge {x off : Int} (tgt : Nat) (hd : decode M.2.1 pc = .ok (.ifCond .ge off, 3)) (ht : (pc : Int) + off = (tgt : Int)) (hx : -2147483648 ≤ x ∧ x ≤ 2147483647) (kt : 0 ≤ x → G E l M d mc ms Q tgt lv st h uc us) (kf : x < 0 → G E l M d mc ms Q (pc + 3) lv st h uc us) : G E l M d mc ms Q pc lv (vI x :: st) h uc us := by
  intro p e R s m args below meth c ls H locs X hl hR hlo
  have hz : -2147483648 ≤ (0 : Int) ∧ (0 : Int) ≤ 2147483647 := by omega
  refine lv_if_ge X.1 X.2.1 hd ht (fun q => ?_) (fun q => ?_)
  · rw [i32_0, i32_le hz hx] at q
    exact kt (by omega) p e R s m args below meth c ls H locs X hl hR hlo
  · rw [i32_0, i32_le hz hx] at q
    exact kf (by omega) p e R s m args below meth c ls H locs X hl hR hlo
theorem G_icmp_ge {x y off : Int} (tgt : Nat) (hd : decode M.2.1 pc = .ok (.if_icmp .ge off, 3)) (ht : (pc : Int) + off = (tgt : Int)) (hx : -2147483648 ≤ x ∧ x ≤ 2147483647) (hy : -2147483648 ≤ y ∧ y ≤ 2147483647) (kt : y ≤ x → G E l M d mc ms Q tgt lv st h uc us) (kf : x < y → G E l M d mc ms Q (pc + 3) lv st h uc us) : G E l M d mc ms Q pc lv (vI y :: vI x :: st) h uc us := by
  intro p e R s m args below meth c ls H locs X hl hR hlo
  refine lv_icmp_ge X.1 X.2.1 hd ht (fun q => ?_) (fun q => ?_)
  · rw [i32_le hy hx] at q
    exact kt (by omega) p e R s m args below meth c ls H locs X hl hR hlo
  · rw [i32_le hy hx] at q
    exact kf (by omega) p e R s m args below meth c ls H locs X hl hR hlo
theorem G_lcmp_ge {x y off : Int} (tgt : Nat) (hd0 : decode M.2.1 pc = .ok (.lcmp, 1)) (hd : decode M.2.1 (pc + 1) = .ok (.ifCond .ge off, 3)) (ht : ((pc + 1 : Nat) : Int) + off = (tgt : Int)) (hx : -9223372036854775808 ≤ x ∧ x ≤ 9223372036854775807) (hy : -9223372036854775808 ≤ y ∧ y ≤ 9223372036854775807) (kt : y ≤ x → G E l M d mc ms Q tgt lv st h uc us) (kf : x < y → G E l M d mc ms Q (pc + 4) lv st h uc us) : G E l M d mc ms Q pc lv (vJ y :: vJ x :: st) h uc us := by
  intro p e R s m args below meth c ls H locs X hl hR hlo
  refine W.lcmp X.1 X.2.1 hd0 ?_
  refine lv_if_ge X.1 X.2.1 hd ht (fun q => ?_) (fun q => ?_)
  · have q2 := lcmp_ge hx hy
    exact kt (by rw [q2] at q; omega) p e R s m args below meth c ls H locs X hl hR hlo
  · have q2 := lcmp_ge hx hy
    exact kf (by rw [q2] at q; omega) p e R s m args below meth c ls H locs X hl hR hlo
theorem G_if_gt {x off : Int} (tgt : Nat) (hd : decode M.2.1 pc = .ok (.ifCond .gt off, 3)) (ht : (pc : Int) + off = (tgt : Int)) (hx : -2147483648 ≤ x ∧ x ≤ 2147483647) (kt : 0 < x → G E l M d mc ms Q tgt lv st h uc us) (kf : x ≤ 0 → G E l M d mc ms Q (pc + 3) lv st h uc us) : G E l M d mc ms Q pc lv (vI x :: st) h uc us := by
  intro p e R s m args below meth c ls H locs X hl hR hlo
  have hz : -2147483648 ≤ (0 : Int) ∧ (0 : Int) ≤ 2147483647 := by omega
  refine lv_if_gt X.1 X.2.1 hd ht (fun q => ?_) (fun q => ?_)
  · rw [i32_0, i32_lt hz hx] at q
    exact kt (by omega) p e R s m args below meth c ls H locs X hl hR hlo
  · rw [i32_0, i32_lt hz hx] at q
    exact kf (by omega) p e R s m args below meth c ls H locs X hl hR hlo
theorem G_icmp_gt {x y off : Int} (tgt : Nat) (hd : decode M.2.1 pc = .ok (.if_icmp .gt off, 3)) (ht : (pc : Int) + off = (tgt : Int)) (hx : -2147483648 ≤ x ∧ x ≤ 2147483647) (hy : -2147483648 ≤ y ∧ y ≤ 2147483647) (kt : y < x → G E l M d mc ms Q tgt lv st h uc us) (kf : x ≤ y → G E l M d mc ms Q (pc + 3) lv st h uc us) : G E l M d mc ms Q pc lv (vI y :: vI x :: st) h uc us := by
  intro p e R s m args below meth c ls H locs X hl hR hlo
  refine lv_icmp_gt X.1 X.2.1 hd ht (fun q => ?_) (fun q => ?_)
  · rw [i32_lt hy hx] at q
    exact kt (by omega) p e R s m args below meth c ls H locs X hl hR hlo
  · rw [i32_lt hy hx] at q
    exact kf (by omega) p e R s m args below meth c ls H locs X hl hR hlo
theorem G_lcmp_gt {x y off : Int} (tgt : Nat) (hd0 : decode M.2.1 pc = .ok (.lcmp, 1)) (hd : decode M.2.1 (pc + 1) = .ok (.ifCond .gt off, 3)) (ht : ((pc + 1 : Nat) : Int) + off = (tgt : Int)) (hx : -9223372036854775808 ≤ x ∧ x ≤ 9223372036854775807) (hy : -9223372036854775808 ≤ y ∧ y ≤ 9223372036854775807) (kt : y < x → G E l M d mc ms Q tgt lv st h uc us) (kf : x ≤ y → G E l M d mc ms Q (pc + 4) lv st h uc us) : G E l M d mc ms Q pc lv (vJ y :: vJ x :: st) h uc us := by
  intro p e R s m args below meth c ls H locs X hl hR hlo
  refine W.lcmp X.1 X.2.1 hd0 ?_
  refine lv_if_gt X.1 X.2.1 hd ht (fun q => ?_) (fun q => ?_)
  · have q2 := lcmp_gt hx hy
    exact kt (by rw [q2] at q; omega) p e R s m args below meth c ls H locs X hl hR hlo
  · have q2 := lcmp_gt hx hy
    exact kf (by rw [q2] at q; omega) p e R s m args below meth c ls H locs X hl hR hlo
theorem G_if_le {x off : Int} (tgt : Nat) (hd : decode M.2.1 pc = .ok (.ifCond .le off, 3)) (ht : (pc : Int) + off = (tgt : Int)) (hx : -2147483648 ≤ x ∧ x ≤ 2147483647) (kt : x ≤ 0 → G E l M d mc ms Q tgt lv st h uc us) (kf : 0 < x → G E l M d mc ms Q (pc + 3) lv st h uc us) : G E l M d mc ms Q pc lv (vI x :: st) h uc us := by
  intro p e R s m args below meth c ls H locs X hl hR hlo
  have hz : -2147483648 ≤ (0 : Int) ∧ (0 : Int) ≤ 2147483647 := by omega
  refine lv_if_le X.1 X.2.1 hd ht (fun q => ?_) (fun q => ?_)
  · rw [i32_0, i32_le hx hz] at q
    exact kt (by omega) p e R s m args below meth c ls H locs X hl hR hlo
  · rw [i32_0, i32_le hx hz] at q
    exact kf (by omega) p e R s m args below meth c ls H locs X hl hR hlo
theorem G_icmp_le {x y off : Int} (tgt : Nat) (hd : decode M.2.1 pc = .ok (.if_icmp .le off, 3)) (ht : (pc : Int) + off = (tgt : Int)) (hx : -2147483648 ≤ x ∧ x ≤ 2147483647) (hy : -2147483648 ≤ y ∧ y ≤ 2147483647) (kt : x ≤ y → G E l M d mc ms Q tgt lv st h uc us) (kf : y < x → G E l M d mc ms Q (pc + 3) lv st h uc us) : G E l M d mc ms Q pc lv (vI y :: vI x :: st) h uc us := by
  intro p e R s m args below meth c ls H locs X hl hR hlo
  refine lv_icmp_le X.1 X.2.1 hd ht (fun q => ?_) (fun q => ?_)
  · rw [i32_le hx hy] at q
    exact kt (by omega) p e R s m args below meth c ls H locs X hl hR hlo
  · rw [i32_le hx hy] at q
    exact kf (by omega) p e R s m args below meth c ls H locs X hl hR hlo
theorem G_lcmp_le {x y off : Int} (tgt : Nat) (hd0 : decode M.2.1 pc = .ok (.lcmp, 1)) (hd : decode M.2.1 (pc + 1) = .ok (.ifCond .le off, 3)) (ht : ((pc + 1 : Nat) : Int) + off = (tgt : Int)) (hx : -9223372036854775808 ≤ x ∧ x ≤ 9223372036854775807) (hy : -9223372036854775808 ≤ y ∧ y ≤ 9223372036854775807) (kt : x ≤ y → G E l M d mc ms Q tgt lv st h uc us) (kf : y < x → G E l M d mc ms Q (pc + 4) lv st h uc us) : G E l M d mc ms Q pc lv (vJ y :: vJ x :: st) h uc us := by
  intro p e R s m args below meth c ls H locs X hl hR hlo
  refine W.lcmp X.1 X.2.1 hd0 ?_
  refine lv_if_le X.1 X.2.1 hd ht (fun q => ?_) (fun q => ?_)
  · have q2 := lcmp_le hx hy
    exact kt (by rw [q2] at q; omega) p e R s m args below meth c ls H locs X hl hR hlo
  · have q2 := lcmp_le hx hy
    exact kf (by rw [q2] at q; omega) p e R s m args below meth c ls H locs X hl hR hlo
theorem G_goto {off : Int} (tgt : Nat) (hd : decode M.2.1 pc = .ok (.goto off, 3)) (ht : (pc : Int) + off = (tgt : Int)) (k : G E l M d mc ms Q tgt lv st h uc us) : G E l M d mc ms Q pc lv st h uc us := by
  intro p e R s m args below meth c ls H locs X hl hR hlo
  exact lv_goto X.1 X.2.1 hd ht (k p e R s m args below meth c ls H locs X hl hR hlo)
theorem G_ifnull {x : Nat} {off : Int} (hd : decode M.2.1 pc = .ok (.ifnull off, 3)) (k : G E l M d mc ms Q (pc + 3) lv st h uc us) : G E l M d mc ms Q pc lv (.ref x :: st) h uc us := by
  intro p e R s m args below meth c ls H locs X hl hR hlo
  exact lv_ifnull X.1 X.2.1 hd (k p e R s m args below meth c ls H locs X hl hR hlo)
theorem G_ifnullN {off : Int} (tgt : Nat) (hd : decode M.2.1 pc = .ok (.ifnull off, 3)) (ht : (pc : Int) + off = (tgt : Int)) (k : G E l M d mc ms Q tgt lv st h uc us) : G E l M d mc ms Q pc lv (.null :: st) h uc us := by
  intro p e R s m args below meth c ls H locs X hl hR hlo
  exact lv_ifnullN X.1 X.2.1 hd ht (k p e R s m args below meth c ls H locs X hl hR hlo)
theorem G_ifnonnull {x : Nat} {off : Int} (tgt : Nat) (hd : decode M.2.1 pc = .ok (.ifnonnull off, 3)) (ht : (pc : Int) + off = (tgt : Int)) (k : G E l M d mc ms Q tgt lv st h uc us) : G E l M d mc ms Q pc lv (.ref x :: st) h uc us := by
  intro p e R s m args below meth c ls H locs X hl hR hlo
  exact lv_ifnonnull X.1 X.2.1 hd ht (k p e R s m args below meth c ls H locs X hl hR hlo)
theorem G_ifnonnullN {off : Int} (hd : decode M.2.1 pc = .ok (.ifnonnull off, 3)) (k : G E l M d mc ms Q (pc + 3) lv st h uc us) : G E l M d mc ms Q pc lv (.null :: st) h uc us := by
  intro p e R s m args below meth c ls H locs X hl hR hlo
  exact lv_ifnonnullN X.1 X.2.1 hd (k p e R s m args below meth c ls H locs X hl hR hlo)
theorem G_acmp_eq {x y : Nat} {off : Int} (tgt : Nat) (hd : decode M.2.1 pc = .ok (.if_acmp .eq off, 3)) (ht : (pc : Int) + off = (tgt : Int)) (kt : x = y → G E l M d mc ms Q tgt lv st h uc us) (kf : x ≠ y → G E l M d mc ms Q (pc + 3) lv st h uc us) : G E l M d mc ms Q pc lv (.ref y :: .ref x :: st) h uc us := by
  intro p e R s m args below meth c ls H locs X hl hR hlo
  refine lv_acmp_eq (rx := some x) (ry := some y) X.1 X.2.1 hd ht (fun q => ?_) (fun q => ?_)
  · exact kt (by simpa using q) p e R s m args below meth c ls H locs X hl hR hlo
  · exact kf (by simpa using q) p e R s m args below meth c ls H locs X hl hR hlo
theorem G_acmp_ne {x y : Nat} {off : Int} (tgt : Nat) (hd : decode M.2.1 pc = .ok (.if_acmp .ne off, 3)) (ht : (pc : Int) + off = (tgt : Int)) (kt : x ≠ y → G E l M d mc ms Q tgt lv st h uc us) (kf : x = y → G E l M d mc ms Q (pc + 3) lv st h uc us) : G E l M d mc ms Q pc lv (.ref y :: .ref x :: st) h uc us := by
  intro p e R s m args below meth c ls H locs X hl hR hlo
  refine lv_acmp_ne (rx := some x) (ry := some y) X.1 X.2.1 hd ht (fun q => ?_) (fun q => ?_)
  · exact kt (by simpa using q) p e R s m args below meth c ls H locs X hl hR hlo
  · exact kf (by simpa using q) p e R s m args below meth c ls H locs X hl hR hlo
theorem G_ireturn {x : Int} {ty : FieldType} (hd : decode M.2.1 pc = .ok (.ireturn, 1)) (hr : M.2.2.2.1 = some ty) (hn : narrow ty (vI x) = vI x) (h1 : uc ≤ mc) (h2 : us ≤ ms) (q : Q (.returned (some (vI x))) h) : G E l M d mc ms Q pc lv [vI x] h uc us := by
  intro p e R s m args below meth c ls H locs X hl hR hlo
  obtain ⟨hx, hb, hr0, hml, hown, hts, hlocks, -⟩ := X
  refine W.widen h1 h2 (W_post (fun t => gFin_of) ?_)
  exact W.zret hx hb (hr0.trans hr) hn (fun t ht _ => ⟨h, by rw [ht]; exact hR, q⟩) hlo hd hlocks
theorem G_lreturn {x : Int} (hd : decode M.2.1 pc = .ok (.lreturn, 1)) (hr : M.2.2.2.1 = some .long) (h1 : uc ≤ mc) (h2 : us ≤ ms) (q : Q (.returned (some (vJ x))) h) : G E l M d mc ms Q pc lv [vJ x] h uc us := by
  intro p e R s m args below meth c ls H locs X hl hR hlo
  obtain ⟨hx, hb, hr0, hml, hown, hts, hlocks, -⟩ := X
  refine W.widen h1 h2 (W_post (fun t => gFin_of) ?_)
  exact W.lret hx hb (hr0.trans hr) (fun t ht _ => ⟨h, by rw [ht]; exact hR, q⟩) hlo hd hlocks
theorem G_return (hd : decode M.2.1 pc = .ok (.return_, 1)) (hr : M.2.2.2.1 = none) (h1 : uc ≤ mc) (h2 : us ≤ ms) (q : Q (.returned none) h) : G E l M d mc ms Q pc lv [] h uc us := by
  intro p e R s m args below meth c ls H locs X hl hR hlo
  obtain ⟨hx, hb, hr0, hml, hown, hts, hlocks, -⟩ := X
  refine W.widen h1 h2 (W_post (fun t => gFin_of) ?_)
  exact W.vret hx hb (hr0.trans hr) (fun t ht _ => ⟨h, by rw [ht]; exact hR, q⟩) hlo hd hlocks
theorem G_areturn {v : Value} {rt : FieldType} (hd : decode M.2.1 pc = .ok (.areturn, 1)) (hr : M.2.2.2.1 = some rt) (hrt : (∃ n, rt = .object n) ∨ ∃ t, rt = .array t) (hv : v = .null ∨ ∃ a, v = .ref a) (h1 : uc ≤ mc) (h2 : us ≤ ms) (q : Q (.returned (some v)) h) : G E l M d mc ms Q pc lv [v] h uc us := by
  intro p e R s m args below meth c ls H locs X hl hR hlo
  obtain ⟨hx, hb, hr0, hml, hown, hts, hlocks, -⟩ := X
  refine W.widen h1 h2 (W_post (fun t => gFin_of) ?_)
  exact W.aret hx hb (hr0.trans hr) hrt hv (fun t ht _ => ⟨h, by rw [ht]; exact hR, q⟩) hlo hd hlocks
end ROWS
