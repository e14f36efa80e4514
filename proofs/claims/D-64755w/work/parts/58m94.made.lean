/-! the made reference, all of it -/
def mMd (S : mS) (nx : Nat → Nat) : Prop := (∀ k, mLv S k → S.2 5 k = nx k ∧ nxSpec S (zB k) (nx k)) ∧ lab (mLv S) (zSame (mP S)) (S.2 6) ∧ S.1 7 = rk (mLv S) (zSame (mP S)) 120 ∧
  lab (mLv S) (orb nx) (S.2 9) ∧ S.1 8 = rk (mLv S) (orb nx) 120 ∧
  (∀ f, fst (mLv S) (orb nx) f → S.2 10 (rk (mLv S) (orb nx) f) = f ∧ ∃ m, prd nx f m ∧ S.2 11 (rk (mLv S) (orb nx) f) = iS m (fun n => cr S (itN nx n f))) ∧
  S.1 12 = 1 + (rk (fL S) (fE S) 120 : Int) ∧ ∀ h, mLv S h → fNo S h (S.2 13 (mrho S h))
theorem m_made {S : mS} (K : zOK (mP S)) (M : mCur S) : ∃ nx, mMd S nx := by
  obtain ⟨nx, F0, h1, h2, h3, h4, h5, h6, h7, h8⟩ := M
  have := m_num K (fun k hk => (h1 k hk).2) h4 h6 h2 h7 h8
  exact ⟨nx, h1, h2, h3, h4, h5, h6, this.1, this.2⟩
section MADE
variable {S : mS} {nx : Nat → Nat}
theorem d_hx (K : zOK (mP S)) (M : mMd S nx) : ∀ k, mLv S k → nxSpec S (zB k) (nx k) := fun k hk => (M.1 k hk).2
theorem d_N (K : zOK (mP S)) (M : mMd S nx) : ∀ h, zL (mP S) h = true → zNx (mP S) h (nx h) := m_N K (d_hx K M)
theorem d_Ro (K : zOK (mP S)) (M : mMd S nx) : zRo (mP S) nx (mrho S) := m_Ro K (d_hx K M) M.2.2.2.1
theorem d_6 (K : zOK (mP S)) (M : mMd S nx) {a b : Nat} (A : mLv S a) (B : mLv S b) : S.2 6 a = S.2 6 b ↔ zSame (mP S) a b := lab_eq (R := zSame (mP S)) (fun _ _ h => zSame_symm h) (fun _ _ _ h h' => zSame_trans h h') M.2.1 A B
theorem d_9 (K : zOK (mP S)) (M : mMd S nx) {a : Nat} (A : mLv S a) : S.2 9 a = (mrho S a : Int) ∧ mrho S a < rk (mLv S) (orb nx) 120 := m_9 K (d_hx K M) M.2.2.2.1 A
theorem d_ar (K : zOK (mP S)) (M : mMd S nx) {r : Nat} (h : r < rk (mLv S) (orb nx) 120) : ∃ f, fst (mLv S) (orb nx) f ∧ rk (mLv S) (orb nx) f = r ∧ S.2 10 r = f ∧ mrho S f = r ∧ zArea (mP S) (zcr (mrho S) r) = ((40000 * S.2 11 r : Int) : Rat) := m_ar K (d_hx K M) M.2.2.2.1 M.2.2.2.2.2.1 h
theorem d_sg11 (K : zOK (mP S)) (M : mMd S nx) {h : Nat} (H : mLv S h) : 0 < zArea (mP S) (zcr (mrho S) (mrho S h)) ↔ 0 < S.2 11 (mrho S h) := by
  obtain ⟨f, f1, f2, f3, f4, f5⟩ := d_ar K M (d_9 K M H).2
  rw [f5]
  have : (0 : Rat) < ((40000 * S.2 11 (mrho S h) : Int) : Rat) ↔ 0 < 40000 * S.2 11 (mrho S h) := zRat_lt (a := 0)
  rw [this]
  omega
theorem d_fc (K : zOK (mP S)) (M : mMd S nx) {h : Nat} (H : mLv S h) : zFc (mP S) (mrho S) (fun r => zW (mP S) (zcr (mrho S) r) h) (zfc (mP S) (mrho S) h) := zfc_is K (d_N K M) (d_Ro K M) H
theorem d_fce (K : zOK (mP S)) (M : mMd S nx) {h : Nat} (H : mLv S h) {res : Option Nat} (e : zFc (mP S) (mrho S) (fun r => zW (mP S) (zcr (mrho S) r) h) res) : zfc (mP S) (mrho S) h = res := zfc_eq K (d_N K M) (d_Ro K M) H e
/-- the round around a piece is one: that of its corner -/
theorem d_cor (K : zOK (mP S)) (M : mMd S nx) {b h : Nat} (hb : zCor (mP S) b) (s : zSame (mP S) b h) : S.2 11 (mrho S h) ≤ 0 ↔ mrho S h = mrho S b := by
  have H := zSame_L hb.1 s
  have := z_sign K (d_N K M) (d_Ro K M) hb s
  rw [d_sg11 K M H] at this
  constructor
  · intro h'
    by_cases e : mrho S h = mrho S b
    · exact e
    · have := this.mpr (Ne.symm e); omega
  · intro e
    by_cases q : 0 < S.2 11 (mrho S h)
    · exact absurd e.symm (this.mp q)
    · omega
theorem d_ot (K : zOK (mP S)) (M : mMd S nx) {b : Nat} (hb : zCor (mP S) b) : ∀ n, n ≤ rk (mLv S) (orb nx) 120 → otR S (S.2 6 b) n = if mrho S b < n then (mrho S b : Int) else -1 := by
  intro n
  induction n with
  | zero => intro _; rw [if_neg (by omega)]; rfl
  | succ n ih =>
    intro hn
    have ih := ih (by omega)
    show zI (S.2 6 (S.2 10 n).toNat = S.2 6 b ∧ S.2 11 n ≤ 0) (n : Int) (otR S (S.2 6 b) n) = _
    obtain ⟨f, f1, f2, f3, f4, f5⟩ := d_ar K M (show n < rk (mLv S) (orb nx) 120 by omega)
    rw [f3]
    simp only [Int.toNat_natCast]
    by_cases e : mrho S b = n
    · rw [zI_pos, if_pos (by omega)]
      · omega
      · have s := (d_Ro K M).2 f b f1.1 hb.1 (by rw [f4, e])
        refine ⟨(d_6 K M f1.1 hb.1).mpr s, ?_⟩
        have := (d_cor K M hb (zSame_symm s)).mpr (by rw [f4, e])
        rw [f4] at this
        exact this
    · rw [zI_neg, ih]
      · by_cases q : mrho S b < n
        · rw [if_pos q, if_pos (by omega)]
        · rw [if_neg q, if_neg (by omega)]
      · rintro ⟨q1, q2⟩
        have s := (d_6 K M f1.1 hb.1).mp q1
        have := (d_cor K M hb (zSame_symm s)).mp (by rw [f4]; exact q2)
        omega
theorem d_piece (K : zOK (mP S)) (M : mMd S nx) {p : Int} (h0 : 0 ≤ p) (h1 : p < S.1 7) : ∃ b, zCor (mP S) b ∧ S.2 6 b = p := by
  rw [M.2.2.1] at h1
  obtain ⟨f, f1, f2, f3⟩ := rk_srj (L := mLv S) (R := zSame (mP S)) 120 p.toNat (by omega)
  obtain ⟨b, s, hb⟩ := z_cor_ex K f2.1
  refine ⟨b, hb, ?_⟩
  rw [(d_6 K M hb.1 f2.1).mpr (zSame_symm s)]
  obtain ⟨g, g1, g2, g3⟩ := M.2.1 f f2.1
  have : g = f := fst_one (L := mLv S) (R := zSame (mP S)) (fun _ _ h => zSame_symm h) (fun _ _ _ h h' => zSame_trans h h') g1 f2 g2 (zSame_refl _ _)
  subst this
  omega
theorem d_otr (K : zOK (mP S)) (M : mMd S nx) {p : Int} (h0 : 0 ≤ p) (h1 : p < S.1 7) : ∃ b, zCor (mP S) b ∧ S.2 6 b = p ∧ otR S p (rk (mLv S) (orb nx) 120) = (mrho S b : Int) := by
  obtain ⟨b, hb, e⟩ := d_piece K M h0 h1
  refine ⟨b, hb, e, ?_⟩
  rw [← e, d_ot K M hb _ (Nat.le_refl _), if_pos (d_9 K M hb.1).2]
/-- a place on no segment -/
theorem d_ls (K : zOK (mP S)) (M : mMd S nx) {x y : Int} (by' : -16000 ≤ y ∧ y ≤ 16000) (off : ∀ g, mLv S g → ¬ zOn (mP S) g x y) {res : Option Nat} (F : zFc (mP S) (mrho S) (fun r => zAR (mP S) (zcr (mrho S) r) (40000 * x + y) (y : Rat)) res) : lsR S x y (-1) (rk (mLv S) (orb nx) 120) = oI res := by
  refine m_ls K (d_hx K M) M.2.2.2.1 M.2.2.2.2.2.1 F ?_
  intro r hr
  have rR := m_pR K (d_hx K M) M.2.2.2.1 M.2.2.2.2.2.1 hr
  have wi := m_in K (d_hx K M) M.2.2.2.1 M.2.2.2.2.2.1 hr (x := x) (y := y) by' (fun g G _ e1 e2 q => off g G (by
    refine ⟨?_, ?_, ?_⟩
    · unfold zO; simp only [mP]; rw [← e1, e2]; grind
    · simp only [mP]; omega
    · simp only [mP]; omega))
  obtain ⟨f, f1, f2, f3, f4, f5⟩ := d_ar K M rR
  unfold lsq
  rw [wi, f3]
  simp only [Int.toNat_natCast]
  constructor
  · intro q; exact q.2.2
  · intro q
    refine ⟨(m_posi K (d_hx K M) M.2.2.2.1 M.2.2.2.2.2.1 rR).mp hr, ?_, q⟩
    obtain ⟨g, g1, g2, g3⟩ := M.2.1 f f1.1
    omega
theorem d_lsn (K : zOK (mP S)) (M : mMd S nx) {r : Nat} (hr : zPos (mP S) (mrho S) r) : ∃ g, mLv S g ∧ mrho S g = r ∧ zfc (mP S) (mrho S) g = some r := by
  obtain ⟨⟨g, G, e⟩, p⟩ := hr
  refine ⟨g, G, e, ?_⟩
  subst e
  exact d_fce K M G (z_fc_self K (d_N K M) (d_Ro K M) G p)
/-- the number of what a place lies in -/
theorem d_lcn (K : zOK (mP S)) (M : mMd S nx) {x y : Int} (by' : -16000 ≤ y ∧ y ≤ 16000) (off : ∀ g, mLv S g → ¬ zOn (mP S) g x y) {res : Option Nat} (F : zFc (mP S) (mrho S) (fun r => zAR (mP S) (zcr (mrho S) r) (40000 * x + y) (y : Rat)) res) {v : Int}
    (e : v = if lsR S x y (-1) (S.1 8).toNat < 0 then 0 else S.2 13 (lsR S x y (-1) (S.1 8).toNat).toNat) : (res = none ∧ v = 0) ∨ ∃ g, mLv S g ∧ zfc (mP S) (mrho S) g = res ∧ fNo S g v := by
  have ls := d_ls K M by' off F
  have e8 : (S.1 8).toNat = rk (mLv S) (orb nx) 120 := by rw [M.2.2.2.2.1]; rfl
  rw [e8, ls] at e
  cases res with
  | none => left; refine ⟨rfl, ?_⟩; rw [e]; rfl
  | some r =>
    right
    obtain ⟨g, g1, g2, g3⟩ := d_lsn K M F.1
    refine ⟨g, g1, g3, ?_⟩
    have := M.2.2.2.2.2.2.2 g g1
    rw [g2] at this
    have e2 : v = S.2 13 r := by rw [e]; show (if (r : Int) < 0 then 0 else S.2 13 (r : Int).toNat) = _; rw [if_neg (by omega)]; rfl
    rw [e2]
    exact this
theorem d_lf (K : zOK (mP S)) (M : mMd S nx) {h : Nat} (H : mLv S h) : fNo S h (lf S h : Int) ∧ (lf S h : Int) = S.2 13 (mrho S h) := by
  have := M.2.2.2.2.2.2.2 h H
  have e : (lf S h : Int) = S.2 13 (mrho S h) := by
    show ((S.2 13 (mrho S h)).toNat : Int) = _
    rcases this with ⟨_, q⟩ | ⟨f, _, _, q⟩ <;> omega
  exact ⟨by rw [e]; exact this, e⟩
theorem d_lfe (K : zOK (mP S)) (M : mMd S nx) {g h : Nat} (G : mLv S g) (H : mLv S h) : lf S g = lf S h ↔ fE S g h := by
  constructor
  · intro e
    have h1 := (d_lf K M G).1
    rw [e] at h1
    exact fNo_inj h1 (d_lf K M H).1
  · intro e
    have := fNo_one e (d_lf K M G).1 (d_lf K M H).1
    omega
theorem d_lfz (K : zOK (mP S)) (M : mMd S nx) {h : Nat} (H : mLv S h) : lf S h = 0 ↔ zfc (mP S) (mrho S) h = none := by
  rcases (d_lf K M H).1 with ⟨a, b⟩ | ⟨f, a, b, c⟩
  · constructor
    · intro _; exact a
    · intro _; omega
  · constructor
    · intro _; omega
    · intro q; exact absurd (b.trans q) a.1.2
theorem d_face (K : zOK (mP S)) (M : mMd S nx) {f : Nat} (h0 : 0 < f) (h1 : (f : Int) < S.1 12) : ∃ h, fst (fL S) (fE S) h ∧ lf S h = f := by
  rw [M.2.2.2.2.2.2.1] at h1
  obtain ⟨h, a1, a2, a3⟩ := rk_srj (L := fL S) (R := fE S) 120 (f - 1) (by omega)
  refine ⟨h, a2, ?_⟩
  rcases (d_lf K M a2.1.1).1 with ⟨a, b⟩ | ⟨g, a, b, c⟩
  · exact absurd a a2.1.2
  · have : g = h := fst_one (L := fL S) (R := fE S) (fun _ _ h => Eq.symm h) (fun _ _ _ h h' => Eq.trans h h') a a2 (k := h) b rfl
    subst this
    omega
theorem d_lfl (K : zOK (mP S)) (M : mMd S nx) {h : Nat} (H : mLv S h) : (lf S h : Int) < S.1 12 := by
  rw [M.2.2.2.2.2.2.1]
  rcases (d_lf K M H).1 with ⟨a, b⟩ | ⟨g, a, b, c⟩
  · omega
  · have := rk_lt (zL_lt a.1.1) a
    omega
/-! from face to face -/
theorem d_all (K : zOK (mP S)) (M : mMd S nx) (Re : Nat → Prop) (cl : ∀ k, mLv S k → Re (lf S k) → Re (lf S (zB k))) : ∀ h, mLv S h → (Re (lf S h) ↔ Re 0) := by
  have tw : ∀ k, mLv S k → (Re (lf S (zB k)) ↔ Re (lf S k)) := fun k hk => ⟨fun q => by have := cl (zB k) (mLv_B hk) q; rw [zB_B] at this; exact this, cl k hk⟩
  have nxe : ∀ k, mLv S k → lf S (nx k) = lf S k := fun k hk => (d_lfe K M (d_N K M k hk).1 hk).mpr (zfc_nx K (d_N K M) (d_Ro K M) hk)
  refine z_ind K _ ?_
  intro b hb ih h s
  have H := zSame_L hb.1 s
  have ph := z_const K (d_N K M) (φ := fun k => ((bI (Re (lf S k)) : Int) : Rat)) (fun k hk => by
    show ((bI (Re (lf S (zB k))) : Int) : Rat) = _
    rw [bI_congr (tw k hk)]) (fun k hk => by
    show ((bI (Re (lf S (nx k))) : Int) : Rat) = _
    rw [nxe k hk]) s
  have ph2 : bI (Re (lf S h)) = bI (Re (lf S b)) := zRat_eq.mp ph
  have iff : Re (lf S h) ↔ Re (lf S b) := by
    rw [← bI_one (p := Re (lf S h)), ← bI_one (p := Re (lf S b)), ph2]
  rw [iff]
  have hp : ¬ 0 < zArea (mP S) (zcr (mrho S) (mrho S b)) := fun q => (z_sign K (d_N K M) (d_Ro K M) hb (zSame_refl _ _)).mp q rfl
  rcases z_above K (zX (mP S) b) (zY (mP S) b : Rat) with e | ⟨g, G, gl, e⟩
  · have := z_fc_none K (d_N K M) (d_Ro K M) hb (zSame_refl _ _) hp (fun c C _ => by rw [← z_AA K C, e c])
    rw [(d_lfz K M hb.1).mpr (d_fce K M hb.1 this)]
  · have gl' : ∃ g', zSame (mP S) g g' ∧ zX (mP S) g' < zX (mP S) b := by
      unfold zxl at gl
      by_cases q : zX (mP S) g < zX (mP S) b
      · exact ⟨g, zSame_refl _ g, q⟩
      · exact ⟨zB g, zSame_B G, by omega⟩
    have := z_fc_go K (d_N K M) (d_Ro K M) hb (zSame_refl _ _) hp G gl' (fun c C _ => by rw [← z_AA K C, e c C]) (d_fc K M G)
    rw [(d_lfe K M hb.1 G).mpr (d_fce K M hb.1 this)]
    exact ih g G gl
theorem d_conn (K : zOK (mP S)) (M : mMd S nx) {a : Nat} (ha : (a : Int) < S.1 12) : ∀ f : Nat, (f : Int) < S.1 12 → ∃ n, rch S a n f := by
  have al := d_all K M (fun f => ∃ n, rch S a n f) (fun k hk ⟨n, hn⟩ => ⟨n + 1, k, hk, hn, rfl⟩)
  have z : ∃ n, rch S a n 0 := by
    by_cases e : a = 0
    · exact ⟨0, e.symm⟩
    · obtain ⟨h, h1, h2⟩ := d_face K M (by omega) ha
      refine (al h h1.1.1).mp ⟨0, ?_⟩
      rw [h2]
      exact rfl
  intro f hf
  by_cases e : f = 0
  · rw [e]; exact z
  · obtain ⟨h, h1, h2⟩ := d_face K M (by omega) hf
    have := (al h h1.1.1).mpr z
    rw [h2] at this
    exact this
end MADE
