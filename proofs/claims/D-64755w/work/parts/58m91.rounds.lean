/-! the rounds of the reference -/
theorem fst_oneL {L : Nat → Prop} {R : Nat → Nat → Prop} (sy : ∀ a b, L a → R a b → R b a) (tr : ∀ a b c, R a b → R b c → R a c) {a b k : Nat} (ha : fst L R a) (hb : fst L R b) (h1 : R a k) (h2 : R b k) : a = b := by
  rcases Nat.lt_trichotomy a b with h | h | h
  · exact absurd (tr a k b h1 (sy b k hb.1 h2)) (hb.2 a h ha.1)
  · exact h
  · exact absurd (tr b k a h2 (sy a k ha.1 h1)) (ha.2 b h hb.1)
theorem lab_eqL {L : Nat → Prop} {R : Nat → Nat → Prop} (sy : ∀ a b, L a → R a b → R b a) (tr : ∀ a b c, R a b → R b c → R a c) {lb : Nat → Int} (h1 : lab L R lb) {j k : Nat} (hj : L j) (hk : L k) : lb j = lb k ↔ R j k := by
  obtain ⟨f, a1, a2, a3⟩ := h1 j hj
  obtain ⟨g, b1, b2, b3⟩ := h1 k hk
  constructor
  · intro e
    have : f = g := rk_inj a1 b1 (by omega)
    subst this
    exact tr _ _ _ (sy _ _ a1.1 a2) b2
  · intro r
    have := fst_oneL sy tr a1 b1 (tr _ _ _ a2 r) b2
    subst this
    rw [a3, b3]
theorem rk_srj {L : Nat → Prop} {R : Nat → Nat → Prop} : ∀ n r, r < rk L R n → ∃ f, f < n ∧ fst L R f ∧ rk L R f = r := by
  intro n
  induction n with
  | zero => intro r h; exact absurd h (by show ¬ r < 0; omega)
  | succ n ih =>
    intro r h
    by_cases q : fst L R n
    · rw [rk_pos q] at h
      by_cases e : r = rk L R n
      · exact ⟨n, by omega, q, e.symm⟩
      · obtain ⟨f, h1, h2⟩ := ih r (by omega)
        exact ⟨f, by omega, h2⟩
    · rw [rk_neg q] at h
      obtain ⟨f, h1, h2⟩ := ih r h
      exact ⟨f, by omega, h2⟩
theorem itN_L {L : Nat → Prop} {nx : Nat → Nat} (go : ∀ i, L i → L (nx i)) {i : Nat} (I : L i) : ∀ n, L (itN nx n i) := by
  intro n
  induction n with
  | zero => exact I
  | succ n ih => exact go _ ih
theorem itN_can {L : Nat → Prop} {nx : Nat → Nat} (go : ∀ i, L i → L (nx i)) (inj : ∀ i j, L i → L j → nx i = nx j → i = j) {i : Nat} (I : L i) : ∀ a b, itN nx a i = itN nx (a + b) i → itN nx b i = i := by
  intro a
  induction a with
  | zero => intro b e; rw [Nat.zero_add] at e; exact e.symm
  | succ a ih =>
    intro b e
    refine ih b ?_
    have : nx (itN nx a i) = nx (itN nx (a + b) i) := by
      have e2 : a + 1 + b = a + b + 1 := by omega
      rw [e2] at e
      exact e
    exact inj _ _ (itN_L go I a) (itN_L go I (a + b)) this
theorem itN_inj {L : Nat → Prop} {nx : Nat → Nat} (go : ∀ i, L i → L (nx i)) (inj : ∀ i j, L i → L j → nx i = nx j → i = j) {i m : Nat} (I : L i) (p : prd nx i m) {a b : Nat} (ha : a < m) (hb : b < m) (e : itN nx a i = itN nx b i) : a = b := by
  rcases Nat.lt_trichotomy a b with h | h | h
  · have hb' : b = a + (b - a) := by omega
    exact absurd (itN_can go inj I a (b - a) (by rw [← hb']; exact e)) (p.2.2.2 (b - a) (by omega) (by omega))
  · exact h
  · have hb' : a = b + (a - b) := by omega
    exact absurd (itN_can go inj I b (a - b) (by rw [← hb']; exact e.symm)) (p.2.2.2 (a - b) (by omega) (by omega))
theorem zS_enum {N : Nat} (p : Nat → Nat) (F : Nat → Rat) : ∀ m, (∀ i j, i < m → j < m → p i = p j → i = j) → (∀ i, i < m → p i < N) → zS N (fun h => zI (∃ n, n < m ∧ p n = h) (F h) 0) = zS m (fun n => F (p n)) := by
  intro m
  induction m with
  | zero =>
    intro _ _
    exact zS_zero' fun i _ => zI_neg (fun h => by obtain ⟨n, h1, _⟩ := h; omega) _ _
  | succ m ih =>
    intro inj lt
    simp only [zS]
    rw [← ih (fun i j hi hj => inj i j (by omega) (by omega)) (fun i hi => lt i (by omega))]
    have e1 : zS N (fun h => if h = p m then F (p m) else 0) = F (p m) := by
      rw [zS_one (p m) (lt m (by omega)) (fun i _ ne => if_neg ne), if_pos rfl]
    rw [← e1, ← zS_add]
    refine zS_congr fun h _ => ?_
    by_cases q : h = p m
    · rw [if_pos q, zI_pos ⟨m, by omega, q.symm⟩, zI_neg (fun h' => by
        obtain ⟨n, n1, n2⟩ := h'
        have := inj n m (by omega) (by omega) (by omega)
        omega), q]
      grind
    · rw [if_neg q]
      by_cases w : ∃ n, n < m ∧ p n = h
      · rw [zI_pos w, zI_pos (by obtain ⟨n, n1, n2⟩ := w; exact ⟨n, by omega, n2⟩)]; grind
      · rw [zI_neg w, zI_neg (by
          rintro ⟨n, n1, n2⟩
          by_cases z : n = m
          · subst z; exact q n2.symm
          · exact w ⟨n, by omega, n2⟩)]; grind
theorem iS_cast (F : Nat → Int) (m : Nat) : ((iS m F : Int) : Rat) = zS m (fun n => ((F n : Int) : Rat)) := by
  induction m with
  | zero => rfl
  | succ m ih => simp only [iS, zS]; rw [Rat.intCast_add, ih]
def mrho (S : mS) (h : Nat) : Nat := (S.2 9 h).toNat
section RND
variable {S : mS} {nx : Nat → Nat}
theorem m_N (K : zOK (mP S)) (hx : ∀ k, mLv S k → nxSpec S (zB k) (nx k)) : ∀ h, zL (mP S) h = true → zNx (mP S) h (nx h) := fun h H => nx_z K H (hx h H)
theorem m_go (K : zOK (mP S)) (hx : ∀ k, mLv S k → nxSpec S (zB k) (nx k)) : ∀ h, mLv S h → mLv S (nx h) := fun h H => (nx_z K H (hx h H)).1
theorem m_inj (K : zOK (mP S)) (hx : ∀ k, mLv S k → nxSpec S (zB k) (nx k)) : ∀ a b, mLv S a → mLv S b → nx a = nx b → a = b :=
  fun a b A B e => zNx_inj K A B (nx_z K A (hx a A)) (by rw [e]; exact nx_z K B (hx b B))
theorem m_osy (K : zOK (mP S)) (hx : ∀ k, mLv S k → nxSpec S (zB k) (nx k)) : ∀ a b, mLv S a → orb nx a b → orb nx b a := by
  intro a b A o
  obtain ⟨m, p⟩ := m_prd K nx hx a A
  exact orb_sy p o
theorem m_otr : ∀ a b c, orb nx a b → orb nx b c → orb nx a c := fun _ _ _ h1 h2 => orb_tr h1 h2
theorem m_oL (K : zOK (mP S)) (hx : ∀ k, mLv S k → nxSpec S (zB k) (nx k)) {a b : Nat} (A : mLv S a) (o : orb nx a b) : mLv S b := by
  obtain ⟨n, e⟩ := o
  rw [← e]
  exact itN_L (m_go K hx) A n
theorem m_osame (K : zOK (mP S)) (hx : ∀ k, mLv S k → nxSpec S (zB k) (nx k)) {a b : Nat} (A : mLv S a) (o : orb nx a b) : zSame (mP S) a b := by
  obtain ⟨n, e⟩ := o
  rw [← e]
  clear e
  induction n with
  | zero => exact zSame_refl _ _
  | succ n ih => exact zSame_trans ih (zSame_nx K (itN_L (m_go K hx) A n) (m_N K hx _ (itN_L (m_go K hx) A n)))
theorem m_rho (K : zOK (mP S)) (hx : ∀ k, mLv S k → nxSpec S (zB k) (nx k)) (l9 : lab (mLv S) (orb nx) (S.2 9)) {a b : Nat} (A : mLv S a) (B : mLv S b) : mrho S a = mrho S b ↔ orb nx a b := by
  rw [← lab_eqL (m_osy K hx) m_otr l9 A B]
  obtain ⟨f, a1, a2, a3⟩ := l9 a A
  obtain ⟨g, b1, b2, b3⟩ := l9 b B
  unfold mrho
  omega
theorem m_rf (K : zOK (mP S)) (hx : ∀ k, mLv S k → nxSpec S (zB k) (nx k)) (l9 : lab (mLv S) (orb nx) (S.2 9)) {f : Nat} (h : fst (mLv S) (orb nx) f) : S.2 9 f = rk (mLv S) (orb nx) f ∧ mrho S f = rk (mLv S) (orb nx) f := by
  obtain ⟨g, b1, b2, b3⟩ := l9 f h.1
  have := fst_oneL (m_osy K hx) m_otr b1 h b2 (orb_rf nx f)
  subst this
  unfold mrho
  omega
theorem m_9 (K : zOK (mP S)) (hx : ∀ k, mLv S k → nxSpec S (zB k) (nx k)) (l9 : lab (mLv S) (orb nx) (S.2 9)) {a : Nat} (A : mLv S a) : S.2 9 a = (mrho S a : Int) ∧ mrho S a < rk (mLv S) (orb nx) 120 := by
  obtain ⟨f, a1, a2, a3⟩ := l9 a A
  have := rk_lt (zL_lt a1.1) a1
  unfold mrho
  omega
theorem m_Ro (K : zOK (mP S)) (hx : ∀ k, mLv S k → nxSpec S (zB k) (nx k)) (l9 : lab (mLv S) (orb nx) (S.2 9)) : zRo (mP S) nx (mrho S) := by
  constructor
  · intro h H
    exact (m_rho K hx l9 (m_go K hx h H) H).mpr (m_osy K hx _ _ H ⟨1, rfl⟩)
  · intro g h G H e
    exact m_osame K hx G ((m_rho K hx l9 G H).mp e)
theorem m_area (K : zOK (mP S)) (hx : ∀ k, mLv S k → nxSpec S (zB k) (nx k)) (l9 : lab (mLv S) (orb nx) (S.2 9)) {f m : Nat} (F : fst (mLv S) (orb nx) f) (p : prd nx f m) {a : Int} (ea : a = iS m (fun n => cr S (itN nx n f))) : zArea (mP S) (zcr (mrho S) (rk (mLv S) (orb nx) f)) = ((40000 * a : Int) : Rat) := by
  have inj := fun i j (hi : i < m) (hj : j < m) e => itN_inj (m_go K hx) (m_inj K hx) F.1 p hi hj e
  have h1 := zS_enum (N := 120) (fun n => itN nx n f) (fun h => ((40000 * cr S h : Int) : Rat)) m inj (fun i _ => zL_lt (itN_L (m_go K hx) F.1 i))
  rw [ea, Rat.intCast_mul, iS_cast, ← zS_mul]
  have h2 : zS m (fun n => ((40000 : Int) : Rat) * ((cr S (itN nx n f) : Int) : Rat)) = zS m (fun n => ((40000 * cr S (itN nx n f) : Int) : Rat)) := zS_congr fun n _ => (Rat.intCast_mul _ _).symm
  rw [h2]
  refine Eq.trans ?_ h1
  unfold zArea
  refine zS_congr fun h hh => ?_
  by_cases H : zL (mP S) h = true
  · rw [if_pos H]
    have er := (m_rf K hx l9 F).2
    by_cases o : orb nx f h
    · have e : mrho S h = rk (mLv S) (orb nx) f := by rw [← er]; exact ((m_rho K hx l9 F.1 H).mpr o).symm
      rw [zI_pos ((orb_lt p).mp o), zcr, if_pos e]
      have : (40000 * cr S h : Int) = zX (mP S) h * zY (mP S) (zB h) - zX (mP S) (zB h) * zY (mP S) h := by
        unfold cr zX zY; simp only [mP]; grind
      rw [this, Rat.intCast_sub, Rat.intCast_mul, Rat.intCast_mul]
      grind
    · have e : mrho S h ≠ rk (mLv S) (orb nx) f := by
        rw [← er]; intro e; exact o ((m_rho K hx l9 F.1 H).mp e.symm)
      rw [zI_neg (fun q => o ((orb_lt p).mpr q)), zcr_ne e]
      grind
  · rw [if_neg H, zI_neg (fun q => H (by obtain ⟨n, n1, n2⟩ := q; rw [← n2]; exact itN_L (m_go K hx) F.1 n))]
end RND
