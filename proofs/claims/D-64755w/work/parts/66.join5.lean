set_option maxRecDepth 100000
def prv (L : List Nat) (j : Nat) : Nat := L.getD ((j + L.length - 1) % L.length) 0
def nxF (LN : Nat → List Nat) (ND : Nat → Nat) (k : Nat) : Nat := prv (LN (ND (zB k))) ((LN (ND (zB k))).idxOf (zB k))
theorem prv_get {L : List Nat} {j : Nat} (h : j < L.length) : L[(j + L.length - 1) % L.length]? = some (prv L j) := by
  have : (j + L.length - 1) % L.length < L.length := Nat.mod_lt _ (by omega)
  unfold prv
  rw [List.getD_eq_getElem?_getD, List.getElem?_eq_getElem this]
  rfl
theorem jI_3 {E : gV} {S : mS} {T : tT} {n : Nat} {HA ND : Nat → Nat} {ns : List Nat} {NX NY : Nat → Int} {LA : Nat → Nat} {LN : Nat → List Nat} (j : jI E S T n HA ND ns NX NY LA LN) (h7 : (T.1 (gBase E + 7)).1 = 34) {a : Nat} {v : Value} (ha : (T.1 a).1 = 3) : jI E S (tSet T a 3 v) n HA ND ns NX NY LA LN := by
  obtain ⟨j0, j1, j2, j3, j4⟩ := j
  refine ⟨nJ_keep j0 (fun i hi => tSet_at T (by intro e; have w := (j0.2.1 i hi).1.1; rw [e] at w; omega)) (fun _ _ => rfl) rfl, fun k L hk => ?_, j2, fun k hk => ?_, j4⟩
  · have q := j1 k L hk
    refine ⟨⟨⟨?_, ?_, ?_, ?_⟩, ?_⟩, q.2⟩
    · rw [tSet_k]; exact q.1.1.1
    · rw [tSet_v, if_neg (by omega)]; exact q.1.1.2.1
    · rw [tSet_v, if_neg (by omega)]; exact q.1.1.2.2.1
    · rw [tSet_v, if_neg (by omega)]; exact q.1.1.2.2.2
    · rw [tSet_v, if_neg (by omega)]; exact q.1.2
  · rw [tSet_at T (by intro e; rw [e] at h7; omega)]
    exact j3 k hk
/-- what has its next: all of the first k nodes, and j of the node behind them -/
def jN (T : tT) (HA : Nat → Nat) (ns : List Nat) (LN : Nat → List Nat) (k j : Nat) : Prop := ∀ k' m jj i, (k' < k ∨ (k' = k ∧ jj < j)) → ns[k']? = some m → (LN m)[jj]? = some i → (T.1 (HA (zB i))).2.2 3 = .ref (HA (prv (LN m) jj))
section JOIN5
variable {E : gV} {l : Launch} {T : tT} {S : mS} {d : Nat} {Q : Outcome → gH → Prop}
theorem jn2 (hd : 9 ≤ d) (g : kGd S) {HA ND : Nat → Nat} {ns : List Nat} {NX NY : Nat → Int} {LA : Nat → Nat} {LN : Nat → List Nat} {uc us : Nat} (hu : uc ≤ 600) (hv : us ≤ 40440)
    (kk : ∀ h1 T1, zT E h1 T1 → zK E T1 S → jF E T T1 ns LA → jI E S T1 60 HA ND ns NX NY LA LN → jN T1 HA ns LN ns.length 0 → G E l gX1_join d 600 40440 Q 239 [some (.ref (gBase E)), some (vI ns.length), none, none, none] [] h1 uc us) :
    ∀ (m k : Nat), k + m = ns.length → ∀ h T1, zT E h T1 → zK E T1 S → jF E T T1 ns LA → jI E S T1 60 HA ND ns NX NY LA LN → jN T1 HA ns LN k 0 → G E l gX1_join d 600 40440 Q 157 [some (.ref (gBase E)), some (vI k), none, none, none] [] h uc us := by
  intro m
  induction m with
  | zero =>
    intro k hn h T1 ht hz jf j jn
    have ek : k = ns.length := by omega
    subst ek
    have hlen : ns.length ≤ 120 := by rw [j.2.2.2.2]; exact Nat.le_trans (rk_n _) (by omega)
    refine G_iload_1 (pc := 157) dX1_join_157 ?_
    refine G_aload_0 (pc := 158) dX1_join_158 ?_
    refine G_tget (pc := 159) dX1_join_159 rfl ht hz.1 hz.2.2.2.1.1 ?_
    refine G_lsize (pc := 162) dX1_join_162 rfl ht j.1.1 (by omega) (by omega) (by omega) (Nat.le_of_ble_eq_true rfl) ?_
    refine G_icmp_ge (pc := 165) 239 dX1_join_165 (by decide) (by omega) (by omega) (fun _ => ?_) (fun q => absurd q (by omega))
    exact kk h T1 ht hz jf j jn
  | succ m ih =>
    intro k hn h T1 ht hz jf j jn
    have hlen : ns.length ≤ 120 := by rw [j.2.2.2.2]; exact Nat.le_trans (rk_n _) (by omega)
    obtain ⟨a, ea⟩ : ∃ a, a = ns[k] := ⟨_, rfl⟩
    have hget : ns[k]? = some a := by rw [ea]; exact List.getElem?_eq_getElem (by omega)
    have ham : a ∈ ns := List.mem_of_getElem? hget
    have jel := j.2.2.1 a ham
    have ll : (LN a).length ≤ 120 := nodup_len jel.2.2.2 (fun i hi => (jel.2.1 i hi).1.1)
    -- within a node
    have kj : ∀ (q i : Nat), i + q = (LN a).length → ∀ h T1, zT E h T1 → zK E T1 S → jF E T T1 ns LA → jI E S T1 60 HA ND ns NX NY LA LN → jN T1 HA ns LN k i → G E l gX1_join d 600 40440 Q 191 [some (.ref (gBase E)), some (vI k), some (.ref (LA a)), some (vI ((LN a).length : Nat)), some (vI i)] [] h uc us := by
      intro q
      induction q with
      | zero =>
        intro i hi h T1 ht hz jf j jn
        refine G_iload_4 (pc := 191) dX1_join_191 ?_
        refine G_iload_3 (pc := 193) dX1_join_193 ?_
        refine G_icmp_ge (pc := 194) 233 dX1_join_194 (by decide) (by omega) (by omega) (fun _ => ?_) (fun q => absurd q (by omega))
        refine G_iinc_1 (pc := 233) dX1_join_233 (by decide) rfl ?_
        refine G_goto (pc := 236) 157 dX1_join_236 (by decide) ?_
        refine G_drop_2 ?_
        refine G_drop_3 ?_
        refine G_drop_4 ?_
        rw [show ((k : Int) + 1) = ((k + 1 : Nat) : Int) by omega]
        refine ih (k + 1) (by omega) h T1 ht hz jf j (fun k' m jj x hk hm hx => ?_)
        refine jn k' m jj x ?_ hm hx
        rcases hk with hk | hk
        · by_cases e : k' = k
          · subst e
            rw [hget] at hm
            cases hm
            refine Or.inr ⟨rfl, ?_⟩
            have : jj < (LN a).length := by
              rcases Nat.lt_or_ge jj (LN a).length with w | w
              · exact w
              · rw [List.getElem?_eq_none w] at hx; cases hx
            omega
          · exact Or.inl (by omega)
        · omega
      | succ q ihq =>
        intro i hi h T1 ht hz jf j jn
        obtain ⟨x, ex⟩ : ∃ x, x = (LN a)[i] := ⟨_, rfl⟩
        have hx : (LN a)[i]? = some x := by rw [ex]; exact List.getElem?_eq_getElem (by omega)
        have xm := jel.2.1 x (List.mem_of_getElem? hx)
        have hr := prv_get (L := LN a) (j := i) (by omega)
        have rm := jel.2.1 _ (List.mem_of_getElem? hr)
        have nq := j.1.2.1 a ham
        have nl : T1.2 (LA a) = some ((LN a).map HA) := nq.2.1.2
        have fx := j.2.1 x xm.1 (by omega)
        have fr := j.2.1 _ rm.1 (by omega)
        have fb := j.2.1 (zB x) (kLv_B xm.1) (by have := (kLv_B xm.1).1; omega)
        refine G_iload_4 (pc := 191) dX1_join_191 ?_
        refine G_iload_3 (pc := 193) dX1_join_193 ?_
        refine G_icmp_ge (pc := 194) 233 dX1_join_194 (by decide) (by omega) (by omega) (fun q => absurd q (by omega)) (fun _ => ?_)
        refine G_aload_2 (pc := 197) dX1_join_197 ?_
        refine G_iload_4 (pc := 198) dX1_join_198 ?_
        refine G_lget (pc := 200) dX1_join_200 rfl ht nl (by rw [List.getElem?_map, hx]; rfl) (by omega) (by omega) (by omega) (Nat.le_of_ble_eq_true rfl) ?_
        refine G_tcast (pc := 203) dX1_join_203 rfl ht fx.1.1.1 ?_
        refine G_tget (pc := 206) dX1_join_206 rfl ht fx.1.1.1 fx.1.1.2.2.2 ?_
        refine G_aload_2 (pc := 209) dX1_join_209 ?_
        refine G_iload_4 (pc := 210) dX1_join_210 ?_
        refine G_iload_3 (pc := 212) dX1_join_212 ?_
        refine G_iadd (pc := 213) dX1_join_213 ?_
        refine G_iconst (pc := 214) dX1_join_214 ?_
        refine G_isub (pc := 215) dX1_join_215 ?_
        refine G_iload_3 (pc := 216) dX1_join_216 ?_
        refine G_irem (pc := 217) dX1_join_217 (by omega) (by omega) ?_
        rw [show ((i : Int) + ((LN a).length : Nat) - 1) % ((LN a).length : Nat) = (((i + (LN a).length - 1) % (LN a).length : Nat) : Int) by
          rw [show (i : Int) + ((LN a).length : Nat) - 1 = ((i + (LN a).length - 1 : Nat) : Int) by omega]; rfl]
        refine G_lget (pc := 218) dX1_join_218 rfl ht nl (by rw [List.getElem?_map, hr]; rfl) (by omega) (by omega) (by omega) (Nat.le_of_ble_eq_true rfl) ?_
        refine G_tcast (pc := 221) dX1_join_221 rfl ht fr.1.1.1 ?_
        refine G_tput (pc := 224) dX1_join_224 rfl ht fb.1.1.1 (by omega) rfl rfl rfl (fun h ht => ?_)
        refine G_iinc_4 (pc := 227) dX1_join_227 (by decide) rfl ?_
        refine G_goto (pc := 230) 191 dX1_join_230 (by decide) ?_
        rw [show ((i : Int) + 1) = ((i + 1 : Nat) : Int) by omega]
        have nk : ¬ tKd (T1.1 (HA (zB x))).1 := by rw [fb.1.1.1]; exact tKd_o (by omega)
        refine ihq (i + 1) (by omega) h _ ht (zK_cong hz (tK_set (Or.inl nk))) ⟨tK_tr jf.1 (tK_set (Or.inl nk)), jf.2.1, jf.2.2⟩ (jI_3 j hz.2.2.2.2.1.2.1 fb.1.1.1) (fun k' m jj y hk hm hy => ?_)
        have mm := List.mem_of_getElem? hm
        have je := j.2.2.1 m mm
        have ym := je.2.1 y (List.mem_of_getElem? hy)
        by_cases e : y = x
        · subst e
          have em : m = a := by rw [← ym.2.2, ← xm.2.2]
          subst em
          have ej : jj = i := by
            have h1 : jj < (LN m).length := by
              rcases Nat.lt_or_ge jj (LN m).length with w | w
              · exact w
              · rw [List.getElem?_eq_none w] at hy; cases hy
            have nd := List.pairwise_iff_getElem.mp je.2.2.2
            have e1 : (LN m)[jj] = y := by rw [List.getElem?_eq_getElem h1] at hy; exact Option.some.inj hy
            have e2 : (LN m)[i] = y := ex.symm
            rcases Nat.lt_trichotomy jj i with w | w | w
            · exact absurd (by rw [e1, e2]) (nd jj i h1 (by omega) w)
            · exact w
            · exact absurd (by rw [e1, e2]) (nd i jj (by omega) h1 w)
          subst ej
          rw [tSet_v, if_pos ⟨rfl, rfl⟩]
        · have ne : HA (zB y) ≠ HA (zB x) := fun q => e (zB_inj (jH_inj j.2 _ _ ⟨kLv_B ym.1, by have := (kLv_B ym.1).1; omega⟩ ⟨kLv_B xm.1, by have := (kLv_B xm.1).1; omega⟩ q))
          rw [tSet_v, if_neg (fun q => ne q.1)]
          refine jn k' m jj y ?_ hm hy
          rcases hk with hk | ⟨hk, hj⟩
          · exact Or.inl hk
          · by_cases c : jj = i
            · exfalso
              subst hk
              rw [hget] at hm
              cases hm
              subst c
              rw [hx] at hy
              cases hy
              exact e rfl
            · exact Or.inr ⟨hk, by omega⟩
    have nq := j.1.2.1 a ham
    have nl : T1.2 (LA a) = some ((LN a).map HA) := nq.2.1.2
    refine G_iload_1 (pc := 157) dX1_join_157 ?_
    refine G_aload_0 (pc := 158) dX1_join_158 ?_
    refine G_tget (pc := 159) dX1_join_159 rfl ht hz.1 hz.2.2.2.1.1 ?_
    refine G_lsize (pc := 162) dX1_join_162 rfl ht j.1.1 (by omega) (by omega) (by omega) (Nat.le_of_ble_eq_true rfl) ?_
    refine G_icmp_ge (pc := 165) 239 dX1_join_165 (by decide) (by omega) (by omega) (fun q => absurd q (by omega)) (fun _ => ?_)
    refine G_aload_0 (pc := 168) dX1_join_168 ?_
    refine G_tget (pc := 169) dX1_join_169 rfl ht hz.1 hz.2.2.2.1.1 ?_
    refine G_iload_1 (pc := 172) dX1_join_172 ?_
    refine G_lget (pc := 173) dX1_join_173 rfl ht j.1.1 hget (by omega) (by omega) (by omega) (Nat.le_of_ble_eq_true rfl) ?_
    refine G_tcast (pc := 176) dX1_join_176 rfl ht nq.1.1 ?_
    refine G_tget (pc := 179) dX1_join_179 rfl ht nq.1.1 nq.2.1.1 ?_
    refine G_astore_2 (pc := 182) dX1_join_182 (by decide) rfl ?_
    refine G_aload_2 (pc := 183) dX1_join_183 ?_
    refine G_lsize (pc := 184) dX1_join_184 rfl ht nl (by omega) (by omega) (by omega) (Nat.le_of_ble_eq_true rfl) ?_
    rw [List.length_map]
    refine G_istore_3 (pc := 187) dX1_join_187 (by decide) rfl ?_
    refine G_iconst (pc := 188) dX1_join_188 ?_
    refine G_istore_4 (pc := 189) dX1_join_189 (by decide) rfl ?_
    exact kj (LN a).length 0 (by omega) h T1 ht hz jf j jn
/-- joined: nodes, halves, and what goes on from each -/
def jO (E : gV) (S : mS) (T T' : tT) (HA ND : Nat → Nat) (ns : List Nat) (NX NY : Nat → Int) (LA : Nat → Nat) (LN : Nat → List Nat) : Prop := zK E T' S ∧ jF E T T' ns LA ∧ jI E S T' 60 HA ND ns NX NY LA LN ∧ ∀ k, kLv S k → (T'.1 (HA k)).2.2 3 = .ref (HA (nxF LN ND k))
theorem ok_X1_join {h : gH} (ht : zT E h T) (hz : zK E T S) (g : kGd S) {ns0 : List Nat} (hls : T.2 (gBase E + 6) = some ns0) (hd : 9 ≤ d) :
    gOk E l gX1_join d 600 40440 [.ref (gBase E)] h (gRu (fun h' => ∃ T' HA ND ns NX NY LA LN, zT E h' T' ∧ jO E S T T' HA ND ns NX NY LA LN)) := by
  refine gOk_of gmok_X1_join rfl (Nat.le_of_ble_eq_true rfl) (L := [some _, none, none, none, none]) rfl ?_
  obtain ⟨Q, hQ⟩ : ∃ Q, Q = gRet (gRu (fun h' => ∃ T' HA ND ns NX NY LA LN, zT E h' T' ∧ jO E S T T' HA ND ns NX NY LA LN)) := ⟨_, rfl⟩
  rw [← hQ]
  refine G_aload_0 (pc := 0) dX1_join_0 ?_
  refine G_tget (pc := 1) dX1_join_1 rfl ht hz.1 hz.2.2.2.1.1 ?_
  refine G_lclr (pc := 4) dX1_join_4 rfl ht hls (by omega) (by omega) (by omega) (Nat.le_of_ble_eq_true rfl) (fun h ht => ?_)
  refine G_iconst (pc := 7) dX1_join_7 ?_
  refine G_istore_1 (pc := 8) dX1_join_8 (by decide) rfl ?_
  refine jn1 (T := T) hd g ?_ 60 0 rfl h _ (fun _ => 0) (fun _ => 0) [] (fun _ => 0) (fun _ => 0) (fun _ => 0) (fun _ => []) 0 0 ht (zK_ls hz) ?_ ?_ (by omega) (by omega)
  · intro h1 T1 HA ND ns NX NY LA LN uc us ht hz jf j hu hv
    refine G_iconst (pc := 155) dX1_join_155 ?_
    refine G_istore_1 (pc := 156) dX1_join_156 (by decide) rfl ?_
    refine jn2 (T := T) hd g hu hv ?_ ns.length 0 (by omega) h1 T1 ht hz jf j (fun k' m jj i hk => by omega)
    intro h1 T1 ht hz jf j jn
    refine G_return (pc := 239) dX1_join_239 rfl (by omega) (by omega) ?_
    subst hQ
    refine ⟨_, rfl, rfl, T1, HA, ND, ns, NX, NY, LA, LN, ht, hz, jf, j, fun k L => ?_⟩
    have q := j.2.1 (zB k) (kLv_B L) (by have := (kLv_B L).1; omega)
    obtain ⟨k', hk', ek⟩ := List.getElem_of_mem q.2.1
    have hi : (LN (ND (zB k)))[(LN (ND (zB k))).idxOf (zB k)]? = some (zB k) := by
      rw [List.getElem?_eq_getElem (List.idxOf_lt_length_of_mem q.2.2.1), List.getElem_idxOf]
    have := jn k' (ND (zB k)) _ (zB k) (Or.inl hk') (by rw [List.getElem?_eq_getElem hk', ek]) hi
    rw [zB_B] at this
    exact this
  · exact ⟨fun _ _ _ => rfl, fun b hb h6 => tLs_ne _ _ h6, fun i hi => absurd hi (by simp)⟩
  · refine ⟨⟨tLs_self _ _ _, fun m hm => absurd hm (by simp), fun m m' hm => absurd hm (by simp)⟩, fun k _ hk => by omega, fun m hm => absurd hm (by simp), fun k hk => by omega, rfl⟩
end JOIN5
