set_option maxRecDepth 100000
/-! the calculus: classes of objects, by number -/
abbrev gCl : List vw_C := [(RX1, TX1, 14), (RX2, TX2, 16), (RX3, TX3, 5), (RX4, TX4, 3), (RX5, TX5, 2), (RX6, TX6, 3), (RX7, TX7, 3), (RJ2, TJ2, 3), (RJ6, TJ6, 6), (RJ7, TJ7, 6), (RJ14, TJ14, 6)]
def gTy (ci : Nat) : Nat → FieldType := match ci with
  | 0 => tyX1
  | 1 => tyX2
  | 2 => tyX3
  | 3 => tyX4
  | 4 => tyX5
  | 5 => tyX6
  | 6 => tyX7
  | 7 => tyJ2
  | 8 => tyJ6
  | 9 => tyJ7
  | _ => tyJ14
def gOwn (oc : Nat) : String := match oc with
  | 0 => "PlaneFacesLaw"
  | 1 => "PlaneFaces"
  | 2 => "PlaneFacesModel"
  | 3 => "PlaneFaces$Half"
  | 4 => "PlaneFaces$Node"
  | 5 => "PlaneFaces$Round"
  | 6 => "PlaneFaces$Walk"
  | 7 => "PlaneFaces$Face"
  | 8 => "java/util/ArrayList"
  | 9 => "java/util/AbstractList"
  | 10 => "java/util/AbstractCollection"
  | 11 => "java/util/Objects"
  | 12 => "jdk/internal/util/Preconditions"
  | 13 => "jdk/internal/util/ArraysSupport"
  | 14 => "java/util/Arrays"
  | 15 => "java/lang/Math"
  | 16 => "java/lang/Long"
  | _ => "java/lang/Integer"
/-- what is said of a class of objects -/
def gClok (ci : Nat) (q : vw_C) : Prop := (∀ w ∈ u_ws q.1 q.2.1 q.2.2, w ∈ lw_all) ∧ (∀ a, a < q.2.2 → ∀ b, b < q.2.2 → a ≠ b → (q.2.1 a).2.1 ≠ (q.2.1 b).2.1) ∧ (∀ k, k < q.2.2 → parseFieldDescriptor (q.2.1 k).2.2.1 = some (gTy ci k)) ∧ Cond.initialized q.1 ∈ lw_all ∧ Cond.instantiable q.1 q.2.2 ∈ lw_all
theorem gCl_ok : ∀ (ci : Nat) (q : vw_C), gCl[ci]? = some q → gClok ci q := by
  intro ci q hq
  match ci, hq with
  | 0, hq => cases hq; exact ⟨in_X1, nmX1, tyX1_ok, q57, q88⟩
  | 1, hq => cases hq; exact ⟨in_X2, nmX2, tyX2_ok, q61, q1060⟩
  | 2, hq => cases hq; exact ⟨in_X3, nmX3, tyX3_ok, q69, q194⟩
  | 3, hq => cases hq; exact ⟨in_X4, nmX4, tyX4_ok, q72, q218⟩
  | 4, hq => cases hq; exact ⟨in_X5, nmX5, tyX5_ok, q83, q686⟩
  | 5, hq => cases hq; exact ⟨in_X6, nmX6, tyX6_ok, q84, q705⟩
  | 6, hq => cases hq; exact ⟨in_X7, nmX7, tyX7_ok, q85, q748⟩
  | 7, hq => cases hq; exact ⟨in_J2, nmJ2, tyJ2_ok, q60, q96⟩
  | 8, hq => cases hq; exact ⟨in_J6, nmJ6, tyJ6_ok, q65, q612⟩
  | 9, hq => cases hq; exact ⟨in_J7, nmJ7, tyJ7_ok, q66, q887⟩
  | 10, hq => cases hq; exact ⟨in_J14, nmJ14, tyJ14_ok, q76, q366⟩
  | k + 11, hq => simp [gCl] at hq
/-! field links: (own, index) to (class, place) -/
def gFT : List (Nat × Nat × Nat × Nat) := [(1, 7, 0, 1), (1, 13, 0, 2), (1, 17, 0, 3), (1, 20, 0, 4), (1, 23, 0, 5), (1, 29, 0, 7), (1, 35, 0, 8), (1, 39, 0, 9), (1, 42, 0, 10), (1, 45, 0, 11), (1, 50, 0, 13), (1, 95, 0, 0), (1, 106, 0, 6), (1, 235, 0, 12), (7, 12, 6, 0), (7, 18, 6, 1), (3, 7, 2, 0), (3, 13, 2, 1), (3, 17, 2, 2), (4, 10, 3, 2), (4, 16, 3, 0), (4, 20, 3, 1), (5, 7, 4, 0), (6, 7, 5, 0), (6, 13, 5, 1), (6, 16, 5, 2), (2, 7, 1, 1), (2, 13, 1, 2), (2, 17, 1, 3), (2, 20, 1, 5), (2, 23, 1, 6), (2, 26, 1, 9), (2, 29, 1, 10), (2, 32, 1, 11), (2, 36, 1, 13), (2, 39, 1, 14), (2, 42, 1, 15), (2, 45, 1, 0), (2, 76, 1, 4), (2, 95, 1, 8), (2, 101, 1, 7), (2, 118, 1, 12), (9, 7, 7, 0), (8, 9, 7, 1), (8, 48, 7, 2), (8, 63, 7, 0), (1, 120, 3, 0), (1, 123, 3, 1), (1, 143, 2, 2), (1, 147, 2, 1), (1, 155, 3, 2), (1, 157, 2, 3), (1, 160, 2, 4), (1, 198, 4, 1), (1, 229, 6, 1), (1, 241, 4, 0), (1, 244, 2, 0), (1, 280, 6, 0), (1, 309, 6, 2), (7, 22, 4, 1), (3, 21, 3, 0), (3, 26, 3, 1), (5, 34, 2, 1), (5, 38, 3, 0), (5, 44, 3, 1), (5, 47, 2, 2), (5, 56, 2, 0), (6, 20, 2, 3)]
def gF (o i : Nat) : Option (Nat × Nat) := (gFT.find? (fun q => q.1 == o && q.2.1 == i)).map (fun q => q.2.2)
theorem gF_all : (gF 1 7 = some (0, 1)) ∧ (gF 1 13 = some (0, 2)) ∧ (gF 1 17 = some (0, 3)) ∧ (gF 1 20 = some (0, 4)) ∧ (gF 1 23 = some (0, 5)) ∧ (gF 1 29 = some (0, 7)) ∧ (gF 1 35 = some (0, 8)) ∧ (gF 1 39 = some (0, 9)) ∧ (gF 1 42 = some (0, 10)) ∧ (gF 1 45 = some (0, 11)) ∧ (gF 1 50 = some (0, 13)) ∧ (gF 1 95 = some (0, 0)) ∧ (gF 1 106 = some (0, 6)) ∧ (gF 1 235 = some (0, 12)) ∧ (gF 7 12 = some (6, 0)) ∧ (gF 7 18 = some (6, 1)) ∧ (gF 3 7 = some (2, 0)) ∧ (gF 3 13 = some (2, 1)) ∧ (gF 3 17 = some (2, 2)) ∧ (gF 4 10 = some (3, 2)) ∧ (gF 4 16 = some (3, 0)) ∧ (gF 4 20 = some (3, 1)) ∧ (gF 5 7 = some (4, 0)) ∧ (gF 6 7 = some (5, 0)) ∧ (gF 6 13 = some (5, 1)) ∧ (gF 6 16 = some (5, 2)) ∧ (gF 2 7 = some (1, 1)) ∧ (gF 2 13 = some (1, 2)) ∧ (gF 2 17 = some (1, 3)) ∧ (gF 2 20 = some (1, 5)) ∧ (gF 2 23 = some (1, 6)) ∧ (gF 2 26 = some (1, 9)) ∧ (gF 2 29 = some (1, 10)) ∧ (gF 2 32 = some (1, 11)) ∧ (gF 2 36 = some (1, 13)) ∧ (gF 2 39 = some (1, 14)) ∧ (gF 2 42 = some (1, 15)) ∧ (gF 2 45 = some (1, 0)) ∧ (gF 2 76 = some (1, 4)) ∧ (gF 2 95 = some (1, 8)) ∧ (gF 2 101 = some (1, 7)) ∧ (gF 2 118 = some (1, 12)) ∧ (gF 9 7 = some (7, 0)) ∧ (gF 8 9 = some (7, 1)) ∧ (gF 8 48 = some (7, 2)) ∧ (gF 8 63 = some (7, 0)) ∧ (gF 1 120 = some (3, 0)) ∧ (gF 1 123 = some (3, 1)) ∧ (gF 1 143 = some (2, 2)) ∧ (gF 1 147 = some (2, 1)) ∧ (gF 1 155 = some (3, 2)) ∧ (gF 1 157 = some (2, 3)) ∧ (gF 1 160 = some (2, 4)) ∧ (gF 1 198 = some (4, 1)) ∧ (gF 1 229 = some (6, 1)) ∧ (gF 1 241 = some (4, 0)) ∧ (gF 1 244 = some (2, 0)) ∧ (gF 1 280 = some (6, 0)) ∧ (gF 1 309 = some (6, 2)) ∧ (gF 7 22 = some (4, 1)) ∧ (gF 3 21 = some (3, 0)) ∧ (gF 3 26 = some (3, 1)) ∧ (gF 5 34 = some (2, 1)) ∧ (gF 5 38 = some (3, 0)) ∧ (gF 5 44 = some (3, 1)) ∧ (gF 5 47 = some (2, 2)) ∧ (gF 5 56 = some (2, 0)) ∧ (gF 6 20 = some (2, 3)) := ⟨rfl, rfl, rfl, rfl, rfl, rfl, rfl, rfl, rfl, rfl, rfl, rfl, rfl, rfl, rfl, rfl, rfl, rfl, rfl, rfl, rfl, rfl, rfl, rfl, rfl, rfl, rfl, rfl, rfl, rfl, rfl, rfl, rfl, rfl, rfl, rfl, rfl, rfl, rfl, rfl, rfl, rfl, rfl, rfl, rfl, rfl, rfl, rfl, rfl, rfl, rfl, rfl, rfl, rfl, rfl, rfl, rfl, rfl, rfl, rfl, rfl, rfl, rfl, rfl, rfl, rfl, rfl, rfl⟩
/-- the words of nest mates, which do not ride in the lists -/
def gNest : List Cond := [(Jvm.Cond.fieldLinkNest "PlaneFaces" (120 : Nat) "PlaneFaces$Node" "x" "I" "PlaneFaces"),
  (Jvm.Cond.fieldLinkNest "PlaneFaces" (123 : Nat) "PlaneFaces$Node" "y" "I" "PlaneFaces"),
  (Jvm.Cond.fieldLinkNest "PlaneFaces" (143 : Nat) "PlaneFaces$Half" "twin" "LPlaneFaces$Half;" "PlaneFaces"),
  (Jvm.Cond.fieldLinkNest "PlaneFaces" (147 : Nat) "PlaneFaces$Half" "from" "LPlaneFaces$Node;" "PlaneFaces"),
  (Jvm.Cond.fieldLinkNest "PlaneFaces" (155 : Nat) "PlaneFaces$Node" "halves" "Ljava/util/ArrayList;" "PlaneFaces"),
  (Jvm.Cond.fieldLinkNest "PlaneFaces" (157 : Nat) "PlaneFaces$Half" "next" "LPlaneFaces$Half;" "PlaneFaces"),
  (Jvm.Cond.fieldLinkNest "PlaneFaces" (160 : Nat) "PlaneFaces$Half" "round" "LPlaneFaces$Round;" "PlaneFaces"),
  (Jvm.Cond.fieldLinkNest "PlaneFaces" (198 : Nat) "PlaneFaces$Round" "face" "LPlaneFaces$Face;" "PlaneFaces"),
  (Jvm.Cond.fieldLinkNest "PlaneFaces" (229 : Nat) "PlaneFaces$Face" "least" "I" "PlaneFaces"),
  (Jvm.Cond.fieldLinkNest "PlaneFaces" (241 : Nat) "PlaneFaces$Round" "first" "LPlaneFaces$Half;" "PlaneFaces"),
  (Jvm.Cond.fieldLinkNest "PlaneFaces" (244 : Nat) "PlaneFaces$Half" "number" "I" "PlaneFaces"),
  (Jvm.Cond.fieldLinkNest "PlaneFaces" (280 : Nat) "PlaneFaces$Face" "rounds" "Ljava/util/ArrayList;" "PlaneFaces"),
  (Jvm.Cond.fieldLinkNest "PlaneFaces" (309 : Nat) "PlaneFaces$Face" "distance" "I" "PlaneFaces"),
  (Jvm.Cond.fieldLinkNest "PlaneFaces$Face" (22 : Nat) "PlaneFaces$Round" "face" "LPlaneFaces$Face;" "PlaneFaces"),
  (Jvm.Cond.fieldLinkNest "PlaneFaces$Half" (21 : Nat) "PlaneFaces$Node" "x" "I" "PlaneFaces"),
  (Jvm.Cond.fieldLinkNest "PlaneFaces$Half" (26 : Nat) "PlaneFaces$Node" "y" "I" "PlaneFaces"),
  (Jvm.Cond.fieldLinkNest "PlaneFaces$Round" (34 : Nat) "PlaneFaces$Half" "from" "LPlaneFaces$Node;" "PlaneFaces"),
  (Jvm.Cond.fieldLinkNest "PlaneFaces$Round" (38 : Nat) "PlaneFaces$Node" "x" "I" "PlaneFaces"),
  (Jvm.Cond.fieldLinkNest "PlaneFaces$Round" (44 : Nat) "PlaneFaces$Node" "y" "I" "PlaneFaces"),
  (Jvm.Cond.fieldLinkNest "PlaneFaces$Round" (47 : Nat) "PlaneFaces$Half" "twin" "LPlaneFaces$Half;" "PlaneFaces"),
  (Jvm.Cond.fieldLinkNest "PlaneFaces$Round" (56 : Nat) "PlaneFaces$Half" "number" "I" "PlaneFaces"),
  (Jvm.Cond.fieldLinkNest "PlaneFaces$Walk" (20 : Nat) "PlaneFaces$Half" "next" "LPlaneFaces$Half;" "PlaneFaces"),
  (Jvm.Cond.methodLinkNest "PlaneFaces" (211 : Nat) ({ cls := "PlaneFaces$Face", name := "<init>", desc := "()V" } : Jvm.MethodName) "PlaneFaces"),
  (Jvm.Cond.methodLinkNest "PlaneFaces$Half" (40 : Nat) ({ cls := "PlaneFaces", name := "cross", desc := "(JJJJ)J" } : Jvm.MethodName) "PlaneFaces"),
  (Jvm.Cond.methodLinkNest "PlaneFaces$Round" (50 : Nat) ({ cls := "PlaneFaces", name := "cross", desc := "(JJJJ)J" } : Jvm.MethodName) "PlaneFaces")]
theorem gNest_in : ∀ w ∈ gNest, w ∈ lw_tbl := by
  intro w hw
  simp only [gNest, List.mem_cons, List.not_mem_nil, or_false] at hw
  rcases hw with rfl | rfl | rfl | rfl | rfl | rfl | rfl | rfl | rfl | rfl | rfl | rfl | rfl | rfl | rfl | rfl | rfl | rfl | rfl | rfl | rfl | rfl | rfl | rfl | rfl
  · exact q228
  · exact q232
  · exact q315
  · exact q312
  · exact q234
  · exact q317
  · exact q318
  · exact q694
  · exact q758
  · exact q692
  · exact q309
  · exact q756
  · exact q759
  · exact q693
  · exact q226
  · exact q230
  · exact q311
  · exact q227
  · exact q231
  · exact q314
  · exact q308
  · exact q316
  · exact q749
  · exact q354
  · exact q777
def gNestish (w : Cond) : Bool := match w with | .fieldLinkNest .. => true | .methodLinkNest .. => true | _ => false
theorem gNest_ish : ∀ w ∈ gNest, gNestish w = true := by decide +kernel
def gFok (o i ci k : Nat) : Prop := ∃ q : vw_C, gCl[ci]? = some q ∧ k < q.2.2 ∧ ((∃ ref, Cond.fieldLink (gOwn o) i ref (q.2.1 k).2.1 (q.2.1 k).2.2.1 ∈ lw_all ∧ (ref = (q.2.1 k).1 ∨ Cond.sameField ref (q.2.1 k).1 (q.2.1 k).2.1 (q.2.1 k).2.2.1 ∈ lw_all)) ∨ ∃ host, Cond.fieldLinkNest (gOwn o) i (q.2.1 k).1 (q.2.1 k).2.1 (q.2.1 k).2.2.1 host ∈ gNest)
theorem gf_0 : gFok 1 7 0 1 := ⟨(RX1, TX1, 14), rfl, by decide, Or.inl ⟨"PlaneFaces", q128, Or.inl rfl⟩⟩
theorem gf_1 : gFok 1 13 0 2 := ⟨(RX1, TX1, 14), rfl, by decide, Or.inl ⟨"PlaneFaces", q129, Or.inl rfl⟩⟩
theorem gf_2 : gFok 1 17 0 3 := ⟨(RX1, TX1, 14), rfl, by decide, Or.inl ⟨"PlaneFaces", q130, Or.inl rfl⟩⟩
theorem gf_3 : gFok 1 20 0 4 := ⟨(RX1, TX1, 14), rfl, by decide, Or.inl ⟨"PlaneFaces", q131, Or.inl rfl⟩⟩
theorem gf_4 : gFok 1 23 0 5 := ⟨(RX1, TX1, 14), rfl, by decide, Or.inl ⟨"PlaneFaces", q132, Or.inl rfl⟩⟩
theorem gf_5 : gFok 1 29 0 7 := ⟨(RX1, TX1, 14), rfl, by decide, Or.inl ⟨"PlaneFaces", q134, Or.inl rfl⟩⟩
theorem gf_6 : gFok 1 35 0 8 := ⟨(RX1, TX1, 14), rfl, by decide, Or.inl ⟨"PlaneFaces", q135, Or.inl rfl⟩⟩
theorem gf_7 : gFok 1 39 0 9 := ⟨(RX1, TX1, 14), rfl, by decide, Or.inl ⟨"PlaneFaces", q136, Or.inl rfl⟩⟩
theorem gf_8 : gFok 1 42 0 10 := ⟨(RX1, TX1, 14), rfl, by decide, Or.inl ⟨"PlaneFaces", q137, Or.inl rfl⟩⟩
theorem gf_9 : gFok 1 45 0 11 := ⟨(RX1, TX1, 14), rfl, by decide, Or.inl ⟨"PlaneFaces", q138, Or.inl rfl⟩⟩
theorem gf_10 : gFok 1 50 0 13 := ⟨(RX1, TX1, 14), rfl, by decide, Or.inl ⟨"PlaneFaces", q140, Or.inl rfl⟩⟩
theorem gf_11 : gFok 1 95 0 0 := ⟨(RX1, TX1, 14), rfl, by decide, Or.inl ⟨"PlaneFaces", q127, Or.inl rfl⟩⟩
theorem gf_12 : gFok 1 106 0 6 := ⟨(RX1, TX1, 14), rfl, by decide, Or.inl ⟨"PlaneFaces", q133, Or.inl rfl⟩⟩
theorem gf_13 : gFok 1 235 0 12 := ⟨(RX1, TX1, 14), rfl, by decide, Or.inl ⟨"PlaneFaces", q139, Or.inl rfl⟩⟩
theorem gf_14 : gFok 7 12 6 0 := ⟨(RX7, TX7, 3), rfl, by decide, Or.inl ⟨"PlaneFaces$Face", q755, Or.inl rfl⟩⟩
theorem gf_15 : gFok 7 18 6 1 := ⟨(RX7, TX7, 3), rfl, by decide, Or.inl ⟨"PlaneFaces$Face", q757, Or.inl rfl⟩⟩
theorem gf_16 : gFok 3 7 2 0 := ⟨(RX3, TX3, 5), rfl, by decide, Or.inl ⟨"PlaneFaces$Half", q307, Or.inl rfl⟩⟩
theorem gf_17 : gFok 3 13 2 1 := ⟨(RX3, TX3, 5), rfl, by decide, Or.inl ⟨"PlaneFaces$Half", q310, Or.inl rfl⟩⟩
theorem gf_18 : gFok 3 17 2 2 := ⟨(RX3, TX3, 5), rfl, by decide, Or.inl ⟨"PlaneFaces$Half", q313, Or.inl rfl⟩⟩
theorem gf_19 : gFok 4 10 3 2 := ⟨(RX4, TX4, 3), rfl, by decide, Or.inl ⟨"PlaneFaces$Node", q233, Or.inl rfl⟩⟩
theorem gf_20 : gFok 4 16 3 0 := ⟨(RX4, TX4, 3), rfl, by decide, Or.inl ⟨"PlaneFaces$Node", q225, Or.inl rfl⟩⟩
theorem gf_21 : gFok 4 20 3 1 := ⟨(RX4, TX4, 3), rfl, by decide, Or.inl ⟨"PlaneFaces$Node", q229, Or.inl rfl⟩⟩
theorem gf_22 : gFok 5 7 4 0 := ⟨(RX5, TX5, 2), rfl, by decide, Or.inl ⟨"PlaneFaces$Round", q691, Or.inl rfl⟩⟩
theorem gf_23 : gFok 6 7 5 0 := ⟨(RX6, TX6, 3), rfl, by decide, Or.inl ⟨"PlaneFaces$Walk", q710, Or.inl rfl⟩⟩
theorem gf_24 : gFok 6 13 5 1 := ⟨(RX6, TX6, 3), rfl, by decide, Or.inl ⟨"PlaneFaces$Walk", q711, Or.inl rfl⟩⟩
theorem gf_25 : gFok 6 16 5 2 := ⟨(RX6, TX6, 3), rfl, by decide, Or.inl ⟨"PlaneFaces$Walk", q712, Or.inl rfl⟩⟩
theorem gf_26 : gFok 2 7 1 1 := ⟨(RX2, TX2, 16), rfl, by decide, Or.inl ⟨"PlaneFacesModel", q1066, Or.inl rfl⟩⟩
theorem gf_27 : gFok 2 13 1 2 := ⟨(RX2, TX2, 16), rfl, by decide, Or.inl ⟨"PlaneFacesModel", q1067, Or.inl rfl⟩⟩
theorem gf_28 : gFok 2 17 1 3 := ⟨(RX2, TX2, 16), rfl, by decide, Or.inl ⟨"PlaneFacesModel", q1068, Or.inl rfl⟩⟩
theorem gf_29 : gFok 2 20 1 5 := ⟨(RX2, TX2, 16), rfl, by decide, Or.inl ⟨"PlaneFacesModel", q1070, Or.inl rfl⟩⟩
theorem gf_30 : gFok 2 23 1 6 := ⟨(RX2, TX2, 16), rfl, by decide, Or.inl ⟨"PlaneFacesModel", q1071, Or.inl rfl⟩⟩
theorem gf_31 : gFok 2 26 1 9 := ⟨(RX2, TX2, 16), rfl, by decide, Or.inl ⟨"PlaneFacesModel", q1074, Or.inl rfl⟩⟩
theorem gf_32 : gFok 2 29 1 10 := ⟨(RX2, TX2, 16), rfl, by decide, Or.inl ⟨"PlaneFacesModel", q1075, Or.inl rfl⟩⟩
theorem gf_33 : gFok 2 32 1 11 := ⟨(RX2, TX2, 16), rfl, by decide, Or.inl ⟨"PlaneFacesModel", q1076, Or.inl rfl⟩⟩
theorem gf_34 : gFok 2 36 1 13 := ⟨(RX2, TX2, 16), rfl, by decide, Or.inl ⟨"PlaneFacesModel", q1078, Or.inl rfl⟩⟩
theorem gf_35 : gFok 2 39 1 14 := ⟨(RX2, TX2, 16), rfl, by decide, Or.inl ⟨"PlaneFacesModel", q1079, Or.inl rfl⟩⟩
theorem gf_36 : gFok 2 42 1 15 := ⟨(RX2, TX2, 16), rfl, by decide, Or.inl ⟨"PlaneFacesModel", q1080, Or.inl rfl⟩⟩
theorem gf_37 : gFok 2 45 1 0 := ⟨(RX2, TX2, 16), rfl, by decide, Or.inl ⟨"PlaneFacesModel", q1065, Or.inl rfl⟩⟩
theorem gf_38 : gFok 2 76 1 4 := ⟨(RX2, TX2, 16), rfl, by decide, Or.inl ⟨"PlaneFacesModel", q1069, Or.inl rfl⟩⟩
theorem gf_39 : gFok 2 95 1 8 := ⟨(RX2, TX2, 16), rfl, by decide, Or.inl ⟨"PlaneFacesModel", q1073, Or.inl rfl⟩⟩
theorem gf_40 : gFok 2 101 1 7 := ⟨(RX2, TX2, 16), rfl, by decide, Or.inl ⟨"PlaneFacesModel", q1072, Or.inl rfl⟩⟩
theorem gf_41 : gFok 2 118 1 12 := ⟨(RX2, TX2, 16), rfl, by decide, Or.inl ⟨"PlaneFacesModel", q1077, Or.inl rfl⟩⟩
theorem gf_42 : gFok 9 7 7 0 := ⟨(RJ2, TJ2, 3), rfl, by decide, Or.inl ⟨"java/util/AbstractList", q111, Or.inl rfl⟩⟩
theorem gf_43 : gFok 8 9 7 1 := ⟨(RJ2, TJ2, 3), rfl, by decide, Or.inl ⟨"java/util/ArrayList", q109, Or.inl rfl⟩⟩
theorem gf_44 : gFok 8 48 7 2 := ⟨(RJ2, TJ2, 3), rfl, by decide, Or.inl ⟨"java/util/ArrayList", q110, Or.inl rfl⟩⟩
theorem gf_45 : gFok 8 63 7 0 := ⟨(RJ2, TJ2, 3), rfl, by decide, Or.inl ⟨"java/util/ArrayList", q112, Or.inr q113⟩⟩
theorem gf_46 : gFok 1 120 3 0 := ⟨(RX4, TX4, 3), rfl, by decide, Or.inr ⟨"PlaneFaces", List.mem_of_getElem? (i := 0) rfl⟩⟩
theorem gf_47 : gFok 1 123 3 1 := ⟨(RX4, TX4, 3), rfl, by decide, Or.inr ⟨"PlaneFaces", List.mem_of_getElem? (i := 1) rfl⟩⟩
theorem gf_48 : gFok 1 143 2 2 := ⟨(RX3, TX3, 5), rfl, by decide, Or.inr ⟨"PlaneFaces", List.mem_of_getElem? (i := 2) rfl⟩⟩
theorem gf_49 : gFok 1 147 2 1 := ⟨(RX3, TX3, 5), rfl, by decide, Or.inr ⟨"PlaneFaces", List.mem_of_getElem? (i := 3) rfl⟩⟩
theorem gf_50 : gFok 1 155 3 2 := ⟨(RX4, TX4, 3), rfl, by decide, Or.inr ⟨"PlaneFaces", List.mem_of_getElem? (i := 4) rfl⟩⟩
theorem gf_51 : gFok 1 157 2 3 := ⟨(RX3, TX3, 5), rfl, by decide, Or.inr ⟨"PlaneFaces", List.mem_of_getElem? (i := 5) rfl⟩⟩
theorem gf_52 : gFok 1 160 2 4 := ⟨(RX3, TX3, 5), rfl, by decide, Or.inr ⟨"PlaneFaces", List.mem_of_getElem? (i := 6) rfl⟩⟩
theorem gf_53 : gFok 1 198 4 1 := ⟨(RX5, TX5, 2), rfl, by decide, Or.inr ⟨"PlaneFaces", List.mem_of_getElem? (i := 7) rfl⟩⟩
theorem gf_54 : gFok 1 229 6 1 := ⟨(RX7, TX7, 3), rfl, by decide, Or.inr ⟨"PlaneFaces", List.mem_of_getElem? (i := 8) rfl⟩⟩
theorem gf_55 : gFok 1 241 4 0 := ⟨(RX5, TX5, 2), rfl, by decide, Or.inr ⟨"PlaneFaces", List.mem_of_getElem? (i := 9) rfl⟩⟩
theorem gf_56 : gFok 1 244 2 0 := ⟨(RX3, TX3, 5), rfl, by decide, Or.inr ⟨"PlaneFaces", List.mem_of_getElem? (i := 10) rfl⟩⟩
theorem gf_57 : gFok 1 280 6 0 := ⟨(RX7, TX7, 3), rfl, by decide, Or.inr ⟨"PlaneFaces", List.mem_of_getElem? (i := 11) rfl⟩⟩
theorem gf_58 : gFok 1 309 6 2 := ⟨(RX7, TX7, 3), rfl, by decide, Or.inr ⟨"PlaneFaces", List.mem_of_getElem? (i := 12) rfl⟩⟩
theorem gf_59 : gFok 7 22 4 1 := ⟨(RX5, TX5, 2), rfl, by decide, Or.inr ⟨"PlaneFaces", List.mem_of_getElem? (i := 13) rfl⟩⟩
theorem gf_60 : gFok 3 21 3 0 := ⟨(RX4, TX4, 3), rfl, by decide, Or.inr ⟨"PlaneFaces", List.mem_of_getElem? (i := 14) rfl⟩⟩
theorem gf_61 : gFok 3 26 3 1 := ⟨(RX4, TX4, 3), rfl, by decide, Or.inr ⟨"PlaneFaces", List.mem_of_getElem? (i := 15) rfl⟩⟩
theorem gf_62 : gFok 5 34 2 1 := ⟨(RX3, TX3, 5), rfl, by decide, Or.inr ⟨"PlaneFaces", List.mem_of_getElem? (i := 16) rfl⟩⟩
theorem gf_63 : gFok 5 38 3 0 := ⟨(RX4, TX4, 3), rfl, by decide, Or.inr ⟨"PlaneFaces", List.mem_of_getElem? (i := 17) rfl⟩⟩
theorem gf_64 : gFok 5 44 3 1 := ⟨(RX4, TX4, 3), rfl, by decide, Or.inr ⟨"PlaneFaces", List.mem_of_getElem? (i := 18) rfl⟩⟩
theorem gf_65 : gFok 5 47 2 2 := ⟨(RX3, TX3, 5), rfl, by decide, Or.inr ⟨"PlaneFaces", List.mem_of_getElem? (i := 19) rfl⟩⟩
theorem gf_66 : gFok 5 56 2 0 := ⟨(RX3, TX3, 5), rfl, by decide, Or.inr ⟨"PlaneFaces", List.mem_of_getElem? (i := 20) rfl⟩⟩
theorem gf_67 : gFok 6 20 2 3 := ⟨(RX3, TX3, 5), rfl, by decide, Or.inr ⟨"PlaneFaces", List.mem_of_getElem? (i := 21) rfl⟩⟩
theorem gF_ok {o i ci k : Nat} (h : gF o i = some (ci, k)) : gFok o i ci k := by
  unfold gF at h
  obtain ⟨q, hq, e⟩ := Option.map_eq_some_iff.mp h
  have hm := List.mem_of_find?_eq_some hq
  have hp := List.find?_some hq
  simp only [Bool.and_eq_true, beq_iff_eq] at hp
  obtain ⟨rfl, rfl⟩ := hp
  obtain ⟨a, b, c, d⟩ := q
  cases e
  simp only [gFT, List.mem_cons, List.not_mem_nil, or_false] at hm
  rcases hm with h | h | h | h | h | h | h | h | h | h | h | h | h | h | h | h | h | h | h | h | h | h | h | h | h | h | h | h | h | h | h | h | h | h | h | h | h | h | h | h | h | h | h | h | h | h | h | h | h | h | h | h | h | h | h | h | h | h | h | h | h | h | h | h | h | h | h | h <;> cases h
  · exact gf_0
  · exact gf_1
  · exact gf_2
  · exact gf_3
  · exact gf_4
  · exact gf_5
  · exact gf_6
  · exact gf_7
  · exact gf_8
  · exact gf_9
  · exact gf_10
  · exact gf_11
  · exact gf_12
  · exact gf_13
  · exact gf_14
  · exact gf_15
  · exact gf_16
  · exact gf_17
  · exact gf_18
  · exact gf_19
  · exact gf_20
  · exact gf_21
  · exact gf_22
  · exact gf_23
  · exact gf_24
  · exact gf_25
  · exact gf_26
  · exact gf_27
  · exact gf_28
  · exact gf_29
  · exact gf_30
  · exact gf_31
  · exact gf_32
  · exact gf_33
  · exact gf_34
  · exact gf_35
  · exact gf_36
  · exact gf_37
  · exact gf_38
  · exact gf_39
  · exact gf_40
  · exact gf_41
  · exact gf_42
  · exact gf_43
  · exact gf_44
  · exact gf_45
  · exact gf_46
  · exact gf_47
  · exact gf_48
  · exact gf_49
  · exact gf_50
  · exact gf_51
  · exact gf_52
  · exact gf_53
  · exact gf_54
  · exact gf_55
  · exact gf_56
  · exact gf_57
  · exact gf_58
  · exact gf_59
  · exact gf_60
  · exact gf_61
  · exact gf_62
  · exact gf_63
  · exact gf_64
  · exact gf_65
  · exact gf_66
  · exact gf_67
/-! class links: (own, index) to a class of objects -/
def gKT : List (Nat × Nat × Nat) := [(1, 26, 7), (1, 33, 2), (1, 48, 4), (1, 54, 8), (1, 99, 9), (1, 118, 3), (1, 209, 6), (1, 262, 10), (7, 9, 7), (7, 23, 4), (4, 7, 7), (4, 31, 2), (5, 13, 5), (5, 32, 2), (0, 8, 0), (0, 13, 8), (0, 15, 9), (0, 21, 10), (0, 53, 1), (8, 187, 10), (14, 43, 8)]
def gKl (o i : Nat) : Option Nat := (gKT.find? (fun q => q.1 == o && q.2.1 == i)).map (fun q => q.2.2)
theorem gKl_all : (gKl 1 26 = some 7) ∧ (gKl 1 33 = some 2) ∧ (gKl 1 48 = some 4) ∧ (gKl 1 54 = some 8) ∧ (gKl 1 99 = some 9) ∧ (gKl 1 118 = some 3) ∧ (gKl 1 209 = some 6) ∧ (gKl 1 262 = some 10) ∧ (gKl 7 9 = some 7) ∧ (gKl 7 23 = some 4) ∧ (gKl 4 7 = some 7) ∧ (gKl 4 31 = some 2) ∧ (gKl 5 13 = some 5) ∧ (gKl 5 32 = some 2) ∧ (gKl 0 8 = some 0) ∧ (gKl 0 13 = some 8) ∧ (gKl 0 15 = some 9) ∧ (gKl 0 21 = some 10) ∧ (gKl 0 53 = some 1) ∧ (gKl 8 187 = some 10) ∧ (gKl 14 43 = some 8) := ⟨rfl, rfl, rfl, rfl, rfl, rfl, rfl, rfl, rfl, rfl, rfl, rfl, rfl, rfl, rfl, rfl, rfl, rfl, rfl, rfl, rfl⟩
def gKlok (o i ci : Nat) : Prop := ∃ q : vw_C, gCl[ci]? = some q ∧ Cond.classLink (gOwn o) i q.1 ∈ lw_all
theorem gk_0 : gKlok 1 26 7 := ⟨(RJ2, TJ2, 3), rfl, q95⟩
theorem gk_1 : gKlok 1 33 2 := ⟨(RX3, TX3, 5), rfl, q123⟩
theorem gk_2 : gKlok 1 48 4 := ⟨(RX5, TX5, 2), rfl, q125⟩
theorem gk_3 : gKlok 1 54 8 := ⟨(RJ6, TJ6, 6), rfl, q875⟩
theorem gk_4 : gKlok 1 99 9 := ⟨(RJ7, TJ7, 6), rfl, q886⟩
theorem gk_5 : gKlok 1 118 3 := ⟨(RX4, TX4, 3), rfl, q217⟩
theorem gk_6 : gKlok 1 209 6 := ⟨(RX7, TX7, 3), rfl, q747⟩
theorem gk_7 : gKlok 1 262 10 := ⟨(RJ14, TJ14, 6), rfl, q940⟩
theorem gk_8 : gKlok 7 9 7 := ⟨(RJ2, TJ2, 3), rfl, q753⟩
theorem gk_9 : gKlok 7 23 4 := ⟨(RX5, TX5, 2), rfl, q994⟩
theorem gk_10 : gKlok 4 7 7 := ⟨(RJ2, TJ2, 3), rfl, q223⟩
theorem gk_11 : gKlok 4 31 2 := ⟨(RX3, TX3, 5), rfl, q336⟩
theorem gk_12 : gKlok 5 13 5 := ⟨(RX6, TX6, 3), rfl, q704⟩
theorem gk_13 : gKlok 5 32 2 := ⟨(RX3, TX3, 5), rfl, q776⟩
theorem gk_14 : gKlok 0 8 0 := ⟨(RX1, TX1, 14), rfl, q87⟩
theorem gk_15 : gKlok 0 13 8 := ⟨(RJ6, TJ6, 6), rfl, q863⟩
theorem gk_16 : gKlok 0 15 9 := ⟨(RJ7, TJ7, 6), rfl, q864⟩
theorem gk_17 : gKlok 0 21 10 := ⟨(RJ14, TJ14, 6), rfl, q916⟩
theorem gk_18 : gKlok 0 53 1 := ⟨(RX2, TX2, 16), rfl, q1059⟩
theorem gk_19 : gKlok 8 187 10 := ⟨(RJ14, TJ14, 6), rfl, q365⟩
theorem gk_20 : gKlok 14 43 8 := ⟨(RJ6, TJ6, 6), rfl, q611⟩
theorem gKl_ok {o i ci : Nat} (h : gKl o i = some ci) : gKlok o i ci := by
  unfold gKl at h
  obtain ⟨q, hq, e⟩ := Option.map_eq_some_iff.mp h
  have hm := List.mem_of_find?_eq_some hq
  have hp := List.find?_some hq
  simp only [Bool.and_eq_true, beq_iff_eq] at hp
  obtain ⟨rfl, rfl⟩ := hp
  obtain ⟨a, b, c⟩ := q
  cases e
  simp only [gKT, List.mem_cons, List.not_mem_nil, or_false] at hm
  rcases hm with h | h | h | h | h | h | h | h | h | h | h | h | h | h | h | h | h | h | h | h | h <;> cases h
  · exact gk_0
  · exact gk_1
  · exact gk_2
  · exact gk_3
  · exact gk_4
  · exact gk_5
  · exact gk_6
  · exact gk_7
  · exact gk_8
  · exact gk_9
  · exact gk_10
  · exact gk_11
  · exact gk_12
  · exact gk_13
  · exact gk_14
  · exact gk_15
  · exact gk_16
  · exact gk_17
  · exact gk_18
  · exact gk_19
  · exact gk_20
/-! callees: (own, index) to (kind, method); kind 0: through an object of the very class, 1: static, 2: constructor, 3: nest static, 4: nest constructor -/
abbrev gM : Type := MethodName × ByteArray × Nat × Option FieldType × Nat × Nat
abbrev gX1_init : gM := (⟨"PlaneFaces", "<init>", "()V"⟩, prog_1_method_2_code, 1, (Option.none : Option FieldType), 1, 0)
abbrev gX1_above : gM := (⟨"PlaneFaces", "above", "(II)I"⟩, prog_1_method_46_code, 5, (Option.some FieldType.int), 1, 2)
abbrev gX1_across : gM := (⟨"PlaneFaces", "across", "(II)I"⟩, prog_1_method_47_code, 7, (Option.some FieldType.int), 1, 2)
abbrev gX1_add : gM := (⟨"PlaneFaces", "add", "(IIII)I"⟩, prog_1_method_9_code, 7, (Option.some FieldType.int), 1, 4)
abbrev gX1_area : gM := (⟨"PlaneFaces", "area", "(I)I"⟩, prog_1_method_37_code, 3, (Option.some FieldType.int), 1, 1)
abbrev gX1_argue : gM := (⟨"PlaneFaces", "argue", "(Z)V"⟩, prog_1_method_3_code, 1, (Option.none : Option FieldType), 1, 1)
abbrev gX1_around : gM := (⟨"PlaneFaces", "around", "(I)I"⟩, prog_1_method_36_code, 2, (Option.some FieldType.int), 1, 1)
abbrev gX1_begins : gM := (⟨"PlaneFaces", "begins", "(IZ)I"⟩, prog_1_method_32_code, 4, (Option.some FieldType.int), 1, 2)
abbrev gX1_border : gM := (⟨"PlaneFaces", "border", "(II)I"⟩, prog_1_method_40_code, 4, (Option.some FieldType.int), 1, 2)
abbrev gX1_bridges : gM := (⟨"PlaneFaces", "bridges", "()I"⟩, prog_1_method_30_code, 3, (Option.some FieldType.int), 1, 0)
abbrev gX1_clear : gM := (⟨"PlaneFaces", "clear", "()I"⟩, prog_1_method_11_code, 3, (Option.some FieldType.int), 1, 0)
abbrev gX1_compare : gM := (⟨"PlaneFaces", "compare", "(III)I"⟩, prog_1_method_15_code, 14, (Option.some FieldType.int), 1, 3)
abbrev gX1_count : gM := (⟨"PlaneFaces", "count", "(I)I"⟩, prog_1_method_31_code, 2, (Option.some FieldType.int), 1, 1)
abbrev gX1_cross : gM := (⟨"PlaneFaces", "cross", "(JJJJ)J"⟩, prog_1_method_1_code, 8, (Option.some FieldType.long), 1, 4)
abbrev gX1_face : gM := (⟨"PlaneFaces", "face", "(I)I"⟩, prog_1_method_34_code, 2, (Option.some FieldType.int), 1, 1)
abbrev gX1_faceAround : gM := (⟨"PlaneFaces", "faceAround", "(LPlaneFaces$Round;)LPlaneFaces$Face;"⟩, prog_1_method_21_code, 5, (Option.some (FieldType.object "PlaneFaces$Face")), 1, 1)
abbrev gX1_faceAt : gM := (⟨"PlaneFaces", "faceAt", "(I)LPlaneFaces$Face;"⟩, prog_1_method_29_code, 2, (Option.some (FieldType.object "PlaneFaces$Face")), 1, 1)
abbrev gX1_findFaces : gM := (⟨"PlaneFaces", "findFaces", "()V"⟩, prog_1_method_22_code, 3, (Option.none : Option FieldType), 1, 0)
abbrev gX1_findPieces : gM := (⟨"PlaneFaces", "findPieces", "()V"⟩, prog_1_method_24_code, 3, (Option.none : Option FieldType), 1, 0)
abbrev gX1_goRound : gM := (⟨"PlaneFaces", "goRound", "()V"⟩, prog_1_method_14_code, 5, (Option.none : Option FieldType), 1, 0)
abbrev gX1_half : gM := (⟨"PlaneFaces", "half", "(I)LPlaneFaces$Half;"⟩, prog_1_method_28_code, 2, (Option.some (FieldType.object "PlaneFaces$Half")), 1, 1)
abbrev gX1_halfBelow : gM := (⟨"PlaneFaces", "halfBelow", "(II)LPlaneFaces$Half;"⟩, prog_1_method_20_code, 5, (Option.some (FieldType.object "PlaneFaces$Half")), 1, 2)
abbrev gX1_heightAgainst : gM := (⟨"PlaneFaces", "heightAgainst", "(III)I"⟩, prog_1_method_45_code, 4, (Option.some FieldType.int), 1, 3)
abbrev gX1_inside : gM := (⟨"PlaneFaces", "inside", "(LPlaneFaces$Face;)I"⟩, prog_1_method_38_code, 4, (Option.some FieldType.int), 1, 1)
abbrev gX1_isAbove : gM := (⟨"PlaneFaces", "isAbove", "(III)Z"⟩, prog_1_method_17_code, 4, (Option.some FieldType.boolean), 1, 3)
abbrev gX1_isEnd : gM := (⟨"PlaneFaces", "isEnd", "(III)Z"⟩, prog_1_method_6_code, 4, (Option.some FieldType.boolean), 1, 3)
abbrev gX1_isIn : gM := (⟨"PlaneFaces", "isIn", "(I)Z"⟩, prog_1_method_4_code, 1, (Option.some FieldType.boolean), 1, 1)
abbrev gX1_isMet : gM := (⟨"PlaneFaces", "isMet", "(III)Z"⟩, prog_1_method_43_code, 4, (Option.some FieldType.boolean), 1, 3)
abbrev gX1_isOn : gM := (⟨"PlaneFaces", "isOn", "(III)Z"⟩, prog_1_method_7_code, 4, (Option.some FieldType.boolean), 1, 3)
abbrev gX1_isOver : gM := (⟨"PlaneFaces", "isOver", "(II)Z"⟩, prog_1_method_16_code, 3, (Option.some FieldType.boolean), 1, 2)
abbrev gX1_join : gM := (⟨"PlaneFaces", "join", "()V"⟩, prog_1_method_13_code, 5, (Option.none : Option FieldType), 1, 0)
abbrev gX1_leastAt : gM := (⟨"PlaneFaces", "leastAt", "(LPlaneFaces$Node;)I"⟩, prog_1_method_41_code, 4, (Option.some FieldType.int), 1, 1)
abbrev gX1_length : gM := (⟨"PlaneFaces", "length", "(LPlaneFaces$Face;)I"⟩, prog_1_method_39_code, 4, (Option.some FieldType.int), 1, 1)
abbrev gX1_locate : gM := (⟨"PlaneFaces", "locate", "(II)I"⟩, prog_1_method_42_code, 4, (Option.some FieldType.int), 1, 2)
abbrev gX1_make : gM := (⟨"PlaneFaces", "make", "()V"⟩, prog_1_method_26_code, 1, (Option.none : Option FieldType), 1, 0)
abbrev gX1_meet : gM := (⟨"PlaneFaces", "meet", "(II)Z"⟩, prog_1_method_8_code, 3, (Option.some FieldType.boolean), 1, 2)
abbrev gX1_next : gM := (⟨"PlaneFaces", "next", "(I)I"⟩, prog_1_method_33_code, 2, (Option.some FieldType.int), 1, 1)
abbrev gX1_node : gM := (⟨"PlaneFaces", "node", "(II)LPlaneFaces$Node;"⟩, prog_1_method_12_code, 4, (Option.some (FieldType.object "PlaneFaces$Node")), 1, 2)
abbrev gX1_nodeBelow : gM := (⟨"PlaneFaces", "nodeBelow", "(II)LPlaneFaces$Node;"⟩, prog_1_method_19_code, 6, (Option.some (FieldType.object "PlaneFaces$Node")), 1, 2)
abbrev gX1_number : gM := (⟨"PlaneFaces", "number", "(LPlaneFaces$Face;)I"⟩, prog_1_method_27_code, 3, (Option.some FieldType.int), 1, 1)
abbrev gX1_piece : gM := (⟨"PlaneFaces", "piece", "(I)I"⟩, prog_1_method_35_code, 2, (Option.some FieldType.int), 1, 1)
abbrev gX1_remove : gM := (⟨"PlaneFaces", "remove", "(I)Z"⟩, prog_1_method_10_code, 2, (Option.some FieldType.boolean), 1, 1)
abbrev gX1_segmentBelow : gM := (⟨"PlaneFaces", "segmentBelow", "(II)I"⟩, prog_1_method_18_code, 5, (Option.some FieldType.int), 1, 2)
abbrev gX1_side : gM := (⟨"PlaneFaces", "side", "(III)I"⟩, prog_1_method_5_code, 4, (Option.some FieldType.int), 1, 3)
abbrev gX1_sooner : gM := (⟨"PlaneFaces", "sooner", "(IIII)I"⟩, prog_1_method_44_code, 9, (Option.some FieldType.int), 1, 4)
abbrev gX1_sort : gM := (⟨"PlaneFaces", "sort", "()V"⟩, prog_1_method_23_code, 4, (Option.none : Option FieldType), 1, 0)
abbrev gX1_spread : gM := (⟨"PlaneFaces", "spread", "(II)V"⟩, prog_1_method_25_code, 9, (Option.none : Option FieldType), 1, 2)
abbrev gX7_init : gM := (⟨"PlaneFaces$Face", "<init>", "()V"⟩, prog_2_method_1_code, 1, (Option.none : Option FieldType), 7, 0)
abbrev gX7_add : gM := (⟨"PlaneFaces$Face", "add", "(LPlaneFaces$Round;)V"⟩, prog_2_method_2_code, 2, (Option.none : Option FieldType), 7, 1)
abbrev gX7_area : gM := (⟨"PlaneFaces$Face", "area", "()J"⟩, prog_2_method_3_code, 4, (Option.some FieldType.long), 7, 0)
abbrev gX3_init : gM := (⟨"PlaneFaces$Half", "<init>", "(ILPlaneFaces$Node;)V"⟩, prog_3_method_1_code, 3, (Option.none : Option FieldType), 3, 2)
abbrev gX3_dx : gM := (⟨"PlaneFaces$Half", "dx", "()I"⟩, prog_3_method_2_code, 1, (Option.some FieldType.int), 3, 0)
abbrev gX3_dy : gM := (⟨"PlaneFaces$Half", "dy", "()I"⟩, prog_3_method_3_code, 1, (Option.some FieldType.int), 3, 0)
abbrev gX3_isBefore : gM := (⟨"PlaneFaces$Half", "isBefore", "(II)Z"⟩, prog_3_method_5_code, 4, (Option.some FieldType.boolean), 3, 2)
abbrev gX3_isUpper : gM := (⟨"PlaneFaces$Half", "isUpper", "(II)Z"⟩, prog_3_method_4_code, 2, (Option.some FieldType.boolean), 3, 2)
abbrev gX4_init : gM := (⟨"PlaneFaces$Node", "<init>", "(II)V"⟩, prog_4_method_1_code, 3, (Option.none : Option FieldType), 4, 2)
abbrev gX4_before : gM := (⟨"PlaneFaces$Node", "before", "(II)LPlaneFaces$Half;"⟩, prog_4_method_3_code, 4, (Option.some (FieldType.object "PlaneFaces$Half")), 4, 2)
abbrev gX4_put : gM := (⟨"PlaneFaces$Node", "put", "(LPlaneFaces$Half;)V"⟩, prog_4_method_2_code, 3, (Option.none : Option FieldType), 4, 1)
abbrev gX5_init : gM := (⟨"PlaneFaces$Round", "<init>", "(LPlaneFaces$Half;)V"⟩, prog_5_method_1_code, 2, (Option.none : Option FieldType), 5, 1)
abbrev gX5_area : gM := (⟨"PlaneFaces$Round", "area", "()J"⟩, prog_5_method_3_code, 5, (Option.some FieldType.long), 5, 0)
abbrev gX5_corner : gM := (⟨"PlaneFaces$Round", "corner", "()LPlaneFaces$Node;"⟩, prog_5_method_4_code, 4, (Option.some (FieldType.object "PlaneFaces$Node")), 5, 0)
abbrev gX5_iterator : gM := (⟨"PlaneFaces$Round", "iterator", "()Ljava/util/Iterator;"⟩, prog_5_method_2_code, 1, (Option.some (FieldType.object "java/util/Iterator")), 5, 0)
abbrev gX5_least : gM := (⟨"PlaneFaces$Round", "least", "()I"⟩, prog_5_method_5_code, 4, (Option.some FieldType.int), 5, 0)
abbrev gX5_size : gM := (⟨"PlaneFaces$Round", "size", "()I"⟩, prog_5_method_6_code, 3, (Option.some FieldType.int), 5, 0)
abbrev gX6_init : gM := (⟨"PlaneFaces$Walk", "<init>", "(LPlaneFaces$Half;)V"⟩, prog_6_method_1_code, 2, (Option.none : Option FieldType), 6, 1)
abbrev gX6_hasNext : gM := (⟨"PlaneFaces$Walk", "hasNext", "()Z"⟩, prog_6_method_2_code, 1, (Option.some FieldType.boolean), 6, 0)
abbrev gX6_next_2 : gM := (⟨"PlaneFaces$Walk", "next", "()LPlaneFaces$Half;"⟩, prog_6_method_3_code, 2, (Option.some (FieldType.object "PlaneFaces$Half")), 6, 0)
abbrev gX6_next : gM := (⟨"PlaneFaces$Walk", "next", "()Ljava/lang/Object;"⟩, prog_6_method_4_code, 1, (Option.some (FieldType.object "java/lang/Object")), 6, 0)
abbrev gX2_init : gM := (⟨"PlaneFacesModel", "<init>", "()V"⟩, prog_8_method_1_code, 1, (Option.none : Option FieldType), 2, 0)
abbrev gX2_above : gM := (⟨"PlaneFacesModel", "above", "(II)I"⟩, prog_8_method_40_code, 6, (Option.some FieldType.int), 2, 2)
abbrev gX2_across : gM := (⟨"PlaneFacesModel", "across", "(II)I"⟩, prog_8_method_41_code, 5, (Option.some FieldType.int), 2, 2)
abbrev gX2_add : gM := (⟨"PlaneFacesModel", "add", "(IIII)I"⟩, prog_8_method_10_code, 8, (Option.some FieldType.int), 2, 4)
abbrev gX2_area : gM := (⟨"PlaneFacesModel", "area", "(I)I"⟩, prog_8_method_34_code, 5, (Option.some FieldType.int), 2, 1)
abbrev gX2_around : gM := (⟨"PlaneFacesModel", "around", "(I)I"⟩, prog_8_method_32_code, 2, (Option.some FieldType.int), 2, 1)
abbrev gX2_back : gM := (⟨"PlaneFacesModel", "back", "(I)I"⟩, prog_8_method_14_code, 1, (Option.some FieldType.int), 2, 1)
abbrev gX2_begins : gM := (⟨"PlaneFacesModel", "begins", "(IZ)I"⟩, prog_8_method_27_code, 3, (Option.some FieldType.int), 2, 2)
abbrev gX2_border : gM := (⟨"PlaneFacesModel", "border", "(II)I"⟩, prog_8_method_35_code, 6, (Option.some FieldType.int), 2, 2)
abbrev gX2_clear : gM := (⟨"PlaneFacesModel", "clear", "()I"⟩, prog_8_method_12_code, 3, (Option.some FieldType.int), 2, 0)
abbrev gX2_count : gM := (⟨"PlaneFacesModel", "count", "(I)I"⟩, prog_8_method_26_code, 6, (Option.some FieldType.int), 2, 1)
abbrev gX2_crossOf : gM := (⟨"PlaneFacesModel", "crossOf", "(II)J"⟩, prog_8_method_16_code, 11, (Option.some FieldType.long), 2, 2)
abbrev gX2_face : gM := (⟨"PlaneFacesModel", "face", "(I)I"⟩, prog_8_method_29_code, 2, (Option.some FieldType.int), 2, 1)
abbrev gX2_height : gM := (⟨"PlaneFacesModel", "height", "(III)J"⟩, prog_8_method_37_code, 8, (Option.some FieldType.long), 2, 3)
abbrev gX2_isEnd : gM := (⟨"PlaneFacesModel", "isEnd", "(III)Z"⟩, prog_8_method_8_code, 4, (Option.some FieldType.boolean), 2, 3)
abbrev gX2_isFace : gM := (⟨"PlaneFacesModel", "isFace", "(I)Z"⟩, prog_8_method_33_code, 2, (Option.some FieldType.boolean), 2, 1)
abbrev gX2_isHalf : gM := (⟨"PlaneFacesModel", "isHalf", "(I)Z"⟩, prog_8_method_13_code, 2, (Option.some FieldType.boolean), 2, 1)
abbrev gX2_isIn : gM := (⟨"PlaneFacesModel", "isIn", "(I)Z"⟩, prog_8_method_4_code, 1, (Option.some FieldType.boolean), 2, 1)
abbrev gX2_isMet : gM := (⟨"PlaneFacesModel", "isMet", "(III)Z"⟩, prog_8_method_39_code, 7, (Option.some FieldType.boolean), 2, 3)
abbrev gX2_isOn : gM := (⟨"PlaneFacesModel", "isOn", "(IIIIII)Z"⟩, prog_8_method_7_code, 9, (Option.some FieldType.boolean), 2, 6)
abbrev gX2_isWithin : gM := (⟨"PlaneFacesModel", "isWithin", "(III)Z"⟩, prog_8_method_21_code, 9, (Option.some FieldType.boolean), 2, 3)
abbrev gX2_least : gM := (⟨"PlaneFacesModel", "least", "(III)I"⟩, prog_8_method_22_code, 7, (Option.some FieldType.int), 2, 3)
abbrev gX2_leaves : gM := (⟨"PlaneFacesModel", "leaves", "(III)Z"⟩, prog_8_method_15_code, 4, (Option.some FieldType.boolean), 2, 3)
abbrev gX2_left : gM := (⟨"PlaneFacesModel", "left", "(I)I"⟩, prog_8_method_25_code, 2, (Option.some FieldType.int), 2, 1)
abbrev gX2_locate : gM := (⟨"PlaneFacesModel", "locate", "(II)I"⟩, prog_8_method_36_code, 4, (Option.some FieldType.int), 2, 2)
abbrev gX2_make : gM := (⟨"PlaneFacesModel", "make", "()V"⟩, prog_8_method_23_code, 2, (Option.none : Option FieldType), 2, 0)
abbrev gX2_makeRound : gM := (⟨"PlaneFacesModel", "makeRound", "(I)V"⟩, prog_8_method_20_code, 4, (Option.none : Option FieldType), 2, 1)
abbrev gX2_meets : gM := (⟨"PlaneFacesModel", "meets", "(IIIII)Z"⟩, prog_8_method_9_code, 10, (Option.some FieldType.boolean), 2, 5)
abbrev gX2_next : gM := (⟨"PlaneFacesModel", "next", "(I)I"⟩, prog_8_method_28_code, 2, (Option.some FieldType.int), 2, 1)
abbrev gX2_nextOf : gM := (⟨"PlaneFacesModel", "nextOf", "(I)I"⟩, prog_8_method_18_code, 6, (Option.some FieldType.int), 2, 1)
abbrev gX2_number : gM := (⟨"PlaneFacesModel", "number", "()V"⟩, prog_8_method_24_code, 4, (Option.none : Option FieldType), 2, 0)
abbrev gX2_outer : gM := (⟨"PlaneFacesModel", "outer", "(I)I"⟩, prog_8_method_31_code, 4, (Option.some FieldType.int), 2, 1)
abbrev gX2_piece : gM := (⟨"PlaneFacesModel", "piece", "(I)I"⟩, prog_8_method_30_code, 2, (Option.some FieldType.int), 2, 1)
abbrev gX2_refused : gM := (⟨"PlaneFacesModel", "refused", "(I)Z"⟩, prog_8_method_3_code, 2, (Option.some FieldType.boolean), 2, 1)
abbrev gX2_remove : gM := (⟨"PlaneFacesModel", "remove", "(I)Z"⟩, prog_8_method_11_code, 3, (Option.some FieldType.boolean), 2, 1)
abbrev gX2_side : gM := (⟨"PlaneFacesModel", "side", "(IIIIII)I"⟩, prog_8_method_6_code, 6, (Option.some FieldType.int), 2, 6)
abbrev gX2_sign : gM := (⟨"PlaneFacesModel", "sign", "(J)I"⟩, prog_8_method_5_code, 2, (Option.some FieldType.int), 2, 1)
abbrev gX2_spreadPiece : gM := (⟨"PlaneFacesModel", "spreadPiece", "(II)V"⟩, prog_8_method_19_code, 7, (Option.none : Option FieldType), 2, 2)
abbrev gX2_thrown : gM := (⟨"PlaneFacesModel", "thrown", "()I"⟩, prog_8_method_2_code, 1, (Option.some FieldType.int), 2, 0)
abbrev gX2_turned : gM := (⟨"PlaneFacesModel", "turned", "(II)I"⟩, prog_8_method_17_code, 5, (Option.some FieldType.int), 2, 2)
abbrev gX2_width : gM := (⟨"PlaneFacesModel", "width", "(I)J"⟩, prog_8_method_38_code, 3, (Option.some FieldType.long), 2, 1)
abbrev gJ20_compare : gM := (⟨"java/lang/Integer", "compare", "(II)I"⟩, prog_17_method_40_code, 2, (Option.some FieldType.int), 17, 2)
abbrev gJ20_getChars : gM := (⟨"java/lang/Integer", "getChars", "(II[B)I"⟩, prog_17_method_12_code, 7, (Option.some FieldType.int), 17, 3)
abbrev gJ20_stringSize : gM := (⟨"java/lang/Integer", "stringSize", "(I)I"⟩, prog_17_method_13_code, 4, (Option.some FieldType.int), 17, 1)
abbrev gJ8_signum : gM := (⟨"java/lang/Long", "signum", "(J)I"⟩, prog_19_method_57_code, 2, (Option.some FieldType.int), 16, 1)
abbrev gJ9_max : gM := (⟨"java/lang/Math", "max", "(II)I"⟩, prog_20_method_65_code, 2, (Option.some FieldType.int), 15, 2)
abbrev gJ9_min : gM := (⟨"java/lang/Math", "min", "(II)I"⟩, prog_20_method_69_code, 2, (Option.some FieldType.int), 15, 2)
abbrev gJ0_init : gM := (⟨"java/util/AbstractCollection", "<init>", "()V"⟩, prog_28_method_1_code, 1, (Option.none : Option FieldType), 10, 0)
abbrev gJ1_init : gM := (⟨"java/util/AbstractList", "<init>", "()V"⟩, prog_29_method_1_code, 1, (Option.none : Option FieldType), 9, 0)
abbrev gJ2_init : gM := (⟨"java/util/ArrayList", "<init>", "()V"⟩, prog_30_method_2_code, 1, (Option.none : Option FieldType), 8, 0)
abbrev gJ2_add_3 : gM := (⟨"java/util/ArrayList", "add", "(ILjava/lang/Object;)V"⟩, prog_30_method_26_code, 5, (Option.none : Option FieldType), 8, 2)
abbrev gJ2_add : gM := (⟨"java/util/ArrayList", "add", "(Ljava/lang/Object;)Z"⟩, prog_30_method_25_code, 2, (Option.some FieldType.boolean), 8, 1)
abbrev gJ2_add_2 : gM := (⟨"java/util/ArrayList", "add", "(Ljava/lang/Object;[Ljava/lang/Object;I)V"⟩, prog_30_method_24_code, 4, (Option.none : Option FieldType), 8, 3)
abbrev gJ2_clear : gM := (⟨"java/util/ArrayList", "clear", "()V"⟩, prog_30_method_40_code, 4, (Option.none : Option FieldType), 8, 0)
abbrev gJ2_elementData : gM := (⟨"java/util/ArrayList", "elementData", "(I)Ljava/lang/Object;"⟩, prog_30_method_18_code, 2, (Option.some (FieldType.object "java/lang/Object")), 8, 1)
abbrev gJ2_fastRemove : gM := (⟨"java/util/ArrayList", "fastRemove", "([Ljava/lang/Object;I)V"⟩, prog_30_method_39_code, 4, (Option.none : Option FieldType), 8, 2)
abbrev gJ2_get : gM := (⟨"java/util/ArrayList", "get", "(I)Ljava/lang/Object;"⟩, prog_30_method_20_code, 2, (Option.some (FieldType.object "java/lang/Object")), 8, 1)
abbrev gJ2_grow : gM := (⟨"java/util/ArrayList", "grow", "()[Ljava/lang/Object;"⟩, prog_30_method_7_code, 1, (Option.some (FieldType.array (FieldType.object "java/lang/Object"))), 8, 0)
abbrev gJ2_grow_2 : gM := (⟨"java/util/ArrayList", "grow", "(I)[Ljava/lang/Object;"⟩, prog_30_method_6_code, 4, (Option.some (FieldType.array (FieldType.object "java/lang/Object"))), 8, 1)
abbrev gJ2_isEmpty : gM := (⟨"java/util/ArrayList", "isEmpty", "()Z"⟩, prog_30_method_9_code, 1, (Option.some FieldType.boolean), 8, 0)
abbrev gJ2_outOfBoundsMsg : gM := (⟨"java/util/ArrayList", "outOfBoundsMsg", "(I)Ljava/lang/String;"⟩, prog_30_method_46_code, 2, (Option.some (FieldType.object "java/lang/String")), 8, 1)
abbrev gJ2_rangeCheckForAdd : gM := (⟨"java/util/ArrayList", "rangeCheckForAdd", "(I)V"⟩, prog_30_method_45_code, 2, (Option.none : Option FieldType), 8, 1)
abbrev gJ2_remove : gM := (⟨"java/util/ArrayList", "remove", "(I)Ljava/lang/Object;"⟩, prog_30_method_29_code, 4, (Option.some (FieldType.object "java/lang/Object")), 8, 1)
abbrev gJ2_size : gM := (⟨"java/util/ArrayList", "size", "()I"⟩, prog_30_method_8_code, 1, (Option.some FieldType.int), 8, 0)
abbrev gJ13_checkLength : gM := (⟨"java/util/Arrays", "checkLength", "(II)V"⟩, prog_31_method_131_code, 2, (Option.none : Option FieldType), 14, 2)
abbrev gJ13_copyOf_3 : gM := (⟨"java/util/Arrays", "copyOf", "([BI)[B"⟩, prog_31_method_121_code, 3, (Option.some (FieldType.array FieldType.byte)), 14, 2)
abbrev gJ13_copyOf : gM := (⟨"java/util/Arrays", "copyOf", "([Ljava/lang/Object;I)[Ljava/lang/Object;"⟩, prog_31_method_119_code, 2, (Option.some (FieldType.array (FieldType.object "java/lang/Object"))), 14, 2)
abbrev gJ13_copyOf_2 : gM := (⟨"java/util/Arrays", "copyOf", "([Ljava/lang/Object;ILjava/lang/Class;)[Ljava/lang/Object;"⟩, prog_31_method_120_code, 4, (Option.some (FieldType.array (FieldType.object "java/lang/Object"))), 14, 3)
abbrev gJ13_copyOfRange : gM := (⟨"java/util/Arrays", "copyOfRange", "([BII)[B"⟩, prog_31_method_132_code, 3, (Option.some (FieldType.array FieldType.byte)), 14, 3)
abbrev gJ13_copyOfRangeByte : gM := (⟨"java/util/Arrays", "copyOfRangeByte", "([BII)[B"⟩, prog_31_method_133_code, 5, (Option.some (FieldType.array FieldType.byte)), 14, 3)
abbrev gJ10_checkIndex : gM := (⟨"java/util/Objects", "checkIndex", "(II)I"⟩, prog_35_method_17_code, 2, (Option.some FieldType.int), 11, 2)
abbrev gJ12_hugeLength : gM := (⟨"jdk/internal/util/ArraysSupport", "hugeLength", "(II)I"⟩, prog_38_method_28_code, 3, (Option.some FieldType.int), 13, 2)
abbrev gJ12_newLength : gM := (⟨"jdk/internal/util/ArraysSupport", "newLength", "(III)I"⟩, prog_38_method_27_code, 4, (Option.some FieldType.int), 13, 3)
abbrev gJ11_checkFromIndexSize : gM := (⟨"jdk/internal/util/Preconditions", "checkFromIndexSize", "(IIILjava/util/function/BiFunction;)I"⟩, prog_39_method_13_code, 4, (Option.some FieldType.int), 12, 4)
abbrev gJ11_checkFromToIndex : gM := (⟨"jdk/internal/util/Preconditions", "checkFromToIndex", "(IIILjava/util/function/BiFunction;)I"⟩, prog_39_method_12_code, 4, (Option.some FieldType.int), 12, 4)
abbrev gJ11_checkIndex : gM := (⟨"jdk/internal/util/Preconditions", "checkIndex", "(IILjava/util/function/BiFunction;)I"⟩, prog_39_method_11_code, 3, (Option.some FieldType.int), 12, 3)
def gCT : List (Nat × Nat × Nat × gM) := [(1, 28, 2, gJ2_init),
  (1, 57, 1, gX1_cross),
  (1, 61, 1, gJ8_signum),
  (1, 67, 0, gX1_side),
  (1, 71, 1, gJ9_min),
  (1, 77, 1, gJ9_max),
  (1, 80, 0, gX1_isOn),
  (1, 84, 0, gX1_isEnd),
  (1, 87, 1, gX1_isIn),
  (1, 91, 1, gX1_argue),
  (1, 102, 0, gX1_meet),
  (1, 110, 0, gJ2_size),
  (1, 114, 0, gJ2_get),
  (1, 126, 2, gX4_init),
  (1, 129, 0, gJ2_add),
  (1, 133, 0, gJ2_clear),
  (1, 136, 0, gX1_node),
  (1, 140, 2, gX3_init),
  (1, 151, 0, gX4_put),
  (1, 164, 2, gX5_init),
  (1, 166, 0, gX5_iterator),
  (1, 179, 0, gX1_isOver),
  (1, 182, 0, gX1_isAbove),
  (1, 185, 0, gX1_compare),
  (1, 188, 0, gX1_segmentBelow),
  (1, 191, 0, gX1_nodeBelow),
  (1, 194, 0, gX4_before),
  (1, 202, 0, gX5_corner),
  (1, 206, 0, gX1_halfBelow),
  (1, 212, 0, gX5_area),
  (1, 216, 0, gX7_add),
  (1, 219, 0, gX1_faceAround),
  (1, 223, 0, gX1_sort),
  (1, 226, 0, gJ2_remove),
  (1, 232, 0, gJ2_add_3),
  (1, 238, 0, gX1_spread),
  (1, 247, 0, gX1_join),
  (1, 250, 0, gX1_goRound),
  (1, 253, 0, gX1_findFaces),
  (1, 256, 0, gX1_findPieces),
  (1, 259, 0, gX1_make),
  (1, 265, 0, gX1_bridges),
  (1, 268, 0, gX1_half),
  (1, 272, 0, gX1_number),
  (1, 275, 0, gX1_faceAt),
  (1, 279, 0, gX7_area),
  (1, 281, 0, gX5_size),
  (1, 282, 0, gX1_length),
  (1, 285, 0, gJ2_isEmpty),
  (1, 288, 0, gX1_inside),
  (1, 291, 0, gX1_leastAt),
  (1, 295, 1, gJ20_compare),
  (1, 299, 0, gX1_heightAgainst),
  (1, 302, 0, gX1_isMet),
  (1, 305, 0, gX1_sooner),
  (7, 11, 2, gJ2_init),
  (7, 28, 0, gJ2_add),
  (7, 32, 0, gX5_least),
  (7, 35, 1, gJ9_min),
  (7, 41, 0, gJ2_size),
  (7, 44, 0, gJ2_get),
  (7, 48, 0, gX5_area),
  (3, 29, 0, gX3_dx),
  (3, 33, 0, gX3_dy),
  (3, 36, 1, gX3_isUpper),
  (4, 9, 2, gJ2_init),
  (4, 23, 0, gJ2_size),
  (4, 27, 0, gJ2_get),
  (4, 33, 0, gX3_dx),
  (4, 36, 0, gX3_dy),
  (4, 39, 0, gX3_isBefore),
  (4, 43, 0, gJ2_add_3),
  (5, 15, 2, gX6_init),
  (5, 18, 0, gX5_iterator),
  (5, 59, 1, gJ9_min),
  (6, 25, 0, gX6_next_2),
  (0, 7, 0, gX1_add),
  (0, 17, 0, gX1_begins),
  (0, 23, 0, gX1_next),
  (0, 27, 0, gX1_face),
  (0, 30, 0, gX1_piece),
  (0, 33, 0, gX1_around),
  (0, 36, 0, gX1_area),
  (0, 39, 0, gX1_border),
  (0, 43, 0, gX1_locate),
  (0, 46, 0, gX1_above),
  (0, 49, 0, gX1_across),
  (0, 52, 2, gX1_init),
  (0, 55, 2, gX2_init),
  (0, 61, 0, gX2_add),
  (0, 62, 0, gX2_thrown),
  (0, 66, 0, gX1_remove),
  (0, 70, 0, gX2_remove),
  (0, 71, 0, gX1_clear),
  (0, 74, 0, gX2_clear),
  (0, 75, 0, gX1_count),
  (0, 78, 0, gX2_count),
  (0, 82, 0, gX2_begins),
  (0, 86, 0, gX2_next),
  (0, 89, 0, gX2_face),
  (0, 92, 0, gX2_piece),
  (0, 95, 0, gX2_around),
  (0, 98, 0, gX2_area),
  (0, 102, 0, gX2_border),
  (0, 105, 0, gX2_locate),
  (0, 108, 0, gX2_above),
  (0, 111, 0, gX2_across),
  (2, 49, 1, gX2_sign),
  (2, 53, 1, gX2_side),
  (2, 57, 0, gX2_isEnd),
  (2, 61, 1, gX2_isOn),
  (2, 65, 1, gX2_isIn),
  (2, 69, 0, gX2_refused),
  (2, 72, 0, gX2_meets),
  (2, 80, 1, gX2_back),
  (2, 84, 0, gX2_crossOf),
  (2, 88, 0, gX2_leaves),
  (2, 91, 0, gX2_turned),
  (2, 98, 0, gX2_isWithin),
  (2, 104, 0, gX2_nextOf),
  (2, 107, 0, gX2_spreadPiece),
  (2, 111, 0, gX2_makeRound),
  (2, 115, 0, gX2_number),
  (2, 121, 0, gX2_least),
  (2, 125, 0, gX2_make),
  (2, 128, 0, gX2_left),
  (2, 131, 0, gX2_isHalf),
  (2, 134, 0, gX2_outer),
  (2, 137, 0, gX2_isFace),
  (2, 142, 0, gX2_height),
  (2, 146, 0, gX2_width),
  (2, 150, 0, gX2_isMet),
  (9, 1, 2, gJ0_init),
  (8, 1, 2, gJ1_init),
  (8, 66, 1, gJ13_copyOf),
  (8, 69, 0, gJ2_grow_2),
  (8, 73, 1, gJ12_newLength),
  (8, 79, 1, gJ9_max),
  (8, 118, 1, gJ10_checkIndex),
  (8, 123, 0, gJ2_elementData),
  (8, 129, 0, gJ2_grow),
  (8, 131, 0, gJ2_add_2),
  (8, 135, 0, gJ2_rangeCheckForAdd),
  (8, 144, 0, gJ2_fastRemove),
  (8, 198, 0, gJ2_outOfBoundsMsg),
  (14, 300, 1, gJ13_copyOf_2),
  (14, 304, 1, gJ9_min),
  (14, 339, 1, gJ13_copyOfRangeByte),
  (14, 343, 1, gJ13_checkLength),
  (11, 105, 1, gJ11_checkIndex),
  (13, 194, 1, gJ9_max),
  (13, 201, 1, gJ12_hugeLength),
  (1, 211, 4, gX7_init),
  (3, 40, 3, gX1_cross),
  (5, 50, 3, gX1_cross)]
def gC (o i : Nat) : Option (Nat × gM) := (gCT.find? (fun q => q.1 == o && q.2.1 == i)).map (fun q => q.2.2)
theorem gC_all1 : (gC 1 28 = some (2, gJ2_init)) ∧
  (gC 1 57 = some (1, gX1_cross)) ∧
  (gC 1 61 = some (1, gJ8_signum)) ∧
  (gC 1 67 = some (0, gX1_side)) ∧
  (gC 1 71 = some (1, gJ9_min)) ∧
  (gC 1 77 = some (1, gJ9_max)) ∧
  (gC 1 80 = some (0, gX1_isOn)) ∧
  (gC 1 84 = some (0, gX1_isEnd)) ∧
  (gC 1 87 = some (1, gX1_isIn)) ∧
  (gC 1 91 = some (1, gX1_argue)) ∧
  (gC 1 102 = some (0, gX1_meet)) ∧
  (gC 1 110 = some (0, gJ2_size)) ∧
  (gC 1 114 = some (0, gJ2_get)) ∧
  (gC 1 126 = some (2, gX4_init)) ∧
  (gC 1 129 = some (0, gJ2_add)) ∧
  (gC 1 133 = some (0, gJ2_clear)) ∧
  (gC 1 136 = some (0, gX1_node)) ∧
  (gC 1 140 = some (2, gX3_init)) ∧
  (gC 1 151 = some (0, gX4_put)) ∧
  (gC 1 164 = some (2, gX5_init)) ∧
  (gC 1 166 = some (0, gX5_iterator)) ∧
  (gC 1 179 = some (0, gX1_isOver)) ∧
  (gC 1 182 = some (0, gX1_isAbove)) ∧
  (gC 1 185 = some (0, gX1_compare)) ∧
  (gC 1 188 = some (0, gX1_segmentBelow)) ∧
  (gC 1 191 = some (0, gX1_nodeBelow)) ∧
  (gC 1 194 = some (0, gX4_before)) ∧
  (gC 1 202 = some (0, gX5_corner)) ∧
  (gC 1 206 = some (0, gX1_halfBelow)) ∧
  (gC 1 212 = some (0, gX5_area)) ∧
  (gC 1 216 = some (0, gX7_add)) ∧
  (gC 1 219 = some (0, gX1_faceAround)) ∧
  (gC 1 223 = some (0, gX1_sort)) ∧
  (gC 1 226 = some (0, gJ2_remove)) ∧
  (gC 1 232 = some (0, gJ2_add_3)) ∧
  (gC 1 238 = some (0, gX1_spread)) ∧
  (gC 1 247 = some (0, gX1_join)) ∧
  (gC 1 250 = some (0, gX1_goRound)) ∧
  (gC 1 253 = some (0, gX1_findFaces)) ∧
  (gC 1 256 = some (0, gX1_findPieces)) ∧
  (gC 1 259 = some (0, gX1_make)) ∧
  (gC 1 265 = some (0, gX1_bridges)) ∧
  (gC 1 268 = some (0, gX1_half)) ∧
  (gC 1 272 = some (0, gX1_number)) ∧
  (gC 1 275 = some (0, gX1_faceAt)) ∧
  (gC 1 279 = some (0, gX7_area)) ∧
  (gC 1 281 = some (0, gX5_size)) ∧
  (gC 1 282 = some (0, gX1_length)) ∧
  (gC 1 285 = some (0, gJ2_isEmpty)) ∧
  (gC 1 288 = some (0, gX1_inside)) ∧
  (gC 1 291 = some (0, gX1_leastAt)) ∧
  (gC 1 295 = some (1, gJ20_compare)) ∧
  (gC 1 299 = some (0, gX1_heightAgainst)) ∧
  (gC 1 302 = some (0, gX1_isMet)) ∧
  (gC 1 305 = some (0, gX1_sooner)) ∧
  (gC 7 11 = some (2, gJ2_init)) ∧
  (gC 7 28 = some (0, gJ2_add)) ∧
  (gC 7 32 = some (0, gX5_least)) ∧
  (gC 7 35 = some (1, gJ9_min)) ∧
  (gC 7 41 = some (0, gJ2_size)) ∧
  (gC 7 44 = some (0, gJ2_get)) ∧
  (gC 7 48 = some (0, gX5_area)) ∧
  (gC 3 29 = some (0, gX3_dx)) ∧
  (gC 3 33 = some (0, gX3_dy)) ∧
  (gC 3 36 = some (1, gX3_isUpper)) ∧
  (gC 4 9 = some (2, gJ2_init)) ∧
  (gC 4 23 = some (0, gJ2_size)) ∧
  (gC 4 27 = some (0, gJ2_get)) ∧
  (gC 4 33 = some (0, gX3_dx)) ∧
  (gC 4 36 = some (0, gX3_dy)) ∧
  (gC 4 39 = some (0, gX3_isBefore)) ∧
  (gC 4 43 = some (0, gJ2_add_3)) ∧
  (gC 5 15 = some (2, gX6_init)) ∧
  (gC 5 18 = some (0, gX5_iterator)) ∧
  (gC 5 59 = some (1, gJ9_min)) ∧
  (gC 6 25 = some (0, gX6_next_2)) ∧
  (gC 0 7 = some (0, gX1_add)) ∧
  (gC 0 17 = some (0, gX1_begins)) :=
  ⟨rfl, rfl, rfl, rfl, rfl, rfl, rfl, rfl, rfl, rfl, rfl, rfl, rfl, rfl, rfl, rfl, rfl, rfl, rfl, rfl, rfl, rfl, rfl, rfl, rfl, rfl, rfl, rfl, rfl, rfl, rfl, rfl, rfl, rfl, rfl, rfl, rfl, rfl, rfl, rfl, rfl, rfl, rfl, rfl, rfl, rfl, rfl, rfl, rfl, rfl, rfl, rfl, rfl, rfl, rfl, rfl, rfl, rfl, rfl, rfl, rfl, rfl, rfl, rfl, rfl, rfl, rfl, rfl, rfl, rfl, rfl, rfl, rfl, rfl, rfl, rfl, rfl, rfl⟩
theorem gC_all2 : (gC 0 23 = some (0, gX1_next)) ∧
  (gC 0 27 = some (0, gX1_face)) ∧
  (gC 0 30 = some (0, gX1_piece)) ∧
  (gC 0 33 = some (0, gX1_around)) ∧
  (gC 0 36 = some (0, gX1_area)) ∧
  (gC 0 39 = some (0, gX1_border)) ∧
  (gC 0 43 = some (0, gX1_locate)) ∧
  (gC 0 46 = some (0, gX1_above)) ∧
  (gC 0 49 = some (0, gX1_across)) ∧
  (gC 0 52 = some (2, gX1_init)) ∧
  (gC 0 55 = some (2, gX2_init)) ∧
  (gC 0 61 = some (0, gX2_add)) ∧
  (gC 0 62 = some (0, gX2_thrown)) ∧
  (gC 0 66 = some (0, gX1_remove)) ∧
  (gC 0 70 = some (0, gX2_remove)) ∧
  (gC 0 71 = some (0, gX1_clear)) ∧
  (gC 0 74 = some (0, gX2_clear)) ∧
  (gC 0 75 = some (0, gX1_count)) ∧
  (gC 0 78 = some (0, gX2_count)) ∧
  (gC 0 82 = some (0, gX2_begins)) ∧
  (gC 0 86 = some (0, gX2_next)) ∧
  (gC 0 89 = some (0, gX2_face)) ∧
  (gC 0 92 = some (0, gX2_piece)) ∧
  (gC 0 95 = some (0, gX2_around)) ∧
  (gC 0 98 = some (0, gX2_area)) ∧
  (gC 0 102 = some (0, gX2_border)) ∧
  (gC 0 105 = some (0, gX2_locate)) ∧
  (gC 0 108 = some (0, gX2_above)) ∧
  (gC 0 111 = some (0, gX2_across)) ∧
  (gC 2 49 = some (1, gX2_sign)) ∧
  (gC 2 53 = some (1, gX2_side)) ∧
  (gC 2 57 = some (0, gX2_isEnd)) ∧
  (gC 2 61 = some (1, gX2_isOn)) ∧
  (gC 2 65 = some (1, gX2_isIn)) ∧
  (gC 2 69 = some (0, gX2_refused)) ∧
  (gC 2 72 = some (0, gX2_meets)) ∧
  (gC 2 80 = some (1, gX2_back)) ∧
  (gC 2 84 = some (0, gX2_crossOf)) ∧
  (gC 2 88 = some (0, gX2_leaves)) ∧
  (gC 2 91 = some (0, gX2_turned)) ∧
  (gC 2 98 = some (0, gX2_isWithin)) ∧
  (gC 2 104 = some (0, gX2_nextOf)) ∧
  (gC 2 107 = some (0, gX2_spreadPiece)) ∧
  (gC 2 111 = some (0, gX2_makeRound)) ∧
  (gC 2 115 = some (0, gX2_number)) ∧
  (gC 2 121 = some (0, gX2_least)) ∧
  (gC 2 125 = some (0, gX2_make)) ∧
  (gC 2 128 = some (0, gX2_left)) ∧
  (gC 2 131 = some (0, gX2_isHalf)) ∧
  (gC 2 134 = some (0, gX2_outer)) ∧
  (gC 2 137 = some (0, gX2_isFace)) ∧
  (gC 2 142 = some (0, gX2_height)) ∧
  (gC 2 146 = some (0, gX2_width)) ∧
  (gC 2 150 = some (0, gX2_isMet)) ∧
  (gC 9 1 = some (2, gJ0_init)) ∧
  (gC 8 1 = some (2, gJ1_init)) ∧
  (gC 8 66 = some (1, gJ13_copyOf)) ∧
  (gC 8 69 = some (0, gJ2_grow_2)) ∧
  (gC 8 73 = some (1, gJ12_newLength)) ∧
  (gC 8 79 = some (1, gJ9_max)) ∧
  (gC 8 118 = some (1, gJ10_checkIndex)) ∧
  (gC 8 123 = some (0, gJ2_elementData)) ∧
  (gC 8 129 = some (0, gJ2_grow)) ∧
  (gC 8 131 = some (0, gJ2_add_2)) ∧
  (gC 8 135 = some (0, gJ2_rangeCheckForAdd)) ∧
  (gC 8 144 = some (0, gJ2_fastRemove)) ∧
  (gC 8 198 = some (0, gJ2_outOfBoundsMsg)) ∧
  (gC 14 300 = some (1, gJ13_copyOf_2)) ∧
  (gC 14 304 = some (1, gJ9_min)) ∧
  (gC 14 339 = some (1, gJ13_copyOfRangeByte)) ∧
  (gC 14 343 = some (1, gJ13_checkLength)) ∧
  (gC 11 105 = some (1, gJ11_checkIndex)) ∧
  (gC 13 194 = some (1, gJ9_max)) ∧
  (gC 13 201 = some (1, gJ12_hugeLength)) ∧
  (gC 1 211 = some (4, gX7_init)) ∧
  (gC 3 40 = some (3, gX1_cross)) ∧
  (gC 5 50 = some (3, gX1_cross)) :=
  ⟨rfl, rfl, rfl, rfl, rfl, rfl, rfl, rfl, rfl, rfl, rfl, rfl, rfl, rfl, rfl, rfl, rfl, rfl, rfl, rfl, rfl, rfl, rfl, rfl, rfl, rfl, rfl, rfl, rfl, rfl, rfl, rfl, rfl, rfl, rfl, rfl, rfl, rfl, rfl, rfl, rfl, rfl, rfl, rfl, rfl, rfl, rfl, rfl, rfl, rfl, rfl, rfl, rfl, rfl, rfl, rfl, rfl, rfl, rfl, rfl, rfl, rfl, rfl, rfl, rfl, rfl, rfl, rfl, rfl, rfl, rfl, rfl, rfl, rfl, rfl, rfl, rfl⟩
def gMok (M : gM) : Prop := Cond.code M.1 M.2.1 M.2.2.1 M.2.2.2.1 ∈ lw_all ∧ Cond.initialized M.1.cls ∈ lw_all ∧ (M.1.cls ≠ "java/lang/invoke/MethodHandle" ∧ M.1.cls ≠ "java/lang/invoke/VarHandle" ∧ (parseMethodDescriptor M.1.desc).map (fun d => d.parameters.length) = some M.2.2.2.2.2) ∧ M.2.2.1 + 19 ≤ 64 ∧ gOwn M.2.2.2.2.1 = M.1.cls
theorem gmok_X1_init : gMok gX1_init := ⟨q91, q57, by decide +kernel, by decide, rfl⟩
theorem gmok_X1_above : gMok gX1_above := ⟨q1036, q57, by decide +kernel, by decide, rfl⟩
theorem gmok_X1_across : gMok gX1_across := ⟨q1058, q57, by decide +kernel, by decide, rfl⟩
theorem gmok_X1_add : gMok gX1_add := ⟨q868, q57, by decide +kernel, by decide, rfl⟩
theorem gmok_X1_area : gMok gX1_area := ⟨q983, q57, by decide +kernel, by decide, rfl⟩
theorem gmok_X1_argue : gMok gX1_argue := ⟨q874, q57, by decide +kernel, by decide, rfl⟩
theorem gmok_X1_around : gMok gX1_around := ⟨q976, q57, by decide +kernel, by decide, rfl⟩
theorem gmok_X1_begins : gMok gX1_begins := ⟨q935, q57, by decide +kernel, by decide, rfl⟩
theorem gmok_X1_border : gMok gX1_border := ⟨q1002, q57, by decide +kernel, by decide, rfl⟩
theorem gmok_X1_bridges : gMok gX1_bridges := ⟨q859, q57, by decide +kernel, by decide, rfl⟩
theorem gmok_X1_clear : gMok gX1_clear := ⟨q177, q57, by decide +kernel, by decide, rfl⟩
theorem gmok_X1_compare : gMok gX1_compare := ⟨q826, q57, by decide +kernel, by decide, rfl⟩
theorem gmok_X1_count : gMok gX1_count := ⟨q181, q57, by decide +kernel, by decide, rfl⟩
theorem gmok_X1_cross : gMok gX1_cross := ⟨q356, q57, by decide +kernel, by decide, rfl⟩
theorem gmok_X1_face : gMok gX1_face := ⟨q958, q57, by decide +kernel, by decide, rfl⟩
theorem gmok_X1_faceAround : gMok gX1_faceAround := ⟨q792, q57, by decide +kernel, by decide, rfl⟩
theorem gmok_X1_faceAt : gMok gX1_faceAt := ⟨q987, q57, by decide +kernel, by decide, rfl⟩
theorem gmok_X1_findFaces : gMok gX1_findFaces := ⟨q746, q57, by decide +kernel, by decide, rfl⟩
theorem gmok_X1_findPieces : gMok gX1_findPieces := ⟨q851, q57, by decide +kernel, by decide, rfl⟩
theorem gmok_X1_goRound : gMok gX1_goRound := ⟨q685, q57, by decide +kernel, by decide, rfl⟩
theorem gmok_X1_half : gMok gX1_half := ⟨q939, q57, by decide +kernel, by decide, rfl⟩
theorem gmok_X1_halfBelow : gMok gX1_halfBelow := ⟨q800, q57, by decide +kernel, by decide, rfl⟩
theorem gmok_X1_heightAgainst : gMok gX1_heightAgainst := ⟨q1051, q57, by decide +kernel, by decide, rfl⟩
theorem gmok_X1_inside : gMok gX1_inside := ⟨q1018, q57, by decide +kernel, by decide, rfl⟩
theorem gmok_X1_isAbove : gMok gX1_isAbove := ⟨q814, q57, by decide +kernel, by decide, rfl⟩
theorem gmok_X1_isEnd : gMok gX1_isEnd := ⟨q912, q57, by decide +kernel, by decide, rfl⟩
theorem gmok_X1_isIn : gMok gX1_isIn := ⟨q871, q57, by decide +kernel, by decide, rfl⟩
theorem gmok_X1_isMet : gMok gX1_isMet := ⟨q1040, q57, by decide +kernel, by decide, rfl⟩
theorem gmok_X1_isOn : gMok gX1_isOn := ⟨q908, q57, by decide +kernel, by decide, rfl⟩
theorem gmok_X1_isOver : gMok gX1_isOver := ⟨q808, q57, by decide +kernel, by decide, rfl⟩
theorem gmok_X1_join : gMok gX1_join := ⟨q189, q57, by decide +kernel, by decide, rfl⟩
theorem gmok_X1_leastAt : gMok gX1_leastAt := ⟨q1029, q57, by decide +kernel, by decide, rfl⟩
theorem gmok_X1_length : gMok gX1_length := ⟨q1006, q57, by decide +kernel, by decide, rfl⟩
theorem gmok_X1_locate : gMok gX1_locate := ⟨q1025, q57, by decide +kernel, by decide, rfl⟩
theorem gmok_X1_make : gMok gX1_make := ⟨q185, q57, by decide +kernel, by decide, rfl⟩
theorem gmok_X1_meet : gMok gX1_meet := ⟨q904, q57, by decide +kernel, by decide, rfl⟩
theorem gmok_X1_next : gMok gX1_next := ⟨q951, q57, by decide +kernel, by decide, rfl⟩
theorem gmok_X1_node : gMok gX1_node := ⟨q198, q57, by decide +kernel, by decide, rfl⟩
theorem gmok_X1_nodeBelow : gMok gX1_nodeBelow := ⟨q830, q57, by decide +kernel, by decide, rfl⟩
theorem gmok_X1_number : gMok gX1_number := ⟨q962, q57, by decide +kernel, by decide, rfl⟩
theorem gmok_X1_piece : gMok gX1_piece := ⟨q969, q57, by decide +kernel, by decide, rfl⟩
theorem gmok_X1_remove : gMok gX1_remove := ⟨q173, q57, by decide +kernel, by decide, rfl⟩
theorem gmok_X1_segmentBelow : gMok gX1_segmentBelow := ⟨q804, q57, by decide +kernel, by decide, rfl⟩
theorem gmok_X1_side : gMok gX1_side := ⟨q818, q57, by decide +kernel, by decide, rfl⟩
theorem gmok_X1_sooner : gMok gX1_sooner := ⟨q1044, q57, by decide +kernel, by decide, rfl⟩
theorem gmok_X1_sort : gMok gX1_sort := ⟨q838, q57, by decide +kernel, by decide, rfl⟩
theorem gmok_X1_spread : gMok gX1_spread := ⟨q855, q57, by decide +kernel, by decide, rfl⟩
theorem gmok_X7_init : gMok gX7_init := ⟨q751, q85, by decide +kernel, by decide, rfl⟩
theorem gmok_X7_add : gMok gX7_add := ⟨q781, q85, by decide +kernel, by decide, rfl⟩
theorem gmok_X7_area : gMok gX7_area := ⟨q991, q85, by decide +kernel, by decide, rfl⟩
theorem gmok_X3_init : gMok gX3_init := ⟨q305, q69, by decide +kernel, by decide, rfl⟩
theorem gmok_X3_dx : gMok gX3_dx := ⟨q340, q69, by decide +kernel, by decide, rfl⟩
theorem gmok_X3_dy : gMok gX3_dy := ⟨q344, q69, by decide +kernel, by decide, rfl⟩
theorem gmok_X3_isBefore : gMok gX3_isBefore := ⟨q348, q69, by decide +kernel, by decide, rfl⟩
theorem gmok_X3_isUpper : gMok gX3_isUpper := ⟨q353, q69, by decide +kernel, by decide, rfl⟩
theorem gmok_X4_init : gMok gX4_init := ⟨q221, q72, by decide +kernel, by decide, rfl⟩
theorem gmok_X4_before : gMok gX4_before := ⟨q834, q72, by decide +kernel, by decide, rfl⟩
theorem gmok_X4_put : gMok gX4_put := ⟨q333, q72, by decide +kernel, by decide, rfl⟩
theorem gmok_X5_init : gMok gX5_init := ⟨q689, q83, by decide +kernel, by decide, rfl⟩
theorem gmok_X5_area : gMok gX5_area := ⟨q770, q83, by decide +kernel, by decide, rfl⟩
theorem gmok_X5_corner : gMok gX5_corner := ⟨q796, q83, by decide +kernel, by decide, rfl⟩
theorem gmok_X5_iterator : gMok gX5_iterator := ⟨q703, q83, by decide +kernel, by decide, rfl⟩
theorem gmok_X5_least : gMok gX5_least := ⟨q786, q83, by decide +kernel, by decide, rfl⟩
theorem gmok_X5_size : gMok gX5_size := ⟨q1010, q83, by decide +kernel, by decide, rfl⟩
theorem gmok_X6_init : gMok gX6_init := ⟨q708, q84, by decide +kernel, by decide, rfl⟩
theorem gmok_X6_hasNext : gMok gX6_hasNext := ⟨q729, q84, by decide +kernel, by decide, rfl⟩
theorem gmok_X6_next_2 : gMok gX6_next_2 := ⟨q742, q84, by decide +kernel, by decide, rfl⟩
theorem gmok_X6_next : gMok gX6_next := ⟨q738, q84, by decide +kernel, by decide, rfl⟩
theorem gmok_X2_init : gMok gX2_init := ⟨q1063, q61, by decide +kernel, by decide, rfl⟩
theorem gmok_X2_above : gMok gX2_above := ⟨q1253, q61, by decide +kernel, by decide, rfl⟩
theorem gmok_X2_across : gMok gX2_across := ⟨q1270, q61, by decide +kernel, by decide, rfl⟩
theorem gmok_X2_add : gMok gX2_add := ⟨q1122, q61, by decide +kernel, by decide, rfl⟩
theorem gmok_X2_area : gMok gX2_area := ⟨q1237, q61, by decide +kernel, by decide, rfl⟩
theorem gmok_X2_around : gMok gX2_around := ⟨q1229, q61, by decide +kernel, by decide, rfl⟩
theorem gmok_X2_back : gMok gX2_back := ⟨q1169, q61, by decide +kernel, by decide, rfl⟩
theorem gmok_X2_begins : gMok gX2_begins := ⟨q1209, q61, by decide +kernel, by decide, rfl⟩
theorem gmok_X2_border : gMok gX2_border := ⟨q1245, q61, by decide +kernel, by decide, rfl⟩
theorem gmok_X2_clear : gMok gX2_clear := ⟨q1154, q61, by decide +kernel, by decide, rfl⟩
theorem gmok_X2_count : gMok gX2_count := ⟨q1158, q61, by decide +kernel, by decide, rfl⟩
theorem gmok_X2_crossOf : gMok gX2_crossOf := ⟨q1181, q61, by decide +kernel, by decide, rfl⟩
theorem gmok_X2_face : gMok gX2_face := ⟨q1221, q61, by decide +kernel, by decide, rfl⟩
theorem gmok_X2_height : gMok gX2_height := ⟨q1261, q61, by decide +kernel, by decide, rfl⟩
theorem gmok_X2_isEnd : gMok gX2_isEnd := ⟨q1137, q61, by decide +kernel, by decide, rfl⟩
theorem gmok_X2_isFace : gMok gX2_isFace := ⟨q1241, q61, by decide +kernel, by decide, rfl⟩
theorem gmok_X2_isHalf : gMok gX2_isHalf := ⟨q1213, q61, by decide +kernel, by decide, rfl⟩
theorem gmok_X2_isIn : gMok gX2_isIn := ⟨q1125, q61, by decide +kernel, by decide, rfl⟩
theorem gmok_X2_isMet : gMok gX2_isMet := ⟨q1257, q61, by decide +kernel, by decide, rfl⟩
theorem gmok_X2_isOn : gMok gX2_isOn := ⟨q1140, q61, by decide +kernel, by decide, rfl⟩
theorem gmok_X2_isWithin : gMok gX2_isWithin := ⟨q1201, q61, by decide +kernel, by decide, rfl⟩
theorem gmok_X2_least : gMok gX2_least := ⟨q1197, q61, by decide +kernel, by decide, rfl⟩
theorem gmok_X2_leaves : gMok gX2_leaves := ⟨q1173, q61, by decide +kernel, by decide, rfl⟩
theorem gmok_X2_left : gMok gX2_left := ⟨q1205, q61, by decide +kernel, by decide, rfl⟩
theorem gmok_X2_locate : gMok gX2_locate := ⟨q1249, q61, by decide +kernel, by decide, rfl⟩
theorem gmok_X2_make : gMok gX2_make := ⟨q1162, q61, by decide +kernel, by decide, rfl⟩
theorem gmok_X2_makeRound : gMok gX2_makeRound := ⟨q1189, q61, by decide +kernel, by decide, rfl⟩
theorem gmok_X2_meets : gMok gX2_meets := ⟨q1133, q61, by decide +kernel, by decide, rfl⟩
theorem gmok_X2_next : gMok gX2_next := ⟨q1217, q61, by decide +kernel, by decide, rfl⟩
theorem gmok_X2_nextOf : gMok gX2_nextOf := ⟨q1166, q61, by decide +kernel, by decide, rfl⟩
theorem gmok_X2_number : gMok gX2_number := ⟨q1193, q61, by decide +kernel, by decide, rfl⟩
theorem gmok_X2_outer : gMok gX2_outer := ⟨q1233, q61, by decide +kernel, by decide, rfl⟩
theorem gmok_X2_piece : gMok gX2_piece := ⟨q1225, q61, by decide +kernel, by decide, rfl⟩
theorem gmok_X2_refused : gMok gX2_refused := ⟨q1129, q61, by decide +kernel, by decide, rfl⟩
theorem gmok_X2_remove : gMok gX2_remove := ⟨q1150, q61, by decide +kernel, by decide, rfl⟩
theorem gmok_X2_side : gMok gX2_side := ⟨q1143, q61, by decide +kernel, by decide, rfl⟩
theorem gmok_X2_sign : gMok gX2_sign := ⟨q1146, q61, by decide +kernel, by decide, rfl⟩
theorem gmok_X2_spreadPiece : gMok gX2_spreadPiece := ⟨q1185, q61, by decide +kernel, by decide, rfl⟩
theorem gmok_X2_thrown : gMok gX2_thrown := ⟨q1118, q61, by decide +kernel, by decide, rfl⟩
theorem gmok_X2_turned : gMok gX2_turned := ⟨q1177, q61, by decide +kernel, by decide, rfl⟩
theorem gmok_X2_width : gMok gX2_width := ⟨q1266, q61, by decide +kernel, by decide, rfl⟩
theorem gmok_J20_compare : gMok gJ20_compare := ⟨q1047, q82, by decide +kernel, by decide, rfl⟩
theorem gmok_J20_getChars : gMok gJ20_getChars := ⟨q561, q82, by decide +kernel, by decide, rfl⟩
theorem gmok_J20_stringSize : gMok gJ20_stringSize := ⟨q558, q82, by decide +kernel, by decide, rfl⟩
theorem gmok_J8_signum : gMok gJ8_signum := ⟨q822, q67, by decide +kernel, by decide, rfl⟩
theorem gmok_J9_max : gMok gJ9_max := ⟨q263, q68, by decide +kernel, by decide, rfl⟩
theorem gmok_J9_min : gMok gJ9_min := ⟨q297, q68, by decide +kernel, by decide, rfl⟩
theorem gmok_J0_init : gMok gJ0_init := ⟨q105, q58, by decide +kernel, by decide, rfl⟩
theorem gmok_J1_init : gMok gJ1_init := ⟨q102, q59, by decide +kernel, by decide, rfl⟩
theorem gmok_J2_init : gMok gJ2_init := ⟨q99, q60, by decide +kernel, by decide, rfl⟩
theorem gmok_J2_add_3 : gMok gJ2_add_3 := ⟨q360, q60, by decide +kernel, by decide, rfl⟩
theorem gmok_J2_add : gMok gJ2_add := ⟨q245, q60, by decide +kernel, by decide, rfl⟩
theorem gmok_J2_add_2 : gMok gJ2_add_2 := ⟨q249, q60, by decide +kernel, by decide, rfl⟩
theorem gmok_J2_clear : gMok gJ2_clear := ⟨q193, q60, by decide +kernel, by decide, rfl⟩
theorem gmok_J2_elementData : gMok gJ2_elementData := ⟨q216, q60, by decide +kernel, by decide, rfl⟩
theorem gmok_J2_fastRemove : gMok gJ2_fastRemove := ⟨q846, q60, by decide +kernel, by decide, rfl⟩
theorem gmok_J2_get : gMok gJ2_get := ⟨q206, q60, by decide +kernel, by decide, rfl⟩
theorem gmok_J2_grow : gMok gJ2_grow := ⟨q253, q60, by decide +kernel, by decide, rfl⟩
theorem gmok_J2_grow_2 : gMok gJ2_grow_2 := ⟨q257, q60, by decide +kernel, by decide, rfl⟩
theorem gmok_J2_isEmpty : gMok gJ2_isEmpty := ⟨q1014, q60, by decide +kernel, by decide, rfl⟩
theorem gmok_J2_outOfBoundsMsg : gMok gJ2_outOfBoundsMsg := ⟨q410, q60, by decide +kernel, by decide, rfl⟩
theorem gmok_J2_rangeCheckForAdd : gMok gJ2_rangeCheckForAdd := ⟨q364, q60, by decide +kernel, by decide, rfl⟩
theorem gmok_J2_remove : gMok gJ2_remove := ⟨q842, q60, by decide +kernel, by decide, rfl⟩
theorem gmok_J2_size : gMok gJ2_size := ⟨q202, q60, by decide +kernel, by decide, rfl⟩
theorem gmok_J13_checkLength : gMok gJ13_checkLength := ⟨q610, q74, by decide +kernel, by decide, rfl⟩
theorem gmok_J13_copyOf_3 : gMok gJ13_copyOf_3 := ⟨q467, q74, by decide +kernel, by decide, rfl⟩
theorem gmok_J13_copyOf : gMok gJ13_copyOf := ⟨q270, q74, by decide +kernel, by decide, rfl⟩
theorem gmok_J13_copyOf_2 : gMok gJ13_copyOf_2 := ⟨q291, q74, by decide +kernel, by decide, rfl⟩
theorem gmok_J13_copyOfRange : gMok gJ13_copyOfRange := ⟨q604, q74, by decide +kernel, by decide, rfl⟩
theorem gmok_J13_copyOfRangeByte : gMok gJ13_copyOfRangeByte := ⟨q607, q74, by decide +kernel, by decide, rfl⟩
theorem gmok_J10_checkIndex : gMok gJ10_checkIndex := ⟨q209, q70, by decide +kernel, by decide, rfl⟩
theorem gmok_J12_hugeLength : gMok gJ12_hugeLength := ⟨q267, q73, by decide +kernel, by decide, rfl⟩
theorem gmok_J12_newLength : gMok gJ12_newLength := ⟨q260, q73, by decide +kernel, by decide, rfl⟩
theorem gmok_J11_checkFromIndexSize : gMok gJ11_checkFromIndexSize := ⟨q542, q71, by decide +kernel, by decide, rfl⟩
theorem gmok_J11_checkFromToIndex : gMok gJ11_checkFromToIndex := ⟨q496, q71, by decide +kernel, by decide, rfl⟩
theorem gmok_J11_checkIndex : gMok gJ11_checkIndex := ⟨q212, q71, by decide +kernel, by decide, rfl⟩
def gCok (o i kd : Nat) (M : gM) : Prop := gMok M ∧ match kd with
  | 0 => Cond.methodLink (gOwn o) i M.1 ∈ lw_all ∧ Cond.instanceMethod M.1 ∈ lw_all ∧ Cond.selects M.1.cls M.1 M.1 ∈ lw_all
  | 1 => Cond.methodLink (gOwn o) i M.1 ∈ lw_all ∧ Cond.static M.1 ∈ lw_all
  | 2 => Cond.methodLink (gOwn o) i M.1 ∈ lw_all ∧ Cond.instanceMethod M.1 ∈ lw_all ∧ M.1.name = "<init>" ∧ M.2.2.2.1 = none
  | 3 => (∃ host, Cond.methodLinkNest (gOwn o) i M.1 host ∈ gNest) ∧ Cond.static M.1 ∈ lw_all
  | _ => (∃ host, Cond.methodLinkNest (gOwn o) i M.1 host ∈ gNest) ∧ Cond.instanceMethod M.1 ∈ lw_all ∧ M.1.name = "<init>" ∧ M.2.2.2.1 = none
theorem gc_0 : gCok 1 28 2 gJ2_init := ⟨gmok_J2_init, ⟨q97, q98, rfl, rfl⟩⟩
theorem gc_1 : gCok 1 57 1 gX1_cross := ⟨gmok_X1_cross, ⟨q819, q355⟩⟩
theorem gc_2 : gCok 1 61 1 gJ8_signum := ⟨gmok_J8_signum, ⟨q820, q821⟩⟩
theorem gc_3 : gCok 1 67 0 gX1_side := ⟨gmok_X1_side, ⟨q815, q817, qs16⟩⟩
theorem gc_4 : gCok 1 71 1 gJ9_min := ⟨gmok_J9_min, ⟨q809, q296⟩⟩
theorem gc_5 : gCok 1 77 1 gJ9_max := ⟨gmok_J9_max, ⟨q810, q262⟩⟩
theorem gc_6 : gCok 1 80 0 gX1_isOn := ⟨gmok_X1_isOn, ⟨q905, q907, qs25⟩⟩
theorem gc_7 : gCok 1 84 0 gX1_isEnd := ⟨gmok_X1_isEnd, ⟨q909, q911, qs26⟩⟩
theorem gc_8 : gCok 1 87 1 gX1_isIn := ⟨gmok_X1_isIn, ⟨q869, q870⟩⟩
theorem gc_9 : gCok 1 91 1 gX1_argue := ⟨gmok_X1_argue, ⟨q872, q873⟩⟩
theorem gc_10 : gCok 1 102 0 gX1_meet := ⟨gmok_X1_meet, ⟨q901, q903, qs24⟩⟩
theorem gc_11 : gCok 1 110 0 gJ2_size := ⟨gmok_J2_size, ⟨q199, q200, q201⟩⟩
theorem gc_12 : gCok 1 114 0 gJ2_get := ⟨gmok_J2_get, ⟨q203, q204, q205⟩⟩
theorem gc_13 : gCok 1 126 2 gX4_init := ⟨gmok_X4_init, ⟨q219, q220, rfl, rfl⟩⟩
theorem gc_14 : gCok 1 129 0 gJ2_add := ⟨gmok_J2_add, ⟨q242, q243, q244⟩⟩
theorem gc_15 : gCok 1 133 0 gJ2_clear := ⟨gmok_J2_clear, ⟨q190, q191, q192⟩⟩
theorem gc_16 : gCok 1 136 0 gX1_node := ⟨gmok_X1_node, ⟨q195, q197, qs2⟩⟩
theorem gc_17 : gCok 1 140 2 gX3_init := ⟨gmok_X3_init, ⟨q303, q304, rfl, rfl⟩⟩
theorem gc_18 : gCok 1 151 0 gX4_put := ⟨gmok_X4_put, ⟨q330, q331, q332⟩⟩
theorem gc_19 : gCok 1 164 2 gX5_init := ⟨gmok_X5_init, ⟨q687, q688, rfl, rfl⟩⟩
theorem gc_20 : gCok 1 166 0 gX5_iterator := ⟨gmok_X5_iterator, ⟨q700, q701, q702⟩⟩
theorem gc_21 : gCok 1 179 0 gX1_isOver := ⟨gmok_X1_isOver, ⟨q805, q807, qs14⟩⟩
theorem gc_22 : gCok 1 182 0 gX1_isAbove := ⟨gmok_X1_isAbove, ⟨q811, q813, qs15⟩⟩
theorem gc_23 : gCok 1 185 0 gX1_compare := ⟨gmok_X1_compare, ⟨q823, q825, qs17⟩⟩
theorem gc_24 : gCok 1 188 0 gX1_segmentBelow := ⟨gmok_X1_segmentBelow, ⟨q801, q803, qs13⟩⟩
theorem gc_25 : gCok 1 191 0 gX1_nodeBelow := ⟨gmok_X1_nodeBelow, ⟨q827, q829, qs18⟩⟩
theorem gc_26 : gCok 1 194 0 gX4_before := ⟨gmok_X4_before, ⟨q831, q832, q833⟩⟩
theorem gc_27 : gCok 1 202 0 gX5_corner := ⟨gmok_X5_corner, ⟨q793, q794, q795⟩⟩
theorem gc_28 : gCok 1 206 0 gX1_halfBelow := ⟨gmok_X1_halfBelow, ⟨q797, q799, qs12⟩⟩
theorem gc_29 : gCok 1 212 0 gX5_area := ⟨gmok_X5_area, ⟨q767, q768, q769⟩⟩
theorem gc_30 : gCok 1 216 0 gX7_add := ⟨gmok_X7_add, ⟨q778, q779, q780⟩⟩
theorem gc_31 : gCok 1 219 0 gX1_faceAround := ⟨gmok_X1_faceAround, ⟨q789, q791, qs11⟩⟩
theorem gc_32 : gCok 1 223 0 gX1_sort := ⟨gmok_X1_sort, ⟨q835, q837, qs19⟩⟩
theorem gc_33 : gCok 1 226 0 gJ2_remove := ⟨gmok_J2_remove, ⟨q839, q840, q841⟩⟩
theorem gc_34 : gCok 1 232 0 gJ2_add_3 := ⟨gmok_J2_add_3, ⟨q847, q358, q359⟩⟩
theorem gc_35 : gCok 1 238 0 gX1_spread := ⟨gmok_X1_spread, ⟨q852, q854, qs22⟩⟩
theorem gc_36 : gCok 1 247 0 gX1_join := ⟨gmok_X1_join, ⟨q186, q188, qs1⟩⟩
theorem gc_37 : gCok 1 250 0 gX1_goRound := ⟨gmok_X1_goRound, ⟨q682, q684, qs9⟩⟩
theorem gc_38 : gCok 1 253 0 gX1_findFaces := ⟨gmok_X1_findFaces, ⟨q743, q745, qs10⟩⟩
theorem gc_39 : gCok 1 256 0 gX1_findPieces := ⟨gmok_X1_findPieces, ⟨q848, q850, qs21⟩⟩
theorem gc_40 : gCok 1 259 0 gX1_make := ⟨gmok_X1_make, ⟨q182, q184, qs0⟩⟩
theorem gc_41 : gCok 1 265 0 gX1_bridges := ⟨gmok_X1_bridges, ⟨q856, q858, qs23⟩⟩
theorem gc_42 : gCok 1 268 0 gX1_half := ⟨gmok_X1_half, ⟨q936, q938, qs27⟩⟩
theorem gc_43 : gCok 1 272 0 gX1_number := ⟨gmok_X1_number, ⟨q959, q961, qs28⟩⟩
theorem gc_44 : gCok 1 275 0 gX1_faceAt := ⟨gmok_X1_faceAt, ⟨q984, q986, qs29⟩⟩
theorem gc_45 : gCok 1 279 0 gX7_area := ⟨gmok_X7_area, ⟨q988, q989, q990⟩⟩
theorem gc_46 : gCok 1 281 0 gX5_size := ⟨gmok_X5_size, ⟨q1007, q1008, q1009⟩⟩
theorem gc_47 : gCok 1 282 0 gX1_length := ⟨gmok_X1_length, ⟨q1003, q1005, qs30⟩⟩
theorem gc_48 : gCok 1 285 0 gJ2_isEmpty := ⟨gmok_J2_isEmpty, ⟨q1011, q1012, q1013⟩⟩
theorem gc_49 : gCok 1 288 0 gX1_inside := ⟨gmok_X1_inside, ⟨q1015, q1017, qs31⟩⟩
theorem gc_50 : gCok 1 291 0 gX1_leastAt := ⟨gmok_X1_leastAt, ⟨q1026, q1028, qs32⟩⟩
theorem gc_51 : gCok 1 295 1 gJ20_compare := ⟨gmok_J20_compare, ⟨q1045, q1046⟩⟩
theorem gc_52 : gCok 1 299 0 gX1_heightAgainst := ⟨gmok_X1_heightAgainst, ⟨q1048, q1050, qs35⟩⟩
theorem gc_53 : gCok 1 302 0 gX1_isMet := ⟨gmok_X1_isMet, ⟨q1037, q1039, qs33⟩⟩
theorem gc_54 : gCok 1 305 0 gX1_sooner := ⟨gmok_X1_sooner, ⟨q1041, q1043, qs34⟩⟩
theorem gc_55 : gCok 7 11 2 gJ2_init := ⟨gmok_J2_init, ⟨q754, q98, rfl, rfl⟩⟩
theorem gc_56 : gCok 7 28 0 gJ2_add := ⟨gmok_J2_add, ⟨q782, q243, q244⟩⟩
theorem gc_57 : gCok 7 32 0 gX5_least := ⟨gmok_X5_least, ⟨q783, q784, q785⟩⟩
theorem gc_58 : gCok 7 35 1 gJ9_min := ⟨gmok_J9_min, ⟨q788, q296⟩⟩
theorem gc_59 : gCok 7 41 0 gJ2_size := ⟨gmok_J2_size, ⟨q992, q200, q201⟩⟩
theorem gc_60 : gCok 7 44 0 gJ2_get := ⟨gmok_J2_get, ⟨q993, q204, q205⟩⟩
theorem gc_61 : gCok 7 48 0 gX5_area := ⟨gmok_X5_area, ⟨q995, q768, q769⟩⟩
theorem gc_62 : gCok 3 29 0 gX3_dx := ⟨gmok_X3_dx, ⟨q349, q338, q339⟩⟩
theorem gc_63 : gCok 3 33 0 gX3_dy := ⟨gmok_X3_dy, ⟨q350, q342, q343⟩⟩
theorem gc_64 : gCok 3 36 1 gX3_isUpper := ⟨gmok_X3_isUpper, ⟨q351, q352⟩⟩
theorem gc_65 : gCok 4 9 2 gJ2_init := ⟨gmok_J2_init, ⟨q224, q98, rfl, rfl⟩⟩
theorem gc_66 : gCok 4 23 0 gJ2_size := ⟨gmok_J2_size, ⟨q334, q200, q201⟩⟩
theorem gc_67 : gCok 4 27 0 gJ2_get := ⟨gmok_J2_get, ⟨q335, q204, q205⟩⟩
theorem gc_68 : gCok 4 33 0 gX3_dx := ⟨gmok_X3_dx, ⟨q337, q338, q339⟩⟩
theorem gc_69 : gCok 4 36 0 gX3_dy := ⟨gmok_X3_dy, ⟨q341, q342, q343⟩⟩
theorem gc_70 : gCok 4 39 0 gX3_isBefore := ⟨gmok_X3_isBefore, ⟨q345, q346, q347⟩⟩
theorem gc_71 : gCok 4 43 0 gJ2_add_3 := ⟨gmok_J2_add_3, ⟨q357, q358, q359⟩⟩
theorem gc_72 : gCok 5 15 2 gX6_init := ⟨gmok_X6_init, ⟨q706, q707, rfl, rfl⟩⟩
theorem gc_73 : gCok 5 18 0 gX5_iterator := ⟨gmok_X5_iterator, ⟨q771, q701, q702⟩⟩
theorem gc_74 : gCok 5 59 1 gJ9_min := ⟨gmok_J9_min, ⟨q787, q296⟩⟩
theorem gc_75 : gCok 6 25 0 gX6_next_2 := ⟨gmok_X6_next_2, ⟨q739, q740, q741⟩⟩
theorem gc_76 : gCok 0 7 0 gX1_add := ⟨gmok_X1_add, ⟨q865, q866, q867⟩⟩
theorem gc_77 : gCok 0 17 0 gX1_begins := ⟨gmok_X1_begins, ⟨q932, q933, q934⟩⟩
theorem gc_78 : gCok 0 23 0 gX1_next := ⟨gmok_X1_next, ⟨q948, q949, q950⟩⟩
theorem gc_79 : gCok 0 27 0 gX1_face := ⟨gmok_X1_face, ⟨q955, q956, q957⟩⟩
theorem gc_80 : gCok 0 30 0 gX1_piece := ⟨gmok_X1_piece, ⟨q966, q967, q968⟩⟩
theorem gc_81 : gCok 0 33 0 gX1_around := ⟨gmok_X1_around, ⟨q973, q974, q975⟩⟩
theorem gc_82 : gCok 0 36 0 gX1_area := ⟨gmok_X1_area, ⟨q980, q981, q982⟩⟩
theorem gc_83 : gCok 0 39 0 gX1_border := ⟨gmok_X1_border, ⟨q999, q1000, q1001⟩⟩
theorem gc_84 : gCok 0 43 0 gX1_locate := ⟨gmok_X1_locate, ⟨q1022, q1023, q1024⟩⟩
theorem gc_85 : gCok 0 46 0 gX1_above := ⟨gmok_X1_above, ⟨q1033, q1034, q1035⟩⟩
theorem gc_86 : gCok 0 49 0 gX1_across := ⟨gmok_X1_across, ⟨q1055, q1056, q1057⟩⟩
theorem gc_87 : gCok 0 52 2 gX1_init := ⟨gmok_X1_init, ⟨q89, q90, rfl, rfl⟩⟩
theorem gc_88 : gCok 0 55 2 gX2_init := ⟨gmok_X2_init, ⟨q1061, q1062, rfl, rfl⟩⟩
theorem gc_89 : gCok 0 61 0 gX2_add := ⟨gmok_X2_add, ⟨q1119, q1120, q1121⟩⟩
theorem gc_90 : gCok 0 62 0 gX2_thrown := ⟨gmok_X2_thrown, ⟨q1115, q1116, q1117⟩⟩
theorem gc_91 : gCok 0 66 0 gX1_remove := ⟨gmok_X1_remove, ⟨q170, q171, q172⟩⟩
theorem gc_92 : gCok 0 70 0 gX2_remove := ⟨gmok_X2_remove, ⟨q1147, q1148, q1149⟩⟩
theorem gc_93 : gCok 0 71 0 gX1_clear := ⟨gmok_X1_clear, ⟨q174, q175, q176⟩⟩
theorem gc_94 : gCok 0 74 0 gX2_clear := ⟨gmok_X2_clear, ⟨q1151, q1152, q1153⟩⟩
theorem gc_95 : gCok 0 75 0 gX1_count := ⟨gmok_X1_count, ⟨q178, q179, q180⟩⟩
theorem gc_96 : gCok 0 78 0 gX2_count := ⟨gmok_X2_count, ⟨q1155, q1156, q1157⟩⟩
theorem gc_97 : gCok 0 82 0 gX2_begins := ⟨gmok_X2_begins, ⟨q1206, q1207, q1208⟩⟩
theorem gc_98 : gCok 0 86 0 gX2_next := ⟨gmok_X2_next, ⟨q1214, q1215, q1216⟩⟩
theorem gc_99 : gCok 0 89 0 gX2_face := ⟨gmok_X2_face, ⟨q1218, q1219, q1220⟩⟩
theorem gc_100 : gCok 0 92 0 gX2_piece := ⟨gmok_X2_piece, ⟨q1222, q1223, q1224⟩⟩
theorem gc_101 : gCok 0 95 0 gX2_around := ⟨gmok_X2_around, ⟨q1226, q1227, q1228⟩⟩
theorem gc_102 : gCok 0 98 0 gX2_area := ⟨gmok_X2_area, ⟨q1234, q1235, q1236⟩⟩
theorem gc_103 : gCok 0 102 0 gX2_border := ⟨gmok_X2_border, ⟨q1242, q1243, q1244⟩⟩
theorem gc_104 : gCok 0 105 0 gX2_locate := ⟨gmok_X2_locate, ⟨q1246, q1247, q1248⟩⟩
theorem gc_105 : gCok 0 108 0 gX2_above := ⟨gmok_X2_above, ⟨q1250, q1251, q1252⟩⟩
theorem gc_106 : gCok 0 111 0 gX2_across := ⟨gmok_X2_across, ⟨q1267, q1268, q1269⟩⟩
theorem gc_107 : gCok 2 49 1 gX2_sign := ⟨gmok_X2_sign, ⟨q1144, q1145⟩⟩
theorem gc_108 : gCok 2 53 1 gX2_side := ⟨gmok_X2_side, ⟨q1141, q1142⟩⟩
theorem gc_109 : gCok 2 57 0 gX2_isEnd := ⟨gmok_X2_isEnd, ⟨q1134, q1136, qs38⟩⟩
theorem gc_110 : gCok 2 61 1 gX2_isOn := ⟨gmok_X2_isOn, ⟨q1138, q1139⟩⟩
theorem gc_111 : gCok 2 65 1 gX2_isIn := ⟨gmok_X2_isIn, ⟨q1123, q1124⟩⟩
theorem gc_112 : gCok 2 69 0 gX2_refused := ⟨gmok_X2_refused, ⟨q1126, q1128, qs36⟩⟩
theorem gc_113 : gCok 2 72 0 gX2_meets := ⟨gmok_X2_meets, ⟨q1130, q1132, qs37⟩⟩
theorem gc_114 : gCok 2 80 1 gX2_back := ⟨gmok_X2_back, ⟨q1167, q1168⟩⟩
theorem gc_115 : gCok 2 84 0 gX2_crossOf := ⟨gmok_X2_crossOf, ⟨q1178, q1180, qs43⟩⟩
theorem gc_116 : gCok 2 88 0 gX2_leaves := ⟨gmok_X2_leaves, ⟨q1170, q1172, qs41⟩⟩
theorem gc_117 : gCok 2 91 0 gX2_turned := ⟨gmok_X2_turned, ⟨q1174, q1176, qs42⟩⟩
theorem gc_118 : gCok 2 98 0 gX2_isWithin := ⟨gmok_X2_isWithin, ⟨q1198, q1200, qs48⟩⟩
theorem gc_119 : gCok 2 104 0 gX2_nextOf := ⟨gmok_X2_nextOf, ⟨q1163, q1165, qs40⟩⟩
theorem gc_120 : gCok 2 107 0 gX2_spreadPiece := ⟨gmok_X2_spreadPiece, ⟨q1182, q1184, qs44⟩⟩
theorem gc_121 : gCok 2 111 0 gX2_makeRound := ⟨gmok_X2_makeRound, ⟨q1186, q1188, qs45⟩⟩
theorem gc_122 : gCok 2 115 0 gX2_number := ⟨gmok_X2_number, ⟨q1190, q1192, qs46⟩⟩
theorem gc_123 : gCok 2 121 0 gX2_least := ⟨gmok_X2_least, ⟨q1194, q1196, qs47⟩⟩
theorem gc_124 : gCok 2 125 0 gX2_make := ⟨gmok_X2_make, ⟨q1159, q1161, qs39⟩⟩
theorem gc_125 : gCok 2 128 0 gX2_left := ⟨gmok_X2_left, ⟨q1202, q1204, qs49⟩⟩
theorem gc_126 : gCok 2 131 0 gX2_isHalf := ⟨gmok_X2_isHalf, ⟨q1210, q1212, qs50⟩⟩
theorem gc_127 : gCok 2 134 0 gX2_outer := ⟨gmok_X2_outer, ⟨q1230, q1232, qs51⟩⟩
theorem gc_128 : gCok 2 137 0 gX2_isFace := ⟨gmok_X2_isFace, ⟨q1238, q1240, qs52⟩⟩
theorem gc_129 : gCok 2 142 0 gX2_height := ⟨gmok_X2_height, ⟨q1258, q1260, qs54⟩⟩
theorem gc_130 : gCok 2 146 0 gX2_width := ⟨gmok_X2_width, ⟨q1263, q1265, qs55⟩⟩
theorem gc_131 : gCok 2 150 0 gX2_isMet := ⟨gmok_X2_isMet, ⟨q1254, q1256, qs53⟩⟩
theorem gc_132 : gCok 9 1 2 gJ0_init := ⟨gmok_J0_init, ⟨q103, q104, rfl, rfl⟩⟩
theorem gc_133 : gCok 8 1 2 gJ1_init := ⟨gmok_J1_init, ⟨q100, q101, rfl, rfl⟩⟩
theorem gc_134 : gCok 8 66 1 gJ13_copyOf := ⟨gmok_J13_copyOf, ⟨q268, q269⟩⟩
theorem gc_135 : gCok 8 69 0 gJ2_grow_2 := ⟨gmok_J2_grow_2, ⟨q254, q256, qs5⟩⟩
theorem gc_136 : gCok 8 73 1 gJ12_newLength := ⟨gmok_J12_newLength, ⟨q258, q259⟩⟩
theorem gc_137 : gCok 8 79 1 gJ9_max := ⟨gmok_J9_max, ⟨q301, q262⟩⟩
theorem gc_138 : gCok 8 118 1 gJ10_checkIndex := ⟨gmok_J10_checkIndex, ⟨q207, q208⟩⟩
theorem gc_139 : gCok 8 123 0 gJ2_elementData := ⟨gmok_J2_elementData, ⟨q213, q214, q215⟩⟩
theorem gc_140 : gCok 8 129 0 gJ2_grow := ⟨gmok_J2_grow, ⟨q250, q252, qs4⟩⟩
theorem gc_141 : gCok 8 131 0 gJ2_add_2 := ⟨gmok_J2_add_2, ⟨q246, q248, qs3⟩⟩
theorem gc_142 : gCok 8 135 0 gJ2_rangeCheckForAdd := ⟨gmok_J2_rangeCheckForAdd, ⟨q361, q363, qs6⟩⟩
theorem gc_143 : gCok 8 144 0 gJ2_fastRemove := ⟨gmok_J2_fastRemove, ⟨q843, q845, qs20⟩⟩
theorem gc_144 : gCok 8 198 0 gJ2_outOfBoundsMsg := ⟨gmok_J2_outOfBoundsMsg, ⟨q407, q409, qs8⟩⟩
theorem gc_145 : gCok 14 300 1 gJ13_copyOf_2 := ⟨gmok_J13_copyOf_2, ⟨q289, q290⟩⟩
theorem gc_146 : gCok 14 304 1 gJ9_min := ⟨gmok_J9_min, ⟨q295, q296⟩⟩
theorem gc_147 : gCok 14 339 1 gJ13_copyOfRangeByte := ⟨gmok_J13_copyOfRangeByte, ⟨q605, q606⟩⟩
theorem gc_148 : gCok 14 343 1 gJ13_checkLength := ⟨gmok_J13_checkLength, ⟨q608, q609⟩⟩
theorem gc_149 : gCok 11 105 1 gJ11_checkIndex := ⟨gmok_J11_checkIndex, ⟨q210, q211⟩⟩
theorem gc_150 : gCok 13 194 1 gJ9_max := ⟨gmok_J9_max, ⟨q261, q262⟩⟩
theorem gc_151 : gCok 13 201 1 gJ12_hugeLength := ⟨gmok_J12_hugeLength, ⟨q265, q266⟩⟩
theorem gc_152 : gCok 1 211 4 gX7_init := ⟨gmok_X7_init, ⟨⟨"PlaneFaces", List.mem_of_getElem? (i := 22) rfl⟩, q750, rfl, rfl⟩⟩
theorem gc_153 : gCok 3 40 3 gX1_cross := ⟨gmok_X1_cross, ⟨⟨"PlaneFaces", List.mem_of_getElem? (i := 23) rfl⟩, q355⟩⟩
theorem gc_154 : gCok 5 50 3 gX1_cross := ⟨gmok_X1_cross, ⟨⟨"PlaneFaces", List.mem_of_getElem? (i := 24) rfl⟩, q355⟩⟩
theorem gCT_all : ∀ q ∈ gCT, gCok q.1 q.2.1 q.2.2.1 q.2.2.2 := List.forall_mem_cons.mpr ⟨gc_0, List.forall_mem_cons.mpr ⟨gc_1, List.forall_mem_cons.mpr ⟨gc_2, List.forall_mem_cons.mpr ⟨gc_3, List.forall_mem_cons.mpr ⟨gc_4, List.forall_mem_cons.mpr ⟨gc_5, List.forall_mem_cons.mpr ⟨gc_6, List.forall_mem_cons.mpr ⟨gc_7, List.forall_mem_cons.mpr ⟨gc_8, List.forall_mem_cons.mpr ⟨gc_9, List.forall_mem_cons.mpr ⟨gc_10, List.forall_mem_cons.mpr ⟨gc_11, List.forall_mem_cons.mpr ⟨gc_12, List.forall_mem_cons.mpr ⟨gc_13, List.forall_mem_cons.mpr ⟨gc_14, List.forall_mem_cons.mpr ⟨gc_15, List.forall_mem_cons.mpr ⟨gc_16, List.forall_mem_cons.mpr ⟨gc_17, List.forall_mem_cons.mpr ⟨gc_18, List.forall_mem_cons.mpr ⟨gc_19, List.forall_mem_cons.mpr ⟨gc_20, List.forall_mem_cons.mpr ⟨gc_21, List.forall_mem_cons.mpr ⟨gc_22, List.forall_mem_cons.mpr ⟨gc_23, List.forall_mem_cons.mpr ⟨gc_24, List.forall_mem_cons.mpr ⟨gc_25, List.forall_mem_cons.mpr ⟨gc_26, List.forall_mem_cons.mpr ⟨gc_27, List.forall_mem_cons.mpr ⟨gc_28, List.forall_mem_cons.mpr ⟨gc_29, List.forall_mem_cons.mpr ⟨gc_30, List.forall_mem_cons.mpr ⟨gc_31, List.forall_mem_cons.mpr ⟨gc_32, List.forall_mem_cons.mpr ⟨gc_33, List.forall_mem_cons.mpr ⟨gc_34, List.forall_mem_cons.mpr ⟨gc_35, List.forall_mem_cons.mpr ⟨gc_36, List.forall_mem_cons.mpr ⟨gc_37, List.forall_mem_cons.mpr ⟨gc_38, List.forall_mem_cons.mpr ⟨gc_39, List.forall_mem_cons.mpr ⟨gc_40, List.forall_mem_cons.mpr ⟨gc_41, List.forall_mem_cons.mpr ⟨gc_42, List.forall_mem_cons.mpr ⟨gc_43, List.forall_mem_cons.mpr ⟨gc_44, List.forall_mem_cons.mpr ⟨gc_45, List.forall_mem_cons.mpr ⟨gc_46, List.forall_mem_cons.mpr ⟨gc_47, List.forall_mem_cons.mpr ⟨gc_48, List.forall_mem_cons.mpr ⟨gc_49, List.forall_mem_cons.mpr ⟨gc_50, List.forall_mem_cons.mpr ⟨gc_51, List.forall_mem_cons.mpr ⟨gc_52, List.forall_mem_cons.mpr ⟨gc_53, List.forall_mem_cons.mpr ⟨gc_54, List.forall_mem_cons.mpr ⟨gc_55, List.forall_mem_cons.mpr ⟨gc_56, List.forall_mem_cons.mpr ⟨gc_57, List.forall_mem_cons.mpr ⟨gc_58, List.forall_mem_cons.mpr ⟨gc_59, List.forall_mem_cons.mpr ⟨gc_60, List.forall_mem_cons.mpr ⟨gc_61, List.forall_mem_cons.mpr ⟨gc_62, List.forall_mem_cons.mpr ⟨gc_63, List.forall_mem_cons.mpr ⟨gc_64, List.forall_mem_cons.mpr ⟨gc_65, List.forall_mem_cons.mpr ⟨gc_66, List.forall_mem_cons.mpr ⟨gc_67, List.forall_mem_cons.mpr ⟨gc_68, List.forall_mem_cons.mpr ⟨gc_69, List.forall_mem_cons.mpr ⟨gc_70, List.forall_mem_cons.mpr ⟨gc_71, List.forall_mem_cons.mpr ⟨gc_72, List.forall_mem_cons.mpr ⟨gc_73, List.forall_mem_cons.mpr ⟨gc_74, List.forall_mem_cons.mpr ⟨gc_75, List.forall_mem_cons.mpr ⟨gc_76, List.forall_mem_cons.mpr ⟨gc_77, List.forall_mem_cons.mpr ⟨gc_78, List.forall_mem_cons.mpr ⟨gc_79, List.forall_mem_cons.mpr ⟨gc_80, List.forall_mem_cons.mpr ⟨gc_81, List.forall_mem_cons.mpr ⟨gc_82, List.forall_mem_cons.mpr ⟨gc_83, List.forall_mem_cons.mpr ⟨gc_84, List.forall_mem_cons.mpr ⟨gc_85, List.forall_mem_cons.mpr ⟨gc_86, List.forall_mem_cons.mpr ⟨gc_87, List.forall_mem_cons.mpr ⟨gc_88, List.forall_mem_cons.mpr ⟨gc_89, List.forall_mem_cons.mpr ⟨gc_90, List.forall_mem_cons.mpr ⟨gc_91, List.forall_mem_cons.mpr ⟨gc_92, List.forall_mem_cons.mpr ⟨gc_93, List.forall_mem_cons.mpr ⟨gc_94, List.forall_mem_cons.mpr ⟨gc_95, List.forall_mem_cons.mpr ⟨gc_96, List.forall_mem_cons.mpr ⟨gc_97, List.forall_mem_cons.mpr ⟨gc_98, List.forall_mem_cons.mpr ⟨gc_99, List.forall_mem_cons.mpr ⟨gc_100, List.forall_mem_cons.mpr ⟨gc_101, List.forall_mem_cons.mpr ⟨gc_102, List.forall_mem_cons.mpr ⟨gc_103, List.forall_mem_cons.mpr ⟨gc_104, List.forall_mem_cons.mpr ⟨gc_105, List.forall_mem_cons.mpr ⟨gc_106, List.forall_mem_cons.mpr ⟨gc_107, List.forall_mem_cons.mpr ⟨gc_108, List.forall_mem_cons.mpr ⟨gc_109, List.forall_mem_cons.mpr ⟨gc_110, List.forall_mem_cons.mpr ⟨gc_111, List.forall_mem_cons.mpr ⟨gc_112, List.forall_mem_cons.mpr ⟨gc_113, List.forall_mem_cons.mpr ⟨gc_114, List.forall_mem_cons.mpr ⟨gc_115, List.forall_mem_cons.mpr ⟨gc_116, List.forall_mem_cons.mpr ⟨gc_117, List.forall_mem_cons.mpr ⟨gc_118, List.forall_mem_cons.mpr ⟨gc_119, List.forall_mem_cons.mpr ⟨gc_120, List.forall_mem_cons.mpr ⟨gc_121, List.forall_mem_cons.mpr ⟨gc_122, List.forall_mem_cons.mpr ⟨gc_123, List.forall_mem_cons.mpr ⟨gc_124, List.forall_mem_cons.mpr ⟨gc_125, List.forall_mem_cons.mpr ⟨gc_126, List.forall_mem_cons.mpr ⟨gc_127, List.forall_mem_cons.mpr ⟨gc_128, List.forall_mem_cons.mpr ⟨gc_129, List.forall_mem_cons.mpr ⟨gc_130, List.forall_mem_cons.mpr ⟨gc_131, List.forall_mem_cons.mpr ⟨gc_132, List.forall_mem_cons.mpr ⟨gc_133, List.forall_mem_cons.mpr ⟨gc_134, List.forall_mem_cons.mpr ⟨gc_135, List.forall_mem_cons.mpr ⟨gc_136, List.forall_mem_cons.mpr ⟨gc_137, List.forall_mem_cons.mpr ⟨gc_138, List.forall_mem_cons.mpr ⟨gc_139, List.forall_mem_cons.mpr ⟨gc_140, List.forall_mem_cons.mpr ⟨gc_141, List.forall_mem_cons.mpr ⟨gc_142, List.forall_mem_cons.mpr ⟨gc_143, List.forall_mem_cons.mpr ⟨gc_144, List.forall_mem_cons.mpr ⟨gc_145, List.forall_mem_cons.mpr ⟨gc_146, List.forall_mem_cons.mpr ⟨gc_147, List.forall_mem_cons.mpr ⟨gc_148, List.forall_mem_cons.mpr ⟨gc_149, List.forall_mem_cons.mpr ⟨gc_150, List.forall_mem_cons.mpr ⟨gc_151, List.forall_mem_cons.mpr ⟨gc_152, List.forall_mem_cons.mpr ⟨gc_153, List.forall_mem_cons.mpr ⟨gc_154, fun _ h => absurd h List.not_mem_nil⟩⟩⟩⟩⟩⟩⟩⟩⟩⟩⟩⟩⟩⟩⟩⟩⟩⟩⟩⟩⟩⟩⟩⟩⟩⟩⟩⟩⟩⟩⟩⟩⟩⟩⟩⟩⟩⟩⟩⟩⟩⟩⟩⟩⟩⟩⟩⟩⟩⟩⟩⟩⟩⟩⟩⟩⟩⟩⟩⟩⟩⟩⟩⟩⟩⟩⟩⟩⟩⟩⟩⟩⟩⟩⟩⟩⟩⟩⟩⟩⟩⟩⟩⟩⟩⟩⟩⟩⟩⟩⟩⟩⟩⟩⟩⟩⟩⟩⟩⟩⟩⟩⟩⟩⟩⟩⟩⟩⟩⟩⟩⟩⟩⟩⟩⟩⟩⟩⟩⟩⟩⟩⟩⟩⟩⟩⟩⟩⟩⟩⟩⟩⟩⟩⟩⟩⟩⟩⟩⟩⟩⟩⟩⟩⟩⟩⟩⟩⟩⟩⟩⟩⟩⟩⟩
theorem gC_ok {o i kd : Nat} {M : gM} (h : gC o i = some (kd, M)) : gCok o i kd M := by
  unfold gC at h
  obtain ⟨q, hq, e⟩ := Option.map_eq_some_iff.mp h
  have hm := List.mem_of_find?_eq_some hq
  have hp := List.find?_some hq
  simp only [Bool.and_eq_true, beq_iff_eq] at hp
  obtain ⟨rfl, rfl⟩ := hp
  obtain ⟨a, b, c, d⟩ := q
  cases e
  exact gCT_all _ hm
/-! Object.<init>: (own, index) -/
def gOT : List (Nat × Nat) := [(1, 1), (7, 3), (3, 1), (4, 1), (5, 1), (6, 1), (2, 1), (10, 1)]
theorem gOT_ok : ∀ q ∈ gOT, Cond.methodLink (gOwn q.1) q.2 Lib.objectInit ∈ lw_all := List.forall_mem_cons.mpr ⟨q92, List.forall_mem_cons.mpr ⟨q752, List.forall_mem_cons.mpr ⟨q306, List.forall_mem_cons.mpr ⟨q222, List.forall_mem_cons.mpr ⟨q690, List.forall_mem_cons.mpr ⟨q709, List.forall_mem_cons.mpr ⟨q1064, List.forall_mem_cons.mpr ⟨q106, fun _ h => absurd h List.not_mem_nil⟩⟩⟩⟩⟩⟩⟩⟩
