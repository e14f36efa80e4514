set_option maxRecDepth 100000
/-! PlaneFacesLaw -/
def RX0 : String := "PlaneFacesLaw"
abbrev cX0_add : ByteArray := method_3_code
def yX0_add : MethodName := ⟨RX0, "add", "(LPlaneFaces;IIII[J)I"⟩
abbrev cX0_begins : ByteArray := method_4_code
def yX0_begins : MethodName := ⟨RX0, "begins", "(LPlaneFaces;IZ[J)I"⟩
abbrev cX0_next : ByteArray := method_5_code
def yX0_next : MethodName := ⟨RX0, "next", "(LPlaneFaces;I[J)I"⟩
abbrev cX0_face : ByteArray := method_6_code
def yX0_face : MethodName := ⟨RX0, "face", "(LPlaneFaces;I[J)I"⟩
abbrev cX0_piece : ByteArray := method_7_code
def yX0_piece : MethodName := ⟨RX0, "piece", "(LPlaneFaces;I[J)I"⟩
abbrev cX0_around : ByteArray := method_8_code
def yX0_around : MethodName := ⟨RX0, "around", "(LPlaneFaces;I[J)I"⟩
abbrev cX0_area : ByteArray := method_9_code
def yX0_area : MethodName := ⟨RX0, "area", "(LPlaneFaces;I[J)I"⟩
abbrev cX0_border : ByteArray := method_10_code
def yX0_border : MethodName := ⟨RX0, "border", "(LPlaneFaces;II[J)I"⟩
abbrev cX0_locate : ByteArray := method_11_code
def yX0_locate : MethodName := ⟨RX0, "locate", "(LPlaneFaces;II[J)I"⟩
abbrev cX0_above : ByteArray := method_12_code
def yX0_above : MethodName := ⟨RX0, "above", "(LPlaneFaces;II[J)I"⟩
abbrev cX0_across : ByteArray := method_13_code
def yX0_across : MethodName := ⟨RX0, "across", "(LPlaneFaces;II[J)I"⟩
theorem q56 : (Jvm.Cond.initialized "PlaneFacesLaw") ∈ lw_all := lw_g (lw_at lw_m1 0 rfl) rfl
theorem q87 : (Jvm.Cond.classLink "PlaneFacesLaw" (8 : Nat) "PlaneFaces") ∈ lw_all := lw_g (lw_at lw_m1 31 rfl) rfl
theorem q89 : (Jvm.Cond.methodLink "PlaneFacesLaw" (52 : Nat) ({ cls := "PlaneFaces", name := "<init>", desc := "()V" } : Jvm.MethodName)) ∈ lw_all := lw_g (lw_at lw_m1 33 rfl) rfl
theorem q170 : (Jvm.Cond.methodLink "PlaneFacesLaw" (66 : Nat) ({ cls := "PlaneFaces", name := "remove", desc := "(I)Z" } : Jvm.MethodName)) ∈ lw_all := lw_g (lw_at lw_m1 114 rfl) rfl
theorem q174 : (Jvm.Cond.methodLink "PlaneFacesLaw" (71 : Nat) ({ cls := "PlaneFaces", name := "clear", desc := "()I" } : Jvm.MethodName)) ∈ lw_all := lw_g (lw_at lw_m1 118 rfl) rfl
theorem q178 : (Jvm.Cond.methodLink "PlaneFacesLaw" (75 : Nat) ({ cls := "PlaneFaces", name := "count", desc := "(I)I" } : Jvm.MethodName)) ∈ lw_all := lw_g (lw_at lw_m1 122 rfl) rfl
theorem q860 : (Jvm.Cond.methodLink "PlaneFacesLaw" (56 : Nat) ({ cls := "PlaneFacesLaw", name := "add", desc := "(LPlaneFaces;IIII[J)I" } : Jvm.MethodName)) ∈ lw_all := lw_g (lw_at lw_m4 84 rfl) rfl
theorem q861 : (Jvm.Cond.static ({ cls := "PlaneFacesLaw", name := "add", desc := "(LPlaneFaces;IIII[J)I" } : Jvm.MethodName)) ∈ lw_all := lw_g (lw_at lw_m4 85 rfl) rfl
theorem q862 : (Jvm.Cond.codeWith ({ cls := "PlaneFacesLaw", name := "add", desc := "(LPlaneFaces;IIII[J)I" } : Jvm.MethodName) method_3_code (7 : Nat) (Option.some Jvm.ClassFile.FieldType.int) [((0 : Nat), (14 : Nat), (17 : Nat), (13 : Nat)), ((0 : Nat), (14 : Nat), (21 : Nat), (15 : Nat))]) ∈ lw_all := lw_g (lw_at lw_m4 86 rfl) rfl
theorem q863 : (Jvm.Cond.classLink "PlaneFacesLaw" (13 : Nat) "java/lang/IllegalArgumentException") ∈ lw_all := lw_g (lw_at lw_m4 87 rfl) rfl
theorem q864 : (Jvm.Cond.classLink "PlaneFacesLaw" (15 : Nat) "java/lang/IllegalStateException") ∈ lw_all := lw_g (lw_at lw_m4 88 rfl) rfl
theorem q865 : (Jvm.Cond.methodLink "PlaneFacesLaw" (7 : Nat) ({ cls := "PlaneFaces", name := "add", desc := "(IIII)I" } : Jvm.MethodName)) ∈ lw_all := lw_g (lw_at lw_m4 89 rfl) rfl
theorem q913 : (Jvm.Cond.methodLink "PlaneFacesLaw" (79 : Nat) ({ cls := "PlaneFacesLaw", name := "begins", desc := "(LPlaneFaces;IZ[J)I" } : Jvm.MethodName)) ∈ lw_all := lw_g (lw_at lw_m4 137 rfl) rfl
theorem q914 : (Jvm.Cond.static ({ cls := "PlaneFacesLaw", name := "begins", desc := "(LPlaneFaces;IZ[J)I" } : Jvm.MethodName)) ∈ lw_all := lw_g (lw_at lw_m4 138 rfl) rfl
theorem q915 : (Jvm.Cond.codeWith ({ cls := "PlaneFacesLaw", name := "begins", desc := "(LPlaneFaces;IZ[J)I" } : Jvm.MethodName) method_4_code (5 : Nat) (Option.some Jvm.ClassFile.FieldType.int) [((0 : Nat), (10 : Nat), (13 : Nat), (21 : Nat))]) ∈ lw_all := lw_g (lw_at lw_m4 139 rfl) rfl
theorem q916 : (Jvm.Cond.classLink "PlaneFacesLaw" (21 : Nat) "java/lang/IndexOutOfBoundsException") ∈ lw_all := lw_g (lw_at lw_m4 140 rfl) rfl
theorem q932 : (Jvm.Cond.methodLink "PlaneFacesLaw" (17 : Nat) ({ cls := "PlaneFaces", name := "begins", desc := "(IZ)I" } : Jvm.MethodName)) ∈ lw_all := lw_g (lw_at lw_m4 156 rfl) rfl
theorem q945 : (Jvm.Cond.methodLink "PlaneFacesLaw" (83 : Nat) ({ cls := "PlaneFacesLaw", name := "next", desc := "(LPlaneFaces;I[J)I" } : Jvm.MethodName)) ∈ lw_all := lw_g (lw_at lw_m4 169 rfl) rfl
theorem q946 : (Jvm.Cond.static ({ cls := "PlaneFacesLaw", name := "next", desc := "(LPlaneFaces;I[J)I" } : Jvm.MethodName)) ∈ lw_all := lw_g (lw_at lw_m4 170 rfl) rfl
theorem q947 : (Jvm.Cond.codeWith ({ cls := "PlaneFacesLaw", name := "next", desc := "(LPlaneFaces;I[J)I" } : Jvm.MethodName) method_5_code (4 : Nat) (Option.some Jvm.ClassFile.FieldType.int) [((0 : Nat), (9 : Nat), (12 : Nat), (21 : Nat))]) ∈ lw_all := lw_g (lw_at lw_m4 171 rfl) rfl
theorem q948 : (Jvm.Cond.methodLink "PlaneFacesLaw" (23 : Nat) ({ cls := "PlaneFaces", name := "next", desc := "(I)I" } : Jvm.MethodName)) ∈ lw_all := lw_g (lw_at lw_m4 172 rfl) rfl
theorem q952 : (Jvm.Cond.methodLink "PlaneFacesLaw" (87 : Nat) ({ cls := "PlaneFacesLaw", name := "face", desc := "(LPlaneFaces;I[J)I" } : Jvm.MethodName)) ∈ lw_all := lw_g (lw_at lw_m4 176 rfl) rfl
theorem q953 : (Jvm.Cond.static ({ cls := "PlaneFacesLaw", name := "face", desc := "(LPlaneFaces;I[J)I" } : Jvm.MethodName)) ∈ lw_all := lw_g (lw_at lw_m4 177 rfl) rfl
theorem q954 : (Jvm.Cond.codeWith ({ cls := "PlaneFacesLaw", name := "face", desc := "(LPlaneFaces;I[J)I" } : Jvm.MethodName) method_6_code (4 : Nat) (Option.some Jvm.ClassFile.FieldType.int) [((0 : Nat), (9 : Nat), (12 : Nat), (21 : Nat))]) ∈ lw_all := lw_g (lw_at lw_m4 178 rfl) rfl
theorem q955 : (Jvm.Cond.methodLink "PlaneFacesLaw" (27 : Nat) ({ cls := "PlaneFaces", name := "face", desc := "(I)I" } : Jvm.MethodName)) ∈ lw_all := lw_g (lw_at lw_m4 179 rfl) rfl
theorem q963 : (Jvm.Cond.methodLink "PlaneFacesLaw" (90 : Nat) ({ cls := "PlaneFacesLaw", name := "piece", desc := "(LPlaneFaces;I[J)I" } : Jvm.MethodName)) ∈ lw_all := lw_g (lw_at lw_m4 187 rfl) rfl
theorem q964 : (Jvm.Cond.static ({ cls := "PlaneFacesLaw", name := "piece", desc := "(LPlaneFaces;I[J)I" } : Jvm.MethodName)) ∈ lw_all := lw_g (lw_at lw_m4 188 rfl) rfl
theorem q965 : (Jvm.Cond.codeWith ({ cls := "PlaneFacesLaw", name := "piece", desc := "(LPlaneFaces;I[J)I" } : Jvm.MethodName) method_7_code (4 : Nat) (Option.some Jvm.ClassFile.FieldType.int) [((0 : Nat), (9 : Nat), (12 : Nat), (21 : Nat))]) ∈ lw_all := lw_g (lw_at lw_m4 189 rfl) rfl
theorem q966 : (Jvm.Cond.methodLink "PlaneFacesLaw" (30 : Nat) ({ cls := "PlaneFaces", name := "piece", desc := "(I)I" } : Jvm.MethodName)) ∈ lw_all := lw_g (lw_at lw_m4 190 rfl) rfl
theorem q970 : (Jvm.Cond.methodLink "PlaneFacesLaw" (93 : Nat) ({ cls := "PlaneFacesLaw", name := "around", desc := "(LPlaneFaces;I[J)I" } : Jvm.MethodName)) ∈ lw_all := lw_g (lw_at lw_m4 194 rfl) rfl
theorem q971 : (Jvm.Cond.static ({ cls := "PlaneFacesLaw", name := "around", desc := "(LPlaneFaces;I[J)I" } : Jvm.MethodName)) ∈ lw_all := lw_g (lw_at lw_m4 195 rfl) rfl
theorem q972 : (Jvm.Cond.codeWith ({ cls := "PlaneFacesLaw", name := "around", desc := "(LPlaneFaces;I[J)I" } : Jvm.MethodName) method_8_code (4 : Nat) (Option.some Jvm.ClassFile.FieldType.int) [((0 : Nat), (9 : Nat), (12 : Nat), (21 : Nat))]) ∈ lw_all := lw_g (lw_at lw_m4 196 rfl) rfl
theorem q973 : (Jvm.Cond.methodLink "PlaneFacesLaw" (33 : Nat) ({ cls := "PlaneFaces", name := "around", desc := "(I)I" } : Jvm.MethodName)) ∈ lw_all := lw_g (lw_at lw_m4 197 rfl) rfl
theorem q977 : (Jvm.Cond.methodLink "PlaneFacesLaw" (96 : Nat) ({ cls := "PlaneFacesLaw", name := "area", desc := "(LPlaneFaces;I[J)I" } : Jvm.MethodName)) ∈ lw_all := lw_g (lw_at lw_m4 201 rfl) rfl
theorem q978 : (Jvm.Cond.static ({ cls := "PlaneFacesLaw", name := "area", desc := "(LPlaneFaces;I[J)I" } : Jvm.MethodName)) ∈ lw_all := lw_g (lw_at lw_m4 202 rfl) rfl
theorem q979 : (Jvm.Cond.codeWith ({ cls := "PlaneFacesLaw", name := "area", desc := "(LPlaneFaces;I[J)I" } : Jvm.MethodName) method_9_code (4 : Nat) (Option.some Jvm.ClassFile.FieldType.int) [((0 : Nat), (9 : Nat), (12 : Nat), (21 : Nat))]) ∈ lw_all := lw_g (lw_at lw_m4 203 rfl) rfl
theorem q980 : (Jvm.Cond.methodLink "PlaneFacesLaw" (36 : Nat) ({ cls := "PlaneFaces", name := "area", desc := "(I)I" } : Jvm.MethodName)) ∈ lw_all := lw_g (lw_at lw_m4 204 rfl) rfl
theorem q996 : (Jvm.Cond.methodLink "PlaneFacesLaw" (99 : Nat) ({ cls := "PlaneFacesLaw", name := "border", desc := "(LPlaneFaces;II[J)I" } : Jvm.MethodName)) ∈ lw_all := lw_g (lw_at lw_m4 220 rfl) rfl
theorem q997 : (Jvm.Cond.static ({ cls := "PlaneFacesLaw", name := "border", desc := "(LPlaneFaces;II[J)I" } : Jvm.MethodName)) ∈ lw_all := lw_g (lw_at lw_m4 221 rfl) rfl
theorem q998 : (Jvm.Cond.codeWith ({ cls := "PlaneFacesLaw", name := "border", desc := "(LPlaneFaces;II[J)I" } : Jvm.MethodName) method_10_code (5 : Nat) (Option.some Jvm.ClassFile.FieldType.int) [((0 : Nat), (10 : Nat), (13 : Nat), (21 : Nat))]) ∈ lw_all := lw_g (lw_at lw_m4 222 rfl) rfl
theorem q999 : (Jvm.Cond.methodLink "PlaneFacesLaw" (39 : Nat) ({ cls := "PlaneFaces", name := "border", desc := "(II)I" } : Jvm.MethodName)) ∈ lw_all := lw_g (lw_at lw_m4 223 rfl) rfl
theorem q1019 : (Jvm.Cond.methodLink "PlaneFacesLaw" (103 : Nat) ({ cls := "PlaneFacesLaw", name := "locate", desc := "(LPlaneFaces;II[J)I" } : Jvm.MethodName)) ∈ lw_all := lw_g (lw_at lw_m5 3 rfl) rfl
theorem q1020 : (Jvm.Cond.static ({ cls := "PlaneFacesLaw", name := "locate", desc := "(LPlaneFaces;II[J)I" } : Jvm.MethodName)) ∈ lw_all := lw_g (lw_at lw_m5 4 rfl) rfl
theorem q1021 : (Jvm.Cond.codeWith ({ cls := "PlaneFacesLaw", name := "locate", desc := "(LPlaneFaces;II[J)I" } : Jvm.MethodName) method_11_code (5 : Nat) (Option.some Jvm.ClassFile.FieldType.int) [((0 : Nat), (10 : Nat), (13 : Nat), (13 : Nat))]) ∈ lw_all := lw_g (lw_at lw_m5 5 rfl) rfl
theorem q1022 : (Jvm.Cond.methodLink "PlaneFacesLaw" (43 : Nat) ({ cls := "PlaneFaces", name := "locate", desc := "(II)I" } : Jvm.MethodName)) ∈ lw_all := lw_g (lw_at lw_m5 6 rfl) rfl
theorem q1030 : (Jvm.Cond.methodLink "PlaneFacesLaw" (106 : Nat) ({ cls := "PlaneFacesLaw", name := "above", desc := "(LPlaneFaces;II[J)I" } : Jvm.MethodName)) ∈ lw_all := lw_g (lw_at lw_m5 14 rfl) rfl
theorem q1031 : (Jvm.Cond.static ({ cls := "PlaneFacesLaw", name := "above", desc := "(LPlaneFaces;II[J)I" } : Jvm.MethodName)) ∈ lw_all := lw_g (lw_at lw_m5 15 rfl) rfl
theorem q1032 : (Jvm.Cond.codeWith ({ cls := "PlaneFacesLaw", name := "above", desc := "(LPlaneFaces;II[J)I" } : Jvm.MethodName) method_12_code (5 : Nat) (Option.some Jvm.ClassFile.FieldType.int) [((0 : Nat), (10 : Nat), (13 : Nat), (13 : Nat))]) ∈ lw_all := lw_g (lw_at lw_m5 16 rfl) rfl
theorem q1033 : (Jvm.Cond.methodLink "PlaneFacesLaw" (46 : Nat) ({ cls := "PlaneFaces", name := "above", desc := "(II)I" } : Jvm.MethodName)) ∈ lw_all := lw_g (lw_at lw_m5 17 rfl) rfl
theorem q1052 : (Jvm.Cond.methodLink "PlaneFacesLaw" (109 : Nat) ({ cls := "PlaneFacesLaw", name := "across", desc := "(LPlaneFaces;II[J)I" } : Jvm.MethodName)) ∈ lw_all := lw_g (lw_at lw_m5 36 rfl) rfl
theorem q1053 : (Jvm.Cond.static ({ cls := "PlaneFacesLaw", name := "across", desc := "(LPlaneFaces;II[J)I" } : Jvm.MethodName)) ∈ lw_all := lw_g (lw_at lw_m5 37 rfl) rfl
theorem q1054 : (Jvm.Cond.codeWith ({ cls := "PlaneFacesLaw", name := "across", desc := "(LPlaneFaces;II[J)I" } : Jvm.MethodName) method_13_code (5 : Nat) (Option.some Jvm.ClassFile.FieldType.int) [((0 : Nat), (10 : Nat), (13 : Nat), (21 : Nat))]) ∈ lw_all := lw_g (lw_at lw_m5 38 rfl) rfl
theorem q1055 : (Jvm.Cond.methodLink "PlaneFacesLaw" (49 : Nat) ({ cls := "PlaneFaces", name := "across", desc := "(II)I" } : Jvm.MethodName)) ∈ lw_all := lw_g (lw_at lw_m5 39 rfl) rfl
theorem q1059 : (Jvm.Cond.classLink "PlaneFacesLaw" (53 : Nat) "PlaneFacesModel") ∈ lw_all := lw_g (lw_at lw_m5 43 rfl) rfl
theorem q1061 : (Jvm.Cond.methodLink "PlaneFacesLaw" (55 : Nat) ({ cls := "PlaneFacesModel", name := "<init>", desc := "()V" } : Jvm.MethodName)) ∈ lw_all := lw_g (lw_at lw_m5 45 rfl) rfl
theorem q1115 : (Jvm.Cond.methodLink "PlaneFacesLaw" (62 : Nat) ({ cls := "PlaneFacesModel", name := "thrown", desc := "()I" } : Jvm.MethodName)) ∈ lw_all := lw_g (lw_at lw_m5 99 rfl) rfl
theorem q1119 : (Jvm.Cond.methodLink "PlaneFacesLaw" (61 : Nat) ({ cls := "PlaneFacesModel", name := "add", desc := "(IIII)I" } : Jvm.MethodName)) ∈ lw_all := lw_g (lw_at lw_m5 103 rfl) rfl
theorem q1147 : (Jvm.Cond.methodLink "PlaneFacesLaw" (70 : Nat) ({ cls := "PlaneFacesModel", name := "remove", desc := "(I)Z" } : Jvm.MethodName)) ∈ lw_all := lw_g (lw_at lw_m5 131 rfl) rfl
theorem q1151 : (Jvm.Cond.methodLink "PlaneFacesLaw" (74 : Nat) ({ cls := "PlaneFacesModel", name := "clear", desc := "()I" } : Jvm.MethodName)) ∈ lw_all := lw_g (lw_at lw_m5 135 rfl) rfl
theorem q1155 : (Jvm.Cond.methodLink "PlaneFacesLaw" (78 : Nat) ({ cls := "PlaneFacesModel", name := "count", desc := "(I)I" } : Jvm.MethodName)) ∈ lw_all := lw_g (lw_at lw_m5 139 rfl) rfl
theorem q1206 : (Jvm.Cond.methodLink "PlaneFacesLaw" (82 : Nat) ({ cls := "PlaneFacesModel", name := "begins", desc := "(IZ)I" } : Jvm.MethodName)) ∈ lw_all := lw_g (lw_at lw_m5 190 rfl) rfl
theorem q1214 : (Jvm.Cond.methodLink "PlaneFacesLaw" (86 : Nat) ({ cls := "PlaneFacesModel", name := "next", desc := "(I)I" } : Jvm.MethodName)) ∈ lw_all := lw_g (lw_at lw_m5 198 rfl) rfl
theorem q1218 : (Jvm.Cond.methodLink "PlaneFacesLaw" (89 : Nat) ({ cls := "PlaneFacesModel", name := "face", desc := "(I)I" } : Jvm.MethodName)) ∈ lw_all := lw_g (lw_at lw_m5 202 rfl) rfl
theorem q1222 : (Jvm.Cond.methodLink "PlaneFacesLaw" (92 : Nat) ({ cls := "PlaneFacesModel", name := "piece", desc := "(I)I" } : Jvm.MethodName)) ∈ lw_all := lw_g (lw_at lw_m5 206 rfl) rfl
theorem q1226 : (Jvm.Cond.methodLink "PlaneFacesLaw" (95 : Nat) ({ cls := "PlaneFacesModel", name := "around", desc := "(I)I" } : Jvm.MethodName)) ∈ lw_all := lw_g (lw_at lw_m5 210 rfl) rfl
theorem q1234 : (Jvm.Cond.methodLink "PlaneFacesLaw" (98 : Nat) ({ cls := "PlaneFacesModel", name := "area", desc := "(I)I" } : Jvm.MethodName)) ∈ lw_all := lw_g (lw_at lw_m5 218 rfl) rfl
theorem q1242 : (Jvm.Cond.methodLink "PlaneFacesLaw" (102 : Nat) ({ cls := "PlaneFacesModel", name := "border", desc := "(II)I" } : Jvm.MethodName)) ∈ lw_all := lw_g (lw_at lw_m5 226 rfl) rfl
theorem q1246 : (Jvm.Cond.methodLink "PlaneFacesLaw" (105 : Nat) ({ cls := "PlaneFacesModel", name := "locate", desc := "(II)I" } : Jvm.MethodName)) ∈ lw_all := lw_g (lw_at lw_m5 230 rfl) rfl
theorem q1250 : (Jvm.Cond.methodLink "PlaneFacesLaw" (108 : Nat) ({ cls := "PlaneFacesModel", name := "above", desc := "(II)I" } : Jvm.MethodName)) ∈ lw_all := lw_g (lw_at lw_m5 234 rfl) rfl
theorem q1267 : (Jvm.Cond.methodLink "PlaneFacesLaw" (111 : Nat) ({ cls := "PlaneFacesModel", name := "across", desc := "(II)I" } : Jvm.MethodName)) ∈ lw_all := lw_g (lw_at lw_m6 11 rfl) rfl
/-! PlaneFaces -/
def RX1 : String := "PlaneFaces"
def TX1 : u_T := fun k => match k with
  | 0 => ("PlaneFaces", "segments", "I", false)
  | 1 => ("PlaneFaces", "isThere", "[Z", true)
  | 2 => ("PlaneFaces", "ax", "[I", true)
  | 3 => ("PlaneFaces", "ay", "[I", true)
  | 4 => ("PlaneFaces", "bx", "[I", true)
  | 5 => ("PlaneFaces", "by", "[I", true)
  | 6 => ("PlaneFaces", "isMade", "Z", false)
  | 7 => ("PlaneFaces", "nodes", "Ljava/util/ArrayList;", true)
  | 8 => ("PlaneFaces", "halves", "[LPlaneFaces$Half;", true)
  | 9 => ("PlaneFaces", "rounds", "Ljava/util/ArrayList;", true)
  | 10 => ("PlaneFaces", "faces", "Ljava/util/ArrayList;", true)
  | 11 => ("PlaneFaces", "pieceOf", "[I", true)
  | 12 => ("PlaneFaces", "pieces", "I", false)
  | _ => ("PlaneFaces", "outer", "[LPlaneFaces$Round;", true)
def tyX1 : Nat → FieldType := fun k => match k with
  | 0 => .int
  | 1 => .array .boolean
  | 2 => .array .int
  | 3 => .array .int
  | 4 => .array .int
  | 5 => .array .int
  | 6 => .boolean
  | 7 => .object "java/util/ArrayList"
  | 8 => .array (.object "PlaneFaces$Half")
  | 9 => .object "java/util/ArrayList"
  | 10 => .object "java/util/ArrayList"
  | 11 => .array .int
  | 12 => .int
  | _ => .array (.object "PlaneFaces$Round")
abbrev wsX10 : List Cond := u_ws RX1 TX1 14
theorem nmX1 : ∀ a, a < 14 → ∀ b, b < 14 → a ≠ b → (TX1 a).2.1 ≠ (TX1 b).2.1 := by decide +kernel
theorem tyX1_ok : ∀ k, k < 14 → parseFieldDescriptor (TX1 k).2.2.1 = some (tyX1 k) := by decide +kernel
abbrev cX1_init : ByteArray := prog_1_method_2_code
def yX1_init : MethodName := ⟨RX1, "<init>", "()V"⟩
abbrev cX1_remove : ByteArray := prog_1_method_10_code
def yX1_remove : MethodName := ⟨RX1, "remove", "(I)Z"⟩
abbrev cX1_clear : ByteArray := prog_1_method_11_code
def yX1_clear : MethodName := ⟨RX1, "clear", "()I"⟩
abbrev cX1_count : ByteArray := prog_1_method_31_code
def yX1_count : MethodName := ⟨RX1, "count", "(I)I"⟩
abbrev cX1_make : ByteArray := prog_1_method_26_code
def yX1_make : MethodName := ⟨RX1, "make", "()V"⟩
abbrev cX1_join : ByteArray := prog_1_method_13_code
def yX1_join : MethodName := ⟨RX1, "join", "()V"⟩
abbrev cX1_node : ByteArray := prog_1_method_12_code
def yX1_node : MethodName := ⟨RX1, "node", "(II)LPlaneFaces$Node;"⟩
abbrev cX1_cross : ByteArray := prog_1_method_1_code
def yX1_cross : MethodName := ⟨RX1, "cross", "(JJJJ)J"⟩
abbrev cX1_goRound : ByteArray := prog_1_method_14_code
def yX1_goRound : MethodName := ⟨RX1, "goRound", "()V"⟩
abbrev cX1_findFaces : ByteArray := prog_1_method_22_code
def yX1_findFaces : MethodName := ⟨RX1, "findFaces", "()V"⟩
abbrev cX1_faceAround : ByteArray := prog_1_method_21_code
def yX1_faceAround : MethodName := ⟨RX1, "faceAround", "(LPlaneFaces$Round;)LPlaneFaces$Face;"⟩
abbrev cX1_halfBelow : ByteArray := prog_1_method_20_code
def yX1_halfBelow : MethodName := ⟨RX1, "halfBelow", "(II)LPlaneFaces$Half;"⟩
abbrev cX1_segmentBelow : ByteArray := prog_1_method_18_code
def yX1_segmentBelow : MethodName := ⟨RX1, "segmentBelow", "(II)I"⟩
abbrev cX1_isOver : ByteArray := prog_1_method_16_code
def yX1_isOver : MethodName := ⟨RX1, "isOver", "(II)Z"⟩
abbrev cX1_isAbove : ByteArray := prog_1_method_17_code
def yX1_isAbove : MethodName := ⟨RX1, "isAbove", "(III)Z"⟩
abbrev cX1_side : ByteArray := prog_1_method_5_code
def yX1_side : MethodName := ⟨RX1, "side", "(III)I"⟩
abbrev cX1_compare : ByteArray := prog_1_method_15_code
def yX1_compare : MethodName := ⟨RX1, "compare", "(III)I"⟩
abbrev cX1_nodeBelow : ByteArray := prog_1_method_19_code
def yX1_nodeBelow : MethodName := ⟨RX1, "nodeBelow", "(II)LPlaneFaces$Node;"⟩
abbrev cX1_sort : ByteArray := prog_1_method_23_code
def yX1_sort : MethodName := ⟨RX1, "sort", "()V"⟩
abbrev cX1_findPieces : ByteArray := prog_1_method_24_code
def yX1_findPieces : MethodName := ⟨RX1, "findPieces", "()V"⟩
abbrev cX1_spread : ByteArray := prog_1_method_25_code
def yX1_spread : MethodName := ⟨RX1, "spread", "(II)V"⟩
abbrev cX1_bridges : ByteArray := prog_1_method_30_code
def yX1_bridges : MethodName := ⟨RX1, "bridges", "()I"⟩
abbrev cX1_add : ByteArray := prog_1_method_9_code
def yX1_add : MethodName := ⟨RX1, "add", "(IIII)I"⟩
abbrev cX1_isIn : ByteArray := prog_1_method_4_code
def yX1_isIn : MethodName := ⟨RX1, "isIn", "(I)Z"⟩
abbrev cX1_argue : ByteArray := prog_1_method_3_code
def yX1_argue : MethodName := ⟨RX1, "argue", "(Z)V"⟩
abbrev cX1_meet : ByteArray := prog_1_method_8_code
def yX1_meet : MethodName := ⟨RX1, "meet", "(II)Z"⟩
abbrev cX1_isOn : ByteArray := prog_1_method_7_code
def yX1_isOn : MethodName := ⟨RX1, "isOn", "(III)Z"⟩
abbrev cX1_isEnd : ByteArray := prog_1_method_6_code
def yX1_isEnd : MethodName := ⟨RX1, "isEnd", "(III)Z"⟩
abbrev cX1_begins : ByteArray := prog_1_method_32_code
def yX1_begins : MethodName := ⟨RX1, "begins", "(IZ)I"⟩
abbrev cX1_half : ByteArray := prog_1_method_28_code
def yX1_half : MethodName := ⟨RX1, "half", "(I)LPlaneFaces$Half;"⟩
abbrev cX1_next : ByteArray := prog_1_method_33_code
def yX1_next : MethodName := ⟨RX1, "next", "(I)I"⟩
abbrev cX1_face : ByteArray := prog_1_method_34_code
def yX1_face : MethodName := ⟨RX1, "face", "(I)I"⟩
abbrev cX1_number : ByteArray := prog_1_method_27_code
def yX1_number : MethodName := ⟨RX1, "number", "(LPlaneFaces$Face;)I"⟩
abbrev cX1_piece : ByteArray := prog_1_method_35_code
def yX1_piece : MethodName := ⟨RX1, "piece", "(I)I"⟩
abbrev cX1_around : ByteArray := prog_1_method_36_code
def yX1_around : MethodName := ⟨RX1, "around", "(I)I"⟩
abbrev cX1_area : ByteArray := prog_1_method_37_code
def yX1_area : MethodName := ⟨RX1, "area", "(I)I"⟩
abbrev cX1_faceAt : ByteArray := prog_1_method_29_code
def yX1_faceAt : MethodName := ⟨RX1, "faceAt", "(I)LPlaneFaces$Face;"⟩
abbrev cX1_border : ByteArray := prog_1_method_40_code
def yX1_border : MethodName := ⟨RX1, "border", "(II)I"⟩
abbrev cX1_length : ByteArray := prog_1_method_39_code
def yX1_length : MethodName := ⟨RX1, "length", "(LPlaneFaces$Face;)I"⟩
abbrev cX1_inside : ByteArray := prog_1_method_38_code
def yX1_inside : MethodName := ⟨RX1, "inside", "(LPlaneFaces$Face;)I"⟩
abbrev cX1_locate : ByteArray := prog_1_method_42_code
def yX1_locate : MethodName := ⟨RX1, "locate", "(II)I"⟩
abbrev cX1_leastAt : ByteArray := prog_1_method_41_code
def yX1_leastAt : MethodName := ⟨RX1, "leastAt", "(LPlaneFaces$Node;)I"⟩
abbrev cX1_above : ByteArray := prog_1_method_46_code
def yX1_above : MethodName := ⟨RX1, "above", "(II)I"⟩
abbrev cX1_isMet : ByteArray := prog_1_method_43_code
def yX1_isMet : MethodName := ⟨RX1, "isMet", "(III)Z"⟩
abbrev cX1_sooner : ByteArray := prog_1_method_44_code
def yX1_sooner : MethodName := ⟨RX1, "sooner", "(IIII)I"⟩
abbrev cX1_heightAgainst : ByteArray := prog_1_method_45_code
def yX1_heightAgainst : MethodName := ⟨RX1, "heightAgainst", "(III)I"⟩
abbrev cX1_across : ByteArray := prog_1_method_47_code
def yX1_across : MethodName := ⟨RX1, "across", "(II)I"⟩
theorem q57 : (Jvm.Cond.initialized "PlaneFaces") ∈ lw_all := lw_g (lw_at lw_m1 1 rfl) rfl
theorem q88 : (Jvm.Cond.instantiable "PlaneFaces" (14 : Nat)) ∈ lw_all := lw_g (lw_at lw_m1 32 rfl) rfl
theorem q90 : (Jvm.Cond.instanceMethod ({ cls := "PlaneFaces", name := "<init>", desc := "()V" } : Jvm.MethodName)) ∈ lw_all := lw_g (lw_at lw_m1 34 rfl) rfl
theorem q91 : (Jvm.Cond.code ({ cls := "PlaneFaces", name := "<init>", desc := "()V" } : Jvm.MethodName) prog_1_method_2_code (1 : Nat) (Option.none : Option Jvm.ClassFile.FieldType)) ∈ lw_all := lw_g (lw_at lw_m1 35 rfl) rfl
theorem q92 : (Jvm.Cond.methodLink "PlaneFaces" (1 : Nat) ({ cls := "java/lang/Object", name := "<init>", desc := "()V" } : Jvm.MethodName)) ∈ lw_all := lw_g (lw_at lw_m1 36 rfl) rfl
theorem q95 : (Jvm.Cond.classLink "PlaneFaces" (26 : Nat) "java/util/ArrayList") ∈ lw_all := lw_g (lw_at lw_m1 39 rfl) rfl
theorem q97 : (Jvm.Cond.methodLink "PlaneFaces" (28 : Nat) ({ cls := "java/util/ArrayList", name := "<init>", desc := "()V" } : Jvm.MethodName)) ∈ lw_all := lw_g (lw_at lw_m1 41 rfl) rfl
theorem q123 : (Jvm.Cond.classLink "PlaneFaces" (33 : Nat) "PlaneFaces$Half") ∈ lw_all := lw_g (lw_at lw_m1 67 rfl) rfl
theorem q125 : (Jvm.Cond.classLink "PlaneFaces" (48 : Nat) "PlaneFaces$Round") ∈ lw_all := lw_g (lw_at lw_m1 69 rfl) rfl
theorem q127 : (Jvm.Cond.fieldLink "PlaneFaces" (95 : Nat) "PlaneFaces" "segments" "I") ∈ lw_all := lw_g (lw_at lw_m1 71 rfl) rfl
theorem q128 : (Jvm.Cond.fieldLink "PlaneFaces" (7 : Nat) "PlaneFaces" "isThere" "[Z") ∈ lw_all := lw_g (lw_at lw_m1 72 rfl) rfl
theorem q129 : (Jvm.Cond.fieldLink "PlaneFaces" (13 : Nat) "PlaneFaces" "ax" "[I") ∈ lw_all := lw_g (lw_at lw_m1 73 rfl) rfl
theorem q130 : (Jvm.Cond.fieldLink "PlaneFaces" (17 : Nat) "PlaneFaces" "ay" "[I") ∈ lw_all := lw_g (lw_at lw_m1 74 rfl) rfl
theorem q131 : (Jvm.Cond.fieldLink "PlaneFaces" (20 : Nat) "PlaneFaces" "bx" "[I") ∈ lw_all := lw_g (lw_at lw_m1 75 rfl) rfl
theorem q132 : (Jvm.Cond.fieldLink "PlaneFaces" (23 : Nat) "PlaneFaces" "by" "[I") ∈ lw_all := lw_g (lw_at lw_m1 76 rfl) rfl
theorem q133 : (Jvm.Cond.fieldLink "PlaneFaces" (106 : Nat) "PlaneFaces" "isMade" "Z") ∈ lw_all := lw_g (lw_at lw_m1 77 rfl) rfl
theorem q134 : (Jvm.Cond.fieldLink "PlaneFaces" (29 : Nat) "PlaneFaces" "nodes" "Ljava/util/ArrayList;") ∈ lw_all := lw_g (lw_at lw_m1 78 rfl) rfl
theorem q135 : (Jvm.Cond.fieldLink "PlaneFaces" (35 : Nat) "PlaneFaces" "halves" "[LPlaneFaces$Half;") ∈ lw_all := lw_g (lw_at lw_m1 79 rfl) rfl
theorem q136 : (Jvm.Cond.fieldLink "PlaneFaces" (39 : Nat) "PlaneFaces" "rounds" "Ljava/util/ArrayList;") ∈ lw_all := lw_g (lw_at lw_m1 80 rfl) rfl
theorem q137 : (Jvm.Cond.fieldLink "PlaneFaces" (42 : Nat) "PlaneFaces" "faces" "Ljava/util/ArrayList;") ∈ lw_all := lw_g (lw_at lw_m1 81 rfl) rfl
theorem q138 : (Jvm.Cond.fieldLink "PlaneFaces" (45 : Nat) "PlaneFaces" "pieceOf" "[I") ∈ lw_all := lw_g (lw_at lw_m1 82 rfl) rfl
theorem q139 : (Jvm.Cond.fieldLink "PlaneFaces" (235 : Nat) "PlaneFaces" "pieces" "I") ∈ lw_all := lw_g (lw_at lw_m1 83 rfl) rfl
theorem q140 : (Jvm.Cond.fieldLink "PlaneFaces" (50 : Nat) "PlaneFaces" "outer" "[LPlaneFaces$Round;") ∈ lw_all := lw_g (lw_at lw_m1 84 rfl) rfl
theorem q141 : (Jvm.Cond.lays "PlaneFaces" "PlaneFaces" "segments" "I") ∈ lw_all := lw_g (lw_at lw_m1 85 rfl) rfl
theorem q142 : (Jvm.Cond.soleField "PlaneFaces" "segments") ∈ lw_all := lw_g (lw_at lw_m1 86 rfl) rfl
theorem q143 : (Jvm.Cond.laysFinal "PlaneFaces" "PlaneFaces" "isThere" "[Z") ∈ lw_all := lw_g (lw_at lw_m1 87 rfl) rfl
theorem q144 : (Jvm.Cond.soleField "PlaneFaces" "isThere") ∈ lw_all := lw_g (lw_at lw_m1 88 rfl) rfl
theorem q145 : (Jvm.Cond.laysFinal "PlaneFaces" "PlaneFaces" "ax" "[I") ∈ lw_all := lw_g (lw_at lw_m1 89 rfl) rfl
theorem q146 : (Jvm.Cond.soleField "PlaneFaces" "ax") ∈ lw_all := lw_g (lw_at lw_m1 90 rfl) rfl
theorem q147 : (Jvm.Cond.laysFinal "PlaneFaces" "PlaneFaces" "ay" "[I") ∈ lw_all := lw_g (lw_at lw_m1 91 rfl) rfl
theorem q148 : (Jvm.Cond.soleField "PlaneFaces" "ay") ∈ lw_all := lw_g (lw_at lw_m1 92 rfl) rfl
theorem q149 : (Jvm.Cond.laysFinal "PlaneFaces" "PlaneFaces" "bx" "[I") ∈ lw_all := lw_g (lw_at lw_m1 93 rfl) rfl
theorem q150 : (Jvm.Cond.soleField "PlaneFaces" "bx") ∈ lw_all := lw_g (lw_at lw_m1 94 rfl) rfl
theorem q151 : (Jvm.Cond.laysFinal "PlaneFaces" "PlaneFaces" "by" "[I") ∈ lw_all := lw_g (lw_at lw_m1 95 rfl) rfl
theorem q152 : (Jvm.Cond.soleField "PlaneFaces" "by") ∈ lw_all := lw_g (lw_at lw_m1 96 rfl) rfl
theorem q153 : (Jvm.Cond.lays "PlaneFaces" "PlaneFaces" "isMade" "Z") ∈ lw_all := lw_g (lw_at lw_m1 97 rfl) rfl
theorem q154 : (Jvm.Cond.soleField "PlaneFaces" "isMade") ∈ lw_all := lw_g (lw_at lw_m1 98 rfl) rfl
theorem q155 : (Jvm.Cond.laysFinal "PlaneFaces" "PlaneFaces" "nodes" "Ljava/util/ArrayList;") ∈ lw_all := lw_g (lw_at lw_m1 99 rfl) rfl
theorem q156 : (Jvm.Cond.soleField "PlaneFaces" "nodes") ∈ lw_all := lw_g (lw_at lw_m1 100 rfl) rfl
theorem q157 : (Jvm.Cond.laysFinal "PlaneFaces" "PlaneFaces" "halves" "[LPlaneFaces$Half;") ∈ lw_all := lw_g (lw_at lw_m1 101 rfl) rfl
theorem q158 : (Jvm.Cond.soleField "PlaneFaces" "halves") ∈ lw_all := lw_g (lw_at lw_m1 102 rfl) rfl
theorem q159 : (Jvm.Cond.laysFinal "PlaneFaces" "PlaneFaces" "rounds" "Ljava/util/ArrayList;") ∈ lw_all := lw_g (lw_at lw_m1 103 rfl) rfl
theorem q160 : (Jvm.Cond.soleField "PlaneFaces" "rounds") ∈ lw_all := lw_g (lw_at lw_m1 104 rfl) rfl
theorem q161 : (Jvm.Cond.laysFinal "PlaneFaces" "PlaneFaces" "faces" "Ljava/util/ArrayList;") ∈ lw_all := lw_g (lw_at lw_m1 105 rfl) rfl
theorem q162 : (Jvm.Cond.soleField "PlaneFaces" "faces") ∈ lw_all := lw_g (lw_at lw_m1 106 rfl) rfl
theorem q163 : (Jvm.Cond.laysFinal "PlaneFaces" "PlaneFaces" "pieceOf" "[I") ∈ lw_all := lw_g (lw_at lw_m1 107 rfl) rfl
theorem q164 : (Jvm.Cond.soleField "PlaneFaces" "pieceOf") ∈ lw_all := lw_g (lw_at lw_m1 108 rfl) rfl
theorem q165 : (Jvm.Cond.lays "PlaneFaces" "PlaneFaces" "pieces" "I") ∈ lw_all := lw_g (lw_at lw_m1 109 rfl) rfl
theorem q166 : (Jvm.Cond.soleField "PlaneFaces" "pieces") ∈ lw_all := lw_g (lw_at lw_m1 110 rfl) rfl
theorem q167 : (Jvm.Cond.laysFinal "PlaneFaces" "PlaneFaces" "outer" "[LPlaneFaces$Round;") ∈ lw_all := lw_g (lw_at lw_m1 111 rfl) rfl
theorem q168 : (Jvm.Cond.soleField "PlaneFaces" "outer") ∈ lw_all := lw_g (lw_at lw_m1 112 rfl) rfl
theorem q169 : (Jvm.Cond.superclass "PlaneFaces" "java/lang/Object") ∈ lw_all := lw_g (lw_at lw_m1 113 rfl) rfl
theorem q171 : (Jvm.Cond.instanceMethod ({ cls := "PlaneFaces", name := "remove", desc := "(I)Z" } : Jvm.MethodName)) ∈ lw_all := lw_g (lw_at lw_m1 115 rfl) rfl
theorem q172 : (Jvm.Cond.selects "PlaneFaces" ({ cls := "PlaneFaces", name := "remove", desc := "(I)Z" } : Jvm.MethodName) ({ cls := "PlaneFaces", name := "remove", desc := "(I)Z" } : Jvm.MethodName)) ∈ lw_all := lw_g (lw_at lw_m1 116 rfl) rfl
theorem q173 : (Jvm.Cond.code ({ cls := "PlaneFaces", name := "remove", desc := "(I)Z" } : Jvm.MethodName) prog_1_method_10_code (2 : Nat) (Option.some Jvm.ClassFile.FieldType.boolean)) ∈ lw_all := lw_g (lw_at lw_m1 117 rfl) rfl
theorem q175 : (Jvm.Cond.instanceMethod ({ cls := "PlaneFaces", name := "clear", desc := "()I" } : Jvm.MethodName)) ∈ lw_all := lw_g (lw_at lw_m1 119 rfl) rfl
theorem q176 : (Jvm.Cond.selects "PlaneFaces" ({ cls := "PlaneFaces", name := "clear", desc := "()I" } : Jvm.MethodName) ({ cls := "PlaneFaces", name := "clear", desc := "()I" } : Jvm.MethodName)) ∈ lw_all := lw_g (lw_at lw_m1 120 rfl) rfl
theorem q177 : (Jvm.Cond.code ({ cls := "PlaneFaces", name := "clear", desc := "()I" } : Jvm.MethodName) prog_1_method_11_code (3 : Nat) (Option.some Jvm.ClassFile.FieldType.int)) ∈ lw_all := lw_g (lw_at lw_m1 121 rfl) rfl
theorem q179 : (Jvm.Cond.instanceMethod ({ cls := "PlaneFaces", name := "count", desc := "(I)I" } : Jvm.MethodName)) ∈ lw_all := lw_g (lw_at lw_m1 123 rfl) rfl
theorem q180 : (Jvm.Cond.selects "PlaneFaces" ({ cls := "PlaneFaces", name := "count", desc := "(I)I" } : Jvm.MethodName) ({ cls := "PlaneFaces", name := "count", desc := "(I)I" } : Jvm.MethodName)) ∈ lw_all := lw_g (lw_at lw_m1 124 rfl) rfl
theorem q181 : (Jvm.Cond.code ({ cls := "PlaneFaces", name := "count", desc := "(I)I" } : Jvm.MethodName) prog_1_method_31_code (2 : Nat) (Option.some Jvm.ClassFile.FieldType.int)) ∈ lw_all := lw_g (lw_at lw_m1 125 rfl) rfl
theorem q182 : (Jvm.Cond.methodLink "PlaneFaces" (259 : Nat) ({ cls := "PlaneFaces", name := "make", desc := "()V" } : Jvm.MethodName)) ∈ lw_all := lw_g (lw_at lw_m1 126 rfl) rfl
theorem q183 : (Jvm.Cond.privateMethod ({ cls := "PlaneFaces", name := "make", desc := "()V" } : Jvm.MethodName)) ∈ lw_tbl := lw_at lw_m1 127 rfl
theorem q184 : (Jvm.Cond.instanceMethod ({ cls := "PlaneFaces", name := "make", desc := "()V" } : Jvm.MethodName)) ∈ lw_all := lw_g (lw_at lw_m1 128 rfl) rfl
theorem q185 : (Jvm.Cond.code ({ cls := "PlaneFaces", name := "make", desc := "()V" } : Jvm.MethodName) prog_1_method_26_code (1 : Nat) (Option.none : Option Jvm.ClassFile.FieldType)) ∈ lw_all := lw_g (lw_at lw_m1 129 rfl) rfl
theorem q186 : (Jvm.Cond.methodLink "PlaneFaces" (247 : Nat) ({ cls := "PlaneFaces", name := "join", desc := "()V" } : Jvm.MethodName)) ∈ lw_all := lw_g (lw_at lw_m1 130 rfl) rfl
theorem q187 : (Jvm.Cond.privateMethod ({ cls := "PlaneFaces", name := "join", desc := "()V" } : Jvm.MethodName)) ∈ lw_tbl := lw_at lw_m1 131 rfl
theorem q188 : (Jvm.Cond.instanceMethod ({ cls := "PlaneFaces", name := "join", desc := "()V" } : Jvm.MethodName)) ∈ lw_all := lw_g (lw_at lw_m1 132 rfl) rfl
theorem q189 : (Jvm.Cond.code ({ cls := "PlaneFaces", name := "join", desc := "()V" } : Jvm.MethodName) prog_1_method_13_code (5 : Nat) (Option.none : Option Jvm.ClassFile.FieldType)) ∈ lw_all := lw_g (lw_at lw_m1 133 rfl) rfl
theorem q190 : (Jvm.Cond.methodLink "PlaneFaces" (133 : Nat) ({ cls := "java/util/ArrayList", name := "clear", desc := "()V" } : Jvm.MethodName)) ∈ lw_all := lw_g (lw_at lw_m1 134 rfl) rfl
theorem q195 : (Jvm.Cond.methodLink "PlaneFaces" (136 : Nat) ({ cls := "PlaneFaces", name := "node", desc := "(II)LPlaneFaces$Node;" } : Jvm.MethodName)) ∈ lw_all := lw_g (lw_at lw_m1 139 rfl) rfl
theorem q196 : (Jvm.Cond.privateMethod ({ cls := "PlaneFaces", name := "node", desc := "(II)LPlaneFaces$Node;" } : Jvm.MethodName)) ∈ lw_tbl := lw_at lw_m1 140 rfl
theorem q197 : (Jvm.Cond.instanceMethod ({ cls := "PlaneFaces", name := "node", desc := "(II)LPlaneFaces$Node;" } : Jvm.MethodName)) ∈ lw_all := lw_g (lw_at lw_m1 141 rfl) rfl
theorem q198 : (Jvm.Cond.code ({ cls := "PlaneFaces", name := "node", desc := "(II)LPlaneFaces$Node;" } : Jvm.MethodName) prog_1_method_12_code (4 : Nat) (Option.some (Jvm.ClassFile.FieldType.object "PlaneFaces$Node"))) ∈ lw_all := lw_g (lw_at lw_m1 142 rfl) rfl
theorem q199 : (Jvm.Cond.methodLink "PlaneFaces" (110 : Nat) ({ cls := "java/util/ArrayList", name := "size", desc := "()I" } : Jvm.MethodName)) ∈ lw_all := lw_g (lw_at lw_m1 143 rfl) rfl
theorem q203 : (Jvm.Cond.methodLink "PlaneFaces" (114 : Nat) ({ cls := "java/util/ArrayList", name := "get", desc := "(I)Ljava/lang/Object;" } : Jvm.MethodName)) ∈ lw_all := lw_g (lw_at lw_m1 147 rfl) rfl
theorem q217 : (Jvm.Cond.classLink "PlaneFaces" (118 : Nat) "PlaneFaces$Node") ∈ lw_all := lw_g (lw_at lw_m1 161 rfl) rfl
theorem q219 : (Jvm.Cond.methodLink "PlaneFaces" (126 : Nat) ({ cls := "PlaneFaces$Node", name := "<init>", desc := "(II)V" } : Jvm.MethodName)) ∈ lw_all := lw_g (lw_at lw_m1 163 rfl) rfl
theorem q228 : (Jvm.Cond.fieldLinkNest "PlaneFaces" (120 : Nat) "PlaneFaces$Node" "x" "I" "PlaneFaces") ∈ lw_tbl := lw_at lw_m1 172 rfl
theorem q232 : (Jvm.Cond.fieldLinkNest "PlaneFaces" (123 : Nat) "PlaneFaces$Node" "y" "I" "PlaneFaces") ∈ lw_tbl := lw_at lw_m1 176 rfl
theorem q234 : (Jvm.Cond.fieldLinkNest "PlaneFaces" (155 : Nat) "PlaneFaces$Node" "halves" "Ljava/util/ArrayList;" "PlaneFaces") ∈ lw_tbl := lw_at lw_m1 178 rfl
theorem q242 : (Jvm.Cond.methodLink "PlaneFaces" (129 : Nat) ({ cls := "java/util/ArrayList", name := "add", desc := "(Ljava/lang/Object;)Z" } : Jvm.MethodName)) ∈ lw_all := lw_g (lw_at lw_m1 186 rfl) rfl
theorem q274 : (Jvm.Cond.selects "PlaneFaces" ({ cls := "java/lang/Object", name := "getClass", desc := "()Ljava/lang/Class;" } : Jvm.MethodName) ({ cls := "java/lang/Object", name := "getClass", desc := "()Ljava/lang/Class;" } : Jvm.MethodName)) ∈ lw_all := lw_g (lw_at lw_m1 218 rfl) rfl
theorem q303 : (Jvm.Cond.methodLink "PlaneFaces" (140 : Nat) ({ cls := "PlaneFaces$Half", name := "<init>", desc := "(ILPlaneFaces$Node;)V" } : Jvm.MethodName)) ∈ lw_all := lw_g (lw_at lw_m2 7 rfl) rfl
theorem q309 : (Jvm.Cond.fieldLinkNest "PlaneFaces" (244 : Nat) "PlaneFaces$Half" "number" "I" "PlaneFaces") ∈ lw_tbl := lw_at lw_m2 13 rfl
theorem q312 : (Jvm.Cond.fieldLinkNest "PlaneFaces" (147 : Nat) "PlaneFaces$Half" "from" "LPlaneFaces$Node;" "PlaneFaces") ∈ lw_tbl := lw_at lw_m2 16 rfl
theorem q315 : (Jvm.Cond.fieldLinkNest "PlaneFaces" (143 : Nat) "PlaneFaces$Half" "twin" "LPlaneFaces$Half;" "PlaneFaces") ∈ lw_tbl := lw_at lw_m2 19 rfl
theorem q317 : (Jvm.Cond.fieldLinkNest "PlaneFaces" (157 : Nat) "PlaneFaces$Half" "next" "LPlaneFaces$Half;" "PlaneFaces") ∈ lw_tbl := lw_at lw_m2 21 rfl
theorem q318 : (Jvm.Cond.fieldLinkNest "PlaneFaces" (160 : Nat) "PlaneFaces$Half" "round" "LPlaneFaces$Round;" "PlaneFaces") ∈ lw_tbl := lw_at lw_m2 22 rfl
theorem q330 : (Jvm.Cond.methodLink "PlaneFaces" (151 : Nat) ({ cls := "PlaneFaces$Node", name := "put", desc := "(LPlaneFaces$Half;)V" } : Jvm.MethodName)) ∈ lw_all := lw_g (lw_at lw_m2 34 rfl) rfl
theorem q355 : (Jvm.Cond.static ({ cls := "PlaneFaces", name := "cross", desc := "(JJJJ)J" } : Jvm.MethodName)) ∈ lw_all := lw_g (lw_at lw_m2 59 rfl) rfl
theorem q356 : (Jvm.Cond.code ({ cls := "PlaneFaces", name := "cross", desc := "(JJJJ)J" } : Jvm.MethodName) prog_1_method_1_code (8 : Nat) (Option.some Jvm.ClassFile.FieldType.long)) ∈ lw_all := lw_g (lw_at lw_m2 60 rfl) rfl
theorem q682 : (Jvm.Cond.methodLink "PlaneFaces" (250 : Nat) ({ cls := "PlaneFaces", name := "goRound", desc := "()V" } : Jvm.MethodName)) ∈ lw_all := lw_g (lw_at lw_m3 146 rfl) rfl
theorem q683 : (Jvm.Cond.privateMethod ({ cls := "PlaneFaces", name := "goRound", desc := "()V" } : Jvm.MethodName)) ∈ lw_tbl := lw_at lw_m3 147 rfl
theorem q684 : (Jvm.Cond.instanceMethod ({ cls := "PlaneFaces", name := "goRound", desc := "()V" } : Jvm.MethodName)) ∈ lw_all := lw_g (lw_at lw_m3 148 rfl) rfl
theorem q685 : (Jvm.Cond.code ({ cls := "PlaneFaces", name := "goRound", desc := "()V" } : Jvm.MethodName) prog_1_method_14_code (5 : Nat) (Option.none : Option Jvm.ClassFile.FieldType)) ∈ lw_all := lw_g (lw_at lw_m3 149 rfl) rfl
theorem q687 : (Jvm.Cond.methodLink "PlaneFaces" (164 : Nat) ({ cls := "PlaneFaces$Round", name := "<init>", desc := "(LPlaneFaces$Half;)V" } : Jvm.MethodName)) ∈ lw_all := lw_g (lw_at lw_m3 151 rfl) rfl
theorem q692 : (Jvm.Cond.fieldLinkNest "PlaneFaces" (241 : Nat) "PlaneFaces$Round" "first" "LPlaneFaces$Half;" "PlaneFaces") ∈ lw_tbl := lw_at lw_m3 156 rfl
theorem q694 : (Jvm.Cond.fieldLinkNest "PlaneFaces" (198 : Nat) "PlaneFaces$Round" "face" "LPlaneFaces$Face;" "PlaneFaces") ∈ lw_tbl := lw_at lw_m3 158 rfl
theorem q700 : (Jvm.Cond.methodLink "PlaneFaces" (166 : Nat) ({ cls := "PlaneFaces$Round", name := "iterator", desc := "()Ljava/util/Iterator;" } : Jvm.MethodName)) ∈ lw_all := lw_g (lw_at lw_m3 164 rfl) rfl
theorem q720 : (Jvm.Cond.interfaceEntry "PlaneFaces" (170 : Nat)) ∈ lw_tbl := lw_at lw_m3 184 rfl
theorem q721 : (Jvm.Cond.methodLink "PlaneFaces" (170 : Nat) ({ cls := "java/util/Iterator", name := "hasNext", desc := "()Z" } : Jvm.MethodName)) ∈ lw_all := lw_g (lw_at lw_m3 185 rfl) rfl
theorem q730 : (Jvm.Cond.interfaceEntry "PlaneFaces" (176 : Nat)) ∈ lw_tbl := lw_at lw_m3 194 rfl
theorem q731 : (Jvm.Cond.methodLink "PlaneFaces" (176 : Nat) ({ cls := "java/util/Iterator", name := "next", desc := "()Ljava/lang/Object;" } : Jvm.MethodName)) ∈ lw_all := lw_g (lw_at lw_m3 195 rfl) rfl
theorem q743 : (Jvm.Cond.methodLink "PlaneFaces" (253 : Nat) ({ cls := "PlaneFaces", name := "findFaces", desc := "()V" } : Jvm.MethodName)) ∈ lw_all := lw_g (lw_at lw_m3 207 rfl) rfl
theorem q744 : (Jvm.Cond.privateMethod ({ cls := "PlaneFaces", name := "findFaces", desc := "()V" } : Jvm.MethodName)) ∈ lw_tbl := lw_at lw_m3 208 rfl
theorem q745 : (Jvm.Cond.instanceMethod ({ cls := "PlaneFaces", name := "findFaces", desc := "()V" } : Jvm.MethodName)) ∈ lw_all := lw_g (lw_at lw_m3 209 rfl) rfl
theorem q746 : (Jvm.Cond.code ({ cls := "PlaneFaces", name := "findFaces", desc := "()V" } : Jvm.MethodName) prog_1_method_22_code (3 : Nat) (Option.none : Option Jvm.ClassFile.FieldType)) ∈ lw_all := lw_g (lw_at lw_m3 210 rfl) rfl
theorem q747 : (Jvm.Cond.classLink "PlaneFaces" (209 : Nat) "PlaneFaces$Face") ∈ lw_all := lw_g (lw_at lw_m3 211 rfl) rfl
theorem q749 : (Jvm.Cond.methodLinkNest "PlaneFaces" (211 : Nat) ({ cls := "PlaneFaces$Face", name := "<init>", desc := "()V" } : Jvm.MethodName) "PlaneFaces") ∈ lw_tbl := lw_at lw_m3 213 rfl
theorem q756 : (Jvm.Cond.fieldLinkNest "PlaneFaces" (280 : Nat) "PlaneFaces$Face" "rounds" "Ljava/util/ArrayList;" "PlaneFaces") ∈ lw_tbl := lw_at lw_m3 220 rfl
theorem q758 : (Jvm.Cond.fieldLinkNest "PlaneFaces" (229 : Nat) "PlaneFaces$Face" "least" "I" "PlaneFaces") ∈ lw_tbl := lw_at lw_m3 222 rfl
theorem q759 : (Jvm.Cond.fieldLinkNest "PlaneFaces" (309 : Nat) "PlaneFaces$Face" "distance" "I" "PlaneFaces") ∈ lw_tbl := lw_at lw_m3 223 rfl
theorem q767 : (Jvm.Cond.methodLink "PlaneFaces" (212 : Nat) ({ cls := "PlaneFaces$Round", name := "area", desc := "()J" } : Jvm.MethodName)) ∈ lw_all := lw_g (lw_at lw_m3 231 rfl) rfl
theorem q778 : (Jvm.Cond.methodLink "PlaneFaces" (216 : Nat) ({ cls := "PlaneFaces$Face", name := "add", desc := "(LPlaneFaces$Round;)V" } : Jvm.MethodName)) ∈ lw_all := lw_g (lw_at lw_m4 2 rfl) rfl
theorem q789 : (Jvm.Cond.methodLink "PlaneFaces" (219 : Nat) ({ cls := "PlaneFaces", name := "faceAround", desc := "(LPlaneFaces$Round;)LPlaneFaces$Face;" } : Jvm.MethodName)) ∈ lw_all := lw_g (lw_at lw_m4 13 rfl) rfl
theorem q790 : (Jvm.Cond.privateMethod ({ cls := "PlaneFaces", name := "faceAround", desc := "(LPlaneFaces$Round;)LPlaneFaces$Face;" } : Jvm.MethodName)) ∈ lw_tbl := lw_at lw_m4 14 rfl
theorem q791 : (Jvm.Cond.instanceMethod ({ cls := "PlaneFaces", name := "faceAround", desc := "(LPlaneFaces$Round;)LPlaneFaces$Face;" } : Jvm.MethodName)) ∈ lw_all := lw_g (lw_at lw_m4 15 rfl) rfl
theorem q792 : (Jvm.Cond.code ({ cls := "PlaneFaces", name := "faceAround", desc := "(LPlaneFaces$Round;)LPlaneFaces$Face;" } : Jvm.MethodName) prog_1_method_21_code (5 : Nat) (Option.some (Jvm.ClassFile.FieldType.object "PlaneFaces$Face"))) ∈ lw_all := lw_g (lw_at lw_m4 16 rfl) rfl
theorem q793 : (Jvm.Cond.methodLink "PlaneFaces" (202 : Nat) ({ cls := "PlaneFaces$Round", name := "corner", desc := "()LPlaneFaces$Node;" } : Jvm.MethodName)) ∈ lw_all := lw_g (lw_at lw_m4 17 rfl) rfl
theorem q797 : (Jvm.Cond.methodLink "PlaneFaces" (206 : Nat) ({ cls := "PlaneFaces", name := "halfBelow", desc := "(II)LPlaneFaces$Half;" } : Jvm.MethodName)) ∈ lw_all := lw_g (lw_at lw_m4 21 rfl) rfl
theorem q798 : (Jvm.Cond.privateMethod ({ cls := "PlaneFaces", name := "halfBelow", desc := "(II)LPlaneFaces$Half;" } : Jvm.MethodName)) ∈ lw_tbl := lw_at lw_m4 22 rfl
theorem q799 : (Jvm.Cond.instanceMethod ({ cls := "PlaneFaces", name := "halfBelow", desc := "(II)LPlaneFaces$Half;" } : Jvm.MethodName)) ∈ lw_all := lw_g (lw_at lw_m4 23 rfl) rfl
theorem q800 : (Jvm.Cond.code ({ cls := "PlaneFaces", name := "halfBelow", desc := "(II)LPlaneFaces$Half;" } : Jvm.MethodName) prog_1_method_20_code (5 : Nat) (Option.some (Jvm.ClassFile.FieldType.object "PlaneFaces$Half"))) ∈ lw_all := lw_g (lw_at lw_m4 24 rfl) rfl
theorem q801 : (Jvm.Cond.methodLink "PlaneFaces" (188 : Nat) ({ cls := "PlaneFaces", name := "segmentBelow", desc := "(II)I" } : Jvm.MethodName)) ∈ lw_all := lw_g (lw_at lw_m4 25 rfl) rfl
theorem q802 : (Jvm.Cond.privateMethod ({ cls := "PlaneFaces", name := "segmentBelow", desc := "(II)I" } : Jvm.MethodName)) ∈ lw_tbl := lw_at lw_m4 26 rfl
theorem q803 : (Jvm.Cond.instanceMethod ({ cls := "PlaneFaces", name := "segmentBelow", desc := "(II)I" } : Jvm.MethodName)) ∈ lw_all := lw_g (lw_at lw_m4 27 rfl) rfl
theorem q804 : (Jvm.Cond.code ({ cls := "PlaneFaces", name := "segmentBelow", desc := "(II)I" } : Jvm.MethodName) prog_1_method_18_code (5 : Nat) (Option.some Jvm.ClassFile.FieldType.int)) ∈ lw_all := lw_g (lw_at lw_m4 28 rfl) rfl
theorem q805 : (Jvm.Cond.methodLink "PlaneFaces" (179 : Nat) ({ cls := "PlaneFaces", name := "isOver", desc := "(II)Z" } : Jvm.MethodName)) ∈ lw_all := lw_g (lw_at lw_m4 29 rfl) rfl
theorem q806 : (Jvm.Cond.privateMethod ({ cls := "PlaneFaces", name := "isOver", desc := "(II)Z" } : Jvm.MethodName)) ∈ lw_tbl := lw_at lw_m4 30 rfl
theorem q807 : (Jvm.Cond.instanceMethod ({ cls := "PlaneFaces", name := "isOver", desc := "(II)Z" } : Jvm.MethodName)) ∈ lw_all := lw_g (lw_at lw_m4 31 rfl) rfl
theorem q808 : (Jvm.Cond.code ({ cls := "PlaneFaces", name := "isOver", desc := "(II)Z" } : Jvm.MethodName) prog_1_method_16_code (3 : Nat) (Option.some Jvm.ClassFile.FieldType.boolean)) ∈ lw_all := lw_g (lw_at lw_m4 32 rfl) rfl
theorem q809 : (Jvm.Cond.methodLink "PlaneFaces" (71 : Nat) ({ cls := "java/lang/Math", name := "min", desc := "(II)I" } : Jvm.MethodName)) ∈ lw_all := lw_g (lw_at lw_m4 33 rfl) rfl
theorem q810 : (Jvm.Cond.methodLink "PlaneFaces" (77 : Nat) ({ cls := "java/lang/Math", name := "max", desc := "(II)I" } : Jvm.MethodName)) ∈ lw_all := lw_g (lw_at lw_m4 34 rfl) rfl
theorem q811 : (Jvm.Cond.methodLink "PlaneFaces" (182 : Nat) ({ cls := "PlaneFaces", name := "isAbove", desc := "(III)Z" } : Jvm.MethodName)) ∈ lw_all := lw_g (lw_at lw_m4 35 rfl) rfl
theorem q812 : (Jvm.Cond.privateMethod ({ cls := "PlaneFaces", name := "isAbove", desc := "(III)Z" } : Jvm.MethodName)) ∈ lw_tbl := lw_at lw_m4 36 rfl
theorem q813 : (Jvm.Cond.instanceMethod ({ cls := "PlaneFaces", name := "isAbove", desc := "(III)Z" } : Jvm.MethodName)) ∈ lw_all := lw_g (lw_at lw_m4 37 rfl) rfl
theorem q814 : (Jvm.Cond.code ({ cls := "PlaneFaces", name := "isAbove", desc := "(III)Z" } : Jvm.MethodName) prog_1_method_17_code (4 : Nat) (Option.some Jvm.ClassFile.FieldType.boolean)) ∈ lw_all := lw_g (lw_at lw_m4 38 rfl) rfl
theorem q815 : (Jvm.Cond.methodLink "PlaneFaces" (67 : Nat) ({ cls := "PlaneFaces", name := "side", desc := "(III)I" } : Jvm.MethodName)) ∈ lw_all := lw_g (lw_at lw_m4 39 rfl) rfl
theorem q816 : (Jvm.Cond.privateMethod ({ cls := "PlaneFaces", name := "side", desc := "(III)I" } : Jvm.MethodName)) ∈ lw_tbl := lw_at lw_m4 40 rfl
theorem q817 : (Jvm.Cond.instanceMethod ({ cls := "PlaneFaces", name := "side", desc := "(III)I" } : Jvm.MethodName)) ∈ lw_all := lw_g (lw_at lw_m4 41 rfl) rfl
theorem q818 : (Jvm.Cond.code ({ cls := "PlaneFaces", name := "side", desc := "(III)I" } : Jvm.MethodName) prog_1_method_5_code (4 : Nat) (Option.some Jvm.ClassFile.FieldType.int)) ∈ lw_all := lw_g (lw_at lw_m4 42 rfl) rfl
theorem q819 : (Jvm.Cond.methodLink "PlaneFaces" (57 : Nat) ({ cls := "PlaneFaces", name := "cross", desc := "(JJJJ)J" } : Jvm.MethodName)) ∈ lw_all := lw_g (lw_at lw_m4 43 rfl) rfl
theorem q820 : (Jvm.Cond.methodLink "PlaneFaces" (61 : Nat) ({ cls := "java/lang/Long", name := "signum", desc := "(J)I" } : Jvm.MethodName)) ∈ lw_all := lw_g (lw_at lw_m4 44 rfl) rfl
theorem q823 : (Jvm.Cond.methodLink "PlaneFaces" (185 : Nat) ({ cls := "PlaneFaces", name := "compare", desc := "(III)I" } : Jvm.MethodName)) ∈ lw_all := lw_g (lw_at lw_m4 47 rfl) rfl
theorem q824 : (Jvm.Cond.privateMethod ({ cls := "PlaneFaces", name := "compare", desc := "(III)I" } : Jvm.MethodName)) ∈ lw_tbl := lw_at lw_m4 48 rfl
theorem q825 : (Jvm.Cond.instanceMethod ({ cls := "PlaneFaces", name := "compare", desc := "(III)I" } : Jvm.MethodName)) ∈ lw_all := lw_g (lw_at lw_m4 49 rfl) rfl
theorem q826 : (Jvm.Cond.code ({ cls := "PlaneFaces", name := "compare", desc := "(III)I" } : Jvm.MethodName) prog_1_method_15_code (14 : Nat) (Option.some Jvm.ClassFile.FieldType.int)) ∈ lw_all := lw_g (lw_at lw_m4 50 rfl) rfl
theorem q827 : (Jvm.Cond.methodLink "PlaneFaces" (191 : Nat) ({ cls := "PlaneFaces", name := "nodeBelow", desc := "(II)LPlaneFaces$Node;" } : Jvm.MethodName)) ∈ lw_all := lw_g (lw_at lw_m4 51 rfl) rfl
theorem q828 : (Jvm.Cond.privateMethod ({ cls := "PlaneFaces", name := "nodeBelow", desc := "(II)LPlaneFaces$Node;" } : Jvm.MethodName)) ∈ lw_tbl := lw_at lw_m4 52 rfl
theorem q829 : (Jvm.Cond.instanceMethod ({ cls := "PlaneFaces", name := "nodeBelow", desc := "(II)LPlaneFaces$Node;" } : Jvm.MethodName)) ∈ lw_all := lw_g (lw_at lw_m4 53 rfl) rfl
theorem q830 : (Jvm.Cond.code ({ cls := "PlaneFaces", name := "nodeBelow", desc := "(II)LPlaneFaces$Node;" } : Jvm.MethodName) prog_1_method_19_code (6 : Nat) (Option.some (Jvm.ClassFile.FieldType.object "PlaneFaces$Node"))) ∈ lw_all := lw_g (lw_at lw_m4 54 rfl) rfl
theorem q831 : (Jvm.Cond.methodLink "PlaneFaces" (194 : Nat) ({ cls := "PlaneFaces$Node", name := "before", desc := "(II)LPlaneFaces$Half;" } : Jvm.MethodName)) ∈ lw_all := lw_g (lw_at lw_m4 55 rfl) rfl
theorem q835 : (Jvm.Cond.methodLink "PlaneFaces" (223 : Nat) ({ cls := "PlaneFaces", name := "sort", desc := "()V" } : Jvm.MethodName)) ∈ lw_all := lw_g (lw_at lw_m4 59 rfl) rfl
theorem q836 : (Jvm.Cond.privateMethod ({ cls := "PlaneFaces", name := "sort", desc := "()V" } : Jvm.MethodName)) ∈ lw_tbl := lw_at lw_m4 60 rfl
theorem q837 : (Jvm.Cond.instanceMethod ({ cls := "PlaneFaces", name := "sort", desc := "()V" } : Jvm.MethodName)) ∈ lw_all := lw_g (lw_at lw_m4 61 rfl) rfl
theorem q838 : (Jvm.Cond.code ({ cls := "PlaneFaces", name := "sort", desc := "()V" } : Jvm.MethodName) prog_1_method_23_code (4 : Nat) (Option.none : Option Jvm.ClassFile.FieldType)) ∈ lw_all := lw_g (lw_at lw_m4 62 rfl) rfl
theorem q839 : (Jvm.Cond.methodLink "PlaneFaces" (226 : Nat) ({ cls := "java/util/ArrayList", name := "remove", desc := "(I)Ljava/lang/Object;" } : Jvm.MethodName)) ∈ lw_all := lw_g (lw_at lw_m4 63 rfl) rfl
theorem q847 : (Jvm.Cond.methodLink "PlaneFaces" (232 : Nat) ({ cls := "java/util/ArrayList", name := "add", desc := "(ILjava/lang/Object;)V" } : Jvm.MethodName)) ∈ lw_all := lw_g (lw_at lw_m4 71 rfl) rfl
theorem q848 : (Jvm.Cond.methodLink "PlaneFaces" (256 : Nat) ({ cls := "PlaneFaces", name := "findPieces", desc := "()V" } : Jvm.MethodName)) ∈ lw_all := lw_g (lw_at lw_m4 72 rfl) rfl
theorem q849 : (Jvm.Cond.privateMethod ({ cls := "PlaneFaces", name := "findPieces", desc := "()V" } : Jvm.MethodName)) ∈ lw_tbl := lw_at lw_m4 73 rfl
theorem q850 : (Jvm.Cond.instanceMethod ({ cls := "PlaneFaces", name := "findPieces", desc := "()V" } : Jvm.MethodName)) ∈ lw_all := lw_g (lw_at lw_m4 74 rfl) rfl
theorem q851 : (Jvm.Cond.code ({ cls := "PlaneFaces", name := "findPieces", desc := "()V" } : Jvm.MethodName) prog_1_method_24_code (3 : Nat) (Option.none : Option Jvm.ClassFile.FieldType)) ∈ lw_all := lw_g (lw_at lw_m4 75 rfl) rfl
theorem q852 : (Jvm.Cond.methodLink "PlaneFaces" (238 : Nat) ({ cls := "PlaneFaces", name := "spread", desc := "(II)V" } : Jvm.MethodName)) ∈ lw_all := lw_g (lw_at lw_m4 76 rfl) rfl
theorem q853 : (Jvm.Cond.privateMethod ({ cls := "PlaneFaces", name := "spread", desc := "(II)V" } : Jvm.MethodName)) ∈ lw_tbl := lw_at lw_m4 77 rfl
theorem q854 : (Jvm.Cond.instanceMethod ({ cls := "PlaneFaces", name := "spread", desc := "(II)V" } : Jvm.MethodName)) ∈ lw_all := lw_g (lw_at lw_m4 78 rfl) rfl
theorem q855 : (Jvm.Cond.code ({ cls := "PlaneFaces", name := "spread", desc := "(II)V" } : Jvm.MethodName) prog_1_method_25_code (9 : Nat) (Option.none : Option Jvm.ClassFile.FieldType)) ∈ lw_all := lw_g (lw_at lw_m4 79 rfl) rfl
theorem q856 : (Jvm.Cond.methodLink "PlaneFaces" (265 : Nat) ({ cls := "PlaneFaces", name := "bridges", desc := "()I" } : Jvm.MethodName)) ∈ lw_all := lw_g (lw_at lw_m4 80 rfl) rfl
theorem q857 : (Jvm.Cond.privateMethod ({ cls := "PlaneFaces", name := "bridges", desc := "()I" } : Jvm.MethodName)) ∈ lw_tbl := lw_at lw_m4 81 rfl
theorem q858 : (Jvm.Cond.instanceMethod ({ cls := "PlaneFaces", name := "bridges", desc := "()I" } : Jvm.MethodName)) ∈ lw_all := lw_g (lw_at lw_m4 82 rfl) rfl
theorem q859 : (Jvm.Cond.code ({ cls := "PlaneFaces", name := "bridges", desc := "()I" } : Jvm.MethodName) prog_1_method_30_code (3 : Nat) (Option.some Jvm.ClassFile.FieldType.int)) ∈ lw_all := lw_g (lw_at lw_m4 83 rfl) rfl
theorem q866 : (Jvm.Cond.instanceMethod ({ cls := "PlaneFaces", name := "add", desc := "(IIII)I" } : Jvm.MethodName)) ∈ lw_all := lw_g (lw_at lw_m4 90 rfl) rfl
theorem q867 : (Jvm.Cond.selects "PlaneFaces" ({ cls := "PlaneFaces", name := "add", desc := "(IIII)I" } : Jvm.MethodName) ({ cls := "PlaneFaces", name := "add", desc := "(IIII)I" } : Jvm.MethodName)) ∈ lw_all := lw_g (lw_at lw_m4 91 rfl) rfl
theorem q868 : (Jvm.Cond.code ({ cls := "PlaneFaces", name := "add", desc := "(IIII)I" } : Jvm.MethodName) prog_1_method_9_code (7 : Nat) (Option.some Jvm.ClassFile.FieldType.int)) ∈ lw_all := lw_g (lw_at lw_m4 92 rfl) rfl
theorem q869 : (Jvm.Cond.methodLink "PlaneFaces" (87 : Nat) ({ cls := "PlaneFaces", name := "isIn", desc := "(I)Z" } : Jvm.MethodName)) ∈ lw_all := lw_g (lw_at lw_m4 93 rfl) rfl
theorem q870 : (Jvm.Cond.static ({ cls := "PlaneFaces", name := "isIn", desc := "(I)Z" } : Jvm.MethodName)) ∈ lw_all := lw_g (lw_at lw_m4 94 rfl) rfl
theorem q871 : (Jvm.Cond.code ({ cls := "PlaneFaces", name := "isIn", desc := "(I)Z" } : Jvm.MethodName) prog_1_method_4_code (1 : Nat) (Option.some Jvm.ClassFile.FieldType.boolean)) ∈ lw_all := lw_g (lw_at lw_m4 95 rfl) rfl
theorem q872 : (Jvm.Cond.methodLink "PlaneFaces" (91 : Nat) ({ cls := "PlaneFaces", name := "argue", desc := "(Z)V" } : Jvm.MethodName)) ∈ lw_all := lw_g (lw_at lw_m4 96 rfl) rfl
theorem q873 : (Jvm.Cond.static ({ cls := "PlaneFaces", name := "argue", desc := "(Z)V" } : Jvm.MethodName)) ∈ lw_all := lw_g (lw_at lw_m4 97 rfl) rfl
theorem q874 : (Jvm.Cond.code ({ cls := "PlaneFaces", name := "argue", desc := "(Z)V" } : Jvm.MethodName) prog_1_method_3_code (1 : Nat) (Option.none : Option Jvm.ClassFile.FieldType)) ∈ lw_all := lw_g (lw_at lw_m4 98 rfl) rfl
theorem q875 : (Jvm.Cond.classLink "PlaneFaces" (54 : Nat) "java/lang/IllegalArgumentException") ∈ lw_all := lw_g (lw_at lw_m4 99 rfl) rfl
theorem q876 : (Jvm.Cond.methodLink "PlaneFaces" (56 : Nat) ({ cls := "java/lang/IllegalArgumentException", name := "<init>", desc := "()V" } : Jvm.MethodName)) ∈ lw_all := lw_g (lw_at lw_m4 100 rfl) rfl
theorem q886 : (Jvm.Cond.classLink "PlaneFaces" (99 : Nat) "java/lang/IllegalStateException") ∈ lw_all := lw_g (lw_at lw_m4 110 rfl) rfl
theorem q895 : (Jvm.Cond.methodLink "PlaneFaces" (101 : Nat) ({ cls := "java/lang/IllegalStateException", name := "<init>", desc := "()V" } : Jvm.MethodName)) ∈ lw_all := lw_g (lw_at lw_m4 119 rfl) rfl
theorem q901 : (Jvm.Cond.methodLink "PlaneFaces" (102 : Nat) ({ cls := "PlaneFaces", name := "meet", desc := "(II)Z" } : Jvm.MethodName)) ∈ lw_all := lw_g (lw_at lw_m4 125 rfl) rfl
theorem q902 : (Jvm.Cond.privateMethod ({ cls := "PlaneFaces", name := "meet", desc := "(II)Z" } : Jvm.MethodName)) ∈ lw_tbl := lw_at lw_m4 126 rfl
theorem q903 : (Jvm.Cond.instanceMethod ({ cls := "PlaneFaces", name := "meet", desc := "(II)Z" } : Jvm.MethodName)) ∈ lw_all := lw_g (lw_at lw_m4 127 rfl) rfl
theorem q904 : (Jvm.Cond.code ({ cls := "PlaneFaces", name := "meet", desc := "(II)Z" } : Jvm.MethodName) prog_1_method_8_code (3 : Nat) (Option.some Jvm.ClassFile.FieldType.boolean)) ∈ lw_all := lw_g (lw_at lw_m4 128 rfl) rfl
theorem q905 : (Jvm.Cond.methodLink "PlaneFaces" (80 : Nat) ({ cls := "PlaneFaces", name := "isOn", desc := "(III)Z" } : Jvm.MethodName)) ∈ lw_all := lw_g (lw_at lw_m4 129 rfl) rfl
theorem q906 : (Jvm.Cond.privateMethod ({ cls := "PlaneFaces", name := "isOn", desc := "(III)Z" } : Jvm.MethodName)) ∈ lw_tbl := lw_at lw_m4 130 rfl
theorem q907 : (Jvm.Cond.instanceMethod ({ cls := "PlaneFaces", name := "isOn", desc := "(III)Z" } : Jvm.MethodName)) ∈ lw_all := lw_g (lw_at lw_m4 131 rfl) rfl
theorem q908 : (Jvm.Cond.code ({ cls := "PlaneFaces", name := "isOn", desc := "(III)Z" } : Jvm.MethodName) prog_1_method_7_code (4 : Nat) (Option.some Jvm.ClassFile.FieldType.boolean)) ∈ lw_all := lw_g (lw_at lw_m4 132 rfl) rfl
theorem q909 : (Jvm.Cond.methodLink "PlaneFaces" (84 : Nat) ({ cls := "PlaneFaces", name := "isEnd", desc := "(III)Z" } : Jvm.MethodName)) ∈ lw_all := lw_g (lw_at lw_m4 133 rfl) rfl
theorem q910 : (Jvm.Cond.privateMethod ({ cls := "PlaneFaces", name := "isEnd", desc := "(III)Z" } : Jvm.MethodName)) ∈ lw_tbl := lw_at lw_m4 134 rfl
theorem q911 : (Jvm.Cond.instanceMethod ({ cls := "PlaneFaces", name := "isEnd", desc := "(III)Z" } : Jvm.MethodName)) ∈ lw_all := lw_g (lw_at lw_m4 135 rfl) rfl
theorem q912 : (Jvm.Cond.code ({ cls := "PlaneFaces", name := "isEnd", desc := "(III)Z" } : Jvm.MethodName) prog_1_method_6_code (4 : Nat) (Option.some Jvm.ClassFile.FieldType.boolean)) ∈ lw_all := lw_g (lw_at lw_m4 136 rfl) rfl
theorem q933 : (Jvm.Cond.instanceMethod ({ cls := "PlaneFaces", name := "begins", desc := "(IZ)I" } : Jvm.MethodName)) ∈ lw_all := lw_g (lw_at lw_m4 157 rfl) rfl
theorem q934 : (Jvm.Cond.selects "PlaneFaces" ({ cls := "PlaneFaces", name := "begins", desc := "(IZ)I" } : Jvm.MethodName) ({ cls := "PlaneFaces", name := "begins", desc := "(IZ)I" } : Jvm.MethodName)) ∈ lw_all := lw_g (lw_at lw_m4 158 rfl) rfl
theorem q935 : (Jvm.Cond.code ({ cls := "PlaneFaces", name := "begins", desc := "(IZ)I" } : Jvm.MethodName) prog_1_method_32_code (4 : Nat) (Option.some Jvm.ClassFile.FieldType.int)) ∈ lw_all := lw_g (lw_at lw_m4 159 rfl) rfl
theorem q936 : (Jvm.Cond.methodLink "PlaneFaces" (268 : Nat) ({ cls := "PlaneFaces", name := "half", desc := "(I)LPlaneFaces$Half;" } : Jvm.MethodName)) ∈ lw_all := lw_g (lw_at lw_m4 160 rfl) rfl
theorem q937 : (Jvm.Cond.privateMethod ({ cls := "PlaneFaces", name := "half", desc := "(I)LPlaneFaces$Half;" } : Jvm.MethodName)) ∈ lw_tbl := lw_at lw_m4 161 rfl
theorem q938 : (Jvm.Cond.instanceMethod ({ cls := "PlaneFaces", name := "half", desc := "(I)LPlaneFaces$Half;" } : Jvm.MethodName)) ∈ lw_all := lw_g (lw_at lw_m4 162 rfl) rfl
theorem q939 : (Jvm.Cond.code ({ cls := "PlaneFaces", name := "half", desc := "(I)LPlaneFaces$Half;" } : Jvm.MethodName) prog_1_method_28_code (2 : Nat) (Option.some (Jvm.ClassFile.FieldType.object "PlaneFaces$Half"))) ∈ lw_all := lw_g (lw_at lw_m4 163 rfl) rfl
theorem q940 : (Jvm.Cond.classLink "PlaneFaces" (262 : Nat) "java/lang/IndexOutOfBoundsException") ∈ lw_all := lw_g (lw_at lw_m4 164 rfl) rfl
theorem q941 : (Jvm.Cond.methodLink "PlaneFaces" (264 : Nat) ({ cls := "java/lang/IndexOutOfBoundsException", name := "<init>", desc := "()V" } : Jvm.MethodName)) ∈ lw_all := lw_g (lw_at lw_m4 165 rfl) rfl
theorem q949 : (Jvm.Cond.instanceMethod ({ cls := "PlaneFaces", name := "next", desc := "(I)I" } : Jvm.MethodName)) ∈ lw_all := lw_g (lw_at lw_m4 173 rfl) rfl
theorem q950 : (Jvm.Cond.selects "PlaneFaces" ({ cls := "PlaneFaces", name := "next", desc := "(I)I" } : Jvm.MethodName) ({ cls := "PlaneFaces", name := "next", desc := "(I)I" } : Jvm.MethodName)) ∈ lw_all := lw_g (lw_at lw_m4 174 rfl) rfl
theorem q951 : (Jvm.Cond.code ({ cls := "PlaneFaces", name := "next", desc := "(I)I" } : Jvm.MethodName) prog_1_method_33_code (2 : Nat) (Option.some Jvm.ClassFile.FieldType.int)) ∈ lw_all := lw_g (lw_at lw_m4 175 rfl) rfl
theorem q956 : (Jvm.Cond.instanceMethod ({ cls := "PlaneFaces", name := "face", desc := "(I)I" } : Jvm.MethodName)) ∈ lw_all := lw_g (lw_at lw_m4 180 rfl) rfl
theorem q957 : (Jvm.Cond.selects "PlaneFaces" ({ cls := "PlaneFaces", name := "face", desc := "(I)I" } : Jvm.MethodName) ({ cls := "PlaneFaces", name := "face", desc := "(I)I" } : Jvm.MethodName)) ∈ lw_all := lw_g (lw_at lw_m4 181 rfl) rfl
theorem q958 : (Jvm.Cond.code ({ cls := "PlaneFaces", name := "face", desc := "(I)I" } : Jvm.MethodName) prog_1_method_34_code (2 : Nat) (Option.some Jvm.ClassFile.FieldType.int)) ∈ lw_all := lw_g (lw_at lw_m4 182 rfl) rfl
theorem q959 : (Jvm.Cond.methodLink "PlaneFaces" (272 : Nat) ({ cls := "PlaneFaces", name := "number", desc := "(LPlaneFaces$Face;)I" } : Jvm.MethodName)) ∈ lw_all := lw_g (lw_at lw_m4 183 rfl) rfl
theorem q960 : (Jvm.Cond.privateMethod ({ cls := "PlaneFaces", name := "number", desc := "(LPlaneFaces$Face;)I" } : Jvm.MethodName)) ∈ lw_tbl := lw_at lw_m4 184 rfl
theorem q961 : (Jvm.Cond.instanceMethod ({ cls := "PlaneFaces", name := "number", desc := "(LPlaneFaces$Face;)I" } : Jvm.MethodName)) ∈ lw_all := lw_g (lw_at lw_m4 185 rfl) rfl
theorem q962 : (Jvm.Cond.code ({ cls := "PlaneFaces", name := "number", desc := "(LPlaneFaces$Face;)I" } : Jvm.MethodName) prog_1_method_27_code (3 : Nat) (Option.some Jvm.ClassFile.FieldType.int)) ∈ lw_all := lw_g (lw_at lw_m4 186 rfl) rfl
theorem q967 : (Jvm.Cond.instanceMethod ({ cls := "PlaneFaces", name := "piece", desc := "(I)I" } : Jvm.MethodName)) ∈ lw_all := lw_g (lw_at lw_m4 191 rfl) rfl
theorem q968 : (Jvm.Cond.selects "PlaneFaces" ({ cls := "PlaneFaces", name := "piece", desc := "(I)I" } : Jvm.MethodName) ({ cls := "PlaneFaces", name := "piece", desc := "(I)I" } : Jvm.MethodName)) ∈ lw_all := lw_g (lw_at lw_m4 192 rfl) rfl
theorem q969 : (Jvm.Cond.code ({ cls := "PlaneFaces", name := "piece", desc := "(I)I" } : Jvm.MethodName) prog_1_method_35_code (2 : Nat) (Option.some Jvm.ClassFile.FieldType.int)) ∈ lw_all := lw_g (lw_at lw_m4 193 rfl) rfl
theorem q974 : (Jvm.Cond.instanceMethod ({ cls := "PlaneFaces", name := "around", desc := "(I)I" } : Jvm.MethodName)) ∈ lw_all := lw_g (lw_at lw_m4 198 rfl) rfl
theorem q975 : (Jvm.Cond.selects "PlaneFaces" ({ cls := "PlaneFaces", name := "around", desc := "(I)I" } : Jvm.MethodName) ({ cls := "PlaneFaces", name := "around", desc := "(I)I" } : Jvm.MethodName)) ∈ lw_all := lw_g (lw_at lw_m4 199 rfl) rfl
theorem q976 : (Jvm.Cond.code ({ cls := "PlaneFaces", name := "around", desc := "(I)I" } : Jvm.MethodName) prog_1_method_36_code (2 : Nat) (Option.some Jvm.ClassFile.FieldType.int)) ∈ lw_all := lw_g (lw_at lw_m4 200 rfl) rfl
theorem q981 : (Jvm.Cond.instanceMethod ({ cls := "PlaneFaces", name := "area", desc := "(I)I" } : Jvm.MethodName)) ∈ lw_all := lw_g (lw_at lw_m4 205 rfl) rfl
theorem q982 : (Jvm.Cond.selects "PlaneFaces" ({ cls := "PlaneFaces", name := "area", desc := "(I)I" } : Jvm.MethodName) ({ cls := "PlaneFaces", name := "area", desc := "(I)I" } : Jvm.MethodName)) ∈ lw_all := lw_g (lw_at lw_m4 206 rfl) rfl
theorem q983 : (Jvm.Cond.code ({ cls := "PlaneFaces", name := "area", desc := "(I)I" } : Jvm.MethodName) prog_1_method_37_code (3 : Nat) (Option.some Jvm.ClassFile.FieldType.int)) ∈ lw_all := lw_g (lw_at lw_m4 207 rfl) rfl
theorem q984 : (Jvm.Cond.methodLink "PlaneFaces" (275 : Nat) ({ cls := "PlaneFaces", name := "faceAt", desc := "(I)LPlaneFaces$Face;" } : Jvm.MethodName)) ∈ lw_all := lw_g (lw_at lw_m4 208 rfl) rfl
theorem q985 : (Jvm.Cond.privateMethod ({ cls := "PlaneFaces", name := "faceAt", desc := "(I)LPlaneFaces$Face;" } : Jvm.MethodName)) ∈ lw_tbl := lw_at lw_m4 209 rfl
theorem q986 : (Jvm.Cond.instanceMethod ({ cls := "PlaneFaces", name := "faceAt", desc := "(I)LPlaneFaces$Face;" } : Jvm.MethodName)) ∈ lw_all := lw_g (lw_at lw_m4 210 rfl) rfl
theorem q987 : (Jvm.Cond.code ({ cls := "PlaneFaces", name := "faceAt", desc := "(I)LPlaneFaces$Face;" } : Jvm.MethodName) prog_1_method_29_code (2 : Nat) (Option.some (Jvm.ClassFile.FieldType.object "PlaneFaces$Face"))) ∈ lw_all := lw_g (lw_at lw_m4 211 rfl) rfl
theorem q988 : (Jvm.Cond.methodLink "PlaneFaces" (279 : Nat) ({ cls := "PlaneFaces$Face", name := "area", desc := "()J" } : Jvm.MethodName)) ∈ lw_all := lw_g (lw_at lw_m4 212 rfl) rfl
theorem q1000 : (Jvm.Cond.instanceMethod ({ cls := "PlaneFaces", name := "border", desc := "(II)I" } : Jvm.MethodName)) ∈ lw_all := lw_g (lw_at lw_m4 224 rfl) rfl
theorem q1001 : (Jvm.Cond.selects "PlaneFaces" ({ cls := "PlaneFaces", name := "border", desc := "(II)I" } : Jvm.MethodName) ({ cls := "PlaneFaces", name := "border", desc := "(II)I" } : Jvm.MethodName)) ∈ lw_all := lw_g (lw_at lw_m4 225 rfl) rfl
theorem q1002 : (Jvm.Cond.code ({ cls := "PlaneFaces", name := "border", desc := "(II)I" } : Jvm.MethodName) prog_1_method_40_code (4 : Nat) (Option.some Jvm.ClassFile.FieldType.int)) ∈ lw_all := lw_g (lw_at lw_m4 226 rfl) rfl
theorem q1003 : (Jvm.Cond.methodLink "PlaneFaces" (282 : Nat) ({ cls := "PlaneFaces", name := "length", desc := "(LPlaneFaces$Face;)I" } : Jvm.MethodName)) ∈ lw_all := lw_g (lw_at lw_m4 227 rfl) rfl
theorem q1004 : (Jvm.Cond.privateMethod ({ cls := "PlaneFaces", name := "length", desc := "(LPlaneFaces$Face;)I" } : Jvm.MethodName)) ∈ lw_tbl := lw_at lw_m4 228 rfl
theorem q1005 : (Jvm.Cond.instanceMethod ({ cls := "PlaneFaces", name := "length", desc := "(LPlaneFaces$Face;)I" } : Jvm.MethodName)) ∈ lw_all := lw_g (lw_at lw_m4 229 rfl) rfl
theorem q1006 : (Jvm.Cond.code ({ cls := "PlaneFaces", name := "length", desc := "(LPlaneFaces$Face;)I" } : Jvm.MethodName) prog_1_method_39_code (4 : Nat) (Option.some Jvm.ClassFile.FieldType.int)) ∈ lw_all := lw_g (lw_at lw_m4 230 rfl) rfl
theorem q1007 : (Jvm.Cond.methodLink "PlaneFaces" (281 : Nat) ({ cls := "PlaneFaces$Round", name := "size", desc := "()I" } : Jvm.MethodName)) ∈ lw_all := lw_g (lw_at lw_m4 231 rfl) rfl
theorem q1011 : (Jvm.Cond.methodLink "PlaneFaces" (285 : Nat) ({ cls := "java/util/ArrayList", name := "isEmpty", desc := "()Z" } : Jvm.MethodName)) ∈ lw_all := lw_g (lw_at lw_m4 235 rfl) rfl
theorem q1015 : (Jvm.Cond.methodLink "PlaneFaces" (288 : Nat) ({ cls := "PlaneFaces", name := "inside", desc := "(LPlaneFaces$Face;)I" } : Jvm.MethodName)) ∈ lw_all := lw_g (lw_at lw_m4 239 rfl) rfl
theorem q1016 : (Jvm.Cond.privateMethod ({ cls := "PlaneFaces", name := "inside", desc := "(LPlaneFaces$Face;)I" } : Jvm.MethodName)) ∈ lw_tbl := lw_at lw_m5 0 rfl
theorem q1017 : (Jvm.Cond.instanceMethod ({ cls := "PlaneFaces", name := "inside", desc := "(LPlaneFaces$Face;)I" } : Jvm.MethodName)) ∈ lw_all := lw_g (lw_at lw_m5 1 rfl) rfl
theorem q1018 : (Jvm.Cond.code ({ cls := "PlaneFaces", name := "inside", desc := "(LPlaneFaces$Face;)I" } : Jvm.MethodName) prog_1_method_38_code (4 : Nat) (Option.some Jvm.ClassFile.FieldType.int)) ∈ lw_all := lw_g (lw_at lw_m5 2 rfl) rfl
theorem q1023 : (Jvm.Cond.instanceMethod ({ cls := "PlaneFaces", name := "locate", desc := "(II)I" } : Jvm.MethodName)) ∈ lw_all := lw_g (lw_at lw_m5 7 rfl) rfl
theorem q1024 : (Jvm.Cond.selects "PlaneFaces" ({ cls := "PlaneFaces", name := "locate", desc := "(II)I" } : Jvm.MethodName) ({ cls := "PlaneFaces", name := "locate", desc := "(II)I" } : Jvm.MethodName)) ∈ lw_all := lw_g (lw_at lw_m5 8 rfl) rfl
theorem q1025 : (Jvm.Cond.code ({ cls := "PlaneFaces", name := "locate", desc := "(II)I" } : Jvm.MethodName) prog_1_method_42_code (4 : Nat) (Option.some Jvm.ClassFile.FieldType.int)) ∈ lw_all := lw_g (lw_at lw_m5 9 rfl) rfl
theorem q1026 : (Jvm.Cond.methodLink "PlaneFaces" (291 : Nat) ({ cls := "PlaneFaces", name := "leastAt", desc := "(LPlaneFaces$Node;)I" } : Jvm.MethodName)) ∈ lw_all := lw_g (lw_at lw_m5 10 rfl) rfl
theorem q1027 : (Jvm.Cond.privateMethod ({ cls := "PlaneFaces", name := "leastAt", desc := "(LPlaneFaces$Node;)I" } : Jvm.MethodName)) ∈ lw_tbl := lw_at lw_m5 11 rfl
theorem q1028 : (Jvm.Cond.instanceMethod ({ cls := "PlaneFaces", name := "leastAt", desc := "(LPlaneFaces$Node;)I" } : Jvm.MethodName)) ∈ lw_all := lw_g (lw_at lw_m5 12 rfl) rfl
theorem q1029 : (Jvm.Cond.code ({ cls := "PlaneFaces", name := "leastAt", desc := "(LPlaneFaces$Node;)I" } : Jvm.MethodName) prog_1_method_41_code (4 : Nat) (Option.some Jvm.ClassFile.FieldType.int)) ∈ lw_all := lw_g (lw_at lw_m5 13 rfl) rfl
theorem q1034 : (Jvm.Cond.instanceMethod ({ cls := "PlaneFaces", name := "above", desc := "(II)I" } : Jvm.MethodName)) ∈ lw_all := lw_g (lw_at lw_m5 18 rfl) rfl
theorem q1035 : (Jvm.Cond.selects "PlaneFaces" ({ cls := "PlaneFaces", name := "above", desc := "(II)I" } : Jvm.MethodName) ({ cls := "PlaneFaces", name := "above", desc := "(II)I" } : Jvm.MethodName)) ∈ lw_all := lw_g (lw_at lw_m5 19 rfl) rfl
theorem q1036 : (Jvm.Cond.code ({ cls := "PlaneFaces", name := "above", desc := "(II)I" } : Jvm.MethodName) prog_1_method_46_code (5 : Nat) (Option.some Jvm.ClassFile.FieldType.int)) ∈ lw_all := lw_g (lw_at lw_m5 20 rfl) rfl
theorem q1037 : (Jvm.Cond.methodLink "PlaneFaces" (302 : Nat) ({ cls := "PlaneFaces", name := "isMet", desc := "(III)Z" } : Jvm.MethodName)) ∈ lw_all := lw_g (lw_at lw_m5 21 rfl) rfl
theorem q1038 : (Jvm.Cond.privateMethod ({ cls := "PlaneFaces", name := "isMet", desc := "(III)Z" } : Jvm.MethodName)) ∈ lw_tbl := lw_at lw_m5 22 rfl
theorem q1039 : (Jvm.Cond.instanceMethod ({ cls := "PlaneFaces", name := "isMet", desc := "(III)Z" } : Jvm.MethodName)) ∈ lw_all := lw_g (lw_at lw_m5 23 rfl) rfl
theorem q1040 : (Jvm.Cond.code ({ cls := "PlaneFaces", name := "isMet", desc := "(III)Z" } : Jvm.MethodName) prog_1_method_43_code (4 : Nat) (Option.some Jvm.ClassFile.FieldType.boolean)) ∈ lw_all := lw_g (lw_at lw_m5 24 rfl) rfl
theorem q1041 : (Jvm.Cond.methodLink "PlaneFaces" (305 : Nat) ({ cls := "PlaneFaces", name := "sooner", desc := "(IIII)I" } : Jvm.MethodName)) ∈ lw_all := lw_g (lw_at lw_m5 25 rfl) rfl
theorem q1042 : (Jvm.Cond.privateMethod ({ cls := "PlaneFaces", name := "sooner", desc := "(IIII)I" } : Jvm.MethodName)) ∈ lw_tbl := lw_at lw_m5 26 rfl
theorem q1043 : (Jvm.Cond.instanceMethod ({ cls := "PlaneFaces", name := "sooner", desc := "(IIII)I" } : Jvm.MethodName)) ∈ lw_all := lw_g (lw_at lw_m5 27 rfl) rfl
theorem q1044 : (Jvm.Cond.code ({ cls := "PlaneFaces", name := "sooner", desc := "(IIII)I" } : Jvm.MethodName) prog_1_method_44_code (9 : Nat) (Option.some Jvm.ClassFile.FieldType.int)) ∈ lw_all := lw_g (lw_at lw_m5 28 rfl) rfl
theorem q1045 : (Jvm.Cond.methodLink "PlaneFaces" (295 : Nat) ({ cls := "java/lang/Integer", name := "compare", desc := "(II)I" } : Jvm.MethodName)) ∈ lw_all := lw_g (lw_at lw_m5 29 rfl) rfl
theorem q1048 : (Jvm.Cond.methodLink "PlaneFaces" (299 : Nat) ({ cls := "PlaneFaces", name := "heightAgainst", desc := "(III)I" } : Jvm.MethodName)) ∈ lw_all := lw_g (lw_at lw_m5 32 rfl) rfl
theorem q1049 : (Jvm.Cond.privateMethod ({ cls := "PlaneFaces", name := "heightAgainst", desc := "(III)I" } : Jvm.MethodName)) ∈ lw_tbl := lw_at lw_m5 33 rfl
theorem q1050 : (Jvm.Cond.instanceMethod ({ cls := "PlaneFaces", name := "heightAgainst", desc := "(III)I" } : Jvm.MethodName)) ∈ lw_all := lw_g (lw_at lw_m5 34 rfl) rfl
theorem q1051 : (Jvm.Cond.code ({ cls := "PlaneFaces", name := "heightAgainst", desc := "(III)I" } : Jvm.MethodName) prog_1_method_45_code (4 : Nat) (Option.some Jvm.ClassFile.FieldType.int)) ∈ lw_all := lw_g (lw_at lw_m5 35 rfl) rfl
theorem q1056 : (Jvm.Cond.instanceMethod ({ cls := "PlaneFaces", name := "across", desc := "(II)I" } : Jvm.MethodName)) ∈ lw_all := lw_g (lw_at lw_m5 40 rfl) rfl
theorem q1057 : (Jvm.Cond.selects "PlaneFaces" ({ cls := "PlaneFaces", name := "across", desc := "(II)I" } : Jvm.MethodName) ({ cls := "PlaneFaces", name := "across", desc := "(II)I" } : Jvm.MethodName)) ∈ lw_all := lw_g (lw_at lw_m5 41 rfl) rfl
theorem q1058 : (Jvm.Cond.code ({ cls := "PlaneFaces", name := "across", desc := "(II)I" } : Jvm.MethodName) prog_1_method_47_code (7 : Nat) (Option.some Jvm.ClassFile.FieldType.int)) ∈ lw_all := lw_g (lw_at lw_m5 42 rfl) rfl
theorem q1286 : (Jvm.Cond.castable "PlaneFaces" "java/lang/Object") ∈ lw_tbl := lw_at lw_m6 30 rfl
theorem in_X1 : ∀ w ∈ wsX10, w ∈ lw_all := lw_in wsX10 [141, 143, 145, 147, 149, 151, 153, 155, 157, 159, 161, 163, 165, 167] (by decide +kernel) (by decide +kernel)
/-! PlaneFacesModel -/
def RX2 : String := "PlaneFacesModel"
def TX2 : u_T := fun k => match k with
  | 0 => ("PlaneFacesModel", "refusal", "I", false)
  | 1 => ("PlaneFacesModel", "isThere", "[Z", true)
  | 2 => ("PlaneFacesModel", "xs", "[I", true)
  | 3 => ("PlaneFacesModel", "ys", "[I", true)
  | 4 => ("PlaneFacesModel", "isCurrent", "Z", false)
  | 5 => ("PlaneFacesModel", "nexts", "[I", true)
  | 6 => ("PlaneFacesModel", "pieceOf", "[I", true)
  | 7 => ("PlaneFacesModel", "pieces", "I", false)
  | 8 => ("PlaneFacesModel", "rounds", "I", false)
  | 9 => ("PlaneFacesModel", "roundOf", "[I", true)
  | 10 => ("PlaneFacesModel", "firsts", "[I", true)
  | 11 => ("PlaneFacesModel", "areas", "[J", true)
  | 12 => ("PlaneFacesModel", "faces", "I", false)
  | 13 => ("PlaneFacesModel", "faceOf", "[I", true)
  | 14 => ("PlaneFacesModel", "numbers", "[I", true)
  | _ => ("PlaneFacesModel", "steps", "[I", true)
def tyX2 : Nat → FieldType := fun k => match k with
  | 0 => .int
  | 1 => .array .boolean
  | 2 => .array .int
  | 3 => .array .int
  | 4 => .boolean
  | 5 => .array .int
  | 6 => .array .int
  | 7 => .int
  | 8 => .int
  | 9 => .array .int
  | 10 => .array .int
  | 11 => .array .long
  | 12 => .int
  | 13 => .array .int
  | 14 => .array .int
  | _ => .array .int
abbrev wsX20 : List Cond := u_ws RX2 TX2 16
theorem nmX2 : ∀ a, a < 16 → ∀ b, b < 16 → a ≠ b → (TX2 a).2.1 ≠ (TX2 b).2.1 := by decide +kernel
theorem tyX2_ok : ∀ k, k < 16 → parseFieldDescriptor (TX2 k).2.2.1 = some (tyX2 k) := by decide +kernel
abbrev cX2_init : ByteArray := prog_8_method_1_code
def yX2_init : MethodName := ⟨RX2, "<init>", "()V"⟩
abbrev cX2_thrown : ByteArray := prog_8_method_2_code
def yX2_thrown : MethodName := ⟨RX2, "thrown", "()I"⟩
abbrev cX2_add : ByteArray := prog_8_method_10_code
def yX2_add : MethodName := ⟨RX2, "add", "(IIII)I"⟩
abbrev cX2_isIn : ByteArray := prog_8_method_4_code
def yX2_isIn : MethodName := ⟨RX2, "isIn", "(I)Z"⟩
abbrev cX2_refused : ByteArray := prog_8_method_3_code
def yX2_refused : MethodName := ⟨RX2, "refused", "(I)Z"⟩
abbrev cX2_meets : ByteArray := prog_8_method_9_code
def yX2_meets : MethodName := ⟨RX2, "meets", "(IIIII)Z"⟩
abbrev cX2_isEnd : ByteArray := prog_8_method_8_code
def yX2_isEnd : MethodName := ⟨RX2, "isEnd", "(III)Z"⟩
abbrev cX2_isOn : ByteArray := prog_8_method_7_code
def yX2_isOn : MethodName := ⟨RX2, "isOn", "(IIIIII)Z"⟩
abbrev cX2_side : ByteArray := prog_8_method_6_code
def yX2_side : MethodName := ⟨RX2, "side", "(IIIIII)I"⟩
abbrev cX2_sign : ByteArray := prog_8_method_5_code
def yX2_sign : MethodName := ⟨RX2, "sign", "(J)I"⟩
abbrev cX2_remove : ByteArray := prog_8_method_11_code
def yX2_remove : MethodName := ⟨RX2, "remove", "(I)Z"⟩
abbrev cX2_clear : ByteArray := prog_8_method_12_code
def yX2_clear : MethodName := ⟨RX2, "clear", "()I"⟩
abbrev cX2_count : ByteArray := prog_8_method_26_code
def yX2_count : MethodName := ⟨RX2, "count", "(I)I"⟩
abbrev cX2_make : ByteArray := prog_8_method_23_code
def yX2_make : MethodName := ⟨RX2, "make", "()V"⟩
abbrev cX2_nextOf : ByteArray := prog_8_method_18_code
def yX2_nextOf : MethodName := ⟨RX2, "nextOf", "(I)I"⟩
abbrev cX2_back : ByteArray := prog_8_method_14_code
def yX2_back : MethodName := ⟨RX2, "back", "(I)I"⟩
abbrev cX2_leaves : ByteArray := prog_8_method_15_code
def yX2_leaves : MethodName := ⟨RX2, "leaves", "(III)Z"⟩
abbrev cX2_turned : ByteArray := prog_8_method_17_code
def yX2_turned : MethodName := ⟨RX2, "turned", "(II)I"⟩
abbrev cX2_crossOf : ByteArray := prog_8_method_16_code
def yX2_crossOf : MethodName := ⟨RX2, "crossOf", "(II)J"⟩
abbrev cX2_spreadPiece : ByteArray := prog_8_method_19_code
def yX2_spreadPiece : MethodName := ⟨RX2, "spreadPiece", "(II)V"⟩
abbrev cX2_makeRound : ByteArray := prog_8_method_20_code
def yX2_makeRound : MethodName := ⟨RX2, "makeRound", "(I)V"⟩
abbrev cX2_number : ByteArray := prog_8_method_24_code
def yX2_number : MethodName := ⟨RX2, "number", "()V"⟩
abbrev cX2_least : ByteArray := prog_8_method_22_code
def yX2_least : MethodName := ⟨RX2, "least", "(III)I"⟩
abbrev cX2_isWithin : ByteArray := prog_8_method_21_code
def yX2_isWithin : MethodName := ⟨RX2, "isWithin", "(III)Z"⟩
abbrev cX2_left : ByteArray := prog_8_method_25_code
def yX2_left : MethodName := ⟨RX2, "left", "(I)I"⟩
abbrev cX2_begins : ByteArray := prog_8_method_27_code
def yX2_begins : MethodName := ⟨RX2, "begins", "(IZ)I"⟩
abbrev cX2_isHalf : ByteArray := prog_8_method_13_code
def yX2_isHalf : MethodName := ⟨RX2, "isHalf", "(I)Z"⟩
abbrev cX2_next : ByteArray := prog_8_method_28_code
def yX2_next : MethodName := ⟨RX2, "next", "(I)I"⟩
abbrev cX2_face : ByteArray := prog_8_method_29_code
def yX2_face : MethodName := ⟨RX2, "face", "(I)I"⟩
abbrev cX2_piece : ByteArray := prog_8_method_30_code
def yX2_piece : MethodName := ⟨RX2, "piece", "(I)I"⟩
abbrev cX2_around : ByteArray := prog_8_method_32_code
def yX2_around : MethodName := ⟨RX2, "around", "(I)I"⟩
abbrev cX2_outer : ByteArray := prog_8_method_31_code
def yX2_outer : MethodName := ⟨RX2, "outer", "(I)I"⟩
abbrev cX2_area : ByteArray := prog_8_method_34_code
def yX2_area : MethodName := ⟨RX2, "area", "(I)I"⟩
abbrev cX2_isFace : ByteArray := prog_8_method_33_code
def yX2_isFace : MethodName := ⟨RX2, "isFace", "(I)Z"⟩
abbrev cX2_border : ByteArray := prog_8_method_35_code
def yX2_border : MethodName := ⟨RX2, "border", "(II)I"⟩
abbrev cX2_locate : ByteArray := prog_8_method_36_code
def yX2_locate : MethodName := ⟨RX2, "locate", "(II)I"⟩
abbrev cX2_above : ByteArray := prog_8_method_40_code
def yX2_above : MethodName := ⟨RX2, "above", "(II)I"⟩
abbrev cX2_isMet : ByteArray := prog_8_method_39_code
def yX2_isMet : MethodName := ⟨RX2, "isMet", "(III)Z"⟩
abbrev cX2_height : ByteArray := prog_8_method_37_code
def yX2_height : MethodName := ⟨RX2, "height", "(III)J"⟩
abbrev cX2_width : ByteArray := prog_8_method_38_code
def yX2_width : MethodName := ⟨RX2, "width", "(I)J"⟩
abbrev cX2_across : ByteArray := prog_8_method_41_code
def yX2_across : MethodName := ⟨RX2, "across", "(II)I"⟩
theorem q61 : (Jvm.Cond.initialized "PlaneFacesModel") ∈ lw_all := lw_g (lw_at lw_m1 5 rfl) rfl
theorem q280 : (Jvm.Cond.selects "PlaneFacesModel" ({ cls := "java/lang/Object", name := "getClass", desc := "()Ljava/lang/Class;" } : Jvm.MethodName) ({ cls := "java/lang/Object", name := "getClass", desc := "()Ljava/lang/Class;" } : Jvm.MethodName)) ∈ lw_all := lw_g (lw_at lw_m1 224 rfl) rfl
theorem q1060 : (Jvm.Cond.instantiable "PlaneFacesModel" (16 : Nat)) ∈ lw_all := lw_g (lw_at lw_m5 44 rfl) rfl
theorem q1062 : (Jvm.Cond.instanceMethod ({ cls := "PlaneFacesModel", name := "<init>", desc := "()V" } : Jvm.MethodName)) ∈ lw_all := lw_g (lw_at lw_m5 46 rfl) rfl
theorem q1063 : (Jvm.Cond.code ({ cls := "PlaneFacesModel", name := "<init>", desc := "()V" } : Jvm.MethodName) prog_8_method_1_code (1 : Nat) (Option.none : Option Jvm.ClassFile.FieldType)) ∈ lw_all := lw_g (lw_at lw_m5 47 rfl) rfl
theorem q1064 : (Jvm.Cond.methodLink "PlaneFacesModel" (1 : Nat) ({ cls := "java/lang/Object", name := "<init>", desc := "()V" } : Jvm.MethodName)) ∈ lw_all := lw_g (lw_at lw_m5 48 rfl) rfl
theorem q1065 : (Jvm.Cond.fieldLink "PlaneFacesModel" (45 : Nat) "PlaneFacesModel" "refusal" "I") ∈ lw_all := lw_g (lw_at lw_m5 49 rfl) rfl
theorem q1066 : (Jvm.Cond.fieldLink "PlaneFacesModel" (7 : Nat) "PlaneFacesModel" "isThere" "[Z") ∈ lw_all := lw_g (lw_at lw_m5 50 rfl) rfl
theorem q1067 : (Jvm.Cond.fieldLink "PlaneFacesModel" (13 : Nat) "PlaneFacesModel" "xs" "[I") ∈ lw_all := lw_g (lw_at lw_m5 51 rfl) rfl
theorem q1068 : (Jvm.Cond.fieldLink "PlaneFacesModel" (17 : Nat) "PlaneFacesModel" "ys" "[I") ∈ lw_all := lw_g (lw_at lw_m5 52 rfl) rfl
theorem q1069 : (Jvm.Cond.fieldLink "PlaneFacesModel" (76 : Nat) "PlaneFacesModel" "isCurrent" "Z") ∈ lw_all := lw_g (lw_at lw_m5 53 rfl) rfl
theorem q1070 : (Jvm.Cond.fieldLink "PlaneFacesModel" (20 : Nat) "PlaneFacesModel" "nexts" "[I") ∈ lw_all := lw_g (lw_at lw_m5 54 rfl) rfl
theorem q1071 : (Jvm.Cond.fieldLink "PlaneFacesModel" (23 : Nat) "PlaneFacesModel" "pieceOf" "[I") ∈ lw_all := lw_g (lw_at lw_m5 55 rfl) rfl
theorem q1072 : (Jvm.Cond.fieldLink "PlaneFacesModel" (101 : Nat) "PlaneFacesModel" "pieces" "I") ∈ lw_all := lw_g (lw_at lw_m5 56 rfl) rfl
theorem q1073 : (Jvm.Cond.fieldLink "PlaneFacesModel" (95 : Nat) "PlaneFacesModel" "rounds" "I") ∈ lw_all := lw_g (lw_at lw_m5 57 rfl) rfl
theorem q1074 : (Jvm.Cond.fieldLink "PlaneFacesModel" (26 : Nat) "PlaneFacesModel" "roundOf" "[I") ∈ lw_all := lw_g (lw_at lw_m5 58 rfl) rfl
theorem q1075 : (Jvm.Cond.fieldLink "PlaneFacesModel" (29 : Nat) "PlaneFacesModel" "firsts" "[I") ∈ lw_all := lw_g (lw_at lw_m5 59 rfl) rfl
theorem q1076 : (Jvm.Cond.fieldLink "PlaneFacesModel" (32 : Nat) "PlaneFacesModel" "areas" "[J") ∈ lw_all := lw_g (lw_at lw_m5 60 rfl) rfl
theorem q1077 : (Jvm.Cond.fieldLink "PlaneFacesModel" (118 : Nat) "PlaneFacesModel" "faces" "I") ∈ lw_all := lw_g (lw_at lw_m5 61 rfl) rfl
theorem q1078 : (Jvm.Cond.fieldLink "PlaneFacesModel" (36 : Nat) "PlaneFacesModel" "faceOf" "[I") ∈ lw_all := lw_g (lw_at lw_m5 62 rfl) rfl
theorem q1079 : (Jvm.Cond.fieldLink "PlaneFacesModel" (39 : Nat) "PlaneFacesModel" "numbers" "[I") ∈ lw_all := lw_g (lw_at lw_m5 63 rfl) rfl
theorem q1080 : (Jvm.Cond.fieldLink "PlaneFacesModel" (42 : Nat) "PlaneFacesModel" "steps" "[I") ∈ lw_all := lw_g (lw_at lw_m5 64 rfl) rfl
theorem q1081 : (Jvm.Cond.lays "PlaneFacesModel" "PlaneFacesModel" "refusal" "I") ∈ lw_all := lw_g (lw_at lw_m5 65 rfl) rfl
theorem q1082 : (Jvm.Cond.soleField "PlaneFacesModel" "refusal") ∈ lw_all := lw_g (lw_at lw_m5 66 rfl) rfl
theorem q1083 : (Jvm.Cond.laysFinal "PlaneFacesModel" "PlaneFacesModel" "isThere" "[Z") ∈ lw_all := lw_g (lw_at lw_m5 67 rfl) rfl
theorem q1084 : (Jvm.Cond.soleField "PlaneFacesModel" "isThere") ∈ lw_all := lw_g (lw_at lw_m5 68 rfl) rfl
theorem q1085 : (Jvm.Cond.laysFinal "PlaneFacesModel" "PlaneFacesModel" "xs" "[I") ∈ lw_all := lw_g (lw_at lw_m5 69 rfl) rfl
theorem q1086 : (Jvm.Cond.soleField "PlaneFacesModel" "xs") ∈ lw_all := lw_g (lw_at lw_m5 70 rfl) rfl
theorem q1087 : (Jvm.Cond.laysFinal "PlaneFacesModel" "PlaneFacesModel" "ys" "[I") ∈ lw_all := lw_g (lw_at lw_m5 71 rfl) rfl
theorem q1088 : (Jvm.Cond.soleField "PlaneFacesModel" "ys") ∈ lw_all := lw_g (lw_at lw_m5 72 rfl) rfl
theorem q1089 : (Jvm.Cond.lays "PlaneFacesModel" "PlaneFacesModel" "isCurrent" "Z") ∈ lw_all := lw_g (lw_at lw_m5 73 rfl) rfl
theorem q1090 : (Jvm.Cond.soleField "PlaneFacesModel" "isCurrent") ∈ lw_all := lw_g (lw_at lw_m5 74 rfl) rfl
theorem q1091 : (Jvm.Cond.laysFinal "PlaneFacesModel" "PlaneFacesModel" "nexts" "[I") ∈ lw_all := lw_g (lw_at lw_m5 75 rfl) rfl
theorem q1092 : (Jvm.Cond.soleField "PlaneFacesModel" "nexts") ∈ lw_all := lw_g (lw_at lw_m5 76 rfl) rfl
theorem q1093 : (Jvm.Cond.laysFinal "PlaneFacesModel" "PlaneFacesModel" "pieceOf" "[I") ∈ lw_all := lw_g (lw_at lw_m5 77 rfl) rfl
theorem q1094 : (Jvm.Cond.soleField "PlaneFacesModel" "pieceOf") ∈ lw_all := lw_g (lw_at lw_m5 78 rfl) rfl
theorem q1095 : (Jvm.Cond.lays "PlaneFacesModel" "PlaneFacesModel" "pieces" "I") ∈ lw_all := lw_g (lw_at lw_m5 79 rfl) rfl
theorem q1096 : (Jvm.Cond.soleField "PlaneFacesModel" "pieces") ∈ lw_all := lw_g (lw_at lw_m5 80 rfl) rfl
theorem q1097 : (Jvm.Cond.lays "PlaneFacesModel" "PlaneFacesModel" "rounds" "I") ∈ lw_all := lw_g (lw_at lw_m5 81 rfl) rfl
theorem q1098 : (Jvm.Cond.soleField "PlaneFacesModel" "rounds") ∈ lw_all := lw_g (lw_at lw_m5 82 rfl) rfl
theorem q1099 : (Jvm.Cond.laysFinal "PlaneFacesModel" "PlaneFacesModel" "roundOf" "[I") ∈ lw_all := lw_g (lw_at lw_m5 83 rfl) rfl
theorem q1100 : (Jvm.Cond.soleField "PlaneFacesModel" "roundOf") ∈ lw_all := lw_g (lw_at lw_m5 84 rfl) rfl
theorem q1101 : (Jvm.Cond.laysFinal "PlaneFacesModel" "PlaneFacesModel" "firsts" "[I") ∈ lw_all := lw_g (lw_at lw_m5 85 rfl) rfl
theorem q1102 : (Jvm.Cond.soleField "PlaneFacesModel" "firsts") ∈ lw_all := lw_g (lw_at lw_m5 86 rfl) rfl
theorem q1103 : (Jvm.Cond.laysFinal "PlaneFacesModel" "PlaneFacesModel" "areas" "[J") ∈ lw_all := lw_g (lw_at lw_m5 87 rfl) rfl
theorem q1104 : (Jvm.Cond.soleField "PlaneFacesModel" "areas") ∈ lw_all := lw_g (lw_at lw_m5 88 rfl) rfl
theorem q1105 : (Jvm.Cond.lays "PlaneFacesModel" "PlaneFacesModel" "faces" "I") ∈ lw_all := lw_g (lw_at lw_m5 89 rfl) rfl
theorem q1106 : (Jvm.Cond.soleField "PlaneFacesModel" "faces") ∈ lw_all := lw_g (lw_at lw_m5 90 rfl) rfl
theorem q1107 : (Jvm.Cond.laysFinal "PlaneFacesModel" "PlaneFacesModel" "faceOf" "[I") ∈ lw_all := lw_g (lw_at lw_m5 91 rfl) rfl
theorem q1108 : (Jvm.Cond.soleField "PlaneFacesModel" "faceOf") ∈ lw_all := lw_g (lw_at lw_m5 92 rfl) rfl
theorem q1109 : (Jvm.Cond.laysFinal "PlaneFacesModel" "PlaneFacesModel" "numbers" "[I") ∈ lw_all := lw_g (lw_at lw_m5 93 rfl) rfl
theorem q1110 : (Jvm.Cond.soleField "PlaneFacesModel" "numbers") ∈ lw_all := lw_g (lw_at lw_m5 94 rfl) rfl
theorem q1111 : (Jvm.Cond.laysFinal "PlaneFacesModel" "PlaneFacesModel" "steps" "[I") ∈ lw_all := lw_g (lw_at lw_m5 95 rfl) rfl
theorem q1112 : (Jvm.Cond.soleField "PlaneFacesModel" "steps") ∈ lw_all := lw_g (lw_at lw_m5 96 rfl) rfl
theorem q1113 : (Jvm.Cond.superclass "PlaneFacesModel" "java/lang/Object") ∈ lw_all := lw_g (lw_at lw_m5 97 rfl) rfl
theorem q1116 : (Jvm.Cond.instanceMethod ({ cls := "PlaneFacesModel", name := "thrown", desc := "()I" } : Jvm.MethodName)) ∈ lw_all := lw_g (lw_at lw_m5 100 rfl) rfl
theorem q1117 : (Jvm.Cond.selects "PlaneFacesModel" ({ cls := "PlaneFacesModel", name := "thrown", desc := "()I" } : Jvm.MethodName) ({ cls := "PlaneFacesModel", name := "thrown", desc := "()I" } : Jvm.MethodName)) ∈ lw_all := lw_g (lw_at lw_m5 101 rfl) rfl
theorem q1118 : (Jvm.Cond.code ({ cls := "PlaneFacesModel", name := "thrown", desc := "()I" } : Jvm.MethodName) prog_8_method_2_code (1 : Nat) (Option.some Jvm.ClassFile.FieldType.int)) ∈ lw_all := lw_g (lw_at lw_m5 102 rfl) rfl
theorem q1120 : (Jvm.Cond.instanceMethod ({ cls := "PlaneFacesModel", name := "add", desc := "(IIII)I" } : Jvm.MethodName)) ∈ lw_all := lw_g (lw_at lw_m5 104 rfl) rfl
theorem q1121 : (Jvm.Cond.selects "PlaneFacesModel" ({ cls := "PlaneFacesModel", name := "add", desc := "(IIII)I" } : Jvm.MethodName) ({ cls := "PlaneFacesModel", name := "add", desc := "(IIII)I" } : Jvm.MethodName)) ∈ lw_all := lw_g (lw_at lw_m5 105 rfl) rfl
theorem q1122 : (Jvm.Cond.code ({ cls := "PlaneFacesModel", name := "add", desc := "(IIII)I" } : Jvm.MethodName) prog_8_method_10_code (8 : Nat) (Option.some Jvm.ClassFile.FieldType.int)) ∈ lw_all := lw_g (lw_at lw_m5 106 rfl) rfl
theorem q1123 : (Jvm.Cond.methodLink "PlaneFacesModel" (65 : Nat) ({ cls := "PlaneFacesModel", name := "isIn", desc := "(I)Z" } : Jvm.MethodName)) ∈ lw_all := lw_g (lw_at lw_m5 107 rfl) rfl
theorem q1124 : (Jvm.Cond.static ({ cls := "PlaneFacesModel", name := "isIn", desc := "(I)Z" } : Jvm.MethodName)) ∈ lw_all := lw_g (lw_at lw_m5 108 rfl) rfl
theorem q1125 : (Jvm.Cond.code ({ cls := "PlaneFacesModel", name := "isIn", desc := "(I)Z" } : Jvm.MethodName) prog_8_method_4_code (1 : Nat) (Option.some Jvm.ClassFile.FieldType.boolean)) ∈ lw_all := lw_g (lw_at lw_m5 109 rfl) rfl
theorem q1126 : (Jvm.Cond.methodLink "PlaneFacesModel" (69 : Nat) ({ cls := "PlaneFacesModel", name := "refused", desc := "(I)Z" } : Jvm.MethodName)) ∈ lw_all := lw_g (lw_at lw_m5 110 rfl) rfl
theorem q1127 : (Jvm.Cond.privateMethod ({ cls := "PlaneFacesModel", name := "refused", desc := "(I)Z" } : Jvm.MethodName)) ∈ lw_tbl := lw_at lw_m5 111 rfl
theorem q1128 : (Jvm.Cond.instanceMethod ({ cls := "PlaneFacesModel", name := "refused", desc := "(I)Z" } : Jvm.MethodName)) ∈ lw_all := lw_g (lw_at lw_m5 112 rfl) rfl
theorem q1129 : (Jvm.Cond.code ({ cls := "PlaneFacesModel", name := "refused", desc := "(I)Z" } : Jvm.MethodName) prog_8_method_3_code (2 : Nat) (Option.some Jvm.ClassFile.FieldType.boolean)) ∈ lw_all := lw_g (lw_at lw_m5 113 rfl) rfl
theorem q1130 : (Jvm.Cond.methodLink "PlaneFacesModel" (72 : Nat) ({ cls := "PlaneFacesModel", name := "meets", desc := "(IIIII)Z" } : Jvm.MethodName)) ∈ lw_all := lw_g (lw_at lw_m5 114 rfl) rfl
theorem q1131 : (Jvm.Cond.privateMethod ({ cls := "PlaneFacesModel", name := "meets", desc := "(IIIII)Z" } : Jvm.MethodName)) ∈ lw_tbl := lw_at lw_m5 115 rfl
theorem q1132 : (Jvm.Cond.instanceMethod ({ cls := "PlaneFacesModel", name := "meets", desc := "(IIIII)Z" } : Jvm.MethodName)) ∈ lw_all := lw_g (lw_at lw_m5 116 rfl) rfl
theorem q1133 : (Jvm.Cond.code ({ cls := "PlaneFacesModel", name := "meets", desc := "(IIIII)Z" } : Jvm.MethodName) prog_8_method_9_code (10 : Nat) (Option.some Jvm.ClassFile.FieldType.boolean)) ∈ lw_all := lw_g (lw_at lw_m5 117 rfl) rfl
theorem q1134 : (Jvm.Cond.methodLink "PlaneFacesModel" (57 : Nat) ({ cls := "PlaneFacesModel", name := "isEnd", desc := "(III)Z" } : Jvm.MethodName)) ∈ lw_all := lw_g (lw_at lw_m5 118 rfl) rfl
theorem q1135 : (Jvm.Cond.privateMethod ({ cls := "PlaneFacesModel", name := "isEnd", desc := "(III)Z" } : Jvm.MethodName)) ∈ lw_tbl := lw_at lw_m5 119 rfl
theorem q1136 : (Jvm.Cond.instanceMethod ({ cls := "PlaneFacesModel", name := "isEnd", desc := "(III)Z" } : Jvm.MethodName)) ∈ lw_all := lw_g (lw_at lw_m5 120 rfl) rfl
theorem q1137 : (Jvm.Cond.code ({ cls := "PlaneFacesModel", name := "isEnd", desc := "(III)Z" } : Jvm.MethodName) prog_8_method_8_code (4 : Nat) (Option.some Jvm.ClassFile.FieldType.boolean)) ∈ lw_all := lw_g (lw_at lw_m5 121 rfl) rfl
theorem q1138 : (Jvm.Cond.methodLink "PlaneFacesModel" (61 : Nat) ({ cls := "PlaneFacesModel", name := "isOn", desc := "(IIIIII)Z" } : Jvm.MethodName)) ∈ lw_all := lw_g (lw_at lw_m5 122 rfl) rfl
theorem q1139 : (Jvm.Cond.static ({ cls := "PlaneFacesModel", name := "isOn", desc := "(IIIIII)Z" } : Jvm.MethodName)) ∈ lw_all := lw_g (lw_at lw_m5 123 rfl) rfl
theorem q1140 : (Jvm.Cond.code ({ cls := "PlaneFacesModel", name := "isOn", desc := "(IIIIII)Z" } : Jvm.MethodName) prog_8_method_7_code (9 : Nat) (Option.some Jvm.ClassFile.FieldType.boolean)) ∈ lw_all := lw_g (lw_at lw_m5 124 rfl) rfl
theorem q1141 : (Jvm.Cond.methodLink "PlaneFacesModel" (53 : Nat) ({ cls := "PlaneFacesModel", name := "side", desc := "(IIIIII)I" } : Jvm.MethodName)) ∈ lw_all := lw_g (lw_at lw_m5 125 rfl) rfl
theorem q1142 : (Jvm.Cond.static ({ cls := "PlaneFacesModel", name := "side", desc := "(IIIIII)I" } : Jvm.MethodName)) ∈ lw_all := lw_g (lw_at lw_m5 126 rfl) rfl
theorem q1143 : (Jvm.Cond.code ({ cls := "PlaneFacesModel", name := "side", desc := "(IIIIII)I" } : Jvm.MethodName) prog_8_method_6_code (6 : Nat) (Option.some Jvm.ClassFile.FieldType.int)) ∈ lw_all := lw_g (lw_at lw_m5 127 rfl) rfl
theorem q1144 : (Jvm.Cond.methodLink "PlaneFacesModel" (49 : Nat) ({ cls := "PlaneFacesModel", name := "sign", desc := "(J)I" } : Jvm.MethodName)) ∈ lw_all := lw_g (lw_at lw_m5 128 rfl) rfl
theorem q1145 : (Jvm.Cond.static ({ cls := "PlaneFacesModel", name := "sign", desc := "(J)I" } : Jvm.MethodName)) ∈ lw_all := lw_g (lw_at lw_m5 129 rfl) rfl
theorem q1146 : (Jvm.Cond.code ({ cls := "PlaneFacesModel", name := "sign", desc := "(J)I" } : Jvm.MethodName) prog_8_method_5_code (2 : Nat) (Option.some Jvm.ClassFile.FieldType.int)) ∈ lw_all := lw_g (lw_at lw_m5 130 rfl) rfl
theorem q1148 : (Jvm.Cond.instanceMethod ({ cls := "PlaneFacesModel", name := "remove", desc := "(I)Z" } : Jvm.MethodName)) ∈ lw_all := lw_g (lw_at lw_m5 132 rfl) rfl
theorem q1149 : (Jvm.Cond.selects "PlaneFacesModel" ({ cls := "PlaneFacesModel", name := "remove", desc := "(I)Z" } : Jvm.MethodName) ({ cls := "PlaneFacesModel", name := "remove", desc := "(I)Z" } : Jvm.MethodName)) ∈ lw_all := lw_g (lw_at lw_m5 133 rfl) rfl
theorem q1150 : (Jvm.Cond.code ({ cls := "PlaneFacesModel", name := "remove", desc := "(I)Z" } : Jvm.MethodName) prog_8_method_11_code (3 : Nat) (Option.some Jvm.ClassFile.FieldType.boolean)) ∈ lw_all := lw_g (lw_at lw_m5 134 rfl) rfl
theorem q1152 : (Jvm.Cond.instanceMethod ({ cls := "PlaneFacesModel", name := "clear", desc := "()I" } : Jvm.MethodName)) ∈ lw_all := lw_g (lw_at lw_m5 136 rfl) rfl
theorem q1153 : (Jvm.Cond.selects "PlaneFacesModel" ({ cls := "PlaneFacesModel", name := "clear", desc := "()I" } : Jvm.MethodName) ({ cls := "PlaneFacesModel", name := "clear", desc := "()I" } : Jvm.MethodName)) ∈ lw_all := lw_g (lw_at lw_m5 137 rfl) rfl
theorem q1154 : (Jvm.Cond.code ({ cls := "PlaneFacesModel", name := "clear", desc := "()I" } : Jvm.MethodName) prog_8_method_12_code (3 : Nat) (Option.some Jvm.ClassFile.FieldType.int)) ∈ lw_all := lw_g (lw_at lw_m5 138 rfl) rfl
theorem q1156 : (Jvm.Cond.instanceMethod ({ cls := "PlaneFacesModel", name := "count", desc := "(I)I" } : Jvm.MethodName)) ∈ lw_all := lw_g (lw_at lw_m5 140 rfl) rfl
theorem q1157 : (Jvm.Cond.selects "PlaneFacesModel" ({ cls := "PlaneFacesModel", name := "count", desc := "(I)I" } : Jvm.MethodName) ({ cls := "PlaneFacesModel", name := "count", desc := "(I)I" } : Jvm.MethodName)) ∈ lw_all := lw_g (lw_at lw_m5 141 rfl) rfl
theorem q1158 : (Jvm.Cond.code ({ cls := "PlaneFacesModel", name := "count", desc := "(I)I" } : Jvm.MethodName) prog_8_method_26_code (6 : Nat) (Option.some Jvm.ClassFile.FieldType.int)) ∈ lw_all := lw_g (lw_at lw_m5 142 rfl) rfl
theorem q1159 : (Jvm.Cond.methodLink "PlaneFacesModel" (125 : Nat) ({ cls := "PlaneFacesModel", name := "make", desc := "()V" } : Jvm.MethodName)) ∈ lw_all := lw_g (lw_at lw_m5 143 rfl) rfl
theorem q1160 : (Jvm.Cond.privateMethod ({ cls := "PlaneFacesModel", name := "make", desc := "()V" } : Jvm.MethodName)) ∈ lw_tbl := lw_at lw_m5 144 rfl
theorem q1161 : (Jvm.Cond.instanceMethod ({ cls := "PlaneFacesModel", name := "make", desc := "()V" } : Jvm.MethodName)) ∈ lw_all := lw_g (lw_at lw_m5 145 rfl) rfl
theorem q1162 : (Jvm.Cond.code ({ cls := "PlaneFacesModel", name := "make", desc := "()V" } : Jvm.MethodName) prog_8_method_23_code (2 : Nat) (Option.none : Option Jvm.ClassFile.FieldType)) ∈ lw_all := lw_g (lw_at lw_m5 146 rfl) rfl
theorem q1163 : (Jvm.Cond.methodLink "PlaneFacesModel" (104 : Nat) ({ cls := "PlaneFacesModel", name := "nextOf", desc := "(I)I" } : Jvm.MethodName)) ∈ lw_all := lw_g (lw_at lw_m5 147 rfl) rfl
theorem q1164 : (Jvm.Cond.privateMethod ({ cls := "PlaneFacesModel", name := "nextOf", desc := "(I)I" } : Jvm.MethodName)) ∈ lw_tbl := lw_at lw_m5 148 rfl
theorem q1165 : (Jvm.Cond.instanceMethod ({ cls := "PlaneFacesModel", name := "nextOf", desc := "(I)I" } : Jvm.MethodName)) ∈ lw_all := lw_g (lw_at lw_m5 149 rfl) rfl
theorem q1166 : (Jvm.Cond.code ({ cls := "PlaneFacesModel", name := "nextOf", desc := "(I)I" } : Jvm.MethodName) prog_8_method_18_code (6 : Nat) (Option.some Jvm.ClassFile.FieldType.int)) ∈ lw_all := lw_g (lw_at lw_m5 150 rfl) rfl
theorem q1167 : (Jvm.Cond.methodLink "PlaneFacesModel" (80 : Nat) ({ cls := "PlaneFacesModel", name := "back", desc := "(I)I" } : Jvm.MethodName)) ∈ lw_all := lw_g (lw_at lw_m5 151 rfl) rfl
theorem q1168 : (Jvm.Cond.static ({ cls := "PlaneFacesModel", name := "back", desc := "(I)I" } : Jvm.MethodName)) ∈ lw_all := lw_g (lw_at lw_m5 152 rfl) rfl
theorem q1169 : (Jvm.Cond.code ({ cls := "PlaneFacesModel", name := "back", desc := "(I)I" } : Jvm.MethodName) prog_8_method_14_code (1 : Nat) (Option.some Jvm.ClassFile.FieldType.int)) ∈ lw_all := lw_g (lw_at lw_m5 153 rfl) rfl
theorem q1170 : (Jvm.Cond.methodLink "PlaneFacesModel" (88 : Nat) ({ cls := "PlaneFacesModel", name := "leaves", desc := "(III)Z" } : Jvm.MethodName)) ∈ lw_all := lw_g (lw_at lw_m5 154 rfl) rfl
theorem q1171 : (Jvm.Cond.privateMethod ({ cls := "PlaneFacesModel", name := "leaves", desc := "(III)Z" } : Jvm.MethodName)) ∈ lw_tbl := lw_at lw_m5 155 rfl
theorem q1172 : (Jvm.Cond.instanceMethod ({ cls := "PlaneFacesModel", name := "leaves", desc := "(III)Z" } : Jvm.MethodName)) ∈ lw_all := lw_g (lw_at lw_m5 156 rfl) rfl
theorem q1173 : (Jvm.Cond.code ({ cls := "PlaneFacesModel", name := "leaves", desc := "(III)Z" } : Jvm.MethodName) prog_8_method_15_code (4 : Nat) (Option.some Jvm.ClassFile.FieldType.boolean)) ∈ lw_all := lw_g (lw_at lw_m5 157 rfl) rfl
theorem q1174 : (Jvm.Cond.methodLink "PlaneFacesModel" (91 : Nat) ({ cls := "PlaneFacesModel", name := "turned", desc := "(II)I" } : Jvm.MethodName)) ∈ lw_all := lw_g (lw_at lw_m5 158 rfl) rfl
theorem q1175 : (Jvm.Cond.privateMethod ({ cls := "PlaneFacesModel", name := "turned", desc := "(II)I" } : Jvm.MethodName)) ∈ lw_tbl := lw_at lw_m5 159 rfl
theorem q1176 : (Jvm.Cond.instanceMethod ({ cls := "PlaneFacesModel", name := "turned", desc := "(II)I" } : Jvm.MethodName)) ∈ lw_all := lw_g (lw_at lw_m5 160 rfl) rfl
theorem q1177 : (Jvm.Cond.code ({ cls := "PlaneFacesModel", name := "turned", desc := "(II)I" } : Jvm.MethodName) prog_8_method_17_code (5 : Nat) (Option.some Jvm.ClassFile.FieldType.int)) ∈ lw_all := lw_g (lw_at lw_m5 161 rfl) rfl
theorem q1178 : (Jvm.Cond.methodLink "PlaneFacesModel" (84 : Nat) ({ cls := "PlaneFacesModel", name := "crossOf", desc := "(II)J" } : Jvm.MethodName)) ∈ lw_all := lw_g (lw_at lw_m5 162 rfl) rfl
theorem q1179 : (Jvm.Cond.privateMethod ({ cls := "PlaneFacesModel", name := "crossOf", desc := "(II)J" } : Jvm.MethodName)) ∈ lw_tbl := lw_at lw_m5 163 rfl
theorem q1180 : (Jvm.Cond.instanceMethod ({ cls := "PlaneFacesModel", name := "crossOf", desc := "(II)J" } : Jvm.MethodName)) ∈ lw_all := lw_g (lw_at lw_m5 164 rfl) rfl
theorem q1181 : (Jvm.Cond.code ({ cls := "PlaneFacesModel", name := "crossOf", desc := "(II)J" } : Jvm.MethodName) prog_8_method_16_code (11 : Nat) (Option.some Jvm.ClassFile.FieldType.long)) ∈ lw_all := lw_g (lw_at lw_m5 165 rfl) rfl
theorem q1182 : (Jvm.Cond.methodLink "PlaneFacesModel" (107 : Nat) ({ cls := "PlaneFacesModel", name := "spreadPiece", desc := "(II)V" } : Jvm.MethodName)) ∈ lw_all := lw_g (lw_at lw_m5 166 rfl) rfl
theorem q1183 : (Jvm.Cond.privateMethod ({ cls := "PlaneFacesModel", name := "spreadPiece", desc := "(II)V" } : Jvm.MethodName)) ∈ lw_tbl := lw_at lw_m5 167 rfl
theorem q1184 : (Jvm.Cond.instanceMethod ({ cls := "PlaneFacesModel", name := "spreadPiece", desc := "(II)V" } : Jvm.MethodName)) ∈ lw_all := lw_g (lw_at lw_m5 168 rfl) rfl
theorem q1185 : (Jvm.Cond.code ({ cls := "PlaneFacesModel", name := "spreadPiece", desc := "(II)V" } : Jvm.MethodName) prog_8_method_19_code (7 : Nat) (Option.none : Option Jvm.ClassFile.FieldType)) ∈ lw_all := lw_g (lw_at lw_m5 169 rfl) rfl
theorem q1186 : (Jvm.Cond.methodLink "PlaneFacesModel" (111 : Nat) ({ cls := "PlaneFacesModel", name := "makeRound", desc := "(I)V" } : Jvm.MethodName)) ∈ lw_all := lw_g (lw_at lw_m5 170 rfl) rfl
theorem q1187 : (Jvm.Cond.privateMethod ({ cls := "PlaneFacesModel", name := "makeRound", desc := "(I)V" } : Jvm.MethodName)) ∈ lw_tbl := lw_at lw_m5 171 rfl
theorem q1188 : (Jvm.Cond.instanceMethod ({ cls := "PlaneFacesModel", name := "makeRound", desc := "(I)V" } : Jvm.MethodName)) ∈ lw_all := lw_g (lw_at lw_m5 172 rfl) rfl
theorem q1189 : (Jvm.Cond.code ({ cls := "PlaneFacesModel", name := "makeRound", desc := "(I)V" } : Jvm.MethodName) prog_8_method_20_code (4 : Nat) (Option.none : Option Jvm.ClassFile.FieldType)) ∈ lw_all := lw_g (lw_at lw_m5 173 rfl) rfl
theorem q1190 : (Jvm.Cond.methodLink "PlaneFacesModel" (115 : Nat) ({ cls := "PlaneFacesModel", name := "number", desc := "()V" } : Jvm.MethodName)) ∈ lw_all := lw_g (lw_at lw_m5 174 rfl) rfl
theorem q1191 : (Jvm.Cond.privateMethod ({ cls := "PlaneFacesModel", name := "number", desc := "()V" } : Jvm.MethodName)) ∈ lw_tbl := lw_at lw_m5 175 rfl
theorem q1192 : (Jvm.Cond.instanceMethod ({ cls := "PlaneFacesModel", name := "number", desc := "()V" } : Jvm.MethodName)) ∈ lw_all := lw_g (lw_at lw_m5 176 rfl) rfl
theorem q1193 : (Jvm.Cond.code ({ cls := "PlaneFacesModel", name := "number", desc := "()V" } : Jvm.MethodName) prog_8_method_24_code (4 : Nat) (Option.none : Option Jvm.ClassFile.FieldType)) ∈ lw_all := lw_g (lw_at lw_m5 177 rfl) rfl
theorem q1194 : (Jvm.Cond.methodLink "PlaneFacesModel" (121 : Nat) ({ cls := "PlaneFacesModel", name := "least", desc := "(III)I" } : Jvm.MethodName)) ∈ lw_all := lw_g (lw_at lw_m5 178 rfl) rfl
theorem q1195 : (Jvm.Cond.privateMethod ({ cls := "PlaneFacesModel", name := "least", desc := "(III)I" } : Jvm.MethodName)) ∈ lw_tbl := lw_at lw_m5 179 rfl
theorem q1196 : (Jvm.Cond.instanceMethod ({ cls := "PlaneFacesModel", name := "least", desc := "(III)I" } : Jvm.MethodName)) ∈ lw_all := lw_g (lw_at lw_m5 180 rfl) rfl
theorem q1197 : (Jvm.Cond.code ({ cls := "PlaneFacesModel", name := "least", desc := "(III)I" } : Jvm.MethodName) prog_8_method_22_code (7 : Nat) (Option.some Jvm.ClassFile.FieldType.int)) ∈ lw_all := lw_g (lw_at lw_m5 181 rfl) rfl
theorem q1198 : (Jvm.Cond.methodLink "PlaneFacesModel" (98 : Nat) ({ cls := "PlaneFacesModel", name := "isWithin", desc := "(III)Z" } : Jvm.MethodName)) ∈ lw_all := lw_g (lw_at lw_m5 182 rfl) rfl
theorem q1199 : (Jvm.Cond.privateMethod ({ cls := "PlaneFacesModel", name := "isWithin", desc := "(III)Z" } : Jvm.MethodName)) ∈ lw_tbl := lw_at lw_m5 183 rfl
theorem q1200 : (Jvm.Cond.instanceMethod ({ cls := "PlaneFacesModel", name := "isWithin", desc := "(III)Z" } : Jvm.MethodName)) ∈ lw_all := lw_g (lw_at lw_m5 184 rfl) rfl
theorem q1201 : (Jvm.Cond.code ({ cls := "PlaneFacesModel", name := "isWithin", desc := "(III)Z" } : Jvm.MethodName) prog_8_method_21_code (9 : Nat) (Option.some Jvm.ClassFile.FieldType.boolean)) ∈ lw_all := lw_g (lw_at lw_m5 185 rfl) rfl
theorem q1202 : (Jvm.Cond.methodLink "PlaneFacesModel" (128 : Nat) ({ cls := "PlaneFacesModel", name := "left", desc := "(I)I" } : Jvm.MethodName)) ∈ lw_all := lw_g (lw_at lw_m5 186 rfl) rfl
theorem q1203 : (Jvm.Cond.privateMethod ({ cls := "PlaneFacesModel", name := "left", desc := "(I)I" } : Jvm.MethodName)) ∈ lw_tbl := lw_at lw_m5 187 rfl
theorem q1204 : (Jvm.Cond.instanceMethod ({ cls := "PlaneFacesModel", name := "left", desc := "(I)I" } : Jvm.MethodName)) ∈ lw_all := lw_g (lw_at lw_m5 188 rfl) rfl
theorem q1205 : (Jvm.Cond.code ({ cls := "PlaneFacesModel", name := "left", desc := "(I)I" } : Jvm.MethodName) prog_8_method_25_code (2 : Nat) (Option.some Jvm.ClassFile.FieldType.int)) ∈ lw_all := lw_g (lw_at lw_m5 189 rfl) rfl
theorem q1207 : (Jvm.Cond.instanceMethod ({ cls := "PlaneFacesModel", name := "begins", desc := "(IZ)I" } : Jvm.MethodName)) ∈ lw_all := lw_g (lw_at lw_m5 191 rfl) rfl
theorem q1208 : (Jvm.Cond.selects "PlaneFacesModel" ({ cls := "PlaneFacesModel", name := "begins", desc := "(IZ)I" } : Jvm.MethodName) ({ cls := "PlaneFacesModel", name := "begins", desc := "(IZ)I" } : Jvm.MethodName)) ∈ lw_all := lw_g (lw_at lw_m5 192 rfl) rfl
theorem q1209 : (Jvm.Cond.code ({ cls := "PlaneFacesModel", name := "begins", desc := "(IZ)I" } : Jvm.MethodName) prog_8_method_27_code (3 : Nat) (Option.some Jvm.ClassFile.FieldType.int)) ∈ lw_all := lw_g (lw_at lw_m5 193 rfl) rfl
theorem q1210 : (Jvm.Cond.methodLink "PlaneFacesModel" (131 : Nat) ({ cls := "PlaneFacesModel", name := "isHalf", desc := "(I)Z" } : Jvm.MethodName)) ∈ lw_all := lw_g (lw_at lw_m5 194 rfl) rfl
theorem q1211 : (Jvm.Cond.privateMethod ({ cls := "PlaneFacesModel", name := "isHalf", desc := "(I)Z" } : Jvm.MethodName)) ∈ lw_tbl := lw_at lw_m5 195 rfl
theorem q1212 : (Jvm.Cond.instanceMethod ({ cls := "PlaneFacesModel", name := "isHalf", desc := "(I)Z" } : Jvm.MethodName)) ∈ lw_all := lw_g (lw_at lw_m5 196 rfl) rfl
theorem q1213 : (Jvm.Cond.code ({ cls := "PlaneFacesModel", name := "isHalf", desc := "(I)Z" } : Jvm.MethodName) prog_8_method_13_code (2 : Nat) (Option.some Jvm.ClassFile.FieldType.boolean)) ∈ lw_all := lw_g (lw_at lw_m5 197 rfl) rfl
theorem q1215 : (Jvm.Cond.instanceMethod ({ cls := "PlaneFacesModel", name := "next", desc := "(I)I" } : Jvm.MethodName)) ∈ lw_all := lw_g (lw_at lw_m5 199 rfl) rfl
theorem q1216 : (Jvm.Cond.selects "PlaneFacesModel" ({ cls := "PlaneFacesModel", name := "next", desc := "(I)I" } : Jvm.MethodName) ({ cls := "PlaneFacesModel", name := "next", desc := "(I)I" } : Jvm.MethodName)) ∈ lw_all := lw_g (lw_at lw_m5 200 rfl) rfl
theorem q1217 : (Jvm.Cond.code ({ cls := "PlaneFacesModel", name := "next", desc := "(I)I" } : Jvm.MethodName) prog_8_method_28_code (2 : Nat) (Option.some Jvm.ClassFile.FieldType.int)) ∈ lw_all := lw_g (lw_at lw_m5 201 rfl) rfl
theorem q1219 : (Jvm.Cond.instanceMethod ({ cls := "PlaneFacesModel", name := "face", desc := "(I)I" } : Jvm.MethodName)) ∈ lw_all := lw_g (lw_at lw_m5 203 rfl) rfl
theorem q1220 : (Jvm.Cond.selects "PlaneFacesModel" ({ cls := "PlaneFacesModel", name := "face", desc := "(I)I" } : Jvm.MethodName) ({ cls := "PlaneFacesModel", name := "face", desc := "(I)I" } : Jvm.MethodName)) ∈ lw_all := lw_g (lw_at lw_m5 204 rfl) rfl
theorem q1221 : (Jvm.Cond.code ({ cls := "PlaneFacesModel", name := "face", desc := "(I)I" } : Jvm.MethodName) prog_8_method_29_code (2 : Nat) (Option.some Jvm.ClassFile.FieldType.int)) ∈ lw_all := lw_g (lw_at lw_m5 205 rfl) rfl
theorem q1223 : (Jvm.Cond.instanceMethod ({ cls := "PlaneFacesModel", name := "piece", desc := "(I)I" } : Jvm.MethodName)) ∈ lw_all := lw_g (lw_at lw_m5 207 rfl) rfl
theorem q1224 : (Jvm.Cond.selects "PlaneFacesModel" ({ cls := "PlaneFacesModel", name := "piece", desc := "(I)I" } : Jvm.MethodName) ({ cls := "PlaneFacesModel", name := "piece", desc := "(I)I" } : Jvm.MethodName)) ∈ lw_all := lw_g (lw_at lw_m5 208 rfl) rfl
theorem q1225 : (Jvm.Cond.code ({ cls := "PlaneFacesModel", name := "piece", desc := "(I)I" } : Jvm.MethodName) prog_8_method_30_code (2 : Nat) (Option.some Jvm.ClassFile.FieldType.int)) ∈ lw_all := lw_g (lw_at lw_m5 209 rfl) rfl
theorem q1227 : (Jvm.Cond.instanceMethod ({ cls := "PlaneFacesModel", name := "around", desc := "(I)I" } : Jvm.MethodName)) ∈ lw_all := lw_g (lw_at lw_m5 211 rfl) rfl
theorem q1228 : (Jvm.Cond.selects "PlaneFacesModel" ({ cls := "PlaneFacesModel", name := "around", desc := "(I)I" } : Jvm.MethodName) ({ cls := "PlaneFacesModel", name := "around", desc := "(I)I" } : Jvm.MethodName)) ∈ lw_all := lw_g (lw_at lw_m5 212 rfl) rfl
theorem q1229 : (Jvm.Cond.code ({ cls := "PlaneFacesModel", name := "around", desc := "(I)I" } : Jvm.MethodName) prog_8_method_32_code (2 : Nat) (Option.some Jvm.ClassFile.FieldType.int)) ∈ lw_all := lw_g (lw_at lw_m5 213 rfl) rfl
theorem q1230 : (Jvm.Cond.methodLink "PlaneFacesModel" (134 : Nat) ({ cls := "PlaneFacesModel", name := "outer", desc := "(I)I" } : Jvm.MethodName)) ∈ lw_all := lw_g (lw_at lw_m5 214 rfl) rfl
theorem q1231 : (Jvm.Cond.privateMethod ({ cls := "PlaneFacesModel", name := "outer", desc := "(I)I" } : Jvm.MethodName)) ∈ lw_tbl := lw_at lw_m5 215 rfl
theorem q1232 : (Jvm.Cond.instanceMethod ({ cls := "PlaneFacesModel", name := "outer", desc := "(I)I" } : Jvm.MethodName)) ∈ lw_all := lw_g (lw_at lw_m5 216 rfl) rfl
theorem q1233 : (Jvm.Cond.code ({ cls := "PlaneFacesModel", name := "outer", desc := "(I)I" } : Jvm.MethodName) prog_8_method_31_code (4 : Nat) (Option.some Jvm.ClassFile.FieldType.int)) ∈ lw_all := lw_g (lw_at lw_m5 217 rfl) rfl
theorem q1235 : (Jvm.Cond.instanceMethod ({ cls := "PlaneFacesModel", name := "area", desc := "(I)I" } : Jvm.MethodName)) ∈ lw_all := lw_g (lw_at lw_m5 219 rfl) rfl
theorem q1236 : (Jvm.Cond.selects "PlaneFacesModel" ({ cls := "PlaneFacesModel", name := "area", desc := "(I)I" } : Jvm.MethodName) ({ cls := "PlaneFacesModel", name := "area", desc := "(I)I" } : Jvm.MethodName)) ∈ lw_all := lw_g (lw_at lw_m5 220 rfl) rfl
theorem q1237 : (Jvm.Cond.code ({ cls := "PlaneFacesModel", name := "area", desc := "(I)I" } : Jvm.MethodName) prog_8_method_34_code (5 : Nat) (Option.some Jvm.ClassFile.FieldType.int)) ∈ lw_all := lw_g (lw_at lw_m5 221 rfl) rfl
theorem q1238 : (Jvm.Cond.methodLink "PlaneFacesModel" (137 : Nat) ({ cls := "PlaneFacesModel", name := "isFace", desc := "(I)Z" } : Jvm.MethodName)) ∈ lw_all := lw_g (lw_at lw_m5 222 rfl) rfl
theorem q1239 : (Jvm.Cond.privateMethod ({ cls := "PlaneFacesModel", name := "isFace", desc := "(I)Z" } : Jvm.MethodName)) ∈ lw_tbl := lw_at lw_m5 223 rfl
theorem q1240 : (Jvm.Cond.instanceMethod ({ cls := "PlaneFacesModel", name := "isFace", desc := "(I)Z" } : Jvm.MethodName)) ∈ lw_all := lw_g (lw_at lw_m5 224 rfl) rfl
theorem q1241 : (Jvm.Cond.code ({ cls := "PlaneFacesModel", name := "isFace", desc := "(I)Z" } : Jvm.MethodName) prog_8_method_33_code (2 : Nat) (Option.some Jvm.ClassFile.FieldType.boolean)) ∈ lw_all := lw_g (lw_at lw_m5 225 rfl) rfl
theorem q1243 : (Jvm.Cond.instanceMethod ({ cls := "PlaneFacesModel", name := "border", desc := "(II)I" } : Jvm.MethodName)) ∈ lw_all := lw_g (lw_at lw_m5 227 rfl) rfl
theorem q1244 : (Jvm.Cond.selects "PlaneFacesModel" ({ cls := "PlaneFacesModel", name := "border", desc := "(II)I" } : Jvm.MethodName) ({ cls := "PlaneFacesModel", name := "border", desc := "(II)I" } : Jvm.MethodName)) ∈ lw_all := lw_g (lw_at lw_m5 228 rfl) rfl
theorem q1245 : (Jvm.Cond.code ({ cls := "PlaneFacesModel", name := "border", desc := "(II)I" } : Jvm.MethodName) prog_8_method_35_code (6 : Nat) (Option.some Jvm.ClassFile.FieldType.int)) ∈ lw_all := lw_g (lw_at lw_m5 229 rfl) rfl
theorem q1247 : (Jvm.Cond.instanceMethod ({ cls := "PlaneFacesModel", name := "locate", desc := "(II)I" } : Jvm.MethodName)) ∈ lw_all := lw_g (lw_at lw_m5 231 rfl) rfl
theorem q1248 : (Jvm.Cond.selects "PlaneFacesModel" ({ cls := "PlaneFacesModel", name := "locate", desc := "(II)I" } : Jvm.MethodName) ({ cls := "PlaneFacesModel", name := "locate", desc := "(II)I" } : Jvm.MethodName)) ∈ lw_all := lw_g (lw_at lw_m5 232 rfl) rfl
theorem q1249 : (Jvm.Cond.code ({ cls := "PlaneFacesModel", name := "locate", desc := "(II)I" } : Jvm.MethodName) prog_8_method_36_code (4 : Nat) (Option.some Jvm.ClassFile.FieldType.int)) ∈ lw_all := lw_g (lw_at lw_m5 233 rfl) rfl
theorem q1251 : (Jvm.Cond.instanceMethod ({ cls := "PlaneFacesModel", name := "above", desc := "(II)I" } : Jvm.MethodName)) ∈ lw_all := lw_g (lw_at lw_m5 235 rfl) rfl
theorem q1252 : (Jvm.Cond.selects "PlaneFacesModel" ({ cls := "PlaneFacesModel", name := "above", desc := "(II)I" } : Jvm.MethodName) ({ cls := "PlaneFacesModel", name := "above", desc := "(II)I" } : Jvm.MethodName)) ∈ lw_all := lw_g (lw_at lw_m5 236 rfl) rfl
theorem q1253 : (Jvm.Cond.code ({ cls := "PlaneFacesModel", name := "above", desc := "(II)I" } : Jvm.MethodName) prog_8_method_40_code (6 : Nat) (Option.some Jvm.ClassFile.FieldType.int)) ∈ lw_all := lw_g (lw_at lw_m5 237 rfl) rfl
theorem q1254 : (Jvm.Cond.methodLink "PlaneFacesModel" (150 : Nat) ({ cls := "PlaneFacesModel", name := "isMet", desc := "(III)Z" } : Jvm.MethodName)) ∈ lw_all := lw_g (lw_at lw_m5 238 rfl) rfl
theorem q1255 : (Jvm.Cond.privateMethod ({ cls := "PlaneFacesModel", name := "isMet", desc := "(III)Z" } : Jvm.MethodName)) ∈ lw_tbl := lw_at lw_m5 239 rfl
theorem q1256 : (Jvm.Cond.instanceMethod ({ cls := "PlaneFacesModel", name := "isMet", desc := "(III)Z" } : Jvm.MethodName)) ∈ lw_all := lw_g (lw_at lw_m6 0 rfl) rfl
theorem q1257 : (Jvm.Cond.code ({ cls := "PlaneFacesModel", name := "isMet", desc := "(III)Z" } : Jvm.MethodName) prog_8_method_39_code (7 : Nat) (Option.some Jvm.ClassFile.FieldType.boolean)) ∈ lw_all := lw_g (lw_at lw_m6 1 rfl) rfl
theorem q1258 : (Jvm.Cond.methodLink "PlaneFacesModel" (142 : Nat) ({ cls := "PlaneFacesModel", name := "height", desc := "(III)J" } : Jvm.MethodName)) ∈ lw_all := lw_g (lw_at lw_m6 2 rfl) rfl
theorem q1259 : (Jvm.Cond.privateMethod ({ cls := "PlaneFacesModel", name := "height", desc := "(III)J" } : Jvm.MethodName)) ∈ lw_tbl := lw_at lw_m6 3 rfl
theorem q1260 : (Jvm.Cond.instanceMethod ({ cls := "PlaneFacesModel", name := "height", desc := "(III)J" } : Jvm.MethodName)) ∈ lw_all := lw_g (lw_at lw_m6 4 rfl) rfl
theorem q1261 : (Jvm.Cond.code ({ cls := "PlaneFacesModel", name := "height", desc := "(III)J" } : Jvm.MethodName) prog_8_method_37_code (8 : Nat) (Option.some Jvm.ClassFile.FieldType.long)) ∈ lw_all := lw_g (lw_at lw_m6 5 rfl) rfl
theorem q1262 : (Jvm.Cond.constantLong "PlaneFacesModel" (140 : Nat) (-100000 : Int64)) ∈ lw_all := lw_g (lw_at lw_m6 6 rfl) rfl
theorem q1263 : (Jvm.Cond.methodLink "PlaneFacesModel" (146 : Nat) ({ cls := "PlaneFacesModel", name := "width", desc := "(I)J" } : Jvm.MethodName)) ∈ lw_all := lw_g (lw_at lw_m6 7 rfl) rfl
theorem q1264 : (Jvm.Cond.privateMethod ({ cls := "PlaneFacesModel", name := "width", desc := "(I)J" } : Jvm.MethodName)) ∈ lw_tbl := lw_at lw_m6 8 rfl
theorem q1265 : (Jvm.Cond.instanceMethod ({ cls := "PlaneFacesModel", name := "width", desc := "(I)J" } : Jvm.MethodName)) ∈ lw_all := lw_g (lw_at lw_m6 9 rfl) rfl
theorem q1266 : (Jvm.Cond.code ({ cls := "PlaneFacesModel", name := "width", desc := "(I)J" } : Jvm.MethodName) prog_8_method_38_code (3 : Nat) (Option.some Jvm.ClassFile.FieldType.long)) ∈ lw_all := lw_g (lw_at lw_m6 10 rfl) rfl
theorem q1268 : (Jvm.Cond.instanceMethod ({ cls := "PlaneFacesModel", name := "across", desc := "(II)I" } : Jvm.MethodName)) ∈ lw_all := lw_g (lw_at lw_m6 12 rfl) rfl
theorem q1269 : (Jvm.Cond.selects "PlaneFacesModel" ({ cls := "PlaneFacesModel", name := "across", desc := "(II)I" } : Jvm.MethodName) ({ cls := "PlaneFacesModel", name := "across", desc := "(II)I" } : Jvm.MethodName)) ∈ lw_all := lw_g (lw_at lw_m6 13 rfl) rfl
theorem q1270 : (Jvm.Cond.code ({ cls := "PlaneFacesModel", name := "across", desc := "(II)I" } : Jvm.MethodName) prog_8_method_41_code (5 : Nat) (Option.some Jvm.ClassFile.FieldType.int)) ∈ lw_all := lw_g (lw_at lw_m6 14 rfl) rfl
theorem q1288 : (Jvm.Cond.castable "PlaneFacesModel" "java/lang/Object") ∈ lw_tbl := lw_at lw_m6 32 rfl
theorem in_X2 : ∀ w ∈ wsX20, w ∈ lw_all := lw_in wsX20 [1081, 1083, 1085, 1087, 1089, 1091, 1093, 1095, 1097, 1099, 1101, 1103, 1105, 1107, 1109, 1111] (by decide +kernel) (by decide +kernel)
/-! PlaneFaces$Half -/
def RX3 : String := "PlaneFaces$Half"
def TX3 : u_T := fun k => match k with
  | 0 => ("PlaneFaces$Half", "number", "I", true)
  | 1 => ("PlaneFaces$Half", "from", "LPlaneFaces$Node;", true)
  | 2 => ("PlaneFaces$Half", "twin", "LPlaneFaces$Half;", false)
  | 3 => ("PlaneFaces$Half", "next", "LPlaneFaces$Half;", false)
  | _ => ("PlaneFaces$Half", "round", "LPlaneFaces$Round;", false)
def tyX3 : Nat → FieldType := fun k => match k with
  | 0 => .int
  | 1 => .object "PlaneFaces$Node"
  | 2 => .object "PlaneFaces$Half"
  | 3 => .object "PlaneFaces$Half"
  | _ => .object "PlaneFaces$Round"
abbrev wsX30 : List Cond := u_ws RX3 TX3 5
theorem nmX3 : ∀ a, a < 5 → ∀ b, b < 5 → a ≠ b → (TX3 a).2.1 ≠ (TX3 b).2.1 := by decide +kernel
theorem tyX3_ok : ∀ k, k < 5 → parseFieldDescriptor (TX3 k).2.2.1 = some (tyX3 k) := by decide +kernel
abbrev cX3_init : ByteArray := prog_3_method_1_code
def yX3_init : MethodName := ⟨RX3, "<init>", "(ILPlaneFaces$Node;)V"⟩
abbrev cX3_dx : ByteArray := prog_3_method_2_code
def yX3_dx : MethodName := ⟨RX3, "dx", "()I"⟩
abbrev cX3_dy : ByteArray := prog_3_method_3_code
def yX3_dy : MethodName := ⟨RX3, "dy", "()I"⟩
abbrev cX3_isBefore : ByteArray := prog_3_method_5_code
def yX3_isBefore : MethodName := ⟨RX3, "isBefore", "(II)Z"⟩
abbrev cX3_isUpper : ByteArray := prog_3_method_4_code
def yX3_isUpper : MethodName := ⟨RX3, "isUpper", "(II)Z"⟩
theorem q69 : (Jvm.Cond.initialized "PlaneFaces$Half") ∈ lw_all := lw_g (lw_at lw_m1 13 rfl) rfl
theorem q194 : (Jvm.Cond.instantiable "PlaneFaces$Half" (5 : Nat)) ∈ lw_all := lw_g (lw_at lw_m1 138 rfl) rfl
theorem q226 : (Jvm.Cond.fieldLinkNest "PlaneFaces$Half" (21 : Nat) "PlaneFaces$Node" "x" "I" "PlaneFaces") ∈ lw_tbl := lw_at lw_m1 170 rfl
theorem q230 : (Jvm.Cond.fieldLinkNest "PlaneFaces$Half" (26 : Nat) "PlaneFaces$Node" "y" "I" "PlaneFaces") ∈ lw_tbl := lw_at lw_m1 174 rfl
theorem q276 : (Jvm.Cond.selects "PlaneFaces$Half" ({ cls := "java/lang/Object", name := "getClass", desc := "()Ljava/lang/Class;" } : Jvm.MethodName) ({ cls := "java/lang/Object", name := "getClass", desc := "()Ljava/lang/Class;" } : Jvm.MethodName)) ∈ lw_all := lw_g (lw_at lw_m1 220 rfl) rfl
theorem q304 : (Jvm.Cond.instanceMethod ({ cls := "PlaneFaces$Half", name := "<init>", desc := "(ILPlaneFaces$Node;)V" } : Jvm.MethodName)) ∈ lw_all := lw_g (lw_at lw_m2 8 rfl) rfl
theorem q305 : (Jvm.Cond.code ({ cls := "PlaneFaces$Half", name := "<init>", desc := "(ILPlaneFaces$Node;)V" } : Jvm.MethodName) prog_3_method_1_code (3 : Nat) (Option.none : Option Jvm.ClassFile.FieldType)) ∈ lw_all := lw_g (lw_at lw_m2 9 rfl) rfl
theorem q306 : (Jvm.Cond.methodLink "PlaneFaces$Half" (1 : Nat) ({ cls := "java/lang/Object", name := "<init>", desc := "()V" } : Jvm.MethodName)) ∈ lw_all := lw_g (lw_at lw_m2 10 rfl) rfl
theorem q307 : (Jvm.Cond.fieldLink "PlaneFaces$Half" (7 : Nat) "PlaneFaces$Half" "number" "I") ∈ lw_all := lw_g (lw_at lw_m2 11 rfl) rfl
theorem q310 : (Jvm.Cond.fieldLink "PlaneFaces$Half" (13 : Nat) "PlaneFaces$Half" "from" "LPlaneFaces$Node;") ∈ lw_all := lw_g (lw_at lw_m2 14 rfl) rfl
theorem q313 : (Jvm.Cond.fieldLink "PlaneFaces$Half" (17 : Nat) "PlaneFaces$Half" "twin" "LPlaneFaces$Half;") ∈ lw_all := lw_g (lw_at lw_m2 17 rfl) rfl
theorem q319 : (Jvm.Cond.laysFinal "PlaneFaces$Half" "PlaneFaces$Half" "number" "I") ∈ lw_all := lw_g (lw_at lw_m2 23 rfl) rfl
theorem q320 : (Jvm.Cond.soleField "PlaneFaces$Half" "number") ∈ lw_all := lw_g (lw_at lw_m2 24 rfl) rfl
theorem q321 : (Jvm.Cond.laysFinal "PlaneFaces$Half" "PlaneFaces$Half" "from" "LPlaneFaces$Node;") ∈ lw_all := lw_g (lw_at lw_m2 25 rfl) rfl
theorem q322 : (Jvm.Cond.soleField "PlaneFaces$Half" "from") ∈ lw_all := lw_g (lw_at lw_m2 26 rfl) rfl
theorem q323 : (Jvm.Cond.lays "PlaneFaces$Half" "PlaneFaces$Half" "twin" "LPlaneFaces$Half;") ∈ lw_all := lw_g (lw_at lw_m2 27 rfl) rfl
theorem q324 : (Jvm.Cond.soleField "PlaneFaces$Half" "twin") ∈ lw_all := lw_g (lw_at lw_m2 28 rfl) rfl
theorem q325 : (Jvm.Cond.lays "PlaneFaces$Half" "PlaneFaces$Half" "next" "LPlaneFaces$Half;") ∈ lw_all := lw_g (lw_at lw_m2 29 rfl) rfl
theorem q326 : (Jvm.Cond.soleField "PlaneFaces$Half" "next") ∈ lw_all := lw_g (lw_at lw_m2 30 rfl) rfl
theorem q327 : (Jvm.Cond.lays "PlaneFaces$Half" "PlaneFaces$Half" "round" "LPlaneFaces$Round;") ∈ lw_all := lw_g (lw_at lw_m2 31 rfl) rfl
theorem q328 : (Jvm.Cond.soleField "PlaneFaces$Half" "round") ∈ lw_all := lw_g (lw_at lw_m2 32 rfl) rfl
theorem q329 : (Jvm.Cond.superclass "PlaneFaces$Half" "java/lang/Object") ∈ lw_all := lw_g (lw_at lw_m2 33 rfl) rfl
theorem q338 : (Jvm.Cond.instanceMethod ({ cls := "PlaneFaces$Half", name := "dx", desc := "()I" } : Jvm.MethodName)) ∈ lw_all := lw_g (lw_at lw_m2 42 rfl) rfl
theorem q339 : (Jvm.Cond.selects "PlaneFaces$Half" ({ cls := "PlaneFaces$Half", name := "dx", desc := "()I" } : Jvm.MethodName) ({ cls := "PlaneFaces$Half", name := "dx", desc := "()I" } : Jvm.MethodName)) ∈ lw_all := lw_g (lw_at lw_m2 43 rfl) rfl
theorem q340 : (Jvm.Cond.code ({ cls := "PlaneFaces$Half", name := "dx", desc := "()I" } : Jvm.MethodName) prog_3_method_2_code (1 : Nat) (Option.some Jvm.ClassFile.FieldType.int)) ∈ lw_all := lw_g (lw_at lw_m2 44 rfl) rfl
theorem q342 : (Jvm.Cond.instanceMethod ({ cls := "PlaneFaces$Half", name := "dy", desc := "()I" } : Jvm.MethodName)) ∈ lw_all := lw_g (lw_at lw_m2 46 rfl) rfl
theorem q343 : (Jvm.Cond.selects "PlaneFaces$Half" ({ cls := "PlaneFaces$Half", name := "dy", desc := "()I" } : Jvm.MethodName) ({ cls := "PlaneFaces$Half", name := "dy", desc := "()I" } : Jvm.MethodName)) ∈ lw_all := lw_g (lw_at lw_m2 47 rfl) rfl
theorem q344 : (Jvm.Cond.code ({ cls := "PlaneFaces$Half", name := "dy", desc := "()I" } : Jvm.MethodName) prog_3_method_3_code (1 : Nat) (Option.some Jvm.ClassFile.FieldType.int)) ∈ lw_all := lw_g (lw_at lw_m2 48 rfl) rfl
theorem q346 : (Jvm.Cond.instanceMethod ({ cls := "PlaneFaces$Half", name := "isBefore", desc := "(II)Z" } : Jvm.MethodName)) ∈ lw_all := lw_g (lw_at lw_m2 50 rfl) rfl
theorem q347 : (Jvm.Cond.selects "PlaneFaces$Half" ({ cls := "PlaneFaces$Half", name := "isBefore", desc := "(II)Z" } : Jvm.MethodName) ({ cls := "PlaneFaces$Half", name := "isBefore", desc := "(II)Z" } : Jvm.MethodName)) ∈ lw_all := lw_g (lw_at lw_m2 51 rfl) rfl
theorem q348 : (Jvm.Cond.code ({ cls := "PlaneFaces$Half", name := "isBefore", desc := "(II)Z" } : Jvm.MethodName) prog_3_method_5_code (4 : Nat) (Option.some Jvm.ClassFile.FieldType.boolean)) ∈ lw_all := lw_g (lw_at lw_m2 52 rfl) rfl
theorem q349 : (Jvm.Cond.methodLink "PlaneFaces$Half" (29 : Nat) ({ cls := "PlaneFaces$Half", name := "dx", desc := "()I" } : Jvm.MethodName)) ∈ lw_all := lw_g (lw_at lw_m2 53 rfl) rfl
theorem q350 : (Jvm.Cond.methodLink "PlaneFaces$Half" (33 : Nat) ({ cls := "PlaneFaces$Half", name := "dy", desc := "()I" } : Jvm.MethodName)) ∈ lw_all := lw_g (lw_at lw_m2 54 rfl) rfl
theorem q351 : (Jvm.Cond.methodLink "PlaneFaces$Half" (36 : Nat) ({ cls := "PlaneFaces$Half", name := "isUpper", desc := "(II)Z" } : Jvm.MethodName)) ∈ lw_all := lw_g (lw_at lw_m2 55 rfl) rfl
theorem q352 : (Jvm.Cond.static ({ cls := "PlaneFaces$Half", name := "isUpper", desc := "(II)Z" } : Jvm.MethodName)) ∈ lw_all := lw_g (lw_at lw_m2 56 rfl) rfl
theorem q353 : (Jvm.Cond.code ({ cls := "PlaneFaces$Half", name := "isUpper", desc := "(II)Z" } : Jvm.MethodName) prog_3_method_4_code (2 : Nat) (Option.some Jvm.ClassFile.FieldType.boolean)) ∈ lw_all := lw_g (lw_at lw_m2 57 rfl) rfl
theorem q354 : (Jvm.Cond.methodLinkNest "PlaneFaces$Half" (40 : Nat) ({ cls := "PlaneFaces", name := "cross", desc := "(JJJJ)J" } : Jvm.MethodName) "PlaneFaces") ∈ lw_tbl := lw_at lw_m2 58 rfl
theorem q1281 : (Jvm.Cond.castable "PlaneFaces$Half" "java/lang/Object") ∈ lw_tbl := lw_at lw_m6 25 rfl
theorem in_X3 : ∀ w ∈ wsX30, w ∈ lw_all := lw_in wsX30 [319, 321, 323, 325, 327] (by decide +kernel) (by decide +kernel)
/-! PlaneFaces$Node -/
def RX4 : String := "PlaneFaces$Node"
def TX4 : u_T := fun k => match k with
  | 0 => ("PlaneFaces$Node", "x", "I", true)
  | 1 => ("PlaneFaces$Node", "y", "I", true)
  | _ => ("PlaneFaces$Node", "halves", "Ljava/util/ArrayList;", true)
def tyX4 : Nat → FieldType := fun k => match k with
  | 0 => .int
  | 1 => .int
  | _ => .object "java/util/ArrayList"
abbrev wsX40 : List Cond := u_ws RX4 TX4 3
theorem nmX4 : ∀ a, a < 3 → ∀ b, b < 3 → a ≠ b → (TX4 a).2.1 ≠ (TX4 b).2.1 := by decide +kernel
theorem tyX4_ok : ∀ k, k < 3 → parseFieldDescriptor (TX4 k).2.2.1 = some (tyX4 k) := by decide +kernel
abbrev cX4_init : ByteArray := prog_4_method_1_code
def yX4_init : MethodName := ⟨RX4, "<init>", "(II)V"⟩
abbrev cX4_put : ByteArray := prog_4_method_2_code
def yX4_put : MethodName := ⟨RX4, "put", "(LPlaneFaces$Half;)V"⟩
abbrev cX4_before : ByteArray := prog_4_method_3_code
def yX4_before : MethodName := ⟨RX4, "before", "(II)LPlaneFaces$Half;"⟩
theorem q72 : (Jvm.Cond.initialized "PlaneFaces$Node") ∈ lw_all := lw_g (lw_at lw_m1 16 rfl) rfl
theorem q218 : (Jvm.Cond.instantiable "PlaneFaces$Node" (3 : Nat)) ∈ lw_all := lw_g (lw_at lw_m1 162 rfl) rfl
theorem q220 : (Jvm.Cond.instanceMethod ({ cls := "PlaneFaces$Node", name := "<init>", desc := "(II)V" } : Jvm.MethodName)) ∈ lw_all := lw_g (lw_at lw_m1 164 rfl) rfl
theorem q221 : (Jvm.Cond.code ({ cls := "PlaneFaces$Node", name := "<init>", desc := "(II)V" } : Jvm.MethodName) prog_4_method_1_code (3 : Nat) (Option.none : Option Jvm.ClassFile.FieldType)) ∈ lw_all := lw_g (lw_at lw_m1 165 rfl) rfl
theorem q222 : (Jvm.Cond.methodLink "PlaneFaces$Node" (1 : Nat) ({ cls := "java/lang/Object", name := "<init>", desc := "()V" } : Jvm.MethodName)) ∈ lw_all := lw_g (lw_at lw_m1 166 rfl) rfl
theorem q223 : (Jvm.Cond.classLink "PlaneFaces$Node" (7 : Nat) "java/util/ArrayList") ∈ lw_all := lw_g (lw_at lw_m1 167 rfl) rfl
theorem q224 : (Jvm.Cond.methodLink "PlaneFaces$Node" (9 : Nat) ({ cls := "java/util/ArrayList", name := "<init>", desc := "()V" } : Jvm.MethodName)) ∈ lw_all := lw_g (lw_at lw_m1 168 rfl) rfl
theorem q225 : (Jvm.Cond.fieldLink "PlaneFaces$Node" (16 : Nat) "PlaneFaces$Node" "x" "I") ∈ lw_all := lw_g (lw_at lw_m1 169 rfl) rfl
theorem q229 : (Jvm.Cond.fieldLink "PlaneFaces$Node" (20 : Nat) "PlaneFaces$Node" "y" "I") ∈ lw_all := lw_g (lw_at lw_m1 173 rfl) rfl
theorem q233 : (Jvm.Cond.fieldLink "PlaneFaces$Node" (10 : Nat) "PlaneFaces$Node" "halves" "Ljava/util/ArrayList;") ∈ lw_all := lw_g (lw_at lw_m1 177 rfl) rfl
theorem q235 : (Jvm.Cond.laysFinal "PlaneFaces$Node" "PlaneFaces$Node" "x" "I") ∈ lw_all := lw_g (lw_at lw_m1 179 rfl) rfl
theorem q236 : (Jvm.Cond.soleField "PlaneFaces$Node" "x") ∈ lw_all := lw_g (lw_at lw_m1 180 rfl) rfl
theorem q237 : (Jvm.Cond.laysFinal "PlaneFaces$Node" "PlaneFaces$Node" "y" "I") ∈ lw_all := lw_g (lw_at lw_m1 181 rfl) rfl
theorem q238 : (Jvm.Cond.soleField "PlaneFaces$Node" "y") ∈ lw_all := lw_g (lw_at lw_m1 182 rfl) rfl
theorem q239 : (Jvm.Cond.laysFinal "PlaneFaces$Node" "PlaneFaces$Node" "halves" "Ljava/util/ArrayList;") ∈ lw_all := lw_g (lw_at lw_m1 183 rfl) rfl
theorem q240 : (Jvm.Cond.soleField "PlaneFaces$Node" "halves") ∈ lw_all := lw_g (lw_at lw_m1 184 rfl) rfl
theorem q241 : (Jvm.Cond.superclass "PlaneFaces$Node" "java/lang/Object") ∈ lw_all := lw_g (lw_at lw_m1 185 rfl) rfl
theorem q277 : (Jvm.Cond.selects "PlaneFaces$Node" ({ cls := "java/lang/Object", name := "getClass", desc := "()Ljava/lang/Class;" } : Jvm.MethodName) ({ cls := "java/lang/Object", name := "getClass", desc := "()Ljava/lang/Class;" } : Jvm.MethodName)) ∈ lw_all := lw_g (lw_at lw_m1 221 rfl) rfl
theorem q331 : (Jvm.Cond.instanceMethod ({ cls := "PlaneFaces$Node", name := "put", desc := "(LPlaneFaces$Half;)V" } : Jvm.MethodName)) ∈ lw_all := lw_g (lw_at lw_m2 35 rfl) rfl
theorem q332 : (Jvm.Cond.selects "PlaneFaces$Node" ({ cls := "PlaneFaces$Node", name := "put", desc := "(LPlaneFaces$Half;)V" } : Jvm.MethodName) ({ cls := "PlaneFaces$Node", name := "put", desc := "(LPlaneFaces$Half;)V" } : Jvm.MethodName)) ∈ lw_all := lw_g (lw_at lw_m2 36 rfl) rfl
theorem q333 : (Jvm.Cond.code ({ cls := "PlaneFaces$Node", name := "put", desc := "(LPlaneFaces$Half;)V" } : Jvm.MethodName) prog_4_method_2_code (3 : Nat) (Option.none : Option Jvm.ClassFile.FieldType)) ∈ lw_all := lw_g (lw_at lw_m2 37 rfl) rfl
theorem q334 : (Jvm.Cond.methodLink "PlaneFaces$Node" (23 : Nat) ({ cls := "java/util/ArrayList", name := "size", desc := "()I" } : Jvm.MethodName)) ∈ lw_all := lw_g (lw_at lw_m2 38 rfl) rfl
theorem q335 : (Jvm.Cond.methodLink "PlaneFaces$Node" (27 : Nat) ({ cls := "java/util/ArrayList", name := "get", desc := "(I)Ljava/lang/Object;" } : Jvm.MethodName)) ∈ lw_all := lw_g (lw_at lw_m2 39 rfl) rfl
theorem q336 : (Jvm.Cond.classLink "PlaneFaces$Node" (31 : Nat) "PlaneFaces$Half") ∈ lw_all := lw_g (lw_at lw_m2 40 rfl) rfl
theorem q337 : (Jvm.Cond.methodLink "PlaneFaces$Node" (33 : Nat) ({ cls := "PlaneFaces$Half", name := "dx", desc := "()I" } : Jvm.MethodName)) ∈ lw_all := lw_g (lw_at lw_m2 41 rfl) rfl
theorem q341 : (Jvm.Cond.methodLink "PlaneFaces$Node" (36 : Nat) ({ cls := "PlaneFaces$Half", name := "dy", desc := "()I" } : Jvm.MethodName)) ∈ lw_all := lw_g (lw_at lw_m2 45 rfl) rfl
theorem q345 : (Jvm.Cond.methodLink "PlaneFaces$Node" (39 : Nat) ({ cls := "PlaneFaces$Half", name := "isBefore", desc := "(II)Z" } : Jvm.MethodName)) ∈ lw_all := lw_g (lw_at lw_m2 49 rfl) rfl
theorem q357 : (Jvm.Cond.methodLink "PlaneFaces$Node" (43 : Nat) ({ cls := "java/util/ArrayList", name := "add", desc := "(ILjava/lang/Object;)V" } : Jvm.MethodName)) ∈ lw_all := lw_g (lw_at lw_m2 61 rfl) rfl
theorem q832 : (Jvm.Cond.instanceMethod ({ cls := "PlaneFaces$Node", name := "before", desc := "(II)LPlaneFaces$Half;" } : Jvm.MethodName)) ∈ lw_all := lw_g (lw_at lw_m4 56 rfl) rfl
theorem q833 : (Jvm.Cond.selects "PlaneFaces$Node" ({ cls := "PlaneFaces$Node", name := "before", desc := "(II)LPlaneFaces$Half;" } : Jvm.MethodName) ({ cls := "PlaneFaces$Node", name := "before", desc := "(II)LPlaneFaces$Half;" } : Jvm.MethodName)) ∈ lw_all := lw_g (lw_at lw_m4 57 rfl) rfl
theorem q834 : (Jvm.Cond.code ({ cls := "PlaneFaces$Node", name := "before", desc := "(II)LPlaneFaces$Half;" } : Jvm.MethodName) prog_4_method_3_code (4 : Nat) (Option.some (Jvm.ClassFile.FieldType.object "PlaneFaces$Half"))) ∈ lw_all := lw_g (lw_at lw_m4 58 rfl) rfl
theorem q1291 : (Jvm.Cond.castable "PlaneFaces$Node" "java/lang/Object") ∈ lw_tbl := lw_at lw_m6 35 rfl
theorem in_X4 : ∀ w ∈ wsX40, w ∈ lw_all := lw_in wsX40 [235, 237, 239] (by decide +kernel) (by decide +kernel)
/-! PlaneFaces$Round -/
def RX5 : String := "PlaneFaces$Round"
def TX5 : u_T := fun k => match k with
  | 0 => ("PlaneFaces$Round", "first", "LPlaneFaces$Half;", true)
  | _ => ("PlaneFaces$Round", "face", "LPlaneFaces$Face;", false)
def tyX5 : Nat → FieldType := fun k => match k with
  | 0 => .object "PlaneFaces$Half"
  | _ => .object "PlaneFaces$Face"
abbrev wsX50 : List Cond := u_ws RX5 TX5 2
theorem nmX5 : ∀ a, a < 2 → ∀ b, b < 2 → a ≠ b → (TX5 a).2.1 ≠ (TX5 b).2.1 := by decide +kernel
theorem tyX5_ok : ∀ k, k < 2 → parseFieldDescriptor (TX5 k).2.2.1 = some (tyX5 k) := by decide +kernel
abbrev cX5_init : ByteArray := prog_5_method_1_code
def yX5_init : MethodName := ⟨RX5, "<init>", "(LPlaneFaces$Half;)V"⟩
abbrev cX5_iterator : ByteArray := prog_5_method_2_code
def yX5_iterator : MethodName := ⟨RX5, "iterator", "()Ljava/util/Iterator;"⟩
abbrev cX5_area : ByteArray := prog_5_method_3_code
def yX5_area : MethodName := ⟨RX5, "area", "()J"⟩
abbrev cX5_least : ByteArray := prog_5_method_5_code
def yX5_least : MethodName := ⟨RX5, "least", "()I"⟩
abbrev cX5_corner : ByteArray := prog_5_method_4_code
def yX5_corner : MethodName := ⟨RX5, "corner", "()LPlaneFaces$Node;"⟩
abbrev cX5_size : ByteArray := prog_5_method_6_code
def yX5_size : MethodName := ⟨RX5, "size", "()I"⟩
theorem q83 : (Jvm.Cond.initialized "PlaneFaces$Round") ∈ lw_all := lw_g (lw_at lw_m1 27 rfl) rfl
theorem q227 : (Jvm.Cond.fieldLinkNest "PlaneFaces$Round" (38 : Nat) "PlaneFaces$Node" "x" "I" "PlaneFaces") ∈ lw_tbl := lw_at lw_m1 171 rfl
theorem q231 : (Jvm.Cond.fieldLinkNest "PlaneFaces$Round" (44 : Nat) "PlaneFaces$Node" "y" "I" "PlaneFaces") ∈ lw_tbl := lw_at lw_m1 175 rfl
theorem q278 : (Jvm.Cond.selects "PlaneFaces$Round" ({ cls := "java/lang/Object", name := "getClass", desc := "()Ljava/lang/Class;" } : Jvm.MethodName) ({ cls := "java/lang/Object", name := "getClass", desc := "()Ljava/lang/Class;" } : Jvm.MethodName)) ∈ lw_all := lw_g (lw_at lw_m1 222 rfl) rfl
theorem q308 : (Jvm.Cond.fieldLinkNest "PlaneFaces$Round" (56 : Nat) "PlaneFaces$Half" "number" "I" "PlaneFaces") ∈ lw_tbl := lw_at lw_m2 12 rfl
theorem q311 : (Jvm.Cond.fieldLinkNest "PlaneFaces$Round" (34 : Nat) "PlaneFaces$Half" "from" "LPlaneFaces$Node;" "PlaneFaces") ∈ lw_tbl := lw_at lw_m2 15 rfl
theorem q314 : (Jvm.Cond.fieldLinkNest "PlaneFaces$Round" (47 : Nat) "PlaneFaces$Half" "twin" "LPlaneFaces$Half;" "PlaneFaces") ∈ lw_tbl := lw_at lw_m2 18 rfl
theorem q686 : (Jvm.Cond.instantiable "PlaneFaces$Round" (2 : Nat)) ∈ lw_all := lw_g (lw_at lw_m3 150 rfl) rfl
theorem q688 : (Jvm.Cond.instanceMethod ({ cls := "PlaneFaces$Round", name := "<init>", desc := "(LPlaneFaces$Half;)V" } : Jvm.MethodName)) ∈ lw_all := lw_g (lw_at lw_m3 152 rfl) rfl
theorem q689 : (Jvm.Cond.code ({ cls := "PlaneFaces$Round", name := "<init>", desc := "(LPlaneFaces$Half;)V" } : Jvm.MethodName) prog_5_method_1_code (2 : Nat) (Option.none : Option Jvm.ClassFile.FieldType)) ∈ lw_all := lw_g (lw_at lw_m3 153 rfl) rfl
theorem q690 : (Jvm.Cond.methodLink "PlaneFaces$Round" (1 : Nat) ({ cls := "java/lang/Object", name := "<init>", desc := "()V" } : Jvm.MethodName)) ∈ lw_all := lw_g (lw_at lw_m3 154 rfl) rfl
theorem q691 : (Jvm.Cond.fieldLink "PlaneFaces$Round" (7 : Nat) "PlaneFaces$Round" "first" "LPlaneFaces$Half;") ∈ lw_all := lw_g (lw_at lw_m3 155 rfl) rfl
theorem q695 : (Jvm.Cond.laysFinal "PlaneFaces$Round" "PlaneFaces$Round" "first" "LPlaneFaces$Half;") ∈ lw_all := lw_g (lw_at lw_m3 159 rfl) rfl
theorem q696 : (Jvm.Cond.soleField "PlaneFaces$Round" "first") ∈ lw_all := lw_g (lw_at lw_m3 160 rfl) rfl
theorem q697 : (Jvm.Cond.lays "PlaneFaces$Round" "PlaneFaces$Round" "face" "LPlaneFaces$Face;") ∈ lw_all := lw_g (lw_at lw_m3 161 rfl) rfl
theorem q698 : (Jvm.Cond.soleField "PlaneFaces$Round" "face") ∈ lw_all := lw_g (lw_at lw_m3 162 rfl) rfl
theorem q699 : (Jvm.Cond.superclass "PlaneFaces$Round" "java/lang/Object") ∈ lw_all := lw_g (lw_at lw_m3 163 rfl) rfl
theorem q701 : (Jvm.Cond.instanceMethod ({ cls := "PlaneFaces$Round", name := "iterator", desc := "()Ljava/util/Iterator;" } : Jvm.MethodName)) ∈ lw_all := lw_g (lw_at lw_m3 165 rfl) rfl
theorem q702 : (Jvm.Cond.selects "PlaneFaces$Round" ({ cls := "PlaneFaces$Round", name := "iterator", desc := "()Ljava/util/Iterator;" } : Jvm.MethodName) ({ cls := "PlaneFaces$Round", name := "iterator", desc := "()Ljava/util/Iterator;" } : Jvm.MethodName)) ∈ lw_all := lw_g (lw_at lw_m3 166 rfl) rfl
theorem q703 : (Jvm.Cond.code ({ cls := "PlaneFaces$Round", name := "iterator", desc := "()Ljava/util/Iterator;" } : Jvm.MethodName) prog_5_method_2_code (1 : Nat) (Option.some (Jvm.ClassFile.FieldType.object "java/util/Iterator"))) ∈ lw_all := lw_g (lw_at lw_m3 167 rfl) rfl
theorem q704 : (Jvm.Cond.classLink "PlaneFaces$Round" (13 : Nat) "PlaneFaces$Walk") ∈ lw_all := lw_g (lw_at lw_m3 168 rfl) rfl
theorem q706 : (Jvm.Cond.methodLink "PlaneFaces$Round" (15 : Nat) ({ cls := "PlaneFaces$Walk", name := "<init>", desc := "(LPlaneFaces$Half;)V" } : Jvm.MethodName)) ∈ lw_all := lw_g (lw_at lw_m3 170 rfl) rfl
theorem q768 : (Jvm.Cond.instanceMethod ({ cls := "PlaneFaces$Round", name := "area", desc := "()J" } : Jvm.MethodName)) ∈ lw_all := lw_g (lw_at lw_m3 232 rfl) rfl
theorem q769 : (Jvm.Cond.selects "PlaneFaces$Round" ({ cls := "PlaneFaces$Round", name := "area", desc := "()J" } : Jvm.MethodName) ({ cls := "PlaneFaces$Round", name := "area", desc := "()J" } : Jvm.MethodName)) ∈ lw_all := lw_g (lw_at lw_m3 233 rfl) rfl
theorem q770 : (Jvm.Cond.code ({ cls := "PlaneFaces$Round", name := "area", desc := "()J" } : Jvm.MethodName) prog_5_method_3_code (5 : Nat) (Option.some Jvm.ClassFile.FieldType.long)) ∈ lw_all := lw_g (lw_at lw_m3 234 rfl) rfl
theorem q771 : (Jvm.Cond.methodLink "PlaneFaces$Round" (18 : Nat) ({ cls := "PlaneFaces$Round", name := "iterator", desc := "()Ljava/util/Iterator;" } : Jvm.MethodName)) ∈ lw_all := lw_g (lw_at lw_m3 235 rfl) rfl
theorem q772 : (Jvm.Cond.interfaceEntry "PlaneFaces$Round" (22 : Nat)) ∈ lw_tbl := lw_at lw_m3 236 rfl
theorem q773 : (Jvm.Cond.methodLink "PlaneFaces$Round" (22 : Nat) ({ cls := "java/util/Iterator", name := "hasNext", desc := "()Z" } : Jvm.MethodName)) ∈ lw_all := lw_g (lw_at lw_m3 237 rfl) rfl
theorem q774 : (Jvm.Cond.interfaceEntry "PlaneFaces$Round" (28 : Nat)) ∈ lw_tbl := lw_at lw_m3 238 rfl
theorem q775 : (Jvm.Cond.methodLink "PlaneFaces$Round" (28 : Nat) ({ cls := "java/util/Iterator", name := "next", desc := "()Ljava/lang/Object;" } : Jvm.MethodName)) ∈ lw_all := lw_g (lw_at lw_m3 239 rfl) rfl
theorem q776 : (Jvm.Cond.classLink "PlaneFaces$Round" (32 : Nat) "PlaneFaces$Half") ∈ lw_all := lw_g (lw_at lw_m4 0 rfl) rfl
theorem q777 : (Jvm.Cond.methodLinkNest "PlaneFaces$Round" (50 : Nat) ({ cls := "PlaneFaces", name := "cross", desc := "(JJJJ)J" } : Jvm.MethodName) "PlaneFaces") ∈ lw_tbl := lw_at lw_m4 1 rfl
theorem q784 : (Jvm.Cond.instanceMethod ({ cls := "PlaneFaces$Round", name := "least", desc := "()I" } : Jvm.MethodName)) ∈ lw_all := lw_g (lw_at lw_m4 8 rfl) rfl
theorem q785 : (Jvm.Cond.selects "PlaneFaces$Round" ({ cls := "PlaneFaces$Round", name := "least", desc := "()I" } : Jvm.MethodName) ({ cls := "PlaneFaces$Round", name := "least", desc := "()I" } : Jvm.MethodName)) ∈ lw_all := lw_g (lw_at lw_m4 9 rfl) rfl
theorem q786 : (Jvm.Cond.code ({ cls := "PlaneFaces$Round", name := "least", desc := "()I" } : Jvm.MethodName) prog_5_method_5_code (4 : Nat) (Option.some Jvm.ClassFile.FieldType.int)) ∈ lw_all := lw_g (lw_at lw_m4 10 rfl) rfl
theorem q787 : (Jvm.Cond.methodLink "PlaneFaces$Round" (59 : Nat) ({ cls := "java/lang/Math", name := "min", desc := "(II)I" } : Jvm.MethodName)) ∈ lw_all := lw_g (lw_at lw_m4 11 rfl) rfl
theorem q794 : (Jvm.Cond.instanceMethod ({ cls := "PlaneFaces$Round", name := "corner", desc := "()LPlaneFaces$Node;" } : Jvm.MethodName)) ∈ lw_all := lw_g (lw_at lw_m4 18 rfl) rfl
theorem q795 : (Jvm.Cond.selects "PlaneFaces$Round" ({ cls := "PlaneFaces$Round", name := "corner", desc := "()LPlaneFaces$Node;" } : Jvm.MethodName) ({ cls := "PlaneFaces$Round", name := "corner", desc := "()LPlaneFaces$Node;" } : Jvm.MethodName)) ∈ lw_all := lw_g (lw_at lw_m4 19 rfl) rfl
theorem q796 : (Jvm.Cond.code ({ cls := "PlaneFaces$Round", name := "corner", desc := "()LPlaneFaces$Node;" } : Jvm.MethodName) prog_5_method_4_code (4 : Nat) (Option.some (Jvm.ClassFile.FieldType.object "PlaneFaces$Node"))) ∈ lw_all := lw_g (lw_at lw_m4 20 rfl) rfl
theorem q1008 : (Jvm.Cond.instanceMethod ({ cls := "PlaneFaces$Round", name := "size", desc := "()I" } : Jvm.MethodName)) ∈ lw_all := lw_g (lw_at lw_m4 232 rfl) rfl
theorem q1009 : (Jvm.Cond.selects "PlaneFaces$Round" ({ cls := "PlaneFaces$Round", name := "size", desc := "()I" } : Jvm.MethodName) ({ cls := "PlaneFaces$Round", name := "size", desc := "()I" } : Jvm.MethodName)) ∈ lw_all := lw_g (lw_at lw_m4 233 rfl) rfl
theorem q1010 : (Jvm.Cond.code ({ cls := "PlaneFaces$Round", name := "size", desc := "()I" } : Jvm.MethodName) prog_5_method_6_code (3 : Nat) (Option.some Jvm.ClassFile.FieldType.int)) ∈ lw_all := lw_g (lw_at lw_m4 234 rfl) rfl
theorem q1282 : (Jvm.Cond.castable "PlaneFaces$Round" "java/lang/Object") ∈ lw_tbl := lw_at lw_m6 26 rfl
theorem in_X5 : ∀ w ∈ wsX50, w ∈ lw_all := lw_in wsX50 [695, 697] (by decide +kernel) (by decide +kernel)
/-! PlaneFaces$Walk -/
def RX6 : String := "PlaneFaces$Walk"
def TX6 : u_T := fun k => match k with
  | 0 => ("PlaneFaces$Walk", "first", "LPlaneFaces$Half;", true)
  | 1 => ("PlaneFaces$Walk", "at", "LPlaneFaces$Half;", false)
  | _ => ("PlaneFaces$Walk", "isDone", "Z", false)
def tyX6 : Nat → FieldType := fun k => match k with
  | 0 => .object "PlaneFaces$Half"
  | 1 => .object "PlaneFaces$Half"
  | _ => .boolean
abbrev wsX60 : List Cond := u_ws RX6 TX6 3
theorem nmX6 : ∀ a, a < 3 → ∀ b, b < 3 → a ≠ b → (TX6 a).2.1 ≠ (TX6 b).2.1 := by decide +kernel
theorem tyX6_ok : ∀ k, k < 3 → parseFieldDescriptor (TX6 k).2.2.1 = some (tyX6 k) := by decide +kernel
abbrev cX6_init : ByteArray := prog_6_method_1_code
def yX6_init : MethodName := ⟨RX6, "<init>", "(LPlaneFaces$Half;)V"⟩
abbrev cX6_hasNext : ByteArray := prog_6_method_2_code
def yX6_hasNext : MethodName := ⟨RX6, "hasNext", "()Z"⟩
abbrev cX6_next : ByteArray := prog_6_method_4_code
def yX6_next : MethodName := ⟨RX6, "next", "()Ljava/lang/Object;"⟩
abbrev cX6_next_2 : ByteArray := prog_6_method_3_code
def yX6_next_2 : MethodName := ⟨RX6, "next", "()LPlaneFaces$Half;"⟩
theorem q84 : (Jvm.Cond.initialized "PlaneFaces$Walk") ∈ lw_all := lw_g (lw_at lw_m1 28 rfl) rfl
theorem q279 : (Jvm.Cond.selects "PlaneFaces$Walk" ({ cls := "java/lang/Object", name := "getClass", desc := "()Ljava/lang/Class;" } : Jvm.MethodName) ({ cls := "java/lang/Object", name := "getClass", desc := "()Ljava/lang/Class;" } : Jvm.MethodName)) ∈ lw_all := lw_g (lw_at lw_m1 223 rfl) rfl
theorem q316 : (Jvm.Cond.fieldLinkNest "PlaneFaces$Walk" (20 : Nat) "PlaneFaces$Half" "next" "LPlaneFaces$Half;" "PlaneFaces") ∈ lw_tbl := lw_at lw_m2 20 rfl
theorem q705 : (Jvm.Cond.instantiable "PlaneFaces$Walk" (3 : Nat)) ∈ lw_all := lw_g (lw_at lw_m3 169 rfl) rfl
theorem q707 : (Jvm.Cond.instanceMethod ({ cls := "PlaneFaces$Walk", name := "<init>", desc := "(LPlaneFaces$Half;)V" } : Jvm.MethodName)) ∈ lw_all := lw_g (lw_at lw_m3 171 rfl) rfl
theorem q708 : (Jvm.Cond.code ({ cls := "PlaneFaces$Walk", name := "<init>", desc := "(LPlaneFaces$Half;)V" } : Jvm.MethodName) prog_6_method_1_code (2 : Nat) (Option.none : Option Jvm.ClassFile.FieldType)) ∈ lw_all := lw_g (lw_at lw_m3 172 rfl) rfl
theorem q709 : (Jvm.Cond.methodLink "PlaneFaces$Walk" (1 : Nat) ({ cls := "java/lang/Object", name := "<init>", desc := "()V" } : Jvm.MethodName)) ∈ lw_all := lw_g (lw_at lw_m3 173 rfl) rfl
theorem q710 : (Jvm.Cond.fieldLink "PlaneFaces$Walk" (7 : Nat) "PlaneFaces$Walk" "first" "LPlaneFaces$Half;") ∈ lw_all := lw_g (lw_at lw_m3 174 rfl) rfl
theorem q711 : (Jvm.Cond.fieldLink "PlaneFaces$Walk" (13 : Nat) "PlaneFaces$Walk" "at" "LPlaneFaces$Half;") ∈ lw_all := lw_g (lw_at lw_m3 175 rfl) rfl
theorem q712 : (Jvm.Cond.fieldLink "PlaneFaces$Walk" (16 : Nat) "PlaneFaces$Walk" "isDone" "Z") ∈ lw_all := lw_g (lw_at lw_m3 176 rfl) rfl
theorem q713 : (Jvm.Cond.laysFinal "PlaneFaces$Walk" "PlaneFaces$Walk" "first" "LPlaneFaces$Half;") ∈ lw_all := lw_g (lw_at lw_m3 177 rfl) rfl
theorem q714 : (Jvm.Cond.soleField "PlaneFaces$Walk" "first") ∈ lw_all := lw_g (lw_at lw_m3 178 rfl) rfl
theorem q715 : (Jvm.Cond.lays "PlaneFaces$Walk" "PlaneFaces$Walk" "at" "LPlaneFaces$Half;") ∈ lw_all := lw_g (lw_at lw_m3 179 rfl) rfl
theorem q716 : (Jvm.Cond.soleField "PlaneFaces$Walk" "at") ∈ lw_all := lw_g (lw_at lw_m3 180 rfl) rfl
theorem q717 : (Jvm.Cond.lays "PlaneFaces$Walk" "PlaneFaces$Walk" "isDone" "Z") ∈ lw_all := lw_g (lw_at lw_m3 181 rfl) rfl
theorem q718 : (Jvm.Cond.soleField "PlaneFaces$Walk" "isDone") ∈ lw_all := lw_g (lw_at lw_m3 182 rfl) rfl
theorem q719 : (Jvm.Cond.superclass "PlaneFaces$Walk" "java/lang/Object") ∈ lw_all := lw_g (lw_at lw_m3 183 rfl) rfl
theorem q724 : (Jvm.Cond.castable "PlaneFaces$Walk" "java/util/Iterator") ∈ lw_tbl := lw_at lw_m3 188 rfl
theorem q725 : (Jvm.Cond.selects "PlaneFaces$Walk" ({ cls := "java/util/Iterator", name := "hasNext", desc := "()Z" } : Jvm.MethodName) ({ cls := "PlaneFaces$Walk", name := "hasNext", desc := "()Z" } : Jvm.MethodName)) ∈ lw_all := lw_g (lw_at lw_m3 189 rfl) rfl
theorem q726 : (Jvm.Cond.unhidden "PlaneFaces$Walk" "hasNext" "()Z") ∈ lw_tbl := lw_at lw_m3 190 rfl
theorem q727 : (Jvm.Cond.instanceMethod ({ cls := "PlaneFaces$Walk", name := "hasNext", desc := "()Z" } : Jvm.MethodName)) ∈ lw_all := lw_g (lw_at lw_m3 191 rfl) rfl
theorem q728 : (Jvm.Cond.publicMethod ({ cls := "PlaneFaces$Walk", name := "hasNext", desc := "()Z" } : Jvm.MethodName)) ∈ lw_tbl := lw_at lw_m3 192 rfl
theorem q729 : (Jvm.Cond.code ({ cls := "PlaneFaces$Walk", name := "hasNext", desc := "()Z" } : Jvm.MethodName) prog_6_method_2_code (1 : Nat) (Option.some Jvm.ClassFile.FieldType.boolean)) ∈ lw_all := lw_g (lw_at lw_m3 193 rfl) rfl
theorem q734 : (Jvm.Cond.selects "PlaneFaces$Walk" ({ cls := "java/util/Iterator", name := "next", desc := "()Ljava/lang/Object;" } : Jvm.MethodName) ({ cls := "PlaneFaces$Walk", name := "next", desc := "()Ljava/lang/Object;" } : Jvm.MethodName)) ∈ lw_all := lw_g (lw_at lw_m3 198 rfl) rfl
theorem q735 : (Jvm.Cond.unhidden "PlaneFaces$Walk" "next" "()Ljava/lang/Object;") ∈ lw_tbl := lw_at lw_m3 199 rfl
theorem q736 : (Jvm.Cond.instanceMethod ({ cls := "PlaneFaces$Walk", name := "next", desc := "()Ljava/lang/Object;" } : Jvm.MethodName)) ∈ lw_all := lw_g (lw_at lw_m3 200 rfl) rfl
theorem q737 : (Jvm.Cond.publicMethod ({ cls := "PlaneFaces$Walk", name := "next", desc := "()Ljava/lang/Object;" } : Jvm.MethodName)) ∈ lw_tbl := lw_at lw_m3 201 rfl
theorem q738 : (Jvm.Cond.code ({ cls := "PlaneFaces$Walk", name := "next", desc := "()Ljava/lang/Object;" } : Jvm.MethodName) prog_6_method_4_code (1 : Nat) (Option.some (Jvm.ClassFile.FieldType.object "java/lang/Object"))) ∈ lw_all := lw_g (lw_at lw_m3 202 rfl) rfl
theorem q739 : (Jvm.Cond.methodLink "PlaneFaces$Walk" (25 : Nat) ({ cls := "PlaneFaces$Walk", name := "next", desc := "()LPlaneFaces$Half;" } : Jvm.MethodName)) ∈ lw_all := lw_g (lw_at lw_m3 203 rfl) rfl
theorem q740 : (Jvm.Cond.instanceMethod ({ cls := "PlaneFaces$Walk", name := "next", desc := "()LPlaneFaces$Half;" } : Jvm.MethodName)) ∈ lw_all := lw_g (lw_at lw_m3 204 rfl) rfl
theorem q741 : (Jvm.Cond.selects "PlaneFaces$Walk" ({ cls := "PlaneFaces$Walk", name := "next", desc := "()LPlaneFaces$Half;" } : Jvm.MethodName) ({ cls := "PlaneFaces$Walk", name := "next", desc := "()LPlaneFaces$Half;" } : Jvm.MethodName)) ∈ lw_all := lw_g (lw_at lw_m3 205 rfl) rfl
theorem q742 : (Jvm.Cond.code ({ cls := "PlaneFaces$Walk", name := "next", desc := "()LPlaneFaces$Half;" } : Jvm.MethodName) prog_6_method_3_code (2 : Nat) (Option.some (Jvm.ClassFile.FieldType.object "PlaneFaces$Half"))) ∈ lw_all := lw_g (lw_at lw_m3 206 rfl) rfl
theorem q1295 : (Jvm.Cond.castable "PlaneFaces$Walk" "java/lang/Object") ∈ lw_tbl := lw_at lw_m6 39 rfl
theorem in_X6 : ∀ w ∈ wsX60, w ∈ lw_all := lw_in wsX60 [713, 715, 717] (by decide +kernel) (by decide +kernel)
/-! PlaneFaces$Face -/
def RX7 : String := "PlaneFaces$Face"
def TX7 : u_T := fun k => match k with
  | 0 => ("PlaneFaces$Face", "rounds", "Ljava/util/ArrayList;", true)
  | 1 => ("PlaneFaces$Face", "least", "I", false)
  | _ => ("PlaneFaces$Face", "distance", "I", false)
def tyX7 : Nat → FieldType := fun k => match k with
  | 0 => .object "java/util/ArrayList"
  | 1 => .int
  | _ => .int
abbrev wsX70 : List Cond := u_ws RX7 TX7 3
theorem nmX7 : ∀ a, a < 3 → ∀ b, b < 3 → a ≠ b → (TX7 a).2.1 ≠ (TX7 b).2.1 := by decide +kernel
theorem tyX7_ok : ∀ k, k < 3 → parseFieldDescriptor (TX7 k).2.2.1 = some (tyX7 k) := by decide +kernel
abbrev cX7_init : ByteArray := prog_2_method_1_code
def yX7_init : MethodName := ⟨RX7, "<init>", "()V"⟩
abbrev cX7_add : ByteArray := prog_2_method_2_code
def yX7_add : MethodName := ⟨RX7, "add", "(LPlaneFaces$Round;)V"⟩
abbrev cX7_area : ByteArray := prog_2_method_3_code
def yX7_area : MethodName := ⟨RX7, "area", "()J"⟩
theorem q85 : (Jvm.Cond.initialized "PlaneFaces$Face") ∈ lw_all := lw_g (lw_at lw_m1 29 rfl) rfl
theorem q275 : (Jvm.Cond.selects "PlaneFaces$Face" ({ cls := "java/lang/Object", name := "getClass", desc := "()Ljava/lang/Class;" } : Jvm.MethodName) ({ cls := "java/lang/Object", name := "getClass", desc := "()Ljava/lang/Class;" } : Jvm.MethodName)) ∈ lw_all := lw_g (lw_at lw_m1 219 rfl) rfl
theorem q693 : (Jvm.Cond.fieldLinkNest "PlaneFaces$Face" (22 : Nat) "PlaneFaces$Round" "face" "LPlaneFaces$Face;" "PlaneFaces") ∈ lw_tbl := lw_at lw_m3 157 rfl
theorem q748 : (Jvm.Cond.instantiable "PlaneFaces$Face" (3 : Nat)) ∈ lw_all := lw_g (lw_at lw_m3 212 rfl) rfl
theorem q750 : (Jvm.Cond.instanceMethod ({ cls := "PlaneFaces$Face", name := "<init>", desc := "()V" } : Jvm.MethodName)) ∈ lw_all := lw_g (lw_at lw_m3 214 rfl) rfl
theorem q751 : (Jvm.Cond.code ({ cls := "PlaneFaces$Face", name := "<init>", desc := "()V" } : Jvm.MethodName) prog_2_method_1_code (1 : Nat) (Option.none : Option Jvm.ClassFile.FieldType)) ∈ lw_all := lw_g (lw_at lw_m3 215 rfl) rfl
theorem q752 : (Jvm.Cond.methodLink "PlaneFaces$Face" (3 : Nat) ({ cls := "java/lang/Object", name := "<init>", desc := "()V" } : Jvm.MethodName)) ∈ lw_all := lw_g (lw_at lw_m3 216 rfl) rfl
theorem q753 : (Jvm.Cond.classLink "PlaneFaces$Face" (9 : Nat) "java/util/ArrayList") ∈ lw_all := lw_g (lw_at lw_m3 217 rfl) rfl
theorem q754 : (Jvm.Cond.methodLink "PlaneFaces$Face" (11 : Nat) ({ cls := "java/util/ArrayList", name := "<init>", desc := "()V" } : Jvm.MethodName)) ∈ lw_all := lw_g (lw_at lw_m3 218 rfl) rfl
theorem q755 : (Jvm.Cond.fieldLink "PlaneFaces$Face" (12 : Nat) "PlaneFaces$Face" "rounds" "Ljava/util/ArrayList;") ∈ lw_all := lw_g (lw_at lw_m3 219 rfl) rfl
theorem q757 : (Jvm.Cond.fieldLink "PlaneFaces$Face" (18 : Nat) "PlaneFaces$Face" "least" "I") ∈ lw_all := lw_g (lw_at lw_m3 221 rfl) rfl
theorem q760 : (Jvm.Cond.laysFinal "PlaneFaces$Face" "PlaneFaces$Face" "rounds" "Ljava/util/ArrayList;") ∈ lw_all := lw_g (lw_at lw_m3 224 rfl) rfl
theorem q761 : (Jvm.Cond.soleField "PlaneFaces$Face" "rounds") ∈ lw_all := lw_g (lw_at lw_m3 225 rfl) rfl
theorem q762 : (Jvm.Cond.lays "PlaneFaces$Face" "PlaneFaces$Face" "least" "I") ∈ lw_all := lw_g (lw_at lw_m3 226 rfl) rfl
theorem q763 : (Jvm.Cond.soleField "PlaneFaces$Face" "least") ∈ lw_all := lw_g (lw_at lw_m3 227 rfl) rfl
theorem q764 : (Jvm.Cond.lays "PlaneFaces$Face" "PlaneFaces$Face" "distance" "I") ∈ lw_all := lw_g (lw_at lw_m3 228 rfl) rfl
theorem q765 : (Jvm.Cond.soleField "PlaneFaces$Face" "distance") ∈ lw_all := lw_g (lw_at lw_m3 229 rfl) rfl
theorem q766 : (Jvm.Cond.superclass "PlaneFaces$Face" "java/lang/Object") ∈ lw_all := lw_g (lw_at lw_m3 230 rfl) rfl
theorem q779 : (Jvm.Cond.instanceMethod ({ cls := "PlaneFaces$Face", name := "add", desc := "(LPlaneFaces$Round;)V" } : Jvm.MethodName)) ∈ lw_all := lw_g (lw_at lw_m4 3 rfl) rfl
theorem q780 : (Jvm.Cond.selects "PlaneFaces$Face" ({ cls := "PlaneFaces$Face", name := "add", desc := "(LPlaneFaces$Round;)V" } : Jvm.MethodName) ({ cls := "PlaneFaces$Face", name := "add", desc := "(LPlaneFaces$Round;)V" } : Jvm.MethodName)) ∈ lw_all := lw_g (lw_at lw_m4 4 rfl) rfl
theorem q781 : (Jvm.Cond.code ({ cls := "PlaneFaces$Face", name := "add", desc := "(LPlaneFaces$Round;)V" } : Jvm.MethodName) prog_2_method_2_code (2 : Nat) (Option.none : Option Jvm.ClassFile.FieldType)) ∈ lw_all := lw_g (lw_at lw_m4 5 rfl) rfl
theorem q782 : (Jvm.Cond.methodLink "PlaneFaces$Face" (28 : Nat) ({ cls := "java/util/ArrayList", name := "add", desc := "(Ljava/lang/Object;)Z" } : Jvm.MethodName)) ∈ lw_all := lw_g (lw_at lw_m4 6 rfl) rfl
theorem q783 : (Jvm.Cond.methodLink "PlaneFaces$Face" (32 : Nat) ({ cls := "PlaneFaces$Round", name := "least", desc := "()I" } : Jvm.MethodName)) ∈ lw_all := lw_g (lw_at lw_m4 7 rfl) rfl
theorem q788 : (Jvm.Cond.methodLink "PlaneFaces$Face" (35 : Nat) ({ cls := "java/lang/Math", name := "min", desc := "(II)I" } : Jvm.MethodName)) ∈ lw_all := lw_g (lw_at lw_m4 12 rfl) rfl
theorem q989 : (Jvm.Cond.instanceMethod ({ cls := "PlaneFaces$Face", name := "area", desc := "()J" } : Jvm.MethodName)) ∈ lw_all := lw_g (lw_at lw_m4 213 rfl) rfl
theorem q990 : (Jvm.Cond.selects "PlaneFaces$Face" ({ cls := "PlaneFaces$Face", name := "area", desc := "()J" } : Jvm.MethodName) ({ cls := "PlaneFaces$Face", name := "area", desc := "()J" } : Jvm.MethodName)) ∈ lw_all := lw_g (lw_at lw_m4 214 rfl) rfl
theorem q991 : (Jvm.Cond.code ({ cls := "PlaneFaces$Face", name := "area", desc := "()J" } : Jvm.MethodName) prog_2_method_3_code (4 : Nat) (Option.some Jvm.ClassFile.FieldType.long)) ∈ lw_all := lw_g (lw_at lw_m4 215 rfl) rfl
theorem q992 : (Jvm.Cond.methodLink "PlaneFaces$Face" (41 : Nat) ({ cls := "java/util/ArrayList", name := "size", desc := "()I" } : Jvm.MethodName)) ∈ lw_all := lw_g (lw_at lw_m4 216 rfl) rfl
theorem q993 : (Jvm.Cond.methodLink "PlaneFaces$Face" (44 : Nat) ({ cls := "java/util/ArrayList", name := "get", desc := "(I)Ljava/lang/Object;" } : Jvm.MethodName)) ∈ lw_all := lw_g (lw_at lw_m4 217 rfl) rfl
theorem q994 : (Jvm.Cond.classLink "PlaneFaces$Face" (23 : Nat) "PlaneFaces$Round") ∈ lw_all := lw_g (lw_at lw_m4 218 rfl) rfl
theorem q995 : (Jvm.Cond.methodLink "PlaneFaces$Face" (48 : Nat) ({ cls := "PlaneFaces$Round", name := "area", desc := "()J" } : Jvm.MethodName)) ∈ lw_all := lw_g (lw_at lw_m4 219 rfl) rfl
theorem q1296 : (Jvm.Cond.castable "PlaneFaces$Face" "java/lang/Object") ∈ lw_tbl := lw_at lw_m6 40 rfl
theorem in_X7 : ∀ w ∈ wsX70, w ∈ lw_all := lw_in wsX70 [760, 762, 764] (by decide +kernel) (by decide +kernel)
/-! java/util/AbstractCollection -/
def RJ0 : String := "java/util/AbstractCollection"
abbrev cJ0_init : ByteArray := prog_28_method_1_code
def yJ0_init : MethodName := ⟨RJ0, "<init>", "()V"⟩
theorem q58 : (Jvm.Cond.initialized "java/util/AbstractCollection") ∈ lw_all := lw_g (lw_at lw_m1 2 rfl) rfl
theorem q104 : (Jvm.Cond.instanceMethod ({ cls := "java/util/AbstractCollection", name := "<init>", desc := "()V" } : Jvm.MethodName)) ∈ lw_all := lw_g (lw_at lw_m1 48 rfl) rfl
theorem q105 : (Jvm.Cond.code ({ cls := "java/util/AbstractCollection", name := "<init>", desc := "()V" } : Jvm.MethodName) prog_28_method_1_code (1 : Nat) (Option.none : Option Jvm.ClassFile.FieldType)) ∈ lw_all := lw_g (lw_at lw_m1 49 rfl) rfl
theorem q106 : (Jvm.Cond.methodLink "java/util/AbstractCollection" (1 : Nat) ({ cls := "java/lang/Object", name := "<init>", desc := "()V" } : Jvm.MethodName)) ∈ lw_all := lw_g (lw_at lw_m1 50 rfl) rfl
/-! java/util/AbstractList -/
def RJ1 : String := "java/util/AbstractList"
abbrev cJ1_init : ByteArray := prog_29_method_1_code
def yJ1_init : MethodName := ⟨RJ1, "<init>", "()V"⟩
theorem q59 : (Jvm.Cond.initialized "java/util/AbstractList") ∈ lw_all := lw_g (lw_at lw_m1 3 rfl) rfl
theorem q101 : (Jvm.Cond.instanceMethod ({ cls := "java/util/AbstractList", name := "<init>", desc := "()V" } : Jvm.MethodName)) ∈ lw_all := lw_g (lw_at lw_m1 45 rfl) rfl
theorem q102 : (Jvm.Cond.code ({ cls := "java/util/AbstractList", name := "<init>", desc := "()V" } : Jvm.MethodName) prog_29_method_1_code (1 : Nat) (Option.none : Option Jvm.ClassFile.FieldType)) ∈ lw_all := lw_g (lw_at lw_m1 46 rfl) rfl
theorem q103 : (Jvm.Cond.methodLink "java/util/AbstractList" (1 : Nat) ({ cls := "java/util/AbstractCollection", name := "<init>", desc := "()V" } : Jvm.MethodName)) ∈ lw_all := lw_g (lw_at lw_m1 47 rfl) rfl
theorem q111 : (Jvm.Cond.fieldLink "java/util/AbstractList" (7 : Nat) "java/util/AbstractList" "modCount" "I") ∈ lw_all := lw_g (lw_at lw_m1 55 rfl) rfl
theorem q119 : (Jvm.Cond.soleField "java/util/AbstractList" "modCount") ∈ lw_all := lw_g (lw_at lw_m1 63 rfl) rfl
/-! java/util/ArrayList -/
def RJ2 : String := "java/util/ArrayList"
def TJ2 : u_T := fun k => match k with
  | 0 => ("java/util/AbstractList", "modCount", "I", false)
  | 1 => ("java/util/ArrayList", "elementData", "[Ljava/lang/Object;", false)
  | _ => ("java/util/ArrayList", "size", "I", false)
def tyJ2 : Nat → FieldType := fun k => match k with
  | 0 => .int
  | 1 => .array (.object "java/lang/Object")
  | _ => .int
abbrev wsJ20 : List Cond := u_ws RJ2 TJ2 3
theorem nmJ2 : ∀ a, a < 3 → ∀ b, b < 3 → a ≠ b → (TJ2 a).2.1 ≠ (TJ2 b).2.1 := by decide +kernel
theorem tyJ2_ok : ∀ k, k < 3 → parseFieldDescriptor (TJ2 k).2.2.1 = some (tyJ2 k) := by decide +kernel
abbrev cJ2_init : ByteArray := prog_30_method_2_code
def yJ2_init : MethodName := ⟨RJ2, "<init>", "()V"⟩
abbrev cJ2_clear : ByteArray := prog_30_method_40_code
def yJ2_clear : MethodName := ⟨RJ2, "clear", "()V"⟩
abbrev cJ2_size : ByteArray := prog_30_method_8_code
def yJ2_size : MethodName := ⟨RJ2, "size", "()I"⟩
abbrev cJ2_get : ByteArray := prog_30_method_20_code
def yJ2_get : MethodName := ⟨RJ2, "get", "(I)Ljava/lang/Object;"⟩
abbrev cJ2_elementData : ByteArray := prog_30_method_18_code
def yJ2_elementData : MethodName := ⟨RJ2, "elementData", "(I)Ljava/lang/Object;"⟩
abbrev cJ2_add : ByteArray := prog_30_method_25_code
def yJ2_add : MethodName := ⟨RJ2, "add", "(Ljava/lang/Object;)Z"⟩
abbrev cJ2_add_2 : ByteArray := prog_30_method_24_code
def yJ2_add_2 : MethodName := ⟨RJ2, "add", "(Ljava/lang/Object;[Ljava/lang/Object;I)V"⟩
abbrev cJ2_grow : ByteArray := prog_30_method_7_code
def yJ2_grow : MethodName := ⟨RJ2, "grow", "()[Ljava/lang/Object;"⟩
abbrev cJ2_grow_2 : ByteArray := prog_30_method_6_code
def yJ2_grow_2 : MethodName := ⟨RJ2, "grow", "(I)[Ljava/lang/Object;"⟩
abbrev cJ2_add_3 : ByteArray := prog_30_method_26_code
def yJ2_add_3 : MethodName := ⟨RJ2, "add", "(ILjava/lang/Object;)V"⟩
abbrev cJ2_rangeCheckForAdd : ByteArray := prog_30_method_45_code
def yJ2_rangeCheckForAdd : MethodName := ⟨RJ2, "rangeCheckForAdd", "(I)V"⟩
abbrev cJ2_outOfBoundsMsg : ByteArray := prog_30_method_46_code
def yJ2_outOfBoundsMsg : MethodName := ⟨RJ2, "outOfBoundsMsg", "(I)Ljava/lang/String;"⟩
abbrev cJ2_remove : ByteArray := prog_30_method_29_code
def yJ2_remove : MethodName := ⟨RJ2, "remove", "(I)Ljava/lang/Object;"⟩
abbrev cJ2_fastRemove : ByteArray := prog_30_method_39_code
def yJ2_fastRemove : MethodName := ⟨RJ2, "fastRemove", "([Ljava/lang/Object;I)V"⟩
abbrev cJ2_isEmpty : ByteArray := prog_30_method_9_code
def yJ2_isEmpty : MethodName := ⟨RJ2, "isEmpty", "()Z"⟩
theorem q60 : (Jvm.Cond.initialized "java/util/ArrayList") ∈ lw_all := lw_g (lw_at lw_m1 4 rfl) rfl
theorem q96 : (Jvm.Cond.instantiable "java/util/ArrayList" (3 : Nat)) ∈ lw_all := lw_g (lw_at lw_m1 40 rfl) rfl
theorem q98 : (Jvm.Cond.instanceMethod ({ cls := "java/util/ArrayList", name := "<init>", desc := "()V" } : Jvm.MethodName)) ∈ lw_all := lw_g (lw_at lw_m1 42 rfl) rfl
theorem q99 : (Jvm.Cond.code ({ cls := "java/util/ArrayList", name := "<init>", desc := "()V" } : Jvm.MethodName) prog_30_method_2_code (1 : Nat) (Option.none : Option Jvm.ClassFile.FieldType)) ∈ lw_all := lw_g (lw_at lw_m1 43 rfl) rfl
theorem q100 : (Jvm.Cond.methodLink "java/util/ArrayList" (1 : Nat) ({ cls := "java/util/AbstractList", name := "<init>", desc := "()V" } : Jvm.MethodName)) ∈ lw_all := lw_g (lw_at lw_m1 44 rfl) rfl
theorem q107 : (Jvm.Cond.fieldLink "java/util/ArrayList" (39 : Nat) "java/util/ArrayList" "DEFAULTCAPACITY_EMPTY_ELEMENTDATA" "[Ljava/lang/Object;") ∈ lw_all := lw_g (lw_at lw_m1 51 rfl) rfl
theorem q108 : (Jvm.Cond.laysStatic "java/util/ArrayList" "DEFAULTCAPACITY_EMPTY_ELEMENTDATA" "[Ljava/lang/Object;") ∈ lw_tbl := lw_at lw_m1 52 rfl
theorem q109 : (Jvm.Cond.fieldLink "java/util/ArrayList" (9 : Nat) "java/util/ArrayList" "elementData" "[Ljava/lang/Object;") ∈ lw_all := lw_g (lw_at lw_m1 53 rfl) rfl
theorem q110 : (Jvm.Cond.fieldLink "java/util/ArrayList" (48 : Nat) "java/util/ArrayList" "size" "I") ∈ lw_all := lw_g (lw_at lw_m1 54 rfl) rfl
theorem q112 : (Jvm.Cond.fieldLink "java/util/ArrayList" (63 : Nat) "java/util/ArrayList" "modCount" "I") ∈ lw_all := lw_g (lw_at lw_m1 56 rfl) rfl
theorem q113 : (Jvm.Cond.sameField "java/util/ArrayList" "java/util/AbstractList" "modCount" "I") ∈ lw_all := lw_g (lw_at lw_m1 57 rfl) rfl
theorem q114 : (Jvm.Cond.lays "java/util/ArrayList" "java/util/ArrayList" "elementData" "[Ljava/lang/Object;") ∈ lw_all := lw_g (lw_at lw_m1 58 rfl) rfl
theorem q115 : (Jvm.Cond.soleField "java/util/ArrayList" "elementData") ∈ lw_all := lw_g (lw_at lw_m1 59 rfl) rfl
theorem q116 : (Jvm.Cond.lays "java/util/ArrayList" "java/util/ArrayList" "size" "I") ∈ lw_all := lw_g (lw_at lw_m1 60 rfl) rfl
theorem q117 : (Jvm.Cond.soleField "java/util/ArrayList" "size") ∈ lw_all := lw_g (lw_at lw_m1 61 rfl) rfl
theorem q118 : (Jvm.Cond.lays "java/util/ArrayList" "java/util/AbstractList" "modCount" "I") ∈ lw_all := lw_g (lw_at lw_m1 62 rfl) rfl
theorem q120 : (Jvm.Cond.superclass "java/util/ArrayList" "java/util/AbstractList") ∈ lw_all := lw_g (lw_at lw_m1 64 rfl) rfl
theorem q191 : (Jvm.Cond.instanceMethod ({ cls := "java/util/ArrayList", name := "clear", desc := "()V" } : Jvm.MethodName)) ∈ lw_all := lw_g (lw_at lw_m1 135 rfl) rfl
theorem q192 : (Jvm.Cond.selects "java/util/ArrayList" ({ cls := "java/util/ArrayList", name := "clear", desc := "()V" } : Jvm.MethodName) ({ cls := "java/util/ArrayList", name := "clear", desc := "()V" } : Jvm.MethodName)) ∈ lw_all := lw_g (lw_at lw_m1 136 rfl) rfl
theorem q193 : (Jvm.Cond.code ({ cls := "java/util/ArrayList", name := "clear", desc := "()V" } : Jvm.MethodName) prog_30_method_40_code (4 : Nat) (Option.none : Option Jvm.ClassFile.FieldType)) ∈ lw_all := lw_g (lw_at lw_m1 137 rfl) rfl
theorem q200 : (Jvm.Cond.instanceMethod ({ cls := "java/util/ArrayList", name := "size", desc := "()I" } : Jvm.MethodName)) ∈ lw_all := lw_g (lw_at lw_m1 144 rfl) rfl
theorem q201 : (Jvm.Cond.selects "java/util/ArrayList" ({ cls := "java/util/ArrayList", name := "size", desc := "()I" } : Jvm.MethodName) ({ cls := "java/util/ArrayList", name := "size", desc := "()I" } : Jvm.MethodName)) ∈ lw_all := lw_g (lw_at lw_m1 145 rfl) rfl
theorem q202 : (Jvm.Cond.code ({ cls := "java/util/ArrayList", name := "size", desc := "()I" } : Jvm.MethodName) prog_30_method_8_code (1 : Nat) (Option.some Jvm.ClassFile.FieldType.int)) ∈ lw_all := lw_g (lw_at lw_m1 146 rfl) rfl
theorem q204 : (Jvm.Cond.instanceMethod ({ cls := "java/util/ArrayList", name := "get", desc := "(I)Ljava/lang/Object;" } : Jvm.MethodName)) ∈ lw_all := lw_g (lw_at lw_m1 148 rfl) rfl
theorem q205 : (Jvm.Cond.selects "java/util/ArrayList" ({ cls := "java/util/ArrayList", name := "get", desc := "(I)Ljava/lang/Object;" } : Jvm.MethodName) ({ cls := "java/util/ArrayList", name := "get", desc := "(I)Ljava/lang/Object;" } : Jvm.MethodName)) ∈ lw_all := lw_g (lw_at lw_m1 149 rfl) rfl
theorem q206 : (Jvm.Cond.code ({ cls := "java/util/ArrayList", name := "get", desc := "(I)Ljava/lang/Object;" } : Jvm.MethodName) prog_30_method_20_code (2 : Nat) (Option.some (Jvm.ClassFile.FieldType.object "java/lang/Object"))) ∈ lw_all := lw_g (lw_at lw_m1 150 rfl) rfl
theorem q207 : (Jvm.Cond.methodLink "java/util/ArrayList" (118 : Nat) ({ cls := "java/util/Objects", name := "checkIndex", desc := "(II)I" } : Jvm.MethodName)) ∈ lw_all := lw_g (lw_at lw_m1 151 rfl) rfl
theorem q213 : (Jvm.Cond.methodLink "java/util/ArrayList" (123 : Nat) ({ cls := "java/util/ArrayList", name := "elementData", desc := "(I)Ljava/lang/Object;" } : Jvm.MethodName)) ∈ lw_all := lw_g (lw_at lw_m1 157 rfl) rfl
theorem q214 : (Jvm.Cond.instanceMethod ({ cls := "java/util/ArrayList", name := "elementData", desc := "(I)Ljava/lang/Object;" } : Jvm.MethodName)) ∈ lw_all := lw_g (lw_at lw_m1 158 rfl) rfl
theorem q215 : (Jvm.Cond.selects "java/util/ArrayList" ({ cls := "java/util/ArrayList", name := "elementData", desc := "(I)Ljava/lang/Object;" } : Jvm.MethodName) ({ cls := "java/util/ArrayList", name := "elementData", desc := "(I)Ljava/lang/Object;" } : Jvm.MethodName)) ∈ lw_all := lw_g (lw_at lw_m1 159 rfl) rfl
theorem q216 : (Jvm.Cond.code ({ cls := "java/util/ArrayList", name := "elementData", desc := "(I)Ljava/lang/Object;" } : Jvm.MethodName) prog_30_method_18_code (2 : Nat) (Option.some (Jvm.ClassFile.FieldType.object "java/lang/Object"))) ∈ lw_all := lw_g (lw_at lw_m1 160 rfl) rfl
theorem q243 : (Jvm.Cond.instanceMethod ({ cls := "java/util/ArrayList", name := "add", desc := "(Ljava/lang/Object;)Z" } : Jvm.MethodName)) ∈ lw_all := lw_g (lw_at lw_m1 187 rfl) rfl
theorem q244 : (Jvm.Cond.selects "java/util/ArrayList" ({ cls := "java/util/ArrayList", name := "add", desc := "(Ljava/lang/Object;)Z" } : Jvm.MethodName) ({ cls := "java/util/ArrayList", name := "add", desc := "(Ljava/lang/Object;)Z" } : Jvm.MethodName)) ∈ lw_all := lw_g (lw_at lw_m1 188 rfl) rfl
theorem q245 : (Jvm.Cond.code ({ cls := "java/util/ArrayList", name := "add", desc := "(Ljava/lang/Object;)Z" } : Jvm.MethodName) prog_30_method_25_code (2 : Nat) (Option.some Jvm.ClassFile.FieldType.boolean)) ∈ lw_all := lw_g (lw_at lw_m1 189 rfl) rfl
theorem q246 : (Jvm.Cond.methodLink "java/util/ArrayList" (131 : Nat) ({ cls := "java/util/ArrayList", name := "add", desc := "(Ljava/lang/Object;[Ljava/lang/Object;I)V" } : Jvm.MethodName)) ∈ lw_all := lw_g (lw_at lw_m1 190 rfl) rfl
theorem q247 : (Jvm.Cond.privateMethod ({ cls := "java/util/ArrayList", name := "add", desc := "(Ljava/lang/Object;[Ljava/lang/Object;I)V" } : Jvm.MethodName)) ∈ lw_tbl := lw_at lw_m1 191 rfl
theorem q248 : (Jvm.Cond.instanceMethod ({ cls := "java/util/ArrayList", name := "add", desc := "(Ljava/lang/Object;[Ljava/lang/Object;I)V" } : Jvm.MethodName)) ∈ lw_all := lw_g (lw_at lw_m1 192 rfl) rfl
theorem q249 : (Jvm.Cond.code ({ cls := "java/util/ArrayList", name := "add", desc := "(Ljava/lang/Object;[Ljava/lang/Object;I)V" } : Jvm.MethodName) prog_30_method_24_code (4 : Nat) (Option.none : Option Jvm.ClassFile.FieldType)) ∈ lw_all := lw_g (lw_at lw_m1 193 rfl) rfl
theorem q250 : (Jvm.Cond.methodLink "java/util/ArrayList" (129 : Nat) ({ cls := "java/util/ArrayList", name := "grow", desc := "()[Ljava/lang/Object;" } : Jvm.MethodName)) ∈ lw_all := lw_g (lw_at lw_m1 194 rfl) rfl
theorem q251 : (Jvm.Cond.privateMethod ({ cls := "java/util/ArrayList", name := "grow", desc := "()[Ljava/lang/Object;" } : Jvm.MethodName)) ∈ lw_tbl := lw_at lw_m1 195 rfl
theorem q252 : (Jvm.Cond.instanceMethod ({ cls := "java/util/ArrayList", name := "grow", desc := "()[Ljava/lang/Object;" } : Jvm.MethodName)) ∈ lw_all := lw_g (lw_at lw_m1 196 rfl) rfl
theorem q253 : (Jvm.Cond.code ({ cls := "java/util/ArrayList", name := "grow", desc := "()[Ljava/lang/Object;" } : Jvm.MethodName) prog_30_method_7_code (1 : Nat) (Option.some (Jvm.ClassFile.FieldType.array (Jvm.ClassFile.FieldType.object "java/lang/Object")))) ∈ lw_all := lw_g (lw_at lw_m1 197 rfl) rfl
theorem q254 : (Jvm.Cond.methodLink "java/util/ArrayList" (69 : Nat) ({ cls := "java/util/ArrayList", name := "grow", desc := "(I)[Ljava/lang/Object;" } : Jvm.MethodName)) ∈ lw_all := lw_g (lw_at lw_m1 198 rfl) rfl
theorem q255 : (Jvm.Cond.privateMethod ({ cls := "java/util/ArrayList", name := "grow", desc := "(I)[Ljava/lang/Object;" } : Jvm.MethodName)) ∈ lw_tbl := lw_at lw_m1 199 rfl
theorem q256 : (Jvm.Cond.instanceMethod ({ cls := "java/util/ArrayList", name := "grow", desc := "(I)[Ljava/lang/Object;" } : Jvm.MethodName)) ∈ lw_all := lw_g (lw_at lw_m1 200 rfl) rfl
theorem q257 : (Jvm.Cond.code ({ cls := "java/util/ArrayList", name := "grow", desc := "(I)[Ljava/lang/Object;" } : Jvm.MethodName) prog_30_method_6_code (4 : Nat) (Option.some (Jvm.ClassFile.FieldType.array (Jvm.ClassFile.FieldType.object "java/lang/Object")))) ∈ lw_all := lw_g (lw_at lw_m1 201 rfl) rfl
theorem q258 : (Jvm.Cond.methodLink "java/util/ArrayList" (73 : Nat) ({ cls := "jdk/internal/util/ArraysSupport", name := "newLength", desc := "(III)I" } : Jvm.MethodName)) ∈ lw_all := lw_g (lw_at lw_m1 202 rfl) rfl
theorem q268 : (Jvm.Cond.methodLink "java/util/ArrayList" (66 : Nat) ({ cls := "java/util/Arrays", name := "copyOf", desc := "([Ljava/lang/Object;I)[Ljava/lang/Object;" } : Jvm.MethodName)) ∈ lw_all := lw_g (lw_at lw_m1 212 rfl) rfl
theorem q287 : (Jvm.Cond.selects "java/util/ArrayList" ({ cls := "java/lang/Object", name := "getClass", desc := "()Ljava/lang/Class;" } : Jvm.MethodName) ({ cls := "java/lang/Object", name := "getClass", desc := "()Ljava/lang/Class;" } : Jvm.MethodName)) ∈ lw_all := lw_g (lw_at lw_m1 231 rfl) rfl
theorem q301 : (Jvm.Cond.methodLink "java/util/ArrayList" (79 : Nat) ({ cls := "java/lang/Math", name := "max", desc := "(II)I" } : Jvm.MethodName)) ∈ lw_all := lw_g (lw_at lw_m2 5 rfl) rfl
theorem q302 : (Jvm.Cond.classLink "java/util/ArrayList" (7 : Nat) "java/lang/Object") ∈ lw_all := lw_g (lw_at lw_m2 6 rfl) rfl
theorem q358 : (Jvm.Cond.instanceMethod ({ cls := "java/util/ArrayList", name := "add", desc := "(ILjava/lang/Object;)V" } : Jvm.MethodName)) ∈ lw_all := lw_g (lw_at lw_m2 62 rfl) rfl
theorem q359 : (Jvm.Cond.selects "java/util/ArrayList" ({ cls := "java/util/ArrayList", name := "add", desc := "(ILjava/lang/Object;)V" } : Jvm.MethodName) ({ cls := "java/util/ArrayList", name := "add", desc := "(ILjava/lang/Object;)V" } : Jvm.MethodName)) ∈ lw_all := lw_g (lw_at lw_m2 63 rfl) rfl
theorem q360 : (Jvm.Cond.code ({ cls := "java/util/ArrayList", name := "add", desc := "(ILjava/lang/Object;)V" } : Jvm.MethodName) prog_30_method_26_code (5 : Nat) (Option.none : Option Jvm.ClassFile.FieldType)) ∈ lw_all := lw_g (lw_at lw_m2 64 rfl) rfl
theorem q361 : (Jvm.Cond.methodLink "java/util/ArrayList" (135 : Nat) ({ cls := "java/util/ArrayList", name := "rangeCheckForAdd", desc := "(I)V" } : Jvm.MethodName)) ∈ lw_all := lw_g (lw_at lw_m2 65 rfl) rfl
theorem q362 : (Jvm.Cond.privateMethod ({ cls := "java/util/ArrayList", name := "rangeCheckForAdd", desc := "(I)V" } : Jvm.MethodName)) ∈ lw_tbl := lw_at lw_m2 66 rfl
theorem q363 : (Jvm.Cond.instanceMethod ({ cls := "java/util/ArrayList", name := "rangeCheckForAdd", desc := "(I)V" } : Jvm.MethodName)) ∈ lw_all := lw_g (lw_at lw_m2 67 rfl) rfl
theorem q364 : (Jvm.Cond.code ({ cls := "java/util/ArrayList", name := "rangeCheckForAdd", desc := "(I)V" } : Jvm.MethodName) prog_30_method_45_code (2 : Nat) (Option.none : Option Jvm.ClassFile.FieldType)) ∈ lw_all := lw_g (lw_at lw_m2 68 rfl) rfl
theorem q365 : (Jvm.Cond.classLink "java/util/ArrayList" (187 : Nat) "java/lang/IndexOutOfBoundsException") ∈ lw_all := lw_g (lw_at lw_m2 69 rfl) rfl
theorem q407 : (Jvm.Cond.methodLink "java/util/ArrayList" (198 : Nat) ({ cls := "java/util/ArrayList", name := "outOfBoundsMsg", desc := "(I)Ljava/lang/String;" } : Jvm.MethodName)) ∈ lw_all := lw_g (lw_at lw_m2 111 rfl) rfl
theorem q408 : (Jvm.Cond.privateMethod ({ cls := "java/util/ArrayList", name := "outOfBoundsMsg", desc := "(I)Ljava/lang/String;" } : Jvm.MethodName)) ∈ lw_tbl := lw_at lw_m2 112 rfl
theorem q409 : (Jvm.Cond.instanceMethod ({ cls := "java/util/ArrayList", name := "outOfBoundsMsg", desc := "(I)Ljava/lang/String;" } : Jvm.MethodName)) ∈ lw_all := lw_g (lw_at lw_m2 113 rfl) rfl
theorem q410 : (Jvm.Cond.code ({ cls := "java/util/ArrayList", name := "outOfBoundsMsg", desc := "(I)Ljava/lang/String;" } : Jvm.MethodName) prog_30_method_46_code (2 : Nat) (Option.some (Jvm.ClassFile.FieldType.object "java/lang/String"))) ∈ lw_all := lw_g (lw_at lw_m2 114 rfl) rfl
theorem q411 : (Jvm.Cond.classLink "java/util/ArrayList" (20 : Nat) "java/lang/StringBuilder") ∈ lw_all := lw_g (lw_at lw_m2 115 rfl) rfl
theorem q413 : (Jvm.Cond.methodLink "java/util/ArrayList" (22 : Nat) ({ cls := "java/lang/StringBuilder", name := "<init>", desc := "()V" } : Jvm.MethodName)) ∈ lw_all := lw_g (lw_at lw_m2 117 rfl) rfl
theorem q443 : (Jvm.Cond.stringRef "java/util/ArrayList" (201 : Nat) "Index: ") ∈ lw_tbl := lw_at lw_m2 147 rfl
theorem q444 : (Jvm.Cond.methodLink "java/util/ArrayList" (25 : Nat) ({ cls := "java/lang/StringBuilder", name := "append", desc := "(Ljava/lang/String;)Ljava/lang/StringBuilder;" } : Jvm.MethodName)) ∈ lw_all := lw_g (lw_at lw_m2 148 rfl) rfl
theorem q549 : (Jvm.Cond.methodLink "java/util/ArrayList" (29 : Nat) ({ cls := "java/lang/StringBuilder", name := "append", desc := "(I)Ljava/lang/StringBuilder;" } : Jvm.MethodName)) ∈ lw_all := lw_g (lw_at lw_m3 13 rfl) rfl
theorem q574 : (Jvm.Cond.stringRef "java/util/ArrayList" (203 : Nat) ", Size: ") ∈ lw_tbl := lw_at lw_m3 38 rfl
theorem q575 : (Jvm.Cond.methodLink "java/util/ArrayList" (32 : Nat) ({ cls := "java/lang/StringBuilder", name := "toString", desc := "()Ljava/lang/String;" } : Jvm.MethodName)) ∈ lw_all := lw_g (lw_at lw_m3 39 rfl) rfl
theorem q675 : (Jvm.Cond.methodLink "java/util/ArrayList" (193 : Nat) ({ cls := "java/lang/IndexOutOfBoundsException", name := "<init>", desc := "(Ljava/lang/String;)V" } : Jvm.MethodName)) ∈ lw_all := lw_g (lw_at lw_m3 139 rfl) rfl
theorem q681 : (Jvm.Cond.methodLink "java/util/ArrayList" (112 : Nat) ({ cls := "java/lang/System", name := "arraycopy", desc := "(Ljava/lang/Object;ILjava/lang/Object;II)V" } : Jvm.MethodName)) ∈ lw_all := lw_g (lw_at lw_m3 145 rfl) rfl
theorem q840 : (Jvm.Cond.instanceMethod ({ cls := "java/util/ArrayList", name := "remove", desc := "(I)Ljava/lang/Object;" } : Jvm.MethodName)) ∈ lw_all := lw_g (lw_at lw_m4 64 rfl) rfl
theorem q841 : (Jvm.Cond.selects "java/util/ArrayList" ({ cls := "java/util/ArrayList", name := "remove", desc := "(I)Ljava/lang/Object;" } : Jvm.MethodName) ({ cls := "java/util/ArrayList", name := "remove", desc := "(I)Ljava/lang/Object;" } : Jvm.MethodName)) ∈ lw_all := lw_g (lw_at lw_m4 65 rfl) rfl
theorem q842 : (Jvm.Cond.code ({ cls := "java/util/ArrayList", name := "remove", desc := "(I)Ljava/lang/Object;" } : Jvm.MethodName) prog_30_method_29_code (4 : Nat) (Option.some (Jvm.ClassFile.FieldType.object "java/lang/Object"))) ∈ lw_all := lw_g (lw_at lw_m4 66 rfl) rfl
theorem q843 : (Jvm.Cond.methodLink "java/util/ArrayList" (144 : Nat) ({ cls := "java/util/ArrayList", name := "fastRemove", desc := "([Ljava/lang/Object;I)V" } : Jvm.MethodName)) ∈ lw_all := lw_g (lw_at lw_m4 67 rfl) rfl
theorem q844 : (Jvm.Cond.privateMethod ({ cls := "java/util/ArrayList", name := "fastRemove", desc := "([Ljava/lang/Object;I)V" } : Jvm.MethodName)) ∈ lw_tbl := lw_at lw_m4 68 rfl
theorem q845 : (Jvm.Cond.instanceMethod ({ cls := "java/util/ArrayList", name := "fastRemove", desc := "([Ljava/lang/Object;I)V" } : Jvm.MethodName)) ∈ lw_all := lw_g (lw_at lw_m4 69 rfl) rfl
theorem q846 : (Jvm.Cond.code ({ cls := "java/util/ArrayList", name := "fastRemove", desc := "([Ljava/lang/Object;I)V" } : Jvm.MethodName) prog_30_method_39_code (4 : Nat) (Option.none : Option Jvm.ClassFile.FieldType)) ∈ lw_all := lw_g (lw_at lw_m4 70 rfl) rfl
theorem q1012 : (Jvm.Cond.instanceMethod ({ cls := "java/util/ArrayList", name := "isEmpty", desc := "()Z" } : Jvm.MethodName)) ∈ lw_all := lw_g (lw_at lw_m4 236 rfl) rfl
theorem q1013 : (Jvm.Cond.selects "java/util/ArrayList" ({ cls := "java/util/ArrayList", name := "isEmpty", desc := "()Z" } : Jvm.MethodName) ({ cls := "java/util/ArrayList", name := "isEmpty", desc := "()Z" } : Jvm.MethodName)) ∈ lw_all := lw_g (lw_at lw_m4 237 rfl) rfl
theorem q1014 : (Jvm.Cond.code ({ cls := "java/util/ArrayList", name := "isEmpty", desc := "()Z" } : Jvm.MethodName) prog_30_method_9_code (1 : Nat) (Option.some Jvm.ClassFile.FieldType.boolean)) ∈ lw_all := lw_g (lw_at lw_m4 238 rfl) rfl
theorem q1287 : (Jvm.Cond.castable "java/util/ArrayList" "java/lang/Object") ∈ lw_tbl := lw_at lw_m6 31 rfl
theorem in_J2 : ∀ w ∈ wsJ20, w ∈ lw_all := lw_in wsJ20 [118, 114, 116] (by decide +kernel) (by decide +kernel)
/-! java/lang/Throwable -/
def RJ3 : String := "java/lang/Throwable"
def TJ3 : u_T := fun k => match k with
  | 0 => ("java/lang/Throwable", "cause", "Ljava/lang/Throwable;", false)
  | 1 => ("java/lang/Throwable", "stackTrace", "[Ljava/lang/StackTraceElement;", false)
  | 2 => ("java/lang/Throwable", "suppressedExceptions", "Ljava/util/List;", false)
  | 3 => ("java/lang/Throwable", "detailMessage", "Ljava/lang/String;", false)
  | _ => ("java/lang/Throwable", "backtrace", "Ljava/lang/Object;", false)
def tyJ3 : Nat → FieldType := fun k => match k with
  | 0 => .object "java/lang/Throwable"
  | 1 => .array (.object "java/lang/StackTraceElement")
  | 2 => .object "java/util/List"
  | 3 => .object "java/lang/String"
  | _ => .object "java/lang/Object"
abbrev wsJ30 : List Cond := u_ws RJ3 TJ3 5
theorem nmJ3 : ∀ a, a < 5 → ∀ b, b < 5 → a ≠ b → (TJ3 a).2.1 ≠ (TJ3 b).2.1 := by decide +kernel
theorem tyJ3_ok : ∀ k, k < 5 → parseFieldDescriptor (TJ3 k).2.2.1 = some (tyJ3 k) := by decide +kernel
abbrev cJ3_init : ByteArray := prog_27_method_1_code
def yJ3_init : MethodName := ⟨RJ3, "<init>", "()V"⟩
abbrev cJ3_init_2 : ByteArray := prog_27_method_2_code
def yJ3_init_2 : MethodName := ⟨RJ3, "<init>", "(Ljava/lang/String;)V"⟩
theorem q62 : (Jvm.Cond.initialized "java/lang/Throwable") ∈ lw_all := lw_g (lw_at lw_m1 6 rfl) rfl
theorem q372 : (Jvm.Cond.declares ({ cls := "java/lang/Throwable", name := "<init>", desc := "()V" } : Jvm.MethodName)) ∈ lw_tbl := lw_at lw_m2 76 rfl
theorem q373 : (Jvm.Cond.declares ({ cls := "java/lang/Throwable", name := "<init>", desc := "(Ljava/lang/String;)V" } : Jvm.MethodName)) ∈ lw_tbl := lw_at lw_m2 77 rfl
theorem q377 : (Jvm.Cond.lays "java/lang/Throwable" "java/lang/Throwable" "cause" "Ljava/lang/Throwable;") ∈ lw_all := lw_g (lw_at lw_m2 81 rfl) rfl
theorem q379 : (Jvm.Cond.lays "java/lang/Throwable" "java/lang/Throwable" "stackTrace" "[Ljava/lang/StackTraceElement;") ∈ lw_all := lw_g (lw_at lw_m2 83 rfl) rfl
theorem q381 : (Jvm.Cond.lays "java/lang/Throwable" "java/lang/Throwable" "suppressedExceptions" "Ljava/util/List;") ∈ lw_all := lw_g (lw_at lw_m2 85 rfl) rfl
theorem q383 : (Jvm.Cond.lays "java/lang/Throwable" "java/lang/Throwable" "detailMessage" "Ljava/lang/String;") ∈ lw_all := lw_g (lw_at lw_m2 87 rfl) rfl
theorem q385 : (Jvm.Cond.lays "java/lang/Throwable" "java/lang/Throwable" "backtrace" "Ljava/lang/Object;") ∈ lw_all := lw_g (lw_at lw_m2 89 rfl) rfl
theorem q386 : (Jvm.Cond.fieldLink "java/lang/Throwable" (198 : Nat) "java/lang/Throwable" "backtrace" "Ljava/lang/Object;") ∈ lw_all := lw_g (lw_at lw_m2 90 rfl) rfl
theorem q387 : (Jvm.Cond.superclass "java/lang/Throwable" "java/lang/Object") ∈ lw_all := lw_g (lw_at lw_m2 91 rfl) rfl
theorem q388 : (Jvm.Cond.instanceMethod ({ cls := "java/lang/Throwable", name := "<init>", desc := "()V" } : Jvm.MethodName)) ∈ lw_all := lw_g (lw_at lw_m2 92 rfl) rfl
theorem q389 : (Jvm.Cond.code ({ cls := "java/lang/Throwable", name := "<init>", desc := "()V" } : Jvm.MethodName) prog_27_method_1_code (1 : Nat) (Option.none : Option Jvm.ClassFile.FieldType)) ∈ lw_all := lw_g (lw_at lw_m2 93 rfl) rfl
theorem q390 : (Jvm.Cond.methodLink "java/lang/Throwable" (1 : Nat) ({ cls := "java/lang/Object", name := "<init>", desc := "()V" } : Jvm.MethodName)) ∈ lw_all := lw_g (lw_at lw_m2 94 rfl) rfl
theorem q391 : (Jvm.Cond.fieldLink "java/lang/Throwable" (13 : Nat) "java/lang/Throwable" "UNASSIGNED_STACK" "[Ljava/lang/StackTraceElement;") ∈ lw_all := lw_g (lw_at lw_m2 95 rfl) rfl
theorem q392 : (Jvm.Cond.laysStatic "java/lang/Throwable" "UNASSIGNED_STACK" "[Ljava/lang/StackTraceElement;") ∈ lw_tbl := lw_at lw_m2 96 rfl
theorem q393 : (Jvm.Cond.fieldLink "java/lang/Throwable" (20 : Nat) "java/lang/Throwable" "SUPPRESSED_SENTINEL" "Ljava/util/List;") ∈ lw_all := lw_g (lw_at lw_m2 97 rfl) rfl
theorem q394 : (Jvm.Cond.laysStatic "java/lang/Throwable" "SUPPRESSED_SENTINEL" "Ljava/util/List;") ∈ lw_tbl := lw_at lw_m2 98 rfl
theorem q395 : (Jvm.Cond.methodLink "java/lang/Throwable" (27 : Nat) ({ cls := "java/lang/Throwable", name := "fillInStackTrace", desc := "()Ljava/lang/Throwable;" } : Jvm.MethodName)) ∈ lw_all := lw_g (lw_at lw_m2 99 rfl) rfl
theorem q396 : (Jvm.Cond.instanceMethod ({ cls := "java/lang/Throwable", name := "fillInStackTrace", desc := "()Ljava/lang/Throwable;" } : Jvm.MethodName)) ∈ lw_all := lw_g (lw_at lw_m2 100 rfl) rfl
theorem q397 : (Jvm.Cond.sameMethod "java/lang/Throwable" "java/lang/Throwable" "fillInStackTrace" "()Ljava/lang/Throwable;") ∈ lw_all := lw_g (lw_at lw_m2 101 rfl) rfl
theorem q401 : (Jvm.Cond.codeSync ({ cls := "java/lang/Throwable", name := "fillInStackTrace", desc := "()Ljava/lang/Throwable;" } : Jvm.MethodName) prog_27_method_18_code (1 : Nat) (Option.some (Jvm.ClassFile.FieldType.object "java/lang/Throwable"))) ∈ lw_all := lw_g (lw_at lw_m2 105 rfl) rfl
theorem q402 : (Jvm.Cond.methodLink "java/lang/Throwable" (202 : Nat) ({ cls := "java/lang/Throwable", name := "fillInStackTrace", desc := "(I)Ljava/lang/Throwable;" } : Jvm.MethodName)) ∈ lw_all := lw_g (lw_at lw_m2 106 rfl) rfl
theorem q403 : (Jvm.Cond.privateMethod ({ cls := "java/lang/Throwable", name := "fillInStackTrace", desc := "(I)Ljava/lang/Throwable;" } : Jvm.MethodName)) ∈ lw_tbl := lw_at lw_m2 107 rfl
theorem q404 : (Jvm.Cond.instanceMethod ({ cls := "java/lang/Throwable", name := "fillInStackTrace", desc := "(I)Ljava/lang/Throwable;" } : Jvm.MethodName)) ∈ lw_all := lw_g (lw_at lw_m2 108 rfl) rfl
theorem q405 : (Jvm.Cond.instantiable "java/lang/Throwable" (6 : Nat)) ∈ lw_all := lw_g (lw_at lw_m2 109 rfl) rfl
theorem q406 : (Jvm.Cond.native ({ cls := "java/lang/Throwable", name := "fillInStackTrace", desc := "(I)Ljava/lang/Throwable;" } : Jvm.MethodName)) ∈ lw_all := lw_g (lw_at lw_m2 110 rfl) rfl
theorem q636 : (Jvm.Cond.instanceMethod ({ cls := "java/lang/Throwable", name := "<init>", desc := "(Ljava/lang/String;)V" } : Jvm.MethodName)) ∈ lw_all := lw_g (lw_at lw_m3 100 rfl) rfl
theorem q637 : (Jvm.Cond.code ({ cls := "java/lang/Throwable", name := "<init>", desc := "(Ljava/lang/String;)V" } : Jvm.MethodName) prog_27_method_2_code (2 : Nat) (Option.none : Option Jvm.ClassFile.FieldType)) ∈ lw_all := lw_g (lw_at lw_m3 101 rfl) rfl
theorem q638 : (Jvm.Cond.fieldLink "java/lang/Throwable" (198 : Nat) "java/lang/Throwable" "backtrace" "Ljava/lang/Object;") ∈ lw_all := lw_g (lw_at lw_m3 102 rfl) rfl
theorem q639 : (Jvm.Cond.fieldLink "java/lang/Throwable" (31 : Nat) "java/lang/Throwable" "detailMessage" "Ljava/lang/String;") ∈ lw_all := lw_g (lw_at lw_m3 103 rfl) rfl
theorem q640 : (Jvm.Cond.fieldLink "java/lang/Throwable" (7 : Nat) "java/lang/Throwable" "cause" "Ljava/lang/Throwable;") ∈ lw_all := lw_g (lw_at lw_m3 104 rfl) rfl
theorem q641 : (Jvm.Cond.fieldLink "java/lang/Throwable" (17 : Nat) "java/lang/Throwable" "stackTrace" "[Ljava/lang/StackTraceElement;") ∈ lw_all := lw_g (lw_at lw_m3 105 rfl) rfl
theorem q642 : (Jvm.Cond.fieldLink "java/lang/Throwable" (24 : Nat) "java/lang/Throwable" "suppressedExceptions" "Ljava/util/List;") ∈ lw_all := lw_g (lw_at lw_m3 106 rfl) rfl
theorem q643 : (Jvm.Cond.soleField "java/lang/Throwable" "backtrace") ∈ lw_all := lw_g (lw_at lw_m3 107 rfl) rfl
theorem q644 : (Jvm.Cond.soleField "java/lang/Throwable" "detailMessage") ∈ lw_all := lw_g (lw_at lw_m3 108 rfl) rfl
theorem q645 : (Jvm.Cond.soleField "java/lang/Throwable" "cause") ∈ lw_all := lw_g (lw_at lw_m3 109 rfl) rfl
theorem q646 : (Jvm.Cond.soleField "java/lang/Throwable" "stackTrace") ∈ lw_all := lw_g (lw_at lw_m3 110 rfl) rfl
theorem q648 : (Jvm.Cond.soleField "java/lang/Throwable" "depth") ∈ lw_all := lw_g (lw_at lw_m3 112 rfl) rfl
theorem q649 : (Jvm.Cond.soleField "java/lang/Throwable" "suppressedExceptions") ∈ lw_all := lw_g (lw_at lw_m3 113 rfl) rfl
theorem q1271 : (Jvm.Cond.sameMethod "java/lang/Throwable" "java/lang/Throwable" "fillInStackTrace" "(I)Ljava/lang/Throwable;") ∈ lw_all := lw_g (lw_at lw_m6 15 rfl) rfl
theorem q1298 : (Jvm.Cond.castable "java/lang/Throwable" "java/lang/Object") ∈ lw_tbl := lw_at lw_m6 42 rfl
theorem in_J3 : ∀ w ∈ wsJ30, w ∈ lw_all := lw_in wsJ30 [377, 379, 381, 383, 385] (by decide +kernel) (by decide +kernel)
/-! java/lang/Exception -/
def RJ4 : String := "java/lang/Exception"
abbrev cJ4_init : ByteArray := prog_13_method_2_code
def yJ4_init : MethodName := ⟨RJ4, "<init>", "(Ljava/lang/String;)V"⟩
abbrev cJ4_init_2 : ByteArray := prog_13_method_1_code
def yJ4_init_2 : MethodName := ⟨RJ4, "<init>", "()V"⟩
theorem q63 : (Jvm.Cond.initialized "java/lang/Exception") ∈ lw_all := lw_g (lw_at lw_m1 7 rfl) rfl
theorem q370 : (Jvm.Cond.declares ({ cls := "java/lang/Exception", name := "<init>", desc := "()V" } : Jvm.MethodName)) ∈ lw_tbl := lw_at lw_m2 74 rfl
theorem q371 : (Jvm.Cond.declares ({ cls := "java/lang/Exception", name := "<init>", desc := "(Ljava/lang/String;)V" } : Jvm.MethodName)) ∈ lw_tbl := lw_at lw_m2 75 rfl
theorem q633 : (Jvm.Cond.instanceMethod ({ cls := "java/lang/Exception", name := "<init>", desc := "(Ljava/lang/String;)V" } : Jvm.MethodName)) ∈ lw_all := lw_g (lw_at lw_m3 97 rfl) rfl
theorem q634 : (Jvm.Cond.code ({ cls := "java/lang/Exception", name := "<init>", desc := "(Ljava/lang/String;)V" } : Jvm.MethodName) prog_13_method_2_code (2 : Nat) (Option.none : Option Jvm.ClassFile.FieldType)) ∈ lw_all := lw_g (lw_at lw_m3 98 rfl) rfl
theorem q635 : (Jvm.Cond.methodLink "java/lang/Exception" (7 : Nat) ({ cls := "java/lang/Throwable", name := "<init>", desc := "(Ljava/lang/String;)V" } : Jvm.MethodName)) ∈ lw_all := lw_g (lw_at lw_m3 99 rfl) rfl
theorem q883 : (Jvm.Cond.instanceMethod ({ cls := "java/lang/Exception", name := "<init>", desc := "()V" } : Jvm.MethodName)) ∈ lw_all := lw_g (lw_at lw_m4 107 rfl) rfl
theorem q884 : (Jvm.Cond.code ({ cls := "java/lang/Exception", name := "<init>", desc := "()V" } : Jvm.MethodName) prog_13_method_1_code (1 : Nat) (Option.none : Option Jvm.ClassFile.FieldType)) ∈ lw_all := lw_g (lw_at lw_m4 108 rfl) rfl
theorem q885 : (Jvm.Cond.methodLink "java/lang/Exception" (1 : Nat) ({ cls := "java/lang/Throwable", name := "<init>", desc := "()V" } : Jvm.MethodName)) ∈ lw_all := lw_g (lw_at lw_m4 109 rfl) rfl
/-! java/lang/RuntimeException -/
def RJ5 : String := "java/lang/RuntimeException"
abbrev cJ5_init : ByteArray := prog_21_method_2_code
def yJ5_init : MethodName := ⟨RJ5, "<init>", "(Ljava/lang/String;)V"⟩
abbrev cJ5_init_2 : ByteArray := prog_21_method_1_code
def yJ5_init_2 : MethodName := ⟨RJ5, "<init>", "()V"⟩
theorem q64 : (Jvm.Cond.initialized "java/lang/RuntimeException") ∈ lw_all := lw_g (lw_at lw_m1 8 rfl) rfl
theorem q368 : (Jvm.Cond.declares ({ cls := "java/lang/RuntimeException", name := "<init>", desc := "()V" } : Jvm.MethodName)) ∈ lw_tbl := lw_at lw_m2 72 rfl
theorem q369 : (Jvm.Cond.declares ({ cls := "java/lang/RuntimeException", name := "<init>", desc := "(Ljava/lang/String;)V" } : Jvm.MethodName)) ∈ lw_tbl := lw_at lw_m2 73 rfl
theorem q630 : (Jvm.Cond.instanceMethod ({ cls := "java/lang/RuntimeException", name := "<init>", desc := "(Ljava/lang/String;)V" } : Jvm.MethodName)) ∈ lw_all := lw_g (lw_at lw_m3 94 rfl) rfl
theorem q631 : (Jvm.Cond.code ({ cls := "java/lang/RuntimeException", name := "<init>", desc := "(Ljava/lang/String;)V" } : Jvm.MethodName) prog_21_method_2_code (2 : Nat) (Option.none : Option Jvm.ClassFile.FieldType)) ∈ lw_all := lw_g (lw_at lw_m3 95 rfl) rfl
theorem q632 : (Jvm.Cond.methodLink "java/lang/RuntimeException" (7 : Nat) ({ cls := "java/lang/Exception", name := "<init>", desc := "(Ljava/lang/String;)V" } : Jvm.MethodName)) ∈ lw_all := lw_g (lw_at lw_m3 96 rfl) rfl
theorem q880 : (Jvm.Cond.instanceMethod ({ cls := "java/lang/RuntimeException", name := "<init>", desc := "()V" } : Jvm.MethodName)) ∈ lw_all := lw_g (lw_at lw_m4 104 rfl) rfl
theorem q881 : (Jvm.Cond.code ({ cls := "java/lang/RuntimeException", name := "<init>", desc := "()V" } : Jvm.MethodName) prog_21_method_1_code (1 : Nat) (Option.none : Option Jvm.ClassFile.FieldType)) ∈ lw_all := lw_g (lw_at lw_m4 105 rfl) rfl
theorem q882 : (Jvm.Cond.methodLink "java/lang/RuntimeException" (1 : Nat) ({ cls := "java/lang/Exception", name := "<init>", desc := "()V" } : Jvm.MethodName)) ∈ lw_all := lw_g (lw_at lw_m4 106 rfl) rfl
/-! java/lang/IllegalArgumentException -/
def RJ6 : String := "java/lang/IllegalArgumentException"
def TJ6 : u_T := fun k => match k with
  | 0 => ("java/lang/Throwable", "cause", "Ljava/lang/Throwable;", false)
  | 1 => ("java/lang/Throwable", "stackTrace", "[Ljava/lang/StackTraceElement;", false)
  | 2 => ("java/lang/Throwable", "suppressedExceptions", "Ljava/util/List;", false)
  | 3 => ("java/lang/Throwable", "detailMessage", "Ljava/lang/String;", false)
  | 4 => ("java/lang/Throwable", "backtrace", "Ljava/lang/Object;", false)
  | _ => ("java/lang/Throwable", "depth", "I", false)
def tyJ6 : Nat → FieldType := fun k => match k with
  | 0 => .object "java/lang/Throwable"
  | 1 => .array (.object "java/lang/StackTraceElement")
  | 2 => .object "java/util/List"
  | 3 => .object "java/lang/String"
  | 4 => .object "java/lang/Object"
  | _ => .int
abbrev wsJ60 : List Cond := u_ws RJ6 TJ6 6
theorem nmJ6 : ∀ a, a < 6 → ∀ b, b < 6 → a ≠ b → (TJ6 a).2.1 ≠ (TJ6 b).2.1 := by decide +kernel
theorem tyJ6_ok : ∀ k, k < 6 → parseFieldDescriptor (TJ6 k).2.2.1 = some (tyJ6 k) := by decide +kernel
abbrev cJ6_init : ByteArray := prog_14_method_2_code
def yJ6_init : MethodName := ⟨RJ6, "<init>", "(Ljava/lang/String;)V"⟩
abbrev cJ6_init_2 : ByteArray := prog_14_method_1_code
def yJ6_init_2 : MethodName := ⟨RJ6, "<init>", "()V"⟩
theorem q65 : (Jvm.Cond.initialized "java/lang/IllegalArgumentException") ∈ lw_all := lw_g (lw_at lw_m1 9 rfl) rfl
theorem q282 : (Jvm.Cond.selects "java/lang/IllegalArgumentException" ({ cls := "java/lang/Object", name := "getClass", desc := "()Ljava/lang/Class;" } : Jvm.MethodName) ({ cls := "java/lang/Object", name := "getClass", desc := "()Ljava/lang/Class;" } : Jvm.MethodName)) ∈ lw_all := lw_g (lw_at lw_m1 226 rfl) rfl
theorem q399 : (Jvm.Cond.selects "java/lang/IllegalArgumentException" ({ cls := "java/lang/Throwable", name := "fillInStackTrace", desc := "()Ljava/lang/Throwable;" } : Jvm.MethodName) ({ cls := "java/lang/Throwable", name := "fillInStackTrace", desc := "()Ljava/lang/Throwable;" } : Jvm.MethodName)) ∈ lw_all := lw_g (lw_at lw_m2 103 rfl) rfl
theorem q612 : (Jvm.Cond.instantiable "java/lang/IllegalArgumentException" (6 : Nat)) ∈ lw_all := lw_g (lw_at lw_m3 76 rfl) rfl
theorem q613 : (Jvm.Cond.castable "java/lang/IllegalArgumentException" "java/lang/IllegalArgumentException") ∈ lw_tbl := lw_at lw_m3 77 rfl
theorem q614 : (Jvm.Cond.selects "java/lang/IllegalArgumentException" ({ cls := "java/lang/Throwable", name := "fillInStackTrace", desc := "(I)Ljava/lang/Throwable;" } : Jvm.MethodName) ({ cls := "java/lang/Throwable", name := "fillInStackTrace", desc := "(I)Ljava/lang/Throwable;" } : Jvm.MethodName)) ∈ lw_all := lw_g (lw_at lw_m3 78 rfl) rfl
theorem q615 : (Jvm.Cond.lays "java/lang/IllegalArgumentException" "java/lang/Throwable" "cause" "Ljava/lang/Throwable;") ∈ lw_all := lw_g (lw_at lw_m3 79 rfl) rfl
theorem q616 : (Jvm.Cond.lays "java/lang/IllegalArgumentException" "java/lang/Throwable" "stackTrace" "[Ljava/lang/StackTraceElement;") ∈ lw_all := lw_g (lw_at lw_m3 80 rfl) rfl
theorem q617 : (Jvm.Cond.lays "java/lang/IllegalArgumentException" "java/lang/Throwable" "suppressedExceptions" "Ljava/util/List;") ∈ lw_all := lw_g (lw_at lw_m3 81 rfl) rfl
theorem q618 : (Jvm.Cond.lays "java/lang/IllegalArgumentException" "java/lang/Throwable" "detailMessage" "Ljava/lang/String;") ∈ lw_all := lw_g (lw_at lw_m3 82 rfl) rfl
theorem q619 : (Jvm.Cond.lays "java/lang/IllegalArgumentException" "java/lang/Throwable" "backtrace" "Ljava/lang/Object;") ∈ lw_all := lw_g (lw_at lw_m3 83 rfl) rfl
theorem q627 : (Jvm.Cond.instanceMethod ({ cls := "java/lang/IllegalArgumentException", name := "<init>", desc := "(Ljava/lang/String;)V" } : Jvm.MethodName)) ∈ lw_all := lw_g (lw_at lw_m3 91 rfl) rfl
theorem q628 : (Jvm.Cond.code ({ cls := "java/lang/IllegalArgumentException", name := "<init>", desc := "(Ljava/lang/String;)V" } : Jvm.MethodName) prog_14_method_2_code (2 : Nat) (Option.none : Option Jvm.ClassFile.FieldType)) ∈ lw_all := lw_g (lw_at lw_m3 92 rfl) rfl
theorem q629 : (Jvm.Cond.methodLink "java/lang/IllegalArgumentException" (7 : Nat) ({ cls := "java/lang/RuntimeException", name := "<init>", desc := "(Ljava/lang/String;)V" } : Jvm.MethodName)) ∈ lw_all := lw_g (lw_at lw_m3 93 rfl) rfl
theorem q647 : (Jvm.Cond.lays "java/lang/IllegalArgumentException" "java/lang/Throwable" "depth" "I") ∈ lw_all := lw_g (lw_at lw_m3 111 rfl) rfl
theorem q650 : (Jvm.Cond.superclass "java/lang/IllegalArgumentException" "java/lang/RuntimeException") ∈ lw_all := lw_g (lw_at lw_m3 114 rfl) rfl
theorem q877 : (Jvm.Cond.instanceMethod ({ cls := "java/lang/IllegalArgumentException", name := "<init>", desc := "()V" } : Jvm.MethodName)) ∈ lw_all := lw_g (lw_at lw_m4 101 rfl) rfl
theorem q878 : (Jvm.Cond.code ({ cls := "java/lang/IllegalArgumentException", name := "<init>", desc := "()V" } : Jvm.MethodName) prog_14_method_1_code (1 : Nat) (Option.none : Option Jvm.ClassFile.FieldType)) ∈ lw_all := lw_g (lw_at lw_m4 102 rfl) rfl
theorem q879 : (Jvm.Cond.methodLink "java/lang/IllegalArgumentException" (1 : Nat) ({ cls := "java/lang/RuntimeException", name := "<init>", desc := "()V" } : Jvm.MethodName)) ∈ lw_all := lw_g (lw_at lw_m4 103 rfl) rfl
theorem q1289 : (Jvm.Cond.castable "java/lang/IllegalArgumentException" "java/lang/Object") ∈ lw_tbl := lw_at lw_m6 33 rfl
theorem in_J6 : ∀ w ∈ wsJ60, w ∈ lw_all := lw_in wsJ60 [615, 616, 617, 618, 619, 647] (by decide +kernel) (by decide +kernel)
/-! java/lang/IllegalStateException -/
def RJ7 : String := "java/lang/IllegalStateException"
def TJ7 : u_T := fun k => match k with
  | 0 => ("java/lang/Throwable", "cause", "Ljava/lang/Throwable;", false)
  | 1 => ("java/lang/Throwable", "stackTrace", "[Ljava/lang/StackTraceElement;", false)
  | 2 => ("java/lang/Throwable", "suppressedExceptions", "Ljava/util/List;", false)
  | 3 => ("java/lang/Throwable", "detailMessage", "Ljava/lang/String;", false)
  | 4 => ("java/lang/Throwable", "backtrace", "Ljava/lang/Object;", false)
  | _ => ("java/lang/Throwable", "depth", "I", false)
def tyJ7 : Nat → FieldType := fun k => match k with
  | 0 => .object "java/lang/Throwable"
  | 1 => .array (.object "java/lang/StackTraceElement")
  | 2 => .object "java/util/List"
  | 3 => .object "java/lang/String"
  | 4 => .object "java/lang/Object"
  | _ => .int
abbrev wsJ70 : List Cond := u_ws RJ7 TJ7 6
theorem nmJ7 : ∀ a, a < 6 → ∀ b, b < 6 → a ≠ b → (TJ7 a).2.1 ≠ (TJ7 b).2.1 := by decide +kernel
theorem tyJ7_ok : ∀ k, k < 6 → parseFieldDescriptor (TJ7 k).2.2.1 = some (tyJ7 k) := by decide +kernel
abbrev cJ7_init : ByteArray := prog_15_method_1_code
def yJ7_init : MethodName := ⟨RJ7, "<init>", "()V"⟩
theorem q66 : (Jvm.Cond.initialized "java/lang/IllegalStateException") ∈ lw_all := lw_g (lw_at lw_m1 10 rfl) rfl
theorem q283 : (Jvm.Cond.selects "java/lang/IllegalStateException" ({ cls := "java/lang/Object", name := "getClass", desc := "()Ljava/lang/Class;" } : Jvm.MethodName) ({ cls := "java/lang/Object", name := "getClass", desc := "()Ljava/lang/Class;" } : Jvm.MethodName)) ∈ lw_all := lw_g (lw_at lw_m1 227 rfl) rfl
theorem q400 : (Jvm.Cond.selects "java/lang/IllegalStateException" ({ cls := "java/lang/Throwable", name := "fillInStackTrace", desc := "()Ljava/lang/Throwable;" } : Jvm.MethodName) ({ cls := "java/lang/Throwable", name := "fillInStackTrace", desc := "()Ljava/lang/Throwable;" } : Jvm.MethodName)) ∈ lw_all := lw_g (lw_at lw_m2 104 rfl) rfl
theorem q887 : (Jvm.Cond.instantiable "java/lang/IllegalStateException" (6 : Nat)) ∈ lw_all := lw_g (lw_at lw_m4 111 rfl) rfl
theorem q888 : (Jvm.Cond.castable "java/lang/IllegalStateException" "java/lang/IllegalStateException") ∈ lw_tbl := lw_at lw_m4 112 rfl
theorem q889 : (Jvm.Cond.selects "java/lang/IllegalStateException" ({ cls := "java/lang/Throwable", name := "fillInStackTrace", desc := "(I)Ljava/lang/Throwable;" } : Jvm.MethodName) ({ cls := "java/lang/Throwable", name := "fillInStackTrace", desc := "(I)Ljava/lang/Throwable;" } : Jvm.MethodName)) ∈ lw_all := lw_g (lw_at lw_m4 113 rfl) rfl
theorem q890 : (Jvm.Cond.lays "java/lang/IllegalStateException" "java/lang/Throwable" "cause" "Ljava/lang/Throwable;") ∈ lw_all := lw_g (lw_at lw_m4 114 rfl) rfl
theorem q891 : (Jvm.Cond.lays "java/lang/IllegalStateException" "java/lang/Throwable" "stackTrace" "[Ljava/lang/StackTraceElement;") ∈ lw_all := lw_g (lw_at lw_m4 115 rfl) rfl
theorem q892 : (Jvm.Cond.lays "java/lang/IllegalStateException" "java/lang/Throwable" "suppressedExceptions" "Ljava/util/List;") ∈ lw_all := lw_g (lw_at lw_m4 116 rfl) rfl
theorem q893 : (Jvm.Cond.lays "java/lang/IllegalStateException" "java/lang/Throwable" "detailMessage" "Ljava/lang/String;") ∈ lw_all := lw_g (lw_at lw_m4 117 rfl) rfl
theorem q894 : (Jvm.Cond.lays "java/lang/IllegalStateException" "java/lang/Throwable" "backtrace" "Ljava/lang/Object;") ∈ lw_all := lw_g (lw_at lw_m4 118 rfl) rfl
theorem q896 : (Jvm.Cond.instanceMethod ({ cls := "java/lang/IllegalStateException", name := "<init>", desc := "()V" } : Jvm.MethodName)) ∈ lw_all := lw_g (lw_at lw_m4 120 rfl) rfl
theorem q897 : (Jvm.Cond.code ({ cls := "java/lang/IllegalStateException", name := "<init>", desc := "()V" } : Jvm.MethodName) prog_15_method_1_code (1 : Nat) (Option.none : Option Jvm.ClassFile.FieldType)) ∈ lw_all := lw_g (lw_at lw_m4 121 rfl) rfl
theorem q898 : (Jvm.Cond.methodLink "java/lang/IllegalStateException" (1 : Nat) ({ cls := "java/lang/RuntimeException", name := "<init>", desc := "()V" } : Jvm.MethodName)) ∈ lw_all := lw_g (lw_at lw_m4 122 rfl) rfl
theorem q899 : (Jvm.Cond.lays "java/lang/IllegalStateException" "java/lang/Throwable" "depth" "I") ∈ lw_all := lw_g (lw_at lw_m4 123 rfl) rfl
theorem q900 : (Jvm.Cond.superclass "java/lang/IllegalStateException" "java/lang/RuntimeException") ∈ lw_all := lw_g (lw_at lw_m4 124 rfl) rfl
theorem q1290 : (Jvm.Cond.castable "java/lang/IllegalStateException" "java/lang/Object") ∈ lw_tbl := lw_at lw_m6 34 rfl
theorem in_J7 : ∀ w ∈ wsJ70, w ∈ lw_all := lw_in wsJ70 [890, 891, 892, 893, 894, 899] (by decide +kernel) (by decide +kernel)
/-! java/lang/Long -/
def RJ8 : String := "java/lang/Long"
abbrev cJ8_signum : ByteArray := prog_19_method_57_code
def yJ8_signum : MethodName := ⟨RJ8, "signum", "(J)I"⟩
theorem q67 : (Jvm.Cond.initialized "java/lang/Long") ∈ lw_all := lw_g (lw_at lw_m1 11 rfl) rfl
theorem q821 : (Jvm.Cond.static ({ cls := "java/lang/Long", name := "signum", desc := "(J)I" } : Jvm.MethodName)) ∈ lw_all := lw_g (lw_at lw_m4 45 rfl) rfl
theorem q822 : (Jvm.Cond.code ({ cls := "java/lang/Long", name := "signum", desc := "(J)I" } : Jvm.MethodName) prog_19_method_57_code (2 : Nat) (Option.some Jvm.ClassFile.FieldType.int)) ∈ lw_all := lw_g (lw_at lw_m4 46 rfl) rfl
/-! java/lang/Math -/
def RJ9 : String := "java/lang/Math"
abbrev cJ9_max : ByteArray := prog_20_method_65_code
def yJ9_max : MethodName := ⟨RJ9, "max", "(II)I"⟩
abbrev cJ9_min : ByteArray := prog_20_method_69_code
def yJ9_min : MethodName := ⟨RJ9, "min", "(II)I"⟩
theorem q68 : (Jvm.Cond.initialized "java/lang/Math") ∈ lw_all := lw_g (lw_at lw_m1 12 rfl) rfl
theorem q262 : (Jvm.Cond.static ({ cls := "java/lang/Math", name := "max", desc := "(II)I" } : Jvm.MethodName)) ∈ lw_all := lw_g (lw_at lw_m1 206 rfl) rfl
theorem q263 : (Jvm.Cond.code ({ cls := "java/lang/Math", name := "max", desc := "(II)I" } : Jvm.MethodName) prog_20_method_65_code (2 : Nat) (Option.some Jvm.ClassFile.FieldType.int)) ∈ lw_all := lw_g (lw_at lw_m1 207 rfl) rfl
theorem q296 : (Jvm.Cond.static ({ cls := "java/lang/Math", name := "min", desc := "(II)I" } : Jvm.MethodName)) ∈ lw_all := lw_g (lw_at lw_m2 0 rfl) rfl
theorem q297 : (Jvm.Cond.code ({ cls := "java/lang/Math", name := "min", desc := "(II)I" } : Jvm.MethodName) prog_20_method_69_code (2 : Nat) (Option.some Jvm.ClassFile.FieldType.int)) ∈ lw_all := lw_g (lw_at lw_m2 1 rfl) rfl
/-! java/util/Objects -/
def RJ10 : String := "java/util/Objects"
abbrev cJ10_checkIndex : ByteArray := prog_35_method_17_code
def yJ10_checkIndex : MethodName := ⟨RJ10, "checkIndex", "(II)I"⟩
theorem q70 : (Jvm.Cond.initialized "java/util/Objects") ∈ lw_all := lw_g (lw_at lw_m1 14 rfl) rfl
theorem q208 : (Jvm.Cond.static ({ cls := "java/util/Objects", name := "checkIndex", desc := "(II)I" } : Jvm.MethodName)) ∈ lw_all := lw_g (lw_at lw_m1 152 rfl) rfl
theorem q209 : (Jvm.Cond.code ({ cls := "java/util/Objects", name := "checkIndex", desc := "(II)I" } : Jvm.MethodName) prog_35_method_17_code (2 : Nat) (Option.some Jvm.ClassFile.FieldType.int)) ∈ lw_all := lw_g (lw_at lw_m1 153 rfl) rfl
theorem q210 : (Jvm.Cond.methodLink "java/util/Objects" (105 : Nat) ({ cls := "jdk/internal/util/Preconditions", name := "checkIndex", desc := "(IILjava/util/function/BiFunction;)I" } : Jvm.MethodName)) ∈ lw_all := lw_g (lw_at lw_m1 154 rfl) rfl
/-! jdk/internal/util/Preconditions -/
def RJ11 : String := "jdk/internal/util/Preconditions"
abbrev cJ11_checkIndex : ByteArray := prog_39_method_11_code
def yJ11_checkIndex : MethodName := ⟨RJ11, "checkIndex", "(IILjava/util/function/BiFunction;)I"⟩
abbrev cJ11_checkFromToIndex : ByteArray := prog_39_method_12_code
def yJ11_checkFromToIndex : MethodName := ⟨RJ11, "checkFromToIndex", "(IIILjava/util/function/BiFunction;)I"⟩
abbrev cJ11_checkFromIndexSize : ByteArray := prog_39_method_13_code
def yJ11_checkFromIndexSize : MethodName := ⟨RJ11, "checkFromIndexSize", "(IIILjava/util/function/BiFunction;)I"⟩
theorem q71 : (Jvm.Cond.initialized "jdk/internal/util/Preconditions") ∈ lw_all := lw_g (lw_at lw_m1 15 rfl) rfl
theorem q211 : (Jvm.Cond.static ({ cls := "jdk/internal/util/Preconditions", name := "checkIndex", desc := "(IILjava/util/function/BiFunction;)I" } : Jvm.MethodName)) ∈ lw_all := lw_g (lw_at lw_m1 155 rfl) rfl
theorem q212 : (Jvm.Cond.code ({ cls := "jdk/internal/util/Preconditions", name := "checkIndex", desc := "(IILjava/util/function/BiFunction;)I" } : Jvm.MethodName) prog_39_method_11_code (3 : Nat) (Option.some Jvm.ClassFile.FieldType.int)) ∈ lw_all := lw_g (lw_at lw_m1 156 rfl) rfl
theorem q493 : (Jvm.Cond.laysStatic "jdk/internal/util/Preconditions" "SIOOBE_FORMATTER" "Ljava/util/function/BiFunction;") ∈ lw_tbl := lw_at lw_m2 197 rfl
theorem q495 : (Jvm.Cond.static ({ cls := "jdk/internal/util/Preconditions", name := "checkFromToIndex", desc := "(IIILjava/util/function/BiFunction;)I" } : Jvm.MethodName)) ∈ lw_all := lw_g (lw_at lw_m2 199 rfl) rfl
theorem q496 : (Jvm.Cond.code ({ cls := "jdk/internal/util/Preconditions", name := "checkFromToIndex", desc := "(IIILjava/util/function/BiFunction;)I" } : Jvm.MethodName) prog_39_method_12_code (4 : Nat) (Option.some Jvm.ClassFile.FieldType.int)) ∈ lw_all := lw_g (lw_at lw_m2 200 rfl) rfl
theorem q541 : (Jvm.Cond.static ({ cls := "jdk/internal/util/Preconditions", name := "checkFromIndexSize", desc := "(IIILjava/util/function/BiFunction;)I" } : Jvm.MethodName)) ∈ lw_all := lw_g (lw_at lw_m3 5 rfl) rfl
theorem q542 : (Jvm.Cond.code ({ cls := "jdk/internal/util/Preconditions", name := "checkFromIndexSize", desc := "(IIILjava/util/function/BiFunction;)I" } : Jvm.MethodName) prog_39_method_13_code (4 : Nat) (Option.some Jvm.ClassFile.FieldType.int)) ∈ lw_all := lw_g (lw_at lw_m3 6 rfl) rfl
/-! jdk/internal/util/ArraysSupport -/
def RJ12 : String := "jdk/internal/util/ArraysSupport"
abbrev cJ12_newLength : ByteArray := prog_38_method_27_code
def yJ12_newLength : MethodName := ⟨RJ12, "newLength", "(III)I"⟩
abbrev cJ12_hugeLength : ByteArray := prog_38_method_28_code
def yJ12_hugeLength : MethodName := ⟨RJ12, "hugeLength", "(II)I"⟩
theorem q73 : (Jvm.Cond.initialized "jdk/internal/util/ArraysSupport") ∈ lw_all := lw_g (lw_at lw_m1 17 rfl) rfl
theorem q259 : (Jvm.Cond.static ({ cls := "jdk/internal/util/ArraysSupport", name := "newLength", desc := "(III)I" } : Jvm.MethodName)) ∈ lw_all := lw_g (lw_at lw_m1 203 rfl) rfl
theorem q260 : (Jvm.Cond.code ({ cls := "jdk/internal/util/ArraysSupport", name := "newLength", desc := "(III)I" } : Jvm.MethodName) prog_38_method_27_code (4 : Nat) (Option.some Jvm.ClassFile.FieldType.int)) ∈ lw_all := lw_g (lw_at lw_m1 204 rfl) rfl
theorem q261 : (Jvm.Cond.methodLink "jdk/internal/util/ArraysSupport" (194 : Nat) ({ cls := "java/lang/Math", name := "max", desc := "(II)I" } : Jvm.MethodName)) ∈ lw_all := lw_g (lw_at lw_m1 205 rfl) rfl
theorem q264 : (Jvm.Cond.constant "jdk/internal/util/ArraysSupport" (200 : Nat) (2147483639 : Int32)) ∈ lw_all := lw_g (lw_at lw_m1 208 rfl) rfl
theorem q265 : (Jvm.Cond.methodLink "jdk/internal/util/ArraysSupport" (201 : Nat) ({ cls := "jdk/internal/util/ArraysSupport", name := "hugeLength", desc := "(II)I" } : Jvm.MethodName)) ∈ lw_all := lw_g (lw_at lw_m1 209 rfl) rfl
theorem q266 : (Jvm.Cond.static ({ cls := "jdk/internal/util/ArraysSupport", name := "hugeLength", desc := "(II)I" } : Jvm.MethodName)) ∈ lw_all := lw_g (lw_at lw_m1 210 rfl) rfl
theorem q267 : (Jvm.Cond.code ({ cls := "jdk/internal/util/ArraysSupport", name := "hugeLength", desc := "(II)I" } : Jvm.MethodName) prog_38_method_28_code (3 : Nat) (Option.some Jvm.ClassFile.FieldType.int)) ∈ lw_all := lw_g (lw_at lw_m1 211 rfl) rfl
/-! java/util/Arrays -/
def RJ13 : String := "java/util/Arrays"
abbrev cJ13_copyOf : ByteArray := prog_31_method_119_code
def yJ13_copyOf : MethodName := ⟨RJ13, "copyOf", "([Ljava/lang/Object;I)[Ljava/lang/Object;"⟩
abbrev cJ13_copyOf_2 : ByteArray := prog_31_method_120_code
def yJ13_copyOf_2 : MethodName := ⟨RJ13, "copyOf", "([Ljava/lang/Object;ILjava/lang/Class;)[Ljava/lang/Object;"⟩
abbrev cJ13_copyOf_3 : ByteArray := prog_31_method_121_code
def yJ13_copyOf_3 : MethodName := ⟨RJ13, "copyOf", "([BI)[B"⟩
abbrev cJ13_copyOfRange : ByteArray := prog_31_method_132_code
def yJ13_copyOfRange : MethodName := ⟨RJ13, "copyOfRange", "([BII)[B"⟩
abbrev cJ13_copyOfRangeByte : ByteArray := prog_31_method_133_code
def yJ13_copyOfRangeByte : MethodName := ⟨RJ13, "copyOfRangeByte", "([BII)[B"⟩
abbrev cJ13_checkLength : ByteArray := prog_31_method_131_code
def yJ13_checkLength : MethodName := ⟨RJ13, "checkLength", "(II)V"⟩
theorem q74 : (Jvm.Cond.initialized "java/util/Arrays") ∈ lw_all := lw_g (lw_at lw_m1 18 rfl) rfl
theorem q269 : (Jvm.Cond.static ({ cls := "java/util/Arrays", name := "copyOf", desc := "([Ljava/lang/Object;I)[Ljava/lang/Object;" } : Jvm.MethodName)) ∈ lw_all := lw_g (lw_at lw_m1 213 rfl) rfl
theorem q270 : (Jvm.Cond.code ({ cls := "java/util/Arrays", name := "copyOf", desc := "([Ljava/lang/Object;I)[Ljava/lang/Object;" } : Jvm.MethodName) prog_31_method_119_code (2 : Nat) (Option.some (Jvm.ClassFile.FieldType.array (Jvm.ClassFile.FieldType.object "java/lang/Object")))) ∈ lw_all := lw_g (lw_at lw_m1 214 rfl) rfl
theorem q271 : (Jvm.Cond.methodLink "java/util/Arrays" (86 : Nat) ({ cls := "java/lang/Object", name := "getClass", desc := "()Ljava/lang/Class;" } : Jvm.MethodName)) ∈ lw_all := lw_g (lw_at lw_m1 215 rfl) rfl
theorem q289 : (Jvm.Cond.methodLink "java/util/Arrays" (300 : Nat) ({ cls := "java/util/Arrays", name := "copyOf", desc := "([Ljava/lang/Object;ILjava/lang/Class;)[Ljava/lang/Object;" } : Jvm.MethodName)) ∈ lw_all := lw_g (lw_at lw_m1 233 rfl) rfl
theorem q290 : (Jvm.Cond.static ({ cls := "java/util/Arrays", name := "copyOf", desc := "([Ljava/lang/Object;ILjava/lang/Class;)[Ljava/lang/Object;" } : Jvm.MethodName)) ∈ lw_all := lw_g (lw_at lw_m1 234 rfl) rfl
theorem q291 : (Jvm.Cond.code ({ cls := "java/util/Arrays", name := "copyOf", desc := "([Ljava/lang/Object;ILjava/lang/Class;)[Ljava/lang/Object;" } : Jvm.MethodName) prog_31_method_120_code (4 : Nat) (Option.some (Jvm.ClassFile.FieldType.array (Jvm.ClassFile.FieldType.object "java/lang/Object")))) ∈ lw_all := lw_g (lw_at lw_m1 235 rfl) rfl
theorem q292 : (Jvm.Cond.classLink "java/util/Arrays" (110 : Nat) "[Ljava/lang/Object;") ∈ lw_all := lw_g (lw_at lw_m1 236 rfl) rfl
theorem q294 : (Jvm.Cond.classLink "java/util/Arrays" (2 : Nat) "java/lang/Object") ∈ lw_all := lw_g (lw_at lw_m1 238 rfl) rfl
theorem q295 : (Jvm.Cond.methodLink "java/util/Arrays" (304 : Nat) ({ cls := "java/lang/Math", name := "min", desc := "(II)I" } : Jvm.MethodName)) ∈ lw_all := lw_g (lw_at lw_m1 239 rfl) rfl
theorem q298 : (Jvm.Cond.methodLink "java/util/Arrays" (150 : Nat) ({ cls := "java/lang/System", name := "arraycopy", desc := "(Ljava/lang/Object;ILjava/lang/Object;II)V" } : Jvm.MethodName)) ∈ lw_all := lw_g (lw_at lw_m2 2 rfl) rfl
theorem q466 : (Jvm.Cond.static ({ cls := "java/util/Arrays", name := "copyOf", desc := "([BI)[B" } : Jvm.MethodName)) ∈ lw_all := lw_g (lw_at lw_m2 170 rfl) rfl
theorem q467 : (Jvm.Cond.code ({ cls := "java/util/Arrays", name := "copyOf", desc := "([BI)[B" } : Jvm.MethodName) prog_31_method_121_code (3 : Nat) (Option.some (Jvm.ClassFile.FieldType.array Jvm.ClassFile.FieldType.byte))) ∈ lw_all := lw_g (lw_at lw_m2 171 rfl) rfl
theorem q468 : (Jvm.Cond.methodLink "java/util/Arrays" (310 : Nat) ({ cls := "[B", name := "clone", desc := "()Ljava/lang/Object;" } : Jvm.MethodName)) ∈ lw_all := lw_g (lw_at lw_m2 172 rfl) rfl
theorem q474 : (Jvm.Cond.classLink "java/util/Arrays" (311 : Nat) "[B") ∈ lw_all := lw_g (lw_at lw_m2 178 rfl) rfl
theorem q603 : (Jvm.Cond.static ({ cls := "java/util/Arrays", name := "copyOfRange", desc := "([BII)[B" } : Jvm.MethodName)) ∈ lw_all := lw_g (lw_at lw_m3 67 rfl) rfl
theorem q604 : (Jvm.Cond.code ({ cls := "java/util/Arrays", name := "copyOfRange", desc := "([BII)[B" } : Jvm.MethodName) prog_31_method_132_code (3 : Nat) (Option.some (Jvm.ClassFile.FieldType.array Jvm.ClassFile.FieldType.byte))) ∈ lw_all := lw_g (lw_at lw_m3 68 rfl) rfl
theorem q605 : (Jvm.Cond.methodLink "java/util/Arrays" (339 : Nat) ({ cls := "java/util/Arrays", name := "copyOfRangeByte", desc := "([BII)[B" } : Jvm.MethodName)) ∈ lw_all := lw_g (lw_at lw_m3 69 rfl) rfl
theorem q606 : (Jvm.Cond.static ({ cls := "java/util/Arrays", name := "copyOfRangeByte", desc := "([BII)[B" } : Jvm.MethodName)) ∈ lw_all := lw_g (lw_at lw_m3 70 rfl) rfl
theorem q607 : (Jvm.Cond.code ({ cls := "java/util/Arrays", name := "copyOfRangeByte", desc := "([BII)[B" } : Jvm.MethodName) prog_31_method_133_code (5 : Nat) (Option.some (Jvm.ClassFile.FieldType.array Jvm.ClassFile.FieldType.byte))) ∈ lw_all := lw_g (lw_at lw_m3 71 rfl) rfl
theorem q608 : (Jvm.Cond.methodLink "java/util/Arrays" (343 : Nat) ({ cls := "java/util/Arrays", name := "checkLength", desc := "(II)V" } : Jvm.MethodName)) ∈ lw_all := lw_g (lw_at lw_m3 72 rfl) rfl
theorem q609 : (Jvm.Cond.static ({ cls := "java/util/Arrays", name := "checkLength", desc := "(II)V" } : Jvm.MethodName)) ∈ lw_all := lw_g (lw_at lw_m3 73 rfl) rfl
theorem q610 : (Jvm.Cond.code ({ cls := "java/util/Arrays", name := "checkLength", desc := "(II)V" } : Jvm.MethodName) prog_31_method_131_code (2 : Nat) (Option.none : Option Jvm.ClassFile.FieldType)) ∈ lw_all := lw_g (lw_at lw_m3 74 rfl) rfl
theorem q611 : (Jvm.Cond.classLink "java/util/Arrays" (43 : Nat) "java/lang/IllegalArgumentException") ∈ lw_all := lw_g (lw_at lw_m3 75 rfl) rfl
theorem q620 : (Jvm.Cond.classLink "java/util/Arrays" (45 : Nat) "java/lang/StringBuilder") ∈ lw_all := lw_g (lw_at lw_m3 84 rfl) rfl
theorem q621 : (Jvm.Cond.methodLink "java/util/Arrays" (47 : Nat) ({ cls := "java/lang/StringBuilder", name := "<init>", desc := "()V" } : Jvm.MethodName)) ∈ lw_all := lw_g (lw_at lw_m3 85 rfl) rfl
theorem q622 : (Jvm.Cond.methodLink "java/util/Arrays" (54 : Nat) ({ cls := "java/lang/StringBuilder", name := "append", desc := "(I)Ljava/lang/StringBuilder;" } : Jvm.MethodName)) ∈ lw_all := lw_g (lw_at lw_m3 86 rfl) rfl
theorem q623 : (Jvm.Cond.stringRef "java/util/Arrays" (337 : Nat) " > ") ∈ lw_tbl := lw_at lw_m3 87 rfl
theorem q624 : (Jvm.Cond.methodLink "java/util/Arrays" (50 : Nat) ({ cls := "java/lang/StringBuilder", name := "append", desc := "(Ljava/lang/String;)Ljava/lang/StringBuilder;" } : Jvm.MethodName)) ∈ lw_all := lw_g (lw_at lw_m3 88 rfl) rfl
theorem q625 : (Jvm.Cond.methodLink "java/util/Arrays" (61 : Nat) ({ cls := "java/lang/StringBuilder", name := "toString", desc := "()Ljava/lang/String;" } : Jvm.MethodName)) ∈ lw_all := lw_g (lw_at lw_m3 89 rfl) rfl
theorem q626 : (Jvm.Cond.methodLink "java/util/Arrays" (65 : Nat) ({ cls := "java/lang/IllegalArgumentException", name := "<init>", desc := "(Ljava/lang/String;)V" } : Jvm.MethodName)) ∈ lw_all := lw_g (lw_at lw_m3 90 rfl) rfl
/-! java/lang/IndexOutOfBoundsException -/
def RJ14 : String := "java/lang/IndexOutOfBoundsException"
def TJ14 : u_T := fun k => match k with
  | 0 => ("java/lang/Throwable", "cause", "Ljava/lang/Throwable;", false)
  | 1 => ("java/lang/Throwable", "stackTrace", "[Ljava/lang/StackTraceElement;", false)
  | 2 => ("java/lang/Throwable", "suppressedExceptions", "Ljava/util/List;", false)
  | 3 => ("java/lang/Throwable", "detailMessage", "Ljava/lang/String;", false)
  | 4 => ("java/lang/Throwable", "backtrace", "Ljava/lang/Object;", false)
  | _ => ("java/lang/Throwable", "depth", "I", false)
def tyJ14 : Nat → FieldType := fun k => match k with
  | 0 => .object "java/lang/Throwable"
  | 1 => .array (.object "java/lang/StackTraceElement")
  | 2 => .object "java/util/List"
  | 3 => .object "java/lang/String"
  | 4 => .object "java/lang/Object"
  | _ => .int
abbrev wsJ140 : List Cond := u_ws RJ14 TJ14 6
theorem nmJ14 : ∀ a, a < 6 → ∀ b, b < 6 → a ≠ b → (TJ14 a).2.1 ≠ (TJ14 b).2.1 := by decide +kernel
theorem tyJ14_ok : ∀ k, k < 6 → parseFieldDescriptor (TJ14 k).2.2.1 = some (tyJ14 k) := by decide +kernel
abbrev cJ14_init : ByteArray := prog_16_method_2_code
def yJ14_init : MethodName := ⟨RJ14, "<init>", "(Ljava/lang/String;)V"⟩
abbrev cJ14_init_2 : ByteArray := prog_16_method_1_code
def yJ14_init_2 : MethodName := ⟨RJ14, "<init>", "()V"⟩
theorem q76 : (Jvm.Cond.initialized "java/lang/IndexOutOfBoundsException") ∈ lw_all := lw_g (lw_at lw_m1 20 rfl) rfl
theorem q284 : (Jvm.Cond.selects "java/lang/IndexOutOfBoundsException" ({ cls := "java/lang/Object", name := "getClass", desc := "()Ljava/lang/Class;" } : Jvm.MethodName) ({ cls := "java/lang/Object", name := "getClass", desc := "()Ljava/lang/Class;" } : Jvm.MethodName)) ∈ lw_all := lw_g (lw_at lw_m1 228 rfl) rfl
theorem q366 : (Jvm.Cond.instantiable "java/lang/IndexOutOfBoundsException" (6 : Nat)) ∈ lw_all := lw_g (lw_at lw_m2 70 rfl) rfl
theorem q367 : (Jvm.Cond.castable "java/lang/IndexOutOfBoundsException" "java/lang/IndexOutOfBoundsException") ∈ lw_tbl := lw_at lw_m2 71 rfl
theorem q374 : (Jvm.Cond.selects "java/lang/IndexOutOfBoundsException" ({ cls := "java/lang/Throwable", name := "fillInStackTrace", desc := "(I)Ljava/lang/Throwable;" } : Jvm.MethodName) ({ cls := "java/lang/Throwable", name := "fillInStackTrace", desc := "(I)Ljava/lang/Throwable;" } : Jvm.MethodName)) ∈ lw_all := lw_g (lw_at lw_m2 78 rfl) rfl
theorem q375 : (Jvm.Cond.selects "java/lang/IndexOutOfBoundsException" ({ cls := "java/lang/Throwable", name := "fillInStackTrace", desc := "()Ljava/lang/Throwable;" } : Jvm.MethodName) ({ cls := "java/lang/Throwable", name := "fillInStackTrace", desc := "()Ljava/lang/Throwable;" } : Jvm.MethodName)) ∈ lw_all := lw_g (lw_at lw_m2 79 rfl) rfl
theorem q376 : (Jvm.Cond.lays "java/lang/IndexOutOfBoundsException" "java/lang/Throwable" "cause" "Ljava/lang/Throwable;") ∈ lw_all := lw_g (lw_at lw_m2 80 rfl) rfl
theorem q378 : (Jvm.Cond.lays "java/lang/IndexOutOfBoundsException" "java/lang/Throwable" "stackTrace" "[Ljava/lang/StackTraceElement;") ∈ lw_all := lw_g (lw_at lw_m2 82 rfl) rfl
theorem q380 : (Jvm.Cond.lays "java/lang/IndexOutOfBoundsException" "java/lang/Throwable" "suppressedExceptions" "Ljava/util/List;") ∈ lw_all := lw_g (lw_at lw_m2 84 rfl) rfl
theorem q382 : (Jvm.Cond.lays "java/lang/IndexOutOfBoundsException" "java/lang/Throwable" "detailMessage" "Ljava/lang/String;") ∈ lw_all := lw_g (lw_at lw_m2 86 rfl) rfl
theorem q384 : (Jvm.Cond.lays "java/lang/IndexOutOfBoundsException" "java/lang/Throwable" "backtrace" "Ljava/lang/Object;") ∈ lw_all := lw_g (lw_at lw_m2 88 rfl) rfl
theorem q676 : (Jvm.Cond.instanceMethod ({ cls := "java/lang/IndexOutOfBoundsException", name := "<init>", desc := "(Ljava/lang/String;)V" } : Jvm.MethodName)) ∈ lw_all := lw_g (lw_at lw_m3 140 rfl) rfl
theorem q677 : (Jvm.Cond.code ({ cls := "java/lang/IndexOutOfBoundsException", name := "<init>", desc := "(Ljava/lang/String;)V" } : Jvm.MethodName) prog_16_method_2_code (2 : Nat) (Option.none : Option Jvm.ClassFile.FieldType)) ∈ lw_all := lw_g (lw_at lw_m3 141 rfl) rfl
theorem q678 : (Jvm.Cond.methodLink "java/lang/IndexOutOfBoundsException" (7 : Nat) ({ cls := "java/lang/RuntimeException", name := "<init>", desc := "(Ljava/lang/String;)V" } : Jvm.MethodName)) ∈ lw_all := lw_g (lw_at lw_m3 142 rfl) rfl
theorem q679 : (Jvm.Cond.lays "java/lang/IndexOutOfBoundsException" "java/lang/Throwable" "depth" "I") ∈ lw_all := lw_g (lw_at lw_m3 143 rfl) rfl
theorem q680 : (Jvm.Cond.superclass "java/lang/IndexOutOfBoundsException" "java/lang/RuntimeException") ∈ lw_all := lw_g (lw_at lw_m3 144 rfl) rfl
theorem q929 : (Jvm.Cond.declares ({ cls := "java/lang/IndexOutOfBoundsException", name := "<init>", desc := "()V" } : Jvm.MethodName)) ∈ lw_tbl := lw_at lw_m4 153 rfl
theorem q930 : (Jvm.Cond.declares ({ cls := "java/lang/IndexOutOfBoundsException", name := "<init>", desc := "(Ljava/lang/String;)V" } : Jvm.MethodName)) ∈ lw_tbl := lw_at lw_m4 154 rfl
theorem q942 : (Jvm.Cond.instanceMethod ({ cls := "java/lang/IndexOutOfBoundsException", name := "<init>", desc := "()V" } : Jvm.MethodName)) ∈ lw_all := lw_g (lw_at lw_m4 166 rfl) rfl
theorem q943 : (Jvm.Cond.code ({ cls := "java/lang/IndexOutOfBoundsException", name := "<init>", desc := "()V" } : Jvm.MethodName) prog_16_method_1_code (1 : Nat) (Option.none : Option Jvm.ClassFile.FieldType)) ∈ lw_all := lw_g (lw_at lw_m4 167 rfl) rfl
theorem q944 : (Jvm.Cond.methodLink "java/lang/IndexOutOfBoundsException" (1 : Nat) ({ cls := "java/lang/RuntimeException", name := "<init>", desc := "()V" } : Jvm.MethodName)) ∈ lw_all := lw_g (lw_at lw_m4 168 rfl) rfl
theorem q1292 : (Jvm.Cond.castable "java/lang/IndexOutOfBoundsException" "java/lang/Object") ∈ lw_tbl := lw_at lw_m6 36 rfl
theorem in_J14 : ∀ w ∈ wsJ140, w ∈ lw_all := lw_in wsJ140 [376, 378, 380, 382, 384, 679] (by decide +kernel) (by decide +kernel)
/-! java/lang/Integer -/
def RJ20 : String := "java/lang/Integer"
abbrev cJ20_stringSize : ByteArray := prog_17_method_13_code
def yJ20_stringSize : MethodName := ⟨RJ20, "stringSize", "(I)I"⟩
abbrev cJ20_getChars : ByteArray := prog_17_method_12_code
def yJ20_getChars : MethodName := ⟨RJ20, "getChars", "(II[B)I"⟩
abbrev cJ20_compare : ByteArray := prog_17_method_40_code
def yJ20_compare : MethodName := ⟨RJ20, "compare", "(II)I"⟩
theorem q82 : (Jvm.Cond.initialized "java/lang/Integer") ∈ lw_all := lw_g (lw_at lw_m1 26 rfl) rfl
theorem q557 : (Jvm.Cond.static ({ cls := "java/lang/Integer", name := "stringSize", desc := "(I)I" } : Jvm.MethodName)) ∈ lw_all := lw_g (lw_at lw_m3 21 rfl) rfl
theorem q558 : (Jvm.Cond.code ({ cls := "java/lang/Integer", name := "stringSize", desc := "(I)I" } : Jvm.MethodName) prog_17_method_13_code (4 : Nat) (Option.some Jvm.ClassFile.FieldType.int)) ∈ lw_all := lw_g (lw_at lw_m3 22 rfl) rfl
theorem q560 : (Jvm.Cond.static ({ cls := "java/lang/Integer", name := "getChars", desc := "(II[B)I" } : Jvm.MethodName)) ∈ lw_all := lw_g (lw_at lw_m3 24 rfl) rfl
theorem q561 : (Jvm.Cond.code ({ cls := "java/lang/Integer", name := "getChars", desc := "(II[B)I" } : Jvm.MethodName) prog_17_method_12_code (7 : Nat) (Option.some Jvm.ClassFile.FieldType.int)) ∈ lw_all := lw_g (lw_at lw_m3 25 rfl) rfl
theorem q562 : (Jvm.Cond.fieldLink "java/lang/Integer" (83 : Nat) "java/lang/Integer" "DigitOnes" "[B") ∈ lw_all := lw_g (lw_at lw_m3 26 rfl) rfl
theorem q563 : (Jvm.Cond.laysStatic "java/lang/Integer" "DigitOnes" "[B") ∈ lw_tbl := lw_at lw_m3 27 rfl
theorem q564 : (Jvm.Cond.fieldLink "java/lang/Integer" (87 : Nat) "java/lang/Integer" "DigitTens" "[B") ∈ lw_all := lw_g (lw_at lw_m3 28 rfl) rfl
theorem q565 : (Jvm.Cond.laysStatic "java/lang/Integer" "DigitTens" "[B") ∈ lw_tbl := lw_at lw_m3 29 rfl
theorem q1046 : (Jvm.Cond.static ({ cls := "java/lang/Integer", name := "compare", desc := "(II)I" } : Jvm.MethodName)) ∈ lw_all := lw_g (lw_at lw_m5 30 rfl) rfl
theorem q1047 : (Jvm.Cond.code ({ cls := "java/lang/Integer", name := "compare", desc := "(II)I" } : Jvm.MethodName) prog_17_method_40_code (2 : Nat) (Option.some Jvm.ClassFile.FieldType.int)) ∈ lw_all := lw_g (lw_at lw_m5 31 rfl) rfl
/-! java/lang/Object -/
def RJ22 : String := "java/lang/Object"
abbrev cJ22_init : ByteArray := object_method_1_code
def yJ22_init : MethodName := ⟨RJ22, "<init>", "()V"⟩
theorem q93 : (Jvm.Cond.instanceMethod ({ cls := "java/lang/Object", name := "<init>", desc := "()V" } : Jvm.MethodName)) ∈ lw_all := lw_g (lw_at lw_m1 37 rfl) rfl
theorem q94 : (Jvm.Cond.code ({ cls := "java/lang/Object", name := "<init>", desc := "()V" } : Jvm.MethodName) object_method_1_code (1 : Nat) (Option.none : Option Jvm.ClassFile.FieldType)) ∈ lw_all := lw_g (lw_at lw_m1 38 rfl) rfl
theorem q272 : (Jvm.Cond.instanceMethod ({ cls := "java/lang/Object", name := "getClass", desc := "()Ljava/lang/Class;" } : Jvm.MethodName)) ∈ lw_all := lw_g (lw_at lw_m1 216 rfl) rfl
theorem q273 : (Jvm.Cond.sameMethod "java/lang/Object" "java/lang/Object" "getClass" "()Ljava/lang/Class;") ∈ lw_all := lw_g (lw_at lw_m1 217 rfl) rfl
theorem q288 : (Jvm.Cond.native ({ cls := "java/lang/Object", name := "getClass", desc := "()Ljava/lang/Class;" } : Jvm.MethodName)) ∈ lw_all := lw_g (lw_at lw_m1 232 rfl) rfl
theorem q470 : (Jvm.Cond.native ({ cls := "java/lang/Object", name := "clone", desc := "()Ljava/lang/Object;" } : Jvm.MethodName)) ∈ lw_all := lw_g (lw_at lw_m2 174 rfl) rfl
theorem q471 : (Jvm.Cond.instanceMethod ({ cls := "java/lang/Object", name := "clone", desc := "()Ljava/lang/Object;" } : Jvm.MethodName)) ∈ lw_all := lw_g (lw_at lw_m2 175 rfl) rfl
theorem q1285 : (Jvm.Cond.declares ({ cls := "java/lang/Object", name := "getClass", desc := "()Ljava/lang/Class;" } : Jvm.MethodName)) ∈ lw_tbl := lw_at lw_m6 29 rfl
theorem q469 : (Jvm.Cond.sameMethod "[B" "java/lang/Object" "clone" "()Ljava/lang/Object;") ∈ lw_all := lw_g (lw_at lw_m2 173 rfl) rfl
theorem q472 : (Jvm.Cond.selects "[B" ({ cls := "[B", name := "clone", desc := "()Ljava/lang/Object;" } : Jvm.MethodName) ({ cls := "java/lang/Object", name := "clone", desc := "()Ljava/lang/Object;" } : Jvm.MethodName)) ∈ lw_all := lw_g (lw_at lw_m2 176 rfl) rfl
theorem q473 : (Jvm.Cond.castable "[B" "java/lang/Cloneable") ∈ lw_tbl := lw_at lw_m2 177 rfl
theorem q1304 : (Jvm.Cond.castable "[B" "java/lang/Object") ∈ lw_tbl := lw_at lw_m6 48 rfl
theorem q1300 : (Jvm.Cond.castable "[I" "java/lang/Object") ∈ lw_tbl := lw_at lw_m6 44 rfl
theorem q1305 : (Jvm.Cond.castable "[J" "java/lang/Object") ∈ lw_tbl := lw_at lw_m6 49 rfl
theorem q1301 : (Jvm.Cond.castable "[LPlaneFaces$Half;" "java/lang/Object") ∈ lw_tbl := lw_at lw_m6 45 rfl
theorem q1302 : (Jvm.Cond.castable "[LPlaneFaces$Round;" "java/lang/Object") ∈ lw_tbl := lw_at lw_m6 46 rfl
theorem q1283 : (Jvm.Cond.sameMethod "[Ljava/lang/Object;" "java/lang/Object" "getClass" "()Ljava/lang/Class;") ∈ lw_all := lw_g (lw_at lw_m6 27 rfl) rfl
theorem q1284 : (Jvm.Cond.selects "[Ljava/lang/Object;" ({ cls := "java/lang/Object", name := "getClass", desc := "()Ljava/lang/Class;" } : Jvm.MethodName) ({ cls := "java/lang/Object", name := "getClass", desc := "()Ljava/lang/Class;" } : Jvm.MethodName)) ∈ lw_all := lw_g (lw_at lw_m6 28 rfl) rfl
theorem q1303 : (Jvm.Cond.castable "[Ljava/lang/Object;" "java/lang/Object") ∈ lw_tbl := lw_at lw_m6 47 rfl
theorem q1299 : (Jvm.Cond.castable "[Z" "java/lang/Object") ∈ lw_tbl := lw_at lw_m6 43 rfl
theorem q75 : (Jvm.Cond.initialized "java/lang/System") ∈ lw_all := lw_g (lw_at lw_m1 19 rfl) rfl
theorem q299 : (Jvm.Cond.static ({ cls := "java/lang/System", name := "arraycopy", desc := "(Ljava/lang/Object;ILjava/lang/Object;II)V" } : Jvm.MethodName)) ∈ lw_all := lw_g (lw_at lw_m2 3 rfl) rfl
theorem q300 : (Jvm.Cond.native ({ cls := "java/lang/System", name := "arraycopy", desc := "(Ljava/lang/Object;ILjava/lang/Object;II)V" } : Jvm.MethodName)) ∈ lw_all := lw_g (lw_at lw_m2 4 rfl) rfl
theorem q722 : (Jvm.Cond.interfaceMethod "java/util/Iterator" "java/util/Iterator" "hasNext" "()Z") ∈ lw_tbl := lw_at lw_m3 186 rfl
theorem q723 : (Jvm.Cond.declares ({ cls := "java/util/Iterator", name := "hasNext", desc := "()Z" } : Jvm.MethodName)) ∈ lw_tbl := lw_at lw_m3 187 rfl
theorem q732 : (Jvm.Cond.interfaceMethod "java/util/Iterator" "java/util/Iterator" "next" "()Ljava/lang/Object;") ∈ lw_tbl := lw_at lw_m3 196 rfl
theorem q733 : (Jvm.Cond.declares ({ cls := "java/util/Iterator", name := "next", desc := "()Ljava/lang/Object;" } : Jvm.MethodName)) ∈ lw_tbl := lw_at lw_m3 197 rfl
theorem q121 : (Jvm.Cond.arrayClass Jvm.ClassFile.FieldType.boolean) ∈ lw_all := lw_g (lw_at lw_m1 65 rfl) rfl
theorem q122 : (Jvm.Cond.arrayClass Jvm.ClassFile.FieldType.int) ∈ lw_all := lw_g (lw_at lw_m1 66 rfl) rfl
theorem q124 : (Jvm.Cond.arrayOver (Jvm.ClassFile.FieldType.object "PlaneFaces$Half")) ∈ lw_tbl := lw_at lw_m1 68 rfl
theorem q126 : (Jvm.Cond.arrayOver (Jvm.ClassFile.FieldType.object "PlaneFaces$Round")) ∈ lw_tbl := lw_at lw_m1 70 rfl
theorem q293 : (Jvm.Cond.arrayOver (Jvm.ClassFile.FieldType.object "java/lang/Object")) ∈ lw_tbl := lw_at lw_m1 237 rfl
theorem q442 : (Jvm.Cond.arrayClass Jvm.ClassFile.FieldType.byte) ∈ lw_all := lw_g (lw_at lw_m2 146 rfl) rfl
theorem q1114 : (Jvm.Cond.arrayClass Jvm.ClassFile.FieldType.long) ∈ lw_all := lw_g (lw_at lw_m5 98 rfl) rfl
abbrev cL_law : ByteArray := code
