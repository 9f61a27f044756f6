/-! NAMES: classes, their fields, the good words of the tables, methods; printed by gen/names.py -/
def tblG : List Cond := lw_tbl.filter goodWord
theorem tblG_ok : ∀ w ∈ tblG, (w.onTables && w.keeps) = true ∨ ∃ ty, w = .arrayClass ty := fun w h => good_of_word (List.mem_filter.mp h).2
theorem tbl_sub {w : Cond} (h : w ∈ tables_1) (hg : goodWord w = true) : w ∈ tblG := List.mem_filter.mpr ⟨List.mem_append_right _ h, hg⟩
theorem in1 (i : Nat) {w : Cond} (h : tables_1_1[i]? = some w) : w ∈ tables_1 := by
  have h1 := List.mem_of_getElem? h
  exact List.mem_append_left _ h1
theorem g1 (i : Nat) {w : Cond} (h : tables_1_1[i]? = some w) (hg : goodWord w = true) : w ∈ tblG := tbl_sub (in1 i h) hg
theorem in2 (i : Nat) {w : Cond} (h : tables_1_2[i]? = some w) : w ∈ tables_1 := by
  have h1 := List.mem_of_getElem? h
  exact List.mem_append_right _ (List.mem_append_left _ h1)
theorem g2 (i : Nat) {w : Cond} (h : tables_1_2[i]? = some w) (hg : goodWord w = true) : w ∈ tblG := tbl_sub (in2 i h) hg
theorem in3 (i : Nat) {w : Cond} (h : tables_1_3[i]? = some w) : w ∈ tables_1 := by
  have h1 := List.mem_of_getElem? h
  exact List.mem_append_right _ (List.mem_append_right _ (List.mem_append_left _ h1))
theorem g3 (i : Nat) {w : Cond} (h : tables_1_3[i]? = some w) (hg : goodWord w = true) : w ∈ tblG := tbl_sub (in3 i h) hg
theorem in4 (i : Nat) {w : Cond} (h : tables_1_4[i]? = some w) : w ∈ tables_1 := by
  have h1 := List.mem_of_getElem? h
  exact List.mem_append_right _ (List.mem_append_right _ (List.mem_append_right _ (List.mem_append_left _ h1)))
theorem g4 (i : Nat) {w : Cond} (h : tables_1_4[i]? = some w) (hg : goodWord w = true) : w ∈ tblG := tbl_sub (in4 i h) hg
theorem in5 (i : Nat) {w : Cond} (h : tables_1_5[i]? = some w) : w ∈ tables_1 := by
  have h1 := List.mem_of_getElem? h
  exact List.mem_append_right _ (List.mem_append_right _ (List.mem_append_right _ (List.mem_append_right _ (List.mem_append_left _ h1))))
theorem g5 (i : Nat) {w : Cond} (h : tables_1_5[i]? = some w) (hg : goodWord w = true) : w ∈ tblG := tbl_sub (in5 i h) hg
theorem in6 (i : Nat) {w : Cond} (h : tables_1_6[i]? = some w) : w ∈ tables_1 := by
  have h1 := List.mem_of_getElem? h
  exact List.mem_append_right _ (List.mem_append_right _ (List.mem_append_right _ (List.mem_append_right _ (List.mem_append_right _ h1))))
theorem g6 (i : Nat) {w : Cond} (h : tables_1_6[i]? = some w) (hg : goodWord w = true) : w ∈ tblG := tbl_sub (in6 i h) hg
theorem gsel (i : Nat) {y : MethodName} {n : Nat} (h : lw_privs[i]? = some (y, n)) : Cond.selects y.cls y y ∈ tblG := List.mem_filter.mpr ⟨List.mem_append_left _ (List.mem_map.mpr ⟨(y, n), List.mem_of_getElem? h, rfl⟩), rfl⟩
def F_P : u_T := fun k => match k with
  | 0 => ("LoopProver", "nodes", "Ljava/util/ArrayList;", true)
  | 1 => ("LoopProver", "lines", "Ljava/util/ArrayList;", true)
  | 2 => ("LoopProver", "open", "[I", true)
  | 3 => ("LoopProver", "opens", "I", false)
  | 4 => ("LoopProver", "verified", "Z", false)
  | 5 => ("LoopProver", "verdicts", "[LLoopProver$Verdict;", true)
  | 6 => ("LoopProver", "decided", "I", false)
  | 7 => ("LoopProver", "circuit", "LLoopProver$Circuit;", true)
  | 8 => ("LoopProver", "solver", "LLoopProver$Solver;", true)
  | 9 => ("LoopProver", "flow", "LLoopProver$Flow;", true)
  | 10 => ("LoopProver", "asides", "[LLoopProver$Flow;", true)
  | 11 => ("LoopProver", "needed", "[Z", true)
  | 12 => ("LoopProver", "bits", "[I", true)
  | 13 => ("LoopProver", "values", "[I", true)
  | _ => ("LoopProver", "state", "[I", true)
def t_P : Nat → FieldType := fun k => match k with
  | 0 => (.object "java/util/ArrayList")
  | 1 => (.object "java/util/ArrayList")
  | 2 => (.array .int)
  | 3 => .int
  | 4 => .boolean
  | 5 => (.array (.object "LoopProver$Verdict"))
  | 6 => .int
  | 7 => (.object "LoopProver$Circuit")
  | 8 => (.object "LoopProver$Solver")
  | 9 => (.object "LoopProver$Flow")
  | 10 => (.array (.object "LoopProver$Flow"))
  | 11 => (.array .boolean)
  | 12 => (.array .int)
  | 13 => (.array .int)
  | _ => (.array .int)
def F_AL : u_T := fun k => match k with
  | 0 => ("java/util/ArrayList", "elementData", "[Ljava/lang/Object;", false)
  | 1 => ("java/util/ArrayList", "size", "I", false)
  | _ => ("java/util/AbstractList", "modCount", "I", false)
def t_AL : Nat → FieldType := fun k => match k with
  | 0 => (.array (.object "java/lang/Object"))
  | 1 => .int
  | _ => .int
def F_Circuit : u_T := fun k => match k with
  | 0 => ("LoopProver$Circuit", "literals", "[I", false)
  | 1 => ("LoopProver$Circuit", "starts", "[I", false)
  | 2 => ("LoopProver$Circuit", "used", "I", false)
  | 3 => ("LoopProver$Circuit", "clauses", "I", false)
  | 4 => ("LoopProver$Circuit", "variables", "I", false)
  | 5 => ("LoopProver$Circuit", "clauseOf", "[I", false)
  | 6 => ("LoopProver$Circuit", "nextOf", "[I", false)
  | 7 => ("LoopProver$Circuit", "places", "[I", false)
  | 8 => ("LoopProver$Circuit", "first", "[I", false)
  | 9 => ("LoopProver$Circuit", "second", "[I", false)
  | 10 => ("LoopProver$Circuit", "chain", "[I", false)
  | _ => ("LoopProver$Circuit", "heads", "[I", true)
def t_Circuit : Nat → FieldType := fun k => match k with
  | 0 => (.array .int)
  | 1 => (.array .int)
  | 2 => .int
  | 3 => .int
  | 4 => .int
  | 5 => (.array .int)
  | 6 => (.array .int)
  | 7 => (.array .int)
  | 8 => (.array .int)
  | 9 => (.array .int)
  | 10 => (.array .int)
  | _ => (.array .int)
def F_Solver : u_T := fun k => match k with
  | 0 => ("LoopProver$Solver", "checker", "LLoopProver$Checker;", true)
  | 1 => ("LoopProver$Solver", "circuit", "LLoopProver$Circuit;", false)
  | 2 => ("LoopProver$Solver", "given", "I", false)
  | 3 => ("LoopProver$Solver", "truths", "[I", false)
  | 4 => ("LoopProver$Solver", "reasons", "[I", false)
  | 5 => ("LoopProver$Solver", "levelOf", "[I", false)
  | 6 => ("LoopProver$Solver", "trail", "[I", false)
  | 7 => ("LoopProver$Solver", "trailed", "I", false)
  | 8 => ("LoopProver$Solver", "seen", "I", false)
  | 9 => ("LoopProver$Solver", "marked", "[Z", false)
  | 10 => ("LoopProver$Solver", "decided", "[I", true)
  | 11 => ("LoopProver$Solver", "levels", "I", false)
  | 12 => ("LoopProver$Solver", "learned", "[I", true)
  | 13 => ("LoopProver$Solver", "size", "I", false)
  | 14 => ("LoopProver$Solver", "hints", "[I", false)
  | 15 => ("LoopProver$Solver", "hinted", "I", false)
  | _ => ("LoopProver$Solver", "sound", "Z", false)
def t_Solver : Nat → FieldType := fun k => match k with
  | 0 => (.object "LoopProver$Checker")
  | 1 => (.object "LoopProver$Circuit")
  | 2 => .int
  | 3 => (.array .int)
  | 4 => (.array .int)
  | 5 => (.array .int)
  | 6 => (.array .int)
  | 7 => .int
  | 8 => .int
  | 9 => (.array .boolean)
  | 10 => (.array .int)
  | 11 => .int
  | 12 => (.array .int)
  | 13 => .int
  | 14 => (.array .int)
  | 15 => .int
  | _ => .boolean
def F_Checker : u_T := fun k => match k with
  | 0 => ("LoopProver$Checker", "truths", "[I", false)
  | 1 => ("LoopProver$Checker", "noted", "[I", false)
  | _ => ("LoopProver$Checker", "notes", "I", false)
def t_Checker : Nat → FieldType := fun k => match k with
  | 0 => (.array .int)
  | 1 => (.array .int)
  | _ => .int
def F_Flow : u_T := fun k => match k with
  | 0 => ("LoopProver$Flow", "scene", "[I", true)
  | 1 => ("LoopProver$Flow", "alive", "I", false)
  | _ => ("LoopProver$Flow", "wrong", "I", false)
def t_Flow : Nat → FieldType := fun k => match k with
  | 0 => (.array .int)
  | 1 => .int
  | _ => .int
def F_Line : u_T := fun k => match k with
  | 0 => ("LoopProver$Line", "kind", "LLoopProver$Kind;", true)
  | 1 => ("LoopProver$Line", "v", "I", true)
  | 2 => ("LoopProver$Line", "a", "LLoopProver$Node;", true)
  | 3 => ("LoopProver$Line", "b", "LLoopProver$Node;", true)
  | 4 => ("LoopProver$Line", "other", "I", false)
  | 5 => ("LoopProver$Line", "end", "I", false)
  | _ => ("LoopProver$Line", "opened", "I", false)
def t_Line : Nat → FieldType := fun k => match k with
  | 0 => (.object "LoopProver$Kind")
  | 1 => .int
  | 2 => (.object "LoopProver$Node")
  | 3 => (.object "LoopProver$Node")
  | 4 => .int
  | 5 => .int
  | _ => .int
def F_Verdict : u_T := fun k => match k with
  | 0 => ("LoopProver$Verdict", "witness", "I", false)
  | 1 => ("LoopProver$Verdict", "failure", "I", false)
  | _ => ("LoopProver$Verdict", "proved", "Z", false)
def t_Verdict : Nat → FieldType := fun k => match k with
  | 0 => .int
  | 1 => .int
  | _ => .boolean
def F_M : u_T := fun k => match k with
  | 0 => ("LoopProverModel", "nodes", "I", false)
  | 1 => ("LoopProverModel", "kind", "[I", true)
  | 2 => ("LoopProverModel", "left", "[I", true)
  | 3 => ("LoopProverModel", "right", "[I", true)
  | 4 => ("LoopProverModel", "of", "[J", true)
  | 5 => ("LoopProverModel", "many", "[I", true)
  | 6 => ("LoopProverModel", "order", "[I", true)
  | 7 => ("LoopProverModel", "found", "[I", true)
  | 8 => ("LoopProverModel", "state", "[I", true)
  | 9 => ("LoopProverModel", "lines", "I", false)
  | 10 => ("LoopProverModel", "what", "[I", true)
  | 11 => ("LoopProverModel", "one", "[I", true)
  | 12 => ("LoopProverModel", "two", "[I", true)
  | 13 => ("LoopProverModel", "begun", "[I", true)
  | 14 => ("LoopProverModel", "otherLine", "[I", true)
  | 15 => ("LoopProverModel", "endLine", "[I", true)
  | 16 => ("LoopProverModel", "block", "[I", true)
  | 17 => ("LoopProverModel", "open", "I", false)
  | 18 => ("LoopProverModel", "verified", "Z", false)
  | 19 => ("LoopProverModel", "conditions", "I", false)
  | 20 => ("LoopProverModel", "against", "[I", true)
  | 21 => ("LoopProverModel", "failed", "[I", true)
  | 22 => ("LoopProverModel", "post", "I", false)
  | _ => ("LoopProverModel", "place", "I", false)
def t_M : Nat → FieldType := fun k => match k with
  | 0 => .int
  | 1 => (.array .int)
  | 2 => (.array .int)
  | 3 => (.array .int)
  | 4 => (.array .long)
  | 5 => (.array .int)
  | 6 => (.array .int)
  | 7 => (.array .int)
  | 8 => (.array .int)
  | 9 => .int
  | 10 => (.array .int)
  | 11 => (.array .int)
  | 12 => (.array .int)
  | 13 => (.array .int)
  | 14 => (.array .int)
  | 15 => (.array .int)
  | 16 => (.array .int)
  | 17 => .int
  | 18 => .boolean
  | 19 => .int
  | 20 => (.array .int)
  | 21 => (.array .int)
  | 22 => .int
  | _ => .int
def F_Constant : u_T := fun k => match k with
  | 0 => ("LoopProver$Node", "at", "I", true)
  | 1 => ("LoopProver$Node", "p", "I", true)
  | 2 => ("LoopProver$Node", "q", "I", true)
  | _ => ("LoopProver$Constant", "value", "I", true)
def t_Constant : Nat → FieldType := fun k => match k with
  | 0 => .int
  | 1 => .int
  | 2 => .int
  | _ => .int
def F_Variable : u_T := fun k => match k with
  | 0 => ("LoopProver$Node", "at", "I", true)
  | 1 => ("LoopProver$Node", "p", "I", true)
  | 2 => ("LoopProver$Node", "q", "I", true)
  | _ => ("LoopProver$Variable", "slot", "I", true)
def t_Variable : Nat → FieldType := fun k => match k with
  | 0 => .int
  | 1 => .int
  | 2 => .int
  | _ => .int
def F_Read : u_T := fun k => match k with
  | 0 => ("LoopProver$Node", "at", "I", true)
  | 1 => ("LoopProver$Node", "p", "I", true)
  | _ => ("LoopProver$Node", "q", "I", true)
def t_Read : Nat → FieldType := fun k => match k with
  | 0 => .int
  | 1 => .int
  | _ => .int
def F_Sum : u_T := fun k => match k with
  | 0 => ("LoopProver$Node", "at", "I", true)
  | 1 => ("LoopProver$Node", "p", "I", true)
  | 2 => ("LoopProver$Node", "q", "I", true)
  | _ => ("LoopProver$Sum", "minus", "Z", true)
def t_Sum : Nat → FieldType := fun k => match k with
  | 0 => .int
  | 1 => .int
  | 2 => .int
  | _ => .boolean
def F_Meet : u_T := fun k => match k with
  | 0 => ("LoopProver$Node", "at", "I", true)
  | 1 => ("LoopProver$Node", "p", "I", true)
  | _ => ("LoopProver$Node", "q", "I", true)
def t_Meet : Nat → FieldType := fun k => match k with
  | 0 => .int
  | 1 => .int
  | _ => .int
def F_Below : u_T := fun k => match k with
  | 0 => ("LoopProver$Node", "at", "I", true)
  | 1 => ("LoopProver$Node", "p", "I", true)
  | _ => ("LoopProver$Node", "q", "I", true)
def t_Below : Nat → FieldType := fun k => match k with
  | 0 => .int
  | 1 => .int
  | _ => .int
def F_Same : u_T := fun k => match k with
  | 0 => ("LoopProver$Node", "at", "I", true)
  | 1 => ("LoopProver$Node", "p", "I", true)
  | _ => ("LoopProver$Node", "q", "I", true)
def t_Same : Nat → FieldType := fun k => match k with
  | 0 => .int
  | 1 => .int
  | _ => .int
def F_Not : u_T := fun k => match k with
  | 0 => ("LoopProver$Node", "at", "I", true)
  | 1 => ("LoopProver$Node", "p", "I", true)
  | _ => ("LoopProver$Node", "q", "I", true)
def t_Not : Nat → FieldType := fun k => match k with
  | 0 => .int
  | 1 => .int
  | _ => .int
def F_Both : u_T := fun k => match k with
  | 0 => ("LoopProver$Node", "at", "I", true)
  | 1 => ("LoopProver$Node", "p", "I", true)
  | _ => ("LoopProver$Node", "q", "I", true)
def t_Both : Nat → FieldType := fun k => match k with
  | 0 => .int
  | 1 => .int
  | _ => .int
def CL : List vw_C := [("LoopProver", F_P, 15), ("java/util/ArrayList", F_AL, 3), ("LoopProver$Circuit", F_Circuit, 12), ("LoopProver$Solver", F_Solver, 17), ("LoopProver$Checker", F_Checker, 3), ("LoopProver$Flow", F_Flow, 3), ("LoopProver$Line", F_Line, 7), ("LoopProver$Verdict", F_Verdict, 3), ("LoopProverModel", F_M, 24), ("LoopProver$Constant", F_Constant, 4), ("LoopProver$Variable", F_Variable, 4), ("LoopProver$Read", F_Read, 3), ("LoopProver$Sum", F_Sum, 4), ("LoopProver$Meet", F_Meet, 3), ("LoopProver$Below", F_Below, 3), ("LoopProver$Same", F_Same, 3), ("LoopProver$Not", F_Not, 3), ("LoopProver$Both", F_Both, 3)]
/-- class ci of CL: its words are in the tables, its fields' types, its names differ -/
def ClsOK (ci : Nat) (C : String) (T : u_T) (N : Nat) (ty : Nat → FieldType) : Prop := CL[ci]? = some (C, T, N) ∧ (∀ w ∈ u_ws C T N, w ∈ tblG) ∧ (∀ k, k < N → parseFieldDescriptor (T k).2.2.1 = some (ty k)) ∧ ∀ a, a < N → ∀ b, b < N → a ≠ b → (T a).2.1 ≠ (T b).2.1
theorem kw_P : ∀ w ∈ u_ws "LoopProver" F_P 15, w ∈ tblG := by
  intro w hw
  obtain ⟨k, hk, rfl⟩ := List.mem_map.mp hw
  have hk := List.mem_range.mp hk
  match k, hk with
  | 0, _ => exact g1 236 rfl rfl
  | 1, _ => exact g1 238 rfl rfl
  | 2, _ => exact g2 0 rfl rfl
  | 3, _ => exact g2 2 rfl rfl
  | 4, _ => exact g2 4 rfl rfl
  | 5, _ => exact g2 6 rfl rfl
  | 6, _ => exact g2 8 rfl rfl
  | 7, _ => exact g2 10 rfl rfl
  | 8, _ => exact g2 12 rfl rfl
  | 9, _ => exact g2 14 rfl rfl
  | 10, _ => exact g2 16 rfl rfl
  | 11, _ => exact g2 18 rfl rfl
  | 12, _ => exact g2 20 rfl rfl
  | 13, _ => exact g2 22 rfl rfl
  | 14, _ => exact g2 24 rfl rfl
  | k + 15, h => exact absurd h (by omega)
theorem k_P : ClsOK 0 "LoopProver" F_P 15 t_P := ⟨rfl, kw_P, by decide +kernel, by decide +kernel⟩
theorem kw_AL : ∀ w ∈ u_ws "java/util/ArrayList" F_AL 3, w ∈ tblG := by
  intro w hw
  obtain ⟨k, hk, rfl⟩ := List.mem_map.mp hw
  have hk := List.mem_range.mp hk
  match k, hk with
  | 0, _ => exact g1 60 rfl rfl
  | 1, _ => exact g1 62 rfl rfl
  | 2, _ => exact g1 64 rfl rfl
  | k + 3, h => exact absurd h (by omega)
theorem k_AL : ClsOK 1 "java/util/ArrayList" F_AL 3 t_AL := ⟨rfl, kw_AL, by decide +kernel, by decide +kernel⟩
theorem kw_Circuit : ∀ w ∈ u_ws "LoopProver$Circuit" F_Circuit 12, w ∈ tblG := by
  intro w hw
  obtain ⟨k, hk, rfl⟩ := List.mem_map.mp hw
  have hk := List.mem_range.mp hk
  match k, hk with
  | 0, _ => exact g1 98 rfl rfl
  | 1, _ => exact g1 100 rfl rfl
  | 2, _ => exact g1 102 rfl rfl
  | 3, _ => exact g1 104 rfl rfl
  | 4, _ => exact g1 106 rfl rfl
  | 5, _ => exact g1 108 rfl rfl
  | 6, _ => exact g1 110 rfl rfl
  | 7, _ => exact g1 112 rfl rfl
  | 8, _ => exact g1 114 rfl rfl
  | 9, _ => exact g1 116 rfl rfl
  | 10, _ => exact g1 118 rfl rfl
  | 11, _ => exact g1 120 rfl rfl
  | k + 12, h => exact absurd h (by omega)
theorem k_Circuit : ClsOK 2 "LoopProver$Circuit" F_Circuit 12 t_Circuit := ⟨rfl, kw_Circuit, by decide +kernel, by decide +kernel⟩
theorem kw_Solver : ∀ w ∈ u_ws "LoopProver$Solver" F_Solver 17, w ∈ tblG := by
  intro w hw
  obtain ⟨k, hk, rfl⟩ := List.mem_map.mp hw
  have hk := List.mem_range.mp hk
  match k, hk with
  | 0, _ => exact g1 165 rfl rfl
  | 1, _ => exact g1 167 rfl rfl
  | 2, _ => exact g1 169 rfl rfl
  | 3, _ => exact g1 171 rfl rfl
  | 4, _ => exact g1 173 rfl rfl
  | 5, _ => exact g1 175 rfl rfl
  | 6, _ => exact g1 177 rfl rfl
  | 7, _ => exact g1 179 rfl rfl
  | 8, _ => exact g1 181 rfl rfl
  | 9, _ => exact g1 183 rfl rfl
  | 10, _ => exact g1 185 rfl rfl
  | 11, _ => exact g1 187 rfl rfl
  | 12, _ => exact g1 189 rfl rfl
  | 13, _ => exact g1 191 rfl rfl
  | 14, _ => exact g1 193 rfl rfl
  | 15, _ => exact g1 195 rfl rfl
  | 16, _ => exact g1 197 rfl rfl
  | k + 17, h => exact absurd h (by omega)
theorem k_Solver : ClsOK 3 "LoopProver$Solver" F_Solver 17 t_Solver := ⟨rfl, kw_Solver, by decide +kernel, by decide +kernel⟩
theorem kw_Checker : ∀ w ∈ u_ws "LoopProver$Checker" F_Checker 3, w ∈ tblG := by
  intro w hw
  obtain ⟨k, hk, rfl⟩ := List.mem_map.mp hw
  have hk := List.mem_range.mp hk
  match k, hk with
  | 0, _ => exact g1 135 rfl rfl
  | 1, _ => exact g1 137 rfl rfl
  | 2, _ => exact g1 139 rfl rfl
  | k + 3, h => exact absurd h (by omega)
theorem k_Checker : ClsOK 4 "LoopProver$Checker" F_Checker 3 t_Checker := ⟨rfl, kw_Checker, by decide +kernel, by decide +kernel⟩
theorem kw_Flow : ∀ w ∈ u_ws "LoopProver$Flow" F_Flow 3, w ∈ tblG := by
  intro w hw
  obtain ⟨k, hk, rfl⟩ := List.mem_map.mp hw
  have hk := List.mem_range.mp hk
  match k, hk with
  | 0, _ => exact g1 213 rfl rfl
  | 1, _ => exact g1 215 rfl rfl
  | 2, _ => exact g1 217 rfl rfl
  | k + 3, h => exact absurd h (by omega)
theorem k_Flow : ClsOK 5 "LoopProver$Flow" F_Flow 3 t_Flow := ⟨rfl, kw_Flow, by decide +kernel, by decide +kernel⟩
theorem kw_Line : ∀ w ∈ u_ws "LoopProver$Line" F_Line 7, w ∈ tblG := by
  intro w hw
  obtain ⟨k, hk, rfl⟩ := List.mem_map.mp hw
  have hk := List.mem_range.mp hk
  match k, hk with
  | 0, _ => exact g3 97 rfl rfl
  | 1, _ => exact g3 99 rfl rfl
  | 2, _ => exact g3 101 rfl rfl
  | 3, _ => exact g3 103 rfl rfl
  | 4, _ => exact g3 105 rfl rfl
  | 5, _ => exact g3 107 rfl rfl
  | 6, _ => exact g3 109 rfl rfl
  | k + 7, h => exact absurd h (by omega)
theorem k_Line : ClsOK 6 "LoopProver$Line" F_Line 7 t_Line := ⟨rfl, kw_Line, by decide +kernel, by decide +kernel⟩
theorem kw_Verdict : ∀ w ∈ u_ws "LoopProver$Verdict" F_Verdict 3, w ∈ tblG := by
  intro w hw
  obtain ⟨k, hk, rfl⟩ := List.mem_map.mp hw
  have hk := List.mem_range.mp hk
  match k, hk with
  | 0, _ => exact g3 192 rfl rfl
  | 1, _ => exact g3 194 rfl rfl
  | 2, _ => exact g3 196 rfl rfl
  | k + 3, h => exact absurd h (by omega)
theorem k_Verdict : ClsOK 7 "LoopProver$Verdict" F_Verdict 3 t_Verdict := ⟨rfl, kw_Verdict, by decide +kernel, by decide +kernel⟩
theorem kw_M : ∀ w ∈ u_ws "LoopProverModel" F_M 24, w ∈ tblG := by
  intro w hw
  obtain ⟨k, hk, rfl⟩ := List.mem_map.mp hw
  have hk := List.mem_range.mp hk
  match k, hk with
  | 0, _ => exact g5 32 rfl rfl
  | 1, _ => exact g5 34 rfl rfl
  | 2, _ => exact g5 36 rfl rfl
  | 3, _ => exact g5 38 rfl rfl
  | 4, _ => exact g5 40 rfl rfl
  | 5, _ => exact g5 42 rfl rfl
  | 6, _ => exact g5 44 rfl rfl
  | 7, _ => exact g5 46 rfl rfl
  | 8, _ => exact g5 48 rfl rfl
  | 9, _ => exact g5 50 rfl rfl
  | 10, _ => exact g5 52 rfl rfl
  | 11, _ => exact g5 54 rfl rfl
  | 12, _ => exact g5 56 rfl rfl
  | 13, _ => exact g5 58 rfl rfl
  | 14, _ => exact g5 60 rfl rfl
  | 15, _ => exact g5 62 rfl rfl
  | 16, _ => exact g5 64 rfl rfl
  | 17, _ => exact g5 66 rfl rfl
  | 18, _ => exact g5 68 rfl rfl
  | 19, _ => exact g5 70 rfl rfl
  | 20, _ => exact g5 72 rfl rfl
  | 21, _ => exact g5 74 rfl rfl
  | 22, _ => exact g5 76 rfl rfl
  | 23, _ => exact g5 78 rfl rfl
  | k + 24, h => exact absurd h (by omega)
theorem k_M : ClsOK 8 "LoopProverModel" F_M 24 t_M := ⟨rfl, kw_M, by decide +kernel, by decide +kernel⟩
theorem kw_Constant : ∀ w ∈ u_ws "LoopProver$Constant" F_Constant 4, w ∈ tblG := by
  intro w hw
  obtain ⟨k, hk, rfl⟩ := List.mem_map.mp hw
  have hk := List.mem_range.mp hk
  match k, hk with
  | 0, _ => exact g2 141 rfl rfl
  | 1, _ => exact g2 143 rfl rfl
  | 2, _ => exact g2 145 rfl rfl
  | 3, _ => exact g2 139 rfl rfl
  | k + 4, h => exact absurd h (by omega)
theorem k_Constant : ClsOK 9 "LoopProver$Constant" F_Constant 4 t_Constant := ⟨rfl, kw_Constant, by decide +kernel, by decide +kernel⟩
theorem kw_Variable : ∀ w ∈ u_ws "LoopProver$Variable" F_Variable 4, w ∈ tblG := by
  intro w hw
  obtain ⟨k, hk, rfl⟩ := List.mem_map.mp hw
  have hk := List.mem_range.mp hk
  match k, hk with
  | 0, _ => exact g2 157 rfl rfl
  | 1, _ => exact g2 158 rfl rfl
  | 2, _ => exact g2 159 rfl rfl
  | 3, _ => exact g2 155 rfl rfl
  | k + 4, h => exact absurd h (by omega)
theorem k_Variable : ClsOK 10 "LoopProver$Variable" F_Variable 4 t_Variable := ⟨rfl, kw_Variable, by decide +kernel, by decide +kernel⟩
theorem kw_Read : ∀ w ∈ u_ws "LoopProver$Read" F_Read 3, w ∈ tblG := by
  intro w hw
  obtain ⟨k, hk, rfl⟩ := List.mem_map.mp hw
  have hk := List.mem_range.mp hk
  match k, hk with
  | 0, _ => exact g2 167 rfl rfl
  | 1, _ => exact g2 168 rfl rfl
  | 2, _ => exact g2 169 rfl rfl
  | k + 3, h => exact absurd h (by omega)
theorem k_Read : ClsOK 11 "LoopProver$Read" F_Read 3 t_Read := ⟨rfl, kw_Read, by decide +kernel, by decide +kernel⟩
theorem kw_Sum : ∀ w ∈ u_ws "LoopProver$Sum" F_Sum 4, w ∈ tblG := by
  intro w hw
  obtain ⟨k, hk, rfl⟩ := List.mem_map.mp hw
  have hk := List.mem_range.mp hk
  match k, hk with
  | 0, _ => exact g2 180 rfl rfl
  | 1, _ => exact g2 181 rfl rfl
  | 2, _ => exact g2 182 rfl rfl
  | 3, _ => exact g2 178 rfl rfl
  | k + 4, h => exact absurd h (by omega)
theorem k_Sum : ClsOK 12 "LoopProver$Sum" F_Sum 4 t_Sum := ⟨rfl, kw_Sum, by decide +kernel, by decide +kernel⟩
theorem kw_Meet : ∀ w ∈ u_ws "LoopProver$Meet" F_Meet 3, w ∈ tblG := by
  intro w hw
  obtain ⟨k, hk, rfl⟩ := List.mem_map.mp hw
  have hk := List.mem_range.mp hk
  match k, hk with
  | 0, _ => exact g2 190 rfl rfl
  | 1, _ => exact g2 191 rfl rfl
  | 2, _ => exact g2 192 rfl rfl
  | k + 3, h => exact absurd h (by omega)
theorem k_Meet : ClsOK 13 "LoopProver$Meet" F_Meet 3 t_Meet := ⟨rfl, kw_Meet, by decide +kernel, by decide +kernel⟩
theorem kw_Below : ∀ w ∈ u_ws "LoopProver$Below" F_Below 3, w ∈ tblG := by
  intro w hw
  obtain ⟨k, hk, rfl⟩ := List.mem_map.mp hw
  have hk := List.mem_range.mp hk
  match k, hk with
  | 0, _ => exact g2 203 rfl rfl
  | 1, _ => exact g2 204 rfl rfl
  | 2, _ => exact g2 205 rfl rfl
  | k + 3, h => exact absurd h (by omega)
theorem k_Below : ClsOK 14 "LoopProver$Below" F_Below 3 t_Below := ⟨rfl, kw_Below, by decide +kernel, by decide +kernel⟩
theorem kw_Same : ∀ w ∈ u_ws "LoopProver$Same" F_Same 3, w ∈ tblG := by
  intro w hw
  obtain ⟨k, hk, rfl⟩ := List.mem_map.mp hw
  have hk := List.mem_range.mp hk
  match k, hk with
  | 0, _ => exact g2 213 rfl rfl
  | 1, _ => exact g2 214 rfl rfl
  | 2, _ => exact g2 215 rfl rfl
  | k + 3, h => exact absurd h (by omega)
theorem k_Same : ClsOK 15 "LoopProver$Same" F_Same 3 t_Same := ⟨rfl, kw_Same, by decide +kernel, by decide +kernel⟩
theorem kw_Not : ∀ w ∈ u_ws "LoopProver$Not" F_Not 3, w ∈ tblG := by
  intro w hw
  obtain ⟨k, hk, rfl⟩ := List.mem_map.mp hw
  have hk := List.mem_range.mp hk
  match k, hk with
  | 0, _ => exact g2 223 rfl rfl
  | 1, _ => exact g2 224 rfl rfl
  | 2, _ => exact g2 225 rfl rfl
  | k + 3, h => exact absurd h (by omega)
theorem k_Not : ClsOK 16 "LoopProver$Not" F_Not 3 t_Not := ⟨rfl, kw_Not, by decide +kernel, by decide +kernel⟩
theorem kw_Both : ∀ w ∈ u_ws "LoopProver$Both" F_Both 3, w ∈ tblG := by
  intro w hw
  obtain ⟨k, hk, rfl⟩ := List.mem_map.mp hw
  have hk := List.mem_range.mp hk
  match k, hk with
  | 0, _ => exact g2 233 rfl rfl
  | 1, _ => exact g2 234 rfl rfl
  | 2, _ => exact g2 235 rfl rfl
  | k + 3, h => exact absurd h (by omega)
theorem k_Both : ClsOK 17 "LoopProver$Both" F_Both 3 t_Both := ⟨rfl, kw_Both, by decide +kernel, by decide +kernel⟩
-- methods
abbrev b_P_init : ByteArray := prog_1_method_1_code
def y_P_init : MethodName := ⟨"LoopProver", "<init>", "()V"⟩
abbrev b_JObj_init : ByteArray := object_method_1_code
def y_JObj_init : MethodName := ⟨"java/lang/Object", "<init>", "()V"⟩
abbrev b_AL_init : ByteArray := prog_30_method_1_code
def y_AL_init : MethodName := ⟨"java/util/ArrayList", "<init>", "(I)V"⟩
abbrev b_ABL_init : ByteArray := prog_29_method_1_code
def y_ABL_init : MethodName := ⟨"java/util/AbstractList", "<init>", "()V"⟩
abbrev b_ABC_init : ByteArray := prog_28_method_1_code
def y_ABC_init : MethodName := ⟨"java/util/AbstractCollection", "<init>", "()V"⟩
abbrev b_Circuit_init : ByteArray := prog_5_method_1_code
def y_Circuit_init : MethodName := ⟨"LoopProver$Circuit", "<init>", "()V"⟩
abbrev b_Checker_init : ByteArray := prog_4_method_1_code
def y_Checker_init : MethodName := ⟨"LoopProver$Checker", "<init>", "()V"⟩
abbrev b_Solver_init : ByteArray := prog_15_method_1_code
def y_Solver_init : MethodName := ⟨"LoopProver$Solver", "<init>", "(LLoopProver$Checker;)V"⟩
abbrev b_Flow_init : ByteArray := prog_7_method_1_code
def y_Flow_init : MethodName := ⟨"LoopProver$Flow", "<init>", "()V"⟩
abbrev b_P_node : ByteArray := prog_1_method_6_code
def y_P_node : MethodName := ⟨"LoopProver", "node", "(III)I"⟩
abbrev b_AL_size : ByteArray := prog_30_method_8_code
def y_AL_size : MethodName := ⟨"java/util/ArrayList", "size", "()I"⟩
abbrev b_P_made : ByteArray := prog_1_method_5_code
def y_P_made : MethodName := ⟨"LoopProver", "made", "(III)LLoopProver$Node;"⟩
abbrev b_P_truth : ByteArray := prog_1_method_4_code
def y_P_truth : MethodName := ⟨"LoopProver", "truth", "(I)Z"⟩
abbrev b_P_nodeAt : ByteArray := prog_1_method_2_code
def y_P_nodeAt : MethodName := ⟨"LoopProver", "nodeAt", "(I)LLoopProver$Node;"⟩
abbrev b_AL_get : ByteArray := prog_30_method_20_code
def y_AL_get : MethodName := ⟨"java/util/ArrayList", "get", "(I)Ljava/lang/Object;"⟩
abbrev b_Obj_checkIndex : ByteArray := prog_34_method_17_code
def y_Obj_checkIndex : MethodName := ⟨"java/util/Objects", "checkIndex", "(II)I"⟩
abbrev b_Pre_checkIndex : ByteArray := prog_38_method_11_code
def y_Pre_checkIndex : MethodName := ⟨"jdk/internal/util/Preconditions", "checkIndex", "(IILjava/util/function/BiFunction;)I"⟩
abbrev b_AL_elementData : ByteArray := prog_30_method_18_code
def y_AL_elementData : MethodName := ⟨"java/util/ArrayList", "elementData", "(I)Ljava/lang/Object;"⟩
abbrev b_Truth_truth : ByteArray := prog_17_method_2_code
def y_Truth_truth : MethodName := ⟨"LoopProver$Truth", "truth", "()Z"⟩
abbrev b_Node_truth : ByteArray := prog_11_method_4_code
def y_Node_truth : MethodName := ⟨"LoopProver$Node", "truth", "()Z"⟩
abbrev b_P_numeric : ByteArray := prog_1_method_3_code
def y_P_numeric : MethodName := ⟨"LoopProver", "numeric", "(I)Z"⟩
abbrev b_Constant_init : ByteArray := prog_6_method_1_code
def y_Constant_init : MethodName := ⟨"LoopProver$Constant", "<init>", "(II)V"⟩
abbrev b_Node_init : ByteArray := prog_11_method_1_code
def y_Node_init : MethodName := ⟨"LoopProver$Node", "<init>", "(III)V"⟩
abbrev b_Variable_init : ByteArray := prog_18_method_1_code
def y_Variable_init : MethodName := ⟨"LoopProver$Variable", "<init>", "(II)V"⟩
abbrev b_Read_init : ByteArray := prog_13_method_1_code
def y_Read_init : MethodName := ⟨"LoopProver$Read", "<init>", "(II)V"⟩
abbrev b_Sum_init : ByteArray := prog_16_method_1_code
def y_Sum_init : MethodName := ⟨"LoopProver$Sum", "<init>", "(IIIZ)V"⟩
abbrev b_Meet_init : ByteArray := prog_10_method_1_code
def y_Meet_init : MethodName := ⟨"LoopProver$Meet", "<init>", "(III)V"⟩
abbrev b_Below_init : ByteArray := prog_2_method_1_code
def y_Below_init : MethodName := ⟨"LoopProver$Below", "<init>", "(III)V"⟩
abbrev b_Truth_init : ByteArray := prog_17_method_1_code
def y_Truth_init : MethodName := ⟨"LoopProver$Truth", "<init>", "(III)V"⟩
abbrev b_Same_init : ByteArray := prog_14_method_1_code
def y_Same_init : MethodName := ⟨"LoopProver$Same", "<init>", "(III)V"⟩
abbrev b_Not_init : ByteArray := prog_12_method_1_code
def y_Not_init : MethodName := ⟨"LoopProver$Not", "<init>", "(II)V"⟩
abbrev b_Both_init : ByteArray := prog_3_method_1_code
def y_Both_init : MethodName := ⟨"LoopProver$Both", "<init>", "(III)V"⟩
abbrev b_AL_add1 : ByteArray := prog_30_method_25_code
def y_AL_add1 : MethodName := ⟨"java/util/ArrayList", "add", "(Ljava/lang/Object;)Z"⟩
abbrev b_AL_add2 : ByteArray := prog_30_method_24_code
def y_AL_add2 : MethodName := ⟨"java/util/ArrayList", "add", "(Ljava/lang/Object;[Ljava/lang/Object;I)V"⟩
abbrev b_AL_grow1 : ByteArray := prog_30_method_7_code
def y_AL_grow1 : MethodName := ⟨"java/util/ArrayList", "grow", "()[Ljava/lang/Object;"⟩
abbrev b_AL_grow2 : ByteArray := prog_30_method_6_code
def y_AL_grow2 : MethodName := ⟨"java/util/ArrayList", "grow", "(I)[Ljava/lang/Object;"⟩
abbrev b_AS_newLength : ByteArray := prog_37_method_27_code
def y_AS_newLength : MethodName := ⟨"jdk/internal/util/ArraysSupport", "newLength", "(III)I"⟩
abbrev b_Math_max : ByteArray := prog_26_method_65_code
def y_Math_max : MethodName := ⟨"java/lang/Math", "max", "(II)I"⟩
abbrev b_AS_hugeLength : ByteArray := prog_37_method_28_code
def y_AS_hugeLength : MethodName := ⟨"jdk/internal/util/ArraysSupport", "hugeLength", "(II)I"⟩
abbrev b_Arrs_copyOf1 : ByteArray := prog_31_method_119_code
def y_Arrs_copyOf1 : MethodName := ⟨"java/util/Arrays", "copyOf", "([Ljava/lang/Object;I)[Ljava/lang/Object;"⟩
abbrev b_Arrs_copyOf2 : ByteArray := prog_31_method_120_code
def y_Arrs_copyOf2 : MethodName := ⟨"java/util/Arrays", "copyOf", "([Ljava/lang/Object;ILjava/lang/Class;)[Ljava/lang/Object;"⟩
abbrev b_Math_min : ByteArray := prog_26_method_69_code
def y_Math_min : MethodName := ⟨"java/lang/Math", "min", "(II)I"⟩
abbrev b_P_assign : ByteArray := prog_1_method_9_code
def y_P_assign : MethodName := ⟨"LoopProver", "assign", "(II)I"⟩
abbrev b_P_full : ByteArray := prog_1_method_8_code
def y_P_full : MethodName := ⟨"LoopProver", "full", "()Z"⟩
abbrev b_P_add : ByteArray := prog_1_method_7_code
def y_P_add : MethodName := ⟨"LoopProver", "add", "(LLoopProver$Kind;ILLoopProver$Node;LLoopProver$Node;)LLoopProver$Line;"⟩
abbrev b_Line_init : ByteArray := prog_9_method_1_code
def y_Line_init : MethodName := ⟨"LoopProver$Line", "<init>", "(LLoopProver$Kind;ILLoopProver$Node;LLoopProver$Node;)V"⟩
abbrev b_P_store : ByteArray := prog_1_method_10_code
def y_P_store : MethodName := ⟨"LoopProver", "store", "(II)I"⟩
abbrev b_P_claim : ByteArray := prog_1_method_12_code
def y_P_claim : MethodName := ⟨"LoopProver", "claim", "(I)I"⟩
abbrev b_P_plain : ByteArray := prog_1_method_11_code
def y_P_plain : MethodName := ⟨"LoopProver", "plain", "(LLoopProver$Kind;I)I"⟩
abbrev b_P_assume : ByteArray := prog_1_method_13_code
def y_P_assume : MethodName := ⟨"LoopProver", "assume", "(I)I"⟩
abbrev b_P_when : ByteArray := prog_1_method_15_code
def y_P_when : MethodName := ⟨"LoopProver", "when", "(I)I"⟩
abbrev b_P_block : ByteArray := prog_1_method_14_code
def y_P_block : MethodName := ⟨"LoopProver", "block", "(LLoopProver$Kind;II)I"⟩
abbrev b_P_loop : ByteArray := prog_1_method_16_code
def y_P_loop : MethodName := ⟨"LoopProver", "loop", "(II)I"⟩
abbrev b_P_other : ByteArray := prog_1_method_18_code
def y_P_other : MethodName := ⟨"LoopProver", "other", "()I"⟩
abbrev b_P_inner : ByteArray := prog_1_method_17_code
def y_P_inner : MethodName := ⟨"LoopProver", "inner", "()LLoopProver$Line;"⟩
abbrev b_P_end : ByteArray := prog_1_method_19_code
def y_P_end : MethodName := ⟨"LoopProver", "end", "()I"⟩
abbrev b_P_clear : ByteArray := prog_1_method_20_code
def y_P_clear : MethodName := ⟨"LoopProver", "clear", "()I"⟩
abbrev b_AL_clear : ByteArray := prog_30_method_40_code
def y_AL_clear : MethodName := ⟨"java/util/ArrayList", "clear", "()V"⟩
abbrev b_P_verify : ByteArray := prog_1_method_28_code
def y_P_verify : MethodName := ⟨"LoopProver", "verify", "(II)I"⟩
abbrev b_P_decide : ByteArray := prog_1_method_27_code
def y_P_decide : MethodName := ⟨"LoopProver", "decide", "(LLoopProver$Node;LLoopProver$Node;ZILLoopProver$Node;)V"⟩
abbrev b_Verdict_init : ByteArray := prog_19_method_1_code
def y_Verdict_init : MethodName := ⟨"LoopProver$Verdict", "<init>", "()V"⟩
abbrev b_Circuit_begin : ByteArray := prog_5_method_2_code
def y_Circuit_begin : MethodName := ⟨"LoopProver$Circuit", "begin", "()V"⟩
abbrev b_Circuit_add : ByteArray := prog_5_method_7_code
def y_Circuit_add : MethodName := ⟨"LoopProver$Circuit", "add", "(III)V"⟩
abbrev b_Circuit_open : ByteArray := prog_5_method_5_code
def y_Circuit_open : MethodName := ⟨"LoopProver$Circuit", "open", "()V"⟩
abbrev b_Circuit_longer : ByteArray := prog_5_method_11_code
def y_Circuit_longer : MethodName := ⟨"LoopProver$Circuit", "longer", "([I)[I"⟩
abbrev b_Circuit_put : ByteArray := prog_5_method_4_code
def y_Circuit_put : MethodName := ⟨"LoopProver$Circuit", "put", "(I)V"⟩
abbrev b_Circuit_room : ByteArray := prog_5_method_3_code
def y_Circuit_room : MethodName := ⟨"LoopProver$Circuit", "room", "()V"⟩
abbrev b_Circuit_close : ByteArray := prog_5_method_6_code
def y_Circuit_close : MethodName := ⟨"LoopProver$Circuit", "close", "()V"⟩
abbrev b_P_gate : ByteArray := prog_1_method_22_code
def y_P_gate : MethodName := ⟨"LoopProver", "gate", "(LLoopProver$Node;[I)I"⟩
abbrev b_P_need : ByteArray := prog_1_method_21_code
def y_P_need : MethodName := ⟨"LoopProver", "need", "(I)V"⟩
abbrev b_Below_gates : ByteArray := prog_2_method_3_code
def y_Below_gates : MethodName := ⟨"LoopProver$Below", "gates", "(LLoopProver$Circuit;[I[I)V"⟩
abbrev b_Circuit_differ : ByteArray := prog_5_method_15_code
def y_Circuit_differ : MethodName := ⟨"LoopProver$Circuit", "differ", "(II)I"⟩
abbrev b_Circuit_and : ByteArray := prog_5_method_12_code
def y_Circuit_and : MethodName := ⟨"LoopProver$Circuit", "and", "(II)I"⟩
abbrev b_Circuit_grow : ByteArray := prog_5_method_13_code
def y_Circuit_grow : MethodName := ⟨"LoopProver$Circuit", "grow", "()V"⟩
abbrev b_Circuit_or : ByteArray := prog_5_method_14_code
def y_Circuit_or : MethodName := ⟨"LoopProver$Circuit", "or", "(II)I"⟩
abbrev b_Circuit_either : ByteArray := prog_5_method_16_code
def y_Circuit_either : MethodName := ⟨"LoopProver$Circuit", "either", "(III)I"⟩
abbrev b_Both_gates : ByteArray := prog_3_method_3_code
def y_Both_gates : MethodName := ⟨"LoopProver$Both", "gates", "(LLoopProver$Circuit;[I[I)V"⟩
abbrev b_Constant_gates : ByteArray := prog_6_method_3_code
def y_Constant_gates : MethodName := ⟨"LoopProver$Constant", "gates", "(LLoopProver$Circuit;[I[I)V"⟩
abbrev b_Meet_gates : ByteArray := prog_10_method_3_code
def y_Meet_gates : MethodName := ⟨"LoopProver$Meet", "gates", "(LLoopProver$Circuit;[I[I)V"⟩
abbrev b_Not_gates : ByteArray := prog_12_method_3_code
def y_Not_gates : MethodName := ⟨"LoopProver$Not", "gates", "(LLoopProver$Circuit;[I[I)V"⟩
abbrev b_Read_gates : ByteArray := prog_13_method_3_code
def y_Read_gates : MethodName := ⟨"LoopProver$Read", "gates", "(LLoopProver$Circuit;[I[I)V"⟩
abbrev b_Same_gates : ByteArray := prog_14_method_3_code
def y_Same_gates : MethodName := ⟨"LoopProver$Same", "gates", "(LLoopProver$Circuit;[I[I)V"⟩
abbrev b_Sum_gates : ByteArray := prog_16_method_3_code
def y_Sum_gates : MethodName := ⟨"LoopProver$Sum", "gates", "(LLoopProver$Circuit;[I[I)V"⟩
abbrev b_Variable_gates : ByteArray := prog_18_method_3_code
def y_Variable_gates : MethodName := ⟨"LoopProver$Variable", "gates", "(LLoopProver$Circuit;[I[I)V"⟩
abbrev b_P_go : ByteArray := prog_1_method_24_code
def y_P_go : MethodName := ⟨"LoopProver", "go", "(LLoopProver;IILLoopProver$Flow;I)V"⟩
abbrev b_Enum_ordinal : ByteArray := prog_24_method_2_code
def y_Enum_ordinal : MethodName := ⟨"java/lang/Enum", "ordinal", "()I"⟩
abbrev b_P_storeIn : ByteArray := prog_1_method_23_code
def y_P_storeIn : MethodName := ⟨"LoopProver", "storeIn", "(LLoopProver$Line;[I)V"⟩
abbrev b_Flow_must : ByteArray := prog_7_method_3_code
def y_Flow_must : MethodName := ⟨"LoopProver$Flow", "must", "(LLoopProver$Circuit;I)V"⟩
abbrev b_P_parted : ByteArray := prog_1_method_26_code
def y_P_parted : MethodName := ⟨"LoopProver", "parted", "(LLoopProver;ILLoopProver$Line;LLoopProver$Flow;I)V"⟩
abbrev b_Flow_copy : ByteArray := prog_7_method_2_code
def y_Flow_copy : MethodName := ⟨"LoopProver$Flow", "copy", "(LLoopProver$Flow;)V"⟩
abbrev b_P_stop : ByteArray := prog_1_method_25_code
def y_P_stop : MethodName := ⟨"LoopProver", "stop", "(LLoopProver;LLoopProver$Line;LLoopProver$Flow;)V"⟩
abbrev b_Solver_solve : ByteArray := prog_15_method_11_code
def y_Solver_solve : MethodName := ⟨"LoopProver$Solver", "solve", "(LLoopProver$Circuit;)Z"⟩
abbrev b_Solver_prepare : ByteArray := prog_15_method_2_code
def y_Solver_prepare : MethodName := ⟨"LoopProver$Solver", "prepare", "(LLoopProver$Circuit;)V"⟩
abbrev b_Solver_start : ByteArray := prog_15_method_6_code
def y_Solver_start : MethodName := ⟨"LoopProver$Solver", "start", "()I"⟩
abbrev b_Solver_broken : ByteArray := prog_15_method_4_code
def y_Solver_broken : MethodName := ⟨"LoopProver$Solver", "broken", "(I)Z"⟩
abbrev b_Solver_set : ByteArray := prog_15_method_3_code
def y_Solver_set : MethodName := ⟨"LoopProver$Solver", "set", "(II)V"⟩
abbrev b_Solver_spread : ByteArray := prog_15_method_5_code
def y_Solver_spread : MethodName := ⟨"LoopProver$Solver", "spread", "()I"⟩
abbrev b_Solver_explain : ByteArray := prog_15_method_8_code
def y_Solver_explain : MethodName := ⟨"LoopProver$Solver", "explain", "(I)V"⟩
abbrev b_Solver_mark : ByteArray := prog_15_method_7_code
def y_Solver_mark : MethodName := ⟨"LoopProver$Solver", "mark", "(I)V"⟩
abbrev b_Checker_accepts : ByteArray := prog_4_method_5_code
def y_Checker_accepts : MethodName := ⟨"LoopProver$Checker", "accepts", "(LLoopProver$Circuit;[II[II)Z"⟩
abbrev b_Checker_note : ByteArray := prog_4_method_2_code
def y_Checker_note : MethodName := ⟨"LoopProver$Checker", "note", "(I)V"⟩
abbrev b_Checker_rest : ByteArray := prog_4_method_4_code
def y_Checker_rest : MethodName := ⟨"LoopProver$Checker", "rest", "(LLoopProver$Circuit;I)I"⟩
abbrev b_Checker_forget : ByteArray := prog_4_method_3_code
def y_Checker_forget : MethodName := ⟨"LoopProver$Checker", "forget", "()V"⟩
abbrev b_Solver_back : ByteArray := prog_15_method_9_code
def y_Solver_back : MethodName := ⟨"LoopProver$Solver", "back", "()V"⟩
abbrev b_Circuit_lastFirst : ByteArray := prog_5_method_10_code
def y_Circuit_lastFirst : MethodName := ⟨"LoopProver$Circuit", "lastFirst", "()I"⟩
abbrev b_Circuit_drop : ByteArray := prog_5_method_9_code
def y_Circuit_drop : MethodName := ⟨"LoopProver$Circuit", "drop", "()V"⟩
abbrev b_Circuit_keep : ByteArray := prog_5_method_8_code
def y_Circuit_keep : MethodName := ⟨"LoopProver$Circuit", "keep", "([II)V"⟩
abbrev b_Solver_nextInput : ByteArray := prog_15_method_10_code
def y_Solver_nextInput : MethodName := ⟨"LoopProver$Solver", "nextInput", "()I"⟩
abbrev b_P_follow : ByteArray := prog_1_method_38_code
def y_P_follow : MethodName := ⟨"LoopProver", "follow", "(IILLoopProver$Node;)I"⟩
abbrev b_P_load : ByteArray := prog_1_method_34_code
def y_P_load : MethodName := ⟨"LoopProver", "load", "(I)V"⟩
abbrev b_P_done : ByteArray := prog_1_method_37_code
def y_P_done : MethodName := ⟨"LoopProver", "done", "(ILLoopProver$Line;)I"⟩
abbrev b_P_worth : ByteArray := prog_1_method_35_code
def y_P_worth : MethodName := ⟨"LoopProver", "worth", "(LLoopProver$Node;)I"⟩
abbrev b_Below_of : ByteArray := prog_2_method_2_code
def y_Below_of : MethodName := ⟨"LoopProver$Below", "of", "([I[I)I"⟩
abbrev b_Both_of : ByteArray := prog_3_method_2_code
def y_Both_of : MethodName := ⟨"LoopProver$Both", "of", "([I[I)I"⟩
abbrev b_Constant_of : ByteArray := prog_6_method_2_code
def y_Constant_of : MethodName := ⟨"LoopProver$Constant", "of", "([I[I)I"⟩
abbrev b_Meet_of : ByteArray := prog_10_method_2_code
def y_Meet_of : MethodName := ⟨"LoopProver$Meet", "of", "([I[I)I"⟩
abbrev b_Not_of : ByteArray := prog_12_method_2_code
def y_Not_of : MethodName := ⟨"LoopProver$Not", "of", "([I[I)I"⟩
abbrev b_Read_of : ByteArray := prog_13_method_2_code
def y_Read_of : MethodName := ⟨"LoopProver$Read", "of", "([I[I)I"⟩
abbrev b_Same_of : ByteArray := prog_14_method_2_code
def y_Same_of : MethodName := ⟨"LoopProver$Same", "of", "([I[I)I"⟩
abbrev b_Sum_of : ByteArray := prog_16_method_2_code
def y_Sum_of : MethodName := ⟨"LoopProver$Sum", "of", "([I[I)I"⟩
abbrev b_Variable_of : ByteArray := prog_18_method_2_code
def y_Variable_of : MethodName := ⟨"LoopProver$Variable", "of", "([I[I)I"⟩
abbrev b_P_holds : ByteArray := prog_1_method_36_code
def y_P_holds : MethodName := ⟨"LoopProver", "holds", "(LLoopProver$Node;)Z"⟩
abbrev b_P_conditions : ByteArray := prog_1_method_30_code
def y_P_conditions : MethodName := ⟨"LoopProver", "conditions", "()I"⟩
abbrev b_P_witness : ByteArray := prog_1_method_31_code
def y_P_witness : MethodName := ⟨"LoopProver", "witness", "(I)I"⟩
abbrev b_P_verdict : ByteArray := prog_1_method_29_code
def y_P_verdict : MethodName := ⟨"LoopProver", "verdict", "(I)LLoopProver$Verdict;"⟩
abbrev b_P_proved : ByteArray := prog_1_method_32_code
def y_P_proved : MethodName := ⟨"LoopProver", "proved", "(I)Z"⟩
abbrev b_P_failure : ByteArray := prog_1_method_33_code
def y_P_failure : MethodName := ⟨"LoopProver", "failure", "(I)I"⟩
abbrev b_P_run : ByteArray := prog_1_method_39_code
def y_P_run : MethodName := ⟨"LoopProver", "run", "(II)I"⟩
abbrev b_P_value : ByteArray := prog_1_method_40_code
def y_P_value : MethodName := ⟨"LoopProver", "value", "(II)I"⟩
abbrev b_M_init : ByteArray := prog_21_method_1_code
def y_M_init : MethodName := ⟨"LoopProverModel", "<init>", "()V"⟩
abbrev b_M_node : ByteArray := prog_21_method_5_code
def y_M_node : MethodName := ⟨"LoopProverModel", "node", "(III)I"⟩
abbrev b_M_below : ByteArray := prog_21_method_2_code
def y_M_below : MethodName := ⟨"LoopProverModel", "below", "(II)Z"⟩
abbrev b_M_numeric : ByteArray := prog_21_method_3_code
def y_M_numeric : MethodName := ⟨"LoopProverModel", "numeric", "(I)Z"⟩
abbrev b_M_truth : ByteArray := prog_21_method_4_code
def y_M_truth : MethodName := ⟨"LoopProverModel", "truth", "(I)Z"⟩
abbrev b_M_assign : ByteArray := prog_21_method_12_code
def y_M_assign : MethodName := ⟨"LoopProverModel", "assign", "(II)I"⟩
abbrev b_M_add : ByteArray := prog_21_method_11_code
def y_M_add : MethodName := ⟨"LoopProverModel", "add", "(III)I"⟩
abbrev b_M_store : ByteArray := prog_21_method_13_code
def y_M_store : MethodName := ⟨"LoopProverModel", "store", "(II)I"⟩
abbrev b_M_claim : ByteArray := prog_21_method_14_code
def y_M_claim : MethodName := ⟨"LoopProverModel", "claim", "(I)I"⟩
abbrev b_M_assume : ByteArray := prog_21_method_15_code
def y_M_assume : MethodName := ⟨"LoopProverModel", "assume", "(I)I"⟩
abbrev b_M_when : ByteArray := prog_21_method_17_code
def y_M_when : MethodName := ⟨"LoopProverModel", "when", "(I)I"⟩
abbrev b_M_begin : ByteArray := prog_21_method_16_code
def y_M_begin : MethodName := ⟨"LoopProverModel", "begin", "(III)I"⟩
abbrev b_M_loop : ByteArray := prog_21_method_18_code
def y_M_loop : MethodName := ⟨"LoopProverModel", "loop", "(II)I"⟩
abbrev b_M_other : ByteArray := prog_21_method_19_code
def y_M_other : MethodName := ⟨"LoopProverModel", "other", "()I"⟩
abbrev b_M_end : ByteArray := prog_21_method_20_code
def y_M_end : MethodName := ⟨"LoopProverModel", "end", "()I"⟩
abbrev b_M_clear : ByteArray := prog_21_method_21_code
def y_M_clear : MethodName := ⟨"LoopProverModel", "clear", "()I"⟩
abbrev b_M_verify : ByteArray := prog_21_method_26_code
def y_M_verify : MethodName := ⟨"LoopProverModel", "verify", "(II)I"⟩
abbrev b_M_decide : ByteArray := prog_21_method_25_code
def y_M_decide : MethodName := ⟨"LoopProverModel", "decide", "(IIZI)V"⟩
abbrev b_M_take : ByteArray := prog_21_method_9_code
def y_M_take : MethodName := ⟨"LoopProverModel", "take", "(I)V"⟩
abbrev b_M_holds : ByteArray := prog_21_method_8_code
def y_M_holds : MethodName := ⟨"LoopProverModel", "holds", "(I)Z"⟩
abbrev b_M_eval : ByteArray := prog_21_method_6_code
def y_M_eval : MethodName := ⟨"LoopProverModel", "eval", "(I)I"⟩
abbrev b_M_worked : ByteArray := prog_21_method_7_code
def y_M_worked : MethodName := ⟨"LoopProverModel", "worked", "(III)I"⟩
abbrev b_M_goesRight : ByteArray := prog_21_method_24_code
def y_M_goesRight : MethodName := ⟨"LoopProverModel", "goesRight", "(I)Z"⟩
abbrev b_M_change : ByteArray := prog_21_method_22_code
def y_M_change : MethodName := ⟨"LoopProverModel", "change", "(I)V"⟩
abbrev b_M_next : ByteArray := prog_21_method_23_code
def y_M_next : MethodName := ⟨"LoopProverModel", "next", "(I)I"⟩
abbrev b_M_conditions : ByteArray := prog_21_method_27_code
def y_M_conditions : MethodName := ⟨"LoopProverModel", "conditions", "()I"⟩
abbrev b_M_witness : ByteArray := prog_21_method_29_code
def y_M_witness : MethodName := ⟨"LoopProverModel", "witness", "(I)I"⟩
abbrev b_M_is : ByteArray := prog_21_method_28_code
def y_M_is : MethodName := ⟨"LoopProverModel", "is", "(I)Z"⟩
abbrev b_M_proved : ByteArray := prog_21_method_30_code
def y_M_proved : MethodName := ⟨"LoopProverModel", "proved", "(I)Z"⟩
abbrev b_M_failure : ByteArray := prog_21_method_31_code
def y_M_failure : MethodName := ⟨"LoopProverModel", "failure", "(I)I"⟩
abbrev b_M_run : ByteArray := prog_21_method_32_code
def y_M_run : MethodName := ⟨"LoopProverModel", "run", "(II)I"⟩
abbrev b_M_number : ByteArray := prog_21_method_10_code
def y_M_number : MethodName := ⟨"LoopProverModel", "number", "()I"⟩
abbrev b_M_value : ByteArray := prog_21_method_33_code
def y_M_value : MethodName := ⟨"LoopProverModel", "value", "(II)I"⟩
/-- the words that a call doesn't hand on by itself: nest mates' links, declarations, casts -/
def nbW : List Cond := [(.methodLinkNest "LoopProver" (33 : Nat) ({ cls := "LoopProver$Circuit", name := "<init>", desc := "()V" } : MethodName) "LoopProver"), (.fieldLinkNest "LoopProver$Checker" (31 : Nat) "LoopProver$Circuit" "literals" "[I" "LoopProver"), (.fieldLinkNest "LoopProver$Solver" (73 : Nat) "LoopProver$Circuit" "literals" "[I" "LoopProver"), (.fieldLinkNest "LoopProver$Checker" (28 : Nat) "LoopProver$Circuit" "starts" "[I" "LoopProver"), (.fieldLinkNest "LoopProver$Solver" (70 : Nat) "LoopProver$Circuit" "starts" "[I" "LoopProver"), (.fieldLinkNest "LoopProver$Solver" (45 : Nat) "LoopProver$Circuit" "clauses" "I" "LoopProver"), (.fieldLinkNest "LoopProver$Checker" (42 : Nat) "LoopProver$Circuit" "clauses" "I" "LoopProver"), (.fieldLinkNest "LoopProver$Solver" (54 : Nat) "LoopProver$Circuit" "variables" "I" "LoopProver"), (.fieldLinkNest "LoopProver$Checker" (35 : Nat) "LoopProver$Circuit" "variables" "I" "LoopProver"), (.fieldLinkNest "LoopProver$Solver" (83 : Nat) "LoopProver$Circuit" "clauseOf" "[I" "LoopProver"), (.fieldLinkNest "LoopProver$Solver" (90 : Nat) "LoopProver$Circuit" "nextOf" "[I" "LoopProver"), (.fieldLinkNest "LoopProver$Solver" (80 : Nat) "LoopProver$Circuit" "places" "[I" "LoopProver"), (.methodLinkNest "LoopProver" (42 : Nat) ({ cls := "LoopProver$Checker", name := "<init>", desc := "()V" } : MethodName) "LoopProver"), (.fieldLinkNest "LoopProver" (320 : Nat) "LoopProver$Solver" "truths" "[I" "LoopProver"), (.fieldLinkNest "LoopProver" (317 : Nat) "LoopProver$Solver" "sound" "Z" "LoopProver"), (.methodLinkNest "LoopProver" (52 : Nat) ({ cls := "LoopProver$Flow", name := "<init>", desc := "()V" } : MethodName) "LoopProver"), (.fieldLinkNest "LoopProver" (246 : Nat) "LoopProver$Flow" "scene" "[I" "LoopProver"), (.fieldLinkNest "LoopProver" (266 : Nat) "LoopProver$Flow" "alive" "I" "LoopProver"), (.fieldLinkNest "LoopProver" (292 : Nat) "LoopProver$Flow" "wrong" "I" "LoopProver"), (.fieldLinkNest "LoopProver" (191 : Nat) "LoopProver$Line" "kind" "LLoopProver$Kind;" "LoopProver"), (.fieldLinkNest "LoopProver" (249 : Nat) "LoopProver$Line" "v" "I" "LoopProver"), (.fieldLinkNest "LoopProver" (236 : Nat) "LoopProver$Line" "a" "LLoopProver$Node;" "LoopProver"), (.fieldLinkNest "LoopProver" (228 : Nat) "LoopProver$Line" "b" "LLoopProver$Node;" "LoopProver"), (.fieldLinkNest "LoopProver" (194 : Nat) "LoopProver$Line" "other" "I" "LoopProver"), (.fieldLinkNest "LoopProver" (203 : Nat) "LoopProver$Line" "end" "I" "LoopProver"), (.fieldLinkNest "LoopProver" (200 : Nat) "LoopProver$Line" "opened" "I" "LoopProver"), (.methodLinkNest "LoopProver" (298 : Nat) ({ cls := "LoopProver$Verdict", name := "<init>", desc := "()V" } : MethodName) "LoopProver"), (.fieldLinkNest "LoopProver" (299 : Nat) "LoopProver$Verdict" "witness" "I" "LoopProver"), (.fieldLinkNest "LoopProver" (302 : Nat) "LoopProver$Verdict" "failure" "I" "LoopProver"), (.fieldLinkNest "LoopProver" (305 : Nat) "LoopProver$Verdict" "proved" "Z" "LoopProver"), (.declares ({ cls := "LoopProver$Node", name := "gates", desc := "(LLoopProver$Circuit;[I[I)V" } : MethodName)), (.declares ({ cls := "java/lang/Enum", name := "ordinal", desc := "()I" } : MethodName)), (.declares ({ cls := "LoopProver$Node", name := "of", desc := "([I[I)I" } : MethodName)), (.castable "LoopProver$Below" "LoopProver$Node"), (.castable "LoopProver$Both" "LoopProver$Node"), (.castable "LoopProver$Constant" "LoopProver$Node"), (.castable "LoopProver$Meet" "LoopProver$Node"), (.castable "LoopProver$Not" "LoopProver$Node"), (.castable "LoopProver$Read" "LoopProver$Node"), (.castable "LoopProver$Same" "LoopProver$Node"), (.castable "LoopProver$Sum" "LoopProver$Node"), (.castable "LoopProver$Variable" "LoopProver$Node"), (.castable "LoopProver$Line" "LoopProver$Line"), (.declares ({ cls := "java/lang/Object", name := "getClass", desc := "()Ljava/lang/Class;" } : MethodName)), (.castable "LoopProver" "java/lang/Object"), (.castable "LoopProver$Circuit" "java/lang/Object"), (.castable "LoopProver$Solver" "java/lang/Object"), (.castable "LoopProver$Checker" "java/lang/Object"), (.castable "LoopProver$Flow" "java/lang/Object"), (.castable "LoopProverModel" "java/lang/Object"), (.castable "LoopProver$Constant" "java/lang/Object"), (.castable "LoopProver$Variable" "java/lang/Object"), (.castable "LoopProver$Read" "java/lang/Object"), (.castable "LoopProver$Sum" "java/lang/Object"), (.castable "LoopProver$Meet" "java/lang/Object"), (.castable "LoopProver$Below" "java/lang/Object"), (.castable "LoopProver$Same" "java/lang/Object"), (.castable "LoopProver$Not" "java/lang/Object"), (.castable "LoopProver$Both" "java/lang/Object"), (.castable "LoopProver$Line" "java/lang/Object"), (.castable "LoopProver$Verdict" "java/lang/Object"), (.castable "LoopProver$Kind" "java/lang/Object")]
theorem nbW_in : ∀ w ∈ nbW, w ∈ tables_1 := by
  intro w hw
  obtain ⟨i, hi, rfl⟩ := List.getElem_of_mem hw
  match i, hi with
  | 0, _ => exact in1 71 rfl
  | 1, _ => exact in1 76 rfl
  | 2, _ => exact in1 77 rfl
  | 3, _ => exact in1 79 rfl
  | 4, _ => exact in1 80 rfl
  | 5, _ => exact in1 83 rfl
  | 6, _ => exact in1 84 rfl
  | 7, _ => exact in1 86 rfl
  | 8, _ => exact in1 87 rfl
  | 9, _ => exact in1 89 rfl
  | 10, _ => exact in1 91 rfl
  | 11, _ => exact in1 93 rfl
  | 12, _ => exact in1 128 rfl
  | 13, _ => exact in1 150 rfl
  | 14, _ => exact in1 164 rfl
  | 15, _ => exact in1 203 rfl
  | 16, _ => exact in1 208 rfl
  | 17, _ => exact in1 210 rfl
  | 18, _ => exact in1 212 rfl
  | 19, _ => exact in3 84 rfl
  | 20, _ => exact in3 86 rfl
  | 21, _ => exact in3 88 rfl
  | 22, _ => exact in3 90 rfl
  | 23, _ => exact in3 92 rfl
  | 24, _ => exact in3 94 rfl
  | 25, _ => exact in3 96 rfl
  | 26, _ => exact in3 183 rfl
  | 27, _ => exact in3 188 rfl
  | 28, _ => exact in3 190 rfl
  | 29, _ => exact in3 191 rfl
  | 30, _ => exact in3 236 rfl
  | 31, _ => exact in4 62 rfl
  | 32, _ => exact in4 180 rfl
  | 33, _ => exact in5 210 rfl
  | 34, _ => exact in5 211 rfl
  | 35, _ => exact in5 212 rfl
  | 36, _ => exact in5 213 rfl
  | 37, _ => exact in5 214 rfl
  | 38, _ => exact in5 215 rfl
  | 39, _ => exact in5 216 rfl
  | 40, _ => exact in5 217 rfl
  | 41, _ => exact in5 218 rfl
  | 42, _ => exact in5 219 rfl
  | 43, _ => exact in5 222 rfl
  | 44, _ => exact in5 223 rfl
  | 45, _ => exact in5 224 rfl
  | 46, _ => exact in5 225 rfl
  | 47, _ => exact in5 226 rfl
  | 48, _ => exact in5 227 rfl
  | 49, _ => exact in5 228 rfl
  | 50, _ => exact in5 229 rfl
  | 51, _ => exact in5 230 rfl
  | 52, _ => exact in5 231 rfl
  | 53, _ => exact in5 232 rfl
  | 54, _ => exact in5 233 rfl
  | 55, _ => exact in5 234 rfl
  | 56, _ => exact in5 235 rfl
  | 57, _ => exact in5 236 rfl
  | 58, _ => exact in5 237 rfl
  | 59, _ => exact in5 238 rfl
  | 60, _ => exact in5 239 rfl
  | 61, _ => exact in6 0 rfl
  | i + 62, h => exact absurd h (by simp [nbW])
