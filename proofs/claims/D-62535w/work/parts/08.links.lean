/-! LINKS, printed by gen/links.py -/
theorem f_AL_9 : FLk "java/util/ArrayList" 9 1 0 "java/util/ArrayList" F_AL 3 t_AL := ⟨k_AL, by decide, "java/util/ArrayList", Or.inl (g1 55 rfl rfl), Or.inl rfl⟩
theorem f_AL_48 : FLk "java/util/ArrayList" 48 1 1 "java/util/ArrayList" F_AL 3 t_AL := ⟨k_AL, by decide, "java/util/ArrayList", Or.inl (g1 56 rfl rfl), Or.inl rfl⟩
theorem f_ABL_7 : FLk "java/util/AbstractList" 7 1 2 "java/util/ArrayList" F_AL 3 t_AL := ⟨k_AL, by decide, "java/util/AbstractList", Or.inl (g1 57 rfl rfl), Or.inl rfl⟩
theorem f_AL_63 : FLk "java/util/ArrayList" 63 1 2 "java/util/ArrayList" F_AL 3 t_AL := ⟨k_AL, by decide, "java/util/ArrayList", Or.inl (g1 58 rfl rfl), Or.inr (g1 59 rfl rfl)⟩
theorem f_Circuit_9 : FLk "LoopProver$Circuit" 9 2 0 "LoopProver$Circuit" F_Circuit 12 t_Circuit := ⟨k_Circuit, by decide, "LoopProver$Circuit", Or.inl (g1 75 rfl rfl), Or.inl rfl⟩
theorem f_Circuit_15 : FLk "LoopProver$Circuit" 15 2 1 "LoopProver$Circuit" F_Circuit 12 t_Circuit := ⟨k_Circuit, by decide, "LoopProver$Circuit", Or.inl (g1 78 rfl rfl), Or.inl rfl⟩
theorem f_Circuit_39 : FLk "LoopProver$Circuit" 39 2 2 "LoopProver$Circuit" F_Circuit 12 t_Circuit := ⟨k_Circuit, by decide, "LoopProver$Circuit", Or.inl (g1 81 rfl rfl), Or.inl rfl⟩
theorem f_Circuit_43 : FLk "LoopProver$Circuit" 43 2 3 "LoopProver$Circuit" F_Circuit 12 t_Circuit := ⟨k_Circuit, by decide, "LoopProver$Circuit", Or.inl (g1 82 rfl rfl), Or.inl rfl⟩
theorem f_Circuit_46 : FLk "LoopProver$Circuit" 46 2 4 "LoopProver$Circuit" F_Circuit 12 t_Circuit := ⟨k_Circuit, by decide, "LoopProver$Circuit", Or.inl (g1 85 rfl rfl), Or.inl rfl⟩
theorem f_Circuit_18 : FLk "LoopProver$Circuit" 18 2 5 "LoopProver$Circuit" F_Circuit 12 t_Circuit := ⟨k_Circuit, by decide, "LoopProver$Circuit", Or.inl (g1 88 rfl rfl), Or.inl rfl⟩
theorem f_Circuit_21 : FLk "LoopProver$Circuit" 21 2 6 "LoopProver$Circuit" F_Circuit 12 t_Circuit := ⟨k_Circuit, by decide, "LoopProver$Circuit", Or.inl (g1 90 rfl rfl), Or.inl rfl⟩
theorem f_Circuit_24 : FLk "LoopProver$Circuit" 24 2 7 "LoopProver$Circuit" F_Circuit 12 t_Circuit := ⟨k_Circuit, by decide, "LoopProver$Circuit", Or.inl (g1 92 rfl rfl), Or.inl rfl⟩
theorem f_Circuit_27 : FLk "LoopProver$Circuit" 27 2 8 "LoopProver$Circuit" F_Circuit 12 t_Circuit := ⟨k_Circuit, by decide, "LoopProver$Circuit", Or.inl (g1 94 rfl rfl), Or.inl rfl⟩
theorem f_Circuit_30 : FLk "LoopProver$Circuit" 30 2 9 "LoopProver$Circuit" F_Circuit 12 t_Circuit := ⟨k_Circuit, by decide, "LoopProver$Circuit", Or.inl (g1 95 rfl rfl), Or.inl rfl⟩
theorem f_Circuit_33 : FLk "LoopProver$Circuit" 33 2 10 "LoopProver$Circuit" F_Circuit 12 t_Circuit := ⟨k_Circuit, by decide, "LoopProver$Circuit", Or.inl (g1 96 rfl rfl), Or.inl rfl⟩
theorem f_Circuit_36 : FLk "LoopProver$Circuit" 36 2 11 "LoopProver$Circuit" F_Circuit 12 t_Circuit := ⟨k_Circuit, by decide, "LoopProver$Circuit", Or.inl (g1 97 rfl rfl), Or.inl rfl⟩
theorem f_Circuit_36F : ∃ ref, Cond.fieldLink "LoopProver$Circuit" 36 ref (F_Circuit 11).2.1 (F_Circuit 11).2.2.1 ∈ tblG ∧ ref = (F_Circuit 11).1 := ⟨"LoopProver$Circuit", (g1 97 rfl rfl), rfl⟩
theorem f_Checker_9 : FLk "LoopProver$Checker" 9 4 0 "LoopProver$Checker" F_Checker 3 t_Checker := ⟨k_Checker, by decide, "LoopProver$Checker", Or.inl (g1 132 rfl rfl), Or.inl rfl⟩
theorem f_Checker_15 : FLk "LoopProver$Checker" 15 4 1 "LoopProver$Checker" F_Checker 3 t_Checker := ⟨k_Checker, by decide, "LoopProver$Checker", Or.inl (g1 133 rfl rfl), Or.inl rfl⟩
theorem f_Checker_18 : FLk "LoopProver$Checker" 18 4 2 "LoopProver$Checker" F_Checker 3 t_Checker := ⟨k_Checker, by decide, "LoopProver$Checker", Or.inl (g1 134 rfl rfl), Or.inl rfl⟩
theorem f_Solver_37 : FLk "LoopProver$Solver" 37 3 0 "LoopProver$Solver" F_Solver 17 t_Solver := ⟨k_Solver, by decide, "LoopProver$Solver", Or.inl (g1 146 rfl rfl), Or.inl rfl⟩
theorem f_Solver_37F : ∃ ref, Cond.fieldLink "LoopProver$Solver" 37 ref (F_Solver 0).2.1 (F_Solver 0).2.2.1 ∈ tblG ∧ ref = (F_Solver 0).1 := ⟨"LoopProver$Solver", (g1 146 rfl rfl), rfl⟩
theorem f_Solver_41 : FLk "LoopProver$Solver" 41 3 1 "LoopProver$Solver" F_Solver 17 t_Solver := ⟨k_Solver, by decide, "LoopProver$Solver", Or.inl (g1 147 rfl rfl), Or.inl rfl⟩
theorem f_Solver_51 : FLk "LoopProver$Solver" 51 3 2 "LoopProver$Solver" F_Solver 17 t_Solver := ⟨k_Solver, by decide, "LoopProver$Solver", Or.inl (g1 148 rfl rfl), Or.inl rfl⟩
theorem f_Solver_9 : FLk "LoopProver$Solver" 9 3 3 "LoopProver$Solver" F_Solver 17 t_Solver := ⟨k_Solver, by decide, "LoopProver$Solver", Or.inl (g1 149 rfl rfl), Or.inl rfl⟩
theorem f_Solver_15 : FLk "LoopProver$Solver" 15 3 4 "LoopProver$Solver" F_Solver 17 t_Solver := ⟨k_Solver, by decide, "LoopProver$Solver", Or.inl (g1 151 rfl rfl), Or.inl rfl⟩
theorem f_Solver_18 : FLk "LoopProver$Solver" 18 3 5 "LoopProver$Solver" F_Solver 17 t_Solver := ⟨k_Solver, by decide, "LoopProver$Solver", Or.inl (g1 152 rfl rfl), Or.inl rfl⟩
theorem f_Solver_21 : FLk "LoopProver$Solver" 21 3 6 "LoopProver$Solver" F_Solver 17 t_Solver := ⟨k_Solver, by decide, "LoopProver$Solver", Or.inl (g1 153 rfl rfl), Or.inl rfl⟩
theorem f_Solver_57 : FLk "LoopProver$Solver" 57 3 7 "LoopProver$Solver" F_Solver 17 t_Solver := ⟨k_Solver, by decide, "LoopProver$Solver", Or.inl (g1 154 rfl rfl), Or.inl rfl⟩
theorem f_Solver_60 : FLk "LoopProver$Solver" 60 3 8 "LoopProver$Solver" F_Solver 17 t_Solver := ⟨k_Solver, by decide, "LoopProver$Solver", Or.inl (g1 155 rfl rfl), Or.inl rfl⟩
theorem f_Solver_24 : FLk "LoopProver$Solver" 24 3 9 "LoopProver$Solver" F_Solver 17 t_Solver := ⟨k_Solver, by decide, "LoopProver$Solver", Or.inl (g1 156 rfl rfl), Or.inl rfl⟩
theorem f_Solver_28 : FLk "LoopProver$Solver" 28 3 10 "LoopProver$Solver" F_Solver 17 t_Solver := ⟨k_Solver, by decide, "LoopProver$Solver", Or.inl (g1 157 rfl rfl), Or.inl rfl⟩
theorem f_Solver_28F : ∃ ref, Cond.fieldLink "LoopProver$Solver" 28 ref (F_Solver 10).2.1 (F_Solver 10).2.2.1 ∈ tblG ∧ ref = (F_Solver 10).1 := ⟨"LoopProver$Solver", (g1 157 rfl rfl), rfl⟩
theorem f_Solver_63 : FLk "LoopProver$Solver" 63 3 11 "LoopProver$Solver" F_Solver 17 t_Solver := ⟨k_Solver, by decide, "LoopProver$Solver", Or.inl (g1 158 rfl rfl), Or.inl rfl⟩
theorem f_Solver_31 : FLk "LoopProver$Solver" 31 3 12 "LoopProver$Solver" F_Solver 17 t_Solver := ⟨k_Solver, by decide, "LoopProver$Solver", Or.inl (g1 159 rfl rfl), Or.inl rfl⟩
theorem f_Solver_31F : ∃ ref, Cond.fieldLink "LoopProver$Solver" 31 ref (F_Solver 12).2.1 (F_Solver 12).2.2.1 ∈ tblG ∧ ref = (F_Solver 12).1 := ⟨"LoopProver$Solver", (g1 159 rfl rfl), rfl⟩
theorem f_Solver_104 : FLk "LoopProver$Solver" 104 3 13 "LoopProver$Solver" F_Solver 17 t_Solver := ⟨k_Solver, by decide, "LoopProver$Solver", Or.inl (g1 160 rfl rfl), Or.inl rfl⟩
theorem f_Solver_34 : FLk "LoopProver$Solver" 34 3 14 "LoopProver$Solver" F_Solver 17 t_Solver := ⟨k_Solver, by decide, "LoopProver$Solver", Or.inl (g1 161 rfl rfl), Or.inl rfl⟩
theorem f_Solver_97 : FLk "LoopProver$Solver" 97 3 15 "LoopProver$Solver" F_Solver 17 t_Solver := ⟨k_Solver, by decide, "LoopProver$Solver", Or.inl (g1 162 rfl rfl), Or.inl rfl⟩
theorem f_Solver_66 : FLk "LoopProver$Solver" 66 3 16 "LoopProver$Solver" F_Solver 17 t_Solver := ⟨k_Solver, by decide, "LoopProver$Solver", Or.inl (g1 163 rfl rfl), Or.inl rfl⟩
theorem f_Flow_9 : FLk "LoopProver$Flow" 9 5 0 "LoopProver$Flow" F_Flow 3 t_Flow := ⟨k_Flow, by decide, "LoopProver$Flow", Or.inl (g1 207 rfl rfl), Or.inl rfl⟩
theorem f_Flow_9F : ∃ ref, Cond.fieldLink "LoopProver$Flow" 9 ref (F_Flow 0).2.1 (F_Flow 0).2.2.1 ∈ tblG ∧ ref = (F_Flow 0).1 := ⟨"LoopProver$Flow", (g1 207 rfl rfl), rfl⟩
theorem f_Flow_21 : FLk "LoopProver$Flow" 21 5 1 "LoopProver$Flow" F_Flow 3 t_Flow := ⟨k_Flow, by decide, "LoopProver$Flow", Or.inl (g1 209 rfl rfl), Or.inl rfl⟩
theorem f_Flow_25 : FLk "LoopProver$Flow" 25 5 2 "LoopProver$Flow" F_Flow 3 t_Flow := ⟨k_Flow, by decide, "LoopProver$Flow", Or.inl (g1 211 rfl rfl), Or.inl rfl⟩
theorem f_P_14 : FLk "LoopProver" 14 0 0 "LoopProver" F_P 15 t_P := ⟨k_P, by decide, "LoopProver", Or.inl (g1 221 rfl rfl), Or.inl rfl⟩
theorem f_P_14F : ∃ ref, Cond.fieldLink "LoopProver" 14 ref (F_P 0).2.1 (F_P 0).2.2.1 ∈ tblG ∧ ref = (F_P 0).1 := ⟨"LoopProver", (g1 221 rfl rfl), rfl⟩
theorem f_P_18 : FLk "LoopProver" 18 0 1 "LoopProver" F_P 15 t_P := ⟨k_P, by decide, "LoopProver", Or.inl (g1 222 rfl rfl), Or.inl rfl⟩
theorem f_P_18F : ∃ ref, Cond.fieldLink "LoopProver" 18 ref (F_P 1).2.1 (F_P 1).2.2.1 ∈ tblG ∧ ref = (F_P 1).1 := ⟨"LoopProver", (g1 222 rfl rfl), rfl⟩
theorem f_P_21 : FLk "LoopProver" 21 0 2 "LoopProver" F_P 15 t_P := ⟨k_P, by decide, "LoopProver", Or.inl (g1 223 rfl rfl), Or.inl rfl⟩
theorem f_P_21F : ∃ ref, Cond.fieldLink "LoopProver" 21 ref (F_P 2).2.1 (F_P 2).2.2.1 ∈ tblG ∧ ref = (F_P 2).1 := ⟨"LoopProver", (g1 223 rfl rfl), rfl⟩
theorem f_P_173 : FLk "LoopProver" 173 0 3 "LoopProver" F_P 15 t_P := ⟨k_P, by decide, "LoopProver", Or.inl (g1 224 rfl rfl), Or.inl rfl⟩
theorem f_P_144 : FLk "LoopProver" 144 0 4 "LoopProver" F_P 15 t_P := ⟨k_P, by decide, "LoopProver", Or.inl (g1 225 rfl rfl), Or.inl rfl⟩
theorem f_P_27 : FLk "LoopProver" 27 0 5 "LoopProver" F_P 15 t_P := ⟨k_P, by decide, "LoopProver", Or.inl (g1 226 rfl rfl), Or.inl rfl⟩
theorem f_P_27F : ∃ ref, Cond.fieldLink "LoopProver" 27 ref (F_P 5).2.1 (F_P 5).2.2.1 ∈ tblG ∧ ref = (F_P 5).1 := ⟨"LoopProver", (g1 226 rfl rfl), rfl⟩
theorem f_P_295 : FLk "LoopProver" 295 0 6 "LoopProver" F_P 15 t_P := ⟨k_P, by decide, "LoopProver", Or.inl (g1 227 rfl rfl), Or.inl rfl⟩
theorem f_P_34 : FLk "LoopProver" 34 0 7 "LoopProver" F_P 15 t_P := ⟨k_P, by decide, "LoopProver", Or.inl (g1 228 rfl rfl), Or.inl rfl⟩
theorem f_P_34F : ∃ ref, Cond.fieldLink "LoopProver" 34 ref (F_P 7).2.1 (F_P 7).2.2.1 ∈ tblG ∧ ref = (F_P 7).1 := ⟨"LoopProver", (g1 228 rfl rfl), rfl⟩
theorem f_P_46 : FLk "LoopProver" 46 0 8 "LoopProver" F_P 15 t_P := ⟨k_P, by decide, "LoopProver", Or.inl (g1 229 rfl rfl), Or.inl rfl⟩
theorem f_P_46F : ∃ ref, Cond.fieldLink "LoopProver" 46 ref (F_P 8).2.1 (F_P 8).2.2.1 ∈ tblG ∧ ref = (F_P 8).1 := ⟨"LoopProver", (g1 229 rfl rfl), rfl⟩
theorem f_P_53 : FLk "LoopProver" 53 0 9 "LoopProver" F_P 15 t_P := ⟨k_P, by decide, "LoopProver", Or.inl (g1 230 rfl rfl), Or.inl rfl⟩
theorem f_P_53F : ∃ ref, Cond.fieldLink "LoopProver" 53 ref (F_P 9).2.1 (F_P 9).2.2.1 ∈ tblG ∧ ref = (F_P 9).1 := ⟨"LoopProver", (g1 230 rfl rfl), rfl⟩
theorem f_P_57 : FLk "LoopProver" 57 0 10 "LoopProver" F_P 15 t_P := ⟨k_P, by decide, "LoopProver", Or.inl (g1 231 rfl rfl), Or.inl rfl⟩
theorem f_P_57F : ∃ ref, Cond.fieldLink "LoopProver" 57 ref (F_P 10).2.1 (F_P 10).2.2.1 ∈ tblG ∧ ref = (F_P 10).1 := ⟨"LoopProver", (g1 231 rfl rfl), rfl⟩
theorem f_P_61 : FLk "LoopProver" 61 0 11 "LoopProver" F_P 15 t_P := ⟨k_P, by decide, "LoopProver", Or.inl (g1 232 rfl rfl), Or.inl rfl⟩
theorem f_P_61F : ∃ ref, Cond.fieldLink "LoopProver" 61 ref (F_P 11).2.1 (F_P 11).2.2.1 ∈ tblG ∧ ref = (F_P 11).1 := ⟨"LoopProver", (g1 232 rfl rfl), rfl⟩
theorem f_P_65 : FLk "LoopProver" 65 0 12 "LoopProver" F_P 15 t_P := ⟨k_P, by decide, "LoopProver", Or.inl (g1 233 rfl rfl), Or.inl rfl⟩
theorem f_P_65F : ∃ ref, Cond.fieldLink "LoopProver" 65 ref (F_P 12).2.1 (F_P 12).2.2.1 ∈ tblG ∧ ref = (F_P 12).1 := ⟨"LoopProver", (g1 233 rfl rfl), rfl⟩
theorem f_P_68 : FLk "LoopProver" 68 0 13 "LoopProver" F_P 15 t_P := ⟨k_P, by decide, "LoopProver", Or.inl (g1 234 rfl rfl), Or.inl rfl⟩
theorem f_P_68F : ∃ ref, Cond.fieldLink "LoopProver" 68 ref (F_P 13).2.1 (F_P 13).2.2.1 ∈ tblG ∧ ref = (F_P 13).1 := ⟨"LoopProver", (g1 234 rfl rfl), rfl⟩
theorem f_P_71 : FLk "LoopProver" 71 0 14 "LoopProver" F_P 15 t_P := ⟨k_P, by decide, "LoopProver", Or.inl (g1 235 rfl rfl), Or.inl rfl⟩
theorem f_P_71F : ∃ ref, Cond.fieldLink "LoopProver" 71 ref (F_P 14).2.1 (F_P 14).2.2.1 ∈ tblG ∧ ref = (F_P 14).1 := ⟨"LoopProver", (g1 235 rfl rfl), rfl⟩
theorem f_Constant_9 : FLk "LoopProver$Constant" 9 9 3 "LoopProver$Constant" F_Constant 4 t_Constant := ⟨k_Constant, by decide, "LoopProver$Constant", Or.inl (g2 90 rfl rfl), Or.inl rfl⟩
theorem f_Constant_9F : ∃ ref, Cond.fieldLink "LoopProver$Constant" 9 ref (F_Constant 3).2.1 (F_Constant 3).2.2.1 ∈ tblG ∧ ref = (F_Constant 3).1 := ⟨"LoopProver$Constant", (g2 90 rfl rfl), rfl⟩
theorem f_Node_7_Constant : FLk "LoopProver$Node" 7 9 0 "LoopProver$Constant" F_Constant 4 t_Constant := ⟨k_Constant, by decide, "LoopProver$Node", Or.inl (g2 91 rfl rfl), Or.inl rfl⟩
theorem f_Node_7_ConstantF : ∃ ref, Cond.fieldLink "LoopProver$Node" 7 ref (F_Constant 0).2.1 (F_Constant 0).2.2.1 ∈ tblG ∧ ref = (F_Constant 0).1 := ⟨"LoopProver$Node", (g2 91 rfl rfl), rfl⟩
theorem f_Node_7_Variable : FLk "LoopProver$Node" 7 10 0 "LoopProver$Variable" F_Variable 4 t_Variable := ⟨k_Variable, by decide, "LoopProver$Node", Or.inl (g2 91 rfl rfl), Or.inl rfl⟩
theorem f_Node_7_VariableF : ∃ ref, Cond.fieldLink "LoopProver$Node" 7 ref (F_Variable 0).2.1 (F_Variable 0).2.2.1 ∈ tblG ∧ ref = (F_Variable 0).1 := ⟨"LoopProver$Node", (g2 91 rfl rfl), rfl⟩
theorem f_Node_7_Read : FLk "LoopProver$Node" 7 11 0 "LoopProver$Read" F_Read 3 t_Read := ⟨k_Read, by decide, "LoopProver$Node", Or.inl (g2 91 rfl rfl), Or.inl rfl⟩
theorem f_Node_7_ReadF : ∃ ref, Cond.fieldLink "LoopProver$Node" 7 ref (F_Read 0).2.1 (F_Read 0).2.2.1 ∈ tblG ∧ ref = (F_Read 0).1 := ⟨"LoopProver$Node", (g2 91 rfl rfl), rfl⟩
theorem f_Node_7_Sum : FLk "LoopProver$Node" 7 12 0 "LoopProver$Sum" F_Sum 4 t_Sum := ⟨k_Sum, by decide, "LoopProver$Node", Or.inl (g2 91 rfl rfl), Or.inl rfl⟩
theorem f_Node_7_SumF : ∃ ref, Cond.fieldLink "LoopProver$Node" 7 ref (F_Sum 0).2.1 (F_Sum 0).2.2.1 ∈ tblG ∧ ref = (F_Sum 0).1 := ⟨"LoopProver$Node", (g2 91 rfl rfl), rfl⟩
theorem f_Node_7_Meet : FLk "LoopProver$Node" 7 13 0 "LoopProver$Meet" F_Meet 3 t_Meet := ⟨k_Meet, by decide, "LoopProver$Node", Or.inl (g2 91 rfl rfl), Or.inl rfl⟩
theorem f_Node_7_MeetF : ∃ ref, Cond.fieldLink "LoopProver$Node" 7 ref (F_Meet 0).2.1 (F_Meet 0).2.2.1 ∈ tblG ∧ ref = (F_Meet 0).1 := ⟨"LoopProver$Node", (g2 91 rfl rfl), rfl⟩
theorem f_Node_7_Below : FLk "LoopProver$Node" 7 14 0 "LoopProver$Below" F_Below 3 t_Below := ⟨k_Below, by decide, "LoopProver$Node", Or.inl (g2 91 rfl rfl), Or.inl rfl⟩
theorem f_Node_7_BelowF : ∃ ref, Cond.fieldLink "LoopProver$Node" 7 ref (F_Below 0).2.1 (F_Below 0).2.2.1 ∈ tblG ∧ ref = (F_Below 0).1 := ⟨"LoopProver$Node", (g2 91 rfl rfl), rfl⟩
theorem f_Node_7_Same : FLk "LoopProver$Node" 7 15 0 "LoopProver$Same" F_Same 3 t_Same := ⟨k_Same, by decide, "LoopProver$Node", Or.inl (g2 91 rfl rfl), Or.inl rfl⟩
theorem f_Node_7_SameF : ∃ ref, Cond.fieldLink "LoopProver$Node" 7 ref (F_Same 0).2.1 (F_Same 0).2.2.1 ∈ tblG ∧ ref = (F_Same 0).1 := ⟨"LoopProver$Node", (g2 91 rfl rfl), rfl⟩
theorem f_Node_7_Not : FLk "LoopProver$Node" 7 16 0 "LoopProver$Not" F_Not 3 t_Not := ⟨k_Not, by decide, "LoopProver$Node", Or.inl (g2 91 rfl rfl), Or.inl rfl⟩
theorem f_Node_7_NotF : ∃ ref, Cond.fieldLink "LoopProver$Node" 7 ref (F_Not 0).2.1 (F_Not 0).2.2.1 ∈ tblG ∧ ref = (F_Not 0).1 := ⟨"LoopProver$Node", (g2 91 rfl rfl), rfl⟩
theorem f_Node_7_Both : FLk "LoopProver$Node" 7 17 0 "LoopProver$Both" F_Both 3 t_Both := ⟨k_Both, by decide, "LoopProver$Node", Or.inl (g2 91 rfl rfl), Or.inl rfl⟩
theorem f_Node_7_BothF : ∃ ref, Cond.fieldLink "LoopProver$Node" 7 ref (F_Both 0).2.1 (F_Both 0).2.2.1 ∈ tblG ∧ ref = (F_Both 0).1 := ⟨"LoopProver$Node", (g2 91 rfl rfl), rfl⟩
theorem f_Both_18 : FLk "LoopProver$Both" 18 17 0 "LoopProver$Both" F_Both 3 t_Both := ⟨k_Both, by decide, "LoopProver$Both", Or.inl (g2 92 rfl rfl), Or.inr (g2 93 rfl rfl)⟩
theorem f_Not_15 : FLk "LoopProver$Not" 15 16 0 "LoopProver$Not" F_Not 3 t_Not := ⟨k_Not, by decide, "LoopProver$Not", Or.inl (g2 94 rfl rfl), Or.inr (g2 95 rfl rfl)⟩
theorem f_Variable_15 : FLk "LoopProver$Variable" 15 10 0 "LoopProver$Variable" F_Variable 4 t_Variable := ⟨k_Variable, by decide, "LoopProver$Variable", Or.inl (g2 96 rfl rfl), Or.inr (g2 97 rfl rfl)⟩
theorem f_Constant_15 : FLk "LoopProver$Constant" 15 9 0 "LoopProver$Constant" F_Constant 4 t_Constant := ⟨k_Constant, by decide, "LoopProver$Constant", Or.inl (g2 98 rfl rfl), Or.inr (g2 99 rfl rfl)⟩
theorem f_Meet_18 : FLk "LoopProver$Meet" 18 13 0 "LoopProver$Meet" F_Meet 3 t_Meet := ⟨k_Meet, by decide, "LoopProver$Meet", Or.inl (g2 100 rfl rfl), Or.inr (g2 101 rfl rfl)⟩
theorem f_Read_15 : FLk "LoopProver$Read" 15 11 0 "LoopProver$Read" F_Read 3 t_Read := ⟨k_Read, by decide, "LoopProver$Read", Or.inl (g2 102 rfl rfl), Or.inr (g2 103 rfl rfl)⟩
theorem f_Same_27 : FLk "LoopProver$Same" 27 15 0 "LoopProver$Same" F_Same 3 t_Same := ⟨k_Same, by decide, "LoopProver$Same", Or.inl (g2 104 rfl rfl), Or.inr (g2 105 rfl rfl)⟩
theorem f_Below_28 : FLk "LoopProver$Below" 28 14 0 "LoopProver$Below" F_Below 3 t_Below := ⟨k_Below, by decide, "LoopProver$Below", Or.inl (g2 106 rfl rfl), Or.inr (g2 107 rfl rfl)⟩
theorem f_Sum_28 : FLk "LoopProver$Sum" 28 12 0 "LoopProver$Sum" F_Sum 4 t_Sum := ⟨k_Sum, by decide, "LoopProver$Sum", Or.inl (g2 108 rfl rfl), Or.inr (g2 109 rfl rfl)⟩
theorem f_P_218_Constant : FLk "LoopProver" 218 9 0 "LoopProver$Constant" F_Constant 4 t_Constant := ⟨k_Constant, by decide, "LoopProver$Node", Or.inl (g2 110 rfl rfl), Or.inl rfl⟩
theorem f_P_218_Variable : FLk "LoopProver" 218 10 0 "LoopProver$Variable" F_Variable 4 t_Variable := ⟨k_Variable, by decide, "LoopProver$Node", Or.inl (g2 110 rfl rfl), Or.inl rfl⟩
theorem f_P_218_Read : FLk "LoopProver" 218 11 0 "LoopProver$Read" F_Read 3 t_Read := ⟨k_Read, by decide, "LoopProver$Node", Or.inl (g2 110 rfl rfl), Or.inl rfl⟩
theorem f_P_218_Sum : FLk "LoopProver" 218 12 0 "LoopProver$Sum" F_Sum 4 t_Sum := ⟨k_Sum, by decide, "LoopProver$Node", Or.inl (g2 110 rfl rfl), Or.inl rfl⟩
theorem f_P_218_Meet : FLk "LoopProver" 218 13 0 "LoopProver$Meet" F_Meet 3 t_Meet := ⟨k_Meet, by decide, "LoopProver$Node", Or.inl (g2 110 rfl rfl), Or.inl rfl⟩
theorem f_P_218_Below : FLk "LoopProver" 218 14 0 "LoopProver$Below" F_Below 3 t_Below := ⟨k_Below, by decide, "LoopProver$Node", Or.inl (g2 110 rfl rfl), Or.inl rfl⟩
theorem f_P_218_Same : FLk "LoopProver" 218 15 0 "LoopProver$Same" F_Same 3 t_Same := ⟨k_Same, by decide, "LoopProver$Node", Or.inl (g2 110 rfl rfl), Or.inl rfl⟩
theorem f_P_218_Not : FLk "LoopProver" 218 16 0 "LoopProver$Not" F_Not 3 t_Not := ⟨k_Not, by decide, "LoopProver$Node", Or.inl (g2 110 rfl rfl), Or.inl rfl⟩
theorem f_P_218_Both : FLk "LoopProver" 218 17 0 "LoopProver$Both" F_Both 3 t_Both := ⟨k_Both, by decide, "LoopProver$Node", Or.inl (g2 110 rfl rfl), Or.inl rfl⟩
theorem f_Node_13_Constant : FLk "LoopProver$Node" 13 9 1 "LoopProver$Constant" F_Constant 4 t_Constant := ⟨k_Constant, by decide, "LoopProver$Node", Or.inl (g2 111 rfl rfl), Or.inl rfl⟩
theorem f_Node_13_ConstantF : ∃ ref, Cond.fieldLink "LoopProver$Node" 13 ref (F_Constant 1).2.1 (F_Constant 1).2.2.1 ∈ tblG ∧ ref = (F_Constant 1).1 := ⟨"LoopProver$Node", (g2 111 rfl rfl), rfl⟩
theorem f_Node_13_Variable : FLk "LoopProver$Node" 13 10 1 "LoopProver$Variable" F_Variable 4 t_Variable := ⟨k_Variable, by decide, "LoopProver$Node", Or.inl (g2 111 rfl rfl), Or.inl rfl⟩
theorem f_Node_13_VariableF : ∃ ref, Cond.fieldLink "LoopProver$Node" 13 ref (F_Variable 1).2.1 (F_Variable 1).2.2.1 ∈ tblG ∧ ref = (F_Variable 1).1 := ⟨"LoopProver$Node", (g2 111 rfl rfl), rfl⟩
theorem f_Node_13_Read : FLk "LoopProver$Node" 13 11 1 "LoopProver$Read" F_Read 3 t_Read := ⟨k_Read, by decide, "LoopProver$Node", Or.inl (g2 111 rfl rfl), Or.inl rfl⟩
theorem f_Node_13_ReadF : ∃ ref, Cond.fieldLink "LoopProver$Node" 13 ref (F_Read 1).2.1 (F_Read 1).2.2.1 ∈ tblG ∧ ref = (F_Read 1).1 := ⟨"LoopProver$Node", (g2 111 rfl rfl), rfl⟩
theorem f_Node_13_Sum : FLk "LoopProver$Node" 13 12 1 "LoopProver$Sum" F_Sum 4 t_Sum := ⟨k_Sum, by decide, "LoopProver$Node", Or.inl (g2 111 rfl rfl), Or.inl rfl⟩
theorem f_Node_13_SumF : ∃ ref, Cond.fieldLink "LoopProver$Node" 13 ref (F_Sum 1).2.1 (F_Sum 1).2.2.1 ∈ tblG ∧ ref = (F_Sum 1).1 := ⟨"LoopProver$Node", (g2 111 rfl rfl), rfl⟩
theorem f_Node_13_Meet : FLk "LoopProver$Node" 13 13 1 "LoopProver$Meet" F_Meet 3 t_Meet := ⟨k_Meet, by decide, "LoopProver$Node", Or.inl (g2 111 rfl rfl), Or.inl rfl⟩
theorem f_Node_13_MeetF : ∃ ref, Cond.fieldLink "LoopProver$Node" 13 ref (F_Meet 1).2.1 (F_Meet 1).2.2.1 ∈ tblG ∧ ref = (F_Meet 1).1 := ⟨"LoopProver$Node", (g2 111 rfl rfl), rfl⟩
theorem f_Node_13_Below : FLk "LoopProver$Node" 13 14 1 "LoopProver$Below" F_Below 3 t_Below := ⟨k_Below, by decide, "LoopProver$Node", Or.inl (g2 111 rfl rfl), Or.inl rfl⟩
theorem f_Node_13_BelowF : ∃ ref, Cond.fieldLink "LoopProver$Node" 13 ref (F_Below 1).2.1 (F_Below 1).2.2.1 ∈ tblG ∧ ref = (F_Below 1).1 := ⟨"LoopProver$Node", (g2 111 rfl rfl), rfl⟩
theorem f_Node_13_Same : FLk "LoopProver$Node" 13 15 1 "LoopProver$Same" F_Same 3 t_Same := ⟨k_Same, by decide, "LoopProver$Node", Or.inl (g2 111 rfl rfl), Or.inl rfl⟩
theorem f_Node_13_SameF : ∃ ref, Cond.fieldLink "LoopProver$Node" 13 ref (F_Same 1).2.1 (F_Same 1).2.2.1 ∈ tblG ∧ ref = (F_Same 1).1 := ⟨"LoopProver$Node", (g2 111 rfl rfl), rfl⟩
theorem f_Node_13_Not : FLk "LoopProver$Node" 13 16 1 "LoopProver$Not" F_Not 3 t_Not := ⟨k_Not, by decide, "LoopProver$Node", Or.inl (g2 111 rfl rfl), Or.inl rfl⟩
theorem f_Node_13_NotF : ∃ ref, Cond.fieldLink "LoopProver$Node" 13 ref (F_Not 1).2.1 (F_Not 1).2.2.1 ∈ tblG ∧ ref = (F_Not 1).1 := ⟨"LoopProver$Node", (g2 111 rfl rfl), rfl⟩
theorem f_Node_13_Both : FLk "LoopProver$Node" 13 17 1 "LoopProver$Both" F_Both 3 t_Both := ⟨k_Both, by decide, "LoopProver$Node", Or.inl (g2 111 rfl rfl), Or.inl rfl⟩
theorem f_Node_13_BothF : ∃ ref, Cond.fieldLink "LoopProver$Node" 13 ref (F_Both 1).2.1 (F_Both 1).2.2.1 ∈ tblG ∧ ref = (F_Both 1).1 := ⟨"LoopProver$Node", (g2 111 rfl rfl), rfl⟩
theorem f_Below_9 : FLk "LoopProver$Below" 9 14 1 "LoopProver$Below" F_Below 3 t_Below := ⟨k_Below, by decide, "LoopProver$Below", Or.inl (g2 112 rfl rfl), Or.inr (g2 113 rfl rfl)⟩
theorem f_Both_9 : FLk "LoopProver$Both" 9 17 1 "LoopProver$Both" F_Both 3 t_Both := ⟨k_Both, by decide, "LoopProver$Both", Or.inl (g2 114 rfl rfl), Or.inr (g2 115 rfl rfl)⟩
theorem f_Meet_9 : FLk "LoopProver$Meet" 9 13 1 "LoopProver$Meet" F_Meet 3 t_Meet := ⟨k_Meet, by decide, "LoopProver$Meet", Or.inl (g2 116 rfl rfl), Or.inr (g2 117 rfl rfl)⟩
theorem f_Same_9 : FLk "LoopProver$Same" 9 15 1 "LoopProver$Same" F_Same 3 t_Same := ⟨k_Same, by decide, "LoopProver$Same", Or.inl (g2 118 rfl rfl), Or.inr (g2 119 rfl rfl)⟩
theorem f_Not_9 : FLk "LoopProver$Not" 9 16 1 "LoopProver$Not" F_Not 3 t_Not := ⟨k_Not, by decide, "LoopProver$Not", Or.inl (g2 120 rfl rfl), Or.inr (g2 121 rfl rfl)⟩
theorem f_Read_9 : FLk "LoopProver$Read" 9 11 1 "LoopProver$Read" F_Read 3 t_Read := ⟨k_Read, by decide, "LoopProver$Read", Or.inl (g2 122 rfl rfl), Or.inr (g2 123 rfl rfl)⟩
theorem f_Sum_15 : FLk "LoopProver$Sum" 15 12 1 "LoopProver$Sum" F_Sum 4 t_Sum := ⟨k_Sum, by decide, "LoopProver$Sum", Or.inl (g2 124 rfl rfl), Or.inr (g2 125 rfl rfl)⟩
theorem f_P_212_Constant : FLk "LoopProver" 212 9 1 "LoopProver$Constant" F_Constant 4 t_Constant := ⟨k_Constant, by decide, "LoopProver$Node", Or.inl (g2 126 rfl rfl), Or.inl rfl⟩
theorem f_P_212_Variable : FLk "LoopProver" 212 10 1 "LoopProver$Variable" F_Variable 4 t_Variable := ⟨k_Variable, by decide, "LoopProver$Node", Or.inl (g2 126 rfl rfl), Or.inl rfl⟩
theorem f_P_212_Read : FLk "LoopProver" 212 11 1 "LoopProver$Read" F_Read 3 t_Read := ⟨k_Read, by decide, "LoopProver$Node", Or.inl (g2 126 rfl rfl), Or.inl rfl⟩
theorem f_P_212_Sum : FLk "LoopProver" 212 12 1 "LoopProver$Sum" F_Sum 4 t_Sum := ⟨k_Sum, by decide, "LoopProver$Node", Or.inl (g2 126 rfl rfl), Or.inl rfl⟩
theorem f_P_212_Meet : FLk "LoopProver" 212 13 1 "LoopProver$Meet" F_Meet 3 t_Meet := ⟨k_Meet, by decide, "LoopProver$Node", Or.inl (g2 126 rfl rfl), Or.inl rfl⟩
theorem f_P_212_Below : FLk "LoopProver" 212 14 1 "LoopProver$Below" F_Below 3 t_Below := ⟨k_Below, by decide, "LoopProver$Node", Or.inl (g2 126 rfl rfl), Or.inl rfl⟩
theorem f_P_212_Same : FLk "LoopProver" 212 15 1 "LoopProver$Same" F_Same 3 t_Same := ⟨k_Same, by decide, "LoopProver$Node", Or.inl (g2 126 rfl rfl), Or.inl rfl⟩
theorem f_P_212_Not : FLk "LoopProver" 212 16 1 "LoopProver$Not" F_Not 3 t_Not := ⟨k_Not, by decide, "LoopProver$Node", Or.inl (g2 126 rfl rfl), Or.inl rfl⟩
theorem f_P_212_Both : FLk "LoopProver" 212 17 1 "LoopProver$Both" F_Both 3 t_Both := ⟨k_Both, by decide, "LoopProver$Node", Or.inl (g2 126 rfl rfl), Or.inl rfl⟩
theorem f_Node_16_Constant : FLk "LoopProver$Node" 16 9 2 "LoopProver$Constant" F_Constant 4 t_Constant := ⟨k_Constant, by decide, "LoopProver$Node", Or.inl (g2 127 rfl rfl), Or.inl rfl⟩
theorem f_Node_16_ConstantF : ∃ ref, Cond.fieldLink "LoopProver$Node" 16 ref (F_Constant 2).2.1 (F_Constant 2).2.2.1 ∈ tblG ∧ ref = (F_Constant 2).1 := ⟨"LoopProver$Node", (g2 127 rfl rfl), rfl⟩
theorem f_Node_16_Variable : FLk "LoopProver$Node" 16 10 2 "LoopProver$Variable" F_Variable 4 t_Variable := ⟨k_Variable, by decide, "LoopProver$Node", Or.inl (g2 127 rfl rfl), Or.inl rfl⟩
theorem f_Node_16_VariableF : ∃ ref, Cond.fieldLink "LoopProver$Node" 16 ref (F_Variable 2).2.1 (F_Variable 2).2.2.1 ∈ tblG ∧ ref = (F_Variable 2).1 := ⟨"LoopProver$Node", (g2 127 rfl rfl), rfl⟩
theorem f_Node_16_Read : FLk "LoopProver$Node" 16 11 2 "LoopProver$Read" F_Read 3 t_Read := ⟨k_Read, by decide, "LoopProver$Node", Or.inl (g2 127 rfl rfl), Or.inl rfl⟩
theorem f_Node_16_ReadF : ∃ ref, Cond.fieldLink "LoopProver$Node" 16 ref (F_Read 2).2.1 (F_Read 2).2.2.1 ∈ tblG ∧ ref = (F_Read 2).1 := ⟨"LoopProver$Node", (g2 127 rfl rfl), rfl⟩
theorem f_Node_16_Sum : FLk "LoopProver$Node" 16 12 2 "LoopProver$Sum" F_Sum 4 t_Sum := ⟨k_Sum, by decide, "LoopProver$Node", Or.inl (g2 127 rfl rfl), Or.inl rfl⟩
theorem f_Node_16_SumF : ∃ ref, Cond.fieldLink "LoopProver$Node" 16 ref (F_Sum 2).2.1 (F_Sum 2).2.2.1 ∈ tblG ∧ ref = (F_Sum 2).1 := ⟨"LoopProver$Node", (g2 127 rfl rfl), rfl⟩
theorem f_Node_16_Meet : FLk "LoopProver$Node" 16 13 2 "LoopProver$Meet" F_Meet 3 t_Meet := ⟨k_Meet, by decide, "LoopProver$Node", Or.inl (g2 127 rfl rfl), Or.inl rfl⟩
theorem f_Node_16_MeetF : ∃ ref, Cond.fieldLink "LoopProver$Node" 16 ref (F_Meet 2).2.1 (F_Meet 2).2.2.1 ∈ tblG ∧ ref = (F_Meet 2).1 := ⟨"LoopProver$Node", (g2 127 rfl rfl), rfl⟩
theorem f_Node_16_Below : FLk "LoopProver$Node" 16 14 2 "LoopProver$Below" F_Below 3 t_Below := ⟨k_Below, by decide, "LoopProver$Node", Or.inl (g2 127 rfl rfl), Or.inl rfl⟩
theorem f_Node_16_BelowF : ∃ ref, Cond.fieldLink "LoopProver$Node" 16 ref (F_Below 2).2.1 (F_Below 2).2.2.1 ∈ tblG ∧ ref = (F_Below 2).1 := ⟨"LoopProver$Node", (g2 127 rfl rfl), rfl⟩
theorem f_Node_16_Same : FLk "LoopProver$Node" 16 15 2 "LoopProver$Same" F_Same 3 t_Same := ⟨k_Same, by decide, "LoopProver$Node", Or.inl (g2 127 rfl rfl), Or.inl rfl⟩
theorem f_Node_16_SameF : ∃ ref, Cond.fieldLink "LoopProver$Node" 16 ref (F_Same 2).2.1 (F_Same 2).2.2.1 ∈ tblG ∧ ref = (F_Same 2).1 := ⟨"LoopProver$Node", (g2 127 rfl rfl), rfl⟩
theorem f_Node_16_Not : FLk "LoopProver$Node" 16 16 2 "LoopProver$Not" F_Not 3 t_Not := ⟨k_Not, by decide, "LoopProver$Node", Or.inl (g2 127 rfl rfl), Or.inl rfl⟩
theorem f_Node_16_NotF : ∃ ref, Cond.fieldLink "LoopProver$Node" 16 ref (F_Not 2).2.1 (F_Not 2).2.2.1 ∈ tblG ∧ ref = (F_Not 2).1 := ⟨"LoopProver$Node", (g2 127 rfl rfl), rfl⟩
theorem f_Node_16_Both : FLk "LoopProver$Node" 16 17 2 "LoopProver$Both" F_Both 3 t_Both := ⟨k_Both, by decide, "LoopProver$Node", Or.inl (g2 127 rfl rfl), Or.inl rfl⟩
theorem f_Node_16_BothF : ∃ ref, Cond.fieldLink "LoopProver$Node" 16 ref (F_Both 2).2.1 (F_Both 2).2.2.1 ∈ tblG ∧ ref = (F_Both 2).1 := ⟨"LoopProver$Node", (g2 127 rfl rfl), rfl⟩
theorem f_Below_15 : FLk "LoopProver$Below" 15 14 2 "LoopProver$Below" F_Below 3 t_Below := ⟨k_Below, by decide, "LoopProver$Below", Or.inl (g2 128 rfl rfl), Or.inr (g2 129 rfl rfl)⟩
theorem f_Both_15 : FLk "LoopProver$Both" 15 17 2 "LoopProver$Both" F_Both 3 t_Both := ⟨k_Both, by decide, "LoopProver$Both", Or.inl (g2 130 rfl rfl), Or.inr (g2 131 rfl rfl)⟩
theorem f_Meet_15 : FLk "LoopProver$Meet" 15 13 2 "LoopProver$Meet" F_Meet 3 t_Meet := ⟨k_Meet, by decide, "LoopProver$Meet", Or.inl (g2 132 rfl rfl), Or.inr (g2 133 rfl rfl)⟩
theorem f_Same_15 : FLk "LoopProver$Same" 15 15 2 "LoopProver$Same" F_Same 3 t_Same := ⟨k_Same, by decide, "LoopProver$Same", Or.inl (g2 134 rfl rfl), Or.inr (g2 135 rfl rfl)⟩
theorem f_Sum_19 : FLk "LoopProver$Sum" 19 12 2 "LoopProver$Sum" F_Sum 4 t_Sum := ⟨k_Sum, by decide, "LoopProver$Sum", Or.inl (g2 136 rfl rfl), Or.inr (g2 137 rfl rfl)⟩
theorem f_P_215_Constant : FLk "LoopProver" 215 9 2 "LoopProver$Constant" F_Constant 4 t_Constant := ⟨k_Constant, by decide, "LoopProver$Node", Or.inl (g2 138 rfl rfl), Or.inl rfl⟩
theorem f_P_215_Variable : FLk "LoopProver" 215 10 2 "LoopProver$Variable" F_Variable 4 t_Variable := ⟨k_Variable, by decide, "LoopProver$Node", Or.inl (g2 138 rfl rfl), Or.inl rfl⟩
theorem f_P_215_Read : FLk "LoopProver" 215 11 2 "LoopProver$Read" F_Read 3 t_Read := ⟨k_Read, by decide, "LoopProver$Node", Or.inl (g2 138 rfl rfl), Or.inl rfl⟩
theorem f_P_215_Sum : FLk "LoopProver" 215 12 2 "LoopProver$Sum" F_Sum 4 t_Sum := ⟨k_Sum, by decide, "LoopProver$Node", Or.inl (g2 138 rfl rfl), Or.inl rfl⟩
theorem f_P_215_Meet : FLk "LoopProver" 215 13 2 "LoopProver$Meet" F_Meet 3 t_Meet := ⟨k_Meet, by decide, "LoopProver$Node", Or.inl (g2 138 rfl rfl), Or.inl rfl⟩
theorem f_P_215_Below : FLk "LoopProver" 215 14 2 "LoopProver$Below" F_Below 3 t_Below := ⟨k_Below, by decide, "LoopProver$Node", Or.inl (g2 138 rfl rfl), Or.inl rfl⟩
theorem f_P_215_Same : FLk "LoopProver" 215 15 2 "LoopProver$Same" F_Same 3 t_Same := ⟨k_Same, by decide, "LoopProver$Node", Or.inl (g2 138 rfl rfl), Or.inl rfl⟩
theorem f_P_215_Not : FLk "LoopProver" 215 16 2 "LoopProver$Not" F_Not 3 t_Not := ⟨k_Not, by decide, "LoopProver$Node", Or.inl (g2 138 rfl rfl), Or.inl rfl⟩
theorem f_P_215_Both : FLk "LoopProver" 215 17 2 "LoopProver$Both" F_Both 3 t_Both := ⟨k_Both, by decide, "LoopProver$Node", Or.inl (g2 138 rfl rfl), Or.inl rfl⟩
theorem f_Variable_9 : FLk "LoopProver$Variable" 9 10 3 "LoopProver$Variable" F_Variable 4 t_Variable := ⟨k_Variable, by decide, "LoopProver$Variable", Or.inl (g2 154 rfl rfl), Or.inl rfl⟩
theorem f_Variable_9F : ∃ ref, Cond.fieldLink "LoopProver$Variable" 9 ref (F_Variable 3).2.1 (F_Variable 3).2.2.1 ∈ tblG ∧ ref = (F_Variable 3).1 := ⟨"LoopProver$Variable", (g2 154 rfl rfl), rfl⟩
theorem f_Sum_9 : FLk "LoopProver$Sum" 9 12 3 "LoopProver$Sum" F_Sum 4 t_Sum := ⟨k_Sum, by decide, "LoopProver$Sum", Or.inl (g2 177 rfl rfl), Or.inl rfl⟩
theorem f_Sum_9F : ∃ ref, Cond.fieldLink "LoopProver$Sum" 9 ref (F_Sum 3).2.1 (F_Sum 3).2.2.1 ∈ tblG ∧ ref = (F_Sum 3).1 := ⟨"LoopProver$Sum", (g2 177 rfl rfl), rfl⟩
theorem f_Line_21 : FLk "LoopProver$Line" 21 6 0 "LoopProver$Line" F_Line 7 t_Line := ⟨k_Line, by decide, "LoopProver$Line", Or.inl (g3 83 rfl rfl), Or.inl rfl⟩
theorem f_Line_21F : ∃ ref, Cond.fieldLink "LoopProver$Line" 21 ref (F_Line 0).2.1 (F_Line 0).2.2.1 ∈ tblG ∧ ref = (F_Line 0).1 := ⟨"LoopProver$Line", (g3 83 rfl rfl), rfl⟩
theorem f_Line_25 : FLk "LoopProver$Line" 25 6 1 "LoopProver$Line" F_Line 7 t_Line := ⟨k_Line, by decide, "LoopProver$Line", Or.inl (g3 85 rfl rfl), Or.inl rfl⟩
theorem f_Line_25F : ∃ ref, Cond.fieldLink "LoopProver$Line" 25 ref (F_Line 1).2.1 (F_Line 1).2.2.1 ∈ tblG ∧ ref = (F_Line 1).1 := ⟨"LoopProver$Line", (g3 85 rfl rfl), rfl⟩
theorem f_Line_28 : FLk "LoopProver$Line" 28 6 2 "LoopProver$Line" F_Line 7 t_Line := ⟨k_Line, by decide, "LoopProver$Line", Or.inl (g3 87 rfl rfl), Or.inl rfl⟩
theorem f_Line_28F : ∃ ref, Cond.fieldLink "LoopProver$Line" 28 ref (F_Line 2).2.1 (F_Line 2).2.2.1 ∈ tblG ∧ ref = (F_Line 2).1 := ⟨"LoopProver$Line", (g3 87 rfl rfl), rfl⟩
theorem f_Line_32 : FLk "LoopProver$Line" 32 6 3 "LoopProver$Line" F_Line 7 t_Line := ⟨k_Line, by decide, "LoopProver$Line", Or.inl (g3 89 rfl rfl), Or.inl rfl⟩
theorem f_Line_32F : ∃ ref, Cond.fieldLink "LoopProver$Line" 32 ref (F_Line 3).2.1 (F_Line 3).2.2.1 ∈ tblG ∧ ref = (F_Line 3).1 := ⟨"LoopProver$Line", (g3 89 rfl rfl), rfl⟩
theorem f_Line_9 : FLk "LoopProver$Line" 9 6 4 "LoopProver$Line" F_Line 7 t_Line := ⟨k_Line, by decide, "LoopProver$Line", Or.inl (g3 91 rfl rfl), Or.inl rfl⟩
theorem f_Line_15 : FLk "LoopProver$Line" 15 6 5 "LoopProver$Line" F_Line 7 t_Line := ⟨k_Line, by decide, "LoopProver$Line", Or.inl (g3 93 rfl rfl), Or.inl rfl⟩
theorem f_Line_18 : FLk "LoopProver$Line" 18 6 6 "LoopProver$Line" F_Line 7 t_Line := ⟨k_Line, by decide, "LoopProver$Line", Or.inl (g3 95 rfl rfl), Or.inl rfl⟩
theorem f_Verdict_9 : FLk "LoopProver$Verdict" 9 7 0 "LoopProver$Verdict" F_Verdict 3 t_Verdict := ⟨k_Verdict, by decide, "LoopProver$Verdict", Or.inl (g3 187 rfl rfl), Or.inl rfl⟩
theorem f_Verdict_15 : FLk "LoopProver$Verdict" 15 7 1 "LoopProver$Verdict" F_Verdict 3 t_Verdict := ⟨k_Verdict, by decide, "LoopProver$Verdict", Or.inl (g3 189 rfl rfl), Or.inl rfl⟩
theorem f_M_62 : FLk "LoopProverModel" 62 8 0 "LoopProverModel" F_M 24 t_M := ⟨k_M, by decide, "LoopProverModel", Or.inl (g5 8 rfl rfl), Or.inl rfl⟩
theorem f_M_7 : FLk "LoopProverModel" 7 8 1 "LoopProverModel" F_M 24 t_M := ⟨k_M, by decide, "LoopProverModel", Or.inl (g5 9 rfl rfl), Or.inl rfl⟩
theorem f_M_7F : ∃ ref, Cond.fieldLink "LoopProverModel" 7 ref (F_M 1).2.1 (F_M 1).2.2.1 ∈ tblG ∧ ref = (F_M 1).1 := ⟨"LoopProverModel", (g5 9 rfl rfl), rfl⟩
theorem f_M_13 : FLk "LoopProverModel" 13 8 2 "LoopProverModel" F_M 24 t_M := ⟨k_M, by decide, "LoopProverModel", Or.inl (g5 10 rfl rfl), Or.inl rfl⟩
theorem f_M_13F : ∃ ref, Cond.fieldLink "LoopProverModel" 13 ref (F_M 2).2.1 (F_M 2).2.2.1 ∈ tblG ∧ ref = (F_M 2).1 := ⟨"LoopProverModel", (g5 10 rfl rfl), rfl⟩
theorem f_M_16 : FLk "LoopProverModel" 16 8 3 "LoopProverModel" F_M 24 t_M := ⟨k_M, by decide, "LoopProverModel", Or.inl (g5 11 rfl rfl), Or.inl rfl⟩
theorem f_M_16F : ∃ ref, Cond.fieldLink "LoopProverModel" 16 ref (F_M 3).2.1 (F_M 3).2.2.1 ∈ tblG ∧ ref = (F_M 3).1 := ⟨"LoopProverModel", (g5 11 rfl rfl), rfl⟩
theorem f_M_19 : FLk "LoopProverModel" 19 8 4 "LoopProverModel" F_M 24 t_M := ⟨k_M, by decide, "LoopProverModel", Or.inl (g5 12 rfl rfl), Or.inl rfl⟩
theorem f_M_19F : ∃ ref, Cond.fieldLink "LoopProverModel" 19 ref (F_M 4).2.1 (F_M 4).2.2.1 ∈ tblG ∧ ref = (F_M 4).1 := ⟨"LoopProverModel", (g5 12 rfl rfl), rfl⟩
theorem f_M_23 : FLk "LoopProverModel" 23 8 5 "LoopProverModel" F_M 24 t_M := ⟨k_M, by decide, "LoopProverModel", Or.inl (g5 13 rfl rfl), Or.inl rfl⟩
theorem f_M_23F : ∃ ref, Cond.fieldLink "LoopProverModel" 23 ref (F_M 5).2.1 (F_M 5).2.2.1 ∈ tblG ∧ ref = (F_M 5).1 := ⟨"LoopProverModel", (g5 13 rfl rfl), rfl⟩
theorem f_M_26 : FLk "LoopProverModel" 26 8 6 "LoopProverModel" F_M 24 t_M := ⟨k_M, by decide, "LoopProverModel", Or.inl (g5 14 rfl rfl), Or.inl rfl⟩
theorem f_M_26F : ∃ ref, Cond.fieldLink "LoopProverModel" 26 ref (F_M 6).2.1 (F_M 6).2.2.1 ∈ tblG ∧ ref = (F_M 6).1 := ⟨"LoopProverModel", (g5 14 rfl rfl), rfl⟩
theorem f_M_29 : FLk "LoopProverModel" 29 8 7 "LoopProverModel" F_M 24 t_M := ⟨k_M, by decide, "LoopProverModel", Or.inl (g5 15 rfl rfl), Or.inl rfl⟩
theorem f_M_29F : ∃ ref, Cond.fieldLink "LoopProverModel" 29 ref (F_M 7).2.1 (F_M 7).2.2.1 ∈ tblG ∧ ref = (F_M 7).1 := ⟨"LoopProverModel", (g5 15 rfl rfl), rfl⟩
theorem f_M_32 : FLk "LoopProverModel" 32 8 8 "LoopProverModel" F_M 24 t_M := ⟨k_M, by decide, "LoopProverModel", Or.inl (g5 16 rfl rfl), Or.inl rfl⟩
theorem f_M_32F : ∃ ref, Cond.fieldLink "LoopProverModel" 32 ref (F_M 8).2.1 (F_M 8).2.2.1 ∈ tblG ∧ ref = (F_M 8).1 := ⟨"LoopProverModel", (g5 16 rfl rfl), rfl⟩
theorem f_M_85 : FLk "LoopProverModel" 85 8 9 "LoopProverModel" F_M 24 t_M := ⟨k_M, by decide, "LoopProverModel", Or.inl (g5 17 rfl rfl), Or.inl rfl⟩
theorem f_M_35 : FLk "LoopProverModel" 35 8 10 "LoopProverModel" F_M 24 t_M := ⟨k_M, by decide, "LoopProverModel", Or.inl (g5 18 rfl rfl), Or.inl rfl⟩
theorem f_M_35F : ∃ ref, Cond.fieldLink "LoopProverModel" 35 ref (F_M 10).2.1 (F_M 10).2.2.1 ∈ tblG ∧ ref = (F_M 10).1 := ⟨"LoopProverModel", (g5 18 rfl rfl), rfl⟩
theorem f_M_38 : FLk "LoopProverModel" 38 8 11 "LoopProverModel" F_M 24 t_M := ⟨k_M, by decide, "LoopProverModel", Or.inl (g5 19 rfl rfl), Or.inl rfl⟩
theorem f_M_38F : ∃ ref, Cond.fieldLink "LoopProverModel" 38 ref (F_M 11).2.1 (F_M 11).2.2.1 ∈ tblG ∧ ref = (F_M 11).1 := ⟨"LoopProverModel", (g5 19 rfl rfl), rfl⟩
theorem f_M_41 : FLk "LoopProverModel" 41 8 12 "LoopProverModel" F_M 24 t_M := ⟨k_M, by decide, "LoopProverModel", Or.inl (g5 20 rfl rfl), Or.inl rfl⟩
theorem f_M_41F : ∃ ref, Cond.fieldLink "LoopProverModel" 41 ref (F_M 12).2.1 (F_M 12).2.2.1 ∈ tblG ∧ ref = (F_M 12).1 := ⟨"LoopProverModel", (g5 20 rfl rfl), rfl⟩
theorem f_M_44 : FLk "LoopProverModel" 44 8 13 "LoopProverModel" F_M 24 t_M := ⟨k_M, by decide, "LoopProverModel", Or.inl (g5 21 rfl rfl), Or.inl rfl⟩
theorem f_M_44F : ∃ ref, Cond.fieldLink "LoopProverModel" 44 ref (F_M 13).2.1 (F_M 13).2.2.1 ∈ tblG ∧ ref = (F_M 13).1 := ⟨"LoopProverModel", (g5 21 rfl rfl), rfl⟩
theorem f_M_47 : FLk "LoopProverModel" 47 8 14 "LoopProverModel" F_M 24 t_M := ⟨k_M, by decide, "LoopProverModel", Or.inl (g5 22 rfl rfl), Or.inl rfl⟩
theorem f_M_47F : ∃ ref, Cond.fieldLink "LoopProverModel" 47 ref (F_M 14).2.1 (F_M 14).2.2.1 ∈ tblG ∧ ref = (F_M 14).1 := ⟨"LoopProverModel", (g5 22 rfl rfl), rfl⟩
theorem f_M_50 : FLk "LoopProverModel" 50 8 15 "LoopProverModel" F_M 24 t_M := ⟨k_M, by decide, "LoopProverModel", Or.inl (g5 23 rfl rfl), Or.inl rfl⟩
theorem f_M_50F : ∃ ref, Cond.fieldLink "LoopProverModel" 50 ref (F_M 15).2.1 (F_M 15).2.2.1 ∈ tblG ∧ ref = (F_M 15).1 := ⟨"LoopProverModel", (g5 23 rfl rfl), rfl⟩
theorem f_M_53 : FLk "LoopProverModel" 53 8 16 "LoopProverModel" F_M 24 t_M := ⟨k_M, by decide, "LoopProverModel", Or.inl (g5 24 rfl rfl), Or.inl rfl⟩
theorem f_M_53F : ∃ ref, Cond.fieldLink "LoopProverModel" 53 ref (F_M 16).2.1 (F_M 16).2.2.1 ∈ tblG ∧ ref = (F_M 16).1 := ⟨"LoopProverModel", (g5 24 rfl rfl), rfl⟩
theorem f_M_95 : FLk "LoopProverModel" 95 8 17 "LoopProverModel" F_M 24 t_M := ⟨k_M, by decide, "LoopProverModel", Or.inl (g5 25 rfl rfl), Or.inl rfl⟩
theorem f_M_88 : FLk "LoopProverModel" 88 8 18 "LoopProverModel" F_M 24 t_M := ⟨k_M, by decide, "LoopProverModel", Or.inl (g5 26 rfl rfl), Or.inl rfl⟩
theorem f_M_117 : FLk "LoopProverModel" 117 8 19 "LoopProverModel" F_M 24 t_M := ⟨k_M, by decide, "LoopProverModel", Or.inl (g5 27 rfl rfl), Or.inl rfl⟩
theorem f_M_56 : FLk "LoopProverModel" 56 8 20 "LoopProverModel" F_M 24 t_M := ⟨k_M, by decide, "LoopProverModel", Or.inl (g5 28 rfl rfl), Or.inl rfl⟩
theorem f_M_56F : ∃ ref, Cond.fieldLink "LoopProverModel" 56 ref (F_M 20).2.1 (F_M 20).2.2.1 ∈ tblG ∧ ref = (F_M 20).1 := ⟨"LoopProverModel", (g5 28 rfl rfl), rfl⟩
theorem f_M_59 : FLk "LoopProverModel" 59 8 21 "LoopProverModel" F_M 24 t_M := ⟨k_M, by decide, "LoopProverModel", Or.inl (g5 29 rfl rfl), Or.inl rfl⟩
theorem f_M_59F : ∃ ref, Cond.fieldLink "LoopProverModel" 59 ref (F_M 21).2.1 (F_M 21).2.2.1 ∈ tblG ∧ ref = (F_M 21).1 := ⟨"LoopProverModel", (g5 29 rfl rfl), rfl⟩
theorem f_M_114 : FLk "LoopProverModel" 114 8 22 "LoopProverModel" F_M 24 t_M := ⟨k_M, by decide, "LoopProverModel", Or.inl (g5 30 rfl rfl), Or.inl rfl⟩
theorem f_M_104 : FLk "LoopProverModel" 104 8 23 "LoopProverModel" F_M 24 t_M := ⟨k_M, by decide, "LoopProverModel", Or.inl (g5 31 rfl rfl), Or.inl rfl⟩
theorem f_Checker_31 : FLk "LoopProver$Checker" 31 2 0 "LoopProver$Circuit" F_Circuit 12 t_Circuit := ⟨k_Circuit, by decide, "LoopProver$Circuit", Or.inr ⟨"LoopProver", (List.mem_of_getElem? (i := 1) rfl)⟩, Or.inl rfl⟩
theorem f_Solver_73 : FLk "LoopProver$Solver" 73 2 0 "LoopProver$Circuit" F_Circuit 12 t_Circuit := ⟨k_Circuit, by decide, "LoopProver$Circuit", Or.inr ⟨"LoopProver", (List.mem_of_getElem? (i := 2) rfl)⟩, Or.inl rfl⟩
theorem f_Checker_28 : FLk "LoopProver$Checker" 28 2 1 "LoopProver$Circuit" F_Circuit 12 t_Circuit := ⟨k_Circuit, by decide, "LoopProver$Circuit", Or.inr ⟨"LoopProver", (List.mem_of_getElem? (i := 3) rfl)⟩, Or.inl rfl⟩
theorem f_Solver_70 : FLk "LoopProver$Solver" 70 2 1 "LoopProver$Circuit" F_Circuit 12 t_Circuit := ⟨k_Circuit, by decide, "LoopProver$Circuit", Or.inr ⟨"LoopProver", (List.mem_of_getElem? (i := 4) rfl)⟩, Or.inl rfl⟩
theorem f_Solver_45 : FLk "LoopProver$Solver" 45 2 3 "LoopProver$Circuit" F_Circuit 12 t_Circuit := ⟨k_Circuit, by decide, "LoopProver$Circuit", Or.inr ⟨"LoopProver", (List.mem_of_getElem? (i := 5) rfl)⟩, Or.inl rfl⟩
theorem f_Checker_42 : FLk "LoopProver$Checker" 42 2 3 "LoopProver$Circuit" F_Circuit 12 t_Circuit := ⟨k_Circuit, by decide, "LoopProver$Circuit", Or.inr ⟨"LoopProver", (List.mem_of_getElem? (i := 6) rfl)⟩, Or.inl rfl⟩
theorem f_Solver_54 : FLk "LoopProver$Solver" 54 2 4 "LoopProver$Circuit" F_Circuit 12 t_Circuit := ⟨k_Circuit, by decide, "LoopProver$Circuit", Or.inr ⟨"LoopProver", (List.mem_of_getElem? (i := 7) rfl)⟩, Or.inl rfl⟩
theorem f_Checker_35 : FLk "LoopProver$Checker" 35 2 4 "LoopProver$Circuit" F_Circuit 12 t_Circuit := ⟨k_Circuit, by decide, "LoopProver$Circuit", Or.inr ⟨"LoopProver", (List.mem_of_getElem? (i := 8) rfl)⟩, Or.inl rfl⟩
theorem f_Solver_83 : FLk "LoopProver$Solver" 83 2 5 "LoopProver$Circuit" F_Circuit 12 t_Circuit := ⟨k_Circuit, by decide, "LoopProver$Circuit", Or.inr ⟨"LoopProver", (List.mem_of_getElem? (i := 9) rfl)⟩, Or.inl rfl⟩
theorem f_Solver_90 : FLk "LoopProver$Solver" 90 2 6 "LoopProver$Circuit" F_Circuit 12 t_Circuit := ⟨k_Circuit, by decide, "LoopProver$Circuit", Or.inr ⟨"LoopProver", (List.mem_of_getElem? (i := 10) rfl)⟩, Or.inl rfl⟩
theorem f_Solver_80 : FLk "LoopProver$Solver" 80 2 7 "LoopProver$Circuit" F_Circuit 12 t_Circuit := ⟨k_Circuit, by decide, "LoopProver$Circuit", Or.inr ⟨"LoopProver", (List.mem_of_getElem? (i := 11) rfl)⟩, Or.inl rfl⟩
theorem f_P_320 : FLk "LoopProver" 320 3 3 "LoopProver$Solver" F_Solver 17 t_Solver := ⟨k_Solver, by decide, "LoopProver$Solver", Or.inr ⟨"LoopProver", (List.mem_of_getElem? (i := 13) rfl)⟩, Or.inl rfl⟩
theorem f_P_317 : FLk "LoopProver" 317 3 16 "LoopProver$Solver" F_Solver 17 t_Solver := ⟨k_Solver, by decide, "LoopProver$Solver", Or.inr ⟨"LoopProver", (List.mem_of_getElem? (i := 14) rfl)⟩, Or.inl rfl⟩
theorem f_P_246 : FLk "LoopProver" 246 5 0 "LoopProver$Flow" F_Flow 3 t_Flow := ⟨k_Flow, by decide, "LoopProver$Flow", Or.inr ⟨"LoopProver", (List.mem_of_getElem? (i := 16) rfl)⟩, Or.inl rfl⟩
theorem f_P_266 : FLk "LoopProver" 266 5 1 "LoopProver$Flow" F_Flow 3 t_Flow := ⟨k_Flow, by decide, "LoopProver$Flow", Or.inr ⟨"LoopProver", (List.mem_of_getElem? (i := 17) rfl)⟩, Or.inl rfl⟩
theorem f_P_292 : FLk "LoopProver" 292 5 2 "LoopProver$Flow" F_Flow 3 t_Flow := ⟨k_Flow, by decide, "LoopProver$Flow", Or.inr ⟨"LoopProver", (List.mem_of_getElem? (i := 18) rfl)⟩, Or.inl rfl⟩
theorem f_P_191 : FLk "LoopProver" 191 6 0 "LoopProver$Line" F_Line 7 t_Line := ⟨k_Line, by decide, "LoopProver$Line", Or.inr ⟨"LoopProver", (List.mem_of_getElem? (i := 19) rfl)⟩, Or.inl rfl⟩
theorem f_P_249 : FLk "LoopProver" 249 6 1 "LoopProver$Line" F_Line 7 t_Line := ⟨k_Line, by decide, "LoopProver$Line", Or.inr ⟨"LoopProver", (List.mem_of_getElem? (i := 20) rfl)⟩, Or.inl rfl⟩
theorem f_P_236 : FLk "LoopProver" 236 6 2 "LoopProver$Line" F_Line 7 t_Line := ⟨k_Line, by decide, "LoopProver$Line", Or.inr ⟨"LoopProver", (List.mem_of_getElem? (i := 21) rfl)⟩, Or.inl rfl⟩
theorem f_P_228 : FLk "LoopProver" 228 6 3 "LoopProver$Line" F_Line 7 t_Line := ⟨k_Line, by decide, "LoopProver$Line", Or.inr ⟨"LoopProver", (List.mem_of_getElem? (i := 22) rfl)⟩, Or.inl rfl⟩
theorem f_P_194 : FLk "LoopProver" 194 6 4 "LoopProver$Line" F_Line 7 t_Line := ⟨k_Line, by decide, "LoopProver$Line", Or.inr ⟨"LoopProver", (List.mem_of_getElem? (i := 23) rfl)⟩, Or.inl rfl⟩
theorem f_P_203 : FLk "LoopProver" 203 6 5 "LoopProver$Line" F_Line 7 t_Line := ⟨k_Line, by decide, "LoopProver$Line", Or.inr ⟨"LoopProver", (List.mem_of_getElem? (i := 24) rfl)⟩, Or.inl rfl⟩
theorem f_P_200 : FLk "LoopProver" 200 6 6 "LoopProver$Line" F_Line 7 t_Line := ⟨k_Line, by decide, "LoopProver$Line", Or.inr ⟨"LoopProver", (List.mem_of_getElem? (i := 25) rfl)⟩, Or.inl rfl⟩
theorem f_P_299 : FLk "LoopProver" 299 7 0 "LoopProver$Verdict" F_Verdict 3 t_Verdict := ⟨k_Verdict, by decide, "LoopProver$Verdict", Or.inr ⟨"LoopProver", (List.mem_of_getElem? (i := 27) rfl)⟩, Or.inl rfl⟩
theorem f_P_302 : FLk "LoopProver" 302 7 1 "LoopProver$Verdict" F_Verdict 3 t_Verdict := ⟨k_Verdict, by decide, "LoopProver$Verdict", Or.inr ⟨"LoopProver", (List.mem_of_getElem? (i := 28) rfl)⟩, Or.inl rfl⟩
theorem f_P_305 : FLk "LoopProver" 305 7 2 "LoopProver$Verdict" F_Verdict 3 t_Verdict := ⟨k_Verdict, by decide, "LoopProver$Verdict", Or.inr ⟨"LoopProver", (List.mem_of_getElem? (i := 29) rfl)⟩, Or.inl rfl⟩
theorem np_P_init : notMH y_P_init.cls ∧ nPar y_P_init.desc 0 := ⟨⟨by decide +kernel, by decide +kernel⟩, by unfold nPar; decide +kernel⟩
theorem np_AL_init : notMH y_AL_init.cls ∧ nPar y_AL_init.desc 1 := ⟨⟨by decide +kernel, by decide +kernel⟩, by unfold nPar; decide +kernel⟩
theorem np_ABL_init : notMH y_ABL_init.cls ∧ nPar y_ABL_init.desc 0 := ⟨⟨by decide +kernel, by decide +kernel⟩, by unfold nPar; decide +kernel⟩
theorem np_ABC_init : notMH y_ABC_init.cls ∧ nPar y_ABC_init.desc 0 := ⟨⟨by decide +kernel, by decide +kernel⟩, by unfold nPar; decide +kernel⟩
theorem np_Circuit_init : notMH y_Circuit_init.cls ∧ nPar y_Circuit_init.desc 0 := ⟨⟨by decide +kernel, by decide +kernel⟩, by unfold nPar; decide +kernel⟩
theorem np_Checker_init : notMH y_Checker_init.cls ∧ nPar y_Checker_init.desc 0 := ⟨⟨by decide +kernel, by decide +kernel⟩, by unfold nPar; decide +kernel⟩
theorem np_Solver_init : notMH y_Solver_init.cls ∧ nPar y_Solver_init.desc 1 := ⟨⟨by decide +kernel, by decide +kernel⟩, by unfold nPar; decide +kernel⟩
theorem np_Flow_init : notMH y_Flow_init.cls ∧ nPar y_Flow_init.desc 0 := ⟨⟨by decide +kernel, by decide +kernel⟩, by unfold nPar; decide +kernel⟩
theorem np_P_node : notMH y_P_node.cls ∧ nPar y_P_node.desc 3 := ⟨⟨by decide +kernel, by decide +kernel⟩, by unfold nPar; decide +kernel⟩
theorem np_AL_size : notMH y_AL_size.cls ∧ nPar y_AL_size.desc 0 := ⟨⟨by decide +kernel, by decide +kernel⟩, by unfold nPar; decide +kernel⟩
theorem np_P_made : notMH y_P_made.cls ∧ nPar y_P_made.desc 3 := ⟨⟨by decide +kernel, by decide +kernel⟩, by unfold nPar; decide +kernel⟩
theorem np_P_truth : notMH y_P_truth.cls ∧ nPar y_P_truth.desc 1 := ⟨⟨by decide +kernel, by decide +kernel⟩, by unfold nPar; decide +kernel⟩
theorem np_P_nodeAt : notMH y_P_nodeAt.cls ∧ nPar y_P_nodeAt.desc 1 := ⟨⟨by decide +kernel, by decide +kernel⟩, by unfold nPar; decide +kernel⟩
theorem np_AL_get : notMH y_AL_get.cls ∧ nPar y_AL_get.desc 1 := ⟨⟨by decide +kernel, by decide +kernel⟩, by unfold nPar; decide +kernel⟩
theorem np_Obj_checkIndex : notMH y_Obj_checkIndex.cls ∧ nPar y_Obj_checkIndex.desc 2 := ⟨⟨by decide +kernel, by decide +kernel⟩, by unfold nPar; decide +kernel⟩
theorem np_Pre_checkIndex : notMH y_Pre_checkIndex.cls ∧ nPar y_Pre_checkIndex.desc 3 := ⟨⟨by decide +kernel, by decide +kernel⟩, by unfold nPar; decide +kernel⟩
theorem np_AL_elementData : notMH y_AL_elementData.cls ∧ nPar y_AL_elementData.desc 1 := ⟨⟨by decide +kernel, by decide +kernel⟩, by unfold nPar; decide +kernel⟩
theorem np_Truth_truth : notMH y_Truth_truth.cls ∧ nPar y_Truth_truth.desc 0 := ⟨⟨by decide +kernel, by decide +kernel⟩, by unfold nPar; decide +kernel⟩
theorem np_Node_truth : notMH y_Node_truth.cls ∧ nPar y_Node_truth.desc 0 := ⟨⟨by decide +kernel, by decide +kernel⟩, by unfold nPar; decide +kernel⟩
theorem np_P_numeric : notMH y_P_numeric.cls ∧ nPar y_P_numeric.desc 1 := ⟨⟨by decide +kernel, by decide +kernel⟩, by unfold nPar; decide +kernel⟩
theorem np_Constant_init : notMH y_Constant_init.cls ∧ nPar y_Constant_init.desc 2 := ⟨⟨by decide +kernel, by decide +kernel⟩, by unfold nPar; decide +kernel⟩
theorem np_Node_init : notMH y_Node_init.cls ∧ nPar y_Node_init.desc 3 := ⟨⟨by decide +kernel, by decide +kernel⟩, by unfold nPar; decide +kernel⟩
theorem np_Variable_init : notMH y_Variable_init.cls ∧ nPar y_Variable_init.desc 2 := ⟨⟨by decide +kernel, by decide +kernel⟩, by unfold nPar; decide +kernel⟩
theorem np_Read_init : notMH y_Read_init.cls ∧ nPar y_Read_init.desc 2 := ⟨⟨by decide +kernel, by decide +kernel⟩, by unfold nPar; decide +kernel⟩
theorem np_Sum_init : notMH y_Sum_init.cls ∧ nPar y_Sum_init.desc 4 := ⟨⟨by decide +kernel, by decide +kernel⟩, by unfold nPar; decide +kernel⟩
theorem np_Meet_init : notMH y_Meet_init.cls ∧ nPar y_Meet_init.desc 3 := ⟨⟨by decide +kernel, by decide +kernel⟩, by unfold nPar; decide +kernel⟩
theorem np_Below_init : notMH y_Below_init.cls ∧ nPar y_Below_init.desc 3 := ⟨⟨by decide +kernel, by decide +kernel⟩, by unfold nPar; decide +kernel⟩
theorem np_Truth_init : notMH y_Truth_init.cls ∧ nPar y_Truth_init.desc 3 := ⟨⟨by decide +kernel, by decide +kernel⟩, by unfold nPar; decide +kernel⟩
theorem np_Same_init : notMH y_Same_init.cls ∧ nPar y_Same_init.desc 3 := ⟨⟨by decide +kernel, by decide +kernel⟩, by unfold nPar; decide +kernel⟩
theorem np_Not_init : notMH y_Not_init.cls ∧ nPar y_Not_init.desc 2 := ⟨⟨by decide +kernel, by decide +kernel⟩, by unfold nPar; decide +kernel⟩
theorem np_Both_init : notMH y_Both_init.cls ∧ nPar y_Both_init.desc 3 := ⟨⟨by decide +kernel, by decide +kernel⟩, by unfold nPar; decide +kernel⟩
theorem np_AL_add1 : notMH y_AL_add1.cls ∧ nPar y_AL_add1.desc 1 := ⟨⟨by decide +kernel, by decide +kernel⟩, by unfold nPar; decide +kernel⟩
theorem np_AL_add2 : notMH y_AL_add2.cls ∧ nPar y_AL_add2.desc 3 := ⟨⟨by decide +kernel, by decide +kernel⟩, by unfold nPar; decide +kernel⟩
theorem np_AL_grow1 : notMH y_AL_grow1.cls ∧ nPar y_AL_grow1.desc 0 := ⟨⟨by decide +kernel, by decide +kernel⟩, by unfold nPar; decide +kernel⟩
theorem np_AL_grow2 : notMH y_AL_grow2.cls ∧ nPar y_AL_grow2.desc 1 := ⟨⟨by decide +kernel, by decide +kernel⟩, by unfold nPar; decide +kernel⟩
theorem np_P_assign : notMH y_P_assign.cls ∧ nPar y_P_assign.desc 2 := ⟨⟨by decide +kernel, by decide +kernel⟩, by unfold nPar; decide +kernel⟩
theorem np_P_full : notMH y_P_full.cls ∧ nPar y_P_full.desc 0 := ⟨⟨by decide +kernel, by decide +kernel⟩, by unfold nPar; decide +kernel⟩
theorem np_P_add : notMH y_P_add.cls ∧ nPar y_P_add.desc 4 := ⟨⟨by decide +kernel, by decide +kernel⟩, by unfold nPar; decide +kernel⟩
theorem np_Line_init : notMH y_Line_init.cls ∧ nPar y_Line_init.desc 4 := ⟨⟨by decide +kernel, by decide +kernel⟩, by unfold nPar; decide +kernel⟩
theorem np_P_store : notMH y_P_store.cls ∧ nPar y_P_store.desc 2 := ⟨⟨by decide +kernel, by decide +kernel⟩, by unfold nPar; decide +kernel⟩
theorem np_P_claim : notMH y_P_claim.cls ∧ nPar y_P_claim.desc 1 := ⟨⟨by decide +kernel, by decide +kernel⟩, by unfold nPar; decide +kernel⟩
theorem np_P_plain : notMH y_P_plain.cls ∧ nPar y_P_plain.desc 2 := ⟨⟨by decide +kernel, by decide +kernel⟩, by unfold nPar; decide +kernel⟩
theorem np_P_assume : notMH y_P_assume.cls ∧ nPar y_P_assume.desc 1 := ⟨⟨by decide +kernel, by decide +kernel⟩, by unfold nPar; decide +kernel⟩
theorem np_P_when : notMH y_P_when.cls ∧ nPar y_P_when.desc 1 := ⟨⟨by decide +kernel, by decide +kernel⟩, by unfold nPar; decide +kernel⟩
theorem np_P_block : notMH y_P_block.cls ∧ nPar y_P_block.desc 3 := ⟨⟨by decide +kernel, by decide +kernel⟩, by unfold nPar; decide +kernel⟩
theorem np_P_loop : notMH y_P_loop.cls ∧ nPar y_P_loop.desc 2 := ⟨⟨by decide +kernel, by decide +kernel⟩, by unfold nPar; decide +kernel⟩
theorem np_P_other : notMH y_P_other.cls ∧ nPar y_P_other.desc 0 := ⟨⟨by decide +kernel, by decide +kernel⟩, by unfold nPar; decide +kernel⟩
theorem np_P_inner : notMH y_P_inner.cls ∧ nPar y_P_inner.desc 0 := ⟨⟨by decide +kernel, by decide +kernel⟩, by unfold nPar; decide +kernel⟩
theorem np_P_end : notMH y_P_end.cls ∧ nPar y_P_end.desc 0 := ⟨⟨by decide +kernel, by decide +kernel⟩, by unfold nPar; decide +kernel⟩
theorem np_P_clear : notMH y_P_clear.cls ∧ nPar y_P_clear.desc 0 := ⟨⟨by decide +kernel, by decide +kernel⟩, by unfold nPar; decide +kernel⟩
theorem np_AL_clear : notMH y_AL_clear.cls ∧ nPar y_AL_clear.desc 0 := ⟨⟨by decide +kernel, by decide +kernel⟩, by unfold nPar; decide +kernel⟩
theorem np_P_verify : notMH y_P_verify.cls ∧ nPar y_P_verify.desc 2 := ⟨⟨by decide +kernel, by decide +kernel⟩, by unfold nPar; decide +kernel⟩
theorem np_P_decide : notMH y_P_decide.cls ∧ nPar y_P_decide.desc 5 := ⟨⟨by decide +kernel, by decide +kernel⟩, by unfold nPar; decide +kernel⟩
theorem np_Verdict_init : notMH y_Verdict_init.cls ∧ nPar y_Verdict_init.desc 0 := ⟨⟨by decide +kernel, by decide +kernel⟩, by unfold nPar; decide +kernel⟩
theorem np_Circuit_begin : notMH y_Circuit_begin.cls ∧ nPar y_Circuit_begin.desc 0 := ⟨⟨by decide +kernel, by decide +kernel⟩, by unfold nPar; decide +kernel⟩
theorem np_Circuit_add : notMH y_Circuit_add.cls ∧ nPar y_Circuit_add.desc 3 := ⟨⟨by decide +kernel, by decide +kernel⟩, by unfold nPar; decide +kernel⟩
theorem np_Circuit_open : notMH y_Circuit_open.cls ∧ nPar y_Circuit_open.desc 0 := ⟨⟨by decide +kernel, by decide +kernel⟩, by unfold nPar; decide +kernel⟩
theorem np_Circuit_longer : notMH y_Circuit_longer.cls ∧ nPar y_Circuit_longer.desc 1 := ⟨⟨by decide +kernel, by decide +kernel⟩, by unfold nPar; decide +kernel⟩
theorem np_Circuit_put : notMH y_Circuit_put.cls ∧ nPar y_Circuit_put.desc 1 := ⟨⟨by decide +kernel, by decide +kernel⟩, by unfold nPar; decide +kernel⟩
theorem np_Circuit_room : notMH y_Circuit_room.cls ∧ nPar y_Circuit_room.desc 0 := ⟨⟨by decide +kernel, by decide +kernel⟩, by unfold nPar; decide +kernel⟩
theorem np_Circuit_close : notMH y_Circuit_close.cls ∧ nPar y_Circuit_close.desc 0 := ⟨⟨by decide +kernel, by decide +kernel⟩, by unfold nPar; decide +kernel⟩
theorem np_P_gate : notMH y_P_gate.cls ∧ nPar y_P_gate.desc 2 := ⟨⟨by decide +kernel, by decide +kernel⟩, by unfold nPar; decide +kernel⟩
theorem np_P_need : notMH y_P_need.cls ∧ nPar y_P_need.desc 1 := ⟨⟨by decide +kernel, by decide +kernel⟩, by unfold nPar; decide +kernel⟩
theorem np_Below_gates : notMH y_Below_gates.cls ∧ nPar y_Below_gates.desc 3 := ⟨⟨by decide +kernel, by decide +kernel⟩, by unfold nPar; decide +kernel⟩
theorem np_Circuit_differ : notMH y_Circuit_differ.cls ∧ nPar y_Circuit_differ.desc 2 := ⟨⟨by decide +kernel, by decide +kernel⟩, by unfold nPar; decide +kernel⟩
theorem np_Circuit_and : notMH y_Circuit_and.cls ∧ nPar y_Circuit_and.desc 2 := ⟨⟨by decide +kernel, by decide +kernel⟩, by unfold nPar; decide +kernel⟩
theorem np_Circuit_grow : notMH y_Circuit_grow.cls ∧ nPar y_Circuit_grow.desc 0 := ⟨⟨by decide +kernel, by decide +kernel⟩, by unfold nPar; decide +kernel⟩
theorem np_Circuit_or : notMH y_Circuit_or.cls ∧ nPar y_Circuit_or.desc 2 := ⟨⟨by decide +kernel, by decide +kernel⟩, by unfold nPar; decide +kernel⟩
theorem np_Circuit_either : notMH y_Circuit_either.cls ∧ nPar y_Circuit_either.desc 3 := ⟨⟨by decide +kernel, by decide +kernel⟩, by unfold nPar; decide +kernel⟩
theorem np_Both_gates : notMH y_Both_gates.cls ∧ nPar y_Both_gates.desc 3 := ⟨⟨by decide +kernel, by decide +kernel⟩, by unfold nPar; decide +kernel⟩
theorem np_Constant_gates : notMH y_Constant_gates.cls ∧ nPar y_Constant_gates.desc 3 := ⟨⟨by decide +kernel, by decide +kernel⟩, by unfold nPar; decide +kernel⟩
theorem np_Meet_gates : notMH y_Meet_gates.cls ∧ nPar y_Meet_gates.desc 3 := ⟨⟨by decide +kernel, by decide +kernel⟩, by unfold nPar; decide +kernel⟩
theorem np_Not_gates : notMH y_Not_gates.cls ∧ nPar y_Not_gates.desc 3 := ⟨⟨by decide +kernel, by decide +kernel⟩, by unfold nPar; decide +kernel⟩
theorem np_Read_gates : notMH y_Read_gates.cls ∧ nPar y_Read_gates.desc 3 := ⟨⟨by decide +kernel, by decide +kernel⟩, by unfold nPar; decide +kernel⟩
theorem np_Same_gates : notMH y_Same_gates.cls ∧ nPar y_Same_gates.desc 3 := ⟨⟨by decide +kernel, by decide +kernel⟩, by unfold nPar; decide +kernel⟩
theorem np_Sum_gates : notMH y_Sum_gates.cls ∧ nPar y_Sum_gates.desc 3 := ⟨⟨by decide +kernel, by decide +kernel⟩, by unfold nPar; decide +kernel⟩
theorem np_Variable_gates : notMH y_Variable_gates.cls ∧ nPar y_Variable_gates.desc 3 := ⟨⟨by decide +kernel, by decide +kernel⟩, by unfold nPar; decide +kernel⟩
theorem np_P_go : notMH y_P_go.cls ∧ nPar y_P_go.desc 5 := ⟨⟨by decide +kernel, by decide +kernel⟩, by unfold nPar; decide +kernel⟩
theorem np_Enum_ordinal : notMH y_Enum_ordinal.cls ∧ nPar y_Enum_ordinal.desc 0 := ⟨⟨by decide +kernel, by decide +kernel⟩, by unfold nPar; decide +kernel⟩
theorem np_P_storeIn : notMH y_P_storeIn.cls ∧ nPar y_P_storeIn.desc 2 := ⟨⟨by decide +kernel, by decide +kernel⟩, by unfold nPar; decide +kernel⟩
theorem np_Flow_must : notMH y_Flow_must.cls ∧ nPar y_Flow_must.desc 2 := ⟨⟨by decide +kernel, by decide +kernel⟩, by unfold nPar; decide +kernel⟩
theorem np_P_parted : notMH y_P_parted.cls ∧ nPar y_P_parted.desc 5 := ⟨⟨by decide +kernel, by decide +kernel⟩, by unfold nPar; decide +kernel⟩
theorem np_Flow_copy : notMH y_Flow_copy.cls ∧ nPar y_Flow_copy.desc 1 := ⟨⟨by decide +kernel, by decide +kernel⟩, by unfold nPar; decide +kernel⟩
theorem np_P_stop : notMH y_P_stop.cls ∧ nPar y_P_stop.desc 3 := ⟨⟨by decide +kernel, by decide +kernel⟩, by unfold nPar; decide +kernel⟩
theorem np_Solver_solve : notMH y_Solver_solve.cls ∧ nPar y_Solver_solve.desc 1 := ⟨⟨by decide +kernel, by decide +kernel⟩, by unfold nPar; decide +kernel⟩
theorem np_Solver_prepare : notMH y_Solver_prepare.cls ∧ nPar y_Solver_prepare.desc 1 := ⟨⟨by decide +kernel, by decide +kernel⟩, by unfold nPar; decide +kernel⟩
theorem np_Solver_start : notMH y_Solver_start.cls ∧ nPar y_Solver_start.desc 0 := ⟨⟨by decide +kernel, by decide +kernel⟩, by unfold nPar; decide +kernel⟩
theorem np_Solver_broken : notMH y_Solver_broken.cls ∧ nPar y_Solver_broken.desc 1 := ⟨⟨by decide +kernel, by decide +kernel⟩, by unfold nPar; decide +kernel⟩
theorem np_Solver_set : notMH y_Solver_set.cls ∧ nPar y_Solver_set.desc 2 := ⟨⟨by decide +kernel, by decide +kernel⟩, by unfold nPar; decide +kernel⟩
theorem np_Solver_spread : notMH y_Solver_spread.cls ∧ nPar y_Solver_spread.desc 0 := ⟨⟨by decide +kernel, by decide +kernel⟩, by unfold nPar; decide +kernel⟩
theorem np_Solver_explain : notMH y_Solver_explain.cls ∧ nPar y_Solver_explain.desc 1 := ⟨⟨by decide +kernel, by decide +kernel⟩, by unfold nPar; decide +kernel⟩
theorem np_Solver_mark : notMH y_Solver_mark.cls ∧ nPar y_Solver_mark.desc 1 := ⟨⟨by decide +kernel, by decide +kernel⟩, by unfold nPar; decide +kernel⟩
theorem np_Checker_accepts : notMH y_Checker_accepts.cls ∧ nPar y_Checker_accepts.desc 5 := ⟨⟨by decide +kernel, by decide +kernel⟩, by unfold nPar; decide +kernel⟩
theorem np_Checker_note : notMH y_Checker_note.cls ∧ nPar y_Checker_note.desc 1 := ⟨⟨by decide +kernel, by decide +kernel⟩, by unfold nPar; decide +kernel⟩
theorem np_Checker_rest : notMH y_Checker_rest.cls ∧ nPar y_Checker_rest.desc 2 := ⟨⟨by decide +kernel, by decide +kernel⟩, by unfold nPar; decide +kernel⟩
theorem np_Checker_forget : notMH y_Checker_forget.cls ∧ nPar y_Checker_forget.desc 0 := ⟨⟨by decide +kernel, by decide +kernel⟩, by unfold nPar; decide +kernel⟩
theorem np_Solver_back : notMH y_Solver_back.cls ∧ nPar y_Solver_back.desc 0 := ⟨⟨by decide +kernel, by decide +kernel⟩, by unfold nPar; decide +kernel⟩
theorem np_Circuit_lastFirst : notMH y_Circuit_lastFirst.cls ∧ nPar y_Circuit_lastFirst.desc 0 := ⟨⟨by decide +kernel, by decide +kernel⟩, by unfold nPar; decide +kernel⟩
theorem np_Circuit_drop : notMH y_Circuit_drop.cls ∧ nPar y_Circuit_drop.desc 0 := ⟨⟨by decide +kernel, by decide +kernel⟩, by unfold nPar; decide +kernel⟩
theorem np_Circuit_keep : notMH y_Circuit_keep.cls ∧ nPar y_Circuit_keep.desc 2 := ⟨⟨by decide +kernel, by decide +kernel⟩, by unfold nPar; decide +kernel⟩
theorem np_Solver_nextInput : notMH y_Solver_nextInput.cls ∧ nPar y_Solver_nextInput.desc 0 := ⟨⟨by decide +kernel, by decide +kernel⟩, by unfold nPar; decide +kernel⟩
theorem np_P_follow : notMH y_P_follow.cls ∧ nPar y_P_follow.desc 3 := ⟨⟨by decide +kernel, by decide +kernel⟩, by unfold nPar; decide +kernel⟩
theorem np_P_load : notMH y_P_load.cls ∧ nPar y_P_load.desc 1 := ⟨⟨by decide +kernel, by decide +kernel⟩, by unfold nPar; decide +kernel⟩
theorem np_P_done : notMH y_P_done.cls ∧ nPar y_P_done.desc 2 := ⟨⟨by decide +kernel, by decide +kernel⟩, by unfold nPar; decide +kernel⟩
theorem np_P_worth : notMH y_P_worth.cls ∧ nPar y_P_worth.desc 1 := ⟨⟨by decide +kernel, by decide +kernel⟩, by unfold nPar; decide +kernel⟩
theorem np_Below_of : notMH y_Below_of.cls ∧ nPar y_Below_of.desc 2 := ⟨⟨by decide +kernel, by decide +kernel⟩, by unfold nPar; decide +kernel⟩
theorem np_Both_of : notMH y_Both_of.cls ∧ nPar y_Both_of.desc 2 := ⟨⟨by decide +kernel, by decide +kernel⟩, by unfold nPar; decide +kernel⟩
theorem np_Constant_of : notMH y_Constant_of.cls ∧ nPar y_Constant_of.desc 2 := ⟨⟨by decide +kernel, by decide +kernel⟩, by unfold nPar; decide +kernel⟩
theorem np_Meet_of : notMH y_Meet_of.cls ∧ nPar y_Meet_of.desc 2 := ⟨⟨by decide +kernel, by decide +kernel⟩, by unfold nPar; decide +kernel⟩
theorem np_Not_of : notMH y_Not_of.cls ∧ nPar y_Not_of.desc 2 := ⟨⟨by decide +kernel, by decide +kernel⟩, by unfold nPar; decide +kernel⟩
theorem np_Read_of : notMH y_Read_of.cls ∧ nPar y_Read_of.desc 2 := ⟨⟨by decide +kernel, by decide +kernel⟩, by unfold nPar; decide +kernel⟩
theorem np_Same_of : notMH y_Same_of.cls ∧ nPar y_Same_of.desc 2 := ⟨⟨by decide +kernel, by decide +kernel⟩, by unfold nPar; decide +kernel⟩
theorem np_Sum_of : notMH y_Sum_of.cls ∧ nPar y_Sum_of.desc 2 := ⟨⟨by decide +kernel, by decide +kernel⟩, by unfold nPar; decide +kernel⟩
theorem np_Variable_of : notMH y_Variable_of.cls ∧ nPar y_Variable_of.desc 2 := ⟨⟨by decide +kernel, by decide +kernel⟩, by unfold nPar; decide +kernel⟩
theorem np_P_holds : notMH y_P_holds.cls ∧ nPar y_P_holds.desc 1 := ⟨⟨by decide +kernel, by decide +kernel⟩, by unfold nPar; decide +kernel⟩
theorem np_P_conditions : notMH y_P_conditions.cls ∧ nPar y_P_conditions.desc 0 := ⟨⟨by decide +kernel, by decide +kernel⟩, by unfold nPar; decide +kernel⟩
theorem np_P_witness : notMH y_P_witness.cls ∧ nPar y_P_witness.desc 1 := ⟨⟨by decide +kernel, by decide +kernel⟩, by unfold nPar; decide +kernel⟩
theorem np_P_verdict : notMH y_P_verdict.cls ∧ nPar y_P_verdict.desc 1 := ⟨⟨by decide +kernel, by decide +kernel⟩, by unfold nPar; decide +kernel⟩
theorem np_P_proved : notMH y_P_proved.cls ∧ nPar y_P_proved.desc 1 := ⟨⟨by decide +kernel, by decide +kernel⟩, by unfold nPar; decide +kernel⟩
theorem np_P_failure : notMH y_P_failure.cls ∧ nPar y_P_failure.desc 1 := ⟨⟨by decide +kernel, by decide +kernel⟩, by unfold nPar; decide +kernel⟩
theorem np_P_run : notMH y_P_run.cls ∧ nPar y_P_run.desc 2 := ⟨⟨by decide +kernel, by decide +kernel⟩, by unfold nPar; decide +kernel⟩
theorem np_P_value : notMH y_P_value.cls ∧ nPar y_P_value.desc 2 := ⟨⟨by decide +kernel, by decide +kernel⟩, by unfold nPar; decide +kernel⟩
theorem np_M_init : notMH y_M_init.cls ∧ nPar y_M_init.desc 0 := ⟨⟨by decide +kernel, by decide +kernel⟩, by unfold nPar; decide +kernel⟩
theorem np_M_node : notMH y_M_node.cls ∧ nPar y_M_node.desc 3 := ⟨⟨by decide +kernel, by decide +kernel⟩, by unfold nPar; decide +kernel⟩
theorem np_M_below : notMH y_M_below.cls ∧ nPar y_M_below.desc 2 := ⟨⟨by decide +kernel, by decide +kernel⟩, by unfold nPar; decide +kernel⟩
theorem np_M_numeric : notMH y_M_numeric.cls ∧ nPar y_M_numeric.desc 1 := ⟨⟨by decide +kernel, by decide +kernel⟩, by unfold nPar; decide +kernel⟩
theorem np_M_truth : notMH y_M_truth.cls ∧ nPar y_M_truth.desc 1 := ⟨⟨by decide +kernel, by decide +kernel⟩, by unfold nPar; decide +kernel⟩
theorem np_M_assign : notMH y_M_assign.cls ∧ nPar y_M_assign.desc 2 := ⟨⟨by decide +kernel, by decide +kernel⟩, by unfold nPar; decide +kernel⟩
theorem np_M_add : notMH y_M_add.cls ∧ nPar y_M_add.desc 3 := ⟨⟨by decide +kernel, by decide +kernel⟩, by unfold nPar; decide +kernel⟩
theorem np_M_store : notMH y_M_store.cls ∧ nPar y_M_store.desc 2 := ⟨⟨by decide +kernel, by decide +kernel⟩, by unfold nPar; decide +kernel⟩
theorem np_M_claim : notMH y_M_claim.cls ∧ nPar y_M_claim.desc 1 := ⟨⟨by decide +kernel, by decide +kernel⟩, by unfold nPar; decide +kernel⟩
theorem np_M_assume : notMH y_M_assume.cls ∧ nPar y_M_assume.desc 1 := ⟨⟨by decide +kernel, by decide +kernel⟩, by unfold nPar; decide +kernel⟩
theorem np_M_when : notMH y_M_when.cls ∧ nPar y_M_when.desc 1 := ⟨⟨by decide +kernel, by decide +kernel⟩, by unfold nPar; decide +kernel⟩
theorem np_M_begin : notMH y_M_begin.cls ∧ nPar y_M_begin.desc 3 := ⟨⟨by decide +kernel, by decide +kernel⟩, by unfold nPar; decide +kernel⟩
theorem np_M_loop : notMH y_M_loop.cls ∧ nPar y_M_loop.desc 2 := ⟨⟨by decide +kernel, by decide +kernel⟩, by unfold nPar; decide +kernel⟩
theorem np_M_other : notMH y_M_other.cls ∧ nPar y_M_other.desc 0 := ⟨⟨by decide +kernel, by decide +kernel⟩, by unfold nPar; decide +kernel⟩
theorem np_M_end : notMH y_M_end.cls ∧ nPar y_M_end.desc 0 := ⟨⟨by decide +kernel, by decide +kernel⟩, by unfold nPar; decide +kernel⟩
theorem np_M_clear : notMH y_M_clear.cls ∧ nPar y_M_clear.desc 0 := ⟨⟨by decide +kernel, by decide +kernel⟩, by unfold nPar; decide +kernel⟩
theorem np_M_verify : notMH y_M_verify.cls ∧ nPar y_M_verify.desc 2 := ⟨⟨by decide +kernel, by decide +kernel⟩, by unfold nPar; decide +kernel⟩
theorem np_M_decide : notMH y_M_decide.cls ∧ nPar y_M_decide.desc 4 := ⟨⟨by decide +kernel, by decide +kernel⟩, by unfold nPar; decide +kernel⟩
theorem np_M_take : notMH y_M_take.cls ∧ nPar y_M_take.desc 1 := ⟨⟨by decide +kernel, by decide +kernel⟩, by unfold nPar; decide +kernel⟩
theorem np_M_holds : notMH y_M_holds.cls ∧ nPar y_M_holds.desc 1 := ⟨⟨by decide +kernel, by decide +kernel⟩, by unfold nPar; decide +kernel⟩
theorem np_M_eval : notMH y_M_eval.cls ∧ nPar y_M_eval.desc 1 := ⟨⟨by decide +kernel, by decide +kernel⟩, by unfold nPar; decide +kernel⟩
theorem np_M_worked : notMH y_M_worked.cls ∧ nPar y_M_worked.desc 3 := ⟨⟨by decide +kernel, by decide +kernel⟩, by unfold nPar; decide +kernel⟩
theorem np_M_goesRight : notMH y_M_goesRight.cls ∧ nPar y_M_goesRight.desc 1 := ⟨⟨by decide +kernel, by decide +kernel⟩, by unfold nPar; decide +kernel⟩
theorem np_M_change : notMH y_M_change.cls ∧ nPar y_M_change.desc 1 := ⟨⟨by decide +kernel, by decide +kernel⟩, by unfold nPar; decide +kernel⟩
theorem np_M_next : notMH y_M_next.cls ∧ nPar y_M_next.desc 1 := ⟨⟨by decide +kernel, by decide +kernel⟩, by unfold nPar; decide +kernel⟩
theorem np_M_conditions : notMH y_M_conditions.cls ∧ nPar y_M_conditions.desc 0 := ⟨⟨by decide +kernel, by decide +kernel⟩, by unfold nPar; decide +kernel⟩
theorem np_M_witness : notMH y_M_witness.cls ∧ nPar y_M_witness.desc 1 := ⟨⟨by decide +kernel, by decide +kernel⟩, by unfold nPar; decide +kernel⟩
theorem np_M_is : notMH y_M_is.cls ∧ nPar y_M_is.desc 1 := ⟨⟨by decide +kernel, by decide +kernel⟩, by unfold nPar; decide +kernel⟩
theorem np_M_proved : notMH y_M_proved.cls ∧ nPar y_M_proved.desc 1 := ⟨⟨by decide +kernel, by decide +kernel⟩, by unfold nPar; decide +kernel⟩
theorem np_M_failure : notMH y_M_failure.cls ∧ nPar y_M_failure.desc 1 := ⟨⟨by decide +kernel, by decide +kernel⟩, by unfold nPar; decide +kernel⟩
theorem np_M_run : notMH y_M_run.cls ∧ nPar y_M_run.desc 2 := ⟨⟨by decide +kernel, by decide +kernel⟩, by unfold nPar; decide +kernel⟩
theorem np_M_number : notMH y_M_number.cls ∧ nPar y_M_number.desc 0 := ⟨⟨by decide +kernel, by decide +kernel⟩, by unfold nPar; decide +kernel⟩
theorem np_M_value : notMH y_M_value.cls ∧ nPar y_M_value.desc 2 := ⟨⟨by decide +kernel, by decide +kernel⟩, by unfold nPar; decide +kernel⟩
theorem m_Law_9 : MLI "LoopProverLaw" 9 y_P_init b_P_init 1 0 := ⟨Or.inl (g1 33 rfl rfl), (g1 34 rfl rfl), (g1 1 rfl rfl), (g1 35 rfl rfl), rfl, np_P_init.1, np_P_init.2⟩
theorem m_P_1 : Cond.methodLink "LoopProver" 1 Lib.objectInit ∈ tblG ∧ Cond.instanceMethod Lib.objectInit ∈ tblG ∧ Cond.code Lib.objectInit ⟨#[0xb1]⟩ 1 none ∈ tblG := ⟨(g1 36 rfl rfl), (g1 37 rfl rfl), (g1 38 rfl rfl)⟩
theorem m_P_11 : MLI "LoopProver" 11 y_AL_init b_AL_init 2 1 := ⟨Or.inl (g1 41 rfl rfl), (g1 42 rfl rfl), (g1 4 rfl rfl), (g1 43 rfl rfl), rfl, np_AL_init.1, np_AL_init.2⟩
theorem m_AL_1 : MLI "java/util/ArrayList" 1 y_ABL_init b_ABL_init 1 0 := ⟨Or.inl (g1 44 rfl rfl), (g1 45 rfl rfl), (g1 3 rfl rfl), (g1 46 rfl rfl), rfl, np_ABL_init.1, np_ABL_init.2⟩
theorem m_ABL_1 : MLI "java/util/AbstractList" 1 y_ABC_init b_ABC_init 1 0 := ⟨Or.inl (g1 47 rfl rfl), (g1 48 rfl rfl), (g1 2 rfl rfl), (g1 49 rfl rfl), rfl, np_ABC_init.1, np_ABC_init.2⟩
theorem m_ABC_1 : Cond.methodLink "java/util/AbstractCollection" 1 Lib.objectInit ∈ tblG ∧ Cond.instanceMethod Lib.objectInit ∈ tblG ∧ Cond.code Lib.objectInit ⟨#[0xb1]⟩ 1 none ∈ tblG := ⟨(g1 50 rfl rfl), (g1 37 rfl rfl), (g1 38 rfl rfl)⟩
theorem m_Circuit_3 : Cond.methodLink "LoopProver$Circuit" 3 Lib.objectInit ∈ tblG ∧ Cond.instanceMethod Lib.objectInit ∈ tblG ∧ Cond.code Lib.objectInit ⟨#[0xb1]⟩ 1 none ∈ tblG := ⟨(g1 74 rfl rfl), (g1 37 rfl rfl), (g1 38 rfl rfl)⟩
theorem m_Checker_3 : Cond.methodLink "LoopProver$Checker" 3 Lib.objectInit ∈ tblG ∧ Cond.instanceMethod Lib.objectInit ∈ tblG ∧ Cond.code Lib.objectInit ⟨#[0xb1]⟩ 1 none ∈ tblG := ⟨(g1 131 rfl rfl), (g1 37 rfl rfl), (g1 38 rfl rfl)⟩
theorem m_P_43 : MLI "LoopProver" 43 y_Solver_init b_Solver_init 2 1 := ⟨Or.inl (g1 142 rfl rfl), (g1 143 rfl rfl), (g1 6 rfl rfl), (g1 144 rfl rfl), rfl, np_Solver_init.1, np_Solver_init.2⟩
theorem m_Solver_3 : Cond.methodLink "LoopProver$Solver" 3 Lib.objectInit ∈ tblG ∧ Cond.instanceMethod Lib.objectInit ∈ tblG ∧ Cond.code Lib.objectInit ⟨#[0xb1]⟩ 1 none ∈ tblG := ⟨(g1 145 rfl rfl), (g1 37 rfl rfl), (g1 38 rfl rfl)⟩
theorem m_Flow_3 : Cond.methodLink "LoopProver$Flow" 3 Lib.objectInit ∈ tblG ∧ Cond.instanceMethod Lib.objectInit ∈ tblG ∧ Cond.code Lib.objectInit ⟨#[0xb1]⟩ 1 none ∈ tblG := ⟨(g1 206 rfl rfl), (g1 37 rfl rfl), (g1 38 rfl rfl)⟩
theorem m_Law_13 : MLV "LoopProverLaw" 13 "LoopProver" y_P_node b_P_node 5 (some .int) 3 := ⟨(g2 27 rfl rfl), (g2 28 rfl rfl), (g2 29 rfl rfl), (g1 1 rfl rfl), (g2 30 rfl rfl), rfl, np_P_node.1, np_P_node.2⟩
theorem m_P_74 : MLV "LoopProver" 74 "java/util/ArrayList" y_AL_size b_AL_size 1 (some .int) 0 := ⟨(g2 31 rfl rfl), (g2 32 rfl rfl), (g2 33 rfl rfl), (g1 4 rfl rfl), (g2 34 rfl rfl), rfl, np_AL_size.1, np_AL_size.2⟩
theorem m_P_131 : MLV "LoopProver" 131 "LoopProver" y_P_made b_P_made 7 (some (.object "LoopProver$Node")) 3 := ⟨(g2 35 rfl rfl), (g2 37 rfl rfl), (gsel 0 rfl), (g1 1 rfl rfl), (g2 38 rfl rfl), rfl, np_P_made.1, np_P_made.2⟩
theorem m_P_92 : MLV "LoopProver" 92 "LoopProver" y_P_truth b_P_truth 2 (some .boolean) 1 := ⟨(g2 39 rfl rfl), (g2 41 rfl rfl), (gsel 1 rfl), (g1 1 rfl rfl), (g2 42 rfl rfl), rfl, np_P_truth.1, np_P_truth.2⟩
theorem m_P_84 : MLV "LoopProver" 84 "LoopProver" y_P_nodeAt b_P_nodeAt 2 (some (.object "LoopProver$Node")) 1 := ⟨(g2 43 rfl rfl), (g2 45 rfl rfl), (gsel 2 rfl), (g1 1 rfl rfl), (g2 46 rfl rfl), rfl, np_P_nodeAt.1, np_P_nodeAt.2⟩
theorem m_P_78 : MLV "LoopProver" 78 "java/util/ArrayList" y_AL_get b_AL_get 2 (some (.object "java/lang/Object")) 1 := ⟨(g2 47 rfl rfl), (g2 48 rfl rfl), (g2 49 rfl rfl), (g1 4 rfl rfl), (g2 50 rfl rfl), rfl, np_AL_get.1, np_AL_get.2⟩
theorem m_AL_118 : MLS "java/util/ArrayList" 118 y_Obj_checkIndex b_Obj_checkIndex 2 (some .int) 2 := ⟨(g2 51 rfl rfl), (g2 52 rfl rfl), (g1 10 rfl rfl), (g2 53 rfl rfl), np_Obj_checkIndex.1, np_Obj_checkIndex.2⟩
theorem m_Obj_105 : MLS "java/util/Objects" 105 y_Pre_checkIndex b_Pre_checkIndex 3 (some .int) 3 := ⟨(g2 54 rfl rfl), (g2 55 rfl rfl), (g1 11 rfl rfl), (g2 56 rfl rfl), np_Pre_checkIndex.1, np_Pre_checkIndex.2⟩
theorem m_AL_123 : MLV "java/util/ArrayList" 123 "java/util/ArrayList" y_AL_elementData b_AL_elementData 2 (some (.object "java/lang/Object")) 1 := ⟨(g2 57 rfl rfl), (g2 58 rfl rfl), (g2 59 rfl rfl), (g1 4 rfl rfl), (g2 60 rfl rfl), rfl, np_AL_elementData.1, np_AL_elementData.2⟩
theorem m_P_88_Below : MLU "LoopProver" 88 "LoopProver$Below" "LoopProver$Node" ⟨"LoopProver$Node", "truth", "()Z"⟩ y_Truth_truth b_Truth_truth 1 (some .boolean) 0 := ⟨(g2 62 rfl rfl), (g2 64 rfl rfl), (g2 65 rfl rfl), (g2 66 rfl rfl), (g1 18 rfl rfl), (g2 67 rfl rfl), ⟨by decide +kernel, by decide +kernel⟩, by unfold nPar; decide +kernel, Or.inr ⟨b_Node_truth, 1, (some .boolean), (g2 63 rfl rfl), (g2 76 rfl rfl)⟩⟩
theorem m_P_88_Both : MLU "LoopProver" 88 "LoopProver$Both" "LoopProver$Node" ⟨"LoopProver$Node", "truth", "()Z"⟩ y_Truth_truth b_Truth_truth 1 (some .boolean) 0 := ⟨(g2 62 rfl rfl), (g2 64 rfl rfl), (g2 68 rfl rfl), (g2 66 rfl rfl), (g1 18 rfl rfl), (g2 67 rfl rfl), ⟨by decide +kernel, by decide +kernel⟩, by unfold nPar; decide +kernel, Or.inr ⟨b_Node_truth, 1, (some .boolean), (g2 63 rfl rfl), (g2 76 rfl rfl)⟩⟩
theorem m_P_88_Constant : MLU "LoopProver" 88 "LoopProver$Constant" "LoopProver$Node" ⟨"LoopProver$Node", "truth", "()Z"⟩ y_Node_truth b_Node_truth 1 (some .boolean) 0 := ⟨(g2 62 rfl rfl), (g2 64 rfl rfl), (g2 69 rfl rfl), (g2 63 rfl rfl), (g1 12 rfl rfl), (g2 76 rfl rfl), ⟨by decide +kernel, by decide +kernel⟩, by unfold nPar; decide +kernel, Or.inr ⟨b_Node_truth, 1, (some .boolean), (g2 63 rfl rfl), (g2 76 rfl rfl)⟩⟩
theorem m_P_88_Meet : MLU "LoopProver" 88 "LoopProver$Meet" "LoopProver$Node" ⟨"LoopProver$Node", "truth", "()Z"⟩ y_Node_truth b_Node_truth 1 (some .boolean) 0 := ⟨(g2 62 rfl rfl), (g2 64 rfl rfl), (g2 70 rfl rfl), (g2 63 rfl rfl), (g1 12 rfl rfl), (g2 76 rfl rfl), ⟨by decide +kernel, by decide +kernel⟩, by unfold nPar; decide +kernel, Or.inr ⟨b_Node_truth, 1, (some .boolean), (g2 63 rfl rfl), (g2 76 rfl rfl)⟩⟩
theorem m_P_88_Not : MLU "LoopProver" 88 "LoopProver$Not" "LoopProver$Node" ⟨"LoopProver$Node", "truth", "()Z"⟩ y_Truth_truth b_Truth_truth 1 (some .boolean) 0 := ⟨(g2 62 rfl rfl), (g2 64 rfl rfl), (g2 71 rfl rfl), (g2 66 rfl rfl), (g1 18 rfl rfl), (g2 67 rfl rfl), ⟨by decide +kernel, by decide +kernel⟩, by unfold nPar; decide +kernel, Or.inr ⟨b_Node_truth, 1, (some .boolean), (g2 63 rfl rfl), (g2 76 rfl rfl)⟩⟩
theorem m_P_88_Read : MLU "LoopProver" 88 "LoopProver$Read" "LoopProver$Node" ⟨"LoopProver$Node", "truth", "()Z"⟩ y_Node_truth b_Node_truth 1 (some .boolean) 0 := ⟨(g2 62 rfl rfl), (g2 64 rfl rfl), (g2 72 rfl rfl), (g2 63 rfl rfl), (g1 12 rfl rfl), (g2 76 rfl rfl), ⟨by decide +kernel, by decide +kernel⟩, by unfold nPar; decide +kernel, Or.inr ⟨b_Node_truth, 1, (some .boolean), (g2 63 rfl rfl), (g2 76 rfl rfl)⟩⟩
theorem m_P_88_Same : MLU "LoopProver" 88 "LoopProver$Same" "LoopProver$Node" ⟨"LoopProver$Node", "truth", "()Z"⟩ y_Truth_truth b_Truth_truth 1 (some .boolean) 0 := ⟨(g2 62 rfl rfl), (g2 64 rfl rfl), (g2 73 rfl rfl), (g2 66 rfl rfl), (g1 18 rfl rfl), (g2 67 rfl rfl), ⟨by decide +kernel, by decide +kernel⟩, by unfold nPar; decide +kernel, Or.inr ⟨b_Node_truth, 1, (some .boolean), (g2 63 rfl rfl), (g2 76 rfl rfl)⟩⟩
theorem m_P_88_Sum : MLU "LoopProver" 88 "LoopProver$Sum" "LoopProver$Node" ⟨"LoopProver$Node", "truth", "()Z"⟩ y_Node_truth b_Node_truth 1 (some .boolean) 0 := ⟨(g2 62 rfl rfl), (g2 64 rfl rfl), (g2 74 rfl rfl), (g2 63 rfl rfl), (g1 12 rfl rfl), (g2 76 rfl rfl), ⟨by decide +kernel, by decide +kernel⟩, by unfold nPar; decide +kernel, Or.inr ⟨b_Node_truth, 1, (some .boolean), (g2 63 rfl rfl), (g2 76 rfl rfl)⟩⟩
theorem m_P_88_Variable : MLU "LoopProver" 88 "LoopProver$Variable" "LoopProver$Node" ⟨"LoopProver$Node", "truth", "()Z"⟩ y_Node_truth b_Node_truth 1 (some .boolean) 0 := ⟨(g2 62 rfl rfl), (g2 64 rfl rfl), (g2 75 rfl rfl), (g2 63 rfl rfl), (g1 12 rfl rfl), (g2 76 rfl rfl), ⟨by decide +kernel, by decide +kernel⟩, by unfold nPar; decide +kernel, Or.inr ⟨b_Node_truth, 1, (some .boolean), (g2 63 rfl rfl), (g2 76 rfl rfl)⟩⟩
theorem m_P_95 : MLV "LoopProver" 95 "LoopProver" y_P_numeric b_P_numeric 2 (some .boolean) 1 := ⟨(g2 77 rfl rfl), (g2 79 rfl rfl), (gsel 3 rfl), (g1 1 rfl rfl), (g2 80 rfl rfl), rfl, np_P_numeric.1, np_P_numeric.2⟩
theorem m_P_100 : MLI "LoopProver" 100 y_Constant_init b_Constant_init 3 2 := ⟨Or.inl (g2 83 rfl rfl), (g2 84 rfl rfl), (g1 13 rfl rfl), (g2 85 rfl rfl), rfl, np_Constant_init.1, np_Constant_init.2⟩
theorem m_Constant_3 : MLI "LoopProver$Constant" 3 y_Node_init b_Node_init 4 3 := ⟨Or.inl (g2 86 rfl rfl), (g2 87 rfl rfl), (g1 12 rfl rfl), (g2 88 rfl rfl), rfl, np_Node_init.1, np_Node_init.2⟩
theorem m_Node_1 : Cond.methodLink "LoopProver$Node" 1 Lib.objectInit ∈ tblG ∧ Cond.instanceMethod Lib.objectInit ∈ tblG ∧ Cond.code Lib.objectInit ⟨#[0xb1]⟩ 1 none ∈ tblG := ⟨(g2 89 rfl rfl), (g1 37 rfl rfl), (g1 38 rfl rfl)⟩
theorem m_P_105 : MLI "LoopProver" 105 y_Variable_init b_Variable_init 3 2 := ⟨Or.inl (g2 150 rfl rfl), (g2 151 rfl rfl), (g1 14 rfl rfl), (g2 152 rfl rfl), rfl, np_Variable_init.1, np_Variable_init.2⟩
theorem m_Variable_3 : MLI "LoopProver$Variable" 3 y_Node_init b_Node_init 4 3 := ⟨Or.inl (g2 153 rfl rfl), (g2 87 rfl rfl), (g1 12 rfl rfl), (g2 88 rfl rfl), rfl, np_Node_init.1, np_Node_init.2⟩
theorem m_P_108 : MLI "LoopProver" 108 y_Read_init b_Read_init 3 2 := ⟨Or.inl (g2 163 rfl rfl), (g2 164 rfl rfl), (g1 15 rfl rfl), (g2 165 rfl rfl), rfl, np_Read_init.1, np_Read_init.2⟩
theorem m_Read_3 : MLI "LoopProver$Read" 3 y_Node_init b_Node_init 4 3 := ⟨Or.inl (g2 166 rfl rfl), (g2 87 rfl rfl), (g1 12 rfl rfl), (g2 88 rfl rfl), rfl, np_Node_init.1, np_Node_init.2⟩
theorem m_P_111 : MLI "LoopProver" 111 y_Sum_init b_Sum_init 5 4 := ⟨Or.inl (g2 173 rfl rfl), (g2 174 rfl rfl), (g1 16 rfl rfl), (g2 175 rfl rfl), rfl, np_Sum_init.1, np_Sum_init.2⟩
theorem m_Sum_3 : MLI "LoopProver$Sum" 3 y_Node_init b_Node_init 4 3 := ⟨Or.inl (g2 176 rfl rfl), (g2 87 rfl rfl), (g1 12 rfl rfl), (g2 88 rfl rfl), rfl, np_Node_init.1, np_Node_init.2⟩
theorem m_P_116 : MLI "LoopProver" 116 y_Meet_init b_Meet_init 4 3 := ⟨Or.inl (g2 186 rfl rfl), (g2 187 rfl rfl), (g1 17 rfl rfl), (g2 188 rfl rfl), rfl, np_Meet_init.1, np_Meet_init.2⟩
theorem m_Meet_3 : MLI "LoopProver$Meet" 3 y_Node_init b_Node_init 4 3 := ⟨Or.inl (g2 189 rfl rfl), (g2 87 rfl rfl), (g1 12 rfl rfl), (g2 88 rfl rfl), rfl, np_Node_init.1, np_Node_init.2⟩
theorem m_P_121 : MLI "LoopProver" 121 y_Below_init b_Below_init 4 3 := ⟨Or.inl (g2 196 rfl rfl), (g2 197 rfl rfl), (g1 19 rfl rfl), (g2 198 rfl rfl), rfl, np_Below_init.1, np_Below_init.2⟩
theorem m_Below_3 : MLI "LoopProver$Below" 3 y_Truth_init b_Truth_init 4 3 := ⟨Or.inl (g2 199 rfl rfl), (g2 200 rfl rfl), (g1 18 rfl rfl), (g2 201 rfl rfl), rfl, np_Truth_init.1, np_Truth_init.2⟩
theorem m_Truth_1 : MLI "LoopProver$Truth" 1 y_Node_init b_Node_init 4 3 := ⟨Or.inl (g2 202 rfl rfl), (g2 87 rfl rfl), (g1 12 rfl rfl), (g2 88 rfl rfl), rfl, np_Node_init.1, np_Node_init.2⟩
theorem m_P_124 : MLI "LoopProver" 124 y_Same_init b_Same_init 4 3 := ⟨Or.inl (g2 209 rfl rfl), (g2 210 rfl rfl), (g1 20 rfl rfl), (g2 211 rfl rfl), rfl, np_Same_init.1, np_Same_init.2⟩
theorem m_Same_3 : MLI "LoopProver$Same" 3 y_Truth_init b_Truth_init 4 3 := ⟨Or.inl (g2 212 rfl rfl), (g2 200 rfl rfl), (g1 18 rfl rfl), (g2 201 rfl rfl), rfl, np_Truth_init.1, np_Truth_init.2⟩
theorem m_P_127 : MLI "LoopProver" 127 y_Not_init b_Not_init 3 2 := ⟨Or.inl (g2 219 rfl rfl), (g2 220 rfl rfl), (g1 21 rfl rfl), (g2 221 rfl rfl), rfl, np_Not_init.1, np_Not_init.2⟩
theorem m_Not_3 : MLI "LoopProver$Not" 3 y_Truth_init b_Truth_init 4 3 := ⟨Or.inl (g2 222 rfl rfl), (g2 200 rfl rfl), (g1 18 rfl rfl), (g2 201 rfl rfl), rfl, np_Truth_init.1, np_Truth_init.2⟩
theorem m_P_130 : MLI "LoopProver" 130 y_Both_init b_Both_init 4 3 := ⟨Or.inl (g2 229 rfl rfl), (g2 230 rfl rfl), (g1 22 rfl rfl), (g2 231 rfl rfl), rfl, np_Both_init.1, np_Both_init.2⟩
theorem m_Both_3 : MLI "LoopProver$Both" 3 y_Truth_init b_Truth_init 4 3 := ⟨Or.inl (g2 232 rfl rfl), (g2 200 rfl rfl), (g1 18 rfl rfl), (g2 201 rfl rfl), rfl, np_Truth_init.1, np_Truth_init.2⟩
theorem m_P_135 : MLV "LoopProver" 135 "java/util/ArrayList" y_AL_add1 b_AL_add1 2 (some .boolean) 1 := ⟨(g2 237 rfl rfl), (g2 238 rfl rfl), (g2 239 rfl rfl), (g1 4 rfl rfl), (g3 0 rfl rfl), rfl, np_AL_add1.1, np_AL_add1.2⟩
theorem m_AL_131 : MLV "java/util/ArrayList" 131 "java/util/ArrayList" y_AL_add2 b_AL_add2 4 none 3 := ⟨(g3 1 rfl rfl), (g3 3 rfl rfl), (gsel 4 rfl), (g1 4 rfl rfl), (g3 4 rfl rfl), rfl, np_AL_add2.1, np_AL_add2.2⟩
theorem m_AL_129 : MLV "java/util/ArrayList" 129 "java/util/ArrayList" y_AL_grow1 b_AL_grow1 1 (some (.array (.object "java/lang/Object"))) 0 := ⟨(g3 5 rfl rfl), (g3 7 rfl rfl), (gsel 5 rfl), (g1 4 rfl rfl), (g3 8 rfl rfl), rfl, np_AL_grow1.1, np_AL_grow1.2⟩
theorem m_AL_69 : MLV "java/util/ArrayList" 69 "java/util/ArrayList" y_AL_grow2 b_AL_grow2 4 (some (.array (.object "java/lang/Object"))) 1 := ⟨(g3 9 rfl rfl), (g3 11 rfl rfl), (gsel 6 rfl), (g1 4 rfl rfl), (g3 12 rfl rfl), rfl, np_AL_grow2.1, np_AL_grow2.2⟩
theorem m_AS_194 : Cond.methodLink "jdk/internal/util/ArraysSupport" 194 Lib.Math.max.name ∈ tblG ∧ Cond.static Lib.Math.max.name ∈ tblG ∧ Cond.initialized "java/lang/Math" ∈ tblG ∧ Cond.code Lib.Math.max.name Lib.Math.max.code 2 (some .int) ∈ tblG := ⟨(g3 18 rfl rfl), (g3 19 rfl rfl), (g1 24 rfl rfl), (g3 20 rfl rfl)⟩
theorem m_Arrs_304 : Cond.methodLink "java/util/Arrays" 304 Lib.Math.min.name ∈ tblG ∧ Cond.static Lib.Math.min.name ∈ tblG ∧ Cond.initialized "java/lang/Math" ∈ tblG ∧ Cond.code Lib.Math.min.name Lib.Math.min.code 2 (some .int) ∈ tblG := ⟨(g3 56 rfl rfl), (g3 57 rfl rfl), (g1 24 rfl rfl), (g3 58 rfl rfl)⟩
theorem m_Arrs_150 : Cond.methodLink "java/util/Arrays" 150 arraycopyName ∈ tblG ∧ Cond.native arraycopyName ∈ tblG ∧ Cond.static arraycopyName ∈ tblG ∧ Cond.initialized "java/lang/System" ∈ tblG := ⟨(g3 59 rfl rfl), (g3 61 rfl rfl), (g3 60 rfl rfl), (g1 26 rfl rfl)⟩
theorem m_AL_79 : Cond.methodLink "java/util/ArrayList" 79 Lib.Math.max.name ∈ tblG ∧ Cond.static Lib.Math.max.name ∈ tblG ∧ Cond.initialized "java/lang/Math" ∈ tblG ∧ Cond.code Lib.Math.max.name Lib.Math.max.code 2 (some .int) ∈ tblG := ⟨(g3 62 rfl rfl), (g3 19 rfl rfl), (g1 24 rfl rfl), (g3 20 rfl rfl)⟩
theorem m_Law_18 : MLV "LoopProverLaw" 18 "LoopProver" y_P_assign b_P_assign 3 (some .int) 2 := ⟨(g3 63 rfl rfl), (g3 64 rfl rfl), (g3 65 rfl rfl), (g1 1 rfl rfl), (g3 66 rfl rfl), rfl, np_P_assign.1, np_P_assign.2⟩
theorem m_P_148 : MLV "LoopProver" 148 "LoopProver" y_P_full b_P_full 1 (some .boolean) 0 := ⟨(g3 67 rfl rfl), (g3 69 rfl rfl), (gsel 7 rfl), (g1 1 rfl rfl), (g3 70 rfl rfl), rfl, np_P_full.1, np_P_full.2⟩
theorem m_P_157 : MLV "LoopProver" 157 "LoopProver" y_P_add b_P_add 6 (some (.object "LoopProver$Line")) 4 := ⟨(g3 73 rfl rfl), (g3 75 rfl rfl), (gsel 8 rfl), (g1 1 rfl rfl), (g3 76 rfl rfl), rfl, np_P_add.1, np_P_add.2⟩
theorem m_P_141 : MLI "LoopProver" 141 y_Line_init b_Line_init 5 4 := ⟨Or.inl (g3 79 rfl rfl), (g3 80 rfl rfl), (g1 29 rfl rfl), (g3 81 rfl rfl), rfl, np_Line_init.1, np_Line_init.2⟩
theorem m_Line_3 : Cond.methodLink "LoopProver$Line" 3 Lib.objectInit ∈ tblG ∧ Cond.instanceMethod Lib.objectInit ∈ tblG ∧ Cond.code Lib.objectInit ⟨#[0xb1]⟩ 1 none ∈ tblG := ⟨(g3 82 rfl rfl), (g1 37 rfl rfl), (g1 38 rfl rfl)⟩
theorem m_Law_23 : MLV "LoopProverLaw" 23 "LoopProver" y_P_store b_P_store 3 (some .int) 2 := ⟨(g3 112 rfl rfl), (g3 113 rfl rfl), (g3 114 rfl rfl), (g1 1 rfl rfl), (g3 115 rfl rfl), rfl, np_P_store.1, np_P_store.2⟩
theorem m_Law_27 : MLV "LoopProverLaw" 27 "LoopProver" y_P_claim b_P_claim 2 (some .int) 1 := ⟨(g3 118 rfl rfl), (g3 119 rfl rfl), (g3 120 rfl rfl), (g1 1 rfl rfl), (g3 121 rfl rfl), rfl, np_P_claim.1, np_P_claim.2⟩
theorem m_P_166 : MLV "LoopProver" 166 "LoopProver" y_P_plain b_P_plain 3 (some .int) 2 := ⟨(g3 124 rfl rfl), (g3 126 rfl rfl), (gsel 9 rfl), (g1 1 rfl rfl), (g3 127 rfl rfl), rfl, np_P_plain.1, np_P_plain.2⟩
theorem m_Law_32 : MLV "LoopProverLaw" 32 "LoopProver" y_P_assume b_P_assume 2 (some .int) 1 := ⟨(g3 128 rfl rfl), (g3 129 rfl rfl), (g3 130 rfl rfl), (g1 1 rfl rfl), (g3 131 rfl rfl), rfl, np_P_assume.1, np_P_assume.2⟩
theorem m_Law_36 : MLV "LoopProverLaw" 36 "LoopProver" y_P_when b_P_when 2 (some .int) 1 := ⟨(g3 134 rfl rfl), (g3 135 rfl rfl), (g3 136 rfl rfl), (g1 1 rfl rfl), (g3 137 rfl rfl), rfl, np_P_when.1, np_P_when.2⟩
theorem m_P_180 : MLV "LoopProver" 180 "LoopProver" y_P_block b_P_block 4 (some .int) 3 := ⟨(g3 140 rfl rfl), (g3 142 rfl rfl), (gsel 10 rfl), (g1 1 rfl rfl), (g3 143 rfl rfl), rfl, np_P_block.1, np_P_block.2⟩
theorem m_Law_45 : MLV "LoopProverLaw" 45 "LoopProver" y_P_loop b_P_loop 3 (some .int) 2 := ⟨(g3 144 rfl rfl), (g3 145 rfl rfl), (g3 146 rfl rfl), (g1 1 rfl rfl), (g3 147 rfl rfl), rfl, np_P_loop.1, np_P_loop.2⟩
theorem m_Law_40 : MLV "LoopProverLaw" 40 "LoopProver" y_P_other b_P_other 2 (some .int) 0 := ⟨(g3 150 rfl rfl), (g3 151 rfl rfl), (g3 152 rfl rfl), (g1 1 rfl rfl), (g3 153 rfl rfl), rfl, np_P_other.1, np_P_other.2⟩
theorem m_P_187 : MLV "LoopProver" 187 "LoopProver" y_P_inner b_P_inner 1 (some (.object "LoopProver$Line")) 0 := ⟨(g3 154 rfl rfl), (g3 156 rfl rfl), (gsel 11 rfl), (g1 1 rfl rfl), (g3 157 rfl rfl), rfl, np_P_inner.1, np_P_inner.2⟩
theorem m_Law_49 : MLV "LoopProverLaw" 49 "LoopProver" y_P_end b_P_end 2 (some .int) 0 := ⟨(g3 160 rfl rfl), (g3 161 rfl rfl), (g3 162 rfl rfl), (g1 1 rfl rfl), (g3 163 rfl rfl), rfl, np_P_end.1, np_P_end.2⟩
theorem m_Law_53 : MLV "LoopProverLaw" 53 "LoopProver" y_P_clear b_P_clear 2 (some .int) 0 := ⟨(g3 166 rfl rfl), (g3 167 rfl rfl), (g3 168 rfl rfl), (g1 1 rfl rfl), (g3 169 rfl rfl), rfl, np_P_clear.1, np_P_clear.2⟩
theorem m_P_209 : MLV "LoopProver" 209 "java/util/ArrayList" y_AL_clear b_AL_clear 4 none 0 := ⟨(g3 170 rfl rfl), (g3 171 rfl rfl), (g3 172 rfl rfl), (g1 4 rfl rfl), (g3 173 rfl rfl), rfl, np_AL_clear.1, np_AL_clear.2⟩
theorem m_Law_57 : MLV "LoopProverLaw" 57 "LoopProver" y_P_verify b_P_verify 7 (some .int) 2 := ⟨(g3 174 rfl rfl), (g3 175 rfl rfl), (g3 176 rfl rfl), (g1 1 rfl rfl), (g3 177 rfl rfl), rfl, np_P_verify.1, np_P_verify.2⟩
theorem m_P_327 : MLV "LoopProver" 327 "LoopProver" y_P_decide b_P_decide 10 none 5 := ⟨(g3 178 rfl rfl), (g3 180 rfl rfl), (gsel 12 rfl), (g1 1 rfl rfl), (g3 181 rfl rfl), rfl, np_P_decide.1, np_P_decide.2⟩
theorem m_Verdict_3 : Cond.methodLink "LoopProver$Verdict" 3 Lib.objectInit ∈ tblG ∧ Cond.instanceMethod Lib.objectInit ∈ tblG ∧ Cond.code Lib.objectInit ⟨#[0xb1]⟩ 1 none ∈ tblG := ⟨(g3 186 rfl rfl), (g1 37 rfl rfl), (g1 38 rfl rfl)⟩
theorem m_P_308 : MLV "LoopProver" 308 "LoopProver$Circuit" y_Circuit_begin b_Circuit_begin 2 none 0 := ⟨(g3 199 rfl rfl), (g3 200 rfl rfl), (g3 201 rfl rfl), (g1 5 rfl rfl), (g3 202 rfl rfl), rfl, np_Circuit_begin.1, np_Circuit_begin.2⟩
theorem m_Circuit_49 : MLV "LoopProver$Circuit" 49 "LoopProver$Circuit" y_Circuit_add b_Circuit_add 4 none 3 := ⟨(g3 203 rfl rfl), (g3 204 rfl rfl), (g3 205 rfl rfl), (g1 5 rfl rfl), (g3 206 rfl rfl), rfl, np_Circuit_add.1, np_Circuit_add.2⟩
theorem m_Circuit_60 : MLV "LoopProver$Circuit" 60 "LoopProver$Circuit" y_Circuit_open b_Circuit_open 1 none 0 := ⟨(g3 207 rfl rfl), (g3 209 rfl rfl), (gsel 13 rfl), (g1 5 rfl rfl), (g3 210 rfl rfl), rfl, np_Circuit_open.1, np_Circuit_open.2⟩
theorem m_Circuit_53 : MLS "LoopProver$Circuit" 53 y_Circuit_longer b_Circuit_longer 2 (some (.array .int)) 1 := ⟨(g3 211 rfl rfl), (g3 212 rfl rfl), (g1 5 rfl rfl), (g3 213 rfl rfl), np_Circuit_longer.1, np_Circuit_longer.2⟩
theorem m_Circuit_70 : Cond.methodLink "LoopProver$Circuit" 70 arraycopyName ∈ tblG ∧ Cond.native arraycopyName ∈ tblG ∧ Cond.static arraycopyName ∈ tblG ∧ Cond.initialized "java/lang/System" ∈ tblG := ⟨(g3 214 rfl rfl), (g3 61 rfl rfl), (g3 60 rfl rfl), (g1 26 rfl rfl)⟩
theorem m_Circuit_63 : MLV "LoopProver$Circuit" 63 "LoopProver$Circuit" y_Circuit_put b_Circuit_put 2 none 1 := ⟨(g3 215 rfl rfl), (g3 217 rfl rfl), (gsel 14 rfl), (g1 5 rfl rfl), (g3 218 rfl rfl), rfl, np_Circuit_put.1, np_Circuit_put.2⟩
theorem m_Circuit_57 : MLV "LoopProver$Circuit" 57 "LoopProver$Circuit" y_Circuit_room b_Circuit_room 1 none 0 := ⟨(g3 219 rfl rfl), (g3 221 rfl rfl), (gsel 15 rfl), (g1 5 rfl rfl), (g3 222 rfl rfl), rfl, np_Circuit_room.1, np_Circuit_room.2⟩
theorem m_Circuit_67 : MLV "LoopProver$Circuit" 67 "LoopProver$Circuit" y_Circuit_close b_Circuit_close 1 none 0 := ⟨(g3 223 rfl rfl), (g3 225 rfl rfl), (gsel 16 rfl), (g1 5 rfl rfl), (g3 226 rfl rfl), rfl, np_Circuit_close.1, np_Circuit_close.2⟩
theorem m_P_232 : MLV "LoopProver" 232 "LoopProver" y_P_gate b_P_gate 4 (some .int) 2 := ⟨(g3 227 rfl rfl), (g3 229 rfl rfl), (gsel 17 rfl), (g1 1 rfl rfl), (g3 230 rfl rfl), rfl, np_P_gate.1, np_P_gate.2⟩
theorem m_P_221 : MLV "LoopProver" 221 "LoopProver" y_P_need b_P_need 4 none 1 := ⟨(g3 231 rfl rfl), (g3 233 rfl rfl), (gsel 18 rfl), (g1 1 rfl rfl), (g3 234 rfl rfl), rfl, np_P_need.1, np_P_need.2⟩
theorem m_P_224_Below : MLU "LoopProver" 224 "LoopProver$Below" "LoopProver$Node" ⟨"LoopProver$Node", "gates", "(LLoopProver$Circuit;[I[I)V"⟩ y_Below_gates b_Below_gates 8 none 3 := ⟨(g3 235 rfl rfl), (g3 237 rfl rfl), (g3 238 rfl rfl), (g3 239 rfl rfl), (g1 19 rfl rfl), (g4 0 rfl rfl), ⟨by decide +kernel, by decide +kernel⟩, by unfold nPar; decide +kernel, Or.inl (List.mem_of_getElem? (i := 30) rfl)⟩
theorem m_P_224_Both : MLU "LoopProver" 224 "LoopProver$Both" "LoopProver$Node" ⟨"LoopProver$Node", "gates", "(LLoopProver$Circuit;[I[I)V"⟩ y_Both_gates b_Both_gates 4 none 3 := ⟨(g3 235 rfl rfl), (g3 237 rfl rfl), (g4 23 rfl rfl), (g4 24 rfl rfl), (g1 22 rfl rfl), (g4 25 rfl rfl), ⟨by decide +kernel, by decide +kernel⟩, by unfold nPar; decide +kernel, Or.inl (List.mem_of_getElem? (i := 30) rfl)⟩
theorem m_P_224_Constant : MLU "LoopProver" 224 "LoopProver$Constant" "LoopProver$Node" ⟨"LoopProver$Node", "gates", "(LLoopProver$Circuit;[I[I)V"⟩ y_Constant_gates b_Constant_gates 5 none 3 := ⟨(g3 235 rfl rfl), (g3 237 rfl rfl), (g4 27 rfl rfl), (g4 28 rfl rfl), (g1 13 rfl rfl), (g4 29 rfl rfl), ⟨by decide +kernel, by decide +kernel⟩, by unfold nPar; decide +kernel, Or.inl (List.mem_of_getElem? (i := 30) rfl)⟩
theorem m_P_224_Meet : MLU "LoopProver" 224 "LoopProver$Meet" "LoopProver$Node" ⟨"LoopProver$Node", "gates", "(LLoopProver$Circuit;[I[I)V"⟩ y_Meet_gates b_Meet_gates 5 none 3 := ⟨(g3 235 rfl rfl), (g3 237 rfl rfl), (g4 30 rfl rfl), (g4 31 rfl rfl), (g1 17 rfl rfl), (g4 32 rfl rfl), ⟨by decide +kernel, by decide +kernel⟩, by unfold nPar; decide +kernel, Or.inl (List.mem_of_getElem? (i := 30) rfl)⟩
theorem m_P_224_Not : MLU "LoopProver" 224 "LoopProver$Not" "LoopProver$Node" ⟨"LoopProver$Node", "gates", "(LLoopProver$Circuit;[I[I)V"⟩ y_Not_gates b_Not_gates 4 none 3 := ⟨(g3 235 rfl rfl), (g3 237 rfl rfl), (g4 34 rfl rfl), (g4 35 rfl rfl), (g1 21 rfl rfl), (g4 36 rfl rfl), ⟨by decide +kernel, by decide +kernel⟩, by unfold nPar; decide +kernel, Or.inl (List.mem_of_getElem? (i := 30) rfl)⟩
theorem m_P_224_Read : MLU "LoopProver" 224 "LoopProver$Read" "LoopProver$Node" ⟨"LoopProver$Node", "gates", "(LLoopProver$Circuit;[I[I)V"⟩ y_Read_gates b_Read_gates 5 none 3 := ⟨(g3 235 rfl rfl), (g3 237 rfl rfl), (g4 37 rfl rfl), (g4 38 rfl rfl), (g1 15 rfl rfl), (g4 39 rfl rfl), ⟨by decide +kernel, by decide +kernel⟩, by unfold nPar; decide +kernel, Or.inl (List.mem_of_getElem? (i := 30) rfl)⟩
theorem m_P_224_Same : MLU "LoopProver" 224 "LoopProver$Same" "LoopProver$Node" ⟨"LoopProver$Node", "gates", "(LLoopProver$Circuit;[I[I)V"⟩ y_Same_gates b_Same_gates 6 none 3 := ⟨(g3 235 rfl rfl), (g3 237 rfl rfl), (g4 41 rfl rfl), (g4 42 rfl rfl), (g1 20 rfl rfl), (g4 43 rfl rfl), ⟨by decide +kernel, by decide +kernel⟩, by unfold nPar; decide +kernel, Or.inl (List.mem_of_getElem? (i := 30) rfl)⟩
theorem m_P_224_Sum : MLU "LoopProver" 224 "LoopProver$Sum" "LoopProver$Node" ⟨"LoopProver$Node", "gates", "(LLoopProver$Circuit;[I[I)V"⟩ y_Sum_gates b_Sum_gates 9 none 3 := ⟨(g3 235 rfl rfl), (g3 237 rfl rfl), (g4 46 rfl rfl), (g4 47 rfl rfl), (g1 16 rfl rfl), (g4 48 rfl rfl), ⟨by decide +kernel, by decide +kernel⟩, by unfold nPar; decide +kernel, Or.inl (List.mem_of_getElem? (i := 30) rfl)⟩
theorem m_P_224_Variable : MLU "LoopProver" 224 "LoopProver$Variable" "LoopProver$Node" ⟨"LoopProver$Node", "gates", "(LLoopProver$Circuit;[I[I)V"⟩ y_Variable_gates b_Variable_gates 4 none 3 := ⟨(g3 235 rfl rfl), (g3 237 rfl rfl), (g4 52 rfl rfl), (g4 53 rfl rfl), (g1 14 rfl rfl), (g4 54 rfl rfl), ⟨by decide +kernel, by decide +kernel⟩, by unfold nPar; decide +kernel, Or.inl (List.mem_of_getElem? (i := 30) rfl)⟩
theorem m_Below_18 : MLV "LoopProver$Below" 18 "LoopProver$Circuit" y_Circuit_differ b_Circuit_differ 3 (some .int) 2 := ⟨(g4 1 rfl rfl), (g4 2 rfl rfl), (g4 3 rfl rfl), (g1 5 rfl rfl), (g4 4 rfl rfl), rfl, np_Circuit_differ.1, np_Circuit_differ.2⟩
theorem m_Circuit_88 : MLV "LoopProver$Circuit" 88 "LoopProver$Circuit" y_Circuit_and b_Circuit_and 7 (some .int) 2 := ⟨(g4 5 rfl rfl), (g4 6 rfl rfl), (g4 7 rfl rfl), (g1 5 rfl rfl), (g4 8 rfl rfl), rfl, np_Circuit_and.1, np_Circuit_and.2⟩
theorem m_Circuit_76 : Cond.methodLink "LoopProver$Circuit" 76 Lib.Math.min.name ∈ tblG ∧ Cond.static Lib.Math.min.name ∈ tblG ∧ Cond.initialized "java/lang/Math" ∈ tblG ∧ Cond.code Lib.Math.min.name Lib.Math.min.code 2 (some .int) ∈ tblG := ⟨(g4 9 rfl rfl), (g3 57 rfl rfl), (g1 24 rfl rfl), (g3 58 rfl rfl)⟩
theorem m_Circuit_82 : Cond.methodLink "LoopProver$Circuit" 82 Lib.Math.max.name ∈ tblG ∧ Cond.static Lib.Math.max.name ∈ tblG ∧ Cond.initialized "java/lang/Math" ∈ tblG ∧ Cond.code Lib.Math.max.name Lib.Math.max.code 2 (some .int) ∈ tblG := ⟨(g4 10 rfl rfl), (g3 19 rfl rfl), (g1 24 rfl rfl), (g3 20 rfl rfl)⟩
theorem m_Circuit_85 : MLV "LoopProver$Circuit" 85 "LoopProver$Circuit" y_Circuit_grow b_Circuit_grow 1 none 0 := ⟨(g4 11 rfl rfl), (g4 13 rfl rfl), (gsel 19 rfl), (g1 5 rfl rfl), (g4 14 rfl rfl), rfl, np_Circuit_grow.1, np_Circuit_grow.2⟩
theorem m_Circuit_91 : MLV "LoopProver$Circuit" 91 "LoopProver$Circuit" y_Circuit_or b_Circuit_or 3 (some .int) 2 := ⟨(g4 15 rfl rfl), (g4 16 rfl rfl), (g4 17 rfl rfl), (g1 5 rfl rfl), (g4 18 rfl rfl), rfl, np_Circuit_or.1, np_Circuit_or.2⟩
theorem m_Below_24 : MLV "LoopProver$Below" 24 "LoopProver$Circuit" y_Circuit_either b_Circuit_either 4 (some .int) 3 := ⟨(g4 19 rfl rfl), (g4 20 rfl rfl), (g4 21 rfl rfl), (g1 5 rfl rfl), (g4 22 rfl rfl), rfl, np_Circuit_either.1, np_Circuit_either.2⟩
theorem m_Both_21 : MLV "LoopProver$Both" 21 "LoopProver$Circuit" y_Circuit_and b_Circuit_and 7 (some .int) 2 := ⟨(g4 26 rfl rfl), (g4 6 rfl rfl), (g4 7 rfl rfl), (g1 5 rfl rfl), (g4 8 rfl rfl), rfl, np_Circuit_and.1, np_Circuit_and.2⟩
theorem m_Meet_21 : MLV "LoopProver$Meet" 21 "LoopProver$Circuit" y_Circuit_and b_Circuit_and 7 (some .int) 2 := ⟨(g4 33 rfl rfl), (g4 6 rfl rfl), (g4 7 rfl rfl), (g1 5 rfl rfl), (g4 8 rfl rfl), rfl, np_Circuit_and.1, np_Circuit_and.2⟩
theorem m_Read_18 : MLV "LoopProver$Read" 18 "LoopProver$Circuit" y_Circuit_either b_Circuit_either 4 (some .int) 3 := ⟨(g4 40 rfl rfl), (g4 20 rfl rfl), (g4 21 rfl rfl), (g1 5 rfl rfl), (g4 22 rfl rfl), rfl, np_Circuit_either.1, np_Circuit_either.2⟩
theorem m_Same_18 : MLV "LoopProver$Same" 18 "LoopProver$Circuit" y_Circuit_differ b_Circuit_differ 3 (some .int) 2 := ⟨(g4 44 rfl rfl), (g4 2 rfl rfl), (g4 3 rfl rfl), (g1 5 rfl rfl), (g4 4 rfl rfl), rfl, np_Circuit_differ.1, np_Circuit_differ.2⟩
theorem m_Same_24 : MLV "LoopProver$Same" 24 "LoopProver$Circuit" y_Circuit_or b_Circuit_or 3 (some .int) 2 := ⟨(g4 45 rfl rfl), (g4 16 rfl rfl), (g4 17 rfl rfl), (g1 5 rfl rfl), (g4 18 rfl rfl), rfl, np_Circuit_or.1, np_Circuit_or.2⟩
theorem m_Sum_22 : MLV "LoopProver$Sum" 22 "LoopProver$Circuit" y_Circuit_differ b_Circuit_differ 3 (some .int) 2 := ⟨(g4 49 rfl rfl), (g4 2 rfl rfl), (g4 3 rfl rfl), (g1 5 rfl rfl), (g4 4 rfl rfl), rfl, np_Circuit_differ.1, np_Circuit_differ.2⟩
theorem m_Sum_31 : MLV "LoopProver$Sum" 31 "LoopProver$Circuit" y_Circuit_and b_Circuit_and 7 (some .int) 2 := ⟨(g4 50 rfl rfl), (g4 6 rfl rfl), (g4 7 rfl rfl), (g1 5 rfl rfl), (g4 8 rfl rfl), rfl, np_Circuit_and.1, np_Circuit_and.2⟩
theorem m_Sum_34 : MLV "LoopProver$Sum" 34 "LoopProver$Circuit" y_Circuit_or b_Circuit_or 3 (some .int) 2 := ⟨(g4 51 rfl rfl), (g4 16 rfl rfl), (g4 17 rfl rfl), (g1 5 rfl rfl), (g4 18 rfl rfl), rfl, np_Circuit_or.1, np_Circuit_or.2⟩
theorem m_Variable_18 : Cond.methodLink "LoopProver$Variable" 18 arraycopyName ∈ tblG ∧ Cond.native arraycopyName ∈ tblG ∧ Cond.static arraycopyName ∈ tblG ∧ Cond.initialized "java/lang/System" ∈ tblG := ⟨(g4 55 rfl rfl), (g3 61 rfl rfl), (g3 60 rfl rfl), (g1 26 rfl rfl)⟩
theorem m_P_269 : MLV "LoopProver" 269 "LoopProver$Circuit" y_Circuit_and b_Circuit_and 7 (some .int) 2 := ⟨(g4 56 rfl rfl), (g4 6 rfl rfl), (g4 7 rfl rfl), (g1 5 rfl rfl), (g4 8 rfl rfl), rfl, np_Circuit_and.1, np_Circuit_and.2⟩
theorem m_P_285 : MLS "LoopProver" 285 y_P_go b_P_go 7 none 5 := ⟨(g4 57 rfl rfl), (g4 58 rfl rfl), (g1 1 rfl rfl), (g4 59 rfl rfl), np_P_go.1, np_P_go.2⟩
theorem m_P_243_Kind : MLU "LoopProver" 243 "LoopProver$Kind" "java/lang/Enum" ⟨"LoopProver$Kind", "ordinal", "()I"⟩ y_Enum_ordinal b_Enum_ordinal 1 (some .int) 0 := ⟨(g4 60 rfl rfl), (g4 61 rfl rfl), (g4 63 rfl rfl), (g4 64 rfl rfl), (g1 27 rfl rfl), (g4 65 rfl rfl), ⟨by decide +kernel, by decide +kernel⟩, by unfold nPar; decide +kernel, Or.inl (List.mem_of_getElem? (i := 31) rfl)⟩
theorem m_P_252 : Cond.methodLink "LoopProver" 252 arraycopyName ∈ tblG ∧ Cond.native arraycopyName ∈ tblG ∧ Cond.static arraycopyName ∈ tblG ∧ Cond.initialized "java/lang/System" ∈ tblG := ⟨(g4 66 rfl rfl), (g3 61 rfl rfl), (g3 60 rfl rfl), (g1 26 rfl rfl)⟩
theorem m_P_258 : MLV "LoopProver" 258 "LoopProver" y_P_storeIn b_P_storeIn 6 none 2 := ⟨(g4 67 rfl rfl), (g4 69 rfl rfl), (gsel 20 rfl), (g1 1 rfl rfl), (g4 70 rfl rfl), rfl, np_P_storeIn.1, np_P_storeIn.2⟩
theorem m_P_239 : MLV "LoopProver" 239 "LoopProver$Circuit" y_Circuit_either b_Circuit_either 4 (some .int) 3 := ⟨(g4 71 rfl rfl), (g4 20 rfl rfl), (g4 21 rfl rfl), (g1 5 rfl rfl), (g4 22 rfl rfl), rfl, np_Circuit_either.1, np_Circuit_either.2⟩
theorem m_P_262 : MLV "LoopProver" 262 "LoopProver$Flow" y_Flow_must b_Flow_must 3 none 2 := ⟨(g4 72 rfl rfl), (g4 73 rfl rfl), (g4 74 rfl rfl), (g1 8 rfl rfl), (g4 75 rfl rfl), rfl, np_Flow_must.1, np_Flow_must.2⟩
theorem m_Flow_28 : MLV "LoopProver$Flow" 28 "LoopProver$Circuit" y_Circuit_and b_Circuit_and 7 (some .int) 2 := ⟨(g4 76 rfl rfl), (g4 6 rfl rfl), (g4 7 rfl rfl), (g1 5 rfl rfl), (g4 8 rfl rfl), rfl, np_Circuit_and.1, np_Circuit_and.2⟩
theorem m_Flow_34 : MLV "LoopProver$Flow" 34 "LoopProver$Circuit" y_Circuit_or b_Circuit_or 3 (some .int) 2 := ⟨(g4 77 rfl rfl), (g4 16 rfl rfl), (g4 17 rfl rfl), (g1 5 rfl rfl), (g4 18 rfl rfl), rfl, np_Circuit_or.1, np_Circuit_or.2⟩
theorem m_P_273 : MLS "LoopProver" 273 y_P_parted b_P_parted 8 none 5 := ⟨(g4 78 rfl rfl), (g4 79 rfl rfl), (g1 1 rfl rfl), (g4 80 rfl rfl), np_P_parted.1, np_P_parted.2⟩
theorem m_P_281 : MLV "LoopProver" 281 "LoopProver$Flow" y_Flow_copy b_Flow_copy 2 none 1 := ⟨(g4 81 rfl rfl), (g4 82 rfl rfl), (g4 83 rfl rfl), (g1 8 rfl rfl), (g4 84 rfl rfl), rfl, np_Flow_copy.1, np_Flow_copy.2⟩
theorem m_Flow_15 : Cond.methodLink "LoopProver$Flow" 15 arraycopyName ∈ tblG ∧ Cond.native arraycopyName ∈ tblG ∧ Cond.static arraycopyName ∈ tblG ∧ Cond.initialized "java/lang/System" ∈ tblG := ⟨(g4 85 rfl rfl), (g3 61 rfl rfl), (g3 60 rfl rfl), (g1 26 rfl rfl)⟩
theorem m_P_289 : MLV "LoopProver" 289 "LoopProver$Circuit" y_Circuit_or b_Circuit_or 3 (some .int) 2 := ⟨(g4 86 rfl rfl), (g4 16 rfl rfl), (g4 17 rfl rfl), (g1 5 rfl rfl), (g4 18 rfl rfl), rfl, np_Circuit_or.1, np_Circuit_or.2⟩
theorem m_P_277 : MLS "LoopProver" 277 y_P_stop b_P_stop 3 none 3 := ⟨(g4 87 rfl rfl), (g4 88 rfl rfl), (g1 1 rfl rfl), (g4 89 rfl rfl), np_P_stop.1, np_P_stop.2⟩
theorem m_P_311 : MLV "LoopProver" 311 "LoopProver$Circuit" y_Circuit_add b_Circuit_add 4 none 3 := ⟨(g4 90 rfl rfl), (g3 204 rfl rfl), (g3 205 rfl rfl), (g1 5 rfl rfl), (g3 206 rfl rfl), rfl, np_Circuit_add.1, np_Circuit_add.2⟩
theorem m_P_313 : MLV "LoopProver" 313 "LoopProver$Solver" y_Solver_solve b_Solver_solve 5 (some .boolean) 1 := ⟨(g4 91 rfl rfl), (g4 92 rfl rfl), (g4 93 rfl rfl), (g1 6 rfl rfl), (g4 94 rfl rfl), rfl, np_Solver_solve.1, np_Solver_solve.2⟩
theorem m_Solver_123 : MLV "LoopProver$Solver" 123 "LoopProver$Solver" y_Solver_prepare b_Solver_prepare 3 none 1 := ⟨(g4 95 rfl rfl), (g4 97 rfl rfl), (gsel 21 rfl), (g1 6 rfl rfl), (g4 98 rfl rfl), rfl, np_Solver_prepare.1, np_Solver_prepare.2⟩
theorem m_Solver_127 : MLV "LoopProver$Solver" 127 "LoopProver$Solver" y_Solver_start b_Solver_start 2 (some .int) 0 := ⟨(g4 99 rfl rfl), (g4 101 rfl rfl), (gsel 22 rfl), (g1 6 rfl rfl), (g4 102 rfl rfl), rfl, np_Solver_start.1, np_Solver_start.2⟩
theorem m_Solver_86 : MLV "LoopProver$Solver" 86 "LoopProver$Solver" y_Solver_broken b_Solver_broken 5 (some .boolean) 1 := ⟨(g4 103 rfl rfl), (g4 105 rfl rfl), (gsel 23 rfl), (g1 6 rfl rfl), (g4 106 rfl rfl), rfl, np_Solver_broken.1, np_Solver_broken.2⟩
theorem m_Solver_76 : MLV "LoopProver$Solver" 76 "LoopProver$Solver" y_Solver_set b_Solver_set 3 none 2 := ⟨(g4 107 rfl rfl), (g4 109 rfl rfl), (gsel 24 rfl), (g1 6 rfl rfl), (g4 110 rfl rfl), rfl, np_Solver_set.1, np_Solver_set.2⟩
theorem m_Solver_93 : MLV "LoopProver$Solver" 93 "LoopProver$Solver" y_Solver_spread b_Solver_spread 4 (some .int) 0 := ⟨(g4 111 rfl rfl), (g4 113 rfl rfl), (gsel 25 rfl), (g1 6 rfl rfl), (g4 114 rfl rfl), rfl, np_Solver_spread.1, np_Solver_spread.2⟩
theorem m_Solver_131 : MLV "LoopProver$Solver" 131 "LoopProver$Solver" y_Solver_explain b_Solver_explain 5 none 1 := ⟨(g4 116 rfl rfl), (g4 118 rfl rfl), (gsel 26 rfl), (g1 6 rfl rfl), (g4 119 rfl rfl), rfl, np_Solver_explain.1, np_Solver_explain.2⟩
theorem m_Solver_107 : MLV "LoopProver$Solver" 107 "LoopProver$Solver" y_Solver_mark b_Solver_mark 3 none 1 := ⟨(g4 120 rfl rfl), (g4 122 rfl rfl), (gsel 27 rfl), (g1 6 rfl rfl), (g4 123 rfl rfl), rfl, np_Solver_mark.1, np_Solver_mark.2⟩
theorem m_Solver_100 : MLS "LoopProver$Solver" 100 y_Circuit_longer b_Circuit_longer 2 (some (.array .int)) 1 := ⟨(g4 124 rfl rfl), (g3 212 rfl rfl), (g1 5 rfl rfl), (g3 213 rfl rfl), np_Circuit_longer.1, np_Circuit_longer.2⟩
theorem m_Solver_111 : MLV "LoopProver$Solver" 111 "LoopProver$Checker" y_Checker_accepts b_Checker_accepts 10 (some .boolean) 5 := ⟨(g4 125 rfl rfl), (g4 126 rfl rfl), (g4 127 rfl rfl), (g1 7 rfl rfl), (g4 128 rfl rfl), rfl, np_Checker_accepts.1, np_Checker_accepts.2⟩
theorem m_Checker_38 : MLV "LoopProver$Checker" 38 "LoopProver$Checker" y_Checker_note b_Checker_note 2 none 1 := ⟨(g4 129 rfl rfl), (g4 131 rfl rfl), (gsel 28 rfl), (g1 7 rfl rfl), (g4 132 rfl rfl), rfl, np_Checker_note.1, np_Checker_note.2⟩
theorem m_Checker_22 : MLS "LoopProver$Checker" 22 y_Circuit_longer b_Circuit_longer 2 (some (.array .int)) 1 := ⟨(g4 133 rfl rfl), (g3 212 rfl rfl), (g1 5 rfl rfl), (g3 213 rfl rfl), np_Circuit_longer.1, np_Circuit_longer.2⟩
theorem m_Checker_45 : MLV "LoopProver$Checker" 45 "LoopProver$Checker" y_Checker_rest b_Checker_rest 6 (some .int) 2 := ⟨(g4 134 rfl rfl), (g4 136 rfl rfl), (gsel 29 rfl), (g1 7 rfl rfl), (g4 137 rfl rfl), rfl, np_Checker_rest.1, np_Checker_rest.2⟩
theorem m_Checker_49 : MLV "LoopProver$Checker" 49 "LoopProver$Checker" y_Checker_forget b_Checker_forget 1 none 0 := ⟨(g4 139 rfl rfl), (g4 141 rfl rfl), (gsel 30 rfl), (g1 7 rfl rfl), (g4 142 rfl rfl), rfl, np_Checker_forget.1, np_Checker_forget.2⟩
theorem m_Solver_134 : MLV "LoopProver$Solver" 134 "LoopProver$Solver" y_Solver_back b_Solver_back 3 none 0 := ⟨(g4 143 rfl rfl), (g4 145 rfl rfl), (gsel 31 rfl), (g1 6 rfl rfl), (g4 146 rfl rfl), rfl, np_Solver_back.1, np_Solver_back.2⟩
theorem m_Solver_117 : MLV "LoopProver$Solver" 117 "LoopProver$Circuit" y_Circuit_lastFirst b_Circuit_lastFirst 1 (some .int) 0 := ⟨(g4 147 rfl rfl), (g4 148 rfl rfl), (g4 149 rfl rfl), (g1 5 rfl rfl), (g4 150 rfl rfl), rfl, np_Circuit_lastFirst.1, np_Circuit_lastFirst.2⟩
theorem m_Solver_120 : MLV "LoopProver$Solver" 120 "LoopProver$Circuit" y_Circuit_drop b_Circuit_drop 1 none 0 := ⟨(g4 151 rfl rfl), (g4 152 rfl rfl), (g4 153 rfl rfl), (g1 5 rfl rfl), (g4 154 rfl rfl), rfl, np_Circuit_drop.1, np_Circuit_drop.2⟩
theorem m_Solver_137 : MLV "LoopProver$Solver" 137 "LoopProver$Circuit" y_Circuit_keep b_Circuit_keep 4 none 2 := ⟨(g4 155 rfl rfl), (g4 156 rfl rfl), (g4 157 rfl rfl), (g1 5 rfl rfl), (g4 158 rfl rfl), rfl, np_Circuit_keep.1, np_Circuit_keep.2⟩
theorem m_Solver_141 : MLV "LoopProver$Solver" 141 "LoopProver$Solver" y_Solver_nextInput b_Solver_nextInput 2 (some .int) 0 := ⟨(g4 159 rfl rfl), (g4 161 rfl rfl), (gsel 32 rfl), (g1 6 rfl rfl), (g4 162 rfl rfl), rfl, np_Solver_nextInput.1, np_Solver_nextInput.2⟩
theorem m_P_323 : MLV "LoopProver" 323 "LoopProver" y_P_follow b_P_follow 9 (some .int) 3 := ⟨(g4 163 rfl rfl), (g4 165 rfl rfl), (gsel 33 rfl), (g1 1 rfl rfl), (g4 166 rfl rfl), rfl, np_P_follow.1, np_P_follow.2⟩
theorem m_P_347 : MLV "LoopProver" 347 "LoopProver" y_P_load b_P_load 3 none 1 := ⟨(g4 167 rfl rfl), (g4 169 rfl rfl), (gsel 34 rfl), (g1 1 rfl rfl), (g4 170 rfl rfl), rfl, np_P_load.1, np_P_load.2⟩
theorem m_P_350 : MLV "LoopProver" 350 "LoopProver" y_P_done b_P_done 4 (some .int) 2 := ⟨(g4 171 rfl rfl), (g4 173 rfl rfl), (gsel 35 rfl), (g1 1 rfl rfl), (g4 174 rfl rfl), rfl, np_P_done.1, np_P_done.2⟩
theorem m_P_339 : MLV "LoopProver" 339 "LoopProver" y_P_worth b_P_worth 3 (some .int) 1 := ⟨(g4 175 rfl rfl), (g4 177 rfl rfl), (gsel 36 rfl), (g1 1 rfl rfl), (g4 178 rfl rfl), rfl, np_P_worth.1, np_P_worth.2⟩
theorem m_P_335_Below : MLU "LoopProver" 335 "LoopProver$Below" "LoopProver$Node" ⟨"LoopProver$Node", "of", "([I[I)I"⟩ y_Below_of b_Below_of 3 (some .int) 2 := ⟨(g4 179 rfl rfl), (g4 181 rfl rfl), (g4 182 rfl rfl), (g4 183 rfl rfl), (g1 19 rfl rfl), (g4 184 rfl rfl), ⟨by decide +kernel, by decide +kernel⟩, by unfold nPar; decide +kernel, Or.inl (List.mem_of_getElem? (i := 32) rfl)⟩
theorem m_P_335_Both : MLU "LoopProver" 335 "LoopProver$Both" "LoopProver$Node" ⟨"LoopProver$Node", "of", "([I[I)I"⟩ y_Both_of b_Both_of 3 (some .int) 2 := ⟨(g4 179 rfl rfl), (g4 181 rfl rfl), (g4 185 rfl rfl), (g4 186 rfl rfl), (g1 22 rfl rfl), (g4 187 rfl rfl), ⟨by decide +kernel, by decide +kernel⟩, by unfold nPar; decide +kernel, Or.inl (List.mem_of_getElem? (i := 32) rfl)⟩
theorem m_P_335_Constant : MLU "LoopProver" 335 "LoopProver$Constant" "LoopProver$Node" ⟨"LoopProver$Node", "of", "([I[I)I"⟩ y_Constant_of b_Constant_of 3 (some .int) 2 := ⟨(g4 179 rfl rfl), (g4 181 rfl rfl), (g4 188 rfl rfl), (g4 189 rfl rfl), (g1 13 rfl rfl), (g4 190 rfl rfl), ⟨by decide +kernel, by decide +kernel⟩, by unfold nPar; decide +kernel, Or.inl (List.mem_of_getElem? (i := 32) rfl)⟩
theorem m_P_335_Meet : MLU "LoopProver" 335 "LoopProver$Meet" "LoopProver$Node" ⟨"LoopProver$Node", "of", "([I[I)I"⟩ y_Meet_of b_Meet_of 3 (some .int) 2 := ⟨(g4 179 rfl rfl), (g4 181 rfl rfl), (g4 191 rfl rfl), (g4 192 rfl rfl), (g1 17 rfl rfl), (g4 193 rfl rfl), ⟨by decide +kernel, by decide +kernel⟩, by unfold nPar; decide +kernel, Or.inl (List.mem_of_getElem? (i := 32) rfl)⟩
theorem m_P_335_Not : MLU "LoopProver" 335 "LoopProver$Not" "LoopProver$Node" ⟨"LoopProver$Node", "of", "([I[I)I"⟩ y_Not_of b_Not_of 3 (some .int) 2 := ⟨(g4 179 rfl rfl), (g4 181 rfl rfl), (g4 194 rfl rfl), (g4 195 rfl rfl), (g1 21 rfl rfl), (g4 196 rfl rfl), ⟨by decide +kernel, by decide +kernel⟩, by unfold nPar; decide +kernel, Or.inl (List.mem_of_getElem? (i := 32) rfl)⟩
theorem m_P_335_Read : MLU "LoopProver" 335 "LoopProver$Read" "LoopProver$Node" ⟨"LoopProver$Node", "of", "([I[I)I"⟩ y_Read_of b_Read_of 3 (some .int) 2 := ⟨(g4 179 rfl rfl), (g4 181 rfl rfl), (g4 197 rfl rfl), (g4 198 rfl rfl), (g1 15 rfl rfl), (g4 199 rfl rfl), ⟨by decide +kernel, by decide +kernel⟩, by unfold nPar; decide +kernel, Or.inl (List.mem_of_getElem? (i := 32) rfl)⟩
theorem m_P_335_Same : MLU "LoopProver" 335 "LoopProver$Same" "LoopProver$Node" ⟨"LoopProver$Node", "of", "([I[I)I"⟩ y_Same_of b_Same_of 3 (some .int) 2 := ⟨(g4 179 rfl rfl), (g4 181 rfl rfl), (g4 200 rfl rfl), (g4 201 rfl rfl), (g1 20 rfl rfl), (g4 202 rfl rfl), ⟨by decide +kernel, by decide +kernel⟩, by unfold nPar; decide +kernel, Or.inl (List.mem_of_getElem? (i := 32) rfl)⟩
theorem m_P_335_Sum : MLU "LoopProver" 335 "LoopProver$Sum" "LoopProver$Node" ⟨"LoopProver$Node", "of", "([I[I)I"⟩ y_Sum_of b_Sum_of 3 (some .int) 2 := ⟨(g4 179 rfl rfl), (g4 181 rfl rfl), (g4 203 rfl rfl), (g4 204 rfl rfl), (g1 16 rfl rfl), (g4 205 rfl rfl), ⟨by decide +kernel, by decide +kernel⟩, by unfold nPar; decide +kernel, Or.inl (List.mem_of_getElem? (i := 32) rfl)⟩
theorem m_P_335_Variable : MLU "LoopProver" 335 "LoopProver$Variable" "LoopProver$Node" ⟨"LoopProver$Node", "of", "([I[I)I"⟩ y_Variable_of b_Variable_of 3 (some .int) 2 := ⟨(g4 179 rfl rfl), (g4 181 rfl rfl), (g4 206 rfl rfl), (g4 207 rfl rfl), (g1 14 rfl rfl), (g4 208 rfl rfl), ⟨by decide +kernel, by decide +kernel⟩, by unfold nPar; decide +kernel, Or.inl (List.mem_of_getElem? (i := 32) rfl)⟩
theorem m_P_343 : MLV "LoopProver" 343 "LoopProver" y_P_holds b_P_holds 2 (some .boolean) 1 := ⟨(g4 209 rfl rfl), (g4 211 rfl rfl), (gsel 37 rfl), (g1 1 rfl rfl), (g4 212 rfl rfl), rfl, np_P_holds.1, np_P_holds.2⟩
theorem m_Law_61 : MLV "LoopProverLaw" 61 "LoopProver" y_P_conditions b_P_conditions 1 (some .int) 0 := ⟨(g4 213 rfl rfl), (g4 214 rfl rfl), (g4 215 rfl rfl), (g1 1 rfl rfl), (g4 216 rfl rfl), rfl, np_P_conditions.1, np_P_conditions.2⟩
theorem m_Law_65 : MLV "LoopProverLaw" 65 "LoopProver" y_P_witness b_P_witness 3 (some .int) 1 := ⟨(g4 217 rfl rfl), (g4 218 rfl rfl), (g4 219 rfl rfl), (g1 1 rfl rfl), (g4 220 rfl rfl), rfl, np_P_witness.1, np_P_witness.2⟩
theorem m_P_331 : MLV "LoopProver" 331 "LoopProver" y_P_verdict b_P_verdict 2 (some (.object "LoopProver$Verdict")) 1 := ⟨(g4 221 rfl rfl), (g4 223 rfl rfl), (gsel 38 rfl), (g1 1 rfl rfl), (g4 224 rfl rfl), rfl, np_P_verdict.1, np_P_verdict.2⟩
theorem m_Law_69 : MLV "LoopProverLaw" 69 "LoopProver" y_P_proved b_P_proved 3 (some .boolean) 1 := ⟨(g4 225 rfl rfl), (g4 226 rfl rfl), (g4 227 rfl rfl), (g1 1 rfl rfl), (g4 228 rfl rfl), rfl, np_P_proved.1, np_P_proved.2⟩
theorem m_Law_74 : MLV "LoopProverLaw" 74 "LoopProver" y_P_failure b_P_failure 3 (some .int) 1 := ⟨(g4 229 rfl rfl), (g4 230 rfl rfl), (g4 231 rfl rfl), (g1 1 rfl rfl), (g4 232 rfl rfl), rfl, np_P_failure.1, np_P_failure.2⟩
theorem m_Law_78 : MLV "LoopProverLaw" 78 "LoopProver" y_P_run b_P_run 6 (some .int) 2 := ⟨(g4 233 rfl rfl), (g4 234 rfl rfl), (g4 235 rfl rfl), (g1 1 rfl rfl), (g4 236 rfl rfl), rfl, np_P_run.1, np_P_run.2⟩
theorem m_Law_82 : MLV "LoopProverLaw" 82 "LoopProver" y_P_value b_P_value 4 (some .int) 2 := ⟨(g4 238 rfl rfl), (g4 239 rfl rfl), (g5 0 rfl rfl), (g1 1 rfl rfl), (g5 1 rfl rfl), rfl, np_P_value.1, np_P_value.2⟩
theorem m_Law_12 : MLI "LoopProverLaw" 12 y_M_init b_M_init 1 0 := ⟨Or.inl (g5 4 rfl rfl), (g5 5 rfl rfl), (g1 9 rfl rfl), (g5 6 rfl rfl), rfl, np_M_init.1, np_M_init.2⟩
theorem m_M_1 : Cond.methodLink "LoopProverModel" 1 Lib.objectInit ∈ tblG ∧ Cond.instanceMethod Lib.objectInit ∈ tblG ∧ Cond.code Lib.objectInit ⟨#[0xb1]⟩ 1 none ∈ tblG := ⟨(g5 7 rfl rfl), (g1 37 rfl rfl), (g1 38 rfl rfl)⟩
theorem m_Law_17 : MLV "LoopProverLaw" 17 "LoopProverModel" y_M_node b_M_node 6 (some .int) 3 := ⟨(g5 82 rfl rfl), (g5 83 rfl rfl), (g5 84 rfl rfl), (g1 9 rfl rfl), (g5 85 rfl rfl), rfl, np_M_node.1, np_M_node.2⟩
theorem m_M_66 : MLS "LoopProverModel" 66 y_M_below b_M_below 2 (some .boolean) 2 := ⟨(g5 86 rfl rfl), (g5 87 rfl rfl), (g1 9 rfl rfl), (g5 88 rfl rfl), np_M_below.1, np_M_below.2⟩
theorem m_M_70 : MLV "LoopProverModel" 70 "LoopProverModel" y_M_numeric b_M_numeric 2 (some .boolean) 1 := ⟨(g5 89 rfl rfl), (g5 91 rfl rfl), (gsel 39 rfl), (g1 9 rfl rfl), (g5 92 rfl rfl), rfl, np_M_numeric.1, np_M_numeric.2⟩
theorem m_M_74 : MLV "LoopProverModel" 74 "LoopProverModel" y_M_truth b_M_truth 2 (some .boolean) 1 := ⟨(g5 93 rfl rfl), (g5 95 rfl rfl), (gsel 40 rfl), (g1 9 rfl rfl), (g5 96 rfl rfl), rfl, np_M_truth.1, np_M_truth.2⟩
theorem m_Law_22 : MLV "LoopProverLaw" 22 "LoopProverModel" y_M_assign b_M_assign 3 (some .int) 2 := ⟨(g5 97 rfl rfl), (g5 98 rfl rfl), (g5 99 rfl rfl), (g1 9 rfl rfl), (g5 100 rfl rfl), rfl, np_M_assign.1, np_M_assign.2⟩
theorem m_M_92 : MLV "LoopProverModel" 92 "LoopProverModel" y_M_add b_M_add 4 (some .int) 3 := ⟨(g5 101 rfl rfl), (g5 103 rfl rfl), (gsel 41 rfl), (g1 9 rfl rfl), (g5 104 rfl rfl), rfl, np_M_add.1, np_M_add.2⟩
theorem m_Law_26 : MLV "LoopProverLaw" 26 "LoopProverModel" y_M_store b_M_store 3 (some .int) 2 := ⟨(g5 105 rfl rfl), (g5 106 rfl rfl), (g5 107 rfl rfl), (g1 9 rfl rfl), (g5 108 rfl rfl), rfl, np_M_store.1, np_M_store.2⟩
theorem m_Law_31 : MLV "LoopProverLaw" 31 "LoopProverModel" y_M_claim b_M_claim 2 (some .int) 1 := ⟨(g5 109 rfl rfl), (g5 110 rfl rfl), (g5 111 rfl rfl), (g1 9 rfl rfl), (g5 112 rfl rfl), rfl, np_M_claim.1, np_M_claim.2⟩
theorem m_Law_35 : MLV "LoopProverLaw" 35 "LoopProverModel" y_M_assume b_M_assume 2 (some .int) 1 := ⟨(g5 113 rfl rfl), (g5 114 rfl rfl), (g5 115 rfl rfl), (g1 9 rfl rfl), (g5 116 rfl rfl), rfl, np_M_assume.1, np_M_assume.2⟩
theorem m_Law_39 : MLV "LoopProverLaw" 39 "LoopProverModel" y_M_when b_M_when 2 (some .int) 1 := ⟨(g5 117 rfl rfl), (g5 118 rfl rfl), (g5 119 rfl rfl), (g1 9 rfl rfl), (g5 120 rfl rfl), rfl, np_M_when.1, np_M_when.2⟩
theorem m_M_98 : MLV "LoopProverModel" 98 "LoopProverModel" y_M_begin b_M_begin 4 (some .int) 3 := ⟨(g5 121 rfl rfl), (g5 123 rfl rfl), (gsel 42 rfl), (g1 9 rfl rfl), (g5 124 rfl rfl), rfl, np_M_begin.1, np_M_begin.2⟩
theorem m_Law_48 : MLV "LoopProverLaw" 48 "LoopProverModel" y_M_loop b_M_loop 3 (some .int) 2 := ⟨(g5 125 rfl rfl), (g5 126 rfl rfl), (g5 127 rfl rfl), (g1 9 rfl rfl), (g5 128 rfl rfl), rfl, np_M_loop.1, np_M_loop.2⟩
theorem m_Law_44 : MLV "LoopProverLaw" 44 "LoopProverModel" y_M_other b_M_other 2 (some .int) 0 := ⟨(g5 129 rfl rfl), (g5 130 rfl rfl), (g5 131 rfl rfl), (g1 9 rfl rfl), (g5 132 rfl rfl), rfl, np_M_other.1, np_M_other.2⟩
theorem m_Law_52 : MLV "LoopProverLaw" 52 "LoopProverModel" y_M_end b_M_end 1 (some .int) 0 := ⟨(g5 133 rfl rfl), (g5 134 rfl rfl), (g5 135 rfl rfl), (g1 9 rfl rfl), (g5 136 rfl rfl), rfl, np_M_end.1, np_M_end.2⟩
theorem m_Law_56 : MLV "LoopProverLaw" 56 "LoopProverModel" y_M_clear b_M_clear 2 (some .int) 0 := ⟨(g5 137 rfl rfl), (g5 138 rfl rfl), (g5 139 rfl rfl), (g1 9 rfl rfl), (g5 140 rfl rfl), rfl, np_M_clear.1, np_M_clear.2⟩
theorem m_Law_60 : MLV "LoopProverLaw" 60 "LoopProverModel" y_M_verify b_M_verify 5 (some .int) 2 := ⟨(g5 141 rfl rfl), (g5 142 rfl rfl), (g5 143 rfl rfl), (g1 9 rfl rfl), (g5 144 rfl rfl), rfl, np_M_verify.1, np_M_verify.2⟩
theorem m_M_127 : MLV "LoopProverModel" 127 "LoopProverModel" y_M_decide b_M_decide 7 none 4 := ⟨(g5 145 rfl rfl), (g5 147 rfl rfl), (gsel 43 rfl), (g1 9 rfl rfl), (g5 148 rfl rfl), rfl, np_M_decide.1, np_M_decide.2⟩
theorem m_M_121 : MLV "LoopProverModel" 121 "LoopProverModel" y_M_take b_M_take 4 none 1 := ⟨(g5 150 rfl rfl), (g5 152 rfl rfl), (gsel 44 rfl), (g1 9 rfl rfl), (g5 153 rfl rfl), rfl, np_M_take.1, np_M_take.2⟩
theorem m_M_101 : MLV "LoopProverModel" 101 "LoopProverModel" y_M_holds b_M_holds 2 (some .boolean) 1 := ⟨(g5 154 rfl rfl), (g5 156 rfl rfl), (gsel 45 rfl), (g1 9 rfl rfl), (g5 157 rfl rfl), rfl, np_M_holds.1, np_M_holds.2⟩
theorem m_M_81 : MLV "LoopProverModel" 81 "LoopProverModel" y_M_eval b_M_eval 6 (some .int) 1 := ⟨(g5 158 rfl rfl), (g5 160 rfl rfl), (gsel 46 rfl), (g1 9 rfl rfl), (g5 161 rfl rfl), rfl, np_M_eval.1, np_M_eval.2⟩
theorem m_M_77 : MLV "LoopProverModel" 77 "LoopProverModel" y_M_worked b_M_worked 4 (some .int) 3 := ⟨(g5 162 rfl rfl), (g5 164 rfl rfl), (gsel 47 rfl), (g1 9 rfl rfl), (g5 165 rfl rfl), rfl, np_M_worked.1, np_M_worked.2⟩
theorem m_M_124 : MLV "LoopProverModel" 124 "LoopProverModel" y_M_goesRight b_M_goesRight 4 (some .boolean) 1 := ⟨(g5 166 rfl rfl), (g5 168 rfl rfl), (gsel 48 rfl), (g1 9 rfl rfl), (g5 169 rfl rfl), rfl, np_M_goesRight.1, np_M_goesRight.2⟩
theorem m_M_107 : MLV "LoopProverModel" 107 "LoopProverModel" y_M_change b_M_change 3 none 1 := ⟨(g5 170 rfl rfl), (g5 172 rfl rfl), (gsel 49 rfl), (g1 9 rfl rfl), (g5 173 rfl rfl), rfl, np_M_change.1, np_M_change.2⟩
theorem m_M_111 : MLV "LoopProverModel" 111 "LoopProverModel" y_M_next b_M_next 2 (some .int) 1 := ⟨(g5 174 rfl rfl), (g5 176 rfl rfl), (gsel 50 rfl), (g1 9 rfl rfl), (g5 177 rfl rfl), rfl, np_M_next.1, np_M_next.2⟩
theorem m_Law_64 : MLV "LoopProverLaw" 64 "LoopProverModel" y_M_conditions b_M_conditions 1 (some .int) 0 := ⟨(g5 178 rfl rfl), (g5 179 rfl rfl), (g5 180 rfl rfl), (g1 9 rfl rfl), (g5 181 rfl rfl), rfl, np_M_conditions.1, np_M_conditions.2⟩
theorem m_Law_68 : MLV "LoopProverLaw" 68 "LoopProverModel" y_M_witness b_M_witness 2 (some .int) 1 := ⟨(g5 182 rfl rfl), (g5 183 rfl rfl), (g5 184 rfl rfl), (g1 9 rfl rfl), (g5 185 rfl rfl), rfl, np_M_witness.1, np_M_witness.2⟩
theorem m_M_131 : MLV "LoopProverModel" 131 "LoopProverModel" y_M_is b_M_is 2 (some .boolean) 1 := ⟨(g5 186 rfl rfl), (g5 188 rfl rfl), (gsel 51 rfl), (g1 9 rfl rfl), (g5 189 rfl rfl), rfl, np_M_is.1, np_M_is.2⟩
theorem m_Law_73 : MLV "LoopProverLaw" 73 "LoopProverModel" y_M_proved b_M_proved 2 (some .boolean) 1 := ⟨(g5 190 rfl rfl), (g5 191 rfl rfl), (g5 192 rfl rfl), (g1 9 rfl rfl), (g5 193 rfl rfl), rfl, np_M_proved.1, np_M_proved.2⟩
theorem m_Law_77 : MLV "LoopProverLaw" 77 "LoopProverModel" y_M_failure b_M_failure 2 (some .int) 1 := ⟨(g5 194 rfl rfl), (g5 195 rfl rfl), (g5 196 rfl rfl), (g1 9 rfl rfl), (g5 197 rfl rfl), rfl, np_M_failure.1, np_M_failure.2⟩
theorem m_Law_81 : MLV "LoopProverLaw" 81 "LoopProverModel" y_M_run b_M_run 8 (some .int) 2 := ⟨(g5 198 rfl rfl), (g5 199 rfl rfl), (g5 200 rfl rfl), (g1 9 rfl rfl), (g5 201 rfl rfl), rfl, np_M_run.1, np_M_run.2⟩
theorem m_M_134 : MLV "LoopProverModel" 134 "LoopProverModel" y_M_number b_M_number 3 (some .int) 0 := ⟨(g5 202 rfl rfl), (g5 204 rfl rfl), (gsel 52 rfl), (g1 9 rfl rfl), (g5 205 rfl rfl), rfl, np_M_number.1, np_M_number.2⟩
theorem m_Law_85 : MLV "LoopProverLaw" 85 "LoopProverModel" y_M_value b_M_value 3 (some .int) 2 := ⟨(g5 206 rfl rfl), (g5 207 rfl rfl), (g5 208 rfl rfl), (g1 9 rfl rfl), (g5 209 rfl rfl), rfl, np_M_value.1, np_M_value.2⟩
theorem m_P_33 : MLI "LoopProver" 33 y_Circuit_init b_Circuit_init 1 0 := ⟨Or.inr ⟨"LoopProver", (List.mem_of_getElem? (i := 0) rfl)⟩, (g1 72 rfl rfl), (g1 5 rfl rfl), (g1 73 rfl rfl), rfl, np_Circuit_init.1, np_Circuit_init.2⟩
theorem m_P_42 : MLI "LoopProver" 42 y_Checker_init b_Checker_init 1 0 := ⟨Or.inr ⟨"LoopProver", (List.mem_of_getElem? (i := 12) rfl)⟩, (g1 129 rfl rfl), (g1 7 rfl rfl), (g1 130 rfl rfl), rfl, np_Checker_init.1, np_Checker_init.2⟩
theorem m_P_52 : MLI "LoopProver" 52 y_Flow_init b_Flow_init 1 0 := ⟨Or.inr ⟨"LoopProver", (List.mem_of_getElem? (i := 15) rfl)⟩, (g1 204 rfl rfl), (g1 8 rfl rfl), (g1 205 rfl rfl), rfl, np_Flow_init.1, np_Flow_init.2⟩
theorem m_P_298 : MLI "LoopProver" 298 y_Verdict_init b_Verdict_init 1 0 := ⟨Or.inr ⟨"LoopProver", (List.mem_of_getElem? (i := 26) rfl)⟩, (g3 184 rfl rfl), (g1 30 rfl rfl), (g3 185 rfl rfl), rfl, np_Verdict_init.1, np_Verdict_init.2⟩
theorem c_Law_7 : Cond.classLink "LoopProverLaw" 7 "LoopProver" ∈ tblG := (g1 31 rfl rfl)
theorem n_Law_7 : Cond.classLink "LoopProverLaw" 7 "LoopProver" ∈ tblG ∧ Cond.instantiable "LoopProver" 15 ∈ tblG ∧ Cond.initialized "LoopProver" ∈ tblG := ⟨(g1 31 rfl rfl), (g1 32 rfl rfl), (g1 1 rfl rfl)⟩
theorem c_P_7 : Cond.classLink "LoopProver" 7 "java/util/ArrayList" ∈ tblG := (g1 39 rfl rfl)
theorem n_P_7 : Cond.classLink "LoopProver" 7 "java/util/ArrayList" ∈ tblG ∧ Cond.instantiable "java/util/ArrayList" 3 ∈ tblG ∧ Cond.initialized "java/util/ArrayList" ∈ tblG := ⟨(g1 39 rfl rfl), (g1 40 rfl rfl), (g1 4 rfl rfl)⟩
theorem c_AL_7 : Cond.classLink "java/util/ArrayList" 7 "java/lang/Object" ∈ tblG := (g1 51 rfl rfl)
theorem c_P_25 : Cond.classLink "LoopProver" 25 "LoopProver$Verdict" ∈ tblG := (g1 67 rfl rfl)
theorem n_P_25 : Cond.classLink "LoopProver" 25 "LoopProver$Verdict" ∈ tblG ∧ Cond.instantiable "LoopProver$Verdict" 3 ∈ tblG ∧ Cond.initialized "LoopProver$Verdict" ∈ tblG := ⟨(g1 67 rfl rfl), (g3 182 rfl rfl), (g1 30 rfl rfl)⟩
theorem c_P_31 : Cond.classLink "LoopProver" 31 "LoopProver$Circuit" ∈ tblG := (g1 69 rfl rfl)
theorem n_P_31 : Cond.classLink "LoopProver" 31 "LoopProver$Circuit" ∈ tblG ∧ Cond.instantiable "LoopProver$Circuit" 12 ∈ tblG ∧ Cond.initialized "LoopProver$Circuit" ∈ tblG := ⟨(g1 69 rfl rfl), (g1 70 rfl rfl), (g1 5 rfl rfl)⟩
theorem c_P_38 : Cond.classLink "LoopProver" 38 "LoopProver$Solver" ∈ tblG := (g1 124 rfl rfl)
theorem n_P_38 : Cond.classLink "LoopProver" 38 "LoopProver$Solver" ∈ tblG ∧ Cond.instantiable "LoopProver$Solver" 17 ∈ tblG ∧ Cond.initialized "LoopProver$Solver" ∈ tblG := ⟨(g1 124 rfl rfl), (g1 125 rfl rfl), (g1 6 rfl rfl)⟩
theorem c_P_40 : Cond.classLink "LoopProver" 40 "LoopProver$Checker" ∈ tblG := (g1 126 rfl rfl)
theorem n_P_40 : Cond.classLink "LoopProver" 40 "LoopProver$Checker" ∈ tblG ∧ Cond.instantiable "LoopProver$Checker" 3 ∈ tblG ∧ Cond.initialized "LoopProver$Checker" ∈ tblG := ⟨(g1 126 rfl rfl), (g1 127 rfl rfl), (g1 7 rfl rfl)⟩
theorem c_P_50 : Cond.classLink "LoopProver" 50 "LoopProver$Flow" ∈ tblG := (g1 201 rfl rfl)
theorem n_P_50 : Cond.classLink "LoopProver" 50 "LoopProver$Flow" ∈ tblG ∧ Cond.instantiable "LoopProver$Flow" 3 ∈ tblG ∧ Cond.initialized "LoopProver$Flow" ∈ tblG := ⟨(g1 201 rfl rfl), (g1 202 rfl rfl), (g1 8 rfl rfl)⟩
theorem c_P_82 : Cond.classLink "LoopProver" 82 "LoopProver$Node" ∈ tblG := (g2 61 rfl rfl)
theorem c_P_98 : Cond.classLink "LoopProver" 98 "LoopProver$Constant" ∈ tblG := (g2 81 rfl rfl)
theorem n_P_98 : Cond.classLink "LoopProver" 98 "LoopProver$Constant" ∈ tblG ∧ Cond.instantiable "LoopProver$Constant" 4 ∈ tblG ∧ Cond.initialized "LoopProver$Constant" ∈ tblG := ⟨(g2 81 rfl rfl), (g2 82 rfl rfl), (g1 13 rfl rfl)⟩
theorem c_P_103 : Cond.classLink "LoopProver" 103 "LoopProver$Variable" ∈ tblG := (g2 148 rfl rfl)
theorem n_P_103 : Cond.classLink "LoopProver" 103 "LoopProver$Variable" ∈ tblG ∧ Cond.instantiable "LoopProver$Variable" 4 ∈ tblG ∧ Cond.initialized "LoopProver$Variable" ∈ tblG := ⟨(g2 148 rfl rfl), (g2 149 rfl rfl), (g1 14 rfl rfl)⟩
theorem c_P_106 : Cond.classLink "LoopProver" 106 "LoopProver$Read" ∈ tblG := (g2 161 rfl rfl)
theorem n_P_106 : Cond.classLink "LoopProver" 106 "LoopProver$Read" ∈ tblG ∧ Cond.instantiable "LoopProver$Read" 3 ∈ tblG ∧ Cond.initialized "LoopProver$Read" ∈ tblG := ⟨(g2 161 rfl rfl), (g2 162 rfl rfl), (g1 15 rfl rfl)⟩
theorem c_P_109 : Cond.classLink "LoopProver" 109 "LoopProver$Sum" ∈ tblG := (g2 171 rfl rfl)
theorem n_P_109 : Cond.classLink "LoopProver" 109 "LoopProver$Sum" ∈ tblG ∧ Cond.instantiable "LoopProver$Sum" 4 ∈ tblG ∧ Cond.initialized "LoopProver$Sum" ∈ tblG := ⟨(g2 171 rfl rfl), (g2 172 rfl rfl), (g1 16 rfl rfl)⟩
theorem c_P_114 : Cond.classLink "LoopProver" 114 "LoopProver$Meet" ∈ tblG := (g2 184 rfl rfl)
theorem n_P_114 : Cond.classLink "LoopProver" 114 "LoopProver$Meet" ∈ tblG ∧ Cond.instantiable "LoopProver$Meet" 3 ∈ tblG ∧ Cond.initialized "LoopProver$Meet" ∈ tblG := ⟨(g2 184 rfl rfl), (g2 185 rfl rfl), (g1 17 rfl rfl)⟩
theorem c_P_119 : Cond.classLink "LoopProver" 119 "LoopProver$Below" ∈ tblG := (g2 194 rfl rfl)
theorem n_P_119 : Cond.classLink "LoopProver" 119 "LoopProver$Below" ∈ tblG ∧ Cond.instantiable "LoopProver$Below" 3 ∈ tblG ∧ Cond.initialized "LoopProver$Below" ∈ tblG := ⟨(g2 194 rfl rfl), (g2 195 rfl rfl), (g1 19 rfl rfl)⟩
theorem c_P_122 : Cond.classLink "LoopProver" 122 "LoopProver$Same" ∈ tblG := (g2 207 rfl rfl)
theorem n_P_122 : Cond.classLink "LoopProver" 122 "LoopProver$Same" ∈ tblG ∧ Cond.instantiable "LoopProver$Same" 3 ∈ tblG ∧ Cond.initialized "LoopProver$Same" ∈ tblG := ⟨(g2 207 rfl rfl), (g2 208 rfl rfl), (g1 20 rfl rfl)⟩
theorem c_P_125 : Cond.classLink "LoopProver" 125 "LoopProver$Not" ∈ tblG := (g2 217 rfl rfl)
theorem n_P_125 : Cond.classLink "LoopProver" 125 "LoopProver$Not" ∈ tblG ∧ Cond.instantiable "LoopProver$Not" 3 ∈ tblG ∧ Cond.initialized "LoopProver$Not" ∈ tblG := ⟨(g2 217 rfl rfl), (g2 218 rfl rfl), (g1 21 rfl rfl)⟩
theorem c_P_128 : Cond.classLink "LoopProver" 128 "LoopProver$Both" ∈ tblG := (g2 227 rfl rfl)
theorem n_P_128 : Cond.classLink "LoopProver" 128 "LoopProver$Both" ∈ tblG ∧ Cond.instantiable "LoopProver$Both" 3 ∈ tblG ∧ Cond.initialized "LoopProver$Both" ∈ tblG := ⟨(g2 227 rfl rfl), (g2 228 rfl rfl), (g1 22 rfl rfl)⟩
theorem c_Arrs_110 : Cond.classLink "java/util/Arrays" 110 "[Ljava/lang/Object;" ∈ tblG := (g3 54 rfl rfl)
theorem c_Arrs_2 : Cond.classLink "java/util/Arrays" 2 "java/lang/Object" ∈ tblG := (g3 55 rfl rfl)
theorem c_P_139 : Cond.classLink "LoopProver" 139 "LoopProver$Line" ∈ tblG := (g3 77 rfl rfl)
theorem n_P_139 : Cond.classLink "LoopProver" 139 "LoopProver$Line" ∈ tblG ∧ Cond.instantiable "LoopProver$Line" 7 ∈ tblG ∧ Cond.initialized "LoopProver$Line" ∈ tblG := ⟨(g3 77 rfl rfl), (g3 78 rfl rfl), (g1 29 rfl rfl)⟩
theorem c_Law_10 : Cond.classLink "LoopProverLaw" 10 "LoopProverModel" ∈ tblG := (g5 2 rfl rfl)
theorem n_Law_10 : Cond.classLink "LoopProverLaw" 10 "LoopProverModel" ∈ tblG ∧ Cond.instantiable "LoopProverModel" 24 ∈ tblG ∧ Cond.initialized "LoopProverModel" ∈ tblG := ⟨(g5 2 rfl rfl), (g5 3 rfl rfl), (g1 9 rfl rfl)⟩
theorem ca_Below_Node : Cond.castable "LoopProver$Below" "LoopProver$Node" ∈ nbW := (List.mem_of_getElem? (i := 33) rfl)
theorem ca_Both_Node : Cond.castable "LoopProver$Both" "LoopProver$Node" ∈ nbW := (List.mem_of_getElem? (i := 34) rfl)
theorem ca_Constant_Node : Cond.castable "LoopProver$Constant" "LoopProver$Node" ∈ nbW := (List.mem_of_getElem? (i := 35) rfl)
theorem ca_Meet_Node : Cond.castable "LoopProver$Meet" "LoopProver$Node" ∈ nbW := (List.mem_of_getElem? (i := 36) rfl)
theorem ca_Not_Node : Cond.castable "LoopProver$Not" "LoopProver$Node" ∈ nbW := (List.mem_of_getElem? (i := 37) rfl)
theorem ca_Read_Node : Cond.castable "LoopProver$Read" "LoopProver$Node" ∈ nbW := (List.mem_of_getElem? (i := 38) rfl)
theorem ca_Same_Node : Cond.castable "LoopProver$Same" "LoopProver$Node" ∈ nbW := (List.mem_of_getElem? (i := 39) rfl)
theorem ca_Sum_Node : Cond.castable "LoopProver$Sum" "LoopProver$Node" ∈ nbW := (List.mem_of_getElem? (i := 40) rfl)
theorem ca_Variable_Node : Cond.castable "LoopProver$Variable" "LoopProver$Node" ∈ nbW := (List.mem_of_getElem? (i := 41) rfl)
theorem ca_Line_Line : Cond.castable "LoopProver$Line" "LoopProver$Line" ∈ nbW := (List.mem_of_getElem? (i := 42) rfl)
theorem ca_P_JObj : Cond.castable "LoopProver" "java/lang/Object" ∈ nbW := (List.mem_of_getElem? (i := 44) rfl)
theorem ca_Circuit_JObj : Cond.castable "LoopProver$Circuit" "java/lang/Object" ∈ nbW := (List.mem_of_getElem? (i := 45) rfl)
theorem ca_Solver_JObj : Cond.castable "LoopProver$Solver" "java/lang/Object" ∈ nbW := (List.mem_of_getElem? (i := 46) rfl)
theorem ca_Checker_JObj : Cond.castable "LoopProver$Checker" "java/lang/Object" ∈ nbW := (List.mem_of_getElem? (i := 47) rfl)
theorem ca_Flow_JObj : Cond.castable "LoopProver$Flow" "java/lang/Object" ∈ nbW := (List.mem_of_getElem? (i := 48) rfl)
theorem ca_M_JObj : Cond.castable "LoopProverModel" "java/lang/Object" ∈ nbW := (List.mem_of_getElem? (i := 49) rfl)
theorem ca_Constant_JObj : Cond.castable "LoopProver$Constant" "java/lang/Object" ∈ nbW := (List.mem_of_getElem? (i := 50) rfl)
theorem ca_Variable_JObj : Cond.castable "LoopProver$Variable" "java/lang/Object" ∈ nbW := (List.mem_of_getElem? (i := 51) rfl)
theorem ca_Read_JObj : Cond.castable "LoopProver$Read" "java/lang/Object" ∈ nbW := (List.mem_of_getElem? (i := 52) rfl)
theorem ca_Sum_JObj : Cond.castable "LoopProver$Sum" "java/lang/Object" ∈ nbW := (List.mem_of_getElem? (i := 53) rfl)
theorem ca_Meet_JObj : Cond.castable "LoopProver$Meet" "java/lang/Object" ∈ nbW := (List.mem_of_getElem? (i := 54) rfl)
theorem ca_Below_JObj : Cond.castable "LoopProver$Below" "java/lang/Object" ∈ nbW := (List.mem_of_getElem? (i := 55) rfl)
theorem ca_Same_JObj : Cond.castable "LoopProver$Same" "java/lang/Object" ∈ nbW := (List.mem_of_getElem? (i := 56) rfl)
theorem ca_Not_JObj : Cond.castable "LoopProver$Not" "java/lang/Object" ∈ nbW := (List.mem_of_getElem? (i := 57) rfl)
theorem ca_Both_JObj : Cond.castable "LoopProver$Both" "java/lang/Object" ∈ nbW := (List.mem_of_getElem? (i := 58) rfl)
theorem ca_Line_JObj : Cond.castable "LoopProver$Line" "java/lang/Object" ∈ nbW := (List.mem_of_getElem? (i := 59) rfl)
theorem ca_Verdict_JObj : Cond.castable "LoopProver$Verdict" "java/lang/Object" ∈ nbW := (List.mem_of_getElem? (i := 60) rfl)
theorem ca_Kind_JObj : Cond.castable "LoopProver$Kind" "java/lang/Object" ∈ nbW := (List.mem_of_getElem? (i := 61) rfl)
theorem l_Solver_130 : Cond.constant "LoopProver$Solver" 130 1048576 ∈ tblG := (g4 115 rfl rfl)
theorem l_Checker_34 : Cond.constant "LoopProver$Checker" 34 1073741824 ∈ tblG := (g4 138 rfl rfl)
theorem l_P_354 : Cond.constant "LoopProver" 354 32768 ∈ tblG := (g4 237 rfl rfl)
theorem l_M_120 : Cond.constant "LoopProverModel" 120 32768 ∈ tblG := (g5 149 rfl rfl)
theorem s_P_151 : Cond.fieldLink "LoopProver" 151 "LoopProver$Kind" (kindNames.getD 0 "") "LLoopProver$Kind;" ∈ tblG := (g3 71 rfl rfl)
theorem s_P_160 : Cond.fieldLink "LoopProver" 160 "LoopProver$Kind" (kindNames.getD 1 "") "LLoopProver$Kind;" ∈ tblG := (g3 116 rfl rfl)
theorem s_P_163 : Cond.fieldLink "LoopProver" 163 "LoopProver$Kind" (kindNames.getD 2 "") "LLoopProver$Kind;" ∈ tblG := (g3 122 rfl rfl)
theorem s_P_170 : Cond.fieldLink "LoopProver" 170 "LoopProver$Kind" (kindNames.getD 3 "") "LLoopProver$Kind;" ∈ tblG := (g3 132 rfl rfl)
theorem s_P_177 : Cond.fieldLink "LoopProver" 177 "LoopProver$Kind" (kindNames.getD 4 "") "LLoopProver$Kind;" ∈ tblG := (g3 138 rfl rfl)
theorem s_P_184 : Cond.fieldLink "LoopProver" 184 "LoopProver$Kind" (kindNames.getD 6 "") "LLoopProver$Kind;" ∈ tblG := (g3 148 rfl rfl)
theorem s_P_197 : Cond.fieldLink "LoopProver" 197 "LoopProver$Kind" (kindNames.getD 5 "") "LLoopProver$Kind;" ∈ tblG := (g3 158 rfl rfl)
theorem s_P_206 : Cond.fieldLink "LoopProver" 206 "LoopProver$Kind" (kindNames.getD 7 "") "LLoopProver$Kind;" ∈ tblG := (g3 164 rfl rfl)
theorem s_ord : Cond.fieldLink "java/lang/Enum" 7 "java/lang/Enum" "ordinal" "I" ∈ tblG := g6 1 rfl rfl
theorem ac_int : Cond.arrayClass .int ∈ tblG := g1 123 rfl rfl
theorem ac_boolean : Cond.arrayClass .boolean ∈ tblG := g1 200 rfl rfl
theorem ac_long : Cond.arrayClass .long ∈ tblG := g5 81 rfl rfl
