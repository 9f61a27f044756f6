section
-- ===== PART A: goes FIRST, ahead of the names: the tables' words, and 'selects' of the private methods out of them =====
/-- a private method of a class that the tables say can be made, by its rows of tables_1 -/
def lw_okq (q : MethodName × Nat) : Prop := (q.1.cls ≠ "java/lang/invoke/MethodHandle" ∧ q.1.cls ≠ "java/lang/invoke/VarHandle") ∧ Cond.instantiable q.1.cls q.2 ∈ tables_1 ∧ Cond.privateMethod q.1 ∈ tables_1 ∧ Cond.instanceMethod q.1 ∈ tables_1
theorem lw_p0 : lw_okq (⟨"LoopProver", "made", "(III)LLoopProver$Node;"⟩, 15) := ⟨⟨by decide +kernel, by decide +kernel⟩, List.mem_of_getElem? (i := 32) (by decide +kernel), List.mem_of_getElem? (i := 276) (by decide +kernel), List.mem_of_getElem? (i := 277) (by decide +kernel)⟩
theorem lw_p1 : lw_okq (⟨"LoopProver", "truth", "(I)Z"⟩, 15) := ⟨⟨by decide +kernel, by decide +kernel⟩, List.mem_of_getElem? (i := 32) (by decide +kernel), List.mem_of_getElem? (i := 280) (by decide +kernel), List.mem_of_getElem? (i := 281) (by decide +kernel)⟩
theorem lw_p2 : lw_okq (⟨"LoopProver", "nodeAt", "(I)LLoopProver$Node;"⟩, 15) := ⟨⟨by decide +kernel, by decide +kernel⟩, List.mem_of_getElem? (i := 32) (by decide +kernel), List.mem_of_getElem? (i := 284) (by decide +kernel), List.mem_of_getElem? (i := 285) (by decide +kernel)⟩
theorem lw_p3 : lw_okq (⟨"LoopProver", "numeric", "(I)Z"⟩, 15) := ⟨⟨by decide +kernel, by decide +kernel⟩, List.mem_of_getElem? (i := 32) (by decide +kernel), List.mem_of_getElem? (i := 318) (by decide +kernel), List.mem_of_getElem? (i := 319) (by decide +kernel)⟩
theorem lw_p4 : lw_okq (⟨"java/util/ArrayList", "add", "(Ljava/lang/Object;[Ljava/lang/Object;I)V"⟩, 3) := ⟨⟨by decide +kernel, by decide +kernel⟩, List.mem_of_getElem? (i := 40) (by decide +kernel), List.mem_of_getElem? (i := 482) (by decide +kernel), List.mem_of_getElem? (i := 483) (by decide +kernel)⟩
theorem lw_p5 : lw_okq (⟨"java/util/ArrayList", "grow", "()[Ljava/lang/Object;"⟩, 3) := ⟨⟨by decide +kernel, by decide +kernel⟩, List.mem_of_getElem? (i := 40) (by decide +kernel), List.mem_of_getElem? (i := 486) (by decide +kernel), List.mem_of_getElem? (i := 487) (by decide +kernel)⟩
theorem lw_p6 : lw_okq (⟨"java/util/ArrayList", "grow", "(I)[Ljava/lang/Object;"⟩, 3) := ⟨⟨by decide +kernel, by decide +kernel⟩, List.mem_of_getElem? (i := 40) (by decide +kernel), List.mem_of_getElem? (i := 490) (by decide +kernel), List.mem_of_getElem? (i := 491) (by decide +kernel)⟩
theorem lw_p7 : lw_okq (⟨"LoopProver", "full", "()Z"⟩, 15) := ⟨⟨by decide +kernel, by decide +kernel⟩, List.mem_of_getElem? (i := 32) (by decide +kernel), List.mem_of_getElem? (i := 548) (by decide +kernel), List.mem_of_getElem? (i := 549) (by decide +kernel)⟩
theorem lw_p8 : lw_okq (⟨"LoopProver", "add", "(LLoopProver$Kind;ILLoopProver$Node;LLoopProver$Node;)LLoopProver$Line;"⟩, 15) := ⟨⟨by decide +kernel, by decide +kernel⟩, List.mem_of_getElem? (i := 32) (by decide +kernel), List.mem_of_getElem? (i := 554) (by decide +kernel), List.mem_of_getElem? (i := 555) (by decide +kernel)⟩
theorem lw_p9 : lw_okq (⟨"LoopProver", "plain", "(LLoopProver$Kind;I)I"⟩, 15) := ⟨⟨by decide +kernel, by decide +kernel⟩, List.mem_of_getElem? (i := 32) (by decide +kernel), List.mem_of_getElem? (i := 605) (by decide +kernel), List.mem_of_getElem? (i := 606) (by decide +kernel)⟩
theorem lw_p10 : lw_okq (⟨"LoopProver", "block", "(LLoopProver$Kind;II)I"⟩, 15) := ⟨⟨by decide +kernel, by decide +kernel⟩, List.mem_of_getElem? (i := 32) (by decide +kernel), List.mem_of_getElem? (i := 621) (by decide +kernel), List.mem_of_getElem? (i := 622) (by decide +kernel)⟩
theorem lw_p11 : lw_okq (⟨"LoopProver", "inner", "()LLoopProver$Line;"⟩, 15) := ⟨⟨by decide +kernel, by decide +kernel⟩, List.mem_of_getElem? (i := 32) (by decide +kernel), List.mem_of_getElem? (i := 635) (by decide +kernel), List.mem_of_getElem? (i := 636) (by decide +kernel)⟩
theorem lw_p12 : lw_okq (⟨"LoopProver", "decide", "(LLoopProver$Node;LLoopProver$Node;ZILLoopProver$Node;)V"⟩, 15) := ⟨⟨by decide +kernel, by decide +kernel⟩, List.mem_of_getElem? (i := 32) (by decide +kernel), List.mem_of_getElem? (i := 659) (by decide +kernel), List.mem_of_getElem? (i := 660) (by decide +kernel)⟩
theorem lw_p13 : lw_okq (⟨"LoopProver$Circuit", "open", "()V"⟩, 12) := ⟨⟨by decide +kernel, by decide +kernel⟩, List.mem_of_getElem? (i := 70) (by decide +kernel), List.mem_of_getElem? (i := 688) (by decide +kernel), List.mem_of_getElem? (i := 689) (by decide +kernel)⟩
theorem lw_p14 : lw_okq (⟨"LoopProver$Circuit", "put", "(I)V"⟩, 12) := ⟨⟨by decide +kernel, by decide +kernel⟩, List.mem_of_getElem? (i := 70) (by decide +kernel), List.mem_of_getElem? (i := 696) (by decide +kernel), List.mem_of_getElem? (i := 697) (by decide +kernel)⟩
theorem lw_p15 : lw_okq (⟨"LoopProver$Circuit", "room", "()V"⟩, 12) := ⟨⟨by decide +kernel, by decide +kernel⟩, List.mem_of_getElem? (i := 70) (by decide +kernel), List.mem_of_getElem? (i := 700) (by decide +kernel), List.mem_of_getElem? (i := 701) (by decide +kernel)⟩
def lw_privs_1 : List (MethodName × Nat) := [(⟨"LoopProver", "made", "(III)LLoopProver$Node;"⟩, 15), (⟨"LoopProver", "truth", "(I)Z"⟩, 15), (⟨"LoopProver", "nodeAt", "(I)LLoopProver$Node;"⟩, 15), (⟨"LoopProver", "numeric", "(I)Z"⟩, 15), (⟨"java/util/ArrayList", "add", "(Ljava/lang/Object;[Ljava/lang/Object;I)V"⟩, 3), (⟨"java/util/ArrayList", "grow", "()[Ljava/lang/Object;"⟩, 3), (⟨"java/util/ArrayList", "grow", "(I)[Ljava/lang/Object;"⟩, 3), (⟨"LoopProver", "full", "()Z"⟩, 15), (⟨"LoopProver", "add", "(LLoopProver$Kind;ILLoopProver$Node;LLoopProver$Node;)LLoopProver$Line;"⟩, 15), (⟨"LoopProver", "plain", "(LLoopProver$Kind;I)I"⟩, 15), (⟨"LoopProver", "block", "(LLoopProver$Kind;II)I"⟩, 15), (⟨"LoopProver", "inner", "()LLoopProver$Line;"⟩, 15), (⟨"LoopProver", "decide", "(LLoopProver$Node;LLoopProver$Node;ZILLoopProver$Node;)V"⟩, 15), (⟨"LoopProver$Circuit", "open", "()V"⟩, 12), (⟨"LoopProver$Circuit", "put", "(I)V"⟩, 12), (⟨"LoopProver$Circuit", "room", "()V"⟩, 12)]
theorem lw_r1 : ∀ q ∈ lw_privs_1, lw_okq q := List.forall_mem_cons.mpr ⟨lw_p0, List.forall_mem_cons.mpr ⟨lw_p1, List.forall_mem_cons.mpr ⟨lw_p2, List.forall_mem_cons.mpr ⟨lw_p3, List.forall_mem_cons.mpr ⟨lw_p4, List.forall_mem_cons.mpr ⟨lw_p5, List.forall_mem_cons.mpr ⟨lw_p6, List.forall_mem_cons.mpr ⟨lw_p7, List.forall_mem_cons.mpr ⟨lw_p8, List.forall_mem_cons.mpr ⟨lw_p9, List.forall_mem_cons.mpr ⟨lw_p10, List.forall_mem_cons.mpr ⟨lw_p11, List.forall_mem_cons.mpr ⟨lw_p12, List.forall_mem_cons.mpr ⟨lw_p13, List.forall_mem_cons.mpr ⟨lw_p14, List.forall_mem_cons.mpr ⟨lw_p15, fun _ h => absurd h List.not_mem_nil⟩⟩⟩⟩⟩⟩⟩⟩⟩⟩⟩⟩⟩⟩⟩⟩
theorem lw_p16 : lw_okq (⟨"LoopProver$Circuit", "close", "()V"⟩, 12) := ⟨⟨by decide +kernel, by decide +kernel⟩, List.mem_of_getElem? (i := 70) (by decide +kernel), List.mem_of_getElem? (i := 704) (by decide +kernel), List.mem_of_getElem? (i := 705) (by decide +kernel)⟩
theorem lw_p17 : lw_okq (⟨"LoopProver", "gate", "(LLoopProver$Node;[I)I"⟩, 15) := ⟨⟨by decide +kernel, by decide +kernel⟩, List.mem_of_getElem? (i := 32) (by decide +kernel), List.mem_of_getElem? (i := 708) (by decide +kernel), List.mem_of_getElem? (i := 709) (by decide +kernel)⟩
theorem lw_p18 : lw_okq (⟨"LoopProver", "need", "(I)V"⟩, 15) := ⟨⟨by decide +kernel, by decide +kernel⟩, List.mem_of_getElem? (i := 32) (by decide +kernel), List.mem_of_getElem? (i := 712) (by decide +kernel), List.mem_of_getElem? (i := 713) (by decide +kernel)⟩
theorem lw_p19 : lw_okq (⟨"LoopProver$Circuit", "grow", "()V"⟩, 12) := ⟨⟨by decide +kernel, by decide +kernel⟩, List.mem_of_getElem? (i := 70) (by decide +kernel), List.mem_of_getElem? (i := 732) (by decide +kernel), List.mem_of_getElem? (i := 733) (by decide +kernel)⟩
theorem lw_p20 : lw_okq (⟨"LoopProver", "storeIn", "(LLoopProver$Line;[I)V"⟩, 15) := ⟨⟨by decide +kernel, by decide +kernel⟩, List.mem_of_getElem? (i := 32) (by decide +kernel), List.mem_of_getElem? (i := 788) (by decide +kernel), List.mem_of_getElem? (i := 789) (by decide +kernel)⟩
theorem lw_p21 : lw_okq (⟨"LoopProver$Solver", "prepare", "(LLoopProver$Circuit;)V"⟩, 17) := ⟨⟨by decide +kernel, by decide +kernel⟩, List.mem_of_getElem? (i := 125) (by decide +kernel), List.mem_of_getElem? (i := 816) (by decide +kernel), List.mem_of_getElem? (i := 817) (by decide +kernel)⟩
theorem lw_p22 : lw_okq (⟨"LoopProver$Solver", "start", "()I"⟩, 17) := ⟨⟨by decide +kernel, by decide +kernel⟩, List.mem_of_getElem? (i := 125) (by decide +kernel), List.mem_of_getElem? (i := 820) (by decide +kernel), List.mem_of_getElem? (i := 821) (by decide +kernel)⟩
theorem lw_p23 : lw_okq (⟨"LoopProver$Solver", "broken", "(I)Z"⟩, 17) := ⟨⟨by decide +kernel, by decide +kernel⟩, List.mem_of_getElem? (i := 125) (by decide +kernel), List.mem_of_getElem? (i := 824) (by decide +kernel), List.mem_of_getElem? (i := 825) (by decide +kernel)⟩
theorem lw_p24 : lw_okq (⟨"LoopProver$Solver", "set", "(II)V"⟩, 17) := ⟨⟨by decide +kernel, by decide +kernel⟩, List.mem_of_getElem? (i := 125) (by decide +kernel), List.mem_of_getElem? (i := 828) (by decide +kernel), List.mem_of_getElem? (i := 829) (by decide +kernel)⟩
theorem lw_p25 : lw_okq (⟨"LoopProver$Solver", "spread", "()I"⟩, 17) := ⟨⟨by decide +kernel, by decide +kernel⟩, List.mem_of_getElem? (i := 125) (by decide +kernel), List.mem_of_getElem? (i := 832) (by decide +kernel), List.mem_of_getElem? (i := 833) (by decide +kernel)⟩
theorem lw_p26 : lw_okq (⟨"LoopProver$Solver", "explain", "(I)V"⟩, 17) := ⟨⟨by decide +kernel, by decide +kernel⟩, List.mem_of_getElem? (i := 125) (by decide +kernel), List.mem_of_getElem? (i := 837) (by decide +kernel), List.mem_of_getElem? (i := 838) (by decide +kernel)⟩
theorem lw_p27 : lw_okq (⟨"LoopProver$Solver", "mark", "(I)V"⟩, 17) := ⟨⟨by decide +kernel, by decide +kernel⟩, List.mem_of_getElem? (i := 125) (by decide +kernel), List.mem_of_getElem? (i := 841) (by decide +kernel), List.mem_of_getElem? (i := 842) (by decide +kernel)⟩
theorem lw_p28 : lw_okq (⟨"LoopProver$Checker", "note", "(I)V"⟩, 3) := ⟨⟨by decide +kernel, by decide +kernel⟩, List.mem_of_getElem? (i := 127) (by decide +kernel), List.mem_of_getElem? (i := 850) (by decide +kernel), List.mem_of_getElem? (i := 851) (by decide +kernel)⟩
theorem lw_p29 : lw_okq (⟨"LoopProver$Checker", "rest", "(LLoopProver$Circuit;I)I"⟩, 3) := ⟨⟨by decide +kernel, by decide +kernel⟩, List.mem_of_getElem? (i := 127) (by decide +kernel), List.mem_of_getElem? (i := 855) (by decide +kernel), List.mem_of_getElem? (i := 856) (by decide +kernel)⟩
theorem lw_p30 : lw_okq (⟨"LoopProver$Checker", "forget", "()V"⟩, 3) := ⟨⟨by decide +kernel, by decide +kernel⟩, List.mem_of_getElem? (i := 127) (by decide +kernel), List.mem_of_getElem? (i := 860) (by decide +kernel), List.mem_of_getElem? (i := 861) (by decide +kernel)⟩
theorem lw_p31 : lw_okq (⟨"LoopProver$Solver", "back", "()V"⟩, 17) := ⟨⟨by decide +kernel, by decide +kernel⟩, List.mem_of_getElem? (i := 125) (by decide +kernel), List.mem_of_getElem? (i := 864) (by decide +kernel), List.mem_of_getElem? (i := 865) (by decide +kernel)⟩
def lw_privs_2 : List (MethodName × Nat) := [(⟨"LoopProver$Circuit", "close", "()V"⟩, 12), (⟨"LoopProver", "gate", "(LLoopProver$Node;[I)I"⟩, 15), (⟨"LoopProver", "need", "(I)V"⟩, 15), (⟨"LoopProver$Circuit", "grow", "()V"⟩, 12), (⟨"LoopProver", "storeIn", "(LLoopProver$Line;[I)V"⟩, 15), (⟨"LoopProver$Solver", "prepare", "(LLoopProver$Circuit;)V"⟩, 17), (⟨"LoopProver$Solver", "start", "()I"⟩, 17), (⟨"LoopProver$Solver", "broken", "(I)Z"⟩, 17), (⟨"LoopProver$Solver", "set", "(II)V"⟩, 17), (⟨"LoopProver$Solver", "spread", "()I"⟩, 17), (⟨"LoopProver$Solver", "explain", "(I)V"⟩, 17), (⟨"LoopProver$Solver", "mark", "(I)V"⟩, 17), (⟨"LoopProver$Checker", "note", "(I)V"⟩, 3), (⟨"LoopProver$Checker", "rest", "(LLoopProver$Circuit;I)I"⟩, 3), (⟨"LoopProver$Checker", "forget", "()V"⟩, 3), (⟨"LoopProver$Solver", "back", "()V"⟩, 17)]
theorem lw_r2 : ∀ q ∈ lw_privs_2, lw_okq q := List.forall_mem_cons.mpr ⟨lw_p16, List.forall_mem_cons.mpr ⟨lw_p17, List.forall_mem_cons.mpr ⟨lw_p18, List.forall_mem_cons.mpr ⟨lw_p19, List.forall_mem_cons.mpr ⟨lw_p20, List.forall_mem_cons.mpr ⟨lw_p21, List.forall_mem_cons.mpr ⟨lw_p22, List.forall_mem_cons.mpr ⟨lw_p23, List.forall_mem_cons.mpr ⟨lw_p24, List.forall_mem_cons.mpr ⟨lw_p25, List.forall_mem_cons.mpr ⟨lw_p26, List.forall_mem_cons.mpr ⟨lw_p27, List.forall_mem_cons.mpr ⟨lw_p28, List.forall_mem_cons.mpr ⟨lw_p29, List.forall_mem_cons.mpr ⟨lw_p30, List.forall_mem_cons.mpr ⟨lw_p31, fun _ h => absurd h List.not_mem_nil⟩⟩⟩⟩⟩⟩⟩⟩⟩⟩⟩⟩⟩⟩⟩⟩
theorem lw_p32 : lw_okq (⟨"LoopProver$Solver", "nextInput", "()I"⟩, 17) := ⟨⟨by decide +kernel, by decide +kernel⟩, List.mem_of_getElem? (i := 125) (by decide +kernel), List.mem_of_getElem? (i := 880) (by decide +kernel), List.mem_of_getElem? (i := 881) (by decide +kernel)⟩
theorem lw_p33 : lw_okq (⟨"LoopProver", "follow", "(IILLoopProver$Node;)I"⟩, 15) := ⟨⟨by decide +kernel, by decide +kernel⟩, List.mem_of_getElem? (i := 32) (by decide +kernel), List.mem_of_getElem? (i := 884) (by decide +kernel), List.mem_of_getElem? (i := 885) (by decide +kernel)⟩
theorem lw_p34 : lw_okq (⟨"LoopProver", "load", "(I)V"⟩, 15) := ⟨⟨by decide +kernel, by decide +kernel⟩, List.mem_of_getElem? (i := 32) (by decide +kernel), List.mem_of_getElem? (i := 888) (by decide +kernel), List.mem_of_getElem? (i := 889) (by decide +kernel)⟩
theorem lw_p35 : lw_okq (⟨"LoopProver", "done", "(ILLoopProver$Line;)I"⟩, 15) := ⟨⟨by decide +kernel, by decide +kernel⟩, List.mem_of_getElem? (i := 32) (by decide +kernel), List.mem_of_getElem? (i := 892) (by decide +kernel), List.mem_of_getElem? (i := 893) (by decide +kernel)⟩
theorem lw_p36 : lw_okq (⟨"LoopProver", "worth", "(LLoopProver$Node;)I"⟩, 15) := ⟨⟨by decide +kernel, by decide +kernel⟩, List.mem_of_getElem? (i := 32) (by decide +kernel), List.mem_of_getElem? (i := 896) (by decide +kernel), List.mem_of_getElem? (i := 897) (by decide +kernel)⟩
theorem lw_p37 : lw_okq (⟨"LoopProver", "holds", "(LLoopProver$Node;)Z"⟩, 15) := ⟨⟨by decide +kernel, by decide +kernel⟩, List.mem_of_getElem? (i := 32) (by decide +kernel), List.mem_of_getElem? (i := 930) (by decide +kernel), List.mem_of_getElem? (i := 931) (by decide +kernel)⟩
theorem lw_p38 : lw_okq (⟨"LoopProver", "verdict", "(I)LLoopProver$Verdict;"⟩, 15) := ⟨⟨by decide +kernel, by decide +kernel⟩, List.mem_of_getElem? (i := 32) (by decide +kernel), List.mem_of_getElem? (i := 942) (by decide +kernel), List.mem_of_getElem? (i := 943) (by decide +kernel)⟩
theorem lw_p39 : lw_okq (⟨"LoopProverModel", "numeric", "(I)Z"⟩, 24) := ⟨⟨by decide +kernel, by decide +kernel⟩, List.mem_of_getElem? (i := 963) (by decide +kernel), List.mem_of_getElem? (i := 1050) (by decide +kernel), List.mem_of_getElem? (i := 1051) (by decide +kernel)⟩
theorem lw_p40 : lw_okq (⟨"LoopProverModel", "truth", "(I)Z"⟩, 24) := ⟨⟨by decide +kernel, by decide +kernel⟩, List.mem_of_getElem? (i := 963) (by decide +kernel), List.mem_of_getElem? (i := 1054) (by decide +kernel), List.mem_of_getElem? (i := 1055) (by decide +kernel)⟩
theorem lw_p41 : lw_okq (⟨"LoopProverModel", "add", "(III)I"⟩, 24) := ⟨⟨by decide +kernel, by decide +kernel⟩, List.mem_of_getElem? (i := 963) (by decide +kernel), List.mem_of_getElem? (i := 1062) (by decide +kernel), List.mem_of_getElem? (i := 1063) (by decide +kernel)⟩
theorem lw_p42 : lw_okq (⟨"LoopProverModel", "begin", "(III)I"⟩, 24) := ⟨⟨by decide +kernel, by decide +kernel⟩, List.mem_of_getElem? (i := 963) (by decide +kernel), List.mem_of_getElem? (i := 1082) (by decide +kernel), List.mem_of_getElem? (i := 1083) (by decide +kernel)⟩
theorem lw_p43 : lw_okq (⟨"LoopProverModel", "decide", "(IIZI)V"⟩, 24) := ⟨⟨by decide +kernel, by decide +kernel⟩, List.mem_of_getElem? (i := 963) (by decide +kernel), List.mem_of_getElem? (i := 1106) (by decide +kernel), List.mem_of_getElem? (i := 1107) (by decide +kernel)⟩
theorem lw_p44 : lw_okq (⟨"LoopProverModel", "take", "(I)V"⟩, 24) := ⟨⟨by decide +kernel, by decide +kernel⟩, List.mem_of_getElem? (i := 963) (by decide +kernel), List.mem_of_getElem? (i := 1111) (by decide +kernel), List.mem_of_getElem? (i := 1112) (by decide +kernel)⟩
theorem lw_p45 : lw_okq (⟨"LoopProverModel", "holds", "(I)Z"⟩, 24) := ⟨⟨by decide +kernel, by decide +kernel⟩, List.mem_of_getElem? (i := 963) (by decide +kernel), List.mem_of_getElem? (i := 1115) (by decide +kernel), List.mem_of_getElem? (i := 1116) (by decide +kernel)⟩
theorem lw_p46 : lw_okq (⟨"LoopProverModel", "eval", "(I)I"⟩, 24) := ⟨⟨by decide +kernel, by decide +kernel⟩, List.mem_of_getElem? (i := 963) (by decide +kernel), List.mem_of_getElem? (i := 1119) (by decide +kernel), List.mem_of_getElem? (i := 1120) (by decide +kernel)⟩
theorem lw_p47 : lw_okq (⟨"LoopProverModel", "worked", "(III)I"⟩, 24) := ⟨⟨by decide +kernel, by decide +kernel⟩, List.mem_of_getElem? (i := 963) (by decide +kernel), List.mem_of_getElem? (i := 1123) (by decide +kernel), List.mem_of_getElem? (i := 1124) (by decide +kernel)⟩
def lw_privs_3 : List (MethodName × Nat) := [(⟨"LoopProver$Solver", "nextInput", "()I"⟩, 17), (⟨"LoopProver", "follow", "(IILLoopProver$Node;)I"⟩, 15), (⟨"LoopProver", "load", "(I)V"⟩, 15), (⟨"LoopProver", "done", "(ILLoopProver$Line;)I"⟩, 15), (⟨"LoopProver", "worth", "(LLoopProver$Node;)I"⟩, 15), (⟨"LoopProver", "holds", "(LLoopProver$Node;)Z"⟩, 15), (⟨"LoopProver", "verdict", "(I)LLoopProver$Verdict;"⟩, 15), (⟨"LoopProverModel", "numeric", "(I)Z"⟩, 24), (⟨"LoopProverModel", "truth", "(I)Z"⟩, 24), (⟨"LoopProverModel", "add", "(III)I"⟩, 24), (⟨"LoopProverModel", "begin", "(III)I"⟩, 24), (⟨"LoopProverModel", "decide", "(IIZI)V"⟩, 24), (⟨"LoopProverModel", "take", "(I)V"⟩, 24), (⟨"LoopProverModel", "holds", "(I)Z"⟩, 24), (⟨"LoopProverModel", "eval", "(I)I"⟩, 24), (⟨"LoopProverModel", "worked", "(III)I"⟩, 24)]
theorem lw_r3 : ∀ q ∈ lw_privs_3, lw_okq q := List.forall_mem_cons.mpr ⟨lw_p32, List.forall_mem_cons.mpr ⟨lw_p33, List.forall_mem_cons.mpr ⟨lw_p34, List.forall_mem_cons.mpr ⟨lw_p35, List.forall_mem_cons.mpr ⟨lw_p36, List.forall_mem_cons.mpr ⟨lw_p37, List.forall_mem_cons.mpr ⟨lw_p38, List.forall_mem_cons.mpr ⟨lw_p39, List.forall_mem_cons.mpr ⟨lw_p40, List.forall_mem_cons.mpr ⟨lw_p41, List.forall_mem_cons.mpr ⟨lw_p42, List.forall_mem_cons.mpr ⟨lw_p43, List.forall_mem_cons.mpr ⟨lw_p44, List.forall_mem_cons.mpr ⟨lw_p45, List.forall_mem_cons.mpr ⟨lw_p46, List.forall_mem_cons.mpr ⟨lw_p47, fun _ h => absurd h List.not_mem_nil⟩⟩⟩⟩⟩⟩⟩⟩⟩⟩⟩⟩⟩⟩⟩⟩
theorem lw_p48 : lw_okq (⟨"LoopProverModel", "goesRight", "(I)Z"⟩, 24) := ⟨⟨by decide +kernel, by decide +kernel⟩, List.mem_of_getElem? (i := 963) (by decide +kernel), List.mem_of_getElem? (i := 1127) (by decide +kernel), List.mem_of_getElem? (i := 1128) (by decide +kernel)⟩
theorem lw_p49 : lw_okq (⟨"LoopProverModel", "change", "(I)V"⟩, 24) := ⟨⟨by decide +kernel, by decide +kernel⟩, List.mem_of_getElem? (i := 963) (by decide +kernel), List.mem_of_getElem? (i := 1131) (by decide +kernel), List.mem_of_getElem? (i := 1132) (by decide +kernel)⟩
theorem lw_p50 : lw_okq (⟨"LoopProverModel", "next", "(I)I"⟩, 24) := ⟨⟨by decide +kernel, by decide +kernel⟩, List.mem_of_getElem? (i := 963) (by decide +kernel), List.mem_of_getElem? (i := 1135) (by decide +kernel), List.mem_of_getElem? (i := 1136) (by decide +kernel)⟩
theorem lw_p51 : lw_okq (⟨"LoopProverModel", "is", "(I)Z"⟩, 24) := ⟨⟨by decide +kernel, by decide +kernel⟩, List.mem_of_getElem? (i := 963) (by decide +kernel), List.mem_of_getElem? (i := 1147) (by decide +kernel), List.mem_of_getElem? (i := 1148) (by decide +kernel)⟩
theorem lw_p52 : lw_okq (⟨"LoopProverModel", "number", "()I"⟩, 24) := ⟨⟨by decide +kernel, by decide +kernel⟩, List.mem_of_getElem? (i := 963) (by decide +kernel), List.mem_of_getElem? (i := 1163) (by decide +kernel), List.mem_of_getElem? (i := 1164) (by decide +kernel)⟩
def lw_privs_4 : List (MethodName × Nat) := [(⟨"LoopProverModel", "goesRight", "(I)Z"⟩, 24), (⟨"LoopProverModel", "change", "(I)V"⟩, 24), (⟨"LoopProverModel", "next", "(I)I"⟩, 24), (⟨"LoopProverModel", "is", "(I)Z"⟩, 24), (⟨"LoopProverModel", "number", "()I"⟩, 24)]
theorem lw_r4 : ∀ q ∈ lw_privs_4, lw_okq q := List.forall_mem_cons.mpr ⟨lw_p48, List.forall_mem_cons.mpr ⟨lw_p49, List.forall_mem_cons.mpr ⟨lw_p50, List.forall_mem_cons.mpr ⟨lw_p51, List.forall_mem_cons.mpr ⟨lw_p52, fun _ h => absurd h List.not_mem_nil⟩⟩⟩⟩⟩
def lw_privs : List (MethodName × Nat) := lw_privs_1 ++ (lw_privs_2 ++ (lw_privs_3 ++ (lw_privs_4)))
def lw_tbl : List Cond := k2_sels lw_privs ++ tables_1
theorem lw_privs_ok : ∀ q ∈ lw_privs, lw_okq q := by
  show ∀ q ∈ lw_privs_1 ++ (lw_privs_2 ++ (lw_privs_3 ++ (lw_privs_4))), lw_okq q
  exact List.forall_mem_append.mpr ⟨lw_r1, List.forall_mem_append.mpr ⟨lw_r2, List.forall_mem_append.mpr ⟨lw_r3, lw_r4⟩⟩⟩
end
section
/-! NAMES: classes, their fields, the good words of the tables, methods; printed by gen/names.py -/
def tblG : List Cond := lw_tbl.filter goodWord
theorem tblG_ok : ∀ w ∈ tblG, (w.onTables && w.keeps) = true ∨ ∃ ty, w = .arrayClass ty := fun w h => good_of_word (List.mem_filter.mp h).2
theorem tbl_sub {w : Cond} (h : w ∈ tables_1) (hg : goodWord w = true) : w ∈ tblG := List.mem_filter.mpr ⟨List.mem_append_right _ h, hg⟩
theorem in1 (i : Nat) {w : Cond} (h : tables_1_1[i]? = some w) : w ∈ tables_1 := by
  have h1 := List.mem_of_getElem? h
  exact List.mem_append_left _ h1
theorem g1 (i : Nat) {w : Cond} (h : tables_1_1[i]? = some w) (hg : goodWord w = true) : w ∈ tblG := tbl_sub (in1 i h) hg
theorem in2 (i : Nat) {w : Cond} (h : tables_1_2[i]? = some w) : w ∈ tables_1 := by
  have h1 := List.mem_of_getElem? h
  exact List.mem_append_right _ (List.mem_append_left _ h1)
theorem g2 (i : Nat) {w : Cond} (h : tables_1_2[i]? = some w) (hg : goodWord w = true) : w ∈ tblG := tbl_sub (in2 i h) hg
theorem in3 (i : Nat) {w : Cond} (h : tables_1_3[i]? = some w) : w ∈ tables_1 := by
  have h1 := List.mem_of_getElem? h
  exact List.mem_append_right _ (List.mem_append_right _ (List.mem_append_left _ h1))
theorem g3 (i : Nat) {w : Cond} (h : tables_1_3[i]? = some w) (hg : goodWord w = true) : w ∈ tblG := tbl_sub (in3 i h) hg
theorem in4 (i : Nat) {w : Cond} (h : tables_1_4[i]? = some w) : w ∈ tables_1 := by
  have h1 := List.mem_of_getElem? h
  exact List.mem_append_right _ (List.mem_append_right _ (List.mem_append_right _ (List.mem_append_left _ h1)))
theorem g4 (i : Nat) {w : Cond} (h : tables_1_4[i]? = some w) (hg : goodWord w = true) : w ∈ tblG := tbl_sub (in4 i h) hg
theorem in5 (i : Nat) {w : Cond} (h : tables_1_5[i]? = some w) : w ∈ tables_1 := by
  have h1 := List.mem_of_getElem? h
  exact List.mem_append_right _ (List.mem_append_right _ (List.mem_append_right _ (List.mem_append_right _ (List.mem_append_left _ h1))))
theorem g5 (i : Nat) {w : Cond} (h : tables_1_5[i]? = some w) (hg : goodWord w = true) : w ∈ tblG := tbl_sub (in5 i h) hg
theorem in6 (i : Nat) {w : Cond} (h : tables_1_6[i]? = some w) : w ∈ tables_1 := by
  have h1 := List.mem_of_getElem? h
  exact List.mem_append_right _ (List.mem_append_right _ (List.mem_append_right _ (List.mem_append_right _ (List.mem_append_right _ h1))))
theorem g6 (i : Nat) {w : Cond} (h : tables_1_6[i]? = some w) (hg : goodWord w = true) : w ∈ tblG := tbl_sub (in6 i h) hg
theorem gsel (i : Nat) {y : MethodName} {n : Nat} (h : lw_privs[i]? = some (y, n)) : Cond.selects y.cls y y ∈ tblG := List.mem_filter.mpr ⟨List.mem_append_left _ (List.mem_map.mpr ⟨(y, n), List.mem_of_getElem? h, rfl⟩), rfl⟩
def F_P : u_T := fun k => match k with
  | 0 => ("LoopProver", "nodes", "Ljava/util/ArrayList;", true)
  | 1 => ("LoopProver", "lines", "Ljava/util/ArrayList;", true)
  | 2 => ("LoopProver", "open", "[I", true)
  | 3 => ("LoopProver", "opens", "I", false)
  | 4 => ("LoopProver", "verified", "Z", false)
  | 5 => ("LoopProver", "verdicts", "[LLoopProver$Verdict;", true)
  | 6 => ("LoopProver", "decided", "I", false)
  | 7 => ("LoopProver", "circuit", "LLoopProver$Circuit;", true)
  | 8 => ("LoopProver", "solver", "LLoopProver$Solver;", true)
  | 9 => ("LoopProver", "flow", "LLoopProver$Flow;", true)
  | 10 => ("LoopProver", "asides", "[LLoopProver$Flow;", true)
  | 11 => ("LoopProver", "needed", "[Z", true)
  | 12 => ("LoopProver", "bits", "[I", true)
  | 13 => ("LoopProver", "values", "[I", true)
  | _ => ("LoopProver", "state", "[I", true)
def t_P : Nat → FieldType := fun k => match k with
  | 0 => (.object "java/util/ArrayList")
  | 1 => (.object "java/util/ArrayList")
  | 2 => (.array .int)
  | 3 => .int
  | 4 => .boolean
  | 5 => (.array (.object "LoopProver$Verdict"))
  | 6 => .int
  | 7 => (.object "LoopProver$Circuit")
  | 8 => (.object "LoopProver$Solver")
  | 9 => (.object "LoopProver$Flow")
  | 10 => (.array (.object "LoopProver$Flow"))
  | 11 => (.array .boolean)
  | 12 => (.array .int)
  | 13 => (.array .int)
  | _ => (.array .int)
def F_AL : u_T := fun k => match k with
  | 0 => ("java/util/ArrayList", "elementData", "[Ljava/lang/Object;", false)
  | 1 => ("java/util/ArrayList", "size", "I", false)
  | _ => ("java/util/AbstractList", "modCount", "I", false)
def t_AL : Nat → FieldType := fun k => match k with
  | 0 => (.array (.object "java/lang/Object"))
  | 1 => .int
  | _ => .int
def F_Circuit : u_T := fun k => match k with
  | 0 => ("LoopProver$Circuit", "literals", "[I", false)
  | 1 => ("LoopProver$Circuit", "starts", "[I", false)
  | 2 => ("LoopProver$Circuit", "used", "I", false)
  | 3 => ("LoopProver$Circuit", "clauses", "I", false)
  | 4 => ("LoopProver$Circuit", "variables", "I", false)
  | 5 => ("LoopProver$Circuit", "clauseOf", "[I", false)
  | 6 => ("LoopProver$Circuit", "nextOf", "[I", false)
  | 7 => ("LoopProver$Circuit", "places", "[I", false)
  | 8 => ("LoopProver$Circuit", "first", "[I", false)
  | 9 => ("LoopProver$Circuit", "second", "[I", false)
  | 10 => ("LoopProver$Circuit", "chain", "[I", false)
  | _ => ("LoopProver$Circuit", "heads", "[I", true)
def t_Circuit : Nat → FieldType := fun k => match k with
  | 0 => (.array .int)
  | 1 => (.array .int)
  | 2 => .int
  | 3 => .int
  | 4 => .int
  | 5 => (.array .int)
  | 6 => (.array .int)
  | 7 => (.array .int)
  | 8 => (.array .int)
  | 9 => (.array .int)
  | 10 => (.array .int)
  | _ => (.array .int)
def F_Solver : u_T := fun k => match k with
  | 0 => ("LoopProver$Solver", "checker", "LLoopProver$Checker;", true)
  | 1 => ("LoopProver$Solver", "circuit", "LLoopProver$Circuit;", false)
  | 2 => ("LoopProver$Solver", "given", "I", false)
  | 3 => ("LoopProver$Solver", "truths", "[I", false)
  | 4 => ("LoopProver$Solver", "reasons", "[I", false)
  | 5 => ("LoopProver$Solver", "levelOf", "[I", false)
  | 6 => ("LoopProver$Solver", "trail", "[I", false)
  | 7 => ("LoopProver$Solver", "trailed", "I", false)
  | 8 => ("LoopProver$Solver", "seen", "I", false)
  | 9 => ("LoopProver$Solver", "marked", "[Z", false)
  | 10 => ("LoopProver$Solver", "decided", "[I", true)
  | 11 => ("LoopProver$Solver", "levels", "I", false)
  | 12 => ("LoopProver$Solver", "learned", "[I", true)
  | 13 => ("LoopProver$Solver", "size", "I", false)
  | 14 => ("LoopProver$Solver", "hints", "[I", false)
  | 15 => ("LoopProver$Solver", "hinted", "I", false)
  | _ => ("LoopProver$Solver", "sound", "Z", false)
def t_Solver : Nat → FieldType := fun k => match k with
  | 0 => (.object "LoopProver$Checker")
  | 1 => (.object "LoopProver$Circuit")
  | 2 => .int
  | 3 => (.array .int)
  | 4 => (.array .int)
  | 5 => (.array .int)
  | 6 => (.array .int)
  | 7 => .int
  | 8 => .int
  | 9 => (.array .boolean)
  | 10 => (.array .int)
  | 11 => .int
  | 12 => (.array .int)
  | 13 => .int
  | 14 => (.array .int)
  | 15 => .int
  | _ => .boolean
def F_Checker : u_T := fun k => match k with
  | 0 => ("LoopProver$Checker", "truths", "[I", false)
  | 1 => ("LoopProver$Checker", "noted", "[I", false)
  | _ => ("LoopProver$Checker", "notes", "I", false)
def t_Checker : Nat → FieldType := fun k => match k with
  | 0 => (.array .int)
  | 1 => (.array .int)
  | _ => .int
def F_Flow : u_T := fun k => match k with
  | 0 => ("LoopProver$Flow", "scene", "[I", true)
  | 1 => ("LoopProver$Flow", "alive", "I", false)
  | _ => ("LoopProver$Flow", "wrong", "I", false)
def t_Flow : Nat → FieldType := fun k => match k with
  | 0 => (.array .int)
  | 1 => .int
  | _ => .int
def F_Line : u_T := fun k => match k with
  | 0 => ("LoopProver$Line", "kind", "LLoopProver$Kind;", true)
  | 1 => ("LoopProver$Line", "v", "I", true)
  | 2 => ("LoopProver$Line", "a", "LLoopProver$Node;", true)
  | 3 => ("LoopProver$Line", "b", "LLoopProver$Node;", true)
  | 4 => ("LoopProver$Line", "other", "I", false)
  | 5 => ("LoopProver$Line", "end", "I", false)
  | _ => ("LoopProver$Line", "opened", "I", false)
def t_Line : Nat → FieldType := fun k => match k with
  | 0 => (.object "LoopProver$Kind")
  | 1 => .int
  | 2 => (.object "LoopProver$Node")
  | 3 => (.object "LoopProver$Node")
  | 4 => .int
  | 5 => .int
  | _ => .int
def F_Verdict : u_T := fun k => match k with
  | 0 => ("LoopProver$Verdict", "witness", "I", false)
  | 1 => ("LoopProver$Verdict", "failure", "I", false)
  | _ => ("LoopProver$Verdict", "proved", "Z", false)
def t_Verdict : Nat → FieldType := fun k => match k with
  | 0 => .int
  | 1 => .int
  | _ => .boolean
def F_M : u_T := fun k => match k with
  | 0 => ("LoopProverModel", "nodes", "I", false)
  | 1 => ("LoopProverModel", "kind", "[I", true)
  | 2 => ("LoopProverModel", "left", "[I", true)
  | 3 => ("LoopProverModel", "right", "[I", true)
  | 4 => ("LoopProverModel", "of", "[J", true)
  | 5 => ("LoopProverModel", "many", "[I", true)
  | 6 => ("LoopProverModel", "order", "[I", true)
  | 7 => ("LoopProverModel", "found", "[I", true)
  | 8 => ("LoopProverModel", "state", "[I", true)
  | 9 => ("LoopProverModel", "lines", "I", false)
  | 10 => ("LoopProverModel", "what", "[I", true)
  | 11 => ("LoopProverModel", "one", "[I", true)
  | 12 => ("LoopProverModel", "two", "[I", true)
  | 13 => ("LoopProverModel", "begun", "[I", true)
  | 14 => ("LoopProverModel", "otherLine", "[I", true)
  | 15 => ("LoopProverModel", "endLine", "[I", true)
  | 16 => ("LoopProverModel", "block", "[I", true)
  | 17 => ("LoopProverModel", "open", "I", false)
  | 18 => ("LoopProverModel", "verified", "Z", false)
  | 19 => ("LoopProverModel", "conditions", "I", false)
  | 20 => ("LoopProverModel", "against", "[I", true)
  | 21 => ("LoopProverModel", "failed", "[I", true)
  | 22 => ("LoopProverModel", "post", "I", false)
  | _ => ("LoopProverModel", "place", "I", false)
def t_M : Nat → FieldType := fun k => match k with
  | 0 => .int
  | 1 => (.array .int)
  | 2 => (.array .int)
  | 3 => (.array .int)
  | 4 => (.array .long)
  | 5 => (.array .int)
  | 6 => (.array .int)
  | 7 => (.array .int)
  | 8 => (.array .int)
  | 9 => .int
  | 10 => (.array .int)
  | 11 => (.array .int)
  | 12 => (.array .int)
  | 13 => (.array .int)
  | 14 => (.array .int)
  | 15 => (.array .int)
  | 16 => (.array .int)
  | 17 => .int
  | 18 => .boolean
  | 19 => .int
  | 20 => (.array .int)
  | 21 => (.array .int)
  | 22 => .int
  | _ => .int
def F_Constant : u_T := fun k => match k with
  | 0 => ("LoopProver$Node", "at", "I", true)
  | 1 => ("LoopProver$Node", "p", "I", true)
  | 2 => ("LoopProver$Node", "q", "I", true)
  | _ => ("LoopProver$Constant", "value", "I", true)
def t_Constant : Nat → FieldType := fun k => match k with
  | 0 => .int
  | 1 => .int
  | 2 => .int
  | _ => .int
def F_Variable : u_T := fun k => match k with
  | 0 => ("LoopProver$Node", "at", "I", true)
  | 1 => ("LoopProver$Node", "p", "I", true)
  | 2 => ("LoopProver$Node", "q", "I", true)
  | _ => ("LoopProver$Variable", "slot", "I", true)
def t_Variable : Nat → FieldType := fun k => match k with
  | 0 => .int
  | 1 => .int
  | 2 => .int
  | _ => .int
def F_Read : u_T := fun k => match k with
  | 0 => ("LoopProver$Node", "at", "I", true)
  | 1 => ("LoopProver$Node", "p", "I", true)
  | _ => ("LoopProver$Node", "q", "I", true)
def t_Read : Nat → FieldType := fun k => match k with
  | 0 => .int
  | 1 => .int
  | _ => .int
def F_Sum : u_T := fun k => match k with
  | 0 => ("LoopProver$Node", "at", "I", true)
  | 1 => ("LoopProver$Node", "p", "I", true)
  | 2 => ("LoopProver$Node", "q", "I", true)
  | _ => ("LoopProver$Sum", "minus", "Z", true)
def t_Sum : Nat → FieldType := fun k => match k with
  | 0 => .int
  | 1 => .int
  | 2 => .int
  | _ => .boolean
def F_Meet : u_T := fun k => match k with
  | 0 => ("LoopProver$Node", "at", "I", true)
  | 1 => ("LoopProver$Node", "p", "I", true)
  | _ => ("LoopProver$Node", "q", "I", true)
def t_Meet : Nat → FieldType := fun k => match k with
  | 0 => .int
  | 1 => .int
  | _ => .int
def F_Below : u_T := fun k => match k with
  | 0 => ("LoopProver$Node", "at", "I", true)
  | 1 => ("LoopProver$Node", "p", "I", true)
  | _ => ("LoopProver$Node", "q", "I", true)
def t_Below : Nat → FieldType := fun k => match k with
  | 0 => .int
  | 1 => .int
  | _ => .int
def F_Same : u_T := fun k => match k with
  | 0 => ("LoopProver$Node", "at", "I", true)
  | 1 => ("LoopProver$Node", "p", "I", true)
  | _ => ("LoopProver$Node", "q", "I", true)
def t_Same : Nat → FieldType := fun k => match k with
  | 0 => .int
  | 1 => .int
  | _ => .int
def F_Not : u_T := fun k => match k with
  | 0 => ("LoopProver$Node", "at", "I", true)
  | 1 => ("LoopProver$Node", "p", "I", true)
  | _ => ("LoopProver$Node", "q", "I", true)
def t_Not : Nat → FieldType := fun k => match k with
  | 0 => .int
  | 1 => .int
  | _ => .int
def F_Both : u_T := fun k => match k with
  | 0 => ("LoopProver$Node", "at", "I", true)
  | 1 => ("LoopProver$Node", "p", "I", true)
  | _ => ("LoopProver$Node", "q", "I", true)
def t_Both : Nat → FieldType := fun k => match k with
  | 0 => .int
  | 1 => .int
  | _ => .int
def CL : List vw_C := [("LoopProver", F_P, 15), ("java/util/ArrayList", F_AL, 3), ("LoopProver$Circuit", F_Circuit, 12), ("LoopProver$Solver", F_Solver, 17), ("LoopProver$Checker", F_Checker, 3), ("LoopProver$Flow", F_Flow, 3), ("LoopProver$Line", F_Line, 7), ("LoopProver$Verdict", F_Verdict, 3), ("LoopProverModel", F_M, 24), ("LoopProver$Constant", F_Constant, 4), ("LoopProver$Variable", F_Variable, 4), ("LoopProver$Read", F_Read, 3), ("LoopProver$Sum", F_Sum, 4), ("LoopProver$Meet", F_Meet, 3), ("LoopProver$Below", F_Below, 3), ("LoopProver$Same", F_Same, 3), ("LoopProver$Not", F_Not, 3), ("LoopProver$Both", F_Both, 3)]
/-- class ci of CL: its words are in the tables, its fields' types, its names differ -/
def ClsOK (ci : Nat) (C : String) (T : u_T) (N : Nat) (ty : Nat → FieldType) : Prop := CL[ci]? = some (C, T, N) ∧ (∀ w ∈ u_ws C T N, w ∈ tblG) ∧ (∀ k, k < N → parseFieldDescriptor (T k).2.2.1 = some (ty k)) ∧ ∀ a, a < N → ∀ b, b < N → a ≠ b → (T a).2.1 ≠ (T b).2.1
theorem kw_P : ∀ w ∈ u_ws "LoopProver" F_P 15, w ∈ tblG := by
  intro w hw
  obtain ⟨k, hk, rfl⟩ := List.mem_map.mp hw
  have hk := List.mem_range.mp hk
  match k, hk with
  | 0, _ => exact g1 236 rfl rfl
  | 1, _ => exact g1 238 rfl rfl
  | 2, _ => exact g2 0 rfl rfl
  | 3, _ => exact g2 2 rfl rfl
  | 4, _ => exact g2 4 rfl rfl
  | 5, _ => exact g2 6 rfl rfl
  | 6, _ => exact g2 8 rfl rfl
  | 7, _ => exact g2 10 rfl rfl
  | 8, _ => exact g2 12 rfl rfl
  | 9, _ => exact g2 14 rfl rfl
  | 10, _ => exact g2 16 rfl rfl
  | 11, _ => exact g2 18 rfl rfl
  | 12, _ => exact g2 20 rfl rfl
  | 13, _ => exact g2 22 rfl rfl
  | 14, _ => exact g2 24 rfl rfl
  | k + 15, h => exact absurd h (by omega)
theorem k_P : ClsOK 0 "LoopProver" F_P 15 t_P := ⟨rfl, kw_P, by decide +kernel, by decide +kernel⟩
theorem kw_AL : ∀ w ∈ u_ws "java/util/ArrayList" F_AL 3, w ∈ tblG := by
  intro w hw
  obtain ⟨k, hk, rfl⟩ := List.mem_map.mp hw
  have hk := List.mem_range.mp hk
  match k, hk with
  | 0, _ => exact g1 60 rfl rfl
  | 1, _ => exact g1 62 rfl rfl
  | 2, _ => exact g1 64 rfl rfl
  | k + 3, h => exact absurd h (by omega)
theorem k_AL : ClsOK 1 "java/util/ArrayList" F_AL 3 t_AL := ⟨rfl, kw_AL, by decide +kernel, by decide +kernel⟩
theorem kw_Circuit : ∀ w ∈ u_ws "LoopProver$Circuit" F_Circuit 12, w ∈ tblG := by
  intro w hw
  obtain ⟨k, hk, rfl⟩ := List.mem_map.mp hw
  have hk := List.mem_range.mp hk
  match k, hk with
  | 0, _ => exact g1 98 rfl rfl
  | 1, _ => exact g1 100 rfl rfl
  | 2, _ => exact g1 102 rfl rfl
  | 3, _ => exact g1 104 rfl rfl
  | 4, _ => exact g1 106 rfl rfl
  | 5, _ => exact g1 108 rfl rfl
  | 6, _ => exact g1 110 rfl rfl
  | 7, _ => exact g1 112 rfl rfl
  | 8, _ => exact g1 114 rfl rfl
  | 9, _ => exact g1 116 rfl rfl
  | 10, _ => exact g1 118 rfl rfl
  | 11, _ => exact g1 120 rfl rfl
  | k + 12, h => exact absurd h (by omega)
theorem k_Circuit : ClsOK 2 "LoopProver$Circuit" F_Circuit 12 t_Circuit := ⟨rfl, kw_Circuit, by decide +kernel, by decide +kernel⟩
theorem kw_Solver : ∀ w ∈ u_ws "LoopProver$Solver" F_Solver 17, w ∈ tblG := by
  intro w hw
  obtain ⟨k, hk, rfl⟩ := List.mem_map.mp hw
  have hk := List.mem_range.mp hk
  match k, hk with
  | 0, _ => exact g1 165 rfl rfl
  | 1, _ => exact g1 167 rfl rfl
  | 2, _ => exact g1 169 rfl rfl
  | 3, _ => exact g1 171 rfl rfl
  | 4, _ => exact g1 173 rfl rfl
  | 5, _ => exact g1 175 rfl rfl
  | 6, _ => exact g1 177 rfl rfl
  | 7, _ => exact g1 179 rfl rfl
  | 8, _ => exact g1 181 rfl rfl
  | 9, _ => exact g1 183 rfl rfl
  | 10, _ => exact g1 185 rfl rfl
  | 11, _ => exact g1 187 rfl rfl
  | 12, _ => exact g1 189 rfl rfl
  | 13, _ => exact g1 191 rfl rfl
  | 14, _ => exact g1 193 rfl rfl
  | 15, _ => exact g1 195 rfl rfl
  | 16, _ => exact g1 197 rfl rfl
  | k + 17, h => exact absurd h (by omega)
theorem k_Solver : ClsOK 3 "LoopProver$Solver" F_Solver 17 t_Solver := ⟨rfl, kw_Solver, by decide +kernel, by decide +kernel⟩
theorem kw_Checker : ∀ w ∈ u_ws "LoopProver$Checker" F_Checker 3, w ∈ tblG := by
  intro w hw
  obtain ⟨k, hk, rfl⟩ := List.mem_map.mp hw
  have hk := List.mem_range.mp hk
  match k, hk with
  | 0, _ => exact g1 135 rfl rfl
  | 1, _ => exact g1 137 rfl rfl
  | 2, _ => exact g1 139 rfl rfl
  | k + 3, h => exact absurd h (by omega)
theorem k_Checker : ClsOK 4 "LoopProver$Checker" F_Checker 3 t_Checker := ⟨rfl, kw_Checker, by decide +kernel, by decide +kernel⟩
theorem kw_Flow : ∀ w ∈ u_ws "LoopProver$Flow" F_Flow 3, w ∈ tblG := by
  intro w hw
  obtain ⟨k, hk, rfl⟩ := List.mem_map.mp hw
  have hk := List.mem_range.mp hk
  match k, hk with
  | 0, _ => exact g1 213 rfl rfl
  | 1, _ => exact g1 215 rfl rfl
  | 2, _ => exact g1 217 rfl rfl
  | k + 3, h => exact absurd h (by omega)
theorem k_Flow : ClsOK 5 "LoopProver$Flow" F_Flow 3 t_Flow := ⟨rfl, kw_Flow, by decide +kernel, by decide +kernel⟩
theorem kw_Line : ∀ w ∈ u_ws "LoopProver$Line" F_Line 7, w ∈ tblG := by
  intro w hw
  obtain ⟨k, hk, rfl⟩ := List.mem_map.mp hw
  have hk := List.mem_range.mp hk
  match k, hk with
  | 0, _ => exact g3 97 rfl rfl
  | 1, _ => exact g3 99 rfl rfl
  | 2, _ => exact g3 101 rfl rfl
  | 3, _ => exact g3 103 rfl rfl
  | 4, _ => exact g3 105 rfl rfl
  | 5, _ => exact g3 107 rfl rfl
  | 6, _ => exact g3 109 rfl rfl
  | k + 7, h => exact absurd h (by omega)
theorem k_Line : ClsOK 6 "LoopProver$Line" F_Line 7 t_Line := ⟨rfl, kw_Line, by decide +kernel, by decide +kernel⟩
theorem kw_Verdict : ∀ w ∈ u_ws "LoopProver$Verdict" F_Verdict 3, w ∈ tblG := by
  intro w hw
  obtain ⟨k, hk, rfl⟩ := List.mem_map.mp hw
  have hk := List.mem_range.mp hk
  match k, hk with
  | 0, _ => exact g3 192 rfl rfl
  | 1, _ => exact g3 194 rfl rfl
  | 2, _ => exact g3 196 rfl rfl
  | k + 3, h => exact absurd h (by omega)
theorem k_Verdict : ClsOK 7 "LoopProver$Verdict" F_Verdict 3 t_Verdict := ⟨rfl, kw_Verdict, by decide +kernel, by decide +kernel⟩
theorem kw_M : ∀ w ∈ u_ws "LoopProverModel" F_M 24, w ∈ tblG := by
  intro w hw
  obtain ⟨k, hk, rfl⟩ := List.mem_map.mp hw
  have hk := List.mem_range.mp hk
  match k, hk with
  | 0, _ => exact g5 32 rfl rfl
  | 1, _ => exact g5 34 rfl rfl
  | 2, _ => exact g5 36 rfl rfl
  | 3, _ => exact g5 38 rfl rfl
  | 4, _ => exact g5 40 rfl rfl
  | 5, _ => exact g5 42 rfl rfl
  | 6, _ => exact g5 44 rfl rfl
  | 7, _ => exact g5 46 rfl rfl
  | 8, _ => exact g5 48 rfl rfl
  | 9, _ => exact g5 50 rfl rfl
  | 10, _ => exact g5 52 rfl rfl
  | 11, _ => exact g5 54 rfl rfl
  | 12, _ => exact g5 56 rfl rfl
  | 13, _ => exact g5 58 rfl rfl
  | 14, _ => exact g5 60 rfl rfl
  | 15, _ => exact g5 62 rfl rfl
  | 16, _ => exact g5 64 rfl rfl
  | 17, _ => exact g5 66 rfl rfl
  | 18, _ => exact g5 68 rfl rfl
  | 19, _ => exact g5 70 rfl rfl
  | 20, _ => exact g5 72 rfl rfl
  | 21, _ => exact g5 74 rfl rfl
  | 22, _ => exact g5 76 rfl rfl
  | 23, _ => exact g5 78 rfl rfl
  | k + 24, h => exact absurd h (by omega)
theorem k_M : ClsOK 8 "LoopProverModel" F_M 24 t_M := ⟨rfl, kw_M, by decide +kernel, by decide +kernel⟩
theorem kw_Constant : ∀ w ∈ u_ws "LoopProver$Constant" F_Constant 4, w ∈ tblG := by
  intro w hw
  obtain ⟨k, hk, rfl⟩ := List.mem_map.mp hw
  have hk := List.mem_range.mp hk
  match k, hk with
  | 0, _ => exact g2 141 rfl rfl
  | 1, _ => exact g2 143 rfl rfl
  | 2, _ => exact g2 145 rfl rfl
  | 3, _ => exact g2 139 rfl rfl
  | k + 4, h => exact absurd h (by omega)
theorem k_Constant : ClsOK 9 "LoopProver$Constant" F_Constant 4 t_Constant := ⟨rfl, kw_Constant, by decide +kernel, by decide +kernel⟩
theorem kw_Variable : ∀ w ∈ u_ws "LoopProver$Variable" F_Variable 4, w ∈ tblG := by
  intro w hw
  obtain ⟨k, hk, rfl⟩ := List.mem_map.mp hw
  have hk := List.mem_range.mp hk
  match k, hk with
  | 0, _ => exact g2 157 rfl rfl
  | 1, _ => exact g2 158 rfl rfl
  | 2, _ => exact g2 159 rfl rfl
  | 3, _ => exact g2 155 rfl rfl
  | k + 4, h => exact absurd h (by omega)
theorem k_Variable : ClsOK 10 "LoopProver$Variable" F_Variable 4 t_Variable := ⟨rfl, kw_Variable, by decide +kernel, by decide +kernel⟩
theorem kw_Read : ∀ w ∈ u_ws "LoopProver$Read" F_Read 3, w ∈ tblG := by
  intro w hw
  obtain ⟨k, hk, rfl⟩ := List.mem_map.mp hw
  have hk := List.mem_range.mp hk
  match k, hk with
  | 0, _ => exact g2 167 rfl rfl
  | 1, _ => exact g2 168 rfl rfl
  | 2, _ => exact g2 169 rfl rfl
  | k + 3, h => exact absurd h (by omega)
theorem k_Read : ClsOK 11 "LoopProver$Read" F_Read 3 t_Read := ⟨rfl, kw_Read, by decide +kernel, by decide +kernel⟩
theorem kw_Sum : ∀ w ∈ u_ws "LoopProver$Sum" F_Sum 4, w ∈ tblG := by
  intro w hw
  obtain ⟨k, hk, rfl⟩ := List.mem_map.mp hw
  have hk := List.mem_range.mp hk
  match k, hk with
  | 0, _ => exact g2 180 rfl rfl
  | 1, _ => exact g2 181 rfl rfl
  | 2, _ => exact g2 182 rfl rfl
  | 3, _ => exact g2 178 rfl rfl
  | k + 4, h => exact absurd h (by omega)
theorem k_Sum : ClsOK 12 "LoopProver$Sum" F_Sum 4 t_Sum := ⟨rfl, kw_Sum, by decide +kernel, by decide +kernel⟩
theorem kw_Meet : ∀ w ∈ u_ws "LoopProver$Meet" F_Meet 3, w ∈ tblG := by
  intro w hw
  obtain ⟨k, hk, rfl⟩ := List.mem_map.mp hw
  have hk := List.mem_range.mp hk
  match k, hk with
  | 0, _ => exact g2 190 rfl rfl
  | 1, _ => exact g2 191 rfl rfl
  | 2, _ => exact g2 192 rfl rfl
  | k + 3, h => exact absurd h (by omega)
theorem k_Meet : ClsOK 13 "LoopProver$Meet" F_Meet 3 t_Meet := ⟨rfl, kw_Meet, by decide +kernel, by decide +kernel⟩
theorem kw_Below : ∀ w ∈ u_ws "LoopProver$Below" F_Below 3, w ∈ tblG := by
  intro w hw
  obtain ⟨k, hk, rfl⟩ := List.mem_map.mp hw
  have hk := List.mem_range.mp hk
  match k, hk with
  | 0, _ => exact g2 203 rfl rfl
  | 1, _ => exact g2 204 rfl rfl
  | 2, _ => exact g2 205 rfl rfl
  | k + 3, h => exact absurd h (by omega)
theorem k_Below : ClsOK 14 "LoopProver$Below" F_Below 3 t_Below := ⟨rfl, kw_Below, by decide +kernel, by decide +kernel⟩
theorem kw_Same : ∀ w ∈ u_ws "LoopProver$Same" F_Same 3, w ∈ tblG := by
  intro w hw
  obtain ⟨k, hk, rfl⟩ := List.mem_map.mp hw
  have hk := List.mem_range.mp hk
  match k, hk with
  | 0, _ => exact g2 213 rfl rfl
  | 1, _ => exact g2 214 rfl rfl
  | 2, _ => exact g2 215 rfl rfl
  | k + 3, h => exact absurd h (by omega)
theorem k_Same : ClsOK 15 "LoopProver$Same" F_Same 3 t_Same := ⟨rfl, kw_Same, by decide +kernel, by decide +kernel⟩
theorem kw_Not : ∀ w ∈ u_ws "LoopProver$Not" F_Not 3, w ∈ tblG := by
  intro w hw
  obtain ⟨k, hk, rfl⟩ := List.mem_map.mp hw
  have hk := List.mem_range.mp hk
  match k, hk with
  | 0, _ => exact g2 223 rfl rfl
  | 1, _ => exact g2 224 rfl rfl
  | 2, _ => exact g2 225 rfl rfl
  | k + 3, h => exact absurd h (by omega)
theorem k_Not : ClsOK 16 "LoopProver$Not" F_Not 3 t_Not := ⟨rfl, kw_Not, by decide +kernel, by decide +kernel⟩
theorem kw_Both : ∀ w ∈ u_ws "LoopProver$Both" F_Both 3, w ∈ tblG := by
  intro w hw
  obtain ⟨k, hk, rfl⟩ := List.mem_map.mp hw
  have hk := List.mem_range.mp hk
  match k, hk with
  | 0, _ => exact g2 233 rfl rfl
  | 1, _ => exact g2 234 rfl rfl
  | 2, _ => exact g2 235 rfl rfl
  | k + 3, h => exact absurd h (by omega)
theorem k_Both : ClsOK 17 "LoopProver$Both" F_Both 3 t_Both := ⟨rfl, kw_Both, by decide +kernel, by decide +kernel⟩
-- methods
abbrev b_P_init : ByteArray := prog_1_method_1_code
def y_P_init : MethodName := ⟨"LoopProver", "<init>", "()V"⟩
abbrev b_JObj_init : ByteArray := object_method_1_code
def y_JObj_init : MethodName := ⟨"java/lang/Object", "<init>", "()V"⟩
abbrev b_AL_init : ByteArray := prog_30_method_1_code
def y_AL_init : MethodName := ⟨"java/util/ArrayList", "<init>", "(I)V"⟩
abbrev b_ABL_init : ByteArray := prog_29_method_1_code
def y_ABL_init : MethodName := ⟨"java/util/AbstractList", "<init>", "()V"⟩
abbrev b_ABC_init : ByteArray := prog_28_method_1_code
def y_ABC_init : MethodName := ⟨"java/util/AbstractCollection", "<init>", "()V"⟩
abbrev b_Circuit_init : ByteArray := prog_5_method_1_code
def y_Circuit_init : MethodName := ⟨"LoopProver$Circuit", "<init>", "()V"⟩
abbrev b_Checker_init : ByteArray := prog_4_method_1_code
def y_Checker_init : MethodName := ⟨"LoopProver$Checker", "<init>", "()V"⟩
abbrev b_Solver_init : ByteArray := prog_15_method_1_code
def y_Solver_init : MethodName := ⟨"LoopProver$Solver", "<init>", "(LLoopProver$Checker;)V"⟩
abbrev b_Flow_init : ByteArray := prog_7_method_1_code
def y_Flow_init : MethodName := ⟨"LoopProver$Flow", "<init>", "()V"⟩
abbrev b_P_node : ByteArray := prog_1_method_6_code
def y_P_node : MethodName := ⟨"LoopProver", "node", "(III)I"⟩
abbrev b_AL_size : ByteArray := prog_30_method_8_code
def y_AL_size : MethodName := ⟨"java/util/ArrayList", "size", "()I"⟩
abbrev b_P_made : ByteArray := prog_1_method_5_code
def y_P_made : MethodName := ⟨"LoopProver", "made", "(III)LLoopProver$Node;"⟩
abbrev b_P_truth : ByteArray := prog_1_method_4_code
def y_P_truth : MethodName := ⟨"LoopProver", "truth", "(I)Z"⟩
abbrev b_P_nodeAt : ByteArray := prog_1_method_2_code
def y_P_nodeAt : MethodName := ⟨"LoopProver", "nodeAt", "(I)LLoopProver$Node;"⟩
abbrev b_AL_get : ByteArray := prog_30_method_20_code
def y_AL_get : MethodName := ⟨"java/util/ArrayList", "get", "(I)Ljava/lang/Object;"⟩
abbrev b_Obj_checkIndex : ByteArray := prog_34_method_17_code
def y_Obj_checkIndex : MethodName := ⟨"java/util/Objects", "checkIndex", "(II)I"⟩
abbrev b_Pre_checkIndex : ByteArray := prog_38_method_11_code
def y_Pre_checkIndex : MethodName := ⟨"jdk/internal/util/Preconditions", "checkIndex", "(IILjava/util/function/BiFunction;)I"⟩
abbrev b_AL_elementData : ByteArray := prog_30_method_18_code
def y_AL_elementData : MethodName := ⟨"java/util/ArrayList", "elementData", "(I)Ljava/lang/Object;"⟩
abbrev b_Truth_truth : ByteArray := prog_17_method_2_code
def y_Truth_truth : MethodName := ⟨"LoopProver$Truth", "truth", "()Z"⟩
abbrev b_Node_truth : ByteArray := prog_11_method_4_code
def y_Node_truth : MethodName := ⟨"LoopProver$Node", "truth", "()Z"⟩
abbrev b_P_numeric : ByteArray := prog_1_method_3_code
def y_P_numeric : MethodName := ⟨"LoopProver", "numeric", "(I)Z"⟩
abbrev b_Constant_init : ByteArray := prog_6_method_1_code
def y_Constant_init : MethodName := ⟨"LoopProver$Constant", "<init>", "(II)V"⟩
abbrev b_Node_init : ByteArray := prog_11_method_1_code
def y_Node_init : MethodName := ⟨"LoopProver$Node", "<init>", "(III)V"⟩
abbrev b_Variable_init : ByteArray := prog_18_method_1_code
def y_Variable_init : MethodName := ⟨"LoopProver$Variable", "<init>", "(II)V"⟩
abbrev b_Read_init : ByteArray := prog_13_method_1_code
def y_Read_init : MethodName := ⟨"LoopProver$Read", "<init>", "(II)V"⟩
abbrev b_Sum_init : ByteArray := prog_16_method_1_code
def y_Sum_init : MethodName := ⟨"LoopProver$Sum", "<init>", "(IIIZ)V"⟩
abbrev b_Meet_init : ByteArray := prog_10_method_1_code
def y_Meet_init : MethodName := ⟨"LoopProver$Meet", "<init>", "(III)V"⟩
abbrev b_Below_init : ByteArray := prog_2_method_1_code
def y_Below_init : MethodName := ⟨"LoopProver$Below", "<init>", "(III)V"⟩
abbrev b_Truth_init : ByteArray := prog_17_method_1_code
def y_Truth_init : MethodName := ⟨"LoopProver$Truth", "<init>", "(III)V"⟩
abbrev b_Same_init : ByteArray := prog_14_method_1_code
def y_Same_init : MethodName := ⟨"LoopProver$Same", "<init>", "(III)V"⟩
abbrev b_Not_init : ByteArray := prog_12_method_1_code
def y_Not_init : MethodName := ⟨"LoopProver$Not", "<init>", "(II)V"⟩
abbrev b_Both_init : ByteArray := prog_3_method_1_code
def y_Both_init : MethodName := ⟨"LoopProver$Both", "<init>", "(III)V"⟩
abbrev b_AL_add1 : ByteArray := prog_30_method_25_code
def y_AL_add1 : MethodName := ⟨"java/util/ArrayList", "add", "(Ljava/lang/Object;)Z"⟩
abbrev b_AL_add2 : ByteArray := prog_30_method_24_code
def y_AL_add2 : MethodName := ⟨"java/util/ArrayList", "add", "(Ljava/lang/Object;[Ljava/lang/Object;I)V"⟩
abbrev b_AL_grow1 : ByteArray := prog_30_method_7_code
def y_AL_grow1 : MethodName := ⟨"java/util/ArrayList", "grow", "()[Ljava/lang/Object;"⟩
abbrev b_AL_grow2 : ByteArray := prog_30_method_6_code
def y_AL_grow2 : MethodName := ⟨"java/util/ArrayList", "grow", "(I)[Ljava/lang/Object;"⟩
abbrev b_AS_newLength : ByteArray := prog_37_method_27_code
def y_AS_newLength : MethodName := ⟨"jdk/internal/util/ArraysSupport", "newLength", "(III)I"⟩
abbrev b_Math_max : ByteArray := prog_26_method_65_code
def y_Math_max : MethodName := ⟨"java/lang/Math", "max", "(II)I"⟩
abbrev b_AS_hugeLength : ByteArray := prog_37_method_28_code
def y_AS_hugeLength : MethodName := ⟨"jdk/internal/util/ArraysSupport", "hugeLength", "(II)I"⟩
abbrev b_Arrs_copyOf1 : ByteArray := prog_31_method_119_code
def y_Arrs_copyOf1 : MethodName := ⟨"java/util/Arrays", "copyOf", "([Ljava/lang/Object;I)[Ljava/lang/Object;"⟩
abbrev b_Arrs_copyOf2 : ByteArray := prog_31_method_120_code
def y_Arrs_copyOf2 : MethodName := ⟨"java/util/Arrays", "copyOf", "([Ljava/lang/Object;ILjava/lang/Class;)[Ljava/lang/Object;"⟩
abbrev b_Math_min : ByteArray := prog_26_method_69_code
def y_Math_min : MethodName := ⟨"java/lang/Math", "min", "(II)I"⟩
abbrev b_P_assign : ByteArray := prog_1_method_9_code
def y_P_assign : MethodName := ⟨"LoopProver", "assign", "(II)I"⟩
abbrev b_P_full : ByteArray := prog_1_method_8_code
def y_P_full : MethodName := ⟨"LoopProver", "full", "()Z"⟩
abbrev b_P_add : ByteArray := prog_1_method_7_code
def y_P_add : MethodName := ⟨"LoopProver", "add", "(LLoopProver$Kind;ILLoopProver$Node;LLoopProver$Node;)LLoopProver$Line;"⟩
abbrev b_Line_init : ByteArray := prog_9_method_1_code
def y_Line_init : MethodName := ⟨"LoopProver$Line", "<init>", "(LLoopProver$Kind;ILLoopProver$Node;LLoopProver$Node;)V"⟩
abbrev b_P_store : ByteArray := prog_1_method_10_code
def y_P_store : MethodName := ⟨"LoopProver", "store", "(II)I"⟩
abbrev b_P_claim : ByteArray := prog_1_method_12_code
def y_P_claim : MethodName := ⟨"LoopProver", "claim", "(I)I"⟩
abbrev b_P_plain : ByteArray := prog_1_method_11_code
def y_P_plain : MethodName := ⟨"LoopProver", "plain", "(LLoopProver$Kind;I)I"⟩
abbrev b_P_assume : ByteArray := prog_1_method_13_code
def y_P_assume : MethodName := ⟨"LoopProver", "assume", "(I)I"⟩
abbrev b_P_when : ByteArray := prog_1_method_15_code
def y_P_when : MethodName := ⟨"LoopProver", "when", "(I)I"⟩
abbrev b_P_block : ByteArray := prog_1_method_14_code
def y_P_block : MethodName := ⟨"LoopProver", "block", "(LLoopProver$Kind;II)I"⟩
abbrev b_P_loop : ByteArray := prog_1_method_16_code
def y_P_loop : MethodName := ⟨"LoopProver", "loop", "(II)I"⟩
abbrev b_P_other : ByteArray := prog_1_method_18_code
def y_P_other : MethodName := ⟨"LoopProver", "other", "()I"⟩
abbrev b_P_inner : ByteArray := prog_1_method_17_code
def y_P_inner : MethodName := ⟨"LoopProver", "inner", "()LLoopProver$Line;"⟩
abbrev b_P_end : ByteArray := prog_1_method_19_code
def y_P_end : MethodName := ⟨"LoopProver", "end", "()I"⟩
abbrev b_P_clear : ByteArray := prog_1_method_20_code
def y_P_clear : MethodName := ⟨"LoopProver", "clear", "()I"⟩
abbrev b_AL_clear : ByteArray := prog_30_method_40_code
def y_AL_clear : MethodName := ⟨"java/util/ArrayList", "clear", "()V"⟩
abbrev b_P_verify : ByteArray := prog_1_method_28_code
def y_P_verify : MethodName := ⟨"LoopProver", "verify", "(II)I"⟩
abbrev b_P_decide : ByteArray := prog_1_method_27_code
def y_P_decide : MethodName := ⟨"LoopProver", "decide", "(LLoopProver$Node;LLoopProver$Node;ZILLoopProver$Node;)V"⟩
abbrev b_Verdict_init : ByteArray := prog_19_method_1_code
def y_Verdict_init : MethodName := ⟨"LoopProver$Verdict", "<init>", "()V"⟩
abbrev b_Circuit_begin : ByteArray := prog_5_method_2_code
def y_Circuit_begin : MethodName := ⟨"LoopProver$Circuit", "begin", "()V"⟩
abbrev b_Circuit_add : ByteArray := prog_5_method_7_code
def y_Circuit_add : MethodName := ⟨"LoopProver$Circuit", "add", "(III)V"⟩
abbrev b_Circuit_open : ByteArray := prog_5_method_5_code
def y_Circuit_open : MethodName := ⟨"LoopProver$Circuit", "open", "()V"⟩
abbrev b_Circuit_longer : ByteArray := prog_5_method_11_code
def y_Circuit_longer : MethodName := ⟨"LoopProver$Circuit", "longer", "([I)[I"⟩
abbrev b_Circuit_put : ByteArray := prog_5_method_4_code
def y_Circuit_put : MethodName := ⟨"LoopProver$Circuit", "put", "(I)V"⟩
abbrev b_Circuit_room : ByteArray := prog_5_method_3_code
def y_Circuit_room : MethodName := ⟨"LoopProver$Circuit", "room", "()V"⟩
abbrev b_Circuit_close : ByteArray := prog_5_method_6_code
def y_Circuit_close : MethodName := ⟨"LoopProver$Circuit", "close", "()V"⟩
abbrev b_P_gate : ByteArray := prog_1_method_22_code
def y_P_gate : MethodName := ⟨"LoopProver", "gate", "(LLoopProver$Node;[I)I"⟩
abbrev b_P_need : ByteArray := prog_1_method_21_code
def y_P_need : MethodName := ⟨"LoopProver", "need", "(I)V"⟩
abbrev b_Below_gates : ByteArray := prog_2_method_3_code
def y_Below_gates : MethodName := ⟨"LoopProver$Below", "gates", "(LLoopProver$Circuit;[I[I)V"⟩
abbrev b_Circuit_differ : ByteArray := prog_5_method_15_code
def y_Circuit_differ : MethodName := ⟨"LoopProver$Circuit", "differ", "(II)I"⟩
abbrev b_Circuit_and : ByteArray := prog_5_method_12_code
def y_Circuit_and : MethodName := ⟨"LoopProver$Circuit", "and", "(II)I"⟩
abbrev b_Circuit_grow : ByteArray := prog_5_method_13_code
def y_Circuit_grow : MethodName := ⟨"LoopProver$Circuit", "grow", "()V"⟩
abbrev b_Circuit_or : ByteArray := prog_5_method_14_code
def y_Circuit_or : MethodName := ⟨"LoopProver$Circuit", "or", "(II)I"⟩
abbrev b_Circuit_either : ByteArray := prog_5_method_16_code
def y_Circuit_either : MethodName := ⟨"LoopProver$Circuit", "either", "(III)I"⟩
abbrev b_Both_gates : ByteArray := prog_3_method_3_code
def y_Both_gates : MethodName := ⟨"LoopProver$Both", "gates", "(LLoopProver$Circuit;[I[I)V"⟩
abbrev b_Constant_gates : ByteArray := prog_6_method_3_code
def y_Constant_gates : MethodName := ⟨"LoopProver$Constant", "gates", "(LLoopProver$Circuit;[I[I)V"⟩
abbrev b_Meet_gates : ByteArray := prog_10_method_3_code
def y_Meet_gates : MethodName := ⟨"LoopProver$Meet", "gates", "(LLoopProver$Circuit;[I[I)V"⟩
abbrev b_Not_gates : ByteArray := prog_12_method_3_code
def y_Not_gates : MethodName := ⟨"LoopProver$Not", "gates", "(LLoopProver$Circuit;[I[I)V"⟩
abbrev b_Read_gates : ByteArray := prog_13_method_3_code
def y_Read_gates : MethodName := ⟨"LoopProver$Read", "gates", "(LLoopProver$Circuit;[I[I)V"⟩
abbrev b_Same_gates : ByteArray := prog_14_method_3_code
def y_Same_gates : MethodName := ⟨"LoopProver$Same", "gates", "(LLoopProver$Circuit;[I[I)V"⟩
abbrev b_Sum_gates : ByteArray := prog_16_method_3_code
def y_Sum_gates : MethodName := ⟨"LoopProver$Sum", "gates", "(LLoopProver$Circuit;[I[I)V"⟩
abbrev b_Variable_gates : ByteArray := prog_18_method_3_code
def y_Variable_gates : MethodName := ⟨"LoopProver$Variable", "gates", "(LLoopProver$Circuit;[I[I)V"⟩
abbrev b_P_go : ByteArray := prog_1_method_24_code
def y_P_go : MethodName := ⟨"LoopProver", "go", "(LLoopProver;IILLoopProver$Flow;I)V"⟩
abbrev b_Enum_ordinal : ByteArray := prog_24_method_2_code
def y_Enum_ordinal : MethodName := ⟨"java/lang/Enum", "ordinal", "()I"⟩
abbrev b_P_storeIn : ByteArray := prog_1_method_23_code
def y_P_storeIn : MethodName := ⟨"LoopProver", "storeIn", "(LLoopProver$Line;[I)V"⟩
abbrev b_Flow_must : ByteArray := prog_7_method_3_code
def y_Flow_must : MethodName := ⟨"LoopProver$Flow", "must", "(LLoopProver$Circuit;I)V"⟩
abbrev b_P_parted : ByteArray := prog_1_method_26_code
def y_P_parted : MethodName := ⟨"LoopProver", "parted", "(LLoopProver;ILLoopProver$Line;LLoopProver$Flow;I)V"⟩
abbrev b_Flow_copy : ByteArray := prog_7_method_2_code
def y_Flow_copy : MethodName := ⟨"LoopProver$Flow", "copy", "(LLoopProver$Flow;)V"⟩
abbrev b_P_stop : ByteArray := prog_1_method_25_code
def y_P_stop : MethodName := ⟨"LoopProver", "stop", "(LLoopProver;LLoopProver$Line;LLoopProver$Flow;)V"⟩
abbrev b_Solver_solve : ByteArray := prog_15_method_11_code
def y_Solver_solve : MethodName := ⟨"LoopProver$Solver", "solve", "(LLoopProver$Circuit;)Z"⟩
abbrev b_Solver_prepare : ByteArray := prog_15_method_2_code
def y_Solver_prepare : MethodName := ⟨"LoopProver$Solver", "prepare", "(LLoopProver$Circuit;)V"⟩
abbrev b_Solver_start : ByteArray := prog_15_method_6_code
def y_Solver_start : MethodName := ⟨"LoopProver$Solver", "start", "()I"⟩
abbrev b_Solver_broken : ByteArray := prog_15_method_4_code
def y_Solver_broken : MethodName := ⟨"LoopProver$Solver", "broken", "(I)Z"⟩
abbrev b_Solver_set : ByteArray := prog_15_method_3_code
def y_Solver_set : MethodName := ⟨"LoopProver$Solver", "set", "(II)V"⟩
abbrev b_Solver_spread : ByteArray := prog_15_method_5_code
def y_Solver_spread : MethodName := ⟨"LoopProver$Solver", "spread", "()I"⟩
abbrev b_Solver_explain : ByteArray := prog_15_method_8_code
def y_Solver_explain : MethodName := ⟨"LoopProver$Solver", "explain", "(I)V"⟩
abbrev b_Solver_mark : ByteArray := prog_15_method_7_code
def y_Solver_mark : MethodName := ⟨"LoopProver$Solver", "mark", "(I)V"⟩
abbrev b_Checker_accepts : ByteArray := prog_4_method_5_code
def y_Checker_accepts : MethodName := ⟨"LoopProver$Checker", "accepts", "(LLoopProver$Circuit;[II[II)Z"⟩
abbrev b_Checker_note : ByteArray := prog_4_method_2_code
def y_Checker_note : MethodName := ⟨"LoopProver$Checker", "note", "(I)V"⟩
abbrev b_Checker_rest : ByteArray := prog_4_method_4_code
def y_Checker_rest : MethodName := ⟨"LoopProver$Checker", "rest", "(LLoopProver$Circuit;I)I"⟩
abbrev b_Checker_forget : ByteArray := prog_4_method_3_code
def y_Checker_forget : MethodName := ⟨"LoopProver$Checker", "forget", "()V"⟩
abbrev b_Solver_back : ByteArray := prog_15_method_9_code
def y_Solver_back : MethodName := ⟨"LoopProver$Solver", "back", "()V"⟩
abbrev b_Circuit_lastFirst : ByteArray := prog_5_method_10_code
def y_Circuit_lastFirst : MethodName := ⟨"LoopProver$Circuit", "lastFirst", "()I"⟩
abbrev b_Circuit_drop : ByteArray := prog_5_method_9_code
def y_Circuit_drop : MethodName := ⟨"LoopProver$Circuit", "drop", "()V"⟩
abbrev b_Circuit_keep : ByteArray := prog_5_method_8_code
def y_Circuit_keep : MethodName := ⟨"LoopProver$Circuit", "keep", "([II)V"⟩
abbrev b_Solver_nextInput : ByteArray := prog_15_method_10_code
def y_Solver_nextInput : MethodName := ⟨"LoopProver$Solver", "nextInput", "()I"⟩
abbrev b_P_follow : ByteArray := prog_1_method_38_code
def y_P_follow : MethodName := ⟨"LoopProver", "follow", "(IILLoopProver$Node;)I"⟩
abbrev b_P_load : ByteArray := prog_1_method_34_code
def y_P_load : MethodName := ⟨"LoopProver", "load", "(I)V"⟩
abbrev b_P_done : ByteArray := prog_1_method_37_code
def y_P_done : MethodName := ⟨"LoopProver", "done", "(ILLoopProver$Line;)I"⟩
abbrev b_P_worth : ByteArray := prog_1_method_35_code
def y_P_worth : MethodName := ⟨"LoopProver", "worth", "(LLoopProver$Node;)I"⟩
abbrev b_Below_of : ByteArray := prog_2_method_2_code
def y_Below_of : MethodName := ⟨"LoopProver$Below", "of", "([I[I)I"⟩
abbrev b_Both_of : ByteArray := prog_3_method_2_code
def y_Both_of : MethodName := ⟨"LoopProver$Both", "of", "([I[I)I"⟩
abbrev b_Constant_of : ByteArray := prog_6_method_2_code
def y_Constant_of : MethodName := ⟨"LoopProver$Constant", "of", "([I[I)I"⟩
abbrev b_Meet_of : ByteArray := prog_10_method_2_code
def y_Meet_of : MethodName := ⟨"LoopProver$Meet", "of", "([I[I)I"⟩
abbrev b_Not_of : ByteArray := prog_12_method_2_code
def y_Not_of : MethodName := ⟨"LoopProver$Not", "of", "([I[I)I"⟩
abbrev b_Read_of : ByteArray := prog_13_method_2_code
def y_Read_of : MethodName := ⟨"LoopProver$Read", "of", "([I[I)I"⟩
abbrev b_Same_of : ByteArray := prog_14_method_2_code
def y_Same_of : MethodName := ⟨"LoopProver$Same", "of", "([I[I)I"⟩
abbrev b_Sum_of : ByteArray := prog_16_method_2_code
def y_Sum_of : MethodName := ⟨"LoopProver$Sum", "of", "([I[I)I"⟩
abbrev b_Variable_of : ByteArray := prog_18_method_2_code
def y_Variable_of : MethodName := ⟨"LoopProver$Variable", "of", "([I[I)I"⟩
abbrev b_P_holds : ByteArray := prog_1_method_36_code
def y_P_holds : MethodName := ⟨"LoopProver", "holds", "(LLoopProver$Node;)Z"⟩
abbrev b_P_conditions : ByteArray := prog_1_method_30_code
def y_P_conditions : MethodName := ⟨"LoopProver", "conditions", "()I"⟩
abbrev b_P_witness : ByteArray := prog_1_method_31_code
def y_P_witness : MethodName := ⟨"LoopProver", "witness", "(I)I"⟩
abbrev b_P_verdict : ByteArray := prog_1_method_29_code
def y_P_verdict : MethodName := ⟨"LoopProver", "verdict", "(I)LLoopProver$Verdict;"⟩
abbrev b_P_proved : ByteArray := prog_1_method_32_code
def y_P_proved : MethodName := ⟨"LoopProver", "proved", "(I)Z"⟩
abbrev b_P_failure : ByteArray := prog_1_method_33_code
def y_P_failure : MethodName := ⟨"LoopProver", "failure", "(I)I"⟩
abbrev b_P_run : ByteArray := prog_1_method_39_code
def y_P_run : MethodName := ⟨"LoopProver", "run", "(II)I"⟩
abbrev b_P_value : ByteArray := prog_1_method_40_code
def y_P_value : MethodName := ⟨"LoopProver", "value", "(II)I"⟩
abbrev b_M_init : ByteArray := prog_21_method_1_code
def y_M_init : MethodName := ⟨"LoopProverModel", "<init>", "()V"⟩
abbrev b_M_node : ByteArray := prog_21_method_5_code
def y_M_node : MethodName := ⟨"LoopProverModel", "node", "(III)I"⟩
abbrev b_M_below : ByteArray := prog_21_method_2_code
def y_M_below : MethodName := ⟨"LoopProverModel", "below", "(II)Z"⟩
abbrev b_M_numeric : ByteArray := prog_21_method_3_code
def y_M_numeric : MethodName := ⟨"LoopProverModel", "numeric", "(I)Z"⟩
abbrev b_M_truth : ByteArray := prog_21_method_4_code
def y_M_truth : MethodName := ⟨"LoopProverModel", "truth", "(I)Z"⟩
abbrev b_M_assign : ByteArray := prog_21_method_12_code
def y_M_assign : MethodName := ⟨"LoopProverModel", "assign", "(II)I"⟩
abbrev b_M_add : ByteArray := prog_21_method_11_code
def y_M_add : MethodName := ⟨"LoopProverModel", "add", "(III)I"⟩
abbrev b_M_store : ByteArray := prog_21_method_13_code
def y_M_store : MethodName := ⟨"LoopProverModel", "store", "(II)I"⟩
abbrev b_M_claim : ByteArray := prog_21_method_14_code
def y_M_claim : MethodName := ⟨"LoopProverModel", "claim", "(I)I"⟩
abbrev b_M_assume : ByteArray := prog_21_method_15_code
def y_M_assume : MethodName := ⟨"LoopProverModel", "assume", "(I)I"⟩
abbrev b_M_when : ByteArray := prog_21_method_17_code
def y_M_when : MethodName := ⟨"LoopProverModel", "when", "(I)I"⟩
abbrev b_M_begin : ByteArray := prog_21_method_16_code
def y_M_begin : MethodName := ⟨"LoopProverModel", "begin", "(III)I"⟩
abbrev b_M_loop : ByteArray := prog_21_method_18_code
def y_M_loop : MethodName := ⟨"LoopProverModel", "loop", "(II)I"⟩
abbrev b_M_other : ByteArray := prog_21_method_19_code
def y_M_other : MethodName := ⟨"LoopProverModel", "other", "()I"⟩
abbrev b_M_end : ByteArray := prog_21_method_20_code
def y_M_end : MethodName := ⟨"LoopProverModel", "end", "()I"⟩
abbrev b_M_clear : ByteArray := prog_21_method_21_code
def y_M_clear : MethodName := ⟨"LoopProverModel", "clear", "()I"⟩
abbrev b_M_verify : ByteArray := prog_21_method_26_code
def y_M_verify : MethodName := ⟨"LoopProverModel", "verify", "(II)I"⟩
abbrev b_M_decide : ByteArray := prog_21_method_25_code
def y_M_decide : MethodName := ⟨"LoopProverModel", "decide", "(IIZI)V"⟩
abbrev b_M_take : ByteArray := prog_21_method_9_code
def y_M_take : MethodName := ⟨"LoopProverModel", "take", "(I)V"⟩
abbrev b_M_holds : ByteArray := prog_21_method_8_code
def y_M_holds : MethodName := ⟨"LoopProverModel", "holds", "(I)Z"⟩
abbrev b_M_eval : ByteArray := prog_21_method_6_code
def y_M_eval : MethodName := ⟨"LoopProverModel", "eval", "(I)I"⟩
abbrev b_M_worked : ByteArray := prog_21_method_7_code
def y_M_worked : MethodName := ⟨"LoopProverModel", "worked", "(III)I"⟩
abbrev b_M_goesRight : ByteArray := prog_21_method_24_code
def y_M_goesRight : MethodName := ⟨"LoopProverModel", "goesRight", "(I)Z"⟩
abbrev b_M_change : ByteArray := prog_21_method_22_code
def y_M_change : MethodName := ⟨"LoopProverModel", "change", "(I)V"⟩
abbrev b_M_next : ByteArray := prog_21_method_23_code
def y_M_next : MethodName := ⟨"LoopProverModel", "next", "(I)I"⟩
abbrev b_M_conditions : ByteArray := prog_21_method_27_code
def y_M_conditions : MethodName := ⟨"LoopProverModel", "conditions", "()I"⟩
abbrev b_M_witness : ByteArray := prog_21_method_29_code
def y_M_witness : MethodName := ⟨"LoopProverModel", "witness", "(I)I"⟩
abbrev b_M_is : ByteArray := prog_21_method_28_code
def y_M_is : MethodName := ⟨"LoopProverModel", "is", "(I)Z"⟩
abbrev b_M_proved : ByteArray := prog_21_method_30_code
def y_M_proved : MethodName := ⟨"LoopProverModel", "proved", "(I)Z"⟩
abbrev b_M_failure : ByteArray := prog_21_method_31_code
def y_M_failure : MethodName := ⟨"LoopProverModel", "failure", "(I)I"⟩
abbrev b_M_run : ByteArray := prog_21_method_32_code
def y_M_run : MethodName := ⟨"LoopProverModel", "run", "(II)I"⟩
abbrev b_M_number : ByteArray := prog_21_method_10_code
def y_M_number : MethodName := ⟨"LoopProverModel", "number", "()I"⟩
abbrev b_M_value : ByteArray := prog_21_method_33_code
def y_M_value : MethodName := ⟨"LoopProverModel", "value", "(II)I"⟩
/-- the words that a call doesn't hand on by itself: nest mates' links, declarations, casts -/
def nbW : List Cond := [(.methodLinkNest "LoopProver" (33 : Nat) ({ cls := "LoopProver$Circuit", name := "<init>", desc := "()V" } : MethodName) "LoopProver"), (.fieldLinkNest "LoopProver$Checker" (31 : Nat) "LoopProver$Circuit" "literals" "[I" "LoopProver"), (.fieldLinkNest "LoopProver$Solver" (73 : Nat) "LoopProver$Circuit" "literals" "[I" "LoopProver"), (.fieldLinkNest "LoopProver$Checker" (28 : Nat) "LoopProver$Circuit" "starts" "[I" "LoopProver"), (.fieldLinkNest "LoopProver$Solver" (70 : Nat) "LoopProver$Circuit" "starts" "[I" "LoopProver"), (.fieldLinkNest "LoopProver$Solver" (45 : Nat) "LoopProver$Circuit" "clauses" "I" "LoopProver"), (.fieldLinkNest "LoopProver$Checker" (42 : Nat) "LoopProver$Circuit" "clauses" "I" "LoopProver"), (.fieldLinkNest "LoopProver$Solver" (54 : Nat) "LoopProver$Circuit" "variables" "I" "LoopProver"), (.fieldLinkNest "LoopProver$Checker" (35 : Nat) "LoopProver$Circuit" "variables" "I" "LoopProver"), (.fieldLinkNest "LoopProver$Solver" (83 : Nat) "LoopProver$Circuit" "clauseOf" "[I" "LoopProver"), (.fieldLinkNest "LoopProver$Solver" (90 : Nat) "LoopProver$Circuit" "nextOf" "[I" "LoopProver"), (.fieldLinkNest "LoopProver$Solver" (80 : Nat) "LoopProver$Circuit" "places" "[I" "LoopProver"), (.methodLinkNest "LoopProver" (42 : Nat) ({ cls := "LoopProver$Checker", name := "<init>", desc := "()V" } : MethodName) "LoopProver"), (.fieldLinkNest "LoopProver" (320 : Nat) "LoopProver$Solver" "truths" "[I" "LoopProver"), (.fieldLinkNest "LoopProver" (317 : Nat) "LoopProver$Solver" "sound" "Z" "LoopProver"), (.methodLinkNest "LoopProver" (52 : Nat) ({ cls := "LoopProver$Flow", name := "<init>", desc := "()V" } : MethodName) "LoopProver"), (.fieldLinkNest "LoopProver" (246 : Nat) "LoopProver$Flow" "scene" "[I" "LoopProver"), (.fieldLinkNest "LoopProver" (266 : Nat) "LoopProver$Flow" "alive" "I" "LoopProver"), (.fieldLinkNest "LoopProver" (292 : Nat) "LoopProver$Flow" "wrong" "I" "LoopProver"), (.fieldLinkNest "LoopProver" (191 : Nat) "LoopProver$Line" "kind" "LLoopProver$Kind;" "LoopProver"), (.fieldLinkNest "LoopProver" (249 : Nat) "LoopProver$Line" "v" "I" "LoopProver"), (.fieldLinkNest "LoopProver" (236 : Nat) "LoopProver$Line" "a" "LLoopProver$Node;" "LoopProver"), (.fieldLinkNest "LoopProver" (228 : Nat) "LoopProver$Line" "b" "LLoopProver$Node;" "LoopProver"), (.fieldLinkNest "LoopProver" (194 : Nat) "LoopProver$Line" "other" "I" "LoopProver"), (.fieldLinkNest "LoopProver" (203 : Nat) "LoopProver$Line" "end" "I" "LoopProver"), (.fieldLinkNest "LoopProver" (200 : Nat) "LoopProver$Line" "opened" "I" "LoopProver"), (.methodLinkNest "LoopProver" (298 : Nat) ({ cls := "LoopProver$Verdict", name := "<init>", desc := "()V" } : MethodName) "LoopProver"), (.fieldLinkNest "LoopProver" (299 : Nat) "LoopProver$Verdict" "witness" "I" "LoopProver"), (.fieldLinkNest "LoopProver" (302 : Nat) "LoopProver$Verdict" "failure" "I" "LoopProver"), (.fieldLinkNest "LoopProver" (305 : Nat) "LoopProver$Verdict" "proved" "Z" "LoopProver"), (.declares ({ cls := "LoopProver$Node", name := "gates", desc := "(LLoopProver$Circuit;[I[I)V" } : MethodName)), (.declares ({ cls := "java/lang/Enum", name := "ordinal", desc := "()I" } : MethodName)), (.declares ({ cls := "LoopProver$Node", name := "of", desc := "([I[I)I" } : MethodName)), (.castable "LoopProver$Below" "LoopProver$Node"), (.castable "LoopProver$Both" "LoopProver$Node"), (.castable "LoopProver$Constant" "LoopProver$Node"), (.castable "LoopProver$Meet" "LoopProver$Node"), (.castable "LoopProver$Not" "LoopProver$Node"), (.castable "LoopProver$Read" "LoopProver$Node"), (.castable "LoopProver$Same" "LoopProver$Node"), (.castable "LoopProver$Sum" "LoopProver$Node"), (.castable "LoopProver$Variable" "LoopProver$Node"), (.castable "LoopProver$Line" "LoopProver$Line"), (.declares ({ cls := "java/lang/Object", name := "getClass", desc := "()Ljava/lang/Class;" } : MethodName)), (.castable "LoopProver" "java/lang/Object"), (.castable "LoopProver$Circuit" "java/lang/Object"), (.castable "LoopProver$Solver" "java/lang/Object"), (.castable "LoopProver$Checker" "java/lang/Object"), (.castable "LoopProver$Flow" "java/lang/Object"), (.castable "LoopProverModel" "java/lang/Object"), (.castable "LoopProver$Constant" "java/lang/Object"), (.castable "LoopProver$Variable" "java/lang/Object"), (.castable "LoopProver$Read" "java/lang/Object"), (.castable "LoopProver$Sum" "java/lang/Object"), (.castable "LoopProver$Meet" "java/lang/Object"), (.castable "LoopProver$Below" "java/lang/Object"), (.castable "LoopProver$Same" "java/lang/Object"), (.castable "LoopProver$Not" "java/lang/Object"), (.castable "LoopProver$Both" "java/lang/Object"), (.castable "LoopProver$Line" "java/lang/Object"), (.castable "LoopProver$Verdict" "java/lang/Object"), (.castable "LoopProver$Kind" "java/lang/Object")]
theorem nbW_in : ∀ w ∈ nbW, w ∈ tables_1 := by
  intro w hw
  obtain ⟨i, hi, rfl⟩ := List.getElem_of_mem hw
  match i, hi with
  | 0, _ => exact in1 71 rfl
  | 1, _ => exact in1 76 rfl
  | 2, _ => exact in1 77 rfl
  | 3, _ => exact in1 79 rfl
  | 4, _ => exact in1 80 rfl
  | 5, _ => exact in1 83 rfl
  | 6, _ => exact in1 84 rfl
  | 7, _ => exact in1 86 rfl
  | 8, _ => exact in1 87 rfl
  | 9, _ => exact in1 89 rfl
  | 10, _ => exact in1 91 rfl
  | 11, _ => exact in1 93 rfl
  | 12, _ => exact in1 128 rfl
  | 13, _ => exact in1 150 rfl
  | 14, _ => exact in1 164 rfl
  | 15, _ => exact in1 203 rfl
  | 16, _ => exact in1 208 rfl
  | 17, _ => exact in1 210 rfl
  | 18, _ => exact in1 212 rfl
  | 19, _ => exact in3 84 rfl
  | 20, _ => exact in3 86 rfl
  | 21, _ => exact in3 88 rfl
  | 22, _ => exact in3 90 rfl
  | 23, _ => exact in3 92 rfl
  | 24, _ => exact in3 94 rfl
  | 25, _ => exact in3 96 rfl
  | 26, _ => exact in3 183 rfl
  | 27, _ => exact in3 188 rfl
  | 28, _ => exact in3 190 rfl
  | 29, _ => exact in3 191 rfl
  | 30, _ => exact in3 236 rfl
  | 31, _ => exact in4 62 rfl
  | 32, _ => exact in4 180 rfl
  | 33, _ => exact in5 210 rfl
  | 34, _ => exact in5 211 rfl
  | 35, _ => exact in5 212 rfl
  | 36, _ => exact in5 213 rfl
  | 37, _ => exact in5 214 rfl
  | 38, _ => exact in5 215 rfl
  | 39, _ => exact in5 216 rfl
  | 40, _ => exact in5 217 rfl
  | 41, _ => exact in5 218 rfl
  | 42, _ => exact in5 219 rfl
  | 43, _ => exact in5 222 rfl
  | 44, _ => exact in5 223 rfl
  | 45, _ => exact in5 224 rfl
  | 46, _ => exact in5 225 rfl
  | 47, _ => exact in5 226 rfl
  | 48, _ => exact in5 227 rfl
  | 49, _ => exact in5 228 rfl
  | 50, _ => exact in5 229 rfl
  | 51, _ => exact in5 230 rfl
  | 52, _ => exact in5 231 rfl
  | 53, _ => exact in5 232 rfl
  | 54, _ => exact in5 233 rfl
  | 55, _ => exact in5 234 rfl
  | 56, _ => exact in5 235 rfl
  | 57, _ => exact in5 236 rfl
  | 58, _ => exact in5 237 rfl
  | 59, _ => exact in5 238 rfl
  | 60, _ => exact in5 239 rfl
  | 61, _ => exact in6 0 rfl
  | i + 62, h => exact absurd h (by simp [nbW])
end
section
/-! THE CORE of this proof's own kit: the book of the tables, worlds as lists of chunks, the judgement V (a frame with listed locals), contracts Con -/
def iI (z : Int) : Int32 := Int32.ofInt z
def bI (b : Bool) : Int32 := if b then 1 else 0
/-- the book: class numbers and slots; array classes; the ground's size; the ground; the enum constants' addresses -/
abbrev BK : Type := va_G × (Nat → ClassId) × Nat × Heap × (Nat → Nat)
def TY (b : BK) : List (ClassId × FieldType) := [(b.2.1 0, .int), (b.2.1 1, .boolean), (b.2.1 2, .long), (b.2.1 3, .object "java/lang/Object"), (b.2.1 4, .object "LoopProver$Verdict"), (b.2.1 5, .object "LoopProver$Flow")]
def kindNames : List String := ["ASSIGN", "STORE", "CLAIM", "ASSUME", "WHEN", "OTHER", "LOOP", "END"]
def kindF : List (String × String × String × List Int32) := [("java/lang/Enum", "ordinal", "I", [0, 1, 2, 3, 4, 5, 6, 7])]
def Gnd (b : BK) (H : Heap) : Prop := b.2.2.1 ≤ H.size ∧ ∀ q : Nat, q < b.2.2.1 → H[q]? = b.2.2.2.1[q]?
def KnE (b : BK) (U : State) : Prop := va_En "LoopProver$Kind" "LLoopProver$Kind;" kindNames kindF b.2.2.2.2 (fun q => b.2.2.1 ≤ q) U b.2.2.2.1
def Kn (b : BK) (U : State) : Prop := va_K b.1 CL (TY b) U ∧ (∀ w ∈ nbW, va_Nw w U) ∧ (va_AO "java/lang/Object" U ∧ va_AO "LoopProver$Verdict" U ∧ va_AO "LoopProver$Flow" U) ∧ KnE b U ∧ b.2.2.2.1.size = b.2.2.1
def nbOK : Cond → Bool
  | .fieldLinkNest .. => true
  | .methodLinkNest .. => true
  | .declares _ => true
  | .castable .. => true
  | _ => false
theorem nbW_ok : ∀ w ∈ nbW, nbOK w = true := by decide +kernel
theorem nb_tab {w : Cond} (h : nbOK w = true) : w.onTables = true := by
  cases w <;> first | rfl | (simp [nbOK] at h)
theorem nb_warm {w : Cond} (h : nbOK w = true) {s U : State} (hW : s.WarmedH U.vm) (hZ : va_Nw w s) : va_Nw w U := by
  cases w <;> first | exact va_Nw.warmF hW hZ | exact va_Nw.warmM hW hZ | exact va_Nw.warmD hW hZ | exact va_Nw.warmC hW hZ | (simp [nbOK] at h)
theorem Kn.warm {b : BK} {s U : State} (hW : s.WarmedH U.vm) (h : Kn b s) : Kn b U := by
  obtain ⟨h1, h2, ⟨h3, h4, h5⟩, h6, h7⟩ := h
  exact ⟨va_K.moved hW.alike h1, fun w hw => nb_warm (nbW_ok w hw) hW (h2 w hw), ⟨va_AO.moved hW.alike h3, va_AO.moved hW.alike h4, va_AO.moved hW.alike h5⟩, va_En.moved hW.alike h6, h7⟩
theorem Kn.same {b : BK} {s U : State} (e : s.vm = U.vm) (h : Kn b s) : Kn b U := Kn.warm (by rw [← e]; exact State.WarmedH.refl s) h
-- slots of a heap
def slT (f : Nat → Nat) : Nat → Nat
  | 0 => 0
  | n + 1 => slT f n + f n
def szAt (H : Heap) (i : Nat) : Nat := match H[i]? with
  | some c => c.slots.size
  | none => 0
def slH (H : Heap) : Nat := slT (szAt H) H.size
theorem slT_congr {f g : Nat → Nat} : ∀ n : Nat, (∀ i, i < n → f i = g i) → slT f n = slT g n
  | 0, _ => rfl
  | n + 1, h => by
    show slT f n + f n = slT g n + g n
    rw [slT_congr n (fun i hi => h i (by omega)), h n (by omega)]
theorem slT_mono (f : Nat → Nat) : ∀ {n k : Nat}, n ≤ k → slT f n ≤ slT f k := by
  intro n k h
  induction h with
  | refl => exact Nat.le_refl _
  | step _ ih => exact Nat.le_trans ih (Nat.le_add_right _ _)
theorem slH_same {H H1 : Heap} (hz : H1.size = H.size) (h : ∀ i, i < H.size → szAt H1 i = szAt H i) : slH H1 = slH H := by
  unfold slH
  rw [hz]
  exact slT_congr _ h
theorem slH_push {H H1 : Heap} {n : Nat} (hz : H1.size = H.size + 1) (h : ∀ i, i < H.size → H1[i]? = H[i]?) (hn : szAt H1 H.size = n) : slH H1 = slH H + n := by
  unfold slH
  rw [hz]
  show slT (szAt H1) H.size + szAt H1 H.size = _
  rw [hn, slT_congr (f := szAt H1) (g := szAt H) H.size (fun i hi => by unfold szAt; rw [h i hi])]
theorem sl_drop (H : Heap) (k : Nat) (hk : k ≤ H.size) : ((H.toList.drop k).map (·.slots.size)).sum + slT (szAt H) k = slH H := by
  obtain ⟨d, hd⟩ : ∃ d, H.size = k + d := ⟨H.size - k, by omega⟩
  induction d generalizing k with
  | zero =>
    have e : k = H.size := by omega
    subst e
    have : H.toList.drop H.size = [] := by rw [List.drop_eq_nil_iff]; simp
    rw [this]
    simp [slH]
  | succ d ih =>
    have hlt : k < H.toList.length := by rw [Array.length_toList]; omega
    rw [List.drop_eq_getElem_cons hlt, List.map_cons, List.sum_cons]
    have h1 := ih (k + 1) (by omega) (by omega)
    have h2 : slT (szAt H) (k + 1) = slT (szAt H) k + szAt H k := rfl
    have h3 : szAt H k = (H.toList[k]).slots.size := by
      unfold szAt
      have : H[k]? = some H.toList[k] := by
        rw [← Array.getElem?_toList, List.getElem?_eq_getElem hlt]
      rw [this]
    omega
section TI
variable {p : Program} {l : Launch} {e : Env} {R : Room} {s : State} {m : MethodId} {args : Array Value} {below : List Frame} {meth : Method} {c : Code} {H : Heap} {locs : List Loc} {cells slots : Nat} {Q : State → Prop}
/-- the new cells and slots are what the heap says: the indices of W don't matter -/
theorem W_tight {g : JFrame} (k : W p l e R s m args below meth c H locs (H.size - s.heap.size) (slH H - slH s.heap) Q g) : W p l e R s m args below meth c H locs cells slots Q g := by
  intro T hT X
  refine k T hT { X with same := ?_ }
  obtain ⟨h0, h1, h2, h3, h4, h5⟩ := X.same
  have hh : (T.setVm s.vm).heap = H := hT
  rw [hh] at h1 h2 h3 h4 h5
  refine ⟨h0, by rw [hh]; exact h1, by rw [hh]; omega, by rw [hh]; exact h3, ?_, by rw [hh]; exact h5⟩
  rw [hh]
  have e1 := sl_drop H s.heap.size h1
  have e2 : slT (szAt H) s.heap.size = slH s.heap := by
    unfold slH
    refine slT_congr _ (fun i hi => ?_)
    obtain ⟨c0, hc0⟩ : ∃ c0, s.heap[i]? = some c0 := ⟨_, Array.getElem?_eq_getElem hi⟩
    obtain ⟨c1, g1, -, g3, -⟩ := h5 i c0 hc0
    unfold szAt
    rw [g1, hc0]
    exact g3
  omega
end TI
-- decoded instructions: place, instruction, length, next place
abbrev DT : Type := List (Nat × Instr × Nat × Nat)
def Dc (cc : ByteArray) (pc : Nat) (ins : Instr) (len n : Nat) : Prop := decode cc pc = .ok (ins, len) ∧ pc + len = n
def dchk (cc : ByteArray) (T : DT) : Bool := T.all (fun q => decide (decode cc q.1 = .ok (q.2.1, q.2.2.1)) && (q.1 + q.2.2.1 == q.2.2.2))
def Dec (cc : ByteArray) (T : DT) : Prop := ∀ q ∈ T, Dc cc q.1 q.2.1 q.2.2.1 q.2.2.2
theorem Dec.of {cc : ByteArray} {T : DT} (h : dchk cc T = true) : Dec cc T := by
  intro q hq
  have h1 := List.all_eq_true.mp h q hq
  simp only [Bool.and_eq_true, decide_eq_true_eq, beq_iff_eq] at h1
  exact h1
theorem dat {cc : ByteArray} {T : DT} (D : Dec cc T) (k : Nat) {pc : Nat} {ins : Instr} {len n : Nat} (h : T[k]? = some (pc, ins, len, n)) : Dc cc pc ins len n := D (pc, ins, len, n) (List.mem_of_getElem? h)
section TB
variable {p : Program} {l : Launch} {e : Env} {R : Room} {s : State} {m : MethodId} {args : Array Value} {below : List Frame} {meth : Method} {c : Code} {H : Heap} {locs : List Loc} {cells slots : Nat} {Q : State → Prop}
/-- what W's indices say of the heap -/
theorem W_bound {g : JFrame} (k : s.heap.size ≤ H.size → slH s.heap ≤ slH H → H.size ≤ s.heap.size + cells → slH H ≤ slH s.heap + slots → W p l e R s m args below meth c H locs (H.size - s.heap.size) (slH H - slH s.heap) Q g) : W p l e R s m args below meth c H locs cells slots Q g := by
  intro T hT X
  obtain ⟨h0, h1, h2, h3, h4, h5⟩ := X.same
  have hh : (T.setVm s.vm).heap = H := hT
  rw [hh] at h1 h2 h3 h4 h5
  have e1 := sl_drop H s.heap.size h1
  have e2 : slT (szAt H) s.heap.size = slH s.heap := by
    unfold slH
    refine slT_congr _ (fun i hi => ?_)
    obtain ⟨c0, hc0⟩ : ∃ c0, s.heap[i]? = some c0 := ⟨_, Array.getElem?_eq_getElem hi⟩
    obtain ⟨c1, g1, -, g3, -⟩ := h5 i c0 hc0
    unfold szAt
    rw [g1, hc0]
    exact g3
  exact W_tight (k h1 (by omega) h2 (by omega)) T hT X
end TB
-- worlds: b the book; BC, BS the bounds; S0 the count of slots at the start; sz cells; sl bounds the count of slots
def Wd (b : BK) (BC BS S0 : Nat) (s : State) (A : Nat → Prop) (Ws : List va_W) (sz sl : Nat) (H : Heap) (lo : List Loc) : Prop :=
  va_P b.1 CL Ws.flatten H ∧ va_D A Ws.flatten ∧ va_S A s.heap H lo ∧ (∀ q : Nat, s.heap.size ≤ q → A q) ∧ (∀ q : Nat, A q → b.2.2.1 ≤ q) ∧ Gnd b H ∧ H.size = sz ∧ slH H + S0 ≤ sl + slH s.heap ∧ sz ≤ BC ∧ sl ≤ BS
def PW (b : BK) (Ws : List va_W) (H : Heap) : Prop := va_P b.1 CL Ws.flatten H ∧ va_D (fun q => b.2.2.1 ≤ q) Ws.flatten ∧ Gnd b H
def Ctx (p : Program) (R : Room) (s : State) (m : MethodId) (args : Array Value) (meth : Method) (c : Code) (cc : ByteArray) (nL : Nat) (own : String) (b : BK) (BC BS S0 FR LO : Nat) : Prop :=
  p.tables.exec = Jvm.exec ∧ c.code = cc ∧ c.maxLocals = nL ∧ s.vm.findClass own = some m.cls ∧ (∀ w ∈ tblG, w.before args s = true) ∧ Kn b s ∧ (R.cells + s.heap.size = BC ∧ R.slots + S0 = BS) ∧ (FR ≤ R.frames ∧ LO ≤ R.locals) ∧ meth.locks = false
def V (p : Program) (l : Launch) (e : Env) (R : Room) (s : State) (m : MethodId) (args : Array Value) (below : List Frame) (meth : Method) (c : Code) (Q : State → Prop) (nL : Nat) (H : Heap) (lo : List Loc) (pc : Nat) (L : List (Nat × Value)) (st : List Value) : Prop :=
  ∀ ls : Array Slot, lv_has ls nL L → W p l e R s m args below meth c H lo (H.size - s.heap.size) (slH H - slH s.heap) Q (F0 m pc ls st)
/-- a contract: from any heap of sz cells with the world Ws, the count of slots at sl: it returns r with post, the world is Wp; nothing else changed; BC, BS bound cells and slots throughout -/
def Con (l : Launch) (b : BK) (y : MethodName) (cb : ByteArray) (mL : Nat) (rt : Option FieldType) (fr lc BC BS sz sl : Nat) (av : List Value) (Ws : List va_W) {S : Type} (post : Option Value → Nat → Nat → S → Prop) (Wp : S → List va_W) : Prop :=
  Met l y (Cond.code y cb mL rt :: tblG) { frames := fr, cells := BC - sz, slots := BS - sl, locals := lc }
    (fun v U => v = av.toArray ∧ U.heap.size = sz ∧ sz ≤ BC ∧ sl ≤ BS ∧ Kn b U ∧ PW b Ws U.heap)
    (fun _ st o t => ∃ (r : Option Value) (u : S) (sl' : Nat), o = .returned r ∧ post r t.heap.size sl' u ∧ t.heap.size ≤ BC ∧ sl' ≤ BS ∧ slH t.heap + sl ≤ sl' + slH st.heap ∧ va_P b.1 CL (Wp u).flatten t.heap ∧ va_D (va_A Ws.flatten sz) (Wp u).flatten ∧ va_F (va_A Ws.flatten sz) st t)
    (BC - sz) (BS - sl) (va_A Ws.flatten sz)
/-- which instruction gives which answer -/
def retI (ins : Instr) (r : Option Value) (st : List Value) (rt : Option FieldType) : Prop :=
  (ins = .return_ ∧ r = none ∧ st = [] ∧ rt = none) ∨ (∃ (v : Int32) (ty : FieldType), ins = .ireturn ∧ r = some (.int v) ∧ st = [.int v] ∧ rt = some ty ∧ narrow ty (.int v) = .int v) ∨
  (∃ (v : Value) (ty : FieldType), ins = .areturn ∧ r = some v ∧ st = [v] ∧ rt = some ty ∧ ((∃ n, ty = .object n) ∨ ∃ t, ty = .array t) ∧ (v = .null ∨ ∃ a, v = .ref a))
def RetK (p : Program) (l : Launch) (e : Env) (R : Room) (s : State) (m : MethodId) (args : Array Value) (below : List Frame) (meth : Method) (c : Code) (Q : State → Prop) (nL : Nat) (cc : ByteArray) (rt : Option FieldType) (b : BK) (BC BS S0 : Nat) (A : Nat → Prop) {S : Type} (post : Option Value → Nat → Nat → S → Prop) (Wp : S → List va_W) : Prop :=
  ∀ (r : Option Value) (u : S) (sz sl : Nat) (H : Heap) (lo : List Loc) (pc : Nat) (L : List (Nat × Value)) (st : List Value) (ins : Instr) (n : Nat), post r sz sl u → Wd b BC BS S0 s A (Wp u) sz sl H lo → Dc cc pc ins 1 n → retI ins r st rt → V p l e R s m args below meth c Q nL H lo pc L st
theorem con_of {l : Launch} {b : BK} {y : MethodName} {cb : ByteArray} {mL : Nat} {rt : Option FieldType} {fr lc BC BS sz sl : Nat} {av : List Value} {Ws : List va_W} {S : Type} {post : Option Value → Nat → Nat → S → Prop} {Wp : S → List va_W} {L0 : List (Nat × Value)}
    (hy : plainName y.cls = true) (hn : (lg_sl av).length ≤ mL) (hL : lv_args 0 av = L0)
    (body : ∀ (p : Program) (e : Env) (R : Room) (s : State) (m : MethodId) (args : Array Value) (below : List Frame) (meth : Method) (c : Code) (Q : State → Prop) (A : Nat → Prop) (H : Heap) (lo : List Loc), Ctx p R s m args meth c cb mL y.cls b BC BS sl fr lc → (y.name = "<init>" → meth.name = "<init>") → Wd b BC BS sl s A Ws sz sl H lo → RetK p l e R s m args below meth c Q mL cb rt b BC BS sl A post Wp → V p l e R s m args below meth c Q mL H lo 0 L0 []) :
    Con l b y cb mL rt fr lc BC BS sz sl av Ws post Wp := by
  refine Met.ofW (cc := cb) (maxL := mL) (ret := rt) hy rfl ?_
  intro p e s m args below meth c s₁ B hml hv
  obtain ⟨rfl, hsz, h1, h2, hK, hP, hD, hG⟩ := hv
  have hts := atoms_spec (ws := Cond.code y cb mL rt :: tblG) B.pre
  have hr := B.returns
  have hx := B.exec
  have hb := B.bytes
  have hlocks := B.notSynchronized
  subst hL
  rw [lg_entry_eq]
  refine W_tight (body p e _ s m _ below meth c _ (va_A Ws.flatten sz) s.heap [] ⟨hx, hb, hml, findClass_of_methodNamed B.named, fun w hw => hts w (List.mem_cons_of_mem _ hw), hK, ⟨?_, ?_⟩, ⟨Nat.le_refl _, Nat.le_refl _⟩, hlocks⟩ (fun h => ((name_of_methodNamed B.named B.method).1).trans h) ⟨hP, hD.self, va_S.rf, ?_, ?_, hG, hsz, by omega, h1, h2⟩ ?_ _ (lv_entry av hn))
  · show BC - sz + s.heap.size = BC
    omega
  · show BS - sl + sl = BS
    omega
  · intro q hq
    exact Or.inr (by omega)
  · intro q hq
    rcases hq with ⟨k, x, hk⟩ | hq
    · exact hD.2 k _ hk
    · have := hG.1
      omega
  · intro r u sz' sl' H lo pc L st ins n hp hw hd hI ls hl
    obtain ⟨w1, w2, w3, w4, w5, w6, w7, w8, w9, w10⟩ := hw
    have hq : ∀ t : State, t.heap = H → ∃ (r' : Option Value) (u : S) (sl' : Nat), (Outcome.returned r : Outcome) = .returned r' ∧ post r' t.heap.size sl' u ∧ t.heap.size ≤ BC ∧ sl' ≤ BS ∧ slH t.heap + sl ≤ sl' + slH s.heap ∧ va_P b.1 CL (Wp u).flatten t.heap ∧ va_D (va_A Ws.flatten sz) (Wp u).flatten ∧ va_F (va_A Ws.flatten sz) s t := by
      intro t ht
      subst ht
      exact ⟨r, u, sl', rfl, by rw [w7]; exact hp, by rw [w7]; exact w9, w10, w8, w1, w2, w3.F rfl⟩
    have hc1 : H.size - s.heap.size ≤ BC - sz := by omega
    have hc2 : slH H - slH s.heap ≤ BS - sl := by omega
    rcases hI with ⟨rfl, rfl, rfl, rfl⟩ | ⟨v, ty, rfl, rfl, rfl, rfl, hnar⟩ | ⟨v, ty, rfl, rfl, rfl, rfl, hty, hv⟩
    · refine W.widen hc1 hc2 (W.vret hx hb hr (fun t ht _ => hq t ht) (fun q hq => w3.2.2 q hq) hd.1)
    · refine W.widen hc1 hc2 (W.zret hx hb hr hnar (fun t ht _ => hq t ht) (fun q hq => w3.2.2 q hq) hd.1)
    · refine W.widen hc1 hc2 (W.aret hx hb hr hty hv (fun t ht _ => hq t ht) (fun q hq => w3.2.2 q hq) hd.1)
end
section
/-! ROWS: an instruction a row, in V -/
abbrev cN (b : BK) (a n : Nat) (f : Nat → Nat) : Nat × va_E := (a, .inl (b.2.1 0, n, .inl (fun j => nI (f j))))
abbrev cZ (b : BK) (a n : Nat) (f : Nat → Int) : Nat × va_E := (a, .inl (b.2.1 0, n, .inl (fun j => iI (f j))))
abbrev cB (b : BK) (a n : Nat) (f : Nat → Bool) : Nat × va_E := (a, .inl (b.2.1 1, n, .inl (fun j => bI (f j))))
abbrev cL (b : BK) (a n : Nat) (f : Nat → Nat) : Nat × va_E := (a, .inl (b.2.1 2, n, .inr (.inl (fun j => lN (f j)))))
abbrev cR (b : BK) (t a n : Nat) (f : Nat → Option Nat) : Nat × va_E := (a, .inl (b.2.1 t, n, .inr (.inr (.inr (.inr f)))))
abbrev cO (a ci : Nat) (fs : List Value) : Nat × va_E := (a, .inr (ci, fs))
-- chunks
theorem fl_at {Ws : List va_W} {w : va_W} {x : Nat × va_E} {i j : Nat} (hi : Ws[i]? = some w) (hj : w[j]? = some x) : ∃ q : Nat, Ws.flatten[q]? = some x ∧ ∀ x', Ws.flatten.set q x' = (Ws.set i (w.set j x')).flatten := by
  induction Ws generalizing i with
  | nil => simp at hi
  | cons v Ws ih =>
    cases i with
    | zero =>
      simp at hi
      subst hi
      have hlt : j < v.length := (List.getElem?_eq_some_iff.mp hj).1
      refine ⟨j, ?_, fun x' => ?_⟩
      · rw [List.flatten_cons, List.getElem?_append_left hlt]
        exact hj
      · simp only [List.set_cons_zero, List.flatten_cons]
        rw [List.set_append_left _ _ hlt]
    | succ i =>
      simp at hi
      obtain ⟨q, h1, h2⟩ := ih hi
      refine ⟨v.length + q, ?_, fun x' => ?_⟩
      · rw [List.flatten_cons, List.getElem?_append_right (by omega)]
        simpa using h1
      · simp only [List.set_cons_succ, List.flatten_cons]
        rw [← h2 x', List.set_append_right _ _ (by omega)]
        simp
def pick (is : List Nat) (Ws : List va_W) : List va_W := is.filterMap (fun i => Ws[i]?)
theorem pick_all (Ws : List va_W) : (List.range Ws.length).filterMap (fun i => Ws[i]?) = Ws := by
  induction Ws with
  | nil => rfl
  | cons w Ws ih =>
    rw [List.length_cons, List.range_succ_eq_map, List.filterMap_cons]
    simp only [List.getElem?_cons_zero, List.filterMap_map]
    congr 1
theorem pick_perm {Ws Wc Wr : List va_W} (isC isR : List Nat) {NW : Nat} (hNW : Ws.length = NW) (hp : (isC ++ isR).isPerm (List.range NW) = true) (hC : pick isC Ws = Wc) (hR : pick isR Ws = Wr) : Ws.flatten.Perm (Wc.flatten ++ Wr.flatten) := by
  subst hNW
  have h1 : (isC ++ isR).Perm (List.range Ws.length) := List.isPerm_iff.mp hp
  have h2 := h1.filterMap (fun i => Ws[i]?)
  rw [List.filterMap_append, pick_all] at h2
  have h3 := (h2.symm).flatten
  rw [List.flatten_append] at h3
  subst hC; subst hR
  exact h3
theorem va_P.mem {D : va_G} {cl : List vw_C} {ws : va_W} {H : Heap} (h : va_P D cl ws H) {x : Nat × va_E} (hx : x ∈ ws) : va_at D cl x H := by
  obtain ⟨i, hi⟩ := List.getElem?_of_mem hx
  exact h i x hi
theorem va_P.of_mem {D : va_G} {cl : List vw_C} {ws : va_W} {H : Heap} (h : ∀ x ∈ ws, va_at D cl x H) : va_P D cl ws H := fun k q hk => h q (List.mem_of_getElem? hk)
theorem va_D.nodup {A : Nat → Prop} {ws : va_W} (h : va_D A ws) : (ws.map (·.1)).Nodup := by
  refine List.pairwise_iff_getElem.mpr fun i j hi hj hij e => ?_
  have hi' : i < ws.length := by simpa using hi
  have hj' : j < ws.length := by simpa using hj
  have := h.1 i j _ _ (List.getElem?_eq_getElem hi') (List.getElem?_eq_getElem hj') (by simpa using e)
  omega
theorem va_D.of_nodup {A : Nat → Prop} {ws : va_W} (h : (ws.map (·.1)).Nodup) (hA : ∀ x ∈ ws, A x.1) : va_D A ws := by
  refine ⟨fun i j x y hi hj e => ?_, fun k x hk => hA x (List.mem_of_getElem? hk)⟩
  have h1 : (ws.map (·.1))[i]? = some x.1 := by rw [List.getElem?_map, hi]; rfl
  have h2 : (ws.map (·.1))[j]? = some x.1 := by rw [List.getElem?_map, hj, e]; rfl
  have hi' : i < (ws.map (·.1)).length := (List.getElem?_eq_some_iff.mp h1).1
  exact (List.getElem?_inj hi' h).mp (h1.trans h2.symm)
theorem va_D.perm {A : Nat → Prop} {ws ws' : va_W} (h : va_D A ws) (hp : ws.Perm ws') : va_D A ws' :=
  va_D.of_nodup ((hp.map (·.1)).nodup_iff.mp h.nodup) (fun x hx => by
    obtain ⟨i, hi⟩ := List.getElem?_of_mem (hp.mem_iff.mpr hx)
    exact h.2 i x hi)
theorem va_P.perm {D : va_G} {cl : List vw_C} {ws ws' : va_W} {H : Heap} (h : va_P D cl ws H) (hp : ws.Perm ws') : va_P D cl ws' H := va_P.of_mem fun _ hx => h.mem (hp.mem_iff.mpr hx)
theorem va_D.memA {A : Nat → Prop} {ws : va_W} (h : va_D A ws) {x : Nat × va_E} (hx : x ∈ ws) : A x.1 := by
  obtain ⟨i, hi⟩ := List.getElem?_of_mem hx
  exact h.2 i x hi
section WD
variable {b : BK} {BC BS S0 : Nat} {s : State} {A : Nat → Prop} {Ws Ws' : List va_W} {sz sl : Nat} {H : Heap} {lo : List Loc}
/-- other chunks, the same cells -/
theorem Wd.perm (h : Wd b BC BS S0 s A Ws sz sl H lo) (hp : Ws.flatten.Perm Ws'.flatten) : Wd b BC BS S0 s A Ws' sz sl H lo := by
  obtain ⟨h1, h2, h3⟩ := h
  exact ⟨h1.perm hp, h2.perm hp, h3⟩
theorem Wd.re (h : Wd b BC BS S0 s A Ws sz sl H lo) (hp : Ws.flatten = Ws'.flatten) : Wd b BC BS S0 s A Ws' sz sl H lo := h.perm (by rw [hp])
/-- some of the chunks, in any order -/
theorem Wd.pick (h : Wd b BC BS S0 s A Ws sz sl H lo) (is ir : List Nat) {NW : Nat} (hNW : Ws.length = NW) (hp : (is ++ ir).isPerm (List.range NW) = true) (hC : pick is Ws = Ws') : Wd b BC BS S0 s A Ws' sz sl H lo := by
  have hp := pick_perm is ir hNW hp hC rfl
  obtain ⟨h1, h2, h3⟩ := h
  have h1 := h1.perm hp
  have h2 := h2.perm hp
  refine ⟨va_P.of_mem fun x hx => h1.mem (List.mem_append_left _ hx), va_D.of_nodup ?_ (fun x hx => h2.memA (List.mem_append_left _ hx)), h3⟩
  have h4 := h2.nodup
  rw [List.map_append] at h4
  exact (List.nodup_append.mp h4).1
theorem Wd.more (h : Wd b BC BS S0 s A Ws sz sl H lo) {sl' : Nat} (h1 : sl ≤ sl') (h2 : sl' ≤ BS) : Wd b BC BS S0 s A Ws sz sl' H lo := by
  obtain ⟨a1, a2, a3, a4, a5, a6, a7, a8, a9, a10⟩ := h
  exact ⟨a1, a2, a3, a4, a5, a6, a7, by omega, a9, h2⟩
end WD
section RW
variable {p : Program} {l : Launch} {e : Env} {R : Room} {s : State} {m : MethodId} {args : Array Value} {below : List Frame} {meth : Method} {c : Code} {Q : State → Prop} {cc : ByteArray} {nL : Nat} {own : String} {b : BK} {BC BS S0 FR LO : Nat} {H : Heap} {lo : List Loc} {pc n : Nat} {L L' : List (Nat × Value)} {st st' : List Value} {A : Nat → Prop} {Ws Ws' : List va_W} {sz sl : Nat}
theorem r_st (h : st = st') (k : V p l e R s m args below meth c Q nL H lo pc L st') : V p l e R s m args below meth c Q nL H lo pc L st := h ▸ k
theorem r_lv (ks : List Nat) (h : lv_pick L ks = L') (k : V p l e R s m args below meth c Q nL H lo pc L' st) : V p l e R s m args below meth c Q nL H lo pc L st := fun ls hl => k ls (lv_sub hl ks h)
theorem r_le (h : L = L') (k : V p l e R s m args below meth c Q nL H lo pc L' st) : V p l e R s m args below meth c Q nL H lo pc L st := h ▸ k
theorem V_le (k : s.heap.size ≤ H.size → slH s.heap ≤ slH H → V p l e R s m args below meth c Q nL H lo pc L st) : V p l e R s m args below meth c Q nL H lo pc L st := fun ls hl => W_bound fun h1 h2 _ _ => k h1 h2 ls hl
theorem r_iconst (X : Ctx p R s m args meth c cc nL own b BC BS S0 FR LO) {i : Int} {v : Int32} (hd : Dc cc pc (.iconst i) 1 n) (hv : Int32.ofInt i = v) (k : V p l e R s m args below meth c Q nL H lo n L (.int v :: st)) : V p l e R s m args below meth c Q nL H lo pc L st := by
  obtain ⟨hd, rfl⟩ := hd
  exact fun ls hl => lv_iconst X.1 X.2.1 hd hv (k ls hl)
theorem r_bipush (X : Ctx p R s m args meth c cc nL own b BC BS S0 FR LO) {i : Int} {v : Int32} (hd : Dc cc pc (.bipush i) 2 n) (hv : (Int8.ofInt i).toInt32 = v) (k : V p l e R s m args below meth c Q nL H lo n L (.int v :: st)) : V p l e R s m args below meth c Q nL H lo pc L st := by
  obtain ⟨hd, rfl⟩ := hd
  exact fun ls hl => lv_bipush X.1 X.2.1 hd hv (k ls hl)
theorem r_sipush (X : Ctx p R s m args meth c cc nL own b BC BS S0 FR LO) {i : Int} {v : Int32} (hd : Dc cc pc (.sipush i) 3 n) (hv : (Int16.ofInt i).toInt32 = v) (k : V p l e R s m args below meth c Q nL H lo n L (.int v :: st)) : V p l e R s m args below meth c Q nL H lo pc L st := by
  obtain ⟨hd, rfl⟩ := hd
  exact fun ls hl => lv_sipush X.1 X.2.1 hd hv (k ls hl)
theorem r_ldc (X : Ctx p R s m args meth c cc nL own b BC BS S0 FR LO) {i : Nat} {v w : Int32} (hd : Dc cc pc (.ldc i) 2 n) (hc : Cond.constant own i v ∈ tblG) (hv : v = w) (k : V p l e R s m args below meth c Q nL H lo n L (.int w :: st)) : V p l e R s m args below meth c Q nL H lo pc L st := by
  obtain ⟨hd, rfl⟩ := hd
  subst hv
  exact fun ls hl => lv_ldc X.1 X.2.1 X.2.2.2.1 (X.2.2.2.2.1 _ hc) hd (k ls hl)
theorem r_ildn (X : Ctx p R s m args meth c cc nL own b BC BS S0 FR LO) {k0 : Fin 4} {i : Nat} {x : Int32} (hd : Dc cc pc (.iload_n k0) 1 n) (hi : (k0 : Nat) = i) (j : Nat) (h : L[j]? = some (i, .int x)) (k : V p l e R s m args below meth c Q nL H lo n L (.int x :: st)) : V p l e R s m args below meth c Q nL H lo pc L st := by
  obtain ⟨hd, rfl⟩ := hd
  exact fun ls hl => lv_iload_n X.1 X.2.1 hd hi (lv_at hl j h) (k ls hl)
theorem r_ild (X : Ctx p R s m args meth c cc nL own b BC BS S0 FR LO) {i : Nat} {x : Int32} (hd : Dc cc pc (.iload i) 2 n) (j : Nat) (h : L[j]? = some (i, .int x)) (k : V p l e R s m args below meth c Q nL H lo n L (.int x :: st)) : V p l e R s m args below meth c Q nL H lo pc L st := by
  obtain ⟨hd, rfl⟩ := hd
  exact fun ls hl => lv_iload X.1 X.2.1 hd (lv_at hl j h) (k ls hl)
theorem r_aldn (X : Ctx p R s m args meth c cc nL own b BC BS S0 FR LO) {k0 : Fin 4} {i : Nat} {x : Nat} (hd : Dc cc pc (.aload_n k0) 1 n) (hi : (k0 : Nat) = i) (j : Nat) (h : L[j]? = some (i, .ref x)) (k : V p l e R s m args below meth c Q nL H lo n L (.ref x :: st)) : V p l e R s m args below meth c Q nL H lo pc L st := by
  obtain ⟨hd, rfl⟩ := hd
  exact fun ls hl => lv_aload_n X.1 X.2.1 hd hi (lv_at hl j h) (k ls hl)
theorem r_ald (X : Ctx p R s m args meth c cc nL own b BC BS S0 FR LO) {i : Nat} {x : Nat} (hd : Dc cc pc (.aload i) 2 n) (j : Nat) (h : L[j]? = some (i, .ref x)) (k : V p l e R s m args below meth c Q nL H lo n L (.ref x :: st)) : V p l e R s m args below meth c Q nL H lo pc L st := by
  obtain ⟨hd, rfl⟩ := hd
  exact fun ls hl => lv_aload X.1 X.2.1 hd (lv_at hl j h) (k ls hl)
theorem r_aldnN (X : Ctx p R s m args meth c cc nL own b BC BS S0 FR LO) {k0 : Fin 4} {i : Nat} (hd : Dc cc pc (.aload_n k0) 1 n) (hi : (k0 : Nat) = i) (j : Nat) (h : L[j]? = some (i, .null)) (k : V p l e R s m args below meth c Q nL H lo n L (.null :: st)) : V p l e R s m args below meth c Q nL H lo pc L st := by
  obtain ⟨hd, rfl⟩ := hd
  exact fun ls hl => lv_aload_nN X.1 X.2.1 hd hi (lv_at hl j h) (k ls hl)
theorem r_aldN (X : Ctx p R s m args meth c cc nL own b BC BS S0 FR LO) {i : Nat} (hd : Dc cc pc (.aload i) 2 n) (j : Nat) (h : L[j]? = some (i, .null)) (k : V p l e R s m args below meth c Q nL H lo n L (.null :: st)) : V p l e R s m args below meth c Q nL H lo pc L st := by
  obtain ⟨hd, rfl⟩ := hd
  exact fun ls hl => lv_aloadN X.1 X.2.1 hd (lv_at hl j h) (k ls hl)
theorem r_istn (X : Ctx p R s m args meth c cc nL own b BC BS S0 FR LO) {k0 : Fin 4} {i : Nat} {x : Int32} (hd : Dc cc pc (.istore_n k0) 1 n) (hi : (k0 : Nat) = i) (hn : i < nL) (hL : (i, Value.int x) :: L.filter (fun q => !(q.1 == i) && !(q.1 + 1 == i && q.2.category == 2)) = L') (k : V p l e R s m args below meth c Q nL H lo n L' st) : V p l e R s m args below meth c Q nL H lo pc L (.int x :: st) := by
  obtain ⟨hd, rfl⟩ := hd
  exact fun ls hl => lv_istore_n X.1 X.2.1 hd hi hl hn hL (fun ls' hl' => k ls' hl')
theorem r_ist (X : Ctx p R s m args meth c cc nL own b BC BS S0 FR LO) {i : Nat} {x : Int32} (hd : Dc cc pc (.istore i) 2 n) (hn : i < nL) (hL : (i, Value.int x) :: L.filter (fun q => !(q.1 == i) && !(q.1 + 1 == i && q.2.category == 2)) = L') (k : V p l e R s m args below meth c Q nL H lo n L' st) : V p l e R s m args below meth c Q nL H lo pc L (.int x :: st) := by
  obtain ⟨hd, rfl⟩ := hd
  exact fun ls hl => lv_istore X.1 X.2.1 hd hl hn hL (fun ls' hl' => k ls' hl')
theorem r_astn (X : Ctx p R s m args meth c cc nL own b BC BS S0 FR LO) {k0 : Fin 4} {i : Nat} {x : Nat} (hd : Dc cc pc (.astore_n k0) 1 n) (hi : (k0 : Nat) = i) (hn : i < nL) (hL : (i, Value.ref x) :: L.filter (fun q => !(q.1 == i) && !(q.1 + 1 == i && q.2.category == 2)) = L') (k : V p l e R s m args below meth c Q nL H lo n L' st) : V p l e R s m args below meth c Q nL H lo pc L (.ref x :: st) := by
  obtain ⟨hd, rfl⟩ := hd
  exact fun ls hl => lv_astore_n X.1 X.2.1 hd hi hl hn hL (fun ls' hl' => k ls' hl')
theorem r_ast (X : Ctx p R s m args meth c cc nL own b BC BS S0 FR LO) {i : Nat} {x : Nat} (hd : Dc cc pc (.astore i) 2 n) (hn : i < nL) (hL : (i, Value.ref x) :: L.filter (fun q => !(q.1 == i) && !(q.1 + 1 == i && q.2.category == 2)) = L') (k : V p l e R s m args below meth c Q nL H lo n L' st) : V p l e R s m args below meth c Q nL H lo pc L (.ref x :: st) := by
  obtain ⟨hd, rfl⟩ := hd
  exact fun ls hl => lv_astore X.1 X.2.1 hd hl hn hL (fun ls' hl' => k ls' hl')
theorem r_astnN (X : Ctx p R s m args meth c cc nL own b BC BS S0 FR LO) {k0 : Fin 4} {i : Nat} (hd : Dc cc pc (.astore_n k0) 1 n) (hi : (k0 : Nat) = i) (hn : i < nL) (hL : (i, Value.null) :: L.filter (fun q => !(q.1 == i) && !(q.1 + 1 == i && q.2.category == 2)) = L') (k : V p l e R s m args below meth c Q nL H lo n L' st) : V p l e R s m args below meth c Q nL H lo pc L (.null :: st) := by
  obtain ⟨hd, rfl⟩ := hd
  exact fun ls hl => lv_astore_nN X.1 X.2.1 hd hi hl hn hL (fun ls' hl' => k ls' hl')
theorem r_astN (X : Ctx p R s m args meth c cc nL own b BC BS S0 FR LO) {i : Nat} (hd : Dc cc pc (.astore i) 2 n) (hn : i < nL) (hL : (i, Value.null) :: L.filter (fun q => !(q.1 == i) && !(q.1 + 1 == i && q.2.category == 2)) = L') (k : V p l e R s m args below meth c Q nL H lo n L' st) : V p l e R s m args below meth c Q nL H lo pc L (.null :: st) := by
  obtain ⟨hd, rfl⟩ := hd
  exact fun ls hl => lv_astoreN X.1 X.2.1 hd hl hn hL (fun ls' hl' => k ls' hl')
theorem r_iinc (X : Ctx p R s m args meth c cc nL own b BC BS S0 FR LO) {i j : Nat} {z : Int} {x v : Int32} (hd : Dc cc pc (.iinc i z) 3 n) (hj : L[j]? = some (i, .int x)) (hv : x + Int32.ofInt z = v) (hn : i < nL) (hL : (i, Value.int v) :: L.filter (fun q => !(q.1 == i) && !(q.1 + 1 == i && q.2.category == 2)) = L') (k : V p l e R s m args below meth c Q nL H lo n L' st) : V p l e R s m args below meth c Q nL H lo pc L st := by
  obtain ⟨hd, rfl⟩ := hd
  exact fun ls hl => lv_iinc X.1 X.2.1 hd hl hj hv hn hL (fun ls' hl' => k ls' hl')
theorem r_null (X : Ctx p R s m args meth c cc nL own b BC BS S0 FR LO) (hd : Dc cc pc .aconst_null 1 n) (k : V p l e R s m args below meth c Q nL H lo n L (.null :: st)) : V p l e R s m args below meth c Q nL H lo pc L st := by
  obtain ⟨hd, rfl⟩ := hd
  exact fun ls hl => lv_null X.1 X.2.1 hd (k ls hl)
theorem r_dup (X : Ctx p R s m args meth c cc nL own b BC BS S0 FR LO) {v : Value} (hd : Dc cc pc .dup 1 n) (hv : v.category = 1) (k : V p l e R s m args below meth c Q nL H lo n L (v :: v :: st)) : V p l e R s m args below meth c Q nL H lo pc L (v :: st) := by
  obtain ⟨hd, rfl⟩ := hd
  exact fun ls hl => lv_dup X.1 X.2.1 hd hv (k ls hl)
theorem r_pop (X : Ctx p R s m args meth c cc nL own b BC BS S0 FR LO) {v : Value} (hd : Dc cc pc .pop 1 n) (hv : v.category = 1) (k : V p l e R s m args below meth c Q nL H lo n L st) : V p l e R s m args below meth c Q nL H lo pc L (v :: st) := by
  obtain ⟨hd, rfl⟩ := hd
  exact fun ls hl => lv_pop X.1 X.2.1 hd hv (k ls hl)
theorem r_dup_x1 (X : Ctx p R s m args meth c cc nL own b BC BS S0 FR LO) {v w : Value} (hd : Dc cc pc .dup_x1 1 n) (hv : v.category = 1) (hw : w.category = 1) (k : V p l e R s m args below meth c Q nL H lo n L (v :: w :: v :: st)) : V p l e R s m args below meth c Q nL H lo pc L (v :: w :: st) := by
  obtain ⟨hd, rfl⟩ := hd
  exact fun ls hl => lv_dup_x1 X.1 X.2.1 hd hv hw (k ls hl)
theorem r_dup2 (X : Ctx p R s m args meth c cc nL own b BC BS S0 FR LO) {v w : Value} (hd : Dc cc pc .dup2 1 n) (hv : v.category = 1) (hw : w.category = 1) (k : V p l e R s m args below meth c Q nL H lo n L (v :: w :: v :: w :: st)) : V p l e R s m args below meth c Q nL H lo pc L (v :: w :: st) := by
  obtain ⟨hd, rfl⟩ := hd
  exact fun ls hl => lv_dup2_11 X.1 X.2.1 hd hv hw (k ls hl)
theorem r_goto (X : Ctx p R s m args meth c cc nL own b BC BS S0 FR LO) {off : Int} {tgt : Nat} (hd : Dc cc pc (.goto off) 3 n) (ht : (pc : Int) + off = (tgt : Int)) (k : V p l e R s m args below meth c Q nL H lo tgt L st) : V p l e R s m args below meth c Q nL H lo pc L st := by
  obtain ⟨hd, rfl⟩ := hd
  exact fun ls hl => lv_goto X.1 X.2.1 hd ht (k ls hl)
theorem r_iadd (X : Ctx p R s m args meth c cc nL own b BC BS S0 FR LO) {x y z : Int32} (hd : Dc cc pc .iadd 1 n) (hz : x + y = z) (k : V p l e R s m args below meth c Q nL H lo n L (.int z :: st)) : V p l e R s m args below meth c Q nL H lo pc L (.int y :: .int x :: st) := by
  obtain ⟨hd, rfl⟩ := hd
  subst hz
  exact fun ls hl => lv_iadd X.1 X.2.1 hd (k ls hl)
theorem r_isub (X : Ctx p R s m args meth c cc nL own b BC BS S0 FR LO) {x y z : Int32} (hd : Dc cc pc .isub 1 n) (hz : x - y = z) (k : V p l e R s m args below meth c Q nL H lo n L (.int z :: st)) : V p l e R s m args below meth c Q nL H lo pc L (.int y :: .int x :: st) := by
  obtain ⟨hd, rfl⟩ := hd
  subst hz
  exact fun ls hl => lv_isub X.1 X.2.1 hd (k ls hl)
theorem r_imul (X : Ctx p R s m args meth c cc nL own b BC BS S0 FR LO) {x y z : Int32} (hd : Dc cc pc .imul 1 n) (hz : x * y = z) (k : V p l e R s m args below meth c Q nL H lo n L (.int z :: st)) : V p l e R s m args below meth c Q nL H lo pc L (.int y :: .int x :: st) := by
  obtain ⟨hd, rfl⟩ := hd
  subst hz
  exact fun ls hl => lv_imul X.1 X.2.1 hd (k ls hl)
theorem r_iand (X : Ctx p R s m args meth c cc nL own b BC BS S0 FR LO) {x y z : Int32} (hd : Dc cc pc .iand 1 n) (hz : x &&& y = z) (k : V p l e R s m args below meth c Q nL H lo n L (.int z :: st)) : V p l e R s m args below meth c Q nL H lo pc L (.int y :: .int x :: st) := by
  obtain ⟨hd, rfl⟩ := hd
  subst hz
  exact fun ls hl => lv_iand X.1 X.2.1 hd (k ls hl)
theorem r_ior (X : Ctx p R s m args meth c cc nL own b BC BS S0 FR LO) {x y z : Int32} (hd : Dc cc pc .ior 1 n) (hz : x ||| y = z) (k : V p l e R s m args below meth c Q nL H lo n L (.int z :: st)) : V p l e R s m args below meth c Q nL H lo pc L (.int y :: .int x :: st) := by
  obtain ⟨hd, rfl⟩ := hd
  subst hz
  exact fun ls hl => lv_ior X.1 X.2.1 hd (k ls hl)
theorem r_ixor (X : Ctx p R s m args meth c cc nL own b BC BS S0 FR LO) {x y z : Int32} (hd : Dc cc pc .ixor 1 n) (hz : x ^^^ y = z) (k : V p l e R s m args below meth c Q nL H lo n L (.int z :: st)) : V p l e R s m args below meth c Q nL H lo pc L (.int y :: .int x :: st) := by
  obtain ⟨hd, rfl⟩ := hd
  subst hz
  exact fun ls hl => lv_ixor X.1 X.2.1 hd (k ls hl)
theorem r_ishl (X : Ctx p R s m args meth c cc nL own b BC BS S0 FR LO) {x y z : Int32} (hd : Dc cc pc .ishl 1 n) (hz : x <<< (y &&& 31) = z) (k : V p l e R s m args below meth c Q nL H lo n L (.int z :: st)) : V p l e R s m args below meth c Q nL H lo pc L (.int y :: .int x :: st) := by
  obtain ⟨hd, rfl⟩ := hd
  subst hz
  exact fun ls hl => lv_ishl X.1 X.2.1 hd (k ls hl)
theorem r_ishr (X : Ctx p R s m args meth c cc nL own b BC BS S0 FR LO) {x y z : Int32} (hd : Dc cc pc .ishr 1 n) (hz : x >>> (y &&& 31) = z) (k : V p l e R s m args below meth c Q nL H lo n L (.int z :: st)) : V p l e R s m args below meth c Q nL H lo pc L (.int y :: .int x :: st) := by
  obtain ⟨hd, rfl⟩ := hd
  subst hz
  exact fun ls hl => lv_ishr X.1 X.2.1 hd (k ls hl)
theorem r_idiv (X : Ctx p R s m args meth c cc nL own b BC BS S0 FR LO) {x y z : Int32} (hd : Dc cc pc .idiv 1 n) (h0 : ¬ y = 0) (hz : x / y = z) (k : V p l e R s m args below meth c Q nL H lo n L (.int z :: st)) : V p l e R s m args below meth c Q nL H lo pc L (.int y :: .int x :: st) := by
  obtain ⟨hd, rfl⟩ := hd
  subst hz
  exact fun ls hl => lv_idiv X.1 X.2.1 hd h0 (k ls hl)
theorem r_irem (X : Ctx p R s m args meth c cc nL own b BC BS S0 FR LO) {x y z : Int32} (hd : Dc cc pc .irem 1 n) (h0 : ¬ y = 0) (hz : x - x / y * y = z) (k : V p l e R s m args below meth c Q nL H lo n L (.int z :: st)) : V p l e R s m args below meth c Q nL H lo pc L (.int y :: .int x :: st) := by
  obtain ⟨hd, rfl⟩ := hd
  subst hz
  exact fun ls hl => lv_irem X.1 X.2.1 hd h0 (k ls hl)
theorem r_icmpeq (X : Ctx p R s m args meth c cc nL own b BC BS S0 FR LO) {x y : Int32} {off : Int} {tgt : Nat} {P : Prop} (hP : x = y ↔ P) (hd : Dc cc pc (.if_icmp .eq off) 3 n) (ht : (pc : Int) + off = (tgt : Int)) (k1 : P → V p l e R s m args below meth c Q nL H lo tgt L st) (k2 : ¬ P → V p l e R s m args below meth c Q nL H lo n L st) : V p l e R s m args below meth c Q nL H lo pc L (.int y :: .int x :: st) := by
  obtain ⟨hd, rfl⟩ := hd
  exact fun ls hl => lv_icmp_eq X.1 X.2.1 hd ht (fun h => k1 (hP.mp h) ls hl) (fun h => k2 (fun z => h (hP.mpr z)) ls hl)
theorem r_ifeq (X : Ctx p R s m args meth c cc nL own b BC BS S0 FR LO) {x : Int32} {off : Int} {tgt : Nat} {P : Prop} (hP : x = 0 ↔ P) (hd : Dc cc pc (.ifCond .eq off) 3 n) (ht : (pc : Int) + off = (tgt : Int)) (k1 : P → V p l e R s m args below meth c Q nL H lo tgt L st) (k2 : ¬ P → V p l e R s m args below meth c Q nL H lo n L st) : V p l e R s m args below meth c Q nL H lo pc L (.int x :: st) := by
  obtain ⟨hd, rfl⟩ := hd
  exact fun ls hl => lv_if_eq X.1 X.2.1 hd ht (fun h => k1 (hP.mp h) ls hl) (fun h => k2 (fun z => h (hP.mpr z)) ls hl)
theorem r_icmpne (X : Ctx p R s m args meth c cc nL own b BC BS S0 FR LO) {x y : Int32} {off : Int} {tgt : Nat} {P : Prop} (hP : x = y ↔ P) (hd : Dc cc pc (.if_icmp .ne off) 3 n) (ht : (pc : Int) + off = (tgt : Int)) (k1 : ¬ P → V p l e R s m args below meth c Q nL H lo tgt L st) (k2 : P → V p l e R s m args below meth c Q nL H lo n L st) : V p l e R s m args below meth c Q nL H lo pc L (.int y :: .int x :: st) := by
  obtain ⟨hd, rfl⟩ := hd
  exact fun ls hl => lv_icmp_ne X.1 X.2.1 hd ht (fun h => k1 (fun z => h (hP.mpr z)) ls hl) (fun h => k2 (hP.mp h) ls hl)
theorem r_ifne (X : Ctx p R s m args meth c cc nL own b BC BS S0 FR LO) {x : Int32} {off : Int} {tgt : Nat} {P : Prop} (hP : x = 0 ↔ P) (hd : Dc cc pc (.ifCond .ne off) 3 n) (ht : (pc : Int) + off = (tgt : Int)) (k1 : ¬ P → V p l e R s m args below meth c Q nL H lo tgt L st) (k2 : P → V p l e R s m args below meth c Q nL H lo n L st) : V p l e R s m args below meth c Q nL H lo pc L (.int x :: st) := by
  obtain ⟨hd, rfl⟩ := hd
  exact fun ls hl => lv_if_ne X.1 X.2.1 hd ht (fun h => k1 (fun z => h (hP.mpr z)) ls hl) (fun h => k2 (hP.mp h) ls hl)
theorem r_icmplt (X : Ctx p R s m args meth c cc nL own b BC BS S0 FR LO) {x y : Int32} {off : Int} {tgt : Nat} {P : Prop} (hP : x < y ↔ P) (hd : Dc cc pc (.if_icmp .lt off) 3 n) (ht : (pc : Int) + off = (tgt : Int)) (k1 : P → V p l e R s m args below meth c Q nL H lo tgt L st) (k2 : ¬ P → V p l e R s m args below meth c Q nL H lo n L st) : V p l e R s m args below meth c Q nL H lo pc L (.int y :: .int x :: st) := by
  obtain ⟨hd, rfl⟩ := hd
  exact fun ls hl => lv_icmp_lt X.1 X.2.1 hd ht (fun h => k1 (hP.mp h) ls hl) (fun h => k2 (fun z => h (hP.mpr z)) ls hl)
theorem r_iflt (X : Ctx p R s m args meth c cc nL own b BC BS S0 FR LO) {x : Int32} {off : Int} {tgt : Nat} {P : Prop} (hP : x < 0 ↔ P) (hd : Dc cc pc (.ifCond .lt off) 3 n) (ht : (pc : Int) + off = (tgt : Int)) (k1 : P → V p l e R s m args below meth c Q nL H lo tgt L st) (k2 : ¬ P → V p l e R s m args below meth c Q nL H lo n L st) : V p l e R s m args below meth c Q nL H lo pc L (.int x :: st) := by
  obtain ⟨hd, rfl⟩ := hd
  exact fun ls hl => lv_if_lt X.1 X.2.1 hd ht (fun h => k1 (hP.mp h) ls hl) (fun h => k2 (fun z => h (hP.mpr z)) ls hl)
theorem r_icmpge (X : Ctx p R s m args meth c cc nL own b BC BS S0 FR LO) {x y : Int32} {off : Int} {tgt : Nat} {P : Prop} (hP : y ≤ x ↔ P) (hd : Dc cc pc (.if_icmp .ge off) 3 n) (ht : (pc : Int) + off = (tgt : Int)) (k1 : P → V p l e R s m args below meth c Q nL H lo tgt L st) (k2 : ¬ P → V p l e R s m args below meth c Q nL H lo n L st) : V p l e R s m args below meth c Q nL H lo pc L (.int y :: .int x :: st) := by
  obtain ⟨hd, rfl⟩ := hd
  exact fun ls hl => lv_icmp_ge X.1 X.2.1 hd ht (fun h => k1 (hP.mp h) ls hl) (fun h => k2 (fun z => h (hP.mpr z)) ls hl)
theorem r_ifge (X : Ctx p R s m args meth c cc nL own b BC BS S0 FR LO) {x : Int32} {off : Int} {tgt : Nat} {P : Prop} (hP : 0 ≤ x ↔ P) (hd : Dc cc pc (.ifCond .ge off) 3 n) (ht : (pc : Int) + off = (tgt : Int)) (k1 : P → V p l e R s m args below meth c Q nL H lo tgt L st) (k2 : ¬ P → V p l e R s m args below meth c Q nL H lo n L st) : V p l e R s m args below meth c Q nL H lo pc L (.int x :: st) := by
  obtain ⟨hd, rfl⟩ := hd
  exact fun ls hl => lv_if_ge X.1 X.2.1 hd ht (fun h => k1 (hP.mp h) ls hl) (fun h => k2 (fun z => h (hP.mpr z)) ls hl)
theorem r_icmpgt (X : Ctx p R s m args meth c cc nL own b BC BS S0 FR LO) {x y : Int32} {off : Int} {tgt : Nat} {P : Prop} (hP : y < x ↔ P) (hd : Dc cc pc (.if_icmp .gt off) 3 n) (ht : (pc : Int) + off = (tgt : Int)) (k1 : P → V p l e R s m args below meth c Q nL H lo tgt L st) (k2 : ¬ P → V p l e R s m args below meth c Q nL H lo n L st) : V p l e R s m args below meth c Q nL H lo pc L (.int y :: .int x :: st) := by
  obtain ⟨hd, rfl⟩ := hd
  exact fun ls hl => lv_icmp_gt X.1 X.2.1 hd ht (fun h => k1 (hP.mp h) ls hl) (fun h => k2 (fun z => h (hP.mpr z)) ls hl)
theorem r_ifgt (X : Ctx p R s m args meth c cc nL own b BC BS S0 FR LO) {x : Int32} {off : Int} {tgt : Nat} {P : Prop} (hP : 0 < x ↔ P) (hd : Dc cc pc (.ifCond .gt off) 3 n) (ht : (pc : Int) + off = (tgt : Int)) (k1 : P → V p l e R s m args below meth c Q nL H lo tgt L st) (k2 : ¬ P → V p l e R s m args below meth c Q nL H lo n L st) : V p l e R s m args below meth c Q nL H lo pc L (.int x :: st) := by
  obtain ⟨hd, rfl⟩ := hd
  exact fun ls hl => lv_if_gt X.1 X.2.1 hd ht (fun h => k1 (hP.mp h) ls hl) (fun h => k2 (fun z => h (hP.mpr z)) ls hl)
theorem r_icmple (X : Ctx p R s m args meth c cc nL own b BC BS S0 FR LO) {x y : Int32} {off : Int} {tgt : Nat} {P : Prop} (hP : x ≤ y ↔ P) (hd : Dc cc pc (.if_icmp .le off) 3 n) (ht : (pc : Int) + off = (tgt : Int)) (k1 : P → V p l e R s m args below meth c Q nL H lo tgt L st) (k2 : ¬ P → V p l e R s m args below meth c Q nL H lo n L st) : V p l e R s m args below meth c Q nL H lo pc L (.int y :: .int x :: st) := by
  obtain ⟨hd, rfl⟩ := hd
  exact fun ls hl => lv_icmp_le X.1 X.2.1 hd ht (fun h => k1 (hP.mp h) ls hl) (fun h => k2 (fun z => h (hP.mpr z)) ls hl)
theorem r_ifle (X : Ctx p R s m args meth c cc nL own b BC BS S0 FR LO) {x : Int32} {off : Int} {tgt : Nat} {P : Prop} (hP : x ≤ 0 ↔ P) (hd : Dc cc pc (.ifCond .le off) 3 n) (ht : (pc : Int) + off = (tgt : Int)) (k1 : P → V p l e R s m args below meth c Q nL H lo tgt L st) (k2 : ¬ P → V p l e R s m args below meth c Q nL H lo n L st) : V p l e R s m args below meth c Q nL H lo pc L (.int x :: st) := by
  obtain ⟨hd, rfl⟩ := hd
  exact fun ls hl => lv_if_le X.1 X.2.1 hd ht (fun h => k1 (hP.mp h) ls hl) (fun h => k2 (fun z => h (hP.mpr z)) ls hl)
end RW
end
section
/-! ROWS of the heap: fields, arrays, new, casts, statics -/
/-- a field reference: class own, entry idx: field k of class ci -/
def FLk (own : String) (idx ci k : Nat) (C : String) (T : u_T) (N : Nat) (ty : Nat → FieldType) : Prop :=
  ClsOK ci C T N ty ∧ k < N ∧ ∃ ref : String, (Cond.fieldLink own idx ref (T k).2.1 (T k).2.2.1 ∈ tblG ∨ ∃ host : String, Cond.fieldLinkNest own idx ref (T k).2.1 (T k).2.2.1 host ∈ nbW) ∧ (ref = (T k).1 ∨ Cond.sameField ref (T k).1 (T k).2.1 (T k).2.2.1 ∈ tblG)
theorem upN {f : Nat → Nat} {i x : Nat} (hi : i < 2 ^ 31) : upd (fun j => nI (f j)) (nI i).toNatClampNeg (nI x) = fun j => nI (va_up f i x j) := by
  funext j
  rw [nI_clamp hi]
  simp only [upd, va_up]
  split <;> rfl
theorem upZ {f : Nat → Int} {i : Nat} {x : Int} (hi : i < 2 ^ 31) : upd (fun j => iI (f j)) (nI i).toNatClampNeg (iI x) = fun j => iI (va_up f i x j) := by
  funext j
  rw [nI_clamp hi]
  simp only [upd, va_up]
  split <;> rfl
theorem nar_bI (x : Bool) : vp_nar .boolean (bI x) = bI x := by cases x <;> rfl
theorem upB {f : Nat → Bool} {i : Nat} {x : Bool} (hi : i < 2 ^ 31) : upd (fun j => bI (f j)) (nI i).toNatClampNeg (vp_nar .boolean (bI x)) = fun j => bI (va_up f i x j) := by
  funext j
  rw [nI_clamp hi, nar_bI]
  simp only [upd, va_up]
  split <;> rfl
theorem upL {f : Nat → Nat} {i x : Nat} (hi : i < 2 ^ 31) : vp_updL (fun j => lN (f j)) (nI i).toNatClampNeg (lN x) = fun j => lN (va_up f i x j) := by
  funext j
  rw [nI_clamp hi]
  simp only [vp_updL, va_up]
  split <;> rfl
section RH
variable {p : Program} {l : Launch} {e : Env} {R : Room} {s : State} {m : MethodId} {args : Array Value} {below : List Frame} {meth : Method} {c : Code} {Q : State → Prop} {cc : ByteArray} {nL : Nat} {own : String} {b : BK} {BC BS S0 FR LO : Nat} {H : Heap} {lo : List Loc} {pc n : Nat} {L L' : List (Nat × Value)} {st st' : List Value} {A : Nat → Prop} {Ws Ws' : List va_W} {w : va_W} {sz sl a : Nat}
theorem fl_same (X : Ctx p R s m args meth c cc nL own b BC BS S0 FR LO) {ref C n d : String} (h : ref = C ∨ Cond.sameField ref C n d ∈ tblG) : ∀ x, s.fieldFound? C n d = some x → s.fieldFound? ref n d = some x := by
  rcases h with rfl | h
  · exact fun x hx => hx
  · exact u_same (X.2.2.2.2.1 _ h)
theorem r_get (X : Ctx p R s m args meth c cc nL own b BC BS S0 FR LO) (hw : Wd b BC BS S0 s A Ws sz sl H lo) {idx ci k N : Nat} {C : String} {T : u_T} {ty : Nat → FieldType} (F : FLk own idx ci k C T N ty) (hd : Dc cc pc (.getfield idx) 3 n) (i j : Nat) {fs : List Value} {v : Value} (hi : Ws[i]? = some w) (hj : w[j]? = some (a, .inr (ci, fs))) (hv : fs[k]? = some v)
    (kk : V p l e R s m args below meth c Q nL H lo n L (v :: st)) : V p l e R s m args below meth c Q nL H lo pc L (.ref a :: st) := by
  obtain ⟨hd, rfl⟩ := hd
  obtain ⟨⟨hc, hin, -, -⟩, hk, ref, hl, hs⟩ := F
  obtain ⟨q, hq, -⟩ := fl_at hi hj
  have hsame := fl_same X hs
  intro ls hls
  rcases hl with hl | ⟨host, hl⟩
  · exact va_get (D := b.1) X.1 X.2.1 X.2.2.2.2.1 hin X.2.2.2.1 X.2.2.2.2.2.1.1 hw.1 q hq hc k hk (X.2.2.2.2.1 _ hl) hsame hv hd (kk ls hls)
  · exact va_getN (D := b.1) X.1 X.2.1 X.2.2.2.2.1 hin X.2.2.2.1 X.2.2.2.2.2.1.1 hw.1 q hq hc k hk (va_Nw.use rfl (X.2.2.2.2.2.1.2.1 _ hl)) hsame hv hd (kk ls hls)
theorem put_k (hw : Wd b BC BS S0 s A Ws sz sl H lo) (h0 : slH s.heap ≤ slH H) {ls : Array Slot} (hl : lv_has ls nL L) (kk : ∀ (H1 : Heap) (lo1 : List Loc), Wd b BC BS S0 s A Ws' sz sl H1 lo1 → V p l e R s m args below meth c Q nL H1 lo1 n L st) :
    ∀ (H1 : Heap) (lo1 : List Loc), va_P b.1 CL Ws'.flatten H1 → va_D A Ws'.flatten → va_S A H H1 lo1 → W p l e R s m args below meth c H1 lo1 (H.size - s.heap.size) (slH H - slH s.heap) Q (F0 m n ls st) := by
  intro H1 lo1 hP hD hS
  obtain ⟨a1, a2, a3, a4, a5, a6, a7, a8, a9, a10⟩ := hw
  have e1 : s.heap.size ≤ H.size := a3.1
  have e2 : H.size ≤ H1.size := hS.1
  refine W_bound fun g1 g2 g3 g4 => kk H1 lo1 ⟨hP, hD, ⟨by omega, fun q h1 h2 => (hS.2.1 q (by omega) h2).trans (a3.2.1 q h1 h2), hS.2.2⟩, a4, a5, ⟨Nat.le_trans a6.1 e2, fun q hq => (hS.2.1 q (Nat.lt_of_lt_of_le hq a6.1) (fun z => absurd (a5 q z) (by omega))).trans (a6.2 q hq)⟩, by omega, by omega, a9, a10⟩ ls hl
theorem r_put (X : Ctx p R s m args meth c cc nL own b BC BS S0 FR LO) (hw : Wd b BC BS S0 s A Ws sz sl H lo) {idx ci k N : Nat} {C : String} {T : u_T} {ty : Nat → FieldType} (F : FLk own idx ci k C T N ty) (hd : Dc cc pc (.putfield idx) 3 n) (i j : Nat) {fs : List Value} {v : Value} (hi : Ws[i]? = some w) (hj : w[j]? = some (a, .inr (ci, fs))) (hfin : (T k).2.2.2 = false) (hn : narrow (ty k) v = v) (hfit : fits (ty k) v = true) (hlen : k < fs.length) (hW : Ws.set i (w.set j (a, .inr (ci, fs.set k v))) = Ws')
    (kk : ∀ (H1 : Heap) (lo1 : List Loc), Wd b BC BS S0 s A Ws' sz sl H1 lo1 → V p l e R s m args below meth c Q nL H1 lo1 n L st) : V p l e R s m args below meth c Q nL H lo pc L (v :: .ref a :: st) := by
  obtain ⟨hd, rfl⟩ := hd
  obtain ⟨⟨hc, hin, hty, hnm⟩, hk, ref, hl, hs⟩ := F
  obtain ⟨q, hq, hset⟩ := fl_at hi hj
  have hsame := fl_same X hs
  refine V_le fun _ h0 ls hls => ?_
  subst hW
  have hS : va_S A H H lo := ⟨Nat.le_refl _, fun _ _ _ => rfl, hw.2.2.1.2.2⟩
  have kk2 := put_k hw h0 hls kk
  rw [← hset] at kk2
  rcases hl with hl | ⟨host, hl⟩
  · exact va_put (D := b.1) X.1 X.2.1 X.2.2.2.2.1 hin ty hty hnm X.2.2.2.1 X.2.2.2.2.2.1.1 hw.1 hw.2.1 hS q hq hc k hk (X.2.2.2.2.1 _ hl) hsame hfin (hty k hk) hn hfit hlen hd kk2
  · exact va_putN (D := b.1) X.1 X.2.1 X.2.2.2.2.1 hin ty hty hnm X.2.2.2.1 X.2.2.2.2.2.1.1 hw.1 hw.2.1 hS q hq hc k hk (va_Nw.use rfl (X.2.2.2.2.2.1.2.1 _ hl)) hsame hfin (hty k hk) hn hfit hlen hd kk2
theorem r_putF (X : Ctx p R s m args meth c cc nL own b BC BS S0 FR LO) (hini : meth.name = "<init>") (hw : Wd b BC BS S0 s A Ws sz sl H lo) {idx ci k N : Nat} {C : String} {T : u_T} {ty : Nat → FieldType} (F : FLk own idx ci k C T N ty) (hd : Dc cc pc (.putfield idx) 3 n) (i j : Nat) {fs : List Value} {v : Value} (hi : Ws[i]? = some w) (hj : w[j]? = some (a, .inr (ci, fs))) (hfin : (T k).2.2.2 = true) (hdecl : (T k).1 = own) (hn : narrow (ty k) v = v) (hfit : fits (ty k) v = true) (hlen : k < fs.length) (hW : Ws.set i (w.set j (a, .inr (ci, fs.set k v))) = Ws')
    (hlk : ∃ ref, Cond.fieldLink own idx ref (T k).2.1 (T k).2.2.1 ∈ tblG ∧ ref = (T k).1)
    (kk : ∀ (H1 : Heap) (lo1 : List Loc), Wd b BC BS S0 s A Ws' sz sl H1 lo1 → V p l e R s m args below meth c Q nL H1 lo1 n L st) : V p l e R s m args below meth c Q nL H lo pc L (v :: .ref a :: st) := by
  obtain ⟨hd, rfl⟩ := hd
  obtain ⟨⟨hc, hin, hty, hnm⟩, hk, -⟩ := F
  obtain ⟨ref, hl, hs⟩ := hlk
  obtain ⟨q, hq, hset⟩ := fl_at hi hj
  have hsame := fl_same X (C := (T k).1) (n := (T k).2.1) (d := (T k).2.2.1) (Or.inl hs)
  refine V_le fun _ h0 ls hls => ?_
  subst hW
  have hS : va_S A H H lo := ⟨Nat.le_refl _, fun _ _ _ => rfl, hw.2.2.1.2.2⟩
  have kk2 := put_k hw h0 hls kk
  rw [← hset] at kk2
  exact va_putF (D := b.1) X.1 X.2.1 X.2.2.2.2.1 hin ty hty hnm X.2.2.2.1 X.2.2.2.2.2.1.1 hw.1 hw.2.1 hS q hq hc k hk (X.2.2.2.2.1 _ hl) hsame hfin hini hdecl (hty k hk) hn hfit hlen hd kk2
-- arrays
theorem r_alen (X : Ctx p R s m args meth c cc nL own b BC BS S0 FR LO) (hw : Wd b BC BS S0 s A Ws sz sl H lo) (hd : Dc cc pc .arraylength 1 n) (i j t : Nat) {x : vp_A} {ty : FieldType} (hi : Ws[i]? = some w) (hj : w[j]? = some (a, .inl (b.2.1 t, x))) (ht : (TY b)[t]? = some (b.2.1 t, ty)) (kk : V p l e R s m args below meth c Q nL H lo n L (.int (nI x.1) :: st)) : V p l e R s m args below meth c Q nL H lo pc L (.ref a :: st) := by
  obtain ⟨hd, rfl⟩ := hd
  obtain ⟨q, hq, -⟩ := fl_at hi hj
  exact fun ls hl => va_alen (D := b.1) X.1 X.2.1 X.2.2.2.2.2.1.1 hw.1 q t hq ht rfl hd (kk ls hl)
theorem r_ialdN (X : Ctx p R s m args meth c cc nL own b BC BS S0 FR LO) (hw : Wd b BC BS S0 s A Ws sz sl H lo) (hd : Dc cc pc .iaload 1 n) (i j : Nat) {len k : Nat} {f : Nat → Nat} (hi : Ws[i]? = some w) (hj : w[j]? = some (cN b a len f)) (hk : k < len) (h2 : k < 2 ^ 31) (kk : V p l e R s m args below meth c Q nL H lo n L (.int (nI (f k)) :: st)) : V p l e R s m args below meth c Q nL H lo pc L (.int (nI k) :: .ref a :: st) := by
  obtain ⟨hd, rfl⟩ := hd
  obtain ⟨q, hq, -⟩ := fl_at hi hj
  intro ls hl
  refine va_iald (D := b.1) X.1 X.2.1 X.2.2.2.2.2.1.1 hw.1 q 0 hq rfl ?_ hd ?_
  · intro z
    rcases z with z | z
    · exact nI_pos h2 z
    · rw [nI_clamp h2] at z
      omega
  · rw [nI_clamp h2]
    exact kk ls hl
theorem r_ialdZ (X : Ctx p R s m args meth c cc nL own b BC BS S0 FR LO) (hw : Wd b BC BS S0 s A Ws sz sl H lo) (hd : Dc cc pc .iaload 1 n) (i j : Nat) {len k : Nat} {f : Nat → Int} (hi : Ws[i]? = some w) (hj : w[j]? = some (cZ b a len f)) (hk : k < len) (h2 : k < 2 ^ 31) (kk : V p l e R s m args below meth c Q nL H lo n L (.int (iI (f k)) :: st)) : V p l e R s m args below meth c Q nL H lo pc L (.int (nI k) :: .ref a :: st) := by
  obtain ⟨hd, rfl⟩ := hd
  obtain ⟨q, hq, -⟩ := fl_at hi hj
  intro ls hl
  refine va_iald (D := b.1) X.1 X.2.1 X.2.2.2.2.2.1.1 hw.1 q 0 hq rfl ?_ hd ?_
  · intro z
    rcases z with z | z
    · exact nI_pos h2 z
    · rw [nI_clamp h2] at z
      omega
  · rw [nI_clamp h2]
    exact kk ls hl
theorem r_baldB (X : Ctx p R s m args meth c cc nL own b BC BS S0 FR LO) (hw : Wd b BC BS S0 s A Ws sz sl H lo) (hd : Dc cc pc .baload 1 n) (i j : Nat) {len k : Nat} {f : Nat → Bool} (hi : Ws[i]? = some w) (hj : w[j]? = some (cB b a len f)) (hk : k < len) (h2 : k < 2 ^ 31) (kk : V p l e R s m args below meth c Q nL H lo n L (.int (bI (f k)) :: st)) : V p l e R s m args below meth c Q nL H lo pc L (.int (nI k) :: .ref a :: st) := by
  obtain ⟨hd, rfl⟩ := hd
  obtain ⟨q, hq, -⟩ := fl_at hi hj
  intro ls hl
  refine va_zald (D := b.1) X.1 X.2.1 X.2.2.2.2.2.1.1 hw.1 q 1 hq rfl ?_ hd ?_
  · intro z
    rcases z with z | z
    · exact nI_pos h2 z
    · rw [nI_clamp h2] at z
      omega
  · rw [nI_clamp h2]
    exact kk ls hl
theorem r_laldL (X : Ctx p R s m args meth c cc nL own b BC BS S0 FR LO) (hw : Wd b BC BS S0 s A Ws sz sl H lo) (hd : Dc cc pc .laload 1 n) (i j : Nat) {len k : Nat} {f : Nat → Nat} (hi : Ws[i]? = some w) (hj : w[j]? = some (cL b a len f)) (hk : k < len) (h2 : k < 2 ^ 31) (kk : V p l e R s m args below meth c Q nL H lo n L (.long (lN (f k)) :: st)) : V p l e R s m args below meth c Q nL H lo pc L (.int (nI k) :: .ref a :: st) := by
  obtain ⟨hd, rfl⟩ := hd
  obtain ⟨q, hq, -⟩ := fl_at hi hj
  intro ls hl
  refine va_lald (D := b.1) X.1 X.2.1 X.2.2.2.2.2.1.1 hw.1 q 2 hq rfl ?_ hd ?_
  · intro z
    rcases z with z | z
    · exact nI_pos h2 z
    · rw [nI_clamp h2] at z
      omega
  · rw [nI_clamp h2]
    exact kk ls hl
theorem r_aald (X : Ctx p R s m args meth c cc nL own b BC BS S0 FR LO) (hw : Wd b BC BS S0 s A Ws sz sl H lo) (hd : Dc cc pc .aaload 1 n) (i j t : Nat) {C : String} {len k : Nat} {f : Nat → Option Nat} (hi : Ws[i]? = some w) (hj : w[j]? = some (cR b t a len f)) (ht : (TY b)[t]? = some (b.2.1 t, .object C)) (hk : k < len) (h2 : k < 2 ^ 31) {v : Value} (hv : va_rf (f k) = v) (kk : V p l e R s m args below meth c Q nL H lo n L (v :: st)) : V p l e R s m args below meth c Q nL H lo pc L (.int (nI k) :: .ref a :: st) := by
  obtain ⟨hd, rfl⟩ := hd
  obtain ⟨q, hq, -⟩ := fl_at hi hj
  subst hv
  intro ls hl
  refine va_aldq (D := b.1) X.1 X.2.1 X.2.2.2.2.2.1.1 hw.1 q t hq ht ?_ hd ?_
  · intro z
    rcases z with z | z
    · exact nI_pos h2 z
    · rw [nI_clamp h2] at z
      omega
  · rw [nI_clamp h2]
    exact kk ls hl
theorem r_iastN (X : Ctx p R s m args meth c cc nL own b BC BS S0 FR LO) (hw : Wd b BC BS S0 s A Ws sz sl H lo) (hd : Dc cc pc .iastore 1 n) (i j : Nat) {len k x : Nat} {f : Nat → Nat} (hi : Ws[i]? = some w) (hj : w[j]? = some (cN b a len f)) (hk : k < len) (h2 : k < 2 ^ 31) (hW : Ws.set i (w.set j (cN b a len (va_up f k x))) = Ws') (kk : ∀ (H1 : Heap) (lo1 : List Loc), Wd b BC BS S0 s A Ws' sz sl H1 lo1 → V p l e R s m args below meth c Q nL H1 lo1 n L st) : V p l e R s m args below meth c Q nL H lo pc L (.int (nI x) :: .int (nI k) :: .ref a :: st) := by
  obtain ⟨hd, rfl⟩ := hd
  obtain ⟨q, hq, hset⟩ := fl_at hi hj
  refine V_le fun _ h0 ls hls => ?_
  subst hW
  have hS : va_S A H H lo := ⟨Nat.le_refl _, fun _ _ _ => rfl, hw.2.2.1.2.2⟩
  have kk2 := put_k hw h0 hls kk
  rw [← hset] at kk2
  refine va_iast (D := b.1) X.1 X.2.1 X.2.2.2.2.2.1.1 hw.1 hw.2.1 hS q 0 hq rfl ?_ hd ?_
  · intro z
    rcases z with z | z
    · exact nI_pos h2 z
    · rw [nI_clamp h2] at z
      omega
  · rw [upN h2]
    exact kk2
theorem r_iastZ (X : Ctx p R s m args meth c cc nL own b BC BS S0 FR LO) (hw : Wd b BC BS S0 s A Ws sz sl H lo) (hd : Dc cc pc .iastore 1 n) (i j : Nat) {len k : Nat} {x : Int} {f : Nat → Int} (hi : Ws[i]? = some w) (hj : w[j]? = some (cZ b a len f)) (hk : k < len) (h2 : k < 2 ^ 31) (hW : Ws.set i (w.set j (cZ b a len (va_up f k x))) = Ws') (kk : ∀ (H1 : Heap) (lo1 : List Loc), Wd b BC BS S0 s A Ws' sz sl H1 lo1 → V p l e R s m args below meth c Q nL H1 lo1 n L st) : V p l e R s m args below meth c Q nL H lo pc L (.int (iI x) :: .int (nI k) :: .ref a :: st) := by
  obtain ⟨hd, rfl⟩ := hd
  obtain ⟨q, hq, hset⟩ := fl_at hi hj
  refine V_le fun _ h0 ls hls => ?_
  subst hW
  have hS : va_S A H H lo := ⟨Nat.le_refl _, fun _ _ _ => rfl, hw.2.2.1.2.2⟩
  have kk2 := put_k hw h0 hls kk
  rw [← hset] at kk2
  refine va_iast (D := b.1) X.1 X.2.1 X.2.2.2.2.2.1.1 hw.1 hw.2.1 hS q 0 hq rfl ?_ hd ?_
  · intro z
    rcases z with z | z
    · exact nI_pos h2 z
    · rw [nI_clamp h2] at z
      omega
  · rw [upZ h2]
    exact kk2
theorem r_bastB (X : Ctx p R s m args meth c cc nL own b BC BS S0 FR LO) (hw : Wd b BC BS S0 s A Ws sz sl H lo) (hd : Dc cc pc .bastore 1 n) (i j : Nat) {len k : Nat} {x : Bool} {f : Nat → Bool} (hi : Ws[i]? = some w) (hj : w[j]? = some (cB b a len f)) (hk : k < len) (h2 : k < 2 ^ 31) (hW : Ws.set i (w.set j (cB b a len (va_up f k x))) = Ws') (kk : ∀ (H1 : Heap) (lo1 : List Loc), Wd b BC BS S0 s A Ws' sz sl H1 lo1 → V p l e R s m args below meth c Q nL H1 lo1 n L st) : V p l e R s m args below meth c Q nL H lo pc L (.int (bI x) :: .int (nI k) :: .ref a :: st) := by
  obtain ⟨hd, rfl⟩ := hd
  obtain ⟨q, hq, hset⟩ := fl_at hi hj
  refine V_le fun _ h0 ls hls => ?_
  subst hW
  have hS : va_S A H H lo := ⟨Nat.le_refl _, fun _ _ _ => rfl, hw.2.2.1.2.2⟩
  have kk2 := put_k hw h0 hls kk
  rw [← hset] at kk2
  refine va_zast (D := b.1) X.1 X.2.1 X.2.2.2.2.2.1.1 hw.1 hw.2.1 hS q 1 hq rfl ?_ hd ?_
  · intro z
    rcases z with z | z
    · exact nI_pos h2 z
    · rw [nI_clamp h2] at z
      omega
  · rw [upB h2]
    exact kk2
theorem r_lastL (X : Ctx p R s m args meth c cc nL own b BC BS S0 FR LO) (hw : Wd b BC BS S0 s A Ws sz sl H lo) (hd : Dc cc pc .lastore 1 n) (i j : Nat) {len k x : Nat} {f : Nat → Nat} (hi : Ws[i]? = some w) (hj : w[j]? = some (cL b a len f)) (hk : k < len) (h2 : k < 2 ^ 31) (hW : Ws.set i (w.set j (cL b a len (va_up f k x))) = Ws') (kk : ∀ (H1 : Heap) (lo1 : List Loc), Wd b BC BS S0 s A Ws' sz sl H1 lo1 → V p l e R s m args below meth c Q nL H1 lo1 n L st) : V p l e R s m args below meth c Q nL H lo pc L (.long (lN x) :: .int (nI k) :: .ref a :: st) := by
  obtain ⟨hd, rfl⟩ := hd
  obtain ⟨q, hq, hset⟩ := fl_at hi hj
  refine V_le fun _ h0 ls hls => ?_
  subst hW
  have hS : va_S A H H lo := ⟨Nat.le_refl _, fun _ _ _ => rfl, hw.2.2.1.2.2⟩
  have kk2 := put_k hw h0 hls kk
  rw [← hset] at kk2
  refine va_last (D := b.1) X.1 X.2.1 X.2.2.2.2.2.1.1 hw.1 hw.2.1 hS q 2 hq rfl ?_ hd ?_
  · intro z
    rcases z with z | z
    · exact nI_pos h2 z
    · rw [nI_clamp h2] at z
      omega
  · rw [upL h2]
    exact kk2
/-- null into an array of references -/
theorem r_aastN (X : Ctx p R s m args meth c cc nL own b BC BS S0 FR LO) (hw : Wd b BC BS S0 s A Ws sz sl H lo) (hd : Dc cc pc .aastore 1 n) (i j t : Nat) {C : String} {len k : Nat} {f : Nat → Option Nat} (hi : Ws[i]? = some w) (hj : w[j]? = some (cR b t a len f)) (ht : (TY b)[t]? = some (b.2.1 t, .object C)) (hk : k < len) (h2 : k < 2 ^ 31) (hW : Ws.set i (w.set j (cR b t a len (va_up f k none))) = Ws') (kk : ∀ (H1 : Heap) (lo1 : List Loc), Wd b BC BS S0 s A Ws' sz sl H1 lo1 → V p l e R s m args below meth c Q nL H1 lo1 n L st) : V p l e R s m args below meth c Q nL H lo pc L (.null :: .int (nI k) :: .ref a :: st) := by
  obtain ⟨hd, rfl⟩ := hd
  obtain ⟨q, hq, hset⟩ := fl_at hi hj
  refine V_le fun _ h0 ls hls => ?_
  subst hW
  have hS : va_S A H H lo := ⟨Nat.le_refl _, fun _ _ _ => rfl, hw.2.2.1.2.2⟩
  have kk2 := put_k hw h0 hls kk
  rw [← hset] at kk2
  refine va_astqN (D := b.1) X.1 X.2.1 X.2.2.2.2.2.1.1 hw.1 hw.2.1 hS q t hq ht ?_ hd ?_
  · intro z
    rcases z with z | z
    · exact nI_pos h2 z
    · rw [nI_clamp h2] at z
      omega
  · rw [nI_clamp h2]
    exact kk2
/-- an object of the world into an array of its own class, or of Object -/
theorem r_aastR (X : Ctx p R s m args meth c cc nL own b BC BS S0 FR LO) (hw : Wd b BC BS S0 s A Ws sz sl H lo) (hd : Dc cc pc .aastore 1 n) (i j t i2 j2 : Nat) {E : String} {len k v ci : Nat} {vs : List Value} {r : vw_C} {w2 : va_W} {f : Nat → Option Nat} (hi : Ws[i]? = some w) (hj : w[j]? = some (cR b t a len f)) (ht : (TY b)[t]? = some (b.2.1 t, .object E)) (hi2 : Ws[i2]? = some w2) (hj2 : w2[j2]? = some (v, .inr (ci, vs))) (hc : CL[ci]? = some r) (hcast : r.1 = E ∨ Cond.castable r.1 E ∈ nbW) (hk : k < len) (h2 : k < 2 ^ 31) (hW : Ws.set i (w.set j (cR b t a len (va_up f k (some v)))) = Ws') (kk : ∀ (H1 : Heap) (lo1 : List Loc), Wd b BC BS S0 s A Ws' sz sl H1 lo1 → V p l e R s m args below meth c Q nL H1 lo1 n L st) : V p l e R s m args below meth c Q nL H lo pc L (.ref v :: .int (nI k) :: .ref a :: st) := by
  obtain ⟨hd, rfl⟩ := hd
  obtain ⟨q, hq, hset⟩ := fl_at hi hj
  obtain ⟨q2, hq2, -⟩ := fl_at hi2 hj2
  have hK := X.2.2.2.2.2.1
  have hany : va_Any E s H v := by
    refine va_rAny hK.1 hw.1 hq2 hc ?_
    intro comp c0 h1 h2
    rcases hcast with e | e
    · rw [e, h1] at h2
      cases h2
      have := (hK.1.1 ci r hc).2
      rw [e] at this
      cases h1.symm.trans this.1
      exact va_assign this
    · obtain ⟨x, t0, f1, f2, f3⟩ := Cond.castable_spec (va_Nw.use (A := args) rfl (hK.2.1 _ e))
      cases f1.symm.trans h2
      cases f2.symm.trans h1
      exact f3
  refine V_le fun _ h0 ls hls => ?_
  subst hW
  have hS : va_S A H H lo := ⟨Nat.le_refl _, fun _ _ _ => rfl, hw.2.2.1.2.2⟩
  have kk2 := put_k hw h0 hls kk
  rw [← hset] at kk2
  refine va_astqM (D := b.1) X.1 X.2.1 hK.1 hw.1 hw.2.1 hS q t hq ht hany ?_ hd ?_
  · intro z
    rcases z with z | z
    · exact nI_pos h2 z
    · rw [nI_clamp h2] at z
      omega
  · rw [nI_clamp h2]
    exact kk2
-- new
theorem new_k {H1 : Heap} {N : Nat} {x : Nat × va_E} (hw : Wd b BC BS S0 s A Ws sz sl H lo) (h0 : slH s.heap ≤ slH H) (hx : va_at b.1 CL x H1) (hx1 : x.1 = sz) (hz : H1.size = H.size + 1) (hold : ∀ q : Nat, q < H.size → H1[q]? = H[q]?) (hN : szAt H1 H.size = N) (hc : sz + 1 ≤ BC) (hs : sl + N ≤ BS) : Wd b BC BS S0 s A (Ws ++ [[x]]) (sz + 1) (sl + N) H1 lo := by
  obtain ⟨a1, a2, a3, a4, a5, a6, a7, a8, a9, a10⟩ := hw
  have e1 : s.heap.size ≤ H.size := a3.1
  have e2 := slH_push hz hold hN
  have hfl : (Ws ++ [[x]]).flatten = Ws.flatten ++ [x] := by simp
  have hlt : ∀ y ∈ Ws.flatten, y.1 < H.size := fun y hy => (a1.mem hy).lt
  refine ⟨?_, ?_, ⟨by omega, fun q h1 h2 => (hold q (by omega)).trans (a3.2.1 q h1 h2), a3.2.2⟩, a4, a5, ⟨by have := a6.1; omega, fun q hq => (hold q (Nat.lt_of_lt_of_le hq a6.1)).trans (a6.2 q hq)⟩, by omega, by omega, hc, hs⟩
  · rw [hfl]
    refine va_P.of_mem fun y hy => ?_
    rcases List.mem_append.mp hy with h | h
    · exact (a1.mem h).kept (hold y.1 (hlt y h))
    · rw [List.mem_singleton.mp h]
      exact hx
  · rw [hfl]
    refine va_D.of_nodup ?_ ?_
    · rw [List.map_append, List.nodup_append]
      refine ⟨a2.nodup, by simp, ?_⟩
      intro u hu v hv e
      obtain ⟨y, hy, rfl⟩ := List.mem_map.mp hu
      simp at hv
      have := hlt y hy
      omega
    · intro y hy
      rcases List.mem_append.mp hy with h | h
      · exact a2.memA h
      · rw [List.mem_singleton.mp h, hx1]
        exact a4 sz (by omega)
theorem r_new (X : Ctx p R s m args meth c cc nL own b BC BS S0 FR LO) (hw : Wd b BC BS S0 s A Ws sz sl H lo) {idx ci N : Nat} {C : String} {T : u_T} {ty : Nat → FieldType} (F : ClsOK ci C T N ty) (hl : Cond.classLink own idx C ∈ tblG ∧ Cond.instantiable C N ∈ tblG ∧ Cond.initialized C ∈ tblG) (hd : Dc cc pc (.new idx) 3 n) {fs : List Value} (hfs : ∀ j, j < N → defaultValue (ty j) = vp_V fs j) (hc : sz + 1 ≤ BC) (hs : sl + N ≤ BS)
    (kk : ∀ (H1 : Heap), Wd b BC BS S0 s A (Ws ++ [[cO sz ci fs]]) (sz + 1) (sl + N) H1 lo → V p l e R s m args below meth c Q nL H1 lo n L (.ref sz :: st)) : V p l e R s m args below meth c Q nL H lo pc L st := by
  obtain ⟨hd, rfl⟩ := hd
  obtain ⟨hcl, hin, hty, -⟩ := F
  have hK := X.2.2.2.2.2.1.1
  have hKn := hK.1 ci _ hcl
  have hts := X.2.2.2.2.1
  refine V_le fun h00 h0 ls hls => ?_
  have a7 := hw.2.2.2.2.2.2.1
  have a8 := hw.2.2.2.2.2.2.2.1
  have r1 := X.2.2.2.2.2.2.1
  refine W.newcK X.1 X.2.1 X.2.2.2.1 (hts _ hl.1) (hts _ hl.2.1) (hts _ hl.2.2) rfl hd (by omega) (by omega) hKn.2.1 rfl fun H1 kC hkC e1 z1 o1 => ?_
  have hsz : szAt H1 H.size = N := by
    unfold szAt
    rw [e1]
    obtain ⟨cC, kC', g1, g2, -, g4⟩ := Cond.instantiable_spec (hts _ hl.2.1)
    cases hKn.2.1.symm.trans g1
    cases hkC.symm.trans g2
    simp [blank, g4]
  refine W_tight (?_ : W p l e R s m args below meth c H1 lo (H1.size - s.heap.size) (slH H1 - slH s.heap) Q (F0 m (pc + 3) ls (.ref H.size :: st)))
  rw [a7]
  refine kk H1 (new_k hw h0 ?_ rfl z1 o1 hsz hc hs) ls hls
  rw [← a7]
  exact ⟨_, hcl, (u_born ty hts hin hKn hkC e1 hty).to hfs⟩
theorem r_newN (X : Ctx p R s m args meth c cc nL own b BC BS S0 FR LO) (hw : Wd b BC BS S0 s A Ws sz sl H lo) (ha : Cond.arrayClass .int ∈ tblG) (hd : Dc cc pc (.newarray .int) 2 n) {len : Nat} (hlen : len ≤ 2 ^ 27) (hc : sz + 1 ≤ BC) (hs : sl + len ≤ BS)
    (kk : ∀ (H1 : Heap), Wd b BC BS S0 s A (Ws ++ [[cN b sz len (fun _ => 0)]]) (sz + 1) (sl + len) H1 lo → V p l e R s m args below meth c Q nL H1 lo n L (.ref sz :: st)) : V p l e R s m args below meth c Q nL H lo pc L (.int (nI len) :: st) := by
  obtain ⟨hd, rfl⟩ := hd
  have hK := X.2.2.2.2.2.1.1
  have hts := X.2.2.2.2.1
  refine V_le fun h00 h0 ls hls => ?_
  have a7 := hw.2.2.2.2.2.2.1
  have a8 := hw.2.2.2.2.2.2.2.1
  have r1 := X.2.2.2.2.2.2.1
  have h31 : len < 2 ^ 31 := by omega
  have hcb : componentBytes (newarray.typeOf .int) = 4 := rfl
  refine va_newaK (atype := .int) (N := len) X.1 X.2.1 (hts _ ha) rfl hd rfl (nI_pos h31) (nI_clamp h31) (by rw [hcb]; omega) (by omega) (by omega) rfl fun H1 cA e1 z1 o1 hAr hNm => ?_
  have hcA : cA = b.2.1 0 := Option.some.inj (hNm.symm.trans (hK.2 0 _ rfl).2)
  subst hcA
  have hsz : szAt H1 H.size = len := by
    unfold szAt
    rw [e1]
    exact arrV_size _ _ _
  refine W_tight (?_ : W p l e R s m args below meth c H1 lo (H1.size - s.heap.size) (slH H1 - slH s.heap) Q (F0 m (pc + 2) ls (.ref H.size :: st)))
  rw [a7]
  refine kk H1 (new_k hw h0 ?_ rfl z1 o1 hsz hc hs) ls hls
  rw [← a7]
  exact e1
theorem r_newB (X : Ctx p R s m args meth c cc nL own b BC BS S0 FR LO) (hw : Wd b BC BS S0 s A Ws sz sl H lo) (ha : Cond.arrayClass .boolean ∈ tblG) (hd : Dc cc pc (.newarray .boolean) 2 n) {len : Nat} (hlen : len ≤ 2 ^ 27) (hc : sz + 1 ≤ BC) (hs : sl + len ≤ BS)
    (kk : ∀ (H1 : Heap), Wd b BC BS S0 s A (Ws ++ [[cB b sz len (fun _ => false)]]) (sz + 1) (sl + len) H1 lo → V p l e R s m args below meth c Q nL H1 lo n L (.ref sz :: st)) : V p l e R s m args below meth c Q nL H lo pc L (.int (nI len) :: st) := by
  obtain ⟨hd, rfl⟩ := hd
  have hK := X.2.2.2.2.2.1.1
  have hts := X.2.2.2.2.1
  refine V_le fun h00 h0 ls hls => ?_
  have a7 := hw.2.2.2.2.2.2.1
  have a8 := hw.2.2.2.2.2.2.2.1
  have r1 := X.2.2.2.2.2.2.1
  have h31 : len < 2 ^ 31 := by omega
  have hcb : componentBytes (newarray.typeOf .boolean) = 1 := rfl
  refine va_newaK (atype := .boolean) (N := len) X.1 X.2.1 (hts _ ha) rfl hd rfl (nI_pos h31) (nI_clamp h31) (by rw [hcb]; omega) (by omega) (by omega) rfl fun H1 cA e1 z1 o1 hAr hNm => ?_
  have hcA : cA = b.2.1 1 := Option.some.inj (hNm.symm.trans (hK.2 1 _ rfl).2)
  subst hcA
  have hsz : szAt H1 H.size = len := by
    unfold szAt
    rw [e1]
    exact arrV_size _ _ _
  refine W_tight (?_ : W p l e R s m args below meth c H1 lo (H1.size - s.heap.size) (slH H1 - slH s.heap) Q (F0 m (pc + 2) ls (.ref H.size :: st)))
  rw [a7]
  refine kk H1 (new_k hw h0 ?_ rfl z1 o1 hsz hc hs) ls hls
  rw [← a7]
  exact e1
theorem r_newL (X : Ctx p R s m args meth c cc nL own b BC BS S0 FR LO) (hw : Wd b BC BS S0 s A Ws sz sl H lo) (ha : Cond.arrayClass .long ∈ tblG) (hd : Dc cc pc (.newarray .long) 2 n) {len : Nat} (hlen : len ≤ 2 ^ 26) (hc : sz + 1 ≤ BC) (hs : sl + len ≤ BS)
    (kk : ∀ (H1 : Heap), Wd b BC BS S0 s A (Ws ++ [[cL b sz len (fun _ => 0)]]) (sz + 1) (sl + len) H1 lo → V p l e R s m args below meth c Q nL H1 lo n L (.ref sz :: st)) : V p l e R s m args below meth c Q nL H lo pc L (.int (nI len) :: st) := by
  obtain ⟨hd, rfl⟩ := hd
  have hK := X.2.2.2.2.2.1.1
  have hts := X.2.2.2.2.1
  refine V_le fun h00 h0 ls hls => ?_
  have a7 := hw.2.2.2.2.2.2.1
  have a8 := hw.2.2.2.2.2.2.2.1
  have r1 := X.2.2.2.2.2.2.1
  have h31 : len < 2 ^ 31 := by omega
  have hcb : componentBytes (newarray.typeOf .long) = 8 := rfl
  refine va_newaK (atype := .long) (N := len) X.1 X.2.1 (hts _ ha) rfl hd rfl (nI_pos h31) (nI_clamp h31) (by rw [hcb]; omega) (by omega) (by omega) rfl fun H1 cA e1 z1 o1 hAr hNm => ?_
  have hcA : cA = b.2.1 2 := Option.some.inj (hNm.symm.trans (hK.2 2 _ rfl).2)
  subst hcA
  have hsz : szAt H1 H.size = len := by
    unfold szAt
    rw [e1]
    exact arrV_size _ _ _
  refine W_tight (?_ : W p l e R s m args below meth c H1 lo (H1.size - s.heap.size) (slH H1 - slH s.heap) Q (F0 m (pc + 2) ls (.ref H.size :: st)))
  rw [a7]
  refine kk H1 (new_k hw h0 ?_ rfl z1 o1 hsz hc hs) ls hls
  rw [← a7]
  exact e1
theorem r_newR (X : Ctx p R s m args meth c cc nL own b BC BS S0 FR LO) (hw : Wd b BC BS S0 s A Ws sz sl H lo) {idx : Nat} {C : String} (t : Nat) (ht : (TY b)[t]? = some (b.2.1 t, .object C)) (hover : va_AO C s) (hl : Cond.classLink own idx C ∈ tblG) (hd : Dc cc pc (.anewarray idx) 3 n) {len : Nat} (hlen : len ≤ 2 ^ 27) (hc : sz + 1 ≤ BC) (hs : sl + len ≤ BS)
    (kk : ∀ (H1 : Heap), Wd b BC BS S0 s A (Ws ++ [[cR b t sz len (fun _ => none)]]) (sz + 1) (sl + len) H1 lo → V p l e R s m args below meth c Q nL H1 lo n L (.ref sz :: st)) : V p l e R s m args below meth c Q nL H lo pc L (.int (nI len) :: st) := by
  obtain ⟨hd, rfl⟩ := hd
  have hK := X.2.2.2.2.2.1.1
  have hts := X.2.2.2.2.1
  refine V_le fun h00 h0 ls hls => ?_
  have a7 := hw.2.2.2.2.2.2.1
  have a8 := hw.2.2.2.2.2.2.2.1
  have r1 := X.2.2.2.2.2.2.1
  have h31 : len < 2 ^ 31 := by omega
  have hcl := nI_clamp h31
  refine W.anew X.1 X.2.1 X.2.2.2.1 (hts _ hl) (va_AO.use hover) rfl hd rfl (nI_pos h31) (by rw [hcl]; omega) (by omega) (by rw [hcl]; omega) fun cA kA comp f1 f2 f3 f4 => ?_
  rw [hcl]
  generalize hH1 : H.push ({ cls := cA, slots := Array.replicate len .null, vm := .none } : Cell) = H1
  have z1 : H1.size = H.size + 1 := by rw [← hH1, Array.size_push]
  have e1 : H1[H.size]? = some (arrV cA len (fun _ => .null)) := by rw [← hH1, Array.getElem?_push_size, ← arrV_new]
  have o1 : ∀ q : Nat, q < H.size → H1[q]? = H[q]? := fun q hq => by rw [← hH1, Array.getElem?_push, if_neg (Nat.ne_of_lt hq)]
  have hcA : cA = b.2.1 t := by
    obtain ⟨kA', comp', -, -, -, g4⟩ := (hK.2 t _ ht).2
    exact Option.some.inj (f1.symm.trans g4)
  subst hcA
  have hsz : szAt H1 H.size = len := by
    unfold szAt
    rw [e1]
    exact arrV_size _ _ _
  refine W_tight (?_ : W p l e R s m args below meth c H1 lo (H1.size - s.heap.size) (slH H1 - slH s.heap) Q (F0 m (pc + 3) ls (.ref H.size :: st)))
  rw [a7]
  refine kk H1 (new_k hw h0 ?_ rfl z1 o1 hsz hc hs) ls hls
  rw [← a7]
  exact e1
end RH
end
section
/-! ROWS of calls, returns, casts, statics, the library's natives -/
def notMH (C : String) : Prop := C ≠ "java/lang/invoke/MethodHandle" ∧ C ≠ "java/lang/invoke/VarHandle"
def nPar (d : String) (n : Nat) : Prop := (parseMethodDescriptor d).map (fun d => d.parameters.length) = some n
/-- what links a virtual call: class own, entry idx, receiver's class C -/
def MLV (own : String) (idx : Nat) (C : String) (y : MethodName) (cb : ByteArray) (mL : Nat) (rt : Option FieldType) (n : Nat) : Prop :=
  Cond.methodLink own idx y ∈ tblG ∧ Cond.instanceMethod y ∈ tblG ∧ Cond.selects C y y ∈ tblG ∧ Cond.initialized C ∈ tblG ∧ Cond.code y cb mL rt ∈ tblG ∧ y.cls = C ∧ notMH y.cls ∧ nPar y.desc n
def MLS (own : String) (idx : Nat) (y : MethodName) (cb : ByteArray) (mL : Nat) (rt : Option FieldType) (n : Nat) : Prop :=
  Cond.methodLink own idx y ∈ tblG ∧ Cond.static y ∈ tblG ∧ Cond.initialized y.cls ∈ tblG ∧ Cond.code y cb mL rt ∈ tblG ∧ notMH y.cls ∧ nPar y.desc n
def MLI (own : String) (idx : Nat) (y : MethodName) (cb : ByteArray) (mL : Nat) (n : Nat) : Prop :=
  (Cond.methodLink own idx y ∈ tblG ∨ ∃ host, Cond.methodLinkNest own idx y host ∈ nbW) ∧ Cond.instanceMethod y ∈ tblG ∧ Cond.initialized y.cls ∈ tblG ∧ Cond.code y cb mL none ∈ tblG ∧ y.name = "<init>" ∧ notMH y.cls ∧ nPar y.desc n
def MLU (own : String) (idx : Nat) (C owner : String) (x y : MethodName) (cb : ByteArray) (mL : Nat) (rt : Option FieldType) (n : Nat) : Prop :=
  Cond.methodLink own idx x ∈ tblG ∧ Cond.sameMethod x.cls owner x.name x.desc ∈ tblG ∧ Cond.selects C x y ∈ tblG ∧ Cond.instanceMethod y ∈ tblG ∧ Cond.initialized y.cls ∈ tblG ∧ Cond.code y cb mL rt ∈ tblG ∧ notMH owner ∧ nPar x.desc n ∧
  (Cond.declares ⟨owner, x.name, x.desc⟩ ∈ nbW ∨ ∃ (b0 : ByteArray) (m0 : Nat) (r0 : Option FieldType), Cond.instanceMethod ⟨owner, x.name, x.desc⟩ ∈ tblG ∧ Cond.code ⟨owner, x.name, x.desc⟩ b0 m0 r0 ∈ tblG)
theorem good_in {ws : List Cond} (h : ∀ w ∈ ws, w ∈ tblG) : GoodIn tblG ws := fun w hw => ⟨h w hw, tblG_ok w (h w hw)⟩
theorem good_code {y : MethodName} {cb : ByteArray} {mL : Nat} {rt : Option FieldType} (h : Cond.code y cb mL rt ∈ tblG) : ∀ w ∈ (Cond.code y cb mL rt :: tblG), w ∈ tblG := by
  intro w hw
  rcases List.mem_cons.mp hw with rfl | hw
  · exact h
  · exact hw
theorem calling_vm (U : State) (g : JFrame) (mk : MethodId) (a : Array Value) : U.vm = (U.calling g mk a).vm := rfl
section RC
variable {p : Program} {l : Launch} {e : Env} {R : Room} {s : State} {m : MethodId} {args : Array Value} {below : List Frame} {meth : Method} {c : Code} {Q : State → Prop} {cc : ByteArray} {nL : Nat} {own : String} {b : BK} {BC BS S0 FR LO : Nat} {H : Heap} {lo : List Loc} {pc n : Nat} {L L' : List (Nat × Value)} {st st0 st' : List Value} {A : Nat → Prop} {Ws Ws' Wc Wr : List va_W} {w : va_W} {sz sl a : Nat}
theorem Wd.recv (X : Ctx p R s m args meth c cc nL own b BC BS S0 FR LO) (hw : Wd b BC BS S0 s A Ws sz sl H lo) (i j : Nat) {ci : Nat} {fs : List Value} {C : String} {T : u_T} {N : Nat} {ty : Nat → FieldType} (hi : Ws[i]? = some w) (hj : w[j]? = some (a, .inr (ci, fs))) (hc : ClsOK ci C T N ty) : ∃ cellB : Cell, H[a]? = some cellB ∧ cellB.vm.isStatics = false ∧ s.vm.findClass C = some cellB.cls := by
  obtain ⟨q, hq, -⟩ := fl_at hi hj
  exact va_recv X.2.2.2.2.2.1.1 hw.1 hc.1 hq
theorem run_V {S : Type} {post : Option Value → Nat → Nat → S → Prop} {Wp : S → List va_W} (hw : Wd b BC BS S0 s A Ws sz sl H lo) (isC isR : List Nat) {NW : Nat} (hNW : Ws.length = NW) (hperm : (isC ++ isR).isPerm (List.range NW) = true) (hC : pick isC Ws = Wc) (hR : pick isR Ws = Wr)
    (hr : ∀ ls, lv_has ls nL L → va_Run p l e R s m args below meth c H lo (H.size - s.heap.size) (slH H - slH s.heap) (BC - sz) (BS - sl) (F0 m pc ls st0) st (fun st o t => ∃ (r : Option Value) (u : S) (sl' : Nat), o = .returned r ∧ post r t.heap.size sl' u ∧ t.heap.size ≤ BC ∧ sl' ≤ BS ∧ slH t.heap + sl ≤ sl' + slH st.heap ∧ va_P b.1 CL (Wp u).flatten t.heap ∧ va_D (va_A Wc.flatten sz) (Wp u).flatten ∧ va_F (va_A Wc.flatten sz) st t) (va_A Wc.flatten sz))
    (kk : ∀ (r : Option Value) (u : S) (sz' sl' : Nat) (H1 : Heap) (lo1 : List Loc), post r sz' sl' u → Wd b BC BS S0 s A (Wp u ++ Wr) sz' sl' H1 lo1 → V p l e R s m args below meth c Q nL H1 lo1 (pc + 3) L (r.toList ++ st)) : V p l e R s m args below meth c Q nL H lo pc L st0 := by
  have hpm := pick_perm isC isR hNW hperm hC hR
  intro ls hl T hT X0
  obtain ⟨v, st₀, t, T', Lc, h0, X', hL, e1, e2, ⟨r, u, sl', hv, hp, hz1, hs1, hs2, hP1, hD1, hF1, hF2⟩, stp⟩ := hr ls hl T hT X0
  cases hv
  obtain ⟨a1, a2, a3, a4, a5, a6, a7, a8, a9, a10⟩ := hw
  have p1 := a1.perm hpm
  have p2 := a2.perm hpm
  rw [h0] at hF1 hF2 hs2
  have toA : ∀ q : Nat, va_A Wc.flatten sz q → A q := by
    intro q hq
    rcases hq with ⟨k, x, hk⟩ | hq
    · exact p2.memA (x := (q, x)) (List.mem_append_left _ (List.mem_of_getElem? hk))
    · have := a3.1
      exact a4 q (by omega)
  have hnd := p2.nodup
  rw [List.map_append] at hnd
  obtain ⟨nd1, nd2, nd3⟩ := List.nodup_append.mp hnd
  have notR : ∀ x ∈ Wr.flatten, x.1 < H.size ∧ ¬ va_A Wc.flatten sz x.1 := by
    intro x hx
    have hlt := (p1.mem (List.mem_append_right _ hx)).lt
    refine ⟨hlt, fun hq => ?_⟩
    rcases hq with ⟨k, y, hk⟩ | hq
    · exact nd3 x.1 (List.mem_map.mpr ⟨(x.1, y), List.mem_of_getElem? hk, rfl⟩) x.1 (List.mem_map.mpr ⟨x, hx, rfl⟩) rfl
    · omega
  have hw1 : Wd b BC BS S0 s A (Wp u ++ Wr) t.heap.size sl' T'.heap (lo ++ Lc) := by
    refine ⟨?_, ?_, ⟨?_, ?_, ?_⟩, a4, a5, ⟨?_, ?_⟩, by rw [e1], ?_, hz1, hs1⟩
    · rw [List.flatten_append, e1]
      refine va_P.of_mem fun x hx => ?_
      rcases List.mem_append.mp hx with h | h
      · exact hP1.mem h
      · obtain ⟨g1, g2⟩ := notR x h
        exact (p1.mem (List.mem_append_right _ h)).kept (hF2 x.1 g1 g2)
    · rw [List.flatten_append]
      refine va_D.of_nodup ?_ ?_
      · rw [List.map_append, List.nodup_append]
        refine ⟨hD1.nodup, nd2, ?_⟩
        intro u1 hu1 v1 hv1 e3
        obtain ⟨x, hx, rfl⟩ := List.mem_map.mp hu1
        obtain ⟨y, hy, rfl⟩ := List.mem_map.mp hv1
        exact (notR y hy).2 (e3 ▸ hD1.memA hx)
      · intro x hx
        rcases List.mem_append.mp hx with h | h
        · exact toA _ (hD1.memA h)
        · exact p2.memA (List.mem_append_right _ h)
    · rw [e1]
      exact Nat.le_trans a3.1 hF1
    · intro q h1 h2
      rw [e1, hF2 q (Nat.lt_of_lt_of_le h1 a3.1) (fun z => h2 (toA q z))]
      exact a3.2.1 q h1 h2
    · intro q hq
      rcases List.mem_append.mp hq with h | h
      · exact a3.2.2 q h
      · exact toA _ (hL q h)
    · rw [e1]
      exact Nat.le_trans a6.1 hF1
    · intro q hq
      rw [e1, hF2 q (Nat.lt_of_lt_of_le hq a6.1) (fun z => absurd (a5 q (toA q z)) (by omega))]
      exact a6.2 q hq
    · rw [e1]
      omega
  obtain ⟨t2, b1, b2⟩ := (W_tight (kk v u _ sl' T'.heap (lo ++ Lc) hp hw1 ls hl)) T' rfl X'
  exact ⟨t2, stp t2 b1, b2⟩
theorem con_blind {mL : Nat} {av : List Value} : FrameBlind (fun (v : Array Value) (U : State) => v = av.toArray ∧ U.heap.size = sz ∧ sz ≤ BC ∧ sl ≤ BS ∧ Kn b U ∧ PW b Wc U.heap) := by
  intro a0 U g mk h
  obtain ⟨h1, h2, h3, h4, h5, h6⟩ := h
  exact ⟨h1, h2, h3, h4, Kn.same (calling_vm U g mk a0) h5, h6⟩
theorem con_pre (X : Ctx p R s m args meth c cc nL own b BC BS S0 FR LO) (hw : Wd b BC BS S0 s A Ws sz sl H lo) (isC isR : List Nat) {NW : Nat} (hNW : Ws.length = NW) (hperm : (isC ++ isR).isPerm (List.range NW) = true) (hC : pick isC Ws = Wc) (av : List Value) : ∀ U : State, U.heap = H → s.WarmedH U.vm → (av.toArray = av.toArray ∧ U.heap.size = sz ∧ sz ≤ BC ∧ sl ≤ BS ∧ Kn b U ∧ PW b Wc U.heap) := by
  intro U hU hW
  have h := hw.pick isC isR hNW hperm hC
  obtain ⟨a1, a2, a3, a4, a5, a6, a7, a8, a9, a10⟩ := h
  exact ⟨rfl, by rw [hU]; exact a7, a9, a10, Kn.warm hW X.2.2.2.2.2.1, by rw [hU]; exact ⟨a1, a2.weaken (fun _ q _ h => a5 _ h), a6⟩⟩
theorem con_fit (X : Ctx p R s m args meth c cc nL own b BC BS S0 FR LO) (hw : Wd b BC BS S0 s A Ws sz sl H lo) (h0 : slH s.heap ≤ slH H) : H.size - s.heap.size + (BC - sz) ≤ R.cells ∧ slH H - slH s.heap + (BS - sl) ≤ R.slots := by
  obtain ⟨a1, a2, a3, a4, a5, a6, a7, a8, a9, a10⟩ := hw
  have r1 := X.2.2.2.2.2.2.1
  have := a3.1
  constructor <;> omega
theorem r_callV {S : Type} {post : Option Value → Nat → Nat → S → Prop} {Wp : S → List va_W} {y : MethodName} {cb : ByteArray} {mL nA idx fr lc : Nat} {rt : Option FieldType} {C : String} {As : List Value}
    (X : Ctx p R s m args meth c cc nL own b BC BS S0 FR LO) (hw : Wd b BC BS S0 s A Ws sz sl H lo) (M : MLV own idx C y cb mL rt nA) (hM : Con l b y cb mL rt fr lc BC BS sz sl (.ref a :: As) Wc post Wp) (hd : Dc cc pc (.invokevirtual idx) 3 n) (isC isR : List Nat) {NW : Nat} (hNW : Ws.length = NW) (hperm : (isC ++ isR).isPerm (List.range NW) = true) (hC : pick isC Ws = Wc) (hR : pick isR Ws = Wr)
    (hrec : ∃ cellB : Cell, H[a]? = some cellB ∧ cellB.vm.isStatics = false ∧ s.vm.findClass C = some cellB.cls) (hn : As.length = nA) (hst : st0 = As.reverse ++ .ref a :: st) (hcat : (st.map fun v => v.category).sum ≤ 8) (hroom : fr + 1 ≤ FR ∧ 8 + (mL + 11) + lc ≤ LO)
    (kk : ∀ (r : Option Value) (u : S) (sz' sl' : Nat) (H1 : Heap) (lo1 : List Loc), post r sz' sl' u → Wd b BC BS S0 s A (Wp u ++ Wr) sz' sl' H1 lo1 → V p l e R s m args below meth c Q nL H1 lo1 n L (r.toList ++ st)) : V p l e R s m args below meth c Q nL H lo pc L st0 := by
  obtain ⟨hd, rfl⟩ := hd
  obtain ⟨m1, m2, m3, m4, m5, m6, m7, m8⟩ := M
  have hx := X
  obtain ⟨x1, x2, x3, x4, x5, x6, x7, x8, x9⟩ := hx
  refine V_le fun _ h0 => run_V hw isC isR hNW hperm hC hR (fun ls hl => ?_) kk
  have hG : GoodIn tblG (wsV own idx C y (Cond.code y cb mL rt :: tblG)) := good_in fun w hw => by
    unfold wsV at hw
    rcases List.mem_append.mp hw with h | h
    · simp only [List.mem_cons, List.not_mem_nil, or_false] at h
      rcases h with rfl | rfl | rfl | rfl <;> assumption
    · exact good_code m5 w h
  exact va_runV (As := As) (rest := st) ⟨x1, x2, x3, x4, x5⟩ hM (cwV nA x5 hG rfl rfl rfl ⟨m6, m7.1, m7.2, m8⟩ ⟨Nat.le_trans hroom.1 x8.1, Nat.le_trans hroom.2 x8.2⟩) ⟨con_blind (mL := mL), hrec, con_pre X hw isC isR hNW hperm hC _⟩ rfl hn hl.1 hst (lv_room hcat) hd (con_fit X hw h0)
theorem r_callU {S : Type} {post : Option Value → Nat → Nat → S → Prop} {Wp : S → List va_W} {x y : MethodName} {cb : ByteArray} {mL nA idx fr lc : Nat} {rt : Option FieldType} {C owner : String} {As : List Value}
    (X : Ctx p R s m args meth c cc nL own b BC BS S0 FR LO) (hw : Wd b BC BS S0 s A Ws sz sl H lo) (M : MLU own idx C owner x y cb mL rt nA) (hM : Con l b y cb mL rt fr lc BC BS sz sl (.ref a :: As) Wc post Wp) (hd : Dc cc pc (.invokevirtual idx) 3 n) (isC isR : List Nat) {NW : Nat} (hNW : Ws.length = NW) (hperm : (isC ++ isR).isPerm (List.range NW) = true) (hC : pick isC Ws = Wc) (hR : pick isR Ws = Wr)
    (hrec : ∃ cellB : Cell, H[a]? = some cellB ∧ cellB.vm.isStatics = false ∧ s.vm.findClass C = some cellB.cls) (hn : As.length = nA) (hst : st0 = As.reverse ++ .ref a :: st) (hcat : (st.map fun v => v.category).sum ≤ 8) (hroom : fr + 1 ≤ FR ∧ 8 + (mL + 11) + lc ≤ LO)
    (kk : ∀ (r : Option Value) (u : S) (sz' sl' : Nat) (H1 : Heap) (lo1 : List Loc), post r sz' sl' u → Wd b BC BS S0 s A (Wp u ++ Wr) sz' sl' H1 lo1 → V p l e R s m args below meth c Q nL H1 lo1 n L (r.toList ++ st)) : V p l e R s m args below meth c Q nL H lo pc L st0 := by
  obtain ⟨hd, rfl⟩ := hd
  obtain ⟨m1, m2, m3, m4, m5, m6, m7, m8, m9⟩ := M
  have hx := X
  obtain ⟨x1, x2, x3, x4, x5, x6, x7, x8, x9⟩ := hx
  refine V_le fun _ h0 => run_V hw isC isR hNW hperm hC hR (fun ls hl => ?_) kk
  have hG : GoodIn tblG (Cond.code y cb mL rt :: tblG) := good_in (good_code m6)
  have hdecl : va_Decl s ⟨owner, x.name, x.desc⟩ := by
    rcases m9 with h | ⟨b0, m0, r0, h1, h2⟩
    · exact va_Decl.abs (x6.2.1 _ h)
    · exact va_Decl.of (x5 _ h1) (x5 _ h2)
  have cu : va_CU R s args own C owner idx x y cb mL rt (Cond.code y cb mL rt :: tblG) { frames := fr, cells := BC - sz, slots := BS - sl, locals := lc } (BC - sz) (BS - sl) nA :=
    ⟨⟨rfl, rfl, Nat.le_trans hroom.1 x8.1, Nat.le_trans hroom.2 x8.2, pay_in x5 hG, List.mem_cons_self⟩, x5 _ m6, x5 _ m5, m7, fun sig h => by
      have h2 := m8
      unfold nPar at h2
      rw [h] at h2
      exact (Option.some.inj h2).symm, x5 _ m1, x5 _ m2, hdecl, x5 _ m3, x5 _ m4⟩
  exact va_runU (As := As) (rest := st) ⟨x1, x2, x3, x4, x5⟩ hM cu ⟨con_blind (mL := mL), hrec, con_pre X hw isC isR hNW hperm hC _⟩ rfl hn hl.1 hst (lv_room hcat) hd (con_fit X hw h0)
theorem r_callS {S : Type} {post : Option Value → Nat → Nat → S → Prop} {Wp : S → List va_W} {y : MethodName} {cb : ByteArray} {mL nA idx fr lc : Nat} {rt : Option FieldType} {As : List Value}
    (X : Ctx p R s m args meth c cc nL own b BC BS S0 FR LO) (hw : Wd b BC BS S0 s A Ws sz sl H lo) (M : MLS own idx y cb mL rt nA) (hM : Con l b y cb mL rt fr lc BC BS sz sl As Wc post Wp) (hd : Dc cc pc (.invokestatic idx) 3 n) (isC isR : List Nat) {NW : Nat} (hNW : Ws.length = NW) (hperm : (isC ++ isR).isPerm (List.range NW) = true) (hC : pick isC Ws = Wc) (hR : pick isR Ws = Wr)
    (hn : As.length = nA) (hst : st0 = As.reverse ++ st) (hcat : (st.map fun v => v.category).sum ≤ 8) (hroom : fr + 1 ≤ FR ∧ 8 + (mL + 11) + lc ≤ LO)
    (kk : ∀ (r : Option Value) (u : S) (sz' sl' : Nat) (H1 : Heap) (lo1 : List Loc), post r sz' sl' u → Wd b BC BS S0 s A (Wp u ++ Wr) sz' sl' H1 lo1 → V p l e R s m args below meth c Q nL H1 lo1 n L (r.toList ++ st)) : V p l e R s m args below meth c Q nL H lo pc L st0 := by
  obtain ⟨hd, rfl⟩ := hd
  obtain ⟨m1, m2, m3, m5, m7, m8⟩ := M
  have hx := X
  obtain ⟨x1, x2, x3, x4, x5, x6, x7, x8, x9⟩ := hx
  refine V_le fun _ h0 => run_V hw isC isR hNW hperm hC hR (fun ls hl => ?_) kk
  have hG : GoodIn tblG (va_wsS own idx y (Cond.code y cb mL rt :: tblG)) := good_in fun w hw => by
    unfold va_wsS at hw
    rcases List.mem_append.mp hw with h | h
    · simp only [List.mem_cons, List.not_mem_nil, or_false] at h
      rcases h with rfl | rfl | rfl <;> assumption
    · exact good_code m5 w h
  exact va_runS (As := As) (rest := st) ⟨x1, x2, x3, x4, x5⟩ hM (va_cwS nA x5 hG rfl rfl rfl ⟨m7.1, m7.2, m8⟩ ⟨Nat.le_trans hroom.1 x8.1, Nat.le_trans hroom.2 x8.2⟩) ⟨con_blind (mL := mL), con_pre X hw isC isR hNW hperm hC _⟩ rfl hn hl.1 hst (lv_room hcat) hd (con_fit X hw h0)
theorem r_callI {S : Type} {post : Option Value → Nat → Nat → S → Prop} {Wp : S → List va_W} {y : MethodName} {cb : ByteArray} {mL nA idx fr lc : Nat} {As : List Value}
    (X : Ctx p R s m args meth c cc nL own b BC BS S0 FR LO) (hw : Wd b BC BS S0 s A Ws sz sl H lo) (M : MLI own idx y cb mL nA) (hM : Con l b y cb mL none fr lc BC BS sz sl (.ref a :: As) Wc post Wp) (hd : Dc cc pc (.invokespecial idx) 3 n) (isC isR : List Nat) {NW : Nat} (hNW : Ws.length = NW) (hperm : (isC ++ isR).isPerm (List.range NW) = true) (hC : pick isC Ws = Wc) (hR : pick isR Ws = Wr)
    (hn : As.length = nA) (hst : st0 = As.reverse ++ .ref a :: st) (hcat : (st.map fun v => v.category).sum ≤ 8) (hroom : fr + 1 ≤ FR ∧ 8 + (mL + 11) + lc ≤ LO)
    (kk : ∀ (r : Option Value) (u : S) (sz' sl' : Nat) (H1 : Heap) (lo1 : List Loc), post r sz' sl' u → Wd b BC BS S0 s A (Wp u ++ Wr) sz' sl' H1 lo1 → V p l e R s m args below meth c Q nL H1 lo1 n L (r.toList ++ st)) : V p l e R s m args below meth c Q nL H lo pc L st0 := by
  obtain ⟨hd, rfl⟩ := hd
  obtain ⟨m1, m2, m3, m5, m6, m7, m8⟩ := M
  have hx := X
  obtain ⟨x1, x2, x3, x4, x5, x6, x7, x8, x9⟩ := hx
  refine V_le fun _ h0 => run_V hw isC isR hNW hperm hC hR (fun ls hl => ?_) kk
  have hG : GoodIn tblG (Cond.code y cb mL none :: tblG) := good_in (good_code m5)
  rcases m1 with m1 | ⟨host, m1⟩
  · exact va_runI (As := As) (rest := st) ⟨x1, x2, x3, x4, x5⟩ hM (cwI nA x5 hG rfl rfl rfl (x5 _ m3) (x5 _ m1) (x5 _ m2) m6 ⟨m7.1, m7.2, m8⟩ ⟨Nat.le_trans hroom.1 x8.1, Nat.le_trans hroom.2 x8.2⟩) ⟨con_blind (mL := mL), con_pre X hw isC isR hNW hperm hC _⟩ rfl hn hl.1 hst (lv_room hcat) hd (con_fit X hw h0)
  · exact va_runIN (As := As) (rest := st) ⟨x1, x2, x3, x4, x5⟩ hM ⟨va_cnB nA x5 hG rfl rfl rfl (x6.2.1 _ m1) (x5 _ m3) ⟨m7.1, m7.2, m8⟩ ⟨Nat.le_trans hroom.1 x8.1, Nat.le_trans hroom.2 x8.2⟩, m6, x5 _ m2⟩ ⟨con_blind (mL := mL), con_pre X hw isC isR hNW hperm hC _⟩ rfl hn hl.1 hst (lv_room hcat) hd (con_fit X hw h0)
-- returns
theorem r_vret {S : Type} {post : Option Value → Nat → Nat → S → Prop} {Wp : S → List va_W} (RT : RetK p l e R s m args below meth c Q nL cc none b BC BS S0 A post Wp) (hd : Dc cc pc .return_ 1 n) (u : S) (hp : post none sz sl u) (hw : Wd b BC BS S0 s A (Wp u) sz sl H lo) : V p l e R s m args below meth c Q nL H lo pc L [] := RT none u _ _ _ _ _ _ _ _ _ hp hw hd (Or.inl ⟨rfl, rfl, rfl, rfl⟩)
theorem r_iret {S : Type} {post : Option Value → Nat → Nat → S → Prop} {Wp : S → List va_W} {v : Int32} (RT : RetK p l e R s m args below meth c Q nL cc (some .int) b BC BS S0 A post Wp) (hd : Dc cc pc .ireturn 1 n) (u : S) (hp : post (some (.int v)) sz sl u) (hw : Wd b BC BS S0 s A (Wp u) sz sl H lo) : V p l e R s m args below meth c Q nL H lo pc L [.int v] := RT _ u _ _ _ _ _ _ _ _ _ hp hw hd (Or.inr (Or.inl ⟨v, _, rfl, rfl, rfl, rfl, rfl⟩))
theorem nr_bI (x : Bool) : narrow .boolean (.int (bI x)) = .int (bI x) := by cases x <;> rfl
theorem ft_bI (x : Bool) : fits .boolean (.int (bI x)) = true := by cases x <;> rfl
theorem r_zret {S : Type} {post : Option Value → Nat → Nat → S → Prop} {Wp : S → List va_W} {v : Bool} (RT : RetK p l e R s m args below meth c Q nL cc (some .boolean) b BC BS S0 A post Wp) (hd : Dc cc pc .ireturn 1 n) (u : S) (hp : post (some (.int (bI v))) sz sl u) (hw : Wd b BC BS S0 s A (Wp u) sz sl H lo) : V p l e R s m args below meth c Q nL H lo pc L [.int (bI v)] := RT _ u _ _ _ _ _ _ _ _ _ hp hw hd (Or.inr (Or.inl ⟨_, _, rfl, rfl, rfl, rfl, nr_bI v⟩))
theorem r_aret {S : Type} {post : Option Value → Nat → Nat → S → Prop} {Wp : S → List va_W} {v : Value} {ty : FieldType} (RT : RetK p l e R s m args below meth c Q nL cc (some ty) b BC BS S0 A post Wp) (hty : (∃ n, ty = .object n) ∨ ∃ t, ty = .array t) (hv : v = .null ∨ ∃ a, v = .ref a) (hd : Dc cc pc .areturn 1 n) (u : S) (hp : post (some v) sz sl u) (hw : Wd b BC BS S0 s A (Wp u) sz sl H lo) : V p l e R s m args below meth c Q nL H lo pc L [v] := RT _ u _ _ _ _ _ _ _ _ _ hp hw hd (Or.inr (Or.inr ⟨_, _, rfl, rfl, rfl, rfl, hty, hv⟩))
-- Object.<init>
theorem r_objInit (X : Ctx p R s m args meth c cc nL own b BC BS S0 FR LO) {idx : Nat} (M : Cond.methodLink own idx Lib.objectInit ∈ tblG ∧ Cond.instanceMethod Lib.objectInit ∈ tblG ∧ Cond.code Lib.objectInit ⟨#[0xb1]⟩ 1 none ∈ tblG) (hd : Dc cc pc (.invokespecial idx) 3 n) (hcat : (st.map fun v => v.category).sum ≤ 8) (hroom : 1 ≤ FR ∧ 20 ≤ LO) (kk : V p l e R s m args below meth c Q nL H lo n L st) : V p l e R s m args below meth c Q nL H lo pc L (.ref a :: st) := by
  obtain ⟨hd, rfl⟩ := hd
  obtain ⟨x1, x2, x3, x4, x5, x6, x7, x8, x9⟩ := X
  intro ls hl
  refine W.objInit x1 x2 x4 (x5 _ M.1) (x5 _ M.2.1) (x5 _ M.2.2) rfl (by rw [x3]; exact hl.1) rfl hd (Nat.le_trans hroom.1 x8.1) ?_ (kk ls hl)
  have := lv_room (m := m) (pc := pc) (ls := ls) (rest := (.ref a :: st)) hcat
  have h2 := x8.2
  omega
-- null, references
theorem r_ifnonnull (X : Ctx p R s m args meth c cc nL own b BC BS S0 FR LO) {off : Int} {tgt : Nat} (hd : Dc cc pc (.ifnonnull off) 3 n) (ht : (pc : Int) + off = (tgt : Int)) (k : V p l e R s m args below meth c Q nL H lo tgt L st) : V p l e R s m args below meth c Q nL H lo pc L (.ref a :: st) := by
  obtain ⟨hd, rfl⟩ := hd
  exact fun ls hl => lv_ifnonnull X.1 X.2.1 hd ht (k ls hl)
theorem r_ifnull (X : Ctx p R s m args meth c cc nL own b BC BS S0 FR LO) {off : Int} (hd : Dc cc pc (.ifnull off) 3 n) (k : V p l e R s m args below meth c Q nL H lo n L st) : V p l e R s m args below meth c Q nL H lo pc L (.ref a :: st) := by
  obtain ⟨hd, rfl⟩ := hd
  exact fun ls hl => lv_ifnull X.1 X.2.1 hd (k ls hl)
theorem r_ifnullN (X : Ctx p R s m args meth c cc nL own b BC BS S0 FR LO) {off : Int} {tgt : Nat} (hd : Dc cc pc (.ifnull off) 3 n) (ht : (pc : Int) + off = (tgt : Int)) (k : V p l e R s m args below meth c Q nL H lo tgt L st) : V p l e R s m args below meth c Q nL H lo pc L (.null :: st) := by
  obtain ⟨hd, rfl⟩ := hd
  exact fun ls hl => lv_ifnullN X.1 X.2.1 hd ht (k ls hl)
theorem r_ifnonnullN (X : Ctx p R s m args meth c cc nL own b BC BS S0 FR LO) {off : Int} (hd : Dc cc pc (.ifnonnull off) 3 n) (k : V p l e R s m args below meth c Q nL H lo n L st) : V p l e R s m args below meth c Q nL H lo pc L (.null :: st) := by
  obtain ⟨hd, rfl⟩ := hd
  exact fun ls hl => lv_ifnonnullN X.1 X.2.1 hd (k ls hl)
theorem r_acmpne (X : Ctx p R s m args meth c cc nL own b BC BS S0 FR LO) {x y : Nat} {off : Int} {tgt : Nat} {P : Prop} (hP : x = y ↔ P) (hd : Dc cc pc (.if_acmp .ne off) 3 n) (ht : (pc : Int) + off = (tgt : Int)) (k1 : ¬ P → V p l e R s m args below meth c Q nL H lo tgt L st) (k2 : P → V p l e R s m args below meth c Q nL H lo n L st) : V p l e R s m args below meth c Q nL H lo pc L (.ref y :: .ref x :: st) := by
  obtain ⟨hd, rfl⟩ := hd
  exact fun ls hl => lv_acmp_ne (rx := some x) (ry := some y) X.1 X.2.1 hd ht (fun h => k1 (fun z => h (by rw [hP.mpr z])) ls hl) (fun h => k2 (hP.mp (by simpa using h)) ls hl)
theorem r_acmpeq (X : Ctx p R s m args meth c cc nL own b BC BS S0 FR LO) {x y : Nat} {off : Int} {tgt : Nat} {P : Prop} (hP : x = y ↔ P) (hd : Dc cc pc (.if_acmp .eq off) 3 n) (ht : (pc : Int) + off = (tgt : Int)) (k1 : P → V p l e R s m args below meth c Q nL H lo tgt L st) (k2 : ¬ P → V p l e R s m args below meth c Q nL H lo n L st) : V p l e R s m args below meth c Q nL H lo pc L (.ref y :: .ref x :: st) := by
  obtain ⟨hd, rfl⟩ := hd
  exact fun ls hl => lv_acmp_eq (rx := some x) (ry := some y) X.1 X.2.1 hd ht (fun h => k1 (hP.mp (by simpa using h)) ls hl) (fun h => k2 (fun z => h (by rw [hP.mpr z])) ls hl)
theorem r_cast (X : Ctx p R s m args meth c cc nL own b BC BS S0 FR LO) {idx : Nat} {C nm : String} (hl : Cond.classLink own idx nm ∈ tblG) (hc : Cond.castable C nm ∈ nbW) (hrec : ∃ cellB : Cell, H[a]? = some cellB ∧ cellB.vm.isStatics = false ∧ s.vm.findClass C = some cellB.cls) (hd : Dc cc pc (.checkcast idx) 3 n) (kk : V p l e R s m args below meth c Q nL H lo n L (.ref a :: st)) : V p l e R s m args below meth c Q nL H lo pc L (.ref a :: st) := by
  obtain ⟨hd, rfl⟩ := hd
  exact fun ls h => va_castY X.1 X.2.1 X.2.2.2.1 (X.2.2.2.2.1 _ hl) (X.2.2.2.2.2.1.2.1 _ hc) hrec hd (kk ls h)
-- the enum's constants
theorem KnE.recv (X : Ctx p R s m args meth c cc nL own b BC BS S0 FR LO) (hw : Wd b BC BS S0 s A Ws sz sl H lo) {i : Nat} (hi : i < 8) : ∃ cellB : Cell, H[b.2.2.2.2 i]? = some cellB ∧ cellB.vm.isStatics = false ∧ s.vm.findClass "LoopProver$Kind" = some cellB.cls := by
  have hE : KnE b s := X.2.2.2.2.2.1.2.2.2.1
  obtain ⟨-, ⟨cell, h1, h2, h3, h4⟩, -⟩ := hE.1 i hi
  exact ⟨cell, by rw [hw.2.2.2.2.2.1.2 _ (Nat.not_le.mp h4)]; exact h1, h2, h3⟩
theorem r_gets (X : Ctx p R s m args meth c cc nL own b BC BS S0 FR LO) (hw : Wd b BC BS S0 s A Ws sz sl H lo) {idx i : Nat} (hi : i < 8) (hl : Cond.fieldLink own idx "LoopProver$Kind" (kindNames.getD i "") "LLoopProver$Kind;" ∈ tblG) (hd : Dc cc pc (.getstatic idx) 3 n) (kk : V p l e R s m args below meth c Q nL H lo n L (.ref (b.2.2.2.2 i) :: st)) : V p l e R s m args below meth c Q nL H lo pc L st := by
  obtain ⟨hd, rfl⟩ := hd
  have hE : KnE b s := X.2.2.2.2.2.1.2.2.2.1
  obtain ⟨⟨cf, kf, fi, f, a0, cell, h1, h2, h3, h4, h5, h6, h7, h8⟩, -, -⟩ := hE.1 i hi
  exact fun ls h => W.gets X.1 X.2.1 X.2.2.2.1 (X.2.2.2.2.1 _ hl) h1 h2 h3 h4 (by rw [hw.2.2.2.2.2.1.2 _ (Nat.not_le.mp h8)]; exact h5) (fun e => by rw [e] at h6; cases h6) h7 rfl hd (kk ls h)
theorem r_getE (X : Ctx p R s m args meth c cc nL own b BC BS S0 FR LO) (hw : Wd b BC BS S0 s A Ws sz sl H lo) {idx i : Nat} (hi : i < 8) (hl : Cond.fieldLink own idx "java/lang/Enum" "ordinal" "I" ∈ tblG) (hd : Dc cc pc (.getfield idx) 3 n) (kk : V p l e R s m args below meth c Q nL H lo n L (.int (nI i) :: st)) : V p l e R s m args below meth c Q nL H lo pc L (.ref (b.2.2.2.2 i) :: st) := by
  obtain ⟨hd, rfl⟩ := hd
  have hE : KnE b s := X.2.2.2.2.2.1.2.2.2.1
  obtain ⟨-, -, h0⟩ := hE.1 i hi
  obtain ⟨cf, k, fi, f, cell, h1, h2, h3, h4, h5, h6⟩ := h0 _ List.mem_cons_self
  have hv : ([0, 1, 2, 3, 4, 5, 6, 7] : List Int32).getD i 0 = nI i := by
    match i, hi with
    | 0, _ => rfl
    | 1, _ => rfl
    | 2, _ => rfl
    | 3, _ => rfl
    | 4, _ => rfl
    | 5, _ => rfl
    | 6, _ => rfl
    | 7, _ => rfl
    | i + 8, h => exact absurd h (by omega)
  dsimp only at h5
  rw [hv] at h5
  exact fun ls h => W.getf X.1 X.2.1 X.2.2.2.1 (X.2.2.2.2.1 _ hl) h1 h2 (by rw [hw.2.2.2.2.2.1.2 _ (Nat.not_le.mp h6)]; exact h3) h4 h5 rfl rfl hd (kk ls h)
theorem kind_inj (X : Ctx p R s m args meth c cc nL own b BC BS S0 FR LO) {i j : Nat} (hi : i < 8) (hj : j < 8) : b.2.2.2.2 i = b.2.2.2.2 j ↔ i = j := by
  have hE : KnE b s := X.2.2.2.2.2.1.2.2.2.1
  exact ⟨hE.2 i j hi hj, fun h => by rw [h]⟩
-- switches
theorem r_tabOut (X : Ctx p R s m args meth c cc nL own b BC BS S0 FR LO) {dflt lw hg : Int} {offs : Array Int} {len : Nat} {x : Int32} {tgt : Nat} (hd : Dc cc pc (.tableswitch dflt lw hg offs) len n) (h : x.toInt < lw ∨ hg < x.toInt) (ht : (pc : Int) + dflt = (tgt : Int)) (k : V p l e R s m args below meth c Q nL H lo tgt L st) : V p l e R s m args below meth c Q nL H lo pc L (.int x :: st) := by
  obtain ⟨hd, rfl⟩ := hd
  exact fun ls hl => lv_tableOut X.1 X.2.1 hd h ht (k ls hl)
theorem r_tabIn (X : Ctx p R s m args meth c cc nL own b BC BS S0 FR LO) {dflt lw hg : Int} {offs : Array Int} {len : Nat} {x : Int32} {off : Int} {tgt : Nat} (hd : Dc cc pc (.tableswitch dflt lw hg offs) len n) (h1 : ¬ x.toInt < lw) (h2 : ¬ hg < x.toInt) (ho : offs[(x.toInt - lw).toNat]? = some off) (ht : (pc : Int) + off = (tgt : Int)) (k : V p l e R s m args below meth c Q nL H lo tgt L st) : V p l e R s m args below meth c Q nL H lo pc L (.int x :: st) := by
  obtain ⟨hd, rfl⟩ := hd
  exact fun ls hl => lv_tableIn X.1 X.2.1 hd h1 h2 ho ht (k ls hl)
-- longs
theorem r_lconst (X : Ctx p R s m args meth c cc nL own b BC BS S0 FR LO) {i : Fin 2} {v : Int64} (hd : Dc cc pc (.lconst i) 1 n) (hv : Int64.ofNat (i : Nat) = v) (k : V p l e R s m args below meth c Q nL H lo n L (.long v :: st)) : V p l e R s m args below meth c Q nL H lo pc L st := by
  obtain ⟨hd, rfl⟩ := hd
  exact fun ls hl => lv_lconst X.1 X.2.1 hd hv (k ls hl)
theorem r_lor (X : Ctx p R s m args meth c cc nL own b BC BS S0 FR LO) {x y z : Int64} (hd : Dc cc pc .lor 1 n) (hz : x ||| y = z) (k : V p l e R s m args below meth c Q nL H lo n L (.long z :: st)) : V p l e R s m args below meth c Q nL H lo pc L (.long y :: .long x :: st) := by
  obtain ⟨hd, rfl⟩ := hd
  subst hz
  exact fun ls hl => lv_lor X.1 X.2.1 hd (k ls hl)
theorem r_land (X : Ctx p R s m args meth c cc nL own b BC BS S0 FR LO) {x y z : Int64} (hd : Dc cc pc .land 1 n) (hz : x &&& y = z) (k : V p l e R s m args below meth c Q nL H lo n L (.long z :: st)) : V p l e R s m args below meth c Q nL H lo pc L (.long y :: .long x :: st) := by
  obtain ⟨hd, rfl⟩ := hd
  subst hz
  exact fun ls hl => lv_land X.1 X.2.1 hd (k ls hl)
theorem r_lshl (X : Ctx p R s m args meth c cc nL own b BC BS S0 FR LO) {x v : Int64} {y : Int32} (hd : Dc cc pc .lshl 1 n) (hv : x <<< (y.toInt64 &&& 63) = v) (k : V p l e R s m args below meth c Q nL H lo n L (.long v :: st)) : V p l e R s m args below meth c Q nL H lo pc L (.int y :: .long x :: st) := by
  obtain ⟨hd, rfl⟩ := hd
  exact fun ls hl => lv_lshl X.1 X.2.1 hd hv (k ls hl)
theorem r_lshr (X : Ctx p R s m args meth c cc nL own b BC BS S0 FR LO) {x v : Int64} {y : Int32} (hd : Dc cc pc .lshr 1 n) (hv : x >>> (y.toInt64 &&& 63) = v) (k : V p l e R s m args below meth c Q nL H lo n L (.long v :: st)) : V p l e R s m args below meth c Q nL H lo pc L (.int y :: .long x :: st) := by
  obtain ⟨hd, rfl⟩ := hd
  exact fun ls hl => lv_lshr X.1 X.2.1 hd hv (k ls hl)
theorem r_lcmp (X : Ctx p R s m args meth c cc nL own b BC BS S0 FR LO) {x y : Int64} {v : Int32} (hd : Dc cc pc .lcmp 1 n) (hv : lg_cmp x y = v) (k : V p l e R s m args below meth c Q nL H lo n L (.int v :: st)) : V p l e R s m args below meth c Q nL H lo pc L (.long y :: .long x :: st) := by
  obtain ⟨hd, rfl⟩ := hd
  subst hv
  exact fun ls hl => W.lcmp X.1 X.2.1 hd (k ls hl)
-- Math.min, Math.max
theorem r_min (X : Ctx p R s m args meth c cc nL own b BC BS S0 FR LO) (hw : Wd b BC BS S0 s A Ws sz sl H lo) {idx x y : Nat} (M : Cond.methodLink own idx Lib.Math.min.name ∈ tblG ∧ Cond.static Lib.Math.min.name ∈ tblG ∧ Cond.initialized "java/lang/Math" ∈ tblG ∧ Cond.code Lib.Math.min.name Lib.Math.min.code 2 (some .int) ∈ tblG) (hd : Dc cc pc (.invokestatic idx) 3 n) (hcat : (st.map fun v => v.category).sum ≤ 8) (hroom : 1 ≤ FR ∧ 21 ≤ LO) (hx : x < 2 ^ 31) (hy : y < 2 ^ 31) (kk : V p l e R s m args below meth c Q nL H lo n L (.int (nI (min x y)) :: st)) : V p l e R s m args below meth c Q nL H lo pc L (.int (nI y) :: .int (nI x) :: st) := by
  obtain ⟨hd, rfl⟩ := hd
  refine V_le fun _ h0 ls hl => ?_
  have hf := con_fit X hw h0
  have x8 := X.2.2.2.2.2.2.2.1
  have hts := X.2.2.2.2.1
  refine va_mmin X.1 X.2.1 (by rw [X.2.2.1]; exact hl.1.symm) X.2.2.2.1 (hts _ M.1) (hts _ M.2.1) (hts _ M.2.2.1) (hts _ M.2.2.2) (by omega) (by omega) (by omega) (by omega) hd ?_
  have e : (if nI y < nI x then nI y else nI x) = nI (min x y) := by
    by_cases h : y < x
    · rw [if_pos ((nI_ltI hy hx).mpr h), Nat.min_eq_right (by omega)]
    · rw [if_neg (fun z => h ((nI_ltI hy hx).mp z)), Nat.min_eq_left (by omega)]
  rw [e]
  exact kk ls hl
theorem r_max (X : Ctx p R s m args meth c cc nL own b BC BS S0 FR LO) (hw : Wd b BC BS S0 s A Ws sz sl H lo) {idx x y : Nat} (M : Cond.methodLink own idx Lib.Math.max.name ∈ tblG ∧ Cond.static Lib.Math.max.name ∈ tblG ∧ Cond.initialized "java/lang/Math" ∈ tblG ∧ Cond.code Lib.Math.max.name Lib.Math.max.code 2 (some .int) ∈ tblG) (hd : Dc cc pc (.invokestatic idx) 3 n) (hcat : (st.map fun v => v.category).sum ≤ 8) (hroom : 1 ≤ FR ∧ 21 ≤ LO) (hx : x < 2 ^ 31) (hy : y < 2 ^ 31) (kk : V p l e R s m args below meth c Q nL H lo n L (.int (nI (max x y)) :: st)) : V p l e R s m args below meth c Q nL H lo pc L (.int (nI y) :: .int (nI x) :: st) := by
  obtain ⟨hd, rfl⟩ := hd
  refine V_le fun _ h0 ls hl => ?_
  have hf := con_fit X hw h0
  have x8 := X.2.2.2.2.2.2.2.1
  have hts := X.2.2.2.2.1
  refine va_mmax X.1 X.2.1 (by rw [X.2.2.1]; exact hl.1.symm) X.2.2.2.1 (hts _ M.1) (hts _ M.2.1) (hts _ M.2.2.1) (hts _ M.2.2.2) (by omega) (by omega) (by omega) (by omega) hd ?_
  have e : (if nI x < nI y then nI y else nI x) = nI (max x y) := by
    by_cases h : x < y
    · rw [if_pos ((nI_ltI hx hy).mpr h), Nat.max_eq_right (by omega)]
    · rw [if_neg (fun z => h ((nI_ltI hx hy).mp z)), Nat.max_eq_left (by omega)]
  rw [e]
  exact kk ls hl
-- System.arraycopy of ints
theorem cpyN {f g : Nat → Nat} {sp dp k : Nat} : va_cpy (fun j => nI (f j)) (fun j => nI (g j)) sp dp k = fun j => nI (va_cpy f g sp dp k j) := by
  funext j
  simp only [va_cpy]
  split <;> rfl
theorem r_copyN (X : Ctx p R s m args meth c cc nL own b BC BS S0 FR LO) (hw : Wd b BC BS S0 s A Ws sz sl H lo) {idx : Nat} (M : Cond.methodLink own idx arraycopyName ∈ tblG ∧ Cond.native arraycopyName ∈ tblG ∧ Cond.static arraycopyName ∈ tblG ∧ Cond.initialized "java/lang/System" ∈ tblG) (hd : Dc cc pc (.invokestatic idx) 3 n) (i0 j0 i1 j1 : Nat) {w0 w1 : va_W} {a0 n0 n1 sp dp k : Nat} {f g : Nat → Nat} (hi0 : Ws[i0]? = some w0) (hj0 : w0[j0]? = some (cN b a0 n0 f)) (hi1 : Ws[i1]? = some w1) (hj1 : w1[j1]? = some (cN b a n1 g)) (h1 : sp < 2 ^ 31) (h2 : dp < 2 ^ 31) (h3 : k < 2 ^ 31) (h4 : sp + k ≤ n0) (h5 : dp + k ≤ n1) (hcat : (st.map fun v => v.category).sum ≤ 8) (hroom : 1 ≤ FR ∧ 8 + (nativeFrameWords "java/lang/System" "arraycopy" 5 + 11) ≤ LO) (hW : Ws.set i1 (w1.set j1 (cN b a n1 (va_cpy f g sp dp k))) = Ws')
    (kk : ∀ (H1 : Heap) (lo1 : List Loc), Wd b BC BS S0 s A Ws' sz sl H1 lo1 → V p l e R s m args below meth c Q nL H1 lo1 n L st) : V p l e R s m args below meth c Q nL H lo pc L (.int (nI k) :: .int (nI dp) :: .ref a :: .int (nI sp) :: .ref a0 :: st) := by
  obtain ⟨hd, rfl⟩ := hd
  obtain ⟨q0, hq0, -⟩ := fl_at hi0 hj0
  obtain ⟨q, hq, hset⟩ := fl_at hi1 hj1
  have x8 := X.2.2.2.2.2.2.2.1
  have hts := X.2.2.2.2.1
  refine V_le fun _ h0 ls hls => ?_
  subst hW
  have hS : va_S A H H lo := ⟨Nat.le_refl _, fun _ _ _ => rfl, hw.2.2.1.2.2⟩
  have kk2 := put_k hw h0 hls kk
  rw [← hset] at kk2
  refine va_copyi (D := b.1) X.1 X.2.1 (by rw [X.2.2.1]; exact hls.1.symm) X.2.2.2.1 (hts _ M.1) (hts _ M.2.1) (hts _ M.2.2.1) (hts _ M.2.2.2) X.2.2.2.2.2.1.1 hw.1 hw.2.1 hS q0 q 0 0 hq0 hq rfl rfl rfl (nI_pos h1) (nI_pos h2) (nI_pos h3) (by rw [nI_clamp h1, nI_clamp h3]; exact h4) (by rw [nI_clamp h2, nI_clamp h3]; exact h5) (fun _ _ => rfl) (by omega) (by omega) hd ?_
  rw [nI_clamp h1, nI_clamp h2, nI_clamp h3, cpyN]
  exact kk2
end RC
end
section
/-! LISTINGS: what each method's bytes decode to; printed by gen/code.py -/
def T_P_init : DT := [(0, .aload_n 0, 1, 1), (1, .invokespecial 1, 3, 4), (4, .aload_n 0, 1, 5), (5, .new 7, 3, 8), (8, .dup, 1, 9), (9, .bipush 60, 2, 11), (11, .invokespecial 11, 3, 14), (14, .putfield 14, 3, 17), (17, .aload_n 0, 1, 18), (18, .new 7, 3, 21), (21, .dup, 1, 22), (22, .bipush 24, 2, 24), (24, .invokespecial 11, 3, 27), (27, .putfield 18, 3, 30), (30, .aload_n 0, 1, 31), (31, .iconst 4, 1, 32), (32, .newarray .int, 2, 34), (34, .putfield 21, 3, 37), (37, .aload_n 0, 1, 38), (38, .bipush 25, 2, 40), (40, .anewarray 25, 3, 43), (43, .putfield 27, 3, 46), (46, .aload_n 0, 1, 47), (47, .new 31, 3, 50), (50, .dup, 1, 51), (51, .invokespecial 33, 3, 54), (54, .putfield 34, 3, 57), (57, .aload_n 0, 1, 58), (58, .new 38, 3, 61), (61, .dup, 1, 62), (62, .new 40, 3, 65), (65, .dup, 1, 66), (66, .invokespecial 42, 3, 69), (69, .invokespecial 43, 3, 72), (72, .putfield 46, 3, 75), (75, .aload_n 0, 1, 76), (76, .new 50, 3, 79), (79, .dup, 1, 80), (80, .invokespecial 52, 3, 83), (83, .putfield 53, 3, 86), (86, .aload_n 0, 1, 87), (87, .iconst 4, 1, 88), (88, .anewarray 50, 3, 91), (91, .dup, 1, 92), (92, .iconst 0, 1, 93), (93, .new 50, 3, 96), (96, .dup, 1, 97), (97, .invokespecial 52, 3, 100), (100, .aastore, 1, 101), (101, .dup, 1, 102), (102, .iconst 1, 1, 103), (103, .new 50, 3, 106), (106, .dup, 1, 107), (107, .invokespecial 52, 3, 110), (110, .aastore, 1, 111), (111, .dup, 1, 112), (112, .iconst 2, 1, 113), (113, .new 50, 3, 116), (116, .dup, 1, 117), (117, .invokespecial 52, 3, 120), (120, .aastore, 1, 121), (121, .dup, 1, 122), (122, .iconst 3, 1, 123), (123, .new 50, 3, 126), (126, .dup, 1, 127), (127, .invokespecial 52, 3, 130), (130, .aastore, 1, 131), (131, .putfield 57, 3, 134), (134, .aload_n 0, 1, 135), (135, .bipush 60, 2, 137), (137, .newarray .boolean, 2, 139), (139, .putfield 61, 3, 142), (142, .aload_n 0, 1, 143), (143, .sipush 180, 3, 146), (146, .newarray .int, 2, 148), (148, .putfield 65, 3, 151), (151, .aload_n 0, 1, 152), (152, .bipush 60, 2, 154), (154, .newarray .int, 2, 156), (156, .putfield 68, 3, 159), (159, .aload_n 0, 1, 160), (160, .iconst 5, 1, 161), (161, .newarray .int, 2, 163), (163, .putfield 71, 3, 166), (166, .return_, 1, 167)]
theorem D_P_init : Dec b_P_init T_P_init := Dec.of (by decide +kernel)
def T_JObj_init : DT := [(0, .return_, 1, 1)]
theorem D_JObj_init : Dec b_JObj_init T_JObj_init := Dec.of (by decide +kernel)
def T_AL_init : DT := [(0, .aload_n 0, 1, 1), (1, .invokespecial 1, 3, 4), (4, .iload_n 1, 1, 5), (5, .ifCond .le 14, 3, 8), (8, .aload_n 0, 1, 9), (9, .iload_n 1, 1, 10), (10, .anewarray 7, 3, 13), (13, .putfield 9, 3, 16), (16, .goto 44, 3, 19), (19, .iload_n 1, 1, 20), (20, .ifCond .ne 13, 3, 23), (23, .aload_n 0, 1, 24), (24, .getstatic 15, 3, 27), (27, .putfield 9, 3, 30), (30, .goto 30, 3, 33), (33, .new 18, 3, 36), (36, .dup, 1, 37), (37, .new 20, 3, 40), (40, .dup, 1, 41), (41, .invokespecial 22, 3, 44), (44, .ldc 23, 2, 46), (46, .invokevirtual 25, 3, 49), (49, .iload_n 1, 1, 50), (50, .invokevirtual 29, 3, 53), (53, .invokevirtual 32, 3, 56), (56, .invokespecial 36, 3, 59), (59, .athrow, 1, 60), (60, .return_, 1, 61)]
theorem D_AL_init : Dec b_AL_init T_AL_init := Dec.of (by decide +kernel)
def T_ABL_init : DT := [(0, .aload_n 0, 1, 1), (1, .invokespecial 1, 3, 4), (4, .aload_n 0, 1, 5), (5, .iconst 0, 1, 6), (6, .putfield 7, 3, 9), (9, .return_, 1, 10)]
theorem D_ABL_init : Dec b_ABL_init T_ABL_init := Dec.of (by decide +kernel)
def T_ABC_init : DT := [(0, .aload_n 0, 1, 1), (1, .invokespecial 1, 3, 4), (4, .return_, 1, 5)]
theorem D_ABC_init : Dec b_ABC_init T_ABC_init := Dec.of (by decide +kernel)
def T_Circuit_init : DT := [(0, .aload_n 0, 1, 1), (1, .invokespecial 3, 3, 4), (4, .aload_n 0, 1, 5), (5, .sipush 1024, 3, 8), (8, .newarray .int, 2, 10), (10, .putfield 9, 3, 13), (13, .aload_n 0, 1, 14), (14, .sipush 512, 3, 17), (17, .newarray .int, 2, 19), (19, .putfield 15, 3, 22), (22, .aload_n 0, 1, 23), (23, .sipush 1024, 3, 26), (26, .newarray .int, 2, 28), (28, .putfield 18, 3, 31), (31, .aload_n 0, 1, 32), (32, .sipush 1024, 3, 35), (35, .newarray .int, 2, 37), (37, .putfield 21, 3, 40), (40, .aload_n 0, 1, 41), (41, .sipush 512, 3, 44), (44, .newarray .int, 2, 46), (46, .putfield 24, 3, 49), (49, .aload_n 0, 1, 50), (50, .sipush 256, 3, 53), (53, .newarray .int, 2, 55), (55, .putfield 27, 3, 58), (58, .aload_n 0, 1, 59), (59, .sipush 256, 3, 62), (62, .newarray .int, 2, 64), (64, .putfield 30, 3, 67), (67, .aload_n 0, 1, 68), (68, .sipush 256, 3, 71), (71, .newarray .int, 2, 73), (73, .putfield 33, 3, 76), (76, .aload_n 0, 1, 77), (77, .sipush 257, 3, 80), (80, .newarray .int, 2, 82), (82, .putfield 36, 3, 85), (85, .return_, 1, 86)]
theorem D_Circuit_init : Dec b_Circuit_init T_Circuit_init := Dec.of (by decide +kernel)
def T_Checker_init : DT := [(0, .aload_n 0, 1, 1), (1, .invokespecial 3, 3, 4), (4, .aload_n 0, 1, 5), (5, .sipush 512, 3, 8), (8, .newarray .int, 2, 10), (10, .putfield 9, 3, 13), (13, .aload_n 0, 1, 14), (14, .sipush 256, 3, 17), (17, .newarray .int, 2, 19), (19, .putfield 15, 3, 22), (22, .return_, 1, 23)]
theorem D_Checker_init : Dec b_Checker_init T_Checker_init := Dec.of (by decide +kernel)
def T_Solver_init : DT := [(0, .aload_n 0, 1, 1), (1, .invokespecial 3, 3, 4), (4, .aload_n 0, 1, 5), (5, .sipush 512, 3, 8), (8, .newarray .int, 2, 10), (10, .putfield 9, 3, 13), (13, .aload_n 0, 1, 14), (14, .sipush 256, 3, 17), (17, .newarray .int, 2, 19), (19, .putfield 15, 3, 22), (22, .aload_n 0, 1, 23), (23, .sipush 256, 3, 26), (26, .newarray .int, 2, 28), (28, .putfield 18, 3, 31), (31, .aload_n 0, 1, 32), (32, .sipush 256, 3, 35), (35, .newarray .int, 2, 37), (37, .putfield 21, 3, 40), (40, .aload_n 0, 1, 41), (41, .sipush 256, 3, 44), (44, .newarray .boolean, 2, 46), (46, .putfield 24, 3, 49), (49, .aload_n 0, 1, 50), (50, .bipush 16, 2, 52), (52, .newarray .int, 2, 54), (54, .putfield 28, 3, 57), (57, .aload_n 0, 1, 58), (58, .bipush 15, 2, 60), (60, .newarray .int, 2, 62), (62, .putfield 31, 3, 65), (65, .aload_n 0, 1, 66), (66, .sipush 256, 3, 69), (69, .newarray .int, 2, 71), (71, .putfield 34, 3, 74), (74, .aload_n 0, 1, 75), (75, .aload_n 1, 1, 76), (76, .putfield 37, 3, 79), (79, .return_, 1, 80)]
theorem D_Solver_init : Dec b_Solver_init T_Solver_init := Dec.of (by decide +kernel)
def T_Flow_init : DT := [(0, .aload_n 0, 1, 1), (1, .invokespecial 3, 3, 4), (4, .aload_n 0, 1, 5), (5, .bipush 15, 2, 7), (7, .newarray .int, 2, 9), (9, .putfield 9, 3, 12), (12, .return_, 1, 13)]
theorem D_Flow_init : Dec b_Flow_init T_Flow_init := Dec.of (by decide +kernel)
def T_P_node : DT := [(0, .aload_n 0, 1, 1), (1, .getfield 14, 3, 4), (4, .invokevirtual 74, 3, 7), (7, .bipush 60, 2, 9), (9, .if_icmp .ne 7, 3, 12), (12, .aconst_null, 1, 13), (13, .goto 10, 3, 16), (16, .aload_n 0, 1, 17), (17, .iload_n 1, 1, 18), (18, .iload_n 2, 1, 19), (19, .iload_n 3, 1, 20), (20, .invokevirtual 131, 3, 23), (23, .astore 4, 2, 25), (25, .aload 4, 2, 27), (27, .ifnonnull 5, 3, 30), (30, .iconst (-1), 1, 31), (31, .ireturn, 1, 32), (32, .aload_n 0, 1, 33), (33, .getfield 14, 3, 36), (36, .aload 4, 2, 38), (38, .invokevirtual 135, 3, 41), (41, .pop, 1, 42), (42, .aload_n 0, 1, 43), (43, .getfield 14, 3, 46), (46, .invokevirtual 74, 3, 49), (49, .iconst 1, 1, 50), (50, .isub, 1, 51), (51, .ireturn, 1, 52)]
theorem D_P_node : Dec b_P_node T_P_node := Dec.of (by decide +kernel)
def T_AL_size : DT := [(0, .aload_n 0, 1, 1), (1, .getfield 48, 3, 4), (4, .ireturn, 1, 5)]
theorem D_AL_size : Dec b_AL_size T_AL_size := Dec.of (by decide +kernel)
def T_P_made : DT := [(0, .aload_n 0, 1, 1), (1, .getfield 14, 3, 4), (4, .invokevirtual 74, 3, 7), (7, .istore 4, 2, 9), (9, .iload_n 1, 1, 10), (10, .bipush 7, 2, 12), (12, .if_icmp .le 11, 3, 15), (15, .aload_n 0, 1, 16), (16, .iload_n 2, 1, 17), (17, .invokevirtual 92, 3, 20), (20, .goto 8, 3, 23), (23, .aload_n 0, 1, 24), (24, .iload_n 2, 1, 25), (25, .invokevirtual 95, 3, 28), (28, .istore 5, 2, 30), (30, .iload 5, 2, 32), (32, .ifCond .eq 32, 3, 35), (35, .iload_n 1, 1, 36), (36, .bipush 9, 2, 38), (38, .if_icmp .ne 14, 3, 41), (41, .aload_n 0, 1, 42), (42, .iload_n 3, 1, 43), (43, .invokevirtual 92, 3, 46), (46, .ifCond .eq 18, 3, 49), (49, .goto 11, 3, 52), (52, .aload_n 0, 1, 53), (53, .iload_n 3, 1, 54), (54, .invokevirtual 95, 3, 57), (57, .ifCond .eq 7, 3, 60), (60, .iconst 1, 1, 61), (61, .goto 4, 3, 64), (64, .iconst 0, 1, 65), (65, .istore 6, 2, 67), (67, .iload_n 1, 1, 68), (68, .tableswitch 273 0 9 #[56, 81, 105, 125, 147, 169, 190, 211, 232, 252], 56, 124), (124, .iload_n 2, 1, 125), (125, .ifCond .lt 9, 3, 128), (128, .iload_n 2, 1, 129), (129, .bipush 7, 2, 131), (131, .if_icmp .le 7, 3, 134), (134, .aconst_null, 1, 135), (135, .goto 13, 3, 138), (138, .new 98, 3, 141), (141, .dup, 1, 142), (142, .iload 4, 2, 144), (144, .iload_n 2, 1, 145), (145, .invokespecial 100, 3, 148), (148, .areturn, 1, 149), (149, .iload_n 2, 1, 150), (150, .ifCond .lt 8, 3, 153), (153, .iload_n 2, 1, 154), (154, .iconst 2, 1, 155), (155, .if_icmp .le 7, 3, 158), (158, .aconst_null, 1, 159), (159, .goto 13, 3, 162), (162, .new 103, 3, 165), (165, .dup, 1, 166), (166, .iload 4, 2, 168), (168, .iload_n 2, 1, 169), (169, .invokespecial 105, 3, 172), (172, .areturn, 1, 173), (173, .iload 5, 2, 175), (175, .ifCond .eq 16, 3, 178), (178, .new 106, 3, 181), (181, .dup, 1, 182), (182, .iload 4, 2, 184), (184, .iload_n 2, 1, 185), (185, .invokespecial 108, 3, 188), (188, .goto 4, 3, 191), (191, .aconst_null, 1, 192), (192, .areturn, 1, 193), (193, .iload 6, 2, 195), (195, .ifCond .eq 18, 3, 198), (198, .new 109, 3, 201), (201, .dup, 1, 202), (202, .iload 4, 2, 204), (204, .iload_n 2, 1, 205), (205, .iload_n 3, 1, 206), (206, .iconst 0, 1, 207), (207, .invokespecial 111, 3, 210), (210, .goto 4, 3, 213), (213, .aconst_null, 1, 214), (214, .areturn, 1, 215), (215, .iload 6, 2, 217), (217, .ifCond .eq 18, 3, 220), (220, .new 109, 3, 223), (223, .dup, 1, 224), (224, .iload 4, 2, 226), (226, .iload_n 2, 1, 227), (227, .iload_n 3, 1, 228), (228, .iconst 1, 1, 229), (229, .invokespecial 111, 3, 232), (232, .goto 4, 3, 235), (235, .aconst_null, 1, 236), (236, .areturn, 1, 237), (237, .iload 6, 2, 239), (239, .ifCond .eq 17, 3, 242), (242, .new 114, 3, 245), (245, .dup, 1, 246), (246, .iload 4, 2, 248), (248, .iload_n 2, 1, 249), (249, .iload_n 3, 1, 250), (250, .invokespecial 116, 3, 253), (253, .goto 4, 3, 256), (256, .aconst_null, 1, 257), (257, .areturn, 1, 258), (258, .iload 6, 2, 260), (260, .ifCond .eq 17, 3, 263), (263, .new 119, 3, 266), (266, .dup, 1, 267), (267, .iload 4, 2, 269), (269, .iload_n 2, 1, 270), (270, .iload_n 3, 1, 271), (271, .invokespecial 121, 3, 274), (274, .goto 4, 3, 277), (277, .aconst_null, 1, 278), (278, .areturn, 1, 279), (279, .iload 6, 2, 281), (281, .ifCond .eq 17, 3, 284), (284, .new 122, 3, 287), (287, .dup, 1, 288), (288, .iload 4, 2, 290), (290, .iload_n 2, 1, 291), (291, .iload_n 3, 1, 292), (292, .invokespecial 124, 3, 295), (295, .goto 4, 3, 298), (298, .aconst_null, 1, 299), (299, .areturn, 1, 300), (300, .iload 5, 2, 302), (302, .ifCond .eq 16, 3, 305), (305, .new 125, 3, 308), (308, .dup, 1, 309), (309, .iload 4, 2, 311), (311, .iload_n 2, 1, 312), (312, .invokespecial 127, 3, 315), (315, .goto 4, 3, 318), (318, .aconst_null, 1, 319), (319, .areturn, 1, 320), (320, .iload 6, 2, 322), (322, .ifCond .eq 17, 3, 325), (325, .new 128, 3, 328), (328, .dup, 1, 329), (329, .iload 4, 2, 331), (331, .iload_n 2, 1, 332), (332, .iload_n 3, 1, 333), (333, .invokespecial 130, 3, 336), (336, .goto 4, 3, 339), (339, .aconst_null, 1, 340), (340, .areturn, 1, 341), (341, .aconst_null, 1, 342), (342, .areturn, 1, 343)]
theorem D_P_made : Dec b_P_made T_P_made := Dec.of (by decide +kernel)
def T_P_truth : DT := [(0, .aload_n 0, 1, 1), (1, .iload_n 1, 1, 2), (2, .invokevirtual 84, 3, 5), (5, .ifnull 18, 3, 8), (8, .aload_n 0, 1, 9), (9, .iload_n 1, 1, 10), (10, .invokevirtual 84, 3, 13), (13, .invokevirtual 88, 3, 16), (16, .ifCond .eq 7, 3, 19), (19, .iconst 1, 1, 20), (20, .goto 4, 3, 23), (23, .iconst 0, 1, 24), (24, .ireturn, 1, 25)]
theorem D_P_truth : Dec b_P_truth T_P_truth := Dec.of (by decide +kernel)
def T_P_nodeAt : DT := [(0, .iload_n 1, 1, 1), (1, .ifCond .lt 14, 3, 4), (4, .iload_n 1, 1, 5), (5, .aload_n 0, 1, 6), (6, .getfield 14, 3, 9), (9, .invokevirtual 74, 3, 12), (12, .if_icmp .lt 7, 3, 15), (15, .aconst_null, 1, 16), (16, .goto 14, 3, 19), (19, .aload_n 0, 1, 20), (20, .getfield 14, 3, 23), (23, .iload_n 1, 1, 24), (24, .invokevirtual 78, 3, 27), (27, .checkcast 82, 3, 30), (30, .areturn, 1, 31)]
theorem D_P_nodeAt : Dec b_P_nodeAt T_P_nodeAt := Dec.of (by decide +kernel)
def T_AL_get : DT := [(0, .iload_n 1, 1, 1), (1, .aload_n 0, 1, 2), (2, .getfield 48, 3, 5), (5, .invokestatic 118, 3, 8), (8, .pop, 1, 9), (9, .aload_n 0, 1, 10), (10, .iload_n 1, 1, 11), (11, .invokevirtual 123, 3, 14), (14, .areturn, 1, 15)]
theorem D_AL_get : Dec b_AL_get T_AL_get := Dec.of (by decide +kernel)
def T_Obj_checkIndex : DT := [(0, .iload_n 0, 1, 1), (1, .iload_n 1, 1, 2), (2, .aconst_null, 1, 3), (3, .invokestatic 105, 3, 6), (6, .ireturn, 1, 7)]
theorem D_Obj_checkIndex : Dec b_Obj_checkIndex T_Obj_checkIndex := Dec.of (by decide +kernel)
def T_Pre_checkIndex : DT := [(0, .iload_n 0, 1, 1), (1, .ifCond .lt 8, 3, 4), (4, .iload_n 0, 1, 5), (5, .iload_n 1, 1, 6), (6, .if_icmp .lt 10, 3, 9), (9, .aload_n 2, 1, 10), (10, .iload_n 0, 1, 11), (11, .iload_n 1, 1, 12), (12, .invokestatic 95, 3, 15), (15, .athrow, 1, 16), (16, .iload_n 0, 1, 17), (17, .ireturn, 1, 18)]
theorem D_Pre_checkIndex : Dec b_Pre_checkIndex T_Pre_checkIndex := Dec.of (by decide +kernel)
def T_AL_elementData : DT := [(0, .aload_n 0, 1, 1), (1, .getfield 9, 3, 4), (4, .iload_n 1, 1, 5), (5, .aaload, 1, 6), (6, .areturn, 1, 7)]
theorem D_AL_elementData : Dec b_AL_elementData T_AL_elementData := Dec.of (by decide +kernel)
def T_Truth_truth : DT := [(0, .iconst 1, 1, 1), (1, .ireturn, 1, 2)]
theorem D_Truth_truth : Dec b_Truth_truth T_Truth_truth := Dec.of (by decide +kernel)
def T_Node_truth : DT := [(0, .iconst 0, 1, 1), (1, .ireturn, 1, 2)]
theorem D_Node_truth : Dec b_Node_truth T_Node_truth := Dec.of (by decide +kernel)
def T_P_numeric : DT := [(0, .aload_n 0, 1, 1), (1, .iload_n 1, 1, 2), (2, .invokevirtual 84, 3, 5), (5, .ifnull 18, 3, 8), (8, .aload_n 0, 1, 9), (9, .iload_n 1, 1, 10), (10, .invokevirtual 84, 3, 13), (13, .invokevirtual 88, 3, 16), (16, .ifCond .ne 7, 3, 19), (19, .iconst 1, 1, 20), (20, .goto 4, 3, 23), (23, .iconst 0, 1, 24), (24, .ireturn, 1, 25)]
theorem D_P_numeric : Dec b_P_numeric T_P_numeric := Dec.of (by decide +kernel)
def T_Constant_init : DT := [(0, .aload_n 0, 1, 1), (1, .iload_n 1, 1, 2), (2, .iconst (-1), 1, 3), (3, .iconst (-1), 1, 4), (4, .invokespecial 3, 3, 7), (7, .aload_n 0, 1, 8), (8, .iload_n 2, 1, 9), (9, .putfield 9, 3, 12), (12, .return_, 1, 13)]
theorem D_Constant_init : Dec b_Constant_init T_Constant_init := Dec.of (by decide +kernel)
def T_Node_init : DT := [(0, .aload_n 0, 1, 1), (1, .invokespecial 1, 3, 4), (4, .aload_n 0, 1, 5), (5, .iload_n 1, 1, 6), (6, .putfield 7, 3, 9), (9, .aload_n 0, 1, 10), (10, .iload_n 2, 1, 11), (11, .putfield 13, 3, 14), (14, .aload_n 0, 1, 15), (15, .iload_n 3, 1, 16), (16, .putfield 16, 3, 19), (19, .return_, 1, 20)]
theorem D_Node_init : Dec b_Node_init T_Node_init := Dec.of (by decide +kernel)
def T_Variable_init : DT := [(0, .aload_n 0, 1, 1), (1, .iload_n 1, 1, 2), (2, .iconst (-1), 1, 3), (3, .iconst (-1), 1, 4), (4, .invokespecial 3, 3, 7), (7, .aload_n 0, 1, 8), (8, .iload_n 2, 1, 9), (9, .putfield 9, 3, 12), (12, .return_, 1, 13)]
theorem D_Variable_init : Dec b_Variable_init T_Variable_init := Dec.of (by decide +kernel)
def T_Read_init : DT := [(0, .aload_n 0, 1, 1), (1, .iload_n 1, 1, 2), (2, .iload_n 2, 1, 3), (3, .iconst (-1), 1, 4), (4, .invokespecial 3, 3, 7), (7, .return_, 1, 8)]
theorem D_Read_init : Dec b_Read_init T_Read_init := Dec.of (by decide +kernel)
def T_Sum_init : DT := [(0, .aload_n 0, 1, 1), (1, .iload_n 1, 1, 2), (2, .iload_n 2, 1, 3), (3, .iload_n 3, 1, 4), (4, .invokespecial 3, 3, 7), (7, .aload_n 0, 1, 8), (8, .iload 4, 2, 10), (10, .putfield 9, 3, 13), (13, .return_, 1, 14)]
theorem D_Sum_init : Dec b_Sum_init T_Sum_init := Dec.of (by decide +kernel)
def T_Meet_init : DT := [(0, .aload_n 0, 1, 1), (1, .iload_n 1, 1, 2), (2, .iload_n 2, 1, 3), (3, .iload_n 3, 1, 4), (4, .invokespecial 3, 3, 7), (7, .return_, 1, 8)]
theorem D_Meet_init : Dec b_Meet_init T_Meet_init := Dec.of (by decide +kernel)
def T_Below_init : DT := [(0, .aload_n 0, 1, 1), (1, .iload_n 1, 1, 2), (2, .iload_n 2, 1, 3), (3, .iload_n 3, 1, 4), (4, .invokespecial 3, 3, 7), (7, .return_, 1, 8)]
theorem D_Below_init : Dec b_Below_init T_Below_init := Dec.of (by decide +kernel)
def T_Truth_init : DT := [(0, .aload_n 0, 1, 1), (1, .iload_n 1, 1, 2), (2, .iload_n 2, 1, 3), (3, .iload_n 3, 1, 4), (4, .invokespecial 1, 3, 7), (7, .return_, 1, 8)]
theorem D_Truth_init : Dec b_Truth_init T_Truth_init := Dec.of (by decide +kernel)
def T_Same_init : DT := [(0, .aload_n 0, 1, 1), (1, .iload_n 1, 1, 2), (2, .iload_n 2, 1, 3), (3, .iload_n 3, 1, 4), (4, .invokespecial 3, 3, 7), (7, .return_, 1, 8)]
theorem D_Same_init : Dec b_Same_init T_Same_init := Dec.of (by decide +kernel)
def T_Not_init : DT := [(0, .aload_n 0, 1, 1), (1, .iload_n 1, 1, 2), (2, .iload_n 2, 1, 3), (3, .iconst (-1), 1, 4), (4, .invokespecial 3, 3, 7), (7, .return_, 1, 8)]
theorem D_Not_init : Dec b_Not_init T_Not_init := Dec.of (by decide +kernel)
def T_Both_init : DT := [(0, .aload_n 0, 1, 1), (1, .iload_n 1, 1, 2), (2, .iload_n 2, 1, 3), (3, .iload_n 3, 1, 4), (4, .invokespecial 3, 3, 7), (7, .return_, 1, 8)]
theorem D_Both_init : Dec b_Both_init T_Both_init := Dec.of (by decide +kernel)
def T_AL_add1 : DT := [(0, .aload_n 0, 1, 1), (1, .dup, 1, 2), (2, .getfield 63, 3, 5), (5, .iconst 1, 1, 6), (6, .iadd, 1, 7), (7, .putfield 63, 3, 10), (10, .aload_n 0, 1, 11), (11, .aload_n 1, 1, 12), (12, .aload_n 0, 1, 13), (13, .getfield 9, 3, 16), (16, .aload_n 0, 1, 17), (17, .getfield 48, 3, 20), (20, .invokevirtual 131, 3, 23), (23, .iconst 1, 1, 24), (24, .ireturn, 1, 25)]
theorem D_AL_add1 : Dec b_AL_add1 T_AL_add1 := Dec.of (by decide +kernel)
def T_AL_add2 : DT := [(0, .iload_n 3, 1, 1), (1, .aload_n 2, 1, 2), (2, .arraylength, 1, 3), (3, .if_icmp .ne 8, 3, 6), (6, .aload_n 0, 1, 7), (7, .invokevirtual 129, 3, 10), (10, .astore_n 2, 1, 11), (11, .aload_n 2, 1, 12), (12, .iload_n 3, 1, 13), (13, .aload_n 1, 1, 14), (14, .aastore, 1, 15), (15, .aload_n 0, 1, 16), (16, .iload_n 3, 1, 17), (17, .iconst 1, 1, 18), (18, .iadd, 1, 19), (19, .putfield 48, 3, 22), (22, .return_, 1, 23)]
theorem D_AL_add2 : Dec b_AL_add2 T_AL_add2 := Dec.of (by decide +kernel)
def T_AL_grow1 : DT := [(0, .aload_n 0, 1, 1), (1, .aload_n 0, 1, 2), (2, .getfield 48, 3, 5), (5, .iconst 1, 1, 6), (6, .iadd, 1, 7), (7, .invokevirtual 69, 3, 10), (10, .areturn, 1, 11)]
theorem D_AL_grow1 : Dec b_AL_grow1 T_AL_grow1 := Dec.of (by decide +kernel)
def T_AL_grow2 : DT := [(0, .aload_n 0, 1, 1), (1, .getfield 9, 3, 4), (4, .arraylength, 1, 5), (5, .istore_n 2, 1, 6), (6, .iload_n 2, 1, 7), (7, .ifCond .gt 13, 3, 10), (10, .aload_n 0, 1, 11), (11, .getfield 9, 3, 14), (14, .getstatic 39, 3, 17), (17, .if_acmp .eq 28, 3, 20), (20, .iload_n 2, 1, 21), (21, .iload_n 1, 1, 22), (22, .iload_n 2, 1, 23), (23, .isub, 1, 24), (24, .iload_n 2, 1, 25), (25, .iconst 1, 1, 26), (26, .ishr, 1, 27), (27, .invokestatic 73, 3, 30), (30, .istore_n 3, 1, 31), (31, .aload_n 0, 1, 32), (32, .aload_n 0, 1, 33), (33, .getfield 9, 3, 36), (36, .iload_n 3, 1, 37), (37, .invokestatic 66, 3, 40), (40, .dup_x1, 1, 41), (41, .putfield 9, 3, 44), (44, .areturn, 1, 45), (45, .aload_n 0, 1, 46), (46, .bipush 10, 2, 48), (48, .iload_n 1, 1, 49), (49, .invokestatic 79, 3, 52), (52, .anewarray 7, 3, 55), (55, .dup_x1, 1, 56), (56, .putfield 9, 3, 59), (59, .areturn, 1, 60)]
theorem D_AL_grow2 : Dec b_AL_grow2 T_AL_grow2 := Dec.of (by decide +kernel)
def T_AS_newLength : DT := [(0, .iload_n 0, 1, 1), (1, .iload_n 1, 1, 2), (2, .iload_n 2, 1, 3), (3, .invokestatic 194, 3, 6), (6, .iadd, 1, 7), (7, .istore_n 3, 1, 8), (8, .iconst 0, 1, 9), (9, .iload_n 3, 1, 10), (10, .if_icmp .ge 11, 3, 13), (13, .iload_n 3, 1, 14), (14, .ldc 200, 2, 16), (16, .if_icmp .gt 5, 3, 19), (19, .iload_n 3, 1, 20), (20, .ireturn, 1, 21), (21, .iload_n 0, 1, 22), (22, .iload_n 1, 1, 23), (23, .invokestatic 201, 3, 26), (26, .ireturn, 1, 27)]
theorem D_AS_newLength : Dec b_AS_newLength T_AS_newLength := Dec.of (by decide +kernel)
def T_Math_max : DT := [(0, .iload_n 0, 1, 1), (1, .iload_n 1, 1, 2), (2, .if_icmp .lt 7, 3, 5), (5, .iload_n 0, 1, 6), (6, .goto 4, 3, 9), (9, .iload_n 1, 1, 10), (10, .ireturn, 1, 11)]
theorem D_Math_max : Dec b_Math_max T_Math_max := Dec.of (by decide +kernel)
def T_AS_hugeLength : DT := [(0, .iload_n 0, 1, 1), (1, .iload_n 1, 1, 2), (2, .iadd, 1, 3), (3, .istore_n 2, 1, 4), (4, .iload_n 2, 1, 5), (5, .ifCond .ge 44, 3, 8), (8, .new 204, 3, 11), (11, .dup, 1, 12), (12, .new 89, 3, 15), (15, .dup, 1, 16), (16, .invokespecial 91, 3, 19), (19, .ldc 206, 2, 21), (21, .invokevirtual 94, 3, 24), (24, .iload_n 0, 1, 25), (25, .invokevirtual 98, 3, 28), (28, .ldc 208, 2, 30), (30, .invokevirtual 94, 3, 33), (33, .iload_n 1, 1, 34), (34, .invokevirtual 98, 3, 37), (37, .ldc 210, 2, 39), (39, .invokevirtual 94, 3, 42), (42, .invokevirtual 101, 3, 45), (45, .invokespecial 212, 3, 48), (48, .athrow, 1, 49), (49, .iload_n 2, 1, 50), (50, .ldc 200, 2, 52), (52, .if_icmp .gt 6, 3, 55), (55, .ldc 200, 2, 57), (57, .ireturn, 1, 58), (58, .iload_n 2, 1, 59), (59, .ireturn, 1, 60)]
theorem D_AS_hugeLength : Dec b_AS_hugeLength T_AS_hugeLength := Dec.of (by decide +kernel)
def T_Arrs_copyOf1 : DT := [(0, .aload_n 0, 1, 1), (1, .iload_n 1, 1, 2), (2, .aload_n 0, 1, 3), (3, .invokevirtual 86, 3, 6), (6, .invokestatic 300, 3, 9), (9, .areturn, 1, 10)]
theorem D_Arrs_copyOf1 : Dec b_Arrs_copyOf1 T_Arrs_copyOf1 := Dec.of (by decide +kernel)
def T_Arrs_copyOf2 : DT := [(0, .aload_n 2, 1, 1), (1, .ldc 110, 2, 3), (3, .if_acmp .ne 10, 3, 6), (6, .iload_n 1, 1, 7), (7, .anewarray 2, 3, 10), (10, .goto 14, 3, 13), (13, .aload_n 2, 1, 14), (14, .invokevirtual 90, 3, 17), (17, .iload_n 1, 1, 18), (18, .invokestatic 95, 3, 21), (21, .checkcast 110, 3, 24), (24, .astore_n 3, 1, 25), (25, .aload_n 0, 1, 26), (26, .iconst 0, 1, 27), (27, .aload_n 3, 1, 28), (28, .iconst 0, 1, 29), (29, .aload_n 0, 1, 30), (30, .arraylength, 1, 31), (31, .iload_n 1, 1, 32), (32, .invokestatic 304, 3, 35), (35, .invokestatic 150, 3, 38), (38, .aload_n 3, 1, 39), (39, .areturn, 1, 40)]
theorem D_Arrs_copyOf2 : Dec b_Arrs_copyOf2 T_Arrs_copyOf2 := Dec.of (by decide +kernel)
def T_Math_min : DT := [(0, .iload_n 0, 1, 1), (1, .iload_n 1, 1, 2), (2, .if_icmp .gt 7, 3, 5), (5, .iload_n 0, 1, 6), (6, .goto 4, 3, 9), (9, .iload_n 1, 1, 10), (10, .ireturn, 1, 11)]
theorem D_Math_min : Dec b_Math_min T_Math_min := Dec.of (by decide +kernel)
def T_P_assign : DT := [(0, .aload_n 0, 1, 1), (1, .invokevirtual 148, 3, 4), (4, .ifCond .ne 20, 3, 7), (7, .iload_n 1, 1, 8), (8, .ifCond .lt 16, 3, 11), (11, .iload_n 1, 1, 12), (12, .iconst 2, 1, 13), (13, .if_icmp .gt 11, 3, 16), (16, .aload_n 0, 1, 17), (17, .iload_n 2, 1, 18), (18, .invokevirtual 95, 3, 21), (21, .ifCond .ne 5, 3, 24), (24, .iconst (-1), 1, 25), (25, .ireturn, 1, 26), (26, .aload_n 0, 1, 27), (27, .getstatic 151, 3, 30), (30, .iload_n 1, 1, 31), (31, .aload_n 0, 1, 32), (32, .iload_n 2, 1, 33), (33, .invokevirtual 84, 3, 36), (36, .aconst_null, 1, 37), (37, .invokevirtual 157, 3, 40), (40, .pop, 1, 41), (41, .aload_n 0, 1, 42), (42, .getfield 18, 3, 45), (45, .invokevirtual 74, 3, 48), (48, .ireturn, 1, 49)]
theorem D_P_assign : Dec b_P_assign T_P_assign := Dec.of (by decide +kernel)
def T_P_full : DT := [(0, .aload_n 0, 1, 1), (1, .getfield 18, 3, 4), (4, .invokevirtual 74, 3, 7), (7, .bipush 24, 2, 9), (9, .if_icmp .ne 7, 3, 12), (12, .iconst 1, 1, 13), (13, .goto 4, 3, 16), (16, .iconst 0, 1, 17), (17, .ireturn, 1, 18)]
theorem D_P_full : Dec b_P_full T_P_full := Dec.of (by decide +kernel)
def T_P_add : DT := [(0, .new 139, 3, 3), (3, .dup, 1, 4), (4, .aload_n 1, 1, 5), (5, .iload_n 2, 1, 6), (6, .aload_n 3, 1, 7), (7, .aload 4, 2, 9), (9, .invokespecial 141, 3, 12), (12, .astore 5, 2, 14), (14, .aload_n 0, 1, 15), (15, .getfield 18, 3, 18), (18, .aload 5, 2, 20), (20, .invokevirtual 135, 3, 23), (23, .pop, 1, 24), (24, .aload_n 0, 1, 25), (25, .iconst 0, 1, 26), (26, .putfield 144, 3, 29), (29, .aload 5, 2, 31), (31, .areturn, 1, 32)]
theorem D_P_add : Dec b_P_add T_P_add := Dec.of (by decide +kernel)
def T_Line_init : DT := [(0, .aload_n 0, 1, 1), (1, .invokespecial 3, 3, 4), (4, .aload_n 0, 1, 5), (5, .iconst (-1), 1, 6), (6, .putfield 9, 3, 9), (9, .aload_n 0, 1, 10), (10, .iconst (-1), 1, 11), (11, .putfield 15, 3, 14), (14, .aload_n 0, 1, 15), (15, .iconst (-1), 1, 16), (16, .putfield 18, 3, 19), (19, .aload_n 0, 1, 20), (20, .aload_n 1, 1, 21), (21, .putfield 21, 3, 24), (24, .aload_n 0, 1, 25), (25, .iload_n 2, 1, 26), (26, .putfield 25, 3, 29), (29, .aload_n 0, 1, 30), (30, .aload_n 3, 1, 31), (31, .putfield 28, 3, 34), (34, .aload_n 0, 1, 35), (35, .aload 4, 2, 37), (37, .putfield 32, 3, 40), (40, .return_, 1, 41)]
theorem D_Line_init : Dec b_Line_init T_Line_init := Dec.of (by decide +kernel)
def T_P_store : DT := [(0, .aload_n 0, 1, 1), (1, .invokevirtual 148, 3, 4), (4, .ifCond .ne 19, 3, 7), (7, .aload_n 0, 1, 8), (8, .iload_n 1, 1, 9), (9, .invokevirtual 95, 3, 12), (12, .ifCond .eq 11, 3, 15), (15, .aload_n 0, 1, 16), (16, .iload_n 2, 1, 17), (17, .invokevirtual 95, 3, 20), (20, .ifCond .ne 5, 3, 23), (23, .iconst (-1), 1, 24), (24, .ireturn, 1, 25), (25, .aload_n 0, 1, 26), (26, .getstatic 160, 3, 29), (29, .iconst 0, 1, 30), (30, .aload_n 0, 1, 31), (31, .iload_n 2, 1, 32), (32, .invokevirtual 84, 3, 35), (35, .aload_n 0, 1, 36), (36, .iload_n 1, 1, 37), (37, .invokevirtual 84, 3, 40), (40, .invokevirtual 157, 3, 43), (43, .pop, 1, 44), (44, .aload_n 0, 1, 45), (45, .getfield 18, 3, 48), (48, .invokevirtual 74, 3, 51), (51, .ireturn, 1, 52)]
theorem D_P_store : Dec b_P_store T_P_store := Dec.of (by decide +kernel)
def T_P_claim : DT := [(0, .aload_n 0, 1, 1), (1, .getstatic 163, 3, 4), (4, .iload_n 1, 1, 5), (5, .invokevirtual 166, 3, 8), (8, .ireturn, 1, 9)]
theorem D_P_claim : Dec b_P_claim T_P_claim := Dec.of (by decide +kernel)
def T_P_plain : DT := [(0, .aload_n 0, 1, 1), (1, .invokevirtual 148, 3, 4), (4, .ifCond .ne 11, 3, 7), (7, .aload_n 0, 1, 8), (8, .iload_n 2, 1, 9), (9, .invokevirtual 92, 3, 12), (12, .ifCond .ne 5, 3, 15), (15, .iconst (-1), 1, 16), (16, .ireturn, 1, 17), (17, .aload_n 0, 1, 18), (18, .aload_n 1, 1, 19), (19, .iconst 0, 1, 20), (20, .aload_n 0, 1, 21), (21, .iload_n 2, 1, 22), (22, .invokevirtual 84, 3, 25), (25, .aconst_null, 1, 26), (26, .invokevirtual 157, 3, 29), (29, .pop, 1, 30), (30, .aload_n 0, 1, 31), (31, .getfield 18, 3, 34), (34, .invokevirtual 74, 3, 37), (37, .ireturn, 1, 38)]
theorem D_P_plain : Dec b_P_plain T_P_plain := Dec.of (by decide +kernel)
def T_P_assume : DT := [(0, .aload_n 0, 1, 1), (1, .getstatic 170, 3, 4), (4, .iload_n 1, 1, 5), (5, .invokevirtual 166, 3, 8), (8, .ireturn, 1, 9)]
theorem D_P_assume : Dec b_P_assume T_P_assume := Dec.of (by decide +kernel)
def T_P_when : DT := [(0, .aload_n 0, 1, 1), (1, .getstatic 177, 3, 4), (4, .iload_n 1, 1, 5), (5, .iload_n 1, 1, 6), (6, .invokevirtual 180, 3, 9), (9, .ireturn, 1, 10)]
theorem D_P_when : Dec b_P_when T_P_when := Dec.of (by decide +kernel)
def T_P_block : DT := [(0, .aload_n 0, 1, 1), (1, .invokevirtual 148, 3, 4), (4, .ifCond .ne 27, 3, 7), (7, .aload_n 0, 1, 8), (8, .iload_n 2, 1, 9), (9, .invokevirtual 92, 3, 12), (12, .ifCond .eq 19, 3, 15), (15, .aload_n 0, 1, 16), (16, .iload_n 3, 1, 17), (17, .invokevirtual 92, 3, 20), (20, .ifCond .eq 11, 3, 23), (23, .aload_n 0, 1, 24), (24, .getfield 173, 3, 27), (27, .iconst 4, 1, 28), (28, .if_icmp .ne 5, 3, 31), (31, .iconst (-1), 1, 32), (32, .ireturn, 1, 33), (33, .aload_n 0, 1, 34), (34, .getfield 21, 3, 37), (37, .aload_n 0, 1, 38), (38, .getfield 173, 3, 41), (41, .aload_n 0, 1, 42), (42, .getfield 18, 3, 45), (45, .invokevirtual 74, 3, 48), (48, .iastore, 1, 49), (49, .aload_n 0, 1, 50), (50, .dup, 1, 51), (51, .getfield 173, 3, 54), (54, .iconst 1, 1, 55), (55, .iadd, 1, 56), (56, .putfield 173, 3, 59), (59, .aload_n 0, 1, 60), (60, .aload_n 1, 1, 61), (61, .iconst 0, 1, 62), (62, .aload_n 0, 1, 63), (63, .iload_n 2, 1, 64), (64, .invokevirtual 84, 3, 67), (67, .aload_n 0, 1, 68), (68, .iload_n 3, 1, 69), (69, .invokevirtual 84, 3, 72), (72, .invokevirtual 157, 3, 75), (75, .pop, 1, 76), (76, .aload_n 0, 1, 77), (77, .getfield 18, 3, 80), (80, .invokevirtual 74, 3, 83), (83, .ireturn, 1, 84)]
theorem D_P_block : Dec b_P_block T_P_block := Dec.of (by decide +kernel)
def T_P_loop : DT := [(0, .aload_n 0, 1, 1), (1, .getstatic 184, 3, 4), (4, .iload_n 1, 1, 5), (5, .iload_n 2, 1, 6), (6, .invokevirtual 180, 3, 9), (9, .ireturn, 1, 10)]
theorem D_P_loop : Dec b_P_loop T_P_loop := Dec.of (by decide +kernel)
def T_P_other : DT := [(0, .aload_n 0, 1, 1), (1, .invokevirtual 187, 3, 4), (4, .astore_n 1, 1, 5), (5, .aload_n 0, 1, 6), (6, .invokevirtual 148, 3, 9), (9, .ifCond .ne 24, 3, 12), (12, .aload_n 1, 1, 13), (13, .ifnull 20, 3, 16), (16, .aload_n 1, 1, 17), (17, .getfield 191, 3, 20), (20, .getstatic 177, 3, 23), (23, .if_acmp .ne 10, 3, 26), (26, .aload_n 1, 1, 27), (27, .getfield 194, 3, 30), (30, .ifCond .lt 5, 3, 33), (33, .iconst (-1), 1, 34), (34, .ireturn, 1, 35), (35, .aload_n 1, 1, 36), (36, .aload_n 0, 1, 37), (37, .getfield 18, 3, 40), (40, .invokevirtual 74, 3, 43), (43, .putfield 194, 3, 46), (46, .aload_n 0, 1, 47), (47, .getstatic 197, 3, 50), (50, .iconst 0, 1, 51), (51, .aconst_null, 1, 52), (52, .aconst_null, 1, 53), (53, .invokevirtual 157, 3, 56), (56, .aload_n 0, 1, 57), (57, .getfield 21, 3, 60), (60, .aload_n 0, 1, 61), (61, .getfield 173, 3, 64), (64, .iconst 1, 1, 65), (65, .isub, 1, 66), (66, .iaload, 1, 67), (67, .putfield 200, 3, 70), (70, .aload_n 0, 1, 71), (71, .getfield 18, 3, 74), (74, .invokevirtual 74, 3, 77), (77, .ireturn, 1, 78)]
theorem D_P_other : Dec b_P_other T_P_other := Dec.of (by decide +kernel)
def T_P_inner : DT := [(0, .aload_n 0, 1, 1), (1, .getfield 173, 3, 4), (4, .ifCond .ne 7, 3, 7), (7, .aconst_null, 1, 8), (8, .goto 24, 3, 11), (11, .aload_n 0, 1, 12), (12, .getfield 18, 3, 15), (15, .aload_n 0, 1, 16), (16, .getfield 21, 3, 19), (19, .aload_n 0, 1, 20), (20, .getfield 173, 3, 23), (23, .iconst 1, 1, 24), (24, .isub, 1, 25), (25, .iaload, 1, 26), (26, .invokevirtual 78, 3, 29), (29, .checkcast 139, 3, 32), (32, .areturn, 1, 33)]
theorem D_P_inner : Dec b_P_inner T_P_inner := Dec.of (by decide +kernel)
def T_P_end : DT := [(0, .aload_n 0, 1, 1), (1, .invokevirtual 187, 3, 4), (4, .astore_n 1, 1, 5), (5, .aload_n 0, 1, 6), (6, .invokevirtual 148, 3, 9), (9, .ifCond .ne 7, 3, 12), (12, .aload_n 1, 1, 13), (13, .ifnonnull 5, 3, 16), (16, .iconst (-1), 1, 17), (17, .ireturn, 1, 18), (18, .aload_n 1, 1, 19), (19, .aload_n 0, 1, 20), (20, .getfield 18, 3, 23), (23, .invokevirtual 74, 3, 26), (26, .putfield 203, 3, 29), (29, .aload_n 0, 1, 30), (30, .dup, 1, 31), (31, .getfield 173, 3, 34), (34, .iconst 1, 1, 35), (35, .isub, 1, 36), (36, .putfield 173, 3, 39), (39, .aload_n 0, 1, 40), (40, .getstatic 206, 3, 43), (43, .iconst 0, 1, 44), (44, .aconst_null, 1, 45), (45, .aconst_null, 1, 46), (46, .invokevirtual 157, 3, 49), (49, .aload_n 0, 1, 50), (50, .getfield 21, 3, 53), (53, .aload_n 0, 1, 54), (54, .getfield 173, 3, 57), (57, .iaload, 1, 58), (58, .putfield 200, 3, 61), (61, .aload_n 0, 1, 62), (62, .getfield 18, 3, 65), (65, .invokevirtual 74, 3, 68), (68, .ireturn, 1, 69)]
theorem D_P_end : Dec b_P_end T_P_end := Dec.of (by decide +kernel)
def T_P_clear : DT := [(0, .aload_n 0, 1, 1), (1, .getfield 18, 3, 4), (4, .invokevirtual 74, 3, 7), (7, .istore_n 1, 1, 8), (8, .aload_n 0, 1, 9), (9, .getfield 18, 3, 12), (12, .invokevirtual 209, 3, 15), (15, .aload_n 0, 1, 16), (16, .iconst 0, 1, 17), (17, .putfield 173, 3, 20), (20, .aload_n 0, 1, 21), (21, .iconst 0, 1, 22), (22, .putfield 144, 3, 25), (25, .iload_n 1, 1, 26), (26, .ireturn, 1, 27)]
theorem D_P_clear : Dec b_P_clear T_P_clear := Dec.of (by decide +kernel)
def T_AL_clear : DT := [(0, .aload_n 0, 1, 1), (1, .dup, 1, 2), (2, .getfield 63, 3, 5), (5, .iconst 1, 1, 6), (6, .iadd, 1, 7), (7, .putfield 63, 3, 10), (10, .aload_n 0, 1, 11), (11, .getfield 9, 3, 14), (14, .astore_n 1, 1, 15), (15, .aload_n 0, 1, 16), (16, .getfield 48, 3, 19), (19, .istore_n 2, 1, 20), (20, .aload_n 0, 1, 21), (21, .iconst 0, 1, 22), (22, .dup_x1, 1, 23), (23, .putfield 48, 3, 26), (26, .istore_n 3, 1, 27), (27, .iload_n 3, 1, 28), (28, .iload_n 2, 1, 29), (29, .if_icmp .ge 13, 3, 32), (32, .aload_n 1, 1, 33), (33, .iload_n 3, 1, 34), (34, .aconst_null, 1, 35), (35, .aastore, 1, 36), (36, .iinc 3 1, 3, 39), (39, .goto (-12), 3, 42), (42, .return_, 1, 43)]
theorem D_AL_clear : Dec b_AL_clear T_AL_clear := Dec.of (by decide +kernel)
def T_P_verify : DT := [(0, .aload_n 0, 1, 1), (1, .getfield 173, 3, 4), (4, .ifCond .gt 19, 3, 7), (7, .aload_n 0, 1, 8), (8, .iload_n 1, 1, 9), (9, .invokevirtual 92, 3, 12), (12, .ifCond .eq 11, 3, 15), (15, .aload_n 0, 1, 16), (16, .iload_n 2, 1, 17), (17, .invokevirtual 92, 3, 20), (20, .ifCond .ne 5, 3, 23), (23, .iconst (-1), 1, 24), (24, .ireturn, 1, 25), (25, .aload_n 0, 1, 26), (26, .iload_n 1, 1, 27), (27, .invokevirtual 84, 3, 30), (30, .astore_n 3, 1, 31), (31, .aload_n 0, 1, 32), (32, .iload_n 2, 1, 33), (33, .invokevirtual 84, 3, 36), (36, .astore 4, 2, 38), (38, .aload_n 0, 1, 39), (39, .iconst 0, 1, 40), (40, .putfield 295, 3, 43), (43, .aload_n 0, 1, 44), (44, .aload_n 3, 1, 45), (45, .aload_n 3, 1, 46), (46, .iconst 0, 1, 47), (47, .iconst 0, 1, 48), (48, .aload 4, 2, 50), (50, .invokevirtual 327, 3, 53), (53, .iconst 0, 1, 54), (54, .istore 5, 2, 56), (56, .iload 5, 2, 58), (58, .aload_n 0, 1, 59), (59, .getfield 18, 3, 62), (62, .invokevirtual 74, 3, 65), (65, .if_icmp .ge 79, 3, 68), (68, .aload_n 0, 1, 69), (69, .getfield 18, 3, 72), (72, .iload 5, 2, 74), (74, .invokevirtual 78, 3, 77), (77, .checkcast 139, 3, 80), (80, .astore 6, 2, 82), (82, .aload 6, 2, 84), (84, .getfield 191, 3, 87), (87, .getstatic 184, 3, 90), (90, .if_acmp .ne 48, 3, 93), (93, .aload_n 0, 1, 94), (94, .aload 6, 2, 96), (96, .getfield 228, 3, 99), (99, .aload 6, 2, 101), (101, .getfield 236, 3, 104), (104, .iconst 0, 1, 105), (105, .iload 5, 2, 107), (107, .iconst 1, 1, 108), (108, .iadd, 1, 109), (109, .aload 4, 2, 111), (111, .invokevirtual 327, 3, 114), (114, .aload_n 0, 1, 115), (115, .aload 6, 2, 117), (117, .getfield 228, 3, 120), (120, .aload 6, 2, 122), (122, .getfield 236, 3, 125), (125, .iconst 1, 1, 126), (126, .aload 6, 2, 128), (128, .getfield 203, 3, 131), (131, .iconst 1, 1, 132), (132, .iadd, 1, 133), (133, .aload 4, 2, 135), (135, .invokevirtual 327, 3, 138), (138, .iinc 5 1, 3, 141), (141, .goto (-85), 3, 144), (144, .aload_n 0, 1, 145), (145, .iconst 1, 1, 146), (146, .putfield 144, 3, 149), (149, .iconst 0, 1, 150), (150, .istore 5, 2, 152), (152, .iconst 0, 1, 153), (153, .istore 6, 2, 155), (155, .iload 6, 2, 157), (157, .aload_n 0, 1, 158), (158, .getfield 295, 3, 161), (161, .if_icmp .ge 32, 3, 164), (164, .iload 5, 2, 166), (166, .aload_n 0, 1, 167), (167, .getfield 27, 3, 170), (170, .iload 6, 2, 172), (172, .aaload, 1, 173), (173, .getfield 299, 3, 176), (176, .ifCond .lt 7, 3, 179), (179, .iconst 1, 1, 180), (180, .goto 4, 3, 183), (183, .iconst 0, 1, 184), (184, .iadd, 1, 185), (185, .istore 5, 2, 187), (187, .iinc 6 1, 3, 190), (190, .goto (-35), 3, 193), (193, .iload 5, 2, 195), (195, .ireturn, 1, 196)]
theorem D_P_verify : Dec b_P_verify T_P_verify := Dec.of (by decide +kernel)
def T_P_decide : DT := [(0, .aload_n 0, 1, 1), (1, .getfield 27, 3, 4), (4, .aload_n 0, 1, 5), (5, .getfield 295, 3, 8), (8, .aaload, 1, 9), (9, .ifnonnull 19, 3, 12), (12, .aload_n 0, 1, 13), (13, .getfield 27, 3, 16), (16, .aload_n 0, 1, 17), (17, .getfield 295, 3, 20), (20, .new 25, 3, 23), (23, .dup, 1, 24), (24, .invokespecial 298, 3, 27), (27, .aastore, 1, 28), (28, .aload_n 0, 1, 29), (29, .getfield 27, 3, 32), (32, .aload_n 0, 1, 33), (33, .getfield 295, 3, 36), (36, .aaload, 1, 37), (37, .astore 6, 2, 39), (39, .aload_n 0, 1, 40), (40, .dup, 1, 41), (41, .getfield 295, 3, 44), (44, .iconst 1, 1, 45), (45, .iadd, 1, 46), (46, .putfield 295, 3, 49), (49, .aload 6, 2, 51), (51, .iconst (-1), 1, 52), (52, .putfield 299, 3, 55), (55, .aload 6, 2, 57), (57, .iconst (-1), 1, 58), (58, .putfield 302, 3, 61), (61, .aload 6, 2, 63), (63, .iconst 0, 1, 64), (64, .putfield 305, 3, 67), (67, .aload_n 0, 1, 68), (68, .getfield 34, 3, 71), (71, .invokevirtual 308, 3, 74), (74, .iconst 0, 1, 75), (75, .istore 7, 2, 77), (77, .iload 7, 2, 79), (79, .bipush 15, 2, 81), (81, .if_icmp .ge 26, 3, 84), (84, .aload_n 0, 1, 85), (85, .getfield 53, 3, 88), (88, .getfield 246, 3, 91), (91, .iload 7, 2, 93), (93, .iconst 2, 1, 94), (94, .bipush 15, 2, 96), (96, .iload 7, 2, 98), (98, .isub, 1, 99), (99, .imul, 1, 100), (100, .iastore, 1, 101), (101, .iinc 7 1, 3, 104), (104, .goto (-27), 3, 107), (107, .aload_n 0, 1, 108), (108, .aload_n 1, 1, 109), (109, .aload_n 0, 1, 110), (110, .getfield 53, 3, 113), (113, .getfield 246, 3, 116), (116, .invokevirtual 232, 3, 119), (119, .istore 7, 2, 121), (121, .aload_n 0, 1, 122), (122, .aload_n 2, 1, 123), (123, .aload_n 0, 1, 124), (124, .getfield 53, 3, 127), (127, .getfield 246, 3, 130), (130, .invokevirtual 232, 3, 133), (133, .istore 8, 2, 135), (135, .aload_n 0, 1, 136), (136, .getfield 53, 3, 139), (139, .aload_n 0, 1, 140), (140, .getfield 34, 3, 143), (143, .iload 7, 2, 145), (145, .iload 8, 2, 147), (147, .iload_n 3, 1, 148), (148, .ifCond .eq 7, 3, 151), (151, .iconst 1, 1, 152), (152, .goto 4, 3, 155), (155, .iconst 0, 1, 156), (156, .ixor, 1, 157), (157, .invokevirtual 269, 3, 160), (160, .putfield 266, 3, 163), (163, .aload_n 0, 1, 164), (164, .getfield 53, 3, 167), (167, .iconst 1, 1, 168), (168, .putfield 292, 3, 171), (171, .aload_n 0, 1, 172), (172, .iload 4, 2, 174), (174, .aload_n 0, 1, 175), (175, .getfield 18, 3, 178), (178, .invokevirtual 74, 3, 181), (181, .aload_n 0, 1, 182), (182, .getfield 53, 3, 185), (185, .iconst 0, 1, 186), (186, .invokestatic 285, 3, 189), (189, .aload_n 0, 1, 190), (190, .getfield 53, 3, 193), (193, .aload_n 0, 1, 194), (194, .getfield 34, 3, 197), (197, .aload_n 0, 1, 198), (198, .aload 5, 2, 200), (200, .aload_n 0, 1, 201), (201, .getfield 53, 3, 204), (204, .getfield 246, 3, 207), (207, .invokevirtual 232, 3, 210), (210, .invokevirtual 262, 3, 213), (213, .aload_n 0, 1, 214), (214, .getfield 34, 3, 217), (217, .aload_n 0, 1, 218), (218, .getfield 53, 3, 221), (221, .getfield 292, 3, 224), (224, .iconst (-1), 1, 225), (225, .iconst (-1), 1, 226), (226, .invokevirtual 311, 3, 229), (229, .aload_n 0, 1, 230), (230, .getfield 46, 3, 233), (233, .aload_n 0, 1, 234), (234, .getfield 34, 3, 237), (237, .invokevirtual 313, 3, 240), (240, .ifCond .ne 16, 3, 243), (243, .aload 6, 2, 245), (245, .aload_n 0, 1, 246), (246, .getfield 46, 3, 249), (249, .getfield 317, 3, 252), (252, .putfield 305, 3, 255), (255, .return_, 1, 256), (256, .aload 6, 2, 258), (258, .iconst 0, 1, 259), (259, .putfield 299, 3, 262), (262, .iconst 0, 1, 263), (263, .istore 9, 2, 265), (265, .iload 9, 2, 267), (267, .bipush 15, 2, 269), (269, .if_icmp .ge 37, 3, 272), (272, .aload 6, 2, 274), (274, .dup, 1, 275), (275, .getfield 299, 3, 278), (278, .aload_n 0, 1, 279), (279, .getfield 46, 3, 282), (282, .getfield 320, 3, 285), (285, .iconst 2, 1, 286), (286, .bipush 15, 2, 288), (288, .iload 9, 2, 290), (290, .isub, 1, 291), (291, .imul, 1, 292), (292, .iaload, 1, 293), (293, .iload 9, 2, 295), (295, .ishl, 1, 296), (296, .ior, 1, 297), (297, .putfield 299, 3, 300), (300, .iinc 9 1, 3, 303), (303, .goto (-38), 3, 306), (306, .aload 6, 2, 308), (308, .aload_n 0, 1, 309), (309, .aload 6, 2, 311), (311, .getfield 299, 3, 314), (314, .iload 4, 2, 316), (316, .aload 5, 2, 318), (318, .invokevirtual 323, 3, 321), (321, .putfield 302, 3, 324), (324, .return_, 1, 325)]
theorem D_P_decide : Dec b_P_decide T_P_decide := Dec.of (by decide +kernel)
def T_Verdict_init : DT := [(0, .aload_n 0, 1, 1), (1, .invokespecial 3, 3, 4), (4, .aload_n 0, 1, 5), (5, .iconst (-1), 1, 6), (6, .putfield 9, 3, 9), (9, .aload_n 0, 1, 10), (10, .iconst (-1), 1, 11), (11, .putfield 15, 3, 14), (14, .return_, 1, 15)]
theorem D_Verdict_init : Dec b_Verdict_init T_Verdict_init := Dec.of (by decide +kernel)
def T_Circuit_begin : DT := [(0, .aload_n 0, 1, 1), (1, .iconst 0, 1, 2), (2, .putfield 39, 3, 5), (5, .aload_n 0, 1, 6), (6, .iconst 0, 1, 7), (7, .putfield 43, 3, 10), (10, .aload_n 0, 1, 11), (11, .bipush 16, 2, 13), (13, .putfield 46, 3, 16), (16, .iconst 0, 1, 17), (17, .istore_n 1, 1, 18), (18, .iload_n 1, 1, 19), (19, .sipush 257, 3, 22), (22, .if_icmp .ge 16, 3, 25), (25, .aload_n 0, 1, 26), (26, .getfield 36, 3, 29), (29, .iload_n 1, 1, 30), (30, .iconst 0, 1, 31), (31, .iastore, 1, 32), (32, .iinc 1 1, 3, 35), (35, .goto (-17), 3, 38), (38, .iconst 0, 1, 39), (39, .istore_n 1, 1, 40), (40, .iload_n 1, 1, 41), (41, .aload_n 0, 1, 42), (42, .getfield 24, 3, 45), (45, .arraylength, 1, 46), (46, .if_icmp .ge 16, 3, 49), (49, .aload_n 0, 1, 50), (50, .getfield 24, 3, 53), (53, .iload_n 1, 1, 54), (54, .iconst 0, 1, 55), (55, .iastore, 1, 56), (56, .iinc 1 1, 3, 59), (59, .goto (-19), 3, 62), (62, .aload_n 0, 1, 63), (63, .iconst 0, 1, 64), (64, .iconst (-1), 1, 65), (65, .iconst (-1), 1, 66), (66, .invokevirtual 49, 3, 69), (69, .return_, 1, 70)]
theorem D_Circuit_begin : Dec b_Circuit_begin T_Circuit_begin := Dec.of (by decide +kernel)
def T_Circuit_add : DT := [(0, .aload_n 0, 1, 1), (1, .invokevirtual 60, 3, 4), (4, .aload_n 0, 1, 5), (5, .iload_n 1, 1, 6), (6, .invokevirtual 63, 3, 9), (9, .iload_n 2, 1, 10), (10, .ifCond .lt 8, 3, 13), (13, .aload_n 0, 1, 14), (14, .iload_n 2, 1, 15), (15, .invokevirtual 63, 3, 18), (18, .iload_n 3, 1, 19), (19, .ifCond .lt 8, 3, 22), (22, .aload_n 0, 1, 23), (23, .iload_n 3, 1, 24), (24, .invokevirtual 63, 3, 27), (27, .aload_n 0, 1, 28), (28, .invokevirtual 67, 3, 31), (31, .return_, 1, 32)]
theorem D_Circuit_add : Dec b_Circuit_add T_Circuit_add := Dec.of (by decide +kernel)
def T_Circuit_open : DT := [(0, .aload_n 0, 1, 1), (1, .getfield 43, 3, 4), (4, .iconst 2, 1, 5), (5, .iadd, 1, 6), (6, .aload_n 0, 1, 7), (7, .getfield 15, 3, 10), (10, .arraylength, 1, 11), (11, .if_icmp .le 14, 3, 14), (14, .aload_n 0, 1, 15), (15, .aload_n 0, 1, 16), (16, .getfield 15, 3, 19), (19, .invokestatic 53, 3, 22), (22, .putfield 15, 3, 25), (25, .aload_n 0, 1, 26), (26, .getfield 15, 3, 29), (29, .aload_n 0, 1, 30), (30, .getfield 43, 3, 33), (33, .aload_n 0, 1, 34), (34, .getfield 39, 3, 37), (37, .iastore, 1, 38), (38, .return_, 1, 39)]
theorem D_Circuit_open : Dec b_Circuit_open T_Circuit_open := Dec.of (by decide +kernel)
def T_Circuit_longer : DT := [(0, .iconst 2, 1, 1), (1, .aload_n 0, 1, 2), (2, .arraylength, 1, 3), (3, .imul, 1, 4), (4, .newarray .int, 2, 6), (6, .astore_n 1, 1, 7), (7, .aload_n 0, 1, 8), (8, .iconst 0, 1, 9), (9, .aload_n 1, 1, 10), (10, .iconst 0, 1, 11), (11, .aload_n 0, 1, 12), (12, .arraylength, 1, 13), (13, .invokestatic 70, 3, 16), (16, .aload_n 1, 1, 17), (17, .areturn, 1, 18)]
theorem D_Circuit_longer : Dec b_Circuit_longer T_Circuit_longer := Dec.of (by decide +kernel)
def T_Circuit_put : DT := [(0, .aload_n 0, 1, 1), (1, .invokevirtual 57, 3, 4), (4, .iload_n 1, 1, 5), (5, .aload_n 0, 1, 6), (6, .getfield 24, 3, 9), (9, .arraylength, 1, 10), (10, .if_icmp .lt 17, 3, 13), (13, .aload_n 0, 1, 14), (14, .aload_n 0, 1, 15), (15, .getfield 24, 3, 18), (18, .invokestatic 53, 3, 21), (21, .putfield 24, 3, 24), (24, .goto (-20), 3, 27), (27, .aload_n 0, 1, 28), (28, .getfield 9, 3, 31), (31, .aload_n 0, 1, 32), (32, .getfield 39, 3, 35), (35, .iload_n 1, 1, 36), (36, .iastore, 1, 37), (37, .aload_n 0, 1, 38), (38, .getfield 18, 3, 41), (41, .aload_n 0, 1, 42), (42, .getfield 39, 3, 45), (45, .aload_n 0, 1, 46), (46, .getfield 43, 3, 49), (49, .iastore, 1, 50), (50, .aload_n 0, 1, 51), (51, .getfield 21, 3, 54), (54, .aload_n 0, 1, 55), (55, .getfield 39, 3, 58), (58, .aload_n 0, 1, 59), (59, .getfield 24, 3, 62), (62, .iload_n 1, 1, 63), (63, .iaload, 1, 64), (64, .iastore, 1, 65), (65, .aload_n 0, 1, 66), (66, .dup, 1, 67), (67, .getfield 39, 3, 70), (70, .iconst 1, 1, 71), (71, .iadd, 1, 72), (72, .putfield 39, 3, 75), (75, .aload_n 0, 1, 76), (76, .getfield 24, 3, 79), (79, .iload_n 1, 1, 80), (80, .aload_n 0, 1, 81), (81, .getfield 39, 3, 84), (84, .iastore, 1, 85), (85, .return_, 1, 86)]
theorem D_Circuit_put : Dec b_Circuit_put T_Circuit_put := Dec.of (by decide +kernel)
def T_Circuit_room : DT := [(0, .aload_n 0, 1, 1), (1, .getfield 39, 3, 4), (4, .aload_n 0, 1, 5), (5, .getfield 9, 3, 8), (8, .arraylength, 1, 9), (9, .if_icmp .ge 4, 3, 12), (12, .return_, 1, 13), (13, .aload_n 0, 1, 14), (14, .aload_n 0, 1, 15), (15, .getfield 9, 3, 18), (18, .invokestatic 53, 3, 21), (21, .putfield 9, 3, 24), (24, .aload_n 0, 1, 25), (25, .aload_n 0, 1, 26), (26, .getfield 18, 3, 29), (29, .invokestatic 53, 3, 32), (32, .putfield 18, 3, 35), (35, .aload_n 0, 1, 36), (36, .aload_n 0, 1, 37), (37, .getfield 21, 3, 40), (40, .invokestatic 53, 3, 43), (43, .putfield 21, 3, 46), (46, .return_, 1, 47)]
theorem D_Circuit_room : Dec b_Circuit_room T_Circuit_room := Dec.of (by decide +kernel)
def T_Circuit_close : DT := [(0, .aload_n 0, 1, 1), (1, .dup, 1, 2), (2, .getfield 43, 3, 5), (5, .iconst 1, 1, 6), (6, .iadd, 1, 7), (7, .putfield 43, 3, 10), (10, .aload_n 0, 1, 11), (11, .getfield 15, 3, 14), (14, .aload_n 0, 1, 15), (15, .getfield 43, 3, 18), (18, .aload_n 0, 1, 19), (19, .getfield 39, 3, 22), (22, .iastore, 1, 23), (23, .return_, 1, 24)]
theorem D_Circuit_close : Dec b_Circuit_close T_Circuit_close := Dec.of (by decide +kernel)
def T_P_gate : DT := [(0, .aload_n 0, 1, 1), (1, .aload_n 1, 1, 2), (2, .getfield 218, 3, 5), (5, .invokevirtual 221, 3, 8), (8, .iconst 0, 1, 9), (9, .istore_n 3, 1, 10), (10, .iload_n 3, 1, 11), (11, .aload_n 1, 1, 12), (12, .getfield 218, 3, 15), (15, .if_icmp .gt 41, 3, 18), (18, .aload_n 0, 1, 19), (19, .getfield 61, 3, 22), (22, .iload_n 3, 1, 23), (23, .baload, 1, 24), (24, .ifCond .eq 26, 3, 27), (27, .aload_n 0, 1, 28), (28, .getfield 14, 3, 31), (31, .iload_n 3, 1, 32), (32, .invokevirtual 78, 3, 35), (35, .checkcast 82, 3, 38), (38, .aload_n 0, 1, 39), (39, .getfield 34, 3, 42), (42, .aload_n 2, 1, 43), (43, .aload_n 0, 1, 44), (44, .getfield 65, 3, 47), (47, .invokevirtual 224, 3, 50), (50, .iinc 3 1, 3, 53), (53, .goto (-43), 3, 56), (56, .aload_n 0, 1, 57), (57, .getfield 65, 3, 60), (60, .iconst 3, 1, 61), (61, .aload_n 1, 1, 62), (62, .getfield 218, 3, 65), (65, .imul, 1, 66), (66, .iaload, 1, 67), (67, .ireturn, 1, 68)]
theorem D_P_gate : Dec b_P_gate T_P_gate := Dec.of (by decide +kernel)
def T_P_need : DT := [(0, .iconst 0, 1, 1), (1, .istore_n 2, 1, 2), (2, .iload_n 2, 1, 3), (3, .iload_n 1, 1, 4), (4, .if_icmp .gt 25, 3, 7), (7, .aload_n 0, 1, 8), (8, .getfield 61, 3, 11), (11, .iload_n 2, 1, 12), (12, .iload_n 2, 1, 13), (13, .iload_n 1, 1, 14), (14, .if_icmp .ne 7, 3, 17), (17, .iconst 1, 1, 18), (18, .goto 4, 3, 21), (21, .iconst 0, 1, 22), (22, .bastore, 1, 23), (23, .iinc 2 1, 3, 26), (26, .goto (-24), 3, 29), (29, .iload_n 1, 1, 30), (30, .istore_n 2, 1, 31), (31, .iload_n 2, 1, 32), (32, .ifCond .lt 73, 3, 35), (35, .aload_n 0, 1, 36), (36, .getfield 14, 3, 39), (39, .iload_n 2, 1, 40), (40, .invokevirtual 78, 3, 43), (43, .checkcast 82, 3, 46), (46, .astore_n 3, 1, 47), (47, .aload_n 0, 1, 48), (48, .getfield 61, 3, 51), (51, .iload_n 2, 1, 52), (52, .baload, 1, 53), (53, .ifCond .eq 20, 3, 56), (56, .aload_n 3, 1, 57), (57, .getfield 212, 3, 60), (60, .ifCond .lt 13, 3, 63), (63, .aload_n 0, 1, 64), (64, .getfield 61, 3, 67), (67, .aload_n 3, 1, 68), (68, .getfield 212, 3, 71), (71, .iconst 1, 1, 72), (72, .bastore, 1, 73), (73, .aload_n 0, 1, 74), (74, .getfield 61, 3, 77), (77, .iload_n 2, 1, 78), (78, .baload, 1, 79), (79, .ifCond .eq 20, 3, 82), (82, .aload_n 3, 1, 83), (83, .getfield 215, 3, 86), (86, .ifCond .lt 13, 3, 89), (89, .aload_n 0, 1, 90), (90, .getfield 61, 3, 93), (93, .aload_n 3, 1, 94), (94, .getfield 215, 3, 97), (97, .iconst 1, 1, 98), (98, .bastore, 1, 99), (99, .iinc 2 (-1), 3, 102), (102, .goto (-71), 3, 105), (105, .return_, 1, 106)]
theorem D_P_need : Dec b_P_need T_P_need := Dec.of (by decide +kernel)
def T_Below_gates : DT := [(0, .iconst 1, 1, 1), (1, .istore 4, 2, 3), (3, .iconst 0, 1, 4), (4, .istore 5, 2, 6), (6, .iload 5, 2, 8), (8, .iconst 3, 1, 9), (9, .if_icmp .ge 53, 3, 12), (12, .aload_n 3, 1, 13), (13, .iconst 3, 1, 14), (14, .aload_n 0, 1, 15), (15, .getfield 9, 3, 18), (18, .imul, 1, 19), (19, .iload 5, 2, 21), (21, .iadd, 1, 22), (22, .iaload, 1, 23), (23, .istore 6, 2, 25), (25, .aload_n 3, 1, 26), (26, .iconst 3, 1, 27), (27, .aload_n 0, 1, 28), (28, .getfield 15, 3, 31), (31, .imul, 1, 32), (32, .iload 5, 2, 34), (34, .iadd, 1, 35), (35, .iaload, 1, 36), (36, .istore 7, 2, 38), (38, .aload_n 1, 1, 39), (39, .aload_n 1, 1, 40), (40, .iload 6, 2, 42), (42, .iload 7, 2, 44), (44, .invokevirtual 18, 3, 47), (47, .iload 7, 2, 49), (49, .iload 4, 2, 51), (51, .invokevirtual 24, 3, 54), (54, .istore 4, 2, 56), (56, .iinc 5 1, 3, 59), (59, .goto (-53), 3, 62), (62, .aload_n 3, 1, 63), (63, .iconst 3, 1, 64), (64, .aload_n 0, 1, 65), (65, .getfield 28, 3, 68), (68, .imul, 1, 69), (69, .iload 4, 2, 71), (71, .iastore, 1, 72), (72, .return_, 1, 73)]
theorem D_Below_gates : Dec b_Below_gates T_Below_gates := Dec.of (by decide +kernel)
def T_Circuit_differ : DT := [(0, .aload_n 0, 1, 1), (1, .aload_n 0, 1, 2), (2, .iload_n 1, 1, 3), (3, .iload_n 2, 1, 4), (4, .iconst 1, 1, 5), (5, .ixor, 1, 6), (6, .invokevirtual 88, 3, 9), (9, .aload_n 0, 1, 10), (10, .iload_n 1, 1, 11), (11, .iconst 1, 1, 12), (12, .ixor, 1, 13), (13, .iload_n 2, 1, 14), (14, .invokevirtual 88, 3, 17), (17, .invokevirtual 91, 3, 20), (20, .ireturn, 1, 21)]
theorem D_Circuit_differ : Dec b_Circuit_differ T_Circuit_differ := Dec.of (by decide +kernel)
def T_Circuit_and : DT := [(0, .iload_n 1, 1, 1), (1, .iload_n 2, 1, 2), (2, .invokestatic 76, 3, 5), (5, .istore_n 3, 1, 6), (6, .iload_n 1, 1, 7), (7, .iload_n 2, 1, 8), (8, .invokestatic 82, 3, 11), (11, .istore 4, 2, 13), (13, .iload_n 3, 1, 14), (14, .iconst 1, 1, 15), (15, .if_icmp .eq 17, 3, 18), (18, .iload 4, 2, 20), (20, .iconst 1, 1, 21), (21, .if_icmp .eq 11, 3, 24), (24, .iload_n 3, 1, 25), (25, .iload 4, 2, 27), (27, .iconst 1, 1, 28), (28, .ixor, 1, 29), (29, .if_icmp .ne 5, 3, 32), (32, .iconst 1, 1, 33), (33, .ireturn, 1, 34), (34, .iload_n 3, 1, 35), (35, .ifCond .eq 9, 3, 38), (38, .iload_n 3, 1, 39), (39, .iload 4, 2, 41), (41, .if_icmp .ne 6, 3, 44), (44, .iload 4, 2, 46), (46, .ireturn, 1, 47), (47, .bipush 31, 2, 49), (49, .iload_n 3, 1, 50), (50, .imul, 1, 51), (51, .iload 4, 2, 53), (53, .iadd, 1, 54), (54, .sipush 257, 3, 57), (57, .irem, 1, 58), (58, .istore 5, 2, 60), (60, .aload_n 0, 1, 61), (61, .getfield 36, 3, 64), (64, .iload 5, 2, 66), (66, .iaload, 1, 67), (67, .istore 6, 2, 69), (69, .iload 6, 2, 71), (71, .ifCond .eq 43, 3, 74), (74, .aload_n 0, 1, 75), (75, .getfield 27, 3, 78), (78, .iload 6, 2, 80), (80, .iaload, 1, 81), (81, .iload_n 3, 1, 82), (82, .if_icmp .ne 20, 3, 85), (85, .aload_n 0, 1, 86), (86, .getfield 30, 3, 89), (89, .iload 6, 2, 91), (91, .iaload, 1, 92), (92, .iload 4, 2, 94), (94, .if_icmp .ne 8, 3, 97), (97, .iconst 2, 1, 98), (98, .iload 6, 2, 100), (100, .imul, 1, 101), (101, .ireturn, 1, 102), (102, .aload_n 0, 1, 103), (103, .getfield 33, 3, 106), (106, .iload 6, 2, 108), (108, .iaload, 1, 109), (109, .istore 6, 2, 111), (111, .goto (-42), 3, 114), (114, .aload_n 0, 1, 115), (115, .dup, 1, 116), (116, .getfield 46, 3, 119), (119, .dup_x1, 1, 120), (120, .iconst 1, 1, 121), (121, .iadd, 1, 122), (122, .putfield 46, 3, 125), (125, .istore 6, 2, 127), (127, .iload 6, 2, 129), (129, .aload_n 0, 1, 130), (130, .getfield 27, 3, 133), (133, .arraylength, 1, 134), (134, .if_icmp .lt 10, 3, 137), (137, .aload_n 0, 1, 138), (138, .invokevirtual 85, 3, 141), (141, .goto (-14), 3, 144), (144, .aload_n 0, 1, 145), (145, .getfield 27, 3, 148), (148, .iload 6, 2, 150), (150, .iload_n 3, 1, 151), (151, .iastore, 1, 152), (152, .aload_n 0, 1, 153), (153, .getfield 30, 3, 156), (156, .iload 6, 2, 158), (158, .iload 4, 2, 160), (160, .iastore, 1, 161), (161, .aload_n 0, 1, 162), (162, .getfield 33, 3, 165), (165, .iload 6, 2, 167), (167, .aload_n 0, 1, 168), (168, .getfield 36, 3, 171), (171, .iload 5, 2, 173), (173, .iaload, 1, 174), (174, .iastore, 1, 175), (175, .aload_n 0, 1, 176), (176, .getfield 36, 3, 179), (179, .iload 5, 2, 181), (181, .iload 6, 2, 183), (183, .iastore, 1, 184), (184, .aload_n 0, 1, 185), (185, .iconst 2, 1, 186), (186, .iload 6, 2, 188), (188, .imul, 1, 189), (189, .iconst 1, 1, 190), (190, .iadd, 1, 191), (191, .iload_n 3, 1, 192), (192, .iconst (-1), 1, 193), (193, .invokevirtual 49, 3, 196), (196, .aload_n 0, 1, 197), (197, .iconst 2, 1, 198), (198, .iload 6, 2, 200), (200, .imul, 1, 201), (201, .iconst 1, 1, 202), (202, .iadd, 1, 203), (203, .iload 4, 2, 205), (205, .iconst (-1), 1, 206), (206, .invokevirtual 49, 3, 209), (209, .aload_n 0, 1, 210), (210, .iconst 2, 1, 211), (211, .iload 6, 2, 213), (213, .imul, 1, 214), (214, .iload_n 3, 1, 215), (215, .iconst 1, 1, 216), (216, .ixor, 1, 217), (217, .iload 4, 2, 219), (219, .iconst 1, 1, 220), (220, .ixor, 1, 221), (221, .invokevirtual 49, 3, 224), (224, .iconst 2, 1, 225), (225, .iload 6, 2, 227), (227, .imul, 1, 228), (228, .ireturn, 1, 229)]
theorem D_Circuit_and : Dec b_Circuit_and T_Circuit_and := Dec.of (by decide +kernel)
def T_Circuit_grow : DT := [(0, .aload_n 0, 1, 1), (1, .aload_n 0, 1, 2), (2, .getfield 27, 3, 5), (5, .invokestatic 53, 3, 8), (8, .putfield 27, 3, 11), (11, .aload_n 0, 1, 12), (12, .aload_n 0, 1, 13), (13, .getfield 30, 3, 16), (16, .invokestatic 53, 3, 19), (19, .putfield 30, 3, 22), (22, .aload_n 0, 1, 23), (23, .aload_n 0, 1, 24), (24, .getfield 33, 3, 27), (27, .invokestatic 53, 3, 30), (30, .putfield 33, 3, 33), (33, .return_, 1, 34)]
theorem D_Circuit_grow : Dec b_Circuit_grow T_Circuit_grow := Dec.of (by decide +kernel)
def T_Circuit_or : DT := [(0, .aload_n 0, 1, 1), (1, .iload_n 1, 1, 2), (2, .iconst 1, 1, 3), (3, .ixor, 1, 4), (4, .iload_n 2, 1, 5), (5, .iconst 1, 1, 6), (6, .ixor, 1, 7), (7, .invokevirtual 88, 3, 10), (10, .iconst 1, 1, 11), (11, .ixor, 1, 12), (12, .ireturn, 1, 13)]
theorem D_Circuit_or : Dec b_Circuit_or T_Circuit_or := Dec.of (by decide +kernel)
def T_Circuit_either : DT := [(0, .iload_n 2, 1, 1), (1, .iload_n 3, 1, 2), (2, .if_icmp .ne 7, 3, 5), (5, .iload_n 2, 1, 6), (6, .goto 21, 3, 9), (9, .aload_n 0, 1, 10), (10, .aload_n 0, 1, 11), (11, .iload_n 1, 1, 12), (12, .iload_n 2, 1, 13), (13, .invokevirtual 88, 3, 16), (16, .aload_n 0, 1, 17), (17, .iload_n 1, 1, 18), (18, .iconst 1, 1, 19), (19, .ixor, 1, 20), (20, .iload_n 3, 1, 21), (21, .invokevirtual 88, 3, 24), (24, .invokevirtual 91, 3, 27), (27, .ireturn, 1, 28)]
theorem D_Circuit_either : Dec b_Circuit_either T_Circuit_either := Dec.of (by decide +kernel)
def T_Both_gates : DT := [(0, .aload_n 3, 1, 1), (1, .iconst 3, 1, 2), (2, .aload_n 0, 1, 3), (3, .getfield 18, 3, 6), (6, .imul, 1, 7), (7, .aload_n 1, 1, 8), (8, .aload_n 3, 1, 9), (9, .iconst 3, 1, 10), (10, .aload_n 0, 1, 11), (11, .getfield 9, 3, 14), (14, .imul, 1, 15), (15, .iaload, 1, 16), (16, .aload_n 3, 1, 17), (17, .iconst 3, 1, 18), (18, .aload_n 0, 1, 19), (19, .getfield 15, 3, 22), (22, .imul, 1, 23), (23, .iaload, 1, 24), (24, .invokevirtual 21, 3, 27), (27, .iastore, 1, 28), (28, .return_, 1, 29)]
theorem D_Both_gates : Dec b_Both_gates T_Both_gates := Dec.of (by decide +kernel)
def T_Constant_gates : DT := [(0, .iconst 0, 1, 1), (1, .istore 4, 2, 3), (3, .iload 4, 2, 5), (5, .iconst 3, 1, 6), (6, .if_icmp .ge 38, 3, 9), (9, .aload_n 3, 1, 10), (10, .iconst 3, 1, 11), (11, .aload_n 0, 1, 12), (12, .getfield 15, 3, 15), (15, .imul, 1, 16), (16, .iload 4, 2, 18), (18, .iadd, 1, 19), (19, .aload_n 0, 1, 20), (20, .getfield 9, 3, 23), (23, .iload 4, 2, 25), (25, .ishr, 1, 26), (26, .iconst 1, 1, 27), (27, .iand, 1, 28), (28, .iconst 1, 1, 29), (29, .if_icmp .ne 7, 3, 32), (32, .iconst 0, 1, 33), (33, .goto 4, 3, 36), (36, .iconst 1, 1, 37), (37, .iastore, 1, 38), (38, .iinc 4 1, 3, 41), (41, .goto (-38), 3, 44), (44, .return_, 1, 45)]
theorem D_Constant_gates : Dec b_Constant_gates T_Constant_gates := Dec.of (by decide +kernel)
def T_Meet_gates : DT := [(0, .iconst 0, 1, 1), (1, .istore 4, 2, 3), (3, .iload 4, 2, 5), (5, .iconst 3, 1, 6), (6, .if_icmp .ge 46, 3, 9), (9, .aload_n 3, 1, 10), (10, .iconst 3, 1, 11), (11, .aload_n 0, 1, 12), (12, .getfield 18, 3, 15), (15, .imul, 1, 16), (16, .iload 4, 2, 18), (18, .iadd, 1, 19), (19, .aload_n 1, 1, 20), (20, .aload_n 3, 1, 21), (21, .iconst 3, 1, 22), (22, .aload_n 0, 1, 23), (23, .getfield 9, 3, 26), (26, .imul, 1, 27), (27, .iload 4, 2, 29), (29, .iadd, 1, 30), (30, .iaload, 1, 31), (31, .aload_n 3, 1, 32), (32, .iconst 3, 1, 33), (33, .aload_n 0, 1, 34), (34, .getfield 15, 3, 37), (37, .imul, 1, 38), (38, .iload 4, 2, 40), (40, .iadd, 1, 41), (41, .iaload, 1, 42), (42, .invokevirtual 21, 3, 45), (45, .iastore, 1, 46), (46, .iinc 4 1, 3, 49), (49, .goto (-46), 3, 52), (52, .return_, 1, 53)]
theorem D_Meet_gates : Dec b_Meet_gates T_Meet_gates := Dec.of (by decide +kernel)
def T_Not_gates : DT := [(0, .aload_n 3, 1, 1), (1, .iconst 3, 1, 2), (2, .aload_n 0, 1, 3), (3, .getfield 15, 3, 6), (6, .imul, 1, 7), (7, .aload_n 3, 1, 8), (8, .iconst 3, 1, 9), (9, .aload_n 0, 1, 10), (10, .getfield 9, 3, 13), (13, .imul, 1, 14), (14, .iaload, 1, 15), (15, .iconst 1, 1, 16), (16, .ixor, 1, 17), (17, .iastore, 1, 18), (18, .return_, 1, 19)]
theorem D_Not_gates : Dec b_Not_gates T_Not_gates := Dec.of (by decide +kernel)
def T_Read_gates : DT := [(0, .iconst 0, 1, 1), (1, .istore 4, 2, 3), (3, .iload 4, 2, 5), (5, .iconst 3, 1, 6), (6, .if_icmp .ge 46, 3, 9), (9, .aload_n 3, 1, 10), (10, .iconst 3, 1, 11), (11, .aload_n 0, 1, 12), (12, .getfield 15, 3, 15), (15, .imul, 1, 16), (16, .iload 4, 2, 18), (18, .iadd, 1, 19), (19, .aload_n 1, 1, 20), (20, .aload_n 3, 1, 21), (21, .iconst 3, 1, 22), (22, .aload_n 0, 1, 23), (23, .getfield 9, 3, 26), (26, .imul, 1, 27), (27, .iaload, 1, 28), (28, .aload_n 2, 1, 29), (29, .bipush 12, 2, 31), (31, .iload 4, 2, 33), (33, .iadd, 1, 34), (34, .iaload, 1, 35), (35, .aload_n 2, 1, 36), (36, .bipush 9, 2, 38), (38, .iload 4, 2, 40), (40, .iadd, 1, 41), (41, .iaload, 1, 42), (42, .invokevirtual 18, 3, 45), (45, .iastore, 1, 46), (46, .iinc 4 1, 3, 49), (49, .goto (-46), 3, 52), (52, .return_, 1, 53)]
theorem D_Read_gates : Dec b_Read_gates T_Read_gates := Dec.of (by decide +kernel)
def T_Same_gates : DT := [(0, .iconst 1, 1, 1), (1, .istore 4, 2, 3), (3, .iconst 0, 1, 4), (4, .istore 5, 2, 6), (6, .iload 5, 2, 8), (8, .iconst 3, 1, 9), (9, .if_icmp .ge 43, 3, 12), (12, .aload_n 1, 1, 13), (13, .iload 4, 2, 15), (15, .aload_n 1, 1, 16), (16, .aload_n 3, 1, 17), (17, .iconst 3, 1, 18), (18, .aload_n 0, 1, 19), (19, .getfield 9, 3, 22), (22, .imul, 1, 23), (23, .iload 5, 2, 25), (25, .iadd, 1, 26), (26, .iaload, 1, 27), (27, .aload_n 3, 1, 28), (28, .iconst 3, 1, 29), (29, .aload_n 0, 1, 30), (30, .getfield 15, 3, 33), (33, .imul, 1, 34), (34, .iload 5, 2, 36), (36, .iadd, 1, 37), (37, .iaload, 1, 38), (38, .invokevirtual 18, 3, 41), (41, .invokevirtual 24, 3, 44), (44, .istore 4, 2, 46), (46, .iinc 5 1, 3, 49), (49, .goto (-43), 3, 52), (52, .aload_n 3, 1, 53), (53, .iconst 3, 1, 54), (54, .aload_n 0, 1, 55), (55, .getfield 27, 3, 58), (58, .imul, 1, 59), (59, .iload 4, 2, 61), (61, .iconst 1, 1, 62), (62, .ixor, 1, 63), (63, .iastore, 1, 64), (64, .return_, 1, 65)]
theorem D_Same_gates : Dec b_Same_gates T_Same_gates := Dec.of (by decide +kernel)
def T_Sum_gates : DT := [(0, .aload_n 0, 1, 1), (1, .getfield 9, 3, 4), (4, .ifCond .eq 7, 3, 7), (7, .iconst 0, 1, 8), (8, .goto 4, 3, 11), (11, .iconst 1, 1, 12), (12, .istore 4, 2, 14), (14, .iconst 0, 1, 15), (15, .istore 5, 2, 17), (17, .iload 5, 2, 19), (19, .iconst 3, 1, 20), (20, .if_icmp .ge 99, 3, 23), (23, .aload_n 3, 1, 24), (24, .iconst 3, 1, 25), (25, .aload_n 0, 1, 26), (26, .getfield 15, 3, 29), (29, .imul, 1, 30), (30, .iload 5, 2, 32), (32, .iadd, 1, 33), (33, .iaload, 1, 34), (34, .istore 6, 2, 36), (36, .aload_n 3, 1, 37), (37, .iconst 3, 1, 38), (38, .aload_n 0, 1, 39), (39, .getfield 19, 3, 42), (42, .imul, 1, 43), (43, .iload 5, 2, 45), (45, .iadd, 1, 46), (46, .iaload, 1, 47), (47, .aload_n 0, 1, 48), (48, .getfield 9, 3, 51), (51, .ifCond .eq 7, 3, 54), (54, .iconst 1, 1, 55), (55, .goto 4, 3, 58), (58, .iconst 0, 1, 59), (59, .ixor, 1, 60), (60, .istore 7, 2, 62), (62, .aload_n 1, 1, 63), (63, .iload 6, 2, 65), (65, .iload 7, 2, 67), (67, .invokevirtual 22, 3, 70), (70, .istore 8, 2, 72), (72, .aload_n 3, 1, 73), (73, .iconst 3, 1, 74), (74, .aload_n 0, 1, 75), (75, .getfield 28, 3, 78), (78, .imul, 1, 79), (79, .iload 5, 2, 81), (81, .iadd, 1, 82), (82, .aload_n 1, 1, 83), (83, .iload 8, 2, 85), (85, .iload 4, 2, 87), (87, .invokevirtual 22, 3, 90), (90, .iastore, 1, 91), (91, .aload_n 1, 1, 92), (92, .aload_n 1, 1, 93), (93, .iload 6, 2, 95), (95, .iload 7, 2, 97), (97, .invokevirtual 31, 3, 100), (100, .aload_n 1, 1, 101), (101, .iload 8, 2, 103), (103, .iload 4, 2, 105), (105, .invokevirtual 31, 3, 108), (108, .invokevirtual 34, 3, 111), (111, .istore 4, 2, 113), (113, .iinc 5 1, 3, 116), (116, .goto (-99), 3, 119), (119, .return_, 1, 120)]
theorem D_Sum_gates : Dec b_Sum_gates T_Sum_gates := Dec.of (by decide +kernel)
def T_Variable_gates : DT := [(0, .aload_n 2, 1, 1), (1, .iconst 3, 1, 2), (2, .aload_n 0, 1, 3), (3, .getfield 9, 3, 6), (6, .imul, 1, 7), (7, .aload_n 3, 1, 8), (8, .iconst 3, 1, 9), (9, .aload_n 0, 1, 10), (10, .getfield 15, 3, 13), (13, .imul, 1, 14), (14, .iconst 3, 1, 15), (15, .invokestatic 18, 3, 18), (18, .return_, 1, 19)]
theorem D_Variable_gates : Dec b_Variable_gates T_Variable_gates := Dec.of (by decide +kernel)
def T_P_go : DT := [(0, .iload_n 1, 1, 1), (1, .istore 5, 2, 3), (3, .iload 5, 2, 5), (5, .iload_n 2, 1, 6), (6, .if_icmp .ge 319, 3, 9), (9, .aload_n 0, 1, 10), (10, .getfield 18, 3, 13), (13, .iload 5, 2, 15), (15, .invokevirtual 78, 3, 18), (18, .checkcast 139, 3, 21), (21, .astore 6, 2, 23), (23, .aload 6, 2, 25), (25, .getfield 191, 3, 28), (28, .invokevirtual 243, 3, 31), (31, .tableswitch 244 0 6 #[41, 87, 100, 152, 183, 204, 227], 41, 72), (72, .aload_n 0, 1, 73), (73, .aload 6, 2, 75), (75, .getfield 236, 3, 78), (78, .aload_n 3, 1, 79), (79, .getfield 246, 3, 82), (82, .invokevirtual 232, 3, 85), (85, .pop, 1, 86), (86, .aload_n 0, 1, 87), (87, .getfield 65, 3, 90), (90, .iconst 3, 1, 91), (91, .aload 6, 2, 93), (93, .getfield 236, 3, 96), (96, .getfield 218, 3, 99), (99, .imul, 1, 100), (100, .aload_n 3, 1, 101), (101, .getfield 246, 3, 104), (104, .iconst 3, 1, 105), (105, .aload 6, 2, 107), (107, .getfield 249, 3, 110), (110, .imul, 1, 111), (111, .iconst 3, 1, 112), (112, .invokestatic 252, 3, 115), (115, .goto 204, 3, 118), (118, .aload_n 0, 1, 119), (119, .aload 6, 2, 121), (121, .aload_n 3, 1, 122), (122, .getfield 246, 3, 125), (125, .invokevirtual 258, 3, 128), (128, .goto 191, 3, 131), (131, .aload_n 3, 1, 132), (132, .aload_n 0, 1, 133), (133, .getfield 34, 3, 136), (136, .aload_n 0, 1, 137), (137, .aload 6, 2, 139), (139, .getfield 236, 3, 142), (142, .aload_n 3, 1, 143), (143, .getfield 246, 3, 146), (146, .invokevirtual 232, 3, 149), (149, .invokevirtual 262, 3, 152), (152, .aload_n 3, 1, 153), (153, .aload_n 0, 1, 154), (154, .getfield 34, 3, 157), (157, .aload_n 3, 1, 158), (158, .getfield 266, 3, 161), (161, .aload_n 0, 1, 162), (162, .aload 6, 2, 164), (164, .getfield 236, 3, 167), (167, .aload_n 3, 1, 168), (168, .getfield 246, 3, 171), (171, .invokevirtual 232, 3, 174), (174, .invokevirtual 269, 3, 177), (177, .putfield 266, 3, 180), (180, .goto 139, 3, 183), (183, .aload_n 3, 1, 184), (184, .aload_n 0, 1, 185), (185, .getfield 34, 3, 188), (188, .aload_n 3, 1, 189), (189, .getfield 266, 3, 192), (192, .aload_n 0, 1, 193), (193, .aload 6, 2, 195), (195, .getfield 236, 3, 198), (198, .aload_n 3, 1, 199), (199, .getfield 246, 3, 202), (202, .invokevirtual 232, 3, 205), (205, .invokevirtual 269, 3, 208), (208, .putfield 266, 3, 211), (211, .goto 108, 3, 214), (214, .aload_n 0, 1, 215), (215, .iload 5, 2, 217), (217, .aload 6, 2, 219), (219, .aload_n 3, 1, 220), (220, .iload 4, 2, 222), (222, .invokestatic 273, 3, 225), (225, .aload 6, 2, 227), (227, .getfield 203, 3, 230), (230, .istore 5, 2, 232), (232, .goto 87, 3, 235), (235, .aload_n 0, 1, 236), (236, .getfield 18, 3, 239), (239, .aload 6, 2, 241), (241, .getfield 200, 3, 244), (244, .invokevirtual 78, 3, 247), (247, .checkcast 139, 3, 250), (250, .getfield 203, 3, 253), (253, .istore 5, 2, 255), (255, .goto 64, 3, 258), (258, .aload_n 0, 1, 259), (259, .aload 6, 2, 261), (261, .aload_n 3, 1, 262), (262, .invokestatic 277, 3, 265), (265, .aload 6, 2, 267), (267, .getfield 203, 3, 270), (270, .istore 5, 2, 272), (272, .goto 47, 3, 275), (275, .aload_n 0, 1, 276), (276, .getfield 18, 3, 279), (279, .aload 6, 2, 281), (281, .getfield 200, 3, 284), (284, .invokevirtual 78, 3, 287), (287, .checkcast 139, 3, 290), (290, .getfield 191, 3, 293), (293, .getstatic 184, 3, 296), (296, .if_acmp .ne 23, 3, 299), (299, .aload_n 0, 1, 300), (300, .aload_n 0, 1, 301), (301, .getfield 18, 3, 304), (304, .aload 6, 2, 306), (306, .getfield 200, 3, 309), (309, .invokevirtual 78, 3, 312), (312, .checkcast 139, 3, 315), (315, .aload_n 3, 1, 316), (316, .invokestatic 277, 3, 319), (319, .iinc 5 1, 3, 322), (322, .goto (-319), 3, 325), (325, .return_, 1, 326)]
theorem D_P_go : Dec b_P_go T_P_go := Dec.of (by decide +kernel)
def T_Enum_ordinal : DT := [(0, .aload_n 0, 1, 1), (1, .getfield 7, 3, 4), (4, .ireturn, 1, 5)]
theorem D_Enum_ordinal : Dec b_Enum_ordinal T_Enum_ordinal := Dec.of (by decide +kernel)
def T_P_storeIn : DT := [(0, .aload_n 0, 1, 1), (1, .aload_n 1, 1, 2), (2, .getfield 228, 3, 5), (5, .aload_n 2, 1, 6), (6, .invokevirtual 232, 3, 9), (9, .istore_n 3, 1, 10), (10, .aload_n 0, 1, 11), (11, .aload_n 1, 1, 12), (12, .getfield 236, 3, 15), (15, .aload_n 2, 1, 16), (16, .invokevirtual 232, 3, 19), (19, .pop, 1, 20), (20, .iconst 0, 1, 21), (21, .istore 4, 2, 23), (23, .iload 4, 2, 25), (25, .iconst 3, 1, 26), (26, .if_icmp .ge 76, 3, 29), (29, .aload_n 0, 1, 30), (30, .getfield 65, 3, 33), (33, .iconst 3, 1, 34), (34, .aload_n 1, 1, 35), (35, .getfield 236, 3, 38), (38, .getfield 218, 3, 41), (41, .imul, 1, 42), (42, .iload 4, 2, 44), (44, .iadd, 1, 45), (45, .iaload, 1, 46), (46, .istore 5, 2, 48), (48, .aload_n 2, 1, 49), (49, .bipush 9, 2, 51), (51, .iload 4, 2, 53), (53, .iadd, 1, 54), (54, .aload_n 0, 1, 55), (55, .getfield 34, 3, 58), (58, .iload_n 3, 1, 59), (59, .aload_n 2, 1, 60), (60, .bipush 9, 2, 62), (62, .iload 4, 2, 64), (64, .iadd, 1, 65), (65, .iaload, 1, 66), (66, .iload 5, 2, 68), (68, .invokevirtual 239, 3, 71), (71, .iastore, 1, 72), (72, .aload_n 2, 1, 73), (73, .bipush 12, 2, 75), (75, .iload 4, 2, 77), (77, .iadd, 1, 78), (78, .aload_n 0, 1, 79), (79, .getfield 34, 3, 82), (82, .iload_n 3, 1, 83), (83, .iload 5, 2, 85), (85, .aload_n 2, 1, 86), (86, .bipush 12, 2, 88), (88, .iload 4, 2, 90), (90, .iadd, 1, 91), (91, .iaload, 1, 92), (92, .invokevirtual 239, 3, 95), (95, .iastore, 1, 96), (96, .iinc 4 1, 3, 99), (99, .goto (-76), 3, 102), (102, .return_, 1, 103)]
theorem D_P_storeIn : Dec b_P_storeIn T_P_storeIn := Dec.of (by decide +kernel)
def T_Flow_must : DT := [(0, .aload_n 0, 1, 1), (1, .aload_n 1, 1, 2), (2, .aload_n 0, 1, 3), (3, .getfield 25, 3, 6), (6, .aload_n 1, 1, 7), (7, .aload_n 0, 1, 8), (8, .getfield 21, 3, 11), (11, .iload_n 2, 1, 12), (12, .iconst 1, 1, 13), (13, .ixor, 1, 14), (14, .invokevirtual 28, 3, 17), (17, .invokevirtual 34, 3, 20), (20, .putfield 25, 3, 23), (23, .return_, 1, 24)]
theorem D_Flow_must : Dec b_Flow_must T_Flow_must := Dec.of (by decide +kernel)
def T_P_parted : DT := [(0, .aload_n 0, 1, 1), (1, .aload_n 2, 1, 2), (2, .getfield 236, 3, 5), (5, .aload_n 3, 1, 6), (6, .getfield 246, 3, 9), (9, .invokevirtual 232, 3, 12), (12, .istore 5, 2, 14), (14, .aload_n 0, 1, 15), (15, .getfield 57, 3, 18), (18, .iload 4, 2, 20), (20, .aaload, 1, 21), (21, .astore 6, 2, 23), (23, .aload 6, 2, 25), (25, .aload_n 3, 1, 26), (26, .invokevirtual 281, 3, 29), (29, .aload_n 3, 1, 30), (30, .aload_n 0, 1, 31), (31, .getfield 34, 3, 34), (34, .aload_n 3, 1, 35), (35, .getfield 266, 3, 38), (38, .iload 5, 2, 40), (40, .invokevirtual 269, 3, 43), (43, .putfield 266, 3, 46), (46, .aload 6, 2, 48), (48, .aload_n 0, 1, 49), (49, .getfield 34, 3, 52), (52, .aload 6, 2, 54), (54, .getfield 266, 3, 57), (57, .iload 5, 2, 59), (59, .iconst 1, 1, 60), (60, .ixor, 1, 61), (61, .invokevirtual 269, 3, 64), (64, .putfield 266, 3, 67), (67, .aload_n 0, 1, 68), (68, .iload_n 1, 1, 69), (69, .iconst 1, 1, 70), (70, .iadd, 1, 71), (71, .aload_n 2, 1, 72), (72, .getfield 194, 3, 75), (75, .ifCond .ge 10, 3, 78), (78, .aload_n 2, 1, 79), (79, .getfield 203, 3, 82), (82, .goto 7, 3, 85), (85, .aload_n 2, 1, 86), (86, .getfield 194, 3, 89), (89, .aload_n 3, 1, 90), (90, .iload 4, 2, 92), (92, .iconst 1, 1, 93), (93, .iadd, 1, 94), (94, .invokestatic 285, 3, 97), (97, .aload_n 2, 1, 98), (98, .getfield 194, 3, 101), (101, .ifCond .lt 23, 3, 104), (104, .aload_n 0, 1, 105), (105, .aload_n 2, 1, 106), (106, .getfield 194, 3, 109), (109, .iconst 1, 1, 110), (110, .iadd, 1, 111), (111, .aload_n 2, 1, 112), (112, .getfield 203, 3, 115), (115, .aload 6, 2, 117), (117, .iload 4, 2, 119), (119, .iconst 1, 1, 120), (120, .iadd, 1, 121), (121, .invokestatic 285, 3, 124), (124, .iconst 0, 1, 125), (125, .istore 7, 2, 127), (127, .iload 7, 2, 129), (129, .bipush 15, 2, 131), (131, .if_icmp .ge 40, 3, 134), (134, .aload_n 3, 1, 135), (135, .getfield 246, 3, 138), (138, .iload 7, 2, 140), (140, .aload_n 0, 1, 141), (141, .getfield 34, 3, 144), (144, .iload 5, 2, 146), (146, .aload_n 3, 1, 147), (147, .getfield 246, 3, 150), (150, .iload 7, 2, 152), (152, .iaload, 1, 153), (153, .aload 6, 2, 155), (155, .getfield 246, 3, 158), (158, .iload 7, 2, 160), (160, .iaload, 1, 161), (161, .invokevirtual 239, 3, 164), (164, .iastore, 1, 165), (165, .iinc 7 1, 3, 168), (168, .goto (-41), 3, 171), (171, .aload_n 3, 1, 172), (172, .aload_n 0, 1, 173), (173, .getfield 34, 3, 176), (176, .aload_n 3, 1, 177), (177, .getfield 266, 3, 180), (180, .aload 6, 2, 182), (182, .getfield 266, 3, 185), (185, .invokevirtual 289, 3, 188), (188, .putfield 266, 3, 191), (191, .aload_n 3, 1, 192), (192, .aload_n 0, 1, 193), (193, .getfield 34, 3, 196), (196, .aload_n 3, 1, 197), (197, .getfield 292, 3, 200), (200, .aload 6, 2, 202), (202, .getfield 292, 3, 205), (205, .invokevirtual 289, 3, 208), (208, .putfield 292, 3, 211), (211, .return_, 1, 212)]
theorem D_P_parted : Dec b_P_parted T_P_parted := Dec.of (by decide +kernel)
def T_Flow_copy : DT := [(0, .aload_n 1, 1, 1), (1, .getfield 9, 3, 4), (4, .iconst 0, 1, 5), (5, .aload_n 0, 1, 6), (6, .getfield 9, 3, 9), (9, .iconst 0, 1, 10), (10, .bipush 15, 2, 12), (12, .invokestatic 15, 3, 15), (15, .aload_n 0, 1, 16), (16, .aload_n 1, 1, 17), (17, .getfield 21, 3, 20), (20, .putfield 21, 3, 23), (23, .aload_n 0, 1, 24), (24, .aload_n 1, 1, 25), (25, .getfield 25, 3, 28), (28, .putfield 25, 3, 31), (31, .return_, 1, 32)]
theorem D_Flow_copy : Dec b_Flow_copy T_Flow_copy := Dec.of (by decide +kernel)
def T_P_stop : DT := [(0, .aload_n 2, 1, 1), (1, .aload_n 0, 1, 2), (2, .getfield 34, 3, 5), (5, .aload_n 0, 1, 6), (6, .aload_n 1, 1, 7), (7, .getfield 228, 3, 10), (10, .aload_n 2, 1, 11), (11, .getfield 246, 3, 14), (14, .invokevirtual 232, 3, 17), (17, .invokevirtual 262, 3, 20), (20, .aload_n 2, 1, 21), (21, .iconst 1, 1, 22), (22, .putfield 266, 3, 25), (25, .return_, 1, 26)]
theorem D_P_stop : Dec b_P_stop T_P_stop := Dec.of (by decide +kernel)
def T_Solver_solve : DT := [(0, .aload_n 0, 1, 1), (1, .aload_n 1, 1, 2), (2, .invokevirtual 123, 3, 5), (5, .aload_n 0, 1, 6), (6, .invokevirtual 127, 3, 9), (9, .istore_n 2, 1, 10), (10, .iconst 1, 1, 11), (11, .istore_n 3, 1, 12), (12, .iconst 0, 1, 13), (13, .istore 4, 2, 15), (15, .iload 4, 2, 17), (17, .ldc 130, 2, 19), (19, .if_icmp .ge 119, 3, 22), (22, .iload_n 3, 1, 23), (23, .ifCond .le 115, 3, 26), (26, .iload_n 2, 1, 27), (27, .ifCond .lt 58, 3, 30), (30, .aload_n 0, 1, 31), (31, .iload_n 2, 1, 32), (32, .invokevirtual 131, 3, 35), (35, .aload_n 0, 1, 36), (36, .getfield 104, 3, 39), (39, .ifCond .ne 5, 3, 42), (42, .iconst 0, 1, 43), (43, .ireturn, 1, 44), (44, .aload_n 0, 1, 45), (45, .invokevirtual 134, 3, 48), (48, .aload_n 0, 1, 49), (49, .getfield 41, 3, 52), (52, .aload_n 0, 1, 53), (53, .getfield 31, 3, 56), (56, .aload_n 0, 1, 57), (57, .getfield 104, 3, 60), (60, .invokevirtual 137, 3, 63), (63, .aload_n 0, 1, 64), (64, .aload_n 0, 1, 65), (65, .getfield 31, 3, 68), (68, .iconst 0, 1, 69), (69, .iaload, 1, 70), (70, .aload_n 0, 1, 71), (71, .getfield 41, 3, 74), (74, .getfield 45, 3, 77), (77, .iconst 1, 1, 78), (78, .isub, 1, 79), (79, .invokevirtual 76, 3, 82), (82, .goto 45, 3, 85), (85, .aload_n 0, 1, 86), (86, .invokevirtual 141, 3, 89), (89, .istore_n 3, 1, 90), (90, .iload_n 3, 1, 91), (91, .ifCond .le 36, 3, 94), (94, .aload_n 0, 1, 95), (95, .getfield 28, 3, 98), (98, .aload_n 0, 1, 99), (99, .getfield 63, 3, 102), (102, .aload_n 0, 1, 103), (103, .getfield 57, 3, 106), (106, .iastore, 1, 107), (107, .aload_n 0, 1, 108), (108, .dup, 1, 109), (109, .getfield 63, 3, 112), (112, .iconst 1, 1, 113), (113, .iadd, 1, 114), (114, .putfield 63, 3, 117), (117, .aload_n 0, 1, 118), (118, .iconst 2, 1, 119), (119, .iload_n 3, 1, 120), (120, .imul, 1, 121), (121, .iconst 1, 1, 122), (122, .iadd, 1, 123), (123, .iconst (-1), 1, 124), (124, .invokevirtual 76, 3, 127), (127, .aload_n 0, 1, 128), (128, .invokevirtual 93, 3, 131), (131, .istore_n 2, 1, 132), (132, .iinc 4 1, 3, 135), (135, .goto (-120), 3, 138), (138, .iconst 1, 1, 139), (139, .ireturn, 1, 140)]
theorem D_Solver_solve : Dec b_Solver_solve T_Solver_solve := Dec.of (by decide +kernel)
def T_Solver_prepare : DT := [(0, .aload_n 0, 1, 1), (1, .aload_n 1, 1, 2), (2, .putfield 41, 3, 5), (5, .aload_n 0, 1, 6), (6, .aload_n 1, 1, 7), (7, .getfield 45, 3, 10), (10, .putfield 51, 3, 13), (13, .iconst 2, 1, 14), (14, .aload_n 1, 1, 15), (15, .getfield 54, 3, 18), (18, .imul, 1, 19), (19, .aload_n 0, 1, 20), (20, .getfield 9, 3, 23), (23, .arraylength, 1, 24), (24, .if_icmp .le 19, 3, 27), (27, .aload_n 0, 1, 28), (28, .iconst 2, 1, 29), (29, .aload_n 0, 1, 30), (30, .getfield 9, 3, 33), (33, .arraylength, 1, 34), (34, .imul, 1, 35), (35, .newarray .int, 2, 37), (37, .putfield 9, 3, 40), (40, .goto (-27), 3, 43), (43, .aload_n 1, 1, 44), (44, .getfield 54, 3, 47), (47, .aload_n 0, 1, 48), (48, .getfield 15, 3, 51), (51, .arraylength, 1, 52), (52, .if_icmp .le 52, 3, 55), (55, .aload_n 0, 1, 56), (56, .iconst 2, 1, 57), (57, .aload_n 0, 1, 58), (58, .getfield 15, 3, 61), (61, .arraylength, 1, 62), (62, .imul, 1, 63), (63, .newarray .int, 2, 65), (65, .putfield 15, 3, 68), (68, .aload_n 0, 1, 69), (69, .aload_n 0, 1, 70), (70, .getfield 15, 3, 73), (73, .arraylength, 1, 74), (74, .newarray .int, 2, 76), (76, .putfield 18, 3, 79), (79, .aload_n 0, 1, 80), (80, .aload_n 0, 1, 81), (81, .getfield 15, 3, 84), (84, .arraylength, 1, 85), (85, .newarray .int, 2, 87), (87, .putfield 21, 3, 90), (90, .aload_n 0, 1, 91), (91, .aload_n 0, 1, 92), (92, .getfield 15, 3, 95), (95, .arraylength, 1, 96), (96, .newarray .boolean, 2, 98), (98, .putfield 24, 3, 101), (101, .goto (-58), 3, 104), (104, .iconst 0, 1, 105), (105, .istore_n 2, 1, 106), (106, .iload_n 2, 1, 107), (107, .iconst 2, 1, 108), (108, .aload_n 1, 1, 109), (109, .getfield 54, 3, 112), (112, .imul, 1, 113), (113, .if_icmp .ge 16, 3, 116), (116, .aload_n 0, 1, 117), (117, .getfield 9, 3, 120), (120, .iload_n 2, 1, 121), (121, .iconst 0, 1, 122), (122, .iastore, 1, 123), (123, .iinc 2 1, 3, 126), (126, .goto (-20), 3, 129), (129, .iconst 0, 1, 130), (130, .istore_n 2, 1, 131), (131, .iload_n 2, 1, 132), (132, .aload_n 1, 1, 133), (133, .getfield 54, 3, 136), (136, .if_icmp .ge 16, 3, 139), (139, .aload_n 0, 1, 140), (140, .getfield 24, 3, 143), (143, .iload_n 2, 1, 144), (144, .iconst 0, 1, 145), (145, .bastore, 1, 146), (146, .iinc 2 1, 3, 149), (149, .goto (-18), 3, 152), (152, .aload_n 0, 1, 153), (153, .iconst 0, 1, 154), (154, .putfield 57, 3, 157), (157, .aload_n 0, 1, 158), (158, .iconst 0, 1, 159), (159, .putfield 60, 3, 162), (162, .aload_n 0, 1, 163), (163, .iconst 0, 1, 164), (164, .putfield 63, 3, 167), (167, .aload_n 0, 1, 168), (168, .iconst 1, 1, 169), (169, .putfield 66, 3, 172), (172, .return_, 1, 173)]
theorem D_Solver_prepare : Dec b_Solver_prepare T_Solver_prepare := Dec.of (by decide +kernel)
def T_Solver_start : DT := [(0, .iconst 0, 1, 1), (1, .istore_n 1, 1, 2), (2, .iload_n 1, 1, 3), (3, .aload_n 0, 1, 4), (4, .getfield 51, 3, 7), (7, .if_icmp .ge 19, 3, 10), (10, .aload_n 0, 1, 11), (11, .iload_n 1, 1, 12), (12, .invokevirtual 86, 3, 15), (15, .ifCond .eq 5, 3, 18), (18, .iload_n 1, 1, 19), (19, .ireturn, 1, 20), (20, .iinc 1 1, 3, 23), (23, .goto (-21), 3, 26), (26, .aload_n 0, 1, 27), (27, .invokevirtual 93, 3, 30), (30, .ireturn, 1, 31)]
theorem D_Solver_start : Dec b_Solver_start T_Solver_start := Dec.of (by decide +kernel)
def T_Solver_broken : DT := [(0, .iconst (-1), 1, 1), (1, .istore_n 2, 1, 2), (2, .aload_n 0, 1, 3), (3, .getfield 41, 3, 6), (6, .getfield 70, 3, 9), (9, .iload_n 1, 1, 10), (10, .iaload, 1, 11), (11, .istore_n 3, 1, 12), (12, .iload_n 3, 1, 13), (13, .aload_n 0, 1, 14), (14, .getfield 41, 3, 17), (17, .getfield 70, 3, 20), (20, .iload_n 1, 1, 21), (21, .iconst 1, 1, 22), (22, .iadd, 1, 23), (23, .iaload, 1, 24), (24, .if_icmp .ge 64, 3, 27), (27, .aload_n 0, 1, 28), (28, .getfield 41, 3, 31), (31, .getfield 73, 3, 34), (34, .iload_n 3, 1, 35), (35, .iaload, 1, 36), (36, .istore 4, 2, 38), (38, .aload_n 0, 1, 39), (39, .getfield 9, 3, 42), (42, .iload 4, 2, 44), (44, .iaload, 1, 45), (45, .iconst 1, 1, 46), (46, .if_icmp .eq 19, 3, 49), (49, .aload_n 0, 1, 50), (50, .getfield 9, 3, 53), (53, .iload 4, 2, 55), (55, .iconst 1, 1, 56), (56, .ixor, 1, 57), (57, .iaload, 1, 58), (58, .ifCond .ne 9, 3, 61), (61, .iload_n 2, 1, 62), (62, .ifCond .lt 5, 3, 65), (65, .iconst 0, 1, 66), (66, .ireturn, 1, 67), (67, .aload_n 0, 1, 68), (68, .getfield 9, 3, 71), (71, .iload 4, 2, 73), (73, .iconst 1, 1, 74), (74, .ixor, 1, 75), (75, .iaload, 1, 76), (76, .ifCond .ne 6, 3, 79), (79, .iload 4, 2, 81), (81, .istore_n 2, 1, 82), (82, .iinc 3 1, 3, 85), (85, .goto (-73), 3, 88), (88, .iload_n 2, 1, 89), (89, .ifCond .lt 9, 3, 92), (92, .aload_n 0, 1, 93), (93, .iload_n 2, 1, 94), (94, .iload_n 1, 1, 95), (95, .invokevirtual 76, 3, 98), (98, .iload_n 2, 1, 99), (99, .ifCond .ge 7, 3, 102), (102, .iconst 1, 1, 103), (103, .goto 4, 3, 106), (106, .iconst 0, 1, 107), (107, .ireturn, 1, 108)]
theorem D_Solver_broken : Dec b_Solver_broken T_Solver_broken := Dec.of (by decide +kernel)
def T_Solver_set : DT := [(0, .aload_n 0, 1, 1), (1, .getfield 9, 3, 4), (4, .iload_n 1, 1, 5), (5, .iconst 1, 1, 6), (6, .iastore, 1, 7), (7, .aload_n 0, 1, 8), (8, .getfield 15, 3, 11), (11, .iload_n 1, 1, 12), (12, .iconst 1, 1, 13), (13, .ishr, 1, 14), (14, .iload_n 2, 1, 15), (15, .iastore, 1, 16), (16, .aload_n 0, 1, 17), (17, .getfield 18, 3, 20), (20, .iload_n 1, 1, 21), (21, .iconst 1, 1, 22), (22, .ishr, 1, 23), (23, .aload_n 0, 1, 24), (24, .getfield 63, 3, 27), (27, .iastore, 1, 28), (28, .aload_n 0, 1, 29), (29, .getfield 21, 3, 32), (32, .aload_n 0, 1, 33), (33, .getfield 57, 3, 36), (36, .iload_n 1, 1, 37), (37, .iastore, 1, 38), (38, .aload_n 0, 1, 39), (39, .dup, 1, 40), (40, .getfield 57, 3, 43), (43, .iconst 1, 1, 44), (44, .iadd, 1, 45), (45, .putfield 57, 3, 48), (48, .return_, 1, 49)]
theorem D_Solver_set : Dec b_Solver_set T_Solver_set := Dec.of (by decide +kernel)
def T_Solver_spread : DT := [(0, .aload_n 0, 1, 1), (1, .getfield 60, 3, 4), (4, .aload_n 0, 1, 5), (5, .getfield 57, 3, 8), (8, .if_icmp .ge 95, 3, 11), (11, .aload_n 0, 1, 12), (12, .getfield 21, 3, 15), (15, .aload_n 0, 1, 16), (16, .getfield 60, 3, 19), (19, .iaload, 1, 20), (20, .iconst 1, 1, 21), (21, .ixor, 1, 22), (22, .istore_n 1, 1, 23), (23, .aload_n 0, 1, 24), (24, .dup, 1, 25), (25, .getfield 60, 3, 28), (28, .iconst 1, 1, 29), (29, .iadd, 1, 30), (30, .putfield 60, 3, 33), (33, .iload_n 1, 1, 34), (34, .aload_n 0, 1, 35), (35, .getfield 41, 3, 38), (38, .getfield 80, 3, 41), (41, .arraylength, 1, 42), (42, .if_icmp .ge 15, 3, 45), (45, .aload_n 0, 1, 46), (46, .getfield 41, 3, 49), (49, .getfield 80, 3, 52), (52, .iload_n 1, 1, 53), (53, .iaload, 1, 54), (54, .goto 4, 3, 57), (57, .iconst 0, 1, 58), (58, .istore_n 2, 1, 59), (59, .iload_n 2, 1, 60), (60, .ifCond .le 40, 3, 63), (63, .aload_n 0, 1, 64), (64, .getfield 41, 3, 67), (67, .getfield 83, 3, 70), (70, .iload_n 2, 1, 71), (71, .iconst 1, 1, 72), (72, .isub, 1, 73), (73, .iaload, 1, 74), (74, .istore_n 3, 1, 75), (75, .aload_n 0, 1, 76), (76, .iload_n 3, 1, 77), (77, .invokevirtual 86, 3, 80), (80, .ifCond .eq 5, 3, 83), (83, .iload_n 3, 1, 84), (84, .ireturn, 1, 85), (85, .aload_n 0, 1, 86), (86, .getfield 41, 3, 89), (89, .getfield 90, 3, 92), (92, .iload_n 2, 1, 93), (93, .iconst 1, 1, 94), (94, .isub, 1, 95), (95, .iaload, 1, 96), (96, .istore_n 2, 1, 97), (97, .goto (-38), 3, 100), (100, .goto (-100), 3, 103), (103, .iconst (-1), 1, 104), (104, .ireturn, 1, 105)]
theorem D_Solver_spread : Dec b_Solver_spread T_Solver_spread := Dec.of (by decide +kernel)
def T_Solver_explain : DT := [(0, .aload_n 0, 1, 1), (1, .iconst 0, 1, 2), (2, .putfield 104, 3, 5), (5, .aload_n 0, 1, 6), (6, .iconst 0, 1, 7), (7, .putfield 97, 3, 10), (10, .aload_n 0, 1, 11), (11, .iload_n 1, 1, 12), (12, .invokevirtual 107, 3, 15), (15, .aload_n 0, 1, 16), (16, .getfield 57, 3, 19), (19, .iconst 1, 1, 20), (20, .isub, 1, 21), (21, .istore_n 2, 1, 22), (22, .iload_n 2, 1, 23), (23, .ifCond .lt 92, 3, 26), (26, .aload_n 0, 1, 27), (27, .getfield 21, 3, 30), (30, .iload_n 2, 1, 31), (31, .iaload, 1, 32), (32, .iconst 1, 1, 33), (33, .ishr, 1, 34), (34, .istore_n 3, 1, 35), (35, .aload_n 0, 1, 36), (36, .getfield 24, 3, 39), (39, .iload_n 3, 1, 40), (40, .baload, 1, 41), (41, .ifCond .eq 25, 3, 44), (44, .aload_n 0, 1, 45), (45, .getfield 15, 3, 48), (48, .iload_n 3, 1, 49), (49, .iaload, 1, 50), (50, .ifCond .lt 16, 3, 53), (53, .aload_n 0, 1, 54), (54, .aload_n 0, 1, 55), (55, .getfield 15, 3, 58), (58, .iload_n 3, 1, 59), (59, .iaload, 1, 60), (60, .invokevirtual 107, 3, 63), (63, .goto 39, 3, 66), (66, .aload_n 0, 1, 67), (67, .getfield 24, 3, 70), (70, .iload_n 3, 1, 71), (71, .baload, 1, 72), (72, .ifCond .eq 30, 3, 75), (75, .aload_n 0, 1, 76), (76, .getfield 31, 3, 79), (79, .aload_n 0, 1, 80), (80, .getfield 104, 3, 83), (83, .aload_n 0, 1, 84), (84, .getfield 21, 3, 87), (87, .iload_n 2, 1, 88), (88, .iaload, 1, 89), (89, .iconst 1, 1, 90), (90, .ixor, 1, 91), (91, .iastore, 1, 92), (92, .aload_n 0, 1, 93), (93, .dup, 1, 94), (94, .getfield 104, 3, 97), (97, .iconst 1, 1, 98), (98, .iadd, 1, 99), (99, .putfield 104, 3, 102), (102, .aload_n 0, 1, 103), (103, .getfield 24, 3, 106), (106, .iload_n 3, 1, 107), (107, .iconst 0, 1, 108), (108, .bastore, 1, 109), (109, .iinc 2 (-1), 3, 112), (112, .goto (-90), 3, 115), (115, .iconst 0, 1, 116), (116, .istore_n 2, 1, 117), (117, .aload_n 0, 1, 118), (118, .getfield 97, 3, 121), (121, .iconst 1, 1, 122), (122, .isub, 1, 123), (123, .istore_n 3, 1, 124), (124, .iload_n 2, 1, 125), (125, .iload_n 3, 1, 126), (126, .if_icmp .ge 40, 3, 129), (129, .aload_n 0, 1, 130), (130, .getfield 34, 3, 133), (133, .iload_n 2, 1, 134), (134, .iaload, 1, 135), (135, .istore 4, 2, 137), (137, .aload_n 0, 1, 138), (138, .getfield 34, 3, 141), (141, .iload_n 2, 1, 142), (142, .aload_n 0, 1, 143), (143, .getfield 34, 3, 146), (146, .iload_n 3, 1, 147), (147, .iaload, 1, 148), (148, .iastore, 1, 149), (149, .aload_n 0, 1, 150), (150, .getfield 34, 3, 153), (153, .iload_n 3, 1, 154), (154, .iload 4, 2, 156), (156, .iastore, 1, 157), (157, .iinc 2 1, 3, 160), (160, .iinc 3 (-1), 3, 163), (163, .goto (-39), 3, 166), (166, .aload_n 0, 1, 167), (167, .aload_n 0, 1, 168), (168, .getfield 37, 3, 171), (171, .aload_n 0, 1, 172), (172, .getfield 41, 3, 175), (175, .aload_n 0, 1, 176), (176, .getfield 31, 3, 179), (179, .aload_n 0, 1, 180), (180, .getfield 104, 3, 183), (183, .aload_n 0, 1, 184), (184, .getfield 34, 3, 187), (187, .aload_n 0, 1, 188), (188, .getfield 97, 3, 191), (191, .invokevirtual 111, 3, 194), (194, .ifCond .eq 14, 3, 197), (197, .aload_n 0, 1, 198), (198, .getfield 66, 3, 201), (201, .ifCond .eq 7, 3, 204), (204, .iconst 1, 1, 205), (205, .goto 4, 3, 208), (208, .iconst 0, 1, 209), (209, .putfield 66, 3, 212), (212, .return_, 1, 213)]
theorem D_Solver_explain : Dec b_Solver_explain T_Solver_explain := Dec.of (by decide +kernel)
def T_Solver_mark : DT := [(0, .aload_n 0, 1, 1), (1, .getfield 97, 3, 4), (4, .aload_n 0, 1, 5), (5, .getfield 34, 3, 8), (8, .arraylength, 1, 9), (9, .if_icmp .ne 14, 3, 12), (12, .aload_n 0, 1, 13), (13, .aload_n 0, 1, 14), (14, .getfield 34, 3, 17), (17, .invokestatic 100, 3, 20), (20, .putfield 34, 3, 23), (23, .aload_n 0, 1, 24), (24, .getfield 34, 3, 27), (27, .aload_n 0, 1, 28), (28, .getfield 97, 3, 31), (31, .iload_n 1, 1, 32), (32, .iastore, 1, 33), (33, .aload_n 0, 1, 34), (34, .dup, 1, 35), (35, .getfield 97, 3, 38), (38, .iconst 1, 1, 39), (39, .iadd, 1, 40), (40, .putfield 97, 3, 43), (43, .aload_n 0, 1, 44), (44, .getfield 41, 3, 47), (47, .getfield 70, 3, 50), (50, .iload_n 1, 1, 51), (51, .iaload, 1, 52), (52, .istore_n 2, 1, 53), (53, .iload_n 2, 1, 54), (54, .aload_n 0, 1, 55), (55, .getfield 41, 3, 58), (58, .getfield 70, 3, 61), (61, .iload_n 1, 1, 62), (62, .iconst 1, 1, 63), (63, .iadd, 1, 64), (64, .iaload, 1, 65), (65, .if_icmp .ge 26, 3, 68), (68, .aload_n 0, 1, 69), (69, .getfield 24, 3, 72), (72, .aload_n 0, 1, 73), (73, .getfield 41, 3, 76), (76, .getfield 73, 3, 79), (79, .iload_n 2, 1, 80), (80, .iaload, 1, 81), (81, .iconst 1, 1, 82), (82, .ishr, 1, 83), (83, .iconst 1, 1, 84), (84, .bastore, 1, 85), (85, .iinc 2 1, 3, 88), (88, .goto (-35), 3, 91), (91, .return_, 1, 92)]
theorem D_Solver_mark : Dec b_Solver_mark T_Solver_mark := Dec.of (by decide +kernel)
def T_Checker_accepts : DT := [(0, .iconst 2, 1, 1), (1, .aload_n 1, 1, 2), (2, .getfield 35, 3, 5), (5, .imul, 1, 6), (6, .aload_n 0, 1, 7), (7, .getfield 9, 3, 10), (10, .arraylength, 1, 11), (11, .if_icmp .le 19, 3, 14), (14, .aload_n 0, 1, 15), (15, .iconst 2, 1, 16), (16, .aload_n 0, 1, 17), (17, .getfield 9, 3, 20), (20, .arraylength, 1, 21), (21, .imul, 1, 22), (22, .newarray .int, 2, 24), (24, .putfield 9, 3, 27), (27, .goto (-27), 3, 30), (30, .iconst 0, 1, 31), (31, .istore 6, 2, 33), (33, .iload 6, 2, 35), (35, .iload_n 3, 1, 36), (36, .if_icmp .ge 19, 3, 39), (39, .aload_n 0, 1, 40), (40, .aload_n 2, 1, 41), (41, .iload 6, 2, 43), (43, .iaload, 1, 44), (44, .iconst 1, 1, 45), (45, .ixor, 1, 46), (46, .invokevirtual 38, 3, 49), (49, .iinc 6 1, 3, 52), (52, .goto (-19), 3, 55), (55, .iconst 0, 1, 56), (56, .istore 6, 2, 58), (58, .iconst 1, 1, 59), (59, .istore 7, 2, 61), (61, .iconst 0, 1, 62), (62, .istore 8, 2, 64), (64, .iload 8, 2, 66), (66, .iload 5, 2, 68), (68, .if_icmp .ge 95, 3, 71), (71, .iload 7, 2, 73), (73, .ifCond .eq 90, 3, 76), (76, .iload 6, 2, 78), (78, .ifCond .ne 85, 3, 81), (81, .aload 4, 2, 83), (83, .iload 8, 2, 85), (85, .iaload, 1, 86), (86, .aload_n 1, 1, 87), (87, .getfield 42, 3, 90), (90, .if_icmp .ge 7, 3, 93), (93, .iconst 1, 1, 94), (94, .goto 4, 3, 97), (97, .iconst 0, 1, 98), (98, .istore 7, 2, 100), (100, .iload 7, 2, 102), (102, .ifCond .eq 16, 3, 105), (105, .aload_n 0, 1, 106), (106, .aload_n 1, 1, 107), (107, .aload 4, 2, 109), (109, .iload 8, 2, 111), (111, .iaload, 1, 112), (112, .invokevirtual 45, 3, 115), (115, .goto 4, 3, 118), (118, .iconst (-1), 1, 119), (119, .istore 9, 2, 121), (121, .iload 9, 2, 123), (123, .ifCond .lt 16, 3, 126), (126, .iload 9, 2, 128), (128, .ldc 34, 2, 130), (130, .if_icmp .ge 9, 3, 133), (133, .aload_n 0, 1, 134), (134, .iload 9, 2, 136), (136, .invokevirtual 38, 3, 139), (139, .iload 7, 2, 141), (141, .ifCond .eq 13, 3, 144), (144, .iload 9, 2, 146), (146, .iconst (-1), 1, 147), (147, .if_icmp .ne 7, 3, 150), (150, .iconst 1, 1, 151), (151, .goto 4, 3, 154), (154, .iconst 0, 1, 155), (155, .istore 6, 2, 157), (157, .iinc 8 1, 3, 160), (160, .goto (-96), 3, 163), (163, .aload_n 0, 1, 164), (164, .invokevirtual 49, 3, 167), (167, .iload 6, 2, 169), (169, .ireturn, 1, 170)]
theorem D_Checker_accepts : Dec b_Checker_accepts T_Checker_accepts := Dec.of (by decide +kernel)
def T_Checker_note : DT := [(0, .aload_n 0, 1, 1), (1, .getfield 9, 3, 4), (4, .iload_n 1, 1, 5), (5, .iconst 1, 1, 6), (6, .iastore, 1, 7), (7, .aload_n 0, 1, 8), (8, .getfield 18, 3, 11), (11, .aload_n 0, 1, 12), (12, .getfield 15, 3, 15), (15, .arraylength, 1, 16), (16, .if_icmp .ne 14, 3, 19), (19, .aload_n 0, 1, 20), (20, .aload_n 0, 1, 21), (21, .getfield 15, 3, 24), (24, .invokestatic 22, 3, 27), (27, .putfield 15, 3, 30), (30, .aload_n 0, 1, 31), (31, .getfield 15, 3, 34), (34, .aload_n 0, 1, 35), (35, .getfield 18, 3, 38), (38, .iload_n 1, 1, 39), (39, .iastore, 1, 40), (40, .aload_n 0, 1, 41), (41, .dup, 1, 42), (42, .getfield 18, 3, 45), (45, .iconst 1, 1, 46), (46, .iadd, 1, 47), (47, .putfield 18, 3, 50), (50, .return_, 1, 51)]
theorem D_Checker_note : Dec b_Checker_note T_Checker_note := Dec.of (by decide +kernel)
def T_Checker_rest : DT := [(0, .iconst (-1), 1, 1), (1, .istore_n 3, 1, 2), (2, .aload_n 1, 1, 3), (3, .getfield 28, 3, 6), (6, .iload_n 2, 1, 7), (7, .iaload, 1, 8), (8, .istore 4, 2, 10), (10, .iload 4, 2, 12), (12, .aload_n 1, 1, 13), (13, .getfield 28, 3, 16), (16, .iload_n 2, 1, 17), (17, .iconst 1, 1, 18), (18, .iadd, 1, 19), (19, .iaload, 1, 20), (20, .if_icmp .ge 63, 3, 23), (23, .aload_n 1, 1, 24), (24, .getfield 31, 3, 27), (27, .iload 4, 2, 29), (29, .iaload, 1, 30), (30, .istore 5, 2, 32), (32, .aload_n 0, 1, 33), (33, .getfield 9, 3, 36), (36, .iload 5, 2, 38), (38, .iaload, 1, 39), (39, .iconst 1, 1, 40), (40, .if_icmp .eq 19, 3, 43), (43, .aload_n 0, 1, 44), (44, .getfield 9, 3, 47), (47, .iload 5, 2, 49), (49, .iconst 1, 1, 50), (50, .ixor, 1, 51), (51, .iaload, 1, 52), (52, .ifCond .ne 10, 3, 55), (55, .iload_n 3, 1, 56), (56, .ifCond .lt 6, 3, 59), (59, .ldc 34, 2, 61), (61, .ireturn, 1, 62), (62, .aload_n 0, 1, 63), (63, .getfield 9, 3, 66), (66, .iload 5, 2, 68), (68, .iconst 1, 1, 69), (69, .ixor, 1, 70), (70, .iaload, 1, 71), (71, .ifCond .ne 6, 3, 74), (74, .iload 5, 2, 76), (76, .istore_n 3, 1, 77), (77, .iinc 4 1, 3, 80), (80, .goto (-70), 3, 83), (83, .iload_n 3, 1, 84), (84, .ireturn, 1, 85)]
theorem D_Checker_rest : Dec b_Checker_rest T_Checker_rest := Dec.of (by decide +kernel)
def T_Checker_forget : DT := [(0, .aload_n 0, 1, 1), (1, .getfield 18, 3, 4), (4, .ifCond .le 31, 3, 7), (7, .aload_n 0, 1, 8), (8, .dup, 1, 9), (9, .getfield 18, 3, 12), (12, .iconst 1, 1, 13), (13, .isub, 1, 14), (14, .putfield 18, 3, 17), (17, .aload_n 0, 1, 18), (18, .getfield 9, 3, 21), (21, .aload_n 0, 1, 22), (22, .getfield 15, 3, 25), (25, .aload_n 0, 1, 26), (26, .getfield 18, 3, 29), (29, .iaload, 1, 30), (30, .iconst 0, 1, 31), (31, .iastore, 1, 32), (32, .goto (-32), 3, 35), (35, .return_, 1, 36)]
theorem D_Checker_forget : Dec b_Checker_forget T_Checker_forget := Dec.of (by decide +kernel)
def T_Solver_back : DT := [(0, .aload_n 0, 1, 1), (1, .getfield 104, 3, 4), (4, .iconst 1, 1, 5), (5, .if_icmp .le 19, 3, 8), (8, .aload_n 0, 1, 9), (9, .getfield 18, 3, 12), (12, .aload_n 0, 1, 13), (13, .getfield 31, 3, 16), (16, .iconst 1, 1, 17), (17, .iaload, 1, 18), (18, .iconst 1, 1, 19), (19, .ishr, 1, 20), (20, .iaload, 1, 21), (21, .goto 4, 3, 24), (24, .iconst 0, 1, 25), (25, .istore_n 1, 1, 26), (26, .aload_n 0, 1, 27), (27, .getfield 28, 3, 30), (30, .iload_n 1, 1, 31), (31, .iaload, 1, 32), (32, .istore_n 2, 1, 33), (33, .aload_n 0, 1, 34), (34, .getfield 57, 3, 37), (37, .iload_n 2, 1, 38), (38, .if_icmp .le 31, 3, 41), (41, .aload_n 0, 1, 42), (42, .dup, 1, 43), (43, .getfield 57, 3, 46), (46, .iconst 1, 1, 47), (47, .isub, 1, 48), (48, .putfield 57, 3, 51), (51, .aload_n 0, 1, 52), (52, .getfield 9, 3, 55), (55, .aload_n 0, 1, 56), (56, .getfield 21, 3, 59), (59, .aload_n 0, 1, 60), (60, .getfield 57, 3, 63), (63, .iaload, 1, 64), (64, .iconst 0, 1, 65), (65, .iastore, 1, 66), (66, .goto (-33), 3, 69), (69, .aload_n 0, 1, 70), (70, .aload_n 0, 1, 71), (71, .getfield 57, 3, 74), (74, .putfield 60, 3, 77), (77, .aload_n 0, 1, 78), (78, .iload_n 1, 1, 79), (79, .putfield 63, 3, 82), (82, .aload_n 0, 1, 83), (83, .getfield 41, 3, 86), (86, .getfield 45, 3, 89), (89, .aload_n 0, 1, 90), (90, .getfield 51, 3, 93), (93, .if_icmp .le 28, 3, 96), (96, .aload_n 0, 1, 97), (97, .getfield 9, 3, 100), (100, .aload_n 0, 1, 101), (101, .getfield 41, 3, 104), (104, .invokevirtual 117, 3, 107), (107, .iaload, 1, 108), (108, .ifCond .ne 13, 3, 111), (111, .aload_n 0, 1, 112), (112, .getfield 41, 3, 115), (115, .invokevirtual 120, 3, 118), (118, .goto (-36), 3, 121), (121, .return_, 1, 122)]
theorem D_Solver_back : Dec b_Solver_back T_Solver_back := Dec.of (by decide +kernel)
def T_Circuit_lastFirst : DT := [(0, .aload_n 0, 1, 1), (1, .getfield 9, 3, 4), (4, .aload_n 0, 1, 5), (5, .getfield 15, 3, 8), (8, .aload_n 0, 1, 9), (9, .getfield 43, 3, 12), (12, .iconst 1, 1, 13), (13, .isub, 1, 14), (14, .iaload, 1, 15), (15, .iaload, 1, 16), (16, .ireturn, 1, 17)]
theorem D_Circuit_lastFirst : Dec b_Circuit_lastFirst T_Circuit_lastFirst := Dec.of (by decide +kernel)
def T_Circuit_drop : DT := [(0, .aload_n 0, 1, 1), (1, .dup, 1, 2), (2, .getfield 43, 3, 5), (5, .iconst 1, 1, 6), (6, .isub, 1, 7), (7, .putfield 43, 3, 10), (10, .aload_n 0, 1, 11), (11, .aload_n 0, 1, 12), (12, .getfield 15, 3, 15), (15, .aload_n 0, 1, 16), (16, .getfield 43, 3, 19), (19, .iaload, 1, 20), (20, .putfield 39, 3, 23), (23, .return_, 1, 24)]
theorem D_Circuit_drop : Dec b_Circuit_drop T_Circuit_drop := Dec.of (by decide +kernel)
def T_Circuit_keep : DT := [(0, .aload_n 0, 1, 1), (1, .invokevirtual 60, 3, 4), (4, .iconst 0, 1, 5), (5, .istore_n 3, 1, 6), (6, .iload_n 3, 1, 7), (7, .iload_n 2, 1, 8), (8, .if_icmp .ge 35, 3, 11), (11, .aload_n 0, 1, 12), (12, .invokevirtual 57, 3, 15), (15, .aload_n 0, 1, 16), (16, .getfield 9, 3, 19), (19, .aload_n 0, 1, 20), (20, .getfield 39, 3, 23), (23, .aload_n 1, 1, 24), (24, .iload_n 3, 1, 25), (25, .iaload, 1, 26), (26, .iastore, 1, 27), (27, .aload_n 0, 1, 28), (28, .dup, 1, 29), (29, .getfield 39, 3, 32), (32, .iconst 1, 1, 33), (33, .iadd, 1, 34), (34, .putfield 39, 3, 37), (37, .iinc 3 1, 3, 40), (40, .goto (-34), 3, 43), (43, .aload_n 0, 1, 44), (44, .invokevirtual 67, 3, 47), (47, .return_, 1, 48)]
theorem D_Circuit_keep : Dec b_Circuit_keep T_Circuit_keep := Dec.of (by decide +kernel)
def T_Solver_nextInput : DT := [(0, .iconst 1, 1, 1), (1, .istore_n 1, 1, 2), (2, .iload_n 1, 1, 3), (3, .bipush 15, 2, 5), (5, .if_icmp .gt 33, 3, 8), (8, .aload_n 0, 1, 9), (9, .getfield 9, 3, 12), (12, .iconst 2, 1, 13), (13, .iload_n 1, 1, 14), (14, .imul, 1, 15), (15, .iaload, 1, 16), (16, .aload_n 0, 1, 17), (17, .getfield 9, 3, 20), (20, .iconst 2, 1, 21), (21, .iload_n 1, 1, 22), (22, .imul, 1, 23), (23, .iconst 1, 1, 24), (24, .iadd, 1, 25), (25, .iaload, 1, 26), (26, .iadd, 1, 27), (27, .ifCond .ne 5, 3, 30), (30, .iload_n 1, 1, 31), (31, .ireturn, 1, 32), (32, .iinc 1 1, 3, 35), (35, .goto (-33), 3, 38), (38, .iconst 0, 1, 39), (39, .ireturn, 1, 40)]
theorem D_Solver_nextInput : Dec b_Solver_nextInput T_Solver_nextInput := Dec.of (by decide +kernel)
def T_P_follow : DT := [(0, .aload_n 0, 1, 1), (1, .iload_n 1, 1, 2), (2, .invokevirtual 347, 3, 5), (5, .iload_n 2, 1, 6), (6, .istore 4, 2, 8), (8, .iconst 0, 1, 9), (9, .istore 5, 2, 11), (11, .iload 5, 2, 13), (13, .bipush 24, 2, 15), (15, .if_icmp .ge 120, 3, 18), (18, .iload 4, 2, 20), (20, .aload_n 0, 1, 21), (21, .getfield 18, 3, 24), (24, .invokevirtual 74, 3, 27), (27, .if_icmp .ge 108, 3, 30), (30, .aload_n 0, 1, 31), (31, .getfield 18, 3, 34), (34, .iload 4, 2, 36), (36, .invokevirtual 78, 3, 39), (39, .checkcast 139, 3, 42), (42, .astore 6, 2, 44), (44, .aload 6, 2, 46), (46, .getfield 191, 3, 49), (49, .getstatic 184, 3, 52), (52, .if_acmp .eq 38, 3, 55), (55, .aload 6, 2, 57), (57, .getfield 191, 3, 60), (60, .getstatic 206, 3, 63), (63, .if_acmp .ne 31, 3, 66), (66, .aload_n 0, 1, 67), (67, .getfield 18, 3, 70), (70, .aload 6, 2, 72), (72, .getfield 200, 3, 75), (75, .invokevirtual 78, 3, 78), (78, .checkcast 139, 3, 81), (81, .getfield 191, 3, 84), (84, .getstatic 184, 3, 87), (87, .if_acmp .ne 7, 3, 90), (90, .iconst 1, 1, 91), (91, .goto 4, 3, 94), (94, .iconst 0, 1, 95), (95, .istore 7, 2, 97), (97, .iload 7, 2, 99), (99, .ifCond .eq 8, 3, 102), (102, .bipush (-2), 2, 104), (104, .goto 11, 3, 107), (107, .aload_n 0, 1, 108), (108, .iload 4, 2, 110), (110, .aload 6, 2, 112), (112, .invokevirtual 350, 3, 115), (115, .istore 8, 2, 117), (117, .iload 8, 2, 119), (119, .ifCond .ge 6, 3, 122), (122, .iload 4, 2, 124), (124, .ireturn, 1, 125), (125, .iload 8, 2, 127), (127, .istore 4, 2, 129), (129, .iinc 5 1, 3, 132), (132, .goto (-121), 3, 135), (135, .iload 4, 2, 137), (137, .ireturn, 1, 138)]
theorem D_P_follow : Dec b_P_follow T_P_follow := Dec.of (by decide +kernel)
def T_P_load : DT := [(0, .iconst 0, 1, 1), (1, .istore_n 2, 1, 2), (2, .iload_n 2, 1, 3), (3, .iconst 5, 1, 4), (4, .if_icmp .ge 23, 3, 7), (7, .aload_n 0, 1, 8), (8, .getfield 71, 3, 11), (11, .iload_n 2, 1, 12), (12, .iload_n 1, 1, 13), (13, .iconst 3, 1, 14), (14, .iload_n 2, 1, 15), (15, .imul, 1, 16), (16, .ishr, 1, 17), (17, .bipush 7, 2, 19), (19, .iand, 1, 20), (20, .iastore, 1, 21), (21, .iinc 2 1, 3, 24), (24, .goto (-22), 3, 27), (27, .return_, 1, 28)]
theorem D_P_load : Dec b_P_load T_P_load := Dec.of (by decide +kernel)
def T_P_done : DT := [(0, .aload_n 2, 1, 1), (1, .getfield 191, 3, 4), (4, .invokevirtual 243, 3, 7), (7, .tableswitch 217 0 6 #[41, 62, 93, 113, 133, 173, 193], 41, 48), (48, .aload_n 0, 1, 49), (49, .getfield 71, 3, 52), (52, .aload_n 2, 1, 53), (53, .getfield 249, 3, 56), (56, .aload_n 0, 1, 57), (57, .aload_n 2, 1, 58), (58, .getfield 236, 3, 61), (61, .invokevirtual 339, 3, 64), (64, .iastore, 1, 65), (65, .iload_n 1, 1, 66), (66, .iconst 1, 1, 67), (67, .iadd, 1, 68), (68, .ireturn, 1, 69), (69, .iconst 3, 1, 70), (70, .aload_n 0, 1, 71), (71, .aload_n 2, 1, 72), (72, .getfield 228, 3, 75), (75, .invokevirtual 339, 3, 78), (78, .iconst 2, 1, 79), (79, .irem, 1, 80), (80, .iadd, 1, 81), (81, .istore_n 3, 1, 82), (82, .aload_n 0, 1, 83), (83, .getfield 71, 3, 86), (86, .iload_n 3, 1, 87), (87, .aload_n 0, 1, 88), (88, .aload_n 2, 1, 89), (89, .getfield 236, 3, 92), (92, .invokevirtual 339, 3, 95), (95, .iastore, 1, 96), (96, .iload_n 1, 1, 97), (97, .iconst 1, 1, 98), (98, .iadd, 1, 99), (99, .ireturn, 1, 100), (100, .aload_n 0, 1, 101), (101, .aload_n 2, 1, 102), (102, .getfield 236, 3, 105), (105, .invokevirtual 343, 3, 108), (108, .ifCond .eq 9, 3, 111), (111, .iload_n 1, 1, 112), (112, .iconst 1, 1, 113), (113, .iadd, 1, 114), (114, .goto 5, 3, 117), (117, .bipush (-2), 2, 119), (119, .ireturn, 1, 120), (120, .aload_n 0, 1, 121), (121, .aload_n 2, 1, 122), (122, .getfield 236, 3, 125), (125, .invokevirtual 343, 3, 128), (128, .ifCond .eq 9, 3, 131), (131, .iload_n 1, 1, 132), (132, .iconst 1, 1, 133), (133, .iadd, 1, 134), (134, .goto 5, 3, 137), (137, .bipush (-3), 2, 139), (139, .ireturn, 1, 140), (140, .aload_n 0, 1, 141), (141, .aload_n 2, 1, 142), (142, .getfield 236, 3, 145), (145, .invokevirtual 343, 3, 148), (148, .ifCond .eq 9, 3, 151), (151, .iload_n 1, 1, 152), (152, .iconst 1, 1, 153), (153, .iadd, 1, 154), (154, .goto 25, 3, 157), (157, .aload_n 2, 1, 158), (158, .getfield 194, 3, 161), (161, .ifCond .lt 12, 3, 164), (164, .aload_n 2, 1, 165), (165, .getfield 194, 3, 168), (168, .iconst 1, 1, 169), (169, .iadd, 1, 170), (170, .goto 9, 3, 173), (173, .aload_n 2, 1, 174), (174, .getfield 203, 3, 177), (177, .iconst 1, 1, 178), (178, .iadd, 1, 179), (179, .ireturn, 1, 180), (180, .aload_n 0, 1, 181), (181, .getfield 18, 3, 184), (184, .aload_n 2, 1, 185), (185, .getfield 200, 3, 188), (188, .invokevirtual 78, 3, 191), (191, .checkcast 139, 3, 194), (194, .getfield 203, 3, 197), (197, .iconst 1, 1, 198), (198, .iadd, 1, 199), (199, .ireturn, 1, 200), (200, .aload_n 0, 1, 201), (201, .aload_n 2, 1, 202), (202, .getfield 236, 3, 205), (205, .invokevirtual 343, 3, 208), (208, .ifCond .eq 9, 3, 211), (211, .iload_n 1, 1, 212), (212, .iconst 1, 1, 213), (213, .iadd, 1, 214), (214, .goto 9, 3, 217), (217, .aload_n 2, 1, 218), (218, .getfield 203, 3, 221), (221, .iconst 1, 1, 222), (222, .iadd, 1, 223), (223, .ireturn, 1, 224), (224, .aload_n 0, 1, 225), (225, .getfield 18, 3, 228), (228, .aload_n 2, 1, 229), (229, .getfield 200, 3, 232), (232, .invokevirtual 78, 3, 235), (235, .checkcast 139, 3, 238), (238, .getfield 191, 3, 241), (241, .getstatic 184, 3, 244), (244, .if_acmp .ne 10, 3, 247), (247, .aload_n 2, 1, 248), (248, .getfield 200, 3, 251), (251, .goto 6, 3, 254), (254, .iload_n 1, 1, 255), (255, .iconst 1, 1, 256), (256, .iadd, 1, 257), (257, .ireturn, 1, 258)]
theorem D_P_done : Dec b_P_done T_P_done := Dec.of (by decide +kernel)
def T_P_worth : DT := [(0, .aload_n 0, 1, 1), (1, .aload_n 1, 1, 2), (2, .getfield 218, 3, 5), (5, .invokevirtual 221, 3, 8), (8, .iconst 0, 1, 9), (9, .istore_n 2, 1, 10), (10, .iload_n 2, 1, 11), (11, .aload_n 1, 1, 12), (12, .getfield 218, 3, 15), (15, .if_icmp .gt 46, 3, 18), (18, .aload_n 0, 1, 19), (19, .getfield 61, 3, 22), (22, .iload_n 2, 1, 23), (23, .baload, 1, 24), (24, .ifCond .eq 31, 3, 27), (27, .aload_n 0, 1, 28), (28, .getfield 68, 3, 31), (31, .iload_n 2, 1, 32), (32, .aload_n 0, 1, 33), (33, .getfield 14, 3, 36), (36, .iload_n 2, 1, 37), (37, .invokevirtual 78, 3, 40), (40, .checkcast 82, 3, 43), (43, .aload_n 0, 1, 44), (44, .getfield 71, 3, 47), (47, .aload_n 0, 1, 48), (48, .getfield 68, 3, 51), (51, .invokevirtual 335, 3, 54), (54, .iastore, 1, 55), (55, .iinc 2 1, 3, 58), (58, .goto (-48), 3, 61), (61, .aload_n 0, 1, 62), (62, .getfield 68, 3, 65), (65, .aload_n 1, 1, 66), (66, .getfield 218, 3, 69), (69, .iaload, 1, 70), (70, .ireturn, 1, 71)]
theorem D_P_worth : Dec b_P_worth T_P_worth := Dec.of (by decide +kernel)
def T_Below_of : DT := [(0, .aload_n 2, 1, 1), (1, .aload_n 0, 1, 2), (2, .getfield 9, 3, 5), (5, .iaload, 1, 6), (6, .aload_n 2, 1, 7), (7, .aload_n 0, 1, 8), (8, .getfield 15, 3, 11), (11, .iaload, 1, 12), (12, .if_icmp .ge 7, 3, 15), (15, .iconst 1, 1, 16), (16, .goto 4, 3, 19), (19, .iconst 0, 1, 20), (20, .ireturn, 1, 21)]
theorem D_Below_of : Dec b_Below_of T_Below_of := Dec.of (by decide +kernel)
def T_Both_of : DT := [(0, .aload_n 2, 1, 1), (1, .aload_n 0, 1, 2), (2, .getfield 9, 3, 5), (5, .iaload, 1, 6), (6, .aload_n 2, 1, 7), (7, .aload_n 0, 1, 8), (8, .getfield 15, 3, 11), (11, .iaload, 1, 12), (12, .iand, 1, 13), (13, .ireturn, 1, 14)]
theorem D_Both_of : Dec b_Both_of T_Both_of := Dec.of (by decide +kernel)
def T_Constant_of : DT := [(0, .aload_n 0, 1, 1), (1, .getfield 9, 3, 4), (4, .ireturn, 1, 5)]
theorem D_Constant_of : Dec b_Constant_of T_Constant_of := Dec.of (by decide +kernel)
def T_Meet_of : DT := [(0, .aload_n 2, 1, 1), (1, .aload_n 0, 1, 2), (2, .getfield 9, 3, 5), (5, .iaload, 1, 6), (6, .aload_n 2, 1, 7), (7, .aload_n 0, 1, 8), (8, .getfield 15, 3, 11), (11, .iaload, 1, 12), (12, .iand, 1, 13), (13, .ireturn, 1, 14)]
theorem D_Meet_of : Dec b_Meet_of T_Meet_of := Dec.of (by decide +kernel)
def T_Not_of : DT := [(0, .iconst 1, 1, 1), (1, .aload_n 2, 1, 2), (2, .aload_n 0, 1, 3), (3, .getfield 9, 3, 6), (6, .iaload, 1, 7), (7, .isub, 1, 8), (8, .ireturn, 1, 9)]
theorem D_Not_of : Dec b_Not_of T_Not_of := Dec.of (by decide +kernel)
def T_Read_of : DT := [(0, .aload_n 1, 1, 1), (1, .iconst 3, 1, 2), (2, .aload_n 2, 1, 3), (3, .aload_n 0, 1, 4), (4, .getfield 9, 3, 7), (7, .iaload, 1, 8), (8, .iconst 2, 1, 9), (9, .irem, 1, 10), (10, .iadd, 1, 11), (11, .iaload, 1, 12), (12, .ireturn, 1, 13)]
theorem D_Read_of : Dec b_Read_of T_Read_of := Dec.of (by decide +kernel)
def T_Same_of : DT := [(0, .aload_n 2, 1, 1), (1, .aload_n 0, 1, 2), (2, .getfield 9, 3, 5), (5, .iaload, 1, 6), (6, .aload_n 2, 1, 7), (7, .aload_n 0, 1, 8), (8, .getfield 15, 3, 11), (11, .iaload, 1, 12), (12, .if_icmp .ne 7, 3, 15), (15, .iconst 1, 1, 16), (16, .goto 4, 3, 19), (19, .iconst 0, 1, 20), (20, .ireturn, 1, 21)]
theorem D_Same_of : Dec b_Same_of T_Same_of := Dec.of (by decide +kernel)
def T_Sum_of : DT := [(0, .aload_n 0, 1, 1), (1, .getfield 9, 3, 4), (4, .ifCond .eq 19, 3, 7), (7, .aload_n 2, 1, 8), (8, .aload_n 0, 1, 9), (9, .getfield 15, 3, 12), (12, .iaload, 1, 13), (13, .aload_n 2, 1, 14), (14, .aload_n 0, 1, 15), (15, .getfield 19, 3, 18), (18, .iaload, 1, 19), (19, .isub, 1, 20), (20, .goto 16, 3, 23), (23, .aload_n 2, 1, 24), (24, .aload_n 0, 1, 25), (25, .getfield 15, 3, 28), (28, .iaload, 1, 29), (29, .aload_n 2, 1, 30), (30, .aload_n 0, 1, 31), (31, .getfield 19, 3, 34), (34, .iaload, 1, 35), (35, .iadd, 1, 36), (36, .bipush 7, 2, 38), (38, .iand, 1, 39), (39, .ireturn, 1, 40)]
theorem D_Sum_of : Dec b_Sum_of T_Sum_of := Dec.of (by decide +kernel)
def T_Variable_of : DT := [(0, .aload_n 1, 1, 1), (1, .aload_n 0, 1, 2), (2, .getfield 9, 3, 5), (5, .iaload, 1, 6), (6, .ireturn, 1, 7)]
theorem D_Variable_of : Dec b_Variable_of T_Variable_of := Dec.of (by decide +kernel)
def T_P_holds : DT := [(0, .aload_n 0, 1, 1), (1, .aload_n 1, 1, 2), (2, .invokevirtual 339, 3, 5), (5, .iconst 1, 1, 6), (6, .if_icmp .ne 7, 3, 9), (9, .iconst 1, 1, 10), (10, .goto 4, 3, 13), (13, .iconst 0, 1, 14), (14, .ireturn, 1, 15)]
theorem D_P_holds : Dec b_P_holds T_P_holds := Dec.of (by decide +kernel)
def T_P_conditions : DT := [(0, .aload_n 0, 1, 1), (1, .getfield 144, 3, 4), (4, .ifCond .eq 10, 3, 7), (7, .aload_n 0, 1, 8), (8, .getfield 295, 3, 11), (11, .goto 4, 3, 14), (14, .iconst (-1), 1, 15), (15, .ireturn, 1, 16)]
theorem D_P_conditions : Dec b_P_conditions T_P_conditions := Dec.of (by decide +kernel)
def T_P_witness : DT := [(0, .aload_n 0, 1, 1), (1, .iload_n 1, 1, 2), (2, .invokevirtual 331, 3, 5), (5, .astore_n 2, 1, 6), (6, .aload_n 2, 1, 7), (7, .ifnonnull 7, 3, 10), (10, .iconst (-1), 1, 11), (11, .goto 7, 3, 14), (14, .aload_n 2, 1, 15), (15, .getfield 299, 3, 18), (18, .ireturn, 1, 19)]
theorem D_P_witness : Dec b_P_witness T_P_witness := Dec.of (by decide +kernel)
def T_P_verdict : DT := [(0, .aload_n 0, 1, 1), (1, .getfield 144, 3, 4), (4, .ifCond .eq 15, 3, 7), (7, .iload_n 1, 1, 8), (8, .ifCond .lt 11, 3, 11), (11, .iload_n 1, 1, 12), (12, .aload_n 0, 1, 13), (13, .getfield 295, 3, 16), (16, .if_icmp .lt 7, 3, 19), (19, .aconst_null, 1, 20), (20, .goto 9, 3, 23), (23, .aload_n 0, 1, 24), (24, .getfield 27, 3, 27), (27, .iload_n 1, 1, 28), (28, .aaload, 1, 29), (29, .areturn, 1, 30)]
theorem D_P_verdict : Dec b_P_verdict T_P_verdict := Dec.of (by decide +kernel)
def T_P_proved : DT := [(0, .aload_n 0, 1, 1), (1, .iload_n 1, 1, 2), (2, .invokevirtual 331, 3, 5), (5, .astore_n 2, 1, 6), (6, .aload_n 2, 1, 7), (7, .ifnull 14, 3, 10), (10, .aload_n 2, 1, 11), (11, .getfield 305, 3, 14), (14, .ifCond .eq 7, 3, 17), (17, .iconst 1, 1, 18), (18, .goto 4, 3, 21), (21, .iconst 0, 1, 22), (22, .ireturn, 1, 23)]
theorem D_P_proved : Dec b_P_proved T_P_proved := Dec.of (by decide +kernel)
def T_P_failure : DT := [(0, .aload_n 0, 1, 1), (1, .iload_n 1, 1, 2), (2, .invokevirtual 331, 3, 5), (5, .astore_n 2, 1, 6), (6, .aload_n 2, 1, 7), (7, .ifnonnull 7, 3, 10), (10, .iconst (-1), 1, 11), (11, .goto 7, 3, 14), (14, .aload_n 2, 1, 15), (15, .getfield 302, 3, 18), (18, .ireturn, 1, 19)]
theorem D_P_failure : Dec b_P_failure T_P_failure := Dec.of (by decide +kernel)
def T_P_run : DT := [(0, .aload_n 0, 1, 1), (1, .getfield 173, 3, 4), (4, .ifCond .gt 26, 3, 7), (7, .iload_n 1, 1, 8), (8, .ifCond .lt 22, 3, 11), (11, .iload_n 1, 1, 12), (12, .ldc_w 354, 3, 15), (15, .if_icmp .ge 15, 3, 18), (18, .iload_n 2, 1, 19), (19, .iconst 1, 1, 20), (20, .if_icmp .lt 10, 3, 23), (23, .iload_n 2, 1, 24), (24, .sipush 2000, 3, 27), (27, .if_icmp .le 5, 3, 30), (30, .iconst (-1), 1, 31), (31, .ireturn, 1, 32), (32, .aload_n 0, 1, 33), (33, .iload_n 1, 1, 34), (34, .invokevirtual 347, 3, 37), (37, .iconst 0, 1, 38), (38, .istore_n 3, 1, 39), (39, .iload_n 2, 1, 40), (40, .istore 4, 2, 42), (42, .iload_n 3, 1, 43), (43, .ifCond .lt 45, 3, 46), (46, .iload_n 3, 1, 47), (47, .aload_n 0, 1, 48), (48, .getfield 18, 3, 51), (51, .invokevirtual 74, 3, 54), (54, .if_icmp .ge 34, 3, 57), (57, .iload 4, 2, 59), (59, .ifCond .ne 6, 3, 62), (62, .bipush (-4), 2, 64), (64, .ireturn, 1, 65), (65, .aload_n 0, 1, 66), (66, .iload_n 3, 1, 67), (67, .aload_n 0, 1, 68), (68, .getfield 18, 3, 71), (71, .iload_n 3, 1, 72), (72, .invokevirtual 78, 3, 75), (75, .checkcast 139, 3, 78), (78, .invokevirtual 350, 3, 81), (81, .istore_n 3, 1, 82), (82, .iinc 4 (-1), 3, 85), (85, .goto (-43), 3, 88), (88, .iload_n 3, 1, 89), (89, .ifCond .ge 5, 3, 92), (92, .iload_n 3, 1, 93), (93, .ireturn, 1, 94), (94, .iconst 0, 1, 95), (95, .istore 4, 2, 97), (97, .iconst 0, 1, 98), (98, .istore 5, 2, 100), (100, .iload 5, 2, 102), (102, .iconst 5, 1, 103), (103, .if_icmp .ge 26, 3, 106), (106, .iload 4, 2, 108), (108, .aload_n 0, 1, 109), (109, .getfield 71, 3, 112), (112, .iload 5, 2, 114), (114, .iaload, 1, 115), (115, .iconst 3, 1, 116), (116, .iload 5, 2, 118), (118, .imul, 1, 119), (119, .ishl, 1, 120), (120, .ior, 1, 121), (121, .istore 4, 2, 123), (123, .iinc 5 1, 3, 126), (126, .goto (-26), 3, 129), (129, .iload 4, 2, 131), (131, .ireturn, 1, 132)]
theorem D_P_run : Dec b_P_run T_P_run := Dec.of (by decide +kernel)
def T_P_value : DT := [(0, .aload_n 0, 1, 1), (1, .iload_n 1, 1, 2), (2, .invokevirtual 84, 3, 5), (5, .astore_n 3, 1, 6), (6, .aload_n 3, 1, 7), (7, .ifnull 14, 3, 10), (10, .iload_n 2, 1, 11), (11, .ifCond .lt 10, 3, 14), (14, .iload_n 2, 1, 15), (15, .ldc_w 354, 3, 18), (18, .if_icmp .lt 5, 3, 21), (21, .iconst (-1), 1, 22), (22, .ireturn, 1, 23), (23, .aload_n 0, 1, 24), (24, .iload_n 2, 1, 25), (25, .invokevirtual 347, 3, 28), (28, .aload_n 0, 1, 29), (29, .aload_n 3, 1, 30), (30, .invokevirtual 339, 3, 33), (33, .ireturn, 1, 34)]
theorem D_P_value : Dec b_P_value T_P_value := Dec.of (by decide +kernel)
def T_M_init : DT := [(0, .aload_n 0, 1, 1), (1, .invokespecial 1, 3, 4), (4, .aload_n 0, 1, 5), (5, .bipush 60, 2, 7), (7, .newarray .int, 2, 9), (9, .putfield 7, 3, 12), (12, .aload_n 0, 1, 13), (13, .bipush 60, 2, 15), (15, .newarray .int, 2, 17), (17, .putfield 13, 3, 20), (20, .aload_n 0, 1, 21), (21, .bipush 60, 2, 23), (23, .newarray .int, 2, 25), (25, .putfield 16, 3, 28), (28, .aload_n 0, 1, 29), (29, .bipush 60, 2, 31), (31, .newarray .long, 2, 33), (33, .putfield 19, 3, 36), (36, .aload_n 0, 1, 37), (37, .bipush 60, 2, 39), (39, .newarray .int, 2, 41), (41, .putfield 23, 3, 44), (44, .aload_n 0, 1, 45), (45, .sipush 3600, 3, 48), (48, .newarray .int, 2, 50), (50, .putfield 26, 3, 53), (53, .aload_n 0, 1, 54), (54, .bipush 60, 2, 56), (56, .newarray .int, 2, 58), (58, .putfield 29, 3, 61), (61, .aload_n 0, 1, 62), (62, .iconst 5, 1, 63), (63, .newarray .int, 2, 65), (65, .putfield 32, 3, 68), (68, .aload_n 0, 1, 69), (69, .bipush 24, 2, 71), (71, .newarray .int, 2, 73), (73, .putfield 35, 3, 76), (76, .aload_n 0, 1, 77), (77, .bipush 24, 2, 79), (79, .newarray .int, 2, 81), (81, .putfield 38, 3, 84), (84, .aload_n 0, 1, 85), (85, .bipush 24, 2, 87), (87, .newarray .int, 2, 89), (89, .putfield 41, 3, 92), (92, .aload_n 0, 1, 93), (93, .bipush 24, 2, 95), (95, .newarray .int, 2, 97), (97, .putfield 44, 3, 100), (100, .aload_n 0, 1, 101), (101, .bipush 24, 2, 103), (103, .newarray .int, 2, 105), (105, .putfield 47, 3, 108), (108, .aload_n 0, 1, 109), (109, .bipush 24, 2, 111), (111, .newarray .int, 2, 113), (113, .putfield 50, 3, 116), (116, .aload_n 0, 1, 117), (117, .iconst 4, 1, 118), (118, .newarray .int, 2, 120), (120, .putfield 53, 3, 123), (123, .aload_n 0, 1, 124), (124, .bipush 25, 2, 126), (126, .newarray .int, 2, 128), (128, .putfield 56, 3, 131), (131, .aload_n 0, 1, 132), (132, .bipush 25, 2, 134), (134, .newarray .int, 2, 136), (136, .putfield 59, 3, 139), (139, .return_, 1, 140)]
theorem D_M_init : Dec b_M_init T_M_init := Dec.of (by decide +kernel)
def T_M_node : DT := [(0, .aload_n 0, 1, 1), (1, .getfield 62, 3, 4), (4, .bipush 60, 2, 6), (6, .if_icmp .eq 12, 3, 9), (9, .iload_n 1, 1, 10), (10, .bipush 10, 2, 12), (12, .invokestatic 66, 3, 15), (15, .ifCond .ne 5, 3, 18), (18, .iconst (-1), 1, 19), (19, .ireturn, 1, 20), (20, .iload_n 1, 1, 21), (21, .ifCond .ne 12, 3, 24), (24, .iload_n 2, 1, 25), (25, .bipush 8, 2, 27), (27, .invokestatic 66, 3, 30), (30, .goto 86, 3, 33), (33, .iload_n 1, 1, 34), (34, .iconst 1, 1, 35), (35, .if_icmp .ne 11, 3, 38), (38, .iload_n 2, 1, 39), (39, .iconst 3, 1, 40), (40, .invokestatic 66, 3, 43), (43, .goto 73, 3, 46), (46, .iload_n 1, 1, 47), (47, .iconst 2, 1, 48), (48, .if_icmp .ne 11, 3, 51), (51, .aload_n 0, 1, 52), (52, .iload_n 2, 1, 53), (53, .invokevirtual 70, 3, 56), (56, .goto 60, 3, 59), (59, .iload_n 1, 1, 60), (60, .bipush 8, 2, 62), (62, .if_icmp .ge 27, 3, 65), (65, .aload_n 0, 1, 66), (66, .iload_n 2, 1, 67), (67, .invokevirtual 70, 3, 70), (70, .ifCond .eq 15, 3, 73), (73, .aload_n 0, 1, 74), (74, .iload_n 3, 1, 75), (75, .invokevirtual 70, 3, 78), (78, .ifCond .eq 7, 3, 81), (81, .iconst 1, 1, 82), (82, .goto 34, 3, 85), (85, .iconst 0, 1, 86), (86, .goto 30, 3, 89), (89, .aload_n 0, 1, 90), (90, .iload_n 2, 1, 91), (91, .invokevirtual 74, 3, 94), (94, .ifCond .eq 21, 3, 97), (97, .iload_n 1, 1, 98), (98, .bipush 8, 2, 100), (100, .if_icmp .eq 11, 3, 103), (103, .aload_n 0, 1, 104), (104, .iload_n 3, 1, 105), (105, .invokevirtual 74, 3, 108), (108, .ifCond .eq 7, 3, 111), (111, .iconst 1, 1, 112), (112, .goto 4, 3, 115), (115, .iconst 0, 1, 116), (116, .istore 4, 2, 118), (118, .iload 4, 2, 120), (120, .ifCond .ne 5, 3, 123), (123, .iconst (-1), 1, 124), (124, .ireturn, 1, 125), (125, .aload_n 0, 1, 126), (126, .getfield 7, 3, 129), (129, .aload_n 0, 1, 130), (130, .getfield 62, 3, 133), (133, .iload_n 1, 1, 134), (134, .iastore, 1, 135), (135, .aload_n 0, 1, 136), (136, .getfield 13, 3, 139), (139, .aload_n 0, 1, 140), (140, .getfield 62, 3, 143), (143, .iload_n 2, 1, 144), (144, .iastore, 1, 145), (145, .aload_n 0, 1, 146), (146, .getfield 16, 3, 149), (149, .aload_n 0, 1, 150), (150, .getfield 62, 3, 153), (153, .iload_n 3, 1, 154), (154, .iastore, 1, 155), (155, .aload_n 0, 1, 156), (156, .getfield 19, 3, 159), (159, .aload_n 0, 1, 160), (160, .getfield 62, 3, 163), (163, .lconst 1, 1, 164), (164, .aload_n 0, 1, 165), (165, .getfield 62, 3, 168), (168, .lshl, 1, 169), (169, .lastore, 1, 170), (170, .iload_n 1, 1, 171), (171, .iconst 1, 1, 172), (172, .if_icmp .le 21, 3, 175), (175, .aload_n 0, 1, 176), (176, .getfield 19, 3, 179), (179, .aload_n 0, 1, 180), (180, .getfield 62, 3, 183), (183, .dup2, 1, 184), (184, .laload, 1, 185), (185, .aload_n 0, 1, 186), (186, .getfield 19, 3, 189), (189, .iload_n 2, 1, 190), (190, .laload, 1, 191), (191, .lor, 1, 192), (192, .lastore, 1, 193), (193, .iload_n 1, 1, 194), (194, .iconst 2, 1, 195), (195, .if_icmp .le 27, 3, 198), (198, .iload_n 1, 1, 199), (199, .bipush 8, 2, 201), (201, .if_icmp .eq 21, 3, 204), (204, .aload_n 0, 1, 205), (205, .getfield 19, 3, 208), (208, .aload_n 0, 1, 209), (209, .getfield 62, 3, 212), (212, .dup2, 1, 213), (213, .laload, 1, 214), (214, .aload_n 0, 1, 215), (215, .getfield 19, 3, 218), (218, .iload_n 3, 1, 219), (219, .laload, 1, 220), (220, .lor, 1, 221), (221, .lastore, 1, 222), (222, .aload_n 0, 1, 223), (223, .getfield 23, 3, 226), (226, .aload_n 0, 1, 227), (227, .getfield 62, 3, 230), (230, .iconst 0, 1, 231), (231, .iastore, 1, 232), (232, .iconst 0, 1, 233), (233, .istore 5, 2, 235), (235, .iload 5, 2, 237), (237, .aload_n 0, 1, 238), (238, .getfield 62, 3, 241), (241, .if_icmp .gt 65, 3, 244), (244, .aload_n 0, 1, 245), (245, .getfield 19, 3, 248), (248, .aload_n 0, 1, 249), (249, .getfield 62, 3, 252), (252, .laload, 1, 253), (253, .iload 5, 2, 255), (255, .lshr, 1, 256), (256, .lconst 1, 1, 257), (257, .land, 1, 258), (258, .lconst 1, 1, 259), (259, .lcmp, 1, 260), (260, .ifCond .ne 40, 3, 263), (263, .aload_n 0, 1, 264), (264, .getfield 26, 3, 267), (267, .bipush 60, 2, 269), (269, .aload_n 0, 1, 270), (270, .getfield 62, 3, 273), (273, .imul, 1, 274), (274, .aload_n 0, 1, 275), (275, .getfield 23, 3, 278), (278, .aload_n 0, 1, 279), (279, .getfield 62, 3, 282), (282, .iaload, 1, 283), (283, .iadd, 1, 284), (284, .iload 5, 2, 286), (286, .iastore, 1, 287), (287, .aload_n 0, 1, 288), (288, .getfield 23, 3, 291), (291, .aload_n 0, 1, 292), (292, .getfield 62, 3, 295), (295, .dup2, 1, 296), (296, .iaload, 1, 297), (297, .iconst 1, 1, 298), (298, .iadd, 1, 299), (299, .iastore, 1, 300), (300, .iinc 5 1, 3, 303), (303, .goto (-68), 3, 306), (306, .aload_n 0, 1, 307), (307, .dup, 1, 308), (308, .getfield 62, 3, 311), (311, .iconst 1, 1, 312), (312, .iadd, 1, 313), (313, .putfield 62, 3, 316), (316, .aload_n 0, 1, 317), (317, .getfield 62, 3, 320), (320, .iconst 1, 1, 321), (321, .isub, 1, 322), (322, .ireturn, 1, 323)]
theorem D_M_node : Dec b_M_node T_M_node := Dec.of (by decide +kernel)
def T_M_below : DT := [(0, .iload_n 0, 1, 1), (1, .ifCond .lt 12, 3, 4), (4, .iload_n 0, 1, 5), (5, .iload_n 1, 1, 6), (6, .if_icmp .ge 7, 3, 9), (9, .iconst 1, 1, 10), (10, .goto 4, 3, 13), (13, .iconst 0, 1, 14), (14, .ireturn, 1, 15)]
theorem D_M_below : Dec b_M_below T_M_below := Dec.of (by decide +kernel)
def T_M_numeric : DT := [(0, .iload_n 1, 1, 1), (1, .aload_n 0, 1, 2), (2, .getfield 62, 3, 5), (5, .invokestatic 66, 3, 8), (8, .ifCond .eq 18, 3, 11), (11, .aload_n 0, 1, 12), (12, .getfield 7, 3, 15), (15, .iload_n 1, 1, 16), (16, .iaload, 1, 17), (17, .bipush 6, 2, 19), (19, .if_icmp .ge 7, 3, 22), (22, .iconst 1, 1, 23), (23, .goto 4, 3, 26), (26, .iconst 0, 1, 27), (27, .ireturn, 1, 28)]
theorem D_M_numeric : Dec b_M_numeric T_M_numeric := Dec.of (by decide +kernel)
def T_M_truth : DT := [(0, .iload_n 1, 1, 1), (1, .aload_n 0, 1, 2), (2, .getfield 62, 3, 5), (5, .invokestatic 66, 3, 8), (8, .ifCond .eq 18, 3, 11), (11, .aload_n 0, 1, 12), (12, .getfield 7, 3, 15), (15, .iload_n 1, 1, 16), (16, .iaload, 1, 17), (17, .bipush 6, 2, 19), (19, .if_icmp .lt 7, 3, 22), (22, .iconst 1, 1, 23), (23, .goto 4, 3, 26), (26, .iconst 0, 1, 27), (27, .ireturn, 1, 28)]
theorem D_M_truth : Dec b_M_truth T_M_truth := Dec.of (by decide +kernel)
def T_M_assign : DT := [(0, .aload_n 0, 1, 1), (1, .getfield 85, 3, 4), (4, .bipush 24, 2, 6), (6, .if_icmp .eq 19, 3, 9), (9, .iload_n 1, 1, 10), (10, .iconst 3, 1, 11), (11, .invokestatic 66, 3, 14), (14, .ifCond .eq 11, 3, 17), (17, .aload_n 0, 1, 18), (18, .iload_n 2, 1, 19), (19, .invokevirtual 70, 3, 22), (22, .ifCond .ne 7, 3, 25), (25, .iconst (-1), 1, 26), (26, .goto 10, 3, 29), (29, .aload_n 0, 1, 30), (30, .iconst 0, 1, 31), (31, .iload_n 1, 1, 32), (32, .iload_n 2, 1, 33), (33, .invokevirtual 92, 3, 36), (36, .ireturn, 1, 37)]
theorem D_M_assign : Dec b_M_assign T_M_assign := Dec.of (by decide +kernel)
def T_M_add : DT := [(0, .aload_n 0, 1, 1), (1, .getfield 35, 3, 4), (4, .aload_n 0, 1, 5), (5, .getfield 85, 3, 8), (8, .iload_n 1, 1, 9), (9, .iastore, 1, 10), (10, .aload_n 0, 1, 11), (11, .getfield 38, 3, 14), (14, .aload_n 0, 1, 15), (15, .getfield 85, 3, 18), (18, .iload_n 2, 1, 19), (19, .iastore, 1, 20), (20, .aload_n 0, 1, 21), (21, .getfield 41, 3, 24), (24, .aload_n 0, 1, 25), (25, .getfield 85, 3, 28), (28, .iload_n 3, 1, 29), (29, .iastore, 1, 30), (30, .aload_n 0, 1, 31), (31, .getfield 47, 3, 34), (34, .aload_n 0, 1, 35), (35, .getfield 85, 3, 38), (38, .iconst (-1), 1, 39), (39, .iastore, 1, 40), (40, .aload_n 0, 1, 41), (41, .getfield 50, 3, 44), (44, .aload_n 0, 1, 45), (45, .getfield 85, 3, 48), (48, .iconst (-1), 1, 49), (49, .iastore, 1, 50), (50, .aload_n 0, 1, 51), (51, .dup, 1, 52), (52, .getfield 85, 3, 55), (55, .iconst 1, 1, 56), (56, .iadd, 1, 57), (57, .putfield 85, 3, 60), (60, .aload_n 0, 1, 61), (61, .iconst 0, 1, 62), (62, .putfield 88, 3, 65), (65, .aload_n 0, 1, 66), (66, .getfield 85, 3, 69), (69, .ireturn, 1, 70)]
theorem D_M_add : Dec b_M_add T_M_add := Dec.of (by decide +kernel)
def T_M_store : DT := [(0, .aload_n 0, 1, 1), (1, .getfield 85, 3, 4), (4, .bipush 24, 2, 6), (6, .if_icmp .eq 19, 3, 9), (9, .aload_n 0, 1, 10), (10, .iload_n 1, 1, 11), (11, .invokevirtual 70, 3, 14), (14, .ifCond .eq 11, 3, 17), (17, .aload_n 0, 1, 18), (18, .iload_n 2, 1, 19), (19, .invokevirtual 70, 3, 22), (22, .ifCond .ne 7, 3, 25), (25, .iconst (-1), 1, 26), (26, .goto 10, 3, 29), (29, .aload_n 0, 1, 30), (30, .iconst 1, 1, 31), (31, .iload_n 1, 1, 32), (32, .iload_n 2, 1, 33), (33, .invokevirtual 92, 3, 36), (36, .ireturn, 1, 37)]
theorem D_M_store : Dec b_M_store T_M_store := Dec.of (by decide +kernel)
def T_M_claim : DT := [(0, .aload_n 0, 1, 1), (1, .getfield 85, 3, 4), (4, .bipush 24, 2, 6), (6, .if_icmp .eq 11, 3, 9), (9, .aload_n 0, 1, 10), (10, .iload_n 1, 1, 11), (11, .invokevirtual 74, 3, 14), (14, .ifCond .ne 7, 3, 17), (17, .iconst (-1), 1, 18), (18, .goto 10, 3, 21), (21, .aload_n 0, 1, 22), (22, .iconst 2, 1, 23), (23, .iload_n 1, 1, 24), (24, .iconst 0, 1, 25), (25, .invokevirtual 92, 3, 28), (28, .ireturn, 1, 29)]
theorem D_M_claim : Dec b_M_claim T_M_claim := Dec.of (by decide +kernel)
def T_M_assume : DT := [(0, .aload_n 0, 1, 1), (1, .getfield 85, 3, 4), (4, .bipush 24, 2, 6), (6, .if_icmp .eq 11, 3, 9), (9, .aload_n 0, 1, 10), (10, .iload_n 1, 1, 11), (11, .invokevirtual 74, 3, 14), (14, .ifCond .ne 7, 3, 17), (17, .iconst (-1), 1, 18), (18, .goto 10, 3, 21), (21, .aload_n 0, 1, 22), (22, .iconst 3, 1, 23), (23, .iload_n 1, 1, 24), (24, .iconst 0, 1, 25), (25, .invokevirtual 92, 3, 28), (28, .ireturn, 1, 29)]
theorem D_M_assume : Dec b_M_assume T_M_assume := Dec.of (by decide +kernel)
def T_M_when : DT := [(0, .aload_n 0, 1, 1), (1, .iconst 4, 1, 2), (2, .iload_n 1, 1, 3), (3, .iload_n 1, 1, 4), (4, .invokevirtual 98, 3, 7), (7, .ireturn, 1, 8)]
theorem D_M_when : Dec b_M_when T_M_when := Dec.of (by decide +kernel)
def T_M_begin : DT := [(0, .aload_n 0, 1, 1), (1, .getfield 85, 3, 4), (4, .bipush 24, 2, 6), (6, .if_icmp .eq 27, 3, 9), (9, .aload_n 0, 1, 10), (10, .iload_n 2, 1, 11), (11, .invokevirtual 74, 3, 14), (14, .ifCond .eq 19, 3, 17), (17, .aload_n 0, 1, 18), (18, .iload_n 3, 1, 19), (19, .invokevirtual 74, 3, 22), (22, .ifCond .eq 11, 3, 25), (25, .aload_n 0, 1, 26), (26, .getfield 95, 3, 29), (29, .iconst 4, 1, 30), (30, .if_icmp .ne 5, 3, 33), (33, .iconst (-1), 1, 34), (34, .ireturn, 1, 35), (35, .aload_n 0, 1, 36), (36, .getfield 53, 3, 39), (39, .aload_n 0, 1, 40), (40, .getfield 95, 3, 43), (43, .aload_n 0, 1, 44), (44, .getfield 85, 3, 47), (47, .iastore, 1, 48), (48, .aload_n 0, 1, 49), (49, .dup, 1, 50), (50, .getfield 95, 3, 53), (53, .iconst 1, 1, 54), (54, .iadd, 1, 55), (55, .putfield 95, 3, 58), (58, .aload_n 0, 1, 59), (59, .iload_n 1, 1, 60), (60, .iload_n 2, 1, 61), (61, .iload_n 3, 1, 62), (62, .invokevirtual 92, 3, 65), (65, .ireturn, 1, 66)]
theorem D_M_begin : Dec b_M_begin T_M_begin := Dec.of (by decide +kernel)
def T_M_loop : DT := [(0, .aload_n 0, 1, 1), (1, .bipush 6, 2, 3), (3, .iload_n 1, 1, 4), (4, .iload_n 2, 1, 5), (5, .invokevirtual 98, 3, 8), (8, .ireturn, 1, 9)]
theorem D_M_loop : Dec b_M_loop T_M_loop := Dec.of (by decide +kernel)
def T_M_other : DT := [(0, .aload_n 0, 1, 1), (1, .getfield 95, 3, 4), (4, .ifCond .ne 7, 3, 7), (7, .iconst (-1), 1, 8), (8, .goto 14, 3, 11), (11, .aload_n 0, 1, 12), (12, .getfield 53, 3, 15), (15, .aload_n 0, 1, 16), (16, .getfield 95, 3, 19), (19, .iconst 1, 1, 20), (20, .isub, 1, 21), (21, .iaload, 1, 22), (22, .istore_n 1, 1, 23), (23, .aload_n 0, 1, 24), (24, .getfield 85, 3, 27), (27, .bipush 24, 2, 29), (29, .if_icmp .eq 26, 3, 32), (32, .iload_n 1, 1, 33), (33, .ifCond .lt 22, 3, 36), (36, .aload_n 0, 1, 37), (37, .getfield 35, 3, 40), (40, .iload_n 1, 1, 41), (41, .iaload, 1, 42), (42, .iconst 4, 1, 43), (43, .if_icmp .ne 12, 3, 46), (46, .aload_n 0, 1, 47), (47, .getfield 47, 3, 50), (50, .iload_n 1, 1, 51), (51, .iaload, 1, 52), (52, .ifCond .lt 5, 3, 55), (55, .iconst (-1), 1, 56), (56, .ireturn, 1, 57), (57, .aload_n 0, 1, 58), (58, .getfield 47, 3, 61), (61, .iload_n 1, 1, 62), (62, .aload_n 0, 1, 63), (63, .getfield 85, 3, 66), (66, .iastore, 1, 67), (67, .aload_n 0, 1, 68), (68, .getfield 44, 3, 71), (71, .aload_n 0, 1, 72), (72, .getfield 85, 3, 75), (75, .iload_n 1, 1, 76), (76, .iastore, 1, 77), (77, .aload_n 0, 1, 78), (78, .iconst 5, 1, 79), (79, .iconst 0, 1, 80), (80, .iconst 0, 1, 81), (81, .invokevirtual 92, 3, 84), (84, .ireturn, 1, 85)]
theorem D_M_other : Dec b_M_other T_M_other := Dec.of (by decide +kernel)
def T_M_end : DT := [(0, .aload_n 0, 1, 1), (1, .getfield 85, 3, 4), (4, .bipush 24, 2, 6), (6, .if_icmp .eq 10, 3, 9), (9, .aload_n 0, 1, 10), (10, .getfield 95, 3, 13), (13, .ifCond .ne 5, 3, 16), (16, .iconst (-1), 1, 17), (17, .ireturn, 1, 18), (18, .aload_n 0, 1, 19), (19, .dup, 1, 20), (20, .getfield 95, 3, 23), (23, .iconst 1, 1, 24), (24, .isub, 1, 25), (25, .putfield 95, 3, 28), (28, .aload_n 0, 1, 29), (29, .getfield 50, 3, 32), (32, .aload_n 0, 1, 33), (33, .getfield 53, 3, 36), (36, .aload_n 0, 1, 37), (37, .getfield 95, 3, 40), (40, .iaload, 1, 41), (41, .aload_n 0, 1, 42), (42, .getfield 85, 3, 45), (45, .iastore, 1, 46), (46, .aload_n 0, 1, 47), (47, .getfield 44, 3, 50), (50, .aload_n 0, 1, 51), (51, .getfield 85, 3, 54), (54, .aload_n 0, 1, 55), (55, .getfield 53, 3, 58), (58, .aload_n 0, 1, 59), (59, .getfield 95, 3, 62), (62, .iaload, 1, 63), (63, .iastore, 1, 64), (64, .aload_n 0, 1, 65), (65, .bipush 7, 2, 67), (67, .iconst 0, 1, 68), (68, .iconst 0, 1, 69), (69, .invokevirtual 92, 3, 72), (72, .ireturn, 1, 73)]
theorem D_M_end : Dec b_M_end T_M_end := Dec.of (by decide +kernel)
def T_M_clear : DT := [(0, .aload_n 0, 1, 1), (1, .getfield 85, 3, 4), (4, .istore_n 1, 1, 5), (5, .aload_n 0, 1, 6), (6, .iconst 0, 1, 7), (7, .putfield 85, 3, 10), (10, .aload_n 0, 1, 11), (11, .iconst 0, 1, 12), (12, .putfield 95, 3, 15), (15, .aload_n 0, 1, 16), (16, .iconst 0, 1, 17), (17, .putfield 88, 3, 20), (20, .iload_n 1, 1, 21), (21, .ireturn, 1, 22)]
theorem D_M_clear : Dec b_M_clear T_M_clear := Dec.of (by decide +kernel)
def T_M_verify : DT := [(0, .aload_n 0, 1, 1), (1, .getfield 95, 3, 4), (4, .ifCond .gt 19, 3, 7), (7, .aload_n 0, 1, 8), (8, .iload_n 1, 1, 9), (9, .invokevirtual 74, 3, 12), (12, .ifCond .eq 11, 3, 15), (15, .aload_n 0, 1, 16), (16, .iload_n 2, 1, 17), (17, .invokevirtual 74, 3, 20), (20, .ifCond .ne 5, 3, 23), (23, .iconst (-1), 1, 24), (24, .ireturn, 1, 25), (25, .aload_n 0, 1, 26), (26, .iconst 1, 1, 27), (27, .putfield 88, 3, 30), (30, .aload_n 0, 1, 31), (31, .iconst 0, 1, 32), (32, .putfield 117, 3, 35), (35, .aload_n 0, 1, 36), (36, .iload_n 2, 1, 37), (37, .putfield 114, 3, 40), (40, .aload_n 0, 1, 41), (41, .iload_n 1, 1, 42), (42, .iconst (-1), 1, 43), (43, .iconst 1, 1, 44), (44, .iconst 0, 1, 45), (45, .invokevirtual 127, 3, 48), (48, .iconst 0, 1, 49), (49, .istore_n 3, 1, 50), (50, .iload_n 3, 1, 51), (51, .aload_n 0, 1, 52), (52, .getfield 85, 3, 55), (55, .if_icmp .ge 65, 3, 58), (58, .aload_n 0, 1, 59), (59, .getfield 35, 3, 62), (62, .iload_n 3, 1, 63), (63, .iaload, 1, 64), (64, .bipush 6, 2, 66), (66, .if_icmp .ne 48, 3, 69), (69, .aload_n 0, 1, 70), (70, .aload_n 0, 1, 71), (71, .getfield 41, 3, 74), (74, .iload_n 3, 1, 75), (75, .iaload, 1, 76), (76, .aload_n 0, 1, 77), (77, .getfield 38, 3, 80), (80, .iload_n 3, 1, 81), (81, .iaload, 1, 82), (82, .iconst 1, 1, 83), (83, .iload_n 3, 1, 84), (84, .iconst 1, 1, 85), (85, .iadd, 1, 86), (86, .invokevirtual 127, 3, 89), (89, .aload_n 0, 1, 90), (90, .aload_n 0, 1, 91), (91, .getfield 41, 3, 94), (94, .iload_n 3, 1, 95), (95, .iaload, 1, 96), (96, .aload_n 0, 1, 97), (97, .getfield 38, 3, 100), (100, .iload_n 3, 1, 101), (101, .iaload, 1, 102), (102, .iconst 0, 1, 103), (103, .aload_n 0, 1, 104), (104, .getfield 50, 3, 107), (107, .iload_n 3, 1, 108), (108, .iaload, 1, 109), (109, .iconst 1, 1, 110), (110, .iadd, 1, 111), (111, .invokevirtual 127, 3, 114), (114, .iinc 3 1, 3, 117), (117, .goto (-67), 3, 120), (120, .iconst 0, 1, 121), (121, .istore_n 3, 1, 122), (122, .iconst 0, 1, 123), (123, .istore 4, 2, 125), (125, .iload 4, 2, 127), (127, .aload_n 0, 1, 128), (128, .getfield 117, 3, 131), (131, .if_icmp .ge 27, 3, 134), (134, .iload_n 3, 1, 135), (135, .aload_n 0, 1, 136), (136, .getfield 56, 3, 139), (139, .iload 4, 2, 141), (141, .iaload, 1, 142), (142, .ifCond .lt 7, 3, 145), (145, .iconst 1, 1, 146), (146, .goto 4, 3, 149), (149, .iconst 0, 1, 150), (150, .iadd, 1, 151), (151, .istore_n 3, 1, 152), (152, .iinc 4 1, 3, 155), (155, .goto (-30), 3, 158), (158, .iload_n 3, 1, 159), (159, .ireturn, 1, 160)]
theorem D_M_verify : Dec b_M_verify T_M_verify := Dec.of (by decide +kernel)
def T_M_decide : DT := [(0, .aload_n 0, 1, 1), (1, .getfield 56, 3, 4), (4, .aload_n 0, 1, 5), (5, .getfield 117, 3, 8), (8, .iconst (-1), 1, 9), (9, .iastore, 1, 10), (10, .aload_n 0, 1, 11), (11, .getfield 59, 3, 14), (14, .aload_n 0, 1, 15), (15, .getfield 117, 3, 18), (18, .iconst (-1), 1, 19), (19, .iastore, 1, 20), (20, .iconst 0, 1, 21), (21, .istore 5, 2, 23), (23, .iload 5, 2, 25), (25, .ldc 120, 2, 27), (27, .if_icmp .ge 93, 3, 30), (30, .aload_n 0, 1, 31), (31, .getfield 56, 3, 34), (34, .aload_n 0, 1, 35), (35, .getfield 117, 3, 38), (38, .iaload, 1, 39), (39, .ifCond .ge 81, 3, 42), (42, .aload_n 0, 1, 43), (43, .iload 5, 2, 45), (45, .invokevirtual 121, 3, 48), (48, .aload_n 0, 1, 49), (49, .iload_n 1, 1, 50), (50, .invokevirtual 101, 3, 53), (53, .ifCond .eq 20, 3, 56), (56, .iload_n 2, 1, 57), (57, .ifCond .lt 12, 3, 60), (60, .aload_n 0, 1, 61), (61, .iload_n 2, 1, 62), (62, .invokevirtual 101, 3, 65), (65, .iload_n 3, 1, 66), (66, .if_icmp .ne 7, 3, 69), (69, .iconst 1, 1, 70), (70, .goto 4, 3, 73), (73, .iconst 0, 1, 74), (74, .istore 6, 2, 76), (76, .iload 6, 2, 78), (78, .ifCond .eq 36, 3, 81), (81, .aload_n 0, 1, 82), (82, .iload 4, 2, 84), (84, .invokevirtual 124, 3, 87), (87, .ifCond .ne 27, 3, 90), (90, .aload_n 0, 1, 91), (91, .getfield 56, 3, 94), (94, .aload_n 0, 1, 95), (95, .getfield 117, 3, 98), (98, .iload 5, 2, 100), (100, .iastore, 1, 101), (101, .aload_n 0, 1, 102), (102, .getfield 59, 3, 105), (105, .aload_n 0, 1, 106), (106, .getfield 117, 3, 109), (109, .aload_n 0, 1, 110), (110, .getfield 104, 3, 113), (113, .iastore, 1, 114), (114, .iinc 5 1, 3, 117), (117, .goto (-94), 3, 120), (120, .aload_n 0, 1, 121), (121, .dup, 1, 122), (122, .getfield 117, 3, 125), (125, .iconst 1, 1, 126), (126, .iadd, 1, 127), (127, .putfield 117, 3, 130), (130, .return_, 1, 131)]
theorem D_M_decide : Dec b_M_decide T_M_decide := Dec.of (by decide +kernel)
def T_M_take : DT := [(0, .iload_n 1, 1, 1), (1, .istore_n 2, 1, 2), (2, .iconst 0, 1, 3), (3, .istore_n 3, 1, 4), (4, .iload_n 3, 1, 5), (5, .iconst 5, 1, 6), (6, .if_icmp .ge 24, 3, 9), (9, .aload_n 0, 1, 10), (10, .getfield 32, 3, 13), (13, .iload_n 3, 1, 14), (14, .iload_n 2, 1, 15), (15, .bipush 8, 2, 17), (17, .irem, 1, 18), (18, .iastore, 1, 19), (19, .iload_n 2, 1, 20), (20, .bipush 8, 2, 22), (22, .idiv, 1, 23), (23, .istore_n 2, 1, 24), (24, .iinc 3 1, 3, 27), (27, .goto (-23), 3, 30), (30, .return_, 1, 31)]
theorem D_M_take : Dec b_M_take T_M_take := Dec.of (by decide +kernel)
def T_M_holds : DT := [(0, .aload_n 0, 1, 1), (1, .iload_n 1, 1, 2), (2, .invokevirtual 81, 3, 5), (5, .iconst 1, 1, 6), (6, .if_icmp .ne 7, 3, 9), (9, .iconst 1, 1, 10), (10, .goto 4, 3, 13), (13, .iconst 0, 1, 14), (14, .ireturn, 1, 15)]
theorem D_M_holds : Dec b_M_holds T_M_holds := Dec.of (by decide +kernel)
def T_M_eval : DT := [(0, .iconst 0, 1, 1), (1, .istore_n 2, 1, 2), (2, .iload_n 2, 1, 3), (3, .aload_n 0, 1, 4), (4, .getfield 23, 3, 7), (7, .iload_n 1, 1, 8), (8, .iaload, 1, 9), (9, .if_icmp .ge 111, 3, 12), (12, .aload_n 0, 1, 13), (13, .getfield 26, 3, 16), (16, .bipush 60, 2, 18), (18, .iload_n 1, 1, 19), (19, .imul, 1, 20), (20, .iload_n 2, 1, 21), (21, .iadd, 1, 22), (22, .iaload, 1, 23), (23, .istore_n 3, 1, 24), (24, .aload_n 0, 1, 25), (25, .getfield 7, 3, 28), (28, .iload_n 3, 1, 29), (29, .iaload, 1, 30), (30, .iconst 1, 1, 31), (31, .if_icmp .le 17, 3, 34), (34, .aload_n 0, 1, 35), (35, .getfield 29, 3, 38), (38, .aload_n 0, 1, 39), (39, .getfield 13, 3, 42), (42, .iload_n 3, 1, 43), (43, .iaload, 1, 44), (44, .iaload, 1, 45), (45, .goto 9, 3, 48), (48, .aload_n 0, 1, 49), (49, .getfield 13, 3, 52), (52, .iload_n 3, 1, 53), (53, .iaload, 1, 54), (54, .istore 4, 2, 56), (56, .aload_n 0, 1, 57), (57, .getfield 7, 3, 60), (60, .iload_n 3, 1, 61), (61, .iaload, 1, 62), (62, .iconst 2, 1, 63), (63, .if_icmp .le 28, 3, 66), (66, .aload_n 0, 1, 67), (67, .getfield 7, 3, 70), (70, .iload_n 3, 1, 71), (71, .iaload, 1, 72), (72, .bipush 8, 2, 74), (74, .if_icmp .eq 17, 3, 77), (77, .aload_n 0, 1, 78), (78, .getfield 29, 3, 81), (81, .aload_n 0, 1, 82), (82, .getfield 16, 3, 85), (85, .iload_n 3, 1, 86), (86, .iaload, 1, 87), (87, .iaload, 1, 88), (88, .goto 4, 3, 91), (91, .iconst 0, 1, 92), (92, .istore 5, 2, 94), (94, .aload_n 0, 1, 95), (95, .getfield 29, 3, 98), (98, .iload_n 3, 1, 99), (99, .aload_n 0, 1, 100), (100, .aload_n 0, 1, 101), (101, .getfield 7, 3, 104), (104, .iload_n 3, 1, 105), (105, .iaload, 1, 106), (106, .iload 4, 2, 108), (108, .iload 5, 2, 110), (110, .invokevirtual 77, 3, 113), (113, .iastore, 1, 114), (114, .iinc 2 1, 3, 117), (117, .goto (-115), 3, 120), (120, .aload_n 0, 1, 121), (121, .getfield 29, 3, 124), (124, .iload_n 1, 1, 125), (125, .iaload, 1, 126), (126, .ireturn, 1, 127)]
theorem D_M_eval : Dec b_M_eval T_M_eval := Dec.of (by decide +kernel)
def T_M_worked : DT := [(0, .iload_n 1, 1, 1), (1, .ifCond .ne 5, 3, 4), (4, .iload_n 2, 1, 5), (5, .ireturn, 1, 6), (6, .iload_n 1, 1, 7), (7, .iconst 1, 1, 8), (8, .if_icmp .ne 10, 3, 11), (11, .aload_n 0, 1, 12), (12, .getfield 32, 3, 15), (15, .iload_n 2, 1, 16), (16, .iaload, 1, 17), (17, .ireturn, 1, 18), (18, .iload_n 1, 1, 19), (19, .iconst 2, 1, 20), (20, .if_icmp .ne 14, 3, 23), (23, .aload_n 0, 1, 24), (24, .getfield 32, 3, 27), (27, .iconst 3, 1, 28), (28, .iload_n 2, 1, 29), (29, .iconst 2, 1, 30), (30, .irem, 1, 31), (31, .iadd, 1, 32), (32, .iaload, 1, 33), (33, .ireturn, 1, 34), (34, .iload_n 1, 1, 35), (35, .iconst 3, 1, 36), (36, .if_icmp .ne 10, 3, 39), (39, .iload_n 2, 1, 40), (40, .iload_n 3, 1, 41), (41, .iadd, 1, 42), (42, .bipush 8, 2, 44), (44, .irem, 1, 45), (45, .ireturn, 1, 46), (46, .iload_n 1, 1, 47), (47, .iconst 4, 1, 48), (48, .if_icmp .ne 13, 3, 51), (51, .iload_n 2, 1, 52), (52, .iload_n 3, 1, 53), (53, .isub, 1, 54), (54, .bipush 8, 2, 56), (56, .iadd, 1, 57), (57, .bipush 8, 2, 59), (59, .irem, 1, 60), (60, .ireturn, 1, 61), (61, .iload_n 1, 1, 62), (62, .iconst 5, 1, 63), (63, .if_icmp .ne 7, 3, 66), (66, .iload_n 2, 1, 67), (67, .iload_n 3, 1, 68), (68, .iand, 1, 69), (69, .ireturn, 1, 70), (70, .iload_n 1, 1, 71), (71, .bipush 6, 2, 73), (73, .if_icmp .ne 14, 3, 76), (76, .iload_n 2, 1, 77), (77, .iload_n 3, 1, 78), (78, .if_icmp .ge 7, 3, 81), (81, .iconst 1, 1, 82), (82, .goto 4, 3, 85), (85, .iconst 0, 1, 86), (86, .ireturn, 1, 87), (87, .iload_n 1, 1, 88), (88, .bipush 7, 2, 90), (90, .if_icmp .ne 14, 3, 93), (93, .iload_n 2, 1, 94), (94, .iload_n 3, 1, 95), (95, .if_icmp .ne 7, 3, 98), (98, .iconst 1, 1, 99), (99, .goto 4, 3, 102), (102, .iconst 0, 1, 103), (103, .ireturn, 1, 104), (104, .iload_n 1, 1, 105), (105, .bipush 8, 2, 107), (107, .if_icmp .ne 9, 3, 110), (110, .iconst 1, 1, 111), (111, .iload_n 2, 1, 112), (112, .isub, 1, 113), (113, .goto 6, 3, 116), (116, .iload_n 2, 1, 117), (117, .iload_n 3, 1, 118), (118, .imul, 1, 119), (119, .ireturn, 1, 120)]
theorem D_M_worked : Dec b_M_worked T_M_worked := Dec.of (by decide +kernel)
def T_M_goesRight : DT := [(0, .iload_n 1, 1, 1), (1, .istore_n 2, 1, 2), (2, .iload_n 2, 1, 3), (3, .aload_n 0, 1, 4), (4, .getfield 85, 3, 7), (7, .if_icmp .ge 129, 3, 10), (10, .aload_n 0, 1, 11), (11, .iload_n 2, 1, 12), (12, .putfield 104, 3, 15), (15, .aload_n 0, 1, 16), (16, .getfield 35, 3, 19), (19, .iload_n 2, 1, 20), (20, .iaload, 1, 21), (21, .istore_n 3, 1, 22), (22, .iload_n 3, 1, 23), (23, .iconst 2, 1, 24), (24, .if_icmp .ge 8, 3, 27), (27, .aload_n 0, 1, 28), (28, .iload_n 2, 1, 29), (29, .invokevirtual 107, 3, 32), (32, .iload_n 3, 1, 33), (33, .iconst 2, 1, 34), (34, .if_icmp .ne 18, 3, 37), (37, .aload_n 0, 1, 38), (38, .aload_n 0, 1, 39), (39, .getfield 38, 3, 42), (42, .iload_n 2, 1, 43), (43, .iaload, 1, 44), (44, .invokevirtual 101, 3, 47), (47, .ifCond .ne 5, 3, 50), (50, .iconst 0, 1, 51), (51, .ireturn, 1, 52), (52, .iload_n 3, 1, 53), (53, .iconst 3, 1, 54), (54, .if_icmp .ne 18, 3, 57), (57, .aload_n 0, 1, 58), (58, .aload_n 0, 1, 59), (59, .getfield 38, 3, 62), (62, .iload_n 2, 1, 63), (63, .iaload, 1, 64), (64, .invokevirtual 101, 3, 67), (67, .ifCond .ne 5, 3, 70), (70, .iconst 1, 1, 71), (71, .ireturn, 1, 72), (72, .iload_n 3, 1, 73), (73, .bipush 6, 2, 75), (75, .if_icmp .ne 14, 3, 78), (78, .aload_n 0, 1, 79), (79, .aload_n 0, 1, 80), (80, .getfield 41, 3, 83), (83, .iload_n 2, 1, 84), (84, .iaload, 1, 85), (85, .invokevirtual 101, 3, 88), (88, .ireturn, 1, 89), (89, .iload_n 3, 1, 90), (90, .bipush 7, 2, 92), (92, .if_icmp .ne 35, 3, 95), (95, .aload_n 0, 1, 96), (96, .getfield 35, 3, 99), (99, .aload_n 0, 1, 100), (100, .getfield 44, 3, 103), (103, .iload_n 2, 1, 104), (104, .iaload, 1, 105), (105, .iaload, 1, 106), (106, .bipush 6, 2, 108), (108, .if_icmp .ne 19, 3, 111), (111, .aload_n 0, 1, 112), (112, .aload_n 0, 1, 113), (113, .getfield 41, 3, 116), (116, .aload_n 0, 1, 117), (117, .getfield 44, 3, 120), (120, .iload_n 2, 1, 121), (121, .iaload, 1, 122), (122, .iaload, 1, 123), (123, .invokevirtual 101, 3, 126), (126, .ireturn, 1, 127), (127, .aload_n 0, 1, 128), (128, .iload_n 2, 1, 129), (129, .invokevirtual 111, 3, 132), (132, .istore_n 2, 1, 133), (133, .goto (-131), 3, 136), (136, .aload_n 0, 1, 137), (137, .aload_n 0, 1, 138), (138, .getfield 85, 3, 141), (141, .putfield 104, 3, 144), (144, .aload_n 0, 1, 145), (145, .aload_n 0, 1, 146), (146, .getfield 114, 3, 149), (149, .invokevirtual 101, 3, 152), (152, .ireturn, 1, 153)]
theorem D_M_goesRight : Dec b_M_goesRight T_M_goesRight := Dec.of (by decide +kernel)
def T_M_change : DT := [(0, .aload_n 0, 1, 1), (1, .getfield 35, 3, 4), (4, .iload_n 1, 1, 5), (5, .iaload, 1, 6), (6, .ifCond .ne 27, 3, 9), (9, .aload_n 0, 1, 10), (10, .getfield 32, 3, 13), (13, .aload_n 0, 1, 14), (14, .getfield 38, 3, 17), (17, .iload_n 1, 1, 18), (18, .iaload, 1, 19), (19, .aload_n 0, 1, 20), (20, .aload_n 0, 1, 21), (21, .getfield 41, 3, 24), (24, .iload_n 1, 1, 25), (25, .iaload, 1, 26), (26, .invokevirtual 81, 3, 29), (29, .iastore, 1, 30), (30, .goto 34, 3, 33), (33, .aload_n 0, 1, 34), (34, .aload_n 0, 1, 35), (35, .getfield 38, 3, 38), (38, .iload_n 1, 1, 39), (39, .iaload, 1, 40), (40, .invokevirtual 81, 3, 43), (43, .iconst 2, 1, 44), (44, .irem, 1, 45), (45, .istore_n 2, 1, 46), (46, .aload_n 0, 1, 47), (47, .getfield 32, 3, 50), (50, .iconst 3, 1, 51), (51, .iload_n 2, 1, 52), (52, .iadd, 1, 53), (53, .aload_n 0, 1, 54), (54, .aload_n 0, 1, 55), (55, .getfield 41, 3, 58), (58, .iload_n 1, 1, 59), (59, .iaload, 1, 60), (60, .invokevirtual 81, 3, 63), (63, .iastore, 1, 64), (64, .return_, 1, 65)]
theorem D_M_change : Dec b_M_change T_M_change := Dec.of (by decide +kernel)
def T_M_next : DT := [(0, .aload_n 0, 1, 1), (1, .getfield 35, 3, 4), (4, .iload_n 1, 1, 5), (5, .iaload, 1, 6), (6, .iconst 4, 1, 7), (7, .if_icmp .ne 43, 3, 10), (10, .aload_n 0, 1, 11), (11, .aload_n 0, 1, 12), (12, .getfield 38, 3, 15), (15, .iload_n 1, 1, 16), (16, .iaload, 1, 17), (17, .invokevirtual 101, 3, 20), (20, .ifCond .ne 30, 3, 23), (23, .aload_n 0, 1, 24), (24, .getfield 47, 3, 27), (27, .iload_n 1, 1, 28), (28, .iaload, 1, 29), (29, .ifCond .ge 12, 3, 32), (32, .aload_n 0, 1, 33), (33, .getfield 50, 3, 36), (36, .iload_n 1, 1, 37), (37, .iaload, 1, 38), (38, .goto 9, 3, 41), (41, .aload_n 0, 1, 42), (42, .getfield 47, 3, 45), (45, .iload_n 1, 1, 46), (46, .iaload, 1, 47), (47, .iconst 1, 1, 48), (48, .iadd, 1, 49), (49, .ireturn, 1, 50), (50, .aload_n 0, 1, 51), (51, .getfield 35, 3, 54), (54, .iload_n 1, 1, 55), (55, .iaload, 1, 56), (56, .iconst 5, 1, 57), (57, .if_icmp .ne 19, 3, 60), (60, .aload_n 0, 1, 61), (61, .getfield 50, 3, 64), (64, .aload_n 0, 1, 65), (65, .getfield 44, 3, 68), (68, .iload_n 1, 1, 69), (69, .iaload, 1, 70), (70, .iaload, 1, 71), (71, .iconst 1, 1, 72), (72, .iadd, 1, 73), (73, .goto 6, 3, 76), (76, .iload_n 1, 1, 77), (77, .iconst 1, 1, 78), (78, .iadd, 1, 79), (79, .ireturn, 1, 80)]
theorem D_M_next : Dec b_M_next T_M_next := Dec.of (by decide +kernel)
def T_M_conditions : DT := [(0, .aload_n 0, 1, 1), (1, .getfield 88, 3, 4), (4, .ifCond .eq 10, 3, 7), (7, .aload_n 0, 1, 8), (8, .getfield 117, 3, 11), (11, .goto 4, 3, 14), (14, .iconst (-1), 1, 15), (15, .ireturn, 1, 16)]
theorem D_M_conditions : Dec b_M_conditions T_M_conditions := Dec.of (by decide +kernel)
def T_M_witness : DT := [(0, .aload_n 0, 1, 1), (1, .iload_n 1, 1, 2), (2, .invokevirtual 131, 3, 5), (5, .ifCond .eq 12, 3, 8), (8, .aload_n 0, 1, 9), (9, .getfield 56, 3, 12), (12, .iload_n 1, 1, 13), (13, .iaload, 1, 14), (14, .goto 4, 3, 17), (17, .iconst (-1), 1, 18), (18, .ireturn, 1, 19)]
theorem D_M_witness : Dec b_M_witness T_M_witness := Dec.of (by decide +kernel)
def T_M_is : DT := [(0, .aload_n 0, 1, 1), (1, .getfield 88, 3, 4), (4, .ifCond .eq 18, 3, 7), (7, .iload_n 1, 1, 8), (8, .aload_n 0, 1, 9), (9, .getfield 117, 3, 12), (12, .invokestatic 66, 3, 15), (15, .ifCond .eq 7, 3, 18), (18, .iconst 1, 1, 19), (19, .goto 4, 3, 22), (22, .iconst 0, 1, 23), (23, .ireturn, 1, 24)]
theorem D_M_is : Dec b_M_is T_M_is := Dec.of (by decide +kernel)
def T_M_proved : DT := [(0, .aload_n 0, 1, 1), (1, .iload_n 1, 1, 2), (2, .invokevirtual 131, 3, 5), (5, .ifCond .eq 16, 3, 8), (8, .aload_n 0, 1, 9), (9, .getfield 56, 3, 12), (12, .iload_n 1, 1, 13), (13, .iaload, 1, 14), (14, .ifCond .ge 7, 3, 17), (17, .iconst 1, 1, 18), (18, .goto 4, 3, 21), (21, .iconst 0, 1, 22), (22, .ireturn, 1, 23)]
theorem D_M_proved : Dec b_M_proved T_M_proved := Dec.of (by decide +kernel)
def T_M_failure : DT := [(0, .aload_n 0, 1, 1), (1, .iload_n 1, 1, 2), (2, .invokevirtual 131, 3, 5), (5, .ifCond .eq 12, 3, 8), (8, .aload_n 0, 1, 9), (9, .getfield 59, 3, 12), (12, .iload_n 1, 1, 13), (13, .iaload, 1, 14), (14, .goto 4, 3, 17), (17, .iconst (-1), 1, 18), (18, .ireturn, 1, 19)]
theorem D_M_failure : Dec b_M_failure T_M_failure := Dec.of (by decide +kernel)
def T_M_run : DT := [(0, .aload_n 0, 1, 1), (1, .getfield 95, 3, 4), (4, .ifCond .gt 24, 3, 7), (7, .iload_n 1, 1, 8), (8, .ldc 120, 2, 10), (10, .invokestatic 66, 3, 13), (13, .ifCond .eq 15, 3, 16), (16, .iload_n 2, 1, 17), (17, .iconst 1, 1, 18), (18, .if_icmp .lt 10, 3, 21), (21, .iload_n 2, 1, 22), (22, .sipush 2000, 3, 25), (25, .if_icmp .le 5, 3, 28), (28, .iconst (-1), 1, 29), (29, .ireturn, 1, 30), (30, .aload_n 0, 1, 31), (31, .iload_n 1, 1, 32), (32, .invokevirtual 121, 3, 35), (35, .iconst 0, 1, 36), (36, .istore_n 3, 1, 37), (37, .iconst 0, 1, 38), (38, .istore 4, 2, 40), (40, .iload_n 3, 1, 41), (41, .aload_n 0, 1, 42), (42, .getfield 85, 3, 45), (45, .if_icmp .ge 174, 3, 48), (48, .iload 4, 2, 50), (50, .iload_n 2, 1, 51), (51, .if_icmp .ne 6, 3, 54), (54, .bipush (-4), 2, 56), (56, .ireturn, 1, 57), (57, .aload_n 0, 1, 58), (58, .getfield 35, 3, 61), (61, .iload_n 3, 1, 62), (62, .iaload, 1, 63), (63, .istore 5, 2, 65), (65, .iload 5, 2, 67), (67, .iconst 2, 1, 68), (68, .if_icmp .ge 8, 3, 71), (71, .aload_n 0, 1, 72), (72, .iload_n 3, 1, 73), (73, .invokevirtual 107, 3, 76), (76, .iload 5, 2, 78), (78, .iconst 2, 1, 79), (79, .if_icmp .ne 19, 3, 82), (82, .aload_n 0, 1, 83), (83, .aload_n 0, 1, 84), (84, .getfield 38, 3, 87), (87, .iload_n 3, 1, 88), (88, .iaload, 1, 89), (89, .invokevirtual 101, 3, 92), (92, .ifCond .ne 6, 3, 95), (95, .bipush (-2), 2, 97), (97, .ireturn, 1, 98), (98, .iload 5, 2, 100), (100, .iconst 3, 1, 101), (101, .if_icmp .ne 19, 3, 104), (104, .aload_n 0, 1, 105), (105, .aload_n 0, 1, 106), (106, .getfield 38, 3, 109), (109, .iload_n 3, 1, 110), (110, .iaload, 1, 111), (111, .invokevirtual 101, 3, 114), (114, .ifCond .ne 6, 3, 117), (117, .bipush (-3), 2, 119), (119, .ireturn, 1, 120), (120, .iload 5, 2, 122), (122, .bipush 6, 2, 124), (124, .if_icmp .ne 20, 3, 127), (127, .aload_n 0, 1, 128), (128, .aload_n 0, 1, 129), (129, .getfield 38, 3, 132), (132, .iload_n 3, 1, 133), (133, .iaload, 1, 134), (134, .invokevirtual 101, 3, 137), (137, .ifCond .ne 7, 3, 140), (140, .iconst 1, 1, 141), (141, .goto 4, 3, 144), (144, .iconst 0, 1, 145), (145, .istore 6, 2, 147), (147, .iload 5, 2, 149), (149, .bipush 7, 2, 151), (151, .if_icmp .ne 23, 3, 154), (154, .aload_n 0, 1, 155), (155, .getfield 35, 3, 158), (158, .aload_n 0, 1, 159), (159, .getfield 44, 3, 162), (162, .iload_n 3, 1, 163), (163, .iaload, 1, 164), (164, .iaload, 1, 165), (165, .bipush 6, 2, 167), (167, .if_icmp .ne 7, 3, 170), (170, .iconst 1, 1, 171), (171, .goto 4, 3, 174), (174, .iconst 0, 1, 175), (175, .istore 7, 2, 177), (177, .iload 6, 2, 179), (179, .ifCond .eq 14, 3, 182), (182, .aload_n 0, 1, 183), (183, .getfield 50, 3, 186), (186, .iload_n 3, 1, 187), (187, .iaload, 1, 188), (188, .iconst 1, 1, 189), (189, .iadd, 1, 190), (190, .goto 22, 3, 193), (193, .iload 7, 2, 195), (195, .ifCond .eq 12, 3, 198), (198, .aload_n 0, 1, 199), (199, .getfield 44, 3, 202), (202, .iload_n 3, 1, 203), (203, .iaload, 1, 204), (204, .goto 8, 3, 207), (207, .aload_n 0, 1, 208), (208, .iload_n 3, 1, 209), (209, .invokevirtual 111, 3, 212), (212, .istore_n 3, 1, 213), (213, .iinc 4 1, 3, 216), (216, .goto (-176), 3, 219), (219, .aload_n 0, 1, 220), (220, .invokevirtual 134, 3, 223), (223, .ireturn, 1, 224)]
theorem D_M_run : Dec b_M_run T_M_run := Dec.of (by decide +kernel)
def T_M_number : DT := [(0, .iconst 0, 1, 1), (1, .istore_n 1, 1, 2), (2, .iconst 4, 1, 3), (3, .istore_n 2, 1, 4), (4, .iload_n 2, 1, 5), (5, .ifCond .lt 21, 3, 8), (8, .bipush 8, 2, 10), (10, .iload_n 1, 1, 11), (11, .imul, 1, 12), (12, .aload_n 0, 1, 13), (13, .getfield 32, 3, 16), (16, .iload_n 2, 1, 17), (17, .iaload, 1, 18), (18, .iadd, 1, 19), (19, .istore_n 1, 1, 20), (20, .iinc 2 (-1), 3, 23), (23, .goto (-19), 3, 26), (26, .iload_n 1, 1, 27), (27, .ireturn, 1, 28)]
theorem D_M_number : Dec b_M_number T_M_number := Dec.of (by decide +kernel)
def T_M_value : DT := [(0, .iload_n 1, 1, 1), (1, .aload_n 0, 1, 2), (2, .getfield 62, 3, 5), (5, .invokestatic 66, 3, 8), (8, .ifCond .eq 12, 3, 11), (11, .iload_n 2, 1, 12), (12, .ldc 120, 2, 14), (14, .invokestatic 66, 3, 17), (17, .ifCond .ne 5, 3, 20), (20, .iconst (-1), 1, 21), (21, .ireturn, 1, 22), (22, .aload_n 0, 1, 23), (23, .iload_n 2, 1, 24), (24, .invokevirtual 121, 3, 27), (27, .aload_n 0, 1, 28), (28, .iload_n 1, 1, 29), (29, .invokevirtual 81, 3, 32), (32, .ireturn, 1, 33)]
theorem D_M_value : Dec b_M_value T_M_value := Dec.of (by decide +kernel)
end
section
/-! LINKS, printed by gen/links.py -/
theorem f_AL_9 : FLk "java/util/ArrayList" 9 1 0 "java/util/ArrayList" F_AL 3 t_AL := ⟨k_AL, by decide, "java/util/ArrayList", Or.inl (g1 55 rfl rfl), Or.inl rfl⟩
theorem f_AL_48 : FLk "java/util/ArrayList" 48 1 1 "java/util/ArrayList" F_AL 3 t_AL := ⟨k_AL, by decide, "java/util/ArrayList", Or.inl (g1 56 rfl rfl), Or.inl rfl⟩
theorem f_ABL_7 : FLk "java/util/AbstractList" 7 1 2 "java/util/ArrayList" F_AL 3 t_AL := ⟨k_AL, by decide, "java/util/AbstractList", Or.inl (g1 57 rfl rfl), Or.inl rfl⟩
theorem f_AL_63 : FLk "java/util/ArrayList" 63 1 2 "java/util/ArrayList" F_AL 3 t_AL := ⟨k_AL, by decide, "java/util/ArrayList", Or.inl (g1 58 rfl rfl), Or.inr (g1 59 rfl rfl)⟩
theorem f_Circuit_9 : FLk "LoopProver$Circuit" 9 2 0 "LoopProver$Circuit" F_Circuit 12 t_Circuit := ⟨k_Circuit, by decide, "LoopProver$Circuit", Or.inl (g1 75 rfl rfl), Or.inl rfl⟩
theorem f_Circuit_15 : FLk "LoopProver$Circuit" 15 2 1 "LoopProver$Circuit" F_Circuit 12 t_Circuit := ⟨k_Circuit, by decide, "LoopProver$Circuit", Or.inl (g1 78 rfl rfl), Or.inl rfl⟩
theorem f_Circuit_39 : FLk "LoopProver$Circuit" 39 2 2 "LoopProver$Circuit" F_Circuit 12 t_Circuit := ⟨k_Circuit, by decide, "LoopProver$Circuit", Or.inl (g1 81 rfl rfl), Or.inl rfl⟩
theorem f_Circuit_43 : FLk "LoopProver$Circuit" 43 2 3 "LoopProver$Circuit" F_Circuit 12 t_Circuit := ⟨k_Circuit, by decide, "LoopProver$Circuit", Or.inl (g1 82 rfl rfl), Or.inl rfl⟩
theorem f_Circuit_46 : FLk "LoopProver$Circuit" 46 2 4 "LoopProver$Circuit" F_Circuit 12 t_Circuit := ⟨k_Circuit, by decide, "LoopProver$Circuit", Or.inl (g1 85 rfl rfl), Or.inl rfl⟩
theorem f_Circuit_18 : FLk "LoopProver$Circuit" 18 2 5 "LoopProver$Circuit" F_Circuit 12 t_Circuit := ⟨k_Circuit, by decide, "LoopProver$Circuit", Or.inl (g1 88 rfl rfl), Or.inl rfl⟩
theorem f_Circuit_21 : FLk "LoopProver$Circuit" 21 2 6 "LoopProver$Circuit" F_Circuit 12 t_Circuit := ⟨k_Circuit, by decide, "LoopProver$Circuit", Or.inl (g1 90 rfl rfl), Or.inl rfl⟩
theorem f_Circuit_24 : FLk "LoopProver$Circuit" 24 2 7 "LoopProver$Circuit" F_Circuit 12 t_Circuit := ⟨k_Circuit, by decide, "LoopProver$Circuit", Or.inl (g1 92 rfl rfl), Or.inl rfl⟩
theorem f_Circuit_27 : FLk "LoopProver$Circuit" 27 2 8 "LoopProver$Circuit" F_Circuit 12 t_Circuit := ⟨k_Circuit, by decide, "LoopProver$Circuit", Or.inl (g1 94 rfl rfl), Or.inl rfl⟩
theorem f_Circuit_30 : FLk "LoopProver$Circuit" 30 2 9 "LoopProver$Circuit" F_Circuit 12 t_Circuit := ⟨k_Circuit, by decide, "LoopProver$Circuit", Or.inl (g1 95 rfl rfl), Or.inl rfl⟩
theorem f_Circuit_33 : FLk "LoopProver$Circuit" 33 2 10 "LoopProver$Circuit" F_Circuit 12 t_Circuit := ⟨k_Circuit, by decide, "LoopProver$Circuit", Or.inl (g1 96 rfl rfl), Or.inl rfl⟩
theorem f_Circuit_36 : FLk "LoopProver$Circuit" 36 2 11 "LoopProver$Circuit" F_Circuit 12 t_Circuit := ⟨k_Circuit, by decide, "LoopProver$Circuit", Or.inl (g1 97 rfl rfl), Or.inl rfl⟩
theorem f_Circuit_36F : ∃ ref, Cond.fieldLink "LoopProver$Circuit" 36 ref (F_Circuit 11).2.1 (F_Circuit 11).2.2.1 ∈ tblG ∧ ref = (F_Circuit 11).1 := ⟨"LoopProver$Circuit", (g1 97 rfl rfl), rfl⟩
theorem f_Checker_9 : FLk "LoopProver$Checker" 9 4 0 "LoopProver$Checker" F_Checker 3 t_Checker := ⟨k_Checker, by decide, "LoopProver$Checker", Or.inl (g1 132 rfl rfl), Or.inl rfl⟩
theorem f_Checker_15 : FLk "LoopProver$Checker" 15 4 1 "LoopProver$Checker" F_Checker 3 t_Checker := ⟨k_Checker, by decide, "LoopProver$Checker", Or.inl (g1 133 rfl rfl), Or.inl rfl⟩
theorem f_Checker_18 : FLk "LoopProver$Checker" 18 4 2 "LoopProver$Checker" F_Checker 3 t_Checker := ⟨k_Checker, by decide, "LoopProver$Checker", Or.inl (g1 134 rfl rfl), Or.inl rfl⟩
theorem f_Solver_37 : FLk "LoopProver$Solver" 37 3 0 "LoopProver$Solver" F_Solver 17 t_Solver := ⟨k_Solver, by decide, "LoopProver$Solver", Or.inl (g1 146 rfl rfl), Or.inl rfl⟩
theorem f_Solver_37F : ∃ ref, Cond.fieldLink "LoopProver$Solver" 37 ref (F_Solver 0).2.1 (F_Solver 0).2.2.1 ∈ tblG ∧ ref = (F_Solver 0).1 := ⟨"LoopProver$Solver", (g1 146 rfl rfl), rfl⟩
theorem f_Solver_41 : FLk "LoopProver$Solver" 41 3 1 "LoopProver$Solver" F_Solver 17 t_Solver := ⟨k_Solver, by decide, "LoopProver$Solver", Or.inl (g1 147 rfl rfl), Or.inl rfl⟩
theorem f_Solver_51 : FLk "LoopProver$Solver" 51 3 2 "LoopProver$Solver" F_Solver 17 t_Solver := ⟨k_Solver, by decide, "LoopProver$Solver", Or.inl (g1 148 rfl rfl), Or.inl rfl⟩
theorem f_Solver_9 : FLk "LoopProver$Solver" 9 3 3 "LoopProver$Solver" F_Solver 17 t_Solver := ⟨k_Solver, by decide, "LoopProver$Solver", Or.inl (g1 149 rfl rfl), Or.inl rfl⟩
theorem f_Solver_15 : FLk "LoopProver$Solver" 15 3 4 "LoopProver$Solver" F_Solver 17 t_Solver := ⟨k_Solver, by decide, "LoopProver$Solver", Or.inl (g1 151 rfl rfl), Or.inl rfl⟩
theorem f_Solver_18 : FLk "LoopProver$Solver" 18 3 5 "LoopProver$Solver" F_Solver 17 t_Solver := ⟨k_Solver, by decide, "LoopProver$Solver", Or.inl (g1 152 rfl rfl), Or.inl rfl⟩
theorem f_Solver_21 : FLk "LoopProver$Solver" 21 3 6 "LoopProver$Solver" F_Solver 17 t_Solver := ⟨k_Solver, by decide, "LoopProver$Solver", Or.inl (g1 153 rfl rfl), Or.inl rfl⟩
theorem f_Solver_57 : FLk "LoopProver$Solver" 57 3 7 "LoopProver$Solver" F_Solver 17 t_Solver := ⟨k_Solver, by decide, "LoopProver$Solver", Or.inl (g1 154 rfl rfl), Or.inl rfl⟩
theorem f_Solver_60 : FLk "LoopProver$Solver" 60 3 8 "LoopProver$Solver" F_Solver 17 t_Solver := ⟨k_Solver, by decide, "LoopProver$Solver", Or.inl (g1 155 rfl rfl), Or.inl rfl⟩
theorem f_Solver_24 : FLk "LoopProver$Solver" 24 3 9 "LoopProver$Solver" F_Solver 17 t_Solver := ⟨k_Solver, by decide, "LoopProver$Solver", Or.inl (g1 156 rfl rfl), Or.inl rfl⟩
theorem f_Solver_28 : FLk "LoopProver$Solver" 28 3 10 "LoopProver$Solver" F_Solver 17 t_Solver := ⟨k_Solver, by decide, "LoopProver$Solver", Or.inl (g1 157 rfl rfl), Or.inl rfl⟩
theorem f_Solver_28F : ∃ ref, Cond.fieldLink "LoopProver$Solver" 28 ref (F_Solver 10).2.1 (F_Solver 10).2.2.1 ∈ tblG ∧ ref = (F_Solver 10).1 := ⟨"LoopProver$Solver", (g1 157 rfl rfl), rfl⟩
theorem f_Solver_63 : FLk "LoopProver$Solver" 63 3 11 "LoopProver$Solver" F_Solver 17 t_Solver := ⟨k_Solver, by decide, "LoopProver$Solver", Or.inl (g1 158 rfl rfl), Or.inl rfl⟩
theorem f_Solver_31 : FLk "LoopProver$Solver" 31 3 12 "LoopProver$Solver" F_Solver 17 t_Solver := ⟨k_Solver, by decide, "LoopProver$Solver", Or.inl (g1 159 rfl rfl), Or.inl rfl⟩
theorem f_Solver_31F : ∃ ref, Cond.fieldLink "LoopProver$Solver" 31 ref (F_Solver 12).2.1 (F_Solver 12).2.2.1 ∈ tblG ∧ ref = (F_Solver 12).1 := ⟨"LoopProver$Solver", (g1 159 rfl rfl), rfl⟩
theorem f_Solver_104 : FLk "LoopProver$Solver" 104 3 13 "LoopProver$Solver" F_Solver 17 t_Solver := ⟨k_Solver, by decide, "LoopProver$Solver", Or.inl (g1 160 rfl rfl), Or.inl rfl⟩
theorem f_Solver_34 : FLk "LoopProver$Solver" 34 3 14 "LoopProver$Solver" F_Solver 17 t_Solver := ⟨k_Solver, by decide, "LoopProver$Solver", Or.inl (g1 161 rfl rfl), Or.inl rfl⟩
theorem f_Solver_97 : FLk "LoopProver$Solver" 97 3 15 "LoopProver$Solver" F_Solver 17 t_Solver := ⟨k_Solver, by decide, "LoopProver$Solver", Or.inl (g1 162 rfl rfl), Or.inl rfl⟩
theorem f_Solver_66 : FLk "LoopProver$Solver" 66 3 16 "LoopProver$Solver" F_Solver 17 t_Solver := ⟨k_Solver, by decide, "LoopProver$Solver", Or.inl (g1 163 rfl rfl), Or.inl rfl⟩
theorem f_Flow_9 : FLk "LoopProver$Flow" 9 5 0 "LoopProver$Flow" F_Flow 3 t_Flow := ⟨k_Flow, by decide, "LoopProver$Flow", Or.inl (g1 207 rfl rfl), Or.inl rfl⟩
theorem f_Flow_9F : ∃ ref, Cond.fieldLink "LoopProver$Flow" 9 ref (F_Flow 0).2.1 (F_Flow 0).2.2.1 ∈ tblG ∧ ref = (F_Flow 0).1 := ⟨"LoopProver$Flow", (g1 207 rfl rfl), rfl⟩
theorem f_Flow_21 : FLk "LoopProver$Flow" 21 5 1 "LoopProver$Flow" F_Flow 3 t_Flow := ⟨k_Flow, by decide, "LoopProver$Flow", Or.inl (g1 209 rfl rfl), Or.inl rfl⟩
theorem f_Flow_25 : FLk "LoopProver$Flow" 25 5 2 "LoopProver$Flow" F_Flow 3 t_Flow := ⟨k_Flow, by decide, "LoopProver$Flow", Or.inl (g1 211 rfl rfl), Or.inl rfl⟩
theorem f_P_14 : FLk "LoopProver" 14 0 0 "LoopProver" F_P 15 t_P := ⟨k_P, by decide, "LoopProver", Or.inl (g1 221 rfl rfl), Or.inl rfl⟩
theorem f_P_14F : ∃ ref, Cond.fieldLink "LoopProver" 14 ref (F_P 0).2.1 (F_P 0).2.2.1 ∈ tblG ∧ ref = (F_P 0).1 := ⟨"LoopProver", (g1 221 rfl rfl), rfl⟩
theorem f_P_18 : FLk "LoopProver" 18 0 1 "LoopProver" F_P 15 t_P := ⟨k_P, by decide, "LoopProver", Or.inl (g1 222 rfl rfl), Or.inl rfl⟩
theorem f_P_18F : ∃ ref, Cond.fieldLink "LoopProver" 18 ref (F_P 1).2.1 (F_P 1).2.2.1 ∈ tblG ∧ ref = (F_P 1).1 := ⟨"LoopProver", (g1 222 rfl rfl), rfl⟩
theorem f_P_21 : FLk "LoopProver" 21 0 2 "LoopProver" F_P 15 t_P := ⟨k_P, by decide, "LoopProver", Or.inl (g1 223 rfl rfl), Or.inl rfl⟩
theorem f_P_21F : ∃ ref, Cond.fieldLink "LoopProver" 21 ref (F_P 2).2.1 (F_P 2).2.2.1 ∈ tblG ∧ ref = (F_P 2).1 := ⟨"LoopProver", (g1 223 rfl rfl), rfl⟩
theorem f_P_173 : FLk "LoopProver" 173 0 3 "LoopProver" F_P 15 t_P := ⟨k_P, by decide, "LoopProver", Or.inl (g1 224 rfl rfl), Or.inl rfl⟩
theorem f_P_144 : FLk "LoopProver" 144 0 4 "LoopProver" F_P 15 t_P := ⟨k_P, by decide, "LoopProver", Or.inl (g1 225 rfl rfl), Or.inl rfl⟩
theorem f_P_27 : FLk "LoopProver" 27 0 5 "LoopProver" F_P 15 t_P := ⟨k_P, by decide, "LoopProver", Or.inl (g1 226 rfl rfl), Or.inl rfl⟩
theorem f_P_27F : ∃ ref, Cond.fieldLink "LoopProver" 27 ref (F_P 5).2.1 (F_P 5).2.2.1 ∈ tblG ∧ ref = (F_P 5).1 := ⟨"LoopProver", (g1 226 rfl rfl), rfl⟩
theorem f_P_295 : FLk "LoopProver" 295 0 6 "LoopProver" F_P 15 t_P := ⟨k_P, by decide, "LoopProver", Or.inl (g1 227 rfl rfl), Or.inl rfl⟩
theorem f_P_34 : FLk "LoopProver" 34 0 7 "LoopProver" F_P 15 t_P := ⟨k_P, by decide, "LoopProver", Or.inl (g1 228 rfl rfl), Or.inl rfl⟩
theorem f_P_34F : ∃ ref, Cond.fieldLink "LoopProver" 34 ref (F_P 7).2.1 (F_P 7).2.2.1 ∈ tblG ∧ ref = (F_P 7).1 := ⟨"LoopProver", (g1 228 rfl rfl), rfl⟩
theorem f_P_46 : FLk "LoopProver" 46 0 8 "LoopProver" F_P 15 t_P := ⟨k_P, by decide, "LoopProver", Or.inl (g1 229 rfl rfl), Or.inl rfl⟩
theorem f_P_46F : ∃ ref, Cond.fieldLink "LoopProver" 46 ref (F_P 8).2.1 (F_P 8).2.2.1 ∈ tblG ∧ ref = (F_P 8).1 := ⟨"LoopProver", (g1 229 rfl rfl), rfl⟩
theorem f_P_53 : FLk "LoopProver" 53 0 9 "LoopProver" F_P 15 t_P := ⟨k_P, by decide, "LoopProver", Or.inl (g1 230 rfl rfl), Or.inl rfl⟩
theorem f_P_53F : ∃ ref, Cond.fieldLink "LoopProver" 53 ref (F_P 9).2.1 (F_P 9).2.2.1 ∈ tblG ∧ ref = (F_P 9).1 := ⟨"LoopProver", (g1 230 rfl rfl), rfl⟩
theorem f_P_57 : FLk "LoopProver" 57 0 10 "LoopProver" F_P 15 t_P := ⟨k_P, by decide, "LoopProver", Or.inl (g1 231 rfl rfl), Or.inl rfl⟩
theorem f_P_57F : ∃ ref, Cond.fieldLink "LoopProver" 57 ref (F_P 10).2.1 (F_P 10).2.2.1 ∈ tblG ∧ ref = (F_P 10).1 := ⟨"LoopProver", (g1 231 rfl rfl), rfl⟩
theorem f_P_61 : FLk "LoopProver" 61 0 11 "LoopProver" F_P 15 t_P := ⟨k_P, by decide, "LoopProver", Or.inl (g1 232 rfl rfl), Or.inl rfl⟩
theorem f_P_61F : ∃ ref, Cond.fieldLink "LoopProver" 61 ref (F_P 11).2.1 (F_P 11).2.2.1 ∈ tblG ∧ ref = (F_P 11).1 := ⟨"LoopProver", (g1 232 rfl rfl), rfl⟩
theorem f_P_65 : FLk "LoopProver" 65 0 12 "LoopProver" F_P 15 t_P := ⟨k_P, by decide, "LoopProver", Or.inl (g1 233 rfl rfl), Or.inl rfl⟩
theorem f_P_65F : ∃ ref, Cond.fieldLink "LoopProver" 65 ref (F_P 12).2.1 (F_P 12).2.2.1 ∈ tblG ∧ ref = (F_P 12).1 := ⟨"LoopProver", (g1 233 rfl rfl), rfl⟩
theorem f_P_68 : FLk "LoopProver" 68 0 13 "LoopProver" F_P 15 t_P := ⟨k_P, by decide, "LoopProver", Or.inl (g1 234 rfl rfl), Or.inl rfl⟩
theorem f_P_68F : ∃ ref, Cond.fieldLink "LoopProver" 68 ref (F_P 13).2.1 (F_P 13).2.2.1 ∈ tblG ∧ ref = (F_P 13).1 := ⟨"LoopProver", (g1 234 rfl rfl), rfl⟩
theorem f_P_71 : FLk "LoopProver" 71 0 14 "LoopProver" F_P 15 t_P := ⟨k_P, by decide, "LoopProver", Or.inl (g1 235 rfl rfl), Or.inl rfl⟩
theorem f_P_71F : ∃ ref, Cond.fieldLink "LoopProver" 71 ref (F_P 14).2.1 (F_P 14).2.2.1 ∈ tblG ∧ ref = (F_P 14).1 := ⟨"LoopProver", (g1 235 rfl rfl), rfl⟩
theorem f_Constant_9 : FLk "LoopProver$Constant" 9 9 3 "LoopProver$Constant" F_Constant 4 t_Constant := ⟨k_Constant, by decide, "LoopProver$Constant", Or.inl (g2 90 rfl rfl), Or.inl rfl⟩
theorem f_Constant_9F : ∃ ref, Cond.fieldLink "LoopProver$Constant" 9 ref (F_Constant 3).2.1 (F_Constant 3).2.2.1 ∈ tblG ∧ ref = (F_Constant 3).1 := ⟨"LoopProver$Constant", (g2 90 rfl rfl), rfl⟩
theorem f_Node_7_Constant : FLk "LoopProver$Node" 7 9 0 "LoopProver$Constant" F_Constant 4 t_Constant := ⟨k_Constant, by decide, "LoopProver$Node", Or.inl (g2 91 rfl rfl), Or.inl rfl⟩
theorem f_Node_7_ConstantF : ∃ ref, Cond.fieldLink "LoopProver$Node" 7 ref (F_Constant 0).2.1 (F_Constant 0).2.2.1 ∈ tblG ∧ ref = (F_Constant 0).1 := ⟨"LoopProver$Node", (g2 91 rfl rfl), rfl⟩
theorem f_Node_7_Variable : FLk "LoopProver$Node" 7 10 0 "LoopProver$Variable" F_Variable 4 t_Variable := ⟨k_Variable, by decide, "LoopProver$Node", Or.inl (g2 91 rfl rfl), Or.inl rfl⟩
theorem f_Node_7_VariableF : ∃ ref, Cond.fieldLink "LoopProver$Node" 7 ref (F_Variable 0).2.1 (F_Variable 0).2.2.1 ∈ tblG ∧ ref = (F_Variable 0).1 := ⟨"LoopProver$Node", (g2 91 rfl rfl), rfl⟩
theorem f_Node_7_Read : FLk "LoopProver$Node" 7 11 0 "LoopProver$Read" F_Read 3 t_Read := ⟨k_Read, by decide, "LoopProver$Node", Or.inl (g2 91 rfl rfl), Or.inl rfl⟩
theorem f_Node_7_ReadF : ∃ ref, Cond.fieldLink "LoopProver$Node" 7 ref (F_Read 0).2.1 (F_Read 0).2.2.1 ∈ tblG ∧ ref = (F_Read 0).1 := ⟨"LoopProver$Node", (g2 91 rfl rfl), rfl⟩
theorem f_Node_7_Sum : FLk "LoopProver$Node" 7 12 0 "LoopProver$Sum" F_Sum 4 t_Sum := ⟨k_Sum, by decide, "LoopProver$Node", Or.inl (g2 91 rfl rfl), Or.inl rfl⟩
theorem f_Node_7_SumF : ∃ ref, Cond.fieldLink "LoopProver$Node" 7 ref (F_Sum 0).2.1 (F_Sum 0).2.2.1 ∈ tblG ∧ ref = (F_Sum 0).1 := ⟨"LoopProver$Node", (g2 91 rfl rfl), rfl⟩
theorem f_Node_7_Meet : FLk "LoopProver$Node" 7 13 0 "LoopProver$Meet" F_Meet 3 t_Meet := ⟨k_Meet, by decide, "LoopProver$Node", Or.inl (g2 91 rfl rfl), Or.inl rfl⟩
theorem f_Node_7_MeetF : ∃ ref, Cond.fieldLink "LoopProver$Node" 7 ref (F_Meet 0).2.1 (F_Meet 0).2.2.1 ∈ tblG ∧ ref = (F_Meet 0).1 := ⟨"LoopProver$Node", (g2 91 rfl rfl), rfl⟩
theorem f_Node_7_Below : FLk "LoopProver$Node" 7 14 0 "LoopProver$Below" F_Below 3 t_Below := ⟨k_Below, by decide, "LoopProver$Node", Or.inl (g2 91 rfl rfl), Or.inl rfl⟩
theorem f_Node_7_BelowF : ∃ ref, Cond.fieldLink "LoopProver$Node" 7 ref (F_Below 0).2.1 (F_Below 0).2.2.1 ∈ tblG ∧ ref = (F_Below 0).1 := ⟨"LoopProver$Node", (g2 91 rfl rfl), rfl⟩
theorem f_Node_7_Same : FLk "LoopProver$Node" 7 15 0 "LoopProver$Same" F_Same 3 t_Same := ⟨k_Same, by decide, "LoopProver$Node", Or.inl (g2 91 rfl rfl), Or.inl rfl⟩
theorem f_Node_7_SameF : ∃ ref, Cond.fieldLink "LoopProver$Node" 7 ref (F_Same 0).2.1 (F_Same 0).2.2.1 ∈ tblG ∧ ref = (F_Same 0).1 := ⟨"LoopProver$Node", (g2 91 rfl rfl), rfl⟩
theorem f_Node_7_Not : FLk "LoopProver$Node" 7 16 0 "LoopProver$Not" F_Not 3 t_Not := ⟨k_Not, by decide, "LoopProver$Node", Or.inl (g2 91 rfl rfl), Or.inl rfl⟩
theorem f_Node_7_NotF : ∃ ref, Cond.fieldLink "LoopProver$Node" 7 ref (F_Not 0).2.1 (F_Not 0).2.2.1 ∈ tblG ∧ ref = (F_Not 0).1 := ⟨"LoopProver$Node", (g2 91 rfl rfl), rfl⟩
theorem f_Node_7_Both : FLk "LoopProver$Node" 7 17 0 "LoopProver$Both" F_Both 3 t_Both := ⟨k_Both, by decide, "LoopProver$Node", Or.inl (g2 91 rfl rfl), Or.inl rfl⟩
theorem f_Node_7_BothF : ∃ ref, Cond.fieldLink "LoopProver$Node" 7 ref (F_Both 0).2.1 (F_Both 0).2.2.1 ∈ tblG ∧ ref = (F_Both 0).1 := ⟨"LoopProver$Node", (g2 91 rfl rfl), rfl⟩
theorem f_Both_18 : FLk "LoopProver$Both" 18 17 0 "LoopProver$Both" F_Both 3 t_Both := ⟨k_Both, by decide, "LoopProver$Both", Or.inl (g2 92 rfl rfl), Or.inr (g2 93 rfl rfl)⟩
theorem f_Not_15 : FLk "LoopProver$Not" 15 16 0 "LoopProver$Not" F_Not 3 t_Not := ⟨k_Not, by decide, "LoopProver$Not", Or.inl (g2 94 rfl rfl), Or.inr (g2 95 rfl rfl)⟩
theorem f_Variable_15 : FLk "LoopProver$Variable" 15 10 0 "LoopProver$Variable" F_Variable 4 t_Variable := ⟨k_Variable, by decide, "LoopProver$Variable", Or.inl (g2 96 rfl rfl), Or.inr (g2 97 rfl rfl)⟩
theorem f_Constant_15 : FLk "LoopProver$Constant" 15 9 0 "LoopProver$Constant" F_Constant 4 t_Constant := ⟨k_Constant, by decide, "LoopProver$Constant", Or.inl (g2 98 rfl rfl), Or.inr (g2 99 rfl rfl)⟩
theorem f_Meet_18 : FLk "LoopProver$Meet" 18 13 0 "LoopProver$Meet" F_Meet 3 t_Meet := ⟨k_Meet, by decide, "LoopProver$Meet", Or.inl (g2 100 rfl rfl), Or.inr (g2 101 rfl rfl)⟩
theorem f_Read_15 : FLk "LoopProver$Read" 15 11 0 "LoopProver$Read" F_Read 3 t_Read := ⟨k_Read, by decide, "LoopProver$Read", Or.inl (g2 102 rfl rfl), Or.inr (g2 103 rfl rfl)⟩
theorem f_Same_27 : FLk "LoopProver$Same" 27 15 0 "LoopProver$Same" F_Same 3 t_Same := ⟨k_Same, by decide, "LoopProver$Same", Or.inl (g2 104 rfl rfl), Or.inr (g2 105 rfl rfl)⟩
theorem f_Below_28 : FLk "LoopProver$Below" 28 14 0 "LoopProver$Below" F_Below 3 t_Below := ⟨k_Below, by decide, "LoopProver$Below", Or.inl (g2 106 rfl rfl), Or.inr (g2 107 rfl rfl)⟩
theorem f_Sum_28 : FLk "LoopProver$Sum" 28 12 0 "LoopProver$Sum" F_Sum 4 t_Sum := ⟨k_Sum, by decide, "LoopProver$Sum", Or.inl (g2 108 rfl rfl), Or.inr (g2 109 rfl rfl)⟩
theorem f_P_218_Constant : FLk "LoopProver" 218 9 0 "LoopProver$Constant" F_Constant 4 t_Constant := ⟨k_Constant, by decide, "LoopProver$Node", Or.inl (g2 110 rfl rfl), Or.inl rfl⟩
theorem f_P_218_Variable : FLk "LoopProver" 218 10 0 "LoopProver$Variable" F_Variable 4 t_Variable := ⟨k_Variable, by decide, "LoopProver$Node", Or.inl (g2 110 rfl rfl), Or.inl rfl⟩
theorem f_P_218_Read : FLk "LoopProver" 218 11 0 "LoopProver$Read" F_Read 3 t_Read := ⟨k_Read, by decide, "LoopProver$Node", Or.inl (g2 110 rfl rfl), Or.inl rfl⟩
theorem f_P_218_Sum : FLk "LoopProver" 218 12 0 "LoopProver$Sum" F_Sum 4 t_Sum := ⟨k_Sum, by decide, "LoopProver$Node", Or.inl (g2 110 rfl rfl), Or.inl rfl⟩
theorem f_P_218_Meet : FLk "LoopProver" 218 13 0 "LoopProver$Meet" F_Meet 3 t_Meet := ⟨k_Meet, by decide, "LoopProver$Node", Or.inl (g2 110 rfl rfl), Or.inl rfl⟩
theorem f_P_218_Below : FLk "LoopProver" 218 14 0 "LoopProver$Below" F_Below 3 t_Below := ⟨k_Below, by decide, "LoopProver$Node", Or.inl (g2 110 rfl rfl), Or.inl rfl⟩
theorem f_P_218_Same : FLk "LoopProver" 218 15 0 "LoopProver$Same" F_Same 3 t_Same := ⟨k_Same, by decide, "LoopProver$Node", Or.inl (g2 110 rfl rfl), Or.inl rfl⟩
theorem f_P_218_Not : FLk "LoopProver" 218 16 0 "LoopProver$Not" F_Not 3 t_Not := ⟨k_Not, by decide, "LoopProver$Node", Or.inl (g2 110 rfl rfl), Or.inl rfl⟩
theorem f_P_218_Both : FLk "LoopProver" 218 17 0 "LoopProver$Both" F_Both 3 t_Both := ⟨k_Both, by decide, "LoopProver$Node", Or.inl (g2 110 rfl rfl), Or.inl rfl⟩
theorem f_Node_13_Constant : FLk "LoopProver$Node" 13 9 1 "LoopProver$Constant" F_Constant 4 t_Constant := ⟨k_Constant, by decide, "LoopProver$Node", Or.inl (g2 111 rfl rfl), Or.inl rfl⟩
theorem f_Node_13_ConstantF : ∃ ref, Cond.fieldLink "LoopProver$Node" 13 ref (F_Constant 1).2.1 (F_Constant 1).2.2.1 ∈ tblG ∧ ref = (F_Constant 1).1 := ⟨"LoopProver$Node", (g2 111 rfl rfl), rfl⟩
theorem f_Node_13_Variable : FLk "LoopProver$Node" 13 10 1 "LoopProver$Variable" F_Variable 4 t_Variable := ⟨k_Variable, by decide, "LoopProver$Node", Or.inl (g2 111 rfl rfl), Or.inl rfl⟩
theorem f_Node_13_VariableF : ∃ ref, Cond.fieldLink "LoopProver$Node" 13 ref (F_Variable 1).2.1 (F_Variable 1).2.2.1 ∈ tblG ∧ ref = (F_Variable 1).1 := ⟨"LoopProver$Node", (g2 111 rfl rfl), rfl⟩
theorem f_Node_13_Read : FLk "LoopProver$Node" 13 11 1 "LoopProver$Read" F_Read 3 t_Read := ⟨k_Read, by decide, "LoopProver$Node", Or.inl (g2 111 rfl rfl), Or.inl rfl⟩
theorem f_Node_13_ReadF : ∃ ref, Cond.fieldLink "LoopProver$Node" 13 ref (F_Read 1).2.1 (F_Read 1).2.2.1 ∈ tblG ∧ ref = (F_Read 1).1 := ⟨"LoopProver$Node", (g2 111 rfl rfl), rfl⟩
theorem f_Node_13_Sum : FLk "LoopProver$Node" 13 12 1 "LoopProver$Sum" F_Sum 4 t_Sum := ⟨k_Sum, by decide, "LoopProver$Node", Or.inl (g2 111 rfl rfl), Or.inl rfl⟩
theorem f_Node_13_SumF : ∃ ref, Cond.fieldLink "LoopProver$Node" 13 ref (F_Sum 1).2.1 (F_Sum 1).2.2.1 ∈ tblG ∧ ref = (F_Sum 1).1 := ⟨"LoopProver$Node", (g2 111 rfl rfl), rfl⟩
theorem f_Node_13_Meet : FLk "LoopProver$Node" 13 13 1 "LoopProver$Meet" F_Meet 3 t_Meet := ⟨k_Meet, by decide, "LoopProver$Node", Or.inl (g2 111 rfl rfl), Or.inl rfl⟩
theorem f_Node_13_MeetF : ∃ ref, Cond.fieldLink "LoopProver$Node" 13 ref (F_Meet 1).2.1 (F_Meet 1).2.2.1 ∈ tblG ∧ ref = (F_Meet 1).1 := ⟨"LoopProver$Node", (g2 111 rfl rfl), rfl⟩
theorem f_Node_13_Below : FLk "LoopProver$Node" 13 14 1 "LoopProver$Below" F_Below 3 t_Below := ⟨k_Below, by decide, "LoopProver$Node", Or.inl (g2 111 rfl rfl), Or.inl rfl⟩
theorem f_Node_13_BelowF : ∃ ref, Cond.fieldLink "LoopProver$Node" 13 ref (F_Below 1).2.1 (F_Below 1).2.2.1 ∈ tblG ∧ ref = (F_Below 1).1 := ⟨"LoopProver$Node", (g2 111 rfl rfl), rfl⟩
theorem f_Node_13_Same : FLk "LoopProver$Node" 13 15 1 "LoopProver$Same" F_Same 3 t_Same := ⟨k_Same, by decide, "LoopProver$Node", Or.inl (g2 111 rfl rfl), Or.inl rfl⟩
theorem f_Node_13_SameF : ∃ ref, Cond.fieldLink "LoopProver$Node" 13 ref (F_Same 1).2.1 (F_Same 1).2.2.1 ∈ tblG ∧ ref = (F_Same 1).1 := ⟨"LoopProver$Node", (g2 111 rfl rfl), rfl⟩
theorem f_Node_13_Not : FLk "LoopProver$Node" 13 16 1 "LoopProver$Not" F_Not 3 t_Not := ⟨k_Not, by decide, "LoopProver$Node", Or.inl (g2 111 rfl rfl), Or.inl rfl⟩
theorem f_Node_13_NotF : ∃ ref, Cond.fieldLink "LoopProver$Node" 13 ref (F_Not 1).2.1 (F_Not 1).2.2.1 ∈ tblG ∧ ref = (F_Not 1).1 := ⟨"LoopProver$Node", (g2 111 rfl rfl), rfl⟩
theorem f_Node_13_Both : FLk "LoopProver$Node" 13 17 1 "LoopProver$Both" F_Both 3 t_Both := ⟨k_Both, by decide, "LoopProver$Node", Or.inl (g2 111 rfl rfl), Or.inl rfl⟩
theorem f_Node_13_BothF : ∃ ref, Cond.fieldLink "LoopProver$Node" 13 ref (F_Both 1).2.1 (F_Both 1).2.2.1 ∈ tblG ∧ ref = (F_Both 1).1 := ⟨"LoopProver$Node", (g2 111 rfl rfl), rfl⟩
theorem f_Below_9 : FLk "LoopProver$Below" 9 14 1 "LoopProver$Below" F_Below 3 t_Below := ⟨k_Below, by decide, "LoopProver$Below", Or.inl (g2 112 rfl rfl), Or.inr (g2 113 rfl rfl)⟩
theorem f_Both_9 : FLk "LoopProver$Both" 9 17 1 "LoopProver$Both" F_Both 3 t_Both := ⟨k_Both, by decide, "LoopProver$Both", Or.inl (g2 114 rfl rfl), Or.inr (g2 115 rfl rfl)⟩
theorem f_Meet_9 : FLk "LoopProver$Meet" 9 13 1 "LoopProver$Meet" F_Meet 3 t_Meet := ⟨k_Meet, by decide, "LoopProver$Meet", Or.inl (g2 116 rfl rfl), Or.inr (g2 117 rfl rfl)⟩
theorem f_Same_9 : FLk "LoopProver$Same" 9 15 1 "LoopProver$Same" F_Same 3 t_Same := ⟨k_Same, by decide, "LoopProver$Same", Or.inl (g2 118 rfl rfl), Or.inr (g2 119 rfl rfl)⟩
theorem f_Not_9 : FLk "LoopProver$Not" 9 16 1 "LoopProver$Not" F_Not 3 t_Not := ⟨k_Not, by decide, "LoopProver$Not", Or.inl (g2 120 rfl rfl), Or.inr (g2 121 rfl rfl)⟩
theorem f_Read_9 : FLk "LoopProver$Read" 9 11 1 "LoopProver$Read" F_Read 3 t_Read := ⟨k_Read, by decide, "LoopProver$Read", Or.inl (g2 122 rfl rfl), Or.inr (g2 123 rfl rfl)⟩
theorem f_Sum_15 : FLk "LoopProver$Sum" 15 12 1 "LoopProver$Sum" F_Sum 4 t_Sum := ⟨k_Sum, by decide, "LoopProver$Sum", Or.inl (g2 124 rfl rfl), Or.inr (g2 125 rfl rfl)⟩
theorem f_P_212_Constant : FLk "LoopProver" 212 9 1 "LoopProver$Constant" F_Constant 4 t_Constant := ⟨k_Constant, by decide, "LoopProver$Node", Or.inl (g2 126 rfl rfl), Or.inl rfl⟩
theorem f_P_212_Variable : FLk "LoopProver" 212 10 1 "LoopProver$Variable" F_Variable 4 t_Variable := ⟨k_Variable, by decide, "LoopProver$Node", Or.inl (g2 126 rfl rfl), Or.inl rfl⟩
theorem f_P_212_Read : FLk "LoopProver" 212 11 1 "LoopProver$Read" F_Read 3 t_Read := ⟨k_Read, by decide, "LoopProver$Node", Or.inl (g2 126 rfl rfl), Or.inl rfl⟩
theorem f_P_212_Sum : FLk "LoopProver" 212 12 1 "LoopProver$Sum" F_Sum 4 t_Sum := ⟨k_Sum, by decide, "LoopProver$Node", Or.inl (g2 126 rfl rfl), Or.inl rfl⟩
theorem f_P_212_Meet : FLk "LoopProver" 212 13 1 "LoopProver$Meet" F_Meet 3 t_Meet := ⟨k_Meet, by decide, "LoopProver$Node", Or.inl (g2 126 rfl rfl), Or.inl rfl⟩
theorem f_P_212_Below : FLk "LoopProver" 212 14 1 "LoopProver$Below" F_Below 3 t_Below := ⟨k_Below, by decide, "LoopProver$Node", Or.inl (g2 126 rfl rfl), Or.inl rfl⟩
theorem f_P_212_Same : FLk "LoopProver" 212 15 1 "LoopProver$Same" F_Same 3 t_Same := ⟨k_Same, by decide, "LoopProver$Node", Or.inl (g2 126 rfl rfl), Or.inl rfl⟩
theorem f_P_212_Not : FLk "LoopProver" 212 16 1 "LoopProver$Not" F_Not 3 t_Not := ⟨k_Not, by decide, "LoopProver$Node", Or.inl (g2 126 rfl rfl), Or.inl rfl⟩
theorem f_P_212_Both : FLk "LoopProver" 212 17 1 "LoopProver$Both" F_Both 3 t_Both := ⟨k_Both, by decide, "LoopProver$Node", Or.inl (g2 126 rfl rfl), Or.inl rfl⟩
theorem f_Node_16_Constant : FLk "LoopProver$Node" 16 9 2 "LoopProver$Constant" F_Constant 4 t_Constant := ⟨k_Constant, by decide, "LoopProver$Node", Or.inl (g2 127 rfl rfl), Or.inl rfl⟩
theorem f_Node_16_ConstantF : ∃ ref, Cond.fieldLink "LoopProver$Node" 16 ref (F_Constant 2).2.1 (F_Constant 2).2.2.1 ∈ tblG ∧ ref = (F_Constant 2).1 := ⟨"LoopProver$Node", (g2 127 rfl rfl), rfl⟩
theorem f_Node_16_Variable : FLk "LoopProver$Node" 16 10 2 "LoopProver$Variable" F_Variable 4 t_Variable := ⟨k_Variable, by decide, "LoopProver$Node", Or.inl (g2 127 rfl rfl), Or.inl rfl⟩
theorem f_Node_16_VariableF : ∃ ref, Cond.fieldLink "LoopProver$Node" 16 ref (F_Variable 2).2.1 (F_Variable 2).2.2.1 ∈ tblG ∧ ref = (F_Variable 2).1 := ⟨"LoopProver$Node", (g2 127 rfl rfl), rfl⟩
theorem f_Node_16_Read : FLk "LoopProver$Node" 16 11 2 "LoopProver$Read" F_Read 3 t_Read := ⟨k_Read, by decide, "LoopProver$Node", Or.inl (g2 127 rfl rfl), Or.inl rfl⟩
theorem f_Node_16_ReadF : ∃ ref, Cond.fieldLink "LoopProver$Node" 16 ref (F_Read 2).2.1 (F_Read 2).2.2.1 ∈ tblG ∧ ref = (F_Read 2).1 := ⟨"LoopProver$Node", (g2 127 rfl rfl), rfl⟩
theorem f_Node_16_Sum : FLk "LoopProver$Node" 16 12 2 "LoopProver$Sum" F_Sum 4 t_Sum := ⟨k_Sum, by decide, "LoopProver$Node", Or.inl (g2 127 rfl rfl), Or.inl rfl⟩
theorem f_Node_16_SumF : ∃ ref, Cond.fieldLink "LoopProver$Node" 16 ref (F_Sum 2).2.1 (F_Sum 2).2.2.1 ∈ tblG ∧ ref = (F_Sum 2).1 := ⟨"LoopProver$Node", (g2 127 rfl rfl), rfl⟩
theorem f_Node_16_Meet : FLk "LoopProver$Node" 16 13 2 "LoopProver$Meet" F_Meet 3 t_Meet := ⟨k_Meet, by decide, "LoopProver$Node", Or.inl (g2 127 rfl rfl), Or.inl rfl⟩
theorem f_Node_16_MeetF : ∃ ref, Cond.fieldLink "LoopProver$Node" 16 ref (F_Meet 2).2.1 (F_Meet 2).2.2.1 ∈ tblG ∧ ref = (F_Meet 2).1 := ⟨"LoopProver$Node", (g2 127 rfl rfl), rfl⟩
theorem f_Node_16_Below : FLk "LoopProver$Node" 16 14 2 "LoopProver$Below" F_Below 3 t_Below := ⟨k_Below, by decide, "LoopProver$Node", Or.inl (g2 127 rfl rfl), Or.inl rfl⟩
theorem f_Node_16_BelowF : ∃ ref, Cond.fieldLink "LoopProver$Node" 16 ref (F_Below 2).2.1 (F_Below 2).2.2.1 ∈ tblG ∧ ref = (F_Below 2).1 := ⟨"LoopProver$Node", (g2 127 rfl rfl), rfl⟩
theorem f_Node_16_Same : FLk "LoopProver$Node" 16 15 2 "LoopProver$Same" F_Same 3 t_Same := ⟨k_Same, by decide, "LoopProver$Node", Or.inl (g2 127 rfl rfl), Or.inl rfl⟩
theorem f_Node_16_SameF : ∃ ref, Cond.fieldLink "LoopProver$Node" 16 ref (F_Same 2).2.1 (F_Same 2).2.2.1 ∈ tblG ∧ ref = (F_Same 2).1 := ⟨"LoopProver$Node", (g2 127 rfl rfl), rfl⟩
theorem f_Node_16_Not : FLk "LoopProver$Node" 16 16 2 "LoopProver$Not" F_Not 3 t_Not := ⟨k_Not, by decide, "LoopProver$Node", Or.inl (g2 127 rfl rfl), Or.inl rfl⟩
theorem f_Node_16_NotF : ∃ ref, Cond.fieldLink "LoopProver$Node" 16 ref (F_Not 2).2.1 (F_Not 2).2.2.1 ∈ tblG ∧ ref = (F_Not 2).1 := ⟨"LoopProver$Node", (g2 127 rfl rfl), rfl⟩
theorem f_Node_16_Both : FLk "LoopProver$Node" 16 17 2 "LoopProver$Both" F_Both 3 t_Both := ⟨k_Both, by decide, "LoopProver$Node", Or.inl (g2 127 rfl rfl), Or.inl rfl⟩
theorem f_Node_16_BothF : ∃ ref, Cond.fieldLink "LoopProver$Node" 16 ref (F_Both 2).2.1 (F_Both 2).2.2.1 ∈ tblG ∧ ref = (F_Both 2).1 := ⟨"LoopProver$Node", (g2 127 rfl rfl), rfl⟩
theorem f_Below_15 : FLk "LoopProver$Below" 15 14 2 "LoopProver$Below" F_Below 3 t_Below := ⟨k_Below, by decide, "LoopProver$Below", Or.inl (g2 128 rfl rfl), Or.inr (g2 129 rfl rfl)⟩
theorem f_Both_15 : FLk "LoopProver$Both" 15 17 2 "LoopProver$Both" F_Both 3 t_Both := ⟨k_Both, by decide, "LoopProver$Both", Or.inl (g2 130 rfl rfl), Or.inr (g2 131 rfl rfl)⟩
theorem f_Meet_15 : FLk "LoopProver$Meet" 15 13 2 "LoopProver$Meet" F_Meet 3 t_Meet := ⟨k_Meet, by decide, "LoopProver$Meet", Or.inl (g2 132 rfl rfl), Or.inr (g2 133 rfl rfl)⟩
theorem f_Same_15 : FLk "LoopProver$Same" 15 15 2 "LoopProver$Same" F_Same 3 t_Same := ⟨k_Same, by decide, "LoopProver$Same", Or.inl (g2 134 rfl rfl), Or.inr (g2 135 rfl rfl)⟩
theorem f_Sum_19 : FLk "LoopProver$Sum" 19 12 2 "LoopProver$Sum" F_Sum 4 t_Sum := ⟨k_Sum, by decide, "LoopProver$Sum", Or.inl (g2 136 rfl rfl), Or.inr (g2 137 rfl rfl)⟩
theorem f_P_215_Constant : FLk "LoopProver" 215 9 2 "LoopProver$Constant" F_Constant 4 t_Constant := ⟨k_Constant, by decide, "LoopProver$Node", Or.inl (g2 138 rfl rfl), Or.inl rfl⟩
theorem f_P_215_Variable : FLk "LoopProver" 215 10 2 "LoopProver$Variable" F_Variable 4 t_Variable := ⟨k_Variable, by decide, "LoopProver$Node", Or.inl (g2 138 rfl rfl), Or.inl rfl⟩
theorem f_P_215_Read : FLk "LoopProver" 215 11 2 "LoopProver$Read" F_Read 3 t_Read := ⟨k_Read, by decide, "LoopProver$Node", Or.inl (g2 138 rfl rfl), Or.inl rfl⟩
theorem f_P_215_Sum : FLk "LoopProver" 215 12 2 "LoopProver$Sum" F_Sum 4 t_Sum := ⟨k_Sum, by decide, "LoopProver$Node", Or.inl (g2 138 rfl rfl), Or.inl rfl⟩
theorem f_P_215_Meet : FLk "LoopProver" 215 13 2 "LoopProver$Meet" F_Meet 3 t_Meet := ⟨k_Meet, by decide, "LoopProver$Node", Or.inl (g2 138 rfl rfl), Or.inl rfl⟩
theorem f_P_215_Below : FLk "LoopProver" 215 14 2 "LoopProver$Below" F_Below 3 t_Below := ⟨k_Below, by decide, "LoopProver$Node", Or.inl (g2 138 rfl rfl), Or.inl rfl⟩
theorem f_P_215_Same : FLk "LoopProver" 215 15 2 "LoopProver$Same" F_Same 3 t_Same := ⟨k_Same, by decide, "LoopProver$Node", Or.inl (g2 138 rfl rfl), Or.inl rfl⟩
theorem f_P_215_Not : FLk "LoopProver" 215 16 2 "LoopProver$Not" F_Not 3 t_Not := ⟨k_Not, by decide, "LoopProver$Node", Or.inl (g2 138 rfl rfl), Or.inl rfl⟩
theorem f_P_215_Both : FLk "LoopProver" 215 17 2 "LoopProver$Both" F_Both 3 t_Both := ⟨k_Both, by decide, "LoopProver$Node", Or.inl (g2 138 rfl rfl), Or.inl rfl⟩
theorem f_Variable_9 : FLk "LoopProver$Variable" 9 10 3 "LoopProver$Variable" F_Variable 4 t_Variable := ⟨k_Variable, by decide, "LoopProver$Variable", Or.inl (g2 154 rfl rfl), Or.inl rfl⟩
theorem f_Variable_9F : ∃ ref, Cond.fieldLink "LoopProver$Variable" 9 ref (F_Variable 3).2.1 (F_Variable 3).2.2.1 ∈ tblG ∧ ref = (F_Variable 3).1 := ⟨"LoopProver$Variable", (g2 154 rfl rfl), rfl⟩
theorem f_Sum_9 : FLk "LoopProver$Sum" 9 12 3 "LoopProver$Sum" F_Sum 4 t_Sum := ⟨k_Sum, by decide, "LoopProver$Sum", Or.inl (g2 177 rfl rfl), Or.inl rfl⟩
theorem f_Sum_9F : ∃ ref, Cond.fieldLink "LoopProver$Sum" 9 ref (F_Sum 3).2.1 (F_Sum 3).2.2.1 ∈ tblG ∧ ref = (F_Sum 3).1 := ⟨"LoopProver$Sum", (g2 177 rfl rfl), rfl⟩
theorem f_Line_21 : FLk "LoopProver$Line" 21 6 0 "LoopProver$Line" F_Line 7 t_Line := ⟨k_Line, by decide, "LoopProver$Line", Or.inl (g3 83 rfl rfl), Or.inl rfl⟩
theorem f_Line_21F : ∃ ref, Cond.fieldLink "LoopProver$Line" 21 ref (F_Line 0).2.1 (F_Line 0).2.2.1 ∈ tblG ∧ ref = (F_Line 0).1 := ⟨"LoopProver$Line", (g3 83 rfl rfl), rfl⟩
theorem f_Line_25 : FLk "LoopProver$Line" 25 6 1 "LoopProver$Line" F_Line 7 t_Line := ⟨k_Line, by decide, "LoopProver$Line", Or.inl (g3 85 rfl rfl), Or.inl rfl⟩
theorem f_Line_25F : ∃ ref, Cond.fieldLink "LoopProver$Line" 25 ref (F_Line 1).2.1 (F_Line 1).2.2.1 ∈ tblG ∧ ref = (F_Line 1).1 := ⟨"LoopProver$Line", (g3 85 rfl rfl), rfl⟩
theorem f_Line_28 : FLk "LoopProver$Line" 28 6 2 "LoopProver$Line" F_Line 7 t_Line := ⟨k_Line, by decide, "LoopProver$Line", Or.inl (g3 87 rfl rfl), Or.inl rfl⟩
theorem f_Line_28F : ∃ ref, Cond.fieldLink "LoopProver$Line" 28 ref (F_Line 2).2.1 (F_Line 2).2.2.1 ∈ tblG ∧ ref = (F_Line 2).1 := ⟨"LoopProver$Line", (g3 87 rfl rfl), rfl⟩
theorem f_Line_32 : FLk "LoopProver$Line" 32 6 3 "LoopProver$Line" F_Line 7 t_Line := ⟨k_Line, by decide, "LoopProver$Line", Or.inl (g3 89 rfl rfl), Or.inl rfl⟩
theorem f_Line_32F : ∃ ref, Cond.fieldLink "LoopProver$Line" 32 ref (F_Line 3).2.1 (F_Line 3).2.2.1 ∈ tblG ∧ ref = (F_Line 3).1 := ⟨"LoopProver$Line", (g3 89 rfl rfl), rfl⟩
theorem f_Line_9 : FLk "LoopProver$Line" 9 6 4 "LoopProver$Line" F_Line 7 t_Line := ⟨k_Line, by decide, "LoopProver$Line", Or.inl (g3 91 rfl rfl), Or.inl rfl⟩
theorem f_Line_15 : FLk "LoopProver$Line" 15 6 5 "LoopProver$Line" F_Line 7 t_Line := ⟨k_Line, by decide, "LoopProver$Line", Or.inl (g3 93 rfl rfl), Or.inl rfl⟩
theorem f_Line_18 : FLk "LoopProver$Line" 18 6 6 "LoopProver$Line" F_Line 7 t_Line := ⟨k_Line, by decide, "LoopProver$Line", Or.inl (g3 95 rfl rfl), Or.inl rfl⟩
theorem f_Verdict_9 : FLk "LoopProver$Verdict" 9 7 0 "LoopProver$Verdict" F_Verdict 3 t_Verdict := ⟨k_Verdict, by decide, "LoopProver$Verdict", Or.inl (g3 187 rfl rfl), Or.inl rfl⟩
theorem f_Verdict_15 : FLk "LoopProver$Verdict" 15 7 1 "LoopProver$Verdict" F_Verdict 3 t_Verdict := ⟨k_Verdict, by decide, "LoopProver$Verdict", Or.inl (g3 189 rfl rfl), Or.inl rfl⟩
theorem f_M_62 : FLk "LoopProverModel" 62 8 0 "LoopProverModel" F_M 24 t_M := ⟨k_M, by decide, "LoopProverModel", Or.inl (g5 8 rfl rfl), Or.inl rfl⟩
theorem f_M_7 : FLk "LoopProverModel" 7 8 1 "LoopProverModel" F_M 24 t_M := ⟨k_M, by decide, "LoopProverModel", Or.inl (g5 9 rfl rfl), Or.inl rfl⟩
theorem f_M_7F : ∃ ref, Cond.fieldLink "LoopProverModel" 7 ref (F_M 1).2.1 (F_M 1).2.2.1 ∈ tblG ∧ ref = (F_M 1).1 := ⟨"LoopProverModel", (g5 9 rfl rfl), rfl⟩
theorem f_M_13 : FLk "LoopProverModel" 13 8 2 "LoopProverModel" F_M 24 t_M := ⟨k_M, by decide, "LoopProverModel", Or.inl (g5 10 rfl rfl), Or.inl rfl⟩
theorem f_M_13F : ∃ ref, Cond.fieldLink "LoopProverModel" 13 ref (F_M 2).2.1 (F_M 2).2.2.1 ∈ tblG ∧ ref = (F_M 2).1 := ⟨"LoopProverModel", (g5 10 rfl rfl), rfl⟩
theorem f_M_16 : FLk "LoopProverModel" 16 8 3 "LoopProverModel" F_M 24 t_M := ⟨k_M, by decide, "LoopProverModel", Or.inl (g5 11 rfl rfl), Or.inl rfl⟩
theorem f_M_16F : ∃ ref, Cond.fieldLink "LoopProverModel" 16 ref (F_M 3).2.1 (F_M 3).2.2.1 ∈ tblG ∧ ref = (F_M 3).1 := ⟨"LoopProverModel", (g5 11 rfl rfl), rfl⟩
theorem f_M_19 : FLk "LoopProverModel" 19 8 4 "LoopProverModel" F_M 24 t_M := ⟨k_M, by decide, "LoopProverModel", Or.inl (g5 12 rfl rfl), Or.inl rfl⟩
theorem f_M_19F : ∃ ref, Cond.fieldLink "LoopProverModel" 19 ref (F_M 4).2.1 (F_M 4).2.2.1 ∈ tblG ∧ ref = (F_M 4).1 := ⟨"LoopProverModel", (g5 12 rfl rfl), rfl⟩
theorem f_M_23 : FLk "LoopProverModel" 23 8 5 "LoopProverModel" F_M 24 t_M := ⟨k_M, by decide, "LoopProverModel", Or.inl (g5 13 rfl rfl), Or.inl rfl⟩
theorem f_M_23F : ∃ ref, Cond.fieldLink "LoopProverModel" 23 ref (F_M 5).2.1 (F_M 5).2.2.1 ∈ tblG ∧ ref = (F_M 5).1 := ⟨"LoopProverModel", (g5 13 rfl rfl), rfl⟩
theorem f_M_26 : FLk "LoopProverModel" 26 8 6 "LoopProverModel" F_M 24 t_M := ⟨k_M, by decide, "LoopProverModel", Or.inl (g5 14 rfl rfl), Or.inl rfl⟩
theorem f_M_26F : ∃ ref, Cond.fieldLink "LoopProverModel" 26 ref (F_M 6).2.1 (F_M 6).2.2.1 ∈ tblG ∧ ref = (F_M 6).1 := ⟨"LoopProverModel", (g5 14 rfl rfl), rfl⟩
theorem f_M_29 : FLk "LoopProverModel" 29 8 7 "LoopProverModel" F_M 24 t_M := ⟨k_M, by decide, "LoopProverModel", Or.inl (g5 15 rfl rfl), Or.inl rfl⟩
theorem f_M_29F : ∃ ref, Cond.fieldLink "LoopProverModel" 29 ref (F_M 7).2.1 (F_M 7).2.2.1 ∈ tblG ∧ ref = (F_M 7).1 := ⟨"LoopProverModel", (g5 15 rfl rfl), rfl⟩
theorem f_M_32 : FLk "LoopProverModel" 32 8 8 "LoopProverModel" F_M 24 t_M := ⟨k_M, by decide, "LoopProverModel", Or.inl (g5 16 rfl rfl), Or.inl rfl⟩
theorem f_M_32F : ∃ ref, Cond.fieldLink "LoopProverModel" 32 ref (F_M 8).2.1 (F_M 8).2.2.1 ∈ tblG ∧ ref = (F_M 8).1 := ⟨"LoopProverModel", (g5 16 rfl rfl), rfl⟩
theorem f_M_85 : FLk "LoopProverModel" 85 8 9 "LoopProverModel" F_M 24 t_M := ⟨k_M, by decide, "LoopProverModel", Or.inl (g5 17 rfl rfl), Or.inl rfl⟩
theorem f_M_35 : FLk "LoopProverModel" 35 8 10 "LoopProverModel" F_M 24 t_M := ⟨k_M, by decide, "LoopProverModel", Or.inl (g5 18 rfl rfl), Or.inl rfl⟩
theorem f_M_35F : ∃ ref, Cond.fieldLink "LoopProverModel" 35 ref (F_M 10).2.1 (F_M 10).2.2.1 ∈ tblG ∧ ref = (F_M 10).1 := ⟨"LoopProverModel", (g5 18 rfl rfl), rfl⟩
theorem f_M_38 : FLk "LoopProverModel" 38 8 11 "LoopProverModel" F_M 24 t_M := ⟨k_M, by decide, "LoopProverModel", Or.inl (g5 19 rfl rfl), Or.inl rfl⟩
theorem f_M_38F : ∃ ref, Cond.fieldLink "LoopProverModel" 38 ref (F_M 11).2.1 (F_M 11).2.2.1 ∈ tblG ∧ ref = (F_M 11).1 := ⟨"LoopProverModel", (g5 19 rfl rfl), rfl⟩
theorem f_M_41 : FLk "LoopProverModel" 41 8 12 "LoopProverModel" F_M 24 t_M := ⟨k_M, by decide, "LoopProverModel", Or.inl (g5 20 rfl rfl), Or.inl rfl⟩
theorem f_M_41F : ∃ ref, Cond.fieldLink "LoopProverModel" 41 ref (F_M 12).2.1 (F_M 12).2.2.1 ∈ tblG ∧ ref = (F_M 12).1 := ⟨"LoopProverModel", (g5 20 rfl rfl), rfl⟩
theorem f_M_44 : FLk "LoopProverModel" 44 8 13 "LoopProverModel" F_M 24 t_M := ⟨k_M, by decide, "LoopProverModel", Or.inl (g5 21 rfl rfl), Or.inl rfl⟩
theorem f_M_44F : ∃ ref, Cond.fieldLink "LoopProverModel" 44 ref (F_M 13).2.1 (F_M 13).2.2.1 ∈ tblG ∧ ref = (F_M 13).1 := ⟨"LoopProverModel", (g5 21 rfl rfl), rfl⟩
theorem f_M_47 : FLk "LoopProverModel" 47 8 14 "LoopProverModel" F_M 24 t_M := ⟨k_M, by decide, "LoopProverModel", Or.inl (g5 22 rfl rfl), Or.inl rfl⟩
theorem f_M_47F : ∃ ref, Cond.fieldLink "LoopProverModel" 47 ref (F_M 14).2.1 (F_M 14).2.2.1 ∈ tblG ∧ ref = (F_M 14).1 := ⟨"LoopProverModel", (g5 22 rfl rfl), rfl⟩
theorem f_M_50 : FLk "LoopProverModel" 50 8 15 "LoopProverModel" F_M 24 t_M := ⟨k_M, by decide, "LoopProverModel", Or.inl (g5 23 rfl rfl), Or.inl rfl⟩
theorem f_M_50F : ∃ ref, Cond.fieldLink "LoopProverModel" 50 ref (F_M 15).2.1 (F_M 15).2.2.1 ∈ tblG ∧ ref = (F_M 15).1 := ⟨"LoopProverModel", (g5 23 rfl rfl), rfl⟩
theorem f_M_53 : FLk "LoopProverModel" 53 8 16 "LoopProverModel" F_M 24 t_M := ⟨k_M, by decide, "LoopProverModel", Or.inl (g5 24 rfl rfl), Or.inl rfl⟩
theorem f_M_53F : ∃ ref, Cond.fieldLink "LoopProverModel" 53 ref (F_M 16).2.1 (F_M 16).2.2.1 ∈ tblG ∧ ref = (F_M 16).1 := ⟨"LoopProverModel", (g5 24 rfl rfl), rfl⟩
theorem f_M_95 : FLk "LoopProverModel" 95 8 17 "LoopProverModel" F_M 24 t_M := ⟨k_M, by decide, "LoopProverModel", Or.inl (g5 25 rfl rfl), Or.inl rfl⟩
theorem f_M_88 : FLk "LoopProverModel" 88 8 18 "LoopProverModel" F_M 24 t_M := ⟨k_M, by decide, "LoopProverModel", Or.inl (g5 26 rfl rfl), Or.inl rfl⟩
theorem f_M_117 : FLk "LoopProverModel" 117 8 19 "LoopProverModel" F_M 24 t_M := ⟨k_M, by decide, "LoopProverModel", Or.inl (g5 27 rfl rfl), Or.inl rfl⟩
theorem f_M_56 : FLk "LoopProverModel" 56 8 20 "LoopProverModel" F_M 24 t_M := ⟨k_M, by decide, "LoopProverModel", Or.inl (g5 28 rfl rfl), Or.inl rfl⟩
theorem f_M_56F : ∃ ref, Cond.fieldLink "LoopProverModel" 56 ref (F_M 20).2.1 (F_M 20).2.2.1 ∈ tblG ∧ ref = (F_M 20).1 := ⟨"LoopProverModel", (g5 28 rfl rfl), rfl⟩
theorem f_M_59 : FLk "LoopProverModel" 59 8 21 "LoopProverModel" F_M 24 t_M := ⟨k_M, by decide, "LoopProverModel", Or.inl (g5 29 rfl rfl), Or.inl rfl⟩
theorem f_M_59F : ∃ ref, Cond.fieldLink "LoopProverModel" 59 ref (F_M 21).2.1 (F_M 21).2.2.1 ∈ tblG ∧ ref = (F_M 21).1 := ⟨"LoopProverModel", (g5 29 rfl rfl), rfl⟩
theorem f_M_114 : FLk "LoopProverModel" 114 8 22 "LoopProverModel" F_M 24 t_M := ⟨k_M, by decide, "LoopProverModel", Or.inl (g5 30 rfl rfl), Or.inl rfl⟩
theorem f_M_104 : FLk "LoopProverModel" 104 8 23 "LoopProverModel" F_M 24 t_M := ⟨k_M, by decide, "LoopProverModel", Or.inl (g5 31 rfl rfl), Or.inl rfl⟩
theorem f_Checker_31 : FLk "LoopProver$Checker" 31 2 0 "LoopProver$Circuit" F_Circuit 12 t_Circuit := ⟨k_Circuit, by decide, "LoopProver$Circuit", Or.inr ⟨"LoopProver", (List.mem_of_getElem? (i := 1) rfl)⟩, Or.inl rfl⟩
theorem f_Solver_73 : FLk "LoopProver$Solver" 73 2 0 "LoopProver$Circuit" F_Circuit 12 t_Circuit := ⟨k_Circuit, by decide, "LoopProver$Circuit", Or.inr ⟨"LoopProver", (List.mem_of_getElem? (i := 2) rfl)⟩, Or.inl rfl⟩
theorem f_Checker_28 : FLk "LoopProver$Checker" 28 2 1 "LoopProver$Circuit" F_Circuit 12 t_Circuit := ⟨k_Circuit, by decide, "LoopProver$Circuit", Or.inr ⟨"LoopProver", (List.mem_of_getElem? (i := 3) rfl)⟩, Or.inl rfl⟩
theorem f_Solver_70 : FLk "LoopProver$Solver" 70 2 1 "LoopProver$Circuit" F_Circuit 12 t_Circuit := ⟨k_Circuit, by decide, "LoopProver$Circuit", Or.inr ⟨"LoopProver", (List.mem_of_getElem? (i := 4) rfl)⟩, Or.inl rfl⟩
theorem f_Solver_45 : FLk "LoopProver$Solver" 45 2 3 "LoopProver$Circuit" F_Circuit 12 t_Circuit := ⟨k_Circuit, by decide, "LoopProver$Circuit", Or.inr ⟨"LoopProver", (List.mem_of_getElem? (i := 5) rfl)⟩, Or.inl rfl⟩
theorem f_Checker_42 : FLk "LoopProver$Checker" 42 2 3 "LoopProver$Circuit" F_Circuit 12 t_Circuit := ⟨k_Circuit, by decide, "LoopProver$Circuit", Or.inr ⟨"LoopProver", (List.mem_of_getElem? (i := 6) rfl)⟩, Or.inl rfl⟩
theorem f_Solver_54 : FLk "LoopProver$Solver" 54 2 4 "LoopProver$Circuit" F_Circuit 12 t_Circuit := ⟨k_Circuit, by decide, "LoopProver$Circuit", Or.inr ⟨"LoopProver", (List.mem_of_getElem? (i := 7) rfl)⟩, Or.inl rfl⟩
theorem f_Checker_35 : FLk "LoopProver$Checker" 35 2 4 "LoopProver$Circuit" F_Circuit 12 t_Circuit := ⟨k_Circuit, by decide, "LoopProver$Circuit", Or.inr ⟨"LoopProver", (List.mem_of_getElem? (i := 8) rfl)⟩, Or.inl rfl⟩
theorem f_Solver_83 : FLk "LoopProver$Solver" 83 2 5 "LoopProver$Circuit" F_Circuit 12 t_Circuit := ⟨k_Circuit, by decide, "LoopProver$Circuit", Or.inr ⟨"LoopProver", (List.mem_of_getElem? (i := 9) rfl)⟩, Or.inl rfl⟩
theorem f_Solver_90 : FLk "LoopProver$Solver" 90 2 6 "LoopProver$Circuit" F_Circuit 12 t_Circuit := ⟨k_Circuit, by decide, "LoopProver$Circuit", Or.inr ⟨"LoopProver", (List.mem_of_getElem? (i := 10) rfl)⟩, Or.inl rfl⟩
theorem f_Solver_80 : FLk "LoopProver$Solver" 80 2 7 "LoopProver$Circuit" F_Circuit 12 t_Circuit := ⟨k_Circuit, by decide, "LoopProver$Circuit", Or.inr ⟨"LoopProver", (List.mem_of_getElem? (i := 11) rfl)⟩, Or.inl rfl⟩
theorem f_P_320 : FLk "LoopProver" 320 3 3 "LoopProver$Solver" F_Solver 17 t_Solver := ⟨k_Solver, by decide, "LoopProver$Solver", Or.inr ⟨"LoopProver", (List.mem_of_getElem? (i := 13) rfl)⟩, Or.inl rfl⟩
theorem f_P_317 : FLk "LoopProver" 317 3 16 "LoopProver$Solver" F_Solver 17 t_Solver := ⟨k_Solver, by decide, "LoopProver$Solver", Or.inr ⟨"LoopProver", (List.mem_of_getElem? (i := 14) rfl)⟩, Or.inl rfl⟩
theorem f_P_246 : FLk "LoopProver" 246 5 0 "LoopProver$Flow" F_Flow 3 t_Flow := ⟨k_Flow, by decide, "LoopProver$Flow", Or.inr ⟨"LoopProver", (List.mem_of_getElem? (i := 16) rfl)⟩, Or.inl rfl⟩
theorem f_P_266 : FLk "LoopProver" 266 5 1 "LoopProver$Flow" F_Flow 3 t_Flow := ⟨k_Flow, by decide, "LoopProver$Flow", Or.inr ⟨"LoopProver", (List.mem_of_getElem? (i := 17) rfl)⟩, Or.inl rfl⟩
theorem f_P_292 : FLk "LoopProver" 292 5 2 "LoopProver$Flow" F_Flow 3 t_Flow := ⟨k_Flow, by decide, "LoopProver$Flow", Or.inr ⟨"LoopProver", (List.mem_of_getElem? (i := 18) rfl)⟩, Or.inl rfl⟩
theorem f_P_191 : FLk "LoopProver" 191 6 0 "LoopProver$Line" F_Line 7 t_Line := ⟨k_Line, by decide, "LoopProver$Line", Or.inr ⟨"LoopProver", (List.mem_of_getElem? (i := 19) rfl)⟩, Or.inl rfl⟩
theorem f_P_249 : FLk "LoopProver" 249 6 1 "LoopProver$Line" F_Line 7 t_Line := ⟨k_Line, by decide, "LoopProver$Line", Or.inr ⟨"LoopProver", (List.mem_of_getElem? (i := 20) rfl)⟩, Or.inl rfl⟩
theorem f_P_236 : FLk "LoopProver" 236 6 2 "LoopProver$Line" F_Line 7 t_Line := ⟨k_Line, by decide, "LoopProver$Line", Or.inr ⟨"LoopProver", (List.mem_of_getElem? (i := 21) rfl)⟩, Or.inl rfl⟩
theorem f_P_228 : FLk "LoopProver" 228 6 3 "LoopProver$Line" F_Line 7 t_Line := ⟨k_Line, by decide, "LoopProver$Line", Or.inr ⟨"LoopProver", (List.mem_of_getElem? (i := 22) rfl)⟩, Or.inl rfl⟩
theorem f_P_194 : FLk "LoopProver" 194 6 4 "LoopProver$Line" F_Line 7 t_Line := ⟨k_Line, by decide, "LoopProver$Line", Or.inr ⟨"LoopProver", (List.mem_of_getElem? (i := 23) rfl)⟩, Or.inl rfl⟩
theorem f_P_203 : FLk "LoopProver" 203 6 5 "LoopProver$Line" F_Line 7 t_Line := ⟨k_Line, by decide, "LoopProver$Line", Or.inr ⟨"LoopProver", (List.mem_of_getElem? (i := 24) rfl)⟩, Or.inl rfl⟩
theorem f_P_200 : FLk "LoopProver" 200 6 6 "LoopProver$Line" F_Line 7 t_Line := ⟨k_Line, by decide, "LoopProver$Line", Or.inr ⟨"LoopProver", (List.mem_of_getElem? (i := 25) rfl)⟩, Or.inl rfl⟩
theorem f_P_299 : FLk "LoopProver" 299 7 0 "LoopProver$Verdict" F_Verdict 3 t_Verdict := ⟨k_Verdict, by decide, "LoopProver$Verdict", Or.inr ⟨"LoopProver", (List.mem_of_getElem? (i := 27) rfl)⟩, Or.inl rfl⟩
theorem f_P_302 : FLk "LoopProver" 302 7 1 "LoopProver$Verdict" F_Verdict 3 t_Verdict := ⟨k_Verdict, by decide, "LoopProver$Verdict", Or.inr ⟨"LoopProver", (List.mem_of_getElem? (i := 28) rfl)⟩, Or.inl rfl⟩
theorem f_P_305 : FLk "LoopProver" 305 7 2 "LoopProver$Verdict" F_Verdict 3 t_Verdict := ⟨k_Verdict, by decide, "LoopProver$Verdict", Or.inr ⟨"LoopProver", (List.mem_of_getElem? (i := 29) rfl)⟩, Or.inl rfl⟩
theorem np_P_init : notMH y_P_init.cls ∧ nPar y_P_init.desc 0 := ⟨⟨by decide +kernel, by decide +kernel⟩, by unfold nPar; decide +kernel⟩
theorem np_AL_init : notMH y_AL_init.cls ∧ nPar y_AL_init.desc 1 := ⟨⟨by decide +kernel, by decide +kernel⟩, by unfold nPar; decide +kernel⟩
theorem np_ABL_init : notMH y_ABL_init.cls ∧ nPar y_ABL_init.desc 0 := ⟨⟨by decide +kernel, by decide +kernel⟩, by unfold nPar; decide +kernel⟩
theorem np_ABC_init : notMH y_ABC_init.cls ∧ nPar y_ABC_init.desc 0 := ⟨⟨by decide +kernel, by decide +kernel⟩, by unfold nPar; decide +kernel⟩
theorem np_Circuit_init : notMH y_Circuit_init.cls ∧ nPar y_Circuit_init.desc 0 := ⟨⟨by decide +kernel, by decide +kernel⟩, by unfold nPar; decide +kernel⟩
theorem np_Checker_init : notMH y_Checker_init.cls ∧ nPar y_Checker_init.desc 0 := ⟨⟨by decide +kernel, by decide +kernel⟩, by unfold nPar; decide +kernel⟩
theorem np_Solver_init : notMH y_Solver_init.cls ∧ nPar y_Solver_init.desc 1 := ⟨⟨by decide +kernel, by decide +kernel⟩, by unfold nPar; decide +kernel⟩
theorem np_Flow_init : notMH y_Flow_init.cls ∧ nPar y_Flow_init.desc 0 := ⟨⟨by decide +kernel, by decide +kernel⟩, by unfold nPar; decide +kernel⟩
theorem np_P_node : notMH y_P_node.cls ∧ nPar y_P_node.desc 3 := ⟨⟨by decide +kernel, by decide +kernel⟩, by unfold nPar; decide +kernel⟩
theorem np_AL_size : notMH y_AL_size.cls ∧ nPar y_AL_size.desc 0 := ⟨⟨by decide +kernel, by decide +kernel⟩, by unfold nPar; decide +kernel⟩
theorem np_P_made : notMH y_P_made.cls ∧ nPar y_P_made.desc 3 := ⟨⟨by decide +kernel, by decide +kernel⟩, by unfold nPar; decide +kernel⟩
theorem np_P_truth : notMH y_P_truth.cls ∧ nPar y_P_truth.desc 1 := ⟨⟨by decide +kernel, by decide +kernel⟩, by unfold nPar; decide +kernel⟩
theorem np_P_nodeAt : notMH y_P_nodeAt.cls ∧ nPar y_P_nodeAt.desc 1 := ⟨⟨by decide +kernel, by decide +kernel⟩, by unfold nPar; decide +kernel⟩
theorem np_AL_get : notMH y_AL_get.cls ∧ nPar y_AL_get.desc 1 := ⟨⟨by decide +kernel, by decide +kernel⟩, by unfold nPar; decide +kernel⟩
theorem np_Obj_checkIndex : notMH y_Obj_checkIndex.cls ∧ nPar y_Obj_checkIndex.desc 2 := ⟨⟨by decide +kernel, by decide +kernel⟩, by unfold nPar; decide +kernel⟩
theorem np_Pre_checkIndex : notMH y_Pre_checkIndex.cls ∧ nPar y_Pre_checkIndex.desc 3 := ⟨⟨by decide +kernel, by decide +kernel⟩, by unfold nPar; decide +kernel⟩
theorem np_AL_elementData : notMH y_AL_elementData.cls ∧ nPar y_AL_elementData.desc 1 := ⟨⟨by decide +kernel, by decide +kernel⟩, by unfold nPar; decide +kernel⟩
theorem np_Truth_truth : notMH y_Truth_truth.cls ∧ nPar y_Truth_truth.desc 0 := ⟨⟨by decide +kernel, by decide +kernel⟩, by unfold nPar; decide +kernel⟩
theorem np_Node_truth : notMH y_Node_truth.cls ∧ nPar y_Node_truth.desc 0 := ⟨⟨by decide +kernel, by decide +kernel⟩, by unfold nPar; decide +kernel⟩
theorem np_P_numeric : notMH y_P_numeric.cls ∧ nPar y_P_numeric.desc 1 := ⟨⟨by decide +kernel, by decide +kernel⟩, by unfold nPar; decide +kernel⟩
theorem np_Constant_init : notMH y_Constant_init.cls ∧ nPar y_Constant_init.desc 2 := ⟨⟨by decide +kernel, by decide +kernel⟩, by unfold nPar; decide +kernel⟩
theorem np_Node_init : notMH y_Node_init.cls ∧ nPar y_Node_init.desc 3 := ⟨⟨by decide +kernel, by decide +kernel⟩, by unfold nPar; decide +kernel⟩
theorem np_Variable_init : notMH y_Variable_init.cls ∧ nPar y_Variable_init.desc 2 := ⟨⟨by decide +kernel, by decide +kernel⟩, by unfold nPar; decide +kernel⟩
theorem np_Read_init : notMH y_Read_init.cls ∧ nPar y_Read_init.desc 2 := ⟨⟨by decide +kernel, by decide +kernel⟩, by unfold nPar; decide +kernel⟩
theorem np_Sum_init : notMH y_Sum_init.cls ∧ nPar y_Sum_init.desc 4 := ⟨⟨by decide +kernel, by decide +kernel⟩, by unfold nPar; decide +kernel⟩
theorem np_Meet_init : notMH y_Meet_init.cls ∧ nPar y_Meet_init.desc 3 := ⟨⟨by decide +kernel, by decide +kernel⟩, by unfold nPar; decide +kernel⟩
theorem np_Below_init : notMH y_Below_init.cls ∧ nPar y_Below_init.desc 3 := ⟨⟨by decide +kernel, by decide +kernel⟩, by unfold nPar; decide +kernel⟩
theorem np_Truth_init : notMH y_Truth_init.cls ∧ nPar y_Truth_init.desc 3 := ⟨⟨by decide +kernel, by decide +kernel⟩, by unfold nPar; decide +kernel⟩
theorem np_Same_init : notMH y_Same_init.cls ∧ nPar y_Same_init.desc 3 := ⟨⟨by decide +kernel, by decide +kernel⟩, by unfold nPar; decide +kernel⟩
theorem np_Not_init : notMH y_Not_init.cls ∧ nPar y_Not_init.desc 2 := ⟨⟨by decide +kernel, by decide +kernel⟩, by unfold nPar; decide +kernel⟩
theorem np_Both_init : notMH y_Both_init.cls ∧ nPar y_Both_init.desc 3 := ⟨⟨by decide +kernel, by decide +kernel⟩, by unfold nPar; decide +kernel⟩
theorem np_AL_add1 : notMH y_AL_add1.cls ∧ nPar y_AL_add1.desc 1 := ⟨⟨by decide +kernel, by decide +kernel⟩, by unfold nPar; decide +kernel⟩
theorem np_AL_add2 : notMH y_AL_add2.cls ∧ nPar y_AL_add2.desc 3 := ⟨⟨by decide +kernel, by decide +kernel⟩, by unfold nPar; decide +kernel⟩
theorem np_AL_grow1 : notMH y_AL_grow1.cls ∧ nPar y_AL_grow1.desc 0 := ⟨⟨by decide +kernel, by decide +kernel⟩, by unfold nPar; decide +kernel⟩
theorem np_AL_grow2 : notMH y_AL_grow2.cls ∧ nPar y_AL_grow2.desc 1 := ⟨⟨by decide +kernel, by decide +kernel⟩, by unfold nPar; decide +kernel⟩
theorem np_P_assign : notMH y_P_assign.cls ∧ nPar y_P_assign.desc 2 := ⟨⟨by decide +kernel, by decide +kernel⟩, by unfold nPar; decide +kernel⟩
theorem np_P_full : notMH y_P_full.cls ∧ nPar y_P_full.desc 0 := ⟨⟨by decide +kernel, by decide +kernel⟩, by unfold nPar; decide +kernel⟩
theorem np_P_add : notMH y_P_add.cls ∧ nPar y_P_add.desc 4 := ⟨⟨by decide +kernel, by decide +kernel⟩, by unfold nPar; decide +kernel⟩
theorem np_Line_init : notMH y_Line_init.cls ∧ nPar y_Line_init.desc 4 := ⟨⟨by decide +kernel, by decide +kernel⟩, by unfold nPar; decide +kernel⟩
theorem np_P_store : notMH y_P_store.cls ∧ nPar y_P_store.desc 2 := ⟨⟨by decide +kernel, by decide +kernel⟩, by unfold nPar; decide +kernel⟩
theorem np_P_claim : notMH y_P_claim.cls ∧ nPar y_P_claim.desc 1 := ⟨⟨by decide +kernel, by decide +kernel⟩, by unfold nPar; decide +kernel⟩
theorem np_P_plain : notMH y_P_plain.cls ∧ nPar y_P_plain.desc 2 := ⟨⟨by decide +kernel, by decide +kernel⟩, by unfold nPar; decide +kernel⟩
theorem np_P_assume : notMH y_P_assume.cls ∧ nPar y_P_assume.desc 1 := ⟨⟨by decide +kernel, by decide +kernel⟩, by unfold nPar; decide +kernel⟩
theorem np_P_when : notMH y_P_when.cls ∧ nPar y_P_when.desc 1 := ⟨⟨by decide +kernel, by decide +kernel⟩, by unfold nPar; decide +kernel⟩
theorem np_P_block : notMH y_P_block.cls ∧ nPar y_P_block.desc 3 := ⟨⟨by decide +kernel, by decide +kernel⟩, by unfold nPar; decide +kernel⟩
theorem np_P_loop : notMH y_P_loop.cls ∧ nPar y_P_loop.desc 2 := ⟨⟨by decide +kernel, by decide +kernel⟩, by unfold nPar; decide +kernel⟩
theorem np_P_other : notMH y_P_other.cls ∧ nPar y_P_other.desc 0 := ⟨⟨by decide +kernel, by decide +kernel⟩, by unfold nPar; decide +kernel⟩
theorem np_P_inner : notMH y_P_inner.cls ∧ nPar y_P_inner.desc 0 := ⟨⟨by decide +kernel, by decide +kernel⟩, by unfold nPar; decide +kernel⟩
theorem np_P_end : notMH y_P_end.cls ∧ nPar y_P_end.desc 0 := ⟨⟨by decide +kernel, by decide +kernel⟩, by unfold nPar; decide +kernel⟩
theorem np_P_clear : notMH y_P_clear.cls ∧ nPar y_P_clear.desc 0 := ⟨⟨by decide +kernel, by decide +kernel⟩, by unfold nPar; decide +kernel⟩
theorem np_AL_clear : notMH y_AL_clear.cls ∧ nPar y_AL_clear.desc 0 := ⟨⟨by decide +kernel, by decide +kernel⟩, by unfold nPar; decide +kernel⟩
theorem np_P_verify : notMH y_P_verify.cls ∧ nPar y_P_verify.desc 2 := ⟨⟨by decide +kernel, by decide +kernel⟩, by unfold nPar; decide +kernel⟩
theorem np_P_decide : notMH y_P_decide.cls ∧ nPar y_P_decide.desc 5 := ⟨⟨by decide +kernel, by decide +kernel⟩, by unfold nPar; decide +kernel⟩
theorem np_Verdict_init : notMH y_Verdict_init.cls ∧ nPar y_Verdict_init.desc 0 := ⟨⟨by decide +kernel, by decide +kernel⟩, by unfold nPar; decide +kernel⟩
theorem np_Circuit_begin : notMH y_Circuit_begin.cls ∧ nPar y_Circuit_begin.desc 0 := ⟨⟨by decide +kernel, by decide +kernel⟩, by unfold nPar; decide +kernel⟩
theorem np_Circuit_add : notMH y_Circuit_add.cls ∧ nPar y_Circuit_add.desc 3 := ⟨⟨by decide +kernel, by decide +kernel⟩, by unfold nPar; decide +kernel⟩
theorem np_Circuit_open : notMH y_Circuit_open.cls ∧ nPar y_Circuit_open.desc 0 := ⟨⟨by decide +kernel, by decide +kernel⟩, by unfold nPar; decide +kernel⟩
theorem np_Circuit_longer : notMH y_Circuit_longer.cls ∧ nPar y_Circuit_longer.desc 1 := ⟨⟨by decide +kernel, by decide +kernel⟩, by unfold nPar; decide +kernel⟩
theorem np_Circuit_put : notMH y_Circuit_put.cls ∧ nPar y_Circuit_put.desc 1 := ⟨⟨by decide +kernel, by decide +kernel⟩, by unfold nPar; decide +kernel⟩
theorem np_Circuit_room : notMH y_Circuit_room.cls ∧ nPar y_Circuit_room.desc 0 := ⟨⟨by decide +kernel, by decide +kernel⟩, by unfold nPar; decide +kernel⟩
theorem np_Circuit_close : notMH y_Circuit_close.cls ∧ nPar y_Circuit_close.desc 0 := ⟨⟨by decide +kernel, by decide +kernel⟩, by unfold nPar; decide +kernel⟩
theorem np_P_gate : notMH y_P_gate.cls ∧ nPar y_P_gate.desc 2 := ⟨⟨by decide +kernel, by decide +kernel⟩, by unfold nPar; decide +kernel⟩
theorem np_P_need : notMH y_P_need.cls ∧ nPar y_P_need.desc 1 := ⟨⟨by decide +kernel, by decide +kernel⟩, by unfold nPar; decide +kernel⟩
theorem np_Below_gates : notMH y_Below_gates.cls ∧ nPar y_Below_gates.desc 3 := ⟨⟨by decide +kernel, by decide +kernel⟩, by unfold nPar; decide +kernel⟩
theorem np_Circuit_differ : notMH y_Circuit_differ.cls ∧ nPar y_Circuit_differ.desc 2 := ⟨⟨by decide +kernel, by decide +kernel⟩, by unfold nPar; decide +kernel⟩
theorem np_Circuit_and : notMH y_Circuit_and.cls ∧ nPar y_Circuit_and.desc 2 := ⟨⟨by decide +kernel, by decide +kernel⟩, by unfold nPar; decide +kernel⟩
theorem np_Circuit_grow : notMH y_Circuit_grow.cls ∧ nPar y_Circuit_grow.desc 0 := ⟨⟨by decide +kernel, by decide +kernel⟩, by unfold nPar; decide +kernel⟩
theorem np_Circuit_or : notMH y_Circuit_or.cls ∧ nPar y_Circuit_or.desc 2 := ⟨⟨by decide +kernel, by decide +kernel⟩, by unfold nPar; decide +kernel⟩
theorem np_Circuit_either : notMH y_Circuit_either.cls ∧ nPar y_Circuit_either.desc 3 := ⟨⟨by decide +kernel, by decide +kernel⟩, by unfold nPar; decide +kernel⟩
theorem np_Both_gates : notMH y_Both_gates.cls ∧ nPar y_Both_gates.desc 3 := ⟨⟨by decide +kernel, by decide +kernel⟩, by unfold nPar; decide +kernel⟩
theorem np_Constant_gates : notMH y_Constant_gates.cls ∧ nPar y_Constant_gates.desc 3 := ⟨⟨by decide +kernel, by decide +kernel⟩, by unfold nPar; decide +kernel⟩
theorem np_Meet_gates : notMH y_Meet_gates.cls ∧ nPar y_Meet_gates.desc 3 := ⟨⟨by decide +kernel, by decide +kernel⟩, by unfold nPar; decide +kernel⟩
theorem np_Not_gates : notMH y_Not_gates.cls ∧ nPar y_Not_gates.desc 3 := ⟨⟨by decide +kernel, by decide +kernel⟩, by unfold nPar; decide +kernel⟩
theorem np_Read_gates : notMH y_Read_gates.cls ∧ nPar y_Read_gates.desc 3 := ⟨⟨by decide +kernel, by decide +kernel⟩, by unfold nPar; decide +kernel⟩
theorem np_Same_gates : notMH y_Same_gates.cls ∧ nPar y_Same_gates.desc 3 := ⟨⟨by decide +kernel, by decide +kernel⟩, by unfold nPar; decide +kernel⟩
theorem np_Sum_gates : notMH y_Sum_gates.cls ∧ nPar y_Sum_gates.desc 3 := ⟨⟨by decide +kernel, by decide +kernel⟩, by unfold nPar; decide +kernel⟩
theorem np_Variable_gates : notMH y_Variable_gates.cls ∧ nPar y_Variable_gates.desc 3 := ⟨⟨by decide +kernel, by decide +kernel⟩, by unfold nPar; decide +kernel⟩
theorem np_P_go : notMH y_P_go.cls ∧ nPar y_P_go.desc 5 := ⟨⟨by decide +kernel, by decide +kernel⟩, by unfold nPar; decide +kernel⟩
theorem np_Enum_ordinal : notMH y_Enum_ordinal.cls ∧ nPar y_Enum_ordinal.desc 0 := ⟨⟨by decide +kernel, by decide +kernel⟩, by unfold nPar; decide +kernel⟩
theorem np_P_storeIn : notMH y_P_storeIn.cls ∧ nPar y_P_storeIn.desc 2 := ⟨⟨by decide +kernel, by decide +kernel⟩, by unfold nPar; decide +kernel⟩
theorem np_Flow_must : notMH y_Flow_must.cls ∧ nPar y_Flow_must.desc 2 := ⟨⟨by decide +kernel, by decide +kernel⟩, by unfold nPar; decide +kernel⟩
theorem np_P_parted : notMH y_P_parted.cls ∧ nPar y_P_parted.desc 5 := ⟨⟨by decide +kernel, by decide +kernel⟩, by unfold nPar; decide +kernel⟩
theorem np_Flow_copy : notMH y_Flow_copy.cls ∧ nPar y_Flow_copy.desc 1 := ⟨⟨by decide +kernel, by decide +kernel⟩, by unfold nPar; decide +kernel⟩
theorem np_P_stop : notMH y_P_stop.cls ∧ nPar y_P_stop.desc 3 := ⟨⟨by decide +kernel, by decide +kernel⟩, by unfold nPar; decide +kernel⟩
theorem np_Solver_solve : notMH y_Solver_solve.cls ∧ nPar y_Solver_solve.desc 1 := ⟨⟨by decide +kernel, by decide +kernel⟩, by unfold nPar; decide +kernel⟩
theorem np_Solver_prepare : notMH y_Solver_prepare.cls ∧ nPar y_Solver_prepare.desc 1 := ⟨⟨by decide +kernel, by decide +kernel⟩, by unfold nPar; decide +kernel⟩
theorem np_Solver_start : notMH y_Solver_start.cls ∧ nPar y_Solver_start.desc 0 := ⟨⟨by decide +kernel, by decide +kernel⟩, by unfold nPar; decide +kernel⟩
theorem np_Solver_broken : notMH y_Solver_broken.cls ∧ nPar y_Solver_broken.desc 1 := ⟨⟨by decide +kernel, by decide +kernel⟩, by unfold nPar; decide +kernel⟩
theorem np_Solver_set : notMH y_Solver_set.cls ∧ nPar y_Solver_set.desc 2 := ⟨⟨by decide +kernel, by decide +kernel⟩, by unfold nPar; decide +kernel⟩
theorem np_Solver_spread : notMH y_Solver_spread.cls ∧ nPar y_Solver_spread.desc 0 := ⟨⟨by decide +kernel, by decide +kernel⟩, by unfold nPar; decide +kernel⟩
theorem np_Solver_explain : notMH y_Solver_explain.cls ∧ nPar y_Solver_explain.desc 1 := ⟨⟨by decide +kernel, by decide +kernel⟩, by unfold nPar; decide +kernel⟩
theorem np_Solver_mark : notMH y_Solver_mark.cls ∧ nPar y_Solver_mark.desc 1 := ⟨⟨by decide +kernel, by decide +kernel⟩, by unfold nPar; decide +kernel⟩
theorem np_Checker_accepts : notMH y_Checker_accepts.cls ∧ nPar y_Checker_accepts.desc 5 := ⟨⟨by decide +kernel, by decide +kernel⟩, by unfold nPar; decide +kernel⟩
theorem np_Checker_note : notMH y_Checker_note.cls ∧ nPar y_Checker_note.desc 1 := ⟨⟨by decide +kernel, by decide +kernel⟩, by unfold nPar; decide +kernel⟩
theorem np_Checker_rest : notMH y_Checker_rest.cls ∧ nPar y_Checker_rest.desc 2 := ⟨⟨by decide +kernel, by decide +kernel⟩, by unfold nPar; decide +kernel⟩
theorem np_Checker_forget : notMH y_Checker_forget.cls ∧ nPar y_Checker_forget.desc 0 := ⟨⟨by decide +kernel, by decide +kernel⟩, by unfold nPar; decide +kernel⟩
theorem np_Solver_back : notMH y_Solver_back.cls ∧ nPar y_Solver_back.desc 0 := ⟨⟨by decide +kernel, by decide +kernel⟩, by unfold nPar; decide +kernel⟩
theorem np_Circuit_lastFirst : notMH y_Circuit_lastFirst.cls ∧ nPar y_Circuit_lastFirst.desc 0 := ⟨⟨by decide +kernel, by decide +kernel⟩, by unfold nPar; decide +kernel⟩
theorem np_Circuit_drop : notMH y_Circuit_drop.cls ∧ nPar y_Circuit_drop.desc 0 := ⟨⟨by decide +kernel, by decide +kernel⟩, by unfold nPar; decide +kernel⟩
theorem np_Circuit_keep : notMH y_Circuit_keep.cls ∧ nPar y_Circuit_keep.desc 2 := ⟨⟨by decide +kernel, by decide +kernel⟩, by unfold nPar; decide +kernel⟩
theorem np_Solver_nextInput : notMH y_Solver_nextInput.cls ∧ nPar y_Solver_nextInput.desc 0 := ⟨⟨by decide +kernel, by decide +kernel⟩, by unfold nPar; decide +kernel⟩
theorem np_P_follow : notMH y_P_follow.cls ∧ nPar y_P_follow.desc 3 := ⟨⟨by decide +kernel, by decide +kernel⟩, by unfold nPar; decide +kernel⟩
theorem np_P_load : notMH y_P_load.cls ∧ nPar y_P_load.desc 1 := ⟨⟨by decide +kernel, by decide +kernel⟩, by unfold nPar; decide +kernel⟩
theorem np_P_done : notMH y_P_done.cls ∧ nPar y_P_done.desc 2 := ⟨⟨by decide +kernel, by decide +kernel⟩, by unfold nPar; decide +kernel⟩
theorem np_P_worth : notMH y_P_worth.cls ∧ nPar y_P_worth.desc 1 := ⟨⟨by decide +kernel, by decide +kernel⟩, by unfold nPar; decide +kernel⟩
theorem np_Below_of : notMH y_Below_of.cls ∧ nPar y_Below_of.desc 2 := ⟨⟨by decide +kernel, by decide +kernel⟩, by unfold nPar; decide +kernel⟩
theorem np_Both_of : notMH y_Both_of.cls ∧ nPar y_Both_of.desc 2 := ⟨⟨by decide +kernel, by decide +kernel⟩, by unfold nPar; decide +kernel⟩
theorem np_Constant_of : notMH y_Constant_of.cls ∧ nPar y_Constant_of.desc 2 := ⟨⟨by decide +kernel, by decide +kernel⟩, by unfold nPar; decide +kernel⟩
theorem np_Meet_of : notMH y_Meet_of.cls ∧ nPar y_Meet_of.desc 2 := ⟨⟨by decide +kernel, by decide +kernel⟩, by unfold nPar; decide +kernel⟩
theorem np_Not_of : notMH y_Not_of.cls ∧ nPar y_Not_of.desc 2 := ⟨⟨by decide +kernel, by decide +kernel⟩, by unfold nPar; decide +kernel⟩
theorem np_Read_of : notMH y_Read_of.cls ∧ nPar y_Read_of.desc 2 := ⟨⟨by decide +kernel, by decide +kernel⟩, by unfold nPar; decide +kernel⟩
theorem np_Same_of : notMH y_Same_of.cls ∧ nPar y_Same_of.desc 2 := ⟨⟨by decide +kernel, by decide +kernel⟩, by unfold nPar; decide +kernel⟩
theorem np_Sum_of : notMH y_Sum_of.cls ∧ nPar y_Sum_of.desc 2 := ⟨⟨by decide +kernel, by decide +kernel⟩, by unfold nPar; decide +kernel⟩
theorem np_Variable_of : notMH y_Variable_of.cls ∧ nPar y_Variable_of.desc 2 := ⟨⟨by decide +kernel, by decide +kernel⟩, by unfold nPar; decide +kernel⟩
theorem np_P_holds : notMH y_P_holds.cls ∧ nPar y_P_holds.desc 1 := ⟨⟨by decide +kernel, by decide +kernel⟩, by unfold nPar; decide +kernel⟩
theorem np_P_conditions : notMH y_P_conditions.cls ∧ nPar y_P_conditions.desc 0 := ⟨⟨by decide +kernel, by decide +kernel⟩, by unfold nPar; decide +kernel⟩
theorem np_P_witness : notMH y_P_witness.cls ∧ nPar y_P_witness.desc 1 := ⟨⟨by decide +kernel, by decide +kernel⟩, by unfold nPar; decide +kernel⟩
theorem np_P_verdict : notMH y_P_verdict.cls ∧ nPar y_P_verdict.desc 1 := ⟨⟨by decide +kernel, by decide +kernel⟩, by unfold nPar; decide +kernel⟩
theorem np_P_proved : notMH y_P_proved.cls ∧ nPar y_P_proved.desc 1 := ⟨⟨by decide +kernel, by decide +kernel⟩, by unfold nPar; decide +kernel⟩
theorem np_P_failure : notMH y_P_failure.cls ∧ nPar y_P_failure.desc 1 := ⟨⟨by decide +kernel, by decide +kernel⟩, by unfold nPar; decide +kernel⟩
theorem np_P_run : notMH y_P_run.cls ∧ nPar y_P_run.desc 2 := ⟨⟨by decide +kernel, by decide +kernel⟩, by unfold nPar; decide +kernel⟩
theorem np_P_value : notMH y_P_value.cls ∧ nPar y_P_value.desc 2 := ⟨⟨by decide +kernel, by decide +kernel⟩, by unfold nPar; decide +kernel⟩
theorem np_M_init : notMH y_M_init.cls ∧ nPar y_M_init.desc 0 := ⟨⟨by decide +kernel, by decide +kernel⟩, by unfold nPar; decide +kernel⟩
theorem np_M_node : notMH y_M_node.cls ∧ nPar y_M_node.desc 3 := ⟨⟨by decide +kernel, by decide +kernel⟩, by unfold nPar; decide +kernel⟩
theorem np_M_below : notMH y_M_below.cls ∧ nPar y_M_below.desc 2 := ⟨⟨by decide +kernel, by decide +kernel⟩, by unfold nPar; decide +kernel⟩
theorem np_M_numeric : notMH y_M_numeric.cls ∧ nPar y_M_numeric.desc 1 := ⟨⟨by decide +kernel, by decide +kernel⟩, by unfold nPar; decide +kernel⟩
theorem np_M_truth : notMH y_M_truth.cls ∧ nPar y_M_truth.desc 1 := ⟨⟨by decide +kernel, by decide +kernel⟩, by unfold nPar; decide +kernel⟩
theorem np_M_assign : notMH y_M_assign.cls ∧ nPar y_M_assign.desc 2 := ⟨⟨by decide +kernel, by decide +kernel⟩, by unfold nPar; decide +kernel⟩
theorem np_M_add : notMH y_M_add.cls ∧ nPar y_M_add.desc 3 := ⟨⟨by decide +kernel, by decide +kernel⟩, by unfold nPar; decide +kernel⟩
theorem np_M_store : notMH y_M_store.cls ∧ nPar y_M_store.desc 2 := ⟨⟨by decide +kernel, by decide +kernel⟩, by unfold nPar; decide +kernel⟩
theorem np_M_claim : notMH y_M_claim.cls ∧ nPar y_M_claim.desc 1 := ⟨⟨by decide +kernel, by decide +kernel⟩, by unfold nPar; decide +kernel⟩
theorem np_M_assume : notMH y_M_assume.cls ∧ nPar y_M_assume.desc 1 := ⟨⟨by decide +kernel, by decide +kernel⟩, by unfold nPar; decide +kernel⟩
theorem np_M_when : notMH y_M_when.cls ∧ nPar y_M_when.desc 1 := ⟨⟨by decide +kernel, by decide +kernel⟩, by unfold nPar; decide +kernel⟩
theorem np_M_begin : notMH y_M_begin.cls ∧ nPar y_M_begin.desc 3 := ⟨⟨by decide +kernel, by decide +kernel⟩, by unfold nPar; decide +kernel⟩
theorem np_M_loop : notMH y_M_loop.cls ∧ nPar y_M_loop.desc 2 := ⟨⟨by decide +kernel, by decide +kernel⟩, by unfold nPar; decide +kernel⟩
theorem np_M_other : notMH y_M_other.cls ∧ nPar y_M_other.desc 0 := ⟨⟨by decide +kernel, by decide +kernel⟩, by unfold nPar; decide +kernel⟩
theorem np_M_end : notMH y_M_end.cls ∧ nPar y_M_end.desc 0 := ⟨⟨by decide +kernel, by decide +kernel⟩, by unfold nPar; decide +kernel⟩
theorem np_M_clear : notMH y_M_clear.cls ∧ nPar y_M_clear.desc 0 := ⟨⟨by decide +kernel, by decide +kernel⟩, by unfold nPar; decide +kernel⟩
theorem np_M_verify : notMH y_M_verify.cls ∧ nPar y_M_verify.desc 2 := ⟨⟨by decide +kernel, by decide +kernel⟩, by unfold nPar; decide +kernel⟩
theorem np_M_decide : notMH y_M_decide.cls ∧ nPar y_M_decide.desc 4 := ⟨⟨by decide +kernel, by decide +kernel⟩, by unfold nPar; decide +kernel⟩
theorem np_M_take : notMH y_M_take.cls ∧ nPar y_M_take.desc 1 := ⟨⟨by decide +kernel, by decide +kernel⟩, by unfold nPar; decide +kernel⟩
theorem np_M_holds : notMH y_M_holds.cls ∧ nPar y_M_holds.desc 1 := ⟨⟨by decide +kernel, by decide +kernel⟩, by unfold nPar; decide +kernel⟩
theorem np_M_eval : notMH y_M_eval.cls ∧ nPar y_M_eval.desc 1 := ⟨⟨by decide +kernel, by decide +kernel⟩, by unfold nPar; decide +kernel⟩
theorem np_M_worked : notMH y_M_worked.cls ∧ nPar y_M_worked.desc 3 := ⟨⟨by decide +kernel, by decide +kernel⟩, by unfold nPar; decide +kernel⟩
theorem np_M_goesRight : notMH y_M_goesRight.cls ∧ nPar y_M_goesRight.desc 1 := ⟨⟨by decide +kernel, by decide +kernel⟩, by unfold nPar; decide +kernel⟩
theorem np_M_change : notMH y_M_change.cls ∧ nPar y_M_change.desc 1 := ⟨⟨by decide +kernel, by decide +kernel⟩, by unfold nPar; decide +kernel⟩
theorem np_M_next : notMH y_M_next.cls ∧ nPar y_M_next.desc 1 := ⟨⟨by decide +kernel, by decide +kernel⟩, by unfold nPar; decide +kernel⟩
theorem np_M_conditions : notMH y_M_conditions.cls ∧ nPar y_M_conditions.desc 0 := ⟨⟨by decide +kernel, by decide +kernel⟩, by unfold nPar; decide +kernel⟩
theorem np_M_witness : notMH y_M_witness.cls ∧ nPar y_M_witness.desc 1 := ⟨⟨by decide +kernel, by decide +kernel⟩, by unfold nPar; decide +kernel⟩
theorem np_M_is : notMH y_M_is.cls ∧ nPar y_M_is.desc 1 := ⟨⟨by decide +kernel, by decide +kernel⟩, by unfold nPar; decide +kernel⟩
theorem np_M_proved : notMH y_M_proved.cls ∧ nPar y_M_proved.desc 1 := ⟨⟨by decide +kernel, by decide +kernel⟩, by unfold nPar; decide +kernel⟩
theorem np_M_failure : notMH y_M_failure.cls ∧ nPar y_M_failure.desc 1 := ⟨⟨by decide +kernel, by decide +kernel⟩, by unfold nPar; decide +kernel⟩
theorem np_M_run : notMH y_M_run.cls ∧ nPar y_M_run.desc 2 := ⟨⟨by decide +kernel, by decide +kernel⟩, by unfold nPar; decide +kernel⟩
theorem np_M_number : notMH y_M_number.cls ∧ nPar y_M_number.desc 0 := ⟨⟨by decide +kernel, by decide +kernel⟩, by unfold nPar; decide +kernel⟩
theorem np_M_value : notMH y_M_value.cls ∧ nPar y_M_value.desc 2 := ⟨⟨by decide +kernel, by decide +kernel⟩, by unfold nPar; decide +kernel⟩
theorem m_Law_9 : MLI "LoopProverLaw" 9 y_P_init b_P_init 1 0 := ⟨Or.inl (g1 33 rfl rfl), (g1 34 rfl rfl), (g1 1 rfl rfl), (g1 35 rfl rfl), rfl, np_P_init.1, np_P_init.2⟩
theorem m_P_1 : Cond.methodLink "LoopProver" 1 Lib.objectInit ∈ tblG ∧ Cond.instanceMethod Lib.objectInit ∈ tblG ∧ Cond.code Lib.objectInit ⟨#[0xb1]⟩ 1 none ∈ tblG := ⟨(g1 36 rfl rfl), (g1 37 rfl rfl), (g1 38 rfl rfl)⟩
theorem m_P_11 : MLI "LoopProver" 11 y_AL_init b_AL_init 2 1 := ⟨Or.inl (g1 41 rfl rfl), (g1 42 rfl rfl), (g1 4 rfl rfl), (g1 43 rfl rfl), rfl, np_AL_init.1, np_AL_init.2⟩
theorem m_AL_1 : MLI "java/util/ArrayList" 1 y_ABL_init b_ABL_init 1 0 := ⟨Or.inl (g1 44 rfl rfl), (g1 45 rfl rfl), (g1 3 rfl rfl), (g1 46 rfl rfl), rfl, np_ABL_init.1, np_ABL_init.2⟩
theorem m_ABL_1 : MLI "java/util/AbstractList" 1 y_ABC_init b_ABC_init 1 0 := ⟨Or.inl (g1 47 rfl rfl), (g1 48 rfl rfl), (g1 2 rfl rfl), (g1 49 rfl rfl), rfl, np_ABC_init.1, np_ABC_init.2⟩
theorem m_ABC_1 : Cond.methodLink "java/util/AbstractCollection" 1 Lib.objectInit ∈ tblG ∧ Cond.instanceMethod Lib.objectInit ∈ tblG ∧ Cond.code Lib.objectInit ⟨#[0xb1]⟩ 1 none ∈ tblG := ⟨(g1 50 rfl rfl), (g1 37 rfl rfl), (g1 38 rfl rfl)⟩
theorem m_Circuit_3 : Cond.methodLink "LoopProver$Circuit" 3 Lib.objectInit ∈ tblG ∧ Cond.instanceMethod Lib.objectInit ∈ tblG ∧ Cond.code Lib.objectInit ⟨#[0xb1]⟩ 1 none ∈ tblG := ⟨(g1 74 rfl rfl), (g1 37 rfl rfl), (g1 38 rfl rfl)⟩
theorem m_Checker_3 : Cond.methodLink "LoopProver$Checker" 3 Lib.objectInit ∈ tblG ∧ Cond.instanceMethod Lib.objectInit ∈ tblG ∧ Cond.code Lib.objectInit ⟨#[0xb1]⟩ 1 none ∈ tblG := ⟨(g1 131 rfl rfl), (g1 37 rfl rfl), (g1 38 rfl rfl)⟩
theorem m_P_43 : MLI "LoopProver" 43 y_Solver_init b_Solver_init 2 1 := ⟨Or.inl (g1 142 rfl rfl), (g1 143 rfl rfl), (g1 6 rfl rfl), (g1 144 rfl rfl), rfl, np_Solver_init.1, np_Solver_init.2⟩
theorem m_Solver_3 : Cond.methodLink "LoopProver$Solver" 3 Lib.objectInit ∈ tblG ∧ Cond.instanceMethod Lib.objectInit ∈ tblG ∧ Cond.code Lib.objectInit ⟨#[0xb1]⟩ 1 none ∈ tblG := ⟨(g1 145 rfl rfl), (g1 37 rfl rfl), (g1 38 rfl rfl)⟩
theorem m_Flow_3 : Cond.methodLink "LoopProver$Flow" 3 Lib.objectInit ∈ tblG ∧ Cond.instanceMethod Lib.objectInit ∈ tblG ∧ Cond.code Lib.objectInit ⟨#[0xb1]⟩ 1 none ∈ tblG := ⟨(g1 206 rfl rfl), (g1 37 rfl rfl), (g1 38 rfl rfl)⟩
theorem m_Law_13 : MLV "LoopProverLaw" 13 "LoopProver" y_P_node b_P_node 5 (some .int) 3 := ⟨(g2 27 rfl rfl), (g2 28 rfl rfl), (g2 29 rfl rfl), (g1 1 rfl rfl), (g2 30 rfl rfl), rfl, np_P_node.1, np_P_node.2⟩
theorem m_P_74 : MLV "LoopProver" 74 "java/util/ArrayList" y_AL_size b_AL_size 1 (some .int) 0 := ⟨(g2 31 rfl rfl), (g2 32 rfl rfl), (g2 33 rfl rfl), (g1 4 rfl rfl), (g2 34 rfl rfl), rfl, np_AL_size.1, np_AL_size.2⟩
theorem m_P_131 : MLV "LoopProver" 131 "LoopProver" y_P_made b_P_made 7 (some (.object "LoopProver$Node")) 3 := ⟨(g2 35 rfl rfl), (g2 37 rfl rfl), (gsel 0 rfl), (g1 1 rfl rfl), (g2 38 rfl rfl), rfl, np_P_made.1, np_P_made.2⟩
theorem m_P_92 : MLV "LoopProver" 92 "LoopProver" y_P_truth b_P_truth 2 (some .boolean) 1 := ⟨(g2 39 rfl rfl), (g2 41 rfl rfl), (gsel 1 rfl), (g1 1 rfl rfl), (g2 42 rfl rfl), rfl, np_P_truth.1, np_P_truth.2⟩
theorem m_P_84 : MLV "LoopProver" 84 "LoopProver" y_P_nodeAt b_P_nodeAt 2 (some (.object "LoopProver$Node")) 1 := ⟨(g2 43 rfl rfl), (g2 45 rfl rfl), (gsel 2 rfl), (g1 1 rfl rfl), (g2 46 rfl rfl), rfl, np_P_nodeAt.1, np_P_nodeAt.2⟩
theorem m_P_78 : MLV "LoopProver" 78 "java/util/ArrayList" y_AL_get b_AL_get 2 (some (.object "java/lang/Object")) 1 := ⟨(g2 47 rfl rfl), (g2 48 rfl rfl), (g2 49 rfl rfl), (g1 4 rfl rfl), (g2 50 rfl rfl), rfl, np_AL_get.1, np_AL_get.2⟩
theorem m_AL_118 : MLS "java/util/ArrayList" 118 y_Obj_checkIndex b_Obj_checkIndex 2 (some .int) 2 := ⟨(g2 51 rfl rfl), (g2 52 rfl rfl), (g1 10 rfl rfl), (g2 53 rfl rfl), np_Obj_checkIndex.1, np_Obj_checkIndex.2⟩
theorem m_Obj_105 : MLS "java/util/Objects" 105 y_Pre_checkIndex b_Pre_checkIndex 3 (some .int) 3 := ⟨(g2 54 rfl rfl), (g2 55 rfl rfl), (g1 11 rfl rfl), (g2 56 rfl rfl), np_Pre_checkIndex.1, np_Pre_checkIndex.2⟩
theorem m_AL_123 : MLV "java/util/ArrayList" 123 "java/util/ArrayList" y_AL_elementData b_AL_elementData 2 (some (.object "java/lang/Object")) 1 := ⟨(g2 57 rfl rfl), (g2 58 rfl rfl), (g2 59 rfl rfl), (g1 4 rfl rfl), (g2 60 rfl rfl), rfl, np_AL_elementData.1, np_AL_elementData.2⟩
theorem m_P_88_Below : MLU "LoopProver" 88 "LoopProver$Below" "LoopProver$Node" ⟨"LoopProver$Node", "truth", "()Z"⟩ y_Truth_truth b_Truth_truth 1 (some .boolean) 0 := ⟨(g2 62 rfl rfl), (g2 64 rfl rfl), (g2 65 rfl rfl), (g2 66 rfl rfl), (g1 18 rfl rfl), (g2 67 rfl rfl), ⟨by decide +kernel, by decide +kernel⟩, by unfold nPar; decide +kernel, Or.inr ⟨b_Node_truth, 1, (some .boolean), (g2 63 rfl rfl), (g2 76 rfl rfl)⟩⟩
theorem m_P_88_Both : MLU "LoopProver" 88 "LoopProver$Both" "LoopProver$Node" ⟨"LoopProver$Node", "truth", "()Z"⟩ y_Truth_truth b_Truth_truth 1 (some .boolean) 0 := ⟨(g2 62 rfl rfl), (g2 64 rfl rfl), (g2 68 rfl rfl), (g2 66 rfl rfl), (g1 18 rfl rfl), (g2 67 rfl rfl), ⟨by decide +kernel, by decide +kernel⟩, by unfold nPar; decide +kernel, Or.inr ⟨b_Node_truth, 1, (some .boolean), (g2 63 rfl rfl), (g2 76 rfl rfl)⟩⟩
theorem m_P_88_Constant : MLU "LoopProver" 88 "LoopProver$Constant" "LoopProver$Node" ⟨"LoopProver$Node", "truth", "()Z"⟩ y_Node_truth b_Node_truth 1 (some .boolean) 0 := ⟨(g2 62 rfl rfl), (g2 64 rfl rfl), (g2 69 rfl rfl), (g2 63 rfl rfl), (g1 12 rfl rfl), (g2 76 rfl rfl), ⟨by decide +kernel, by decide +kernel⟩, by unfold nPar; decide +kernel, Or.inr ⟨b_Node_truth, 1, (some .boolean), (g2 63 rfl rfl), (g2 76 rfl rfl)⟩⟩
theorem m_P_88_Meet : MLU "LoopProver" 88 "LoopProver$Meet" "LoopProver$Node" ⟨"LoopProver$Node", "truth", "()Z"⟩ y_Node_truth b_Node_truth 1 (some .boolean) 0 := ⟨(g2 62 rfl rfl), (g2 64 rfl rfl), (g2 70 rfl rfl), (g2 63 rfl rfl), (g1 12 rfl rfl), (g2 76 rfl rfl), ⟨by decide +kernel, by decide +kernel⟩, by unfold nPar; decide +kernel, Or.inr ⟨b_Node_truth, 1, (some .boolean), (g2 63 rfl rfl), (g2 76 rfl rfl)⟩⟩
theorem m_P_88_Not : MLU "LoopProver" 88 "LoopProver$Not" "LoopProver$Node" ⟨"LoopProver$Node", "truth", "()Z"⟩ y_Truth_truth b_Truth_truth 1 (some .boolean) 0 := ⟨(g2 62 rfl rfl), (g2 64 rfl rfl), (g2 71 rfl rfl), (g2 66 rfl rfl), (g1 18 rfl rfl), (g2 67 rfl rfl), ⟨by decide +kernel, by decide +kernel⟩, by unfold nPar; decide +kernel, Or.inr ⟨b_Node_truth, 1, (some .boolean), (g2 63 rfl rfl), (g2 76 rfl rfl)⟩⟩
theorem m_P_88_Read : MLU "LoopProver" 88 "LoopProver$Read" "LoopProver$Node" ⟨"LoopProver$Node", "truth", "()Z"⟩ y_Node_truth b_Node_truth 1 (some .boolean) 0 := ⟨(g2 62 rfl rfl), (g2 64 rfl rfl), (g2 72 rfl rfl), (g2 63 rfl rfl), (g1 12 rfl rfl), (g2 76 rfl rfl), ⟨by decide +kernel, by decide +kernel⟩, by unfold nPar; decide +kernel, Or.inr ⟨b_Node_truth, 1, (some .boolean), (g2 63 rfl rfl), (g2 76 rfl rfl)⟩⟩
theorem m_P_88_Same : MLU "LoopProver" 88 "LoopProver$Same" "LoopProver$Node" ⟨"LoopProver$Node", "truth", "()Z"⟩ y_Truth_truth b_Truth_truth 1 (some .boolean) 0 := ⟨(g2 62 rfl rfl), (g2 64 rfl rfl), (g2 73 rfl rfl), (g2 66 rfl rfl), (g1 18 rfl rfl), (g2 67 rfl rfl), ⟨by decide +kernel, by decide +kernel⟩, by unfold nPar; decide +kernel, Or.inr ⟨b_Node_truth, 1, (some .boolean), (g2 63 rfl rfl), (g2 76 rfl rfl)⟩⟩
theorem m_P_88_Sum : MLU "LoopProver" 88 "LoopProver$Sum" "LoopProver$Node" ⟨"LoopProver$Node", "truth", "()Z"⟩ y_Node_truth b_Node_truth 1 (some .boolean) 0 := ⟨(g2 62 rfl rfl), (g2 64 rfl rfl), (g2 74 rfl rfl), (g2 63 rfl rfl), (g1 12 rfl rfl), (g2 76 rfl rfl), ⟨by decide +kernel, by decide +kernel⟩, by unfold nPar; decide +kernel, Or.inr ⟨b_Node_truth, 1, (some .boolean), (g2 63 rfl rfl), (g2 76 rfl rfl)⟩⟩
theorem m_P_88_Variable : MLU "LoopProver" 88 "LoopProver$Variable" "LoopProver$Node" ⟨"LoopProver$Node", "truth", "()Z"⟩ y_Node_truth b_Node_truth 1 (some .boolean) 0 := ⟨(g2 62 rfl rfl), (g2 64 rfl rfl), (g2 75 rfl rfl), (g2 63 rfl rfl), (g1 12 rfl rfl), (g2 76 rfl rfl), ⟨by decide +kernel, by decide +kernel⟩, by unfold nPar; decide +kernel, Or.inr ⟨b_Node_truth, 1, (some .boolean), (g2 63 rfl rfl), (g2 76 rfl rfl)⟩⟩
theorem m_P_95 : MLV "LoopProver" 95 "LoopProver" y_P_numeric b_P_numeric 2 (some .boolean) 1 := ⟨(g2 77 rfl rfl), (g2 79 rfl rfl), (gsel 3 rfl), (g1 1 rfl rfl), (g2 80 rfl rfl), rfl, np_P_numeric.1, np_P_numeric.2⟩
theorem m_P_100 : MLI "LoopProver" 100 y_Constant_init b_Constant_init 3 2 := ⟨Or.inl (g2 83 rfl rfl), (g2 84 rfl rfl), (g1 13 rfl rfl), (g2 85 rfl rfl), rfl, np_Constant_init.1, np_Constant_init.2⟩
theorem m_Constant_3 : MLI "LoopProver$Constant" 3 y_Node_init b_Node_init 4 3 := ⟨Or.inl (g2 86 rfl rfl), (g2 87 rfl rfl), (g1 12 rfl rfl), (g2 88 rfl rfl), rfl, np_Node_init.1, np_Node_init.2⟩
theorem m_Node_1 : Cond.methodLink "LoopProver$Node" 1 Lib.objectInit ∈ tblG ∧ Cond.instanceMethod Lib.objectInit ∈ tblG ∧ Cond.code Lib.objectInit ⟨#[0xb1]⟩ 1 none ∈ tblG := ⟨(g2 89 rfl rfl), (g1 37 rfl rfl), (g1 38 rfl rfl)⟩
theorem m_P_105 : MLI "LoopProver" 105 y_Variable_init b_Variable_init 3 2 := ⟨Or.inl (g2 150 rfl rfl), (g2 151 rfl rfl), (g1 14 rfl rfl), (g2 152 rfl rfl), rfl, np_Variable_init.1, np_Variable_init.2⟩
theorem m_Variable_3 : MLI "LoopProver$Variable" 3 y_Node_init b_Node_init 4 3 := ⟨Or.inl (g2 153 rfl rfl), (g2 87 rfl rfl), (g1 12 rfl rfl), (g2 88 rfl rfl), rfl, np_Node_init.1, np_Node_init.2⟩
theorem m_P_108 : MLI "LoopProver" 108 y_Read_init b_Read_init 3 2 := ⟨Or.inl (g2 163 rfl rfl), (g2 164 rfl rfl), (g1 15 rfl rfl), (g2 165 rfl rfl), rfl, np_Read_init.1, np_Read_init.2⟩
theorem m_Read_3 : MLI "LoopProver$Read" 3 y_Node_init b_Node_init 4 3 := ⟨Or.inl (g2 166 rfl rfl), (g2 87 rfl rfl), (g1 12 rfl rfl), (g2 88 rfl rfl), rfl, np_Node_init.1, np_Node_init.2⟩
theorem m_P_111 : MLI "LoopProver" 111 y_Sum_init b_Sum_init 5 4 := ⟨Or.inl (g2 173 rfl rfl), (g2 174 rfl rfl), (g1 16 rfl rfl), (g2 175 rfl rfl), rfl, np_Sum_init.1, np_Sum_init.2⟩
theorem m_Sum_3 : MLI "LoopProver$Sum" 3 y_Node_init b_Node_init 4 3 := ⟨Or.inl (g2 176 rfl rfl), (g2 87 rfl rfl), (g1 12 rfl rfl), (g2 88 rfl rfl), rfl, np_Node_init.1, np_Node_init.2⟩
theorem m_P_116 : MLI "LoopProver" 116 y_Meet_init b_Meet_init 4 3 := ⟨Or.inl (g2 186 rfl rfl), (g2 187 rfl rfl), (g1 17 rfl rfl), (g2 188 rfl rfl), rfl, np_Meet_init.1, np_Meet_init.2⟩
theorem m_Meet_3 : MLI "LoopProver$Meet" 3 y_Node_init b_Node_init 4 3 := ⟨Or.inl (g2 189 rfl rfl), (g2 87 rfl rfl), (g1 12 rfl rfl), (g2 88 rfl rfl), rfl, np_Node_init.1, np_Node_init.2⟩
theorem m_P_121 : MLI "LoopProver" 121 y_Below_init b_Below_init 4 3 := ⟨Or.inl (g2 196 rfl rfl), (g2 197 rfl rfl), (g1 19 rfl rfl), (g2 198 rfl rfl), rfl, np_Below_init.1, np_Below_init.2⟩
theorem m_Below_3 : MLI "LoopProver$Below" 3 y_Truth_init b_Truth_init 4 3 := ⟨Or.inl (g2 199 rfl rfl), (g2 200 rfl rfl), (g1 18 rfl rfl), (g2 201 rfl rfl), rfl, np_Truth_init.1, np_Truth_init.2⟩
theorem m_Truth_1 : MLI "LoopProver$Truth" 1 y_Node_init b_Node_init 4 3 := ⟨Or.inl (g2 202 rfl rfl), (g2 87 rfl rfl), (g1 12 rfl rfl), (g2 88 rfl rfl), rfl, np_Node_init.1, np_Node_init.2⟩
theorem m_P_124 : MLI "LoopProver" 124 y_Same_init b_Same_init 4 3 := ⟨Or.inl (g2 209 rfl rfl), (g2 210 rfl rfl), (g1 20 rfl rfl), (g2 211 rfl rfl), rfl, np_Same_init.1, np_Same_init.2⟩
theorem m_Same_3 : MLI "LoopProver$Same" 3 y_Truth_init b_Truth_init 4 3 := ⟨Or.inl (g2 212 rfl rfl), (g2 200 rfl rfl), (g1 18 rfl rfl), (g2 201 rfl rfl), rfl, np_Truth_init.1, np_Truth_init.2⟩
theorem m_P_127 : MLI "LoopProver" 127 y_Not_init b_Not_init 3 2 := ⟨Or.inl (g2 219 rfl rfl), (g2 220 rfl rfl), (g1 21 rfl rfl), (g2 221 rfl rfl), rfl, np_Not_init.1, np_Not_init.2⟩
theorem m_Not_3 : MLI "LoopProver$Not" 3 y_Truth_init b_Truth_init 4 3 := ⟨Or.inl (g2 222 rfl rfl), (g2 200 rfl rfl), (g1 18 rfl rfl), (g2 201 rfl rfl), rfl, np_Truth_init.1, np_Truth_init.2⟩
theorem m_P_130 : MLI "LoopProver" 130 y_Both_init b_Both_init 4 3 := ⟨Or.inl (g2 229 rfl rfl), (g2 230 rfl rfl), (g1 22 rfl rfl), (g2 231 rfl rfl), rfl, np_Both_init.1, np_Both_init.2⟩
theorem m_Both_3 : MLI "LoopProver$Both" 3 y_Truth_init b_Truth_init 4 3 := ⟨Or.inl (g2 232 rfl rfl), (g2 200 rfl rfl), (g1 18 rfl rfl), (g2 201 rfl rfl), rfl, np_Truth_init.1, np_Truth_init.2⟩
theorem m_P_135 : MLV "LoopProver" 135 "java/util/ArrayList" y_AL_add1 b_AL_add1 2 (some .boolean) 1 := ⟨(g2 237 rfl rfl), (g2 238 rfl rfl), (g2 239 rfl rfl), (g1 4 rfl rfl), (g3 0 rfl rfl), rfl, np_AL_add1.1, np_AL_add1.2⟩
theorem m_AL_131 : MLV "java/util/ArrayList" 131 "java/util/ArrayList" y_AL_add2 b_AL_add2 4 none 3 := ⟨(g3 1 rfl rfl), (g3 3 rfl rfl), (gsel 4 rfl), (g1 4 rfl rfl), (g3 4 rfl rfl), rfl, np_AL_add2.1, np_AL_add2.2⟩
theorem m_AL_129 : MLV "java/util/ArrayList" 129 "java/util/ArrayList" y_AL_grow1 b_AL_grow1 1 (some (.array (.object "java/lang/Object"))) 0 := ⟨(g3 5 rfl rfl), (g3 7 rfl rfl), (gsel 5 rfl), (g1 4 rfl rfl), (g3 8 rfl rfl), rfl, np_AL_grow1.1, np_AL_grow1.2⟩
theorem m_AL_69 : MLV "java/util/ArrayList" 69 "java/util/ArrayList" y_AL_grow2 b_AL_grow2 4 (some (.array (.object "java/lang/Object"))) 1 := ⟨(g3 9 rfl rfl), (g3 11 rfl rfl), (gsel 6 rfl), (g1 4 rfl rfl), (g3 12 rfl rfl), rfl, np_AL_grow2.1, np_AL_grow2.2⟩
theorem m_AS_194 : Cond.methodLink "jdk/internal/util/ArraysSupport" 194 Lib.Math.max.name ∈ tblG ∧ Cond.static Lib.Math.max.name ∈ tblG ∧ Cond.initialized "java/lang/Math" ∈ tblG ∧ Cond.code Lib.Math.max.name Lib.Math.max.code 2 (some .int) ∈ tblG := ⟨(g3 18 rfl rfl), (g3 19 rfl rfl), (g1 24 rfl rfl), (g3 20 rfl rfl)⟩
theorem m_Arrs_304 : Cond.methodLink "java/util/Arrays" 304 Lib.Math.min.name ∈ tblG ∧ Cond.static Lib.Math.min.name ∈ tblG ∧ Cond.initialized "java/lang/Math" ∈ tblG ∧ Cond.code Lib.Math.min.name Lib.Math.min.code 2 (some .int) ∈ tblG := ⟨(g3 56 rfl rfl), (g3 57 rfl rfl), (g1 24 rfl rfl), (g3 58 rfl rfl)⟩
theorem m_Arrs_150 : Cond.methodLink "java/util/Arrays" 150 arraycopyName ∈ tblG ∧ Cond.native arraycopyName ∈ tblG ∧ Cond.static arraycopyName ∈ tblG ∧ Cond.initialized "java/lang/System" ∈ tblG := ⟨(g3 59 rfl rfl), (g3 61 rfl rfl), (g3 60 rfl rfl), (g1 26 rfl rfl)⟩
theorem m_AL_79 : Cond.methodLink "java/util/ArrayList" 79 Lib.Math.max.name ∈ tblG ∧ Cond.static Lib.Math.max.name ∈ tblG ∧ Cond.initialized "java/lang/Math" ∈ tblG ∧ Cond.code Lib.Math.max.name Lib.Math.max.code 2 (some .int) ∈ tblG := ⟨(g3 62 rfl rfl), (g3 19 rfl rfl), (g1 24 rfl rfl), (g3 20 rfl rfl)⟩
theorem m_Law_18 : MLV "LoopProverLaw" 18 "LoopProver" y_P_assign b_P_assign 3 (some .int) 2 := ⟨(g3 63 rfl rfl), (g3 64 rfl rfl), (g3 65 rfl rfl), (g1 1 rfl rfl), (g3 66 rfl rfl), rfl, np_P_assign.1, np_P_assign.2⟩
theorem m_P_148 : MLV "LoopProver" 148 "LoopProver" y_P_full b_P_full 1 (some .boolean) 0 := ⟨(g3 67 rfl rfl), (g3 69 rfl rfl), (gsel 7 rfl), (g1 1 rfl rfl), (g3 70 rfl rfl), rfl, np_P_full.1, np_P_full.2⟩
theorem m_P_157 : MLV "LoopProver" 157 "LoopProver" y_P_add b_P_add 6 (some (.object "LoopProver$Line")) 4 := ⟨(g3 73 rfl rfl), (g3 75 rfl rfl), (gsel 8 rfl), (g1 1 rfl rfl), (g3 76 rfl rfl), rfl, np_P_add.1, np_P_add.2⟩
theorem m_P_141 : MLI "LoopProver" 141 y_Line_init b_Line_init 5 4 := ⟨Or.inl (g3 79 rfl rfl), (g3 80 rfl rfl), (g1 29 rfl rfl), (g3 81 rfl rfl), rfl, np_Line_init.1, np_Line_init.2⟩
theorem m_Line_3 : Cond.methodLink "LoopProver$Line" 3 Lib.objectInit ∈ tblG ∧ Cond.instanceMethod Lib.objectInit ∈ tblG ∧ Cond.code Lib.objectInit ⟨#[0xb1]⟩ 1 none ∈ tblG := ⟨(g3 82 rfl rfl), (g1 37 rfl rfl), (g1 38 rfl rfl)⟩
theorem m_Law_23 : MLV "LoopProverLaw" 23 "LoopProver" y_P_store b_P_store 3 (some .int) 2 := ⟨(g3 112 rfl rfl), (g3 113 rfl rfl), (g3 114 rfl rfl), (g1 1 rfl rfl), (g3 115 rfl rfl), rfl, np_P_store.1, np_P_store.2⟩
theorem m_Law_27 : MLV "LoopProverLaw" 27 "LoopProver" y_P_claim b_P_claim 2 (some .int) 1 := ⟨(g3 118 rfl rfl), (g3 119 rfl rfl), (g3 120 rfl rfl), (g1 1 rfl rfl), (g3 121 rfl rfl), rfl, np_P_claim.1, np_P_claim.2⟩
theorem m_P_166 : MLV "LoopProver" 166 "LoopProver" y_P_plain b_P_plain 3 (some .int) 2 := ⟨(g3 124 rfl rfl), (g3 126 rfl rfl), (gsel 9 rfl), (g1 1 rfl rfl), (g3 127 rfl rfl), rfl, np_P_plain.1, np_P_plain.2⟩
theorem m_Law_32 : MLV "LoopProverLaw" 32 "LoopProver" y_P_assume b_P_assume 2 (some .int) 1 := ⟨(g3 128 rfl rfl), (g3 129 rfl rfl), (g3 130 rfl rfl), (g1 1 rfl rfl), (g3 131 rfl rfl), rfl, np_P_assume.1, np_P_assume.2⟩
theorem m_Law_36 : MLV "LoopProverLaw" 36 "LoopProver" y_P_when b_P_when 2 (some .int) 1 := ⟨(g3 134 rfl rfl), (g3 135 rfl rfl), (g3 136 rfl rfl), (g1 1 rfl rfl), (g3 137 rfl rfl), rfl, np_P_when.1, np_P_when.2⟩
theorem m_P_180 : MLV "LoopProver" 180 "LoopProver" y_P_block b_P_block 4 (some .int) 3 := ⟨(g3 140 rfl rfl), (g3 142 rfl rfl), (gsel 10 rfl), (g1 1 rfl rfl), (g3 143 rfl rfl), rfl, np_P_block.1, np_P_block.2⟩
theorem m_Law_45 : MLV "LoopProverLaw" 45 "LoopProver" y_P_loop b_P_loop 3 (some .int) 2 := ⟨(g3 144 rfl rfl), (g3 145 rfl rfl), (g3 146 rfl rfl), (g1 1 rfl rfl), (g3 147 rfl rfl), rfl, np_P_loop.1, np_P_loop.2⟩
theorem m_Law_40 : MLV "LoopProverLaw" 40 "LoopProver" y_P_other b_P_other 2 (some .int) 0 := ⟨(g3 150 rfl rfl), (g3 151 rfl rfl), (g3 152 rfl rfl), (g1 1 rfl rfl), (g3 153 rfl rfl), rfl, np_P_other.1, np_P_other.2⟩
theorem m_P_187 : MLV "LoopProver" 187 "LoopProver" y_P_inner b_P_inner 1 (some (.object "LoopProver$Line")) 0 := ⟨(g3 154 rfl rfl), (g3 156 rfl rfl), (gsel 11 rfl), (g1 1 rfl rfl), (g3 157 rfl rfl), rfl, np_P_inner.1, np_P_inner.2⟩
theorem m_Law_49 : MLV "LoopProverLaw" 49 "LoopProver" y_P_end b_P_end 2 (some .int) 0 := ⟨(g3 160 rfl rfl), (g3 161 rfl rfl), (g3 162 rfl rfl), (g1 1 rfl rfl), (g3 163 rfl rfl), rfl, np_P_end.1, np_P_end.2⟩
theorem m_Law_53 : MLV "LoopProverLaw" 53 "LoopProver" y_P_clear b_P_clear 2 (some .int) 0 := ⟨(g3 166 rfl rfl), (g3 167 rfl rfl), (g3 168 rfl rfl), (g1 1 rfl rfl), (g3 169 rfl rfl), rfl, np_P_clear.1, np_P_clear.2⟩
theorem m_P_209 : MLV "LoopProver" 209 "java/util/ArrayList" y_AL_clear b_AL_clear 4 none 0 := ⟨(g3 170 rfl rfl), (g3 171 rfl rfl), (g3 172 rfl rfl), (g1 4 rfl rfl), (g3 173 rfl rfl), rfl, np_AL_clear.1, np_AL_clear.2⟩
theorem m_Law_57 : MLV "LoopProverLaw" 57 "LoopProver" y_P_verify b_P_verify 7 (some .int) 2 := ⟨(g3 174 rfl rfl), (g3 175 rfl rfl), (g3 176 rfl rfl), (g1 1 rfl rfl), (g3 177 rfl rfl), rfl, np_P_verify.1, np_P_verify.2⟩
theorem m_P_327 : MLV "LoopProver" 327 "LoopProver" y_P_decide b_P_decide 10 none 5 := ⟨(g3 178 rfl rfl), (g3 180 rfl rfl), (gsel 12 rfl), (g1 1 rfl rfl), (g3 181 rfl rfl), rfl, np_P_decide.1, np_P_decide.2⟩
theorem m_Verdict_3 : Cond.methodLink "LoopProver$Verdict" 3 Lib.objectInit ∈ tblG ∧ Cond.instanceMethod Lib.objectInit ∈ tblG ∧ Cond.code Lib.objectInit ⟨#[0xb1]⟩ 1 none ∈ tblG := ⟨(g3 186 rfl rfl), (g1 37 rfl rfl), (g1 38 rfl rfl)⟩
theorem m_P_308 : MLV "LoopProver" 308 "LoopProver$Circuit" y_Circuit_begin b_Circuit_begin 2 none 0 := ⟨(g3 199 rfl rfl), (g3 200 rfl rfl), (g3 201 rfl rfl), (g1 5 rfl rfl), (g3 202 rfl rfl), rfl, np_Circuit_begin.1, np_Circuit_begin.2⟩
theorem m_Circuit_49 : MLV "LoopProver$Circuit" 49 "LoopProver$Circuit" y_Circuit_add b_Circuit_add 4 none 3 := ⟨(g3 203 rfl rfl), (g3 204 rfl rfl), (g3 205 rfl rfl), (g1 5 rfl rfl), (g3 206 rfl rfl), rfl, np_Circuit_add.1, np_Circuit_add.2⟩
theorem m_Circuit_60 : MLV "LoopProver$Circuit" 60 "LoopProver$Circuit" y_Circuit_open b_Circuit_open 1 none 0 := ⟨(g3 207 rfl rfl), (g3 209 rfl rfl), (gsel 13 rfl), (g1 5 rfl rfl), (g3 210 rfl rfl), rfl, np_Circuit_open.1, np_Circuit_open.2⟩
theorem m_Circuit_53 : MLS "LoopProver$Circuit" 53 y_Circuit_longer b_Circuit_longer 2 (some (.array .int)) 1 := ⟨(g3 211 rfl rfl), (g3 212 rfl rfl), (g1 5 rfl rfl), (g3 213 rfl rfl), np_Circuit_longer.1, np_Circuit_longer.2⟩
theorem m_Circuit_70 : Cond.methodLink "LoopProver$Circuit" 70 arraycopyName ∈ tblG ∧ Cond.native arraycopyName ∈ tblG ∧ Cond.static arraycopyName ∈ tblG ∧ Cond.initialized "java/lang/System" ∈ tblG := ⟨(g3 214 rfl rfl), (g3 61 rfl rfl), (g3 60 rfl rfl), (g1 26 rfl rfl)⟩
theorem m_Circuit_63 : MLV "LoopProver$Circuit" 63 "LoopProver$Circuit" y_Circuit_put b_Circuit_put 2 none 1 := ⟨(g3 215 rfl rfl), (g3 217 rfl rfl), (gsel 14 rfl), (g1 5 rfl rfl), (g3 218 rfl rfl), rfl, np_Circuit_put.1, np_Circuit_put.2⟩
theorem m_Circuit_57 : MLV "LoopProver$Circuit" 57 "LoopProver$Circuit" y_Circuit_room b_Circuit_room 1 none 0 := ⟨(g3 219 rfl rfl), (g3 221 rfl rfl), (gsel 15 rfl), (g1 5 rfl rfl), (g3 222 rfl rfl), rfl, np_Circuit_room.1, np_Circuit_room.2⟩
theorem m_Circuit_67 : MLV "LoopProver$Circuit" 67 "LoopProver$Circuit" y_Circuit_close b_Circuit_close 1 none 0 := ⟨(g3 223 rfl rfl), (g3 225 rfl rfl), (gsel 16 rfl), (g1 5 rfl rfl), (g3 226 rfl rfl), rfl, np_Circuit_close.1, np_Circuit_close.2⟩
theorem m_P_232 : MLV "LoopProver" 232 "LoopProver" y_P_gate b_P_gate 4 (some .int) 2 := ⟨(g3 227 rfl rfl), (g3 229 rfl rfl), (gsel 17 rfl), (g1 1 rfl rfl), (g3 230 rfl rfl), rfl, np_P_gate.1, np_P_gate.2⟩
theorem m_P_221 : MLV "LoopProver" 221 "LoopProver" y_P_need b_P_need 4 none 1 := ⟨(g3 231 rfl rfl), (g3 233 rfl rfl), (gsel 18 rfl), (g1 1 rfl rfl), (g3 234 rfl rfl), rfl, np_P_need.1, np_P_need.2⟩
theorem m_P_224_Below : MLU "LoopProver" 224 "LoopProver$Below" "LoopProver$Node" ⟨"LoopProver$Node", "gates", "(LLoopProver$Circuit;[I[I)V"⟩ y_Below_gates b_Below_gates 8 none 3 := ⟨(g3 235 rfl rfl), (g3 237 rfl rfl), (g3 238 rfl rfl), (g3 239 rfl rfl), (g1 19 rfl rfl), (g4 0 rfl rfl), ⟨by decide +kernel, by decide +kernel⟩, by unfold nPar; decide +kernel, Or.inl (List.mem_of_getElem? (i := 30) rfl)⟩
theorem m_P_224_Both : MLU "LoopProver" 224 "LoopProver$Both" "LoopProver$Node" ⟨"LoopProver$Node", "gates", "(LLoopProver$Circuit;[I[I)V"⟩ y_Both_gates b_Both_gates 4 none 3 := ⟨(g3 235 rfl rfl), (g3 237 rfl rfl), (g4 23 rfl rfl), (g4 24 rfl rfl), (g1 22 rfl rfl), (g4 25 rfl rfl), ⟨by decide +kernel, by decide +kernel⟩, by unfold nPar; decide +kernel, Or.inl (List.mem_of_getElem? (i := 30) rfl)⟩
theorem m_P_224_Constant : MLU "LoopProver" 224 "LoopProver$Constant" "LoopProver$Node" ⟨"LoopProver$Node", "gates", "(LLoopProver$Circuit;[I[I)V"⟩ y_Constant_gates b_Constant_gates 5 none 3 := ⟨(g3 235 rfl rfl), (g3 237 rfl rfl), (g4 27 rfl rfl), (g4 28 rfl rfl), (g1 13 rfl rfl), (g4 29 rfl rfl), ⟨by decide +kernel, by decide +kernel⟩, by unfold nPar; decide +kernel, Or.inl (List.mem_of_getElem? (i := 30) rfl)⟩
theorem m_P_224_Meet : MLU "LoopProver" 224 "LoopProver$Meet" "LoopProver$Node" ⟨"LoopProver$Node", "gates", "(LLoopProver$Circuit;[I[I)V"⟩ y_Meet_gates b_Meet_gates 5 none 3 := ⟨(g3 235 rfl rfl), (g3 237 rfl rfl), (g4 30 rfl rfl), (g4 31 rfl rfl), (g1 17 rfl rfl), (g4 32 rfl rfl), ⟨by decide +kernel, by decide +kernel⟩, by unfold nPar; decide +kernel, Or.inl (List.mem_of_getElem? (i := 30) rfl)⟩
theorem m_P_224_Not : MLU "LoopProver" 224 "LoopProver$Not" "LoopProver$Node" ⟨"LoopProver$Node", "gates", "(LLoopProver$Circuit;[I[I)V"⟩ y_Not_gates b_Not_gates 4 none 3 := ⟨(g3 235 rfl rfl), (g3 237 rfl rfl), (g4 34 rfl rfl), (g4 35 rfl rfl), (g1 21 rfl rfl), (g4 36 rfl rfl), ⟨by decide +kernel, by decide +kernel⟩, by unfold nPar; decide +kernel, Or.inl (List.mem_of_getElem? (i := 30) rfl)⟩
theorem m_P_224_Read : MLU "LoopProver" 224 "LoopProver$Read" "LoopProver$Node" ⟨"LoopProver$Node", "gates", "(LLoopProver$Circuit;[I[I)V"⟩ y_Read_gates b_Read_gates 5 none 3 := ⟨(g3 235 rfl rfl), (g3 237 rfl rfl), (g4 37 rfl rfl), (g4 38 rfl rfl), (g1 15 rfl rfl), (g4 39 rfl rfl), ⟨by decide +kernel, by decide +kernel⟩, by unfold nPar; decide +kernel, Or.inl (List.mem_of_getElem? (i := 30) rfl)⟩
theorem m_P_224_Same : MLU "LoopProver" 224 "LoopProver$Same" "LoopProver$Node" ⟨"LoopProver$Node", "gates", "(LLoopProver$Circuit;[I[I)V"⟩ y_Same_gates b_Same_gates 6 none 3 := ⟨(g3 235 rfl rfl), (g3 237 rfl rfl), (g4 41 rfl rfl), (g4 42 rfl rfl), (g1 20 rfl rfl), (g4 43 rfl rfl), ⟨by decide +kernel, by decide +kernel⟩, by unfold nPar; decide +kernel, Or.inl (List.mem_of_getElem? (i := 30) rfl)⟩
theorem m_P_224_Sum : MLU "LoopProver" 224 "LoopProver$Sum" "LoopProver$Node" ⟨"LoopProver$Node", "gates", "(LLoopProver$Circuit;[I[I)V"⟩ y_Sum_gates b_Sum_gates 9 none 3 := ⟨(g3 235 rfl rfl), (g3 237 rfl rfl), (g4 46 rfl rfl), (g4 47 rfl rfl), (g1 16 rfl rfl), (g4 48 rfl rfl), ⟨by decide +kernel, by decide +kernel⟩, by unfold nPar; decide +kernel, Or.inl (List.mem_of_getElem? (i := 30) rfl)⟩
theorem m_P_224_Variable : MLU "LoopProver" 224 "LoopProver$Variable" "LoopProver$Node" ⟨"LoopProver$Node", "gates", "(LLoopProver$Circuit;[I[I)V"⟩ y_Variable_gates b_Variable_gates 4 none 3 := ⟨(g3 235 rfl rfl), (g3 237 rfl rfl), (g4 52 rfl rfl), (g4 53 rfl rfl), (g1 14 rfl rfl), (g4 54 rfl rfl), ⟨by decide +kernel, by decide +kernel⟩, by unfold nPar; decide +kernel, Or.inl (List.mem_of_getElem? (i := 30) rfl)⟩
theorem m_Below_18 : MLV "LoopProver$Below" 18 "LoopProver$Circuit" y_Circuit_differ b_Circuit_differ 3 (some .int) 2 := ⟨(g4 1 rfl rfl), (g4 2 rfl rfl), (g4 3 rfl rfl), (g1 5 rfl rfl), (g4 4 rfl rfl), rfl, np_Circuit_differ.1, np_Circuit_differ.2⟩
theorem m_Circuit_88 : MLV "LoopProver$Circuit" 88 "LoopProver$Circuit" y_Circuit_and b_Circuit_and 7 (some .int) 2 := ⟨(g4 5 rfl rfl), (g4 6 rfl rfl), (g4 7 rfl rfl), (g1 5 rfl rfl), (g4 8 rfl rfl), rfl, np_Circuit_and.1, np_Circuit_and.2⟩
theorem m_Circuit_76 : Cond.methodLink "LoopProver$Circuit" 76 Lib.Math.min.name ∈ tblG ∧ Cond.static Lib.Math.min.name ∈ tblG ∧ Cond.initialized "java/lang/Math" ∈ tblG ∧ Cond.code Lib.Math.min.name Lib.Math.min.code 2 (some .int) ∈ tblG := ⟨(g4 9 rfl rfl), (g3 57 rfl rfl), (g1 24 rfl rfl), (g3 58 rfl rfl)⟩
theorem m_Circuit_82 : Cond.methodLink "LoopProver$Circuit" 82 Lib.Math.max.name ∈ tblG ∧ Cond.static Lib.Math.max.name ∈ tblG ∧ Cond.initialized "java/lang/Math" ∈ tblG ∧ Cond.code Lib.Math.max.name Lib.Math.max.code 2 (some .int) ∈ tblG := ⟨(g4 10 rfl rfl), (g3 19 rfl rfl), (g1 24 rfl rfl), (g3 20 rfl rfl)⟩
theorem m_Circuit_85 : MLV "LoopProver$Circuit" 85 "LoopProver$Circuit" y_Circuit_grow b_Circuit_grow 1 none 0 := ⟨(g4 11 rfl rfl), (g4 13 rfl rfl), (gsel 19 rfl), (g1 5 rfl rfl), (g4 14 rfl rfl), rfl, np_Circuit_grow.1, np_Circuit_grow.2⟩
theorem m_Circuit_91 : MLV "LoopProver$Circuit" 91 "LoopProver$Circuit" y_Circuit_or b_Circuit_or 3 (some .int) 2 := ⟨(g4 15 rfl rfl), (g4 16 rfl rfl), (g4 17 rfl rfl), (g1 5 rfl rfl), (g4 18 rfl rfl), rfl, np_Circuit_or.1, np_Circuit_or.2⟩
theorem m_Below_24 : MLV "LoopProver$Below" 24 "LoopProver$Circuit" y_Circuit_either b_Circuit_either 4 (some .int) 3 := ⟨(g4 19 rfl rfl), (g4 20 rfl rfl), (g4 21 rfl rfl), (g1 5 rfl rfl), (g4 22 rfl rfl), rfl, np_Circuit_either.1, np_Circuit_either.2⟩
theorem m_Both_21 : MLV "LoopProver$Both" 21 "LoopProver$Circuit" y_Circuit_and b_Circuit_and 7 (some .int) 2 := ⟨(g4 26 rfl rfl), (g4 6 rfl rfl), (g4 7 rfl rfl), (g1 5 rfl rfl), (g4 8 rfl rfl), rfl, np_Circuit_and.1, np_Circuit_and.2⟩
theorem m_Meet_21 : MLV "LoopProver$Meet" 21 "LoopProver$Circuit" y_Circuit_and b_Circuit_and 7 (some .int) 2 := ⟨(g4 33 rfl rfl), (g4 6 rfl rfl), (g4 7 rfl rfl), (g1 5 rfl rfl), (g4 8 rfl rfl), rfl, np_Circuit_and.1, np_Circuit_and.2⟩
theorem m_Read_18 : MLV "LoopProver$Read" 18 "LoopProver$Circuit" y_Circuit_either b_Circuit_either 4 (some .int) 3 := ⟨(g4 40 rfl rfl), (g4 20 rfl rfl), (g4 21 rfl rfl), (g1 5 rfl rfl), (g4 22 rfl rfl), rfl, np_Circuit_either.1, np_Circuit_either.2⟩
theorem m_Same_18 : MLV "LoopProver$Same" 18 "LoopProver$Circuit" y_Circuit_differ b_Circuit_differ 3 (some .int) 2 := ⟨(g4 44 rfl rfl), (g4 2 rfl rfl), (g4 3 rfl rfl), (g1 5 rfl rfl), (g4 4 rfl rfl), rfl, np_Circuit_differ.1, np_Circuit_differ.2⟩
theorem m_Same_24 : MLV "LoopProver$Same" 24 "LoopProver$Circuit" y_Circuit_or b_Circuit_or 3 (some .int) 2 := ⟨(g4 45 rfl rfl), (g4 16 rfl rfl), (g4 17 rfl rfl), (g1 5 rfl rfl), (g4 18 rfl rfl), rfl, np_Circuit_or.1, np_Circuit_or.2⟩
theorem m_Sum_22 : MLV "LoopProver$Sum" 22 "LoopProver$Circuit" y_Circuit_differ b_Circuit_differ 3 (some .int) 2 := ⟨(g4 49 rfl rfl), (g4 2 rfl rfl), (g4 3 rfl rfl), (g1 5 rfl rfl), (g4 4 rfl rfl), rfl, np_Circuit_differ.1, np_Circuit_differ.2⟩
theorem m_Sum_31 : MLV "LoopProver$Sum" 31 "LoopProver$Circuit" y_Circuit_and b_Circuit_and 7 (some .int) 2 := ⟨(g4 50 rfl rfl), (g4 6 rfl rfl), (g4 7 rfl rfl), (g1 5 rfl rfl), (g4 8 rfl rfl), rfl, np_Circuit_and.1, np_Circuit_and.2⟩
theorem m_Sum_34 : MLV "LoopProver$Sum" 34 "LoopProver$Circuit" y_Circuit_or b_Circuit_or 3 (some .int) 2 := ⟨(g4 51 rfl rfl), (g4 16 rfl rfl), (g4 17 rfl rfl), (g1 5 rfl rfl), (g4 18 rfl rfl), rfl, np_Circuit_or.1, np_Circuit_or.2⟩
theorem m_Variable_18 : Cond.methodLink "LoopProver$Variable" 18 arraycopyName ∈ tblG ∧ Cond.native arraycopyName ∈ tblG ∧ Cond.static arraycopyName ∈ tblG ∧ Cond.initialized "java/lang/System" ∈ tblG := ⟨(g4 55 rfl rfl), (g3 61 rfl rfl), (g3 60 rfl rfl), (g1 26 rfl rfl)⟩
theorem m_P_269 : MLV "LoopProver" 269 "LoopProver$Circuit" y_Circuit_and b_Circuit_and 7 (some .int) 2 := ⟨(g4 56 rfl rfl), (g4 6 rfl rfl), (g4 7 rfl rfl), (g1 5 rfl rfl), (g4 8 rfl rfl), rfl, np_Circuit_and.1, np_Circuit_and.2⟩
theorem m_P_285 : MLS "LoopProver" 285 y_P_go b_P_go 7 none 5 := ⟨(g4 57 rfl rfl), (g4 58 rfl rfl), (g1 1 rfl rfl), (g4 59 rfl rfl), np_P_go.1, np_P_go.2⟩
theorem m_P_243_Kind : MLU "LoopProver" 243 "LoopProver$Kind" "java/lang/Enum" ⟨"LoopProver$Kind", "ordinal", "()I"⟩ y_Enum_ordinal b_Enum_ordinal 1 (some .int) 0 := ⟨(g4 60 rfl rfl), (g4 61 rfl rfl), (g4 63 rfl rfl), (g4 64 rfl rfl), (g1 27 rfl rfl), (g4 65 rfl rfl), ⟨by decide +kernel, by decide +kernel⟩, by unfold nPar; decide +kernel, Or.inl (List.mem_of_getElem? (i := 31) rfl)⟩
theorem m_P_252 : Cond.methodLink "LoopProver" 252 arraycopyName ∈ tblG ∧ Cond.native arraycopyName ∈ tblG ∧ Cond.static arraycopyName ∈ tblG ∧ Cond.initialized "java/lang/System" ∈ tblG := ⟨(g4 66 rfl rfl), (g3 61 rfl rfl), (g3 60 rfl rfl), (g1 26 rfl rfl)⟩
theorem m_P_258 : MLV "LoopProver" 258 "LoopProver" y_P_storeIn b_P_storeIn 6 none 2 := ⟨(g4 67 rfl rfl), (g4 69 rfl rfl), (gsel 20 rfl), (g1 1 rfl rfl), (g4 70 rfl rfl), rfl, np_P_storeIn.1, np_P_storeIn.2⟩
theorem m_P_239 : MLV "LoopProver" 239 "LoopProver$Circuit" y_Circuit_either b_Circuit_either 4 (some .int) 3 := ⟨(g4 71 rfl rfl), (g4 20 rfl rfl), (g4 21 rfl rfl), (g1 5 rfl rfl), (g4 22 rfl rfl), rfl, np_Circuit_either.1, np_Circuit_either.2⟩
theorem m_P_262 : MLV "LoopProver" 262 "LoopProver$Flow" y_Flow_must b_Flow_must 3 none 2 := ⟨(g4 72 rfl rfl), (g4 73 rfl rfl), (g4 74 rfl rfl), (g1 8 rfl rfl), (g4 75 rfl rfl), rfl, np_Flow_must.1, np_Flow_must.2⟩
theorem m_Flow_28 : MLV "LoopProver$Flow" 28 "LoopProver$Circuit" y_Circuit_and b_Circuit_and 7 (some .int) 2 := ⟨(g4 76 rfl rfl), (g4 6 rfl rfl), (g4 7 rfl rfl), (g1 5 rfl rfl), (g4 8 rfl rfl), rfl, np_Circuit_and.1, np_Circuit_and.2⟩
theorem m_Flow_34 : MLV "LoopProver$Flow" 34 "LoopProver$Circuit" y_Circuit_or b_Circuit_or 3 (some .int) 2 := ⟨(g4 77 rfl rfl), (g4 16 rfl rfl), (g4 17 rfl rfl), (g1 5 rfl rfl), (g4 18 rfl rfl), rfl, np_Circuit_or.1, np_Circuit_or.2⟩
theorem m_P_273 : MLS "LoopProver" 273 y_P_parted b_P_parted 8 none 5 := ⟨(g4 78 rfl rfl), (g4 79 rfl rfl), (g1 1 rfl rfl), (g4 80 rfl rfl), np_P_parted.1, np_P_parted.2⟩
theorem m_P_281 : MLV "LoopProver" 281 "LoopProver$Flow" y_Flow_copy b_Flow_copy 2 none 1 := ⟨(g4 81 rfl rfl), (g4 82 rfl rfl), (g4 83 rfl rfl), (g1 8 rfl rfl), (g4 84 rfl rfl), rfl, np_Flow_copy.1, np_Flow_copy.2⟩
theorem m_Flow_15 : Cond.methodLink "LoopProver$Flow" 15 arraycopyName ∈ tblG ∧ Cond.native arraycopyName ∈ tblG ∧ Cond.static arraycopyName ∈ tblG ∧ Cond.initialized "java/lang/System" ∈ tblG := ⟨(g4 85 rfl rfl), (g3 61 rfl rfl), (g3 60 rfl rfl), (g1 26 rfl rfl)⟩
theorem m_P_289 : MLV "LoopProver" 289 "LoopProver$Circuit" y_Circuit_or b_Circuit_or 3 (some .int) 2 := ⟨(g4 86 rfl rfl), (g4 16 rfl rfl), (g4 17 rfl rfl), (g1 5 rfl rfl), (g4 18 rfl rfl), rfl, np_Circuit_or.1, np_Circuit_or.2⟩
theorem m_P_277 : MLS "LoopProver" 277 y_P_stop b_P_stop 3 none 3 := ⟨(g4 87 rfl rfl), (g4 88 rfl rfl), (g1 1 rfl rfl), (g4 89 rfl rfl), np_P_stop.1, np_P_stop.2⟩
theorem m_P_311 : MLV "LoopProver" 311 "LoopProver$Circuit" y_Circuit_add b_Circuit_add 4 none 3 := ⟨(g4 90 rfl rfl), (g3 204 rfl rfl), (g3 205 rfl rfl), (g1 5 rfl rfl), (g3 206 rfl rfl), rfl, np_Circuit_add.1, np_Circuit_add.2⟩
theorem m_P_313 : MLV "LoopProver" 313 "LoopProver$Solver" y_Solver_solve b_Solver_solve 5 (some .boolean) 1 := ⟨(g4 91 rfl rfl), (g4 92 rfl rfl), (g4 93 rfl rfl), (g1 6 rfl rfl), (g4 94 rfl rfl), rfl, np_Solver_solve.1, np_Solver_solve.2⟩
theorem m_Solver_123 : MLV "LoopProver$Solver" 123 "LoopProver$Solver" y_Solver_prepare b_Solver_prepare 3 none 1 := ⟨(g4 95 rfl rfl), (g4 97 rfl rfl), (gsel 21 rfl), (g1 6 rfl rfl), (g4 98 rfl rfl), rfl, np_Solver_prepare.1, np_Solver_prepare.2⟩
theorem m_Solver_127 : MLV "LoopProver$Solver" 127 "LoopProver$Solver" y_Solver_start b_Solver_start 2 (some .int) 0 := ⟨(g4 99 rfl rfl), (g4 101 rfl rfl), (gsel 22 rfl), (g1 6 rfl rfl), (g4 102 rfl rfl), rfl, np_Solver_start.1, np_Solver_start.2⟩
theorem m_Solver_86 : MLV "LoopProver$Solver" 86 "LoopProver$Solver" y_Solver_broken b_Solver_broken 5 (some .boolean) 1 := ⟨(g4 103 rfl rfl), (g4 105 rfl rfl), (gsel 23 rfl), (g1 6 rfl rfl), (g4 106 rfl rfl), rfl, np_Solver_broken.1, np_Solver_broken.2⟩
theorem m_Solver_76 : MLV "LoopProver$Solver" 76 "LoopProver$Solver" y_Solver_set b_Solver_set 3 none 2 := ⟨(g4 107 rfl rfl), (g4 109 rfl rfl), (gsel 24 rfl), (g1 6 rfl rfl), (g4 110 rfl rfl), rfl, np_Solver_set.1, np_Solver_set.2⟩
theorem m_Solver_93 : MLV "LoopProver$Solver" 93 "LoopProver$Solver" y_Solver_spread b_Solver_spread 4 (some .int) 0 := ⟨(g4 111 rfl rfl), (g4 113 rfl rfl), (gsel 25 rfl), (g1 6 rfl rfl), (g4 114 rfl rfl), rfl, np_Solver_spread.1, np_Solver_spread.2⟩
theorem m_Solver_131 : MLV "LoopProver$Solver" 131 "LoopProver$Solver" y_Solver_explain b_Solver_explain 5 none 1 := ⟨(g4 116 rfl rfl), (g4 118 rfl rfl), (gsel 26 rfl), (g1 6 rfl rfl), (g4 119 rfl rfl), rfl, np_Solver_explain.1, np_Solver_explain.2⟩
theorem m_Solver_107 : MLV "LoopProver$Solver" 107 "LoopProver$Solver" y_Solver_mark b_Solver_mark 3 none 1 := ⟨(g4 120 rfl rfl), (g4 122 rfl rfl), (gsel 27 rfl), (g1 6 rfl rfl), (g4 123 rfl rfl), rfl, np_Solver_mark.1, np_Solver_mark.2⟩
theorem m_Solver_100 : MLS "LoopProver$Solver" 100 y_Circuit_longer b_Circuit_longer 2 (some (.array .int)) 1 := ⟨(g4 124 rfl rfl), (g3 212 rfl rfl), (g1 5 rfl rfl), (g3 213 rfl rfl), np_Circuit_longer.1, np_Circuit_longer.2⟩
theorem m_Solver_111 : MLV "LoopProver$Solver" 111 "LoopProver$Checker" y_Checker_accepts b_Checker_accepts 10 (some .boolean) 5 := ⟨(g4 125 rfl rfl), (g4 126 rfl rfl), (g4 127 rfl rfl), (g1 7 rfl rfl), (g4 128 rfl rfl), rfl, np_Checker_accepts.1, np_Checker_accepts.2⟩
theorem m_Checker_38 : MLV "LoopProver$Checker" 38 "LoopProver$Checker" y_Checker_note b_Checker_note 2 none 1 := ⟨(g4 129 rfl rfl), (g4 131 rfl rfl), (gsel 28 rfl), (g1 7 rfl rfl), (g4 132 rfl rfl), rfl, np_Checker_note.1, np_Checker_note.2⟩
theorem m_Checker_22 : MLS "LoopProver$Checker" 22 y_Circuit_longer b_Circuit_longer 2 (some (.array .int)) 1 := ⟨(g4 133 rfl rfl), (g3 212 rfl rfl), (g1 5 rfl rfl), (g3 213 rfl rfl), np_Circuit_longer.1, np_Circuit_longer.2⟩
theorem m_Checker_45 : MLV "LoopProver$Checker" 45 "LoopProver$Checker" y_Checker_rest b_Checker_rest 6 (some .int) 2 := ⟨(g4 134 rfl rfl), (g4 136 rfl rfl), (gsel 29 rfl), (g1 7 rfl rfl), (g4 137 rfl rfl), rfl, np_Checker_rest.1, np_Checker_rest.2⟩
theorem m_Checker_49 : MLV "LoopProver$Checker" 49 "LoopProver$Checker" y_Checker_forget b_Checker_forget 1 none 0 := ⟨(g4 139 rfl rfl), (g4 141 rfl rfl), (gsel 30 rfl), (g1 7 rfl rfl), (g4 142 rfl rfl), rfl, np_Checker_forget.1, np_Checker_forget.2⟩
theorem m_Solver_134 : MLV "LoopProver$Solver" 134 "LoopProver$Solver" y_Solver_back b_Solver_back 3 none 0 := ⟨(g4 143 rfl rfl), (g4 145 rfl rfl), (gsel 31 rfl), (g1 6 rfl rfl), (g4 146 rfl rfl), rfl, np_Solver_back.1, np_Solver_back.2⟩
theorem m_Solver_117 : MLV "LoopProver$Solver" 117 "LoopProver$Circuit" y_Circuit_lastFirst b_Circuit_lastFirst 1 (some .int) 0 := ⟨(g4 147 rfl rfl), (g4 148 rfl rfl), (g4 149 rfl rfl), (g1 5 rfl rfl), (g4 150 rfl rfl), rfl, np_Circuit_lastFirst.1, np_Circuit_lastFirst.2⟩
theorem m_Solver_120 : MLV "LoopProver$Solver" 120 "LoopProver$Circuit" y_Circuit_drop b_Circuit_drop 1 none 0 := ⟨(g4 151 rfl rfl), (g4 152 rfl rfl), (g4 153 rfl rfl), (g1 5 rfl rfl), (g4 154 rfl rfl), rfl, np_Circuit_drop.1, np_Circuit_drop.2⟩
theorem m_Solver_137 : MLV "LoopProver$Solver" 137 "LoopProver$Circuit" y_Circuit_keep b_Circuit_keep 4 none 2 := ⟨(g4 155 rfl rfl), (g4 156 rfl rfl), (g4 157 rfl rfl), (g1 5 rfl rfl), (g4 158 rfl rfl), rfl, np_Circuit_keep.1, np_Circuit_keep.2⟩
theorem m_Solver_141 : MLV "LoopProver$Solver" 141 "LoopProver$Solver" y_Solver_nextInput b_Solver_nextInput 2 (some .int) 0 := ⟨(g4 159 rfl rfl), (g4 161 rfl rfl), (gsel 32 rfl), (g1 6 rfl rfl), (g4 162 rfl rfl), rfl, np_Solver_nextInput.1, np_Solver_nextInput.2⟩
theorem m_P_323 : MLV "LoopProver" 323 "LoopProver" y_P_follow b_P_follow 9 (some .int) 3 := ⟨(g4 163 rfl rfl), (g4 165 rfl rfl), (gsel 33 rfl), (g1 1 rfl rfl), (g4 166 rfl rfl), rfl, np_P_follow.1, np_P_follow.2⟩
theorem m_P_347 : MLV "LoopProver" 347 "LoopProver" y_P_load b_P_load 3 none 1 := ⟨(g4 167 rfl rfl), (g4 169 rfl rfl), (gsel 34 rfl), (g1 1 rfl rfl), (g4 170 rfl rfl), rfl, np_P_load.1, np_P_load.2⟩
theorem m_P_350 : MLV "LoopProver" 350 "LoopProver" y_P_done b_P_done 4 (some .int) 2 := ⟨(g4 171 rfl rfl), (g4 173 rfl rfl), (gsel 35 rfl), (g1 1 rfl rfl), (g4 174 rfl rfl), rfl, np_P_done.1, np_P_done.2⟩
theorem m_P_339 : MLV "LoopProver" 339 "LoopProver" y_P_worth b_P_worth 3 (some .int) 1 := ⟨(g4 175 rfl rfl), (g4 177 rfl rfl), (gsel 36 rfl), (g1 1 rfl rfl), (g4 178 rfl rfl), rfl, np_P_worth.1, np_P_worth.2⟩
theorem m_P_335_Below : MLU "LoopProver" 335 "LoopProver$Below" "LoopProver$Node" ⟨"LoopProver$Node", "of", "([I[I)I"⟩ y_Below_of b_Below_of 3 (some .int) 2 := ⟨(g4 179 rfl rfl), (g4 181 rfl rfl), (g4 182 rfl rfl), (g4 183 rfl rfl), (g1 19 rfl rfl), (g4 184 rfl rfl), ⟨by decide +kernel, by decide +kernel⟩, by unfold nPar; decide +kernel, Or.inl (List.mem_of_getElem? (i := 32) rfl)⟩
theorem m_P_335_Both : MLU "LoopProver" 335 "LoopProver$Both" "LoopProver$Node" ⟨"LoopProver$Node", "of", "([I[I)I"⟩ y_Both_of b_Both_of 3 (some .int) 2 := ⟨(g4 179 rfl rfl), (g4 181 rfl rfl), (g4 185 rfl rfl), (g4 186 rfl rfl), (g1 22 rfl rfl), (g4 187 rfl rfl), ⟨by decide +kernel, by decide +kernel⟩, by unfold nPar; decide +kernel, Or.inl (List.mem_of_getElem? (i := 32) rfl)⟩
theorem m_P_335_Constant : MLU "LoopProver" 335 "LoopProver$Constant" "LoopProver$Node" ⟨"LoopProver$Node", "of", "([I[I)I"⟩ y_Constant_of b_Constant_of 3 (some .int) 2 := ⟨(g4 179 rfl rfl), (g4 181 rfl rfl), (g4 188 rfl rfl), (g4 189 rfl rfl), (g1 13 rfl rfl), (g4 190 rfl rfl), ⟨by decide +kernel, by decide +kernel⟩, by unfold nPar; decide +kernel, Or.inl (List.mem_of_getElem? (i := 32) rfl)⟩
theorem m_P_335_Meet : MLU "LoopProver" 335 "LoopProver$Meet" "LoopProver$Node" ⟨"LoopProver$Node", "of", "([I[I)I"⟩ y_Meet_of b_Meet_of 3 (some .int) 2 := ⟨(g4 179 rfl rfl), (g4 181 rfl rfl), (g4 191 rfl rfl), (g4 192 rfl rfl), (g1 17 rfl rfl), (g4 193 rfl rfl), ⟨by decide +kernel, by decide +kernel⟩, by unfold nPar; decide +kernel, Or.inl (List.mem_of_getElem? (i := 32) rfl)⟩
theorem m_P_335_Not : MLU "LoopProver" 335 "LoopProver$Not" "LoopProver$Node" ⟨"LoopProver$Node", "of", "([I[I)I"⟩ y_Not_of b_Not_of 3 (some .int) 2 := ⟨(g4 179 rfl rfl), (g4 181 rfl rfl), (g4 194 rfl rfl), (g4 195 rfl rfl), (g1 21 rfl rfl), (g4 196 rfl rfl), ⟨by decide +kernel, by decide +kernel⟩, by unfold nPar; decide +kernel, Or.inl (List.mem_of_getElem? (i := 32) rfl)⟩
theorem m_P_335_Read : MLU "LoopProver" 335 "LoopProver$Read" "LoopProver$Node" ⟨"LoopProver$Node", "of", "([I[I)I"⟩ y_Read_of b_Read_of 3 (some .int) 2 := ⟨(g4 179 rfl rfl), (g4 181 rfl rfl), (g4 197 rfl rfl), (g4 198 rfl rfl), (g1 15 rfl rfl), (g4 199 rfl rfl), ⟨by decide +kernel, by decide +kernel⟩, by unfold nPar; decide +kernel, Or.inl (List.mem_of_getElem? (i := 32) rfl)⟩
theorem m_P_335_Same : MLU "LoopProver" 335 "LoopProver$Same" "LoopProver$Node" ⟨"LoopProver$Node", "of", "([I[I)I"⟩ y_Same_of b_Same_of 3 (some .int) 2 := ⟨(g4 179 rfl rfl), (g4 181 rfl rfl), (g4 200 rfl rfl), (g4 201 rfl rfl), (g1 20 rfl rfl), (g4 202 rfl rfl), ⟨by decide +kernel, by decide +kernel⟩, by unfold nPar; decide +kernel, Or.inl (List.mem_of_getElem? (i := 32) rfl)⟩
theorem m_P_335_Sum : MLU "LoopProver" 335 "LoopProver$Sum" "LoopProver$Node" ⟨"LoopProver$Node", "of", "([I[I)I"⟩ y_Sum_of b_Sum_of 3 (some .int) 2 := ⟨(g4 179 rfl rfl), (g4 181 rfl rfl), (g4 203 rfl rfl), (g4 204 rfl rfl), (g1 16 rfl rfl), (g4 205 rfl rfl), ⟨by decide +kernel, by decide +kernel⟩, by unfold nPar; decide +kernel, Or.inl (List.mem_of_getElem? (i := 32) rfl)⟩
theorem m_P_335_Variable : MLU "LoopProver" 335 "LoopProver$Variable" "LoopProver$Node" ⟨"LoopProver$Node", "of", "([I[I)I"⟩ y_Variable_of b_Variable_of 3 (some .int) 2 := ⟨(g4 179 rfl rfl), (g4 181 rfl rfl), (g4 206 rfl rfl), (g4 207 rfl rfl), (g1 14 rfl rfl), (g4 208 rfl rfl), ⟨by decide +kernel, by decide +kernel⟩, by unfold nPar; decide +kernel, Or.inl (List.mem_of_getElem? (i := 32) rfl)⟩
theorem m_P_343 : MLV "LoopProver" 343 "LoopProver" y_P_holds b_P_holds 2 (some .boolean) 1 := ⟨(g4 209 rfl rfl), (g4 211 rfl rfl), (gsel 37 rfl), (g1 1 rfl rfl), (g4 212 rfl rfl), rfl, np_P_holds.1, np_P_holds.2⟩
theorem m_Law_61 : MLV "LoopProverLaw" 61 "LoopProver" y_P_conditions b_P_conditions 1 (some .int) 0 := ⟨(g4 213 rfl rfl), (g4 214 rfl rfl), (g4 215 rfl rfl), (g1 1 rfl rfl), (g4 216 rfl rfl), rfl, np_P_conditions.1, np_P_conditions.2⟩
theorem m_Law_65 : MLV "LoopProverLaw" 65 "LoopProver" y_P_witness b_P_witness 3 (some .int) 1 := ⟨(g4 217 rfl rfl), (g4 218 rfl rfl), (g4 219 rfl rfl), (g1 1 rfl rfl), (g4 220 rfl rfl), rfl, np_P_witness.1, np_P_witness.2⟩
theorem m_P_331 : MLV "LoopProver" 331 "LoopProver" y_P_verdict b_P_verdict 2 (some (.object "LoopProver$Verdict")) 1 := ⟨(g4 221 rfl rfl), (g4 223 rfl rfl), (gsel 38 rfl), (g1 1 rfl rfl), (g4 224 rfl rfl), rfl, np_P_verdict.1, np_P_verdict.2⟩
theorem m_Law_69 : MLV "LoopProverLaw" 69 "LoopProver" y_P_proved b_P_proved 3 (some .boolean) 1 := ⟨(g4 225 rfl rfl), (g4 226 rfl rfl), (g4 227 rfl rfl), (g1 1 rfl rfl), (g4 228 rfl rfl), rfl, np_P_proved.1, np_P_proved.2⟩
theorem m_Law_74 : MLV "LoopProverLaw" 74 "LoopProver" y_P_failure b_P_failure 3 (some .int) 1 := ⟨(g4 229 rfl rfl), (g4 230 rfl rfl), (g4 231 rfl rfl), (g1 1 rfl rfl), (g4 232 rfl rfl), rfl, np_P_failure.1, np_P_failure.2⟩
theorem m_Law_78 : MLV "LoopProverLaw" 78 "LoopProver" y_P_run b_P_run 6 (some .int) 2 := ⟨(g4 233 rfl rfl), (g4 234 rfl rfl), (g4 235 rfl rfl), (g1 1 rfl rfl), (g4 236 rfl rfl), rfl, np_P_run.1, np_P_run.2⟩
theorem m_Law_82 : MLV "LoopProverLaw" 82 "LoopProver" y_P_value b_P_value 4 (some .int) 2 := ⟨(g4 238 rfl rfl), (g4 239 rfl rfl), (g5 0 rfl rfl), (g1 1 rfl rfl), (g5 1 rfl rfl), rfl, np_P_value.1, np_P_value.2⟩
theorem m_Law_12 : MLI "LoopProverLaw" 12 y_M_init b_M_init 1 0 := ⟨Or.inl (g5 4 rfl rfl), (g5 5 rfl rfl), (g1 9 rfl rfl), (g5 6 rfl rfl), rfl, np_M_init.1, np_M_init.2⟩
theorem m_M_1 : Cond.methodLink "LoopProverModel" 1 Lib.objectInit ∈ tblG ∧ Cond.instanceMethod Lib.objectInit ∈ tblG ∧ Cond.code Lib.objectInit ⟨#[0xb1]⟩ 1 none ∈ tblG := ⟨(g5 7 rfl rfl), (g1 37 rfl rfl), (g1 38 rfl rfl)⟩
theorem m_Law_17 : MLV "LoopProverLaw" 17 "LoopProverModel" y_M_node b_M_node 6 (some .int) 3 := ⟨(g5 82 rfl rfl), (g5 83 rfl rfl), (g5 84 rfl rfl), (g1 9 rfl rfl), (g5 85 rfl rfl), rfl, np_M_node.1, np_M_node.2⟩
theorem m_M_66 : MLS "LoopProverModel" 66 y_M_below b_M_below 2 (some .boolean) 2 := ⟨(g5 86 rfl rfl), (g5 87 rfl rfl), (g1 9 rfl rfl), (g5 88 rfl rfl), np_M_below.1, np_M_below.2⟩
theorem m_M_70 : MLV "LoopProverModel" 70 "LoopProverModel" y_M_numeric b_M_numeric 2 (some .boolean) 1 := ⟨(g5 89 rfl rfl), (g5 91 rfl rfl), (gsel 39 rfl), (g1 9 rfl rfl), (g5 92 rfl rfl), rfl, np_M_numeric.1, np_M_numeric.2⟩
theorem m_M_74 : MLV "LoopProverModel" 74 "LoopProverModel" y_M_truth b_M_truth 2 (some .boolean) 1 := ⟨(g5 93 rfl rfl), (g5 95 rfl rfl), (gsel 40 rfl), (g1 9 rfl rfl), (g5 96 rfl rfl), rfl, np_M_truth.1, np_M_truth.2⟩
theorem m_Law_22 : MLV "LoopProverLaw" 22 "LoopProverModel" y_M_assign b_M_assign 3 (some .int) 2 := ⟨(g5 97 rfl rfl), (g5 98 rfl rfl), (g5 99 rfl rfl), (g1 9 rfl rfl), (g5 100 rfl rfl), rfl, np_M_assign.1, np_M_assign.2⟩
theorem m_M_92 : MLV "LoopProverModel" 92 "LoopProverModel" y_M_add b_M_add 4 (some .int) 3 := ⟨(g5 101 rfl rfl), (g5 103 rfl rfl), (gsel 41 rfl), (g1 9 rfl rfl), (g5 104 rfl rfl), rfl, np_M_add.1, np_M_add.2⟩
theorem m_Law_26 : MLV "LoopProverLaw" 26 "LoopProverModel" y_M_store b_M_store 3 (some .int) 2 := ⟨(g5 105 rfl rfl), (g5 106 rfl rfl), (g5 107 rfl rfl), (g1 9 rfl rfl), (g5 108 rfl rfl), rfl, np_M_store.1, np_M_store.2⟩
theorem m_Law_31 : MLV "LoopProverLaw" 31 "LoopProverModel" y_M_claim b_M_claim 2 (some .int) 1 := ⟨(g5 109 rfl rfl), (g5 110 rfl rfl), (g5 111 rfl rfl), (g1 9 rfl rfl), (g5 112 rfl rfl), rfl, np_M_claim.1, np_M_claim.2⟩
theorem m_Law_35 : MLV "LoopProverLaw" 35 "LoopProverModel" y_M_assume b_M_assume 2 (some .int) 1 := ⟨(g5 113 rfl rfl), (g5 114 rfl rfl), (g5 115 rfl rfl), (g1 9 rfl rfl), (g5 116 rfl rfl), rfl, np_M_assume.1, np_M_assume.2⟩
theorem m_Law_39 : MLV "LoopProverLaw" 39 "LoopProverModel" y_M_when b_M_when 2 (some .int) 1 := ⟨(g5 117 rfl rfl), (g5 118 rfl rfl), (g5 119 rfl rfl), (g1 9 rfl rfl), (g5 120 rfl rfl), rfl, np_M_when.1, np_M_when.2⟩
theorem m_M_98 : MLV "LoopProverModel" 98 "LoopProverModel" y_M_begin b_M_begin 4 (some .int) 3 := ⟨(g5 121 rfl rfl), (g5 123 rfl rfl), (gsel 42 rfl), (g1 9 rfl rfl), (g5 124 rfl rfl), rfl, np_M_begin.1, np_M_begin.2⟩
theorem m_Law_48 : MLV "LoopProverLaw" 48 "LoopProverModel" y_M_loop b_M_loop 3 (some .int) 2 := ⟨(g5 125 rfl rfl), (g5 126 rfl rfl), (g5 127 rfl rfl), (g1 9 rfl rfl), (g5 128 rfl rfl), rfl, np_M_loop.1, np_M_loop.2⟩
theorem m_Law_44 : MLV "LoopProverLaw" 44 "LoopProverModel" y_M_other b_M_other 2 (some .int) 0 := ⟨(g5 129 rfl rfl), (g5 130 rfl rfl), (g5 131 rfl rfl), (g1 9 rfl rfl), (g5 132 rfl rfl), rfl, np_M_other.1, np_M_other.2⟩
theorem m_Law_52 : MLV "LoopProverLaw" 52 "LoopProverModel" y_M_end b_M_end 1 (some .int) 0 := ⟨(g5 133 rfl rfl), (g5 134 rfl rfl), (g5 135 rfl rfl), (g1 9 rfl rfl), (g5 136 rfl rfl), rfl, np_M_end.1, np_M_end.2⟩
theorem m_Law_56 : MLV "LoopProverLaw" 56 "LoopProverModel" y_M_clear b_M_clear 2 (some .int) 0 := ⟨(g5 137 rfl rfl), (g5 138 rfl rfl), (g5 139 rfl rfl), (g1 9 rfl rfl), (g5 140 rfl rfl), rfl, np_M_clear.1, np_M_clear.2⟩
theorem m_Law_60 : MLV "LoopProverLaw" 60 "LoopProverModel" y_M_verify b_M_verify 5 (some .int) 2 := ⟨(g5 141 rfl rfl), (g5 142 rfl rfl), (g5 143 rfl rfl), (g1 9 rfl rfl), (g5 144 rfl rfl), rfl, np_M_verify.1, np_M_verify.2⟩
theorem m_M_127 : MLV "LoopProverModel" 127 "LoopProverModel" y_M_decide b_M_decide 7 none 4 := ⟨(g5 145 rfl rfl), (g5 147 rfl rfl), (gsel 43 rfl), (g1 9 rfl rfl), (g5 148 rfl rfl), rfl, np_M_decide.1, np_M_decide.2⟩
theorem m_M_121 : MLV "LoopProverModel" 121 "LoopProverModel" y_M_take b_M_take 4 none 1 := ⟨(g5 150 rfl rfl), (g5 152 rfl rfl), (gsel 44 rfl), (g1 9 rfl rfl), (g5 153 rfl rfl), rfl, np_M_take.1, np_M_take.2⟩
theorem m_M_101 : MLV "LoopProverModel" 101 "LoopProverModel" y_M_holds b_M_holds 2 (some .boolean) 1 := ⟨(g5 154 rfl rfl), (g5 156 rfl rfl), (gsel 45 rfl), (g1 9 rfl rfl), (g5 157 rfl rfl), rfl, np_M_holds.1, np_M_holds.2⟩
theorem m_M_81 : MLV "LoopProverModel" 81 "LoopProverModel" y_M_eval b_M_eval 6 (some .int) 1 := ⟨(g5 158 rfl rfl), (g5 160 rfl rfl), (gsel 46 rfl), (g1 9 rfl rfl), (g5 161 rfl rfl), rfl, np_M_eval.1, np_M_eval.2⟩
theorem m_M_77 : MLV "LoopProverModel" 77 "LoopProverModel" y_M_worked b_M_worked 4 (some .int) 3 := ⟨(g5 162 rfl rfl), (g5 164 rfl rfl), (gsel 47 rfl), (g1 9 rfl rfl), (g5 165 rfl rfl), rfl, np_M_worked.1, np_M_worked.2⟩
theorem m_M_124 : MLV "LoopProverModel" 124 "LoopProverModel" y_M_goesRight b_M_goesRight 4 (some .boolean) 1 := ⟨(g5 166 rfl rfl), (g5 168 rfl rfl), (gsel 48 rfl), (g1 9 rfl rfl), (g5 169 rfl rfl), rfl, np_M_goesRight.1, np_M_goesRight.2⟩
theorem m_M_107 : MLV "LoopProverModel" 107 "LoopProverModel" y_M_change b_M_change 3 none 1 := ⟨(g5 170 rfl rfl), (g5 172 rfl rfl), (gsel 49 rfl), (g1 9 rfl rfl), (g5 173 rfl rfl), rfl, np_M_change.1, np_M_change.2⟩
theorem m_M_111 : MLV "LoopProverModel" 111 "LoopProverModel" y_M_next b_M_next 2 (some .int) 1 := ⟨(g5 174 rfl rfl), (g5 176 rfl rfl), (gsel 50 rfl), (g1 9 rfl rfl), (g5 177 rfl rfl), rfl, np_M_next.1, np_M_next.2⟩
theorem m_Law_64 : MLV "LoopProverLaw" 64 "LoopProverModel" y_M_conditions b_M_conditions 1 (some .int) 0 := ⟨(g5 178 rfl rfl), (g5 179 rfl rfl), (g5 180 rfl rfl), (g1 9 rfl rfl), (g5 181 rfl rfl), rfl, np_M_conditions.1, np_M_conditions.2⟩
theorem m_Law_68 : MLV "LoopProverLaw" 68 "LoopProverModel" y_M_witness b_M_witness 2 (some .int) 1 := ⟨(g5 182 rfl rfl), (g5 183 rfl rfl), (g5 184 rfl rfl), (g1 9 rfl rfl), (g5 185 rfl rfl), rfl, np_M_witness.1, np_M_witness.2⟩
theorem m_M_131 : MLV "LoopProverModel" 131 "LoopProverModel" y_M_is b_M_is 2 (some .boolean) 1 := ⟨(g5 186 rfl rfl), (g5 188 rfl rfl), (gsel 51 rfl), (g1 9 rfl rfl), (g5 189 rfl rfl), rfl, np_M_is.1, np_M_is.2⟩
theorem m_Law_73 : MLV "LoopProverLaw" 73 "LoopProverModel" y_M_proved b_M_proved 2 (some .boolean) 1 := ⟨(g5 190 rfl rfl), (g5 191 rfl rfl), (g5 192 rfl rfl), (g1 9 rfl rfl), (g5 193 rfl rfl), rfl, np_M_proved.1, np_M_proved.2⟩
theorem m_Law_77 : MLV "LoopProverLaw" 77 "LoopProverModel" y_M_failure b_M_failure 2 (some .int) 1 := ⟨(g5 194 rfl rfl), (g5 195 rfl rfl), (g5 196 rfl rfl), (g1 9 rfl rfl), (g5 197 rfl rfl), rfl, np_M_failure.1, np_M_failure.2⟩
theorem m_Law_81 : MLV "LoopProverLaw" 81 "LoopProverModel" y_M_run b_M_run 8 (some .int) 2 := ⟨(g5 198 rfl rfl), (g5 199 rfl rfl), (g5 200 rfl rfl), (g1 9 rfl rfl), (g5 201 rfl rfl), rfl, np_M_run.1, np_M_run.2⟩
theorem m_M_134 : MLV "LoopProverModel" 134 "LoopProverModel" y_M_number b_M_number 3 (some .int) 0 := ⟨(g5 202 rfl rfl), (g5 204 rfl rfl), (gsel 52 rfl), (g1 9 rfl rfl), (g5 205 rfl rfl), rfl, np_M_number.1, np_M_number.2⟩
theorem m_Law_85 : MLV "LoopProverLaw" 85 "LoopProverModel" y_M_value b_M_value 3 (some .int) 2 := ⟨(g5 206 rfl rfl), (g5 207 rfl rfl), (g5 208 rfl rfl), (g1 9 rfl rfl), (g5 209 rfl rfl), rfl, np_M_value.1, np_M_value.2⟩
theorem m_P_33 : MLI "LoopProver" 33 y_Circuit_init b_Circuit_init 1 0 := ⟨Or.inr ⟨"LoopProver", (List.mem_of_getElem? (i := 0) rfl)⟩, (g1 72 rfl rfl), (g1 5 rfl rfl), (g1 73 rfl rfl), rfl, np_Circuit_init.1, np_Circuit_init.2⟩
theorem m_P_42 : MLI "LoopProver" 42 y_Checker_init b_Checker_init 1 0 := ⟨Or.inr ⟨"LoopProver", (List.mem_of_getElem? (i := 12) rfl)⟩, (g1 129 rfl rfl), (g1 7 rfl rfl), (g1 130 rfl rfl), rfl, np_Checker_init.1, np_Checker_init.2⟩
theorem m_P_52 : MLI "LoopProver" 52 y_Flow_init b_Flow_init 1 0 := ⟨Or.inr ⟨"LoopProver", (List.mem_of_getElem? (i := 15) rfl)⟩, (g1 204 rfl rfl), (g1 8 rfl rfl), (g1 205 rfl rfl), rfl, np_Flow_init.1, np_Flow_init.2⟩
theorem m_P_298 : MLI "LoopProver" 298 y_Verdict_init b_Verdict_init 1 0 := ⟨Or.inr ⟨"LoopProver", (List.mem_of_getElem? (i := 26) rfl)⟩, (g3 184 rfl rfl), (g1 30 rfl rfl), (g3 185 rfl rfl), rfl, np_Verdict_init.1, np_Verdict_init.2⟩
theorem c_Law_7 : Cond.classLink "LoopProverLaw" 7 "LoopProver" ∈ tblG := (g1 31 rfl rfl)
theorem n_Law_7 : Cond.classLink "LoopProverLaw" 7 "LoopProver" ∈ tblG ∧ Cond.instantiable "LoopProver" 15 ∈ tblG ∧ Cond.initialized "LoopProver" ∈ tblG := ⟨(g1 31 rfl rfl), (g1 32 rfl rfl), (g1 1 rfl rfl)⟩
theorem c_P_7 : Cond.classLink "LoopProver" 7 "java/util/ArrayList" ∈ tblG := (g1 39 rfl rfl)
theorem n_P_7 : Cond.classLink "LoopProver" 7 "java/util/ArrayList" ∈ tblG ∧ Cond.instantiable "java/util/ArrayList" 3 ∈ tblG ∧ Cond.initialized "java/util/ArrayList" ∈ tblG := ⟨(g1 39 rfl rfl), (g1 40 rfl rfl), (g1 4 rfl rfl)⟩
theorem c_AL_7 : Cond.classLink "java/util/ArrayList" 7 "java/lang/Object" ∈ tblG := (g1 51 rfl rfl)
theorem c_P_25 : Cond.classLink "LoopProver" 25 "LoopProver$Verdict" ∈ tblG := (g1 67 rfl rfl)
theorem n_P_25 : Cond.classLink "LoopProver" 25 "LoopProver$Verdict" ∈ tblG ∧ Cond.instantiable "LoopProver$Verdict" 3 ∈ tblG ∧ Cond.initialized "LoopProver$Verdict" ∈ tblG := ⟨(g1 67 rfl rfl), (g3 182 rfl rfl), (g1 30 rfl rfl)⟩
theorem c_P_31 : Cond.classLink "LoopProver" 31 "LoopProver$Circuit" ∈ tblG := (g1 69 rfl rfl)
theorem n_P_31 : Cond.classLink "LoopProver" 31 "LoopProver$Circuit" ∈ tblG ∧ Cond.instantiable "LoopProver$Circuit" 12 ∈ tblG ∧ Cond.initialized "LoopProver$Circuit" ∈ tblG := ⟨(g1 69 rfl rfl), (g1 70 rfl rfl), (g1 5 rfl rfl)⟩
theorem c_P_38 : Cond.classLink "LoopProver" 38 "LoopProver$Solver" ∈ tblG := (g1 124 rfl rfl)
theorem n_P_38 : Cond.classLink "LoopProver" 38 "LoopProver$Solver" ∈ tblG ∧ Cond.instantiable "LoopProver$Solver" 17 ∈ tblG ∧ Cond.initialized "LoopProver$Solver" ∈ tblG := ⟨(g1 124 rfl rfl), (g1 125 rfl rfl), (g1 6 rfl rfl)⟩
theorem c_P_40 : Cond.classLink "LoopProver" 40 "LoopProver$Checker" ∈ tblG := (g1 126 rfl rfl)
theorem n_P_40 : Cond.classLink "LoopProver" 40 "LoopProver$Checker" ∈ tblG ∧ Cond.instantiable "LoopProver$Checker" 3 ∈ tblG ∧ Cond.initialized "LoopProver$Checker" ∈ tblG := ⟨(g1 126 rfl rfl), (g1 127 rfl rfl), (g1 7 rfl rfl)⟩
theorem c_P_50 : Cond.classLink "LoopProver" 50 "LoopProver$Flow" ∈ tblG := (g1 201 rfl rfl)
theorem n_P_50 : Cond.classLink "LoopProver" 50 "LoopProver$Flow" ∈ tblG ∧ Cond.instantiable "LoopProver$Flow" 3 ∈ tblG ∧ Cond.initialized "LoopProver$Flow" ∈ tblG := ⟨(g1 201 rfl rfl), (g1 202 rfl rfl), (g1 8 rfl rfl)⟩
theorem c_P_82 : Cond.classLink "LoopProver" 82 "LoopProver$Node" ∈ tblG := (g2 61 rfl rfl)
theorem c_P_98 : Cond.classLink "LoopProver" 98 "LoopProver$Constant" ∈ tblG := (g2 81 rfl rfl)
theorem n_P_98 : Cond.classLink "LoopProver" 98 "LoopProver$Constant" ∈ tblG ∧ Cond.instantiable "LoopProver$Constant" 4 ∈ tblG ∧ Cond.initialized "LoopProver$Constant" ∈ tblG := ⟨(g2 81 rfl rfl), (g2 82 rfl rfl), (g1 13 rfl rfl)⟩
theorem c_P_103 : Cond.classLink "LoopProver" 103 "LoopProver$Variable" ∈ tblG := (g2 148 rfl rfl)
theorem n_P_103 : Cond.classLink "LoopProver" 103 "LoopProver$Variable" ∈ tblG ∧ Cond.instantiable "LoopProver$Variable" 4 ∈ tblG ∧ Cond.initialized "LoopProver$Variable" ∈ tblG := ⟨(g2 148 rfl rfl), (g2 149 rfl rfl), (g1 14 rfl rfl)⟩
theorem c_P_106 : Cond.classLink "LoopProver" 106 "LoopProver$Read" ∈ tblG := (g2 161 rfl rfl)
theorem n_P_106 : Cond.classLink "LoopProver" 106 "LoopProver$Read" ∈ tblG ∧ Cond.instantiable "LoopProver$Read" 3 ∈ tblG ∧ Cond.initialized "LoopProver$Read" ∈ tblG := ⟨(g2 161 rfl rfl), (g2 162 rfl rfl), (g1 15 rfl rfl)⟩
theorem c_P_109 : Cond.classLink "LoopProver" 109 "LoopProver$Sum" ∈ tblG := (g2 171 rfl rfl)
theorem n_P_109 : Cond.classLink "LoopProver" 109 "LoopProver$Sum" ∈ tblG ∧ Cond.instantiable "LoopProver$Sum" 4 ∈ tblG ∧ Cond.initialized "LoopProver$Sum" ∈ tblG := ⟨(g2 171 rfl rfl), (g2 172 rfl rfl), (g1 16 rfl rfl)⟩
theorem c_P_114 : Cond.classLink "LoopProver" 114 "LoopProver$Meet" ∈ tblG := (g2 184 rfl rfl)
theorem n_P_114 : Cond.classLink "LoopProver" 114 "LoopProver$Meet" ∈ tblG ∧ Cond.instantiable "LoopProver$Meet" 3 ∈ tblG ∧ Cond.initialized "LoopProver$Meet" ∈ tblG := ⟨(g2 184 rfl rfl), (g2 185 rfl rfl), (g1 17 rfl rfl)⟩
theorem c_P_119 : Cond.classLink "LoopProver" 119 "LoopProver$Below" ∈ tblG := (g2 194 rfl rfl)
theorem n_P_119 : Cond.classLink "LoopProver" 119 "LoopProver$Below" ∈ tblG ∧ Cond.instantiable "LoopProver$Below" 3 ∈ tblG ∧ Cond.initialized "LoopProver$Below" ∈ tblG := ⟨(g2 194 rfl rfl), (g2 195 rfl rfl), (g1 19 rfl rfl)⟩
theorem c_P_122 : Cond.classLink "LoopProver" 122 "LoopProver$Same" ∈ tblG := (g2 207 rfl rfl)
theorem n_P_122 : Cond.classLink "LoopProver" 122 "LoopProver$Same" ∈ tblG ∧ Cond.instantiable "LoopProver$Same" 3 ∈ tblG ∧ Cond.initialized "LoopProver$Same" ∈ tblG := ⟨(g2 207 rfl rfl), (g2 208 rfl rfl), (g1 20 rfl rfl)⟩
theorem c_P_125 : Cond.classLink "LoopProver" 125 "LoopProver$Not" ∈ tblG := (g2 217 rfl rfl)
theorem n_P_125 : Cond.classLink "LoopProver" 125 "LoopProver$Not" ∈ tblG ∧ Cond.instantiable "LoopProver$Not" 3 ∈ tblG ∧ Cond.initialized "LoopProver$Not" ∈ tblG := ⟨(g2 217 rfl rfl), (g2 218 rfl rfl), (g1 21 rfl rfl)⟩
theorem c_P_128 : Cond.classLink "LoopProver" 128 "LoopProver$Both" ∈ tblG := (g2 227 rfl rfl)
theorem n_P_128 : Cond.classLink "LoopProver" 128 "LoopProver$Both" ∈ tblG ∧ Cond.instantiable "LoopProver$Both" 3 ∈ tblG ∧ Cond.initialized "LoopProver$Both" ∈ tblG := ⟨(g2 227 rfl rfl), (g2 228 rfl rfl), (g1 22 rfl rfl)⟩
theorem c_Arrs_110 : Cond.classLink "java/util/Arrays" 110 "[Ljava/lang/Object;" ∈ tblG := (g3 54 rfl rfl)
theorem c_Arrs_2 : Cond.classLink "java/util/Arrays" 2 "java/lang/Object" ∈ tblG := (g3 55 rfl rfl)
theorem c_P_139 : Cond.classLink "LoopProver" 139 "LoopProver$Line" ∈ tblG := (g3 77 rfl rfl)
theorem n_P_139 : Cond.classLink "LoopProver" 139 "LoopProver$Line" ∈ tblG ∧ Cond.instantiable "LoopProver$Line" 7 ∈ tblG ∧ Cond.initialized "LoopProver$Line" ∈ tblG := ⟨(g3 77 rfl rfl), (g3 78 rfl rfl), (g1 29 rfl rfl)⟩
theorem c_Law_10 : Cond.classLink "LoopProverLaw" 10 "LoopProverModel" ∈ tblG := (g5 2 rfl rfl)
theorem n_Law_10 : Cond.classLink "LoopProverLaw" 10 "LoopProverModel" ∈ tblG ∧ Cond.instantiable "LoopProverModel" 24 ∈ tblG ∧ Cond.initialized "LoopProverModel" ∈ tblG := ⟨(g5 2 rfl rfl), (g5 3 rfl rfl), (g1 9 rfl rfl)⟩
theorem ca_Below_Node : Cond.castable "LoopProver$Below" "LoopProver$Node" ∈ nbW := (List.mem_of_getElem? (i := 33) rfl)
theorem ca_Both_Node : Cond.castable "LoopProver$Both" "LoopProver$Node" ∈ nbW := (List.mem_of_getElem? (i := 34) rfl)
theorem ca_Constant_Node : Cond.castable "LoopProver$Constant" "LoopProver$Node" ∈ nbW := (List.mem_of_getElem? (i := 35) rfl)
theorem ca_Meet_Node : Cond.castable "LoopProver$Meet" "LoopProver$Node" ∈ nbW := (List.mem_of_getElem? (i := 36) rfl)
theorem ca_Not_Node : Cond.castable "LoopProver$Not" "LoopProver$Node" ∈ nbW := (List.mem_of_getElem? (i := 37) rfl)
theorem ca_Read_Node : Cond.castable "LoopProver$Read" "LoopProver$Node" ∈ nbW := (List.mem_of_getElem? (i := 38) rfl)
theorem ca_Same_Node : Cond.castable "LoopProver$Same" "LoopProver$Node" ∈ nbW := (List.mem_of_getElem? (i := 39) rfl)
theorem ca_Sum_Node : Cond.castable "LoopProver$Sum" "LoopProver$Node" ∈ nbW := (List.mem_of_getElem? (i := 40) rfl)
theorem ca_Variable_Node : Cond.castable "LoopProver$Variable" "LoopProver$Node" ∈ nbW := (List.mem_of_getElem? (i := 41) rfl)
theorem ca_Line_Line : Cond.castable "LoopProver$Line" "LoopProver$Line" ∈ nbW := (List.mem_of_getElem? (i := 42) rfl)
theorem ca_P_JObj : Cond.castable "LoopProver" "java/lang/Object" ∈ nbW := (List.mem_of_getElem? (i := 44) rfl)
theorem ca_Circuit_JObj : Cond.castable "LoopProver$Circuit" "java/lang/Object" ∈ nbW := (List.mem_of_getElem? (i := 45) rfl)
theorem ca_Solver_JObj : Cond.castable "LoopProver$Solver" "java/lang/Object" ∈ nbW := (List.mem_of_getElem? (i := 46) rfl)
theorem ca_Checker_JObj : Cond.castable "LoopProver$Checker" "java/lang/Object" ∈ nbW := (List.mem_of_getElem? (i := 47) rfl)
theorem ca_Flow_JObj : Cond.castable "LoopProver$Flow" "java/lang/Object" ∈ nbW := (List.mem_of_getElem? (i := 48) rfl)
theorem ca_M_JObj : Cond.castable "LoopProverModel" "java/lang/Object" ∈ nbW := (List.mem_of_getElem? (i := 49) rfl)
theorem ca_Constant_JObj : Cond.castable "LoopProver$Constant" "java/lang/Object" ∈ nbW := (List.mem_of_getElem? (i := 50) rfl)
theorem ca_Variable_JObj : Cond.castable "LoopProver$Variable" "java/lang/Object" ∈ nbW := (List.mem_of_getElem? (i := 51) rfl)
theorem ca_Read_JObj : Cond.castable "LoopProver$Read" "java/lang/Object" ∈ nbW := (List.mem_of_getElem? (i := 52) rfl)
theorem ca_Sum_JObj : Cond.castable "LoopProver$Sum" "java/lang/Object" ∈ nbW := (List.mem_of_getElem? (i := 53) rfl)
theorem ca_Meet_JObj : Cond.castable "LoopProver$Meet" "java/lang/Object" ∈ nbW := (List.mem_of_getElem? (i := 54) rfl)
theorem ca_Below_JObj : Cond.castable "LoopProver$Below" "java/lang/Object" ∈ nbW := (List.mem_of_getElem? (i := 55) rfl)
theorem ca_Same_JObj : Cond.castable "LoopProver$Same" "java/lang/Object" ∈ nbW := (List.mem_of_getElem? (i := 56) rfl)
theorem ca_Not_JObj : Cond.castable "LoopProver$Not" "java/lang/Object" ∈ nbW := (List.mem_of_getElem? (i := 57) rfl)
theorem ca_Both_JObj : Cond.castable "LoopProver$Both" "java/lang/Object" ∈ nbW := (List.mem_of_getElem? (i := 58) rfl)
theorem ca_Line_JObj : Cond.castable "LoopProver$Line" "java/lang/Object" ∈ nbW := (List.mem_of_getElem? (i := 59) rfl)
theorem ca_Verdict_JObj : Cond.castable "LoopProver$Verdict" "java/lang/Object" ∈ nbW := (List.mem_of_getElem? (i := 60) rfl)
theorem ca_Kind_JObj : Cond.castable "LoopProver$Kind" "java/lang/Object" ∈ nbW := (List.mem_of_getElem? (i := 61) rfl)
theorem l_Solver_130 : Cond.constant "LoopProver$Solver" 130 1048576 ∈ tblG := (g4 115 rfl rfl)
theorem l_Checker_34 : Cond.constant "LoopProver$Checker" 34 1073741824 ∈ tblG := (g4 138 rfl rfl)
theorem l_P_354 : Cond.constant "LoopProver" 354 32768 ∈ tblG := (g4 237 rfl rfl)
theorem l_M_120 : Cond.constant "LoopProverModel" 120 32768 ∈ tblG := (g5 149 rfl rfl)
theorem s_P_151 : Cond.fieldLink "LoopProver" 151 "LoopProver$Kind" (kindNames.getD 0 "") "LLoopProver$Kind;" ∈ tblG := (g3 71 rfl rfl)
theorem s_P_160 : Cond.fieldLink "LoopProver" 160 "LoopProver$Kind" (kindNames.getD 1 "") "LLoopProver$Kind;" ∈ tblG := (g3 116 rfl rfl)
theorem s_P_163 : Cond.fieldLink "LoopProver" 163 "LoopProver$Kind" (kindNames.getD 2 "") "LLoopProver$Kind;" ∈ tblG := (g3 122 rfl rfl)
theorem s_P_170 : Cond.fieldLink "LoopProver" 170 "LoopProver$Kind" (kindNames.getD 3 "") "LLoopProver$Kind;" ∈ tblG := (g3 132 rfl rfl)
theorem s_P_177 : Cond.fieldLink "LoopProver" 177 "LoopProver$Kind" (kindNames.getD 4 "") "LLoopProver$Kind;" ∈ tblG := (g3 138 rfl rfl)
theorem s_P_184 : Cond.fieldLink "LoopProver" 184 "LoopProver$Kind" (kindNames.getD 6 "") "LLoopProver$Kind;" ∈ tblG := (g3 148 rfl rfl)
theorem s_P_197 : Cond.fieldLink "LoopProver" 197 "LoopProver$Kind" (kindNames.getD 5 "") "LLoopProver$Kind;" ∈ tblG := (g3 158 rfl rfl)
theorem s_P_206 : Cond.fieldLink "LoopProver" 206 "LoopProver$Kind" (kindNames.getD 7 "") "LLoopProver$Kind;" ∈ tblG := (g3 164 rfl rfl)
theorem s_ord : Cond.fieldLink "java/lang/Enum" 7 "java/lang/Enum" "ordinal" "I" ∈ tblG := g6 1 rfl rfl
theorem ac_int : Cond.arrayClass .int ∈ tblG := g1 123 rfl rfl
theorem ac_boolean : Cond.arrayClass .boolean ∈ tblG := g1 200 rfl rfl
theorem ac_long : Cond.arrayClass .long ∈ tblG := g5 81 rfl rfl
end
section
/-! NUMBERS: nI, iI, bI, literals -/
theorem iI_nat (n : Nat) : iI (n : Int) = nI n := rfl
theorem addE {a b c : Nat} (h : a + b = c) : nI a + nI b = nI c := by rw [nI_add, h]
theorem mulE {a b c : Nat} (h : a * b = c) : nI a * nI b = nI c := by rw [pk_mul, h]
theorem subE {a b c : Nat} (h0 : b ≤ a) (h : a - b = c) : nI a - nI b = nI c := by rw [pk_sub h0, h]
theorem decE {a : Nat} (h : 1 ≤ a) : nI a + Int32.ofInt (-1) = nI (a - 1) := sb_m1 (by omega)
theorem nx_and (a b : Nat) : nI a &&& nI b = nI (a &&& b) := by
  apply Int32.toBitVec_inj.mp
  simp [nI, Int32.toBitVec_and, Int32.toBitVec_ofNat, BitVec.ofNat_and]
theorem nx_xor (a b : Nat) : nI a ^^^ nI b = nI (a ^^^ b) := by
  apply Int32.toBitVec_inj.mp
  simp [nI, Int32.toBitVec_xor, Int32.toBitVec_ofNat, BitVec.ofNat_xor]
theorem nx_or (a b : Nat) : nI a ||| nI b = nI (a ||| b) := by
  apply Int32.toBitVec_inj.mp
  simp [nI, Int32.toBitVec_or, Int32.toBitVec_ofNat, BitVec.ofNat_or]
/-- a literal's negation -/
def ng (a : Nat) : Nat := if a % 2 = 0 then a + 1 else a - 1
theorem ng_xor (a : Nat) : a ^^^ 1 = ng a := by
  unfold ng
  apply Nat.eq_of_testBit_eq
  intro i
  rw [Nat.testBit_xor]
  cases i with
  | zero =>
    by_cases h : a % 2 = 0
    · rw [if_pos h]
      simp [Nat.testBit_zero, h]
      omega
    · rw [if_neg h]
      have h1 : a % 2 = 1 := by omega
      simp [Nat.testBit_zero, h1]
      omega
  | succ i =>
    by_cases h : a % 2 = 0
    · rw [if_pos h, Nat.testBit_succ, Nat.testBit_succ, Nat.testBit_succ]
      have : (a + 1) / 2 = a / 2 := by omega
      rw [this]
      simp
    · rw [if_neg h, Nat.testBit_succ, Nat.testBit_succ, Nat.testBit_succ]
      have : (a - 1) / 2 = a / 2 := by omega
      rw [this]
      simp
theorem ngE (a : Nat) : nI a ^^^ nI 1 = nI (ng a) := by rw [nx_xor, ng_xor]
theorem ng_ng (a : Nat) : ng (ng a) = a := by unfold ng; split <;> split <;> omega
theorem ng_ne (a : Nat) : ng a ≠ a := by unfold ng; split <;> omega
theorem ng_half (a : Nat) : ng a / 2 = a / 2 := by unfold ng; split <;> omega
theorem ng_lt {a v : Nat} (h : a < 2 * v) : ng a < 2 * v := by unfold ng; split <;> omega
theorem ng_even (g : Nat) : ng (2 * g) = 2 * g + 1 := by unfold ng; rw [if_pos (by omega)]
theorem ng_odd (g : Nat) : ng (2 * g + 1) = 2 * g := by unfold ng; rw [if_neg (by omega)]; omega
theorem half_eq {a b : Nat} (h : a / 2 = b / 2) : a = b ∨ a = ng b := by unfold ng; split <;> omega
theorem shrE {a k : Nat} (ha : a < 2 ^ 31) (hk : k < 32) : nI a >>> (nI k &&& 31) = nI (a / 2 ^ k) := by
  refine pk_shrN ha _ k ?_
  have : ∀ k : Fin 32, ((nI k.val &&& 31).toBitVec.smod 32).toNat = k.val := by decide
  exact this ⟨k, hk⟩
theorem shlE {a k : Nat} (ha : a * 2 ^ k < 2 ^ 32) (hk : k < 32) : nI a <<< (nI k &&& 31) = nI (a * 2 ^ k) := by
  refine pk_shlN _ k ?_ ha
  have : ∀ k : Fin 32, ((nI k.val &&& 31).toBitVec.smod 32).toNat = k.val := by decide
  exact this ⟨k, hk⟩
theorem n0_eq {a : Nat} (h : a < 2 ^ 31) : nI a = 0 ↔ a = 0 := by rw [← nI_0]; exact nI_eq h (by decide)
theorem n0_ne {a : Nat} (h : a < 2 ^ 31) : nI a = 0 ↔ a = 0 := n0_eq h
theorem n0_lt {a : Nat} (h : a < 2 ^ 31) : nI a < 0 ↔ False := ⟨fun z => nI_pos h z, False.elim⟩
theorem n0_ge {a : Nat} (h : a < 2 ^ 31) : 0 ≤ nI a ↔ True := ⟨fun _ => trivial, fun _ => nI_pos' h⟩
theorem n0_gt {a : Nat} (h : a < 2 ^ 31) : 0 < nI a ↔ 0 < a := by rw [← nI_0]; exact nI_ltI (by decide) h
theorem n0_le {a : Nat} (h : a < 2 ^ 31) : nI a ≤ 0 ↔ a = 0 := by
  rw [← nI_0, nI_leI h (by decide)]
  omega
theorem b0_eq (x : Bool) : bI x = 0 ↔ x = false := by cases x <;> decide
theorem b0_ne (x : Bool) : bI x = 0 ↔ x = false := b0_eq x
theorem bI_nat (x : Bool) : bI x = nI (if x then 1 else 0) := by cases x <;> rfl
theorem bI_true : nI 1 = bI true := rfl
theorem bI_false : nI 0 = bI false := rfl
-- whole numbers within 2^31
theorem iI_toInt {z : Int} (h : -2147483648 ≤ z ∧ z < 2147483648) : (iI z).toInt = z := by
  unfold iI
  rw [Int32.toInt_ofInt]
  have hs : (Int32.size : Int) = 4294967296 := rfl
  simp only [Int.bmod, hs]
  omega
theorem iI_eq {a b : Int} (h : (-2147483648 ≤ a ∧ a < 2147483648) ∧ -2147483648 ≤ b ∧ b < 2147483648) : iI a = iI b ↔ a = b := by
  rw [← Int32.toInt_inj, iI_toInt h.1, iI_toInt h.2]
theorem iI_lt {a b : Int} (h : (-2147483648 ≤ a ∧ a < 2147483648) ∧ -2147483648 ≤ b ∧ b < 2147483648) : iI a < iI b ↔ a < b := by
  rw [Int32.lt_iff_toInt_lt, iI_toInt h.1, iI_toInt h.2]
theorem iI_le {a b : Int} (h : (-2147483648 ≤ a ∧ a < 2147483648) ∧ -2147483648 ≤ b ∧ b < 2147483648) : iI a ≤ iI b ↔ a ≤ b := by
  rw [Int32.le_iff_toInt_le, iI_toInt h.1, iI_toInt h.2]
theorem iI_0 : iI 0 = 0 := rfl
theorem z0_eq {a : Int} (h : -2147483648 ≤ a ∧ a < 2147483648) : iI a = 0 ↔ a = 0 := by rw [← iI_0]; exact iI_eq ⟨h, by decide⟩
theorem z0_ne {a : Int} (h : -2147483648 ≤ a ∧ a < 2147483648) : iI a = 0 ↔ a = 0 := z0_eq h
theorem z0_lt {a : Int} (h : -2147483648 ≤ a ∧ a < 2147483648) : iI a < 0 ↔ a < 0 := by rw [← iI_0]; exact iI_lt ⟨h, by decide⟩
theorem z0_ge {a : Int} (h : -2147483648 ≤ a ∧ a < 2147483648) : 0 ≤ iI a ↔ 0 ≤ a := by rw [← iI_0]; exact iI_le ⟨by decide, h⟩
theorem z0_gt {a : Int} (h : -2147483648 ≤ a ∧ a < 2147483648) : 0 < iI a ↔ 0 < a := by rw [← iI_0]; exact iI_lt ⟨by decide, h⟩
theorem z0_le {a : Int} (h : -2147483648 ≤ a ∧ a < 2147483648) : iI a ≤ 0 ↔ a ≤ 0 := by rw [← iI_0]; exact iI_le ⟨h, by decide⟩
theorem iI_add (a b : Int) : iI a + iI b = iI (a + b) := (Int32.ofInt_add a b).symm
theorem iI_sub (a b : Int) : iI a - iI b = iI (a - b) := (Int32.ofInt_sub a b).symm
theorem zziadd {a b c : Int} (h : a + b = c) : iI a + iI b = iI c := by rw [iI_add, h]
theorem zzisub {a b c : Int} (h : a - b = c) : iI a - iI b = iI c := by rw [iI_sub, h]
theorem zniadd {a c : Int} {b : Nat} (h : a + b = c) : iI a + nI b = iI c := by rw [← iI_nat, iI_add, h]
theorem nziadd {b c : Int} {a : Nat} (h : a + b = c) : nI a + iI b = iI c := by rw [← iI_nat, iI_add, h]
theorem znisub {a c : Int} {b : Nat} (h : a - b = c) : iI a - nI b = iI c := by rw [← iI_nat, iI_sub, h]
theorem nzisub {b c : Int} {a : Nat} (h : a - b = c) : nI a - iI b = iI c := by rw [← iI_nat, iI_sub, h]
theorem zniaddN {a : Int} {b c : Nat} (h : a + b = c) : iI a + nI b = nI c := by rw [← iI_nat, iI_add, h, iI_nat]
theorem znisubN {a : Int} {b c : Nat} (h : a - b = c) : iI a - nI b = nI c := by rw [← iI_nat, iI_sub, h, iI_nat]
theorem zn_eq {a : Int} {b : Nat} (h : (-2147483648 ≤ a ∧ a < 2147483648) ∧ b < 2147483648) : iI a = nI b ↔ a = b := by rw [← iI_nat]; exact iI_eq ⟨h.1, by omega⟩
theorem zn_ne {a : Int} {b : Nat} (h : (-2147483648 ≤ a ∧ a < 2147483648) ∧ b < 2147483648) : iI a = nI b ↔ a = b := zn_eq h
theorem nz_eq {b : Int} {a : Nat} (h : (-2147483648 ≤ b ∧ b < 2147483648) ∧ a < 2147483648) : nI a = iI b ↔ (a : Int) = b := by rw [← iI_nat]; exact iI_eq ⟨by omega, h.1⟩
theorem zn_lt {a : Int} {b : Nat} (h : (-2147483648 ≤ a ∧ a < 2147483648) ∧ b < 2147483648) : iI a < nI b ↔ a < b := by rw [← iI_nat]; exact iI_lt ⟨h.1, by omega⟩
theorem zn_ge {a : Int} {b : Nat} (h : (-2147483648 ≤ a ∧ a < 2147483648) ∧ b < 2147483648) : nI b ≤ iI a ↔ (b : Int) ≤ a := by rw [← iI_nat]; exact iI_le ⟨by omega, h.1⟩
theorem zz_eq {a b : Int} (h : (-2147483648 ≤ a ∧ a < 2147483648) ∧ -2147483648 ≤ b ∧ b < 2147483648) : iI a = iI b ↔ a = b := iI_eq h
theorem zz_ne {a b : Int} (h : (-2147483648 ≤ a ∧ a < 2147483648) ∧ -2147483648 ≤ b ∧ b < 2147483648) : iI a = iI b ↔ a = b := iI_eq h
theorem zz_lt {a b : Int} (h : (-2147483648 ≤ a ∧ a < 2147483648) ∧ -2147483648 ≤ b ∧ b < 2147483648) : iI a < iI b ↔ a < b := iI_lt h
theorem zz_ge {a b : Int} (h : (-2147483648 ≤ a ∧ a < 2147483648) ∧ -2147483648 ≤ b ∧ b < 2147483648) : iI b ≤ iI a ↔ b ≤ a := iI_le ⟨h.2, h.1⟩
-- arrays
theorem up_s {α : Type} {f : Nat → α} {k : Nat} {x : α} : va_up f k x k = x := by simp [va_up]
theorem up_n {α : Type} {f : Nat → α} {k j : Nat} {x : α} (h : j ≠ k) : va_up f k x j = f j := by simp [va_up, h]
theorem cpy_in {α : Type} {f g : Nat → α} {n j : Nat} (h : j < n) : va_cpy f g 0 0 n j = f j := by simp [va_cpy, h]
theorem cpy_out {α : Type} {f g : Nat → α} {n j : Nat} (h : n ≤ j) : va_cpy f g 0 0 n j = g j := by
  simp only [va_cpy]
  rw [if_neg (by omega)]
end
section
/-! CIRCUIT, part 1: its picture, its arrays, clauses -/
abbrev AR : Type := Nat × Nat × (Nat → Nat)
/-- literals starts clauseOf nextOf places first second chain heads, used clauses variables -/
abbrev CT : Type := AR × AR × AR × AR × AR × AR × AR × AR × AR × Nat × Nat × Nat
def circW (b : BK) (h : Nat) (C : CT) : va_W := [cO h 2 [.ref C.1.1, .ref C.2.1.1, .int (nI C.2.2.2.2.2.2.2.2.2.1), .int (nI C.2.2.2.2.2.2.2.2.2.2.1), .int (nI C.2.2.2.2.2.2.2.2.2.2.2), .ref C.2.2.1.1, .ref C.2.2.2.1.1, .ref C.2.2.2.2.1.1, .ref C.2.2.2.2.2.1.1, .ref C.2.2.2.2.2.2.1.1, .ref C.2.2.2.2.2.2.2.1.1, .ref C.2.2.2.2.2.2.2.2.1.1],
  cN b C.1.1 C.1.2.1 C.1.2.2, cN b C.2.1.1 C.2.1.2.1 C.2.1.2.2, cN b C.2.2.1.1 C.2.2.1.2.1 C.2.2.1.2.2, cN b C.2.2.2.1.1 C.2.2.2.1.2.1 C.2.2.2.1.2.2, cN b C.2.2.2.2.1.1 C.2.2.2.2.1.2.1 C.2.2.2.2.1.2.2, cN b C.2.2.2.2.2.1.1 C.2.2.2.2.2.1.2.1 C.2.2.2.2.2.1.2.2, cN b C.2.2.2.2.2.2.1.1 C.2.2.2.2.2.2.1.2.1 C.2.2.2.2.2.2.1.2.2, cN b C.2.2.2.2.2.2.2.1.1 C.2.2.2.2.2.2.2.1.2.1 C.2.2.2.2.2.2.2.1.2.2, cN b C.2.2.2.2.2.2.2.2.1.1 C.2.2.2.2.2.2.2.2.1.2.1 C.2.2.2.2.2.2.2.2.1.2.2]
def cU (C : CT) : Nat := C.2.2.2.2.2.2.2.2.2.1
def cK (C : CT) : Nat := C.2.2.2.2.2.2.2.2.2.2.1
def cV (C : CT) : Nat := C.2.2.2.2.2.2.2.2.2.2.2
def fL (C : CT) : Nat → Nat := C.1.2.2
def fS (C : CT) : Nat → Nat := C.2.1.2.2
def fC (C : CT) : Nat → Nat := C.2.2.1.2.2
def fN (C : CT) : Nat → Nat := C.2.2.2.1.2.2
/-- the first place of a literal, plus 1; 0 beyond the array -/
def fP (C : CT) (a : Nat) : Nat := if a < C.2.2.2.2.1.2.1 then C.2.2.2.2.1.2.2 a else 0
def fF (C : CT) : Nat → Nat := C.2.2.2.2.2.1.2.2
def fG (C : CT) : Nat → Nat := C.2.2.2.2.2.2.1.2.2
def fH (C : CT) : Nat → Nat := C.2.2.2.2.2.2.2.1.2.2
def fD (C : CT) : Nat → Nat := C.2.2.2.2.2.2.2.2.1.2.2
def lL (C : CT) : Nat := C.1.2.1
def lS (C : CT) : Nat := C.2.1.2.1
def lP (C : CT) : Nat := C.2.2.2.2.1.2.1
def lF (C : CT) : Nat := C.2.2.2.2.2.1.2.1
/-- n doubles up to M -/
def Pw (n M : Nat) : Prop := ∃ k : Nat, n * 2 ^ k = M
theorem Pw.le {n M : Nat} (h : Pw n M) : n ≤ M := by
  obtain ⟨k, rfl⟩ := h
  exact Nat.le_mul_of_pos_right n (Nat.two_pow_pos k)
theorem Pw.dbl {n M : Nat} (h : Pw n M) (hn : n < M) : Pw (2 * n) M := by
  obtain ⟨k, rfl⟩ := h
  cases k with
  | zero => simp at hn
  | succ k => exact ⟨k, by rw [Nat.pow_succ, Nat.mul_comm 2 n, Nat.mul_assoc, Nat.mul_comm 2]⟩
theorem Pw.le2 {n M : Nat} (h : Pw n M) (hn : n < M) : 2 * n ≤ M := (h.dbl hn).le
def cLen (C : CT) : Prop := lL C = C.2.2.1.2.1 ∧ lL C = C.2.2.2.1.2.1 ∧ lF C = C.2.2.2.2.2.2.1.2.1 ∧ lF C = C.2.2.2.2.2.2.2.1.2.1 ∧ 257 = C.2.2.2.2.2.2.2.2.1.2.1 ∧ Pw (lL C) 524288 ∧ Pw (lS C) 262144 ∧ Pw (lP C) 131072 ∧ Pw (lF C) 65536 ∧ 1024 ≤ lL C ∧ 512 ≤ lS C ∧ 512 ≤ lP C ∧ 256 ≤ lF C
/-- the potential: twice all capacities that grow -/
def cPhi (C : CT) : Nat := 2 * (3 * lL C + lS C + lP C + 3 * lF C)
def cBud (B1 B2 : Nat) (C : CT) (sz sl : Nat) : Prop := sl + 4325376 ≤ B1 + cPhi C ∧ 256 * sz + 4325376 ≤ 256 * B2 + cPhi C
/-- the last place + 1 below n at which f holds a; 0 when there is none -/
def prv (f : Nat → Nat) (a : Nat) : Nat → Nat
  | 0 => 0
  | n + 1 => if f n = a then n + 1 else prv f a n
theorem prv_congr {f g : Nat → Nat} {a : Nat} : ∀ {n : Nat}, (∀ j, j < n → f j = g j) → prv f a n = prv g a n
  | 0, _ => rfl
  | n + 1, h => by
    simp only [prv]
    rw [h n (by omega), prv_congr (n := n) (fun j hj => h j (by omega))]
theorem prv_le (f : Nat → Nat) (a : Nat) : ∀ n : Nat, prv f a n ≤ n
  | 0 => Nat.le_refl _
  | n + 1 => by
    simp only [prv]
    split
    · exact Nat.le_refl _
    · exact Nat.le_succ_of_le (prv_le f a n)
theorem prv_at (f : Nat → Nat) (a : Nat) : ∀ n : Nat, 0 < prv f a n → f (prv f a n - 1) = a
  | 0, h => absurd h (by simp [prv])
  | n + 1, h => by
    simp only [prv] at h ⊢
    by_cases e : f n = a
    · rw [if_pos e]
      exact e
    · rw [if_neg e] at h ⊢
      exact prv_at f a n h
theorem prv_none (f : Nat → Nat) (a : Nat) : ∀ n j : Nat, prv f a n ≤ j → j < n → f j ≠ a
  | 0, _, _, h => absurd h (by omega)
  | n + 1, j, h1, h2 => by
    simp only [prv] at h1
    by_cases e : f n = a
    · rw [if_pos e] at h1
      omega
    · rw [if_neg e] at h1
      by_cases hj : j = n
      · rw [hj]
        exact e
      · exact prv_none f a n j h1 (by omega)
/-- the places of the literals up to U -/
def Occ (U : Nat) (C : CT) : Prop := (∀ a, fP C a = prv (fL C) a U) ∧ ∀ j, j < U → fN C j = prv (fL C) (fL C j) j
/-- all but the clauses' arrays as it was -/
def SameG (C C' : CT) : Prop := cV C' = cV C ∧ fF C' = fF C ∧ fG C' = fG C ∧ fH C' = fH C ∧ fD C' = fD C ∧ lF C' = lF C
theorem cU_mk (x0 x1 x2 x3 x4 x5 x6 x7 x8 : AR) (u k v : Nat) : cU (x0, x1, x2, x3, x4, x5, x6, x7, x8, u, k, v) = u := rfl
theorem cK_mk (x0 x1 x2 x3 x4 x5 x6 x7 x8 : AR) (u k v : Nat) : cK (x0, x1, x2, x3, x4, x5, x6, x7, x8, u, k, v) = k := rfl
theorem cV_mk (x0 x1 x2 x3 x4 x5 x6 x7 x8 : AR) (u k v : Nat) : cV (x0, x1, x2, x3, x4, x5, x6, x7, x8, u, k, v) = v := rfl
theorem fL_mk (x0 x1 x2 x3 x4 x5 x6 x7 x8 : AR) (u k v : Nat) : fL (x0, x1, x2, x3, x4, x5, x6, x7, x8, u, k, v) = x0.2.2 := rfl
theorem fS_mk (x0 x1 x2 x3 x4 x5 x6 x7 x8 : AR) (u k v : Nat) : fS (x0, x1, x2, x3, x4, x5, x6, x7, x8, u, k, v) = x1.2.2 := rfl
theorem fC_mk (x0 x1 x2 x3 x4 x5 x6 x7 x8 : AR) (u k v : Nat) : fC (x0, x1, x2, x3, x4, x5, x6, x7, x8, u, k, v) = x2.2.2 := rfl
theorem fN_mk (x0 x1 x2 x3 x4 x5 x6 x7 x8 : AR) (u k v : Nat) : fN (x0, x1, x2, x3, x4, x5, x6, x7, x8, u, k, v) = x3.2.2 := rfl
theorem fF_mk (x0 x1 x2 x3 x4 x5 x6 x7 x8 : AR) (u k v : Nat) : fF (x0, x1, x2, x3, x4, x5, x6, x7, x8, u, k, v) = x5.2.2 := rfl
theorem fG_mk (x0 x1 x2 x3 x4 x5 x6 x7 x8 : AR) (u k v : Nat) : fG (x0, x1, x2, x3, x4, x5, x6, x7, x8, u, k, v) = x6.2.2 := rfl
theorem fH_mk (x0 x1 x2 x3 x4 x5 x6 x7 x8 : AR) (u k v : Nat) : fH (x0, x1, x2, x3, x4, x5, x6, x7, x8, u, k, v) = x7.2.2 := rfl
theorem fD_mk (x0 x1 x2 x3 x4 x5 x6 x7 x8 : AR) (u k v : Nat) : fD (x0, x1, x2, x3, x4, x5, x6, x7, x8, u, k, v) = x8.2.2 := rfl
theorem lL_mk (x0 x1 x2 x3 x4 x5 x6 x7 x8 : AR) (u k v : Nat) : lL (x0, x1, x2, x3, x4, x5, x6, x7, x8, u, k, v) = x0.2.1 := rfl
theorem lS_mk (x0 x1 x2 x3 x4 x5 x6 x7 x8 : AR) (u k v : Nat) : lS (x0, x1, x2, x3, x4, x5, x6, x7, x8, u, k, v) = x1.2.1 := rfl
theorem lP_mk (x0 x1 x2 x3 x4 x5 x6 x7 x8 : AR) (u k v : Nat) : lP (x0, x1, x2, x3, x4, x5, x6, x7, x8, u, k, v) = x4.2.1 := rfl
theorem lF_mk (x0 x1 x2 x3 x4 x5 x6 x7 x8 : AR) (u k v : Nat) : lF (x0, x1, x2, x3, x4, x5, x6, x7, x8, u, k, v) = x5.2.1 := rfl
theorem fP_mk (x0 x1 x2 x3 x4 x5 x6 x7 x8 : AR) (u k v a : Nat) : fP (x0, x1, x2, x3, x4, x5, x6, x7, x8, u, k, v) a = if a < x4.2.1 then x4.2.2 a else 0 := rfl
set_option maxHeartbeats 4000000 in
set_option maxRecDepth 100000 in
/-- a row twice as long, the same in its first half -/
theorem c_longer (l : Launch) (b : BK) (BC BS sz sl : Nat) (a n : Nat) (f : Nat → Nat) (hn : n ≤ 524288) (h1 : sz + 1 ≤ BC) (h2 : sl + 2 * n ≤ BS) : Con l b y_Circuit_longer b_Circuit_longer 2 (some (.array .int)) 1 30 BC BS sz sl [.ref a] [[cN b a n f]] (S := (Nat → Nat)) (fun r sz' sl' g => r = some (.ref sz) ∧ sz' = sz + 1 ∧ sl' = sl + 2 * n ∧ ∀ j, g j = if j < n then f j else 0) (fun g => [[cN b a n f], [cN b sz (2 * n) g]]) := by
  refine con_of (L0 := [(0, .ref a)]) (by decide) (Nat.le_of_ble_eq_true rfl) rfl ?_
  intro p e R s m args below meth c Q A H lo X hini hw RT
  have X : Ctx p R s m args meth c b_Circuit_longer 2 "LoopProver$Circuit" b BC BS sl 1 30 := X
  have hw : Wd b BC BS sl s A [[cN b a n f]] sz sl H lo := hw
  refine r_iconst (v := nI 2) X (dat D_Circuit_longer 0 rfl) rfl ?_
  refine r_aldn X (dat D_Circuit_longer 1 rfl) rfl 0 rfl ?_
  refine r_alen X hw (dat D_Circuit_longer 2 rfl) 0 0 0 rfl rfl rfl ?_
  refine r_imul (z := nI (2 * n)) X (dat D_Circuit_longer 3 rfl) (pk_mul _ _) ?_
  refine r_newN X hw ac_int (dat D_Circuit_longer 4 rfl) (by omega) (by omega) (by omega) (fun H hw => ?_)
  have hw : Wd b BC BS sl s A [[cN b a n f], [cN b sz (2 * n) (fun _ => 0)]] (sz + 1) (sl + (2 * n)) H lo := hw
  refine r_astn (L' := [(1, .ref sz), (0, .ref a)]) X (dat D_Circuit_longer 5 rfl) rfl (by decide) rfl ?_
  refine r_aldn X (dat D_Circuit_longer 6 rfl) rfl 1 rfl ?_
  refine r_iconst (v := nI 0) X (dat D_Circuit_longer 7 rfl) rfl ?_
  refine r_aldn X (dat D_Circuit_longer 8 rfl) rfl 0 rfl ?_
  refine r_iconst (v := nI 0) X (dat D_Circuit_longer 9 rfl) rfl ?_
  refine r_aldn X (dat D_Circuit_longer 10 rfl) rfl 1 rfl ?_
  refine r_alen X hw (dat D_Circuit_longer 11 rfl) 0 0 0 rfl rfl rfl ?_
  refine r_copyN (Ws' := [[cN b a n f], [cN b sz (2 * n) (va_cpy f (fun _ => 0) 0 0 n)]]) X hw m_Circuit_70 (dat D_Circuit_longer 12 rfl) 0 0 1 0 rfl rfl rfl rfl (by omega) (by omega) (by omega) (by omega) (by omega) (by decide) (by decide) rfl (fun H lo hw => ?_)
  refine r_aldn X (dat D_Circuit_longer 13 rfl) rfl 0 rfl ?_
  exact r_aret RT (Or.inr ⟨_, rfl⟩) (Or.inr ⟨_, rfl⟩) (dat D_Circuit_longer 14 rfl) (va_cpy f (fun _ => 0) 0 0 n) ⟨rfl, rfl, by omega, fun j => by
    by_cases h : j < n
    · rw [if_pos h]; exact cpy_in h
    · rw [if_neg h]; exact cpy_out (by omega)⟩ hw
set_option maxHeartbeats 4000000 in
set_option maxRecDepth 100000 in
/-- room for one more literal -/
theorem c_room (l : Launch) (b : BK) (BC BS sz sl : Nat) (h : Nat) (C : CT) (B1 B2 : Nat) (hB1 : B1 ≤ BS) (hB2 : B2 ≤ BC) (hlen : cLen C) (hb : cBud B1 B2 C sz sl) (hu : cU C ≤ lL C) (hu2 : cU C < 524288) : Con l b y_Circuit_room b_Circuit_room 1 none 2 60 BC BS sz sl [.ref h] [circW b h C] (S := CT) (fun r sz' sl' C' => r = none ∧ cLen C' ∧ cBud B1 B2 C' sz' sl' ∧ cU C' < lL C' ∧ cU C' = cU C ∧ cK C' = cK C ∧ (∀ j, j < cU C → fL C' j = fL C j ∧ fC C' j = fC C j ∧ fN C' j = fN C j) ∧ fS C' = fS C ∧ lS C' = lS C ∧ (∀ a, fP C' a = fP C a) ∧ SameG C C') (fun C' => [circW b h C']) := by
  obtain ⟨⟨a0, n0, f0⟩, ⟨a1, n1, f1⟩, ⟨a2, n2, f2⟩, ⟨a3, n3, f3⟩, ⟨a4, n4, f4⟩, ⟨a5, n5, f5⟩, ⟨a6, n6, f6⟩, ⟨a7, n7, f7⟩, ⟨a8, n8, f8⟩, u, k, v⟩ := C
  dsimp only [cLen, cPhi, cBud, SameG, cU_mk, cK_mk, cV_mk, fL_mk, fS_mk, fC_mk, fN_mk, fP_mk, fF_mk, fG_mk, fH_mk, fD_mk, lL_mk, lS_mk, lP_mk, lF_mk] at hlen hb hu hu2
  obtain ⟨rfl, rfl, rfl, rfl, rfl, p0, p1, p4, p5, g0, g1, g4, g5⟩ := hlen
  have q0 := p0.le
  have q1 := p1.le
  have q4 := p4.le
  have q5 := p5.le
  refine con_of (L0 := [(0, .ref h)]) (by decide) (Nat.le_of_ble_eq_true rfl) rfl ?_
  intro p e R s m args below meth c Q A H lo X hini hw RT
  have X : Ctx p R s m args meth c b_Circuit_room 1 "LoopProver$Circuit" b BC BS sl 2 60 := X
  have hw : Wd b BC BS sl s A [[cO h 2 [.ref a0, .ref a1, .int (nI u), .int (nI k), .int (nI v), .ref a2, .ref a3, .ref a4, .ref a5, .ref a6, .ref a7, .ref a8]], [cN b a0 n0 f0], [cN b a1 n1 f1], [cN b a2 n0 f2], [cN b a3 n0 f3], [cN b a4 n4 f4], [cN b a5 n5 f5], [cN b a6 n5 f6], [cN b a7 n5 f7], [cN b a8 257 f8]] sz sl H lo := hw.re rfl
  refine r_aldn X (dat D_Circuit_room 0 rfl) rfl 0 rfl ?_
  refine r_get X hw f_Circuit_39 (dat D_Circuit_room 1 rfl) 0 0 rfl rfl rfl ?_
  refine r_aldn X (dat D_Circuit_room 2 rfl) rfl 0 rfl ?_
  refine r_get X hw f_Circuit_9 (dat D_Circuit_room 3 rfl) 0 0 rfl rfl rfl ?_
  refine r_alen X hw (dat D_Circuit_room 4 rfl) 1 0 0 rfl rfl rfl ?_
  refine r_icmpge (tgt := 13) X (nI_leI (by omega) (by omega)) (dat D_Circuit_room 5 rfl) rfl (fun hc => ?_) (fun hc => ?_)
  · have hn0 : n0 < 524288 := by omega
    have hd := p0.le2 hn0
    refine r_aldn X (dat D_Circuit_room 7 rfl) rfl 0 rfl ?_
    refine r_aldn X (dat D_Circuit_room 8 rfl) rfl 0 rfl ?_
    refine r_get X hw f_Circuit_9 (dat D_Circuit_room 9 rfl) 0 0 rfl rfl rfl ?_
    refine r_callS (NW := 10) (As := [.ref a0]) (st := [.ref h]) X hw m_Circuit_53 (c_longer l b BC BS sz sl a0 n0 f0 (by omega) (by omega) (by omega)) (dat D_Circuit_room 10 rfl) [1] [0, 2, 3, 4, 5, 6, 7, 8, 9] rfl (by decide +kernel) rfl rfl rfl rfl (Nat.le_of_ble_eq_true rfl) ⟨by decide, by decide⟩ (fun r x0 sz_1 sl_1 H lo hp hw => ?_)
    obtain ⟨rfl, rfl, rfl, hx0⟩ := hp
    refine r_st (st' := [.ref sz, .ref h]) rfl ?_
    have hw : Wd b BC BS sl s A [[cN b a0 n0 f0], [cN b sz (2 * n0) x0], [cO h 2 [.ref a0, .ref a1, .int (nI u), .int (nI k), .int (nI v), .ref a2, .ref a3, .ref a4, .ref a5, .ref a6, .ref a7, .ref a8]], [cN b a1 n1 f1], [cN b a2 n0 f2], [cN b a3 n0 f3], [cN b a4 n4 f4], [cN b a5 n5 f5], [cN b a6 n5 f6], [cN b a7 n5 f7], [cN b a8 257 f8]] (sz + 1) (sl + 2 * n0) H lo := hw
    refine r_put (Ws' := [[cN b a0 n0 f0], [cN b sz (2 * n0) x0], [cO h 2 [.ref sz, .ref a1, .int (nI u), .int (nI k), .int (nI v), .ref a2, .ref a3, .ref a4, .ref a5, .ref a6, .ref a7, .ref a8]], [cN b a1 n1 f1], [cN b a2 n0 f2], [cN b a3 n0 f3], [cN b a4 n4 f4], [cN b a5 n5 f5], [cN b a6 n5 f6], [cN b a7 n5 f7], [cN b a8 257 f8]]) X hw f_Circuit_9 (dat D_Circuit_room 11 rfl) 2 0 rfl rfl rfl rfl rfl (Nat.le_of_ble_eq_true rfl) rfl (fun H lo hw => ?_)
    refine r_aldn X (dat D_Circuit_room 12 rfl) rfl 0 rfl ?_
    refine r_aldn X (dat D_Circuit_room 13 rfl) rfl 0 rfl ?_
    refine r_get X hw f_Circuit_18 (dat D_Circuit_room 14 rfl) 2 0 rfl rfl rfl ?_
    refine r_callS (NW := 11) (As := [.ref a2]) (st := [.ref h]) X hw m_Circuit_53 (c_longer l b BC BS (sz + 1) (sl + 2 * n0) a2 n0 f2 (by omega) (by omega) (by omega)) (dat D_Circuit_room 15 rfl) [4] [0, 1, 2, 3, 5, 6, 7, 8, 9, 10] rfl (by decide +kernel) rfl rfl rfl rfl (Nat.le_of_ble_eq_true rfl) ⟨by decide, by decide⟩ (fun r x2 sz_2 sl_2 H lo hp hw => ?_)
    obtain ⟨rfl, rfl, rfl, hx2⟩ := hp
    refine r_st (st' := [.ref (sz + 1), .ref h]) rfl ?_
    have hw : Wd b BC BS sl s A [[cN b a2 n0 f2], [cN b (sz + 1) (2 * n0) x2], [cN b a0 n0 f0], [cN b sz (2 * n0) x0], [cO h 2 [.ref sz, .ref a1, .int (nI u), .int (nI k), .int (nI v), .ref a2, .ref a3, .ref a4, .ref a5, .ref a6, .ref a7, .ref a8]], [cN b a1 n1 f1], [cN b a3 n0 f3], [cN b a4 n4 f4], [cN b a5 n5 f5], [cN b a6 n5 f6], [cN b a7 n5 f7], [cN b a8 257 f8]] (sz + 1 + 1) (sl + 2 * n0 + 2 * n0) H lo := hw
    refine r_put (Ws' := [[cN b a2 n0 f2], [cN b (sz + 1) (2 * n0) x2], [cN b a0 n0 f0], [cN b sz (2 * n0) x0], [cO h 2 [.ref sz, .ref a1, .int (nI u), .int (nI k), .int (nI v), .ref (sz + 1), .ref a3, .ref a4, .ref a5, .ref a6, .ref a7, .ref a8]], [cN b a1 n1 f1], [cN b a3 n0 f3], [cN b a4 n4 f4], [cN b a5 n5 f5], [cN b a6 n5 f6], [cN b a7 n5 f7], [cN b a8 257 f8]]) X hw f_Circuit_18 (dat D_Circuit_room 16 rfl) 4 0 rfl rfl rfl rfl rfl (Nat.le_of_ble_eq_true rfl) rfl (fun H lo hw => ?_)
    refine r_aldn X (dat D_Circuit_room 17 rfl) rfl 0 rfl ?_
    refine r_aldn X (dat D_Circuit_room 18 rfl) rfl 0 rfl ?_
    refine r_get X hw f_Circuit_21 (dat D_Circuit_room 19 rfl) 4 0 rfl rfl rfl ?_
    refine r_callS (NW := 12) (As := [.ref a3]) (st := [.ref h]) X hw m_Circuit_53 (c_longer l b BC BS (sz + 1 + 1) (sl + 2 * n0 + 2 * n0) a3 n0 f3 (by omega) (by omega) (by omega)) (dat D_Circuit_room 20 rfl) [6] [0, 1, 2, 3, 4, 5, 7, 8, 9, 10, 11] rfl (by decide +kernel) rfl rfl rfl rfl (Nat.le_of_ble_eq_true rfl) ⟨by decide, by decide⟩ (fun r x3 sz_3 sl_3 H lo hp hw => ?_)
    obtain ⟨rfl, rfl, rfl, hx3⟩ := hp
    refine r_st (st' := [.ref (sz + 1 + 1), .ref h]) rfl ?_
    have hw : Wd b BC BS sl s A [[cN b a3 n0 f3], [cN b (sz + 1 + 1) (2 * n0) x3], [cN b a2 n0 f2], [cN b (sz + 1) (2 * n0) x2], [cN b a0 n0 f0], [cN b sz (2 * n0) x0], [cO h 2 [.ref sz, .ref a1, .int (nI u), .int (nI k), .int (nI v), .ref (sz + 1), .ref a3, .ref a4, .ref a5, .ref a6, .ref a7, .ref a8]], [cN b a1 n1 f1], [cN b a4 n4 f4], [cN b a5 n5 f5], [cN b a6 n5 f6], [cN b a7 n5 f7], [cN b a8 257 f8]] (sz + 1 + 1 + 1) (sl + 2 * n0 + 2 * n0 + 2 * n0) H lo := hw
    refine r_put (Ws' := [[cN b a3 n0 f3], [cN b (sz + 1 + 1) (2 * n0) x3], [cN b a2 n0 f2], [cN b (sz + 1) (2 * n0) x2], [cN b a0 n0 f0], [cN b sz (2 * n0) x0], [cO h 2 [.ref sz, .ref a1, .int (nI u), .int (nI k), .int (nI v), .ref (sz + 1), .ref (sz + 1 + 1), .ref a4, .ref a5, .ref a6, .ref a7, .ref a8]], [cN b a1 n1 f1], [cN b a4 n4 f4], [cN b a5 n5 f5], [cN b a6 n5 f6], [cN b a7 n5 f7], [cN b a8 257 f8]]) X hw f_Circuit_21 (dat D_Circuit_room 21 rfl) 6 0 rfl rfl rfl rfl rfl (Nat.le_of_ble_eq_true rfl) rfl (fun H lo hw => ?_)
    refine r_vret RT (dat D_Circuit_room 22 rfl) ((sz, 2 * n0, x0), (a1, n1, f1), (sz + 1, 2 * n0, x2), (sz + 1 + 1, 2 * n0, x3), (a4, n4, f4), (a5, n5, f5), (a6, n5, f6), (a7, n5, f7), (a8, 257, f8), u, k, v) ⟨rfl, ⟨rfl, rfl, rfl, rfl, rfl, p0.dbl hn0, p1, p4, p5, ?_, g1, g4, g5⟩, ⟨?_, ?_⟩, ?_, rfl, rfl, ?_, rfl, rfl, fun _ => rfl, rfl, rfl, rfl, rfl, rfl, rfl⟩ ((hw.pick (NW := 13) (Ws' := [[cO h 2 [.ref sz, .ref a1, .int (nI u), .int (nI k), .int (nI v), .ref (sz + 1), .ref (sz + 1 + 1), .ref a4, .ref a5, .ref a6, .ref a7, .ref a8]], [cN b sz (2 * n0) x0], [cN b a1 n1 f1], [cN b (sz + 1) (2 * n0) x2], [cN b (sz + 1 + 1) (2 * n0) x3], [cN b a4 n4 f4], [cN b a5 n5 f5], [cN b a6 n5 f6], [cN b a7 n5 f7], [cN b a8 257 f8]]) [6, 5, 7, 3, 1, 8, 9, 10, 11, 12] [0, 2, 4] rfl (by decide +kernel) rfl).re rfl)
    all_goals dsimp only [cLen, cPhi, cBud, SameG, cU_mk, cK_mk, cV_mk, fL_mk, fS_mk, fC_mk, fN_mk, fP_mk, fF_mk, fG_mk, fH_mk, fD_mk, lL_mk, lS_mk, lP_mk, lF_mk]
    · omega
    · omega
    · omega
    · omega
    · intro j hj
      rw [hx0, hx2, hx3]
      simp only [if_pos (show j < n0 by omega)]
      exact ⟨trivial, trivial, trivial⟩
  · exact r_vret RT (dat D_Circuit_room 6 rfl) ((a0, n0, f0), (a1, n1, f1), (a2, n0, f2), (a3, n0, f3), (a4, n4, f4), (a5, n5, f5), (a6, n5, f6), (a7, n5, f7), (a8, 257, f8), u, k, v) ⟨rfl, ⟨rfl, rfl, rfl, rfl, rfl, p0, p1, p4, p5, g0, g1, g4, g5⟩, hb, Nat.not_le.mp hc, rfl, rfl, fun _ _ => ⟨rfl, rfl, rfl⟩, rfl, rfl, fun _ => rfl, rfl, rfl, rfl, rfl, rfl, rfl⟩ ((hw.pick (NW := 10) (Ws' := [[cO h 2 [.ref a0, .ref a1, .int (nI u), .int (nI k), .int (nI v), .ref a2, .ref a3, .ref a4, .ref a5, .ref a6, .ref a7, .ref a8]], [cN b a0 n0 f0], [cN b a1 n1 f1], [cN b a2 n0 f2], [cN b a3 n0 f3], [cN b a4 n4 f4], [cN b a5 n5 f5], [cN b a6 n5 f6], [cN b a7 n5 f7], [cN b a8 257 f8]]) [0, 1, 2, 3, 4, 5, 6, 7, 8, 9] [] rfl (by decide +kernel) rfl).re rfl)
theorem circ0 (b : BK) (h : Nat) (C : CT) : ∃ fs, (circW b h C)[0]? = some (h, .inr (2, fs)) := by
  obtain ⟨⟨a0, n0, f0⟩, ⟨a1, n1, f1⟩, ⟨a2, n2, f2⟩, ⟨a3, n3, f3⟩, ⟨a4, n4, f4⟩, ⟨a5, n5, f5⟩, ⟨a6, n6, f6⟩, ⟨a7, n7, f7⟩, ⟨a8, n8, f8⟩, u, k, v⟩ := C
  exact ⟨_, rfl⟩
theorem Occ_put {U x : Nat} {lit lit' nxt nxt' pl pl' : Nat → Nat} (h1 : ∀ a, pl a = prv lit a U) (h2 : ∀ j, j < U → nxt j = prv lit (lit j) j) (e1 : ∀ j, j < U → lit' j = lit j) (e2 : lit' U = x) (e3 : ∀ j, j < U → nxt' j = nxt j) (e4 : nxt' U = pl x) (e5 : ∀ a, pl' a = if a = x then U + 1 else pl a) :
    (∀ a, pl' a = prv lit' a (U + 1)) ∧ ∀ j, j < U + 1 → nxt' j = prv lit' (lit' j) j := by
  have hc : ∀ a n, n ≤ U → prv lit' a n = prv lit a n := fun a n hn => prv_congr (fun j hj => e1 j (by omega))
  refine ⟨fun a => ?_, fun j hj => ?_⟩
  · rw [e5]
    show _ = if lit' U = a then U + 1 else prv lit' a U
    rw [e2, hc a U (Nat.le_refl _), ← h1]
    by_cases h : a = x
    · rw [if_pos h, if_pos h.symm]
    · rw [if_neg h, if_neg (fun z => h z.symm)]
  · by_cases h : j = U
    · subst h
      rw [e4, e2, h1, hc x j (Nat.le_refl _)]
    · rw [e3 j (by omega), e1 j (by omega), h2 j (by omega), hc _ j (by omega)]
set_option maxHeartbeats 4000000 in
set_option maxRecDepth 100000 in
/-- a clause begins -/
theorem c_open (l : Launch) (b : BK) (BC BS sz sl : Nat) (h : Nat) (C : CT) (B1 B2 : Nat) (hB1 : B1 ≤ BS) (hB2 : B2 ≤ BC) (hlen : cLen C) (hb : cBud B1 B2 C sz sl) (hk : cK C + 1 ≤ lS C) (hk2 : cK C + 2 ≤ 262144) (hu : cU C < 2 ^ 30) : Con l b y_Circuit_open b_Circuit_open 1 none 2 60 BC BS sz sl [.ref h] [circW b h C] (S := CT) (fun r sz' sl' C' => r = none ∧ cLen C' ∧ cBud B1 B2 C' sz' sl' ∧ cU C' = cU C ∧ cK C' = cK C ∧ fL C' = fL C ∧ fC C' = fC C ∧ fN C' = fN C ∧ lL C' = lL C ∧ (∀ j, j < cK C → fS C' j = fS C j) ∧ fS C' (cK C) = cU C ∧ cK C + 2 ≤ lS C' ∧ (∀ a, fP C' a = fP C a) ∧ SameG C C') (fun C' => [circW b h C']) := by
  obtain ⟨⟨a0, n0, f0⟩, ⟨a1, n1, f1⟩, ⟨a2, n2, f2⟩, ⟨a3, n3, f3⟩, ⟨a4, n4, f4⟩, ⟨a5, n5, f5⟩, ⟨a6, n6, f6⟩, ⟨a7, n7, f7⟩, ⟨a8, n8, f8⟩, u, k, v⟩ := C
  dsimp only [cLen, cPhi, cBud, SameG, cU_mk, cK_mk, cV_mk, fL_mk, fS_mk, fC_mk, fN_mk, fP_mk, fF_mk, fG_mk, fH_mk, fD_mk, lL_mk, lS_mk, lP_mk, lF_mk] at hlen hb hk hk2 hu
  obtain ⟨rfl, rfl, rfl, rfl, rfl, p0, p1, p4, p5, g0, g1, g4, g5⟩ := hlen
  have q0 := p0.le
  have q1 := p1.le
  have q4 := p4.le
  have q5 := p5.le
  refine con_of (L0 := [(0, .ref h)]) (by decide) (Nat.le_of_ble_eq_true rfl) rfl ?_
  intro p e R s m args below meth c Q A H lo X hini hw RT
  have X : Ctx p R s m args meth c b_Circuit_open 1 "LoopProver$Circuit" b BC BS sl 2 60 := X
  have hw : Wd b BC BS sl s A [[cO h 2 [.ref a0, .ref a1, .int (nI u), .int (nI k), .int (nI v), .ref a2, .ref a3, .ref a4, .ref a5, .ref a6, .ref a7, .ref a8]], [cN b a0 n0 f0], [cN b a1 n1 f1], [cN b a2 n0 f2], [cN b a3 n0 f3], [cN b a4 n4 f4], [cN b a5 n5 f5], [cN b a6 n5 f6], [cN b a7 n5 f7], [cN b a8 257 f8]] sz sl H lo := hw.re rfl
  have J : ∀ (y1 m1 : Nat) (g1' : Nat → Nat) (sz' sl' : Nat) (H : Heap) (lo : List Loc), (Pw m1 262144 ∧ 512 ≤ m1 ∧ k + 2 ≤ m1) → (∀ j, j < k → g1' j = f1 j) → (sl' + 4325376 ≤ B1 + 2 * (3 * n0 + m1 + n4 + 3 * n5) ∧ 256 * sz' + 4325376 ≤ 256 * B2 + 2 * (3 * n0 + m1 + n4 + 3 * n5)) → Wd b BC BS sl s A [[cO h 2 [.ref a0, .ref y1, .int (nI u), .int (nI k), .int (nI v), .ref a2, .ref a3, .ref a4, .ref a5, .ref a6, .ref a7, .ref a8]], [cN b a0 n0 f0], [cN b y1 m1 g1'], [cN b a2 n0 f2], [cN b a3 n0 f3], [cN b a4 n4 f4], [cN b a5 n5 f5], [cN b a6 n5 f6], [cN b a7 n5 f7], [cN b a8 257 f8]] sz' sl' H lo → V p l e R s m args below meth c Q 1 H lo 25 [(0, .ref h)] [] := by
    intro y1 m1 g1' sz' sl' H lo hm hg hbb hw
    have qm := hm.1.le
    refine r_aldn X (dat D_Circuit_open 13 rfl) rfl 0 rfl ?_
    refine r_get X hw f_Circuit_15 (dat D_Circuit_open 14 rfl) 0 0 rfl rfl rfl ?_
    refine r_aldn X (dat D_Circuit_open 15 rfl) rfl 0 rfl ?_
    refine r_get X hw f_Circuit_43 (dat D_Circuit_open 16 rfl) 0 0 rfl rfl rfl ?_
    refine r_aldn X (dat D_Circuit_open 17 rfl) rfl 0 rfl ?_
    refine r_get X hw f_Circuit_39 (dat D_Circuit_open 18 rfl) 0 0 rfl rfl rfl ?_
    refine r_iastN (Ws' := [[cO h 2 [.ref a0, .ref y1, .int (nI u), .int (nI k), .int (nI v), .ref a2, .ref a3, .ref a4, .ref a5, .ref a6, .ref a7, .ref a8]], [cN b a0 n0 f0], [cN b y1 m1 (va_up g1' k u)], [cN b a2 n0 f2], [cN b a3 n0 f3], [cN b a4 n4 f4], [cN b a5 n5 f5], [cN b a6 n5 f6], [cN b a7 n5 f7], [cN b a8 257 f8]]) X hw (dat D_Circuit_open 19 rfl) 2 0 rfl rfl (by omega) (by omega) rfl (fun H lo hw => ?_)
    refine r_vret RT (dat D_Circuit_open 20 rfl) ((a0, n0, f0), (y1, m1, va_up g1' k u), (a2, n0, f2), (a3, n0, f3), (a4, n4, f4), (a5, n5, f5), (a6, n5, f6), (a7, n5, f7), (a8, 257, f8), u, k, v) ⟨rfl, ⟨rfl, rfl, rfl, rfl, rfl, p0, hm.1, p4, p5, g0, hm.2.1, g4, g5⟩, hbb, rfl, rfl, rfl, rfl, rfl, rfl, fun j hj => ?_, ?_, hm.2.2, fun _ => rfl, rfl, rfl, rfl, rfl, rfl, rfl⟩ ((hw.pick (NW := 10) (Ws' := [[cO h 2 [.ref a0, .ref y1, .int (nI u), .int (nI k), .int (nI v), .ref a2, .ref a3, .ref a4, .ref a5, .ref a6, .ref a7, .ref a8]], [cN b a0 n0 f0], [cN b y1 m1 (va_up g1' k u)], [cN b a2 n0 f2], [cN b a3 n0 f3], [cN b a4 n4 f4], [cN b a5 n5 f5], [cN b a6 n5 f6], [cN b a7 n5 f7], [cN b a8 257 f8]]) [0, 1, 2, 3, 4, 5, 6, 7, 8, 9] [] rfl (by decide +kernel) rfl).re rfl)
    · exact (up_n (Nat.ne_of_lt hj)).trans (hg j hj)
    · exact up_s
  refine r_aldn X (dat D_Circuit_open 0 rfl) rfl 0 rfl ?_
  refine r_get X hw f_Circuit_43 (dat D_Circuit_open 1 rfl) 0 0 rfl rfl rfl ?_
  refine r_iconst (v := nI 2) X (dat D_Circuit_open 2 rfl) rfl ?_
  refine r_iadd (z := nI (k + 2)) X (dat D_Circuit_open 3 rfl) (nI_add _ _) ?_
  refine r_aldn X (dat D_Circuit_open 4 rfl) rfl 0 rfl ?_
  refine r_get X hw f_Circuit_15 (dat D_Circuit_open 5 rfl) 0 0 rfl rfl rfl ?_
  refine r_alen X hw (dat D_Circuit_open 6 rfl) 2 0 0 rfl rfl rfl ?_
  refine r_icmple (tgt := 25) X (nI_leI (by omega) (by omega)) (dat D_Circuit_open 7 rfl) rfl (fun hc => ?_) (fun hc => ?_)
  · exact J a1 n1 f1 sz sl H lo ⟨p1, g1, hc⟩ (fun _ _ => rfl) hb hw
  · have hn1 : n1 < 262144 := by omega
    have hd := p1.le2 hn1
    refine r_aldn X (dat D_Circuit_open 8 rfl) rfl 0 rfl ?_
    refine r_aldn X (dat D_Circuit_open 9 rfl) rfl 0 rfl ?_
    refine r_get X hw f_Circuit_15 (dat D_Circuit_open 10 rfl) 0 0 rfl rfl rfl ?_
    refine r_callS (NW := 10) (As := [.ref a1]) (st := [.ref h]) X hw m_Circuit_53 (c_longer l b BC BS sz sl a1 n1 f1 (by omega) (by omega) (by omega)) (dat D_Circuit_open 11 rfl) [2] [0, 1, 3, 4, 5, 6, 7, 8, 9] rfl (by decide +kernel) rfl rfl rfl rfl (Nat.le_of_ble_eq_true rfl) ⟨by decide, by decide⟩ (fun r x1 sz_1 sl_1 H lo hp hw => ?_)
    obtain ⟨rfl, rfl, rfl, hx1⟩ := hp
    refine r_st (st' := [.ref sz, .ref h]) rfl ?_
    have hw : Wd b BC BS sl s A [[cN b a1 n1 f1], [cN b sz (2 * n1) x1], [cO h 2 [.ref a0, .ref a1, .int (nI u), .int (nI k), .int (nI v), .ref a2, .ref a3, .ref a4, .ref a5, .ref a6, .ref a7, .ref a8]], [cN b a0 n0 f0], [cN b a2 n0 f2], [cN b a3 n0 f3], [cN b a4 n4 f4], [cN b a5 n5 f5], [cN b a6 n5 f6], [cN b a7 n5 f7], [cN b a8 257 f8]] (sz + 1) (sl + 2 * n1) H lo := hw
    refine r_put (Ws' := [[cN b a1 n1 f1], [cN b sz (2 * n1) x1], [cO h 2 [.ref a0, .ref sz, .int (nI u), .int (nI k), .int (nI v), .ref a2, .ref a3, .ref a4, .ref a5, .ref a6, .ref a7, .ref a8]], [cN b a0 n0 f0], [cN b a2 n0 f2], [cN b a3 n0 f3], [cN b a4 n4 f4], [cN b a5 n5 f5], [cN b a6 n5 f6], [cN b a7 n5 f7], [cN b a8 257 f8]]) X hw f_Circuit_15 (dat D_Circuit_open 12 rfl) 2 0 rfl rfl rfl rfl rfl (Nat.le_of_ble_eq_true rfl) rfl (fun H lo hw => ?_)
    have hw : Wd b BC BS sl s A [[cO h 2 [.ref a0, .ref sz, .int (nI u), .int (nI k), .int (nI v), .ref a2, .ref a3, .ref a4, .ref a5, .ref a6, .ref a7, .ref a8]], [cN b a0 n0 f0], [cN b sz (2 * n1) x1], [cN b a2 n0 f2], [cN b a3 n0 f3], [cN b a4 n4 f4], [cN b a5 n5 f5], [cN b a6 n5 f6], [cN b a7 n5 f7], [cN b a8 257 f8]] (sz + 1) (sl + 2 * n1) H lo := hw.pick (NW := 11) [2, 3, 1, 4, 5, 6, 7, 8, 9, 10] [0] rfl (by decide +kernel) rfl
    exact J _ _ _ _ _ H lo ⟨p1.dbl hn1, by omega, by omega⟩ (fun j hj => by rw [hx1, if_pos (by omega)]) (by omega) hw
set_option maxHeartbeats 4000000 in
set_option maxRecDepth 100000 in
/-- a clause ends -/
theorem c_close (l : Launch) (b : BK) (BC BS sz sl : Nat) (h : Nat) (C : CT) (hlen : cLen C) (hk : cK C + 2 ≤ lS C) (hu : cU C < 2 ^ 30) : Con l b y_Circuit_close b_Circuit_close 1 none 0 0 BC BS sz sl [.ref h] [circW b h C] (S := CT) (fun r sz' sl' C' => r = none ∧ sz = sz' ∧ sl = sl' ∧ cLen C' ∧ cPhi C' = cPhi C ∧ cU C' = cU C ∧ cK C' = cK C + 1 ∧ fL C' = fL C ∧ fC C' = fC C ∧ fN C' = fN C ∧ lL C' = lL C ∧ lS C' = lS C ∧ (∀ j, j < cK C + 1 → fS C' j = fS C j) ∧ fS C' (cK C + 1) = cU C ∧ (∀ a, fP C' a = fP C a) ∧ SameG C C') (fun C' => [circW b h C']) := by
  obtain ⟨⟨a0, n0, f0⟩, ⟨a1, n1, f1⟩, ⟨a2, n2, f2⟩, ⟨a3, n3, f3⟩, ⟨a4, n4, f4⟩, ⟨a5, n5, f5⟩, ⟨a6, n6, f6⟩, ⟨a7, n7, f7⟩, ⟨a8, n8, f8⟩, u, k, v⟩ := C
  dsimp only [cLen, cPhi, cBud, SameG, cU_mk, cK_mk, cV_mk, fL_mk, fS_mk, fC_mk, fN_mk, fP_mk, fF_mk, fG_mk, fH_mk, fD_mk, lL_mk, lS_mk, lP_mk, lF_mk] at hlen hk hu
  obtain ⟨rfl, rfl, rfl, rfl, rfl, p0, p1, p4, p5, g0, g1, g4, g5⟩ := hlen
  have q0 := p0.le
  have q1 := p1.le
  have q4 := p4.le
  have q5 := p5.le
  refine con_of (L0 := [(0, .ref h)]) (by decide) (Nat.le_of_ble_eq_true rfl) rfl ?_
  intro p e R s m args below meth c Q A H lo X hini hw RT
  have X : Ctx p R s m args meth c b_Circuit_close 1 "LoopProver$Circuit" b BC BS sl 0 0 := X
  have hw : Wd b BC BS sl s A [[cO h 2 [.ref a0, .ref a1, .int (nI u), .int (nI k), .int (nI v), .ref a2, .ref a3, .ref a4, .ref a5, .ref a6, .ref a7, .ref a8]], [cN b a0 n0 f0], [cN b a1 n1 f1], [cN b a2 n0 f2], [cN b a3 n0 f3], [cN b a4 n4 f4], [cN b a5 n5 f5], [cN b a6 n5 f6], [cN b a7 n5 f7], [cN b a8 257 f8]] sz sl H lo := hw.re rfl
  refine r_aldn X (dat D_Circuit_close 0 rfl) rfl 0 rfl ?_
  refine r_dup X (dat D_Circuit_close 1 rfl) rfl ?_
  refine r_get X hw f_Circuit_43 (dat D_Circuit_close 2 rfl) 0 0 rfl rfl rfl ?_
  refine r_iconst (v := nI 1) X (dat D_Circuit_close 3 rfl) rfl ?_
  refine r_iadd (z := nI (k + 1)) X (dat D_Circuit_close 4 rfl) (nI_add _ _) ?_
  refine r_put (Ws' := [[cO h 2 [.ref a0, .ref a1, .int (nI u), .int (nI (k + 1)), .int (nI v), .ref a2, .ref a3, .ref a4, .ref a5, .ref a6, .ref a7, .ref a8]], [cN b a0 n0 f0], [cN b a1 n1 f1], [cN b a2 n0 f2], [cN b a3 n0 f3], [cN b a4 n4 f4], [cN b a5 n5 f5], [cN b a6 n5 f6], [cN b a7 n5 f7], [cN b a8 257 f8]]) X hw f_Circuit_43 (dat D_Circuit_close 5 rfl) 0 0 rfl rfl rfl rfl rfl (Nat.le_of_ble_eq_true rfl) rfl (fun H lo hw => ?_)
  refine r_aldn X (dat D_Circuit_close 6 rfl) rfl 0 rfl ?_
  refine r_get X hw f_Circuit_15 (dat D_Circuit_close 7 rfl) 0 0 rfl rfl rfl ?_
  refine r_aldn X (dat D_Circuit_close 8 rfl) rfl 0 rfl ?_
  refine r_get X hw f_Circuit_43 (dat D_Circuit_close 9 rfl) 0 0 rfl rfl rfl ?_
  refine r_aldn X (dat D_Circuit_close 10 rfl) rfl 0 rfl ?_
  refine r_get X hw f_Circuit_39 (dat D_Circuit_close 11 rfl) 0 0 rfl rfl rfl ?_
  refine r_iastN (Ws' := [[cO h 2 [.ref a0, .ref a1, .int (nI u), .int (nI (k + 1)), .int (nI v), .ref a2, .ref a3, .ref a4, .ref a5, .ref a6, .ref a7, .ref a8]], [cN b a0 n0 f0], [cN b a1 n1 (va_up f1 (k + 1) u)], [cN b a2 n0 f2], [cN b a3 n0 f3], [cN b a4 n4 f4], [cN b a5 n5 f5], [cN b a6 n5 f6], [cN b a7 n5 f7], [cN b a8 257 f8]]) X hw (dat D_Circuit_close 12 rfl) 2 0 rfl rfl (by omega) (by omega) rfl (fun H lo hw => ?_)
  refine r_vret RT (dat D_Circuit_close 13 rfl) ((a0, n0, f0), (a1, n1, va_up f1 (k + 1) u), (a2, n0, f2), (a3, n0, f3), (a4, n4, f4), (a5, n5, f5), (a6, n5, f6), (a7, n5, f7), (a8, 257, f8), u, k + 1, v) ⟨rfl, rfl, rfl, ⟨rfl, rfl, rfl, rfl, rfl, p0, p1, p4, p5, g0, g1, g4, g5⟩, rfl, rfl, rfl, rfl, rfl, rfl, rfl, rfl, fun j hj => up_n (Nat.ne_of_lt hj), up_s, fun _ => rfl, rfl, rfl, rfl, rfl, rfl, rfl⟩ ((hw.pick (NW := 10) (Ws' := [[cO h 2 [.ref a0, .ref a1, .int (nI u), .int (nI (k + 1)), .int (nI v), .ref a2, .ref a3, .ref a4, .ref a5, .ref a6, .ref a7, .ref a8]], [cN b a0 n0 f0], [cN b a1 n1 (va_up f1 (k + 1) u)], [cN b a2 n0 f2], [cN b a3 n0 f3], [cN b a4 n4 f4], [cN b a5 n5 f5], [cN b a6 n5 f6], [cN b a7 n5 f7], [cN b a8 257 f8]]) [0, 1, 2, 3, 4, 5, 6, 7, 8, 9] [] rfl (by decide +kernel) rfl).re rfl)
set_option maxHeartbeats 4000000 in
set_option maxRecDepth 100000 in
/-- one more literal of the clause at hand -/
theorem c_put (l : Launch) (b : BK) (BC BS sz sl : Nat) (h : Nat) (C : CT) (x : Nat) (B1 B2 : Nat) (hB1 : B1 ≤ BS) (hB2 : B2 ≤ BC) (hlen : cLen C) (hb : cBud B1 B2 C sz sl) (hu : cU C ≤ lL C) (hu2 : cU C < 524288) (hk : cK C < 2 ^ 30) (hx : x < 131072) (hocc : Occ (cU C) C) : Con l b y_Circuit_put b_Circuit_put 2 none 3 90 BC BS sz sl [.ref h, .int (nI x)] [circW b h C] (S := CT) (fun r sz' sl' C' => r = none ∧ cLen C' ∧ cBud B1 B2 C' sz' sl' ∧ cU C' = cU C + 1 ∧ cK C' = cK C ∧ (∀ j, j < cU C → fL C' j = fL C j ∧ fC C' j = fC C j) ∧ fL C' (cU C) = x ∧ fC C' (cU C) = cK C ∧ fS C' = fS C ∧ lS C' = lS C ∧ cU C' ≤ lL C' ∧ Occ (cU C') C' ∧ SameG C C') (fun C' => [circW b h C']) := by
  refine con_of (L0 := [(0, .ref h), (1, .int (nI x))]) (by decide) (Nat.le_of_ble_eq_true rfl) rfl ?_
  intro p e R s m args below meth c Q A H lo X hini hw RT
  have X : Ctx p R s m args meth c b_Circuit_put 2 "LoopProver$Circuit" b BC BS sl 3 90 := X
  have hw : Wd b BC BS sl s A [circW b h C] sz sl H lo := hw
  refine r_aldn X (dat D_Circuit_put 0 rfl) rfl 0 rfl ?_
  refine r_callV (NW := 1) (As := []) (st := []) X hw m_Circuit_57 (c_room l b BC BS sz sl h C B1 B2 hB1 hB2 hlen hb hu hu2) (dat D_Circuit_put 1 rfl) [0] [] rfl (by decide +kernel) rfl rfl (hw.recv X 0 0 rfl (circ0 b h C).choose_spec k_Circuit) rfl rfl (Nat.le_of_ble_eq_true rfl) ⟨by decide, by decide⟩ (fun r C1 sz_1 sl_1 H lo hp hw => ?_)
  obtain ⟨rfl, hlen1, hb1, hlt1, hu1, hk1, hj1, hs1, hls1, hp1, hg1⟩ := hp
  refine r_st (st' := []) rfl ?_
  have hw : Wd b BC BS sl s A [circW b h C1] sz_1 sl_1 H lo := hw
  obtain ⟨⟨a0, n0, f0⟩, ⟨a1, n1, f1⟩, ⟨a2, n2, f2⟩, ⟨a3, n3, f3⟩, ⟨a4, n4, f4⟩, ⟨a5, n5, f5⟩, ⟨a6, n6, f6⟩, ⟨a7, n7, f7⟩, ⟨a8, n8, f8⟩, u, k, v⟩ := C1
  dsimp only [cLen, cPhi, cBud, SameG, cU_mk, cK_mk, cV_mk, fL_mk, fS_mk, fC_mk, fN_mk, fP_mk, fF_mk, fG_mk, fH_mk, fD_mk, lL_mk, lS_mk, lP_mk, lF_mk] at hlen1 hb1 hlt1 hu1 hk1 hj1 hs1 hls1 hp1 hg1
  obtain ⟨rfl, rfl, rfl, rfl, rfl, p0, p1, p4, p5, g0, g1, g4, g5⟩ := hlen1
  have q0 := p0.le
  have q1 := p1.le
  have q5 := p5.le
  have hw : Wd b BC BS sl s A [[cO h 2 [.ref a0, .ref a1, .int (nI u), .int (nI k), .int (nI v), .ref a2, .ref a3, .ref a4, .ref a5, .ref a6, .ref a7, .ref a8]], [cN b a0 n0 f0], [cN b a1 n1 f1], [cN b a2 n0 f2], [cN b a3 n0 f3], [cN b a4 n4 f4], [cN b a5 n5 f5], [cN b a6 n5 f6], [cN b a7 n5 f7], [cN b a8 257 f8]] sz_1 sl_1 H lo := hw.re rfl
  have J : ∀ (NN : Nat) (y4 m4 : Nat) (g4' : Nat → Nat) (sz' sl' : Nat) (H : Heap) (lo : List Loc), 131072 - m4 < NN → (Pw m4 131072 ∧ 512 ≤ m4) → (∀ a, (if a < m4 then g4' a else 0) = fP C a) → (sl' + 4325376 ≤ B1 + 2 * (3 * n0 + n1 + m4 + 3 * n5) ∧ 256 * sz' + 4325376 ≤ 256 * B2 + 2 * (3 * n0 + n1 + m4 + 3 * n5)) → Wd b BC BS sl s A [[cO h 2 [.ref a0, .ref a1, .int (nI u), .int (nI k), .int (nI v), .ref a2, .ref a3, .ref y4, .ref a5, .ref a6, .ref a7, .ref a8]], [cN b a0 n0 f0], [cN b a1 n1 f1], [cN b a2 n0 f2], [cN b a3 n0 f3], [cN b y4 m4 g4'], [cN b a5 n5 f5], [cN b a6 n5 f6], [cN b a7 n5 f7], [cN b a8 257 f8]] sz' sl' H lo → V p l e R s m args below meth c Q 2 H lo 4 [(0, .ref h), (1, .int (nI x))] [] := by
    intro NN
    induction NN with
    | zero =>
      intro y4 m4 g4' sz' sl' H lo hNN
      exact absurd hNN (by omega)
    | succ NN ih =>
      intro y4 m4 g4' sz' sl' H lo hNN hm hg hbb hw
      have qm := hm.1.le
      refine r_ildn X (dat D_Circuit_put 2 rfl) rfl 1 rfl ?_
      refine r_aldn X (dat D_Circuit_put 3 rfl) rfl 0 rfl ?_
      refine r_get X hw f_Circuit_24 (dat D_Circuit_put 4 rfl) 0 0 rfl rfl rfl ?_
      refine r_alen X hw (dat D_Circuit_put 5 rfl) 5 0 0 rfl rfl rfl ?_
      refine r_icmplt (tgt := 27) X (nI_ltI (by omega) (by omega)) (dat D_Circuit_put 6 rfl) rfl (fun hc => ?_) (fun hc => ?_)
      · refine r_aldn X (dat D_Circuit_put 13 rfl) rfl 0 rfl ?_
        refine r_get X hw f_Circuit_9 (dat D_Circuit_put 14 rfl) 0 0 rfl rfl rfl ?_
        refine r_aldn X (dat D_Circuit_put 15 rfl) rfl 0 rfl ?_
        refine r_get X hw f_Circuit_39 (dat D_Circuit_put 16 rfl) 0 0 rfl rfl rfl ?_
        refine r_ildn X (dat D_Circuit_put 17 rfl) rfl 1 rfl ?_
        refine r_iastN (Ws' := [[cO h 2 [.ref a0, .ref a1, .int (nI u), .int (nI k), .int (nI v), .ref a2, .ref a3, .ref y4, .ref a5, .ref a6, .ref a7, .ref a8]], [cN b a0 n0 (va_up f0 u x)], [cN b a1 n1 f1], [cN b a2 n0 f2], [cN b a3 n0 f3], [cN b y4 m4 g4'], [cN b a5 n5 f5], [cN b a6 n5 f6], [cN b a7 n5 f7], [cN b a8 257 f8]]) X hw (dat D_Circuit_put 18 rfl) 1 0 rfl rfl (by omega) (by omega) rfl (fun H lo hw => ?_)
        refine r_aldn X (dat D_Circuit_put 19 rfl) rfl 0 rfl ?_
        refine r_get X hw f_Circuit_18 (dat D_Circuit_put 20 rfl) 0 0 rfl rfl rfl ?_
        refine r_aldn X (dat D_Circuit_put 21 rfl) rfl 0 rfl ?_
        refine r_get X hw f_Circuit_39 (dat D_Circuit_put 22 rfl) 0 0 rfl rfl rfl ?_
        refine r_aldn X (dat D_Circuit_put 23 rfl) rfl 0 rfl ?_
        refine r_get X hw f_Circuit_43 (dat D_Circuit_put 24 rfl) 0 0 rfl rfl rfl ?_
        refine r_iastN (Ws' := [[cO h 2 [.ref a0, .ref a1, .int (nI u), .int (nI k), .int (nI v), .ref a2, .ref a3, .ref y4, .ref a5, .ref a6, .ref a7, .ref a8]], [cN b a0 n0 (va_up f0 u x)], [cN b a1 n1 f1], [cN b a2 n0 (va_up f2 u k)], [cN b a3 n0 f3], [cN b y4 m4 g4'], [cN b a5 n5 f5], [cN b a6 n5 f6], [cN b a7 n5 f7], [cN b a8 257 f8]]) X hw (dat D_Circuit_put 25 rfl) 3 0 rfl rfl (by omega) (by omega) rfl (fun H lo hw => ?_)
        refine r_aldn X (dat D_Circuit_put 26 rfl) rfl 0 rfl ?_
        refine r_get X hw f_Circuit_21 (dat D_Circuit_put 27 rfl) 0 0 rfl rfl rfl ?_
        refine r_aldn X (dat D_Circuit_put 28 rfl) rfl 0 rfl ?_
        refine r_get X hw f_Circuit_39 (dat D_Circuit_put 29 rfl) 0 0 rfl rfl rfl ?_
        refine r_aldn X (dat D_Circuit_put 30 rfl) rfl 0 rfl ?_
        refine r_get X hw f_Circuit_24 (dat D_Circuit_put 31 rfl) 0 0 rfl rfl rfl ?_
        refine r_ildn X (dat D_Circuit_put 32 rfl) rfl 1 rfl ?_
        refine r_ialdN X hw (dat D_Circuit_put 33 rfl) 5 0 rfl rfl (by omega) (by omega) ?_
        refine r_iastN (Ws' := [[cO h 2 [.ref a0, .ref a1, .int (nI u), .int (nI k), .int (nI v), .ref a2, .ref a3, .ref y4, .ref a5, .ref a6, .ref a7, .ref a8]], [cN b a0 n0 (va_up f0 u x)], [cN b a1 n1 f1], [cN b a2 n0 (va_up f2 u k)], [cN b a3 n0 (va_up f3 u (g4' x))], [cN b y4 m4 g4'], [cN b a5 n5 f5], [cN b a6 n5 f6], [cN b a7 n5 f7], [cN b a8 257 f8]]) X hw (dat D_Circuit_put 34 rfl) 4 0 rfl rfl (by omega) (by omega) rfl (fun H lo hw => ?_)
        refine r_aldn X (dat D_Circuit_put 35 rfl) rfl 0 rfl ?_
        refine r_dup X (dat D_Circuit_put 36 rfl) rfl ?_
        refine r_get X hw f_Circuit_39 (dat D_Circuit_put 37 rfl) 0 0 rfl rfl rfl ?_
        refine r_iconst (v := nI 1) X (dat D_Circuit_put 38 rfl) rfl ?_
        refine r_iadd (z := nI (u + 1)) X (dat D_Circuit_put 39 rfl) (nI_add _ _) ?_
        refine r_put (Ws' := [[cO h 2 [.ref a0, .ref a1, .int (nI (u + 1)), .int (nI k), .int (nI v), .ref a2, .ref a3, .ref y4, .ref a5, .ref a6, .ref a7, .ref a8]], [cN b a0 n0 (va_up f0 u x)], [cN b a1 n1 f1], [cN b a2 n0 (va_up f2 u k)], [cN b a3 n0 (va_up f3 u (g4' x))], [cN b y4 m4 g4'], [cN b a5 n5 f5], [cN b a6 n5 f6], [cN b a7 n5 f7], [cN b a8 257 f8]]) X hw f_Circuit_39 (dat D_Circuit_put 40 rfl) 0 0 rfl rfl rfl rfl rfl (Nat.le_of_ble_eq_true rfl) rfl (fun H lo hw => ?_)
        refine r_aldn X (dat D_Circuit_put 41 rfl) rfl 0 rfl ?_
        refine r_get X hw f_Circuit_24 (dat D_Circuit_put 42 rfl) 0 0 rfl rfl rfl ?_
        refine r_ildn X (dat D_Circuit_put 43 rfl) rfl 1 rfl ?_
        refine r_aldn X (dat D_Circuit_put 44 rfl) rfl 0 rfl ?_
        refine r_get X hw f_Circuit_39 (dat D_Circuit_put 45 rfl) 0 0 rfl rfl rfl ?_
        refine r_iastN (Ws' := [[cO h 2 [.ref a0, .ref a1, .int (nI (u + 1)), .int (nI k), .int (nI v), .ref a2, .ref a3, .ref y4, .ref a5, .ref a6, .ref a7, .ref a8]], [cN b a0 n0 (va_up f0 u x)], [cN b a1 n1 f1], [cN b a2 n0 (va_up f2 u k)], [cN b a3 n0 (va_up f3 u (g4' x))], [cN b y4 m4 (va_up g4' x (u + 1))], [cN b a5 n5 f5], [cN b a6 n5 f6], [cN b a7 n5 f7], [cN b a8 257 f8]]) X hw (dat D_Circuit_put 46 rfl) 5 0 rfl rfl (by omega) (by omega) rfl (fun H lo hw => ?_)
        have hgx : g4' x = fP C x := by rw [← hg x, if_pos hc]
        have ho := Occ_put (x := x) (lit' := va_up f0 u x) (nxt' := va_up f3 u (g4' x)) (pl' := fun a => if a = x then u + 1 else fP C a) hocc.1 hocc.2 (fun j hj => (up_n (by omega)).trans (hj1 j hj).1) (by rw [← hu1]; exact up_s) (fun j hj => (up_n (by omega)).trans (hj1 j hj).2.2) (by rw [← hu1, ← hgx]; exact up_s) (fun a => by rw [hu1])
        rw [← hu1] at ho
        refine r_vret RT (dat D_Circuit_put 47 rfl) ((a0, n0, va_up f0 u x), (a1, n1, f1), (a2, n0, va_up f2 u k), (a3, n0, va_up f3 u (g4' x)), (y4, m4, va_up g4' x (u + 1)), (a5, n5, f5), (a6, n5, f6), (a7, n5, f7), (a8, 257, f8), u + 1, k, v) ⟨rfl, ⟨rfl, rfl, rfl, rfl, rfl, p0, p1, hm.1, p5, g0, g1, hm.2, g5⟩, hbb, ?_, hk1, fun j hj => ⟨?_, ?_⟩, ?_, ?_, hs1, hls1, ?_, ⟨?_, ?_⟩, hg1⟩ ((hw.pick (NW := 10) (Ws' := [[cO h 2 [.ref a0, .ref a1, .int (nI (u + 1)), .int (nI k), .int (nI v), .ref a2, .ref a3, .ref y4, .ref a5, .ref a6, .ref a7, .ref a8]], [cN b a0 n0 (va_up f0 u x)], [cN b a1 n1 f1], [cN b a2 n0 (va_up f2 u k)], [cN b a3 n0 (va_up f3 u (g4' x))], [cN b y4 m4 (va_up g4' x (u + 1))], [cN b a5 n5 f5], [cN b a6 n5 f6], [cN b a7 n5 f7], [cN b a8 257 f8]]) [0, 1, 2, 3, 4, 5, 6, 7, 8, 9] [] rfl (by decide +kernel) rfl).re rfl)
        · show u + 1 = cU C + 1
          omega
        · exact (up_n (by omega)).trans (hj1 j hj).1
        · exact (up_n (by omega)).trans (hj1 j hj).2.1
        · rw [← hu1]
          exact up_s
        · rw [← hu1]
          exact up_s.trans hk1
        · show u + 1 ≤ n0
          omega
        · intro a
          show (if a < m4 then va_up g4' x (u + 1) a else 0) = prv (va_up f0 u x) a (u + 1)
          rw [← ho.1 a]
          by_cases e : a = x
          · subst e
            rw [if_pos hc, if_pos rfl]
            exact up_s
          · rw [if_neg e, ← hg a]
            by_cases e2 : a < m4
            · rw [if_pos e2, if_pos e2]
              exact up_n e
            · rw [if_neg e2, if_neg e2]
        · intro j hj
          show va_up f3 u (g4' x) j = prv (va_up f0 u x) (va_up f0 u x j) j
          exact ho.2 j hj
      · have hn4 : m4 < 131072 := by omega
        have hd := hm.1.le2 hn4
        refine r_aldn X (dat D_Circuit_put 7 rfl) rfl 0 rfl ?_
        refine r_aldn X (dat D_Circuit_put 8 rfl) rfl 0 rfl ?_
        refine r_get X hw f_Circuit_24 (dat D_Circuit_put 9 rfl) 0 0 rfl rfl rfl ?_
        refine r_callS (NW := 10) (As := [.ref y4]) (st := [.ref h]) X hw m_Circuit_53 (c_longer l b BC BS sz' sl' y4 m4 g4' (by omega) (by omega) (by omega)) (dat D_Circuit_put 10 rfl) [5] [0, 1, 2, 3, 4, 6, 7, 8, 9] rfl (by decide +kernel) rfl rfl rfl rfl (Nat.le_of_ble_eq_true rfl) ⟨by decide, by decide⟩ (fun r x4 sz_2 sl_2 H lo hp hw => ?_)
        obtain ⟨rfl, rfl, rfl, hx4⟩ := hp
        refine r_st (st' := [.ref sz', .ref h]) rfl ?_
        have hw : Wd b BC BS sl s A [[cN b y4 m4 g4'], [cN b sz' (2 * m4) x4], [cO h 2 [.ref a0, .ref a1, .int (nI u), .int (nI k), .int (nI v), .ref a2, .ref a3, .ref y4, .ref a5, .ref a6, .ref a7, .ref a8]], [cN b a0 n0 f0], [cN b a1 n1 f1], [cN b a2 n0 f2], [cN b a3 n0 f3], [cN b a5 n5 f5], [cN b a6 n5 f6], [cN b a7 n5 f7], [cN b a8 257 f8]] (sz' + 1) (sl' + 2 * m4) H lo := hw
        refine r_put (Ws' := [[cN b y4 m4 g4'], [cN b sz' (2 * m4) x4], [cO h 2 [.ref a0, .ref a1, .int (nI u), .int (nI k), .int (nI v), .ref a2, .ref a3, .ref sz', .ref a5, .ref a6, .ref a7, .ref a8]], [cN b a0 n0 f0], [cN b a1 n1 f1], [cN b a2 n0 f2], [cN b a3 n0 f3], [cN b a5 n5 f5], [cN b a6 n5 f6], [cN b a7 n5 f7], [cN b a8 257 f8]]) X hw f_Circuit_24 (dat D_Circuit_put 11 rfl) 2 0 rfl rfl rfl rfl rfl (Nat.le_of_ble_eq_true rfl) rfl (fun H lo hw => ?_)
        refine r_goto (tgt := 4) X (dat D_Circuit_put 12 rfl) rfl ?_
        have hw : Wd b BC BS sl s A [[cO h 2 [.ref a0, .ref a1, .int (nI u), .int (nI k), .int (nI v), .ref a2, .ref a3, .ref sz', .ref a5, .ref a6, .ref a7, .ref a8]], [cN b a0 n0 f0], [cN b a1 n1 f1], [cN b a2 n0 f2], [cN b a3 n0 f3], [cN b sz' (2 * m4) x4], [cN b a5 n5 f5], [cN b a6 n5 f6], [cN b a7 n5 f7], [cN b a8 257 f8]] (sz' + 1) (sl' + 2 * m4) H lo := hw.pick (NW := 11) [2, 3, 4, 5, 6, 1, 7, 8, 9, 10] [0] rfl (by decide +kernel) rfl
        exact ih _ _ _ _ _ H lo (by omega) ⟨hm.1.dbl hn4, by omega⟩ (fun a => by
          rw [← hg a, hx4]
          by_cases e : a < m4
          · rw [if_pos e, if_pos (by omega)]
          · rw [if_neg e]
            split <;> rfl) (by omega) hw
  exact J (131072 - n4 + 1) a4 n4 f4 _ _ H lo (by omega) ⟨p4, g4⟩ hp1 hb1 hw
end
section
/-! CIRCUIT, part 2: add, keep, drop, begin -/
/-- the clause at hand has the literals xs -/
def MidR (B1 B2 : Nat) (xs : List Nat) (C C' : CT) (sz sl : Nat) : Prop := cLen C' ∧ cBud B1 B2 C' sz sl ∧ cU C' = cU C + xs.length ∧ cK C' = cK C ∧ (∀ j, j < cU C → fL C' j = fL C j ∧ fC C' j = fC C j) ∧ (∀ i, i < xs.length → fL C' (cU C + i) = xs.getD i 0 ∧ fC C' (cU C + i) = cK C) ∧ (∀ j, j < cK C → fS C' j = fS C j) ∧ fS C' (cK C) = cU C ∧ cK C + 2 ≤ lS C' ∧ Occ (cU C') C' ∧ cU C' ≤ lL C' ∧ SameG C C'
/-- one more clause xs -/
def AddR (xs : List Nat) (C C' : CT) : Prop := cU C' = cU C + xs.length ∧ cK C' = cK C + 1 ∧ (∀ j, j < cU C → fL C' j = fL C j ∧ fC C' j = fC C j) ∧ (∀ i, i < xs.length → fL C' (cU C + i) = xs.getD i 0 ∧ fC C' (cU C + i) = cK C) ∧ (∀ j, j < cK C → fS C' j = fS C j) ∧ fS C' (cK C) = cU C ∧ fS C' (cK C + 1) = cU C' ∧ SameG C C'
theorem SameG.refl (C : CT) : SameG C C := ⟨rfl, rfl, rfl, rfl, rfl, rfl⟩
theorem SameG.trans {C C1 C2 : CT} (h : SameG C C1) (g : SameG C1 C2) : SameG C C2 := ⟨g.1.trans h.1, g.2.1.trans h.2.1, g.2.2.1.trans h.2.2.1, g.2.2.2.1.trans h.2.2.2.1, g.2.2.2.2.1.trans h.2.2.2.2.1, g.2.2.2.2.2.trans h.2.2.2.2.2⟩
theorem Occ_same {U : Nat} {C C' : CT} (h : Occ U C) (h1 : fL C' = fL C) (h2 : fN C' = fN C) (h3 : ∀ a, fP C' a = fP C a) : Occ U C' := ⟨fun a => by rw [h3, h1]; exact h.1 a, fun j hj => by rw [h2, h1]; exact h.2 j hj⟩
theorem Mid_put {B1 B2 x sz sl : Nat} {xs : List Nat} {C C1 C2 : CT} (h : MidR B1 B2 xs C C1 sz sl) {sz' sl' : Nat} (p1 : cLen C2) (p2 : cBud B1 B2 C2 sz' sl') (p3 : cU C2 = cU C1 + 1) (p4 : cK C2 = cK C1) (p5 : ∀ j, j < cU C1 → fL C2 j = fL C1 j ∧ fC C2 j = fC C1 j) (p6 : fL C2 (cU C1) = x) (p7 : fC C2 (cU C1) = cK C1) (p8 : fS C2 = fS C1) (p9 : lS C2 = lS C1) (p10 : cU C2 ≤ lL C2) (p11 : Occ (cU C2) C2) (p12 : SameG C1 C2) : MidR B1 B2 (xs ++ [x]) C C2 sz' sl' := by
  obtain ⟨h1, h2, h3, h4, h5, h6, h7, h8, h9, h10, h11, h12⟩ := h
  refine ⟨p1, p2, by rw [p3, h3, List.length_append]; rfl, p4.trans h4, fun j hj => ?_, fun i hi => ?_, fun j hj => by rw [p8]; exact h7 j hj, by rw [p8]; exact h8, by rw [p9]; exact h9, p11, p10, h12.trans p12⟩
  · have h := p5 j (by omega)
    exact ⟨h.1.trans (h5 j hj).1, h.2.trans (h5 j hj).2⟩
  · rw [List.length_append] at hi
    by_cases e : i < xs.length
    · have h := p5 (cU C + i) (by omega)
      have h0 := h6 i e
      refine ⟨(h.1.trans h0.1).trans ?_, h.2.trans h0.2⟩
      simp [List.getD, List.getElem?_append_left e]
    · have e2 : i = xs.length := by simp at hi; omega
      subst e2
      rw [← h3, p6, p7, h4]
      refine ⟨?_, rfl⟩
      simp [List.getD]
set_option maxHeartbeats 4000000 in
set_option maxRecDepth 100000 in
/-- a clause of one to three literals -/
theorem c_add (l : Launch) (b : BK) (BC BS sz sl : Nat) (h : Nat) (C : CT) (x : Nat) (y z : Int) (xs : List Nat) (hxs : xs = x :: ((if 0 ≤ y then [y.toNat] else []) ++ if 0 ≤ z then [z.toNat] else [])) (B1 B2 : Nat) (hB1 : B1 ≤ BS) (hB2 : B2 ≤ BC) (hlen : cLen C) (hb : cBud B1 B2 C sz sl) (hu : cU C ≤ lL C) (hu2 : cU C + 3 ≤ 524288) (hk : cK C + 1 ≤ lS C) (hk2 : cK C + 2 ≤ 262144) (hx : x < 131072) (hy : -1 ≤ y ∧ y < 131072) (hz : -1 ≤ z ∧ z < 131072) (hocc : Occ (cU C) C) : Con l b y_Circuit_add b_Circuit_add 4 none 4 120 BC BS sz sl [.ref h, .int (nI x), .int (iI y), .int (iI z)] [circW b h C] (S := CT) (fun r sz' sl' C' => r = none ∧ cLen C' ∧ cBud B1 B2 C' sz' sl' ∧ AddR xs C C' ∧ cU C' ≤ lL C' ∧ cK C' + 1 ≤ lS C' ∧ Occ (cU C') C') (fun C' => [circW b h C']) := by
  refine con_of (L0 := [(0, .ref h), (1, .int (nI x)), (2, .int (iI y)), (3, .int (iI z))]) (by decide) (Nat.le_of_ble_eq_true rfl) rfl ?_
  intro p e R s m args below meth c Q A H lo X hini hw RT
  have X : Ctx p R s m args meth c b_Circuit_add 4 "LoopProver$Circuit" b BC BS sl 4 120 := X
  have hw : Wd b BC BS sl s A [circW b h C] sz sl H lo := hw
  have J27 : ∀ (D : CT) (sz' sl' : Nat) (H : Heap) (lo : List Loc), (MidR B1 B2 xs C D sz' sl') → Wd b BC BS sl s A [circW b h D] sz' sl' H lo → V p l e R s m args below meth c Q 4 H lo 27 [(0, .ref h), (1, .int (nI x)), (2, .int (iI y)), (3, .int (iI z))] [] := by
    intro D sz' sl' H lo hm hw
    have hl3 : xs.length ≤ 3 := by rw [hxs]; simp only [List.length_cons, List.length_append]; split <;> split <;> simp
    refine r_aldn X (dat D_Circuit_add 15 rfl) rfl 0 rfl ?_
    refine r_callV (NW := 1) (As := []) (st := []) X hw m_Circuit_67 (c_close l b BC BS _ _ h D hm.1 (by rw [hm.2.2.2.1]; exact hm.2.2.2.2.2.2.2.2.1) (by have h3 := hm.2.2.1; (try simp only [List.length_nil, List.length_cons] at h3); omega)) (dat D_Circuit_add 16 rfl) [0] [] rfl (by decide +kernel) rfl rfl (hw.recv X 0 0 rfl (circ0 b h D).choose_spec k_Circuit) rfl rfl (Nat.le_of_ble_eq_true rfl) ⟨by decide, by decide⟩ (fun r D2 sz_1 sl_1 H lo hp hw => ?_)
    obtain ⟨rfl, rfl, rfl, c1, c2, c3, c4, c5, c6, c7, c8, c9, c10, c11, c12, c13⟩ := hp
    refine r_st (st' := []) rfl ?_
    have hw : Wd b BC BS sl s A [circW b h D2] sz' sl' H lo := hw
    obtain ⟨h1, h2, h3, h4, h5, h6, h7, h8, h9, h10, h11, h12⟩ := hm
    refine r_vret RT (dat D_Circuit_add 17 rfl) D2 ⟨rfl, c1, ?_, ⟨c3.trans h3, by rw [c4, h4], fun j hj => by rw [c5, c6]; exact h5 j hj, fun i hi => by rw [c5, c6]; exact h6 i hi, fun j hj => (c10 j (by omega)).trans (h7 j hj), (c10 _ (by omega)).trans h8, ?_, h12.trans c13⟩, by rw [c3, c8]; exact h11, by rw [c4, c9, h4]; exact h9, ?_⟩ hw
    · unfold cBud at h2 ⊢
      rw [c2]
      exact h2
    · rw [c3, ← c11, h4]
    · rw [c3]
      exact Occ_same h10 c5 c7 c12
  have J18 : ∀ (D : CT) (ys : List Nat) (sz' sl' : Nat) (H : Heap) (lo : List Loc), (MidR B1 B2 ys C D sz' sl') → (ys ++ (if 0 ≤ z then [z.toNat] else []) = xs) → (ys.length ≤ 2) → Wd b BC BS sl s A [circW b h D] sz' sl' H lo → V p l e R s m args below meth c Q 4 H lo 18 [(0, .ref h), (1, .int (nI x)), (2, .int (iI y)), (3, .int (iI z))] [] := by
    intro D ys sz' sl' H lo hm hys hl2 hw
    refine r_ildn X (dat D_Circuit_add 10 rfl) rfl 3 rfl ?_
    refine r_iflt (tgt := 27) X (z0_lt (by omega)) (dat D_Circuit_add 11 rfl) rfl (fun hc => ?_) (fun hc => ?_)
    · rw [if_neg (by omega), List.append_nil] at hys
      rw [hys] at hm
      exact J27 D _ _ H lo hm hw
    · obtain ⟨z', rfl⟩ := Int.eq_ofNat_of_zero_le (show 0 ≤ z by omega)
      refine r_le (L' := [(0, .ref h), (1, .int (nI x)), (2, .int (iI y)), (3, .int (nI z'))]) (rfl) ?_
      refine r_aldn X (dat D_Circuit_add 12 rfl) rfl 0 rfl ?_
      refine r_ildn X (dat D_Circuit_add 13 rfl) rfl 3 rfl ?_
      refine r_callV (NW := 1) (As := [.int (nI z')]) (st := []) X hw m_Circuit_63 (c_put l b BC BS _ _ h D z' B1 B2 hB1 hB2 hm.1 hm.2.1 hm.2.2.2.2.2.2.2.2.2.2.1 (by have h3 := hm.2.2.1; (try simp only [List.length_nil, List.length_cons] at h3); omega) (by rw [hm.2.2.2.1]; omega) (by omega) hm.2.2.2.2.2.2.2.2.2.1) (dat D_Circuit_add 14 rfl) [0] [] rfl (by decide +kernel) rfl rfl (hw.recv X 0 0 rfl (circ0 b h D).choose_spec k_Circuit) rfl rfl (Nat.le_of_ble_eq_true rfl) ⟨by decide, by decide⟩ (fun r D2 sz_2 sl_2 H lo hp hw => ?_)
      obtain ⟨rfl, p1, p2, p3, p4, p5, p6, p7, p8, p9, p10, p11, p12⟩ := hp
      refine r_st (st' := []) rfl ?_
      have hw : Wd b BC BS sl s A [circW b h D2] sz_2 sl_2 H lo := hw
      have hm2 := Mid_put hm p1 p2 p3 p4 p5 p6 p7 p8 p9 p10 p11 p12
      rw [if_pos (by omega), Int.toNat_natCast] at hys
      rw [hys] at hm2
      refine r_le (L' := [(0, .ref h), (1, .int (nI x)), (2, .int (iI y)), (3, .int (iI (z' : Int)))]) (rfl) ?_
      exact J27 D2 _ _ H lo hm2 hw
  refine r_aldn X (dat D_Circuit_add 0 rfl) rfl 0 rfl ?_
  refine r_callV (NW := 1) (As := []) (st := []) X hw m_Circuit_60 (c_open l b BC BS sz sl h C B1 B2 hB1 hB2 hlen hb hk hk2 (by omega)) (dat D_Circuit_add 1 rfl) [0] [] rfl (by decide +kernel) rfl rfl (hw.recv X 0 0 rfl (circ0 b h C).choose_spec k_Circuit) rfl rfl (Nat.le_of_ble_eq_true rfl) ⟨by decide, by decide⟩ (fun r D sz_3 sl_3 H lo hp hw => ?_)
  obtain ⟨rfl, c1, c2, c3, c4, c5, c6, c7, c8, c9, c10, c11, c12, c13⟩ := hp
  refine r_st (st' := []) rfl ?_
  have hw : Wd b BC BS sl s A [circW b h D] sz_3 sl_3 H lo := hw
  have hm : MidR B1 B2 [] C D _ _ := ⟨c1, c2, c3, c4, fun j hj => by rw [c5, c6]; exact ⟨rfl, rfl⟩, fun i hi => absurd hi (Nat.not_lt_zero i), c9, c10, c11, by rw [c3]; exact Occ_same hocc c5 c7 c12, by rw [c3, c8]; exact hu, c13⟩
  refine r_aldn X (dat D_Circuit_add 2 rfl) rfl 0 rfl ?_
  refine r_ildn X (dat D_Circuit_add 3 rfl) rfl 1 rfl ?_
  refine r_callV (NW := 1) (As := [.int (nI x)]) (st := []) X hw m_Circuit_63 (c_put l b BC BS _ _ h D x B1 B2 hB1 hB2 hm.1 hm.2.1 hm.2.2.2.2.2.2.2.2.2.2.1 (by have h3 := hm.2.2.1; (try simp only [List.length_nil, List.length_cons] at h3); omega) (by rw [hm.2.2.2.1]; omega) (by omega) hm.2.2.2.2.2.2.2.2.2.1) (dat D_Circuit_add 4 rfl) [0] [] rfl (by decide +kernel) rfl rfl (hw.recv X 0 0 rfl (circ0 b h D).choose_spec k_Circuit) rfl rfl (Nat.le_of_ble_eq_true rfl) ⟨by decide, by decide⟩ (fun r D2 sz_4 sl_4 H lo hp hw => ?_)
  obtain ⟨rfl, p1, p2, p3, p4, p5, p6, p7, p8, p9, p10, p11, p12⟩ := hp
  refine r_st (st' := []) rfl ?_
  have hw : Wd b BC BS sl s A [circW b h D2] sz_4 sl_4 H lo := hw
  have hm2 := Mid_put hm p1 p2 p3 p4 p5 p6 p7 p8 p9 p10 p11 p12
  rw [List.nil_append] at hm2
  refine r_ildn X (dat D_Circuit_add 5 rfl) rfl 2 rfl ?_
  refine r_iflt (tgt := 18) X (z0_lt (by omega)) (dat D_Circuit_add 6 rfl) rfl (fun hc => ?_) (fun hc => ?_)
  · rw [if_neg (show ¬ 0 ≤ y by omega), List.nil_append] at hxs
    exact J18 D2 [x] _ _ H lo hm2 hxs.symm (by simp) hw
  · obtain ⟨y', rfl⟩ := Int.eq_ofNat_of_zero_le (show 0 ≤ y by omega)
    skip
    refine r_le (L' := [(0, .ref h), (1, .int (nI x)), (2, .int (nI y')), (3, .int (iI z))]) (rfl) ?_
    refine r_aldn X (dat D_Circuit_add 7 rfl) rfl 0 rfl ?_
    refine r_ildn X (dat D_Circuit_add 8 rfl) rfl 2 rfl ?_
    clear hm p1 p2 p3 p4 p5 p6 p7 p8 p9 p10 p11 p12
    have hm := hm2
    clear hm2
    refine r_callV (NW := 1) (As := [.int (nI y')]) (st := []) X hw m_Circuit_63 (c_put l b BC BS _ _ h D2 y' B1 B2 hB1 hB2 hm.1 hm.2.1 hm.2.2.2.2.2.2.2.2.2.2.1 (by have h3 := hm.2.2.1; (try simp only [List.length_nil, List.length_cons] at h3); omega) (by rw [hm.2.2.2.1]; omega) (by omega) hm.2.2.2.2.2.2.2.2.2.1) (dat D_Circuit_add 9 rfl) [0] [] rfl (by decide +kernel) rfl rfl (hw.recv X 0 0 rfl (circ0 b h D2).choose_spec k_Circuit) rfl rfl (Nat.le_of_ble_eq_true rfl) ⟨by decide, by decide⟩ (fun r D3 sz_5 sl_5 H lo hp hw => ?_)
    obtain ⟨rfl, p1, p2, p3, p4, p5, p6, p7, p8, p9, p10, p11, p12⟩ := hp
    refine r_st (st' := []) rfl ?_
    have hw : Wd b BC BS sl s A [circW b h D3] sz_5 sl_5 H lo := hw
    have hm2 := Mid_put hm p1 p2 p3 p4 p5 p6 p7 p8 p9 p10 p11 p12
    rw [if_pos (show 0 ≤ (y' : Int) by omega), Int.toNat_natCast] at hxs
    refine r_le (L' := [(0, .ref h), (1, .int (nI x)), (2, .int (iI (y' : Int))), (3, .int (iI z))]) (rfl) ?_
    exact J18 D3 [x, y'] _ _ H lo hm2 (by rw [hxs]; rfl) (by simp) hw
set_option maxHeartbeats 4000000 in
set_option maxRecDepth 100000 in
/-- the last clause goes -/
theorem c_drop (l : Launch) (b : BK) (BC BS sz sl : Nat) (h : Nat) (C : CT) (hlen : cLen C) (hk0 : 1 ≤ cK C) (hk : cK C + 1 ≤ lS C) : Con l b y_Circuit_drop b_Circuit_drop 1 none 0 0 BC BS sz sl [.ref h] [circW b h C] (S := CT) (fun r sz' sl' C' => r = none ∧ sz = sz' ∧ sl = sl' ∧ C' = (C.1, C.2.1, C.2.2.1, C.2.2.2.1, C.2.2.2.2.1, C.2.2.2.2.2.1, C.2.2.2.2.2.2.1, C.2.2.2.2.2.2.2.1, C.2.2.2.2.2.2.2.2.1, fS C (cK C - 1), cK C - 1, cV C)) (fun C' => [circW b h C']) := by
  obtain ⟨⟨a0, n0, f0⟩, ⟨a1, n1, f1⟩, ⟨a2, n2, f2⟩, ⟨a3, n3, f3⟩, ⟨a4, n4, f4⟩, ⟨a5, n5, f5⟩, ⟨a6, n6, f6⟩, ⟨a7, n7, f7⟩, ⟨a8, n8, f8⟩, u, k, v⟩ := C
  dsimp only [cLen, cPhi, cBud, SameG, cU_mk, cK_mk, cV_mk, fL_mk, fS_mk, fC_mk, fN_mk, fP_mk, fF_mk, fG_mk, fH_mk, fD_mk, lL_mk, lS_mk, lP_mk, lF_mk] at hlen hk hk0
  obtain ⟨rfl, rfl, rfl, rfl, rfl, p0, p1, p4, p5, g0, g1, g4, g5⟩ := hlen
  have q0 := p0.le
  have q1 := p1.le
  have q4 := p4.le
  have q5 := p5.le
  refine con_of (L0 := [(0, .ref h)]) (by decide) (Nat.le_of_ble_eq_true rfl) rfl ?_
  intro p e R s m args below meth c Q A H lo X hini hw RT
  have X : Ctx p R s m args meth c b_Circuit_drop 1 "LoopProver$Circuit" b BC BS sl 0 0 := X
  have hw : Wd b BC BS sl s A [[cO h 2 [.ref a0, .ref a1, .int (nI u), .int (nI k), .int (nI v), .ref a2, .ref a3, .ref a4, .ref a5, .ref a6, .ref a7, .ref a8]], [cN b a0 n0 f0], [cN b a1 n1 f1], [cN b a2 n0 f2], [cN b a3 n0 f3], [cN b a4 n4 f4], [cN b a5 n5 f5], [cN b a6 n5 f6], [cN b a7 n5 f7], [cN b a8 257 f8]] sz sl H lo := hw.re rfl
  refine r_aldn X (dat D_Circuit_drop 0 rfl) rfl 0 rfl ?_
  refine r_dup X (dat D_Circuit_drop 1 rfl) rfl ?_
  refine r_get X hw f_Circuit_43 (dat D_Circuit_drop 2 rfl) 0 0 rfl rfl rfl ?_
  refine r_iconst (v := nI 1) X (dat D_Circuit_drop 3 rfl) rfl ?_
  refine r_isub (z := nI (k - 1)) X (dat D_Circuit_drop 4 rfl) (pk_sub (by omega)) ?_
  refine r_put (Ws' := [[cO h 2 [.ref a0, .ref a1, .int (nI u), .int (nI (k - 1)), .int (nI v), .ref a2, .ref a3, .ref a4, .ref a5, .ref a6, .ref a7, .ref a8]], [cN b a0 n0 f0], [cN b a1 n1 f1], [cN b a2 n0 f2], [cN b a3 n0 f3], [cN b a4 n4 f4], [cN b a5 n5 f5], [cN b a6 n5 f6], [cN b a7 n5 f7], [cN b a8 257 f8]]) X hw f_Circuit_43 (dat D_Circuit_drop 5 rfl) 0 0 rfl rfl rfl rfl rfl (Nat.le_of_ble_eq_true rfl) rfl (fun H lo hw => ?_)
  refine r_aldn X (dat D_Circuit_drop 6 rfl) rfl 0 rfl ?_
  refine r_aldn X (dat D_Circuit_drop 7 rfl) rfl 0 rfl ?_
  refine r_get X hw f_Circuit_15 (dat D_Circuit_drop 8 rfl) 0 0 rfl rfl rfl ?_
  refine r_aldn X (dat D_Circuit_drop 9 rfl) rfl 0 rfl ?_
  refine r_get X hw f_Circuit_43 (dat D_Circuit_drop 10 rfl) 0 0 rfl rfl rfl ?_
  refine r_ialdN X hw (dat D_Circuit_drop 11 rfl) 2 0 rfl rfl (by omega) (by omega) ?_
  refine r_put (Ws' := [[cO h 2 [.ref a0, .ref a1, .int (nI (f1 (k - 1))), .int (nI (k - 1)), .int (nI v), .ref a2, .ref a3, .ref a4, .ref a5, .ref a6, .ref a7, .ref a8]], [cN b a0 n0 f0], [cN b a1 n1 f1], [cN b a2 n0 f2], [cN b a3 n0 f3], [cN b a4 n4 f4], [cN b a5 n5 f5], [cN b a6 n5 f6], [cN b a7 n5 f7], [cN b a8 257 f8]]) X hw f_Circuit_39 (dat D_Circuit_drop 12 rfl) 0 0 rfl rfl rfl rfl rfl (Nat.le_of_ble_eq_true rfl) rfl (fun H lo hw => ?_)
  exact r_vret RT (dat D_Circuit_drop 13 rfl) ((a0, n0, f0), (a1, n1, f1), (a2, n0, f2), (a3, n0, f3), (a4, n4, f4), (a5, n5, f5), (a6, n5, f6), (a7, n5, f7), (a8, 257, f8), f1 (k - 1), k - 1, v) ⟨rfl, rfl, rfl, rfl⟩ ((hw.pick (NW := 10) (Ws' := [[cO h 2 [.ref a0, .ref a1, .int (nI (f1 (k - 1))), .int (nI (k - 1)), .int (nI v), .ref a2, .ref a3, .ref a4, .ref a5, .ref a6, .ref a7, .ref a8]], [cN b a0 n0 f0], [cN b a1 n1 f1], [cN b a2 n0 f2], [cN b a3 n0 f3], [cN b a4 n4 f4], [cN b a5 n5 f5], [cN b a6 n5 f6], [cN b a7 n5 f7], [cN b a8 257 f8]]) [0, 1, 2, 3, 4, 5, 6, 7, 8, 9] [] rfl (by decide +kernel) rfl).re rfl)
set_option maxHeartbeats 4000000 in
set_option maxRecDepth 100000 in
/-- the first literal of the last clause -/
theorem c_lastFirst (l : Launch) (b : BK) (BC BS sz sl : Nat) (h : Nat) (C : CT) (hlen : cLen C) (hk0 : 1 ≤ cK C) (hk : cK C + 1 ≤ lS C) (hs : fS C (cK C - 1) < lL C) : Con l b y_Circuit_lastFirst b_Circuit_lastFirst 1 (some .int) 0 0 BC BS sz sl [.ref h] [circW b h C] (S := Unit) (fun r sz' sl' _ => r = some (.int (nI (fL C (fS C (cK C - 1))))) ∧ sz = sz' ∧ sl = sl') (fun _ => [circW b h C]) := by
  obtain ⟨⟨a0, n0, f0⟩, ⟨a1, n1, f1⟩, ⟨a2, n2, f2⟩, ⟨a3, n3, f3⟩, ⟨a4, n4, f4⟩, ⟨a5, n5, f5⟩, ⟨a6, n6, f6⟩, ⟨a7, n7, f7⟩, ⟨a8, n8, f8⟩, u, k, v⟩ := C
  dsimp only [cLen, cPhi, cBud, SameG, cU_mk, cK_mk, cV_mk, fL_mk, fS_mk, fC_mk, fN_mk, fP_mk, fF_mk, fG_mk, fH_mk, fD_mk, lL_mk, lS_mk, lP_mk, lF_mk] at hlen hk hk0 hs
  obtain ⟨rfl, rfl, rfl, rfl, rfl, p0, p1, p4, p5, g0, g1, g4, g5⟩ := hlen
  have q0 := p0.le
  have q1 := p1.le
  have q4 := p4.le
  have q5 := p5.le
  refine con_of (L0 := [(0, .ref h)]) (by decide) (Nat.le_of_ble_eq_true rfl) rfl ?_
  intro p e R s m args below meth c Q A H lo X hini hw RT
  have X : Ctx p R s m args meth c b_Circuit_lastFirst 1 "LoopProver$Circuit" b BC BS sl 0 0 := X
  have hw : Wd b BC BS sl s A [[cO h 2 [.ref a0, .ref a1, .int (nI u), .int (nI k), .int (nI v), .ref a2, .ref a3, .ref a4, .ref a5, .ref a6, .ref a7, .ref a8]], [cN b a0 n0 f0], [cN b a1 n1 f1], [cN b a2 n0 f2], [cN b a3 n0 f3], [cN b a4 n4 f4], [cN b a5 n5 f5], [cN b a6 n5 f6], [cN b a7 n5 f7], [cN b a8 257 f8]] sz sl H lo := hw.re rfl
  refine r_aldn X (dat D_Circuit_lastFirst 0 rfl) rfl 0 rfl ?_
  refine r_get X hw f_Circuit_9 (dat D_Circuit_lastFirst 1 rfl) 0 0 rfl rfl rfl ?_
  refine r_aldn X (dat D_Circuit_lastFirst 2 rfl) rfl 0 rfl ?_
  refine r_get X hw f_Circuit_15 (dat D_Circuit_lastFirst 3 rfl) 0 0 rfl rfl rfl ?_
  refine r_aldn X (dat D_Circuit_lastFirst 4 rfl) rfl 0 rfl ?_
  refine r_get X hw f_Circuit_43 (dat D_Circuit_lastFirst 5 rfl) 0 0 rfl rfl rfl ?_
  refine r_iconst (v := nI 1) X (dat D_Circuit_lastFirst 6 rfl) rfl ?_
  refine r_isub (z := nI (k - 1)) X (dat D_Circuit_lastFirst 7 rfl) (pk_sub (by omega)) ?_
  refine r_ialdN X hw (dat D_Circuit_lastFirst 8 rfl) 2 0 rfl rfl (by omega) (by omega) ?_
  refine r_ialdN X hw (dat D_Circuit_lastFirst 9 rfl) 1 0 rfl rfl (by omega) (by omega) ?_
  exact r_iret RT (dat D_Circuit_lastFirst 10 rfl) () ⟨rfl, rfl, rfl⟩ ((hw.pick (NW := 10) (Ws' := [[cO h 2 [.ref a0, .ref a1, .int (nI u), .int (nI k), .int (nI v), .ref a2, .ref a3, .ref a4, .ref a5, .ref a6, .ref a7, .ref a8]], [cN b a0 n0 f0], [cN b a1 n1 f1], [cN b a2 n0 f2], [cN b a3 n0 f3], [cN b a4 n4 f4], [cN b a5 n5 f5], [cN b a6 n5 f6], [cN b a7 n5 f7], [cN b a8 257 f8]]) [0, 1, 2, 3, 4, 5, 6, 7, 8, 9] [] rfl (by decide +kernel) rfl).re rfl)
set_option maxHeartbeats 4000000 in
set_option maxRecDepth 100000 in
/-- more room for gates -/
theorem c_grow (l : Launch) (b : BK) (BC BS sz sl : Nat) (h : Nat) (C : CT) (B1 B2 : Nat) (hB1 : B1 ≤ BS) (hB2 : B2 ≤ BC) (hlen : cLen C) (hb : cBud B1 B2 C sz sl) (hf : lF C < 65536) : Con l b y_Circuit_grow b_Circuit_grow 1 none 2 60 BC BS sz sl [.ref h] [circW b h C] (S := CT) (fun r sz' sl' C' => r = none ∧ cLen C' ∧ cBud B1 B2 C' sz' sl' ∧ lF C' = 2 * lF C ∧ (∀ j, j < lF C → fF C' j = fF C j ∧ fG C' j = fG C j ∧ fH C' j = fH C j) ∧ fD C' = fD C ∧ cV C' = cV C ∧ cU C' = cU C ∧ cK C' = cK C ∧ fL C' = fL C ∧ fC C' = fC C ∧ fN C' = fN C ∧ fS C' = fS C ∧ lL C' = lL C ∧ lS C' = lS C ∧ ∀ a, fP C' a = fP C a) (fun C' => [circW b h C']) := by
  obtain ⟨⟨a0, n0, f0⟩, ⟨a1, n1, f1⟩, ⟨a2, n2, f2⟩, ⟨a3, n3, f3⟩, ⟨a4, n4, f4⟩, ⟨a5, n5, f5⟩, ⟨a6, n6, f6⟩, ⟨a7, n7, f7⟩, ⟨a8, n8, f8⟩, u, k, v⟩ := C
  dsimp only [cLen, cPhi, cBud, SameG, cU_mk, cK_mk, cV_mk, fL_mk, fS_mk, fC_mk, fN_mk, fP_mk, fF_mk, fG_mk, fH_mk, fD_mk, lL_mk, lS_mk, lP_mk, lF_mk] at hlen hb hf
  obtain ⟨rfl, rfl, rfl, rfl, rfl, p0, p1, p4, p5, g0, g1, g4, g5⟩ := hlen
  have q0 := p0.le
  have q1 := p1.le
  have q4 := p4.le
  have q5 := p5.le
  refine con_of (L0 := [(0, .ref h)]) (by decide) (Nat.le_of_ble_eq_true rfl) rfl ?_
  intro p e R s m args below meth c Q A H lo X hini hw RT
  have X : Ctx p R s m args meth c b_Circuit_grow 1 "LoopProver$Circuit" b BC BS sl 2 60 := X
  have hw : Wd b BC BS sl s A [[cO h 2 [.ref a0, .ref a1, .int (nI u), .int (nI k), .int (nI v), .ref a2, .ref a3, .ref a4, .ref a5, .ref a6, .ref a7, .ref a8]], [cN b a0 n0 f0], [cN b a1 n1 f1], [cN b a2 n0 f2], [cN b a3 n0 f3], [cN b a4 n4 f4], [cN b a5 n5 f5], [cN b a6 n5 f6], [cN b a7 n5 f7], [cN b a8 257 f8]] sz sl H lo := hw.re rfl
  have hd := p5.le2 hf
  refine r_aldn X (dat D_Circuit_grow 0 rfl) rfl 0 rfl ?_
  refine r_aldn X (dat D_Circuit_grow 1 rfl) rfl 0 rfl ?_
  refine r_get X hw f_Circuit_27 (dat D_Circuit_grow 2 rfl) 0 0 rfl rfl rfl ?_
  refine r_callS (NW := 10) (As := [.ref a5]) (st := [.ref h]) X hw m_Circuit_53 (c_longer l b BC BS sz sl a5 n5 f5 (by omega) (by omega) (by omega)) (dat D_Circuit_grow 3 rfl) [6] [0, 1, 2, 3, 4, 5, 7, 8, 9] rfl (by decide +kernel) rfl rfl rfl rfl (Nat.le_of_ble_eq_true rfl) ⟨by decide, by decide⟩ (fun r x5 sz_1 sl_1 H lo hp hw => ?_)
  obtain ⟨rfl, rfl, rfl, hx5⟩ := hp
  refine r_st (st' := [.ref sz, .ref h]) rfl ?_
  have hw : Wd b BC BS sl s A [[cN b a5 n5 f5], [cN b sz (2 * n5) x5], [cO h 2 [.ref a0, .ref a1, .int (nI u), .int (nI k), .int (nI v), .ref a2, .ref a3, .ref a4, .ref a5, .ref a6, .ref a7, .ref a8]], [cN b a0 n0 f0], [cN b a1 n1 f1], [cN b a2 n0 f2], [cN b a3 n0 f3], [cN b a4 n4 f4], [cN b a6 n5 f6], [cN b a7 n5 f7], [cN b a8 257 f8]] (sz + 1) (sl + 2 * n5) H lo := hw
  refine r_put (Ws' := [[cN b a5 n5 f5], [cN b sz (2 * n5) x5], [cO h 2 [.ref a0, .ref a1, .int (nI u), .int (nI k), .int (nI v), .ref a2, .ref a3, .ref a4, .ref sz, .ref a6, .ref a7, .ref a8]], [cN b a0 n0 f0], [cN b a1 n1 f1], [cN b a2 n0 f2], [cN b a3 n0 f3], [cN b a4 n4 f4], [cN b a6 n5 f6], [cN b a7 n5 f7], [cN b a8 257 f8]]) X hw f_Circuit_27 (dat D_Circuit_grow 4 rfl) 2 0 rfl rfl rfl rfl rfl (Nat.le_of_ble_eq_true rfl) rfl (fun H lo hw => ?_)
  refine r_aldn X (dat D_Circuit_grow 5 rfl) rfl 0 rfl ?_
  refine r_aldn X (dat D_Circuit_grow 6 rfl) rfl 0 rfl ?_
  refine r_get X hw f_Circuit_30 (dat D_Circuit_grow 7 rfl) 2 0 rfl rfl rfl ?_
  refine r_callS (NW := 11) (As := [.ref a6]) (st := [.ref h]) X hw m_Circuit_53 (c_longer l b BC BS (sz + 1) (sl + 2 * n5) a6 n5 f6 (by omega) (by omega) (by omega)) (dat D_Circuit_grow 8 rfl) [8] [0, 1, 2, 3, 4, 5, 6, 7, 9, 10] rfl (by decide +kernel) rfl rfl rfl rfl (Nat.le_of_ble_eq_true rfl) ⟨by decide, by decide⟩ (fun r x6 sz_2 sl_2 H lo hp hw => ?_)
  obtain ⟨rfl, rfl, rfl, hx6⟩ := hp
  refine r_st (st' := [.ref (sz + 1), .ref h]) rfl ?_
  have hw : Wd b BC BS sl s A [[cN b a6 n5 f6], [cN b (sz + 1) (2 * n5) x6], [cN b a5 n5 f5], [cN b sz (2 * n5) x5], [cO h 2 [.ref a0, .ref a1, .int (nI u), .int (nI k), .int (nI v), .ref a2, .ref a3, .ref a4, .ref sz, .ref a6, .ref a7, .ref a8]], [cN b a0 n0 f0], [cN b a1 n1 f1], [cN b a2 n0 f2], [cN b a3 n0 f3], [cN b a4 n4 f4], [cN b a7 n5 f7], [cN b a8 257 f8]] (sz + 1 + 1) (sl + 2 * n5 + 2 * n5) H lo := hw
  refine r_put (Ws' := [[cN b a6 n5 f6], [cN b (sz + 1) (2 * n5) x6], [cN b a5 n5 f5], [cN b sz (2 * n5) x5], [cO h 2 [.ref a0, .ref a1, .int (nI u), .int (nI k), .int (nI v), .ref a2, .ref a3, .ref a4, .ref sz, .ref (sz + 1), .ref a7, .ref a8]], [cN b a0 n0 f0], [cN b a1 n1 f1], [cN b a2 n0 f2], [cN b a3 n0 f3], [cN b a4 n4 f4], [cN b a7 n5 f7], [cN b a8 257 f8]]) X hw f_Circuit_30 (dat D_Circuit_grow 9 rfl) 4 0 rfl rfl rfl rfl rfl (Nat.le_of_ble_eq_true rfl) rfl (fun H lo hw => ?_)
  refine r_aldn X (dat D_Circuit_grow 10 rfl) rfl 0 rfl ?_
  refine r_aldn X (dat D_Circuit_grow 11 rfl) rfl 0 rfl ?_
  refine r_get X hw f_Circuit_33 (dat D_Circuit_grow 12 rfl) 4 0 rfl rfl rfl ?_
  refine r_callS (NW := 12) (As := [.ref a7]) (st := [.ref h]) X hw m_Circuit_53 (c_longer l b BC BS (sz + 1 + 1) (sl + 2 * n5 + 2 * n5) a7 n5 f7 (by omega) (by omega) (by omega)) (dat D_Circuit_grow 13 rfl) [10] [0, 1, 2, 3, 4, 5, 6, 7, 8, 9, 11] rfl (by decide +kernel) rfl rfl rfl rfl (Nat.le_of_ble_eq_true rfl) ⟨by decide, by decide⟩ (fun r x7 sz_3 sl_3 H lo hp hw => ?_)
  obtain ⟨rfl, rfl, rfl, hx7⟩ := hp
  refine r_st (st' := [.ref (sz + 1 + 1), .ref h]) rfl ?_
  have hw : Wd b BC BS sl s A [[cN b a7 n5 f7], [cN b (sz + 1 + 1) (2 * n5) x7], [cN b a6 n5 f6], [cN b (sz + 1) (2 * n5) x6], [cN b a5 n5 f5], [cN b sz (2 * n5) x5], [cO h 2 [.ref a0, .ref a1, .int (nI u), .int (nI k), .int (nI v), .ref a2, .ref a3, .ref a4, .ref sz, .ref (sz + 1), .ref a7, .ref a8]], [cN b a0 n0 f0], [cN b a1 n1 f1], [cN b a2 n0 f2], [cN b a3 n0 f3], [cN b a4 n4 f4], [cN b a8 257 f8]] (sz + 1 + 1 + 1) (sl + 2 * n5 + 2 * n5 + 2 * n5) H lo := hw
  refine r_put (Ws' := [[cN b a7 n5 f7], [cN b (sz + 1 + 1) (2 * n5) x7], [cN b a6 n5 f6], [cN b (sz + 1) (2 * n5) x6], [cN b a5 n5 f5], [cN b sz (2 * n5) x5], [cO h 2 [.ref a0, .ref a1, .int (nI u), .int (nI k), .int (nI v), .ref a2, .ref a3, .ref a4, .ref sz, .ref (sz + 1), .ref (sz + 1 + 1), .ref a8]], [cN b a0 n0 f0], [cN b a1 n1 f1], [cN b a2 n0 f2], [cN b a3 n0 f3], [cN b a4 n4 f4], [cN b a8 257 f8]]) X hw f_Circuit_33 (dat D_Circuit_grow 14 rfl) 6 0 rfl rfl rfl rfl rfl (Nat.le_of_ble_eq_true rfl) rfl (fun H lo hw => ?_)
  refine r_vret RT (dat D_Circuit_grow 15 rfl) ((a0, n0, f0), (a1, n1, f1), (a2, n0, f2), (a3, n0, f3), (a4, n4, f4), (sz, 2 * n5, x5), (sz + 1, 2 * n5, x6), (sz + 1 + 1, 2 * n5, x7), (a8, 257, f8), u, k, v) ⟨rfl, ⟨rfl, rfl, rfl, rfl, rfl, p0, p1, p4, p5.dbl hf, g0, g1, g4, ?_⟩, ⟨?_, ?_⟩, rfl, ?_, rfl, rfl, rfl, rfl, rfl, rfl, rfl, rfl, rfl, rfl, fun _ => rfl⟩ ((hw.pick (NW := 13) (Ws' := [[cO h 2 [.ref a0, .ref a1, .int (nI u), .int (nI k), .int (nI v), .ref a2, .ref a3, .ref a4, .ref sz, .ref (sz + 1), .ref (sz + 1 + 1), .ref a8]], [cN b a0 n0 f0], [cN b a1 n1 f1], [cN b a2 n0 f2], [cN b a3 n0 f3], [cN b a4 n4 f4], [cN b sz (2 * n5) x5], [cN b (sz + 1) (2 * n5) x6], [cN b (sz + 1 + 1) (2 * n5) x7], [cN b a8 257 f8]]) [6, 7, 8, 9, 10, 11, 5, 3, 1, 12] [0, 2, 4] rfl (by decide +kernel) rfl).re rfl)
  all_goals dsimp only [cLen, cPhi, cBud, SameG, cU_mk, cK_mk, cV_mk, fL_mk, fS_mk, fC_mk, fN_mk, fP_mk, fF_mk, fG_mk, fH_mk, fD_mk, lL_mk, lS_mk, lP_mk, lF_mk]
  · omega
  · omega
  · omega
  · intro j hj
    rw [hx5, hx6, hx7]
    simp only [if_pos (show j < n5 by omega)]
    exact ⟨trivial, trivial, trivial⟩
end
section
/-! CIRCUIT, part 3: keep, begin, the constructor -/
def KeepI (B1 B2 : Nat) (rf : Nat → Nat) (C D : CT) (i sz sl : Nat) : Prop := cLen D ∧ cBud B1 B2 D sz sl ∧ cU D = cU C + i ∧ cK D = cK C ∧ (∀ j, j < cU C → fL D j = fL C j ∧ fC D j = fC C j ∧ fN D j = fN C j) ∧ (∀ j, j < i → fL D (cU C + j) = rf j) ∧ (∀ j, j < cK C → fS D j = fS C j) ∧ fS D (cK C) = cU C ∧ cK C + 2 ≤ lS D ∧ (∀ a, fP D a = fP C a) ∧ cU D ≤ lL D ∧ SameG C D
def KeepR (rf : Nat → Nat) (n : Nat) (C D : CT) : Prop := cU D = cU C + n ∧ cK D = cK C + 1 ∧ (∀ j, j < cU C → fL D j = fL C j ∧ fC D j = fC C j ∧ fN D j = fN C j) ∧ (∀ j, j < n → fL D (cU C + j) = rf j) ∧ (∀ j, j < cK C → fS D j = fS C j) ∧ fS D (cK C) = cU C ∧ fS D (cK C + 1) = cU D ∧ (∀ a, fP D a = fP C a) ∧ SameG C D
set_option maxHeartbeats 4000000 in
set_option maxRecDepth 100000 in
/-- a clause that no literal leads to -/
theorem c_keep (l : Launch) (b : BK) (BC BS sz sl : Nat) (h : Nat) (C : CT) (ra rl n : Nat) (rf : Nat → Nat) (B1 B2 : Nat) (hB1 : B1 ≤ BS) (hB2 : B2 ≤ BC) (hlen : cLen C) (hb : cBud B1 B2 C sz sl) (hu : cU C ≤ lL C) (hu2 : cU C + n ≤ 524288) (hk : cK C + 1 ≤ lS C) (hk2 : cK C + 2 ≤ 262144) (hn : n ≤ rl) (hrl : rl < 2 ^ 30) : Con l b y_Circuit_keep b_Circuit_keep 4 none 3 90 BC BS sz sl [.ref h, .ref ra, .int (nI n)] [circW b h C, [cN b ra rl rf]] (S := CT) (fun r sz' sl' C' => r = none ∧ cLen C' ∧ cBud B1 B2 C' sz' sl' ∧ KeepR rf n C C' ∧ cU C' ≤ lL C' ∧ cK C' + 1 ≤ lS C') (fun C' => [circW b h C', [cN b ra rl rf]]) := by
  refine con_of (L0 := [(0, .ref h), (1, .ref ra), (2, .int (nI n))]) (by decide) (Nat.le_of_ble_eq_true rfl) rfl ?_
  intro p e R s m args below meth c Q A H lo X hini hw RT
  have X : Ctx p R s m args meth c b_Circuit_keep 4 "LoopProver$Circuit" b BC BS sl 3 90 := X
  have hw : Wd b BC BS sl s A [circW b h C, [cN b ra rl rf]] sz sl H lo := hw
  refine r_aldn X (dat D_Circuit_keep 0 rfl) rfl 0 rfl ?_
  refine r_callV (NW := 2) (As := []) (st := []) X hw m_Circuit_60 (c_open l b BC BS sz sl h C B1 B2 hB1 hB2 hlen hb hk hk2 (by omega)) (dat D_Circuit_keep 1 rfl) [0] [1] rfl (by decide +kernel) rfl rfl (hw.recv X 0 0 rfl (circ0 b h C).choose_spec k_Circuit) rfl rfl (Nat.le_of_ble_eq_true rfl) ⟨by decide, by decide⟩ (fun r D sz_1 sl_1 H lo hp hw => ?_)
  obtain ⟨rfl, c1, c2, c3, c4, c5, c6, c7, c8, c9, c10, c11, c12, c13⟩ := hp
  refine r_st (st' := []) rfl ?_
  have hw : Wd b BC BS sl s A [circW b h D, [cN b ra rl rf]] sz_1 sl_1 H lo := hw
  have hI : KeepI B1 B2 rf C D 0 _ _ := ⟨c1, c2, c3, c4, fun j hj => by rw [c5, c6, c7]; exact ⟨rfl, rfl, rfl⟩, fun j hj => absurd hj (Nat.not_lt_zero j), c9, c10, c11, c12, by rw [c3, c8]; exact hu, c13⟩
  refine r_iconst (v := nI 0) X (dat D_Circuit_keep 2 rfl) rfl ?_
  refine r_istn (L' := [(3, .int (nI 0)), (0, .ref h), (1, .ref ra), (2, .int (nI n))]) X (dat D_Circuit_keep 3 rfl) rfl (by decide) rfl ?_
  have J : ∀ (NN : Nat) (i : Nat) (D : CT) (sz' sl' : Nat) (H : Heap) (lo : List Loc), n - i < NN → (i ≤ n) → (KeepI B1 B2 rf C D i sz' sl') → Wd b BC BS sl s A [circW b h D, [cN b ra rl rf]] sz' sl' H lo → V p l e R s m args below meth c Q 4 H lo 6 [(3, .int (nI i)), (0, .ref h), (1, .ref ra), (2, .int (nI n))] [] := by
    intro NN
    induction NN with
    | zero =>
      intro i D sz' sl' H lo hNN
      exact absurd hNN (by omega)
    | succ NN ih =>
      intro i D sz' sl' H lo hNN hi hI hw
      obtain ⟨k1, k2, k3, k4, k5, k6, k7, k8, k9, k10, k11, k12⟩ := hI
      refine r_ildn X (dat D_Circuit_keep 4 rfl) rfl 0 rfl ?_
      refine r_ildn X (dat D_Circuit_keep 5 rfl) rfl 3 rfl ?_
      refine r_icmpge (tgt := 43) X (nI_leI (by omega) (by omega)) (dat D_Circuit_keep 6 rfl) rfl (fun hc => ?_) (fun hc => ?_)
      · have hin : i = n := by omega
        subst hin
        refine r_aldn X (dat D_Circuit_keep 25 rfl) rfl 1 rfl ?_
        refine r_callV (NW := 2) (As := []) (st := []) X hw m_Circuit_67 (c_close l b BC BS _ _ h D k1 (by rw [k4]; exact k9) (by rw [k3]; omega)) (dat D_Circuit_keep 26 rfl) [0] [1] rfl (by decide +kernel) rfl rfl (hw.recv X 0 0 rfl (circ0 b h D).choose_spec k_Circuit) rfl rfl (Nat.le_of_ble_eq_true rfl) ⟨by decide, by decide⟩ (fun r D2 sz_2 sl_2 H lo hp hw => ?_)
        obtain ⟨rfl, rfl, rfl, c1, c2, c3, c4, c5, c6, c7, c8, c9, c10, c11, c12, c13⟩ := hp
        refine r_st (st' := []) rfl ?_
        have hw : Wd b BC BS sl s A [circW b h D2, [cN b ra rl rf]] sz' sl' H lo := hw
        refine r_vret RT (dat D_Circuit_keep 27 rfl) D2 ⟨rfl, c1, ?_, ⟨c3.trans k3, by rw [c4, k4], fun j hj => by rw [c5, c6, c7]; exact k5 j hj, fun j hj => by rw [c5]; exact k6 j hj, fun j hj => (c10 j (by omega)).trans (k7 j hj), (c10 _ (by omega)).trans k8, ?_, fun a => (c12 a).trans (k10 a), k12.trans c13⟩, by rw [c3, c8]; exact k11, by rw [c4, c9, k4]; exact k9⟩ hw
        · unfold cBud at k2 ⊢
          rw [c2]
          exact k2
        · rw [c3, ← c11, k4]
      · refine r_aldn X (dat D_Circuit_keep 7 rfl) rfl 1 rfl ?_
        refine r_callV (NW := 2) (As := []) (st := []) X hw m_Circuit_57 (c_room l b BC BS _ _ h D B1 B2 hB1 hB2 k1 k2 k11 (by omega)) (dat D_Circuit_keep 8 rfl) [0] [1] rfl (by decide +kernel) rfl rfl (hw.recv X 0 0 rfl (circ0 b h D).choose_spec k_Circuit) rfl rfl (Nat.le_of_ble_eq_true rfl) ⟨by decide, by decide⟩ (fun r D1 sz_3 sl_3 H lo hp hw => ?_)
        obtain ⟨rfl, hlen1, hb1, hlt1, hu1, hk1, hj1, hs1, hls1, hp1, hg1⟩ := hp
        refine r_st (st' := []) rfl ?_
        have hw : Wd b BC BS sl s A [circW b h D1, [cN b ra rl rf]] sz_3 sl_3 H lo := hw
        obtain ⟨⟨a0, n0, f0⟩, ⟨a1, n1, f1⟩, ⟨a2, n2, f2⟩, ⟨a3, n3, f3⟩, ⟨a4, n4, f4⟩, ⟨a5, n5, f5⟩, ⟨a6, n6, f6⟩, ⟨a7, n7, f7⟩, ⟨a8, n8, f8⟩, u, k, v⟩ := D1
        dsimp only [cLen, cPhi, cBud, SameG, cU_mk, cK_mk, cV_mk, fL_mk, fS_mk, fC_mk, fN_mk, fP_mk, fF_mk, fG_mk, fH_mk, fD_mk, lL_mk, lS_mk, lP_mk, lF_mk] at hlen1 hb1 hlt1 hu1 hk1 hj1 hs1 hls1 hp1 hg1
        obtain ⟨rfl, rfl, rfl, rfl, rfl, p0, p1, p4, p5, g0, g1, g4, g5⟩ := hlen1
        have q0 := p0.le
        have q1 := p1.le
        have q5 := p5.le
        have hw : Wd b BC BS sl s A [[cO h 2 [.ref a0, .ref a1, .int (nI u), .int (nI k), .int (nI v), .ref a2, .ref a3, .ref a4, .ref a5, .ref a6, .ref a7, .ref a8]], [cN b a0 n0 f0], [cN b a1 n1 f1], [cN b a2 n0 f2], [cN b a3 n0 f3], [cN b a4 n4 f4], [cN b a5 n5 f5], [cN b a6 n5 f6], [cN b a7 n5 f7], [cN b a8 257 f8], [cN b ra rl rf]] sz_3 sl_3 H lo := hw.re rfl
        refine r_aldn X (dat D_Circuit_keep 9 rfl) rfl 1 rfl ?_
        refine r_get X hw f_Circuit_9 (dat D_Circuit_keep 10 rfl) 0 0 rfl rfl rfl ?_
        refine r_aldn X (dat D_Circuit_keep 11 rfl) rfl 1 rfl ?_
        refine r_get X hw f_Circuit_39 (dat D_Circuit_keep 12 rfl) 0 0 rfl rfl rfl ?_
        refine r_aldn X (dat D_Circuit_keep 13 rfl) rfl 2 rfl ?_
        refine r_ildn X (dat D_Circuit_keep 14 rfl) rfl 0 rfl ?_
        refine r_ialdN X hw (dat D_Circuit_keep 15 rfl) 10 0 rfl rfl (by omega) (by omega) ?_
        refine r_iastN (Ws' := [[cO h 2 [.ref a0, .ref a1, .int (nI u), .int (nI k), .int (nI v), .ref a2, .ref a3, .ref a4, .ref a5, .ref a6, .ref a7, .ref a8]], [cN b a0 n0 (va_up f0 u (rf i))], [cN b a1 n1 f1], [cN b a2 n0 f2], [cN b a3 n0 f3], [cN b a4 n4 f4], [cN b a5 n5 f5], [cN b a6 n5 f6], [cN b a7 n5 f7], [cN b a8 257 f8], [cN b ra rl rf]]) X hw (dat D_Circuit_keep 16 rfl) 1 0 rfl rfl (by omega) (by omega) rfl (fun H lo hw => ?_)
        refine r_aldn X (dat D_Circuit_keep 17 rfl) rfl 1 rfl ?_
        refine r_dup X (dat D_Circuit_keep 18 rfl) rfl ?_
        refine r_get X hw f_Circuit_39 (dat D_Circuit_keep 19 rfl) 0 0 rfl rfl rfl ?_
        refine r_iconst (v := nI 1) X (dat D_Circuit_keep 20 rfl) rfl ?_
        refine r_iadd (z := nI (u + 1)) X (dat D_Circuit_keep 21 rfl) (nI_add _ _) ?_
        refine r_put (Ws' := [[cO h 2 [.ref a0, .ref a1, .int (nI (u + 1)), .int (nI k), .int (nI v), .ref a2, .ref a3, .ref a4, .ref a5, .ref a6, .ref a7, .ref a8]], [cN b a0 n0 (va_up f0 u (rf i))], [cN b a1 n1 f1], [cN b a2 n0 f2], [cN b a3 n0 f3], [cN b a4 n4 f4], [cN b a5 n5 f5], [cN b a6 n5 f6], [cN b a7 n5 f7], [cN b a8 257 f8], [cN b ra rl rf]]) X hw f_Circuit_39 (dat D_Circuit_keep 22 rfl) 0 0 rfl rfl rfl rfl rfl (Nat.le_of_ble_eq_true rfl) rfl (fun H lo hw => ?_)
        refine r_iinc (j := 0) (v := nI (i + 1)) (L' := [(3, .int (nI (i + 1))), (0, .ref h), (1, .ref ra), (2, .int (nI n))]) X (dat D_Circuit_keep 23 rfl) rfl (nI_add _ 1) (by decide) rfl ?_
        refine r_goto (tgt := 6) X (dat D_Circuit_keep 24 rfl) rfl ?_
        have hw : Wd b BC BS sl s A [circW b h ((a0, n0, va_up f0 u (rf i)), (a1, n1, f1), (a2, n0, f2), (a3, n0, f3), (a4, n4, f4), (a5, n5, f5), (a6, n5, f6), (a7, n5, f7), (a8, 257, f8), u + 1, k, v), [cN b ra rl rf]] sz_3 sl_3 H lo := hw.re rfl
        refine ih (i + 1) ((a0, n0, va_up f0 u (rf i)), (a1, n1, f1), (a2, n0, f2), (a3, n0, f3), (a4, n4, f4), (a5, n5, f5), (a6, n5, f6), (a7, n5, f7), (a8, 257, f8), u + 1, k, v) _ _ H lo (by omega) (by omega) ⟨⟨rfl, rfl, rfl, rfl, rfl, p0, p1, p4, p5, g0, g1, g4, g5⟩, hb1, ?_, ?_, fun j hj => ?_, fun j hj => ?_, fun j hj => ?_, ?_, ?_, fun a => ?_, ?_, ?_⟩ hw
        · show u + 1 = cU C + (i + 1)
          omega
        · exact hk1.trans k4
        · have e1 := hj1 j (by omega)
          have e2 := k5 j hj
          exact ⟨(up_n (by omega)).trans (e1.1.trans e2.1), e1.2.1.trans e2.2.1, e1.2.2.trans e2.2.2⟩
        · by_cases e : j = i
          · subst e
            show va_up f0 u (rf j) (cU C + j) = rf j
            rw [show cU C + j = u by omega]
            exact up_s
          · exact (up_n (by omega)).trans ((hj1 _ (by omega)).1.trans (k6 j (by omega)))
        · show f1 j = _
          rw [hs1]
          exact k7 j hj
        · show f1 _ = _
          rw [hs1]
          exact k8
        · show _ ≤ n1
          rw [hls1]
          exact k9
        · exact (hp1 a).trans (k10 a)
        · show u + 1 ≤ n0
          omega
        · exact k12.trans hg1
  exact J (n + 1) 0 D _ _ H lo (by omega) (by omega) hI hw
set_option maxHeartbeats 4000000 in
set_option maxRecDepth 100000 in
/-- a new circuit: only the literal true -/
theorem c_begin (l : Launch) (b : BK) (BC BS sz sl : Nat) (h : Nat) (C : CT) (B1 B2 : Nat) (hB1 : B1 ≤ BS) (hB2 : B2 ≤ BC) (hlen : cLen C) (hb : cBud B1 B2 C sz sl) : Con l b y_Circuit_begin b_Circuit_begin 2 none 5 150 BC BS sz sl [.ref h] [circW b h C] (S := CT) (fun r sz' sl' C' => r = none ∧ cLen C' ∧ cBud B1 B2 C' sz' sl' ∧ cU C' = 1 ∧ cK C' = 1 ∧ cV C' = 16 ∧ fL C' 0 = 0 ∧ fC C' 0 = 0 ∧ fS C' 0 = 0 ∧ fS C' 1 = 1 ∧ (∀ j, j < 257 → fD C' j = 0) ∧ Occ 1 C') (fun C' => [circW b h C']) := by
  obtain ⟨⟨a0, n0, f0⟩, ⟨a1, n1, f1⟩, ⟨a2, n2, f2⟩, ⟨a3, n3, f3⟩, ⟨a4, n4, f4⟩, ⟨a5, n5, f5⟩, ⟨a6, n6, f6⟩, ⟨a7, n7, f7⟩, ⟨a8, n8, f8⟩, u, k, v⟩ := C
  dsimp only [cLen, cPhi, cBud, SameG, cU_mk, cK_mk, cV_mk, fL_mk, fS_mk, fC_mk, fN_mk, fP_mk, fF_mk, fG_mk, fH_mk, fD_mk, lL_mk, lS_mk, lP_mk, lF_mk] at hlen hb
  obtain ⟨rfl, rfl, rfl, rfl, rfl, p0, p1, p4, p5, g0, g1, g4, g5⟩ := hlen
  have q0 := p0.le
  have q1 := p1.le
  have q4 := p4.le
  have q5 := p5.le
  refine con_of (L0 := [(0, .ref h)]) (by decide) (Nat.le_of_ble_eq_true rfl) rfl ?_
  intro p e R s m args below meth c Q A H lo X hini hw RT
  have X : Ctx p R s m args meth c b_Circuit_begin 2 "LoopProver$Circuit" b BC BS sl 5 150 := X
  have hw : Wd b BC BS sl s A [[cO h 2 [.ref a0, .ref a1, .int (nI u), .int (nI k), .int (nI v), .ref a2, .ref a3, .ref a4, .ref a5, .ref a6, .ref a7, .ref a8]], [cN b a0 n0 f0], [cN b a1 n1 f1], [cN b a2 n0 f2], [cN b a3 n0 f3], [cN b a4 n4 f4], [cN b a5 n5 f5], [cN b a6 n5 f6], [cN b a7 n5 f7], [cN b a8 257 f8]] sz sl H lo := hw.re rfl
  refine r_aldn X (dat D_Circuit_begin 0 rfl) rfl 0 rfl ?_
  refine r_iconst (v := nI 0) X (dat D_Circuit_begin 1 rfl) rfl ?_
  refine r_put (Ws' := [[cO h 2 [.ref a0, .ref a1, .int (nI 0), .int (nI k), .int (nI v), .ref a2, .ref a3, .ref a4, .ref a5, .ref a6, .ref a7, .ref a8]], [cN b a0 n0 f0], [cN b a1 n1 f1], [cN b a2 n0 f2], [cN b a3 n0 f3], [cN b a4 n4 f4], [cN b a5 n5 f5], [cN b a6 n5 f6], [cN b a7 n5 f7], [cN b a8 257 f8]]) X hw f_Circuit_39 (dat D_Circuit_begin 2 rfl) 0 0 rfl rfl rfl rfl rfl (Nat.le_of_ble_eq_true rfl) rfl (fun H lo hw => ?_)
  refine r_aldn X (dat D_Circuit_begin 3 rfl) rfl 0 rfl ?_
  refine r_iconst (v := nI 0) X (dat D_Circuit_begin 4 rfl) rfl ?_
  refine r_put (Ws' := [[cO h 2 [.ref a0, .ref a1, .int (nI 0), .int (nI 0), .int (nI v), .ref a2, .ref a3, .ref a4, .ref a5, .ref a6, .ref a7, .ref a8]], [cN b a0 n0 f0], [cN b a1 n1 f1], [cN b a2 n0 f2], [cN b a3 n0 f3], [cN b a4 n4 f4], [cN b a5 n5 f5], [cN b a6 n5 f6], [cN b a7 n5 f7], [cN b a8 257 f8]]) X hw f_Circuit_43 (dat D_Circuit_begin 5 rfl) 0 0 rfl rfl rfl rfl rfl (Nat.le_of_ble_eq_true rfl) rfl (fun H lo hw => ?_)
  refine r_aldn X (dat D_Circuit_begin 6 rfl) rfl 0 rfl ?_
  refine r_bipush (v := nI 16) X (dat D_Circuit_begin 7 rfl) (by decide) ?_
  refine r_put (Ws' := [[cO h 2 [.ref a0, .ref a1, .int (nI 0), .int (nI 0), .int (nI 16), .ref a2, .ref a3, .ref a4, .ref a5, .ref a6, .ref a7, .ref a8]], [cN b a0 n0 f0], [cN b a1 n1 f1], [cN b a2 n0 f2], [cN b a3 n0 f3], [cN b a4 n4 f4], [cN b a5 n5 f5], [cN b a6 n5 f6], [cN b a7 n5 f7], [cN b a8 257 f8]]) X hw f_Circuit_46 (dat D_Circuit_begin 8 rfl) 0 0 rfl rfl rfl rfl rfl (Nat.le_of_ble_eq_true rfl) rfl (fun H lo hw => ?_)
  refine r_iconst (v := nI 0) X (dat D_Circuit_begin 9 rfl) rfl ?_
  refine r_istn (L' := [(1, .int (nI 0)), (0, .ref h)]) X (dat D_Circuit_begin 10 rfl) rfl (by decide) rfl ?_
  have J : ∀ (NN : Nat) (i : Nat) (g8 : Nat → Nat) (H : Heap) (lo : List Loc), 257 - i < NN → (i ≤ 257) → (∀ j, j < i → g8 j = 0) → Wd b BC BS sl s A [[cO h 2 [.ref a0, .ref a1, .int (nI 0), .int (nI 0), .int (nI 16), .ref a2, .ref a3, .ref a4, .ref a5, .ref a6, .ref a7, .ref a8]], [cN b a0 n0 f0], [cN b a1 n1 f1], [cN b a2 n0 f2], [cN b a3 n0 f3], [cN b a4 n4 f4], [cN b a5 n5 f5], [cN b a6 n5 f6], [cN b a7 n5 f7], [cN b a8 257 g8]] sz sl H lo → V p l e R s m args below meth c Q 2 H lo 18 [(1, .int (nI i)), (0, .ref h)] [] := by
    intro NN
    induction NN with
    | zero =>
      intro i g8 H lo hNN
      exact absurd hNN (by omega)
    | succ NN ih =>
      intro i g8 H lo hNN hi hz hw
      refine r_ildn X (dat D_Circuit_begin 11 rfl) rfl 0 rfl ?_
      refine r_sipush (v := nI 257) X (dat D_Circuit_begin 12 rfl) (by decide) ?_
      refine r_icmpge (tgt := 38) X (nI_leI (by omega) (by omega)) (dat D_Circuit_begin 13 rfl) rfl (fun hc => ?_) (fun hc => ?_)
      · have hi7 : i = 257 := by omega
        subst hi7
        refine r_iconst (v := nI 0) X (dat D_Circuit_begin 21 rfl) rfl ?_
        refine r_istn (L' := [(1, .int (nI 0)), (0, .ref h)]) X (dat D_Circuit_begin 22 rfl) rfl (by decide) rfl ?_
        have J2 : ∀ (NN : Nat) (i2 : Nat) (g4' : Nat → Nat) (H : Heap) (lo : List Loc), n4 - i2 < NN → (i2 ≤ n4) → (∀ j, j < i2 → g4' j = 0) → Wd b BC BS sl s A [[cO h 2 [.ref a0, .ref a1, .int (nI 0), .int (nI 0), .int (nI 16), .ref a2, .ref a3, .ref a4, .ref a5, .ref a6, .ref a7, .ref a8]], [cN b a0 n0 f0], [cN b a1 n1 f1], [cN b a2 n0 f2], [cN b a3 n0 f3], [cN b a4 n4 g4'], [cN b a5 n5 f5], [cN b a6 n5 f6], [cN b a7 n5 f7], [cN b a8 257 g8]] sz sl H lo → V p l e R s m args below meth c Q 2 H lo 40 [(1, .int (nI i2)), (0, .ref h)] [] := by
          intro NN
          induction NN with
          | zero =>
            intro i2 g4' H lo hNN
            exact absurd hNN (by omega)
          | succ NN ih =>
            intro i2 g4' H lo hNN hi2 hz2 hw
            refine r_ildn X (dat D_Circuit_begin 23 rfl) rfl 0 rfl ?_
            refine r_aldn X (dat D_Circuit_begin 24 rfl) rfl 1 rfl ?_
            refine r_get X hw f_Circuit_24 (dat D_Circuit_begin 25 rfl) 0 0 rfl rfl rfl ?_
            refine r_alen X hw (dat D_Circuit_begin 26 rfl) 5 0 0 rfl rfl rfl ?_
            refine r_icmpge (tgt := 62) X (nI_leI (by omega) (by omega)) (dat D_Circuit_begin 27 rfl) rfl (fun hc2 => ?_) (fun hc2 => ?_)
            · refine r_aldn X (dat D_Circuit_begin 35 rfl) rfl 1 rfl ?_
              refine r_iconst (v := nI 0) X (dat D_Circuit_begin 36 rfl) rfl ?_
              refine r_iconst (v := iI (-1)) X (dat D_Circuit_begin 37 rfl) rfl ?_
              refine r_iconst (v := iI (-1)) X (dat D_Circuit_begin 38 rfl) rfl ?_
              have hw : Wd b BC BS sl s A [circW b h ((a0, n0, f0), (a1, n1, f1), (a2, n0, f2), (a3, n0, f3), (a4, n4, g4'), (a5, n5, f5), (a6, n5, f6), (a7, n5, f7), (a8, 257, g8), 0, 0, 16)] sz sl H lo := hw.re rfl
              have hocc : Occ (cU ((a0, n0, f0), (a1, n1, f1), (a2, n0, f2), (a3, n0, f3), (a4, n4, g4'), (a5, n5, f5), (a6, n5, f6), (a7, n5, f7), (a8, 257, g8), 0, 0, 16)) ((a0, n0, f0), (a1, n1, f1), (a2, n0, f2), (a3, n0, f3), (a4, n4, g4'), (a5, n5, f5), (a6, n5, f6), (a7, n5, f7), (a8, 257, g8), 0, 0, 16) := ⟨fun a => by
                show (if a < n4 then g4' a else 0) = 0
                by_cases e : a < n4
                · rw [if_pos e]; exact hz2 a (by omega)
                · rw [if_neg e], fun j hj => absurd hj (Nat.not_lt_zero j)⟩
              refine r_callV (NW := 1) (As := [.int (nI 0), .int (iI (-1)), .int (iI (-1))]) (st := []) X hw m_Circuit_49 (c_add l b BC BS _ _ h ((a0, n0, f0), (a1, n1, f1), (a2, n0, f2), (a3, n0, f3), (a4, n4, g4'), (a5, n5, f5), (a6, n5, f6), (a7, n5, f7), (a8, 257, g8), 0, 0, 16) 0 (-1) (-1) [0] (by simp) B1 B2 hB1 hB2 ⟨rfl, rfl, rfl, rfl, rfl, p0, p1, p4, p5, g0, g1, g4, g5⟩ hb (Nat.zero_le _) (by show 0 + 3 ≤ 524288; omega) (by show 0 + 1 ≤ n1; omega) (by show 0 + 2 ≤ 262144; omega) (by omega) (by omega) (by omega) hocc) (dat D_Circuit_begin 39 rfl) [0] [] rfl (by decide +kernel) rfl rfl (hw.recv X 0 0 rfl (circ0 b h ((a0, n0, f0), (a1, n1, f1), (a2, n0, f2), (a3, n0, f3), (a4, n4, g4'), (a5, n5, f5), (a6, n5, f6), (a7, n5, f7), (a8, 257, g8), 0, 0, 16)).choose_spec k_Circuit) rfl rfl (Nat.le_of_ble_eq_true rfl) ⟨by decide, by decide⟩ (fun r D sz_1 sl_1 H lo hp hw => ?_)
              obtain ⟨rfl, d1, d2, ⟨r1, r2, r3, r4, r5, r6, r7, r8⟩, d4, d5, d6⟩ := hp
              refine r_st (st' := []) rfl ?_
              have hw : Wd b BC BS sl s A [circW b h D] sz_1 sl_1 H lo := hw
              have e0 := r4 0 (by decide)
              rw [r1] at d6
              refine r_vret RT (dat D_Circuit_begin 40 rfl) D ⟨rfl, d1, d2, r1, r2, r8.1, e0.1, e0.2, r6, r7.trans r1, fun j hj => ?_, d6⟩ hw
              rw [r8.2.2.2.2.1]
              exact hz j hj
            · refine r_aldn X (dat D_Circuit_begin 28 rfl) rfl 1 rfl ?_
              refine r_get X hw f_Circuit_24 (dat D_Circuit_begin 29 rfl) 0 0 rfl rfl rfl ?_
              refine r_ildn X (dat D_Circuit_begin 30 rfl) rfl 0 rfl ?_
              refine r_iconst (v := nI 0) X (dat D_Circuit_begin 31 rfl) rfl ?_
              refine r_iastN (Ws' := [[cO h 2 [.ref a0, .ref a1, .int (nI 0), .int (nI 0), .int (nI 16), .ref a2, .ref a3, .ref a4, .ref a5, .ref a6, .ref a7, .ref a8]], [cN b a0 n0 f0], [cN b a1 n1 f1], [cN b a2 n0 f2], [cN b a3 n0 f3], [cN b a4 n4 (va_up g4' i2 0)], [cN b a5 n5 f5], [cN b a6 n5 f6], [cN b a7 n5 f7], [cN b a8 257 g8]]) X hw (dat D_Circuit_begin 32 rfl) 5 0 rfl rfl (by omega) (by omega) rfl (fun H lo hw => ?_)
              refine r_iinc (j := 0) (v := nI (i2 + 1)) (L' := [(1, .int (nI (i2 + 1))), (0, .ref h)]) X (dat D_Circuit_begin 33 rfl) rfl (nI_add _ 1) (by decide) rfl ?_
              refine r_goto (tgt := 40) X (dat D_Circuit_begin 34 rfl) rfl ?_
              exact ih (i2 + 1) _ H lo (by omega) (by omega) (fun j hj => by
                by_cases e : j = i2
                · subst e; exact up_s
                · exact (up_n e).trans (hz2 j (by omega))) hw
        exact J2 (n4 + 1) 0 f4 H lo (by omega) (by omega) (fun j hj => absurd hj (Nat.not_lt_zero j)) hw
      · refine r_aldn X (dat D_Circuit_begin 14 rfl) rfl 1 rfl ?_
        refine r_get X hw f_Circuit_36 (dat D_Circuit_begin 15 rfl) 0 0 rfl rfl rfl ?_
        refine r_ildn X (dat D_Circuit_begin 16 rfl) rfl 0 rfl ?_
        refine r_iconst (v := nI 0) X (dat D_Circuit_begin 17 rfl) rfl ?_
        refine r_iastN (Ws' := [[cO h 2 [.ref a0, .ref a1, .int (nI 0), .int (nI 0), .int (nI 16), .ref a2, .ref a3, .ref a4, .ref a5, .ref a6, .ref a7, .ref a8]], [cN b a0 n0 f0], [cN b a1 n1 f1], [cN b a2 n0 f2], [cN b a3 n0 f3], [cN b a4 n4 f4], [cN b a5 n5 f5], [cN b a6 n5 f6], [cN b a7 n5 f7], [cN b a8 257 (va_up g8 i 0)]]) X hw (dat D_Circuit_begin 18 rfl) 9 0 rfl rfl (by omega) (by omega) rfl (fun H lo hw => ?_)
        refine r_iinc (j := 0) (v := nI (i + 1)) (L' := [(1, .int (nI (i + 1))), (0, .ref h)]) X (dat D_Circuit_begin 19 rfl) rfl (nI_add _ 1) (by decide) rfl ?_
        refine r_goto (tgt := 18) X (dat D_Circuit_begin 20 rfl) rfl ?_
        exact ih (i + 1) _ H lo (by omega) (by omega) (fun j hj => by
          by_cases e : j = i
          · subst e; exact up_s
          · exact (up_n e).trans (hz j (by omega))) hw
  exact J 258 0 f8 H lo (by omega) (by omega) (fun j hj => absurd hj (Nat.not_lt_zero j)) hw
theorem pw_a : Pw 1024 524288 := ⟨9, rfl⟩
theorem pw_b : Pw 512 262144 := ⟨9, rfl⟩
theorem pw_c : Pw 512 131072 := ⟨8, rfl⟩
theorem pw_d : Pw 256 65536 := ⟨8, rfl⟩
set_option maxHeartbeats 4000000 in
set_option maxRecDepth 100000 in
/-- the arrays as they are made -/
theorem c_Circuit_init (l : Launch) (b : BK) (BC BS sz sl : Nat) (h : Nat) (hc : sz + 9 ≤ BC) (hs : sl + 5121 ≤ BS) : Con l b y_Circuit_init b_Circuit_init 1 none 1 20 BC BS sz sl [.ref h] [[cO h 2 [.null, .null, .int (nI 0), .int (nI 0), .int (nI 0), .null, .null, .null, .null, .null, .null, .null]]] (S := CT) (fun r sz' sl' C' => r = none ∧ sz' = sz + 9 ∧ sl' = sl + 5121 ∧ cLen C' ∧ cPhi C' = 2 * 4864) (fun C' => [circW b h C']) := by
  refine con_of (L0 := [(0, .ref h)]) (by decide) (Nat.le_of_ble_eq_true rfl) rfl ?_
  intro p e R s m args below meth c Q A H lo X hini hw RT
  have X : Ctx p R s m args meth c b_Circuit_init 1 "LoopProver$Circuit" b BC BS sl 1 20 := X
  have hw : Wd b BC BS sl s A [[cO h 2 [.null, .null, .int (nI 0), .int (nI 0), .int (nI 0), .null, .null, .null, .null, .null, .null, .null]]] sz sl H lo := hw
  refine r_aldn X (dat D_Circuit_init 0 rfl) rfl 0 rfl ?_
  refine r_objInit X m_Circuit_3 (dat D_Circuit_init 1 rfl) (Nat.le_of_ble_eq_true rfl) (by decide) ?_
  refine r_aldn X (dat D_Circuit_init 2 rfl) rfl 0 rfl ?_
  refine r_sipush (v := nI 1024) X (dat D_Circuit_init 3 rfl) (by decide) ?_
  refine r_newN X hw ac_int (dat D_Circuit_init 4 rfl) (by omega) (by omega) (by omega) (fun H hw => ?_)
  have hw : Wd b BC BS sl s A [[cO h 2 [.null, .null, .int (nI 0), .int (nI 0), .int (nI 0), .null, .null, .null, .null, .null, .null, .null]], [cN b sz 1024 (fun _ => 0)]] (sz + 1) (sl + 1024) H lo := hw
  generalize hz1 : sz + 1 = z1 at hw
  generalize hq1 : sl + 1024 = q1 at hw
  refine r_put (Ws' := [[cO h 2 [.ref sz, .null, .int (nI 0), .int (nI 0), .int (nI 0), .null, .null, .null, .null, .null, .null, .null]], [cN b sz 1024 (fun _ => 0)]]) X hw f_Circuit_9 (dat D_Circuit_init 5 rfl) 0 0 rfl rfl rfl rfl rfl (Nat.le_of_ble_eq_true rfl) rfl (fun H lo hw => ?_)
  refine r_aldn X (dat D_Circuit_init 6 rfl) rfl 0 rfl ?_
  refine r_sipush (v := nI 512) X (dat D_Circuit_init 7 rfl) (by decide) ?_
  refine r_newN X hw ac_int (dat D_Circuit_init 8 rfl) (by omega) (by omega) (by omega) (fun H hw => ?_)
  have hw : Wd b BC BS sl s A [[cO h 2 [.ref sz, .null, .int (nI 0), .int (nI 0), .int (nI 0), .null, .null, .null, .null, .null, .null, .null]], [cN b sz 1024 (fun _ => 0)], [cN b z1 512 (fun _ => 0)]] (z1 + 1) (q1 + 512) H lo := hw
  generalize hz2 : z1 + 1 = z2 at hw
  generalize hq2 : q1 + 512 = q2 at hw
  refine r_put (Ws' := [[cO h 2 [.ref sz, .ref z1, .int (nI 0), .int (nI 0), .int (nI 0), .null, .null, .null, .null, .null, .null, .null]], [cN b sz 1024 (fun _ => 0)], [cN b z1 512 (fun _ => 0)]]) X hw f_Circuit_15 (dat D_Circuit_init 9 rfl) 0 0 rfl rfl rfl rfl rfl (Nat.le_of_ble_eq_true rfl) rfl (fun H lo hw => ?_)
  refine r_aldn X (dat D_Circuit_init 10 rfl) rfl 0 rfl ?_
  refine r_sipush (v := nI 1024) X (dat D_Circuit_init 11 rfl) (by decide) ?_
  refine r_newN X hw ac_int (dat D_Circuit_init 12 rfl) (by omega) (by omega) (by omega) (fun H hw => ?_)
  have hw : Wd b BC BS sl s A [[cO h 2 [.ref sz, .ref z1, .int (nI 0), .int (nI 0), .int (nI 0), .null, .null, .null, .null, .null, .null, .null]], [cN b sz 1024 (fun _ => 0)], [cN b z1 512 (fun _ => 0)], [cN b z2 1024 (fun _ => 0)]] (z2 + 1) (q2 + 1024) H lo := hw
  generalize hz3 : z2 + 1 = z3 at hw
  generalize hq3 : q2 + 1024 = q3 at hw
  refine r_put (Ws' := [[cO h 2 [.ref sz, .ref z1, .int (nI 0), .int (nI 0), .int (nI 0), .ref z2, .null, .null, .null, .null, .null, .null]], [cN b sz 1024 (fun _ => 0)], [cN b z1 512 (fun _ => 0)], [cN b z2 1024 (fun _ => 0)]]) X hw f_Circuit_18 (dat D_Circuit_init 13 rfl) 0 0 rfl rfl rfl rfl rfl (Nat.le_of_ble_eq_true rfl) rfl (fun H lo hw => ?_)
  refine r_aldn X (dat D_Circuit_init 14 rfl) rfl 0 rfl ?_
  refine r_sipush (v := nI 1024) X (dat D_Circuit_init 15 rfl) (by decide) ?_
  refine r_newN X hw ac_int (dat D_Circuit_init 16 rfl) (by omega) (by omega) (by omega) (fun H hw => ?_)
  have hw : Wd b BC BS sl s A [[cO h 2 [.ref sz, .ref z1, .int (nI 0), .int (nI 0), .int (nI 0), .ref z2, .null, .null, .null, .null, .null, .null]], [cN b sz 1024 (fun _ => 0)], [cN b z1 512 (fun _ => 0)], [cN b z2 1024 (fun _ => 0)], [cN b z3 1024 (fun _ => 0)]] (z3 + 1) (q3 + 1024) H lo := hw
  generalize hz4 : z3 + 1 = z4 at hw
  generalize hq4 : q3 + 1024 = q4 at hw
  refine r_put (Ws' := [[cO h 2 [.ref sz, .ref z1, .int (nI 0), .int (nI 0), .int (nI 0), .ref z2, .ref z3, .null, .null, .null, .null, .null]], [cN b sz 1024 (fun _ => 0)], [cN b z1 512 (fun _ => 0)], [cN b z2 1024 (fun _ => 0)], [cN b z3 1024 (fun _ => 0)]]) X hw f_Circuit_21 (dat D_Circuit_init 17 rfl) 0 0 rfl rfl rfl rfl rfl (Nat.le_of_ble_eq_true rfl) rfl (fun H lo hw => ?_)
  refine r_aldn X (dat D_Circuit_init 18 rfl) rfl 0 rfl ?_
  refine r_sipush (v := nI 512) X (dat D_Circuit_init 19 rfl) (by decide) ?_
  refine r_newN X hw ac_int (dat D_Circuit_init 20 rfl) (by omega) (by omega) (by omega) (fun H hw => ?_)
  have hw : Wd b BC BS sl s A [[cO h 2 [.ref sz, .ref z1, .int (nI 0), .int (nI 0), .int (nI 0), .ref z2, .ref z3, .null, .null, .null, .null, .null]], [cN b sz 1024 (fun _ => 0)], [cN b z1 512 (fun _ => 0)], [cN b z2 1024 (fun _ => 0)], [cN b z3 1024 (fun _ => 0)], [cN b z4 512 (fun _ => 0)]] (z4 + 1) (q4 + 512) H lo := hw
  generalize hz5 : z4 + 1 = z5 at hw
  generalize hq5 : q4 + 512 = q5 at hw
  refine r_put (Ws' := [[cO h 2 [.ref sz, .ref z1, .int (nI 0), .int (nI 0), .int (nI 0), .ref z2, .ref z3, .ref z4, .null, .null, .null, .null]], [cN b sz 1024 (fun _ => 0)], [cN b z1 512 (fun _ => 0)], [cN b z2 1024 (fun _ => 0)], [cN b z3 1024 (fun _ => 0)], [cN b z4 512 (fun _ => 0)]]) X hw f_Circuit_24 (dat D_Circuit_init 21 rfl) 0 0 rfl rfl rfl rfl rfl (Nat.le_of_ble_eq_true rfl) rfl (fun H lo hw => ?_)
  refine r_aldn X (dat D_Circuit_init 22 rfl) rfl 0 rfl ?_
  refine r_sipush (v := nI 256) X (dat D_Circuit_init 23 rfl) (by decide) ?_
  refine r_newN X hw ac_int (dat D_Circuit_init 24 rfl) (by omega) (by omega) (by omega) (fun H hw => ?_)
  have hw : Wd b BC BS sl s A [[cO h 2 [.ref sz, .ref z1, .int (nI 0), .int (nI 0), .int (nI 0), .ref z2, .ref z3, .ref z4, .null, .null, .null, .null]], [cN b sz 1024 (fun _ => 0)], [cN b z1 512 (fun _ => 0)], [cN b z2 1024 (fun _ => 0)], [cN b z3 1024 (fun _ => 0)], [cN b z4 512 (fun _ => 0)], [cN b z5 256 (fun _ => 0)]] (z5 + 1) (q5 + 256) H lo := hw
  generalize hz6 : z5 + 1 = z6 at hw
  generalize hq6 : q5 + 256 = q6 at hw
  refine r_put (Ws' := [[cO h 2 [.ref sz, .ref z1, .int (nI 0), .int (nI 0), .int (nI 0), .ref z2, .ref z3, .ref z4, .ref z5, .null, .null, .null]], [cN b sz 1024 (fun _ => 0)], [cN b z1 512 (fun _ => 0)], [cN b z2 1024 (fun _ => 0)], [cN b z3 1024 (fun _ => 0)], [cN b z4 512 (fun _ => 0)], [cN b z5 256 (fun _ => 0)]]) X hw f_Circuit_27 (dat D_Circuit_init 25 rfl) 0 0 rfl rfl rfl rfl rfl (Nat.le_of_ble_eq_true rfl) rfl (fun H lo hw => ?_)
  refine r_aldn X (dat D_Circuit_init 26 rfl) rfl 0 rfl ?_
  refine r_sipush (v := nI 256) X (dat D_Circuit_init 27 rfl) (by decide) ?_
  refine r_newN X hw ac_int (dat D_Circuit_init 28 rfl) (by omega) (by omega) (by omega) (fun H hw => ?_)
  have hw : Wd b BC BS sl s A [[cO h 2 [.ref sz, .ref z1, .int (nI 0), .int (nI 0), .int (nI 0), .ref z2, .ref z3, .ref z4, .ref z5, .null, .null, .null]], [cN b sz 1024 (fun _ => 0)], [cN b z1 512 (fun _ => 0)], [cN b z2 1024 (fun _ => 0)], [cN b z3 1024 (fun _ => 0)], [cN b z4 512 (fun _ => 0)], [cN b z5 256 (fun _ => 0)], [cN b z6 256 (fun _ => 0)]] (z6 + 1) (q6 + 256) H lo := hw
  generalize hz7 : z6 + 1 = z7 at hw
  generalize hq7 : q6 + 256 = q7 at hw
  refine r_put (Ws' := [[cO h 2 [.ref sz, .ref z1, .int (nI 0), .int (nI 0), .int (nI 0), .ref z2, .ref z3, .ref z4, .ref z5, .ref z6, .null, .null]], [cN b sz 1024 (fun _ => 0)], [cN b z1 512 (fun _ => 0)], [cN b z2 1024 (fun _ => 0)], [cN b z3 1024 (fun _ => 0)], [cN b z4 512 (fun _ => 0)], [cN b z5 256 (fun _ => 0)], [cN b z6 256 (fun _ => 0)]]) X hw f_Circuit_30 (dat D_Circuit_init 29 rfl) 0 0 rfl rfl rfl rfl rfl (Nat.le_of_ble_eq_true rfl) rfl (fun H lo hw => ?_)
  refine r_aldn X (dat D_Circuit_init 30 rfl) rfl 0 rfl ?_
  refine r_sipush (v := nI 256) X (dat D_Circuit_init 31 rfl) (by decide) ?_
  refine r_newN X hw ac_int (dat D_Circuit_init 32 rfl) (by omega) (by omega) (by omega) (fun H hw => ?_)
  have hw : Wd b BC BS sl s A [[cO h 2 [.ref sz, .ref z1, .int (nI 0), .int (nI 0), .int (nI 0), .ref z2, .ref z3, .ref z4, .ref z5, .ref z6, .null, .null]], [cN b sz 1024 (fun _ => 0)], [cN b z1 512 (fun _ => 0)], [cN b z2 1024 (fun _ => 0)], [cN b z3 1024 (fun _ => 0)], [cN b z4 512 (fun _ => 0)], [cN b z5 256 (fun _ => 0)], [cN b z6 256 (fun _ => 0)], [cN b z7 256 (fun _ => 0)]] (z7 + 1) (q7 + 256) H lo := hw
  generalize hz8 : z7 + 1 = z8 at hw
  generalize hq8 : q7 + 256 = q8 at hw
  refine r_put (Ws' := [[cO h 2 [.ref sz, .ref z1, .int (nI 0), .int (nI 0), .int (nI 0), .ref z2, .ref z3, .ref z4, .ref z5, .ref z6, .ref z7, .null]], [cN b sz 1024 (fun _ => 0)], [cN b z1 512 (fun _ => 0)], [cN b z2 1024 (fun _ => 0)], [cN b z3 1024 (fun _ => 0)], [cN b z4 512 (fun _ => 0)], [cN b z5 256 (fun _ => 0)], [cN b z6 256 (fun _ => 0)], [cN b z7 256 (fun _ => 0)]]) X hw f_Circuit_33 (dat D_Circuit_init 33 rfl) 0 0 rfl rfl rfl rfl rfl (Nat.le_of_ble_eq_true rfl) rfl (fun H lo hw => ?_)
  refine r_aldn X (dat D_Circuit_init 34 rfl) rfl 0 rfl ?_
  refine r_sipush (v := nI 257) X (dat D_Circuit_init 35 rfl) (by decide) ?_
  refine r_newN X hw ac_int (dat D_Circuit_init 36 rfl) (by omega) (by omega) (by omega) (fun H hw => ?_)
  have hw : Wd b BC BS sl s A [[cO h 2 [.ref sz, .ref z1, .int (nI 0), .int (nI 0), .int (nI 0), .ref z2, .ref z3, .ref z4, .ref z5, .ref z6, .ref z7, .null]], [cN b sz 1024 (fun _ => 0)], [cN b z1 512 (fun _ => 0)], [cN b z2 1024 (fun _ => 0)], [cN b z3 1024 (fun _ => 0)], [cN b z4 512 (fun _ => 0)], [cN b z5 256 (fun _ => 0)], [cN b z6 256 (fun _ => 0)], [cN b z7 256 (fun _ => 0)], [cN b z8 257 (fun _ => 0)]] (z8 + 1) (q8 + 257) H lo := hw
  generalize hz9 : z8 + 1 = z9 at hw
  generalize hq9 : q8 + 257 = q9 at hw
  refine r_putF (Ws' := [[cO h 2 [.ref sz, .ref z1, .int (nI 0), .int (nI 0), .int (nI 0), .ref z2, .ref z3, .ref z4, .ref z5, .ref z6, .ref z7, .ref z8]], [cN b sz 1024 (fun _ => 0)], [cN b z1 512 (fun _ => 0)], [cN b z2 1024 (fun _ => 0)], [cN b z3 1024 (fun _ => 0)], [cN b z4 512 (fun _ => 0)], [cN b z5 256 (fun _ => 0)], [cN b z6 256 (fun _ => 0)], [cN b z7 256 (fun _ => 0)], [cN b z8 257 (fun _ => 0)]]) X (hini rfl) hw f_Circuit_36 (dat D_Circuit_init 37 rfl) 0 0 rfl rfl rfl rfl rfl rfl (Nat.le_of_ble_eq_true rfl) rfl f_Circuit_36F (fun H lo hw => ?_)
  refine r_vret RT (dat D_Circuit_init 38 rfl) ((sz, 1024, (fun _ => 0)), (z1, 512, (fun _ => 0)), (z2, 1024, (fun _ => 0)), (z3, 1024, (fun _ => 0)), (z4, 512, (fun _ => 0)), (z5, 256, (fun _ => 0)), (z6, 256, (fun _ => 0)), (z7, 256, (fun _ => 0)), (z8, 257, (fun _ => 0)), 0, 0, 0) ⟨rfl, by omega, by omega, ⟨rfl, rfl, rfl, rfl, rfl, pw_a, pw_b, pw_c, pw_d, Nat.le_refl _, Nat.le_refl _, Nat.le_refl _, Nat.le_refl _⟩, ?_⟩ ((hw.pick (NW := 10) (Ws' := [[cO h 2 [.ref sz, .ref z1, .int (nI 0), .int (nI 0), .int (nI 0), .ref z2, .ref z3, .ref z4, .ref z5, .ref z6, .ref z7, .ref z8]], [cN b sz 1024 (fun _ => 0)], [cN b z1 512 (fun _ => 0)], [cN b z2 1024 (fun _ => 0)], [cN b z3 1024 (fun _ => 0)], [cN b z4 512 (fun _ => 0)], [cN b z5 256 (fun _ => 0)], [cN b z6 256 (fun _ => 0)], [cN b z7 256 (fun _ => 0)], [cN b z8 257 (fun _ => 0)]]) [0, 1, 2, 3, 4, 5, 6, 7, 8, 9] [] rfl (by decide +kernel) rfl).re rfl)
  dsimp only [cLen, cPhi, cBud, SameG, cU_mk, cK_mk, cV_mk, fL_mk, fS_mk, fC_mk, fN_mk, fP_mk, fF_mk, fG_mk, fH_mk, fD_mk, lL_mk, lS_mk, lP_mk, lF_mk]
end
section
/-! GATES: what the literals of a circuit say; pure -/
def lv (x : Nat → Bool) (a : Nat) : Bool := if a % 2 = 0 then x (a / 2) else !x (a / 2)
/-- the value of a variable: 0 is true, 1..15 are the inputs, a gate is the meet of its two literals -/
def vv (F G : Nat → Nat) (al : Nat → Bool) (v : Nat) : Bool :=
  if h : 16 ≤ v ∧ F v / 2 < v ∧ G v / 2 < v then
    (if F v % 2 = 0 then vv F G al (F v / 2) else !vv F G al (F v / 2)) && (if G v % 2 = 0 then vv F G al (G v / 2) else !vv F G al (G v / 2))
  else (v == 0 || al v)
termination_by v
decreasing_by all_goals omega
def VL (C : CT) (al : Nat → Bool) (a : Nat) : Bool := lv (vv (fF C) (fG C) al) a
theorem lv_ng (x : Nat → Bool) (a : Nat) : lv x (ng a) = !lv x a := by
  unfold lv ng
  by_cases h : a % 2 = 0
  · rw [if_pos h, if_neg (by omega), if_pos h]
    congr 2
    omega
  · rw [if_neg h, if_pos (by omega), if_neg h]
    rw [show (a - 1) / 2 = a / 2 by omega]
    simp
theorem vv_0 (F G : Nat → Nat) (al : Nat → Bool) : vv F G al 0 = true := by
  rw [vv, dif_neg (by omega)]
  rfl
theorem vv_in (F G : Nat → Nat) (al : Nat → Bool) {v : Nat} (h : v < 16) (h0 : 0 < v) : vv F G al v = al v := by
  rw [vv, dif_neg (by omega)]
  have : (v == 0) = false := by simp; omega
  rw [this, Bool.false_or]
theorem vv_gate {F G : Nat → Nat} (al : Nat → Bool) {g : Nat} (h : 16 ≤ g) (h1 : F g / 2 < g) (h2 : G g / 2 < g) : vv F G al g = (lv (vv F G al) (F g) && lv (vv F G al) (G g)) := by
  rw [vv, dif_pos ⟨h, h1, h2⟩]
  rfl
theorem vv_base {F G : Nat → Nat} (al : Nat → Bool) {v : Nat} (h : ¬ (16 ≤ v ∧ F v / 2 < v ∧ G v / 2 < v)) : vv F G al v = (v == 0 || al v) := by
  rw [vv, dif_neg h]
theorem vv_ext {F G F' G' : Nat → Nat} (al : Nat → Bool) {n : Nat} (h : ∀ g, 16 ≤ g → g < n → F' g = F g ∧ G' g = G g) : ∀ v, v < n → vv F' G' al v = vv F G al v := by
  intro v
  induction v using Nat.strongRecOn with
  | _ v ih =>
    intro hv
    by_cases hc : 16 ≤ v
    · obtain ⟨e1, e2⟩ := h v hc hv
      by_cases hb : F v / 2 < v ∧ G v / 2 < v
      · rw [vv_gate al hc (by rw [e1]; exact hb.1) (by rw [e2]; exact hb.2), vv_gate al hc hb.1 hb.2, e1, e2]
        unfold lv
        rw [ih _ hb.1 (by omega), ih _ hb.2 (by omega)]
      · rw [vv_base al (by rw [e1, e2]; exact fun z => hb z.2), vv_base al (fun z => hb z.2)]
    · rw [vv_base al (fun z => hc z.1), vv_base al (fun z => hc z.1)]
def GOK (V : Nat) (F G : Nat → Nat) : Prop := ∀ g, 16 ≤ g → g < V → 2 ≤ F g ∧ F g < G g ∧ G g < 2 * g ∧ F g / 2 ≠ G g / 2
/-- the literals one behind the other -/
def LAY (F G : Nat → Nat) (j : Nat) : Nat := if j = 0 then 0 else
  if (j - 1) % 7 = 0 then 2 * (16 + (j - 1) / 7) + 1 else if (j - 1) % 7 = 1 then F (16 + (j - 1) / 7) else if (j - 1) % 7 = 2 then 2 * (16 + (j - 1) / 7) + 1 else if (j - 1) % 7 = 3 then G (16 + (j - 1) / 7) else if (j - 1) % 7 = 4 then 2 * (16 + (j - 1) / 7) else if (j - 1) % 7 = 5 then ng (F (16 + (j - 1) / 7)) else ng (G (16 + (j - 1) / 7))
def COF (j : Nat) : Nat := if j = 0 then 0 else 1 + 3 * ((j - 1) / 7) + (if (j - 1) % 7 < 2 then 0 else if (j - 1) % 7 < 4 then 1 else 2)
def STA (k : Nat) : Nat := if k = 0 then 0 else 1 + 7 * ((k - 1) / 3) + 2 * ((k - 1) % 3)
theorem LAY_ext {F G F' G' : Nat → Nat} {g j : Nat} (h : ∀ x, 16 ≤ x → x < g → F' x = F x ∧ G' x = G x) (hj : j < 1 + 7 * (g - 16)) : LAY F' G' j = LAY F G j := by
  unfold LAY
  by_cases h0 : j = 0
  · rw [if_pos h0, if_pos h0]
  · obtain ⟨e1, e2⟩ := h (16 + (j - 1) / 7) (by omega) (by omega)
    rw [e1, e2]
def GateOK (C : CT) : Prop := cLen C ∧ 16 ≤ cV C ∧ cV C ≤ lF C ∧ cU C = 1 + 7 * (cV C - 16) ∧ cK C = 1 + 3 * (cV C - 16) ∧ cU C ≤ lL C ∧ cK C + 1 ≤ lS C ∧ GOK (cV C) (fF C) (fG C) ∧ (∀ j, j < cU C → fL C j = LAY (fF C) (fG C) j ∧ fC C j = COF j) ∧ (∀ k, k ≤ cK C → fS C k = STA k) ∧ (∀ h, h < 257 → fD C h = 0 ∨ 16 ≤ fD C h ∧ fD C h < cV C) ∧ (∀ g, 16 ≤ g → g < cV C → fH C g < g ∧ (fH C g = 0 ∨ 16 ≤ fH C g)) ∧ Occ (cU C) C
/-- C' has C's gates, and perhaps more -/
def Ext (C C' : CT) : Prop := cV C ≤ cV C' ∧ ∀ g, 16 ≤ g → g < cV C → fF C' g = fF C g ∧ fG C' g = fG C g
theorem Ext.refl (C : CT) : Ext C C := ⟨Nat.le_refl _, fun _ _ _ => ⟨rfl, rfl⟩⟩
theorem Ext.trans {C C1 C2 : CT} (h : Ext C C1) (k : Ext C1 C2) : Ext C C2 := ⟨Nat.le_trans h.1 k.1, fun g h1 h2 => by
  obtain ⟨a1, a2⟩ := h.2 g h1 h2
  obtain ⟨b1, b2⟩ := k.2 g h1 (Nat.lt_of_lt_of_le h2 h.1)
  exact ⟨b1.trans a1, b2.trans a2⟩⟩
/-- literal a stands for P -/
def Sem (C : CT) (a : Nat) (P : (Nat → Bool) → Bool) : Prop := a < 2 * cV C ∧ ∀ al, VL C al a = P al
theorem Ext.vl {C C' : CT} (h : Ext C C') (al : Nat → Bool) {a : Nat} (ha : a < 2 * cV C) : VL C' al a = VL C al a := by
  unfold VL lv
  rw [vv_ext al h.2 (a / 2) (by omega)]
theorem Sem.ext {C C' : CT} {a : Nat} {P : (Nat → Bool) → Bool} (h : Ext C C') (k : Sem C a P) : Sem C' a P := by
  have h1 := h.1
  have h2 := k.1
  exact ⟨by omega, fun al => by rw [h.vl al k.1]; exact k.2 al⟩
theorem Sem.ng {C : CT} {a : Nat} {P : (Nat → Bool) → Bool} (k : Sem C a P) : Sem C (ng a) (fun al => !P al) := ⟨ng_lt k.1, fun al => by unfold VL; rw [lv_ng]; congr 1; exact k.2 al⟩
theorem Sem.cong {C : CT} {a : Nat} {P Q : (Nat → Bool) → Bool} (k : Sem C a P) (h : ∀ al, P al = Q al) : Sem C a Q := ⟨k.1, fun al => (k.2 al).trans (h al)⟩
theorem Sem.tt {C : CT} (h : 16 ≤ cV C) : Sem C 0 (fun _ => true) := ⟨by omega, fun al => by
  unfold VL lv
  rw [if_pos (by decide)]
  exact vv_0 _ _ _⟩
theorem Sem.ff {C : CT} (h : 16 ≤ cV C) : Sem C 1 (fun _ => false) := ⟨by omega, fun al => by
  unfold VL lv
  rw [if_neg (by decide), show 1 / 2 = 0 from rfl, vv_0]
  rfl⟩
theorem Sem.inp {C : CT} {v : Nat} (h : 16 ≤ cV C) (h0 : 0 < v) (h1 : v < 16) : Sem C (2 * v) (fun al => al v) := ⟨by omega, fun al => by
  unfold VL lv
  rw [if_pos (by omega), show 2 * v / 2 = v by omega]
  exact vv_in _ _ _ h1 h0⟩
theorem VL_gate {C : CT} (h : GOK (cV C) (fF C) (fG C)) {g : Nat} (h1 : 16 ≤ g) (h2 : g < cV C) (al : Nat → Bool) : VL C al (2 * g) = (VL C al (fF C g) && VL C al (fG C g)) := by
  obtain ⟨a1, a2, a3, a4⟩ := h g h1 h2
  have e : VL C al (2 * g) = vv (fF C) (fG C) al g := by
    unfold VL lv
    rw [if_pos (by omega), show 2 * g / 2 = g by omega]
  rw [e]
  exact vv_gate al h1 (by omega) (by omega)
/-- a new gate -/
theorem gate_new {C C1 C2 C3 C4 : CT} {g p q hh : Nat} (h : GateOK C) (hg : cV C = g) (hp : 2 ≤ p) (hpq : p < q) (hq : q < 2 * g) (hne : p / 2 ≠ q / 2) (hh7 : hh < 257) (l1 : cV C1 = g + 1) (l2 : cU C1 = cU C) (l3 : cK C1 = cK C) (l4 : ∀ j, j < cU C → fL C1 j = fL C j ∧ fC C1 j = fC C j) (l5 : ∀ k, k ≤ cK C → fS C1 k = fS C k)
    (l6 : ∀ x, 16 ≤ x → x < g → fF C1 x = fF C x ∧ fG C1 x = fG C x ∧ fH C1 x = fH C x) (l7 : fF C1 g = p ∧ fG C1 g = q ∧ fH C1 g = fD C hh) (l8 : ∀ j, j < 257 → fD C1 j = if j = hh then g else fD C j) (l9 : g + 1 ≤ lF C1)
    (r1 : AddR [2 * g + 1, p] C1 C2) (r2 : AddR [2 * g + 1, q] C2 C3) (r3 : AddR [2 * g, ng p, ng q] C3 C4) (c1 : cLen C4) (c2 : cU C4 ≤ lL C4) (c3 : cK C4 + 1 ≤ lS C4) (c4 : Occ (cU C4) C4) : GateOK C4 ∧ Ext C C4 ∧ cV C4 = g + 1 ∧ fF C4 g = p ∧ fG C4 g = q := by
  obtain ⟨h1, h2, h3, h4, h5, h6, h7, h8, h9, h10, h11, h12, h13⟩ := h
  obtain ⟨a1, a2, a3, a4, a5, a6, a7, a8⟩ := r1
  obtain ⟨b1, b2, b3, b4, b5, b6, b7, b8⟩ := r2
  obtain ⟨d1, d2, d3, d4, d5, d6, d7, d8⟩ := r3
  have hs := (a8.trans b8).trans d8
  obtain ⟨s1, s2, s3, s4, s5, s6⟩ := hs
  simp only [List.length_cons, List.length_nil] at a1 b1 d1 a4 b4 d4
  have eF : ∀ x, 16 ≤ x → x < g → fF C4 x = fF C x ∧ fG C4 x = fG C x := fun x hx1 hx2 => by
    rw [s2, s3]
    exact ⟨(l6 x hx1 hx2).1, (l6 x hx1 hx2).2.1⟩
  have fg : fF C4 g = p := by rw [s2]; exact l7.1
  have gg : fG C4 g = q := by rw [s3]; exact l7.2.1
  have u4 : cU C4 = 1 + 7 * (g + 1 - 16) := by omega
  have u1 : cU C1 = 1 + 7 * (g - 16) := by omega
  have k4 : cK C4 = 1 + 3 * (g + 1 - 16) := by omega
  have v4 : cV C4 = g + 1 := by rw [s1]; exact l1
  refine ⟨⟨c1, by omega, by omega, by omega, by omega, c2, c3, ?_, ?_, ?_, ?_, ?_, c4⟩, ⟨by omega, fun x hx1 hx2 => eF x hx1 (by omega)⟩, v4, fg, gg⟩
  · intro x hx1 hx2
    by_cases e : x = g
    · subst e
      rw [fg, gg]
      exact ⟨hp, hpq, hq, hne⟩
    · rw [(eF x hx1 (by omega)).1, (eF x hx1 (by omega)).2]
      exact h8 x hx1 (by omega)
  · intro j hj
    by_cases e : j < cU C
    · have e3 := d3 j (by omega)
      have e2 := b3 j (by omega)
      have e1 := a3 j (by omega)
      have e0 := l4 j e
      have e9 := h9 j e
      rw [LAY_ext (fun x hx1 hx2 => eF x hx1 hx2) (by omega)]
      exact ⟨e3.1.trans (e2.1.trans (e1.1.trans (e0.1.trans e9.1))), e3.2.trans (e2.2.trans (e1.2.trans (e0.2.trans e9.2)))⟩
    · obtain ⟨i, hi⟩ : ∃ i, j = cU C1 + i := ⟨j - cU C1, by omega⟩
      subst hi
      have m1 : (cU C1 + i - 1) / 7 = g - 16 := by omega
      have m2 : (cU C1 + i - 1) % 7 = i := by omega
      have m3 : 16 + (g - 16) = g := by omega
      have hz : ¬ cU C1 + i = 0 := by omega
      unfold LAY COF
      rw [if_neg hz, if_neg hz, m1, m2, m3, fg, gg]
      have hi7 : i < 7 := by omega
      rcases (show i < 2 ∨ (2 ≤ i ∧ i < 4) ∨ 4 ≤ i by omega) with hi2 | hi4 | hi6
      · have e3 := d3 (cU C1 + i) (by omega)
        have e2 := b3 (cU C1 + i) (by omega)
        have e1 := a4 i (by omega)
        rw [e3.1, e2.1, e1.1, e3.2, e2.2, e1.2]
        rcases (show i = 0 ∨ i = 1 by omega) with rfl | rfl
        · refine ⟨rfl, ?_⟩
          simp only [show (0 : Nat) < 2 from by decide, if_true]
          omega
        · refine ⟨rfl, ?_⟩
          simp only [show (1 : Nat) < 2 from by decide, if_true]
          omega
      · have e3 := d3 (cU C1 + i) (by omega)
        obtain ⟨i2, rfl⟩ : ∃ i2, i = 2 + i2 := ⟨i - 2, by omega⟩
        have e2 := b4 i2 (by omega)
        rw [show cU C2 + i2 = cU C1 + (2 + i2) by omega] at e2
        rw [e3.1, e2.1, e3.2, e2.2]
        rcases (show i2 = 0 ∨ i2 = 1 by omega) with rfl | rfl
        · refine ⟨rfl, ?_⟩
          rw [if_neg (by omega), if_pos (by omega)]
          omega
        · refine ⟨rfl, ?_⟩
          rw [if_neg (by omega), if_pos (by omega)]
          omega
      · obtain ⟨i2, rfl⟩ : ∃ i2, i = 4 + i2 := ⟨i - 4, by omega⟩
        have e3 := d4 i2 (by omega)
        rw [show cU C3 + i2 = cU C1 + (4 + i2) by omega] at e3
        rw [e3.1, e3.2]
        rcases (show i2 = 0 ∨ i2 = 1 ∨ i2 = 2 by omega) with rfl | rfl | rfl
        · refine ⟨rfl, ?_⟩
          rw [if_neg (by omega), if_neg (by omega)]
          omega
        · refine ⟨rfl, ?_⟩
          rw [if_neg (by omega), if_neg (by omega)]
          omega
        · refine ⟨rfl, ?_⟩
          rw [if_neg (by omega), if_neg (by omega)]
          omega
  · intro k hk
    have hS1 : ∀ k, k ≤ cK C → fS C4 k = STA k := fun k hk => by
      by_cases e : k < cK C
      · rw [d5 k (by omega), b5 k (by omega), a5 k (by omega), l5 k (by omega)]
        exact h10 k (by omega)
      · have e2 : k = cK C1 := by omega
        rw [d5 k (by omega), b5 k (by omega), e2, a6, ← h10 (cK C1) (by omega), ← l5 (cK C1) (by omega)]
        have := l5 (cK C1) (by omega)
        rw [this, h10 (cK C1) (by omega)]
        unfold STA
        rw [if_neg (by omega)]
        omega
    by_cases e : k ≤ cK C
    · exact hS1 k e
    · unfold STA
      rw [if_neg (by omega)]
      rcases (show k = cK C2 ∨ k = cK C3 ∨ k = cK C4 by omega) with rfl | rfl | rfl
      · rw [d5 _ (by omega), b6]
        omega
      · rw [d6]
        omega
      · rw [d2, d7]
        omega
  · intro x hx
    rw [s5, l8 x hx]
    by_cases e : x = hh
    · rw [if_pos e]
      omega
    · rw [if_neg e]
      have := h11 x hx
      omega
  · intro x hx1 hx2
    rw [s4]
    by_cases e : x = g
    · subst e
      rw [l7.2.2]
      have := h11 hh hh7
      omega
    · rw [(l6 x hx1 (by omega)).2.2]
      exact h12 x hx1 (by omega)
end
section
/-! CIRCUIT, part 4: gates -/
theorem and_min {al : Nat → Bool} {C : CT} (a ic : Nat) : (VL C al (min a ic) && VL C al (max a ic)) = (VL C al a && VL C al ic) := by
  by_cases h : a ≤ ic
  · rw [Nat.min_eq_left h, Nat.max_eq_right h]
  · rw [Nat.min_eq_right (by omega), Nat.max_eq_left (by omega), Bool.and_comm]
/-- the state between the new gate's number and its clauses -/
def GrowI (B1 B2 : Nat) (C D : CT) (sz sl : Nat) : Prop := cLen D ∧ cBud B1 B2 D sz sl ∧ cV D = cV C + 1 ∧ cU D = cU C ∧ cK D = cK C ∧ (∀ j, j < cU C → fL D j = fL C j ∧ fC D j = fC C j) ∧ (∀ k, k ≤ cK C → fS D k = fS C k) ∧ (∀ x, x < cV C → fF D x = fF C x ∧ fG D x = fG C x ∧ fH D x = fH C x) ∧ (∀ j, fD D j = fD C j) ∧ cU D ≤ lL D ∧ cK D + 1 ≤ lS D ∧ Occ (cU D) D ∧ cV C ≤ lF D
def setV (C : CT) (v : Nat) : CT := (C.1, C.2.1, C.2.2.1, C.2.2.2.1, C.2.2.2.2.1, C.2.2.2.2.2.1, C.2.2.2.2.2.2.1, C.2.2.2.2.2.2.2.1, C.2.2.2.2.2.2.2.2.1, C.2.2.2.2.2.2.2.2.2.1, C.2.2.2.2.2.2.2.2.2.2.1, v)
def setG (C : CT) (g x y hh : Nat) : CT := (C.1, C.2.1, C.2.2.1, C.2.2.2.1, C.2.2.2.2.1, (C.2.2.2.2.2.1.1, C.2.2.2.2.2.1.2.1, va_up C.2.2.2.2.2.1.2.2 g x), (C.2.2.2.2.2.2.1.1, C.2.2.2.2.2.2.1.2.1, va_up C.2.2.2.2.2.2.1.2.2 g y), (C.2.2.2.2.2.2.2.1.1, C.2.2.2.2.2.2.2.1.2.1, va_up C.2.2.2.2.2.2.2.1.2.2 g (C.2.2.2.2.2.2.2.2.1.2.2 hh)), (C.2.2.2.2.2.2.2.2.1.1, C.2.2.2.2.2.2.2.2.1.2.1, va_up C.2.2.2.2.2.2.2.2.1.2.2 hh g), C.2.2.2.2.2.2.2.2.2.1, C.2.2.2.2.2.2.2.2.2.2.1, C.2.2.2.2.2.2.2.2.2.2.2)
theorem grow_start {B1 B2 : Nat} {C : CT} {sz sl : Nat} (h : GateOK C) (hb : cBud B1 B2 C sz sl) : GrowI B1 B2 C (setV C (cV C + 1)) sz sl := by
  obtain ⟨h1, h2, h3, h4, h5, h6, h7, h8, h9, h10, h11, h12, h13⟩ := h
  exact ⟨h1, hb, rfl, rfl, rfl, fun _ _ => ⟨rfl, rfl⟩, fun _ _ => rfl, fun _ _ => ⟨rfl, rfl, rfl⟩, fun _ => rfl, h6, h7, h13, h3⟩
theorem grow_step {B1 B2 : Nat} {C D D2 : CT} {sz sl sz' sl' : Nat} (h : GrowI B1 B2 C D sz sl) (m1 : cLen D2) (m2 : cBud B1 B2 D2 sz' sl') (m3 : lF D2 = 2 * lF D) (m4 : ∀ j, j < lF D → fF D2 j = fF D j ∧ fG D2 j = fG D j ∧ fH D2 j = fH D j) (m5 : fD D2 = fD D) (m6 : cV D2 = cV D) (m7 : cU D2 = cU D) (m8 : cK D2 = cK D) (m9 : fL D2 = fL D) (m10 : fC D2 = fC D) (m11 : fN D2 = fN D) (m12 : fS D2 = fS D) (m13 : lL D2 = lL D) (m14 : lS D2 = lS D) (m15 : ∀ a, fP D2 a = fP D a) : GrowI B1 B2 C D2 sz' sl' := by
  obtain ⟨k1, k2, k3, k4, k5, k6, k7, k8, k9, k10, k11, k12, k13⟩ := h
  refine ⟨m1, m2, by omega, by omega, by omega, fun j hj => by rw [m9, m10]; exact k6 j hj, fun k hk => by rw [m12]; exact k7 k hk, fun x hx => ?_, fun j => by rw [m5]; exact k9 j, by omega, by omega, by rw [m7]; exact Occ_same k12 m9 m11 m15, by omega⟩
  have a1 := m4 x (by omega)
  have a2 := k8 x hx
  exact ⟨a1.1.trans a2.1, a1.2.1.trans a2.2.1, a1.2.2.trans a2.2.2⟩
/-- the new gate is written down; its clauses follow -/
theorem gate_set {B1 B2 : Nat} {C D : CT} {sz sl g x y hh : Nat} (h : GrowI B1 B2 C D sz sl) (hg : cV C = g) (hlt : g < lF D) : cLen (setG D g x y hh) ∧ cBud B1 B2 (setG D g x y hh) sz sl ∧ Occ (cU (setG D g x y hh)) (setG D g x y hh) ∧ cV (setG D g x y hh) = g + 1 ∧ cU (setG D g x y hh) = cU C ∧ cK (setG D g x y hh) = cK C ∧ (∀ j, j < cU C → fL (setG D g x y hh) j = fL C j ∧ fC (setG D g x y hh) j = fC C j) ∧ (∀ k, k ≤ cK C → fS (setG D g x y hh) k = fS C k) ∧ (∀ z, 16 ≤ z → z < g → fF (setG D g x y hh) z = fF C z ∧ fG (setG D g x y hh) z = fG C z ∧ fH (setG D g x y hh) z = fH C z) ∧ (fF (setG D g x y hh) g = x ∧ fG (setG D g x y hh) g = y ∧ fH (setG D g x y hh) g = fD C hh) ∧ (∀ j, j < 257 → fD (setG D g x y hh) j = if j = hh then g else fD C j) ∧ g + 1 ≤ lF (setG D g x y hh) ∧ cU (setG D g x y hh) ≤ lL (setG D g x y hh) ∧ cK (setG D g x y hh) + 1 ≤ lS (setG D g x y hh) := by
  obtain ⟨k1, k2, k3, k4, k5, k6, k7, k8, k9, k10, k11, k12, k13⟩ := h
  refine ⟨k1, k2, k12, ?_, k4, k5, k6, k7, fun z h1 h2 => ?_, ⟨up_s, up_s, up_s.trans (k9 hh)⟩, fun j hj => ?_, hlt, k10, k11⟩
  · exact k3.trans (by rw [hg])
  · have a := k8 z (by omega)
    exact ⟨(up_n (by omega)).trans a.1, (up_n (by omega)).trans a.2.1, (up_n (by omega)).trans a.2.2⟩
  · by_cases e : j = hh
    · rw [if_pos e, e]
      exact up_s
    · rw [if_neg e]
      exact (up_n e).trans (k9 j)
set_option maxHeartbeats 4000000 in
set_option maxRecDepth 100000 in
theorem c_and (l : Launch) (b : BK) (BC BS sz sl : Nat) (h : Nat) (C : CT) (a ic : Nat) (P1 P2 : (Nat → Bool) → Bool) (B1 B2 : Nat) (hB1 : B1 ≤ BS) (hB2 : B2 ≤ BC) (hok : GateOK C) (hb : cBud B1 B2 C sz sl) (hv : cV C < 65536) (ha : Sem C a P1) (hc : Sem C ic P2) : Con l b y_Circuit_and b_Circuit_and 7 (some .int) 5 150 BC BS sz sl [.ref h, .int (nI a), .int (nI ic)] [circW b h C] (S := CT) (fun r sz' sl' C' => ∃ x, r = some (.int (nI x)) ∧ GateOK C' ∧ cBud B1 B2 C' sz' sl' ∧ Ext C C' ∧ cV C' ≤ cV C + 1 ∧ Sem C' x (fun al => P1 al && P2 al)) (fun C' => [circW b h C']) := by
  have hok0 := hok
  obtain ⟨h1, h2, h3, h4, h5, h6, h7, h8, h9, h10, h11, h12, h13⟩ := hok
  have q9 := h1.2.2.2.2.2.2.2.2.1.le
  have hal := ha.1
  have hcl := hc.1
  obtain ⟨pp, hp0⟩ : ∃ z, min a ic = z := ⟨_, rfl⟩
  obtain ⟨qq, hq0'⟩ : ∃ z, max a ic = z := ⟨_, rfl⟩
  have hpq : pp ≤ qq := by omega
  have hq2 : qq < 2 * cV C := by omega
  have hsem : ∀ C', Ext C C' → ∀ al, (VL C' al pp && VL C' al qq) = (P1 al && P2 al) := by
    intro C' hx al
    rw [← hp0, ← hq0', and_min, hx.vl al hal, hx.vl al hcl, ha.2 al, hc.2 al]
  have hh7 : (31 * pp + qq) % 257 < 257 := Nat.mod_lt _ (by decide)
  generalize hhh : (31 * pp + qq) % 257 = hh at hh7
  clear ha hc h13 h9 h10
  refine con_of (L0 := [(0, .ref h), (1, .int (nI a)), (2, .int (nI ic))]) (by decide) (Nat.le_of_ble_eq_true rfl) rfl ?_
  intro p e R s m args below meth c Q A H lo X hini hw RT
  have X : Ctx p R s m args meth c b_Circuit_and 7 "LoopProver$Circuit" b BC BS sl 5 150 := X
  have hw : Wd b BC BS sl s A [circW b h C] sz sl H lo := hw
  refine r_ildn X (dat D_Circuit_and 0 rfl) rfl 1 rfl ?_
  refine r_ildn X (dat D_Circuit_and 1 rfl) rfl 2 rfl ?_
  refine r_min X hw m_Circuit_76 (dat D_Circuit_and 2 rfl) (Nat.le_of_ble_eq_true rfl) (by decide) (by omega) (by omega) ?_
  rw [hp0]
  refine r_istn (L' := [(3, .int (nI pp)), (0, .ref h), (1, .int (nI a)), (2, .int (nI ic))]) X (dat D_Circuit_and 3 rfl) rfl (by decide) rfl ?_
  refine r_ildn X (dat D_Circuit_and 4 rfl) rfl 2 rfl ?_
  refine r_ildn X (dat D_Circuit_and 5 rfl) rfl 3 rfl ?_
  refine r_max X hw m_Circuit_82 (dat D_Circuit_and 6 rfl) (Nat.le_of_ble_eq_true rfl) (by decide) (by omega) (by omega) ?_
  rw [hq0']
  refine r_ist (L' := [(4, .int (nI qq)), (3, .int (nI pp)), (0, .ref h), (1, .int (nI a)), (2, .int (nI ic))]) X (dat D_Circuit_and 7 rfl) (by decide) rfl ?_
  refine r_ildn X (dat D_Circuit_and 8 rfl) rfl 1 rfl ?_
  refine r_iconst (v := nI 1) X (dat D_Circuit_and 9 rfl) rfl ?_
  have JF : ∀  (H : Heap) (lo : List Loc), (pp = 1 ∨ qq = 1 ∨ pp = ng qq) → Wd b BC BS sl s A [circW b h C] sz sl H lo → V p l e R s m args below meth c Q 7 H lo 32 [(4, .int (nI qq)), (3, .int (nI pp)), (0, .ref h), (1, .int (nI a)), (2, .int (nI ic))] [] := by
    intro  H lo hf hw
    refine r_iconst (v := nI 1) X (dat D_Circuit_and 19 rfl) rfl ?_
    refine r_iret RT (dat D_Circuit_and 20 rfl) C ⟨1, rfl, hok0, hb, Ext.refl C, by omega, (Sem.ff h2).cong (fun al => ?_)⟩ hw
    have hz := hsem C (Ext.refl C) al
    rw [← hz]
    have f1 : VL C al 1 = false := (Sem.ff h2).2 al
    rcases hf with rfl | rfl | rfl
    · rw [f1, Bool.false_and]
    · rw [f1, Bool.and_false]
    · unfold VL
      rw [lv_ng]
      cases lv (vv (fF C) (fG C) al) qq <;> rfl
  have JQ : ∀  (H : Heap) (lo : List Loc), (pp = 0 ∨ pp = qq) → Wd b BC BS sl s A [circW b h C] sz sl H lo → V p l e R s m args below meth c Q 7 H lo 44 [(4, .int (nI qq)), (3, .int (nI pp)), (0, .ref h), (1, .int (nI a)), (2, .int (nI ic))] [] := by
    intro  H lo hf hw
    refine r_ild X (dat D_Circuit_and 26 rfl) 0 rfl ?_
    refine r_iret RT (dat D_Circuit_and 27 rfl) C ⟨qq, rfl, hok0, hb, Ext.refl C, by omega, hq2, fun al => ?_⟩ hw
    show VL C al qq = (P1 al && P2 al)
    have hz := hsem C (Ext.refl C) al
    rw [← hz]
    rcases hf with rfl | rfl
    · rw [(Sem.tt h2).2 al, Bool.true_and]
    · rw [Bool.and_self]
  have hq0 : qq < 2 ^ 18 := by omega
  have JG : ∀ (NN : Nat) (D : CT) (sz' sl' : Nat) (H : Heap) (lo : List Loc), 65536 - lF D < NN → (2 ≤ pp ∧ pp < qq ∧ pp / 2 ≠ qq / 2) → (GrowI B1 B2 C D sz' sl') → Wd b BC BS sl s A [circW b h D] sz' sl' H lo → V p l e R s m args below meth c Q 7 H lo 127 [(6, .int (nI (cV C))), (5, .int (nI hh)), (4, .int (nI qq)), (3, .int (nI pp)), (0, .ref h), (1, .int (nI a)), (2, .int (nI ic))] [] := by
    intro NN
    induction NN with
    | zero =>
      intro D sz' sl' H lo hNN
      exact absurd hNN (by omega)
    | succ NN ih =>
      intro D sz' sl' H lo hNN hf hI hw
      have k1 := hI.1
      have k2 := hI.2.1
      have e1 := k1.1
      have e2 := k1.2.1
      have e3 := k1.2.2.1
      have e4 := k1.2.2.2.1
      have e5 := k1.2.2.2.2.1
      have q5 := k1.2.2.2.2.2.2.2.2.1.le
      have k13 := hI.2.2.2.2.2.2.2.2.2.2.2.2
      have hw : Wd b BC BS sl s A [[cO h 2 [.ref D.1.1, .ref D.2.1.1, .int (nI (cU D)), .int (nI (cK D)), .int (nI (cV D)), .ref D.2.2.1.1, .ref D.2.2.2.1.1, .ref D.2.2.2.2.1.1, .ref D.2.2.2.2.2.1.1, .ref D.2.2.2.2.2.2.1.1, .ref D.2.2.2.2.2.2.2.1.1, .ref D.2.2.2.2.2.2.2.2.1.1]], [cN b D.1.1 (lL D) (fL D)], [cN b D.2.1.1 (lS D) (fS D)], [cN b D.2.2.1.1 D.2.2.1.2.1 (fC D)], [cN b D.2.2.2.1.1 D.2.2.2.1.2.1 (fN D)], [cN b D.2.2.2.2.1.1 (lP D) D.2.2.2.2.1.2.2], [cN b D.2.2.2.2.2.1.1 (lF D) (fF D)], [cN b D.2.2.2.2.2.2.1.1 D.2.2.2.2.2.2.1.2.1 (fG D)], [cN b D.2.2.2.2.2.2.2.1.1 D.2.2.2.2.2.2.2.1.2.1 (fH D)], [cN b D.2.2.2.2.2.2.2.2.1.1 D.2.2.2.2.2.2.2.2.1.2.1 (fD D)]] sz' sl' H lo := hw.re rfl
      refine r_ild X (dat D_Circuit_and 73 rfl) 0 rfl ?_
      refine r_aldn X (dat D_Circuit_and 74 rfl) rfl 4 rfl ?_
      refine r_get X hw f_Circuit_27 (dat D_Circuit_and 75 rfl) 0 0 rfl rfl rfl ?_
      refine r_alen X hw (dat D_Circuit_and 76 rfl) 6 0 0 rfl rfl rfl ?_
      refine r_icmplt (tgt := 144) X (nI_ltI (by omega) (by omega)) (dat D_Circuit_and 77 rfl) rfl (fun hc2 => ?_) (fun hc2 => ?_)
      · refine r_aldn X (dat D_Circuit_and 81 rfl) rfl 4 rfl ?_
        refine r_get X hw f_Circuit_27 (dat D_Circuit_and 82 rfl) 0 0 rfl rfl rfl ?_
        refine r_ild X (dat D_Circuit_and 83 rfl) 0 rfl ?_
        refine r_ildn X (dat D_Circuit_and 84 rfl) rfl 3 rfl ?_
        refine r_iastN (Ws' := [[cO h 2 [.ref D.1.1, .ref D.2.1.1, .int (nI (cU D)), .int (nI (cK D)), .int (nI (cV D)), .ref D.2.2.1.1, .ref D.2.2.2.1.1, .ref D.2.2.2.2.1.1, .ref D.2.2.2.2.2.1.1, .ref D.2.2.2.2.2.2.1.1, .ref D.2.2.2.2.2.2.2.1.1, .ref D.2.2.2.2.2.2.2.2.1.1]], [cN b D.1.1 (lL D) (fL D)], [cN b D.2.1.1 (lS D) (fS D)], [cN b D.2.2.1.1 D.2.2.1.2.1 (fC D)], [cN b D.2.2.2.1.1 D.2.2.2.1.2.1 (fN D)], [cN b D.2.2.2.2.1.1 (lP D) D.2.2.2.2.1.2.2], [cN b D.2.2.2.2.2.1.1 (lF D) (va_up (fF D) (cV C) pp)], [cN b D.2.2.2.2.2.2.1.1 D.2.2.2.2.2.2.1.2.1 (fG D)], [cN b D.2.2.2.2.2.2.2.1.1 D.2.2.2.2.2.2.2.1.2.1 (fH D)], [cN b D.2.2.2.2.2.2.2.2.1.1 D.2.2.2.2.2.2.2.2.1.2.1 (fD D)]]) X hw (dat D_Circuit_and 85 rfl) 6 0 rfl rfl (by omega) (by omega) rfl (fun H lo hw => ?_)
        refine r_aldn X (dat D_Circuit_and 86 rfl) rfl 4 rfl ?_
        refine r_get X hw f_Circuit_30 (dat D_Circuit_and 87 rfl) 0 0 rfl rfl rfl ?_
        refine r_ild X (dat D_Circuit_and 88 rfl) 0 rfl ?_
        refine r_ild X (dat D_Circuit_and 89 rfl) 2 rfl ?_
        refine r_iastN (Ws' := [[cO h 2 [.ref D.1.1, .ref D.2.1.1, .int (nI (cU D)), .int (nI (cK D)), .int (nI (cV D)), .ref D.2.2.1.1, .ref D.2.2.2.1.1, .ref D.2.2.2.2.1.1, .ref D.2.2.2.2.2.1.1, .ref D.2.2.2.2.2.2.1.1, .ref D.2.2.2.2.2.2.2.1.1, .ref D.2.2.2.2.2.2.2.2.1.1]], [cN b D.1.1 (lL D) (fL D)], [cN b D.2.1.1 (lS D) (fS D)], [cN b D.2.2.1.1 D.2.2.1.2.1 (fC D)], [cN b D.2.2.2.1.1 D.2.2.2.1.2.1 (fN D)], [cN b D.2.2.2.2.1.1 (lP D) D.2.2.2.2.1.2.2], [cN b D.2.2.2.2.2.1.1 (lF D) (va_up (fF D) (cV C) pp)], [cN b D.2.2.2.2.2.2.1.1 D.2.2.2.2.2.2.1.2.1 (va_up (fG D) (cV C) qq)], [cN b D.2.2.2.2.2.2.2.1.1 D.2.2.2.2.2.2.2.1.2.1 (fH D)], [cN b D.2.2.2.2.2.2.2.2.1.1 D.2.2.2.2.2.2.2.2.1.2.1 (fD D)]]) X hw (dat D_Circuit_and 90 rfl) 7 0 rfl rfl (by omega) (by omega) rfl (fun H lo hw => ?_)
        refine r_aldn X (dat D_Circuit_and 91 rfl) rfl 4 rfl ?_
        refine r_get X hw f_Circuit_33 (dat D_Circuit_and 92 rfl) 0 0 rfl rfl rfl ?_
        refine r_ild X (dat D_Circuit_and 93 rfl) 0 rfl ?_
        refine r_aldn X (dat D_Circuit_and 94 rfl) rfl 4 rfl ?_
        refine r_get X hw f_Circuit_36 (dat D_Circuit_and 95 rfl) 0 0 rfl rfl rfl ?_
        refine r_ild X (dat D_Circuit_and 96 rfl) 1 rfl ?_
        refine r_ialdN X hw (dat D_Circuit_and 97 rfl) 9 0 rfl rfl (by omega) (by omega) ?_
        refine r_iastN (Ws' := [[cO h 2 [.ref D.1.1, .ref D.2.1.1, .int (nI (cU D)), .int (nI (cK D)), .int (nI (cV D)), .ref D.2.2.1.1, .ref D.2.2.2.1.1, .ref D.2.2.2.2.1.1, .ref D.2.2.2.2.2.1.1, .ref D.2.2.2.2.2.2.1.1, .ref D.2.2.2.2.2.2.2.1.1, .ref D.2.2.2.2.2.2.2.2.1.1]], [cN b D.1.1 (lL D) (fL D)], [cN b D.2.1.1 (lS D) (fS D)], [cN b D.2.2.1.1 D.2.2.1.2.1 (fC D)], [cN b D.2.2.2.1.1 D.2.2.2.1.2.1 (fN D)], [cN b D.2.2.2.2.1.1 (lP D) D.2.2.2.2.1.2.2], [cN b D.2.2.2.2.2.1.1 (lF D) (va_up (fF D) (cV C) pp)], [cN b D.2.2.2.2.2.2.1.1 D.2.2.2.2.2.2.1.2.1 (va_up (fG D) (cV C) qq)], [cN b D.2.2.2.2.2.2.2.1.1 D.2.2.2.2.2.2.2.1.2.1 (va_up (fH D) (cV C) ((fD D) hh))], [cN b D.2.2.2.2.2.2.2.2.1.1 D.2.2.2.2.2.2.2.2.1.2.1 (fD D)]]) X hw (dat D_Circuit_and 98 rfl) 8 0 rfl rfl (by omega) (by omega) rfl (fun H lo hw => ?_)
        refine r_aldn X (dat D_Circuit_and 99 rfl) rfl 4 rfl ?_
        refine r_get X hw f_Circuit_36 (dat D_Circuit_and 100 rfl) 0 0 rfl rfl rfl ?_
        refine r_ild X (dat D_Circuit_and 101 rfl) 1 rfl ?_
        refine r_ild X (dat D_Circuit_and 102 rfl) 0 rfl ?_
        refine r_iastN (Ws' := [[cO h 2 [.ref D.1.1, .ref D.2.1.1, .int (nI (cU D)), .int (nI (cK D)), .int (nI (cV D)), .ref D.2.2.1.1, .ref D.2.2.2.1.1, .ref D.2.2.2.2.1.1, .ref D.2.2.2.2.2.1.1, .ref D.2.2.2.2.2.2.1.1, .ref D.2.2.2.2.2.2.2.1.1, .ref D.2.2.2.2.2.2.2.2.1.1]], [cN b D.1.1 (lL D) (fL D)], [cN b D.2.1.1 (lS D) (fS D)], [cN b D.2.2.1.1 D.2.2.1.2.1 (fC D)], [cN b D.2.2.2.1.1 D.2.2.2.1.2.1 (fN D)], [cN b D.2.2.2.2.1.1 (lP D) D.2.2.2.2.1.2.2], [cN b D.2.2.2.2.2.1.1 (lF D) (va_up (fF D) (cV C) pp)], [cN b D.2.2.2.2.2.2.1.1 D.2.2.2.2.2.2.1.2.1 (va_up (fG D) (cV C) qq)], [cN b D.2.2.2.2.2.2.2.1.1 D.2.2.2.2.2.2.2.1.2.1 (va_up (fH D) (cV C) ((fD D) hh))], [cN b D.2.2.2.2.2.2.2.2.1.1 D.2.2.2.2.2.2.2.2.1.2.1 (va_up (fD D) hh (cV C))]]) X hw (dat D_Circuit_and 103 rfl) 9 0 rfl rfl (by omega) (by omega) rfl (fun H lo hw => ?_)
        have hw : Wd b BC BS sl s A [circW b h (setG D (cV C) pp qq hh)] sz' sl' H lo := hw.re rfl
        obtain ⟨s_l, sb, so, x1, x2, x3, x4, x5, x6, x7, x8, x11, su, sk⟩ := gate_set (x := pp) (y := qq) (hh := hh) hI rfl hc2
        generalize setG D (cV C) pp qq hh = E1 at hw s_l sb so x1 x2 x3 x4 x5 x6 x7 x8 x11 su sk
        clear hI k1 k2 e1 e2 e3 e4 e5 ih k13 q5 hNN
        refine r_aldn X (dat D_Circuit_and 104 rfl) rfl 4 rfl ?_
        refine r_iconst (v := nI 2) X (dat D_Circuit_and 105 rfl) rfl ?_
        refine r_ild X (dat D_Circuit_and 106 rfl) 0 rfl ?_
        refine r_imul (z := nI (2 * (cV C))) X (dat D_Circuit_and 107 rfl) (pk_mul _ _) ?_
        refine r_iconst (v := nI 1) X (dat D_Circuit_and 108 rfl) rfl ?_
        refine r_iadd (z := nI ((2 * (cV C)) + 1)) X (dat D_Circuit_and 109 rfl) (nI_add _ _) ?_
        refine r_ildn X (dat D_Circuit_and 110 rfl) rfl 3 rfl ?_
        refine r_iconst (v := iI (-1)) X (dat D_Circuit_and 111 rfl) rfl ?_
        refine r_st (st' := [.int (iI (-1)), .int (iI (pp : Int)), .int (nI ((2 * (cV C)) + 1)), .ref h]) (rfl) ?_
        refine r_callV (NW := 1) (As := [.int (nI ((2 * (cV C)) + 1)), .int (iI (pp : Int)), .int (iI (-1))]) (st := []) X hw m_Circuit_49 (c_add l b BC BS _ _ h E1 (2 * cV C + 1) (pp : Int) (-1) [2 * cV C + 1, pp] (by simp) B1 B2 hB1 hB2 s_l sb su (by omega) sk (by omega) (by omega) (by omega) (by omega) so) (dat D_Circuit_and 112 rfl) [0] [] rfl (by decide +kernel) rfl rfl (hw.recv X 0 0 rfl (circ0 b h E1).choose_spec k_Circuit) rfl rfl (Nat.le_of_ble_eq_true rfl) ⟨by decide, by decide⟩ (fun r E2 sz_1 sl_1 H lo hp hw => ?_)
        obtain ⟨rfl, t_l, tb, tr, tu, tk, to⟩ := hp
        refine r_st (st' := []) rfl ?_
        have hw : Wd b BC BS sl s A [circW b h E2] sz_1 sl_1 H lo := hw
        have tr1 := tr.1
        have tr2 := tr.2.1
        simp only [List.length_cons, List.length_nil] at tr1
        refine r_aldn X (dat D_Circuit_and 113 rfl) rfl 4 rfl ?_
        refine r_iconst (v := nI 2) X (dat D_Circuit_and 114 rfl) rfl ?_
        refine r_ild X (dat D_Circuit_and 115 rfl) 0 rfl ?_
        refine r_imul (z := nI (2 * (cV C))) X (dat D_Circuit_and 116 rfl) (pk_mul _ _) ?_
        refine r_iconst (v := nI 1) X (dat D_Circuit_and 117 rfl) rfl ?_
        refine r_iadd (z := nI ((2 * (cV C)) + 1)) X (dat D_Circuit_and 118 rfl) (nI_add _ _) ?_
        refine r_ild X (dat D_Circuit_and 119 rfl) 2 rfl ?_
        refine r_iconst (v := iI (-1)) X (dat D_Circuit_and 120 rfl) rfl ?_
        refine r_st (st' := [.int (iI (-1)), .int (iI (qq : Int)), .int (nI ((2 * (cV C)) + 1)), .ref h]) (rfl) ?_
        refine r_callV (NW := 1) (As := [.int (nI ((2 * (cV C)) + 1)), .int (iI (qq : Int)), .int (iI (-1))]) (st := []) X hw m_Circuit_49 (c_add l b BC BS _ _ h E2 (2 * cV C + 1) (qq : Int) (-1) [2 * cV C + 1, qq] (by simp) B1 B2 hB1 hB2 t_l tb tu (by omega) tk (by omega) (by omega) (by omega) (by omega) to) (dat D_Circuit_and 121 rfl) [0] [] rfl (by decide +kernel) rfl rfl (hw.recv X 0 0 rfl (circ0 b h E2).choose_spec k_Circuit) rfl rfl (Nat.le_of_ble_eq_true rfl) ⟨by decide, by decide⟩ (fun r E3 sz_2 sl_2 H lo hp hw => ?_)
        obtain ⟨rfl, u_l, ub, ur, uu, uk, uo⟩ := hp
        refine r_st (st' := []) rfl ?_
        have hw : Wd b BC BS sl s A [circW b h E3] sz_2 sl_2 H lo := hw
        have ur1 := ur.1
        have ur2 := ur.2.1
        simp only [List.length_cons, List.length_nil] at ur1
        refine r_aldn X (dat D_Circuit_and 122 rfl) rfl 4 rfl ?_
        refine r_iconst (v := nI 2) X (dat D_Circuit_and 123 rfl) rfl ?_
        refine r_ild X (dat D_Circuit_and 124 rfl) 0 rfl ?_
        refine r_imul (z := nI (2 * (cV C))) X (dat D_Circuit_and 125 rfl) (pk_mul _ _) ?_
        refine r_ildn X (dat D_Circuit_and 126 rfl) rfl 3 rfl ?_
        refine r_iconst (v := nI 1) X (dat D_Circuit_and 127 rfl) rfl ?_
        refine r_ixor (z := nI (ng pp)) X (dat D_Circuit_and 128 rfl) (ngE _) ?_
        refine r_ild X (dat D_Circuit_and 129 rfl) 2 rfl ?_
        refine r_iconst (v := nI 1) X (dat D_Circuit_and 130 rfl) rfl ?_
        refine r_ixor (z := nI (ng qq)) X (dat D_Circuit_and 131 rfl) (ngE _) ?_
        have np := ng_lt (show pp < 2 * cV C by omega)
        have nq := ng_lt (show qq < 2 * cV C by omega)
        refine r_st (st' := [.int (iI (ng qq : Nat)), .int (nI (ng pp)), .int (nI (2 * (cV C))), .ref h]) (rfl) ?_
        refine r_st (st' := [.int (iI (ng qq : Nat)), .int (iI (ng pp : Nat)), .int (nI (2 * (cV C))), .ref h]) (rfl) ?_
        refine r_callV (NW := 1) (As := [.int (nI (2 * (cV C))), .int (iI (ng pp : Nat)), .int (iI (ng qq : Nat))]) (st := []) X hw m_Circuit_49 (c_add l b BC BS _ _ h E3 (2 * cV C) (ng pp : Nat) (ng qq : Nat) [2 * cV C, ng pp, ng qq] (by simp) B1 B2 hB1 hB2 u_l ub uu (by omega) uk (by omega) (by omega) (by omega) (by omega) uo) (dat D_Circuit_and 132 rfl) [0] [] rfl (by decide +kernel) rfl rfl (hw.recv X 0 0 rfl (circ0 b h E3).choose_spec k_Circuit) rfl rfl (Nat.le_of_ble_eq_true rfl) ⟨by decide, by decide⟩ (fun r E4 sz_3 sl_3 H lo hp hw => ?_)
        obtain ⟨rfl, v_l, vb, vr, vu, vk, vo⟩ := hp
        refine r_st (st' := []) rfl ?_
        have hw : Wd b BC BS sl s A [circW b h E4] sz_3 sl_3 H lo := hw
        have vr1 := vr.1
        have vr2 := vr.2.1
        simp only [List.length_cons, List.length_nil] at vr1
        refine r_iconst (v := nI 2) X (dat D_Circuit_and 133 rfl) rfl ?_
        refine r_ild X (dat D_Circuit_and 134 rfl) 0 rfl ?_
        refine r_imul (z := nI (2 * (cV C))) X (dat D_Circuit_and 135 rfl) (pk_mul _ _) ?_
        obtain ⟨gk, ge, gv, gf, gg⟩ := gate_new hok0 rfl hf.1 hf.2.1 (by omega) hf.2.2 hh7 x1 x2 x3 x4 x5 x6 x7 x8 x11 tr ur vr v_l vu vk vo
        refine r_iret RT (dat D_Circuit_and 136 rfl) E4 ⟨2 * cV C, rfl, gk, vb, ge, by omega, by omega, fun al => ?_⟩ hw
        rw [VL_gate gk.2.2.2.2.2.2.2.1 (by omega) (by omega) al, gf, gg]
        exact hsem E4 ge al
      · have hw : Wd b BC BS sl s A [circW b h D] sz' sl' H lo := hw.re rfl
        refine r_aldn X (dat D_Circuit_and 78 rfl) rfl 4 rfl ?_
        refine r_callV (NW := 1) (As := []) (st := []) X hw m_Circuit_85 (c_grow l b BC BS _ _ h D B1 B2 hB1 hB2 k1 k2 (by omega)) (dat D_Circuit_and 79 rfl) [0] [] rfl (by decide +kernel) rfl rfl (hw.recv X 0 0 rfl (circ0 b h D).choose_spec k_Circuit) rfl rfl (Nat.le_of_ble_eq_true rfl) ⟨by decide, by decide⟩ (fun r D2 sz_4 sl_4 H lo hp hw => ?_)
        obtain ⟨rfl, m1, m2, m3, m4, m5, m6, m7, m8, m9, m10, m11, m12, m13, m14, m15⟩ := hp
        refine r_st (st' := []) rfl ?_
        have hw : Wd b BC BS sl s A [circW b h D2] sz_4 sl_4 H lo := hw
        refine r_goto (tgt := 127) X (dat D_Circuit_and 80 rfl) rfl ?_
        exact ih D2 _ _ H lo (by omega) hf (grow_step hI m1 m2 m3 m4 m5 m6 m7 m8 m9 m10 m11 m12 m13 m14 m15) hw
  have JN : ∀  (H : Heap) (lo : List Loc), (2 ≤ pp ∧ pp < qq ∧ pp / 2 ≠ qq / 2) → Wd b BC BS sl s A [circW b h C] sz sl H lo → V p l e R s m args below meth c Q 7 H lo 114 [(6, .int (nI 0)), (5, .int (nI hh)), (4, .int (nI qq)), (3, .int (nI pp)), (0, .ref h), (1, .int (nI a)), (2, .int (nI ic))] [] := by
    intro  H lo hf hw
    have hw : Wd b BC BS sl s A [[cO h 2 [.ref C.1.1, .ref C.2.1.1, .int (nI (cU C)), .int (nI (cK C)), .int (nI (cV C)), .ref C.2.2.1.1, .ref C.2.2.2.1.1, .ref C.2.2.2.2.1.1, .ref C.2.2.2.2.2.1.1, .ref C.2.2.2.2.2.2.1.1, .ref C.2.2.2.2.2.2.2.1.1, .ref C.2.2.2.2.2.2.2.2.1.1]], [cN b C.1.1 (lL C) (fL C)], [cN b C.2.1.1 (lS C) (fS C)], [cN b C.2.2.1.1 C.2.2.1.2.1 (fC C)], [cN b C.2.2.2.1.1 C.2.2.2.1.2.1 (fN C)], [cN b C.2.2.2.2.1.1 (lP C) C.2.2.2.2.1.2.2], [cN b C.2.2.2.2.2.1.1 (lF C) (fF C)], [cN b C.2.2.2.2.2.2.1.1 C.2.2.2.2.2.2.1.2.1 (fG C)], [cN b C.2.2.2.2.2.2.2.1.1 C.2.2.2.2.2.2.2.1.2.1 (fH C)], [cN b C.2.2.2.2.2.2.2.2.1.1 C.2.2.2.2.2.2.2.2.1.2.1 (fD C)]] sz sl H lo := hw.re rfl
    refine r_aldn X (dat D_Circuit_and 65 rfl) rfl 4 rfl ?_
    refine r_dup X (dat D_Circuit_and 66 rfl) rfl ?_
    refine r_get X hw f_Circuit_46 (dat D_Circuit_and 67 rfl) 0 0 rfl rfl rfl ?_
    refine r_dup_x1 X (dat D_Circuit_and 68 rfl) rfl rfl ?_
    refine r_iconst (v := nI 1) X (dat D_Circuit_and 69 rfl) rfl ?_
    refine r_iadd (z := nI ((cV C) + 1)) X (dat D_Circuit_and 70 rfl) (nI_add _ _) ?_
    refine r_put (Ws' := [[cO h 2 [.ref C.1.1, .ref C.2.1.1, .int (nI (cU C)), .int (nI (cK C)), .int (nI ((cV C) + 1)), .ref C.2.2.1.1, .ref C.2.2.2.1.1, .ref C.2.2.2.2.1.1, .ref C.2.2.2.2.2.1.1, .ref C.2.2.2.2.2.2.1.1, .ref C.2.2.2.2.2.2.2.1.1, .ref C.2.2.2.2.2.2.2.2.1.1]], [cN b C.1.1 (lL C) (fL C)], [cN b C.2.1.1 (lS C) (fS C)], [cN b C.2.2.1.1 C.2.2.1.2.1 (fC C)], [cN b C.2.2.2.1.1 C.2.2.2.1.2.1 (fN C)], [cN b C.2.2.2.2.1.1 (lP C) C.2.2.2.2.1.2.2], [cN b C.2.2.2.2.2.1.1 (lF C) (fF C)], [cN b C.2.2.2.2.2.2.1.1 C.2.2.2.2.2.2.1.2.1 (fG C)], [cN b C.2.2.2.2.2.2.2.1.1 C.2.2.2.2.2.2.2.1.2.1 (fH C)], [cN b C.2.2.2.2.2.2.2.2.1.1 C.2.2.2.2.2.2.2.2.1.2.1 (fD C)]]) X hw f_Circuit_46 (dat D_Circuit_and 71 rfl) 0 0 rfl rfl rfl rfl rfl (Nat.le_of_ble_eq_true rfl) rfl (fun H lo hw => ?_)
    refine r_ist (L' := [(6, .int (nI (cV C))), (5, .int (nI hh)), (4, .int (nI qq)), (3, .int (nI pp)), (0, .ref h), (1, .int (nI a)), (2, .int (nI ic))]) X (dat D_Circuit_and 72 rfl) (by decide) rfl ?_
    have hw : Wd b BC BS sl s A [circW b h (setV C (cV C + 1))] sz sl H lo := hw.re rfl
    exact JG 65537 _ _ _ H lo (by omega) hf (grow_start hok0 hb) hw
  refine r_icmpeq (tgt := 32) X (nI_eq (by omega) (by omega)) (dat D_Circuit_and 10 rfl) rfl (fun hc1 => ?_) (fun hc1 => ?_)
  · exact JF H lo (Or.inl hc1) hw
  · refine r_ild X (dat D_Circuit_and 11 rfl) 0 rfl ?_
    refine r_iconst (v := nI 1) X (dat D_Circuit_and 12 rfl) rfl ?_
    refine r_icmpeq (tgt := 32) X (nI_eq (by omega) (by omega)) (dat D_Circuit_and 13 rfl) rfl (fun hc2 => ?_) (fun hc2 => ?_)
    · exact JF H lo (Or.inr (Or.inl hc2)) hw
    · have nq := ng_lt hq2
      refine r_ildn X (dat D_Circuit_and 14 rfl) rfl 1 rfl ?_
      refine r_ild X (dat D_Circuit_and 15 rfl) 0 rfl ?_
      refine r_iconst (v := nI 1) X (dat D_Circuit_and 16 rfl) rfl ?_
      refine r_ixor (z := nI (ng qq)) X (dat D_Circuit_and 17 rfl) (ngE _) ?_
      refine r_icmpne (tgt := 34) X (nI_eq (by omega) (by omega)) (dat D_Circuit_and 18 rfl) rfl (fun hc3 => ?_) (fun hc3 => ?_)
      · refine r_ildn X (dat D_Circuit_and 21 rfl) rfl 1 rfl ?_
        refine r_ifeq (tgt := 44) X (n0_eq (by omega)) (dat D_Circuit_and 22 rfl) rfl (fun hc4 => ?_) (fun hc4 => ?_)
        · exact JQ H lo (Or.inl hc4) hw
        · refine r_ildn X (dat D_Circuit_and 23 rfl) rfl 1 rfl ?_
          refine r_ild X (dat D_Circuit_and 24 rfl) 0 rfl ?_
          refine r_icmpne (tgt := 47) X (nI_eq (by omega) (by omega)) (dat D_Circuit_and 25 rfl) rfl (fun hc5 => ?_) (fun hc5 => ?_)
          · have hf : 2 ≤ pp ∧ pp < qq ∧ pp / 2 ≠ qq / 2 := ⟨by omega, by omega, fun e => by rcases half_eq e with e | e <;> contradiction⟩
            have e3 := h1.2.2.1
            have e4 := h1.2.2.2.1
            have e5 := h1.2.2.2.2.1
            have hhd := h11 hh hh7
            have hw : Wd b BC BS sl s A [[cO h 2 [.ref C.1.1, .ref C.2.1.1, .int (nI (cU C)), .int (nI (cK C)), .int (nI (cV C)), .ref C.2.2.1.1, .ref C.2.2.2.1.1, .ref C.2.2.2.2.1.1, .ref C.2.2.2.2.2.1.1, .ref C.2.2.2.2.2.2.1.1, .ref C.2.2.2.2.2.2.2.1.1, .ref C.2.2.2.2.2.2.2.2.1.1]], [cN b C.1.1 (lL C) (fL C)], [cN b C.2.1.1 (lS C) (fS C)], [cN b C.2.2.1.1 C.2.2.1.2.1 (fC C)], [cN b C.2.2.2.1.1 C.2.2.2.1.2.1 (fN C)], [cN b C.2.2.2.2.1.1 (lP C) C.2.2.2.2.1.2.2], [cN b C.2.2.2.2.2.1.1 (lF C) (fF C)], [cN b C.2.2.2.2.2.2.1.1 C.2.2.2.2.2.2.1.2.1 (fG C)], [cN b C.2.2.2.2.2.2.2.1.1 C.2.2.2.2.2.2.2.1.2.1 (fH C)], [cN b C.2.2.2.2.2.2.2.2.1.1 C.2.2.2.2.2.2.2.2.1.2.1 (fD C)]] sz sl H lo := hw.re rfl
            refine r_bipush (v := nI 31) X (dat D_Circuit_and 28 rfl) (by decide) ?_
            refine r_ildn X (dat D_Circuit_and 29 rfl) rfl 1 rfl ?_
            refine r_imul (z := nI (31 * pp)) X (dat D_Circuit_and 30 rfl) (pk_mul _ _) ?_
            refine r_ild X (dat D_Circuit_and 31 rfl) 0 rfl ?_
            refine r_iadd (z := nI ((31 * pp) + qq)) X (dat D_Circuit_and 32 rfl) (nI_add _ _) ?_
            refine r_sipush (v := nI 257) X (dat D_Circuit_and 33 rfl) (by decide) ?_
            refine r_irem (z := nI (((31 * pp) + qq) % 257)) X (dat D_Circuit_and 34 rfl) (nI_ne0 (by omega) (by omega)) (pk_rem (by omega) (by omega) (by omega)) ?_
            rw [hhh]
            refine r_ist (L' := [(5, .int (nI hh)), (4, .int (nI qq)), (3, .int (nI pp)), (0, .ref h), (1, .int (nI a)), (2, .int (nI ic))]) X (dat D_Circuit_and 35 rfl) (by decide) rfl ?_
            refine r_aldn X (dat D_Circuit_and 36 rfl) rfl 3 rfl ?_
            refine r_get X hw f_Circuit_36 (dat D_Circuit_and 37 rfl) 0 0 rfl rfl rfl ?_
            refine r_ild X (dat D_Circuit_and 38 rfl) 0 rfl ?_
            refine r_ialdN X hw (dat D_Circuit_and 39 rfl) 9 0 rfl rfl (by omega) (by omega) ?_
            refine r_ist (L' := [(6, .int (nI ((fD C) hh))), (5, .int (nI hh)), (4, .int (nI qq)), (3, .int (nI pp)), (0, .ref h), (1, .int (nI a)), (2, .int (nI ic))]) X (dat D_Circuit_and 40 rfl) (by decide) rfl ?_
            have JL : ∀ (NN : Nat) (g : Nat) (H : Heap) (lo : List Loc), g < NN → (g = 0 ∨ 16 ≤ g ∧ g < cV C) → Wd b BC BS sl s A [[cO h 2 [.ref C.1.1, .ref C.2.1.1, .int (nI (cU C)), .int (nI (cK C)), .int (nI (cV C)), .ref C.2.2.1.1, .ref C.2.2.2.1.1, .ref C.2.2.2.2.1.1, .ref C.2.2.2.2.2.1.1, .ref C.2.2.2.2.2.2.1.1, .ref C.2.2.2.2.2.2.2.1.1, .ref C.2.2.2.2.2.2.2.2.1.1]], [cN b C.1.1 (lL C) (fL C)], [cN b C.2.1.1 (lS C) (fS C)], [cN b C.2.2.1.1 C.2.2.1.2.1 (fC C)], [cN b C.2.2.2.1.1 C.2.2.2.1.2.1 (fN C)], [cN b C.2.2.2.2.1.1 (lP C) C.2.2.2.2.1.2.2], [cN b C.2.2.2.2.2.1.1 (lF C) (fF C)], [cN b C.2.2.2.2.2.2.1.1 C.2.2.2.2.2.2.1.2.1 (fG C)], [cN b C.2.2.2.2.2.2.2.1.1 C.2.2.2.2.2.2.2.1.2.1 (fH C)], [cN b C.2.2.2.2.2.2.2.2.1.1 C.2.2.2.2.2.2.2.2.1.2.1 (fD C)]] sz sl H lo → V p l e R s m args below meth c Q 7 H lo 69 [(6, .int (nI g)), (5, .int (nI hh)), (4, .int (nI qq)), (3, .int (nI pp)), (0, .ref h), (1, .int (nI a)), (2, .int (nI ic))] [] := by
              intro NN
              induction NN with
              | zero =>
                intro g H lo hNN
                exact absurd hNN (by omega)
              | succ NN ih =>
                intro g H lo hNN hgr hw
                refine r_ild X (dat D_Circuit_and 41 rfl) 0 rfl ?_
                refine r_ifeq (tgt := 114) X (n0_eq (by omega)) (dat D_Circuit_and 42 rfl) rfl (fun hc6 => ?_) (fun hc6 => ?_)
                · subst hc6
                  have hw : Wd b BC BS sl s A [circW b h C] sz sl H lo := hw.re rfl
                  exact JN H lo hf hw
                · have hg16 : 16 ≤ g ∧ g < cV C := by omega
                  have hgk1 := h8 g hg16.1 hg16.2
                  have hch1 := h12 g hg16.1 hg16.2
                  have JX : ∀  (H : Heap) (lo : List Loc), Wd b BC BS sl s A [[cO h 2 [.ref C.1.1, .ref C.2.1.1, .int (nI (cU C)), .int (nI (cK C)), .int (nI (cV C)), .ref C.2.2.1.1, .ref C.2.2.2.1.1, .ref C.2.2.2.2.1.1, .ref C.2.2.2.2.2.1.1, .ref C.2.2.2.2.2.2.1.1, .ref C.2.2.2.2.2.2.2.1.1, .ref C.2.2.2.2.2.2.2.2.1.1]], [cN b C.1.1 (lL C) (fL C)], [cN b C.2.1.1 (lS C) (fS C)], [cN b C.2.2.1.1 C.2.2.1.2.1 (fC C)], [cN b C.2.2.2.1.1 C.2.2.2.1.2.1 (fN C)], [cN b C.2.2.2.2.1.1 (lP C) C.2.2.2.2.1.2.2], [cN b C.2.2.2.2.2.1.1 (lF C) (fF C)], [cN b C.2.2.2.2.2.2.1.1 C.2.2.2.2.2.2.1.2.1 (fG C)], [cN b C.2.2.2.2.2.2.2.1.1 C.2.2.2.2.2.2.2.1.2.1 (fH C)], [cN b C.2.2.2.2.2.2.2.2.1.1 C.2.2.2.2.2.2.2.2.1.2.1 (fD C)]] sz sl H lo → V p l e R s m args below meth c Q 7 H lo 102 [(6, .int (nI g)), (5, .int (nI hh)), (4, .int (nI qq)), (3, .int (nI pp)), (0, .ref h), (1, .int (nI a)), (2, .int (nI ic))] [] := by
                    intro  H lo  hw
                    refine r_aldn X (dat D_Circuit_and 59 rfl) rfl 4 rfl ?_
                    refine r_get X hw f_Circuit_33 (dat D_Circuit_and 60 rfl) 0 0 rfl rfl rfl ?_
                    refine r_ild X (dat D_Circuit_and 61 rfl) 0 rfl ?_
                    refine r_ialdN X hw (dat D_Circuit_and 62 rfl) 8 0 rfl rfl (by omega) (by omega) ?_
                    refine r_ist (L' := [(6, .int (nI ((fH C) g))), (5, .int (nI hh)), (4, .int (nI qq)), (3, .int (nI pp)), (0, .ref h), (1, .int (nI a)), (2, .int (nI ic))]) X (dat D_Circuit_and 63 rfl) (by decide) rfl ?_
                    refine r_goto (tgt := 69) X (dat D_Circuit_and 64 rfl) rfl ?_
                    exact ih (fH C g) H lo (by omega) (by omega) hw
                  refine r_aldn X (dat D_Circuit_and 43 rfl) rfl 4 rfl ?_
                  refine r_get X hw f_Circuit_27 (dat D_Circuit_and 44 rfl) 0 0 rfl rfl rfl ?_
                  refine r_ild X (dat D_Circuit_and 45 rfl) 0 rfl ?_
                  refine r_ialdN X hw (dat D_Circuit_and 46 rfl) 6 0 rfl rfl (by omega) (by omega) ?_
                  refine r_ildn X (dat D_Circuit_and 47 rfl) rfl 3 rfl ?_
                  refine r_icmpne (tgt := 102) X (nI_eq (by omega) (by omega)) (dat D_Circuit_and 48 rfl) rfl (fun hc7 => ?_) (fun hc7 => ?_)
                  · exact JX H lo hw
                  · refine r_aldn X (dat D_Circuit_and 49 rfl) rfl 4 rfl ?_
                    refine r_get X hw f_Circuit_30 (dat D_Circuit_and 50 rfl) 0 0 rfl rfl rfl ?_
                    refine r_ild X (dat D_Circuit_and 51 rfl) 0 rfl ?_
                    refine r_ialdN X hw (dat D_Circuit_and 52 rfl) 7 0 rfl rfl (by omega) (by omega) ?_
                    refine r_ild X (dat D_Circuit_and 53 rfl) 2 rfl ?_
                    refine r_icmpne (tgt := 102) X (nI_eq (by omega) (by omega)) (dat D_Circuit_and 54 rfl) rfl (fun hc8 => ?_) (fun hc8 => ?_)
                    · exact JX H lo hw
                    · refine r_iconst (v := nI 2) X (dat D_Circuit_and 55 rfl) rfl ?_
                      refine r_ild X (dat D_Circuit_and 56 rfl) 0 rfl ?_
                      refine r_imul (z := nI (2 * g)) X (dat D_Circuit_and 57 rfl) (pk_mul _ _) ?_
                      have hw : Wd b BC BS sl s A [circW b h C] sz sl H lo := hw.re rfl
                      refine r_iret RT (dat D_Circuit_and 58 rfl) C ⟨2 * g, rfl, hok0, hb, Ext.refl _, Nat.le_succ _, by omega, fun al => ?_⟩ hw
                      have e9 := hsem _ (Ext.refl _) al
                      refine ((VL_gate h8 hg16.1 hg16.2 al).trans ?_).trans e9
                      rw [hc7, hc8]
            exact JL (fD C hh + 1) (fD C hh) H lo (by omega) hhd hw
          · exact JQ H lo (Or.inr hc5) hw
      · exact JF H lo (Or.inr (Or.inr hc3)) hw
set_option maxHeartbeats 4000000 in
set_option maxRecDepth 100000 in
theorem c_or (l : Launch) (b : BK) (BC BS sz sl : Nat) (h : Nat) (C : CT) (a ic : Nat) (P1 P2 : (Nat → Bool) → Bool) (B1 B2 : Nat) (hB1 : B1 ≤ BS) (hB2 : B2 ≤ BC) (hok : GateOK C) (hb : cBud B1 B2 C sz sl) (hv : cV C < 65536) (ha : Sem C a P1) (hc : Sem C ic P2) : Con l b y_Circuit_or b_Circuit_or 3 (some .int) 6 180 BC BS sz sl [.ref h, .int (nI a), .int (nI ic)] [circW b h C] (S := CT) (fun r sz' sl' C' => ∃ x, r = some (.int (nI x)) ∧ GateOK C' ∧ cBud B1 B2 C' sz' sl' ∧ Ext C C' ∧ cV C' ≤ cV C + 1 ∧ Sem C' x (fun al => P1 al || P2 al)) (fun C' => [circW b h C']) := by
  have hal := ha.1
  have hcl := hc.1
  have hq1 := hok.2.2.1
  have hq2 := hok.1.2.2.2.2.2.2.2.2.1.le
  have hna := ng_lt hal
  have hnc := ng_lt hcl
  refine con_of (L0 := [(0, .ref h), (1, .int (nI a)), (2, .int (nI ic))]) (by decide) (Nat.le_of_ble_eq_true rfl) rfl ?_
  intro p e R s m args below meth c Q A H lo X hini hw RT
  have X : Ctx p R s m args meth c b_Circuit_or 3 "LoopProver$Circuit" b BC BS sl 6 180 := X
  have hw : Wd b BC BS sl s A [circW b h C] sz sl H lo := hw
  refine r_aldn X (dat D_Circuit_or 0 rfl) rfl 0 rfl ?_
  refine r_ildn X (dat D_Circuit_or 1 rfl) rfl 1 rfl ?_
  refine r_iconst (v := nI 1) X (dat D_Circuit_or 2 rfl) rfl ?_
  refine r_ixor (z := nI (ng a)) X (dat D_Circuit_or 3 rfl) (ngE _) ?_
  refine r_ildn X (dat D_Circuit_or 4 rfl) rfl 2 rfl ?_
  refine r_iconst (v := nI 1) X (dat D_Circuit_or 5 rfl) rfl ?_
  refine r_ixor (z := nI (ng ic)) X (dat D_Circuit_or 6 rfl) (ngE _) ?_
  refine r_callV (NW := 1) (As := [.int (nI (ng a)), .int (nI (ng ic))]) (st := []) X hw m_Circuit_88 (c_and l b BC BS _ _ h C (ng a) (ng ic) (fun al => !P1 al) (fun al => !P2 al) B1 B2 hB1 hB2 hok hb hv ha.ng hc.ng) (dat D_Circuit_or 7 rfl) [0] [] rfl (by decide +kernel) rfl rfl (hw.recv X 0 0 rfl (circ0 b h C).choose_spec k_Circuit) rfl rfl (Nat.le_of_ble_eq_true rfl) ⟨by decide, by decide⟩ (fun r D sz_1 sl_1 H lo hp hw => ?_)
  obtain ⟨rx, rfl, rok, rb, re, rv, rs⟩ := hp
  refine r_st (st' := [.int (nI rx)]) rfl ?_
  have hw : Wd b BC BS sl s A [circW b h D] sz_1 sl_1 H lo := hw
  have re1 := re.1
  have r_l := rs.1
  have rq := rok.2.2.1
  have rq2 := rok.1.2.2.2.2.2.2.2.2.1.le
  refine r_iconst (v := nI 1) X (dat D_Circuit_or 8 rfl) rfl ?_
  refine r_ixor (z := nI (ng rx)) X (dat D_Circuit_or 9 rfl) (ngE _) ?_
  exact r_iret RT (dat D_Circuit_or 10 rfl) D ⟨ng rx, rfl, rok, rb, re, rv, rs.ng.cong (fun al => by cases P1 al <;> cases P2 al <;> rfl)⟩ hw
set_option maxHeartbeats 4000000 in
set_option maxRecDepth 100000 in
theorem c_differ (l : Launch) (b : BK) (BC BS sz sl : Nat) (h : Nat) (C : CT) (a ic : Nat) (P1 P2 : (Nat → Bool) → Bool) (B1 B2 : Nat) (hB1 : B1 ≤ BS) (hB2 : B2 ≤ BC) (hok : GateOK C) (hb : cBud B1 B2 C sz sl) (hv : cV C + 2 < 65536) (ha : Sem C a P1) (hc : Sem C ic P2) : Con l b y_Circuit_differ b_Circuit_differ 3 (some .int) 7 210 BC BS sz sl [.ref h, .int (nI a), .int (nI ic)] [circW b h C] (S := CT) (fun r sz' sl' C' => ∃ x, r = some (.int (nI x)) ∧ GateOK C' ∧ cBud B1 B2 C' sz' sl' ∧ Ext C C' ∧ cV C' ≤ cV C + 3 ∧ Sem C' x (fun al => P1 al ^^ P2 al)) (fun C' => [circW b h C']) := by
  have hal := ha.1
  have hcl := hc.1
  have hq1 := hok.2.2.1
  have hq2 := hok.1.2.2.2.2.2.2.2.2.1.le
  have hna := ng_lt hal
  have hnc := ng_lt hcl
  refine con_of (L0 := [(0, .ref h), (1, .int (nI a)), (2, .int (nI ic))]) (by decide) (Nat.le_of_ble_eq_true rfl) rfl ?_
  intro p e R s m args below meth c Q A H lo X hini hw RT
  have X : Ctx p R s m args meth c b_Circuit_differ 3 "LoopProver$Circuit" b BC BS sl 7 210 := X
  have hw : Wd b BC BS sl s A [circW b h C] sz sl H lo := hw
  refine r_aldn X (dat D_Circuit_differ 0 rfl) rfl 0 rfl ?_
  refine r_aldn X (dat D_Circuit_differ 1 rfl) rfl 0 rfl ?_
  refine r_ildn X (dat D_Circuit_differ 2 rfl) rfl 1 rfl ?_
  refine r_ildn X (dat D_Circuit_differ 3 rfl) rfl 2 rfl ?_
  refine r_iconst (v := nI 1) X (dat D_Circuit_differ 4 rfl) rfl ?_
  refine r_ixor (z := nI (ng ic)) X (dat D_Circuit_differ 5 rfl) (ngE _) ?_
  refine r_callV (NW := 1) (As := [.int (nI a), .int (nI (ng ic))]) (st := [.ref h]) X hw m_Circuit_88 (c_and l b BC BS _ _ h C a (ng ic) P1 (fun al => !P2 al) B1 B2 hB1 hB2 hok hb (by omega) ha hc.ng) (dat D_Circuit_differ 6 rfl) [0] [] rfl (by decide +kernel) rfl rfl (hw.recv X 0 0 rfl (circ0 b h C).choose_spec k_Circuit) rfl rfl (Nat.le_of_ble_eq_true rfl) ⟨by decide, by decide⟩ (fun r D sz_1 sl_1 H lo hp hw => ?_)
  obtain ⟨rx, rfl, rok, rb, re, rv, rs⟩ := hp
  refine r_st (st' := [.int (nI rx), .ref h]) rfl ?_
  have hw : Wd b BC BS sl s A [circW b h D] sz_1 sl_1 H lo := hw
  have re1 := re.1
  have r_l := rs.1
  have rq := rok.2.2.1
  have rq2 := rok.1.2.2.2.2.2.2.2.2.1.le
  refine r_aldn X (dat D_Circuit_differ 7 rfl) rfl 0 rfl ?_
  refine r_ildn X (dat D_Circuit_differ 8 rfl) rfl 1 rfl ?_
  refine r_iconst (v := nI 1) X (dat D_Circuit_differ 9 rfl) rfl ?_
  refine r_ixor (z := nI (ng a)) X (dat D_Circuit_differ 10 rfl) (ngE _) ?_
  refine r_ildn X (dat D_Circuit_differ 11 rfl) rfl 2 rfl ?_
  refine r_callV (NW := 1) (As := [.int (nI (ng a)), .int (nI ic)]) (st := [.int (nI rx), .ref h]) X hw m_Circuit_88 (c_and l b BC BS _ _ h D (ng a) ic (fun al => !P1 al) P2 B1 B2 hB1 hB2 rok rb (by omega) (ha.ng.ext re) (hc.ext re)) (dat D_Circuit_differ 12 rfl) [0] [] rfl (by decide +kernel) rfl rfl (hw.recv X 0 0 rfl (circ0 b h D).choose_spec k_Circuit) rfl rfl (Nat.le_of_ble_eq_true rfl) ⟨by decide, by decide⟩ (fun r D2 sz_2 sl_2 H lo hp hw => ?_)
  obtain ⟨sx, rfl, sok, sb, se, sv, ss⟩ := hp
  refine r_st (st' := [.int (nI sx), .int (nI rx), .ref h]) rfl ?_
  have hw : Wd b BC BS sl s A [circW b h D2] sz_2 sl_2 H lo := hw
  have se1 := se.1
  have s_l := ss.1
  have sq := sok.2.2.1
  have sq2 := sok.1.2.2.2.2.2.2.2.2.1.le
  refine r_callV (NW := 1) (As := [.int (nI rx), .int (nI sx)]) (st := []) X hw m_Circuit_91 (c_or l b BC BS _ _ h D2 rx sx (fun al => P1 al && !P2 al) (fun al => !P1 al && P2 al) B1 B2 hB1 hB2 sok sb (by omega) (rs.ext se) ss) (dat D_Circuit_differ 13 rfl) [0] [] rfl (by decide +kernel) rfl rfl (hw.recv X 0 0 rfl (circ0 b h D2).choose_spec k_Circuit) rfl rfl (Nat.le_of_ble_eq_true rfl) ⟨by decide, by decide⟩ (fun r D3 sz_3 sl_3 H lo hp hw => ?_)
  obtain ⟨tx, rfl, tok, tb, te, tv, ts⟩ := hp
  refine r_st (st' := [.int (nI tx)]) rfl ?_
  have hw : Wd b BC BS sl s A [circW b h D3] sz_3 sl_3 H lo := hw
  have te1 := te.1
  have t_l := ts.1
  have tq := tok.2.2.1
  have tq2 := tok.1.2.2.2.2.2.2.2.2.1.le
  exact r_iret RT (dat D_Circuit_differ 14 rfl) D3 ⟨tx, rfl, tok, tb, (re.trans se).trans te, by omega, ts.cong (fun al => by cases P1 al <;> cases P2 al <;> rfl)⟩ hw
set_option maxHeartbeats 4000000 in
set_option maxRecDepth 100000 in
theorem c_either (l : Launch) (b : BK) (BC BS sz sl : Nat) (h : Nat) (C : CT) (t a ic : Nat) (P0 P1 P2 : (Nat → Bool) → Bool) (B1 B2 : Nat) (hB1 : B1 ≤ BS) (hB2 : B2 ≤ BC) (hok : GateOK C) (hb : cBud B1 B2 C sz sl) (hv : cV C + 2 < 65536) (ha : Sem C a P1) (hc : Sem C ic P2) (ht : Sem C t P0) : Con l b y_Circuit_either b_Circuit_either 4 (some .int) 7 210 BC BS sz sl [.ref h, .int (nI t), .int (nI a), .int (nI ic)] [circW b h C] (S := CT) (fun r sz' sl' C' => ∃ x, r = some (.int (nI x)) ∧ GateOK C' ∧ cBud B1 B2 C' sz' sl' ∧ Ext C C' ∧ cV C' ≤ cV C + 3 ∧ Sem C' x (fun al => if P0 al then P1 al else P2 al)) (fun C' => [circW b h C']) := by
  have hal := ha.1
  have hcl := hc.1
  have hq1 := hok.2.2.1
  have hq2 := hok.1.2.2.2.2.2.2.2.2.1.le
  have hna := ng_lt hal
  have hnc := ng_lt hcl
  have htl := ht.1
  have hnt := ng_lt htl
  refine con_of (L0 := [(0, .ref h), (1, .int (nI t)), (2, .int (nI a)), (3, .int (nI ic))]) (by decide) (Nat.le_of_ble_eq_true rfl) rfl ?_
  intro p e R s m args below meth c Q A H lo X hini hw RT
  have X : Ctx p R s m args meth c b_Circuit_either 4 "LoopProver$Circuit" b BC BS sl 7 210 := X
  have hw : Wd b BC BS sl s A [circW b h C] sz sl H lo := hw
  refine r_ildn X (dat D_Circuit_either 0 rfl) rfl 2 rfl ?_
  refine r_ildn X (dat D_Circuit_either 1 rfl) rfl 3 rfl ?_
  refine r_icmpne (tgt := 9) X (nI_eq (by omega) (by omega)) (dat D_Circuit_either 2 rfl) rfl (fun hc1 => ?_) (fun hc1 => ?_)
  · refine r_aldn X (dat D_Circuit_either 5 rfl) rfl 0 rfl ?_
    refine r_aldn X (dat D_Circuit_either 6 rfl) rfl 0 rfl ?_
    refine r_ildn X (dat D_Circuit_either 7 rfl) rfl 1 rfl ?_
    refine r_ildn X (dat D_Circuit_either 8 rfl) rfl 2 rfl ?_
    refine r_callV (NW := 1) (As := [.int (nI t), .int (nI a)]) (st := [.ref h]) X hw m_Circuit_88 (c_and l b BC BS _ _ h C t a P0 P1 B1 B2 hB1 hB2 hok hb (by omega) ht ha) (dat D_Circuit_either 9 rfl) [0] [] rfl (by decide +kernel) rfl rfl (hw.recv X 0 0 rfl (circ0 b h C).choose_spec k_Circuit) rfl rfl (Nat.le_of_ble_eq_true rfl) ⟨by decide, by decide⟩ (fun r D sz_1 sl_1 H lo hp hw => ?_)
    obtain ⟨rx, rfl, rok, rb, re, rv, rs⟩ := hp
    refine r_st (st' := [.int (nI rx), .ref h]) rfl ?_
    have hw : Wd b BC BS sl s A [circW b h D] sz_1 sl_1 H lo := hw
    have re1 := re.1
    have r_l := rs.1
    have rq := rok.2.2.1
    have rq2 := rok.1.2.2.2.2.2.2.2.2.1.le
    refine r_aldn X (dat D_Circuit_either 10 rfl) rfl 0 rfl ?_
    refine r_ildn X (dat D_Circuit_either 11 rfl) rfl 1 rfl ?_
    refine r_iconst (v := nI 1) X (dat D_Circuit_either 12 rfl) rfl ?_
    refine r_ixor (z := nI (ng t)) X (dat D_Circuit_either 13 rfl) (ngE _) ?_
    refine r_ildn X (dat D_Circuit_either 14 rfl) rfl 3 rfl ?_
    refine r_callV (NW := 1) (As := [.int (nI (ng t)), .int (nI ic)]) (st := [.int (nI rx), .ref h]) X hw m_Circuit_88 (c_and l b BC BS _ _ h D (ng t) ic (fun al => !P0 al) P2 B1 B2 hB1 hB2 rok rb (by omega) (ht.ng.ext re) (hc.ext re)) (dat D_Circuit_either 15 rfl) [0] [] rfl (by decide +kernel) rfl rfl (hw.recv X 0 0 rfl (circ0 b h D).choose_spec k_Circuit) rfl rfl (Nat.le_of_ble_eq_true rfl) ⟨by decide, by decide⟩ (fun r D2 sz_2 sl_2 H lo hp hw => ?_)
    obtain ⟨sx, rfl, sok, sb, se, sv, ss⟩ := hp
    refine r_st (st' := [.int (nI sx), .int (nI rx), .ref h]) rfl ?_
    have hw : Wd b BC BS sl s A [circW b h D2] sz_2 sl_2 H lo := hw
    have se1 := se.1
    have s_l := ss.1
    have sq := sok.2.2.1
    have sq2 := sok.1.2.2.2.2.2.2.2.2.1.le
    refine r_callV (NW := 1) (As := [.int (nI rx), .int (nI sx)]) (st := []) X hw m_Circuit_91 (c_or l b BC BS _ _ h D2 rx sx (fun al => P0 al && P1 al) (fun al => !P0 al && P2 al) B1 B2 hB1 hB2 sok sb (by omega) (rs.ext se) ss) (dat D_Circuit_either 16 rfl) [0] [] rfl (by decide +kernel) rfl rfl (hw.recv X 0 0 rfl (circ0 b h D2).choose_spec k_Circuit) rfl rfl (Nat.le_of_ble_eq_true rfl) ⟨by decide, by decide⟩ (fun r D3 sz_3 sl_3 H lo hp hw => ?_)
    obtain ⟨zx, rfl, zok, zb, ze, zv, zs⟩ := hp
    refine r_st (st' := [.int (nI zx)]) rfl ?_
    have hw : Wd b BC BS sl s A [circW b h D3] sz_3 sl_3 H lo := hw
    have ze1 := ze.1
    have z_l := zs.1
    have zq := zok.2.2.1
    have zq2 := zok.1.2.2.2.2.2.2.2.2.1.le
    exact r_iret RT (dat D_Circuit_either 17 rfl) D3 ⟨zx, rfl, zok, zb, (re.trans se).trans ze, by omega, zs.cong (fun al => by cases P0 al <;> cases P1 al <;> cases P2 al <;> rfl)⟩ hw
  · refine r_ildn X (dat D_Circuit_either 3 rfl) rfl 2 rfl ?_
    refine r_goto (tgt := 27) X (dat D_Circuit_either 4 rfl) rfl ?_
    exact r_iret RT (dat D_Circuit_either 17 rfl) C ⟨a, rfl, hok, hb, Ext.refl C, by omega, ha.cong (fun al => by
      have e := hc.2 al
      rw [← hc1, ha.2 al] at e
      rw [e]
      split <;> rfl)⟩ hw
end
section
/-! NODES: their picture, their values -/
/-- what a node of kind K works out of its two numbers in a state -/
def wk (K p q : Nat) (st : Nat → Nat) : Nat := if K = 0 then p else if K = 1 then st p else if K = 2 then st (3 + p % 2) else if K = 3 then (p + q) % 8 else if K = 4 then (p + 8 - q) % 8 else if K = 5 then p &&& q else if K = 6 then (if p < q then 1 else 0) else if K = 7 then (if p = q then 1 else 0) else if K = 8 then 1 - p else p * q
def ndP (K NA : Nat) : Int := if K ≤ 1 then -1 else NA
def ndQ (K NB : Nat) : Int := if K ≤ 2 then -1 else if K = 8 then -1 else NB
def ciK (K : Nat) : Nat := if K = 0 then 9 else if K = 1 then 10 else if K = 2 then 11 else if K = 3 then 12 else if K = 4 then 12 else if K = 5 then 13 else if K = 6 then 14 else if K = 7 then 15 else if K = 8 then 16 else 17
def fsK (k K NA NB : Nat) : List Value := .int (nI k) :: .int (iI (ndP K NA)) :: .int (iI (ndQ K NB)) :: (if K = 0 then [.int (nI NA)] else if K = 1 then [.int (nI NA)] else if K = 3 then [.int (bI false)] else if K = 4 then [.int (bI true)] else [])
def nodeC (a k K NA NB : Nat) : Nat × va_E := (a, .inr (ciK K, fsK k K NA NB))
/-- a node's first and second number: of a node before it, or its own -/
def pv (K NA : Nat) (vf : Nat → Nat) : Nat := if 1 < K then vf NA else NA
def qv (K NB : Nat) (vf : Nat → Nat) : Nat := if 2 < K ∧ K ≠ 8 then vf NB else 0
theorem and7 : ∀ x : Nat, x &&& 7 = x % 8 := fun x => Nat.and_two_pow_sub_one_eq_mod x 3
theorem sub7 {p q : Nat} (hp : p < 8) (hq : q < 8) : (nI p - nI q) &&& nI 7 = nI ((p + 8 - q) % 8) := by
  have h : ∀ p q : Fin 8, (nI p.val - nI q.val) &&& nI 7 = nI ((p.val + 8 - q.val) % 8) := by decide
  exact h ⟨p, hp⟩ ⟨q, hq⟩
theorem and1 {p q : Nat} (hp : p ≤ 1) (hq : q ≤ 1) : p &&& q = p * q := by
  have h : ∀ p q : Fin 2, p.val &&& q.val = p.val * q.val := by decide
  exact h ⟨p, by omega⟩ ⟨q, by omega⟩
set_option maxHeartbeats 4000000 in
set_option maxRecDepth 100000 in
theorem c_of_0 (l : Launch) (b : BK) (BC BS sz sl : Nat) (a k NA NB sa va : Nat) (st vf : Nat → Nat) (hA : NA < 8) : Con l b y_Constant_of b_Constant_of 3 (some .int) 0 0 BC BS sz sl [.ref a, .ref sa, .ref va] [[nodeC a k 0 NA NB], [cN b sa 5 st], [cN b va 60 vf]] (S := Unit) (fun r sz' sl' _ => r = some (.int (nI (wk 0 (pv 0 NA vf) (qv 0 NB vf) st))) ∧ sz = sz' ∧ sl = sl') (fun _ => [[nodeC a k 0 NA NB], [cN b sa 5 st], [cN b va 60 vf]]) := by
  refine con_of (L0 := [(0, .ref a), (1, .ref sa), (2, .ref va)]) (by decide) (Nat.le_of_ble_eq_true rfl) rfl ?_
  intro p e R s m args below meth c Q A H lo X hini hw RT
  have X : Ctx p R s m args meth c b_Constant_of 3 "LoopProver$Constant" b BC BS sl 0 0 := X
  have hw : Wd b BC BS sl s A [[cO a 9 [.int (nI k), .int (iI (-1)), .int (iI (-1)), .int (nI NA)]], [cN b sa 5 st], [cN b va 60 vf]] sz sl H lo := hw
  refine r_aldn X (dat D_Constant_of 0 rfl) rfl 0 rfl ?_
  refine r_get X hw f_Constant_9 (dat D_Constant_of 1 rfl) 0 0 rfl rfl rfl ?_
  exact r_iret RT (dat D_Constant_of 2 rfl) () ⟨rfl, rfl, rfl⟩ hw
set_option maxHeartbeats 4000000 in
set_option maxRecDepth 100000 in
theorem c_of_1 (l : Launch) (b : BK) (BC BS sz sl : Nat) (a k NA NB sa va : Nat) (st vf : Nat → Nat) (hA : NA < 3) : Con l b y_Variable_of b_Variable_of 3 (some .int) 0 0 BC BS sz sl [.ref a, .ref sa, .ref va] [[nodeC a k 1 NA NB], [cN b sa 5 st], [cN b va 60 vf]] (S := Unit) (fun r sz' sl' _ => r = some (.int (nI (wk 1 (pv 1 NA vf) (qv 1 NB vf) st))) ∧ sz = sz' ∧ sl = sl') (fun _ => [[nodeC a k 1 NA NB], [cN b sa 5 st], [cN b va 60 vf]]) := by
  refine con_of (L0 := [(0, .ref a), (1, .ref sa), (2, .ref va)]) (by decide) (Nat.le_of_ble_eq_true rfl) rfl ?_
  intro p e R s m args below meth c Q A H lo X hini hw RT
  have X : Ctx p R s m args meth c b_Variable_of 3 "LoopProver$Variable" b BC BS sl 0 0 := X
  have hw : Wd b BC BS sl s A [[cO a 10 [.int (nI k), .int (iI (-1)), .int (iI (-1)), .int (nI NA)]], [cN b sa 5 st], [cN b va 60 vf]] sz sl H lo := hw
  refine r_aldn X (dat D_Variable_of 0 rfl) rfl 1 rfl ?_
  refine r_aldn X (dat D_Variable_of 1 rfl) rfl 0 rfl ?_
  refine r_get X hw f_Variable_9 (dat D_Variable_of 2 rfl) 0 0 rfl rfl rfl ?_
  refine r_ialdN X hw (dat D_Variable_of 3 rfl) 1 0 rfl rfl (by omega) (by omega) ?_
  exact r_iret RT (dat D_Variable_of 4 rfl) () ⟨rfl, rfl, rfl⟩ hw
set_option maxHeartbeats 4000000 in
set_option maxRecDepth 100000 in
theorem c_of_2 (l : Launch) (b : BK) (BC BS sz sl : Nat) (a k NA NB sa va : Nat) (st vf : Nat → Nat) (hA : NA < 60) (hv : vf NA < 8) : Con l b y_Read_of b_Read_of 3 (some .int) 0 0 BC BS sz sl [.ref a, .ref sa, .ref va] [[nodeC a k 2 NA NB], [cN b sa 5 st], [cN b va 60 vf]] (S := Unit) (fun r sz' sl' _ => r = some (.int (nI (wk 2 (pv 2 NA vf) (qv 2 NB vf) st))) ∧ sz = sz' ∧ sl = sl') (fun _ => [[nodeC a k 2 NA NB], [cN b sa 5 st], [cN b va 60 vf]]) := by
  refine con_of (L0 := [(0, .ref a), (1, .ref sa), (2, .ref va)]) (by decide) (Nat.le_of_ble_eq_true rfl) rfl ?_
  intro p e R s m args below meth c Q A H lo X hini hw RT
  have X : Ctx p R s m args meth c b_Read_of 3 "LoopProver$Read" b BC BS sl 0 0 := X
  have hw : Wd b BC BS sl s A [[cO a 11 [.int (nI k), .int (iI (NA : Int)), .int (iI (-1))]], [cN b sa 5 st], [cN b va 60 vf]] sz sl H lo := hw
  refine r_aldn X (dat D_Read_of 0 rfl) rfl 1 rfl ?_
  refine r_iconst (v := nI 3) X (dat D_Read_of 1 rfl) rfl ?_
  refine r_aldn X (dat D_Read_of 2 rfl) rfl 2 rfl ?_
  refine r_aldn X (dat D_Read_of 3 rfl) rfl 0 rfl ?_
  refine r_get X hw f_Read_9 (dat D_Read_of 4 rfl) 0 0 rfl rfl rfl ?_
  refine r_st (st' := [.int (nI NA), .ref va, .int (nI 3), .ref sa]) (rfl) ?_
  refine r_ialdN X hw (dat D_Read_of 5 rfl) 2 0 rfl rfl (by omega) (by omega) ?_
  refine r_iconst (v := nI 2) X (dat D_Read_of 6 rfl) rfl ?_
  refine r_irem (z := nI ((vf NA) % 2)) X (dat D_Read_of 7 rfl) (nI_ne0 (by omega) (by omega)) (pk_rem (by omega) (by omega) (by omega)) ?_
  refine r_iadd (z := nI (3 + ((vf NA) % 2))) X (dat D_Read_of 8 rfl) (nI_add _ _) ?_
  refine r_ialdN X hw (dat D_Read_of 9 rfl) 1 0 rfl rfl (by omega) (by omega) ?_
  exact r_iret RT (dat D_Read_of 10 rfl) () ⟨rfl, rfl, rfl⟩ hw
set_option maxHeartbeats 4000000 in
set_option maxRecDepth 100000 in
theorem c_of_3 (l : Launch) (b : BK) (BC BS sz sl : Nat) (a k NA NB sa va : Nat) (st vf : Nat → Nat) (hA : NA < 60) (hB : NB < 60) (hv : vf NA < 8 ∧ vf NB < 8) : Con l b y_Sum_of b_Sum_of 3 (some .int) 0 0 BC BS sz sl [.ref a, .ref sa, .ref va] [[nodeC a k 3 NA NB], [cN b sa 5 st], [cN b va 60 vf]] (S := Unit) (fun r sz' sl' _ => r = some (.int (nI (wk 3 (pv 3 NA vf) (qv 3 NB vf) st))) ∧ sz = sz' ∧ sl = sl') (fun _ => [[nodeC a k 3 NA NB], [cN b sa 5 st], [cN b va 60 vf]]) := by
  refine con_of (L0 := [(0, .ref a), (1, .ref sa), (2, .ref va)]) (by decide) (Nat.le_of_ble_eq_true rfl) rfl ?_
  intro p e R s m args below meth c Q A H lo X hini hw RT
  have X : Ctx p R s m args meth c b_Sum_of 3 "LoopProver$Sum" b BC BS sl 0 0 := X
  have hw : Wd b BC BS sl s A [[cO a 12 [.int (nI k), .int (iI (NA : Int)), .int (iI (NB : Int)), .int (bI false)]], [cN b sa 5 st], [cN b va 60 vf]] sz sl H lo := hw
  refine r_aldn X (dat D_Sum_of 0 rfl) rfl 0 rfl ?_
  refine r_get X hw f_Sum_9 (dat D_Sum_of 1 rfl) 0 0 rfl rfl rfl ?_
  refine r_ifeq (tgt := 23) X (b0_eq _) (dat D_Sum_of 2 rfl) rfl (fun hc => ?_) (fun hc => ?_)
  · refine r_aldn X (dat D_Sum_of 13 rfl) rfl 2 rfl ?_
    refine r_aldn X (dat D_Sum_of 14 rfl) rfl 0 rfl ?_
    refine r_get X hw f_Sum_15 (dat D_Sum_of 15 rfl) 0 0 rfl rfl rfl ?_
    refine r_st (st' := [.int (nI NA), .ref va]) (rfl) ?_
    refine r_ialdN X hw (dat D_Sum_of 16 rfl) 2 0 rfl rfl (by omega) (by omega) ?_
    refine r_aldn X (dat D_Sum_of 17 rfl) rfl 2 rfl ?_
    refine r_aldn X (dat D_Sum_of 18 rfl) rfl 0 rfl ?_
    refine r_get X hw f_Sum_19 (dat D_Sum_of 19 rfl) 0 0 rfl rfl rfl ?_
    refine r_st (st' := [.int (nI NB), .ref va, .int (nI (vf NA))]) (rfl) ?_
    refine r_ialdN X hw (dat D_Sum_of 20 rfl) 2 0 rfl rfl (by omega) (by omega) ?_
    refine r_iadd (z := nI ((vf NA) + (vf NB))) X (dat D_Sum_of 21 rfl) (nI_add _ _) ?_
    refine r_bipush (v := nI 7) X (dat D_Sum_of 22 rfl) (by decide) ?_
    refine r_iand (z := nI (((vf NA) + (vf NB)) &&& 7)) X (dat D_Sum_of 23 rfl) (nx_and _ _) ?_
    exact r_iret RT (dat D_Sum_of 24 rfl) () ⟨by show some (Value.int (nI ((vf NA + vf NB) &&& 7))) = _; rw [and7]; rfl, rfl, rfl⟩ hw
  · exact absurd rfl hc
set_option maxHeartbeats 4000000 in
set_option maxRecDepth 100000 in
theorem c_of_4 (l : Launch) (b : BK) (BC BS sz sl : Nat) (a k NA NB sa va : Nat) (st vf : Nat → Nat) (hA : NA < 60) (hB : NB < 60) (hv : vf NA < 8 ∧ vf NB < 8) : Con l b y_Sum_of b_Sum_of 3 (some .int) 0 0 BC BS sz sl [.ref a, .ref sa, .ref va] [[nodeC a k 4 NA NB], [cN b sa 5 st], [cN b va 60 vf]] (S := Unit) (fun r sz' sl' _ => r = some (.int (nI (wk 4 (pv 4 NA vf) (qv 4 NB vf) st))) ∧ sz = sz' ∧ sl = sl') (fun _ => [[nodeC a k 4 NA NB], [cN b sa 5 st], [cN b va 60 vf]]) := by
  refine con_of (L0 := [(0, .ref a), (1, .ref sa), (2, .ref va)]) (by decide) (Nat.le_of_ble_eq_true rfl) rfl ?_
  intro p e R s m args below meth c Q A H lo X hini hw RT
  have X : Ctx p R s m args meth c b_Sum_of 3 "LoopProver$Sum" b BC BS sl 0 0 := X
  have hw : Wd b BC BS sl s A [[cO a 12 [.int (nI k), .int (iI (NA : Int)), .int (iI (NB : Int)), .int (bI true)]], [cN b sa 5 st], [cN b va 60 vf]] sz sl H lo := hw
  refine r_aldn X (dat D_Sum_of 0 rfl) rfl 0 rfl ?_
  refine r_get X hw f_Sum_9 (dat D_Sum_of 1 rfl) 0 0 rfl rfl rfl ?_
  refine r_ifeq (tgt := 23) X (b0_eq _) (dat D_Sum_of 2 rfl) rfl (fun hc => ?_) (fun hc => ?_)
  · exact absurd hc (by decide)
  · refine r_aldn X (dat D_Sum_of 3 rfl) rfl 2 rfl ?_
    refine r_aldn X (dat D_Sum_of 4 rfl) rfl 0 rfl ?_
    refine r_get X hw f_Sum_15 (dat D_Sum_of 5 rfl) 0 0 rfl rfl rfl ?_
    refine r_st (st' := [.int (nI NA), .ref va]) (rfl) ?_
    refine r_ialdN X hw (dat D_Sum_of 6 rfl) 2 0 rfl rfl (by omega) (by omega) ?_
    refine r_aldn X (dat D_Sum_of 7 rfl) rfl 2 rfl ?_
    refine r_aldn X (dat D_Sum_of 8 rfl) rfl 0 rfl ?_
    refine r_get X hw f_Sum_19 (dat D_Sum_of 9 rfl) 0 0 rfl rfl rfl ?_
    refine r_st (st' := [.int (nI NB), .ref va, .int (nI (vf NA))]) (rfl) ?_
    refine r_ialdN X hw (dat D_Sum_of 10 rfl) 2 0 rfl rfl (by omega) (by omega) ?_
    refine r_isub X (dat D_Sum_of 11 rfl) rfl ?_
    refine r_goto (tgt := 36) X (dat D_Sum_of 12 rfl) rfl ?_
    refine r_bipush (v := nI 7) X (dat D_Sum_of 22 rfl) (by decide) ?_
    refine r_iand (z := nI ((vf NA + 8 - vf NB) % 8)) X (dat D_Sum_of 23 rfl) (sub7 hv.1 hv.2) ?_
    exact r_iret RT (dat D_Sum_of 24 rfl) () ⟨rfl, rfl, rfl⟩ hw
set_option maxHeartbeats 4000000 in
set_option maxRecDepth 100000 in
theorem c_of_5 (l : Launch) (b : BK) (BC BS sz sl : Nat) (a k NA NB sa va : Nat) (st vf : Nat → Nat) (hA : NA < 60) (hB : NB < 60) (hv : vf NA < 8 ∧ vf NB < 8) : Con l b y_Meet_of b_Meet_of 3 (some .int) 0 0 BC BS sz sl [.ref a, .ref sa, .ref va] [[nodeC a k 5 NA NB], [cN b sa 5 st], [cN b va 60 vf]] (S := Unit) (fun r sz' sl' _ => r = some (.int (nI (wk 5 (pv 5 NA vf) (qv 5 NB vf) st))) ∧ sz = sz' ∧ sl = sl') (fun _ => [[nodeC a k 5 NA NB], [cN b sa 5 st], [cN b va 60 vf]]) := by
  refine con_of (L0 := [(0, .ref a), (1, .ref sa), (2, .ref va)]) (by decide) (Nat.le_of_ble_eq_true rfl) rfl ?_
  intro p e R s m args below meth c Q A H lo X hini hw RT
  have X : Ctx p R s m args meth c b_Meet_of 3 "LoopProver$Meet" b BC BS sl 0 0 := X
  have hw : Wd b BC BS sl s A [[cO a 13 [.int (nI k), .int (iI (NA : Int)), .int (iI (NB : Int))]], [cN b sa 5 st], [cN b va 60 vf]] sz sl H lo := hw
  refine r_aldn X (dat D_Meet_of 0 rfl) rfl 2 rfl ?_
  refine r_aldn X (dat D_Meet_of 1 rfl) rfl 0 rfl ?_
  refine r_get X hw f_Meet_9 (dat D_Meet_of 2 rfl) 0 0 rfl rfl rfl ?_
  refine r_st (st' := [.int (nI NA), .ref va]) (rfl) ?_
  refine r_ialdN X hw (dat D_Meet_of 3 rfl) 2 0 rfl rfl (by omega) (by omega) ?_
  refine r_aldn X (dat D_Meet_of 4 rfl) rfl 2 rfl ?_
  refine r_aldn X (dat D_Meet_of 5 rfl) rfl 0 rfl ?_
  refine r_get X hw f_Meet_15 (dat D_Meet_of 6 rfl) 0 0 rfl rfl rfl ?_
  refine r_st (st' := [.int (nI NB), .ref va, .int (nI (vf NA))]) (rfl) ?_
  refine r_ialdN X hw (dat D_Meet_of 7 rfl) 2 0 rfl rfl (by omega) (by omega) ?_
  refine r_iand (z := nI ((vf NA) &&& (vf NB))) X (dat D_Meet_of 8 rfl) (nx_and _ _) ?_
  exact r_iret RT (dat D_Meet_of 9 rfl) () ⟨rfl, rfl, rfl⟩ hw
set_option maxHeartbeats 4000000 in
set_option maxRecDepth 100000 in
theorem c_of_6 (l : Launch) (b : BK) (BC BS sz sl : Nat) (a k NA NB sa va : Nat) (st vf : Nat → Nat) (hA : NA < 60) (hB : NB < 60) (hv : vf NA < 8 ∧ vf NB < 8) : Con l b y_Below_of b_Below_of 3 (some .int) 0 0 BC BS sz sl [.ref a, .ref sa, .ref va] [[nodeC a k 6 NA NB], [cN b sa 5 st], [cN b va 60 vf]] (S := Unit) (fun r sz' sl' _ => r = some (.int (nI (wk 6 (pv 6 NA vf) (qv 6 NB vf) st))) ∧ sz = sz' ∧ sl = sl') (fun _ => [[nodeC a k 6 NA NB], [cN b sa 5 st], [cN b va 60 vf]]) := by
  refine con_of (L0 := [(0, .ref a), (1, .ref sa), (2, .ref va)]) (by decide) (Nat.le_of_ble_eq_true rfl) rfl ?_
  intro p e R s m args below meth c Q A H lo X hini hw RT
  have X : Ctx p R s m args meth c b_Below_of 3 "LoopProver$Below" b BC BS sl 0 0 := X
  have hw : Wd b BC BS sl s A [[cO a 14 [.int (nI k), .int (iI (NA : Int)), .int (iI (NB : Int))]], [cN b sa 5 st], [cN b va 60 vf]] sz sl H lo := hw
  refine r_aldn X (dat D_Below_of 0 rfl) rfl 2 rfl ?_
  refine r_aldn X (dat D_Below_of 1 rfl) rfl 0 rfl ?_
  refine r_get X hw f_Below_9 (dat D_Below_of 2 rfl) 0 0 rfl rfl rfl ?_
  refine r_st (st' := [.int (nI NA), .ref va]) (rfl) ?_
  refine r_ialdN X hw (dat D_Below_of 3 rfl) 2 0 rfl rfl (by omega) (by omega) ?_
  refine r_aldn X (dat D_Below_of 4 rfl) rfl 2 rfl ?_
  refine r_aldn X (dat D_Below_of 5 rfl) rfl 0 rfl ?_
  refine r_get X hw f_Below_15 (dat D_Below_of 6 rfl) 0 0 rfl rfl rfl ?_
  refine r_st (st' := [.int (nI NB), .ref va, .int (nI (vf NA))]) (rfl) ?_
  refine r_ialdN X hw (dat D_Below_of 7 rfl) 2 0 rfl rfl (by omega) (by omega) ?_
  refine r_icmpge (tgt := 19) X (nI_leI (by omega) (by omega)) (dat D_Below_of 8 rfl) rfl (fun hc => ?_) (fun hc => ?_)
  · refine r_iconst (v := nI 0) X (dat D_Below_of 11 rfl) rfl ?_
    exact r_iret RT (dat D_Below_of 12 rfl) () ⟨by show some (Value.int (nI 0)) = some (.int (nI (if vf NA < vf NB then 1 else 0))); rw [if_neg (by omega)], rfl, rfl⟩ hw
  · refine r_iconst (v := nI 1) X (dat D_Below_of 9 rfl) rfl ?_
    refine r_goto (tgt := 20) X (dat D_Below_of 10 rfl) rfl ?_
    exact r_iret RT (dat D_Below_of 12 rfl) () ⟨by show some (Value.int (nI 1)) = some (.int (nI (if vf NA < vf NB then 1 else 0))); rw [if_pos (by omega)], rfl, rfl⟩ hw
set_option maxHeartbeats 4000000 in
set_option maxRecDepth 100000 in
theorem c_of_7 (l : Launch) (b : BK) (BC BS sz sl : Nat) (a k NA NB sa va : Nat) (st vf : Nat → Nat) (hA : NA < 60) (hB : NB < 60) (hv : vf NA < 8 ∧ vf NB < 8) : Con l b y_Same_of b_Same_of 3 (some .int) 0 0 BC BS sz sl [.ref a, .ref sa, .ref va] [[nodeC a k 7 NA NB], [cN b sa 5 st], [cN b va 60 vf]] (S := Unit) (fun r sz' sl' _ => r = some (.int (nI (wk 7 (pv 7 NA vf) (qv 7 NB vf) st))) ∧ sz = sz' ∧ sl = sl') (fun _ => [[nodeC a k 7 NA NB], [cN b sa 5 st], [cN b va 60 vf]]) := by
  refine con_of (L0 := [(0, .ref a), (1, .ref sa), (2, .ref va)]) (by decide) (Nat.le_of_ble_eq_true rfl) rfl ?_
  intro p e R s m args below meth c Q A H lo X hini hw RT
  have X : Ctx p R s m args meth c b_Same_of 3 "LoopProver$Same" b BC BS sl 0 0 := X
  have hw : Wd b BC BS sl s A [[cO a 15 [.int (nI k), .int (iI (NA : Int)), .int (iI (NB : Int))]], [cN b sa 5 st], [cN b va 60 vf]] sz sl H lo := hw
  refine r_aldn X (dat D_Same_of 0 rfl) rfl 2 rfl ?_
  refine r_aldn X (dat D_Same_of 1 rfl) rfl 0 rfl ?_
  refine r_get X hw f_Same_9 (dat D_Same_of 2 rfl) 0 0 rfl rfl rfl ?_
  refine r_st (st' := [.int (nI NA), .ref va]) (rfl) ?_
  refine r_ialdN X hw (dat D_Same_of 3 rfl) 2 0 rfl rfl (by omega) (by omega) ?_
  refine r_aldn X (dat D_Same_of 4 rfl) rfl 2 rfl ?_
  refine r_aldn X (dat D_Same_of 5 rfl) rfl 0 rfl ?_
  refine r_get X hw f_Same_15 (dat D_Same_of 6 rfl) 0 0 rfl rfl rfl ?_
  refine r_st (st' := [.int (nI NB), .ref va, .int (nI (vf NA))]) (rfl) ?_
  refine r_ialdN X hw (dat D_Same_of 7 rfl) 2 0 rfl rfl (by omega) (by omega) ?_
  refine r_icmpne (tgt := 19) X (nI_eq (by omega) (by omega)) (dat D_Same_of 8 rfl) rfl (fun hc => ?_) (fun hc => ?_)
  · refine r_iconst (v := nI 0) X (dat D_Same_of 11 rfl) rfl ?_
    exact r_iret RT (dat D_Same_of 12 rfl) () ⟨by show some (Value.int (nI 0)) = some (.int (nI (if vf NA = vf NB then 1 else 0))); rw [if_neg (by omega)], rfl, rfl⟩ hw
  · refine r_iconst (v := nI 1) X (dat D_Same_of 9 rfl) rfl ?_
    refine r_goto (tgt := 20) X (dat D_Same_of 10 rfl) rfl ?_
    exact r_iret RT (dat D_Same_of 12 rfl) () ⟨by show some (Value.int (nI 1)) = some (.int (nI (if vf NA = vf NB then 1 else 0))); rw [if_pos (by omega)], rfl, rfl⟩ hw
set_option maxHeartbeats 4000000 in
set_option maxRecDepth 100000 in
theorem c_of_8 (l : Launch) (b : BK) (BC BS sz sl : Nat) (a k NA NB sa va : Nat) (st vf : Nat → Nat) (hA : NA < 60) (hv : vf NA ≤ 1) : Con l b y_Not_of b_Not_of 3 (some .int) 0 0 BC BS sz sl [.ref a, .ref sa, .ref va] [[nodeC a k 8 NA NB], [cN b sa 5 st], [cN b va 60 vf]] (S := Unit) (fun r sz' sl' _ => r = some (.int (nI (wk 8 (pv 8 NA vf) (qv 8 NB vf) st))) ∧ sz = sz' ∧ sl = sl') (fun _ => [[nodeC a k 8 NA NB], [cN b sa 5 st], [cN b va 60 vf]]) := by
  refine con_of (L0 := [(0, .ref a), (1, .ref sa), (2, .ref va)]) (by decide) (Nat.le_of_ble_eq_true rfl) rfl ?_
  intro p e R s m args below meth c Q A H lo X hini hw RT
  have X : Ctx p R s m args meth c b_Not_of 3 "LoopProver$Not" b BC BS sl 0 0 := X
  have hw : Wd b BC BS sl s A [[cO a 16 [.int (nI k), .int (iI (NA : Int)), .int (iI (-1))]], [cN b sa 5 st], [cN b va 60 vf]] sz sl H lo := hw
  refine r_iconst (v := nI 1) X (dat D_Not_of 0 rfl) rfl ?_
  refine r_aldn X (dat D_Not_of 1 rfl) rfl 2 rfl ?_
  refine r_aldn X (dat D_Not_of 2 rfl) rfl 0 rfl ?_
  refine r_get X hw f_Not_9 (dat D_Not_of 3 rfl) 0 0 rfl rfl rfl ?_
  refine r_st (st' := [.int (nI NA), .ref va, .int (nI 1)]) (rfl) ?_
  refine r_ialdN X hw (dat D_Not_of 4 rfl) 2 0 rfl rfl (by omega) (by omega) ?_
  refine r_isub (z := nI (1 - (vf NA))) X (dat D_Not_of 5 rfl) (pk_sub (by omega)) ?_
  exact r_iret RT (dat D_Not_of 6 rfl) () ⟨rfl, rfl, rfl⟩ hw
set_option maxHeartbeats 4000000 in
set_option maxRecDepth 100000 in
theorem c_of_9 (l : Launch) (b : BK) (BC BS sz sl : Nat) (a k NA NB sa va : Nat) (st vf : Nat → Nat) (hA : NA < 60) (hB : NB < 60) (hv : vf NA ≤ 1 ∧ vf NB ≤ 1) : Con l b y_Both_of b_Both_of 3 (some .int) 0 0 BC BS sz sl [.ref a, .ref sa, .ref va] [[nodeC a k 9 NA NB], [cN b sa 5 st], [cN b va 60 vf]] (S := Unit) (fun r sz' sl' _ => r = some (.int (nI (wk 9 (pv 9 NA vf) (qv 9 NB vf) st))) ∧ sz = sz' ∧ sl = sl') (fun _ => [[nodeC a k 9 NA NB], [cN b sa 5 st], [cN b va 60 vf]]) := by
  refine con_of (L0 := [(0, .ref a), (1, .ref sa), (2, .ref va)]) (by decide) (Nat.le_of_ble_eq_true rfl) rfl ?_
  intro p e R s m args below meth c Q A H lo X hini hw RT
  have X : Ctx p R s m args meth c b_Both_of 3 "LoopProver$Both" b BC BS sl 0 0 := X
  have hw : Wd b BC BS sl s A [[cO a 17 [.int (nI k), .int (iI (NA : Int)), .int (iI (NB : Int))]], [cN b sa 5 st], [cN b va 60 vf]] sz sl H lo := hw
  refine r_aldn X (dat D_Both_of 0 rfl) rfl 2 rfl ?_
  refine r_aldn X (dat D_Both_of 1 rfl) rfl 0 rfl ?_
  refine r_get X hw f_Both_9 (dat D_Both_of 2 rfl) 0 0 rfl rfl rfl ?_
  refine r_st (st' := [.int (nI NA), .ref va]) (rfl) ?_
  refine r_ialdN X hw (dat D_Both_of 3 rfl) 2 0 rfl rfl (by omega) (by omega) ?_
  refine r_aldn X (dat D_Both_of 4 rfl) rfl 2 rfl ?_
  refine r_aldn X (dat D_Both_of 5 rfl) rfl 0 rfl ?_
  refine r_get X hw f_Both_15 (dat D_Both_of 6 rfl) 0 0 rfl rfl rfl ?_
  refine r_st (st' := [.int (nI NB), .ref va, .int (nI (vf NA))]) (rfl) ?_
  refine r_ialdN X hw (dat D_Both_of 7 rfl) 2 0 rfl rfl (by omega) (by omega) ?_
  refine r_iand (z := nI ((vf NA) &&& (vf NB))) X (dat D_Both_of 8 rfl) (nx_and _ _) ?_
  exact r_iret RT (dat D_Both_of 9 rfl) () ⟨by show some (Value.int (nI (vf NA &&& vf NB))) = _; rw [and1 hv.1 hv.2]; rfl, rfl, rfl⟩ hw
end
