-- ===== PART A: goes FIRST, ahead of the names: the tables' words, and 'selects' of the private methods out of them =====
/-- a private method of a class that the tables say can be made, by its rows of tables_1 -/
def lw_okq (q : MethodName × Nat) : Prop := (q.1.cls ≠ "java/lang/invoke/MethodHandle" ∧ q.1.cls ≠ "java/lang/invoke/VarHandle") ∧ Cond.instantiable q.1.cls q.2 ∈ tables_1 ∧ Cond.privateMethod q.1 ∈ tables_1 ∧ Cond.instanceMethod q.1 ∈ tables_1
theorem lw_p0 : lw_okq (⟨"PatternBench", "choice", "(I)LPatternBench$Part;"⟩, 24) := ⟨⟨by decide +kernel, by decide +kernel⟩, List.mem_of_getElem? (i := 28) (by decide +kernel), List.mem_of_getElem? (i := 367) (by decide +kernel), List.mem_of_getElem? (i := 368) (by decide +kernel)⟩
theorem lw_p1 : lw_okq (⟨"PatternBench", "row", "(I)LPatternBench$Part;"⟩, 24) := ⟨⟨by decide +kernel, by decide +kernel⟩, List.mem_of_getElem? (i := 28) (by decide +kernel), List.mem_of_getElem? (i := 397) (by decide +kernel), List.mem_of_getElem? (i := 398) (by decide +kernel)⟩
theorem lw_p2 : lw_okq (⟨"PatternBench", "here", "()C"⟩, 24) := ⟨⟨by decide +kernel, by decide +kernel⟩, List.mem_of_getElem? (i := 28) (by decide +kernel), List.mem_of_getElem? (i := 401) (by decide +kernel), List.mem_of_getElem? (i := 402) (by decide +kernel)⟩
theorem lw_p3 : lw_okq (⟨"PatternBench", "atom", "(I)LPatternBench$Part;"⟩, 24) := ⟨⟨by decide +kernel, by decide +kernel⟩, List.mem_of_getElem? (i := 28) (by decide +kernel), List.mem_of_getElem? (i := 415) (by decide +kernel), List.mem_of_getElem? (i := 416) (by decide +kernel)⟩
theorem lw_p4 : lw_okq (⟨"PatternBench", "set", "()LPatternBench$Part;"⟩, 24) := ⟨⟨by decide +kernel, by decide +kernel⟩, List.mem_of_getElem? (i := 28) (by decide +kernel), List.mem_of_getElem? (i := 441) (by decide +kernel), List.mem_of_getElem? (i := 442) (by decide +kernel)⟩
theorem lw_p5 : lw_okq (⟨"PatternBench", "skip", "(C)Z"⟩, 24) := ⟨⟨by decide +kernel, by decide +kernel⟩, List.mem_of_getElem? (i := 28) (by decide +kernel), List.mem_of_getElem? (i := 445) (by decide +kernel), List.mem_of_getElem? (i := 446) (by decide +kernel)⟩
theorem lw_p6 : lw_okq (⟨"PatternBench", "name", "(I)I"⟩, 24) := ⟨⟨by decide +kernel, by decide +kernel⟩, List.mem_of_getElem? (i := 28) (by decide +kernel), List.mem_of_getElem? (i := 455) (by decide +kernel), List.mem_of_getElem? (i := 456) (by decide +kernel)⟩
theorem lw_p7 : lw_okq (⟨"PatternBench", "digit", "(II)I"⟩, 24) := ⟨⟨by decide +kernel, by decide +kernel⟩, List.mem_of_getElem? (i := 28) (by decide +kernel), List.mem_of_getElem? (i := 459) (by decide +kernel), List.mem_of_getElem? (i := 460) (by decide +kernel)⟩
theorem lw_p8 : lw_okq (⟨"PatternBench", "parenthesis", "(I)LPatternBench$Part;"⟩, 24) := ⟨⟨by decide +kernel, by decide +kernel⟩, List.mem_of_getElem? (i := 28) (by decide +kernel), List.mem_of_getElem? (i := 463) (by decide +kernel), List.mem_of_getElem? (i := 464) (by decide +kernel)⟩
theorem lw_p9 : lw_okq (⟨"PatternBench", "expect", "(C)V"⟩, 24) := ⟨⟨by decide +kernel, by decide +kernel⟩, List.mem_of_getElem? (i := 28) (by decide +kernel), List.mem_of_getElem? (i := 467) (by decide +kernel), List.mem_of_getElem? (i := 468) (by decide +kernel)⟩
theorem lw_p10 : lw_okq (⟨"PatternBench", "repeated", "(LPatternBench$Part;)LPatternBench$Part;"⟩, 24) := ⟨⟨by decide +kernel, by decide +kernel⟩, List.mem_of_getElem? (i := 28) (by decide +kernel), List.mem_of_getElem? (i := 489) (by decide +kernel), List.mem_of_getElem? (i := 490) (by decide +kernel)⟩
theorem lw_p11 : lw_okq (⟨"java/util/ArrayList", "add", "(Ljava/lang/Object;[Ljava/lang/Object;I)V"⟩, 3) := ⟨⟨by decide +kernel, by decide +kernel⟩, List.mem_of_getElem? (i := 371) (by decide +kernel), List.mem_of_getElem? (i := 516) (by decide +kernel), List.mem_of_getElem? (i := 517) (by decide +kernel)⟩
theorem lw_p12 : lw_okq (⟨"java/util/ArrayList", "grow", "()[Ljava/lang/Object;"⟩, 3) := ⟨⟨by decide +kernel, by decide +kernel⟩, List.mem_of_getElem? (i := 371) (by decide +kernel), List.mem_of_getElem? (i := 520) (by decide +kernel), List.mem_of_getElem? (i := 521) (by decide +kernel)⟩
theorem lw_p13 : lw_okq (⟨"java/util/ArrayList", "grow", "(I)[Ljava/lang/Object;"⟩, 3) := ⟨⟨by decide +kernel, by decide +kernel⟩, List.mem_of_getElem? (i := 371) (by decide +kernel), List.mem_of_getElem? (i := 524) (by decide +kernel), List.mem_of_getElem? (i := 525) (by decide +kernel)⟩
theorem lw_p14 : lw_okq (⟨"PatternBench$Program", "grow", "()V"⟩, 5) := ⟨⟨by decide +kernel, by decide +kernel⟩, List.mem_of_getElem? (i := 68) (by decide +kernel), List.mem_of_getElem? (i := 674) (by decide +kernel), List.mem_of_getElem? (i := 675) (by decide +kernel)⟩
theorem lw_p15 : lw_okq (⟨"PatternBench$Repeat", "star", "(LPatternBench$Program;)V"⟩, 4) := ⟨⟨by decide +kernel, by decide +kernel⟩, List.mem_of_getElem? (i := 493) (by decide +kernel), List.mem_of_getElem? (i := 716) (by decide +kernel), List.mem_of_getElem? (i := 717) (by decide +kernel)⟩
def lw_privs_1 : List (MethodName × Nat) := [(⟨"PatternBench", "choice", "(I)LPatternBench$Part;"⟩, 24), (⟨"PatternBench", "row", "(I)LPatternBench$Part;"⟩, 24), (⟨"PatternBench", "here", "()C"⟩, 24), (⟨"PatternBench", "atom", "(I)LPatternBench$Part;"⟩, 24), (⟨"PatternBench", "set", "()LPatternBench$Part;"⟩, 24), (⟨"PatternBench", "skip", "(C)Z"⟩, 24), (⟨"PatternBench", "name", "(I)I"⟩, 24), (⟨"PatternBench", "digit", "(II)I"⟩, 24), (⟨"PatternBench", "parenthesis", "(I)LPatternBench$Part;"⟩, 24), (⟨"PatternBench", "expect", "(C)V"⟩, 24), (⟨"PatternBench", "repeated", "(LPatternBench$Part;)LPatternBench$Part;"⟩, 24), (⟨"java/util/ArrayList", "add", "(Ljava/lang/Object;[Ljava/lang/Object;I)V"⟩, 3), (⟨"java/util/ArrayList", "grow", "()[Ljava/lang/Object;"⟩, 3), (⟨"java/util/ArrayList", "grow", "(I)[Ljava/lang/Object;"⟩, 3), (⟨"PatternBench$Program", "grow", "()V"⟩, 5), (⟨"PatternBench$Repeat", "star", "(LPatternBench$Program;)V"⟩, 4)]
theorem lw_r1 : ∀ q ∈ lw_privs_1, lw_okq q := List.forall_mem_cons.mpr ⟨lw_p0, List.forall_mem_cons.mpr ⟨lw_p1, List.forall_mem_cons.mpr ⟨lw_p2, List.forall_mem_cons.mpr ⟨lw_p3, List.forall_mem_cons.mpr ⟨lw_p4, List.forall_mem_cons.mpr ⟨lw_p5, List.forall_mem_cons.mpr ⟨lw_p6, List.forall_mem_cons.mpr ⟨lw_p7, List.forall_mem_cons.mpr ⟨lw_p8, List.forall_mem_cons.mpr ⟨lw_p9, List.forall_mem_cons.mpr ⟨lw_p10, List.forall_mem_cons.mpr ⟨lw_p11, List.forall_mem_cons.mpr ⟨lw_p12, List.forall_mem_cons.mpr ⟨lw_p13, List.forall_mem_cons.mpr ⟨lw_p14, List.forall_mem_cons.mpr ⟨lw_p15, fun _ h => absurd h List.not_mem_nil⟩⟩⟩⟩⟩⟩⟩⟩⟩⟩⟩⟩⟩⟩⟩⟩
theorem lw_p16 : lw_okq (⟨"PatternBench", "find", "(I)I"⟩, 24) := ⟨⟨by decide +kernel, by decide +kernel⟩, List.mem_of_getElem? (i := 28) (by decide +kernel), List.mem_of_getElem? (i := 757) (by decide +kernel), List.mem_of_getElem? (i := 758) (by decide +kernel)⟩
theorem lw_p17 : lw_okq (⟨"PatternBench", "run", "(I)Z"⟩, 24) := ⟨⟨by decide +kernel, by decide +kernel⟩, List.mem_of_getElem? (i := 28) (by decide +kernel), List.mem_of_getElem? (i := 761) (by decide +kernel), List.mem_of_getElem? (i := 762) (by decide +kernel)⟩
theorem lw_p18 : lw_okq (⟨"PatternBench", "one", "()Z"⟩, 24) := ⟨⟨by decide +kernel, by decide +kernel⟩, List.mem_of_getElem? (i := 28) (by decide +kernel), List.mem_of_getElem? (i := 765) (by decide +kernel), List.mem_of_getElem? (i := 766) (by decide +kernel)⟩
theorem lw_p19 : lw_okq (⟨"PatternBench", "step", "()Z"⟩, 24) := ⟨⟨by decide +kernel, by decide +kernel⟩, List.mem_of_getElem? (i := 28) (by decide +kernel), List.mem_of_getElem? (i := 775) (by decide +kernel), List.mem_of_getElem? (i := 776) (by decide +kernel)⟩
theorem lw_p20 : lw_okq (⟨"PatternBench", "letters", "(I)Z"⟩, 24) := ⟨⟨by decide +kernel, by decide +kernel⟩, List.mem_of_getElem? (i := 28) (by decide +kernel), List.mem_of_getElem? (i := 779) (by decide +kernel), List.mem_of_getElem? (i := 780) (by decide +kernel)⟩
theorem lw_p21 : lw_okq (⟨"PatternBench", "reference", "(I)Z"⟩, 24) := ⟨⟨by decide +kernel, by decide +kernel⟩, List.mem_of_getElem? (i := 28) (by decide +kernel), List.mem_of_getElem? (i := 783) (by decide +kernel), List.mem_of_getElem? (i := 784) (by decide +kernel)⟩
theorem lw_p22 : lw_okq (⟨"PatternBench", "call", "(I)Z"⟩, 24) := ⟨⟨by decide +kernel, by decide +kernel⟩, List.mem_of_getElem? (i := 28) (by decide +kernel), List.mem_of_getElem? (i := 787) (by decide +kernel), List.mem_of_getElem? (i := 788) (by decide +kernel)⟩
theorem lw_p23 : lw_okq (⟨"PatternBench", "setFrame", "(II)V"⟩, 24) := ⟨⟨by decide +kernel, by decide +kernel⟩, List.mem_of_getElem? (i := 28) (by decide +kernel), List.mem_of_getElem? (i := 791) (by decide +kernel), List.mem_of_getElem? (i := 792) (by decide +kernel)⟩
theorem lw_p24 : lw_okq (⟨"PatternBench", "log", "(III)V"⟩, 24) := ⟨⟨by decide +kernel, by decide +kernel⟩, List.mem_of_getElem? (i := 28) (by decide +kernel), List.mem_of_getElem? (i := 795) (by decide +kernel), List.mem_of_getElem? (i := 796) (by decide +kernel)⟩
theorem lw_p25 : lw_okq (⟨"PatternBench", "push", "(I)V"⟩, 24) := ⟨⟨by decide +kernel, by decide +kernel⟩, List.mem_of_getElem? (i := 28) (by decide +kernel), List.mem_of_getElem? (i := 800) (by decide +kernel), List.mem_of_getElem? (i := 801) (by decide +kernel)⟩
theorem lw_p26 : lw_okq (⟨"PatternBench", "pop", "()I"⟩, 24) := ⟨⟨by decide +kernel, by decide +kernel⟩, List.mem_of_getElem? (i := 28) (by decide +kernel), List.mem_of_getElem? (i := 804) (by decide +kernel), List.mem_of_getElem? (i := 805) (by decide +kernel)⟩
theorem lw_p27 : lw_okq (⟨"PatternBench", "capture", "(II)V"⟩, 24) := ⟨⟨by decide +kernel, by decide +kernel⟩, List.mem_of_getElem? (i := 28) (by decide +kernel), List.mem_of_getElem? (i := 808) (by decide +kernel), List.mem_of_getElem? (i := 809) (by decide +kernel)⟩
theorem lw_p28 : lw_okq (⟨"PatternBench", "fence", "(II)V"⟩, 24) := ⟨⟨by decide +kernel, by decide +kernel⟩, List.mem_of_getElem? (i := 28) (by decide +kernel), List.mem_of_getElem? (i := 812) (by decide +kernel), List.mem_of_getElem? (i := 813) (by decide +kernel)⟩
theorem lw_p29 : lw_okq (⟨"PatternBench", "forget", "(I)V"⟩, 24) := ⟨⟨by decide +kernel, by decide +kernel⟩, List.mem_of_getElem? (i := 28) (by decide +kernel), List.mem_of_getElem? (i := 816) (by decide +kernel), List.mem_of_getElem? (i := 817) (by decide +kernel)⟩
theorem lw_p30 : lw_okq (⟨"PatternBench", "refuse", "()Z"⟩, 24) := ⟨⟨by decide +kernel, by decide +kernel⟩, List.mem_of_getElem? (i := 28) (by decide +kernel), List.mem_of_getElem? (i := 820) (by decide +kernel), List.mem_of_getElem? (i := 821) (by decide +kernel)⟩
theorem lw_p31 : lw_okq (⟨"PatternBench", "comeBack", "()V"⟩, 24) := ⟨⟨by decide +kernel, by decide +kernel⟩, List.mem_of_getElem? (i := 28) (by decide +kernel), List.mem_of_getElem? (i := 824) (by decide +kernel), List.mem_of_getElem? (i := 825) (by decide +kernel)⟩
def lw_privs_2 : List (MethodName × Nat) := [(⟨"PatternBench", "find", "(I)I"⟩, 24), (⟨"PatternBench", "run", "(I)Z"⟩, 24), (⟨"PatternBench", "one", "()Z"⟩, 24), (⟨"PatternBench", "step", "()Z"⟩, 24), (⟨"PatternBench", "letters", "(I)Z"⟩, 24), (⟨"PatternBench", "reference", "(I)Z"⟩, 24), (⟨"PatternBench", "call", "(I)Z"⟩, 24), (⟨"PatternBench", "setFrame", "(II)V"⟩, 24), (⟨"PatternBench", "log", "(III)V"⟩, 24), (⟨"PatternBench", "push", "(I)V"⟩, 24), (⟨"PatternBench", "pop", "()I"⟩, 24), (⟨"PatternBench", "capture", "(II)V"⟩, 24), (⟨"PatternBench", "fence", "(II)V"⟩, 24), (⟨"PatternBench", "forget", "(I)V"⟩, 24), (⟨"PatternBench", "refuse", "()Z"⟩, 24), (⟨"PatternBench", "comeBack", "()V"⟩, 24)]
theorem lw_r2 : ∀ q ∈ lw_privs_2, lw_okq q := List.forall_mem_cons.mpr ⟨lw_p16, List.forall_mem_cons.mpr ⟨lw_p17, List.forall_mem_cons.mpr ⟨lw_p18, List.forall_mem_cons.mpr ⟨lw_p19, List.forall_mem_cons.mpr ⟨lw_p20, List.forall_mem_cons.mpr ⟨lw_p21, List.forall_mem_cons.mpr ⟨lw_p22, List.forall_mem_cons.mpr ⟨lw_p23, List.forall_mem_cons.mpr ⟨lw_p24, List.forall_mem_cons.mpr ⟨lw_p25, List.forall_mem_cons.mpr ⟨lw_p26, List.forall_mem_cons.mpr ⟨lw_p27, List.forall_mem_cons.mpr ⟨lw_p28, List.forall_mem_cons.mpr ⟨lw_p29, List.forall_mem_cons.mpr ⟨lw_p30, List.forall_mem_cons.mpr ⟨lw_p31, fun _ h => absurd h List.not_mem_nil⟩⟩⟩⟩⟩⟩⟩⟩⟩⟩⟩⟩⟩⟩⟩⟩
theorem lw_p32 : lw_okq (⟨"PatternBench", "back", "()Z"⟩, 24) := ⟨⟨by decide +kernel, by decide +kernel⟩, List.mem_of_getElem? (i := 28) (by decide +kernel), List.mem_of_getElem? (i := 828) (by decide +kernel), List.mem_of_getElem? (i := 829) (by decide +kernel)⟩
theorem lw_p33 : lw_okq (⟨"PatternBench", "nextStart", "()I"⟩, 24) := ⟨⟨by decide +kernel, by decide +kernel⟩, List.mem_of_getElem? (i := 28) (by decide +kernel), List.mem_of_getElem? (i := 836) (by decide +kernel), List.mem_of_getElem? (i := 837) (by decide +kernel)⟩
theorem lw_p34 : lw_okq (⟨"PatternBenchModel", "measure", "()I"⟩, 27) := ⟨⟨by decide +kernel, by decide +kernel⟩, List.mem_of_getElem? (i := 863) (by decide +kernel), List.mem_of_getElem? (i := 969) (by decide +kernel), List.mem_of_getElem? (i := 970) (by decide +kernel)⟩
theorem lw_p35 : lw_okq (⟨"PatternBenchModel", "opener", "(I)I"⟩, 27) := ⟨⟨by decide +kernel, by decide +kernel⟩, List.mem_of_getElem? (i := 863) (by decide +kernel), List.mem_of_getElem? (i := 973) (by decide +kernel), List.mem_of_getElem? (i := 974) (by decide +kernel)⟩
theorem lw_p36 : lw_okq (⟨"PatternBenchModel", "c", "(I)I"⟩, 27) := ⟨⟨by decide +kernel, by decide +kernel⟩, List.mem_of_getElem? (i := 863) (by decide +kernel), List.mem_of_getElem? (i := 977) (by decide +kernel), List.mem_of_getElem? (i := 978) (by decide +kernel)⟩
theorem lw_p37 : lw_okq (⟨"PatternBenchModel", "behindPlain", "(I)I"⟩, 27) := ⟨⟨by decide +kernel, by decide +kernel⟩, List.mem_of_getElem? (i := 863) (by decide +kernel), List.mem_of_getElem? (i := 981) (by decide +kernel), List.mem_of_getElem? (i := 982) (by decide +kernel)⟩
theorem lw_p38 : lw_okq (⟨"PatternBenchModel", "behindClass", "(I)I"⟩, 27) := ⟨⟨by decide +kernel, by decide +kernel⟩, List.mem_of_getElem? (i := 863) (by decide +kernel), List.mem_of_getElem? (i := 985) (by decide +kernel), List.mem_of_getElem? (i := 986) (by decide +kernel)⟩
theorem lw_p39 : lw_okq (⟨"PatternBenchModel", "behindRepeat", "(I)I"⟩, 27) := ⟨⟨by decide +kernel, by decide +kernel⟩, List.mem_of_getElem? (i := 863) (by decide +kernel), List.mem_of_getElem? (i := 989) (by decide +kernel), List.mem_of_getElem? (i := 990) (by decide +kernel)⟩
theorem lw_p40 : lw_okq (⟨"PatternBenchModel", "sized", "(II)I"⟩, 27) := ⟨⟨by decide +kernel, by decide +kernel⟩, List.mem_of_getElem? (i := 863) (by decide +kernel), List.mem_of_getElem? (i := 993) (by decide +kernel), List.mem_of_getElem? (i := 994) (by decide +kernel)⟩
theorem lw_p41 : lw_okq (⟨"PatternBenchModel", "groupsOf", "()I"⟩, 27) := ⟨⟨by decide +kernel, by decide +kernel⟩, List.mem_of_getElem? (i := 863) (by decide +kernel), List.mem_of_getElem? (i := 997) (by decide +kernel), List.mem_of_getElem? (i := 998) (by decide +kernel)⟩
theorem lw_p42 : lw_okq (⟨"PatternBenchModel", "namesGood", "(I)Z"⟩, 27) := ⟨⟨by decide +kernel, by decide +kernel⟩, List.mem_of_getElem? (i := 863) (by decide +kernel), List.mem_of_getElem? (i := 1001) (by decide +kernel), List.mem_of_getElem? (i := 1002) (by decide +kernel)⟩
theorem lw_p43 : lw_okq (⟨"PatternBenchModel", "seek", "(I)I"⟩, 27) := ⟨⟨by decide +kernel, by decide +kernel⟩, List.mem_of_getElem? (i := 863) (by decide +kernel), List.mem_of_getElem? (i := 1017) (by decide +kernel), List.mem_of_getElem? (i := 1018) (by decide +kernel)⟩
theorem lw_p44 : lw_okq (⟨"PatternBenchModel", "walk", "(I)I"⟩, 27) := ⟨⟨by decide +kernel, by decide +kernel⟩, List.mem_of_getElem? (i := 863) (by decide +kernel), List.mem_of_getElem? (i := 1021) (by decide +kernel), List.mem_of_getElem? (i := 1022) (by decide +kernel)⟩
theorem lw_p45 : lw_okq (⟨"PatternBenchModel", "go", "(III)V"⟩, 27) := ⟨⟨by decide +kernel, by decide +kernel⟩, List.mem_of_getElem? (i := 863) (by decide +kernel), List.mem_of_getElem? (i := 1025) (by decide +kernel), List.mem_of_getElem? (i := 1026) (by decide +kernel)⟩
theorem lw_p46 : lw_okq (⟨"PatternBenchModel", "retreat", "()Z"⟩, 27) := ⟨⟨by decide +kernel, by decide +kernel⟩, List.mem_of_getElem? (i := 863) (by decide +kernel), List.mem_of_getElem? (i := 1030) (by decide +kernel), List.mem_of_getElem? (i := 1031) (by decide +kernel)⟩
theorem lw_p47 : lw_okq (⟨"PatternBenchModel", "rowEnds", "(I)Z"⟩, 27) := ⟨⟨by decide +kernel, by decide +kernel⟩, List.mem_of_getElem? (i := 863) (by decide +kernel), List.mem_of_getElem? (i := 1034) (by decide +kernel), List.mem_of_getElem? (i := 1035) (by decide +kernel)⟩
def lw_privs_3 : List (MethodName × Nat) := [(⟨"PatternBench", "back", "()Z"⟩, 24), (⟨"PatternBench", "nextStart", "()I"⟩, 24), (⟨"PatternBenchModel", "measure", "()I"⟩, 27), (⟨"PatternBenchModel", "opener", "(I)I"⟩, 27), (⟨"PatternBenchModel", "c", "(I)I"⟩, 27), (⟨"PatternBenchModel", "behindPlain", "(I)I"⟩, 27), (⟨"PatternBenchModel", "behindClass", "(I)I"⟩, 27), (⟨"PatternBenchModel", "behindRepeat", "(I)I"⟩, 27), (⟨"PatternBenchModel", "sized", "(II)I"⟩, 27), (⟨"PatternBenchModel", "groupsOf", "()I"⟩, 27), (⟨"PatternBenchModel", "namesGood", "(I)Z"⟩, 27), (⟨"PatternBenchModel", "seek", "(I)I"⟩, 27), (⟨"PatternBenchModel", "walk", "(I)I"⟩, 27), (⟨"PatternBenchModel", "go", "(III)V"⟩, 27), (⟨"PatternBenchModel", "retreat", "()Z"⟩, 27), (⟨"PatternBenchModel", "rowEnds", "(I)Z"⟩, 27)]
theorem lw_r3 : ∀ q ∈ lw_privs_3, lw_okq q := List.forall_mem_cons.mpr ⟨lw_p32, List.forall_mem_cons.mpr ⟨lw_p33, List.forall_mem_cons.mpr ⟨lw_p34, List.forall_mem_cons.mpr ⟨lw_p35, List.forall_mem_cons.mpr ⟨lw_p36, List.forall_mem_cons.mpr ⟨lw_p37, List.forall_mem_cons.mpr ⟨lw_p38, List.forall_mem_cons.mpr ⟨lw_p39, List.forall_mem_cons.mpr ⟨lw_p40, List.forall_mem_cons.mpr ⟨lw_p41, List.forall_mem_cons.mpr ⟨lw_p42, List.forall_mem_cons.mpr ⟨lw_p43, List.forall_mem_cons.mpr ⟨lw_p44, List.forall_mem_cons.mpr ⟨lw_p45, List.forall_mem_cons.mpr ⟨lw_p46, List.forall_mem_cons.mpr ⟨lw_p47, fun _ h => absurd h List.not_mem_nil⟩⟩⟩⟩⟩⟩⟩⟩⟩⟩⟩⟩⟩⟩⟩⟩
theorem lw_p48 : lw_okq (⟨"PatternBenchModel", "t", "(I)I"⟩, 27) := ⟨⟨by decide +kernel, by decide +kernel⟩, List.mem_of_getElem? (i := 863) (by decide +kernel), List.mem_of_getElem? (i := 1038) (by decide +kernel), List.mem_of_getElem? (i := 1039) (by decide +kernel)⟩
theorem lw_p49 : lw_okq (⟨"PatternBenchModel", "item", "(I)V"⟩, 27) := ⟨⟨by decide +kernel, by decide +kernel⟩, List.mem_of_getElem? (i := 863) (by decide +kernel), List.mem_of_getElem? (i := 1042) (by decide +kernel), List.mem_of_getElem? (i := 1043) (by decide +kernel)⟩
theorem lw_p50 : lw_okq (⟨"PatternBenchModel", "behindAtom", "(I)I"⟩, 27) := ⟨⟨by decide +kernel, by decide +kernel⟩, List.mem_of_getElem? (i := 863) (by decide +kernel), List.mem_of_getElem? (i := 1046) (by decide +kernel), List.mem_of_getElem? (i := 1047) (by decide +kernel)⟩
theorem lw_p51 : lw_okq (⟨"PatternBenchModel", "closing", "(I)I"⟩, 27) := ⟨⟨by decide +kernel, by decide +kernel⟩, List.mem_of_getElem? (i := 863) (by decide +kernel), List.mem_of_getElem? (i := 1050) (by decide +kernel), List.mem_of_getElem? (i := 1051) (by decide +kernel)⟩
theorem lw_p52 : lw_okq (⟨"PatternBenchModel", "push", "(IIII)I"⟩, 27) := ⟨⟨by decide +kernel, by decide +kernel⟩, List.mem_of_getElem? (i := 863) (by decide +kernel), List.mem_of_getElem? (i := 1054) (by decide +kernel), List.mem_of_getElem? (i := 1055) (by decide +kernel)⟩
theorem lw_p53 : lw_okq (⟨"PatternBenchModel", "pushBack", "(III)V"⟩, 27) := ⟨⟨by decide +kernel, by decide +kernel⟩, List.mem_of_getElem? (i := 863) (by decide +kernel), List.mem_of_getElem? (i := 1058) (by decide +kernel), List.mem_of_getElem? (i := 1059) (by decide +kernel)⟩
theorem lw_p54 : lw_okq (⟨"PatternBenchModel", "nextRow", "(I)I"⟩, 27) := ⟨⟨by decide +kernel, by decide +kernel⟩, List.mem_of_getElem? (i := 863) (by decide +kernel), List.mem_of_getElem? (i := 1062) (by decide +kernel), List.mem_of_getElem? (i := 1063) (by decide +kernel)⟩
theorem lw_p55 : lw_okq (⟨"PatternBenchModel", "atom", "()V"⟩, 27) := ⟨⟨by decide +kernel, by decide +kernel⟩, List.mem_of_getElem? (i := 863) (by decide +kernel), List.mem_of_getElem? (i := 1066) (by decide +kernel), List.mem_of_getElem? (i := 1067) (by decide +kernel)⟩
theorem lw_p56 : lw_okq (⟨"PatternBenchModel", "openChoice", "(I)V"⟩, 27) := ⟨⟨by decide +kernel, by decide +kernel⟩, List.mem_of_getElem? (i := 863) (by decide +kernel), List.mem_of_getElem? (i := 1070) (by decide +kernel), List.mem_of_getElem? (i := 1071) (by decide +kernel)⟩
theorem lw_p57 : lw_okq (⟨"PatternBenchModel", "groupAt", "(I)I"⟩, 27) := ⟨⟨by decide +kernel, by decide +kernel⟩, List.mem_of_getElem? (i := 863) (by decide +kernel), List.mem_of_getElem? (i := 1074) (by decide +kernel), List.mem_of_getElem? (i := 1075) (by decide +kernel)⟩
theorem lw_p58 : lw_okq (⟨"PatternBenchModel", "calls", "()I"⟩, 27) := ⟨⟨by decide +kernel, by decide +kernel⟩, List.mem_of_getElem? (i := 863) (by decide +kernel), List.mem_of_getElem? (i := 1078) (by decide +kernel), List.mem_of_getElem? (i := 1079) (by decide +kernel)⟩
theorem lw_p59 : lw_okq (⟨"PatternBenchModel", "kindOf", "(I)I"⟩, 27) := ⟨⟨by decide +kernel, by decide +kernel⟩, List.mem_of_getElem? (i := 863) (by decide +kernel), List.mem_of_getElem? (i := 1082) (by decide +kernel), List.mem_of_getElem? (i := 1083) (by decide +kernel)⟩
theorem lw_p60 : lw_okq (⟨"PatternBenchModel", "parentOf", "(I)I"⟩, 27) := ⟨⟨by decide +kernel, by decide +kernel⟩, List.mem_of_getElem? (i := 863) (by decide +kernel), List.mem_of_getElem? (i := 1086) (by decide +kernel), List.mem_of_getElem? (i := 1087) (by decide +kernel)⟩
theorem lw_p61 : lw_okq (⟨"PatternBenchModel", "choiceOf", "(I)I"⟩, 27) := ⟨⟨by decide +kernel, by decide +kernel⟩, List.mem_of_getElem? (i := 863) (by decide +kernel), List.mem_of_getElem? (i := 1090) (by decide +kernel), List.mem_of_getElem? (i := 1091) (by decide +kernel)⟩
theorem lw_p62 : lw_okq (⟨"PatternBenchModel", "plain", "(I)Z"⟩, 27) := ⟨⟨by decide +kernel, by decide +kernel⟩, List.mem_of_getElem? (i := 863) (by decide +kernel), List.mem_of_getElem? (i := 1094) (by decide +kernel), List.mem_of_getElem? (i := 1095) (by decide +kernel)⟩
theorem lw_p63 : lw_okq (⟨"PatternBenchModel", "repeats", "(I)Z"⟩, 27) := ⟨⟨by decide +kernel, by decide +kernel⟩, List.mem_of_getElem? (i := 863) (by decide +kernel), List.mem_of_getElem? (i := 1098) (by decide +kernel), List.mem_of_getElem? (i := 1099) (by decide +kernel)⟩
def lw_privs_4 : List (MethodName × Nat) := [(⟨"PatternBenchModel", "t", "(I)I"⟩, 27), (⟨"PatternBenchModel", "item", "(I)V"⟩, 27), (⟨"PatternBenchModel", "behindAtom", "(I)I"⟩, 27), (⟨"PatternBenchModel", "closing", "(I)I"⟩, 27), (⟨"PatternBenchModel", "push", "(IIII)I"⟩, 27), (⟨"PatternBenchModel", "pushBack", "(III)V"⟩, 27), (⟨"PatternBenchModel", "nextRow", "(I)I"⟩, 27), (⟨"PatternBenchModel", "atom", "()V"⟩, 27), (⟨"PatternBenchModel", "openChoice", "(I)V"⟩, 27), (⟨"PatternBenchModel", "groupAt", "(I)I"⟩, 27), (⟨"PatternBenchModel", "calls", "()I"⟩, 27), (⟨"PatternBenchModel", "kindOf", "(I)I"⟩, 27), (⟨"PatternBenchModel", "parentOf", "(I)I"⟩, 27), (⟨"PatternBenchModel", "choiceOf", "(I)I"⟩, 27), (⟨"PatternBenchModel", "plain", "(I)Z"⟩, 27), (⟨"PatternBenchModel", "repeats", "(I)Z"⟩, 27)]
theorem lw_r4 : ∀ q ∈ lw_privs_4, lw_okq q := List.forall_mem_cons.mpr ⟨lw_p48, List.forall_mem_cons.mpr ⟨lw_p49, List.forall_mem_cons.mpr ⟨lw_p50, List.forall_mem_cons.mpr ⟨lw_p51, List.forall_mem_cons.mpr ⟨lw_p52, List.forall_mem_cons.mpr ⟨lw_p53, List.forall_mem_cons.mpr ⟨lw_p54, List.forall_mem_cons.mpr ⟨lw_p55, List.forall_mem_cons.mpr ⟨lw_p56, List.forall_mem_cons.mpr ⟨lw_p57, List.forall_mem_cons.mpr ⟨lw_p58, List.forall_mem_cons.mpr ⟨lw_p59, List.forall_mem_cons.mpr ⟨lw_p60, List.forall_mem_cons.mpr ⟨lw_p61, List.forall_mem_cons.mpr ⟨lw_p62, List.forall_mem_cons.mpr ⟨lw_p63, fun _ h => absurd h List.not_mem_nil⟩⟩⟩⟩⟩⟩⟩⟩⟩⟩⟩⟩⟩⟩⟩⟩
theorem lw_p64 : lw_okq (⟨"PatternBenchModel", "capture", "(JIZ)I"⟩, 27) := ⟨⟨by decide +kernel, by decide +kernel⟩, List.mem_of_getElem? (i := 863) (by decide +kernel), List.mem_of_getElem? (i := 1102) (by decide +kernel), List.mem_of_getElem? (i := 1103) (by decide +kernel)⟩
theorem lw_p65 : lw_okq (⟨"PatternBenchModel", "takesLetter", "(I)Z"⟩, 27) := ⟨⟨by decide +kernel, by decide +kernel⟩, List.mem_of_getElem? (i := 863) (by decide +kernel), List.mem_of_getElem? (i := 1106) (by decide +kernel), List.mem_of_getElem? (i := 1107) (by decide +kernel)⟩
theorem lw_p66 : lw_okq (⟨"PatternBenchModel", "inClass", "(II)Z"⟩, 27) := ⟨⟨by decide +kernel, by decide +kernel⟩, List.mem_of_getElem? (i := 863) (by decide +kernel), List.mem_of_getElem? (i := 1110) (by decide +kernel), List.mem_of_getElem? (i := 1111) (by decide +kernel)⟩
theorem lw_p67 : lw_okq (⟨"PatternBenchModel", "star", "(Z)V"⟩, 27) := ⟨⟨by decide +kernel, by decide +kernel⟩, List.mem_of_getElem? (i := 863) (by decide +kernel), List.mem_of_getElem? (i := 1114) (by decide +kernel), List.mem_of_getElem? (i := 1115) (by decide +kernel)⟩
theorem lw_p68 : lw_okq (⟨"PatternBenchModel", "carryOn", "()V"⟩, 27) := ⟨⟨by decide +kernel, by decide +kernel⟩, List.mem_of_getElem? (i := 863) (by decide +kernel), List.mem_of_getElem? (i := 1118) (by decide +kernel), List.mem_of_getElem? (i := 1119) (by decide +kernel)⟩
theorem lw_p69 : lw_okq (⟨"PatternBenchModel", "placeOf", "(I)I"⟩, 27) := ⟨⟨by decide +kernel, by decide +kernel⟩, List.mem_of_getElem? (i := 863) (by decide +kernel), List.mem_of_getElem? (i := 1122) (by decide +kernel), List.mem_of_getElem? (i := 1123) (by decide +kernel)⟩
theorem lw_p70 : lw_okq (⟨"PatternBenchModel", "numberOf", "(I)I"⟩, 27) := ⟨⟨by decide +kernel, by decide +kernel⟩, List.mem_of_getElem? (i := 863) (by decide +kernel), List.mem_of_getElem? (i := 1126) (by decide +kernel), List.mem_of_getElem? (i := 1127) (by decide +kernel)⟩
theorem lw_p71 : lw_okq (⟨"PatternBenchModel", "bound", "(IZ)I"⟩, 27) := ⟨⟨by decide +kernel, by decide +kernel⟩, List.mem_of_getElem? (i := 863) (by decide +kernel), List.mem_of_getElem? (i := 1140) (by decide +kernel), List.mem_of_getElem? (i := 1141) (by decide +kernel)⟩
def lw_privs_5 : List (MethodName × Nat) := [(⟨"PatternBenchModel", "capture", "(JIZ)I"⟩, 27), (⟨"PatternBenchModel", "takesLetter", "(I)Z"⟩, 27), (⟨"PatternBenchModel", "inClass", "(II)Z"⟩, 27), (⟨"PatternBenchModel", "star", "(Z)V"⟩, 27), (⟨"PatternBenchModel", "carryOn", "()V"⟩, 27), (⟨"PatternBenchModel", "placeOf", "(I)I"⟩, 27), (⟨"PatternBenchModel", "numberOf", "(I)I"⟩, 27), (⟨"PatternBenchModel", "bound", "(IZ)I"⟩, 27)]
theorem lw_r5 : ∀ q ∈ lw_privs_5, lw_okq q := List.forall_mem_cons.mpr ⟨lw_p64, List.forall_mem_cons.mpr ⟨lw_p65, List.forall_mem_cons.mpr ⟨lw_p66, List.forall_mem_cons.mpr ⟨lw_p67, List.forall_mem_cons.mpr ⟨lw_p68, List.forall_mem_cons.mpr ⟨lw_p69, List.forall_mem_cons.mpr ⟨lw_p70, List.forall_mem_cons.mpr ⟨lw_p71, fun _ h => absurd h List.not_mem_nil⟩⟩⟩⟩⟩⟩⟩⟩
def lw_privs : List (MethodName × Nat) := lw_privs_1 ++ (lw_privs_2 ++ (lw_privs_3 ++ (lw_privs_4 ++ (lw_privs_5))))
def lw_tbl : List Cond := k2_sels lw_privs ++ tables_1
theorem lw_privs_ok : ∀ q ∈ lw_privs, lw_okq q := by
  show ∀ q ∈ lw_privs_1 ++ (lw_privs_2 ++ (lw_privs_3 ++ (lw_privs_4 ++ (lw_privs_5)))), lw_okq q
  exact List.forall_mem_append.mpr ⟨lw_r1, List.forall_mem_append.mpr ⟨lw_r2, List.forall_mem_append.mpr ⟨lw_r3, List.forall_mem_append.mpr ⟨lw_r4, lw_r5⟩⟩⟩⟩
/-- private methods of AbstractStringBuilder, asked on a StringBuilder -/
def lw_xy : List MethodName := [⟨"java/lang/AbstractStringBuilder", "ensureCapacityInternal", "(I)V"⟩, ⟨"java/lang/AbstractStringBuilder", "newCapacity", "(I)I"⟩]
def lw_xs : List Cond := lw_xy.map fun y => Cond.selects "java/lang/StringBuilder" y y
def lw_tg : List Cond := lw_xs ++ lw_tbl.filter goodWord
theorem tg_good {w : Cond} (h : w ∈ lw_tg) : goodWord w = true := by
  rcases List.mem_append.mp h with h | h
  · simp only [lw_xs, lw_xy, List.map, List.mem_cons, List.not_mem_nil, or_false] at h
    rcases h with rfl | rfl <;> decide +kernel
  · exact (List.mem_filter.mp h).2
/-- a row of the tables is a word of lw_tg -/
theorem kw {w : Cond} (i : Nat) (h : tables_1[i]? = some w) (hg : goodWord w = true) : w ∈ lw_tg := List.mem_append_right _ <| List.mem_filter.mpr ⟨List.mem_append_right _ (List.mem_of_getElem? h), hg⟩
theorem ks {w : Cond} (i : Nat) (h : (k2_sels lw_privs)[i]? = some w) (hg : goodWord w = true) : w ∈ lw_tg := List.mem_append_right _ <| List.mem_filter.mpr ⟨List.mem_append_left _ (List.mem_of_getElem? h), hg⟩
theorem good_tg {c : Cond} (h : c ∈ lw_tg) : GoodIn lw_tg (c :: lw_tg) := by
  intro w hw
  have hm : w ∈ lw_tg := by rcases List.mem_cons.mp hw with rfl | hw; exact h; exact hw
  exact ⟨hm, good_of_word (tg_good hm)⟩
theorem x_0 : (Cond.selects "java/lang/StringBuilder" ⟨"java/lang/AbstractStringBuilder", "ensureCapacityInternal", "(I)V"⟩ ⟨"java/lang/AbstractStringBuilder", "ensureCapacityInternal", "(I)V"⟩) ∈ lw_tg := List.mem_append_left _ (List.mem_of_getElem? (i := 0) rfl)
theorem x_1 : (Cond.selects "java/lang/StringBuilder" ⟨"java/lang/AbstractStringBuilder", "newCapacity", "(I)I"⟩ ⟨"java/lang/AbstractStringBuilder", "newCapacity", "(I)I"⟩) ∈ lw_tg := List.mem_append_left _ (List.mem_of_getElem? (i := 1) rfl)
theorem tg_of {args : Array Value} {s : State} (hts : ∀ w ∈ lw_tbl, w.before args s = true) : ∀ w ∈ lw_tg, w.before args s = true := by
  have ht : ∀ (i : Nat) (w : Cond), tables_1[i]? = some w → w.before args s = true := fun i w h => hts w (List.mem_append_right _ (List.mem_of_getElem? h))
  obtain ⟨cS, kS, hcS, hkS, -⟩ := Cond.instantiable_spec (ht 36 (.instantiable "java/lang/StringBuilder" 4) (by decide +kernel))
  obtain ⟨c1, r1, m1, -, -, q3, -, mkA, hmkA, hmkI⟩ := Cond.selects_spec (ht 323 (.selects "java/lang/StringBuilder" ⟨"java/lang/AbstractStringBuilder", "isLatin1", "()Z"⟩ ⟨"java/lang/AbstractStringBuilder", "isLatin1", "()Z"⟩) (by decide +kernel))
  have hA := findClass_of_methodNamed q3
  have key : ∀ y : MethodName, y.cls = "java/lang/AbstractStringBuilder" → (Cond.privateMethod y).before args s = true → (Cond.instanceMethod y).before args s = true → (Cond.selects "java/lang/StringBuilder" y y).before args s = true := by
    intro y hy hp hi
    obtain ⟨mk, methM, hnamed, hmethM, -, -⟩ := Cond.instanceMethod_spec hi
    have hfound : s.methodFound? y.cls y.name y.desc = some mk := State.methodFound?_of_named hnamed (by rw [hy]; decide)
    have hcls : mk.cls = m1.cls := Option.some.inj ((findClass_of_methodNamed hnamed).symm.trans (by rw [hy]; exact hA))
    have hsel : selectMethod {} s.vm cS mk = .method mk := selectMethod_private hmethM (Cond.privateMethod_at hp mk methM hnamed hmethM)
    simp only [Cond.before, Cond.holds, Cond.value, hcS, hfound, hnamed, hsel, hcls, hmkA]
    simp; exact hmkI
  intro w hw
  rcases List.mem_append.mp hw with h | h
  · simp only [lw_xs, lw_xy, List.map, List.mem_cons, List.not_mem_nil, or_false] at h
    rcases h with rfl | rfl
    · exact key _ rfl (ht 290 _ (by decide +kernel)) (ht 291 _ (by decide +kernel))
    · exact key _ rfl (ht 294 _ (by decide +kernel)) (ht 295 _ (by decide +kernel))
  · exact hts w (List.mem_filter.mp h).1
-- the classes whose objects the worlds hold
def R_Mod : String := "PatternBenchModel"
def F_Mod : u_T := fun k => match k with
  | 0 => ("PatternBenchModel", "limit", "I", true)
  | 1 => ("PatternBenchModel", "drafted", "I", false)
  | 2 => ("PatternBenchModel", "draft", "[I", true)
  | 3 => ("PatternBenchModel", "ready", "Z", false)
  | 4 => ("PatternBenchModel", "length", "I", false)
  | 5 => ("PatternBenchModel", "groups", "I", false)
  | 6 => ("PatternBenchModel", "size", "I", false)
  | 7 => ("PatternBenchModel", "text", "[I", true)
  | 8 => ("PatternBenchModel", "letters", "I", false)
  | 9 => ("PatternBenchModel", "subject", "[I", true)
  | 10 => ("PatternBenchModel", "steps", "I", false)
  | 11 => ("PatternBenchModel", "matched", "Z", false)
  | 12 => ("PatternBenchModel", "first", "I", false)
  | 13 => ("PatternBenchModel", "last", "I", false)
  | 14 => ("PatternBenchModel", "found", "J", false)
  | 15 => ("PatternBenchModel", "sums", "[I", true)
  | 16 => ("PatternBenchModel", "frames", "I", false)
  | 17 => ("PatternBenchModel", "frame", "[J", true)
  | 18 => ("PatternBenchModel", "kept", "[J", true)
  | 19 => ("PatternBenchModel", "backs", "I", false)
  | 20 => ("PatternBenchModel", "back", "[J", true)
  | 21 => ("PatternBenchModel", "bKept", "[J", true)
  | 22 => ("PatternBenchModel", "mode", "I", false)
  | 23 => ("PatternBenchModel", "at", "I", false)
  | 24 => ("PatternBenchModel", "p", "I", false)
  | 25 => ("PatternBenchModel", "k", "I", false)
  | _ => ("PatternBenchModel", "caps", "J", false)
def t_Mod : Nat → FieldType := fun k => match k with
  | 0 => .int
  | 1 => .int
  | 2 => .array .int
  | 3 => .boolean
  | 4 => .int
  | 5 => .int
  | 6 => .int
  | 7 => .array .int
  | 8 => .int
  | 9 => .array .int
  | 10 => .int
  | 11 => .boolean
  | 12 => .int
  | 13 => .int
  | 14 => .long
  | 15 => .array .int
  | 16 => .int
  | 17 => .array .long
  | 18 => .array .long
  | 19 => .int
  | 20 => .array .long
  | 21 => .array .long
  | 22 => .int
  | 23 => .int
  | 24 => .int
  | 25 => .int
  | _ => .long
def R_PB : String := "PatternBench"
def F_PB : u_T := fun k => match k with
  | 0 => ("PatternBench", "limit", "I", true)
  | 1 => ("PatternBench", "writing", "Ljava/lang/StringBuilder;", true)
  | 2 => ("PatternBench", "subject", "Ljava/lang/StringBuilder;", true)
  | 3 => ("PatternBench", "ready", "LPatternBench$Program;", true)
  | 4 => ("PatternBench", "there", "Z", false)
  | 5 => ("PatternBench", "readyGroups", "I", false)
  | 6 => ("PatternBench", "readySize", "I", false)
  | 7 => ("PatternBench", "at", "I", false)
  | 8 => ("PatternBench", "wrong", "Z", false)
  | 9 => ("PatternBench", "groups", "I", false)
  | 10 => ("PatternBench", "named", "I", false)
  | 11 => ("PatternBench", "insides", "[LPatternBench$Part;", true)
  | 12 => ("PatternBench", "trail", "[I", false)
  | 13 => ("PatternBench", "height", "I", false)
  | 14 => ("PatternBench", "captures", "[I", true)
  | 15 => ("PatternBench", "marks", "[I", false)
  | 16 => ("PatternBench", "marked", "I", false)
  | 17 => ("PatternBench", "frames", "[I", true)
  | 18 => ("PatternBench", "calls", "I", false)
  | 19 => ("PatternBench", "pc", "I", false)
  | 20 => ("PatternBench", "place", "I", false)
  | 21 => ("PatternBench", "steps", "I", false)
  | 22 => ("PatternBench", "stopped", "Z", false)
  | _ => ("PatternBench", "matched", "Z", false)
def t_PB : Nat → FieldType := fun k => match k with
  | 0 => .int
  | 1 => .object "java/lang/StringBuilder"
  | 2 => .object "java/lang/StringBuilder"
  | 3 => .object "PatternBench$Program"
  | 4 => .boolean
  | 5 => .int
  | 6 => .int
  | 7 => .int
  | 8 => .boolean
  | 9 => .int
  | 10 => .int
  | 11 => .array (.object "PatternBench$Part")
  | 12 => .array .int
  | 13 => .int
  | 14 => .array .int
  | 15 => .array .int
  | 16 => .int
  | 17 => .array .int
  | 18 => .int
  | 19 => .int
  | 20 => .int
  | 21 => .int
  | 22 => .boolean
  | _ => .boolean
def R_Prog : String := "PatternBench$Program"
def F_Prog : u_T := fun k => match k with
  | 0 => ("PatternBench$Program", "op", "[LPatternBench$Op;", false)
  | 1 => ("PatternBench$Program", "x", "[I", false)
  | 2 => ("PatternBench$Program", "y", "[I", false)
  | 3 => ("PatternBench$Program", "entry", "[I", true)
  | _ => ("PatternBench$Program", "length", "I", false)
def t_Prog : Nat → FieldType := fun k => match k with
  | 0 => .array (.object "PatternBench$Op")
  | 1 => .array .int
  | 2 => .array .int
  | 3 => .array .int
  | _ => .int
def R_SB : String := "java/lang/StringBuilder"
def F_SB : u_T := fun k => match k with
  | 0 => ("java/lang/AbstractStringBuilder", "value", "[B", false)
  | 1 => ("java/lang/AbstractStringBuilder", "coder", "B", false)
  | 2 => ("java/lang/AbstractStringBuilder", "maybeLatin1", "Z", false)
  | _ => ("java/lang/AbstractStringBuilder", "count", "I", false)
def t_SB : Nat → FieldType := fun k => match k with
  | 0 => .array .byte
  | 1 => .byte
  | 2 => .boolean
  | _ => .int
def R_AL : String := "java/util/ArrayList"
def F_AL : u_T := fun k => match k with
  | 0 => ("java/util/ArrayList", "elementData", "[Ljava/lang/Object;", false)
  | 1 => ("java/util/ArrayList", "size", "I", false)
  | _ => ("java/util/AbstractList", "modCount", "I", false)
def t_AL : Nat → FieldType := fun k => match k with
  | 0 => .array (.object "java/lang/Object")
  | 1 => .int
  | _ => .int
def R_Leaf : String := "PatternBench$Leaf"
def F_Leaf : u_T := fun k => match k with
  | 0 => ("PatternBench$Leaf", "op", "LPatternBench$Op;", true)
  | _ => ("PatternBench$Leaf", "number", "I", true)
def t_Leaf : Nat → FieldType := fun k => match k with
  | 0 => .object "PatternBench$Op"
  | _ => .int
def R_Row : String := "PatternBench$Row"
def F_Row : u_T := fun k => match k with
  | _ => ("PatternBench$Row", "items", "Ljava/util/ArrayList;", true)
def t_Row : Nat → FieldType := fun k => match k with
  | _ => .object "java/util/ArrayList"
def R_Cho : String := "PatternBench$Choice"
def F_Cho : u_T := fun k => match k with
  | _ => ("PatternBench$Choice", "rows", "Ljava/util/ArrayList;", true)
def t_Cho : Nat → FieldType := fun k => match k with
  | _ => .object "java/util/ArrayList"
def R_Grp : String := "PatternBench$Group"
def F_Grp : u_T := fun k => match k with
  | 0 => ("PatternBench$Group", "kind", "C", true)
  | 1 => ("PatternBench$Group", "number", "I", true)
  | _ => ("PatternBench$Group", "inside", "LPatternBench$Part;", true)
def t_Grp : Nat → FieldType := fun k => match k with
  | 0 => .char
  | 1 => .int
  | _ => .object "PatternBench$Part"
def R_Rep : String := "PatternBench$Repeat"
def F_Rep : u_T := fun k => match k with
  | 0 => ("PatternBench$Repeat", "part", "LPatternBench$Part;", true)
  | 1 => ("PatternBench$Repeat", "how", "C", true)
  | 2 => ("PatternBench$Repeat", "times", "I", true)
  | _ => ("PatternBench$Repeat", "manner", "C", true)
def t_Rep : Nat → FieldType := fun k => match k with
  | 0 => .object "PatternBench$Part"
  | 1 => .char
  | 2 => .int
  | _ => .char
abbrev classes : List vw_C := [(R_Mod, F_Mod, 27), (R_PB, F_PB, 24), (R_Prog, F_Prog, 5), (R_SB, F_SB, 4), (R_AL, F_AL, 3), (R_Leaf, F_Leaf, 2), (R_Row, F_Row, 1), (R_Cho, F_Cho, 1), (R_Grp, F_Grp, 3), (R_Rep, F_Rep, 4)]
theorem n_Mod : ∀ a, a < 27 → ∀ b, b < 27 → a ≠ b → (F_Mod a).2.1 ≠ (F_Mod b).2.1 := by decide +kernel
theorem t_Mod_ok : ∀ k, k < 27 → parseFieldDescriptor (F_Mod k).2.2.1 = some (t_Mod k) := by decide +kernel
theorem i_Mod : ∀ w ∈ u_ws R_Mod F_Mod 27, w ∈ lw_tg := fun w h => List.mem_append_right _ <| List.mem_filter.mpr ((show ∀ w ∈ u_ws R_Mod F_Mod 27, w ∈ lw_tbl ∧ goodWord w = true from by decide +kernel) w h)
theorem n_PB : ∀ a, a < 24 → ∀ b, b < 24 → a ≠ b → (F_PB a).2.1 ≠ (F_PB b).2.1 := by decide +kernel
theorem t_PB_ok : ∀ k, k < 24 → parseFieldDescriptor (F_PB k).2.2.1 = some (t_PB k) := by decide +kernel
theorem i_PB : ∀ w ∈ u_ws R_PB F_PB 24, w ∈ lw_tg := fun w h => List.mem_append_right _ <| List.mem_filter.mpr ((show ∀ w ∈ u_ws R_PB F_PB 24, w ∈ lw_tbl ∧ goodWord w = true from by decide +kernel) w h)
theorem n_Prog : ∀ a, a < 5 → ∀ b, b < 5 → a ≠ b → (F_Prog a).2.1 ≠ (F_Prog b).2.1 := by decide +kernel
theorem t_Prog_ok : ∀ k, k < 5 → parseFieldDescriptor (F_Prog k).2.2.1 = some (t_Prog k) := by decide +kernel
theorem i_Prog : ∀ w ∈ u_ws R_Prog F_Prog 5, w ∈ lw_tg := fun w h => List.mem_append_right _ <| List.mem_filter.mpr ((show ∀ w ∈ u_ws R_Prog F_Prog 5, w ∈ lw_tbl ∧ goodWord w = true from by decide +kernel) w h)
theorem n_SB : ∀ a, a < 4 → ∀ b, b < 4 → a ≠ b → (F_SB a).2.1 ≠ (F_SB b).2.1 := by decide +kernel
theorem t_SB_ok : ∀ k, k < 4 → parseFieldDescriptor (F_SB k).2.2.1 = some (t_SB k) := by decide +kernel
theorem i_SB : ∀ w ∈ u_ws R_SB F_SB 4, w ∈ lw_tg := fun w h => List.mem_append_right _ <| List.mem_filter.mpr ((show ∀ w ∈ u_ws R_SB F_SB 4, w ∈ lw_tbl ∧ goodWord w = true from by decide +kernel) w h)
theorem n_AL : ∀ a, a < 3 → ∀ b, b < 3 → a ≠ b → (F_AL a).2.1 ≠ (F_AL b).2.1 := by decide +kernel
theorem t_AL_ok : ∀ k, k < 3 → parseFieldDescriptor (F_AL k).2.2.1 = some (t_AL k) := by decide +kernel
theorem i_AL : ∀ w ∈ u_ws R_AL F_AL 3, w ∈ lw_tg := fun w h => List.mem_append_right _ <| List.mem_filter.mpr ((show ∀ w ∈ u_ws R_AL F_AL 3, w ∈ lw_tbl ∧ goodWord w = true from by decide +kernel) w h)
theorem n_Leaf : ∀ a, a < 2 → ∀ b, b < 2 → a ≠ b → (F_Leaf a).2.1 ≠ (F_Leaf b).2.1 := by decide +kernel
theorem t_Leaf_ok : ∀ k, k < 2 → parseFieldDescriptor (F_Leaf k).2.2.1 = some (t_Leaf k) := by decide +kernel
theorem i_Leaf : ∀ w ∈ u_ws R_Leaf F_Leaf 2, w ∈ lw_tg := fun w h => List.mem_append_right _ <| List.mem_filter.mpr ((show ∀ w ∈ u_ws R_Leaf F_Leaf 2, w ∈ lw_tbl ∧ goodWord w = true from by decide +kernel) w h)
theorem n_Row : ∀ a, a < 1 → ∀ b, b < 1 → a ≠ b → (F_Row a).2.1 ≠ (F_Row b).2.1 := by decide +kernel
theorem t_Row_ok : ∀ k, k < 1 → parseFieldDescriptor (F_Row k).2.2.1 = some (t_Row k) := by decide +kernel
theorem i_Row : ∀ w ∈ u_ws R_Row F_Row 1, w ∈ lw_tg := fun w h => List.mem_append_right _ <| List.mem_filter.mpr ((show ∀ w ∈ u_ws R_Row F_Row 1, w ∈ lw_tbl ∧ goodWord w = true from by decide +kernel) w h)
theorem n_Cho : ∀ a, a < 1 → ∀ b, b < 1 → a ≠ b → (F_Cho a).2.1 ≠ (F_Cho b).2.1 := by decide +kernel
theorem t_Cho_ok : ∀ k, k < 1 → parseFieldDescriptor (F_Cho k).2.2.1 = some (t_Cho k) := by decide +kernel
theorem i_Cho : ∀ w ∈ u_ws R_Cho F_Cho 1, w ∈ lw_tg := fun w h => List.mem_append_right _ <| List.mem_filter.mpr ((show ∀ w ∈ u_ws R_Cho F_Cho 1, w ∈ lw_tbl ∧ goodWord w = true from by decide +kernel) w h)
theorem n_Grp : ∀ a, a < 3 → ∀ b, b < 3 → a ≠ b → (F_Grp a).2.1 ≠ (F_Grp b).2.1 := by decide +kernel
theorem t_Grp_ok : ∀ k, k < 3 → parseFieldDescriptor (F_Grp k).2.2.1 = some (t_Grp k) := by decide +kernel
theorem i_Grp : ∀ w ∈ u_ws R_Grp F_Grp 3, w ∈ lw_tg := fun w h => List.mem_append_right _ <| List.mem_filter.mpr ((show ∀ w ∈ u_ws R_Grp F_Grp 3, w ∈ lw_tbl ∧ goodWord w = true from by decide +kernel) w h)
theorem n_Rep : ∀ a, a < 4 → ∀ b, b < 4 → a ≠ b → (F_Rep a).2.1 ≠ (F_Rep b).2.1 := by decide +kernel
theorem t_Rep_ok : ∀ k, k < 4 → parseFieldDescriptor (F_Rep k).2.2.1 = some (t_Rep k) := by decide +kernel
theorem i_Rep : ∀ w ∈ u_ws R_Rep F_Rep 4, w ∈ lw_tg := fun w h => List.mem_append_right _ <| List.mem_filter.mpr ((show ∀ w ∈ u_ws R_Rep F_Rep 4, w ∈ lw_tbl ∧ goodWord w = true from by decide +kernel) w h)
