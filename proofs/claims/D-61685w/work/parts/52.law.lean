theorem k_0 : (Cond.initialized "PatternBenchLaw") ∈ lw_tg := kw 0 (by decide +kernel) (by decide +kernel)
theorem k_27 : (Cond.classLink "PatternBenchLaw" 7 "PatternBench") ∈ lw_tg := kw 27 (by decide +kernel) (by decide +kernel)
theorem k_28 : (Cond.instantiable "PatternBench" 24) ∈ lw_tg := kw 28 (by decide +kernel) (by decide +kernel)
theorem k_29 : (Cond.methodLink "PatternBenchLaw" 15 ⟨"PatternBench", "<init>", "(I)V"⟩) ∈ lw_tg := kw 29 (by decide +kernel) (by decide +kernel)
theorem k_30 : (Cond.instanceMethod ⟨"PatternBench", "<init>", "(I)V"⟩) ∈ lw_tg := kw 30 (by decide +kernel) (by decide +kernel)
theorem k_31 : (Cond.code ⟨"PatternBench", "<init>", "(I)V"⟩ prog_1_method_2_code 2 (Option.none : Option Jvm.ClassFile.FieldType)) ∈ lw_tg := kw 31 (by decide +kernel) (by decide +kernel)
theorem k_186 : (Cond.methodLink "PatternBenchLaw" 21 ⟨"PatternBench", "write", "(I)I"⟩) ∈ lw_tg := kw 186 (by decide +kernel) (by decide +kernel)
theorem k_187 : (Cond.instanceMethod ⟨"PatternBench", "write", "(I)I"⟩) ∈ lw_tg := kw 187 (by decide +kernel) (by decide +kernel)
theorem k_188 : (Cond.selects "PatternBench" ⟨"PatternBench", "write", "(I)I"⟩ ⟨"PatternBench", "write", "(I)I"⟩) ∈ lw_tg := kw 188 (by decide +kernel) (by decide +kernel)
theorem k_189 : (Cond.code ⟨"PatternBench", "write", "(I)I"⟩ prog_1_method_16_code 2 (Option.some .int)) ∈ lw_tg := kw 189 (by decide +kernel) (by decide +kernel)
theorem k_362 : (Cond.methodLink "PatternBenchLaw" 26 ⟨"PatternBench", "compile", "()I"⟩) ∈ lw_tg := kw 362 (by decide +kernel) (by decide +kernel)
theorem k_363 : (Cond.instanceMethod ⟨"PatternBench", "compile", "()I"⟩) ∈ lw_tg := kw 363 (by decide +kernel) (by decide +kernel)
theorem k_364 : (Cond.selects "PatternBench" ⟨"PatternBench", "compile", "()I"⟩ ⟨"PatternBench", "compile", "()I"⟩) ∈ lw_tg := kw 364 (by decide +kernel) (by decide +kernel)
theorem k_365 : (Cond.code ⟨"PatternBench", "compile", "()I"⟩ prog_1_method_17_code 4 (Option.some .int)) ∈ lw_tg := kw 365 (by decide +kernel) (by decide +kernel)
theorem k_744 : (Cond.methodLink "PatternBenchLaw" 31 ⟨"PatternBench", "feed", "(I)I"⟩) ∈ lw_tg := kw 744 (by decide +kernel) (by decide +kernel)
theorem k_745 : (Cond.instanceMethod ⟨"PatternBench", "feed", "(I)I"⟩) ∈ lw_tg := kw 745 (by decide +kernel) (by decide +kernel)
theorem k_746 : (Cond.selects "PatternBench" ⟨"PatternBench", "feed", "(I)I"⟩ ⟨"PatternBench", "feed", "(I)I"⟩) ∈ lw_tg := kw 746 (by decide +kernel) (by decide +kernel)
theorem k_747 : (Cond.code ⟨"PatternBench", "feed", "(I)I"⟩ prog_1_method_18_code 2 (Option.some .int)) ∈ lw_tg := kw 747 (by decide +kernel) (by decide +kernel)
theorem k_748 : (Cond.methodLink "PatternBenchLaw" 35 ⟨"PatternBench", "clear", "()I"⟩) ∈ lw_tg := kw 748 (by decide +kernel) (by decide +kernel)
theorem k_749 : (Cond.instanceMethod ⟨"PatternBench", "clear", "()I"⟩) ∈ lw_tg := kw 749 (by decide +kernel) (by decide +kernel)
theorem k_750 : (Cond.selects "PatternBench" ⟨"PatternBench", "clear", "()I"⟩ ⟨"PatternBench", "clear", "()I"⟩) ∈ lw_tg := kw 750 (by decide +kernel) (by decide +kernel)
theorem k_751 : (Cond.code ⟨"PatternBench", "clear", "()I"⟩ prog_1_method_19_code 2 (Option.some .int)) ∈ lw_tg := kw 751 (by decide +kernel) (by decide +kernel)
theorem k_752 : (Cond.methodLink "PatternBenchLaw" 39 ⟨"PatternBench", "search", "(I)I"⟩) ∈ lw_tg := kw 752 (by decide +kernel) (by decide +kernel)
theorem k_753 : (Cond.instanceMethod ⟨"PatternBench", "search", "(I)I"⟩) ∈ lw_tg := kw 753 (by decide +kernel) (by decide +kernel)
theorem k_754 : (Cond.selects "PatternBench" ⟨"PatternBench", "search", "(I)I"⟩ ⟨"PatternBench", "search", "(I)I"⟩) ∈ lw_tg := kw 754 (by decide +kernel) (by decide +kernel)
theorem k_755 : (Cond.code ⟨"PatternBench", "search", "(I)I"⟩ prog_1_method_37_code 2 (Option.some .int)) ∈ lw_tg := kw 755 (by decide +kernel) (by decide +kernel)
theorem k_831 : (Cond.methodLink "PatternBenchLaw" 43 ⟨"PatternBench", "again", "()I"⟩) ∈ lw_tg := kw 831 (by decide +kernel) (by decide +kernel)
theorem k_832 : (Cond.instanceMethod ⟨"PatternBench", "again", "()I"⟩) ∈ lw_tg := kw 832 (by decide +kernel) (by decide +kernel)
theorem k_833 : (Cond.selects "PatternBench" ⟨"PatternBench", "again", "()I"⟩ ⟨"PatternBench", "again", "()I"⟩) ∈ lw_tg := kw 833 (by decide +kernel) (by decide +kernel)
theorem k_834 : (Cond.code ⟨"PatternBench", "again", "()I"⟩ prog_1_method_39_code 1 (Option.some .int)) ∈ lw_tg := kw 834 (by decide +kernel) (by decide +kernel)
theorem k_839 : (Cond.methodLink "PatternBenchLaw" 47 ⟨"PatternBench", "start", "(I)I"⟩) ∈ lw_tg := kw 839 (by decide +kernel) (by decide +kernel)
theorem k_840 : (Cond.instanceMethod ⟨"PatternBench", "start", "(I)I"⟩) ∈ lw_tg := kw 840 (by decide +kernel) (by decide +kernel)
theorem k_841 : (Cond.selects "PatternBench" ⟨"PatternBench", "start", "(I)I"⟩ ⟨"PatternBench", "start", "(I)I"⟩) ∈ lw_tg := kw 841 (by decide +kernel) (by decide +kernel)
theorem k_842 : (Cond.code ⟨"PatternBench", "start", "(I)I"⟩ prog_1_method_40_code 2 (Option.some .int)) ∈ lw_tg := kw 842 (by decide +kernel) (by decide +kernel)
theorem k_843 : (Cond.methodLink "PatternBenchLaw" 51 ⟨"PatternBench", "end", "(I)I"⟩) ∈ lw_tg := kw 843 (by decide +kernel) (by decide +kernel)
theorem k_844 : (Cond.instanceMethod ⟨"PatternBench", "end", "(I)I"⟩) ∈ lw_tg := kw 844 (by decide +kernel) (by decide +kernel)
theorem k_845 : (Cond.selects "PatternBench" ⟨"PatternBench", "end", "(I)I"⟩ ⟨"PatternBench", "end", "(I)I"⟩) ∈ lw_tg := kw 845 (by decide +kernel) (by decide +kernel)
theorem k_846 : (Cond.code ⟨"PatternBench", "end", "(I)I"⟩ prog_1_method_41_code 2 (Option.some .int)) ∈ lw_tg := kw 846 (by decide +kernel) (by decide +kernel)
theorem k_847 : (Cond.methodLink "PatternBenchLaw" 55 ⟨"PatternBench", "steps", "()I"⟩) ∈ lw_tg := kw 847 (by decide +kernel) (by decide +kernel)
theorem k_848 : (Cond.instanceMethod ⟨"PatternBench", "steps", "()I"⟩) ∈ lw_tg := kw 848 (by decide +kernel) (by decide +kernel)
theorem k_849 : (Cond.selects "PatternBench" ⟨"PatternBench", "steps", "()I"⟩ ⟨"PatternBench", "steps", "()I"⟩) ∈ lw_tg := kw 849 (by decide +kernel) (by decide +kernel)
theorem k_850 : (Cond.code ⟨"PatternBench", "steps", "()I"⟩ prog_1_method_42_code 1 (Option.some .int)) ∈ lw_tg := kw 850 (by decide +kernel) (by decide +kernel)
theorem k_851 : (Cond.methodLink "PatternBenchLaw" 59 ⟨"PatternBench", "matches", "()I"⟩) ∈ lw_tg := kw 851 (by decide +kernel) (by decide +kernel)
theorem k_852 : (Cond.instanceMethod ⟨"PatternBench", "matches", "()I"⟩) ∈ lw_tg := kw 852 (by decide +kernel) (by decide +kernel)
theorem k_853 : (Cond.selects "PatternBench" ⟨"PatternBench", "matches", "()I"⟩ ⟨"PatternBench", "matches", "()I"⟩) ∈ lw_tg := kw 853 (by decide +kernel) (by decide +kernel)
theorem k_854 : (Cond.code ⟨"PatternBench", "matches", "()I"⟩ prog_1_method_43_code 4 (Option.some .int)) ∈ lw_tg := kw 854 (by decide +kernel) (by decide +kernel)
theorem k_855 : (Cond.methodLink "PatternBenchLaw" 63 ⟨"PatternBench", "count", "(I)I"⟩) ∈ lw_tg := kw 855 (by decide +kernel) (by decide +kernel)
theorem k_856 : (Cond.instanceMethod ⟨"PatternBench", "count", "(I)I"⟩) ∈ lw_tg := kw 856 (by decide +kernel) (by decide +kernel)
theorem k_857 : (Cond.selects "PatternBench" ⟨"PatternBench", "count", "(I)I"⟩ ⟨"PatternBench", "count", "(I)I"⟩) ∈ lw_tg := kw 857 (by decide +kernel) (by decide +kernel)
theorem k_858 : (Cond.code ⟨"PatternBench", "count", "(I)I"⟩ prog_1_method_44_code 2 (Option.some .int)) ∈ lw_tg := kw 858 (by decide +kernel) (by decide +kernel)
theorem k_859 : (Cond.methodLink "PatternBenchLaw" 9 ⟨"PatternBenchLaw", "cell", "([II)I"⟩) ∈ lw_tg := kw 859 (by decide +kernel) (by decide +kernel)
theorem k_860 : (Cond.static ⟨"PatternBenchLaw", "cell", "([II)I"⟩) ∈ lw_tg := kw 860 (by decide +kernel) (by decide +kernel)
theorem k_861 : (Cond.code ⟨"PatternBenchLaw", "cell", "([II)I"⟩ method_2_code 2 (Option.some .int)) ∈ lw_tg := kw 861 (by decide +kernel) (by decide +kernel)
theorem k_862 : (Cond.classLink "PatternBenchLaw" 18 "PatternBenchModel") ∈ lw_tg := kw 862 (by decide +kernel) (by decide +kernel)
theorem k_863 : (Cond.instantiable "PatternBenchModel" 27) ∈ lw_tg := kw 863 (by decide +kernel) (by decide +kernel)
theorem k_864 : (Cond.methodLink "PatternBenchLaw" 20 ⟨"PatternBenchModel", "<init>", "(I)V"⟩) ∈ lw_tg := kw 864 (by decide +kernel) (by decide +kernel)
theorem k_865 : (Cond.instanceMethod ⟨"PatternBenchModel", "<init>", "(I)V"⟩) ∈ lw_tg := kw 865 (by decide +kernel) (by decide +kernel)
theorem k_866 : (Cond.code ⟨"PatternBenchModel", "<init>", "(I)V"⟩ prog_11_method_1_code 2 (Option.none : Option Jvm.ClassFile.FieldType)) ∈ lw_tg := kw 866 (by decide +kernel) (by decide +kernel)
theorem k_951 : (Cond.methodLink "PatternBenchLaw" 25 ⟨"PatternBenchModel", "write", "(I)I"⟩) ∈ lw_tg := kw 951 (by decide +kernel) (by decide +kernel)
theorem k_952 : (Cond.instanceMethod ⟨"PatternBenchModel", "write", "(I)I"⟩) ∈ lw_tg := kw 952 (by decide +kernel) (by decide +kernel)
theorem k_953 : (Cond.selects "PatternBenchModel" ⟨"PatternBenchModel", "write", "(I)I"⟩ ⟨"PatternBenchModel", "write", "(I)I"⟩) ∈ lw_tg := kw 953 (by decide +kernel) (by decide +kernel)
theorem k_954 : (Cond.code ⟨"PatternBenchModel", "write", "(I)I"⟩ prog_11_method_5_code 2 (Option.some .int)) ∈ lw_tg := kw 954 (by decide +kernel) (by decide +kernel)
theorem k_964 : (Cond.methodLink "PatternBenchLaw" 30 ⟨"PatternBenchModel", "compile", "()I"⟩) ∈ lw_tg := kw 964 (by decide +kernel) (by decide +kernel)
theorem k_965 : (Cond.instanceMethod ⟨"PatternBenchModel", "compile", "()I"⟩) ∈ lw_tg := kw 965 (by decide +kernel) (by decide +kernel)
theorem k_966 : (Cond.selects "PatternBenchModel" ⟨"PatternBenchModel", "compile", "()I"⟩ ⟨"PatternBenchModel", "compile", "()I"⟩) ∈ lw_tg := kw 966 (by decide +kernel) (by decide +kernel)
theorem k_967 : (Cond.code ⟨"PatternBenchModel", "compile", "()I"⟩ prog_11_method_15_code 6 (Option.some .int)) ∈ lw_tg := kw 967 (by decide +kernel) (by decide +kernel)
theorem k_1004 : (Cond.methodLink "PatternBenchLaw" 34 ⟨"PatternBenchModel", "feed", "(I)I"⟩) ∈ lw_tg := kw 1004 (by decide +kernel) (by decide +kernel)
theorem k_1005 : (Cond.instanceMethod ⟨"PatternBenchModel", "feed", "(I)I"⟩) ∈ lw_tg := kw 1005 (by decide +kernel) (by decide +kernel)
theorem k_1006 : (Cond.selects "PatternBenchModel" ⟨"PatternBenchModel", "feed", "(I)I"⟩ ⟨"PatternBenchModel", "feed", "(I)I"⟩) ∈ lw_tg := kw 1006 (by decide +kernel) (by decide +kernel)
theorem k_1007 : (Cond.code ⟨"PatternBenchModel", "feed", "(I)I"⟩ prog_11_method_16_code 2 (Option.some .int)) ∈ lw_tg := kw 1007 (by decide +kernel) (by decide +kernel)
theorem k_1008 : (Cond.methodLink "PatternBenchLaw" 38 ⟨"PatternBenchModel", "clear", "()I"⟩) ∈ lw_tg := kw 1008 (by decide +kernel) (by decide +kernel)
theorem k_1009 : (Cond.instanceMethod ⟨"PatternBenchModel", "clear", "()I"⟩) ∈ lw_tg := kw 1009 (by decide +kernel) (by decide +kernel)
theorem k_1010 : (Cond.selects "PatternBenchModel" ⟨"PatternBenchModel", "clear", "()I"⟩ ⟨"PatternBenchModel", "clear", "()I"⟩) ∈ lw_tg := kw 1010 (by decide +kernel) (by decide +kernel)
theorem k_1011 : (Cond.code ⟨"PatternBenchModel", "clear", "()I"⟩ prog_11_method_17_code 2 (Option.some .int)) ∈ lw_tg := kw 1011 (by decide +kernel) (by decide +kernel)
theorem k_1012 : (Cond.methodLink "PatternBenchLaw" 42 ⟨"PatternBenchModel", "search", "(I)I"⟩) ∈ lw_tg := kw 1012 (by decide +kernel) (by decide +kernel)
theorem k_1013 : (Cond.instanceMethod ⟨"PatternBenchModel", "search", "(I)I"⟩) ∈ lw_tg := kw 1013 (by decide +kernel) (by decide +kernel)
theorem k_1014 : (Cond.selects "PatternBenchModel" ⟨"PatternBenchModel", "search", "(I)I"⟩ ⟨"PatternBenchModel", "search", "(I)I"⟩) ∈ lw_tg := kw 1014 (by decide +kernel) (by decide +kernel)
theorem k_1015 : (Cond.code ⟨"PatternBenchModel", "search", "(I)I"⟩ prog_11_method_46_code 2 (Option.some .int)) ∈ lw_tg := kw 1015 (by decide +kernel) (by decide +kernel)
theorem k_1131 : (Cond.methodLink "PatternBenchLaw" 46 ⟨"PatternBenchModel", "again", "()I"⟩) ∈ lw_tg := kw 1131 (by decide +kernel) (by decide +kernel)
theorem k_1132 : (Cond.instanceMethod ⟨"PatternBenchModel", "again", "()I"⟩) ∈ lw_tg := kw 1132 (by decide +kernel) (by decide +kernel)
theorem k_1133 : (Cond.selects "PatternBenchModel" ⟨"PatternBenchModel", "again", "()I"⟩ ⟨"PatternBenchModel", "again", "()I"⟩) ∈ lw_tg := kw 1133 (by decide +kernel) (by decide +kernel)
theorem k_1134 : (Cond.code ⟨"PatternBenchModel", "again", "()I"⟩ prog_11_method_47_code 2 (Option.some .int)) ∈ lw_tg := kw 1134 (by decide +kernel) (by decide +kernel)
theorem k_1135 : (Cond.methodLink "PatternBenchLaw" 50 ⟨"PatternBenchModel", "start", "(I)I"⟩) ∈ lw_tg := kw 1135 (by decide +kernel) (by decide +kernel)
theorem k_1136 : (Cond.instanceMethod ⟨"PatternBenchModel", "start", "(I)I"⟩) ∈ lw_tg := kw 1136 (by decide +kernel) (by decide +kernel)
theorem k_1137 : (Cond.selects "PatternBenchModel" ⟨"PatternBenchModel", "start", "(I)I"⟩ ⟨"PatternBenchModel", "start", "(I)I"⟩) ∈ lw_tg := kw 1137 (by decide +kernel) (by decide +kernel)
theorem k_1138 : (Cond.code ⟨"PatternBenchModel", "start", "(I)I"⟩ prog_11_method_49_code 2 (Option.some .int)) ∈ lw_tg := kw 1138 (by decide +kernel) (by decide +kernel)
theorem k_1143 : (Cond.methodLink "PatternBenchLaw" 54 ⟨"PatternBenchModel", "end", "(I)I"⟩) ∈ lw_tg := kw 1143 (by decide +kernel) (by decide +kernel)
theorem k_1144 : (Cond.instanceMethod ⟨"PatternBenchModel", "end", "(I)I"⟩) ∈ lw_tg := kw 1144 (by decide +kernel) (by decide +kernel)
theorem k_1145 : (Cond.selects "PatternBenchModel" ⟨"PatternBenchModel", "end", "(I)I"⟩ ⟨"PatternBenchModel", "end", "(I)I"⟩) ∈ lw_tg := kw 1145 (by decide +kernel) (by decide +kernel)
theorem k_1146 : (Cond.code ⟨"PatternBenchModel", "end", "(I)I"⟩ prog_11_method_50_code 2 (Option.some .int)) ∈ lw_tg := kw 1146 (by decide +kernel) (by decide +kernel)
theorem k_1147 : (Cond.methodLink "PatternBenchLaw" 58 ⟨"PatternBenchModel", "steps", "()I"⟩) ∈ lw_tg := kw 1147 (by decide +kernel) (by decide +kernel)
theorem k_1148 : (Cond.instanceMethod ⟨"PatternBenchModel", "steps", "()I"⟩) ∈ lw_tg := kw 1148 (by decide +kernel) (by decide +kernel)
theorem k_1149 : (Cond.selects "PatternBenchModel" ⟨"PatternBenchModel", "steps", "()I"⟩ ⟨"PatternBenchModel", "steps", "()I"⟩) ∈ lw_tg := kw 1149 (by decide +kernel) (by decide +kernel)
theorem k_1150 : (Cond.code ⟨"PatternBenchModel", "steps", "()I"⟩ prog_11_method_51_code 1 (Option.some .int)) ∈ lw_tg := kw 1150 (by decide +kernel) (by decide +kernel)
theorem k_1151 : (Cond.methodLink "PatternBenchLaw" 62 ⟨"PatternBenchModel", "matches", "()I"⟩) ∈ lw_tg := kw 1151 (by decide +kernel) (by decide +kernel)
theorem k_1152 : (Cond.instanceMethod ⟨"PatternBenchModel", "matches", "()I"⟩) ∈ lw_tg := kw 1152 (by decide +kernel) (by decide +kernel)
theorem k_1153 : (Cond.selects "PatternBenchModel" ⟨"PatternBenchModel", "matches", "()I"⟩ ⟨"PatternBenchModel", "matches", "()I"⟩) ∈ lw_tg := kw 1153 (by decide +kernel) (by decide +kernel)
theorem k_1154 : (Cond.code ⟨"PatternBenchModel", "matches", "()I"⟩ prog_11_method_52_code 4 (Option.some .int)) ∈ lw_tg := kw 1154 (by decide +kernel) (by decide +kernel)
theorem k_1155 : (Cond.methodLink "PatternBenchLaw" 66 ⟨"PatternBenchModel", "count", "(I)I"⟩) ∈ lw_tg := kw 1155 (by decide +kernel) (by decide +kernel)
theorem k_1156 : (Cond.instanceMethod ⟨"PatternBenchModel", "count", "(I)I"⟩) ∈ lw_tg := kw 1156 (by decide +kernel) (by decide +kernel)
theorem k_1157 : (Cond.selects "PatternBenchModel" ⟨"PatternBenchModel", "count", "(I)I"⟩ ⟨"PatternBenchModel", "count", "(I)I"⟩) ∈ lw_tg := kw 1157 (by decide +kernel) (by decide +kernel)
theorem k_1158 : (Cond.code ⟨"PatternBenchModel", "count", "(I)I"⟩ prog_11_method_53_code 2 (Option.some .int)) ∈ lw_tg := kw 1158 (by decide +kernel) (by decide +kernel)
/-! PatternBenchLaw.cell, and the walk of the law's body -/
abbrev b_cell : ByteArray := method_2_code
def y_cell : MethodName := ⟨"PatternBenchLaw", "cell", "([II)I"⟩
theorem yd_cell : y_cell.cls ≠ "java/lang/invoke/MethodHandle" ∧ y_cell.cls ≠ "java/lang/invoke/VarHandle" ∧ (parseMethodDescriptor y_cell.desc).map (fun d => d.parameters.length) = some 2 := by decide +kernel
theorem d_cell_0 : decode b_cell 0 = .ok (.iload_n 1, 1) := by decide +kernel
theorem d_cell_1 : decode b_cell 1 = .ok (.aload_n 0, 1) := by decide +kernel
theorem d_cell_2 : decode b_cell 2 = .ok (.arraylength, 1) := by decide +kernel
theorem d_cell_3 : decode b_cell 3 = .ok (.if_icmp .ge 9, 3) := by decide +kernel
theorem d_cell_6 : decode b_cell 6 = .ok (.aload_n 0, 1) := by decide +kernel
theorem d_cell_7 : decode b_cell 7 = .ok (.iload_n 1, 1) := by decide +kernel
theorem d_cell_8 : decode b_cell 8 = .ok (.iaload, 1) := by decide +kernel
theorem d_cell_9 : decode b_cell 9 = .ok (.goto 4, 3) := by decide +kernel
theorem d_cell_12 : decode b_cell 12 = .ok (.iconst 0, 1) := by decide +kernel
theorem d_cell_13 : decode b_cell 13 = .ok (.ireturn, 1) := by decide +kernel
theorem d_law_0 : decode code 0 = .ok (.new 7, 3) := by decide +kernel
theorem d_law_3 : decode code 3 = .ok (.dup, 1) := by decide +kernel
theorem d_law_4 : decode code 4 = .ok (.aload_n 0, 1) := by decide +kernel
theorem d_law_5 : decode code 5 = .ok (.iconst 0, 1) := by decide +kernel
theorem d_law_6 : decode code 6 = .ok (.invokestatic 9, 3) := by decide +kernel
theorem d_law_9 : decode code 9 = .ok (.invokespecial 15, 3) := by decide +kernel
theorem d_law_12 : decode code 12 = .ok (.astore_n 1, 1) := by decide +kernel
theorem d_law_13 : decode code 13 = .ok (.new 18, 3) := by decide +kernel
theorem d_law_16 : decode code 16 = .ok (.dup, 1) := by decide +kernel
theorem d_law_17 : decode code 17 = .ok (.aload_n 0, 1) := by decide +kernel
theorem d_law_18 : decode code 18 = .ok (.iconst 0, 1) := by decide +kernel
theorem d_law_19 : decode code 19 = .ok (.invokestatic 9, 3) := by decide +kernel
theorem d_law_22 : decode code 22 = .ok (.invokespecial 20, 3) := by decide +kernel
theorem d_law_25 : decode code 25 = .ok (.astore_n 2, 1) := by decide +kernel
theorem d_law_26 : decode code 26 = .ok (.iconst 1, 1) := by decide +kernel
theorem d_law_27 : decode code 27 = .ok (.istore_n 3, 1) := by decide +kernel
theorem d_law_28 : decode code 28 = .ok (.iload_n 3, 1) := by decide +kernel
theorem d_law_29 : decode code 29 = .ok (.aload_n 0, 1) := by decide +kernel
theorem d_law_30 : decode code 30 = .ok (.arraylength, 1) := by decide +kernel
theorem d_law_31 : decode code 31 = .ok (.iconst 2, 1) := by decide +kernel
theorem d_law_32 : decode code 32 = .ok (.isub, 1) := by decide +kernel
theorem d_law_33 : decode code 33 = .ok (.if_icmp .gt 276, 3) := by decide +kernel
theorem d_law_36 : decode code 36 = .ok (.aload_n 0, 1) := by decide +kernel
theorem d_law_37 : decode code 37 = .ok (.iload_n 3, 1) := by decide +kernel
theorem d_law_38 : decode code 38 = .ok (.iaload, 1) := by decide +kernel
theorem d_law_39 : decode code 39 = .ok (.bipush 15, 2) := by decide +kernel
theorem d_law_41 : decode code 41 = .ok (.iand, 1) := by decide +kernel
theorem d_law_42 : decode code 42 = .ok (.tableswitch 261 0 10 #[58, 81, 94, 117, 130, 153, 166, 189, 212, 225, 238], 58) := by decide +kernel
theorem d_law_100 : decode code 100 = .ok (.aload_n 1, 1) := by decide +kernel
theorem d_law_101 : decode code 101 = .ok (.aload_n 0, 1) := by decide +kernel
theorem d_law_102 : decode code 102 = .ok (.iload_n 3, 1) := by decide +kernel
theorem d_law_103 : decode code 103 = .ok (.iconst 1, 1) := by decide +kernel
theorem d_law_104 : decode code 104 = .ok (.iadd, 1) := by decide +kernel
theorem d_law_105 : decode code 105 = .ok (.iaload, 1) := by decide +kernel
theorem d_law_106 : decode code 106 = .ok (.invokevirtual 21, 3) := by decide +kernel
theorem d_law_109 : decode code 109 = .ok (.aload_n 2, 1) := by decide +kernel
theorem d_law_110 : decode code 110 = .ok (.aload_n 0, 1) := by decide +kernel
theorem d_law_111 : decode code 111 = .ok (.iload_n 3, 1) := by decide +kernel
theorem d_law_112 : decode code 112 = .ok (.iconst 1, 1) := by decide +kernel
theorem d_law_113 : decode code 113 = .ok (.iadd, 1) := by decide +kernel
theorem d_law_114 : decode code 114 = .ok (.iaload, 1) := by decide +kernel
theorem d_law_115 : decode code 115 = .ok (.invokevirtual 25, 3) := by decide +kernel
theorem d_law_118 : decode code 118 = .ok (.if_icmp .eq 185, 3) := by decide +kernel
theorem d_law_121 : decode code 121 = .ok (.iconst 0, 1) := by decide +kernel
theorem d_law_122 : decode code 122 = .ok (.ireturn, 1) := by decide +kernel
theorem d_law_123 : decode code 123 = .ok (.aload_n 1, 1) := by decide +kernel
theorem d_law_124 : decode code 124 = .ok (.invokevirtual 26, 3) := by decide +kernel
theorem d_law_127 : decode code 127 = .ok (.aload_n 2, 1) := by decide +kernel
theorem d_law_128 : decode code 128 = .ok (.invokevirtual 30, 3) := by decide +kernel
theorem d_law_131 : decode code 131 = .ok (.if_icmp .eq 172, 3) := by decide +kernel
theorem d_law_134 : decode code 134 = .ok (.iconst 0, 1) := by decide +kernel
theorem d_law_135 : decode code 135 = .ok (.ireturn, 1) := by decide +kernel
theorem d_law_136 : decode code 136 = .ok (.aload_n 1, 1) := by decide +kernel
theorem d_law_137 : decode code 137 = .ok (.aload_n 0, 1) := by decide +kernel
theorem d_law_138 : decode code 138 = .ok (.iload_n 3, 1) := by decide +kernel
theorem d_law_139 : decode code 139 = .ok (.iconst 1, 1) := by decide +kernel
theorem d_law_140 : decode code 140 = .ok (.iadd, 1) := by decide +kernel
theorem d_law_141 : decode code 141 = .ok (.iaload, 1) := by decide +kernel
theorem d_law_142 : decode code 142 = .ok (.invokevirtual 31, 3) := by decide +kernel
theorem d_law_145 : decode code 145 = .ok (.aload_n 2, 1) := by decide +kernel
theorem d_law_146 : decode code 146 = .ok (.aload_n 0, 1) := by decide +kernel
theorem d_law_147 : decode code 147 = .ok (.iload_n 3, 1) := by decide +kernel
theorem d_law_148 : decode code 148 = .ok (.iconst 1, 1) := by decide +kernel
theorem d_law_149 : decode code 149 = .ok (.iadd, 1) := by decide +kernel
theorem d_law_150 : decode code 150 = .ok (.iaload, 1) := by decide +kernel
theorem d_law_151 : decode code 151 = .ok (.invokevirtual 34, 3) := by decide +kernel
theorem d_law_154 : decode code 154 = .ok (.if_icmp .eq 149, 3) := by decide +kernel
theorem d_law_157 : decode code 157 = .ok (.iconst 0, 1) := by decide +kernel
theorem d_law_158 : decode code 158 = .ok (.ireturn, 1) := by decide +kernel
theorem d_law_159 : decode code 159 = .ok (.aload_n 1, 1) := by decide +kernel
theorem d_law_160 : decode code 160 = .ok (.invokevirtual 35, 3) := by decide +kernel
theorem d_law_163 : decode code 163 = .ok (.aload_n 2, 1) := by decide +kernel
theorem d_law_164 : decode code 164 = .ok (.invokevirtual 38, 3) := by decide +kernel
theorem d_law_167 : decode code 167 = .ok (.if_icmp .eq 136, 3) := by decide +kernel
theorem d_law_170 : decode code 170 = .ok (.iconst 0, 1) := by decide +kernel
theorem d_law_171 : decode code 171 = .ok (.ireturn, 1) := by decide +kernel
theorem d_law_172 : decode code 172 = .ok (.aload_n 1, 1) := by decide +kernel
theorem d_law_173 : decode code 173 = .ok (.aload_n 0, 1) := by decide +kernel
theorem d_law_174 : decode code 174 = .ok (.iload_n 3, 1) := by decide +kernel
theorem d_law_175 : decode code 175 = .ok (.iconst 1, 1) := by decide +kernel
theorem d_law_176 : decode code 176 = .ok (.iadd, 1) := by decide +kernel
theorem d_law_177 : decode code 177 = .ok (.iaload, 1) := by decide +kernel
theorem d_law_178 : decode code 178 = .ok (.invokevirtual 39, 3) := by decide +kernel
theorem d_law_181 : decode code 181 = .ok (.aload_n 2, 1) := by decide +kernel
theorem d_law_182 : decode code 182 = .ok (.aload_n 0, 1) := by decide +kernel
theorem d_law_183 : decode code 183 = .ok (.iload_n 3, 1) := by decide +kernel
theorem d_law_184 : decode code 184 = .ok (.iconst 1, 1) := by decide +kernel
theorem d_law_185 : decode code 185 = .ok (.iadd, 1) := by decide +kernel
theorem d_law_186 : decode code 186 = .ok (.iaload, 1) := by decide +kernel
theorem d_law_187 : decode code 187 = .ok (.invokevirtual 42, 3) := by decide +kernel
theorem d_law_190 : decode code 190 = .ok (.if_icmp .eq 113, 3) := by decide +kernel
theorem d_law_193 : decode code 193 = .ok (.iconst 0, 1) := by decide +kernel
theorem d_law_194 : decode code 194 = .ok (.ireturn, 1) := by decide +kernel
theorem d_law_195 : decode code 195 = .ok (.aload_n 1, 1) := by decide +kernel
theorem d_law_196 : decode code 196 = .ok (.invokevirtual 43, 3) := by decide +kernel
theorem d_law_199 : decode code 199 = .ok (.aload_n 2, 1) := by decide +kernel
theorem d_law_200 : decode code 200 = .ok (.invokevirtual 46, 3) := by decide +kernel
theorem d_law_203 : decode code 203 = .ok (.if_icmp .eq 100, 3) := by decide +kernel
theorem d_law_206 : decode code 206 = .ok (.iconst 0, 1) := by decide +kernel
theorem d_law_207 : decode code 207 = .ok (.ireturn, 1) := by decide +kernel
theorem d_law_208 : decode code 208 = .ok (.aload_n 1, 1) := by decide +kernel
theorem d_law_209 : decode code 209 = .ok (.aload_n 0, 1) := by decide +kernel
theorem d_law_210 : decode code 210 = .ok (.iload_n 3, 1) := by decide +kernel
theorem d_law_211 : decode code 211 = .ok (.iconst 1, 1) := by decide +kernel
theorem d_law_212 : decode code 212 = .ok (.iadd, 1) := by decide +kernel
theorem d_law_213 : decode code 213 = .ok (.iaload, 1) := by decide +kernel
theorem d_law_214 : decode code 214 = .ok (.invokevirtual 47, 3) := by decide +kernel
theorem d_law_217 : decode code 217 = .ok (.aload_n 2, 1) := by decide +kernel
theorem d_law_218 : decode code 218 = .ok (.aload_n 0, 1) := by decide +kernel
theorem d_law_219 : decode code 219 = .ok (.iload_n 3, 1) := by decide +kernel
theorem d_law_220 : decode code 220 = .ok (.iconst 1, 1) := by decide +kernel
theorem d_law_221 : decode code 221 = .ok (.iadd, 1) := by decide +kernel
theorem d_law_222 : decode code 222 = .ok (.iaload, 1) := by decide +kernel
theorem d_law_223 : decode code 223 = .ok (.invokevirtual 50, 3) := by decide +kernel
theorem d_law_226 : decode code 226 = .ok (.if_icmp .eq 77, 3) := by decide +kernel
theorem d_law_229 : decode code 229 = .ok (.iconst 0, 1) := by decide +kernel
theorem d_law_230 : decode code 230 = .ok (.ireturn, 1) := by decide +kernel
theorem d_law_231 : decode code 231 = .ok (.aload_n 1, 1) := by decide +kernel
theorem d_law_232 : decode code 232 = .ok (.aload_n 0, 1) := by decide +kernel
theorem d_law_233 : decode code 233 = .ok (.iload_n 3, 1) := by decide +kernel
theorem d_law_234 : decode code 234 = .ok (.iconst 1, 1) := by decide +kernel
theorem d_law_235 : decode code 235 = .ok (.iadd, 1) := by decide +kernel
theorem d_law_236 : decode code 236 = .ok (.iaload, 1) := by decide +kernel
theorem d_law_237 : decode code 237 = .ok (.invokevirtual 51, 3) := by decide +kernel
theorem d_law_240 : decode code 240 = .ok (.aload_n 2, 1) := by decide +kernel
theorem d_law_241 : decode code 241 = .ok (.aload_n 0, 1) := by decide +kernel
theorem d_law_242 : decode code 242 = .ok (.iload_n 3, 1) := by decide +kernel
theorem d_law_243 : decode code 243 = .ok (.iconst 1, 1) := by decide +kernel
theorem d_law_244 : decode code 244 = .ok (.iadd, 1) := by decide +kernel
theorem d_law_245 : decode code 245 = .ok (.iaload, 1) := by decide +kernel
theorem d_law_246 : decode code 246 = .ok (.invokevirtual 54, 3) := by decide +kernel
theorem d_law_249 : decode code 249 = .ok (.if_icmp .eq 54, 3) := by decide +kernel
theorem d_law_252 : decode code 252 = .ok (.iconst 0, 1) := by decide +kernel
theorem d_law_253 : decode code 253 = .ok (.ireturn, 1) := by decide +kernel
theorem d_law_254 : decode code 254 = .ok (.aload_n 1, 1) := by decide +kernel
theorem d_law_255 : decode code 255 = .ok (.invokevirtual 55, 3) := by decide +kernel
theorem d_law_258 : decode code 258 = .ok (.aload_n 2, 1) := by decide +kernel
theorem d_law_259 : decode code 259 = .ok (.invokevirtual 58, 3) := by decide +kernel
theorem d_law_262 : decode code 262 = .ok (.if_icmp .eq 41, 3) := by decide +kernel
theorem d_law_265 : decode code 265 = .ok (.iconst 0, 1) := by decide +kernel
theorem d_law_266 : decode code 266 = .ok (.ireturn, 1) := by decide +kernel
theorem d_law_267 : decode code 267 = .ok (.aload_n 1, 1) := by decide +kernel
theorem d_law_268 : decode code 268 = .ok (.invokevirtual 59, 3) := by decide +kernel
theorem d_law_271 : decode code 271 = .ok (.aload_n 2, 1) := by decide +kernel
theorem d_law_272 : decode code 272 = .ok (.invokevirtual 62, 3) := by decide +kernel
theorem d_law_275 : decode code 275 = .ok (.if_icmp .eq 28, 3) := by decide +kernel
theorem d_law_278 : decode code 278 = .ok (.iconst 0, 1) := by decide +kernel
theorem d_law_279 : decode code 279 = .ok (.ireturn, 1) := by decide +kernel
theorem d_law_280 : decode code 280 = .ok (.aload_n 1, 1) := by decide +kernel
theorem d_law_281 : decode code 281 = .ok (.aload_n 0, 1) := by decide +kernel
theorem d_law_282 : decode code 282 = .ok (.iload_n 3, 1) := by decide +kernel
theorem d_law_283 : decode code 283 = .ok (.iconst 1, 1) := by decide +kernel
theorem d_law_284 : decode code 284 = .ok (.iadd, 1) := by decide +kernel
theorem d_law_285 : decode code 285 = .ok (.iaload, 1) := by decide +kernel
theorem d_law_286 : decode code 286 = .ok (.invokevirtual 63, 3) := by decide +kernel
theorem d_law_289 : decode code 289 = .ok (.aload_n 2, 1) := by decide +kernel
theorem d_law_290 : decode code 290 = .ok (.aload_n 0, 1) := by decide +kernel
theorem d_law_291 : decode code 291 = .ok (.iload_n 3, 1) := by decide +kernel
theorem d_law_292 : decode code 292 = .ok (.iconst 1, 1) := by decide +kernel
theorem d_law_293 : decode code 293 = .ok (.iadd, 1) := by decide +kernel
theorem d_law_294 : decode code 294 = .ok (.iaload, 1) := by decide +kernel
theorem d_law_295 : decode code 295 = .ok (.invokevirtual 66, 3) := by decide +kernel
theorem d_law_298 : decode code 298 = .ok (.if_icmp .eq 5, 3) := by decide +kernel
theorem d_law_301 : decode code 301 = .ok (.iconst 0, 1) := by decide +kernel
theorem d_law_302 : decode code 302 = .ok (.ireturn, 1) := by decide +kernel
theorem d_law_303 : decode code 303 = .ok (.iinc 3 2, 3) := by decide +kernel
theorem d_law_306 : decode code 306 = .ok (.goto (-278), 3) := by decide +kernel
theorem d_law_309 : decode code 309 = .ok (.iconst 1, 1) := by decide +kernel
theorem d_law_310 : decode code 310 = .ok (.ireturn, 1) := by decide +kernel
def cell0 (xs : Nat → Int32) (L : Nat) : Int32 := if 0 < L then xs 0 else 0
def PreX (b L : Nat) (xs : Nat → Int32) (av : List Value) : Array Value → State → Prop := va_Pc av (fun U => va_X b L xs U U.heap ∧ b < U.heap.size)
theorem c_cell (l : Launch) {b L : Nat} {xs : Nat → Int32} (hL : L < 2 ^ 31) : Met l y_cell (wM y_cell b_cell 2 (some .int)) (rmN 0 0 0) (PreX b L xs [.ref b, .int 0]) (QcN (fun v => v = cell0 xs L)) 0 0 (fun _ => False) := by
  refine va_MetF (cc := b_cell) (maxL := 2) (ret := some .int) (by decide +kernel) rfl ?_
  intro p e s m args below meth c s₁ B hml hv
  obtain ⟨rfl, hX, hbl⟩ := hv
  have hts := atoms_spec (ws := wM y_cell b_cell 2 (some .int)) B.pre
  rw [lg_entry_eq]
  have hl := lv_entry ([.ref b, .int 0]) (n := 2) (Nat.le_of_ble_eq_true rfl)
  generalize (lg_sl ([.ref b, .int 0]) ++ List.replicate (2 - (lg_sl ([.ref b, .int 0])).length) Slot.unset).toArray = ls at hl ⊢
  have hl : lv_has ls 2 [(0, .ref b), (1, .int 0)] := hl
  have S : CallFix p m c b_cell 2 s #[Value.ref b, .int 0] lw_tg "PatternBenchLaw" := ⟨B.exec, B.bytes, hml, findClass_of_methodNamed B.named, fun w hw => hts w (List.mem_cons_of_mem _ hw)⟩
  have hr := B.returns
  have hlk := B.notSynchronized
  refine lv_iload_n S.1 S.2.1 d_cell_0 rfl (lv_at hl 1 rfl) ?_
  refine lv_aload_n S.1 S.2.1 d_cell_1 rfl (lv_at hl 0 rfl) ?_
  refine va_slen (A := fun _ => False) S.1 S.2.1 hX hbl id va_S.rf d_cell_2 ?_
  refine lv_icmp_ge (tgt := 12) S.1 S.2.1 d_cell_3 (by decide) (fun q9 => ?_) (fun q9 => ?_)
  · refine lv_iconst (v := 0) S.1 S.2.1 d_cell_12 (by decide) ?_
    refine w_iretN S hr hlk ?_ d_cell_13
    have h0 : ¬ 0 < L := fun h => absurd q9 (nI_ge (a := 0) h hL)
    simp only [cell0]; rw [if_neg h0]
  · refine lv_aload_n S.1 S.2.1 d_cell_6 rfl (lv_at hl 0 rfl) ?_
    refine lv_iload_n S.1 S.2.1 d_cell_7 rfl (lv_at hl 1 rfl) ?_
    have h0 : 0 < L := Nat.lt_of_not_le fun h => q9 (by obtain rfl : L = 0 := (by omega); decide)
    refine va_sld (A := fun _ => False) S.1 S.2.1 hX hbl id va_S.rf (i := 0) (vp_in_nI (n := 0) h0 hL) d_cell_8 ?_
    refine lv_goto (tgt := 13) S.1 S.2.1 d_cell_9 (by decide) ?_
    refine w_iretN S hr hlk ?_ d_cell_13
    simp only [cell0]; rw [if_pos h0]
    rfl
/-- one turn of the law: both sides are asked the same, and answer alike; K is what is asked from there on -/
def TURN (xs : Nat → Int32) (i : Nat) (K : Nat → Nat → PS → MS → Prop) (k n : Nat) (u : PS) (v : MS) : Prop :=
  (xs i &&& 15 = 0 → (∃ kc nc : Nat, k + kc ≤ 600000 ∧ n + nc ≤ 7302250 ∧ P_B_write kc nc (xs (i + 1)) u (fun r u => P_M_write (xs (i + 1)) v (fun r2 v => r = r2 ∧ K (k + kc) (n + nc) u v)))) ∧
  (xs i &&& 15 = 1 → (∃ kc nc : Nat, k + kc ≤ 600000 ∧ n + nc ≤ 7302250 ∧ P_B_compile kc nc u (fun r u => P_M_compile v (fun r2 v => r = r2 ∧ K (k + kc) (n + nc) u v)))) ∧
  (xs i &&& 15 = 2 → (∃ kc nc : Nat, k + kc ≤ 600000 ∧ n + nc ≤ 7302250 ∧ P_B_feed kc nc (xs (i + 1)) u (fun r u => P_M_feed (xs (i + 1)) v (fun r2 v => r = r2 ∧ K (k + kc) (n + nc) u v)))) ∧
  (xs i &&& 15 = 3 → (∃ kc nc : Nat, k + kc ≤ 600000 ∧ n + nc ≤ 7302250 ∧ P_B_clear kc nc u (fun r u => P_M_clear v (fun r2 v => r = r2 ∧ K (k + kc) (n + nc) u v)))) ∧
  (xs i &&& 15 = 4 → (∃ kc nc : Nat, k + kc ≤ 600000 ∧ n + nc ≤ 7302250 ∧ P_B_search kc nc (xs (i + 1)) u (fun r u => P_M_search (xs (i + 1)) v (fun r2 v => r = r2 ∧ K (k + kc) (n + nc) u v)))) ∧
  (xs i &&& 15 = 5 → (∃ kc nc : Nat, k + kc ≤ 600000 ∧ n + nc ≤ 7302250 ∧ P_B_again kc nc u (fun r u => P_M_again v (fun r2 v => r = r2 ∧ K (k + kc) (n + nc) u v)))) ∧
  (xs i &&& 15 = 6 → (P_B_start (xs (i + 1)) u (fun r u => P_M_start (xs (i + 1)) v (fun r2 v => r = r2 ∧ K k n u v)))) ∧
  (xs i &&& 15 = 7 → (P_B_end (xs (i + 1)) u (fun r u => P_M_end (xs (i + 1)) v (fun r2 v => r = r2 ∧ K k n u v)))) ∧
  (xs i &&& 15 = 8 → (P_B_steps u (fun r u => P_M_steps v (fun r2 v => r = r2 ∧ K k n u v)))) ∧
  (xs i &&& 15 = 9 → (∃ kc nc : Nat, k + kc ≤ 600000 ∧ n + nc ≤ 7302250 ∧ P_B_matches kc nc u (fun r u => P_M_matches v (fun r2 v => r = r2 ∧ K (k + kc) (n + nc) u v)))) ∧
  (xs i &&& 15 = 10 → (P_B_count (xs (i + 1)) u (fun r u => P_M_count (xs (i + 1)) v (fun r2 v => r = r2 ∧ K k n u v)))) ∧
  (¬ xs i &&& 15 = 0 → ¬ xs i &&& 15 = 1 → ¬ xs i &&& 15 = 2 → ¬ xs i &&& 15 = 3 → ¬ xs i &&& 15 = 4 → ¬ xs i &&& 15 = 5 → ¬ xs i &&& 15 = 6 → ¬ xs i &&& 15 = 7 → ¬ xs i &&& 15 = 8 → ¬ xs i &&& 15 = 9 → ¬ xs i &&& 15 = 10 → K k n u v)
def LAW (xs : Nat → Int32) (L : Nat) : Nat → Nat → Nat → Nat → PS → MS → Prop
  | 0, _, _, _, _, _ => False
  | f + 1, i, k, n, u, v => (k ≤ 600000 ∧ n ≤ 7302250) ∧ (i + 2 ≤ L → TURN xs i (LAW xs L f (i + 2)) k n u v)
theorem law_le {i L : Nat} (hi : i ≤ 140) (hL : L ≤ 129) (h : ¬ Int32.ofNat L - 2 < nI i) : i + 2 ≤ L := by
  refine Nat.le_of_not_lt fun hlt => h ?_
  rw [Int32.lt_iff_toInt_lt]
  have h1 : (nI i).toInt = (i : Int) := nI_toInt (by omega)
  have h2 : (Int32.ofNat L - 2).toInt = (L : Int) - 2 := by
    rw [Int32.toInt_sub, show (Int32.ofNat L).toInt = (L : Int) from nI_toInt (n := L) (by omega)]
    show ((L : Int) - 2).bmod _ = _
    rw [Int.bmod_eq_of_le (by omega) (by omega)]
  rw [h1, h2]
  omega
section LW
variable {p : Program} {l : Launch} {e : Env} {s : State} {m : MethodId} {below : List Frame} {meth : Method} {c : Code} {x : GX} {g : GE} {b L : Nat} {xs : Nat → Int32}
theorem w_cvN {R : Room} {args : Array Value} {cells slots mc ms : Nat} {Q : State → Prop} {H H0 : Heap} {locs : List Loc} {pc : Nat} {ls : Array Slot} {rest st0 : List Value} {A : Nat → Prop} {wc ex : va_W} {St : Type} {cl : (Nat → Nat) → St → va_W} (hA : ∀ q, H0.size ≤ q → A q) (hw : wd x A H0 wc H locs) {Qc : St → Prop} {ar : Array Value}
    (hr : va_Run p l e R s m args below meth c H locs cells slots mc ms (F0 m pc ls st0) rest (QeV x cl ex (va_A wc H.size) Qc ar) (va_A wc H.size))
    (kk : ∀ (u : St) (a : Nat → Nat) (H : Heap) (locs : List Loc), Qc u → wd x A H0 (cl a u ++ ex) H locs → W p l e R s m args below meth c H locs (cells + mc) (slots + ms) Q (F0 m (pc + 3) ls rest)) : W p l e R s m args below meth c H locs cells slots Q (F0 m pc ls st0) := by
  have hF := wd_free hA hw
  refine va_callv hr hw.2.2 (fun q _ h => hF q h) hF (fun u1 t H1 locs1 ht hvm hq hB hz hk hS => ?_)
  obtain ⟨a1, hB1, hB2⟩ := hB
  refine kk u1 a1 H1 locs1 hq ⟨?_, ?_, hS⟩
  · rw [← ht]; exact hB1
  · exact hB2.weaken (fun _ _ _ h => hF _ h)
theorem w_ciM {R : Room} {args : Array Value} {cells slots : Nat} {Q : State → Prop} {H H0 : Heap} {locs : List Loc} {pc : Nat} {ls : Array Slot} {rest st0 : List Value} {A : Nat → Prop} {am : Nat → Nat} {v : MS} {ex : va_W} (hA : ∀ q, H0.size ≤ q → A q) (hw : wd x A H0 (mcl x am v ++ ex) H locs) {Qc : Int32 → MS → Prop} {ar : Array Value}
    (hr : va_Run p l e R s m args below meth c H locs cells slots 0 0 (F0 m pc ls st0) rest (QcI x (mcl x am) (va_A (mcl x am v) H.size) Qc ar) (va_A (mcl x am v) H.size))
    (kk : ∀ (r : Int32) (v : MS) (H : Heap) (locs : List Loc), Qc r v → wd x A H0 (mcl x am v ++ ex) H locs → W p l e R s m args below meth c H locs cells slots Q (F0 m (pc + 3) ls (.int r :: rest))) : W p l e R s m args below meth c H locs cells slots Q (F0 m pc ls st0) := by
  have hF : ∀ q, va_A (mcl x am v) H.size q → A q := fun q h => wd_free hA hw q (by
    rcases h with ⟨k, e, h⟩ | h
    · exact Or.inl ⟨k, e, by rw [List.getElem?_append_left (List.getElem?_eq_some_iff.mp h).1]; exact h⟩
    · exact Or.inr h)
  refine va_calli hr hw.2.2 (fun q _ h => hF q h) hF (fun r u1 t H1 locs1 ht hvm hq hB hz hk hS => ?_)
  obtain ⟨hB1, -, hB2⟩ := hB
  rw [ht] at hB1
  obtain ⟨h1, h2⟩ := va_joinQ (X := mcl x am v) (cx := mcl x am v) (wr := []) (w1 := mcl x am u1) (pl := ex) hw.1 hw.2.1 [0, 1, 2, 3, 4, 5, 6, 7, 8] [] rfl rfl rfl (fun i h => absurd h List.not_mem_nil) hk hF hB1 hB2
  exact kk r u1 H1 locs1 hq ⟨h1, h2, hS⟩
theorem w_rvM {R : Room} {args : Array Value} {cells slots : Nat} {H : Heap} {locs : List Loc} {pc : Nat} {ls : Array Slot} {rest st0 : List Value} {A : Nat → Prop} {am : Nat → Nat} {v : MS} {ex : va_W} {cc : ByteArray} {nL : Nat} {own : String} (S : CallFix p m c cc nL s args lw_tg own) (hK : GK x s) (hw : wd x A s.heap (mcl x am v ++ ex) H locs) {y : MethodName} {bytes : ByteArray} {maxL index n : Nat} {ret : Option FieldType} {rm : Room} {Qc : Array Value → State → Outcome → State → Prop} {free : Addr → Prop} {As : List Value}
    (hM : Met l y (wM y bytes maxL ret) rm (PreC x (mcl x am) (.ref (am 0) :: As) v H.size) Qc 0 0 free)
    (cb : CallB R s args own index y bytes maxL ret (wM y bytes maxL ret) rm 0 0 n) (hins : Cond.instanceMethod y ∈ lw_tg) (hsel : Cond.selects "PatternBenchModel" y y ∈ lw_tg) (hn : As.length = n) (hsz : ls.size = nL) (hst : st0 = As.reverse ++ .ref (am 0) :: rest) (hW : (rest.map fun v => v.category).sum ≤ 8) (hdg : decode cc pc = .ok (.invokevirtual index, 3)) (hf : cells ≤ R.cells ∧ slots ≤ R.slots) :
    va_Run p l e R s m args below meth c H locs cells slots 0 0 (F0 m pc ls st0) rest (Qc (Value.ref (am 0) :: As).toArray) free := by
  have hP := hw.1.sub (ws' := mcl x am v) [0, 1, 2, 3, 4, 5, 6, 7, 8] rfl
  have hD := hw.2.1.sub (ws' := mcl x am v) [0, 1, 2, 3, 4, 5, 6, 7, 8] (by decide) rfl
  exact va_runV S hM ⟨cb, S.2.2.2.2 _ hins, S.2.2.2.2 _ hsel⟩ ⟨PreC.blind, va_recv hK hP (ci := 0) (q0 := 0) (q := (R_Mod, F_Mod, 27)) rfl rfl, fun U hU hW => ⟨rfl, by rw [hU], by rw [hU]; exact hP, GK.moved hW.alike hK, hD.weaken (fun _ _ _ _ => trivial)⟩⟩ rfl hn hsz hst (lv_room hW) hdg hf
set_option maxHeartbeats 16000000 in
set_option maxRecDepth 20000 in
theorem law_loop (hL : L ≤ 129) (C0 : lw_At p s m meth c b L xs) (hK : GK x s) (hE : EN g (fun q : Nat => s.heap.size ≤ q) s s.heap) : ∀ (f i k n : Nat) (u : PS) (v : MS) (o : Nat) (a am : Nat → Nat) (ls : Array Slot) (H : Heap) (locs : List Loc), i ≤ 140 → LAW xs L f i k n u v → lv_has ls 4 [(0, .ref b), (1, .ref o), (2, .ref (am 0)), (3, .int (nI i))] → wd x (fun q : Nat => s.heap.size ≤ q) s.heap (pcl x g o a u ++ mcl x am v) H locs → W p l e room_1 s m #[Value.ref b] below meth c H locs k n (lw_Z below #[Value.ref b] s) (F0 m 28 ls []) := by
  obtain ⟨hx, hb, hr, hml, hown, hts, hX, hbl, hlocks, hgv⟩ := C0
  have S : CallFix p m c code 4 s #[Value.ref b] lw_tg "PatternBenchLaw" := ⟨hx, hb, hml, hown, tg_of hts⟩
  have hA : ∀ q : Nat, s.heap.size ≤ q → (fun q : Nat => s.heap.size ≤ q) q := fun _ h => h
  have hbA : ¬ (fun q : Nat => s.heap.size ≤ q) b := Nat.not_le.mpr hbl
  intro f
  induction f with
  | zero => intro i k n u v o a am ls H locs _ h; exact absurd h id
  | succ f ih =>
    intro i k n u v o a am ls H locs hi h hl hw
    obtain ⟨⟨hk0, hn0⟩, h⟩ := h
    -- the end of each turn
    have nx : ∀ (k n : Nat) (u : PS) (v : MS) (a am : Nat → Nat) (H : Heap) (locs : List Loc), i + 2 ≤ L → LAW xs L f (i + 2) k n u v → lv_has ls 4 [(0, .ref b), (1, .ref o), (2, .ref (am 0)), (3, .int (nI i))] → wd x (fun q : Nat => s.heap.size ≤ q) s.heap (pcl x g o a u ++ mcl x am v) H locs → W p l e room_1 s m #[Value.ref b] below meth c H locs k n (lw_Z below #[Value.ref b] s) (F0 m 303 ls []) := by
      intro k n u v a am H locs h2 h hl hw
      refine lv_iinc (v := nI (i + 2)) (lv' := [(3, .int (nI (i + 2))), (0, .ref b), (1, .ref o), (2, .ref (am 0))]) S.1 S.2.1 d_law_303 hl (k := 3) rfl (by show nI i + Int32.ofInt 2 = nI (i + 2); rw [nI_succ (i + 1), nI_succ i, Int32.add_assoc]; rfl) (by decide) rfl (fun ls hl => ?_)
      refine lv_goto (tgt := 28) S.1 S.2.1 d_law_306 (by decide) ?_
      exact ih (i + 2) k n u v o a am ls H locs (by omega) h (lv_sub hl [1, 2, 3, 0] rfl) hw
    refine lv_iload_n S.1 S.2.1 d_law_28 rfl (lv_at hl 3 rfl) ?_
    refine lv_aload_n S.1 S.2.1 d_law_29 rfl (lv_at hl 0 rfl) ?_
    refine va_slen S.1 S.2.1 hX hbl hbA hw.2.2 d_law_30 ?_
    refine lv_iconst (v := 2) S.1 S.2.1 d_law_31 (by decide) ?_
    refine lv_isub S.1 S.2.1 d_law_32 ?_
    refine lv_icmp_gt (tgt := 309) S.1 S.2.1 d_law_33 (by decide) (fun q9 => ?_) (fun q9 => ?_)
    · refine lv_iconst (v := 1) S.1 S.2.1 d_law_309 (by decide) ?_
      refine va_forget (fun q hq => hw.2.2.2.2 q hq) ?_
      refine W.widen (k := 600000) (n := 7302250) hk0 hn0 ?_
      exact lw_ret hx hb hr hlocks d_law_310
    · have hi2 : i + 2 ≤ L := law_le hi hL q9
      have h := h hi2
      refine lv_aload_n S.1 S.2.1 d_law_36 rfl (lv_at hl 0 rfl) ?_
      refine lv_iload_n S.1 S.2.1 d_law_37 rfl (lv_at hl 3 rfl) ?_
      refine va_sld S.1 S.2.1 hX hbl hbA hw.2.2 (vp_in_nI (N := L) (by omega) (by omega)) d_law_38 ?_
      rw [nI_clamp (by omega)]
      refine lv_bipush (v := 15) S.1 S.2.1 d_law_39 (by decide) ?_
      refine lv_iand S.1 S.2.1 d_law_41 ?_
      have hld : ∀ {pc : Nat} {rest : List Value} {k n : Nat} {H : Heap} {locs : List Loc} {Q : State → Prop} (hS : va_S (fun q : Nat => s.heap.size ≤ q) s.heap H locs), decode code pc = .ok (.aload_n 0, 1) → decode code (pc + 1) = .ok (.iload_n 3, 1) → decode code (pc + 2) = .ok (.iconst 1, 1) → decode code (pc + 3) = .ok (.iadd, 1) → decode code (pc + 4) = .ok (.iaload, 1) → W p l e room_1 s m #[Value.ref b] below meth c H locs k n Q (F0 m (pc + 5) ls (.int (xs (i + 1)) :: rest)) → W p l e room_1 s m #[Value.ref b] below meth c H locs k n Q (F0 m pc ls rest) := by
        intro pc rest k n H locs Q hS e0 e1 e2 e3 e4 kk
        refine lv_aload_n S.1 S.2.1 e0 rfl (lv_at hl 0 rfl) ?_
        refine lv_iload_n S.1 S.2.1 e1 rfl (lv_at hl 3 rfl) ?_
        refine lv_iconst (v := 1) S.1 S.2.1 e2 (by decide) ?_
        refine lv_iadd S.1 S.2.1 e3 ?_
        rw [show nI i + 1 = nI (i + 1) from (nI_succ i).symm]
        refine va_sld S.1 S.2.1 hX hbl hbA hS (vp_in_nI (N := L) (by omega) (by omega)) e4 ?_
        rw [nI_clamp (by omega)]
        exact kk
      refine lv_topi (fun y ey => ?_)
      unfold TURN at h
      rw [← ey] at h
      by_cases q_0 : y = (0 : Int32)
      · have h := h.1 q_0
        refine lv_tableIn (tgt := 100) (off := 58) S.1 S.2.1 d_law_42 (by rw [q_0]; decide) (by rw [q_0]; decide) (by rw [q_0]; rfl) (by decide) ?_
        obtain ⟨kc, nc, hkc, hnc, h⟩ := h
        refine lv_aload_n S.1 S.2.1 d_law_100 rfl (lv_at hl 1 rfl) ?_
        refine hld hw.2.2 d_law_101 d_law_102 d_law_103 d_law_104 d_law_105 ?_
        refine w_ciE hA hw (w_rvE (rest := []) S hK hE hA hw (c_B_write l kc nc (xs (i + 1)) u _ _ h) (ci := 1) (q0 := 0) rfl rfl (w_cb (fr := 0) (lv := 0) S.2.2.2.2 k_189 k_186 k_1 yd_B_write rfl rfl ⟨Nat.le_of_ble_eq_true rfl, Nat.le_of_ble_eq_true rfl⟩) k_187 k_188 rfl hl.1 rfl (Nat.le_of_ble_eq_true rfl) d_law_106 ⟨hkc, hnc⟩) (fun r u a H locs h hw => ?_)
        have hw := wd_rot (l1 := pcl x g o a u) (wc := mcl x am v) (l2 := []) (by rw [List.append_nil]; exact hw)
        refine lv_aload_n S.1 S.2.1 d_law_109 rfl (lv_at hl 2 rfl) ?_
        refine hld hw.2.2 d_law_110 d_law_111 d_law_112 d_law_113 d_law_114 ?_
        refine w_ciM hA hw (w_rvM (rest := [.int r]) S hK hw (c_M_write l (xs (i + 1)) v _ _ h) (w_cb (fr := 0) (lv := 0) S.2.2.2.2 k_954 k_951 k_8 yd_M_write rfl rfl ⟨Nat.le_of_ble_eq_true rfl, Nat.le_of_ble_eq_true rfl⟩) k_952 k_953 rfl hl.1 rfl (Nat.le_of_ble_eq_true rfl) d_law_115 ⟨hkc, hnc⟩) (fun r2 v H locs h hw => ?_)
        obtain ⟨rfl, h⟩ := h
        refine lv_icmp_eq (tgt := 303) S.1 S.2.1 d_law_118 (by decide) (fun _ => ?_) (fun q9 => absurd rfl q9)
        have hw : wd x (fun q : Nat => s.heap.size ≤ q) s.heap (pcl x g o a u ++ mcl x am v) H locs := by have h9 := wd_rot hw; rw [List.append_nil] at h9; exact h9
        exact nx _ _ u v a am H locs hi2 h hl hw
      by_cases q_1 : y = (1 : Int32)
      · have h := h.2.1 q_1
        refine lv_tableIn (tgt := 123) (off := 81) S.1 S.2.1 d_law_42 (by rw [q_1]; decide) (by rw [q_1]; decide) (by rw [q_1]; rfl) (by decide) ?_
        obtain ⟨kc, nc, hkc, hnc, h⟩ := h
        refine lv_aload_n S.1 S.2.1 d_law_123 rfl (lv_at hl 1 rfl) ?_
        refine w_ciE hA hw (w_rvE (rest := []) S hK hE hA hw (c_B_compile kc nc u _ _ h) (ci := 1) (q0 := 0) rfl rfl (w_cb (fr := 0) (lv := 0) S.2.2.2.2 k_365 k_362 k_1 yd_B_compile rfl rfl ⟨Nat.le_of_ble_eq_true rfl, Nat.le_of_ble_eq_true rfl⟩) k_363 k_364 rfl hl.1 rfl (Nat.le_of_ble_eq_true rfl) d_law_124 ⟨hkc, hnc⟩) (fun r u a H locs h hw => ?_)
        have hw := wd_rot (l1 := pcl x g o a u) (wc := mcl x am v) (l2 := []) (by rw [List.append_nil]; exact hw)
        refine lv_aload_n S.1 S.2.1 d_law_127 rfl (lv_at hl 2 rfl) ?_
        refine w_ciM hA hw (w_rvM (rest := [.int r]) S hK hw (c_M_compile l v _ _ h) (w_cb (fr := 0) (lv := 0) S.2.2.2.2 k_967 k_964 k_8 yd_M_compile rfl rfl ⟨Nat.le_of_ble_eq_true rfl, Nat.le_of_ble_eq_true rfl⟩) k_965 k_966 rfl hl.1 rfl (Nat.le_of_ble_eq_true rfl) d_law_128 ⟨hkc, hnc⟩) (fun r2 v H locs h hw => ?_)
        obtain ⟨rfl, h⟩ := h
        refine lv_icmp_eq (tgt := 303) S.1 S.2.1 d_law_131 (by decide) (fun _ => ?_) (fun q9 => absurd rfl q9)
        have hw : wd x (fun q : Nat => s.heap.size ≤ q) s.heap (pcl x g o a u ++ mcl x am v) H locs := by have h9 := wd_rot hw; rw [List.append_nil] at h9; exact h9
        exact nx _ _ u v a am H locs hi2 h hl hw
      by_cases q_2 : y = (2 : Int32)
      · have h := h.2.2.1 q_2
        refine lv_tableIn (tgt := 136) (off := 94) S.1 S.2.1 d_law_42 (by rw [q_2]; decide) (by rw [q_2]; decide) (by rw [q_2]; rfl) (by decide) ?_
        obtain ⟨kc, nc, hkc, hnc, h⟩ := h
        refine lv_aload_n S.1 S.2.1 d_law_136 rfl (lv_at hl 1 rfl) ?_
        refine hld hw.2.2 d_law_137 d_law_138 d_law_139 d_law_140 d_law_141 ?_
        refine w_ciE hA hw (w_rvE (rest := []) S hK hE hA hw (c_B_feed l kc nc (xs (i + 1)) u _ _ h) (ci := 1) (q0 := 0) rfl rfl (w_cb (fr := 0) (lv := 0) S.2.2.2.2 k_747 k_744 k_1 yd_B_feed rfl rfl ⟨Nat.le_of_ble_eq_true rfl, Nat.le_of_ble_eq_true rfl⟩) k_745 k_746 rfl hl.1 rfl (Nat.le_of_ble_eq_true rfl) d_law_142 ⟨hkc, hnc⟩) (fun r u a H locs h hw => ?_)
        have hw := wd_rot (l1 := pcl x g o a u) (wc := mcl x am v) (l2 := []) (by rw [List.append_nil]; exact hw)
        refine lv_aload_n S.1 S.2.1 d_law_145 rfl (lv_at hl 2 rfl) ?_
        refine hld hw.2.2 d_law_146 d_law_147 d_law_148 d_law_149 d_law_150 ?_
        refine w_ciM hA hw (w_rvM (rest := [.int r]) S hK hw (c_M_feed l (xs (i + 1)) v _ _ h) (w_cb (fr := 0) (lv := 0) S.2.2.2.2 k_1007 k_1004 k_8 yd_M_feed rfl rfl ⟨Nat.le_of_ble_eq_true rfl, Nat.le_of_ble_eq_true rfl⟩) k_1005 k_1006 rfl hl.1 rfl (Nat.le_of_ble_eq_true rfl) d_law_151 ⟨hkc, hnc⟩) (fun r2 v H locs h hw => ?_)
        obtain ⟨rfl, h⟩ := h
        refine lv_icmp_eq (tgt := 303) S.1 S.2.1 d_law_154 (by decide) (fun _ => ?_) (fun q9 => absurd rfl q9)
        have hw : wd x (fun q : Nat => s.heap.size ≤ q) s.heap (pcl x g o a u ++ mcl x am v) H locs := by have h9 := wd_rot hw; rw [List.append_nil] at h9; exact h9
        exact nx _ _ u v a am H locs hi2 h hl hw
      by_cases q_3 : y = (3 : Int32)
      · have h := h.2.2.2.1 q_3
        refine lv_tableIn (tgt := 159) (off := 117) S.1 S.2.1 d_law_42 (by rw [q_3]; decide) (by rw [q_3]; decide) (by rw [q_3]; rfl) (by decide) ?_
        obtain ⟨kc, nc, hkc, hnc, h⟩ := h
        refine lv_aload_n S.1 S.2.1 d_law_159 rfl (lv_at hl 1 rfl) ?_
        refine w_ciE hA hw (w_rvE (rest := []) S hK hE hA hw (c_B_clear l kc nc u _ _ h) (ci := 1) (q0 := 0) rfl rfl (w_cb (fr := 0) (lv := 0) S.2.2.2.2 k_751 k_748 k_1 yd_B_clear rfl rfl ⟨Nat.le_of_ble_eq_true rfl, Nat.le_of_ble_eq_true rfl⟩) k_749 k_750 rfl hl.1 rfl (Nat.le_of_ble_eq_true rfl) d_law_160 ⟨hkc, hnc⟩) (fun r u a H locs h hw => ?_)
        have hw := wd_rot (l1 := pcl x g o a u) (wc := mcl x am v) (l2 := []) (by rw [List.append_nil]; exact hw)
        refine lv_aload_n S.1 S.2.1 d_law_163 rfl (lv_at hl 2 rfl) ?_
        refine w_ciM hA hw (w_rvM (rest := [.int r]) S hK hw (c_M_clear l v _ _ h) (w_cb (fr := 0) (lv := 0) S.2.2.2.2 k_1011 k_1008 k_8 yd_M_clear rfl rfl ⟨Nat.le_of_ble_eq_true rfl, Nat.le_of_ble_eq_true rfl⟩) k_1009 k_1010 rfl hl.1 rfl (Nat.le_of_ble_eq_true rfl) d_law_164 ⟨hkc, hnc⟩) (fun r2 v H locs h hw => ?_)
        obtain ⟨rfl, h⟩ := h
        refine lv_icmp_eq (tgt := 303) S.1 S.2.1 d_law_167 (by decide) (fun _ => ?_) (fun q9 => absurd rfl q9)
        have hw : wd x (fun q : Nat => s.heap.size ≤ q) s.heap (pcl x g o a u ++ mcl x am v) H locs := by have h9 := wd_rot hw; rw [List.append_nil] at h9; exact h9
        exact nx _ _ u v a am H locs hi2 h hl hw
      by_cases q_4 : y = (4 : Int32)
      · have h := h.2.2.2.2.1 q_4
        refine lv_tableIn (tgt := 172) (off := 130) S.1 S.2.1 d_law_42 (by rw [q_4]; decide) (by rw [q_4]; decide) (by rw [q_4]; rfl) (by decide) ?_
        obtain ⟨kc, nc, hkc, hnc, h⟩ := h
        refine lv_aload_n S.1 S.2.1 d_law_172 rfl (lv_at hl 1 rfl) ?_
        refine hld hw.2.2 d_law_173 d_law_174 d_law_175 d_law_176 d_law_177 ?_
        refine w_ciE hA hw (w_rvE (rest := []) S hK hE hA hw (c_B_search l kc nc (xs (i + 1)) u _ _ h) (ci := 1) (q0 := 0) rfl rfl (w_cb (fr := 0) (lv := 0) S.2.2.2.2 k_755 k_752 k_1 yd_B_search rfl rfl ⟨Nat.le_of_ble_eq_true rfl, Nat.le_of_ble_eq_true rfl⟩) k_753 k_754 rfl hl.1 rfl (Nat.le_of_ble_eq_true rfl) d_law_178 ⟨hkc, hnc⟩) (fun r u a H locs h hw => ?_)
        have hw := wd_rot (l1 := pcl x g o a u) (wc := mcl x am v) (l2 := []) (by rw [List.append_nil]; exact hw)
        refine lv_aload_n S.1 S.2.1 d_law_181 rfl (lv_at hl 2 rfl) ?_
        refine hld hw.2.2 d_law_182 d_law_183 d_law_184 d_law_185 d_law_186 ?_
        refine w_ciM hA hw (w_rvM (rest := [.int r]) S hK hw (c_M_search l (xs (i + 1)) v _ _ h) (w_cb (fr := 0) (lv := 0) S.2.2.2.2 k_1015 k_1012 k_8 yd_M_search rfl rfl ⟨Nat.le_of_ble_eq_true rfl, Nat.le_of_ble_eq_true rfl⟩) k_1013 k_1014 rfl hl.1 rfl (Nat.le_of_ble_eq_true rfl) d_law_187 ⟨hkc, hnc⟩) (fun r2 v H locs h hw => ?_)
        obtain ⟨rfl, h⟩ := h
        refine lv_icmp_eq (tgt := 303) S.1 S.2.1 d_law_190 (by decide) (fun _ => ?_) (fun q9 => absurd rfl q9)
        have hw : wd x (fun q : Nat => s.heap.size ≤ q) s.heap (pcl x g o a u ++ mcl x am v) H locs := by have h9 := wd_rot hw; rw [List.append_nil] at h9; exact h9
        exact nx _ _ u v a am H locs hi2 h hl hw
      by_cases q_5 : y = (5 : Int32)
      · have h := h.2.2.2.2.2.1 q_5
        refine lv_tableIn (tgt := 195) (off := 153) S.1 S.2.1 d_law_42 (by rw [q_5]; decide) (by rw [q_5]; decide) (by rw [q_5]; rfl) (by decide) ?_
        obtain ⟨kc, nc, hkc, hnc, h⟩ := h
        refine lv_aload_n S.1 S.2.1 d_law_195 rfl (lv_at hl 1 rfl) ?_
        refine w_ciE hA hw (w_rvE (rest := []) S hK hE hA hw (c_B_again l kc nc u _ _ h) (ci := 1) (q0 := 0) rfl rfl (w_cb (fr := 0) (lv := 0) S.2.2.2.2 k_834 k_831 k_1 yd_B_again rfl rfl ⟨Nat.le_of_ble_eq_true rfl, Nat.le_of_ble_eq_true rfl⟩) k_832 k_833 rfl hl.1 rfl (Nat.le_of_ble_eq_true rfl) d_law_196 ⟨hkc, hnc⟩) (fun r u a H locs h hw => ?_)
        have hw := wd_rot (l1 := pcl x g o a u) (wc := mcl x am v) (l2 := []) (by rw [List.append_nil]; exact hw)
        refine lv_aload_n S.1 S.2.1 d_law_199 rfl (lv_at hl 2 rfl) ?_
        refine w_ciM hA hw (w_rvM (rest := [.int r]) S hK hw (c_M_again l v _ _ h) (w_cb (fr := 0) (lv := 0) S.2.2.2.2 k_1134 k_1131 k_8 yd_M_again rfl rfl ⟨Nat.le_of_ble_eq_true rfl, Nat.le_of_ble_eq_true rfl⟩) k_1132 k_1133 rfl hl.1 rfl (Nat.le_of_ble_eq_true rfl) d_law_200 ⟨hkc, hnc⟩) (fun r2 v H locs h hw => ?_)
        obtain ⟨rfl, h⟩ := h
        refine lv_icmp_eq (tgt := 303) S.1 S.2.1 d_law_203 (by decide) (fun _ => ?_) (fun q9 => absurd rfl q9)
        have hw : wd x (fun q : Nat => s.heap.size ≤ q) s.heap (pcl x g o a u ++ mcl x am v) H locs := by have h9 := wd_rot hw; rw [List.append_nil] at h9; exact h9
        exact nx _ _ u v a am H locs hi2 h hl hw
      by_cases q_6 : y = (6 : Int32)
      · have h := h.2.2.2.2.2.2.1 q_6
        refine lv_tableIn (tgt := 208) (off := 166) S.1 S.2.1 d_law_42 (by rw [q_6]; decide) (by rw [q_6]; decide) (by rw [q_6]; rfl) (by decide) ?_
        refine lv_aload_n S.1 S.2.1 d_law_208 rfl (lv_at hl 1 rfl) ?_
        refine hld hw.2.2 d_law_209 d_law_210 d_law_211 d_law_212 d_law_213 ?_
        refine w_ciF hA hw (w_rvE (rest := []) S hK hE hA hw (c_B_start l (xs (i + 1)) u _ _ h) (ci := 1) (q0 := 0) rfl rfl (w_cb (fr := 0) (lv := 0) S.2.2.2.2 k_842 k_839 k_1 yd_B_start rfl rfl ⟨Nat.le_of_ble_eq_true rfl, Nat.le_of_ble_eq_true rfl⟩) k_840 k_841 rfl hl.1 rfl (Nat.le_of_ble_eq_true rfl) d_law_214 ⟨hk0, hn0⟩) (fun r u H locs h hw => ?_)
        have hw := wd_rot (l1 := pcl x g o a u) (wc := mcl x am v) (l2 := []) (by rw [List.append_nil]; exact hw)
        refine lv_aload_n S.1 S.2.1 d_law_217 rfl (lv_at hl 2 rfl) ?_
        refine hld hw.2.2 d_law_218 d_law_219 d_law_220 d_law_221 d_law_222 ?_
        refine w_ciM hA hw (w_rvM (rest := [.int r]) S hK hw (c_M_start l (xs (i + 1)) v _ _ h) (w_cb (fr := 0) (lv := 0) S.2.2.2.2 k_1138 k_1135 k_8 yd_M_start rfl rfl ⟨Nat.le_of_ble_eq_true rfl, Nat.le_of_ble_eq_true rfl⟩) k_1136 k_1137 rfl hl.1 rfl (Nat.le_of_ble_eq_true rfl) d_law_223 ⟨hk0, hn0⟩) (fun r2 v H locs h hw => ?_)
        obtain ⟨rfl, h⟩ := h
        refine lv_icmp_eq (tgt := 303) S.1 S.2.1 d_law_226 (by decide) (fun _ => ?_) (fun q9 => absurd rfl q9)
        have hw : wd x (fun q : Nat => s.heap.size ≤ q) s.heap (pcl x g o a u ++ mcl x am v) H locs := by have h9 := wd_rot hw; rw [List.append_nil] at h9; exact h9
        exact nx _ _ u v a am H locs hi2 h hl hw
      by_cases q_7 : y = (7 : Int32)
      · have h := h.2.2.2.2.2.2.2.1 q_7
        refine lv_tableIn (tgt := 231) (off := 189) S.1 S.2.1 d_law_42 (by rw [q_7]; decide) (by rw [q_7]; decide) (by rw [q_7]; rfl) (by decide) ?_
        refine lv_aload_n S.1 S.2.1 d_law_231 rfl (lv_at hl 1 rfl) ?_
        refine hld hw.2.2 d_law_232 d_law_233 d_law_234 d_law_235 d_law_236 ?_
        refine w_ciF hA hw (w_rvE (rest := []) S hK hE hA hw (c_B_end l (xs (i + 1)) u _ _ h) (ci := 1) (q0 := 0) rfl rfl (w_cb (fr := 0) (lv := 0) S.2.2.2.2 k_846 k_843 k_1 yd_B_end rfl rfl ⟨Nat.le_of_ble_eq_true rfl, Nat.le_of_ble_eq_true rfl⟩) k_844 k_845 rfl hl.1 rfl (Nat.le_of_ble_eq_true rfl) d_law_237 ⟨hk0, hn0⟩) (fun r u H locs h hw => ?_)
        have hw := wd_rot (l1 := pcl x g o a u) (wc := mcl x am v) (l2 := []) (by rw [List.append_nil]; exact hw)
        refine lv_aload_n S.1 S.2.1 d_law_240 rfl (lv_at hl 2 rfl) ?_
        refine hld hw.2.2 d_law_241 d_law_242 d_law_243 d_law_244 d_law_245 ?_
        refine w_ciM hA hw (w_rvM (rest := [.int r]) S hK hw (c_M_end l (xs (i + 1)) v _ _ h) (w_cb (fr := 0) (lv := 0) S.2.2.2.2 k_1146 k_1143 k_8 yd_M_end rfl rfl ⟨Nat.le_of_ble_eq_true rfl, Nat.le_of_ble_eq_true rfl⟩) k_1144 k_1145 rfl hl.1 rfl (Nat.le_of_ble_eq_true rfl) d_law_246 ⟨hk0, hn0⟩) (fun r2 v H locs h hw => ?_)
        obtain ⟨rfl, h⟩ := h
        refine lv_icmp_eq (tgt := 303) S.1 S.2.1 d_law_249 (by decide) (fun _ => ?_) (fun q9 => absurd rfl q9)
        have hw : wd x (fun q : Nat => s.heap.size ≤ q) s.heap (pcl x g o a u ++ mcl x am v) H locs := by have h9 := wd_rot hw; rw [List.append_nil] at h9; exact h9
        exact nx _ _ u v a am H locs hi2 h hl hw
      by_cases q_8 : y = (8 : Int32)
      · have h := h.2.2.2.2.2.2.2.2.1 q_8
        refine lv_tableIn (tgt := 254) (off := 212) S.1 S.2.1 d_law_42 (by rw [q_8]; decide) (by rw [q_8]; decide) (by rw [q_8]; rfl) (by decide) ?_
        refine lv_aload_n S.1 S.2.1 d_law_254 rfl (lv_at hl 1 rfl) ?_
        refine w_ciF hA hw (w_rvE (rest := []) S hK hE hA hw (c_B_steps l u _ _ h) (ci := 1) (q0 := 0) rfl rfl (w_cb (fr := 0) (lv := 0) S.2.2.2.2 k_850 k_847 k_1 yd_B_steps rfl rfl ⟨Nat.le_of_ble_eq_true rfl, Nat.le_of_ble_eq_true rfl⟩) k_848 k_849 rfl hl.1 rfl (Nat.le_of_ble_eq_true rfl) d_law_255 ⟨hk0, hn0⟩) (fun r u H locs h hw => ?_)
        have hw := wd_rot (l1 := pcl x g o a u) (wc := mcl x am v) (l2 := []) (by rw [List.append_nil]; exact hw)
        refine lv_aload_n S.1 S.2.1 d_law_258 rfl (lv_at hl 2 rfl) ?_
        refine w_ciM hA hw (w_rvM (rest := [.int r]) S hK hw (c_M_steps l v _ _ h) (w_cb (fr := 0) (lv := 0) S.2.2.2.2 k_1150 k_1147 k_8 yd_M_steps rfl rfl ⟨Nat.le_of_ble_eq_true rfl, Nat.le_of_ble_eq_true rfl⟩) k_1148 k_1149 rfl hl.1 rfl (Nat.le_of_ble_eq_true rfl) d_law_259 ⟨hk0, hn0⟩) (fun r2 v H locs h hw => ?_)
        obtain ⟨rfl, h⟩ := h
        refine lv_icmp_eq (tgt := 303) S.1 S.2.1 d_law_262 (by decide) (fun _ => ?_) (fun q9 => absurd rfl q9)
        have hw : wd x (fun q : Nat => s.heap.size ≤ q) s.heap (pcl x g o a u ++ mcl x am v) H locs := by have h9 := wd_rot hw; rw [List.append_nil] at h9; exact h9
        exact nx _ _ u v a am H locs hi2 h hl hw
      by_cases q_9 : y = (9 : Int32)
      · have h := h.2.2.2.2.2.2.2.2.2.1 q_9
        refine lv_tableIn (tgt := 267) (off := 225) S.1 S.2.1 d_law_42 (by rw [q_9]; decide) (by rw [q_9]; decide) (by rw [q_9]; rfl) (by decide) ?_
        obtain ⟨kc, nc, hkc, hnc, h⟩ := h
        refine lv_aload_n S.1 S.2.1 d_law_267 rfl (lv_at hl 1 rfl) ?_
        refine w_ciE hA hw (w_rvE (rest := []) S hK hE hA hw (c_B_matches l kc nc u _ _ h) (ci := 1) (q0 := 0) rfl rfl (w_cb (fr := 0) (lv := 0) S.2.2.2.2 k_854 k_851 k_1 yd_B_matches rfl rfl ⟨Nat.le_of_ble_eq_true rfl, Nat.le_of_ble_eq_true rfl⟩) k_852 k_853 rfl hl.1 rfl (Nat.le_of_ble_eq_true rfl) d_law_268 ⟨hkc, hnc⟩) (fun r u a H locs h hw => ?_)
        have hw := wd_rot (l1 := pcl x g o a u) (wc := mcl x am v) (l2 := []) (by rw [List.append_nil]; exact hw)
        refine lv_aload_n S.1 S.2.1 d_law_271 rfl (lv_at hl 2 rfl) ?_
        refine w_ciM hA hw (w_rvM (rest := [.int r]) S hK hw (c_M_matches l v _ _ h) (w_cb (fr := 0) (lv := 0) S.2.2.2.2 k_1154 k_1151 k_8 yd_M_matches rfl rfl ⟨Nat.le_of_ble_eq_true rfl, Nat.le_of_ble_eq_true rfl⟩) k_1152 k_1153 rfl hl.1 rfl (Nat.le_of_ble_eq_true rfl) d_law_272 ⟨hkc, hnc⟩) (fun r2 v H locs h hw => ?_)
        obtain ⟨rfl, h⟩ := h
        refine lv_icmp_eq (tgt := 303) S.1 S.2.1 d_law_275 (by decide) (fun _ => ?_) (fun q9 => absurd rfl q9)
        have hw : wd x (fun q : Nat => s.heap.size ≤ q) s.heap (pcl x g o a u ++ mcl x am v) H locs := by have h9 := wd_rot hw; rw [List.append_nil] at h9; exact h9
        exact nx _ _ u v a am H locs hi2 h hl hw
      by_cases q_10 : y = (10 : Int32)
      · have h := h.2.2.2.2.2.2.2.2.2.2.1 q_10
        refine lv_tableIn (tgt := 280) (off := 238) S.1 S.2.1 d_law_42 (by rw [q_10]; decide) (by rw [q_10]; decide) (by rw [q_10]; rfl) (by decide) ?_
        refine lv_aload_n S.1 S.2.1 d_law_280 rfl (lv_at hl 1 rfl) ?_
        refine hld hw.2.2 d_law_281 d_law_282 d_law_283 d_law_284 d_law_285 ?_
        refine w_ciF hA hw (w_rvE (rest := []) S hK hE hA hw (c_B_count l (xs (i + 1)) u _ _ h) (ci := 1) (q0 := 0) rfl rfl (w_cb (fr := 0) (lv := 0) S.2.2.2.2 k_858 k_855 k_1 yd_B_count rfl rfl ⟨Nat.le_of_ble_eq_true rfl, Nat.le_of_ble_eq_true rfl⟩) k_856 k_857 rfl hl.1 rfl (Nat.le_of_ble_eq_true rfl) d_law_286 ⟨hk0, hn0⟩) (fun r u H locs h hw => ?_)
        have hw := wd_rot (l1 := pcl x g o a u) (wc := mcl x am v) (l2 := []) (by rw [List.append_nil]; exact hw)
        refine lv_aload_n S.1 S.2.1 d_law_289 rfl (lv_at hl 2 rfl) ?_
        refine hld hw.2.2 d_law_290 d_law_291 d_law_292 d_law_293 d_law_294 ?_
        refine w_ciM hA hw (w_rvM (rest := [.int r]) S hK hw (c_M_count l (xs (i + 1)) v _ _ h) (w_cb (fr := 0) (lv := 0) S.2.2.2.2 k_1158 k_1155 k_8 yd_M_count rfl rfl ⟨Nat.le_of_ble_eq_true rfl, Nat.le_of_ble_eq_true rfl⟩) k_1156 k_1157 rfl hl.1 rfl (Nat.le_of_ble_eq_true rfl) d_law_295 ⟨hk0, hn0⟩) (fun r2 v H locs h hw => ?_)
        obtain ⟨rfl, h⟩ := h
        refine lv_icmp_eq (tgt := 303) S.1 S.2.1 d_law_298 (by decide) (fun _ => ?_) (fun q9 => absurd rfl q9)
        have hw : wd x (fun q : Nat => s.heap.size ≤ q) s.heap (pcl x g o a u ++ mcl x am v) H locs := by have h9 := wd_rot hw; rw [List.append_nil] at h9; exact h9
        exact nx _ _ u v a am H locs hi2 h hl hw
      have h := h.2.2.2.2.2.2.2.2.2.2.2 q_0 q_1 q_2 q_3 q_4 q_5 q_6 q_7 q_8 q_9 q_10
      have z_0 : y.toInt ≠ 0 := fun e9 => q_0 (Int32.toInt_inj.mp (by rw [e9]; rfl))
      have z_1 : y.toInt ≠ 1 := fun e9 => q_1 (Int32.toInt_inj.mp (by rw [e9]; rfl))
      have z_2 : y.toInt ≠ 2 := fun e9 => q_2 (Int32.toInt_inj.mp (by rw [e9]; rfl))
      have z_3 : y.toInt ≠ 3 := fun e9 => q_3 (Int32.toInt_inj.mp (by rw [e9]; rfl))
      have z_4 : y.toInt ≠ 4 := fun e9 => q_4 (Int32.toInt_inj.mp (by rw [e9]; rfl))
      have z_5 : y.toInt ≠ 5 := fun e9 => q_5 (Int32.toInt_inj.mp (by rw [e9]; rfl))
      have z_6 : y.toInt ≠ 6 := fun e9 => q_6 (Int32.toInt_inj.mp (by rw [e9]; rfl))
      have z_7 : y.toInt ≠ 7 := fun e9 => q_7 (Int32.toInt_inj.mp (by rw [e9]; rfl))
      have z_8 : y.toInt ≠ 8 := fun e9 => q_8 (Int32.toInt_inj.mp (by rw [e9]; rfl))
      have z_9 : y.toInt ≠ 9 := fun e9 => q_9 (Int32.toInt_inj.mp (by rw [e9]; rfl))
      have z_10 : y.toInt ≠ 10 := fun e9 => q_10 (Int32.toInt_inj.mp (by rw [e9]; rfl))
      refine lv_tableOut (tgt := 303) S.1 S.2.1 d_law_42 (by omega) (by decide) ?_
      exact nx k n u v a am H locs hi2 h hl hw
set_option maxHeartbeats 16000000 in
set_option maxRecDepth 20000 in
theorem law_start (hL : L ≤ 129) (C0 : lw_At p s m meth c b L xs) (h : LAW xs L 70 1 24 16457 (pb0 (cell0 xs L)) (ms0 (cell0 xs L))) : W p l e room_1 s m #[Value.ref b] below meth c s.heap [] 0 0 (lw_Z below #[Value.ref b] s) (entryFrame m ([Value.ref b] : List Value).toArray 4) := by
  have C1 := C0
  obtain ⟨hx, hb, hr, hml, hown, hts, hX, hbl, hlocks, hgv⟩ := C0
  have S : CallFix p m c code 4 s #[Value.ref b] lw_tg "PatternBenchLaw" := ⟨hx, hb, hml, hown, tg_of hts⟩
  obtain ⟨x, hK⟩ := gk_start hts
  obtain ⟨g, hE⟩ := en_start (A := fun q : Nat => s.heap.size ≤ q) hts hgv (fun a ha => Nat.not_le.mpr ha)
  have hA : ∀ q : Nat, s.heap.size ≤ q → (fun q : Nat => s.heap.size ≤ q) q := fun _ h => h
  have hbA : ¬ (fun q : Nat => s.heap.size ≤ q) b := Nat.not_le.mpr hbl
  rw [lg_entry_eq]
  have hl := lv_entry ([.ref b]) (n := 4) (Nat.le_of_ble_eq_true rfl)
  generalize (lg_sl ([.ref b]) ++ List.replicate (4 - (lg_sl ([.ref b])).length) Slot.unset).toArray = ls at hl ⊢
  have hl : lv_has ls 4 [(0, .ref b)] := hl
  have hw : wd x (fun q : Nat => s.heap.size ≤ q) s.heap [] s.heap [] := ⟨fun k q hq => (by cases hq), ⟨fun i j q r hi => (by cases hi), fun k q hq => (by cases hq)⟩, va_S.rf⟩
  refine w_new S hK hA hw 1 rfl i_PB t_PB t_PB_ok k_27 k_28 k_1 [.int 0, .null, .null, .null, .int 0, .int 0, .int 0, .int 0, .int 0, .int 0, .int 0, .null, .null, .int 0, .null, .null, .int 0, .null, .int 0, .int 0, .int 0, .int 0, .int 0, .int 0] (by decide) ⟨Nat.le_of_ble_eq_true rfl, Nat.le_of_ble_eq_true rfl⟩ d_law_0 (fun o H hw => ?_)
  refine lv_dup S.1 S.2.1 d_law_3 rfl ?_
  refine lv_aload_n S.1 S.2.1 d_law_4 rfl (lv_at hl 0 rfl) ?_
  refine lv_iconst (v := 0) S.1 S.2.1 d_law_5 (by decide) ?_
  refine w_cn (va_runS (As := [.ref b, .int 0]) (rest := [.ref o, .ref o]) S (c_cell l (b := b) (L := L) (xs := xs) (by omega)) ⟨(w_cb (fr := 0) (lv := 0) S.2.2.2.2 k_861 k_859 k_0 yd_cell rfl rfl ⟨Nat.le_of_ble_eq_true rfl, Nat.le_of_ble_eq_true rfl⟩), S.2.2.2.2 _ k_860⟩ ⟨fun ar U gf mk q => ⟨q.1, va_X.moved (u := U) (U := U.calling gf mk ar) (Vm.Alike.refl U.vm) q.2.1, q.2.2⟩, fun U hU hW => ⟨rfl, by rw [hU]; exact (hX.kept (hw.2.2.2.1 b hbl hbA)).moved hW.alike, by rw [hU]; exact Nat.lt_of_lt_of_le hbl hw.2.2.1⟩⟩ rfl rfl hl.1 rfl (lv_room (Nat.le_of_ble_eq_true rfl)) d_law_6 ⟨Nat.le_of_ble_eq_true rfl, Nat.le_of_ble_eq_true rfl⟩) (fun n0 hn0 => ?_)
  subst hn0
  have hw : wd x (fun q : Nat => s.heap.size ≤ q) s.heap (ncl 1 o [.int 0, .null, .null, .null, .int 0, .int 0, .int 0, .int 0, .int 0, .int 0, .int 0, .null, .null, .int 0, .null, .null, .int 0, .null, .int 0, .int 0, .int 0, .int 0, .int 0, .int 0] (fun _ => 0) () ++ []) H [] := hw
  have hM := c_B_init (x := x) (g := g) (o := o) (ex := []) (a := fun _ => 0) l (cell0 xs L) H.size
  refine w_cvN hA hw (w_riE (rest := [.ref o]) (cl := ncl 1 o [.int 0, .null, .null, .null, .int 0, .int 0, .int 0, .int 0, .int 0, .int 0, .int 0, .null, .null, .int 0, .null, .null, .int 0, .null, .int 0, .int 0, .int 0, .int 0, .int 0, .int 0]) (u := ()) (As := [.int (cell0 xs L)]) S hK hE hA hw hM (w_cb (fr := 0) (lv := 0) S.2.2.2.2 k_31 k_29 k_1 yd_B_init rfl rfl ⟨Nat.le_of_ble_eq_true rfl, Nat.le_of_ble_eq_true rfl⟩) rfl k_30 rfl hl.1 rfl (Nat.le_of_ble_eq_true rfl) d_law_9 ⟨by show 0 + 1 + 14 ≤ 600000; omega, by show 0 + 24 + 993 ≤ 7302250; omega⟩) (fun u a H locs h9 hw => ?_)
  subst h9
  refine lv_astore_n (lv' := [(1, .ref o), (0, .ref b)]) S.1 S.2.1 d_law_12 rfl hl (by decide) rfl (fun ls hl => ?_)
  refine w_new S hK hA hw 0 rfl i_Mod t_Mod t_Mod_ok k_862 k_863 k_8 [.int 0, .int 0, .null, .int 0, .int 0, .int 0, .int 0, .null, .int 0, .null, .int 0, .int 0, .int 0, .int 0, .long 0, .null, .int 0, .null, .null, .int 0, .null, .null, .int 0, .int 0, .int 0, .int 0, .long 0] (by decide) ⟨Nat.le_of_ble_eq_true rfl, Nat.le_of_ble_eq_true rfl⟩ d_law_13 (fun o2 H hw => ?_)
  refine lv_dup S.1 S.2.1 d_law_16 rfl ?_
  refine lv_aload_n S.1 S.2.1 d_law_17 rfl (lv_at hl 1 rfl) ?_
  refine lv_iconst (v := 0) S.1 S.2.1 d_law_18 (by decide) ?_
  refine w_cn (va_runS (As := [.ref b, .int 0]) (rest := [.ref o2, .ref o2]) S (c_cell l (b := b) (L := L) (xs := xs) (by omega)) ⟨(w_cb (fr := 0) (lv := 0) S.2.2.2.2 k_861 k_859 k_0 yd_cell rfl rfl ⟨Nat.le_of_ble_eq_true rfl, Nat.le_of_ble_eq_true rfl⟩), S.2.2.2.2 _ k_860⟩ ⟨fun ar U gf mk q => ⟨q.1, va_X.moved (u := U) (U := U.calling gf mk ar) (Vm.Alike.refl U.vm) q.2.1, q.2.2⟩, fun U hU hW => ⟨rfl, by rw [hU]; exact (hX.kept (hw.2.2.2.1 b hbl hbA)).moved hW.alike, by rw [hU]; exact Nat.lt_of_lt_of_le hbl hw.2.2.1⟩⟩ rfl rfl hl.1 rfl (lv_room (Nat.le_of_ble_eq_true rfl)) d_law_19 ⟨Nat.le_of_ble_eq_true rfl, Nat.le_of_ble_eq_true rfl⟩) (fun n0 hn0 => ?_)
  subst hn0
  have hw : wd x (fun q : Nat => s.heap.size ≤ q) s.heap (ncl 0 o2 [.int 0, .int 0, .null, .int 0, .int 0, .int 0, .int 0, .null, .int 0, .null, .int 0, .int 0, .int 0, .int 0, .long 0, .null, .int 0, .null, .null, .int 0, .null, .null, .int 0, .int 0, .int 0, .int 0, .long 0] (fun _ => 0) () ++ (pcl x g o a (pb0 (cell0 xs L)) ++ [])) H locs := hw
  have hM := c_M_init (x := x) (g := g) (o := o2) (ex := pcl x g o a (pb0 (cell0 xs L)) ++ []) (a := fun _ => 0) l (cell0 xs L) H.size
  refine w_cvN hA hw (w_riE (rest := [.ref o2]) (cl := ncl 0 o2 [.int 0, .int 0, .null, .int 0, .int 0, .int 0, .int 0, .null, .int 0, .null, .int 0, .int 0, .int 0, .int 0, .long 0, .null, .int 0, .null, .null, .int 0, .null, .null, .int 0, .int 0, .int 0, .int 0, .long 0]) (u := ()) (As := [.int (cell0 xs L)]) S hK hE hA hw hM (w_cb (fr := 0) (lv := 0) S.2.2.2.2 k_866 k_864 k_8 yd_M_init rfl rfl ⟨Nat.le_of_ble_eq_true rfl, Nat.le_of_ble_eq_true rfl⟩) rfl k_865 rfl hl.1 rfl (Nat.le_of_ble_eq_true rfl) d_law_22 ⟨by show 0 + 1 + 14 + 1 + 8 ≤ 600000; omega, by show 0 + 24 + 993 + 27 + 15413 ≤ 7302250; omega⟩) (fun v am H locs h9 hw => ?_)
  subst h9
  refine lv_astore_n (lv' := [(2, .ref o2), (1, .ref o), (0, .ref b)]) S.1 S.2.1 d_law_25 rfl hl (by decide) rfl (fun ls hl => ?_)
  refine lv_iconst (v := 1) S.1 S.2.1 d_law_26 (by decide) ?_
  refine lv_istore_n (lv' := [(3, .int 1), (2, .ref o2), (1, .ref o), (0, .ref b)]) S.1 S.2.1 d_law_27 rfl hl (by decide) rfl (fun ls hl => ?_)
  have hw : wd x (fun q : Nat => s.heap.size ≤ q) s.heap (pcl x g o a (pb0 (cell0 xs L)) ++ mcl x (va_up am 0 o2) (ms0 (cell0 xs L))) H locs := by
    have h9 := wd_rot (l1 := mcl x (va_up am 0 o2) (ms0 (cell0 xs L))) (wc := pcl x g o a (pb0 (cell0 xs L))) (l2 := []) hw
    rw [List.append_nil] at h9
    exact h9
  exact law_loop hL C1 hK hE 70 1 24 16457 _ _ o a (va_up am 0 o2) ls H locs (by omega) h (lv_sub hl [3, 2, 1, 0] rfl) hw
end LW
