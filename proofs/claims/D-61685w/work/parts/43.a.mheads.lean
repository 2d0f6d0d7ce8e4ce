abbrev b_Row_size : ByteArray := prog_9_method_2_code
def y_Row_size : MethodName := ⟨"PatternBench$Row", "size", "()I"⟩
theorem yd_Row_size : y_Row_size.cls ≠ "java/lang/invoke/MethodHandle" ∧ y_Row_size.cls ≠ "java/lang/invoke/VarHandle" ∧ (parseMethodDescriptor y_Row_size.desc).map (fun d => d.parameters.length) = some 0 := by decide +kernel
abbrev b_Row_emit : ByteArray := prog_9_method_3_code
def y_Row_emit : MethodName := ⟨"PatternBench$Row", "emit", "(LPatternBench$Program;)V"⟩
theorem yd_Row_emit : y_Row_emit.cls ≠ "java/lang/invoke/MethodHandle" ∧ y_Row_emit.cls ≠ "java/lang/invoke/VarHandle" ∧ (parseMethodDescriptor y_Row_emit.desc).map (fun d => d.parameters.length) = some 1 := by decide +kernel
abbrev b_Cho_size : ByteArray := prog_2_method_2_code
def y_Cho_size : MethodName := ⟨"PatternBench$Choice", "size", "()I"⟩
theorem yd_Cho_size : y_Cho_size.cls ≠ "java/lang/invoke/MethodHandle" ∧ y_Cho_size.cls ≠ "java/lang/invoke/VarHandle" ∧ (parseMethodDescriptor y_Cho_size.desc).map (fun d => d.parameters.length) = some 0 := by decide +kernel
abbrev b_Cho_emit : ByteArray := prog_2_method_3_code
def y_Cho_emit : MethodName := ⟨"PatternBench$Choice", "emit", "(LPatternBench$Program;)V"⟩
theorem yd_Cho_emit : y_Cho_emit.cls ≠ "java/lang/invoke/MethodHandle" ∧ y_Cho_emit.cls ≠ "java/lang/invoke/VarHandle" ∧ (parseMethodDescriptor y_Cho_emit.desc).map (fun d => d.parameters.length) = some 1 := by decide +kernel
abbrev b_Grp_size : ByteArray := prog_3_method_2_code
def y_Grp_size : MethodName := ⟨"PatternBench$Group", "size", "()I"⟩
theorem yd_Grp_size : y_Grp_size.cls ≠ "java/lang/invoke/MethodHandle" ∧ y_Grp_size.cls ≠ "java/lang/invoke/VarHandle" ∧ (parseMethodDescriptor y_Grp_size.desc).map (fun d => d.parameters.length) = some 0 := by decide +kernel
abbrev b_Grp_emit : ByteArray := prog_3_method_3_code
def y_Grp_emit : MethodName := ⟨"PatternBench$Group", "emit", "(LPatternBench$Program;)V"⟩
theorem yd_Grp_emit : y_Grp_emit.cls ≠ "java/lang/invoke/MethodHandle" ∧ y_Grp_emit.cls ≠ "java/lang/invoke/VarHandle" ∧ (parseMethodDescriptor y_Grp_emit.desc).map (fun d => d.parameters.length) = some 1 := by decide +kernel
abbrev b_Rep_size : ByteArray := prog_8_method_2_code
def y_Rep_size : MethodName := ⟨"PatternBench$Repeat", "size", "()I"⟩
theorem yd_Rep_size : y_Rep_size.cls ≠ "java/lang/invoke/MethodHandle" ∧ y_Rep_size.cls ≠ "java/lang/invoke/VarHandle" ∧ (parseMethodDescriptor y_Rep_size.desc).map (fun d => d.parameters.length) = some 0 := by decide +kernel
abbrev b_Rep_emit : ByteArray := prog_8_method_3_code
def y_Rep_emit : MethodName := ⟨"PatternBench$Repeat", "emit", "(LPatternBench$Program;)V"⟩
theorem yd_Rep_emit : y_Rep_emit.cls ≠ "java/lang/invoke/MethodHandle" ∧ y_Rep_emit.cls ≠ "java/lang/invoke/VarHandle" ∧ (parseMethodDescriptor y_Rep_emit.desc).map (fun d => d.parameters.length) = some 1 := by decide +kernel
abbrev b_Rep_star : ByteArray := prog_8_method_4_code
def y_Rep_star : MethodName := ⟨"PatternBench$Repeat", "star", "(LPatternBench$Program;)V"⟩
theorem yd_Rep_star : y_Rep_star.cls ≠ "java/lang/invoke/MethodHandle" ∧ y_Rep_star.cls ≠ "java/lang/invoke/VarHandle" ∧ (parseMethodDescriptor y_Rep_star.desc).map (fun d => d.parameters.length) = some 1 := by decide +kernel
abbrev b_Rep_swap : ByteArray := prog_8_method_5_code
def y_Rep_swap : MethodName := ⟨"PatternBench$Repeat", "swap", "(LPatternBench$Program;I)V"⟩
theorem yd_Rep_swap : y_Rep_swap.cls ≠ "java/lang/invoke/MethodHandle" ∧ y_Rep_swap.cls ≠ "java/lang/invoke/VarHandle" ∧ (parseMethodDescriptor y_Rep_swap.desc).map (fun d => d.parameters.length) = some 2 := by decide +kernel
