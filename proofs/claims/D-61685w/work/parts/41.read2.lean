theorem k_366 : (Cond.methodLink "PatternBench" 170 ⟨"PatternBench", "choice", "(I)LPatternBench$Part;"⟩) ∈ lw_tg := kw 366 (by decide +kernel) (by decide +kernel)
theorem k_368 : (Cond.instanceMethod ⟨"PatternBench", "choice", "(I)LPatternBench$Part;"⟩) ∈ lw_tg := kw 368 (by decide +kernel) (by decide +kernel)
theorem k_369 : (Cond.code ⟨"PatternBench", "choice", "(I)LPatternBench$Part;"⟩ prog_1_method_8_code 3 (Option.some (.object "PatternBench$Part"))) ∈ lw_tg := kw 369 (by decide +kernel) (by decide +kernel)
theorem k_396 : (Cond.methodLink "PatternBench" 84 ⟨"PatternBench", "row", "(I)LPatternBench$Part;"⟩) ∈ lw_tg := kw 396 (by decide +kernel) (by decide +kernel)
theorem k_398 : (Cond.instanceMethod ⟨"PatternBench", "row", "(I)LPatternBench$Part;"⟩) ∈ lw_tg := kw 398 (by decide +kernel) (by decide +kernel)
theorem k_399 : (Cond.code ⟨"PatternBench", "row", "(I)LPatternBench$Part;"⟩ prog_1_method_9_code 4 (Option.some (.object "PatternBench$Part"))) ∈ lw_tg := kw 399 (by decide +kernel) (by decide +kernel)
theorem k_414 : (Cond.methodLink "PatternBench" 104 ⟨"PatternBench", "atom", "(I)LPatternBench$Part;"⟩) ∈ lw_tg := kw 414 (by decide +kernel) (by decide +kernel)
theorem k_416 : (Cond.instanceMethod ⟨"PatternBench", "atom", "(I)LPatternBench$Part;"⟩) ∈ lw_tg := kw 416 (by decide +kernel) (by decide +kernel)
theorem k_417 : (Cond.code ⟨"PatternBench", "atom", "(I)LPatternBench$Part;"⟩ prog_1_method_11_code 3 (Option.some (.object "PatternBench$Part"))) ∈ lw_tg := kw 417 (by decide +kernel) (by decide +kernel)
theorem k_440 : (Cond.methodLink "PatternBench" 141 ⟨"PatternBench", "set", "()LPatternBench$Part;"⟩) ∈ lw_tg := kw 440 (by decide +kernel) (by decide +kernel)
theorem k_442 : (Cond.instanceMethod ⟨"PatternBench", "set", "()LPatternBench$Part;"⟩) ∈ lw_tg := kw 442 (by decide +kernel) (by decide +kernel)
theorem k_443 : (Cond.code ⟨"PatternBench", "set", "()LPatternBench$Part;"⟩ prog_1_method_13_code 6 (Option.some (.object "PatternBench$Part"))) ∈ lw_tg := kw 443 (by decide +kernel) (by decide +kernel)
theorem k_448 : (Cond.fieldLink "PatternBench" 145 "PatternBench$Op" "BEGIN" "LPatternBench$Op;") ∈ lw_tg := kw 448 (by decide +kernel) (by decide +kernel)
theorem k_450 : (Cond.fieldLink "PatternBench" 148 "PatternBench$Op" "END" "LPatternBench$Op;") ∈ lw_tg := kw 450 (by decide +kernel) (by decide +kernel)
theorem k_452 : (Cond.fieldLink "PatternBench" 151 "PatternBench$Op" "BACK" "LPatternBench$Op;") ∈ lw_tg := kw 452 (by decide +kernel) (by decide +kernel)
theorem k_454 : (Cond.methodLink "PatternBench" 154 ⟨"PatternBench", "name", "(I)I"⟩) ∈ lw_tg := kw 454 (by decide +kernel) (by decide +kernel)
theorem k_456 : (Cond.instanceMethod ⟨"PatternBench", "name", "(I)I"⟩) ∈ lw_tg := kw 456 (by decide +kernel) (by decide +kernel)
theorem k_457 : (Cond.code ⟨"PatternBench", "name", "(I)I"⟩ prog_1_method_12_code 3 (Option.some .int)) ∈ lw_tg := kw 457 (by decide +kernel) (by decide +kernel)
theorem k_462 : (Cond.methodLink "PatternBench" 158 ⟨"PatternBench", "parenthesis", "(I)LPatternBench$Part;"⟩) ∈ lw_tg := kw 462 (by decide +kernel) (by decide +kernel)
theorem k_464 : (Cond.instanceMethod ⟨"PatternBench", "parenthesis", "(I)LPatternBench$Part;"⟩) ∈ lw_tg := kw 464 (by decide +kernel) (by decide +kernel)
theorem k_465 : (Cond.code ⟨"PatternBench", "parenthesis", "(I)LPatternBench$Part;"⟩ prog_1_method_14_code 5 (Option.some (.object "PatternBench$Part"))) ∈ lw_tg := kw 465 (by decide +kernel) (by decide +kernel)
theorem k_470 : (Cond.fieldLink "PatternBench" 164 "PatternBench$Op" "CALL" "LPatternBench$Op;") ∈ lw_tg := kw 470 (by decide +kernel) (by decide +kernel)
theorem k_488 : (Cond.methodLink "PatternBench" 107 ⟨"PatternBench", "repeated", "(LPatternBench$Part;)LPatternBench$Part;"⟩) ∈ lw_tg := kw 488 (by decide +kernel) (by decide +kernel)
theorem k_490 : (Cond.instanceMethod ⟨"PatternBench", "repeated", "(LPatternBench$Part;)LPatternBench$Part;"⟩) ∈ lw_tg := kw 490 (by decide +kernel) (by decide +kernel)
theorem k_491 : (Cond.code ⟨"PatternBench", "repeated", "(LPatternBench$Part;)LPatternBench$Part;"⟩ prog_1_method_10_code 5 (Option.some (.object "PatternBench$Part"))) ∈ lw_tg := kw 491 (by decide +kernel) (by decide +kernel)
theorem s_0 : (Cond.selects "PatternBench" ⟨"PatternBench", "choice", "(I)LPatternBench$Part;"⟩ ⟨"PatternBench", "choice", "(I)LPatternBench$Part;"⟩) ∈ lw_tg := ks 0 (by decide +kernel) (by decide +kernel)
theorem s_1 : (Cond.selects "PatternBench" ⟨"PatternBench", "row", "(I)LPatternBench$Part;"⟩ ⟨"PatternBench", "row", "(I)LPatternBench$Part;"⟩) ∈ lw_tg := ks 1 (by decide +kernel) (by decide +kernel)
theorem s_3 : (Cond.selects "PatternBench" ⟨"PatternBench", "atom", "(I)LPatternBench$Part;"⟩ ⟨"PatternBench", "atom", "(I)LPatternBench$Part;"⟩) ∈ lw_tg := ks 3 (by decide +kernel) (by decide +kernel)
theorem s_4 : (Cond.selects "PatternBench" ⟨"PatternBench", "set", "()LPatternBench$Part;"⟩ ⟨"PatternBench", "set", "()LPatternBench$Part;"⟩) ∈ lw_tg := ks 4 (by decide +kernel) (by decide +kernel)
theorem s_6 : (Cond.selects "PatternBench" ⟨"PatternBench", "name", "(I)I"⟩ ⟨"PatternBench", "name", "(I)I"⟩) ∈ lw_tg := ks 6 (by decide +kernel) (by decide +kernel)
theorem s_8 : (Cond.selects "PatternBench" ⟨"PatternBench", "parenthesis", "(I)LPatternBench$Part;"⟩ ⟨"PatternBench", "parenthesis", "(I)LPatternBench$Part;"⟩) ∈ lw_tg := ks 8 (by decide +kernel) (by decide +kernel)
theorem s_10 : (Cond.selects "PatternBench" ⟨"PatternBench", "repeated", "(LPatternBench$Part;)LPatternBench$Part;"⟩ ⟨"PatternBench", "repeated", "(LPatternBench$Part;)LPatternBench$Part;"⟩) ∈ lw_tg := ks 10 (by decide +kernel) (by decide +kernel)
abbrev b_B_choice : ByteArray := prog_1_method_8_code
def y_B_choice : MethodName := ⟨"PatternBench", "choice", "(I)LPatternBench$Part;"⟩
theorem yd_B_choice : y_B_choice.cls ≠ "java/lang/invoke/MethodHandle" ∧ y_B_choice.cls ≠ "java/lang/invoke/VarHandle" ∧ (parseMethodDescriptor y_B_choice.desc).map (fun d => d.parameters.length) = some 1 := by decide +kernel
abbrev b_B_paren : ByteArray := prog_1_method_14_code
def y_B_paren : MethodName := ⟨"PatternBench", "parenthesis", "(I)LPatternBench$Part;"⟩
theorem yd_B_paren : y_B_paren.cls ≠ "java/lang/invoke/MethodHandle" ∧ y_B_paren.cls ≠ "java/lang/invoke/VarHandle" ∧ (parseMethodDescriptor y_B_paren.desc).map (fun d => d.parameters.length) = some 1 := by decide +kernel
theorem d_B_paren_0 : decode b_B_paren 0 = .ok (.bipush 32, 2) := by decide +kernel
theorem d_B_paren_2 : decode b_B_paren 2 = .ok (.istore_n 2, 1) := by decide +kernel
theorem d_B_paren_3 : decode b_B_paren 3 = .ok (.iconst 0, 1) := by decide +kernel
theorem d_B_paren_4 : decode b_B_paren 4 = .ok (.istore_n 3, 1) := by decide +kernel
theorem d_B_paren_5 : decode b_B_paren 5 = .ok (.aload_n 0, 1) := by decide +kernel
theorem d_B_paren_6 : decode b_B_paren 6 = .ok (.bipush 63, 2) := by decide +kernel
theorem d_B_paren_8 : decode b_B_paren 8 = .ok (.invokevirtual 73, 3) := by decide +kernel
theorem d_B_paren_11 : decode b_B_paren 11 = .ok (.ifCond .eq 88, 3) := by decide +kernel
theorem d_B_paren_14 : decode b_B_paren 14 = .ok (.aload_n 0, 1) := by decide +kernel
theorem d_B_paren_15 : decode b_B_paren 15 = .ok (.invokevirtual 69, 3) := by decide +kernel
theorem d_B_paren_18 : decode b_B_paren 18 = .ok (.istore_n 2, 1) := by decide +kernel
theorem d_B_paren_19 : decode b_B_paren 19 = .ok (.iload_n 2, 1) := by decide +kernel
theorem d_B_paren_20 : decode b_B_paren 20 = .ok (.bipush 48, 2) := by decide +kernel
theorem d_B_paren_22 : decode b_B_paren 22 = .ok (.if_icmp .lt 35, 3) := by decide +kernel
theorem d_B_paren_25 : decode b_B_paren 25 = .ok (.iload_n 2, 1) := by decide +kernel
theorem d_B_paren_26 : decode b_B_paren 26 = .ok (.bipush 57, 2) := by decide +kernel
theorem d_B_paren_28 : decode b_B_paren 28 = .ok (.if_icmp .gt 29, 3) := by decide +kernel
theorem d_B_paren_31 : decode b_B_paren 31 = .ok (.aload_n 0, 1) := by decide +kernel
theorem d_B_paren_32 : decode b_B_paren 32 = .ok (.iconst 0, 1) := by decide +kernel
theorem d_B_paren_33 : decode b_B_paren 33 = .ok (.invokevirtual 154, 3) := by decide +kernel
theorem d_B_paren_36 : decode b_B_paren 36 = .ok (.istore 4, 2) := by decide +kernel
theorem d_B_paren_38 : decode b_B_paren 38 = .ok (.aload_n 0, 1) := by decide +kernel
theorem d_B_paren_39 : decode b_B_paren 39 = .ok (.bipush 41, 2) := by decide +kernel
theorem d_B_paren_41 : decode b_B_paren 41 = .ok (.invokevirtual 117, 3) := by decide +kernel
theorem d_B_paren_44 : decode b_B_paren 44 = .ok (.new 129, 3) := by decide +kernel
theorem d_B_paren_47 : decode b_B_paren 47 = .ok (.dup, 1) := by decide +kernel
theorem d_B_paren_48 : decode b_B_paren 48 = .ok (.getstatic 164, 3) := by decide +kernel
theorem d_B_paren_51 : decode b_B_paren 51 = .ok (.iload 4, 2) := by decide +kernel
theorem d_B_paren_53 : decode b_B_paren 53 = .ok (.invokespecial 137, 3) := by decide +kernel
theorem d_B_paren_56 : decode b_B_paren 56 = .ok (.areturn, 1) := by decide +kernel
theorem d_B_paren_57 : decode b_B_paren 57 = .ok (.iload_n 2, 1) := by decide +kernel
theorem d_B_paren_58 : decode b_B_paren 58 = .ok (.bipush 58, 2) := by decide +kernel
theorem d_B_paren_60 : decode b_B_paren 60 = .ok (.if_icmp .eq 26, 3) := by decide +kernel
theorem d_B_paren_63 : decode b_B_paren 63 = .ok (.iload_n 2, 1) := by decide +kernel
theorem d_B_paren_64 : decode b_B_paren 64 = .ok (.bipush 61, 2) := by decide +kernel
theorem d_B_paren_66 : decode b_B_paren 66 = .ok (.if_icmp .eq 20, 3) := by decide +kernel
theorem d_B_paren_69 : decode b_B_paren 69 = .ok (.iload_n 2, 1) := by decide +kernel
theorem d_B_paren_70 : decode b_B_paren 70 = .ok (.bipush 33, 2) := by decide +kernel
theorem d_B_paren_72 : decode b_B_paren 72 = .ok (.if_icmp .eq 14, 3) := by decide +kernel
theorem d_B_paren_75 : decode b_B_paren 75 = .ok (.iload_n 2, 1) := by decide +kernel
theorem d_B_paren_76 : decode b_B_paren 76 = .ok (.bipush 62, 2) := by decide +kernel
theorem d_B_paren_78 : decode b_B_paren 78 = .ok (.if_icmp .eq 8, 3) := by decide +kernel
theorem d_B_paren_81 : decode b_B_paren 81 = .ok (.aload_n 0, 1) := by decide +kernel
theorem d_B_paren_82 : decode b_B_paren 82 = .ok (.iconst 1, 1) := by decide +kernel
theorem d_B_paren_83 : decode b_B_paren 83 = .ok (.putfield 77, 3) := by decide +kernel
theorem d_B_paren_86 : decode b_B_paren 86 = .ok (.aload_n 0, 1) := by decide +kernel
theorem d_B_paren_87 : decode b_B_paren 87 = .ok (.dup, 1) := by decide +kernel
theorem d_B_paren_88 : decode b_B_paren 88 = .ok (.getfield 58, 3) := by decide +kernel
theorem d_B_paren_91 : decode b_B_paren 91 = .ok (.iconst 1, 1) := by decide +kernel
theorem d_B_paren_92 : decode b_B_paren 92 = .ok (.iadd, 1) := by decide +kernel
theorem d_B_paren_93 : decode b_B_paren 93 = .ok (.putfield 58, 3) := by decide +kernel
theorem d_B_paren_96 : decode b_B_paren 96 = .ok (.goto 18, 3) := by decide +kernel
theorem d_B_paren_99 : decode b_B_paren 99 = .ok (.aload_n 0, 1) := by decide +kernel
theorem d_B_paren_100 : decode b_B_paren 100 = .ok (.dup, 1) := by decide +kernel
theorem d_B_paren_101 : decode b_B_paren 101 = .ok (.getfield 167, 3) := by decide +kernel
theorem d_B_paren_104 : decode b_B_paren 104 = .ok (.iconst 1, 1) := by decide +kernel
theorem d_B_paren_105 : decode b_B_paren 105 = .ok (.iadd, 1) := by decide +kernel
theorem d_B_paren_106 : decode b_B_paren 106 = .ok (.putfield 167, 3) := by decide +kernel
theorem d_B_paren_109 : decode b_B_paren 109 = .ok (.aload_n 0, 1) := by decide +kernel
theorem d_B_paren_110 : decode b_B_paren 110 = .ok (.getfield 167, 3) := by decide +kernel
theorem d_B_paren_113 : decode b_B_paren 113 = .ok (.istore_n 3, 1) := by decide +kernel
theorem d_B_paren_114 : decode b_B_paren 114 = .ok (.iload_n 1, 1) := by decide +kernel
theorem d_B_paren_115 : decode b_B_paren 115 = .ok (.iconst 5, 1) := by decide +kernel
theorem d_B_paren_116 : decode b_B_paren 116 = .ok (.if_icmp .gt 11, 3) := by decide +kernel
theorem d_B_paren_119 : decode b_B_paren 119 = .ok (.aload_n 0, 1) := by decide +kernel
theorem d_B_paren_120 : decode b_B_paren 120 = .ok (.getfield 167, 3) := by decide +kernel
theorem d_B_paren_123 : decode b_B_paren 123 = .ok (.iconst 4, 1) := by decide +kernel
theorem d_B_paren_124 : decode b_B_paren 124 = .ok (.if_icmp .le 8, 3) := by decide +kernel
theorem d_B_paren_127 : decode b_B_paren 127 = .ok (.aload_n 0, 1) := by decide +kernel
theorem d_B_paren_128 : decode b_B_paren 128 = .ok (.iconst 1, 1) := by decide +kernel
theorem d_B_paren_129 : decode b_B_paren 129 = .ok (.putfield 77, 3) := by decide +kernel
theorem d_B_paren_132 : decode b_B_paren 132 = .ok (.aload_n 0, 1) := by decide +kernel
theorem d_B_paren_133 : decode b_B_paren 133 = .ok (.getfield 77, 3) := by decide +kernel
theorem d_B_paren_136 : decode b_B_paren 136 = .ok (.ifCond .eq 5, 3) := by decide +kernel
theorem d_B_paren_139 : decode b_B_paren 139 = .ok (.aconst_null, 1) := by decide +kernel
theorem d_B_paren_140 : decode b_B_paren 140 = .ok (.areturn, 1) := by decide +kernel
theorem d_B_paren_141 : decode b_B_paren 141 = .ok (.aload_n 0, 1) := by decide +kernel
theorem d_B_paren_142 : decode b_B_paren 142 = .ok (.iload_n 1, 1) := by decide +kernel
theorem d_B_paren_143 : decode b_B_paren 143 = .ok (.iconst 1, 1) := by decide +kernel
theorem d_B_paren_144 : decode b_B_paren 144 = .ok (.iadd, 1) := by decide +kernel
theorem d_B_paren_145 : decode b_B_paren 145 = .ok (.invokevirtual 170, 3) := by decide +kernel
theorem d_B_paren_148 : decode b_B_paren 148 = .ok (.astore 4, 2) := by decide +kernel
theorem d_B_paren_150 : decode b_B_paren 150 = .ok (.aload_n 0, 1) := by decide +kernel
theorem d_B_paren_151 : decode b_B_paren 151 = .ok (.bipush 41, 2) := by decide +kernel
theorem d_B_paren_153 : decode b_B_paren 153 = .ok (.invokevirtual 117, 3) := by decide +kernel
theorem d_B_paren_156 : decode b_B_paren 156 = .ok (.iload_n 3, 1) := by decide +kernel
theorem d_B_paren_157 : decode b_B_paren 157 = .ok (.ifCond .le 11, 3) := by decide +kernel
theorem d_B_paren_160 : decode b_B_paren 160 = .ok (.aload_n 0, 1) := by decide +kernel
theorem d_B_paren_161 : decode b_B_paren 161 = .ok (.getfield 28, 3) := by decide +kernel
theorem d_B_paren_164 : decode b_B_paren 164 = .ok (.iload_n 3, 1) := by decide +kernel
theorem d_B_paren_165 : decode b_B_paren 165 = .ok (.aload 4, 2) := by decide +kernel
theorem d_B_paren_167 : decode b_B_paren 167 = .ok (.aastore, 1) := by decide +kernel
theorem d_B_paren_168 : decode b_B_paren 168 = .ok (.new 173, 3) := by decide +kernel
theorem d_B_paren_171 : decode b_B_paren 171 = .ok (.dup, 1) := by decide +kernel
theorem d_B_paren_172 : decode b_B_paren 172 = .ok (.iload_n 2, 1) := by decide +kernel
theorem d_B_paren_173 : decode b_B_paren 173 = .ok (.iload_n 3, 1) := by decide +kernel
theorem d_B_paren_174 : decode b_B_paren 174 = .ok (.aload 4, 2) := by decide +kernel
theorem d_B_paren_176 : decode b_B_paren 176 = .ok (.invokespecial 175, 3) := by decide +kernel
theorem d_B_paren_179 : decode b_B_paren 179 = .ok (.areturn, 1) := by decide +kernel
def B_B_paren_168 (Kc : Nat → Nat → Int32 → PS → (PT → PS → Prop) → Prop) (Qc : Option PT → PS → Prop) (bc bs : Nat)  (k n0 : Nat) (b0 : Nat) (T0 : PT) (x2 : Int32) (x3 : Int32) (u : PS) : Prop := (k + 1 ≤ bc ∧ n0 + 3 ≤ bs ∧ ∀ q_168 : Nat, (isC x2 ∧ Qc (some (tGrp x2 x3 b0 T0)) u))
def B_B_paren_132 (Kc : Nat → Nat → Int32 → PS → (PT → PS → Prop) → Prop) (Qc : Option PT → PS → Prop) (bc bs : Nat)  (k n0 : Nat) (x1 : Int32) (x2 : Int32) (x3 : Int32) (u : PS) : Prop := (((p_wrong u) = (0 : Int32) → (∃ kc_145 nc_145 : Nat, k + kc_145 ≤ bc ∧ n0 + nc_145 ≤ bs ∧ Kc kc_145 nc_145 (x1 + (1 : Int32)) u (fun T_145 u_145 => ∀ r_145 : Nat, P_B_expect (41 : Int32) u_145 (fun u_153 => ((x3 ≤ (0 : Int32) → B_B_paren_168 Kc Qc bc bs  (k + kc_145) (n0 + nc_145) r_145 T_145 x2 x3 u_153) ∧ (¬ x3 ≤ (0 : Int32) → (vp_in x3 5 ∧ B_B_paren_168 Kc Qc bc bs  (k + kc_145) (n0 + nc_145) r_145 T_145 x2 x3 (ps_ins u_153 (va_up (p_ins u_153) x3.toNatClampNeg (some r_145)))))))))) ∧ (¬ (p_wrong u) = (0 : Int32) → Qc none u))
def B_B_paren_127 (Kc : Nat → Nat → Int32 → PS → (PT → PS → Prop) → Prop) (Qc : Option PT → PS → Prop) (bc bs : Nat)  (k n0 : Nat) (x1 : Int32) (x2 : Int32) (x3 : Int32) (u : PS) : Prop := B_B_paren_132 Kc Qc bc bs  k n0 x1 x2 x3 (ps_wrong u (1 : Int32))
def B_B_paren_114 (Kc : Nat → Nat → Int32 → PS → (PT → PS → Prop) → Prop) (Qc : Option PT → PS → Prop) (bc bs : Nat)  (k n0 : Nat) (x1 : Int32) (x2 : Int32) (x3 : Int32) (u : PS) : Prop := (((5 : Int32) < x1 → B_B_paren_127 Kc Qc bc bs  k n0 x1 x2 x3 u) ∧ (¬ (5 : Int32) < x1 → (((p_groups u) ≤ (4 : Int32) → B_B_paren_132 Kc Qc bc bs  k n0 x1 x2 x3 u) ∧ (¬ (p_groups u) ≤ (4 : Int32) → B_B_paren_127 Kc Qc bc bs  k n0 x1 x2 x3 u))))
def B_B_paren_86 (Kc : Nat → Nat → Int32 → PS → (PT → PS → Prop) → Prop) (Qc : Option PT → PS → Prop) (bc bs : Nat)  (k n0 : Nat) (x1 : Int32) (x2 : Int32) (x3 : Int32) (u : PS) : Prop := B_B_paren_114 Kc Qc bc bs  k n0 x1 x2 x3 (ps_at u ((p_at u) + (1 : Int32)))
def B_B_paren_57 (Kc : Nat → Nat → Int32 → PS → (PT → PS → Prop) → Prop) (Qc : Option PT → PS → Prop) (bc bs : Nat)  (k n0 : Nat) (x1 : Int32) (x2 : Int32) (x3 : Int32) (u : PS) : Prop := ((x2 = (58 : Int32) → B_B_paren_86 Kc Qc bc bs  k n0 x1 x2 x3 u) ∧ (¬ x2 = (58 : Int32) → ((x2 = (61 : Int32) → B_B_paren_86 Kc Qc bc bs  k n0 x1 x2 x3 u) ∧ (¬ x2 = (61 : Int32) → ((x2 = (33 : Int32) → B_B_paren_86 Kc Qc bc bs  k n0 x1 x2 x3 u) ∧ (¬ x2 = (33 : Int32) → ((x2 = (62 : Int32) → B_B_paren_86 Kc Qc bc bs  k n0 x1 x2 x3 u) ∧ (¬ x2 = (62 : Int32) → B_B_paren_86 Kc Qc bc bs  k n0 x1 x2 x3 (ps_wrong u (1 : Int32))))))))))
def P_B_paren (Kc : Nat → Nat → Int32 → PS → (PT → PS → Prop) → Prop) (bc bs : Nat) (x1 : Int32) (u : PS) (Qc : Option PT → PS → Prop) : Prop := P_B_skip (63 : Int32) u (fun r_8 u_8 => ((r_8 = (0 : Int32) → (∀ x3_113 : Int32, x3_113 = (p_groups (ps_groups u_8 ((p_groups u_8) + (1 : Int32)))) → B_B_paren_114 Kc Qc bc bs  0 0 x1 (32 : Int32) x3_113 (ps_groups u_8 ((p_groups u_8) + (1 : Int32))))) ∧ (¬ r_8 = (0 : Int32) → P_B_here  u_8 (fun r_15 u_15 => ((r_15 < (48 : Int32) → B_B_paren_57 Kc Qc bc bs  0 0 x1 r_15 (0 : Int32) u_15) ∧ (¬ r_15 < (48 : Int32) → (((57 : Int32) < r_15 → B_B_paren_57 Kc Qc bc bs  0 0 x1 r_15 (0 : Int32) u_15) ∧ (¬ (57 : Int32) < r_15 → P_B_name (0 : Int32) u_15 (fun r_33 u_33 => P_B_expect (41 : Int32) u_33 (fun u_41 => (0 + 1 ≤ bc ∧ 0 + 2 ≤ bs ∧ ∀ q_44 : Nat, Qc (some (tLeaf 4 r_33)) u_41)))))))))))
section PW
variable {p : Program} {l : Launch} {e : Env} {s : State} {m : MethodId} {args : Array Value} {below : List Frame} {meth : Method} {c : Code} {x : GX} {g : GE} {ex : va_W} {a : Nat → Nat} {A : Nat → Prop} {o : Nat}
set_option maxHeartbeats 8000000 in
set_option maxRecDepth 20000 in
theorem wB_B_paren_168 {Kc : Nat → Nat → Int32 → PS → (PT → PS → Prop) → Prop} (lv : Nat) (ihc : ∀ (bc bs : Nat) (x1 : Int32) (u : PS) (Qc : PT → PS → Prop) (sz : Nat) (ex : va_W) (a : Nat → Nat), Kc bc bs x1 u Qc → Met l y_B_choice (wM y_B_choice b_B_choice 3 (some (.object "PatternBench$Part"))) (rmN (lv + 16) bc bs) (PreE x g (pcl x g o) ex [.ref o, .int x1] a u sz) (QeP x g (pcl x g o) ex (va_A (pcl x g o a u ++ ex) sz) Qc) bc bs (va_A (pcl x g o a u ++ ex) sz)) (S : CallFix p m c b_B_paren 5 s args lw_tg "PatternBench") (hr : meth.sig.returnType = some (.object "PatternBench$Part")) (hlk : meth.locks = false) (hK : GK x s) (hE : EN g A s s.heap) (hA : ∀ q : Nat, s.heap.size ≤ q → A q) {Qc : Option PT → PS → Prop} {bc bs : Nat}  : ∀ (k n0 : Nat) (hk : k ≤ bc) (hn : n0 ≤ bs) (b0 : Nat) (T0 : PT) (x2 : Int32) (x3 : Int32) (u : PS) (a : Nat → Nat) (f0 : va_W) (hp0 : TP x g f0 T0 b0) (ls : Array Slot) (H : Heap) (locs : List Loc), lv_has ls 5 [(2, .int x2), (3, .int x3), (4, .ref b0)] → wd x A s.heap (pcl x g o a u ++ (f0 ++ ex)) H locs → B_B_paren_168 Kc Qc bc bs  k n0 b0 T0 x2 x3 u → W p l e (rmN (lv + 17) bc bs) s m args below meth c H locs k n0 (MQ below (QeO x g (pcl x g o) ex A Qc) args s bc bs A) (F0 m 168 ls []) := by
  intro k n0 hk hn b0 T0 x2 x3 u a f0 hp0 ls H locs hl hw h
  obtain ⟨hk_168, hn_168, h⟩ := h
  refine pm_newGrp (R := rmN (lv + 17) bc bs) (cells := k) (slots := n0) S hK hA hw ⟨hk_168, hn_168⟩ d_B_paren_168 (fun q_168 H hw => ?_)
  have h := h q_168
  refine lv_dup S.1 S.2.1 d_B_paren_171 rfl ?_
  refine lv_iload_n S.1 S.2.1 d_B_paren_172 rfl (lv_at hl 0 rfl) ?_
  refine lv_iload_n S.1 S.2.1 d_B_paren_173 rfl (lv_at hl 1 rfl) ?_
  refine lv_aload S.1 S.2.1 d_B_paren_174 (lv_at hl 2 rfl) ?_
  obtain ⟨hc_176, h⟩ := h
  refine pm_initGrp (R := rmN (lv + 17) bc bs) (rest := [.ref q_168]) S hK hE hA hc_176 hw (by show 8 ≤ lv + 17; omega) (by show 64 * 8 ≤ 64 * (lv + 17); omega) ⟨hk_168, hn_168⟩ hl.1 (Nat.le_of_ble_eq_true rfl) d_B_paren_176 (fun H locs hw => ?_)
  have hp_176 : TP x g ((q_168, .inr (8, [.int x2, .int x3, .ref b0])) :: f0) (tGrp x2 x3 b0 T0) q_168 := TP_grp (TP.mono (fun q9 h9 => List.mem_cons_of_mem _ h9) hp0) List.mem_cons_self
  refine W.widen (k := bc) (n := bs) hk_168 hn_168 ?_
  exact w_oretE S hr hlk hp_176 hw h d_B_paren_179
set_option maxHeartbeats 8000000 in
set_option maxRecDepth 20000 in
theorem wB_B_paren_132 {Kc : Nat → Nat → Int32 → PS → (PT → PS → Prop) → Prop} (lv : Nat) (ihc : ∀ (bc bs : Nat) (x1 : Int32) (u : PS) (Qc : PT → PS → Prop) (sz : Nat) (ex : va_W) (a : Nat → Nat), Kc bc bs x1 u Qc → Met l y_B_choice (wM y_B_choice b_B_choice 3 (some (.object "PatternBench$Part"))) (rmN (lv + 16) bc bs) (PreE x g (pcl x g o) ex [.ref o, .int x1] a u sz) (QeP x g (pcl x g o) ex (va_A (pcl x g o a u ++ ex) sz) Qc) bc bs (va_A (pcl x g o a u ++ ex) sz)) (S : CallFix p m c b_B_paren 5 s args lw_tg "PatternBench") (hr : meth.sig.returnType = some (.object "PatternBench$Part")) (hlk : meth.locks = false) (hK : GK x s) (hE : EN g A s s.heap) (hA : ∀ q : Nat, s.heap.size ≤ q → A q) {Qc : Option PT → PS → Prop} {bc bs : Nat}  : ∀ (k n0 : Nat) (hk : k ≤ bc) (hn : n0 ≤ bs) (x1 : Int32) (x2 : Int32) (x3 : Int32) (u : PS) (a : Nat → Nat) (ls : Array Slot) (H : Heap) (locs : List Loc), lv_has ls 5 [(0, .ref o), (1, .int x1), (2, .int x2), (3, .int x3)] → wd x A s.heap (pcl x g o a u ++ ex) H locs → B_B_paren_132 Kc Qc bc bs  k n0 x1 x2 x3 u → W p l e (rmN (lv + 17) bc bs) s m args below meth c H locs k n0 (MQ below (QeO x g (pcl x g o) ex A Qc) args s bc bs A) (F0 m 132 ls []) := by
  intro k n0 hk hn x1 x2 x3 u a ls H locs hl hw h
  refine lv_aload_n S.1 S.2.1 d_B_paren_132 rfl (lv_at hl 0 rfl) ?_
  refine pg_wrong S hK hw d_B_paren_133 ?_
  refine lv_if_eq (tgt := 141) S.1 S.2.1 d_B_paren_136 (by decide) (fun q_136 => ?_) (fun q_136 => ?_)
  · have h := h.1 q_136
    refine lv_aload_n S.1 S.2.1 d_B_paren_141 rfl (lv_at hl 0 rfl) ?_
    refine lv_iload_n S.1 S.2.1 d_B_paren_142 rfl (lv_at hl 1 rfl) ?_
    refine lv_iconst (v := 1) S.1 S.2.1 d_B_paren_143 (by decide) ?_
    refine lv_iadd S.1 S.2.1 d_B_paren_144 ?_
    obtain ⟨kc_145, nc_145, hk_145, hn_145, h⟩ := h
    refine w_cpE hA hw (w_rvE (rest := []) S hK hE hA hw (ihc kc_145 nc_145 (x1 + (1 : Int32)) u _ _ _ _ h) (ci := 1) (q0 := 0) rfl rfl (w_cb (fr := 0) (lv := 0) S.2.2.2.2 k_369 k_366 k_1 yd_B_choice rfl rfl ⟨by show (lv + 16) + 1 ≤ lv + 17; omega, by show 8 + (3 + 11) + 64 * ((lv + 16)) ≤ 64 * (lv + 17); omega⟩) k_368 s_0 rfl hl.1 rfl (Nat.le_of_ble_eq_true rfl) d_B_paren_145 ⟨hk_145, hn_145⟩) (fun T_145 u_145 r_145 f_145 a_145 H locs h hp_145 hw => ?_)
    have h := h r_145
    refine lv_astore (lv' := [(4, .ref r_145), (0, .ref o), (1, .int x1), (2, .int x2), (3, .int x3)]) S.1 S.2.1 d_B_paren_148 hl (by decide) rfl (fun ls hl => ?_)
    refine lv_aload_n S.1 S.2.1 d_B_paren_150 rfl (lv_at hl 1 rfl) ?_
    refine lv_bipush (v := 41) S.1 S.2.1 d_B_paren_151 (by decide) ?_
    refine w_cvF hA hw (w_rvE (rest := []) S hK hE hA hw (c_B_expect l (41 : Int32) u_145 _ _ h) (ci := 1) (q0 := 0) rfl rfl (w_cb (fr := 0) (lv := 0) S.2.2.2.2 k_469 k_466 k_1 yd_B_expect rfl rfl ⟨by show 8 + 1 ≤ lv + 17; omega, by show 8 + (2 + 11) + 64 * (8) ≤ 64 * (lv + 17); omega⟩) k_468 s_9 rfl hl.1 rfl (Nat.le_of_ble_eq_true rfl) d_B_paren_153 ⟨hk_145, hn_145⟩) (fun u_153 H locs h hw => ?_)
    refine lv_iload_n S.1 S.2.1 d_B_paren_156 rfl (lv_at hl 4 rfl) ?_
    refine lv_if_le (tgt := 168) S.1 S.2.1 d_B_paren_157 (by decide) (fun q_157 => ?_) (fun q_157 => ?_)
    · have h := h.1 q_157
      exact wB_B_paren_168 lv ihc S hr hlk hK hE hA  (k + kc_145) (n0 + nc_145) hk_145 hn_145 r_145 T_145 x2 x3 u_153 a_145 f_145 hp_145 _ _ _ (lv_sub hl [3, 4, 0] rfl) hw h
    · have h := h.2 q_157
      refine lv_aload_n S.1 S.2.1 d_B_paren_160 rfl (lv_at hl 1 rfl) ?_
      refine pg_insides S hK hw d_B_paren_161 ?_
      refine lv_iload_n S.1 S.2.1 d_B_paren_164 rfl (lv_at hl 4 rfl) ?_
      refine lv_aload S.1 S.2.1 d_B_paren_165 (lv_at hl 0 rfl) ?_
      have hg := h.1
      have h := h.2
      refine pm_ins S hK hE hp_145 hw hg d_B_paren_167 (fun H locs hw => ?_)
      exact wB_B_paren_168 lv ihc S hr hlk hK hE hA  (k + kc_145) (n0 + nc_145) hk_145 hn_145 r_145 T_145 x2 x3 (ps_ins u_153 (va_up (p_ins u_153) x3.toNatClampNeg (some r_145))) a_145 f_145 hp_145 _ _ _ (lv_sub hl [3, 4, 0] rfl) hw h
  · have h := h.2 q_136
    refine lv_null S.1 S.2.1 d_B_paren_139 ?_
    refine W.widen (k := bc) (n := bs) hk hn ?_
    exact w_nretE S hr hlk hw h d_B_paren_140
set_option maxHeartbeats 8000000 in
set_option maxRecDepth 20000 in
theorem wB_B_paren_127 {Kc : Nat → Nat → Int32 → PS → (PT → PS → Prop) → Prop} (lv : Nat) (ihc : ∀ (bc bs : Nat) (x1 : Int32) (u : PS) (Qc : PT → PS → Prop) (sz : Nat) (ex : va_W) (a : Nat → Nat), Kc bc bs x1 u Qc → Met l y_B_choice (wM y_B_choice b_B_choice 3 (some (.object "PatternBench$Part"))) (rmN (lv + 16) bc bs) (PreE x g (pcl x g o) ex [.ref o, .int x1] a u sz) (QeP x g (pcl x g o) ex (va_A (pcl x g o a u ++ ex) sz) Qc) bc bs (va_A (pcl x g o a u ++ ex) sz)) (S : CallFix p m c b_B_paren 5 s args lw_tg "PatternBench") (hr : meth.sig.returnType = some (.object "PatternBench$Part")) (hlk : meth.locks = false) (hK : GK x s) (hE : EN g A s s.heap) (hA : ∀ q : Nat, s.heap.size ≤ q → A q) {Qc : Option PT → PS → Prop} {bc bs : Nat}  : ∀ (k n0 : Nat) (hk : k ≤ bc) (hn : n0 ≤ bs) (x1 : Int32) (x2 : Int32) (x3 : Int32) (u : PS) (a : Nat → Nat) (ls : Array Slot) (H : Heap) (locs : List Loc), lv_has ls 5 [(0, .ref o), (1, .int x1), (2, .int x2), (3, .int x3)] → wd x A s.heap (pcl x g o a u ++ ex) H locs → B_B_paren_127 Kc Qc bc bs  k n0 x1 x2 x3 u → W p l e (rmN (lv + 17) bc bs) s m args below meth c H locs k n0 (MQ below (QeO x g (pcl x g o) ex A Qc) args s bc bs A) (F0 m 127 ls []) := by
  intro k n0 hk hn x1 x2 x3 u a ls H locs hl hw h
  refine lv_aload_n S.1 S.2.1 d_B_paren_127 rfl (lv_at hl 0 rfl) ?_
  refine lv_iconst (v := 1) S.1 S.2.1 d_B_paren_128 (by decide) ?_
  refine pp_wrong S hK hw isB1 d_B_paren_129 (fun H locs hw => ?_)
  exact wB_B_paren_132 lv ihc S hr hlk hK hE hA  k n0 hk hn x1 x2 x3 (ps_wrong u (1 : Int32)) a _ _ _ (lv_sub hl [0, 1, 2, 3] rfl) hw h
set_option maxHeartbeats 8000000 in
set_option maxRecDepth 20000 in
theorem wB_B_paren_114 {Kc : Nat → Nat → Int32 → PS → (PT → PS → Prop) → Prop} (lv : Nat) (ihc : ∀ (bc bs : Nat) (x1 : Int32) (u : PS) (Qc : PT → PS → Prop) (sz : Nat) (ex : va_W) (a : Nat → Nat), Kc bc bs x1 u Qc → Met l y_B_choice (wM y_B_choice b_B_choice 3 (some (.object "PatternBench$Part"))) (rmN (lv + 16) bc bs) (PreE x g (pcl x g o) ex [.ref o, .int x1] a u sz) (QeP x g (pcl x g o) ex (va_A (pcl x g o a u ++ ex) sz) Qc) bc bs (va_A (pcl x g o a u ++ ex) sz)) (S : CallFix p m c b_B_paren 5 s args lw_tg "PatternBench") (hr : meth.sig.returnType = some (.object "PatternBench$Part")) (hlk : meth.locks = false) (hK : GK x s) (hE : EN g A s s.heap) (hA : ∀ q : Nat, s.heap.size ≤ q → A q) {Qc : Option PT → PS → Prop} {bc bs : Nat}  : ∀ (k n0 : Nat) (hk : k ≤ bc) (hn : n0 ≤ bs) (x1 : Int32) (x2 : Int32) (x3 : Int32) (u : PS) (a : Nat → Nat) (ls : Array Slot) (H : Heap) (locs : List Loc), lv_has ls 5 [(0, .ref o), (1, .int x1), (2, .int x2), (3, .int x3)] → wd x A s.heap (pcl x g o a u ++ ex) H locs → B_B_paren_114 Kc Qc bc bs  k n0 x1 x2 x3 u → W p l e (rmN (lv + 17) bc bs) s m args below meth c H locs k n0 (MQ below (QeO x g (pcl x g o) ex A Qc) args s bc bs A) (F0 m 114 ls []) := by
  intro k n0 hk hn x1 x2 x3 u a ls H locs hl hw h
  refine lv_iload_n S.1 S.2.1 d_B_paren_114 rfl (lv_at hl 1 rfl) ?_
  refine lv_iconst (v := 5) S.1 S.2.1 d_B_paren_115 (by decide) ?_
  refine lv_icmp_gt (tgt := 127) S.1 S.2.1 d_B_paren_116 (by decide) (fun q_116 => ?_) (fun q_116 => ?_)
  · have h := h.1 q_116
    exact wB_B_paren_127 lv ihc S hr hlk hK hE hA  k n0 hk hn x1 x2 x3 u a _ _ _ (lv_sub hl [0, 1, 2, 3] rfl) hw h
  · have h := h.2 q_116
    refine lv_aload_n S.1 S.2.1 d_B_paren_119 rfl (lv_at hl 0 rfl) ?_
    refine pg_groups S hK hw d_B_paren_120 ?_
    refine lv_iconst (v := 4) S.1 S.2.1 d_B_paren_123 (by decide) ?_
    refine lv_icmp_le (tgt := 132) S.1 S.2.1 d_B_paren_124 (by decide) (fun q_124 => ?_) (fun q_124 => ?_)
    · have h := h.1 q_124
      exact wB_B_paren_132 lv ihc S hr hlk hK hE hA  k n0 hk hn x1 x2 x3 u a _ _ _ (lv_sub hl [0, 1, 2, 3] rfl) hw h
    · have h := h.2 q_124
      exact wB_B_paren_127 lv ihc S hr hlk hK hE hA  k n0 hk hn x1 x2 x3 u a _ _ _ (lv_sub hl [0, 1, 2, 3] rfl) hw h
set_option maxHeartbeats 8000000 in
set_option maxRecDepth 20000 in
theorem wB_B_paren_86 {Kc : Nat → Nat → Int32 → PS → (PT → PS → Prop) → Prop} (lv : Nat) (ihc : ∀ (bc bs : Nat) (x1 : Int32) (u : PS) (Qc : PT → PS → Prop) (sz : Nat) (ex : va_W) (a : Nat → Nat), Kc bc bs x1 u Qc → Met l y_B_choice (wM y_B_choice b_B_choice 3 (some (.object "PatternBench$Part"))) (rmN (lv + 16) bc bs) (PreE x g (pcl x g o) ex [.ref o, .int x1] a u sz) (QeP x g (pcl x g o) ex (va_A (pcl x g o a u ++ ex) sz) Qc) bc bs (va_A (pcl x g o a u ++ ex) sz)) (S : CallFix p m c b_B_paren 5 s args lw_tg "PatternBench") (hr : meth.sig.returnType = some (.object "PatternBench$Part")) (hlk : meth.locks = false) (hK : GK x s) (hE : EN g A s s.heap) (hA : ∀ q : Nat, s.heap.size ≤ q → A q) {Qc : Option PT → PS → Prop} {bc bs : Nat}  : ∀ (k n0 : Nat) (hk : k ≤ bc) (hn : n0 ≤ bs) (x1 : Int32) (x2 : Int32) (x3 : Int32) (u : PS) (a : Nat → Nat) (ls : Array Slot) (H : Heap) (locs : List Loc), lv_has ls 5 [(0, .ref o), (1, .int x1), (2, .int x2), (3, .int x3)] → wd x A s.heap (pcl x g o a u ++ ex) H locs → B_B_paren_86 Kc Qc bc bs  k n0 x1 x2 x3 u → W p l e (rmN (lv + 17) bc bs) s m args below meth c H locs k n0 (MQ below (QeO x g (pcl x g o) ex A Qc) args s bc bs A) (F0 m 86 ls []) := by
  intro k n0 hk hn x1 x2 x3 u a ls H locs hl hw h
  refine lv_aload_n S.1 S.2.1 d_B_paren_86 rfl (lv_at hl 0 rfl) ?_
  refine lv_dup S.1 S.2.1 d_B_paren_87 rfl ?_
  refine pg_at S hK hw d_B_paren_88 ?_
  refine lv_iconst (v := 1) S.1 S.2.1 d_B_paren_91 (by decide) ?_
  refine lv_iadd S.1 S.2.1 d_B_paren_92 ?_
  refine pp_at S hK hw d_B_paren_93 (fun H locs hw => ?_)
  refine lv_goto (tgt := 114) S.1 S.2.1 d_B_paren_96 (by decide) ?_
  exact wB_B_paren_114 lv ihc S hr hlk hK hE hA  k n0 hk hn x1 x2 x3 (ps_at u ((p_at u) + (1 : Int32))) a _ _ _ (lv_sub hl [0, 1, 2, 3] rfl) hw h
set_option maxHeartbeats 8000000 in
set_option maxRecDepth 20000 in
theorem wB_B_paren_57 {Kc : Nat → Nat → Int32 → PS → (PT → PS → Prop) → Prop} (lv : Nat) (ihc : ∀ (bc bs : Nat) (x1 : Int32) (u : PS) (Qc : PT → PS → Prop) (sz : Nat) (ex : va_W) (a : Nat → Nat), Kc bc bs x1 u Qc → Met l y_B_choice (wM y_B_choice b_B_choice 3 (some (.object "PatternBench$Part"))) (rmN (lv + 16) bc bs) (PreE x g (pcl x g o) ex [.ref o, .int x1] a u sz) (QeP x g (pcl x g o) ex (va_A (pcl x g o a u ++ ex) sz) Qc) bc bs (va_A (pcl x g o a u ++ ex) sz)) (S : CallFix p m c b_B_paren 5 s args lw_tg "PatternBench") (hr : meth.sig.returnType = some (.object "PatternBench$Part")) (hlk : meth.locks = false) (hK : GK x s) (hE : EN g A s s.heap) (hA : ∀ q : Nat, s.heap.size ≤ q → A q) {Qc : Option PT → PS → Prop} {bc bs : Nat}  : ∀ (k n0 : Nat) (hk : k ≤ bc) (hn : n0 ≤ bs) (x1 : Int32) (x2 : Int32) (x3 : Int32) (u : PS) (a : Nat → Nat) (ls : Array Slot) (H : Heap) (locs : List Loc), lv_has ls 5 [(0, .ref o), (1, .int x1), (2, .int x2), (3, .int x3)] → wd x A s.heap (pcl x g o a u ++ ex) H locs → B_B_paren_57 Kc Qc bc bs  k n0 x1 x2 x3 u → W p l e (rmN (lv + 17) bc bs) s m args below meth c H locs k n0 (MQ below (QeO x g (pcl x g o) ex A Qc) args s bc bs A) (F0 m 57 ls []) := by
  intro k n0 hk hn x1 x2 x3 u a ls H locs hl hw h
  refine lv_iload_n S.1 S.2.1 d_B_paren_57 rfl (lv_at hl 2 rfl) ?_
  refine lv_bipush (v := 58) S.1 S.2.1 d_B_paren_58 (by decide) ?_
  refine lv_icmp_eq (tgt := 86) S.1 S.2.1 d_B_paren_60 (by decide) (fun q_60 => ?_) (fun q_60 => ?_)
  · have h := h.1 q_60
    exact wB_B_paren_86 lv ihc S hr hlk hK hE hA  k n0 hk hn x1 x2 x3 u a _ _ _ (lv_sub hl [0, 1, 2, 3] rfl) hw h
  · have h := h.2 q_60
    refine lv_iload_n S.1 S.2.1 d_B_paren_63 rfl (lv_at hl 2 rfl) ?_
    refine lv_bipush (v := 61) S.1 S.2.1 d_B_paren_64 (by decide) ?_
    refine lv_icmp_eq (tgt := 86) S.1 S.2.1 d_B_paren_66 (by decide) (fun q_66 => ?_) (fun q_66 => ?_)
    · have h := h.1 q_66
      exact wB_B_paren_86 lv ihc S hr hlk hK hE hA  k n0 hk hn x1 x2 x3 u a _ _ _ (lv_sub hl [0, 1, 2, 3] rfl) hw h
    · have h := h.2 q_66
      refine lv_iload_n S.1 S.2.1 d_B_paren_69 rfl (lv_at hl 2 rfl) ?_
      refine lv_bipush (v := 33) S.1 S.2.1 d_B_paren_70 (by decide) ?_
      refine lv_icmp_eq (tgt := 86) S.1 S.2.1 d_B_paren_72 (by decide) (fun q_72 => ?_) (fun q_72 => ?_)
      · have h := h.1 q_72
        exact wB_B_paren_86 lv ihc S hr hlk hK hE hA  k n0 hk hn x1 x2 x3 u a _ _ _ (lv_sub hl [0, 1, 2, 3] rfl) hw h
      · have h := h.2 q_72
        refine lv_iload_n S.1 S.2.1 d_B_paren_75 rfl (lv_at hl 2 rfl) ?_
        refine lv_bipush (v := 62) S.1 S.2.1 d_B_paren_76 (by decide) ?_
        refine lv_icmp_eq (tgt := 86) S.1 S.2.1 d_B_paren_78 (by decide) (fun q_78 => ?_) (fun q_78 => ?_)
        · have h := h.1 q_78
          exact wB_B_paren_86 lv ihc S hr hlk hK hE hA  k n0 hk hn x1 x2 x3 u a _ _ _ (lv_sub hl [0, 1, 2, 3] rfl) hw h
        · have h := h.2 q_78
          refine lv_aload_n S.1 S.2.1 d_B_paren_81 rfl (lv_at hl 0 rfl) ?_
          refine lv_iconst (v := 1) S.1 S.2.1 d_B_paren_82 (by decide) ?_
          refine pp_wrong S hK hw isB1 d_B_paren_83 (fun H locs hw => ?_)
          exact wB_B_paren_86 lv ihc S hr hlk hK hE hA  k n0 hk hn x1 x2 x3 (ps_wrong u (1 : Int32)) a _ _ _ (lv_sub hl [0, 1, 2, 3] rfl) hw h
set_option maxHeartbeats 8000000 in
set_option maxRecDepth 20000 in
theorem c_B_paren {x : GX} {g : GE} {o : Nat} {ex : va_W} {a : Nat → Nat} {l : Launch} {Kc : Nat → Nat → Int32 → PS → (PT → PS → Prop) → Prop} (lv : Nat) (ihc : ∀ (bc bs : Nat) (x1 : Int32) (u : PS) (Qc : PT → PS → Prop) (sz : Nat) (ex : va_W) (a : Nat → Nat), Kc bc bs x1 u Qc → Met l y_B_choice (wM y_B_choice b_B_choice 3 (some (.object "PatternBench$Part"))) (rmN (lv + 16) bc bs) (PreE x g (pcl x g o) ex [.ref o, .int x1] a u sz) (QeP x g (pcl x g o) ex (va_A (pcl x g o a u ++ ex) sz) Qc) bc bs (va_A (pcl x g o a u ++ ex) sz)) (bc bs : Nat) (x1 : Int32) (u : PS) (sz : Nat) (Qc : Option PT → PS → Prop) (h : P_B_paren Kc bc bs x1 u Qc) : Met l y_B_paren (wM y_B_paren b_B_paren 5 (some (.object "PatternBench$Part"))) (rmN (lv + 17) bc bs) (PreE x g (pcl x g o) ex [.ref o, .int x1] a u sz) (QeO x g (pcl x g o) ex (va_A (pcl x g o a u ++ ex) sz) Qc) bc bs (va_A (pcl x g o a u ++ ex) sz) := by
  refine w_enterE (by decide +kernel) (Nat.le_of_ble_eq_true rfl) (fun p e s m args below meth c S hr hlk hnm hK hE hA hw ls hl => ?_)
  have hl : lv_has ls 5 [(0, .ref o), (1, .int x1)] := hl
  refine lv_bipush (v := 32) S.1 S.2.1 d_B_paren_0 (by decide) ?_
  refine lv_istore_n (lv' := [(2, .int (32 : Int32)), (0, .ref o), (1, .int x1)]) S.1 S.2.1 d_B_paren_2 rfl hl (by decide) rfl (fun ls hl => ?_)
  refine lv_iconst (v := 0) S.1 S.2.1 d_B_paren_3 (by decide) ?_
  refine lv_istore_n (lv' := [(3, .int (0 : Int32)), (2, .int (32 : Int32)), (0, .ref o), (1, .int x1)]) S.1 S.2.1 d_B_paren_4 rfl hl (by decide) rfl (fun ls hl => ?_)
  refine lv_aload_n S.1 S.2.1 d_B_paren_5 rfl (lv_at hl 2 rfl) ?_
  refine lv_bipush (v := 63) S.1 S.2.1 d_B_paren_6 (by decide) ?_
  refine w_ciF hA hw (w_rvE (rest := []) S hK hE hA hw (c_B_skip l (63 : Int32) u _ _ h) (ci := 1) (q0 := 0) rfl rfl (w_cb (fr := 0) (lv := 0) S.2.2.2.2 k_447 k_444 k_1 yd_B_skip rfl rfl ⟨by show 7 + 1 ≤ lv + 17; omega, by show 8 + (2 + 11) + 64 * (7) ≤ 64 * (lv + 17); omega⟩) k_446 s_5 rfl hl.1 rfl (Nat.le_of_ble_eq_true rfl) d_B_paren_8 ⟨(Nat.zero_le _), (Nat.zero_le _)⟩) (fun r_8 u_8 H locs h hw => ?_)
  refine lv_if_eq (tgt := 99) S.1 S.2.1 d_B_paren_11 (by decide) (fun q_11 => ?_) (fun q_11 => ?_)
  · have h := h.1 q_11
    refine lv_aload_n S.1 S.2.1 d_B_paren_99 rfl (lv_at hl 2 rfl) ?_
    refine lv_dup S.1 S.2.1 d_B_paren_100 rfl ?_
    refine pg_groups S hK hw d_B_paren_101 ?_
    refine lv_iconst (v := 1) S.1 S.2.1 d_B_paren_104 (by decide) ?_
    refine lv_iadd S.1 S.2.1 d_B_paren_105 ?_
    refine pp_groups S hK hw d_B_paren_106 (fun H locs hw => ?_)
    refine lv_aload_n S.1 S.2.1 d_B_paren_109 rfl (lv_at hl 2 rfl) ?_
    refine pg_groups S hK hw d_B_paren_110 ?_
    refine lv_topi (fun x3_113 ex3_113 => ?_)
    have h := h x3_113 ex3_113
    refine lv_istore_n (lv' := [(3, .int x3_113), (2, .int (32 : Int32)), (0, .ref o), (1, .int x1)]) S.1 S.2.1 d_B_paren_113 rfl hl (by decide) rfl (fun ls hl => ?_)
    exact wB_B_paren_114 lv ihc S hr hlk hK hE hA  0 0 (Nat.zero_le _) (Nat.zero_le _) x1 (32 : Int32) x3_113 (ps_groups u_8 ((p_groups u_8) + (1 : Int32))) a _ _ _ (lv_sub hl [2, 3, 1, 0] rfl) hw h
  · have h := h.2 q_11
    refine lv_aload_n S.1 S.2.1 d_B_paren_14 rfl (lv_at hl 2 rfl) ?_
    refine w_ciF hA hw (w_rvE (rest := []) S hK hE hA hw (c_B_here l  u_8 _ _ h) (ci := 1) (q0 := 0) rfl rfl (w_cb (fr := 0) (lv := 0) S.2.2.2.2 k_403 k_400 k_1 yd_B_here rfl rfl ⟨by show 6 + 1 ≤ lv + 17; omega, by show 8 + (1 + 11) + 64 * (6) ≤ 64 * (lv + 17); omega⟩) k_402 s_2 rfl hl.1 rfl (Nat.le_of_ble_eq_true rfl) d_B_paren_15 ⟨(Nat.zero_le _), (Nat.zero_le _)⟩) (fun r_15 u_15 H locs h hw => ?_)
    refine lv_istore_n (lv' := [(2, .int r_15), (3, .int (0 : Int32)), (0, .ref o), (1, .int x1)]) S.1 S.2.1 d_B_paren_18 rfl hl (by decide) rfl (fun ls hl => ?_)
    refine lv_iload_n S.1 S.2.1 d_B_paren_19 rfl (lv_at hl 0 rfl) ?_
    refine lv_bipush (v := 48) S.1 S.2.1 d_B_paren_20 (by decide) ?_
    refine lv_icmp_lt (tgt := 57) S.1 S.2.1 d_B_paren_22 (by decide) (fun q_22 => ?_) (fun q_22 => ?_)
    · have h := h.1 q_22
      exact wB_B_paren_57 lv ihc S hr hlk hK hE hA  0 0 (Nat.zero_le _) (Nat.zero_le _) x1 r_15 (0 : Int32) u_15 a _ _ _ (lv_sub hl [2, 3, 0, 1] rfl) hw h
    · have h := h.2 q_22
      refine lv_iload_n S.1 S.2.1 d_B_paren_25 rfl (lv_at hl 0 rfl) ?_
      refine lv_bipush (v := 57) S.1 S.2.1 d_B_paren_26 (by decide) ?_
      refine lv_icmp_gt (tgt := 57) S.1 S.2.1 d_B_paren_28 (by decide) (fun q_28 => ?_) (fun q_28 => ?_)
      · have h := h.1 q_28
        exact wB_B_paren_57 lv ihc S hr hlk hK hE hA  0 0 (Nat.zero_le _) (Nat.zero_le _) x1 r_15 (0 : Int32) u_15 a _ _ _ (lv_sub hl [2, 3, 0, 1] rfl) hw h
      · have h := h.2 q_28
        refine lv_aload_n S.1 S.2.1 d_B_paren_31 rfl (lv_at hl 2 rfl) ?_
        refine lv_iconst (v := 0) S.1 S.2.1 d_B_paren_32 (by decide) ?_
        refine w_ciF hA hw (w_rvE (rest := []) S hK hE hA hw (c_B_name l (0 : Int32) u_15 _ _ h) (ci := 1) (q0 := 0) rfl rfl (w_cb (fr := 0) (lv := 0) S.2.2.2.2 k_457 k_454 k_1 yd_B_name rfl rfl ⟨by show 8 + 1 ≤ lv + 17; omega, by show 8 + (3 + 11) + 64 * (8) ≤ 64 * (lv + 17); omega⟩) k_456 s_6 rfl hl.1 rfl (Nat.le_of_ble_eq_true rfl) d_B_paren_33 ⟨(Nat.zero_le _), (Nat.zero_le _)⟩) (fun r_33 u_33 H locs h hw => ?_)
        refine lv_istore (lv' := [(4, .int r_33), (2, .int r_15), (3, .int (0 : Int32)), (0, .ref o), (1, .int x1)]) S.1 S.2.1 d_B_paren_36 hl (by decide) rfl (fun ls hl => ?_)
        refine lv_aload_n S.1 S.2.1 d_B_paren_38 rfl (lv_at hl 3 rfl) ?_
        refine lv_bipush (v := 41) S.1 S.2.1 d_B_paren_39 (by decide) ?_
        refine w_cvF hA hw (w_rvE (rest := []) S hK hE hA hw (c_B_expect l (41 : Int32) u_33 _ _ h) (ci := 1) (q0 := 0) rfl rfl (w_cb (fr := 0) (lv := 0) S.2.2.2.2 k_469 k_466 k_1 yd_B_expect rfl rfl ⟨by show 8 + 1 ≤ lv + 17; omega, by show 8 + (2 + 11) + 64 * (8) ≤ 64 * (lv + 17); omega⟩) k_468 s_9 rfl hl.1 rfl (Nat.le_of_ble_eq_true rfl) d_B_paren_41 ⟨(Nat.zero_le _), (Nat.zero_le _)⟩) (fun u_41 H locs h hw => ?_)
        obtain ⟨hk_44, hn_44, h⟩ := h
        refine pm_newLeaf (R := rmN (lv + 17) bc bs) (cells := 0) (slots := 0) S hK hA hw ⟨hk_44, hn_44⟩ d_B_paren_44 (fun q_44 H hw => ?_)
        have h := h q_44
        refine lv_dup S.1 S.2.1 d_B_paren_47 rfl ?_
        refine p_op S hE hw.2.2 4 (by decide) rfl k_470 d_B_paren_48 ?_
        refine lv_iload S.1 S.2.1 d_B_paren_51 (lv_at hl 0 rfl) ?_
        refine pm_initLeaf (R := rmN (lv + 17) bc bs) (rest := [.ref q_44]) S hK hE hA  hw (by show 8 ≤ lv + 17; omega) (by show 64 * 8 ≤ 64 * (lv + 17); omega) ⟨hk_44, hn_44⟩ hl.1 (Nat.le_of_ble_eq_true rfl) d_B_paren_53 (fun H locs hw => ?_)
        have hp_53 : TP x g [(q_44, .inr (5, [.ref (g.1 4), .int r_33]))] (tLeaf 4 r_33) q_44 := TP_leaf (by decide) (List.mem_of_getElem? (i := 0) rfl)
        refine W.widen (k := bc) (n := bs) hk_44 hn_44 ?_
        exact w_oretE S hr hlk hp_53 hw h d_B_paren_56
end PW
abbrev b_B_atom : ByteArray := prog_1_method_11_code
def y_B_atom : MethodName := ⟨"PatternBench", "atom", "(I)LPatternBench$Part;"⟩
theorem yd_B_atom : y_B_atom.cls ≠ "java/lang/invoke/MethodHandle" ∧ y_B_atom.cls ≠ "java/lang/invoke/VarHandle" ∧ (parseMethodDescriptor y_B_atom.desc).map (fun d => d.parameters.length) = some 1 := by decide +kernel
theorem d_B_atom_0 : decode b_B_atom 0 = .ok (.aload_n 0, 1) := by decide +kernel
theorem d_B_atom_1 : decode b_B_atom 1 = .ok (.invokevirtual 69, 3) := by decide +kernel
theorem d_B_atom_4 : decode b_B_atom 4 = .ok (.istore_n 2, 1) := by decide +kernel
theorem d_B_atom_5 : decode b_B_atom 5 = .ok (.aload_n 0, 1) := by decide +kernel
theorem d_B_atom_6 : decode b_B_atom 6 = .ok (.dup, 1) := by decide +kernel
theorem d_B_atom_7 : decode b_B_atom 7 = .ok (.getfield 58, 3) := by decide +kernel
theorem d_B_atom_10 : decode b_B_atom 10 = .ok (.iconst 1, 1) := by decide +kernel
theorem d_B_atom_11 : decode b_B_atom 11 = .ok (.iadd, 1) := by decide +kernel
theorem d_B_atom_12 : decode b_B_atom 12 = .ok (.putfield 58, 3) := by decide +kernel
theorem d_B_atom_15 : decode b_B_atom 15 = .ok (.iload_n 2, 1) := by decide +kernel
theorem d_B_atom_16 : decode b_B_atom 16 = .ok (.invokestatic 126, 3) := by decide +kernel
theorem d_B_atom_19 : decode b_B_atom 19 = .ok (.ifCond .eq 20, 3) := by decide +kernel
theorem d_B_atom_22 : decode b_B_atom 22 = .ok (.new 129, 3) := by decide +kernel
theorem d_B_atom_25 : decode b_B_atom 25 = .ok (.dup, 1) := by decide +kernel
theorem d_B_atom_26 : decode b_B_atom 26 = .ok (.getstatic 131, 3) := by decide +kernel
theorem d_B_atom_29 : decode b_B_atom 29 = .ok (.iconst 1, 1) := by decide +kernel
theorem d_B_atom_30 : decode b_B_atom 30 = .ok (.iload_n 2, 1) := by decide +kernel
theorem d_B_atom_31 : decode b_B_atom 31 = .ok (.bipush 97, 2) := by decide +kernel
theorem d_B_atom_33 : decode b_B_atom 33 = .ok (.isub, 1) := by decide +kernel
theorem d_B_atom_34 : decode b_B_atom 34 = .ok (.ishl, 1) := by decide +kernel
theorem d_B_atom_35 : decode b_B_atom 35 = .ok (.invokespecial 137, 3) := by decide +kernel
theorem d_B_atom_38 : decode b_B_atom 38 = .ok (.areturn, 1) := by decide +kernel
theorem d_B_atom_39 : decode b_B_atom 39 = .ok (.iload_n 2, 1) := by decide +kernel
theorem d_B_atom_40 : decode b_B_atom 40 = .ok (.lookupswitch 124 #[(36, 90), (40, 118), (46, 60), (91, 73), (92, 102), (94, 78)], 60) := by decide +kernel
theorem d_B_atom_100 : decode b_B_atom 100 = .ok (.new 129, 3) := by decide +kernel
theorem d_B_atom_103 : decode b_B_atom 103 = .ok (.dup, 1) := by decide +kernel
theorem d_B_atom_104 : decode b_B_atom 104 = .ok (.getstatic 131, 3) := by decide +kernel
theorem d_B_atom_107 : decode b_B_atom 107 = .ok (.ldc 140, 2) := by decide +kernel
theorem d_B_atom_109 : decode b_B_atom 109 = .ok (.invokespecial 137, 3) := by decide +kernel
theorem d_B_atom_112 : decode b_B_atom 112 = .ok (.areturn, 1) := by decide +kernel
theorem d_B_atom_113 : decode b_B_atom 113 = .ok (.aload_n 0, 1) := by decide +kernel
theorem d_B_atom_114 : decode b_B_atom 114 = .ok (.invokevirtual 141, 3) := by decide +kernel
theorem d_B_atom_117 : decode b_B_atom 117 = .ok (.areturn, 1) := by decide +kernel
theorem d_B_atom_118 : decode b_B_atom 118 = .ok (.new 129, 3) := by decide +kernel
theorem d_B_atom_121 : decode b_B_atom 121 = .ok (.dup, 1) := by decide +kernel
theorem d_B_atom_122 : decode b_B_atom 122 = .ok (.getstatic 145, 3) := by decide +kernel
theorem d_B_atom_125 : decode b_B_atom 125 = .ok (.iconst 0, 1) := by decide +kernel
theorem d_B_atom_126 : decode b_B_atom 126 = .ok (.invokespecial 137, 3) := by decide +kernel
theorem d_B_atom_129 : decode b_B_atom 129 = .ok (.areturn, 1) := by decide +kernel
theorem d_B_atom_130 : decode b_B_atom 130 = .ok (.new 129, 3) := by decide +kernel
theorem d_B_atom_133 : decode b_B_atom 133 = .ok (.dup, 1) := by decide +kernel
theorem d_B_atom_134 : decode b_B_atom 134 = .ok (.getstatic 148, 3) := by decide +kernel
theorem d_B_atom_137 : decode b_B_atom 137 = .ok (.iconst 0, 1) := by decide +kernel
theorem d_B_atom_138 : decode b_B_atom 138 = .ok (.invokespecial 137, 3) := by decide +kernel
theorem d_B_atom_141 : decode b_B_atom 141 = .ok (.areturn, 1) := by decide +kernel
theorem d_B_atom_142 : decode b_B_atom 142 = .ok (.new 129, 3) := by decide +kernel
theorem d_B_atom_145 : decode b_B_atom 145 = .ok (.dup, 1) := by decide +kernel
theorem d_B_atom_146 : decode b_B_atom 146 = .ok (.getstatic 151, 3) := by decide +kernel
theorem d_B_atom_149 : decode b_B_atom 149 = .ok (.aload_n 0, 1) := by decide +kernel
theorem d_B_atom_150 : decode b_B_atom 150 = .ok (.iconst 1, 1) := by decide +kernel
theorem d_B_atom_151 : decode b_B_atom 151 = .ok (.invokevirtual 154, 3) := by decide +kernel
theorem d_B_atom_154 : decode b_B_atom 154 = .ok (.invokespecial 137, 3) := by decide +kernel
theorem d_B_atom_157 : decode b_B_atom 157 = .ok (.areturn, 1) := by decide +kernel
theorem d_B_atom_158 : decode b_B_atom 158 = .ok (.aload_n 0, 1) := by decide +kernel
theorem d_B_atom_159 : decode b_B_atom 159 = .ok (.iload_n 1, 1) := by decide +kernel
theorem d_B_atom_160 : decode b_B_atom 160 = .ok (.invokevirtual 158, 3) := by decide +kernel
theorem d_B_atom_163 : decode b_B_atom 163 = .ok (.areturn, 1) := by decide +kernel
theorem d_B_atom_164 : decode b_B_atom 164 = .ok (.aload_n 0, 1) := by decide +kernel
theorem d_B_atom_165 : decode b_B_atom 165 = .ok (.iconst 1, 1) := by decide +kernel
theorem d_B_atom_166 : decode b_B_atom 166 = .ok (.putfield 77, 3) := by decide +kernel
theorem d_B_atom_169 : decode b_B_atom 169 = .ok (.aconst_null, 1) := by decide +kernel
theorem d_B_atom_170 : decode b_B_atom 170 = .ok (.areturn, 1) := by decide +kernel
def P_B_atom (Kc : Nat → Nat → Int32 → PS → (PT → PS → Prop) → Prop) (bc bs : Nat) (x1 : Int32) (u : PS) (Qc : Option PT → PS → Prop) : Prop := P_B_here  u (fun r_1 u_1 => P_B_letter r_1 (fun r_16 => ((r_16 = (0 : Int32) → ((r_1 = (36 : Int32) → (0 + 1 ≤ bc ∧ 0 + 2 ≤ bs ∧ ∀ q_130 : Nat, Qc (some (tLeaf 2 (0 : Int32))) (ps_at u_1 ((p_at u_1) + (1 : Int32))))) ∧ (r_1 = (40 : Int32) → (∃ kc_160 nc_160 : Nat, 0 + kc_160 ≤ bc ∧ 0 + nc_160 ≤ bs ∧ P_B_paren Kc kc_160 nc_160 x1 (ps_at u_1 ((p_at u_1) + (1 : Int32))) (fun T_160 u_160 => ((T_160 = none → Qc none u_160) ∧ (∀ T_1609 : PT, T_160 = some T_1609 → ∀ r_160 : Nat, Qc (some T_1609) u_160))))) ∧ (r_1 = (46 : Int32) → (0 + 1 ≤ bc ∧ 0 + 2 ≤ bs ∧ ∀ q_100 : Nat, Qc (some (tLeaf 0 (67108863 : Int32))) (ps_at u_1 ((p_at u_1) + (1 : Int32))))) ∧ (r_1 = (91 : Int32) → (∃ kc_114 nc_114 : Nat, 0 + kc_114 ≤ bc ∧ 0 + nc_114 ≤ bs ∧ P_B_set kc_114 nc_114  (ps_at u_1 ((p_at u_1) + (1 : Int32))) (fun T_114 u_114 => ∀ r_114 : Nat, Qc (some T_114) u_114))) ∧ (r_1 = (92 : Int32) → (0 + 1 ≤ bc ∧ 0 + 2 ≤ bs ∧ ∀ q_142 : Nat, P_B_name (1 : Int32) (ps_at u_1 ((p_at u_1) + (1 : Int32))) (fun r_151 u_151 => Qc (some (tLeaf 3 r_151)) u_151))) ∧ (r_1 = (94 : Int32) → (0 + 1 ≤ bc ∧ 0 + 2 ≤ bs ∧ ∀ q_118 : Nat, Qc (some (tLeaf 1 (0 : Int32))) (ps_at u_1 ((p_at u_1) + (1 : Int32))))) ∧ (¬ r_1 = (36 : Int32) → ¬ r_1 = (40 : Int32) → ¬ r_1 = (46 : Int32) → ¬ r_1 = (91 : Int32) → ¬ r_1 = (92 : Int32) → ¬ r_1 = (94 : Int32) → Qc none (ps_wrong (ps_at u_1 ((p_at u_1) + (1 : Int32))) (1 : Int32))))) ∧ (¬ r_16 = (0 : Int32) → (0 + 1 ≤ bc ∧ 0 + 2 ≤ bs ∧ ∀ q_22 : Nat, Qc (some (tLeaf 0 ((1 : Int32) <<< ((r_1 - (97 : Int32)) &&& 31)))) (ps_at u_1 ((p_at u_1) + (1 : Int32))))))))
section PW
variable {p : Program} {l : Launch} {e : Env} {s : State} {m : MethodId} {args : Array Value} {below : List Frame} {meth : Method} {c : Code} {x : GX} {g : GE} {ex : va_W} {a : Nat → Nat} {A : Nat → Prop} {o : Nat}
set_option maxHeartbeats 8000000 in
set_option maxRecDepth 20000 in
theorem c_B_atom {x : GX} {g : GE} {o : Nat} {ex : va_W} {a : Nat → Nat} {l : Launch} {Kc : Nat → Nat → Int32 → PS → (PT → PS → Prop) → Prop} (lv : Nat) (ihc : ∀ (bc bs : Nat) (x1 : Int32) (u : PS) (Qc : PT → PS → Prop) (sz : Nat) (ex : va_W) (a : Nat → Nat), Kc bc bs x1 u Qc → Met l y_B_choice (wM y_B_choice b_B_choice 3 (some (.object "PatternBench$Part"))) (rmN (lv + 16) bc bs) (PreE x g (pcl x g o) ex [.ref o, .int x1] a u sz) (QeP x g (pcl x g o) ex (va_A (pcl x g o a u ++ ex) sz) Qc) bc bs (va_A (pcl x g o a u ++ ex) sz)) (bc bs : Nat) (x1 : Int32) (u : PS) (sz : Nat) (Qc : Option PT → PS → Prop) (h : P_B_atom Kc bc bs x1 u Qc) : Met l y_B_atom (wM y_B_atom b_B_atom 3 (some (.object "PatternBench$Part"))) (rmN (lv + 18) bc bs) (PreE x g (pcl x g o) ex [.ref o, .int x1] a u sz) (QeO x g (pcl x g o) ex (va_A (pcl x g o a u ++ ex) sz) Qc) bc bs (va_A (pcl x g o a u ++ ex) sz) := by
  refine w_enterE (by decide +kernel) (Nat.le_of_ble_eq_true rfl) (fun p e s m args below meth c S hr hlk hnm hK hE hA hw ls hl => ?_)
  have hl : lv_has ls 3 [(0, .ref o), (1, .int x1)] := hl
  refine lv_aload_n S.1 S.2.1 d_B_atom_0 rfl (lv_at hl 0 rfl) ?_
  refine w_ciF hA hw (w_rvE (rest := []) S hK hE hA hw (c_B_here l  u _ _ h) (ci := 1) (q0 := 0) rfl rfl (w_cb (fr := 0) (lv := 0) S.2.2.2.2 k_403 k_400 k_1 yd_B_here rfl rfl ⟨by show 6 + 1 ≤ lv + 18; omega, by show 8 + (1 + 11) + 64 * (6) ≤ 64 * (lv + 18); omega⟩) k_402 s_2 rfl hl.1 rfl (Nat.le_of_ble_eq_true rfl) d_B_atom_1 ⟨(Nat.zero_le _), (Nat.zero_le _)⟩) (fun r_1 u_1 H locs h hw => ?_)
  refine lv_istore_n (lv' := [(2, .int r_1), (0, .ref o), (1, .int x1)]) S.1 S.2.1 d_B_atom_4 rfl hl (by decide) rfl (fun ls hl => ?_)
  refine lv_aload_n S.1 S.2.1 d_B_atom_5 rfl (lv_at hl 1 rfl) ?_
  refine lv_dup S.1 S.2.1 d_B_atom_6 rfl ?_
  refine pg_at S hK hw d_B_atom_7 ?_
  refine lv_iconst (v := 1) S.1 S.2.1 d_B_atom_10 (by decide) ?_
  refine lv_iadd S.1 S.2.1 d_B_atom_11 ?_
  refine pp_at S hK hw d_B_atom_12 (fun H locs hw => ?_)
  refine lv_iload_n S.1 S.2.1 d_B_atom_15 rfl (lv_at hl 0 rfl) ?_
  refine w_cn (w_rs (rest := []) S (c_B_letter l r_1 _ h) (w_cb (fr := 0) (lv := 0) S.2.2.2.2 k_420 k_418 k_1 yd_B_letter rfl rfl ⟨by show 0 + 1 ≤ lv + 18; omega, by show 8 + (1 + 11) + 64 * (0) ≤ 64 * (lv + 18); omega⟩) k_419 rfl hl.1 rfl (Nat.le_of_ble_eq_true rfl) d_B_atom_16 ⟨(Nat.zero_le _), (Nat.zero_le _)⟩) (fun r_16 h => ?_)
  refine lv_if_eq (tgt := 39) S.1 S.2.1 d_B_atom_19 (by decide) (fun q_19 => ?_) (fun q_19 => ?_)
  · have h := h.1 q_19
    refine lv_iload_n S.1 S.2.1 d_B_atom_39 rfl (lv_at hl 0 rfl) ?_
    by_cases q_40_0 : r_1 = (36 : Int32)
    · have h := h.1 q_40_0
      refine lv_lookup (tgt := 130) (off := 90) S.1 S.2.1 d_B_atom_40 (by decide) (by rw [q_40_0]; rfl) (by decide) ?_
      obtain ⟨hk_130, hn_130, h⟩ := h
      refine pm_newLeaf (R := rmN (lv + 18) bc bs) (cells := 0) (slots := 0) S hK hA hw ⟨hk_130, hn_130⟩ d_B_atom_130 (fun q_130 H hw => ?_)
      have h := h q_130
      refine lv_dup S.1 S.2.1 d_B_atom_133 rfl ?_
      refine p_op S hE hw.2.2 2 (by decide) rfl k_450 d_B_atom_134 ?_
      refine lv_iconst (v := 0) S.1 S.2.1 d_B_atom_137 (by decide) ?_
      refine pm_initLeaf (R := rmN (lv + 18) bc bs) (rest := [.ref q_130]) S hK hE hA  hw (by show 8 ≤ lv + 18; omega) (by show 64 * 8 ≤ 64 * (lv + 18); omega) ⟨hk_130, hn_130⟩ hl.1 (Nat.le_of_ble_eq_true rfl) d_B_atom_138 (fun H locs hw => ?_)
      have hp_138 : TP x g [(q_130, .inr (5, [.ref (g.1 2), .int (0 : Int32)]))] (tLeaf 2 (0 : Int32)) q_130 := TP_leaf (by decide) (List.mem_of_getElem? (i := 0) rfl)
      refine W.widen (k := bc) (n := bs) hk_130 hn_130 ?_
      exact w_oretE S hr hlk hp_138 hw h d_B_atom_141
    by_cases q_40_1 : r_1 = (40 : Int32)
    · have h := h.2.1 q_40_1
      refine lv_lookup (tgt := 158) (off := 118) S.1 S.2.1 d_B_atom_40 (by decide) (by rw [q_40_1]; rfl) (by decide) ?_
      refine lv_aload_n S.1 S.2.1 d_B_atom_158 rfl (lv_at hl 1 rfl) ?_
      refine lv_iload_n S.1 S.2.1 d_B_atom_159 rfl (lv_at hl 2 rfl) ?_
      obtain ⟨kc_160, nc_160, hk_160, hn_160, h⟩ := h
      refine w_coE hA hw (w_rvE (rest := []) S hK hE hA hw (c_B_paren lv ihc kc_160 nc_160 x1 (ps_at u_1 ((p_at u_1) + (1 : Int32))) _ _ h) (ci := 1) (q0 := 0) rfl rfl (w_cb (fr := 0) (lv := 0) S.2.2.2.2 k_465 k_462 k_1 yd_B_paren rfl rfl ⟨by show (lv + 17) + 1 ≤ lv + 18; omega, by show 8 + (5 + 11) + 64 * ((lv + 17)) ≤ 64 * (lv + 18); omega⟩) k_464 s_8 rfl hl.1 rfl (Nat.le_of_ble_eq_true rfl) d_B_atom_160 ⟨hk_160, hn_160⟩) (fun u_160 a_160 H locs h hw => ?_) (fun T_160 u_160 r_160 f_160 a_160 H locs h hp_160 hw => ?_)
      · have h := h.1 rfl
        refine W.widen (k := bc) (n := bs) hk_160 hn_160 ?_
        exact w_nretE S hr hlk hw h d_B_atom_163
      · have h := h.2 T_160 rfl r_160
        refine W.widen (k := bc) (n := bs) hk_160 hn_160 ?_
        exact w_oretE S hr hlk hp_160 hw h d_B_atom_163
    by_cases q_40_2 : r_1 = (46 : Int32)
    · have h := h.2.2.1 q_40_2
      refine lv_lookup (tgt := 100) (off := 60) S.1 S.2.1 d_B_atom_40 (by decide) (by rw [q_40_2]; rfl) (by decide) ?_
      obtain ⟨hk_100, hn_100, h⟩ := h
      refine pm_newLeaf (R := rmN (lv + 18) bc bs) (cells := 0) (slots := 0) S hK hA hw ⟨hk_100, hn_100⟩ d_B_atom_100 (fun q_100 H hw => ?_)
      have h := h q_100
      refine lv_dup S.1 S.2.1 d_B_atom_103 rfl ?_
      refine p_op S hE hw.2.2 0 (by decide) rfl k_423 d_B_atom_104 ?_
      refine lv_ldc (v := 67108863) S.1 S.2.1 S.2.2.2.1 (S.2.2.2.2 _ k_439) d_B_atom_107 ?_
      refine pm_initLeaf (R := rmN (lv + 18) bc bs) (rest := [.ref q_100]) S hK hE hA  hw (by show 8 ≤ lv + 18; omega) (by show 64 * 8 ≤ 64 * (lv + 18); omega) ⟨hk_100, hn_100⟩ hl.1 (Nat.le_of_ble_eq_true rfl) d_B_atom_109 (fun H locs hw => ?_)
      have hp_109 : TP x g [(q_100, .inr (5, [.ref (g.1 0), .int (67108863 : Int32)]))] (tLeaf 0 (67108863 : Int32)) q_100 := TP_leaf (by decide) (List.mem_of_getElem? (i := 0) rfl)
      refine W.widen (k := bc) (n := bs) hk_100 hn_100 ?_
      exact w_oretE S hr hlk hp_109 hw h d_B_atom_112
    by_cases q_40_3 : r_1 = (91 : Int32)
    · have h := h.2.2.2.1 q_40_3
      refine lv_lookup (tgt := 113) (off := 73) S.1 S.2.1 d_B_atom_40 (by decide) (by rw [q_40_3]; rfl) (by decide) ?_
      refine lv_aload_n S.1 S.2.1 d_B_atom_113 rfl (lv_at hl 1 rfl) ?_
      obtain ⟨kc_114, nc_114, hk_114, hn_114, h⟩ := h
      refine w_cpE hA hw (w_rvE (rest := []) S hK hE hA hw (c_B_set kc_114 nc_114  (ps_at u_1 ((p_at u_1) + (1 : Int32))) _ _ h) (ci := 1) (q0 := 0) rfl rfl (w_cb (fr := 0) (lv := 0) S.2.2.2.2 k_443 k_440 k_1 yd_B_set rfl rfl ⟨by show 9 + 1 ≤ lv + 18; omega, by show 8 + (6 + 11) + 64 * (9) ≤ 64 * (lv + 18); omega⟩) k_442 s_4 rfl hl.1 rfl (Nat.le_of_ble_eq_true rfl) d_B_atom_114 ⟨hk_114, hn_114⟩) (fun T_114 u_114 r_114 f_114 a_114 H locs h hp_114 hw => ?_)
      have h := h r_114
      refine W.widen (k := bc) (n := bs) hk_114 hn_114 ?_
      exact w_oretE S hr hlk hp_114 hw h d_B_atom_117
    by_cases q_40_4 : r_1 = (92 : Int32)
    · have h := h.2.2.2.2.1 q_40_4
      refine lv_lookup (tgt := 142) (off := 102) S.1 S.2.1 d_B_atom_40 (by decide) (by rw [q_40_4]; rfl) (by decide) ?_
      obtain ⟨hk_142, hn_142, h⟩ := h
      refine pm_newLeaf (R := rmN (lv + 18) bc bs) (cells := 0) (slots := 0) S hK hA hw ⟨hk_142, hn_142⟩ d_B_atom_142 (fun q_142 H hw => ?_)
      have h := h q_142
      refine lv_dup S.1 S.2.1 d_B_atom_145 rfl ?_
      refine p_op S hE hw.2.2 3 (by decide) rfl k_452 d_B_atom_146 ?_
      refine lv_aload_n S.1 S.2.1 d_B_atom_149 rfl (lv_at hl 1 rfl) ?_
      refine lv_iconst (v := 1) S.1 S.2.1 d_B_atom_150 (by decide) ?_
      refine w_ciF hA hw (w_rvE (rest := [.ref (g.1 3), .ref q_142, .ref q_142]) S hK hE hA hw (c_B_name l (1 : Int32) (ps_at u_1 ((p_at u_1) + (1 : Int32))) _ _ h) (ci := 1) (q0 := 0) rfl rfl (w_cb (fr := 0) (lv := 0) S.2.2.2.2 k_457 k_454 k_1 yd_B_name rfl rfl ⟨by show 8 + 1 ≤ lv + 18; omega, by show 8 + (3 + 11) + 64 * (8) ≤ 64 * (lv + 18); omega⟩) k_456 s_6 rfl hl.1 rfl (Nat.le_of_ble_eq_true rfl) d_B_atom_151 ⟨hk_142, hn_142⟩) (fun r_151 u_151 H locs h hw => ?_)
      refine pm_initLeaf (R := rmN (lv + 18) bc bs) (rest := [.ref q_142]) S hK hE hA  hw (by show 8 ≤ lv + 18; omega) (by show 64 * 8 ≤ 64 * (lv + 18); omega) ⟨hk_142, hn_142⟩ hl.1 (Nat.le_of_ble_eq_true rfl) d_B_atom_154 (fun H locs hw => ?_)
      have hp_154 : TP x g [(q_142, .inr (5, [.ref (g.1 3), .int r_151]))] (tLeaf 3 r_151) q_142 := TP_leaf (by decide) (List.mem_of_getElem? (i := 0) rfl)
      refine W.widen (k := bc) (n := bs) hk_142 hn_142 ?_
      exact w_oretE S hr hlk hp_154 hw h d_B_atom_157
    by_cases q_40_5 : r_1 = (94 : Int32)
    · have h := h.2.2.2.2.2.1 q_40_5
      refine lv_lookup (tgt := 118) (off := 78) S.1 S.2.1 d_B_atom_40 (by decide) (by rw [q_40_5]; rfl) (by decide) ?_
      obtain ⟨hk_118, hn_118, h⟩ := h
      refine pm_newLeaf (R := rmN (lv + 18) bc bs) (cells := 0) (slots := 0) S hK hA hw ⟨hk_118, hn_118⟩ d_B_atom_118 (fun q_118 H hw => ?_)
      have h := h q_118
      refine lv_dup S.1 S.2.1 d_B_atom_121 rfl ?_
      refine p_op S hE hw.2.2 1 (by decide) rfl k_448 d_B_atom_122 ?_
      refine lv_iconst (v := 0) S.1 S.2.1 d_B_atom_125 (by decide) ?_
      refine pm_initLeaf (R := rmN (lv + 18) bc bs) (rest := [.ref q_118]) S hK hE hA  hw (by show 8 ≤ lv + 18; omega) (by show 64 * 8 ≤ 64 * (lv + 18); omega) ⟨hk_118, hn_118⟩ hl.1 (Nat.le_of_ble_eq_true rfl) d_B_atom_126 (fun H locs hw => ?_)
      have hp_126 : TP x g [(q_118, .inr (5, [.ref (g.1 1), .int (0 : Int32)]))] (tLeaf 1 (0 : Int32)) q_118 := TP_leaf (by decide) (List.mem_of_getElem? (i := 0) rfl)
      refine W.widen (k := bc) (n := bs) hk_118 hn_118 ?_
      exact w_oretE S hr hlk hp_126 hw h d_B_atom_129
    have h := h.2.2.2.2.2.2 q_40_0 q_40_1 q_40_2 q_40_3 q_40_4 q_40_5
    have z_0 : r_1.toInt ≠ 36 := fun e9 => q_40_0 (Int32.toInt_inj.mp (by rw [e9]; rfl))
    have z_1 : r_1.toInt ≠ 40 := fun e9 => q_40_1 (Int32.toInt_inj.mp (by rw [e9]; rfl))
    have z_2 : r_1.toInt ≠ 46 := fun e9 => q_40_2 (Int32.toInt_inj.mp (by rw [e9]; rfl))
    have z_3 : r_1.toInt ≠ 91 := fun e9 => q_40_3 (Int32.toInt_inj.mp (by rw [e9]; rfl))
    have z_4 : r_1.toInt ≠ 92 := fun e9 => q_40_4 (Int32.toInt_inj.mp (by rw [e9]; rfl))
    have z_5 : r_1.toInt ≠ 94 := fun e9 => q_40_5 (Int32.toInt_inj.mp (by rw [e9]; rfl))
    refine lv_lookup (tgt := 164) (off := 124) S.1 S.2.1 d_B_atom_40 (by decide) (by simp [Op.lookupswitch.offset, Ne.symm z_0, z_0, Ne.symm z_1, z_1, Ne.symm z_2, z_2, Ne.symm z_3, z_3, Ne.symm z_4, z_4, Ne.symm z_5, z_5]) (by decide) ?_
    refine lv_aload_n S.1 S.2.1 d_B_atom_164 rfl (lv_at hl 1 rfl) ?_
    refine lv_iconst (v := 1) S.1 S.2.1 d_B_atom_165 (by decide) ?_
    refine pp_wrong S hK hw isB1 d_B_atom_166 (fun H locs hw => ?_)
    refine lv_null S.1 S.2.1 d_B_atom_169 ?_
    refine W.widen (k := bc) (n := bs) (Nat.zero_le _) (Nat.zero_le _) ?_
    exact w_nretE S hr hlk hw h d_B_atom_170
  · have h := h.2 q_19
    obtain ⟨hk_22, hn_22, h⟩ := h
    refine pm_newLeaf (R := rmN (lv + 18) bc bs) (cells := 0) (slots := 0) S hK hA hw ⟨hk_22, hn_22⟩ d_B_atom_22 (fun q_22 H hw => ?_)
    have h := h q_22
    refine lv_dup S.1 S.2.1 d_B_atom_25 rfl ?_
    refine p_op S hE hw.2.2 0 (by decide) rfl k_423 d_B_atom_26 ?_
    refine lv_iconst (v := 1) S.1 S.2.1 d_B_atom_29 (by decide) ?_
    refine lv_iload_n S.1 S.2.1 d_B_atom_30 rfl (lv_at hl 0 rfl) ?_
    refine lv_bipush (v := 97) S.1 S.2.1 d_B_atom_31 (by decide) ?_
    refine lv_isub S.1 S.2.1 d_B_atom_33 ?_
    refine lv_ishl S.1 S.2.1 d_B_atom_34 ?_
    refine pm_initLeaf (R := rmN (lv + 18) bc bs) (rest := [.ref q_22]) S hK hE hA  hw (by show 8 ≤ lv + 18; omega) (by show 64 * 8 ≤ 64 * (lv + 18); omega) ⟨hk_22, hn_22⟩ hl.1 (Nat.le_of_ble_eq_true rfl) d_B_atom_35 (fun H locs hw => ?_)
    have hp_35 : TP x g [(q_22, .inr (5, [.ref (g.1 0), .int ((1 : Int32) <<< ((r_1 - (97 : Int32)) &&& 31))]))] (tLeaf 0 ((1 : Int32) <<< ((r_1 - (97 : Int32)) &&& 31))) q_22 := TP_leaf (by decide) (List.mem_of_getElem? (i := 0) rfl)
    refine W.widen (k := bc) (n := bs) hk_22 hn_22 ?_
    exact w_oretE S hr hlk hp_35 hw h d_B_atom_38
end PW
abbrev b_B_row : ByteArray := prog_1_method_9_code
def y_B_row : MethodName := ⟨"PatternBench", "row", "(I)LPatternBench$Part;"⟩
theorem yd_B_row : y_B_row.cls ≠ "java/lang/invoke/MethodHandle" ∧ y_B_row.cls ≠ "java/lang/invoke/VarHandle" ∧ (parseMethodDescriptor y_B_row.desc).map (fun d => d.parameters.length) = some 1 := by decide +kernel
theorem d_B_row_0 : decode b_B_row 0 = .ok (.new 81, 3) := by decide +kernel
theorem d_B_row_3 : decode b_B_row 3 = .ok (.dup, 1) := by decide +kernel
theorem d_B_row_4 : decode b_B_row 4 = .ok (.invokespecial 83, 3) := by decide +kernel
theorem d_B_row_7 : decode b_B_row 7 = .ok (.astore_n 2, 1) := by decide +kernel
theorem d_B_row_8 : decode b_B_row 8 = .ok (.aload_n 0, 1) := by decide +kernel
theorem d_B_row_9 : decode b_B_row 9 = .ok (.getfield 77, 3) := by decide +kernel
theorem d_B_row_12 : decode b_B_row 12 = .ok (.ifCond .ne 51, 3) := by decide +kernel
theorem d_B_row_15 : decode b_B_row 15 = .ok (.aload_n 0, 1) := by decide +kernel
theorem d_B_row_16 : decode b_B_row 16 = .ok (.invokevirtual 69, 3) := by decide +kernel
theorem d_B_row_19 : decode b_B_row 19 = .ok (.ifCond .eq 44, 3) := by decide +kernel
theorem d_B_row_22 : decode b_B_row 22 = .ok (.aload_n 0, 1) := by decide +kernel
theorem d_B_row_23 : decode b_B_row 23 = .ok (.invokevirtual 69, 3) := by decide +kernel
theorem d_B_row_26 : decode b_B_row 26 = .ok (.bipush 124, 2) := by decide +kernel
theorem d_B_row_28 : decode b_B_row 28 = .ok (.if_icmp .eq 35, 3) := by decide +kernel
theorem d_B_row_31 : decode b_B_row 31 = .ok (.aload_n 0, 1) := by decide +kernel
theorem d_B_row_32 : decode b_B_row 32 = .ok (.invokevirtual 69, 3) := by decide +kernel
theorem d_B_row_35 : decode b_B_row 35 = .ok (.bipush 41, 2) := by decide +kernel
theorem d_B_row_37 : decode b_B_row 37 = .ok (.if_icmp .eq 26, 3) := by decide +kernel
theorem d_B_row_40 : decode b_B_row 40 = .ok (.aload_n 0, 1) := by decide +kernel
theorem d_B_row_41 : decode b_B_row 41 = .ok (.iload_n 1, 1) := by decide +kernel
theorem d_B_row_42 : decode b_B_row 42 = .ok (.invokevirtual 104, 3) := by decide +kernel
theorem d_B_row_45 : decode b_B_row 45 = .ok (.astore_n 3, 1) := by decide +kernel
theorem d_B_row_46 : decode b_B_row 46 = .ok (.aload_n 3, 1) := by decide +kernel
theorem d_B_row_47 : decode b_B_row 47 = .ok (.ifnull 13, 3) := by decide +kernel
theorem d_B_row_50 : decode b_B_row 50 = .ok (.aload_n 2, 1) := by decide +kernel
theorem d_B_row_51 : decode b_B_row 51 = .ok (.aload_n 0, 1) := by decide +kernel
theorem d_B_row_52 : decode b_B_row 52 = .ok (.aload_n 3, 1) := by decide +kernel
theorem d_B_row_53 : decode b_B_row 53 = .ok (.invokevirtual 107, 3) := by decide +kernel
theorem d_B_row_56 : decode b_B_row 56 = .ok (.invokevirtual 88, 3) := by decide +kernel
theorem d_B_row_59 : decode b_B_row 59 = .ok (.pop, 1) := by decide +kernel
theorem d_B_row_60 : decode b_B_row 60 = .ok (.goto (-52), 3) := by decide +kernel
theorem d_B_row_63 : decode b_B_row 63 = .ok (.new 111, 3) := by decide +kernel
theorem d_B_row_66 : decode b_B_row 66 = .ok (.dup, 1) := by decide +kernel
theorem d_B_row_67 : decode b_B_row 67 = .ok (.aload_n 2, 1) := by decide +kernel
theorem d_B_row_68 : decode b_B_row 68 = .ok (.invokespecial 113, 3) := by decide +kernel
theorem d_B_row_71 : decode b_B_row 71 = .ok (.areturn, 1) := by decide +kernel
def B_B_row_63 (Kc : Nat → Nat → Int32 → PS → (PT → PS → Prop) → Prop) (Qc : PT → PS → Prop) (bc bs : Nat)  (k n0 : Nat) (b0 : Nat) (L0 : List PT) (u : PS) : Prop := (k + 1 ≤ bc ∧ n0 + 1 ≤ bs ∧ ∀ q_63 : Nat, Qc (tRow L0) u)
def B_B_row_60 (Kc : Nat → Nat → Int32 → PS → (PT → PS → Prop) → Prop) (Qc : PT → PS → Prop) (bc bs : Nat) (K8 : Nat → Nat → Nat → (List PT) → Int32 → PS → Prop) (k n0 : Nat) (b0 : Nat) (L0 : List PT) (x1 : Int32) (u : PS) : Prop := K8 k n0 b0 L0 x1 u
def L_B_row_8 (Kc : Nat → Nat → Int32 → PS → (PT → PS → Prop) → Prop) (Qc : PT → PS → Prop) (bc bs : Nat)  : Nat → Nat → Nat → Nat → (List PT) → Int32 → PS → Prop
  | 0, _, _, _, _, _, _ => False
  | n + 1, k, n0, b0, L0, x1, u => (((p_wrong u) = (0 : Int32) → P_B_here  u (fun r_16 u_16 => ((r_16 = (0 : Int32) → B_B_row_63 Kc Qc bc bs  k n0 b0 L0 u_16) ∧ (¬ r_16 = (0 : Int32) → P_B_here  u_16 (fun r_23 u_23 => ((r_23 = (124 : Int32) → B_B_row_63 Kc Qc bc bs  k n0 b0 L0 u_23) ∧ (¬ r_23 = (124 : Int32) → P_B_here  u_23 (fun r_32 u_32 => ((r_32 = (41 : Int32) → B_B_row_63 Kc Qc bc bs  k n0 b0 L0 u_32) ∧ (¬ r_32 = (41 : Int32) → (∃ kc_42 nc_42 : Nat, k + kc_42 ≤ bc ∧ n0 + nc_42 ≤ bs ∧ P_B_atom Kc kc_42 nc_42 x1 u_32 (fun T_42 u_42 => ((T_42 = none → B_B_row_60 Kc Qc bc bs (L_B_row_8 Kc Qc bc bs  n) (k + kc_42) (n0 + nc_42) b0 L0 x1 u_42) ∧ (∀ T_429 : PT, T_42 = some T_429 → ∀ r_42 : Nat, (∃ kc_53 nc_53 : Nat, (k + kc_42) + kc_53 ≤ bc ∧ (n0 + nc_42) + nc_53 ≤ bs ∧ P_B_repeated kc_53 nc_53 T_429 r_42 u_42 (fun T_53 u_53 => ∀ r_53 : Nat, (L0.length ≤ 32 ∧ ((k + kc_42) + kc_53) + 1 ≤ bc ∧ ((n0 + nc_42) + nc_53) + 33 ≤ bs ∧ ∀ r_56 : Int32, B_B_row_60 Kc Qc bc bs (L_B_row_8 Kc Qc bc bs  n) (((k + kc_42) + kc_53) + 1) (((n0 + nc_42) + nc_53) + 33) b0 (L0 ++ [T_53]) x1 u_53))))))))))))))))) ∧ (¬ (p_wrong u) = (0 : Int32) → B_B_row_63 Kc Qc bc bs  k n0 b0 L0 u))
def P_B_row (Kc : Nat → Nat → Int32 → PS → (PT → PS → Prop) → Prop) (bc bs : Nat) (x1 : Int32) (u : PS) (Qc : PT → PS → Prop) : Prop := (0 + 1 ≤ bc ∧ 0 + 3 ≤ bs ∧ ∀ b_0 : Nat, ∃ n, L_B_row_8 Kc Qc bc bs  n (0 + 1) (0 + 3) b_0 ([] : List PT) x1 u)
section PW
variable {p : Program} {l : Launch} {e : Env} {s : State} {m : MethodId} {args : Array Value} {below : List Frame} {meth : Method} {c : Code} {x : GX} {g : GE} {ex : va_W} {a : Nat → Nat} {A : Nat → Prop} {o : Nat}
set_option maxHeartbeats 8000000 in
set_option maxRecDepth 20000 in
theorem wB_B_row_63 {Kc : Nat → Nat → Int32 → PS → (PT → PS → Prop) → Prop} (lv : Nat) (ihc : ∀ (bc bs : Nat) (x1 : Int32) (u : PS) (Qc : PT → PS → Prop) (sz : Nat) (ex : va_W) (a : Nat → Nat), Kc bc bs x1 u Qc → Met l y_B_choice (wM y_B_choice b_B_choice 3 (some (.object "PatternBench$Part"))) (rmN (lv + 16) bc bs) (PreE x g (pcl x g o) ex [.ref o, .int x1] a u sz) (QeP x g (pcl x g o) ex (va_A (pcl x g o a u ++ ex) sz) Qc) bc bs (va_A (pcl x g o a u ++ ex) sz)) (S : CallFix p m c b_B_row 4 s args lw_tg "PatternBench") (hr : meth.sig.returnType = some (.object "PatternBench$Part")) (hlk : meth.locks = false) (hK : GK x s) (hE : EN g A s s.heap) (hA : ∀ q : Nat, s.heap.size ≤ q → A q) {Qc : PT → PS → Prop} {bc bs : Nat}  : ∀ (k n0 : Nat) (hk : k ≤ bc) (hn : n0 ≤ bs) (b0 : Nat) (L0 : List PT) (u : PS) (a : Nat → Nat) (f0 : va_W) (hp0 : ALp x g f0 b0 L0) (ls : Array Slot) (H : Heap) (locs : List Loc), lv_has ls 4 [(2, .ref b0)] → wd x A s.heap (pcl x g o a u ++ (f0 ++ ex)) H locs → B_B_row_63 Kc Qc bc bs  k n0 b0 L0 u → W p l e (rmN (lv + 19) bc bs) s m args below meth c H locs k n0 (MQ below (QeP x g (pcl x g o) ex A Qc) args s bc bs A) (F0 m 63 ls []) := by
  intro k n0 hk hn b0 L0 u a f0 hp0 ls H locs hl hw h
  obtain ⟨hk_63, hn_63, h⟩ := h
  refine pm_newRow (R := rmN (lv + 19) bc bs) (cells := k) (slots := n0) S hK hA hw ⟨hk_63, hn_63⟩ d_B_row_63 (fun q_63 H hw => ?_)
  have h := h q_63
  refine lv_dup S.1 S.2.1 d_B_row_66 rfl ?_
  refine lv_aload_n S.1 S.2.1 d_B_row_67 rfl (lv_at hl 0 rfl) ?_
  refine pm_initRow (R := rmN (lv + 19) bc bs) (rest := [.ref q_63]) S hK hE hA  hw (by show 8 ≤ lv + 19; omega) (by show 64 * 8 ≤ 64 * (lv + 19); omega) ⟨hk_63, hn_63⟩ hl.1 (Nat.le_of_ble_eq_true rfl) d_B_row_68 (fun H locs hw => ?_)
  have hp_68 : TP x g ((q_63, .inr (6, [.ref b0])) :: f0) (tRow L0) q_63 := TP_list (K := 1) (Or.inl rfl) hp0 (fun q9 h9 => List.mem_cons_of_mem _ h9) List.mem_cons_self
  refine W.widen (k := bc) (n := bs) hk_63 hn_63 ?_
  exact w_pretE S hr hlk hp_68 hw h d_B_row_71
set_option maxHeartbeats 8000000 in
set_option maxRecDepth 20000 in
theorem wB_B_row_60 {Kc : Nat → Nat → Int32 → PS → (PT → PS → Prop) → Prop} (lv : Nat) (ihc : ∀ (bc bs : Nat) (x1 : Int32) (u : PS) (Qc : PT → PS → Prop) (sz : Nat) (ex : va_W) (a : Nat → Nat), Kc bc bs x1 u Qc → Met l y_B_choice (wM y_B_choice b_B_choice 3 (some (.object "PatternBench$Part"))) (rmN (lv + 16) bc bs) (PreE x g (pcl x g o) ex [.ref o, .int x1] a u sz) (QeP x g (pcl x g o) ex (va_A (pcl x g o a u ++ ex) sz) Qc) bc bs (va_A (pcl x g o a u ++ ex) sz)) (S : CallFix p m c b_B_row 4 s args lw_tg "PatternBench") (hr : meth.sig.returnType = some (.object "PatternBench$Part")) (hlk : meth.locks = false) (hK : GK x s) (hE : EN g A s s.heap) (hA : ∀ q : Nat, s.heap.size ≤ q → A q) {Qc : PT → PS → Prop} {bc bs : Nat}  {K8 : Nat → Nat → Nat → (List PT) → Int32 → PS → Prop} (ih8 : ∀ (k n0 : Nat) (hk : k ≤ bc) (hn : n0 ≤ bs) (b0 : Nat) (L0 : List PT) (x1 : Int32) (u : PS) (a : Nat → Nat) (f0 : va_W) (hp0 : ALp x g f0 b0 L0) (ls : Array Slot) (H : Heap) (locs : List Loc), lv_has ls 4 [(0, .ref o), (1, .int x1), (2, .ref b0)] → wd x A s.heap (pcl x g o a u ++ (f0 ++ ex)) H locs → K8 k n0 b0 L0 x1 u → W p l e (rmN (lv + 19) bc bs) s m args below meth c H locs k n0 (MQ below (QeP x g (pcl x g o) ex A Qc) args s bc bs A) (F0 m 8 ls [])) : ∀ (k n0 : Nat) (hk : k ≤ bc) (hn : n0 ≤ bs) (b0 : Nat) (L0 : List PT) (x1 : Int32) (u : PS) (a : Nat → Nat) (f0 : va_W) (hp0 : ALp x g f0 b0 L0) (ls : Array Slot) (H : Heap) (locs : List Loc), lv_has ls 4 [(0, .ref o), (1, .int x1), (2, .ref b0)] → wd x A s.heap (pcl x g o a u ++ (f0 ++ ex)) H locs → B_B_row_60 Kc Qc bc bs K8 k n0 b0 L0 x1 u → W p l e (rmN (lv + 19) bc bs) s m args below meth c H locs k n0 (MQ below (QeP x g (pcl x g o) ex A Qc) args s bc bs A) (F0 m 60 ls []) := by
  intro k n0 hk hn b0 L0 x1 u a f0 hp0 ls H locs hl hw h
  refine lv_goto (tgt := 8) S.1 S.2.1 d_B_row_60 (by decide) ?_
  exact ih8 k n0 hk hn b0 L0 x1 u a f0 hp0 _ _ _ (lv_sub hl [0, 1, 2] rfl) hw h
set_option maxHeartbeats 8000000 in
set_option maxRecDepth 20000 in
theorem wL_B_row_8 {Kc : Nat → Nat → Int32 → PS → (PT → PS → Prop) → Prop} (lv : Nat) (ihc : ∀ (bc bs : Nat) (x1 : Int32) (u : PS) (Qc : PT → PS → Prop) (sz : Nat) (ex : va_W) (a : Nat → Nat), Kc bc bs x1 u Qc → Met l y_B_choice (wM y_B_choice b_B_choice 3 (some (.object "PatternBench$Part"))) (rmN (lv + 16) bc bs) (PreE x g (pcl x g o) ex [.ref o, .int x1] a u sz) (QeP x g (pcl x g o) ex (va_A (pcl x g o a u ++ ex) sz) Qc) bc bs (va_A (pcl x g o a u ++ ex) sz)) (S : CallFix p m c b_B_row 4 s args lw_tg "PatternBench") (hr : meth.sig.returnType = some (.object "PatternBench$Part")) (hlk : meth.locks = false) (hK : GK x s) (hE : EN g A s s.heap) (hA : ∀ q : Nat, s.heap.size ≤ q → A q) {Qc : PT → PS → Prop} {bc bs : Nat}  : ∀ (n : Nat) (k n0 : Nat) (hk : k ≤ bc) (hn : n0 ≤ bs) (b0 : Nat) (L0 : List PT) (x1 : Int32) (u : PS) (a : Nat → Nat) (f0 : va_W) (hp0 : ALp x g f0 b0 L0) (ls : Array Slot) (H : Heap) (locs : List Loc), lv_has ls 4 [(0, .ref o), (1, .int x1), (2, .ref b0)] → wd x A s.heap (pcl x g o a u ++ (f0 ++ ex)) H locs → L_B_row_8 Kc Qc bc bs  n k n0 b0 L0 x1 u → W p l e (rmN (lv + 19) bc bs) s m args below meth c H locs k n0 (MQ below (QeP x g (pcl x g o) ex A Qc) args s bc bs A) (F0 m 8 ls []) := by
  intro n
  induction n with
  | zero =>
    intro k n0 hk hn b0 L0 x1 u a f0 hp0 ls H locs hl hw h
    exact absurd h id
  | succ n ih =>
    intro k n0 hk hn b0 L0 x1 u a f0 hp0 ls H locs hl hw h
    refine lv_aload_n S.1 S.2.1 d_B_row_8 rfl (lv_at hl 0 rfl) ?_
    refine pg_wrong S hK hw d_B_row_9 ?_
    refine lv_if_ne (tgt := 63) S.1 S.2.1 d_B_row_12 (by decide) (fun q_12 => ?_) (fun q_12 => ?_)
    · have h := h.2 q_12
      exact wB_B_row_63 lv ihc S hr hlk hK hE hA  k n0 hk hn b0 L0 u a f0 hp0 _ _ _ (lv_sub hl [2] rfl) hw h
    · have h := h.1 q_12
      refine lv_aload_n S.1 S.2.1 d_B_row_15 rfl (lv_at hl 0 rfl) ?_
      refine w_ciF hA hw (w_rvE (rest := []) S hK hE hA hw (c_B_here l  u _ _ h) (ci := 1) (q0 := 0) rfl rfl (w_cb (fr := 0) (lv := 0) S.2.2.2.2 k_403 k_400 k_1 yd_B_here rfl rfl ⟨by show 6 + 1 ≤ lv + 19; omega, by show 8 + (1 + 11) + 64 * (6) ≤ 64 * (lv + 19); omega⟩) k_402 s_2 rfl hl.1 rfl (Nat.le_of_ble_eq_true rfl) d_B_row_16 ⟨hk, hn⟩) (fun r_16 u_16 H locs h hw => ?_)
      refine lv_if_eq (tgt := 63) S.1 S.2.1 d_B_row_19 (by decide) (fun q_19 => ?_) (fun q_19 => ?_)
      · have h := h.1 q_19
        exact wB_B_row_63 lv ihc S hr hlk hK hE hA  k n0 hk hn b0 L0 u_16 a f0 hp0 _ _ _ (lv_sub hl [2] rfl) hw h
      · have h := h.2 q_19
        refine lv_aload_n S.1 S.2.1 d_B_row_22 rfl (lv_at hl 0 rfl) ?_
        refine w_ciF hA hw (w_rvE (rest := []) S hK hE hA hw (c_B_here l  u_16 _ _ h) (ci := 1) (q0 := 0) rfl rfl (w_cb (fr := 0) (lv := 0) S.2.2.2.2 k_403 k_400 k_1 yd_B_here rfl rfl ⟨by show 6 + 1 ≤ lv + 19; omega, by show 8 + (1 + 11) + 64 * (6) ≤ 64 * (lv + 19); omega⟩) k_402 s_2 rfl hl.1 rfl (Nat.le_of_ble_eq_true rfl) d_B_row_23 ⟨hk, hn⟩) (fun r_23 u_23 H locs h hw => ?_)
        refine lv_bipush (v := 124) S.1 S.2.1 d_B_row_26 (by decide) ?_
        refine lv_icmp_eq (tgt := 63) S.1 S.2.1 d_B_row_28 (by decide) (fun q_28 => ?_) (fun q_28 => ?_)
        · have h := h.1 q_28
          exact wB_B_row_63 lv ihc S hr hlk hK hE hA  k n0 hk hn b0 L0 u_23 a f0 hp0 _ _ _ (lv_sub hl [2] rfl) hw h
        · have h := h.2 q_28
          refine lv_aload_n S.1 S.2.1 d_B_row_31 rfl (lv_at hl 0 rfl) ?_
          refine w_ciF hA hw (w_rvE (rest := []) S hK hE hA hw (c_B_here l  u_23 _ _ h) (ci := 1) (q0 := 0) rfl rfl (w_cb (fr := 0) (lv := 0) S.2.2.2.2 k_403 k_400 k_1 yd_B_here rfl rfl ⟨by show 6 + 1 ≤ lv + 19; omega, by show 8 + (1 + 11) + 64 * (6) ≤ 64 * (lv + 19); omega⟩) k_402 s_2 rfl hl.1 rfl (Nat.le_of_ble_eq_true rfl) d_B_row_32 ⟨hk, hn⟩) (fun r_32 u_32 H locs h hw => ?_)
          refine lv_bipush (v := 41) S.1 S.2.1 d_B_row_35 (by decide) ?_
          refine lv_icmp_eq (tgt := 63) S.1 S.2.1 d_B_row_37 (by decide) (fun q_37 => ?_) (fun q_37 => ?_)
          · have h := h.1 q_37
            exact wB_B_row_63 lv ihc S hr hlk hK hE hA  k n0 hk hn b0 L0 u_32 a f0 hp0 _ _ _ (lv_sub hl [2] rfl) hw h
          · have h := h.2 q_37
            refine lv_aload_n S.1 S.2.1 d_B_row_40 rfl (lv_at hl 0 rfl) ?_
            refine lv_iload_n S.1 S.2.1 d_B_row_41 rfl (lv_at hl 1 rfl) ?_
            obtain ⟨kc_42, nc_42, hk_42, hn_42, h⟩ := h
            refine w_coE hA hw (w_rvE (rest := []) S hK hE hA hw (c_B_atom lv ihc kc_42 nc_42 x1 u_32 _ _ h) (ci := 1) (q0 := 0) rfl rfl (w_cb (fr := 0) (lv := 0) S.2.2.2.2 k_417 k_414 k_1 yd_B_atom rfl rfl ⟨by show (lv + 18) + 1 ≤ lv + 19; omega, by show 8 + (3 + 11) + 64 * ((lv + 18)) ≤ 64 * (lv + 19); omega⟩) k_416 s_3 rfl hl.1 rfl (Nat.le_of_ble_eq_true rfl) d_B_row_42 ⟨hk_42, hn_42⟩) (fun u_42 a_42 H locs h hw => ?_) (fun T_42 u_42 r_42 f_42 a_42 H locs h hp_42 hw => ?_)
            · have h := h.1 rfl
              refine lv_astore_nN (lv' := [(3, .null), (0, .ref o), (1, .int x1), (2, .ref b0)]) S.1 S.2.1 d_B_row_45 rfl hl (by decide) rfl (fun ls hl => ?_)
              refine lv_aload_nN S.1 S.2.1 d_B_row_46 rfl (lv_at hl 0 rfl) ?_
              refine lv_ifnullN (tgt := 60) S.1 S.2.1 d_B_row_47 (by decide) ?_
              exact wB_B_row_60 lv ihc S hr hlk hK hE hA ih (k + kc_42) (n0 + nc_42) hk_42 hn_42 b0 L0 x1 u_42 a_42 f0 hp0 _ _ _ (lv_sub hl [1, 2, 3] rfl) hw h
            · have h := h.2 T_42 rfl r_42
              refine lv_astore_n (lv' := [(3, .ref r_42), (0, .ref o), (1, .int x1), (2, .ref b0)]) S.1 S.2.1 d_B_row_45 rfl hl (by decide) rfl (fun ls hl => ?_)
              refine lv_aload_n S.1 S.2.1 d_B_row_46 rfl (lv_at hl 0 rfl) ?_
              refine lv_ifnull S.1 S.2.1 d_B_row_47 ?_
              refine lv_aload_n S.1 S.2.1 d_B_row_50 rfl (lv_at hl 3 rfl) ?_
              refine lv_aload_n S.1 S.2.1 d_B_row_51 rfl (lv_at hl 1 rfl) ?_
              refine lv_aload_n S.1 S.2.1 d_B_row_52 rfl (lv_at hl 0 rfl) ?_
              obtain ⟨kc_53, nc_53, hk_53, hn_53, h⟩ := h
              refine w_cpE hA hw (w_rvE (rest := [.ref b0]) S hK hE hA hw (c_B_repeated kc_53 nc_53 T_42 r_42 hp_42 u_42 _ _ h) (ci := 1) (q0 := 0) rfl rfl (w_cb (fr := 0) (lv := 0) S.2.2.2.2 k_491 k_488 k_1 yd_B_repeated rfl rfl ⟨by show 9 + 1 ≤ lv + 19; omega, by show 8 + (5 + 11) + 64 * (9) ≤ 64 * (lv + 19); omega⟩) k_490 s_10 rfl hl.1 rfl (Nat.le_of_ble_eq_true rfl) d_B_row_53 ⟨hk_53, hn_53⟩) (fun T_53 u_53 r_53 f_53 a_53 H locs h hp_53 hw => ?_)
              have h := h r_53
              obtain ⟨hg_56, hk_56, hn_56, h⟩ := h
              refine pm_add (R := rmN (lv + 19) bc bs) (cells := ((k + kc_42) + kc_53)) (slots := ((n0 + nc_42) + nc_53)) S hK hE hA hp0 hp_53 hg_56 hw (by show 8 ≤ lv + 19; omega) (by show 64 * 8 ≤ 64 * (lv + 19); omega) ⟨hk_56, hn_56⟩ hl.1 d_B_row_56 (fun r_56 f_56 H locs hp_56 hw => ?_)
              have h := h r_56
              refine lv_pop S.1 S.2.1 d_B_row_59 rfl ?_
              exact wB_B_row_60 lv ihc S hr hlk hK hE hA ih (((k + kc_42) + kc_53) + 1) (((n0 + nc_42) + nc_53) + 33) hk_56 hn_56 b0 (L0 ++ [T_53]) x1 u_53 a_53 f_56 hp_56 _ _ _ (lv_sub hl [1, 2, 3] rfl) hw h
set_option maxHeartbeats 8000000 in
set_option maxRecDepth 20000 in
theorem c_B_row {x : GX} {g : GE} {o : Nat} {ex : va_W} {a : Nat → Nat} {l : Launch} {Kc : Nat → Nat → Int32 → PS → (PT → PS → Prop) → Prop} (lv : Nat) (ihc : ∀ (bc bs : Nat) (x1 : Int32) (u : PS) (Qc : PT → PS → Prop) (sz : Nat) (ex : va_W) (a : Nat → Nat), Kc bc bs x1 u Qc → Met l y_B_choice (wM y_B_choice b_B_choice 3 (some (.object "PatternBench$Part"))) (rmN (lv + 16) bc bs) (PreE x g (pcl x g o) ex [.ref o, .int x1] a u sz) (QeP x g (pcl x g o) ex (va_A (pcl x g o a u ++ ex) sz) Qc) bc bs (va_A (pcl x g o a u ++ ex) sz)) (bc bs : Nat) (x1 : Int32) (u : PS) (sz : Nat) (Qc : PT → PS → Prop) (h : P_B_row Kc bc bs x1 u Qc) : Met l y_B_row (wM y_B_row b_B_row 4 (some (.object "PatternBench$Part"))) (rmN (lv + 19) bc bs) (PreE x g (pcl x g o) ex [.ref o, .int x1] a u sz) (QeP x g (pcl x g o) ex (va_A (pcl x g o a u ++ ex) sz) Qc) bc bs (va_A (pcl x g o a u ++ ex) sz) := by
  refine w_enterE (by decide +kernel) (Nat.le_of_ble_eq_true rfl) (fun p e s m args below meth c S hr hlk hnm hK hE hA hw ls hl => ?_)
  have hl : lv_has ls 4 [(0, .ref o), (1, .int x1)] := hl
  obtain ⟨hk_0, hn_0, h⟩ := h
  refine pm_newAL (R := rmN (lv + 19) bc bs) (cells := 0) (slots := 0) S hK hE hA hw (by show 8 ≤ lv + 19; omega) (by show 64 * 8 ≤ 64 * (lv + 19); omega) ⟨hk_0, hn_0⟩ hl.1 d_B_row_0 d_B_row_3 d_B_row_4 (fun b_0 f_0 H locs hp_0 hw => ?_)
  have h := h b_0
  refine lv_astore_n (lv' := [(2, .ref b_0), (0, .ref o), (1, .int x1)]) S.1 S.2.1 d_B_row_7 rfl hl (by decide) rfl (fun ls hl => ?_)
  obtain ⟨n9, h⟩ := h
  exact wL_B_row_8 lv ihc S hr hlk hK hE hA  n9 (0 + 1) (0 + 3) hk_0 hn_0 b_0 ([] : List PT) x1 u a f_0 hp_0 _ _ _ (lv_sub hl [1, 2, 0] rfl) hw h
end PW
theorem d_B_choice_0 : decode b_B_choice 0 = .ok (.new 81, 3) := by decide +kernel
theorem d_B_choice_3 : decode b_B_choice 3 = .ok (.dup, 1) := by decide +kernel
theorem d_B_choice_4 : decode b_B_choice 4 = .ok (.invokespecial 83, 3) := by decide +kernel
theorem d_B_choice_7 : decode b_B_choice 7 = .ok (.astore_n 2, 1) := by decide +kernel
theorem d_B_choice_8 : decode b_B_choice 8 = .ok (.aload_n 2, 1) := by decide +kernel
theorem d_B_choice_9 : decode b_B_choice 9 = .ok (.aload_n 0, 1) := by decide +kernel
theorem d_B_choice_10 : decode b_B_choice 10 = .ok (.iload_n 1, 1) := by decide +kernel
theorem d_B_choice_11 : decode b_B_choice 11 = .ok (.invokevirtual 84, 3) := by decide +kernel
theorem d_B_choice_14 : decode b_B_choice 14 = .ok (.invokevirtual 88, 3) := by decide +kernel
theorem d_B_choice_17 : decode b_B_choice 17 = .ok (.pop, 1) := by decide +kernel
theorem d_B_choice_18 : decode b_B_choice 18 = .ok (.aload_n 0, 1) := by decide +kernel
theorem d_B_choice_19 : decode b_B_choice 19 = .ok (.getfield 77, 3) := by decide +kernel
theorem d_B_choice_22 : decode b_B_choice 22 = .ok (.ifCond .ne 25, 3) := by decide +kernel
theorem d_B_choice_25 : decode b_B_choice 25 = .ok (.aload_n 0, 1) := by decide +kernel
theorem d_B_choice_26 : decode b_B_choice 26 = .ok (.bipush 124, 2) := by decide +kernel
theorem d_B_choice_28 : decode b_B_choice 28 = .ok (.invokevirtual 73, 3) := by decide +kernel
theorem d_B_choice_31 : decode b_B_choice 31 = .ok (.ifCond .eq 16, 3) := by decide +kernel
theorem d_B_choice_34 : decode b_B_choice 34 = .ok (.aload_n 2, 1) := by decide +kernel
theorem d_B_choice_35 : decode b_B_choice 35 = .ok (.aload_n 0, 1) := by decide +kernel
theorem d_B_choice_36 : decode b_B_choice 36 = .ok (.iload_n 1, 1) := by decide +kernel
theorem d_B_choice_37 : decode b_B_choice 37 = .ok (.invokevirtual 84, 3) := by decide +kernel
theorem d_B_choice_40 : decode b_B_choice 40 = .ok (.invokevirtual 88, 3) := by decide +kernel
theorem d_B_choice_43 : decode b_B_choice 43 = .ok (.pop, 1) := by decide +kernel
theorem d_B_choice_44 : decode b_B_choice 44 = .ok (.goto (-26), 3) := by decide +kernel
theorem d_B_choice_47 : decode b_B_choice 47 = .ok (.aload_n 2, 1) := by decide +kernel
theorem d_B_choice_48 : decode b_B_choice 48 = .ok (.invokevirtual 92, 3) := by decide +kernel
theorem d_B_choice_51 : decode b_B_choice 51 = .ok (.iconst 1, 1) := by decide +kernel
theorem d_B_choice_52 : decode b_B_choice 52 = .ok (.if_icmp .ne 14, 3) := by decide +kernel
theorem d_B_choice_55 : decode b_B_choice 55 = .ok (.aload_n 2, 1) := by decide +kernel
theorem d_B_choice_56 : decode b_B_choice 56 = .ok (.iconst 0, 1) := by decide +kernel
theorem d_B_choice_57 : decode b_B_choice 57 = .ok (.invokevirtual 95, 3) := by decide +kernel
theorem d_B_choice_60 : decode b_B_choice 60 = .ok (.checkcast 26, 3) := by decide +kernel
theorem d_B_choice_63 : decode b_B_choice 63 = .ok (.goto 11, 3) := by decide +kernel
theorem d_B_choice_66 : decode b_B_choice 66 = .ok (.new 99, 3) := by decide +kernel
theorem d_B_choice_69 : decode b_B_choice 69 = .ok (.dup, 1) := by decide +kernel
theorem d_B_choice_70 : decode b_B_choice 70 = .ok (.aload_n 2, 1) := by decide +kernel
theorem d_B_choice_71 : decode b_B_choice 71 = .ok (.invokespecial 101, 3) := by decide +kernel
theorem d_B_choice_74 : decode b_B_choice 74 = .ok (.areturn, 1) := by decide +kernel
def B_B_choice_47 (Kc : Nat → Nat → Int32 → PS → (PT → PS → Prop) → Prop) (Qc : PT → PS → Prop) (bc bs : Nat)  (k n0 : Nat) (b0 : Nat) (L0 : List PT) (u : PS) : Prop := (((nI L0.length) = (1 : Int32) → (∃ (T_57 : PT) (L_57 : List PT), L0 = T_57 :: L_57 ∧ ∀ r_57 : Nat, Qc T_57 u)) ∧ (¬ (nI L0.length) = (1 : Int32) → (k + 1 ≤ bc ∧ n0 + 1 ≤ bs ∧ ∀ q_66 : Nat, Qc (tCho L0) u)))
def L_B_choice_18 (Kc : Nat → Nat → Int32 → PS → (PT → PS → Prop) → Prop) (Qc : PT → PS → Prop) (bc bs : Nat)  : Nat → Nat → Nat → Nat → (List PT) → Int32 → PS → Prop
  | 0, _, _, _, _, _, _ => False
  | n + 1, k, n0, b0, L0, x1, u => (((p_wrong u) = (0 : Int32) → P_B_skip (124 : Int32) u (fun r_28 u_28 => ((r_28 = (0 : Int32) → B_B_choice_47 Kc Qc bc bs  k n0 b0 L0 u_28) ∧ (¬ r_28 = (0 : Int32) → (∃ kc_37 nc_37 : Nat, k + kc_37 ≤ bc ∧ n0 + nc_37 ≤ bs ∧ P_B_row Kc kc_37 nc_37 x1 u_28 (fun T_37 u_37 => ∀ r_37 : Nat, (L0.length ≤ 32 ∧ (k + kc_37) + 1 ≤ bc ∧ (n0 + nc_37) + 33 ≤ bs ∧ ∀ r_40 : Int32, (L_B_choice_18 Kc Qc bc bs  n) ((k + kc_37) + 1) ((n0 + nc_37) + 33) b0 (L0 ++ [T_37]) x1 u_37))))))) ∧ (¬ (p_wrong u) = (0 : Int32) → B_B_choice_47 Kc Qc bc bs  k n0 b0 L0 u))
def P_B_chstep (Kc : Nat → Nat → Int32 → PS → (PT → PS → Prop) → Prop) (bc bs : Nat) (x1 : Int32) (u : PS) (Qc : PT → PS → Prop) : Prop := (0 + 1 ≤ bc ∧ 0 + 3 ≤ bs ∧ ∀ b_0 : Nat, (∃ kc_11 nc_11 : Nat, (0 + 1) + kc_11 ≤ bc ∧ (0 + 3) + nc_11 ≤ bs ∧ P_B_row Kc kc_11 nc_11 x1 u (fun T_11 u_11 => ∀ r_11 : Nat, (([] : List PT).length ≤ 32 ∧ ((0 + 1) + kc_11) + 1 ≤ bc ∧ ((0 + 3) + nc_11) + 33 ≤ bs ∧ ∀ r_14 : Int32, ∃ n, L_B_choice_18 Kc Qc bc bs  n (((0 + 1) + kc_11) + 1) (((0 + 3) + nc_11) + 33) b_0 (([] : List PT) ++ [T_11]) x1 u_11))))
section PW
variable {p : Program} {l : Launch} {e : Env} {s : State} {m : MethodId} {args : Array Value} {below : List Frame} {meth : Method} {c : Code} {x : GX} {g : GE} {ex : va_W} {a : Nat → Nat} {A : Nat → Prop} {o : Nat}
set_option maxHeartbeats 8000000 in
set_option maxRecDepth 20000 in
theorem wB_B_choice_47 {Kc : Nat → Nat → Int32 → PS → (PT → PS → Prop) → Prop} (lv : Nat) (ihc : ∀ (bc bs : Nat) (x1 : Int32) (u : PS) (Qc : PT → PS → Prop) (sz : Nat) (ex : va_W) (a : Nat → Nat), Kc bc bs x1 u Qc → Met l y_B_choice (wM y_B_choice b_B_choice 3 (some (.object "PatternBench$Part"))) (rmN (lv + 16) bc bs) (PreE x g (pcl x g o) ex [.ref o, .int x1] a u sz) (QeP x g (pcl x g o) ex (va_A (pcl x g o a u ++ ex) sz) Qc) bc bs (va_A (pcl x g o a u ++ ex) sz)) (S : CallFix p m c b_B_choice 3 s args lw_tg "PatternBench") (hr : meth.sig.returnType = some (.object "PatternBench$Part")) (hlk : meth.locks = false) (hK : GK x s) (hE : EN g A s s.heap) (hA : ∀ q : Nat, s.heap.size ≤ q → A q) {Qc : PT → PS → Prop} {bc bs : Nat}  : ∀ (k n0 : Nat) (hk : k ≤ bc) (hn : n0 ≤ bs) (b0 : Nat) (L0 : List PT) (u : PS) (a : Nat → Nat) (f0 : va_W) (hp0 : ALp x g f0 b0 L0) (ls : Array Slot) (H : Heap) (locs : List Loc), lv_has ls 3 [(2, .ref b0)] → wd x A s.heap (pcl x g o a u ++ (f0 ++ ex)) H locs → B_B_choice_47 Kc Qc bc bs  k n0 b0 L0 u → W p l e (rmN (lv + 20) bc bs) s m args below meth c H locs k n0 (MQ below (QeP x g (pcl x g o) ex A Qc) args s bc bs A) (F0 m 47 ls []) := by
  intro k n0 hk hn b0 L0 u a f0 hp0 ls H locs hl hw h
  refine lv_aload_n S.1 S.2.1 d_B_choice_47 rfl (lv_at hl 0 rfl) ?_
  refine pm_size (R := rmN (lv + 20) bc bs) S hK hE hA hp0 hw (by show 8 ≤ lv + 20; omega) (by show 64 * 8 ≤ 64 * (lv + 20); omega) ⟨hk, hn⟩ hl.1 d_B_choice_48 (fun H locs hw => ?_)
  refine lv_iconst (v := 1) S.1 S.2.1 d_B_choice_51 (by decide) ?_
  refine lv_icmp_ne (tgt := 66) S.1 S.2.1 d_B_choice_52 (by decide) (fun q_52 => ?_) (fun q_52 => ?_)
  · have h := h.2 q_52
    obtain ⟨hk_66, hn_66, h⟩ := h
    refine pm_newCho (R := rmN (lv + 20) bc bs) (cells := k) (slots := n0) S hK hA hw ⟨hk_66, hn_66⟩ d_B_choice_66 (fun q_66 H hw => ?_)
    have h := h q_66
    refine lv_dup S.1 S.2.1 d_B_choice_69 rfl ?_
    refine lv_aload_n S.1 S.2.1 d_B_choice_70 rfl (lv_at hl 0 rfl) ?_
    refine pm_initCho (R := rmN (lv + 20) bc bs) (rest := [.ref q_66]) S hK hE hA  hw (by show 8 ≤ lv + 20; omega) (by show 64 * 8 ≤ 64 * (lv + 20); omega) ⟨hk_66, hn_66⟩ hl.1 (Nat.le_of_ble_eq_true rfl) d_B_choice_71 (fun H locs hw => ?_)
    have hp_71 : TP x g ((q_66, .inr (7, [.ref b0])) :: f0) (tCho L0) q_66 := TP_list (K := 2) (Or.inr rfl) hp0 (fun q9 h9 => List.mem_cons_of_mem _ h9) List.mem_cons_self
    refine W.widen (k := bc) (n := bs) hk_66 hn_66 ?_
    exact w_pretE S hr hlk hp_71 hw h d_B_choice_74
  · have h := h.1 q_52
    refine lv_aload_n S.1 S.2.1 d_B_choice_55 rfl (lv_at hl 0 rfl) ?_
    refine lv_iconst (v := 0) S.1 S.2.1 d_B_choice_56 (by decide) ?_
    obtain ⟨T_57, L_57, eL_57, h⟩ := h
    have hpL := hp0
    rw [eL_57] at hpL
    refine pm_get0 (R := rmN (lv + 20) bc bs) S hK hE hA hpL hw (by show 8 ≤ lv + 20; omega) (by show 64 * 8 ≤ 64 * (lv + 20); omega) ⟨hk, hn⟩ hl.1 d_B_choice_57 d_B_choice_60 (fun r_57 H locs hp_57 hw => ?_)
    have h := h r_57
    refine lv_goto (tgt := 74) S.1 S.2.1 d_B_choice_63 (by decide) ?_
    refine W.widen (k := bc) (n := bs) hk hn ?_
    exact w_pretE S hr hlk hp_57 hw h d_B_choice_74
set_option maxHeartbeats 8000000 in
set_option maxRecDepth 20000 in
theorem wL_B_choice_18 {Kc : Nat → Nat → Int32 → PS → (PT → PS → Prop) → Prop} (lv : Nat) (ihc : ∀ (bc bs : Nat) (x1 : Int32) (u : PS) (Qc : PT → PS → Prop) (sz : Nat) (ex : va_W) (a : Nat → Nat), Kc bc bs x1 u Qc → Met l y_B_choice (wM y_B_choice b_B_choice 3 (some (.object "PatternBench$Part"))) (rmN (lv + 16) bc bs) (PreE x g (pcl x g o) ex [.ref o, .int x1] a u sz) (QeP x g (pcl x g o) ex (va_A (pcl x g o a u ++ ex) sz) Qc) bc bs (va_A (pcl x g o a u ++ ex) sz)) (S : CallFix p m c b_B_choice 3 s args lw_tg "PatternBench") (hr : meth.sig.returnType = some (.object "PatternBench$Part")) (hlk : meth.locks = false) (hK : GK x s) (hE : EN g A s s.heap) (hA : ∀ q : Nat, s.heap.size ≤ q → A q) {Qc : PT → PS → Prop} {bc bs : Nat}  : ∀ (n : Nat) (k n0 : Nat) (hk : k ≤ bc) (hn : n0 ≤ bs) (b0 : Nat) (L0 : List PT) (x1 : Int32) (u : PS) (a : Nat → Nat) (f0 : va_W) (hp0 : ALp x g f0 b0 L0) (ls : Array Slot) (H : Heap) (locs : List Loc), lv_has ls 3 [(0, .ref o), (1, .int x1), (2, .ref b0)] → wd x A s.heap (pcl x g o a u ++ (f0 ++ ex)) H locs → L_B_choice_18 Kc Qc bc bs  n k n0 b0 L0 x1 u → W p l e (rmN (lv + 20) bc bs) s m args below meth c H locs k n0 (MQ below (QeP x g (pcl x g o) ex A Qc) args s bc bs A) (F0 m 18 ls []) := by
  intro n
  induction n with
  | zero =>
    intro k n0 hk hn b0 L0 x1 u a f0 hp0 ls H locs hl hw h
    exact absurd h id
  | succ n ih =>
    intro k n0 hk hn b0 L0 x1 u a f0 hp0 ls H locs hl hw h
    refine lv_aload_n S.1 S.2.1 d_B_choice_18 rfl (lv_at hl 0 rfl) ?_
    refine pg_wrong S hK hw d_B_choice_19 ?_
    refine lv_if_ne (tgt := 47) S.1 S.2.1 d_B_choice_22 (by decide) (fun q_22 => ?_) (fun q_22 => ?_)
    · have h := h.2 q_22
      exact wB_B_choice_47 lv ihc S hr hlk hK hE hA  k n0 hk hn b0 L0 u a f0 hp0 _ _ _ (lv_sub hl [2] rfl) hw h
    · have h := h.1 q_22
      refine lv_aload_n S.1 S.2.1 d_B_choice_25 rfl (lv_at hl 0 rfl) ?_
      refine lv_bipush (v := 124) S.1 S.2.1 d_B_choice_26 (by decide) ?_
      refine w_ciF hA hw (w_rvE (rest := []) S hK hE hA hw (c_B_skip l (124 : Int32) u _ _ h) (ci := 1) (q0 := 0) rfl rfl (w_cb (fr := 0) (lv := 0) S.2.2.2.2 k_447 k_444 k_1 yd_B_skip rfl rfl ⟨by show 7 + 1 ≤ lv + 20; omega, by show 8 + (2 + 11) + 64 * (7) ≤ 64 * (lv + 20); omega⟩) k_446 s_5 rfl hl.1 rfl (Nat.le_of_ble_eq_true rfl) d_B_choice_28 ⟨hk, hn⟩) (fun r_28 u_28 H locs h hw => ?_)
      refine lv_if_eq (tgt := 47) S.1 S.2.1 d_B_choice_31 (by decide) (fun q_31 => ?_) (fun q_31 => ?_)
      · have h := h.1 q_31
        exact wB_B_choice_47 lv ihc S hr hlk hK hE hA  k n0 hk hn b0 L0 u_28 a f0 hp0 _ _ _ (lv_sub hl [2] rfl) hw h
      · have h := h.2 q_31
        refine lv_aload_n S.1 S.2.1 d_B_choice_34 rfl (lv_at hl 2 rfl) ?_
        refine lv_aload_n S.1 S.2.1 d_B_choice_35 rfl (lv_at hl 0 rfl) ?_
        refine lv_iload_n S.1 S.2.1 d_B_choice_36 rfl (lv_at hl 1 rfl) ?_
        obtain ⟨kc_37, nc_37, hk_37, hn_37, h⟩ := h
        refine w_cpE hA hw (w_rvE (rest := [.ref b0]) S hK hE hA hw (c_B_row lv ihc kc_37 nc_37 x1 u_28 _ _ h) (ci := 1) (q0 := 0) rfl rfl (w_cb (fr := 0) (lv := 0) S.2.2.2.2 k_399 k_396 k_1 yd_B_row rfl rfl ⟨by show (lv + 19) + 1 ≤ lv + 20; omega, by show 8 + (4 + 11) + 64 * ((lv + 19)) ≤ 64 * (lv + 20); omega⟩) k_398 s_1 rfl hl.1 rfl (Nat.le_of_ble_eq_true rfl) d_B_choice_37 ⟨hk_37, hn_37⟩) (fun T_37 u_37 r_37 f_37 a_37 H locs h hp_37 hw => ?_)
        have h := h r_37
        obtain ⟨hg_40, hk_40, hn_40, h⟩ := h
        refine pm_add (R := rmN (lv + 20) bc bs) (cells := (k + kc_37)) (slots := (n0 + nc_37)) S hK hE hA hp0 hp_37 hg_40 hw (by show 8 ≤ lv + 20; omega) (by show 64 * 8 ≤ 64 * (lv + 20); omega) ⟨hk_40, hn_40⟩ hl.1 d_B_choice_40 (fun r_40 f_40 H locs hp_40 hw => ?_)
        have h := h r_40
        refine lv_pop S.1 S.2.1 d_B_choice_43 rfl ?_
        refine lv_goto (tgt := 18) S.1 S.2.1 d_B_choice_44 (by decide) ?_
        exact ih ((k + kc_37) + 1) ((n0 + nc_37) + 33) hk_40 hn_40 b0 (L0 ++ [T_37]) x1 u_37 a_37 f_40 hp_40 _ _ _ (lv_sub hl [0, 1, 2] rfl) hw h
set_option maxHeartbeats 8000000 in
set_option maxRecDepth 20000 in
theorem c_B_chstep {x : GX} {g : GE} {o : Nat} {ex : va_W} {a : Nat → Nat} {l : Launch} {Kc : Nat → Nat → Int32 → PS → (PT → PS → Prop) → Prop} (lv : Nat) (ihc : ∀ (bc bs : Nat) (x1 : Int32) (u : PS) (Qc : PT → PS → Prop) (sz : Nat) (ex : va_W) (a : Nat → Nat), Kc bc bs x1 u Qc → Met l y_B_choice (wM y_B_choice b_B_choice 3 (some (.object "PatternBench$Part"))) (rmN (lv + 16) bc bs) (PreE x g (pcl x g o) ex [.ref o, .int x1] a u sz) (QeP x g (pcl x g o) ex (va_A (pcl x g o a u ++ ex) sz) Qc) bc bs (va_A (pcl x g o a u ++ ex) sz)) (bc bs : Nat) (x1 : Int32) (u : PS) (sz : Nat) (Qc : PT → PS → Prop) (h : P_B_chstep Kc bc bs x1 u Qc) : Met l y_B_choice (wM y_B_choice b_B_choice 3 (some (.object "PatternBench$Part"))) (rmN (lv + 20) bc bs) (PreE x g (pcl x g o) ex [.ref o, .int x1] a u sz) (QeP x g (pcl x g o) ex (va_A (pcl x g o a u ++ ex) sz) Qc) bc bs (va_A (pcl x g o a u ++ ex) sz) := by
  refine w_enterE (by decide +kernel) (Nat.le_of_ble_eq_true rfl) (fun p e s m args below meth c S hr hlk hnm hK hE hA hw ls hl => ?_)
  have hl : lv_has ls 3 [(0, .ref o), (1, .int x1)] := hl
  obtain ⟨hk_0, hn_0, h⟩ := h
  refine pm_newAL (R := rmN (lv + 20) bc bs) (cells := 0) (slots := 0) S hK hE hA hw (by show 8 ≤ lv + 20; omega) (by show 64 * 8 ≤ 64 * (lv + 20); omega) ⟨hk_0, hn_0⟩ hl.1 d_B_choice_0 d_B_choice_3 d_B_choice_4 (fun b_0 f_0 H locs hp_0 hw => ?_)
  have h := h b_0
  refine lv_astore_n (lv' := [(2, .ref b_0), (0, .ref o), (1, .int x1)]) S.1 S.2.1 d_B_choice_7 rfl hl (by decide) rfl (fun ls hl => ?_)
  refine lv_aload_n S.1 S.2.1 d_B_choice_8 rfl (lv_at hl 0 rfl) ?_
  refine lv_aload_n S.1 S.2.1 d_B_choice_9 rfl (lv_at hl 1 rfl) ?_
  refine lv_iload_n S.1 S.2.1 d_B_choice_10 rfl (lv_at hl 2 rfl) ?_
  obtain ⟨kc_11, nc_11, hk_11, hn_11, h⟩ := h
  refine w_cpE hA hw (w_rvE (rest := [.ref b_0]) S hK hE hA hw (c_B_row lv ihc kc_11 nc_11 x1 u _ _ h) (ci := 1) (q0 := 0) rfl rfl (w_cb (fr := 0) (lv := 0) S.2.2.2.2 k_399 k_396 k_1 yd_B_row rfl rfl ⟨by show (lv + 19) + 1 ≤ lv + 20; omega, by show 8 + (4 + 11) + 64 * ((lv + 19)) ≤ 64 * (lv + 20); omega⟩) k_398 s_1 rfl hl.1 rfl (Nat.le_of_ble_eq_true rfl) d_B_choice_11 ⟨hk_11, hn_11⟩) (fun T_11 u_11 r_11 f_11 a_11 H locs h hp_11 hw => ?_)
  have h := h r_11
  obtain ⟨hg_14, hk_14, hn_14, h⟩ := h
  refine pm_add (R := rmN (lv + 20) bc bs) (cells := ((0 + 1) + kc_11)) (slots := ((0 + 3) + nc_11)) S hK hE hA hp_0 hp_11 hg_14 hw (by show 8 ≤ lv + 20; omega) (by show 64 * 8 ≤ 64 * (lv + 20); omega) ⟨hk_14, hn_14⟩ hl.1 d_B_choice_14 (fun r_14 f_14 H locs hp_14 hw => ?_)
  have h := h r_14
  refine lv_pop S.1 S.2.1 d_B_choice_17 rfl ?_
  obtain ⟨n9, h⟩ := h
  exact wL_B_choice_18 lv ihc S hr hlk hK hE hA  n9 (((0 + 1) + kc_11) + 1) (((0 + 3) + nc_11) + 33) hk_14 hn_14 b_0 (([] : List PT) ++ [T_11]) x1 u_11 a_11 f_14 hp_14 _ _ _ (lv_sub hl [1, 2, 0] rfl) hw h
end PW
/-- choice(depth), by how deep parentheses may still nest -/
def P_B_choice : Nat → Nat → Nat → Int32 → PS → (PT → PS → Prop) → Prop
  | 0 => fun _ _ _ _ _ => False
  | d + 1 => P_B_chstep (P_B_choice d)
theorem c_B_choice {x : GX} {g : GE} {o : Nat} {l : Launch} : ∀ (d : Nat) (bc bs : Nat) (x1 : Int32) (u : PS) (Qc : PT → PS → Prop) (sz : Nat) (ex : va_W) (a : Nat → Nat), P_B_choice d bc bs x1 u Qc → Met l y_B_choice (wM y_B_choice b_B_choice 3 (some (.object "PatternBench$Part"))) (rmN (4 * d + 16) bc bs) (PreE x g (pcl x g o) ex [.ref o, .int x1] a u sz) (QeP x g (pcl x g o) ex (va_A (pcl x g o a u ++ ex) sz) Qc) bc bs (va_A (pcl x g o a u ++ ex) sz) := by
  intro d
  induction d with
  | zero => intro bc bs x1 u Qc sz ex a h; exact absurd h id
  | succ d ih =>
    intro bc bs x1 u Qc sz ex a h
    exact c_B_chstep (4 * d) ih bc bs x1 u sz Qc h
