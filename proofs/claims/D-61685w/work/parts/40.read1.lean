theorem k_418 : (Cond.methodLink "PatternBench" 126 ⟨"PatternBench", "letter", "(C)Z"⟩) ∈ lw_tg := kw 418 (by decide +kernel) (by decide +kernel)
theorem k_419 : (Cond.static ⟨"PatternBench", "letter", "(C)Z"⟩) ∈ lw_tg := kw 419 (by decide +kernel) (by decide +kernel)
theorem k_420 : (Cond.code ⟨"PatternBench", "letter", "(C)Z"⟩ prog_1_method_4_code 1 (Option.some .boolean)) ∈ lw_tg := kw 420 (by decide +kernel) (by decide +kernel)
theorem k_423 : (Cond.fieldLink "PatternBench" 131 "PatternBench$Op" "LETTERS" "LPatternBench$Op;") ∈ lw_tg := kw 423 (by decide +kernel) (by decide +kernel)
theorem k_439 : (Cond.constant "PatternBench" 140 (67108863 : Int32)) ∈ lw_tg := kw 439 (by decide +kernel) (by decide +kernel)
theorem k_466 : (Cond.methodLink "PatternBench" 117 ⟨"PatternBench", "expect", "(C)V"⟩) ∈ lw_tg := kw 466 (by decide +kernel) (by decide +kernel)
theorem k_468 : (Cond.instanceMethod ⟨"PatternBench", "expect", "(C)V"⟩) ∈ lw_tg := kw 468 (by decide +kernel) (by decide +kernel)
theorem k_469 : (Cond.code ⟨"PatternBench", "expect", "(C)V"⟩ prog_1_method_6_code 2 (Option.none : Option Jvm.ClassFile.FieldType)) ∈ lw_tg := kw 469 (by decide +kernel) (by decide +kernel)
theorem s_9 : (Cond.selects "PatternBench" ⟨"PatternBench", "expect", "(C)V"⟩ ⟨"PatternBench", "expect", "(C)V"⟩) ∈ lw_tg := ks 9 (by decide +kernel) (by decide +kernel)
abbrev b_B_letter : ByteArray := prog_1_method_4_code
def y_B_letter : MethodName := ⟨"PatternBench", "letter", "(C)Z"⟩
theorem yd_B_letter : y_B_letter.cls ≠ "java/lang/invoke/MethodHandle" ∧ y_B_letter.cls ≠ "java/lang/invoke/VarHandle" ∧ (parseMethodDescriptor y_B_letter.desc).map (fun d => d.parameters.length) = some 1 := by decide +kernel
theorem d_B_letter_0 : decode b_B_letter 0 = .ok (.iload_n 0, 1) := by decide +kernel
theorem d_B_letter_1 : decode b_B_letter 1 = .ok (.bipush 97, 2) := by decide +kernel
theorem d_B_letter_3 : decode b_B_letter 3 = .ok (.if_icmp .lt 13, 3) := by decide +kernel
theorem d_B_letter_6 : decode b_B_letter 6 = .ok (.iload_n 0, 1) := by decide +kernel
theorem d_B_letter_7 : decode b_B_letter 7 = .ok (.bipush 122, 2) := by decide +kernel
theorem d_B_letter_9 : decode b_B_letter 9 = .ok (.if_icmp .gt 7, 3) := by decide +kernel
theorem d_B_letter_12 : decode b_B_letter 12 = .ok (.iconst 1, 1) := by decide +kernel
theorem d_B_letter_13 : decode b_B_letter 13 = .ok (.goto 4, 3) := by decide +kernel
theorem d_B_letter_16 : decode b_B_letter 16 = .ok (.iconst 0, 1) := by decide +kernel
theorem d_B_letter_17 : decode b_B_letter 17 = .ok (.ireturn, 1) := by decide +kernel
def P_B_letter (x0 : Int32) (Qc : Int32 → Prop) : Prop := ((x0 < (97 : Int32) → Qc (0 : Int32)) ∧ (¬ x0 < (97 : Int32) → (((122 : Int32) < x0 → Qc (0 : Int32)) ∧ (¬ (122 : Int32) < x0 → Qc (1 : Int32)))))
section JS
variable {p : Program} {l : Launch} {e : Env} {s : State} {m : MethodId} {args : Array Value} {below : List Frame} {meth : Method} {c : Code}
set_option maxHeartbeats 4000000 in
set_option maxRecDepth 20000 in
theorem c_B_letter (l : Launch) (x0 : Int32) (Qc : Int32 → Prop) (h : P_B_letter x0 Qc) : Met l y_B_letter (wM y_B_letter b_B_letter 1 (some .boolean)) (rmN 0 0 0) (PreN [.int x0]) (QcN Qc) 0 0 (fun _ => False) := by
  refine w_enterN (by decide +kernel) (Nat.le_of_ble_eq_true rfl) (fun p e s m args below meth c S hr hlk ls hl => ?_)
  have hl : lv_has ls 1 [(0, .int x0)] := hl
  refine lv_iload_n S.1 S.2.1 d_B_letter_0 rfl (lv_at hl 0 rfl) ?_
  refine lv_bipush (v := 97) S.1 S.2.1 d_B_letter_1 (by decide) ?_
  refine lv_icmp_lt (tgt := 16) S.1 S.2.1 d_B_letter_3 (by decide) (fun q_3 => ?_) (fun q_3 => ?_)
  · have h := h.1 q_3
    refine lv_iconst (v := 0) S.1 S.2.1 d_B_letter_16 (by decide) ?_
    exact w_zretN S hr hlk isB0 h d_B_letter_17
  · have h := h.2 q_3
    refine lv_iload_n S.1 S.2.1 d_B_letter_6 rfl (lv_at hl 0 rfl) ?_
    refine lv_bipush (v := 122) S.1 S.2.1 d_B_letter_7 (by decide) ?_
    refine lv_icmp_gt (tgt := 16) S.1 S.2.1 d_B_letter_9 (by decide) (fun q_9 => ?_) (fun q_9 => ?_)
    · have h := h.1 q_9
      refine lv_iconst (v := 0) S.1 S.2.1 d_B_letter_16 (by decide) ?_
      exact w_zretN S hr hlk isB0 h d_B_letter_17
    · have h := h.2 q_9
      refine lv_iconst (v := 1) S.1 S.2.1 d_B_letter_12 (by decide) ?_
      refine lv_goto (tgt := 17) S.1 S.2.1 d_B_letter_13 (by decide) ?_
      exact w_zretN S hr hlk isB1 h d_B_letter_17
end JS
abbrev b_B_set : ByteArray := prog_1_method_13_code
def y_B_set : MethodName := ⟨"PatternBench", "set", "()LPatternBench$Part;"⟩
theorem yd_B_set : y_B_set.cls ≠ "java/lang/invoke/MethodHandle" ∧ y_B_set.cls ≠ "java/lang/invoke/VarHandle" ∧ (parseMethodDescriptor y_B_set.desc).map (fun d => d.parameters.length) = some 0 := by decide +kernel
theorem d_B_set_0 : decode b_B_set 0 = .ok (.aload_n 0, 1) := by decide +kernel
theorem d_B_set_1 : decode b_B_set 1 = .ok (.bipush 94, 2) := by decide +kernel
theorem d_B_set_3 : decode b_B_set 3 = .ok (.invokevirtual 73, 3) := by decide +kernel
theorem d_B_set_6 : decode b_B_set 6 = .ok (.istore_n 1, 1) := by decide +kernel
theorem d_B_set_7 : decode b_B_set 7 = .ok (.iconst 0, 1) := by decide +kernel
theorem d_B_set_8 : decode b_B_set 8 = .ok (.istore_n 2, 1) := by decide +kernel
theorem d_B_set_9 : decode b_B_set 9 = .ok (.aload_n 0, 1) := by decide +kernel
theorem d_B_set_10 : decode b_B_set 10 = .ok (.invokevirtual 69, 3) := by decide +kernel
theorem d_B_set_13 : decode b_B_set 13 = .ok (.istore_n 3, 1) := by decide +kernel
theorem d_B_set_14 : decode b_B_set 14 = .ok (.aload_n 0, 1) := by decide +kernel
theorem d_B_set_15 : decode b_B_set 15 = .ok (.invokevirtual 69, 3) := by decide +kernel
theorem d_B_set_18 : decode b_B_set 18 = .ok (.invokestatic 126, 3) := by decide +kernel
theorem d_B_set_21 : decode b_B_set 21 = .ok (.ifCond .ne 8, 3) := by decide +kernel
theorem d_B_set_24 : decode b_B_set 24 = .ok (.aload_n 0, 1) := by decide +kernel
theorem d_B_set_25 : decode b_B_set 25 = .ok (.iconst 1, 1) := by decide +kernel
theorem d_B_set_26 : decode b_B_set 26 = .ok (.putfield 77, 3) := by decide +kernel
theorem d_B_set_29 : decode b_B_set 29 = .ok (.aload_n 0, 1) := by decide +kernel
theorem d_B_set_30 : decode b_B_set 30 = .ok (.dup, 1) := by decide +kernel
theorem d_B_set_31 : decode b_B_set 31 = .ok (.getfield 58, 3) := by decide +kernel
theorem d_B_set_34 : decode b_B_set 34 = .ok (.iconst 1, 1) := by decide +kernel
theorem d_B_set_35 : decode b_B_set 35 = .ok (.iadd, 1) := by decide +kernel
theorem d_B_set_36 : decode b_B_set 36 = .ok (.putfield 58, 3) := by decide +kernel
theorem d_B_set_39 : decode b_B_set 39 = .ok (.iload_n 3, 1) := by decide +kernel
theorem d_B_set_40 : decode b_B_set 40 = .ok (.istore 4, 2) := by decide +kernel
theorem d_B_set_42 : decode b_B_set 42 = .ok (.aload_n 0, 1) := by decide +kernel
theorem d_B_set_43 : decode b_B_set 43 = .ok (.getfield 77, 3) := by decide +kernel
theorem d_B_set_46 : decode b_B_set 46 = .ok (.ifCond .ne 49, 3) := by decide +kernel
theorem d_B_set_49 : decode b_B_set 49 = .ok (.aload_n 0, 1) := by decide +kernel
theorem d_B_set_50 : decode b_B_set 50 = .ok (.bipush 45, 2) := by decide +kernel
theorem d_B_set_52 : decode b_B_set 52 = .ok (.invokevirtual 73, 3) := by decide +kernel
theorem d_B_set_55 : decode b_B_set 55 = .ok (.ifCond .eq 40, 3) := by decide +kernel
theorem d_B_set_58 : decode b_B_set 58 = .ok (.aload_n 0, 1) := by decide +kernel
theorem d_B_set_59 : decode b_B_set 59 = .ok (.invokevirtual 69, 3) := by decide +kernel
theorem d_B_set_62 : decode b_B_set 62 = .ok (.istore 4, 2) := by decide +kernel
theorem d_B_set_64 : decode b_B_set 64 = .ok (.aload_n 0, 1) := by decide +kernel
theorem d_B_set_65 : decode b_B_set 65 = .ok (.invokevirtual 69, 3) := by decide +kernel
theorem d_B_set_68 : decode b_B_set 68 = .ok (.invokestatic 126, 3) := by decide +kernel
theorem d_B_set_71 : decode b_B_set 71 = .ok (.ifCond .eq 9, 3) := by decide +kernel
theorem d_B_set_74 : decode b_B_set 74 = .ok (.iload 4, 2) := by decide +kernel
theorem d_B_set_76 : decode b_B_set 76 = .ok (.iload_n 3, 1) := by decide +kernel
theorem d_B_set_77 : decode b_B_set 77 = .ok (.if_icmp .ge 8, 3) := by decide +kernel
theorem d_B_set_80 : decode b_B_set 80 = .ok (.aload_n 0, 1) := by decide +kernel
theorem d_B_set_81 : decode b_B_set 81 = .ok (.iconst 1, 1) := by decide +kernel
theorem d_B_set_82 : decode b_B_set 82 = .ok (.putfield 77, 3) := by decide +kernel
theorem d_B_set_85 : decode b_B_set 85 = .ok (.aload_n 0, 1) := by decide +kernel
theorem d_B_set_86 : decode b_B_set 86 = .ok (.dup, 1) := by decide +kernel
theorem d_B_set_87 : decode b_B_set 87 = .ok (.getfield 58, 3) := by decide +kernel
theorem d_B_set_90 : decode b_B_set 90 = .ok (.iconst 1, 1) := by decide +kernel
theorem d_B_set_91 : decode b_B_set 91 = .ok (.iadd, 1) := by decide +kernel
theorem d_B_set_92 : decode b_B_set 92 = .ok (.putfield 58, 3) := by decide +kernel
theorem d_B_set_95 : decode b_B_set 95 = .ok (.iload_n 3, 1) := by decide +kernel
theorem d_B_set_96 : decode b_B_set 96 = .ok (.istore 5, 2) := by decide +kernel
theorem d_B_set_98 : decode b_B_set 98 = .ok (.iload 5, 2) := by decide +kernel
theorem d_B_set_100 : decode b_B_set 100 = .ok (.iload 4, 2) := by decide +kernel
theorem d_B_set_102 : decode b_B_set 102 = .ok (.if_icmp .gt 26, 3) := by decide +kernel
theorem d_B_set_105 : decode b_B_set 105 = .ok (.aload_n 0, 1) := by decide +kernel
theorem d_B_set_106 : decode b_B_set 106 = .ok (.getfield 77, 3) := by decide +kernel
theorem d_B_set_109 : decode b_B_set 109 = .ok (.ifCond .ne 19, 3) := by decide +kernel
theorem d_B_set_112 : decode b_B_set 112 = .ok (.iload_n 2, 1) := by decide +kernel
theorem d_B_set_113 : decode b_B_set 113 = .ok (.iconst 1, 1) := by decide +kernel
theorem d_B_set_114 : decode b_B_set 114 = .ok (.iload 5, 2) := by decide +kernel
theorem d_B_set_116 : decode b_B_set 116 = .ok (.bipush 97, 2) := by decide +kernel
theorem d_B_set_118 : decode b_B_set 118 = .ok (.isub, 1) := by decide +kernel
theorem d_B_set_119 : decode b_B_set 119 = .ok (.ishl, 1) := by decide +kernel
theorem d_B_set_120 : decode b_B_set 120 = .ok (.ior, 1) := by decide +kernel
theorem d_B_set_121 : decode b_B_set 121 = .ok (.istore_n 2, 1) := by decide +kernel
theorem d_B_set_122 : decode b_B_set 122 = .ok (.iinc 5 1, 3) := by decide +kernel
theorem d_B_set_125 : decode b_B_set 125 = .ok (.goto (-27), 3) := by decide +kernel
theorem d_B_set_128 : decode b_B_set 128 = .ok (.aload_n 0, 1) := by decide +kernel
theorem d_B_set_129 : decode b_B_set 129 = .ok (.getfield 77, 3) := by decide +kernel
theorem d_B_set_132 : decode b_B_set 132 = .ok (.ifCond .ne 12, 3) := by decide +kernel
theorem d_B_set_135 : decode b_B_set 135 = .ok (.aload_n 0, 1) := by decide +kernel
theorem d_B_set_136 : decode b_B_set 136 = .ok (.bipush 93, 2) := by decide +kernel
theorem d_B_set_138 : decode b_B_set 138 = .ok (.invokevirtual 73, 3) := by decide +kernel
theorem d_B_set_141 : decode b_B_set 141 = .ok (.ifCond .eq (-132), 3) := by decide +kernel
theorem d_B_set_144 : decode b_B_set 144 = .ok (.new 129, 3) := by decide +kernel
theorem d_B_set_147 : decode b_B_set 147 = .ok (.dup, 1) := by decide +kernel
theorem d_B_set_148 : decode b_B_set 148 = .ok (.getstatic 131, 3) := by decide +kernel
theorem d_B_set_151 : decode b_B_set 151 = .ok (.iload_n 1, 1) := by decide +kernel
theorem d_B_set_152 : decode b_B_set 152 = .ok (.ifCond .eq 10, 3) := by decide +kernel
theorem d_B_set_155 : decode b_B_set 155 = .ok (.iload_n 2, 1) := by decide +kernel
theorem d_B_set_156 : decode b_B_set 156 = .ok (.ldc 140, 2) := by decide +kernel
theorem d_B_set_158 : decode b_B_set 158 = .ok (.ixor, 1) := by decide +kernel
theorem d_B_set_159 : decode b_B_set 159 = .ok (.goto 4, 3) := by decide +kernel
theorem d_B_set_162 : decode b_B_set 162 = .ok (.iload_n 2, 1) := by decide +kernel
theorem d_B_set_163 : decode b_B_set 163 = .ok (.invokespecial 137, 3) := by decide +kernel
theorem d_B_set_166 : decode b_B_set 166 = .ok (.areturn, 1) := by decide +kernel
def B_B_set_163 (Qc : PT → PS → Prop) (bc bs : Nat)  (k n0 : Nat) (b0 : Nat) (t2 : Nat) (t3 : Int32) (u : PS) : Prop := (t2 < 17 ∧ Qc (tLeaf t2 t3) u)
def B_B_set_144 (Qc : PT → PS → Prop) (bc bs : Nat)  (k n0 : Nat) (x1 : Int32) (x2 : Int32) (u : PS) : Prop := (k + 1 ≤ bc ∧ n0 + 2 ≤ bs ∧ ∀ q_144 : Nat, ((x1 = (0 : Int32) → B_B_set_163 Qc bc bs  (k + 1) (n0 + 2) q_144 0 x2 u) ∧ (¬ x1 = (0 : Int32) → B_B_set_163 Qc bc bs  (k + 1) (n0 + 2) q_144 0 (x2 ^^^ (67108863 : Int32)) u)))
def B_B_set_128 (Qc : PT → PS → Prop) (bc bs : Nat) (K9 : Nat → Nat → Int32 → Int32 → PS → Prop) (k n0 : Nat) (x1 : Int32) (x2 : Int32) (u : PS) : Prop := (((p_wrong u) = (0 : Int32) → P_B_skip (93 : Int32) u (fun r_138 u_138 => ((r_138 = (0 : Int32) → K9 k n0 x1 x2 u_138) ∧ (¬ r_138 = (0 : Int32) → B_B_set_144 Qc bc bs  k n0 x1 x2 u_138)))) ∧ (¬ (p_wrong u) = (0 : Int32) → B_B_set_144 Qc bc bs  k n0 x1 x2 u))
def L_B_set_98 (Qc : PT → PS → Prop) (bc bs : Nat) (K9 : Nat → Nat → Int32 → Int32 → PS → Prop) : Nat → Nat → Nat → Int32 → Int32 → Int32 → Int32 → PS → Prop
  | 0, _, _, _, _, _, _, _ => False
  | n + 1, k, n0, x1, x2, x4, x5, u => ((x4 < x5 → B_B_set_128 Qc bc bs K9 k n0 x1 x2 u) ∧ (¬ x4 < x5 → (((p_wrong u) = (0 : Int32) → (∀ x2_121 : Int32, x2_121 = (x2 ||| ((1 : Int32) <<< ((x5 - (97 : Int32)) &&& 31))) → (∀ x5_122 : Int32, x5_122 = x5 + 1 → (L_B_set_98 Qc bc bs K9 n) k n0 x1 x2_121 x4 x5_122 u))) ∧ (¬ (p_wrong u) = (0 : Int32) → B_B_set_128 Qc bc bs K9 k n0 x1 x2 u))))
def B_B_set_95 (Qc : PT → PS → Prop) (bc bs : Nat) (K9 : Nat → Nat → Int32 → Int32 → PS → Prop) (k n0 : Nat) (x1 : Int32) (x2 : Int32) (x3 : Int32) (x4 : Int32) (u : PS) : Prop := ∃ n, L_B_set_98 Qc bc bs K9 n k n0 x1 x2 x4 x3 u
def B_B_set_85 (Qc : PT → PS → Prop) (bc bs : Nat) (K9 : Nat → Nat → Int32 → Int32 → PS → Prop) (k n0 : Nat) (x1 : Int32) (x2 : Int32) (x3 : Int32) (x4 : Int32) (u : PS) : Prop := B_B_set_95 Qc bc bs K9 k n0 x1 x2 x3 x4 (ps_at u ((p_at u) + (1 : Int32)))
def B_B_set_80 (Qc : PT → PS → Prop) (bc bs : Nat) (K9 : Nat → Nat → Int32 → Int32 → PS → Prop) (k n0 : Nat) (x1 : Int32) (x2 : Int32) (x3 : Int32) (x4 : Int32) (u : PS) : Prop := B_B_set_85 Qc bc bs K9 k n0 x1 x2 x3 x4 (ps_wrong u (1 : Int32))
def B_B_set_29 (Qc : PT → PS → Prop) (bc bs : Nat) (K9 : Nat → Nat → Int32 → Int32 → PS → Prop) (k n0 : Nat) (x1 : Int32) (x2 : Int32) (x3 : Int32) (u : PS) : Prop := (((p_wrong (ps_at u ((p_at u) + (1 : Int32)))) = (0 : Int32) → P_B_skip (45 : Int32) (ps_at u ((p_at u) + (1 : Int32))) (fun r_52 u_52 => ((r_52 = (0 : Int32) → B_B_set_95 Qc bc bs K9 k n0 x1 x2 x3 x3 u_52) ∧ (¬ r_52 = (0 : Int32) → P_B_here  u_52 (fun r_59 u_59 => P_B_here  u_59 (fun r_65 u_65 => P_B_letter r_65 (fun r_68 => ((r_68 = (0 : Int32) → B_B_set_80 Qc bc bs K9 k n0 x1 x2 x3 r_59 u_65) ∧ (¬ r_68 = (0 : Int32) → ((x3 ≤ r_59 → B_B_set_85 Qc bc bs K9 k n0 x1 x2 x3 r_59 u_65) ∧ (¬ x3 ≤ r_59 → B_B_set_80 Qc bc bs K9 k n0 x1 x2 x3 r_59 u_65))))))))))) ∧ (¬ (p_wrong (ps_at u ((p_at u) + (1 : Int32)))) = (0 : Int32) → B_B_set_95 Qc bc bs K9 k n0 x1 x2 x3 x3 (ps_at u ((p_at u) + (1 : Int32)))))
def L_B_set_9 (Qc : PT → PS → Prop) (bc bs : Nat)  : Nat → Nat → Nat → Int32 → Int32 → PS → Prop
  | 0, _, _, _, _, _ => False
  | n + 1, k, n0, x1, x2, u => P_B_here  u (fun r_10 u_10 => P_B_here  u_10 (fun r_15 u_15 => P_B_letter r_15 (fun r_18 => ((r_18 = (0 : Int32) → B_B_set_29 Qc bc bs (L_B_set_9 Qc bc bs  n) k n0 x1 x2 r_10 (ps_wrong u_15 (1 : Int32))) ∧ (¬ r_18 = (0 : Int32) → B_B_set_29 Qc bc bs (L_B_set_9 Qc bc bs  n) k n0 x1 x2 r_10 u_15)))))
def P_B_set (bc bs : Nat)  (u : PS) (Qc : PT → PS → Prop) : Prop := P_B_skip (94 : Int32) u (fun r_3 u_3 => ∃ n, L_B_set_9 Qc bc bs  n 0 0 r_3 (0 : Int32) u_3)
section PW
variable {p : Program} {l : Launch} {e : Env} {s : State} {m : MethodId} {args : Array Value} {below : List Frame} {meth : Method} {c : Code} {x : GX} {g : GE} {ex : va_W} {a : Nat → Nat} {A : Nat → Prop} {o : Nat}
set_option maxHeartbeats 8000000 in
set_option maxRecDepth 20000 in
theorem wB_B_set_163 (S : CallFix p m c b_B_set 6 s args lw_tg "PatternBench") (hr : meth.sig.returnType = some (.object "PatternBench$Part")) (hlk : meth.locks = false) (hK : GK x s) (hE : EN g A s s.heap) (hA : ∀ q : Nat, s.heap.size ≤ q → A q) {Qc : PT → PS → Prop} {bc bs : Nat}  : ∀ (k n0 : Nat) (hk : k ≤ bc) (hn : n0 ≤ bs) (b0 : Nat) (t2 : Nat) (t3 : Int32) (u : PS) (a : Nat → Nat) (ls : Array Slot) (H : Heap) (locs : List Loc), lv_has ls 6 [] → wd x A s.heap (pcl x g o a u ++ ((b0, .inr (5, [.null, .int 0])) :: ex)) H locs → B_B_set_163 Qc bc bs  k n0 b0 t2 t3 u → W p l e (rmN (9) bc bs) s m args below meth c H locs k n0 (MQ below (QeP x g (pcl x g o) ex A Qc) args s bc bs A) (F0 m 163 ls [.int t3, .ref (g.1 t2), .ref b0, .ref b0]) := by
  intro k n0 hk hn b0 t2 t3 u a ls H locs hl hw h
  refine pm_initLeaf (R := rmN (9) bc bs) (rest := [.ref b0]) S hK hE hA  hw (by show 8 ≤ 9; omega) (by show 64 * 8 ≤ 64 * (9); omega) ⟨hk, hn⟩ hl.1 (Nat.le_of_ble_eq_true rfl) d_B_set_163 (fun H locs hw => ?_)
  obtain ⟨hl_163, h⟩ := h
  have hp_163 : TP x g [(b0, .inr (5, [.ref (g.1 t2), .int t3]))] (tLeaf t2 t3) b0 := TP_leaf hl_163 (List.mem_of_getElem? (i := 0) rfl)
  refine W.widen (k := bc) (n := bs) hk hn ?_
  exact w_pretE S hr hlk hp_163 hw h d_B_set_166
set_option maxHeartbeats 8000000 in
set_option maxRecDepth 20000 in
theorem wB_B_set_144 (S : CallFix p m c b_B_set 6 s args lw_tg "PatternBench") (hr : meth.sig.returnType = some (.object "PatternBench$Part")) (hlk : meth.locks = false) (hK : GK x s) (hE : EN g A s s.heap) (hA : ∀ q : Nat, s.heap.size ≤ q → A q) {Qc : PT → PS → Prop} {bc bs : Nat}  : ∀ (k n0 : Nat) (hk : k ≤ bc) (hn : n0 ≤ bs) (x1 : Int32) (x2 : Int32) (u : PS) (a : Nat → Nat) (ls : Array Slot) (H : Heap) (locs : List Loc), lv_has ls 6 [(1, .int x1), (2, .int x2)] → wd x A s.heap (pcl x g o a u ++ ex) H locs → B_B_set_144 Qc bc bs  k n0 x1 x2 u → W p l e (rmN (9) bc bs) s m args below meth c H locs k n0 (MQ below (QeP x g (pcl x g o) ex A Qc) args s bc bs A) (F0 m 144 ls []) := by
  intro k n0 hk hn x1 x2 u a ls H locs hl hw h
  obtain ⟨hk_144, hn_144, h⟩ := h
  refine pm_newLeaf (R := rmN (9) bc bs) (cells := k) (slots := n0) S hK hA hw ⟨hk_144, hn_144⟩ d_B_set_144 (fun q_144 H hw => ?_)
  have h := h q_144
  refine lv_dup S.1 S.2.1 d_B_set_147 rfl ?_
  refine p_op S hE hw.2.2 0 (by decide) rfl k_423 d_B_set_148 ?_
  refine lv_iload_n S.1 S.2.1 d_B_set_151 rfl (lv_at hl 0 rfl) ?_
  refine lv_if_eq (tgt := 162) S.1 S.2.1 d_B_set_152 (by decide) (fun q_152 => ?_) (fun q_152 => ?_)
  · have h := h.1 q_152
    refine lv_iload_n S.1 S.2.1 d_B_set_162 rfl (lv_at hl 1 rfl) ?_
    exact wB_B_set_163 S hr hlk hK hE hA  (k + 1) (n0 + 2) hk_144 hn_144 q_144 0 x2 u a _ _ _ (lv_sub hl [] rfl) hw h
  · have h := h.2 q_152
    refine lv_iload_n S.1 S.2.1 d_B_set_155 rfl (lv_at hl 1 rfl) ?_
    refine lv_ldc (v := 67108863) S.1 S.2.1 S.2.2.2.1 (S.2.2.2.2 _ k_439) d_B_set_156 ?_
    refine lv_ixor S.1 S.2.1 d_B_set_158 ?_
    refine lv_goto (tgt := 163) S.1 S.2.1 d_B_set_159 (by decide) ?_
    exact wB_B_set_163 S hr hlk hK hE hA  (k + 1) (n0 + 2) hk_144 hn_144 q_144 0 (x2 ^^^ (67108863 : Int32)) u a _ _ _ (lv_sub hl [] rfl) hw h
set_option maxHeartbeats 8000000 in
set_option maxRecDepth 20000 in
theorem wB_B_set_128 (S : CallFix p m c b_B_set 6 s args lw_tg "PatternBench") (hr : meth.sig.returnType = some (.object "PatternBench$Part")) (hlk : meth.locks = false) (hK : GK x s) (hE : EN g A s s.heap) (hA : ∀ q : Nat, s.heap.size ≤ q → A q) {Qc : PT → PS → Prop} {bc bs : Nat}  {K9 : Nat → Nat → Int32 → Int32 → PS → Prop} (ih9 : ∀ (k n0 : Nat) (hk : k ≤ bc) (hn : n0 ≤ bs) (x1 : Int32) (x2 : Int32) (u : PS) (a : Nat → Nat) (ls : Array Slot) (H : Heap) (locs : List Loc), lv_has ls 6 [(0, .ref o), (1, .int x1), (2, .int x2)] → wd x A s.heap (pcl x g o a u ++ ex) H locs → K9 k n0 x1 x2 u → W p l e (rmN (9) bc bs) s m args below meth c H locs k n0 (MQ below (QeP x g (pcl x g o) ex A Qc) args s bc bs A) (F0 m 9 ls [])) : ∀ (k n0 : Nat) (hk : k ≤ bc) (hn : n0 ≤ bs) (x1 : Int32) (x2 : Int32) (u : PS) (a : Nat → Nat) (ls : Array Slot) (H : Heap) (locs : List Loc), lv_has ls 6 [(0, .ref o), (1, .int x1), (2, .int x2)] → wd x A s.heap (pcl x g o a u ++ ex) H locs → B_B_set_128 Qc bc bs K9 k n0 x1 x2 u → W p l e (rmN (9) bc bs) s m args below meth c H locs k n0 (MQ below (QeP x g (pcl x g o) ex A Qc) args s bc bs A) (F0 m 128 ls []) := by
  intro k n0 hk hn x1 x2 u a ls H locs hl hw h
  refine lv_aload_n S.1 S.2.1 d_B_set_128 rfl (lv_at hl 0 rfl) ?_
  refine pg_wrong S hK hw d_B_set_129 ?_
  refine lv_if_ne (tgt := 144) S.1 S.2.1 d_B_set_132 (by decide) (fun q_132 => ?_) (fun q_132 => ?_)
  · have h := h.2 q_132
    exact wB_B_set_144 S hr hlk hK hE hA  k n0 hk hn x1 x2 u a _ _ _ (lv_sub hl [1, 2] rfl) hw h
  · have h := h.1 q_132
    refine lv_aload_n S.1 S.2.1 d_B_set_135 rfl (lv_at hl 0 rfl) ?_
    refine lv_bipush (v := 93) S.1 S.2.1 d_B_set_136 (by decide) ?_
    refine w_ciF hA hw (w_rvE (rest := []) S hK hE hA hw (c_B_skip l (93 : Int32) u _ _ h) (ci := 1) (q0 := 0) rfl rfl (w_cb (fr := 0) (lv := 0) S.2.2.2.2 k_447 k_444 k_1 yd_B_skip rfl rfl ⟨by show 7 + 1 ≤ 9; omega, by show 8 + (2 + 11) + 64 * (7) ≤ 64 * (9); omega⟩) k_446 s_5 rfl hl.1 rfl (Nat.le_of_ble_eq_true rfl) d_B_set_138 ⟨hk, hn⟩) (fun r_138 u_138 H locs h hw => ?_)
    refine lv_if_eq (tgt := 9) S.1 S.2.1 d_B_set_141 (by decide) (fun q_141 => ?_) (fun q_141 => ?_)
    · have h := h.1 q_141
      exact ih9 k n0 hk hn x1 x2 u_138 a _ _ _ (lv_sub hl [0, 1, 2] rfl) hw h
    · have h := h.2 q_141
      exact wB_B_set_144 S hr hlk hK hE hA  k n0 hk hn x1 x2 u_138 a _ _ _ (lv_sub hl [1, 2] rfl) hw h
set_option maxHeartbeats 8000000 in
set_option maxRecDepth 20000 in
theorem wL_B_set_98 (S : CallFix p m c b_B_set 6 s args lw_tg "PatternBench") (hr : meth.sig.returnType = some (.object "PatternBench$Part")) (hlk : meth.locks = false) (hK : GK x s) (hE : EN g A s s.heap) (hA : ∀ q : Nat, s.heap.size ≤ q → A q) {Qc : PT → PS → Prop} {bc bs : Nat}  {K9 : Nat → Nat → Int32 → Int32 → PS → Prop} (ih9 : ∀ (k n0 : Nat) (hk : k ≤ bc) (hn : n0 ≤ bs) (x1 : Int32) (x2 : Int32) (u : PS) (a : Nat → Nat) (ls : Array Slot) (H : Heap) (locs : List Loc), lv_has ls 6 [(0, .ref o), (1, .int x1), (2, .int x2)] → wd x A s.heap (pcl x g o a u ++ ex) H locs → K9 k n0 x1 x2 u → W p l e (rmN (9) bc bs) s m args below meth c H locs k n0 (MQ below (QeP x g (pcl x g o) ex A Qc) args s bc bs A) (F0 m 9 ls [])) : ∀ (n : Nat) (k n0 : Nat) (hk : k ≤ bc) (hn : n0 ≤ bs) (x1 : Int32) (x2 : Int32) (x4 : Int32) (x5 : Int32) (u : PS) (a : Nat → Nat) (ls : Array Slot) (H : Heap) (locs : List Loc), lv_has ls 6 [(0, .ref o), (1, .int x1), (2, .int x2), (4, .int x4), (5, .int x5)] → wd x A s.heap (pcl x g o a u ++ ex) H locs → L_B_set_98 Qc bc bs K9 n k n0 x1 x2 x4 x5 u → W p l e (rmN (9) bc bs) s m args below meth c H locs k n0 (MQ below (QeP x g (pcl x g o) ex A Qc) args s bc bs A) (F0 m 98 ls []) := by
  intro n
  induction n with
  | zero =>
    intro k n0 hk hn x1 x2 x4 x5 u a ls H locs hl hw h
    exact absurd h id
  | succ n ih =>
    intro k n0 hk hn x1 x2 x4 x5 u a ls H locs hl hw h
    refine lv_iload S.1 S.2.1 d_B_set_98 (lv_at hl 4 rfl) ?_
    refine lv_iload S.1 S.2.1 d_B_set_100 (lv_at hl 3 rfl) ?_
    refine lv_icmp_gt (tgt := 128) S.1 S.2.1 d_B_set_102 (by decide) (fun q_102 => ?_) (fun q_102 => ?_)
    · have h := h.1 q_102
      exact wB_B_set_128 S hr hlk hK hE hA ih9 k n0 hk hn x1 x2 u a _ _ _ (lv_sub hl [0, 1, 2] rfl) hw h
    · have h := h.2 q_102
      refine lv_aload_n S.1 S.2.1 d_B_set_105 rfl (lv_at hl 0 rfl) ?_
      refine pg_wrong S hK hw d_B_set_106 ?_
      refine lv_if_ne (tgt := 128) S.1 S.2.1 d_B_set_109 (by decide) (fun q_109 => ?_) (fun q_109 => ?_)
      · have h := h.2 q_109
        exact wB_B_set_128 S hr hlk hK hE hA ih9 k n0 hk hn x1 x2 u a _ _ _ (lv_sub hl [0, 1, 2] rfl) hw h
      · have h := h.1 q_109
        refine lv_iload_n S.1 S.2.1 d_B_set_112 rfl (lv_at hl 2 rfl) ?_
        refine lv_iconst (v := 1) S.1 S.2.1 d_B_set_113 (by decide) ?_
        refine lv_iload S.1 S.2.1 d_B_set_114 (lv_at hl 4 rfl) ?_
        refine lv_bipush (v := 97) S.1 S.2.1 d_B_set_116 (by decide) ?_
        refine lv_isub S.1 S.2.1 d_B_set_118 ?_
        refine lv_ishl S.1 S.2.1 d_B_set_119 ?_
        refine lv_ior S.1 S.2.1 d_B_set_120 ?_
        refine lv_topi (fun x2_121 ex2_121 => ?_)
        have h := h x2_121 ex2_121
        refine lv_istore_n (lv' := [(2, .int x2_121), (0, .ref o), (1, .int x1), (4, .int x4), (5, .int x5)]) S.1 S.2.1 d_B_set_121 rfl hl (by decide) rfl (fun ls hl => ?_)
        obtain ⟨x5_122, ex5_122⟩ : ∃ y : Int32, y = x5 + 1 := ⟨_, rfl⟩
        have h := h x5_122 ex5_122
        refine lv_iinc (v := x5_122) (lv' := [(5, .int x5_122), (2, .int x2_121), (0, .ref o), (1, .int x1), (4, .int x4)]) S.1 S.2.1 d_B_set_122 hl (k := 4) rfl (by rw [ex5_122]; rfl) (by decide) rfl (fun ls hl => ?_)
        refine lv_goto (tgt := 98) S.1 S.2.1 d_B_set_125 (by decide) ?_
        exact ih k n0 hk hn x1 x2_121 x4 x5_122 u a _ _ _ (lv_sub hl [2, 3, 1, 4, 0] rfl) hw h
set_option maxHeartbeats 8000000 in
set_option maxRecDepth 20000 in
theorem wB_B_set_95 (S : CallFix p m c b_B_set 6 s args lw_tg "PatternBench") (hr : meth.sig.returnType = some (.object "PatternBench$Part")) (hlk : meth.locks = false) (hK : GK x s) (hE : EN g A s s.heap) (hA : ∀ q : Nat, s.heap.size ≤ q → A q) {Qc : PT → PS → Prop} {bc bs : Nat}  {K9 : Nat → Nat → Int32 → Int32 → PS → Prop} (ih9 : ∀ (k n0 : Nat) (hk : k ≤ bc) (hn : n0 ≤ bs) (x1 : Int32) (x2 : Int32) (u : PS) (a : Nat → Nat) (ls : Array Slot) (H : Heap) (locs : List Loc), lv_has ls 6 [(0, .ref o), (1, .int x1), (2, .int x2)] → wd x A s.heap (pcl x g o a u ++ ex) H locs → K9 k n0 x1 x2 u → W p l e (rmN (9) bc bs) s m args below meth c H locs k n0 (MQ below (QeP x g (pcl x g o) ex A Qc) args s bc bs A) (F0 m 9 ls [])) : ∀ (k n0 : Nat) (hk : k ≤ bc) (hn : n0 ≤ bs) (x1 : Int32) (x2 : Int32) (x3 : Int32) (x4 : Int32) (u : PS) (a : Nat → Nat) (ls : Array Slot) (H : Heap) (locs : List Loc), lv_has ls 6 [(0, .ref o), (1, .int x1), (2, .int x2), (3, .int x3), (4, .int x4)] → wd x A s.heap (pcl x g o a u ++ ex) H locs → B_B_set_95 Qc bc bs K9 k n0 x1 x2 x3 x4 u → W p l e (rmN (9) bc bs) s m args below meth c H locs k n0 (MQ below (QeP x g (pcl x g o) ex A Qc) args s bc bs A) (F0 m 95 ls []) := by
  intro k n0 hk hn x1 x2 x3 x4 u a ls H locs hl hw h
  refine lv_iload_n S.1 S.2.1 d_B_set_95 rfl (lv_at hl 3 rfl) ?_
  refine lv_istore (lv' := [(5, .int x3), (0, .ref o), (1, .int x1), (2, .int x2), (3, .int x3), (4, .int x4)]) S.1 S.2.1 d_B_set_96 hl (by decide) rfl (fun ls hl => ?_)
  obtain ⟨n9, h⟩ := h
  exact wL_B_set_98 S hr hlk hK hE hA ih9 n9 k n0 hk hn x1 x2 x4 x3 u a _ _ _ (lv_sub hl [1, 2, 3, 5, 0] rfl) hw h
set_option maxHeartbeats 8000000 in
set_option maxRecDepth 20000 in
theorem wB_B_set_85 (S : CallFix p m c b_B_set 6 s args lw_tg "PatternBench") (hr : meth.sig.returnType = some (.object "PatternBench$Part")) (hlk : meth.locks = false) (hK : GK x s) (hE : EN g A s s.heap) (hA : ∀ q : Nat, s.heap.size ≤ q → A q) {Qc : PT → PS → Prop} {bc bs : Nat}  {K9 : Nat → Nat → Int32 → Int32 → PS → Prop} (ih9 : ∀ (k n0 : Nat) (hk : k ≤ bc) (hn : n0 ≤ bs) (x1 : Int32) (x2 : Int32) (u : PS) (a : Nat → Nat) (ls : Array Slot) (H : Heap) (locs : List Loc), lv_has ls 6 [(0, .ref o), (1, .int x1), (2, .int x2)] → wd x A s.heap (pcl x g o a u ++ ex) H locs → K9 k n0 x1 x2 u → W p l e (rmN (9) bc bs) s m args below meth c H locs k n0 (MQ below (QeP x g (pcl x g o) ex A Qc) args s bc bs A) (F0 m 9 ls [])) : ∀ (k n0 : Nat) (hk : k ≤ bc) (hn : n0 ≤ bs) (x1 : Int32) (x2 : Int32) (x3 : Int32) (x4 : Int32) (u : PS) (a : Nat → Nat) (ls : Array Slot) (H : Heap) (locs : List Loc), lv_has ls 6 [(0, .ref o), (1, .int x1), (2, .int x2), (3, .int x3), (4, .int x4)] → wd x A s.heap (pcl x g o a u ++ ex) H locs → B_B_set_85 Qc bc bs K9 k n0 x1 x2 x3 x4 u → W p l e (rmN (9) bc bs) s m args below meth c H locs k n0 (MQ below (QeP x g (pcl x g o) ex A Qc) args s bc bs A) (F0 m 85 ls []) := by
  intro k n0 hk hn x1 x2 x3 x4 u a ls H locs hl hw h
  refine lv_aload_n S.1 S.2.1 d_B_set_85 rfl (lv_at hl 0 rfl) ?_
  refine lv_dup S.1 S.2.1 d_B_set_86 rfl ?_
  refine pg_at S hK hw d_B_set_87 ?_
  refine lv_iconst (v := 1) S.1 S.2.1 d_B_set_90 (by decide) ?_
  refine lv_iadd S.1 S.2.1 d_B_set_91 ?_
  refine pp_at S hK hw d_B_set_92 (fun H locs hw => ?_)
  exact wB_B_set_95 S hr hlk hK hE hA ih9 k n0 hk hn x1 x2 x3 x4 (ps_at u ((p_at u) + (1 : Int32))) a _ _ _ (lv_sub hl [0, 1, 2, 3, 4] rfl) hw h
set_option maxHeartbeats 8000000 in
set_option maxRecDepth 20000 in
theorem wB_B_set_80 (S : CallFix p m c b_B_set 6 s args lw_tg "PatternBench") (hr : meth.sig.returnType = some (.object "PatternBench$Part")) (hlk : meth.locks = false) (hK : GK x s) (hE : EN g A s s.heap) (hA : ∀ q : Nat, s.heap.size ≤ q → A q) {Qc : PT → PS → Prop} {bc bs : Nat}  {K9 : Nat → Nat → Int32 → Int32 → PS → Prop} (ih9 : ∀ (k n0 : Nat) (hk : k ≤ bc) (hn : n0 ≤ bs) (x1 : Int32) (x2 : Int32) (u : PS) (a : Nat → Nat) (ls : Array Slot) (H : Heap) (locs : List Loc), lv_has ls 6 [(0, .ref o), (1, .int x1), (2, .int x2)] → wd x A s.heap (pcl x g o a u ++ ex) H locs → K9 k n0 x1 x2 u → W p l e (rmN (9) bc bs) s m args below meth c H locs k n0 (MQ below (QeP x g (pcl x g o) ex A Qc) args s bc bs A) (F0 m 9 ls [])) : ∀ (k n0 : Nat) (hk : k ≤ bc) (hn : n0 ≤ bs) (x1 : Int32) (x2 : Int32) (x3 : Int32) (x4 : Int32) (u : PS) (a : Nat → Nat) (ls : Array Slot) (H : Heap) (locs : List Loc), lv_has ls 6 [(0, .ref o), (1, .int x1), (2, .int x2), (3, .int x3), (4, .int x4)] → wd x A s.heap (pcl x g o a u ++ ex) H locs → B_B_set_80 Qc bc bs K9 k n0 x1 x2 x3 x4 u → W p l e (rmN (9) bc bs) s m args below meth c H locs k n0 (MQ below (QeP x g (pcl x g o) ex A Qc) args s bc bs A) (F0 m 80 ls []) := by
  intro k n0 hk hn x1 x2 x3 x4 u a ls H locs hl hw h
  refine lv_aload_n S.1 S.2.1 d_B_set_80 rfl (lv_at hl 0 rfl) ?_
  refine lv_iconst (v := 1) S.1 S.2.1 d_B_set_81 (by decide) ?_
  refine pp_wrong S hK hw isB1 d_B_set_82 (fun H locs hw => ?_)
  exact wB_B_set_85 S hr hlk hK hE hA ih9 k n0 hk hn x1 x2 x3 x4 (ps_wrong u (1 : Int32)) a _ _ _ (lv_sub hl [0, 1, 2, 3, 4] rfl) hw h
set_option maxHeartbeats 8000000 in
set_option maxRecDepth 20000 in
theorem wB_B_set_29 (S : CallFix p m c b_B_set 6 s args lw_tg "PatternBench") (hr : meth.sig.returnType = some (.object "PatternBench$Part")) (hlk : meth.locks = false) (hK : GK x s) (hE : EN g A s s.heap) (hA : ∀ q : Nat, s.heap.size ≤ q → A q) {Qc : PT → PS → Prop} {bc bs : Nat}  {K9 : Nat → Nat → Int32 → Int32 → PS → Prop} (ih9 : ∀ (k n0 : Nat) (hk : k ≤ bc) (hn : n0 ≤ bs) (x1 : Int32) (x2 : Int32) (u : PS) (a : Nat → Nat) (ls : Array Slot) (H : Heap) (locs : List Loc), lv_has ls 6 [(0, .ref o), (1, .int x1), (2, .int x2)] → wd x A s.heap (pcl x g o a u ++ ex) H locs → K9 k n0 x1 x2 u → W p l e (rmN (9) bc bs) s m args below meth c H locs k n0 (MQ below (QeP x g (pcl x g o) ex A Qc) args s bc bs A) (F0 m 9 ls [])) : ∀ (k n0 : Nat) (hk : k ≤ bc) (hn : n0 ≤ bs) (x1 : Int32) (x2 : Int32) (x3 : Int32) (u : PS) (a : Nat → Nat) (ls : Array Slot) (H : Heap) (locs : List Loc), lv_has ls 6 [(0, .ref o), (1, .int x1), (2, .int x2), (3, .int x3)] → wd x A s.heap (pcl x g o a u ++ ex) H locs → B_B_set_29 Qc bc bs K9 k n0 x1 x2 x3 u → W p l e (rmN (9) bc bs) s m args below meth c H locs k n0 (MQ below (QeP x g (pcl x g o) ex A Qc) args s bc bs A) (F0 m 29 ls []) := by
  intro k n0 hk hn x1 x2 x3 u a ls H locs hl hw h
  refine lv_aload_n S.1 S.2.1 d_B_set_29 rfl (lv_at hl 0 rfl) ?_
  refine lv_dup S.1 S.2.1 d_B_set_30 rfl ?_
  refine pg_at S hK hw d_B_set_31 ?_
  refine lv_iconst (v := 1) S.1 S.2.1 d_B_set_34 (by decide) ?_
  refine lv_iadd S.1 S.2.1 d_B_set_35 ?_
  refine pp_at S hK hw d_B_set_36 (fun H locs hw => ?_)
  refine lv_iload_n S.1 S.2.1 d_B_set_39 rfl (lv_at hl 3 rfl) ?_
  refine lv_istore (lv' := [(4, .int x3), (0, .ref o), (1, .int x1), (2, .int x2), (3, .int x3)]) S.1 S.2.1 d_B_set_40 hl (by decide) rfl (fun ls hl => ?_)
  refine lv_aload_n S.1 S.2.1 d_B_set_42 rfl (lv_at hl 1 rfl) ?_
  refine pg_wrong S hK hw d_B_set_43 ?_
  refine lv_if_ne (tgt := 95) S.1 S.2.1 d_B_set_46 (by decide) (fun q_46 => ?_) (fun q_46 => ?_)
  · have h := h.2 q_46
    exact wB_B_set_95 S hr hlk hK hE hA ih9 k n0 hk hn x1 x2 x3 x3 (ps_at u ((p_at u) + (1 : Int32))) a _ _ _ (lv_sub hl [1, 2, 3, 4, 0] rfl) hw h
  · have h := h.1 q_46
    refine lv_aload_n S.1 S.2.1 d_B_set_49 rfl (lv_at hl 1 rfl) ?_
    refine lv_bipush (v := 45) S.1 S.2.1 d_B_set_50 (by decide) ?_
    refine w_ciF hA hw (w_rvE (rest := []) S hK hE hA hw (c_B_skip l (45 : Int32) (ps_at u ((p_at u) + (1 : Int32))) _ _ h) (ci := 1) (q0 := 0) rfl rfl (w_cb (fr := 0) (lv := 0) S.2.2.2.2 k_447 k_444 k_1 yd_B_skip rfl rfl ⟨by show 7 + 1 ≤ 9; omega, by show 8 + (2 + 11) + 64 * (7) ≤ 64 * (9); omega⟩) k_446 s_5 rfl hl.1 rfl (Nat.le_of_ble_eq_true rfl) d_B_set_52 ⟨hk, hn⟩) (fun r_52 u_52 H locs h hw => ?_)
    refine lv_if_eq (tgt := 95) S.1 S.2.1 d_B_set_55 (by decide) (fun q_55 => ?_) (fun q_55 => ?_)
    · have h := h.1 q_55
      exact wB_B_set_95 S hr hlk hK hE hA ih9 k n0 hk hn x1 x2 x3 x3 u_52 a _ _ _ (lv_sub hl [1, 2, 3, 4, 0] rfl) hw h
    · have h := h.2 q_55
      refine lv_aload_n S.1 S.2.1 d_B_set_58 rfl (lv_at hl 1 rfl) ?_
      refine w_ciF hA hw (w_rvE (rest := []) S hK hE hA hw (c_B_here l  u_52 _ _ h) (ci := 1) (q0 := 0) rfl rfl (w_cb (fr := 0) (lv := 0) S.2.2.2.2 k_403 k_400 k_1 yd_B_here rfl rfl ⟨by show 6 + 1 ≤ 9; omega, by show 8 + (1 + 11) + 64 * (6) ≤ 64 * (9); omega⟩) k_402 s_2 rfl hl.1 rfl (Nat.le_of_ble_eq_true rfl) d_B_set_59 ⟨hk, hn⟩) (fun r_59 u_59 H locs h hw => ?_)
      refine lv_istore (lv' := [(4, .int r_59), (0, .ref o), (1, .int x1), (2, .int x2), (3, .int x3)]) S.1 S.2.1 d_B_set_62 hl (by decide) rfl (fun ls hl => ?_)
      refine lv_aload_n S.1 S.2.1 d_B_set_64 rfl (lv_at hl 1 rfl) ?_
      refine w_ciF hA hw (w_rvE (rest := []) S hK hE hA hw (c_B_here l  u_59 _ _ h) (ci := 1) (q0 := 0) rfl rfl (w_cb (fr := 0) (lv := 0) S.2.2.2.2 k_403 k_400 k_1 yd_B_here rfl rfl ⟨by show 6 + 1 ≤ 9; omega, by show 8 + (1 + 11) + 64 * (6) ≤ 64 * (9); omega⟩) k_402 s_2 rfl hl.1 rfl (Nat.le_of_ble_eq_true rfl) d_B_set_65 ⟨hk, hn⟩) (fun r_65 u_65 H locs h hw => ?_)
      refine w_cn (w_rs (rest := []) S (c_B_letter l r_65 _ h) (w_cb (fr := 0) (lv := 0) S.2.2.2.2 k_420 k_418 k_1 yd_B_letter rfl rfl ⟨by show 0 + 1 ≤ 9; omega, by show 8 + (1 + 11) + 64 * (0) ≤ 64 * (9); omega⟩) k_419 rfl hl.1 rfl (Nat.le_of_ble_eq_true rfl) d_B_set_68 ⟨hk, hn⟩) (fun r_68 h => ?_)
      refine lv_if_eq (tgt := 80) S.1 S.2.1 d_B_set_71 (by decide) (fun q_71 => ?_) (fun q_71 => ?_)
      · have h := h.1 q_71
        exact wB_B_set_80 S hr hlk hK hE hA ih9 k n0 hk hn x1 x2 x3 r_59 u_65 a _ _ _ (lv_sub hl [1, 2, 3, 4, 0] rfl) hw h
      · have h := h.2 q_71
        refine lv_iload S.1 S.2.1 d_B_set_74 (lv_at hl 0 rfl) ?_
        refine lv_iload_n S.1 S.2.1 d_B_set_76 rfl (lv_at hl 4 rfl) ?_
        refine lv_icmp_ge (tgt := 85) S.1 S.2.1 d_B_set_77 (by decide) (fun q_77 => ?_) (fun q_77 => ?_)
        · have h := h.1 q_77
          exact wB_B_set_85 S hr hlk hK hE hA ih9 k n0 hk hn x1 x2 x3 r_59 u_65 a _ _ _ (lv_sub hl [1, 2, 3, 4, 0] rfl) hw h
        · have h := h.2 q_77
          exact wB_B_set_80 S hr hlk hK hE hA ih9 k n0 hk hn x1 x2 x3 r_59 u_65 a _ _ _ (lv_sub hl [1, 2, 3, 4, 0] rfl) hw h
set_option maxHeartbeats 8000000 in
set_option maxRecDepth 20000 in
theorem wL_B_set_9 (S : CallFix p m c b_B_set 6 s args lw_tg "PatternBench") (hr : meth.sig.returnType = some (.object "PatternBench$Part")) (hlk : meth.locks = false) (hK : GK x s) (hE : EN g A s s.heap) (hA : ∀ q : Nat, s.heap.size ≤ q → A q) {Qc : PT → PS → Prop} {bc bs : Nat}  : ∀ (n : Nat) (k n0 : Nat) (hk : k ≤ bc) (hn : n0 ≤ bs) (x1 : Int32) (x2 : Int32) (u : PS) (a : Nat → Nat) (ls : Array Slot) (H : Heap) (locs : List Loc), lv_has ls 6 [(0, .ref o), (1, .int x1), (2, .int x2)] → wd x A s.heap (pcl x g o a u ++ ex) H locs → L_B_set_9 Qc bc bs  n k n0 x1 x2 u → W p l e (rmN (9) bc bs) s m args below meth c H locs k n0 (MQ below (QeP x g (pcl x g o) ex A Qc) args s bc bs A) (F0 m 9 ls []) := by
  intro n
  induction n with
  | zero =>
    intro k n0 hk hn x1 x2 u a ls H locs hl hw h
    exact absurd h id
  | succ n ih =>
    intro k n0 hk hn x1 x2 u a ls H locs hl hw h
    refine lv_aload_n S.1 S.2.1 d_B_set_9 rfl (lv_at hl 0 rfl) ?_
    refine w_ciF hA hw (w_rvE (rest := []) S hK hE hA hw (c_B_here l  u _ _ h) (ci := 1) (q0 := 0) rfl rfl (w_cb (fr := 0) (lv := 0) S.2.2.2.2 k_403 k_400 k_1 yd_B_here rfl rfl ⟨by show 6 + 1 ≤ 9; omega, by show 8 + (1 + 11) + 64 * (6) ≤ 64 * (9); omega⟩) k_402 s_2 rfl hl.1 rfl (Nat.le_of_ble_eq_true rfl) d_B_set_10 ⟨hk, hn⟩) (fun r_10 u_10 H locs h hw => ?_)
    refine lv_istore_n (lv' := [(3, .int r_10), (0, .ref o), (1, .int x1), (2, .int x2)]) S.1 S.2.1 d_B_set_13 rfl hl (by decide) rfl (fun ls hl => ?_)
    refine lv_aload_n S.1 S.2.1 d_B_set_14 rfl (lv_at hl 1 rfl) ?_
    refine w_ciF hA hw (w_rvE (rest := []) S hK hE hA hw (c_B_here l  u_10 _ _ h) (ci := 1) (q0 := 0) rfl rfl (w_cb (fr := 0) (lv := 0) S.2.2.2.2 k_403 k_400 k_1 yd_B_here rfl rfl ⟨by show 6 + 1 ≤ 9; omega, by show 8 + (1 + 11) + 64 * (6) ≤ 64 * (9); omega⟩) k_402 s_2 rfl hl.1 rfl (Nat.le_of_ble_eq_true rfl) d_B_set_15 ⟨hk, hn⟩) (fun r_15 u_15 H locs h hw => ?_)
    refine w_cn (w_rs (rest := []) S (c_B_letter l r_15 _ h) (w_cb (fr := 0) (lv := 0) S.2.2.2.2 k_420 k_418 k_1 yd_B_letter rfl rfl ⟨by show 0 + 1 ≤ 9; omega, by show 8 + (1 + 11) + 64 * (0) ≤ 64 * (9); omega⟩) k_419 rfl hl.1 rfl (Nat.le_of_ble_eq_true rfl) d_B_set_18 ⟨hk, hn⟩) (fun r_18 h => ?_)
    refine lv_if_ne (tgt := 29) S.1 S.2.1 d_B_set_21 (by decide) (fun q_21 => ?_) (fun q_21 => ?_)
    · have h := h.2 q_21
      exact wB_B_set_29 S hr hlk hK hE hA ih k n0 hk hn x1 x2 r_10 u_15 a _ _ _ (lv_sub hl [1, 2, 3, 0] rfl) hw h
    · have h := h.1 q_21
      refine lv_aload_n S.1 S.2.1 d_B_set_24 rfl (lv_at hl 1 rfl) ?_
      refine lv_iconst (v := 1) S.1 S.2.1 d_B_set_25 (by decide) ?_
      refine pp_wrong S hK hw isB1 d_B_set_26 (fun H locs hw => ?_)
      exact wB_B_set_29 S hr hlk hK hE hA ih k n0 hk hn x1 x2 r_10 (ps_wrong u_15 (1 : Int32)) a _ _ _ (lv_sub hl [1, 2, 3, 0] rfl) hw h
set_option maxHeartbeats 8000000 in
set_option maxRecDepth 20000 in
theorem c_B_set {x : GX} {g : GE} {o : Nat} {ex : va_W} {a : Nat → Nat} {l : Launch} (bc bs : Nat)  (u : PS) (sz : Nat) (Qc : PT → PS → Prop) (h : P_B_set bc bs  u Qc) : Met l y_B_set (wM y_B_set b_B_set 6 (some (.object "PatternBench$Part"))) (rmN (9) bc bs) (PreE x g (pcl x g o) ex [.ref o] a u sz) (QeP x g (pcl x g o) ex (va_A (pcl x g o a u ++ ex) sz) Qc) bc bs (va_A (pcl x g o a u ++ ex) sz) := by
  refine w_enterE (by decide +kernel) (Nat.le_of_ble_eq_true rfl) (fun p e s m args below meth c S hr hlk hnm hK hE hA hw ls hl => ?_)
  have hl : lv_has ls 6 [(0, .ref o)] := hl
  refine lv_aload_n S.1 S.2.1 d_B_set_0 rfl (lv_at hl 0 rfl) ?_
  refine lv_bipush (v := 94) S.1 S.2.1 d_B_set_1 (by decide) ?_
  refine w_ciF hA hw (w_rvE (rest := []) S hK hE hA hw (c_B_skip l (94 : Int32) u _ _ h) (ci := 1) (q0 := 0) rfl rfl (w_cb (fr := 0) (lv := 0) S.2.2.2.2 k_447 k_444 k_1 yd_B_skip rfl rfl ⟨by show 7 + 1 ≤ 9; omega, by show 8 + (2 + 11) + 64 * (7) ≤ 64 * (9); omega⟩) k_446 s_5 rfl hl.1 rfl (Nat.le_of_ble_eq_true rfl) d_B_set_3 ⟨(Nat.zero_le _), (Nat.zero_le _)⟩) (fun r_3 u_3 H locs h hw => ?_)
  refine lv_istore_n (lv' := [(1, .int r_3), (0, .ref o)]) S.1 S.2.1 d_B_set_6 rfl hl (by decide) rfl (fun ls hl => ?_)
  refine lv_iconst (v := 0) S.1 S.2.1 d_B_set_7 (by decide) ?_
  refine lv_istore_n (lv' := [(2, .int (0 : Int32)), (1, .int r_3), (0, .ref o)]) S.1 S.2.1 d_B_set_8 rfl hl (by decide) rfl (fun ls hl => ?_)
  obtain ⟨n9, h⟩ := h
  exact wL_B_set_9 S hr hlk hK hE hA  n9 0 0 (Nat.zero_le _) (Nat.zero_le _) r_3 (0 : Int32) u_3 a _ _ _ (lv_sub hl [2, 1, 0] rfl) hw h
end PW
abbrev b_B_repeated : ByteArray := prog_1_method_10_code
def y_B_repeated : MethodName := ⟨"PatternBench", "repeated", "(LPatternBench$Part;)LPatternBench$Part;"⟩
theorem yd_B_repeated : y_B_repeated.cls ≠ "java/lang/invoke/MethodHandle" ∧ y_B_repeated.cls ≠ "java/lang/invoke/VarHandle" ∧ (parseMethodDescriptor y_B_repeated.desc).map (fun d => d.parameters.length) = some 1 := by decide +kernel
theorem d_B_repeated_0 : decode b_B_repeated 0 = .ok (.aload_n 0, 1) := by decide +kernel
theorem d_B_repeated_1 : decode b_B_repeated 1 = .ok (.invokevirtual 69, 3) := by decide +kernel
theorem d_B_repeated_4 : decode b_B_repeated 4 = .ok (.istore_n 2, 1) := by decide +kernel
theorem d_B_repeated_5 : decode b_B_repeated 5 = .ok (.aload_n 0, 1) := by decide +kernel
theorem d_B_repeated_6 : decode b_B_repeated 6 = .ok (.getfield 77, 3) := by decide +kernel
theorem d_B_repeated_9 : decode b_B_repeated 9 = .ok (.ifCond .ne 27, 3) := by decide +kernel
theorem d_B_repeated_12 : decode b_B_repeated 12 = .ok (.iload_n 2, 1) := by decide +kernel
theorem d_B_repeated_13 : decode b_B_repeated 13 = .ok (.bipush 42, 2) := by decide +kernel
theorem d_B_repeated_15 : decode b_B_repeated 15 = .ok (.if_icmp .eq 23, 3) := by decide +kernel
theorem d_B_repeated_18 : decode b_B_repeated 18 = .ok (.iload_n 2, 1) := by decide +kernel
theorem d_B_repeated_19 : decode b_B_repeated 19 = .ok (.bipush 43, 2) := by decide +kernel
theorem d_B_repeated_21 : decode b_B_repeated 21 = .ok (.if_icmp .eq 17, 3) := by decide +kernel
theorem d_B_repeated_24 : decode b_B_repeated 24 = .ok (.iload_n 2, 1) := by decide +kernel
theorem d_B_repeated_25 : decode b_B_repeated 25 = .ok (.bipush 63, 2) := by decide +kernel
theorem d_B_repeated_27 : decode b_B_repeated 27 = .ok (.if_icmp .eq 11, 3) := by decide +kernel
theorem d_B_repeated_30 : decode b_B_repeated 30 = .ok (.iload_n 2, 1) := by decide +kernel
theorem d_B_repeated_31 : decode b_B_repeated 31 = .ok (.bipush 123, 2) := by decide +kernel
theorem d_B_repeated_33 : decode b_B_repeated 33 = .ok (.if_icmp .eq 5, 3) := by decide +kernel
theorem d_B_repeated_36 : decode b_B_repeated 36 = .ok (.aload_n 1, 1) := by decide +kernel
theorem d_B_repeated_37 : decode b_B_repeated 37 = .ok (.areturn, 1) := by decide +kernel
theorem d_B_repeated_38 : decode b_B_repeated 38 = .ok (.aload_n 0, 1) := by decide +kernel
theorem d_B_repeated_39 : decode b_B_repeated 39 = .ok (.dup, 1) := by decide +kernel
theorem d_B_repeated_40 : decode b_B_repeated 40 = .ok (.getfield 58, 3) := by decide +kernel
theorem d_B_repeated_43 : decode b_B_repeated 43 = .ok (.iconst 1, 1) := by decide +kernel
theorem d_B_repeated_44 : decode b_B_repeated 44 = .ok (.iadd, 1) := by decide +kernel
theorem d_B_repeated_45 : decode b_B_repeated 45 = .ok (.putfield 58, 3) := by decide +kernel
theorem d_B_repeated_48 : decode b_B_repeated 48 = .ok (.iconst 0, 1) := by decide +kernel
theorem d_B_repeated_49 : decode b_B_repeated 49 = .ok (.istore_n 3, 1) := by decide +kernel
theorem d_B_repeated_50 : decode b_B_repeated 50 = .ok (.iload_n 2, 1) := by decide +kernel
theorem d_B_repeated_51 : decode b_B_repeated 51 = .ok (.bipush 123, 2) := by decide +kernel
theorem d_B_repeated_53 : decode b_B_repeated 53 = .ok (.if_icmp .ne 17, 3) := by decide +kernel
theorem d_B_repeated_56 : decode b_B_repeated 56 = .ok (.aload_n 0, 1) := by decide +kernel
theorem d_B_repeated_57 : decode b_B_repeated 57 = .ok (.iconst 0, 1) := by decide +kernel
theorem d_B_repeated_58 : decode b_B_repeated 58 = .ok (.bipush 9, 2) := by decide +kernel
theorem d_B_repeated_60 : decode b_B_repeated 60 = .ok (.invokevirtual 114, 3) := by decide +kernel
theorem d_B_repeated_63 : decode b_B_repeated 63 = .ok (.istore_n 3, 1) := by decide +kernel
theorem d_B_repeated_64 : decode b_B_repeated 64 = .ok (.aload_n 0, 1) := by decide +kernel
theorem d_B_repeated_65 : decode b_B_repeated 65 = .ok (.bipush 125, 2) := by decide +kernel
theorem d_B_repeated_67 : decode b_B_repeated 67 = .ok (.invokevirtual 117, 3) := by decide +kernel
theorem d_B_repeated_70 : decode b_B_repeated 70 = .ok (.aload_n 0, 1) := by decide +kernel
theorem d_B_repeated_71 : decode b_B_repeated 71 = .ok (.bipush 63, 2) := by decide +kernel
theorem d_B_repeated_73 : decode b_B_repeated 73 = .ok (.invokevirtual 73, 3) := by decide +kernel
theorem d_B_repeated_76 : decode b_B_repeated 76 = .ok (.ifCond .eq 8, 3) := by decide +kernel
theorem d_B_repeated_79 : decode b_B_repeated 79 = .ok (.bipush 63, 2) := by decide +kernel
theorem d_B_repeated_81 : decode b_B_repeated 81 = .ok (.goto 19, 3) := by decide +kernel
theorem d_B_repeated_84 : decode b_B_repeated 84 = .ok (.aload_n 0, 1) := by decide +kernel
theorem d_B_repeated_85 : decode b_B_repeated 85 = .ok (.bipush 43, 2) := by decide +kernel
theorem d_B_repeated_87 : decode b_B_repeated 87 = .ok (.invokevirtual 73, 3) := by decide +kernel
theorem d_B_repeated_90 : decode b_B_repeated 90 = .ok (.ifCond .eq 8, 3) := by decide +kernel
theorem d_B_repeated_93 : decode b_B_repeated 93 = .ok (.bipush 43, 2) := by decide +kernel
theorem d_B_repeated_95 : decode b_B_repeated 95 = .ok (.goto 5, 3) := by decide +kernel
theorem d_B_repeated_98 : decode b_B_repeated 98 = .ok (.bipush 32, 2) := by decide +kernel
theorem d_B_repeated_100 : decode b_B_repeated 100 = .ok (.istore 4, 2) := by decide +kernel
theorem d_B_repeated_102 : decode b_B_repeated 102 = .ok (.new 121, 3) := by decide +kernel
theorem d_B_repeated_105 : decode b_B_repeated 105 = .ok (.dup, 1) := by decide +kernel
theorem d_B_repeated_106 : decode b_B_repeated 106 = .ok (.aload_n 1, 1) := by decide +kernel
theorem d_B_repeated_107 : decode b_B_repeated 107 = .ok (.iload_n 2, 1) := by decide +kernel
theorem d_B_repeated_108 : decode b_B_repeated 108 = .ok (.iload_n 3, 1) := by decide +kernel
theorem d_B_repeated_109 : decode b_B_repeated 109 = .ok (.iload 4, 2) := by decide +kernel
theorem d_B_repeated_111 : decode b_B_repeated 111 = .ok (.invokespecial 123, 3) := by decide +kernel
theorem d_B_repeated_114 : decode b_B_repeated 114 = .ok (.areturn, 1) := by decide +kernel
def B_B_repeated_100 (Qc : PT → PS → Prop) (bc bs : Nat)  (k n0 : Nat) (b0 : Nat) (T0 : PT) (x2 : Int32) (x3 : Int32) (t0 : Int32) (u : PS) : Prop := (k + 1 ≤ bc ∧ n0 + 4 ≤ bs ∧ ∀ q_102 : Nat, (isC x2 ∧ isC t0 ∧ Qc (tRep T0 x2 x3 t0) u))
def B_B_repeated_70 (Qc : PT → PS → Prop) (bc bs : Nat)  (k n0 : Nat) (b0 : Nat) (T0 : PT) (x2 : Int32) (x3 : Int32) (u : PS) : Prop := P_B_skip (63 : Int32) u (fun r_73 u_73 => ((r_73 = (0 : Int32) → P_B_skip (43 : Int32) u_73 (fun r_87 u_87 => ((r_87 = (0 : Int32) → B_B_repeated_100 Qc bc bs  k n0 b0 T0 x2 x3 (32 : Int32) u_87) ∧ (¬ r_87 = (0 : Int32) → B_B_repeated_100 Qc bc bs  k n0 b0 T0 x2 x3 (43 : Int32) u_87)))) ∧ (¬ r_73 = (0 : Int32) → B_B_repeated_100 Qc bc bs  k n0 b0 T0 x2 x3 (63 : Int32) u_73)))
def B_B_repeated_38 (Qc : PT → PS → Prop) (bc bs : Nat)  (k n0 : Nat) (b0 : Nat) (T0 : PT) (x2 : Int32) (u : PS) : Prop := ((x2 = (123 : Int32) → P_B_digit (0 : Int32) (9 : Int32) (ps_at u ((p_at u) + (1 : Int32))) (fun r_60 u_60 => P_B_expect (125 : Int32) u_60 (fun u_67 => B_B_repeated_70 Qc bc bs  k n0 b0 T0 x2 r_60 u_67))) ∧ (¬ x2 = (123 : Int32) → B_B_repeated_70 Qc bc bs  k n0 b0 T0 x2 (0 : Int32) (ps_at u ((p_at u) + (1 : Int32)))))
def P_B_repeated (bc bs : Nat) (Tp : PT) (rp : Nat)  (u : PS) (Qc : PT → PS → Prop) : Prop := P_B_here  u (fun r_1 u_1 => (((p_wrong u_1) = (0 : Int32) → ((r_1 = (42 : Int32) → B_B_repeated_38 Qc bc bs  0 0 rp Tp r_1 u_1) ∧ (¬ r_1 = (42 : Int32) → ((r_1 = (43 : Int32) → B_B_repeated_38 Qc bc bs  0 0 rp Tp r_1 u_1) ∧ (¬ r_1 = (43 : Int32) → ((r_1 = (63 : Int32) → B_B_repeated_38 Qc bc bs  0 0 rp Tp r_1 u_1) ∧ (¬ r_1 = (63 : Int32) → ((r_1 = (123 : Int32) → B_B_repeated_38 Qc bc bs  0 0 rp Tp r_1 u_1) ∧ (¬ r_1 = (123 : Int32) → Qc Tp u_1))))))))) ∧ (¬ (p_wrong u_1) = (0 : Int32) → Qc Tp u_1)))
section PW
variable {p : Program} {l : Launch} {e : Env} {s : State} {m : MethodId} {args : Array Value} {below : List Frame} {meth : Method} {c : Code} {x : GX} {g : GE} {ex : va_W} {a : Nat → Nat} {A : Nat → Prop} {o : Nat}
set_option maxHeartbeats 8000000 in
set_option maxRecDepth 20000 in
theorem wB_B_repeated_100 (S : CallFix p m c b_B_repeated 5 s args lw_tg "PatternBench") (hr : meth.sig.returnType = some (.object "PatternBench$Part")) (hlk : meth.locks = false) (hK : GK x s) (hE : EN g A s s.heap) (hA : ∀ q : Nat, s.heap.size ≤ q → A q) {Qc : PT → PS → Prop} {bc bs : Nat}  : ∀ (k n0 : Nat) (hk : k ≤ bc) (hn : n0 ≤ bs) (b0 : Nat) (T0 : PT) (x2 : Int32) (x3 : Int32) (t0 : Int32) (u : PS) (a : Nat → Nat) (f0 : va_W) (hp0 : TP x g f0 T0 b0) (ls : Array Slot) (H : Heap) (locs : List Loc), lv_has ls 5 [(1, .ref b0), (2, .int x2), (3, .int x3)] → wd x A s.heap (pcl x g o a u ++ (f0 ++ ex)) H locs → B_B_repeated_100 Qc bc bs  k n0 b0 T0 x2 x3 t0 u → W p l e (rmN (9) bc bs) s m args below meth c H locs k n0 (MQ below (QeP x g (pcl x g o) ex A Qc) args s bc bs A) (F0 m 100 ls [.int t0]) := by
  intro k n0 hk hn b0 T0 x2 x3 t0 u a f0 hp0 ls H locs hl hw h
  refine lv_istore (lv' := [(4, .int t0), (1, .ref b0), (2, .int x2), (3, .int x3)]) S.1 S.2.1 d_B_repeated_100 hl (by decide) rfl (fun ls hl => ?_)
  obtain ⟨hk_102, hn_102, h⟩ := h
  refine pm_newRep (R := rmN (9) bc bs) (cells := k) (slots := n0) S hK hA hw ⟨hk_102, hn_102⟩ d_B_repeated_102 (fun q_102 H hw => ?_)
  have h := h q_102
  refine lv_dup S.1 S.2.1 d_B_repeated_105 rfl ?_
  refine lv_aload_n S.1 S.2.1 d_B_repeated_106 rfl (lv_at hl 1 rfl) ?_
  refine lv_iload_n S.1 S.2.1 d_B_repeated_107 rfl (lv_at hl 2 rfl) ?_
  refine lv_iload_n S.1 S.2.1 d_B_repeated_108 rfl (lv_at hl 3 rfl) ?_
  refine lv_iload S.1 S.2.1 d_B_repeated_109 (lv_at hl 0 rfl) ?_
  obtain ⟨hc_111, hd_111, h⟩ := h
  refine pm_initRep (R := rmN (9) bc bs) (rest := [.ref q_102]) S hK hE hA hc_111 hd_111 hw (by show 8 ≤ 9; omega) (by show 64 * 8 ≤ 64 * (9); omega) ⟨hk_102, hn_102⟩ hl.1 (Nat.le_of_ble_eq_true rfl) d_B_repeated_111 (fun H locs hw => ?_)
  have hp_111 : TP x g ((q_102, .inr (9, [.ref b0, .int x2, .int x3, .int t0])) :: f0) (tRep T0 x2 x3 t0) q_102 := TP_rep (TP.mono (fun q9 h9 => List.mem_cons_of_mem _ h9) hp0) List.mem_cons_self
  refine W.widen (k := bc) (n := bs) hk_102 hn_102 ?_
  exact w_pretE S hr hlk hp_111 hw h d_B_repeated_114
set_option maxHeartbeats 8000000 in
set_option maxRecDepth 20000 in
theorem wB_B_repeated_70 (S : CallFix p m c b_B_repeated 5 s args lw_tg "PatternBench") (hr : meth.sig.returnType = some (.object "PatternBench$Part")) (hlk : meth.locks = false) (hK : GK x s) (hE : EN g A s s.heap) (hA : ∀ q : Nat, s.heap.size ≤ q → A q) {Qc : PT → PS → Prop} {bc bs : Nat}  : ∀ (k n0 : Nat) (hk : k ≤ bc) (hn : n0 ≤ bs) (b0 : Nat) (T0 : PT) (x2 : Int32) (x3 : Int32) (u : PS) (a : Nat → Nat) (f0 : va_W) (hp0 : TP x g f0 T0 b0) (ls : Array Slot) (H : Heap) (locs : List Loc), lv_has ls 5 [(0, .ref o), (1, .ref b0), (2, .int x2), (3, .int x3)] → wd x A s.heap (pcl x g o a u ++ (f0 ++ ex)) H locs → B_B_repeated_70 Qc bc bs  k n0 b0 T0 x2 x3 u → W p l e (rmN (9) bc bs) s m args below meth c H locs k n0 (MQ below (QeP x g (pcl x g o) ex A Qc) args s bc bs A) (F0 m 70 ls []) := by
  intro k n0 hk hn b0 T0 x2 x3 u a f0 hp0 ls H locs hl hw h
  refine lv_aload_n S.1 S.2.1 d_B_repeated_70 rfl (lv_at hl 0 rfl) ?_
  refine lv_bipush (v := 63) S.1 S.2.1 d_B_repeated_71 (by decide) ?_
  refine w_ciF hA hw (w_rvE (rest := []) S hK hE hA hw (c_B_skip l (63 : Int32) u _ _ h) (ci := 1) (q0 := 0) rfl rfl (w_cb (fr := 0) (lv := 0) S.2.2.2.2 k_447 k_444 k_1 yd_B_skip rfl rfl ⟨by show 7 + 1 ≤ 9; omega, by show 8 + (2 + 11) + 64 * (7) ≤ 64 * (9); omega⟩) k_446 s_5 rfl hl.1 rfl (Nat.le_of_ble_eq_true rfl) d_B_repeated_73 ⟨hk, hn⟩) (fun r_73 u_73 H locs h hw => ?_)
  refine lv_if_eq (tgt := 84) S.1 S.2.1 d_B_repeated_76 (by decide) (fun q_76 => ?_) (fun q_76 => ?_)
  · have h := h.1 q_76
    refine lv_aload_n S.1 S.2.1 d_B_repeated_84 rfl (lv_at hl 0 rfl) ?_
    refine lv_bipush (v := 43) S.1 S.2.1 d_B_repeated_85 (by decide) ?_
    refine w_ciF hA hw (w_rvE (rest := []) S hK hE hA hw (c_B_skip l (43 : Int32) u_73 _ _ h) (ci := 1) (q0 := 0) rfl rfl (w_cb (fr := 0) (lv := 0) S.2.2.2.2 k_447 k_444 k_1 yd_B_skip rfl rfl ⟨by show 7 + 1 ≤ 9; omega, by show 8 + (2 + 11) + 64 * (7) ≤ 64 * (9); omega⟩) k_446 s_5 rfl hl.1 rfl (Nat.le_of_ble_eq_true rfl) d_B_repeated_87 ⟨hk, hn⟩) (fun r_87 u_87 H locs h hw => ?_)
    refine lv_if_eq (tgt := 98) S.1 S.2.1 d_B_repeated_90 (by decide) (fun q_90 => ?_) (fun q_90 => ?_)
    · have h := h.1 q_90
      refine lv_bipush (v := 32) S.1 S.2.1 d_B_repeated_98 (by decide) ?_
      exact wB_B_repeated_100 S hr hlk hK hE hA  k n0 hk hn b0 T0 x2 x3 (32 : Int32) u_87 a f0 hp0 _ _ _ (lv_sub hl [1, 2, 3] rfl) hw h
    · have h := h.2 q_90
      refine lv_bipush (v := 43) S.1 S.2.1 d_B_repeated_93 (by decide) ?_
      refine lv_goto (tgt := 100) S.1 S.2.1 d_B_repeated_95 (by decide) ?_
      exact wB_B_repeated_100 S hr hlk hK hE hA  k n0 hk hn b0 T0 x2 x3 (43 : Int32) u_87 a f0 hp0 _ _ _ (lv_sub hl [1, 2, 3] rfl) hw h
  · have h := h.2 q_76
    refine lv_bipush (v := 63) S.1 S.2.1 d_B_repeated_79 (by decide) ?_
    refine lv_goto (tgt := 100) S.1 S.2.1 d_B_repeated_81 (by decide) ?_
    exact wB_B_repeated_100 S hr hlk hK hE hA  k n0 hk hn b0 T0 x2 x3 (63 : Int32) u_73 a f0 hp0 _ _ _ (lv_sub hl [1, 2, 3] rfl) hw h
set_option maxHeartbeats 8000000 in
set_option maxRecDepth 20000 in
theorem wB_B_repeated_38 (S : CallFix p m c b_B_repeated 5 s args lw_tg "PatternBench") (hr : meth.sig.returnType = some (.object "PatternBench$Part")) (hlk : meth.locks = false) (hK : GK x s) (hE : EN g A s s.heap) (hA : ∀ q : Nat, s.heap.size ≤ q → A q) {Qc : PT → PS → Prop} {bc bs : Nat}  : ∀ (k n0 : Nat) (hk : k ≤ bc) (hn : n0 ≤ bs) (b0 : Nat) (T0 : PT) (x2 : Int32) (u : PS) (a : Nat → Nat) (f0 : va_W) (hp0 : TP x g f0 T0 b0) (ls : Array Slot) (H : Heap) (locs : List Loc), lv_has ls 5 [(0, .ref o), (1, .ref b0), (2, .int x2)] → wd x A s.heap (pcl x g o a u ++ (f0 ++ ex)) H locs → B_B_repeated_38 Qc bc bs  k n0 b0 T0 x2 u → W p l e (rmN (9) bc bs) s m args below meth c H locs k n0 (MQ below (QeP x g (pcl x g o) ex A Qc) args s bc bs A) (F0 m 38 ls []) := by
  intro k n0 hk hn b0 T0 x2 u a f0 hp0 ls H locs hl hw h
  refine lv_aload_n S.1 S.2.1 d_B_repeated_38 rfl (lv_at hl 0 rfl) ?_
  refine lv_dup S.1 S.2.1 d_B_repeated_39 rfl ?_
  refine pg_at S hK hw d_B_repeated_40 ?_
  refine lv_iconst (v := 1) S.1 S.2.1 d_B_repeated_43 (by decide) ?_
  refine lv_iadd S.1 S.2.1 d_B_repeated_44 ?_
  refine pp_at S hK hw d_B_repeated_45 (fun H locs hw => ?_)
  refine lv_iconst (v := 0) S.1 S.2.1 d_B_repeated_48 (by decide) ?_
  refine lv_istore_n (lv' := [(3, .int (0 : Int32)), (0, .ref o), (1, .ref b0), (2, .int x2)]) S.1 S.2.1 d_B_repeated_49 rfl hl (by decide) rfl (fun ls hl => ?_)
  refine lv_iload_n S.1 S.2.1 d_B_repeated_50 rfl (lv_at hl 3 rfl) ?_
  refine lv_bipush (v := 123) S.1 S.2.1 d_B_repeated_51 (by decide) ?_
  refine lv_icmp_ne (tgt := 70) S.1 S.2.1 d_B_repeated_53 (by decide) (fun q_53 => ?_) (fun q_53 => ?_)
  · have h := h.2 q_53
    exact wB_B_repeated_70 S hr hlk hK hE hA  k n0 hk hn b0 T0 x2 (0 : Int32) (ps_at u ((p_at u) + (1 : Int32))) a f0 hp0 _ _ _ (lv_sub hl [1, 2, 3, 0] rfl) hw h
  · have h := h.1 q_53
    refine lv_aload_n S.1 S.2.1 d_B_repeated_56 rfl (lv_at hl 1 rfl) ?_
    refine lv_iconst (v := 0) S.1 S.2.1 d_B_repeated_57 (by decide) ?_
    refine lv_bipush (v := 9) S.1 S.2.1 d_B_repeated_58 (by decide) ?_
    refine w_ciF hA hw (w_rvE (rest := []) S hK hE hA hw (c_B_digit l (0 : Int32) (9 : Int32) (ps_at u ((p_at u) + (1 : Int32))) _ _ h) (ci := 1) (q0 := 0) rfl rfl (w_cb (fr := 0) (lv := 0) S.2.2.2.2 k_461 k_458 k_1 yd_B_digit rfl rfl ⟨by show 7 + 1 ≤ 9; omega, by show 8 + (4 + 11) + 64 * (7) ≤ 64 * (9); omega⟩) k_460 s_7 rfl hl.1 rfl (Nat.le_of_ble_eq_true rfl) d_B_repeated_60 ⟨hk, hn⟩) (fun r_60 u_60 H locs h hw => ?_)
    refine lv_istore_n (lv' := [(3, .int r_60), (0, .ref o), (1, .ref b0), (2, .int x2)]) S.1 S.2.1 d_B_repeated_63 rfl hl (by decide) rfl (fun ls hl => ?_)
    refine lv_aload_n S.1 S.2.1 d_B_repeated_64 rfl (lv_at hl 1 rfl) ?_
    refine lv_bipush (v := 125) S.1 S.2.1 d_B_repeated_65 (by decide) ?_
    refine w_cvF hA hw (w_rvE (rest := []) S hK hE hA hw (c_B_expect l (125 : Int32) u_60 _ _ h) (ci := 1) (q0 := 0) rfl rfl (w_cb (fr := 0) (lv := 0) S.2.2.2.2 k_469 k_466 k_1 yd_B_expect rfl rfl ⟨by show 8 + 1 ≤ 9; omega, by show 8 + (2 + 11) + 64 * (8) ≤ 64 * (9); omega⟩) k_468 s_9 rfl hl.1 rfl (Nat.le_of_ble_eq_true rfl) d_B_repeated_67 ⟨hk, hn⟩) (fun u_67 H locs h hw => ?_)
    exact wB_B_repeated_70 S hr hlk hK hE hA  k n0 hk hn b0 T0 x2 r_60 u_67 a f0 hp0 _ _ _ (lv_sub hl [1, 2, 3, 0] rfl) hw h
set_option maxHeartbeats 8000000 in
set_option maxRecDepth 20000 in
theorem c_B_repeated {x : GX} {g : GE} {o : Nat} {ex : va_W} {a : Nat → Nat} {l : Launch} (bc bs : Nat) (Tp : PT) (rp : Nat)  {fp : va_W} (hTp : TP x g fp Tp rp) (u : PS) (sz : Nat) (Qc : PT → PS → Prop) (h : P_B_repeated bc bs Tp rp  u Qc) : Met l y_B_repeated (wM y_B_repeated b_B_repeated 5 (some (.object "PatternBench$Part"))) (rmN (9) bc bs) (PreE x g (pcl x g o) (fp ++ ex) [.ref o, .ref rp] a u sz) (QeP x g (pcl x g o) ex (va_A (pcl x g o a u ++ (fp ++ ex)) sz) Qc) bc bs (va_A (pcl x g o a u ++ (fp ++ ex)) sz) := by
  refine w_enterE (by decide +kernel) (Nat.le_of_ble_eq_true rfl) (fun p e s m args below meth c S hr hlk hnm hK hE hA hw ls hl => ?_)
  have hl : lv_has ls 5 [(0, .ref o), (1, .ref rp)] := hl
  refine lv_aload_n S.1 S.2.1 d_B_repeated_0 rfl (lv_at hl 0 rfl) ?_
  refine w_ciF hA hw (w_rvE (rest := []) S hK hE hA hw (c_B_here l  u _ _ h) (ci := 1) (q0 := 0) rfl rfl (w_cb (fr := 0) (lv := 0) S.2.2.2.2 k_403 k_400 k_1 yd_B_here rfl rfl ⟨by show 6 + 1 ≤ 9; omega, by show 8 + (1 + 11) + 64 * (6) ≤ 64 * (9); omega⟩) k_402 s_2 rfl hl.1 rfl (Nat.le_of_ble_eq_true rfl) d_B_repeated_1 ⟨(Nat.zero_le _), (Nat.zero_le _)⟩) (fun r_1 u_1 H locs h hw => ?_)
  refine lv_istore_n (lv' := [(2, .int r_1), (0, .ref o), (1, .ref rp)]) S.1 S.2.1 d_B_repeated_4 rfl hl (by decide) rfl (fun ls hl => ?_)
  refine lv_aload_n S.1 S.2.1 d_B_repeated_5 rfl (lv_at hl 1 rfl) ?_
  refine pg_wrong S hK hw d_B_repeated_6 ?_
  refine lv_if_ne (tgt := 36) S.1 S.2.1 d_B_repeated_9 (by decide) (fun q_9 => ?_) (fun q_9 => ?_)
  · have h := h.2 q_9
    refine lv_aload_n S.1 S.2.1 d_B_repeated_36 rfl (lv_at hl 2 rfl) ?_
    refine W.widen (k := bc) (n := bs) (Nat.zero_le _) (Nat.zero_le _) ?_
    exact w_pretE S hr hlk hTp hw h d_B_repeated_37
  · have h := h.1 q_9
    refine lv_iload_n S.1 S.2.1 d_B_repeated_12 rfl (lv_at hl 0 rfl) ?_
    refine lv_bipush (v := 42) S.1 S.2.1 d_B_repeated_13 (by decide) ?_
    refine lv_icmp_eq (tgt := 38) S.1 S.2.1 d_B_repeated_15 (by decide) (fun q_15 => ?_) (fun q_15 => ?_)
    · have h := h.1 q_15
      exact wB_B_repeated_38 S hr hlk hK hE hA  0 0 (Nat.zero_le _) (Nat.zero_le _) rp Tp r_1 u_1 a fp hTp _ _ _ (lv_sub hl [1, 2, 0] rfl) hw h
    · have h := h.2 q_15
      refine lv_iload_n S.1 S.2.1 d_B_repeated_18 rfl (lv_at hl 0 rfl) ?_
      refine lv_bipush (v := 43) S.1 S.2.1 d_B_repeated_19 (by decide) ?_
      refine lv_icmp_eq (tgt := 38) S.1 S.2.1 d_B_repeated_21 (by decide) (fun q_21 => ?_) (fun q_21 => ?_)
      · have h := h.1 q_21
        exact wB_B_repeated_38 S hr hlk hK hE hA  0 0 (Nat.zero_le _) (Nat.zero_le _) rp Tp r_1 u_1 a fp hTp _ _ _ (lv_sub hl [1, 2, 0] rfl) hw h
      · have h := h.2 q_21
        refine lv_iload_n S.1 S.2.1 d_B_repeated_24 rfl (lv_at hl 0 rfl) ?_
        refine lv_bipush (v := 63) S.1 S.2.1 d_B_repeated_25 (by decide) ?_
        refine lv_icmp_eq (tgt := 38) S.1 S.2.1 d_B_repeated_27 (by decide) (fun q_27 => ?_) (fun q_27 => ?_)
        · have h := h.1 q_27
          exact wB_B_repeated_38 S hr hlk hK hE hA  0 0 (Nat.zero_le _) (Nat.zero_le _) rp Tp r_1 u_1 a fp hTp _ _ _ (lv_sub hl [1, 2, 0] rfl) hw h
        · have h := h.2 q_27
          refine lv_iload_n S.1 S.2.1 d_B_repeated_30 rfl (lv_at hl 0 rfl) ?_
          refine lv_bipush (v := 123) S.1 S.2.1 d_B_repeated_31 (by decide) ?_
          refine lv_icmp_eq (tgt := 38) S.1 S.2.1 d_B_repeated_33 (by decide) (fun q_33 => ?_) (fun q_33 => ?_)
          · have h := h.1 q_33
            exact wB_B_repeated_38 S hr hlk hK hE hA  0 0 (Nat.zero_le _) (Nat.zero_le _) rp Tp r_1 u_1 a fp hTp _ _ _ (lv_sub hl [1, 2, 0] rfl) hw h
          · have h := h.2 q_33
            refine lv_aload_n S.1 S.2.1 d_B_repeated_36 rfl (lv_at hl 2 rfl) ?_
            refine W.widen (k := bc) (n := bs) (Nat.zero_le _) (Nat.zero_le _) ?_
            exact w_pretE S hr hlk hTp hw h d_B_repeated_37
end PW
