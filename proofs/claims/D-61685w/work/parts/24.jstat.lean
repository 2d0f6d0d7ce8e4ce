abbrev b_J_canC : ByteArray := prog_22_method_3_code
def y_J_canC : MethodName := ⟨"java/lang/StringLatin1", "canEncode", "(C)Z"⟩
theorem yd_J_canC : y_J_canC.cls ≠ "java/lang/invoke/MethodHandle" ∧ y_J_canC.cls ≠ "java/lang/invoke/VarHandle" ∧ (parseMethodDescriptor y_J_canC.desc).map (fun d => d.parameters.length) = some 1 := by decide +kernel
def P_J_canC (x0 : Int32) (Qc : Int32 → Prop) : Prop := (((255 : Int32) < x0 → Qc (0 : Int32)) ∧ (¬ (255 : Int32) < x0 → Qc (1 : Int32)))
theorem d_J_canC_0 : decode b_J_canC 0 = .ok (.iload_n 0, 1) := by decide +kernel
theorem d_J_canC_1 : decode b_J_canC 1 = .ok (.sipush 255, 3) := by decide +kernel
theorem d_J_canC_4 : decode b_J_canC 4 = .ok (.if_icmp .gt 7, 3) := by decide +kernel
theorem d_J_canC_7 : decode b_J_canC 7 = .ok (.iconst 1, 1) := by decide +kernel
theorem d_J_canC_8 : decode b_J_canC 8 = .ok (.goto 4, 3) := by decide +kernel
theorem d_J_canC_11 : decode b_J_canC 11 = .ok (.iconst 0, 1) := by decide +kernel
theorem d_J_canC_12 : decode b_J_canC 12 = .ok (.ireturn, 1) := by decide +kernel
section JS
variable {p : Program} {l : Launch} {e : Env} {s : State} {m : MethodId} {args : Array Value} {below : List Frame} {meth : Method} {c : Code}
set_option maxHeartbeats 4000000 in
set_option maxRecDepth 20000 in
theorem c_J_canC (l : Launch) (x0 : Int32) (Qc : Int32 → Prop) (h : P_J_canC x0 Qc) : Met l y_J_canC (wM y_J_canC b_J_canC 1 (some .boolean)) (rmN 0 0 0) (PreN [.int x0]) (QcN Qc) 0 0 (fun _ => False) := by
  refine w_enterNF (by decide +kernel) (Nat.le_of_ble_eq_true rfl) (fun p e s m args below meth c S hr hlk ls hl => ?_)
  have hl : lv_has ls 1 [(0, .int x0)] := hl
  refine lv_iload_n S.1 S.2.1 d_J_canC_0 rfl (lv_at hl 0 rfl) ?_
  refine lv_sipush (v := 255) S.1 S.2.1 d_J_canC_1 (by decide) ?_
  refine lv_icmp_gt (tgt := 11) S.1 S.2.1 d_J_canC_4 (by decide) (fun q_4 => ?_) (fun q_4 => ?_)
  · have h := h.1 q_4
    refine lv_iconst (v := 0) S.1 S.2.1 d_J_canC_11 (by decide) ?_
    exact w_zretN S hr hlk isB0 h d_J_canC_12
  · have h := h.2 q_4
    refine lv_iconst (v := 1) S.1 S.2.1 d_J_canC_7 (by decide) ?_
    refine lv_goto (tgt := 12) S.1 S.2.1 d_J_canC_8 (by decide) ?_
    exact w_zretN S hr hlk isB1 h d_J_canC_12
end JS
abbrev b_J_canI : ByteArray := prog_22_method_4_code
def y_J_canI : MethodName := ⟨"java/lang/StringLatin1", "canEncode", "(I)Z"⟩
theorem yd_J_canI : y_J_canI.cls ≠ "java/lang/invoke/MethodHandle" ∧ y_J_canI.cls ≠ "java/lang/invoke/VarHandle" ∧ (parseMethodDescriptor y_J_canI.desc).map (fun d => d.parameters.length) = some 1 := by decide +kernel
def P_J_canI (x0 : Int32) (Qc : Int32 → Prop) : Prop := ((x0 < (0 : Int32) → Qc (0 : Int32)) ∧ (¬ x0 < (0 : Int32) → (((255 : Int32) < x0 → Qc (0 : Int32)) ∧ (¬ (255 : Int32) < x0 → Qc (1 : Int32)))))
theorem d_J_canI_0 : decode b_J_canI 0 = .ok (.iload_n 0, 1) := by decide +kernel
theorem d_J_canI_1 : decode b_J_canI 1 = .ok (.ifCond .lt 14, 3) := by decide +kernel
theorem d_J_canI_4 : decode b_J_canI 4 = .ok (.iload_n 0, 1) := by decide +kernel
theorem d_J_canI_5 : decode b_J_canI 5 = .ok (.sipush 255, 3) := by decide +kernel
theorem d_J_canI_8 : decode b_J_canI 8 = .ok (.if_icmp .gt 7, 3) := by decide +kernel
theorem d_J_canI_11 : decode b_J_canI 11 = .ok (.iconst 1, 1) := by decide +kernel
theorem d_J_canI_12 : decode b_J_canI 12 = .ok (.goto 4, 3) := by decide +kernel
theorem d_J_canI_15 : decode b_J_canI 15 = .ok (.iconst 0, 1) := by decide +kernel
theorem d_J_canI_16 : decode b_J_canI 16 = .ok (.ireturn, 1) := by decide +kernel
section JS
variable {p : Program} {l : Launch} {e : Env} {s : State} {m : MethodId} {args : Array Value} {below : List Frame} {meth : Method} {c : Code}
set_option maxHeartbeats 4000000 in
set_option maxRecDepth 20000 in
theorem c_J_canI (l : Launch) (x0 : Int32) (Qc : Int32 → Prop) (h : P_J_canI x0 Qc) : Met l y_J_canI (wM y_J_canI b_J_canI 1 (some .boolean)) (rmN 0 0 0) (PreN [.int x0]) (QcN Qc) 0 0 (fun _ => False) := by
  refine w_enterNF (by decide +kernel) (Nat.le_of_ble_eq_true rfl) (fun p e s m args below meth c S hr hlk ls hl => ?_)
  have hl : lv_has ls 1 [(0, .int x0)] := hl
  refine lv_iload_n S.1 S.2.1 d_J_canI_0 rfl (lv_at hl 0 rfl) ?_
  refine lv_if_lt (tgt := 15) S.1 S.2.1 d_J_canI_1 (by decide) (fun q_1 => ?_) (fun q_1 => ?_)
  · have h := h.1 q_1
    refine lv_iconst (v := 0) S.1 S.2.1 d_J_canI_15 (by decide) ?_
    exact w_zretN S hr hlk isB0 h d_J_canI_16
  · have h := h.2 q_1
    refine lv_iload_n S.1 S.2.1 d_J_canI_4 rfl (lv_at hl 0 rfl) ?_
    refine lv_sipush (v := 255) S.1 S.2.1 d_J_canI_5 (by decide) ?_
    refine lv_icmp_gt (tgt := 15) S.1 S.2.1 d_J_canI_8 (by decide) (fun q_8 => ?_) (fun q_8 => ?_)
    · have h := h.1 q_8
      refine lv_iconst (v := 0) S.1 S.2.1 d_J_canI_15 (by decide) ?_
      exact w_zretN S hr hlk isB0 h d_J_canI_16
    · have h := h.2 q_8
      refine lv_iconst (v := 1) S.1 S.2.1 d_J_canI_11 (by decide) ?_
      refine lv_goto (tgt := 16) S.1 S.2.1 d_J_canI_12 (by decide) ?_
      exact w_zretN S hr hlk isB1 h d_J_canI_16
end JS
abbrev b_J_newLen : ByteArray := prog_34_method_27_code
def y_J_newLen : MethodName := ⟨"jdk/internal/util/ArraysSupport", "newLength", "(III)I"⟩
theorem yd_J_newLen : y_J_newLen.cls ≠ "java/lang/invoke/MethodHandle" ∧ y_J_newLen.cls ≠ "java/lang/invoke/VarHandle" ∧ (parseMethodDescriptor y_J_newLen.desc).map (fun d => d.parameters.length) = some 3 := by decide +kernel
def B_J_newLen_21 (Qc : Int32 → Prop)  (x0 : Int32) (x1 : Int32) : Prop := False
def P_J_newLen (x0 : Int32) (x1 : Int32) (x2 : Int32) (Qc : Int32 → Prop) : Prop := (∀ x3_7 : Int32, x3_7 = (x0 + (if x1 < x2 then x2 else x1)) → ((x3_7 ≤ (0 : Int32) → B_J_newLen_21 Qc  x0 x1) ∧ (¬ x3_7 ≤ (0 : Int32) → (((2147483639 : Int32) < x3_7 → B_J_newLen_21 Qc  x0 x1) ∧ (¬ (2147483639 : Int32) < x3_7 → Qc x3_7)))))
theorem d_J_newLen_0 : decode b_J_newLen 0 = .ok (.iload_n 0, 1) := by decide +kernel
theorem d_J_newLen_1 : decode b_J_newLen 1 = .ok (.iload_n 1, 1) := by decide +kernel
theorem d_J_newLen_2 : decode b_J_newLen 2 = .ok (.iload_n 2, 1) := by decide +kernel
theorem d_J_newLen_3 : decode b_J_newLen 3 = .ok (.invokestatic 194, 3) := by decide +kernel
theorem d_J_newLen_6 : decode b_J_newLen 6 = .ok (.iadd, 1) := by decide +kernel
theorem d_J_newLen_7 : decode b_J_newLen 7 = .ok (.istore_n 3, 1) := by decide +kernel
theorem d_J_newLen_8 : decode b_J_newLen 8 = .ok (.iconst 0, 1) := by decide +kernel
theorem d_J_newLen_9 : decode b_J_newLen 9 = .ok (.iload_n 3, 1) := by decide +kernel
theorem d_J_newLen_10 : decode b_J_newLen 10 = .ok (.if_icmp .ge 11, 3) := by decide +kernel
theorem d_J_newLen_13 : decode b_J_newLen 13 = .ok (.iload_n 3, 1) := by decide +kernel
theorem d_J_newLen_14 : decode b_J_newLen 14 = .ok (.ldc 200, 2) := by decide +kernel
theorem d_J_newLen_16 : decode b_J_newLen 16 = .ok (.if_icmp .gt 5, 3) := by decide +kernel
theorem d_J_newLen_19 : decode b_J_newLen 19 = .ok (.iload_n 3, 1) := by decide +kernel
theorem d_J_newLen_20 : decode b_J_newLen 20 = .ok (.ireturn, 1) := by decide +kernel
theorem d_J_newLen_21 : decode b_J_newLen 21 = .ok (.iload_n 0, 1) := by decide +kernel
theorem d_J_newLen_22 : decode b_J_newLen 22 = .ok (.iload_n 1, 1) := by decide +kernel
theorem d_J_newLen_23 : decode b_J_newLen 23 = .ok (.invokestatic 201, 3) := by decide +kernel
theorem d_J_newLen_26 : decode b_J_newLen 26 = .ok (.ireturn, 1) := by decide +kernel
section JS
variable {p : Program} {l : Launch} {e : Env} {s : State} {m : MethodId} {args : Array Value} {below : List Frame} {meth : Method} {c : Code}
set_option maxHeartbeats 4000000 in
set_option maxRecDepth 20000 in
theorem wB_J_newLen_21 (S : CallFix p m c b_J_newLen 4 s args lw_tg "jdk/internal/util/ArraysSupport") (hr : meth.sig.returnType = some .int) (hlk : meth.locks = false) {Qc : Int32 → Prop} : ∀ (x0 : Int32) (x1 : Int32) (ls : Array Slot), lv_has ls 4 [(0, .int x0), (1, .int x1)] → B_J_newLen_21 Qc  x0 x1 → W p l e (rmN 2 0 0) s m args below meth c s.heap [] 0 0 (MQ below (QcN Qc) args s 0 0 (fun _ => False)) (F0 m 21 ls []) := by
  intro x0 x1 ls hl h
  exact absurd h id
set_option maxHeartbeats 4000000 in
set_option maxRecDepth 20000 in
theorem c_J_newLen (l : Launch) (x0 : Int32) (x1 : Int32) (x2 : Int32) (Qc : Int32 → Prop) (h : P_J_newLen x0 x1 x2 Qc) : Met l y_J_newLen (wM y_J_newLen b_J_newLen 4 (some .int)) (rmN 2 0 0) (PreN [.int x0, .int x1, .int x2]) (QcN Qc) 0 0 (fun _ => False) := by
  refine w_enterNF (by decide +kernel) (Nat.le_of_ble_eq_true rfl) (fun p e s m args below meth c S hr hlk ls hl => ?_)
  have hl : lv_has ls 4 [(0, .int x0), (1, .int x1), (2, .int x2)] := hl
  refine lv_iload_n S.1 S.2.1 d_J_newLen_0 rfl (lv_at hl 0 rfl) ?_
  refine lv_iload_n S.1 S.2.1 d_J_newLen_1 rfl (lv_at hl 1 rfl) ?_
  refine lv_iload_n S.1 S.2.1 d_J_newLen_2 rfl (lv_at hl 2 rfl) ?_
  refine va_mmax S.1 S.2.1 (S.2.2.1.trans hl.1.symm) S.2.2.2.1 (S.2.2.2.2 _ k_300) (S.2.2.2.2 _ k_111) (S.2.2.2.2 _ k_7) (S.2.2.2.2 _ k_112) (Nat.le_of_ble_eq_true rfl) (Nat.le_of_ble_eq_true rfl) (Nat.zero_le _) (Nat.zero_le _) d_J_newLen_3 ?_
  refine lv_iadd S.1 S.2.1 d_J_newLen_6 ?_
  refine lv_topi (fun x3_7 ex3_7 => ?_)
  have h := h x3_7 ex3_7
  refine lv_istore_n (lv' := [(3, .int x3_7), (0, .int x0), (1, .int x1), (2, .int x2)]) S.1 S.2.1 d_J_newLen_7 rfl hl (by decide) rfl (fun ls hl => ?_)
  refine lv_iconst (v := 0) S.1 S.2.1 d_J_newLen_8 (by decide) ?_
  refine lv_iload_n S.1 S.2.1 d_J_newLen_9 rfl (lv_at hl 0 rfl) ?_
  refine lv_icmp_ge (tgt := 21) S.1 S.2.1 d_J_newLen_10 (by decide) (fun q_10 => ?_) (fun q_10 => ?_)
  · have h := h.1 q_10
    exact wB_J_newLen_21 S hr hlk  x0 x1 _ (lv_sub hl [1, 2] rfl) h
  · have h := h.2 q_10
    refine lv_iload_n S.1 S.2.1 d_J_newLen_13 rfl (lv_at hl 0 rfl) ?_
    refine lv_ldc (v := 2147483639) S.1 S.2.1 S.2.2.2.1 (S.2.2.2.2 _ k_301) d_J_newLen_14 ?_
    refine lv_icmp_gt (tgt := 21) S.1 S.2.1 d_J_newLen_16 (by decide) (fun q_16 => ?_) (fun q_16 => ?_)
    · have h := h.1 q_16
      exact wB_J_newLen_21 S hr hlk  x0 x1 _ (lv_sub hl [1, 2] rfl) h
    · have h := h.2 q_16
      refine lv_iload_n S.1 S.2.1 d_J_newLen_19 rfl (lv_at hl 0 rfl) ?_
      exact w_iretN S hr hlk h d_J_newLen_20
end JS
