abbrev b_S_lat : ByteArray := prog_20_method_154_code
def y_S_lat : MethodName := ⟨"java/lang/String", "isLatin1", "()Z"⟩
theorem yd_S_lat : y_S_lat.cls ≠ "java/lang/invoke/MethodHandle" ∧ y_S_lat.cls ≠ "java/lang/invoke/VarHandle" ∧ (parseMethodDescriptor y_S_lat.desc).map (fun d => d.parameters.length) = some 0 := by decide +kernel
theorem d_S_lat_0 : decode b_S_lat 0 = .ok (.getstatic 38, 3) := by decide +kernel
theorem d_S_lat_3 : decode b_S_lat 3 = .ok (.ifCond .eq 14, 3) := by decide +kernel
theorem d_S_lat_6 : decode b_S_lat 6 = .ok (.aload_n 0, 1) := by decide +kernel
theorem d_S_lat_7 : decode b_S_lat 7 = .ok (.getfield 15, 3) := by decide +kernel
theorem d_S_lat_10 : decode b_S_lat 10 = .ok (.ifCond .ne 7, 3) := by decide +kernel
theorem d_S_lat_13 : decode b_S_lat 13 = .ok (.iconst 1, 1) := by decide +kernel
theorem d_S_lat_14 : decode b_S_lat 14 = .ok (.goto 4, 3) := by decide +kernel
theorem d_S_lat_17 : decode b_S_lat 17 = .ok (.iconst 0, 1) := by decide +kernel
theorem d_S_lat_18 : decode b_S_lat 18 = .ok (.ireturn, 1) := by decide +kernel
def P_S_lat  (u : Unit) (Qc : Int32 → Unit → Prop) : Prop := (((1 : Int32) = (0 : Int32) → Qc (0 : Int32) u) ∧ (¬ (1 : Int32) = (0 : Int32) → (((0 : Int32) = (0 : Int32) → Qc (1 : Int32) u) ∧ (¬ (0 : Int32) = (0 : Int32) → Qc (0 : Int32) u))))
section SW
variable {p : Program} {l : Launch} {e : Env} {s : State} {m : MethodId} {args : Array Value} {below : List Frame} {meth : Method} {c : Code} {x : GX} {g : GE} {ex : va_W} {a : Nat → Nat} {A : Nat → Prop}
set_option maxHeartbeats 4000000 in
set_option maxRecDepth 20000 in
theorem c_S_lat {x : GX} {g : GE}  {ex : va_W} {a : Nat → Nat} (l : Launch)  (u : Unit) (sz : Nat) (Qc : Int32 → Unit → Prop) (h : P_S_lat  u Qc) : Met l y_S_lat (wM y_S_lat b_S_lat 1 (some .boolean)) (rmN 0 0 0) (PreE x g ucl ex [.ref (g.2 1)] a u sz) (QfI x ucl ex a (va_A (ucl a u ++ ex) sz) Qc) 0 0 (va_A (ucl a u ++ ex) sz) := by
  refine w_enterE (by decide +kernel) (Nat.le_of_ble_eq_true rfl) (fun p e s m args below meth c S hr hlk hnm hK hE hA hw ls hl => ?_)
  have hl : lv_has ls 1 [(0, .ref (g.2 1))] := hl
  refine va_gets S.1 S.2.1 hE.2.1 hw.2.2 S.2.2.2.1 (S.2.2.2.2 _ k_206) (fun _ h9 => h9) d_S_lat_0 ?_
  refine lv_if_eq (tgt := 17) S.1 S.2.1 d_S_lat_3 (by decide) (fun q_3 => ?_) (fun q_3 => ?_)
  · have h := h.1 q_3
    refine lv_iconst (v := 0) S.1 S.2.1 d_S_lat_17 (by decide) ?_
    exact w_zretF S hr hlk isB0 hw h d_S_lat_18
  · have h := h.2 q_3
    refine lv_aload_n S.1 S.2.1 d_S_lat_6 rfl (lv_at hl 0 rfl) ?_
    refine str_coder S hE hw d_S_lat_7 ?_
    refine lv_if_ne (tgt := 17) S.1 S.2.1 d_S_lat_10 (by decide) (fun q_10 => ?_) (fun q_10 => ?_)
    · have h := h.2 q_10
      refine lv_iconst (v := 0) S.1 S.2.1 d_S_lat_17 (by decide) ?_
      exact w_zretF S hr hlk isB0 hw h d_S_lat_18
    · have h := h.1 q_10
      refine lv_iconst (v := 1) S.1 S.2.1 d_S_lat_13 (by decide) ?_
      refine lv_goto (tgt := 18) S.1 S.2.1 d_S_lat_14 (by decide) ?_
      exact w_zretF S hr hlk isB1 hw h d_S_lat_18
end SW
abbrev b_S_coder : ByteArray := prog_20_method_152_code
def y_S_coder : MethodName := ⟨"java/lang/String", "coder", "()B"⟩
theorem yd_S_coder : y_S_coder.cls ≠ "java/lang/invoke/MethodHandle" ∧ y_S_coder.cls ≠ "java/lang/invoke/VarHandle" ∧ (parseMethodDescriptor y_S_coder.desc).map (fun d => d.parameters.length) = some 0 := by decide +kernel
theorem d_S_coder_0 : decode b_S_coder 0 = .ok (.getstatic 38, 3) := by decide +kernel
theorem d_S_coder_3 : decode b_S_coder 3 = .ok (.ifCond .eq 10, 3) := by decide +kernel
theorem d_S_coder_6 : decode b_S_coder 6 = .ok (.aload_n 0, 1) := by decide +kernel
theorem d_S_coder_7 : decode b_S_coder 7 = .ok (.getfield 15, 3) := by decide +kernel
theorem d_S_coder_10 : decode b_S_coder 10 = .ok (.goto 4, 3) := by decide +kernel
theorem d_S_coder_13 : decode b_S_coder 13 = .ok (.iconst 1, 1) := by decide +kernel
theorem d_S_coder_14 : decode b_S_coder 14 = .ok (.ireturn, 1) := by decide +kernel
def P_S_coder  (u : Unit) (Qc : Int32 → Unit → Prop) : Prop := (((1 : Int32) = (0 : Int32) → (narrow .byte (.int (1 : Int32)) = .int (1 : Int32) ∧ Qc (1 : Int32) u)) ∧ (¬ (1 : Int32) = (0 : Int32) → (narrow .byte (.int (0 : Int32)) = .int (0 : Int32) ∧ Qc (0 : Int32) u)))
section SW
variable {p : Program} {l : Launch} {e : Env} {s : State} {m : MethodId} {args : Array Value} {below : List Frame} {meth : Method} {c : Code} {x : GX} {g : GE} {ex : va_W} {a : Nat → Nat} {A : Nat → Prop}
set_option maxHeartbeats 4000000 in
set_option maxRecDepth 20000 in
theorem c_S_coder {x : GX} {g : GE}  {ex : va_W} {a : Nat → Nat} (l : Launch)  (u : Unit) (sz : Nat) (Qc : Int32 → Unit → Prop) (h : P_S_coder  u Qc) : Met l y_S_coder (wM y_S_coder b_S_coder 1 (some .byte)) (rmN 0 0 0) (PreE x g ucl ex [.ref (g.2 1)] a u sz) (QfI x ucl ex a (va_A (ucl a u ++ ex) sz) Qc) 0 0 (va_A (ucl a u ++ ex) sz) := by
  refine w_enterE (by decide +kernel) (Nat.le_of_ble_eq_true rfl) (fun p e s m args below meth c S hr hlk hnm hK hE hA hw ls hl => ?_)
  have hl : lv_has ls 1 [(0, .ref (g.2 1))] := hl
  refine va_gets S.1 S.2.1 hE.2.1 hw.2.2 S.2.2.2.1 (S.2.2.2.2 _ k_206) (fun _ h9 => h9) d_S_coder_0 ?_
  refine lv_if_eq (tgt := 13) S.1 S.2.1 d_S_coder_3 (by decide) (fun q_3 => ?_) (fun q_3 => ?_)
  · have h := h.1 q_3
    refine lv_iconst (v := 1) S.1 S.2.1 d_S_coder_13 (by decide) ?_
    exact w_bretF S hr hlk h.1 hw h.2 d_S_coder_14
  · have h := h.2 q_3
    refine lv_aload_n S.1 S.2.1 d_S_coder_6 rfl (lv_at hl 0 rfl) ?_
    refine str_coder S hE hw d_S_coder_7 ?_
    refine lv_goto (tgt := 14) S.1 S.2.1 d_S_coder_10 (by decide) ?_
    exact w_bretF S hr hlk h.1 hw h.2 d_S_coder_14
end SW
abbrev b_S_length : ByteArray := prog_20_method_54_code
def y_S_length : MethodName := ⟨"java/lang/String", "length", "()I"⟩
theorem yd_S_length : y_S_length.cls ≠ "java/lang/invoke/MethodHandle" ∧ y_S_length.cls ≠ "java/lang/invoke/VarHandle" ∧ (parseMethodDescriptor y_S_length.desc).map (fun d => d.parameters.length) = some 0 := by decide +kernel
theorem d_S_length_0 : decode b_S_length 0 = .ok (.aload_n 0, 1) := by decide +kernel
theorem d_S_length_1 : decode b_S_length 1 = .ok (.getfield 9, 3) := by decide +kernel
theorem d_S_length_4 : decode b_S_length 4 = .ok (.arraylength, 1) := by decide +kernel
theorem d_S_length_5 : decode b_S_length 5 = .ok (.aload_n 0, 1) := by decide +kernel
theorem d_S_length_6 : decode b_S_length 6 = .ok (.invokevirtual 335, 3) := by decide +kernel
theorem d_S_length_9 : decode b_S_length 9 = .ok (.ishr, 1) := by decide +kernel
theorem d_S_length_10 : decode b_S_length 10 = .ok (.ireturn, 1) := by decide +kernel
def P_S_length  (u : Unit) (Qc : Int32 → Unit → Prop) : Prop := P_S_coder  u (fun r_6 u_6 => Qc ((19 : Int32) >>> (r_6 &&& 31)) u_6)
section SW
variable {p : Program} {l : Launch} {e : Env} {s : State} {m : MethodId} {args : Array Value} {below : List Frame} {meth : Method} {c : Code} {x : GX} {g : GE} {ex : va_W} {a : Nat → Nat} {A : Nat → Prop}
set_option maxHeartbeats 4000000 in
set_option maxRecDepth 20000 in
theorem c_S_length {x : GX} {g : GE}  {ex : va_W} {a : Nat → Nat} (l : Launch)  (u : Unit) (sz : Nat) (Qc : Int32 → Unit → Prop) (h : P_S_length  u Qc) : Met l y_S_length (wM y_S_length b_S_length 1 (some .int)) (rmN 1 0 0) (PreE x g ucl ex [.ref (g.2 1)] a u sz) (QfI x ucl ex a (va_A (ucl a u ++ ex) sz) Qc) 0 0 (va_A (ucl a u ++ ex) sz) := by
  refine w_enterE (by decide +kernel) (Nat.le_of_ble_eq_true rfl) (fun p e s m args below meth c S hr hlk hnm hK hE hA hw ls hl => ?_)
  have hl : lv_has ls 1 [(0, .ref (g.2 1))] := hl
  refine lv_aload_n S.1 S.2.1 d_S_length_0 rfl (lv_at hl 0 rfl) ?_
  refine str_value S hE hw d_S_length_1 ?_
  refine str_len S hE hw d_S_length_4 ?_
  refine lv_aload_n S.1 S.2.1 d_S_length_5 rfl (lv_at hl 0 rfl) ?_
  refine w_ciF hA hw (w_rvS (rest := [.int (19 : Int32)]) S hK hE hA hw (c_S_coder l  u _ _ h) (w_cb (fr := 0) (lv := 0) S.2.2.2.2 k_214 k_211 k_4 yd_S_coder rfl rfl ⟨Nat.le_of_ble_eq_true rfl, Nat.le_of_ble_eq_true rfl⟩) k_212 k_213 rfl hl.1 rfl (Nat.le_of_ble_eq_true rfl) d_S_length_6 ⟨(Nat.zero_le _), (Nat.zero_le _)⟩) (fun r_6 u_6 H locs h hw => ?_)
  refine lv_ishr S.1 S.2.1 d_S_length_9 ?_
  exact w_iretF S hr hlk hw h d_S_length_10
end SW
abbrev b_S_ioc : ByteArray := prog_22_method_23_code
def y_S_ioc : MethodName := ⟨"java/lang/StringLatin1", "indexOfChar", "([BIII)I"⟩
theorem yd_S_ioc : y_S_ioc.cls ≠ "java/lang/invoke/MethodHandle" ∧ y_S_ioc.cls ≠ "java/lang/invoke/VarHandle" ∧ (parseMethodDescriptor y_S_ioc.desc).map (fun d => d.parameters.length) = some 4 := by decide +kernel
theorem d_S_ioc_0 : decode b_S_ioc 0 = .ok (.iload_n 1, 1) := by decide +kernel
theorem d_S_ioc_1 : decode b_S_ioc 1 = .ok (.i2b, 1) := by decide +kernel
theorem d_S_ioc_2 : decode b_S_ioc 2 = .ok (.istore 4, 2) := by decide +kernel
theorem d_S_ioc_4 : decode b_S_ioc 4 = .ok (.iload_n 2, 1) := by decide +kernel
theorem d_S_ioc_5 : decode b_S_ioc 5 = .ok (.istore 5, 2) := by decide +kernel
theorem d_S_ioc_7 : decode b_S_ioc 7 = .ok (.iload 5, 2) := by decide +kernel
theorem d_S_ioc_9 : decode b_S_ioc 9 = .ok (.iload_n 3, 1) := by decide +kernel
theorem d_S_ioc_10 : decode b_S_ioc 10 = .ok (.if_icmp .ge 21, 3) := by decide +kernel
theorem d_S_ioc_13 : decode b_S_ioc 13 = .ok (.aload_n 0, 1) := by decide +kernel
theorem d_S_ioc_14 : decode b_S_ioc 14 = .ok (.iload 5, 2) := by decide +kernel
theorem d_S_ioc_16 : decode b_S_ioc 16 = .ok (.baload, 1) := by decide +kernel
theorem d_S_ioc_17 : decode b_S_ioc 17 = .ok (.iload 4, 2) := by decide +kernel
theorem d_S_ioc_19 : decode b_S_ioc 19 = .ok (.if_icmp .ne 6, 3) := by decide +kernel
theorem d_S_ioc_22 : decode b_S_ioc 22 = .ok (.iload 5, 2) := by decide +kernel
theorem d_S_ioc_24 : decode b_S_ioc 24 = .ok (.ireturn, 1) := by decide +kernel
theorem d_S_ioc_25 : decode b_S_ioc 25 = .ok (.iinc 5 1, 3) := by decide +kernel
theorem d_S_ioc_28 : decode b_S_ioc 28 = .ok (.goto (-21), 3) := by decide +kernel
theorem d_S_ioc_31 : decode b_S_ioc 31 = .ok (.iconst (-1), 1) := by decide +kernel
theorem d_S_ioc_32 : decode b_S_ioc 32 = .ok (.ireturn, 1) := by decide +kernel
def L_S_ioc_7 (Qc : Int32 → Unit → Prop)  : Nat → Int32 → Int32 → Int32 → Unit → Prop
  | 0, _, _, _, _ => False
  | n + 1, x3, x4, x5, u => ((x3 ≤ x5 → Qc (-1 : Int32) u) ∧ (¬ x3 ≤ x5 → (vp_in x5 19 ∧ (((signB.getD x5.toNatClampNeg 0) = x4 → Qc x5 u) ∧ (¬ (signB.getD x5.toNatClampNeg 0) = x4 → (∀ x5_25 : Int32, x5_25 = x5 + 1 → (L_S_ioc_7 Qc n) x3 x4 x5_25 u))))))
def P_S_ioc (x1 : Int32) (x2 : Int32) (x3 : Int32) (u : Unit) (Qc : Int32 → Unit → Prop) : Prop := (∀ x4_2 : Int32, x4_2 = x1.toInt8.toInt32 → ∃ n, L_S_ioc_7 Qc  n x3 x4_2 x2 u)
section SW
variable {p : Program} {l : Launch} {e : Env} {s : State} {m : MethodId} {args : Array Value} {below : List Frame} {meth : Method} {c : Code} {x : GX} {g : GE} {ex : va_W} {a : Nat → Nat} {A : Nat → Prop}
set_option maxHeartbeats 4000000 in
set_option maxRecDepth 20000 in
theorem wL_S_ioc_7 (S : CallFix p m c b_S_ioc 6 s args lw_tg "java/lang/StringLatin1") (hr : meth.sig.returnType = some .int) (hlk : meth.locks = false) (hK : GK x s) (hE : EN g A s s.heap) (hA : ∀ q : Nat, s.heap.size ≤ q → A q) {Qc : Int32 → Unit → Prop}  : ∀ (n : Nat) (x3 : Int32) (x4 : Int32) (x5 : Int32) (u : Unit) (ls : Array Slot) (H : Heap) (locs : List Loc), lv_has ls 6 [(0, .ref (g.2 2)), (3, .int x3), (4, .int x4), (5, .int x5)] → wd x A s.heap (ucl a u ++ ex) H locs → L_S_ioc_7 Qc  n x3 x4 x5 u → W p l e (rmN 0 0 0) s m args below meth c H locs 0 0 (MQ below (QfI x ucl ex a A Qc) args s 0 0 A) (F0 m 7 ls []) := by
  intro n
  induction n with
  | zero =>
    intro x3 x4 x5 u ls H locs hl hw h
    exact absurd h id
  | succ n ih =>
    intro x3 x4 x5 u ls H locs hl hw h
    refine lv_iload S.1 S.2.1 d_S_ioc_7 (lv_at hl 3 rfl) ?_
    refine lv_iload_n S.1 S.2.1 d_S_ioc_9 rfl (lv_at hl 1 rfl) ?_
    refine lv_icmp_ge (tgt := 31) S.1 S.2.1 d_S_ioc_10 (by decide) (fun q_10 => ?_) (fun q_10 => ?_)
    · have h := h.1 q_10
      refine lv_iconst (v := -1) S.1 S.2.1 d_S_ioc_31 (by decide) ?_
      exact w_iretF S hr hlk hw h d_S_ioc_32
    · have h := h.2 q_10
      refine lv_aload_n S.1 S.2.1 d_S_ioc_13 rfl (lv_at hl 0 rfl) ?_
      refine lv_iload S.1 S.2.1 d_S_ioc_14 (lv_at hl 3 rfl) ?_
      have hg := h.1
      have h := h.2
      refine str_at S hE hw hg d_S_ioc_16 ?_
      refine lv_iload S.1 S.2.1 d_S_ioc_17 (lv_at hl 2 rfl) ?_
      refine lv_icmp_ne (tgt := 25) S.1 S.2.1 d_S_ioc_19 (by decide) (fun q_19 => ?_) (fun q_19 => ?_)
      · have h := h.2 q_19
        obtain ⟨x5_25, ex5_25⟩ : ∃ y : Int32, y = x5 + 1 := ⟨_, rfl⟩
        have h := h x5_25 ex5_25
        refine lv_iinc (v := x5_25) (lv' := [(5, .int x5_25), (0, .ref (g.2 2)), (3, .int x3), (4, .int x4)]) S.1 S.2.1 d_S_ioc_25 hl (k := 3) rfl (by rw [ex5_25]; rfl) (by decide) rfl (fun ls hl => ?_)
        refine lv_goto (tgt := 7) S.1 S.2.1 d_S_ioc_28 (by decide) ?_
        exact ih x3 x4 x5_25 u _ _ _ (lv_sub hl [1, 2, 3, 0] rfl) hw h
      · have h := h.1 q_19
        refine lv_iload S.1 S.2.1 d_S_ioc_22 (lv_at hl 3 rfl) ?_
        exact w_iretF S hr hlk hw h d_S_ioc_24
set_option maxHeartbeats 4000000 in
set_option maxRecDepth 20000 in
theorem c_S_ioc {x : GX} {g : GE}  {ex : va_W} {a : Nat → Nat} (l : Launch) (x1 : Int32) (x2 : Int32) (x3 : Int32) (u : Unit) (sz : Nat) (Qc : Int32 → Unit → Prop) (h : P_S_ioc x1 x2 x3 u Qc) : Met l y_S_ioc (wM y_S_ioc b_S_ioc 6 (some .int)) (rmN 0 0 0) (PreE x g ucl ex [.ref (g.2 2), .int x1, .int x2, .int x3] a u sz) (QfI x ucl ex a (va_A (ucl a u ++ ex) sz) Qc) 0 0 (va_A (ucl a u ++ ex) sz) := by
  refine w_enterE (by decide +kernel) (Nat.le_of_ble_eq_true rfl) (fun p e s m args below meth c S hr hlk hnm hK hE hA hw ls hl => ?_)
  have hl : lv_has ls 6 [(0, .ref (g.2 2)), (1, .int x1), (2, .int x2), (3, .int x3)] := hl
  refine lv_iload_n S.1 S.2.1 d_S_ioc_0 rfl (lv_at hl 1 rfl) ?_
  refine lv_i2b S.1 S.2.1 d_S_ioc_1 rfl ?_
  refine lv_topi (fun x4_2 ex4_2 => ?_)
  have h := h x4_2 ex4_2
  refine lv_istore (lv' := [(4, .int x4_2), (0, .ref (g.2 2)), (1, .int x1), (2, .int x2), (3, .int x3)]) S.1 S.2.1 d_S_ioc_2 hl (by decide) rfl (fun ls hl => ?_)
  refine lv_iload_n S.1 S.2.1 d_S_ioc_4 rfl (lv_at hl 3 rfl) ?_
  refine lv_istore (lv' := [(5, .int x2), (4, .int x4_2), (0, .ref (g.2 2)), (1, .int x1), (2, .int x2), (3, .int x3)]) S.1 S.2.1 d_S_ioc_5 hl (by decide) rfl (fun ls hl => ?_)
  obtain ⟨n9, h⟩ := h
  exact wL_S_ioc_7 S hr hlk hK hE hA  n9 x3 x4_2 x2 u _ _ _ (lv_sub hl [2, 5, 1, 0] rfl) hw h
end SW
abbrev b_S_io4 : ByteArray := prog_22_method_22_code
def y_S_io4 : MethodName := ⟨"java/lang/StringLatin1", "indexOf", "([BIII)I"⟩
theorem yd_S_io4 : y_S_io4.cls ≠ "java/lang/invoke/MethodHandle" ∧ y_S_io4.cls ≠ "java/lang/invoke/VarHandle" ∧ (parseMethodDescriptor y_S_io4.desc).map (fun d => d.parameters.length) = some 4 := by decide +kernel
theorem d_S_io4_0 : decode b_S_io4 0 = .ok (.iload_n 1, 1) := by decide +kernel
theorem d_S_io4_1 : decode b_S_io4 1 = .ok (.invokestatic 88, 3) := by decide +kernel
theorem d_S_io4_4 : decode b_S_io4 4 = .ok (.ifCond .ne 5, 3) := by decide +kernel
theorem d_S_io4_7 : decode b_S_io4 7 = .ok (.iconst (-1), 1) := by decide +kernel
theorem d_S_io4_8 : decode b_S_io4 8 = .ok (.ireturn, 1) := by decide +kernel
theorem d_S_io4_9 : decode b_S_io4 9 = .ok (.iload_n 2, 1) := by decide +kernel
theorem d_S_io4_10 : decode b_S_io4 10 = .ok (.iconst 0, 1) := by decide +kernel
theorem d_S_io4_11 : decode b_S_io4 11 = .ok (.invokestatic 92, 3) := by decide +kernel
theorem d_S_io4_14 : decode b_S_io4 14 = .ok (.istore_n 2, 1) := by decide +kernel
theorem d_S_io4_15 : decode b_S_io4 15 = .ok (.iload_n 3, 1) := by decide +kernel
theorem d_S_io4_16 : decode b_S_io4 16 = .ok (.aload_n 0, 1) := by decide +kernel
theorem d_S_io4_17 : decode b_S_io4 17 = .ok (.arraylength, 1) := by decide +kernel
theorem d_S_io4_18 : decode b_S_io4 18 = .ok (.invokestatic 38, 3) := by decide +kernel
theorem d_S_io4_21 : decode b_S_io4 21 = .ok (.istore_n 3, 1) := by decide +kernel
theorem d_S_io4_22 : decode b_S_io4 22 = .ok (.iload_n 2, 1) := by decide +kernel
theorem d_S_io4_23 : decode b_S_io4 23 = .ok (.iload_n 3, 1) := by decide +kernel
theorem d_S_io4_24 : decode b_S_io4 24 = .ok (.if_icmp .lt 5, 3) := by decide +kernel
theorem d_S_io4_27 : decode b_S_io4 27 = .ok (.iconst (-1), 1) := by decide +kernel
theorem d_S_io4_28 : decode b_S_io4 28 = .ok (.ireturn, 1) := by decide +kernel
theorem d_S_io4_29 : decode b_S_io4 29 = .ok (.aload_n 0, 1) := by decide +kernel
theorem d_S_io4_30 : decode b_S_io4 30 = .ok (.iload_n 1, 1) := by decide +kernel
theorem d_S_io4_31 : decode b_S_io4 31 = .ok (.iload_n 2, 1) := by decide +kernel
theorem d_S_io4_32 : decode b_S_io4 32 = .ok (.iload_n 3, 1) := by decide +kernel
theorem d_S_io4_33 : decode b_S_io4 33 = .ok (.invokestatic 95, 3) := by decide +kernel
theorem d_S_io4_36 : decode b_S_io4 36 = .ok (.ireturn, 1) := by decide +kernel
def P_S_io4 (x1 : Int32) (x2 : Int32) (x3 : Int32) (u : Unit) (Qc : Int32 → Unit → Prop) : Prop := P_J_canI x1 (fun r_1 => ((r_1 = (0 : Int32) → Qc (-1 : Int32) u) ∧ (¬ r_1 = (0 : Int32) → (∀ x2_14 : Int32, x2_14 = (if x2 < (0 : Int32) then (0 : Int32) else x2) → (∀ x3_21 : Int32, x3_21 = (if (19 : Int32) < x3 then (19 : Int32) else x3) → ((x2_14 < x3_21 → P_S_ioc x1 x2_14 x3_21 u (fun r_33 u_33 => Qc r_33 u_33)) ∧ (¬ x2_14 < x3_21 → Qc (-1 : Int32) u)))))))
section SW
variable {p : Program} {l : Launch} {e : Env} {s : State} {m : MethodId} {args : Array Value} {below : List Frame} {meth : Method} {c : Code} {x : GX} {g : GE} {ex : va_W} {a : Nat → Nat} {A : Nat → Prop}
set_option maxHeartbeats 4000000 in
set_option maxRecDepth 20000 in
theorem c_S_io4 {x : GX} {g : GE}  {ex : va_W} {a : Nat → Nat} (l : Launch) (x1 : Int32) (x2 : Int32) (x3 : Int32) (u : Unit) (sz : Nat) (Qc : Int32 → Unit → Prop) (h : P_S_io4 x1 x2 x3 u Qc) : Met l y_S_io4 (wM y_S_io4 b_S_io4 4 (some .int)) (rmN 2 0 0) (PreE x g ucl ex [.ref (g.2 2), .int x1, .int x2, .int x3] a u sz) (QfI x ucl ex a (va_A (ucl a u ++ ex) sz) Qc) 0 0 (va_A (ucl a u ++ ex) sz) := by
  refine w_enterE (by decide +kernel) (Nat.le_of_ble_eq_true rfl) (fun p e s m args below meth c S hr hlk hnm hK hE hA hw ls hl => ?_)
  have hl : lv_has ls 4 [(0, .ref (g.2 2)), (1, .int x1), (2, .int x2), (3, .int x3)] := hl
  refine lv_iload_n S.1 S.2.1 d_S_io4_0 rfl (lv_at hl 1 rfl) ?_
  refine w_cn (w_rs (rest := []) S (c_J_canI l x1 _ h) (w_cb (fr := 0) (lv := 0) S.2.2.2.2 k_220 k_218 k_9 yd_J_canI rfl rfl ⟨Nat.le_of_ble_eq_true rfl, Nat.le_of_ble_eq_true rfl⟩) k_219 rfl hl.1 rfl (Nat.le_of_ble_eq_true rfl) d_S_io4_1 ⟨(Nat.zero_le _), (Nat.zero_le _)⟩) (fun r_1 h => ?_)
  refine lv_if_ne (tgt := 9) S.1 S.2.1 d_S_io4_4 (by decide) (fun q_4 => ?_) (fun q_4 => ?_)
  · have h := h.2 q_4
    refine lv_iload_n S.1 S.2.1 d_S_io4_9 rfl (lv_at hl 2 rfl) ?_
    refine lv_iconst (v := 0) S.1 S.2.1 d_S_io4_10 (by decide) ?_
    refine va_mmax S.1 S.2.1 (S.2.2.1.trans hl.1.symm) S.2.2.2.1 (S.2.2.2.2 _ k_221) (S.2.2.2.2 _ k_111) (S.2.2.2.2 _ k_7) (S.2.2.2.2 _ k_112) (Nat.le_of_ble_eq_true rfl) (Nat.le_of_ble_eq_true rfl) (Nat.zero_le _) (Nat.zero_le _) d_S_io4_11 ?_
    refine lv_topi (fun x2_14 ex2_14 => ?_)
    have h := h x2_14 ex2_14
    refine lv_istore_n (lv' := [(2, .int x2_14), (0, .ref (g.2 2)), (1, .int x1), (3, .int x3)]) S.1 S.2.1 d_S_io4_14 rfl hl (by decide) rfl (fun ls hl => ?_)
    refine lv_iload_n S.1 S.2.1 d_S_io4_15 rfl (lv_at hl 3 rfl) ?_
    refine lv_aload_n S.1 S.2.1 d_S_io4_16 rfl (lv_at hl 1 rfl) ?_
    refine str_len S hE hw d_S_io4_17 ?_
    refine va_mmin S.1 S.2.1 (S.2.2.1.trans hl.1.symm) S.2.2.2.1 (S.2.2.2.2 _ k_222) (S.2.2.2.2 _ k_108) (S.2.2.2.2 _ k_7) (S.2.2.2.2 _ k_109) (Nat.le_of_ble_eq_true rfl) (Nat.le_of_ble_eq_true rfl) (Nat.zero_le _) (Nat.zero_le _) d_S_io4_18 ?_
    refine lv_topi (fun x3_21 ex3_21 => ?_)
    have h := h x3_21 ex3_21
    refine lv_istore_n (lv' := [(3, .int x3_21), (2, .int x2_14), (0, .ref (g.2 2)), (1, .int x1)]) S.1 S.2.1 d_S_io4_21 rfl hl (by decide) rfl (fun ls hl => ?_)
    refine lv_iload_n S.1 S.2.1 d_S_io4_22 rfl (lv_at hl 1 rfl) ?_
    refine lv_iload_n S.1 S.2.1 d_S_io4_23 rfl (lv_at hl 0 rfl) ?_
    refine lv_icmp_lt (tgt := 29) S.1 S.2.1 d_S_io4_24 (by decide) (fun q_24 => ?_) (fun q_24 => ?_)
    · have h := h.1 q_24
      refine lv_aload_n S.1 S.2.1 d_S_io4_29 rfl (lv_at hl 2 rfl) ?_
      refine lv_iload_n S.1 S.2.1 d_S_io4_30 rfl (lv_at hl 3 rfl) ?_
      refine lv_iload_n S.1 S.2.1 d_S_io4_31 rfl (lv_at hl 1 rfl) ?_
      refine lv_iload_n S.1 S.2.1 d_S_io4_32 rfl (lv_at hl 0 rfl) ?_
      refine w_ciF hA hw (w_rsE (rest := []) S hK hE hA hw (c_S_ioc l x1 x2_14 x3_21 u _ _ h) (w_cb (fr := 0) (lv := 0) S.2.2.2.2 k_225 k_223 k_9 yd_S_ioc rfl rfl ⟨Nat.le_of_ble_eq_true rfl, Nat.le_of_ble_eq_true rfl⟩) k_224 rfl hl.1 rfl (Nat.le_of_ble_eq_true rfl) d_S_io4_33 ⟨(Nat.zero_le _), (Nat.zero_le _)⟩) (fun r_33 u_33 H locs h hw => ?_)
      exact w_iretF S hr hlk hw h d_S_io4_36
    · have h := h.2 q_24
      refine lv_iconst (v := -1) S.1 S.2.1 d_S_io4_27 (by decide) ?_
      exact w_iretF S hr hlk hw h d_S_io4_28
  · have h := h.1 q_4
    refine lv_iconst (v := -1) S.1 S.2.1 d_S_io4_7 (by decide) ?_
    exact w_iretF S hr hlk hw h d_S_io4_8
end SW
abbrev b_S_io2 : ByteArray := prog_20_method_80_code
def y_S_io2 : MethodName := ⟨"java/lang/String", "indexOf", "(II)I"⟩
theorem yd_S_io2 : y_S_io2.cls ≠ "java/lang/invoke/MethodHandle" ∧ y_S_io2.cls ≠ "java/lang/invoke/VarHandle" ∧ (parseMethodDescriptor y_S_io2.desc).map (fun d => d.parameters.length) = some 2 := by decide +kernel
theorem d_S_io2_0 : decode b_S_io2 0 = .ok (.aload_n 0, 1) := by decide +kernel
theorem d_S_io2_1 : decode b_S_io2 1 = .ok (.invokevirtual 492, 3) := by decide +kernel
theorem d_S_io2_4 : decode b_S_io2 4 = .ok (.ifCond .eq 19, 3) := by decide +kernel
theorem d_S_io2_7 : decode b_S_io2 7 = .ok (.aload_n 0, 1) := by decide +kernel
theorem d_S_io2_8 : decode b_S_io2 8 = .ok (.getfield 9, 3) := by decide +kernel
theorem d_S_io2_11 : decode b_S_io2 11 = .ok (.iload_n 1, 1) := by decide +kernel
theorem d_S_io2_12 : decode b_S_io2 12 = .ok (.iload_n 2, 1) := by decide +kernel
theorem d_S_io2_13 : decode b_S_io2 13 = .ok (.aload_n 0, 1) := by decide +kernel
theorem d_S_io2_14 : decode b_S_io2 14 = .ok (.invokevirtual 505, 3) := by decide +kernel
theorem d_S_io2_17 : decode b_S_io2 17 = .ok (.invokestatic 637, 3) := by decide +kernel
theorem d_S_io2_20 : decode b_S_io2 20 = .ok (.goto 16, 3) := by decide +kernel
theorem d_S_io2_24 : decode b_S_io2 24 = .ok (.getfield 9, 3) := by decide +kernel
theorem d_S_io2_27 : decode b_S_io2 27 = .ok (.iload_n 1, 1) := by decide +kernel
theorem d_S_io2_28 : decode b_S_io2 28 = .ok (.iload_n 2, 1) := by decide +kernel
theorem d_S_io2_29 : decode b_S_io2 29 = .ok (.aload_n 0, 1) := by decide +kernel
theorem d_S_io2_30 : decode b_S_io2 30 = .ok (.invokevirtual 505, 3) := by decide +kernel
theorem d_S_io2_33 : decode b_S_io2 33 = .ok (.invokestatic 640, 3) := by decide +kernel
theorem d_S_io2_36 : decode b_S_io2 36 = .ok (.ireturn, 1) := by decide +kernel
def P_S_io2 (x1 : Int32) (x2 : Int32) (u : Unit) (Qc : Int32 → Unit → Prop) : Prop := P_S_lat  u (fun r_1 u_1 => ((r_1 = (0 : Int32) → False) ∧ (¬ r_1 = (0 : Int32) → P_S_length  u_1 (fun r_14 u_14 => P_S_io4 x1 x2 r_14 u_14 (fun r_17 u_17 => Qc r_17 u_17)))))
section SW
variable {p : Program} {l : Launch} {e : Env} {s : State} {m : MethodId} {args : Array Value} {below : List Frame} {meth : Method} {c : Code} {x : GX} {g : GE} {ex : va_W} {a : Nat → Nat} {A : Nat → Prop}
set_option maxHeartbeats 4000000 in
set_option maxRecDepth 20000 in
theorem c_S_io2 {x : GX} {g : GE}  {ex : va_W} {a : Nat → Nat} (l : Launch) (x1 : Int32) (x2 : Int32) (u : Unit) (sz : Nat) (Qc : Int32 → Unit → Prop) (h : P_S_io2 x1 x2 u Qc) : Met l y_S_io2 (wM y_S_io2 b_S_io2 3 (some .int)) (rmN 3 0 0) (PreE x g ucl ex [.ref (g.2 1), .int x1, .int x2] a u sz) (QfI x ucl ex a (va_A (ucl a u ++ ex) sz) Qc) 0 0 (va_A (ucl a u ++ ex) sz) := by
  refine w_enterE (by decide +kernel) (Nat.le_of_ble_eq_true rfl) (fun p e s m args below meth c S hr hlk hnm hK hE hA hw ls hl => ?_)
  have hl : lv_has ls 3 [(0, .ref (g.2 1)), (1, .int x1), (2, .int x2)] := hl
  refine lv_aload_n S.1 S.2.1 d_S_io2_0 rfl (lv_at hl 0 rfl) ?_
  refine w_ciF hA hw (w_rvS (rest := []) S hK hE hA hw (c_S_lat l  u _ _ h) (w_cb (fr := 0) (lv := 0) S.2.2.2.2 k_205 k_202 k_4 yd_S_lat rfl rfl ⟨Nat.le_of_ble_eq_true rfl, Nat.le_of_ble_eq_true rfl⟩) k_203 k_204 rfl hl.1 rfl (Nat.le_of_ble_eq_true rfl) d_S_io2_1 ⟨(Nat.zero_le _), (Nat.zero_le _)⟩) (fun r_1 u_1 H locs h hw => ?_)
  refine lv_if_eq (tgt := 23) S.1 S.2.1 d_S_io2_4 (by decide) (fun q_4 => ?_) (fun q_4 => ?_)
  · have h := h.1 q_4
    exact absurd h id
  · have h := h.2 q_4
    refine lv_aload_n S.1 S.2.1 d_S_io2_7 rfl (lv_at hl 0 rfl) ?_
    refine str_value S hE hw d_S_io2_8 ?_
    refine lv_iload_n S.1 S.2.1 d_S_io2_11 rfl (lv_at hl 1 rfl) ?_
    refine lv_iload_n S.1 S.2.1 d_S_io2_12 rfl (lv_at hl 2 rfl) ?_
    refine lv_aload_n S.1 S.2.1 d_S_io2_13 rfl (lv_at hl 0 rfl) ?_
    refine w_ciF hA hw (w_rvS (rest := [.int x2, .int x1, .ref (g.2 2)]) S hK hE hA hw (c_S_length l  u_1 _ _ h) (w_cb (fr := 0) (lv := 0) S.2.2.2.2 k_210 k_207 k_4 yd_S_length rfl rfl ⟨Nat.le_of_ble_eq_true rfl, Nat.le_of_ble_eq_true rfl⟩) k_208 k_209 rfl hl.1 rfl (Nat.le_of_ble_eq_true rfl) d_S_io2_14 ⟨(Nat.zero_le _), (Nat.zero_le _)⟩) (fun r_14 u_14 H locs h hw => ?_)
    refine w_ciF hA hw (w_rsE (rest := []) S hK hE hA hw (c_S_io4 l x1 x2 r_14 u_14 _ _ h) (w_cb (fr := 0) (lv := 0) S.2.2.2.2 k_217 k_215 k_9 yd_S_io4 rfl rfl ⟨Nat.le_of_ble_eq_true rfl, Nat.le_of_ble_eq_true rfl⟩) k_216 rfl hl.1 rfl (Nat.le_of_ble_eq_true rfl) d_S_io2_17 ⟨(Nat.zero_le _), (Nat.zero_le _)⟩) (fun r_17 u_17 H locs h hw => ?_)
    refine lv_goto (tgt := 36) S.1 S.2.1 d_S_io2_20 (by decide) ?_
    exact w_iretF S hr hlk hw h d_S_io2_36
end SW
abbrev b_S_io1 : ByteArray := prog_20_method_79_code
def y_S_io1 : MethodName := ⟨"java/lang/String", "indexOf", "(I)I"⟩
theorem yd_S_io1 : y_S_io1.cls ≠ "java/lang/invoke/MethodHandle" ∧ y_S_io1.cls ≠ "java/lang/invoke/VarHandle" ∧ (parseMethodDescriptor y_S_io1.desc).map (fun d => d.parameters.length) = some 1 := by decide +kernel
theorem d_S_io1_0 : decode b_S_io1 0 = .ok (.aload_n 0, 1) := by decide +kernel
theorem d_S_io1_1 : decode b_S_io1 1 = .ok (.iload_n 1, 1) := by decide +kernel
theorem d_S_io1_2 : decode b_S_io1 2 = .ok (.iconst 0, 1) := by decide +kernel
theorem d_S_io1_3 : decode b_S_io1 3 = .ok (.invokevirtual 633, 3) := by decide +kernel
theorem d_S_io1_6 : decode b_S_io1 6 = .ok (.ireturn, 1) := by decide +kernel
def P_S_io1 (x1 : Int32) (u : Unit) (Qc : Int32 → Unit → Prop) : Prop := P_S_io2 x1 (0 : Int32) u (fun r_3 u_3 => Qc r_3 u_3)
section SW
variable {p : Program} {l : Launch} {e : Env} {s : State} {m : MethodId} {args : Array Value} {below : List Frame} {meth : Method} {c : Code} {x : GX} {g : GE} {ex : va_W} {a : Nat → Nat} {A : Nat → Prop}
set_option maxHeartbeats 4000000 in
set_option maxRecDepth 20000 in
theorem c_S_io1 {x : GX} {g : GE}  {ex : va_W} {a : Nat → Nat} (l : Launch) (x1 : Int32) (u : Unit) (sz : Nat) (Qc : Int32 → Unit → Prop) (h : P_S_io1 x1 u Qc) : Met l y_S_io1 (wM y_S_io1 b_S_io1 2 (some .int)) (rmN 4 0 0) (PreE x g ucl ex [.ref (g.2 1), .int x1] a u sz) (QfI x ucl ex a (va_A (ucl a u ++ ex) sz) Qc) 0 0 (va_A (ucl a u ++ ex) sz) := by
  refine w_enterE (by decide +kernel) (Nat.le_of_ble_eq_true rfl) (fun p e s m args below meth c S hr hlk hnm hK hE hA hw ls hl => ?_)
  have hl : lv_has ls 2 [(0, .ref (g.2 1)), (1, .int x1)] := hl
  refine lv_aload_n S.1 S.2.1 d_S_io1_0 rfl (lv_at hl 0 rfl) ?_
  refine lv_iload_n S.1 S.2.1 d_S_io1_1 rfl (lv_at hl 1 rfl) ?_
  refine lv_iconst (v := 0) S.1 S.2.1 d_S_io1_2 (by decide) ?_
  refine w_ciF hA hw (w_rvS (rest := []) S hK hE hA hw (c_S_io2 l x1 (0 : Int32) u _ _ h) (w_cb (fr := 0) (lv := 0) S.2.2.2.2 k_201 k_198 k_4 yd_S_io2 rfl rfl ⟨Nat.le_of_ble_eq_true rfl, Nat.le_of_ble_eq_true rfl⟩) k_199 k_200 rfl hl.1 rfl (Nat.le_of_ble_eq_true rfl) d_S_io1_3 ⟨(Nat.zero_le _), (Nat.zero_le _)⟩) (fun r_3 u_3 H locs h hw => ?_)
  exact w_iretF S hr hlk hw h d_S_io1_6
end SW
abbrev b_B_known : ByteArray := prog_1_method_15_code
def y_B_known : MethodName := ⟨"PatternBench", "known", "(I)Z"⟩
theorem yd_B_known : y_B_known.cls ≠ "java/lang/invoke/MethodHandle" ∧ y_B_known.cls ≠ "java/lang/invoke/VarHandle" ∧ (parseMethodDescriptor y_B_known.desc).map (fun d => d.parameters.length) = some 1 := by decide +kernel
theorem d_B_known_0 : decode b_B_known 0 = .ok (.iload_n 0, 1) := by decide +kernel
theorem d_B_known_1 : decode b_B_known 1 = .ok (.bipush 97, 2) := by decide +kernel
theorem d_B_known_3 : decode b_B_known 3 = .ok (.if_icmp .lt 9, 3) := by decide +kernel
theorem d_B_known_6 : decode b_B_known 6 = .ok (.iload_n 0, 1) := by decide +kernel
theorem d_B_known_7 : decode b_B_known 7 = .ok (.bipush 122, 2) := by decide +kernel
theorem d_B_known_9 : decode b_B_known 9 = .ok (.if_icmp .le 15, 3) := by decide +kernel
theorem d_B_known_12 : decode b_B_known 12 = .ok (.iload_n 0, 1) := by decide +kernel
theorem d_B_known_13 : decode b_B_known 13 = .ok (.bipush 48, 2) := by decide +kernel
theorem d_B_known_15 : decode b_B_known 15 = .ok (.if_icmp .lt 11, 3) := by decide +kernel
theorem d_B_known_18 : decode b_B_known 18 = .ok (.iload_n 0, 1) := by decide +kernel
theorem d_B_known_19 : decode b_B_known 19 = .ok (.bipush 57, 2) := by decide +kernel
theorem d_B_known_21 : decode b_B_known 21 = .ok (.if_icmp .gt 5, 3) := by decide +kernel
theorem d_B_known_24 : decode b_B_known 24 = .ok (.iconst 1, 1) := by decide +kernel
theorem d_B_known_25 : decode b_B_known 25 = .ok (.ireturn, 1) := by decide +kernel
theorem d_B_known_26 : decode b_B_known 26 = .ok (.iload_n 0, 1) := by decide +kernel
theorem d_B_known_27 : decode b_B_known 27 = .ok (.ifCond .le 24, 3) := by decide +kernel
theorem d_B_known_30 : decode b_B_known 30 = .ok (.iload_n 0, 1) := by decide +kernel
theorem d_B_known_31 : decode b_B_known 31 = .ok (.sipush 128, 3) := by decide +kernel
theorem d_B_known_34 : decode b_B_known 34 = .ok (.if_icmp .ge 17, 3) := by decide +kernel
theorem d_B_known_37 : decode b_B_known 37 = .ok (.ldc 178, 2) := by decide +kernel
theorem d_B_known_39 : decode b_B_known 39 = .ok (.iload_n 0, 1) := by decide +kernel
theorem d_B_known_40 : decode b_B_known 40 = .ok (.i2c, 1) := by decide +kernel
theorem d_B_known_41 : decode b_B_known 41 = .ok (.invokevirtual 180, 3) := by decide +kernel
theorem d_B_known_44 : decode b_B_known 44 = .ok (.ifCond .lt 7, 3) := by decide +kernel
theorem d_B_known_47 : decode b_B_known 47 = .ok (.iconst 1, 1) := by decide +kernel
theorem d_B_known_48 : decode b_B_known 48 = .ok (.goto 4, 3) := by decide +kernel
theorem d_B_known_51 : decode b_B_known 51 = .ok (.iconst 0, 1) := by decide +kernel
theorem d_B_known_52 : decode b_B_known 52 = .ok (.ireturn, 1) := by decide +kernel
def B_B_known_26 (Qc : Int32 → Unit → Prop)  (x0 : Int32) (u : Unit) : Prop := ((x0 ≤ (0 : Int32) → Qc (0 : Int32) u) ∧ (¬ x0 ≤ (0 : Int32) → (((128 : Int32) ≤ x0 → Qc (0 : Int32) u) ∧ (¬ (128 : Int32) ≤ x0 → P_S_io1 ((x0.toUInt32 % 65536).toInt32) u (fun r_41 u_41 => ((r_41 < (0 : Int32) → Qc (0 : Int32) u_41) ∧ (¬ r_41 < (0 : Int32) → Qc (1 : Int32) u_41)))))))
def B_B_known_12 (Qc : Int32 → Unit → Prop)  (x0 : Int32) (u : Unit) : Prop := ((x0 < (48 : Int32) → B_B_known_26 Qc  x0 u) ∧ (¬ x0 < (48 : Int32) → (((57 : Int32) < x0 → B_B_known_26 Qc  x0 u) ∧ (¬ (57 : Int32) < x0 → Qc (1 : Int32) u))))
def P_B_known (x0 : Int32) (u : Unit) (Qc : Int32 → Unit → Prop) : Prop := ((x0 < (97 : Int32) → B_B_known_12 Qc  x0 u) ∧ (¬ x0 < (97 : Int32) → ((x0 ≤ (122 : Int32) → Qc (1 : Int32) u) ∧ (¬ x0 ≤ (122 : Int32) → B_B_known_12 Qc  x0 u))))
section SW
variable {p : Program} {l : Launch} {e : Env} {s : State} {m : MethodId} {args : Array Value} {below : List Frame} {meth : Method} {c : Code} {x : GX} {g : GE} {ex : va_W} {a : Nat → Nat} {A : Nat → Prop}
set_option maxHeartbeats 4000000 in
set_option maxRecDepth 20000 in
theorem wB_B_known_26 (S : CallFix p m c b_B_known 1 s args lw_tg "PatternBench") (hr : meth.sig.returnType = some .boolean) (hlk : meth.locks = false) (hK : GK x s) (hE : EN g A s s.heap) (hA : ∀ q : Nat, s.heap.size ≤ q → A q) {Qc : Int32 → Unit → Prop}  : ∀ (x0 : Int32) (u : Unit) (ls : Array Slot) (H : Heap) (locs : List Loc), lv_has ls 1 [(0, .int x0)] → wd x A s.heap (ucl a u ++ ex) H locs → B_B_known_26 Qc  x0 u → W p l e (rmN 5 0 0) s m args below meth c H locs 0 0 (MQ below (QfI x ucl ex a A Qc) args s 0 0 A) (F0 m 26 ls []) := by
  intro x0 u ls H locs hl hw h
  refine lv_iload_n S.1 S.2.1 d_B_known_26 rfl (lv_at hl 0 rfl) ?_
  refine lv_if_le (tgt := 51) S.1 S.2.1 d_B_known_27 (by decide) (fun q_27 => ?_) (fun q_27 => ?_)
  · have h := h.1 q_27
    refine lv_iconst (v := 0) S.1 S.2.1 d_B_known_51 (by decide) ?_
    exact w_zretF S hr hlk isB0 hw h d_B_known_52
  · have h := h.2 q_27
    refine lv_iload_n S.1 S.2.1 d_B_known_30 rfl (lv_at hl 0 rfl) ?_
    refine lv_sipush (v := 128) S.1 S.2.1 d_B_known_31 (by decide) ?_
    refine lv_icmp_ge (tgt := 51) S.1 S.2.1 d_B_known_34 (by decide) (fun q_34 => ?_) (fun q_34 => ?_)
    · have h := h.1 q_34
      refine lv_iconst (v := 0) S.1 S.2.1 d_B_known_51 (by decide) ?_
      exact w_zretF S hr hlk isB0 hw h d_B_known_52
    · have h := h.2 q_34
      refine va_ldcS S.1 S.2.1 S.2.2.2.1 hE.2.2.2.2.1.1 d_B_known_37 ?_
      refine lv_iload_n S.1 S.2.1 d_B_known_39 rfl (lv_at hl 0 rfl) ?_
      refine lv_i2c S.1 S.2.1 d_B_known_40 rfl ?_
      refine w_ciF hA hw (w_rvS (rest := []) S hK hE hA hw (c_S_io1 l ((x0.toUInt32 % 65536).toInt32) u _ _ h) (w_cb (fr := 0) (lv := 0) S.2.2.2.2 k_197 k_194 k_4 yd_S_io1 rfl rfl ⟨Nat.le_of_ble_eq_true rfl, Nat.le_of_ble_eq_true rfl⟩) k_195 k_196 rfl hl.1 rfl (Nat.le_of_ble_eq_true rfl) d_B_known_41 ⟨(Nat.zero_le _), (Nat.zero_le _)⟩) (fun r_41 u_41 H locs h hw => ?_)
      refine lv_if_lt (tgt := 51) S.1 S.2.1 d_B_known_44 (by decide) (fun q_44 => ?_) (fun q_44 => ?_)
      · have h := h.1 q_44
        refine lv_iconst (v := 0) S.1 S.2.1 d_B_known_51 (by decide) ?_
        exact w_zretF S hr hlk isB0 hw h d_B_known_52
      · have h := h.2 q_44
        refine lv_iconst (v := 1) S.1 S.2.1 d_B_known_47 (by decide) ?_
        refine lv_goto (tgt := 52) S.1 S.2.1 d_B_known_48 (by decide) ?_
        exact w_zretF S hr hlk isB1 hw h d_B_known_52
set_option maxHeartbeats 4000000 in
set_option maxRecDepth 20000 in
theorem wB_B_known_12 (S : CallFix p m c b_B_known 1 s args lw_tg "PatternBench") (hr : meth.sig.returnType = some .boolean) (hlk : meth.locks = false) (hK : GK x s) (hE : EN g A s s.heap) (hA : ∀ q : Nat, s.heap.size ≤ q → A q) {Qc : Int32 → Unit → Prop}  : ∀ (x0 : Int32) (u : Unit) (ls : Array Slot) (H : Heap) (locs : List Loc), lv_has ls 1 [(0, .int x0)] → wd x A s.heap (ucl a u ++ ex) H locs → B_B_known_12 Qc  x0 u → W p l e (rmN 5 0 0) s m args below meth c H locs 0 0 (MQ below (QfI x ucl ex a A Qc) args s 0 0 A) (F0 m 12 ls []) := by
  intro x0 u ls H locs hl hw h
  refine lv_iload_n S.1 S.2.1 d_B_known_12 rfl (lv_at hl 0 rfl) ?_
  refine lv_bipush (v := 48) S.1 S.2.1 d_B_known_13 (by decide) ?_
  refine lv_icmp_lt (tgt := 26) S.1 S.2.1 d_B_known_15 (by decide) (fun q_15 => ?_) (fun q_15 => ?_)
  · have h := h.1 q_15
    exact wB_B_known_26 S hr hlk hK hE hA  x0 u _ _ _ (lv_sub hl [0] rfl) hw h
  · have h := h.2 q_15
    refine lv_iload_n S.1 S.2.1 d_B_known_18 rfl (lv_at hl 0 rfl) ?_
    refine lv_bipush (v := 57) S.1 S.2.1 d_B_known_19 (by decide) ?_
    refine lv_icmp_gt (tgt := 26) S.1 S.2.1 d_B_known_21 (by decide) (fun q_21 => ?_) (fun q_21 => ?_)
    · have h := h.1 q_21
      exact wB_B_known_26 S hr hlk hK hE hA  x0 u _ _ _ (lv_sub hl [0] rfl) hw h
    · have h := h.2 q_21
      refine lv_iconst (v := 1) S.1 S.2.1 d_B_known_24 (by decide) ?_
      exact w_zretF S hr hlk isB1 hw h d_B_known_25
set_option maxHeartbeats 4000000 in
set_option maxRecDepth 20000 in
theorem c_B_known {x : GX} {g : GE}  {ex : va_W} {a : Nat → Nat} (l : Launch) (x0 : Int32) (u : Unit) (sz : Nat) (Qc : Int32 → Unit → Prop) (h : P_B_known x0 u Qc) : Met l y_B_known (wM y_B_known b_B_known 1 (some .boolean)) (rmN 5 0 0) (PreE x g ucl ex [.int x0] a u sz) (QfI x ucl ex a (va_A (ucl a u ++ ex) sz) Qc) 0 0 (va_A (ucl a u ++ ex) sz) := by
  refine w_enterE (by decide +kernel) (Nat.le_of_ble_eq_true rfl) (fun p e s m args below meth c S hr hlk hnm hK hE hA hw ls hl => ?_)
  have hl : lv_has ls 1 [(0, .int x0)] := hl
  refine lv_iload_n S.1 S.2.1 d_B_known_0 rfl (lv_at hl 0 rfl) ?_
  refine lv_bipush (v := 97) S.1 S.2.1 d_B_known_1 (by decide) ?_
  refine lv_icmp_lt (tgt := 12) S.1 S.2.1 d_B_known_3 (by decide) (fun q_3 => ?_) (fun q_3 => ?_)
  · have h := h.1 q_3
    exact wB_B_known_12 S hr hlk hK hE hA  x0 u _ _ _ (lv_sub hl [0] rfl) hw h
  · have h := h.2 q_3
    refine lv_iload_n S.1 S.2.1 d_B_known_6 rfl (lv_at hl 0 rfl) ?_
    refine lv_bipush (v := 122) S.1 S.2.1 d_B_known_7 (by decide) ?_
    refine lv_icmp_le (tgt := 24) S.1 S.2.1 d_B_known_9 (by decide) (fun q_9 => ?_) (fun q_9 => ?_)
    · have h := h.1 q_9
      refine lv_iconst (v := 1) S.1 S.2.1 d_B_known_24 (by decide) ?_
      exact w_zretF S hr hlk isB1 hw h d_B_known_25
    · have h := h.2 q_9
      exact wB_B_known_12 S hr hlk hK hE hA  x0 u _ _ _ (lv_sub hl [0] rfl) hw h
end SW
abbrev b_B_write : ByteArray := prog_1_method_16_code
def y_B_write : MethodName := ⟨"PatternBench", "write", "(I)I"⟩
theorem yd_B_write : y_B_write.cls ≠ "java/lang/invoke/MethodHandle" ∧ y_B_write.cls ≠ "java/lang/invoke/VarHandle" ∧ (parseMethodDescriptor y_B_write.desc).map (fun d => d.parameters.length) = some 1 := by decide +kernel
theorem d_B_write_0 : decode b_B_write 0 = .ok (.iload_n 1, 1) := by decide +kernel
theorem d_B_write_1 : decode b_B_write 1 = .ok (.invokestatic 185, 3) := by decide +kernel
theorem d_B_write_4 : decode b_B_write 4 = .ok (.ifCond .ne 5, 3) := by decide +kernel
theorem d_B_write_7 : decode b_B_write 7 = .ok (.iconst (-1), 1) := by decide +kernel
theorem d_B_write_8 : decode b_B_write 8 = .ok (.ireturn, 1) := by decide +kernel
theorem d_B_write_9 : decode b_B_write 9 = .ok (.aload_n 0, 1) := by decide +kernel
theorem d_B_write_10 : decode b_B_write 10 = .ok (.getfield 10, 3) := by decide +kernel
theorem d_B_write_13 : decode b_B_write 13 = .ok (.invokevirtual 61, 3) := by decide +kernel
theorem d_B_write_16 : decode b_B_write 16 = .ok (.bipush 32, 2) := by decide +kernel
theorem d_B_write_18 : decode b_B_write 18 = .ok (.if_icmp .ne 6, 3) := by decide +kernel
theorem d_B_write_21 : decode b_B_write 21 = .ok (.bipush (-2), 2) := by decide +kernel
theorem d_B_write_23 : decode b_B_write 23 = .ok (.ireturn, 1) := by decide +kernel
theorem d_B_write_24 : decode b_B_write 24 = .ok (.aload_n 0, 1) := by decide +kernel
theorem d_B_write_25 : decode b_B_write 25 = .ok (.getfield 10, 3) := by decide +kernel
theorem d_B_write_28 : decode b_B_write 28 = .ok (.iload_n 1, 1) := by decide +kernel
theorem d_B_write_29 : decode b_B_write 29 = .ok (.i2c, 1) := by decide +kernel
theorem d_B_write_30 : decode b_B_write 30 = .ok (.invokevirtual 189, 3) := by decide +kernel
theorem d_B_write_33 : decode b_B_write 33 = .ok (.pop, 1) := by decide +kernel
theorem d_B_write_34 : decode b_B_write 34 = .ok (.aload_n 0, 1) := by decide +kernel
theorem d_B_write_35 : decode b_B_write 35 = .ok (.getfield 10, 3) := by decide +kernel
theorem d_B_write_38 : decode b_B_write 38 = .ok (.invokevirtual 61, 3) := by decide +kernel
theorem d_B_write_41 : decode b_B_write 41 = .ok (.ireturn, 1) := by decide +kernel
def P_B_write (bc bs : Nat) (x1 : Int32) (u : PS) (Qc : Int32 → PS → Prop) : Prop := P_B_known x1 () (fun r_1 z_1 => ((r_1 = (0 : Int32) → Qc (-1 : Int32) u) ∧ (¬ r_1 = (0 : Int32) → P_SB_length  (p_wr u) (fun r_13 z_13 => ((r_13 = (32 : Int32) → Qc (-2 : Int32) (ps_wr u z_13)) ∧ (¬ r_13 = (32 : Int32) → (∃ kc_30 nc_30 : Nat, 0 + kc_30 ≤ bc ∧ 0 + nc_30 ≤ bs ∧ P_SB_append kc_30 nc_30 ((x1.toUInt32 % 65536).toInt32) (p_wr (ps_wr u z_13)) (fun z_30 => P_SB_length  (p_wr (ps_wr (ps_wr u z_13) z_30)) (fun r_38 z_38 => Qc r_38 (ps_wr (ps_wr (ps_wr u z_13) z_30) z_38))))))))))
section SW
variable {p : Program} {l : Launch} {e : Env} {s : State} {m : MethodId} {args : Array Value} {below : List Frame} {meth : Method} {c : Code} {x : GX} {g : GE} {ex : va_W} {a : Nat → Nat} {A : Nat → Prop} {o : Nat}
set_option maxHeartbeats 4000000 in
set_option maxRecDepth 20000 in
theorem c_B_write {x : GX} {g : GE} {o : Nat} {ex : va_W} {a : Nat → Nat} (l : Launch) (bc bs : Nat) (x1 : Int32) (u : PS) (sz : Nat) (Qc : Int32 → PS → Prop) (h : P_B_write bc bs x1 u Qc) : Met l y_B_write (wM y_B_write b_B_write 2 (some .int)) (rmN 8 bc bs) (PreE x g (pcl x g o) ex [.ref o, .int x1] a u sz) (QeI x (pcl x g o) ex (va_A ((pcl x g o) a u ++ ex) sz) Qc) bc bs (va_A ((pcl x g o) a u ++ ex) sz) := by
  refine w_enterE (by decide +kernel) (Nat.le_of_ble_eq_true rfl) (fun p e s m args below meth c S hr hlk hnm hK hE hA hw ls hl => ?_)
  have hl : lv_has ls 2 [(0, .ref o), (1, .int x1)] := hl
  refine lv_iload_n S.1 S.2.1 d_B_write_0 rfl (lv_at hl 1 rfl) ?_
  have hw2 := wd_eq (ws' := ucl a () ++ (pcl x g o a u ++ ex)) rfl hw
  refine w_ciF hA hw2 (w_rsE (rest := []) S hK hE hA hw2 (c_B_known l x1 () _ _ h) (w_cb (fr := 0) (lv := 0) S.2.2.2.2 k_192 k_190 k_1 yd_B_known rfl rfl ⟨Nat.le_of_ble_eq_true rfl, Nat.le_of_ble_eq_true rfl⟩) k_191 rfl hl.1 rfl (Nat.le_of_ble_eq_true rfl) d_B_write_1 ⟨(Nat.zero_le _), (Nat.zero_le _)⟩) (fun r_1 z_1 H locs h hw => ?_)
  have hw : wd x _ _ ((pcl x g o) a u ++ ex) H locs := hw
  refine lv_if_ne (tgt := 9) S.1 S.2.1 d_B_write_4 (by decide) (fun q_4 => ?_) (fun q_4 => ?_)
  · have h := h.2 q_4
    refine lv_aload_n S.1 S.2.1 d_B_write_9 rfl (lv_at hl 0 rfl) ?_
    refine pg_writing S hK hw d_B_write_10 ?_
    have hw2 := pb_wr_out hw
    refine w_ciF hA hw2 (w_rvE (rest := []) S hK hE hA hw2 (c_SB_length l  (p_wr u) _ _ h) (ci := 3) (q0 := 0) rfl rfl (w_cb (fr := 0) (lv := 0) S.2.2.2.2 k_278 k_275 k_3 yd_SB_length rfl rfl ⟨Nat.le_of_ble_eq_true rfl, Nat.le_of_ble_eq_true rfl⟩) k_276 k_277 rfl hl.1 rfl (Nat.le_of_ble_eq_true rfl) d_B_write_13 ⟨(Nat.zero_le _), (Nat.zero_le _)⟩) (fun r_13 z_13 H locs h hw => ?_)
    have hw : wd x _ _ ((pcl x g o) a (ps_wr u z_13) ++ ex) H locs := pb_wr_inF hw
    refine lv_bipush (v := 32) S.1 S.2.1 d_B_write_16 (by decide) ?_
    refine lv_icmp_ne (tgt := 24) S.1 S.2.1 d_B_write_18 (by decide) (fun q_18 => ?_) (fun q_18 => ?_)
    · have h := h.2 q_18
      refine lv_aload_n S.1 S.2.1 d_B_write_24 rfl (lv_at hl 0 rfl) ?_
      refine pg_writing S hK hw d_B_write_25 ?_
      refine lv_iload_n S.1 S.2.1 d_B_write_28 rfl (lv_at hl 1 rfl) ?_
      refine lv_i2c S.1 S.2.1 d_B_write_29 rfl ?_
      obtain ⟨kc_30, nc_30, hk_30, hn_30, h⟩ := h
      have hw2 := pb_wr_out hw
      refine w_ctE hA hw2 (w_rvE (rest := []) S hK hE hA hw2 (c_SB_append l kc_30 nc_30 ((x1.toUInt32 % 65536).toInt32) (p_wr (ps_wr u z_13)) _ _ h) (ci := 3) (q0 := 0) rfl rfl (w_cb (fr := 0) (lv := 0) S.2.2.2.2 k_285 k_282 k_3 yd_SB_append rfl rfl ⟨Nat.le_of_ble_eq_true rfl, Nat.le_of_ble_eq_true rfl⟩) k_283 k_284 rfl hl.1 rfl (Nat.le_of_ble_eq_true rfl) d_B_write_30 ⟨hk_30, hn_30⟩) (fun z_30 a_30 H locs h hw => ?_)
      obtain ⟨a_30p, hw⟩ : ∃ a9, wd x _ _ ((pcl x g o) a9 (ps_wr (ps_wr u z_13) z_30) ++ ex) H locs := ⟨_, pb_wr_in hw⟩
      refine lv_pop S.1 S.2.1 d_B_write_33 rfl ?_
      refine lv_aload_n S.1 S.2.1 d_B_write_34 rfl (lv_at hl 0 rfl) ?_
      refine pg_writing S hK hw d_B_write_35 ?_
      have hw2 := pb_wr_out hw
      refine w_ciF hA hw2 (w_rvE (rest := []) S hK hE hA hw2 (c_SB_length l  (p_wr (ps_wr (ps_wr u z_13) z_30)) _ _ h) (ci := 3) (q0 := 0) rfl rfl (w_cb (fr := 0) (lv := 0) S.2.2.2.2 k_278 k_275 k_3 yd_SB_length rfl rfl ⟨Nat.le_of_ble_eq_true rfl, Nat.le_of_ble_eq_true rfl⟩) k_276 k_277 rfl hl.1 rfl (Nat.le_of_ble_eq_true rfl) d_B_write_38 ⟨hk_30, hn_30⟩) (fun r_38 z_38 H locs h hw => ?_)
      have hw : wd x _ _ ((pcl x g o) a_30p (ps_wr (ps_wr (ps_wr u z_13) z_30) z_38) ++ ex) H locs := pb_wr_inF hw
      refine W.widen (k := bc) (n := bs) hk_30 hn_30 ?_
      exact w_iretE S hr hlk hw h d_B_write_41
    · have h := h.1 q_18
      refine lv_bipush (v := -2) S.1 S.2.1 d_B_write_21 (by decide) ?_
      refine W.widen (k := bc) (n := bs) (Nat.zero_le _) (Nat.zero_le _) ?_
      exact w_iretE S hr hlk hw h d_B_write_23
  · have h := h.1 q_4
    refine lv_iconst (v := -1) S.1 S.2.1 d_B_write_7 (by decide) ?_
    refine W.widen (k := bc) (n := bs) (Nat.zero_le _) (Nat.zero_le _) ?_
    exact w_iretE S hr hlk hw h d_B_write_8
end SW
