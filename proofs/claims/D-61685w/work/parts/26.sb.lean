abbrev b_A_length : ByteArray := prog_13_method_6_code
def y_A_length : MethodName := ⟨"java/lang/AbstractStringBuilder", "length", "()I"⟩
theorem yd_A_length : y_A_length.cls ≠ "java/lang/invoke/MethodHandle" ∧ y_A_length.cls ≠ "java/lang/invoke/VarHandle" ∧ (parseMethodDescriptor y_A_length.desc).map (fun d => d.parameters.length) = some 0 := by decide +kernel
theorem d_A_length_0 : decode b_A_length 0 = .ok (.aload_n 0, 1) := by decide +kernel
theorem d_A_length_1 : decode b_A_length 1 = .ok (.getfield 79, 3) := by decide +kernel
theorem d_A_length_4 : decode b_A_length 4 = .ok (.ireturn, 1) := by decide +kernel
def P_A_length  (u : SBS) (Qc : Int32 → SBS → Prop) : Prop := Qc (z_ct u) u
section SW
variable {p : Program} {l : Launch} {e : Env} {s : State} {m : MethodId} {args : Array Value} {below : List Frame} {meth : Method} {c : Code} {x : GX} {g : GE} {ex : va_W} {a : Nat → Nat} {A : Nat → Prop} {b : Nat}
set_option maxHeartbeats 4000000 in
set_option maxRecDepth 20000 in
theorem c_A_length {x : GX} {g : GE} {b : Nat} {ex : va_W} {a : Nat → Nat} (l : Launch)  (u : SBS) (sz : Nat) (Qc : Int32 → SBS → Prop) (h : P_A_length  u Qc) : Met l y_A_length (wM y_A_length b_A_length 1 (some .int)) (rmN 0 0 0) (PreE x g (scl x b) ex [.ref b] a u sz) (QfI x (scl x b) ex a (va_A ((scl x b) a u ++ ex) sz) Qc) 0 0 (va_A ((scl x b) a u ++ ex) sz) := by
  refine w_enterE (by decide +kernel) (Nat.le_of_ble_eq_true rfl) (fun p e s m args below meth c S hr hlk hnm hK hE hA hw ls hl => ?_)
  have hl : lv_has ls 1 [(0, .ref b)] := hl
  refine lv_aload_n S.1 S.2.1 d_A_length_0 rfl (lv_at hl 0 rfl) ?_
  refine sg_count S hK hw d_A_length_1 ?_
  exact w_iretF S hr hlk hw h d_A_length_4
end SW
abbrev b_SB_length : ByteArray := prog_21_method_93_code
def y_SB_length : MethodName := ⟨"java/lang/StringBuilder", "length", "()I"⟩
theorem yd_SB_length : y_SB_length.cls ≠ "java/lang/invoke/MethodHandle" ∧ y_SB_length.cls ≠ "java/lang/invoke/VarHandle" ∧ (parseMethodDescriptor y_SB_length.desc).map (fun d => d.parameters.length) = some 0 := by decide +kernel
theorem d_SB_length_0 : decode b_SB_length 0 = .ok (.aload_n 0, 1) := by decide +kernel
theorem d_SB_length_1 : decode b_SB_length 1 = .ok (.invokespecial 343, 3) := by decide +kernel
theorem d_SB_length_4 : decode b_SB_length 4 = .ok (.ireturn, 1) := by decide +kernel
def P_SB_length  (u : SBS) (Qc : Int32 → SBS → Prop) : Prop := P_A_length  u (fun r_1 u_1 => Qc r_1 u_1)
section SW
variable {p : Program} {l : Launch} {e : Env} {s : State} {m : MethodId} {args : Array Value} {below : List Frame} {meth : Method} {c : Code} {x : GX} {g : GE} {ex : va_W} {a : Nat → Nat} {A : Nat → Prop} {b : Nat}
set_option maxHeartbeats 4000000 in
set_option maxRecDepth 20000 in
theorem c_SB_length {x : GX} {g : GE} {b : Nat} {ex : va_W} {a : Nat → Nat} (l : Launch)  (u : SBS) (sz : Nat) (Qc : Int32 → SBS → Prop) (h : P_SB_length  u Qc) : Met l y_SB_length (wM y_SB_length b_SB_length 1 (some .int)) (rmN 1 0 0) (PreE x g (scl x b) ex [.ref b] a u sz) (QfI x (scl x b) ex a (va_A ((scl x b) a u ++ ex) sz) Qc) 0 0 (va_A ((scl x b) a u ++ ex) sz) := by
  refine w_enterE (by decide +kernel) (Nat.le_of_ble_eq_true rfl) (fun p e s m args below meth c S hr hlk hnm hK hE hA hw ls hl => ?_)
  have hl : lv_has ls 1 [(0, .ref b)] := hl
  refine lv_aload_n S.1 S.2.1 d_SB_length_0 rfl (lv_at hl 0 rfl) ?_
  refine w_ciF hA hw (w_rsuE (rest := []) S hK hE hA hw (c_A_length l  u _ _ h) (ci := 3) (q0 := 0) rfl rfl k_281 k_279 k_2 yd_A_length rfl rfl ⟨Nat.le_of_ble_eq_true rfl, Nat.le_of_ble_eq_true rfl⟩ k_1159 k_65 k_280 (by decide) rfl hl.1 rfl (Nat.le_of_ble_eq_true rfl) d_SB_length_1 ⟨(Nat.zero_le _), (Nat.zero_le _)⟩) (fun r_1 u_1 H locs h hw => ?_)
  exact w_iretF S hr hlk hw h d_SB_length_4
end SW
abbrev b_A_lat : ByteArray := prog_13_method_68_code
def y_A_lat : MethodName := ⟨"java/lang/AbstractStringBuilder", "isLatin1", "()Z"⟩
theorem yd_A_lat : y_A_lat.cls ≠ "java/lang/invoke/MethodHandle" ∧ y_A_lat.cls ≠ "java/lang/invoke/VarHandle" ∧ (parseMethodDescriptor y_A_lat.desc).map (fun d => d.parameters.length) = some 0 := by decide +kernel
theorem d_A_lat_0 : decode b_A_lat 0 = .ok (.getstatic 18, 3) := by decide +kernel
theorem d_A_lat_3 : decode b_A_lat 3 = .ok (.ifCond .eq 14, 3) := by decide +kernel
theorem d_A_lat_6 : decode b_A_lat 6 = .ok (.aload_n 0, 1) := by decide +kernel
theorem d_A_lat_7 : decode b_A_lat 7 = .ok (.getfield 22, 3) := by decide +kernel
theorem d_A_lat_10 : decode b_A_lat 10 = .ok (.ifCond .ne 7, 3) := by decide +kernel
theorem d_A_lat_13 : decode b_A_lat 13 = .ok (.iconst 1, 1) := by decide +kernel
theorem d_A_lat_14 : decode b_A_lat 14 = .ok (.goto 4, 3) := by decide +kernel
theorem d_A_lat_17 : decode b_A_lat 17 = .ok (.iconst 0, 1) := by decide +kernel
theorem d_A_lat_18 : decode b_A_lat 18 = .ok (.ireturn, 1) := by decide +kernel
def P_A_lat  (u : SBS) (Qc : Int32 → SBS → Prop) : Prop := (((1 : Int32) = (0 : Int32) → Qc (0 : Int32) u) ∧ (¬ (1 : Int32) = (0 : Int32) → (((z_co u) = (0 : Int32) → Qc (1 : Int32) u) ∧ (¬ (z_co u) = (0 : Int32) → Qc (0 : Int32) u))))
section SW
variable {p : Program} {l : Launch} {e : Env} {s : State} {m : MethodId} {args : Array Value} {below : List Frame} {meth : Method} {c : Code} {x : GX} {g : GE} {ex : va_W} {a : Nat → Nat} {A : Nat → Prop} {b : Nat}
set_option maxHeartbeats 4000000 in
set_option maxRecDepth 20000 in
theorem c_A_lat {x : GX} {g : GE} {b : Nat} {ex : va_W} {a : Nat → Nat} (l : Launch)  (u : SBS) (sz : Nat) (Qc : Int32 → SBS → Prop) (h : P_A_lat  u Qc) : Met l y_A_lat (wM y_A_lat b_A_lat 1 (some .boolean)) (rmN 0 0 0) (PreE x g (scl x b) ex [.ref b] a u sz) (QfI x (scl x b) ex a (va_A ((scl x b) a u ++ ex) sz) Qc) 0 0 (va_A ((scl x b) a u ++ ex) sz) := by
  refine w_enterE (by decide +kernel) (Nat.le_of_ble_eq_true rfl) (fun p e s m args below meth c S hr hlk hnm hK hE hA hw ls hl => ?_)
  have hl : lv_has ls 1 [(0, .ref b)] := hl
  refine va_gets S.1 S.2.1 hE.2.1 hw.2.2 S.2.2.2.1 (S.2.2.2.2 _ k_44) (fun _ h9 => h9) d_A_lat_0 ?_
  refine lv_if_eq (tgt := 17) S.1 S.2.1 d_A_lat_3 (by decide) (fun q_3 => ?_) (fun q_3 => ?_)
  · have h := h.1 q_3
    refine lv_iconst (v := 0) S.1 S.2.1 d_A_lat_17 (by decide) ?_
    exact w_zretF S hr hlk isB0 hw h d_A_lat_18
  · have h := h.2 q_3
    refine lv_aload_n S.1 S.2.1 d_A_lat_6 rfl (lv_at hl 0 rfl) ?_
    refine sg_coder S hK hw d_A_lat_7 ?_
    refine lv_if_ne (tgt := 17) S.1 S.2.1 d_A_lat_10 (by decide) (fun q_10 => ?_) (fun q_10 => ?_)
    · have h := h.2 q_10
      refine lv_iconst (v := 0) S.1 S.2.1 d_A_lat_17 (by decide) ?_
      exact w_zretF S hr hlk isB0 hw h d_A_lat_18
    · have h := h.1 q_10
      refine lv_iconst (v := 1) S.1 S.2.1 d_A_lat_13 (by decide) ?_
      refine lv_goto (tgt := 18) S.1 S.2.1 d_A_lat_14 (by decide) ?_
      exact w_zretF S hr hlk isB1 hw h d_A_lat_18
end SW
abbrev b_A_charAt : ByteArray := prog_13_method_14_code
def y_A_charAt : MethodName := ⟨"java/lang/AbstractStringBuilder", "charAt", "(I)C"⟩
theorem yd_A_charAt : y_A_charAt.cls ≠ "java/lang/invoke/MethodHandle" ∧ y_A_charAt.cls ≠ "java/lang/invoke/VarHandle" ∧ (parseMethodDescriptor y_A_charAt.desc).map (fun d => d.parameters.length) = some 1 := by decide +kernel
theorem d_A_charAt_0 : decode b_A_charAt 0 = .ok (.aload_n 0, 1) := by decide +kernel
theorem d_A_charAt_1 : decode b_A_charAt 1 = .ok (.getfield 22, 3) := by decide +kernel
theorem d_A_charAt_4 : decode b_A_charAt 4 = .ok (.istore_n 2, 1) := by decide +kernel
theorem d_A_charAt_5 : decode b_A_charAt 5 = .ok (.aload_n 0, 1) := by decide +kernel
theorem d_A_charAt_6 : decode b_A_charAt 6 = .ok (.getfield 15, 3) := by decide +kernel
theorem d_A_charAt_9 : decode b_A_charAt 9 = .ok (.astore_n 3, 1) := by decide +kernel
theorem d_A_charAt_10 : decode b_A_charAt 10 = .ok (.aload_n 0, 1) := by decide +kernel
theorem d_A_charAt_11 : decode b_A_charAt 11 = .ok (.getfield 79, 3) := by decide +kernel
theorem d_A_charAt_14 : decode b_A_charAt 14 = .ok (.aload_n 3, 1) := by decide +kernel
theorem d_A_charAt_15 : decode b_A_charAt 15 = .ok (.arraylength, 1) := by decide +kernel
theorem d_A_charAt_16 : decode b_A_charAt 16 = .ok (.iload_n 2, 1) := by decide +kernel
theorem d_A_charAt_17 : decode b_A_charAt 17 = .ok (.ishr, 1) := by decide +kernel
theorem d_A_charAt_18 : decode b_A_charAt 18 = .ok (.invokestatic 138, 3) := by decide +kernel
theorem d_A_charAt_21 : decode b_A_charAt 21 = .ok (.istore 4, 2) := by decide +kernel
theorem d_A_charAt_23 : decode b_A_charAt 23 = .ok (.iload_n 1, 1) := by decide +kernel
theorem d_A_charAt_24 : decode b_A_charAt 24 = .ok (.iload 4, 2) := by decide +kernel
theorem d_A_charAt_26 : decode b_A_charAt 26 = .ok (.invokestatic 144, 3) := by decide +kernel
theorem d_A_charAt_29 : decode b_A_charAt 29 = .ok (.iload_n 2, 1) := by decide +kernel
theorem d_A_charAt_30 : decode b_A_charAt 30 = .ok (.ifCond .ne 12, 3) := by decide +kernel
theorem d_A_charAt_33 : decode b_A_charAt 33 = .ok (.aload_n 3, 1) := by decide +kernel
theorem d_A_charAt_34 : decode b_A_charAt 34 = .ok (.iload_n 1, 1) := by decide +kernel
theorem d_A_charAt_35 : decode b_A_charAt 35 = .ok (.baload, 1) := by decide +kernel
theorem d_A_charAt_36 : decode b_A_charAt 36 = .ok (.sipush 255, 3) := by decide +kernel
theorem d_A_charAt_39 : decode b_A_charAt 39 = .ok (.iand, 1) := by decide +kernel
theorem d_A_charAt_40 : decode b_A_charAt 40 = .ok (.i2c, 1) := by decide +kernel
theorem d_A_charAt_41 : decode b_A_charAt 41 = .ok (.ireturn, 1) := by decide +kernel
theorem d_A_charAt_43 : decode b_A_charAt 43 = .ok (.iload_n 1, 1) := by decide +kernel
theorem d_A_charAt_44 : decode b_A_charAt 44 = .ok (.invokestatic 148, 3) := by decide +kernel
theorem d_A_charAt_47 : decode b_A_charAt 47 = .ok (.ireturn, 1) := by decide +kernel
def P_A_charAt (x1 : Int32) (u : SBS) (Qc : Int32 → SBS → Prop) : Prop := (∀ x2_4 : Int32, x2_4 = (z_co u) → (∀ x4_21 : Int32, x4_21 = (if ((nI (z_cap u)) >>> (x2_4 &&& 31)) < (z_ct u) then ((nI (z_cap u)) >>> (x2_4 &&& 31)) else (z_ct u)) → P_J_chk x1 x4_21 () (fun z_26 => ((x2_4 = (0 : Int32) → (vp_in x1 (z_cap u) ∧ (narrow .char (.int ((((z_by u x1.toNatClampNeg) &&& (255 : Int32)).toUInt32 % 65536).toInt32)) = .int ((((z_by u x1.toNatClampNeg) &&& (255 : Int32)).toUInt32 % 65536).toInt32) ∧ Qc ((((z_by u x1.toNatClampNeg) &&& (255 : Int32)).toUInt32 % 65536).toInt32) u))) ∧ (¬ x2_4 = (0 : Int32) → False)))))
section SW
variable {p : Program} {l : Launch} {e : Env} {s : State} {m : MethodId} {args : Array Value} {below : List Frame} {meth : Method} {c : Code} {x : GX} {g : GE} {ex : va_W} {a : Nat → Nat} {A : Nat → Prop} {b : Nat}
set_option maxHeartbeats 4000000 in
set_option maxRecDepth 20000 in
theorem c_A_charAt {x : GX} {g : GE} {b : Nat} {ex : va_W} {a : Nat → Nat} (l : Launch) (x1 : Int32) (u : SBS) (sz : Nat) (Qc : Int32 → SBS → Prop) (h : P_A_charAt x1 u Qc) : Met l y_A_charAt (wM y_A_charAt b_A_charAt 5 (some .char)) (rmN 4 0 0) (PreE x g (scl x b) ex [.ref b, .int x1] a u sz) (QfI x (scl x b) ex a (va_A ((scl x b) a u ++ ex) sz) Qc) 0 0 (va_A ((scl x b) a u ++ ex) sz) := by
  refine w_enterE (by decide +kernel) (Nat.le_of_ble_eq_true rfl) (fun p e s m args below meth c S hr hlk hnm hK hE hA hw ls hl => ?_)
  have hl : lv_has ls 5 [(0, .ref b), (1, .int x1)] := hl
  refine lv_aload_n S.1 S.2.1 d_A_charAt_0 rfl (lv_at hl 0 rfl) ?_
  refine sg_coder S hK hw d_A_charAt_1 ?_
  refine lv_topi (fun x2_4 ex2_4 => ?_)
  have h := h x2_4 ex2_4
  refine lv_istore_n (lv' := [(2, .int x2_4), (0, .ref b), (1, .int x1)]) S.1 S.2.1 d_A_charAt_4 rfl hl (by decide) rfl (fun ls hl => ?_)
  refine lv_aload_n S.1 S.2.1 d_A_charAt_5 rfl (lv_at hl 1 rfl) ?_
  refine sg_value S hK hw d_A_charAt_6 ?_
  refine lv_astore_n (lv' := [(3, .ref (a 0)), (2, .int x2_4), (0, .ref b), (1, .int x1)]) S.1 S.2.1 d_A_charAt_9 rfl hl (by decide) rfl (fun ls hl => ?_)
  refine lv_aload_n S.1 S.2.1 d_A_charAt_10 rfl (lv_at hl 2 rfl) ?_
  refine sg_count S hK hw d_A_charAt_11 ?_
  refine lv_aload_n S.1 S.2.1 d_A_charAt_14 rfl (lv_at hl 0 rfl) ?_
  refine sn_cap S hK hw d_A_charAt_15 ?_
  refine lv_iload_n S.1 S.2.1 d_A_charAt_16 rfl (lv_at hl 1 rfl) ?_
  refine lv_ishr S.1 S.2.1 d_A_charAt_17 ?_
  refine va_mmin S.1 S.2.1 (S.2.2.1.trans hl.1.symm) S.2.2.2.1 (S.2.2.2.2 _ k_411) (S.2.2.2.2 _ k_108) (S.2.2.2.2 _ k_7) (S.2.2.2.2 _ k_109) (Nat.le_of_ble_eq_true rfl) (Nat.le_of_ble_eq_true rfl) (Nat.zero_le _) (Nat.zero_le _) d_A_charAt_18 ?_
  refine lv_topi (fun x4_21 ex4_21 => ?_)
  have h := h x4_21 ex4_21
  refine lv_istore (lv' := [(4, .int x4_21), (3, .ref (a 0)), (2, .int x2_4), (0, .ref b), (1, .int x1)]) S.1 S.2.1 d_A_charAt_21 hl (by decide) rfl (fun ls hl => ?_)
  refine lv_iload_n S.1 S.2.1 d_A_charAt_23 rfl (lv_at hl 4 rfl) ?_
  refine lv_iload S.1 S.2.1 d_A_charAt_24 (lv_at hl 0 rfl) ?_
  have hw2 := wd_eq (ws' := ucl a () ++ (scl x b a u ++ ex)) rfl hw
  refine w_cvF hA hw2 (w_rsE (rest := []) S hK hE hA hw2 (c_J_chk l x1 x4_21 () _ _ h) (w_cb (fr := 0) (lv := 0) S.2.2.2.2 k_358 k_412 k_4 yd_J_chk rfl rfl ⟨Nat.le_of_ble_eq_true rfl, Nat.le_of_ble_eq_true rfl⟩) k_357 rfl hl.1 rfl (Nat.le_of_ble_eq_true rfl) d_A_charAt_26 ⟨(Nat.zero_le _), (Nat.zero_le _)⟩) (fun z_26 H locs h hw => ?_)
  have hw : wd x _ _ ((scl x b) a u ++ ex) H locs := hw
  refine lv_iload_n S.1 S.2.1 d_A_charAt_29 rfl (lv_at hl 2 rfl) ?_
  refine lv_if_ne (tgt := 42) S.1 S.2.1 d_A_charAt_30 (by decide) (fun q_30 => ?_) (fun q_30 => ?_)
  · have h := h.2 q_30
    exact absurd h id
  · have h := h.1 q_30
    refine lv_aload_n S.1 S.2.1 d_A_charAt_33 rfl (lv_at hl 1 rfl) ?_
    refine lv_iload_n S.1 S.2.1 d_A_charAt_34 rfl (lv_at hl 4 rfl) ?_
    have hg := h.1
    have h := h.2
    refine sl_by S hK hw hg d_A_charAt_35 ?_
    refine lv_sipush (v := 255) S.1 S.2.1 d_A_charAt_36 (by decide) ?_
    refine lv_iand S.1 S.2.1 d_A_charAt_39 ?_
    refine lv_i2c S.1 S.2.1 d_A_charAt_40 rfl ?_
    exact w_cretF S hr hlk h.1 hw h.2 d_A_charAt_41
end SW
abbrev b_SB_charAt : ByteArray := prog_21_method_88_code
def y_SB_charAt : MethodName := ⟨"java/lang/StringBuilder", "charAt", "(I)C"⟩
theorem yd_SB_charAt : y_SB_charAt.cls ≠ "java/lang/invoke/MethodHandle" ∧ y_SB_charAt.cls ≠ "java/lang/invoke/VarHandle" ∧ (parseMethodDescriptor y_SB_charAt.desc).map (fun d => d.parameters.length) = some 1 := by decide +kernel
theorem d_SB_charAt_0 : decode b_SB_charAt 0 = .ok (.aload_n 0, 1) := by decide +kernel
theorem d_SB_charAt_1 : decode b_SB_charAt 1 = .ok (.iload_n 1, 1) := by decide +kernel
theorem d_SB_charAt_2 : decode b_SB_charAt 2 = .ok (.invokespecial 329, 3) := by decide +kernel
theorem d_SB_charAt_5 : decode b_SB_charAt 5 = .ok (.ireturn, 1) := by decide +kernel
def P_SB_charAt (x1 : Int32) (u : SBS) (Qc : Int32 → SBS → Prop) : Prop := P_A_charAt x1 u (fun r_2 u_2 => (narrow .char (.int r_2) = .int r_2 ∧ Qc r_2 u_2))
section SW
variable {p : Program} {l : Launch} {e : Env} {s : State} {m : MethodId} {args : Array Value} {below : List Frame} {meth : Method} {c : Code} {x : GX} {g : GE} {ex : va_W} {a : Nat → Nat} {A : Nat → Prop} {b : Nat}
set_option maxHeartbeats 4000000 in
set_option maxRecDepth 20000 in
theorem c_SB_charAt {x : GX} {g : GE} {b : Nat} {ex : va_W} {a : Nat → Nat} (l : Launch) (x1 : Int32) (u : SBS) (sz : Nat) (Qc : Int32 → SBS → Prop) (h : P_SB_charAt x1 u Qc) : Met l y_SB_charAt (wM y_SB_charAt b_SB_charAt 2 (some .char)) (rmN 5 0 0) (PreE x g (scl x b) ex [.ref b, .int x1] a u sz) (QfI x (scl x b) ex a (va_A ((scl x b) a u ++ ex) sz) Qc) 0 0 (va_A ((scl x b) a u ++ ex) sz) := by
  refine w_enterE (by decide +kernel) (Nat.le_of_ble_eq_true rfl) (fun p e s m args below meth c S hr hlk hnm hK hE hA hw ls hl => ?_)
  have hl : lv_has ls 2 [(0, .ref b), (1, .int x1)] := hl
  refine lv_aload_n S.1 S.2.1 d_SB_charAt_0 rfl (lv_at hl 0 rfl) ?_
  refine lv_iload_n S.1 S.2.1 d_SB_charAt_1 rfl (lv_at hl 1 rfl) ?_
  refine w_ciF hA hw (w_rsuE (rest := []) S hK hE hA hw (c_A_charAt l x1 u _ _ h) (ci := 3) (q0 := 0) rfl rfl k_410 k_408 k_2 yd_A_charAt rfl rfl ⟨Nat.le_of_ble_eq_true rfl, Nat.le_of_ble_eq_true rfl⟩ k_1164 k_65 k_409 (by decide) rfl hl.1 rfl (Nat.le_of_ble_eq_true rfl) d_SB_charAt_2 ⟨(Nat.zero_le _), (Nat.zero_le _)⟩) (fun r_2 u_2 H locs h hw => ?_)
  exact w_cretF S hr hlk h.1 hw h.2 d_SB_charAt_5
end SW
abbrev b_A_newCap : ByteArray := prog_13_method_10_code
def y_A_newCap : MethodName := ⟨"java/lang/AbstractStringBuilder", "newCapacity", "(I)I"⟩
theorem yd_A_newCap : y_A_newCap.cls ≠ "java/lang/invoke/MethodHandle" ∧ y_A_newCap.cls ≠ "java/lang/invoke/VarHandle" ∧ (parseMethodDescriptor y_A_newCap.desc).map (fun d => d.parameters.length) = some 1 := by decide +kernel
theorem d_A_newCap_0 : decode b_A_newCap 0 = .ok (.aload_n 0, 1) := by decide +kernel
theorem d_A_newCap_1 : decode b_A_newCap 1 = .ok (.getfield 15, 3) := by decide +kernel
theorem d_A_newCap_4 : decode b_A_newCap 4 = .ok (.arraylength, 1) := by decide +kernel
theorem d_A_newCap_5 : decode b_A_newCap 5 = .ok (.istore_n 2, 1) := by decide +kernel
theorem d_A_newCap_6 : decode b_A_newCap 6 = .ok (.iload_n 1, 1) := by decide +kernel
theorem d_A_newCap_7 : decode b_A_newCap 7 = .ok (.aload_n 0, 1) := by decide +kernel
theorem d_A_newCap_8 : decode b_A_newCap 8 = .ok (.getfield 22, 3) := by decide +kernel
theorem d_A_newCap_11 : decode b_A_newCap 11 = .ok (.ishl, 1) := by decide +kernel
theorem d_A_newCap_12 : decode b_A_newCap 12 = .ok (.istore_n 3, 1) := by decide +kernel
theorem d_A_newCap_13 : decode b_A_newCap 13 = .ok (.iload_n 3, 1) := by decide +kernel
theorem d_A_newCap_14 : decode b_A_newCap 14 = .ok (.iload_n 2, 1) := by decide +kernel
theorem d_A_newCap_15 : decode b_A_newCap 15 = .ok (.isub, 1) := by decide +kernel
theorem d_A_newCap_16 : decode b_A_newCap 16 = .ok (.istore 4, 2) := by decide +kernel
theorem d_A_newCap_18 : decode b_A_newCap 18 = .ok (.iload_n 2, 1) := by decide +kernel
theorem d_A_newCap_19 : decode b_A_newCap 19 = .ok (.iload 4, 2) := by decide +kernel
theorem d_A_newCap_21 : decode b_A_newCap 21 = .ok (.iload_n 2, 1) := by decide +kernel
theorem d_A_newCap_22 : decode b_A_newCap 22 = .ok (.iconst 2, 1) := by decide +kernel
theorem d_A_newCap_23 : decode b_A_newCap 23 = .ok (.aload_n 0, 1) := by decide +kernel
theorem d_A_newCap_24 : decode b_A_newCap 24 = .ok (.getfield 22, 3) := by decide +kernel
theorem d_A_newCap_27 : decode b_A_newCap 27 = .ok (.ishl, 1) := by decide +kernel
theorem d_A_newCap_28 : decode b_A_newCap 28 = .ok (.iadd, 1) := by decide +kernel
theorem d_A_newCap_29 : decode b_A_newCap 29 = .ok (.invokestatic 114, 3) := by decide +kernel
theorem d_A_newCap_32 : decode b_A_newCap 32 = .ok (.istore 5, 2) := by decide +kernel
theorem d_A_newCap_34 : decode b_A_newCap 34 = .ok (.iload 5, 2) := by decide +kernel
theorem d_A_newCap_36 : decode b_A_newCap 36 = .ok (.ldc 39, 2) := by decide +kernel
theorem d_A_newCap_38 : decode b_A_newCap 38 = .ok (.if_icmp .ne 13, 3) := by decide +kernel
theorem d_A_newCap_51 : decode b_A_newCap 51 = .ok (.iload 5, 2) := by decide +kernel
theorem d_A_newCap_53 : decode b_A_newCap 53 = .ok (.aload_n 0, 1) := by decide +kernel
theorem d_A_newCap_54 : decode b_A_newCap 54 = .ok (.getfield 22, 3) := by decide +kernel
theorem d_A_newCap_57 : decode b_A_newCap 57 = .ok (.ishr, 1) := by decide +kernel
theorem d_A_newCap_58 : decode b_A_newCap 58 = .ok (.ireturn, 1) := by decide +kernel
def P_A_newCap (x1 : Int32) (u : SBS) (Qc : Int32 → SBS → Prop) : Prop := (∀ x2_5 : Int32, x2_5 = (nI (z_cap u)) → (∀ x3_12 : Int32, x3_12 = (x1 <<< ((z_co u) &&& 31)) → (∀ x4_16 : Int32, x4_16 = (x3_12 - x2_5) → P_J_newLen x2_5 x4_16 (x2_5 + ((2 : Int32) <<< ((z_co u) &&& 31))) (fun r_29 => ((r_29 = (2147483647 : Int32) → False) ∧ (¬ r_29 = (2147483647 : Int32) → Qc (r_29 >>> ((z_co u) &&& 31)) u))))))
section SW
variable {p : Program} {l : Launch} {e : Env} {s : State} {m : MethodId} {args : Array Value} {below : List Frame} {meth : Method} {c : Code} {x : GX} {g : GE} {ex : va_W} {a : Nat → Nat} {A : Nat → Prop} {b : Nat}
set_option maxHeartbeats 4000000 in
set_option maxRecDepth 20000 in
theorem c_A_newCap {x : GX} {g : GE} {b : Nat} {ex : va_W} {a : Nat → Nat} (l : Launch) (x1 : Int32) (u : SBS) (sz : Nat) (Qc : Int32 → SBS → Prop) (h : P_A_newCap x1 u Qc) : Met l y_A_newCap (wM y_A_newCap b_A_newCap 6 (some .int)) (rmN 4 0 0) (PreE x g (scl x b) ex [.ref b, .int x1] a u sz) (QfI x (scl x b) ex a (va_A ((scl x b) a u ++ ex) sz) Qc) 0 0 (va_A ((scl x b) a u ++ ex) sz) := by
  refine w_enterE (by decide +kernel) (Nat.le_of_ble_eq_true rfl) (fun p e s m args below meth c S hr hlk hnm hK hE hA hw ls hl => ?_)
  have hl : lv_has ls 6 [(0, .ref b), (1, .int x1)] := hl
  refine lv_aload_n S.1 S.2.1 d_A_newCap_0 rfl (lv_at hl 0 rfl) ?_
  refine sg_value S hK hw d_A_newCap_1 ?_
  refine sn_cap S hK hw d_A_newCap_4 ?_
  refine lv_topi (fun x2_5 ex2_5 => ?_)
  have h := h x2_5 ex2_5
  refine lv_istore_n (lv' := [(2, .int x2_5), (0, .ref b), (1, .int x1)]) S.1 S.2.1 d_A_newCap_5 rfl hl (by decide) rfl (fun ls hl => ?_)
  refine lv_iload_n S.1 S.2.1 d_A_newCap_6 rfl (lv_at hl 2 rfl) ?_
  refine lv_aload_n S.1 S.2.1 d_A_newCap_7 rfl (lv_at hl 1 rfl) ?_
  refine sg_coder S hK hw d_A_newCap_8 ?_
  refine lv_ishl S.1 S.2.1 d_A_newCap_11 ?_
  refine lv_topi (fun x3_12 ex3_12 => ?_)
  have h := h x3_12 ex3_12
  refine lv_istore_n (lv' := [(3, .int x3_12), (2, .int x2_5), (0, .ref b), (1, .int x1)]) S.1 S.2.1 d_A_newCap_12 rfl hl (by decide) rfl (fun ls hl => ?_)
  refine lv_iload_n S.1 S.2.1 d_A_newCap_13 rfl (lv_at hl 0 rfl) ?_
  refine lv_iload_n S.1 S.2.1 d_A_newCap_14 rfl (lv_at hl 1 rfl) ?_
  refine lv_isub S.1 S.2.1 d_A_newCap_15 ?_
  refine lv_topi (fun x4_16 ex4_16 => ?_)
  have h := h x4_16 ex4_16
  refine lv_istore (lv' := [(4, .int x4_16), (3, .int x3_12), (2, .int x2_5), (0, .ref b), (1, .int x1)]) S.1 S.2.1 d_A_newCap_16 hl (by decide) rfl (fun ls hl => ?_)
  refine lv_iload_n S.1 S.2.1 d_A_newCap_18 rfl (lv_at hl 2 rfl) ?_
  refine lv_iload S.1 S.2.1 d_A_newCap_19 (lv_at hl 0 rfl) ?_
  refine lv_iload_n S.1 S.2.1 d_A_newCap_21 rfl (lv_at hl 2 rfl) ?_
  refine lv_iconst (v := 2) S.1 S.2.1 d_A_newCap_22 (by decide) ?_
  refine lv_aload_n S.1 S.2.1 d_A_newCap_23 rfl (lv_at hl 3 rfl) ?_
  refine sg_coder S hK hw d_A_newCap_24 ?_
  refine lv_ishl S.1 S.2.1 d_A_newCap_27 ?_
  refine lv_iadd S.1 S.2.1 d_A_newCap_28 ?_
  refine w_cn (w_rs (rest := []) S (c_J_newLen l x2_5 x4_16 (x2_5 + ((2 : Int32) <<< ((z_co u) &&& 31))) _ h) (w_cb (fr := 0) (lv := 0) S.2.2.2.2 k_299 k_297 k_12 yd_J_newLen rfl rfl ⟨Nat.le_of_ble_eq_true rfl, Nat.le_of_ble_eq_true rfl⟩) k_298 rfl hl.1 rfl (Nat.le_of_ble_eq_true rfl) d_A_newCap_29 ⟨(Nat.zero_le _), (Nat.zero_le _)⟩) (fun r_29 h => ?_)
  refine lv_istore (lv' := [(5, .int r_29), (4, .int x4_16), (3, .int x3_12), (2, .int x2_5), (0, .ref b), (1, .int x1)]) S.1 S.2.1 d_A_newCap_32 hl (by decide) rfl (fun ls hl => ?_)
  refine lv_iload S.1 S.2.1 d_A_newCap_34 (lv_at hl 0 rfl) ?_
  refine lv_ldc (v := 2147483647) S.1 S.2.1 S.2.2.2.1 (S.2.2.2.2 _ k_305) d_A_newCap_36 ?_
  refine lv_icmp_ne (tgt := 51) S.1 S.2.1 d_A_newCap_38 (by decide) (fun q_38 => ?_) (fun q_38 => ?_)
  · have h := h.2 q_38
    refine lv_iload S.1 S.2.1 d_A_newCap_51 (lv_at hl 0 rfl) ?_
    refine lv_aload_n S.1 S.2.1 d_A_newCap_53 rfl (lv_at hl 4 rfl) ?_
    refine sg_coder S hK hw d_A_newCap_54 ?_
    refine lv_ishr S.1 S.2.1 d_A_newCap_57 ?_
    exact w_iretF S hr hlk hw h d_A_newCap_58
  · have h := h.1 q_38
    exact absurd h id
end SW
abbrev b_A_ensure : ByteArray := prog_13_method_9_code
def y_A_ensure : MethodName := ⟨"java/lang/AbstractStringBuilder", "ensureCapacityInternal", "(I)V"⟩
theorem yd_A_ensure : y_A_ensure.cls ≠ "java/lang/invoke/MethodHandle" ∧ y_A_ensure.cls ≠ "java/lang/invoke/VarHandle" ∧ (parseMethodDescriptor y_A_ensure.desc).map (fun d => d.parameters.length) = some 1 := by decide +kernel
theorem d_A_ensure_0 : decode b_A_ensure 0 = .ok (.aload_n 0, 1) := by decide +kernel
theorem d_A_ensure_1 : decode b_A_ensure 1 = .ok (.getfield 15, 3) := by decide +kernel
theorem d_A_ensure_4 : decode b_A_ensure 4 = .ok (.arraylength, 1) := by decide +kernel
theorem d_A_ensure_5 : decode b_A_ensure 5 = .ok (.aload_n 0, 1) := by decide +kernel
theorem d_A_ensure_6 : decode b_A_ensure 6 = .ok (.getfield 22, 3) := by decide +kernel
theorem d_A_ensure_9 : decode b_A_ensure 9 = .ok (.ishr, 1) := by decide +kernel
theorem d_A_ensure_10 : decode b_A_ensure 10 = .ok (.istore_n 2, 1) := by decide +kernel
theorem d_A_ensure_11 : decode b_A_ensure 11 = .ok (.iload_n 1, 1) := by decide +kernel
theorem d_A_ensure_12 : decode b_A_ensure 12 = .ok (.iload_n 2, 1) := by decide +kernel
theorem d_A_ensure_13 : decode b_A_ensure 13 = .ok (.isub, 1) := by decide +kernel
theorem d_A_ensure_14 : decode b_A_ensure 14 = .ok (.ifCond .le 24, 3) := by decide +kernel
theorem d_A_ensure_17 : decode b_A_ensure 17 = .ok (.aload_n 0, 1) := by decide +kernel
theorem d_A_ensure_18 : decode b_A_ensure 18 = .ok (.aload_n 0, 1) := by decide +kernel
theorem d_A_ensure_19 : decode b_A_ensure 19 = .ok (.getfield 15, 3) := by decide +kernel
theorem d_A_ensure_22 : decode b_A_ensure 22 = .ok (.aload_n 0, 1) := by decide +kernel
theorem d_A_ensure_23 : decode b_A_ensure 23 = .ok (.iload_n 1, 1) := by decide +kernel
theorem d_A_ensure_24 : decode b_A_ensure 24 = .ok (.invokevirtual 104, 3) := by decide +kernel
theorem d_A_ensure_27 : decode b_A_ensure 27 = .ok (.aload_n 0, 1) := by decide +kernel
theorem d_A_ensure_28 : decode b_A_ensure 28 = .ok (.getfield 22, 3) := by decide +kernel
theorem d_A_ensure_31 : decode b_A_ensure 31 = .ok (.ishl, 1) := by decide +kernel
theorem d_A_ensure_32 : decode b_A_ensure 32 = .ok (.invokestatic 108, 3) := by decide +kernel
theorem d_A_ensure_35 : decode b_A_ensure 35 = .ok (.putfield 15, 3) := by decide +kernel
theorem d_A_ensure_38 : decode b_A_ensure 38 = .ok (.return_, 1) := by decide +kernel
def P_A_ensure (bc bs : Nat) (x1 : Int32) (u : SBS) (Qc : SBS → Prop) : Prop := (∀ x2_10 : Int32, x2_10 = ((nI (z_cap u)) >>> ((z_co u) &&& 31)) → (((x1 - x2_10) ≤ (0 : Int32) → Qc u) ∧ (¬ (x1 - x2_10) ≤ (0 : Int32) → P_A_newCap x1 u (fun r_24 u_24 => (∃ N_32 : Nat, (r_24 <<< ((z_co u_24) &&& 31)) = nI N_32 ∧ z_cap u_24 < N_32 ∧ N_32 < 2 ^ 29 ∧ (∀ i, i < z_cap u_24 → fits .byte (.int (z_by u_24 i)) = true) ∧ 0 + 1 ≤ bc ∧ 0 + N_32 ≤ bs ∧ Qc (s_grown u_24 N_32))))))
section SW
variable {p : Program} {l : Launch} {e : Env} {s : State} {m : MethodId} {args : Array Value} {below : List Frame} {meth : Method} {c : Code} {x : GX} {g : GE} {ex : va_W} {a : Nat → Nat} {A : Nat → Prop} {b : Nat}
set_option maxHeartbeats 4000000 in
set_option maxRecDepth 20000 in
theorem c_A_ensure {x : GX} {g : GE} {b : Nat} {ex : va_W} {a : Nat → Nat} (l : Launch) (bc bs : Nat) (x1 : Int32) (u : SBS) (sz : Nat) (Qc : SBS → Prop) (h : P_A_ensure bc bs x1 u Qc) : Met l y_A_ensure (wM y_A_ensure b_A_ensure 3 none) (rmN 5 bc bs) (PreE x g (scl x b) ex [.ref b, .int x1] a u sz) (QeV x (scl x b) ex (va_A ((scl x b) a u ++ ex) sz) Qc) bc bs (va_A ((scl x b) a u ++ ex) sz) := by
  refine w_enterE (by decide +kernel) (Nat.le_of_ble_eq_true rfl) (fun p e s m args below meth c S hr hlk hnm hK hE hA hw ls hl => ?_)
  have hl : lv_has ls 3 [(0, .ref b), (1, .int x1)] := hl
  refine lv_aload_n S.1 S.2.1 d_A_ensure_0 rfl (lv_at hl 0 rfl) ?_
  refine sg_value S hK hw d_A_ensure_1 ?_
  refine sn_cap S hK hw d_A_ensure_4 ?_
  refine lv_aload_n S.1 S.2.1 d_A_ensure_5 rfl (lv_at hl 0 rfl) ?_
  refine sg_coder S hK hw d_A_ensure_6 ?_
  refine lv_ishr S.1 S.2.1 d_A_ensure_9 ?_
  refine lv_topi (fun x2_10 ex2_10 => ?_)
  have h := h x2_10 ex2_10
  refine lv_istore_n (lv' := [(2, .int x2_10), (0, .ref b), (1, .int x1)]) S.1 S.2.1 d_A_ensure_10 rfl hl (by decide) rfl (fun ls hl => ?_)
  refine lv_iload_n S.1 S.2.1 d_A_ensure_11 rfl (lv_at hl 2 rfl) ?_
  refine lv_iload_n S.1 S.2.1 d_A_ensure_12 rfl (lv_at hl 0 rfl) ?_
  refine lv_isub S.1 S.2.1 d_A_ensure_13 ?_
  refine lv_if_le (tgt := 38) S.1 S.2.1 d_A_ensure_14 (by decide) (fun q_14 => ?_) (fun q_14 => ?_)
  · have h := h.1 q_14
    refine W.widen (k := bc) (n := bs) (Nat.zero_le _) (Nat.zero_le _) ?_
    exact w_vretE S hr hlk hw h d_A_ensure_38
  · have h := h.2 q_14
    refine lv_aload_n S.1 S.2.1 d_A_ensure_17 rfl (lv_at hl 1 rfl) ?_
    refine lv_aload_n S.1 S.2.1 d_A_ensure_18 rfl (lv_at hl 1 rfl) ?_
    refine sg_value S hK hw d_A_ensure_19 ?_
    refine lv_aload_n S.1 S.2.1 d_A_ensure_22 rfl (lv_at hl 1 rfl) ?_
    refine lv_iload_n S.1 S.2.1 d_A_ensure_23 rfl (lv_at hl 2 rfl) ?_
    refine w_ciF hA hw (w_ruE (rest := [.ref (a 0), .ref b]) S hK hE hA hw (c_A_newCap l x1 u _ _ h) (ci := 3) (q0 := 0) rfl rfl k_296 k_293 k_2 yd_A_newCap rfl rfl ⟨Nat.le_of_ble_eq_true rfl, Nat.le_of_ble_eq_true rfl⟩ k_1162 x_1 k_295 rfl hl.1 rfl (Nat.le_of_ble_eq_true rfl) d_A_ensure_24 ⟨(Nat.zero_le _), (Nat.zero_le _)⟩) (fun r_24 u_24 H locs h hw => ?_)
    refine lv_aload_n S.1 S.2.1 d_A_ensure_27 rfl (lv_at hl 1 rfl) ?_
    refine sg_coder S hK hw d_A_ensure_28 ?_
    refine lv_ishl S.1 S.2.1 d_A_ensure_31 ?_
    obtain ⟨N_32, e_32, hlt_32, hby_32, hft_32, hk_32, hn_32, h⟩ := h
    refine s_copy (rest := []) (R := rmN 5 bc bs) (cells := 0) (slots := 0) S hK hE hA hw N_32 e_32 hlt_32 hby_32 hft_32 (Nat.le_of_ble_eq_true rfl) (Nat.le_of_ble_eq_true rfl) hl.1 ⟨hk_32, hn_32⟩ d_A_ensure_32 d_A_ensure_35 (Nat.le_of_ble_eq_true rfl) (fun a_32 H locs hw => ?_)
    refine W.widen (k := bc) (n := bs) hk_32 hn_32 ?_
    exact w_vretE S hr hlk hw h d_A_ensure_38
end SW
abbrev b_A_append : ByteArray := prog_13_method_31_code
def y_A_append : MethodName := ⟨"java/lang/AbstractStringBuilder", "append", "(C)Ljava/lang/AbstractStringBuilder;"⟩
theorem yd_A_append : y_A_append.cls ≠ "java/lang/invoke/MethodHandle" ∧ y_A_append.cls ≠ "java/lang/invoke/VarHandle" ∧ (parseMethodDescriptor y_A_append.desc).map (fun d => d.parameters.length) = some 1 := by decide +kernel
theorem d_A_append_0 : decode b_A_append 0 = .ok (.aload_n 0, 1) := by decide +kernel
theorem d_A_append_1 : decode b_A_append 1 = .ok (.aload_n 0, 1) := by decide +kernel
theorem d_A_append_2 : decode b_A_append 2 = .ok (.getfield 79, 3) := by decide +kernel
theorem d_A_append_5 : decode b_A_append 5 = .ok (.iconst 1, 1) := by decide +kernel
theorem d_A_append_6 : decode b_A_append 6 = .ok (.iadd, 1) := by decide +kernel
theorem d_A_append_7 : decode b_A_append 7 = .ok (.invokevirtual 100, 3) := by decide +kernel
theorem d_A_append_10 : decode b_A_append 10 = .ok (.aload_n 0, 1) := by decide +kernel
theorem d_A_append_11 : decode b_A_append 11 = .ok (.invokevirtual 83, 3) := by decide +kernel
theorem d_A_append_14 : decode b_A_append 14 = .ok (.ifCond .eq 31, 3) := by decide +kernel
theorem d_A_append_17 : decode b_A_append 17 = .ok (.iload_n 1, 1) := by decide +kernel
theorem d_A_append_18 : decode b_A_append 18 = .ok (.invokestatic 191, 3) := by decide +kernel
theorem d_A_append_21 : decode b_A_append 21 = .ok (.ifCond .eq 24, 3) := by decide +kernel
theorem d_A_append_24 : decode b_A_append 24 = .ok (.aload_n 0, 1) := by decide +kernel
theorem d_A_append_25 : decode b_A_append 25 = .ok (.getfield 15, 3) := by decide +kernel
theorem d_A_append_28 : decode b_A_append 28 = .ok (.aload_n 0, 1) := by decide +kernel
theorem d_A_append_29 : decode b_A_append 29 = .ok (.dup, 1) := by decide +kernel
theorem d_A_append_30 : decode b_A_append 30 = .ok (.getfield 79, 3) := by decide +kernel
theorem d_A_append_33 : decode b_A_append 33 = .ok (.dup_x1, 1) := by decide +kernel
theorem d_A_append_34 : decode b_A_append 34 = .ok (.iconst 1, 1) := by decide +kernel
theorem d_A_append_35 : decode b_A_append 35 = .ok (.iadd, 1) := by decide +kernel
theorem d_A_append_36 : decode b_A_append 36 = .ok (.putfield 79, 3) := by decide +kernel
theorem d_A_append_39 : decode b_A_append 39 = .ok (.iload_n 1, 1) := by decide +kernel
theorem d_A_append_40 : decode b_A_append 40 = .ok (.i2b, 1) := by decide +kernel
theorem d_A_append_41 : decode b_A_append 41 = .ok (.bastore, 1) := by decide +kernel
theorem d_A_append_42 : decode b_A_append 42 = .ok (.goto 33, 3) := by decide +kernel
theorem d_A_append_46 : decode b_A_append 46 = .ok (.invokevirtual 83, 3) := by decide +kernel
theorem d_A_append_49 : decode b_A_append 49 = .ok (.ifCond .eq 7, 3) := by decide +kernel
theorem d_A_append_52 : decode b_A_append 52 = .ok (.aload_n 0, 1) := by decide +kernel
theorem d_A_append_53 : decode b_A_append 53 = .ok (.invokevirtual 195, 3) := by decide +kernel
theorem d_A_append_56 : decode b_A_append 56 = .ok (.aload_n 0, 1) := by decide +kernel
theorem d_A_append_57 : decode b_A_append 57 = .ok (.getfield 15, 3) := by decide +kernel
theorem d_A_append_60 : decode b_A_append 60 = .ok (.aload_n 0, 1) := by decide +kernel
theorem d_A_append_61 : decode b_A_append 61 = .ok (.dup, 1) := by decide +kernel
theorem d_A_append_62 : decode b_A_append 62 = .ok (.getfield 79, 3) := by decide +kernel
theorem d_A_append_65 : decode b_A_append 65 = .ok (.dup_x1, 1) := by decide +kernel
theorem d_A_append_66 : decode b_A_append 66 = .ok (.iconst 1, 1) := by decide +kernel
theorem d_A_append_67 : decode b_A_append 67 = .ok (.iadd, 1) := by decide +kernel
theorem d_A_append_68 : decode b_A_append 68 = .ok (.putfield 79, 3) := by decide +kernel
theorem d_A_append_71 : decode b_A_append 71 = .ok (.iload_n 1, 1) := by decide +kernel
theorem d_A_append_72 : decode b_A_append 72 = .ok (.invokestatic 197, 3) := by decide +kernel
theorem d_A_append_75 : decode b_A_append 75 = .ok (.aload_n 0, 1) := by decide +kernel
theorem d_A_append_76 : decode b_A_append 76 = .ok (.areturn, 1) := by decide +kernel
def P_A_append (bc bs : Nat) (x1 : Int32) (u : SBS) (Qc : SBS → Prop) : Prop := (∃ kc_7 nc_7 : Nat, 0 + kc_7 ≤ bc ∧ 0 + nc_7 ≤ bs ∧ P_A_ensure kc_7 nc_7 ((z_ct u) + (1 : Int32)) u (fun u_7 => P_A_lat  u_7 (fun r_11 u_11 => ((r_11 = (0 : Int32) → False) ∧ (¬ r_11 = (0 : Int32) → P_J_canC x1 (fun r_18 => ((r_18 = (0 : Int32) → False) ∧ (¬ r_18 = (0 : Int32) → (vp_in (z_ct u_11) (z_cap (zs_ct u_11 ((z_ct u_11) + (1 : Int32)))) ∧ Qc (zs_by (zs_ct u_11 ((z_ct u_11) + (1 : Int32))) (upd (z_by (zs_ct u_11 ((z_ct u_11) + (1 : Int32)))) (z_ct u_11).toNatClampNeg (vp_nar .byte x1.toInt8.toInt32))))))))))))
section SW
variable {p : Program} {l : Launch} {e : Env} {s : State} {m : MethodId} {args : Array Value} {below : List Frame} {meth : Method} {c : Code} {x : GX} {g : GE} {ex : va_W} {a : Nat → Nat} {A : Nat → Prop} {b : Nat}
set_option maxHeartbeats 4000000 in
set_option maxRecDepth 20000 in
theorem c_A_append {x : GX} {g : GE} {b : Nat} {ex : va_W} {a : Nat → Nat} (l : Launch) (bc bs : Nat) (x1 : Int32) (u : SBS) (sz : Nat) (Qc : SBS → Prop) (h : P_A_append bc bs x1 u Qc) : Met l y_A_append (wM y_A_append b_A_append 2 (some (.object "java/lang/AbstractStringBuilder"))) (rmN 6 bc bs) (PreE x g (scl x b) ex [.ref b, .int x1] a u sz) (QeT x (scl x b) ex (va_A ((scl x b) a u ++ ex) sz) b Qc) bc bs (va_A ((scl x b) a u ++ ex) sz) := by
  refine w_enterE (by decide +kernel) (Nat.le_of_ble_eq_true rfl) (fun p e s m args below meth c S hr hlk hnm hK hE hA hw ls hl => ?_)
  have hl : lv_has ls 2 [(0, .ref b), (1, .int x1)] := hl
  refine lv_aload_n S.1 S.2.1 d_A_append_0 rfl (lv_at hl 0 rfl) ?_
  refine lv_aload_n S.1 S.2.1 d_A_append_1 rfl (lv_at hl 0 rfl) ?_
  refine sg_count S hK hw d_A_append_2 ?_
  refine lv_iconst (v := 1) S.1 S.2.1 d_A_append_5 (by decide) ?_
  refine lv_iadd S.1 S.2.1 d_A_append_6 ?_
  obtain ⟨kc_7, nc_7, hk_7, hn_7, h⟩ := h
  refine w_cvE hA hw (w_ruE (rest := []) S hK hE hA hw (c_A_ensure l kc_7 nc_7 ((z_ct u) + (1 : Int32)) u _ _ h) (ci := 3) (q0 := 0) rfl rfl k_292 k_289 k_2 yd_A_ensure rfl rfl ⟨Nat.le_of_ble_eq_true rfl, Nat.le_of_ble_eq_true rfl⟩ k_1161 x_0 k_291 rfl hl.1 rfl (Nat.le_of_ble_eq_true rfl) d_A_append_7 ⟨hk_7, hn_7⟩) (fun u_7 a_7 H locs h hw => ?_)
  refine lv_aload_n S.1 S.2.1 d_A_append_10 rfl (lv_at hl 0 rfl) ?_
  refine w_ciF hA hw (w_ruE (rest := []) S hK hE hA hw (c_A_lat l  u_7 _ _ h) (ci := 3) (q0 := 0) rfl rfl k_324 k_320 k_2 yd_A_lat rfl rfl ⟨Nat.le_of_ble_eq_true rfl, Nat.le_of_ble_eq_true rfl⟩ k_322 k_323 k_321 rfl hl.1 rfl (Nat.le_of_ble_eq_true rfl) d_A_append_11 ⟨hk_7, hn_7⟩) (fun r_11 u_11 H locs h hw => ?_)
  refine lv_if_eq (tgt := 45) S.1 S.2.1 d_A_append_14 (by decide) (fun q_14 => ?_) (fun q_14 => ?_)
  · have h := h.1 q_14
    exact absurd h id
  · have h := h.2 q_14
    refine lv_iload_n S.1 S.2.1 d_A_append_17 rfl (lv_at hl 1 rfl) ?_
    refine w_cn (w_rs (rest := []) S (c_J_canC l x1 _ h) (w_cb (fr := 0) (lv := 0) S.2.2.2.2 k_327 k_325 k_9 yd_J_canC rfl rfl ⟨Nat.le_of_ble_eq_true rfl, Nat.le_of_ble_eq_true rfl⟩) k_326 rfl hl.1 rfl (Nat.le_of_ble_eq_true rfl) d_A_append_18 ⟨hk_7, hn_7⟩) (fun r_18 h => ?_)
    refine lv_if_eq (tgt := 45) S.1 S.2.1 d_A_append_21 (by decide) (fun q_21 => ?_) (fun q_21 => ?_)
    · have h := h.1 q_21
      exact absurd h id
    · have h := h.2 q_21
      refine lv_aload_n S.1 S.2.1 d_A_append_24 rfl (lv_at hl 0 rfl) ?_
      refine sg_value S hK hw d_A_append_25 ?_
      refine lv_aload_n S.1 S.2.1 d_A_append_28 rfl (lv_at hl 0 rfl) ?_
      refine lv_dup S.1 S.2.1 d_A_append_29 rfl ?_
      refine sg_count S hK hw d_A_append_30 ?_
      refine lv_dup_x1 S.1 S.2.1 d_A_append_33 rfl rfl ?_
      refine lv_iconst (v := 1) S.1 S.2.1 d_A_append_34 (by decide) ?_
      refine lv_iadd S.1 S.2.1 d_A_append_35 ?_
      refine sp_count S hK hw d_A_append_36 (fun H locs hw => ?_)
      refine lv_iload_n S.1 S.2.1 d_A_append_39 rfl (lv_at hl 1 rfl) ?_
      refine lv_i2b S.1 S.2.1 d_A_append_40 rfl ?_
      have hg := h.1
      have h := h.2
      refine st_by S hK hw hg d_A_append_41 (fun H locs hw => ?_)
      refine lv_goto (tgt := 75) S.1 S.2.1 d_A_append_42 (by decide) ?_
      refine lv_aload_n S.1 S.2.1 d_A_append_75 rfl (lv_at hl 0 rfl) ?_
      refine W.widen (k := bc) (n := bs) hk_7 hn_7 ?_
      exact w_tretE S hr hlk hw h d_A_append_76
end SW
abbrev b_SB_append : ByteArray := prog_21_method_14_code
def y_SB_append : MethodName := ⟨"java/lang/StringBuilder", "append", "(C)Ljava/lang/StringBuilder;"⟩
theorem yd_SB_append : y_SB_append.cls ≠ "java/lang/invoke/MethodHandle" ∧ y_SB_append.cls ≠ "java/lang/invoke/VarHandle" ∧ (parseMethodDescriptor y_SB_append.desc).map (fun d => d.parameters.length) = some 1 := by decide +kernel
theorem d_SB_append_0 : decode b_SB_append 0 = .ok (.aload_n 0, 1) := by decide +kernel
theorem d_SB_append_1 : decode b_SB_append 1 = .ok (.iload_n 1, 1) := by decide +kernel
theorem d_SB_append_2 : decode b_SB_append 2 = .ok (.invokespecial 50, 3) := by decide +kernel
theorem d_SB_append_5 : decode b_SB_append 5 = .ok (.pop, 1) := by decide +kernel
theorem d_SB_append_6 : decode b_SB_append 6 = .ok (.aload_n 0, 1) := by decide +kernel
theorem d_SB_append_7 : decode b_SB_append 7 = .ok (.areturn, 1) := by decide +kernel
def P_SB_append (bc bs : Nat) (x1 : Int32) (u : SBS) (Qc : SBS → Prop) : Prop := (∃ kc_2 nc_2 : Nat, 0 + kc_2 ≤ bc ∧ 0 + nc_2 ≤ bs ∧ P_A_append kc_2 nc_2 x1 u (fun u_2 => Qc u_2))
section SW
variable {p : Program} {l : Launch} {e : Env} {s : State} {m : MethodId} {args : Array Value} {below : List Frame} {meth : Method} {c : Code} {x : GX} {g : GE} {ex : va_W} {a : Nat → Nat} {A : Nat → Prop} {b : Nat}
set_option maxHeartbeats 4000000 in
set_option maxRecDepth 20000 in
theorem c_SB_append {x : GX} {g : GE} {b : Nat} {ex : va_W} {a : Nat → Nat} (l : Launch) (bc bs : Nat) (x1 : Int32) (u : SBS) (sz : Nat) (Qc : SBS → Prop) (h : P_SB_append bc bs x1 u Qc) : Met l y_SB_append (wM y_SB_append b_SB_append 2 (some (.object "java/lang/StringBuilder"))) (rmN 7 bc bs) (PreE x g (scl x b) ex [.ref b, .int x1] a u sz) (QeT x (scl x b) ex (va_A ((scl x b) a u ++ ex) sz) b Qc) bc bs (va_A ((scl x b) a u ++ ex) sz) := by
  refine w_enterE (by decide +kernel) (Nat.le_of_ble_eq_true rfl) (fun p e s m args below meth c S hr hlk hnm hK hE hA hw ls hl => ?_)
  have hl : lv_has ls 2 [(0, .ref b), (1, .int x1)] := hl
  refine lv_aload_n S.1 S.2.1 d_SB_append_0 rfl (lv_at hl 0 rfl) ?_
  refine lv_iload_n S.1 S.2.1 d_SB_append_1 rfl (lv_at hl 1 rfl) ?_
  obtain ⟨kc_2, nc_2, hk_2, hn_2, h⟩ := h
  refine w_ctE hA hw (w_rsuE (rest := []) S hK hE hA hw (c_A_append l kc_2 nc_2 x1 u _ _ h) (ci := 3) (q0 := 0) rfl rfl k_288 k_286 k_2 yd_A_append rfl rfl ⟨Nat.le_of_ble_eq_true rfl, Nat.le_of_ble_eq_true rfl⟩ k_1160 k_65 k_287 (by decide) rfl hl.1 rfl (Nat.le_of_ble_eq_true rfl) d_SB_append_2 ⟨hk_2, hn_2⟩) (fun u_2 a_2 H locs h hw => ?_)
  refine lv_pop S.1 S.2.1 d_SB_append_5 rfl ?_
  refine lv_aload_n S.1 S.2.1 d_SB_append_6 rfl (lv_at hl 0 rfl) ?_
  refine W.widen (k := bc) (n := bs) hk_2 hn_2 ?_
  exact w_tretE S hr hlk hw h d_SB_append_7
end SW
abbrev b_A_setLen : ByteArray := prog_13_method_13_code
def y_A_setLen : MethodName := ⟨"java/lang/AbstractStringBuilder", "setLength", "(I)V"⟩
theorem yd_A_setLen : y_A_setLen.cls ≠ "java/lang/invoke/MethodHandle" ∧ y_A_setLen.cls ≠ "java/lang/invoke/VarHandle" ∧ (parseMethodDescriptor y_A_setLen.desc).map (fun d => d.parameters.length) = some 1 := by decide +kernel
theorem d_A_setLen_0 : decode b_A_setLen 0 = .ok (.iload_n 1, 1) := by decide +kernel
theorem d_A_setLen_1 : decode b_A_setLen 1 = .ok (.ifCond .ge 12, 3) := by decide +kernel
theorem d_A_setLen_13 : decode b_A_setLen 13 = .ok (.aload_n 0, 1) := by decide +kernel
theorem d_A_setLen_14 : decode b_A_setLen 14 = .ok (.iload_n 1, 1) := by decide +kernel
theorem d_A_setLen_15 : decode b_A_setLen 15 = .ok (.invokevirtual 100, 3) := by decide +kernel
theorem d_A_setLen_18 : decode b_A_setLen 18 = .ok (.aload_n 0, 1) := by decide +kernel
theorem d_A_setLen_19 : decode b_A_setLen 19 = .ok (.getfield 79, 3) := by decide +kernel
theorem d_A_setLen_22 : decode b_A_setLen 22 = .ok (.iload_n 1, 1) := by decide +kernel
theorem d_A_setLen_23 : decode b_A_setLen 23 = .ok (.if_icmp .ge 40, 3) := by decide +kernel
theorem d_A_setLen_27 : decode b_A_setLen 27 = .ok (.invokevirtual 83, 3) := by decide +kernel
theorem d_A_setLen_30 : decode b_A_setLen 30 = .ok (.ifCond .eq 18, 3) := by decide +kernel
theorem d_A_setLen_33 : decode b_A_setLen 33 = .ok (.aload_n 0, 1) := by decide +kernel
theorem d_A_setLen_34 : decode b_A_setLen 34 = .ok (.getfield 15, 3) := by decide +kernel
theorem d_A_setLen_37 : decode b_A_setLen 37 = .ok (.aload_n 0, 1) := by decide +kernel
theorem d_A_setLen_38 : decode b_A_setLen 38 = .ok (.getfield 79, 3) := by decide +kernel
theorem d_A_setLen_41 : decode b_A_setLen 41 = .ok (.iload_n 1, 1) := by decide +kernel
theorem d_A_setLen_42 : decode b_A_setLen 42 = .ok (.invokestatic 133, 3) := by decide +kernel
theorem d_A_setLen_45 : decode b_A_setLen 45 = .ok (.goto 31, 3) := by decide +kernel
theorem d_A_setLen_48 : decode b_A_setLen 48 = .ok (.aload_n 0, 1) := by decide +kernel
theorem d_A_setLen_49 : decode b_A_setLen 49 = .ok (.getfield 15, 3) := by decide +kernel
theorem d_A_setLen_52 : decode b_A_setLen 52 = .ok (.aload_n 0, 1) := by decide +kernel
theorem d_A_setLen_53 : decode b_A_setLen 53 = .ok (.getfield 79, 3) := by decide +kernel
theorem d_A_setLen_56 : decode b_A_setLen 56 = .ok (.iload_n 1, 1) := by decide +kernel
theorem d_A_setLen_57 : decode b_A_setLen 57 = .ok (.invokestatic 137, 3) := by decide +kernel
theorem d_A_setLen_60 : decode b_A_setLen 60 = .ok (.goto 16, 3) := by decide +kernel
theorem d_A_setLen_63 : decode b_A_setLen 63 = .ok (.aload_n 0, 1) := by decide +kernel
theorem d_A_setLen_64 : decode b_A_setLen 64 = .ok (.getfield 79, 3) := by decide +kernel
theorem d_A_setLen_67 : decode b_A_setLen 67 = .ok (.iload_n 1, 1) := by decide +kernel
theorem d_A_setLen_68 : decode b_A_setLen 68 = .ok (.if_icmp .le 8, 3) := by decide +kernel
theorem d_A_setLen_71 : decode b_A_setLen 71 = .ok (.aload_n 0, 1) := by decide +kernel
theorem d_A_setLen_72 : decode b_A_setLen 72 = .ok (.iconst 1, 1) := by decide +kernel
theorem d_A_setLen_73 : decode b_A_setLen 73 = .ok (.putfield 73, 3) := by decide +kernel
theorem d_A_setLen_76 : decode b_A_setLen 76 = .ok (.aload_n 0, 1) := by decide +kernel
theorem d_A_setLen_77 : decode b_A_setLen 77 = .ok (.iload_n 1, 1) := by decide +kernel
theorem d_A_setLen_78 : decode b_A_setLen 78 = .ok (.putfield 79, 3) := by decide +kernel
theorem d_A_setLen_81 : decode b_A_setLen 81 = .ok (.return_, 1) := by decide +kernel
def B_A_setLen_76 (Qc : SBS → Prop) (bc bs : Nat)  (k n0 : Nat) (x1 : Int32) (u : SBS) : Prop := Qc (zs_ct u x1)
def P_A_setLen (bc bs : Nat) (x1 : Int32) (u : SBS) (Qc : SBS → Prop) : Prop := (((0 : Int32) ≤ x1 → (∃ kc_15 nc_15 : Nat, 0 + kc_15 ≤ bc ∧ 0 + nc_15 ≤ bs ∧ P_A_ensure kc_15 nc_15 x1 u (fun u_15 => ((x1 ≤ (z_ct u_15) → (((z_ct u_15) ≤ x1 → B_A_setLen_76 Qc bc bs  (0 + kc_15) (0 + nc_15) x1 u_15) ∧ (¬ (z_ct u_15) ≤ x1 → B_A_setLen_76 Qc bc bs  (0 + kc_15) (0 + nc_15) x1 (zs_mb u_15 (1 : Int32))))) ∧ (¬ x1 ≤ (z_ct u_15) → False))))) ∧ (¬ (0 : Int32) ≤ x1 → False))
section SW
variable {p : Program} {l : Launch} {e : Env} {s : State} {m : MethodId} {args : Array Value} {below : List Frame} {meth : Method} {c : Code} {x : GX} {g : GE} {ex : va_W} {a : Nat → Nat} {A : Nat → Prop} {b : Nat}
set_option maxHeartbeats 4000000 in
set_option maxRecDepth 20000 in
theorem wB_A_setLen_76 (S : CallFix p m c b_A_setLen 2 s args lw_tg "java/lang/AbstractStringBuilder") (hr : meth.sig.returnType = none) (hlk : meth.locks = false) (hK : GK x s) (hE : EN g A s s.heap) (hA : ∀ q : Nat, s.heap.size ≤ q → A q) {Qc : SBS → Prop} {bc bs : Nat}  : ∀ (k n0 : Nat) (hk : k ≤ bc) (hn : n0 ≤ bs) (x1 : Int32) (u : SBS) (a : Nat → Nat) (ls : Array Slot) (H : Heap) (locs : List Loc), lv_has ls 2 [(0, .ref b), (1, .int x1)] → wd x A s.heap ((scl x b) a u ++ ex) H locs → B_A_setLen_76 Qc bc bs  k n0 x1 u → W p l e (rmN 6 bc bs) s m args below meth c H locs k n0 (MQ below (QeV x (scl x b) ex A Qc) args s bc bs A) (F0 m 76 ls []) := by
  intro k n0 hk hn x1 u a ls H locs hl hw h
  refine lv_aload_n S.1 S.2.1 d_A_setLen_76 rfl (lv_at hl 0 rfl) ?_
  refine lv_iload_n S.1 S.2.1 d_A_setLen_77 rfl (lv_at hl 1 rfl) ?_
  refine sp_count S hK hw d_A_setLen_78 (fun H locs hw => ?_)
  refine W.widen (k := bc) (n := bs) hk hn ?_
  exact w_vretE S hr hlk hw h d_A_setLen_81
set_option maxHeartbeats 4000000 in
set_option maxRecDepth 20000 in
theorem c_A_setLen {x : GX} {g : GE} {b : Nat} {ex : va_W} {a : Nat → Nat} (l : Launch) (bc bs : Nat) (x1 : Int32) (u : SBS) (sz : Nat) (Qc : SBS → Prop) (h : P_A_setLen bc bs x1 u Qc) : Met l y_A_setLen (wM y_A_setLen b_A_setLen 2 none) (rmN 6 bc bs) (PreE x g (scl x b) ex [.ref b, .int x1] a u sz) (QeV x (scl x b) ex (va_A ((scl x b) a u ++ ex) sz) Qc) bc bs (va_A ((scl x b) a u ++ ex) sz) := by
  refine w_enterE (by decide +kernel) (Nat.le_of_ble_eq_true rfl) (fun p e s m args below meth c S hr hlk hnm hK hE hA hw ls hl => ?_)
  have hl : lv_has ls 2 [(0, .ref b), (1, .int x1)] := hl
  refine lv_iload_n S.1 S.2.1 d_A_setLen_0 rfl (lv_at hl 1 rfl) ?_
  refine lv_if_ge (tgt := 13) S.1 S.2.1 d_A_setLen_1 (by decide) (fun q_1 => ?_) (fun q_1 => ?_)
  · have h := h.1 q_1
    refine lv_aload_n S.1 S.2.1 d_A_setLen_13 rfl (lv_at hl 0 rfl) ?_
    refine lv_iload_n S.1 S.2.1 d_A_setLen_14 rfl (lv_at hl 1 rfl) ?_
    obtain ⟨kc_15, nc_15, hk_15, hn_15, h⟩ := h
    refine w_cvE hA hw (w_ruE (rest := []) S hK hE hA hw (c_A_ensure l kc_15 nc_15 x1 u _ _ h) (ci := 3) (q0 := 0) rfl rfl k_292 k_289 k_2 yd_A_ensure rfl rfl ⟨Nat.le_of_ble_eq_true rfl, Nat.le_of_ble_eq_true rfl⟩ k_1161 x_0 k_291 rfl hl.1 rfl (Nat.le_of_ble_eq_true rfl) d_A_setLen_15 ⟨hk_15, hn_15⟩) (fun u_15 a_15 H locs h hw => ?_)
    refine lv_aload_n S.1 S.2.1 d_A_setLen_18 rfl (lv_at hl 0 rfl) ?_
    refine sg_count S hK hw d_A_setLen_19 ?_
    refine lv_iload_n S.1 S.2.1 d_A_setLen_22 rfl (lv_at hl 1 rfl) ?_
    refine lv_icmp_ge (tgt := 63) S.1 S.2.1 d_A_setLen_23 (by decide) (fun q_23 => ?_) (fun q_23 => ?_)
    · have h := h.1 q_23
      refine lv_aload_n S.1 S.2.1 d_A_setLen_63 rfl (lv_at hl 0 rfl) ?_
      refine sg_count S hK hw d_A_setLen_64 ?_
      refine lv_iload_n S.1 S.2.1 d_A_setLen_67 rfl (lv_at hl 1 rfl) ?_
      refine lv_icmp_le (tgt := 76) S.1 S.2.1 d_A_setLen_68 (by decide) (fun q_68 => ?_) (fun q_68 => ?_)
      · have h := h.1 q_68
        exact wB_A_setLen_76 S hr hlk hK hE hA  (0 + kc_15) (0 + nc_15) hk_15 hn_15 x1 u_15 a_15 _ _ _ (lv_sub hl [0, 1] rfl) hw h
      · have h := h.2 q_68
        refine lv_aload_n S.1 S.2.1 d_A_setLen_71 rfl (lv_at hl 0 rfl) ?_
        refine lv_iconst (v := 1) S.1 S.2.1 d_A_setLen_72 (by decide) ?_
        refine sp_maybeLatin1 S hK hw isB1 d_A_setLen_73 (fun H locs hw => ?_)
        exact wB_A_setLen_76 S hr hlk hK hE hA  (0 + kc_15) (0 + nc_15) hk_15 hn_15 x1 (zs_mb u_15 (1 : Int32)) a_15 _ _ _ (lv_sub hl [0, 1] rfl) hw h
    · have h := h.2 q_23
      exact absurd h id
  · have h := h.2 q_1
    exact absurd h id
end SW
abbrev b_SB_setLen : ByteArray := prog_21_method_89_code
def y_SB_setLen : MethodName := ⟨"java/lang/StringBuilder", "setLength", "(I)V"⟩
theorem yd_SB_setLen : y_SB_setLen.cls ≠ "java/lang/invoke/MethodHandle" ∧ y_SB_setLen.cls ≠ "java/lang/invoke/VarHandle" ∧ (parseMethodDescriptor y_SB_setLen.desc).map (fun d => d.parameters.length) = some 1 := by decide +kernel
theorem d_SB_setLen_0 : decode b_SB_setLen 0 = .ok (.aload_n 0, 1) := by decide +kernel
theorem d_SB_setLen_1 : decode b_SB_setLen 1 = .ok (.iload_n 1, 1) := by decide +kernel
theorem d_SB_setLen_2 : decode b_SB_setLen 2 = .ok (.invokespecial 333, 3) := by decide +kernel
theorem d_SB_setLen_5 : decode b_SB_setLen 5 = .ok (.return_, 1) := by decide +kernel
def P_SB_setLen (bc bs : Nat) (x1 : Int32) (u : SBS) (Qc : SBS → Prop) : Prop := (∃ kc_2 nc_2 : Nat, 0 + kc_2 ≤ bc ∧ 0 + nc_2 ≤ bs ∧ P_A_setLen kc_2 nc_2 x1 u (fun u_2 => Qc u_2))
section SW
variable {p : Program} {l : Launch} {e : Env} {s : State} {m : MethodId} {args : Array Value} {below : List Frame} {meth : Method} {c : Code} {x : GX} {g : GE} {ex : va_W} {a : Nat → Nat} {A : Nat → Prop} {b : Nat}
set_option maxHeartbeats 4000000 in
set_option maxRecDepth 20000 in
theorem c_SB_setLen {x : GX} {g : GE} {b : Nat} {ex : va_W} {a : Nat → Nat} (l : Launch) (bc bs : Nat) (x1 : Int32) (u : SBS) (sz : Nat) (Qc : SBS → Prop) (h : P_SB_setLen bc bs x1 u Qc) : Met l y_SB_setLen (wM y_SB_setLen b_SB_setLen 2 none) (rmN 7 bc bs) (PreE x g (scl x b) ex [.ref b, .int x1] a u sz) (QeV x (scl x b) ex (va_A ((scl x b) a u ++ ex) sz) Qc) bc bs (va_A ((scl x b) a u ++ ex) sz) := by
  refine w_enterE (by decide +kernel) (Nat.le_of_ble_eq_true rfl) (fun p e s m args below meth c S hr hlk hnm hK hE hA hw ls hl => ?_)
  have hl : lv_has ls 2 [(0, .ref b), (1, .int x1)] := hl
  refine lv_aload_n S.1 S.2.1 d_SB_setLen_0 rfl (lv_at hl 0 rfl) ?_
  refine lv_iload_n S.1 S.2.1 d_SB_setLen_1 rfl (lv_at hl 1 rfl) ?_
  obtain ⟨kc_2, nc_2, hk_2, hn_2, h⟩ := h
  refine w_cvE hA hw (w_rsuE (rest := []) S hK hE hA hw (c_A_setLen l kc_2 nc_2 x1 u _ _ h) (ci := 3) (q0 := 0) rfl rfl k_596 k_594 k_2 yd_A_setLen rfl rfl ⟨Nat.le_of_ble_eq_true rfl, Nat.le_of_ble_eq_true rfl⟩ k_1165 k_65 k_595 (by decide) rfl hl.1 rfl (Nat.le_of_ble_eq_true rfl) d_SB_setLen_2 ⟨hk_2, hn_2⟩) (fun u_2 a_2 H locs h hw => ?_)
  refine W.widen (k := bc) (n := bs) hk_2 hn_2 ?_
  exact w_vretE S hr hlk hw h d_SB_setLen_5
end SW
