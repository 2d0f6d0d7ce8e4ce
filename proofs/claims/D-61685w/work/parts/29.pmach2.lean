abbrev b_B_fence : ByteArray := prog_1_method_31_code
def y_B_fence : MethodName := ⟨"PatternBench", "fence", "(II)V"⟩
theorem yd_B_fence : y_B_fence.cls ≠ "java/lang/invoke/MethodHandle" ∧ y_B_fence.cls ≠ "java/lang/invoke/VarHandle" ∧ (parseMethodDescriptor y_B_fence.desc).map (fun d => d.parameters.length) = some 2 := by decide +kernel
theorem d_B_fence_0 : decode b_B_fence 0 = .ok (.iload_n 1, 1) := by decide +kernel
theorem d_B_fence_1 : decode b_B_fence 1 = .ok (.iconst 1, 1) := by decide +kernel
theorem d_B_fence_2 : decode b_B_fence 2 = .ok (.if_icmp .ne 13, 3) := by decide +kernel
theorem d_B_fence_5 : decode b_B_fence 5 = .ok (.aload_n 0, 1) := by decide +kernel
theorem d_B_fence_6 : decode b_B_fence 6 = .ok (.iconst 0, 1) := by decide +kernel
theorem d_B_fence_7 : decode b_B_fence 7 = .ok (.iload_n 2, 1) := by decide +kernel
theorem d_B_fence_8 : decode b_B_fence 8 = .ok (.aload_n 0, 1) := by decide +kernel
theorem d_B_fence_9 : decode b_B_fence 9 = .ok (.getfield 242, 3) := by decide +kernel
theorem d_B_fence_12 : decode b_B_fence 12 = .ok (.invokevirtual 235, 3) := by decide +kernel
theorem d_B_fence_15 : decode b_B_fence 15 = .ok (.aload_n 0, 1) := by decide +kernel
theorem d_B_fence_16 : decode b_B_fence 16 = .ok (.getfield 225, 3) := by decide +kernel
theorem d_B_fence_19 : decode b_B_fence 19 = .ok (.istore_n 3, 1) := by decide +kernel
theorem d_B_fence_20 : decode b_B_fence 20 = .ok (.aload_n 0, 1) := by decide +kernel
theorem d_B_fence_21 : decode b_B_fence 21 = .ok (.iload_n 3, 1) := by decide +kernel
theorem d_B_fence_22 : decode b_B_fence 22 = .ok (.invokevirtual 286, 3) := by decide +kernel
theorem d_B_fence_25 : decode b_B_fence 25 = .ok (.aload_n 0, 1) := by decide +kernel
theorem d_B_fence_26 : decode b_B_fence 26 = .ok (.aload_n 0, 1) := by decide +kernel
theorem d_B_fence_27 : decode b_B_fence 27 = .ok (.getfield 242, 3) := by decide +kernel
theorem d_B_fence_30 : decode b_B_fence 30 = .ok (.invokevirtual 286, 3) := by decide +kernel
theorem d_B_fence_33 : decode b_B_fence 33 = .ok (.return_, 1) := by decide +kernel
def B_B_fence_15 (Qc : PS → Prop) (bc bs : Nat)  (k n0 : Nat)  (u : PS) : Prop := (∀ x3_19 : Int32, x3_19 = (p_height u) → (∃ kc_22 nc_22 : Nat, k + kc_22 ≤ bc ∧ n0 + nc_22 ≤ bs ∧ P_B_push kc_22 nc_22 x3_19 u (fun u_22 => (∃ kc_30 nc_30 : Nat, (k + kc_22) + kc_30 ≤ bc ∧ (n0 + nc_22) + nc_30 ≤ bs ∧ P_B_push kc_30 nc_30 (p_place u_22) u_22 (fun u_30 => Qc u_30)))))
def P_B_fence (bc bs : Nat) (x1 : Int32) (x2 : Int32) (u : PS) (Qc : PS → Prop) : Prop := ((x1 = (1 : Int32) → (∃ kc_12 nc_12 : Nat, 0 + kc_12 ≤ bc ∧ 0 + nc_12 ≤ bs ∧ P_B_log kc_12 nc_12 (0 : Int32) x2 (p_place u) u (fun u_12 => B_B_fence_15 Qc bc bs  (0 + kc_12) (0 + nc_12)  u_12))) ∧ (¬ x1 = (1 : Int32) → B_B_fence_15 Qc bc bs  0 0  u))
section PW
variable {p : Program} {l : Launch} {e : Env} {s : State} {m : MethodId} {args : Array Value} {below : List Frame} {meth : Method} {c : Code} {x : GX} {g : GE} {ex : va_W} {a : Nat → Nat} {A : Nat → Prop} {o : Nat}
set_option maxHeartbeats 4000000 in
set_option maxRecDepth 20000 in
theorem wB_B_fence_15 (S : CallFix p m c b_B_fence 4 s args lw_tg "PatternBench") (hr : meth.sig.returnType = none) (hlk : meth.locks = false) (hK : GK x s) (hE : EN g A s s.heap) (hA : ∀ q : Nat, s.heap.size ≤ q → A q) {Qc : PS → Prop} {bc bs : Nat}  : ∀ (k n0 : Nat) (hk : k ≤ bc) (hn : n0 ≤ bs)  (u : PS) (a : Nat → Nat) (ls : Array Slot) (H : Heap) (locs : List Loc), lv_has ls 4 [(0, .ref o)] → wd x A s.heap ((pcl x g o) a u ++ ex) H locs → B_B_fence_15 Qc bc bs  k n0  u → W p l e (rmN 3 bc bs) s m args below meth c H locs k n0 (MQ below (QeV x (pcl x g o) ex A Qc) args s bc bs A) (F0 m 15 ls []) := by
  intro k n0 hk hn  u a ls H locs hl hw h
  refine lv_aload_n S.1 S.2.1 d_B_fence_15 rfl (lv_at hl 0 rfl) ?_
  refine pg_height S hK hw d_B_fence_16 ?_
  refine lv_topi (fun x3_19 ex3_19 => ?_)
  have h := h x3_19 ex3_19
  refine lv_istore_n (lv' := [(3, .int x3_19), (0, .ref o)]) S.1 S.2.1 d_B_fence_19 rfl hl (by decide) rfl (fun ls hl => ?_)
  refine lv_aload_n S.1 S.2.1 d_B_fence_20 rfl (lv_at hl 1 rfl) ?_
  refine lv_iload_n S.1 S.2.1 d_B_fence_21 rfl (lv_at hl 0 rfl) ?_
  obtain ⟨kc_22, nc_22, hk_22, hn_22, h⟩ := h
  refine w_cvE hA hw (w_rvE (rest := []) S hK hE hA hw (c_B_push l kc_22 nc_22 x3_19 u _ _ h) (ci := 1) (q0 := 0) rfl rfl (w_cb (fr := 0) (lv := 0) S.2.2.2.2 k_802 k_799 k_1 yd_B_push rfl rfl ⟨Nat.le_of_ble_eq_true rfl, Nat.le_of_ble_eq_true rfl⟩) k_801 s_25 rfl hl.1 rfl (Nat.le_of_ble_eq_true rfl) d_B_fence_22 ⟨hk_22, hn_22⟩) (fun u_22 a_22 H locs h hw => ?_)
  refine lv_aload_n S.1 S.2.1 d_B_fence_25 rfl (lv_at hl 1 rfl) ?_
  refine lv_aload_n S.1 S.2.1 d_B_fence_26 rfl (lv_at hl 1 rfl) ?_
  refine pg_place S hK hw d_B_fence_27 ?_
  obtain ⟨kc_30, nc_30, hk_30, hn_30, h⟩ := h
  refine w_cvE hA hw (w_rvE (rest := []) S hK hE hA hw (c_B_push l kc_30 nc_30 (p_place u_22) u_22 _ _ h) (ci := 1) (q0 := 0) rfl rfl (w_cb (fr := 0) (lv := 0) S.2.2.2.2 k_802 k_799 k_1 yd_B_push rfl rfl ⟨Nat.le_of_ble_eq_true rfl, Nat.le_of_ble_eq_true rfl⟩) k_801 s_25 rfl hl.1 rfl (Nat.le_of_ble_eq_true rfl) d_B_fence_30 ⟨hk_30, hn_30⟩) (fun u_30 a_30 H locs h hw => ?_)
  refine W.widen (k := bc) (n := bs) hk_30 hn_30 ?_
  exact w_vretE S hr hlk hw h d_B_fence_33
set_option maxHeartbeats 4000000 in
set_option maxRecDepth 20000 in
theorem c_B_fence {x : GX} {g : GE} {o : Nat} {ex : va_W} {a : Nat → Nat} (l : Launch) (bc bs : Nat) (x1 : Int32) (x2 : Int32) (u : PS) (sz : Nat) (Qc : PS → Prop) (h : P_B_fence bc bs x1 x2 u Qc) : Met l y_B_fence (wM y_B_fence b_B_fence 4 none) (rmN 3 bc bs) (PreE x g (pcl x g o) ex [.ref o, .int x1, .int x2] a u sz) (QeV x (pcl x g o) ex (va_A ((pcl x g o) a u ++ ex) sz) Qc) bc bs (va_A ((pcl x g o) a u ++ ex) sz) := by
  refine w_enterE (by decide +kernel) (Nat.le_of_ble_eq_true rfl) (fun p e s m args below meth c S hr hlk hnm hK hE hA hw ls hl => ?_)
  have hl : lv_has ls 4 [(0, .ref o), (1, .int x1), (2, .int x2)] := hl
  refine lv_iload_n S.1 S.2.1 d_B_fence_0 rfl (lv_at hl 1 rfl) ?_
  refine lv_iconst (v := 1) S.1 S.2.1 d_B_fence_1 (by decide) ?_
  refine lv_icmp_ne (tgt := 15) S.1 S.2.1 d_B_fence_2 (by decide) (fun q_2 => ?_) (fun q_2 => ?_)
  · have h := h.2 q_2
    exact wB_B_fence_15 S hr hlk hK hE hA  0 0 (Nat.zero_le _) (Nat.zero_le _)  u a _ _ _ (lv_sub hl [0] rfl) hw h
  · have h := h.1 q_2
    refine lv_aload_n S.1 S.2.1 d_B_fence_5 rfl (lv_at hl 0 rfl) ?_
    refine lv_iconst (v := 0) S.1 S.2.1 d_B_fence_6 (by decide) ?_
    refine lv_iload_n S.1 S.2.1 d_B_fence_7 rfl (lv_at hl 2 rfl) ?_
    refine lv_aload_n S.1 S.2.1 d_B_fence_8 rfl (lv_at hl 0 rfl) ?_
    refine pg_place S hK hw d_B_fence_9 ?_
    obtain ⟨kc_12, nc_12, hk_12, hn_12, h⟩ := h
    refine w_cvE hA hw (w_rvE (rest := []) S hK hE hA hw (c_B_log l kc_12 nc_12 (0 : Int32) x2 (p_place u) u _ _ h) (ci := 1) (q0 := 0) rfl rfl (w_cb (fr := 0) (lv := 0) S.2.2.2.2 k_797 k_794 k_1 yd_B_log rfl rfl ⟨Nat.le_of_ble_eq_true rfl, Nat.le_of_ble_eq_true rfl⟩) k_796 s_24 rfl hl.1 rfl (Nat.le_of_ble_eq_true rfl) d_B_fence_12 ⟨hk_12, hn_12⟩) (fun u_12 a_12 H locs h hw => ?_)
    exact wB_B_fence_15 S hr hlk hK hE hA  (0 + kc_12) (0 + nc_12) hk_12 hn_12  u_12 a_12 _ _ _ (lv_sub hl [0] rfl) hw h
end PW
abbrev b_B_refuse : ByteArray := prog_1_method_32_code
def y_B_refuse : MethodName := ⟨"PatternBench", "refuse", "()Z"⟩
theorem yd_B_refuse : y_B_refuse.cls ≠ "java/lang/invoke/MethodHandle" ∧ y_B_refuse.cls ≠ "java/lang/invoke/VarHandle" ∧ (parseMethodDescriptor y_B_refuse.desc).map (fun d => d.parameters.length) = some 0 := by decide +kernel
theorem d_B_refuse_0 : decode b_B_refuse 0 = .ok (.aload_n 0, 1) := by decide +kernel
theorem d_B_refuse_1 : decode b_B_refuse 1 = .ok (.invokevirtual 289, 3) := by decide +kernel
theorem d_B_refuse_4 : decode b_B_refuse 4 = .ok (.pop, 1) := by decide +kernel
theorem d_B_refuse_5 : decode b_B_refuse 5 = .ok (.aload_n 0, 1) := by decide +kernel
theorem d_B_refuse_6 : decode b_B_refuse 6 = .ok (.invokevirtual 289, 3) := by decide +kernel
theorem d_B_refuse_9 : decode b_B_refuse 9 = .ok (.istore_n 1, 1) := by decide +kernel
theorem d_B_refuse_10 : decode b_B_refuse 10 = .ok (.aload_n 0, 1) := by decide +kernel
theorem d_B_refuse_11 : decode b_B_refuse 11 = .ok (.iload_n 1, 1) := by decide +kernel
theorem d_B_refuse_12 : decode b_B_refuse 12 = .ok (.invokevirtual 299, 3) := by decide +kernel
theorem d_B_refuse_15 : decode b_B_refuse 15 = .ok (.aload_n 0, 1) := by decide +kernel
theorem d_B_refuse_16 : decode b_B_refuse 16 = .ok (.getfield 32, 3) := by decide +kernel
theorem d_B_refuse_19 : decode b_B_refuse 19 = .ok (.iload_n 1, 1) := by decide +kernel
theorem d_B_refuse_20 : decode b_B_refuse 20 = .ok (.iconst 3, 1) := by decide +kernel
theorem d_B_refuse_21 : decode b_B_refuse 21 = .ok (.isub, 1) := by decide +kernel
theorem d_B_refuse_22 : decode b_B_refuse 22 = .ok (.bipush 7, 2) := by decide +kernel
theorem d_B_refuse_24 : decode b_B_refuse 24 = .ok (.iastore, 1) := by decide +kernel
theorem d_B_refuse_25 : decode b_B_refuse 25 = .ok (.iconst 0, 1) := by decide +kernel
theorem d_B_refuse_26 : decode b_B_refuse 26 = .ok (.ireturn, 1) := by decide +kernel
def P_B_refuse (bc bs : Nat)  (u : PS) (Qc : Int32 → PS → Prop) : Prop := (∃ kc_1 nc_1 : Nat, 0 + kc_1 ≤ bc ∧ 0 + nc_1 ≤ bs ∧ P_B_pop kc_1 nc_1  u (fun r_1 u_1 => (∃ kc_6 nc_6 : Nat, (0 + kc_1) + kc_6 ≤ bc ∧ (0 + nc_1) + nc_6 ≤ bs ∧ P_B_pop kc_6 nc_6  u_1 (fun r_6 u_6 => P_B_forget r_6 u_6 (fun u_12 => (vp_in (r_6 - (3 : Int32)) (p_tN u_12) ∧ Qc (0 : Int32) (ps_tF u_12 (upd (p_tF u_12) (r_6 - (3 : Int32)).toNatClampNeg (7 : Int32)))))))))
section PW
variable {p : Program} {l : Launch} {e : Env} {s : State} {m : MethodId} {args : Array Value} {below : List Frame} {meth : Method} {c : Code} {x : GX} {g : GE} {ex : va_W} {a : Nat → Nat} {A : Nat → Prop} {o : Nat}
set_option maxHeartbeats 4000000 in
set_option maxRecDepth 20000 in
theorem c_B_refuse {x : GX} {g : GE} {o : Nat} {ex : va_W} {a : Nat → Nat} (l : Launch) (bc bs : Nat)  (u : PS) (sz : Nat) (Qc : Int32 → PS → Prop) (h : P_B_refuse bc bs  u Qc) : Met l y_B_refuse (wM y_B_refuse b_B_refuse 2 (some .boolean)) (rmN 3 bc bs) (PreE x g (pcl x g o) ex [.ref o] a u sz) (QeI x (pcl x g o) ex (va_A ((pcl x g o) a u ++ ex) sz) Qc) bc bs (va_A ((pcl x g o) a u ++ ex) sz) := by
  refine w_enterE (by decide +kernel) (Nat.le_of_ble_eq_true rfl) (fun p e s m args below meth c S hr hlk hnm hK hE hA hw ls hl => ?_)
  have hl : lv_has ls 2 [(0, .ref o)] := hl
  refine lv_aload_n S.1 S.2.1 d_B_refuse_0 rfl (lv_at hl 0 rfl) ?_
  obtain ⟨kc_1, nc_1, hk_1, hn_1, h⟩ := h
  refine w_ciE hA hw (w_rvE (rest := []) S hK hE hA hw (c_B_pop l kc_1 nc_1  u _ _ h) (ci := 1) (q0 := 0) rfl rfl (w_cb (fr := 0) (lv := 0) S.2.2.2.2 k_806 k_803 k_1 yd_B_pop rfl rfl ⟨Nat.le_of_ble_eq_true rfl, Nat.le_of_ble_eq_true rfl⟩) k_805 s_26 rfl hl.1 rfl (Nat.le_of_ble_eq_true rfl) d_B_refuse_1 ⟨hk_1, hn_1⟩) (fun r_1 u_1 a_1 H locs h hw => ?_)
  refine lv_pop S.1 S.2.1 d_B_refuse_4 rfl ?_
  refine lv_aload_n S.1 S.2.1 d_B_refuse_5 rfl (lv_at hl 0 rfl) ?_
  obtain ⟨kc_6, nc_6, hk_6, hn_6, h⟩ := h
  refine w_ciE hA hw (w_rvE (rest := []) S hK hE hA hw (c_B_pop l kc_6 nc_6  u_1 _ _ h) (ci := 1) (q0 := 0) rfl rfl (w_cb (fr := 0) (lv := 0) S.2.2.2.2 k_806 k_803 k_1 yd_B_pop rfl rfl ⟨Nat.le_of_ble_eq_true rfl, Nat.le_of_ble_eq_true rfl⟩) k_805 s_26 rfl hl.1 rfl (Nat.le_of_ble_eq_true rfl) d_B_refuse_6 ⟨hk_6, hn_6⟩) (fun r_6 u_6 a_6 H locs h hw => ?_)
  refine lv_istore_n (lv' := [(1, .int r_6), (0, .ref o)]) S.1 S.2.1 d_B_refuse_9 rfl hl (by decide) rfl (fun ls hl => ?_)
  refine lv_aload_n S.1 S.2.1 d_B_refuse_10 rfl (lv_at hl 1 rfl) ?_
  refine lv_iload_n S.1 S.2.1 d_B_refuse_11 rfl (lv_at hl 0 rfl) ?_
  refine w_cvF hA hw (w_rvE (rest := []) S hK hE hA hw (c_B_forget l r_6 u_6 _ _ h) (ci := 1) (q0 := 0) rfl rfl (w_cb (fr := 0) (lv := 0) S.2.2.2.2 k_818 k_815 k_1 yd_B_forget rfl rfl ⟨Nat.le_of_ble_eq_true rfl, Nat.le_of_ble_eq_true rfl⟩) k_817 s_29 rfl hl.1 rfl (Nat.le_of_ble_eq_true rfl) d_B_refuse_12 ⟨hk_6, hn_6⟩) (fun u_12 H locs h hw => ?_)
  refine lv_aload_n S.1 S.2.1 d_B_refuse_15 rfl (lv_at hl 1 rfl) ?_
  refine pg_trail S hK hw d_B_refuse_16 ?_
  refine lv_iload_n S.1 S.2.1 d_B_refuse_19 rfl (lv_at hl 0 rfl) ?_
  refine lv_iconst (v := 3) S.1 S.2.1 d_B_refuse_20 (by decide) ?_
  refine lv_isub S.1 S.2.1 d_B_refuse_21 ?_
  refine lv_bipush (v := 7) S.1 S.2.1 d_B_refuse_22 (by decide) ?_
  have hg := h.1
  have h := h.2
  refine pt_tF S hK hw hg d_B_refuse_24 (fun H locs hw => ?_)
  refine lv_iconst (v := 0) S.1 S.2.1 d_B_refuse_25 (by decide) ?_
  refine W.widen (k := bc) (n := bs) hk_6 hn_6 ?_
  exact w_zretE S hr hlk isB0 hw h d_B_refuse_26
end PW
abbrev b_B_setFrame : ByteArray := prog_1_method_33_code
def y_B_setFrame : MethodName := ⟨"PatternBench", "setFrame", "(II)V"⟩
theorem yd_B_setFrame : y_B_setFrame.cls ≠ "java/lang/invoke/MethodHandle" ∧ y_B_setFrame.cls ≠ "java/lang/invoke/VarHandle" ∧ (parseMethodDescriptor y_B_setFrame.desc).map (fun d => d.parameters.length) = some 2 := by decide +kernel
theorem d_B_setFrame_0 : decode b_B_setFrame 0 = .ok (.aload_n 0, 1) := by decide +kernel
theorem d_B_setFrame_1 : decode b_B_setFrame 1 = .ok (.getfield 42, 3) := by decide +kernel
theorem d_B_setFrame_4 : decode b_B_setFrame 4 = .ok (.iload_n 1, 1) := by decide +kernel
theorem d_B_setFrame_5 : decode b_B_setFrame 5 = .ok (.iaload, 1) := by decide +kernel
theorem d_B_setFrame_6 : decode b_B_setFrame 6 = .ok (.iload_n 2, 1) := by decide +kernel
theorem d_B_setFrame_7 : decode b_B_setFrame 7 = .ok (.if_icmp .ne 4, 3) := by decide +kernel
theorem d_B_setFrame_10 : decode b_B_setFrame 10 = .ok (.return_, 1) := by decide +kernel
theorem d_B_setFrame_11 : decode b_B_setFrame 11 = .ok (.aload_n 0, 1) := by decide +kernel
theorem d_B_setFrame_12 : decode b_B_setFrame 12 = .ok (.iconst 4, 1) := by decide +kernel
theorem d_B_setFrame_13 : decode b_B_setFrame 13 = .ok (.iload_n 1, 1) := by decide +kernel
theorem d_B_setFrame_14 : decode b_B_setFrame 14 = .ok (.aload_n 0, 1) := by decide +kernel
theorem d_B_setFrame_15 : decode b_B_setFrame 15 = .ok (.getfield 42, 3) := by decide +kernel
theorem d_B_setFrame_18 : decode b_B_setFrame 18 = .ok (.iload_n 1, 1) := by decide +kernel
theorem d_B_setFrame_19 : decode b_B_setFrame 19 = .ok (.iaload, 1) := by decide +kernel
theorem d_B_setFrame_20 : decode b_B_setFrame 20 = .ok (.invokevirtual 235, 3) := by decide +kernel
theorem d_B_setFrame_23 : decode b_B_setFrame 23 = .ok (.aload_n 0, 1) := by decide +kernel
theorem d_B_setFrame_24 : decode b_B_setFrame 24 = .ok (.getfield 42, 3) := by decide +kernel
theorem d_B_setFrame_27 : decode b_B_setFrame 27 = .ok (.iload_n 1, 1) := by decide +kernel
theorem d_B_setFrame_28 : decode b_B_setFrame 28 = .ok (.iload_n 2, 1) := by decide +kernel
theorem d_B_setFrame_29 : decode b_B_setFrame 29 = .ok (.iastore, 1) := by decide +kernel
theorem d_B_setFrame_30 : decode b_B_setFrame 30 = .ok (.return_, 1) := by decide +kernel
def P_B_setFrame (bc bs : Nat) (x1 : Int32) (x2 : Int32) (u : PS) (Qc : PS → Prop) : Prop := (vp_in x1 120 ∧ (((p_fF u x1.toNatClampNeg) = x2 → Qc u) ∧ (¬ (p_fF u x1.toNatClampNeg) = x2 → (vp_in x1 120 ∧ (∃ kc_20 nc_20 : Nat, 0 + kc_20 ≤ bc ∧ 0 + nc_20 ≤ bs ∧ P_B_log kc_20 nc_20 (4 : Int32) x1 (p_fF u x1.toNatClampNeg) u (fun u_20 => (vp_in x1 120 ∧ Qc (ps_fF u_20 (upd (p_fF u_20) x1.toNatClampNeg x2)))))))))
section PW
variable {p : Program} {l : Launch} {e : Env} {s : State} {m : MethodId} {args : Array Value} {below : List Frame} {meth : Method} {c : Code} {x : GX} {g : GE} {ex : va_W} {a : Nat → Nat} {A : Nat → Prop} {o : Nat}
set_option maxHeartbeats 4000000 in
set_option maxRecDepth 20000 in
theorem c_B_setFrame {x : GX} {g : GE} {o : Nat} {ex : va_W} {a : Nat → Nat} (l : Launch) (bc bs : Nat) (x1 : Int32) (x2 : Int32) (u : PS) (sz : Nat) (Qc : PS → Prop) (h : P_B_setFrame bc bs x1 x2 u Qc) : Met l y_B_setFrame (wM y_B_setFrame b_B_setFrame 3 none) (rmN 2 bc bs) (PreE x g (pcl x g o) ex [.ref o, .int x1, .int x2] a u sz) (QeV x (pcl x g o) ex (va_A ((pcl x g o) a u ++ ex) sz) Qc) bc bs (va_A ((pcl x g o) a u ++ ex) sz) := by
  refine w_enterE (by decide +kernel) (Nat.le_of_ble_eq_true rfl) (fun p e s m args below meth c S hr hlk hnm hK hE hA hw ls hl => ?_)
  have hl : lv_has ls 3 [(0, .ref o), (1, .int x1), (2, .int x2)] := hl
  refine lv_aload_n S.1 S.2.1 d_B_setFrame_0 rfl (lv_at hl 0 rfl) ?_
  refine pg_frames S hK hw d_B_setFrame_1 ?_
  refine lv_iload_n S.1 S.2.1 d_B_setFrame_4 rfl (lv_at hl 1 rfl) ?_
  have hg := h.1
  have h := h.2
  refine pl_fF S hK hw hg d_B_setFrame_5 ?_
  refine lv_iload_n S.1 S.2.1 d_B_setFrame_6 rfl (lv_at hl 2 rfl) ?_
  refine lv_icmp_ne (tgt := 11) S.1 S.2.1 d_B_setFrame_7 (by decide) (fun q_7 => ?_) (fun q_7 => ?_)
  · have h := h.2 q_7
    refine lv_aload_n S.1 S.2.1 d_B_setFrame_11 rfl (lv_at hl 0 rfl) ?_
    refine lv_iconst (v := 4) S.1 S.2.1 d_B_setFrame_12 (by decide) ?_
    refine lv_iload_n S.1 S.2.1 d_B_setFrame_13 rfl (lv_at hl 1 rfl) ?_
    refine lv_aload_n S.1 S.2.1 d_B_setFrame_14 rfl (lv_at hl 0 rfl) ?_
    refine pg_frames S hK hw d_B_setFrame_15 ?_
    refine lv_iload_n S.1 S.2.1 d_B_setFrame_18 rfl (lv_at hl 1 rfl) ?_
    have hg := h.1
    have h := h.2
    refine pl_fF S hK hw hg d_B_setFrame_19 ?_
    obtain ⟨kc_20, nc_20, hk_20, hn_20, h⟩ := h
    refine w_cvE hA hw (w_rvE (rest := []) S hK hE hA hw (c_B_log l kc_20 nc_20 (4 : Int32) x1 (p_fF u x1.toNatClampNeg) u _ _ h) (ci := 1) (q0 := 0) rfl rfl (w_cb (fr := 0) (lv := 0) S.2.2.2.2 k_797 k_794 k_1 yd_B_log rfl rfl ⟨Nat.le_of_ble_eq_true rfl, Nat.le_of_ble_eq_true rfl⟩) k_796 s_24 rfl hl.1 rfl (Nat.le_of_ble_eq_true rfl) d_B_setFrame_20 ⟨hk_20, hn_20⟩) (fun u_20 a_20 H locs h hw => ?_)
    refine lv_aload_n S.1 S.2.1 d_B_setFrame_23 rfl (lv_at hl 0 rfl) ?_
    refine pg_frames S hK hw d_B_setFrame_24 ?_
    refine lv_iload_n S.1 S.2.1 d_B_setFrame_27 rfl (lv_at hl 1 rfl) ?_
    refine lv_iload_n S.1 S.2.1 d_B_setFrame_28 rfl (lv_at hl 2 rfl) ?_
    have hg := h.1
    have h := h.2
    refine pt_fF S hK hw hg d_B_setFrame_29 (fun H locs hw => ?_)
    refine W.widen (k := bc) (n := bs) hk_20 hn_20 ?_
    exact w_vretE S hr hlk hw h d_B_setFrame_30
  · have h := h.1 q_7
    refine W.widen (k := bc) (n := bs) (Nat.zero_le _) (Nat.zero_le _) ?_
    exact w_vretE S hr hlk hw h d_B_setFrame_10
end PW
abbrev b_B_call : ByteArray := prog_1_method_34_code
def y_B_call : MethodName := ⟨"PatternBench", "call", "(I)Z"⟩
theorem yd_B_call : y_B_call.cls ≠ "java/lang/invoke/MethodHandle" ∧ y_B_call.cls ≠ "java/lang/invoke/VarHandle" ∧ (parseMethodDescriptor y_B_call.desc).map (fun d => d.parameters.length) = some 1 := by decide +kernel
theorem d_B_call_0 : decode b_B_call 0 = .ok (.aload_n 0, 1) := by decide +kernel
theorem d_B_call_1 : decode b_B_call 1 = .ok (.getfield 245, 3) := by decide +kernel
theorem d_B_call_4 : decode b_B_call 4 = .ok (.bipush 12, 2) := by decide +kernel
theorem d_B_call_6 : decode b_B_call 6 = .ok (.if_icmp .ne 5, 3) := by decide +kernel
theorem d_B_call_9 : decode b_B_call 9 = .ok (.iconst 0, 1) := by decide +kernel
theorem d_B_call_10 : decode b_B_call 10 = .ok (.ireturn, 1) := by decide +kernel
theorem d_B_call_11 : decode b_B_call 11 = .ok (.bipush 10, 2) := by decide +kernel
theorem d_B_call_13 : decode b_B_call 13 = .ok (.aload_n 0, 1) := by decide +kernel
theorem d_B_call_14 : decode b_B_call 14 = .ok (.getfield 245, 3) := by decide +kernel
theorem d_B_call_17 : decode b_B_call 17 = .ok (.imul, 1) := by decide +kernel
theorem d_B_call_18 : decode b_B_call 18 = .ok (.istore_n 2, 1) := by decide +kernel
theorem d_B_call_19 : decode b_B_call 19 = .ok (.aload_n 0, 1) := by decide +kernel
theorem d_B_call_20 : decode b_B_call 20 = .ok (.iload_n 2, 1) := by decide +kernel
theorem d_B_call_21 : decode b_B_call 21 = .ok (.aload_n 0, 1) := by decide +kernel
theorem d_B_call_22 : decode b_B_call 22 = .ok (.getfield 239, 3) := by decide +kernel
theorem d_B_call_25 : decode b_B_call 25 = .ok (.invokevirtual 308, 3) := by decide +kernel
theorem d_B_call_28 : decode b_B_call 28 = .ok (.iconst 2, 1) := by decide +kernel
theorem d_B_call_29 : decode b_B_call 29 = .ok (.istore_n 3, 1) := by decide +kernel
theorem d_B_call_30 : decode b_B_call 30 = .ok (.iload_n 3, 1) := by decide +kernel
theorem d_B_call_31 : decode b_B_call 31 = .ok (.bipush 10, 2) := by decide +kernel
theorem d_B_call_33 : decode b_B_call 33 = .ok (.if_icmp .ge 22, 3) := by decide +kernel
theorem d_B_call_36 : decode b_B_call 36 = .ok (.aload_n 0, 1) := by decide +kernel
theorem d_B_call_37 : decode b_B_call 37 = .ok (.iload_n 2, 1) := by decide +kernel
theorem d_B_call_38 : decode b_B_call 38 = .ok (.iload_n 3, 1) := by decide +kernel
theorem d_B_call_39 : decode b_B_call 39 = .ok (.iadd, 1) := by decide +kernel
theorem d_B_call_40 : decode b_B_call 40 = .ok (.aload_n 0, 1) := by decide +kernel
theorem d_B_call_41 : decode b_B_call 41 = .ok (.getfield 36, 3) := by decide +kernel
theorem d_B_call_44 : decode b_B_call 44 = .ok (.iload_n 3, 1) := by decide +kernel
theorem d_B_call_45 : decode b_B_call 45 = .ok (.iaload, 1) := by decide +kernel
theorem d_B_call_46 : decode b_B_call 46 = .ok (.invokevirtual 308, 3) := by decide +kernel
theorem d_B_call_49 : decode b_B_call 49 = .ok (.iinc 3 1, 3) := by decide +kernel
theorem d_B_call_52 : decode b_B_call 52 = .ok (.goto (-22), 3) := by decide +kernel
theorem d_B_call_55 : decode b_B_call 55 = .ok (.aload_n 0, 1) := by decide +kernel
theorem d_B_call_56 : decode b_B_call 56 = .ok (.dup, 1) := by decide +kernel
theorem d_B_call_57 : decode b_B_call 57 = .ok (.getfield 245, 3) := by decide +kernel
theorem d_B_call_60 : decode b_B_call 60 = .ok (.iconst 1, 1) := by decide +kernel
theorem d_B_call_61 : decode b_B_call 61 = .ok (.iadd, 1) := by decide +kernel
theorem d_B_call_62 : decode b_B_call 62 = .ok (.putfield 245, 3) := by decide +kernel
theorem d_B_call_65 : decode b_B_call 65 = .ok (.aload_n 0, 1) := by decide +kernel
theorem d_B_call_66 : decode b_B_call 66 = .ok (.iconst 5, 1) := by decide +kernel
theorem d_B_call_67 : decode b_B_call 67 = .ok (.iconst 0, 1) := by decide +kernel
theorem d_B_call_68 : decode b_B_call 68 = .ok (.iconst 0, 1) := by decide +kernel
theorem d_B_call_69 : decode b_B_call 69 = .ok (.invokevirtual 235, 3) := by decide +kernel
theorem d_B_call_72 : decode b_B_call 72 = .ok (.aload_n 0, 1) := by decide +kernel
theorem d_B_call_73 : decode b_B_call 73 = .ok (.aload_n 0, 1) := by decide +kernel
theorem d_B_call_74 : decode b_B_call 74 = .ok (.getfield 22, 3) := by decide +kernel
theorem d_B_call_77 : decode b_B_call 77 = .ok (.getfield 203, 3) := by decide +kernel
theorem d_B_call_80 : decode b_B_call 80 = .ok (.iload_n 1, 1) := by decide +kernel
theorem d_B_call_81 : decode b_B_call 81 = .ok (.iaload, 1) := by decide +kernel
theorem d_B_call_82 : decode b_B_call 82 = .ok (.putfield 239, 3) := by decide +kernel
theorem d_B_call_85 : decode b_B_call 85 = .ok (.iconst 1, 1) := by decide +kernel
theorem d_B_call_86 : decode b_B_call 86 = .ok (.ireturn, 1) := by decide +kernel
def L_B_call_30 (Qc : Int32 → PS → Prop) (bc bs : Nat)  : Nat → Nat → Nat → Int32 → Int32 → Int32 → PS → Prop
  | 0, _, _, _, _, _, _ => False
  | n + 1, k, n0, x1, x2, x3, u => (((10 : Int32) ≤ x3 → (∃ kc_69 nc_69 : Nat, k + kc_69 ≤ bc ∧ n0 + nc_69 ≤ bs ∧ P_B_log kc_69 nc_69 (5 : Int32) (0 : Int32) (0 : Int32) (ps_calls u ((p_calls u) + (1 : Int32))) (fun u_69 => (vp_in x1 5 ∧ Qc (1 : Int32) (ps_pc u_69 (p_en u_69 x1.toNatClampNeg)))))) ∧ (¬ (10 : Int32) ≤ x3 → (vp_in x3 10 ∧ (∃ kc_46 nc_46 : Nat, k + kc_46 ≤ bc ∧ n0 + nc_46 ≤ bs ∧ P_B_setFrame kc_46 nc_46 (x2 + x3) (p_cF u x3.toNatClampNeg) u (fun u_46 => (∀ x3_49 : Int32, x3_49 = x3 + 1 → (L_B_call_30 Qc bc bs n) (k + kc_46) (n0 + nc_46) x1 x2 x3_49 u_46))))))
def P_B_call (bc bs : Nat) (x1 : Int32) (u : PS) (Qc : Int32 → PS → Prop) : Prop := (((p_calls u) = (12 : Int32) → Qc (0 : Int32) u) ∧ (¬ (p_calls u) = (12 : Int32) → (∀ x2_18 : Int32, x2_18 = ((10 : Int32) * (p_calls u)) → (∃ kc_25 nc_25 : Nat, 0 + kc_25 ≤ bc ∧ 0 + nc_25 ≤ bs ∧ P_B_setFrame kc_25 nc_25 x2_18 (p_pc u) u (fun u_25 => ∃ n, L_B_call_30 Qc bc bs  n (0 + kc_25) (0 + nc_25) x1 x2_18 (2 : Int32) u_25)))))
section PW
variable {p : Program} {l : Launch} {e : Env} {s : State} {m : MethodId} {args : Array Value} {below : List Frame} {meth : Method} {c : Code} {x : GX} {g : GE} {ex : va_W} {a : Nat → Nat} {A : Nat → Prop} {o : Nat}
set_option maxHeartbeats 4000000 in
set_option maxRecDepth 20000 in
theorem wL_B_call_30 (S : CallFix p m c b_B_call 4 s args lw_tg "PatternBench") (hr : meth.sig.returnType = some .boolean) (hlk : meth.locks = false) (hK : GK x s) (hE : EN g A s s.heap) (hA : ∀ q : Nat, s.heap.size ≤ q → A q) {Qc : Int32 → PS → Prop} {bc bs : Nat}  : ∀ (n : Nat) (k n0 : Nat) (hk : k ≤ bc) (hn : n0 ≤ bs) (x1 : Int32) (x2 : Int32) (x3 : Int32) (u : PS) (a : Nat → Nat) (ls : Array Slot) (H : Heap) (locs : List Loc), lv_has ls 4 [(0, .ref o), (1, .int x1), (2, .int x2), (3, .int x3)] → wd x A s.heap ((pcl x g o) a u ++ ex) H locs → L_B_call_30 Qc bc bs  n k n0 x1 x2 x3 u → W p l e (rmN 3 bc bs) s m args below meth c H locs k n0 (MQ below (QeI x (pcl x g o) ex A Qc) args s bc bs A) (F0 m 30 ls []) := by
  intro n
  induction n with
  | zero =>
    intro k n0 hk hn x1 x2 x3 u a ls H locs hl hw h
    exact absurd h id
  | succ n ih =>
    intro k n0 hk hn x1 x2 x3 u a ls H locs hl hw h
    refine lv_iload_n S.1 S.2.1 d_B_call_30 rfl (lv_at hl 3 rfl) ?_
    refine lv_bipush (v := 10) S.1 S.2.1 d_B_call_31 (by decide) ?_
    refine lv_icmp_ge (tgt := 55) S.1 S.2.1 d_B_call_33 (by decide) (fun q_33 => ?_) (fun q_33 => ?_)
    · have h := h.1 q_33
      refine lv_aload_n S.1 S.2.1 d_B_call_55 rfl (lv_at hl 0 rfl) ?_
      refine lv_dup S.1 S.2.1 d_B_call_56 rfl ?_
      refine pg_calls S hK hw d_B_call_57 ?_
      refine lv_iconst (v := 1) S.1 S.2.1 d_B_call_60 (by decide) ?_
      refine lv_iadd S.1 S.2.1 d_B_call_61 ?_
      refine pp_calls S hK hw d_B_call_62 (fun H locs hw => ?_)
      refine lv_aload_n S.1 S.2.1 d_B_call_65 rfl (lv_at hl 0 rfl) ?_
      refine lv_iconst (v := 5) S.1 S.2.1 d_B_call_66 (by decide) ?_
      refine lv_iconst (v := 0) S.1 S.2.1 d_B_call_67 (by decide) ?_
      refine lv_iconst (v := 0) S.1 S.2.1 d_B_call_68 (by decide) ?_
      obtain ⟨kc_69, nc_69, hk_69, hn_69, h⟩ := h
      refine w_cvE hA hw (w_rvE (rest := []) S hK hE hA hw (c_B_log l kc_69 nc_69 (5 : Int32) (0 : Int32) (0 : Int32) (ps_calls u ((p_calls u) + (1 : Int32))) _ _ h) (ci := 1) (q0 := 0) rfl rfl (w_cb (fr := 0) (lv := 0) S.2.2.2.2 k_797 k_794 k_1 yd_B_log rfl rfl ⟨Nat.le_of_ble_eq_true rfl, Nat.le_of_ble_eq_true rfl⟩) k_796 s_24 rfl hl.1 rfl (Nat.le_of_ble_eq_true rfl) d_B_call_69 ⟨hk_69, hn_69⟩) (fun u_69 a_69 H locs h hw => ?_)
      refine lv_aload_n S.1 S.2.1 d_B_call_72 rfl (lv_at hl 0 rfl) ?_
      refine lv_aload_n S.1 S.2.1 d_B_call_73 rfl (lv_at hl 0 rfl) ?_
      refine pg_ready S hK hw d_B_call_74 ?_
      refine pgr_entry S hK hw d_B_call_77 ?_
      refine lv_iload_n S.1 S.2.1 d_B_call_80 rfl (lv_at hl 1 rfl) ?_
      have hg := h.1
      have h := h.2
      refine pl_en S hK hw hg d_B_call_81 ?_
      refine pp_pc S hK hw d_B_call_82 (fun H locs hw => ?_)
      refine lv_iconst (v := 1) S.1 S.2.1 d_B_call_85 (by decide) ?_
      refine W.widen (k := bc) (n := bs) hk_69 hn_69 ?_
      exact w_zretE S hr hlk isB1 hw h d_B_call_86
    · have h := h.2 q_33
      refine lv_aload_n S.1 S.2.1 d_B_call_36 rfl (lv_at hl 0 rfl) ?_
      refine lv_iload_n S.1 S.2.1 d_B_call_37 rfl (lv_at hl 2 rfl) ?_
      refine lv_iload_n S.1 S.2.1 d_B_call_38 rfl (lv_at hl 3 rfl) ?_
      refine lv_iadd S.1 S.2.1 d_B_call_39 ?_
      refine lv_aload_n S.1 S.2.1 d_B_call_40 rfl (lv_at hl 0 rfl) ?_
      refine pg_captures S hK hw d_B_call_41 ?_
      refine lv_iload_n S.1 S.2.1 d_B_call_44 rfl (lv_at hl 3 rfl) ?_
      have hg := h.1
      have h := h.2
      refine pl_cF S hK hw hg d_B_call_45 ?_
      obtain ⟨kc_46, nc_46, hk_46, hn_46, h⟩ := h
      refine w_cvE hA hw (w_rvE (rest := []) S hK hE hA hw (c_B_setFrame l kc_46 nc_46 (x2 + x3) (p_cF u x3.toNatClampNeg) u _ _ h) (ci := 1) (q0 := 0) rfl rfl (w_cb (fr := 0) (lv := 0) S.2.2.2.2 k_793 k_790 k_1 yd_B_setFrame rfl rfl ⟨Nat.le_of_ble_eq_true rfl, Nat.le_of_ble_eq_true rfl⟩) k_792 s_23 rfl hl.1 rfl (Nat.le_of_ble_eq_true rfl) d_B_call_46 ⟨hk_46, hn_46⟩) (fun u_46 a_46 H locs h hw => ?_)
      obtain ⟨x3_49, ex3_49⟩ : ∃ y : Int32, y = x3 + 1 := ⟨_, rfl⟩
      have h := h x3_49 ex3_49
      refine lv_iinc (v := x3_49) (lv' := [(3, .int x3_49), (0, .ref o), (1, .int x1), (2, .int x2)]) S.1 S.2.1 d_B_call_49 hl (k := 3) rfl (by rw [ex3_49]; rfl) (by decide) rfl (fun ls hl => ?_)
      refine lv_goto (tgt := 30) S.1 S.2.1 d_B_call_52 (by decide) ?_
      exact ih (k + kc_46) (n0 + nc_46) hk_46 hn_46 x1 x2 x3_49 u_46 a_46 _ _ _ (lv_sub hl [1, 2, 3, 0] rfl) hw h
set_option maxHeartbeats 4000000 in
set_option maxRecDepth 20000 in
theorem c_B_call {x : GX} {g : GE} {o : Nat} {ex : va_W} {a : Nat → Nat} (l : Launch) (bc bs : Nat) (x1 : Int32) (u : PS) (sz : Nat) (Qc : Int32 → PS → Prop) (h : P_B_call bc bs x1 u Qc) : Met l y_B_call (wM y_B_call b_B_call 4 (some .boolean)) (rmN 3 bc bs) (PreE x g (pcl x g o) ex [.ref o, .int x1] a u sz) (QeI x (pcl x g o) ex (va_A ((pcl x g o) a u ++ ex) sz) Qc) bc bs (va_A ((pcl x g o) a u ++ ex) sz) := by
  refine w_enterE (by decide +kernel) (Nat.le_of_ble_eq_true rfl) (fun p e s m args below meth c S hr hlk hnm hK hE hA hw ls hl => ?_)
  have hl : lv_has ls 4 [(0, .ref o), (1, .int x1)] := hl
  refine lv_aload_n S.1 S.2.1 d_B_call_0 rfl (lv_at hl 0 rfl) ?_
  refine pg_calls S hK hw d_B_call_1 ?_
  refine lv_bipush (v := 12) S.1 S.2.1 d_B_call_4 (by decide) ?_
  refine lv_icmp_ne (tgt := 11) S.1 S.2.1 d_B_call_6 (by decide) (fun q_6 => ?_) (fun q_6 => ?_)
  · have h := h.2 q_6
    refine lv_bipush (v := 10) S.1 S.2.1 d_B_call_11 (by decide) ?_
    refine lv_aload_n S.1 S.2.1 d_B_call_13 rfl (lv_at hl 0 rfl) ?_
    refine pg_calls S hK hw d_B_call_14 ?_
    refine lv_imul S.1 S.2.1 d_B_call_17 ?_
    refine lv_topi (fun x2_18 ex2_18 => ?_)
    have h := h x2_18 ex2_18
    refine lv_istore_n (lv' := [(2, .int x2_18), (0, .ref o), (1, .int x1)]) S.1 S.2.1 d_B_call_18 rfl hl (by decide) rfl (fun ls hl => ?_)
    refine lv_aload_n S.1 S.2.1 d_B_call_19 rfl (lv_at hl 1 rfl) ?_
    refine lv_iload_n S.1 S.2.1 d_B_call_20 rfl (lv_at hl 0 rfl) ?_
    refine lv_aload_n S.1 S.2.1 d_B_call_21 rfl (lv_at hl 1 rfl) ?_
    refine pg_pc S hK hw d_B_call_22 ?_
    obtain ⟨kc_25, nc_25, hk_25, hn_25, h⟩ := h
    refine w_cvE hA hw (w_rvE (rest := []) S hK hE hA hw (c_B_setFrame l kc_25 nc_25 x2_18 (p_pc u) u _ _ h) (ci := 1) (q0 := 0) rfl rfl (w_cb (fr := 0) (lv := 0) S.2.2.2.2 k_793 k_790 k_1 yd_B_setFrame rfl rfl ⟨Nat.le_of_ble_eq_true rfl, Nat.le_of_ble_eq_true rfl⟩) k_792 s_23 rfl hl.1 rfl (Nat.le_of_ble_eq_true rfl) d_B_call_25 ⟨hk_25, hn_25⟩) (fun u_25 a_25 H locs h hw => ?_)
    refine lv_iconst (v := 2) S.1 S.2.1 d_B_call_28 (by decide) ?_
    refine lv_istore_n (lv' := [(3, .int (2 : Int32)), (2, .int x2_18), (0, .ref o), (1, .int x1)]) S.1 S.2.1 d_B_call_29 rfl hl (by decide) rfl (fun ls hl => ?_)
    obtain ⟨n9, h⟩ := h
    exact wL_B_call_30 S hr hlk hK hE hA  n9 (0 + kc_25) (0 + nc_25) hk_25 hn_25 x1 x2_18 (2 : Int32) u_25 a_25 _ _ _ (lv_sub hl [2, 3, 1, 0] rfl) hw h
  · have h := h.1 q_6
    refine lv_iconst (v := 0) S.1 S.2.1 d_B_call_9 (by decide) ?_
    refine W.widen (k := bc) (n := bs) (Nat.zero_le _) (Nat.zero_le _) ?_
    exact w_zretE S hr hlk isB0 hw h d_B_call_10
end PW
abbrev b_B_comeBack : ByteArray := prog_1_method_35_code
def y_B_comeBack : MethodName := ⟨"PatternBench", "comeBack", "()V"⟩
theorem yd_B_comeBack : y_B_comeBack.cls ≠ "java/lang/invoke/MethodHandle" ∧ y_B_comeBack.cls ≠ "java/lang/invoke/VarHandle" ∧ (parseMethodDescriptor y_B_comeBack.desc).map (fun d => d.parameters.length) = some 0 := by decide +kernel
theorem d_B_comeBack_0 : decode b_B_comeBack 0 = .ok (.aload_n 0, 1) := by decide +kernel
theorem d_B_comeBack_1 : decode b_B_comeBack 1 = .ok (.dup, 1) := by decide +kernel
theorem d_B_comeBack_2 : decode b_B_comeBack 2 = .ok (.getfield 245, 3) := by decide +kernel
theorem d_B_comeBack_5 : decode b_B_comeBack 5 = .ok (.iconst 1, 1) := by decide +kernel
theorem d_B_comeBack_6 : decode b_B_comeBack 6 = .ok (.isub, 1) := by decide +kernel
theorem d_B_comeBack_7 : decode b_B_comeBack 7 = .ok (.putfield 245, 3) := by decide +kernel
theorem d_B_comeBack_10 : decode b_B_comeBack 10 = .ok (.aload_n 0, 1) := by decide +kernel
theorem d_B_comeBack_11 : decode b_B_comeBack 11 = .ok (.bipush 6, 2) := by decide +kernel
theorem d_B_comeBack_13 : decode b_B_comeBack 13 = .ok (.iconst 0, 1) := by decide +kernel
theorem d_B_comeBack_14 : decode b_B_comeBack 14 = .ok (.iconst 0, 1) := by decide +kernel
theorem d_B_comeBack_15 : decode b_B_comeBack 15 = .ok (.invokevirtual 235, 3) := by decide +kernel
theorem d_B_comeBack_18 : decode b_B_comeBack 18 = .ok (.bipush 10, 2) := by decide +kernel
theorem d_B_comeBack_20 : decode b_B_comeBack 20 = .ok (.aload_n 0, 1) := by decide +kernel
theorem d_B_comeBack_21 : decode b_B_comeBack 21 = .ok (.getfield 245, 3) := by decide +kernel
theorem d_B_comeBack_24 : decode b_B_comeBack 24 = .ok (.imul, 1) := by decide +kernel
theorem d_B_comeBack_25 : decode b_B_comeBack 25 = .ok (.istore_n 1, 1) := by decide +kernel
theorem d_B_comeBack_26 : decode b_B_comeBack 26 = .ok (.iconst 2, 1) := by decide +kernel
theorem d_B_comeBack_27 : decode b_B_comeBack 27 = .ok (.istore_n 2, 1) := by decide +kernel
theorem d_B_comeBack_28 : decode b_B_comeBack 28 = .ok (.iload_n 2, 1) := by decide +kernel
theorem d_B_comeBack_29 : decode b_B_comeBack 29 = .ok (.bipush 10, 2) := by decide +kernel
theorem d_B_comeBack_31 : decode b_B_comeBack 31 = .ok (.if_icmp .ge 22, 3) := by decide +kernel
theorem d_B_comeBack_34 : decode b_B_comeBack 34 = .ok (.aload_n 0, 1) := by decide +kernel
theorem d_B_comeBack_35 : decode b_B_comeBack 35 = .ok (.iload_n 2, 1) := by decide +kernel
theorem d_B_comeBack_36 : decode b_B_comeBack 36 = .ok (.aload_n 0, 1) := by decide +kernel
theorem d_B_comeBack_37 : decode b_B_comeBack 37 = .ok (.getfield 42, 3) := by decide +kernel
theorem d_B_comeBack_40 : decode b_B_comeBack 40 = .ok (.iload_n 1, 1) := by decide +kernel
theorem d_B_comeBack_41 : decode b_B_comeBack 41 = .ok (.iload_n 2, 1) := by decide +kernel
theorem d_B_comeBack_42 : decode b_B_comeBack 42 = .ok (.iadd, 1) := by decide +kernel
theorem d_B_comeBack_43 : decode b_B_comeBack 43 = .ok (.iaload, 1) := by decide +kernel
theorem d_B_comeBack_44 : decode b_B_comeBack 44 = .ok (.invokevirtual 292, 3) := by decide +kernel
theorem d_B_comeBack_47 : decode b_B_comeBack 47 = .ok (.iinc 2 1, 3) := by decide +kernel
theorem d_B_comeBack_50 : decode b_B_comeBack 50 = .ok (.goto (-22), 3) := by decide +kernel
theorem d_B_comeBack_53 : decode b_B_comeBack 53 = .ok (.aload_n 0, 1) := by decide +kernel
theorem d_B_comeBack_54 : decode b_B_comeBack 54 = .ok (.aload_n 0, 1) := by decide +kernel
theorem d_B_comeBack_55 : decode b_B_comeBack 55 = .ok (.getfield 42, 3) := by decide +kernel
theorem d_B_comeBack_58 : decode b_B_comeBack 58 = .ok (.iload_n 1, 1) := by decide +kernel
theorem d_B_comeBack_59 : decode b_B_comeBack 59 = .ok (.iaload, 1) := by decide +kernel
theorem d_B_comeBack_60 : decode b_B_comeBack 60 = .ok (.putfield 239, 3) := by decide +kernel
theorem d_B_comeBack_63 : decode b_B_comeBack 63 = .ok (.return_, 1) := by decide +kernel
def L_B_comeBack_28 (Qc : PS → Prop) (bc bs : Nat)  : Nat → Nat → Nat → Int32 → Int32 → PS → Prop
  | 0, _, _, _, _, _ => False
  | n + 1, k, n0, x1, x2, u => (((10 : Int32) ≤ x2 → (vp_in x1 120 ∧ Qc (ps_pc u (p_fF u x1.toNatClampNeg)))) ∧ (¬ (10 : Int32) ≤ x2 → (vp_in (x1 + x2) 120 ∧ (∃ kc_44 nc_44 : Nat, k + kc_44 ≤ bc ∧ n0 + nc_44 ≤ bs ∧ P_B_capture kc_44 nc_44 x2 (p_fF u (x1 + x2).toNatClampNeg) u (fun u_44 => (∀ x2_47 : Int32, x2_47 = x2 + 1 → (L_B_comeBack_28 Qc bc bs n) (k + kc_44) (n0 + nc_44) x1 x2_47 u_44))))))
def P_B_comeBack (bc bs : Nat)  (u : PS) (Qc : PS → Prop) : Prop := (∃ kc_15 nc_15 : Nat, 0 + kc_15 ≤ bc ∧ 0 + nc_15 ≤ bs ∧ P_B_log kc_15 nc_15 (6 : Int32) (0 : Int32) (0 : Int32) (ps_calls u ((p_calls u) - (1 : Int32))) (fun u_15 => (∀ x1_25 : Int32, x1_25 = ((10 : Int32) * (p_calls u_15)) → ∃ n, L_B_comeBack_28 Qc bc bs  n (0 + kc_15) (0 + nc_15) x1_25 (2 : Int32) u_15)))
section PW
variable {p : Program} {l : Launch} {e : Env} {s : State} {m : MethodId} {args : Array Value} {below : List Frame} {meth : Method} {c : Code} {x : GX} {g : GE} {ex : va_W} {a : Nat → Nat} {A : Nat → Prop} {o : Nat}
set_option maxHeartbeats 4000000 in
set_option maxRecDepth 20000 in
theorem wL_B_comeBack_28 (S : CallFix p m c b_B_comeBack 3 s args lw_tg "PatternBench") (hr : meth.sig.returnType = none) (hlk : meth.locks = false) (hK : GK x s) (hE : EN g A s s.heap) (hA : ∀ q : Nat, s.heap.size ≤ q → A q) {Qc : PS → Prop} {bc bs : Nat}  : ∀ (n : Nat) (k n0 : Nat) (hk : k ≤ bc) (hn : n0 ≤ bs) (x1 : Int32) (x2 : Int32) (u : PS) (a : Nat → Nat) (ls : Array Slot) (H : Heap) (locs : List Loc), lv_has ls 3 [(0, .ref o), (1, .int x1), (2, .int x2)] → wd x A s.heap ((pcl x g o) a u ++ ex) H locs → L_B_comeBack_28 Qc bc bs  n k n0 x1 x2 u → W p l e (rmN 3 bc bs) s m args below meth c H locs k n0 (MQ below (QeV x (pcl x g o) ex A Qc) args s bc bs A) (F0 m 28 ls []) := by
  intro n
  induction n with
  | zero =>
    intro k n0 hk hn x1 x2 u a ls H locs hl hw h
    exact absurd h id
  | succ n ih =>
    intro k n0 hk hn x1 x2 u a ls H locs hl hw h
    refine lv_iload_n S.1 S.2.1 d_B_comeBack_28 rfl (lv_at hl 2 rfl) ?_
    refine lv_bipush (v := 10) S.1 S.2.1 d_B_comeBack_29 (by decide) ?_
    refine lv_icmp_ge (tgt := 53) S.1 S.2.1 d_B_comeBack_31 (by decide) (fun q_31 => ?_) (fun q_31 => ?_)
    · have h := h.1 q_31
      refine lv_aload_n S.1 S.2.1 d_B_comeBack_53 rfl (lv_at hl 0 rfl) ?_
      refine lv_aload_n S.1 S.2.1 d_B_comeBack_54 rfl (lv_at hl 0 rfl) ?_
      refine pg_frames S hK hw d_B_comeBack_55 ?_
      refine lv_iload_n S.1 S.2.1 d_B_comeBack_58 rfl (lv_at hl 1 rfl) ?_
      have hg := h.1
      have h := h.2
      refine pl_fF S hK hw hg d_B_comeBack_59 ?_
      refine pp_pc S hK hw d_B_comeBack_60 (fun H locs hw => ?_)
      refine W.widen (k := bc) (n := bs) hk hn ?_
      exact w_vretE S hr hlk hw h d_B_comeBack_63
    · have h := h.2 q_31
      refine lv_aload_n S.1 S.2.1 d_B_comeBack_34 rfl (lv_at hl 0 rfl) ?_
      refine lv_iload_n S.1 S.2.1 d_B_comeBack_35 rfl (lv_at hl 2 rfl) ?_
      refine lv_aload_n S.1 S.2.1 d_B_comeBack_36 rfl (lv_at hl 0 rfl) ?_
      refine pg_frames S hK hw d_B_comeBack_37 ?_
      refine lv_iload_n S.1 S.2.1 d_B_comeBack_40 rfl (lv_at hl 1 rfl) ?_
      refine lv_iload_n S.1 S.2.1 d_B_comeBack_41 rfl (lv_at hl 2 rfl) ?_
      refine lv_iadd S.1 S.2.1 d_B_comeBack_42 ?_
      have hg := h.1
      have h := h.2
      refine pl_fF S hK hw hg d_B_comeBack_43 ?_
      obtain ⟨kc_44, nc_44, hk_44, hn_44, h⟩ := h
      refine w_cvE hA hw (w_rvE (rest := []) S hK hE hA hw (c_B_capture l kc_44 nc_44 x2 (p_fF u (x1 + x2).toNatClampNeg) u _ _ h) (ci := 1) (q0 := 0) rfl rfl (w_cb (fr := 0) (lv := 0) S.2.2.2.2 k_810 k_807 k_1 yd_B_capture rfl rfl ⟨Nat.le_of_ble_eq_true rfl, Nat.le_of_ble_eq_true rfl⟩) k_809 s_27 rfl hl.1 rfl (Nat.le_of_ble_eq_true rfl) d_B_comeBack_44 ⟨hk_44, hn_44⟩) (fun u_44 a_44 H locs h hw => ?_)
      obtain ⟨x2_47, ex2_47⟩ : ∃ y : Int32, y = x2 + 1 := ⟨_, rfl⟩
      have h := h x2_47 ex2_47
      refine lv_iinc (v := x2_47) (lv' := [(2, .int x2_47), (0, .ref o), (1, .int x1)]) S.1 S.2.1 d_B_comeBack_47 hl (k := 2) rfl (by rw [ex2_47]; rfl) (by decide) rfl (fun ls hl => ?_)
      refine lv_goto (tgt := 28) S.1 S.2.1 d_B_comeBack_50 (by decide) ?_
      exact ih (k + kc_44) (n0 + nc_44) hk_44 hn_44 x1 x2_47 u_44 a_44 _ _ _ (lv_sub hl [1, 2, 0] rfl) hw h
set_option maxHeartbeats 4000000 in
set_option maxRecDepth 20000 in
theorem c_B_comeBack {x : GX} {g : GE} {o : Nat} {ex : va_W} {a : Nat → Nat} (l : Launch) (bc bs : Nat)  (u : PS) (sz : Nat) (Qc : PS → Prop) (h : P_B_comeBack bc bs  u Qc) : Met l y_B_comeBack (wM y_B_comeBack b_B_comeBack 3 none) (rmN 3 bc bs) (PreE x g (pcl x g o) ex [.ref o] a u sz) (QeV x (pcl x g o) ex (va_A ((pcl x g o) a u ++ ex) sz) Qc) bc bs (va_A ((pcl x g o) a u ++ ex) sz) := by
  refine w_enterE (by decide +kernel) (Nat.le_of_ble_eq_true rfl) (fun p e s m args below meth c S hr hlk hnm hK hE hA hw ls hl => ?_)
  have hl : lv_has ls 3 [(0, .ref o)] := hl
  refine lv_aload_n S.1 S.2.1 d_B_comeBack_0 rfl (lv_at hl 0 rfl) ?_
  refine lv_dup S.1 S.2.1 d_B_comeBack_1 rfl ?_
  refine pg_calls S hK hw d_B_comeBack_2 ?_
  refine lv_iconst (v := 1) S.1 S.2.1 d_B_comeBack_5 (by decide) ?_
  refine lv_isub S.1 S.2.1 d_B_comeBack_6 ?_
  refine pp_calls S hK hw d_B_comeBack_7 (fun H locs hw => ?_)
  refine lv_aload_n S.1 S.2.1 d_B_comeBack_10 rfl (lv_at hl 0 rfl) ?_
  refine lv_bipush (v := 6) S.1 S.2.1 d_B_comeBack_11 (by decide) ?_
  refine lv_iconst (v := 0) S.1 S.2.1 d_B_comeBack_13 (by decide) ?_
  refine lv_iconst (v := 0) S.1 S.2.1 d_B_comeBack_14 (by decide) ?_
  obtain ⟨kc_15, nc_15, hk_15, hn_15, h⟩ := h
  refine w_cvE hA hw (w_rvE (rest := []) S hK hE hA hw (c_B_log l kc_15 nc_15 (6 : Int32) (0 : Int32) (0 : Int32) (ps_calls u ((p_calls u) - (1 : Int32))) _ _ h) (ci := 1) (q0 := 0) rfl rfl (w_cb (fr := 0) (lv := 0) S.2.2.2.2 k_797 k_794 k_1 yd_B_log rfl rfl ⟨Nat.le_of_ble_eq_true rfl, Nat.le_of_ble_eq_true rfl⟩) k_796 s_24 rfl hl.1 rfl (Nat.le_of_ble_eq_true rfl) d_B_comeBack_15 ⟨hk_15, hn_15⟩) (fun u_15 a_15 H locs h hw => ?_)
  refine lv_bipush (v := 10) S.1 S.2.1 d_B_comeBack_18 (by decide) ?_
  refine lv_aload_n S.1 S.2.1 d_B_comeBack_20 rfl (lv_at hl 0 rfl) ?_
  refine pg_calls S hK hw d_B_comeBack_21 ?_
  refine lv_imul S.1 S.2.1 d_B_comeBack_24 ?_
  refine lv_topi (fun x1_25 ex1_25 => ?_)
  have h := h x1_25 ex1_25
  refine lv_istore_n (lv' := [(1, .int x1_25), (0, .ref o)]) S.1 S.2.1 d_B_comeBack_25 rfl hl (by decide) rfl (fun ls hl => ?_)
  refine lv_iconst (v := 2) S.1 S.2.1 d_B_comeBack_26 (by decide) ?_
  refine lv_istore_n (lv' := [(2, .int (2 : Int32)), (1, .int x1_25), (0, .ref o)]) S.1 S.2.1 d_B_comeBack_27 rfl hl (by decide) rfl (fun ls hl => ?_)
  obtain ⟨n9, h⟩ := h
  exact wL_B_comeBack_28 S hr hlk hK hE hA  n9 (0 + kc_15) (0 + nc_15) hk_15 hn_15 x1_25 (2 : Int32) u_15 a_15 _ _ _ (lv_sub hl [2, 1, 0] rfl) hw h
end PW
abbrev b_B_one : ByteArray := prog_1_method_28_code
def y_B_one : MethodName := ⟨"PatternBench", "one", "()Z"⟩
theorem yd_B_one : y_B_one.cls ≠ "java/lang/invoke/MethodHandle" ∧ y_B_one.cls ≠ "java/lang/invoke/VarHandle" ∧ (parseMethodDescriptor y_B_one.desc).map (fun d => d.parameters.length) = some 0 := by decide +kernel
theorem d_B_one_0 : decode b_B_one 0 = .ok (.aload_n 0, 1) := by decide +kernel
theorem d_B_one_1 : decode b_B_one 1 = .ok (.getfield 22, 3) := by decide +kernel
theorem d_B_one_4 : decode b_B_one 4 = .ok (.getfield 265, 3) := by decide +kernel
theorem d_B_one_7 : decode b_B_one 7 = .ok (.aload_n 0, 1) := by decide +kernel
theorem d_B_one_8 : decode b_B_one 8 = .ok (.getfield 239, 3) := by decide +kernel
theorem d_B_one_11 : decode b_B_one 11 = .ok (.iaload, 1) := by decide +kernel
theorem d_B_one_12 : decode b_B_one 12 = .ok (.istore_n 1, 1) := by decide +kernel
theorem d_B_one_13 : decode b_B_one 13 = .ok (.aload_n 0, 1) := by decide +kernel
theorem d_B_one_14 : decode b_B_one 14 = .ok (.getfield 22, 3) := by decide +kernel
theorem d_B_one_17 : decode b_B_one 17 = .ok (.getfield 268, 3) := by decide +kernel
theorem d_B_one_20 : decode b_B_one 20 = .ok (.aload_n 0, 1) := by decide +kernel
theorem d_B_one_21 : decode b_B_one 21 = .ok (.getfield 239, 3) := by decide +kernel
theorem d_B_one_24 : decode b_B_one 24 = .ok (.iaload, 1) := by decide +kernel
theorem d_B_one_25 : decode b_B_one 25 = .ok (.istore_n 2, 1) := by decide +kernel
theorem d_B_one_26 : decode b_B_one 26 = .ok (.aload_n 0, 1) := by decide +kernel
theorem d_B_one_27 : decode b_B_one 27 = .ok (.getfield 22, 3) := by decide +kernel
theorem d_B_one_30 : decode b_B_one 30 = .ok (.getfield 254, 3) := by decide +kernel
theorem d_B_one_33 : decode b_B_one 33 = .ok (.aload_n 0, 1) := by decide +kernel
theorem d_B_one_34 : decode b_B_one 34 = .ok (.getfield 239, 3) := by decide +kernel
theorem d_B_one_37 : decode b_B_one 37 = .ok (.aaload, 1) := by decide +kernel
theorem d_B_one_38 : decode b_B_one 38 = .ok (.astore_n 3, 1) := by decide +kernel
theorem d_B_one_39 : decode b_B_one 39 = .ok (.aload_n 0, 1) := by decide +kernel
theorem d_B_one_40 : decode b_B_one 40 = .ok (.dup, 1) := by decide +kernel
theorem d_B_one_41 : decode b_B_one 41 = .ok (.getfield 239, 3) := by decide +kernel
theorem d_B_one_44 : decode b_B_one 44 = .ok (.iconst 1, 1) := by decide +kernel
theorem d_B_one_45 : decode b_B_one 45 = .ok (.iadd, 1) := by decide +kernel
theorem d_B_one_46 : decode b_B_one 46 = .ok (.putfield 239, 3) := by decide +kernel
theorem d_B_one_49 : decode b_B_one 49 = .ok (.aload_n 3, 1) := by decide +kernel
theorem d_B_one_50 : decode b_B_one 50 = .ok (.invokevirtual 271, 3) := by decide +kernel
theorem d_B_one_53 : decode b_B_one 53 = .ok (.tableswitch 322 0 15 #[79, 100, 120, 147, 168, 189, 194, 204, 234, 251, 194, 258, 276, 284, 299, 317], 79) := by decide +kernel
theorem d_B_one_132 : decode b_B_one 132 = .ok (.aload_n 0, 1) := by decide +kernel
theorem d_B_one_133 : decode b_B_one 133 = .ok (.invokevirtual 274, 3) := by decide +kernel
theorem d_B_one_136 : decode b_B_one 136 = .ok (.ifCond .eq 15, 3) := by decide +kernel
theorem d_B_one_139 : decode b_B_one 139 = .ok (.aload_n 0, 1) := by decide +kernel
theorem d_B_one_140 : decode b_B_one 140 = .ok (.iload_n 1, 1) := by decide +kernel
theorem d_B_one_141 : decode b_B_one 141 = .ok (.invokevirtual 277, 3) := by decide +kernel
theorem d_B_one_144 : decode b_B_one 144 = .ok (.ifCond .eq 7, 3) := by decide +kernel
theorem d_B_one_147 : decode b_B_one 147 = .ok (.iconst 1, 1) := by decide +kernel
theorem d_B_one_148 : decode b_B_one 148 = .ok (.goto 4, 3) := by decide +kernel
theorem d_B_one_151 : decode b_B_one 151 = .ok (.iconst 0, 1) := by decide +kernel
theorem d_B_one_152 : decode b_B_one 152 = .ok (.ireturn, 1) := by decide +kernel
theorem d_B_one_153 : decode b_B_one 153 = .ok (.aload_n 0, 1) := by decide +kernel
theorem d_B_one_154 : decode b_B_one 154 = .ok (.invokevirtual 274, 3) := by decide +kernel
theorem d_B_one_157 : decode b_B_one 157 = .ok (.ifCond .eq 14, 3) := by decide +kernel
theorem d_B_one_160 : decode b_B_one 160 = .ok (.aload_n 0, 1) := by decide +kernel
theorem d_B_one_161 : decode b_B_one 161 = .ok (.getfield 242, 3) := by decide +kernel
theorem d_B_one_164 : decode b_B_one 164 = .ok (.ifCond .ne 7, 3) := by decide +kernel
theorem d_B_one_167 : decode b_B_one 167 = .ok (.iconst 1, 1) := by decide +kernel
theorem d_B_one_168 : decode b_B_one 168 = .ok (.goto 4, 3) := by decide +kernel
theorem d_B_one_171 : decode b_B_one 171 = .ok (.iconst 0, 1) := by decide +kernel
theorem d_B_one_172 : decode b_B_one 172 = .ok (.ireturn, 1) := by decide +kernel
theorem d_B_one_173 : decode b_B_one 173 = .ok (.aload_n 0, 1) := by decide +kernel
theorem d_B_one_174 : decode b_B_one 174 = .ok (.invokevirtual 274, 3) := by decide +kernel
theorem d_B_one_177 : decode b_B_one 177 = .ok (.ifCond .eq 21, 3) := by decide +kernel
theorem d_B_one_180 : decode b_B_one 180 = .ok (.aload_n 0, 1) := by decide +kernel
theorem d_B_one_181 : decode b_B_one 181 = .ok (.getfield 242, 3) := by decide +kernel
theorem d_B_one_184 : decode b_B_one 184 = .ok (.aload_n 0, 1) := by decide +kernel
theorem d_B_one_185 : decode b_B_one 185 = .ok (.getfield 16, 3) := by decide +kernel
theorem d_B_one_188 : decode b_B_one 188 = .ok (.invokevirtual 61, 3) := by decide +kernel
theorem d_B_one_191 : decode b_B_one 191 = .ok (.if_icmp .ne 7, 3) := by decide +kernel
theorem d_B_one_194 : decode b_B_one 194 = .ok (.iconst 1, 1) := by decide +kernel
theorem d_B_one_195 : decode b_B_one 195 = .ok (.goto 4, 3) := by decide +kernel
theorem d_B_one_198 : decode b_B_one 198 = .ok (.iconst 0, 1) := by decide +kernel
theorem d_B_one_199 : decode b_B_one 199 = .ok (.ireturn, 1) := by decide +kernel
theorem d_B_one_200 : decode b_B_one 200 = .ok (.aload_n 0, 1) := by decide +kernel
theorem d_B_one_201 : decode b_B_one 201 = .ok (.invokevirtual 274, 3) := by decide +kernel
theorem d_B_one_204 : decode b_B_one 204 = .ok (.ifCond .eq 15, 3) := by decide +kernel
theorem d_B_one_207 : decode b_B_one 207 = .ok (.aload_n 0, 1) := by decide +kernel
theorem d_B_one_208 : decode b_B_one 208 = .ok (.iload_n 1, 1) := by decide +kernel
theorem d_B_one_209 : decode b_B_one 209 = .ok (.invokevirtual 280, 3) := by decide +kernel
theorem d_B_one_212 : decode b_B_one 212 = .ok (.ifCond .eq 7, 3) := by decide +kernel
theorem d_B_one_215 : decode b_B_one 215 = .ok (.iconst 1, 1) := by decide +kernel
theorem d_B_one_216 : decode b_B_one 216 = .ok (.goto 4, 3) := by decide +kernel
theorem d_B_one_219 : decode b_B_one 219 = .ok (.iconst 0, 1) := by decide +kernel
theorem d_B_one_220 : decode b_B_one 220 = .ok (.ireturn, 1) := by decide +kernel
theorem d_B_one_221 : decode b_B_one 221 = .ok (.aload_n 0, 1) := by decide +kernel
theorem d_B_one_222 : decode b_B_one 222 = .ok (.invokevirtual 274, 3) := by decide +kernel
theorem d_B_one_225 : decode b_B_one 225 = .ok (.ifCond .eq 15, 3) := by decide +kernel
theorem d_B_one_228 : decode b_B_one 228 = .ok (.aload_n 0, 1) := by decide +kernel
theorem d_B_one_229 : decode b_B_one 229 = .ok (.iload_n 1, 1) := by decide +kernel
theorem d_B_one_230 : decode b_B_one 230 = .ok (.invokevirtual 283, 3) := by decide +kernel
theorem d_B_one_233 : decode b_B_one 233 = .ok (.ifCond .eq 7, 3) := by decide +kernel
theorem d_B_one_236 : decode b_B_one 236 = .ok (.iconst 1, 1) := by decide +kernel
theorem d_B_one_237 : decode b_B_one 237 = .ok (.goto 4, 3) := by decide +kernel
theorem d_B_one_240 : decode b_B_one 240 = .ok (.iconst 0, 1) := by decide +kernel
theorem d_B_one_241 : decode b_B_one 241 = .ok (.ireturn, 1) := by decide +kernel
theorem d_B_one_242 : decode b_B_one 242 = .ok (.aload_n 0, 1) := by decide +kernel
theorem d_B_one_243 : decode b_B_one 243 = .ok (.invokevirtual 274, 3) := by decide +kernel
theorem d_B_one_246 : decode b_B_one 246 = .ok (.ireturn, 1) := by decide +kernel
theorem d_B_one_247 : decode b_B_one 247 = .ok (.aload_n 0, 1) := by decide +kernel
theorem d_B_one_248 : decode b_B_one 248 = .ok (.aload_n 0, 1) := by decide +kernel
theorem d_B_one_249 : decode b_B_one 249 = .ok (.getfield 242, 3) := by decide +kernel
theorem d_B_one_252 : decode b_B_one 252 = .ok (.invokevirtual 286, 3) := by decide +kernel
theorem d_B_one_255 : decode b_B_one 255 = .ok (.iconst 1, 1) := by decide +kernel
theorem d_B_one_256 : decode b_B_one 256 = .ok (.ireturn, 1) := by decide +kernel
theorem d_B_one_257 : decode b_B_one 257 = .ok (.aload_n 0, 1) := by decide +kernel
theorem d_B_one_258 : decode b_B_one 258 = .ok (.invokevirtual 289, 3) := by decide +kernel
theorem d_B_one_261 : decode b_B_one 261 = .ok (.istore 4, 2) := by decide +kernel
theorem d_B_one_263 : decode b_B_one 263 = .ok (.aload_n 0, 1) := by decide +kernel
theorem d_B_one_264 : decode b_B_one 264 = .ok (.iconst 2, 1) := by decide +kernel
theorem d_B_one_265 : decode b_B_one 265 = .ok (.iload_n 1, 1) := by decide +kernel
theorem d_B_one_266 : decode b_B_one 266 = .ok (.imul, 1) := by decide +kernel
theorem d_B_one_267 : decode b_B_one 267 = .ok (.iload 4, 2) := by decide +kernel
theorem d_B_one_269 : decode b_B_one 269 = .ok (.invokevirtual 292, 3) := by decide +kernel
theorem d_B_one_272 : decode b_B_one 272 = .ok (.aload_n 0, 1) := by decide +kernel
theorem d_B_one_273 : decode b_B_one 273 = .ok (.iconst 2, 1) := by decide +kernel
theorem d_B_one_274 : decode b_B_one 274 = .ok (.iload_n 1, 1) := by decide +kernel
theorem d_B_one_275 : decode b_B_one 275 = .ok (.imul, 1) := by decide +kernel
theorem d_B_one_276 : decode b_B_one 276 = .ok (.iconst 1, 1) := by decide +kernel
theorem d_B_one_277 : decode b_B_one 277 = .ok (.iadd, 1) := by decide +kernel
theorem d_B_one_278 : decode b_B_one 278 = .ok (.aload_n 0, 1) := by decide +kernel
theorem d_B_one_279 : decode b_B_one 279 = .ok (.getfield 242, 3) := by decide +kernel
theorem d_B_one_282 : decode b_B_one 282 = .ok (.invokevirtual 292, 3) := by decide +kernel
theorem d_B_one_285 : decode b_B_one 285 = .ok (.iconst 1, 1) := by decide +kernel
theorem d_B_one_286 : decode b_B_one 286 = .ok (.ireturn, 1) := by decide +kernel
theorem d_B_one_287 : decode b_B_one 287 = .ok (.aload_n 0, 1) := by decide +kernel
theorem d_B_one_288 : decode b_B_one 288 = .ok (.iconst 0, 1) := by decide +kernel
theorem d_B_one_289 : decode b_B_one 289 = .ok (.iload_n 2, 1) := by decide +kernel
theorem d_B_one_290 : decode b_B_one 290 = .ok (.aload_n 0, 1) := by decide +kernel
theorem d_B_one_291 : decode b_B_one 291 = .ok (.getfield 242, 3) := by decide +kernel
theorem d_B_one_294 : decode b_B_one 294 = .ok (.invokevirtual 235, 3) := by decide +kernel
theorem d_B_one_297 : decode b_B_one 297 = .ok (.aload_n 0, 1) := by decide +kernel
theorem d_B_one_298 : decode b_B_one 298 = .ok (.iload_n 1, 1) := by decide +kernel
theorem d_B_one_299 : decode b_B_one 299 = .ok (.putfield 239, 3) := by decide +kernel
theorem d_B_one_302 : decode b_B_one 302 = .ok (.iconst 1, 1) := by decide +kernel
theorem d_B_one_303 : decode b_B_one 303 = .ok (.ireturn, 1) := by decide +kernel
theorem d_B_one_304 : decode b_B_one 304 = .ok (.aload_n 0, 1) := by decide +kernel
theorem d_B_one_305 : decode b_B_one 305 = .ok (.iload_n 1, 1) := by decide +kernel
theorem d_B_one_306 : decode b_B_one 306 = .ok (.putfield 239, 3) := by decide +kernel
theorem d_B_one_309 : decode b_B_one 309 = .ok (.iconst 1, 1) := by decide +kernel
theorem d_B_one_310 : decode b_B_one 310 = .ok (.ireturn, 1) := by decide +kernel
theorem d_B_one_311 : decode b_B_one 311 = .ok (.aload_n 0, 1) := by decide +kernel
theorem d_B_one_312 : decode b_B_one 312 = .ok (.invokevirtual 289, 3) := by decide +kernel
theorem d_B_one_315 : decode b_B_one 315 = .ok (.aload_n 0, 1) := by decide +kernel
theorem d_B_one_316 : decode b_B_one 316 = .ok (.getfield 242, 3) := by decide +kernel
theorem d_B_one_319 : decode b_B_one 319 = .ok (.if_icmp .eq 8, 3) := by decide +kernel
theorem d_B_one_322 : decode b_B_one 322 = .ok (.aload_n 0, 1) := by decide +kernel
theorem d_B_one_323 : decode b_B_one 323 = .ok (.iload_n 1, 1) := by decide +kernel
theorem d_B_one_324 : decode b_B_one 324 = .ok (.putfield 239, 3) := by decide +kernel
theorem d_B_one_327 : decode b_B_one 327 = .ok (.iconst 1, 1) := by decide +kernel
theorem d_B_one_328 : decode b_B_one 328 = .ok (.ireturn, 1) := by decide +kernel
theorem d_B_one_329 : decode b_B_one 329 = .ok (.aload_n 0, 1) := by decide +kernel
theorem d_B_one_330 : decode b_B_one 330 = .ok (.iload_n 1, 1) := by decide +kernel
theorem d_B_one_331 : decode b_B_one 331 = .ok (.iload_n 2, 1) := by decide +kernel
theorem d_B_one_332 : decode b_B_one 332 = .ok (.invokevirtual 296, 3) := by decide +kernel
theorem d_B_one_335 : decode b_B_one 335 = .ok (.iconst 1, 1) := by decide +kernel
theorem d_B_one_336 : decode b_B_one 336 = .ok (.ireturn, 1) := by decide +kernel
theorem d_B_one_337 : decode b_B_one 337 = .ok (.aload_n 0, 1) := by decide +kernel
theorem d_B_one_338 : decode b_B_one 338 = .ok (.invokevirtual 289, 3) := by decide +kernel
theorem d_B_one_341 : decode b_B_one 341 = .ok (.pop, 1) := by decide +kernel
theorem d_B_one_342 : decode b_B_one 342 = .ok (.aload_n 0, 1) := by decide +kernel
theorem d_B_one_343 : decode b_B_one 343 = .ok (.aload_n 0, 1) := by decide +kernel
theorem d_B_one_344 : decode b_B_one 344 = .ok (.invokevirtual 289, 3) := by decide +kernel
theorem d_B_one_347 : decode b_B_one 347 = .ok (.invokevirtual 299, 3) := by decide +kernel
theorem d_B_one_350 : decode b_B_one 350 = .ok (.iconst 1, 1) := by decide +kernel
theorem d_B_one_351 : decode b_B_one 351 = .ok (.ireturn, 1) := by decide +kernel
theorem d_B_one_352 : decode b_B_one 352 = .ok (.aload_n 0, 1) := by decide +kernel
theorem d_B_one_353 : decode b_B_one 353 = .ok (.aload_n 0, 1) := by decide +kernel
theorem d_B_one_354 : decode b_B_one 354 = .ok (.invokevirtual 289, 3) := by decide +kernel
theorem d_B_one_357 : decode b_B_one 357 = .ok (.putfield 242, 3) := by decide +kernel
theorem d_B_one_360 : decode b_B_one 360 = .ok (.aload_n 0, 1) := by decide +kernel
theorem d_B_one_361 : decode b_B_one 361 = .ok (.aload_n 0, 1) := by decide +kernel
theorem d_B_one_362 : decode b_B_one 362 = .ok (.invokevirtual 289, 3) := by decide +kernel
theorem d_B_one_365 : decode b_B_one 365 = .ok (.invokevirtual 299, 3) := by decide +kernel
theorem d_B_one_368 : decode b_B_one 368 = .ok (.iconst 1, 1) := by decide +kernel
theorem d_B_one_369 : decode b_B_one 369 = .ok (.ireturn, 1) := by decide +kernel
theorem d_B_one_370 : decode b_B_one 370 = .ok (.aload_n 0, 1) := by decide +kernel
theorem d_B_one_371 : decode b_B_one 371 = .ok (.invokevirtual 302, 3) := by decide +kernel
theorem d_B_one_374 : decode b_B_one 374 = .ok (.ireturn, 1) := by decide +kernel
theorem d_B_one_375 : decode b_B_one 375 = .ok (.aload_n 0, 1) := by decide +kernel
theorem d_B_one_376 : decode b_B_one 376 = .ok (.invokevirtual 305, 3) := by decide +kernel
theorem d_B_one_379 : decode b_B_one 379 = .ok (.iconst 1, 1) := by decide +kernel
theorem d_B_one_380 : decode b_B_one 380 = .ok (.ireturn, 1) := by decide +kernel
def B_B_one_247 (Qc : Int32 → PS → Prop) (bc bs : Nat)  (k n0 : Nat)  (u : PS) : Prop := (∃ kc_252 nc_252 : Nat, k + kc_252 ≤ bc ∧ n0 + nc_252 ≤ bs ∧ P_B_push kc_252 nc_252 (p_place u) u (fun u_252 => Qc (1 : Int32) u_252))
def P_B_one (bc bs : Nat)  (u : PS) (Qc : Int32 → PS → Prop) : Prop := (vp_in (p_pc u) (p_xN u) ∧ (∀ x1_12 : Int32, x1_12 = (p_xF u (p_pc u).toNatClampNeg) → (vp_in (p_pc u) (p_yN u) ∧ (∀ x2_25 : Int32, x2_25 = (p_yF u (p_pc u).toNatClampNeg) → (vp_in (p_pc u) (p_opN u) ∧ ∃ k_37 : Nat, k_37 < 17 ∧ p_opF u (p_pc u).toNatClampNeg = some k_37 ∧ (∀ y_53 : Int32, y_53 = (ordL.getD k_37 0) → ((y_53 = (0 : Int32) → P_B_step  (ps_pc u ((p_pc u) + (1 : Int32))) (fun r_133 u_133 => ((r_133 = (0 : Int32) → Qc (0 : Int32) u_133) ∧ (¬ r_133 = (0 : Int32) → P_B_letters x1_12 u_133 (fun r_141 u_141 => ((r_141 = (0 : Int32) → Qc (0 : Int32) u_141) ∧ (¬ r_141 = (0 : Int32) → Qc (1 : Int32) u_141))))))) ∧ (y_53 = (1 : Int32) → P_B_step  (ps_pc u ((p_pc u) + (1 : Int32))) (fun r_154 u_154 => ((r_154 = (0 : Int32) → Qc (0 : Int32) u_154) ∧ (¬ r_154 = (0 : Int32) → (((p_place u_154) = (0 : Int32) → Qc (1 : Int32) u_154) ∧ (¬ (p_place u_154) = (0 : Int32) → Qc (0 : Int32) u_154)))))) ∧ (y_53 = (2 : Int32) → P_B_step  (ps_pc u ((p_pc u) + (1 : Int32))) (fun r_174 u_174 => ((r_174 = (0 : Int32) → Qc (0 : Int32) u_174) ∧ (¬ r_174 = (0 : Int32) → P_SB_length  (p_su u_174) (fun r_188 z_188 => (((p_place u_174) = r_188 → Qc (1 : Int32) (ps_su u_174 z_188)) ∧ (¬ (p_place u_174) = r_188 → Qc (0 : Int32) (ps_su u_174 z_188)))))))) ∧ (y_53 = (3 : Int32) → P_B_step  (ps_pc u ((p_pc u) + (1 : Int32))) (fun r_201 u_201 => ((r_201 = (0 : Int32) → Qc (0 : Int32) u_201) ∧ (¬ r_201 = (0 : Int32) → P_B_reference x1_12 u_201 (fun r_209 u_209 => ((r_209 = (0 : Int32) → Qc (0 : Int32) u_209) ∧ (¬ r_209 = (0 : Int32) → Qc (1 : Int32) u_209))))))) ∧ (y_53 = (4 : Int32) → P_B_step  (ps_pc u ((p_pc u) + (1 : Int32))) (fun r_222 u_222 => ((r_222 = (0 : Int32) → Qc (0 : Int32) u_222) ∧ (¬ r_222 = (0 : Int32) → (∃ kc_230 nc_230 : Nat, 0 + kc_230 ≤ bc ∧ 0 + nc_230 ≤ bs ∧ P_B_call kc_230 nc_230 x1_12 u_222 (fun r_230 u_230 => ((r_230 = (0 : Int32) → Qc (0 : Int32) u_230) ∧ (¬ r_230 = (0 : Int32) → Qc (1 : Int32) u_230)))))))) ∧ (y_53 = (5 : Int32) → P_B_step  (ps_pc u ((p_pc u) + (1 : Int32))) (fun r_243 u_243 => (isB r_243 ∧ Qc r_243 u_243))) ∧ (y_53 = (6 : Int32) → B_B_one_247 Qc bc bs  0 0  (ps_pc u ((p_pc u) + (1 : Int32)))) ∧ (y_53 = (7 : Int32) → (∃ kc_258 nc_258 : Nat, 0 + kc_258 ≤ bc ∧ 0 + nc_258 ≤ bs ∧ P_B_pop kc_258 nc_258  (ps_pc u ((p_pc u) + (1 : Int32))) (fun r_258 u_258 => (∃ kc_269 nc_269 : Nat, (0 + kc_258) + kc_269 ≤ bc ∧ (0 + nc_258) + nc_269 ≤ bs ∧ P_B_capture kc_269 nc_269 ((2 : Int32) * x1_12) r_258 u_258 (fun u_269 => (∃ kc_282 nc_282 : Nat, ((0 + kc_258) + kc_269) + kc_282 ≤ bc ∧ ((0 + nc_258) + nc_269) + nc_282 ≤ bs ∧ P_B_capture kc_282 nc_282 (((2 : Int32) * x1_12) + (1 : Int32)) (p_place u_269) u_269 (fun u_282 => Qc (1 : Int32) u_282))))))) ∧ (y_53 = (8 : Int32) → (∃ kc_294 nc_294 : Nat, 0 + kc_294 ≤ bc ∧ 0 + nc_294 ≤ bs ∧ P_B_log kc_294 nc_294 (0 : Int32) x2_25 (p_place (ps_pc u ((p_pc u) + (1 : Int32)))) (ps_pc u ((p_pc u) + (1 : Int32))) (fun u_294 => Qc (1 : Int32) (ps_pc u_294 x1_12)))) ∧ (y_53 = (9 : Int32) → Qc (1 : Int32) (ps_pc (ps_pc u ((p_pc u) + (1 : Int32))) x1_12)) ∧ (y_53 = (10 : Int32) → B_B_one_247 Qc bc bs  0 0  (ps_pc u ((p_pc u) + (1 : Int32)))) ∧ (y_53 = (11 : Int32) → (∃ kc_312 nc_312 : Nat, 0 + kc_312 ≤ bc ∧ 0 + nc_312 ≤ bs ∧ P_B_pop kc_312 nc_312  (ps_pc u ((p_pc u) + (1 : Int32))) (fun r_312 u_312 => ((r_312 = (p_place u_312) → Qc (1 : Int32) u_312) ∧ (¬ r_312 = (p_place u_312) → Qc (1 : Int32) (ps_pc u_312 x1_12)))))) ∧ (y_53 = (12 : Int32) → (∃ kc_332 nc_332 : Nat, 0 + kc_332 ≤ bc ∧ 0 + nc_332 ≤ bs ∧ P_B_fence kc_332 nc_332 x1_12 x2_25 (ps_pc u ((p_pc u) + (1 : Int32))) (fun u_332 => Qc (1 : Int32) u_332))) ∧ (y_53 = (13 : Int32) → (∃ kc_338 nc_338 : Nat, 0 + kc_338 ≤ bc ∧ 0 + nc_338 ≤ bs ∧ P_B_pop kc_338 nc_338  (ps_pc u ((p_pc u) + (1 : Int32))) (fun r_338 u_338 => (∃ kc_344 nc_344 : Nat, (0 + kc_338) + kc_344 ≤ bc ∧ (0 + nc_338) + nc_344 ≤ bs ∧ P_B_pop kc_344 nc_344  u_338 (fun r_344 u_344 => P_B_forget r_344 u_344 (fun u_347 => Qc (1 : Int32) u_347)))))) ∧ (y_53 = (14 : Int32) → (∃ kc_354 nc_354 : Nat, 0 + kc_354 ≤ bc ∧ 0 + nc_354 ≤ bs ∧ P_B_pop kc_354 nc_354  (ps_pc u ((p_pc u) + (1 : Int32))) (fun r_354 u_354 => (∃ kc_362 nc_362 : Nat, (0 + kc_354) + kc_362 ≤ bc ∧ (0 + nc_354) + nc_362 ≤ bs ∧ P_B_pop kc_362 nc_362  (ps_place u_354 r_354) (fun r_362 u_362 => P_B_forget r_362 u_362 (fun u_365 => Qc (1 : Int32) u_365)))))) ∧ (y_53 = (15 : Int32) → (∃ kc_371 nc_371 : Nat, 0 + kc_371 ≤ bc ∧ 0 + nc_371 ≤ bs ∧ P_B_refuse kc_371 nc_371  (ps_pc u ((p_pc u) + (1 : Int32))) (fun r_371 u_371 => (isB r_371 ∧ Qc r_371 u_371)))) ∧ (¬ y_53 = (0 : Int32) → ¬ y_53 = (1 : Int32) → ¬ y_53 = (2 : Int32) → ¬ y_53 = (3 : Int32) → ¬ y_53 = (4 : Int32) → ¬ y_53 = (5 : Int32) → ¬ y_53 = (6 : Int32) → ¬ y_53 = (7 : Int32) → ¬ y_53 = (8 : Int32) → ¬ y_53 = (9 : Int32) → ¬ y_53 = (10 : Int32) → ¬ y_53 = (11 : Int32) → ¬ y_53 = (12 : Int32) → ¬ y_53 = (13 : Int32) → ¬ y_53 = (14 : Int32) → ¬ y_53 = (15 : Int32) → (∃ kc_376 nc_376 : Nat, 0 + kc_376 ≤ bc ∧ 0 + nc_376 ≤ bs ∧ P_B_comeBack kc_376 nc_376  (ps_pc u ((p_pc u) + (1 : Int32))) (fun u_376 => Qc (1 : Int32) u_376))))))))))
section PW
variable {p : Program} {l : Launch} {e : Env} {s : State} {m : MethodId} {args : Array Value} {below : List Frame} {meth : Method} {c : Code} {x : GX} {g : GE} {ex : va_W} {a : Nat → Nat} {A : Nat → Prop} {o : Nat}
set_option maxHeartbeats 4000000 in
set_option maxRecDepth 20000 in
theorem wB_B_one_247 (S : CallFix p m c b_B_one 5 s args lw_tg "PatternBench") (hr : meth.sig.returnType = some .boolean) (hlk : meth.locks = false) (hK : GK x s) (hE : EN g A s s.heap) (hA : ∀ q : Nat, s.heap.size ≤ q → A q) {Qc : Int32 → PS → Prop} {bc bs : Nat}  : ∀ (k n0 : Nat) (hk : k ≤ bc) (hn : n0 ≤ bs)  (u : PS) (a : Nat → Nat) (ls : Array Slot) (H : Heap) (locs : List Loc), lv_has ls 5 [(0, .ref o)] → wd x A s.heap ((pcl x g o) a u ++ ex) H locs → B_B_one_247 Qc bc bs  k n0  u → W p l e (rmN 7 bc bs) s m args below meth c H locs k n0 (MQ below (QeI x (pcl x g o) ex A Qc) args s bc bs A) (F0 m 247 ls []) := by
  intro k n0 hk hn  u a ls H locs hl hw h
  refine lv_aload_n S.1 S.2.1 d_B_one_247 rfl (lv_at hl 0 rfl) ?_
  refine lv_aload_n S.1 S.2.1 d_B_one_248 rfl (lv_at hl 0 rfl) ?_
  refine pg_place S hK hw d_B_one_249 ?_
  obtain ⟨kc_252, nc_252, hk_252, hn_252, h⟩ := h
  refine w_cvE hA hw (w_rvE (rest := []) S hK hE hA hw (c_B_push l kc_252 nc_252 (p_place u) u _ _ h) (ci := 1) (q0 := 0) rfl rfl (w_cb (fr := 0) (lv := 0) S.2.2.2.2 k_802 k_799 k_1 yd_B_push rfl rfl ⟨Nat.le_of_ble_eq_true rfl, Nat.le_of_ble_eq_true rfl⟩) k_801 s_25 rfl hl.1 rfl (Nat.le_of_ble_eq_true rfl) d_B_one_252 ⟨hk_252, hn_252⟩) (fun u_252 a_252 H locs h hw => ?_)
  refine lv_iconst (v := 1) S.1 S.2.1 d_B_one_255 (by decide) ?_
  refine W.widen (k := bc) (n := bs) hk_252 hn_252 ?_
  exact w_zretE S hr hlk isB1 hw h d_B_one_256
set_option maxHeartbeats 4000000 in
set_option maxRecDepth 20000 in
theorem c_B_one {x : GX} {g : GE} {o : Nat} {ex : va_W} {a : Nat → Nat} (l : Launch) (bc bs : Nat)  (u : PS) (sz : Nat) (Qc : Int32 → PS → Prop) (h : P_B_one bc bs  u Qc) : Met l y_B_one (wM y_B_one b_B_one 5 (some .boolean)) (rmN 7 bc bs) (PreE x g (pcl x g o) ex [.ref o] a u sz) (QeI x (pcl x g o) ex (va_A ((pcl x g o) a u ++ ex) sz) Qc) bc bs (va_A ((pcl x g o) a u ++ ex) sz) := by
  refine w_enterE (by decide +kernel) (Nat.le_of_ble_eq_true rfl) (fun p e s m args below meth c S hr hlk hnm hK hE hA hw ls hl => ?_)
  have hl : lv_has ls 5 [(0, .ref o)] := hl
  refine lv_aload_n S.1 S.2.1 d_B_one_0 rfl (lv_at hl 0 rfl) ?_
  refine pg_ready S hK hw d_B_one_1 ?_
  refine pgr_x S hK hw d_B_one_4 ?_
  refine lv_aload_n S.1 S.2.1 d_B_one_7 rfl (lv_at hl 0 rfl) ?_
  refine pg_pc S hK hw d_B_one_8 ?_
  have hg := h.1
  have h := h.2
  refine pl_xF S hK hw hg d_B_one_11 ?_
  refine lv_topi (fun x1_12 ex1_12 => ?_)
  have h := h x1_12 ex1_12
  refine lv_istore_n (lv' := [(1, .int x1_12), (0, .ref o)]) S.1 S.2.1 d_B_one_12 rfl hl (by decide) rfl (fun ls hl => ?_)
  refine lv_aload_n S.1 S.2.1 d_B_one_13 rfl (lv_at hl 1 rfl) ?_
  refine pg_ready S hK hw d_B_one_14 ?_
  refine pgr_y S hK hw d_B_one_17 ?_
  refine lv_aload_n S.1 S.2.1 d_B_one_20 rfl (lv_at hl 1 rfl) ?_
  refine pg_pc S hK hw d_B_one_21 ?_
  have hg := h.1
  have h := h.2
  refine pl_yF S hK hw hg d_B_one_24 ?_
  refine lv_topi (fun x2_25 ex2_25 => ?_)
  have h := h x2_25 ex2_25
  refine lv_istore_n (lv' := [(2, .int x2_25), (1, .int x1_12), (0, .ref o)]) S.1 S.2.1 d_B_one_25 rfl hl (by decide) rfl (fun ls hl => ?_)
  refine lv_aload_n S.1 S.2.1 d_B_one_26 rfl (lv_at hl 2 rfl) ?_
  refine pg_ready S hK hw d_B_one_27 ?_
  refine pgr_op S hK hw d_B_one_30 ?_
  refine lv_aload_n S.1 S.2.1 d_B_one_33 rfl (lv_at hl 2 rfl) ?_
  refine pg_pc S hK hw d_B_one_34 ?_
  obtain ⟨hg, k_37, hk_37, he_37, h⟩ := h
  refine pl_opF S hK hw hg he_37 d_B_one_37 ?_
  refine lv_astore_n (lv' := [(3, .ref (g.1 k_37)), (2, .int x2_25), (1, .int x1_12), (0, .ref o)]) S.1 S.2.1 d_B_one_38 rfl hl (by decide) rfl (fun ls hl => ?_)
  refine lv_aload_n S.1 S.2.1 d_B_one_39 rfl (lv_at hl 3 rfl) ?_
  refine lv_dup S.1 S.2.1 d_B_one_40 rfl ?_
  refine pg_pc S hK hw d_B_one_41 ?_
  refine lv_iconst (v := 1) S.1 S.2.1 d_B_one_44 (by decide) ?_
  refine lv_iadd S.1 S.2.1 d_B_one_45 ?_
  refine pp_pc S hK hw d_B_one_46 (fun H locs hw => ?_)
  refine lv_aload_n S.1 S.2.1 d_B_one_49 rfl (lv_at hl 0 rfl) ?_
  refine p_ord (rest := []) (R := rmN 7 bc bs) (cells := 0) (slots := 0) S hK hE hA hw hk_37 (Nat.le_of_ble_eq_true rfl) (Nat.le_of_ble_eq_true rfl) hl.1 ⟨(Nat.zero_le _), (Nat.zero_le _)⟩ (Nat.le_of_ble_eq_true rfl) d_B_one_50 (fun H locs hw => ?_)
  refine lv_topi (fun y_53 ey_53 => ?_)
  have h := h y_53 ey_53
  by_cases q_53_0 : y_53 = (0 : Int32)
  · have h := h.1 q_53_0
    refine lv_tableIn (tgt := 132) (off := 79) S.1 S.2.1 d_B_one_53 (by rw [q_53_0]; decide) (by rw [q_53_0]; decide) (by rw [q_53_0]; rfl) (by decide) ?_
    refine lv_aload_n S.1 S.2.1 d_B_one_132 rfl (lv_at hl 3 rfl) ?_
    refine w_ciF hA hw (w_rvE (rest := []) S hK hE hA hw (c_B_step l  (ps_pc u ((p_pc u) + (1 : Int32))) _ _ h) (ci := 1) (q0 := 0) rfl rfl (w_cb (fr := 0) (lv := 0) S.2.2.2.2 k_777 k_774 k_1 yd_B_step rfl rfl ⟨Nat.le_of_ble_eq_true rfl, Nat.le_of_ble_eq_true rfl⟩) k_776 s_19 rfl hl.1 rfl (Nat.le_of_ble_eq_true rfl) d_B_one_133 ⟨(Nat.zero_le _), (Nat.zero_le _)⟩) (fun r_133 u_133 H locs h hw => ?_)
    refine lv_if_eq (tgt := 151) S.1 S.2.1 d_B_one_136 (by decide) (fun q_136 => ?_) (fun q_136 => ?_)
    · have h := h.1 q_136
      refine lv_iconst (v := 0) S.1 S.2.1 d_B_one_151 (by decide) ?_
      refine W.widen (k := bc) (n := bs) (Nat.zero_le _) (Nat.zero_le _) ?_
      exact w_zretE S hr hlk isB0 hw h d_B_one_152
    · have h := h.2 q_136
      refine lv_aload_n S.1 S.2.1 d_B_one_139 rfl (lv_at hl 3 rfl) ?_
      refine lv_iload_n S.1 S.2.1 d_B_one_140 rfl (lv_at hl 2 rfl) ?_
      refine w_ciF hA hw (w_rvE (rest := []) S hK hE hA hw (c_B_letters l x1_12 u_133 _ _ h) (ci := 1) (q0 := 0) rfl rfl (w_cb (fr := 0) (lv := 0) S.2.2.2.2 k_781 k_778 k_1 yd_B_letters rfl rfl ⟨Nat.le_of_ble_eq_true rfl, Nat.le_of_ble_eq_true rfl⟩) k_780 s_20 rfl hl.1 rfl (Nat.le_of_ble_eq_true rfl) d_B_one_141 ⟨(Nat.zero_le _), (Nat.zero_le _)⟩) (fun r_141 u_141 H locs h hw => ?_)
      refine lv_if_eq (tgt := 151) S.1 S.2.1 d_B_one_144 (by decide) (fun q_144 => ?_) (fun q_144 => ?_)
      · have h := h.1 q_144
        refine lv_iconst (v := 0) S.1 S.2.1 d_B_one_151 (by decide) ?_
        refine W.widen (k := bc) (n := bs) (Nat.zero_le _) (Nat.zero_le _) ?_
        exact w_zretE S hr hlk isB0 hw h d_B_one_152
      · have h := h.2 q_144
        refine lv_iconst (v := 1) S.1 S.2.1 d_B_one_147 (by decide) ?_
        refine lv_goto (tgt := 152) S.1 S.2.1 d_B_one_148 (by decide) ?_
        refine W.widen (k := bc) (n := bs) (Nat.zero_le _) (Nat.zero_le _) ?_
        exact w_zretE S hr hlk isB1 hw h d_B_one_152
  by_cases q_53_1 : y_53 = (1 : Int32)
  · have h := h.2.1 q_53_1
    refine lv_tableIn (tgt := 153) (off := 100) S.1 S.2.1 d_B_one_53 (by rw [q_53_1]; decide) (by rw [q_53_1]; decide) (by rw [q_53_1]; rfl) (by decide) ?_
    refine lv_aload_n S.1 S.2.1 d_B_one_153 rfl (lv_at hl 3 rfl) ?_
    refine w_ciF hA hw (w_rvE (rest := []) S hK hE hA hw (c_B_step l  (ps_pc u ((p_pc u) + (1 : Int32))) _ _ h) (ci := 1) (q0 := 0) rfl rfl (w_cb (fr := 0) (lv := 0) S.2.2.2.2 k_777 k_774 k_1 yd_B_step rfl rfl ⟨Nat.le_of_ble_eq_true rfl, Nat.le_of_ble_eq_true rfl⟩) k_776 s_19 rfl hl.1 rfl (Nat.le_of_ble_eq_true rfl) d_B_one_154 ⟨(Nat.zero_le _), (Nat.zero_le _)⟩) (fun r_154 u_154 H locs h hw => ?_)
    refine lv_if_eq (tgt := 171) S.1 S.2.1 d_B_one_157 (by decide) (fun q_157 => ?_) (fun q_157 => ?_)
    · have h := h.1 q_157
      refine lv_iconst (v := 0) S.1 S.2.1 d_B_one_171 (by decide) ?_
      refine W.widen (k := bc) (n := bs) (Nat.zero_le _) (Nat.zero_le _) ?_
      exact w_zretE S hr hlk isB0 hw h d_B_one_172
    · have h := h.2 q_157
      refine lv_aload_n S.1 S.2.1 d_B_one_160 rfl (lv_at hl 3 rfl) ?_
      refine pg_place S hK hw d_B_one_161 ?_
      refine lv_if_ne (tgt := 171) S.1 S.2.1 d_B_one_164 (by decide) (fun q_164 => ?_) (fun q_164 => ?_)
      · have h := h.2 q_164
        refine lv_iconst (v := 0) S.1 S.2.1 d_B_one_171 (by decide) ?_
        refine W.widen (k := bc) (n := bs) (Nat.zero_le _) (Nat.zero_le _) ?_
        exact w_zretE S hr hlk isB0 hw h d_B_one_172
      · have h := h.1 q_164
        refine lv_iconst (v := 1) S.1 S.2.1 d_B_one_167 (by decide) ?_
        refine lv_goto (tgt := 172) S.1 S.2.1 d_B_one_168 (by decide) ?_
        refine W.widen (k := bc) (n := bs) (Nat.zero_le _) (Nat.zero_le _) ?_
        exact w_zretE S hr hlk isB1 hw h d_B_one_172
  by_cases q_53_2 : y_53 = (2 : Int32)
  · have h := h.2.2.1 q_53_2
    refine lv_tableIn (tgt := 173) (off := 120) S.1 S.2.1 d_B_one_53 (by rw [q_53_2]; decide) (by rw [q_53_2]; decide) (by rw [q_53_2]; rfl) (by decide) ?_
    refine lv_aload_n S.1 S.2.1 d_B_one_173 rfl (lv_at hl 3 rfl) ?_
    refine w_ciF hA hw (w_rvE (rest := []) S hK hE hA hw (c_B_step l  (ps_pc u ((p_pc u) + (1 : Int32))) _ _ h) (ci := 1) (q0 := 0) rfl rfl (w_cb (fr := 0) (lv := 0) S.2.2.2.2 k_777 k_774 k_1 yd_B_step rfl rfl ⟨Nat.le_of_ble_eq_true rfl, Nat.le_of_ble_eq_true rfl⟩) k_776 s_19 rfl hl.1 rfl (Nat.le_of_ble_eq_true rfl) d_B_one_174 ⟨(Nat.zero_le _), (Nat.zero_le _)⟩) (fun r_174 u_174 H locs h hw => ?_)
    refine lv_if_eq (tgt := 198) S.1 S.2.1 d_B_one_177 (by decide) (fun q_177 => ?_) (fun q_177 => ?_)
    · have h := h.1 q_177
      refine lv_iconst (v := 0) S.1 S.2.1 d_B_one_198 (by decide) ?_
      refine W.widen (k := bc) (n := bs) (Nat.zero_le _) (Nat.zero_le _) ?_
      exact w_zretE S hr hlk isB0 hw h d_B_one_199
    · have h := h.2 q_177
      refine lv_aload_n S.1 S.2.1 d_B_one_180 rfl (lv_at hl 3 rfl) ?_
      refine pg_place S hK hw d_B_one_181 ?_
      refine lv_aload_n S.1 S.2.1 d_B_one_184 rfl (lv_at hl 3 rfl) ?_
      refine pg_subject S hK hw d_B_one_185 ?_
      have hw2 := pb_su_out hw
      refine w_ciF hA hw2 (w_rvE (rest := [.int (p_place u_174)]) S hK hE hA hw2 (c_SB_length l  (p_su u_174) _ _ h) (ci := 3) (q0 := 0) rfl rfl (w_cb (fr := 0) (lv := 0) S.2.2.2.2 k_278 k_275 k_3 yd_SB_length rfl rfl ⟨Nat.le_of_ble_eq_true rfl, Nat.le_of_ble_eq_true rfl⟩) k_276 k_277 rfl hl.1 rfl (Nat.le_of_ble_eq_true rfl) d_B_one_188 ⟨(Nat.zero_le _), (Nat.zero_le _)⟩) (fun r_188 z_188 H locs h hw => ?_)
      have hw : wd x _ _ ((pcl x g o) a (ps_su u_174 z_188) ++ ex) H locs := pb_su_inF hw
      refine lv_icmp_ne (tgt := 198) S.1 S.2.1 d_B_one_191 (by decide) (fun q_191 => ?_) (fun q_191 => ?_)
      · have h := h.2 q_191
        refine lv_iconst (v := 0) S.1 S.2.1 d_B_one_198 (by decide) ?_
        refine W.widen (k := bc) (n := bs) (Nat.zero_le _) (Nat.zero_le _) ?_
        exact w_zretE S hr hlk isB0 hw h d_B_one_199
      · have h := h.1 q_191
        refine lv_iconst (v := 1) S.1 S.2.1 d_B_one_194 (by decide) ?_
        refine lv_goto (tgt := 199) S.1 S.2.1 d_B_one_195 (by decide) ?_
        refine W.widen (k := bc) (n := bs) (Nat.zero_le _) (Nat.zero_le _) ?_
        exact w_zretE S hr hlk isB1 hw h d_B_one_199
  by_cases q_53_3 : y_53 = (3 : Int32)
  · have h := h.2.2.2.1 q_53_3
    refine lv_tableIn (tgt := 200) (off := 147) S.1 S.2.1 d_B_one_53 (by rw [q_53_3]; decide) (by rw [q_53_3]; decide) (by rw [q_53_3]; rfl) (by decide) ?_
    refine lv_aload_n S.1 S.2.1 d_B_one_200 rfl (lv_at hl 3 rfl) ?_
    refine w_ciF hA hw (w_rvE (rest := []) S hK hE hA hw (c_B_step l  (ps_pc u ((p_pc u) + (1 : Int32))) _ _ h) (ci := 1) (q0 := 0) rfl rfl (w_cb (fr := 0) (lv := 0) S.2.2.2.2 k_777 k_774 k_1 yd_B_step rfl rfl ⟨Nat.le_of_ble_eq_true rfl, Nat.le_of_ble_eq_true rfl⟩) k_776 s_19 rfl hl.1 rfl (Nat.le_of_ble_eq_true rfl) d_B_one_201 ⟨(Nat.zero_le _), (Nat.zero_le _)⟩) (fun r_201 u_201 H locs h hw => ?_)
    refine lv_if_eq (tgt := 219) S.1 S.2.1 d_B_one_204 (by decide) (fun q_204 => ?_) (fun q_204 => ?_)
    · have h := h.1 q_204
      refine lv_iconst (v := 0) S.1 S.2.1 d_B_one_219 (by decide) ?_
      refine W.widen (k := bc) (n := bs) (Nat.zero_le _) (Nat.zero_le _) ?_
      exact w_zretE S hr hlk isB0 hw h d_B_one_220
    · have h := h.2 q_204
      refine lv_aload_n S.1 S.2.1 d_B_one_207 rfl (lv_at hl 3 rfl) ?_
      refine lv_iload_n S.1 S.2.1 d_B_one_208 rfl (lv_at hl 2 rfl) ?_
      refine w_ciF hA hw (w_rvE (rest := []) S hK hE hA hw (c_B_reference l x1_12 u_201 _ _ h) (ci := 1) (q0 := 0) rfl rfl (w_cb (fr := 0) (lv := 0) S.2.2.2.2 k_785 k_782 k_1 yd_B_reference rfl rfl ⟨Nat.le_of_ble_eq_true rfl, Nat.le_of_ble_eq_true rfl⟩) k_784 s_21 rfl hl.1 rfl (Nat.le_of_ble_eq_true rfl) d_B_one_209 ⟨(Nat.zero_le _), (Nat.zero_le _)⟩) (fun r_209 u_209 H locs h hw => ?_)
      refine lv_if_eq (tgt := 219) S.1 S.2.1 d_B_one_212 (by decide) (fun q_212 => ?_) (fun q_212 => ?_)
      · have h := h.1 q_212
        refine lv_iconst (v := 0) S.1 S.2.1 d_B_one_219 (by decide) ?_
        refine W.widen (k := bc) (n := bs) (Nat.zero_le _) (Nat.zero_le _) ?_
        exact w_zretE S hr hlk isB0 hw h d_B_one_220
      · have h := h.2 q_212
        refine lv_iconst (v := 1) S.1 S.2.1 d_B_one_215 (by decide) ?_
        refine lv_goto (tgt := 220) S.1 S.2.1 d_B_one_216 (by decide) ?_
        refine W.widen (k := bc) (n := bs) (Nat.zero_le _) (Nat.zero_le _) ?_
        exact w_zretE S hr hlk isB1 hw h d_B_one_220
  by_cases q_53_4 : y_53 = (4 : Int32)
  · have h := h.2.2.2.2.1 q_53_4
    refine lv_tableIn (tgt := 221) (off := 168) S.1 S.2.1 d_B_one_53 (by rw [q_53_4]; decide) (by rw [q_53_4]; decide) (by rw [q_53_4]; rfl) (by decide) ?_
    refine lv_aload_n S.1 S.2.1 d_B_one_221 rfl (lv_at hl 3 rfl) ?_
    refine w_ciF hA hw (w_rvE (rest := []) S hK hE hA hw (c_B_step l  (ps_pc u ((p_pc u) + (1 : Int32))) _ _ h) (ci := 1) (q0 := 0) rfl rfl (w_cb (fr := 0) (lv := 0) S.2.2.2.2 k_777 k_774 k_1 yd_B_step rfl rfl ⟨Nat.le_of_ble_eq_true rfl, Nat.le_of_ble_eq_true rfl⟩) k_776 s_19 rfl hl.1 rfl (Nat.le_of_ble_eq_true rfl) d_B_one_222 ⟨(Nat.zero_le _), (Nat.zero_le _)⟩) (fun r_222 u_222 H locs h hw => ?_)
    refine lv_if_eq (tgt := 240) S.1 S.2.1 d_B_one_225 (by decide) (fun q_225 => ?_) (fun q_225 => ?_)
    · have h := h.1 q_225
      refine lv_iconst (v := 0) S.1 S.2.1 d_B_one_240 (by decide) ?_
      refine W.widen (k := bc) (n := bs) (Nat.zero_le _) (Nat.zero_le _) ?_
      exact w_zretE S hr hlk isB0 hw h d_B_one_241
    · have h := h.2 q_225
      refine lv_aload_n S.1 S.2.1 d_B_one_228 rfl (lv_at hl 3 rfl) ?_
      refine lv_iload_n S.1 S.2.1 d_B_one_229 rfl (lv_at hl 2 rfl) ?_
      obtain ⟨kc_230, nc_230, hk_230, hn_230, h⟩ := h
      refine w_ciE hA hw (w_rvE (rest := []) S hK hE hA hw (c_B_call l kc_230 nc_230 x1_12 u_222 _ _ h) (ci := 1) (q0 := 0) rfl rfl (w_cb (fr := 0) (lv := 0) S.2.2.2.2 k_789 k_786 k_1 yd_B_call rfl rfl ⟨Nat.le_of_ble_eq_true rfl, Nat.le_of_ble_eq_true rfl⟩) k_788 s_22 rfl hl.1 rfl (Nat.le_of_ble_eq_true rfl) d_B_one_230 ⟨hk_230, hn_230⟩) (fun r_230 u_230 a_230 H locs h hw => ?_)
      refine lv_if_eq (tgt := 240) S.1 S.2.1 d_B_one_233 (by decide) (fun q_233 => ?_) (fun q_233 => ?_)
      · have h := h.1 q_233
        refine lv_iconst (v := 0) S.1 S.2.1 d_B_one_240 (by decide) ?_
        refine W.widen (k := bc) (n := bs) hk_230 hn_230 ?_
        exact w_zretE S hr hlk isB0 hw h d_B_one_241
      · have h := h.2 q_233
        refine lv_iconst (v := 1) S.1 S.2.1 d_B_one_236 (by decide) ?_
        refine lv_goto (tgt := 241) S.1 S.2.1 d_B_one_237 (by decide) ?_
        refine W.widen (k := bc) (n := bs) hk_230 hn_230 ?_
        exact w_zretE S hr hlk isB1 hw h d_B_one_241
  by_cases q_53_5 : y_53 = (5 : Int32)
  · have h := h.2.2.2.2.2.1 q_53_5
    refine lv_tableIn (tgt := 242) (off := 189) S.1 S.2.1 d_B_one_53 (by rw [q_53_5]; decide) (by rw [q_53_5]; decide) (by rw [q_53_5]; rfl) (by decide) ?_
    refine lv_aload_n S.1 S.2.1 d_B_one_242 rfl (lv_at hl 3 rfl) ?_
    refine w_ciF hA hw (w_rvE (rest := []) S hK hE hA hw (c_B_step l  (ps_pc u ((p_pc u) + (1 : Int32))) _ _ h) (ci := 1) (q0 := 0) rfl rfl (w_cb (fr := 0) (lv := 0) S.2.2.2.2 k_777 k_774 k_1 yd_B_step rfl rfl ⟨Nat.le_of_ble_eq_true rfl, Nat.le_of_ble_eq_true rfl⟩) k_776 s_19 rfl hl.1 rfl (Nat.le_of_ble_eq_true rfl) d_B_one_243 ⟨(Nat.zero_le _), (Nat.zero_le _)⟩) (fun r_243 u_243 H locs h hw => ?_)
    refine W.widen (k := bc) (n := bs) (Nat.zero_le _) (Nat.zero_le _) ?_
    exact w_zretE S hr hlk h.1 hw h.2 d_B_one_246
  by_cases q_53_6 : y_53 = (6 : Int32)
  · have h := h.2.2.2.2.2.2.1 q_53_6
    refine lv_tableIn (tgt := 247) (off := 194) S.1 S.2.1 d_B_one_53 (by rw [q_53_6]; decide) (by rw [q_53_6]; decide) (by rw [q_53_6]; rfl) (by decide) ?_
    exact wB_B_one_247 S hr hlk hK hE hA  0 0 (Nat.zero_le _) (Nat.zero_le _)  (ps_pc u ((p_pc u) + (1 : Int32))) a _ _ _ (lv_sub hl [3] rfl) hw h
  by_cases q_53_7 : y_53 = (7 : Int32)
  · have h := h.2.2.2.2.2.2.2.1 q_53_7
    refine lv_tableIn (tgt := 257) (off := 204) S.1 S.2.1 d_B_one_53 (by rw [q_53_7]; decide) (by rw [q_53_7]; decide) (by rw [q_53_7]; rfl) (by decide) ?_
    refine lv_aload_n S.1 S.2.1 d_B_one_257 rfl (lv_at hl 3 rfl) ?_
    obtain ⟨kc_258, nc_258, hk_258, hn_258, h⟩ := h
    refine w_ciE hA hw (w_rvE (rest := []) S hK hE hA hw (c_B_pop l kc_258 nc_258  (ps_pc u ((p_pc u) + (1 : Int32))) _ _ h) (ci := 1) (q0 := 0) rfl rfl (w_cb (fr := 0) (lv := 0) S.2.2.2.2 k_806 k_803 k_1 yd_B_pop rfl rfl ⟨Nat.le_of_ble_eq_true rfl, Nat.le_of_ble_eq_true rfl⟩) k_805 s_26 rfl hl.1 rfl (Nat.le_of_ble_eq_true rfl) d_B_one_258 ⟨hk_258, hn_258⟩) (fun r_258 u_258 a_258 H locs h hw => ?_)
    refine lv_istore (lv' := [(4, .int r_258), (3, .ref (g.1 k_37)), (2, .int x2_25), (1, .int x1_12), (0, .ref o)]) S.1 S.2.1 d_B_one_261 hl (by decide) rfl (fun ls hl => ?_)
    refine lv_aload_n S.1 S.2.1 d_B_one_263 rfl (lv_at hl 4 rfl) ?_
    refine lv_iconst (v := 2) S.1 S.2.1 d_B_one_264 (by decide) ?_
    refine lv_iload_n S.1 S.2.1 d_B_one_265 rfl (lv_at hl 3 rfl) ?_
    refine lv_imul S.1 S.2.1 d_B_one_266 ?_
    refine lv_iload S.1 S.2.1 d_B_one_267 (lv_at hl 0 rfl) ?_
    obtain ⟨kc_269, nc_269, hk_269, hn_269, h⟩ := h
    refine w_cvE hA hw (w_rvE (rest := []) S hK hE hA hw (c_B_capture l kc_269 nc_269 ((2 : Int32) * x1_12) r_258 u_258 _ _ h) (ci := 1) (q0 := 0) rfl rfl (w_cb (fr := 0) (lv := 0) S.2.2.2.2 k_810 k_807 k_1 yd_B_capture rfl rfl ⟨Nat.le_of_ble_eq_true rfl, Nat.le_of_ble_eq_true rfl⟩) k_809 s_27 rfl hl.1 rfl (Nat.le_of_ble_eq_true rfl) d_B_one_269 ⟨hk_269, hn_269⟩) (fun u_269 a_269 H locs h hw => ?_)
    refine lv_aload_n S.1 S.2.1 d_B_one_272 rfl (lv_at hl 4 rfl) ?_
    refine lv_iconst (v := 2) S.1 S.2.1 d_B_one_273 (by decide) ?_
    refine lv_iload_n S.1 S.2.1 d_B_one_274 rfl (lv_at hl 3 rfl) ?_
    refine lv_imul S.1 S.2.1 d_B_one_275 ?_
    refine lv_iconst (v := 1) S.1 S.2.1 d_B_one_276 (by decide) ?_
    refine lv_iadd S.1 S.2.1 d_B_one_277 ?_
    refine lv_aload_n S.1 S.2.1 d_B_one_278 rfl (lv_at hl 4 rfl) ?_
    refine pg_place S hK hw d_B_one_279 ?_
    obtain ⟨kc_282, nc_282, hk_282, hn_282, h⟩ := h
    refine w_cvE hA hw (w_rvE (rest := []) S hK hE hA hw (c_B_capture l kc_282 nc_282 (((2 : Int32) * x1_12) + (1 : Int32)) (p_place u_269) u_269 _ _ h) (ci := 1) (q0 := 0) rfl rfl (w_cb (fr := 0) (lv := 0) S.2.2.2.2 k_810 k_807 k_1 yd_B_capture rfl rfl ⟨Nat.le_of_ble_eq_true rfl, Nat.le_of_ble_eq_true rfl⟩) k_809 s_27 rfl hl.1 rfl (Nat.le_of_ble_eq_true rfl) d_B_one_282 ⟨hk_282, hn_282⟩) (fun u_282 a_282 H locs h hw => ?_)
    refine lv_iconst (v := 1) S.1 S.2.1 d_B_one_285 (by decide) ?_
    refine W.widen (k := bc) (n := bs) hk_282 hn_282 ?_
    exact w_zretE S hr hlk isB1 hw h d_B_one_286
  by_cases q_53_8 : y_53 = (8 : Int32)
  · have h := h.2.2.2.2.2.2.2.2.1 q_53_8
    refine lv_tableIn (tgt := 287) (off := 234) S.1 S.2.1 d_B_one_53 (by rw [q_53_8]; decide) (by rw [q_53_8]; decide) (by rw [q_53_8]; rfl) (by decide) ?_
    refine lv_aload_n S.1 S.2.1 d_B_one_287 rfl (lv_at hl 3 rfl) ?_
    refine lv_iconst (v := 0) S.1 S.2.1 d_B_one_288 (by decide) ?_
    refine lv_iload_n S.1 S.2.1 d_B_one_289 rfl (lv_at hl 1 rfl) ?_
    refine lv_aload_n S.1 S.2.1 d_B_one_290 rfl (lv_at hl 3 rfl) ?_
    refine pg_place S hK hw d_B_one_291 ?_
    obtain ⟨kc_294, nc_294, hk_294, hn_294, h⟩ := h
    refine w_cvE hA hw (w_rvE (rest := []) S hK hE hA hw (c_B_log l kc_294 nc_294 (0 : Int32) x2_25 (p_place (ps_pc u ((p_pc u) + (1 : Int32)))) (ps_pc u ((p_pc u) + (1 : Int32))) _ _ h) (ci := 1) (q0 := 0) rfl rfl (w_cb (fr := 0) (lv := 0) S.2.2.2.2 k_797 k_794 k_1 yd_B_log rfl rfl ⟨Nat.le_of_ble_eq_true rfl, Nat.le_of_ble_eq_true rfl⟩) k_796 s_24 rfl hl.1 rfl (Nat.le_of_ble_eq_true rfl) d_B_one_294 ⟨hk_294, hn_294⟩) (fun u_294 a_294 H locs h hw => ?_)
    refine lv_aload_n S.1 S.2.1 d_B_one_297 rfl (lv_at hl 3 rfl) ?_
    refine lv_iload_n S.1 S.2.1 d_B_one_298 rfl (lv_at hl 2 rfl) ?_
    refine pp_pc S hK hw d_B_one_299 (fun H locs hw => ?_)
    refine lv_iconst (v := 1) S.1 S.2.1 d_B_one_302 (by decide) ?_
    refine W.widen (k := bc) (n := bs) hk_294 hn_294 ?_
    exact w_zretE S hr hlk isB1 hw h d_B_one_303
  by_cases q_53_9 : y_53 = (9 : Int32)
  · have h := h.2.2.2.2.2.2.2.2.2.1 q_53_9
    refine lv_tableIn (tgt := 304) (off := 251) S.1 S.2.1 d_B_one_53 (by rw [q_53_9]; decide) (by rw [q_53_9]; decide) (by rw [q_53_9]; rfl) (by decide) ?_
    refine lv_aload_n S.1 S.2.1 d_B_one_304 rfl (lv_at hl 3 rfl) ?_
    refine lv_iload_n S.1 S.2.1 d_B_one_305 rfl (lv_at hl 2 rfl) ?_
    refine pp_pc S hK hw d_B_one_306 (fun H locs hw => ?_)
    refine lv_iconst (v := 1) S.1 S.2.1 d_B_one_309 (by decide) ?_
    refine W.widen (k := bc) (n := bs) (Nat.zero_le _) (Nat.zero_le _) ?_
    exact w_zretE S hr hlk isB1 hw h d_B_one_310
  by_cases q_53_10 : y_53 = (10 : Int32)
  · have h := h.2.2.2.2.2.2.2.2.2.2.1 q_53_10
    refine lv_tableIn (tgt := 247) (off := 194) S.1 S.2.1 d_B_one_53 (by rw [q_53_10]; decide) (by rw [q_53_10]; decide) (by rw [q_53_10]; rfl) (by decide) ?_
    exact wB_B_one_247 S hr hlk hK hE hA  0 0 (Nat.zero_le _) (Nat.zero_le _)  (ps_pc u ((p_pc u) + (1 : Int32))) a _ _ _ (lv_sub hl [3] rfl) hw h
  by_cases q_53_11 : y_53 = (11 : Int32)
  · have h := h.2.2.2.2.2.2.2.2.2.2.2.1 q_53_11
    refine lv_tableIn (tgt := 311) (off := 258) S.1 S.2.1 d_B_one_53 (by rw [q_53_11]; decide) (by rw [q_53_11]; decide) (by rw [q_53_11]; rfl) (by decide) ?_
    refine lv_aload_n S.1 S.2.1 d_B_one_311 rfl (lv_at hl 3 rfl) ?_
    obtain ⟨kc_312, nc_312, hk_312, hn_312, h⟩ := h
    refine w_ciE hA hw (w_rvE (rest := []) S hK hE hA hw (c_B_pop l kc_312 nc_312  (ps_pc u ((p_pc u) + (1 : Int32))) _ _ h) (ci := 1) (q0 := 0) rfl rfl (w_cb (fr := 0) (lv := 0) S.2.2.2.2 k_806 k_803 k_1 yd_B_pop rfl rfl ⟨Nat.le_of_ble_eq_true rfl, Nat.le_of_ble_eq_true rfl⟩) k_805 s_26 rfl hl.1 rfl (Nat.le_of_ble_eq_true rfl) d_B_one_312 ⟨hk_312, hn_312⟩) (fun r_312 u_312 a_312 H locs h hw => ?_)
    refine lv_aload_n S.1 S.2.1 d_B_one_315 rfl (lv_at hl 3 rfl) ?_
    refine pg_place S hK hw d_B_one_316 ?_
    refine lv_icmp_eq (tgt := 327) S.1 S.2.1 d_B_one_319 (by decide) (fun q_319 => ?_) (fun q_319 => ?_)
    · have h := h.1 q_319
      refine lv_iconst (v := 1) S.1 S.2.1 d_B_one_327 (by decide) ?_
      refine W.widen (k := bc) (n := bs) hk_312 hn_312 ?_
      exact w_zretE S hr hlk isB1 hw h d_B_one_328
    · have h := h.2 q_319
      refine lv_aload_n S.1 S.2.1 d_B_one_322 rfl (lv_at hl 3 rfl) ?_
      refine lv_iload_n S.1 S.2.1 d_B_one_323 rfl (lv_at hl 2 rfl) ?_
      refine pp_pc S hK hw d_B_one_324 (fun H locs hw => ?_)
      refine lv_iconst (v := 1) S.1 S.2.1 d_B_one_327 (by decide) ?_
      refine W.widen (k := bc) (n := bs) hk_312 hn_312 ?_
      exact w_zretE S hr hlk isB1 hw h d_B_one_328
  by_cases q_53_12 : y_53 = (12 : Int32)
  · have h := h.2.2.2.2.2.2.2.2.2.2.2.2.1 q_53_12
    refine lv_tableIn (tgt := 329) (off := 276) S.1 S.2.1 d_B_one_53 (by rw [q_53_12]; decide) (by rw [q_53_12]; decide) (by rw [q_53_12]; rfl) (by decide) ?_
    refine lv_aload_n S.1 S.2.1 d_B_one_329 rfl (lv_at hl 3 rfl) ?_
    refine lv_iload_n S.1 S.2.1 d_B_one_330 rfl (lv_at hl 2 rfl) ?_
    refine lv_iload_n S.1 S.2.1 d_B_one_331 rfl (lv_at hl 1 rfl) ?_
    obtain ⟨kc_332, nc_332, hk_332, hn_332, h⟩ := h
    refine w_cvE hA hw (w_rvE (rest := []) S hK hE hA hw (c_B_fence l kc_332 nc_332 x1_12 x2_25 (ps_pc u ((p_pc u) + (1 : Int32))) _ _ h) (ci := 1) (q0 := 0) rfl rfl (w_cb (fr := 0) (lv := 0) S.2.2.2.2 k_814 k_811 k_1 yd_B_fence rfl rfl ⟨Nat.le_of_ble_eq_true rfl, Nat.le_of_ble_eq_true rfl⟩) k_813 s_28 rfl hl.1 rfl (Nat.le_of_ble_eq_true rfl) d_B_one_332 ⟨hk_332, hn_332⟩) (fun u_332 a_332 H locs h hw => ?_)
    refine lv_iconst (v := 1) S.1 S.2.1 d_B_one_335 (by decide) ?_
    refine W.widen (k := bc) (n := bs) hk_332 hn_332 ?_
    exact w_zretE S hr hlk isB1 hw h d_B_one_336
  by_cases q_53_13 : y_53 = (13 : Int32)
  · have h := h.2.2.2.2.2.2.2.2.2.2.2.2.2.1 q_53_13
    refine lv_tableIn (tgt := 337) (off := 284) S.1 S.2.1 d_B_one_53 (by rw [q_53_13]; decide) (by rw [q_53_13]; decide) (by rw [q_53_13]; rfl) (by decide) ?_
    refine lv_aload_n S.1 S.2.1 d_B_one_337 rfl (lv_at hl 3 rfl) ?_
    obtain ⟨kc_338, nc_338, hk_338, hn_338, h⟩ := h
    refine w_ciE hA hw (w_rvE (rest := []) S hK hE hA hw (c_B_pop l kc_338 nc_338  (ps_pc u ((p_pc u) + (1 : Int32))) _ _ h) (ci := 1) (q0 := 0) rfl rfl (w_cb (fr := 0) (lv := 0) S.2.2.2.2 k_806 k_803 k_1 yd_B_pop rfl rfl ⟨Nat.le_of_ble_eq_true rfl, Nat.le_of_ble_eq_true rfl⟩) k_805 s_26 rfl hl.1 rfl (Nat.le_of_ble_eq_true rfl) d_B_one_338 ⟨hk_338, hn_338⟩) (fun r_338 u_338 a_338 H locs h hw => ?_)
    refine lv_pop S.1 S.2.1 d_B_one_341 rfl ?_
    refine lv_aload_n S.1 S.2.1 d_B_one_342 rfl (lv_at hl 3 rfl) ?_
    refine lv_aload_n S.1 S.2.1 d_B_one_343 rfl (lv_at hl 3 rfl) ?_
    obtain ⟨kc_344, nc_344, hk_344, hn_344, h⟩ := h
    refine w_ciE hA hw (w_rvE (rest := [.ref o]) S hK hE hA hw (c_B_pop l kc_344 nc_344  u_338 _ _ h) (ci := 1) (q0 := 0) rfl rfl (w_cb (fr := 0) (lv := 0) S.2.2.2.2 k_806 k_803 k_1 yd_B_pop rfl rfl ⟨Nat.le_of_ble_eq_true rfl, Nat.le_of_ble_eq_true rfl⟩) k_805 s_26 rfl hl.1 rfl (Nat.le_of_ble_eq_true rfl) d_B_one_344 ⟨hk_344, hn_344⟩) (fun r_344 u_344 a_344 H locs h hw => ?_)
    refine w_cvF hA hw (w_rvE (rest := []) S hK hE hA hw (c_B_forget l r_344 u_344 _ _ h) (ci := 1) (q0 := 0) rfl rfl (w_cb (fr := 0) (lv := 0) S.2.2.2.2 k_818 k_815 k_1 yd_B_forget rfl rfl ⟨Nat.le_of_ble_eq_true rfl, Nat.le_of_ble_eq_true rfl⟩) k_817 s_29 rfl hl.1 rfl (Nat.le_of_ble_eq_true rfl) d_B_one_347 ⟨hk_344, hn_344⟩) (fun u_347 H locs h hw => ?_)
    refine lv_iconst (v := 1) S.1 S.2.1 d_B_one_350 (by decide) ?_
    refine W.widen (k := bc) (n := bs) hk_344 hn_344 ?_
    exact w_zretE S hr hlk isB1 hw h d_B_one_351
  by_cases q_53_14 : y_53 = (14 : Int32)
  · have h := h.2.2.2.2.2.2.2.2.2.2.2.2.2.2.1 q_53_14
    refine lv_tableIn (tgt := 352) (off := 299) S.1 S.2.1 d_B_one_53 (by rw [q_53_14]; decide) (by rw [q_53_14]; decide) (by rw [q_53_14]; rfl) (by decide) ?_
    refine lv_aload_n S.1 S.2.1 d_B_one_352 rfl (lv_at hl 3 rfl) ?_
    refine lv_aload_n S.1 S.2.1 d_B_one_353 rfl (lv_at hl 3 rfl) ?_
    obtain ⟨kc_354, nc_354, hk_354, hn_354, h⟩ := h
    refine w_ciE hA hw (w_rvE (rest := [.ref o]) S hK hE hA hw (c_B_pop l kc_354 nc_354  (ps_pc u ((p_pc u) + (1 : Int32))) _ _ h) (ci := 1) (q0 := 0) rfl rfl (w_cb (fr := 0) (lv := 0) S.2.2.2.2 k_806 k_803 k_1 yd_B_pop rfl rfl ⟨Nat.le_of_ble_eq_true rfl, Nat.le_of_ble_eq_true rfl⟩) k_805 s_26 rfl hl.1 rfl (Nat.le_of_ble_eq_true rfl) d_B_one_354 ⟨hk_354, hn_354⟩) (fun r_354 u_354 a_354 H locs h hw => ?_)
    refine pp_place S hK hw d_B_one_357 (fun H locs hw => ?_)
    refine lv_aload_n S.1 S.2.1 d_B_one_360 rfl (lv_at hl 3 rfl) ?_
    refine lv_aload_n S.1 S.2.1 d_B_one_361 rfl (lv_at hl 3 rfl) ?_
    obtain ⟨kc_362, nc_362, hk_362, hn_362, h⟩ := h
    refine w_ciE hA hw (w_rvE (rest := [.ref o]) S hK hE hA hw (c_B_pop l kc_362 nc_362  (ps_place u_354 r_354) _ _ h) (ci := 1) (q0 := 0) rfl rfl (w_cb (fr := 0) (lv := 0) S.2.2.2.2 k_806 k_803 k_1 yd_B_pop rfl rfl ⟨Nat.le_of_ble_eq_true rfl, Nat.le_of_ble_eq_true rfl⟩) k_805 s_26 rfl hl.1 rfl (Nat.le_of_ble_eq_true rfl) d_B_one_362 ⟨hk_362, hn_362⟩) (fun r_362 u_362 a_362 H locs h hw => ?_)
    refine w_cvF hA hw (w_rvE (rest := []) S hK hE hA hw (c_B_forget l r_362 u_362 _ _ h) (ci := 1) (q0 := 0) rfl rfl (w_cb (fr := 0) (lv := 0) S.2.2.2.2 k_818 k_815 k_1 yd_B_forget rfl rfl ⟨Nat.le_of_ble_eq_true rfl, Nat.le_of_ble_eq_true rfl⟩) k_817 s_29 rfl hl.1 rfl (Nat.le_of_ble_eq_true rfl) d_B_one_365 ⟨hk_362, hn_362⟩) (fun u_365 H locs h hw => ?_)
    refine lv_iconst (v := 1) S.1 S.2.1 d_B_one_368 (by decide) ?_
    refine W.widen (k := bc) (n := bs) hk_362 hn_362 ?_
    exact w_zretE S hr hlk isB1 hw h d_B_one_369
  by_cases q_53_15 : y_53 = (15 : Int32)
  · have h := h.2.2.2.2.2.2.2.2.2.2.2.2.2.2.2.1 q_53_15
    refine lv_tableIn (tgt := 370) (off := 317) S.1 S.2.1 d_B_one_53 (by rw [q_53_15]; decide) (by rw [q_53_15]; decide) (by rw [q_53_15]; rfl) (by decide) ?_
    refine lv_aload_n S.1 S.2.1 d_B_one_370 rfl (lv_at hl 3 rfl) ?_
    obtain ⟨kc_371, nc_371, hk_371, hn_371, h⟩ := h
    refine w_ciE hA hw (w_rvE (rest := []) S hK hE hA hw (c_B_refuse l kc_371 nc_371  (ps_pc u ((p_pc u) + (1 : Int32))) _ _ h) (ci := 1) (q0 := 0) rfl rfl (w_cb (fr := 0) (lv := 0) S.2.2.2.2 k_822 k_819 k_1 yd_B_refuse rfl rfl ⟨Nat.le_of_ble_eq_true rfl, Nat.le_of_ble_eq_true rfl⟩) k_821 s_30 rfl hl.1 rfl (Nat.le_of_ble_eq_true rfl) d_B_one_371 ⟨hk_371, hn_371⟩) (fun r_371 u_371 a_371 H locs h hw => ?_)
    refine W.widen (k := bc) (n := bs) hk_371 hn_371 ?_
    exact w_zretE S hr hlk h.1 hw h.2 d_B_one_374
  have h := h.2.2.2.2.2.2.2.2.2.2.2.2.2.2.2.2 q_53_0 q_53_1 q_53_2 q_53_3 q_53_4 q_53_5 q_53_6 q_53_7 q_53_8 q_53_9 q_53_10 q_53_11 q_53_12 q_53_13 q_53_14 q_53_15
  have z_0 : y_53.toInt ≠ 0 := fun e9 => q_53_0 (Int32.toInt_inj.mp (by rw [e9]; rfl))
  have z_1 : y_53.toInt ≠ 1 := fun e9 => q_53_1 (Int32.toInt_inj.mp (by rw [e9]; rfl))
  have z_2 : y_53.toInt ≠ 2 := fun e9 => q_53_2 (Int32.toInt_inj.mp (by rw [e9]; rfl))
  have z_3 : y_53.toInt ≠ 3 := fun e9 => q_53_3 (Int32.toInt_inj.mp (by rw [e9]; rfl))
  have z_4 : y_53.toInt ≠ 4 := fun e9 => q_53_4 (Int32.toInt_inj.mp (by rw [e9]; rfl))
  have z_5 : y_53.toInt ≠ 5 := fun e9 => q_53_5 (Int32.toInt_inj.mp (by rw [e9]; rfl))
  have z_6 : y_53.toInt ≠ 6 := fun e9 => q_53_6 (Int32.toInt_inj.mp (by rw [e9]; rfl))
  have z_7 : y_53.toInt ≠ 7 := fun e9 => q_53_7 (Int32.toInt_inj.mp (by rw [e9]; rfl))
  have z_8 : y_53.toInt ≠ 8 := fun e9 => q_53_8 (Int32.toInt_inj.mp (by rw [e9]; rfl))
  have z_9 : y_53.toInt ≠ 9 := fun e9 => q_53_9 (Int32.toInt_inj.mp (by rw [e9]; rfl))
  have z_10 : y_53.toInt ≠ 10 := fun e9 => q_53_10 (Int32.toInt_inj.mp (by rw [e9]; rfl))
  have z_11 : y_53.toInt ≠ 11 := fun e9 => q_53_11 (Int32.toInt_inj.mp (by rw [e9]; rfl))
  have z_12 : y_53.toInt ≠ 12 := fun e9 => q_53_12 (Int32.toInt_inj.mp (by rw [e9]; rfl))
  have z_13 : y_53.toInt ≠ 13 := fun e9 => q_53_13 (Int32.toInt_inj.mp (by rw [e9]; rfl))
  have z_14 : y_53.toInt ≠ 14 := fun e9 => q_53_14 (Int32.toInt_inj.mp (by rw [e9]; rfl))
  have z_15 : y_53.toInt ≠ 15 := fun e9 => q_53_15 (Int32.toInt_inj.mp (by rw [e9]; rfl))
  refine lv_tableOut (tgt := 375) S.1 S.2.1 d_B_one_53 (by omega) (by decide) ?_
  refine lv_aload_n S.1 S.2.1 d_B_one_375 rfl (lv_at hl 3 rfl) ?_
  obtain ⟨kc_376, nc_376, hk_376, hn_376, h⟩ := h
  refine w_cvE hA hw (w_rvE (rest := []) S hK hE hA hw (c_B_comeBack l kc_376 nc_376  (ps_pc u ((p_pc u) + (1 : Int32))) _ _ h) (ci := 1) (q0 := 0) rfl rfl (w_cb (fr := 0) (lv := 0) S.2.2.2.2 k_826 k_823 k_1 yd_B_comeBack rfl rfl ⟨Nat.le_of_ble_eq_true rfl, Nat.le_of_ble_eq_true rfl⟩) k_825 s_31 rfl hl.1 rfl (Nat.le_of_ble_eq_true rfl) d_B_one_376 ⟨hk_376, hn_376⟩) (fun u_376 a_376 H locs h hw => ?_)
  refine lv_iconst (v := 1) S.1 S.2.1 d_B_one_379 (by decide) ?_
  refine W.widen (k := bc) (n := bs) hk_376 hn_376 ?_
  exact w_zretE S hr hlk isB1 hw h d_B_one_380
end PW
abbrev b_B_run : ByteArray := prog_1_method_27_code
def y_B_run : MethodName := ⟨"PatternBench", "run", "(I)Z"⟩
theorem yd_B_run : y_B_run.cls ≠ "java/lang/invoke/MethodHandle" ∧ y_B_run.cls ≠ "java/lang/invoke/VarHandle" ∧ (parseMethodDescriptor y_B_run.desc).map (fun d => d.parameters.length) = some 1 := by decide +kernel
theorem d_B_run_0 : decode b_B_run 0 = .ok (.aload_n 0, 1) := by decide +kernel
theorem d_B_run_1 : decode b_B_run 1 = .ok (.iconst 0, 1) := by decide +kernel
theorem d_B_run_2 : decode b_B_run 2 = .ok (.putfield 225, 3) := by decide +kernel
theorem d_B_run_5 : decode b_B_run 5 = .ok (.aload_n 0, 1) := by decide +kernel
theorem d_B_run_6 : decode b_B_run 6 = .ok (.iconst 0, 1) := by decide +kernel
theorem d_B_run_7 : decode b_B_run 7 = .ok (.putfield 232, 3) := by decide +kernel
theorem d_B_run_10 : decode b_B_run 10 = .ok (.aload_n 0, 1) := by decide +kernel
theorem d_B_run_11 : decode b_B_run 11 = .ok (.iconst 0, 1) := by decide +kernel
theorem d_B_run_12 : decode b_B_run 12 = .ok (.putfield 245, 3) := by decide +kernel
theorem d_B_run_15 : decode b_B_run 15 = .ok (.iconst 0, 1) := by decide +kernel
theorem d_B_run_16 : decode b_B_run 16 = .ok (.istore_n 2, 1) := by decide +kernel
theorem d_B_run_17 : decode b_B_run 17 = .ok (.iload_n 2, 1) := by decide +kernel
theorem d_B_run_18 : decode b_B_run 18 = .ok (.bipush 10, 2) := by decide +kernel
theorem d_B_run_20 : decode b_B_run 20 = .ok (.if_icmp .ge 17, 3) := by decide +kernel
theorem d_B_run_23 : decode b_B_run 23 = .ok (.aload_n 0, 1) := by decide +kernel
theorem d_B_run_24 : decode b_B_run 24 = .ok (.getfield 36, 3) := by decide +kernel
theorem d_B_run_27 : decode b_B_run 27 = .ok (.iload_n 2, 1) := by decide +kernel
theorem d_B_run_28 : decode b_B_run 28 = .ok (.bipush (-6), 2) := by decide +kernel
theorem d_B_run_30 : decode b_B_run 30 = .ok (.iastore, 1) := by decide +kernel
theorem d_B_run_31 : decode b_B_run 31 = .ok (.iinc 2 1, 3) := by decide +kernel
theorem d_B_run_34 : decode b_B_run 34 = .ok (.goto (-17), 3) := by decide +kernel
theorem d_B_run_37 : decode b_B_run 37 = .ok (.aload_n 0, 1) := by decide +kernel
theorem d_B_run_38 : decode b_B_run 38 = .ok (.aload_n 0, 1) := by decide +kernel
theorem d_B_run_39 : decode b_B_run 39 = .ok (.getfield 22, 3) := by decide +kernel
theorem d_B_run_42 : decode b_B_run 42 = .ok (.getfield 203, 3) := by decide +kernel
theorem d_B_run_45 : decode b_B_run 45 = .ok (.iconst 0, 1) := by decide +kernel
theorem d_B_run_46 : decode b_B_run 46 = .ok (.iaload, 1) := by decide +kernel
theorem d_B_run_47 : decode b_B_run 47 = .ok (.putfield 239, 3) := by decide +kernel
theorem d_B_run_50 : decode b_B_run 50 = .ok (.aload_n 0, 1) := by decide +kernel
theorem d_B_run_51 : decode b_B_run 51 = .ok (.iload_n 1, 1) := by decide +kernel
theorem d_B_run_52 : decode b_B_run 52 = .ok (.putfield 242, 3) := by decide +kernel
theorem d_B_run_55 : decode b_B_run 55 = .ok (.iconst 0, 1) := by decide +kernel
theorem d_B_run_56 : decode b_B_run 56 = .ok (.istore_n 2, 1) := by decide +kernel
theorem d_B_run_57 : decode b_B_run 57 = .ok (.iconst 1, 1) := by decide +kernel
theorem d_B_run_58 : decode b_B_run 58 = .ok (.istore_n 3, 1) := by decide +kernel
theorem d_B_run_59 : decode b_B_run 59 = .ok (.iload_n 3, 1) := by decide +kernel
theorem d_B_run_60 : decode b_B_run 60 = .ok (.ifCond .eq 71, 3) := by decide +kernel
theorem d_B_run_63 : decode b_B_run 63 = .ok (.iload_n 2, 1) := by decide +kernel
theorem d_B_run_64 : decode b_B_run 64 = .ok (.ifCond .ne 67, 3) := by decide +kernel
theorem d_B_run_67 : decode b_B_run 67 = .ok (.aload_n 0, 1) := by decide +kernel
theorem d_B_run_68 : decode b_B_run 68 = .ok (.getfield 251, 3) := by decide +kernel
theorem d_B_run_71 : decode b_B_run 71 = .ok (.ifCond .ne 60, 3) := by decide +kernel
theorem d_B_run_74 : decode b_B_run 74 = .ok (.aload_n 0, 1) := by decide +kernel
theorem d_B_run_75 : decode b_B_run 75 = .ok (.getfield 22, 3) := by decide +kernel
theorem d_B_run_78 : decode b_B_run 78 = .ok (.getfield 254, 3) := by decide +kernel
theorem d_B_run_81 : decode b_B_run 81 = .ok (.aload_n 0, 1) := by decide +kernel
theorem d_B_run_82 : decode b_B_run 82 = .ok (.getfield 239, 3) := by decide +kernel
theorem d_B_run_85 : decode b_B_run 85 = .ok (.aaload, 1) := by decide +kernel
theorem d_B_run_86 : decode b_B_run 86 = .ok (.getstatic 210, 3) := by decide +kernel
theorem d_B_run_89 : decode b_B_run 89 = .ok (.if_acmp .ne 14, 3) := by decide +kernel
theorem d_B_run_92 : decode b_B_run 92 = .ok (.aload_n 0, 1) := by decide +kernel
theorem d_B_run_93 : decode b_B_run 93 = .ok (.getfield 245, 3) := by decide +kernel
theorem d_B_run_96 : decode b_B_run 96 = .ok (.ifCond .ne 7, 3) := by decide +kernel
theorem d_B_run_99 : decode b_B_run 99 = .ok (.iconst 1, 1) := by decide +kernel
theorem d_B_run_100 : decode b_B_run 100 = .ok (.goto 4, 3) := by decide +kernel
theorem d_B_run_103 : decode b_B_run 103 = .ok (.iconst 0, 1) := by decide +kernel
theorem d_B_run_104 : decode b_B_run 104 = .ok (.istore_n 2, 1) := by decide +kernel
theorem d_B_run_105 : decode b_B_run 105 = .ok (.iload_n 2, 1) := by decide +kernel
theorem d_B_run_106 : decode b_B_run 106 = .ok (.ifCond .ne (-47), 3) := by decide +kernel
theorem d_B_run_109 : decode b_B_run 109 = .ok (.aload_n 0, 1) := by decide +kernel
theorem d_B_run_110 : decode b_B_run 110 = .ok (.invokevirtual 258, 3) := by decide +kernel
theorem d_B_run_113 : decode b_B_run 113 = .ok (.ifCond .ne (-54), 3) := by decide +kernel
theorem d_B_run_116 : decode b_B_run 116 = .ok (.aload_n 0, 1) := by decide +kernel
theorem d_B_run_117 : decode b_B_run 117 = .ok (.getfield 251, 3) := by decide +kernel
theorem d_B_run_120 : decode b_B_run 120 = .ok (.ifCond .ne (-61), 3) := by decide +kernel
theorem d_B_run_123 : decode b_B_run 123 = .ok (.aload_n 0, 1) := by decide +kernel
theorem d_B_run_124 : decode b_B_run 124 = .ok (.invokevirtual 262, 3) := by decide +kernel
theorem d_B_run_127 : decode b_B_run 127 = .ok (.istore_n 3, 1) := by decide +kernel
theorem d_B_run_128 : decode b_B_run 128 = .ok (.goto (-69), 3) := by decide +kernel
theorem d_B_run_131 : decode b_B_run 131 = .ok (.iload_n 2, 1) := by decide +kernel
theorem d_B_run_132 : decode b_B_run 132 = .ok (.ireturn, 1) := by decide +kernel
def B_B_run_104 (Qc : Int32 → PS → Prop) (bc bs : Nat) (K59 : Nat → Nat → Int32 → Int32 → PS → Prop) (k n0 : Nat) (x3 : Int32) (t0 : Int32) (u : PS) : Prop := ((t0 = (0 : Int32) → (∃ kc_110 nc_110 : Nat, k + kc_110 ≤ bc ∧ n0 + nc_110 ≤ bs ∧ P_B_one kc_110 nc_110  u (fun r_110 u_110 => ((r_110 = (0 : Int32) → (((p_stopped u_110) = (0 : Int32) → P_B_back  u_110 (fun r_124 u_124 => K59 (k + kc_110) (n0 + nc_110) t0 r_124 u_124)) ∧ (¬ (p_stopped u_110) = (0 : Int32) → K59 (k + kc_110) (n0 + nc_110) t0 x3 u_110))) ∧ (¬ r_110 = (0 : Int32) → K59 (k + kc_110) (n0 + nc_110) t0 x3 u_110))))) ∧ (¬ t0 = (0 : Int32) → K59 k n0 t0 x3 u))
def B_B_run_103 (Qc : Int32 → PS → Prop) (bc bs : Nat) (K59 : Nat → Nat → Int32 → Int32 → PS → Prop) (k n0 : Nat) (x3 : Int32) (u : PS) : Prop := B_B_run_104 Qc bc bs K59 k n0 x3 (0 : Int32) u
def L_B_run_59 (Qc : Int32 → PS → Prop) (bc bs : Nat)  : Nat → Nat → Nat → Int32 → Int32 → PS → Prop
  | 0, _, _, _, _, _ => False
  | n + 1, k, n0, x2, x3, u => ((x3 = (0 : Int32) → (isB x2 ∧ Qc x2 u)) ∧ (¬ x3 = (0 : Int32) → ((x2 = (0 : Int32) → (((p_stopped u) = (0 : Int32) → (vp_in (p_pc u) (p_opN u) ∧ ∃ k_85 : Nat, k_85 < 17 ∧ p_opF u (p_pc u).toNatClampNeg = some k_85 ∧ ((k_85 = 16 → (((p_calls u) = (0 : Int32) → B_B_run_104 Qc bc bs (L_B_run_59 Qc bc bs n) k n0 x3 (1 : Int32) u) ∧ (¬ (p_calls u) = (0 : Int32) → B_B_run_103 Qc bc bs (L_B_run_59 Qc bc bs n) k n0 x3 u))) ∧ (¬ k_85 = 16 → B_B_run_103 Qc bc bs (L_B_run_59 Qc bc bs n) k n0 x3 u)))) ∧ (¬ (p_stopped u) = (0 : Int32) → (isB x2 ∧ Qc x2 u)))) ∧ (¬ x2 = (0 : Int32) → (isB x2 ∧ Qc x2 u)))))
def L_B_run_17 (Qc : Int32 → PS → Prop) (bc bs : Nat)  : Nat → Nat → Nat → Int32 → Int32 → PS → Prop
  | 0, _, _, _, _, _ => False
  | n + 1, k, n0, x1, x2, u => (((10 : Int32) ≤ x2 → (vp_in (0 : Int32) 5 ∧ ∃ n, L_B_run_59 Qc bc bs  n k n0 (0 : Int32) (1 : Int32) (ps_place (ps_pc u (p_en u (0 : Int32).toNatClampNeg)) x1))) ∧ (¬ (10 : Int32) ≤ x2 → (vp_in x2 10 ∧ (∀ x2_31 : Int32, x2_31 = x2 + 1 → (L_B_run_17 Qc bc bs n) k n0 x1 x2_31 (ps_cF u (upd (p_cF u) x2.toNatClampNeg (-6 : Int32)))))))
def P_B_run (bc bs : Nat) (x1 : Int32) (u : PS) (Qc : Int32 → PS → Prop) : Prop := ∃ n, L_B_run_17 Qc bc bs  n 0 0 x1 (0 : Int32) (ps_calls (ps_marked (ps_height u (0 : Int32)) (0 : Int32)) (0 : Int32))
section PW
variable {p : Program} {l : Launch} {e : Env} {s : State} {m : MethodId} {args : Array Value} {below : List Frame} {meth : Method} {c : Code} {x : GX} {g : GE} {ex : va_W} {a : Nat → Nat} {A : Nat → Prop} {o : Nat}
set_option maxHeartbeats 4000000 in
set_option maxRecDepth 20000 in
theorem wB_B_run_104 (S : CallFix p m c b_B_run 4 s args lw_tg "PatternBench") (hr : meth.sig.returnType = some .boolean) (hlk : meth.locks = false) (hK : GK x s) (hE : EN g A s s.heap) (hA : ∀ q : Nat, s.heap.size ≤ q → A q) {Qc : Int32 → PS → Prop} {bc bs : Nat}  {K59 : Nat → Nat → Int32 → Int32 → PS → Prop} (ih59 : ∀ (k n0 : Nat) (hk : k ≤ bc) (hn : n0 ≤ bs) (x2 : Int32) (x3 : Int32) (u : PS) (a : Nat → Nat) (ls : Array Slot) (H : Heap) (locs : List Loc), lv_has ls 4 [(0, .ref o), (2, .int x2), (3, .int x3)] → wd x A s.heap ((pcl x g o) a u ++ ex) H locs → K59 k n0 x2 x3 u → W p l e (rmN 8 bc bs) s m args below meth c H locs k n0 (MQ below (QeI x (pcl x g o) ex A Qc) args s bc bs A) (F0 m 59 ls [])) : ∀ (k n0 : Nat) (hk : k ≤ bc) (hn : n0 ≤ bs) (x3 : Int32) (t0 : Int32) (u : PS) (a : Nat → Nat) (ls : Array Slot) (H : Heap) (locs : List Loc), lv_has ls 4 [(0, .ref o), (3, .int x3)] → wd x A s.heap ((pcl x g o) a u ++ ex) H locs → B_B_run_104 Qc bc bs K59 k n0 x3 t0 u → W p l e (rmN 8 bc bs) s m args below meth c H locs k n0 (MQ below (QeI x (pcl x g o) ex A Qc) args s bc bs A) (F0 m 104 ls [.int t0]) := by
  intro k n0 hk hn x3 t0 u a ls H locs hl hw h
  refine lv_istore_n (lv' := [(2, .int t0), (0, .ref o), (3, .int x3)]) S.1 S.2.1 d_B_run_104 rfl hl (by decide) rfl (fun ls hl => ?_)
  refine lv_iload_n S.1 S.2.1 d_B_run_105 rfl (lv_at hl 0 rfl) ?_
  refine lv_if_ne (tgt := 59) S.1 S.2.1 d_B_run_106 (by decide) (fun q_106 => ?_) (fun q_106 => ?_)
  · have h := h.2 q_106
    exact ih59 k n0 hk hn t0 x3 u a _ _ _ (lv_sub hl [1, 0, 2] rfl) hw h
  · have h := h.1 q_106
    refine lv_aload_n S.1 S.2.1 d_B_run_109 rfl (lv_at hl 1 rfl) ?_
    obtain ⟨kc_110, nc_110, hk_110, hn_110, h⟩ := h
    refine w_ciE hA hw (w_rvE (rest := []) S hK hE hA hw (c_B_one l kc_110 nc_110  u _ _ h) (ci := 1) (q0 := 0) rfl rfl (w_cb (fr := 0) (lv := 0) S.2.2.2.2 k_767 k_764 k_1 yd_B_one rfl rfl ⟨Nat.le_of_ble_eq_true rfl, Nat.le_of_ble_eq_true rfl⟩) k_766 s_18 rfl hl.1 rfl (Nat.le_of_ble_eq_true rfl) d_B_run_110 ⟨hk_110, hn_110⟩) (fun r_110 u_110 a_110 H locs h hw => ?_)
    refine lv_if_ne (tgt := 59) S.1 S.2.1 d_B_run_113 (by decide) (fun q_113 => ?_) (fun q_113 => ?_)
    · have h := h.2 q_113
      exact ih59 (k + kc_110) (n0 + nc_110) hk_110 hn_110 t0 x3 u_110 a_110 _ _ _ (lv_sub hl [1, 0, 2] rfl) hw h
    · have h := h.1 q_113
      refine lv_aload_n S.1 S.2.1 d_B_run_116 rfl (lv_at hl 1 rfl) ?_
      refine pg_stopped S hK hw d_B_run_117 ?_
      refine lv_if_ne (tgt := 59) S.1 S.2.1 d_B_run_120 (by decide) (fun q_120 => ?_) (fun q_120 => ?_)
      · have h := h.2 q_120
        exact ih59 (k + kc_110) (n0 + nc_110) hk_110 hn_110 t0 x3 u_110 a_110 _ _ _ (lv_sub hl [1, 0, 2] rfl) hw h
      · have h := h.1 q_120
        refine lv_aload_n S.1 S.2.1 d_B_run_123 rfl (lv_at hl 1 rfl) ?_
        refine w_ciF hA hw (w_rvE (rest := []) S hK hE hA hw (c_B_back l  u_110 _ _ h) (ci := 1) (q0 := 0) rfl rfl (w_cb (fr := 0) (lv := 0) S.2.2.2.2 k_830 k_827 k_1 yd_B_back rfl rfl ⟨Nat.le_of_ble_eq_true rfl, Nat.le_of_ble_eq_true rfl⟩) k_829 s_32 rfl hl.1 rfl (Nat.le_of_ble_eq_true rfl) d_B_run_124 ⟨hk_110, hn_110⟩) (fun r_124 u_124 H locs h hw => ?_)
        refine lv_istore_n (lv' := [(3, .int r_124), (2, .int t0), (0, .ref o)]) S.1 S.2.1 d_B_run_127 rfl hl (by decide) rfl (fun ls hl => ?_)
        refine lv_goto (tgt := 59) S.1 S.2.1 d_B_run_128 (by decide) ?_
        exact ih59 (k + kc_110) (n0 + nc_110) hk_110 hn_110 t0 r_124 u_124 a_110 _ _ _ (lv_sub hl [2, 1, 0] rfl) hw h
set_option maxHeartbeats 4000000 in
set_option maxRecDepth 20000 in
theorem wB_B_run_103 (S : CallFix p m c b_B_run 4 s args lw_tg "PatternBench") (hr : meth.sig.returnType = some .boolean) (hlk : meth.locks = false) (hK : GK x s) (hE : EN g A s s.heap) (hA : ∀ q : Nat, s.heap.size ≤ q → A q) {Qc : Int32 → PS → Prop} {bc bs : Nat}  {K59 : Nat → Nat → Int32 → Int32 → PS → Prop} (ih59 : ∀ (k n0 : Nat) (hk : k ≤ bc) (hn : n0 ≤ bs) (x2 : Int32) (x3 : Int32) (u : PS) (a : Nat → Nat) (ls : Array Slot) (H : Heap) (locs : List Loc), lv_has ls 4 [(0, .ref o), (2, .int x2), (3, .int x3)] → wd x A s.heap ((pcl x g o) a u ++ ex) H locs → K59 k n0 x2 x3 u → W p l e (rmN 8 bc bs) s m args below meth c H locs k n0 (MQ below (QeI x (pcl x g o) ex A Qc) args s bc bs A) (F0 m 59 ls [])) : ∀ (k n0 : Nat) (hk : k ≤ bc) (hn : n0 ≤ bs) (x3 : Int32) (u : PS) (a : Nat → Nat) (ls : Array Slot) (H : Heap) (locs : List Loc), lv_has ls 4 [(0, .ref o), (3, .int x3)] → wd x A s.heap ((pcl x g o) a u ++ ex) H locs → B_B_run_103 Qc bc bs K59 k n0 x3 u → W p l e (rmN 8 bc bs) s m args below meth c H locs k n0 (MQ below (QeI x (pcl x g o) ex A Qc) args s bc bs A) (F0 m 103 ls []) := by
  intro k n0 hk hn x3 u a ls H locs hl hw h
  refine lv_iconst (v := 0) S.1 S.2.1 d_B_run_103 (by decide) ?_
  exact wB_B_run_104 S hr hlk hK hE hA ih59 k n0 hk hn x3 (0 : Int32) u a _ _ _ (lv_sub hl [0, 1] rfl) hw h
set_option maxHeartbeats 4000000 in
set_option maxRecDepth 20000 in
theorem wL_B_run_59 (S : CallFix p m c b_B_run 4 s args lw_tg "PatternBench") (hr : meth.sig.returnType = some .boolean) (hlk : meth.locks = false) (hK : GK x s) (hE : EN g A s s.heap) (hA : ∀ q : Nat, s.heap.size ≤ q → A q) {Qc : Int32 → PS → Prop} {bc bs : Nat}  : ∀ (n : Nat) (k n0 : Nat) (hk : k ≤ bc) (hn : n0 ≤ bs) (x2 : Int32) (x3 : Int32) (u : PS) (a : Nat → Nat) (ls : Array Slot) (H : Heap) (locs : List Loc), lv_has ls 4 [(0, .ref o), (2, .int x2), (3, .int x3)] → wd x A s.heap ((pcl x g o) a u ++ ex) H locs → L_B_run_59 Qc bc bs  n k n0 x2 x3 u → W p l e (rmN 8 bc bs) s m args below meth c H locs k n0 (MQ below (QeI x (pcl x g o) ex A Qc) args s bc bs A) (F0 m 59 ls []) := by
  intro n
  induction n with
  | zero =>
    intro k n0 hk hn x2 x3 u a ls H locs hl hw h
    exact absurd h id
  | succ n ih =>
    intro k n0 hk hn x2 x3 u a ls H locs hl hw h
    refine lv_iload_n S.1 S.2.1 d_B_run_59 rfl (lv_at hl 2 rfl) ?_
    refine lv_if_eq (tgt := 131) S.1 S.2.1 d_B_run_60 (by decide) (fun q_60 => ?_) (fun q_60 => ?_)
    · have h := h.1 q_60
      refine lv_iload_n S.1 S.2.1 d_B_run_131 rfl (lv_at hl 1 rfl) ?_
      refine W.widen (k := bc) (n := bs) hk hn ?_
      exact w_zretE S hr hlk h.1 hw h.2 d_B_run_132
    · have h := h.2 q_60
      refine lv_iload_n S.1 S.2.1 d_B_run_63 rfl (lv_at hl 1 rfl) ?_
      refine lv_if_ne (tgt := 131) S.1 S.2.1 d_B_run_64 (by decide) (fun q_64 => ?_) (fun q_64 => ?_)
      · have h := h.2 q_64
        refine lv_iload_n S.1 S.2.1 d_B_run_131 rfl (lv_at hl 1 rfl) ?_
        refine W.widen (k := bc) (n := bs) hk hn ?_
        exact w_zretE S hr hlk h.1 hw h.2 d_B_run_132
      · have h := h.1 q_64
        refine lv_aload_n S.1 S.2.1 d_B_run_67 rfl (lv_at hl 0 rfl) ?_
        refine pg_stopped S hK hw d_B_run_68 ?_
        refine lv_if_ne (tgt := 131) S.1 S.2.1 d_B_run_71 (by decide) (fun q_71 => ?_) (fun q_71 => ?_)
        · have h := h.2 q_71
          refine lv_iload_n S.1 S.2.1 d_B_run_131 rfl (lv_at hl 1 rfl) ?_
          refine W.widen (k := bc) (n := bs) hk hn ?_
          exact w_zretE S hr hlk h.1 hw h.2 d_B_run_132
        · have h := h.1 q_71
          refine lv_aload_n S.1 S.2.1 d_B_run_74 rfl (lv_at hl 0 rfl) ?_
          refine pg_ready S hK hw d_B_run_75 ?_
          refine pgr_op S hK hw d_B_run_78 ?_
          refine lv_aload_n S.1 S.2.1 d_B_run_81 rfl (lv_at hl 0 rfl) ?_
          refine pg_pc S hK hw d_B_run_82 ?_
          obtain ⟨hg, k_85, hk_85, he_85, h⟩ := h
          refine pl_opF S hK hw hg he_85 d_B_run_85 ?_
          refine p_op S hE hw.2.2 16 (by decide) rfl k_741 d_B_run_86 ?_
          refine lv_acmp_ne (rx := some (g.1 k_85)) (ry := some (g.1 16)) (tgt := 103) S.1 S.2.1 d_B_run_89 (by decide) (fun q_89 => ?_) (fun q_89 => ?_)
          · have h := h.2 (fun e9 => q_89 (by rw [e9]))
            exact wB_B_run_103 S hr hlk hK hE hA ih k n0 hk hn x3 u a _ _ _ (lv_sub hl [0, 2] rfl) hw h
          · have h := h.1 (hE.1.2 _ _ hk_85 (by decide) (Option.some.inj q_89))
            refine lv_aload_n S.1 S.2.1 d_B_run_92 rfl (lv_at hl 0 rfl) ?_
            refine pg_calls S hK hw d_B_run_93 ?_
            refine lv_if_ne (tgt := 103) S.1 S.2.1 d_B_run_96 (by decide) (fun q_96 => ?_) (fun q_96 => ?_)
            · have h := h.2 q_96
              exact wB_B_run_103 S hr hlk hK hE hA ih k n0 hk hn x3 u a _ _ _ (lv_sub hl [0, 2] rfl) hw h
            · have h := h.1 q_96
              refine lv_iconst (v := 1) S.1 S.2.1 d_B_run_99 (by decide) ?_
              refine lv_goto (tgt := 104) S.1 S.2.1 d_B_run_100 (by decide) ?_
              exact wB_B_run_104 S hr hlk hK hE hA ih k n0 hk hn x3 (1 : Int32) u a _ _ _ (lv_sub hl [0, 2] rfl) hw h
set_option maxHeartbeats 4000000 in
set_option maxRecDepth 20000 in
theorem wL_B_run_17 (S : CallFix p m c b_B_run 4 s args lw_tg "PatternBench") (hr : meth.sig.returnType = some .boolean) (hlk : meth.locks = false) (hK : GK x s) (hE : EN g A s s.heap) (hA : ∀ q : Nat, s.heap.size ≤ q → A q) {Qc : Int32 → PS → Prop} {bc bs : Nat}  : ∀ (n : Nat) (k n0 : Nat) (hk : k ≤ bc) (hn : n0 ≤ bs) (x1 : Int32) (x2 : Int32) (u : PS) (a : Nat → Nat) (ls : Array Slot) (H : Heap) (locs : List Loc), lv_has ls 4 [(0, .ref o), (1, .int x1), (2, .int x2)] → wd x A s.heap ((pcl x g o) a u ++ ex) H locs → L_B_run_17 Qc bc bs  n k n0 x1 x2 u → W p l e (rmN 8 bc bs) s m args below meth c H locs k n0 (MQ below (QeI x (pcl x g o) ex A Qc) args s bc bs A) (F0 m 17 ls []) := by
  intro n
  induction n with
  | zero =>
    intro k n0 hk hn x1 x2 u a ls H locs hl hw h
    exact absurd h id
  | succ n ih =>
    intro k n0 hk hn x1 x2 u a ls H locs hl hw h
    refine lv_iload_n S.1 S.2.1 d_B_run_17 rfl (lv_at hl 2 rfl) ?_
    refine lv_bipush (v := 10) S.1 S.2.1 d_B_run_18 (by decide) ?_
    refine lv_icmp_ge (tgt := 37) S.1 S.2.1 d_B_run_20 (by decide) (fun q_20 => ?_) (fun q_20 => ?_)
    · have h := h.1 q_20
      refine lv_aload_n S.1 S.2.1 d_B_run_37 rfl (lv_at hl 0 rfl) ?_
      refine lv_aload_n S.1 S.2.1 d_B_run_38 rfl (lv_at hl 0 rfl) ?_
      refine pg_ready S hK hw d_B_run_39 ?_
      refine pgr_entry S hK hw d_B_run_42 ?_
      refine lv_iconst (v := 0) S.1 S.2.1 d_B_run_45 (by decide) ?_
      have hg := h.1
      have h := h.2
      refine pl_en S hK hw hg d_B_run_46 ?_
      refine pp_pc S hK hw d_B_run_47 (fun H locs hw => ?_)
      refine lv_aload_n S.1 S.2.1 d_B_run_50 rfl (lv_at hl 0 rfl) ?_
      refine lv_iload_n S.1 S.2.1 d_B_run_51 rfl (lv_at hl 1 rfl) ?_
      refine pp_place S hK hw d_B_run_52 (fun H locs hw => ?_)
      refine lv_iconst (v := 0) S.1 S.2.1 d_B_run_55 (by decide) ?_
      refine lv_istore_n (lv' := [(2, .int (0 : Int32)), (0, .ref o), (1, .int x1)]) S.1 S.2.1 d_B_run_56 rfl hl (by decide) rfl (fun ls hl => ?_)
      refine lv_iconst (v := 1) S.1 S.2.1 d_B_run_57 (by decide) ?_
      refine lv_istore_n (lv' := [(3, .int (1 : Int32)), (2, .int (0 : Int32)), (0, .ref o), (1, .int x1)]) S.1 S.2.1 d_B_run_58 rfl hl (by decide) rfl (fun ls hl => ?_)
      obtain ⟨n9, h⟩ := h
      exact wL_B_run_59 S hr hlk hK hE hA  n9 k n0 hk hn (0 : Int32) (1 : Int32) (ps_place (ps_pc u (p_en u (0 : Int32).toNatClampNeg)) x1) a _ _ _ (lv_sub hl [2, 1, 0] rfl) hw h
    · have h := h.2 q_20
      refine lv_aload_n S.1 S.2.1 d_B_run_23 rfl (lv_at hl 0 rfl) ?_
      refine pg_captures S hK hw d_B_run_24 ?_
      refine lv_iload_n S.1 S.2.1 d_B_run_27 rfl (lv_at hl 2 rfl) ?_
      refine lv_bipush (v := -6) S.1 S.2.1 d_B_run_28 (by decide) ?_
      have hg := h.1
      have h := h.2
      refine pt_cF S hK hw hg d_B_run_30 (fun H locs hw => ?_)
      obtain ⟨x2_31, ex2_31⟩ : ∃ y : Int32, y = x2 + 1 := ⟨_, rfl⟩
      have h := h x2_31 ex2_31
      refine lv_iinc (v := x2_31) (lv' := [(2, .int x2_31), (0, .ref o), (1, .int x1)]) S.1 S.2.1 d_B_run_31 hl (k := 2) rfl (by rw [ex2_31]; rfl) (by decide) rfl (fun ls hl => ?_)
      refine lv_goto (tgt := 17) S.1 S.2.1 d_B_run_34 (by decide) ?_
      exact ih k n0 hk hn x1 x2_31 (ps_cF u (upd (p_cF u) x2.toNatClampNeg (-6 : Int32))) a _ _ _ (lv_sub hl [1, 2, 0] rfl) hw h
set_option maxHeartbeats 4000000 in
set_option maxRecDepth 20000 in
theorem c_B_run {x : GX} {g : GE} {o : Nat} {ex : va_W} {a : Nat → Nat} (l : Launch) (bc bs : Nat) (x1 : Int32) (u : PS) (sz : Nat) (Qc : Int32 → PS → Prop) (h : P_B_run bc bs x1 u Qc) : Met l y_B_run (wM y_B_run b_B_run 4 (some .boolean)) (rmN 8 bc bs) (PreE x g (pcl x g o) ex [.ref o, .int x1] a u sz) (QeI x (pcl x g o) ex (va_A ((pcl x g o) a u ++ ex) sz) Qc) bc bs (va_A ((pcl x g o) a u ++ ex) sz) := by
  refine w_enterE (by decide +kernel) (Nat.le_of_ble_eq_true rfl) (fun p e s m args below meth c S hr hlk hnm hK hE hA hw ls hl => ?_)
  have hl : lv_has ls 4 [(0, .ref o), (1, .int x1)] := hl
  refine lv_aload_n S.1 S.2.1 d_B_run_0 rfl (lv_at hl 0 rfl) ?_
  refine lv_iconst (v := 0) S.1 S.2.1 d_B_run_1 (by decide) ?_
  refine pp_height S hK hw d_B_run_2 (fun H locs hw => ?_)
  refine lv_aload_n S.1 S.2.1 d_B_run_5 rfl (lv_at hl 0 rfl) ?_
  refine lv_iconst (v := 0) S.1 S.2.1 d_B_run_6 (by decide) ?_
  refine pp_marked S hK hw d_B_run_7 (fun H locs hw => ?_)
  refine lv_aload_n S.1 S.2.1 d_B_run_10 rfl (lv_at hl 0 rfl) ?_
  refine lv_iconst (v := 0) S.1 S.2.1 d_B_run_11 (by decide) ?_
  refine pp_calls S hK hw d_B_run_12 (fun H locs hw => ?_)
  refine lv_iconst (v := 0) S.1 S.2.1 d_B_run_15 (by decide) ?_
  refine lv_istore_n (lv' := [(2, .int (0 : Int32)), (0, .ref o), (1, .int x1)]) S.1 S.2.1 d_B_run_16 rfl hl (by decide) rfl (fun ls hl => ?_)
  obtain ⟨n9, h⟩ := h
  exact wL_B_run_17 S hr hlk hK hE hA  n9 0 0 (Nat.zero_le _) (Nat.zero_le _) x1 (0 : Int32) (ps_calls (ps_marked (ps_height u (0 : Int32)) (0 : Int32)) (0 : Int32)) a _ _ _ (lv_sub hl [1, 2, 0] rfl) hw h
end PW
