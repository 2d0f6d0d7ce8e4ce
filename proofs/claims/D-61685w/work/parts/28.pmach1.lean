abbrev b_B_step : ByteArray := prog_1_method_26_code
def y_B_step : MethodName := ⟨"PatternBench", "step", "()Z"⟩
theorem yd_B_step : y_B_step.cls ≠ "java/lang/invoke/MethodHandle" ∧ y_B_step.cls ≠ "java/lang/invoke/VarHandle" ∧ (parseMethodDescriptor y_B_step.desc).map (fun d => d.parameters.length) = some 0 := by decide +kernel
theorem d_B_step_0 : decode b_B_step 0 = .ok (.aload_n 0, 1) := by decide +kernel
theorem d_B_step_1 : decode b_B_step 1 = .ok (.getfield 248, 3) := by decide +kernel
theorem d_B_step_4 : decode b_B_step 4 = .ok (.aload_n 0, 1) := by decide +kernel
theorem d_B_step_5 : decode b_B_step 5 = .ok (.getfield 54, 3) := by decide +kernel
theorem d_B_step_8 : decode b_B_step 8 = .ok (.if_icmp .ne 11, 3) := by decide +kernel
theorem d_B_step_11 : decode b_B_step 11 = .ok (.aload_n 0, 1) := by decide +kernel
theorem d_B_step_12 : decode b_B_step 12 = .ok (.iconst 1, 1) := by decide +kernel
theorem d_B_step_13 : decode b_B_step 13 = .ok (.putfield 251, 3) := by decide +kernel
theorem d_B_step_16 : decode b_B_step 16 = .ok (.goto 13, 3) := by decide +kernel
theorem d_B_step_19 : decode b_B_step 19 = .ok (.aload_n 0, 1) := by decide +kernel
theorem d_B_step_20 : decode b_B_step 20 = .ok (.dup, 1) := by decide +kernel
theorem d_B_step_21 : decode b_B_step 21 = .ok (.getfield 248, 3) := by decide +kernel
theorem d_B_step_24 : decode b_B_step 24 = .ok (.iconst 1, 1) := by decide +kernel
theorem d_B_step_25 : decode b_B_step 25 = .ok (.iadd, 1) := by decide +kernel
theorem d_B_step_26 : decode b_B_step 26 = .ok (.putfield 248, 3) := by decide +kernel
theorem d_B_step_29 : decode b_B_step 29 = .ok (.aload_n 0, 1) := by decide +kernel
theorem d_B_step_30 : decode b_B_step 30 = .ok (.getfield 251, 3) := by decide +kernel
theorem d_B_step_33 : decode b_B_step 33 = .ok (.ifCond .ne 7, 3) := by decide +kernel
theorem d_B_step_36 : decode b_B_step 36 = .ok (.iconst 1, 1) := by decide +kernel
theorem d_B_step_37 : decode b_B_step 37 = .ok (.goto 4, 3) := by decide +kernel
theorem d_B_step_40 : decode b_B_step 40 = .ok (.iconst 0, 1) := by decide +kernel
theorem d_B_step_41 : decode b_B_step 41 = .ok (.ireturn, 1) := by decide +kernel
def B_B_step_29 (Qc : Int32 → PS → Prop)   (u : PS) : Prop := (((p_stopped u) = (0 : Int32) → Qc (1 : Int32) u) ∧ (¬ (p_stopped u) = (0 : Int32) → Qc (0 : Int32) u))
def P_B_step  (u : PS) (Qc : Int32 → PS → Prop) : Prop := (((p_steps u) = (p_limit u) → B_B_step_29 Qc   (ps_stopped u (1 : Int32))) ∧ (¬ (p_steps u) = (p_limit u) → B_B_step_29 Qc   (ps_steps u ((p_steps u) + (1 : Int32)))))
section PW
variable {p : Program} {l : Launch} {e : Env} {s : State} {m : MethodId} {args : Array Value} {below : List Frame} {meth : Method} {c : Code} {x : GX} {g : GE} {ex : va_W} {a : Nat → Nat} {A : Nat → Prop} {o : Nat}
set_option maxHeartbeats 4000000 in
set_option maxRecDepth 20000 in
theorem wB_B_step_29 (S : CallFix p m c b_B_step 1 s args lw_tg "PatternBench") (hr : meth.sig.returnType = some .boolean) (hlk : meth.locks = false) (hK : GK x s) (hE : EN g A s s.heap) (hA : ∀ q : Nat, s.heap.size ≤ q → A q) {Qc : Int32 → PS → Prop}  : ∀  (u : PS) (ls : Array Slot) (H : Heap) (locs : List Loc), lv_has ls 1 [(0, .ref o)] → wd x A s.heap ((pcl x g o) a u ++ ex) H locs → B_B_step_29 Qc   u → W p l e (rmN 0 0 0) s m args below meth c H locs 0 0 (MQ below (QfI x (pcl x g o) ex a A Qc) args s 0 0 A) (F0 m 29 ls []) := by
  intro  u ls H locs hl hw h
  refine lv_aload_n S.1 S.2.1 d_B_step_29 rfl (lv_at hl 0 rfl) ?_
  refine pg_stopped S hK hw d_B_step_30 ?_
  refine lv_if_ne (tgt := 40) S.1 S.2.1 d_B_step_33 (by decide) (fun q_33 => ?_) (fun q_33 => ?_)
  · have h := h.2 q_33
    refine lv_iconst (v := 0) S.1 S.2.1 d_B_step_40 (by decide) ?_
    exact w_zretF S hr hlk isB0 hw h d_B_step_41
  · have h := h.1 q_33
    refine lv_iconst (v := 1) S.1 S.2.1 d_B_step_36 (by decide) ?_
    refine lv_goto (tgt := 41) S.1 S.2.1 d_B_step_37 (by decide) ?_
    exact w_zretF S hr hlk isB1 hw h d_B_step_41
set_option maxHeartbeats 4000000 in
set_option maxRecDepth 20000 in
theorem c_B_step {x : GX} {g : GE} {o : Nat} {ex : va_W} {a : Nat → Nat} (l : Launch)  (u : PS) (sz : Nat) (Qc : Int32 → PS → Prop) (h : P_B_step  u Qc) : Met l y_B_step (wM y_B_step b_B_step 1 (some .boolean)) (rmN 0 0 0) (PreE x g (pcl x g o) ex [.ref o] a u sz) (QfI x (pcl x g o) ex a (va_A ((pcl x g o) a u ++ ex) sz) Qc) 0 0 (va_A ((pcl x g o) a u ++ ex) sz) := by
  refine w_enterE (by decide +kernel) (Nat.le_of_ble_eq_true rfl) (fun p e s m args below meth c S hr hlk hnm hK hE hA hw ls hl => ?_)
  have hl : lv_has ls 1 [(0, .ref o)] := hl
  refine lv_aload_n S.1 S.2.1 d_B_step_0 rfl (lv_at hl 0 rfl) ?_
  refine pg_steps S hK hw d_B_step_1 ?_
  refine lv_aload_n S.1 S.2.1 d_B_step_4 rfl (lv_at hl 0 rfl) ?_
  refine pg_limit S hK hw d_B_step_5 ?_
  refine lv_icmp_ne (tgt := 19) S.1 S.2.1 d_B_step_8 (by decide) (fun q_8 => ?_) (fun q_8 => ?_)
  · have h := h.2 q_8
    refine lv_aload_n S.1 S.2.1 d_B_step_19 rfl (lv_at hl 0 rfl) ?_
    refine lv_dup S.1 S.2.1 d_B_step_20 rfl ?_
    refine pg_steps S hK hw d_B_step_21 ?_
    refine lv_iconst (v := 1) S.1 S.2.1 d_B_step_24 (by decide) ?_
    refine lv_iadd S.1 S.2.1 d_B_step_25 ?_
    refine pp_steps S hK hw d_B_step_26 (fun H locs hw => ?_)
    exact wB_B_step_29 S hr hlk hK hE hA   (ps_steps u ((p_steps u) + (1 : Int32))) _ _ _ (lv_sub hl [0] rfl) hw h
  · have h := h.1 q_8
    refine lv_aload_n S.1 S.2.1 d_B_step_11 rfl (lv_at hl 0 rfl) ?_
    refine lv_iconst (v := 1) S.1 S.2.1 d_B_step_12 (by decide) ?_
    refine pp_stopped S hK hw isB1 d_B_step_13 (fun H locs hw => ?_)
    refine lv_goto (tgt := 29) S.1 S.2.1 d_B_step_16 (by decide) ?_
    exact wB_B_step_29 S hr hlk hK hE hA   (ps_stopped u (1 : Int32)) _ _ _ (lv_sub hl [0] rfl) hw h
end PW
abbrev b_B_log : ByteArray := prog_1_method_20_code
def y_B_log : MethodName := ⟨"PatternBench", "log", "(III)V"⟩
theorem yd_B_log : y_B_log.cls ≠ "java/lang/invoke/MethodHandle" ∧ y_B_log.cls ≠ "java/lang/invoke/VarHandle" ∧ (parseMethodDescriptor y_B_log.desc).map (fun d => d.parameters.length) = some 3 := by decide +kernel
theorem d_B_log_0 : decode b_B_log 0 = .ok (.aload_n 0, 1) := by decide +kernel
theorem d_B_log_1 : decode b_B_log 1 = .ok (.getfield 225, 3) := by decide +kernel
theorem d_B_log_4 : decode b_B_log 4 = .ok (.iconst 3, 1) := by decide +kernel
theorem d_B_log_5 : decode b_B_log 5 = .ok (.iadd, 1) := by decide +kernel
theorem d_B_log_6 : decode b_B_log 6 = .ok (.aload_n 0, 1) := by decide +kernel
theorem d_B_log_7 : decode b_B_log 7 = .ok (.getfield 32, 3) := by decide +kernel
theorem d_B_log_10 : decode b_B_log 10 = .ok (.arraylength, 1) := by decide +kernel
theorem d_B_log_11 : decode b_B_log 11 = .ok (.if_icmp .le 14, 3) := by decide +kernel
theorem d_B_log_14 : decode b_B_log 14 = .ok (.aload_n 0, 1) := by decide +kernel
theorem d_B_log_15 : decode b_B_log 15 = .ok (.aload_n 0, 1) := by decide +kernel
theorem d_B_log_16 : decode b_B_log 16 = .ok (.getfield 32, 3) := by decide +kernel
theorem d_B_log_19 : decode b_B_log 19 = .ok (.invokestatic 228, 3) := by decide +kernel
theorem d_B_log_22 : decode b_B_log 22 = .ok (.putfield 32, 3) := by decide +kernel
theorem d_B_log_25 : decode b_B_log 25 = .ok (.aload_n 0, 1) := by decide +kernel
theorem d_B_log_26 : decode b_B_log 26 = .ok (.getfield 32, 3) := by decide +kernel
theorem d_B_log_29 : decode b_B_log 29 = .ok (.aload_n 0, 1) := by decide +kernel
theorem d_B_log_30 : decode b_B_log 30 = .ok (.getfield 225, 3) := by decide +kernel
theorem d_B_log_33 : decode b_B_log 33 = .ok (.iload_n 1, 1) := by decide +kernel
theorem d_B_log_34 : decode b_B_log 34 = .ok (.iastore, 1) := by decide +kernel
theorem d_B_log_35 : decode b_B_log 35 = .ok (.aload_n 0, 1) := by decide +kernel
theorem d_B_log_36 : decode b_B_log 36 = .ok (.getfield 32, 3) := by decide +kernel
theorem d_B_log_39 : decode b_B_log 39 = .ok (.aload_n 0, 1) := by decide +kernel
theorem d_B_log_40 : decode b_B_log 40 = .ok (.getfield 225, 3) := by decide +kernel
theorem d_B_log_43 : decode b_B_log 43 = .ok (.iconst 1, 1) := by decide +kernel
theorem d_B_log_44 : decode b_B_log 44 = .ok (.iadd, 1) := by decide +kernel
theorem d_B_log_45 : decode b_B_log 45 = .ok (.iload_n 2, 1) := by decide +kernel
theorem d_B_log_46 : decode b_B_log 46 = .ok (.iastore, 1) := by decide +kernel
theorem d_B_log_47 : decode b_B_log 47 = .ok (.aload_n 0, 1) := by decide +kernel
theorem d_B_log_48 : decode b_B_log 48 = .ok (.getfield 32, 3) := by decide +kernel
theorem d_B_log_51 : decode b_B_log 51 = .ok (.aload_n 0, 1) := by decide +kernel
theorem d_B_log_52 : decode b_B_log 52 = .ok (.getfield 225, 3) := by decide +kernel
theorem d_B_log_55 : decode b_B_log 55 = .ok (.iconst 2, 1) := by decide +kernel
theorem d_B_log_56 : decode b_B_log 56 = .ok (.iadd, 1) := by decide +kernel
theorem d_B_log_57 : decode b_B_log 57 = .ok (.iload_n 3, 1) := by decide +kernel
theorem d_B_log_58 : decode b_B_log 58 = .ok (.iastore, 1) := by decide +kernel
theorem d_B_log_59 : decode b_B_log 59 = .ok (.aload_n 0, 1) := by decide +kernel
theorem d_B_log_60 : decode b_B_log 60 = .ok (.dup, 1) := by decide +kernel
theorem d_B_log_61 : decode b_B_log 61 = .ok (.getfield 225, 3) := by decide +kernel
theorem d_B_log_64 : decode b_B_log 64 = .ok (.iconst 3, 1) := by decide +kernel
theorem d_B_log_65 : decode b_B_log 65 = .ok (.iadd, 1) := by decide +kernel
theorem d_B_log_66 : decode b_B_log 66 = .ok (.putfield 225, 3) := by decide +kernel
theorem d_B_log_69 : decode b_B_log 69 = .ok (.return_, 1) := by decide +kernel
def B_B_log_25 (Qc : PS → Prop) (bc bs : Nat)  (k n0 : Nat) (x1 : Int32) (x2 : Int32) (x3 : Int32) (u : PS) : Prop := (vp_in (p_height u) (p_tN u) ∧ (vp_in ((p_height (ps_tF u (upd (p_tF u) (p_height u).toNatClampNeg x1))) + (1 : Int32)) (p_tN (ps_tF u (upd (p_tF u) (p_height u).toNatClampNeg x1))) ∧ (vp_in ((p_height (ps_tF (ps_tF u (upd (p_tF u) (p_height u).toNatClampNeg x1)) (upd (p_tF (ps_tF u (upd (p_tF u) (p_height u).toNatClampNeg x1))) ((p_height (ps_tF u (upd (p_tF u) (p_height u).toNatClampNeg x1))) + (1 : Int32)).toNatClampNeg x2))) + (2 : Int32)) (p_tN (ps_tF (ps_tF u (upd (p_tF u) (p_height u).toNatClampNeg x1)) (upd (p_tF (ps_tF u (upd (p_tF u) (p_height u).toNatClampNeg x1))) ((p_height (ps_tF u (upd (p_tF u) (p_height u).toNatClampNeg x1))) + (1 : Int32)).toNatClampNeg x2))) ∧ Qc (ps_height (ps_tF (ps_tF (ps_tF u (upd (p_tF u) (p_height u).toNatClampNeg x1)) (upd (p_tF (ps_tF u (upd (p_tF u) (p_height u).toNatClampNeg x1))) ((p_height (ps_tF u (upd (p_tF u) (p_height u).toNatClampNeg x1))) + (1 : Int32)).toNatClampNeg x2)) (upd (p_tF (ps_tF (ps_tF u (upd (p_tF u) (p_height u).toNatClampNeg x1)) (upd (p_tF (ps_tF u (upd (p_tF u) (p_height u).toNatClampNeg x1))) ((p_height (ps_tF u (upd (p_tF u) (p_height u).toNatClampNeg x1))) + (1 : Int32)).toNatClampNeg x2))) ((p_height (ps_tF (ps_tF u (upd (p_tF u) (p_height u).toNatClampNeg x1)) (upd (p_tF (ps_tF u (upd (p_tF u) (p_height u).toNatClampNeg x1))) ((p_height (ps_tF u (upd (p_tF u) (p_height u).toNatClampNeg x1))) + (1 : Int32)).toNatClampNeg x2))) + (2 : Int32)).toNatClampNeg x3)) ((p_height (ps_tF (ps_tF (ps_tF u (upd (p_tF u) (p_height u).toNatClampNeg x1)) (upd (p_tF (ps_tF u (upd (p_tF u) (p_height u).toNatClampNeg x1))) ((p_height (ps_tF u (upd (p_tF u) (p_height u).toNatClampNeg x1))) + (1 : Int32)).toNatClampNeg x2)) (upd (p_tF (ps_tF (ps_tF u (upd (p_tF u) (p_height u).toNatClampNeg x1)) (upd (p_tF (ps_tF u (upd (p_tF u) (p_height u).toNatClampNeg x1))) ((p_height (ps_tF u (upd (p_tF u) (p_height u).toNatClampNeg x1))) + (1 : Int32)).toNatClampNeg x2))) ((p_height (ps_tF (ps_tF u (upd (p_tF u) (p_height u).toNatClampNeg x1)) (upd (p_tF (ps_tF u (upd (p_tF u) (p_height u).toNatClampNeg x1))) ((p_height (ps_tF u (upd (p_tF u) (p_height u).toNatClampNeg x1))) + (1 : Int32)).toNatClampNeg x2))) + (2 : Int32)).toNatClampNeg x3))) + (3 : Int32))))))
def P_B_log (bc bs : Nat) (x1 : Int32) (x2 : Int32) (x3 : Int32) (u : PS) (Qc : PS → Prop) : Prop := ((((p_height u) + (3 : Int32)) ≤ (nI (p_tN u)) → B_B_log_25 Qc bc bs  0 0 x1 x2 x3 u) ∧ (¬ ((p_height u) + (3 : Int32)) ≤ (nI (p_tN u)) → (p_tN u ≤ 2 ^ 26 ∧ 0 + 1 ≤ bc ∧ 0 + 2 * p_tN u ≤ bs ∧ B_B_log_25 Qc bc bs  (0 + 1) (0 + 2 * p_tN u) x1 x2 x3 (p_growT u))))
section PW
variable {p : Program} {l : Launch} {e : Env} {s : State} {m : MethodId} {args : Array Value} {below : List Frame} {meth : Method} {c : Code} {x : GX} {g : GE} {ex : va_W} {a : Nat → Nat} {A : Nat → Prop} {o : Nat}
set_option maxHeartbeats 4000000 in
set_option maxRecDepth 20000 in
theorem wB_B_log_25 (S : CallFix p m c b_B_log 4 s args lw_tg "PatternBench") (hr : meth.sig.returnType = none) (hlk : meth.locks = false) (hK : GK x s) (hE : EN g A s s.heap) (hA : ∀ q : Nat, s.heap.size ≤ q → A q) {Qc : PS → Prop} {bc bs : Nat}  : ∀ (k n0 : Nat) (hk : k ≤ bc) (hn : n0 ≤ bs) (x1 : Int32) (x2 : Int32) (x3 : Int32) (u : PS) (a : Nat → Nat) (ls : Array Slot) (H : Heap) (locs : List Loc), lv_has ls 4 [(0, .ref o), (1, .int x1), (2, .int x2), (3, .int x3)] → wd x A s.heap ((pcl x g o) a u ++ ex) H locs → B_B_log_25 Qc bc bs  k n0 x1 x2 x3 u → W p l e (rmN 1 bc bs) s m args below meth c H locs k n0 (MQ below (QeV x (pcl x g o) ex A Qc) args s bc bs A) (F0 m 25 ls []) := by
  intro k n0 hk hn x1 x2 x3 u a ls H locs hl hw h
  refine lv_aload_n S.1 S.2.1 d_B_log_25 rfl (lv_at hl 0 rfl) ?_
  refine pg_trail S hK hw d_B_log_26 ?_
  refine lv_aload_n S.1 S.2.1 d_B_log_29 rfl (lv_at hl 0 rfl) ?_
  refine pg_height S hK hw d_B_log_30 ?_
  refine lv_iload_n S.1 S.2.1 d_B_log_33 rfl (lv_at hl 1 rfl) ?_
  have hg := h.1
  have h := h.2
  refine pt_tF S hK hw hg d_B_log_34 (fun H locs hw => ?_)
  refine lv_aload_n S.1 S.2.1 d_B_log_35 rfl (lv_at hl 0 rfl) ?_
  refine pg_trail S hK hw d_B_log_36 ?_
  refine lv_aload_n S.1 S.2.1 d_B_log_39 rfl (lv_at hl 0 rfl) ?_
  refine pg_height S hK hw d_B_log_40 ?_
  refine lv_iconst (v := 1) S.1 S.2.1 d_B_log_43 (by decide) ?_
  refine lv_iadd S.1 S.2.1 d_B_log_44 ?_
  refine lv_iload_n S.1 S.2.1 d_B_log_45 rfl (lv_at hl 2 rfl) ?_
  have hg := h.1
  have h := h.2
  refine pt_tF S hK hw hg d_B_log_46 (fun H locs hw => ?_)
  refine lv_aload_n S.1 S.2.1 d_B_log_47 rfl (lv_at hl 0 rfl) ?_
  refine pg_trail S hK hw d_B_log_48 ?_
  refine lv_aload_n S.1 S.2.1 d_B_log_51 rfl (lv_at hl 0 rfl) ?_
  refine pg_height S hK hw d_B_log_52 ?_
  refine lv_iconst (v := 2) S.1 S.2.1 d_B_log_55 (by decide) ?_
  refine lv_iadd S.1 S.2.1 d_B_log_56 ?_
  refine lv_iload_n S.1 S.2.1 d_B_log_57 rfl (lv_at hl 3 rfl) ?_
  have hg := h.1
  have h := h.2
  refine pt_tF S hK hw hg d_B_log_58 (fun H locs hw => ?_)
  refine lv_aload_n S.1 S.2.1 d_B_log_59 rfl (lv_at hl 0 rfl) ?_
  refine lv_dup S.1 S.2.1 d_B_log_60 rfl ?_
  refine pg_height S hK hw d_B_log_61 ?_
  refine lv_iconst (v := 3) S.1 S.2.1 d_B_log_64 (by decide) ?_
  refine lv_iadd S.1 S.2.1 d_B_log_65 ?_
  refine pp_height S hK hw d_B_log_66 (fun H locs hw => ?_)
  refine W.widen (k := bc) (n := bs) hk hn ?_
  exact w_vretE S hr hlk hw h d_B_log_69
set_option maxHeartbeats 4000000 in
set_option maxRecDepth 20000 in
theorem c_B_log {x : GX} {g : GE} {o : Nat} {ex : va_W} {a : Nat → Nat} (l : Launch) (bc bs : Nat) (x1 : Int32) (x2 : Int32) (x3 : Int32) (u : PS) (sz : Nat) (Qc : PS → Prop) (h : P_B_log bc bs x1 x2 x3 u Qc) : Met l y_B_log (wM y_B_log b_B_log 4 none) (rmN 1 bc bs) (PreE x g (pcl x g o) ex [.ref o, .int x1, .int x2, .int x3] a u sz) (QeV x (pcl x g o) ex (va_A ((pcl x g o) a u ++ ex) sz) Qc) bc bs (va_A ((pcl x g o) a u ++ ex) sz) := by
  refine w_enterE (by decide +kernel) (Nat.le_of_ble_eq_true rfl) (fun p e s m args below meth c S hr hlk hnm hK hE hA hw ls hl => ?_)
  have hl : lv_has ls 4 [(0, .ref o), (1, .int x1), (2, .int x2), (3, .int x3)] := hl
  refine lv_aload_n S.1 S.2.1 d_B_log_0 rfl (lv_at hl 0 rfl) ?_
  refine pg_height S hK hw d_B_log_1 ?_
  refine lv_iconst (v := 3) S.1 S.2.1 d_B_log_4 (by decide) ?_
  refine lv_iadd S.1 S.2.1 d_B_log_5 ?_
  refine lv_aload_n S.1 S.2.1 d_B_log_6 rfl (lv_at hl 0 rfl) ?_
  refine pg_trail S hK hw d_B_log_7 ?_
  refine pn_tN S hK hw d_B_log_10 ?_
  refine lv_icmp_le (tgt := 25) S.1 S.2.1 d_B_log_11 (by decide) (fun q_11 => ?_) (fun q_11 => ?_)
  · have h := h.1 q_11
    exact wB_B_log_25 S hr hlk hK hE hA  0 0 (Nat.zero_le _) (Nat.zero_le _) x1 x2 x3 u a _ _ _ (lv_sub hl [0, 1, 2, 3] rfl) hw h
  · have h := h.2 q_11
    refine lv_aload_n S.1 S.2.1 d_B_log_14 rfl (lv_at hl 0 rfl) ?_
    refine lv_aload_n S.1 S.2.1 d_B_log_15 rfl (lv_at hl 0 rfl) ?_
    refine pg_trail S hK hw d_B_log_16 ?_
    obtain ⟨hz_19, hk_19, hn_19, h⟩ := h
    refine p_longT (R := rmN 1 bc bs) (cells := 0) (slots := 0) S hK hE hA hw hz_19 (Nat.le_of_ble_eq_true rfl) (Nat.le_of_ble_eq_true rfl) hl.1 ⟨hk_19, hn_19⟩ d_B_log_19 d_B_log_22 (fun a_19 H locs hw => ?_)
    exact wB_B_log_25 S hr hlk hK hE hA  (0 + 1) (0 + 2 * p_tN u) hk_19 hn_19 x1 x2 x3 (p_growT u) a_19 _ _ _ (lv_sub hl [0, 1, 2, 3] rfl) hw h
end PW
abbrev b_B_push : ByteArray := prog_1_method_21_code
def y_B_push : MethodName := ⟨"PatternBench", "push", "(I)V"⟩
theorem yd_B_push : y_B_push.cls ≠ "java/lang/invoke/MethodHandle" ∧ y_B_push.cls ≠ "java/lang/invoke/VarHandle" ∧ (parseMethodDescriptor y_B_push.desc).map (fun d => d.parameters.length) = some 1 := by decide +kernel
theorem d_B_push_0 : decode b_B_push 0 = .ok (.aload_n 0, 1) := by decide +kernel
theorem d_B_push_1 : decode b_B_push 1 = .ok (.getfield 232, 3) := by decide +kernel
theorem d_B_push_4 : decode b_B_push 4 = .ok (.aload_n 0, 1) := by decide +kernel
theorem d_B_push_5 : decode b_B_push 5 = .ok (.getfield 39, 3) := by decide +kernel
theorem d_B_push_8 : decode b_B_push 8 = .ok (.arraylength, 1) := by decide +kernel
theorem d_B_push_9 : decode b_B_push 9 = .ok (.if_icmp .ne 14, 3) := by decide +kernel
theorem d_B_push_12 : decode b_B_push 12 = .ok (.aload_n 0, 1) := by decide +kernel
theorem d_B_push_13 : decode b_B_push 13 = .ok (.aload_n 0, 1) := by decide +kernel
theorem d_B_push_14 : decode b_B_push 14 = .ok (.getfield 39, 3) := by decide +kernel
theorem d_B_push_17 : decode b_B_push 17 = .ok (.invokestatic 228, 3) := by decide +kernel
theorem d_B_push_20 : decode b_B_push 20 = .ok (.putfield 39, 3) := by decide +kernel
theorem d_B_push_23 : decode b_B_push 23 = .ok (.aload_n 0, 1) := by decide +kernel
theorem d_B_push_24 : decode b_B_push 24 = .ok (.getfield 39, 3) := by decide +kernel
theorem d_B_push_27 : decode b_B_push 27 = .ok (.aload_n 0, 1) := by decide +kernel
theorem d_B_push_28 : decode b_B_push 28 = .ok (.getfield 232, 3) := by decide +kernel
theorem d_B_push_31 : decode b_B_push 31 = .ok (.iload_n 1, 1) := by decide +kernel
theorem d_B_push_32 : decode b_B_push 32 = .ok (.iastore, 1) := by decide +kernel
theorem d_B_push_33 : decode b_B_push 33 = .ok (.aload_n 0, 1) := by decide +kernel
theorem d_B_push_34 : decode b_B_push 34 = .ok (.dup, 1) := by decide +kernel
theorem d_B_push_35 : decode b_B_push 35 = .ok (.getfield 232, 3) := by decide +kernel
theorem d_B_push_38 : decode b_B_push 38 = .ok (.iconst 1, 1) := by decide +kernel
theorem d_B_push_39 : decode b_B_push 39 = .ok (.iadd, 1) := by decide +kernel
theorem d_B_push_40 : decode b_B_push 40 = .ok (.putfield 232, 3) := by decide +kernel
theorem d_B_push_43 : decode b_B_push 43 = .ok (.aload_n 0, 1) := by decide +kernel
theorem d_B_push_44 : decode b_B_push 44 = .ok (.iconst 1, 1) := by decide +kernel
theorem d_B_push_45 : decode b_B_push 45 = .ok (.iconst 0, 1) := by decide +kernel
theorem d_B_push_46 : decode b_B_push 46 = .ok (.iconst 0, 1) := by decide +kernel
theorem d_B_push_47 : decode b_B_push 47 = .ok (.invokevirtual 235, 3) := by decide +kernel
theorem d_B_push_50 : decode b_B_push 50 = .ok (.return_, 1) := by decide +kernel
def B_B_push_23 (Qc : PS → Prop) (bc bs : Nat)  (k n0 : Nat) (x1 : Int32) (u : PS) : Prop := (vp_in (p_marked u) (p_kN u) ∧ (∃ kc_47 nc_47 : Nat, k + kc_47 ≤ bc ∧ n0 + nc_47 ≤ bs ∧ P_B_log kc_47 nc_47 (1 : Int32) (0 : Int32) (0 : Int32) (ps_marked (ps_kF u (upd (p_kF u) (p_marked u).toNatClampNeg x1)) ((p_marked (ps_kF u (upd (p_kF u) (p_marked u).toNatClampNeg x1))) + (1 : Int32))) (fun u_47 => Qc u_47)))
def P_B_push (bc bs : Nat) (x1 : Int32) (u : PS) (Qc : PS → Prop) : Prop := (((p_marked u) = (nI (p_kN u)) → (p_kN u ≤ 2 ^ 26 ∧ 0 + 1 ≤ bc ∧ 0 + 2 * p_kN u ≤ bs ∧ B_B_push_23 Qc bc bs  (0 + 1) (0 + 2 * p_kN u) x1 (p_growK u))) ∧ (¬ (p_marked u) = (nI (p_kN u)) → B_B_push_23 Qc bc bs  0 0 x1 u))
section PW
variable {p : Program} {l : Launch} {e : Env} {s : State} {m : MethodId} {args : Array Value} {below : List Frame} {meth : Method} {c : Code} {x : GX} {g : GE} {ex : va_W} {a : Nat → Nat} {A : Nat → Prop} {o : Nat}
set_option maxHeartbeats 4000000 in
set_option maxRecDepth 20000 in
theorem wB_B_push_23 (S : CallFix p m c b_B_push 2 s args lw_tg "PatternBench") (hr : meth.sig.returnType = none) (hlk : meth.locks = false) (hK : GK x s) (hE : EN g A s s.heap) (hA : ∀ q : Nat, s.heap.size ≤ q → A q) {Qc : PS → Prop} {bc bs : Nat}  : ∀ (k n0 : Nat) (hk : k ≤ bc) (hn : n0 ≤ bs) (x1 : Int32) (u : PS) (a : Nat → Nat) (ls : Array Slot) (H : Heap) (locs : List Loc), lv_has ls 2 [(0, .ref o), (1, .int x1)] → wd x A s.heap ((pcl x g o) a u ++ ex) H locs → B_B_push_23 Qc bc bs  k n0 x1 u → W p l e (rmN 2 bc bs) s m args below meth c H locs k n0 (MQ below (QeV x (pcl x g o) ex A Qc) args s bc bs A) (F0 m 23 ls []) := by
  intro k n0 hk hn x1 u a ls H locs hl hw h
  refine lv_aload_n S.1 S.2.1 d_B_push_23 rfl (lv_at hl 0 rfl) ?_
  refine pg_marks S hK hw d_B_push_24 ?_
  refine lv_aload_n S.1 S.2.1 d_B_push_27 rfl (lv_at hl 0 rfl) ?_
  refine pg_marked S hK hw d_B_push_28 ?_
  refine lv_iload_n S.1 S.2.1 d_B_push_31 rfl (lv_at hl 1 rfl) ?_
  have hg := h.1
  have h := h.2
  refine pt_kF S hK hw hg d_B_push_32 (fun H locs hw => ?_)
  refine lv_aload_n S.1 S.2.1 d_B_push_33 rfl (lv_at hl 0 rfl) ?_
  refine lv_dup S.1 S.2.1 d_B_push_34 rfl ?_
  refine pg_marked S hK hw d_B_push_35 ?_
  refine lv_iconst (v := 1) S.1 S.2.1 d_B_push_38 (by decide) ?_
  refine lv_iadd S.1 S.2.1 d_B_push_39 ?_
  refine pp_marked S hK hw d_B_push_40 (fun H locs hw => ?_)
  refine lv_aload_n S.1 S.2.1 d_B_push_43 rfl (lv_at hl 0 rfl) ?_
  refine lv_iconst (v := 1) S.1 S.2.1 d_B_push_44 (by decide) ?_
  refine lv_iconst (v := 0) S.1 S.2.1 d_B_push_45 (by decide) ?_
  refine lv_iconst (v := 0) S.1 S.2.1 d_B_push_46 (by decide) ?_
  obtain ⟨kc_47, nc_47, hk_47, hn_47, h⟩ := h
  refine w_cvE hA hw (w_rvE (rest := []) S hK hE hA hw (c_B_log l kc_47 nc_47 (1 : Int32) (0 : Int32) (0 : Int32) (ps_marked (ps_kF u (upd (p_kF u) (p_marked u).toNatClampNeg x1)) ((p_marked (ps_kF u (upd (p_kF u) (p_marked u).toNatClampNeg x1))) + (1 : Int32))) _ _ h) (ci := 1) (q0 := 0) rfl rfl (w_cb (fr := 0) (lv := 0) S.2.2.2.2 k_797 k_794 k_1 yd_B_log rfl rfl ⟨Nat.le_of_ble_eq_true rfl, Nat.le_of_ble_eq_true rfl⟩) k_796 s_24 rfl hl.1 rfl (Nat.le_of_ble_eq_true rfl) d_B_push_47 ⟨hk_47, hn_47⟩) (fun u_47 a_47 H locs h hw => ?_)
  refine W.widen (k := bc) (n := bs) hk_47 hn_47 ?_
  exact w_vretE S hr hlk hw h d_B_push_50
set_option maxHeartbeats 4000000 in
set_option maxRecDepth 20000 in
theorem c_B_push {x : GX} {g : GE} {o : Nat} {ex : va_W} {a : Nat → Nat} (l : Launch) (bc bs : Nat) (x1 : Int32) (u : PS) (sz : Nat) (Qc : PS → Prop) (h : P_B_push bc bs x1 u Qc) : Met l y_B_push (wM y_B_push b_B_push 2 none) (rmN 2 bc bs) (PreE x g (pcl x g o) ex [.ref o, .int x1] a u sz) (QeV x (pcl x g o) ex (va_A ((pcl x g o) a u ++ ex) sz) Qc) bc bs (va_A ((pcl x g o) a u ++ ex) sz) := by
  refine w_enterE (by decide +kernel) (Nat.le_of_ble_eq_true rfl) (fun p e s m args below meth c S hr hlk hnm hK hE hA hw ls hl => ?_)
  have hl : lv_has ls 2 [(0, .ref o), (1, .int x1)] := hl
  refine lv_aload_n S.1 S.2.1 d_B_push_0 rfl (lv_at hl 0 rfl) ?_
  refine pg_marked S hK hw d_B_push_1 ?_
  refine lv_aload_n S.1 S.2.1 d_B_push_4 rfl (lv_at hl 0 rfl) ?_
  refine pg_marks S hK hw d_B_push_5 ?_
  refine pn_kN S hK hw d_B_push_8 ?_
  refine lv_icmp_ne (tgt := 23) S.1 S.2.1 d_B_push_9 (by decide) (fun q_9 => ?_) (fun q_9 => ?_)
  · have h := h.2 q_9
    exact wB_B_push_23 S hr hlk hK hE hA  0 0 (Nat.zero_le _) (Nat.zero_le _) x1 u a _ _ _ (lv_sub hl [0, 1] rfl) hw h
  · have h := h.1 q_9
    refine lv_aload_n S.1 S.2.1 d_B_push_12 rfl (lv_at hl 0 rfl) ?_
    refine lv_aload_n S.1 S.2.1 d_B_push_13 rfl (lv_at hl 0 rfl) ?_
    refine pg_marks S hK hw d_B_push_14 ?_
    obtain ⟨hz_17, hk_17, hn_17, h⟩ := h
    refine p_longK (R := rmN 2 bc bs) (cells := 0) (slots := 0) S hK hE hA hw hz_17 (Nat.le_of_ble_eq_true rfl) (Nat.le_of_ble_eq_true rfl) hl.1 ⟨hk_17, hn_17⟩ d_B_push_17 d_B_push_20 (fun a_17 H locs hw => ?_)
    exact wB_B_push_23 S hr hlk hK hE hA  (0 + 1) (0 + 2 * p_kN u) hk_17 hn_17 x1 (p_growK u) a_17 _ _ _ (lv_sub hl [0, 1] rfl) hw h
end PW
abbrev b_B_pop : ByteArray := prog_1_method_22_code
def y_B_pop : MethodName := ⟨"PatternBench", "pop", "()I"⟩
theorem yd_B_pop : y_B_pop.cls ≠ "java/lang/invoke/MethodHandle" ∧ y_B_pop.cls ≠ "java/lang/invoke/VarHandle" ∧ (parseMethodDescriptor y_B_pop.desc).map (fun d => d.parameters.length) = some 0 := by decide +kernel
theorem d_B_pop_0 : decode b_B_pop 0 = .ok (.aload_n 0, 1) := by decide +kernel
theorem d_B_pop_1 : decode b_B_pop 1 = .ok (.getfield 232, 3) := by decide +kernel
theorem d_B_pop_4 : decode b_B_pop 4 = .ok (.ifCond .ne 5, 3) := by decide +kernel
theorem d_B_pop_7 : decode b_B_pop 7 = .ok (.iconst 0, 1) := by decide +kernel
theorem d_B_pop_8 : decode b_B_pop 8 = .ok (.ireturn, 1) := by decide +kernel
theorem d_B_pop_9 : decode b_B_pop 9 = .ok (.aload_n 0, 1) := by decide +kernel
theorem d_B_pop_10 : decode b_B_pop 10 = .ok (.dup, 1) := by decide +kernel
theorem d_B_pop_11 : decode b_B_pop 11 = .ok (.getfield 232, 3) := by decide +kernel
theorem d_B_pop_14 : decode b_B_pop 14 = .ok (.iconst 1, 1) := by decide +kernel
theorem d_B_pop_15 : decode b_B_pop 15 = .ok (.isub, 1) := by decide +kernel
theorem d_B_pop_16 : decode b_B_pop 16 = .ok (.putfield 232, 3) := by decide +kernel
theorem d_B_pop_19 : decode b_B_pop 19 = .ok (.aload_n 0, 1) := by decide +kernel
theorem d_B_pop_20 : decode b_B_pop 20 = .ok (.iconst 2, 1) := by decide +kernel
theorem d_B_pop_21 : decode b_B_pop 21 = .ok (.aload_n 0, 1) := by decide +kernel
theorem d_B_pop_22 : decode b_B_pop 22 = .ok (.getfield 39, 3) := by decide +kernel
theorem d_B_pop_25 : decode b_B_pop 25 = .ok (.aload_n 0, 1) := by decide +kernel
theorem d_B_pop_26 : decode b_B_pop 26 = .ok (.getfield 232, 3) := by decide +kernel
theorem d_B_pop_29 : decode b_B_pop 29 = .ok (.iaload, 1) := by decide +kernel
theorem d_B_pop_30 : decode b_B_pop 30 = .ok (.iconst 0, 1) := by decide +kernel
theorem d_B_pop_31 : decode b_B_pop 31 = .ok (.invokevirtual 235, 3) := by decide +kernel
theorem d_B_pop_34 : decode b_B_pop 34 = .ok (.aload_n 0, 1) := by decide +kernel
theorem d_B_pop_35 : decode b_B_pop 35 = .ok (.getfield 39, 3) := by decide +kernel
theorem d_B_pop_38 : decode b_B_pop 38 = .ok (.aload_n 0, 1) := by decide +kernel
theorem d_B_pop_39 : decode b_B_pop 39 = .ok (.getfield 232, 3) := by decide +kernel
theorem d_B_pop_42 : decode b_B_pop 42 = .ok (.iaload, 1) := by decide +kernel
theorem d_B_pop_43 : decode b_B_pop 43 = .ok (.ireturn, 1) := by decide +kernel
def P_B_pop (bc bs : Nat)  (u : PS) (Qc : Int32 → PS → Prop) : Prop := (((p_marked u) = (0 : Int32) → Qc (0 : Int32) u) ∧ (¬ (p_marked u) = (0 : Int32) → (vp_in (p_marked (ps_marked u ((p_marked u) - (1 : Int32)))) (p_kN (ps_marked u ((p_marked u) - (1 : Int32)))) ∧ (∃ kc_31 nc_31 : Nat, 0 + kc_31 ≤ bc ∧ 0 + nc_31 ≤ bs ∧ P_B_log kc_31 nc_31 (2 : Int32) (p_kF (ps_marked u ((p_marked u) - (1 : Int32))) (p_marked (ps_marked u ((p_marked u) - (1 : Int32)))).toNatClampNeg) (0 : Int32) (ps_marked u ((p_marked u) - (1 : Int32))) (fun u_31 => (vp_in (p_marked u_31) (p_kN u_31) ∧ Qc (p_kF u_31 (p_marked u_31).toNatClampNeg) u_31))))))
section PW
variable {p : Program} {l : Launch} {e : Env} {s : State} {m : MethodId} {args : Array Value} {below : List Frame} {meth : Method} {c : Code} {x : GX} {g : GE} {ex : va_W} {a : Nat → Nat} {A : Nat → Prop} {o : Nat}
set_option maxHeartbeats 4000000 in
set_option maxRecDepth 20000 in
theorem c_B_pop {x : GX} {g : GE} {o : Nat} {ex : va_W} {a : Nat → Nat} (l : Launch) (bc bs : Nat)  (u : PS) (sz : Nat) (Qc : Int32 → PS → Prop) (h : P_B_pop bc bs  u Qc) : Met l y_B_pop (wM y_B_pop b_B_pop 1 (some .int)) (rmN 2 bc bs) (PreE x g (pcl x g o) ex [.ref o] a u sz) (QeI x (pcl x g o) ex (va_A ((pcl x g o) a u ++ ex) sz) Qc) bc bs (va_A ((pcl x g o) a u ++ ex) sz) := by
  refine w_enterE (by decide +kernel) (Nat.le_of_ble_eq_true rfl) (fun p e s m args below meth c S hr hlk hnm hK hE hA hw ls hl => ?_)
  have hl : lv_has ls 1 [(0, .ref o)] := hl
  refine lv_aload_n S.1 S.2.1 d_B_pop_0 rfl (lv_at hl 0 rfl) ?_
  refine pg_marked S hK hw d_B_pop_1 ?_
  refine lv_if_ne (tgt := 9) S.1 S.2.1 d_B_pop_4 (by decide) (fun q_4 => ?_) (fun q_4 => ?_)
  · have h := h.2 q_4
    refine lv_aload_n S.1 S.2.1 d_B_pop_9 rfl (lv_at hl 0 rfl) ?_
    refine lv_dup S.1 S.2.1 d_B_pop_10 rfl ?_
    refine pg_marked S hK hw d_B_pop_11 ?_
    refine lv_iconst (v := 1) S.1 S.2.1 d_B_pop_14 (by decide) ?_
    refine lv_isub S.1 S.2.1 d_B_pop_15 ?_
    refine pp_marked S hK hw d_B_pop_16 (fun H locs hw => ?_)
    refine lv_aload_n S.1 S.2.1 d_B_pop_19 rfl (lv_at hl 0 rfl) ?_
    refine lv_iconst (v := 2) S.1 S.2.1 d_B_pop_20 (by decide) ?_
    refine lv_aload_n S.1 S.2.1 d_B_pop_21 rfl (lv_at hl 0 rfl) ?_
    refine pg_marks S hK hw d_B_pop_22 ?_
    refine lv_aload_n S.1 S.2.1 d_B_pop_25 rfl (lv_at hl 0 rfl) ?_
    refine pg_marked S hK hw d_B_pop_26 ?_
    have hg := h.1
    have h := h.2
    refine pl_kF S hK hw hg d_B_pop_29 ?_
    refine lv_iconst (v := 0) S.1 S.2.1 d_B_pop_30 (by decide) ?_
    obtain ⟨kc_31, nc_31, hk_31, hn_31, h⟩ := h
    refine w_cvE hA hw (w_rvE (rest := []) S hK hE hA hw (c_B_log l kc_31 nc_31 (2 : Int32) (p_kF (ps_marked u ((p_marked u) - (1 : Int32))) (p_marked (ps_marked u ((p_marked u) - (1 : Int32)))).toNatClampNeg) (0 : Int32) (ps_marked u ((p_marked u) - (1 : Int32))) _ _ h) (ci := 1) (q0 := 0) rfl rfl (w_cb (fr := 0) (lv := 0) S.2.2.2.2 k_797 k_794 k_1 yd_B_log rfl rfl ⟨Nat.le_of_ble_eq_true rfl, Nat.le_of_ble_eq_true rfl⟩) k_796 s_24 rfl hl.1 rfl (Nat.le_of_ble_eq_true rfl) d_B_pop_31 ⟨hk_31, hn_31⟩) (fun u_31 a_31 H locs h hw => ?_)
    refine lv_aload_n S.1 S.2.1 d_B_pop_34 rfl (lv_at hl 0 rfl) ?_
    refine pg_marks S hK hw d_B_pop_35 ?_
    refine lv_aload_n S.1 S.2.1 d_B_pop_38 rfl (lv_at hl 0 rfl) ?_
    refine pg_marked S hK hw d_B_pop_39 ?_
    have hg := h.1
    have h := h.2
    refine pl_kF S hK hw hg d_B_pop_42 ?_
    refine W.widen (k := bc) (n := bs) hk_31 hn_31 ?_
    exact w_iretE S hr hlk hw h d_B_pop_43
  · have h := h.1 q_4
    refine lv_iconst (v := 0) S.1 S.2.1 d_B_pop_7 (by decide) ?_
    refine W.widen (k := bc) (n := bs) (Nat.zero_le _) (Nat.zero_le _) ?_
    exact w_iretE S hr hlk hw h d_B_pop_8
end PW
abbrev b_B_capture : ByteArray := prog_1_method_23_code
def y_B_capture : MethodName := ⟨"PatternBench", "capture", "(II)V"⟩
theorem yd_B_capture : y_B_capture.cls ≠ "java/lang/invoke/MethodHandle" ∧ y_B_capture.cls ≠ "java/lang/invoke/VarHandle" ∧ (parseMethodDescriptor y_B_capture.desc).map (fun d => d.parameters.length) = some 2 := by decide +kernel
theorem d_B_capture_0 : decode b_B_capture 0 = .ok (.aload_n 0, 1) := by decide +kernel
theorem d_B_capture_1 : decode b_B_capture 1 = .ok (.getfield 36, 3) := by decide +kernel
theorem d_B_capture_4 : decode b_B_capture 4 = .ok (.iload_n 1, 1) := by decide +kernel
theorem d_B_capture_5 : decode b_B_capture 5 = .ok (.iaload, 1) := by decide +kernel
theorem d_B_capture_6 : decode b_B_capture 6 = .ok (.iload_n 2, 1) := by decide +kernel
theorem d_B_capture_7 : decode b_B_capture 7 = .ok (.if_icmp .ne 4, 3) := by decide +kernel
theorem d_B_capture_10 : decode b_B_capture 10 = .ok (.return_, 1) := by decide +kernel
theorem d_B_capture_11 : decode b_B_capture 11 = .ok (.aload_n 0, 1) := by decide +kernel
theorem d_B_capture_12 : decode b_B_capture 12 = .ok (.iconst 3, 1) := by decide +kernel
theorem d_B_capture_13 : decode b_B_capture 13 = .ok (.iload_n 1, 1) := by decide +kernel
theorem d_B_capture_14 : decode b_B_capture 14 = .ok (.aload_n 0, 1) := by decide +kernel
theorem d_B_capture_15 : decode b_B_capture 15 = .ok (.getfield 36, 3) := by decide +kernel
theorem d_B_capture_18 : decode b_B_capture 18 = .ok (.iload_n 1, 1) := by decide +kernel
theorem d_B_capture_19 : decode b_B_capture 19 = .ok (.iaload, 1) := by decide +kernel
theorem d_B_capture_20 : decode b_B_capture 20 = .ok (.invokevirtual 235, 3) := by decide +kernel
theorem d_B_capture_23 : decode b_B_capture 23 = .ok (.aload_n 0, 1) := by decide +kernel
theorem d_B_capture_24 : decode b_B_capture 24 = .ok (.getfield 36, 3) := by decide +kernel
theorem d_B_capture_27 : decode b_B_capture 27 = .ok (.iload_n 1, 1) := by decide +kernel
theorem d_B_capture_28 : decode b_B_capture 28 = .ok (.iload_n 2, 1) := by decide +kernel
theorem d_B_capture_29 : decode b_B_capture 29 = .ok (.iastore, 1) := by decide +kernel
theorem d_B_capture_30 : decode b_B_capture 30 = .ok (.return_, 1) := by decide +kernel
def P_B_capture (bc bs : Nat) (x1 : Int32) (x2 : Int32) (u : PS) (Qc : PS → Prop) : Prop := (vp_in x1 10 ∧ (((p_cF u x1.toNatClampNeg) = x2 → Qc u) ∧ (¬ (p_cF u x1.toNatClampNeg) = x2 → (vp_in x1 10 ∧ (∃ kc_20 nc_20 : Nat, 0 + kc_20 ≤ bc ∧ 0 + nc_20 ≤ bs ∧ P_B_log kc_20 nc_20 (3 : Int32) x1 (p_cF u x1.toNatClampNeg) u (fun u_20 => (vp_in x1 10 ∧ Qc (ps_cF u_20 (upd (p_cF u_20) x1.toNatClampNeg x2)))))))))
section PW
variable {p : Program} {l : Launch} {e : Env} {s : State} {m : MethodId} {args : Array Value} {below : List Frame} {meth : Method} {c : Code} {x : GX} {g : GE} {ex : va_W} {a : Nat → Nat} {A : Nat → Prop} {o : Nat}
set_option maxHeartbeats 4000000 in
set_option maxRecDepth 20000 in
theorem c_B_capture {x : GX} {g : GE} {o : Nat} {ex : va_W} {a : Nat → Nat} (l : Launch) (bc bs : Nat) (x1 : Int32) (x2 : Int32) (u : PS) (sz : Nat) (Qc : PS → Prop) (h : P_B_capture bc bs x1 x2 u Qc) : Met l y_B_capture (wM y_B_capture b_B_capture 3 none) (rmN 2 bc bs) (PreE x g (pcl x g o) ex [.ref o, .int x1, .int x2] a u sz) (QeV x (pcl x g o) ex (va_A ((pcl x g o) a u ++ ex) sz) Qc) bc bs (va_A ((pcl x g o) a u ++ ex) sz) := by
  refine w_enterE (by decide +kernel) (Nat.le_of_ble_eq_true rfl) (fun p e s m args below meth c S hr hlk hnm hK hE hA hw ls hl => ?_)
  have hl : lv_has ls 3 [(0, .ref o), (1, .int x1), (2, .int x2)] := hl
  refine lv_aload_n S.1 S.2.1 d_B_capture_0 rfl (lv_at hl 0 rfl) ?_
  refine pg_captures S hK hw d_B_capture_1 ?_
  refine lv_iload_n S.1 S.2.1 d_B_capture_4 rfl (lv_at hl 1 rfl) ?_
  have hg := h.1
  have h := h.2
  refine pl_cF S hK hw hg d_B_capture_5 ?_
  refine lv_iload_n S.1 S.2.1 d_B_capture_6 rfl (lv_at hl 2 rfl) ?_
  refine lv_icmp_ne (tgt := 11) S.1 S.2.1 d_B_capture_7 (by decide) (fun q_7 => ?_) (fun q_7 => ?_)
  · have h := h.2 q_7
    refine lv_aload_n S.1 S.2.1 d_B_capture_11 rfl (lv_at hl 0 rfl) ?_
    refine lv_iconst (v := 3) S.1 S.2.1 d_B_capture_12 (by decide) ?_
    refine lv_iload_n S.1 S.2.1 d_B_capture_13 rfl (lv_at hl 1 rfl) ?_
    refine lv_aload_n S.1 S.2.1 d_B_capture_14 rfl (lv_at hl 0 rfl) ?_
    refine pg_captures S hK hw d_B_capture_15 ?_
    refine lv_iload_n S.1 S.2.1 d_B_capture_18 rfl (lv_at hl 1 rfl) ?_
    have hg := h.1
    have h := h.2
    refine pl_cF S hK hw hg d_B_capture_19 ?_
    obtain ⟨kc_20, nc_20, hk_20, hn_20, h⟩ := h
    refine w_cvE hA hw (w_rvE (rest := []) S hK hE hA hw (c_B_log l kc_20 nc_20 (3 : Int32) x1 (p_cF u x1.toNatClampNeg) u _ _ h) (ci := 1) (q0 := 0) rfl rfl (w_cb (fr := 0) (lv := 0) S.2.2.2.2 k_797 k_794 k_1 yd_B_log rfl rfl ⟨Nat.le_of_ble_eq_true rfl, Nat.le_of_ble_eq_true rfl⟩) k_796 s_24 rfl hl.1 rfl (Nat.le_of_ble_eq_true rfl) d_B_capture_20 ⟨hk_20, hn_20⟩) (fun u_20 a_20 H locs h hw => ?_)
    refine lv_aload_n S.1 S.2.1 d_B_capture_23 rfl (lv_at hl 0 rfl) ?_
    refine pg_captures S hK hw d_B_capture_24 ?_
    refine lv_iload_n S.1 S.2.1 d_B_capture_27 rfl (lv_at hl 1 rfl) ?_
    refine lv_iload_n S.1 S.2.1 d_B_capture_28 rfl (lv_at hl 2 rfl) ?_
    have hg := h.1
    have h := h.2
    refine pt_cF S hK hw hg d_B_capture_29 (fun H locs hw => ?_)
    refine W.widen (k := bc) (n := bs) hk_20 hn_20 ?_
    exact w_vretE S hr hlk hw h d_B_capture_30
  · have h := h.1 q_7
    refine W.widen (k := bc) (n := bs) (Nat.zero_le _) (Nat.zero_le _) ?_
    exact w_vretE S hr hlk hw h d_B_capture_10
end PW
abbrev b_B_back : ByteArray := prog_1_method_24_code
def y_B_back : MethodName := ⟨"PatternBench", "back", "()Z"⟩
theorem yd_B_back : y_B_back.cls ≠ "java/lang/invoke/MethodHandle" ∧ y_B_back.cls ≠ "java/lang/invoke/VarHandle" ∧ (parseMethodDescriptor y_B_back.desc).map (fun d => d.parameters.length) = some 0 := by decide +kernel
theorem d_B_back_0 : decode b_B_back 0 = .ok (.aload_n 0, 1) := by decide +kernel
theorem d_B_back_1 : decode b_B_back 1 = .ok (.getfield 225, 3) := by decide +kernel
theorem d_B_back_4 : decode b_B_back 4 = .ok (.ifCond .le 185, 3) := by decide +kernel
theorem d_B_back_7 : decode b_B_back 7 = .ok (.aload_n 0, 1) := by decide +kernel
theorem d_B_back_8 : decode b_B_back 8 = .ok (.dup, 1) := by decide +kernel
theorem d_B_back_9 : decode b_B_back 9 = .ok (.getfield 225, 3) := by decide +kernel
theorem d_B_back_12 : decode b_B_back 12 = .ok (.iconst 3, 1) := by decide +kernel
theorem d_B_back_13 : decode b_B_back 13 = .ok (.isub, 1) := by decide +kernel
theorem d_B_back_14 : decode b_B_back 14 = .ok (.putfield 225, 3) := by decide +kernel
theorem d_B_back_17 : decode b_B_back 17 = .ok (.aload_n 0, 1) := by decide +kernel
theorem d_B_back_18 : decode b_B_back 18 = .ok (.getfield 32, 3) := by decide +kernel
theorem d_B_back_21 : decode b_B_back 21 = .ok (.aload_n 0, 1) := by decide +kernel
theorem d_B_back_22 : decode b_B_back 22 = .ok (.getfield 225, 3) := by decide +kernel
theorem d_B_back_25 : decode b_B_back 25 = .ok (.iconst 1, 1) := by decide +kernel
theorem d_B_back_26 : decode b_B_back 26 = .ok (.iadd, 1) := by decide +kernel
theorem d_B_back_27 : decode b_B_back 27 = .ok (.iaload, 1) := by decide +kernel
theorem d_B_back_28 : decode b_B_back 28 = .ok (.istore_n 1, 1) := by decide +kernel
theorem d_B_back_29 : decode b_B_back 29 = .ok (.aload_n 0, 1) := by decide +kernel
theorem d_B_back_30 : decode b_B_back 30 = .ok (.getfield 32, 3) := by decide +kernel
theorem d_B_back_33 : decode b_B_back 33 = .ok (.aload_n 0, 1) := by decide +kernel
theorem d_B_back_34 : decode b_B_back 34 = .ok (.getfield 225, 3) := by decide +kernel
theorem d_B_back_37 : decode b_B_back 37 = .ok (.iconst 2, 1) := by decide +kernel
theorem d_B_back_38 : decode b_B_back 38 = .ok (.iadd, 1) := by decide +kernel
theorem d_B_back_39 : decode b_B_back 39 = .ok (.iaload, 1) := by decide +kernel
theorem d_B_back_40 : decode b_B_back 40 = .ok (.istore_n 2, 1) := by decide +kernel
theorem d_B_back_41 : decode b_B_back 41 = .ok (.aload_n 0, 1) := by decide +kernel
theorem d_B_back_42 : decode b_B_back 42 = .ok (.getfield 32, 3) := by decide +kernel
theorem d_B_back_45 : decode b_B_back 45 = .ok (.aload_n 0, 1) := by decide +kernel
theorem d_B_back_46 : decode b_B_back 46 = .ok (.getfield 225, 3) := by decide +kernel
theorem d_B_back_49 : decode b_B_back 49 = .ok (.iaload, 1) := by decide +kernel
theorem d_B_back_50 : decode b_B_back 50 = .ok (.tableswitch 136 0 6 #[42, 54, 67, 90, 100, 110, 123], 42) := by decide +kernel
theorem d_B_back_92 : decode b_B_back 92 = .ok (.aload_n 0, 1) := by decide +kernel
theorem d_B_back_93 : decode b_B_back 93 = .ok (.iload_n 1, 1) := by decide +kernel
theorem d_B_back_94 : decode b_B_back 94 = .ok (.putfield 239, 3) := by decide +kernel
theorem d_B_back_97 : decode b_B_back 97 = .ok (.aload_n 0, 1) := by decide +kernel
theorem d_B_back_98 : decode b_B_back 98 = .ok (.iload_n 2, 1) := by decide +kernel
theorem d_B_back_99 : decode b_B_back 99 = .ok (.putfield 242, 3) := by decide +kernel
theorem d_B_back_102 : decode b_B_back 102 = .ok (.iconst 1, 1) := by decide +kernel
theorem d_B_back_103 : decode b_B_back 103 = .ok (.ireturn, 1) := by decide +kernel
theorem d_B_back_104 : decode b_B_back 104 = .ok (.aload_n 0, 1) := by decide +kernel
theorem d_B_back_105 : decode b_B_back 105 = .ok (.dup, 1) := by decide +kernel
theorem d_B_back_106 : decode b_B_back 106 = .ok (.getfield 232, 3) := by decide +kernel
theorem d_B_back_109 : decode b_B_back 109 = .ok (.iconst 1, 1) := by decide +kernel
theorem d_B_back_110 : decode b_B_back 110 = .ok (.isub, 1) := by decide +kernel
theorem d_B_back_111 : decode b_B_back 111 = .ok (.putfield 232, 3) := by decide +kernel
theorem d_B_back_114 : decode b_B_back 114 = .ok (.goto 72, 3) := by decide +kernel
theorem d_B_back_117 : decode b_B_back 117 = .ok (.aload_n 0, 1) := by decide +kernel
theorem d_B_back_118 : decode b_B_back 118 = .ok (.getfield 39, 3) := by decide +kernel
theorem d_B_back_121 : decode b_B_back 121 = .ok (.aload_n 0, 1) := by decide +kernel
theorem d_B_back_122 : decode b_B_back 122 = .ok (.getfield 232, 3) := by decide +kernel
theorem d_B_back_125 : decode b_B_back 125 = .ok (.iload_n 1, 1) := by decide +kernel
theorem d_B_back_126 : decode b_B_back 126 = .ok (.iastore, 1) := by decide +kernel
theorem d_B_back_127 : decode b_B_back 127 = .ok (.aload_n 0, 1) := by decide +kernel
theorem d_B_back_128 : decode b_B_back 128 = .ok (.dup, 1) := by decide +kernel
theorem d_B_back_129 : decode b_B_back 129 = .ok (.getfield 232, 3) := by decide +kernel
theorem d_B_back_132 : decode b_B_back 132 = .ok (.iconst 1, 1) := by decide +kernel
theorem d_B_back_133 : decode b_B_back 133 = .ok (.iadd, 1) := by decide +kernel
theorem d_B_back_134 : decode b_B_back 134 = .ok (.putfield 232, 3) := by decide +kernel
theorem d_B_back_137 : decode b_B_back 137 = .ok (.goto 49, 3) := by decide +kernel
theorem d_B_back_140 : decode b_B_back 140 = .ok (.aload_n 0, 1) := by decide +kernel
theorem d_B_back_141 : decode b_B_back 141 = .ok (.getfield 36, 3) := by decide +kernel
theorem d_B_back_144 : decode b_B_back 144 = .ok (.iload_n 1, 1) := by decide +kernel
theorem d_B_back_145 : decode b_B_back 145 = .ok (.iload_n 2, 1) := by decide +kernel
theorem d_B_back_146 : decode b_B_back 146 = .ok (.iastore, 1) := by decide +kernel
theorem d_B_back_147 : decode b_B_back 147 = .ok (.goto 39, 3) := by decide +kernel
theorem d_B_back_150 : decode b_B_back 150 = .ok (.aload_n 0, 1) := by decide +kernel
theorem d_B_back_151 : decode b_B_back 151 = .ok (.getfield 42, 3) := by decide +kernel
theorem d_B_back_154 : decode b_B_back 154 = .ok (.iload_n 1, 1) := by decide +kernel
theorem d_B_back_155 : decode b_B_back 155 = .ok (.iload_n 2, 1) := by decide +kernel
theorem d_B_back_156 : decode b_B_back 156 = .ok (.iastore, 1) := by decide +kernel
theorem d_B_back_157 : decode b_B_back 157 = .ok (.goto 29, 3) := by decide +kernel
theorem d_B_back_160 : decode b_B_back 160 = .ok (.aload_n 0, 1) := by decide +kernel
theorem d_B_back_161 : decode b_B_back 161 = .ok (.dup, 1) := by decide +kernel
theorem d_B_back_162 : decode b_B_back 162 = .ok (.getfield 245, 3) := by decide +kernel
theorem d_B_back_165 : decode b_B_back 165 = .ok (.iconst 1, 1) := by decide +kernel
theorem d_B_back_166 : decode b_B_back 166 = .ok (.isub, 1) := by decide +kernel
theorem d_B_back_167 : decode b_B_back 167 = .ok (.putfield 245, 3) := by decide +kernel
theorem d_B_back_170 : decode b_B_back 170 = .ok (.goto 16, 3) := by decide +kernel
theorem d_B_back_173 : decode b_B_back 173 = .ok (.aload_n 0, 1) := by decide +kernel
theorem d_B_back_174 : decode b_B_back 174 = .ok (.dup, 1) := by decide +kernel
theorem d_B_back_175 : decode b_B_back 175 = .ok (.getfield 245, 3) := by decide +kernel
theorem d_B_back_178 : decode b_B_back 178 = .ok (.iconst 1, 1) := by decide +kernel
theorem d_B_back_179 : decode b_B_back 179 = .ok (.iadd, 1) := by decide +kernel
theorem d_B_back_180 : decode b_B_back 180 = .ok (.putfield 245, 3) := by decide +kernel
theorem d_B_back_183 : decode b_B_back 183 = .ok (.goto 3, 3) := by decide +kernel
theorem d_B_back_186 : decode b_B_back 186 = .ok (.goto (-186), 3) := by decide +kernel
theorem d_B_back_189 : decode b_B_back 189 = .ok (.iconst 0, 1) := by decide +kernel
theorem d_B_back_190 : decode b_B_back 190 = .ok (.ireturn, 1) := by decide +kernel
def B_B_back_186 (Qc : Int32 → PS → Prop) (K0 : PS → Prop)  (u : PS) : Prop := K0  u
def L_B_back_0 (Qc : Int32 → PS → Prop)  : Nat → PS → Prop
  | 0, _ => False
  | n + 1, u => (((p_height u) ≤ (0 : Int32) → Qc (0 : Int32) u) ∧ (¬ (p_height u) ≤ (0 : Int32) → (vp_in ((p_height (ps_height u ((p_height u) - (3 : Int32)))) + (1 : Int32)) (p_tN (ps_height u ((p_height u) - (3 : Int32)))) ∧ (∀ x1_28 : Int32, x1_28 = (p_tF (ps_height u ((p_height u) - (3 : Int32))) ((p_height (ps_height u ((p_height u) - (3 : Int32)))) + (1 : Int32)).toNatClampNeg) → (vp_in ((p_height (ps_height u ((p_height u) - (3 : Int32)))) + (2 : Int32)) (p_tN (ps_height u ((p_height u) - (3 : Int32)))) ∧ (∀ x2_40 : Int32, x2_40 = (p_tF (ps_height u ((p_height u) - (3 : Int32))) ((p_height (ps_height u ((p_height u) - (3 : Int32)))) + (2 : Int32)).toNatClampNeg) → (vp_in (p_height (ps_height u ((p_height u) - (3 : Int32)))) (p_tN (ps_height u ((p_height u) - (3 : Int32)))) ∧ (∀ y_50 : Int32, y_50 = (p_tF (ps_height u ((p_height u) - (3 : Int32))) (p_height (ps_height u ((p_height u) - (3 : Int32)))).toNatClampNeg) → ((y_50 = (0 : Int32) → Qc (1 : Int32) (ps_place (ps_pc (ps_height u ((p_height u) - (3 : Int32))) x1_28) x2_40)) ∧ (y_50 = (1 : Int32) → B_B_back_186 Qc (L_B_back_0 Qc n)  (ps_marked (ps_height u ((p_height u) - (3 : Int32))) ((p_marked (ps_height u ((p_height u) - (3 : Int32)))) - (1 : Int32)))) ∧ (y_50 = (2 : Int32) → (vp_in (p_marked (ps_height u ((p_height u) - (3 : Int32)))) (p_kN (ps_height u ((p_height u) - (3 : Int32)))) ∧ B_B_back_186 Qc (L_B_back_0 Qc n)  (ps_marked (ps_kF (ps_height u ((p_height u) - (3 : Int32))) (upd (p_kF (ps_height u ((p_height u) - (3 : Int32)))) (p_marked (ps_height u ((p_height u) - (3 : Int32)))).toNatClampNeg x1_28)) ((p_marked (ps_kF (ps_height u ((p_height u) - (3 : Int32))) (upd (p_kF (ps_height u ((p_height u) - (3 : Int32)))) (p_marked (ps_height u ((p_height u) - (3 : Int32)))).toNatClampNeg x1_28))) + (1 : Int32))))) ∧ (y_50 = (3 : Int32) → (vp_in x1_28 10 ∧ B_B_back_186 Qc (L_B_back_0 Qc n)  (ps_cF (ps_height u ((p_height u) - (3 : Int32))) (upd (p_cF (ps_height u ((p_height u) - (3 : Int32)))) x1_28.toNatClampNeg x2_40)))) ∧ (y_50 = (4 : Int32) → (vp_in x1_28 120 ∧ B_B_back_186 Qc (L_B_back_0 Qc n)  (ps_fF (ps_height u ((p_height u) - (3 : Int32))) (upd (p_fF (ps_height u ((p_height u) - (3 : Int32)))) x1_28.toNatClampNeg x2_40)))) ∧ (y_50 = (5 : Int32) → B_B_back_186 Qc (L_B_back_0 Qc n)  (ps_calls (ps_height u ((p_height u) - (3 : Int32))) ((p_calls (ps_height u ((p_height u) - (3 : Int32)))) - (1 : Int32)))) ∧ (y_50 = (6 : Int32) → B_B_back_186 Qc (L_B_back_0 Qc n)  (ps_calls (ps_height u ((p_height u) - (3 : Int32))) ((p_calls (ps_height u ((p_height u) - (3 : Int32)))) + (1 : Int32)))) ∧ (¬ y_50 = (0 : Int32) → ¬ y_50 = (1 : Int32) → ¬ y_50 = (2 : Int32) → ¬ y_50 = (3 : Int32) → ¬ y_50 = (4 : Int32) → ¬ y_50 = (5 : Int32) → ¬ y_50 = (6 : Int32) → B_B_back_186 Qc (L_B_back_0 Qc n)  (ps_height u ((p_height u) - (3 : Int32)))))))))))))
def P_B_back  (u : PS) (Qc : Int32 → PS → Prop) : Prop := ∃ n, L_B_back_0 Qc  n  u
section PW
variable {p : Program} {l : Launch} {e : Env} {s : State} {m : MethodId} {args : Array Value} {below : List Frame} {meth : Method} {c : Code} {x : GX} {g : GE} {ex : va_W} {a : Nat → Nat} {A : Nat → Prop} {o : Nat}
set_option maxHeartbeats 4000000 in
set_option maxRecDepth 20000 in
theorem wB_B_back_186 (S : CallFix p m c b_B_back 3 s args lw_tg "PatternBench") (hr : meth.sig.returnType = some .boolean) (hlk : meth.locks = false) (hK : GK x s) (hE : EN g A s s.heap) (hA : ∀ q : Nat, s.heap.size ≤ q → A q) {Qc : Int32 → PS → Prop}  {K0 : PS → Prop} (ih0 : ∀  (u : PS) (ls : Array Slot) (H : Heap) (locs : List Loc), lv_has ls 3 [(0, .ref o)] → wd x A s.heap ((pcl x g o) a u ++ ex) H locs → K0  u → W p l e (rmN 0 0 0) s m args below meth c H locs 0 0 (MQ below (QfI x (pcl x g o) ex a A Qc) args s 0 0 A) (F0 m 0 ls [])) : ∀  (u : PS) (ls : Array Slot) (H : Heap) (locs : List Loc), lv_has ls 3 [(0, .ref o)] → wd x A s.heap ((pcl x g o) a u ++ ex) H locs → B_B_back_186 Qc K0  u → W p l e (rmN 0 0 0) s m args below meth c H locs 0 0 (MQ below (QfI x (pcl x g o) ex a A Qc) args s 0 0 A) (F0 m 186 ls []) := by
  intro  u ls H locs hl hw h
  refine lv_goto (tgt := 0) S.1 S.2.1 d_B_back_186 (by decide) ?_
  exact ih0  u _ _ _ (lv_sub hl [0] rfl) hw h
set_option maxHeartbeats 4000000 in
set_option maxRecDepth 20000 in
theorem wL_B_back_0 (S : CallFix p m c b_B_back 3 s args lw_tg "PatternBench") (hr : meth.sig.returnType = some .boolean) (hlk : meth.locks = false) (hK : GK x s) (hE : EN g A s s.heap) (hA : ∀ q : Nat, s.heap.size ≤ q → A q) {Qc : Int32 → PS → Prop}  : ∀ (n : Nat)  (u : PS) (ls : Array Slot) (H : Heap) (locs : List Loc), lv_has ls 3 [(0, .ref o)] → wd x A s.heap ((pcl x g o) a u ++ ex) H locs → L_B_back_0 Qc  n  u → W p l e (rmN 0 0 0) s m args below meth c H locs 0 0 (MQ below (QfI x (pcl x g o) ex a A Qc) args s 0 0 A) (F0 m 0 ls []) := by
  intro n
  induction n with
  | zero =>
    intro  u ls H locs hl hw h
    exact absurd h id
  | succ n ih =>
    intro  u ls H locs hl hw h
    refine lv_aload_n S.1 S.2.1 d_B_back_0 rfl (lv_at hl 0 rfl) ?_
    refine pg_height S hK hw d_B_back_1 ?_
    refine lv_if_le (tgt := 189) S.1 S.2.1 d_B_back_4 (by decide) (fun q_4 => ?_) (fun q_4 => ?_)
    · have h := h.1 q_4
      refine lv_iconst (v := 0) S.1 S.2.1 d_B_back_189 (by decide) ?_
      exact w_zretF S hr hlk isB0 hw h d_B_back_190
    · have h := h.2 q_4
      refine lv_aload_n S.1 S.2.1 d_B_back_7 rfl (lv_at hl 0 rfl) ?_
      refine lv_dup S.1 S.2.1 d_B_back_8 rfl ?_
      refine pg_height S hK hw d_B_back_9 ?_
      refine lv_iconst (v := 3) S.1 S.2.1 d_B_back_12 (by decide) ?_
      refine lv_isub S.1 S.2.1 d_B_back_13 ?_
      refine pp_height S hK hw d_B_back_14 (fun H locs hw => ?_)
      refine lv_aload_n S.1 S.2.1 d_B_back_17 rfl (lv_at hl 0 rfl) ?_
      refine pg_trail S hK hw d_B_back_18 ?_
      refine lv_aload_n S.1 S.2.1 d_B_back_21 rfl (lv_at hl 0 rfl) ?_
      refine pg_height S hK hw d_B_back_22 ?_
      refine lv_iconst (v := 1) S.1 S.2.1 d_B_back_25 (by decide) ?_
      refine lv_iadd S.1 S.2.1 d_B_back_26 ?_
      have hg := h.1
      have h := h.2
      refine pl_tF S hK hw hg d_B_back_27 ?_
      refine lv_topi (fun x1_28 ex1_28 => ?_)
      have h := h x1_28 ex1_28
      refine lv_istore_n (lv' := [(1, .int x1_28), (0, .ref o)]) S.1 S.2.1 d_B_back_28 rfl hl (by decide) rfl (fun ls hl => ?_)
      refine lv_aload_n S.1 S.2.1 d_B_back_29 rfl (lv_at hl 1 rfl) ?_
      refine pg_trail S hK hw d_B_back_30 ?_
      refine lv_aload_n S.1 S.2.1 d_B_back_33 rfl (lv_at hl 1 rfl) ?_
      refine pg_height S hK hw d_B_back_34 ?_
      refine lv_iconst (v := 2) S.1 S.2.1 d_B_back_37 (by decide) ?_
      refine lv_iadd S.1 S.2.1 d_B_back_38 ?_
      have hg := h.1
      have h := h.2
      refine pl_tF S hK hw hg d_B_back_39 ?_
      refine lv_topi (fun x2_40 ex2_40 => ?_)
      have h := h x2_40 ex2_40
      refine lv_istore_n (lv' := [(2, .int x2_40), (1, .int x1_28), (0, .ref o)]) S.1 S.2.1 d_B_back_40 rfl hl (by decide) rfl (fun ls hl => ?_)
      refine lv_aload_n S.1 S.2.1 d_B_back_41 rfl (lv_at hl 2 rfl) ?_
      refine pg_trail S hK hw d_B_back_42 ?_
      refine lv_aload_n S.1 S.2.1 d_B_back_45 rfl (lv_at hl 2 rfl) ?_
      refine pg_height S hK hw d_B_back_46 ?_
      have hg := h.1
      have h := h.2
      refine pl_tF S hK hw hg d_B_back_49 ?_
      refine lv_topi (fun y_50 ey_50 => ?_)
      have h := h y_50 ey_50
      by_cases q_50_0 : y_50 = (0 : Int32)
      · have h := h.1 q_50_0
        refine lv_tableIn (tgt := 92) (off := 42) S.1 S.2.1 d_B_back_50 (by rw [q_50_0]; decide) (by rw [q_50_0]; decide) (by rw [q_50_0]; rfl) (by decide) ?_
        refine lv_aload_n S.1 S.2.1 d_B_back_92 rfl (lv_at hl 2 rfl) ?_
        refine lv_iload_n S.1 S.2.1 d_B_back_93 rfl (lv_at hl 1 rfl) ?_
        refine pp_pc S hK hw d_B_back_94 (fun H locs hw => ?_)
        refine lv_aload_n S.1 S.2.1 d_B_back_97 rfl (lv_at hl 2 rfl) ?_
        refine lv_iload_n S.1 S.2.1 d_B_back_98 rfl (lv_at hl 0 rfl) ?_
        refine pp_place S hK hw d_B_back_99 (fun H locs hw => ?_)
        refine lv_iconst (v := 1) S.1 S.2.1 d_B_back_102 (by decide) ?_
        exact w_zretF S hr hlk isB1 hw h d_B_back_103
      by_cases q_50_1 : y_50 = (1 : Int32)
      · have h := h.2.1 q_50_1
        refine lv_tableIn (tgt := 104) (off := 54) S.1 S.2.1 d_B_back_50 (by rw [q_50_1]; decide) (by rw [q_50_1]; decide) (by rw [q_50_1]; rfl) (by decide) ?_
        refine lv_aload_n S.1 S.2.1 d_B_back_104 rfl (lv_at hl 2 rfl) ?_
        refine lv_dup S.1 S.2.1 d_B_back_105 rfl ?_
        refine pg_marked S hK hw d_B_back_106 ?_
        refine lv_iconst (v := 1) S.1 S.2.1 d_B_back_109 (by decide) ?_
        refine lv_isub S.1 S.2.1 d_B_back_110 ?_
        refine pp_marked S hK hw d_B_back_111 (fun H locs hw => ?_)
        refine lv_goto (tgt := 186) S.1 S.2.1 d_B_back_114 (by decide) ?_
        exact wB_B_back_186 S hr hlk hK hE hA ih  (ps_marked (ps_height u ((p_height u) - (3 : Int32))) ((p_marked (ps_height u ((p_height u) - (3 : Int32)))) - (1 : Int32))) _ _ _ (lv_sub hl [2] rfl) hw h
      by_cases q_50_2 : y_50 = (2 : Int32)
      · have h := h.2.2.1 q_50_2
        refine lv_tableIn (tgt := 117) (off := 67) S.1 S.2.1 d_B_back_50 (by rw [q_50_2]; decide) (by rw [q_50_2]; decide) (by rw [q_50_2]; rfl) (by decide) ?_
        refine lv_aload_n S.1 S.2.1 d_B_back_117 rfl (lv_at hl 2 rfl) ?_
        refine pg_marks S hK hw d_B_back_118 ?_
        refine lv_aload_n S.1 S.2.1 d_B_back_121 rfl (lv_at hl 2 rfl) ?_
        refine pg_marked S hK hw d_B_back_122 ?_
        refine lv_iload_n S.1 S.2.1 d_B_back_125 rfl (lv_at hl 1 rfl) ?_
        have hg := h.1
        have h := h.2
        refine pt_kF S hK hw hg d_B_back_126 (fun H locs hw => ?_)
        refine lv_aload_n S.1 S.2.1 d_B_back_127 rfl (lv_at hl 2 rfl) ?_
        refine lv_dup S.1 S.2.1 d_B_back_128 rfl ?_
        refine pg_marked S hK hw d_B_back_129 ?_
        refine lv_iconst (v := 1) S.1 S.2.1 d_B_back_132 (by decide) ?_
        refine lv_iadd S.1 S.2.1 d_B_back_133 ?_
        refine pp_marked S hK hw d_B_back_134 (fun H locs hw => ?_)
        refine lv_goto (tgt := 186) S.1 S.2.1 d_B_back_137 (by decide) ?_
        exact wB_B_back_186 S hr hlk hK hE hA ih  (ps_marked (ps_kF (ps_height u ((p_height u) - (3 : Int32))) (upd (p_kF (ps_height u ((p_height u) - (3 : Int32)))) (p_marked (ps_height u ((p_height u) - (3 : Int32)))).toNatClampNeg x1_28)) ((p_marked (ps_kF (ps_height u ((p_height u) - (3 : Int32))) (upd (p_kF (ps_height u ((p_height u) - (3 : Int32)))) (p_marked (ps_height u ((p_height u) - (3 : Int32)))).toNatClampNeg x1_28))) + (1 : Int32))) _ _ _ (lv_sub hl [2] rfl) hw h
      by_cases q_50_3 : y_50 = (3 : Int32)
      · have h := h.2.2.2.1 q_50_3
        refine lv_tableIn (tgt := 140) (off := 90) S.1 S.2.1 d_B_back_50 (by rw [q_50_3]; decide) (by rw [q_50_3]; decide) (by rw [q_50_3]; rfl) (by decide) ?_
        refine lv_aload_n S.1 S.2.1 d_B_back_140 rfl (lv_at hl 2 rfl) ?_
        refine pg_captures S hK hw d_B_back_141 ?_
        refine lv_iload_n S.1 S.2.1 d_B_back_144 rfl (lv_at hl 1 rfl) ?_
        refine lv_iload_n S.1 S.2.1 d_B_back_145 rfl (lv_at hl 0 rfl) ?_
        have hg := h.1
        have h := h.2
        refine pt_cF S hK hw hg d_B_back_146 (fun H locs hw => ?_)
        refine lv_goto (tgt := 186) S.1 S.2.1 d_B_back_147 (by decide) ?_
        exact wB_B_back_186 S hr hlk hK hE hA ih  (ps_cF (ps_height u ((p_height u) - (3 : Int32))) (upd (p_cF (ps_height u ((p_height u) - (3 : Int32)))) x1_28.toNatClampNeg x2_40)) _ _ _ (lv_sub hl [2] rfl) hw h
      by_cases q_50_4 : y_50 = (4 : Int32)
      · have h := h.2.2.2.2.1 q_50_4
        refine lv_tableIn (tgt := 150) (off := 100) S.1 S.2.1 d_B_back_50 (by rw [q_50_4]; decide) (by rw [q_50_4]; decide) (by rw [q_50_4]; rfl) (by decide) ?_
        refine lv_aload_n S.1 S.2.1 d_B_back_150 rfl (lv_at hl 2 rfl) ?_
        refine pg_frames S hK hw d_B_back_151 ?_
        refine lv_iload_n S.1 S.2.1 d_B_back_154 rfl (lv_at hl 1 rfl) ?_
        refine lv_iload_n S.1 S.2.1 d_B_back_155 rfl (lv_at hl 0 rfl) ?_
        have hg := h.1
        have h := h.2
        refine pt_fF S hK hw hg d_B_back_156 (fun H locs hw => ?_)
        refine lv_goto (tgt := 186) S.1 S.2.1 d_B_back_157 (by decide) ?_
        exact wB_B_back_186 S hr hlk hK hE hA ih  (ps_fF (ps_height u ((p_height u) - (3 : Int32))) (upd (p_fF (ps_height u ((p_height u) - (3 : Int32)))) x1_28.toNatClampNeg x2_40)) _ _ _ (lv_sub hl [2] rfl) hw h
      by_cases q_50_5 : y_50 = (5 : Int32)
      · have h := h.2.2.2.2.2.1 q_50_5
        refine lv_tableIn (tgt := 160) (off := 110) S.1 S.2.1 d_B_back_50 (by rw [q_50_5]; decide) (by rw [q_50_5]; decide) (by rw [q_50_5]; rfl) (by decide) ?_
        refine lv_aload_n S.1 S.2.1 d_B_back_160 rfl (lv_at hl 2 rfl) ?_
        refine lv_dup S.1 S.2.1 d_B_back_161 rfl ?_
        refine pg_calls S hK hw d_B_back_162 ?_
        refine lv_iconst (v := 1) S.1 S.2.1 d_B_back_165 (by decide) ?_
        refine lv_isub S.1 S.2.1 d_B_back_166 ?_
        refine pp_calls S hK hw d_B_back_167 (fun H locs hw => ?_)
        refine lv_goto (tgt := 186) S.1 S.2.1 d_B_back_170 (by decide) ?_
        exact wB_B_back_186 S hr hlk hK hE hA ih  (ps_calls (ps_height u ((p_height u) - (3 : Int32))) ((p_calls (ps_height u ((p_height u) - (3 : Int32)))) - (1 : Int32))) _ _ _ (lv_sub hl [2] rfl) hw h
      by_cases q_50_6 : y_50 = (6 : Int32)
      · have h := h.2.2.2.2.2.2.1 q_50_6
        refine lv_tableIn (tgt := 173) (off := 123) S.1 S.2.1 d_B_back_50 (by rw [q_50_6]; decide) (by rw [q_50_6]; decide) (by rw [q_50_6]; rfl) (by decide) ?_
        refine lv_aload_n S.1 S.2.1 d_B_back_173 rfl (lv_at hl 2 rfl) ?_
        refine lv_dup S.1 S.2.1 d_B_back_174 rfl ?_
        refine pg_calls S hK hw d_B_back_175 ?_
        refine lv_iconst (v := 1) S.1 S.2.1 d_B_back_178 (by decide) ?_
        refine lv_iadd S.1 S.2.1 d_B_back_179 ?_
        refine pp_calls S hK hw d_B_back_180 (fun H locs hw => ?_)
        refine lv_goto (tgt := 186) S.1 S.2.1 d_B_back_183 (by decide) ?_
        exact wB_B_back_186 S hr hlk hK hE hA ih  (ps_calls (ps_height u ((p_height u) - (3 : Int32))) ((p_calls (ps_height u ((p_height u) - (3 : Int32)))) + (1 : Int32))) _ _ _ (lv_sub hl [2] rfl) hw h
      have h := h.2.2.2.2.2.2.2 q_50_0 q_50_1 q_50_2 q_50_3 q_50_4 q_50_5 q_50_6
      have z_0 : y_50.toInt ≠ 0 := fun e9 => q_50_0 (Int32.toInt_inj.mp (by rw [e9]; rfl))
      have z_1 : y_50.toInt ≠ 1 := fun e9 => q_50_1 (Int32.toInt_inj.mp (by rw [e9]; rfl))
      have z_2 : y_50.toInt ≠ 2 := fun e9 => q_50_2 (Int32.toInt_inj.mp (by rw [e9]; rfl))
      have z_3 : y_50.toInt ≠ 3 := fun e9 => q_50_3 (Int32.toInt_inj.mp (by rw [e9]; rfl))
      have z_4 : y_50.toInt ≠ 4 := fun e9 => q_50_4 (Int32.toInt_inj.mp (by rw [e9]; rfl))
      have z_5 : y_50.toInt ≠ 5 := fun e9 => q_50_5 (Int32.toInt_inj.mp (by rw [e9]; rfl))
      have z_6 : y_50.toInt ≠ 6 := fun e9 => q_50_6 (Int32.toInt_inj.mp (by rw [e9]; rfl))
      refine lv_tableOut (tgt := 186) S.1 S.2.1 d_B_back_50 (by omega) (by decide) ?_
      exact wB_B_back_186 S hr hlk hK hE hA ih  (ps_height u ((p_height u) - (3 : Int32))) _ _ _ (lv_sub hl [2] rfl) hw h
set_option maxHeartbeats 4000000 in
set_option maxRecDepth 20000 in
theorem c_B_back {x : GX} {g : GE} {o : Nat} {ex : va_W} {a : Nat → Nat} (l : Launch)  (u : PS) (sz : Nat) (Qc : Int32 → PS → Prop) (h : P_B_back  u Qc) : Met l y_B_back (wM y_B_back b_B_back 3 (some .boolean)) (rmN 0 0 0) (PreE x g (pcl x g o) ex [.ref o] a u sz) (QfI x (pcl x g o) ex a (va_A ((pcl x g o) a u ++ ex) sz) Qc) 0 0 (va_A ((pcl x g o) a u ++ ex) sz) := by
  refine w_enterE (by decide +kernel) (Nat.le_of_ble_eq_true rfl) (fun p e s m args below meth c S hr hlk hnm hK hE hA hw ls hl => ?_)
  have hl : lv_has ls 3 [(0, .ref o)] := hl
  obtain ⟨n9, h⟩ := h
  exact wL_B_back_0 S hr hlk hK hE hA  n9  u _ _ _ (lv_sub hl [0] rfl) hw h
end PW
abbrev b_B_forget : ByteArray := prog_1_method_25_code
def y_B_forget : MethodName := ⟨"PatternBench", "forget", "(I)V"⟩
theorem yd_B_forget : y_B_forget.cls ≠ "java/lang/invoke/MethodHandle" ∧ y_B_forget.cls ≠ "java/lang/invoke/VarHandle" ∧ (parseMethodDescriptor y_B_forget.desc).map (fun d => d.parameters.length) = some 1 := by decide +kernel
theorem d_B_forget_0 : decode b_B_forget 0 = .ok (.iload_n 1, 1) := by decide +kernel
theorem d_B_forget_1 : decode b_B_forget 1 = .ok (.istore_n 2, 1) := by decide +kernel
theorem d_B_forget_2 : decode b_B_forget 2 = .ok (.iload_n 1, 1) := by decide +kernel
theorem d_B_forget_3 : decode b_B_forget 3 = .ok (.istore_n 3, 1) := by decide +kernel
theorem d_B_forget_4 : decode b_B_forget 4 = .ok (.iload_n 3, 1) := by decide +kernel
theorem d_B_forget_5 : decode b_B_forget 5 = .ok (.aload_n 0, 1) := by decide +kernel
theorem d_B_forget_6 : decode b_B_forget 6 = .ok (.getfield 225, 3) := by decide +kernel
theorem d_B_forget_9 : decode b_B_forget 9 = .ok (.if_icmp .ge 68, 3) := by decide +kernel
theorem d_B_forget_12 : decode b_B_forget 12 = .ok (.aload_n 0, 1) := by decide +kernel
theorem d_B_forget_13 : decode b_B_forget 13 = .ok (.getfield 32, 3) := by decide +kernel
theorem d_B_forget_16 : decode b_B_forget 16 = .ok (.iload_n 3, 1) := by decide +kernel
theorem d_B_forget_17 : decode b_B_forget 17 = .ok (.iaload, 1) := by decide +kernel
theorem d_B_forget_18 : decode b_B_forget 18 = .ok (.ifCond .ne 6, 3) := by decide +kernel
theorem d_B_forget_21 : decode b_B_forget 21 = .ok (.goto 50, 3) := by decide +kernel
theorem d_B_forget_24 : decode b_B_forget 24 = .ok (.aload_n 0, 1) := by decide +kernel
theorem d_B_forget_25 : decode b_B_forget 25 = .ok (.getfield 32, 3) := by decide +kernel
theorem d_B_forget_28 : decode b_B_forget 28 = .ok (.iload_n 2, 1) := by decide +kernel
theorem d_B_forget_29 : decode b_B_forget 29 = .ok (.aload_n 0, 1) := by decide +kernel
theorem d_B_forget_30 : decode b_B_forget 30 = .ok (.getfield 32, 3) := by decide +kernel
theorem d_B_forget_33 : decode b_B_forget 33 = .ok (.iload_n 3, 1) := by decide +kernel
theorem d_B_forget_34 : decode b_B_forget 34 = .ok (.iaload, 1) := by decide +kernel
theorem d_B_forget_35 : decode b_B_forget 35 = .ok (.iastore, 1) := by decide +kernel
theorem d_B_forget_36 : decode b_B_forget 36 = .ok (.aload_n 0, 1) := by decide +kernel
theorem d_B_forget_37 : decode b_B_forget 37 = .ok (.getfield 32, 3) := by decide +kernel
theorem d_B_forget_40 : decode b_B_forget 40 = .ok (.iload_n 2, 1) := by decide +kernel
theorem d_B_forget_41 : decode b_B_forget 41 = .ok (.iconst 1, 1) := by decide +kernel
theorem d_B_forget_42 : decode b_B_forget 42 = .ok (.iadd, 1) := by decide +kernel
theorem d_B_forget_43 : decode b_B_forget 43 = .ok (.aload_n 0, 1) := by decide +kernel
theorem d_B_forget_44 : decode b_B_forget 44 = .ok (.getfield 32, 3) := by decide +kernel
theorem d_B_forget_47 : decode b_B_forget 47 = .ok (.iload_n 3, 1) := by decide +kernel
theorem d_B_forget_48 : decode b_B_forget 48 = .ok (.iconst 1, 1) := by decide +kernel
theorem d_B_forget_49 : decode b_B_forget 49 = .ok (.iadd, 1) := by decide +kernel
theorem d_B_forget_50 : decode b_B_forget 50 = .ok (.iaload, 1) := by decide +kernel
theorem d_B_forget_51 : decode b_B_forget 51 = .ok (.iastore, 1) := by decide +kernel
theorem d_B_forget_52 : decode b_B_forget 52 = .ok (.aload_n 0, 1) := by decide +kernel
theorem d_B_forget_53 : decode b_B_forget 53 = .ok (.getfield 32, 3) := by decide +kernel
theorem d_B_forget_56 : decode b_B_forget 56 = .ok (.iload_n 2, 1) := by decide +kernel
theorem d_B_forget_57 : decode b_B_forget 57 = .ok (.iconst 2, 1) := by decide +kernel
theorem d_B_forget_58 : decode b_B_forget 58 = .ok (.iadd, 1) := by decide +kernel
theorem d_B_forget_59 : decode b_B_forget 59 = .ok (.aload_n 0, 1) := by decide +kernel
theorem d_B_forget_60 : decode b_B_forget 60 = .ok (.getfield 32, 3) := by decide +kernel
theorem d_B_forget_63 : decode b_B_forget 63 = .ok (.iload_n 3, 1) := by decide +kernel
theorem d_B_forget_64 : decode b_B_forget 64 = .ok (.iconst 2, 1) := by decide +kernel
theorem d_B_forget_65 : decode b_B_forget 65 = .ok (.iadd, 1) := by decide +kernel
theorem d_B_forget_66 : decode b_B_forget 66 = .ok (.iaload, 1) := by decide +kernel
theorem d_B_forget_67 : decode b_B_forget 67 = .ok (.iastore, 1) := by decide +kernel
theorem d_B_forget_68 : decode b_B_forget 68 = .ok (.iinc 2 3, 3) := by decide +kernel
theorem d_B_forget_71 : decode b_B_forget 71 = .ok (.iinc 3 3, 3) := by decide +kernel
theorem d_B_forget_74 : decode b_B_forget 74 = .ok (.goto (-70), 3) := by decide +kernel
theorem d_B_forget_77 : decode b_B_forget 77 = .ok (.aload_n 0, 1) := by decide +kernel
theorem d_B_forget_78 : decode b_B_forget 78 = .ok (.iload_n 2, 1) := by decide +kernel
theorem d_B_forget_79 : decode b_B_forget 79 = .ok (.putfield 225, 3) := by decide +kernel
theorem d_B_forget_82 : decode b_B_forget 82 = .ok (.return_, 1) := by decide +kernel
def B_B_forget_71 (Qc : PS → Prop) (K4 : Int32 → Int32 → PS → Prop) (x2 : Int32) (x3 : Int32) (u : PS) : Prop := (∀ x3_71 : Int32, x3_71 = x3 + 3 → K4 x2 x3_71 u)
def L_B_forget_4 (Qc : PS → Prop)  : Nat → Int32 → Int32 → PS → Prop
  | 0, _, _, _ => False
  | n + 1, x2, x3, u => (((p_height u) ≤ x3 → Qc (ps_height u x2)) ∧ (¬ (p_height u) ≤ x3 → (vp_in x3 (p_tN u) ∧ (((p_tF u x3.toNatClampNeg) = (0 : Int32) → B_B_forget_71 Qc (L_B_forget_4 Qc n) x2 x3 u) ∧ (¬ (p_tF u x3.toNatClampNeg) = (0 : Int32) → (vp_in x3 (p_tN u) ∧ (vp_in x2 (p_tN u) ∧ (vp_in (x3 + (1 : Int32)) (p_tN (ps_tF u (upd (p_tF u) x2.toNatClampNeg (p_tF u x3.toNatClampNeg)))) ∧ (vp_in (x2 + (1 : Int32)) (p_tN (ps_tF u (upd (p_tF u) x2.toNatClampNeg (p_tF u x3.toNatClampNeg)))) ∧ (vp_in (x3 + (2 : Int32)) (p_tN (ps_tF (ps_tF u (upd (p_tF u) x2.toNatClampNeg (p_tF u x3.toNatClampNeg))) (upd (p_tF (ps_tF u (upd (p_tF u) x2.toNatClampNeg (p_tF u x3.toNatClampNeg)))) (x2 + (1 : Int32)).toNatClampNeg (p_tF (ps_tF u (upd (p_tF u) x2.toNatClampNeg (p_tF u x3.toNatClampNeg))) (x3 + (1 : Int32)).toNatClampNeg)))) ∧ (vp_in (x2 + (2 : Int32)) (p_tN (ps_tF (ps_tF u (upd (p_tF u) x2.toNatClampNeg (p_tF u x3.toNatClampNeg))) (upd (p_tF (ps_tF u (upd (p_tF u) x2.toNatClampNeg (p_tF u x3.toNatClampNeg)))) (x2 + (1 : Int32)).toNatClampNeg (p_tF (ps_tF u (upd (p_tF u) x2.toNatClampNeg (p_tF u x3.toNatClampNeg))) (x3 + (1 : Int32)).toNatClampNeg)))) ∧ (∀ x2_68 : Int32, x2_68 = x2 + 3 → B_B_forget_71 Qc (L_B_forget_4 Qc n) x2_68 x3 (ps_tF (ps_tF (ps_tF u (upd (p_tF u) x2.toNatClampNeg (p_tF u x3.toNatClampNeg))) (upd (p_tF (ps_tF u (upd (p_tF u) x2.toNatClampNeg (p_tF u x3.toNatClampNeg)))) (x2 + (1 : Int32)).toNatClampNeg (p_tF (ps_tF u (upd (p_tF u) x2.toNatClampNeg (p_tF u x3.toNatClampNeg))) (x3 + (1 : Int32)).toNatClampNeg))) (upd (p_tF (ps_tF (ps_tF u (upd (p_tF u) x2.toNatClampNeg (p_tF u x3.toNatClampNeg))) (upd (p_tF (ps_tF u (upd (p_tF u) x2.toNatClampNeg (p_tF u x3.toNatClampNeg)))) (x2 + (1 : Int32)).toNatClampNeg (p_tF (ps_tF u (upd (p_tF u) x2.toNatClampNeg (p_tF u x3.toNatClampNeg))) (x3 + (1 : Int32)).toNatClampNeg)))) (x2 + (2 : Int32)).toNatClampNeg (p_tF (ps_tF (ps_tF u (upd (p_tF u) x2.toNatClampNeg (p_tF u x3.toNatClampNeg))) (upd (p_tF (ps_tF u (upd (p_tF u) x2.toNatClampNeg (p_tF u x3.toNatClampNeg)))) (x2 + (1 : Int32)).toNatClampNeg (p_tF (ps_tF u (upd (p_tF u) x2.toNatClampNeg (p_tF u x3.toNatClampNeg))) (x3 + (1 : Int32)).toNatClampNeg))) (x3 + (2 : Int32)).toNatClampNeg)))))))))))))))
def P_B_forget (x1 : Int32) (u : PS) (Qc : PS → Prop) : Prop := ∃ n, L_B_forget_4 Qc  n x1 x1 u
section PW
variable {p : Program} {l : Launch} {e : Env} {s : State} {m : MethodId} {args : Array Value} {below : List Frame} {meth : Method} {c : Code} {x : GX} {g : GE} {ex : va_W} {a : Nat → Nat} {A : Nat → Prop} {o : Nat}
set_option maxHeartbeats 4000000 in
set_option maxRecDepth 20000 in
theorem wB_B_forget_71 (S : CallFix p m c b_B_forget 4 s args lw_tg "PatternBench") (hr : meth.sig.returnType = none) (hlk : meth.locks = false) (hK : GK x s) (hE : EN g A s s.heap) (hA : ∀ q : Nat, s.heap.size ≤ q → A q) {Qc : PS → Prop}  {K4 : Int32 → Int32 → PS → Prop} (ih4 : ∀ (x2 : Int32) (x3 : Int32) (u : PS) (ls : Array Slot) (H : Heap) (locs : List Loc), lv_has ls 4 [(0, .ref o), (2, .int x2), (3, .int x3)] → wd x A s.heap ((pcl x g o) a u ++ ex) H locs → K4 x2 x3 u → W p l e (rmN 0 0 0) s m args below meth c H locs 0 0 (MQ below (QfV x (pcl x g o) ex a A Qc) args s 0 0 A) (F0 m 4 ls [])) : ∀ (x2 : Int32) (x3 : Int32) (u : PS) (ls : Array Slot) (H : Heap) (locs : List Loc), lv_has ls 4 [(0, .ref o), (2, .int x2), (3, .int x3)] → wd x A s.heap ((pcl x g o) a u ++ ex) H locs → B_B_forget_71 Qc K4 x2 x3 u → W p l e (rmN 0 0 0) s m args below meth c H locs 0 0 (MQ below (QfV x (pcl x g o) ex a A Qc) args s 0 0 A) (F0 m 71 ls []) := by
  intro x2 x3 u ls H locs hl hw h
  obtain ⟨x3_71, ex3_71⟩ : ∃ y : Int32, y = x3 + 3 := ⟨_, rfl⟩
  have h := h x3_71 ex3_71
  refine lv_iinc (v := x3_71) (lv' := [(3, .int x3_71), (0, .ref o), (2, .int x2)]) S.1 S.2.1 d_B_forget_71 hl (k := 2) rfl (by rw [ex3_71]; rfl) (by decide) rfl (fun ls hl => ?_)
  refine lv_goto (tgt := 4) S.1 S.2.1 d_B_forget_74 (by decide) ?_
  exact ih4 x2 x3_71 u _ _ _ (lv_sub hl [1, 2, 0] rfl) hw h
set_option maxHeartbeats 4000000 in
set_option maxRecDepth 20000 in
theorem wL_B_forget_4 (S : CallFix p m c b_B_forget 4 s args lw_tg "PatternBench") (hr : meth.sig.returnType = none) (hlk : meth.locks = false) (hK : GK x s) (hE : EN g A s s.heap) (hA : ∀ q : Nat, s.heap.size ≤ q → A q) {Qc : PS → Prop}  : ∀ (n : Nat) (x2 : Int32) (x3 : Int32) (u : PS) (ls : Array Slot) (H : Heap) (locs : List Loc), lv_has ls 4 [(0, .ref o), (2, .int x2), (3, .int x3)] → wd x A s.heap ((pcl x g o) a u ++ ex) H locs → L_B_forget_4 Qc  n x2 x3 u → W p l e (rmN 0 0 0) s m args below meth c H locs 0 0 (MQ below (QfV x (pcl x g o) ex a A Qc) args s 0 0 A) (F0 m 4 ls []) := by
  intro n
  induction n with
  | zero =>
    intro x2 x3 u ls H locs hl hw h
    exact absurd h id
  | succ n ih =>
    intro x2 x3 u ls H locs hl hw h
    refine lv_iload_n S.1 S.2.1 d_B_forget_4 rfl (lv_at hl 2 rfl) ?_
    refine lv_aload_n S.1 S.2.1 d_B_forget_5 rfl (lv_at hl 0 rfl) ?_
    refine pg_height S hK hw d_B_forget_6 ?_
    refine lv_icmp_ge (tgt := 77) S.1 S.2.1 d_B_forget_9 (by decide) (fun q_9 => ?_) (fun q_9 => ?_)
    · have h := h.1 q_9
      refine lv_aload_n S.1 S.2.1 d_B_forget_77 rfl (lv_at hl 0 rfl) ?_
      refine lv_iload_n S.1 S.2.1 d_B_forget_78 rfl (lv_at hl 1 rfl) ?_
      refine pp_height S hK hw d_B_forget_79 (fun H locs hw => ?_)
      exact w_vretF S hr hlk hw h d_B_forget_82
    · have h := h.2 q_9
      refine lv_aload_n S.1 S.2.1 d_B_forget_12 rfl (lv_at hl 0 rfl) ?_
      refine pg_trail S hK hw d_B_forget_13 ?_
      refine lv_iload_n S.1 S.2.1 d_B_forget_16 rfl (lv_at hl 2 rfl) ?_
      have hg := h.1
      have h := h.2
      refine pl_tF S hK hw hg d_B_forget_17 ?_
      refine lv_if_ne (tgt := 24) S.1 S.2.1 d_B_forget_18 (by decide) (fun q_18 => ?_) (fun q_18 => ?_)
      · have h := h.2 q_18
        refine lv_aload_n S.1 S.2.1 d_B_forget_24 rfl (lv_at hl 0 rfl) ?_
        refine pg_trail S hK hw d_B_forget_25 ?_
        refine lv_iload_n S.1 S.2.1 d_B_forget_28 rfl (lv_at hl 1 rfl) ?_
        refine lv_aload_n S.1 S.2.1 d_B_forget_29 rfl (lv_at hl 0 rfl) ?_
        refine pg_trail S hK hw d_B_forget_30 ?_
        refine lv_iload_n S.1 S.2.1 d_B_forget_33 rfl (lv_at hl 2 rfl) ?_
        have hg := h.1
        have h := h.2
        refine pl_tF S hK hw hg d_B_forget_34 ?_
        have hg := h.1
        have h := h.2
        refine pt_tF S hK hw hg d_B_forget_35 (fun H locs hw => ?_)
        refine lv_aload_n S.1 S.2.1 d_B_forget_36 rfl (lv_at hl 0 rfl) ?_
        refine pg_trail S hK hw d_B_forget_37 ?_
        refine lv_iload_n S.1 S.2.1 d_B_forget_40 rfl (lv_at hl 1 rfl) ?_
        refine lv_iconst (v := 1) S.1 S.2.1 d_B_forget_41 (by decide) ?_
        refine lv_iadd S.1 S.2.1 d_B_forget_42 ?_
        refine lv_aload_n S.1 S.2.1 d_B_forget_43 rfl (lv_at hl 0 rfl) ?_
        refine pg_trail S hK hw d_B_forget_44 ?_
        refine lv_iload_n S.1 S.2.1 d_B_forget_47 rfl (lv_at hl 2 rfl) ?_
        refine lv_iconst (v := 1) S.1 S.2.1 d_B_forget_48 (by decide) ?_
        refine lv_iadd S.1 S.2.1 d_B_forget_49 ?_
        have hg := h.1
        have h := h.2
        refine pl_tF S hK hw hg d_B_forget_50 ?_
        have hg := h.1
        have h := h.2
        refine pt_tF S hK hw hg d_B_forget_51 (fun H locs hw => ?_)
        refine lv_aload_n S.1 S.2.1 d_B_forget_52 rfl (lv_at hl 0 rfl) ?_
        refine pg_trail S hK hw d_B_forget_53 ?_
        refine lv_iload_n S.1 S.2.1 d_B_forget_56 rfl (lv_at hl 1 rfl) ?_
        refine lv_iconst (v := 2) S.1 S.2.1 d_B_forget_57 (by decide) ?_
        refine lv_iadd S.1 S.2.1 d_B_forget_58 ?_
        refine lv_aload_n S.1 S.2.1 d_B_forget_59 rfl (lv_at hl 0 rfl) ?_
        refine pg_trail S hK hw d_B_forget_60 ?_
        refine lv_iload_n S.1 S.2.1 d_B_forget_63 rfl (lv_at hl 2 rfl) ?_
        refine lv_iconst (v := 2) S.1 S.2.1 d_B_forget_64 (by decide) ?_
        refine lv_iadd S.1 S.2.1 d_B_forget_65 ?_
        have hg := h.1
        have h := h.2
        refine pl_tF S hK hw hg d_B_forget_66 ?_
        have hg := h.1
        have h := h.2
        refine pt_tF S hK hw hg d_B_forget_67 (fun H locs hw => ?_)
        obtain ⟨x2_68, ex2_68⟩ : ∃ y : Int32, y = x2 + 3 := ⟨_, rfl⟩
        have h := h x2_68 ex2_68
        refine lv_iinc (v := x2_68) (lv' := [(2, .int x2_68), (0, .ref o), (3, .int x3)]) S.1 S.2.1 d_B_forget_68 hl (k := 1) rfl (by rw [ex2_68]; rfl) (by decide) rfl (fun ls hl => ?_)
        exact wB_B_forget_71 S hr hlk hK hE hA ih x2_68 x3 (ps_tF (ps_tF (ps_tF u (upd (p_tF u) x2.toNatClampNeg (p_tF u x3.toNatClampNeg))) (upd (p_tF (ps_tF u (upd (p_tF u) x2.toNatClampNeg (p_tF u x3.toNatClampNeg)))) (x2 + (1 : Int32)).toNatClampNeg (p_tF (ps_tF u (upd (p_tF u) x2.toNatClampNeg (p_tF u x3.toNatClampNeg))) (x3 + (1 : Int32)).toNatClampNeg))) (upd (p_tF (ps_tF (ps_tF u (upd (p_tF u) x2.toNatClampNeg (p_tF u x3.toNatClampNeg))) (upd (p_tF (ps_tF u (upd (p_tF u) x2.toNatClampNeg (p_tF u x3.toNatClampNeg)))) (x2 + (1 : Int32)).toNatClampNeg (p_tF (ps_tF u (upd (p_tF u) x2.toNatClampNeg (p_tF u x3.toNatClampNeg))) (x3 + (1 : Int32)).toNatClampNeg)))) (x2 + (2 : Int32)).toNatClampNeg (p_tF (ps_tF (ps_tF u (upd (p_tF u) x2.toNatClampNeg (p_tF u x3.toNatClampNeg))) (upd (p_tF (ps_tF u (upd (p_tF u) x2.toNatClampNeg (p_tF u x3.toNatClampNeg)))) (x2 + (1 : Int32)).toNatClampNeg (p_tF (ps_tF u (upd (p_tF u) x2.toNatClampNeg (p_tF u x3.toNatClampNeg))) (x3 + (1 : Int32)).toNatClampNeg))) (x3 + (2 : Int32)).toNatClampNeg))) _ _ _ (lv_sub hl [1, 0, 2] rfl) hw h
      · have h := h.1 q_18
        refine lv_goto (tgt := 71) S.1 S.2.1 d_B_forget_21 (by decide) ?_
        exact wB_B_forget_71 S hr hlk hK hE hA ih x2 x3 u _ _ _ (lv_sub hl [0, 1, 2] rfl) hw h
set_option maxHeartbeats 4000000 in
set_option maxRecDepth 20000 in
theorem c_B_forget {x : GX} {g : GE} {o : Nat} {ex : va_W} {a : Nat → Nat} (l : Launch) (x1 : Int32) (u : PS) (sz : Nat) (Qc : PS → Prop) (h : P_B_forget x1 u Qc) : Met l y_B_forget (wM y_B_forget b_B_forget 4 none) (rmN 0 0 0) (PreE x g (pcl x g o) ex [.ref o, .int x1] a u sz) (QfV x (pcl x g o) ex a (va_A ((pcl x g o) a u ++ ex) sz) Qc) 0 0 (va_A ((pcl x g o) a u ++ ex) sz) := by
  refine w_enterE (by decide +kernel) (Nat.le_of_ble_eq_true rfl) (fun p e s m args below meth c S hr hlk hnm hK hE hA hw ls hl => ?_)
  have hl : lv_has ls 4 [(0, .ref o), (1, .int x1)] := hl
  refine lv_iload_n S.1 S.2.1 d_B_forget_0 rfl (lv_at hl 1 rfl) ?_
  refine lv_istore_n (lv' := [(2, .int x1), (0, .ref o), (1, .int x1)]) S.1 S.2.1 d_B_forget_1 rfl hl (by decide) rfl (fun ls hl => ?_)
  refine lv_iload_n S.1 S.2.1 d_B_forget_2 rfl (lv_at hl 2 rfl) ?_
  refine lv_istore_n (lv' := [(3, .int x1), (2, .int x1), (0, .ref o), (1, .int x1)]) S.1 S.2.1 d_B_forget_3 rfl hl (by decide) rfl (fun ls hl => ?_)
  obtain ⟨n9, h⟩ := h
  exact wL_B_forget_4 S hr hlk hK hE hA  n9 x1 x1 u _ _ _ (lv_sub hl [2, 1, 0] rfl) hw h
end PW
abbrev b_B_letters : ByteArray := prog_1_method_29_code
def y_B_letters : MethodName := ⟨"PatternBench", "letters", "(I)Z"⟩
theorem yd_B_letters : y_B_letters.cls ≠ "java/lang/invoke/MethodHandle" ∧ y_B_letters.cls ≠ "java/lang/invoke/VarHandle" ∧ (parseMethodDescriptor y_B_letters.desc).map (fun d => d.parameters.length) = some 1 := by decide +kernel
theorem d_B_letters_0 : decode b_B_letters 0 = .ok (.aload_n 0, 1) := by decide +kernel
theorem d_B_letters_1 : decode b_B_letters 1 = .ok (.getfield 242, 3) := by decide +kernel
theorem d_B_letters_4 : decode b_B_letters 4 = .ok (.aload_n 0, 1) := by decide +kernel
theorem d_B_letters_5 : decode b_B_letters 5 = .ok (.getfield 16, 3) := by decide +kernel
theorem d_B_letters_8 : decode b_B_letters 8 = .ok (.invokevirtual 61, 3) := by decide +kernel
theorem d_B_letters_11 : decode b_B_letters 11 = .ok (.if_icmp .ge 24, 3) := by decide +kernel
theorem d_B_letters_14 : decode b_B_letters 14 = .ok (.iload_n 1, 1) := by decide +kernel
theorem d_B_letters_15 : decode b_B_letters 15 = .ok (.aload_n 0, 1) := by decide +kernel
theorem d_B_letters_16 : decode b_B_letters 16 = .ok (.getfield 16, 3) := by decide +kernel
theorem d_B_letters_19 : decode b_B_letters 19 = .ok (.aload_n 0, 1) := by decide +kernel
theorem d_B_letters_20 : decode b_B_letters 20 = .ok (.getfield 242, 3) := by decide +kernel
theorem d_B_letters_23 : decode b_B_letters 23 = .ok (.invokevirtual 65, 3) := by decide +kernel
theorem d_B_letters_26 : decode b_B_letters 26 = .ok (.bipush 97, 2) := by decide +kernel
theorem d_B_letters_28 : decode b_B_letters 28 = .ok (.isub, 1) := by decide +kernel
theorem d_B_letters_29 : decode b_B_letters 29 = .ok (.ishr, 1) := by decide +kernel
theorem d_B_letters_30 : decode b_B_letters 30 = .ok (.iconst 1, 1) := by decide +kernel
theorem d_B_letters_31 : decode b_B_letters 31 = .ok (.iand, 1) := by decide +kernel
theorem d_B_letters_32 : decode b_B_letters 32 = .ok (.ifCond .ne 5, 3) := by decide +kernel
theorem d_B_letters_35 : decode b_B_letters 35 = .ok (.iconst 0, 1) := by decide +kernel
theorem d_B_letters_36 : decode b_B_letters 36 = .ok (.ireturn, 1) := by decide +kernel
theorem d_B_letters_37 : decode b_B_letters 37 = .ok (.aload_n 0, 1) := by decide +kernel
theorem d_B_letters_38 : decode b_B_letters 38 = .ok (.dup, 1) := by decide +kernel
theorem d_B_letters_39 : decode b_B_letters 39 = .ok (.getfield 242, 3) := by decide +kernel
theorem d_B_letters_42 : decode b_B_letters 42 = .ok (.iconst 1, 1) := by decide +kernel
theorem d_B_letters_43 : decode b_B_letters 43 = .ok (.iadd, 1) := by decide +kernel
theorem d_B_letters_44 : decode b_B_letters 44 = .ok (.putfield 242, 3) := by decide +kernel
theorem d_B_letters_47 : decode b_B_letters 47 = .ok (.iconst 1, 1) := by decide +kernel
theorem d_B_letters_48 : decode b_B_letters 48 = .ok (.ireturn, 1) := by decide +kernel
def P_B_letters (x1 : Int32) (u : PS) (Qc : Int32 → PS → Prop) : Prop := P_SB_length  (p_su u) (fun r_8 z_8 => ((r_8 ≤ (p_place u) → Qc (0 : Int32) (ps_su u z_8)) ∧ (¬ r_8 ≤ (p_place u) → P_SB_charAt (p_place (ps_su u z_8)) (p_su (ps_su u z_8)) (fun r_23 z_23 => ((((x1 >>> ((r_23 - (97 : Int32)) &&& 31)) &&& (1 : Int32)) = (0 : Int32) → Qc (0 : Int32) (ps_su (ps_su u z_8) z_23)) ∧ (¬ ((x1 >>> ((r_23 - (97 : Int32)) &&& 31)) &&& (1 : Int32)) = (0 : Int32) → Qc (1 : Int32) (ps_place (ps_su (ps_su u z_8) z_23) ((p_place (ps_su (ps_su u z_8) z_23)) + (1 : Int32)))))))))
section PW
variable {p : Program} {l : Launch} {e : Env} {s : State} {m : MethodId} {args : Array Value} {below : List Frame} {meth : Method} {c : Code} {x : GX} {g : GE} {ex : va_W} {a : Nat → Nat} {A : Nat → Prop} {o : Nat}
set_option maxHeartbeats 4000000 in
set_option maxRecDepth 20000 in
theorem c_B_letters {x : GX} {g : GE} {o : Nat} {ex : va_W} {a : Nat → Nat} (l : Launch) (x1 : Int32) (u : PS) (sz : Nat) (Qc : Int32 → PS → Prop) (h : P_B_letters x1 u Qc) : Met l y_B_letters (wM y_B_letters b_B_letters 2 (some .boolean)) (rmN 6 0 0) (PreE x g (pcl x g o) ex [.ref o, .int x1] a u sz) (QfI x (pcl x g o) ex a (va_A ((pcl x g o) a u ++ ex) sz) Qc) 0 0 (va_A ((pcl x g o) a u ++ ex) sz) := by
  refine w_enterE (by decide +kernel) (Nat.le_of_ble_eq_true rfl) (fun p e s m args below meth c S hr hlk hnm hK hE hA hw ls hl => ?_)
  have hl : lv_has ls 2 [(0, .ref o), (1, .int x1)] := hl
  refine lv_aload_n S.1 S.2.1 d_B_letters_0 rfl (lv_at hl 0 rfl) ?_
  refine pg_place S hK hw d_B_letters_1 ?_
  refine lv_aload_n S.1 S.2.1 d_B_letters_4 rfl (lv_at hl 0 rfl) ?_
  refine pg_subject S hK hw d_B_letters_5 ?_
  have hw2 := pb_su_out hw
  refine w_ciF hA hw2 (w_rvE (rest := [.int (p_place u)]) S hK hE hA hw2 (c_SB_length l  (p_su u) _ _ h) (ci := 3) (q0 := 0) rfl rfl (w_cb (fr := 0) (lv := 0) S.2.2.2.2 k_278 k_275 k_3 yd_SB_length rfl rfl ⟨Nat.le_of_ble_eq_true rfl, Nat.le_of_ble_eq_true rfl⟩) k_276 k_277 rfl hl.1 rfl (Nat.le_of_ble_eq_true rfl) d_B_letters_8 ⟨(Nat.zero_le _), (Nat.zero_le _)⟩) (fun r_8 z_8 H locs h hw => ?_)
  have hw : wd x _ _ ((pcl x g o) a (ps_su u z_8) ++ ex) H locs := pb_su_inF hw
  refine lv_icmp_ge (tgt := 35) S.1 S.2.1 d_B_letters_11 (by decide) (fun q_11 => ?_) (fun q_11 => ?_)
  · have h := h.1 q_11
    refine lv_iconst (v := 0) S.1 S.2.1 d_B_letters_35 (by decide) ?_
    exact w_zretF S hr hlk isB0 hw h d_B_letters_36
  · have h := h.2 q_11
    refine lv_iload_n S.1 S.2.1 d_B_letters_14 rfl (lv_at hl 1 rfl) ?_
    refine lv_aload_n S.1 S.2.1 d_B_letters_15 rfl (lv_at hl 0 rfl) ?_
    refine pg_subject S hK hw d_B_letters_16 ?_
    refine lv_aload_n S.1 S.2.1 d_B_letters_19 rfl (lv_at hl 0 rfl) ?_
    refine pg_place S hK hw d_B_letters_20 ?_
    have hw2 := pb_su_out hw
    refine w_ciF hA hw2 (w_rvE (rest := [.int x1]) S hK hE hA hw2 (c_SB_charAt l (p_place (ps_su u z_8)) (p_su (ps_su u z_8)) _ _ h) (ci := 3) (q0 := 0) rfl rfl (w_cb (fr := 0) (lv := 0) S.2.2.2.2 k_407 k_404 k_3 yd_SB_charAt rfl rfl ⟨Nat.le_of_ble_eq_true rfl, Nat.le_of_ble_eq_true rfl⟩) k_405 k_406 rfl hl.1 rfl (Nat.le_of_ble_eq_true rfl) d_B_letters_23 ⟨(Nat.zero_le _), (Nat.zero_le _)⟩) (fun r_23 z_23 H locs h hw => ?_)
    have hw : wd x _ _ ((pcl x g o) a (ps_su (ps_su u z_8) z_23) ++ ex) H locs := pb_su_inF hw
    refine lv_bipush (v := 97) S.1 S.2.1 d_B_letters_26 (by decide) ?_
    refine lv_isub S.1 S.2.1 d_B_letters_28 ?_
    refine lv_ishr S.1 S.2.1 d_B_letters_29 ?_
    refine lv_iconst (v := 1) S.1 S.2.1 d_B_letters_30 (by decide) ?_
    refine lv_iand S.1 S.2.1 d_B_letters_31 ?_
    refine lv_if_ne (tgt := 37) S.1 S.2.1 d_B_letters_32 (by decide) (fun q_32 => ?_) (fun q_32 => ?_)
    · have h := h.2 q_32
      refine lv_aload_n S.1 S.2.1 d_B_letters_37 rfl (lv_at hl 0 rfl) ?_
      refine lv_dup S.1 S.2.1 d_B_letters_38 rfl ?_
      refine pg_place S hK hw d_B_letters_39 ?_
      refine lv_iconst (v := 1) S.1 S.2.1 d_B_letters_42 (by decide) ?_
      refine lv_iadd S.1 S.2.1 d_B_letters_43 ?_
      refine pp_place S hK hw d_B_letters_44 (fun H locs hw => ?_)
      refine lv_iconst (v := 1) S.1 S.2.1 d_B_letters_47 (by decide) ?_
      exact w_zretF S hr hlk isB1 hw h d_B_letters_48
    · have h := h.1 q_32
      refine lv_iconst (v := 0) S.1 S.2.1 d_B_letters_35 (by decide) ?_
      exact w_zretF S hr hlk isB0 hw h d_B_letters_36
end PW
abbrev b_B_reference : ByteArray := prog_1_method_30_code
def y_B_reference : MethodName := ⟨"PatternBench", "reference", "(I)Z"⟩
theorem yd_B_reference : y_B_reference.cls ≠ "java/lang/invoke/MethodHandle" ∧ y_B_reference.cls ≠ "java/lang/invoke/VarHandle" ∧ (parseMethodDescriptor y_B_reference.desc).map (fun d => d.parameters.length) = some 1 := by decide +kernel
theorem d_B_reference_0 : decode b_B_reference 0 = .ok (.aload_n 0, 1) := by decide +kernel
theorem d_B_reference_1 : decode b_B_reference 1 = .ok (.getfield 36, 3) := by decide +kernel
theorem d_B_reference_4 : decode b_B_reference 4 = .ok (.iconst 2, 1) := by decide +kernel
theorem d_B_reference_5 : decode b_B_reference 5 = .ok (.iload_n 1, 1) := by decide +kernel
theorem d_B_reference_6 : decode b_B_reference 6 = .ok (.imul, 1) := by decide +kernel
theorem d_B_reference_7 : decode b_B_reference 7 = .ok (.iaload, 1) := by decide +kernel
theorem d_B_reference_8 : decode b_B_reference 8 = .ok (.istore_n 2, 1) := by decide +kernel
theorem d_B_reference_9 : decode b_B_reference 9 = .ok (.iload_n 2, 1) := by decide +kernel
theorem d_B_reference_10 : decode b_B_reference 10 = .ok (.bipush (-6), 2) := by decide +kernel
theorem d_B_reference_12 : decode b_B_reference 12 = .ok (.if_icmp .ne 5, 3) := by decide +kernel
theorem d_B_reference_15 : decode b_B_reference 15 = .ok (.iconst 0, 1) := by decide +kernel
theorem d_B_reference_16 : decode b_B_reference 16 = .ok (.ireturn, 1) := by decide +kernel
theorem d_B_reference_17 : decode b_B_reference 17 = .ok (.aload_n 0, 1) := by decide +kernel
theorem d_B_reference_18 : decode b_B_reference 18 = .ok (.getfield 36, 3) := by decide +kernel
theorem d_B_reference_21 : decode b_B_reference 21 = .ok (.iconst 2, 1) := by decide +kernel
theorem d_B_reference_22 : decode b_B_reference 22 = .ok (.iload_n 1, 1) := by decide +kernel
theorem d_B_reference_23 : decode b_B_reference 23 = .ok (.imul, 1) := by decide +kernel
theorem d_B_reference_24 : decode b_B_reference 24 = .ok (.iconst 1, 1) := by decide +kernel
theorem d_B_reference_25 : decode b_B_reference 25 = .ok (.iadd, 1) := by decide +kernel
theorem d_B_reference_26 : decode b_B_reference 26 = .ok (.iaload, 1) := by decide +kernel
theorem d_B_reference_27 : decode b_B_reference 27 = .ok (.iload_n 2, 1) := by decide +kernel
theorem d_B_reference_28 : decode b_B_reference 28 = .ok (.isub, 1) := by decide +kernel
theorem d_B_reference_29 : decode b_B_reference 29 = .ok (.istore_n 3, 1) := by decide +kernel
theorem d_B_reference_30 : decode b_B_reference 30 = .ok (.aload_n 0, 1) := by decide +kernel
theorem d_B_reference_31 : decode b_B_reference 31 = .ok (.getfield 242, 3) := by decide +kernel
theorem d_B_reference_34 : decode b_B_reference 34 = .ok (.iload_n 3, 1) := by decide +kernel
theorem d_B_reference_35 : decode b_B_reference 35 = .ok (.iadd, 1) := by decide +kernel
theorem d_B_reference_36 : decode b_B_reference 36 = .ok (.aload_n 0, 1) := by decide +kernel
theorem d_B_reference_37 : decode b_B_reference 37 = .ok (.getfield 16, 3) := by decide +kernel
theorem d_B_reference_40 : decode b_B_reference 40 = .ok (.invokevirtual 61, 3) := by decide +kernel
theorem d_B_reference_43 : decode b_B_reference 43 = .ok (.if_icmp .le 5, 3) := by decide +kernel
theorem d_B_reference_46 : decode b_B_reference 46 = .ok (.iconst 0, 1) := by decide +kernel
theorem d_B_reference_47 : decode b_B_reference 47 = .ok (.ireturn, 1) := by decide +kernel
theorem d_B_reference_48 : decode b_B_reference 48 = .ok (.iconst 0, 1) := by decide +kernel
theorem d_B_reference_49 : decode b_B_reference 49 = .ok (.istore 4, 2) := by decide +kernel
theorem d_B_reference_51 : decode b_B_reference 51 = .ok (.iload 4, 2) := by decide +kernel
theorem d_B_reference_53 : decode b_B_reference 53 = .ok (.iload_n 3, 1) := by decide +kernel
theorem d_B_reference_54 : decode b_B_reference 54 = .ok (.if_icmp .ge 39, 3) := by decide +kernel
theorem d_B_reference_57 : decode b_B_reference 57 = .ok (.aload_n 0, 1) := by decide +kernel
theorem d_B_reference_58 : decode b_B_reference 58 = .ok (.getfield 16, 3) := by decide +kernel
theorem d_B_reference_61 : decode b_B_reference 61 = .ok (.iload_n 2, 1) := by decide +kernel
theorem d_B_reference_62 : decode b_B_reference 62 = .ok (.iload 4, 2) := by decide +kernel
theorem d_B_reference_64 : decode b_B_reference 64 = .ok (.iadd, 1) := by decide +kernel
theorem d_B_reference_65 : decode b_B_reference 65 = .ok (.invokevirtual 65, 3) := by decide +kernel
theorem d_B_reference_68 : decode b_B_reference 68 = .ok (.aload_n 0, 1) := by decide +kernel
theorem d_B_reference_69 : decode b_B_reference 69 = .ok (.getfield 16, 3) := by decide +kernel
theorem d_B_reference_72 : decode b_B_reference 72 = .ok (.aload_n 0, 1) := by decide +kernel
theorem d_B_reference_73 : decode b_B_reference 73 = .ok (.getfield 242, 3) := by decide +kernel
theorem d_B_reference_76 : decode b_B_reference 76 = .ok (.iload 4, 2) := by decide +kernel
theorem d_B_reference_78 : decode b_B_reference 78 = .ok (.iadd, 1) := by decide +kernel
theorem d_B_reference_79 : decode b_B_reference 79 = .ok (.invokevirtual 65, 3) := by decide +kernel
theorem d_B_reference_82 : decode b_B_reference 82 = .ok (.if_icmp .eq 5, 3) := by decide +kernel
theorem d_B_reference_85 : decode b_B_reference 85 = .ok (.iconst 0, 1) := by decide +kernel
theorem d_B_reference_86 : decode b_B_reference 86 = .ok (.ireturn, 1) := by decide +kernel
theorem d_B_reference_87 : decode b_B_reference 87 = .ok (.iinc 4 1, 3) := by decide +kernel
theorem d_B_reference_90 : decode b_B_reference 90 = .ok (.goto (-39), 3) := by decide +kernel
theorem d_B_reference_93 : decode b_B_reference 93 = .ok (.aload_n 0, 1) := by decide +kernel
theorem d_B_reference_94 : decode b_B_reference 94 = .ok (.dup, 1) := by decide +kernel
theorem d_B_reference_95 : decode b_B_reference 95 = .ok (.getfield 242, 3) := by decide +kernel
theorem d_B_reference_98 : decode b_B_reference 98 = .ok (.iload_n 3, 1) := by decide +kernel
theorem d_B_reference_99 : decode b_B_reference 99 = .ok (.iadd, 1) := by decide +kernel
theorem d_B_reference_100 : decode b_B_reference 100 = .ok (.putfield 242, 3) := by decide +kernel
theorem d_B_reference_103 : decode b_B_reference 103 = .ok (.iconst 1, 1) := by decide +kernel
theorem d_B_reference_104 : decode b_B_reference 104 = .ok (.ireturn, 1) := by decide +kernel
def L_B_reference_51 (Qc : Int32 → PS → Prop)  : Nat → Int32 → Int32 → Int32 → PS → Prop
  | 0, _, _, _, _ => False
  | n + 1, x2, x3, x4, u => ((x3 ≤ x4 → Qc (1 : Int32) (ps_place u ((p_place u) + x3))) ∧ (¬ x3 ≤ x4 → P_SB_charAt (x2 + x4) (p_su u) (fun r_65 z_65 => P_SB_charAt ((p_place (ps_su u z_65)) + x4) (p_su (ps_su u z_65)) (fun r_79 z_79 => ((r_65 = r_79 → (∀ x4_87 : Int32, x4_87 = x4 + 1 → (L_B_reference_51 Qc n) x2 x3 x4_87 (ps_su (ps_su u z_65) z_79))) ∧ (¬ r_65 = r_79 → Qc (0 : Int32) (ps_su (ps_su u z_65) z_79)))))))
def P_B_reference (x1 : Int32) (u : PS) (Qc : Int32 → PS → Prop) : Prop := (vp_in ((2 : Int32) * x1) 10 ∧ (∀ x2_8 : Int32, x2_8 = (p_cF u ((2 : Int32) * x1).toNatClampNeg) → ((x2_8 = (-6 : Int32) → Qc (0 : Int32) u) ∧ (¬ x2_8 = (-6 : Int32) → (vp_in (((2 : Int32) * x1) + (1 : Int32)) 10 ∧ (∀ x3_29 : Int32, x3_29 = ((p_cF u (((2 : Int32) * x1) + (1 : Int32)).toNatClampNeg) - x2_8) → P_SB_length  (p_su u) (fun r_40 z_40 => ((((p_place u) + x3_29) ≤ r_40 → ∃ n, L_B_reference_51 Qc  n x2_8 x3_29 (0 : Int32) (ps_su u z_40)) ∧ (¬ ((p_place u) + x3_29) ≤ r_40 → Qc (0 : Int32) (ps_su u z_40))))))))))
section PW
variable {p : Program} {l : Launch} {e : Env} {s : State} {m : MethodId} {args : Array Value} {below : List Frame} {meth : Method} {c : Code} {x : GX} {g : GE} {ex : va_W} {a : Nat → Nat} {A : Nat → Prop} {o : Nat}
set_option maxHeartbeats 4000000 in
set_option maxRecDepth 20000 in
theorem wL_B_reference_51 (S : CallFix p m c b_B_reference 5 s args lw_tg "PatternBench") (hr : meth.sig.returnType = some .boolean) (hlk : meth.locks = false) (hK : GK x s) (hE : EN g A s s.heap) (hA : ∀ q : Nat, s.heap.size ≤ q → A q) {Qc : Int32 → PS → Prop}  : ∀ (n : Nat) (x2 : Int32) (x3 : Int32) (x4 : Int32) (u : PS) (ls : Array Slot) (H : Heap) (locs : List Loc), lv_has ls 5 [(0, .ref o), (2, .int x2), (3, .int x3), (4, .int x4)] → wd x A s.heap ((pcl x g o) a u ++ ex) H locs → L_B_reference_51 Qc  n x2 x3 x4 u → W p l e (rmN 6 0 0) s m args below meth c H locs 0 0 (MQ below (QfI x (pcl x g o) ex a A Qc) args s 0 0 A) (F0 m 51 ls []) := by
  intro n
  induction n with
  | zero =>
    intro x2 x3 x4 u ls H locs hl hw h
    exact absurd h id
  | succ n ih =>
    intro x2 x3 x4 u ls H locs hl hw h
    refine lv_iload S.1 S.2.1 d_B_reference_51 (lv_at hl 3 rfl) ?_
    refine lv_iload_n S.1 S.2.1 d_B_reference_53 rfl (lv_at hl 2 rfl) ?_
    refine lv_icmp_ge (tgt := 93) S.1 S.2.1 d_B_reference_54 (by decide) (fun q_54 => ?_) (fun q_54 => ?_)
    · have h := h.1 q_54
      refine lv_aload_n S.1 S.2.1 d_B_reference_93 rfl (lv_at hl 0 rfl) ?_
      refine lv_dup S.1 S.2.1 d_B_reference_94 rfl ?_
      refine pg_place S hK hw d_B_reference_95 ?_
      refine lv_iload_n S.1 S.2.1 d_B_reference_98 rfl (lv_at hl 2 rfl) ?_
      refine lv_iadd S.1 S.2.1 d_B_reference_99 ?_
      refine pp_place S hK hw d_B_reference_100 (fun H locs hw => ?_)
      refine lv_iconst (v := 1) S.1 S.2.1 d_B_reference_103 (by decide) ?_
      exact w_zretF S hr hlk isB1 hw h d_B_reference_104
    · have h := h.2 q_54
      refine lv_aload_n S.1 S.2.1 d_B_reference_57 rfl (lv_at hl 0 rfl) ?_
      refine pg_subject S hK hw d_B_reference_58 ?_
      refine lv_iload_n S.1 S.2.1 d_B_reference_61 rfl (lv_at hl 1 rfl) ?_
      refine lv_iload S.1 S.2.1 d_B_reference_62 (lv_at hl 3 rfl) ?_
      refine lv_iadd S.1 S.2.1 d_B_reference_64 ?_
      have hw2 := pb_su_out hw
      refine w_ciF hA hw2 (w_rvE (rest := []) S hK hE hA hw2 (c_SB_charAt l (x2 + x4) (p_su u) _ _ h) (ci := 3) (q0 := 0) rfl rfl (w_cb (fr := 0) (lv := 0) S.2.2.2.2 k_407 k_404 k_3 yd_SB_charAt rfl rfl ⟨Nat.le_of_ble_eq_true rfl, Nat.le_of_ble_eq_true rfl⟩) k_405 k_406 rfl hl.1 rfl (Nat.le_of_ble_eq_true rfl) d_B_reference_65 ⟨(Nat.zero_le _), (Nat.zero_le _)⟩) (fun r_65 z_65 H locs h hw => ?_)
      have hw : wd x _ _ ((pcl x g o) a (ps_su u z_65) ++ ex) H locs := pb_su_inF hw
      refine lv_aload_n S.1 S.2.1 d_B_reference_68 rfl (lv_at hl 0 rfl) ?_
      refine pg_subject S hK hw d_B_reference_69 ?_
      refine lv_aload_n S.1 S.2.1 d_B_reference_72 rfl (lv_at hl 0 rfl) ?_
      refine pg_place S hK hw d_B_reference_73 ?_
      refine lv_iload S.1 S.2.1 d_B_reference_76 (lv_at hl 3 rfl) ?_
      refine lv_iadd S.1 S.2.1 d_B_reference_78 ?_
      have hw2 := pb_su_out hw
      refine w_ciF hA hw2 (w_rvE (rest := [.int r_65]) S hK hE hA hw2 (c_SB_charAt l ((p_place (ps_su u z_65)) + x4) (p_su (ps_su u z_65)) _ _ h) (ci := 3) (q0 := 0) rfl rfl (w_cb (fr := 0) (lv := 0) S.2.2.2.2 k_407 k_404 k_3 yd_SB_charAt rfl rfl ⟨Nat.le_of_ble_eq_true rfl, Nat.le_of_ble_eq_true rfl⟩) k_405 k_406 rfl hl.1 rfl (Nat.le_of_ble_eq_true rfl) d_B_reference_79 ⟨(Nat.zero_le _), (Nat.zero_le _)⟩) (fun r_79 z_79 H locs h hw => ?_)
      have hw : wd x _ _ ((pcl x g o) a (ps_su (ps_su u z_65) z_79) ++ ex) H locs := pb_su_inF hw
      refine lv_icmp_eq (tgt := 87) S.1 S.2.1 d_B_reference_82 (by decide) (fun q_82 => ?_) (fun q_82 => ?_)
      · have h := h.1 q_82
        obtain ⟨x4_87, ex4_87⟩ : ∃ y : Int32, y = x4 + 1 := ⟨_, rfl⟩
        have h := h x4_87 ex4_87
        refine lv_iinc (v := x4_87) (lv' := [(4, .int x4_87), (0, .ref o), (2, .int x2), (3, .int x3)]) S.1 S.2.1 d_B_reference_87 hl (k := 3) rfl (by rw [ex4_87]; rfl) (by decide) rfl (fun ls hl => ?_)
        refine lv_goto (tgt := 51) S.1 S.2.1 d_B_reference_90 (by decide) ?_
        exact ih x2 x3 x4_87 (ps_su (ps_su u z_65) z_79) _ _ _ (lv_sub hl [1, 2, 3, 0] rfl) hw h
      · have h := h.2 q_82
        refine lv_iconst (v := 0) S.1 S.2.1 d_B_reference_85 (by decide) ?_
        exact w_zretF S hr hlk isB0 hw h d_B_reference_86
set_option maxHeartbeats 4000000 in
set_option maxRecDepth 20000 in
theorem c_B_reference {x : GX} {g : GE} {o : Nat} {ex : va_W} {a : Nat → Nat} (l : Launch) (x1 : Int32) (u : PS) (sz : Nat) (Qc : Int32 → PS → Prop) (h : P_B_reference x1 u Qc) : Met l y_B_reference (wM y_B_reference b_B_reference 5 (some .boolean)) (rmN 6 0 0) (PreE x g (pcl x g o) ex [.ref o, .int x1] a u sz) (QfI x (pcl x g o) ex a (va_A ((pcl x g o) a u ++ ex) sz) Qc) 0 0 (va_A ((pcl x g o) a u ++ ex) sz) := by
  refine w_enterE (by decide +kernel) (Nat.le_of_ble_eq_true rfl) (fun p e s m args below meth c S hr hlk hnm hK hE hA hw ls hl => ?_)
  have hl : lv_has ls 5 [(0, .ref o), (1, .int x1)] := hl
  refine lv_aload_n S.1 S.2.1 d_B_reference_0 rfl (lv_at hl 0 rfl) ?_
  refine pg_captures S hK hw d_B_reference_1 ?_
  refine lv_iconst (v := 2) S.1 S.2.1 d_B_reference_4 (by decide) ?_
  refine lv_iload_n S.1 S.2.1 d_B_reference_5 rfl (lv_at hl 1 rfl) ?_
  refine lv_imul S.1 S.2.1 d_B_reference_6 ?_
  have hg := h.1
  have h := h.2
  refine pl_cF S hK hw hg d_B_reference_7 ?_
  refine lv_topi (fun x2_8 ex2_8 => ?_)
  have h := h x2_8 ex2_8
  refine lv_istore_n (lv' := [(2, .int x2_8), (0, .ref o), (1, .int x1)]) S.1 S.2.1 d_B_reference_8 rfl hl (by decide) rfl (fun ls hl => ?_)
  refine lv_iload_n S.1 S.2.1 d_B_reference_9 rfl (lv_at hl 0 rfl) ?_
  refine lv_bipush (v := -6) S.1 S.2.1 d_B_reference_10 (by decide) ?_
  refine lv_icmp_ne (tgt := 17) S.1 S.2.1 d_B_reference_12 (by decide) (fun q_12 => ?_) (fun q_12 => ?_)
  · have h := h.2 q_12
    refine lv_aload_n S.1 S.2.1 d_B_reference_17 rfl (lv_at hl 1 rfl) ?_
    refine pg_captures S hK hw d_B_reference_18 ?_
    refine lv_iconst (v := 2) S.1 S.2.1 d_B_reference_21 (by decide) ?_
    refine lv_iload_n S.1 S.2.1 d_B_reference_22 rfl (lv_at hl 2 rfl) ?_
    refine lv_imul S.1 S.2.1 d_B_reference_23 ?_
    refine lv_iconst (v := 1) S.1 S.2.1 d_B_reference_24 (by decide) ?_
    refine lv_iadd S.1 S.2.1 d_B_reference_25 ?_
    have hg := h.1
    have h := h.2
    refine pl_cF S hK hw hg d_B_reference_26 ?_
    refine lv_iload_n S.1 S.2.1 d_B_reference_27 rfl (lv_at hl 0 rfl) ?_
    refine lv_isub S.1 S.2.1 d_B_reference_28 ?_
    refine lv_topi (fun x3_29 ex3_29 => ?_)
    have h := h x3_29 ex3_29
    refine lv_istore_n (lv' := [(3, .int x3_29), (2, .int x2_8), (0, .ref o), (1, .int x1)]) S.1 S.2.1 d_B_reference_29 rfl hl (by decide) rfl (fun ls hl => ?_)
    refine lv_aload_n S.1 S.2.1 d_B_reference_30 rfl (lv_at hl 2 rfl) ?_
    refine pg_place S hK hw d_B_reference_31 ?_
    refine lv_iload_n S.1 S.2.1 d_B_reference_34 rfl (lv_at hl 0 rfl) ?_
    refine lv_iadd S.1 S.2.1 d_B_reference_35 ?_
    refine lv_aload_n S.1 S.2.1 d_B_reference_36 rfl (lv_at hl 2 rfl) ?_
    refine pg_subject S hK hw d_B_reference_37 ?_
    have hw2 := pb_su_out hw
    refine w_ciF hA hw2 (w_rvE (rest := [.int ((p_place u) + x3_29)]) S hK hE hA hw2 (c_SB_length l  (p_su u) _ _ h) (ci := 3) (q0 := 0) rfl rfl (w_cb (fr := 0) (lv := 0) S.2.2.2.2 k_278 k_275 k_3 yd_SB_length rfl rfl ⟨Nat.le_of_ble_eq_true rfl, Nat.le_of_ble_eq_true rfl⟩) k_276 k_277 rfl hl.1 rfl (Nat.le_of_ble_eq_true rfl) d_B_reference_40 ⟨(Nat.zero_le _), (Nat.zero_le _)⟩) (fun r_40 z_40 H locs h hw => ?_)
    have hw : wd x _ _ ((pcl x g o) a (ps_su u z_40) ++ ex) H locs := pb_su_inF hw
    refine lv_icmp_le (tgt := 48) S.1 S.2.1 d_B_reference_43 (by decide) (fun q_43 => ?_) (fun q_43 => ?_)
    · have h := h.1 q_43
      refine lv_iconst (v := 0) S.1 S.2.1 d_B_reference_48 (by decide) ?_
      refine lv_istore (lv' := [(4, .int (0 : Int32)), (3, .int x3_29), (2, .int x2_8), (0, .ref o), (1, .int x1)]) S.1 S.2.1 d_B_reference_49 hl (by decide) rfl (fun ls hl => ?_)
      obtain ⟨n9, h⟩ := h
      exact wL_B_reference_51 S hr hlk hK hE hA  n9 x2_8 x3_29 (0 : Int32) (ps_su u z_40) _ _ _ (lv_sub hl [3, 2, 1, 0] rfl) hw h
    · have h := h.2 q_43
      refine lv_iconst (v := 0) S.1 S.2.1 d_B_reference_46 (by decide) ?_
      exact w_zretF S hr hlk isB0 hw h d_B_reference_47
  · have h := h.1 q_12
    refine lv_iconst (v := 0) S.1 S.2.1 d_B_reference_15 (by decide) ?_
    exact w_zretF S hr hlk isB0 hw h d_B_reference_16
end PW
