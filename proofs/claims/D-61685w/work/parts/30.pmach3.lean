abbrev b_B_find : ByteArray := prog_1_method_36_code
def y_B_find : MethodName := ⟨"PatternBench", "find", "(I)I"⟩
theorem yd_B_find : y_B_find.cls ≠ "java/lang/invoke/MethodHandle" ∧ y_B_find.cls ≠ "java/lang/invoke/VarHandle" ∧ (parseMethodDescriptor y_B_find.desc).map (fun d => d.parameters.length) = some 1 := by decide +kernel
theorem d_B_find_0 : decode b_B_find 0 = .ok (.aload_n 0, 1) := by decide +kernel
theorem d_B_find_1 : decode b_B_find 1 = .ok (.iconst 0, 1) := by decide +kernel
theorem d_B_find_2 : decode b_B_find 2 = .ok (.putfield 248, 3) := by decide +kernel
theorem d_B_find_5 : decode b_B_find 5 = .ok (.aload_n 0, 1) := by decide +kernel
theorem d_B_find_6 : decode b_B_find 6 = .ok (.iconst 0, 1) := by decide +kernel
theorem d_B_find_7 : decode b_B_find 7 = .ok (.putfield 251, 3) := by decide +kernel
theorem d_B_find_10 : decode b_B_find 10 = .ok (.aload_n 0, 1) := by decide +kernel
theorem d_B_find_11 : decode b_B_find 11 = .ok (.iconst 0, 1) := by decide +kernel
theorem d_B_find_12 : decode b_B_find 12 = .ok (.putfield 222, 3) := by decide +kernel
theorem d_B_find_15 : decode b_B_find 15 = .ok (.iload_n 1, 1) := by decide +kernel
theorem d_B_find_16 : decode b_B_find 16 = .ok (.istore_n 2, 1) := by decide +kernel
theorem d_B_find_17 : decode b_B_find 17 = .ok (.iload_n 2, 1) := by decide +kernel
theorem d_B_find_18 : decode b_B_find 18 = .ok (.aload_n 0, 1) := by decide +kernel
theorem d_B_find_19 : decode b_B_find 19 = .ok (.getfield 16, 3) := by decide +kernel
theorem d_B_find_22 : decode b_B_find 22 = .ok (.invokevirtual 61, 3) := by decide +kernel
theorem d_B_find_25 : decode b_B_find 25 = .ok (.if_icmp .gt 48, 3) := by decide +kernel
theorem d_B_find_28 : decode b_B_find 28 = .ok (.aload_n 0, 1) := by decide +kernel
theorem d_B_find_29 : decode b_B_find 29 = .ok (.getfield 251, 3) := by decide +kernel
theorem d_B_find_32 : decode b_B_find 32 = .ok (.ifCond .ne 41, 3) := by decide +kernel
theorem d_B_find_35 : decode b_B_find 35 = .ok (.aload_n 0, 1) := by decide +kernel
theorem d_B_find_36 : decode b_B_find 36 = .ok (.iload_n 2, 1) := by decide +kernel
theorem d_B_find_37 : decode b_B_find 37 = .ok (.invokevirtual 311, 3) := by decide +kernel
theorem d_B_find_40 : decode b_B_find 40 = .ok (.ifCond .eq 27, 3) := by decide +kernel
theorem d_B_find_43 : decode b_B_find 43 = .ok (.aload_n 0, 1) := by decide +kernel
theorem d_B_find_44 : decode b_B_find 44 = .ok (.iconst 1, 1) := by decide +kernel
theorem d_B_find_45 : decode b_B_find 45 = .ok (.putfield 222, 3) := by decide +kernel
theorem d_B_find_48 : decode b_B_find 48 = .ok (.aload_n 0, 1) := by decide +kernel
theorem d_B_find_49 : decode b_B_find 49 = .ok (.getfield 36, 3) := by decide +kernel
theorem d_B_find_52 : decode b_B_find 52 = .ok (.iconst 0, 1) := by decide +kernel
theorem d_B_find_53 : decode b_B_find 53 = .ok (.iload_n 2, 1) := by decide +kernel
theorem d_B_find_54 : decode b_B_find 54 = .ok (.iastore, 1) := by decide +kernel
theorem d_B_find_55 : decode b_B_find 55 = .ok (.aload_n 0, 1) := by decide +kernel
theorem d_B_find_56 : decode b_B_find 56 = .ok (.getfield 36, 3) := by decide +kernel
theorem d_B_find_59 : decode b_B_find 59 = .ok (.iconst 1, 1) := by decide +kernel
theorem d_B_find_60 : decode b_B_find 60 = .ok (.aload_n 0, 1) := by decide +kernel
theorem d_B_find_61 : decode b_B_find 61 = .ok (.getfield 242, 3) := by decide +kernel
theorem d_B_find_64 : decode b_B_find 64 = .ok (.iastore, 1) := by decide +kernel
theorem d_B_find_65 : decode b_B_find 65 = .ok (.iload_n 2, 1) := by decide +kernel
theorem d_B_find_66 : decode b_B_find 66 = .ok (.ireturn, 1) := by decide +kernel
theorem d_B_find_67 : decode b_B_find 67 = .ok (.iinc 2 1, 3) := by decide +kernel
theorem d_B_find_70 : decode b_B_find 70 = .ok (.goto (-53), 3) := by decide +kernel
theorem d_B_find_73 : decode b_B_find 73 = .ok (.aload_n 0, 1) := by decide +kernel
theorem d_B_find_74 : decode b_B_find 74 = .ok (.getfield 251, 3) := by decide +kernel
theorem d_B_find_77 : decode b_B_find 77 = .ok (.ifCond .eq 8, 3) := by decide +kernel
theorem d_B_find_80 : decode b_B_find 80 = .ok (.bipush (-5), 2) := by decide +kernel
theorem d_B_find_82 : decode b_B_find 82 = .ok (.goto 5, 3) := by decide +kernel
theorem d_B_find_85 : decode b_B_find 85 = .ok (.bipush (-4), 2) := by decide +kernel
theorem d_B_find_87 : decode b_B_find 87 = .ok (.ireturn, 1) := by decide +kernel
def B_B_find_73 (Qc : Int32 → PS → Prop) (bc bs : Nat)  (k n0 : Nat)  (u : PS) : Prop := (((p_stopped u) = (0 : Int32) → Qc (-4 : Int32) u) ∧ (¬ (p_stopped u) = (0 : Int32) → Qc (-5 : Int32) u))
def L_B_find_17 (Qc : Int32 → PS → Prop) (bc bs : Nat)  : Nat → Nat → Nat → Int32 → PS → Prop
  | 0, _, _, _, _ => False
  | n + 1, k, n0, x2, u => P_SB_length  (p_su u) (fun r_22 z_22 => ((r_22 < x2 → B_B_find_73 Qc bc bs  k n0  (ps_su u z_22)) ∧ (¬ r_22 < x2 → (((p_stopped (ps_su u z_22)) = (0 : Int32) → (∃ kc_37 nc_37 : Nat, k + kc_37 ≤ bc ∧ n0 + nc_37 ≤ bs ∧ P_B_run kc_37 nc_37 x2 (ps_su u z_22) (fun r_37 u_37 => ((r_37 = (0 : Int32) → (∀ x2_67 : Int32, x2_67 = x2 + 1 → (L_B_find_17 Qc bc bs n) (k + kc_37) (n0 + nc_37) x2_67 u_37)) ∧ (¬ r_37 = (0 : Int32) → (vp_in (0 : Int32) 10 ∧ (vp_in (1 : Int32) 10 ∧ Qc x2 (ps_cF (ps_cF (ps_matched u_37 (1 : Int32)) (upd (p_cF (ps_matched u_37 (1 : Int32))) (0 : Int32).toNatClampNeg x2)) (upd (p_cF (ps_cF (ps_matched u_37 (1 : Int32)) (upd (p_cF (ps_matched u_37 (1 : Int32))) (0 : Int32).toNatClampNeg x2))) (1 : Int32).toNatClampNeg (p_place (ps_cF (ps_matched u_37 (1 : Int32)) (upd (p_cF (ps_matched u_37 (1 : Int32))) (0 : Int32).toNatClampNeg x2)))))))))))) ∧ (¬ (p_stopped (ps_su u z_22)) = (0 : Int32) → B_B_find_73 Qc bc bs  k n0  (ps_su u z_22))))))
def P_B_find (bc bs : Nat) (x1 : Int32) (u : PS) (Qc : Int32 → PS → Prop) : Prop := ∃ n, L_B_find_17 Qc bc bs  n 0 0 x1 (ps_matched (ps_stopped (ps_steps u (0 : Int32)) (0 : Int32)) (0 : Int32))
section PW
variable {p : Program} {l : Launch} {e : Env} {s : State} {m : MethodId} {args : Array Value} {below : List Frame} {meth : Method} {c : Code} {x : GX} {g : GE} {ex : va_W} {a : Nat → Nat} {A : Nat → Prop} {o : Nat}
set_option maxHeartbeats 4000000 in
set_option maxRecDepth 20000 in
theorem wB_B_find_73 (S : CallFix p m c b_B_find 3 s args lw_tg "PatternBench") (hr : meth.sig.returnType = some .int) (hlk : meth.locks = false) (hK : GK x s) (hE : EN g A s s.heap) (hA : ∀ q : Nat, s.heap.size ≤ q → A q) {Qc : Int32 → PS → Prop} {bc bs : Nat}  : ∀ (k n0 : Nat) (hk : k ≤ bc) (hn : n0 ≤ bs)  (u : PS) (a : Nat → Nat) (ls : Array Slot) (H : Heap) (locs : List Loc), lv_has ls 3 [(0, .ref o)] → wd x A s.heap ((pcl x g o) a u ++ ex) H locs → B_B_find_73 Qc bc bs  k n0  u → W p l e (rmN 9 bc bs) s m args below meth c H locs k n0 (MQ below (QeI x (pcl x g o) ex A Qc) args s bc bs A) (F0 m 73 ls []) := by
  intro k n0 hk hn  u a ls H locs hl hw h
  refine lv_aload_n S.1 S.2.1 d_B_find_73 rfl (lv_at hl 0 rfl) ?_
  refine pg_stopped S hK hw d_B_find_74 ?_
  refine lv_if_eq (tgt := 85) S.1 S.2.1 d_B_find_77 (by decide) (fun q_77 => ?_) (fun q_77 => ?_)
  · have h := h.1 q_77
    refine lv_bipush (v := -4) S.1 S.2.1 d_B_find_85 (by decide) ?_
    refine W.widen (k := bc) (n := bs) hk hn ?_
    exact w_iretE S hr hlk hw h d_B_find_87
  · have h := h.2 q_77
    refine lv_bipush (v := -5) S.1 S.2.1 d_B_find_80 (by decide) ?_
    refine lv_goto (tgt := 87) S.1 S.2.1 d_B_find_82 (by decide) ?_
    refine W.widen (k := bc) (n := bs) hk hn ?_
    exact w_iretE S hr hlk hw h d_B_find_87
set_option maxHeartbeats 4000000 in
set_option maxRecDepth 20000 in
theorem wL_B_find_17 (S : CallFix p m c b_B_find 3 s args lw_tg "PatternBench") (hr : meth.sig.returnType = some .int) (hlk : meth.locks = false) (hK : GK x s) (hE : EN g A s s.heap) (hA : ∀ q : Nat, s.heap.size ≤ q → A q) {Qc : Int32 → PS → Prop} {bc bs : Nat}  : ∀ (n : Nat) (k n0 : Nat) (hk : k ≤ bc) (hn : n0 ≤ bs) (x2 : Int32) (u : PS) (a : Nat → Nat) (ls : Array Slot) (H : Heap) (locs : List Loc), lv_has ls 3 [(0, .ref o), (2, .int x2)] → wd x A s.heap ((pcl x g o) a u ++ ex) H locs → L_B_find_17 Qc bc bs  n k n0 x2 u → W p l e (rmN 9 bc bs) s m args below meth c H locs k n0 (MQ below (QeI x (pcl x g o) ex A Qc) args s bc bs A) (F0 m 17 ls []) := by
  intro n
  induction n with
  | zero =>
    intro k n0 hk hn x2 u a ls H locs hl hw h
    exact absurd h id
  | succ n ih =>
    intro k n0 hk hn x2 u a ls H locs hl hw h
    refine lv_iload_n S.1 S.2.1 d_B_find_17 rfl (lv_at hl 1 rfl) ?_
    refine lv_aload_n S.1 S.2.1 d_B_find_18 rfl (lv_at hl 0 rfl) ?_
    refine pg_subject S hK hw d_B_find_19 ?_
    have hw2 := pb_su_out hw
    refine w_ciF hA hw2 (w_rvE (rest := [.int x2]) S hK hE hA hw2 (c_SB_length l  (p_su u) _ _ h) (ci := 3) (q0 := 0) rfl rfl (w_cb (fr := 0) (lv := 0) S.2.2.2.2 k_278 k_275 k_3 yd_SB_length rfl rfl ⟨Nat.le_of_ble_eq_true rfl, Nat.le_of_ble_eq_true rfl⟩) k_276 k_277 rfl hl.1 rfl (Nat.le_of_ble_eq_true rfl) d_B_find_22 ⟨hk, hn⟩) (fun r_22 z_22 H locs h hw => ?_)
    have hw : wd x _ _ ((pcl x g o) a (ps_su u z_22) ++ ex) H locs := pb_su_inF hw
    refine lv_icmp_gt (tgt := 73) S.1 S.2.1 d_B_find_25 (by decide) (fun q_25 => ?_) (fun q_25 => ?_)
    · have h := h.1 q_25
      exact wB_B_find_73 S hr hlk hK hE hA  k n0 hk hn  (ps_su u z_22) a _ _ _ (lv_sub hl [0] rfl) hw h
    · have h := h.2 q_25
      refine lv_aload_n S.1 S.2.1 d_B_find_28 rfl (lv_at hl 0 rfl) ?_
      refine pg_stopped S hK hw d_B_find_29 ?_
      refine lv_if_ne (tgt := 73) S.1 S.2.1 d_B_find_32 (by decide) (fun q_32 => ?_) (fun q_32 => ?_)
      · have h := h.2 q_32
        exact wB_B_find_73 S hr hlk hK hE hA  k n0 hk hn  (ps_su u z_22) a _ _ _ (lv_sub hl [0] rfl) hw h
      · have h := h.1 q_32
        refine lv_aload_n S.1 S.2.1 d_B_find_35 rfl (lv_at hl 0 rfl) ?_
        refine lv_iload_n S.1 S.2.1 d_B_find_36 rfl (lv_at hl 1 rfl) ?_
        obtain ⟨kc_37, nc_37, hk_37, hn_37, h⟩ := h
        refine w_ciE hA hw (w_rvE (rest := []) S hK hE hA hw (c_B_run l kc_37 nc_37 x2 (ps_su u z_22) _ _ h) (ci := 1) (q0 := 0) rfl rfl (w_cb (fr := 0) (lv := 0) S.2.2.2.2 k_763 k_760 k_1 yd_B_run rfl rfl ⟨Nat.le_of_ble_eq_true rfl, Nat.le_of_ble_eq_true rfl⟩) k_762 s_17 rfl hl.1 rfl (Nat.le_of_ble_eq_true rfl) d_B_find_37 ⟨hk_37, hn_37⟩) (fun r_37 u_37 a_37 H locs h hw => ?_)
        refine lv_if_eq (tgt := 67) S.1 S.2.1 d_B_find_40 (by decide) (fun q_40 => ?_) (fun q_40 => ?_)
        · have h := h.1 q_40
          obtain ⟨x2_67, ex2_67⟩ : ∃ y : Int32, y = x2 + 1 := ⟨_, rfl⟩
          have h := h x2_67 ex2_67
          refine lv_iinc (v := x2_67) (lv' := [(2, .int x2_67), (0, .ref o)]) S.1 S.2.1 d_B_find_67 hl (k := 1) rfl (by rw [ex2_67]; rfl) (by decide) rfl (fun ls hl => ?_)
          refine lv_goto (tgt := 17) S.1 S.2.1 d_B_find_70 (by decide) ?_
          exact ih (k + kc_37) (n0 + nc_37) hk_37 hn_37 x2_67 u_37 a_37 _ _ _ (lv_sub hl [1, 0] rfl) hw h
        · have h := h.2 q_40
          refine lv_aload_n S.1 S.2.1 d_B_find_43 rfl (lv_at hl 0 rfl) ?_
          refine lv_iconst (v := 1) S.1 S.2.1 d_B_find_44 (by decide) ?_
          refine pp_matched S hK hw isB1 d_B_find_45 (fun H locs hw => ?_)
          refine lv_aload_n S.1 S.2.1 d_B_find_48 rfl (lv_at hl 0 rfl) ?_
          refine pg_captures S hK hw d_B_find_49 ?_
          refine lv_iconst (v := 0) S.1 S.2.1 d_B_find_52 (by decide) ?_
          refine lv_iload_n S.1 S.2.1 d_B_find_53 rfl (lv_at hl 1 rfl) ?_
          have hg := h.1
          have h := h.2
          refine pt_cF S hK hw hg d_B_find_54 (fun H locs hw => ?_)
          refine lv_aload_n S.1 S.2.1 d_B_find_55 rfl (lv_at hl 0 rfl) ?_
          refine pg_captures S hK hw d_B_find_56 ?_
          refine lv_iconst (v := 1) S.1 S.2.1 d_B_find_59 (by decide) ?_
          refine lv_aload_n S.1 S.2.1 d_B_find_60 rfl (lv_at hl 0 rfl) ?_
          refine pg_place S hK hw d_B_find_61 ?_
          have hg := h.1
          have h := h.2
          refine pt_cF S hK hw hg d_B_find_64 (fun H locs hw => ?_)
          refine lv_iload_n S.1 S.2.1 d_B_find_65 rfl (lv_at hl 1 rfl) ?_
          refine W.widen (k := bc) (n := bs) hk_37 hn_37 ?_
          exact w_iretE S hr hlk hw h d_B_find_66
set_option maxHeartbeats 4000000 in
set_option maxRecDepth 20000 in
theorem c_B_find {x : GX} {g : GE} {o : Nat} {ex : va_W} {a : Nat → Nat} (l : Launch) (bc bs : Nat) (x1 : Int32) (u : PS) (sz : Nat) (Qc : Int32 → PS → Prop) (h : P_B_find bc bs x1 u Qc) : Met l y_B_find (wM y_B_find b_B_find 3 (some .int)) (rmN 9 bc bs) (PreE x g (pcl x g o) ex [.ref o, .int x1] a u sz) (QeI x (pcl x g o) ex (va_A ((pcl x g o) a u ++ ex) sz) Qc) bc bs (va_A ((pcl x g o) a u ++ ex) sz) := by
  refine w_enterE (by decide +kernel) (Nat.le_of_ble_eq_true rfl) (fun p e s m args below meth c S hr hlk hnm hK hE hA hw ls hl => ?_)
  have hl : lv_has ls 3 [(0, .ref o), (1, .int x1)] := hl
  refine lv_aload_n S.1 S.2.1 d_B_find_0 rfl (lv_at hl 0 rfl) ?_
  refine lv_iconst (v := 0) S.1 S.2.1 d_B_find_1 (by decide) ?_
  refine pp_steps S hK hw d_B_find_2 (fun H locs hw => ?_)
  refine lv_aload_n S.1 S.2.1 d_B_find_5 rfl (lv_at hl 0 rfl) ?_
  refine lv_iconst (v := 0) S.1 S.2.1 d_B_find_6 (by decide) ?_
  refine pp_stopped S hK hw isB0 d_B_find_7 (fun H locs hw => ?_)
  refine lv_aload_n S.1 S.2.1 d_B_find_10 rfl (lv_at hl 0 rfl) ?_
  refine lv_iconst (v := 0) S.1 S.2.1 d_B_find_11 (by decide) ?_
  refine pp_matched S hK hw isB0 d_B_find_12 (fun H locs hw => ?_)
  refine lv_iload_n S.1 S.2.1 d_B_find_15 rfl (lv_at hl 1 rfl) ?_
  refine lv_istore_n (lv' := [(2, .int x1), (0, .ref o), (1, .int x1)]) S.1 S.2.1 d_B_find_16 rfl hl (by decide) rfl (fun ls hl => ?_)
  obtain ⟨n9, h⟩ := h
  exact wL_B_find_17 S hr hlk hK hE hA  n9 0 0 (Nat.zero_le _) (Nat.zero_le _) x1 (ps_matched (ps_stopped (ps_steps u (0 : Int32)) (0 : Int32)) (0 : Int32)) a _ _ _ (lv_sub hl [1, 0] rfl) hw h
end PW
abbrev b_B_search : ByteArray := prog_1_method_37_code
def y_B_search : MethodName := ⟨"PatternBench", "search", "(I)I"⟩
theorem yd_B_search : y_B_search.cls ≠ "java/lang/invoke/MethodHandle" ∧ y_B_search.cls ≠ "java/lang/invoke/VarHandle" ∧ (parseMethodDescriptor y_B_search.desc).map (fun d => d.parameters.length) = some 1 := by decide +kernel
theorem d_B_search_0 : decode b_B_search 0 = .ok (.iload_n 1, 1) := by decide +kernel
theorem d_B_search_1 : decode b_B_search 1 = .ok (.ifCond .lt 21, 3) := by decide +kernel
theorem d_B_search_4 : decode b_B_search 4 = .ok (.iload_n 1, 1) := by decide +kernel
theorem d_B_search_5 : decode b_B_search 5 = .ok (.aload_n 0, 1) := by decide +kernel
theorem d_B_search_6 : decode b_B_search 6 = .ok (.getfield 16, 3) := by decide +kernel
theorem d_B_search_9 : decode b_B_search 9 = .ok (.invokevirtual 61, 3) := by decide +kernel
theorem d_B_search_12 : decode b_B_search 12 = .ok (.if_icmp .gt 10, 3) := by decide +kernel
theorem d_B_search_15 : decode b_B_search 15 = .ok (.aload_n 0, 1) := by decide +kernel
theorem d_B_search_16 : decode b_B_search 16 = .ok (.getfield 200, 3) := by decide +kernel
theorem d_B_search_19 : decode b_B_search 19 = .ok (.ifCond .ne 7, 3) := by decide +kernel
theorem d_B_search_22 : decode b_B_search 22 = .ok (.iconst (-1), 1) := by decide +kernel
theorem d_B_search_23 : decode b_B_search 23 = .ok (.goto 8, 3) := by decide +kernel
theorem d_B_search_26 : decode b_B_search 26 = .ok (.aload_n 0, 1) := by decide +kernel
theorem d_B_search_27 : decode b_B_search 27 = .ok (.iload_n 1, 1) := by decide +kernel
theorem d_B_search_28 : decode b_B_search 28 = .ok (.invokevirtual 314, 3) := by decide +kernel
theorem d_B_search_31 : decode b_B_search 31 = .ok (.ireturn, 1) := by decide +kernel
def B_B_search_22 (Qc : Int32 → PS → Prop) (bc bs : Nat)  (k n0 : Nat)  (u : PS) : Prop := Qc (-1 : Int32) u
def P_B_search (bc bs : Nat) (x1 : Int32) (u : PS) (Qc : Int32 → PS → Prop) : Prop := ((x1 < (0 : Int32) → B_B_search_22 Qc bc bs  0 0  u) ∧ (¬ x1 < (0 : Int32) → P_SB_length  (p_su u) (fun r_9 z_9 => ((r_9 < x1 → B_B_search_22 Qc bc bs  0 0  (ps_su u z_9)) ∧ (¬ r_9 < x1 → (((p_there (ps_su u z_9)) = (0 : Int32) → B_B_search_22 Qc bc bs  0 0  (ps_su u z_9)) ∧ (¬ (p_there (ps_su u z_9)) = (0 : Int32) → (∃ kc_28 nc_28 : Nat, 0 + kc_28 ≤ bc ∧ 0 + nc_28 ≤ bs ∧ P_B_find kc_28 nc_28 x1 (ps_su u z_9) (fun r_28 u_28 => Qc r_28 u_28)))))))))
section PW
variable {p : Program} {l : Launch} {e : Env} {s : State} {m : MethodId} {args : Array Value} {below : List Frame} {meth : Method} {c : Code} {x : GX} {g : GE} {ex : va_W} {a : Nat → Nat} {A : Nat → Prop} {o : Nat}
set_option maxHeartbeats 4000000 in
set_option maxRecDepth 20000 in
theorem wB_B_search_22 (S : CallFix p m c b_B_search 2 s args lw_tg "PatternBench") (hr : meth.sig.returnType = some .int) (hlk : meth.locks = false) (hK : GK x s) (hE : EN g A s s.heap) (hA : ∀ q : Nat, s.heap.size ≤ q → A q) {Qc : Int32 → PS → Prop} {bc bs : Nat}  : ∀ (k n0 : Nat) (hk : k ≤ bc) (hn : n0 ≤ bs)  (u : PS) (a : Nat → Nat) (ls : Array Slot) (H : Heap) (locs : List Loc), lv_has ls 2 [] → wd x A s.heap ((pcl x g o) a u ++ ex) H locs → B_B_search_22 Qc bc bs  k n0  u → W p l e (rmN 10 bc bs) s m args below meth c H locs k n0 (MQ below (QeI x (pcl x g o) ex A Qc) args s bc bs A) (F0 m 22 ls []) := by
  intro k n0 hk hn  u a ls H locs hl hw h
  refine lv_iconst (v := -1) S.1 S.2.1 d_B_search_22 (by decide) ?_
  refine lv_goto (tgt := 31) S.1 S.2.1 d_B_search_23 (by decide) ?_
  refine W.widen (k := bc) (n := bs) hk hn ?_
  exact w_iretE S hr hlk hw h d_B_search_31
set_option maxHeartbeats 4000000 in
set_option maxRecDepth 20000 in
theorem c_B_search {x : GX} {g : GE} {o : Nat} {ex : va_W} {a : Nat → Nat} (l : Launch) (bc bs : Nat) (x1 : Int32) (u : PS) (sz : Nat) (Qc : Int32 → PS → Prop) (h : P_B_search bc bs x1 u Qc) : Met l y_B_search (wM y_B_search b_B_search 2 (some .int)) (rmN 10 bc bs) (PreE x g (pcl x g o) ex [.ref o, .int x1] a u sz) (QeI x (pcl x g o) ex (va_A ((pcl x g o) a u ++ ex) sz) Qc) bc bs (va_A ((pcl x g o) a u ++ ex) sz) := by
  refine w_enterE (by decide +kernel) (Nat.le_of_ble_eq_true rfl) (fun p e s m args below meth c S hr hlk hnm hK hE hA hw ls hl => ?_)
  have hl : lv_has ls 2 [(0, .ref o), (1, .int x1)] := hl
  refine lv_iload_n S.1 S.2.1 d_B_search_0 rfl (lv_at hl 1 rfl) ?_
  refine lv_if_lt (tgt := 22) S.1 S.2.1 d_B_search_1 (by decide) (fun q_1 => ?_) (fun q_1 => ?_)
  · have h := h.1 q_1
    exact wB_B_search_22 S hr hlk hK hE hA  0 0 (Nat.zero_le _) (Nat.zero_le _)  u a _ _ _ (lv_sub hl [] rfl) hw h
  · have h := h.2 q_1
    refine lv_iload_n S.1 S.2.1 d_B_search_4 rfl (lv_at hl 1 rfl) ?_
    refine lv_aload_n S.1 S.2.1 d_B_search_5 rfl (lv_at hl 0 rfl) ?_
    refine pg_subject S hK hw d_B_search_6 ?_
    have hw2 := pb_su_out hw
    refine w_ciF hA hw2 (w_rvE (rest := [.int x1]) S hK hE hA hw2 (c_SB_length l  (p_su u) _ _ h) (ci := 3) (q0 := 0) rfl rfl (w_cb (fr := 0) (lv := 0) S.2.2.2.2 k_278 k_275 k_3 yd_SB_length rfl rfl ⟨Nat.le_of_ble_eq_true rfl, Nat.le_of_ble_eq_true rfl⟩) k_276 k_277 rfl hl.1 rfl (Nat.le_of_ble_eq_true rfl) d_B_search_9 ⟨(Nat.zero_le _), (Nat.zero_le _)⟩) (fun r_9 z_9 H locs h hw => ?_)
    have hw : wd x _ _ ((pcl x g o) a (ps_su u z_9) ++ ex) H locs := pb_su_inF hw
    refine lv_icmp_gt (tgt := 22) S.1 S.2.1 d_B_search_12 (by decide) (fun q_12 => ?_) (fun q_12 => ?_)
    · have h := h.1 q_12
      exact wB_B_search_22 S hr hlk hK hE hA  0 0 (Nat.zero_le _) (Nat.zero_le _)  (ps_su u z_9) a _ _ _ (lv_sub hl [] rfl) hw h
    · have h := h.2 q_12
      refine lv_aload_n S.1 S.2.1 d_B_search_15 rfl (lv_at hl 0 rfl) ?_
      refine pg_there S hK hw d_B_search_16 ?_
      refine lv_if_ne (tgt := 26) S.1 S.2.1 d_B_search_19 (by decide) (fun q_19 => ?_) (fun q_19 => ?_)
      · have h := h.2 q_19
        refine lv_aload_n S.1 S.2.1 d_B_search_26 rfl (lv_at hl 0 rfl) ?_
        refine lv_iload_n S.1 S.2.1 d_B_search_27 rfl (lv_at hl 1 rfl) ?_
        obtain ⟨kc_28, nc_28, hk_28, hn_28, h⟩ := h
        refine w_ciE hA hw (w_rvE (rest := []) S hK hE hA hw (c_B_find l kc_28 nc_28 x1 (ps_su u z_9) _ _ h) (ci := 1) (q0 := 0) rfl rfl (w_cb (fr := 0) (lv := 0) S.2.2.2.2 k_759 k_756 k_1 yd_B_find rfl rfl ⟨Nat.le_of_ble_eq_true rfl, Nat.le_of_ble_eq_true rfl⟩) k_758 s_16 rfl hl.1 rfl (Nat.le_of_ble_eq_true rfl) d_B_search_28 ⟨hk_28, hn_28⟩) (fun r_28 u_28 a_28 H locs h hw => ?_)
        refine W.widen (k := bc) (n := bs) hk_28 hn_28 ?_
        exact w_iretE S hr hlk hw h d_B_search_31
      · have h := h.1 q_19
        exact wB_B_search_22 S hr hlk hK hE hA  0 0 (Nat.zero_le _) (Nat.zero_le _)  (ps_su u z_9) a _ _ _ (lv_sub hl [] rfl) hw h
end PW
abbrev b_B_nextStart : ByteArray := prog_1_method_38_code
def y_B_nextStart : MethodName := ⟨"PatternBench", "nextStart", "()I"⟩
theorem yd_B_nextStart : y_B_nextStart.cls ≠ "java/lang/invoke/MethodHandle" ∧ y_B_nextStart.cls ≠ "java/lang/invoke/VarHandle" ∧ (parseMethodDescriptor y_B_nextStart.desc).map (fun d => d.parameters.length) = some 0 := by decide +kernel
theorem d_B_nextStart_0 : decode b_B_nextStart 0 = .ok (.aload_n 0, 1) := by decide +kernel
theorem d_B_nextStart_1 : decode b_B_nextStart 1 = .ok (.getfield 36, 3) := by decide +kernel
theorem d_B_nextStart_4 : decode b_B_nextStart 4 = .ok (.iconst 1, 1) := by decide +kernel
theorem d_B_nextStart_5 : decode b_B_nextStart 5 = .ok (.iaload, 1) := by decide +kernel
theorem d_B_nextStart_6 : decode b_B_nextStart 6 = .ok (.aload_n 0, 1) := by decide +kernel
theorem d_B_nextStart_7 : decode b_B_nextStart 7 = .ok (.getfield 36, 3) := by decide +kernel
theorem d_B_nextStart_10 : decode b_B_nextStart 10 = .ok (.iconst 0, 1) := by decide +kernel
theorem d_B_nextStart_11 : decode b_B_nextStart 11 = .ok (.iaload, 1) := by decide +kernel
theorem d_B_nextStart_12 : decode b_B_nextStart 12 = .ok (.if_icmp .ne 14, 3) := by decide +kernel
theorem d_B_nextStart_15 : decode b_B_nextStart 15 = .ok (.aload_n 0, 1) := by decide +kernel
theorem d_B_nextStart_16 : decode b_B_nextStart 16 = .ok (.getfield 36, 3) := by decide +kernel
theorem d_B_nextStart_19 : decode b_B_nextStart 19 = .ok (.iconst 1, 1) := by decide +kernel
theorem d_B_nextStart_20 : decode b_B_nextStart 20 = .ok (.iaload, 1) := by decide +kernel
theorem d_B_nextStart_21 : decode b_B_nextStart 21 = .ok (.iconst 1, 1) := by decide +kernel
theorem d_B_nextStart_22 : decode b_B_nextStart 22 = .ok (.iadd, 1) := by decide +kernel
theorem d_B_nextStart_23 : decode b_B_nextStart 23 = .ok (.goto 9, 3) := by decide +kernel
theorem d_B_nextStart_26 : decode b_B_nextStart 26 = .ok (.aload_n 0, 1) := by decide +kernel
theorem d_B_nextStart_27 : decode b_B_nextStart 27 = .ok (.getfield 36, 3) := by decide +kernel
theorem d_B_nextStart_30 : decode b_B_nextStart 30 = .ok (.iconst 1, 1) := by decide +kernel
theorem d_B_nextStart_31 : decode b_B_nextStart 31 = .ok (.iaload, 1) := by decide +kernel
theorem d_B_nextStart_32 : decode b_B_nextStart 32 = .ok (.ireturn, 1) := by decide +kernel
def P_B_nextStart  (u : PS) (Qc : Int32 → PS → Prop) : Prop := (vp_in (1 : Int32) 10 ∧ (vp_in (0 : Int32) 10 ∧ (((p_cF u (1 : Int32).toNatClampNeg) = (p_cF u (0 : Int32).toNatClampNeg) → (vp_in (1 : Int32) 10 ∧ Qc ((p_cF u (1 : Int32).toNatClampNeg) + (1 : Int32)) u)) ∧ (¬ (p_cF u (1 : Int32).toNatClampNeg) = (p_cF u (0 : Int32).toNatClampNeg) → (vp_in (1 : Int32) 10 ∧ Qc (p_cF u (1 : Int32).toNatClampNeg) u)))))
section PW
variable {p : Program} {l : Launch} {e : Env} {s : State} {m : MethodId} {args : Array Value} {below : List Frame} {meth : Method} {c : Code} {x : GX} {g : GE} {ex : va_W} {a : Nat → Nat} {A : Nat → Prop} {o : Nat}
set_option maxHeartbeats 4000000 in
set_option maxRecDepth 20000 in
theorem c_B_nextStart {x : GX} {g : GE} {o : Nat} {ex : va_W} {a : Nat → Nat} (l : Launch)  (u : PS) (sz : Nat) (Qc : Int32 → PS → Prop) (h : P_B_nextStart  u Qc) : Met l y_B_nextStart (wM y_B_nextStart b_B_nextStart 1 (some .int)) (rmN 0 0 0) (PreE x g (pcl x g o) ex [.ref o] a u sz) (QfI x (pcl x g o) ex a (va_A ((pcl x g o) a u ++ ex) sz) Qc) 0 0 (va_A ((pcl x g o) a u ++ ex) sz) := by
  refine w_enterE (by decide +kernel) (Nat.le_of_ble_eq_true rfl) (fun p e s m args below meth c S hr hlk hnm hK hE hA hw ls hl => ?_)
  have hl : lv_has ls 1 [(0, .ref o)] := hl
  refine lv_aload_n S.1 S.2.1 d_B_nextStart_0 rfl (lv_at hl 0 rfl) ?_
  refine pg_captures S hK hw d_B_nextStart_1 ?_
  refine lv_iconst (v := 1) S.1 S.2.1 d_B_nextStart_4 (by decide) ?_
  have hg := h.1
  have h := h.2
  refine pl_cF S hK hw hg d_B_nextStart_5 ?_
  refine lv_aload_n S.1 S.2.1 d_B_nextStart_6 rfl (lv_at hl 0 rfl) ?_
  refine pg_captures S hK hw d_B_nextStart_7 ?_
  refine lv_iconst (v := 0) S.1 S.2.1 d_B_nextStart_10 (by decide) ?_
  have hg := h.1
  have h := h.2
  refine pl_cF S hK hw hg d_B_nextStart_11 ?_
  refine lv_icmp_ne (tgt := 26) S.1 S.2.1 d_B_nextStart_12 (by decide) (fun q_12 => ?_) (fun q_12 => ?_)
  · have h := h.2 q_12
    refine lv_aload_n S.1 S.2.1 d_B_nextStart_26 rfl (lv_at hl 0 rfl) ?_
    refine pg_captures S hK hw d_B_nextStart_27 ?_
    refine lv_iconst (v := 1) S.1 S.2.1 d_B_nextStart_30 (by decide) ?_
    have hg := h.1
    have h := h.2
    refine pl_cF S hK hw hg d_B_nextStart_31 ?_
    exact w_iretF S hr hlk hw h d_B_nextStart_32
  · have h := h.1 q_12
    refine lv_aload_n S.1 S.2.1 d_B_nextStart_15 rfl (lv_at hl 0 rfl) ?_
    refine pg_captures S hK hw d_B_nextStart_16 ?_
    refine lv_iconst (v := 1) S.1 S.2.1 d_B_nextStart_19 (by decide) ?_
    have hg := h.1
    have h := h.2
    refine pl_cF S hK hw hg d_B_nextStart_20 ?_
    refine lv_iconst (v := 1) S.1 S.2.1 d_B_nextStart_21 (by decide) ?_
    refine lv_iadd S.1 S.2.1 d_B_nextStart_22 ?_
    refine lv_goto (tgt := 32) S.1 S.2.1 d_B_nextStart_23 (by decide) ?_
    exact w_iretF S hr hlk hw h d_B_nextStart_32
end PW
abbrev b_B_again : ByteArray := prog_1_method_39_code
def y_B_again : MethodName := ⟨"PatternBench", "again", "()I"⟩
theorem yd_B_again : y_B_again.cls ≠ "java/lang/invoke/MethodHandle" ∧ y_B_again.cls ≠ "java/lang/invoke/VarHandle" ∧ (parseMethodDescriptor y_B_again.desc).map (fun d => d.parameters.length) = some 0 := by decide +kernel
theorem d_B_again_0 : decode b_B_again 0 = .ok (.aload_n 0, 1) := by decide +kernel
theorem d_B_again_1 : decode b_B_again 1 = .ok (.getfield 222, 3) := by decide +kernel
theorem d_B_again_4 : decode b_B_again 4 = .ok (.ifCond .eq 17, 3) := by decide +kernel
theorem d_B_again_7 : decode b_B_again 7 = .ok (.aload_n 0, 1) := by decide +kernel
theorem d_B_again_8 : decode b_B_again 8 = .ok (.invokevirtual 317, 3) := by decide +kernel
theorem d_B_again_11 : decode b_B_again 11 = .ok (.aload_n 0, 1) := by decide +kernel
theorem d_B_again_12 : decode b_B_again 12 = .ok (.getfield 16, 3) := by decide +kernel
theorem d_B_again_15 : decode b_B_again 15 = .ok (.invokevirtual 61, 3) := by decide +kernel
theorem d_B_again_18 : decode b_B_again 18 = .ok (.if_icmp .le 16, 3) := by decide +kernel
theorem d_B_again_21 : decode b_B_again 21 = .ok (.aload_n 0, 1) := by decide +kernel
theorem d_B_again_22 : decode b_B_again 22 = .ok (.iconst 0, 1) := by decide +kernel
theorem d_B_again_23 : decode b_B_again 23 = .ok (.putfield 222, 3) := by decide +kernel
theorem d_B_again_26 : decode b_B_again 26 = .ok (.aload_n 0, 1) := by decide +kernel
theorem d_B_again_27 : decode b_B_again 27 = .ok (.iconst 0, 1) := by decide +kernel
theorem d_B_again_28 : decode b_B_again 28 = .ok (.putfield 248, 3) := by decide +kernel
theorem d_B_again_31 : decode b_B_again 31 = .ok (.bipush (-4), 2) := by decide +kernel
theorem d_B_again_33 : decode b_B_again 33 = .ok (.ireturn, 1) := by decide +kernel
theorem d_B_again_34 : decode b_B_again 34 = .ok (.aload_n 0, 1) := by decide +kernel
theorem d_B_again_35 : decode b_B_again 35 = .ok (.aload_n 0, 1) := by decide +kernel
theorem d_B_again_36 : decode b_B_again 36 = .ok (.invokevirtual 317, 3) := by decide +kernel
theorem d_B_again_39 : decode b_B_again 39 = .ok (.invokevirtual 314, 3) := by decide +kernel
theorem d_B_again_42 : decode b_B_again 42 = .ok (.ireturn, 1) := by decide +kernel
def B_B_again_21 (Qc : Int32 → PS → Prop) (bc bs : Nat)  (k n0 : Nat)  (u : PS) : Prop := Qc (-4 : Int32) (ps_steps (ps_matched u (0 : Int32)) (0 : Int32))
def P_B_again (bc bs : Nat)  (u : PS) (Qc : Int32 → PS → Prop) : Prop := (((p_matched u) = (0 : Int32) → B_B_again_21 Qc bc bs  0 0  u) ∧ (¬ (p_matched u) = (0 : Int32) → P_B_nextStart  u (fun r_8 u_8 => P_SB_length  (p_su u_8) (fun r_15 z_15 => ((r_8 ≤ r_15 → P_B_nextStart  (ps_su u_8 z_15) (fun r_36 u_36 => (∃ kc_39 nc_39 : Nat, 0 + kc_39 ≤ bc ∧ 0 + nc_39 ≤ bs ∧ P_B_find kc_39 nc_39 r_36 u_36 (fun r_39 u_39 => Qc r_39 u_39)))) ∧ (¬ r_8 ≤ r_15 → B_B_again_21 Qc bc bs  0 0  (ps_su u_8 z_15)))))))
section PW
variable {p : Program} {l : Launch} {e : Env} {s : State} {m : MethodId} {args : Array Value} {below : List Frame} {meth : Method} {c : Code} {x : GX} {g : GE} {ex : va_W} {a : Nat → Nat} {A : Nat → Prop} {o : Nat}
set_option maxHeartbeats 4000000 in
set_option maxRecDepth 20000 in
theorem wB_B_again_21 (S : CallFix p m c b_B_again 1 s args lw_tg "PatternBench") (hr : meth.sig.returnType = some .int) (hlk : meth.locks = false) (hK : GK x s) (hE : EN g A s s.heap) (hA : ∀ q : Nat, s.heap.size ≤ q → A q) {Qc : Int32 → PS → Prop} {bc bs : Nat}  : ∀ (k n0 : Nat) (hk : k ≤ bc) (hn : n0 ≤ bs)  (u : PS) (a : Nat → Nat) (ls : Array Slot) (H : Heap) (locs : List Loc), lv_has ls 1 [(0, .ref o)] → wd x A s.heap ((pcl x g o) a u ++ ex) H locs → B_B_again_21 Qc bc bs  k n0  u → W p l e (rmN 10 bc bs) s m args below meth c H locs k n0 (MQ below (QeI x (pcl x g o) ex A Qc) args s bc bs A) (F0 m 21 ls []) := by
  intro k n0 hk hn  u a ls H locs hl hw h
  refine lv_aload_n S.1 S.2.1 d_B_again_21 rfl (lv_at hl 0 rfl) ?_
  refine lv_iconst (v := 0) S.1 S.2.1 d_B_again_22 (by decide) ?_
  refine pp_matched S hK hw isB0 d_B_again_23 (fun H locs hw => ?_)
  refine lv_aload_n S.1 S.2.1 d_B_again_26 rfl (lv_at hl 0 rfl) ?_
  refine lv_iconst (v := 0) S.1 S.2.1 d_B_again_27 (by decide) ?_
  refine pp_steps S hK hw d_B_again_28 (fun H locs hw => ?_)
  refine lv_bipush (v := -4) S.1 S.2.1 d_B_again_31 (by decide) ?_
  refine W.widen (k := bc) (n := bs) hk hn ?_
  exact w_iretE S hr hlk hw h d_B_again_33
set_option maxHeartbeats 4000000 in
set_option maxRecDepth 20000 in
theorem c_B_again {x : GX} {g : GE} {o : Nat} {ex : va_W} {a : Nat → Nat} (l : Launch) (bc bs : Nat)  (u : PS) (sz : Nat) (Qc : Int32 → PS → Prop) (h : P_B_again bc bs  u Qc) : Met l y_B_again (wM y_B_again b_B_again 1 (some .int)) (rmN 10 bc bs) (PreE x g (pcl x g o) ex [.ref o] a u sz) (QeI x (pcl x g o) ex (va_A ((pcl x g o) a u ++ ex) sz) Qc) bc bs (va_A ((pcl x g o) a u ++ ex) sz) := by
  refine w_enterE (by decide +kernel) (Nat.le_of_ble_eq_true rfl) (fun p e s m args below meth c S hr hlk hnm hK hE hA hw ls hl => ?_)
  have hl : lv_has ls 1 [(0, .ref o)] := hl
  refine lv_aload_n S.1 S.2.1 d_B_again_0 rfl (lv_at hl 0 rfl) ?_
  refine pg_matched S hK hw d_B_again_1 ?_
  refine lv_if_eq (tgt := 21) S.1 S.2.1 d_B_again_4 (by decide) (fun q_4 => ?_) (fun q_4 => ?_)
  · have h := h.1 q_4
    exact wB_B_again_21 S hr hlk hK hE hA  0 0 (Nat.zero_le _) (Nat.zero_le _)  u a _ _ _ (lv_sub hl [0] rfl) hw h
  · have h := h.2 q_4
    refine lv_aload_n S.1 S.2.1 d_B_again_7 rfl (lv_at hl 0 rfl) ?_
    refine w_ciF hA hw (w_rvE (rest := []) S hK hE hA hw (c_B_nextStart l  u _ _ h) (ci := 1) (q0 := 0) rfl rfl (w_cb (fr := 0) (lv := 0) S.2.2.2.2 k_838 k_835 k_1 yd_B_nextStart rfl rfl ⟨Nat.le_of_ble_eq_true rfl, Nat.le_of_ble_eq_true rfl⟩) k_837 s_33 rfl hl.1 rfl (Nat.le_of_ble_eq_true rfl) d_B_again_8 ⟨(Nat.zero_le _), (Nat.zero_le _)⟩) (fun r_8 u_8 H locs h hw => ?_)
    refine lv_aload_n S.1 S.2.1 d_B_again_11 rfl (lv_at hl 0 rfl) ?_
    refine pg_subject S hK hw d_B_again_12 ?_
    have hw2 := pb_su_out hw
    refine w_ciF hA hw2 (w_rvE (rest := [.int r_8]) S hK hE hA hw2 (c_SB_length l  (p_su u_8) _ _ h) (ci := 3) (q0 := 0) rfl rfl (w_cb (fr := 0) (lv := 0) S.2.2.2.2 k_278 k_275 k_3 yd_SB_length rfl rfl ⟨Nat.le_of_ble_eq_true rfl, Nat.le_of_ble_eq_true rfl⟩) k_276 k_277 rfl hl.1 rfl (Nat.le_of_ble_eq_true rfl) d_B_again_15 ⟨(Nat.zero_le _), (Nat.zero_le _)⟩) (fun r_15 z_15 H locs h hw => ?_)
    have hw : wd x _ _ ((pcl x g o) a (ps_su u_8 z_15) ++ ex) H locs := pb_su_inF hw
    refine lv_icmp_le (tgt := 34) S.1 S.2.1 d_B_again_18 (by decide) (fun q_18 => ?_) (fun q_18 => ?_)
    · have h := h.1 q_18
      refine lv_aload_n S.1 S.2.1 d_B_again_34 rfl (lv_at hl 0 rfl) ?_
      refine lv_aload_n S.1 S.2.1 d_B_again_35 rfl (lv_at hl 0 rfl) ?_
      refine w_ciF hA hw (w_rvE (rest := [.ref o]) S hK hE hA hw (c_B_nextStart l  (ps_su u_8 z_15) _ _ h) (ci := 1) (q0 := 0) rfl rfl (w_cb (fr := 0) (lv := 0) S.2.2.2.2 k_838 k_835 k_1 yd_B_nextStart rfl rfl ⟨Nat.le_of_ble_eq_true rfl, Nat.le_of_ble_eq_true rfl⟩) k_837 s_33 rfl hl.1 rfl (Nat.le_of_ble_eq_true rfl) d_B_again_36 ⟨(Nat.zero_le _), (Nat.zero_le _)⟩) (fun r_36 u_36 H locs h hw => ?_)
      obtain ⟨kc_39, nc_39, hk_39, hn_39, h⟩ := h
      refine w_ciE hA hw (w_rvE (rest := []) S hK hE hA hw (c_B_find l kc_39 nc_39 r_36 u_36 _ _ h) (ci := 1) (q0 := 0) rfl rfl (w_cb (fr := 0) (lv := 0) S.2.2.2.2 k_759 k_756 k_1 yd_B_find rfl rfl ⟨Nat.le_of_ble_eq_true rfl, Nat.le_of_ble_eq_true rfl⟩) k_758 s_16 rfl hl.1 rfl (Nat.le_of_ble_eq_true rfl) d_B_again_39 ⟨hk_39, hn_39⟩) (fun r_39 u_39 a_39 H locs h hw => ?_)
      refine W.widen (k := bc) (n := bs) hk_39 hn_39 ?_
      exact w_iretE S hr hlk hw h d_B_again_42
    · have h := h.2 q_18
      exact wB_B_again_21 S hr hlk hK hE hA  0 0 (Nat.zero_le _) (Nat.zero_le _)  (ps_su u_8 z_15) a _ _ _ (lv_sub hl [0] rfl) hw h
end PW
abbrev b_B_start : ByteArray := prog_1_method_40_code
def y_B_start : MethodName := ⟨"PatternBench", "start", "(I)I"⟩
theorem yd_B_start : y_B_start.cls ≠ "java/lang/invoke/MethodHandle" ∧ y_B_start.cls ≠ "java/lang/invoke/VarHandle" ∧ (parseMethodDescriptor y_B_start.desc).map (fun d => d.parameters.length) = some 1 := by decide +kernel
theorem d_B_start_0 : decode b_B_start 0 = .ok (.aload_n 0, 1) := by decide +kernel
theorem d_B_start_1 : decode b_B_start 1 = .ok (.getfield 222, 3) := by decide +kernel
theorem d_B_start_4 : decode b_B_start 4 = .ok (.ifCond .eq 23, 3) := by decide +kernel
theorem d_B_start_7 : decode b_B_start 7 = .ok (.iload_n 1, 1) := by decide +kernel
theorem d_B_start_8 : decode b_B_start 8 = .ok (.ifCond .lt 19, 3) := by decide +kernel
theorem d_B_start_11 : decode b_B_start 11 = .ok (.iload_n 1, 1) := by decide +kernel
theorem d_B_start_12 : decode b_B_start 12 = .ok (.iconst 4, 1) := by decide +kernel
theorem d_B_start_13 : decode b_B_start 13 = .ok (.if_icmp .gt 14, 3) := by decide +kernel
theorem d_B_start_16 : decode b_B_start 16 = .ok (.aload_n 0, 1) := by decide +kernel
theorem d_B_start_17 : decode b_B_start 17 = .ok (.getfield 36, 3) := by decide +kernel
theorem d_B_start_20 : decode b_B_start 20 = .ok (.iconst 2, 1) := by decide +kernel
theorem d_B_start_21 : decode b_B_start 21 = .ok (.iload_n 1, 1) := by decide +kernel
theorem d_B_start_22 : decode b_B_start 22 = .ok (.imul, 1) := by decide +kernel
theorem d_B_start_23 : decode b_B_start 23 = .ok (.iaload, 1) := by decide +kernel
theorem d_B_start_24 : decode b_B_start 24 = .ok (.goto 5, 3) := by decide +kernel
theorem d_B_start_27 : decode b_B_start 27 = .ok (.bipush (-6), 2) := by decide +kernel
theorem d_B_start_29 : decode b_B_start 29 = .ok (.ireturn, 1) := by decide +kernel
def P_B_start (x1 : Int32) (u : PS) (Qc : Int32 → PS → Prop) : Prop := (((p_matched u) = (0 : Int32) → Qc (-6 : Int32) u) ∧ (¬ (p_matched u) = (0 : Int32) → ((x1 < (0 : Int32) → Qc (-6 : Int32) u) ∧ (¬ x1 < (0 : Int32) → (((4 : Int32) < x1 → Qc (-6 : Int32) u) ∧ (¬ (4 : Int32) < x1 → (vp_in ((2 : Int32) * x1) 10 ∧ Qc (p_cF u ((2 : Int32) * x1).toNatClampNeg) u)))))))
section PW
variable {p : Program} {l : Launch} {e : Env} {s : State} {m : MethodId} {args : Array Value} {below : List Frame} {meth : Method} {c : Code} {x : GX} {g : GE} {ex : va_W} {a : Nat → Nat} {A : Nat → Prop} {o : Nat}
set_option maxHeartbeats 4000000 in
set_option maxRecDepth 20000 in
theorem c_B_start {x : GX} {g : GE} {o : Nat} {ex : va_W} {a : Nat → Nat} (l : Launch) (x1 : Int32) (u : PS) (sz : Nat) (Qc : Int32 → PS → Prop) (h : P_B_start x1 u Qc) : Met l y_B_start (wM y_B_start b_B_start 2 (some .int)) (rmN 0 0 0) (PreE x g (pcl x g o) ex [.ref o, .int x1] a u sz) (QfI x (pcl x g o) ex a (va_A ((pcl x g o) a u ++ ex) sz) Qc) 0 0 (va_A ((pcl x g o) a u ++ ex) sz) := by
  refine w_enterE (by decide +kernel) (Nat.le_of_ble_eq_true rfl) (fun p e s m args below meth c S hr hlk hnm hK hE hA hw ls hl => ?_)
  have hl : lv_has ls 2 [(0, .ref o), (1, .int x1)] := hl
  refine lv_aload_n S.1 S.2.1 d_B_start_0 rfl (lv_at hl 0 rfl) ?_
  refine pg_matched S hK hw d_B_start_1 ?_
  refine lv_if_eq (tgt := 27) S.1 S.2.1 d_B_start_4 (by decide) (fun q_4 => ?_) (fun q_4 => ?_)
  · have h := h.1 q_4
    refine lv_bipush (v := -6) S.1 S.2.1 d_B_start_27 (by decide) ?_
    exact w_iretF S hr hlk hw h d_B_start_29
  · have h := h.2 q_4
    refine lv_iload_n S.1 S.2.1 d_B_start_7 rfl (lv_at hl 1 rfl) ?_
    refine lv_if_lt (tgt := 27) S.1 S.2.1 d_B_start_8 (by decide) (fun q_8 => ?_) (fun q_8 => ?_)
    · have h := h.1 q_8
      refine lv_bipush (v := -6) S.1 S.2.1 d_B_start_27 (by decide) ?_
      exact w_iretF S hr hlk hw h d_B_start_29
    · have h := h.2 q_8
      refine lv_iload_n S.1 S.2.1 d_B_start_11 rfl (lv_at hl 1 rfl) ?_
      refine lv_iconst (v := 4) S.1 S.2.1 d_B_start_12 (by decide) ?_
      refine lv_icmp_gt (tgt := 27) S.1 S.2.1 d_B_start_13 (by decide) (fun q_13 => ?_) (fun q_13 => ?_)
      · have h := h.1 q_13
        refine lv_bipush (v := -6) S.1 S.2.1 d_B_start_27 (by decide) ?_
        exact w_iretF S hr hlk hw h d_B_start_29
      · have h := h.2 q_13
        refine lv_aload_n S.1 S.2.1 d_B_start_16 rfl (lv_at hl 0 rfl) ?_
        refine pg_captures S hK hw d_B_start_17 ?_
        refine lv_iconst (v := 2) S.1 S.2.1 d_B_start_20 (by decide) ?_
        refine lv_iload_n S.1 S.2.1 d_B_start_21 rfl (lv_at hl 1 rfl) ?_
        refine lv_imul S.1 S.2.1 d_B_start_22 ?_
        have hg := h.1
        have h := h.2
        refine pl_cF S hK hw hg d_B_start_23 ?_
        refine lv_goto (tgt := 29) S.1 S.2.1 d_B_start_24 (by decide) ?_
        exact w_iretF S hr hlk hw h d_B_start_29
end PW
abbrev b_B_end : ByteArray := prog_1_method_41_code
def y_B_end : MethodName := ⟨"PatternBench", "end", "(I)I"⟩
theorem yd_B_end : y_B_end.cls ≠ "java/lang/invoke/MethodHandle" ∧ y_B_end.cls ≠ "java/lang/invoke/VarHandle" ∧ (parseMethodDescriptor y_B_end.desc).map (fun d => d.parameters.length) = some 1 := by decide +kernel
theorem d_B_end_0 : decode b_B_end 0 = .ok (.aload_n 0, 1) := by decide +kernel
theorem d_B_end_1 : decode b_B_end 1 = .ok (.getfield 222, 3) := by decide +kernel
theorem d_B_end_4 : decode b_B_end 4 = .ok (.ifCond .eq 25, 3) := by decide +kernel
theorem d_B_end_7 : decode b_B_end 7 = .ok (.iload_n 1, 1) := by decide +kernel
theorem d_B_end_8 : decode b_B_end 8 = .ok (.ifCond .lt 21, 3) := by decide +kernel
theorem d_B_end_11 : decode b_B_end 11 = .ok (.iload_n 1, 1) := by decide +kernel
theorem d_B_end_12 : decode b_B_end 12 = .ok (.iconst 4, 1) := by decide +kernel
theorem d_B_end_13 : decode b_B_end 13 = .ok (.if_icmp .gt 16, 3) := by decide +kernel
theorem d_B_end_16 : decode b_B_end 16 = .ok (.aload_n 0, 1) := by decide +kernel
theorem d_B_end_17 : decode b_B_end 17 = .ok (.getfield 36, 3) := by decide +kernel
theorem d_B_end_20 : decode b_B_end 20 = .ok (.iconst 2, 1) := by decide +kernel
theorem d_B_end_21 : decode b_B_end 21 = .ok (.iload_n 1, 1) := by decide +kernel
theorem d_B_end_22 : decode b_B_end 22 = .ok (.imul, 1) := by decide +kernel
theorem d_B_end_23 : decode b_B_end 23 = .ok (.iconst 1, 1) := by decide +kernel
theorem d_B_end_24 : decode b_B_end 24 = .ok (.iadd, 1) := by decide +kernel
theorem d_B_end_25 : decode b_B_end 25 = .ok (.iaload, 1) := by decide +kernel
theorem d_B_end_26 : decode b_B_end 26 = .ok (.goto 5, 3) := by decide +kernel
theorem d_B_end_29 : decode b_B_end 29 = .ok (.bipush (-6), 2) := by decide +kernel
theorem d_B_end_31 : decode b_B_end 31 = .ok (.ireturn, 1) := by decide +kernel
def P_B_end (x1 : Int32) (u : PS) (Qc : Int32 → PS → Prop) : Prop := (((p_matched u) = (0 : Int32) → Qc (-6 : Int32) u) ∧ (¬ (p_matched u) = (0 : Int32) → ((x1 < (0 : Int32) → Qc (-6 : Int32) u) ∧ (¬ x1 < (0 : Int32) → (((4 : Int32) < x1 → Qc (-6 : Int32) u) ∧ (¬ (4 : Int32) < x1 → (vp_in (((2 : Int32) * x1) + (1 : Int32)) 10 ∧ Qc (p_cF u (((2 : Int32) * x1) + (1 : Int32)).toNatClampNeg) u)))))))
section PW
variable {p : Program} {l : Launch} {e : Env} {s : State} {m : MethodId} {args : Array Value} {below : List Frame} {meth : Method} {c : Code} {x : GX} {g : GE} {ex : va_W} {a : Nat → Nat} {A : Nat → Prop} {o : Nat}
set_option maxHeartbeats 4000000 in
set_option maxRecDepth 20000 in
theorem c_B_end {x : GX} {g : GE} {o : Nat} {ex : va_W} {a : Nat → Nat} (l : Launch) (x1 : Int32) (u : PS) (sz : Nat) (Qc : Int32 → PS → Prop) (h : P_B_end x1 u Qc) : Met l y_B_end (wM y_B_end b_B_end 2 (some .int)) (rmN 0 0 0) (PreE x g (pcl x g o) ex [.ref o, .int x1] a u sz) (QfI x (pcl x g o) ex a (va_A ((pcl x g o) a u ++ ex) sz) Qc) 0 0 (va_A ((pcl x g o) a u ++ ex) sz) := by
  refine w_enterE (by decide +kernel) (Nat.le_of_ble_eq_true rfl) (fun p e s m args below meth c S hr hlk hnm hK hE hA hw ls hl => ?_)
  have hl : lv_has ls 2 [(0, .ref o), (1, .int x1)] := hl
  refine lv_aload_n S.1 S.2.1 d_B_end_0 rfl (lv_at hl 0 rfl) ?_
  refine pg_matched S hK hw d_B_end_1 ?_
  refine lv_if_eq (tgt := 29) S.1 S.2.1 d_B_end_4 (by decide) (fun q_4 => ?_) (fun q_4 => ?_)
  · have h := h.1 q_4
    refine lv_bipush (v := -6) S.1 S.2.1 d_B_end_29 (by decide) ?_
    exact w_iretF S hr hlk hw h d_B_end_31
  · have h := h.2 q_4
    refine lv_iload_n S.1 S.2.1 d_B_end_7 rfl (lv_at hl 1 rfl) ?_
    refine lv_if_lt (tgt := 29) S.1 S.2.1 d_B_end_8 (by decide) (fun q_8 => ?_) (fun q_8 => ?_)
    · have h := h.1 q_8
      refine lv_bipush (v := -6) S.1 S.2.1 d_B_end_29 (by decide) ?_
      exact w_iretF S hr hlk hw h d_B_end_31
    · have h := h.2 q_8
      refine lv_iload_n S.1 S.2.1 d_B_end_11 rfl (lv_at hl 1 rfl) ?_
      refine lv_iconst (v := 4) S.1 S.2.1 d_B_end_12 (by decide) ?_
      refine lv_icmp_gt (tgt := 29) S.1 S.2.1 d_B_end_13 (by decide) (fun q_13 => ?_) (fun q_13 => ?_)
      · have h := h.1 q_13
        refine lv_bipush (v := -6) S.1 S.2.1 d_B_end_29 (by decide) ?_
        exact w_iretF S hr hlk hw h d_B_end_31
      · have h := h.2 q_13
        refine lv_aload_n S.1 S.2.1 d_B_end_16 rfl (lv_at hl 0 rfl) ?_
        refine pg_captures S hK hw d_B_end_17 ?_
        refine lv_iconst (v := 2) S.1 S.2.1 d_B_end_20 (by decide) ?_
        refine lv_iload_n S.1 S.2.1 d_B_end_21 rfl (lv_at hl 1 rfl) ?_
        refine lv_imul S.1 S.2.1 d_B_end_22 ?_
        refine lv_iconst (v := 1) S.1 S.2.1 d_B_end_23 (by decide) ?_
        refine lv_iadd S.1 S.2.1 d_B_end_24 ?_
        have hg := h.1
        have h := h.2
        refine pl_cF S hK hw hg d_B_end_25 ?_
        refine lv_goto (tgt := 31) S.1 S.2.1 d_B_end_26 (by decide) ?_
        exact w_iretF S hr hlk hw h d_B_end_31
end PW
abbrev b_B_steps : ByteArray := prog_1_method_42_code
def y_B_steps : MethodName := ⟨"PatternBench", "steps", "()I"⟩
theorem yd_B_steps : y_B_steps.cls ≠ "java/lang/invoke/MethodHandle" ∧ y_B_steps.cls ≠ "java/lang/invoke/VarHandle" ∧ (parseMethodDescriptor y_B_steps.desc).map (fun d => d.parameters.length) = some 0 := by decide +kernel
theorem d_B_steps_0 : decode b_B_steps 0 = .ok (.aload_n 0, 1) := by decide +kernel
theorem d_B_steps_1 : decode b_B_steps 1 = .ok (.getfield 248, 3) := by decide +kernel
theorem d_B_steps_4 : decode b_B_steps 4 = .ok (.ireturn, 1) := by decide +kernel
def P_B_steps  (u : PS) (Qc : Int32 → PS → Prop) : Prop := Qc (p_steps u) u
section PW
variable {p : Program} {l : Launch} {e : Env} {s : State} {m : MethodId} {args : Array Value} {below : List Frame} {meth : Method} {c : Code} {x : GX} {g : GE} {ex : va_W} {a : Nat → Nat} {A : Nat → Prop} {o : Nat}
set_option maxHeartbeats 4000000 in
set_option maxRecDepth 20000 in
theorem c_B_steps {x : GX} {g : GE} {o : Nat} {ex : va_W} {a : Nat → Nat} (l : Launch)  (u : PS) (sz : Nat) (Qc : Int32 → PS → Prop) (h : P_B_steps  u Qc) : Met l y_B_steps (wM y_B_steps b_B_steps 1 (some .int)) (rmN 0 0 0) (PreE x g (pcl x g o) ex [.ref o] a u sz) (QfI x (pcl x g o) ex a (va_A ((pcl x g o) a u ++ ex) sz) Qc) 0 0 (va_A ((pcl x g o) a u ++ ex) sz) := by
  refine w_enterE (by decide +kernel) (Nat.le_of_ble_eq_true rfl) (fun p e s m args below meth c S hr hlk hnm hK hE hA hw ls hl => ?_)
  have hl : lv_has ls 1 [(0, .ref o)] := hl
  refine lv_aload_n S.1 S.2.1 d_B_steps_0 rfl (lv_at hl 0 rfl) ?_
  refine pg_steps S hK hw d_B_steps_1 ?_
  exact w_iretF S hr hlk hw h d_B_steps_4
end PW
abbrev b_B_matches : ByteArray := prog_1_method_43_code
def y_B_matches : MethodName := ⟨"PatternBench", "matches", "()I"⟩
theorem yd_B_matches : y_B_matches.cls ≠ "java/lang/invoke/MethodHandle" ∧ y_B_matches.cls ≠ "java/lang/invoke/VarHandle" ∧ (parseMethodDescriptor y_B_matches.desc).map (fun d => d.parameters.length) = some 0 := by decide +kernel
theorem d_B_matches_0 : decode b_B_matches 0 = .ok (.aload_n 0, 1) := by decide +kernel
theorem d_B_matches_1 : decode b_B_matches 1 = .ok (.getfield 200, 3) := by decide +kernel
theorem d_B_matches_4 : decode b_B_matches 4 = .ok (.ifCond .ne 5, 3) := by decide +kernel
theorem d_B_matches_7 : decode b_B_matches 7 = .ok (.iconst (-1), 1) := by decide +kernel
theorem d_B_matches_8 : decode b_B_matches 8 = .ok (.ireturn, 1) := by decide +kernel
theorem d_B_matches_9 : decode b_B_matches 9 = .ok (.iconst 0, 1) := by decide +kernel
theorem d_B_matches_10 : decode b_B_matches 10 = .ok (.istore_n 1, 1) := by decide +kernel
theorem d_B_matches_11 : decode b_B_matches 11 = .ok (.aload_n 0, 1) := by decide +kernel
theorem d_B_matches_12 : decode b_B_matches 12 = .ok (.iconst 0, 1) := by decide +kernel
theorem d_B_matches_13 : decode b_B_matches 13 = .ok (.invokevirtual 314, 3) := by decide +kernel
theorem d_B_matches_16 : decode b_B_matches 16 = .ok (.istore_n 2, 1) := by decide +kernel
theorem d_B_matches_17 : decode b_B_matches 17 = .ok (.iload_n 2, 1) := by decide +kernel
theorem d_B_matches_18 : decode b_B_matches 18 = .ok (.ifCond .lt 36, 3) := by decide +kernel
theorem d_B_matches_21 : decode b_B_matches 21 = .ok (.iinc 1 1, 3) := by decide +kernel
theorem d_B_matches_24 : decode b_B_matches 24 = .ok (.aload_n 0, 1) := by decide +kernel
theorem d_B_matches_25 : decode b_B_matches 25 = .ok (.invokevirtual 317, 3) := by decide +kernel
theorem d_B_matches_28 : decode b_B_matches 28 = .ok (.istore_n 3, 1) := by decide +kernel
theorem d_B_matches_29 : decode b_B_matches 29 = .ok (.iload_n 3, 1) := by decide +kernel
theorem d_B_matches_30 : decode b_B_matches 30 = .ok (.aload_n 0, 1) := by decide +kernel
theorem d_B_matches_31 : decode b_B_matches 31 = .ok (.getfield 16, 3) := by decide +kernel
theorem d_B_matches_34 : decode b_B_matches 34 = .ok (.invokevirtual 61, 3) := by decide +kernel
theorem d_B_matches_37 : decode b_B_matches 37 = .ok (.if_icmp .le 8, 3) := by decide +kernel
theorem d_B_matches_40 : decode b_B_matches 40 = .ok (.bipush (-4), 2) := by decide +kernel
theorem d_B_matches_42 : decode b_B_matches 42 = .ok (.goto 8, 3) := by decide +kernel
theorem d_B_matches_45 : decode b_B_matches 45 = .ok (.aload_n 0, 1) := by decide +kernel
theorem d_B_matches_46 : decode b_B_matches 46 = .ok (.iload_n 3, 1) := by decide +kernel
theorem d_B_matches_47 : decode b_B_matches 47 = .ok (.invokevirtual 314, 3) := by decide +kernel
theorem d_B_matches_50 : decode b_B_matches 50 = .ok (.istore_n 2, 1) := by decide +kernel
theorem d_B_matches_51 : decode b_B_matches 51 = .ok (.goto (-34), 3) := by decide +kernel
theorem d_B_matches_54 : decode b_B_matches 54 = .ok (.aload_n 0, 1) := by decide +kernel
theorem d_B_matches_55 : decode b_B_matches 55 = .ok (.iconst 0, 1) := by decide +kernel
theorem d_B_matches_56 : decode b_B_matches 56 = .ok (.putfield 222, 3) := by decide +kernel
theorem d_B_matches_59 : decode b_B_matches 59 = .ok (.iload_n 2, 1) := by decide +kernel
theorem d_B_matches_60 : decode b_B_matches 60 = .ok (.bipush (-5), 2) := by decide +kernel
theorem d_B_matches_62 : decode b_B_matches 62 = .ok (.if_icmp .ne 8, 3) := by decide +kernel
theorem d_B_matches_65 : decode b_B_matches 65 = .ok (.bipush (-5), 2) := by decide +kernel
theorem d_B_matches_67 : decode b_B_matches 67 = .ok (.goto 4, 3) := by decide +kernel
theorem d_B_matches_70 : decode b_B_matches 70 = .ok (.iload_n 1, 1) := by decide +kernel
theorem d_B_matches_71 : decode b_B_matches 71 = .ok (.ireturn, 1) := by decide +kernel
def B_B_matches_50 (Qc : Int32 → PS → Prop) (bc bs : Nat) (K17 : Nat → Nat → Int32 → Int32 → PS → Prop) (k n0 : Nat) (x1 : Int32) (t0 : Int32) (u : PS) : Prop := K17 k n0 x1 t0 u
def L_B_matches_17 (Qc : Int32 → PS → Prop) (bc bs : Nat)  : Nat → Nat → Nat → Int32 → Int32 → PS → Prop
  | 0, _, _, _, _, _ => False
  | n + 1, k, n0, x1, x2, u => ((x2 < (0 : Int32) → ((x2 = (-5 : Int32) → Qc (-5 : Int32) (ps_matched u (0 : Int32))) ∧ (¬ x2 = (-5 : Int32) → Qc x1 (ps_matched u (0 : Int32))))) ∧ (¬ x2 < (0 : Int32) → (∀ x1_21 : Int32, x1_21 = x1 + 1 → P_B_nextStart  u (fun r_25 u_25 => P_SB_length  (p_su u_25) (fun r_34 z_34 => ((r_25 ≤ r_34 → (∃ kc_47 nc_47 : Nat, k + kc_47 ≤ bc ∧ n0 + nc_47 ≤ bs ∧ P_B_find kc_47 nc_47 r_25 (ps_su u_25 z_34) (fun r_47 u_47 => B_B_matches_50 Qc bc bs (L_B_matches_17 Qc bc bs n) (k + kc_47) (n0 + nc_47) x1_21 r_47 u_47))) ∧ (¬ r_25 ≤ r_34 → B_B_matches_50 Qc bc bs (L_B_matches_17 Qc bc bs n) k n0 x1_21 (-4 : Int32) (ps_su u_25 z_34))))))))
def P_B_matches (bc bs : Nat)  (u : PS) (Qc : Int32 → PS → Prop) : Prop := (((p_there u) = (0 : Int32) → Qc (-1 : Int32) u) ∧ (¬ (p_there u) = (0 : Int32) → (∃ kc_13 nc_13 : Nat, 0 + kc_13 ≤ bc ∧ 0 + nc_13 ≤ bs ∧ P_B_find kc_13 nc_13 (0 : Int32) u (fun r_13 u_13 => ∃ n, L_B_matches_17 Qc bc bs  n (0 + kc_13) (0 + nc_13) (0 : Int32) r_13 u_13))))
section PW
variable {p : Program} {l : Launch} {e : Env} {s : State} {m : MethodId} {args : Array Value} {below : List Frame} {meth : Method} {c : Code} {x : GX} {g : GE} {ex : va_W} {a : Nat → Nat} {A : Nat → Prop} {o : Nat}
set_option maxHeartbeats 4000000 in
set_option maxRecDepth 20000 in
theorem wB_B_matches_50 (S : CallFix p m c b_B_matches 4 s args lw_tg "PatternBench") (hr : meth.sig.returnType = some .int) (hlk : meth.locks = false) (hK : GK x s) (hE : EN g A s s.heap) (hA : ∀ q : Nat, s.heap.size ≤ q → A q) {Qc : Int32 → PS → Prop} {bc bs : Nat}  {K17 : Nat → Nat → Int32 → Int32 → PS → Prop} (ih17 : ∀ (k n0 : Nat) (hk : k ≤ bc) (hn : n0 ≤ bs) (x1 : Int32) (x2 : Int32) (u : PS) (a : Nat → Nat) (ls : Array Slot) (H : Heap) (locs : List Loc), lv_has ls 4 [(0, .ref o), (1, .int x1), (2, .int x2)] → wd x A s.heap ((pcl x g o) a u ++ ex) H locs → K17 k n0 x1 x2 u → W p l e (rmN 10 bc bs) s m args below meth c H locs k n0 (MQ below (QeI x (pcl x g o) ex A Qc) args s bc bs A) (F0 m 17 ls [])) : ∀ (k n0 : Nat) (hk : k ≤ bc) (hn : n0 ≤ bs) (x1 : Int32) (t0 : Int32) (u : PS) (a : Nat → Nat) (ls : Array Slot) (H : Heap) (locs : List Loc), lv_has ls 4 [(0, .ref o), (1, .int x1)] → wd x A s.heap ((pcl x g o) a u ++ ex) H locs → B_B_matches_50 Qc bc bs K17 k n0 x1 t0 u → W p l e (rmN 10 bc bs) s m args below meth c H locs k n0 (MQ below (QeI x (pcl x g o) ex A Qc) args s bc bs A) (F0 m 50 ls [.int t0]) := by
  intro k n0 hk hn x1 t0 u a ls H locs hl hw h
  refine lv_istore_n (lv' := [(2, .int t0), (0, .ref o), (1, .int x1)]) S.1 S.2.1 d_B_matches_50 rfl hl (by decide) rfl (fun ls hl => ?_)
  refine lv_goto (tgt := 17) S.1 S.2.1 d_B_matches_51 (by decide) ?_
  exact ih17 k n0 hk hn x1 t0 u a _ _ _ (lv_sub hl [1, 2, 0] rfl) hw h
set_option maxHeartbeats 4000000 in
set_option maxRecDepth 20000 in
theorem wL_B_matches_17 (S : CallFix p m c b_B_matches 4 s args lw_tg "PatternBench") (hr : meth.sig.returnType = some .int) (hlk : meth.locks = false) (hK : GK x s) (hE : EN g A s s.heap) (hA : ∀ q : Nat, s.heap.size ≤ q → A q) {Qc : Int32 → PS → Prop} {bc bs : Nat}  : ∀ (n : Nat) (k n0 : Nat) (hk : k ≤ bc) (hn : n0 ≤ bs) (x1 : Int32) (x2 : Int32) (u : PS) (a : Nat → Nat) (ls : Array Slot) (H : Heap) (locs : List Loc), lv_has ls 4 [(0, .ref o), (1, .int x1), (2, .int x2)] → wd x A s.heap ((pcl x g o) a u ++ ex) H locs → L_B_matches_17 Qc bc bs  n k n0 x1 x2 u → W p l e (rmN 10 bc bs) s m args below meth c H locs k n0 (MQ below (QeI x (pcl x g o) ex A Qc) args s bc bs A) (F0 m 17 ls []) := by
  intro n
  induction n with
  | zero =>
    intro k n0 hk hn x1 x2 u a ls H locs hl hw h
    exact absurd h id
  | succ n ih =>
    intro k n0 hk hn x1 x2 u a ls H locs hl hw h
    refine lv_iload_n S.1 S.2.1 d_B_matches_17 rfl (lv_at hl 2 rfl) ?_
    refine lv_if_lt (tgt := 54) S.1 S.2.1 d_B_matches_18 (by decide) (fun q_18 => ?_) (fun q_18 => ?_)
    · have h := h.1 q_18
      refine lv_aload_n S.1 S.2.1 d_B_matches_54 rfl (lv_at hl 0 rfl) ?_
      refine lv_iconst (v := 0) S.1 S.2.1 d_B_matches_55 (by decide) ?_
      refine pp_matched S hK hw isB0 d_B_matches_56 (fun H locs hw => ?_)
      refine lv_iload_n S.1 S.2.1 d_B_matches_59 rfl (lv_at hl 2 rfl) ?_
      refine lv_bipush (v := -5) S.1 S.2.1 d_B_matches_60 (by decide) ?_
      refine lv_icmp_ne (tgt := 70) S.1 S.2.1 d_B_matches_62 (by decide) (fun q_62 => ?_) (fun q_62 => ?_)
      · have h := h.2 q_62
        refine lv_iload_n S.1 S.2.1 d_B_matches_70 rfl (lv_at hl 1 rfl) ?_
        refine W.widen (k := bc) (n := bs) hk hn ?_
        exact w_iretE S hr hlk hw h d_B_matches_71
      · have h := h.1 q_62
        refine lv_bipush (v := -5) S.1 S.2.1 d_B_matches_65 (by decide) ?_
        refine lv_goto (tgt := 71) S.1 S.2.1 d_B_matches_67 (by decide) ?_
        refine W.widen (k := bc) (n := bs) hk hn ?_
        exact w_iretE S hr hlk hw h d_B_matches_71
    · have h := h.2 q_18
      obtain ⟨x1_21, ex1_21⟩ : ∃ y : Int32, y = x1 + 1 := ⟨_, rfl⟩
      have h := h x1_21 ex1_21
      refine lv_iinc (v := x1_21) (lv' := [(1, .int x1_21), (0, .ref o), (2, .int x2)]) S.1 S.2.1 d_B_matches_21 hl (k := 1) rfl (by rw [ex1_21]; rfl) (by decide) rfl (fun ls hl => ?_)
      refine lv_aload_n S.1 S.2.1 d_B_matches_24 rfl (lv_at hl 1 rfl) ?_
      refine w_ciF hA hw (w_rvE (rest := []) S hK hE hA hw (c_B_nextStart l  u _ _ h) (ci := 1) (q0 := 0) rfl rfl (w_cb (fr := 0) (lv := 0) S.2.2.2.2 k_838 k_835 k_1 yd_B_nextStart rfl rfl ⟨Nat.le_of_ble_eq_true rfl, Nat.le_of_ble_eq_true rfl⟩) k_837 s_33 rfl hl.1 rfl (Nat.le_of_ble_eq_true rfl) d_B_matches_25 ⟨hk, hn⟩) (fun r_25 u_25 H locs h hw => ?_)
      refine lv_istore_n (lv' := [(3, .int r_25), (1, .int x1_21), (0, .ref o), (2, .int x2)]) S.1 S.2.1 d_B_matches_28 rfl hl (by decide) rfl (fun ls hl => ?_)
      refine lv_iload_n S.1 S.2.1 d_B_matches_29 rfl (lv_at hl 0 rfl) ?_
      refine lv_aload_n S.1 S.2.1 d_B_matches_30 rfl (lv_at hl 2 rfl) ?_
      refine pg_subject S hK hw d_B_matches_31 ?_
      have hw2 := pb_su_out hw
      refine w_ciF hA hw2 (w_rvE (rest := [.int r_25]) S hK hE hA hw2 (c_SB_length l  (p_su u_25) _ _ h) (ci := 3) (q0 := 0) rfl rfl (w_cb (fr := 0) (lv := 0) S.2.2.2.2 k_278 k_275 k_3 yd_SB_length rfl rfl ⟨Nat.le_of_ble_eq_true rfl, Nat.le_of_ble_eq_true rfl⟩) k_276 k_277 rfl hl.1 rfl (Nat.le_of_ble_eq_true rfl) d_B_matches_34 ⟨hk, hn⟩) (fun r_34 z_34 H locs h hw => ?_)
      have hw : wd x _ _ ((pcl x g o) a (ps_su u_25 z_34) ++ ex) H locs := pb_su_inF hw
      refine lv_icmp_le (tgt := 45) S.1 S.2.1 d_B_matches_37 (by decide) (fun q_37 => ?_) (fun q_37 => ?_)
      · have h := h.1 q_37
        refine lv_aload_n S.1 S.2.1 d_B_matches_45 rfl (lv_at hl 2 rfl) ?_
        refine lv_iload_n S.1 S.2.1 d_B_matches_46 rfl (lv_at hl 0 rfl) ?_
        obtain ⟨kc_47, nc_47, hk_47, hn_47, h⟩ := h
        refine w_ciE hA hw (w_rvE (rest := []) S hK hE hA hw (c_B_find l kc_47 nc_47 r_25 (ps_su u_25 z_34) _ _ h) (ci := 1) (q0 := 0) rfl rfl (w_cb (fr := 0) (lv := 0) S.2.2.2.2 k_759 k_756 k_1 yd_B_find rfl rfl ⟨Nat.le_of_ble_eq_true rfl, Nat.le_of_ble_eq_true rfl⟩) k_758 s_16 rfl hl.1 rfl (Nat.le_of_ble_eq_true rfl) d_B_matches_47 ⟨hk_47, hn_47⟩) (fun r_47 u_47 a_47 H locs h hw => ?_)
        exact wB_B_matches_50 S hr hlk hK hE hA ih (k + kc_47) (n0 + nc_47) hk_47 hn_47 x1_21 r_47 u_47 a_47 _ _ _ (lv_sub hl [2, 1] rfl) hw h
      · have h := h.2 q_37
        refine lv_bipush (v := -4) S.1 S.2.1 d_B_matches_40 (by decide) ?_
        refine lv_goto (tgt := 50) S.1 S.2.1 d_B_matches_42 (by decide) ?_
        exact wB_B_matches_50 S hr hlk hK hE hA ih k n0 hk hn x1_21 (-4 : Int32) (ps_su u_25 z_34) a _ _ _ (lv_sub hl [2, 1] rfl) hw h
set_option maxHeartbeats 4000000 in
set_option maxRecDepth 20000 in
theorem c_B_matches {x : GX} {g : GE} {o : Nat} {ex : va_W} {a : Nat → Nat} (l : Launch) (bc bs : Nat)  (u : PS) (sz : Nat) (Qc : Int32 → PS → Prop) (h : P_B_matches bc bs  u Qc) : Met l y_B_matches (wM y_B_matches b_B_matches 4 (some .int)) (rmN 10 bc bs) (PreE x g (pcl x g o) ex [.ref o] a u sz) (QeI x (pcl x g o) ex (va_A ((pcl x g o) a u ++ ex) sz) Qc) bc bs (va_A ((pcl x g o) a u ++ ex) sz) := by
  refine w_enterE (by decide +kernel) (Nat.le_of_ble_eq_true rfl) (fun p e s m args below meth c S hr hlk hnm hK hE hA hw ls hl => ?_)
  have hl : lv_has ls 4 [(0, .ref o)] := hl
  refine lv_aload_n S.1 S.2.1 d_B_matches_0 rfl (lv_at hl 0 rfl) ?_
  refine pg_there S hK hw d_B_matches_1 ?_
  refine lv_if_ne (tgt := 9) S.1 S.2.1 d_B_matches_4 (by decide) (fun q_4 => ?_) (fun q_4 => ?_)
  · have h := h.2 q_4
    refine lv_iconst (v := 0) S.1 S.2.1 d_B_matches_9 (by decide) ?_
    refine lv_istore_n (lv' := [(1, .int (0 : Int32)), (0, .ref o)]) S.1 S.2.1 d_B_matches_10 rfl hl (by decide) rfl (fun ls hl => ?_)
    refine lv_aload_n S.1 S.2.1 d_B_matches_11 rfl (lv_at hl 1 rfl) ?_
    refine lv_iconst (v := 0) S.1 S.2.1 d_B_matches_12 (by decide) ?_
    obtain ⟨kc_13, nc_13, hk_13, hn_13, h⟩ := h
    refine w_ciE hA hw (w_rvE (rest := []) S hK hE hA hw (c_B_find l kc_13 nc_13 (0 : Int32) u _ _ h) (ci := 1) (q0 := 0) rfl rfl (w_cb (fr := 0) (lv := 0) S.2.2.2.2 k_759 k_756 k_1 yd_B_find rfl rfl ⟨Nat.le_of_ble_eq_true rfl, Nat.le_of_ble_eq_true rfl⟩) k_758 s_16 rfl hl.1 rfl (Nat.le_of_ble_eq_true rfl) d_B_matches_13 ⟨hk_13, hn_13⟩) (fun r_13 u_13 a_13 H locs h hw => ?_)
    refine lv_istore_n (lv' := [(2, .int r_13), (1, .int (0 : Int32)), (0, .ref o)]) S.1 S.2.1 d_B_matches_16 rfl hl (by decide) rfl (fun ls hl => ?_)
    obtain ⟨n9, h⟩ := h
    exact wL_B_matches_17 S hr hlk hK hE hA  n9 (0 + kc_13) (0 + nc_13) hk_13 hn_13 (0 : Int32) r_13 u_13 a_13 _ _ _ (lv_sub hl [2, 1, 0] rfl) hw h
  · have h := h.1 q_4
    refine lv_iconst (v := -1) S.1 S.2.1 d_B_matches_7 (by decide) ?_
    refine W.widen (k := bc) (n := bs) (Nat.zero_le _) (Nat.zero_le _) ?_
    exact w_iretE S hr hlk hw h d_B_matches_8
end PW
abbrev b_B_count : ByteArray := prog_1_method_44_code
def y_B_count : MethodName := ⟨"PatternBench", "count", "(I)I"⟩
theorem yd_B_count : y_B_count.cls ≠ "java/lang/invoke/MethodHandle" ∧ y_B_count.cls ≠ "java/lang/invoke/VarHandle" ∧ (parseMethodDescriptor y_B_count.desc).map (fun d => d.parameters.length) = some 1 := by decide +kernel
theorem d_B_count_0 : decode b_B_count 0 = .ok (.iload_n 1, 1) := by decide +kernel
theorem d_B_count_1 : decode b_B_count 1 = .ok (.tableswitch 81 0 3 #[31, 39, 47, 64], 31) := by decide +kernel
theorem d_B_count_32 : decode b_B_count 32 = .ok (.aload_n 0, 1) := by decide +kernel
theorem d_B_count_33 : decode b_B_count 33 = .ok (.getfield 10, 3) := by decide +kernel
theorem d_B_count_36 : decode b_B_count 36 = .ok (.invokevirtual 61, 3) := by decide +kernel
theorem d_B_count_39 : decode b_B_count 39 = .ok (.ireturn, 1) := by decide +kernel
theorem d_B_count_40 : decode b_B_count 40 = .ok (.aload_n 0, 1) := by decide +kernel
theorem d_B_count_41 : decode b_B_count 41 = .ok (.getfield 16, 3) := by decide +kernel
theorem d_B_count_44 : decode b_B_count 44 = .ok (.invokevirtual 61, 3) := by decide +kernel
theorem d_B_count_47 : decode b_B_count 47 = .ok (.ireturn, 1) := by decide +kernel
theorem d_B_count_48 : decode b_B_count 48 = .ok (.aload_n 0, 1) := by decide +kernel
theorem d_B_count_49 : decode b_B_count 49 = .ok (.getfield 200, 3) := by decide +kernel
theorem d_B_count_52 : decode b_B_count 52 = .ok (.ifCond .ne 8, 3) := by decide +kernel
theorem d_B_count_55 : decode b_B_count 55 = .ok (.bipush (-4), 2) := by decide +kernel
theorem d_B_count_57 : decode b_B_count 57 = .ok (.goto 7, 3) := by decide +kernel
theorem d_B_count_60 : decode b_B_count 60 = .ok (.aload_n 0, 1) := by decide +kernel
theorem d_B_count_61 : decode b_B_count 61 = .ok (.getfield 216, 3) := by decide +kernel
theorem d_B_count_64 : decode b_B_count 64 = .ok (.ireturn, 1) := by decide +kernel
theorem d_B_count_65 : decode b_B_count 65 = .ok (.aload_n 0, 1) := by decide +kernel
theorem d_B_count_66 : decode b_B_count 66 = .ok (.getfield 200, 3) := by decide +kernel
theorem d_B_count_69 : decode b_B_count 69 = .ok (.ifCond .ne 8, 3) := by decide +kernel
theorem d_B_count_72 : decode b_B_count 72 = .ok (.bipush (-4), 2) := by decide +kernel
theorem d_B_count_74 : decode b_B_count 74 = .ok (.goto 7, 3) := by decide +kernel
theorem d_B_count_77 : decode b_B_count 77 = .ok (.aload_n 0, 1) := by decide +kernel
theorem d_B_count_78 : decode b_B_count 78 = .ok (.getfield 219, 3) := by decide +kernel
theorem d_B_count_81 : decode b_B_count 81 = .ok (.ireturn, 1) := by decide +kernel
theorem d_B_count_82 : decode b_B_count 82 = .ok (.iconst (-1), 1) := by decide +kernel
theorem d_B_count_83 : decode b_B_count 83 = .ok (.ireturn, 1) := by decide +kernel
def P_B_count (x1 : Int32) (u : PS) (Qc : Int32 → PS → Prop) : Prop := ((x1 = (0 : Int32) → P_SB_length  (p_wr u) (fun r_36 z_36 => Qc r_36 (ps_wr u z_36))) ∧ (x1 = (1 : Int32) → P_SB_length  (p_su u) (fun r_44 z_44 => Qc r_44 (ps_su u z_44))) ∧ (x1 = (2 : Int32) → (((p_there u) = (0 : Int32) → Qc (-4 : Int32) u) ∧ (¬ (p_there u) = (0 : Int32) → Qc (p_rgroups u) u))) ∧ (x1 = (3 : Int32) → (((p_there u) = (0 : Int32) → Qc (-4 : Int32) u) ∧ (¬ (p_there u) = (0 : Int32) → Qc (p_rsize u) u))) ∧ (¬ x1 = (0 : Int32) → ¬ x1 = (1 : Int32) → ¬ x1 = (2 : Int32) → ¬ x1 = (3 : Int32) → Qc (-1 : Int32) u))
section PW
variable {p : Program} {l : Launch} {e : Env} {s : State} {m : MethodId} {args : Array Value} {below : List Frame} {meth : Method} {c : Code} {x : GX} {g : GE} {ex : va_W} {a : Nat → Nat} {A : Nat → Prop} {o : Nat}
set_option maxHeartbeats 4000000 in
set_option maxRecDepth 20000 in
theorem c_B_count {x : GX} {g : GE} {o : Nat} {ex : va_W} {a : Nat → Nat} (l : Launch) (x1 : Int32) (u : PS) (sz : Nat) (Qc : Int32 → PS → Prop) (h : P_B_count x1 u Qc) : Met l y_B_count (wM y_B_count b_B_count 2 (some .int)) (rmN 2 0 0) (PreE x g (pcl x g o) ex [.ref o, .int x1] a u sz) (QfI x (pcl x g o) ex a (va_A ((pcl x g o) a u ++ ex) sz) Qc) 0 0 (va_A ((pcl x g o) a u ++ ex) sz) := by
  refine w_enterE (by decide +kernel) (Nat.le_of_ble_eq_true rfl) (fun p e s m args below meth c S hr hlk hnm hK hE hA hw ls hl => ?_)
  have hl : lv_has ls 2 [(0, .ref o), (1, .int x1)] := hl
  refine lv_iload_n S.1 S.2.1 d_B_count_0 rfl (lv_at hl 1 rfl) ?_
  by_cases q_1_0 : x1 = (0 : Int32)
  · have h := h.1 q_1_0
    refine lv_tableIn (tgt := 32) (off := 31) S.1 S.2.1 d_B_count_1 (by rw [q_1_0]; decide) (by rw [q_1_0]; decide) (by rw [q_1_0]; rfl) (by decide) ?_
    refine lv_aload_n S.1 S.2.1 d_B_count_32 rfl (lv_at hl 0 rfl) ?_
    refine pg_writing S hK hw d_B_count_33 ?_
    have hw2 := pb_wr_out hw
    refine w_ciF hA hw2 (w_rvE (rest := []) S hK hE hA hw2 (c_SB_length l  (p_wr u) _ _ h) (ci := 3) (q0 := 0) rfl rfl (w_cb (fr := 0) (lv := 0) S.2.2.2.2 k_278 k_275 k_3 yd_SB_length rfl rfl ⟨Nat.le_of_ble_eq_true rfl, Nat.le_of_ble_eq_true rfl⟩) k_276 k_277 rfl hl.1 rfl (Nat.le_of_ble_eq_true rfl) d_B_count_36 ⟨(Nat.zero_le _), (Nat.zero_le _)⟩) (fun r_36 z_36 H locs h hw => ?_)
    have hw : wd x _ _ ((pcl x g o) a (ps_wr u z_36) ++ ex) H locs := pb_wr_inF hw
    exact w_iretF S hr hlk hw h d_B_count_39
  by_cases q_1_1 : x1 = (1 : Int32)
  · have h := h.2.1 q_1_1
    refine lv_tableIn (tgt := 40) (off := 39) S.1 S.2.1 d_B_count_1 (by rw [q_1_1]; decide) (by rw [q_1_1]; decide) (by rw [q_1_1]; rfl) (by decide) ?_
    refine lv_aload_n S.1 S.2.1 d_B_count_40 rfl (lv_at hl 0 rfl) ?_
    refine pg_subject S hK hw d_B_count_41 ?_
    have hw2 := pb_su_out hw
    refine w_ciF hA hw2 (w_rvE (rest := []) S hK hE hA hw2 (c_SB_length l  (p_su u) _ _ h) (ci := 3) (q0 := 0) rfl rfl (w_cb (fr := 0) (lv := 0) S.2.2.2.2 k_278 k_275 k_3 yd_SB_length rfl rfl ⟨Nat.le_of_ble_eq_true rfl, Nat.le_of_ble_eq_true rfl⟩) k_276 k_277 rfl hl.1 rfl (Nat.le_of_ble_eq_true rfl) d_B_count_44 ⟨(Nat.zero_le _), (Nat.zero_le _)⟩) (fun r_44 z_44 H locs h hw => ?_)
    have hw : wd x _ _ ((pcl x g o) a (ps_su u z_44) ++ ex) H locs := pb_su_inF hw
    exact w_iretF S hr hlk hw h d_B_count_47
  by_cases q_1_2 : x1 = (2 : Int32)
  · have h := h.2.2.1 q_1_2
    refine lv_tableIn (tgt := 48) (off := 47) S.1 S.2.1 d_B_count_1 (by rw [q_1_2]; decide) (by rw [q_1_2]; decide) (by rw [q_1_2]; rfl) (by decide) ?_
    refine lv_aload_n S.1 S.2.1 d_B_count_48 rfl (lv_at hl 0 rfl) ?_
    refine pg_there S hK hw d_B_count_49 ?_
    refine lv_if_ne (tgt := 60) S.1 S.2.1 d_B_count_52 (by decide) (fun q_52 => ?_) (fun q_52 => ?_)
    · have h := h.2 q_52
      refine lv_aload_n S.1 S.2.1 d_B_count_60 rfl (lv_at hl 0 rfl) ?_
      refine pg_readyGroups S hK hw d_B_count_61 ?_
      exact w_iretF S hr hlk hw h d_B_count_64
    · have h := h.1 q_52
      refine lv_bipush (v := -4) S.1 S.2.1 d_B_count_55 (by decide) ?_
      refine lv_goto (tgt := 64) S.1 S.2.1 d_B_count_57 (by decide) ?_
      exact w_iretF S hr hlk hw h d_B_count_64
  by_cases q_1_3 : x1 = (3 : Int32)
  · have h := h.2.2.2.1 q_1_3
    refine lv_tableIn (tgt := 65) (off := 64) S.1 S.2.1 d_B_count_1 (by rw [q_1_3]; decide) (by rw [q_1_3]; decide) (by rw [q_1_3]; rfl) (by decide) ?_
    refine lv_aload_n S.1 S.2.1 d_B_count_65 rfl (lv_at hl 0 rfl) ?_
    refine pg_there S hK hw d_B_count_66 ?_
    refine lv_if_ne (tgt := 77) S.1 S.2.1 d_B_count_69 (by decide) (fun q_69 => ?_) (fun q_69 => ?_)
    · have h := h.2 q_69
      refine lv_aload_n S.1 S.2.1 d_B_count_77 rfl (lv_at hl 0 rfl) ?_
      refine pg_readySize S hK hw d_B_count_78 ?_
      exact w_iretF S hr hlk hw h d_B_count_81
    · have h := h.1 q_69
      refine lv_bipush (v := -4) S.1 S.2.1 d_B_count_72 (by decide) ?_
      refine lv_goto (tgt := 81) S.1 S.2.1 d_B_count_74 (by decide) ?_
      exact w_iretF S hr hlk hw h d_B_count_81
  have h := h.2.2.2.2 q_1_0 q_1_1 q_1_2 q_1_3
  have z_0 : x1.toInt ≠ 0 := fun e9 => q_1_0 (Int32.toInt_inj.mp (by rw [e9]; rfl))
  have z_1 : x1.toInt ≠ 1 := fun e9 => q_1_1 (Int32.toInt_inj.mp (by rw [e9]; rfl))
  have z_2 : x1.toInt ≠ 2 := fun e9 => q_1_2 (Int32.toInt_inj.mp (by rw [e9]; rfl))
  have z_3 : x1.toInt ≠ 3 := fun e9 => q_1_3 (Int32.toInt_inj.mp (by rw [e9]; rfl))
  refine lv_tableOut (tgt := 82) S.1 S.2.1 d_B_count_1 (by omega) (by decide) ?_
  refine lv_iconst (v := -1) S.1 S.2.1 d_B_count_82 (by decide) ?_
  exact w_iretF S hr hlk hw h d_B_count_83
end PW
abbrev b_B_feed : ByteArray := prog_1_method_18_code
def y_B_feed : MethodName := ⟨"PatternBench", "feed", "(I)I"⟩
theorem yd_B_feed : y_B_feed.cls ≠ "java/lang/invoke/MethodHandle" ∧ y_B_feed.cls ≠ "java/lang/invoke/VarHandle" ∧ (parseMethodDescriptor y_B_feed.desc).map (fun d => d.parameters.length) = some 1 := by decide +kernel
theorem d_B_feed_0 : decode b_B_feed 0 = .ok (.iload_n 1, 1) := by decide +kernel
theorem d_B_feed_1 : decode b_B_feed 1 = .ok (.bipush 97, 2) := by decide +kernel
theorem d_B_feed_3 : decode b_B_feed 3 = .ok (.if_icmp .lt 9, 3) := by decide +kernel
theorem d_B_feed_6 : decode b_B_feed 6 = .ok (.iload_n 1, 1) := by decide +kernel
theorem d_B_feed_7 : decode b_B_feed 7 = .ok (.bipush 122, 2) := by decide +kernel
theorem d_B_feed_9 : decode b_B_feed 9 = .ok (.if_icmp .le 5, 3) := by decide +kernel
theorem d_B_feed_12 : decode b_B_feed 12 = .ok (.iconst (-1), 1) := by decide +kernel
theorem d_B_feed_13 : decode b_B_feed 13 = .ok (.ireturn, 1) := by decide +kernel
theorem d_B_feed_14 : decode b_B_feed 14 = .ok (.aload_n 0, 1) := by decide +kernel
theorem d_B_feed_15 : decode b_B_feed 15 = .ok (.getfield 16, 3) := by decide +kernel
theorem d_B_feed_18 : decode b_B_feed 18 = .ok (.invokevirtual 61, 3) := by decide +kernel
theorem d_B_feed_21 : decode b_B_feed 21 = .ok (.bipush 40, 2) := by decide +kernel
theorem d_B_feed_23 : decode b_B_feed 23 = .ok (.if_icmp .ne 6, 3) := by decide +kernel
theorem d_B_feed_26 : decode b_B_feed 26 = .ok (.bipush (-2), 2) := by decide +kernel
theorem d_B_feed_28 : decode b_B_feed 28 = .ok (.ireturn, 1) := by decide +kernel
theorem d_B_feed_29 : decode b_B_feed 29 = .ok (.aload_n 0, 1) := by decide +kernel
theorem d_B_feed_30 : decode b_B_feed 30 = .ok (.getfield 16, 3) := by decide +kernel
theorem d_B_feed_33 : decode b_B_feed 33 = .ok (.iload_n 1, 1) := by decide +kernel
theorem d_B_feed_34 : decode b_B_feed 34 = .ok (.i2c, 1) := by decide +kernel
theorem d_B_feed_35 : decode b_B_feed 35 = .ok (.invokevirtual 189, 3) := by decide +kernel
theorem d_B_feed_38 : decode b_B_feed 38 = .ok (.pop, 1) := by decide +kernel
theorem d_B_feed_39 : decode b_B_feed 39 = .ok (.aload_n 0, 1) := by decide +kernel
theorem d_B_feed_40 : decode b_B_feed 40 = .ok (.iconst 0, 1) := by decide +kernel
theorem d_B_feed_41 : decode b_B_feed 41 = .ok (.putfield 222, 3) := by decide +kernel
theorem d_B_feed_44 : decode b_B_feed 44 = .ok (.aload_n 0, 1) := by decide +kernel
theorem d_B_feed_45 : decode b_B_feed 45 = .ok (.getfield 16, 3) := by decide +kernel
theorem d_B_feed_48 : decode b_B_feed 48 = .ok (.invokevirtual 61, 3) := by decide +kernel
theorem d_B_feed_51 : decode b_B_feed 51 = .ok (.ireturn, 1) := by decide +kernel
def P_B_feed (bc bs : Nat) (x1 : Int32) (u : PS) (Qc : Int32 → PS → Prop) : Prop := ((x1 < (97 : Int32) → Qc (-1 : Int32) u) ∧ (¬ x1 < (97 : Int32) → ((x1 ≤ (122 : Int32) → P_SB_length  (p_su u) (fun r_18 z_18 => ((r_18 = (40 : Int32) → Qc (-2 : Int32) (ps_su u z_18)) ∧ (¬ r_18 = (40 : Int32) → (∃ kc_35 nc_35 : Nat, 0 + kc_35 ≤ bc ∧ 0 + nc_35 ≤ bs ∧ P_SB_append kc_35 nc_35 ((x1.toUInt32 % 65536).toInt32) (p_su (ps_su u z_18)) (fun z_35 => P_SB_length  (p_su (ps_matched (ps_su (ps_su u z_18) z_35) (0 : Int32))) (fun r_48 z_48 => Qc r_48 (ps_su (ps_matched (ps_su (ps_su u z_18) z_35) (0 : Int32)) z_48)))))))) ∧ (¬ x1 ≤ (122 : Int32) → Qc (-1 : Int32) u))))
section PW
variable {p : Program} {l : Launch} {e : Env} {s : State} {m : MethodId} {args : Array Value} {below : List Frame} {meth : Method} {c : Code} {x : GX} {g : GE} {ex : va_W} {a : Nat → Nat} {A : Nat → Prop} {o : Nat}
set_option maxHeartbeats 4000000 in
set_option maxRecDepth 20000 in
theorem c_B_feed {x : GX} {g : GE} {o : Nat} {ex : va_W} {a : Nat → Nat} (l : Launch) (bc bs : Nat) (x1 : Int32) (u : PS) (sz : Nat) (Qc : Int32 → PS → Prop) (h : P_B_feed bc bs x1 u Qc) : Met l y_B_feed (wM y_B_feed b_B_feed 2 (some .int)) (rmN 8 bc bs) (PreE x g (pcl x g o) ex [.ref o, .int x1] a u sz) (QeI x (pcl x g o) ex (va_A ((pcl x g o) a u ++ ex) sz) Qc) bc bs (va_A ((pcl x g o) a u ++ ex) sz) := by
  refine w_enterE (by decide +kernel) (Nat.le_of_ble_eq_true rfl) (fun p e s m args below meth c S hr hlk hnm hK hE hA hw ls hl => ?_)
  have hl : lv_has ls 2 [(0, .ref o), (1, .int x1)] := hl
  refine lv_iload_n S.1 S.2.1 d_B_feed_0 rfl (lv_at hl 1 rfl) ?_
  refine lv_bipush (v := 97) S.1 S.2.1 d_B_feed_1 (by decide) ?_
  refine lv_icmp_lt (tgt := 12) S.1 S.2.1 d_B_feed_3 (by decide) (fun q_3 => ?_) (fun q_3 => ?_)
  · have h := h.1 q_3
    refine lv_iconst (v := -1) S.1 S.2.1 d_B_feed_12 (by decide) ?_
    refine W.widen (k := bc) (n := bs) (Nat.zero_le _) (Nat.zero_le _) ?_
    exact w_iretE S hr hlk hw h d_B_feed_13
  · have h := h.2 q_3
    refine lv_iload_n S.1 S.2.1 d_B_feed_6 rfl (lv_at hl 1 rfl) ?_
    refine lv_bipush (v := 122) S.1 S.2.1 d_B_feed_7 (by decide) ?_
    refine lv_icmp_le (tgt := 14) S.1 S.2.1 d_B_feed_9 (by decide) (fun q_9 => ?_) (fun q_9 => ?_)
    · have h := h.1 q_9
      refine lv_aload_n S.1 S.2.1 d_B_feed_14 rfl (lv_at hl 0 rfl) ?_
      refine pg_subject S hK hw d_B_feed_15 ?_
      have hw2 := pb_su_out hw
      refine w_ciF hA hw2 (w_rvE (rest := []) S hK hE hA hw2 (c_SB_length l  (p_su u) _ _ h) (ci := 3) (q0 := 0) rfl rfl (w_cb (fr := 0) (lv := 0) S.2.2.2.2 k_278 k_275 k_3 yd_SB_length rfl rfl ⟨Nat.le_of_ble_eq_true rfl, Nat.le_of_ble_eq_true rfl⟩) k_276 k_277 rfl hl.1 rfl (Nat.le_of_ble_eq_true rfl) d_B_feed_18 ⟨(Nat.zero_le _), (Nat.zero_le _)⟩) (fun r_18 z_18 H locs h hw => ?_)
      have hw : wd x _ _ ((pcl x g o) a (ps_su u z_18) ++ ex) H locs := pb_su_inF hw
      refine lv_bipush (v := 40) S.1 S.2.1 d_B_feed_21 (by decide) ?_
      refine lv_icmp_ne (tgt := 29) S.1 S.2.1 d_B_feed_23 (by decide) (fun q_23 => ?_) (fun q_23 => ?_)
      · have h := h.2 q_23
        refine lv_aload_n S.1 S.2.1 d_B_feed_29 rfl (lv_at hl 0 rfl) ?_
        refine pg_subject S hK hw d_B_feed_30 ?_
        refine lv_iload_n S.1 S.2.1 d_B_feed_33 rfl (lv_at hl 1 rfl) ?_
        refine lv_i2c S.1 S.2.1 d_B_feed_34 rfl ?_
        obtain ⟨kc_35, nc_35, hk_35, hn_35, h⟩ := h
        have hw2 := pb_su_out hw
        refine w_ctE hA hw2 (w_rvE (rest := []) S hK hE hA hw2 (c_SB_append l kc_35 nc_35 ((x1.toUInt32 % 65536).toInt32) (p_su (ps_su u z_18)) _ _ h) (ci := 3) (q0 := 0) rfl rfl (w_cb (fr := 0) (lv := 0) S.2.2.2.2 k_285 k_282 k_3 yd_SB_append rfl rfl ⟨Nat.le_of_ble_eq_true rfl, Nat.le_of_ble_eq_true rfl⟩) k_283 k_284 rfl hl.1 rfl (Nat.le_of_ble_eq_true rfl) d_B_feed_35 ⟨hk_35, hn_35⟩) (fun z_35 a_35 H locs h hw => ?_)
        obtain ⟨a_35p, hw⟩ : ∃ a9, wd x _ _ ((pcl x g o) a9 (ps_su (ps_su u z_18) z_35) ++ ex) H locs := ⟨_, pb_su_in hw⟩
        refine lv_pop S.1 S.2.1 d_B_feed_38 rfl ?_
        refine lv_aload_n S.1 S.2.1 d_B_feed_39 rfl (lv_at hl 0 rfl) ?_
        refine lv_iconst (v := 0) S.1 S.2.1 d_B_feed_40 (by decide) ?_
        refine pp_matched S hK hw isB0 d_B_feed_41 (fun H locs hw => ?_)
        refine lv_aload_n S.1 S.2.1 d_B_feed_44 rfl (lv_at hl 0 rfl) ?_
        refine pg_subject S hK hw d_B_feed_45 ?_
        have hw2 := pb_su_out hw
        refine w_ciF hA hw2 (w_rvE (rest := []) S hK hE hA hw2 (c_SB_length l  (p_su (ps_matched (ps_su (ps_su u z_18) z_35) (0 : Int32))) _ _ h) (ci := 3) (q0 := 0) rfl rfl (w_cb (fr := 0) (lv := 0) S.2.2.2.2 k_278 k_275 k_3 yd_SB_length rfl rfl ⟨Nat.le_of_ble_eq_true rfl, Nat.le_of_ble_eq_true rfl⟩) k_276 k_277 rfl hl.1 rfl (Nat.le_of_ble_eq_true rfl) d_B_feed_48 ⟨hk_35, hn_35⟩) (fun r_48 z_48 H locs h hw => ?_)
        have hw : wd x _ _ ((pcl x g o) a_35p (ps_su (ps_matched (ps_su (ps_su u z_18) z_35) (0 : Int32)) z_48) ++ ex) H locs := pb_su_inF hw
        refine W.widen (k := bc) (n := bs) hk_35 hn_35 ?_
        exact w_iretE S hr hlk hw h d_B_feed_51
      · have h := h.1 q_23
        refine lv_bipush (v := -2) S.1 S.2.1 d_B_feed_26 (by decide) ?_
        refine W.widen (k := bc) (n := bs) (Nat.zero_le _) (Nat.zero_le _) ?_
        exact w_iretE S hr hlk hw h d_B_feed_28
    · have h := h.2 q_9
      refine lv_iconst (v := -1) S.1 S.2.1 d_B_feed_12 (by decide) ?_
      refine W.widen (k := bc) (n := bs) (Nat.zero_le _) (Nat.zero_le _) ?_
      exact w_iretE S hr hlk hw h d_B_feed_13
end PW
abbrev b_B_clear : ByteArray := prog_1_method_19_code
def y_B_clear : MethodName := ⟨"PatternBench", "clear", "()I"⟩
theorem yd_B_clear : y_B_clear.cls ≠ "java/lang/invoke/MethodHandle" ∧ y_B_clear.cls ≠ "java/lang/invoke/VarHandle" ∧ (parseMethodDescriptor y_B_clear.desc).map (fun d => d.parameters.length) = some 0 := by decide +kernel
theorem d_B_clear_0 : decode b_B_clear 0 = .ok (.aload_n 0, 1) := by decide +kernel
theorem d_B_clear_1 : decode b_B_clear 1 = .ok (.getfield 16, 3) := by decide +kernel
theorem d_B_clear_4 : decode b_B_clear 4 = .ok (.invokevirtual 61, 3) := by decide +kernel
theorem d_B_clear_7 : decode b_B_clear 7 = .ok (.istore_n 1, 1) := by decide +kernel
theorem d_B_clear_8 : decode b_B_clear 8 = .ok (.aload_n 0, 1) := by decide +kernel
theorem d_B_clear_9 : decode b_B_clear 9 = .ok (.getfield 16, 3) := by decide +kernel
theorem d_B_clear_12 : decode b_B_clear 12 = .ok (.iconst 0, 1) := by decide +kernel
theorem d_B_clear_13 : decode b_B_clear 13 = .ok (.invokevirtual 193, 3) := by decide +kernel
theorem d_B_clear_16 : decode b_B_clear 16 = .ok (.aload_n 0, 1) := by decide +kernel
theorem d_B_clear_17 : decode b_B_clear 17 = .ok (.iconst 0, 1) := by decide +kernel
theorem d_B_clear_18 : decode b_B_clear 18 = .ok (.putfield 222, 3) := by decide +kernel
theorem d_B_clear_21 : decode b_B_clear 21 = .ok (.iload_n 1, 1) := by decide +kernel
theorem d_B_clear_22 : decode b_B_clear 22 = .ok (.ireturn, 1) := by decide +kernel
def P_B_clear (bc bs : Nat)  (u : PS) (Qc : Int32 → PS → Prop) : Prop := P_SB_length  (p_su u) (fun r_4 z_4 => (∃ kc_13 nc_13 : Nat, 0 + kc_13 ≤ bc ∧ 0 + nc_13 ≤ bs ∧ P_SB_setLen kc_13 nc_13 (0 : Int32) (p_su (ps_su u z_4)) (fun z_13 => Qc r_4 (ps_matched (ps_su (ps_su u z_4) z_13) (0 : Int32)))))
section PW
variable {p : Program} {l : Launch} {e : Env} {s : State} {m : MethodId} {args : Array Value} {below : List Frame} {meth : Method} {c : Code} {x : GX} {g : GE} {ex : va_W} {a : Nat → Nat} {A : Nat → Prop} {o : Nat}
set_option maxHeartbeats 4000000 in
set_option maxRecDepth 20000 in
theorem c_B_clear {x : GX} {g : GE} {o : Nat} {ex : va_W} {a : Nat → Nat} (l : Launch) (bc bs : Nat)  (u : PS) (sz : Nat) (Qc : Int32 → PS → Prop) (h : P_B_clear bc bs  u Qc) : Met l y_B_clear (wM y_B_clear b_B_clear 2 (some .int)) (rmN 8 bc bs) (PreE x g (pcl x g o) ex [.ref o] a u sz) (QeI x (pcl x g o) ex (va_A ((pcl x g o) a u ++ ex) sz) Qc) bc bs (va_A ((pcl x g o) a u ++ ex) sz) := by
  refine w_enterE (by decide +kernel) (Nat.le_of_ble_eq_true rfl) (fun p e s m args below meth c S hr hlk hnm hK hE hA hw ls hl => ?_)
  have hl : lv_has ls 2 [(0, .ref o)] := hl
  refine lv_aload_n S.1 S.2.1 d_B_clear_0 rfl (lv_at hl 0 rfl) ?_
  refine pg_subject S hK hw d_B_clear_1 ?_
  have hw2 := pb_su_out hw
  refine w_ciF hA hw2 (w_rvE (rest := []) S hK hE hA hw2 (c_SB_length l  (p_su u) _ _ h) (ci := 3) (q0 := 0) rfl rfl (w_cb (fr := 0) (lv := 0) S.2.2.2.2 k_278 k_275 k_3 yd_SB_length rfl rfl ⟨Nat.le_of_ble_eq_true rfl, Nat.le_of_ble_eq_true rfl⟩) k_276 k_277 rfl hl.1 rfl (Nat.le_of_ble_eq_true rfl) d_B_clear_4 ⟨(Nat.zero_le _), (Nat.zero_le _)⟩) (fun r_4 z_4 H locs h hw => ?_)
  have hw : wd x _ _ ((pcl x g o) a (ps_su u z_4) ++ ex) H locs := pb_su_inF hw
  refine lv_istore_n (lv' := [(1, .int r_4), (0, .ref o)]) S.1 S.2.1 d_B_clear_7 rfl hl (by decide) rfl (fun ls hl => ?_)
  refine lv_aload_n S.1 S.2.1 d_B_clear_8 rfl (lv_at hl 1 rfl) ?_
  refine pg_subject S hK hw d_B_clear_9 ?_
  refine lv_iconst (v := 0) S.1 S.2.1 d_B_clear_12 (by decide) ?_
  obtain ⟨kc_13, nc_13, hk_13, hn_13, h⟩ := h
  have hw2 := pb_su_out hw
  refine w_cvE hA hw2 (w_rvE (rest := []) S hK hE hA hw2 (c_SB_setLen l kc_13 nc_13 (0 : Int32) (p_su (ps_su u z_4)) _ _ h) (ci := 3) (q0 := 0) rfl rfl (w_cb (fr := 0) (lv := 0) S.2.2.2.2 k_593 k_590 k_3 yd_SB_setLen rfl rfl ⟨Nat.le_of_ble_eq_true rfl, Nat.le_of_ble_eq_true rfl⟩) k_591 k_592 rfl hl.1 rfl (Nat.le_of_ble_eq_true rfl) d_B_clear_13 ⟨hk_13, hn_13⟩) (fun z_13 a_13 H locs h hw => ?_)
  obtain ⟨a_13p, hw⟩ : ∃ a9, wd x _ _ ((pcl x g o) a9 (ps_su (ps_su u z_4) z_13) ++ ex) H locs := ⟨_, pb_su_in hw⟩
  refine lv_aload_n S.1 S.2.1 d_B_clear_16 rfl (lv_at hl 1 rfl) ?_
  refine lv_iconst (v := 0) S.1 S.2.1 d_B_clear_17 (by decide) ?_
  refine pp_matched S hK hw isB0 d_B_clear_18 (fun H locs hw => ?_)
  refine lv_iload_n S.1 S.2.1 d_B_clear_21 rfl (lv_at hl 0 rfl) ?_
  refine W.widen (k := bc) (n := bs) hk_13 hn_13 ?_
  exact w_iretE S hr hlk hw h d_B_clear_22
end PW
abbrev b_B_here : ByteArray := prog_1_method_3_code
def y_B_here : MethodName := ⟨"PatternBench", "here", "()C"⟩
theorem yd_B_here : y_B_here.cls ≠ "java/lang/invoke/MethodHandle" ∧ y_B_here.cls ≠ "java/lang/invoke/VarHandle" ∧ (parseMethodDescriptor y_B_here.desc).map (fun d => d.parameters.length) = some 0 := by decide +kernel
theorem d_B_here_0 : decode b_B_here 0 = .ok (.aload_n 0, 1) := by decide +kernel
theorem d_B_here_1 : decode b_B_here 1 = .ok (.getfield 58, 3) := by decide +kernel
theorem d_B_here_4 : decode b_B_here 4 = .ok (.aload_n 0, 1) := by decide +kernel
theorem d_B_here_5 : decode b_B_here 5 = .ok (.getfield 10, 3) := by decide +kernel
theorem d_B_here_8 : decode b_B_here 8 = .ok (.invokevirtual 61, 3) := by decide +kernel
theorem d_B_here_11 : decode b_B_here 11 = .ok (.if_icmp .ge 17, 3) := by decide +kernel
theorem d_B_here_14 : decode b_B_here 14 = .ok (.aload_n 0, 1) := by decide +kernel
theorem d_B_here_15 : decode b_B_here 15 = .ok (.getfield 10, 3) := by decide +kernel
theorem d_B_here_18 : decode b_B_here 18 = .ok (.aload_n 0, 1) := by decide +kernel
theorem d_B_here_19 : decode b_B_here 19 = .ok (.getfield 58, 3) := by decide +kernel
theorem d_B_here_22 : decode b_B_here 22 = .ok (.invokevirtual 65, 3) := by decide +kernel
theorem d_B_here_25 : decode b_B_here 25 = .ok (.goto 4, 3) := by decide +kernel
theorem d_B_here_28 : decode b_B_here 28 = .ok (.iconst 0, 1) := by decide +kernel
theorem d_B_here_29 : decode b_B_here 29 = .ok (.ireturn, 1) := by decide +kernel
def P_B_here  (u : PS) (Qc : Int32 → PS → Prop) : Prop := P_SB_length  (p_wr u) (fun r_8 z_8 => ((r_8 ≤ (p_at u) → (narrow .char (.int (0 : Int32)) = .int (0 : Int32) ∧ Qc (0 : Int32) (ps_wr u z_8))) ∧ (¬ r_8 ≤ (p_at u) → P_SB_charAt (p_at (ps_wr u z_8)) (p_wr (ps_wr u z_8)) (fun r_22 z_22 => (narrow .char (.int r_22) = .int r_22 ∧ Qc r_22 (ps_wr (ps_wr u z_8) z_22))))))
section PW
variable {p : Program} {l : Launch} {e : Env} {s : State} {m : MethodId} {args : Array Value} {below : List Frame} {meth : Method} {c : Code} {x : GX} {g : GE} {ex : va_W} {a : Nat → Nat} {A : Nat → Prop} {o : Nat}
set_option maxHeartbeats 4000000 in
set_option maxRecDepth 20000 in
theorem c_B_here {x : GX} {g : GE} {o : Nat} {ex : va_W} {a : Nat → Nat} (l : Launch)  (u : PS) (sz : Nat) (Qc : Int32 → PS → Prop) (h : P_B_here  u Qc) : Met l y_B_here (wM y_B_here b_B_here 1 (some .char)) (rmN 6 0 0) (PreE x g (pcl x g o) ex [.ref o] a u sz) (QfI x (pcl x g o) ex a (va_A ((pcl x g o) a u ++ ex) sz) Qc) 0 0 (va_A ((pcl x g o) a u ++ ex) sz) := by
  refine w_enterE (by decide +kernel) (Nat.le_of_ble_eq_true rfl) (fun p e s m args below meth c S hr hlk hnm hK hE hA hw ls hl => ?_)
  have hl : lv_has ls 1 [(0, .ref o)] := hl
  refine lv_aload_n S.1 S.2.1 d_B_here_0 rfl (lv_at hl 0 rfl) ?_
  refine pg_at S hK hw d_B_here_1 ?_
  refine lv_aload_n S.1 S.2.1 d_B_here_4 rfl (lv_at hl 0 rfl) ?_
  refine pg_writing S hK hw d_B_here_5 ?_
  have hw2 := pb_wr_out hw
  refine w_ciF hA hw2 (w_rvE (rest := [.int (p_at u)]) S hK hE hA hw2 (c_SB_length l  (p_wr u) _ _ h) (ci := 3) (q0 := 0) rfl rfl (w_cb (fr := 0) (lv := 0) S.2.2.2.2 k_278 k_275 k_3 yd_SB_length rfl rfl ⟨Nat.le_of_ble_eq_true rfl, Nat.le_of_ble_eq_true rfl⟩) k_276 k_277 rfl hl.1 rfl (Nat.le_of_ble_eq_true rfl) d_B_here_8 ⟨(Nat.zero_le _), (Nat.zero_le _)⟩) (fun r_8 z_8 H locs h hw => ?_)
  have hw : wd x _ _ ((pcl x g o) a (ps_wr u z_8) ++ ex) H locs := pb_wr_inF hw
  refine lv_icmp_ge (tgt := 28) S.1 S.2.1 d_B_here_11 (by decide) (fun q_11 => ?_) (fun q_11 => ?_)
  · have h := h.1 q_11
    refine lv_iconst (v := 0) S.1 S.2.1 d_B_here_28 (by decide) ?_
    exact w_cretF S hr hlk h.1 hw h.2 d_B_here_29
  · have h := h.2 q_11
    refine lv_aload_n S.1 S.2.1 d_B_here_14 rfl (lv_at hl 0 rfl) ?_
    refine pg_writing S hK hw d_B_here_15 ?_
    refine lv_aload_n S.1 S.2.1 d_B_here_18 rfl (lv_at hl 0 rfl) ?_
    refine pg_at S hK hw d_B_here_19 ?_
    have hw2 := pb_wr_out hw
    refine w_ciF hA hw2 (w_rvE (rest := []) S hK hE hA hw2 (c_SB_charAt l (p_at (ps_wr u z_8)) (p_wr (ps_wr u z_8)) _ _ h) (ci := 3) (q0 := 0) rfl rfl (w_cb (fr := 0) (lv := 0) S.2.2.2.2 k_407 k_404 k_3 yd_SB_charAt rfl rfl ⟨Nat.le_of_ble_eq_true rfl, Nat.le_of_ble_eq_true rfl⟩) k_405 k_406 rfl hl.1 rfl (Nat.le_of_ble_eq_true rfl) d_B_here_22 ⟨(Nat.zero_le _), (Nat.zero_le _)⟩) (fun r_22 z_22 H locs h hw => ?_)
    have hw : wd x _ _ ((pcl x g o) a (ps_wr (ps_wr u z_8) z_22) ++ ex) H locs := pb_wr_inF hw
    refine lv_goto (tgt := 29) S.1 S.2.1 d_B_here_25 (by decide) ?_
    exact w_cretF S hr hlk h.1 hw h.2 d_B_here_29
end PW
abbrev b_B_skip : ByteArray := prog_1_method_5_code
def y_B_skip : MethodName := ⟨"PatternBench", "skip", "(C)Z"⟩
theorem yd_B_skip : y_B_skip.cls ≠ "java/lang/invoke/MethodHandle" ∧ y_B_skip.cls ≠ "java/lang/invoke/VarHandle" ∧ (parseMethodDescriptor y_B_skip.desc).map (fun d => d.parameters.length) = some 1 := by decide +kernel
theorem d_B_skip_0 : decode b_B_skip 0 = .ok (.aload_n 0, 1) := by decide +kernel
theorem d_B_skip_1 : decode b_B_skip 1 = .ok (.invokevirtual 69, 3) := by decide +kernel
theorem d_B_skip_4 : decode b_B_skip 4 = .ok (.iload_n 1, 1) := by decide +kernel
theorem d_B_skip_5 : decode b_B_skip 5 = .ok (.if_icmp .eq 5, 3) := by decide +kernel
theorem d_B_skip_8 : decode b_B_skip 8 = .ok (.iconst 0, 1) := by decide +kernel
theorem d_B_skip_9 : decode b_B_skip 9 = .ok (.ireturn, 1) := by decide +kernel
theorem d_B_skip_10 : decode b_B_skip 10 = .ok (.aload_n 0, 1) := by decide +kernel
theorem d_B_skip_11 : decode b_B_skip 11 = .ok (.dup, 1) := by decide +kernel
theorem d_B_skip_12 : decode b_B_skip 12 = .ok (.getfield 58, 3) := by decide +kernel
theorem d_B_skip_15 : decode b_B_skip 15 = .ok (.iconst 1, 1) := by decide +kernel
theorem d_B_skip_16 : decode b_B_skip 16 = .ok (.iadd, 1) := by decide +kernel
theorem d_B_skip_17 : decode b_B_skip 17 = .ok (.putfield 58, 3) := by decide +kernel
theorem d_B_skip_20 : decode b_B_skip 20 = .ok (.iconst 1, 1) := by decide +kernel
theorem d_B_skip_21 : decode b_B_skip 21 = .ok (.ireturn, 1) := by decide +kernel
def P_B_skip (x1 : Int32) (u : PS) (Qc : Int32 → PS → Prop) : Prop := P_B_here  u (fun r_1 u_1 => ((r_1 = x1 → Qc (1 : Int32) (ps_at u_1 ((p_at u_1) + (1 : Int32)))) ∧ (¬ r_1 = x1 → Qc (0 : Int32) u_1)))
section PW
variable {p : Program} {l : Launch} {e : Env} {s : State} {m : MethodId} {args : Array Value} {below : List Frame} {meth : Method} {c : Code} {x : GX} {g : GE} {ex : va_W} {a : Nat → Nat} {A : Nat → Prop} {o : Nat}
set_option maxHeartbeats 4000000 in
set_option maxRecDepth 20000 in
theorem c_B_skip {x : GX} {g : GE} {o : Nat} {ex : va_W} {a : Nat → Nat} (l : Launch) (x1 : Int32) (u : PS) (sz : Nat) (Qc : Int32 → PS → Prop) (h : P_B_skip x1 u Qc) : Met l y_B_skip (wM y_B_skip b_B_skip 2 (some .boolean)) (rmN 7 0 0) (PreE x g (pcl x g o) ex [.ref o, .int x1] a u sz) (QfI x (pcl x g o) ex a (va_A ((pcl x g o) a u ++ ex) sz) Qc) 0 0 (va_A ((pcl x g o) a u ++ ex) sz) := by
  refine w_enterE (by decide +kernel) (Nat.le_of_ble_eq_true rfl) (fun p e s m args below meth c S hr hlk hnm hK hE hA hw ls hl => ?_)
  have hl : lv_has ls 2 [(0, .ref o), (1, .int x1)] := hl
  refine lv_aload_n S.1 S.2.1 d_B_skip_0 rfl (lv_at hl 0 rfl) ?_
  refine w_ciF hA hw (w_rvE (rest := []) S hK hE hA hw (c_B_here l  u _ _ h) (ci := 1) (q0 := 0) rfl rfl (w_cb (fr := 0) (lv := 0) S.2.2.2.2 k_403 k_400 k_1 yd_B_here rfl rfl ⟨Nat.le_of_ble_eq_true rfl, Nat.le_of_ble_eq_true rfl⟩) k_402 s_2 rfl hl.1 rfl (Nat.le_of_ble_eq_true rfl) d_B_skip_1 ⟨(Nat.zero_le _), (Nat.zero_le _)⟩) (fun r_1 u_1 H locs h hw => ?_)
  refine lv_iload_n S.1 S.2.1 d_B_skip_4 rfl (lv_at hl 1 rfl) ?_
  refine lv_icmp_eq (tgt := 10) S.1 S.2.1 d_B_skip_5 (by decide) (fun q_5 => ?_) (fun q_5 => ?_)
  · have h := h.1 q_5
    refine lv_aload_n S.1 S.2.1 d_B_skip_10 rfl (lv_at hl 0 rfl) ?_
    refine lv_dup S.1 S.2.1 d_B_skip_11 rfl ?_
    refine pg_at S hK hw d_B_skip_12 ?_
    refine lv_iconst (v := 1) S.1 S.2.1 d_B_skip_15 (by decide) ?_
    refine lv_iadd S.1 S.2.1 d_B_skip_16 ?_
    refine pp_at S hK hw d_B_skip_17 (fun H locs hw => ?_)
    refine lv_iconst (v := 1) S.1 S.2.1 d_B_skip_20 (by decide) ?_
    exact w_zretF S hr hlk isB1 hw h d_B_skip_21
  · have h := h.2 q_5
    refine lv_iconst (v := 0) S.1 S.2.1 d_B_skip_8 (by decide) ?_
    exact w_zretF S hr hlk isB0 hw h d_B_skip_9
end PW
abbrev b_B_expect : ByteArray := prog_1_method_6_code
def y_B_expect : MethodName := ⟨"PatternBench", "expect", "(C)V"⟩
theorem yd_B_expect : y_B_expect.cls ≠ "java/lang/invoke/MethodHandle" ∧ y_B_expect.cls ≠ "java/lang/invoke/VarHandle" ∧ (parseMethodDescriptor y_B_expect.desc).map (fun d => d.parameters.length) = some 1 := by decide +kernel
theorem d_B_expect_0 : decode b_B_expect 0 = .ok (.aload_n 0, 1) := by decide +kernel
theorem d_B_expect_1 : decode b_B_expect 1 = .ok (.iload_n 1, 1) := by decide +kernel
theorem d_B_expect_2 : decode b_B_expect 2 = .ok (.invokevirtual 73, 3) := by decide +kernel
theorem d_B_expect_5 : decode b_B_expect 5 = .ok (.ifCond .ne 8, 3) := by decide +kernel
theorem d_B_expect_8 : decode b_B_expect 8 = .ok (.aload_n 0, 1) := by decide +kernel
theorem d_B_expect_9 : decode b_B_expect 9 = .ok (.iconst 1, 1) := by decide +kernel
theorem d_B_expect_10 : decode b_B_expect 10 = .ok (.putfield 77, 3) := by decide +kernel
theorem d_B_expect_13 : decode b_B_expect 13 = .ok (.return_, 1) := by decide +kernel
def P_B_expect (x1 : Int32) (u : PS) (Qc : PS → Prop) : Prop := P_B_skip x1 u (fun r_2 u_2 => ((r_2 = (0 : Int32) → Qc (ps_wrong u_2 (1 : Int32))) ∧ (¬ r_2 = (0 : Int32) → Qc u_2)))
section PW
variable {p : Program} {l : Launch} {e : Env} {s : State} {m : MethodId} {args : Array Value} {below : List Frame} {meth : Method} {c : Code} {x : GX} {g : GE} {ex : va_W} {a : Nat → Nat} {A : Nat → Prop} {o : Nat}
set_option maxHeartbeats 4000000 in
set_option maxRecDepth 20000 in
theorem c_B_expect {x : GX} {g : GE} {o : Nat} {ex : va_W} {a : Nat → Nat} (l : Launch) (x1 : Int32) (u : PS) (sz : Nat) (Qc : PS → Prop) (h : P_B_expect x1 u Qc) : Met l y_B_expect (wM y_B_expect b_B_expect 2 none) (rmN 8 0 0) (PreE x g (pcl x g o) ex [.ref o, .int x1] a u sz) (QfV x (pcl x g o) ex a (va_A ((pcl x g o) a u ++ ex) sz) Qc) 0 0 (va_A ((pcl x g o) a u ++ ex) sz) := by
  refine w_enterE (by decide +kernel) (Nat.le_of_ble_eq_true rfl) (fun p e s m args below meth c S hr hlk hnm hK hE hA hw ls hl => ?_)
  have hl : lv_has ls 2 [(0, .ref o), (1, .int x1)] := hl
  refine lv_aload_n S.1 S.2.1 d_B_expect_0 rfl (lv_at hl 0 rfl) ?_
  refine lv_iload_n S.1 S.2.1 d_B_expect_1 rfl (lv_at hl 1 rfl) ?_
  refine w_ciF hA hw (w_rvE (rest := []) S hK hE hA hw (c_B_skip l x1 u _ _ h) (ci := 1) (q0 := 0) rfl rfl (w_cb (fr := 0) (lv := 0) S.2.2.2.2 k_447 k_444 k_1 yd_B_skip rfl rfl ⟨Nat.le_of_ble_eq_true rfl, Nat.le_of_ble_eq_true rfl⟩) k_446 s_5 rfl hl.1 rfl (Nat.le_of_ble_eq_true rfl) d_B_expect_2 ⟨(Nat.zero_le _), (Nat.zero_le _)⟩) (fun r_2 u_2 H locs h hw => ?_)
  refine lv_if_ne (tgt := 13) S.1 S.2.1 d_B_expect_5 (by decide) (fun q_5 => ?_) (fun q_5 => ?_)
  · have h := h.2 q_5
    exact w_vretF S hr hlk hw h d_B_expect_13
  · have h := h.1 q_5
    refine lv_aload_n S.1 S.2.1 d_B_expect_8 rfl (lv_at hl 0 rfl) ?_
    refine lv_iconst (v := 1) S.1 S.2.1 d_B_expect_9 (by decide) ?_
    refine pp_wrong S hK hw isB1 d_B_expect_10 (fun H locs hw => ?_)
    exact w_vretF S hr hlk hw h d_B_expect_13
end PW
abbrev b_B_digit : ByteArray := prog_1_method_7_code
def y_B_digit : MethodName := ⟨"PatternBench", "digit", "(II)I"⟩
theorem yd_B_digit : y_B_digit.cls ≠ "java/lang/invoke/MethodHandle" ∧ y_B_digit.cls ≠ "java/lang/invoke/VarHandle" ∧ (parseMethodDescriptor y_B_digit.desc).map (fun d => d.parameters.length) = some 2 := by decide +kernel
theorem d_B_digit_0 : decode b_B_digit 0 = .ok (.aload_n 0, 1) := by decide +kernel
theorem d_B_digit_1 : decode b_B_digit 1 = .ok (.invokevirtual 69, 3) := by decide +kernel
theorem d_B_digit_4 : decode b_B_digit 4 = .ok (.bipush 48, 2) := by decide +kernel
theorem d_B_digit_6 : decode b_B_digit 6 = .ok (.isub, 1) := by decide +kernel
theorem d_B_digit_7 : decode b_B_digit 7 = .ok (.istore_n 3, 1) := by decide +kernel
theorem d_B_digit_8 : decode b_B_digit 8 = .ok (.iload_n 3, 1) := by decide +kernel
theorem d_B_digit_9 : decode b_B_digit 9 = .ok (.iload_n 1, 1) := by decide +kernel
theorem d_B_digit_10 : decode b_B_digit 10 = .ok (.if_icmp .lt 8, 3) := by decide +kernel
theorem d_B_digit_13 : decode b_B_digit 13 = .ok (.iload_n 3, 1) := by decide +kernel
theorem d_B_digit_14 : decode b_B_digit 14 = .ok (.iload_n 2, 1) := by decide +kernel
theorem d_B_digit_15 : decode b_B_digit 15 = .ok (.if_icmp .le 10, 3) := by decide +kernel
theorem d_B_digit_18 : decode b_B_digit 18 = .ok (.aload_n 0, 1) := by decide +kernel
theorem d_B_digit_19 : decode b_B_digit 19 = .ok (.iconst 1, 1) := by decide +kernel
theorem d_B_digit_20 : decode b_B_digit 20 = .ok (.putfield 77, 3) := by decide +kernel
theorem d_B_digit_23 : decode b_B_digit 23 = .ok (.iload_n 1, 1) := by decide +kernel
theorem d_B_digit_24 : decode b_B_digit 24 = .ok (.ireturn, 1) := by decide +kernel
theorem d_B_digit_25 : decode b_B_digit 25 = .ok (.aload_n 0, 1) := by decide +kernel
theorem d_B_digit_26 : decode b_B_digit 26 = .ok (.dup, 1) := by decide +kernel
theorem d_B_digit_27 : decode b_B_digit 27 = .ok (.getfield 58, 3) := by decide +kernel
theorem d_B_digit_30 : decode b_B_digit 30 = .ok (.iconst 1, 1) := by decide +kernel
theorem d_B_digit_31 : decode b_B_digit 31 = .ok (.iadd, 1) := by decide +kernel
theorem d_B_digit_32 : decode b_B_digit 32 = .ok (.putfield 58, 3) := by decide +kernel
theorem d_B_digit_35 : decode b_B_digit 35 = .ok (.iload_n 3, 1) := by decide +kernel
theorem d_B_digit_36 : decode b_B_digit 36 = .ok (.ireturn, 1) := by decide +kernel
def B_B_digit_18 (Qc : Int32 → PS → Prop)  (x1 : Int32) (u : PS) : Prop := Qc x1 (ps_wrong u (1 : Int32))
def P_B_digit (x1 : Int32) (x2 : Int32) (u : PS) (Qc : Int32 → PS → Prop) : Prop := P_B_here  u (fun r_1 u_1 => (∀ x3_7 : Int32, x3_7 = (r_1 - (48 : Int32)) → ((x3_7 < x1 → B_B_digit_18 Qc  x1 u_1) ∧ (¬ x3_7 < x1 → ((x3_7 ≤ x2 → Qc x3_7 (ps_at u_1 ((p_at u_1) + (1 : Int32)))) ∧ (¬ x3_7 ≤ x2 → B_B_digit_18 Qc  x1 u_1))))))
section PW
variable {p : Program} {l : Launch} {e : Env} {s : State} {m : MethodId} {args : Array Value} {below : List Frame} {meth : Method} {c : Code} {x : GX} {g : GE} {ex : va_W} {a : Nat → Nat} {A : Nat → Prop} {o : Nat}
set_option maxHeartbeats 4000000 in
set_option maxRecDepth 20000 in
theorem wB_B_digit_18 (S : CallFix p m c b_B_digit 4 s args lw_tg "PatternBench") (hr : meth.sig.returnType = some .int) (hlk : meth.locks = false) (hK : GK x s) (hE : EN g A s s.heap) (hA : ∀ q : Nat, s.heap.size ≤ q → A q) {Qc : Int32 → PS → Prop}  : ∀ (x1 : Int32) (u : PS) (ls : Array Slot) (H : Heap) (locs : List Loc), lv_has ls 4 [(0, .ref o), (1, .int x1)] → wd x A s.heap ((pcl x g o) a u ++ ex) H locs → B_B_digit_18 Qc  x1 u → W p l e (rmN 7 0 0) s m args below meth c H locs 0 0 (MQ below (QfI x (pcl x g o) ex a A Qc) args s 0 0 A) (F0 m 18 ls []) := by
  intro x1 u ls H locs hl hw h
  refine lv_aload_n S.1 S.2.1 d_B_digit_18 rfl (lv_at hl 0 rfl) ?_
  refine lv_iconst (v := 1) S.1 S.2.1 d_B_digit_19 (by decide) ?_
  refine pp_wrong S hK hw isB1 d_B_digit_20 (fun H locs hw => ?_)
  refine lv_iload_n S.1 S.2.1 d_B_digit_23 rfl (lv_at hl 1 rfl) ?_
  exact w_iretF S hr hlk hw h d_B_digit_24
set_option maxHeartbeats 4000000 in
set_option maxRecDepth 20000 in
theorem c_B_digit {x : GX} {g : GE} {o : Nat} {ex : va_W} {a : Nat → Nat} (l : Launch) (x1 : Int32) (x2 : Int32) (u : PS) (sz : Nat) (Qc : Int32 → PS → Prop) (h : P_B_digit x1 x2 u Qc) : Met l y_B_digit (wM y_B_digit b_B_digit 4 (some .int)) (rmN 7 0 0) (PreE x g (pcl x g o) ex [.ref o, .int x1, .int x2] a u sz) (QfI x (pcl x g o) ex a (va_A ((pcl x g o) a u ++ ex) sz) Qc) 0 0 (va_A ((pcl x g o) a u ++ ex) sz) := by
  refine w_enterE (by decide +kernel) (Nat.le_of_ble_eq_true rfl) (fun p e s m args below meth c S hr hlk hnm hK hE hA hw ls hl => ?_)
  have hl : lv_has ls 4 [(0, .ref o), (1, .int x1), (2, .int x2)] := hl
  refine lv_aload_n S.1 S.2.1 d_B_digit_0 rfl (lv_at hl 0 rfl) ?_
  refine w_ciF hA hw (w_rvE (rest := []) S hK hE hA hw (c_B_here l  u _ _ h) (ci := 1) (q0 := 0) rfl rfl (w_cb (fr := 0) (lv := 0) S.2.2.2.2 k_403 k_400 k_1 yd_B_here rfl rfl ⟨Nat.le_of_ble_eq_true rfl, Nat.le_of_ble_eq_true rfl⟩) k_402 s_2 rfl hl.1 rfl (Nat.le_of_ble_eq_true rfl) d_B_digit_1 ⟨(Nat.zero_le _), (Nat.zero_le _)⟩) (fun r_1 u_1 H locs h hw => ?_)
  refine lv_bipush (v := 48) S.1 S.2.1 d_B_digit_4 (by decide) ?_
  refine lv_isub S.1 S.2.1 d_B_digit_6 ?_
  refine lv_topi (fun x3_7 ex3_7 => ?_)
  have h := h x3_7 ex3_7
  refine lv_istore_n (lv' := [(3, .int x3_7), (0, .ref o), (1, .int x1), (2, .int x2)]) S.1 S.2.1 d_B_digit_7 rfl hl (by decide) rfl (fun ls hl => ?_)
  refine lv_iload_n S.1 S.2.1 d_B_digit_8 rfl (lv_at hl 0 rfl) ?_
  refine lv_iload_n S.1 S.2.1 d_B_digit_9 rfl (lv_at hl 2 rfl) ?_
  refine lv_icmp_lt (tgt := 18) S.1 S.2.1 d_B_digit_10 (by decide) (fun q_10 => ?_) (fun q_10 => ?_)
  · have h := h.1 q_10
    exact wB_B_digit_18 S hr hlk hK hE hA  x1 u_1 _ _ _ (lv_sub hl [1, 2] rfl) hw h
  · have h := h.2 q_10
    refine lv_iload_n S.1 S.2.1 d_B_digit_13 rfl (lv_at hl 0 rfl) ?_
    refine lv_iload_n S.1 S.2.1 d_B_digit_14 rfl (lv_at hl 3 rfl) ?_
    refine lv_icmp_le (tgt := 25) S.1 S.2.1 d_B_digit_15 (by decide) (fun q_15 => ?_) (fun q_15 => ?_)
    · have h := h.1 q_15
      refine lv_aload_n S.1 S.2.1 d_B_digit_25 rfl (lv_at hl 1 rfl) ?_
      refine lv_dup S.1 S.2.1 d_B_digit_26 rfl ?_
      refine pg_at S hK hw d_B_digit_27 ?_
      refine lv_iconst (v := 1) S.1 S.2.1 d_B_digit_30 (by decide) ?_
      refine lv_iadd S.1 S.2.1 d_B_digit_31 ?_
      refine pp_at S hK hw d_B_digit_32 (fun H locs hw => ?_)
      refine lv_iload_n S.1 S.2.1 d_B_digit_35 rfl (lv_at hl 0 rfl) ?_
      exact w_iretF S hr hlk hw h d_B_digit_36
    · have h := h.2 q_15
      exact wB_B_digit_18 S hr hlk hK hE hA  x1 u_1 _ _ _ (lv_sub hl [1, 2] rfl) hw h
end PW
abbrev b_B_name : ByteArray := prog_1_method_12_code
def y_B_name : MethodName := ⟨"PatternBench", "name", "(I)I"⟩
theorem yd_B_name : y_B_name.cls ≠ "java/lang/invoke/MethodHandle" ∧ y_B_name.cls ≠ "java/lang/invoke/VarHandle" ∧ (parseMethodDescriptor y_B_name.desc).map (fun d => d.parameters.length) = some 1 := by decide +kernel
theorem d_B_name_0 : decode b_B_name 0 = .ok (.aload_n 0, 1) := by decide +kernel
theorem d_B_name_1 : decode b_B_name 1 = .ok (.iload_n 1, 1) := by decide +kernel
theorem d_B_name_2 : decode b_B_name 2 = .ok (.iconst 4, 1) := by decide +kernel
theorem d_B_name_3 : decode b_B_name 3 = .ok (.invokevirtual 114, 3) := by decide +kernel
theorem d_B_name_6 : decode b_B_name 6 = .ok (.istore_n 2, 1) := by decide +kernel
theorem d_B_name_7 : decode b_B_name 7 = .ok (.aload_n 0, 1) := by decide +kernel
theorem d_B_name_8 : decode b_B_name 8 = .ok (.aload_n 0, 1) := by decide +kernel
theorem d_B_name_9 : decode b_B_name 9 = .ok (.getfield 161, 3) := by decide +kernel
theorem d_B_name_12 : decode b_B_name 12 = .ok (.iload_n 2, 1) := by decide +kernel
theorem d_B_name_13 : decode b_B_name 13 = .ok (.invokestatic 51, 3) := by decide +kernel
theorem d_B_name_16 : decode b_B_name 16 = .ok (.putfield 161, 3) := by decide +kernel
theorem d_B_name_19 : decode b_B_name 19 = .ok (.iload_n 2, 1) := by decide +kernel
theorem d_B_name_20 : decode b_B_name 20 = .ok (.ireturn, 1) := by decide +kernel
def P_B_name (x1 : Int32) (u : PS) (Qc : Int32 → PS → Prop) : Prop := P_B_digit x1 (4 : Int32) u (fun r_3 u_3 => Qc r_3 (ps_named u_3 (if (p_named u_3) < r_3 then r_3 else (p_named u_3))))
section PW
variable {p : Program} {l : Launch} {e : Env} {s : State} {m : MethodId} {args : Array Value} {below : List Frame} {meth : Method} {c : Code} {x : GX} {g : GE} {ex : va_W} {a : Nat → Nat} {A : Nat → Prop} {o : Nat}
set_option maxHeartbeats 4000000 in
set_option maxRecDepth 20000 in
theorem c_B_name {x : GX} {g : GE} {o : Nat} {ex : va_W} {a : Nat → Nat} (l : Launch) (x1 : Int32) (u : PS) (sz : Nat) (Qc : Int32 → PS → Prop) (h : P_B_name x1 u Qc) : Met l y_B_name (wM y_B_name b_B_name 3 (some .int)) (rmN 8 0 0) (PreE x g (pcl x g o) ex [.ref o, .int x1] a u sz) (QfI x (pcl x g o) ex a (va_A ((pcl x g o) a u ++ ex) sz) Qc) 0 0 (va_A ((pcl x g o) a u ++ ex) sz) := by
  refine w_enterE (by decide +kernel) (Nat.le_of_ble_eq_true rfl) (fun p e s m args below meth c S hr hlk hnm hK hE hA hw ls hl => ?_)
  have hl : lv_has ls 3 [(0, .ref o), (1, .int x1)] := hl
  refine lv_aload_n S.1 S.2.1 d_B_name_0 rfl (lv_at hl 0 rfl) ?_
  refine lv_iload_n S.1 S.2.1 d_B_name_1 rfl (lv_at hl 1 rfl) ?_
  refine lv_iconst (v := 4) S.1 S.2.1 d_B_name_2 (by decide) ?_
  refine w_ciF hA hw (w_rvE (rest := []) S hK hE hA hw (c_B_digit l x1 (4 : Int32) u _ _ h) (ci := 1) (q0 := 0) rfl rfl (w_cb (fr := 0) (lv := 0) S.2.2.2.2 k_461 k_458 k_1 yd_B_digit rfl rfl ⟨Nat.le_of_ble_eq_true rfl, Nat.le_of_ble_eq_true rfl⟩) k_460 s_7 rfl hl.1 rfl (Nat.le_of_ble_eq_true rfl) d_B_name_3 ⟨(Nat.zero_le _), (Nat.zero_le _)⟩) (fun r_3 u_3 H locs h hw => ?_)
  refine lv_istore_n (lv' := [(2, .int r_3), (0, .ref o), (1, .int x1)]) S.1 S.2.1 d_B_name_6 rfl hl (by decide) rfl (fun ls hl => ?_)
  refine lv_aload_n S.1 S.2.1 d_B_name_7 rfl (lv_at hl 1 rfl) ?_
  refine lv_aload_n S.1 S.2.1 d_B_name_8 rfl (lv_at hl 1 rfl) ?_
  refine pg_named S hK hw d_B_name_9 ?_
  refine lv_iload_n S.1 S.2.1 d_B_name_12 rfl (lv_at hl 0 rfl) ?_
  refine va_mmax S.1 S.2.1 (S.2.2.1.trans hl.1.symm) S.2.2.2.1 (S.2.2.2.2 _ k_110) (S.2.2.2.2 _ k_111) (S.2.2.2.2 _ k_7) (S.2.2.2.2 _ k_112) (Nat.le_of_ble_eq_true rfl) (Nat.le_of_ble_eq_true rfl) (Nat.zero_le _) (Nat.zero_le _) d_B_name_13 ?_
  refine pp_named S hK hw d_B_name_16 (fun H locs hw => ?_)
  refine lv_iload_n S.1 S.2.1 d_B_name_19 rfl (lv_at hl 0 rfl) ?_
  exact w_iretF S hr hlk hw h d_B_name_20
end PW
