theorem k_611 : (Cond.methodLink "PatternBench" 197 ⟨"PatternBench$Part", "size", "()I"⟩) ∈ lw_tg := kw 611 (by decide +kernel) (by decide +kernel)
theorem k_659 : (Cond.methodLink "PatternBench" 206 ⟨"PatternBench$Part", "emit", "(LPatternBench$Program;)V"⟩) ∈ lw_tg := kw 659 (by decide +kernel) (by decide +kernel)
theorem k_743 : (Cond.methodLink "PatternBench" 213 ⟨"PatternBench$Program", "add", "(LPatternBench$Op;II)I"⟩) ∈ lw_tg := kw 743 (by decide +kernel) (by decide +kernel)
abbrev b_B_compile : ByteArray := prog_1_method_17_code
def y_B_compile : MethodName := ⟨"PatternBench", "compile", "()I"⟩
theorem yd_B_compile : y_B_compile.cls ≠ "java/lang/invoke/MethodHandle" ∧ y_B_compile.cls ≠ "java/lang/invoke/VarHandle" ∧ (parseMethodDescriptor y_B_compile.desc).map (fun d => d.parameters.length) = some 0 := by decide +kernel
theorem d_B_compile_0 : decode b_B_compile 0 = .ok (.aload_n 0, 1) := by decide +kernel
theorem d_B_compile_1 : decode b_B_compile 1 = .ok (.iconst 0, 1) := by decide +kernel
theorem d_B_compile_2 : decode b_B_compile 2 = .ok (.putfield 58, 3) := by decide +kernel
theorem d_B_compile_5 : decode b_B_compile 5 = .ok (.aload_n 0, 1) := by decide +kernel
theorem d_B_compile_6 : decode b_B_compile 6 = .ok (.iconst 0, 1) := by decide +kernel
theorem d_B_compile_7 : decode b_B_compile 7 = .ok (.putfield 77, 3) := by decide +kernel
theorem d_B_compile_10 : decode b_B_compile 10 = .ok (.aload_n 0, 1) := by decide +kernel
theorem d_B_compile_11 : decode b_B_compile 11 = .ok (.iconst 0, 1) := by decide +kernel
theorem d_B_compile_12 : decode b_B_compile 12 = .ok (.putfield 167, 3) := by decide +kernel
theorem d_B_compile_15 : decode b_B_compile 15 = .ok (.aload_n 0, 1) := by decide +kernel
theorem d_B_compile_16 : decode b_B_compile 16 = .ok (.iconst 0, 1) := by decide +kernel
theorem d_B_compile_17 : decode b_B_compile 17 = .ok (.putfield 161, 3) := by decide +kernel
theorem d_B_compile_20 : decode b_B_compile 20 = .ok (.aload_n 0, 1) := by decide +kernel
theorem d_B_compile_21 : decode b_B_compile 21 = .ok (.iconst 0, 1) := by decide +kernel
theorem d_B_compile_22 : decode b_B_compile 22 = .ok (.invokevirtual 170, 3) := by decide +kernel
theorem d_B_compile_25 : decode b_B_compile 25 = .ok (.astore_n 1, 1) := by decide +kernel
theorem d_B_compile_26 : decode b_B_compile 26 = .ok (.aload_n 0, 1) := by decide +kernel
theorem d_B_compile_27 : decode b_B_compile 27 = .ok (.getfield 77, 3) := by decide +kernel
theorem d_B_compile_30 : decode b_B_compile 30 = .ok (.ifCond .ne 32, 3) := by decide +kernel
theorem d_B_compile_33 : decode b_B_compile 33 = .ok (.aload_n 0, 1) := by decide +kernel
theorem d_B_compile_34 : decode b_B_compile 34 = .ok (.getfield 58, 3) := by decide +kernel
theorem d_B_compile_37 : decode b_B_compile 37 = .ok (.aload_n 0, 1) := by decide +kernel
theorem d_B_compile_38 : decode b_B_compile 38 = .ok (.getfield 10, 3) := by decide +kernel
theorem d_B_compile_41 : decode b_B_compile 41 = .ok (.invokevirtual 61, 3) := by decide +kernel
theorem d_B_compile_44 : decode b_B_compile 44 = .ok (.if_icmp .ne 18, 3) := by decide +kernel
theorem d_B_compile_47 : decode b_B_compile 47 = .ok (.aload_n 0, 1) := by decide +kernel
theorem d_B_compile_48 : decode b_B_compile 48 = .ok (.getfield 161, 3) := by decide +kernel
theorem d_B_compile_51 : decode b_B_compile 51 = .ok (.aload_n 0, 1) := by decide +kernel
theorem d_B_compile_52 : decode b_B_compile 52 = .ok (.getfield 167, 3) := by decide +kernel
theorem d_B_compile_55 : decode b_B_compile 55 = .ok (.if_icmp .gt 7, 3) := by decide +kernel
theorem d_B_compile_58 : decode b_B_compile 58 = .ok (.iconst 1, 1) := by decide +kernel
theorem d_B_compile_59 : decode b_B_compile 59 = .ok (.goto 4, 3) := by decide +kernel
theorem d_B_compile_62 : decode b_B_compile 62 = .ok (.iconst 0, 1) := by decide +kernel
theorem d_B_compile_63 : decode b_B_compile 63 = .ok (.istore_n 2, 1) := by decide +kernel
theorem d_B_compile_64 : decode b_B_compile 64 = .ok (.aload_n 0, 1) := by decide +kernel
theorem d_B_compile_65 : decode b_B_compile 65 = .ok (.getfield 10, 3) := by decide +kernel
theorem d_B_compile_68 : decode b_B_compile 68 = .ok (.iconst 0, 1) := by decide +kernel
theorem d_B_compile_69 : decode b_B_compile 69 = .ok (.invokevirtual 193, 3) := by decide +kernel
theorem d_B_compile_72 : decode b_B_compile 72 = .ok (.iload_n 2, 1) := by decide +kernel
theorem d_B_compile_73 : decode b_B_compile 73 = .ok (.ifCond .ne 6, 3) := by decide +kernel
theorem d_B_compile_76 : decode b_B_compile 76 = .ok (.bipush (-3), 2) := by decide +kernel
theorem d_B_compile_78 : decode b_B_compile 78 = .ok (.ireturn, 1) := by decide +kernel
theorem d_B_compile_79 : decode b_B_compile 79 = .ok (.aload_n 1, 1) := by decide +kernel
theorem d_B_compile_80 : decode b_B_compile 80 = .ok (.invokeinterface 197 1, 5) := by decide +kernel
theorem d_B_compile_85 : decode b_B_compile 85 = .ok (.bipush 60, 2) := by decide +kernel
theorem d_B_compile_87 : decode b_B_compile 87 = .ok (.if_icmp .le 6, 3) := by decide +kernel
theorem d_B_compile_90 : decode b_B_compile 90 = .ok (.bipush (-2), 2) := by decide +kernel
theorem d_B_compile_92 : decode b_B_compile 92 = .ok (.ireturn, 1) := by decide +kernel
theorem d_B_compile_93 : decode b_B_compile 93 = .ok (.aload_n 0, 1) := by decide +kernel
theorem d_B_compile_94 : decode b_B_compile 94 = .ok (.getfield 28, 3) := by decide +kernel
theorem d_B_compile_97 : decode b_B_compile 97 = .ok (.iconst 0, 1) := by decide +kernel
theorem d_B_compile_98 : decode b_B_compile 98 = .ok (.aload_n 1, 1) := by decide +kernel
theorem d_B_compile_99 : decode b_B_compile 99 = .ok (.aastore, 1) := by decide +kernel
theorem d_B_compile_100 : decode b_B_compile 100 = .ok (.aload_n 0, 1) := by decide +kernel
theorem d_B_compile_101 : decode b_B_compile 101 = .ok (.getfield 22, 3) := by decide +kernel
theorem d_B_compile_104 : decode b_B_compile 104 = .ok (.iconst 0, 1) := by decide +kernel
theorem d_B_compile_105 : decode b_B_compile 105 = .ok (.putfield 198, 3) := by decide +kernel
theorem d_B_compile_108 : decode b_B_compile 108 = .ok (.aload_n 0, 1) := by decide +kernel
theorem d_B_compile_109 : decode b_B_compile 109 = .ok (.iconst 1, 1) := by decide +kernel
theorem d_B_compile_110 : decode b_B_compile 110 = .ok (.putfield 200, 3) := by decide +kernel
theorem d_B_compile_113 : decode b_B_compile 113 = .ok (.iconst 0, 1) := by decide +kernel
theorem d_B_compile_114 : decode b_B_compile 114 = .ok (.istore_n 3, 1) := by decide +kernel
theorem d_B_compile_115 : decode b_B_compile 115 = .ok (.iload_n 3, 1) := by decide +kernel
theorem d_B_compile_116 : decode b_B_compile 116 = .ok (.aload_n 0, 1) := by decide +kernel
theorem d_B_compile_117 : decode b_B_compile 117 = .ok (.getfield 167, 3) := by decide +kernel
theorem d_B_compile_120 : decode b_B_compile 120 = .ok (.if_icmp .gt 53, 3) := by decide +kernel
theorem d_B_compile_123 : decode b_B_compile 123 = .ok (.aload_n 0, 1) := by decide +kernel
theorem d_B_compile_124 : decode b_B_compile 124 = .ok (.getfield 22, 3) := by decide +kernel
theorem d_B_compile_127 : decode b_B_compile 127 = .ok (.getfield 203, 3) := by decide +kernel
theorem d_B_compile_130 : decode b_B_compile 130 = .ok (.iload_n 3, 1) := by decide +kernel
theorem d_B_compile_131 : decode b_B_compile 131 = .ok (.aload_n 0, 1) := by decide +kernel
theorem d_B_compile_132 : decode b_B_compile 132 = .ok (.getfield 22, 3) := by decide +kernel
theorem d_B_compile_135 : decode b_B_compile 135 = .ok (.getfield 198, 3) := by decide +kernel
theorem d_B_compile_138 : decode b_B_compile 138 = .ok (.iastore, 1) := by decide +kernel
theorem d_B_compile_139 : decode b_B_compile 139 = .ok (.aload_n 0, 1) := by decide +kernel
theorem d_B_compile_140 : decode b_B_compile 140 = .ok (.getfield 28, 3) := by decide +kernel
theorem d_B_compile_143 : decode b_B_compile 143 = .ok (.iload_n 3, 1) := by decide +kernel
theorem d_B_compile_144 : decode b_B_compile 144 = .ok (.aaload, 1) := by decide +kernel
theorem d_B_compile_145 : decode b_B_compile 145 = .ok (.aload_n 0, 1) := by decide +kernel
theorem d_B_compile_146 : decode b_B_compile 146 = .ok (.getfield 22, 3) := by decide +kernel
theorem d_B_compile_149 : decode b_B_compile 149 = .ok (.invokeinterface 206 2, 5) := by decide +kernel
theorem d_B_compile_154 : decode b_B_compile 154 = .ok (.aload_n 0, 1) := by decide +kernel
theorem d_B_compile_155 : decode b_B_compile 155 = .ok (.getfield 22, 3) := by decide +kernel
theorem d_B_compile_158 : decode b_B_compile 158 = .ok (.getstatic 210, 3) := by decide +kernel
theorem d_B_compile_161 : decode b_B_compile 161 = .ok (.iconst 0, 1) := by decide +kernel
theorem d_B_compile_162 : decode b_B_compile 162 = .ok (.iconst 0, 1) := by decide +kernel
theorem d_B_compile_163 : decode b_B_compile 163 = .ok (.invokevirtual 213, 3) := by decide +kernel
theorem d_B_compile_166 : decode b_B_compile 166 = .ok (.pop, 1) := by decide +kernel
theorem d_B_compile_167 : decode b_B_compile 167 = .ok (.iinc 3 1, 3) := by decide +kernel
theorem d_B_compile_170 : decode b_B_compile 170 = .ok (.goto (-55), 3) := by decide +kernel
theorem d_B_compile_173 : decode b_B_compile 173 = .ok (.aload_n 0, 1) := by decide +kernel
theorem d_B_compile_174 : decode b_B_compile 174 = .ok (.aload_n 0, 1) := by decide +kernel
theorem d_B_compile_175 : decode b_B_compile 175 = .ok (.getfield 167, 3) := by decide +kernel
theorem d_B_compile_178 : decode b_B_compile 178 = .ok (.putfield 216, 3) := by decide +kernel
theorem d_B_compile_181 : decode b_B_compile 181 = .ok (.aload_n 0, 1) := by decide +kernel
theorem d_B_compile_182 : decode b_B_compile 182 = .ok (.aload_n 1, 1) := by decide +kernel
theorem d_B_compile_183 : decode b_B_compile 183 = .ok (.invokeinterface 197 1, 5) := by decide +kernel
theorem d_B_compile_188 : decode b_B_compile 188 = .ok (.putfield 219, 3) := by decide +kernel
theorem d_B_compile_191 : decode b_B_compile 191 = .ok (.aload_n 0, 1) := by decide +kernel
theorem d_B_compile_192 : decode b_B_compile 192 = .ok (.iconst 0, 1) := by decide +kernel
theorem d_B_compile_193 : decode b_B_compile 193 = .ok (.putfield 222, 3) := by decide +kernel
theorem d_B_compile_196 : decode b_B_compile 196 = .ok (.aload_n 0, 1) := by decide +kernel
theorem d_B_compile_197 : decode b_B_compile 197 = .ok (.getfield 167, 3) := by decide +kernel
theorem d_B_compile_200 : decode b_B_compile 200 = .ok (.ireturn, 1) := by decide +kernel
def L_B_compile_115 (Qc : Int32 → PS → Prop) (bc bs : Nat)  : Nat → Nat → Nat → Nat → PT → Int32 → PS → Prop
  | 0, _, _, _, _, _, _ => False
  | n + 1, k, n0, b0, T0, x3, u => (((p_groups u) < x3 → (th T0 ≤ 40 ∧ PZ T0 0 () (fun r_183 _ => Qc (p_groups (ps_matched (ps_rsize (ps_rgroups u (p_groups u)) r_183) (0 : Int32))) (ps_matched (ps_rsize (ps_rgroups u (p_groups u)) r_183) (0 : Int32))))) ∧ (¬ (p_groups u) < x3 → (vp_in x3 5 ∧ (vp_in x3 5 ∧ ∃ r_144 : Nat, p_ins (ps_en u (upd (p_en u) x3.toNatClampNeg (p_ln u))) x3.toNatClampNeg = some r_144 ∧ (∃ T_149 : PT, tsub T0 b0 r_144 T_149 ∧ th T_149 ≤ 40 ∧ ∃ kc_149 nc_149 : Nat, k + kc_149 ≤ bc ∧ n0 + nc_149 ≤ bs ∧ PE T_149 0 kc_149 nc_149 (p_pr (ps_en u (upd (p_en u) x3.toNatClampNeg (p_ln u)))) (fun z_149 => (∃ kc_163 nc_163 : Nat, (k + kc_149) + kc_163 ≤ bc ∧ (n0 + nc_149) + nc_163 ≤ bs ∧ P_Pr_add kc_163 nc_163 16 (0 : Int32) (0 : Int32) (p_pr (ps_pr (ps_en u (upd (p_en u) x3.toNatClampNeg (p_ln u))) z_149)) (fun r_163 z_163 => (∀ x3_167 : Int32, x3_167 = x3 + 1 → (L_B_compile_115 Qc bc bs  n) ((k + kc_149) + kc_163) ((n0 + nc_149) + nc_163) b0 T0 x3_167 (ps_pr (ps_pr (ps_en u (upd (p_en u) x3.toNatClampNeg (p_ln u))) z_149) z_163))))))))))
def B_B_compile_63 (Qc : Int32 → PS → Prop) (bc bs : Nat)  (k n0 : Nat) (b0 : Nat) (T0 : PT) (t0 : Int32) (u : PS) : Prop := (∃ kc_69 nc_69 : Nat, k + kc_69 ≤ bc ∧ n0 + nc_69 ≤ bs ∧ P_SB_setLen kc_69 nc_69 (0 : Int32) (p_wr u) (fun z_69 => ((t0 = (0 : Int32) → Qc (-3 : Int32) (ps_wr u z_69)) ∧ (¬ t0 = (0 : Int32) → (th T0 ≤ 40 ∧ PZ T0 0 () (fun r_80 _ => ((r_80 ≤ (60 : Int32) → (vp_in (0 : Int32) 5 ∧ ∃ n, L_B_compile_115 Qc bc bs  n (k + kc_69) (n0 + nc_69) b0 T0 (0 : Int32) (ps_there (ps_ln (ps_ins (ps_wr u z_69) (va_up (p_ins (ps_wr u z_69)) (0 : Int32).toNatClampNeg (some b0))) (0 : Int32)) (1 : Int32)))) ∧ (¬ r_80 ≤ (60 : Int32) → Qc (-2 : Int32) (ps_wr u z_69)))))))))
def B_B_compile_62 (Qc : Int32 → PS → Prop) (bc bs : Nat)  (k n0 : Nat) (b0 : Nat) (T0 : PT) (u : PS) : Prop := B_B_compile_63 Qc bc bs  k n0 b0 T0 (0 : Int32) u
def P_B_compile (bc bs : Nat)  (u : PS) (Qc : Int32 → PS → Prop) : Prop := (∃ kc_22 nc_22 : Nat, 0 + kc_22 ≤ bc ∧ 0 + nc_22 ≤ bs ∧ P_B_choice 8 kc_22 nc_22 (0 : Int32) (ps_named (ps_groups (ps_wrong (ps_at u (0 : Int32)) (0 : Int32)) (0 : Int32)) (0 : Int32)) (fun T_22 u_22 => ∀ r_22 : Nat, (((p_wrong u_22) = (0 : Int32) → P_SB_length (p_wr u_22) (fun r_41 z_41 => (((p_at u_22) = r_41 → (((p_groups (ps_wr u_22 z_41)) < (p_named (ps_wr u_22 z_41)) → B_B_compile_62 Qc bc bs  (0 + kc_22) (0 + nc_22) r_22 T_22 (ps_wr u_22 z_41)) ∧ (¬ (p_groups (ps_wr u_22 z_41)) < (p_named (ps_wr u_22 z_41)) → B_B_compile_63 Qc bc bs  (0 + kc_22) (0 + nc_22) r_22 T_22 (1 : Int32) (ps_wr u_22 z_41)))) ∧ (¬ (p_at u_22) = r_41 → B_B_compile_62 Qc bc bs  (0 + kc_22) (0 + nc_22) r_22 T_22 (ps_wr u_22 z_41))))) ∧ (¬ (p_wrong u_22) = (0 : Int32) → B_B_compile_62 Qc bc bs  (0 + kc_22) (0 + nc_22) r_22 T_22 u_22))))
section PW
variable {p : Program} {l : Launch} {e : Env} {s : State} {m : MethodId} {args : Array Value} {below : List Frame} {meth : Method} {c : Code} {x : GX} {g : GE} {ex : va_W} {a : Nat → Nat} {A : Nat → Prop} {o : Nat}
set_option maxHeartbeats 8000000 in
set_option maxRecDepth 20000 in
theorem wL_B_compile_115 (S : CallFix p m c b_B_compile 4 s args lw_tg "PatternBench") (hr : meth.sig.returnType = some .int) (hlk : meth.locks = false) (hK : GK x s) (hE : EN g A s s.heap) (hA : ∀ q : Nat, s.heap.size ≤ q → A q) {Qc : Int32 → PS → Prop} {bc bs : Nat}  : ∀ (n : Nat) (k n0 : Nat) (hk : k ≤ bc) (hn : n0 ≤ bs) (b0 : Nat) (T0 : PT) (x3 : Int32) (u : PS) (a : Nat → Nat) (f0 : va_W) (hp0 : TP x g f0 T0 b0) (ls : Array Slot) (H : Heap) (locs : List Loc), lv_has ls 4 [(0, .ref o), (1, .ref b0), (3, .int x3)] → wd x A s.heap (pcl x g o a u ++ (f0 ++ ex)) H locs → L_B_compile_115 Qc bc bs  n k n0 b0 T0 x3 u → W p l e (rmN (170) bc bs) s m args below meth c H locs k n0 (MQ below (QeI x (pcl x g o) ex A Qc) args s bc bs A) (F0 m 115 ls []) := by
  intro n
  induction n with
  | zero =>
    intro k n0 hk hn b0 T0 x3 u a f0 hp0 ls H locs hl hw h
    exact absurd h id
  | succ n ih =>
    intro k n0 hk hn b0 T0 x3 u a f0 hp0 ls H locs hl hw h
    refine lv_iload_n S.1 S.2.1 d_B_compile_115 rfl (lv_at hl 2 rfl) ?_
    refine lv_aload_n S.1 S.2.1 d_B_compile_116 rfl (lv_at hl 0 rfl) ?_
    refine pg_groups S hK hw d_B_compile_117 ?_
    refine lv_icmp_gt (tgt := 173) S.1 S.2.1 d_B_compile_120 (by decide) (fun q_120 => ?_) (fun q_120 => ?_)
    · have h := h.1 q_120
      refine lv_aload_n S.1 S.2.1 d_B_compile_173 rfl (lv_at hl 0 rfl) ?_
      refine lv_aload_n S.1 S.2.1 d_B_compile_174 rfl (lv_at hl 0 rfl) ?_
      refine pg_groups S hK hw d_B_compile_175 ?_
      refine pp_readyGroups S hK hw d_B_compile_178 (fun H locs hw => ?_)
      refine lv_aload_n S.1 S.2.1 d_B_compile_181 rfl (lv_at hl 0 rfl) ?_
      refine lv_aload_n S.1 S.2.1 d_B_compile_182 rfl (lv_at hl 1 rfl) ?_
      obtain ⟨hh_183, h⟩ := h
      refine mm_sizeI (R := rmN (170) bc bs) (cells := k) (slots := n0) (lv := 160) (rest := [.ref o]) S hK hE hA hw (hp0.mono (fun _ h9 => List.mem_append_right _ (List.mem_append_left _ h9))) (z_all (by omega)) h k_611 (by show 160 + 1 ≤ 170; omega) (by show 64 * (160 + 1) ≤ 64 * (170); omega) ⟨hk, hn⟩ hl.1 (Nat.le_of_ble_eq_true rfl) d_B_compile_183 (fun r_183 H locs h hw => ?_)
      refine pp_readySize S hK hw d_B_compile_188 (fun H locs hw => ?_)
      refine lv_aload_n S.1 S.2.1 d_B_compile_191 rfl (lv_at hl 0 rfl) ?_
      refine lv_iconst (v := 0) S.1 S.2.1 d_B_compile_192 (by decide) ?_
      refine pp_matched S hK hw isB0 d_B_compile_193 (fun H locs hw => ?_)
      refine lv_aload_n S.1 S.2.1 d_B_compile_196 rfl (lv_at hl 0 rfl) ?_
      refine pg_groups S hK hw d_B_compile_197 ?_
      refine W.widen (k := bc) (n := bs) hk hn ?_
      have hw := wd_dropL _ hw
      exact w_iretE S hr hlk hw h d_B_compile_200
    · have h := h.2 q_120
      refine lv_aload_n S.1 S.2.1 d_B_compile_123 rfl (lv_at hl 0 rfl) ?_
      refine pg_ready S hK hw d_B_compile_124 ?_
      refine pgr_entry S hK hw d_B_compile_127 ?_
      refine lv_iload_n S.1 S.2.1 d_B_compile_130 rfl (lv_at hl 2 rfl) ?_
      refine lv_aload_n S.1 S.2.1 d_B_compile_131 rfl (lv_at hl 0 rfl) ?_
      refine pg_ready S hK hw d_B_compile_132 ?_
      refine pgr_length S hK hw d_B_compile_135 ?_
      have hg := h.1
      have h := h.2
      refine pt_en S hK hw hg d_B_compile_138 (fun H locs hw => ?_)
      refine lv_aload_n S.1 S.2.1 d_B_compile_139 rfl (lv_at hl 0 rfl) ?_
      refine pg_insides S hK hw d_B_compile_140 ?_
      refine lv_iload_n S.1 S.2.1 d_B_compile_143 rfl (lv_at hl 2 rfl) ?_
      obtain ⟨hg_144, r_144, he_144, h⟩ := h
      refine pl_ins S hK hw hg_144 he_144 d_B_compile_144 ?_
      refine lv_aload_n S.1 S.2.1 d_B_compile_145 rfl (lv_at hl 0 rfl) ?_
      refine pg_ready S hK hw d_B_compile_146 ?_
      obtain ⟨T_149, hs_149, hh_149, kc_149, nc_149, hk_149, hn_149, h⟩ := h
      refine pm_emitP (R := rmN (170) bc bs) (cells := k) (slots := n0) (lv := 160) (rest := []) S hK hE hA hw ((hp0.sub hs_149).mono (fun _ h9 => List.mem_append_left _ h9)) (by omega) h k_659 (by show 160 + 1 ≤ 170; omega) (by show 64 * (160 + 1) ≤ 64 * (170); omega) ⟨hk_149, hn_149⟩ hl.1 (Nat.le_of_ble_eq_true rfl) d_B_compile_149 (fun z_149 a_149 H locs h hw => ?_)
      refine lv_aload_n S.1 S.2.1 d_B_compile_154 rfl (lv_at hl 0 rfl) ?_
      refine pg_ready S hK hw d_B_compile_155 ?_
      refine p_op S hE hw.2.2 16 (by decide) rfl k_741 d_B_compile_158 ?_
      refine lv_iconst (v := 0) S.1 S.2.1 d_B_compile_161 (by decide) ?_
      refine lv_iconst (v := 0) S.1 S.2.1 d_B_compile_162 (by decide) ?_
      obtain ⟨kc_163, nc_163, hk_163, hn_163, h⟩ := h
      refine pm_addP (R := rmN (170) bc bs) (cells := (k + kc_149)) (slots := (n0 + nc_149)) (rest := []) S hK hE hA hw h k_743 (by show 3 ≤ 170; omega) (by show 64 * 3 ≤ 64 * (170); omega) ⟨hk_163, hn_163⟩ hl.1 (Nat.le_of_ble_eq_true rfl) d_B_compile_163 (fun r_163 z_163 a_163 H locs h hw => ?_)
      refine lv_pop S.1 S.2.1 d_B_compile_166 rfl ?_
      obtain ⟨x3_167, ex3_167⟩ : ∃ y : Int32, y = x3 + 1 := ⟨_, rfl⟩
      have h := h x3_167 ex3_167
      refine lv_iinc (v := x3_167) (lv' := [(3, .int x3_167), (0, .ref o), (1, .ref b0)]) S.1 S.2.1 d_B_compile_167 hl (k := 2) rfl (by rw [ex3_167]; rfl) (by decide) rfl (fun ls hl => ?_)
      refine lv_goto (tgt := 115) S.1 S.2.1 d_B_compile_170 (by decide) ?_
      exact ih ((k + kc_149) + kc_163) ((n0 + nc_149) + nc_163) hk_163 hn_163 b0 T0 x3_167 (ps_pr (ps_pr (ps_en u (upd (p_en u) x3.toNatClampNeg (p_ln u))) z_149) z_163) a_163 f0 hp0 _ _ _ (lv_sub hl [1, 2, 0] rfl) hw h
set_option maxHeartbeats 8000000 in
set_option maxRecDepth 20000 in
theorem wB_B_compile_63 (S : CallFix p m c b_B_compile 4 s args lw_tg "PatternBench") (hr : meth.sig.returnType = some .int) (hlk : meth.locks = false) (hK : GK x s) (hE : EN g A s s.heap) (hA : ∀ q : Nat, s.heap.size ≤ q → A q) {Qc : Int32 → PS → Prop} {bc bs : Nat}  : ∀ (k n0 : Nat) (hk : k ≤ bc) (hn : n0 ≤ bs) (b0 : Nat) (T0 : PT) (t0 : Int32) (u : PS) (a : Nat → Nat) (f0 : va_W) (hp0 : TP x g f0 T0 b0) (ls : Array Slot) (H : Heap) (locs : List Loc), lv_has ls 4 [(0, .ref o), (1, .ref b0)] → wd x A s.heap (pcl x g o a u ++ (f0 ++ ex)) H locs → B_B_compile_63 Qc bc bs  k n0 b0 T0 t0 u → W p l e (rmN (170) bc bs) s m args below meth c H locs k n0 (MQ below (QeI x (pcl x g o) ex A Qc) args s bc bs A) (F0 m 63 ls [.int t0]) := by
  intro k n0 hk hn b0 T0 t0 u a f0 hp0 ls H locs hl hw h
  refine lv_istore_n (lv' := [(2, .int t0), (0, .ref o), (1, .ref b0)]) S.1 S.2.1 d_B_compile_63 rfl hl (by decide) rfl (fun ls hl => ?_)
  refine lv_aload_n S.1 S.2.1 d_B_compile_64 rfl (lv_at hl 1 rfl) ?_
  refine pg_writing S hK hw d_B_compile_65 ?_
  refine lv_iconst (v := 0) S.1 S.2.1 d_B_compile_68 (by decide) ?_
  have hw2 := pb_wr_out hw
  obtain ⟨kc_69, nc_69, hk_69, hn_69, h⟩ := h
  refine w_cvE hA hw2 (w_rvE (rest := []) S hK hE hA hw2 (c_SB_setLen l kc_69 nc_69 (0 : Int32) (p_wr u) _ _ h) (ci := 3) (q0 := 0) rfl rfl (w_cb (fr := 0) (lv := 0) S.2.2.2.2 k_593 k_590 k_3 yd_SB_setLen rfl rfl ⟨by show 7 + 1 ≤ 170; omega, by show 8 + (2 + 11) + 64 * (7) ≤ 64 * (170); omega⟩) k_591 k_592 rfl hl.1 rfl (Nat.le_of_ble_eq_true rfl) d_B_compile_69 ⟨hk_69, hn_69⟩) (fun z_69 a_69b H locs h hw => ?_)
  obtain ⟨a_69, hw⟩ : ∃ a9, wd x _ _ (pcl x g o a9 (ps_wr u z_69) ++ (f0 ++ ex)) H locs := ⟨_, pb_wr_in hw⟩
  refine lv_iload_n S.1 S.2.1 d_B_compile_72 rfl (lv_at hl 0 rfl) ?_
  refine lv_if_ne (tgt := 79) S.1 S.2.1 d_B_compile_73 (by decide) (fun q_73 => ?_) (fun q_73 => ?_)
  · have h := h.2 q_73
    refine lv_aload_n S.1 S.2.1 d_B_compile_79 rfl (lv_at hl 2 rfl) ?_
    obtain ⟨hh_80, h⟩ := h
    refine mm_sizeI (R := rmN (170) bc bs) (cells := (k + kc_69)) (slots := (n0 + nc_69)) (lv := 160) (rest := []) S hK hE hA hw (hp0.mono (fun _ h9 => List.mem_append_right _ (List.mem_append_left _ h9))) (z_all (by omega)) h k_611 (by show 160 + 1 ≤ 170; omega) (by show 64 * (160 + 1) ≤ 64 * (170); omega) ⟨hk_69, hn_69⟩ hl.1 (Nat.le_of_ble_eq_true rfl) d_B_compile_80 (fun r_80 H locs h hw => ?_)
    refine lv_bipush (v := 60) S.1 S.2.1 d_B_compile_85 (by decide) ?_
    refine lv_icmp_le (tgt := 93) S.1 S.2.1 d_B_compile_87 (by decide) (fun q_87 => ?_) (fun q_87 => ?_)
    · have h := h.1 q_87
      refine lv_aload_n S.1 S.2.1 d_B_compile_93 rfl (lv_at hl 1 rfl) ?_
      refine pg_insides S hK hw d_B_compile_94 ?_
      refine lv_iconst (v := 0) S.1 S.2.1 d_B_compile_97 (by decide) ?_
      refine lv_aload_n S.1 S.2.1 d_B_compile_98 rfl (lv_at hl 2 rfl) ?_
      have hg := h.1
      have h := h.2
      refine pm_ins S hK hE hp0 hw hg d_B_compile_99 (fun H locs hw => ?_)
      refine lv_aload_n S.1 S.2.1 d_B_compile_100 rfl (lv_at hl 1 rfl) ?_
      refine pg_ready S hK hw d_B_compile_101 ?_
      refine lv_iconst (v := 0) S.1 S.2.1 d_B_compile_104 (by decide) ?_
      refine ppr_length S hK hw d_B_compile_105 (fun H locs hw => ?_)
      refine lv_aload_n S.1 S.2.1 d_B_compile_108 rfl (lv_at hl 1 rfl) ?_
      refine lv_iconst (v := 1) S.1 S.2.1 d_B_compile_109 (by decide) ?_
      refine pp_there S hK hw isB1 d_B_compile_110 (fun H locs hw => ?_)
      refine lv_iconst (v := 0) S.1 S.2.1 d_B_compile_113 (by decide) ?_
      refine lv_istore_n (lv' := [(3, .int (0 : Int32)), (2, .int t0), (0, .ref o), (1, .ref b0)]) S.1 S.2.1 d_B_compile_114 rfl hl (by decide) rfl (fun ls hl => ?_)
      obtain ⟨n9, h⟩ := h
      exact wL_B_compile_115 S hr hlk hK hE hA  n9 (k + kc_69) (n0 + nc_69) hk_69 hn_69 b0 T0 (0 : Int32) (ps_there (ps_ln (ps_ins (ps_wr u z_69) (va_up (p_ins (ps_wr u z_69)) (0 : Int32).toNatClampNeg (some b0))) (0 : Int32)) (1 : Int32)) a_69 f0 hp0 _ _ _ (lv_sub hl [2, 3, 0] rfl) hw h
    · have h := h.2 q_87
      refine lv_bipush (v := -2) S.1 S.2.1 d_B_compile_90 (by decide) ?_
      refine W.widen (k := bc) (n := bs) hk_69 hn_69 ?_
      have hw := wd_dropL _ hw
      exact w_iretE S hr hlk hw h d_B_compile_92
  · have h := h.1 q_73
    refine lv_bipush (v := -3) S.1 S.2.1 d_B_compile_76 (by decide) ?_
    refine W.widen (k := bc) (n := bs) hk_69 hn_69 ?_
    have hw := wd_dropL _ hw
    exact w_iretE S hr hlk hw h d_B_compile_78
set_option maxHeartbeats 8000000 in
set_option maxRecDepth 20000 in
theorem wB_B_compile_62 (S : CallFix p m c b_B_compile 4 s args lw_tg "PatternBench") (hr : meth.sig.returnType = some .int) (hlk : meth.locks = false) (hK : GK x s) (hE : EN g A s s.heap) (hA : ∀ q : Nat, s.heap.size ≤ q → A q) {Qc : Int32 → PS → Prop} {bc bs : Nat}  : ∀ (k n0 : Nat) (hk : k ≤ bc) (hn : n0 ≤ bs) (b0 : Nat) (T0 : PT) (u : PS) (a : Nat → Nat) (f0 : va_W) (hp0 : TP x g f0 T0 b0) (ls : Array Slot) (H : Heap) (locs : List Loc), lv_has ls 4 [(0, .ref o), (1, .ref b0)] → wd x A s.heap (pcl x g o a u ++ (f0 ++ ex)) H locs → B_B_compile_62 Qc bc bs  k n0 b0 T0 u → W p l e (rmN (170) bc bs) s m args below meth c H locs k n0 (MQ below (QeI x (pcl x g o) ex A Qc) args s bc bs A) (F0 m 62 ls []) := by
  intro k n0 hk hn b0 T0 u a f0 hp0 ls H locs hl hw h
  refine lv_iconst (v := 0) S.1 S.2.1 d_B_compile_62 (by decide) ?_
  exact wB_B_compile_63 S hr hlk hK hE hA  k n0 hk hn b0 T0 (0 : Int32) u a f0 hp0 _ _ _ (lv_sub hl [0, 1] rfl) hw h
set_option maxHeartbeats 8000000 in
set_option maxRecDepth 20000 in
theorem c_B_compile {x : GX} {g : GE} {o : Nat} {ex : va_W} {a : Nat → Nat} {l : Launch} (bc bs : Nat)  (u : PS) (sz : Nat) (Qc : Int32 → PS → Prop) (h : P_B_compile bc bs  u Qc) : Met l y_B_compile (wM y_B_compile b_B_compile 4 (some .int)) (rmN (170) bc bs) (PreE x g (pcl x g o) ex [.ref o] a u sz) (QeI x (pcl x g o) ex (va_A (pcl x g o a u ++ ex) sz) Qc) bc bs (va_A (pcl x g o a u ++ ex) sz) := by
  refine w_enterE (by decide +kernel) (Nat.le_of_ble_eq_true rfl) (fun p e s m args below meth c S hr hlk hnm hK hE hA hw ls hl => ?_)
  have hl : lv_has ls 4 [(0, .ref o)] := hl
  refine lv_aload_n S.1 S.2.1 d_B_compile_0 rfl (lv_at hl 0 rfl) ?_
  refine lv_iconst (v := 0) S.1 S.2.1 d_B_compile_1 (by decide) ?_
  refine pp_at S hK hw d_B_compile_2 (fun H locs hw => ?_)
  refine lv_aload_n S.1 S.2.1 d_B_compile_5 rfl (lv_at hl 0 rfl) ?_
  refine lv_iconst (v := 0) S.1 S.2.1 d_B_compile_6 (by decide) ?_
  refine pp_wrong S hK hw isB0 d_B_compile_7 (fun H locs hw => ?_)
  refine lv_aload_n S.1 S.2.1 d_B_compile_10 rfl (lv_at hl 0 rfl) ?_
  refine lv_iconst (v := 0) S.1 S.2.1 d_B_compile_11 (by decide) ?_
  refine pp_groups S hK hw d_B_compile_12 (fun H locs hw => ?_)
  refine lv_aload_n S.1 S.2.1 d_B_compile_15 rfl (lv_at hl 0 rfl) ?_
  refine lv_iconst (v := 0) S.1 S.2.1 d_B_compile_16 (by decide) ?_
  refine pp_named S hK hw d_B_compile_17 (fun H locs hw => ?_)
  refine lv_aload_n S.1 S.2.1 d_B_compile_20 rfl (lv_at hl 0 rfl) ?_
  refine lv_iconst (v := 0) S.1 S.2.1 d_B_compile_21 (by decide) ?_
  obtain ⟨kc_22, nc_22, hk_22, hn_22, h⟩ := h
  refine w_cpE hA hw (w_rvE (rest := []) S hK hE hA hw (c_B_choice 8 kc_22 nc_22 (0 : Int32) (ps_named (ps_groups (ps_wrong (ps_at u (0 : Int32)) (0 : Int32)) (0 : Int32)) (0 : Int32)) _ _ _ _ h) (ci := 1) (q0 := 0) rfl rfl (w_cb (fr := 0) (lv := 0) S.2.2.2.2 k_369 k_366 k_1 yd_B_choice rfl rfl ⟨by show 48 + 1 ≤ 170; omega, by show 8 + (3 + 11) + 64 * (48) ≤ 64 * (170); omega⟩) k_368 s_0 rfl hl.1 rfl (Nat.le_of_ble_eq_true rfl) d_B_compile_22 ⟨hk_22, hn_22⟩) (fun T_22 u_22 r_22 f_22 a_22 H locs h hp_22 hw => ?_)
  have h := h r_22
  refine lv_astore_n (lv' := [(1, .ref r_22), (0, .ref o)]) S.1 S.2.1 d_B_compile_25 rfl hl (by decide) rfl (fun ls hl => ?_)
  refine lv_aload_n S.1 S.2.1 d_B_compile_26 rfl (lv_at hl 1 rfl) ?_
  refine pg_wrong S hK hw d_B_compile_27 ?_
  refine lv_if_ne (tgt := 62) S.1 S.2.1 d_B_compile_30 (by decide) (fun q_30 => ?_) (fun q_30 => ?_)
  · have h := h.2 q_30
    exact wB_B_compile_62 S hr hlk hK hE hA  (0 + kc_22) (0 + nc_22) hk_22 hn_22 r_22 T_22 u_22 a_22 f_22 hp_22 _ _ _ (lv_sub hl [1, 0] rfl) hw h
  · have h := h.1 q_30
    refine lv_aload_n S.1 S.2.1 d_B_compile_33 rfl (lv_at hl 1 rfl) ?_
    refine pg_at S hK hw d_B_compile_34 ?_
    refine lv_aload_n S.1 S.2.1 d_B_compile_37 rfl (lv_at hl 1 rfl) ?_
    refine pg_writing S hK hw d_B_compile_38 ?_
    have hw2 := pb_wr_out hw
    refine w_ciF hA hw2 (w_rvE (rest := [.int (p_at u_22)]) S hK hE hA hw2 (c_SB_length l (p_wr u_22) _ _ h) (ci := 3) (q0 := 0) rfl rfl (w_cb (fr := 0) (lv := 0) S.2.2.2.2 k_278 k_275 k_3 yd_SB_length rfl rfl ⟨by show 1 + 1 ≤ 170; omega, by show 8 + (1 + 11) + 64 * (1) ≤ 64 * (170); omega⟩) k_276 k_277 rfl hl.1 rfl (Nat.le_of_ble_eq_true rfl) d_B_compile_41 ⟨hk_22, hn_22⟩) (fun r_41 z_41 H locs h hw => ?_)
    have hw : wd x _ _ (pcl x g o a_22 (ps_wr u_22 z_41) ++ (f_22 ++ ex)) H locs := pb_wr_inF hw
    refine lv_icmp_ne (tgt := 62) S.1 S.2.1 d_B_compile_44 (by decide) (fun q_44 => ?_) (fun q_44 => ?_)
    · have h := h.2 q_44
      exact wB_B_compile_62 S hr hlk hK hE hA  (0 + kc_22) (0 + nc_22) hk_22 hn_22 r_22 T_22 (ps_wr u_22 z_41) a_22 f_22 hp_22 _ _ _ (lv_sub hl [1, 0] rfl) hw h
    · have h := h.1 q_44
      refine lv_aload_n S.1 S.2.1 d_B_compile_47 rfl (lv_at hl 1 rfl) ?_
      refine pg_named S hK hw d_B_compile_48 ?_
      refine lv_aload_n S.1 S.2.1 d_B_compile_51 rfl (lv_at hl 1 rfl) ?_
      refine pg_groups S hK hw d_B_compile_52 ?_
      refine lv_icmp_gt (tgt := 62) S.1 S.2.1 d_B_compile_55 (by decide) (fun q_55 => ?_) (fun q_55 => ?_)
      · have h := h.1 q_55
        exact wB_B_compile_62 S hr hlk hK hE hA  (0 + kc_22) (0 + nc_22) hk_22 hn_22 r_22 T_22 (ps_wr u_22 z_41) a_22 f_22 hp_22 _ _ _ (lv_sub hl [1, 0] rfl) hw h
      · have h := h.2 q_55
        refine lv_iconst (v := 1) S.1 S.2.1 d_B_compile_58 (by decide) ?_
        refine lv_goto (tgt := 63) S.1 S.2.1 d_B_compile_59 (by decide) ?_
        exact wB_B_compile_63 S hr hlk hK hE hA  (0 + kc_22) (0 + nc_22) hk_22 hn_22 r_22 T_22 (1 : Int32) (ps_wr u_22 z_41) a_22 f_22 hp_22 _ _ _ (lv_sub hl [1, 0] rfl) hw h
end PW
