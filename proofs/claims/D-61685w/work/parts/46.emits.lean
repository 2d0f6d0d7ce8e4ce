theorem k_78 : (Cond.fieldLink "PatternBench$Choice" 38 "PatternBench$Program" "x" "[I") ∈ lw_tg := kw 78 (by decide +kernel) (by decide +kernel)
theorem k_79 : (Cond.fieldLink "PatternBench$Repeat" 52 "PatternBench$Program" "x" "[I") ∈ lw_tg := kw 79 (by decide +kernel) (by decide +kernel)
theorem k_82 : (Cond.fieldLink "PatternBench$Choice" 53 "PatternBench$Program" "y" "[I") ∈ lw_tg := kw 82 (by decide +kernel) (by decide +kernel)
theorem k_83 : (Cond.fieldLink "PatternBench$Repeat" 59 "PatternBench$Program" "y" "[I") ∈ lw_tg := kw 83 (by decide +kernel) (by decide +kernel)
theorem k_84 : (Cond.fieldLink "PatternBench$Group" 61 "PatternBench$Program" "y" "[I") ∈ lw_tg := kw 84 (by decide +kernel) (by decide +kernel)
theorem k_89 : (Cond.fieldLink "PatternBench$Choice" 42 "PatternBench$Program" "length" "I") ∈ lw_tg := kw 89 (by decide +kernel) (by decide +kernel)
theorem k_90 : (Cond.fieldLink "PatternBench$Repeat" 56 "PatternBench$Program" "length" "I") ∈ lw_tg := kw 90 (by decide +kernel) (by decide +kernel)
theorem k_91 : (Cond.fieldLink "PatternBench$Group" 65 "PatternBench$Program" "length" "I") ∈ lw_tg := kw 91 (by decide +kernel) (by decide +kernel)
theorem k_667 : (Cond.fieldLink "PatternBench$Choice" 26 "PatternBench$Op" "SPLIT" "LPatternBench$Op;") ∈ lw_tg := kw 667 (by decide +kernel) (by decide +kernel)
theorem k_669 : (Cond.methodLink "PatternBench$Choice" 32 ⟨"PatternBench$Program", "add", "(LPatternBench$Op;II)I"⟩) ∈ lw_tg := kw 669 (by decide +kernel) (by decide +kernel)
theorem k_681 : (Cond.methodLink "PatternBench$Choice" 46 ⟨"PatternBench$Part", "emit", "(LPatternBench$Program;)V"⟩) ∈ lw_tg := kw 681 (by decide +kernel) (by decide +kernel)
theorem k_687 : (Cond.fieldLink "PatternBench$Group" 27 "PatternBench$Op" "STEP" "LPatternBench$Op;") ∈ lw_tg := kw 687 (by decide +kernel) (by decide +kernel)
theorem k_689 : (Cond.methodLink "PatternBench$Group" 33 ⟨"PatternBench$Program", "add", "(LPatternBench$Op;II)I"⟩) ∈ lw_tg := kw 689 (by decide +kernel) (by decide +kernel)
theorem k_691 : (Cond.methodLink "PatternBench$Group" 39 ⟨"PatternBench$Part", "emit", "(LPatternBench$Program;)V"⟩) ∈ lw_tg := kw 691 (by decide +kernel) (by decide +kernel)
theorem k_697 : (Cond.methodLink "PatternBench$Leaf" 17 ⟨"PatternBench$Program", "add", "(LPatternBench$Op;II)I"⟩) ∈ lw_tg := kw 697 (by decide +kernel) (by decide +kernel)
theorem k_703 : (Cond.fieldLink "PatternBench$Repeat" 30 "PatternBench$Op" "FENCE" "LPatternBench$Op;") ∈ lw_tg := kw 703 (by decide +kernel) (by decide +kernel)
theorem k_705 : (Cond.methodLink "PatternBench$Repeat" 36 ⟨"PatternBench$Program", "add", "(LPatternBench$Op;II)I"⟩) ∈ lw_tg := kw 705 (by decide +kernel) (by decide +kernel)
theorem k_707 : (Cond.methodLink "PatternBench$Repeat" 42 ⟨"PatternBench$Part", "emit", "(LPatternBench$Program;)V"⟩) ∈ lw_tg := kw 707 (by decide +kernel) (by decide +kernel)
theorem k_714 : (Cond.methodLink "PatternBench$Row" 26 ⟨"PatternBench$Part", "emit", "(LPatternBench$Program;)V"⟩) ∈ lw_tg := kw 714 (by decide +kernel) (by decide +kernel)
theorem k_715 : (Cond.methodLink "PatternBench$Repeat" 46 ⟨"PatternBench$Repeat", "star", "(LPatternBench$Program;)V"⟩) ∈ lw_tg := kw 715 (by decide +kernel) (by decide +kernel)
theorem k_717 : (Cond.instanceMethod ⟨"PatternBench$Repeat", "star", "(LPatternBench$Program;)V"⟩) ∈ lw_tg := kw 717 (by decide +kernel) (by decide +kernel)
theorem k_718 : (Cond.code ⟨"PatternBench$Repeat", "star", "(LPatternBench$Program;)V"⟩ prog_8_method_4_code 3 (Option.none : Option Jvm.ClassFile.FieldType)) ∈ lw_tg := kw 718 (by decide +kernel) (by decide +kernel)
theorem k_719 : (Cond.fieldLink "PatternBench$Repeat" 49 "PatternBench$Op" "SPLIT" "LPatternBench$Op;") ∈ lw_tg := kw 719 (by decide +kernel) (by decide +kernel)
theorem k_720 : (Cond.fieldLink "PatternBench$Repeat" 69 "PatternBench$Op" "MARK" "LPatternBench$Op;") ∈ lw_tg := kw 720 (by decide +kernel) (by decide +kernel)
theorem k_722 : (Cond.fieldLink "PatternBench$Repeat" 72 "PatternBench$Op" "MOVED" "LPatternBench$Op;") ∈ lw_tg := kw 722 (by decide +kernel) (by decide +kernel)
theorem k_724 : (Cond.methodLink "PatternBench$Repeat" 62 ⟨"PatternBench$Repeat", "swap", "(LPatternBench$Program;I)V"⟩) ∈ lw_tg := kw 724 (by decide +kernel) (by decide +kernel)
theorem k_725 : (Cond.static ⟨"PatternBench$Repeat", "swap", "(LPatternBench$Program;I)V"⟩) ∈ lw_tg := kw 725 (by decide +kernel) (by decide +kernel)
theorem k_726 : (Cond.code ⟨"PatternBench$Repeat", "swap", "(LPatternBench$Program;I)V"⟩ prog_8_method_5_code 3 (Option.none : Option Jvm.ClassFile.FieldType)) ∈ lw_tg := kw 726 (by decide +kernel) (by decide +kernel)
theorem k_727 : (Cond.fieldLink "PatternBench$Repeat" 66 "PatternBench$Op" "CUT" "LPatternBench$Op;") ∈ lw_tg := kw 727 (by decide +kernel) (by decide +kernel)
theorem k_729 : (Cond.fieldLink "PatternBench$Group" 43 "PatternBench$Op" "OPEN" "LPatternBench$Op;") ∈ lw_tg := kw 729 (by decide +kernel) (by decide +kernel)
theorem k_731 : (Cond.fieldLink "PatternBench$Group" 46 "PatternBench$Op" "CLOSE" "LPatternBench$Op;") ∈ lw_tg := kw 731 (by decide +kernel) (by decide +kernel)
theorem k_733 : (Cond.fieldLink "PatternBench$Group" 49 "PatternBench$Op" "FENCE" "LPatternBench$Op;") ∈ lw_tg := kw 733 (by decide +kernel) (by decide +kernel)
theorem k_734 : (Cond.fieldLink "PatternBench$Group" 52 "PatternBench$Op" "CUT" "LPatternBench$Op;") ∈ lw_tg := kw 734 (by decide +kernel) (by decide +kernel)
theorem k_735 : (Cond.fieldLink "PatternBench$Group" 55 "PatternBench$Op" "LOOK" "LPatternBench$Op;") ∈ lw_tg := kw 735 (by decide +kernel) (by decide +kernel)
theorem k_737 : (Cond.fieldLink "PatternBench$Group" 58 "PatternBench$Op" "NOT" "LPatternBench$Op;") ∈ lw_tg := kw 737 (by decide +kernel) (by decide +kernel)
theorem k_739 : (Cond.fieldLink "PatternBench$Choice" 50 "PatternBench$Op" "GO" "LPatternBench$Op;") ∈ lw_tg := kw 739 (by decide +kernel) (by decide +kernel)
theorem s_15 : (Cond.selects "PatternBench$Repeat" ⟨"PatternBench$Repeat", "star", "(LPatternBench$Program;)V"⟩ ⟨"PatternBench$Repeat", "star", "(LPatternBench$Program;)V"⟩) ∈ lw_tg := ks 15 (by decide +kernel) (by decide +kernel)
theorem d_Rep_swap_0 : decode b_Rep_swap 0 = .ok (.aload_n 0, 1) := by decide +kernel
theorem d_Rep_swap_1 : decode b_Rep_swap 1 = .ok (.getfield 52, 3) := by decide +kernel
theorem d_Rep_swap_4 : decode b_Rep_swap 4 = .ok (.iload_n 1, 1) := by decide +kernel
theorem d_Rep_swap_5 : decode b_Rep_swap 5 = .ok (.iaload, 1) := by decide +kernel
theorem d_Rep_swap_6 : decode b_Rep_swap 6 = .ok (.istore_n 2, 1) := by decide +kernel
theorem d_Rep_swap_7 : decode b_Rep_swap 7 = .ok (.aload_n 0, 1) := by decide +kernel
theorem d_Rep_swap_8 : decode b_Rep_swap 8 = .ok (.getfield 52, 3) := by decide +kernel
theorem d_Rep_swap_11 : decode b_Rep_swap 11 = .ok (.iload_n 1, 1) := by decide +kernel
theorem d_Rep_swap_12 : decode b_Rep_swap 12 = .ok (.aload_n 0, 1) := by decide +kernel
theorem d_Rep_swap_13 : decode b_Rep_swap 13 = .ok (.getfield 59, 3) := by decide +kernel
theorem d_Rep_swap_16 : decode b_Rep_swap 16 = .ok (.iload_n 1, 1) := by decide +kernel
theorem d_Rep_swap_17 : decode b_Rep_swap 17 = .ok (.iaload, 1) := by decide +kernel
theorem d_Rep_swap_18 : decode b_Rep_swap 18 = .ok (.iastore, 1) := by decide +kernel
theorem d_Rep_swap_19 : decode b_Rep_swap 19 = .ok (.aload_n 0, 1) := by decide +kernel
theorem d_Rep_swap_20 : decode b_Rep_swap 20 = .ok (.getfield 59, 3) := by decide +kernel
theorem d_Rep_swap_23 : decode b_Rep_swap 23 = .ok (.iload_n 1, 1) := by decide +kernel
theorem d_Rep_swap_24 : decode b_Rep_swap 24 = .ok (.iload_n 2, 1) := by decide +kernel
theorem d_Rep_swap_25 : decode b_Rep_swap 25 = .ok (.iastore, 1) := by decide +kernel
theorem d_Rep_swap_26 : decode b_Rep_swap 26 = .ok (.return_, 1) := by decide +kernel
def P_Rep_swap  (x1 : Int32) (u : PRS) (Qc : PRS → Prop) : Prop := (vp_in x1 (r_xN u) ∧ (∀ x2_6 : Int32, x2_6 = (r_xF u x1.toNatClampNeg) → (vp_in x1 (r_yN u) ∧ (vp_in x1 (r_xN u) ∧ (vp_in x1 (r_yN (rs_xF u (upd (r_xF u) x1.toNatClampNeg (r_yF u x1.toNatClampNeg)))) ∧ Qc (rs_yF (rs_xF u (upd (r_xF u) x1.toNatClampNeg (r_yF u x1.toNatClampNeg))) (upd (r_yF (rs_xF u (upd (r_xF u) x1.toNatClampNeg (r_yF u x1.toNatClampNeg)))) x1.toNatClampNeg x2_6)))))))
section MW
variable {p : Program} {l : Launch} {e : Env} {s : State} {m : MethodId} {args : Array Value} {below : List Frame} {meth : Method} {c : Code} {x : GX} {g : GE} {ex : va_W} {a : Nat → Nat} {A : Nat → Prop} {b r q : Nat}
set_option maxHeartbeats 4000000 in
set_option maxRecDepth 20000 in
theorem c_Rep_swap {x : GX} {g : GE} {b r : Nat} {ex : va_W} {a : Nat → Nat} (l : Launch)   (x1 : Int32) (u : PRS) (sz : Nat) (Qc : PRS → Prop) (h : P_Rep_swap  x1 u Qc) : Met l y_Rep_swap (wM y_Rep_swap b_Rep_swap 3 none) (rmN 0 0 0) (PreE x g (prl x g b) ex [.ref b, .int x1] a u sz) (QfV x (prl x g b) ex a (va_A ((prl x g b) a u ++ ex) sz) Qc) 0 0 (va_A ((prl x g b) a u ++ ex) sz) := by
  refine w_enterE (by decide +kernel) (Nat.le_of_ble_eq_true rfl) (fun p e s m args below meth c S hr hlk hnm hK hE hA hw ls hl => ?_)
  have hl : lv_has ls 3 [(0, .ref b), (1, .int x1)] := hl
  refine lv_aload_n S.1 S.2.1 d_Rep_swap_0 rfl (lv_at hl 0 rfl) ?_
  refine mm_pg S hK hw 1 (by decide) k_79 rfl d_Rep_swap_1 ?_
  refine lv_iload_n S.1 S.2.1 d_Rep_swap_4 rfl (lv_at hl 1 rfl) ?_
  have hg := h.1
  have h := h.2
  refine mm_xl S hK hw hg d_Rep_swap_5 ?_
  refine lv_topi (fun x2_6 ex2_6 => ?_)
  have h := h x2_6 ex2_6
  refine lv_istore_n (lv' := [(2, .int x2_6), (0, .ref b), (1, .int x1)]) S.1 S.2.1 d_Rep_swap_6 rfl hl (by decide) rfl (fun ls hl => ?_)
  refine lv_aload_n S.1 S.2.1 d_Rep_swap_7 rfl (lv_at hl 1 rfl) ?_
  refine mm_pg S hK hw 1 (by decide) k_79 rfl d_Rep_swap_8 ?_
  refine lv_iload_n S.1 S.2.1 d_Rep_swap_11 rfl (lv_at hl 2 rfl) ?_
  refine lv_aload_n S.1 S.2.1 d_Rep_swap_12 rfl (lv_at hl 1 rfl) ?_
  refine mm_pg S hK hw 2 (by decide) k_83 rfl d_Rep_swap_13 ?_
  refine lv_iload_n S.1 S.2.1 d_Rep_swap_16 rfl (lv_at hl 2 rfl) ?_
  have hg := h.1
  have h := h.2
  refine mm_yl S hK hw hg d_Rep_swap_17 ?_
  have hg := h.1
  have h := h.2
  refine mm_xs S hK hw hg d_Rep_swap_18 (fun H locs hw => ?_)
  refine lv_aload_n S.1 S.2.1 d_Rep_swap_19 rfl (lv_at hl 1 rfl) ?_
  refine mm_pg S hK hw 2 (by decide) k_83 rfl d_Rep_swap_20 ?_
  refine lv_iload_n S.1 S.2.1 d_Rep_swap_23 rfl (lv_at hl 2 rfl) ?_
  refine lv_iload_n S.1 S.2.1 d_Rep_swap_24 rfl (lv_at hl 0 rfl) ?_
  have hg := h.1
  have h := h.2
  refine mm_ys S hK hw hg d_Rep_swap_25 (fun H locs hw => ?_)
  exact w_vretF S hr hlk hw h d_Rep_swap_26
end MW
theorem d_Rep_star_0 : decode b_Rep_star 0 = .ok (.aload_n 1, 1) := by decide +kernel
theorem d_Rep_star_1 : decode b_Rep_star 1 = .ok (.getstatic 49, 3) := by decide +kernel
theorem d_Rep_star_4 : decode b_Rep_star 4 = .ok (.iconst 0, 1) := by decide +kernel
theorem d_Rep_star_5 : decode b_Rep_star 5 = .ok (.iconst 0, 1) := by decide +kernel
theorem d_Rep_star_6 : decode b_Rep_star 6 = .ok (.invokevirtual 36, 3) := by decide +kernel
theorem d_Rep_star_9 : decode b_Rep_star 9 = .ok (.istore_n 2, 1) := by decide +kernel
theorem d_Rep_star_10 : decode b_Rep_star 10 = .ok (.aload_n 1, 1) := by decide +kernel
theorem d_Rep_star_11 : decode b_Rep_star 11 = .ok (.getfield 52, 3) := by decide +kernel
theorem d_Rep_star_14 : decode b_Rep_star 14 = .ok (.iload_n 2, 1) := by decide +kernel
theorem d_Rep_star_15 : decode b_Rep_star 15 = .ok (.aload_n 1, 1) := by decide +kernel
theorem d_Rep_star_16 : decode b_Rep_star 16 = .ok (.getfield 56, 3) := by decide +kernel
theorem d_Rep_star_19 : decode b_Rep_star 19 = .ok (.iastore, 1) := by decide +kernel
theorem d_Rep_star_20 : decode b_Rep_star 20 = .ok (.aload_n 1, 1) := by decide +kernel
theorem d_Rep_star_21 : decode b_Rep_star 21 = .ok (.getstatic 69, 3) := by decide +kernel
theorem d_Rep_star_24 : decode b_Rep_star 24 = .ok (.iconst 0, 1) := by decide +kernel
theorem d_Rep_star_25 : decode b_Rep_star 25 = .ok (.iconst 0, 1) := by decide +kernel
theorem d_Rep_star_26 : decode b_Rep_star 26 = .ok (.invokevirtual 36, 3) := by decide +kernel
theorem d_Rep_star_29 : decode b_Rep_star 29 = .ok (.pop, 1) := by decide +kernel
theorem d_Rep_star_30 : decode b_Rep_star 30 = .ok (.aload_n 0, 1) := by decide +kernel
theorem d_Rep_star_31 : decode b_Rep_star 31 = .ok (.getfield 7, 3) := by decide +kernel
theorem d_Rep_star_34 : decode b_Rep_star 34 = .ok (.aload_n 1, 1) := by decide +kernel
theorem d_Rep_star_35 : decode b_Rep_star 35 = .ok (.invokeinterface 42 2, 5) := by decide +kernel
theorem d_Rep_star_40 : decode b_Rep_star 40 = .ok (.aload_n 1, 1) := by decide +kernel
theorem d_Rep_star_41 : decode b_Rep_star 41 = .ok (.getstatic 72, 3) := by decide +kernel
theorem d_Rep_star_44 : decode b_Rep_star 44 = .ok (.iload_n 2, 1) := by decide +kernel
theorem d_Rep_star_45 : decode b_Rep_star 45 = .ok (.iconst 0, 1) := by decide +kernel
theorem d_Rep_star_46 : decode b_Rep_star 46 = .ok (.invokevirtual 36, 3) := by decide +kernel
theorem d_Rep_star_49 : decode b_Rep_star 49 = .ok (.pop, 1) := by decide +kernel
theorem d_Rep_star_50 : decode b_Rep_star 50 = .ok (.aload_n 1, 1) := by decide +kernel
theorem d_Rep_star_51 : decode b_Rep_star 51 = .ok (.getfield 59, 3) := by decide +kernel
theorem d_Rep_star_54 : decode b_Rep_star 54 = .ok (.iload_n 2, 1) := by decide +kernel
theorem d_Rep_star_55 : decode b_Rep_star 55 = .ok (.aload_n 1, 1) := by decide +kernel
theorem d_Rep_star_56 : decode b_Rep_star 56 = .ok (.getfield 56, 3) := by decide +kernel
theorem d_Rep_star_59 : decode b_Rep_star 59 = .ok (.iastore, 1) := by decide +kernel
theorem d_Rep_star_60 : decode b_Rep_star 60 = .ok (.aload_n 0, 1) := by decide +kernel
theorem d_Rep_star_61 : decode b_Rep_star 61 = .ok (.getfield 21, 3) := by decide +kernel
theorem d_Rep_star_64 : decode b_Rep_star 64 = .ok (.bipush 63, 2) := by decide +kernel
theorem d_Rep_star_66 : decode b_Rep_star 66 = .ok (.if_icmp .ne 8, 3) := by decide +kernel
theorem d_Rep_star_69 : decode b_Rep_star 69 = .ok (.aload_n 1, 1) := by decide +kernel
theorem d_Rep_star_70 : decode b_Rep_star 70 = .ok (.iload_n 2, 1) := by decide +kernel
theorem d_Rep_star_71 : decode b_Rep_star 71 = .ok (.invokestatic 62, 3) := by decide +kernel
theorem d_Rep_star_74 : decode b_Rep_star 74 = .ok (.return_, 1) := by decide +kernel
def P_Rep_star (mn : Int32) (Ki : (Nat → Nat → PRS → (PRS → Prop) → Prop)) (bc bs : Nat)  (u : PRS) (Qc : PRS → Prop) : Prop := (∃ kc_6 nc_6 : Nat, 0 + kc_6 ≤ bc ∧ 0 + nc_6 ≤ bs ∧ P_Pr_add kc_6 nc_6 8 (0 : Int32) (0 : Int32) u (fun r_6 u_6 => (vp_in r_6 (r_xN u_6) ∧ (∃ kc_26 nc_26 : Nat, (0 + kc_6) + kc_26 ≤ bc ∧ (0 + nc_6) + nc_26 ≤ bs ∧ P_Pr_add kc_26 nc_26 10 (0 : Int32) (0 : Int32) (rs_xF u_6 (upd (r_xF u_6) r_6.toNatClampNeg (r_ln u_6))) (fun r_26 u_26 => (∃ kc_35 nc_35 : Nat, ((0 + kc_6) + kc_26) + kc_35 ≤ bc ∧ ((0 + nc_6) + nc_26) + nc_35 ≤ bs ∧ Ki kc_35 nc_35 u_26 (fun u_35 => (∃ kc_46 nc_46 : Nat, (((0 + kc_6) + kc_26) + kc_35) + kc_46 ≤ bc ∧ (((0 + nc_6) + nc_26) + nc_35) + nc_46 ≤ bs ∧ P_Pr_add kc_46 nc_46 11 r_6 (0 : Int32) u_35 (fun r_46 u_46 => (vp_in r_6 (r_yN u_46) ∧ ((mn = (63 : Int32) → P_Rep_swap r_6 (rs_yF u_46 (upd (r_yF u_46) r_6.toNatClampNeg (r_ln u_46))) (fun u_71 => Qc u_71)) ∧ (¬ mn = (63 : Int32) → Qc (rs_yF u_46 (upd (r_yF u_46) r_6.toNatClampNeg (r_ln u_46)))))))))))))))
section MW
variable {p : Program} {l : Launch} {e : Env} {s : State} {m : MethodId} {args : Array Value} {below : List Frame} {meth : Method} {c : Code} {x : GX} {g : GE} {ex : va_W} {a : Nat → Nat} {A : Nat → Prop} {b r q : Nat}
set_option maxHeartbeats 4000000 in
set_option maxRecDepth 20000 in
theorem c_Rep_star {x : GX} {g : GE} {b r : Nat} {ex : va_W} {a : Nat → Nat} (l : Launch) {lv q : Nat} {hw9 : Int32} {tm : Int32} {mn : Int32} {T : PT} {Ki : (Nat → Nat → PRS → (PRS → Prop) → Prop)} (hc : (r, .inr (9, [.ref q, .int hw9, .int tm, .int mn])) ∈ ex) (hT : TP x g ex T q) (hOK : EOK l x g T Ki lv) (bc bs : Nat)  (u : PRS) (sz : Nat) (Qc : PRS → Prop) (h : P_Rep_star mn Ki bc bs  u Qc) : Met l y_Rep_star (wM y_Rep_star b_Rep_star 3 none) (rmN (lv + 3) bc bs) (PreE x g (prl x g b) ex [.ref r, .ref b] a u sz) (QeV x (prl x g b) ex (va_A ((prl x g b) a u ++ ex) sz) Qc) bc bs (va_A ((prl x g b) a u ++ ex) sz) := by
  refine w_enterE (by decide +kernel) (Nat.le_of_ble_eq_true rfl) (fun p e s m args below meth c S hr hlk hnm hK hE hA hw ls hl => ?_)
  have hl : lv_has ls 3 [(0, .ref r), (1, .ref b)] := hl
  refine lv_aload_n S.1 S.2.1 d_Rep_star_0 rfl (lv_at hl 1 rfl) ?_
  refine p_op S hE hw.2.2 8 (by decide) rfl k_719 d_Rep_star_1 ?_
  refine lv_iconst (v := 0) S.1 S.2.1 d_Rep_star_4 (by decide) ?_
  refine lv_iconst (v := 0) S.1 S.2.1 d_Rep_star_5 (by decide) ?_
  obtain ⟨kc_6, nc_6, hk_6, hn_6, h⟩ := h
  refine mm_add (R := rmN (lv + 3) bc bs) (cells := 0) (slots := 0) (rest := []) S hK hE hA hw h k_705 (by show 3 ≤ lv + 3; omega) (by show 64 * 3 ≤ 64 * (lv + 3); omega) ⟨hk_6, hn_6⟩ hl.1 (Nat.le_of_ble_eq_true rfl) d_Rep_star_6 (fun r_6 u_6 a_6 H locs h hw => ?_)
  refine lv_istore_n (lv' := [(2, .int r_6), (0, .ref r), (1, .ref b)]) S.1 S.2.1 d_Rep_star_9 rfl hl (by decide) rfl (fun ls hl => ?_)
  refine lv_aload_n S.1 S.2.1 d_Rep_star_10 rfl (lv_at hl 2 rfl) ?_
  refine mm_pg S hK hw 1 (by decide) k_79 rfl d_Rep_star_11 ?_
  refine lv_iload_n S.1 S.2.1 d_Rep_star_14 rfl (lv_at hl 0 rfl) ?_
  refine lv_aload_n S.1 S.2.1 d_Rep_star_15 rfl (lv_at hl 2 rfl) ?_
  refine mm_pg S hK hw 4 (by decide) k_90 rfl d_Rep_star_16 ?_
  have hg := h.1
  have h := h.2
  refine mm_xs S hK hw hg d_Rep_star_19 (fun H locs hw => ?_)
  refine lv_aload_n S.1 S.2.1 d_Rep_star_20 rfl (lv_at hl 2 rfl) ?_
  refine p_op S hE hw.2.2 10 (by decide) rfl k_720 d_Rep_star_21 ?_
  refine lv_iconst (v := 0) S.1 S.2.1 d_Rep_star_24 (by decide) ?_
  refine lv_iconst (v := 0) S.1 S.2.1 d_Rep_star_25 (by decide) ?_
  obtain ⟨kc_26, nc_26, hk_26, hn_26, h⟩ := h
  refine mm_add (R := rmN (lv + 3) bc bs) (cells := (0 + kc_6)) (slots := (0 + nc_6)) (rest := []) S hK hE hA hw h k_705 (by show 3 ≤ lv + 3; omega) (by show 64 * 3 ≤ 64 * (lv + 3); omega) ⟨hk_26, hn_26⟩ hl.1 (Nat.le_of_ble_eq_true rfl) d_Rep_star_26 (fun r_26 u_26 a_26 H locs h hw => ?_)
  refine lv_pop S.1 S.2.1 d_Rep_star_29 rfl ?_
  refine lv_aload_n S.1 S.2.1 d_Rep_star_30 rfl (lv_at hl 1 rfl) ?_
  refine mm_fld S hK hw (List.mem_append_right (prl x g b a_26 u_26) hc) rfl i_Rep 0 (by decide) k_498 rfl d_Rep_star_31 ?_
  refine lv_aload_n S.1 S.2.1 d_Rep_star_34 rfl (lv_at hl 2 rfl) ?_
  obtain ⟨kc_35, nc_35, hk_35, hn_35, h⟩ := h
  refine mm_emit (R := rmN (lv + 3) bc bs) (cells := ((0 + kc_6) + kc_26)) (slots := ((0 + nc_6) + nc_26)) (rest := []) S hK hE hA hw hT hOK h k_707 (by show lv + 1 ≤ lv + 3; omega) (by show 64 * (lv + 1) ≤ 64 * (lv + 3); omega) ⟨hk_35, hn_35⟩ hl.1 (Nat.le_of_ble_eq_true rfl) d_Rep_star_35 (fun u_35 a_35 H locs h hw => ?_)
  refine lv_aload_n S.1 S.2.1 d_Rep_star_40 rfl (lv_at hl 2 rfl) ?_
  refine p_op S hE hw.2.2 11 (by decide) rfl k_722 d_Rep_star_41 ?_
  refine lv_iload_n S.1 S.2.1 d_Rep_star_44 rfl (lv_at hl 0 rfl) ?_
  refine lv_iconst (v := 0) S.1 S.2.1 d_Rep_star_45 (by decide) ?_
  obtain ⟨kc_46, nc_46, hk_46, hn_46, h⟩ := h
  refine mm_add (R := rmN (lv + 3) bc bs) (cells := (((0 + kc_6) + kc_26) + kc_35)) (slots := (((0 + nc_6) + nc_26) + nc_35)) (rest := []) S hK hE hA hw h k_705 (by show 3 ≤ lv + 3; omega) (by show 64 * 3 ≤ 64 * (lv + 3); omega) ⟨hk_46, hn_46⟩ hl.1 (Nat.le_of_ble_eq_true rfl) d_Rep_star_46 (fun r_46 u_46 a_46 H locs h hw => ?_)
  refine lv_pop S.1 S.2.1 d_Rep_star_49 rfl ?_
  refine lv_aload_n S.1 S.2.1 d_Rep_star_50 rfl (lv_at hl 2 rfl) ?_
  refine mm_pg S hK hw 2 (by decide) k_83 rfl d_Rep_star_51 ?_
  refine lv_iload_n S.1 S.2.1 d_Rep_star_54 rfl (lv_at hl 0 rfl) ?_
  refine lv_aload_n S.1 S.2.1 d_Rep_star_55 rfl (lv_at hl 2 rfl) ?_
  refine mm_pg S hK hw 4 (by decide) k_90 rfl d_Rep_star_56 ?_
  have hg := h.1
  have h := h.2
  refine mm_ys S hK hw hg d_Rep_star_59 (fun H locs hw => ?_)
  refine lv_aload_n S.1 S.2.1 d_Rep_star_60 rfl (lv_at hl 1 rfl) ?_
  refine mm_fld S hK hw (List.mem_append_right (prl x g b a_46 (rs_yF u_46 (upd (r_yF u_46) r_6.toNatClampNeg (r_ln u_46)))) hc) rfl i_Rep 3 (by decide) k_501 rfl d_Rep_star_61 ?_
  refine lv_bipush (v := 63) S.1 S.2.1 d_Rep_star_64 (by decide) ?_
  refine lv_icmp_ne (tgt := 74) S.1 S.2.1 d_Rep_star_66 (by decide) (fun q_66 => ?_) (fun q_66 => ?_)
  · have h := h.2 q_66
    refine W.widen (k := bc) (n := bs) hk_46 hn_46 ?_
    exact w_vretE S hr hlk hw h d_Rep_star_74
  · have h := h.1 q_66
    refine lv_aload_n S.1 S.2.1 d_Rep_star_69 rfl (lv_at hl 2 rfl) ?_
    refine lv_iload_n S.1 S.2.1 d_Rep_star_70 rfl (lv_at hl 0 rfl) ?_
    refine w_cvF hA hw (w_rsE (rest := []) S hK hE hA hw (c_Rep_swap (r := 0) l r_6 (rs_yF u_46 (upd (r_yF u_46) r_6.toNatClampNeg (r_ln u_46))) _ _ h) (w_cb (fr := 0) (lv := 0) S.2.2.2.2 k_726 k_724 k_23 yd_Rep_swap rfl rfl ⟨by show 0 + 1 ≤ lv + 3; omega, by show 8 + (3 + 11) + 64 * 0 ≤ 64 * (lv + 3); omega⟩) k_725 rfl hl.1 rfl (Nat.le_of_ble_eq_true rfl) d_Rep_star_71 ⟨hk_46, hn_46⟩) (fun u_71 H locs h hw => ?_)
    refine W.widen (k := bc) (n := bs) hk_46 hn_46 ?_
    exact w_vretE S hr hlk hw h d_Rep_star_74
end MW
def P_Leaf_emit (op : Nat) (n : Int32) (bc bs : Nat)  (u : PRS) (Qc : PRS → Prop) : Prop := (∃ kc_10 nc_10 : Nat, 0 + kc_10 ≤ bc ∧ 0 + nc_10 ≤ bs ∧ P_Pr_add kc_10 nc_10 op n (0 : Int32) u (fun r_10 u_10 => Qc u_10))
section MW
variable {p : Program} {l : Launch} {e : Env} {s : State} {m : MethodId} {args : Array Value} {below : List Frame} {meth : Method} {c : Code} {x : GX} {g : GE} {ex : va_W} {a : Nat → Nat} {A : Nat → Prop} {b r q : Nat}
set_option maxHeartbeats 4000000 in
set_option maxRecDepth 20000 in
theorem c_Leaf_emit {x : GX} {g : GE} {b r : Nat} {ex : va_W} {a : Nat → Nat} (l : Launch) {lv : Nat} {op : Nat} {n : Int32} (hc : (r, .inr (5, [.ref (g.1 op), .int n])) ∈ ex) (bc bs : Nat)  (u : PRS) (sz : Nat) (Qc : PRS → Prop) (h : P_Leaf_emit op n bc bs  u Qc) : Met l y_Leaf_emit (wM y_Leaf_emit b_Leaf_emit 2 none) (rmN (lv + 4) bc bs) (PreE x g (prl x g b) ex [.ref r, .ref b] a u sz) (QeV x (prl x g b) ex (va_A ((prl x g b) a u ++ ex) sz) Qc) bc bs (va_A ((prl x g b) a u ++ ex) sz) := by
  refine w_enterE (by decide +kernel) (Nat.le_of_ble_eq_true rfl) (fun p e s m args below meth c S hr hlk hnm hK hE hA hw ls hl => ?_)
  have hl : lv_has ls 2 [(0, .ref r), (1, .ref b)] := hl
  refine lv_aload_n S.1 S.2.1 d_Leaf_emit_0 rfl (lv_at hl 1 rfl) ?_
  refine lv_aload_n S.1 S.2.1 d_Leaf_emit_1 rfl (lv_at hl 0 rfl) ?_
  refine mm_fld S hK hw (List.mem_append_right (prl x g b a u) hc) rfl i_Leaf 0 (by decide) k_432 rfl d_Leaf_emit_2 ?_
  refine lv_aload_n S.1 S.2.1 d_Leaf_emit_5 rfl (lv_at hl 0 rfl) ?_
  refine mm_fld S hK hw (List.mem_append_right (prl x g b a u) hc) rfl i_Leaf 1 (by decide) k_433 rfl d_Leaf_emit_6 ?_
  refine lv_iconst (v := 0) S.1 S.2.1 d_Leaf_emit_9 (by decide) ?_
  obtain ⟨kc_10, nc_10, hk_10, hn_10, h⟩ := h
  refine mm_add (R := rmN (lv + 4) bc bs) (cells := 0) (slots := 0) (rest := []) S hK hE hA hw h k_697 (by show 3 ≤ lv + 4; omega) (by show 64 * 3 ≤ 64 * (lv + 4); omega) ⟨hk_10, hn_10⟩ hl.1 (Nat.le_of_ble_eq_true rfl) d_Leaf_emit_10 (fun r_10 u_10 a_10 H locs h hw => ?_)
  refine lv_pop S.1 S.2.1 d_Leaf_emit_13 rfl ?_
  refine W.widen (k := bc) (n := bs) hk_10 hn_10 ?_
  exact w_vretE S hr hlk hw h d_Leaf_emit_14
end MW
theorem d_Row_emit_0 : decode b_Row_emit 0 = .ok (.iconst 0, 1) := by decide +kernel
theorem d_Row_emit_1 : decode b_Row_emit 1 = .ok (.istore_n 2, 1) := by decide +kernel
theorem d_Row_emit_2 : decode b_Row_emit 2 = .ok (.iload_n 2, 1) := by decide +kernel
theorem d_Row_emit_3 : decode b_Row_emit 3 = .ok (.aload_n 0, 1) := by decide +kernel
theorem d_Row_emit_4 : decode b_Row_emit 4 = .ok (.getfield 7, 3) := by decide +kernel
theorem d_Row_emit_7 : decode b_Row_emit 7 = .ok (.invokevirtual 13, 3) := by decide +kernel
theorem d_Row_emit_10 : decode b_Row_emit 10 = .ok (.if_icmp .ge 26, 3) := by decide +kernel
theorem d_Row_emit_13 : decode b_Row_emit 13 = .ok (.aload_n 0, 1) := by decide +kernel
theorem d_Row_emit_14 : decode b_Row_emit 14 = .ok (.getfield 7, 3) := by decide +kernel
theorem d_Row_emit_17 : decode b_Row_emit 17 = .ok (.iload_n 2, 1) := by decide +kernel
theorem d_Row_emit_18 : decode b_Row_emit 18 = .ok (.invokevirtual 19, 3) := by decide +kernel
theorem d_Row_emit_21 : decode b_Row_emit 21 = .ok (.checkcast 23, 3) := by decide +kernel
theorem d_Row_emit_24 : decode b_Row_emit 24 = .ok (.aload_n 1, 1) := by decide +kernel
theorem d_Row_emit_25 : decode b_Row_emit 25 = .ok (.invokeinterface 26 2, 5) := by decide +kernel
theorem d_Row_emit_30 : decode b_Row_emit 30 = .ok (.iinc 2 1, 3) := by decide +kernel
theorem d_Row_emit_33 : decode b_Row_emit 33 = .ok (.goto (-31), 3) := by decide +kernel
theorem d_Row_emit_36 : decode b_Row_emit 36 = .ok (.return_, 1) := by decide +kernel
def L_Row_emit_2 (t : PT) (Kl : Nat → (Nat → Nat → PRS → (PRS → Prop) → Prop)) (Qc : PRS → Prop) (bc bs : Nat)  : Nat → Nat → Nat → Int32 → PRS → Prop
  | 0, _, _, _, _ => False
  | n + 1, k, n0, x2, u => (((nI (tlen t)) ≤ x2 → Qc u) ∧ (¬ (nI (tlen t)) ≤ x2 → (∃ i_18 : Nat, x2 = nI i_18 ∧ i_18 < tlen t ∧ (∃ kc_25 nc_25 : Nat, k + kc_25 ≤ bc ∧ n0 + nc_25 ≤ bs ∧ (Kl i_18) kc_25 nc_25 u (fun u_25 => (∀ x2_30 : Int32, x2_30 = x2 + 1 → (L_Row_emit_2 t Kl Qc bc bs n) (k + kc_25) (n0 + nc_25) x2_30 u_25))))))
def P_Row_emit (t : PT) (Kl : Nat → (Nat → Nat → PRS → (PRS → Prop) → Prop)) (bc bs : Nat)  (u : PRS) (Qc : PRS → Prop) : Prop := ∃ n, L_Row_emit_2 t Kl Qc bc bs  n 0 0 (0 : Int32) u
section MW
variable {p : Program} {l : Launch} {e : Env} {s : State} {m : MethodId} {args : Array Value} {below : List Frame} {meth : Method} {c : Code} {x : GX} {g : GE} {ex : va_W} {a : Nat → Nat} {A : Nat → Prop} {b r q : Nat}
set_option maxHeartbeats 4000000 in
set_option maxRecDepth 20000 in
theorem wL_Row_emit_2 {lv q : Nat} {t : PT} {Kl : Nat → (Nat → Nat → PRS → (PRS → Prop) → Prop)} (hc : (r, .inr (6, [.ref q])) ∈ ex) (hL : LI x g ex q t) (hOK : ∀ i, i < tlen t → EOK l x g (tnth t i) (Kl i) lv) (S : CallFix p m c b_Row_emit 3 s args lw_tg "PatternBench$Row") (hr : meth.sig.returnType = none) (hlk : meth.locks = false) (hK : GK x s) (hE : EN g A s s.heap) (hA : ∀ q : Nat, s.heap.size ≤ q → A q) {Qc : PRS → Prop} {bc bs : Nat}  : ∀ (n : Nat) (k n0 : Nat) (hk : k ≤ bc) (hn : n0 ≤ bs) (x2 : Int32) (u : PRS) (a : Nat → Nat) (ls : Array Slot) (H : Heap) (locs : List Loc), lv_has ls 3 [(0, .ref r), (1, .ref b), (2, .int x2)] → wd x A s.heap ((prl x g b) a u ++ ex) H locs → L_Row_emit_2 t Kl Qc bc bs  n k n0 x2 u → W p l e (rmN (lv + 4) bc bs) s m args below meth c H locs k n0 (MQ below (QeV x (prl x g b) ex A Qc) args s bc bs A) (F0 m 2 ls []) := by
  intro n
  induction n with
  | zero =>
    intro k n0 hk hn x2 u a ls H locs hl hw h
    exact absurd h id
  | succ n ih =>
    intro k n0 hk hn x2 u a ls H locs hl hw h
    refine lv_iload_n S.1 S.2.1 d_Row_emit_2 rfl (lv_at hl 2 rfl) ?_
    refine lv_aload_n S.1 S.2.1 d_Row_emit_3 rfl (lv_at hl 0 rfl) ?_
    refine mm_fld S hK hw (List.mem_append_right (prl x g b a u) hc) rfl i_Row 0 (by decide) k_560 rfl d_Row_emit_4 ?_
    refine mm_size (R := rmN (lv + 4) bc bs) (cells := k) (slots := n0) (rest := [.int x2]) S hK hE hA hw (hL.mono (fun _ h9 => List.mem_append_right (prl x g b a u) h9)) k_653 (by show 3 ≤ lv + 4; omega) (by show 64 * 3 ≤ 64 * (lv + 4); omega) ⟨hk, hn⟩ hl.1 (Nat.le_of_ble_eq_true rfl) d_Row_emit_7 (fun H locs hw => ?_)
    refine lv_icmp_ge (tgt := 36) S.1 S.2.1 d_Row_emit_10 (by decide) (fun q_10 => ?_) (fun q_10 => ?_)
    · have h := h.1 q_10
      refine W.widen (k := bc) (n := bs) hk hn ?_
      exact w_vretE S hr hlk hw h d_Row_emit_36
    · have h := h.2 q_10
      refine lv_aload_n S.1 S.2.1 d_Row_emit_13 rfl (lv_at hl 0 rfl) ?_
      refine mm_fld S hK hw (List.mem_append_right (prl x g b a u) hc) rfl i_Row 0 (by decide) k_560 rfl d_Row_emit_14 ?_
      refine lv_iload_n S.1 S.2.1 d_Row_emit_17 rfl (lv_at hl 2 rfl) ?_
      obtain ⟨i_18, ei_18, hi_18, h⟩ := h
      refine mm_get (R := rmN (lv + 4) bc bs) (cells := k) (slots := n0) (rest := []) S hK hE hA hw (fun _ h9 => List.mem_append_right (prl x g b a u) h9) hL ei_18 hi_18 k_654 k_655 (by show 3 ≤ lv + 4; omega) (by show 64 * 3 ≤ 64 * (lv + 4); omega) ⟨hk, hn⟩ hl.1 (Nat.le_of_ble_eq_true rfl) d_Row_emit_18 d_Row_emit_21 (fun r_18 H locs hT_18 hw => ?_)
      refine lv_aload_n S.1 S.2.1 d_Row_emit_24 rfl (lv_at hl 1 rfl) ?_
      obtain ⟨kc_25, nc_25, hk_25, hn_25, h⟩ := h
      refine mm_emit (R := rmN (lv + 4) bc bs) (cells := k) (slots := n0) (rest := []) S hK hE hA hw hT_18 (hOK _ hi_18) h k_714 (by show lv + 1 ≤ lv + 4; omega) (by show 64 * (lv + 1) ≤ 64 * (lv + 4); omega) ⟨hk_25, hn_25⟩ hl.1 (Nat.le_of_ble_eq_true rfl) d_Row_emit_25 (fun u_25 a_25 H locs h hw => ?_)
      obtain ⟨x2_30, ex2_30⟩ : ∃ y : Int32, y = x2 + 1 := ⟨_, rfl⟩
      have h := h x2_30 ex2_30
      refine lv_iinc (v := x2_30) (lv' := [(2, .int x2_30), (0, .ref r), (1, .ref b)]) S.1 S.2.1 d_Row_emit_30 hl (k := 2) rfl (by rw [ex2_30]; rfl) (by decide) rfl (fun ls hl => ?_)
      refine lv_goto (tgt := 2) S.1 S.2.1 d_Row_emit_33 (by decide) ?_
      exact ih (k + kc_25) (n0 + nc_25) hk_25 hn_25 x2_30 u_25 a_25 _ _ _ (lv_sub hl [1, 2, 0] rfl) hw h
set_option maxHeartbeats 4000000 in
set_option maxRecDepth 20000 in
theorem c_Row_emit {x : GX} {g : GE} {b r : Nat} {ex : va_W} {a : Nat → Nat} (l : Launch) {lv q : Nat} {t : PT} {Kl : Nat → (Nat → Nat → PRS → (PRS → Prop) → Prop)} (hc : (r, .inr (6, [.ref q])) ∈ ex) (hL : LI x g ex q t) (hOK : ∀ i, i < tlen t → EOK l x g (tnth t i) (Kl i) lv) (bc bs : Nat)  (u : PRS) (sz : Nat) (Qc : PRS → Prop) (h : P_Row_emit t Kl bc bs  u Qc) : Met l y_Row_emit (wM y_Row_emit b_Row_emit 3 none) (rmN (lv + 4) bc bs) (PreE x g (prl x g b) ex [.ref r, .ref b] a u sz) (QeV x (prl x g b) ex (va_A ((prl x g b) a u ++ ex) sz) Qc) bc bs (va_A ((prl x g b) a u ++ ex) sz) := by
  refine w_enterE (by decide +kernel) (Nat.le_of_ble_eq_true rfl) (fun p e s m args below meth c S hr hlk hnm hK hE hA hw ls hl => ?_)
  have hl : lv_has ls 3 [(0, .ref r), (1, .ref b)] := hl
  refine lv_iconst (v := 0) S.1 S.2.1 d_Row_emit_0 (by decide) ?_
  refine lv_istore_n (lv' := [(2, .int (0 : Int32)), (0, .ref r), (1, .ref b)]) S.1 S.2.1 d_Row_emit_1 rfl hl (by decide) rfl (fun ls hl => ?_)
  obtain ⟨n9, h⟩ := h
  exact wL_Row_emit_2 hc hL hOK S hr hlk hK hE hA  n9 0 0 (Nat.zero_le _) (Nat.zero_le _) (0 : Int32) u a _ _ _ (lv_sub hl [1, 2, 0] rfl) hw h
end MW
theorem d_Cho_emit_0 : decode b_Cho_emit 0 = .ok (.iconst (-1), 1) := by decide +kernel
theorem d_Cho_emit_1 : decode b_Cho_emit 1 = .ok (.istore_n 2, 1) := by decide +kernel
theorem d_Cho_emit_2 : decode b_Cho_emit 2 = .ok (.iconst 0, 1) := by decide +kernel
theorem d_Cho_emit_3 : decode b_Cho_emit 3 = .ok (.istore_n 3, 1) := by decide +kernel
theorem d_Cho_emit_4 : decode b_Cho_emit 4 = .ok (.iload_n 3, 1) := by decide +kernel
theorem d_Cho_emit_5 : decode b_Cho_emit 5 = .ok (.aload_n 0, 1) := by decide +kernel
theorem d_Cho_emit_6 : decode b_Cho_emit 6 = .ok (.getfield 7, 3) := by decide +kernel
theorem d_Cho_emit_9 : decode b_Cho_emit 9 = .ok (.invokevirtual 13, 3) := by decide +kernel
theorem d_Cho_emit_12 : decode b_Cho_emit 12 = .ok (.if_icmp .ge 111, 3) := by decide +kernel
theorem d_Cho_emit_15 : decode b_Cho_emit 15 = .ok (.iload_n 3, 1) := by decide +kernel
theorem d_Cho_emit_16 : decode b_Cho_emit 16 = .ok (.iconst 1, 1) := by decide +kernel
theorem d_Cho_emit_17 : decode b_Cho_emit 17 = .ok (.iadd, 1) := by decide +kernel
theorem d_Cho_emit_18 : decode b_Cho_emit 18 = .ok (.aload_n 0, 1) := by decide +kernel
theorem d_Cho_emit_19 : decode b_Cho_emit 19 = .ok (.getfield 7, 3) := by decide +kernel
theorem d_Cho_emit_22 : decode b_Cho_emit 22 = .ok (.invokevirtual 13, 3) := by decide +kernel
theorem d_Cho_emit_25 : decode b_Cho_emit 25 = .ok (.if_icmp .ge 7, 3) := by decide +kernel
theorem d_Cho_emit_28 : decode b_Cho_emit 28 = .ok (.iconst 1, 1) := by decide +kernel
theorem d_Cho_emit_29 : decode b_Cho_emit 29 = .ok (.goto 4, 3) := by decide +kernel
theorem d_Cho_emit_32 : decode b_Cho_emit 32 = .ok (.iconst 0, 1) := by decide +kernel
theorem d_Cho_emit_33 : decode b_Cho_emit 33 = .ok (.istore 4, 2) := by decide +kernel
theorem d_Cho_emit_35 : decode b_Cho_emit 35 = .ok (.iload 4, 2) := by decide +kernel
theorem d_Cho_emit_37 : decode b_Cho_emit 37 = .ok (.ifCond .eq 15, 3) := by decide +kernel
theorem d_Cho_emit_40 : decode b_Cho_emit 40 = .ok (.aload_n 1, 1) := by decide +kernel
theorem d_Cho_emit_41 : decode b_Cho_emit 41 = .ok (.getstatic 26, 3) := by decide +kernel
theorem d_Cho_emit_44 : decode b_Cho_emit 44 = .ok (.iconst 0, 1) := by decide +kernel
theorem d_Cho_emit_45 : decode b_Cho_emit 45 = .ok (.iconst 0, 1) := by decide +kernel
theorem d_Cho_emit_46 : decode b_Cho_emit 46 = .ok (.invokevirtual 32, 3) := by decide +kernel
theorem d_Cho_emit_49 : decode b_Cho_emit 49 = .ok (.goto 4, 3) := by decide +kernel
theorem d_Cho_emit_52 : decode b_Cho_emit 52 = .ok (.iconst (-1), 1) := by decide +kernel
theorem d_Cho_emit_53 : decode b_Cho_emit 53 = .ok (.istore 5, 2) := by decide +kernel
theorem d_Cho_emit_55 : decode b_Cho_emit 55 = .ok (.iload 4, 2) := by decide +kernel
theorem d_Cho_emit_57 : decode b_Cho_emit 57 = .ok (.ifCond .eq 14, 3) := by decide +kernel
theorem d_Cho_emit_60 : decode b_Cho_emit 60 = .ok (.aload_n 1, 1) := by decide +kernel
theorem d_Cho_emit_61 : decode b_Cho_emit 61 = .ok (.getfield 38, 3) := by decide +kernel
theorem d_Cho_emit_64 : decode b_Cho_emit 64 = .ok (.iload 5, 2) := by decide +kernel
theorem d_Cho_emit_66 : decode b_Cho_emit 66 = .ok (.aload_n 1, 1) := by decide +kernel
theorem d_Cho_emit_67 : decode b_Cho_emit 67 = .ok (.getfield 42, 3) := by decide +kernel
theorem d_Cho_emit_70 : decode b_Cho_emit 70 = .ok (.iastore, 1) := by decide +kernel
theorem d_Cho_emit_71 : decode b_Cho_emit 71 = .ok (.aload_n 0, 1) := by decide +kernel
theorem d_Cho_emit_72 : decode b_Cho_emit 72 = .ok (.getfield 7, 3) := by decide +kernel
theorem d_Cho_emit_75 : decode b_Cho_emit 75 = .ok (.iload_n 3, 1) := by decide +kernel
theorem d_Cho_emit_76 : decode b_Cho_emit 76 = .ok (.invokevirtual 19, 3) := by decide +kernel
theorem d_Cho_emit_79 : decode b_Cho_emit 79 = .ok (.checkcast 23, 3) := by decide +kernel
theorem d_Cho_emit_82 : decode b_Cho_emit 82 = .ok (.aload_n 1, 1) := by decide +kernel
theorem d_Cho_emit_83 : decode b_Cho_emit 83 = .ok (.invokeinterface 46 2, 5) := by decide +kernel
theorem d_Cho_emit_88 : decode b_Cho_emit 88 = .ok (.iload 4, 2) := by decide +kernel
theorem d_Cho_emit_90 : decode b_Cho_emit 90 = .ok (.ifCond .ne 6, 3) := by decide +kernel
theorem d_Cho_emit_93 : decode b_Cho_emit 93 = .ok (.goto 24, 3) := by decide +kernel
theorem d_Cho_emit_96 : decode b_Cho_emit 96 = .ok (.aload_n 1, 1) := by decide +kernel
theorem d_Cho_emit_97 : decode b_Cho_emit 97 = .ok (.getstatic 50, 3) := by decide +kernel
theorem d_Cho_emit_100 : decode b_Cho_emit 100 = .ok (.iload_n 2, 1) := by decide +kernel
theorem d_Cho_emit_101 : decode b_Cho_emit 101 = .ok (.iconst 0, 1) := by decide +kernel
theorem d_Cho_emit_102 : decode b_Cho_emit 102 = .ok (.invokevirtual 32, 3) := by decide +kernel
theorem d_Cho_emit_105 : decode b_Cho_emit 105 = .ok (.istore_n 2, 1) := by decide +kernel
theorem d_Cho_emit_106 : decode b_Cho_emit 106 = .ok (.aload_n 1, 1) := by decide +kernel
theorem d_Cho_emit_107 : decode b_Cho_emit 107 = .ok (.getfield 53, 3) := by decide +kernel
theorem d_Cho_emit_110 : decode b_Cho_emit 110 = .ok (.iload 5, 2) := by decide +kernel
theorem d_Cho_emit_112 : decode b_Cho_emit 112 = .ok (.aload_n 1, 1) := by decide +kernel
theorem d_Cho_emit_113 : decode b_Cho_emit 113 = .ok (.getfield 42, 3) := by decide +kernel
theorem d_Cho_emit_116 : decode b_Cho_emit 116 = .ok (.iastore, 1) := by decide +kernel
theorem d_Cho_emit_117 : decode b_Cho_emit 117 = .ok (.iinc 3 1, 3) := by decide +kernel
theorem d_Cho_emit_120 : decode b_Cho_emit 120 = .ok (.goto (-116), 3) := by decide +kernel
theorem d_Cho_emit_123 : decode b_Cho_emit 123 = .ok (.iload_n 2, 1) := by decide +kernel
theorem d_Cho_emit_124 : decode b_Cho_emit 124 = .ok (.ifCond .lt 25, 3) := by decide +kernel
theorem d_Cho_emit_127 : decode b_Cho_emit 127 = .ok (.aload_n 1, 1) := by decide +kernel
theorem d_Cho_emit_128 : decode b_Cho_emit 128 = .ok (.getfield 38, 3) := by decide +kernel
theorem d_Cho_emit_131 : decode b_Cho_emit 131 = .ok (.iload_n 2, 1) := by decide +kernel
theorem d_Cho_emit_132 : decode b_Cho_emit 132 = .ok (.iaload, 1) := by decide +kernel
theorem d_Cho_emit_133 : decode b_Cho_emit 133 = .ok (.istore_n 3, 1) := by decide +kernel
theorem d_Cho_emit_134 : decode b_Cho_emit 134 = .ok (.aload_n 1, 1) := by decide +kernel
theorem d_Cho_emit_135 : decode b_Cho_emit 135 = .ok (.getfield 38, 3) := by decide +kernel
theorem d_Cho_emit_138 : decode b_Cho_emit 138 = .ok (.iload_n 2, 1) := by decide +kernel
theorem d_Cho_emit_139 : decode b_Cho_emit 139 = .ok (.aload_n 1, 1) := by decide +kernel
theorem d_Cho_emit_140 : decode b_Cho_emit 140 = .ok (.getfield 42, 3) := by decide +kernel
theorem d_Cho_emit_143 : decode b_Cho_emit 143 = .ok (.iastore, 1) := by decide +kernel
theorem d_Cho_emit_144 : decode b_Cho_emit 144 = .ok (.iload_n 3, 1) := by decide +kernel
theorem d_Cho_emit_145 : decode b_Cho_emit 145 = .ok (.istore_n 2, 1) := by decide +kernel
theorem d_Cho_emit_146 : decode b_Cho_emit 146 = .ok (.goto (-23), 3) := by decide +kernel
theorem d_Cho_emit_149 : decode b_Cho_emit 149 = .ok (.return_, 1) := by decide +kernel
def L_Cho_emit_123 (t : PT) (Kl : Nat → (Nat → Nat → PRS → (PRS → Prop) → Prop)) (Qc : PRS → Prop) (bc bs : Nat)  : Nat → Nat → Nat → Int32 → PRS → Prop
  | 0, _, _, _, _ => False
  | n + 1, k, n0, x2, u => ((x2 < (0 : Int32) → Qc u) ∧ (¬ x2 < (0 : Int32) → (vp_in x2 (r_xN u) ∧ (∀ x3_133 : Int32, x3_133 = (r_xF u x2.toNatClampNeg) → (vp_in x2 (r_xN u) ∧ (L_Cho_emit_123 t Kl Qc bc bs n) k n0 x3_133 (rs_xF u (upd (r_xF u) x2.toNatClampNeg (r_ln u))))))))
def B_Cho_emit_117 (t : PT) (Kl : Nat → (Nat → Nat → PRS → (PRS → Prop) → Prop)) (Qc : PRS → Prop) (bc bs : Nat) (K4 : Nat → Nat → Int32 → Int32 → PRS → Prop) (k n0 : Nat) (x2 : Int32) (x3 : Int32) (u : PRS) : Prop := (∀ x3_117 : Int32, x3_117 = x3 + 1 → K4 k n0 x2 x3_117 u)
def B_Cho_emit_71 (t : PT) (Kl : Nat → (Nat → Nat → PRS → (PRS → Prop) → Prop)) (Qc : PRS → Prop) (bc bs : Nat) (K4 : Nat → Nat → Int32 → Int32 → PRS → Prop) (k n0 : Nat) (x2 : Int32) (x3 : Int32) (x4 : Int32) (x5 : Int32) (u : PRS) : Prop := (∃ i_76 : Nat, x3 = nI i_76 ∧ i_76 < tlen t ∧ (∃ kc_83 nc_83 : Nat, k + kc_83 ≤ bc ∧ n0 + nc_83 ≤ bs ∧ (Kl i_76) kc_83 nc_83 u (fun u_83 => ((x4 = (0 : Int32) → B_Cho_emit_117 t Kl Qc bc bs K4 (k + kc_83) (n0 + nc_83) x2 x3 u_83) ∧ (¬ x4 = (0 : Int32) → (∃ kc_102 nc_102 : Nat, (k + kc_83) + kc_102 ≤ bc ∧ (n0 + nc_83) + nc_102 ≤ bs ∧ P_Pr_add kc_102 nc_102 9 x2 (0 : Int32) u_83 (fun r_102 u_102 => (vp_in x5 (r_yN u_102) ∧ B_Cho_emit_117 t Kl Qc bc bs K4 ((k + kc_83) + kc_102) ((n0 + nc_83) + nc_102) r_102 x3 (rs_yF u_102 (upd (r_yF u_102) x5.toNatClampNeg (r_ln u_102)))))))))))
def B_Cho_emit_53 (t : PT) (Kl : Nat → (Nat → Nat → PRS → (PRS → Prop) → Prop)) (Qc : PRS → Prop) (bc bs : Nat) (K4 : Nat → Nat → Int32 → Int32 → PRS → Prop) (k n0 : Nat) (x2 : Int32) (x3 : Int32) (x4 : Int32) (t0 : Int32) (u : PRS) : Prop := ((x4 = (0 : Int32) → B_Cho_emit_71 t Kl Qc bc bs K4 k n0 x2 x3 x4 t0 u) ∧ (¬ x4 = (0 : Int32) → (vp_in t0 (r_xN u) ∧ B_Cho_emit_71 t Kl Qc bc bs K4 k n0 x2 x3 x4 t0 (rs_xF u (upd (r_xF u) t0.toNatClampNeg (r_ln u))))))
def B_Cho_emit_33 (t : PT) (Kl : Nat → (Nat → Nat → PRS → (PRS → Prop) → Prop)) (Qc : PRS → Prop) (bc bs : Nat) (K4 : Nat → Nat → Int32 → Int32 → PRS → Prop) (k n0 : Nat) (x2 : Int32) (x3 : Int32) (t0 : Int32) (u : PRS) : Prop := ((t0 = (0 : Int32) → B_Cho_emit_53 t Kl Qc bc bs K4 k n0 x2 x3 t0 (-1 : Int32) u) ∧ (¬ t0 = (0 : Int32) → (∃ kc_46 nc_46 : Nat, k + kc_46 ≤ bc ∧ n0 + nc_46 ≤ bs ∧ P_Pr_add kc_46 nc_46 8 (0 : Int32) (0 : Int32) u (fun r_46 u_46 => B_Cho_emit_53 t Kl Qc bc bs K4 (k + kc_46) (n0 + nc_46) x2 x3 t0 r_46 u_46))))
def L_Cho_emit_4 (t : PT) (Kl : Nat → (Nat → Nat → PRS → (PRS → Prop) → Prop)) (Qc : PRS → Prop) (bc bs : Nat)  : Nat → Nat → Nat → Int32 → Int32 → PRS → Prop
  | 0, _, _, _, _, _ => False
  | n + 1, k, n0, x2, x3, u => (((nI (tlen t)) ≤ x3 → ∃ n, L_Cho_emit_123 t Kl Qc bc bs  n k n0 x2 u) ∧ (¬ (nI (tlen t)) ≤ x3 → (((nI (tlen t)) ≤ (x3 + (1 : Int32)) → B_Cho_emit_33 t Kl Qc bc bs (L_Cho_emit_4 t Kl Qc bc bs n) k n0 x2 x3 (0 : Int32) u) ∧ (¬ (nI (tlen t)) ≤ (x3 + (1 : Int32)) → B_Cho_emit_33 t Kl Qc bc bs (L_Cho_emit_4 t Kl Qc bc bs n) k n0 x2 x3 (1 : Int32) u))))
def P_Cho_emit (t : PT) (Kl : Nat → (Nat → Nat → PRS → (PRS → Prop) → Prop)) (bc bs : Nat)  (u : PRS) (Qc : PRS → Prop) : Prop := ∃ n, L_Cho_emit_4 t Kl Qc bc bs  n 0 0 (-1 : Int32) (0 : Int32) u
section MW
variable {p : Program} {l : Launch} {e : Env} {s : State} {m : MethodId} {args : Array Value} {below : List Frame} {meth : Method} {c : Code} {x : GX} {g : GE} {ex : va_W} {a : Nat → Nat} {A : Nat → Prop} {b r q : Nat}
set_option maxHeartbeats 4000000 in
set_option maxRecDepth 20000 in
theorem wL_Cho_emit_123 {lv q : Nat} {t : PT} {Kl : Nat → (Nat → Nat → PRS → (PRS → Prop) → Prop)} (hc : (r, .inr (7, [.ref q])) ∈ ex) (hL : LI x g ex q t) (hOK : ∀ i, i < tlen t → EOK l x g (tnth t i) (Kl i) lv) (S : CallFix p m c b_Cho_emit 6 s args lw_tg "PatternBench$Choice") (hr : meth.sig.returnType = none) (hlk : meth.locks = false) (hK : GK x s) (hE : EN g A s s.heap) (hA : ∀ q : Nat, s.heap.size ≤ q → A q) {Qc : PRS → Prop} {bc bs : Nat}  : ∀ (n : Nat) (k n0 : Nat) (hk : k ≤ bc) (hn : n0 ≤ bs) (x2 : Int32) (u : PRS) (a : Nat → Nat) (ls : Array Slot) (H : Heap) (locs : List Loc), lv_has ls 6 [(1, .ref b), (2, .int x2)] → wd x A s.heap ((prl x g b) a u ++ ex) H locs → L_Cho_emit_123 t Kl Qc bc bs  n k n0 x2 u → W p l e (rmN (lv + 4) bc bs) s m args below meth c H locs k n0 (MQ below (QeV x (prl x g b) ex A Qc) args s bc bs A) (F0 m 123 ls []) := by
  intro n
  induction n with
  | zero =>
    intro k n0 hk hn x2 u a ls H locs hl hw h
    exact absurd h id
  | succ n ih =>
    intro k n0 hk hn x2 u a ls H locs hl hw h
    refine lv_iload_n S.1 S.2.1 d_Cho_emit_123 rfl (lv_at hl 1 rfl) ?_
    refine lv_if_lt (tgt := 149) S.1 S.2.1 d_Cho_emit_124 (by decide) (fun q_124 => ?_) (fun q_124 => ?_)
    · have h := h.1 q_124
      refine W.widen (k := bc) (n := bs) hk hn ?_
      exact w_vretE S hr hlk hw h d_Cho_emit_149
    · have h := h.2 q_124
      refine lv_aload_n S.1 S.2.1 d_Cho_emit_127 rfl (lv_at hl 0 rfl) ?_
      refine mm_pg S hK hw 1 (by decide) k_78 rfl d_Cho_emit_128 ?_
      refine lv_iload_n S.1 S.2.1 d_Cho_emit_131 rfl (lv_at hl 1 rfl) ?_
      have hg := h.1
      have h := h.2
      refine mm_xl S hK hw hg d_Cho_emit_132 ?_
      refine lv_topi (fun x3_133 ex3_133 => ?_)
      have h := h x3_133 ex3_133
      refine lv_istore_n (lv' := [(3, .int x3_133), (1, .ref b), (2, .int x2)]) S.1 S.2.1 d_Cho_emit_133 rfl hl (by decide) rfl (fun ls hl => ?_)
      refine lv_aload_n S.1 S.2.1 d_Cho_emit_134 rfl (lv_at hl 1 rfl) ?_
      refine mm_pg S hK hw 1 (by decide) k_78 rfl d_Cho_emit_135 ?_
      refine lv_iload_n S.1 S.2.1 d_Cho_emit_138 rfl (lv_at hl 2 rfl) ?_
      refine lv_aload_n S.1 S.2.1 d_Cho_emit_139 rfl (lv_at hl 1 rfl) ?_
      refine mm_pg S hK hw 4 (by decide) k_89 rfl d_Cho_emit_140 ?_
      have hg := h.1
      have h := h.2
      refine mm_xs S hK hw hg d_Cho_emit_143 (fun H locs hw => ?_)
      refine lv_iload_n S.1 S.2.1 d_Cho_emit_144 rfl (lv_at hl 0 rfl) ?_
      refine lv_istore_n (lv' := [(2, .int x3_133), (3, .int x3_133), (1, .ref b)]) S.1 S.2.1 d_Cho_emit_145 rfl hl (by decide) rfl (fun ls hl => ?_)
      refine lv_goto (tgt := 123) S.1 S.2.1 d_Cho_emit_146 (by decide) ?_
      exact ih k n0 hk hn x3_133 (rs_xF u (upd (r_xF u) x2.toNatClampNeg (r_ln u))) a _ _ _ (lv_sub hl [2, 0] rfl) hw h
set_option maxHeartbeats 4000000 in
set_option maxRecDepth 20000 in
theorem wB_Cho_emit_117 {lv q : Nat} {t : PT} {Kl : Nat → (Nat → Nat → PRS → (PRS → Prop) → Prop)} (hc : (r, .inr (7, [.ref q])) ∈ ex) (hL : LI x g ex q t) (hOK : ∀ i, i < tlen t → EOK l x g (tnth t i) (Kl i) lv) (S : CallFix p m c b_Cho_emit 6 s args lw_tg "PatternBench$Choice") (hr : meth.sig.returnType = none) (hlk : meth.locks = false) (hK : GK x s) (hE : EN g A s s.heap) (hA : ∀ q : Nat, s.heap.size ≤ q → A q) {Qc : PRS → Prop} {bc bs : Nat}  {K4 : Nat → Nat → Int32 → Int32 → PRS → Prop} (ih4 : ∀ (k n0 : Nat) (hk : k ≤ bc) (hn : n0 ≤ bs) (x2 : Int32) (x3 : Int32) (u : PRS) (a : Nat → Nat) (ls : Array Slot) (H : Heap) (locs : List Loc), lv_has ls 6 [(0, .ref r), (1, .ref b), (2, .int x2), (3, .int x3)] → wd x A s.heap ((prl x g b) a u ++ ex) H locs → K4 k n0 x2 x3 u → W p l e (rmN (lv + 4) bc bs) s m args below meth c H locs k n0 (MQ below (QeV x (prl x g b) ex A Qc) args s bc bs A) (F0 m 4 ls [])) : ∀ (k n0 : Nat) (hk : k ≤ bc) (hn : n0 ≤ bs) (x2 : Int32) (x3 : Int32) (u : PRS) (a : Nat → Nat) (ls : Array Slot) (H : Heap) (locs : List Loc), lv_has ls 6 [(0, .ref r), (1, .ref b), (2, .int x2), (3, .int x3)] → wd x A s.heap ((prl x g b) a u ++ ex) H locs → B_Cho_emit_117 t Kl Qc bc bs K4 k n0 x2 x3 u → W p l e (rmN (lv + 4) bc bs) s m args below meth c H locs k n0 (MQ below (QeV x (prl x g b) ex A Qc) args s bc bs A) (F0 m 117 ls []) := by
  intro k n0 hk hn x2 x3 u a ls H locs hl hw h
  obtain ⟨x3_117, ex3_117⟩ : ∃ y : Int32, y = x3 + 1 := ⟨_, rfl⟩
  have h := h x3_117 ex3_117
  refine lv_iinc (v := x3_117) (lv' := [(3, .int x3_117), (0, .ref r), (1, .ref b), (2, .int x2)]) S.1 S.2.1 d_Cho_emit_117 hl (k := 3) rfl (by rw [ex3_117]; rfl) (by decide) rfl (fun ls hl => ?_)
  refine lv_goto (tgt := 4) S.1 S.2.1 d_Cho_emit_120 (by decide) ?_
  exact ih4 k n0 hk hn x2 x3_117 u a _ _ _ (lv_sub hl [1, 2, 3, 0] rfl) hw h
set_option maxHeartbeats 4000000 in
set_option maxRecDepth 20000 in
theorem wB_Cho_emit_71 {lv q : Nat} {t : PT} {Kl : Nat → (Nat → Nat → PRS → (PRS → Prop) → Prop)} (hc : (r, .inr (7, [.ref q])) ∈ ex) (hL : LI x g ex q t) (hOK : ∀ i, i < tlen t → EOK l x g (tnth t i) (Kl i) lv) (S : CallFix p m c b_Cho_emit 6 s args lw_tg "PatternBench$Choice") (hr : meth.sig.returnType = none) (hlk : meth.locks = false) (hK : GK x s) (hE : EN g A s s.heap) (hA : ∀ q : Nat, s.heap.size ≤ q → A q) {Qc : PRS → Prop} {bc bs : Nat}  {K4 : Nat → Nat → Int32 → Int32 → PRS → Prop} (ih4 : ∀ (k n0 : Nat) (hk : k ≤ bc) (hn : n0 ≤ bs) (x2 : Int32) (x3 : Int32) (u : PRS) (a : Nat → Nat) (ls : Array Slot) (H : Heap) (locs : List Loc), lv_has ls 6 [(0, .ref r), (1, .ref b), (2, .int x2), (3, .int x3)] → wd x A s.heap ((prl x g b) a u ++ ex) H locs → K4 k n0 x2 x3 u → W p l e (rmN (lv + 4) bc bs) s m args below meth c H locs k n0 (MQ below (QeV x (prl x g b) ex A Qc) args s bc bs A) (F0 m 4 ls [])) : ∀ (k n0 : Nat) (hk : k ≤ bc) (hn : n0 ≤ bs) (x2 : Int32) (x3 : Int32) (x4 : Int32) (x5 : Int32) (u : PRS) (a : Nat → Nat) (ls : Array Slot) (H : Heap) (locs : List Loc), lv_has ls 6 [(0, .ref r), (1, .ref b), (2, .int x2), (3, .int x3), (4, .int x4), (5, .int x5)] → wd x A s.heap ((prl x g b) a u ++ ex) H locs → B_Cho_emit_71 t Kl Qc bc bs K4 k n0 x2 x3 x4 x5 u → W p l e (rmN (lv + 4) bc bs) s m args below meth c H locs k n0 (MQ below (QeV x (prl x g b) ex A Qc) args s bc bs A) (F0 m 71 ls []) := by
  intro k n0 hk hn x2 x3 x4 x5 u a ls H locs hl hw h
  refine lv_aload_n S.1 S.2.1 d_Cho_emit_71 rfl (lv_at hl 0 rfl) ?_
  refine mm_fld S hK hw (List.mem_append_right (prl x g b a u) hc) rfl i_Cho 0 (by decide) k_586 rfl d_Cho_emit_72 ?_
  refine lv_iload_n S.1 S.2.1 d_Cho_emit_75 rfl (lv_at hl 3 rfl) ?_
  obtain ⟨i_76, ei_76, hi_76, h⟩ := h
  refine mm_get (R := rmN (lv + 4) bc bs) (cells := k) (slots := n0) (rest := []) S hK hE hA hw (fun _ h9 => List.mem_append_right (prl x g b a u) h9) hL ei_76 hi_76 k_621 k_622 (by show 3 ≤ lv + 4; omega) (by show 64 * 3 ≤ 64 * (lv + 4); omega) ⟨hk, hn⟩ hl.1 (Nat.le_of_ble_eq_true rfl) d_Cho_emit_76 d_Cho_emit_79 (fun r_76 H locs hT_76 hw => ?_)
  refine lv_aload_n S.1 S.2.1 d_Cho_emit_82 rfl (lv_at hl 1 rfl) ?_
  obtain ⟨kc_83, nc_83, hk_83, hn_83, h⟩ := h
  refine mm_emit (R := rmN (lv + 4) bc bs) (cells := k) (slots := n0) (rest := []) S hK hE hA hw hT_76 (hOK _ hi_76) h k_681 (by show lv + 1 ≤ lv + 4; omega) (by show 64 * (lv + 1) ≤ 64 * (lv + 4); omega) ⟨hk_83, hn_83⟩ hl.1 (Nat.le_of_ble_eq_true rfl) d_Cho_emit_83 (fun u_83 a_83 H locs h hw => ?_)
  refine lv_iload S.1 S.2.1 d_Cho_emit_88 (lv_at hl 4 rfl) ?_
  refine lv_if_ne (tgt := 96) S.1 S.2.1 d_Cho_emit_90 (by decide) (fun q_90 => ?_) (fun q_90 => ?_)
  · have h := h.2 q_90
    refine lv_aload_n S.1 S.2.1 d_Cho_emit_96 rfl (lv_at hl 1 rfl) ?_
    refine p_op S hE hw.2.2 9 (by decide) rfl k_739 d_Cho_emit_97 ?_
    refine lv_iload_n S.1 S.2.1 d_Cho_emit_100 rfl (lv_at hl 2 rfl) ?_
    refine lv_iconst (v := 0) S.1 S.2.1 d_Cho_emit_101 (by decide) ?_
    obtain ⟨kc_102, nc_102, hk_102, hn_102, h⟩ := h
    refine mm_add (R := rmN (lv + 4) bc bs) (cells := (k + kc_83)) (slots := (n0 + nc_83)) (rest := []) S hK hE hA hw h k_669 (by show 3 ≤ lv + 4; omega) (by show 64 * 3 ≤ 64 * (lv + 4); omega) ⟨hk_102, hn_102⟩ hl.1 (Nat.le_of_ble_eq_true rfl) d_Cho_emit_102 (fun r_102 u_102 a_102 H locs h hw => ?_)
    refine lv_istore_n (lv' := [(2, .int r_102), (0, .ref r), (1, .ref b), (3, .int x3), (4, .int x4), (5, .int x5)]) S.1 S.2.1 d_Cho_emit_105 rfl hl (by decide) rfl (fun ls hl => ?_)
    refine lv_aload_n S.1 S.2.1 d_Cho_emit_106 rfl (lv_at hl 2 rfl) ?_
    refine mm_pg S hK hw 2 (by decide) k_82 rfl d_Cho_emit_107 ?_
    refine lv_iload S.1 S.2.1 d_Cho_emit_110 (lv_at hl 5 rfl) ?_
    refine lv_aload_n S.1 S.2.1 d_Cho_emit_112 rfl (lv_at hl 2 rfl) ?_
    refine mm_pg S hK hw 4 (by decide) k_89 rfl d_Cho_emit_113 ?_
    have hg := h.1
    have h := h.2
    refine mm_ys S hK hw hg d_Cho_emit_116 (fun H locs hw => ?_)
    exact wB_Cho_emit_117 hc hL hOK S hr hlk hK hE hA ih4 ((k + kc_83) + kc_102) ((n0 + nc_83) + nc_102) hk_102 hn_102 r_102 x3 (rs_yF u_102 (upd (r_yF u_102) x5.toNatClampNeg (r_ln u_102))) a_102 _ _ _ (lv_sub hl [1, 2, 0, 3] rfl) hw h
  · have h := h.1 q_90
    refine lv_goto (tgt := 117) S.1 S.2.1 d_Cho_emit_93 (by decide) ?_
    exact wB_Cho_emit_117 hc hL hOK S hr hlk hK hE hA ih4 (k + kc_83) (n0 + nc_83) hk_83 hn_83 x2 x3 u_83 a_83 _ _ _ (lv_sub hl [0, 1, 2, 3] rfl) hw h
set_option maxHeartbeats 4000000 in
set_option maxRecDepth 20000 in
theorem wB_Cho_emit_53 {lv q : Nat} {t : PT} {Kl : Nat → (Nat → Nat → PRS → (PRS → Prop) → Prop)} (hc : (r, .inr (7, [.ref q])) ∈ ex) (hL : LI x g ex q t) (hOK : ∀ i, i < tlen t → EOK l x g (tnth t i) (Kl i) lv) (S : CallFix p m c b_Cho_emit 6 s args lw_tg "PatternBench$Choice") (hr : meth.sig.returnType = none) (hlk : meth.locks = false) (hK : GK x s) (hE : EN g A s s.heap) (hA : ∀ q : Nat, s.heap.size ≤ q → A q) {Qc : PRS → Prop} {bc bs : Nat}  {K4 : Nat → Nat → Int32 → Int32 → PRS → Prop} (ih4 : ∀ (k n0 : Nat) (hk : k ≤ bc) (hn : n0 ≤ bs) (x2 : Int32) (x3 : Int32) (u : PRS) (a : Nat → Nat) (ls : Array Slot) (H : Heap) (locs : List Loc), lv_has ls 6 [(0, .ref r), (1, .ref b), (2, .int x2), (3, .int x3)] → wd x A s.heap ((prl x g b) a u ++ ex) H locs → K4 k n0 x2 x3 u → W p l e (rmN (lv + 4) bc bs) s m args below meth c H locs k n0 (MQ below (QeV x (prl x g b) ex A Qc) args s bc bs A) (F0 m 4 ls [])) : ∀ (k n0 : Nat) (hk : k ≤ bc) (hn : n0 ≤ bs) (x2 : Int32) (x3 : Int32) (x4 : Int32) (t0 : Int32) (u : PRS) (a : Nat → Nat) (ls : Array Slot) (H : Heap) (locs : List Loc), lv_has ls 6 [(0, .ref r), (1, .ref b), (2, .int x2), (3, .int x3), (4, .int x4)] → wd x A s.heap ((prl x g b) a u ++ ex) H locs → B_Cho_emit_53 t Kl Qc bc bs K4 k n0 x2 x3 x4 t0 u → W p l e (rmN (lv + 4) bc bs) s m args below meth c H locs k n0 (MQ below (QeV x (prl x g b) ex A Qc) args s bc bs A) (F0 m 53 ls [.int t0]) := by
  intro k n0 hk hn x2 x3 x4 t0 u a ls H locs hl hw h
  refine lv_istore (lv' := [(5, .int t0), (0, .ref r), (1, .ref b), (2, .int x2), (3, .int x3), (4, .int x4)]) S.1 S.2.1 d_Cho_emit_53 hl (by decide) rfl (fun ls hl => ?_)
  refine lv_iload S.1 S.2.1 d_Cho_emit_55 (lv_at hl 5 rfl) ?_
  refine lv_if_eq (tgt := 71) S.1 S.2.1 d_Cho_emit_57 (by decide) (fun q_57 => ?_) (fun q_57 => ?_)
  · have h := h.1 q_57
    exact wB_Cho_emit_71 hc hL hOK S hr hlk hK hE hA ih4 k n0 hk hn x2 x3 x4 t0 u a _ _ _ (lv_sub hl [1, 2, 3, 4, 5, 0] rfl) hw h
  · have h := h.2 q_57
    refine lv_aload_n S.1 S.2.1 d_Cho_emit_60 rfl (lv_at hl 2 rfl) ?_
    refine mm_pg S hK hw 1 (by decide) k_78 rfl d_Cho_emit_61 ?_
    refine lv_iload S.1 S.2.1 d_Cho_emit_64 (lv_at hl 0 rfl) ?_
    refine lv_aload_n S.1 S.2.1 d_Cho_emit_66 rfl (lv_at hl 2 rfl) ?_
    refine mm_pg S hK hw 4 (by decide) k_89 rfl d_Cho_emit_67 ?_
    have hg := h.1
    have h := h.2
    refine mm_xs S hK hw hg d_Cho_emit_70 (fun H locs hw => ?_)
    exact wB_Cho_emit_71 hc hL hOK S hr hlk hK hE hA ih4 k n0 hk hn x2 x3 x4 t0 (rs_xF u (upd (r_xF u) t0.toNatClampNeg (r_ln u))) a _ _ _ (lv_sub hl [1, 2, 3, 4, 5, 0] rfl) hw h
set_option maxHeartbeats 4000000 in
set_option maxRecDepth 20000 in
theorem wB_Cho_emit_33 {lv q : Nat} {t : PT} {Kl : Nat → (Nat → Nat → PRS → (PRS → Prop) → Prop)} (hc : (r, .inr (7, [.ref q])) ∈ ex) (hL : LI x g ex q t) (hOK : ∀ i, i < tlen t → EOK l x g (tnth t i) (Kl i) lv) (S : CallFix p m c b_Cho_emit 6 s args lw_tg "PatternBench$Choice") (hr : meth.sig.returnType = none) (hlk : meth.locks = false) (hK : GK x s) (hE : EN g A s s.heap) (hA : ∀ q : Nat, s.heap.size ≤ q → A q) {Qc : PRS → Prop} {bc bs : Nat}  {K4 : Nat → Nat → Int32 → Int32 → PRS → Prop} (ih4 : ∀ (k n0 : Nat) (hk : k ≤ bc) (hn : n0 ≤ bs) (x2 : Int32) (x3 : Int32) (u : PRS) (a : Nat → Nat) (ls : Array Slot) (H : Heap) (locs : List Loc), lv_has ls 6 [(0, .ref r), (1, .ref b), (2, .int x2), (3, .int x3)] → wd x A s.heap ((prl x g b) a u ++ ex) H locs → K4 k n0 x2 x3 u → W p l e (rmN (lv + 4) bc bs) s m args below meth c H locs k n0 (MQ below (QeV x (prl x g b) ex A Qc) args s bc bs A) (F0 m 4 ls [])) : ∀ (k n0 : Nat) (hk : k ≤ bc) (hn : n0 ≤ bs) (x2 : Int32) (x3 : Int32) (t0 : Int32) (u : PRS) (a : Nat → Nat) (ls : Array Slot) (H : Heap) (locs : List Loc), lv_has ls 6 [(0, .ref r), (1, .ref b), (2, .int x2), (3, .int x3)] → wd x A s.heap ((prl x g b) a u ++ ex) H locs → B_Cho_emit_33 t Kl Qc bc bs K4 k n0 x2 x3 t0 u → W p l e (rmN (lv + 4) bc bs) s m args below meth c H locs k n0 (MQ below (QeV x (prl x g b) ex A Qc) args s bc bs A) (F0 m 33 ls [.int t0]) := by
  intro k n0 hk hn x2 x3 t0 u a ls H locs hl hw h
  refine lv_istore (lv' := [(4, .int t0), (0, .ref r), (1, .ref b), (2, .int x2), (3, .int x3)]) S.1 S.2.1 d_Cho_emit_33 hl (by decide) rfl (fun ls hl => ?_)
  refine lv_iload S.1 S.2.1 d_Cho_emit_35 (lv_at hl 0 rfl) ?_
  refine lv_if_eq (tgt := 52) S.1 S.2.1 d_Cho_emit_37 (by decide) (fun q_37 => ?_) (fun q_37 => ?_)
  · have h := h.1 q_37
    refine lv_iconst (v := -1) S.1 S.2.1 d_Cho_emit_52 (by decide) ?_
    exact wB_Cho_emit_53 hc hL hOK S hr hlk hK hE hA ih4 k n0 hk hn x2 x3 t0 (-1 : Int32) u a _ _ _ (lv_sub hl [1, 2, 3, 4, 0] rfl) hw h
  · have h := h.2 q_37
    refine lv_aload_n S.1 S.2.1 d_Cho_emit_40 rfl (lv_at hl 2 rfl) ?_
    refine p_op S hE hw.2.2 8 (by decide) rfl k_667 d_Cho_emit_41 ?_
    refine lv_iconst (v := 0) S.1 S.2.1 d_Cho_emit_44 (by decide) ?_
    refine lv_iconst (v := 0) S.1 S.2.1 d_Cho_emit_45 (by decide) ?_
    obtain ⟨kc_46, nc_46, hk_46, hn_46, h⟩ := h
    refine mm_add (R := rmN (lv + 4) bc bs) (cells := k) (slots := n0) (rest := []) S hK hE hA hw h k_669 (by show 3 ≤ lv + 4; omega) (by show 64 * 3 ≤ 64 * (lv + 4); omega) ⟨hk_46, hn_46⟩ hl.1 (Nat.le_of_ble_eq_true rfl) d_Cho_emit_46 (fun r_46 u_46 a_46 H locs h hw => ?_)
    refine lv_goto (tgt := 53) S.1 S.2.1 d_Cho_emit_49 (by decide) ?_
    exact wB_Cho_emit_53 hc hL hOK S hr hlk hK hE hA ih4 (k + kc_46) (n0 + nc_46) hk_46 hn_46 x2 x3 t0 r_46 u_46 a_46 _ _ _ (lv_sub hl [1, 2, 3, 4, 0] rfl) hw h
set_option maxHeartbeats 4000000 in
set_option maxRecDepth 20000 in
theorem wL_Cho_emit_4 {lv q : Nat} {t : PT} {Kl : Nat → (Nat → Nat → PRS → (PRS → Prop) → Prop)} (hc : (r, .inr (7, [.ref q])) ∈ ex) (hL : LI x g ex q t) (hOK : ∀ i, i < tlen t → EOK l x g (tnth t i) (Kl i) lv) (S : CallFix p m c b_Cho_emit 6 s args lw_tg "PatternBench$Choice") (hr : meth.sig.returnType = none) (hlk : meth.locks = false) (hK : GK x s) (hE : EN g A s s.heap) (hA : ∀ q : Nat, s.heap.size ≤ q → A q) {Qc : PRS → Prop} {bc bs : Nat}  : ∀ (n : Nat) (k n0 : Nat) (hk : k ≤ bc) (hn : n0 ≤ bs) (x2 : Int32) (x3 : Int32) (u : PRS) (a : Nat → Nat) (ls : Array Slot) (H : Heap) (locs : List Loc), lv_has ls 6 [(0, .ref r), (1, .ref b), (2, .int x2), (3, .int x3)] → wd x A s.heap ((prl x g b) a u ++ ex) H locs → L_Cho_emit_4 t Kl Qc bc bs  n k n0 x2 x3 u → W p l e (rmN (lv + 4) bc bs) s m args below meth c H locs k n0 (MQ below (QeV x (prl x g b) ex A Qc) args s bc bs A) (F0 m 4 ls []) := by
  intro n
  induction n with
  | zero =>
    intro k n0 hk hn x2 x3 u a ls H locs hl hw h
    exact absurd h id
  | succ n ih =>
    intro k n0 hk hn x2 x3 u a ls H locs hl hw h
    refine lv_iload_n S.1 S.2.1 d_Cho_emit_4 rfl (lv_at hl 3 rfl) ?_
    refine lv_aload_n S.1 S.2.1 d_Cho_emit_5 rfl (lv_at hl 0 rfl) ?_
    refine mm_fld S hK hw (List.mem_append_right (prl x g b a u) hc) rfl i_Cho 0 (by decide) k_586 rfl d_Cho_emit_6 ?_
    refine mm_size (R := rmN (lv + 4) bc bs) (cells := k) (slots := n0) (rest := [.int x3]) S hK hE hA hw (hL.mono (fun _ h9 => List.mem_append_right (prl x g b a u) h9)) k_620 (by show 3 ≤ lv + 4; omega) (by show 64 * 3 ≤ 64 * (lv + 4); omega) ⟨hk, hn⟩ hl.1 (Nat.le_of_ble_eq_true rfl) d_Cho_emit_9 (fun H locs hw => ?_)
    refine lv_icmp_ge (tgt := 123) S.1 S.2.1 d_Cho_emit_12 (by decide) (fun q_12 => ?_) (fun q_12 => ?_)
    · have h := h.1 q_12
      obtain ⟨n9, h⟩ := h
      exact wL_Cho_emit_123 hc hL hOK S hr hlk hK hE hA  n9 k n0 hk hn x2 u a _ _ _ (lv_sub hl [1, 2] rfl) hw h
    · have h := h.2 q_12
      refine lv_iload_n S.1 S.2.1 d_Cho_emit_15 rfl (lv_at hl 3 rfl) ?_
      refine lv_iconst (v := 1) S.1 S.2.1 d_Cho_emit_16 (by decide) ?_
      refine lv_iadd S.1 S.2.1 d_Cho_emit_17 ?_
      refine lv_aload_n S.1 S.2.1 d_Cho_emit_18 rfl (lv_at hl 0 rfl) ?_
      refine mm_fld S hK hw (List.mem_append_right (prl x g b a u) hc) rfl i_Cho 0 (by decide) k_586 rfl d_Cho_emit_19 ?_
      refine mm_size (R := rmN (lv + 4) bc bs) (cells := k) (slots := n0) (rest := [.int (x3 + (1 : Int32))]) S hK hE hA hw (hL.mono (fun _ h9 => List.mem_append_right (prl x g b a u) h9)) k_620 (by show 3 ≤ lv + 4; omega) (by show 64 * 3 ≤ 64 * (lv + 4); omega) ⟨hk, hn⟩ hl.1 (Nat.le_of_ble_eq_true rfl) d_Cho_emit_22 (fun H locs hw => ?_)
      refine lv_icmp_ge (tgt := 32) S.1 S.2.1 d_Cho_emit_25 (by decide) (fun q_25 => ?_) (fun q_25 => ?_)
      · have h := h.1 q_25
        refine lv_iconst (v := 0) S.1 S.2.1 d_Cho_emit_32 (by decide) ?_
        exact wB_Cho_emit_33 hc hL hOK S hr hlk hK hE hA ih k n0 hk hn x2 x3 (0 : Int32) u a _ _ _ (lv_sub hl [0, 1, 2, 3] rfl) hw h
      · have h := h.2 q_25
        refine lv_iconst (v := 1) S.1 S.2.1 d_Cho_emit_28 (by decide) ?_
        refine lv_goto (tgt := 33) S.1 S.2.1 d_Cho_emit_29 (by decide) ?_
        exact wB_Cho_emit_33 hc hL hOK S hr hlk hK hE hA ih k n0 hk hn x2 x3 (1 : Int32) u a _ _ _ (lv_sub hl [0, 1, 2, 3] rfl) hw h
set_option maxHeartbeats 4000000 in
set_option maxRecDepth 20000 in
theorem c_Cho_emit {x : GX} {g : GE} {b r : Nat} {ex : va_W} {a : Nat → Nat} (l : Launch) {lv q : Nat} {t : PT} {Kl : Nat → (Nat → Nat → PRS → (PRS → Prop) → Prop)} (hc : (r, .inr (7, [.ref q])) ∈ ex) (hL : LI x g ex q t) (hOK : ∀ i, i < tlen t → EOK l x g (tnth t i) (Kl i) lv) (bc bs : Nat)  (u : PRS) (sz : Nat) (Qc : PRS → Prop) (h : P_Cho_emit t Kl bc bs  u Qc) : Met l y_Cho_emit (wM y_Cho_emit b_Cho_emit 6 none) (rmN (lv + 4) bc bs) (PreE x g (prl x g b) ex [.ref r, .ref b] a u sz) (QeV x (prl x g b) ex (va_A ((prl x g b) a u ++ ex) sz) Qc) bc bs (va_A ((prl x g b) a u ++ ex) sz) := by
  refine w_enterE (by decide +kernel) (Nat.le_of_ble_eq_true rfl) (fun p e s m args below meth c S hr hlk hnm hK hE hA hw ls hl => ?_)
  have hl : lv_has ls 6 [(0, .ref r), (1, .ref b)] := hl
  refine lv_iconst (v := -1) S.1 S.2.1 d_Cho_emit_0 (by decide) ?_
  refine lv_istore_n (lv' := [(2, .int (-1 : Int32)), (0, .ref r), (1, .ref b)]) S.1 S.2.1 d_Cho_emit_1 rfl hl (by decide) rfl (fun ls hl => ?_)
  refine lv_iconst (v := 0) S.1 S.2.1 d_Cho_emit_2 (by decide) ?_
  refine lv_istore_n (lv' := [(3, .int (0 : Int32)), (2, .int (-1 : Int32)), (0, .ref r), (1, .ref b)]) S.1 S.2.1 d_Cho_emit_3 rfl hl (by decide) rfl (fun ls hl => ?_)
  obtain ⟨n9, h⟩ := h
  exact wL_Cho_emit_4 hc hL hOK S hr hlk hK hE hA  n9 0 0 (Nat.zero_le _) (Nat.zero_le _) (-1 : Int32) (0 : Int32) u a _ _ _ (lv_sub hl [2, 3, 1, 0] rfl) hw h
end MW
theorem d_Grp_emit_0 : decode b_Grp_emit 0 = .ok (.aload_n 1, 1) := by decide +kernel
theorem d_Grp_emit_1 : decode b_Grp_emit 1 = .ok (.getstatic 27, 3) := by decide +kernel
theorem d_Grp_emit_4 : decode b_Grp_emit 4 = .ok (.iconst 0, 1) := by decide +kernel
theorem d_Grp_emit_5 : decode b_Grp_emit 5 = .ok (.iconst 0, 1) := by decide +kernel
theorem d_Grp_emit_6 : decode b_Grp_emit 6 = .ok (.invokevirtual 33, 3) := by decide +kernel
theorem d_Grp_emit_9 : decode b_Grp_emit 9 = .ok (.pop, 1) := by decide +kernel
theorem d_Grp_emit_10 : decode b_Grp_emit 10 = .ok (.aload_n 0, 1) := by decide +kernel
theorem d_Grp_emit_11 : decode b_Grp_emit 11 = .ok (.getfield 7, 3) := by decide +kernel
theorem d_Grp_emit_14 : decode b_Grp_emit 14 = .ok (.bipush 58, 2) := by decide +kernel
theorem d_Grp_emit_16 : decode b_Grp_emit 16 = .ok (.if_icmp .ne 16, 3) := by decide +kernel
theorem d_Grp_emit_19 : decode b_Grp_emit 19 = .ok (.aload_n 0, 1) := by decide +kernel
theorem d_Grp_emit_20 : decode b_Grp_emit 20 = .ok (.getfield 17, 3) := by decide +kernel
theorem d_Grp_emit_23 : decode b_Grp_emit 23 = .ok (.aload_n 1, 1) := by decide +kernel
theorem d_Grp_emit_24 : decode b_Grp_emit 24 = .ok (.invokeinterface 39 2, 5) := by decide +kernel
theorem d_Grp_emit_29 : decode b_Grp_emit 29 = .ok (.goto 131, 3) := by decide +kernel
theorem d_Grp_emit_32 : decode b_Grp_emit 32 = .ok (.aload_n 0, 1) := by decide +kernel
theorem d_Grp_emit_33 : decode b_Grp_emit 33 = .ok (.getfield 7, 3) := by decide +kernel
theorem d_Grp_emit_36 : decode b_Grp_emit 36 = .ok (.bipush 32, 2) := by decide +kernel
theorem d_Grp_emit_38 : decode b_Grp_emit 38 = .ok (.if_icmp .ne 39, 3) := by decide +kernel
theorem d_Grp_emit_41 : decode b_Grp_emit 41 = .ok (.aload_n 1, 1) := by decide +kernel
theorem d_Grp_emit_42 : decode b_Grp_emit 42 = .ok (.getstatic 43, 3) := by decide +kernel
theorem d_Grp_emit_45 : decode b_Grp_emit 45 = .ok (.iconst 0, 1) := by decide +kernel
theorem d_Grp_emit_46 : decode b_Grp_emit 46 = .ok (.iconst 0, 1) := by decide +kernel
theorem d_Grp_emit_47 : decode b_Grp_emit 47 = .ok (.invokevirtual 33, 3) := by decide +kernel
theorem d_Grp_emit_50 : decode b_Grp_emit 50 = .ok (.pop, 1) := by decide +kernel
theorem d_Grp_emit_51 : decode b_Grp_emit 51 = .ok (.aload_n 0, 1) := by decide +kernel
theorem d_Grp_emit_52 : decode b_Grp_emit 52 = .ok (.getfield 17, 3) := by decide +kernel
theorem d_Grp_emit_55 : decode b_Grp_emit 55 = .ok (.aload_n 1, 1) := by decide +kernel
theorem d_Grp_emit_56 : decode b_Grp_emit 56 = .ok (.invokeinterface 39 2, 5) := by decide +kernel
theorem d_Grp_emit_61 : decode b_Grp_emit 61 = .ok (.aload_n 1, 1) := by decide +kernel
theorem d_Grp_emit_62 : decode b_Grp_emit 62 = .ok (.getstatic 46, 3) := by decide +kernel
theorem d_Grp_emit_65 : decode b_Grp_emit 65 = .ok (.aload_n 0, 1) := by decide +kernel
theorem d_Grp_emit_66 : decode b_Grp_emit 66 = .ok (.getfield 13, 3) := by decide +kernel
theorem d_Grp_emit_69 : decode b_Grp_emit 69 = .ok (.iconst 0, 1) := by decide +kernel
theorem d_Grp_emit_70 : decode b_Grp_emit 70 = .ok (.invokevirtual 33, 3) := by decide +kernel
theorem d_Grp_emit_73 : decode b_Grp_emit 73 = .ok (.pop, 1) := by decide +kernel
theorem d_Grp_emit_74 : decode b_Grp_emit 74 = .ok (.goto 86, 3) := by decide +kernel
theorem d_Grp_emit_77 : decode b_Grp_emit 77 = .ok (.aload_n 1, 1) := by decide +kernel
theorem d_Grp_emit_78 : decode b_Grp_emit 78 = .ok (.getstatic 49, 3) := by decide +kernel
theorem d_Grp_emit_81 : decode b_Grp_emit 81 = .ok (.aload_n 0, 1) := by decide +kernel
theorem d_Grp_emit_82 : decode b_Grp_emit 82 = .ok (.getfield 7, 3) := by decide +kernel
theorem d_Grp_emit_85 : decode b_Grp_emit 85 = .ok (.bipush 33, 2) := by decide +kernel
theorem d_Grp_emit_87 : decode b_Grp_emit 87 = .ok (.if_icmp .ne 7, 3) := by decide +kernel
theorem d_Grp_emit_90 : decode b_Grp_emit 90 = .ok (.iconst 1, 1) := by decide +kernel
theorem d_Grp_emit_91 : decode b_Grp_emit 91 = .ok (.goto 4, 3) := by decide +kernel
theorem d_Grp_emit_94 : decode b_Grp_emit 94 = .ok (.iconst 0, 1) := by decide +kernel
theorem d_Grp_emit_95 : decode b_Grp_emit 95 = .ok (.iconst 0, 1) := by decide +kernel
theorem d_Grp_emit_96 : decode b_Grp_emit 96 = .ok (.invokevirtual 33, 3) := by decide +kernel
theorem d_Grp_emit_99 : decode b_Grp_emit 99 = .ok (.istore_n 2, 1) := by decide +kernel
theorem d_Grp_emit_100 : decode b_Grp_emit 100 = .ok (.aload_n 0, 1) := by decide +kernel
theorem d_Grp_emit_101 : decode b_Grp_emit 101 = .ok (.getfield 17, 3) := by decide +kernel
theorem d_Grp_emit_104 : decode b_Grp_emit 104 = .ok (.aload_n 1, 1) := by decide +kernel
theorem d_Grp_emit_105 : decode b_Grp_emit 105 = .ok (.invokeinterface 39 2, 5) := by decide +kernel
theorem d_Grp_emit_110 : decode b_Grp_emit 110 = .ok (.aload_n 1, 1) := by decide +kernel
theorem d_Grp_emit_111 : decode b_Grp_emit 111 = .ok (.aload_n 0, 1) := by decide +kernel
theorem d_Grp_emit_112 : decode b_Grp_emit 112 = .ok (.getfield 7, 3) := by decide +kernel
theorem d_Grp_emit_115 : decode b_Grp_emit 115 = .ok (.bipush 62, 2) := by decide +kernel
theorem d_Grp_emit_117 : decode b_Grp_emit 117 = .ok (.if_icmp .ne 9, 3) := by decide +kernel
theorem d_Grp_emit_120 : decode b_Grp_emit 120 = .ok (.getstatic 52, 3) := by decide +kernel
theorem d_Grp_emit_123 : decode b_Grp_emit 123 = .ok (.goto 21, 3) := by decide +kernel
theorem d_Grp_emit_126 : decode b_Grp_emit 126 = .ok (.aload_n 0, 1) := by decide +kernel
theorem d_Grp_emit_127 : decode b_Grp_emit 127 = .ok (.getfield 7, 3) := by decide +kernel
theorem d_Grp_emit_130 : decode b_Grp_emit 130 = .ok (.bipush 61, 2) := by decide +kernel
theorem d_Grp_emit_132 : decode b_Grp_emit 132 = .ok (.if_icmp .ne 9, 3) := by decide +kernel
theorem d_Grp_emit_135 : decode b_Grp_emit 135 = .ok (.getstatic 55, 3) := by decide +kernel
theorem d_Grp_emit_138 : decode b_Grp_emit 138 = .ok (.goto 6, 3) := by decide +kernel
theorem d_Grp_emit_141 : decode b_Grp_emit 141 = .ok (.getstatic 58, 3) := by decide +kernel
theorem d_Grp_emit_144 : decode b_Grp_emit 144 = .ok (.iconst 0, 1) := by decide +kernel
theorem d_Grp_emit_145 : decode b_Grp_emit 145 = .ok (.iconst 0, 1) := by decide +kernel
theorem d_Grp_emit_146 : decode b_Grp_emit 146 = .ok (.invokevirtual 33, 3) := by decide +kernel
theorem d_Grp_emit_149 : decode b_Grp_emit 149 = .ok (.pop, 1) := by decide +kernel
theorem d_Grp_emit_150 : decode b_Grp_emit 150 = .ok (.aload_n 1, 1) := by decide +kernel
theorem d_Grp_emit_151 : decode b_Grp_emit 151 = .ok (.getfield 61, 3) := by decide +kernel
theorem d_Grp_emit_154 : decode b_Grp_emit 154 = .ok (.iload_n 2, 1) := by decide +kernel
theorem d_Grp_emit_155 : decode b_Grp_emit 155 = .ok (.aload_n 1, 1) := by decide +kernel
theorem d_Grp_emit_156 : decode b_Grp_emit 156 = .ok (.getfield 65, 3) := by decide +kernel
theorem d_Grp_emit_159 : decode b_Grp_emit 159 = .ok (.iastore, 1) := by decide +kernel
theorem d_Grp_emit_160 : decode b_Grp_emit 160 = .ok (.return_, 1) := by decide +kernel
def B_Grp_emit_144 (kd : Int32) (n : Int32) (Ki : (Nat → Nat → PRS → (PRS → Prop) → Prop)) (Qc : PRS → Prop) (bc bs : Nat)  (k n0 : Nat) (x2 : Int32) (t1 : Nat) (u : PRS) : Prop := (∃ kc_146 nc_146 : Nat, k + kc_146 ≤ bc ∧ n0 + nc_146 ≤ bs ∧ P_Pr_add kc_146 nc_146 t1 (0 : Int32) (0 : Int32) u (fun r_146 u_146 => (vp_in x2 (r_yN u_146) ∧ Qc (rs_yF u_146 (upd (r_yF u_146) x2.toNatClampNeg (r_ln u_146))))))
def B_Grp_emit_95 (kd : Int32) (n : Int32) (Ki : (Nat → Nat → PRS → (PRS → Prop) → Prop)) (Qc : PRS → Prop) (bc bs : Nat)  (k n0 : Nat) (t1 : Nat) (t2 : Int32) (u : PRS) : Prop := (∃ kc_96 nc_96 : Nat, k + kc_96 ≤ bc ∧ n0 + nc_96 ≤ bs ∧ P_Pr_add kc_96 nc_96 t1 t2 (0 : Int32) u (fun r_96 u_96 => (∃ kc_105 nc_105 : Nat, (k + kc_96) + kc_105 ≤ bc ∧ (n0 + nc_96) + nc_105 ≤ bs ∧ Ki kc_105 nc_105 u_96 (fun u_105 => ((kd = (62 : Int32) → B_Grp_emit_144 kd n Ki Qc bc bs  ((k + kc_96) + kc_105) ((n0 + nc_96) + nc_105) r_96 13 u_105) ∧ (¬ kd = (62 : Int32) → ((kd = (61 : Int32) → B_Grp_emit_144 kd n Ki Qc bc bs  ((k + kc_96) + kc_105) ((n0 + nc_96) + nc_105) r_96 14 u_105) ∧ (¬ kd = (61 : Int32) → B_Grp_emit_144 kd n Ki Qc bc bs  ((k + kc_96) + kc_105) ((n0 + nc_96) + nc_105) r_96 15 u_105))))))))
def P_Grp_emit (kd : Int32) (n : Int32) (Ki : (Nat → Nat → PRS → (PRS → Prop) → Prop)) (bc bs : Nat)  (u : PRS) (Qc : PRS → Prop) : Prop := (∃ kc_6 nc_6 : Nat, 0 + kc_6 ≤ bc ∧ 0 + nc_6 ≤ bs ∧ P_Pr_add kc_6 nc_6 5 (0 : Int32) (0 : Int32) u (fun r_6 u_6 => ((kd = (58 : Int32) → (∃ kc_24 nc_24 : Nat, (0 + kc_6) + kc_24 ≤ bc ∧ (0 + nc_6) + nc_24 ≤ bs ∧ Ki kc_24 nc_24 u_6 (fun u_24 => Qc u_24))) ∧ (¬ kd = (58 : Int32) → ((kd = (32 : Int32) → (∃ kc_47 nc_47 : Nat, (0 + kc_6) + kc_47 ≤ bc ∧ (0 + nc_6) + nc_47 ≤ bs ∧ P_Pr_add kc_47 nc_47 6 (0 : Int32) (0 : Int32) u_6 (fun r_47 u_47 => (∃ kc_56 nc_56 : Nat, ((0 + kc_6) + kc_47) + kc_56 ≤ bc ∧ ((0 + nc_6) + nc_47) + nc_56 ≤ bs ∧ Ki kc_56 nc_56 u_47 (fun u_56 => (∃ kc_70 nc_70 : Nat, (((0 + kc_6) + kc_47) + kc_56) + kc_70 ≤ bc ∧ (((0 + nc_6) + nc_47) + nc_56) + nc_70 ≤ bs ∧ P_Pr_add kc_70 nc_70 7 n (0 : Int32) u_56 (fun r_70 u_70 => Qc u_70))))))) ∧ (¬ kd = (32 : Int32) → ((kd = (33 : Int32) → B_Grp_emit_95 kd n Ki Qc bc bs  (0 + kc_6) (0 + nc_6) 12 (1 : Int32) u_6) ∧ (¬ kd = (33 : Int32) → B_Grp_emit_95 kd n Ki Qc bc bs  (0 + kc_6) (0 + nc_6) 12 (0 : Int32) u_6))))))))
section MW
variable {p : Program} {l : Launch} {e : Env} {s : State} {m : MethodId} {args : Array Value} {below : List Frame} {meth : Method} {c : Code} {x : GX} {g : GE} {ex : va_W} {a : Nat → Nat} {A : Nat → Prop} {b r q : Nat}
set_option maxHeartbeats 4000000 in
set_option maxRecDepth 20000 in
theorem wB_Grp_emit_144 {lv q : Nat} {kd : Int32} {n : Int32} {T : PT} {Ki : (Nat → Nat → PRS → (PRS → Prop) → Prop)} (hc : (r, .inr (8, [.int kd, .int n, .ref q])) ∈ ex) (hT : TP x g ex T q) (hOK : EOK l x g T Ki lv) (S : CallFix p m c b_Grp_emit 3 s args lw_tg "PatternBench$Group") (hr : meth.sig.returnType = none) (hlk : meth.locks = false) (hK : GK x s) (hE : EN g A s s.heap) (hA : ∀ q : Nat, s.heap.size ≤ q → A q) {Qc : PRS → Prop} {bc bs : Nat}  : ∀ (k n0 : Nat) (hk : k ≤ bc) (hn : n0 ≤ bs) (x2 : Int32) (t1 : Nat) (u : PRS) (a : Nat → Nat) (ls : Array Slot) (H : Heap) (locs : List Loc), lv_has ls 3 [(1, .ref b), (2, .int x2)] → wd x A s.heap ((prl x g b) a u ++ ex) H locs → B_Grp_emit_144 kd n Ki Qc bc bs  k n0 x2 t1 u → W p l e (rmN (lv + 4) bc bs) s m args below meth c H locs k n0 (MQ below (QeV x (prl x g b) ex A Qc) args s bc bs A) (F0 m 144 ls [.ref (g.1 t1), .ref b]) := by
  intro k n0 hk hn x2 t1 u a ls H locs hl hw h
  refine lv_iconst (v := 0) S.1 S.2.1 d_Grp_emit_144 (by decide) ?_
  refine lv_iconst (v := 0) S.1 S.2.1 d_Grp_emit_145 (by decide) ?_
  obtain ⟨kc_146, nc_146, hk_146, hn_146, h⟩ := h
  refine mm_add (R := rmN (lv + 4) bc bs) (cells := k) (slots := n0) (rest := []) S hK hE hA hw h k_689 (by show 3 ≤ lv + 4; omega) (by show 64 * 3 ≤ 64 * (lv + 4); omega) ⟨hk_146, hn_146⟩ hl.1 (Nat.le_of_ble_eq_true rfl) d_Grp_emit_146 (fun r_146 u_146 a_146 H locs h hw => ?_)
  refine lv_pop S.1 S.2.1 d_Grp_emit_149 rfl ?_
  refine lv_aload_n S.1 S.2.1 d_Grp_emit_150 rfl (lv_at hl 0 rfl) ?_
  refine mm_pg S hK hw 2 (by decide) k_84 rfl d_Grp_emit_151 ?_
  refine lv_iload_n S.1 S.2.1 d_Grp_emit_154 rfl (lv_at hl 1 rfl) ?_
  refine lv_aload_n S.1 S.2.1 d_Grp_emit_155 rfl (lv_at hl 0 rfl) ?_
  refine mm_pg S hK hw 4 (by decide) k_91 rfl d_Grp_emit_156 ?_
  have hg := h.1
  have h := h.2
  refine mm_ys S hK hw hg d_Grp_emit_159 (fun H locs hw => ?_)
  refine W.widen (k := bc) (n := bs) hk_146 hn_146 ?_
  exact w_vretE S hr hlk hw h d_Grp_emit_160
set_option maxHeartbeats 4000000 in
set_option maxRecDepth 20000 in
theorem wB_Grp_emit_95 {lv q : Nat} {kd : Int32} {n : Int32} {T : PT} {Ki : (Nat → Nat → PRS → (PRS → Prop) → Prop)} (hc : (r, .inr (8, [.int kd, .int n, .ref q])) ∈ ex) (hT : TP x g ex T q) (hOK : EOK l x g T Ki lv) (S : CallFix p m c b_Grp_emit 3 s args lw_tg "PatternBench$Group") (hr : meth.sig.returnType = none) (hlk : meth.locks = false) (hK : GK x s) (hE : EN g A s s.heap) (hA : ∀ q : Nat, s.heap.size ≤ q → A q) {Qc : PRS → Prop} {bc bs : Nat}  : ∀ (k n0 : Nat) (hk : k ≤ bc) (hn : n0 ≤ bs) (t1 : Nat) (t2 : Int32) (u : PRS) (a : Nat → Nat) (ls : Array Slot) (H : Heap) (locs : List Loc), lv_has ls 3 [(0, .ref r), (1, .ref b)] → wd x A s.heap ((prl x g b) a u ++ ex) H locs → B_Grp_emit_95 kd n Ki Qc bc bs  k n0 t1 t2 u → W p l e (rmN (lv + 4) bc bs) s m args below meth c H locs k n0 (MQ below (QeV x (prl x g b) ex A Qc) args s bc bs A) (F0 m 95 ls [.int t2, .ref (g.1 t1), .ref b]) := by
  intro k n0 hk hn t1 t2 u a ls H locs hl hw h
  refine lv_iconst (v := 0) S.1 S.2.1 d_Grp_emit_95 (by decide) ?_
  obtain ⟨kc_96, nc_96, hk_96, hn_96, h⟩ := h
  refine mm_add (R := rmN (lv + 4) bc bs) (cells := k) (slots := n0) (rest := []) S hK hE hA hw h k_689 (by show 3 ≤ lv + 4; omega) (by show 64 * 3 ≤ 64 * (lv + 4); omega) ⟨hk_96, hn_96⟩ hl.1 (Nat.le_of_ble_eq_true rfl) d_Grp_emit_96 (fun r_96 u_96 a_96 H locs h hw => ?_)
  refine lv_istore_n (lv' := [(2, .int r_96), (0, .ref r), (1, .ref b)]) S.1 S.2.1 d_Grp_emit_99 rfl hl (by decide) rfl (fun ls hl => ?_)
  refine lv_aload_n S.1 S.2.1 d_Grp_emit_100 rfl (lv_at hl 1 rfl) ?_
  refine mm_fld S hK hw (List.mem_append_right (prl x g b a_96 u_96) hc) rfl i_Grp 2 (by decide) k_480 rfl d_Grp_emit_101 ?_
  refine lv_aload_n S.1 S.2.1 d_Grp_emit_104 rfl (lv_at hl 2 rfl) ?_
  obtain ⟨kc_105, nc_105, hk_105, hn_105, h⟩ := h
  refine mm_emit (R := rmN (lv + 4) bc bs) (cells := (k + kc_96)) (slots := (n0 + nc_96)) (rest := []) S hK hE hA hw hT hOK h k_691 (by show lv + 1 ≤ lv + 4; omega) (by show 64 * (lv + 1) ≤ 64 * (lv + 4); omega) ⟨hk_105, hn_105⟩ hl.1 (Nat.le_of_ble_eq_true rfl) d_Grp_emit_105 (fun u_105 a_105 H locs h hw => ?_)
  refine lv_aload_n S.1 S.2.1 d_Grp_emit_110 rfl (lv_at hl 2 rfl) ?_
  refine lv_aload_n S.1 S.2.1 d_Grp_emit_111 rfl (lv_at hl 1 rfl) ?_
  refine mm_fld S hK hw (List.mem_append_right (prl x g b a_105 u_105) hc) rfl i_Grp 0 (by decide) k_478 rfl d_Grp_emit_112 ?_
  refine lv_bipush (v := 62) S.1 S.2.1 d_Grp_emit_115 (by decide) ?_
  refine lv_icmp_ne (tgt := 126) S.1 S.2.1 d_Grp_emit_117 (by decide) (fun q_117 => ?_) (fun q_117 => ?_)
  · have h := h.2 q_117
    refine lv_aload_n S.1 S.2.1 d_Grp_emit_126 rfl (lv_at hl 1 rfl) ?_
    refine mm_fld S hK hw (List.mem_append_right (prl x g b a_105 u_105) hc) rfl i_Grp 0 (by decide) k_478 rfl d_Grp_emit_127 ?_
    refine lv_bipush (v := 61) S.1 S.2.1 d_Grp_emit_130 (by decide) ?_
    refine lv_icmp_ne (tgt := 141) S.1 S.2.1 d_Grp_emit_132 (by decide) (fun q_132 => ?_) (fun q_132 => ?_)
    · have h := h.2 q_132
      refine p_op S hE hw.2.2 15 (by decide) rfl k_737 d_Grp_emit_141 ?_
      exact wB_Grp_emit_144 hc hT hOK S hr hlk hK hE hA  ((k + kc_96) + kc_105) ((n0 + nc_96) + nc_105) hk_105 hn_105 r_96 15 u_105 a_105 _ _ _ (lv_sub hl [2, 0] rfl) hw h
    · have h := h.1 q_132
      refine p_op S hE hw.2.2 14 (by decide) rfl k_735 d_Grp_emit_135 ?_
      refine lv_goto (tgt := 144) S.1 S.2.1 d_Grp_emit_138 (by decide) ?_
      exact wB_Grp_emit_144 hc hT hOK S hr hlk hK hE hA  ((k + kc_96) + kc_105) ((n0 + nc_96) + nc_105) hk_105 hn_105 r_96 14 u_105 a_105 _ _ _ (lv_sub hl [2, 0] rfl) hw h
  · have h := h.1 q_117
    refine p_op S hE hw.2.2 13 (by decide) rfl k_734 d_Grp_emit_120 ?_
    refine lv_goto (tgt := 144) S.1 S.2.1 d_Grp_emit_123 (by decide) ?_
    exact wB_Grp_emit_144 hc hT hOK S hr hlk hK hE hA  ((k + kc_96) + kc_105) ((n0 + nc_96) + nc_105) hk_105 hn_105 r_96 13 u_105 a_105 _ _ _ (lv_sub hl [2, 0] rfl) hw h
set_option maxHeartbeats 4000000 in
set_option maxRecDepth 20000 in
theorem c_Grp_emit {x : GX} {g : GE} {b r : Nat} {ex : va_W} {a : Nat → Nat} (l : Launch) {lv q : Nat} {kd : Int32} {n : Int32} {T : PT} {Ki : (Nat → Nat → PRS → (PRS → Prop) → Prop)} (hc : (r, .inr (8, [.int kd, .int n, .ref q])) ∈ ex) (hT : TP x g ex T q) (hOK : EOK l x g T Ki lv) (bc bs : Nat)  (u : PRS) (sz : Nat) (Qc : PRS → Prop) (h : P_Grp_emit kd n Ki bc bs  u Qc) : Met l y_Grp_emit (wM y_Grp_emit b_Grp_emit 3 none) (rmN (lv + 4) bc bs) (PreE x g (prl x g b) ex [.ref r, .ref b] a u sz) (QeV x (prl x g b) ex (va_A ((prl x g b) a u ++ ex) sz) Qc) bc bs (va_A ((prl x g b) a u ++ ex) sz) := by
  refine w_enterE (by decide +kernel) (Nat.le_of_ble_eq_true rfl) (fun p e s m args below meth c S hr hlk hnm hK hE hA hw ls hl => ?_)
  have hl : lv_has ls 3 [(0, .ref r), (1, .ref b)] := hl
  refine lv_aload_n S.1 S.2.1 d_Grp_emit_0 rfl (lv_at hl 1 rfl) ?_
  refine p_op S hE hw.2.2 5 (by decide) rfl k_687 d_Grp_emit_1 ?_
  refine lv_iconst (v := 0) S.1 S.2.1 d_Grp_emit_4 (by decide) ?_
  refine lv_iconst (v := 0) S.1 S.2.1 d_Grp_emit_5 (by decide) ?_
  obtain ⟨kc_6, nc_6, hk_6, hn_6, h⟩ := h
  refine mm_add (R := rmN (lv + 4) bc bs) (cells := 0) (slots := 0) (rest := []) S hK hE hA hw h k_689 (by show 3 ≤ lv + 4; omega) (by show 64 * 3 ≤ 64 * (lv + 4); omega) ⟨hk_6, hn_6⟩ hl.1 (Nat.le_of_ble_eq_true rfl) d_Grp_emit_6 (fun r_6 u_6 a_6 H locs h hw => ?_)
  refine lv_pop S.1 S.2.1 d_Grp_emit_9 rfl ?_
  refine lv_aload_n S.1 S.2.1 d_Grp_emit_10 rfl (lv_at hl 0 rfl) ?_
  refine mm_fld S hK hw (List.mem_append_right (prl x g b a_6 u_6) hc) rfl i_Grp 0 (by decide) k_478 rfl d_Grp_emit_11 ?_
  refine lv_bipush (v := 58) S.1 S.2.1 d_Grp_emit_14 (by decide) ?_
  refine lv_icmp_ne (tgt := 32) S.1 S.2.1 d_Grp_emit_16 (by decide) (fun q_16 => ?_) (fun q_16 => ?_)
  · have h := h.2 q_16
    refine lv_aload_n S.1 S.2.1 d_Grp_emit_32 rfl (lv_at hl 0 rfl) ?_
    refine mm_fld S hK hw (List.mem_append_right (prl x g b a_6 u_6) hc) rfl i_Grp 0 (by decide) k_478 rfl d_Grp_emit_33 ?_
    refine lv_bipush (v := 32) S.1 S.2.1 d_Grp_emit_36 (by decide) ?_
    refine lv_icmp_ne (tgt := 77) S.1 S.2.1 d_Grp_emit_38 (by decide) (fun q_38 => ?_) (fun q_38 => ?_)
    · have h := h.2 q_38
      refine lv_aload_n S.1 S.2.1 d_Grp_emit_77 rfl (lv_at hl 1 rfl) ?_
      refine p_op S hE hw.2.2 12 (by decide) rfl k_733 d_Grp_emit_78 ?_
      refine lv_aload_n S.1 S.2.1 d_Grp_emit_81 rfl (lv_at hl 0 rfl) ?_
      refine mm_fld S hK hw (List.mem_append_right (prl x g b a_6 u_6) hc) rfl i_Grp 0 (by decide) k_478 rfl d_Grp_emit_82 ?_
      refine lv_bipush (v := 33) S.1 S.2.1 d_Grp_emit_85 (by decide) ?_
      refine lv_icmp_ne (tgt := 94) S.1 S.2.1 d_Grp_emit_87 (by decide) (fun q_87 => ?_) (fun q_87 => ?_)
      · have h := h.2 q_87
        refine lv_iconst (v := 0) S.1 S.2.1 d_Grp_emit_94 (by decide) ?_
        exact wB_Grp_emit_95 hc hT hOK S hr hlk hK hE hA  (0 + kc_6) (0 + nc_6) hk_6 hn_6 12 (0 : Int32) u_6 a_6 _ _ _ (lv_sub hl [0, 1] rfl) hw h
      · have h := h.1 q_87
        refine lv_iconst (v := 1) S.1 S.2.1 d_Grp_emit_90 (by decide) ?_
        refine lv_goto (tgt := 95) S.1 S.2.1 d_Grp_emit_91 (by decide) ?_
        exact wB_Grp_emit_95 hc hT hOK S hr hlk hK hE hA  (0 + kc_6) (0 + nc_6) hk_6 hn_6 12 (1 : Int32) u_6 a_6 _ _ _ (lv_sub hl [0, 1] rfl) hw h
    · have h := h.1 q_38
      refine lv_aload_n S.1 S.2.1 d_Grp_emit_41 rfl (lv_at hl 1 rfl) ?_
      refine p_op S hE hw.2.2 6 (by decide) rfl k_729 d_Grp_emit_42 ?_
      refine lv_iconst (v := 0) S.1 S.2.1 d_Grp_emit_45 (by decide) ?_
      refine lv_iconst (v := 0) S.1 S.2.1 d_Grp_emit_46 (by decide) ?_
      obtain ⟨kc_47, nc_47, hk_47, hn_47, h⟩ := h
      refine mm_add (R := rmN (lv + 4) bc bs) (cells := (0 + kc_6)) (slots := (0 + nc_6)) (rest := []) S hK hE hA hw h k_689 (by show 3 ≤ lv + 4; omega) (by show 64 * 3 ≤ 64 * (lv + 4); omega) ⟨hk_47, hn_47⟩ hl.1 (Nat.le_of_ble_eq_true rfl) d_Grp_emit_47 (fun r_47 u_47 a_47 H locs h hw => ?_)
      refine lv_pop S.1 S.2.1 d_Grp_emit_50 rfl ?_
      refine lv_aload_n S.1 S.2.1 d_Grp_emit_51 rfl (lv_at hl 0 rfl) ?_
      refine mm_fld S hK hw (List.mem_append_right (prl x g b a_47 u_47) hc) rfl i_Grp 2 (by decide) k_480 rfl d_Grp_emit_52 ?_
      refine lv_aload_n S.1 S.2.1 d_Grp_emit_55 rfl (lv_at hl 1 rfl) ?_
      obtain ⟨kc_56, nc_56, hk_56, hn_56, h⟩ := h
      refine mm_emit (R := rmN (lv + 4) bc bs) (cells := ((0 + kc_6) + kc_47)) (slots := ((0 + nc_6) + nc_47)) (rest := []) S hK hE hA hw hT hOK h k_691 (by show lv + 1 ≤ lv + 4; omega) (by show 64 * (lv + 1) ≤ 64 * (lv + 4); omega) ⟨hk_56, hn_56⟩ hl.1 (Nat.le_of_ble_eq_true rfl) d_Grp_emit_56 (fun u_56 a_56 H locs h hw => ?_)
      refine lv_aload_n S.1 S.2.1 d_Grp_emit_61 rfl (lv_at hl 1 rfl) ?_
      refine p_op S hE hw.2.2 7 (by decide) rfl k_731 d_Grp_emit_62 ?_
      refine lv_aload_n S.1 S.2.1 d_Grp_emit_65 rfl (lv_at hl 0 rfl) ?_
      refine mm_fld S hK hw (List.mem_append_right (prl x g b a_56 u_56) hc) rfl i_Grp 1 (by decide) k_479 rfl d_Grp_emit_66 ?_
      refine lv_iconst (v := 0) S.1 S.2.1 d_Grp_emit_69 (by decide) ?_
      obtain ⟨kc_70, nc_70, hk_70, hn_70, h⟩ := h
      refine mm_add (R := rmN (lv + 4) bc bs) (cells := (((0 + kc_6) + kc_47) + kc_56)) (slots := (((0 + nc_6) + nc_47) + nc_56)) (rest := []) S hK hE hA hw h k_689 (by show 3 ≤ lv + 4; omega) (by show 64 * 3 ≤ 64 * (lv + 4); omega) ⟨hk_70, hn_70⟩ hl.1 (Nat.le_of_ble_eq_true rfl) d_Grp_emit_70 (fun r_70 u_70 a_70 H locs h hw => ?_)
      refine lv_pop S.1 S.2.1 d_Grp_emit_73 rfl ?_
      refine lv_goto (tgt := 160) S.1 S.2.1 d_Grp_emit_74 (by decide) ?_
      refine W.widen (k := bc) (n := bs) hk_70 hn_70 ?_
      exact w_vretE S hr hlk hw h d_Grp_emit_160
  · have h := h.1 q_16
    refine lv_aload_n S.1 S.2.1 d_Grp_emit_19 rfl (lv_at hl 0 rfl) ?_
    refine mm_fld S hK hw (List.mem_append_right (prl x g b a_6 u_6) hc) rfl i_Grp 2 (by decide) k_480 rfl d_Grp_emit_20 ?_
    refine lv_aload_n S.1 S.2.1 d_Grp_emit_23 rfl (lv_at hl 1 rfl) ?_
    obtain ⟨kc_24, nc_24, hk_24, hn_24, h⟩ := h
    refine mm_emit (R := rmN (lv + 4) bc bs) (cells := (0 + kc_6)) (slots := (0 + nc_6)) (rest := []) S hK hE hA hw hT hOK h k_691 (by show lv + 1 ≤ lv + 4; omega) (by show 64 * (lv + 1) ≤ 64 * (lv + 4); omega) ⟨hk_24, hn_24⟩ hl.1 (Nat.le_of_ble_eq_true rfl) d_Grp_emit_24 (fun u_24 a_24 H locs h hw => ?_)
    refine lv_goto (tgt := 160) S.1 S.2.1 d_Grp_emit_29 (by decide) ?_
    refine W.widen (k := bc) (n := bs) hk_24 hn_24 ?_
    exact w_vretE S hr hlk hw h d_Grp_emit_160
end MW
theorem d_Rep_emit_0 : decode b_Rep_emit 0 = .ok (.aload_n 0, 1) := by decide +kernel
theorem d_Rep_emit_1 : decode b_Rep_emit 1 = .ok (.getfield 21, 3) := by decide +kernel
theorem d_Rep_emit_4 : decode b_Rep_emit 4 = .ok (.bipush 43, 2) := by decide +kernel
theorem d_Rep_emit_6 : decode b_Rep_emit 6 = .ok (.if_icmp .ne 13, 3) := by decide +kernel
theorem d_Rep_emit_9 : decode b_Rep_emit 9 = .ok (.aload_n 1, 1) := by decide +kernel
theorem d_Rep_emit_10 : decode b_Rep_emit 10 = .ok (.getstatic 30, 3) := by decide +kernel
theorem d_Rep_emit_13 : decode b_Rep_emit 13 = .ok (.iconst 0, 1) := by decide +kernel
theorem d_Rep_emit_14 : decode b_Rep_emit 14 = .ok (.iconst 0, 1) := by decide +kernel
theorem d_Rep_emit_15 : decode b_Rep_emit 15 = .ok (.invokevirtual 36, 3) := by decide +kernel
theorem d_Rep_emit_18 : decode b_Rep_emit 18 = .ok (.pop, 1) := by decide +kernel
theorem d_Rep_emit_19 : decode b_Rep_emit 19 = .ok (.aload_n 0, 1) := by decide +kernel
theorem d_Rep_emit_20 : decode b_Rep_emit 20 = .ok (.getfield 13, 3) := by decide +kernel
theorem d_Rep_emit_23 : decode b_Rep_emit 23 = .ok (.bipush 123, 2) := by decide +kernel
theorem d_Rep_emit_25 : decode b_Rep_emit 25 = .ok (.if_icmp .ne 10, 3) := by decide +kernel
theorem d_Rep_emit_28 : decode b_Rep_emit 28 = .ok (.aload_n 0, 1) := by decide +kernel
theorem d_Rep_emit_29 : decode b_Rep_emit 29 = .ok (.getfield 17, 3) := by decide +kernel
theorem d_Rep_emit_32 : decode b_Rep_emit 32 = .ok (.goto 17, 3) := by decide +kernel
theorem d_Rep_emit_35 : decode b_Rep_emit 35 = .ok (.aload_n 0, 1) := by decide +kernel
theorem d_Rep_emit_36 : decode b_Rep_emit 36 = .ok (.getfield 13, 3) := by decide +kernel
theorem d_Rep_emit_39 : decode b_Rep_emit 39 = .ok (.bipush 43, 2) := by decide +kernel
theorem d_Rep_emit_41 : decode b_Rep_emit 41 = .ok (.if_icmp .ne 7, 3) := by decide +kernel
theorem d_Rep_emit_44 : decode b_Rep_emit 44 = .ok (.iconst 1, 1) := by decide +kernel
theorem d_Rep_emit_45 : decode b_Rep_emit 45 = .ok (.goto 4, 3) := by decide +kernel
theorem d_Rep_emit_48 : decode b_Rep_emit 48 = .ok (.iconst 0, 1) := by decide +kernel
theorem d_Rep_emit_49 : decode b_Rep_emit 49 = .ok (.istore_n 2, 1) := by decide +kernel
theorem d_Rep_emit_50 : decode b_Rep_emit 50 = .ok (.iconst 0, 1) := by decide +kernel
theorem d_Rep_emit_51 : decode b_Rep_emit 51 = .ok (.istore_n 3, 1) := by decide +kernel
theorem d_Rep_emit_52 : decode b_Rep_emit 52 = .ok (.iload_n 3, 1) := by decide +kernel
theorem d_Rep_emit_53 : decode b_Rep_emit 53 = .ok (.iload_n 2, 1) := by decide +kernel
theorem d_Rep_emit_54 : decode b_Rep_emit 54 = .ok (.if_icmp .ge 19, 3) := by decide +kernel
theorem d_Rep_emit_57 : decode b_Rep_emit 57 = .ok (.aload_n 0, 1) := by decide +kernel
theorem d_Rep_emit_58 : decode b_Rep_emit 58 = .ok (.getfield 7, 3) := by decide +kernel
theorem d_Rep_emit_61 : decode b_Rep_emit 61 = .ok (.aload_n 1, 1) := by decide +kernel
theorem d_Rep_emit_62 : decode b_Rep_emit 62 = .ok (.invokeinterface 42 2, 5) := by decide +kernel
theorem d_Rep_emit_67 : decode b_Rep_emit 67 = .ok (.iinc 3 1, 3) := by decide +kernel
theorem d_Rep_emit_70 : decode b_Rep_emit 70 = .ok (.goto (-18), 3) := by decide +kernel
theorem d_Rep_emit_73 : decode b_Rep_emit 73 = .ok (.aload_n 0, 1) := by decide +kernel
theorem d_Rep_emit_74 : decode b_Rep_emit 74 = .ok (.getfield 13, 3) := by decide +kernel
theorem d_Rep_emit_77 : decode b_Rep_emit 77 = .ok (.bipush 42, 2) := by decide +kernel
theorem d_Rep_emit_79 : decode b_Rep_emit 79 = .ok (.if_icmp .eq 12, 3) := by decide +kernel
theorem d_Rep_emit_82 : decode b_Rep_emit 82 = .ok (.aload_n 0, 1) := by decide +kernel
theorem d_Rep_emit_83 : decode b_Rep_emit 83 = .ok (.getfield 13, 3) := by decide +kernel
theorem d_Rep_emit_86 : decode b_Rep_emit 86 = .ok (.bipush 43, 2) := by decide +kernel
theorem d_Rep_emit_88 : decode b_Rep_emit 88 = .ok (.if_icmp .ne 8, 3) := by decide +kernel
theorem d_Rep_emit_91 : decode b_Rep_emit 91 = .ok (.aload_n 0, 1) := by decide +kernel
theorem d_Rep_emit_92 : decode b_Rep_emit 92 = .ok (.aload_n 1, 1) := by decide +kernel
theorem d_Rep_emit_93 : decode b_Rep_emit 93 = .ok (.invokevirtual 46, 3) := by decide +kernel
theorem d_Rep_emit_96 : decode b_Rep_emit 96 = .ok (.aload_n 0, 1) := by decide +kernel
theorem d_Rep_emit_97 : decode b_Rep_emit 97 = .ok (.getfield 13, 3) := by decide +kernel
theorem d_Rep_emit_100 : decode b_Rep_emit 100 = .ok (.bipush 63, 2) := by decide +kernel
theorem d_Rep_emit_102 : decode b_Rep_emit 102 = .ok (.if_icmp .ne 57, 3) := by decide +kernel
theorem d_Rep_emit_105 : decode b_Rep_emit 105 = .ok (.aload_n 1, 1) := by decide +kernel
theorem d_Rep_emit_106 : decode b_Rep_emit 106 = .ok (.getstatic 49, 3) := by decide +kernel
theorem d_Rep_emit_109 : decode b_Rep_emit 109 = .ok (.iconst 0, 1) := by decide +kernel
theorem d_Rep_emit_110 : decode b_Rep_emit 110 = .ok (.iconst 0, 1) := by decide +kernel
theorem d_Rep_emit_111 : decode b_Rep_emit 111 = .ok (.invokevirtual 36, 3) := by decide +kernel
theorem d_Rep_emit_114 : decode b_Rep_emit 114 = .ok (.istore_n 3, 1) := by decide +kernel
theorem d_Rep_emit_115 : decode b_Rep_emit 115 = .ok (.aload_n 1, 1) := by decide +kernel
theorem d_Rep_emit_116 : decode b_Rep_emit 116 = .ok (.getfield 52, 3) := by decide +kernel
theorem d_Rep_emit_119 : decode b_Rep_emit 119 = .ok (.iload_n 3, 1) := by decide +kernel
theorem d_Rep_emit_120 : decode b_Rep_emit 120 = .ok (.aload_n 1, 1) := by decide +kernel
theorem d_Rep_emit_121 : decode b_Rep_emit 121 = .ok (.getfield 56, 3) := by decide +kernel
theorem d_Rep_emit_124 : decode b_Rep_emit 124 = .ok (.iastore, 1) := by decide +kernel
theorem d_Rep_emit_125 : decode b_Rep_emit 125 = .ok (.aload_n 0, 1) := by decide +kernel
theorem d_Rep_emit_126 : decode b_Rep_emit 126 = .ok (.getfield 7, 3) := by decide +kernel
theorem d_Rep_emit_129 : decode b_Rep_emit 129 = .ok (.aload_n 1, 1) := by decide +kernel
theorem d_Rep_emit_130 : decode b_Rep_emit 130 = .ok (.invokeinterface 42 2, 5) := by decide +kernel
theorem d_Rep_emit_135 : decode b_Rep_emit 135 = .ok (.aload_n 1, 1) := by decide +kernel
theorem d_Rep_emit_136 : decode b_Rep_emit 136 = .ok (.getfield 59, 3) := by decide +kernel
theorem d_Rep_emit_139 : decode b_Rep_emit 139 = .ok (.iload_n 3, 1) := by decide +kernel
theorem d_Rep_emit_140 : decode b_Rep_emit 140 = .ok (.aload_n 1, 1) := by decide +kernel
theorem d_Rep_emit_141 : decode b_Rep_emit 141 = .ok (.getfield 56, 3) := by decide +kernel
theorem d_Rep_emit_144 : decode b_Rep_emit 144 = .ok (.iastore, 1) := by decide +kernel
theorem d_Rep_emit_145 : decode b_Rep_emit 145 = .ok (.aload_n 0, 1) := by decide +kernel
theorem d_Rep_emit_146 : decode b_Rep_emit 146 = .ok (.getfield 21, 3) := by decide +kernel
theorem d_Rep_emit_149 : decode b_Rep_emit 149 = .ok (.bipush 63, 2) := by decide +kernel
theorem d_Rep_emit_151 : decode b_Rep_emit 151 = .ok (.if_icmp .ne 8, 3) := by decide +kernel
theorem d_Rep_emit_154 : decode b_Rep_emit 154 = .ok (.aload_n 1, 1) := by decide +kernel
theorem d_Rep_emit_155 : decode b_Rep_emit 155 = .ok (.iload_n 3, 1) := by decide +kernel
theorem d_Rep_emit_156 : decode b_Rep_emit 156 = .ok (.invokestatic 62, 3) := by decide +kernel
theorem d_Rep_emit_159 : decode b_Rep_emit 159 = .ok (.aload_n 0, 1) := by decide +kernel
theorem d_Rep_emit_160 : decode b_Rep_emit 160 = .ok (.getfield 21, 3) := by decide +kernel
theorem d_Rep_emit_163 : decode b_Rep_emit 163 = .ok (.bipush 43, 2) := by decide +kernel
theorem d_Rep_emit_165 : decode b_Rep_emit 165 = .ok (.if_icmp .ne 13, 3) := by decide +kernel
theorem d_Rep_emit_168 : decode b_Rep_emit 168 = .ok (.aload_n 1, 1) := by decide +kernel
theorem d_Rep_emit_169 : decode b_Rep_emit 169 = .ok (.getstatic 66, 3) := by decide +kernel
theorem d_Rep_emit_172 : decode b_Rep_emit 172 = .ok (.iconst 0, 1) := by decide +kernel
theorem d_Rep_emit_173 : decode b_Rep_emit 173 = .ok (.iconst 0, 1) := by decide +kernel
theorem d_Rep_emit_174 : decode b_Rep_emit 174 = .ok (.invokevirtual 36, 3) := by decide +kernel
theorem d_Rep_emit_177 : decode b_Rep_emit 177 = .ok (.pop, 1) := by decide +kernel
theorem d_Rep_emit_178 : decode b_Rep_emit 178 = .ok (.return_, 1) := by decide +kernel
def B_Rep_emit_159 (hw9 : Int32) (tm : Int32) (mn : Int32) (Ki : (Nat → Nat → PRS → (PRS → Prop) → Prop)) (Qc : PRS → Prop) (bc bs : Nat)  (k n0 : Nat)  (u : PRS) : Prop := ((mn = (43 : Int32) → (∃ kc_174 nc_174 : Nat, k + kc_174 ≤ bc ∧ n0 + nc_174 ≤ bs ∧ P_Pr_add kc_174 nc_174 13 (0 : Int32) (0 : Int32) u (fun r_174 u_174 => Qc u_174))) ∧ (¬ mn = (43 : Int32) → Qc u))
def B_Rep_emit_96 (hw9 : Int32) (tm : Int32) (mn : Int32) (Ki : (Nat → Nat → PRS → (PRS → Prop) → Prop)) (Qc : PRS → Prop) (bc bs : Nat)  (k n0 : Nat)  (u : PRS) : Prop := ((hw9 = (63 : Int32) → (∃ kc_111 nc_111 : Nat, k + kc_111 ≤ bc ∧ n0 + nc_111 ≤ bs ∧ P_Pr_add kc_111 nc_111 8 (0 : Int32) (0 : Int32) u (fun r_111 u_111 => (vp_in r_111 (r_xN u_111) ∧ (∃ kc_130 nc_130 : Nat, (k + kc_111) + kc_130 ≤ bc ∧ (n0 + nc_111) + nc_130 ≤ bs ∧ Ki kc_130 nc_130 (rs_xF u_111 (upd (r_xF u_111) r_111.toNatClampNeg (r_ln u_111))) (fun u_130 => (vp_in r_111 (r_yN u_130) ∧ ((mn = (63 : Int32) → P_Rep_swap r_111 (rs_yF u_130 (upd (r_yF u_130) r_111.toNatClampNeg (r_ln u_130))) (fun u_156 => B_Rep_emit_159 hw9 tm mn Ki Qc bc bs  ((k + kc_111) + kc_130) ((n0 + nc_111) + nc_130)  u_156)) ∧ (¬ mn = (63 : Int32) → B_Rep_emit_159 hw9 tm mn Ki Qc bc bs  ((k + kc_111) + kc_130) ((n0 + nc_111) + nc_130)  (rs_yF u_130 (upd (r_yF u_130) r_111.toNatClampNeg (r_ln u_130)))))))))))) ∧ (¬ hw9 = (63 : Int32) → B_Rep_emit_159 hw9 tm mn Ki Qc bc bs  k n0  u))
def B_Rep_emit_91 (hw9 : Int32) (tm : Int32) (mn : Int32) (Ki : (Nat → Nat → PRS → (PRS → Prop) → Prop)) (Qc : PRS → Prop) (bc bs : Nat)  (k n0 : Nat)  (u : PRS) : Prop := (∃ kc_93 nc_93 : Nat, k + kc_93 ≤ bc ∧ n0 + nc_93 ≤ bs ∧ P_Rep_star mn Ki kc_93 nc_93 u (fun u_93 => B_Rep_emit_96 hw9 tm mn Ki Qc bc bs  (k + kc_93) (n0 + nc_93)  u_93))
def L_Rep_emit_52 (hw9 : Int32) (tm : Int32) (mn : Int32) (Ki : (Nat → Nat → PRS → (PRS → Prop) → Prop)) (Qc : PRS → Prop) (bc bs : Nat)  : Nat → Nat → Nat → Int32 → Int32 → PRS → Prop
  | 0, _, _, _, _, _ => False
  | n + 1, k, n0, x2, x3, u => ((x2 ≤ x3 → ((hw9 = (42 : Int32) → B_Rep_emit_91 hw9 tm mn Ki Qc bc bs  k n0  u) ∧ (¬ hw9 = (42 : Int32) → ((hw9 = (43 : Int32) → B_Rep_emit_91 hw9 tm mn Ki Qc bc bs  k n0  u) ∧ (¬ hw9 = (43 : Int32) → B_Rep_emit_96 hw9 tm mn Ki Qc bc bs  k n0  u))))) ∧ (¬ x2 ≤ x3 → (∃ kc_62 nc_62 : Nat, k + kc_62 ≤ bc ∧ n0 + nc_62 ≤ bs ∧ Ki kc_62 nc_62 u (fun u_62 => (∀ x3_67 : Int32, x3_67 = x3 + 1 → (L_Rep_emit_52 hw9 tm mn Ki Qc bc bs n) (k + kc_62) (n0 + nc_62) x2 x3_67 u_62)))))
def B_Rep_emit_49 (hw9 : Int32) (tm : Int32) (mn : Int32) (Ki : (Nat → Nat → PRS → (PRS → Prop) → Prop)) (Qc : PRS → Prop) (bc bs : Nat)  (k n0 : Nat) (t0 : Int32) (u : PRS) : Prop := ∃ n, L_Rep_emit_52 hw9 tm mn Ki Qc bc bs  n k n0 t0 (0 : Int32) u
def B_Rep_emit_19 (hw9 : Int32) (tm : Int32) (mn : Int32) (Ki : (Nat → Nat → PRS → (PRS → Prop) → Prop)) (Qc : PRS → Prop) (bc bs : Nat)  (k n0 : Nat)  (u : PRS) : Prop := ((hw9 = (123 : Int32) → B_Rep_emit_49 hw9 tm mn Ki Qc bc bs  k n0 tm u) ∧ (¬ hw9 = (123 : Int32) → ((hw9 = (43 : Int32) → B_Rep_emit_49 hw9 tm mn Ki Qc bc bs  k n0 (1 : Int32) u) ∧ (¬ hw9 = (43 : Int32) → B_Rep_emit_49 hw9 tm mn Ki Qc bc bs  k n0 (0 : Int32) u))))
def P_Rep_emit (hw9 : Int32) (tm : Int32) (mn : Int32) (Ki : (Nat → Nat → PRS → (PRS → Prop) → Prop)) (bc bs : Nat)  (u : PRS) (Qc : PRS → Prop) : Prop := ((mn = (43 : Int32) → (∃ kc_15 nc_15 : Nat, 0 + kc_15 ≤ bc ∧ 0 + nc_15 ≤ bs ∧ P_Pr_add kc_15 nc_15 12 (0 : Int32) (0 : Int32) u (fun r_15 u_15 => B_Rep_emit_19 hw9 tm mn Ki Qc bc bs  (0 + kc_15) (0 + nc_15)  u_15))) ∧ (¬ mn = (43 : Int32) → B_Rep_emit_19 hw9 tm mn Ki Qc bc bs  0 0  u))
section MW
variable {p : Program} {l : Launch} {e : Env} {s : State} {m : MethodId} {args : Array Value} {below : List Frame} {meth : Method} {c : Code} {x : GX} {g : GE} {ex : va_W} {a : Nat → Nat} {A : Nat → Prop} {b r q : Nat}
set_option maxHeartbeats 4000000 in
set_option maxRecDepth 20000 in
theorem wB_Rep_emit_159 {lv q : Nat} {hw9 : Int32} {tm : Int32} {mn : Int32} {T : PT} {Ki : (Nat → Nat → PRS → (PRS → Prop) → Prop)} (hc : (r, .inr (9, [.ref q, .int hw9, .int tm, .int mn])) ∈ ex) (hT : TP x g ex T q) (hOK : EOK l x g T Ki lv) (S : CallFix p m c b_Rep_emit 4 s args lw_tg "PatternBench$Repeat") (hr : meth.sig.returnType = none) (hlk : meth.locks = false) (hK : GK x s) (hE : EN g A s s.heap) (hA : ∀ q : Nat, s.heap.size ≤ q → A q) {Qc : PRS → Prop} {bc bs : Nat}  : ∀ (k n0 : Nat) (hk : k ≤ bc) (hn : n0 ≤ bs)  (u : PRS) (a : Nat → Nat) (ls : Array Slot) (H : Heap) (locs : List Loc), lv_has ls 4 [(0, .ref r), (1, .ref b)] → wd x A s.heap ((prl x g b) a u ++ ex) H locs → B_Rep_emit_159 hw9 tm mn Ki Qc bc bs  k n0  u → W p l e (rmN (lv + 4) bc bs) s m args below meth c H locs k n0 (MQ below (QeV x (prl x g b) ex A Qc) args s bc bs A) (F0 m 159 ls []) := by
  intro k n0 hk hn  u a ls H locs hl hw h
  refine lv_aload_n S.1 S.2.1 d_Rep_emit_159 rfl (lv_at hl 0 rfl) ?_
  refine mm_fld S hK hw (List.mem_append_right (prl x g b a u) hc) rfl i_Rep 3 (by decide) k_501 rfl d_Rep_emit_160 ?_
  refine lv_bipush (v := 43) S.1 S.2.1 d_Rep_emit_163 (by decide) ?_
  refine lv_icmp_ne (tgt := 178) S.1 S.2.1 d_Rep_emit_165 (by decide) (fun q_165 => ?_) (fun q_165 => ?_)
  · have h := h.2 q_165
    refine W.widen (k := bc) (n := bs) hk hn ?_
    exact w_vretE S hr hlk hw h d_Rep_emit_178
  · have h := h.1 q_165
    refine lv_aload_n S.1 S.2.1 d_Rep_emit_168 rfl (lv_at hl 1 rfl) ?_
    refine p_op S hE hw.2.2 13 (by decide) rfl k_727 d_Rep_emit_169 ?_
    refine lv_iconst (v := 0) S.1 S.2.1 d_Rep_emit_172 (by decide) ?_
    refine lv_iconst (v := 0) S.1 S.2.1 d_Rep_emit_173 (by decide) ?_
    obtain ⟨kc_174, nc_174, hk_174, hn_174, h⟩ := h
    refine mm_add (R := rmN (lv + 4) bc bs) (cells := k) (slots := n0) (rest := []) S hK hE hA hw h k_705 (by show 3 ≤ lv + 4; omega) (by show 64 * 3 ≤ 64 * (lv + 4); omega) ⟨hk_174, hn_174⟩ hl.1 (Nat.le_of_ble_eq_true rfl) d_Rep_emit_174 (fun r_174 u_174 a_174 H locs h hw => ?_)
    refine lv_pop S.1 S.2.1 d_Rep_emit_177 rfl ?_
    refine W.widen (k := bc) (n := bs) hk_174 hn_174 ?_
    exact w_vretE S hr hlk hw h d_Rep_emit_178
set_option maxHeartbeats 4000000 in
set_option maxRecDepth 20000 in
theorem wB_Rep_emit_96 {lv q : Nat} {hw9 : Int32} {tm : Int32} {mn : Int32} {T : PT} {Ki : (Nat → Nat → PRS → (PRS → Prop) → Prop)} (hc : (r, .inr (9, [.ref q, .int hw9, .int tm, .int mn])) ∈ ex) (hT : TP x g ex T q) (hOK : EOK l x g T Ki lv) (S : CallFix p m c b_Rep_emit 4 s args lw_tg "PatternBench$Repeat") (hr : meth.sig.returnType = none) (hlk : meth.locks = false) (hK : GK x s) (hE : EN g A s s.heap) (hA : ∀ q : Nat, s.heap.size ≤ q → A q) {Qc : PRS → Prop} {bc bs : Nat}  : ∀ (k n0 : Nat) (hk : k ≤ bc) (hn : n0 ≤ bs)  (u : PRS) (a : Nat → Nat) (ls : Array Slot) (H : Heap) (locs : List Loc), lv_has ls 4 [(0, .ref r), (1, .ref b)] → wd x A s.heap ((prl x g b) a u ++ ex) H locs → B_Rep_emit_96 hw9 tm mn Ki Qc bc bs  k n0  u → W p l e (rmN (lv + 4) bc bs) s m args below meth c H locs k n0 (MQ below (QeV x (prl x g b) ex A Qc) args s bc bs A) (F0 m 96 ls []) := by
  intro k n0 hk hn  u a ls H locs hl hw h
  refine lv_aload_n S.1 S.2.1 d_Rep_emit_96 rfl (lv_at hl 0 rfl) ?_
  refine mm_fld S hK hw (List.mem_append_right (prl x g b a u) hc) rfl i_Rep 1 (by decide) k_499 rfl d_Rep_emit_97 ?_
  refine lv_bipush (v := 63) S.1 S.2.1 d_Rep_emit_100 (by decide) ?_
  refine lv_icmp_ne (tgt := 159) S.1 S.2.1 d_Rep_emit_102 (by decide) (fun q_102 => ?_) (fun q_102 => ?_)
  · have h := h.2 q_102
    exact wB_Rep_emit_159 hc hT hOK S hr hlk hK hE hA  k n0 hk hn  u a _ _ _ (lv_sub hl [0, 1] rfl) hw h
  · have h := h.1 q_102
    refine lv_aload_n S.1 S.2.1 d_Rep_emit_105 rfl (lv_at hl 1 rfl) ?_
    refine p_op S hE hw.2.2 8 (by decide) rfl k_719 d_Rep_emit_106 ?_
    refine lv_iconst (v := 0) S.1 S.2.1 d_Rep_emit_109 (by decide) ?_
    refine lv_iconst (v := 0) S.1 S.2.1 d_Rep_emit_110 (by decide) ?_
    obtain ⟨kc_111, nc_111, hk_111, hn_111, h⟩ := h
    refine mm_add (R := rmN (lv + 4) bc bs) (cells := k) (slots := n0) (rest := []) S hK hE hA hw h k_705 (by show 3 ≤ lv + 4; omega) (by show 64 * 3 ≤ 64 * (lv + 4); omega) ⟨hk_111, hn_111⟩ hl.1 (Nat.le_of_ble_eq_true rfl) d_Rep_emit_111 (fun r_111 u_111 a_111 H locs h hw => ?_)
    refine lv_istore_n (lv' := [(3, .int r_111), (0, .ref r), (1, .ref b)]) S.1 S.2.1 d_Rep_emit_114 rfl hl (by decide) rfl (fun ls hl => ?_)
    refine lv_aload_n S.1 S.2.1 d_Rep_emit_115 rfl (lv_at hl 2 rfl) ?_
    refine mm_pg S hK hw 1 (by decide) k_79 rfl d_Rep_emit_116 ?_
    refine lv_iload_n S.1 S.2.1 d_Rep_emit_119 rfl (lv_at hl 0 rfl) ?_
    refine lv_aload_n S.1 S.2.1 d_Rep_emit_120 rfl (lv_at hl 2 rfl) ?_
    refine mm_pg S hK hw 4 (by decide) k_90 rfl d_Rep_emit_121 ?_
    have hg := h.1
    have h := h.2
    refine mm_xs S hK hw hg d_Rep_emit_124 (fun H locs hw => ?_)
    refine lv_aload_n S.1 S.2.1 d_Rep_emit_125 rfl (lv_at hl 1 rfl) ?_
    refine mm_fld S hK hw (List.mem_append_right (prl x g b a_111 (rs_xF u_111 (upd (r_xF u_111) r_111.toNatClampNeg (r_ln u_111)))) hc) rfl i_Rep 0 (by decide) k_498 rfl d_Rep_emit_126 ?_
    refine lv_aload_n S.1 S.2.1 d_Rep_emit_129 rfl (lv_at hl 2 rfl) ?_
    obtain ⟨kc_130, nc_130, hk_130, hn_130, h⟩ := h
    refine mm_emit (R := rmN (lv + 4) bc bs) (cells := (k + kc_111)) (slots := (n0 + nc_111)) (rest := []) S hK hE hA hw hT hOK h k_707 (by show lv + 1 ≤ lv + 4; omega) (by show 64 * (lv + 1) ≤ 64 * (lv + 4); omega) ⟨hk_130, hn_130⟩ hl.1 (Nat.le_of_ble_eq_true rfl) d_Rep_emit_130 (fun u_130 a_130 H locs h hw => ?_)
    refine lv_aload_n S.1 S.2.1 d_Rep_emit_135 rfl (lv_at hl 2 rfl) ?_
    refine mm_pg S hK hw 2 (by decide) k_83 rfl d_Rep_emit_136 ?_
    refine lv_iload_n S.1 S.2.1 d_Rep_emit_139 rfl (lv_at hl 0 rfl) ?_
    refine lv_aload_n S.1 S.2.1 d_Rep_emit_140 rfl (lv_at hl 2 rfl) ?_
    refine mm_pg S hK hw 4 (by decide) k_90 rfl d_Rep_emit_141 ?_
    have hg := h.1
    have h := h.2
    refine mm_ys S hK hw hg d_Rep_emit_144 (fun H locs hw => ?_)
    refine lv_aload_n S.1 S.2.1 d_Rep_emit_145 rfl (lv_at hl 1 rfl) ?_
    refine mm_fld S hK hw (List.mem_append_right (prl x g b a_130 (rs_yF u_130 (upd (r_yF u_130) r_111.toNatClampNeg (r_ln u_130)))) hc) rfl i_Rep 3 (by decide) k_501 rfl d_Rep_emit_146 ?_
    refine lv_bipush (v := 63) S.1 S.2.1 d_Rep_emit_149 (by decide) ?_
    refine lv_icmp_ne (tgt := 159) S.1 S.2.1 d_Rep_emit_151 (by decide) (fun q_151 => ?_) (fun q_151 => ?_)
    · have h := h.2 q_151
      exact wB_Rep_emit_159 hc hT hOK S hr hlk hK hE hA  ((k + kc_111) + kc_130) ((n0 + nc_111) + nc_130) hk_130 hn_130  (rs_yF u_130 (upd (r_yF u_130) r_111.toNatClampNeg (r_ln u_130))) a_130 _ _ _ (lv_sub hl [1, 2] rfl) hw h
    · have h := h.1 q_151
      refine lv_aload_n S.1 S.2.1 d_Rep_emit_154 rfl (lv_at hl 2 rfl) ?_
      refine lv_iload_n S.1 S.2.1 d_Rep_emit_155 rfl (lv_at hl 0 rfl) ?_
      refine w_cvF hA hw (w_rsE (rest := []) S hK hE hA hw (c_Rep_swap (r := 0) l r_111 (rs_yF u_130 (upd (r_yF u_130) r_111.toNatClampNeg (r_ln u_130))) _ _ h) (w_cb (fr := 0) (lv := 0) S.2.2.2.2 k_726 k_724 k_23 yd_Rep_swap rfl rfl ⟨by show 0 + 1 ≤ lv + 4; omega, by show 8 + (3 + 11) + 64 * 0 ≤ 64 * (lv + 4); omega⟩) k_725 rfl hl.1 rfl (Nat.le_of_ble_eq_true rfl) d_Rep_emit_156 ⟨hk_130, hn_130⟩) (fun u_156 H locs h hw => ?_)
      exact wB_Rep_emit_159 hc hT hOK S hr hlk hK hE hA  ((k + kc_111) + kc_130) ((n0 + nc_111) + nc_130) hk_130 hn_130  u_156 a_130 _ _ _ (lv_sub hl [1, 2] rfl) hw h
set_option maxHeartbeats 4000000 in
set_option maxRecDepth 20000 in
theorem wB_Rep_emit_91 {lv q : Nat} {hw9 : Int32} {tm : Int32} {mn : Int32} {T : PT} {Ki : (Nat → Nat → PRS → (PRS → Prop) → Prop)} (hc : (r, .inr (9, [.ref q, .int hw9, .int tm, .int mn])) ∈ ex) (hT : TP x g ex T q) (hOK : EOK l x g T Ki lv) (S : CallFix p m c b_Rep_emit 4 s args lw_tg "PatternBench$Repeat") (hr : meth.sig.returnType = none) (hlk : meth.locks = false) (hK : GK x s) (hE : EN g A s s.heap) (hA : ∀ q : Nat, s.heap.size ≤ q → A q) {Qc : PRS → Prop} {bc bs : Nat}  : ∀ (k n0 : Nat) (hk : k ≤ bc) (hn : n0 ≤ bs)  (u : PRS) (a : Nat → Nat) (ls : Array Slot) (H : Heap) (locs : List Loc), lv_has ls 4 [(0, .ref r), (1, .ref b)] → wd x A s.heap ((prl x g b) a u ++ ex) H locs → B_Rep_emit_91 hw9 tm mn Ki Qc bc bs  k n0  u → W p l e (rmN (lv + 4) bc bs) s m args below meth c H locs k n0 (MQ below (QeV x (prl x g b) ex A Qc) args s bc bs A) (F0 m 91 ls []) := by
  intro k n0 hk hn  u a ls H locs hl hw h
  refine lv_aload_n S.1 S.2.1 d_Rep_emit_91 rfl (lv_at hl 0 rfl) ?_
  refine lv_aload_n S.1 S.2.1 d_Rep_emit_92 rfl (lv_at hl 1 rfl) ?_
  obtain ⟨kc_93, nc_93, hk_93, hn_93, h⟩ := h
  obtain ⟨j9, hj9⟩ := List.getElem?_of_mem (List.mem_append_right (prl x g b a u) hc)
  refine w_cvE hA hw (w_rvE (rest := []) S hK hE hA hw (c_Rep_star l hc hT hOK kc_93 nc_93 u _ _ h) (ci := 9) (q0 := j9) rfl hj9 (w_cb (fr := 0) (lv := 0) S.2.2.2.2 k_718 k_715 k_23 yd_Rep_star rfl rfl ⟨by show lv + 3 + 1 ≤ lv + 4; omega, by show 8 + (3 + 11) + 64 * (lv + 3) ≤ 64 * (lv + 4); omega⟩) k_717 s_15 rfl hl.1 rfl (Nat.le_of_ble_eq_true rfl) d_Rep_emit_93 ⟨hk_93, hn_93⟩) (fun u_93 a_93 H locs h hw => ?_)
  exact wB_Rep_emit_96 hc hT hOK S hr hlk hK hE hA  (k + kc_93) (n0 + nc_93) hk_93 hn_93  u_93 a_93 _ _ _ (lv_sub hl [0, 1] rfl) hw h
set_option maxHeartbeats 4000000 in
set_option maxRecDepth 20000 in
theorem wL_Rep_emit_52 {lv q : Nat} {hw9 : Int32} {tm : Int32} {mn : Int32} {T : PT} {Ki : (Nat → Nat → PRS → (PRS → Prop) → Prop)} (hc : (r, .inr (9, [.ref q, .int hw9, .int tm, .int mn])) ∈ ex) (hT : TP x g ex T q) (hOK : EOK l x g T Ki lv) (S : CallFix p m c b_Rep_emit 4 s args lw_tg "PatternBench$Repeat") (hr : meth.sig.returnType = none) (hlk : meth.locks = false) (hK : GK x s) (hE : EN g A s s.heap) (hA : ∀ q : Nat, s.heap.size ≤ q → A q) {Qc : PRS → Prop} {bc bs : Nat}  : ∀ (n : Nat) (k n0 : Nat) (hk : k ≤ bc) (hn : n0 ≤ bs) (x2 : Int32) (x3 : Int32) (u : PRS) (a : Nat → Nat) (ls : Array Slot) (H : Heap) (locs : List Loc), lv_has ls 4 [(0, .ref r), (1, .ref b), (2, .int x2), (3, .int x3)] → wd x A s.heap ((prl x g b) a u ++ ex) H locs → L_Rep_emit_52 hw9 tm mn Ki Qc bc bs  n k n0 x2 x3 u → W p l e (rmN (lv + 4) bc bs) s m args below meth c H locs k n0 (MQ below (QeV x (prl x g b) ex A Qc) args s bc bs A) (F0 m 52 ls []) := by
  intro n
  induction n with
  | zero =>
    intro k n0 hk hn x2 x3 u a ls H locs hl hw h
    exact absurd h id
  | succ n ih =>
    intro k n0 hk hn x2 x3 u a ls H locs hl hw h
    refine lv_iload_n S.1 S.2.1 d_Rep_emit_52 rfl (lv_at hl 3 rfl) ?_
    refine lv_iload_n S.1 S.2.1 d_Rep_emit_53 rfl (lv_at hl 2 rfl) ?_
    refine lv_icmp_ge (tgt := 73) S.1 S.2.1 d_Rep_emit_54 (by decide) (fun q_54 => ?_) (fun q_54 => ?_)
    · have h := h.1 q_54
      refine lv_aload_n S.1 S.2.1 d_Rep_emit_73 rfl (lv_at hl 0 rfl) ?_
      refine mm_fld S hK hw (List.mem_append_right (prl x g b a u) hc) rfl i_Rep 1 (by decide) k_499 rfl d_Rep_emit_74 ?_
      refine lv_bipush (v := 42) S.1 S.2.1 d_Rep_emit_77 (by decide) ?_
      refine lv_icmp_eq (tgt := 91) S.1 S.2.1 d_Rep_emit_79 (by decide) (fun q_79 => ?_) (fun q_79 => ?_)
      · have h := h.1 q_79
        exact wB_Rep_emit_91 hc hT hOK S hr hlk hK hE hA  k n0 hk hn  u a _ _ _ (lv_sub hl [0, 1] rfl) hw h
      · have h := h.2 q_79
        refine lv_aload_n S.1 S.2.1 d_Rep_emit_82 rfl (lv_at hl 0 rfl) ?_
        refine mm_fld S hK hw (List.mem_append_right (prl x g b a u) hc) rfl i_Rep 1 (by decide) k_499 rfl d_Rep_emit_83 ?_
        refine lv_bipush (v := 43) S.1 S.2.1 d_Rep_emit_86 (by decide) ?_
        refine lv_icmp_ne (tgt := 96) S.1 S.2.1 d_Rep_emit_88 (by decide) (fun q_88 => ?_) (fun q_88 => ?_)
        · have h := h.2 q_88
          exact wB_Rep_emit_96 hc hT hOK S hr hlk hK hE hA  k n0 hk hn  u a _ _ _ (lv_sub hl [0, 1] rfl) hw h
        · have h := h.1 q_88
          exact wB_Rep_emit_91 hc hT hOK S hr hlk hK hE hA  k n0 hk hn  u a _ _ _ (lv_sub hl [0, 1] rfl) hw h
    · have h := h.2 q_54
      refine lv_aload_n S.1 S.2.1 d_Rep_emit_57 rfl (lv_at hl 0 rfl) ?_
      refine mm_fld S hK hw (List.mem_append_right (prl x g b a u) hc) rfl i_Rep 0 (by decide) k_498 rfl d_Rep_emit_58 ?_
      refine lv_aload_n S.1 S.2.1 d_Rep_emit_61 rfl (lv_at hl 1 rfl) ?_
      obtain ⟨kc_62, nc_62, hk_62, hn_62, h⟩ := h
      refine mm_emit (R := rmN (lv + 4) bc bs) (cells := k) (slots := n0) (rest := []) S hK hE hA hw hT hOK h k_707 (by show lv + 1 ≤ lv + 4; omega) (by show 64 * (lv + 1) ≤ 64 * (lv + 4); omega) ⟨hk_62, hn_62⟩ hl.1 (Nat.le_of_ble_eq_true rfl) d_Rep_emit_62 (fun u_62 a_62 H locs h hw => ?_)
      obtain ⟨x3_67, ex3_67⟩ : ∃ y : Int32, y = x3 + 1 := ⟨_, rfl⟩
      have h := h x3_67 ex3_67
      refine lv_iinc (v := x3_67) (lv' := [(3, .int x3_67), (0, .ref r), (1, .ref b), (2, .int x2)]) S.1 S.2.1 d_Rep_emit_67 hl (k := 3) rfl (by rw [ex3_67]; rfl) (by decide) rfl (fun ls hl => ?_)
      refine lv_goto (tgt := 52) S.1 S.2.1 d_Rep_emit_70 (by decide) ?_
      exact ih (k + kc_62) (n0 + nc_62) hk_62 hn_62 x2 x3_67 u_62 a_62 _ _ _ (lv_sub hl [1, 2, 3, 0] rfl) hw h
set_option maxHeartbeats 4000000 in
set_option maxRecDepth 20000 in
theorem wB_Rep_emit_49 {lv q : Nat} {hw9 : Int32} {tm : Int32} {mn : Int32} {T : PT} {Ki : (Nat → Nat → PRS → (PRS → Prop) → Prop)} (hc : (r, .inr (9, [.ref q, .int hw9, .int tm, .int mn])) ∈ ex) (hT : TP x g ex T q) (hOK : EOK l x g T Ki lv) (S : CallFix p m c b_Rep_emit 4 s args lw_tg "PatternBench$Repeat") (hr : meth.sig.returnType = none) (hlk : meth.locks = false) (hK : GK x s) (hE : EN g A s s.heap) (hA : ∀ q : Nat, s.heap.size ≤ q → A q) {Qc : PRS → Prop} {bc bs : Nat}  : ∀ (k n0 : Nat) (hk : k ≤ bc) (hn : n0 ≤ bs) (t0 : Int32) (u : PRS) (a : Nat → Nat) (ls : Array Slot) (H : Heap) (locs : List Loc), lv_has ls 4 [(0, .ref r), (1, .ref b)] → wd x A s.heap ((prl x g b) a u ++ ex) H locs → B_Rep_emit_49 hw9 tm mn Ki Qc bc bs  k n0 t0 u → W p l e (rmN (lv + 4) bc bs) s m args below meth c H locs k n0 (MQ below (QeV x (prl x g b) ex A Qc) args s bc bs A) (F0 m 49 ls [.int t0]) := by
  intro k n0 hk hn t0 u a ls H locs hl hw h
  refine lv_istore_n (lv' := [(2, .int t0), (0, .ref r), (1, .ref b)]) S.1 S.2.1 d_Rep_emit_49 rfl hl (by decide) rfl (fun ls hl => ?_)
  refine lv_iconst (v := 0) S.1 S.2.1 d_Rep_emit_50 (by decide) ?_
  refine lv_istore_n (lv' := [(3, .int (0 : Int32)), (2, .int t0), (0, .ref r), (1, .ref b)]) S.1 S.2.1 d_Rep_emit_51 rfl hl (by decide) rfl (fun ls hl => ?_)
  obtain ⟨n9, h⟩ := h
  exact wL_Rep_emit_52 hc hT hOK S hr hlk hK hE hA  n9 k n0 hk hn t0 (0 : Int32) u a _ _ _ (lv_sub hl [2, 3, 1, 0] rfl) hw h
set_option maxHeartbeats 4000000 in
set_option maxRecDepth 20000 in
theorem wB_Rep_emit_19 {lv q : Nat} {hw9 : Int32} {tm : Int32} {mn : Int32} {T : PT} {Ki : (Nat → Nat → PRS → (PRS → Prop) → Prop)} (hc : (r, .inr (9, [.ref q, .int hw9, .int tm, .int mn])) ∈ ex) (hT : TP x g ex T q) (hOK : EOK l x g T Ki lv) (S : CallFix p m c b_Rep_emit 4 s args lw_tg "PatternBench$Repeat") (hr : meth.sig.returnType = none) (hlk : meth.locks = false) (hK : GK x s) (hE : EN g A s s.heap) (hA : ∀ q : Nat, s.heap.size ≤ q → A q) {Qc : PRS → Prop} {bc bs : Nat}  : ∀ (k n0 : Nat) (hk : k ≤ bc) (hn : n0 ≤ bs)  (u : PRS) (a : Nat → Nat) (ls : Array Slot) (H : Heap) (locs : List Loc), lv_has ls 4 [(0, .ref r), (1, .ref b)] → wd x A s.heap ((prl x g b) a u ++ ex) H locs → B_Rep_emit_19 hw9 tm mn Ki Qc bc bs  k n0  u → W p l e (rmN (lv + 4) bc bs) s m args below meth c H locs k n0 (MQ below (QeV x (prl x g b) ex A Qc) args s bc bs A) (F0 m 19 ls []) := by
  intro k n0 hk hn  u a ls H locs hl hw h
  refine lv_aload_n S.1 S.2.1 d_Rep_emit_19 rfl (lv_at hl 0 rfl) ?_
  refine mm_fld S hK hw (List.mem_append_right (prl x g b a u) hc) rfl i_Rep 1 (by decide) k_499 rfl d_Rep_emit_20 ?_
  refine lv_bipush (v := 123) S.1 S.2.1 d_Rep_emit_23 (by decide) ?_
  refine lv_icmp_ne (tgt := 35) S.1 S.2.1 d_Rep_emit_25 (by decide) (fun q_25 => ?_) (fun q_25 => ?_)
  · have h := h.2 q_25
    refine lv_aload_n S.1 S.2.1 d_Rep_emit_35 rfl (lv_at hl 0 rfl) ?_
    refine mm_fld S hK hw (List.mem_append_right (prl x g b a u) hc) rfl i_Rep 1 (by decide) k_499 rfl d_Rep_emit_36 ?_
    refine lv_bipush (v := 43) S.1 S.2.1 d_Rep_emit_39 (by decide) ?_
    refine lv_icmp_ne (tgt := 48) S.1 S.2.1 d_Rep_emit_41 (by decide) (fun q_41 => ?_) (fun q_41 => ?_)
    · have h := h.2 q_41
      refine lv_iconst (v := 0) S.1 S.2.1 d_Rep_emit_48 (by decide) ?_
      exact wB_Rep_emit_49 hc hT hOK S hr hlk hK hE hA  k n0 hk hn (0 : Int32) u a _ _ _ (lv_sub hl [0, 1] rfl) hw h
    · have h := h.1 q_41
      refine lv_iconst (v := 1) S.1 S.2.1 d_Rep_emit_44 (by decide) ?_
      refine lv_goto (tgt := 49) S.1 S.2.1 d_Rep_emit_45 (by decide) ?_
      exact wB_Rep_emit_49 hc hT hOK S hr hlk hK hE hA  k n0 hk hn (1 : Int32) u a _ _ _ (lv_sub hl [0, 1] rfl) hw h
  · have h := h.1 q_25
    refine lv_aload_n S.1 S.2.1 d_Rep_emit_28 rfl (lv_at hl 0 rfl) ?_
    refine mm_fld S hK hw (List.mem_append_right (prl x g b a u) hc) rfl i_Rep 2 (by decide) k_500 rfl d_Rep_emit_29 ?_
    refine lv_goto (tgt := 49) S.1 S.2.1 d_Rep_emit_32 (by decide) ?_
    exact wB_Rep_emit_49 hc hT hOK S hr hlk hK hE hA  k n0 hk hn tm u a _ _ _ (lv_sub hl [0, 1] rfl) hw h
set_option maxHeartbeats 4000000 in
set_option maxRecDepth 20000 in
theorem c_Rep_emit {x : GX} {g : GE} {b r : Nat} {ex : va_W} {a : Nat → Nat} (l : Launch) {lv q : Nat} {hw9 : Int32} {tm : Int32} {mn : Int32} {T : PT} {Ki : (Nat → Nat → PRS → (PRS → Prop) → Prop)} (hc : (r, .inr (9, [.ref q, .int hw9, .int tm, .int mn])) ∈ ex) (hT : TP x g ex T q) (hOK : EOK l x g T Ki lv) (bc bs : Nat)  (u : PRS) (sz : Nat) (Qc : PRS → Prop) (h : P_Rep_emit hw9 tm mn Ki bc bs  u Qc) : Met l y_Rep_emit (wM y_Rep_emit b_Rep_emit 4 none) (rmN (lv + 4) bc bs) (PreE x g (prl x g b) ex [.ref r, .ref b] a u sz) (QeV x (prl x g b) ex (va_A ((prl x g b) a u ++ ex) sz) Qc) bc bs (va_A ((prl x g b) a u ++ ex) sz) := by
  refine w_enterE (by decide +kernel) (Nat.le_of_ble_eq_true rfl) (fun p e s m args below meth c S hr hlk hnm hK hE hA hw ls hl => ?_)
  have hl : lv_has ls 4 [(0, .ref r), (1, .ref b)] := hl
  refine lv_aload_n S.1 S.2.1 d_Rep_emit_0 rfl (lv_at hl 0 rfl) ?_
  refine mm_fld S hK hw (List.mem_append_right (prl x g b a u) hc) rfl i_Rep 3 (by decide) k_501 rfl d_Rep_emit_1 ?_
  refine lv_bipush (v := 43) S.1 S.2.1 d_Rep_emit_4 (by decide) ?_
  refine lv_icmp_ne (tgt := 19) S.1 S.2.1 d_Rep_emit_6 (by decide) (fun q_6 => ?_) (fun q_6 => ?_)
  · have h := h.2 q_6
    exact wB_Rep_emit_19 hc hT hOK S hr hlk hK hE hA  0 0 (Nat.zero_le _) (Nat.zero_le _)  u a _ _ _ (lv_sub hl [0, 1] rfl) hw h
  · have h := h.1 q_6
    refine lv_aload_n S.1 S.2.1 d_Rep_emit_9 rfl (lv_at hl 1 rfl) ?_
    refine p_op S hE hw.2.2 12 (by decide) rfl k_703 d_Rep_emit_10 ?_
    refine lv_iconst (v := 0) S.1 S.2.1 d_Rep_emit_13 (by decide) ?_
    refine lv_iconst (v := 0) S.1 S.2.1 d_Rep_emit_14 (by decide) ?_
    obtain ⟨kc_15, nc_15, hk_15, hn_15, h⟩ := h
    refine mm_add (R := rmN (lv + 4) bc bs) (cells := 0) (slots := 0) (rest := []) S hK hE hA hw h k_705 (by show 3 ≤ lv + 4; omega) (by show 64 * 3 ≤ 64 * (lv + 4); omega) ⟨hk_15, hn_15⟩ hl.1 (Nat.le_of_ble_eq_true rfl) d_Rep_emit_15 (fun r_15 u_15 a_15 H locs h hw => ?_)
    refine lv_pop S.1 S.2.1 d_Rep_emit_18 rfl ?_
    exact wB_Rep_emit_19 hc hT hOK S hr hlk hK hE hA  (0 + kc_15) (0 + nc_15) hk_15 hn_15  u_15 a_15 _ _ _ (lv_sub hl [0, 1] rfl) hw h
end MW
