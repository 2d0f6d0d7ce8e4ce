theorem k_6 : (Cond.initialized "PatternBench$Program") ∈ lw_tg := kw 6 (by decide +kernel) (by decide +kernel)
theorem k_32 : (Cond.methodLink "PatternBench" 1 ⟨"java/lang/Object", "<init>", "()V"⟩) ∈ lw_tg := kw 32 (by decide +kernel) (by decide +kernel)
theorem k_35 : (Cond.classLink "PatternBench" 7 "java/lang/StringBuilder") ∈ lw_tg := kw 35 (by decide +kernel) (by decide +kernel)
theorem k_36 : (Cond.instantiable "java/lang/StringBuilder" 4) ∈ lw_tg := kw 36 (by decide +kernel) (by decide +kernel)
theorem k_37 : (Cond.methodLink "PatternBench" 9 ⟨"java/lang/StringBuilder", "<init>", "()V"⟩) ∈ lw_tg := kw 37 (by decide +kernel) (by decide +kernel)
theorem k_38 : (Cond.instanceMethod ⟨"java/lang/StringBuilder", "<init>", "()V"⟩) ∈ lw_tg := kw 38 (by decide +kernel) (by decide +kernel)
theorem k_39 : (Cond.code ⟨"java/lang/StringBuilder", "<init>", "()V"⟩ prog_21_method_1_code 1 (Option.none : Option Jvm.ClassFile.FieldType)) ∈ lw_tg := kw 39 (by decide +kernel) (by decide +kernel)
theorem k_67 : (Cond.classLink "PatternBench" 19 "PatternBench$Program") ∈ lw_tg := kw 67 (by decide +kernel) (by decide +kernel)
theorem k_68 : (Cond.instantiable "PatternBench$Program" 5) ∈ lw_tg := kw 68 (by decide +kernel) (by decide +kernel)
theorem k_70 : (Cond.instanceMethod ⟨"PatternBench$Program", "<init>", "()V"⟩) ∈ lw_tg := kw 70 (by decide +kernel) (by decide +kernel)
theorem k_71 : (Cond.code ⟨"PatternBench$Program", "<init>", "()V"⟩ prog_7_method_1_code 1 (Option.none : Option Jvm.ClassFile.FieldType)) ∈ lw_tg := kw 71 (by decide +kernel) (by decide +kernel)
theorem k_72 : (Cond.methodLink "PatternBench$Program" 1 ⟨"java/lang/Object", "<init>", "()V"⟩) ∈ lw_tg := kw 72 (by decide +kernel) (by decide +kernel)
theorem k_73 : (Cond.classLink "PatternBench$Program" 7 "PatternBench$Op") ∈ lw_tg := kw 73 (by decide +kernel) (by decide +kernel)
theorem k_75 : (Cond.fieldLink "PatternBench$Program" 9 "PatternBench$Program" "op" "[LPatternBench$Op;") ∈ lw_tg := kw 75 (by decide +kernel) (by decide +kernel)
theorem k_77 : (Cond.fieldLink "PatternBench$Program" 15 "PatternBench$Program" "x" "[I") ∈ lw_tg := kw 77 (by decide +kernel) (by decide +kernel)
theorem k_81 : (Cond.fieldLink "PatternBench$Program" 19 "PatternBench$Program" "y" "[I") ∈ lw_tg := kw 81 (by decide +kernel) (by decide +kernel)
theorem k_86 : (Cond.fieldLink "PatternBench$Program" 22 "PatternBench$Program" "entry" "[I") ∈ lw_tg := kw 86 (by decide +kernel) (by decide +kernel)
theorem k_105 : (Cond.classLink "PatternBench" 26 "PatternBench$Part") ∈ lw_tg := kw 105 (by decide +kernel) (by decide +kernel)
theorem k_107 : (Cond.methodLink "PatternBench" 45 ⟨"java/lang/Math", "min", "(II)I"⟩) ∈ lw_tg := kw 107 (by decide +kernel) (by decide +kernel)
theorem k_867 : (Cond.methodLink "PatternBenchModel" 1 ⟨"java/lang/Object", "<init>", "()V"⟩) ∈ lw_tg := kw 867 (by decide +kernel) (by decide +kernel)
theorem k_950 : (Cond.arrayClass .long) ∈ lw_tg := kw 950 (by decide +kernel) (by decide +kernel)
/-! Constructors of Program, PatternBench, PatternBenchModel -/
def pr0 : PRS := (64, fun _ => none, 64, fun _ => 0, 64, fun _ => 0, fun _ => 0, 0)
def lim0 (n : Int32) : Int32 := if 20 < (if n < 300 then n else 300) then (if n < 300 then n else 300) else 20
def pb0 (n : Int32) : PS := (lim0 n, 0, 0, 0, 0, 0, 0, 0, 0, 0, 0, 0, 0, 0, 0, 0, sb0, sb0, pr0, fun _ => none, 600, fun _ => 0, fun _ => 0, 16, fun _ => 0, fun _ => 0)
abbrev b_Pr_init : ByteArray := prog_7_method_1_code
def y_Pr_init : MethodName := ⟨"PatternBench$Program", "<init>", "()V"⟩
theorem yd_Pr_init : y_Pr_init.cls ≠ "java/lang/invoke/MethodHandle" ∧ y_Pr_init.cls ≠ "java/lang/invoke/VarHandle" ∧ (parseMethodDescriptor y_Pr_init.desc).map (fun d => d.parameters.length) = some 0 := by decide +kernel
theorem d_Pr_init_0 : decode b_Pr_init 0 = .ok (.aload_n 0, 1) := by decide +kernel
theorem d_Pr_init_1 : decode b_Pr_init 1 = .ok (.invokespecial 1, 3) := by decide +kernel
theorem d_Pr_init_4 : decode b_Pr_init 4 = .ok (.aload_n 0, 1) := by decide +kernel
theorem d_Pr_init_5 : decode b_Pr_init 5 = .ok (.bipush 64, 2) := by decide +kernel
theorem d_Pr_init_7 : decode b_Pr_init 7 = .ok (.anewarray 7, 3) := by decide +kernel
theorem d_Pr_init_10 : decode b_Pr_init 10 = .ok (.putfield 9, 3) := by decide +kernel
theorem d_Pr_init_13 : decode b_Pr_init 13 = .ok (.aload_n 0, 1) := by decide +kernel
theorem d_Pr_init_14 : decode b_Pr_init 14 = .ok (.bipush 64, 2) := by decide +kernel
theorem d_Pr_init_16 : decode b_Pr_init 16 = .ok (.newarray .int, 2) := by decide +kernel
theorem d_Pr_init_18 : decode b_Pr_init 18 = .ok (.putfield 15, 3) := by decide +kernel
theorem d_Pr_init_21 : decode b_Pr_init 21 = .ok (.aload_n 0, 1) := by decide +kernel
theorem d_Pr_init_22 : decode b_Pr_init 22 = .ok (.bipush 64, 2) := by decide +kernel
theorem d_Pr_init_24 : decode b_Pr_init 24 = .ok (.newarray .int, 2) := by decide +kernel
theorem d_Pr_init_26 : decode b_Pr_init 26 = .ok (.putfield 19, 3) := by decide +kernel
theorem d_Pr_init_29 : decode b_Pr_init 29 = .ok (.aload_n 0, 1) := by decide +kernel
theorem d_Pr_init_30 : decode b_Pr_init 30 = .ok (.iconst 5, 1) := by decide +kernel
theorem d_Pr_init_31 : decode b_Pr_init 31 = .ok (.newarray .int, 2) := by decide +kernel
theorem d_Pr_init_33 : decode b_Pr_init 33 = .ok (.putfield 22, 3) := by decide +kernel
theorem d_Pr_init_36 : decode b_Pr_init 36 = .ok (.return_, 1) := by decide +kernel
abbrev b_B_init : ByteArray := prog_1_method_2_code
def y_B_init : MethodName := ⟨"PatternBench", "<init>", "(I)V"⟩
theorem yd_B_init : y_B_init.cls ≠ "java/lang/invoke/MethodHandle" ∧ y_B_init.cls ≠ "java/lang/invoke/VarHandle" ∧ (parseMethodDescriptor y_B_init.desc).map (fun d => d.parameters.length) = some 1 := by decide +kernel
theorem d_B_init_0 : decode b_B_init 0 = .ok (.aload_n 0, 1) := by decide +kernel
theorem d_B_init_1 : decode b_B_init 1 = .ok (.invokespecial 1, 3) := by decide +kernel
theorem d_B_init_4 : decode b_B_init 4 = .ok (.aload_n 0, 1) := by decide +kernel
theorem d_B_init_5 : decode b_B_init 5 = .ok (.new 7, 3) := by decide +kernel
theorem d_B_init_8 : decode b_B_init 8 = .ok (.dup, 1) := by decide +kernel
theorem d_B_init_9 : decode b_B_init 9 = .ok (.invokespecial 9, 3) := by decide +kernel
theorem d_B_init_12 : decode b_B_init 12 = .ok (.putfield 10, 3) := by decide +kernel
theorem d_B_init_15 : decode b_B_init 15 = .ok (.aload_n 0, 1) := by decide +kernel
theorem d_B_init_16 : decode b_B_init 16 = .ok (.new 7, 3) := by decide +kernel
theorem d_B_init_19 : decode b_B_init 19 = .ok (.dup, 1) := by decide +kernel
theorem d_B_init_20 : decode b_B_init 20 = .ok (.invokespecial 9, 3) := by decide +kernel
theorem d_B_init_23 : decode b_B_init 23 = .ok (.putfield 16, 3) := by decide +kernel
theorem d_B_init_26 : decode b_B_init 26 = .ok (.aload_n 0, 1) := by decide +kernel
theorem d_B_init_27 : decode b_B_init 27 = .ok (.new 19, 3) := by decide +kernel
theorem d_B_init_30 : decode b_B_init 30 = .ok (.dup, 1) := by decide +kernel
theorem d_B_init_31 : decode b_B_init 31 = .ok (.invokespecial 21, 3) := by decide +kernel
theorem d_B_init_34 : decode b_B_init 34 = .ok (.putfield 22, 3) := by decide +kernel
theorem d_B_init_37 : decode b_B_init 37 = .ok (.aload_n 0, 1) := by decide +kernel
theorem d_B_init_38 : decode b_B_init 38 = .ok (.iconst 5, 1) := by decide +kernel
theorem d_B_init_39 : decode b_B_init 39 = .ok (.anewarray 26, 3) := by decide +kernel
theorem d_B_init_42 : decode b_B_init 42 = .ok (.putfield 28, 3) := by decide +kernel
theorem d_B_init_45 : decode b_B_init 45 = .ok (.aload_n 0, 1) := by decide +kernel
theorem d_B_init_46 : decode b_B_init 46 = .ok (.sipush 600, 3) := by decide +kernel
theorem d_B_init_49 : decode b_B_init 49 = .ok (.newarray .int, 2) := by decide +kernel
theorem d_B_init_51 : decode b_B_init 51 = .ok (.putfield 32, 3) := by decide +kernel
theorem d_B_init_54 : decode b_B_init 54 = .ok (.aload_n 0, 1) := by decide +kernel
theorem d_B_init_55 : decode b_B_init 55 = .ok (.bipush 10, 2) := by decide +kernel
theorem d_B_init_57 : decode b_B_init 57 = .ok (.newarray .int, 2) := by decide +kernel
theorem d_B_init_59 : decode b_B_init 59 = .ok (.putfield 36, 3) := by decide +kernel
theorem d_B_init_62 : decode b_B_init 62 = .ok (.aload_n 0, 1) := by decide +kernel
theorem d_B_init_63 : decode b_B_init 63 = .ok (.bipush 16, 2) := by decide +kernel
theorem d_B_init_65 : decode b_B_init 65 = .ok (.newarray .int, 2) := by decide +kernel
theorem d_B_init_67 : decode b_B_init 67 = .ok (.putfield 39, 3) := by decide +kernel
theorem d_B_init_70 : decode b_B_init 70 = .ok (.aload_n 0, 1) := by decide +kernel
theorem d_B_init_71 : decode b_B_init 71 = .ok (.bipush 120, 2) := by decide +kernel
theorem d_B_init_73 : decode b_B_init 73 = .ok (.newarray .int, 2) := by decide +kernel
theorem d_B_init_75 : decode b_B_init 75 = .ok (.putfield 42, 3) := by decide +kernel
theorem d_B_init_78 : decode b_B_init 78 = .ok (.aload_n 0, 1) := by decide +kernel
theorem d_B_init_79 : decode b_B_init 79 = .ok (.bipush 20, 2) := by decide +kernel
theorem d_B_init_81 : decode b_B_init 81 = .ok (.sipush 300, 3) := by decide +kernel
theorem d_B_init_84 : decode b_B_init 84 = .ok (.iload_n 1, 1) := by decide +kernel
theorem d_B_init_85 : decode b_B_init 85 = .ok (.invokestatic 45, 3) := by decide +kernel
theorem d_B_init_88 : decode b_B_init 88 = .ok (.invokestatic 51, 3) := by decide +kernel
theorem d_B_init_91 : decode b_B_init 91 = .ok (.putfield 54, 3) := by decide +kernel
theorem d_B_init_94 : decode b_B_init 94 = .ok (.return_, 1) := by decide +kernel
abbrev b_M_init : ByteArray := prog_11_method_1_code
def y_M_init : MethodName := ⟨"PatternBenchModel", "<init>", "(I)V"⟩
theorem yd_M_init : y_M_init.cls ≠ "java/lang/invoke/MethodHandle" ∧ y_M_init.cls ≠ "java/lang/invoke/VarHandle" ∧ (parseMethodDescriptor y_M_init.desc).map (fun d => d.parameters.length) = some 1 := by decide +kernel
theorem d_M_init_0 : decode b_M_init 0 = .ok (.aload_n 0, 1) := by decide +kernel
theorem d_M_init_1 : decode b_M_init 1 = .ok (.invokespecial 1, 3) := by decide +kernel
theorem d_M_init_4 : decode b_M_init 4 = .ok (.aload_n 0, 1) := by decide +kernel
theorem d_M_init_5 : decode b_M_init 5 = .ok (.bipush 32, 2) := by decide +kernel
theorem d_M_init_7 : decode b_M_init 7 = .ok (.newarray .int, 2) := by decide +kernel
theorem d_M_init_9 : decode b_M_init 9 = .ok (.putfield 7, 3) := by decide +kernel
theorem d_M_init_12 : decode b_M_init 12 = .ok (.aload_n 0, 1) := by decide +kernel
theorem d_M_init_13 : decode b_M_init 13 = .ok (.bipush 32, 2) := by decide +kernel
theorem d_M_init_15 : decode b_M_init 15 = .ok (.newarray .int, 2) := by decide +kernel
theorem d_M_init_17 : decode b_M_init 17 = .ok (.putfield 13, 3) := by decide +kernel
theorem d_M_init_20 : decode b_M_init 20 = .ok (.aload_n 0, 1) := by decide +kernel
theorem d_M_init_21 : decode b_M_init 21 = .ok (.bipush 40, 2) := by decide +kernel
theorem d_M_init_23 : decode b_M_init 23 = .ok (.newarray .int, 2) := by decide +kernel
theorem d_M_init_25 : decode b_M_init 25 = .ok (.putfield 16, 3) := by decide +kernel
theorem d_M_init_28 : decode b_M_init 28 = .ok (.aload_n 0, 1) := by decide +kernel
theorem d_M_init_29 : decode b_M_init 29 = .ok (.bipush 8, 2) := by decide +kernel
theorem d_M_init_31 : decode b_M_init 31 = .ok (.newarray .int, 2) := by decide +kernel
theorem d_M_init_33 : decode b_M_init 33 = .ok (.putfield 19, 3) := by decide +kernel
theorem d_M_init_36 : decode b_M_init 36 = .ok (.aload_n 0, 1) := by decide +kernel
theorem d_M_init_37 : decode b_M_init 37 = .ok (.sipush 7000, 3) := by decide +kernel
theorem d_M_init_40 : decode b_M_init 40 = .ok (.newarray .long, 2) := by decide +kernel
theorem d_M_init_42 : decode b_M_init 42 = .ok (.putfield 22, 3) := by decide +kernel
theorem d_M_init_45 : decode b_M_init 45 = .ok (.aload_n 0, 1) := by decide +kernel
theorem d_M_init_46 : decode b_M_init 46 = .ok (.sipush 301, 3) := by decide +kernel
theorem d_M_init_49 : decode b_M_init 49 = .ok (.newarray .long, 2) := by decide +kernel
theorem d_M_init_51 : decode b_M_init 51 = .ok (.putfield 26, 3) := by decide +kernel
theorem d_M_init_54 : decode b_M_init 54 = .ok (.aload_n 0, 1) := by decide +kernel
theorem d_M_init_55 : decode b_M_init 55 = .ok (.sipush 4000, 3) := by decide +kernel
theorem d_M_init_58 : decode b_M_init 58 = .ok (.newarray .long, 2) := by decide +kernel
theorem d_M_init_60 : decode b_M_init 60 = .ok (.putfield 29, 3) := by decide +kernel
theorem d_M_init_63 : decode b_M_init 63 = .ok (.aload_n 0, 1) := by decide +kernel
theorem d_M_init_64 : decode b_M_init 64 = .ok (.sipush 4000, 3) := by decide +kernel
theorem d_M_init_67 : decode b_M_init 67 = .ok (.newarray .long, 2) := by decide +kernel
theorem d_M_init_69 : decode b_M_init 69 = .ok (.putfield 32, 3) := by decide +kernel
theorem d_M_init_72 : decode b_M_init 72 = .ok (.aload_n 0, 1) := by decide +kernel
theorem d_M_init_73 : decode b_M_init 73 = .ok (.iload_n 1, 1) := by decide +kernel
theorem d_M_init_74 : decode b_M_init 74 = .ok (.bipush 20, 2) := by decide +kernel
theorem d_M_init_76 : decode b_M_init 76 = .ok (.if_icmp .ge 8, 3) := by decide +kernel
theorem d_M_init_79 : decode b_M_init 79 = .ok (.bipush 20, 2) := by decide +kernel
theorem d_M_init_81 : decode b_M_init 81 = .ok (.goto 17, 3) := by decide +kernel
theorem d_M_init_84 : decode b_M_init 84 = .ok (.iload_n 1, 1) := by decide +kernel
theorem d_M_init_85 : decode b_M_init 85 = .ok (.sipush 300, 3) := by decide +kernel
theorem d_M_init_88 : decode b_M_init 88 = .ok (.if_icmp .le 9, 3) := by decide +kernel
theorem d_M_init_91 : decode b_M_init 91 = .ok (.sipush 300, 3) := by decide +kernel
theorem d_M_init_94 : decode b_M_init 94 = .ok (.goto 4, 3) := by decide +kernel
theorem d_M_init_97 : decode b_M_init 97 = .ok (.iload_n 1, 1) := by decide +kernel
theorem d_M_init_98 : decode b_M_init 98 = .ok (.putfield 35, 3) := by decide +kernel
theorem d_M_init_101 : decode b_M_init 101 = .ok (.return_, 1) := by decide +kernel
set_option maxHeartbeats 4000000 in
theorem c_Pr_init {x : GX} {g : GE} {b : Nat} {ex : va_W} {a : Nat → Nat} (l : Launch) (sz : Nat) : Met l y_Pr_init (wM y_Pr_init b_Pr_init 1 none) (rmN 1 4 197) (PreE x g (ncl 2 b [.null, .null, .null, .null, .int 0]) ex [.ref b] a () sz) (QeV x (prl x g b) ex (va_A (ncl 2 b [.null, .null, .null, .null, .int 0] a () ++ ex) sz) (fun z => z = pr0)) 4 197 (va_A (ncl 2 b [.null, .null, .null, .null, .int 0] a () ++ ex) sz) := by
  refine w_enterE (by decide +kernel) (Nat.le_of_ble_eq_true rfl) (fun p e s m args below meth c S hr hlk hnm hK hE hA hw ls hl => ?_)
  have hl : lv_has ls 1 [(0, .ref b)] := hl
  refine lv_aload_n S.1 S.2.1 d_Pr_init_0 rfl (lv_at hl 0 rfl) ?_
  refine w_obj S hl.1 k_72 (Nat.le_of_ble_eq_true rfl) (Nat.le_of_ble_eq_true rfl) d_Pr_init_1 ?_
  refine lv_aload_n S.1 S.2.1 d_Pr_init_4 rfl (lv_at hl 0 rfl) ?_
  refine lv_bipush (v := 64) S.1 S.2.1 d_Pr_init_5 (by decide) ?_
  refine w_newq S hK hA hw 3 rfl k_73 hE.2.2.2.2.2.2.2.1.1 64 (by decide) (by decide) ⟨by decide, by decide⟩ d_Pr_init_7 (fun q6 H hw => ?_)
  refine w_put S hK hw 1 rfl rfl i_Prog t_Prog t_Prog_ok n_Prog 0 (by decide) k_75 rfl rfl rfl (Nat.le_of_ble_eq_true rfl) rfl d_Pr_init_10 (fun H locs hw => ?_)
  refine lv_aload_n S.1 S.2.1 d_Pr_init_13 rfl (lv_at hl 0 rfl) ?_
  refine lv_bipush (v := 64) S.1 S.2.1 d_Pr_init_14 (by decide) ?_
  refine w_newI S hK hA hw 64 (by decide) (by decide) ⟨by decide, by decide⟩ k_104 d_Pr_init_16 (fun q7 H hw => ?_)
  refine w_put S hK hw 2 rfl rfl i_Prog t_Prog t_Prog_ok n_Prog 1 (by decide) k_77 rfl rfl rfl (Nat.le_of_ble_eq_true rfl) rfl d_Pr_init_18 (fun H locs hw => ?_)
  refine lv_aload_n S.1 S.2.1 d_Pr_init_21 rfl (lv_at hl 0 rfl) ?_
  refine lv_bipush (v := 64) S.1 S.2.1 d_Pr_init_22 (by decide) ?_
  refine w_newI S hK hA hw 64 (by decide) (by decide) ⟨by decide, by decide⟩ k_104 d_Pr_init_24 (fun q8 H hw => ?_)
  refine w_put S hK hw 3 rfl rfl i_Prog t_Prog t_Prog_ok n_Prog 2 (by decide) k_81 rfl rfl rfl (Nat.le_of_ble_eq_true rfl) rfl d_Pr_init_26 (fun H locs hw => ?_)
  refine lv_aload_n S.1 S.2.1 d_Pr_init_29 rfl (lv_at hl 0 rfl) ?_
  refine lv_iconst (v := 5) S.1 S.2.1 d_Pr_init_30 (by decide) ?_
  refine w_newI S hK hA hw 5 (by decide) (by decide) ⟨by decide, by decide⟩ k_104 d_Pr_init_31 (fun q9 H hw => ?_)
  refine w_putF S (hnm.trans rfl) hK hw 4 rfl rfl i_Prog t_Prog t_Prog_ok n_Prog 3 (by decide) k_86 rfl rfl rfl rfl (Nat.le_of_ble_eq_true rfl) rfl d_Pr_init_33 (fun H locs hw => ?_)
  have h1 := wd_rot (l1 := [(q9, .inl (x.2.2 0, 5, .inl (fun _ => 0)))]) (wc := [(q8, .inl (x.2.2 0, 64, .inl (fun _ => 0)))]) (l2 := [(q7, .inl (x.2.2 0, 64, .inl (fun _ => 0))), (q6, .inl (x.2.2 3, 64, .inr (.inr (.inr (.inr (fun _ => none)))))), (b, .inr (2, [.ref q6, .ref q7, .ref q8, .ref q9, .int 0]))] ++ ex) hw
  have h2 := wd_rot (l1 := [(q8, .inl (x.2.2 0, 64, .inl (fun _ => 0))), (q9, .inl (x.2.2 0, 5, .inl (fun _ => 0)))]) (wc := [(q7, .inl (x.2.2 0, 64, .inl (fun _ => 0)))]) (l2 := [(q6, .inl (x.2.2 3, 64, .inr (.inr (.inr (.inr (fun _ => none)))))), (b, .inr (2, [.ref q6, .ref q7, .ref q8, .ref q9, .int 0]))] ++ ex) h1
  have h3 := wd_rot (l1 := [(q7, .inl (x.2.2 0, 64, .inl (fun _ => 0))), (q8, .inl (x.2.2 0, 64, .inl (fun _ => 0))), (q9, .inl (x.2.2 0, 5, .inl (fun _ => 0)))]) (wc := [(q6, .inl (x.2.2 3, 64, .inr (.inr (.inr (.inr (fun _ => none))))))]) (l2 := [(b, .inr (2, [.ref q6, .ref q7, .ref q8, .ref q9, .int 0]))] ++ ex) h2
  have h4 := wd_rot (l1 := [(q6, .inl (x.2.2 3, 64, .inr (.inr (.inr (.inr (fun _ => none)))))), (q7, .inl (x.2.2 0, 64, .inl (fun _ => 0))), (q8, .inl (x.2.2 0, 64, .inl (fun _ => 0))), (q9, .inl (x.2.2 0, 5, .inl (fun _ => 0)))]) (wc := [(b, .inr (2, [.ref q6, .ref q7, .ref q8, .ref q9, .int 0]))]) (l2 := ex) h3
  have hw : wd x _ _ (prl x g b (fun k => if k = 6 then q6 else if k = 7 then q7 else if k = 8 then q8 else q9) pr0 ++ ex) H locs := h4
  refine W.widen (k := 4) (n := 197) (by decide) (by decide) ?_
  exact w_vretE S hr hlk hw rfl d_Pr_init_36
set_option maxHeartbeats 8000000 in
set_option maxRecDepth 20000 in
theorem c_B_init {x : GX} {g : GE} {o : Nat} {ex : va_W} {a : Nat → Nat} (l : Launch) (n : Int32) (sz : Nat) : Met l y_B_init (wM y_B_init b_B_init 2 none) (rmN 4 14 993) (PreE x g (ncl 1 o [.int 0, .null, .null, .null, .int 0, .int 0, .int 0, .int 0, .int 0, .int 0, .int 0, .null, .null, .int 0, .null, .null, .int 0, .null, .int 0, .int 0, .int 0, .int 0, .int 0, .int 0]) ex [.ref o, .int n] a () sz) (QeV x (pcl x g o) ex (va_A (ncl 1 o [.int 0, .null, .null, .null, .int 0, .int 0, .int 0, .int 0, .int 0, .int 0, .int 0, .null, .null, .int 0, .null, .null, .int 0, .null, .int 0, .int 0, .int 0, .int 0, .int 0, .int 0] a () ++ ex) sz) (fun v => v = pb0 n)) 14 993 (va_A (ncl 1 o [.int 0, .null, .null, .null, .int 0, .int 0, .int 0, .int 0, .int 0, .int 0, .int 0, .null, .null, .int 0, .null, .null, .int 0, .null, .int 0, .int 0, .int 0, .int 0, .int 0, .int 0] a () ++ ex) sz) := by
  refine w_enterE (by decide +kernel) (Nat.le_of_ble_eq_true rfl) (fun p e s m args below meth c S hr hlk hnm hK hE hA hw ls hl => ?_)
  have hl : lv_has ls 2 [(0, .ref o), (1, .int n)] := hl
  refine lv_aload_n S.1 S.2.1 d_B_init_0 rfl (lv_at hl 0 rfl) ?_
  refine w_obj S hl.1 k_32 (Nat.le_of_ble_eq_true rfl) (Nat.le_of_ble_eq_true rfl) d_B_init_1 ?_
  refine lv_aload_n S.1 S.2.1 d_B_init_4 rfl (lv_at hl 0 rfl) ?_
  refine w_new S hK hA hw 3 rfl i_SB t_SB t_SB_ok k_35 k_36 k_3 [.null, .int 0, .int 0, .int 0] (fun j hj => by rcases (show j = 0 ∨ j = 1 ∨ j = 2 ∨ j = 3 by omega) with rfl | rfl | rfl | rfl <;> rfl) ⟨by decide, by decide⟩ d_B_init_5 (fun q1 H hw => ?_)
  refine lv_dup S.1 S.2.1 d_B_init_8 rfl ?_
  have hwc : wd x _ _ (ncl 3 q1 [.null, .int 0, .int 0, .int 0] a () ++ ((o, .inr (1, [.int 0, .null, .null, .null, .int 0, .int 0, .int 0, .int 0, .int 0, .int 0, .int 0, .null, .null, .int 0, .null, .null, .int 0, .null, .int 0, .int 0, .int 0, .int 0, .int 0, .int 0])) :: ex)) H _ := hw
  have hF := wd_free hA hwc
  refine va_callv (w_riE (rest := [.ref q1, .ref o]) S hK hE hA hwc (c_SB_init l _) (w_cb (fr := 0) (lv := 0) S.2.2.2.2 k_39 k_37 k_3 yd_SB_init rfl rfl ⟨Nat.le_of_ble_eq_true rfl, Nat.le_of_ble_eq_true rfl⟩) rfl k_38 rfl hl.1 rfl (Nat.le_of_ble_eq_true rfl) d_B_init_9 ⟨by decide, by decide⟩) hwc.2.2 (fun q _ h => hF q h) hF (fun z t H1 locs1 ht hvm hq hB hz hk hS => ?_)
  obtain ⟨aq1, hB1, hB2⟩ := hB
  rw [ht] at hB1
  subst hq
  have hw : wd x _ _ (scl x q1 aq1 sb0 ++ ((o, .inr (1, [.int 0, .null, .null, .null, .int 0, .int 0, .int 0, .int 0, .int 0, .int 0, .int 0, .null, .null, .int 0, .null, .null, .int 0, .null, .int 0, .int 0, .int 0, .int 0, .int 0, .int 0])) :: ex)) H1 locs1 := ⟨hB1, hB2.weaken (fun _ _ _ h => hF _ h), hS⟩
  generalize H1 = H at hw ⊢
  refine w_putF S (hnm.trans rfl) hK hw 2 rfl rfl i_PB t_PB t_PB_ok n_PB 1 (by decide) k_114 rfl rfl rfl rfl (Nat.le_of_ble_eq_true rfl) rfl d_B_init_12 (fun H locs hw => ?_)
  have hw : wd x _ _ (scl x q1 aq1 sb0 ++ ((o, .inr (1, [.int 0, .ref q1, .null, .null, .int 0, .int 0, .int 0, .int 0, .int 0, .int 0, .int 0, .null, .null, .int 0, .null, .null, .int 0, .null, .int 0, .int 0, .int 0, .int 0, .int 0, .int 0])) :: ex)) H locs := hw
  refine lv_aload_n S.1 S.2.1 d_B_init_15 rfl (lv_at hl 0 rfl) ?_
  refine w_new S hK hA hw 3 rfl i_SB t_SB t_SB_ok k_35 k_36 k_3 [.null, .int 0, .int 0, .int 0] (fun j hj => by rcases (show j = 0 ∨ j = 1 ∨ j = 2 ∨ j = 3 by omega) with rfl | rfl | rfl | rfl <;> rfl) ⟨by decide, by decide⟩ d_B_init_16 (fun q3 H hw => ?_)
  refine lv_dup S.1 S.2.1 d_B_init_19 rfl ?_
  have hwc : wd x _ _ (ncl 3 q3 [.null, .int 0, .int 0, .int 0] a () ++ (scl x q1 aq1 sb0 ++ ((o, .inr (1, [.int 0, .ref q1, .null, .null, .int 0, .int 0, .int 0, .int 0, .int 0, .int 0, .int 0, .null, .null, .int 0, .null, .null, .int 0, .null, .int 0, .int 0, .int 0, .int 0, .int 0, .int 0])) :: ex))) H _ := hw
  have hF := wd_free hA hwc
  refine va_callv (w_riE (rest := [.ref q3, .ref o]) S hK hE hA hwc (c_SB_init l _) (w_cb (fr := 0) (lv := 0) S.2.2.2.2 k_39 k_37 k_3 yd_SB_init rfl rfl ⟨Nat.le_of_ble_eq_true rfl, Nat.le_of_ble_eq_true rfl⟩) rfl k_38 rfl hl.1 rfl (Nat.le_of_ble_eq_true rfl) d_B_init_20 ⟨by decide, by decide⟩) hwc.2.2 (fun q _ h => hF q h) hF (fun z t H1 locs1 ht hvm hq hB hz hk hS => ?_)
  obtain ⟨aq3, hB1, hB2⟩ := hB
  rw [ht] at hB1
  subst hq
  have hw : wd x _ _ (scl x q3 aq3 sb0 ++ (scl x q1 aq1 sb0 ++ ((o, .inr (1, [.int 0, .ref q1, .null, .null, .int 0, .int 0, .int 0, .int 0, .int 0, .int 0, .int 0, .null, .null, .int 0, .null, .null, .int 0, .null, .int 0, .int 0, .int 0, .int 0, .int 0, .int 0])) :: ex))) H1 locs1 := ⟨hB1, hB2.weaken (fun _ _ _ h => hF _ h), hS⟩
  generalize H1 = H at hw ⊢
  refine w_putF S (hnm.trans rfl) hK hw 4 rfl rfl i_PB t_PB t_PB_ok n_PB 2 (by decide) k_115 rfl rfl rfl rfl (Nat.le_of_ble_eq_true rfl) rfl d_B_init_23 (fun H locs hw => ?_)
  have hw : wd x _ _ (scl x q3 aq3 sb0 ++ (scl x q1 aq1 sb0 ++ ((o, .inr (1, [.int 0, .ref q1, .ref q3, .null, .int 0, .int 0, .int 0, .int 0, .int 0, .int 0, .int 0, .null, .null, .int 0, .null, .null, .int 0, .null, .int 0, .int 0, .int 0, .int 0, .int 0, .int 0])) :: ex))) H locs := hw
  refine lv_aload_n S.1 S.2.1 d_B_init_26 rfl (lv_at hl 0 rfl) ?_
  refine w_new S hK hA hw 2 rfl i_Prog t_Prog t_Prog_ok k_67 k_68 k_6 [.null, .null, .null, .null, .int 0] (fun j hj => by rcases (show j = 0 ∨ j = 1 ∨ j = 2 ∨ j = 3 ∨ j = 4 by omega) with rfl | rfl | rfl | rfl | rfl <;> rfl) ⟨by decide, by decide⟩ d_B_init_27 (fun q5 H hw => ?_)
  refine lv_dup S.1 S.2.1 d_B_init_30 rfl ?_
  have hwc : wd x _ _ (ncl 2 q5 [.null, .null, .null, .null, .int 0] a () ++ (scl x q3 aq3 sb0 ++ (scl x q1 aq1 sb0 ++ ((o, .inr (1, [.int 0, .ref q1, .ref q3, .null, .int 0, .int 0, .int 0, .int 0, .int 0, .int 0, .int 0, .null, .null, .int 0, .null, .null, .int 0, .null, .int 0, .int 0, .int 0, .int 0, .int 0, .int 0])) :: ex)))) H _ := hw
  have hF := wd_free hA hwc
  refine va_callv (w_rinE (rest := [.ref q5, .ref o]) (host := "PatternBench") S hK hE hA hwc (c_Pr_init l _) k_71 (List.mem_of_getElem? (i := 0) rfl) k_6 yd_Pr_init rfl rfl ⟨Nat.le_of_ble_eq_true rfl, Nat.le_of_ble_eq_true rfl⟩ rfl k_70 rfl hl.1 rfl (Nat.le_of_ble_eq_true rfl) d_B_init_31 ⟨by decide, by decide⟩) hwc.2.2 (fun q _ h => hF q h) hF (fun z t H1 locs1 ht hvm hq hB hz hk hS => ?_)
  obtain ⟨aq5, hB1, hB2⟩ := hB
  rw [ht] at hB1
  subst hq
  have hw : wd x _ _ (prl x g q5 aq5 pr0 ++ (scl x q3 aq3 sb0 ++ (scl x q1 aq1 sb0 ++ ((o, .inr (1, [.int 0, .ref q1, .ref q3, .null, .int 0, .int 0, .int 0, .int 0, .int 0, .int 0, .int 0, .null, .null, .int 0, .null, .null, .int 0, .null, .int 0, .int 0, .int 0, .int 0, .int 0, .int 0])) :: ex)))) H1 locs1 := ⟨hB1, hB2.weaken (fun _ _ _ h => hF _ h), hS⟩
  generalize H1 = H at hw ⊢
  refine w_putF S (hnm.trans rfl) hK hw 9 rfl rfl i_PB t_PB t_PB_ok n_PB 3 (by decide) k_116 rfl rfl rfl rfl (Nat.le_of_ble_eq_true rfl) rfl d_B_init_34 (fun H locs hw => ?_)
  have hw : wd x _ _ (prl x g q5 aq5 pr0 ++ (scl x q3 aq3 sb0 ++ (scl x q1 aq1 sb0 ++ ((o, .inr (1, [.int 0, .ref q1, .ref q3, .ref q5, .int 0, .int 0, .int 0, .int 0, .int 0, .int 0, .int 0, .null, .null, .int 0, .null, .null, .int 0, .null, .int 0, .int 0, .int 0, .int 0, .int 0, .int 0])) :: ex)))) H locs := hw
  refine lv_aload_n S.1 S.2.1 d_B_init_37 rfl (lv_at hl 0 rfl) ?_
  refine lv_iconst (v := 5) S.1 S.2.1 d_B_init_38 (by decide) ?_
  refine w_newq S hK hA hw 4 rfl k_105 hE.2.2.2.2.2.2.2.1.2.1 5 (by decide) (by decide) ⟨by decide, by decide⟩ d_B_init_39 (fun q10 H hw => ?_)
  refine w_putF S (hnm.trans rfl) hK hw 10 rfl rfl i_PB t_PB t_PB_ok n_PB 11 (by decide) k_124 rfl rfl rfl rfl (Nat.le_of_ble_eq_true rfl) rfl d_B_init_42 (fun H locs hw => ?_)
  have hw : wd x _ _ ((q10, .inl (x.2.2 4, 5, .inr (.inr (.inr (.inr (fun _ => none)))))) :: (prl x g q5 aq5 pr0 ++ (scl x q3 aq3 sb0 ++ (scl x q1 aq1 sb0 ++ ((o, .inr (1, [.int 0, .ref q1, .ref q3, .ref q5, .int 0, .int 0, .int 0, .int 0, .int 0, .int 0, .int 0, .ref q10, .null, .int 0, .null, .null, .int 0, .null, .int 0, .int 0, .int 0, .int 0, .int 0, .int 0])) :: ex))))) H locs := hw
  refine lv_aload_n S.1 S.2.1 d_B_init_45 rfl (lv_at hl 0 rfl) ?_
  refine lv_sipush (v := 600) S.1 S.2.1 d_B_init_46 (by decide) ?_
  refine w_newI S hK hA hw 600 (by decide) (by decide) ⟨by decide, by decide⟩ k_104 d_B_init_49 (fun q11 H hw => ?_)
  refine w_put S hK hw 11 rfl rfl i_PB t_PB t_PB_ok n_PB 12 (by decide) k_125 rfl rfl rfl (Nat.le_of_ble_eq_true rfl) rfl d_B_init_51 (fun H locs hw => ?_)
  have hw : wd x _ _ ((q11, .inl (x.2.2 0, 600, .inl (fun _ => 0))) :: (q10, .inl (x.2.2 4, 5, .inr (.inr (.inr (.inr (fun _ => none)))))) :: (prl x g q5 aq5 pr0 ++ (scl x q3 aq3 sb0 ++ (scl x q1 aq1 sb0 ++ ((o, .inr (1, [.int 0, .ref q1, .ref q3, .ref q5, .int 0, .int 0, .int 0, .int 0, .int 0, .int 0, .int 0, .ref q10, .ref q11, .int 0, .null, .null, .int 0, .null, .int 0, .int 0, .int 0, .int 0, .int 0, .int 0])) :: ex))))) H locs := hw
  refine lv_aload_n S.1 S.2.1 d_B_init_54 rfl (lv_at hl 0 rfl) ?_
  refine lv_bipush (v := 10) S.1 S.2.1 d_B_init_55 (by decide) ?_
  refine w_newI S hK hA hw 10 (by decide) (by decide) ⟨by decide, by decide⟩ k_104 d_B_init_57 (fun q12 H hw => ?_)
  refine w_putF S (hnm.trans rfl) hK hw 12 rfl rfl i_PB t_PB t_PB_ok n_PB 14 (by decide) k_127 rfl rfl rfl rfl (Nat.le_of_ble_eq_true rfl) rfl d_B_init_59 (fun H locs hw => ?_)
  have hw : wd x _ _ ((q12, .inl (x.2.2 0, 10, .inl (fun _ => 0))) :: (q11, .inl (x.2.2 0, 600, .inl (fun _ => 0))) :: (q10, .inl (x.2.2 4, 5, .inr (.inr (.inr (.inr (fun _ => none)))))) :: (prl x g q5 aq5 pr0 ++ (scl x q3 aq3 sb0 ++ (scl x q1 aq1 sb0 ++ ((o, .inr (1, [.int 0, .ref q1, .ref q3, .ref q5, .int 0, .int 0, .int 0, .int 0, .int 0, .int 0, .int 0, .ref q10, .ref q11, .int 0, .ref q12, .null, .int 0, .null, .int 0, .int 0, .int 0, .int 0, .int 0, .int 0])) :: ex))))) H locs := hw
  refine lv_aload_n S.1 S.2.1 d_B_init_62 rfl (lv_at hl 0 rfl) ?_
  refine lv_bipush (v := 16) S.1 S.2.1 d_B_init_63 (by decide) ?_
  refine w_newI S hK hA hw 16 (by decide) (by decide) ⟨by decide, by decide⟩ k_104 d_B_init_65 (fun q13 H hw => ?_)
  refine w_put S hK hw 13 rfl rfl i_PB t_PB t_PB_ok n_PB 15 (by decide) k_128 rfl rfl rfl (Nat.le_of_ble_eq_true rfl) rfl d_B_init_67 (fun H locs hw => ?_)
  have hw : wd x _ _ ((q13, .inl (x.2.2 0, 16, .inl (fun _ => 0))) :: (q12, .inl (x.2.2 0, 10, .inl (fun _ => 0))) :: (q11, .inl (x.2.2 0, 600, .inl (fun _ => 0))) :: (q10, .inl (x.2.2 4, 5, .inr (.inr (.inr (.inr (fun _ => none)))))) :: (prl x g q5 aq5 pr0 ++ (scl x q3 aq3 sb0 ++ (scl x q1 aq1 sb0 ++ ((o, .inr (1, [.int 0, .ref q1, .ref q3, .ref q5, .int 0, .int 0, .int 0, .int 0, .int 0, .int 0, .int 0, .ref q10, .ref q11, .int 0, .ref q12, .ref q13, .int 0, .null, .int 0, .int 0, .int 0, .int 0, .int 0, .int 0])) :: ex))))) H locs := hw
  refine lv_aload_n S.1 S.2.1 d_B_init_70 rfl (lv_at hl 0 rfl) ?_
  refine lv_bipush (v := 120) S.1 S.2.1 d_B_init_71 (by decide) ?_
  refine w_newI S hK hA hw 120 (by decide) (by decide) ⟨by decide, by decide⟩ k_104 d_B_init_73 (fun q14 H hw => ?_)
  refine w_putF S (hnm.trans rfl) hK hw 14 rfl rfl i_PB t_PB t_PB_ok n_PB 17 (by decide) k_130 rfl rfl rfl rfl (Nat.le_of_ble_eq_true rfl) rfl d_B_init_75 (fun H locs hw => ?_)
  have hw : wd x _ _ ((q14, .inl (x.2.2 0, 120, .inl (fun _ => 0))) :: (q13, .inl (x.2.2 0, 16, .inl (fun _ => 0))) :: (q12, .inl (x.2.2 0, 10, .inl (fun _ => 0))) :: (q11, .inl (x.2.2 0, 600, .inl (fun _ => 0))) :: (q10, .inl (x.2.2 4, 5, .inr (.inr (.inr (.inr (fun _ => none)))))) :: (prl x g q5 aq5 pr0 ++ (scl x q3 aq3 sb0 ++ (scl x q1 aq1 sb0 ++ ((o, .inr (1, [.int 0, .ref q1, .ref q3, .ref q5, .int 0, .int 0, .int 0, .int 0, .int 0, .int 0, .int 0, .ref q10, .ref q11, .int 0, .ref q12, .ref q13, .int 0, .ref q14, .int 0, .int 0, .int 0, .int 0, .int 0, .int 0])) :: ex))))) H locs := hw
  refine lv_aload_n S.1 S.2.1 d_B_init_78 rfl (lv_at hl 0 rfl) ?_
  refine lv_bipush (v := 20) S.1 S.2.1 d_B_init_79 (by decide) ?_
  refine lv_sipush (v := 300) S.1 S.2.1 d_B_init_81 (by decide) ?_
  refine lv_iload_n S.1 S.2.1 d_B_init_84 rfl (lv_at hl 1 rfl) ?_
  refine va_mmin S.1 S.2.1 (S.2.2.1.trans hl.1.symm) S.2.2.2.1 (S.2.2.2.2 _ k_107) (S.2.2.2.2 _ k_108) (S.2.2.2.2 _ k_7) (S.2.2.2.2 _ k_109) (Nat.le_of_ble_eq_true rfl) (Nat.le_of_ble_eq_true rfl) (by decide) (by decide) d_B_init_85 ?_
  refine va_mmax S.1 S.2.1 (S.2.2.1.trans hl.1.symm) S.2.2.2.1 (S.2.2.2.2 _ k_110) (S.2.2.2.2 _ k_111) (S.2.2.2.2 _ k_7) (S.2.2.2.2 _ k_112) (Nat.le_of_ble_eq_true rfl) (Nat.le_of_ble_eq_true rfl) (by decide) (by decide) d_B_init_88 ?_
  refine w_putF (v := .int (lim0 n)) S (hnm.trans rfl) hK hw 14 rfl rfl i_PB t_PB t_PB_ok n_PB 0 (by decide) k_113 rfl rfl rfl rfl (Nat.le_of_ble_eq_true rfl) rfl d_B_init_91 (fun H locs hw => ?_)
  have hw : wd x _ _ ((q14, .inl (x.2.2 0, 120, .inl (fun _ => 0))) :: (q13, .inl (x.2.2 0, 16, .inl (fun _ => 0))) :: (q12, .inl (x.2.2 0, 10, .inl (fun _ => 0))) :: (q11, .inl (x.2.2 0, 600, .inl (fun _ => 0))) :: (q10, .inl (x.2.2 4, 5, .inr (.inr (.inr (.inr (fun _ => none)))))) :: (prl x g q5 aq5 pr0 ++ (scl x q3 aq3 sb0 ++ (scl x q1 aq1 sb0 ++ ((o, .inr (1, [.int (lim0 n), .ref q1, .ref q3, .ref q5, .int 0, .int 0, .int 0, .int 0, .int 0, .int 0, .int 0, .ref q10, .ref q11, .int 0, .ref q12, .ref q13, .int 0, .ref q14, .int 0, .int 0, .int 0, .int 0, .int 0, .int 0])) :: ex))))) H locs := hw
  have h1 := wd_rot (l1 := [(q14, .inl (x.2.2 0, 120, .inl (fun _ => 0)))]) (wc := [(q13, .inl (x.2.2 0, 16, .inl (fun _ => 0)))]) (l2 := [(q12, .inl (x.2.2 0, 10, .inl (fun _ => 0))), (q11, .inl (x.2.2 0, 600, .inl (fun _ => 0))), (q10, .inl (x.2.2 4, 5, .inr (.inr (.inr (.inr (fun _ => none))))))] ++ (prl x g q5 aq5 pr0 ++ (scl x q3 aq3 sb0 ++ (scl x q1 aq1 sb0 ++ ((o, .inr (1, [.int (lim0 n), .ref q1, .ref q3, .ref q5, .int 0, .int 0, .int 0, .int 0, .int 0, .int 0, .int 0, .ref q10, .ref q11, .int 0, .ref q12, .ref q13, .int 0, .ref q14, .int 0, .int 0, .int 0, .int 0, .int 0, .int 0])) :: ex))))) hw
  have h2 := wd_rot (l1 := [(q13, .inl (x.2.2 0, 16, .inl (fun _ => 0))), (q14, .inl (x.2.2 0, 120, .inl (fun _ => 0)))]) (wc := [(q12, .inl (x.2.2 0, 10, .inl (fun _ => 0)))]) (l2 := [(q11, .inl (x.2.2 0, 600, .inl (fun _ => 0))), (q10, .inl (x.2.2 4, 5, .inr (.inr (.inr (.inr (fun _ => none))))))] ++ (prl x g q5 aq5 pr0 ++ (scl x q3 aq3 sb0 ++ (scl x q1 aq1 sb0 ++ ((o, .inr (1, [.int (lim0 n), .ref q1, .ref q3, .ref q5, .int 0, .int 0, .int 0, .int 0, .int 0, .int 0, .int 0, .ref q10, .ref q11, .int 0, .ref q12, .ref q13, .int 0, .ref q14, .int 0, .int 0, .int 0, .int 0, .int 0, .int 0])) :: ex))))) h1
  have h3 := wd_rot (l1 := [(q12, .inl (x.2.2 0, 10, .inl (fun _ => 0))), (q13, .inl (x.2.2 0, 16, .inl (fun _ => 0))), (q14, .inl (x.2.2 0, 120, .inl (fun _ => 0)))]) (wc := [(q11, .inl (x.2.2 0, 600, .inl (fun _ => 0)))]) (l2 := [(q10, .inl (x.2.2 4, 5, .inr (.inr (.inr (.inr (fun _ => none))))))] ++ (prl x g q5 aq5 pr0 ++ (scl x q3 aq3 sb0 ++ (scl x q1 aq1 sb0 ++ ((o, .inr (1, [.int (lim0 n), .ref q1, .ref q3, .ref q5, .int 0, .int 0, .int 0, .int 0, .int 0, .int 0, .int 0, .ref q10, .ref q11, .int 0, .ref q12, .ref q13, .int 0, .ref q14, .int 0, .int 0, .int 0, .int 0, .int 0, .int 0])) :: ex))))) h2
  have h4 := wd_rot (l1 := [(q11, .inl (x.2.2 0, 600, .inl (fun _ => 0))), (q12, .inl (x.2.2 0, 10, .inl (fun _ => 0))), (q13, .inl (x.2.2 0, 16, .inl (fun _ => 0))), (q14, .inl (x.2.2 0, 120, .inl (fun _ => 0)))]) (wc := [(q10, .inl (x.2.2 4, 5, .inr (.inr (.inr (.inr (fun _ => none))))))]) (l2 := (prl x g q5 aq5 pr0 ++ (scl x q3 aq3 sb0 ++ (scl x q1 aq1 sb0 ++ ((o, .inr (1, [.int (lim0 n), .ref q1, .ref q3, .ref q5, .int 0, .int 0, .int 0, .int 0, .int 0, .int 0, .int 0, .ref q10, .ref q11, .int 0, .ref q12, .ref q13, .int 0, .ref q14, .int 0, .int 0, .int 0, .int 0, .int 0, .int 0])) :: ex))))) h3
  have h5 := wd_rot (l1 := [(q10, .inl (x.2.2 4, 5, .inr (.inr (.inr (.inr (fun _ => none)))))), (q11, .inl (x.2.2 0, 600, .inl (fun _ => 0))), (q12, .inl (x.2.2 0, 10, .inl (fun _ => 0))), (q13, .inl (x.2.2 0, 16, .inl (fun _ => 0))), (q14, .inl (x.2.2 0, 120, .inl (fun _ => 0)))]) (wc := prl x g q5 aq5 pr0) (l2 := (scl x q3 aq3 sb0 ++ (scl x q1 aq1 sb0 ++ ((o, .inr (1, [.int (lim0 n), .ref q1, .ref q3, .ref q5, .int 0, .int 0, .int 0, .int 0, .int 0, .int 0, .int 0, .ref q10, .ref q11, .int 0, .ref q12, .ref q13, .int 0, .ref q14, .int 0, .int 0, .int 0, .int 0, .int 0, .int 0])) :: ex)))) h4
  have h6 := wd_rot (l1 := prl x g q5 aq5 pr0 ++ [(q10, .inl (x.2.2 4, 5, .inr (.inr (.inr (.inr (fun _ => none)))))), (q11, .inl (x.2.2 0, 600, .inl (fun _ => 0))), (q12, .inl (x.2.2 0, 10, .inl (fun _ => 0))), (q13, .inl (x.2.2 0, 16, .inl (fun _ => 0))), (q14, .inl (x.2.2 0, 120, .inl (fun _ => 0)))]) (wc := scl x q3 aq3 sb0) (l2 := (scl x q1 aq1 sb0 ++ ((o, .inr (1, [.int (lim0 n), .ref q1, .ref q3, .ref q5, .int 0, .int 0, .int 0, .int 0, .int 0, .int 0, .int 0, .ref q10, .ref q11, .int 0, .ref q12, .ref q13, .int 0, .ref q14, .int 0, .int 0, .int 0, .int 0, .int 0, .int 0])) :: ex))) h5
  have h7 := wd_rot (l1 := scl x q3 aq3 sb0 ++ (prl x g q5 aq5 pr0 ++ [(q10, .inl (x.2.2 4, 5, .inr (.inr (.inr (.inr (fun _ => none)))))), (q11, .inl (x.2.2 0, 600, .inl (fun _ => 0))), (q12, .inl (x.2.2 0, 10, .inl (fun _ => 0))), (q13, .inl (x.2.2 0, 16, .inl (fun _ => 0))), (q14, .inl (x.2.2 0, 120, .inl (fun _ => 0)))])) (wc := scl x q1 aq1 sb0) (l2 := ((o, .inr (1, [.int (lim0 n), .ref q1, .ref q3, .ref q5, .int 0, .int 0, .int 0, .int 0, .int 0, .int 0, .int 0, .ref q10, .ref q11, .int 0, .ref q12, .ref q13, .int 0, .ref q14, .int 0, .int 0, .int 0, .int 0, .int 0, .int 0])) :: ex)) h6
  have h8 := wd_rot (l1 := scl x q1 aq1 sb0 ++ (scl x q3 aq3 sb0 ++ (prl x g q5 aq5 pr0 ++ [(q10, .inl (x.2.2 4, 5, .inr (.inr (.inr (.inr (fun _ => none)))))), (q11, .inl (x.2.2 0, 600, .inl (fun _ => 0))), (q12, .inl (x.2.2 0, 10, .inl (fun _ => 0))), (q13, .inl (x.2.2 0, 16, .inl (fun _ => 0))), (q14, .inl (x.2.2 0, 120, .inl (fun _ => 0)))]))) (wc := [(o, .inr (1, [.int (lim0 n), .ref q1, .ref q3, .ref q5, .int 0, .int 0, .int 0, .int 0, .int 0, .int 0, .int 0, .ref q10, .ref q11, .int 0, .ref q12, .ref q13, .int 0, .ref q14, .int 0, .int 0, .int 0, .int 0, .int 0, .int 0]))]) (l2 := ex) h7
  have hw : wd x _ _ (pcl x g o (fun k => if k = 1 then q1 else if k = 2 then aq1 0 else if k = 3 then q3 else if k = 4 then aq3 0 else if k = 5 then q5 else if k = 6 then aq5 6 else if k = 7 then aq5 7 else if k = 8 then aq5 8 else if k = 9 then aq5 9 else if k = 10 then q10 else if k = 11 then q11 else if k = 12 then q12 else if k = 13 then q13 else q14) (pb0 n) ++ ex) H locs := h8
  refine W.widen (k := 14) (n := 993) (by decide) (by decide) ?_
  exact w_vretE S hr hlk hw rfl d_B_init_94
def mlim (n : Int32) : Int32 := if 20 ≤ n then (if n ≤ 300 then n else 300) else 20
def ms0 (n : Int32) : MS := (mlim n, 0, fun _ => 0, 0, 0, 0, 0, fun _ => 0, 0, fun _ => 0, 0, 0, 0, 0, 0, fun _ => 0, 0, fun _ => 0, fun _ => 0, 0, fun _ => 0, fun _ => 0, 0, 0, 0, 0, 0)
set_option maxHeartbeats 8000000 in
set_option maxRecDepth 20000 in
theorem c_M_init {x : GX} {g : GE} {o : Nat} {ex : va_W} {a : Nat → Nat} (l : Launch) (n : Int32) (sz : Nat) : Met l y_M_init (wM y_M_init b_M_init 2 none) (rmN 1 8 15413) (PreE x g (ncl 0 o [.int 0, .int 0, .null, .int 0, .int 0, .int 0, .int 0, .null, .int 0, .null, .int 0, .int 0, .int 0, .int 0, .long 0, .null, .int 0, .null, .null, .int 0, .null, .null, .int 0, .int 0, .int 0, .int 0, .long 0]) ex [.ref o, .int n] a () sz) (QeV x (fun a u => mcl x (va_up a 0 o) u) ex (va_A (ncl 0 o [.int 0, .int 0, .null, .int 0, .int 0, .int 0, .int 0, .null, .int 0, .null, .int 0, .int 0, .int 0, .int 0, .long 0, .null, .int 0, .null, .null, .int 0, .null, .null, .int 0, .int 0, .int 0, .int 0, .long 0] a () ++ ex) sz) (fun v => v = ms0 n)) 8 15413 (va_A (ncl 0 o [.int 0, .int 0, .null, .int 0, .int 0, .int 0, .int 0, .null, .int 0, .null, .int 0, .int 0, .int 0, .int 0, .long 0, .null, .int 0, .null, .null, .int 0, .null, .null, .int 0, .int 0, .int 0, .int 0, .long 0] a () ++ ex) sz) := by
  refine w_enterE (by decide +kernel) (Nat.le_of_ble_eq_true rfl) (fun p e s m args below meth c S hr hlk hnm hK hE hA hw ls hl => ?_)
  have hl : lv_has ls 2 [(0, .ref o), (1, .int n)] := hl
  refine lv_aload_n S.1 S.2.1 d_M_init_0 rfl (lv_at hl 0 rfl) ?_
  refine w_obj S hl.1 k_867 (Nat.le_of_ble_eq_true rfl) (Nat.le_of_ble_eq_true rfl) d_M_init_1 ?_
  refine lv_aload_n S.1 S.2.1 d_M_init_4 rfl (lv_at hl 0 rfl) ?_
  refine lv_bipush (v := 32) S.1 S.2.1 d_M_init_5 (by decide) ?_
  refine w_newI S hK hA hw 32 (by decide) (by decide) ⟨by decide, by decide⟩ k_104 d_M_init_7 (fun q1 H hw => ?_)
  refine w_putF S (hnm.trans rfl) hK hw 1 rfl rfl i_Mod t_Mod t_Mod_ok n_Mod 2 (by decide) k_870 rfl rfl rfl rfl (Nat.le_of_ble_eq_true rfl) rfl d_M_init_9 (fun H locs hw => ?_)
  have hw : wd x _ _ ((q1, .inl (x.2.2 0, 32, .inl (fun _ => 0))) :: (o, .inr (0, [.int 0, .int 0, .ref q1, .int 0, .int 0, .int 0, .int 0, .null, .int 0, .null, .int 0, .int 0, .int 0, .int 0, .long 0, .null, .int 0, .null, .null, .int 0, .null, .null, .int 0, .int 0, .int 0, .int 0, .long 0])) :: ex) H locs := hw
  refine lv_aload_n S.1 S.2.1 d_M_init_12 rfl (lv_at hl 0 rfl) ?_
  refine lv_bipush (v := 32) S.1 S.2.1 d_M_init_13 (by decide) ?_
  refine w_newI S hK hA hw 32 (by decide) (by decide) ⟨by decide, by decide⟩ k_104 d_M_init_15 (fun q2 H hw => ?_)
  refine w_putF S (hnm.trans rfl) hK hw 2 rfl rfl i_Mod t_Mod t_Mod_ok n_Mod 7 (by decide) k_875 rfl rfl rfl rfl (Nat.le_of_ble_eq_true rfl) rfl d_M_init_17 (fun H locs hw => ?_)
  have hw : wd x _ _ ((q2, .inl (x.2.2 0, 32, .inl (fun _ => 0))) :: (q1, .inl (x.2.2 0, 32, .inl (fun _ => 0))) :: (o, .inr (0, [.int 0, .int 0, .ref q1, .int 0, .int 0, .int 0, .int 0, .ref q2, .int 0, .null, .int 0, .int 0, .int 0, .int 0, .long 0, .null, .int 0, .null, .null, .int 0, .null, .null, .int 0, .int 0, .int 0, .int 0, .long 0])) :: ex) H locs := hw
  refine lv_aload_n S.1 S.2.1 d_M_init_20 rfl (lv_at hl 0 rfl) ?_
  refine lv_bipush (v := 40) S.1 S.2.1 d_M_init_21 (by decide) ?_
  refine w_newI S hK hA hw 40 (by decide) (by decide) ⟨by decide, by decide⟩ k_104 d_M_init_23 (fun q3 H hw => ?_)
  refine w_putF S (hnm.trans rfl) hK hw 3 rfl rfl i_Mod t_Mod t_Mod_ok n_Mod 9 (by decide) k_877 rfl rfl rfl rfl (Nat.le_of_ble_eq_true rfl) rfl d_M_init_25 (fun H locs hw => ?_)
  have hw : wd x _ _ ((q3, .inl (x.2.2 0, 40, .inl (fun _ => 0))) :: (q2, .inl (x.2.2 0, 32, .inl (fun _ => 0))) :: (q1, .inl (x.2.2 0, 32, .inl (fun _ => 0))) :: (o, .inr (0, [.int 0, .int 0, .ref q1, .int 0, .int 0, .int 0, .int 0, .ref q2, .int 0, .ref q3, .int 0, .int 0, .int 0, .int 0, .long 0, .null, .int 0, .null, .null, .int 0, .null, .null, .int 0, .int 0, .int 0, .int 0, .long 0])) :: ex) H locs := hw
  refine lv_aload_n S.1 S.2.1 d_M_init_28 rfl (lv_at hl 0 rfl) ?_
  refine lv_bipush (v := 8) S.1 S.2.1 d_M_init_29 (by decide) ?_
  refine w_newI S hK hA hw 8 (by decide) (by decide) ⟨by decide, by decide⟩ k_104 d_M_init_31 (fun q4 H hw => ?_)
  refine w_putF S (hnm.trans rfl) hK hw 4 rfl rfl i_Mod t_Mod t_Mod_ok n_Mod 15 (by decide) k_883 rfl rfl rfl rfl (Nat.le_of_ble_eq_true rfl) rfl d_M_init_33 (fun H locs hw => ?_)
  have hw : wd x _ _ ((q4, .inl (x.2.2 0, 8, .inl (fun _ => 0))) :: (q3, .inl (x.2.2 0, 40, .inl (fun _ => 0))) :: (q2, .inl (x.2.2 0, 32, .inl (fun _ => 0))) :: (q1, .inl (x.2.2 0, 32, .inl (fun _ => 0))) :: (o, .inr (0, [.int 0, .int 0, .ref q1, .int 0, .int 0, .int 0, .int 0, .ref q2, .int 0, .ref q3, .int 0, .int 0, .int 0, .int 0, .long 0, .ref q4, .int 0, .null, .null, .int 0, .null, .null, .int 0, .int 0, .int 0, .int 0, .long 0])) :: ex) H locs := hw
  refine lv_aload_n S.1 S.2.1 d_M_init_36 rfl (lv_at hl 0 rfl) ?_
  refine lv_sipush (v := 7000) S.1 S.2.1 d_M_init_37 (by decide) ?_
  refine w_newL S hK hA hw 7000 (by decide) (by decide) ⟨by decide, by decide⟩ k_950 d_M_init_40 (fun q5 H hw => ?_)
  refine w_putF S (hnm.trans rfl) hK hw 5 rfl rfl i_Mod t_Mod t_Mod_ok n_Mod 17 (by decide) k_885 rfl rfl rfl rfl (Nat.le_of_ble_eq_true rfl) rfl d_M_init_42 (fun H locs hw => ?_)
  have hw : wd x _ _ ((q5, .inl (x.2.2 1, 7000, .inr (.inl (fun _ => 0)))) :: (q4, .inl (x.2.2 0, 8, .inl (fun _ => 0))) :: (q3, .inl (x.2.2 0, 40, .inl (fun _ => 0))) :: (q2, .inl (x.2.2 0, 32, .inl (fun _ => 0))) :: (q1, .inl (x.2.2 0, 32, .inl (fun _ => 0))) :: (o, .inr (0, [.int 0, .int 0, .ref q1, .int 0, .int 0, .int 0, .int 0, .ref q2, .int 0, .ref q3, .int 0, .int 0, .int 0, .int 0, .long 0, .ref q4, .int 0, .ref q5, .null, .int 0, .null, .null, .int 0, .int 0, .int 0, .int 0, .long 0])) :: ex) H locs := hw
  refine lv_aload_n S.1 S.2.1 d_M_init_45 rfl (lv_at hl 0 rfl) ?_
  refine lv_sipush (v := 301) S.1 S.2.1 d_M_init_46 (by decide) ?_
  refine w_newL S hK hA hw 301 (by decide) (by decide) ⟨by decide, by decide⟩ k_950 d_M_init_49 (fun q6 H hw => ?_)
  refine w_putF S (hnm.trans rfl) hK hw 6 rfl rfl i_Mod t_Mod t_Mod_ok n_Mod 18 (by decide) k_886 rfl rfl rfl rfl (Nat.le_of_ble_eq_true rfl) rfl d_M_init_51 (fun H locs hw => ?_)
  have hw : wd x _ _ ((q6, .inl (x.2.2 1, 301, .inr (.inl (fun _ => 0)))) :: (q5, .inl (x.2.2 1, 7000, .inr (.inl (fun _ => 0)))) :: (q4, .inl (x.2.2 0, 8, .inl (fun _ => 0))) :: (q3, .inl (x.2.2 0, 40, .inl (fun _ => 0))) :: (q2, .inl (x.2.2 0, 32, .inl (fun _ => 0))) :: (q1, .inl (x.2.2 0, 32, .inl (fun _ => 0))) :: (o, .inr (0, [.int 0, .int 0, .ref q1, .int 0, .int 0, .int 0, .int 0, .ref q2, .int 0, .ref q3, .int 0, .int 0, .int 0, .int 0, .long 0, .ref q4, .int 0, .ref q5, .ref q6, .int 0, .null, .null, .int 0, .int 0, .int 0, .int 0, .long 0])) :: ex) H locs := hw
  refine lv_aload_n S.1 S.2.1 d_M_init_54 rfl (lv_at hl 0 rfl) ?_
  refine lv_sipush (v := 4000) S.1 S.2.1 d_M_init_55 (by decide) ?_
  refine w_newL S hK hA hw 4000 (by decide) (by decide) ⟨by decide, by decide⟩ k_950 d_M_init_58 (fun q7 H hw => ?_)
  refine w_putF S (hnm.trans rfl) hK hw 7 rfl rfl i_Mod t_Mod t_Mod_ok n_Mod 20 (by decide) k_888 rfl rfl rfl rfl (Nat.le_of_ble_eq_true rfl) rfl d_M_init_60 (fun H locs hw => ?_)
  have hw : wd x _ _ ((q7, .inl (x.2.2 1, 4000, .inr (.inl (fun _ => 0)))) :: (q6, .inl (x.2.2 1, 301, .inr (.inl (fun _ => 0)))) :: (q5, .inl (x.2.2 1, 7000, .inr (.inl (fun _ => 0)))) :: (q4, .inl (x.2.2 0, 8, .inl (fun _ => 0))) :: (q3, .inl (x.2.2 0, 40, .inl (fun _ => 0))) :: (q2, .inl (x.2.2 0, 32, .inl (fun _ => 0))) :: (q1, .inl (x.2.2 0, 32, .inl (fun _ => 0))) :: (o, .inr (0, [.int 0, .int 0, .ref q1, .int 0, .int 0, .int 0, .int 0, .ref q2, .int 0, .ref q3, .int 0, .int 0, .int 0, .int 0, .long 0, .ref q4, .int 0, .ref q5, .ref q6, .int 0, .ref q7, .null, .int 0, .int 0, .int 0, .int 0, .long 0])) :: ex) H locs := hw
  refine lv_aload_n S.1 S.2.1 d_M_init_63 rfl (lv_at hl 0 rfl) ?_
  refine lv_sipush (v := 4000) S.1 S.2.1 d_M_init_64 (by decide) ?_
  refine w_newL S hK hA hw 4000 (by decide) (by decide) ⟨by decide, by decide⟩ k_950 d_M_init_67 (fun q8 H hw => ?_)
  refine w_putF S (hnm.trans rfl) hK hw 8 rfl rfl i_Mod t_Mod t_Mod_ok n_Mod 21 (by decide) k_889 rfl rfl rfl rfl (Nat.le_of_ble_eq_true rfl) rfl d_M_init_69 (fun H locs hw => ?_)
  have hw : wd x _ _ ((q8, .inl (x.2.2 1, 4000, .inr (.inl (fun _ => 0)))) :: (q7, .inl (x.2.2 1, 4000, .inr (.inl (fun _ => 0)))) :: (q6, .inl (x.2.2 1, 301, .inr (.inl (fun _ => 0)))) :: (q5, .inl (x.2.2 1, 7000, .inr (.inl (fun _ => 0)))) :: (q4, .inl (x.2.2 0, 8, .inl (fun _ => 0))) :: (q3, .inl (x.2.2 0, 40, .inl (fun _ => 0))) :: (q2, .inl (x.2.2 0, 32, .inl (fun _ => 0))) :: (q1, .inl (x.2.2 0, 32, .inl (fun _ => 0))) :: (o, .inr (0, [.int 0, .int 0, .ref q1, .int 0, .int 0, .int 0, .int 0, .ref q2, .int 0, .ref q3, .int 0, .int 0, .int 0, .int 0, .long 0, .ref q4, .int 0, .ref q5, .ref q6, .int 0, .ref q7, .ref q8, .int 0, .int 0, .int 0, .int 0, .long 0])) :: ex) H locs := hw
  refine lv_aload_n S.1 S.2.1 d_M_init_72 rfl (lv_at hl 0 rfl) ?_
  have fin : ∀ (H : Heap) (locs : List Loc), wd x (va_A (ncl 0 o [.int 0, .int 0, .null, .int 0, .int 0, .int 0, .int 0, .null, .int 0, .null, .int 0, .int 0, .int 0, .int 0, .long 0, .null, .int 0, .null, .null, .int 0, .null, .null, .int 0, .int 0, .int 0, .int 0, .long 0] a () ++ ex) sz) s.heap ((q8, .inl (x.2.2 1, 4000, .inr (.inl (fun _ => 0)))) :: (q7, .inl (x.2.2 1, 4000, .inr (.inl (fun _ => 0)))) :: (q6, .inl (x.2.2 1, 301, .inr (.inl (fun _ => 0)))) :: (q5, .inl (x.2.2 1, 7000, .inr (.inl (fun _ => 0)))) :: (q4, .inl (x.2.2 0, 8, .inl (fun _ => 0))) :: (q3, .inl (x.2.2 0, 40, .inl (fun _ => 0))) :: (q2, .inl (x.2.2 0, 32, .inl (fun _ => 0))) :: (q1, .inl (x.2.2 0, 32, .inl (fun _ => 0))) :: (o, .inr (0, [.int 0, .int 0, .ref q1, .int 0, .int 0, .int 0, .int 0, .ref q2, .int 0, .ref q3, .int 0, .int 0, .int 0, .int 0, .long 0, .ref q4, .int 0, .ref q5, .ref q6, .int 0, .ref q7, .ref q8, .int 0, .int 0, .int 0, .int 0, .long 0])) :: ex) H locs → W p l e (rmN 1 8 15413) s m args below meth c H locs (0 + 1 + 1 + 1 + 1 + 1 + 1 + 1 + 1) (0 + 32 + 32 + 40 + 8 + 7000 + 301 + 4000 + 4000) (MQ below (QeV x (fun a u => mcl x (va_up a 0 o) u) ex (va_A (ncl 0 o [.int 0, .int 0, .null, .int 0, .int 0, .int 0, .int 0, .null, .int 0, .null, .int 0, .int 0, .int 0, .int 0, .long 0, .null, .int 0, .null, .null, .int 0, .null, .null, .int 0, .int 0, .int 0, .int 0, .long 0] a () ++ ex) sz) (fun v => v = ms0 n)) args s 8 15413 (va_A (ncl 0 o [.int 0, .int 0, .null, .int 0, .int 0, .int 0, .int 0, .null, .int 0, .null, .int 0, .int 0, .int 0, .int 0, .long 0, .null, .int 0, .null, .null, .int 0, .null, .null, .int 0, .int 0, .int 0, .int 0, .long 0] a () ++ ex) sz)) (F0 m 98 ls [.int (mlim n), .ref o]) := by
    intro H locs hw
    refine w_putF S (hnm.trans rfl) hK hw 8 rfl rfl i_Mod t_Mod t_Mod_ok n_Mod 0 (by decide) k_868 rfl rfl rfl rfl (Nat.le_of_ble_eq_true rfl) rfl d_M_init_98 (fun H locs hw => ?_)
    have hw : wd x _ _ ((q8, .inl (x.2.2 1, 4000, .inr (.inl (fun _ => 0)))) :: (q7, .inl (x.2.2 1, 4000, .inr (.inl (fun _ => 0)))) :: (q6, .inl (x.2.2 1, 301, .inr (.inl (fun _ => 0)))) :: (q5, .inl (x.2.2 1, 7000, .inr (.inl (fun _ => 0)))) :: (q4, .inl (x.2.2 0, 8, .inl (fun _ => 0))) :: (q3, .inl (x.2.2 0, 40, .inl (fun _ => 0))) :: (q2, .inl (x.2.2 0, 32, .inl (fun _ => 0))) :: (q1, .inl (x.2.2 0, 32, .inl (fun _ => 0))) :: (o, .inr (0, [.int (mlim n), .int 0, .ref q1, .int 0, .int 0, .int 0, .int 0, .ref q2, .int 0, .ref q3, .int 0, .int 0, .int 0, .int 0, .long 0, .ref q4, .int 0, .ref q5, .ref q6, .int 0, .ref q7, .ref q8, .int 0, .int 0, .int 0, .int 0, .long 0])) :: ex) H locs := hw
    have h1 := wd_rot (l1 := [(q8, .inl (x.2.2 1, 4000, .inr (.inl (fun _ => 0))))]) (wc := [(q7, .inl (x.2.2 1, 4000, .inr (.inl (fun _ => 0))))]) (l2 := [(q6, .inl (x.2.2 1, 301, .inr (.inl (fun _ => 0)))), (q5, .inl (x.2.2 1, 7000, .inr (.inl (fun _ => 0)))), (q4, .inl (x.2.2 0, 8, .inl (fun _ => 0))), (q3, .inl (x.2.2 0, 40, .inl (fun _ => 0))), (q2, .inl (x.2.2 0, 32, .inl (fun _ => 0))), (q1, .inl (x.2.2 0, 32, .inl (fun _ => 0)))] ++ ((o, .inr (0, [.int (mlim n), .int 0, .ref q1, .int 0, .int 0, .int 0, .int 0, .ref q2, .int 0, .ref q3, .int 0, .int 0, .int 0, .int 0, .long 0, .ref q4, .int 0, .ref q5, .ref q6, .int 0, .ref q7, .ref q8, .int 0, .int 0, .int 0, .int 0, .long 0])) :: ex)) hw
    have h2 := wd_rot (l1 := [(q7, .inl (x.2.2 1, 4000, .inr (.inl (fun _ => 0)))), (q8, .inl (x.2.2 1, 4000, .inr (.inl (fun _ => 0))))]) (wc := [(q6, .inl (x.2.2 1, 301, .inr (.inl (fun _ => 0))))]) (l2 := [(q5, .inl (x.2.2 1, 7000, .inr (.inl (fun _ => 0)))), (q4, .inl (x.2.2 0, 8, .inl (fun _ => 0))), (q3, .inl (x.2.2 0, 40, .inl (fun _ => 0))), (q2, .inl (x.2.2 0, 32, .inl (fun _ => 0))), (q1, .inl (x.2.2 0, 32, .inl (fun _ => 0)))] ++ ((o, .inr (0, [.int (mlim n), .int 0, .ref q1, .int 0, .int 0, .int 0, .int 0, .ref q2, .int 0, .ref q3, .int 0, .int 0, .int 0, .int 0, .long 0, .ref q4, .int 0, .ref q5, .ref q6, .int 0, .ref q7, .ref q8, .int 0, .int 0, .int 0, .int 0, .long 0])) :: ex)) h1
    have h3 := wd_rot (l1 := [(q6, .inl (x.2.2 1, 301, .inr (.inl (fun _ => 0)))), (q7, .inl (x.2.2 1, 4000, .inr (.inl (fun _ => 0)))), (q8, .inl (x.2.2 1, 4000, .inr (.inl (fun _ => 0))))]) (wc := [(q5, .inl (x.2.2 1, 7000, .inr (.inl (fun _ => 0))))]) (l2 := [(q4, .inl (x.2.2 0, 8, .inl (fun _ => 0))), (q3, .inl (x.2.2 0, 40, .inl (fun _ => 0))), (q2, .inl (x.2.2 0, 32, .inl (fun _ => 0))), (q1, .inl (x.2.2 0, 32, .inl (fun _ => 0)))] ++ ((o, .inr (0, [.int (mlim n), .int 0, .ref q1, .int 0, .int 0, .int 0, .int 0, .ref q2, .int 0, .ref q3, .int 0, .int 0, .int 0, .int 0, .long 0, .ref q4, .int 0, .ref q5, .ref q6, .int 0, .ref q7, .ref q8, .int 0, .int 0, .int 0, .int 0, .long 0])) :: ex)) h2
    have h4 := wd_rot (l1 := [(q5, .inl (x.2.2 1, 7000, .inr (.inl (fun _ => 0)))), (q6, .inl (x.2.2 1, 301, .inr (.inl (fun _ => 0)))), (q7, .inl (x.2.2 1, 4000, .inr (.inl (fun _ => 0)))), (q8, .inl (x.2.2 1, 4000, .inr (.inl (fun _ => 0))))]) (wc := [(q4, .inl (x.2.2 0, 8, .inl (fun _ => 0)))]) (l2 := [(q3, .inl (x.2.2 0, 40, .inl (fun _ => 0))), (q2, .inl (x.2.2 0, 32, .inl (fun _ => 0))), (q1, .inl (x.2.2 0, 32, .inl (fun _ => 0)))] ++ ((o, .inr (0, [.int (mlim n), .int 0, .ref q1, .int 0, .int 0, .int 0, .int 0, .ref q2, .int 0, .ref q3, .int 0, .int 0, .int 0, .int 0, .long 0, .ref q4, .int 0, .ref q5, .ref q6, .int 0, .ref q7, .ref q8, .int 0, .int 0, .int 0, .int 0, .long 0])) :: ex)) h3
    have h5 := wd_rot (l1 := [(q4, .inl (x.2.2 0, 8, .inl (fun _ => 0))), (q5, .inl (x.2.2 1, 7000, .inr (.inl (fun _ => 0)))), (q6, .inl (x.2.2 1, 301, .inr (.inl (fun _ => 0)))), (q7, .inl (x.2.2 1, 4000, .inr (.inl (fun _ => 0)))), (q8, .inl (x.2.2 1, 4000, .inr (.inl (fun _ => 0))))]) (wc := [(q3, .inl (x.2.2 0, 40, .inl (fun _ => 0)))]) (l2 := [(q2, .inl (x.2.2 0, 32, .inl (fun _ => 0))), (q1, .inl (x.2.2 0, 32, .inl (fun _ => 0)))] ++ ((o, .inr (0, [.int (mlim n), .int 0, .ref q1, .int 0, .int 0, .int 0, .int 0, .ref q2, .int 0, .ref q3, .int 0, .int 0, .int 0, .int 0, .long 0, .ref q4, .int 0, .ref q5, .ref q6, .int 0, .ref q7, .ref q8, .int 0, .int 0, .int 0, .int 0, .long 0])) :: ex)) h4
    have h6 := wd_rot (l1 := [(q3, .inl (x.2.2 0, 40, .inl (fun _ => 0))), (q4, .inl (x.2.2 0, 8, .inl (fun _ => 0))), (q5, .inl (x.2.2 1, 7000, .inr (.inl (fun _ => 0)))), (q6, .inl (x.2.2 1, 301, .inr (.inl (fun _ => 0)))), (q7, .inl (x.2.2 1, 4000, .inr (.inl (fun _ => 0)))), (q8, .inl (x.2.2 1, 4000, .inr (.inl (fun _ => 0))))]) (wc := [(q2, .inl (x.2.2 0, 32, .inl (fun _ => 0)))]) (l2 := [(q1, .inl (x.2.2 0, 32, .inl (fun _ => 0)))] ++ ((o, .inr (0, [.int (mlim n), .int 0, .ref q1, .int 0, .int 0, .int 0, .int 0, .ref q2, .int 0, .ref q3, .int 0, .int 0, .int 0, .int 0, .long 0, .ref q4, .int 0, .ref q5, .ref q6, .int 0, .ref q7, .ref q8, .int 0, .int 0, .int 0, .int 0, .long 0])) :: ex)) h5
    have h7 := wd_rot (l1 := [(q2, .inl (x.2.2 0, 32, .inl (fun _ => 0))), (q3, .inl (x.2.2 0, 40, .inl (fun _ => 0))), (q4, .inl (x.2.2 0, 8, .inl (fun _ => 0))), (q5, .inl (x.2.2 1, 7000, .inr (.inl (fun _ => 0)))), (q6, .inl (x.2.2 1, 301, .inr (.inl (fun _ => 0)))), (q7, .inl (x.2.2 1, 4000, .inr (.inl (fun _ => 0)))), (q8, .inl (x.2.2 1, 4000, .inr (.inl (fun _ => 0))))]) (wc := [(q1, .inl (x.2.2 0, 32, .inl (fun _ => 0)))]) (l2 := [] ++ ((o, .inr (0, [.int (mlim n), .int 0, .ref q1, .int 0, .int 0, .int 0, .int 0, .ref q2, .int 0, .ref q3, .int 0, .int 0, .int 0, .int 0, .long 0, .ref q4, .int 0, .ref q5, .ref q6, .int 0, .ref q7, .ref q8, .int 0, .int 0, .int 0, .int 0, .long 0])) :: ex)) h6
    have h8 := wd_rot (l1 := [(q1, .inl (x.2.2 0, 32, .inl (fun _ => 0))), (q2, .inl (x.2.2 0, 32, .inl (fun _ => 0))), (q3, .inl (x.2.2 0, 40, .inl (fun _ => 0))), (q4, .inl (x.2.2 0, 8, .inl (fun _ => 0))), (q5, .inl (x.2.2 1, 7000, .inr (.inl (fun _ => 0)))), (q6, .inl (x.2.2 1, 301, .inr (.inl (fun _ => 0)))), (q7, .inl (x.2.2 1, 4000, .inr (.inl (fun _ => 0)))), (q8, .inl (x.2.2 1, 4000, .inr (.inl (fun _ => 0))))]) (wc := [(o, .inr (0, [.int (mlim n), .int 0, .ref q1, .int 0, .int 0, .int 0, .int 0, .ref q2, .int 0, .ref q3, .int 0, .int 0, .int 0, .int 0, .long 0, .ref q4, .int 0, .ref q5, .ref q6, .int 0, .ref q7, .ref q8, .int 0, .int 0, .int 0, .int 0, .long 0]))]) (l2 := ex) h7
    have hw : wd x _ _ ((fun a u => mcl x (va_up a 0 o) u) (fun k => if k = 1 then q1 else if k = 2 then q2 else if k = 3 then q3 else if k = 4 then q4 else if k = 5 then q5 else if k = 6 then q6 else if k = 7 then q7 else q8) (ms0 n) ++ ex) H locs := h8
    refine W.widen (k := 8) (n := 15413) (by decide) (by decide) ?_
    exact w_vretE S hr hlk hw rfl d_M_init_101
  refine lv_iload_n S.1 S.2.1 d_M_init_73 rfl (lv_at hl 1 rfl) ?_
  refine lv_bipush (v := 20) S.1 S.2.1 d_M_init_74 (by decide) ?_
  refine lv_icmp_ge (tgt := 84) S.1 S.2.1 d_M_init_76 (by decide) (fun c1 => ?_) (fun c1 => ?_)
  · refine lv_iload_n S.1 S.2.1 d_M_init_84 rfl (lv_at hl 1 rfl) ?_
    refine lv_sipush (v := 300) S.1 S.2.1 d_M_init_85 (by decide) ?_
    refine lv_icmp_le (tgt := 97) S.1 S.2.1 d_M_init_88 (by decide) (fun c2 => ?_) (fun c2 => ?_)
    · refine lv_iload_n S.1 S.2.1 d_M_init_97 rfl (lv_at hl 1 rfl) ?_
      have e : mlim n = n := by unfold mlim; rw [if_pos c1, if_pos c2]
      have f := fin H locs hw
      rw [e] at f
      exact f
    · refine lv_sipush (v := 300) S.1 S.2.1 d_M_init_91 (by decide) ?_
      refine lv_goto (tgt := 98) S.1 S.2.1 d_M_init_94 (by decide) ?_
      have e : mlim n = 300 := by unfold mlim; rw [if_pos c1, if_neg c2]
      have f := fin H locs hw
      rw [e] at f
      exact f
  · refine lv_bipush (v := 20) S.1 S.2.1 d_M_init_79 (by decide) ?_
    refine lv_goto (tgt := 98) S.1 S.2.1 d_M_init_81 (by decide) ?_
    have e : mlim n = 20 := by unfold mlim; rw [if_neg c1]
    have f := fin H locs hw
    rw [e] at f
    exact f
