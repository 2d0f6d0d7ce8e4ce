theorem k_18 : (Cond.initialized "java/lang/Record") ∈ lw_tg := kw 18 (by decide +kernel) (by decide +kernel)
theorem k_428 : (Cond.methodLink "PatternBench$Leaf" 1 ⟨"java/lang/Record", "<init>", "()V"⟩) ∈ lw_tg := kw 428 (by decide +kernel) (by decide +kernel)
theorem k_429 : (Cond.instanceMethod ⟨"java/lang/Record", "<init>", "()V"⟩) ∈ lw_tg := kw 429 (by decide +kernel) (by decide +kernel)
theorem k_430 : (Cond.code ⟨"java/lang/Record", "<init>", "()V"⟩ prog_19_method_1_code 1 (Option.none : Option Jvm.ClassFile.FieldType)) ∈ lw_tg := kw 430 (by decide +kernel) (by decide +kernel)
theorem k_431 : (Cond.methodLink "java/lang/Record" 1 ⟨"java/lang/Object", "<init>", "()V"⟩) ∈ lw_tg := kw 431 (by decide +kernel) (by decide +kernel)
theorem k_432 : (Cond.fieldLink "PatternBench$Leaf" 7 "PatternBench$Leaf" "op" "LPatternBench$Op;") ∈ lw_tg := kw 432 (by decide +kernel) (by decide +kernel)
theorem k_433 : (Cond.fieldLink "PatternBench$Leaf" 13 "PatternBench$Leaf" "number" "I") ∈ lw_tg := kw 433 (by decide +kernel) (by decide +kernel)
theorem k_477 : (Cond.methodLink "PatternBench$Group" 1 ⟨"java/lang/Record", "<init>", "()V"⟩) ∈ lw_tg := kw 477 (by decide +kernel) (by decide +kernel)
theorem k_478 : (Cond.fieldLink "PatternBench$Group" 7 "PatternBench$Group" "kind" "C") ∈ lw_tg := kw 478 (by decide +kernel) (by decide +kernel)
theorem k_479 : (Cond.fieldLink "PatternBench$Group" 13 "PatternBench$Group" "number" "I") ∈ lw_tg := kw 479 (by decide +kernel) (by decide +kernel)
theorem k_480 : (Cond.fieldLink "PatternBench$Group" 17 "PatternBench$Group" "inside" "LPatternBench$Part;") ∈ lw_tg := kw 480 (by decide +kernel) (by decide +kernel)
theorem k_497 : (Cond.methodLink "PatternBench$Repeat" 1 ⟨"java/lang/Record", "<init>", "()V"⟩) ∈ lw_tg := kw 497 (by decide +kernel) (by decide +kernel)
theorem k_498 : (Cond.fieldLink "PatternBench$Repeat" 7 "PatternBench$Repeat" "part" "LPatternBench$Part;") ∈ lw_tg := kw 498 (by decide +kernel) (by decide +kernel)
theorem k_499 : (Cond.fieldLink "PatternBench$Repeat" 13 "PatternBench$Repeat" "how" "C") ∈ lw_tg := kw 499 (by decide +kernel) (by decide +kernel)
theorem k_500 : (Cond.fieldLink "PatternBench$Repeat" 17 "PatternBench$Repeat" "times" "I") ∈ lw_tg := kw 500 (by decide +kernel) (by decide +kernel)
theorem k_501 : (Cond.fieldLink "PatternBench$Repeat" 21 "PatternBench$Repeat" "manner" "C") ∈ lw_tg := kw 501 (by decide +kernel) (by decide +kernel)
theorem k_559 : (Cond.methodLink "PatternBench$Row" 1 ⟨"java/lang/Record", "<init>", "()V"⟩) ∈ lw_tg := kw 559 (by decide +kernel) (by decide +kernel)
theorem k_560 : (Cond.fieldLink "PatternBench$Row" 7 "PatternBench$Row" "items" "Ljava/util/ArrayList;") ∈ lw_tg := kw 560 (by decide +kernel) (by decide +kernel)
theorem k_585 : (Cond.methodLink "PatternBench$Choice" 1 ⟨"java/lang/Record", "<init>", "()V"⟩) ∈ lw_tg := kw 585 (by decide +kernel) (by decide +kernel)
theorem k_586 : (Cond.fieldLink "PatternBench$Choice" 7 "PatternBench$Choice" "rows" "Ljava/util/ArrayList;") ∈ lw_tg := kw 586 (by decide +kernel) (by decide +kernel)
/-! The records' constructors; PatternBench makes parts and lists -/
abbrev b_Rc_init : ByteArray := prog_19_method_1_code
def y_Rc_init : MethodName := ⟨"java/lang/Record", "<init>", "()V"⟩
theorem yd_Rc_init : y_Rc_init.cls ≠ "java/lang/invoke/MethodHandle" ∧ y_Rc_init.cls ≠ "java/lang/invoke/VarHandle" ∧ (parseMethodDescriptor y_Rc_init.desc).map (fun d => d.parameters.length) = some 0 := by decide +kernel
theorem d_Rc_init_0 : decode b_Rc_init 0 = .ok (.aload_n 0, 1) := by decide +kernel
theorem d_Rc_init_1 : decode b_Rc_init 1 = .ok (.invokespecial 1, 3) := by decide +kernel
theorem d_Rc_init_4 : decode b_Rc_init 4 = .ok (.return_, 1) := by decide +kernel
abbrev b_Leaf_init : ByteArray := prog_4_method_1_code
def y_Leaf_init : MethodName := ⟨"PatternBench$Leaf", "<init>", "(LPatternBench$Op;I)V"⟩
theorem yd_Leaf_init : y_Leaf_init.cls ≠ "java/lang/invoke/MethodHandle" ∧ y_Leaf_init.cls ≠ "java/lang/invoke/VarHandle" ∧ (parseMethodDescriptor y_Leaf_init.desc).map (fun d => d.parameters.length) = some 2 := by decide +kernel
theorem d_Leaf_init_0 : decode b_Leaf_init 0 = .ok (.aload_n 0, 1) := by decide +kernel
theorem d_Leaf_init_1 : decode b_Leaf_init 1 = .ok (.invokespecial 1, 3) := by decide +kernel
theorem d_Leaf_init_4 : decode b_Leaf_init 4 = .ok (.aload_n 0, 1) := by decide +kernel
theorem d_Leaf_init_5 : decode b_Leaf_init 5 = .ok (.aload_n 1, 1) := by decide +kernel
theorem d_Leaf_init_6 : decode b_Leaf_init 6 = .ok (.putfield 7, 3) := by decide +kernel
theorem d_Leaf_init_9 : decode b_Leaf_init 9 = .ok (.aload_n 0, 1) := by decide +kernel
theorem d_Leaf_init_10 : decode b_Leaf_init 10 = .ok (.iload_n 2, 1) := by decide +kernel
theorem d_Leaf_init_11 : decode b_Leaf_init 11 = .ok (.putfield 13, 3) := by decide +kernel
theorem d_Leaf_init_14 : decode b_Leaf_init 14 = .ok (.return_, 1) := by decide +kernel
abbrev b_Row_init : ByteArray := prog_9_method_1_code
def y_Row_init : MethodName := ⟨"PatternBench$Row", "<init>", "(Ljava/util/ArrayList;)V"⟩
theorem yd_Row_init : y_Row_init.cls ≠ "java/lang/invoke/MethodHandle" ∧ y_Row_init.cls ≠ "java/lang/invoke/VarHandle" ∧ (parseMethodDescriptor y_Row_init.desc).map (fun d => d.parameters.length) = some 1 := by decide +kernel
theorem d_Row_init_0 : decode b_Row_init 0 = .ok (.aload_n 0, 1) := by decide +kernel
theorem d_Row_init_1 : decode b_Row_init 1 = .ok (.invokespecial 1, 3) := by decide +kernel
theorem d_Row_init_4 : decode b_Row_init 4 = .ok (.aload_n 0, 1) := by decide +kernel
theorem d_Row_init_5 : decode b_Row_init 5 = .ok (.aload_n 1, 1) := by decide +kernel
theorem d_Row_init_6 : decode b_Row_init 6 = .ok (.putfield 7, 3) := by decide +kernel
theorem d_Row_init_9 : decode b_Row_init 9 = .ok (.return_, 1) := by decide +kernel
abbrev b_Cho_init : ByteArray := prog_2_method_1_code
def y_Cho_init : MethodName := ⟨"PatternBench$Choice", "<init>", "(Ljava/util/ArrayList;)V"⟩
theorem yd_Cho_init : y_Cho_init.cls ≠ "java/lang/invoke/MethodHandle" ∧ y_Cho_init.cls ≠ "java/lang/invoke/VarHandle" ∧ (parseMethodDescriptor y_Cho_init.desc).map (fun d => d.parameters.length) = some 1 := by decide +kernel
theorem d_Cho_init_0 : decode b_Cho_init 0 = .ok (.aload_n 0, 1) := by decide +kernel
theorem d_Cho_init_1 : decode b_Cho_init 1 = .ok (.invokespecial 1, 3) := by decide +kernel
theorem d_Cho_init_4 : decode b_Cho_init 4 = .ok (.aload_n 0, 1) := by decide +kernel
theorem d_Cho_init_5 : decode b_Cho_init 5 = .ok (.aload_n 1, 1) := by decide +kernel
theorem d_Cho_init_6 : decode b_Cho_init 6 = .ok (.putfield 7, 3) := by decide +kernel
theorem d_Cho_init_9 : decode b_Cho_init 9 = .ok (.return_, 1) := by decide +kernel
abbrev b_Grp_init : ByteArray := prog_3_method_1_code
def y_Grp_init : MethodName := ⟨"PatternBench$Group", "<init>", "(CILPatternBench$Part;)V"⟩
theorem yd_Grp_init : y_Grp_init.cls ≠ "java/lang/invoke/MethodHandle" ∧ y_Grp_init.cls ≠ "java/lang/invoke/VarHandle" ∧ (parseMethodDescriptor y_Grp_init.desc).map (fun d => d.parameters.length) = some 3 := by decide +kernel
theorem d_Grp_init_0 : decode b_Grp_init 0 = .ok (.aload_n 0, 1) := by decide +kernel
theorem d_Grp_init_1 : decode b_Grp_init 1 = .ok (.invokespecial 1, 3) := by decide +kernel
theorem d_Grp_init_4 : decode b_Grp_init 4 = .ok (.aload_n 0, 1) := by decide +kernel
theorem d_Grp_init_5 : decode b_Grp_init 5 = .ok (.iload_n 1, 1) := by decide +kernel
theorem d_Grp_init_6 : decode b_Grp_init 6 = .ok (.putfield 7, 3) := by decide +kernel
theorem d_Grp_init_9 : decode b_Grp_init 9 = .ok (.aload_n 0, 1) := by decide +kernel
theorem d_Grp_init_10 : decode b_Grp_init 10 = .ok (.iload_n 2, 1) := by decide +kernel
theorem d_Grp_init_11 : decode b_Grp_init 11 = .ok (.putfield 13, 3) := by decide +kernel
theorem d_Grp_init_14 : decode b_Grp_init 14 = .ok (.aload_n 0, 1) := by decide +kernel
theorem d_Grp_init_15 : decode b_Grp_init 15 = .ok (.aload_n 3, 1) := by decide +kernel
theorem d_Grp_init_16 : decode b_Grp_init 16 = .ok (.putfield 17, 3) := by decide +kernel
theorem d_Grp_init_19 : decode b_Grp_init 19 = .ok (.return_, 1) := by decide +kernel
abbrev b_Rep_init : ByteArray := prog_8_method_1_code
def y_Rep_init : MethodName := ⟨"PatternBench$Repeat", "<init>", "(LPatternBench$Part;CIC)V"⟩
theorem yd_Rep_init : y_Rep_init.cls ≠ "java/lang/invoke/MethodHandle" ∧ y_Rep_init.cls ≠ "java/lang/invoke/VarHandle" ∧ (parseMethodDescriptor y_Rep_init.desc).map (fun d => d.parameters.length) = some 4 := by decide +kernel
theorem d_Rep_init_0 : decode b_Rep_init 0 = .ok (.aload_n 0, 1) := by decide +kernel
theorem d_Rep_init_1 : decode b_Rep_init 1 = .ok (.invokespecial 1, 3) := by decide +kernel
theorem d_Rep_init_4 : decode b_Rep_init 4 = .ok (.aload_n 0, 1) := by decide +kernel
theorem d_Rep_init_5 : decode b_Rep_init 5 = .ok (.aload_n 1, 1) := by decide +kernel
theorem d_Rep_init_6 : decode b_Rep_init 6 = .ok (.putfield 7, 3) := by decide +kernel
theorem d_Rep_init_9 : decode b_Rep_init 9 = .ok (.aload_n 0, 1) := by decide +kernel
theorem d_Rep_init_10 : decode b_Rep_init 10 = .ok (.iload_n 2, 1) := by decide +kernel
theorem d_Rep_init_11 : decode b_Rep_init 11 = .ok (.putfield 13, 3) := by decide +kernel
theorem d_Rep_init_14 : decode b_Rep_init 14 = .ok (.aload_n 0, 1) := by decide +kernel
theorem d_Rep_init_15 : decode b_Rep_init 15 = .ok (.iload_n 3, 1) := by decide +kernel
theorem d_Rep_init_16 : decode b_Rep_init 16 = .ok (.putfield 17, 3) := by decide +kernel
theorem d_Rep_init_19 : decode b_Rep_init 19 = .ok (.aload_n 0, 1) := by decide +kernel
theorem d_Rep_init_20 : decode b_Rep_init 20 = .ok (.iload 4, 2) := by decide +kernel
theorem d_Rep_init_22 : decode b_Rep_init 22 = .ok (.putfield 21, 3) := by decide +kernel
theorem d_Rep_init_25 : decode b_Rep_init 25 = .ok (.return_, 1) := by decide +kernel
theorem c_Rc_init {x : GX} {g : GE} {b ci : Nat} {ex : va_W} {a : Nat → Nat} (l : Launch) (fs : List Value) (sz : Nat) : Met l y_Rc_init (wM y_Rc_init b_Rc_init 1 none) (rmN 1 0 0) (PreE x g (ncl ci b fs) ex [.ref b] a () sz) (QfV x (ncl ci b fs) ex a (va_A (ncl ci b fs a () ++ ex) sz) (fun _ => True)) 0 0 (va_A (ncl ci b fs a () ++ ex) sz) := by
  refine w_enterE (by decide +kernel) (Nat.le_of_ble_eq_true rfl) (fun p e s m args below meth c S hr hlk hnm hK hE hA hw ls hl => ?_)
  have hl : lv_has ls 1 [(0, .ref b)] := hl
  refine lv_aload_n S.1 S.2.1 d_Rc_init_0 rfl (lv_at hl 0 rfl) ?_
  refine w_obj S hl.1 k_431 (Nat.le_of_ble_eq_true rfl) (Nat.le_of_ble_eq_true rfl) d_Rc_init_1 ?_
  exact w_vretF S hr hlk hw trivial d_Rc_init_4
def isC (v : Int32) : Prop := narrow .char (.int v) = .int v ∧ fits .char (.int v) = true
set_option maxHeartbeats 4000000 in
theorem c_Leaf_init {x : GX} {g : GE} {b : Nat} {ex : va_W} {a : Nat → Nat} (l : Launch) (v0 : Nat) (v1 : Int32) (sz : Nat)  : Met l y_Leaf_init (wM y_Leaf_init b_Leaf_init 3 none) (rmN 2 0 0) (PreE x g (ncl 5 b [.null, .int 0]) ex [.ref b, .ref v0, .int v1] a () sz) (QfV x (ncl 5 b [.ref v0, .int v1]) ex a (va_A (ncl 5 b [.null, .int 0] a () ++ ex) sz) (fun _ => True)) 0 0 (va_A (ncl 5 b [.null, .int 0] a () ++ ex) sz) := by
  refine w_enterE (by decide +kernel) (Nat.le_of_ble_eq_true rfl) (fun p e s m args below meth c S hr hlk hnm hK hE hA hw ls hl => ?_)
  have hl : lv_has ls 3 [(0, .ref b), (1, .ref v0), (2, .int v1)] := hl
  refine lv_aload_n S.1 S.2.1 d_Leaf_init_0 rfl (lv_at hl 0 rfl) ?_
  refine w_cvF hA hw (w_riE (rest := []) S hK hE hA hw (c_Rc_init l _ _) (w_cb (fr := 0) (lv := 0) S.2.2.2.2 k_430 k_428 k_18 yd_Rc_init rfl rfl ⟨Nat.le_of_ble_eq_true rfl, Nat.le_of_ble_eq_true rfl⟩) rfl k_429 rfl hl.1 rfl (Nat.le_of_ble_eq_true rfl) d_Leaf_init_1 ⟨Nat.le_refl _, Nat.le_refl _⟩) (fun u H locs h hw => ?_)
  refine lv_aload_n S.1 S.2.1 d_Leaf_init_4 rfl (lv_at hl 0 rfl) ?_
  refine lv_aload_n S.1 S.2.1 d_Leaf_init_5 rfl (lv_at hl 1 rfl) ?_
  refine w_putF S (hnm.trans rfl) hK hw 0 rfl rfl i_Leaf t_Leaf t_Leaf_ok n_Leaf 0 (by decide) k_432 rfl rfl rfl rfl (Nat.le_of_ble_eq_true rfl) rfl d_Leaf_init_6 (fun H locs hw => ?_)
  refine lv_aload_n S.1 S.2.1 d_Leaf_init_9 rfl (lv_at hl 0 rfl) ?_
  refine lv_iload_n S.1 S.2.1 d_Leaf_init_10 rfl (lv_at hl 2 rfl) ?_
  refine w_putF S (hnm.trans rfl) hK hw 0 rfl rfl i_Leaf t_Leaf t_Leaf_ok n_Leaf 1 (by decide) k_433 rfl rfl rfl rfl (Nat.le_of_ble_eq_true rfl) rfl d_Leaf_init_11 (fun H locs hw => ?_)
  exact w_vretF (u := ()) (cl := ncl 5 b [.ref v0, .int v1]) S hr hlk hw trivial d_Leaf_init_14
set_option maxHeartbeats 4000000 in
theorem c_Row_init {x : GX} {g : GE} {b : Nat} {ex : va_W} {a : Nat → Nat} (l : Launch) (v0 : Nat) (sz : Nat)  : Met l y_Row_init (wM y_Row_init b_Row_init 2 none) (rmN 2 0 0) (PreE x g (ncl 6 b [.null]) ex [.ref b, .ref v0] a () sz) (QfV x (ncl 6 b [.ref v0]) ex a (va_A (ncl 6 b [.null] a () ++ ex) sz) (fun _ => True)) 0 0 (va_A (ncl 6 b [.null] a () ++ ex) sz) := by
  refine w_enterE (by decide +kernel) (Nat.le_of_ble_eq_true rfl) (fun p e s m args below meth c S hr hlk hnm hK hE hA hw ls hl => ?_)
  have hl : lv_has ls 2 [(0, .ref b), (1, .ref v0)] := hl
  refine lv_aload_n S.1 S.2.1 d_Row_init_0 rfl (lv_at hl 0 rfl) ?_
  refine w_cvF hA hw (w_riE (rest := []) S hK hE hA hw (c_Rc_init l _ _) (w_cb (fr := 0) (lv := 0) S.2.2.2.2 k_430 k_559 k_18 yd_Rc_init rfl rfl ⟨Nat.le_of_ble_eq_true rfl, Nat.le_of_ble_eq_true rfl⟩) rfl k_429 rfl hl.1 rfl (Nat.le_of_ble_eq_true rfl) d_Row_init_1 ⟨Nat.le_refl _, Nat.le_refl _⟩) (fun u H locs h hw => ?_)
  refine lv_aload_n S.1 S.2.1 d_Row_init_4 rfl (lv_at hl 0 rfl) ?_
  refine lv_aload_n S.1 S.2.1 d_Row_init_5 rfl (lv_at hl 1 rfl) ?_
  refine w_putF S (hnm.trans rfl) hK hw 0 rfl rfl i_Row t_Row t_Row_ok n_Row 0 (by decide) k_560 rfl rfl rfl rfl (Nat.le_of_ble_eq_true rfl) rfl d_Row_init_6 (fun H locs hw => ?_)
  exact w_vretF (u := ()) (cl := ncl 6 b [.ref v0]) S hr hlk hw trivial d_Row_init_9
set_option maxHeartbeats 4000000 in
theorem c_Cho_init {x : GX} {g : GE} {b : Nat} {ex : va_W} {a : Nat → Nat} (l : Launch) (v0 : Nat) (sz : Nat)  : Met l y_Cho_init (wM y_Cho_init b_Cho_init 2 none) (rmN 2 0 0) (PreE x g (ncl 7 b [.null]) ex [.ref b, .ref v0] a () sz) (QfV x (ncl 7 b [.ref v0]) ex a (va_A (ncl 7 b [.null] a () ++ ex) sz) (fun _ => True)) 0 0 (va_A (ncl 7 b [.null] a () ++ ex) sz) := by
  refine w_enterE (by decide +kernel) (Nat.le_of_ble_eq_true rfl) (fun p e s m args below meth c S hr hlk hnm hK hE hA hw ls hl => ?_)
  have hl : lv_has ls 2 [(0, .ref b), (1, .ref v0)] := hl
  refine lv_aload_n S.1 S.2.1 d_Cho_init_0 rfl (lv_at hl 0 rfl) ?_
  refine w_cvF hA hw (w_riE (rest := []) S hK hE hA hw (c_Rc_init l _ _) (w_cb (fr := 0) (lv := 0) S.2.2.2.2 k_430 k_585 k_18 yd_Rc_init rfl rfl ⟨Nat.le_of_ble_eq_true rfl, Nat.le_of_ble_eq_true rfl⟩) rfl k_429 rfl hl.1 rfl (Nat.le_of_ble_eq_true rfl) d_Cho_init_1 ⟨Nat.le_refl _, Nat.le_refl _⟩) (fun u H locs h hw => ?_)
  refine lv_aload_n S.1 S.2.1 d_Cho_init_4 rfl (lv_at hl 0 rfl) ?_
  refine lv_aload_n S.1 S.2.1 d_Cho_init_5 rfl (lv_at hl 1 rfl) ?_
  refine w_putF S (hnm.trans rfl) hK hw 0 rfl rfl i_Cho t_Cho t_Cho_ok n_Cho 0 (by decide) k_586 rfl rfl rfl rfl (Nat.le_of_ble_eq_true rfl) rfl d_Cho_init_6 (fun H locs hw => ?_)
  exact w_vretF (u := ()) (cl := ncl 7 b [.ref v0]) S hr hlk hw trivial d_Cho_init_9
set_option maxHeartbeats 4000000 in
theorem c_Grp_init {x : GX} {g : GE} {b : Nat} {ex : va_W} {a : Nat → Nat} (l : Launch) (v0 : Int32) (v1 : Int32) (v2 : Nat) (sz : Nat) (h0 : isC v0) : Met l y_Grp_init (wM y_Grp_init b_Grp_init 4 none) (rmN 2 0 0) (PreE x g (ncl 8 b [.int 0, .int 0, .null]) ex [.ref b, .int v0, .int v1, .ref v2] a () sz) (QfV x (ncl 8 b [.int v0, .int v1, .ref v2]) ex a (va_A (ncl 8 b [.int 0, .int 0, .null] a () ++ ex) sz) (fun _ => True)) 0 0 (va_A (ncl 8 b [.int 0, .int 0, .null] a () ++ ex) sz) := by
  refine w_enterE (by decide +kernel) (Nat.le_of_ble_eq_true rfl) (fun p e s m args below meth c S hr hlk hnm hK hE hA hw ls hl => ?_)
  have hl : lv_has ls 4 [(0, .ref b), (1, .int v0), (2, .int v1), (3, .ref v2)] := hl
  refine lv_aload_n S.1 S.2.1 d_Grp_init_0 rfl (lv_at hl 0 rfl) ?_
  refine w_cvF hA hw (w_riE (rest := []) S hK hE hA hw (c_Rc_init l _ _) (w_cb (fr := 0) (lv := 0) S.2.2.2.2 k_430 k_477 k_18 yd_Rc_init rfl rfl ⟨Nat.le_of_ble_eq_true rfl, Nat.le_of_ble_eq_true rfl⟩) rfl k_429 rfl hl.1 rfl (Nat.le_of_ble_eq_true rfl) d_Grp_init_1 ⟨Nat.le_refl _, Nat.le_refl _⟩) (fun u H locs h hw => ?_)
  refine lv_aload_n S.1 S.2.1 d_Grp_init_4 rfl (lv_at hl 0 rfl) ?_
  refine lv_iload_n S.1 S.2.1 d_Grp_init_5 rfl (lv_at hl 1 rfl) ?_
  refine w_putF S (hnm.trans rfl) hK hw 0 rfl rfl i_Grp t_Grp t_Grp_ok n_Grp 0 (by decide) k_478 rfl rfl h0.1 h0.2 (Nat.le_of_ble_eq_true rfl) rfl d_Grp_init_6 (fun H locs hw => ?_)
  refine lv_aload_n S.1 S.2.1 d_Grp_init_9 rfl (lv_at hl 0 rfl) ?_
  refine lv_iload_n S.1 S.2.1 d_Grp_init_10 rfl (lv_at hl 2 rfl) ?_
  refine w_putF S (hnm.trans rfl) hK hw 0 rfl rfl i_Grp t_Grp t_Grp_ok n_Grp 1 (by decide) k_479 rfl rfl rfl rfl (Nat.le_of_ble_eq_true rfl) rfl d_Grp_init_11 (fun H locs hw => ?_)
  refine lv_aload_n S.1 S.2.1 d_Grp_init_14 rfl (lv_at hl 0 rfl) ?_
  refine lv_aload_n S.1 S.2.1 d_Grp_init_15 rfl (lv_at hl 3 rfl) ?_
  refine w_putF S (hnm.trans rfl) hK hw 0 rfl rfl i_Grp t_Grp t_Grp_ok n_Grp 2 (by decide) k_480 rfl rfl rfl rfl (Nat.le_of_ble_eq_true rfl) rfl d_Grp_init_16 (fun H locs hw => ?_)
  exact w_vretF (u := ()) (cl := ncl 8 b [.int v0, .int v1, .ref v2]) S hr hlk hw trivial d_Grp_init_19
set_option maxHeartbeats 4000000 in
theorem c_Rep_init {x : GX} {g : GE} {b : Nat} {ex : va_W} {a : Nat → Nat} (l : Launch) (v0 : Nat) (v1 : Int32) (v2 : Int32) (v3 : Int32) (sz : Nat) (h1 : isC v1) (h3 : isC v3) : Met l y_Rep_init (wM y_Rep_init b_Rep_init 5 none) (rmN 2 0 0) (PreE x g (ncl 9 b [.null, .int 0, .int 0, .int 0]) ex [.ref b, .ref v0, .int v1, .int v2, .int v3] a () sz) (QfV x (ncl 9 b [.ref v0, .int v1, .int v2, .int v3]) ex a (va_A (ncl 9 b [.null, .int 0, .int 0, .int 0] a () ++ ex) sz) (fun _ => True)) 0 0 (va_A (ncl 9 b [.null, .int 0, .int 0, .int 0] a () ++ ex) sz) := by
  refine w_enterE (by decide +kernel) (Nat.le_of_ble_eq_true rfl) (fun p e s m args below meth c S hr hlk hnm hK hE hA hw ls hl => ?_)
  have hl : lv_has ls 5 [(0, .ref b), (1, .ref v0), (2, .int v1), (3, .int v2), (4, .int v3)] := hl
  refine lv_aload_n S.1 S.2.1 d_Rep_init_0 rfl (lv_at hl 0 rfl) ?_
  refine w_cvF hA hw (w_riE (rest := []) S hK hE hA hw (c_Rc_init l _ _) (w_cb (fr := 0) (lv := 0) S.2.2.2.2 k_430 k_497 k_18 yd_Rc_init rfl rfl ⟨Nat.le_of_ble_eq_true rfl, Nat.le_of_ble_eq_true rfl⟩) rfl k_429 rfl hl.1 rfl (Nat.le_of_ble_eq_true rfl) d_Rep_init_1 ⟨Nat.le_refl _, Nat.le_refl _⟩) (fun u H locs h hw => ?_)
  refine lv_aload_n S.1 S.2.1 d_Rep_init_4 rfl (lv_at hl 0 rfl) ?_
  refine lv_aload_n S.1 S.2.1 d_Rep_init_5 rfl (lv_at hl 1 rfl) ?_
  refine w_putF S (hnm.trans rfl) hK hw 0 rfl rfl i_Rep t_Rep t_Rep_ok n_Rep 0 (by decide) k_498 rfl rfl rfl rfl (Nat.le_of_ble_eq_true rfl) rfl d_Rep_init_6 (fun H locs hw => ?_)
  refine lv_aload_n S.1 S.2.1 d_Rep_init_9 rfl (lv_at hl 0 rfl) ?_
  refine lv_iload_n S.1 S.2.1 d_Rep_init_10 rfl (lv_at hl 2 rfl) ?_
  refine w_putF S (hnm.trans rfl) hK hw 0 rfl rfl i_Rep t_Rep t_Rep_ok n_Rep 1 (by decide) k_499 rfl rfl h1.1 h1.2 (Nat.le_of_ble_eq_true rfl) rfl d_Rep_init_11 (fun H locs hw => ?_)
  refine lv_aload_n S.1 S.2.1 d_Rep_init_14 rfl (lv_at hl 0 rfl) ?_
  refine lv_iload_n S.1 S.2.1 d_Rep_init_15 rfl (lv_at hl 3 rfl) ?_
  refine w_putF S (hnm.trans rfl) hK hw 0 rfl rfl i_Rep t_Rep t_Rep_ok n_Rep 2 (by decide) k_500 rfl rfl rfl rfl (Nat.le_of_ble_eq_true rfl) rfl d_Rep_init_16 (fun H locs hw => ?_)
  refine lv_aload_n S.1 S.2.1 d_Rep_init_19 rfl (lv_at hl 0 rfl) ?_
  refine lv_iload S.1 S.2.1 d_Rep_init_20 (lv_at hl 4 rfl) ?_
  refine w_putF S (hnm.trans rfl) hK hw 0 rfl rfl i_Rep t_Rep t_Rep_ok n_Rep 3 (by decide) k_501 rfl rfl h3.1 h3.2 (Nat.le_of_ble_eq_true rfl) rfl d_Rep_init_22 (fun H locs hw => ?_)
  exact w_vretF (u := ()) (cl := ncl 9 b [.ref v0, .int v1, .int v2, .int v3]) S hr hlk hw trivial d_Rep_init_25
