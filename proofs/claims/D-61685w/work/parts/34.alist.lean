theorem k_15 : (Cond.initialized "java/util/AbstractCollection") ∈ lw_tg := kw 15 (by decide +kernel) (by decide +kernel)
theorem k_16 : (Cond.initialized "java/util/AbstractList") ∈ lw_tg := kw 16 (by decide +kernel) (by decide +kernel)
theorem k_17 : (Cond.initialized "java/util/ArrayList") ∈ lw_tg := kw 17 (by decide +kernel) (by decide +kernel)
theorem k_25 : (Cond.initialized "java/util/Objects") ∈ lw_tg := kw 25 (by decide +kernel) (by decide +kernel)
theorem k_375 : (Cond.methodLink "java/util/ArrayList" 1 ⟨"java/util/AbstractList", "<init>", "()V"⟩) ∈ lw_tg := kw 375 (by decide +kernel) (by decide +kernel)
theorem k_376 : (Cond.instanceMethod ⟨"java/util/AbstractList", "<init>", "()V"⟩) ∈ lw_tg := kw 376 (by decide +kernel) (by decide +kernel)
theorem k_377 : (Cond.code ⟨"java/util/AbstractList", "<init>", "()V"⟩ prog_26_method_1_code 1 (Option.none : Option Jvm.ClassFile.FieldType)) ∈ lw_tg := kw 377 (by decide +kernel) (by decide +kernel)
theorem k_378 : (Cond.methodLink "java/util/AbstractList" 1 ⟨"java/util/AbstractCollection", "<init>", "()V"⟩) ∈ lw_tg := kw 378 (by decide +kernel) (by decide +kernel)
theorem k_379 : (Cond.instanceMethod ⟨"java/util/AbstractCollection", "<init>", "()V"⟩) ∈ lw_tg := kw 379 (by decide +kernel) (by decide +kernel)
theorem k_380 : (Cond.code ⟨"java/util/AbstractCollection", "<init>", "()V"⟩ prog_25_method_1_code 1 (Option.none : Option Jvm.ClassFile.FieldType)) ∈ lw_tg := kw 380 (by decide +kernel) (by decide +kernel)
theorem k_381 : (Cond.methodLink "java/util/AbstractCollection" 1 ⟨"java/lang/Object", "<init>", "()V"⟩) ∈ lw_tg := kw 381 (by decide +kernel) (by decide +kernel)
theorem k_382 : (Cond.fieldLink "java/util/ArrayList" 39 "java/util/ArrayList" "DEFAULTCAPACITY_EMPTY_ELEMENTDATA" "[Ljava/lang/Object;") ∈ lw_tg := kw 382 (by decide +kernel) (by decide +kernel)
theorem k_384 : (Cond.fieldLink "java/util/ArrayList" 9 "java/util/ArrayList" "elementData" "[Ljava/lang/Object;") ∈ lw_tg := kw 384 (by decide +kernel) (by decide +kernel)
theorem k_385 : (Cond.fieldLink "java/util/ArrayList" 48 "java/util/ArrayList" "size" "I") ∈ lw_tg := kw 385 (by decide +kernel) (by decide +kernel)
theorem k_386 : (Cond.fieldLink "java/util/AbstractList" 7 "java/util/AbstractList" "modCount" "I") ∈ lw_tg := kw 386 (by decide +kernel) (by decide +kernel)
theorem k_387 : (Cond.fieldLink "java/util/ArrayList" 63 "java/util/ArrayList" "modCount" "I") ∈ lw_tg := kw 387 (by decide +kernel) (by decide +kernel)
theorem k_388 : (Cond.sameField "java/util/ArrayList" "java/util/AbstractList" "modCount" "I") ∈ lw_tg := kw 388 (by decide +kernel) (by decide +kernel)
theorem k_572 : (Cond.methodLink "java/util/ArrayList" 118 ⟨"java/util/Objects", "checkIndex", "(II)I"⟩) ∈ lw_tg := kw 572 (by decide +kernel) (by decide +kernel)
theorem k_573 : (Cond.static ⟨"java/util/Objects", "checkIndex", "(II)I"⟩) ∈ lw_tg := kw 573 (by decide +kernel) (by decide +kernel)
theorem k_574 : (Cond.code ⟨"java/util/Objects", "checkIndex", "(II)I"⟩ prog_31_method_17_code 2 (Option.some .int)) ∈ lw_tg := kw 574 (by decide +kernel) (by decide +kernel)
theorem k_575 : (Cond.methodLink "java/util/Objects" 105 ⟨"jdk/internal/util/Preconditions", "checkIndex", "(IILjava/util/function/BiFunction;)I"⟩) ∈ lw_tg := kw 575 (by decide +kernel) (by decide +kernel)
theorem k_576 : (Cond.methodLink "java/util/ArrayList" 123 ⟨"java/util/ArrayList", "elementData", "(I)Ljava/lang/Object;"⟩) ∈ lw_tg := kw 576 (by decide +kernel) (by decide +kernel)
theorem k_577 : (Cond.instanceMethod ⟨"java/util/ArrayList", "elementData", "(I)Ljava/lang/Object;"⟩) ∈ lw_tg := kw 577 (by decide +kernel) (by decide +kernel)
theorem k_578 : (Cond.selects "java/util/ArrayList" ⟨"java/util/ArrayList", "elementData", "(I)Ljava/lang/Object;"⟩ ⟨"java/util/ArrayList", "elementData", "(I)Ljava/lang/Object;"⟩) ∈ lw_tg := kw 578 (by decide +kernel) (by decide +kernel)
theorem k_579 : (Cond.code ⟨"java/util/ArrayList", "elementData", "(I)Ljava/lang/Object;"⟩ prog_27_method_18_code 2 (Option.some (.object "java/lang/Object"))) ∈ lw_tg := kw 579 (by decide +kernel) (by decide +kernel)
/-! java.util.ArrayList of parts -/
abbrev refsA (f : Nat → Option Nat) : (Nat → Int32) ⊕ (Nat → Int64) ⊕ (Nat → UInt32) ⊕ (Nat → UInt64) ⊕ (Nat → Option Nat) := .inr (.inr (.inr (.inr f)))
/-- an object of a part's class lies at y -/
def Prt (ws : va_W) (y : Nat) : Prop := ∃ (j ci : Nat) (fs : List Value), ws[j]? = some (y, .inr (ci, fs)) ∧ 5 ≤ ci ∧ ci ≤ 9
theorem Prt.app {l ws : va_W} {y : Nat} (h : Prt ws y) : Prt (l ++ ws) y := by
  obtain ⟨j, ci, fs, h1, h2⟩ := h
  exact ⟨l.length + j, ci, fs, by rw [List.getElem?_append_right (by omega), Nat.add_sub_cancel_left]; exact h1, h2⟩
theorem Prt.left {l ws : va_W} {y : Nat} (h : Prt l y) : Prt (l ++ ws) y := by
  obtain ⟨j, ci, fs, h1, h2⟩ := h
  exact ⟨j, ci, fs, by rw [List.getElem?_append_left (List.getElem?_eq_some_iff.mp h1).1]; exact h1, h2⟩
theorem Prt.any {x : GX} {s : State} {A : Nat → Prop} {H0 H : Heap} {locs : List Loc} {ws : va_W} {y : Nat} (hK : GK x s) (hF : TF s) (hw : wd x A H0 ws H locs) (h : Prt ws y) : va_Any "java/lang/Object" s H y ∧ va_Any "PatternBench$Part" s H y := by
  obtain ⟨j, ci, fs, h1, h2, h3⟩ := h
  have hc : ci = 5 ∨ ci = 6 ∨ ci = 7 ∨ ci = 8 ∨ ci = 9 := by omega
  rcases hc with rfl | rfl | rfl | rfl | rfl
  · exact ⟨va_rAny (r := (R_Leaf, F_Leaf, 2)) hK hw.1 h1 rfl (vb_asgC (hF.2.2 ("PatternBench$Leaf", "java/lang/Object") (List.mem_of_getElem? (i := 5) rfl))), va_rAny (r := (R_Leaf, F_Leaf, 2)) hK hw.1 h1 rfl (vb_asgC (hF.2.2 ("PatternBench$Leaf", "PatternBench$Part") (List.mem_of_getElem? (i := 0) rfl)))⟩
  · exact ⟨va_rAny (r := (R_Row, F_Row, 1)) hK hw.1 h1 rfl (vb_asgC (hF.2.2 ("PatternBench$Row", "java/lang/Object") (List.mem_of_getElem? (i := 6) rfl))), va_rAny (r := (R_Row, F_Row, 1)) hK hw.1 h1 rfl (vb_asgC (hF.2.2 ("PatternBench$Row", "PatternBench$Part") (List.mem_of_getElem? (i := 1) rfl)))⟩
  · exact ⟨va_rAny (r := (R_Cho, F_Cho, 1)) hK hw.1 h1 rfl (vb_asgC (hF.2.2 ("PatternBench$Choice", "java/lang/Object") (List.mem_of_getElem? (i := 7) rfl))), va_rAny (r := (R_Cho, F_Cho, 1)) hK hw.1 h1 rfl (vb_asgC (hF.2.2 ("PatternBench$Choice", "PatternBench$Part") (List.mem_of_getElem? (i := 2) rfl)))⟩
  · exact ⟨va_rAny (r := (R_Grp, F_Grp, 3)) hK hw.1 h1 rfl (vb_asgC (hF.2.2 ("PatternBench$Group", "java/lang/Object") (List.mem_of_getElem? (i := 8) rfl))), va_rAny (r := (R_Grp, F_Grp, 3)) hK hw.1 h1 rfl (vb_asgC (hF.2.2 ("PatternBench$Group", "PatternBench$Part") (List.mem_of_getElem? (i := 3) rfl)))⟩
  · exact ⟨va_rAny (r := (R_Rep, F_Rep, 4)) hK hw.1 h1 rfl (vb_asgC (hF.2.2 ("PatternBench$Repeat", "java/lang/Object") (List.mem_of_getElem? (i := 9) rfl))), va_rAny (r := (R_Rep, F_Rep, 4)) hK hw.1 h1 rfl (vb_asgC (hF.2.2 ("PatternBench$Repeat", "PatternBench$Part") (List.mem_of_getElem? (i := 4) rfl)))⟩
/-- a list's state: none while nothing was added; else its array's address, its room, its places, how many are taken -/
abbrev ALS : Type := Option (Nat × Nat × (Nat → Option Nat) × Nat) × Int32
def alc (x : GX) (g : GE) (b : Nat) (_ : Nat → Nat) (z : ALS) : va_W := match z with
  | (none, mc) => [(b, .inr (4, [.ref (g.2 0), .int 0, .int mc]))]
  | (some (q, n, f, k), mc) => [(b, .inr (4, [.ref q, .int (nI k), .int mc])), (q, .inl (x.2.2 5, n, refsA f))]
section AR
variable {p : Program} {l : Launch} {e : Env} {R : Room} {s : State} {m : MethodId} {args : Array Value} {below : List Frame} {meth : Method} {c : Code} {H H0 : Heap} {locs : List Loc} {cells slots : Nat} {Q : State → Prop}
variable {cc : ByteArray} {nL pc : Nat} {ls : Array Slot} {rest : List Value} {x : GX} {g : GE} {a : Nat → Nat} {A : Nat → Prop} {ex ws : va_W} {b : Nat}
/-- modCount, under the name by which ArrayList spells it -/
theorem al_getm (S : CallFix p m c cc nL s args lw_tg "java/util/ArrayList") (hK : GK x s) (hw : wd x A H0 ws H locs) (q0 : Nat) {v0 v1 v : Value} (he : ws[q0]? = some (b, .inr (4, [v0, v1, v]))) (hdg : decode cc pc = .ok (.getfield 63, 3)) (kk : W p l e R s m args below meth c H locs cells slots Q (F0 m (pc + 3) ls (v :: rest))) : W p l e R s m args below meth c H locs cells slots Q (F0 m pc ls (.ref b :: rest)) :=
  va_get (D := (x.1, x.2.1)) (ci := 4) (v := v) (C := R_AL) (T := F_AL) (N := 3) S.1 S.2.1 S.2.2.2.2 i_AL S.2.2.2.1 hK hw.1 q0 he rfl 2 (by decide) (S.2.2.2.2 _ k_387) (fun z h9 => u_same (S.2.2.2.2 _ k_388) z h9) rfl hdg kk
theorem al_putm (S : CallFix p m c cc nL s args lw_tg "java/util/ArrayList") (hK : GK x s) (hw : wd x A H0 ws H locs) (q0 : Nat) {v0 v1 v2 : Value} {v : Int32} (he : ws[q0]? = some (b, .inr (4, [v0, v1, v2]))) {ws' : va_W} (hws : ws.set q0 (b, .inr (4, [v0, v1, .int v])) = ws') (hdg : decode cc pc = .ok (.putfield 63, 3)) (kk : ∀ (H1 : Heap) (locs1 : List Loc), wd x A H0 ws' H1 locs1 → W p l e R s m args below meth c H1 locs1 cells slots Q (F0 m (pc + 3) ls rest)) : W p l e R s m args below meth c H locs cells slots Q (F0 m pc ls (.int v :: .ref b :: rest)) := by
  subst hws
  exact va_put (D := (x.1, x.2.1)) (ci := 4) (v := .int v) (ty := .int) (C := R_AL) (T := F_AL) (N := 3) S.1 S.2.1 S.2.2.2.2 i_AL t_AL t_AL_ok n_AL S.2.2.2.1 hK hw.1 hw.2.1 hw.2.2 q0 he rfl 2 (by decide) (S.2.2.2.2 _ k_387) (fun z h9 => u_same (S.2.2.2.2 _ k_388) z h9) rfl (by decide +kernel) rfl rfl (Nat.le_of_ble_eq_true rfl) hdg (fun H1 locs1 h1 h2 h3 => kk H1 locs1 ⟨h1, h2, h3⟩)
theorem al_getd (S : CallFix p m c cc nL s args lw_tg "java/util/ArrayList") (hK : GK x s) (hw : wd x A H0 ws H locs) (q0 : Nat) {v v1 v2 : Value} (he : ws[q0]? = some (b, .inr (4, [v, v1, v2]))) (hdg : decode cc pc = .ok (.getfield 9, 3)) (kk : W p l e R s m args below meth c H locs cells slots Q (F0 m (pc + 3) ls (v :: rest))) : W p l e R s m args below meth c H locs cells slots Q (F0 m pc ls (.ref b :: rest)) :=
  w_get S hK hw q0 he rfl i_AL 0 (by decide) k_384 rfl hdg kk
theorem al_gets (S : CallFix p m c cc nL s args lw_tg "java/util/ArrayList") (hK : GK x s) (hw : wd x A H0 ws H locs) (q0 : Nat) {v0 v v2 : Value} (he : ws[q0]? = some (b, .inr (4, [v0, v, v2]))) (hdg : decode cc pc = .ok (.getfield 48, 3)) (kk : W p l e R s m args below meth c H locs cells slots Q (F0 m (pc + 3) ls (v :: rest))) : W p l e R s m args below meth c H locs cells slots Q (F0 m pc ls (.ref b :: rest)) :=
  w_get S hK hw q0 he rfl i_AL 1 (by decide) k_385 rfl hdg kk
end AR
abbrev b_AC_init : ByteArray := prog_25_method_1_code
def y_AC_init : MethodName := ⟨"java/util/AbstractCollection", "<init>", "()V"⟩
theorem yd_AC_init : y_AC_init.cls ≠ "java/lang/invoke/MethodHandle" ∧ y_AC_init.cls ≠ "java/lang/invoke/VarHandle" ∧ (parseMethodDescriptor y_AC_init.desc).map (fun d => d.parameters.length) = some 0 := by decide +kernel
theorem d_AC_init_0 : decode b_AC_init 0 = .ok (.aload_n 0, 1) := by decide +kernel
theorem d_AC_init_1 : decode b_AC_init 1 = .ok (.invokespecial 1, 3) := by decide +kernel
theorem d_AC_init_4 : decode b_AC_init 4 = .ok (.return_, 1) := by decide +kernel
abbrev b_AB_init : ByteArray := prog_26_method_1_code
def y_AB_init : MethodName := ⟨"java/util/AbstractList", "<init>", "()V"⟩
theorem yd_AB_init : y_AB_init.cls ≠ "java/lang/invoke/MethodHandle" ∧ y_AB_init.cls ≠ "java/lang/invoke/VarHandle" ∧ (parseMethodDescriptor y_AB_init.desc).map (fun d => d.parameters.length) = some 0 := by decide +kernel
theorem d_AB_init_0 : decode b_AB_init 0 = .ok (.aload_n 0, 1) := by decide +kernel
theorem d_AB_init_1 : decode b_AB_init 1 = .ok (.invokespecial 1, 3) := by decide +kernel
theorem d_AB_init_4 : decode b_AB_init 4 = .ok (.aload_n 0, 1) := by decide +kernel
theorem d_AB_init_5 : decode b_AB_init 5 = .ok (.iconst 0, 1) := by decide +kernel
theorem d_AB_init_6 : decode b_AB_init 6 = .ok (.putfield 7, 3) := by decide +kernel
theorem d_AB_init_9 : decode b_AB_init 9 = .ok (.return_, 1) := by decide +kernel
abbrev b_AL_init : ByteArray := prog_27_method_2_code
def y_AL_init : MethodName := ⟨"java/util/ArrayList", "<init>", "()V"⟩
theorem yd_AL_init : y_AL_init.cls ≠ "java/lang/invoke/MethodHandle" ∧ y_AL_init.cls ≠ "java/lang/invoke/VarHandle" ∧ (parseMethodDescriptor y_AL_init.desc).map (fun d => d.parameters.length) = some 0 := by decide +kernel
theorem d_AL_init_0 : decode b_AL_init 0 = .ok (.aload_n 0, 1) := by decide +kernel
theorem d_AL_init_1 : decode b_AL_init 1 = .ok (.invokespecial 1, 3) := by decide +kernel
theorem d_AL_init_4 : decode b_AL_init 4 = .ok (.aload_n 0, 1) := by decide +kernel
theorem d_AL_init_5 : decode b_AL_init 5 = .ok (.getstatic 39, 3) := by decide +kernel
theorem d_AL_init_8 : decode b_AL_init 8 = .ok (.putfield 9, 3) := by decide +kernel
theorem d_AL_init_11 : decode b_AL_init 11 = .ok (.return_, 1) := by decide +kernel
abbrev b_AL_size : ByteArray := prog_27_method_8_code
def y_AL_size : MethodName := ⟨"java/util/ArrayList", "size", "()I"⟩
theorem yd_AL_size : y_AL_size.cls ≠ "java/lang/invoke/MethodHandle" ∧ y_AL_size.cls ≠ "java/lang/invoke/VarHandle" ∧ (parseMethodDescriptor y_AL_size.desc).map (fun d => d.parameters.length) = some 0 := by decide +kernel
theorem d_AL_size_0 : decode b_AL_size 0 = .ok (.aload_n 0, 1) := by decide +kernel
theorem d_AL_size_1 : decode b_AL_size 1 = .ok (.getfield 48, 3) := by decide +kernel
theorem d_AL_size_4 : decode b_AL_size 4 = .ok (.ireturn, 1) := by decide +kernel
abbrev b_AL_ed : ByteArray := prog_27_method_18_code
def y_AL_ed : MethodName := ⟨"java/util/ArrayList", "elementData", "(I)Ljava/lang/Object;"⟩
theorem yd_AL_ed : y_AL_ed.cls ≠ "java/lang/invoke/MethodHandle" ∧ y_AL_ed.cls ≠ "java/lang/invoke/VarHandle" ∧ (parseMethodDescriptor y_AL_ed.desc).map (fun d => d.parameters.length) = some 1 := by decide +kernel
theorem d_AL_ed_0 : decode b_AL_ed 0 = .ok (.aload_n 0, 1) := by decide +kernel
theorem d_AL_ed_1 : decode b_AL_ed 1 = .ok (.getfield 9, 3) := by decide +kernel
theorem d_AL_ed_4 : decode b_AL_ed 4 = .ok (.iload_n 1, 1) := by decide +kernel
theorem d_AL_ed_5 : decode b_AL_ed 5 = .ok (.aaload, 1) := by decide +kernel
theorem d_AL_ed_6 : decode b_AL_ed 6 = .ok (.areturn, 1) := by decide +kernel
abbrev b_AL_get : ByteArray := prog_27_method_20_code
def y_AL_get : MethodName := ⟨"java/util/ArrayList", "get", "(I)Ljava/lang/Object;"⟩
theorem yd_AL_get : y_AL_get.cls ≠ "java/lang/invoke/MethodHandle" ∧ y_AL_get.cls ≠ "java/lang/invoke/VarHandle" ∧ (parseMethodDescriptor y_AL_get.desc).map (fun d => d.parameters.length) = some 1 := by decide +kernel
theorem d_AL_get_0 : decode b_AL_get 0 = .ok (.iload_n 1, 1) := by decide +kernel
theorem d_AL_get_1 : decode b_AL_get 1 = .ok (.aload_n 0, 1) := by decide +kernel
theorem d_AL_get_2 : decode b_AL_get 2 = .ok (.getfield 48, 3) := by decide +kernel
theorem d_AL_get_5 : decode b_AL_get 5 = .ok (.invokestatic 118, 3) := by decide +kernel
theorem d_AL_get_8 : decode b_AL_get 8 = .ok (.pop, 1) := by decide +kernel
theorem d_AL_get_9 : decode b_AL_get 9 = .ok (.aload_n 0, 1) := by decide +kernel
theorem d_AL_get_10 : decode b_AL_get 10 = .ok (.iload_n 1, 1) := by decide +kernel
theorem d_AL_get_11 : decode b_AL_get 11 = .ok (.invokevirtual 123, 3) := by decide +kernel
theorem d_AL_get_14 : decode b_AL_get 14 = .ok (.areturn, 1) := by decide +kernel
abbrev b_J_ochk : ByteArray := prog_31_method_17_code
def y_J_ochk : MethodName := ⟨"java/util/Objects", "checkIndex", "(II)I"⟩
theorem yd_J_ochk : y_J_ochk.cls ≠ "java/lang/invoke/MethodHandle" ∧ y_J_ochk.cls ≠ "java/lang/invoke/VarHandle" ∧ (parseMethodDescriptor y_J_ochk.desc).map (fun d => d.parameters.length) = some 2 := by decide +kernel
theorem d_J_ochk_0 : decode b_J_ochk 0 = .ok (.iload_n 0, 1) := by decide +kernel
theorem d_J_ochk_1 : decode b_J_ochk 1 = .ok (.iload_n 1, 1) := by decide +kernel
theorem d_J_ochk_2 : decode b_J_ochk 2 = .ok (.aconst_null, 1) := by decide +kernel
theorem d_J_ochk_3 : decode b_J_ochk 3 = .ok (.invokestatic 105, 3) := by decide +kernel
theorem d_J_ochk_6 : decode b_J_ochk 6 = .ok (.ireturn, 1) := by decide +kernel
theorem c_AC_init {x : GX} {g : GE} {b : Nat} {ex : va_W} {a : Nat → Nat} (l : Launch) (fs : List Value) (sz : Nat) : Met l y_AC_init (wM y_AC_init b_AC_init 1 none) (rmN 1 0 0) (PreE x g (ncl 4 b fs) ex [.ref b] a () sz) (QfV x (ncl 4 b fs) ex a (va_A (ncl 4 b fs a () ++ ex) sz) (fun _ => True)) 0 0 (va_A (ncl 4 b fs a () ++ ex) sz) := by
  refine w_enterE (by decide +kernel) (Nat.le_of_ble_eq_true rfl) (fun p e s m args below meth c S hr hlk hnm hK hE hA hw ls hl => ?_)
  have hl : lv_has ls 1 [(0, .ref b)] := hl
  refine lv_aload_n S.1 S.2.1 d_AC_init_0 rfl (lv_at hl 0 rfl) ?_
  refine w_obj S hl.1 k_381 (Nat.le_of_ble_eq_true rfl) (Nat.le_of_ble_eq_true rfl) d_AC_init_1 ?_
  exact w_vretF S hr hlk hw trivial d_AC_init_4
theorem c_AB_init {x : GX} {g : GE} {b : Nat} {ex : va_W} {a : Nat → Nat} (l : Launch) (sz : Nat) : Met l y_AB_init (wM y_AB_init b_AB_init 1 none) (rmN 2 0 0) (PreE x g (ncl 4 b [.null, .int 0, .int 0]) ex [.ref b] a () sz) (QfV x (ncl 4 b [.null, .int 0, .int 0]) ex a (va_A (ncl 4 b [.null, .int 0, .int 0] a () ++ ex) sz) (fun _ => True)) 0 0 (va_A (ncl 4 b [.null, .int 0, .int 0] a () ++ ex) sz) := by
  refine w_enterE (by decide +kernel) (Nat.le_of_ble_eq_true rfl) (fun p e s m args below meth c S hr hlk hnm hK hE hA hw ls hl => ?_)
  have hl : lv_has ls 1 [(0, .ref b)] := hl
  refine lv_aload_n S.1 S.2.1 d_AB_init_0 rfl (lv_at hl 0 rfl) ?_
  refine w_cvF hA hw (w_riE (rest := []) S hK hE hA hw (c_AC_init l _ _) (w_cb (fr := 0) (lv := 0) S.2.2.2.2 k_380 k_378 k_15 yd_AC_init rfl rfl ⟨Nat.le_of_ble_eq_true rfl, Nat.le_of_ble_eq_true rfl⟩) rfl k_379 rfl hl.1 rfl (Nat.le_of_ble_eq_true rfl) d_AB_init_1 ⟨Nat.le_refl _, Nat.le_refl _⟩) (fun u H locs h hw => ?_)
  refine lv_aload_n S.1 S.2.1 d_AB_init_4 rfl (lv_at hl 0 rfl) ?_
  refine lv_iconst (v := 0) S.1 S.2.1 d_AB_init_5 (by decide) ?_
  refine w_put S hK hw 0 rfl rfl i_AL t_AL t_AL_ok n_AL 2 (by decide) k_386 rfl rfl rfl (Nat.le_of_ble_eq_true rfl) rfl d_AB_init_6 (fun H locs hw => ?_)
  exact w_vretF (u := ()) (cl := ncl 4 b [.null, .int 0, .int 0]) S hr hlk hw trivial d_AB_init_9
theorem c_AL_init {x : GX} {g : GE} {b : Nat} {ex : va_W} {a : Nat → Nat} (l : Launch) (sz : Nat) : Met l y_AL_init (wM y_AL_init b_AL_init 1 none) (rmN 3 0 0) (PreE x g (ncl 4 b [.null, .int 0, .int 0]) ex [.ref b] a () sz) (QfV x (alc x g b) ex a (va_A (ncl 4 b [.null, .int 0, .int 0] a () ++ ex) sz) (fun z => z = (none, 0))) 0 0 (va_A (ncl 4 b [.null, .int 0, .int 0] a () ++ ex) sz) := by
  refine w_enterE (by decide +kernel) (Nat.le_of_ble_eq_true rfl) (fun p e s m args below meth c S hr hlk hnm hK hE hA hw ls hl => ?_)
  have hl : lv_has ls 1 [(0, .ref b)] := hl
  refine lv_aload_n S.1 S.2.1 d_AL_init_0 rfl (lv_at hl 0 rfl) ?_
  refine w_cvF hA hw (w_riE (rest := []) S hK hE hA hw (c_AB_init l _) (w_cb (fr := 0) (lv := 0) S.2.2.2.2 k_377 k_375 k_16 yd_AB_init rfl rfl ⟨Nat.le_of_ble_eq_true rfl, Nat.le_of_ble_eq_true rfl⟩) rfl k_376 rfl hl.1 rfl (Nat.le_of_ble_eq_true rfl) d_AL_init_1 ⟨Nat.le_refl _, Nat.le_refl _⟩) (fun u H locs h hw => ?_)
  refine lv_aload_n S.1 S.2.1 d_AL_init_4 rfl (lv_at hl 0 rfl) ?_
  refine va_gets S.1 S.2.1 hE.2.2.2.1.1 hw.2.2 S.2.2.2.1 (S.2.2.2.2 _ k_382) (fun _ h9 => h9) d_AL_init_5 ?_
  refine w_put S hK hw 0 rfl rfl i_AL t_AL t_AL_ok n_AL 0 (by decide) k_384 rfl rfl rfl (Nat.le_of_ble_eq_true rfl) rfl d_AL_init_8 (fun H locs hw => ?_)
  exact w_vretF (u := ((none, 0) : ALS)) (cl := alc x g b) S hr hlk hw rfl d_AL_init_11
def alk (z : ALS) : Nat := match z.1 with
  | none => 0
  | some w => w.2.2.2
theorem c_AL_size {x : GX} {g : GE} {b : Nat} {ex : va_W} {a : Nat → Nat} (l : Launch) (z : ALS) (sz : Nat) : Met l y_AL_size (wM y_AL_size b_AL_size 1 (some .int)) (rmN 0 0 0) (PreE x g (alc x g b) ex [.ref b] a z sz) (QfI x (alc x g b) ex a (va_A (alc x g b a z ++ ex) sz) (fun v z' => v = nI (alk z) ∧ z' = z)) 0 0 (va_A (alc x g b a z ++ ex) sz) := by
  refine w_enterE (by decide +kernel) (Nat.le_of_ble_eq_true rfl) (fun p e s m args below meth c S hr hlk hnm hK hE hA hw ls hl => ?_)
  have hl : lv_has ls 1 [(0, .ref b)] := hl
  refine lv_aload_n S.1 S.2.1 d_AL_size_0 rfl (lv_at hl 0 rfl) ?_
  obtain ⟨_ | ⟨q, n, f, k⟩, mc⟩ := z
  · refine al_gets S hK hw 0 rfl d_AL_size_1 ?_
    exact w_iretF S hr hlk hw ⟨rfl, rfl⟩ d_AL_size_4
  · refine al_gets S hK hw 0 rfl d_AL_size_1 ?_
    exact w_iretF S hr hlk hw ⟨rfl, rfl⟩ d_AL_size_4
/-- an answer that is a cell, told by 'r' -/
def QfR {St : Type} (x : GX) (cl : (Nat → Nat) → St → va_W) (ex : va_W) (a : Nat → Nat) (A : Nat → Prop) (Qc : Nat → St → Prop) : Array Value → State → Outcome → State → Prop := va_Qr (S := Nat × St) (fun u => Qc u.1 u.2) (fun u r t => r = u.1 ∧ atF x cl ex a A u.2 t) A
section RR2
variable {p : Program} {l : Launch} {e : Env} {R : Room} {s : State} {m : MethodId} {args : Array Value} {below : List Frame} {meth : Method} {c : Code} {H H0 : Heap} {locs : List Loc} {cells slots : Nat} {Q : State → Prop}
variable {cc : ByteArray} {nL pc : Nat} {ls : Array Slot} {rest st0 : List Value} {own : String} {x : GX} {g : GE} {A : Nat → Prop} {St : Type} {cl : (Nat → Nat) → St → va_W} {ex : va_W} {a : Nat → Nat} {u : St} {mc ms : Nat}
theorem w_rretF (S : CallFix p m c cc nL s args lw_tg own) {n : String} (hr : meth.sig.returnType = some (.object n)) (hlk : meth.locks = false) {Qc : Nat → St → Prop} {r : Nat} (hw : wd x A s.heap (cl a u ++ ex) H locs) (h : Qc r u) (hdg : decode cc pc = .ok (.areturn, 1)) :
    W p l e R s m args below meth c H locs cells slots (MQ below (QfR x cl ex a A Qc) args s cells slots A) (F0 m pc ls [.ref r]) :=
  W.aret (v := .ref r) S.1 S.2.1 hr (Or.inl ⟨n, rfl⟩) (Or.inr ⟨r, rfl⟩) (fun t ht hW => ⟨⟨(r, u), r, rfl, h, rfl, by rw [ht]; exact hw.1, hw.2.1⟩, hw.2.2.F ht⟩) hw.2.2.2.2 hdg hlk
theorem w_crF (hA : ∀ q, H0.size ≤ q → A q) (hw : wd x A H0 (cl a u ++ ex) H locs) {Qc : Nat → St → Prop} {ar : Array Value}
    (hr : va_Run p l e R s m args below meth c H locs cells slots mc ms (F0 m pc ls st0) rest (QfR x cl ex a (va_A (cl a u ++ ex) H.size) Qc ar) (va_A (cl a u ++ ex) H.size))
    (kk : ∀ (r : Nat) (u : St) (H : Heap) (locs : List Loc), Qc r u → wd x A H0 (cl a u ++ ex) H locs → W p l e R s m args below meth c H locs (cells + mc) (slots + ms) Q (F0 m (pc + 3) ls (.ref r :: rest))) : W p l e R s m args below meth c H locs cells slots Q (F0 m pc ls st0) := by
  have hF := wd_free hA hw
  refine va_callr hr hw.2.2 (fun q _ h => hF q h) hF (fun u1 rb t H1 locs1 ht hvm hq hB hz hk hS => ?_)
  obtain ⟨rfl, hB1, hB2⟩ := hB
  refine kk u1.1 u1.2 H1 locs1 hq ⟨?_, ?_, hS⟩
  · rw [← ht]; exact hB1
  · exact hB2.weaken (fun _ _ _ h => hF _ h)
end RR2
theorem c_AL_ed {x : GX} {g : GE} {b : Nat} {ex : va_W} {a : Nat → Nat} (l : Launch) (q n k i : Nat) (f : Nat → Option Nat) (mc : Int32) (r : Nat) (sz : Nat) (hi : i < n) (hn : n < 2 ^ 31) (hf : f i = some r) : Met l y_AL_ed (wM y_AL_ed b_AL_ed 2 (some (.object "java/lang/Object"))) (rmN 0 0 0) (PreE x g (alc x g b) ex [.ref b, .int (nI i)] a (some (q, n, f, k), mc) sz) (QfR x (alc x g b) ex a (va_A (alc x g b a (some (q, n, f, k), mc) ++ ex) sz) (fun v z => v = r ∧ z = (some (q, n, f, k), mc))) 0 0 (va_A (alc x g b a (some (q, n, f, k), mc) ++ ex) sz) := by
  refine w_enterE (by decide +kernel) (Nat.le_of_ble_eq_true rfl) (fun p e s m args below meth c S hr hlk hnm hK hE hA hw ls hl => ?_)
  have hl : lv_has ls 2 [(0, .ref b), (1, .int (nI i))] := hl
  refine lv_aload_n S.1 S.2.1 d_AL_ed_0 rfl (lv_at hl 0 rfl) ?_
  refine al_getd S hK hw 0 rfl d_AL_ed_1 ?_
  refine lv_iload_n S.1 S.2.1 d_AL_ed_4 rfl (lv_at hl 1 rfl) ?_
  refine va_aldq S.1 S.2.1 hK hw.1 1 5 rfl rfl (vp_in_nI hi hn) d_AL_ed_5 ?_
  rw [nI_clamp (by omega), hf]
  exact w_rretF S hr hlk hw ⟨rfl, rfl⟩ d_AL_ed_6
theorem c_J_ochk (l : Launch) (x0 x1 : Int32) (h0 : ¬ x0 < 0) (h1 : x0 < x1) : Met l y_J_ochk (wM y_J_ochk b_J_ochk 2 (some .int)) (rmN 1 0 0) (PreN [.int x0, .int x1]) (QcN (fun v => v = x0)) 0 0 (fun _ => False) := by
  refine w_enterNF (by decide +kernel) (Nat.le_of_ble_eq_true rfl) (fun p e s m args below meth c S hr hlk ls hl => ?_)
  have hl : lv_has ls 2 [(0, .int x0), (1, .int x1)] := hl
  refine lv_iload_n S.1 S.2.1 d_J_ochk_0 rfl (lv_at hl 0 rfl) ?_
  refine lv_iload_n S.1 S.2.1 d_J_ochk_1 rfl (lv_at hl 1 rfl) ?_
  refine lv_null S.1 S.2.1 d_J_ochk_2 ?_
  refine w_cn (w_rs (rest := []) S (c_J_pchk l x0 x1 none h0 h1) (w_cb (fr := 0) (lv := 0) S.2.2.2.2 k_361 k_575 k_10 yd_J_pchk rfl rfl ⟨Nat.le_of_ble_eq_true rfl, Nat.le_of_ble_eq_true rfl⟩) k_360 rfl hl.1 rfl (Nat.le_of_ble_eq_true rfl) d_J_ochk_3 ⟨Nat.le_refl _, Nat.le_refl _⟩) (fun v hv => ?_)
  exact w_iretN S hr hlk hv d_J_ochk_6
theorem c_AL_get {x : GX} {g : GE} {b : Nat} {ex : va_W} {a : Nat → Nat} (l : Launch) (q n k i : Nat) (f : Nat → Option Nat) (mc : Int32) (r : Nat) (sz : Nat) (hi : i < k) (hk : k ≤ n) (hn : n < 2 ^ 31) (hf : f i = some r) : Met l y_AL_get (wM y_AL_get b_AL_get 2 (some (.object "java/lang/Object"))) (rmN 2 0 0) (PreE x g (alc x g b) ex [.ref b, .int (nI i)] a (some (q, n, f, k), mc) sz) (QfR x (alc x g b) ex a (va_A (alc x g b a (some (q, n, f, k), mc) ++ ex) sz) (fun v z => v = r ∧ z = (some (q, n, f, k), mc))) 0 0 (va_A (alc x g b a (some (q, n, f, k), mc) ++ ex) sz) := by
  refine w_enterE (by decide +kernel) (Nat.le_of_ble_eq_true rfl) (fun p e s m args below meth c S hr hlk hnm hK hE hA hw ls hl => ?_)
  have hl : lv_has ls 2 [(0, .ref b), (1, .int (nI i))] := hl
  refine lv_iload_n S.1 S.2.1 d_AL_get_0 rfl (lv_at hl 1 rfl) ?_
  refine lv_aload_n S.1 S.2.1 d_AL_get_1 rfl (lv_at hl 0 rfl) ?_
  refine al_gets S hK hw 0 rfl d_AL_get_2 ?_
  refine w_cn (w_rs (rest := []) S (c_J_ochk l (nI i) (nI k) (nI_pos (by omega)) (nI_lt hi (by omega))) (w_cb (fr := 0) (lv := 0) S.2.2.2.2 k_574 k_572 k_25 yd_J_ochk rfl rfl ⟨Nat.le_of_ble_eq_true rfl, Nat.le_of_ble_eq_true rfl⟩) k_573 rfl hl.1 rfl (Nat.le_of_ble_eq_true rfl) d_AL_get_5 ⟨Nat.le_refl _, Nat.le_refl _⟩) (fun v hv => ?_)
  refine lv_pop S.1 S.2.1 d_AL_get_8 rfl ?_
  refine lv_aload_n S.1 S.2.1 d_AL_get_9 rfl (lv_at hl 0 rfl) ?_
  refine lv_iload_n S.1 S.2.1 d_AL_get_10 rfl (lv_at hl 1 rfl) ?_
  refine w_crF hA hw (w_rvE (rest := []) S hK hE hA hw (c_AL_ed l q n k i f mc r _ (by omega) hn hf) (ci := 4) (q0 := 0) rfl rfl (w_cb (fr := 0) (lv := 0) S.2.2.2.2 k_579 k_576 k_17 yd_AL_ed rfl rfl ⟨Nat.le_of_ble_eq_true rfl, Nat.le_of_ble_eq_true rfl⟩) k_577 k_578 rfl hl.1 rfl (Nat.le_of_ble_eq_true rfl) d_AL_get_11 ⟨Nat.le_refl _, Nat.le_refl _⟩) (fun r z H locs h hw => ?_)
  exact w_rretF S hr hlk hw h d_AL_get_14
