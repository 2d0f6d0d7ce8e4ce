theorem k_515 : (Cond.methodLink "java/util/ArrayList" 131 ⟨"java/util/ArrayList", "add", "(Ljava/lang/Object;[Ljava/lang/Object;I)V"⟩) ∈ lw_tg := kw 515 (by decide +kernel) (by decide +kernel)
theorem k_517 : (Cond.instanceMethod ⟨"java/util/ArrayList", "add", "(Ljava/lang/Object;[Ljava/lang/Object;I)V"⟩) ∈ lw_tg := kw 517 (by decide +kernel) (by decide +kernel)
theorem k_518 : (Cond.code ⟨"java/util/ArrayList", "add", "(Ljava/lang/Object;[Ljava/lang/Object;I)V"⟩ prog_27_method_24_code 4 (Option.none : Option Jvm.ClassFile.FieldType)) ∈ lw_tg := kw 518 (by decide +kernel) (by decide +kernel)
theorem k_519 : (Cond.methodLink "java/util/ArrayList" 129 ⟨"java/util/ArrayList", "grow", "()[Ljava/lang/Object;"⟩) ∈ lw_tg := kw 519 (by decide +kernel) (by decide +kernel)
theorem k_521 : (Cond.instanceMethod ⟨"java/util/ArrayList", "grow", "()[Ljava/lang/Object;"⟩) ∈ lw_tg := kw 521 (by decide +kernel) (by decide +kernel)
theorem k_522 : (Cond.code ⟨"java/util/ArrayList", "grow", "()[Ljava/lang/Object;"⟩ prog_27_method_7_code 1 (Option.some (.array (.object "java/lang/Object")))) ∈ lw_tg := kw 522 (by decide +kernel) (by decide +kernel)
theorem k_523 : (Cond.methodLink "java/util/ArrayList" 69 ⟨"java/util/ArrayList", "grow", "(I)[Ljava/lang/Object;"⟩) ∈ lw_tg := kw 523 (by decide +kernel) (by decide +kernel)
theorem k_525 : (Cond.instanceMethod ⟨"java/util/ArrayList", "grow", "(I)[Ljava/lang/Object;"⟩) ∈ lw_tg := kw 525 (by decide +kernel) (by decide +kernel)
theorem k_526 : (Cond.code ⟨"java/util/ArrayList", "grow", "(I)[Ljava/lang/Object;"⟩ prog_27_method_6_code 4 (Option.some (.array (.object "java/lang/Object")))) ∈ lw_tg := kw 526 (by decide +kernel) (by decide +kernel)
theorem k_527 : (Cond.methodLink "java/util/ArrayList" 73 ⟨"jdk/internal/util/ArraysSupport", "newLength", "(III)I"⟩) ∈ lw_tg := kw 527 (by decide +kernel) (by decide +kernel)
theorem k_528 : (Cond.methodLink "java/util/ArrayList" 66 ⟨"java/util/Arrays", "copyOf", "([Ljava/lang/Object;I)[Ljava/lang/Object;"⟩) ∈ lw_tg := kw 528 (by decide +kernel) (by decide +kernel)
theorem k_529 : (Cond.static ⟨"java/util/Arrays", "copyOf", "([Ljava/lang/Object;I)[Ljava/lang/Object;"⟩) ∈ lw_tg := kw 529 (by decide +kernel) (by decide +kernel)
theorem k_530 : (Cond.code ⟨"java/util/Arrays", "copyOf", "([Ljava/lang/Object;I)[Ljava/lang/Object;"⟩ prog_28_method_119_code 2 (Option.some (.array (.object "java/lang/Object")))) ∈ lw_tg := kw 530 (by decide +kernel) (by decide +kernel)
theorem k_531 : (Cond.methodLink "java/util/Arrays" 86 ⟨"java/lang/Object", "getClass", "()Ljava/lang/Class;"⟩) ∈ lw_tg := kw 531 (by decide +kernel) (by decide +kernel)
theorem k_532 : (Cond.instanceMethod ⟨"java/lang/Object", "getClass", "()Ljava/lang/Class;"⟩) ∈ lw_tg := kw 532 (by decide +kernel) (by decide +kernel)
theorem k_545 : (Cond.native ⟨"java/lang/Object", "getClass", "()Ljava/lang/Class;"⟩) ∈ lw_tg := kw 545 (by decide +kernel) (by decide +kernel)
theorem k_546 : (Cond.methodLink "java/util/Arrays" 300 ⟨"java/util/Arrays", "copyOf", "([Ljava/lang/Object;ILjava/lang/Class;)[Ljava/lang/Object;"⟩) ∈ lw_tg := kw 546 (by decide +kernel) (by decide +kernel)
theorem k_547 : (Cond.static ⟨"java/util/Arrays", "copyOf", "([Ljava/lang/Object;ILjava/lang/Class;)[Ljava/lang/Object;"⟩) ∈ lw_tg := kw 547 (by decide +kernel) (by decide +kernel)
theorem k_548 : (Cond.code ⟨"java/util/Arrays", "copyOf", "([Ljava/lang/Object;ILjava/lang/Class;)[Ljava/lang/Object;"⟩ prog_28_method_120_code 4 (Option.some (.array (.object "java/lang/Object")))) ∈ lw_tg := kw 548 (by decide +kernel) (by decide +kernel)
theorem k_549 : (Cond.classLink "java/util/Arrays" 110 "[Ljava/lang/Object;") ∈ lw_tg := kw 549 (by decide +kernel) (by decide +kernel)
theorem k_551 : (Cond.classLink "java/util/Arrays" 2 "java/lang/Object") ∈ lw_tg := kw 551 (by decide +kernel) (by decide +kernel)
theorem k_552 : (Cond.methodLink "java/util/ArrayList" 79 ⟨"java/lang/Math", "max", "(II)I"⟩) ∈ lw_tg := kw 552 (by decide +kernel) (by decide +kernel)
theorem k_553 : (Cond.classLink "java/util/ArrayList" 7 "java/lang/Object") ∈ lw_tg := kw 553 (by decide +kernel) (by decide +kernel)
theorem k_1167 : (Cond.selects "[Ljava/lang/Object;" ⟨"java/lang/Object", "getClass", "()Ljava/lang/Class;"⟩ ⟨"java/lang/Object", "getClass", "()Ljava/lang/Class;"⟩) ∈ lw_tg := kw 1167 (by decide +kernel) (by decide +kernel)
theorem s_11 : (Cond.selects "java/util/ArrayList" ⟨"java/util/ArrayList", "add", "(Ljava/lang/Object;[Ljava/lang/Object;I)V"⟩ ⟨"java/util/ArrayList", "add", "(Ljava/lang/Object;[Ljava/lang/Object;I)V"⟩) ∈ lw_tg := ks 11 (by decide +kernel) (by decide +kernel)
theorem s_12 : (Cond.selects "java/util/ArrayList" ⟨"java/util/ArrayList", "grow", "()[Ljava/lang/Object;"⟩ ⟨"java/util/ArrayList", "grow", "()[Ljava/lang/Object;"⟩) ∈ lw_tg := ks 12 (by decide +kernel) (by decide +kernel)
theorem s_13 : (Cond.selects "java/util/ArrayList" ⟨"java/util/ArrayList", "grow", "(I)[Ljava/lang/Object;"⟩ ⟨"java/util/ArrayList", "grow", "(I)[Ljava/lang/Object;"⟩) ∈ lw_tg := ks 13 (by decide +kernel) (by decide +kernel)
/-! ArrayList.add, with what makes room -/
abbrev b_J_cop3 : ByteArray := prog_28_method_120_code
def y_J_cop3 : MethodName := ⟨"java/util/Arrays", "copyOf", "([Ljava/lang/Object;ILjava/lang/Class;)[Ljava/lang/Object;"⟩
theorem yd_J_cop3 : y_J_cop3.cls ≠ "java/lang/invoke/MethodHandle" ∧ y_J_cop3.cls ≠ "java/lang/invoke/VarHandle" ∧ (parseMethodDescriptor y_J_cop3.desc).map (fun d => d.parameters.length) = some 3 := by decide +kernel
theorem d_J_cop3_0 : decode b_J_cop3 0 = .ok (.aload_n 2, 1) := by decide +kernel
theorem d_J_cop3_1 : decode b_J_cop3 1 = .ok (.ldc 110, 2) := by decide +kernel
theorem d_J_cop3_3 : decode b_J_cop3 3 = .ok (.if_acmp .ne 10, 3) := by decide +kernel
theorem d_J_cop3_6 : decode b_J_cop3 6 = .ok (.iload_n 1, 1) := by decide +kernel
theorem d_J_cop3_7 : decode b_J_cop3 7 = .ok (.anewarray 2, 3) := by decide +kernel
theorem d_J_cop3_10 : decode b_J_cop3 10 = .ok (.goto 14, 3) := by decide +kernel
theorem d_J_cop3_13 : decode b_J_cop3 13 = .ok (.aload_n 2, 1) := by decide +kernel
theorem d_J_cop3_14 : decode b_J_cop3 14 = .ok (.invokevirtual 90, 3) := by decide +kernel
theorem d_J_cop3_17 : decode b_J_cop3 17 = .ok (.iload_n 1, 1) := by decide +kernel
theorem d_J_cop3_18 : decode b_J_cop3 18 = .ok (.invokestatic 95, 3) := by decide +kernel
theorem d_J_cop3_21 : decode b_J_cop3 21 = .ok (.checkcast 110, 3) := by decide +kernel
theorem d_J_cop3_24 : decode b_J_cop3 24 = .ok (.astore_n 3, 1) := by decide +kernel
theorem d_J_cop3_25 : decode b_J_cop3 25 = .ok (.aload_n 0, 1) := by decide +kernel
theorem d_J_cop3_26 : decode b_J_cop3 26 = .ok (.iconst 0, 1) := by decide +kernel
theorem d_J_cop3_27 : decode b_J_cop3 27 = .ok (.aload_n 3, 1) := by decide +kernel
theorem d_J_cop3_28 : decode b_J_cop3 28 = .ok (.iconst 0, 1) := by decide +kernel
theorem d_J_cop3_29 : decode b_J_cop3 29 = .ok (.aload_n 0, 1) := by decide +kernel
theorem d_J_cop3_30 : decode b_J_cop3 30 = .ok (.arraylength, 1) := by decide +kernel
theorem d_J_cop3_31 : decode b_J_cop3 31 = .ok (.iload_n 1, 1) := by decide +kernel
theorem d_J_cop3_32 : decode b_J_cop3 32 = .ok (.invokestatic 304, 3) := by decide +kernel
theorem d_J_cop3_35 : decode b_J_cop3 35 = .ok (.invokestatic 150, 3) := by decide +kernel
theorem d_J_cop3_38 : decode b_J_cop3 38 = .ok (.aload_n 3, 1) := by decide +kernel
theorem d_J_cop3_39 : decode b_J_cop3 39 = .ok (.areturn, 1) := by decide +kernel
abbrev b_J_cop2 : ByteArray := prog_28_method_119_code
def y_J_cop2 : MethodName := ⟨"java/util/Arrays", "copyOf", "([Ljava/lang/Object;I)[Ljava/lang/Object;"⟩
theorem yd_J_cop2 : y_J_cop2.cls ≠ "java/lang/invoke/MethodHandle" ∧ y_J_cop2.cls ≠ "java/lang/invoke/VarHandle" ∧ (parseMethodDescriptor y_J_cop2.desc).map (fun d => d.parameters.length) = some 2 := by decide +kernel
theorem d_J_cop2_0 : decode b_J_cop2 0 = .ok (.aload_n 0, 1) := by decide +kernel
theorem d_J_cop2_1 : decode b_J_cop2 1 = .ok (.iload_n 1, 1) := by decide +kernel
theorem d_J_cop2_2 : decode b_J_cop2 2 = .ok (.aload_n 0, 1) := by decide +kernel
theorem d_J_cop2_3 : decode b_J_cop2 3 = .ok (.invokevirtual 86, 3) := by decide +kernel
theorem d_J_cop2_6 : decode b_J_cop2 6 = .ok (.invokestatic 300, 3) := by decide +kernel
theorem d_J_cop2_9 : decode b_J_cop2 9 = .ok (.areturn, 1) := by decide +kernel
abbrev b_AL_grow1 : ByteArray := prog_27_method_6_code
def y_AL_grow1 : MethodName := ⟨"java/util/ArrayList", "grow", "(I)[Ljava/lang/Object;"⟩
theorem yd_AL_grow1 : y_AL_grow1.cls ≠ "java/lang/invoke/MethodHandle" ∧ y_AL_grow1.cls ≠ "java/lang/invoke/VarHandle" ∧ (parseMethodDescriptor y_AL_grow1.desc).map (fun d => d.parameters.length) = some 1 := by decide +kernel
theorem d_AL_grow1_0 : decode b_AL_grow1 0 = .ok (.aload_n 0, 1) := by decide +kernel
theorem d_AL_grow1_1 : decode b_AL_grow1 1 = .ok (.getfield 9, 3) := by decide +kernel
theorem d_AL_grow1_4 : decode b_AL_grow1 4 = .ok (.arraylength, 1) := by decide +kernel
theorem d_AL_grow1_5 : decode b_AL_grow1 5 = .ok (.istore_n 2, 1) := by decide +kernel
theorem d_AL_grow1_6 : decode b_AL_grow1 6 = .ok (.iload_n 2, 1) := by decide +kernel
theorem d_AL_grow1_7 : decode b_AL_grow1 7 = .ok (.ifCond .gt 13, 3) := by decide +kernel
theorem d_AL_grow1_10 : decode b_AL_grow1 10 = .ok (.aload_n 0, 1) := by decide +kernel
theorem d_AL_grow1_11 : decode b_AL_grow1 11 = .ok (.getfield 9, 3) := by decide +kernel
theorem d_AL_grow1_14 : decode b_AL_grow1 14 = .ok (.getstatic 39, 3) := by decide +kernel
theorem d_AL_grow1_17 : decode b_AL_grow1 17 = .ok (.if_acmp .eq 28, 3) := by decide +kernel
theorem d_AL_grow1_20 : decode b_AL_grow1 20 = .ok (.iload_n 2, 1) := by decide +kernel
theorem d_AL_grow1_21 : decode b_AL_grow1 21 = .ok (.iload_n 1, 1) := by decide +kernel
theorem d_AL_grow1_22 : decode b_AL_grow1 22 = .ok (.iload_n 2, 1) := by decide +kernel
theorem d_AL_grow1_23 : decode b_AL_grow1 23 = .ok (.isub, 1) := by decide +kernel
theorem d_AL_grow1_24 : decode b_AL_grow1 24 = .ok (.iload_n 2, 1) := by decide +kernel
theorem d_AL_grow1_25 : decode b_AL_grow1 25 = .ok (.iconst 1, 1) := by decide +kernel
theorem d_AL_grow1_26 : decode b_AL_grow1 26 = .ok (.ishr, 1) := by decide +kernel
theorem d_AL_grow1_27 : decode b_AL_grow1 27 = .ok (.invokestatic 73, 3) := by decide +kernel
theorem d_AL_grow1_30 : decode b_AL_grow1 30 = .ok (.istore_n 3, 1) := by decide +kernel
theorem d_AL_grow1_31 : decode b_AL_grow1 31 = .ok (.aload_n 0, 1) := by decide +kernel
theorem d_AL_grow1_32 : decode b_AL_grow1 32 = .ok (.aload_n 0, 1) := by decide +kernel
theorem d_AL_grow1_33 : decode b_AL_grow1 33 = .ok (.getfield 9, 3) := by decide +kernel
theorem d_AL_grow1_36 : decode b_AL_grow1 36 = .ok (.iload_n 3, 1) := by decide +kernel
theorem d_AL_grow1_37 : decode b_AL_grow1 37 = .ok (.invokestatic 66, 3) := by decide +kernel
theorem d_AL_grow1_40 : decode b_AL_grow1 40 = .ok (.dup_x1, 1) := by decide +kernel
theorem d_AL_grow1_41 : decode b_AL_grow1 41 = .ok (.putfield 9, 3) := by decide +kernel
theorem d_AL_grow1_44 : decode b_AL_grow1 44 = .ok (.areturn, 1) := by decide +kernel
theorem d_AL_grow1_45 : decode b_AL_grow1 45 = .ok (.aload_n 0, 1) := by decide +kernel
theorem d_AL_grow1_46 : decode b_AL_grow1 46 = .ok (.bipush 10, 2) := by decide +kernel
theorem d_AL_grow1_48 : decode b_AL_grow1 48 = .ok (.iload_n 1, 1) := by decide +kernel
theorem d_AL_grow1_49 : decode b_AL_grow1 49 = .ok (.invokestatic 79, 3) := by decide +kernel
theorem d_AL_grow1_52 : decode b_AL_grow1 52 = .ok (.anewarray 7, 3) := by decide +kernel
theorem d_AL_grow1_55 : decode b_AL_grow1 55 = .ok (.dup_x1, 1) := by decide +kernel
theorem d_AL_grow1_56 : decode b_AL_grow1 56 = .ok (.putfield 9, 3) := by decide +kernel
theorem d_AL_grow1_59 : decode b_AL_grow1 59 = .ok (.areturn, 1) := by decide +kernel
abbrev b_AL_grow0 : ByteArray := prog_27_method_7_code
def y_AL_grow0 : MethodName := ⟨"java/util/ArrayList", "grow", "()[Ljava/lang/Object;"⟩
theorem yd_AL_grow0 : y_AL_grow0.cls ≠ "java/lang/invoke/MethodHandle" ∧ y_AL_grow0.cls ≠ "java/lang/invoke/VarHandle" ∧ (parseMethodDescriptor y_AL_grow0.desc).map (fun d => d.parameters.length) = some 0 := by decide +kernel
theorem d_AL_grow0_0 : decode b_AL_grow0 0 = .ok (.aload_n 0, 1) := by decide +kernel
theorem d_AL_grow0_1 : decode b_AL_grow0 1 = .ok (.aload_n 0, 1) := by decide +kernel
theorem d_AL_grow0_2 : decode b_AL_grow0 2 = .ok (.getfield 48, 3) := by decide +kernel
theorem d_AL_grow0_5 : decode b_AL_grow0 5 = .ok (.iconst 1, 1) := by decide +kernel
theorem d_AL_grow0_6 : decode b_AL_grow0 6 = .ok (.iadd, 1) := by decide +kernel
theorem d_AL_grow0_7 : decode b_AL_grow0 7 = .ok (.invokevirtual 69, 3) := by decide +kernel
theorem d_AL_grow0_10 : decode b_AL_grow0 10 = .ok (.areturn, 1) := by decide +kernel
abbrev b_AL_add3 : ByteArray := prog_27_method_24_code
def y_AL_add3 : MethodName := ⟨"java/util/ArrayList", "add", "(Ljava/lang/Object;[Ljava/lang/Object;I)V"⟩
theorem yd_AL_add3 : y_AL_add3.cls ≠ "java/lang/invoke/MethodHandle" ∧ y_AL_add3.cls ≠ "java/lang/invoke/VarHandle" ∧ (parseMethodDescriptor y_AL_add3.desc).map (fun d => d.parameters.length) = some 3 := by decide +kernel
theorem d_AL_add3_0 : decode b_AL_add3 0 = .ok (.iload_n 3, 1) := by decide +kernel
theorem d_AL_add3_1 : decode b_AL_add3 1 = .ok (.aload_n 2, 1) := by decide +kernel
theorem d_AL_add3_2 : decode b_AL_add3 2 = .ok (.arraylength, 1) := by decide +kernel
theorem d_AL_add3_3 : decode b_AL_add3 3 = .ok (.if_icmp .ne 8, 3) := by decide +kernel
theorem d_AL_add3_6 : decode b_AL_add3 6 = .ok (.aload_n 0, 1) := by decide +kernel
theorem d_AL_add3_7 : decode b_AL_add3 7 = .ok (.invokevirtual 129, 3) := by decide +kernel
theorem d_AL_add3_10 : decode b_AL_add3 10 = .ok (.astore_n 2, 1) := by decide +kernel
theorem d_AL_add3_11 : decode b_AL_add3 11 = .ok (.aload_n 2, 1) := by decide +kernel
theorem d_AL_add3_12 : decode b_AL_add3 12 = .ok (.iload_n 3, 1) := by decide +kernel
theorem d_AL_add3_13 : decode b_AL_add3 13 = .ok (.aload_n 1, 1) := by decide +kernel
theorem d_AL_add3_14 : decode b_AL_add3 14 = .ok (.aastore, 1) := by decide +kernel
theorem d_AL_add3_15 : decode b_AL_add3 15 = .ok (.aload_n 0, 1) := by decide +kernel
theorem d_AL_add3_16 : decode b_AL_add3 16 = .ok (.iload_n 3, 1) := by decide +kernel
theorem d_AL_add3_17 : decode b_AL_add3 17 = .ok (.iconst 1, 1) := by decide +kernel
theorem d_AL_add3_18 : decode b_AL_add3 18 = .ok (.iadd, 1) := by decide +kernel
theorem d_AL_add3_19 : decode b_AL_add3 19 = .ok (.putfield 48, 3) := by decide +kernel
theorem d_AL_add3_22 : decode b_AL_add3 22 = .ok (.return_, 1) := by decide +kernel
abbrev b_AL_add : ByteArray := prog_27_method_25_code
def y_AL_add : MethodName := ⟨"java/util/ArrayList", "add", "(Ljava/lang/Object;)Z"⟩
theorem yd_AL_add : y_AL_add.cls ≠ "java/lang/invoke/MethodHandle" ∧ y_AL_add.cls ≠ "java/lang/invoke/VarHandle" ∧ (parseMethodDescriptor y_AL_add.desc).map (fun d => d.parameters.length) = some 1 := by decide +kernel
theorem d_AL_add_0 : decode b_AL_add 0 = .ok (.aload_n 0, 1) := by decide +kernel
theorem d_AL_add_1 : decode b_AL_add 1 = .ok (.dup, 1) := by decide +kernel
theorem d_AL_add_2 : decode b_AL_add 2 = .ok (.getfield 63, 3) := by decide +kernel
theorem d_AL_add_5 : decode b_AL_add 5 = .ok (.iconst 1, 1) := by decide +kernel
theorem d_AL_add_6 : decode b_AL_add 6 = .ok (.iadd, 1) := by decide +kernel
theorem d_AL_add_7 : decode b_AL_add 7 = .ok (.putfield 63, 3) := by decide +kernel
theorem d_AL_add_10 : decode b_AL_add 10 = .ok (.aload_n 0, 1) := by decide +kernel
theorem d_AL_add_11 : decode b_AL_add 11 = .ok (.aload_n 1, 1) := by decide +kernel
theorem d_AL_add_12 : decode b_AL_add 12 = .ok (.aload_n 0, 1) := by decide +kernel
theorem d_AL_add_13 : decode b_AL_add 13 = .ok (.getfield 9, 3) := by decide +kernel
theorem d_AL_add_16 : decode b_AL_add 16 = .ok (.aload_n 0, 1) := by decide +kernel
theorem d_AL_add_17 : decode b_AL_add 17 = .ok (.getfield 48, 3) := by decide +kernel
theorem d_AL_add_20 : decode b_AL_add 20 = .ok (.invokevirtual 131, 3) := by decide +kernel
theorem d_AL_add_23 : decode b_AL_add 23 = .ok (.iconst 1, 1) := by decide +kernel
theorem d_AL_add_24 : decode b_AL_add 24 = .ok (.ireturn, 1) := by decide +kernel
/-- one array of references to objects -/
def arl (x : GX) (q : Nat) (_ : Nat → Nat) (z : Nat × (Nat → Option Nat)) : va_W := [(q, .inl (x.2.2 5, z.1, refsA z.2))]
/-- the answer: a new array -/
def QcNw (x : GX) (c : ClassId) (ws : va_W) (e : vp_A) (A : Nat → Prop) : Array Value → State → Outcome → State → Prop := va_Qr (fun _ : Unit => True) (fun _ r t => va_P (x.1, x.2.1) classes ((r, .inl (c, e)) :: ws) t.heap ∧ va_D A ((r, .inl (c, e)) :: ws)) A
section HC2
variable {p : Program} {l : Launch} {e : Env} {R : Room} {s : State} {m : MethodId} {args : Array Value} {below : List Frame} {meth : Method} {c : Code} {H H0 : Heap} {locs : List Loc} {cells slots : Nat} {Q : State → Prop}
variable {cc : ByteArray} {nL pc : Nat} {ls : Array Slot} {rest st0 : List Value} {x : GX} {g : GE} {a : Nat → Nat} {A : Nat → Prop} {ex ws : va_W} {own : String} {mc ms : Nat}
theorem w_arrret2 (S : CallFix p m c cc nL s args lw_tg own) {ty : FieldType} (hr : meth.sig.returnType = some (.array ty)) (hlk : meth.locks = false) {cA : ClassId} {e9 : vp_A} {q : Nat} (hw : wd x A s.heap ((q, .inl (cA, e9)) :: ws) H locs) (hdg : decode cc pc = .ok (.areturn, 1)) :
    W p l e R s m args below meth c H locs cells slots (MQ below (QcNw x cA ws e9 A) args s cells slots A) (F0 m pc ls [.ref q]) :=
  W.aret (v := .ref q) S.1 S.2.1 hr (Or.inr ⟨ty, rfl⟩) (Or.inr ⟨q, rfl⟩) (fun t ht hW => ⟨⟨(), q, rfl, trivial, by rw [ht]; exact hw.1, hw.2.1⟩, hw.2.2.F ht⟩) hw.2.2.2.2 hdg hlk
theorem w_cnew2 (hA : ∀ q, H0.size ≤ q → A q) {wc : va_W} (hw : wd x A H0 wc H locs) {cA : ClassId} {e9 : vp_A} {ar : Array Value}
    (hr : va_Run p l e R s m args below meth c H locs cells slots mc ms (F0 m pc ls st0) rest (QcNw x cA ws e9 (va_A wc H.size) ar) (va_A wc H.size))
    (kk : ∀ (q : Nat) (H : Heap) (locs : List Loc), wd x A H0 ((q, .inl (cA, e9)) :: ws) H locs → W p l e R s m args below meth c H locs (cells + mc) (slots + ms) Q (F0 m (pc + 3) ls (.ref q :: rest))) : W p l e R s m args below meth c H locs cells slots Q (F0 m pc ls st0) := by
  have hF := wd_free hA hw
  refine va_callr hr hw.2.2 (fun q _ h => hF q h) hF (fun u1 rb t H1 locs1 ht hvm hq hB hz hk hS => ?_)
  obtain ⟨hB1, hB2⟩ := hB
  refine kk rb H1 locs1 ⟨?_, ?_, hS⟩
  · rw [← ht]; exact hB1
  · exact hB2.weaken (fun _ _ _ h => hF _ h)
end HC2
def grownR (n : Nat) (f : Nat → Option Nat) : Nat → Option Nat := fun j => if j < n then f j else none
set_option maxHeartbeats 4000000 in
theorem c_J_cop3 {x : GX} {g : GE} {ex : va_W} {a : Nat → Nat} {q : Nat} (l : Launch) (N : Nat) (z : Nat × (Nat → Option Nat)) (sz : Nat) (hlt : z.1 < N) (hN : N ≤ 2 ^ 20) (hel : ∀ i, i < z.1 → ∀ y, z.2 i = some y → Prt ex y) : Met l y_J_cop3 (wM y_J_cop3 b_J_cop3 4 (some (.array (.object "java/lang/Object")))) (rmN 2 1 N) (PreE x g (arl x q) ex [.ref q, .int (nI N), .ref (g.2 3)] a z sz) (QcNw x (x.2.2 5) (arl x q a z ++ ex) (N, refsA (grownR z.1 z.2)) (va_A (arl x q a z ++ ex) sz)) 1 N (va_A (arl x q a z ++ ex) sz) := by
  refine w_enterE (by decide +kernel) (Nat.le_of_ble_eq_true rfl) (fun p e s m args below meth c S hr hlk hnm hK hE hA hw ls hl => ?_)
  have hl : lv_has ls 4 [(0, .ref q), (1, .int (nI N)), (2, .ref (g.2 3))] := hl
  refine lv_aload_n S.1 S.2.1 d_J_cop3_0 rfl (lv_at hl 2 rfl) ?_
  refine va_ldcM S.1 S.2.1 S.2.2.2.1 (S.2.2.2.2 _ k_549) hE.2.2.2.2.2.1.1 d_J_cop3_1 ?_
  refine lv_acmp_ne (rx := some (g.2 3)) (ry := some (g.2 3)) (tgt := 13) S.1 S.2.1 d_J_cop3_3 (by decide) (fun q9 => absurd rfl q9) (fun _ => ?_)
  refine lv_iload_n S.1 S.2.1 d_J_cop3_6 rfl (lv_at hl 1 rfl) ?_
  refine w_newq S hK hA hw 5 rfl k_551 hE.2.2.2.2.2.2.2.1.2.2 N rfl (by omega) ⟨by show 0 + 1 ≤ 1; omega, by show 0 + N ≤ N; omega⟩ d_J_cop3_7 (fun r H hw => ?_)
  refine lv_goto (tgt := 24) S.1 S.2.1 d_J_cop3_10 (by decide) ?_
  refine lv_astore_n (lv' := [(3, .ref r), (0, .ref q), (1, .int (nI N)), (2, .ref (g.2 3))]) S.1 S.2.1 d_J_cop3_24 rfl hl (by decide) rfl (fun ls hl => ?_)
  refine lv_aload_n S.1 S.2.1 d_J_cop3_25 rfl (lv_at hl 1 rfl) ?_
  refine lv_iconst (v := 0) S.1 S.2.1 d_J_cop3_26 (by decide) ?_
  refine lv_aload_n S.1 S.2.1 d_J_cop3_27 rfl (lv_at hl 0 rfl) ?_
  refine lv_iconst (v := 0) S.1 S.2.1 d_J_cop3_28 (by decide) ?_
  refine lv_aload_n S.1 S.2.1 d_J_cop3_29 rfl (lv_at hl 1 rfl) ?_
  refine va_alen (v := nI z.1) S.1 S.2.1 hK hw.1 1 5 rfl rfl rfl d_J_cop3_30 ?_
  refine lv_iload_n S.1 S.2.1 d_J_cop3_31 rfl (lv_at hl 2 rfl) ?_
  refine va_mmin S.1 S.2.1 (S.2.2.1.trans hl.1.symm) S.2.2.2.1 (S.2.2.2.2 _ k_316) (S.2.2.2.2 _ k_108) (S.2.2.2.2 _ k_7) (S.2.2.2.2 _ k_109) (Nat.le_of_ble_eq_true rfl) (Nat.le_of_ble_eq_true rfl) (by show 0 + 1 ≤ 1; omega) (by show 0 + N ≤ N; omega) d_J_cop3_32 ?_
  rw [if_neg (nI_nlt (by omega) (by omega))]
  have e0 : (0 : Int32).toNatClampNeg = 0 := sb_cl0
  have e1 : (nI z.1).toNatClampNeg = z.1 := nI_clamp (by omega)
  refine va_copyM S.1 S.2.1 (S.2.2.1.trans hl.1.symm) S.2.2.2.1 (S.2.2.2.2 _ k_317) (S.2.2.2.2 _ k_319) (S.2.2.2.2 _ k_318) (S.2.2.2.2 _ k_14) hK hw.1 hw.2.1 hw.2.2 1 0 5 5 rfl rfl rfl rfl (by decide) (by decide) (nI_pos (by omega)) (by rw [e0, e1]; omega) (by rw [e0, e1]; omega) (fun i hi y hy => by rw [e0, Nat.zero_add] at hy; exact (((hel i (by rw [e1] at hi; exact hi) y hy).app (l := [(r, .inl (x.2.2 5, N, refsA (fun _ => none))), (q, .inl (x.2.2 5, z.1, refsA z.2))])).any hK hE.2.2.2.2.2.2.2 hw).1) (Nat.le_of_ble_eq_true rfl) (Nat.le_of_ble_eq_true rfl) d_J_cop3_35 (fun H locs h1 h2 h3 => ?_)
  have hfx : va_cpy z.2 (fun _ => none) (0 : Int32).toNatClampNeg (0 : Int32).toNatClampNeg (nI z.1).toNatClampNeg = grownR z.1 z.2 := by
    rw [e0, e1]
    funext j
    simp only [va_cpy, grownR, Nat.zero_le, Nat.zero_add, true_and, Nat.sub_zero]
  rw [hfx] at h1 h2
  have hw : wd x (va_A (arl x q a z ++ ex) sz) s.heap ((r, .inl (x.2.2 5, N, refsA (grownR z.1 z.2))) :: (arl x q a z ++ ex)) H locs := ⟨h1, h2, h3⟩
  refine lv_aload_n S.1 S.2.1 d_J_cop3_38 rfl (lv_at hl 0 rfl) ?_
  refine W.widen (k := 1) (n := N) (by omega) (by omega) ?_
  exact w_arrret2 S hr hlk hw d_J_cop3_39
set_option maxHeartbeats 4000000 in
theorem c_J_cop2 {x : GX} {g : GE} {ex : va_W} {a : Nat → Nat} {q : Nat} (l : Launch) (N : Nat) (z : Nat × (Nat → Option Nat)) (sz : Nat) (hlt : z.1 < N) (hN : N ≤ 2 ^ 20) (hel : ∀ i, i < z.1 → ∀ y, z.2 i = some y → Prt ex y) : Met l y_J_cop2 (wM y_J_cop2 b_J_cop2 2 (some (.array (.object "java/lang/Object")))) (rmN 3 1 N) (PreE x g (arl x q) ex [.ref q, .int (nI N)] a z sz) (QcNw x (x.2.2 5) (arl x q a z ++ ex) (N, refsA (grownR z.1 z.2)) (va_A (arl x q a z ++ ex) sz)) 1 N (va_A (arl x q a z ++ ex) sz) := by
  refine w_enterE (by decide +kernel) (Nat.le_of_ble_eq_true rfl) (fun p e s m args below meth c S hr hlk hnm hK hE hA hw ls hl => ?_)
  have hl : lv_has ls 2 [(0, .ref q), (1, .int (nI N))] := hl
  refine lv_aload_n S.1 S.2.1 d_J_cop2_0 rfl (lv_at hl 0 rfl) ?_
  refine lv_iload_n S.1 S.2.1 d_J_cop2_1 rfl (lv_at hl 1 rfl) ?_
  refine lv_aload_n S.1 S.2.1 d_J_cop2_2 rfl (lv_at hl 0 rfl) ?_
  have hrv : ∃ cell : Cell, s.heap[q]? = some cell ∧ cell.vm.isStatics = false ∧ s.vm.findClass "[Ljava/lang/Object;" = some cell.cls := ⟨_, hw.1 0 _ rfl, rfl, va_nmO (hK.2 5 _ rfl).2 (by decide +kernel)⟩
  refine va_getC (C := "[Ljava/lang/Object;") S.1 S.2.1 (S.2.2.1.trans hl.1.symm) S.2.2.2.1 (S.2.2.2.2 _ k_531) (va_Dc.use hE.2.2.2.2.2.1.2) (S.2.2.2.2 _ k_1167) (S.2.2.2.2 _ k_532) (S.2.2.2.2 _ k_545) hE.2.2.2.2.2.1.1 hrv (Nat.le_of_ble_eq_true rfl) (Nat.le_of_ble_eq_true rfl) d_J_cop2_3 ?_
  refine w_cnew2 hA hw (w_rsE (rest := []) S hK hE hA hw (c_J_cop3 l N z _ hlt hN hel) (w_cb (fr := 0) (lv := 0) S.2.2.2.2 k_548 k_546 k_13 yd_J_cop3 rfl rfl ⟨by show 2 + 1 ≤ 3; omega, by show 8 + (4 + 11) + 64 * 2 ≤ 64 * 3; omega⟩) k_547 rfl hl.1 rfl (Nat.le_of_ble_eq_true rfl) d_J_cop2_6 ⟨by show 0 + 1 ≤ 1; omega, by show 0 + N ≤ N; omega⟩) (fun r H locs hw => ?_)
  refine W.widen (k := 1) (n := N) (by omega) (by omega) ?_
  exact w_arrret2 S hr hlk hw d_J_cop2_9
/-- room behind 'grow' -/
def alGrow (z : ALS) : Nat × (Nat → Option Nat) × Nat := match z.1 with
  | none => (10, fun _ => none, 0)
  | some (_, n, f, k) => (n + n / 2, grownR n f, k)
def alFull (z : ALS) : Prop := match z.1 with
  | none => True
  | some (_, n, _, k) => k = n
def alRoom (z : ALS) : Prop := match z.1 with
  | none => True
  | some (_, n, _, k) => k ≤ n ∧ 10 ≤ n ∧ n ≤ 2 ^ 16
def alHas (ex : va_W) (z : ALS) : Prop := match z.1 with
  | none => True
  | some (_, n, f, _) => ∀ i, i < n → ∀ y, f i = some y → Prt ex y
def QcGr (x : GX) (g : GE) (b : Nat) (ex : va_W) (mc : Int32) (w : Nat × (Nat → Option Nat) × Nat) (A : Nat → Prop) : Array Value → State → Outcome → State → Prop := va_Qr (fun _ : Unit => True) (fun _ r t => va_P (x.1, x.2.1) classes (alc x g b (fun _ => 0) (some (r, w.1, w.2.1, w.2.2), mc) ++ ex) t.heap ∧ va_D A (alc x g b (fun _ => 0) (some (r, w.1, w.2.1, w.2.2), mc) ++ ex)) A
section HG
variable {p : Program} {l : Launch} {e : Env} {R : Room} {s : State} {m : MethodId} {args : Array Value} {below : List Frame} {meth : Method} {c : Code} {H H0 : Heap} {locs : List Loc} {cells slots : Nat} {Q : State → Prop}
variable {cc : ByteArray} {nL pc : Nat} {ls : Array Slot} {rest st0 : List Value} {x : GX} {g : GE} {a : Nat → Nat} {A : Nat → Prop} {ex ws : va_W} {own : String} {mc ms : Nat} {b r : Nat} {mm : Int32} {w : Nat × (Nat → Option Nat) × Nat}
theorem w_grret (S : CallFix p m c cc nL s args lw_tg own) {ty : FieldType} (hr : meth.sig.returnType = some (.array ty)) (hlk : meth.locks = false) (hw : wd x A s.heap (alc x g b (fun _ => 0) (some (r, w.1, w.2.1, w.2.2), mm) ++ ex) H locs) (hdg : decode cc pc = .ok (.areturn, 1)) :
    W p l e R s m args below meth c H locs cells slots (MQ below (QcGr x g b ex mm w A) args s cells slots A) (F0 m pc ls [.ref r]) :=
  W.aret (v := .ref r) S.1 S.2.1 hr (Or.inr ⟨ty, rfl⟩) (Or.inr ⟨r, rfl⟩) (fun t ht hW => ⟨⟨(), r, rfl, trivial, by rw [ht]; exact hw.1, hw.2.1⟩, hw.2.2.F ht⟩) hw.2.2.2.2 hdg hlk
theorem w_cgr (hA : ∀ q, H0.size ≤ q → A q) {wc : va_W} (hw : wd x A H0 wc H locs) {ar : Array Value}
    (hr : va_Run p l e R s m args below meth c H locs cells slots mc ms (F0 m pc ls st0) rest (QcGr x g b ex mm w (va_A wc H.size) ar) (va_A wc H.size))
    (kk : ∀ (r : Nat) (H : Heap) (locs : List Loc), wd x A H0 (alc x g b (fun _ => 0) (some (r, w.1, w.2.1, w.2.2), mm) ++ ex) H locs → W p l e R s m args below meth c H locs (cells + mc) (slots + ms) Q (F0 m (pc + 3) ls (.ref r :: rest))) : W p l e R s m args below meth c H locs cells slots Q (F0 m pc ls st0) := by
  have hF := wd_free hA hw
  refine va_callr hr hw.2.2 (fun q _ h => hF q h) hF (fun u1 rb t H1 locs1 ht hvm hq hB hz hk hS => ?_)
  obtain ⟨hB1, hB2⟩ := hB
  refine kk rb H1 locs1 ⟨?_, ?_, hS⟩
  · rw [← ht]; exact hB1
  · exact hB2.weaken (fun _ _ _ h => hF _ h)
end HG
set_option maxHeartbeats 8000000 in
theorem c_AL_grow1 {x : GX} {g : GE} {b : Nat} {ex : va_W} {a : Nat → Nat} (l : Launch) (z : ALS) (sz : Nat) (hf : alFull z) (hm : alRoom z) (hh : alHas ex z) : Met l y_AL_grow1 (wM y_AL_grow1 b_AL_grow1 4 (some (.array (.object "java/lang/Object")))) (rmN 4 1 (alGrow z).1) (PreE x g (alc x g b) ex [.ref b, .int (nI (alk z + 1))] a z sz) (QcGr x g b ex z.2 (alGrow z) (va_A (alc x g b a z ++ ex) sz)) 1 (alGrow z).1 (va_A (alc x g b a z ++ ex) sz) := by
  refine w_enterE (by decide +kernel) (Nat.le_of_ble_eq_true rfl) (fun p e s m args below meth c S hr hlk hnm hK hE hA hw ls hl => ?_)
  have hl : lv_has ls 4 [(0, .ref b), (1, .int (nI (alk z + 1)))] := hl
  refine lv_aload_n S.1 S.2.1 d_AL_grow1_0 rfl (lv_at hl 0 rfl) ?_
  obtain ⟨_ | ⟨q, n, f, k⟩, mc⟩ := z
  · refine al_getd S hK hw 0 rfl d_AL_grow1_1 ?_
    refine va_tlen S.1 S.2.1 hE.2.2.2.1.2 hw.2.2 (v := 0) rfl d_AL_grow1_4 ?_
    refine lv_istore_n (lv' := [(2, .int 0), (0, .ref b), (1, .int (nI (0 + 1)))]) S.1 S.2.1 d_AL_grow1_5 rfl hl (by decide) rfl (fun ls hl => ?_)
    refine lv_iload_n S.1 S.2.1 d_AL_grow1_6 rfl (lv_at hl 0 rfl) ?_
    refine lv_if_gt (tgt := 20) S.1 S.2.1 d_AL_grow1_7 (by decide) (fun q9 => absurd q9 (by decide)) (fun _ => ?_)
    refine lv_aload_n S.1 S.2.1 d_AL_grow1_10 rfl (lv_at hl 1 rfl) ?_
    refine al_getd S hK hw 0 rfl d_AL_grow1_11 ?_
    refine va_gets S.1 S.2.1 hE.2.2.2.1.1 hw.2.2 S.2.2.2.1 (S.2.2.2.2 _ k_382) (fun _ h9 => h9) d_AL_grow1_14 ?_
    refine lv_acmp_eq (rx := some (g.2 0)) (ry := some (g.2 0)) (tgt := 45) S.1 S.2.1 d_AL_grow1_17 (by decide) (fun _ => ?_) (fun q9 => absurd rfl q9)
    refine lv_aload_n S.1 S.2.1 d_AL_grow1_45 rfl (lv_at hl 1 rfl) ?_
    refine lv_bipush (v := 10) S.1 S.2.1 d_AL_grow1_46 (by decide) ?_
    refine lv_iload_n S.1 S.2.1 d_AL_grow1_48 rfl (lv_at hl 2 rfl) ?_
    refine va_mmax S.1 S.2.1 (S.2.2.1.trans hl.1.symm) S.2.2.2.1 (S.2.2.2.2 _ k_552) (S.2.2.2.2 _ k_111) (S.2.2.2.2 _ k_7) (S.2.2.2.2 _ k_112) (Nat.le_of_ble_eq_true rfl) (Nat.le_of_ble_eq_true rfl) (Nat.zero_le _) (Nat.zero_le _) d_AL_grow1_49 ?_
    refine w_newq S hK hA hw 5 rfl k_553 hE.2.2.2.2.2.2.2.1.2.2 10 (by decide +kernel) (by decide) ⟨Nat.le_of_ble_eq_true rfl, Nat.le_of_ble_eq_true rfl⟩ d_AL_grow1_52 (fun r H hw => ?_)
    refine lv_dup_x1 S.1 S.2.1 d_AL_grow1_55 rfl rfl ?_
    refine w_put S hK hw 1 rfl rfl i_AL t_AL t_AL_ok n_AL 0 (by decide) k_384 rfl rfl rfl (Nat.le_of_ble_eq_true rfl) rfl d_AL_grow1_56 (fun H locs hw => ?_)
    have hw : wd x _ _ (alc x g b (fun _ => 0) (some (r, 10, (fun _ => none), 0), mc) ++ ex) H locs := wd_rot (l1 := [(r, .inl (x.2.2 5, 10, refsA (fun _ => none)))]) (wc := [(b, .inr (4, [.ref r, .int 0, .int mc]))]) (l2 := ex) hw
    refine W.widen (k := 1) (n := 10) (by decide) (by decide) ?_
    exact w_grret (w := (10, (fun _ => none), 0)) S hr hlk hw d_AL_grow1_59
  · obtain ⟨hm1, hm2, hm3⟩ := hm
    have hkn : k = n := hf
    subst hkn
    refine al_getd S hK hw 0 rfl d_AL_grow1_1 ?_
    refine va_alen (v := nI k) S.1 S.2.1 hK hw.1 1 5 rfl rfl rfl d_AL_grow1_4 ?_
    refine lv_istore_n (lv' := [(2, .int (nI k)), (0, .ref b), (1, .int (nI (k + 1)))]) S.1 S.2.1 d_AL_grow1_5 rfl hl (by decide) rfl (fun ls hl => ?_)
    refine lv_iload_n S.1 S.2.1 d_AL_grow1_6 rfl (lv_at hl 0 rfl) ?_
    refine lv_if_gt (tgt := 20) S.1 S.2.1 d_AL_grow1_7 (by decide) (fun _ => ?_) (fun q9 => absurd (show (0 : Int32) < nI k from by have := nI_lt (a := 0) (b := k) (by omega) (by omega); rwa [nI_0] at this) q9)
    refine lv_iload_n S.1 S.2.1 d_AL_grow1_20 rfl (lv_at hl 0 rfl) ?_
    refine lv_iload_n S.1 S.2.1 d_AL_grow1_21 rfl (lv_at hl 2 rfl) ?_
    refine lv_iload_n S.1 S.2.1 d_AL_grow1_22 rfl (lv_at hl 0 rfl) ?_
    refine lv_isub S.1 S.2.1 d_AL_grow1_23 ?_
    refine lv_iload_n S.1 S.2.1 d_AL_grow1_24 rfl (lv_at hl 0 rfl) ?_
    refine lv_iconst (v := 1) S.1 S.2.1 d_AL_grow1_25 (by decide) ?_
    refine lv_ishr S.1 S.2.1 d_AL_grow1_26 ?_
    have hnl : P_J_newLen (nI k) (nI (k + 1) - nI k) (nI k >>> ((1 : Int32) &&& 31)) (fun r => r = nI (k + k / 2)) := by
      have e1 : nI (k + 1) - nI k = nI 1 := by rw [pk_sub (by omega)]; congr 1; omega
      have e2 : nI k >>> ((1 : Int32) &&& 31) = nI (k / 2) := pk_shrN (by omega) _ 1 (by decide)
      have e3 : nI k + (if nI (k + 1) - nI k < nI k >>> ((1 : Int32) &&& 31) then nI k >>> ((1 : Int32) &&& 31) else nI (k + 1) - nI k) = nI (k + k / 2) := by
        rw [e1, e2, if_pos (nI_lt (by omega) (by omega)), nI_add]
      intro x3 hx3
      rw [e3] at hx3
      subst hx3
      refine ⟨fun h => absurd h (nI_nle (by omega) (by omega)), fun _ => ⟨fun h => ?_, fun _ => rfl⟩⟩
      have h9 : (2147483639 : Int32) = nI 2147483639 := by decide
      rw [h9, nI_ltI (by decide) (by omega)] at h
      omega
    refine w_cn (w_rs (rest := []) S (c_J_newLen l _ _ _ _ hnl) (w_cb (fr := 0) (lv := 0) S.2.2.2.2 k_299 k_527 k_12 yd_J_newLen rfl rfl ⟨Nat.le_of_ble_eq_true rfl, Nat.le_of_ble_eq_true rfl⟩) k_298 rfl hl.1 rfl (Nat.le_of_ble_eq_true rfl) d_AL_grow1_27 ⟨Nat.zero_le _, Nat.zero_le _⟩) (fun v hv => ?_)
    subst hv
    refine lv_istore_n (lv' := [(3, .int (nI (k + k / 2))), (2, .int (nI k)), (0, .ref b), (1, .int (nI (k + 1)))]) S.1 S.2.1 d_AL_grow1_30 rfl hl (by decide) rfl (fun ls hl => ?_)
    refine lv_aload_n S.1 S.2.1 d_AL_grow1_31 rfl (lv_at hl 2 rfl) ?_
    refine lv_aload_n S.1 S.2.1 d_AL_grow1_32 rfl (lv_at hl 2 rfl) ?_
    refine al_getd S hK hw 0 rfl d_AL_grow1_33 ?_
    refine lv_iload_n S.1 S.2.1 d_AL_grow1_36 rfl (lv_at hl 0 rfl) ?_
    have hw2 : wd x _ _ (arl x q (fun _ => 0) (k, f) ++ ([(b, .inr (4, [.ref q, .int (nI k), .int mc]))] ++ ex)) s.heap [] := wd_rot (l1 := [(b, .inr (4, [.ref q, .int (nI k), .int mc]))]) (wc := arl x q (fun _ => 0) (k, f)) (l2 := ex) hw
    refine w_cnew2 hA hw2 (w_rsE (rest := [.ref b]) S hK hE hA hw2 (c_J_cop2 l (k + k / 2) (k, f) _ (by show k < _; omega) (by omega) (fun i hi y hy => (hh i hi y hy).app)) (w_cb (fr := 0) (lv := 0) S.2.2.2.2 k_530 k_528 k_13 yd_J_cop2 rfl rfl ⟨by show 3 + 1 ≤ 4; omega, by show 8 + (2 + 11) + 64 * 3 ≤ 64 * 4; omega⟩) k_529 rfl hl.1 rfl (Nat.le_of_ble_eq_true rfl) d_AL_grow1_37 ⟨by show 0 + 1 ≤ 1; omega, by show 0 + (k + k / 2) ≤ k + k / 2; omega⟩) (fun r H locs hw => ?_)
    refine lv_dup_x1 S.1 S.2.1 d_AL_grow1_40 rfl rfl ?_
    refine w_put S hK hw 2 rfl rfl i_AL t_AL t_AL_ok n_AL 0 (by decide) k_384 rfl rfl rfl (Nat.le_of_ble_eq_true rfl) rfl d_AL_grow1_41 (fun H locs hw => ?_)
    have hw3 := wd_drop (l1 := [(r, .inl (x.2.2 5, k + k / 2, refsA (grownR k f)))]) (q := (q, .inl (x.2.2 5, k, refsA f))) (l2 := [(b, .inr (4, [.ref r, .int (nI k), .int mc]))] ++ ex) hw
    have hw : wd x _ _ (alc x g b (fun _ => 0) (some (r, k + k / 2, grownR k f, k), mc) ++ ex) H locs := wd_rot (l1 := [(r, .inl (x.2.2 5, k + k / 2, refsA (grownR k f)))]) (wc := [(b, .inr (4, [.ref r, .int (nI k), .int mc]))]) (l2 := ex) hw3
    refine W.widen (k := 1) (n := k + k / 2) (by omega) (by omega) ?_
    exact w_grret (w := (k + k / 2, grownR k f, k)) S hr hlk hw d_AL_grow1_44
set_option maxHeartbeats 8000000 in
theorem c_AL_grow0 {x : GX} {g : GE} {b : Nat} {ex : va_W} {a : Nat → Nat} (l : Launch) (z : ALS) (sz : Nat) (hf : alFull z) (hm : alRoom z) (hh : alHas ex z) : Met l y_AL_grow0 (wM y_AL_grow0 b_AL_grow0 1 (some (.array (.object "java/lang/Object")))) (rmN 5 1 (alGrow z).1) (PreE x g (alc x g b) ex [.ref b] a z sz) (QcGr x g b ex z.2 (alGrow z) (va_A (alc x g b a z ++ ex) sz)) 1 (alGrow z).1 (va_A (alc x g b a z ++ ex) sz) := by
  refine w_enterE (by decide +kernel) (Nat.le_of_ble_eq_true rfl) (fun p e s m args below meth c S hr hlk hnm hK hE hA hw ls hl => ?_)
  have hl : lv_has ls 1 [(0, .ref b)] := hl
  refine lv_aload_n S.1 S.2.1 d_AL_grow0_0 rfl (lv_at hl 0 rfl) ?_
  refine lv_aload_n S.1 S.2.1 d_AL_grow0_1 rfl (lv_at hl 0 rfl) ?_
  have fin : W p l e (rmN 5 1 (alGrow z).1) s m args below meth c s.heap [] 0 0 (MQ below (QcGr x g b ex z.2 (alGrow z) (va_A (alc x g b a z ++ ex) sz)) args s 1 (alGrow z).1 (va_A (alc x g b a z ++ ex) sz)) (F0 m 7 ls [.int (nI (alk z + 1)), .ref b]) := by
    obtain ⟨fs, hq0⟩ : ∃ fs, (alc x g b a z ++ ex)[0]? = some (b, .inr (4, fs)) := by
      obtain ⟨_ | ⟨q, n, f, k⟩, mc⟩ := z
      · exact ⟨_, rfl⟩
      · exact ⟨_, rfl⟩
    refine w_cgr hA hw (w_rvE (rest := []) S hK hE hA hw (c_AL_grow1 l z _ hf hm hh) (ci := 4) (q0 := 0) rfl hq0 (w_cb (fr := 0) (lv := 0) S.2.2.2.2 k_526 k_523 k_17 yd_AL_grow1 rfl rfl ⟨by show 4 + 1 ≤ 5; omega, by show 8 + (4 + 11) + 64 * 4 ≤ 64 * 5; omega⟩) k_525 s_13 rfl hl.1 rfl (Nat.le_of_ble_eq_true rfl) d_AL_grow0_7 ⟨by show 0 + 1 ≤ 1; omega, by show 0 + (alGrow z).1 ≤ (alGrow z).1; omega⟩) (fun r H locs hw => ?_)
    refine W.widen (k := 1) (n := (alGrow z).1) (by omega) (by omega) ?_
    exact w_grret S hr hlk hw d_AL_grow0_10
  obtain ⟨_ | ⟨q, n, f, k⟩, mc⟩ := z
  · refine al_gets S hK hw 0 rfl d_AL_grow0_2 ?_
    refine lv_iconst (v := 1) S.1 S.2.1 d_AL_grow0_5 (by decide) ?_
    refine lv_iadd S.1 S.2.1 d_AL_grow0_6 ?_
    exact fin
  · refine al_gets S hK hw 0 rfl d_AL_grow0_2 ?_
    refine lv_iconst (v := 1) S.1 S.2.1 d_AL_grow0_5 (by decide) ?_
    refine lv_iadd S.1 S.2.1 d_AL_grow0_6 ?_
    rw [nI_1]
    exact fin
/-- the room behind an 'add' -/
def alNext (z : ALS) : Nat × (Nat → Option Nat) × Nat := match z.1 with
  | none => (10, fun _ => none, 0)
  | some (_, n, f, k) => if k = n then (n + n / 2, grownR n f, k) else (n, f, k)
set_option maxHeartbeats 8000000 in
theorem c_AL_add3 {x : GX} {g : GE} {b : Nat} {ex : va_W} {a : Nat → Nat} (l : Launch) (z : ALS) (q0 r N : Nat) (sz : Nat) (hm : alRoom z) (hh : alHas ex z) (hp : Prt ex r) (hN : (alNext z).1 ≤ N) (hq0 : q0 = (match z.1 with | none => g.2 0 | some w => w.1)) : Met l y_AL_add3 (wM y_AL_add3 b_AL_add3 4 none) (rmN 6 1 N) (PreE x g (alc x g b) ex [.ref b, .ref r, .ref q0, .int (nI (alk z))] a z sz) (QeV x (alc x g b) ex (va_A (alc x g b a z ++ ex) sz) (fun z' => ∃ q', z' = (some (q', (alNext z).1, va_up (alNext z).2.1 (alk z) (some r), alk z + 1), z.2))) 1 N (va_A (alc x g b a z ++ ex) sz) := by
  refine w_enterE (by decide +kernel) (Nat.le_of_ble_eq_true rfl) (fun p e s m args below meth c S hr hlk hnm hK hE hA hw ls hl => ?_)
  have hl : lv_has ls 4 [(0, .ref b), (1, .ref r), (2, .ref q0), (3, .int (nI (alk z)))] := hl
  -- from the store on
  have fin : ∀ (q' n' : Nat) (f' : Nat → Option Nat), alk z < n' → n' ≤ 2 ^ 20 → n' = (alNext z).1 → f' = (alNext z).2.1 → ∀ (kc nc : Nat), kc ≤ 1 → nc ≤ N → ∀ (ls : Array Slot) (H : Heap) (locs : List Loc), lv_has ls 4 [(0, .ref b), (1, .ref r), (2, .ref q'), (3, .int (nI (alk z)))] → wd x (va_A (alc x g b a z ++ ex) sz) s.heap (alc x g b (fun _ => 0) (some (q', n', f', alk z), z.2) ++ ex) H locs → W p l e (rmN 6 1 N) s m args below meth c H locs kc nc (MQ below (QeV x (alc x g b) ex (va_A (alc x g b a z ++ ex) sz) (fun z' => ∃ q', z' = (some (q', (alNext z).1, va_up (alNext z).2.1 (alk z) (some r), alk z + 1), z.2))) args s 1 N (va_A (alc x g b a z ++ ex) sz)) (F0 m 11 ls []) := by
    intro q' n' f' hkn hn20 e1 e2 kc nc hkc hnc ls H locs hl hw
    subst e1 e2
    refine lv_aload_n S.1 S.2.1 d_AL_add3_11 rfl (lv_at hl 2 rfl) ?_
    refine lv_iload_n S.1 S.2.1 d_AL_add3_12 rfl (lv_at hl 3 rfl) ?_
    refine lv_aload_n S.1 S.2.1 d_AL_add3_13 rfl (lv_at hl 1 rfl) ?_
    refine va_astqM S.1 S.2.1 hK hw.1 hw.2.1 hw.2.2 1 5 rfl rfl ((hp.app (l := alc x g b (fun _ => 0) (some (q', (alNext z).1, (alNext z).2.1, alk z), z.2))).any hK hE.2.2.2.2.2.2.2 hw).1 (vp_in_nI hkn (by omega)) d_AL_add3_14 (fun H locs h1 h2 h3 => ?_)
    rw [nI_clamp (by omega)] at h1 h2
    have hw : wd x (va_A (alc x g b a z ++ ex) sz) s.heap (alc x g b (fun _ => 0) (some (q', (alNext z).1, va_up (alNext z).2.1 (alk z) (some r), alk z), z.2) ++ ex) H locs := ⟨h1, h2, h3⟩
    refine lv_aload_n S.1 S.2.1 d_AL_add3_15 rfl (lv_at hl 0 rfl) ?_
    refine lv_iload_n S.1 S.2.1 d_AL_add3_16 rfl (lv_at hl 3 rfl) ?_
    refine lv_iconst (v := 1) S.1 S.2.1 d_AL_add3_17 (by decide) ?_
    refine lv_iadd S.1 S.2.1 d_AL_add3_18 ?_
    rw [nI_1]
    refine w_put S hK hw 0 rfl rfl i_AL t_AL t_AL_ok n_AL 1 (by decide) k_385 rfl rfl rfl (Nat.le_of_ble_eq_true rfl) rfl d_AL_add3_19 (fun H locs hw => ?_)
    refine W.widen (k := 1) (n := N) hkc hnc ?_
    exact w_vretE (u := ((some (q', (alNext z).1, va_up (alNext z).2.1 (alk z) (some r), alk z + 1), z.2) : ALS)) (cl := alc x g b) (a := fun _ => 0) S hr hlk hw ⟨q', rfl⟩ d_AL_add3_22
  -- with room to be made
  have gr : alFull z → (alGrow z).1 = (alNext z).1 → (alGrow z).2.1 = (alNext z).2.1 → (alGrow z).2.2 = alk z → alk z < (alGrow z).1 → (alGrow z).1 ≤ 2 ^ 20 → ∀ (ls : Array Slot), lv_has ls 4 [(0, .ref b), (1, .ref r), (2, .ref q0), (3, .int (nI (alk z)))] → W p l e (rmN 6 1 N) s m args below meth c s.heap [] 0 0 (MQ below (QeV x (alc x g b) ex (va_A (alc x g b a z ++ ex) sz) (fun z' => ∃ q', z' = (some (q', (alNext z).1, va_up (alNext z).2.1 (alk z) (some r), alk z + 1), z.2))) args s 1 N (va_A (alc x g b a z ++ ex) sz)) (F0 m 6 ls []) := by
    intro hfl e1 e2 e3 e4 e5 ls hl
    refine lv_aload_n S.1 S.2.1 d_AL_add3_6 rfl (lv_at hl 0 rfl) ?_
    obtain ⟨fs, hq1⟩ : ∃ fs, (alc x g b a z ++ ex)[0]? = some (b, .inr (4, fs)) := by
      obtain ⟨_ | ⟨q, n, f, k⟩, mc⟩ := z
      · exact ⟨_, rfl⟩
      · exact ⟨_, rfl⟩
    refine w_cgr hA hw (w_rvE (rest := []) S hK hE hA hw (c_AL_grow0 l z _ hfl hm hh) (ci := 4) (q0 := 0) rfl hq1 (w_cb (fr := 0) (lv := 0) S.2.2.2.2 k_522 k_519 k_17 yd_AL_grow0 rfl rfl ⟨by show 5 + 1 ≤ 6; omega, by show 8 + (1 + 11) + 64 * 5 ≤ 64 * 6; omega⟩) k_521 s_12 rfl hl.1 rfl (Nat.le_of_ble_eq_true rfl) d_AL_add3_7 ⟨by show 0 + 1 ≤ 1; omega, by show 0 + (alGrow z).1 ≤ N; omega⟩) (fun q' H locs hw => ?_)
    refine lv_astore_n (lv' := [(2, .ref q'), (0, .ref b), (1, .ref r), (3, .int (nI (alk z)))]) S.1 S.2.1 d_AL_add3_10 rfl hl (by decide) rfl (fun ls hl => ?_)
    rw [e3] at hw
    exact fin q' _ _ e4 e5 e1 e2 _ _ (by omega) (by omega) ls H locs (lv_sub hl [1, 2, 0, 3] rfl) hw
  refine lv_iload_n S.1 S.2.1 d_AL_add3_0 rfl (lv_at hl 3 rfl) ?_
  refine lv_aload_n S.1 S.2.1 d_AL_add3_1 rfl (lv_at hl 2 rfl) ?_
  obtain ⟨_ | ⟨q, n, f, k⟩, mc⟩ := z
  · subst hq0
    refine va_tlen S.1 S.2.1 hE.2.2.2.1.2 hw.2.2 (v := 0) rfl d_AL_add3_2 ?_
    refine lv_icmp_ne (tgt := 11) S.1 S.2.1 d_AL_add3_3 (by decide) (fun q9 => absurd (show nI 0 = 0 from by decide) q9) (fun _ => ?_)
    exact gr trivial rfl rfl rfl (show 0 < 10 from by decide) (show 10 ≤ 2 ^ 20 from by decide) ls hl
  · obtain ⟨hm1, hm2, hm3⟩ := hm
    obtain rfl : q = q0 := hq0.symm
    refine va_alen (v := nI n) S.1 S.2.1 hK hw.1 1 5 rfl rfl rfl d_AL_add3_2 ?_
    by_cases hkn : k = n
    · have e1 : alNext (some (q, n, f, k), mc) = (n + n / 2, grownR n f, k) := if_pos hkn
      refine lv_icmp_ne (tgt := 11) S.1 S.2.1 d_AL_add3_3 (by decide) (fun q9 => absurd (by show nI k = nI n; rw [hkn]) q9) (fun _ => ?_)
      exact gr hkn (by rw [e1]; rfl) (by rw [e1]; rfl) rfl (by show k < n + n / 2; omega) (by show n + n / 2 ≤ _; omega) ls hl
    · have e1 : alNext (some (q, n, f, k), mc) = (n, f, k) := if_neg hkn
      refine lv_icmp_ne (tgt := 11) S.1 S.2.1 d_AL_add3_3 (by decide) (fun _ => ?_) (fun q9 => absurd ((nI_eq (show k < 2 ^ 31 by omega) (by omega)).mp q9) hkn)
      exact fin q n f (by show k < n; omega) (by omega) (by rw [e1]) (by rw [e1]) 0 0 (by omega) (by omega) ls _ _ hl hw
set_option maxHeartbeats 8000000 in
theorem c_AL_add {x : GX} {g : GE} {b : Nat} {ex : va_W} {a : Nat → Nat} (l : Launch) (z : ALS) (r N : Nat) (sz : Nat) (hm : alRoom z) (hh : alHas ex z) (hp : Prt ex r) (hN : (alNext z).1 ≤ N) : Met l y_AL_add (wM y_AL_add b_AL_add 2 (some .boolean)) (rmN 7 1 N) (PreE x g (alc x g b) ex [.ref b, .ref r] a z sz) (QeI x (alc x g b) ex (va_A (alc x g b a z ++ ex) sz) (fun _ z' => ∃ q', z' = (some (q', (alNext z).1, va_up (alNext z).2.1 (alk z) (some r), alk z + 1), z.2 + 1))) 1 N (va_A (alc x g b a z ++ ex) sz) := by
  refine w_enterE (by decide +kernel) (Nat.le_of_ble_eq_true rfl) (fun p e s m args below meth c S hr hlk hnm hK hE hA hw ls hl => ?_)
  have hl : lv_has ls 2 [(0, .ref b), (1, .ref r)] := hl
  refine lv_aload_n S.1 S.2.1 d_AL_add_0 rfl (lv_at hl 0 rfl) ?_
  refine lv_dup S.1 S.2.1 d_AL_add_1 rfl ?_
  have fin : ∀ (q0 : Nat) (z2 : ALS), z2 = (z.1, z.2 + 1) → q0 = (match z2.1 with | none => g.2 0 | some w => w.1) → (∃ fs, (alc x g b a z2 ++ ex)[0]? = some (b, .inr (4, fs))) → ∀ (H : Heap) (locs : List Loc), wd x (va_A (alc x g b a z ++ ex) sz) s.heap (alc x g b a z2 ++ ex) H locs → W p l e (rmN 7 1 N) s m args below meth c H locs 0 0 (MQ below (QeI x (alc x g b) ex (va_A (alc x g b a z ++ ex) sz) (fun _ z' => ∃ q', z' = (some (q', (alNext z).1, va_up (alNext z).2.1 (alk z) (some r), alk z + 1), z.2 + 1))) args s 1 N (va_A (alc x g b a z ++ ex) sz)) (F0 m 20 ls [.int (nI (alk z)), .ref q0, .ref r, .ref b]) := by
    intro q0 z2 e2 hq0 hq1 H locs hw
    obtain ⟨fs, hq1⟩ := hq1
    subst e2
    refine w_cvE hA hw (w_rvE (rest := []) S hK hE hA hw (c_AL_add3 l (z.1, z.2 + 1) q0 r N _ hm hh hp hN hq0) (ci := 4) (q0 := 0) rfl hq1 (w_cb (fr := 0) (lv := 0) S.2.2.2.2 k_518 k_515 k_17 yd_AL_add3 rfl rfl ⟨by show 6 + 1 ≤ 7; omega, by show 8 + (4 + 11) + 64 * 6 ≤ 64 * 7; omega⟩) k_517 s_11 rfl hl.1 rfl (Nat.le_of_ble_eq_true rfl) d_AL_add_20 ⟨by show 0 + 1 ≤ 1; omega, by show 0 + N ≤ N; omega⟩) (fun z3 a3 H locs h hw => ?_)
    refine lv_iconst (v := 1) S.1 S.2.1 d_AL_add_23 (by decide) ?_
    refine W.widen (k := 1) (n := N) (by omega) (by omega) ?_
    exact w_zretE S hr hlk isB1 hw h d_AL_add_24
  obtain ⟨_ | ⟨q, n, f, k⟩, mc⟩ := z
  · refine al_getm S hK hw 0 rfl d_AL_add_2 ?_
    refine lv_iconst (v := 1) S.1 S.2.1 d_AL_add_5 (by decide) ?_
    refine lv_iadd S.1 S.2.1 d_AL_add_6 ?_
    refine al_putm S hK hw 0 rfl rfl d_AL_add_7 (fun H locs hw => ?_)
    refine lv_aload_n S.1 S.2.1 d_AL_add_10 rfl (lv_at hl 0 rfl) ?_
    refine lv_aload_n S.1 S.2.1 d_AL_add_11 rfl (lv_at hl 1 rfl) ?_
    refine lv_aload_n S.1 S.2.1 d_AL_add_12 rfl (lv_at hl 0 rfl) ?_
    refine al_getd S hK hw 0 rfl d_AL_add_13 ?_
    refine lv_aload_n S.1 S.2.1 d_AL_add_16 rfl (lv_at hl 0 rfl) ?_
    refine al_gets S hK hw 0 rfl d_AL_add_17 ?_
    exact fin (g.2 0) (none, mc + 1) rfl rfl ⟨_, rfl⟩ H locs hw
  · refine al_getm S hK hw 0 rfl d_AL_add_2 ?_
    refine lv_iconst (v := 1) S.1 S.2.1 d_AL_add_5 (by decide) ?_
    refine lv_iadd S.1 S.2.1 d_AL_add_6 ?_
    refine al_putm S hK hw 0 rfl rfl d_AL_add_7 (fun H locs hw => ?_)
    refine lv_aload_n S.1 S.2.1 d_AL_add_10 rfl (lv_at hl 0 rfl) ?_
    refine lv_aload_n S.1 S.2.1 d_AL_add_11 rfl (lv_at hl 1 rfl) ?_
    refine lv_aload_n S.1 S.2.1 d_AL_add_12 rfl (lv_at hl 0 rfl) ?_
    refine al_getd S hK hw 0 rfl d_AL_add_13 ?_
    refine lv_aload_n S.1 S.2.1 d_AL_add_16 rfl (lv_at hl 0 rfl) ?_
    refine al_gets S hK hw 0 rfl d_AL_add_17 ?_
    exact fin q (some (q, n, f, k), mc + 1) rfl rfl ⟨_, rfl⟩ H locs hw
