theorem k_88 : (Cond.fieldLink "PatternBench$Program" 25 "PatternBench$Program" "length" "I") ∈ lw_tg := kw 88 (by decide +kernel) (by decide +kernel)
theorem k_673 : (Cond.methodLink "PatternBench$Program" 29 ⟨"PatternBench$Program", "grow", "()V"⟩) ∈ lw_tg := kw 673 (by decide +kernel) (by decide +kernel)
theorem k_675 : (Cond.instanceMethod ⟨"PatternBench$Program", "grow", "()V"⟩) ∈ lw_tg := kw 675 (by decide +kernel) (by decide +kernel)
theorem k_676 : (Cond.code ⟨"PatternBench$Program", "grow", "()V"⟩ prog_7_method_3_code 3 (Option.none : Option Jvm.ClassFile.FieldType)) ∈ lw_tg := kw 676 (by decide +kernel) (by decide +kernel)
theorem s_14 : (Cond.selects "PatternBench$Program" ⟨"PatternBench$Program", "grow", "()V"⟩ ⟨"PatternBench$Program", "grow", "()V"⟩) ∈ lw_tg := ks 14 (by decide +kernel) (by decide +kernel)
/-! Program.grow and Program.add, over the world 'prl x g b a z ++ ex' (the Program's object at b, its arrays at a 6 .. a 9) -/
abbrev b_Pr_grow : ByteArray := prog_7_method_3_code
def y_Pr_grow : MethodName := ⟨"PatternBench$Program", "grow", "()V"⟩
theorem yd_Pr_grow : y_Pr_grow.cls ≠ "java/lang/invoke/MethodHandle" ∧ y_Pr_grow.cls ≠ "java/lang/invoke/VarHandle" ∧ (parseMethodDescriptor y_Pr_grow.desc).map (fun d => d.parameters.length) = some 0 := by decide +kernel
theorem d_Pr_grow_0 : decode b_Pr_grow 0 = .ok (.iconst 2, 1) := by decide +kernel
theorem d_Pr_grow_1 : decode b_Pr_grow 1 = .ok (.aload_n 0, 1) := by decide +kernel
theorem d_Pr_grow_2 : decode b_Pr_grow 2 = .ok (.getfield 25, 3) := by decide +kernel
theorem d_Pr_grow_5 : decode b_Pr_grow 5 = .ok (.imul, 1) := by decide +kernel
theorem d_Pr_grow_6 : decode b_Pr_grow 6 = .ok (.anewarray 7, 3) := by decide +kernel
theorem d_Pr_grow_9 : decode b_Pr_grow 9 = .ok (.astore_n 1, 1) := by decide +kernel
theorem d_Pr_grow_10 : decode b_Pr_grow 10 = .ok (.iconst 0, 1) := by decide +kernel
theorem d_Pr_grow_11 : decode b_Pr_grow 11 = .ok (.istore_n 2, 1) := by decide +kernel
theorem d_Pr_grow_12 : decode b_Pr_grow 12 = .ok (.iload_n 2, 1) := by decide +kernel
theorem d_Pr_grow_13 : decode b_Pr_grow 13 = .ok (.aload_n 0, 1) := by decide +kernel
theorem d_Pr_grow_14 : decode b_Pr_grow 14 = .ok (.getfield 25, 3) := by decide +kernel
theorem d_Pr_grow_17 : decode b_Pr_grow 17 = .ok (.if_icmp .ge 18, 3) := by decide +kernel
theorem d_Pr_grow_20 : decode b_Pr_grow 20 = .ok (.aload_n 1, 1) := by decide +kernel
theorem d_Pr_grow_21 : decode b_Pr_grow 21 = .ok (.iload_n 2, 1) := by decide +kernel
theorem d_Pr_grow_22 : decode b_Pr_grow 22 = .ok (.aload_n 0, 1) := by decide +kernel
theorem d_Pr_grow_23 : decode b_Pr_grow 23 = .ok (.getfield 9, 3) := by decide +kernel
theorem d_Pr_grow_26 : decode b_Pr_grow 26 = .ok (.iload_n 2, 1) := by decide +kernel
theorem d_Pr_grow_27 : decode b_Pr_grow 27 = .ok (.aaload, 1) := by decide +kernel
theorem d_Pr_grow_28 : decode b_Pr_grow 28 = .ok (.aastore, 1) := by decide +kernel
theorem d_Pr_grow_29 : decode b_Pr_grow 29 = .ok (.iinc 2 1, 3) := by decide +kernel
theorem d_Pr_grow_32 : decode b_Pr_grow 32 = .ok (.goto (-20), 3) := by decide +kernel
theorem d_Pr_grow_35 : decode b_Pr_grow 35 = .ok (.aload_n 0, 1) := by decide +kernel
theorem d_Pr_grow_36 : decode b_Pr_grow 36 = .ok (.aload_n 1, 1) := by decide +kernel
theorem d_Pr_grow_37 : decode b_Pr_grow 37 = .ok (.putfield 9, 3) := by decide +kernel
theorem d_Pr_grow_40 : decode b_Pr_grow 40 = .ok (.aload_n 0, 1) := by decide +kernel
theorem d_Pr_grow_41 : decode b_Pr_grow 41 = .ok (.aload_n 0, 1) := by decide +kernel
theorem d_Pr_grow_42 : decode b_Pr_grow 42 = .ok (.getfield 15, 3) := by decide +kernel
theorem d_Pr_grow_45 : decode b_Pr_grow 45 = .ok (.invokestatic 32, 3) := by decide +kernel
theorem d_Pr_grow_48 : decode b_Pr_grow 48 = .ok (.putfield 15, 3) := by decide +kernel
theorem d_Pr_grow_51 : decode b_Pr_grow 51 = .ok (.aload_n 0, 1) := by decide +kernel
theorem d_Pr_grow_52 : decode b_Pr_grow 52 = .ok (.aload_n 0, 1) := by decide +kernel
theorem d_Pr_grow_53 : decode b_Pr_grow 53 = .ok (.getfield 19, 3) := by decide +kernel
theorem d_Pr_grow_56 : decode b_Pr_grow 56 = .ok (.invokestatic 32, 3) := by decide +kernel
theorem d_Pr_grow_59 : decode b_Pr_grow 59 = .ok (.putfield 19, 3) := by decide +kernel
theorem d_Pr_grow_62 : decode b_Pr_grow 62 = .ok (.return_, 1) := by decide +kernel
abbrev b_Pr_add : ByteArray := prog_7_method_2_code
def y_Pr_add : MethodName := ⟨"PatternBench$Program", "add", "(LPatternBench$Op;II)I"⟩
theorem yd_Pr_add : y_Pr_add.cls ≠ "java/lang/invoke/MethodHandle" ∧ y_Pr_add.cls ≠ "java/lang/invoke/VarHandle" ∧ (parseMethodDescriptor y_Pr_add.desc).map (fun d => d.parameters.length) = some 3 := by decide +kernel
theorem d_Pr_add_0 : decode b_Pr_add 0 = .ok (.aload_n 0, 1) := by decide +kernel
theorem d_Pr_add_1 : decode b_Pr_add 1 = .ok (.getfield 25, 3) := by decide +kernel
theorem d_Pr_add_4 : decode b_Pr_add 4 = .ok (.aload_n 0, 1) := by decide +kernel
theorem d_Pr_add_5 : decode b_Pr_add 5 = .ok (.getfield 9, 3) := by decide +kernel
theorem d_Pr_add_8 : decode b_Pr_add 8 = .ok (.arraylength, 1) := by decide +kernel
theorem d_Pr_add_9 : decode b_Pr_add 9 = .ok (.if_icmp .ne 7, 3) := by decide +kernel
theorem d_Pr_add_12 : decode b_Pr_add 12 = .ok (.aload_n 0, 1) := by decide +kernel
theorem d_Pr_add_13 : decode b_Pr_add 13 = .ok (.invokevirtual 29, 3) := by decide +kernel
theorem d_Pr_add_16 : decode b_Pr_add 16 = .ok (.aload_n 0, 1) := by decide +kernel
theorem d_Pr_add_17 : decode b_Pr_add 17 = .ok (.getfield 9, 3) := by decide +kernel
theorem d_Pr_add_20 : decode b_Pr_add 20 = .ok (.aload_n 0, 1) := by decide +kernel
theorem d_Pr_add_21 : decode b_Pr_add 21 = .ok (.getfield 25, 3) := by decide +kernel
theorem d_Pr_add_24 : decode b_Pr_add 24 = .ok (.aload_n 1, 1) := by decide +kernel
theorem d_Pr_add_25 : decode b_Pr_add 25 = .ok (.aastore, 1) := by decide +kernel
theorem d_Pr_add_26 : decode b_Pr_add 26 = .ok (.aload_n 0, 1) := by decide +kernel
theorem d_Pr_add_27 : decode b_Pr_add 27 = .ok (.getfield 15, 3) := by decide +kernel
theorem d_Pr_add_30 : decode b_Pr_add 30 = .ok (.aload_n 0, 1) := by decide +kernel
theorem d_Pr_add_31 : decode b_Pr_add 31 = .ok (.getfield 25, 3) := by decide +kernel
theorem d_Pr_add_34 : decode b_Pr_add 34 = .ok (.iload_n 2, 1) := by decide +kernel
theorem d_Pr_add_35 : decode b_Pr_add 35 = .ok (.iastore, 1) := by decide +kernel
theorem d_Pr_add_36 : decode b_Pr_add 36 = .ok (.aload_n 0, 1) := by decide +kernel
theorem d_Pr_add_37 : decode b_Pr_add 37 = .ok (.getfield 19, 3) := by decide +kernel
theorem d_Pr_add_40 : decode b_Pr_add 40 = .ok (.aload_n 0, 1) := by decide +kernel
theorem d_Pr_add_41 : decode b_Pr_add 41 = .ok (.getfield 25, 3) := by decide +kernel
theorem d_Pr_add_44 : decode b_Pr_add 44 = .ok (.iload_n 3, 1) := by decide +kernel
theorem d_Pr_add_45 : decode b_Pr_add 45 = .ok (.iastore, 1) := by decide +kernel
theorem d_Pr_add_46 : decode b_Pr_add 46 = .ok (.aload_n 0, 1) := by decide +kernel
theorem d_Pr_add_47 : decode b_Pr_add 47 = .ok (.dup, 1) := by decide +kernel
theorem d_Pr_add_48 : decode b_Pr_add 48 = .ok (.getfield 25, 3) := by decide +kernel
theorem d_Pr_add_51 : decode b_Pr_add 51 = .ok (.iconst 1, 1) := by decide +kernel
theorem d_Pr_add_52 : decode b_Pr_add 52 = .ok (.iadd, 1) := by decide +kernel
theorem d_Pr_add_53 : decode b_Pr_add 53 = .ok (.putfield 25, 3) := by decide +kernel
theorem d_Pr_add_56 : decode b_Pr_add 56 = .ok (.aload_n 0, 1) := by decide +kernel
theorem d_Pr_add_57 : decode b_Pr_add 57 = .ok (.getfield 25, 3) := by decide +kernel
theorem d_Pr_add_60 : decode b_Pr_add 60 = .ok (.iconst 1, 1) := by decide +kernel
theorem d_Pr_add_61 : decode b_Pr_add 61 = .ok (.isub, 1) := by decide +kernel
theorem d_Pr_add_62 : decode b_Pr_add 62 = .ok (.ireturn, 1) := by decide +kernel
theorem vm_asg (vm : Vm) (c : ClassId) : vm.assignable c c = true := by
  show vm.assignableAux (255 + 1) c c = true
  rw [Vm.assignableAux]
  simp only [beq_self_eq_true, Bool.true_or]
theorem en_any {x : GX} {g : GE} {A : Nat → Prop} {s : State} {H : Heap} {locs : List Loc} {ws : va_W} (hE : EN g A s s.heap) (hw : wd x A s.heap ws H locs) {k : Nat} (hk : k < 17) : va_Any "PatternBench$Op" s H (g.1 k) := by
  obtain ⟨cell, h1, h2, h3⟩ := va_recvE hE.1 hk hw.2.2
  obtain ⟨kC, hkC, -⟩ := Vm.findClass_spec h3
  refine ⟨cell, h1, h2, ⟨kC, hkC⟩, fun comp h => ?_⟩
  cases h.symm.trans h3
  exact vm_asg _ _
def r_growP (z : PRS) : PRS := (2 * r_opN z, grownR (r_opN z) (r_opF z), 2 * r_xN z, grown (r_xN z) (r_xF z), 2 * r_yN z, grown (r_yN z) (r_yF z), r_en z, r_ln z)
section PG
variable {p : Program} {l : Launch} {e : Env} {R : Room} {s : State} {m : MethodId} {args : Array Value} {below : List Frame} {meth : Method} {c : Code} {H H0 : Heap} {locs : List Loc} {cells slots : Nat} {Q : State → Prop}
variable {cc : ByteArray} {nL pc : Nat} {ls : Array Slot} {rest : List Value} {x : GX} {g : GE} {a : Nat → Nat} {A : Nat → Prop} {ex : va_W} {b : Nat} {z : PRS}
set_option maxHeartbeats 4000000 in
theorem pr_longX (S : CallFix p m c cc nL s args lw_tg "PatternBench$Program") (hK : GK x s) (hE : EN g A s s.heap) (hA : ∀ q, s.heap.size ≤ q → A q) (hw : wd x A s.heap (prl x g b a z ++ ex) H locs) (hz : r_xN z ≤ 2 ^ 26) (hfr : 1 ≤ R.frames) (hlo : 64 ≤ R.locals) (hsz : ls.size = nL) (hf : cells + 1 ≤ R.cells ∧ slots + 2 * r_xN z ≤ R.slots) (hd1 : decode cc pc = .ok (.invokestatic 32, 3)) (hd2 : decode cc (pc + 3) = .ok (.putfield 15, 3))
    (kk : ∀ (a : Nat → Nat) (H : Heap) (locs : List Loc), wd x A s.heap (prl x g b a (rs_xF (rs_xN z (2 * r_xN z)) (grown (r_xN z) (r_xF z))) ++ ex) H locs → W p l e R s m args below meth c H locs (cells + 1) (slots + 2 * r_xN z) Q (F0 m (pc + 6) ls [])) : W p l e R s m args below meth c H locs cells slots Q (F0 m pc ls [.ref (a 7), .ref b]) := by
  have hw2 : wd x A s.heap (acl (x.2.2 0) (a 7) a (r_xN z, r_xF z) ++ ([(b, .inr (2, [.ref (a 6), .ref (a 7), .ref (a 8), .ref (a 9), .int (r_ln z)])), (a 6, .inl (x.2.2 3, r_opN z, .inr (.inr (.inr (.inr (fun j => (r_opF z j).map g.1))))))] ++ ([(a 8, .inl (x.2.2 0, r_yN z, .inl (r_yF z))), (a 9, .inl (x.2.2 0, 5, .inl (r_en z)))] ++ ex))) H locs := wd_rot (l1 := [(b, .inr (2, [.ref (a 6), .ref (a 7), .ref (a 8), .ref (a 9), .int (r_ln z)])), (a 6, .inl (x.2.2 3, r_opN z, .inr (.inr (.inr (.inr (fun j => (r_opF z j).map g.1))))))]) (wc := acl (x.2.2 0) (a 7) a (r_xN z, r_xF z)) (l2 := [(a 8, .inl (x.2.2 0, r_yN z, .inl (r_yF z))), (a 9, .inl (x.2.2 0, 5, .inl (r_en z)))] ++ ex) hw
  refine w_cnew (N := 2 * r_xN z) (f := grown (r_xN z) (r_xF z)) (cA := x.2.2 0) (mc := 1) (ms := 2 * r_xN z) hA hw2 (va_runSN (As := [.ref (a 7)]) (rest := [.ref b]) (host := "PatternBench") S (c_longer l (r_xN z, r_xF z) _ hz) ⟨va_cnB 1 S.2.2.2.2 (good_tg k_679) rfl rfl rfl (hE.2.2.2.2.2.2.1 _ (List.mem_of_getElem? (i := 6) rfl)) (S.2.2.2.2 _ k_1) yd_longer ⟨by show 0 + 1 ≤ R.frames; omega, by show 8 + (3 + 11) + 0 ≤ R.locals; omega⟩, S.2.2.2.2 _ k_678, trivial⟩ ⟨PreE.blind, preE hK hE hA hw2 _⟩ rfl rfl hsz rfl (lv_room (Nat.le_of_ble_eq_true rfl)) hd1 hf) (fun r H locs hw => ?_)
  refine w_put (ws' := (r, .inl (x.2.2 0, 2 * r_xN z, .inl (grown (r_xN z) (r_xF z)))) :: (a 7, .inl (x.2.2 0, r_xN z, .inl (r_xF z))) :: ([(b, .inr (2, [.ref (a 6), .ref r, .ref (a 8), .ref (a 9), .int (r_ln z)])), (a 6, .inl (x.2.2 3, r_opN z, .inr (.inr (.inr (.inr (fun j => (r_opF z j).map g.1))))))] ++ ([(a 8, .inl (x.2.2 0, r_yN z, .inl (r_yF z))), (a 9, .inl (x.2.2 0, 5, .inl (r_en z)))] ++ ex))) S hK hw 2 (fs := [.ref (a 6), .ref (a 7), .ref (a 8), .ref (a 9), .int (r_ln z)]) rfl rfl i_Prog t_Prog t_Prog_ok n_Prog 1 (by decide) k_77 rfl rfl rfl (Nat.le_of_ble_eq_true rfl) rfl hd2 (fun H locs hw => ?_)
  have h1 := wd_drop (l1 := [(r, .inl (x.2.2 0, 2 * r_xN z, .inl (grown (r_xN z) (r_xF z))))]) (q := (a 7, .inl (x.2.2 0, r_xN z, .inl (r_xF z)))) hw
  have h2 := wd_back (l1 := [(b, .inr (2, [.ref (a 6), .ref r, .ref (a 8), .ref (a 9), .int (r_ln z)])), (a 6, .inl (x.2.2 3, r_opN z, .inr (.inr (.inr (.inr (fun j => (r_opF z j).map g.1))))))]) (wc := [(r, .inl (x.2.2 0, 2 * r_xN z, .inl (grown (r_xN z) (r_xF z))))]) (l2 := [(a 8, .inl (x.2.2 0, r_yN z, .inl (r_yF z))), (a 9, .inl (x.2.2 0, 5, .inl (r_en z)))] ++ ex) h1
  exact kk (va_up a 7 r) H locs h2
set_option maxHeartbeats 4000000 in
theorem pr_longY (S : CallFix p m c cc nL s args lw_tg "PatternBench$Program") (hK : GK x s) (hE : EN g A s s.heap) (hA : ∀ q, s.heap.size ≤ q → A q) (hw : wd x A s.heap (prl x g b a z ++ ex) H locs) (hz : r_yN z ≤ 2 ^ 26) (hfr : 1 ≤ R.frames) (hlo : 64 ≤ R.locals) (hsz : ls.size = nL) (hf : cells + 1 ≤ R.cells ∧ slots + 2 * r_yN z ≤ R.slots) (hd1 : decode cc pc = .ok (.invokestatic 32, 3)) (hd2 : decode cc (pc + 3) = .ok (.putfield 19, 3))
    (kk : ∀ (a : Nat → Nat) (H : Heap) (locs : List Loc), wd x A s.heap (prl x g b a (rs_yF (rs_yN z (2 * r_yN z)) (grown (r_yN z) (r_yF z))) ++ ex) H locs → W p l e R s m args below meth c H locs (cells + 1) (slots + 2 * r_yN z) Q (F0 m (pc + 6) ls [])) : W p l e R s m args below meth c H locs cells slots Q (F0 m pc ls [.ref (a 8), .ref b]) := by
  have hw2 : wd x A s.heap (acl (x.2.2 0) (a 8) a (r_yN z, r_yF z) ++ ([(b, .inr (2, [.ref (a 6), .ref (a 7), .ref (a 8), .ref (a 9), .int (r_ln z)])), (a 6, .inl (x.2.2 3, r_opN z, .inr (.inr (.inr (.inr (fun j => (r_opF z j).map g.1)))))), (a 7, .inl (x.2.2 0, r_xN z, .inl (r_xF z)))] ++ ([(a 9, .inl (x.2.2 0, 5, .inl (r_en z)))] ++ ex))) H locs := wd_rot (l1 := [(b, .inr (2, [.ref (a 6), .ref (a 7), .ref (a 8), .ref (a 9), .int (r_ln z)])), (a 6, .inl (x.2.2 3, r_opN z, .inr (.inr (.inr (.inr (fun j => (r_opF z j).map g.1)))))), (a 7, .inl (x.2.2 0, r_xN z, .inl (r_xF z)))]) (wc := acl (x.2.2 0) (a 8) a (r_yN z, r_yF z)) (l2 := [(a 9, .inl (x.2.2 0, 5, .inl (r_en z)))] ++ ex) hw
  refine w_cnew (N := 2 * r_yN z) (f := grown (r_yN z) (r_yF z)) (cA := x.2.2 0) (mc := 1) (ms := 2 * r_yN z) hA hw2 (va_runSN (As := [.ref (a 8)]) (rest := [.ref b]) (host := "PatternBench") S (c_longer l (r_yN z, r_yF z) _ hz) ⟨va_cnB 1 S.2.2.2.2 (good_tg k_679) rfl rfl rfl (hE.2.2.2.2.2.2.1 _ (List.mem_of_getElem? (i := 6) rfl)) (S.2.2.2.2 _ k_1) yd_longer ⟨by show 0 + 1 ≤ R.frames; omega, by show 8 + (3 + 11) + 0 ≤ R.locals; omega⟩, S.2.2.2.2 _ k_678, trivial⟩ ⟨PreE.blind, preE hK hE hA hw2 _⟩ rfl rfl hsz rfl (lv_room (Nat.le_of_ble_eq_true rfl)) hd1 hf) (fun r H locs hw => ?_)
  refine w_put (ws' := (r, .inl (x.2.2 0, 2 * r_yN z, .inl (grown (r_yN z) (r_yF z)))) :: (a 8, .inl (x.2.2 0, r_yN z, .inl (r_yF z))) :: ([(b, .inr (2, [.ref (a 6), .ref (a 7), .ref r, .ref (a 9), .int (r_ln z)])), (a 6, .inl (x.2.2 3, r_opN z, .inr (.inr (.inr (.inr (fun j => (r_opF z j).map g.1)))))), (a 7, .inl (x.2.2 0, r_xN z, .inl (r_xF z)))] ++ ([(a 9, .inl (x.2.2 0, 5, .inl (r_en z)))] ++ ex))) S hK hw 2 (fs := [.ref (a 6), .ref (a 7), .ref (a 8), .ref (a 9), .int (r_ln z)]) rfl rfl i_Prog t_Prog t_Prog_ok n_Prog 2 (by decide) k_81 rfl rfl rfl (Nat.le_of_ble_eq_true rfl) rfl hd2 (fun H locs hw => ?_)
  have h1 := wd_drop (l1 := [(r, .inl (x.2.2 0, 2 * r_yN z, .inl (grown (r_yN z) (r_yF z))))]) (q := (a 8, .inl (x.2.2 0, r_yN z, .inl (r_yF z)))) hw
  have h2 := wd_back (l1 := [(b, .inr (2, [.ref (a 6), .ref (a 7), .ref r, .ref (a 9), .int (r_ln z)])), (a 6, .inl (x.2.2 3, r_opN z, .inr (.inr (.inr (.inr (fun j => (r_opF z j).map g.1)))))), (a 7, .inl (x.2.2 0, r_xN z, .inl (r_xF z)))]) (wc := [(r, .inl (x.2.2 0, 2 * r_yN z, .inl (grown (r_yN z) (r_yF z))))]) (l2 := [(a 9, .inl (x.2.2 0, 5, .inl (r_en z)))] ++ ex) h1
  exact kk (va_up a 8 r) H locs h2
/-- the copying loop of grow -/
theorem wL_Pr_grow (S : CallFix p m c b_Pr_grow 3 s args lw_tg "PatternBench$Program") (hK : GK x s) (hE : EN g A s s.heap) {N q : Nat} (hN : N ≤ 2 ^ 25) (hop : r_opN z = N) (hln : r_ln z = nI N) (hfull : ∀ i, i < N → ∃ k, k < 17 ∧ r_opF z i = some k)
    (kk : ∀ (ls : Array Slot) (H : Heap) (locs : List Loc), lv_has ls 3 [(0, .ref b), (1, .ref q)] → wd x A s.heap ((q, .inl (x.2.2 3, 2 * N, refsA (fun j => (grownR N (r_opF z) j).map g.1))) :: (prl x g b a z ++ ex)) H locs → W p l e R s m args below meth c H locs cells slots Q (F0 m 35 ls [])) :
    ∀ (n i : Nat), i ≤ N → N < i + n → ∀ (ls : Array Slot) (H : Heap) (locs : List Loc), lv_has ls 3 [(0, .ref b), (1, .ref q), (2, .int (nI i))] → wd x A s.heap ((q, .inl (x.2.2 3, 2 * N, refsA (fun j => (grownR i (r_opF z) j).map g.1))) :: (prl x g b a z ++ ex)) H locs → W p l e R s m args below meth c H locs cells slots Q (F0 m 12 ls []) := by
  intro n
  induction n with
  | zero => intro i h1 h2; omega
  | succ n ih =>
    intro i hi hn ls H locs hl hw
    refine lv_iload_n S.1 S.2.1 d_Pr_grow_12 rfl (lv_at hl 2 rfl) ?_
    refine lv_aload_n S.1 S.2.1 d_Pr_grow_13 rfl (lv_at hl 0 rfl) ?_
    refine w_get (fs := [.ref (a 6), .ref (a 7), .ref (a 8), .ref (a 9), .int (r_ln z)]) S hK hw 1 rfl rfl i_Prog 4 (by decide) k_88 rfl d_Pr_grow_14 ?_
    rw [hln]
    refine lv_icmp_ge (tgt := 35) S.1 S.2.1 d_Pr_grow_17 (by decide) (fun q9 => ?_) (fun q9 => ?_)
    · have : i = N := by
        refine Nat.le_antisymm hi (Nat.le_of_not_lt fun h => ?_)
        exact nI_ge h (by omega) q9
      subst this
      exact kk ls H locs (lv_sub hl [0, 1] rfl) hw
    · have hlt : i < N := by
        refine Nat.lt_of_not_le fun h => q9 (nI_le h (by omega))
      obtain ⟨k, hk, hek⟩ := hfull i hlt
      refine lv_aload_n S.1 S.2.1 d_Pr_grow_20 rfl (lv_at hl 1 rfl) ?_
      refine lv_iload_n S.1 S.2.1 d_Pr_grow_21 rfl (lv_at hl 2 rfl) ?_
      refine lv_aload_n S.1 S.2.1 d_Pr_grow_22 rfl (lv_at hl 0 rfl) ?_
      refine w_get (fs := [.ref (a 6), .ref (a 7), .ref (a 8), .ref (a 9), .int (r_ln z)]) S hK hw 1 rfl rfl i_Prog 0 (by decide) k_75 rfl d_Pr_grow_23 ?_
      refine lv_iload_n S.1 S.2.1 d_Pr_grow_26 rfl (lv_at hl 2 rfl) ?_
      refine va_aldq S.1 S.2.1 hK hw.1 2 3 rfl rfl (vp_in_nI (N := r_opN z) (by omega) (by omega)) d_Pr_grow_27 ?_
      rw [nI_clamp (by omega)]
      rw [show r_opF z i = some k from hek]
      refine va_astqM S.1 S.2.1 hK hw.1 hw.2.1 hw.2.2 0 3 rfl rfl (en_any hE hw hk) (vp_in_nI (N := 2 * N) (by omega) (by omega)) d_Pr_grow_28 (fun H locs h1 h2 h3 => ?_)
      rw [nI_clamp (by omega)] at h1 h2
      have hfx : va_up (fun j => (grownR i (r_opF z) j).map g.1) i (some (g.1 k)) = (fun j => (grownR (i + 1) (r_opF z) j).map g.1) := by
        funext j
        by_cases hj : j = i
        · subst hj
          rw [va_up_self]
          simp only [grownR]
          rw [if_pos (by omega), hek]
          rfl
        · rw [va_up_ne _ _ hj]
          simp only [grownR]
          by_cases h2 : j < i
          · rw [if_pos h2, if_pos (by omega)]
          · rw [if_neg h2, if_neg (by omega)]
      rw [hfx] at h1 h2
      have hw : wd x A s.heap ((q, .inl (x.2.2 3, 2 * N, refsA (fun j => (grownR (i + 1) (r_opF z) j).map g.1))) :: (prl x g b a z ++ ex)) H locs := ⟨h1, h2, h3⟩
      refine lv_iinc (v := nI (i + 1)) (lv' := [(2, .int (nI (i + 1))), (0, .ref b), (1, .ref q)]) S.1 S.2.1 d_Pr_grow_29 hl (k := 2) rfl (nI_1 i) (by decide) rfl (fun ls hl => ?_)
      refine lv_goto (tgt := 12) S.1 S.2.1 d_Pr_grow_32 (by decide) ?_
      exact ih (i + 1) hlt (by omega) ls H locs (lv_sub hl [1, 2, 0] rfl) hw
end PG
set_option maxHeartbeats 4000000 in
theorem c_Pr_grow {x : GX} {g : GE} {b : Nat} {ex : va_W} {a : Nat → Nat} (l : Launch) (z : PRS) (N sz : Nat) (hN : N ≤ 2 ^ 25) (hop : r_opN z = N) (hx : r_xN z = N) (hy : r_yN z = N) (hln : r_ln z = nI N) (hfull : ∀ i, i < N → ∃ k, k < 17 ∧ r_opF z i = some k) : Met l y_Pr_grow (wM y_Pr_grow b_Pr_grow 3 none) (rmN 1 3 (6 * N)) (PreE x g (prl x g b) ex [.ref b] a z sz) (QeV x (prl x g b) ex (va_A (prl x g b a z ++ ex) sz) (fun z' => z' = r_growP z)) 3 (6 * N) (va_A (prl x g b a z ++ ex) sz) := by
  refine w_enterE (by decide +kernel) (Nat.le_of_ble_eq_true rfl) (fun p e s m args below meth c S hr hlk hnm hK hE hA hw ls hl => ?_)
  have hl : lv_has ls 3 [(0, .ref b)] := hl
  refine lv_iconst (v := 2) S.1 S.2.1 d_Pr_grow_0 (by decide) ?_
  refine lv_aload_n S.1 S.2.1 d_Pr_grow_1 rfl (lv_at hl 0 rfl) ?_
  refine w_get (fs := [.ref (a 6), .ref (a 7), .ref (a 8), .ref (a 9), .int (r_ln z)]) S hK hw 0 rfl rfl i_Prog 4 (by decide) k_88 rfl d_Pr_grow_2 ?_
  rw [hln]
  refine lv_imul S.1 S.2.1 d_Pr_grow_5 ?_
  refine w_newq S hK hA hw 3 rfl k_73 hE.2.2.2.2.2.2.2.1.1 (2 * N) (pk_mul 2 N) (by omega) ⟨by show 0 + 1 ≤ 3; omega, by show 0 + 2 * N ≤ 6 * N; omega⟩ d_Pr_grow_6 (fun q H hw => ?_)
  refine lv_astore_n (lv' := [(1, .ref q), (0, .ref b)]) S.1 S.2.1 d_Pr_grow_9 rfl hl (by decide) rfl (fun ls hl => ?_)
  refine lv_iconst (v := 0) S.1 S.2.1 d_Pr_grow_10 (by decide) ?_
  refine lv_istore_n (lv' := [(2, .int 0), (1, .ref q), (0, .ref b)]) S.1 S.2.1 d_Pr_grow_11 rfl hl (by decide) rfl (fun ls hl => ?_)
  have h0 : (fun _ : Nat => (none : Option Nat)) = (fun j => (grownR 0 (r_opF z) j).map g.1) := by
    funext j; simp [grownR]
  rw [h0] at hw
  refine wL_Pr_grow S hK hE hN hop hln hfull (fun ls H locs hl hw => ?_) (N + 1) 0 (Nat.zero_le _) (by omega) ls H [] (lv_sub hl [2, 1, 0] rfl) hw
  refine lv_aload_n S.1 S.2.1 d_Pr_grow_35 rfl (lv_at hl 0 rfl) ?_
  refine lv_aload_n S.1 S.2.1 d_Pr_grow_36 rfl (lv_at hl 1 rfl) ?_
  refine w_put (ws' := (q, .inl (x.2.2 3, 2 * N, refsA (fun j => (grownR N (r_opF z) j).map g.1))) :: ([(b, .inr (2, [.ref q, .ref (a 7), .ref (a 8), .ref (a 9), .int (r_ln z)])), (a 6, .inl (x.2.2 3, r_opN z, .inr (.inr (.inr (.inr (fun j => (r_opF z j).map g.1))))))] ++ ([(a 7, .inl (x.2.2 0, r_xN z, .inl (r_xF z))), (a 8, .inl (x.2.2 0, r_yN z, .inl (r_yF z))), (a 9, .inl (x.2.2 0, 5, .inl (r_en z)))] ++ ex))) S hK hw 1 (fs := [.ref (a 6), .ref (a 7), .ref (a 8), .ref (a 9), .int (r_ln z)]) rfl rfl i_Prog t_Prog t_Prog_ok n_Prog 0 (by decide) k_75 rfl rfl rfl (Nat.le_of_ble_eq_true rfl) rfl d_Pr_grow_37 (fun H locs hw => ?_)
  have h1 := wd_drop (l1 := [(q, .inl (x.2.2 3, 2 * N, refsA (fun j => (grownR N (r_opF z) j).map g.1))), (b, .inr (2, [.ref q, .ref (a 7), .ref (a 8), .ref (a 9), .int (r_ln z)]))]) (q := (a 6, .inl (x.2.2 3, r_opN z, .inr (.inr (.inr (.inr (fun j => (r_opF z j).map g.1))))))) hw
  have h2 : wd x _ _ (prl x g b (va_up a 6 q) (rs_opF (rs_opN z (2 * N)) (grownR N (r_opF z))) ++ ex) H locs := wd_back (l1 := [(b, .inr (2, [.ref q, .ref (a 7), .ref (a 8), .ref (a 9), .int (r_ln z)]))]) (wc := [(q, .inl (x.2.2 3, 2 * N, refsA (fun j => (grownR N (r_opF z) j).map g.1)))]) (l2 := [(a 7, .inl (x.2.2 0, r_xN z, .inl (r_xF z))), (a 8, .inl (x.2.2 0, r_yN z, .inl (r_yF z))), (a 9, .inl (x.2.2 0, 5, .inl (r_en z)))] ++ ex) h1
  generalize va_up a 6 q = a1 at h2
  refine lv_aload_n S.1 S.2.1 d_Pr_grow_40 rfl (lv_at hl 0 rfl) ?_
  refine lv_aload_n S.1 S.2.1 d_Pr_grow_41 rfl (lv_at hl 0 rfl) ?_
  refine w_get (fs := [.ref (a1 6), .ref (a1 7), .ref (a1 8), .ref (a1 9), .int (r_ln z)]) S hK h2 0 rfl rfl i_Prog 1 (by decide) k_77 rfl d_Pr_grow_42 ?_
  refine pr_longX S hK hE hA h2 (by show r_xN z ≤ _; omega) (Nat.le_of_ble_eq_true rfl) (Nat.le_of_ble_eq_true rfl) hl.1 ⟨by show 0 + 1 + 1 ≤ 3; omega, by show 0 + 2 * N + 2 * r_xN z ≤ 6 * N; omega⟩ d_Pr_grow_45 d_Pr_grow_48 (fun a2 H locs hw => ?_)
  refine lv_aload_n S.1 S.2.1 d_Pr_grow_51 rfl (lv_at hl 0 rfl) ?_
  refine lv_aload_n S.1 S.2.1 d_Pr_grow_52 rfl (lv_at hl 0 rfl) ?_
  refine w_get (fs := [.ref (a2 6), .ref (a2 7), .ref (a2 8), .ref (a2 9), .int (r_ln z)]) S hK hw 0 rfl rfl i_Prog 2 (by decide) k_81 rfl d_Pr_grow_53 ?_
  refine pr_longY S hK hE hA hw (by show r_yN z ≤ _; omega) (Nat.le_of_ble_eq_true rfl) (Nat.le_of_ble_eq_true rfl) hl.1 ⟨by show 0 + 1 + 1 + 1 ≤ 3; omega, by show 0 + 2 * N + 2 * r_xN z + 2 * r_yN z ≤ 6 * N; omega⟩ d_Pr_grow_56 d_Pr_grow_59 (fun a3 H locs hw => ?_)
  refine W.widen (k := 3) (n := 6 * N) (by omega) (by show 0 + 2 * N + 2 * r_xN z + 2 * r_yN z ≤ 6 * N; omega) ?_
  refine w_vretE (u := r_growP z) (a := a3) S hr hlk ?_ rfl d_Pr_grow_62
  rw [← hop] at hw
  exact hw
/-- what add does -/
def prRoom (z : PRS) (n : Nat) : PRS := if n = r_opN z then r_growP z else z
def prPut (z : PRS) (k : Nat) (v w : Int32) (n : Nat) : PRS := rs_ln (rs_yF (rs_xF (rs_opF z (va_up (r_opF z) n (some k))) (upd (r_xF z) n v)) (upd (r_yF z) n w)) (nI (n + 1))
def prAdd (z : PRS) (k : Nat) (v w : Int32) (n : Nat) : PRS := prPut (prRoom z n) k v w n
def P_Pr_add (bc bs : Nat) (k : Nat) (v w : Int32) (z : PRS) (Qc : Int32 → PRS → Prop) : Prop := k < 17 ∧ ∃ n : Nat, r_ln z = nI n ∧ n ≤ r_opN z ∧ r_opN z ≤ 2 ^ 25 ∧ 0 < r_opN z ∧ r_xN z = r_opN z ∧ r_yN z = r_opN z ∧ (n = r_opN z → 3 ≤ bc ∧ 6 * r_opN z ≤ bs ∧ ∀ i, i < n → ∃ k, k < 17 ∧ r_opF z i = some k) ∧ Qc (nI n) (prAdd z k v w n)
section PA
variable {p : Program} {l : Launch} {e : Env} {R : Room} {s : State} {m : MethodId} {args : Array Value} {below : List Frame} {meth : Method} {c : Code} {x : GX} {g : GE} {A : Nat → Prop} {ex : va_W} {b : Nat}
set_option maxHeartbeats 4000000 in
theorem w_Pr_add16 (S : CallFix p m c b_Pr_add 4 s args lw_tg "PatternBench$Program") (hr : meth.sig.returnType = some .int) (hlk : meth.locks = false) (hK : GK x s) (hE : EN g A s s.heap) {k n bc bs kc nc : Nat} {v w : Int32} {z1 : PRS} {a : Nat → Nat} {Qc : Int32 → PRS → Prop} (hk : k < 17) (hln : r_ln z1 = nI n) (hn : n < r_opN z1) (hN : r_opN z1 ≤ 2 ^ 26) (hx : r_xN z1 = r_opN z1) (hy : r_yN z1 = r_opN z1) (hkc : kc ≤ bc) (hnc : nc ≤ bs) (hQ : Qc (nI n) (prPut z1 k v w n)) {ls : Array Slot} {H : Heap} {locs : List Loc} (hl : lv_has ls 4 [(0, .ref b), (1, .ref (g.1 k)), (2, .int v), (3, .int w)]) (hw : wd x A s.heap (prl x g b a z1 ++ ex) H locs) : W p l e R s m args below meth c H locs kc nc (MQ below (QeI x (prl x g b) ex A Qc) args s bc bs A) (F0 m 16 ls []) := by
  refine lv_aload_n S.1 S.2.1 d_Pr_add_16 rfl (lv_at hl 0 rfl) ?_
  refine w_get (fs := [.ref (a 6), .ref (a 7), .ref (a 8), .ref (a 9), .int (r_ln z1)]) S hK hw 0 rfl rfl i_Prog 0 (by decide) k_75 rfl d_Pr_add_17 ?_
  refine lv_aload_n S.1 S.2.1 d_Pr_add_20 rfl (lv_at hl 0 rfl) ?_
  refine w_get (fs := [.ref (a 6), .ref (a 7), .ref (a 8), .ref (a 9), .int (r_ln z1)]) S hK hw 0 rfl rfl i_Prog 4 (by decide) k_88 rfl d_Pr_add_21 ?_
  refine lv_aload_n S.1 S.2.1 d_Pr_add_24 rfl (lv_at hl 1 rfl) ?_
  rw [hln]
  refine va_astqM S.1 S.2.1 hK hw.1 hw.2.1 hw.2.2 1 3 rfl rfl (en_any hE hw hk) (vp_in_nI (N := r_opN z1) hn (by omega)) d_Pr_add_25 (fun H locs h1 h2 h3 => ?_)
  rw [nI_clamp (by omega)] at h1 h2
  have hfx : va_up (fun j => (r_opF z1 j).map g.1) n (some (g.1 k)) = (fun j => (va_up (r_opF z1) n (some k) j).map g.1) := by
    funext j
    by_cases hj : j = n
    · subst hj; rw [va_up_self, va_up_self]; rfl
    · rw [va_up_ne _ _ hj, va_up_ne _ _ hj]
  rw [hfx] at h1 h2
  have hw : wd x A s.heap (prl x g b a (rs_opF z1 (va_up (r_opF z1) n (some k))) ++ ex) H locs := ⟨h1, h2, h3⟩
  refine lv_aload_n S.1 S.2.1 d_Pr_add_26 rfl (lv_at hl 0 rfl) ?_
  refine w_get (fs := [.ref (a 6), .ref (a 7), .ref (a 8), .ref (a 9), .int (r_ln z1)]) S hK hw 0 rfl rfl i_Prog 1 (by decide) k_77 rfl d_Pr_add_27 ?_
  refine lv_aload_n S.1 S.2.1 d_Pr_add_30 rfl (lv_at hl 0 rfl) ?_
  refine w_get (fs := [.ref (a 6), .ref (a 7), .ref (a 8), .ref (a 9), .int (r_ln z1)]) S hK hw 0 rfl rfl i_Prog 4 (by decide) k_88 rfl d_Pr_add_31 ?_
  refine lv_iload_n S.1 S.2.1 d_Pr_add_34 rfl (lv_at hl 2 rfl) ?_
  rw [hln]
  refine w_iast S hK hw 2 rfl (vp_in_nI (N := r_xN z1) (by omega) (by omega)) rfl d_Pr_add_35 (fun H locs hw => ?_)
  rw [nI_clamp (by omega)] at hw
  have hw : wd x A s.heap (prl x g b a (rs_xF (rs_opF z1 (va_up (r_opF z1) n (some k))) (upd (r_xF z1) n v)) ++ ex) H locs := hw
  refine lv_aload_n S.1 S.2.1 d_Pr_add_36 rfl (lv_at hl 0 rfl) ?_
  refine w_get (fs := [.ref (a 6), .ref (a 7), .ref (a 8), .ref (a 9), .int (r_ln z1)]) S hK hw 0 rfl rfl i_Prog 2 (by decide) k_81 rfl d_Pr_add_37 ?_
  refine lv_aload_n S.1 S.2.1 d_Pr_add_40 rfl (lv_at hl 0 rfl) ?_
  refine w_get (fs := [.ref (a 6), .ref (a 7), .ref (a 8), .ref (a 9), .int (r_ln z1)]) S hK hw 0 rfl rfl i_Prog 4 (by decide) k_88 rfl d_Pr_add_41 ?_
  refine lv_iload_n S.1 S.2.1 d_Pr_add_44 rfl (lv_at hl 3 rfl) ?_
  rw [hln]
  refine w_iast S hK hw 3 rfl (vp_in_nI (N := r_yN z1) (by omega) (by omega)) rfl d_Pr_add_45 (fun H locs hw => ?_)
  rw [nI_clamp (by omega)] at hw
  have hw : wd x A s.heap (prl x g b a (rs_yF (rs_xF (rs_opF z1 (va_up (r_opF z1) n (some k))) (upd (r_xF z1) n v)) (upd (r_yF z1) n w)) ++ ex) H locs := hw
  refine lv_aload_n S.1 S.2.1 d_Pr_add_46 rfl (lv_at hl 0 rfl) ?_
  refine lv_dup S.1 S.2.1 d_Pr_add_47 rfl ?_
  refine w_get (fs := [.ref (a 6), .ref (a 7), .ref (a 8), .ref (a 9), .int (r_ln z1)]) S hK hw 0 rfl rfl i_Prog 4 (by decide) k_88 rfl d_Pr_add_48 ?_
  rw [hln]
  refine lv_iconst (v := 1) S.1 S.2.1 d_Pr_add_51 (by decide) ?_
  refine lv_iadd S.1 S.2.1 d_Pr_add_52 ?_
  rw [nI_1]
  refine w_put S hK hw 0 rfl rfl i_Prog t_Prog t_Prog_ok n_Prog 4 (by decide) k_88 rfl rfl rfl (Nat.le_of_ble_eq_true rfl) rfl d_Pr_add_53 (fun H locs hw => ?_)
  have hw : wd x A s.heap (prl x g b a (prPut z1 k v w n) ++ ex) H locs := hw
  refine lv_aload_n S.1 S.2.1 d_Pr_add_56 rfl (lv_at hl 0 rfl) ?_
  refine w_get (fs := [.ref (a 6), .ref (a 7), .ref (a 8), .ref (a 9), .int (nI (n + 1))]) S hK hw 0 rfl rfl i_Prog 4 (by decide) k_88 rfl d_Pr_add_57 ?_
  refine lv_iconst (v := 1) S.1 S.2.1 d_Pr_add_60 (by decide) ?_
  refine lv_isub S.1 S.2.1 d_Pr_add_61 ?_
  rw [nI_pred]
  refine W.widen (k := bc) (n := bs) hkc hnc ?_
  exact w_iretE S hr hlk hw hQ d_Pr_add_62
end PA
set_option maxHeartbeats 4000000 in
theorem c_Pr_add {x : GX} {g : GE} {b : Nat} {ex : va_W} {a : Nat → Nat} (l : Launch) (bc bs : Nat) (k : Nat) (v w : Int32) (z : PRS) (sz : Nat) (Qc : Int32 → PRS → Prop) (h : P_Pr_add bc bs k v w z Qc) : Met l y_Pr_add (wM y_Pr_add b_Pr_add 4 (some .int)) (rmN 2 bc bs) (PreE x g (prl x g b) ex [.ref b, .ref (g.1 k), .int v, .int w] a z sz) (QeI x (prl x g b) ex (va_A (prl x g b a z ++ ex) sz) Qc) bc bs (va_A (prl x g b a z ++ ex) sz) := by
  refine w_enterE (by decide +kernel) (Nat.le_of_ble_eq_true rfl) (fun p e s m args below meth c S hr hlk hnm hK hE hA hw ls hl => ?_)
  have hl : lv_has ls 4 [(0, .ref b), (1, .ref (g.1 k)), (2, .int v), (3, .int w)] := hl
  obtain ⟨hk, n, hln, hn, hN, hN0, hx, hy, hfull, hQ⟩ := h
  refine lv_aload_n S.1 S.2.1 d_Pr_add_0 rfl (lv_at hl 0 rfl) ?_
  refine w_get (fs := [.ref (a 6), .ref (a 7), .ref (a 8), .ref (a 9), .int (r_ln z)]) S hK hw 0 rfl rfl i_Prog 4 (by decide) k_88 rfl d_Pr_add_1 ?_
  refine lv_aload_n S.1 S.2.1 d_Pr_add_4 rfl (lv_at hl 0 rfl) ?_
  refine w_get (fs := [.ref (a 6), .ref (a 7), .ref (a 8), .ref (a 9), .int (r_ln z)]) S hK hw 0 rfl rfl i_Prog 0 (by decide) k_75 rfl d_Pr_add_5 ?_
  refine va_alen S.1 S.2.1 hK hw.1 (v := nI (r_opN z)) 1 3 rfl rfl rfl d_Pr_add_8 ?_
  rw [hln]
  by_cases hnN : n = r_opN z
  · obtain ⟨hb1, hb2, hf⟩ := hfull hnN
    refine lv_icmp_ne (tgt := 16) S.1 S.2.1 d_Pr_add_9 (by decide) (fun q9 => absurd (by rw [hnN]) q9) (fun _ => ?_)
    refine lv_aload_n S.1 S.2.1 d_Pr_add_12 rfl (lv_at hl 0 rfl) ?_
    refine w_cvE hA hw (w_rvE (rest := []) S hK hE hA hw (c_Pr_grow l z n _ (by omega) hnN.symm (by omega) (by omega) hln hf) (ci := 2) (q0 := 0) rfl rfl (w_cb (fr := 0) (lv := 0) S.2.2.2.2 k_676 k_673 k_6 yd_Pr_grow rfl rfl ⟨by show 1 + 1 ≤ 2; omega, by show 8 + (3 + 11) + 64 * 1 ≤ 64 * 2; omega⟩) k_675 s_14 rfl hl.1 rfl (Nat.le_of_ble_eq_true rfl) d_Pr_add_13 ⟨by show 0 + 3 ≤ bc; omega, by show 0 + 6 * n ≤ bs; omega⟩) (fun z1 a1 H locs h hw => ?_)
    subst h
    have e1 : prAdd z k v w n = prPut (r_growP z) k v w n := by simp only [prAdd, prRoom]; rw [if_pos hnN]
    rw [e1] at hQ
    exact w_Pr_add16 (z1 := r_growP z) S hr hlk hK hE hk hln (by show n < 2 * r_opN z; omega) (by show 2 * r_opN z ≤ _; omega) (by show 2 * r_xN z = 2 * r_opN z; omega) (by show 2 * r_yN z = 2 * r_opN z; omega) (by omega) (by omega) hQ hl hw
  · refine lv_icmp_ne (tgt := 16) S.1 S.2.1 d_Pr_add_9 (by decide) (fun _ => ?_) (fun q9 => absurd ((nI_eq (show n < 2 ^ 31 by omega) (by omega)).mp q9) hnN)
    have e1 : prAdd z k v w n = prPut z k v w n := by simp only [prAdd, prRoom]; rw [if_neg hnN]
    rw [e1] at hQ
    exact w_Pr_add16 S hr hlk hK hE hk hln (by omega) (by omega) hx hy (Nat.zero_le _) (Nat.zero_le _) hQ hl hw
