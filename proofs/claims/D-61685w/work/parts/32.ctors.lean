theorem k_33 : (Cond.instanceMethod ⟨"java/lang/Object", "<init>", "()V"⟩) ∈ lw_tg := kw 33 (by decide +kernel) (by decide +kernel)
theorem k_34 : (Cond.code ⟨"java/lang/Object", "<init>", "()V"⟩ object_method_1_code 1 (Option.none : Option Jvm.ClassFile.FieldType)) ∈ lw_tg := kw 34 (by decide +kernel) (by decide +kernel)
theorem k_40 : (Cond.methodLink "java/lang/StringBuilder" 1 ⟨"java/lang/AbstractStringBuilder", "<init>", "(I)V"⟩) ∈ lw_tg := kw 40 (by decide +kernel) (by decide +kernel)
theorem k_41 : (Cond.instanceMethod ⟨"java/lang/AbstractStringBuilder", "<init>", "(I)V"⟩) ∈ lw_tg := kw 41 (by decide +kernel) (by decide +kernel)
theorem k_42 : (Cond.code ⟨"java/lang/AbstractStringBuilder", "<init>", "(I)V"⟩ prog_13_method_2_code 2 (Option.none : Option Jvm.ClassFile.FieldType)) ∈ lw_tg := kw 42 (by decide +kernel) (by decide +kernel)
theorem k_43 : (Cond.methodLink "java/lang/AbstractStringBuilder" 3 ⟨"java/lang/Object", "<init>", "()V"⟩) ∈ lw_tg := kw 43 (by decide +kernel) (by decide +kernel)
/-! Constructors: StringBuilder, Program -/
section CT
variable {p : Program} {l : Launch} {e : Env} {R : Room} {s : State} {m : MethodId} {args : Array Value} {below : List Frame} {meth : Method} {c : Code} {H H0 : Heap} {locs : List Loc} {cells slots : Nat} {Q : State → Prop}
variable {cc : ByteArray} {nL pc : Nat} {ls : Array Slot} {rest st0 : List Value} {own : String} {x : GX} {g : GE} {A : Nat → Prop} {St : Type} {cl : (Nat → Nat) → St → va_W} {ex ws : va_W} {a : Nat → Nat} {u : St} {mc ms : Nat}
/-- Object.<init> -/
theorem w_obj (S : CallFix p m c cc nL s args lw_tg own) {b idx : Nat} (hsz : ls.size = nL) (hlk : Cond.methodLink own idx objectInit ∈ lw_tg) (hfr : 1 ≤ R.frames) (hlo : (rest.map fun v => v.category).sum + 12 ≤ R.locals) (hdg : decode cc pc = .ok (.invokespecial idx, 3)) (kk : W p l e R s m args below meth c H locs cells slots Q (F0 m (pc + 3) ls rest)) : W p l e R s m args below meth c H locs cells slots Q (F0 m pc ls (.ref b :: rest)) :=
  W.objInit S.1 S.2.1 S.2.2.2.1 (S.2.2.2.2 _ hlk) (S.2.2.2.2 _ k_33) (S.2.2.2.2 _ k_34) rfl (hsz.trans S.2.2.1.symm) rfl hdg hfr (by show 2 * 0 + _ + 12 ≤ _; omega) kk
/-- a constructor's call -/
theorem w_riE (S : CallFix p m c cc nL s args lw_tg own) (hK : GK x s) (hE : EN g A s s.heap) (hA : ∀ q, s.heap.size ≤ q → A q) (hw : wd x A s.heap (cl a u ++ ex) H locs) {y : MethodName} {bytes : ByteArray} {maxL index n b : Nat} {rm : Room} {Qc : Array Value → State → Outcome → State → Prop} {free : Addr → Prop} {As : List Value}
    (hM : Met l y (wM y bytes maxL none) rm (PreE x g cl ex (.ref b :: As) a u H.size) Qc mc ms free)
    (cb : CallB R s args own index y bytes maxL none (wM y bytes maxL none) rm mc ms n) (hy1 : y.name = "<init>") (hins : Cond.instanceMethod y ∈ lw_tg) (hn : As.length = n) (hsz : ls.size = nL) (hst : st0 = As.reverse ++ .ref b :: rest) (hW : (rest.map fun v => v.category).sum ≤ 8) (hdg : decode cc pc = .ok (.invokespecial index, 3)) (hf : cells + mc ≤ R.cells ∧ slots + ms ≤ R.slots) :
    va_Run p l e R s m args below meth c H locs cells slots mc ms (F0 m pc ls st0) rest (Qc (Value.ref b :: As).toArray) free :=
  va_runI S hM ⟨cb, hy1, S.2.2.2.2 _ hins⟩ ⟨PreE.blind, preE hK hE hA hw _⟩ rfl hn hsz hst (lv_room hW) hdg hf
/-- the same, of a nest mate's private constructor -/
theorem w_rinE (S : CallFix p m c cc nL s args lw_tg own) (hK : GK x s) (hE : EN g A s s.heap) (hA : ∀ q, s.heap.size ≤ q → A q) (hw : wd x A s.heap (cl a u ++ ex) H locs) {y : MethodName} {host : String} {bytes : ByteArray} {maxL index n b : Nat} {rm : Room} {Qc : Array Value → State → Outcome → State → Prop} {free : Addr → Prop} {As : List Value}
    (hM : Met l y (wM y bytes maxL none) rm (PreE x g cl ex (.ref b :: As) a u H.size) Qc mc ms free)
    (hcode : Cond.code y bytes maxL none ∈ lw_tg) (hnest : Cond.methodLinkNest own index y host ∈ nestW) (hini : Cond.initialized y.cls ∈ lw_tg) (hd : y.cls ≠ "java/lang/invoke/MethodHandle" ∧ y.cls ≠ "java/lang/invoke/VarHandle" ∧ (parseMethodDescriptor y.desc).map (fun d => d.parameters.length) = some n) (hrc : rm.cells = mc) (hrs : rm.slots = ms) (hR : rm.frames + 1 ≤ R.frames ∧ 8 + (maxL + 11) + rm.locals ≤ R.locals) (hy1 : y.name = "<init>") (hins : Cond.instanceMethod y ∈ lw_tg) (hn : As.length = n) (hsz : ls.size = nL) (hst : st0 = As.reverse ++ .ref b :: rest) (hW : (rest.map fun v => v.category).sum ≤ 8) (hdg : decode cc pc = .ok (.invokespecial index, 3)) (hf : cells + mc ≤ R.cells ∧ slots + ms ≤ R.slots) :
    va_Run p l e R s m args below meth c H locs cells slots mc ms (F0 m pc ls st0) rest (Qc (Value.ref b :: As).toArray) free :=
  va_runIN S hM ⟨va_cnB n S.2.2.2.2 (good_tg hcode) rfl hrc hrs (hE.2.2.2.2.2.2.1 _ hnest) (S.2.2.2.2 _ hini) hd hR, hy1, S.2.2.2.2 _ hins⟩ ⟨PreE.blind, preE hK hE hA hw _⟩ rfl hn hsz hst (lv_room hW) hdg hf
/-- 'new': the cell comes to the head -/
theorem w_new (S : CallFix p m c cc nL s args lw_tg own) (hK : GK x s) (hA : ∀ q, H0.size ≤ q → A q) (hw : wd x A H0 ws H locs) {C : String} {T : u_T} {N index : Nat} (ci : Nat) (hc : classes[ci]? = some (C, T, N)) (hin : ∀ w ∈ u_ws C T N, w ∈ lw_tg) (ty0 : Nat → FieldType) (hty : ∀ k, k < N → parseFieldDescriptor (T k).2.2.1 = some (ty0 k)) (hcl : Cond.classLink own index C ∈ lw_tg) (hi : Cond.instantiable C N ∈ lw_tg) (hini : Cond.initialized C ∈ lw_tg) (fs : List Value) (hfs : ∀ j, j < N → defaultValue (ty0 j) = vp_V fs j) (hcs : cells + 1 ≤ R.cells ∧ slots + N ≤ R.slots) (hdg : decode cc pc = .ok (.new index, 3))
    (kk : ∀ (q : Nat) (H1 : Heap), wd x A H0 ((q, .inr (ci, fs)) :: ws) H1 locs → W p l e R s m args below meth c H1 locs (cells + 1) (slots + N) Q (F0 m (pc + 3) ls (.ref q :: rest))) : W p l e R s m args below meth c H locs cells slots Q (F0 m pc ls rest) := by
  refine va_new (D := (x.1, x.2.1)) (ci := ci) (fs := fs) (C := C) (T := T) (N := N) S.1 S.2.1 S.2.2.2.2 hin ty0 hty S.2.2.2.1 (S.2.2.2.2 _ hcl) (S.2.2.2.2 _ hi) (S.2.2.2.2 _ hini) hK hw.1 hw.2.1 hw.2.2 hA hc hfs hcs.1 hcs.2 hdg (fun q H1 h2 h3 h4 => ?_)
  have h5 : wd x A H0 (ws ++ ([(q, .inr (ci, fs))] ++ [])) H1 locs := ⟨h2, h3, h4⟩
  have h6 := wd_rot h5
  rw [List.append_nil] at h6
  exact kk q H1 h6
/-- 'anewarray': the cell comes to the head -/
theorem w_newq (S : CallFix p m c cc nL s args lw_tg own) (hK : GK x s) (hA : ∀ q, H0.size ≤ q → A q) (hw : wd x A H0 ws H locs) {C : String} {index : Nat} (t0 : Nat) (ht : (tysG x.2.2)[t0]? = some (x.2.2 t0, .object C)) (hcl : Cond.classLink own index C ∈ lw_tg) (hov : va_AO C s) {n : Int32} (N : Nat) (hn : n = nI N) (hN : N ≤ 2 ^ 27) (hcs : cells + 1 ≤ R.cells ∧ slots + N ≤ R.slots) (hdg : decode cc pc = .ok (.anewarray index, 3))
    (kk : ∀ (q : Nat) (H1 : Heap), wd x A H0 ((q, .inl (x.2.2 t0, N, .inr (.inr (.inr (.inr (fun _ => none)))))) :: ws) H1 locs → W p l e R s m args below meth c H1 locs (cells + 1) (slots + N) Q (F0 m (pc + 3) ls (.ref q :: rest))) : W p l e R s m args below meth c H locs cells slots Q (F0 m pc ls (.int n :: rest)) := by
  subst hn
  refine va_newq S.1 S.2.1 S.2.2.2.1 (S.2.2.2.2 _ hcl) hov hK hw.1 hw.2.1 hw.2.2 hA (nI_pos (by omega)) (nI_clamp (by omega)) (by omega) hcs.1 hcs.2 hdg (fun q cA H1 h1 h2 h3 h4 => ?_)
  have e1 := (h1.2 (tysG x.2.2).length (cA, .object C) (by rw [List.getElem?_append_right (Nat.le_refl _), Nat.sub_self]; rfl)).2
  have e2 := (hK.2 t0 _ ht).2
  obtain ⟨_, _, _, _, _, e1⟩ := e1
  obtain ⟨_, _, _, _, _, e2⟩ := e2
  have e3 : cA = x.2.2 t0 := Option.some.inj (e1.symm.trans e2)
  subst e3
  have h5 : wd x A H0 (ws ++ ([(q, .inl (x.2.2 t0, N, .inr (.inr (.inr (.inr (fun _ => none))))))] ++ [])) H1 locs := ⟨h2, h3, h4⟩
  have h6 := wd_rot h5
  rw [List.append_nil] at h6
  exact kk q H1 h6
end CT
/-- a cell of a new object -/
def ncl (ci : Nat) (b : Nat) (fs : List Value) (_ : Nat → Nat) (_ : Unit) : va_W := [(b, .inr (ci, fs))]
def sb0 : SBS := (16, fun _ => 0, 0, 0, 0)
abbrev b_A_init : ByteArray := prog_13_method_2_code
def y_A_init : MethodName := ⟨"java/lang/AbstractStringBuilder", "<init>", "(I)V"⟩
theorem yd_A_init : y_A_init.cls ≠ "java/lang/invoke/MethodHandle" ∧ y_A_init.cls ≠ "java/lang/invoke/VarHandle" ∧ (parseMethodDescriptor y_A_init.desc).map (fun d => d.parameters.length) = some 1 := by decide +kernel
theorem d_A_init_0 : decode b_A_init 0 = .ok (.aload_n 0, 1) := by decide +kernel
theorem d_A_init_1 : decode b_A_init 1 = .ok (.invokespecial 3, 3) := by decide +kernel
theorem d_A_init_4 : decode b_A_init 4 = .ok (.getstatic 18, 3) := by decide +kernel
theorem d_A_init_7 : decode b_A_init 7 = .ok (.ifCond .eq 18, 3) := by decide +kernel
theorem d_A_init_10 : decode b_A_init 10 = .ok (.aload_n 0, 1) := by decide +kernel
theorem d_A_init_11 : decode b_A_init 11 = .ok (.iload_n 1, 1) := by decide +kernel
theorem d_A_init_12 : decode b_A_init 12 = .ok (.newarray .byte, 2) := by decide +kernel
theorem d_A_init_14 : decode b_A_init 14 = .ok (.putfield 15, 3) := by decide +kernel
theorem d_A_init_17 : decode b_A_init 17 = .ok (.aload_n 0, 1) := by decide +kernel
theorem d_A_init_18 : decode b_A_init 18 = .ok (.iconst 0, 1) := by decide +kernel
theorem d_A_init_19 : decode b_A_init 19 = .ok (.putfield 22, 3) := by decide +kernel
theorem d_A_init_22 : decode b_A_init 22 = .ok (.goto 16, 3) := by decide +kernel
theorem d_A_init_25 : decode b_A_init 25 = .ok (.aload_n 0, 1) := by decide +kernel
theorem d_A_init_26 : decode b_A_init 26 = .ok (.iload_n 1, 1) := by decide +kernel
theorem d_A_init_27 : decode b_A_init 27 = .ok (.invokestatic 26, 3) := by decide +kernel
theorem d_A_init_30 : decode b_A_init 30 = .ok (.putfield 15, 3) := by decide +kernel
theorem d_A_init_33 : decode b_A_init 33 = .ok (.aload_n 0, 1) := by decide +kernel
theorem d_A_init_34 : decode b_A_init 34 = .ok (.iconst 1, 1) := by decide +kernel
theorem d_A_init_35 : decode b_A_init 35 = .ok (.putfield 22, 3) := by decide +kernel
theorem d_A_init_38 : decode b_A_init 38 = .ok (.return_, 1) := by decide +kernel
abbrev b_SB_init : ByteArray := prog_21_method_1_code
def y_SB_init : MethodName := ⟨"java/lang/StringBuilder", "<init>", "()V"⟩
theorem yd_SB_init : y_SB_init.cls ≠ "java/lang/invoke/MethodHandle" ∧ y_SB_init.cls ≠ "java/lang/invoke/VarHandle" ∧ (parseMethodDescriptor y_SB_init.desc).map (fun d => d.parameters.length) = some 0 := by decide +kernel
theorem d_SB_init_0 : decode b_SB_init 0 = .ok (.aload_n 0, 1) := by decide +kernel
theorem d_SB_init_1 : decode b_SB_init 1 = .ok (.bipush 16, 2) := by decide +kernel
theorem d_SB_init_3 : decode b_SB_init 3 = .ok (.invokespecial 1, 3) := by decide +kernel
theorem d_SB_init_6 : decode b_SB_init 6 = .ok (.return_, 1) := by decide +kernel
set_option maxHeartbeats 4000000 in
theorem c_A_init {x : GX} {g : GE} {b : Nat} {ex : va_W} {a : Nat → Nat} (l : Launch) (sz : Nat) : Met l y_A_init (wM y_A_init b_A_init 2 none) (rmN 1 1 16) (PreE x g (ncl 3 b [.null, .int 0, .int 0, .int 0]) ex [.ref b, .int 16] a () sz) (QeV x (scl x b) ex (va_A (ncl 3 b [.null, .int 0, .int 0, .int 0] a () ++ ex) sz) (fun z => z = sb0)) 1 16 (va_A (ncl 3 b [.null, .int 0, .int 0, .int 0] a () ++ ex) sz) := by
  refine w_enterE (by decide +kernel) (Nat.le_of_ble_eq_true rfl) (fun p e s m args below meth c S hr hlk hnm hK hE hA hw ls hl => ?_)
  have hl : lv_has ls 2 [(0, .ref b), (1, .int 16)] := hl
  refine lv_aload_n S.1 S.2.1 d_A_init_0 rfl (lv_at hl 0 rfl) ?_
  refine w_obj S hl.1 k_43 (Nat.le_of_ble_eq_true rfl) (Nat.le_of_ble_eq_true rfl) d_A_init_1 ?_
  refine va_gets S.1 S.2.1 hE.2.1 hw.2.2 S.2.2.2.1 (S.2.2.2.2 _ k_44) (fun _ h9 => h9) d_A_init_4 ?_
  refine lv_if_eq (tgt := 25) S.1 S.2.1 d_A_init_7 (by decide) (fun q => absurd q (by decide)) (fun _ => ?_)
  refine lv_aload_n S.1 S.2.1 d_A_init_10 rfl (lv_at hl 0 rfl) ?_
  refine lv_iload_n S.1 S.2.1 d_A_init_11 rfl (lv_at hl 1 rfl) ?_
  refine w_newB S hK hA hw 16 (by decide) (by decide) ⟨by decide, by decide⟩ k_66 d_A_init_12 (fun q H hw => ?_)
  refine w_put S hK hw 1 rfl rfl i_SB t_SB t_SB_ok n_SB 0 (by decide) k_53 rfl rfl rfl (Nat.le_of_ble_eq_true rfl) rfl d_A_init_14 (fun H locs hw => ?_)
  have hw : wd x _ _ (scl x b (fun _ => q) sb0 ++ ex) H locs := wd_rot (l1 := [(q, .inl (x.2.2 2, 16, .inl (fun _ => 0)))]) (wc := [(b, .inr (3, [.ref q, .int 0, .int 0, .int 0]))]) (l2 := ex) hw
  refine lv_aload_n S.1 S.2.1 d_A_init_17 rfl (lv_at hl 0 rfl) ?_
  refine lv_iconst (v := 0) S.1 S.2.1 d_A_init_18 (by decide) ?_
  refine sp_coder S hK hw (by decide +kernel) d_A_init_19 (fun H locs hw => ?_)
  refine lv_goto (tgt := 38) S.1 S.2.1 d_A_init_22 (by decide) ?_
  refine W.widen (k := 1) (n := 16) (by decide) (by decide) ?_
  exact w_vretE S hr hlk hw rfl d_A_init_38
set_option maxHeartbeats 4000000 in
theorem c_SB_init {x : GX} {g : GE} {b : Nat} {ex : va_W} {a : Nat → Nat} (l : Launch) (sz : Nat) : Met l y_SB_init (wM y_SB_init b_SB_init 1 none) (rmN 2 1 16) (PreE x g (ncl 3 b [.null, .int 0, .int 0, .int 0]) ex [.ref b] a () sz) (QeV x (scl x b) ex (va_A (ncl 3 b [.null, .int 0, .int 0, .int 0] a () ++ ex) sz) (fun z => z = sb0)) 1 16 (va_A (ncl 3 b [.null, .int 0, .int 0, .int 0] a () ++ ex) sz) := by
  refine w_enterE (by decide +kernel) (Nat.le_of_ble_eq_true rfl) (fun p e s m args below meth c S hr hlk hnm hK hE hA hw ls hl => ?_)
  have hl : lv_has ls 1 [(0, .ref b)] := hl
  refine lv_aload_n S.1 S.2.1 d_SB_init_0 rfl (lv_at hl 0 rfl) ?_
  refine lv_bipush (v := 16) S.1 S.2.1 d_SB_init_1 (by decide) ?_
  have hF := wd_free hA hw
  refine va_callv (w_riE (rest := []) S hK hE hA hw (c_A_init l _) (w_cb (fr := 0) (lv := 0) S.2.2.2.2 k_42 k_40 k_2 yd_A_init rfl rfl ⟨Nat.le_of_ble_eq_true rfl, Nat.le_of_ble_eq_true rfl⟩) rfl k_41 rfl hl.1 rfl (Nat.le_of_ble_eq_true rfl) d_SB_init_3 ⟨by decide, by decide⟩) hw.2.2 (fun q _ h => hF q h) hF (fun z t H1 locs1 ht hvm hq hB hz hk hS => ?_)
  obtain ⟨a1, hB1, hB2⟩ := hB
  rw [ht] at hB1
  have hw : wd x _ _ (scl x b a1 z ++ ex) H1 locs1 := ⟨hB1, hB2.weaken (fun _ _ _ h => hF _ h), hS⟩
  refine W.widen (k := 1) (n := 16) (by decide) (by decide) ?_
  exact w_vretE S hr hlk hw hq d_SB_init_6
