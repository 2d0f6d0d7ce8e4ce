/-! Generic rows: a world is a list of cells 'cl u' of a state u; a method takes its whole world and gives it back. -/
abbrev GX : Type := (Nat → ClassId) × (Nat → Nat → Nat) × (Nat → ClassId)
abbrev tysG (c : Nat → ClassId) : List (ClassId × FieldType) := [(c 0, .int), (c 1, .long), (c 2, .byte), (c 3, .object "PatternBench$Op"), (c 4, .object "PatternBench$Part"), (c 5, .object "java/lang/Object")]
def GK (x : GX) (s : State) : Prop := va_K (x.1, x.2.1) classes (tysG x.2.2) s
theorem GK.moved {x : GX} {u U : State} (hvm : u.vm.Alike U.vm) (h : GK x u) : GK x U := va_K.moved hvm h
def wd (x : GX) (A : Nat → Prop) (H0 : Heap) (ws : va_W) (H : Heap) (locs : List Loc) : Prop := va_P (x.1, x.2.1) classes ws H ∧ va_D A ws ∧ va_S A H0 H locs
abbrev wM (y : MethodName) (cc : ByteArray) (n : Nat) (ret : Option FieldType) : List Cond := Cond.code y cc n ret :: lw_tg
abbrev rmN (n k q : Nat) : Room := { frames := n, cells := k, slots := q, locals := 64 * n }
def PreC {St : Type} (x : GX) (cl : St → va_W) (av : List Value) (u : St) (sz : Nat) : Array Value → State → Prop := va_Pc av (fun U => U.heap.size = sz ∧ va_P (x.1, x.2.1) classes (cl u) U.heap ∧ GK x U ∧ va_D (fun _ => True) (cl u))
def atC {St : Type} (x : GX) (cl : St → va_W) (A : Nat → Prop) (u : St) (t : State) : Prop := va_P (x.1, x.2.1) classes (cl u) t.heap ∧ GK x t ∧ va_D A (cl u)
def QcI {St : Type} (x : GX) (cl : St → va_W) (A : Nat → Prop) (Qc : Int32 → St → Prop) : Array Value → State → Outcome → State → Prop := va_Qi Qc (atC x cl A) A
def QcV {St : Type} (x : GX) (cl : St → va_W) (A : Nat → Prop) (Qc : St → Prop) : Array Value → State → Outcome → State → Prop := va_Qv Qc (atC x cl A) A
/-- a static method that reads no cell -/
def PreN (av : List Value) : Array Value → State → Prop := va_Pc av (fun _ => True)
def QcN (Qc : Int32 → Prop) : Array Value → State → Outcome → State → Prop := fun _ st oc t => ∃ r : Int32, oc = .returned (some (.int r)) ∧ Qc r ∧ t.heap = st.heap
def isB (v : Int32) : Prop := v = 0 ∨ v = 1
theorem isB.n {v : Int32} (h : isB v) : narrow .boolean (.int v) = .int v := by
  rcases h with rfl | rfl <;> decide +kernel
theorem isB.f {v : Int32} (h : isB v) : fits .boolean (.int v) = true := by
  rcases h with rfl | rfl <;> decide +kernel
theorem isB0 : isB 0 := Or.inl rfl
theorem isB1 : isB 1 := Or.inr rfl
section RW
variable {p : Program} {l : Launch} {e : Env} {R : Room} {s : State} {m : MethodId} {args : Array Value} {below : List Frame} {meth : Method} {c : Code} {H H0 : Heap} {locs : List Loc} {cells slots : Nat} {Q : State → Prop}
variable {cc : ByteArray} {nL pc : Nat} {ls : Array Slot} {rest : List Value} {own : String} {x : GX} {A : Nat → Prop} {ws : va_W}
theorem wd_free (hA : ∀ q, H0.size ≤ q → A q) (hw : wd x A H0 ws H locs) : ∀ q, va_A ws H.size q → A q := by
  intro q h
  rcases h with ⟨k, e, h⟩ | h
  · exact hw.2.1.2 k _ h
  · exact hA q (Nat.le_trans hw.2.2.1 h)
theorem w_get (S : CallFix p m c cc nL s args lw_tg own) (hK : GK x s) (hw : wd x A H0 ws H locs) {C : String} {T : u_T} {N ci index a : Nat} (q0 : Nat) {fs : List Value} (he : ws[q0]? = some (a, .inr (ci, fs))) (hc : classes[ci]? = some (C, T, N)) (hin : ∀ w ∈ u_ws C T N, w ∈ lw_tg) (k : Nat) (hk : k < N) (hlk : Cond.fieldLink own index (T k).1 (T k).2.1 (T k).2.2.1 ∈ lw_tg) {v : Value} (hv : fs[k]? = some v) (hdg : decode cc pc = .ok (.getfield index, 3))
    (kk : W p l e R s m args below meth c H locs cells slots Q (F0 m (pc + 3) ls (v :: rest))) : W p l e R s m args below meth c H locs cells slots Q (F0 m pc ls (.ref a :: rest)) :=
  va_get (D := (x.1, x.2.1)) (ci := ci) (v := v) (C := C) (T := T) (N := N) S.1 S.2.1 S.2.2.2.2 hin S.2.2.2.1 hK hw.1 q0 he hc k hk (S.2.2.2.2 _ hlk) (fun _ h9 => h9) hv hdg kk
theorem w_put (S : CallFix p m c cc nL s args lw_tg own) (hK : GK x s) (hw : wd x A H0 ws H locs) {C : String} {T : u_T} {N ci index a : Nat} (q0 : Nat) {fs : List Value} (he : ws[q0]? = some (a, .inr (ci, fs))) (hc : classes[ci]? = some (C, T, N)) (hin : ∀ w ∈ u_ws C T N, w ∈ lw_tg) (ty0 : Nat → FieldType) (hty : ∀ k, k < N → parseFieldDescriptor (T k).2.2.1 = some (ty0 k)) (hnm : ∀ a, a < N → ∀ b, b < N → a ≠ b → (T a).2.1 ≠ (T b).2.1) (k : Nat) (hk : k < N) (hlk : Cond.fieldLink own index (T k).1 (T k).2.1 (T k).2.2.1 ∈ lw_tg) (hfin : (T k).2.2.2 = false) {v : Value} (hn : narrow (ty0 k) v = v) (hfit : fits (ty0 k) v = true) (hl : k < fs.length) {ws' : va_W} (hws : ws.set q0 (a, .inr (ci, fs.set k v)) = ws') (hdg : decode cc pc = .ok (.putfield index, 3))
    (kk : ∀ (H1 : Heap) (locs1 : List Loc), wd x A H0 ws' H1 locs1 → W p l e R s m args below meth c H1 locs1 cells slots Q (F0 m (pc + 3) ls rest)) : W p l e R s m args below meth c H locs cells slots Q (F0 m pc ls (v :: .ref a :: rest)) := by
  subst hws
  exact va_put (D := (x.1, x.2.1)) (ci := ci) (v := v) (ty := ty0 k) (C := C) (T := T) (N := N) S.1 S.2.1 S.2.2.2.2 hin ty0 hty hnm S.2.2.2.1 hK hw.1 hw.2.1 hw.2.2 q0 he hc k hk (S.2.2.2.2 _ hlk) (fun _ h9 => h9) hfin (hty k hk) hn hfit hl hdg (fun H1 locs1 h1 h2 h3 => kk H1 locs1 ⟨h1, h2, h3⟩)
theorem w_putF (S : CallFix p m c cc nL s args lw_tg own) (hin2 : meth.name = "<init>") (hK : GK x s) (hw : wd x A H0 ws H locs) {C : String} {T : u_T} {N ci index a : Nat} (q0 : Nat) {fs : List Value} (he : ws[q0]? = some (a, .inr (ci, fs))) (hc : classes[ci]? = some (C, T, N)) (hin : ∀ w ∈ u_ws C T N, w ∈ lw_tg) (ty0 : Nat → FieldType) (hty : ∀ k, k < N → parseFieldDescriptor (T k).2.2.1 = some (ty0 k)) (hnm : ∀ a, a < N → ∀ b, b < N → a ≠ b → (T a).2.1 ≠ (T b).2.1) (k : Nat) (hk : k < N) (hlk : Cond.fieldLink own index (T k).1 (T k).2.1 (T k).2.2.1 ∈ lw_tg) (hfin : (T k).2.2.2 = true) (hdecl : (T k).1 = own) {v : Value} (hn : narrow (ty0 k) v = v) (hfit : fits (ty0 k) v = true) (hl : k < fs.length) {ws' : va_W} (hws : ws.set q0 (a, .inr (ci, fs.set k v)) = ws') (hdg : decode cc pc = .ok (.putfield index, 3))
    (kk : ∀ (H1 : Heap) (locs1 : List Loc), wd x A H0 ws' H1 locs1 → W p l e R s m args below meth c H1 locs1 cells slots Q (F0 m (pc + 3) ls rest)) : W p l e R s m args below meth c H locs cells slots Q (F0 m pc ls (v :: .ref a :: rest)) := by
  subst hws
  exact va_putF (D := (x.1, x.2.1)) (ci := ci) (v := v) (ty := ty0 k) (C := C) (T := T) (N := N) S.1 S.2.1 S.2.2.2.2 hin ty0 hty hnm S.2.2.2.1 hK hw.1 hw.2.1 hw.2.2 q0 he hc k hk (S.2.2.2.2 _ hlk) (fun _ h9 => h9) hfin hin2 hdecl (hty k hk) hn hfit hl hdg (fun H1 locs1 h1 h2 h3 => kk H1 locs1 ⟨h1, h2, h3⟩)
theorem w_iald (S : CallFix p m c cc nL s args lw_tg own) (hK : GK x s) (hw : wd x A H0 ws H locs) {a n : Nat} {f : Nat → Int32} (q0 : Nat) (ha : ws[q0]? = some (a, .inl (x.2.2 0, n, .inl f))) {i : Int32} (hin : vp_in i n) (hdg : decode cc pc = .ok (.iaload, 1))
    (kk : W p l e R s m args below meth c H locs cells slots Q (F0 m (pc + 1) ls (.int (f i.toNatClampNeg) :: rest))) : W p l e R s m args below meth c H locs cells slots Q (F0 m pc ls (.int i :: .ref a :: rest)) :=
  va_iald S.1 S.2.1 hK hw.1 q0 0 ha rfl hin hdg kk
theorem w_lald (S : CallFix p m c cc nL s args lw_tg own) (hK : GK x s) (hw : wd x A H0 ws H locs) {a n : Nat} {f : Nat → Int64} (q0 : Nat) (ha : ws[q0]? = some (a, .inl (x.2.2 1, n, .inr (.inl f)))) {i : Int32} (hin : vp_in i n) (hdg : decode cc pc = .ok (.laload, 1))
    (kk : W p l e R s m args below meth c H locs cells slots Q (F0 m (pc + 1) ls (.long (f i.toNatClampNeg) :: rest))) : W p l e R s m args below meth c H locs cells slots Q (F0 m pc ls (.int i :: .ref a :: rest)) :=
  va_lald S.1 S.2.1 hK hw.1 q0 1 ha rfl hin hdg kk
theorem w_iast (S : CallFix p m c cc nL s args lw_tg own) (hK : GK x s) (hw : wd x A H0 ws H locs) {a n : Nat} {f : Nat → Int32} (q0 : Nat) (ha : ws[q0]? = some (a, .inl (x.2.2 0, n, .inl f))) {i y : Int32} (hin : vp_in i n) {ws' : va_W} (hws : ws.set q0 (a, .inl (x.2.2 0, n, .inl (upd f i.toNatClampNeg y))) = ws') (hdg : decode cc pc = .ok (.iastore, 1))
    (kk : ∀ (H1 : Heap) (locs1 : List Loc), wd x A H0 ws' H1 locs1 → W p l e R s m args below meth c H1 locs1 cells slots Q (F0 m (pc + 1) ls rest)) : W p l e R s m args below meth c H locs cells slots Q (F0 m pc ls (.int y :: .int i :: .ref a :: rest)) := by
  subst hws
  exact va_iast S.1 S.2.1 hK hw.1 hw.2.1 hw.2.2 q0 0 ha rfl hin hdg (fun H1 locs1 h1 h2 h3 => kk H1 locs1 ⟨h1, h2, h3⟩)
theorem w_last (S : CallFix p m c cc nL s args lw_tg own) (hK : GK x s) (hw : wd x A H0 ws H locs) {a n : Nat} {f : Nat → Int64} (q0 : Nat) (ha : ws[q0]? = some (a, .inl (x.2.2 1, n, .inr (.inl f)))) {i : Int32} {y : Int64} (hin : vp_in i n) {ws' : va_W} (hws : ws.set q0 (a, .inl (x.2.2 1, n, .inr (.inl (vp_updL f i.toNatClampNeg y)))) = ws') (hdg : decode cc pc = .ok (.lastore, 1))
    (kk : ∀ (H1 : Heap) (locs1 : List Loc), wd x A H0 ws' H1 locs1 → W p l e R s m args below meth c H1 locs1 cells slots Q (F0 m (pc + 1) ls rest)) : W p l e R s m args below meth c H locs cells slots Q (F0 m pc ls (.long y :: .int i :: .ref a :: rest)) := by
  subst hws
  exact va_last S.1 S.2.1 hK hw.1 hw.2.1 hw.2.2 q0 1 ha rfl hin hdg (fun H1 locs1 h1 h2 h3 => kk H1 locs1 ⟨h1, h2, h3⟩)
end RW
/-- the entry of a method that takes its whole world -/
theorem w_enter {St : Type} {l : Launch} {x : GX} {cl : St → va_W} {u : St} {sz : Nat} {av : List Value} {y : MethodName} {cc : ByteArray} {nL : Nat} {ret : Option FieldType} {rm : Room} {Qc : Array Value → State → Outcome → State → Prop} {mc ms : Nat} (hy : plainName y.cls = true) (hlen : (lg_sl av).length ≤ nL)
    (body : ∀ (p : Program) (e : Env) (s : State) (m : MethodId) (args : Array Value) (below : List Frame) (meth : Method) (c : Code), CallFix p m c cc nL s args lw_tg y.cls → meth.sig.returnType = ret → meth.locks = false → meth.name = y.name → GK x s → (∀ q : Nat, s.heap.size ≤ q → va_A (cl u) sz q) → wd x (va_A (cl u) sz) s.heap (cl u) s.heap [] → ∀ ls : Array Slot, lv_has ls nL (lv_args 0 av) →
      W p l e rm s m args below meth c s.heap [] 0 0 (MQ below Qc args s mc ms (va_A (cl u) sz)) (F0 m 0 ls [])) : Met l y (wM y cc nL ret) rm (PreC x cl av u sz) Qc mc ms (va_A (cl u) sz) := by
  refine Met.ofW (cc := cc) (maxL := nL) (ret := ret) hy rfl ?_
  intro p e s m args below meth c s₁ B hml hv
  obtain ⟨rfl, hsz, hP, hK, hD0⟩ := hv
  have hts := atoms_spec (ws := wM y cc nL ret) B.pre
  rw [lg_entry_eq]
  exact body p e s m _ below meth c ⟨B.exec, B.bytes, hml, findClass_of_methodNamed B.named, fun w hw => hts w (List.mem_cons_of_mem _ hw)⟩ B.returns B.notSynchronized (name_of_methodNamed B.named B.method).1 hK (fun q h => Or.inr (by rw [← hsz]; exact h)) ⟨hP, hD0.self, va_S.rf⟩ _ (lv_entry av (n := nL) hlen)
theorem w_enterN {l : Launch} {av : List Value} {y : MethodName} {cc : ByteArray} {nL : Nat} {ret : Option FieldType} {rm : Room} {Qc : Array Value → State → Outcome → State → Prop} {mc ms : Nat} {free : Addr → Prop} (hy : plainName y.cls = true) (hlen : (lg_sl av).length ≤ nL)
    (body : ∀ (p : Program) (e : Env) (s : State) (m : MethodId) (args : Array Value) (below : List Frame) (meth : Method) (c : Code), CallFix p m c cc nL s args lw_tg y.cls → meth.sig.returnType = ret → meth.locks = false → ∀ ls : Array Slot, lv_has ls nL (lv_args 0 av) →
      W p l e rm s m args below meth c s.heap [] 0 0 (MQ below Qc args s mc ms free) (F0 m 0 ls [])) : Met l y (wM y cc nL ret) rm (PreN av) Qc mc ms free := by
  refine Met.ofW (cc := cc) (maxL := nL) (ret := ret) hy rfl ?_
  intro p e s m args below meth c s₁ B hml hv
  obtain ⟨rfl, -⟩ := hv
  have hts := atoms_spec (ws := wM y cc nL ret) B.pre
  rw [lg_entry_eq]
  exact body p e s m _ below meth c ⟨B.exec, B.bytes, hml, findClass_of_methodNamed B.named, fun w hw => hts w (List.mem_cons_of_mem _ hw)⟩ B.returns B.notSynchronized _ (lv_entry av (n := nL) hlen)
section RR
variable {p : Program} {l : Launch} {e : Env} {R : Room} {s : State} {m : MethodId} {args : Array Value} {below : List Frame} {meth : Method} {c : Code} {H : Heap} {locs : List Loc} {cells slots : Nat}
variable {cc : ByteArray} {nL pc : Nat} {ls : Array Slot} {own : String} {x : GX} {A : Nat → Prop} {St : Type} {cl : St → va_W} {u : St}
theorem w_iret (S : CallFix p m c cc nL s args lw_tg own) (hr : meth.sig.returnType = some .int) (hlk : meth.locks = false) (hK : GK x s) {Qc : Int32 → St → Prop} {v : Int32} (hw : wd x A s.heap (cl u) H locs) (h : Qc v u) (hdg : decode cc pc = .ok (.ireturn, 1)) :
    W p l e R s m args below meth c H locs cells slots (MQ below (QcI x cl A Qc) args s cells slots A) (F0 m pc ls [.int v]) :=
  W.iret (v := v) S.1 S.2.1 hr (fun t ht hW => ⟨⟨v, u, rfl, h, by rw [ht]; exact hw.1, GK.moved hW.alike hK, hw.2.1⟩, hw.2.2.F ht⟩) hw.2.2.2.2 hdg hlk
theorem w_zret (S : CallFix p m c cc nL s args lw_tg own) (hr : meth.sig.returnType = some .boolean) (hlk : meth.locks = false) (hK : GK x s) {Qc : Int32 → St → Prop} {v : Int32} (hb : isB v) (hw : wd x A s.heap (cl u) H locs) (h : Qc v u) (hdg : decode cc pc = .ok (.ireturn, 1)) :
    W p l e R s m args below meth c H locs cells slots (MQ below (QcI x cl A Qc) args s cells slots A) (F0 m pc ls [.int v]) :=
  W.zret (v := v) S.1 S.2.1 hr hb.n (fun t ht hW => ⟨⟨v, u, rfl, h, by rw [ht]; exact hw.1, GK.moved hW.alike hK, hw.2.1⟩, hw.2.2.F ht⟩) hw.2.2.2.2 hdg hlk
theorem w_vret (S : CallFix p m c cc nL s args lw_tg own) (hr : meth.sig.returnType = none) (hlk : meth.locks = false) (hK : GK x s) {Qc : St → Prop} (hw : wd x A s.heap (cl u) H locs) (h : Qc u) (hdg : decode cc pc = .ok (.return_, 1)) :
    W p l e R s m args below meth c H locs cells slots (MQ below (QcV x cl A Qc) args s cells slots A) (F0 m pc ls []) :=
  W.vret S.1 S.2.1 hr (fun t ht hW => ⟨⟨u, rfl, h, by rw [ht]; exact hw.1, GK.moved hW.alike hK, hw.2.1⟩, hw.2.2.F ht⟩) hw.2.2.2.2 hdg hlk
theorem w_zretN (S : CallFix p m c cc nL s args lw_tg own) (hr : meth.sig.returnType = some .boolean) (hlk : meth.locks = false) {Qc : Int32 → Prop} {v : Int32} (hb : isB v) (h : Qc v) (hdg : decode cc pc = .ok (.ireturn, 1)) :
    W p l e R s m args below meth c s.heap [] cells slots (MQ below (QcN Qc) args s cells slots (fun _ => False)) (F0 m pc ls [.int v]) :=
  W.zret (v := v) S.1 S.2.1 hr hb.n (fun t ht hW => ⟨v, rfl, h, ht⟩) (fun q h => by cases h) hdg hlk
theorem w_iretN (S : CallFix p m c cc nL s args lw_tg own) (hr : meth.sig.returnType = some .int) (hlk : meth.locks = false) {Qc : Int32 → Prop} {v : Int32} (h : Qc v) (hdg : decode cc pc = .ok (.ireturn, 1)) :
    W p l e R s m args below meth c s.heap [] cells slots (MQ below (QcN Qc) args s cells slots (fun _ => False)) (F0 m pc ls [.int v]) :=
  W.iret (v := v) S.1 S.2.1 hr (fun t ht hW => ⟨v, rfl, h, ht⟩) (fun q h => by cases h) hdg hlk
end RR
/-! calls -/
theorem PreC.blind {St : Type} {x : GX} {cl : St → va_W} {av : List Value} {u : St} {sz : Nat} : FrameBlind (PreC x cl av u sz) := fun a U g mk q => by
  obtain ⟨q0, q1, qP, qK, qD⟩ := q
  exact ⟨q0, q1, qP, GK.moved (u := U) (U := U.calling g mk a) (Vm.Alike.refl U.vm) qK, qD⟩
section RC
variable {p : Program} {l : Launch} {e : Env} {R : Room} {s : State} {m : MethodId} {args : Array Value} {below : List Frame} {meth : Method} {c : Code} {H H0 : Heap} {locs : List Loc} {cells slots : Nat} {Q : State → Prop}
variable {cc : ByteArray} {nL pc : Nat} {ls : Array Slot} {rest st0 : List Value} {own : String} {x : GX} {A : Nat → Prop} {St : Type} {cl : St → va_W} {u : St} {mc ms : Nat}
/-- what the tables say of a call of y, found at 'index' of own's pool -/
theorem w_cb (hts : ∀ w ∈ lw_tg, w.before args s = true) {y : MethodName} {bytes : ByteArray} {maxL fr lv index n : Nat} {ret : Option FieldType} {rm : Room} (hcode : Cond.code y bytes maxL ret ∈ lw_tg) (hlink : Cond.methodLink own index y ∈ lw_tg) (hini : Cond.initialized y.cls ∈ lw_tg) (hd : y.cls ≠ "java/lang/invoke/MethodHandle" ∧ y.cls ≠ "java/lang/invoke/VarHandle" ∧ (parseMethodDescriptor y.desc).map (fun d => d.parameters.length) = some n) (hrc : rm.cells = mc) (hrs : rm.slots = ms) (hR : rm.frames + 1 ≤ R.frames ∧ 8 + (maxL + 11) + rm.locals ≤ R.locals) :
    CallB R s args own index y bytes maxL ret (wM y bytes maxL ret) rm mc ms n :=
  callB_of n hts (good_tg hcode) rfl hrc hrs (hts _ hini) (hts _ hlink) hd hR
theorem w_ci (hA : ∀ q, H0.size ≤ q → A q) (hw : wd x A H0 (cl u) H locs) {Qc : Int32 → St → Prop} {a : Array Value}
    (hr : va_Run p l e R s m args below meth c H locs cells slots mc ms (F0 m pc ls st0) rest (QcI x cl (va_A (cl u) H.size) Qc a) (va_A (cl u) H.size))
    (kk : ∀ (r : Int32) (u : St) (H : Heap) (locs : List Loc), Qc r u → wd x A H0 (cl u) H locs → W p l e R s m args below meth c H locs (cells + mc) (slots + ms) Q (F0 m (pc + 3) ls (.int r :: rest))) : W p l e R s m args below meth c H locs cells slots Q (F0 m pc ls st0) := by
  have hF := wd_free hA hw
  refine va_calli hr hw.2.2 (fun q _ h => hF q h) hF (fun r u1 t H1 locs1 ht hvm hq hB hz hk hS => kk r u1 H1 locs1 hq ⟨?_, ?_, hS⟩)
  · rw [← ht]; exact hB.1
  · exact hB.2.2.weaken (fun _ _ _ h => hF _ h)
theorem w_cv (hA : ∀ q, H0.size ≤ q → A q) (hw : wd x A H0 (cl u) H locs) {Qc : St → Prop} {a : Array Value}
    (hr : va_Run p l e R s m args below meth c H locs cells slots mc ms (F0 m pc ls st0) rest (QcV x cl (va_A (cl u) H.size) Qc a) (va_A (cl u) H.size))
    (kk : ∀ (u : St) (H : Heap) (locs : List Loc), Qc u → wd x A H0 (cl u) H locs → W p l e R s m args below meth c H locs (cells + mc) (slots + ms) Q (F0 m (pc + 3) ls rest)) : W p l e R s m args below meth c H locs cells slots Q (F0 m pc ls st0) := by
  have hF := wd_free hA hw
  refine va_callv hr hw.2.2 (fun q _ h => hF q h) hF (fun u1 t H1 locs1 ht hvm hq hB hz hk hS => kk u1 H1 locs1 hq ⟨?_, ?_, hS⟩)
  · rw [← ht]; exact hB.1
  · exact hB.2.2.weaken (fun _ _ _ h => hF _ h)
theorem w_cn {Qc : Int32 → Prop} {a : Array Value}
    (hr : va_Run p l e R s m args below meth c H locs cells slots 0 0 (F0 m pc ls st0) rest (QcN Qc a) (fun _ => False))
    (kk : ∀ (r : Int32), Qc r → W p l e R s m args below meth c H locs cells slots Q (F0 m (pc + 3) ls (.int r :: rest))) : W p l e R s m args below meth c H locs cells slots Q (F0 m pc ls st0) := by
  intro T hT X
  obtain ⟨v, st₀, t, T', L, h0, X', hL, e1, e2, ⟨r, hv, hq, hh⟩, st⟩ := hr T hT X
  cases hv
  have hL0 : L = [] := by
    cases L with
    | nil => rfl
    | cons q _ => exact absurd (hL q List.mem_cons_self) id
  subst hL0
  rw [List.append_nil] at X'
  obtain ⟨t2, a1, b1⟩ := kk r hq T' (by rw [e1, hh, h0]) X'
  exact ⟨t2, st t2 a1, b1⟩
/-- a virtual call on the world's own object (its cell at place q0 of the world) -/
theorem w_rv (S : CallFix p m c cc nL s args lw_tg own) (hK : GK x s) (hw : wd x A H0 (cl u) H locs) {y : MethodName} {bytes : ByteArray} {maxL index n b : Nat} {ret : Option FieldType} {rm : Room} {Qc : Array Value → State → Outcome → State → Prop} {free : Addr → Prop} {As : List Value}
    (hM : Met l y (wM y bytes maxL ret) rm (PreC x cl (.ref b :: As) u H.size) Qc mc ms free) {ci q0 : Nat} {cq : vw_C} {fs : List Value} (hc : classes[ci]? = some cq) (he : (cl u)[q0]? = some (b, .inr (ci, fs)))
    (cb : CallB R s args own index y bytes maxL ret (wM y bytes maxL ret) rm mc ms n) (hins : Cond.instanceMethod y ∈ lw_tg) (hsel : Cond.selects cq.1 y y ∈ lw_tg) (hn : As.length = n) (hsz : ls.size = nL) (hst : st0 = As.reverse ++ .ref b :: rest) (hW : (rest.map fun v => v.category).sum ≤ 8) (hdg : decode cc pc = .ok (.invokevirtual index, 3)) (hf : cells + mc ≤ R.cells ∧ slots + ms ≤ R.slots) :
    va_Run p l e R s m args below meth c H locs cells slots mc ms (F0 m pc ls st0) rest (Qc (Value.ref b :: As).toArray) free :=
  va_runV S hM ⟨cb, S.2.2.2.2 _ hins, S.2.2.2.2 _ hsel⟩ ⟨PreC.blind, va_recv hK hw.1 hc he, fun U hU hW => ⟨rfl, by rw [hU], by rw [hU]; exact hw.1, GK.moved hW.alike hK, hw.2.1.weaken (fun _ _ _ _ => trivial)⟩⟩ rfl hn hsz hst (lv_room hW) hdg hf
theorem w_rs (S : CallFix p m c cc nL s args lw_tg own) {y : MethodName} {bytes : ByteArray} {maxL index n : Nat} {ret : Option FieldType} {rm : Room} {Qc : Array Value → State → Outcome → State → Prop} {free : Addr → Prop} {As : List Value}
    (hM : Met l y (wM y bytes maxL ret) rm (PreN As) Qc mc ms free)
    (cb : CallB R s args own index y bytes maxL ret (wM y bytes maxL ret) rm mc ms n) (hstt : Cond.static y ∈ lw_tg) (hn : As.length = n) (hsz : ls.size = nL) (hst : st0 = As.reverse ++ rest) (hW : (rest.map fun v => v.category).sum ≤ 8) (hdg : decode cc pc = .ok (.invokestatic index, 3)) (hf : cells + mc ≤ R.cells ∧ slots + ms ≤ R.slots) :
    va_Run p l e R s m args below meth c H locs cells slots mc ms (F0 m pc ls st0) rest (Qc As.toArray) free :=
  va_runS S hM ⟨cb, S.2.2.2.2 _ hstt⟩ ⟨fun a U g mk q => q, fun U hU hW => ⟨rfl, trivial⟩⟩ rfl hn hsz hst (lv_room hW) hdg hf
end RC
