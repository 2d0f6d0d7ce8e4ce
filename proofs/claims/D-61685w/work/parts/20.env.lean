/-! What the Statement says of constants, for the class itself: enum constants, statics, one String; and contracts over worlds 'cl a u ++ ex' (ex: cells that the callee leaves alone) -/
abbrev GE : Type := (Nat → Nat) × (Nat → Nat)
def opNm : List String := ["LETTERS", "BEGIN", "END", "BACK", "CALL", "STEP", "OPEN", "CLOSE", "SPLIT", "GO", "MARK", "MOVED", "FENCE", "CUT", "LOOK", "NOT", "RETURN"]
def opF : List (String × String × String × List Int32) := [("java/lang/Enum", "ordinal", "I", [0, 1, 2, 3, 4, 5, 6, 7, 8, 9, 10, 11, 12, 13, 14, 15, 16])]
def signs : String := "|()?:=!>[]-^$.*+{}\\"
def signB : List Int32 := [124, 40, 41, 63, 58, 61, 33, 62, 91, 93, 45, 94, 36, 46, 42, 43, 123, 125, 92]
def nestW : List Cond := [.methodLinkNest "PatternBench" 21 ⟨"PatternBench$Program", "<init>", "()V"⟩ "PatternBench", .methodLinkNest "PatternBench" 137 ⟨"PatternBench$Leaf", "<init>", "(LPatternBench$Op;I)V"⟩ "PatternBench", .methodLinkNest "PatternBench" 175 ⟨"PatternBench$Group", "<init>", "(CILPatternBench$Part;)V"⟩ "PatternBench", .methodLinkNest "PatternBench" 123 ⟨"PatternBench$Repeat", "<init>", "(LPatternBench$Part;CIC)V"⟩ "PatternBench", .methodLinkNest "PatternBench" 113 ⟨"PatternBench$Row", "<init>", "(Ljava/util/ArrayList;)V"⟩ "PatternBench", .methodLinkNest "PatternBench" 101 ⟨"PatternBench$Choice", "<init>", "(Ljava/util/ArrayList;)V"⟩ "PatternBench", .methodLinkNest "PatternBench$Program" 32 ⟨"PatternBench", "longer", "([I)[I"⟩ "PatternBench"]
def partC : List String := ["PatternBench$Leaf", "PatternBench$Row", "PatternBench$Choice", "PatternBench$Group", "PatternBench$Repeat"]
abbrev xSize : MethodName := ⟨"PatternBench$Part", "size", "()I"⟩
abbrev xEmit : MethodName := ⟨"PatternBench$Part", "emit", "(LPatternBench$Program;)V"⟩
def castL : List (String × String) := [("PatternBench$Leaf", "PatternBench$Part"), ("PatternBench$Row", "PatternBench$Part"), ("PatternBench$Choice", "PatternBench$Part"), ("PatternBench$Group", "PatternBench$Part"), ("PatternBench$Repeat", "PatternBench$Part"), ("PatternBench$Leaf", "java/lang/Object"), ("PatternBench$Row", "java/lang/Object"), ("PatternBench$Choice", "java/lang/Object"), ("PatternBench$Group", "java/lang/Object"), ("PatternBench$Repeat", "java/lang/Object"), ("PatternBench$Op", "java/lang/Object")]
/-- what the tables say, and no steady word carries -/
def TF (U : State) : Prop := (va_AO "PatternBench$Op" U ∧ va_AO "PatternBench$Part" U ∧ va_AO "java/lang/Object" U) ∧ (∀ C ∈ partC, va_Fw C xSize ⟨C, "size", "()I"⟩ U ∧ va_Fw C xEmit ⟨C, "emit", "(LPatternBench$Program;)V"⟩ U) ∧ (∀ q ∈ castL, va_Nw (.castable q.1 q.2) U)
theorem TF.warm {s U : State} (hW : s.WarmedH U.vm) (h : TF s) : TF U :=
  ⟨⟨h.1.1.moved hW.alike, h.1.2.1.moved hW.alike, h.1.2.2.moved hW.alike⟩, fun C hC => ⟨(h.2.1 C hC).1.moved (by decide) hW.alike, (h.2.1 C hC).2.moved (by decide) hW.alike⟩, fun q hq => va_Nw.warmC hW (h.2.2 q hq)⟩
theorem TF.calling {U : State} {gf : JFrame} {mk : MethodId} {a : Array Value} (h : TF U) : TF (U.calling gf mk a) :=
  ⟨⟨h.1.1.moved (Vm.Alike.refl U.vm), h.1.2.1.moved (Vm.Alike.refl U.vm), h.1.2.2.moved (Vm.Alike.refl U.vm)⟩, fun C hC => ⟨(h.2.1 C hC).1.moved (by decide) (Vm.Alike.refl U.vm), (h.2.1 C hC).2.moved (by decide) (Vm.Alike.refl U.vm)⟩, fun q hq => va_Nw.same (u := U) rfl rfl (h.2.2 q hq)⟩
def EN (g : GE) (A : Nat → Prop) (U : State) (H : Heap) : Prop :=
  va_En "PatternBench$Op" "LPatternBench$Op;" opNm opF g.1 A U H ∧
  va_Z "java/lang/String" "COMPACT_STRINGS" "Z" (.int 1) A U H ∧
  va_Zq "jdk/internal/util/Preconditions" "SIOOBE_FORMATTER" "Ljava/util/function/BiFunction;" A U H ∧
  (va_Z "java/util/ArrayList" "DEFAULTCAPACITY_EMPTY_ELEMENTDATA" "[Ljava/lang/Object;" (.ref (g.2 0)) A U H ∧ va_T (.object "java/lang/Object") (g.2 0) 0 (fun _ => .null) A U H) ∧
  (vk_R "PatternBench" 178 signs (g.2 1) U ∧ vk_S 1 [19] [signB] (fun _ => g.2 1) (fun _ => g.2 2) A U H) ∧
  (va_Mi "[Ljava/lang/Object;" (g.2 3) U ∧ va_Dc U) ∧
  (∀ w ∈ nestW, va_Nw w U) ∧ TF U
theorem EN.go {g : GE} {A A1 : Nat → Prop} {s U : State} {H : Heap} {locs : List Loc} (hW : s.WarmedH U.vm) (hU : U.heap = H) (hS : va_S A s.heap H locs) (hA : ∀ q, A1 q → A q) (h : EN g A s s.heap) : EN g A1 U U.heap := by
  obtain ⟨h1, h2, h3, ⟨h4, h5⟩, ⟨h6, h7⟩, ⟨h8, h9⟩, h10, h11⟩ := h
  have hv := hW.alike
  rw [hU]
  refine ⟨((h1.kept hS.2.1).moved hv).narrow hA, ((h2.kept hS.2.1).moved hv).narrow hA, ((h3.kept hS.2.1).moved hv).narrow hA, ⟨((h4.kept hS.2.1).moved hv).narrow hA, ((h5.kept hS.2.1).moved hv).narrow hA⟩, ⟨vk_R.warm hW h6, ((h7.kept hS.2.1).moved hv).narrow hA⟩, ⟨h8.moved hv, h9.moved hv⟩, ?_, h11.warm hW⟩
  intro w hw
  have h := h10 w hw
  simp only [nestW, List.mem_cons, List.not_mem_nil, or_false] at hw
  rcases hw with rfl | rfl | rfl | rfl | rfl | rfl | rfl <;> exact va_Nw.warmM hW h
theorem EN.calling {g : GE} {A : Nat → Prop} {U : State} {gf : JFrame} {mk : MethodId} {a : Array Value} (h : EN g A U U.heap) : EN g A (U.calling gf mk a) (U.calling gf mk a).heap := by
  obtain ⟨h1, h2, h3, ⟨h4, h5⟩, ⟨h6, h7⟩, ⟨h8, h9⟩, h10, h11⟩ := h
  have hv : U.vm.Alike (U.calling gf mk a).vm := Vm.Alike.refl U.vm
  refine ⟨h1.moved hv, h2.moved hv, h3.moved hv, ⟨h4.moved hv, h5.moved hv⟩, ⟨vk_R.same (u := U) rfl h6, h7.moved hv⟩, ⟨h8.moved hv, h9.moved hv⟩, ?_, h11.calling⟩
  intro w hw
  have h := h10 w hw
  simp only [nestW, List.mem_cons, List.not_mem_nil, or_false] at hw
  rcases hw with rfl | rfl | rfl | rfl | rfl | rfl | rfl <;> exact va_Nw.same (u := U) rfl rfl h
def PreE {St : Type} (x : GX) (g : GE) (cl : (Nat → Nat) → St → va_W) (ex : va_W) (av : List Value) (a : Nat → Nat) (u : St) (sz : Nat) : Array Value → State → Prop := va_Pc av (fun U => U.heap.size = sz ∧ va_P (x.1, x.2.1) classes (cl a u ++ ex) U.heap ∧ GK x U ∧ va_D (fun _ => True) (cl a u ++ ex) ∧ EN g (va_A (cl a u ++ ex) sz) U U.heap)
def atE {St : Type} (x : GX) (cl : (Nat → Nat) → St → va_W) (ex : va_W) (A : Nat → Prop) (u : St) (t : State) : Prop := ∃ a : Nat → Nat, va_P (x.1, x.2.1) classes (cl a u ++ ex) t.heap ∧ va_D A (cl a u ++ ex)
def QeI {St : Type} (x : GX) (cl : (Nat → Nat) → St → va_W) (ex : va_W) (A : Nat → Prop) (Qc : Int32 → St → Prop) : Array Value → State → Outcome → State → Prop := va_Qi Qc (atE x cl ex A) A
def QeV {St : Type} (x : GX) (cl : (Nat → Nat) → St → va_W) (ex : va_W) (A : Nat → Prop) (Qc : St → Prop) : Array Value → State → Outcome → State → Prop := va_Qv Qc (atE x cl ex A) A
/-- an answer that is the cell b -/
def QeT {St : Type} (x : GX) (cl : (Nat → Nat) → St → va_W) (ex : va_W) (A : Nat → Prop) (b : Nat) (Qc : St → Prop) : Array Value → State → Outcome → State → Prop := va_Qr Qc (fun u r t => r = b ∧ atE x cl ex A u t) A
theorem PreE.blind {St : Type} {x : GX} {g : GE} {cl : (Nat → Nat) → St → va_W} {ex : va_W} {av : List Value} {a : Nat → Nat} {u : St} {sz : Nat} : FrameBlind (PreE x g cl ex av a u sz) := fun ar U gf mk q => by
  obtain ⟨q0, q1, qP, qK, qD, qE⟩ := q
  exact ⟨q0, q1, qP, GK.moved (u := U) (U := U.calling gf mk ar) (Vm.Alike.refl U.vm) qK, qD, qE.calling⟩
theorem w_enterE {St : Type} {l : Launch} {x : GX} {g : GE} {cl : (Nat → Nat) → St → va_W} {ex : va_W} {a : Nat → Nat} {u : St} {sz : Nat} {av : List Value} {y : MethodName} {cc : ByteArray} {nL : Nat} {ret : Option FieldType} {rm : Room} {Qc : Array Value → State → Outcome → State → Prop} {mc ms : Nat} (hy : plainFor y = true) (hlen : (lg_sl av).length ≤ nL)
    (body : ∀ (p : Program) (e : Env) (s : State) (m : MethodId) (args : Array Value) (below : List Frame) (meth : Method) (c : Code), CallFix p m c cc nL s args lw_tg y.cls → meth.sig.returnType = ret → meth.locks = false → meth.name = y.name → GK x s → EN g (va_A (cl a u ++ ex) sz) s s.heap → (∀ q : Nat, s.heap.size ≤ q → va_A (cl a u ++ ex) sz q) → wd x (va_A (cl a u ++ ex) sz) s.heap (cl a u ++ ex) s.heap [] → ∀ ls : Array Slot, lv_has ls nL (lv_args 0 av) →
      W p l e rm s m args below meth c s.heap [] 0 0 (MQ below Qc args s mc ms (va_A (cl a u ++ ex) sz)) (F0 m 0 ls [])) : Met l y (wM y cc nL ret) rm (PreE x g cl ex av a u sz) Qc mc ms (va_A (cl a u ++ ex) sz) := by
  refine va_MetF (cc := cc) (maxL := nL) (ret := ret) hy rfl ?_
  intro p e s m args below meth c s₁ B hml hv
  obtain ⟨rfl, hsz, hP, hK, hD0, hE⟩ := hv
  have hts := atoms_spec (ws := wM y cc nL ret) B.pre
  rw [lg_entry_eq]
  exact body p e s m _ below meth c ⟨B.exec, B.bytes, hml, findClass_of_methodNamed B.named, fun w hw => hts w (List.mem_cons_of_mem _ hw)⟩ B.returns B.notSynchronized (name_of_methodNamed B.named B.method).1 hK hE (fun q h => Or.inr (by rw [← hsz]; exact h)) ⟨hP, hD0.self, va_S.rf⟩ _ (lv_entry av (n := nL) hlen)
section ER
variable {p : Program} {l : Launch} {e : Env} {R : Room} {s : State} {m : MethodId} {args : Array Value} {below : List Frame} {meth : Method} {c : Code} {H : Heap} {locs : List Loc} {cells slots : Nat}
variable {cc : ByteArray} {nL pc : Nat} {ls : Array Slot} {own : String} {x : GX} {g : GE} {A : Nat → Prop} {St : Type} {cl : (Nat → Nat) → St → va_W} {ex : va_W} {a : Nat → Nat} {u : St}
theorem w_iretE (S : CallFix p m c cc nL s args lw_tg own) (hr : meth.sig.returnType = some .int) (hlk : meth.locks = false) {Qc : Int32 → St → Prop} {v : Int32} (hw : wd x A s.heap (cl a u ++ ex) H locs) (h : Qc v u) (hdg : decode cc pc = .ok (.ireturn, 1)) :
    W p l e R s m args below meth c H locs cells slots (MQ below (QeI x cl ex A Qc) args s cells slots A) (F0 m pc ls [.int v]) :=
  W.iret (v := v) S.1 S.2.1 hr (fun t ht hW => ⟨⟨v, u, rfl, h, a, by rw [ht]; exact hw.1, hw.2.1⟩, hw.2.2.F ht⟩) hw.2.2.2.2 hdg hlk
theorem w_zretE (S : CallFix p m c cc nL s args lw_tg own) (hr : meth.sig.returnType = some .boolean) (hlk : meth.locks = false) {Qc : Int32 → St → Prop} {v : Int32} (hb : isB v) (hw : wd x A s.heap (cl a u ++ ex) H locs) (h : Qc v u) (hdg : decode cc pc = .ok (.ireturn, 1)) :
    W p l e R s m args below meth c H locs cells slots (MQ below (QeI x cl ex A Qc) args s cells slots A) (F0 m pc ls [.int v]) :=
  W.zret (v := v) S.1 S.2.1 hr hb.n (fun t ht hW => ⟨⟨v, u, rfl, h, a, by rw [ht]; exact hw.1, hw.2.1⟩, hw.2.2.F ht⟩) hw.2.2.2.2 hdg hlk
theorem w_cretE (S : CallFix p m c cc nL s args lw_tg own) (hr : meth.sig.returnType = some .char) (hlk : meth.locks = false) {Qc : Int32 → St → Prop} {v : Int32} (hb : narrow .char (.int v) = .int v) (hw : wd x A s.heap (cl a u ++ ex) H locs) (h : Qc v u) (hdg : decode cc pc = .ok (.ireturn, 1)) :
    W p l e R s m args below meth c H locs cells slots (MQ below (QeI x cl ex A Qc) args s cells slots A) (F0 m pc ls [.int v]) :=
  W.zret (v := v) S.1 S.2.1 hr hb (fun t ht hW => ⟨⟨v, u, rfl, h, a, by rw [ht]; exact hw.1, hw.2.1⟩, hw.2.2.F ht⟩) hw.2.2.2.2 hdg hlk
theorem w_vretE (S : CallFix p m c cc nL s args lw_tg own) (hr : meth.sig.returnType = none) (hlk : meth.locks = false) {Qc : St → Prop} (hw : wd x A s.heap (cl a u ++ ex) H locs) (h : Qc u) (hdg : decode cc pc = .ok (.return_, 1)) :
    W p l e R s m args below meth c H locs cells slots (MQ below (QeV x cl ex A Qc) args s cells slots A) (F0 m pc ls []) :=
  W.vret S.1 S.2.1 hr (fun t ht hW => ⟨⟨u, rfl, h, a, by rw [ht]; exact hw.1, hw.2.1⟩, hw.2.2.F ht⟩) hw.2.2.2.2 hdg hlk
theorem w_tretE (S : CallFix p m c cc nL s args lw_tg own) {n : String} (hr : meth.sig.returnType = some (.object n)) (hlk : meth.locks = false) {Qc : St → Prop} {b : Nat} (hw : wd x A s.heap (cl a u ++ ex) H locs) (h : Qc u) (hdg : decode cc pc = .ok (.areturn, 1)) :
    W p l e R s m args below meth c H locs cells slots (MQ below (QeT x cl ex A b Qc) args s cells slots A) (F0 m pc ls [.ref b]) :=
  W.aret (v := .ref b) S.1 S.2.1 hr (Or.inl ⟨n, rfl⟩) (Or.inr ⟨b, rfl⟩) (fun t ht hW => ⟨⟨u, b, rfl, h, rfl, a, by rw [ht]; exact hw.1, hw.2.1⟩, hw.2.2.F ht⟩) hw.2.2.2.2 hdg hlk
end ER
section EC
variable {p : Program} {l : Launch} {e : Env} {R : Room} {s : State} {m : MethodId} {args : Array Value} {below : List Frame} {meth : Method} {c : Code} {H H0 : Heap} {locs : List Loc} {cells slots : Nat} {Q : State → Prop}
variable {cc : ByteArray} {nL pc : Nat} {ls : Array Slot} {rest st0 : List Value} {own : String} {x : GX} {g : GE} {A : Nat → Prop} {St : Type} {cl : (Nat → Nat) → St → va_W} {ex : va_W} {a : Nat → Nat} {u : St} {mc ms : Nat}
theorem w_ciE (hA : ∀ q, H0.size ≤ q → A q) (hw : wd x A H0 (cl a u ++ ex) H locs) {Qc : Int32 → St → Prop} {ar : Array Value}
    (hr : va_Run p l e R s m args below meth c H locs cells slots mc ms (F0 m pc ls st0) rest (QeI x cl ex (va_A (cl a u ++ ex) H.size) Qc ar) (va_A (cl a u ++ ex) H.size))
    (kk : ∀ (r : Int32) (u : St) (a : Nat → Nat) (H : Heap) (locs : List Loc), Qc r u → wd x A H0 (cl a u ++ ex) H locs → W p l e R s m args below meth c H locs (cells + mc) (slots + ms) Q (F0 m (pc + 3) ls (.int r :: rest))) : W p l e R s m args below meth c H locs cells slots Q (F0 m pc ls st0) := by
  have hF := wd_free hA hw
  refine va_calli hr hw.2.2 (fun q _ h => hF q h) hF (fun r u1 t H1 locs1 ht hvm hq hB hz hk hS => ?_)
  obtain ⟨a1, hB1, hB2⟩ := hB
  refine kk r u1 a1 H1 locs1 hq ⟨?_, ?_, hS⟩
  · rw [← ht]; exact hB1
  · exact hB2.weaken (fun _ _ _ h => hF _ h)
theorem w_cvE (hA : ∀ q, H0.size ≤ q → A q) (hw : wd x A H0 (cl a u ++ ex) H locs) {Qc : St → Prop} {ar : Array Value}
    (hr : va_Run p l e R s m args below meth c H locs cells slots mc ms (F0 m pc ls st0) rest (QeV x cl ex (va_A (cl a u ++ ex) H.size) Qc ar) (va_A (cl a u ++ ex) H.size))
    (kk : ∀ (u : St) (a : Nat → Nat) (H : Heap) (locs : List Loc), Qc u → wd x A H0 (cl a u ++ ex) H locs → W p l e R s m args below meth c H locs (cells + mc) (slots + ms) Q (F0 m (pc + 3) ls rest)) : W p l e R s m args below meth c H locs cells slots Q (F0 m pc ls st0) := by
  have hF := wd_free hA hw
  refine va_callv hr hw.2.2 (fun q _ h => hF q h) hF (fun u1 t H1 locs1 ht hvm hq hB hz hk hS => ?_)
  obtain ⟨a1, hB1, hB2⟩ := hB
  refine kk u1 a1 H1 locs1 hq ⟨?_, ?_, hS⟩
  · rw [← ht]; exact hB1
  · exact hB2.weaken (fun _ _ _ h => hF _ h)
theorem w_ctE (hA : ∀ q, H0.size ≤ q → A q) (hw : wd x A H0 (cl a u ++ ex) H locs) {Qc : St → Prop} {b : Nat} {ar : Array Value}
    (hr : va_Run p l e R s m args below meth c H locs cells slots mc ms (F0 m pc ls st0) rest (QeT x cl ex (va_A (cl a u ++ ex) H.size) b Qc ar) (va_A (cl a u ++ ex) H.size))
    (kk : ∀ (u : St) (a : Nat → Nat) (H : Heap) (locs : List Loc), Qc u → wd x A H0 (cl a u ++ ex) H locs → W p l e R s m args below meth c H locs (cells + mc) (slots + ms) Q (F0 m (pc + 3) ls (.ref b :: rest))) : W p l e R s m args below meth c H locs cells slots Q (F0 m pc ls st0) := by
  have hF := wd_free hA hw
  refine va_callr hr hw.2.2 (fun q _ h => hF q h) hF (fun u1 rb t H1 locs1 ht hvm hq hB hz hk hS => ?_)
  obtain ⟨rfl, a1, hB1, hB2⟩ := hB
  refine kk u1 a1 H1 locs1 hq ⟨?_, ?_, hS⟩
  · rw [← ht]; exact hB1
  · exact hB2.weaken (fun _ _ _ h => hF _ h)
/-- the start of a callee over the world, out of the caller's -/
theorem preE (hK : GK x s) (hE : EN g A s s.heap) (hA : ∀ q, s.heap.size ≤ q → A q) (hw : wd x A s.heap (cl a u ++ ex) H locs) (av : List Value) : ∀ U : State, U.heap = H → s.WarmedH U.vm → PreE x g cl ex av a u H.size av.toArray U :=
  fun U hU hW => ⟨rfl, by rw [hU], by rw [hU]; exact hw.1, GK.moved hW.alike hK, hw.2.1.weaken (fun _ _ _ _ => trivial), EN.go hW hU hw.2.2 (wd_free hA hw) hE⟩
/-- a virtual call of the class's own method on an object of the world -/
theorem w_rvE (S : CallFix p m c cc nL s args lw_tg own) (hK : GK x s) (hE : EN g A s s.heap) (hA : ∀ q, s.heap.size ≤ q → A q) (hw : wd x A s.heap (cl a u ++ ex) H locs) {y : MethodName} {bytes : ByteArray} {maxL index n b : Nat} {ret : Option FieldType} {rm : Room} {Qc : Array Value → State → Outcome → State → Prop} {free : Addr → Prop} {As : List Value}
    (hM : Met l y (wM y bytes maxL ret) rm (PreE x g cl ex (.ref b :: As) a u H.size) Qc mc ms free) {ci q0 : Nat} {cq : vw_C} {fs : List Value} (hc : classes[ci]? = some cq) (he : (cl a u ++ ex)[q0]? = some (b, .inr (ci, fs)))
    (cb : CallB R s args own index y bytes maxL ret (wM y bytes maxL ret) rm mc ms n) (hins : Cond.instanceMethod y ∈ lw_tg) (hsel : Cond.selects cq.1 y y ∈ lw_tg) (hn : As.length = n) (hsz : ls.size = nL) (hst : st0 = As.reverse ++ .ref b :: rest) (hW : (rest.map fun v => v.category).sum ≤ 8) (hdg : decode cc pc = .ok (.invokevirtual index, 3)) (hf : cells + mc ≤ R.cells ∧ slots + ms ≤ R.slots) :
    va_Run p l e R s m args below meth c H locs cells slots mc ms (F0 m pc ls st0) rest (Qc (Value.ref b :: As).toArray) free :=
  va_runV S hM ⟨cb, S.2.2.2.2 _ hins, S.2.2.2.2 _ hsel⟩ ⟨PreE.blind, va_recv hK hw.1 hc he, preE hK hE hA hw _⟩ rfl hn hsz hst (lv_room hW) hdg hf
/-- a static method over the world -/
theorem w_rsE (S : CallFix p m c cc nL s args lw_tg own) (hK : GK x s) (hE : EN g A s s.heap) (hA : ∀ q, s.heap.size ≤ q → A q) (hw : wd x A s.heap (cl a u ++ ex) H locs) {y : MethodName} {bytes : ByteArray} {maxL index n : Nat} {ret : Option FieldType} {rm : Room} {Qc : Array Value → State → Outcome → State → Prop} {free : Addr → Prop} {As : List Value}
    (hM : Met l y (wM y bytes maxL ret) rm (PreE x g cl ex As a u H.size) Qc mc ms free)
    (cb : CallB R s args own index y bytes maxL ret (wM y bytes maxL ret) rm mc ms n) (hstt : Cond.static y ∈ lw_tg) (hn : As.length = n) (hsz : ls.size = nL) (hst : st0 = As.reverse ++ rest) (hW : (rest.map fun v => v.category).sum ≤ 8) (hdg : decode cc pc = .ok (.invokestatic index, 3)) (hf : cells + mc ≤ R.cells ∧ slots + ms ≤ R.slots) :
    va_Run p l e R s m args below meth c H locs cells slots mc ms (F0 m pc ls st0) rest (Qc As.toArray) free :=
  va_runS S hM ⟨cb, S.2.2.2.2 _ hstt⟩ ⟨PreE.blind, preE hK hE hA hw _⟩ rfl hn hsz hst (lv_room hW) hdg hf
end EC
/-! worlds in another order -/
theorem wd_by {x : GX} {A : Nat → Prop} {H0 H : Heap} {locs : List Loc} {ws ws' : va_W} (f : Nat → Nat) (hf : ∀ (k : Nat) (q : Nat × va_E), ws'[k]? = some q → ws[f k]? = some q) (hi : ∀ i j : Nat, i < ws'.length → j < ws'.length → f i = f j → i = j) (h : wd x A H0 ws H locs) : wd x A H0 ws' H locs :=
  ⟨h.1.by f hf, h.2.1.by f hf hi, h.2.2⟩
/-- the part wc comes to the head -/
theorem wd_rot {x : GX} {A : Nat → Prop} {H0 H : Heap} {locs : List Loc} {l1 wc l2 : va_W} (h : wd x A H0 (l1 ++ (wc ++ l2)) H locs) : wd x A H0 (wc ++ (l1 ++ l2)) H locs := by
  refine wd_by (fun k => if k < wc.length then l1.length + k else if k < wc.length + l1.length then k - wc.length else k) ?_ ?_ h
  · intro k q hk
    by_cases h1 : k < wc.length
    · rw [if_pos h1, List.getElem?_append_right (by omega), Nat.add_sub_cancel_left, List.getElem?_append_left h1]
      rwa [List.getElem?_append_left h1] at hk
    · rw [if_neg h1]
      rw [List.getElem?_append_right (by omega)] at hk
      by_cases h2 : k < wc.length + l1.length
      · rw [if_pos h2, List.getElem?_append_left (by omega)]
        rwa [List.getElem?_append_left (by omega)] at hk
      · rw [if_neg h2, List.getElem?_append_right (by omega), List.getElem?_append_right (by omega)]
        rw [List.getElem?_append_right (by omega)] at hk
        rw [← hk]; congr 1; omega
  · intro i j hi hj
    simp only [List.length_append] at hi hj
    split <;> split <;> (try split) <;> (try split) <;> omega
theorem wd_back {x : GX} {A : Nat → Prop} {H0 H : Heap} {locs : List Loc} {l1 wc l2 : va_W} (h : wd x A H0 (wc ++ (l1 ++ l2)) H locs) : wd x A H0 (l1 ++ (wc ++ l2)) H locs := wd_rot h
/-- a cell is dropped -/
theorem wd_drop {x : GX} {A : Nat → Prop} {H0 H : Heap} {locs : List Loc} {l1 l2 : va_W} {q : Nat × va_E} (h : wd x A H0 (l1 ++ q :: l2) H locs) : wd x A H0 (l1 ++ l2) H locs := by
  refine wd_by (fun k => if k < l1.length then k else k + 1) ?_ ?_ h
  · intro k z hk
    by_cases h1 : k < l1.length
    · rw [if_pos h1, List.getElem?_append_left h1]
      rwa [List.getElem?_append_left h1] at hk
    · rw [if_neg h1, List.getElem?_append_right (by omega)]
      rw [List.getElem?_append_right (by omega)] at hk
      rw [show k + 1 - l1.length = (k - l1.length) + 1 by omega, List.getElem?_cons_succ]
      exact hk
  · intro i j hi hj
    split <;> split <;> omega
theorem wd_eq {x : GX} {A : Nat → Prop} {H0 H : Heap} {locs : List Loc} {ws ws' : va_W} (e : ws = ws') (h : wd x A H0 ws H locs) : wd x A H0 ws' H locs := e ▸ h
theorem w_enterNF {l : Launch} {av : List Value} {y : MethodName} {cc : ByteArray} {nL : Nat} {ret : Option FieldType} {rm : Room} {Qc : Array Value → State → Outcome → State → Prop} {mc ms : Nat} {free : Addr → Prop} (hy : plainFor y = true) (hlen : (lg_sl av).length ≤ nL)
    (body : ∀ (p : Program) (e : Env) (s : State) (m : MethodId) (args : Array Value) (below : List Frame) (meth : Method) (c : Code), CallFix p m c cc nL s args lw_tg y.cls → meth.sig.returnType = ret → meth.locks = false → ∀ ls : Array Slot, lv_has ls nL (lv_args 0 av) →
      W p l e rm s m args below meth c s.heap [] 0 0 (MQ below Qc args s mc ms free) (F0 m 0 ls [])) : Met l y (wM y cc nL ret) rm (PreN av) Qc mc ms free := by
  refine va_MetF (cc := cc) (maxL := nL) (ret := ret) hy rfl ?_
  intro p e s m args below meth c s₁ B hml hv
  obtain ⟨rfl, -⟩ := hv
  have hts := atoms_spec (ws := wM y cc nL ret) B.pre
  rw [lg_entry_eq]
  exact body p e s m _ below meth c ⟨B.exec, B.bytes, hml, findClass_of_methodNamed B.named, fun w hw => hts w (List.mem_cons_of_mem _ hw)⟩ B.returns B.notSynchronized _ (lv_entry av (n := nL) hlen)
/-- every word of lw_tg is a good one -/
theorem good_ap {l1 ws : List Cond} (h1 : ∀ w ∈ l1, w ∈ lw_tg) (h2 : GoodIn lw_tg ws) : GoodIn lw_tg (l1 ++ ws) := by
  intro w hw
  rcases List.mem_append.mp hw with h | h
  · exact ⟨h1 w h, good_of_word (tg_good (h1 w h))⟩
  · exact h2 w h
section EU
variable {p : Program} {l : Launch} {e : Env} {R : Room} {s : State} {m : MethodId} {args : Array Value} {below : List Frame} {meth : Method} {c : Code} {H H0 : Heap} {locs : List Loc} {cells slots : Nat} {Q : State → Prop}
variable {cc : ByteArray} {nL pc : Nat} {ls : Array Slot} {rest st0 : List Value} {own : String} {x : GX} {g : GE} {A : Nat → Prop} {St : Type} {cl : (Nat → Nat) → St → va_W} {ex : va_W} {a : Nat → Nat} {u : St} {mc ms : Nat}
/-- a virtual call of an inherited method y on an object of the world -/
theorem w_ruE (S : CallFix p m c cc nL s args lw_tg own) (hK : GK x s) (hE : EN g A s s.heap) (hA : ∀ q, s.heap.size ≤ q → A q) (hw : wd x A s.heap (cl a u ++ ex) H locs) {y : MethodName} {bytes : ByteArray} {maxL index n b : Nat} {ret : Option FieldType} {rm : Room} {Qc : Array Value → State → Outcome → State → Prop} {free : Addr → Prop} {As : List Value}
    (hM : Met l y (wM y bytes maxL ret) rm (PreE x g cl ex (.ref b :: As) a u H.size) Qc mc ms free) {ci q0 : Nat} {cq : vw_C} {fs : List Value} (hc : classes[ci]? = some cq) (he : (cl a u ++ ex)[q0]? = some (b, .inr (ci, fs)))
    (hcode : Cond.code y bytes maxL ret ∈ lw_tg) (hlink : Cond.methodLink own index y ∈ lw_tg) (hini : Cond.initialized y.cls ∈ lw_tg) (hd : y.cls ≠ "java/lang/invoke/MethodHandle" ∧ y.cls ≠ "java/lang/invoke/VarHandle" ∧ (parseMethodDescriptor y.desc).map (fun d => d.parameters.length) = some n) (hrc : rm.cells = mc) (hrs : rm.slots = ms) (hR : rm.frames + 1 ≤ R.frames ∧ 8 + (maxL + 11) + rm.locals ≤ R.locals)
    (hsame : Cond.sameMethod y.cls y.cls y.name y.desc ∈ lw_tg) (hsel : Cond.selects cq.1 y y ∈ lw_tg) (hins : Cond.instanceMethod y ∈ lw_tg) (hn : As.length = n) (hsz : ls.size = nL) (hst : st0 = As.reverse ++ .ref b :: rest) (hW : (rest.map fun v => v.category).sum ≤ 8) (hdg : decode cc pc = .ok (.invokevirtual index, 3)) (hf : cells + mc ≤ R.cells ∧ slots + ms ≤ R.slots) :
    va_Run p l e R s m args below meth c H locs cells slots mc ms (F0 m pc ls st0) rest (Qc (Value.ref b :: As).toArray) free := by
  refine va_runU (x := y) (C := cq.1) (owner := y.cls) S hM (va_cwU n S.2.2.2.2 (good_ap ?_ (good_tg hcode)) rfl hrc hrs rfl hd hR) ⟨PreE.blind, va_recv hK hw.1 hc he, preE hK hE hA hw _⟩ rfl hn hsz hst (lv_room hW) hdg hf
  intro w hw
  simp only [List.mem_cons, List.not_mem_nil, or_false] at hw
  rcases hw with rfl | rfl | rfl | rfl | rfl <;> assumption
/-- super.m(..) on an object of the world -/
theorem w_rsuE (S : CallFix p m c cc nL s args lw_tg own) (hK : GK x s) (hE : EN g A s s.heap) (hA : ∀ q, s.heap.size ≤ q → A q) (hw : wd x A s.heap (cl a u ++ ex) H locs) {y : MethodName} {bytes : ByteArray} {maxL index n b : Nat} {ret : Option FieldType} {rm : Room} {Qc : Array Value → State → Outcome → State → Prop} {free : Addr → Prop} {As : List Value}
    (hM : Met l y (wM y bytes maxL ret) rm (PreE x g cl ex (.ref b :: As) a u H.size) Qc mc ms free) {ci q0 : Nat} {cq : vw_C} {fs : List Value} (hc : classes[ci]? = some cq) (he : (cl a u ++ ex)[q0]? = some (b, .inr (ci, fs)))
    (hcode : Cond.code y bytes maxL ret ∈ lw_tg) (hlink : Cond.methodLink own index y ∈ lw_tg) (hini : Cond.initialized y.cls ∈ lw_tg) (hd : y.cls ≠ "java/lang/invoke/MethodHandle" ∧ y.cls ≠ "java/lang/invoke/VarHandle" ∧ (parseMethodDescriptor y.desc).map (fun d => d.parameters.length) = some n) (hrc : rm.cells = mc) (hrs : rm.slots = ms) (hR : rm.frames + 1 ≤ R.frames ∧ 8 + (maxL + 11) + rm.locals ≤ R.locals)
    (hsame : Cond.sameMethod y.cls y.cls y.name y.desc ∈ lw_tg) (hsup : Cond.superclass own y.cls ∈ lw_tg) (hins : Cond.instanceMethod y ∈ lw_tg) (hno : y.name ≠ "<init>") (hn : As.length = n) (hsz : ls.size = nL) (hst : st0 = As.reverse ++ .ref b :: rest) (hW : (rest.map fun v => v.category).sum ≤ 8) (hdg : decode cc pc = .ok (.invokespecial index, 3)) (hf : cells + mc ≤ R.cells ∧ slots + ms ≤ R.slots) :
    va_Run p l e R s m args below meth c H locs cells slots mc ms (F0 m pc ls st0) rest (Qc (Value.ref b :: As).toArray) free := by
  refine va_runSU (hK.1 ci cq hc).2 S hM (va_cwSU n S.2.2.2.2 (good_ap ?_ (good_tg hcode)) rfl hrc hrs ⟨hno, hd.2.2⟩ hR) ⟨PreE.blind, va_recv hK hw.1 hc he, preE hK hE hA hw _⟩ rfl hn hsz hst (lv_room hW) hdg hf
  intro w hw
  simp only [List.mem_cons, List.not_mem_nil, or_false] at hw
  rcases hw with rfl | rfl | rfl | rfl | rfl <;> assumption
end EU
/-- a world of no cells of its own -/
abbrev ucl : (Nat → Nat) → Unit → va_W := fun _ _ => []
/-! the same, for methods that make no cell: the addresses stay -/
def atF {St : Type} (x : GX) (cl : (Nat → Nat) → St → va_W) (ex : va_W) (a : Nat → Nat) (A : Nat → Prop) (u : St) (t : State) : Prop := va_P (x.1, x.2.1) classes (cl a u ++ ex) t.heap ∧ va_D A (cl a u ++ ex)
def QfI {St : Type} (x : GX) (cl : (Nat → Nat) → St → va_W) (ex : va_W) (a : Nat → Nat) (A : Nat → Prop) (Qc : Int32 → St → Prop) : Array Value → State → Outcome → State → Prop := va_Qi Qc (atF x cl ex a A) A
def QfV {St : Type} (x : GX) (cl : (Nat → Nat) → St → va_W) (ex : va_W) (a : Nat → Nat) (A : Nat → Prop) (Qc : St → Prop) : Array Value → State → Outcome → State → Prop := va_Qv Qc (atF x cl ex a A) A
section FR
variable {p : Program} {l : Launch} {e : Env} {R : Room} {s : State} {m : MethodId} {args : Array Value} {below : List Frame} {meth : Method} {c : Code} {H : Heap} {locs : List Loc} {cells slots : Nat}
variable {cc : ByteArray} {nL pc : Nat} {ls : Array Slot} {own : String} {x : GX} {g : GE} {A : Nat → Prop} {St : Type} {cl : (Nat → Nat) → St → va_W} {ex : va_W} {a : Nat → Nat} {u : St}
theorem w_iretF (S : CallFix p m c cc nL s args lw_tg own) (hr : meth.sig.returnType = some .int) (hlk : meth.locks = false) {Qc : Int32 → St → Prop} {v : Int32} (hw : wd x A s.heap (cl a u ++ ex) H locs) (h : Qc v u) (hdg : decode cc pc = .ok (.ireturn, 1)) :
    W p l e R s m args below meth c H locs cells slots (MQ below (QfI x cl ex a A Qc) args s cells slots A) (F0 m pc ls [.int v]) :=
  W.iret (v := v) S.1 S.2.1 hr (fun t ht hW => ⟨⟨v, u, rfl, h, by rw [ht]; exact hw.1, hw.2.1⟩, hw.2.2.F ht⟩) hw.2.2.2.2 hdg hlk
theorem w_zretF (S : CallFix p m c cc nL s args lw_tg own) (hr : meth.sig.returnType = some .boolean) (hlk : meth.locks = false) {Qc : Int32 → St → Prop} {v : Int32} (hb : isB v) (hw : wd x A s.heap (cl a u ++ ex) H locs) (h : Qc v u) (hdg : decode cc pc = .ok (.ireturn, 1)) :
    W p l e R s m args below meth c H locs cells slots (MQ below (QfI x cl ex a A Qc) args s cells slots A) (F0 m pc ls [.int v]) :=
  W.zret (v := v) S.1 S.2.1 hr hb.n (fun t ht hW => ⟨⟨v, u, rfl, h, by rw [ht]; exact hw.1, hw.2.1⟩, hw.2.2.F ht⟩) hw.2.2.2.2 hdg hlk
theorem w_cretF (S : CallFix p m c cc nL s args lw_tg own) (hr : meth.sig.returnType = some .char) (hlk : meth.locks = false) {Qc : Int32 → St → Prop} {v : Int32} (hb : narrow .char (.int v) = .int v) (hw : wd x A s.heap (cl a u ++ ex) H locs) (h : Qc v u) (hdg : decode cc pc = .ok (.ireturn, 1)) :
    W p l e R s m args below meth c H locs cells slots (MQ below (QfI x cl ex a A Qc) args s cells slots A) (F0 m pc ls [.int v]) :=
  W.zret (v := v) S.1 S.2.1 hr hb (fun t ht hW => ⟨⟨v, u, rfl, h, by rw [ht]; exact hw.1, hw.2.1⟩, hw.2.2.F ht⟩) hw.2.2.2.2 hdg hlk
theorem w_vretF (S : CallFix p m c cc nL s args lw_tg own) (hr : meth.sig.returnType = none) (hlk : meth.locks = false) {Qc : St → Prop} (hw : wd x A s.heap (cl a u ++ ex) H locs) (h : Qc u) (hdg : decode cc pc = .ok (.return_, 1)) :
    W p l e R s m args below meth c H locs cells slots (MQ below (QfV x cl ex a A Qc) args s cells slots A) (F0 m pc ls []) :=
  W.vret S.1 S.2.1 hr (fun t ht hW => ⟨⟨u, rfl, h, by rw [ht]; exact hw.1, hw.2.1⟩, hw.2.2.F ht⟩) hw.2.2.2.2 hdg hlk
end FR
section FC
variable {p : Program} {l : Launch} {e : Env} {R : Room} {s : State} {m : MethodId} {args : Array Value} {below : List Frame} {meth : Method} {c : Code} {H H0 : Heap} {locs : List Loc} {cells slots : Nat} {Q : State → Prop}
variable {cc : ByteArray} {nL pc : Nat} {ls : Array Slot} {rest st0 : List Value} {own : String} {x : GX} {g : GE} {A : Nat → Prop} {St : Type} {cl : (Nat → Nat) → St → va_W} {ex : va_W} {a : Nat → Nat} {u : St} {mc ms : Nat}
theorem w_ciF (hA : ∀ q, H0.size ≤ q → A q) (hw : wd x A H0 (cl a u ++ ex) H locs) {Qc : Int32 → St → Prop} {ar : Array Value}
    (hr : va_Run p l e R s m args below meth c H locs cells slots mc ms (F0 m pc ls st0) rest (QfI x cl ex a (va_A (cl a u ++ ex) H.size) Qc ar) (va_A (cl a u ++ ex) H.size))
    (kk : ∀ (r : Int32) (u : St) (H : Heap) (locs : List Loc), Qc r u → wd x A H0 (cl a u ++ ex) H locs → W p l e R s m args below meth c H locs (cells + mc) (slots + ms) Q (F0 m (pc + 3) ls (.int r :: rest))) : W p l e R s m args below meth c H locs cells slots Q (F0 m pc ls st0) := by
  have hF := wd_free hA hw
  refine va_calli hr hw.2.2 (fun q _ h => hF q h) hF (fun r u1 t H1 locs1 ht hvm hq hB hz hk hS => ?_)
  obtain ⟨hB1, hB2⟩ := hB
  refine kk r u1 H1 locs1 hq ⟨?_, ?_, hS⟩
  · rw [← ht]; exact hB1
  · exact hB2.weaken (fun _ _ _ h => hF _ h)
theorem w_cvF (hA : ∀ q, H0.size ≤ q → A q) (hw : wd x A H0 (cl a u ++ ex) H locs) {Qc : St → Prop} {ar : Array Value}
    (hr : va_Run p l e R s m args below meth c H locs cells slots mc ms (F0 m pc ls st0) rest (QfV x cl ex a (va_A (cl a u ++ ex) H.size) Qc ar) (va_A (cl a u ++ ex) H.size))
    (kk : ∀ (u : St) (H : Heap) (locs : List Loc), Qc u → wd x A H0 (cl a u ++ ex) H locs → W p l e R s m args below meth c H locs (cells + mc) (slots + ms) Q (F0 m (pc + 3) ls rest)) : W p l e R s m args below meth c H locs cells slots Q (F0 m pc ls st0) := by
  have hF := wd_free hA hw
  refine va_callv hr hw.2.2 (fun q _ h => hF q h) hF (fun u1 t H1 locs1 ht hvm hq hB hz hk hS => ?_)
  obtain ⟨hB1, hB2⟩ := hB
  refine kk u1 H1 locs1 hq ⟨?_, ?_, hS⟩
  · rw [← ht]; exact hB1
  · exact hB2.weaken (fun _ _ _ h => hF _ h)
end FC
