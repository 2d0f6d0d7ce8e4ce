theorem k_615 : (Cond.selects "PatternBench$Choice" ⟨"PatternBench$Part", "size", "()I"⟩ ⟨"PatternBench$Choice", "size", "()I"⟩) ∈ lw_tg := kw 615 (by decide +kernel) (by decide +kernel)
theorem k_617 : (Cond.instanceMethod ⟨"PatternBench$Choice", "size", "()I"⟩) ∈ lw_tg := kw 617 (by decide +kernel) (by decide +kernel)
theorem k_619 : (Cond.code ⟨"PatternBench$Choice", "size", "()I"⟩ prog_2_method_2_code 3 (Option.some .int)) ∈ lw_tg := kw 619 (by decide +kernel) (by decide +kernel)
theorem k_626 : (Cond.selects "PatternBench$Group" ⟨"PatternBench$Part", "size", "()I"⟩ ⟨"PatternBench$Group", "size", "()I"⟩) ∈ lw_tg := kw 626 (by decide +kernel) (by decide +kernel)
theorem k_628 : (Cond.instanceMethod ⟨"PatternBench$Group", "size", "()I"⟩) ∈ lw_tg := kw 628 (by decide +kernel) (by decide +kernel)
theorem k_630 : (Cond.code ⟨"PatternBench$Group", "size", "()I"⟩ prog_3_method_2_code 1 (Option.some .int)) ∈ lw_tg := kw 630 (by decide +kernel) (by decide +kernel)
theorem k_634 : (Cond.selects "PatternBench$Leaf" ⟨"PatternBench$Part", "size", "()I"⟩ ⟨"PatternBench$Leaf", "size", "()I"⟩) ∈ lw_tg := kw 634 (by decide +kernel) (by decide +kernel)
theorem k_636 : (Cond.instanceMethod ⟨"PatternBench$Leaf", "size", "()I"⟩) ∈ lw_tg := kw 636 (by decide +kernel) (by decide +kernel)
theorem k_638 : (Cond.code ⟨"PatternBench$Leaf", "size", "()I"⟩ prog_4_method_2_code 1 (Option.some .int)) ∈ lw_tg := kw 638 (by decide +kernel) (by decide +kernel)
theorem k_640 : (Cond.selects "PatternBench$Repeat" ⟨"PatternBench$Part", "size", "()I"⟩ ⟨"PatternBench$Repeat", "size", "()I"⟩) ∈ lw_tg := kw 640 (by decide +kernel) (by decide +kernel)
theorem k_642 : (Cond.instanceMethod ⟨"PatternBench$Repeat", "size", "()I"⟩) ∈ lw_tg := kw 642 (by decide +kernel) (by decide +kernel)
theorem k_644 : (Cond.code ⟨"PatternBench$Repeat", "size", "()I"⟩ prog_8_method_2_code 2 (Option.some .int)) ∈ lw_tg := kw 644 (by decide +kernel) (by decide +kernel)
theorem k_648 : (Cond.selects "PatternBench$Row" ⟨"PatternBench$Part", "size", "()I"⟩ ⟨"PatternBench$Row", "size", "()I"⟩) ∈ lw_tg := kw 648 (by decide +kernel) (by decide +kernel)
theorem k_650 : (Cond.instanceMethod ⟨"PatternBench$Row", "size", "()I"⟩) ∈ lw_tg := kw 650 (by decide +kernel) (by decide +kernel)
theorem k_652 : (Cond.code ⟨"PatternBench$Row", "size", "()I"⟩ prog_9_method_2_code 3 (Option.some .int)) ∈ lw_tg := kw 652 (by decide +kernel) (by decide +kernel)
theorem k_662 : (Cond.selects "PatternBench$Choice" ⟨"PatternBench$Part", "emit", "(LPatternBench$Program;)V"⟩ ⟨"PatternBench$Choice", "emit", "(LPatternBench$Program;)V"⟩) ∈ lw_tg := kw 662 (by decide +kernel) (by decide +kernel)
theorem k_664 : (Cond.instanceMethod ⟨"PatternBench$Choice", "emit", "(LPatternBench$Program;)V"⟩) ∈ lw_tg := kw 664 (by decide +kernel) (by decide +kernel)
theorem k_666 : (Cond.code ⟨"PatternBench$Choice", "emit", "(LPatternBench$Program;)V"⟩ prog_2_method_3_code 6 (Option.none : Option Jvm.ClassFile.FieldType)) ∈ lw_tg := kw 666 (by decide +kernel) (by decide +kernel)
theorem k_682 : (Cond.selects "PatternBench$Group" ⟨"PatternBench$Part", "emit", "(LPatternBench$Program;)V"⟩ ⟨"PatternBench$Group", "emit", "(LPatternBench$Program;)V"⟩) ∈ lw_tg := kw 682 (by decide +kernel) (by decide +kernel)
theorem k_684 : (Cond.instanceMethod ⟨"PatternBench$Group", "emit", "(LPatternBench$Program;)V"⟩) ∈ lw_tg := kw 684 (by decide +kernel) (by decide +kernel)
theorem k_686 : (Cond.code ⟨"PatternBench$Group", "emit", "(LPatternBench$Program;)V"⟩ prog_3_method_3_code 3 (Option.none : Option Jvm.ClassFile.FieldType)) ∈ lw_tg := kw 686 (by decide +kernel) (by decide +kernel)
theorem k_692 : (Cond.selects "PatternBench$Leaf" ⟨"PatternBench$Part", "emit", "(LPatternBench$Program;)V"⟩ ⟨"PatternBench$Leaf", "emit", "(LPatternBench$Program;)V"⟩) ∈ lw_tg := kw 692 (by decide +kernel) (by decide +kernel)
theorem k_694 : (Cond.instanceMethod ⟨"PatternBench$Leaf", "emit", "(LPatternBench$Program;)V"⟩) ∈ lw_tg := kw 694 (by decide +kernel) (by decide +kernel)
theorem k_696 : (Cond.code ⟨"PatternBench$Leaf", "emit", "(LPatternBench$Program;)V"⟩ prog_4_method_3_code 2 (Option.none : Option Jvm.ClassFile.FieldType)) ∈ lw_tg := kw 696 (by decide +kernel) (by decide +kernel)
theorem k_698 : (Cond.selects "PatternBench$Repeat" ⟨"PatternBench$Part", "emit", "(LPatternBench$Program;)V"⟩ ⟨"PatternBench$Repeat", "emit", "(LPatternBench$Program;)V"⟩) ∈ lw_tg := kw 698 (by decide +kernel) (by decide +kernel)
theorem k_700 : (Cond.instanceMethod ⟨"PatternBench$Repeat", "emit", "(LPatternBench$Program;)V"⟩) ∈ lw_tg := kw 700 (by decide +kernel) (by decide +kernel)
theorem k_702 : (Cond.code ⟨"PatternBench$Repeat", "emit", "(LPatternBench$Program;)V"⟩ prog_8_method_3_code 4 (Option.none : Option Jvm.ClassFile.FieldType)) ∈ lw_tg := kw 702 (by decide +kernel) (by decide +kernel)
theorem k_708 : (Cond.selects "PatternBench$Row" ⟨"PatternBench$Part", "emit", "(LPatternBench$Program;)V"⟩ ⟨"PatternBench$Row", "emit", "(LPatternBench$Program;)V"⟩) ∈ lw_tg := kw 708 (by decide +kernel) (by decide +kernel)
theorem k_710 : (Cond.instanceMethod ⟨"PatternBench$Row", "emit", "(LPatternBench$Program;)V"⟩) ∈ lw_tg := kw 710 (by decide +kernel) (by decide +kernel)
theorem k_712 : (Cond.code ⟨"PatternBench$Row", "emit", "(LPatternBench$Program;)V"⟩ prog_9_method_3_code 3 (Option.none : Option Jvm.ClassFile.FieldType)) ∈ lw_tg := kw 712 (by decide +kernel) (by decide +kernel)
/-! Calls of size() and emit() through the interface Part -/
/-- what is known of emit() of the part T: K is what it computes, lv the room -/
def EOK (l : Launch) (x : GX) (g : GE) (T : PT) (K : Nat → Nat → PRS → (PRS → Prop) → Prop) (lv : Nat) : Prop := ∀ (ex : va_W) (b : Nat) (a : Nat → Nat) (z : PRS) (sz r bc bs : Nat) (Qc : PRS → Prop), TP x g ex T r → K bc bs z Qc → match T with
  | .tag 0 _ => Met l y_Leaf_emit (wM y_Leaf_emit b_Leaf_emit 2 none) (rmN lv bc bs) (PreE x g (prl x g b) ex [.ref r, .ref b] a z sz) (QeV x (prl x g b) ex (va_A (prl x g b a z ++ ex) sz) Qc) bc bs (va_A (prl x g b a z ++ ex) sz)
  | .tag 1 _ => Met l y_Row_emit (wM y_Row_emit b_Row_emit 3 none) (rmN lv bc bs) (PreE x g (prl x g b) ex [.ref r, .ref b] a z sz) (QeV x (prl x g b) ex (va_A (prl x g b a z ++ ex) sz) Qc) bc bs (va_A (prl x g b a z ++ ex) sz)
  | .tag 2 _ => Met l y_Cho_emit (wM y_Cho_emit b_Cho_emit 6 none) (rmN lv bc bs) (PreE x g (prl x g b) ex [.ref r, .ref b] a z sz) (QeV x (prl x g b) ex (va_A (prl x g b a z ++ ex) sz) Qc) bc bs (va_A (prl x g b a z ++ ex) sz)
  | .tag 3 _ => Met l y_Grp_emit (wM y_Grp_emit b_Grp_emit 3 none) (rmN lv bc bs) (PreE x g (prl x g b) ex [.ref r, .ref b] a z sz) (QeV x (prl x g b) ex (va_A (prl x g b a z ++ ex) sz) Qc) bc bs (va_A (prl x g b a z ++ ex) sz)
  | _ => Met l y_Rep_emit (wM y_Rep_emit b_Rep_emit 4 none) (rmN lv bc bs) (PreE x g (prl x g b) ex [.ref r, .ref b] a z sz) (QeV x (prl x g b) ex (va_A (prl x g b a z ++ ex) sz) Qc) bc bs (va_A (prl x g b a z ++ ex) sz)
/-- the same of size() -/
def ZOK (l : Launch) (x : GX) (g : GE) (T : PT) (K : Unit → (Int32 → Unit → Prop) → Prop) (lv : Nat) : Prop := ∀ (ex : va_W) (a : Nat → Nat) (sz r : Nat) (Qc : Int32 → Unit → Prop), TP x g ex T r → K () Qc → match T with
  | .tag 0 _ => Met l y_Leaf_size (wM y_Leaf_size b_Leaf_size 1 (some .int)) (rmN lv 0 0) (PreE x g ucl ex [.ref r] a () sz) (QfI x ucl ex a (va_A (ucl a () ++ ex) sz) Qc) 0 0 (va_A (ucl a () ++ ex) sz)
  | .tag 1 _ => Met l y_Row_size (wM y_Row_size b_Row_size 3 (some .int)) (rmN lv 0 0) (PreE x g ucl ex [.ref r] a () sz) (QfI x ucl ex a (va_A (ucl a () ++ ex) sz) Qc) 0 0 (va_A (ucl a () ++ ex) sz)
  | .tag 2 _ => Met l y_Cho_size (wM y_Cho_size b_Cho_size 3 (some .int)) (rmN lv 0 0) (PreE x g ucl ex [.ref r] a () sz) (QfI x ucl ex a (va_A (ucl a () ++ ex) sz) Qc) 0 0 (va_A (ucl a () ++ ex) sz)
  | .tag 3 _ => Met l y_Grp_size (wM y_Grp_size b_Grp_size 1 (some .int)) (rmN lv 0 0) (PreE x g ucl ex [.ref r] a () sz) (QfI x ucl ex a (va_A (ucl a () ++ ex) sz) Qc) 0 0 (va_A (ucl a () ++ ex) sz)
  | _ => Met l y_Rep_size (wM y_Rep_size b_Rep_size 2 (some .int)) (rmN lv 0 0) (PreE x g ucl ex [.ref r] a () sz) (QfI x ucl ex a (va_A (ucl a () ++ ex) sz) Qc) 0 0 (va_A (ucl a () ++ ex) sz)
section MC
variable {p : Program} {l : Launch} {e : Env} {R : Room} {s : State} {m : MethodId} {args : Array Value} {below : List Frame} {meth : Method} {c : Code} {H H0 : Heap} {locs : List Loc} {cells slots : Nat} {Q : State → Prop}
variable {cc : ByteArray} {nL pc : Nat} {ls : Array Slot} {rest : List Value} {x : GX} {g : GE} {a : Nat → Nat} {A : Nat → Prop} {ex ws : va_W} {b : Nat} {z : PRS} {own : String}
theorem w_cvE5 {St : Type} {cl : (Nat → Nat) → St → va_W} {u : St} {mc ms : Nat} {st0 : List Value} (hA : ∀ q, H0.size ≤ q → A q) (hw : wd x A H0 (cl a u ++ ex) H locs) {Qc : St → Prop} {ar : Array Value}
    (hr : va_Run5 p l e R s m args below meth c H locs cells slots mc ms (F0 m pc ls st0) rest (QeV x cl ex (va_A (cl a u ++ ex) H.size) Qc ar) (va_A (cl a u ++ ex) H.size))
    (kk : ∀ (u : St) (a : Nat → Nat) (H : Heap) (locs : List Loc), Qc u → wd x A H0 (cl a u ++ ex) H locs → W p l e R s m args below meth c H locs (cells + mc) (slots + ms) Q (F0 m (pc + 5) ls rest)) : W p l e R s m args below meth c H locs cells slots Q (F0 m pc ls st0) := by
  have hF := wd_free hA hw
  refine va_callFv hr hw.2.2 (fun q _ h => hF q h) hF (fun u1 t H1 locs1 ht hvm hq hB hz hk hS => ?_)
  obtain ⟨a1, hB1, hB2⟩ := hB
  refine kk u1 a1 H1 locs1 hq ⟨?_, ?_, hS⟩
  · rw [← ht]; exact hB1
  · exact hB2.weaken (fun _ _ _ h => hF _ h)
theorem w_ciF5 {St : Type} {cl : (Nat → Nat) → St → va_W} {u : St} {mc ms : Nat} {st0 : List Value} (hA : ∀ q, H0.size ≤ q → A q) (hw : wd x A H0 (cl a u ++ ex) H locs) {Qc : Int32 → St → Prop} {ar : Array Value}
    (hr : va_Run5 p l e R s m args below meth c H locs cells slots mc ms (F0 m pc ls st0) rest (QfI x cl ex a (va_A (cl a u ++ ex) H.size) Qc ar) (va_A (cl a u ++ ex) H.size))
    (kk : ∀ (r : Int32) (u : St) (H : Heap) (locs : List Loc), Qc r u → wd x A H0 (cl a u ++ ex) H locs → W p l e R s m args below meth c H locs (cells + mc) (slots + ms) Q (F0 m (pc + 5) ls (.int r :: rest))) : W p l e R s m args below meth c H locs cells slots Q (F0 m pc ls st0) := by
  have hF := wd_free hA hw
  refine va_callFi hr hw.2.2 (fun q _ h => hF q h) hF (fun r u1 t H1 locs1 ht hvm hq hB hz hk hS => ?_)
  obtain ⟨hB1, hB2⟩ := hB
  refine kk r u1 H1 locs1 hq ⟨?_, ?_, hS⟩
  · rw [← ht]; exact hB1
  · exact hB2.weaken (fun _ _ _ h => hF _ h)
/-- a call through the interface, of one class -/
theorem w_rfE {St : Type} {cl : (Nat → Nat) → St → va_W} {u : St} {mc ms : Nat} (S : CallFix p m c cc nL s args lw_tg own) (hK : GK x s) (hE : EN g A s s.heap) (hA : ∀ q, s.heap.size ≤ q → A q) (hw : wd x A s.heap (cl a u ++ ex) H locs) {xn y : MethodName} {bytes : ByteArray} {maxL index count n r lv : Nat} {ret : Option FieldType} {Qc : Array Value → State → Outcome → State → Prop} {free : Addr → Prop} {As st0 : List Value}
    (hM : Met l y (wM y bytes maxL ret) (rmN lv mc ms) (PreE x g cl ex (.ref r :: As) a u H.size) Qc mc ms free) {ci q0 : Nat} {cq : vw_C} {fs : List Value} (hc : classes[ci]? = some cq) (he : (cl a u ++ ex)[q0]? = some (r, .inr (ci, fs)))
    (hlk : Cond.methodLink own index xn ∈ lw_tg) (hsel : Cond.selects cq.1 xn y ∈ lw_tg) (hins : Cond.instanceMethod y ∈ lw_tg) (hini : Cond.initialized y.cls ∈ lw_tg) (hcode : Cond.code y bytes maxL ret ∈ lw_tg) (hF : va_Fw cq.1 xn y s) (hd : xn.cls ≠ "java/lang/invoke/MethodHandle" ∧ xn.cls ≠ "java/lang/invoke/VarHandle" ∧ (parseMethodDescriptor xn.desc).map (fun d => d.parameters.length) = some n) (hm6 : maxL ≤ 40) (hfr : lv + 1 ≤ R.frames) (hlo : 64 * (lv + 1) ≤ R.locals) (hn : As.length = n) (hsz : ls.size = nL) (hst : st0 = As.reverse ++ .ref r :: rest) (hW : (rest.map fun v => v.category).sum ≤ 8) (hdg : decode cc pc = .ok (.invokeinterface index count, 5)) (hf : cells + mc ≤ R.cells ∧ slots + ms ≤ R.slots) :
    va_Run5 p l e R s m args below meth c H locs cells slots mc ms (F0 m pc ls st0) rest (Qc (Value.ref r :: As).toArray) free := by
  refine va_runF (x := xn) (C := cq.1) (cC := x.1 ci) (As := As) ((hK.1 ci cq hc).2) S hM (va_cwF n S.2.2.2.2 (good_ap ?_ (good_tg hcode)) rfl rfl rfl hF hd ⟨by show lv + 1 ≤ R.frames; exact hfr, by show 8 + (maxL + 11) + 64 * lv ≤ R.locals; omega⟩) ⟨PreE.blind, va_recv hK hw.1 hc he, preE hK hE hA hw _⟩ rfl hn hsz hst (lv_room hW) hdg hf
  intro w hw
  simp only [List.mem_cons, List.not_mem_nil, or_false] at hw
  rcases hw with rfl | rfl | rfl | rfl
  · exact hlk
  · exact hsel
  · exact hins
  · exact hini
theorem TP.cell {T : PT} {r : Nat} (h : TP x g ex T r) : ∃ K t fs, T = .tag K t ∧ K < 5 ∧ (r, .inr (K + 5, fs)) ∈ ex := by
  obtain ⟨h0, ht⟩ := h
  cases T with
  | tag K b =>
    rcases ht with ⟨h1, h2, h3⟩ | ⟨h1, q, h2, h3⟩ | ⟨h1, h2, h0, h3⟩ | ⟨h1, q, h2, h0, h3⟩
    · subst h1; exact ⟨0, b, _, rfl, by omega, h3⟩
    · exact ⟨K, b, _, rfl, by omega, h2⟩
    · subst h1; exact ⟨3, b, _, rfl, by omega, h2⟩
    · subst h1; exact ⟨4, b, _, rfl, by omega, h2⟩
  | _ => cases h0
set_option maxHeartbeats 4000000 in
theorem mm_emit (S : CallFix p m c cc nL s args lw_tg own) (hK : GK x s) (hE : EN g A s s.heap) (hA : ∀ q, s.heap.size ≤ q → A q) (hw : wd x A s.heap (prl x g b a z ++ ex) H locs) {T : PT} {K : Nat → Nat → PRS → (PRS → Prop) → Prop} {lv r index kc nc : Nat} {Qc : PRS → Prop} (hT : TP x g ex T r) (hOK : EOK l x g T K lv) (h : K kc nc z Qc) (hlk : Cond.methodLink own index xEmit ∈ lw_tg) (hfr : lv + 1 ≤ R.frames) (hlo : 64 * (lv + 1) ≤ R.locals) (hf : cells + kc ≤ R.cells ∧ slots + nc ≤ R.slots) (hsz : ls.size = nL) (hW : (rest.map fun v => v.category).sum ≤ 8) (hdg : decode cc pc = .ok (.invokeinterface index 2, 5))
    (kk : ∀ (z : PRS) (a : Nat → Nat) (H : Heap) (locs : List Loc), Qc z → wd x A s.heap (prl x g b a z ++ ex) H locs → W p l e R s m args below meth c H locs (cells + kc) (slots + nc) Q (F0 m (pc + 5) ls rest)) : W p l e R s m args below meth c H locs cells slots Q (F0 m pc ls (.ref b :: .ref r :: rest)) := by
  have hM := hOK ex b a z H.size r kc nc Qc hT h
  obtain ⟨Kt, t, fs, rfl, hK5, hm⟩ := hT.cell
  obtain ⟨j, hj⟩ := List.getElem?_of_mem (List.mem_append_right (prl x g b a z) hm)
  have hF := hE.2.2.2.2.2.2.2.2.1
  have hd : xEmit.cls ≠ "java/lang/invoke/MethodHandle" ∧ xEmit.cls ≠ "java/lang/invoke/VarHandle" ∧ (parseMethodDescriptor xEmit.desc).map (fun d => d.parameters.length) = some 1 := by decide +kernel
  have h5 : Kt = 0 ∨ Kt = 1 ∨ Kt = 2 ∨ Kt = 3 ∨ Kt = 4 := by omega
  rcases h5 with rfl | rfl | rfl | rfl | rfl
  · exact w_cvE5 hA hw (w_rfE (As := [.ref b]) (xn := xEmit) S hK hE hA hw hM (ci := 5) (q0 := j) (cq := (R_Leaf, F_Leaf, 2)) rfl hj hlk k_692 k_694 k_19 k_696 (hF _ (List.mem_of_getElem? (i := 0) rfl)).2 hd (by omega) hfr hlo rfl hsz rfl hW hdg hf) kk
  · exact w_cvE5 hA hw (w_rfE (As := [.ref b]) (xn := xEmit) S hK hE hA hw hM (ci := 6) (q0 := j) (cq := (R_Row, F_Row, 1)) rfl hj hlk k_708 k_710 k_24 k_712 (hF _ (List.mem_of_getElem? (i := 1) rfl)).2 hd (by omega) hfr hlo rfl hsz rfl hW hdg hf) kk
  · exact w_cvE5 hA hw (w_rfE (As := [.ref b]) (xn := xEmit) S hK hE hA hw hM (ci := 7) (q0 := j) (cq := (R_Cho, F_Cho, 1)) rfl hj hlk k_662 k_664 k_26 k_666 (hF _ (List.mem_of_getElem? (i := 2) rfl)).2 hd (by omega) hfr hlo rfl hsz rfl hW hdg hf) kk
  · exact w_cvE5 hA hw (w_rfE (As := [.ref b]) (xn := xEmit) S hK hE hA hw hM (ci := 8) (q0 := j) (cq := (R_Grp, F_Grp, 3)) rfl hj hlk k_682 k_684 k_22 k_686 (hF _ (List.mem_of_getElem? (i := 3) rfl)).2 hd (by omega) hfr hlo rfl hsz rfl hW hdg hf) kk
  · exact w_cvE5 hA hw (w_rfE (As := [.ref b]) (xn := xEmit) S hK hE hA hw hM (ci := 9) (q0 := j) (cq := (R_Rep, F_Rep, 4)) rfl hj hlk k_698 k_700 k_23 k_702 (hF _ (List.mem_of_getElem? (i := 4) rfl)).2 hd (by omega) hfr hlo rfl hsz rfl hW hdg hf) kk
set_option maxHeartbeats 4000000 in
theorem mm_sizeI (S : CallFix p m c cc nL s args lw_tg own) (hK : GK x s) (hE : EN g A s s.heap) (hA : ∀ q, s.heap.size ≤ q → A q) (hw : wd x A s.heap ws H locs) {T : PT} {K : Unit → (Int32 → Unit → Prop) → Prop} {lv r index : Nat} {Qc : Int32 → Unit → Prop} (hT : TP x g ws T r) (hOK : ZOK l x g T K lv) (h : K () Qc) (hlk : Cond.methodLink own index xSize ∈ lw_tg) (hfr : lv + 1 ≤ R.frames) (hlo : 64 * (lv + 1) ≤ R.locals) (hf : cells ≤ R.cells ∧ slots ≤ R.slots) (hsz : ls.size = nL) (hW : (rest.map fun v => v.category).sum ≤ 8) (hdg : decode cc pc = .ok (.invokeinterface index 1, 5))
    (kk : ∀ (v : Int32) (H : Heap) (locs : List Loc), Qc v () → wd x A s.heap ws H locs → W p l e R s m args below meth c H locs cells slots Q (F0 m (pc + 5) ls (.int v :: rest))) : W p l e R s m args below meth c H locs cells slots Q (F0 m pc ls (.ref r :: rest)) := by
  have hM := hOK ws (fun _ => 0) H.size r Qc hT h
  have hw2 : wd x A s.heap (ucl (fun _ => 0) () ++ ws) H locs := hw
  have kk2 : ∀ (v : Int32) (_u : Unit) (H : Heap) (locs : List Loc), Qc v _u → wd x A s.heap (ucl (fun _ => 0) _u ++ ws) H locs → W p l e R s m args below meth c H locs (cells + 0) (slots + 0) Q (F0 m (pc + 5) ls (.int v :: rest)) := fun v _ H locs h hw => kk v H locs h hw
  obtain ⟨Kt, t, fs, rfl, hK5, hm⟩ := hT.cell
  obtain ⟨j, hj⟩ := List.getElem?_of_mem hm
  have hF := hE.2.2.2.2.2.2.2.2.1
  have hd : xSize.cls ≠ "java/lang/invoke/MethodHandle" ∧ xSize.cls ≠ "java/lang/invoke/VarHandle" ∧ (parseMethodDescriptor xSize.desc).map (fun d => d.parameters.length) = some 0 := by decide +kernel
  have h5 : Kt = 0 ∨ Kt = 1 ∨ Kt = 2 ∨ Kt = 3 ∨ Kt = 4 := by omega
  rcases h5 with rfl | rfl | rfl | rfl | rfl
  · exact w_ciF5 hA hw2 (w_rfE (As := []) (xn := xSize) S hK hE hA hw2 hM (ci := 5) (q0 := j) (cq := (R_Leaf, F_Leaf, 2)) rfl hj hlk k_634 k_636 k_19 k_638 (hF _ (List.mem_of_getElem? (i := 0) rfl)).1 hd (by omega) hfr hlo rfl hsz rfl hW hdg hf) kk2
  · exact w_ciF5 hA hw2 (w_rfE (As := []) (xn := xSize) S hK hE hA hw2 hM (ci := 6) (q0 := j) (cq := (R_Row, F_Row, 1)) rfl hj hlk k_648 k_650 k_24 k_652 (hF _ (List.mem_of_getElem? (i := 1) rfl)).1 hd (by omega) hfr hlo rfl hsz rfl hW hdg hf) kk2
  · exact w_ciF5 hA hw2 (w_rfE (As := []) (xn := xSize) S hK hE hA hw2 hM (ci := 7) (q0 := j) (cq := (R_Cho, F_Cho, 1)) rfl hj hlk k_615 k_617 k_26 k_619 (hF _ (List.mem_of_getElem? (i := 2) rfl)).1 hd (by omega) hfr hlo rfl hsz rfl hW hdg hf) kk2
  · exact w_ciF5 hA hw2 (w_rfE (As := []) (xn := xSize) S hK hE hA hw2 hM (ci := 8) (q0 := j) (cq := (R_Grp, F_Grp, 3)) rfl hj hlk k_626 k_628 k_22 k_630 (hF _ (List.mem_of_getElem? (i := 3) rfl)).1 hd (by omega) hfr hlo rfl hsz rfl hW hdg hf) kk2
  · exact w_ciF5 hA hw2 (w_rfE (As := []) (xn := xSize) S hK hE hA hw2 hM (ci := 9) (q0 := j) (cq := (R_Rep, F_Rep, 4)) rfl hj hlk k_640 k_642 k_23 k_644 (hF _ (List.mem_of_getElem? (i := 4) rfl)).1 hd (by omega) hfr hlo rfl hsz rfl hW hdg hf) kk2
end MC
