theorem k_670 : (Cond.instanceMethod ⟨"PatternBench$Program", "add", "(LPatternBench$Op;II)I"⟩) ∈ lw_tg := kw 670 (by decide +kernel) (by decide +kernel)
theorem k_671 : (Cond.selects "PatternBench$Program" ⟨"PatternBench$Program", "add", "(LPatternBench$Op;II)I"⟩ ⟨"PatternBench$Program", "add", "(LPatternBench$Op;II)I"⟩) ∈ lw_tg := kw 671 (by decide +kernel) (by decide +kernel)
theorem k_672 : (Cond.code ⟨"PatternBench$Program", "add", "(LPatternBench$Op;II)I"⟩ prog_7_method_2_code 4 (Option.some .int)) ∈ lw_tg := kw 672 (by decide +kernel) (by decide +kernel)
/-! Rows for what reads parts and lists of parts by what is known of the heap's cells (membership in the world) -/
abbrev b_Leaf_size : ByteArray := prog_4_method_2_code
def y_Leaf_size : MethodName := ⟨"PatternBench$Leaf", "size", "()I"⟩
theorem yd_Leaf_size : y_Leaf_size.cls ≠ "java/lang/invoke/MethodHandle" ∧ y_Leaf_size.cls ≠ "java/lang/invoke/VarHandle" ∧ (parseMethodDescriptor y_Leaf_size.desc).map (fun d => d.parameters.length) = some 0 := by decide +kernel
theorem d_Leaf_size_0 : decode b_Leaf_size 0 = .ok (.iconst 1, 1) := by decide +kernel
theorem d_Leaf_size_1 : decode b_Leaf_size 1 = .ok (.ireturn, 1) := by decide +kernel
abbrev b_Leaf_emit : ByteArray := prog_4_method_3_code
def y_Leaf_emit : MethodName := ⟨"PatternBench$Leaf", "emit", "(LPatternBench$Program;)V"⟩
theorem yd_Leaf_emit : y_Leaf_emit.cls ≠ "java/lang/invoke/MethodHandle" ∧ y_Leaf_emit.cls ≠ "java/lang/invoke/VarHandle" ∧ (parseMethodDescriptor y_Leaf_emit.desc).map (fun d => d.parameters.length) = some 1 := by decide +kernel
theorem d_Leaf_emit_0 : decode b_Leaf_emit 0 = .ok (.aload_n 1, 1) := by decide +kernel
theorem d_Leaf_emit_1 : decode b_Leaf_emit 1 = .ok (.aload_n 0, 1) := by decide +kernel
theorem d_Leaf_emit_2 : decode b_Leaf_emit 2 = .ok (.getfield 7, 3) := by decide +kernel
theorem d_Leaf_emit_5 : decode b_Leaf_emit 5 = .ok (.aload_n 0, 1) := by decide +kernel
theorem d_Leaf_emit_6 : decode b_Leaf_emit 6 = .ok (.getfield 13, 3) := by decide +kernel
theorem d_Leaf_emit_9 : decode b_Leaf_emit 9 = .ok (.iconst 0, 1) := by decide +kernel
theorem d_Leaf_emit_10 : decode b_Leaf_emit 10 = .ok (.invokevirtual 17, 3) := by decide +kernel
theorem d_Leaf_emit_13 : decode b_Leaf_emit 13 = .ok (.pop, 1) := by decide +kernel
theorem d_Leaf_emit_14 : decode b_Leaf_emit 14 = .ok (.return_, 1) := by decide +kernel
theorem c_ALm_size {x : GX} {g : GE} {b : Nat} {ex : va_W} {a : Nat → Nat} (l : Launch) {k : Int32} {v0 v2 : Value} (hm : (b, .inr (4, [v0, .int k, v2])) ∈ ex) (sz : Nat) : Met l y_AL_size (wM y_AL_size b_AL_size 1 (some .int)) (rmN 0 0 0) (PreE x g ucl ex [.ref b] a () sz) (QfI x ucl ex a (va_A (ucl a () ++ ex) sz) (fun v _ => v = k)) 0 0 (va_A (ucl a () ++ ex) sz) := by
  refine w_enterE (by decide +kernel) (Nat.le_of_ble_eq_true rfl) (fun p e s m args below meth c S hr hlk hnm hK hE hA hw ls hl => ?_)
  have hl : lv_has ls 1 [(0, .ref b)] := hl
  obtain ⟨i, hi⟩ := List.getElem?_of_mem hm
  refine lv_aload_n S.1 S.2.1 d_AL_size_0 rfl (lv_at hl 0 rfl) ?_
  refine al_gets S hK hw i hi d_AL_size_1 ?_
  exact w_iretF S hr hlk hw rfl d_AL_size_4
theorem c_ALm_ed {x : GX} {g : GE} {b : Nat} {ex : va_W} {a : Nat → Nat} (l : Launch) {q n i : Nat} {f : Nat → Option Nat} {v1 v2 : Value} {r : Nat} (hm : (b, .inr (4, [.ref q, v1, v2])) ∈ ex) (hq : (q, .inl (x.2.2 5, n, refsA f)) ∈ ex) (sz : Nat) (hi : i < n) (hn : n < 2 ^ 31) (hf : f i = some r) : Met l y_AL_ed (wM y_AL_ed b_AL_ed 2 (some (.object "java/lang/Object"))) (rmN 0 0 0) (PreE x g ucl ex [.ref b, .int (nI i)] a () sz) (QfR x ucl ex a (va_A (ucl a () ++ ex) sz) (fun v _ => v = r)) 0 0 (va_A (ucl a () ++ ex) sz) := by
  refine w_enterE (by decide +kernel) (Nat.le_of_ble_eq_true rfl) (fun p e s m args below meth c S hr hlk hnm hK hE hA hw ls hl => ?_)
  have hl : lv_has ls 2 [(0, .ref b), (1, .int (nI i))] := hl
  obtain ⟨j, hj⟩ := List.getElem?_of_mem hm
  obtain ⟨j2, hj2⟩ := List.getElem?_of_mem hq
  refine lv_aload_n S.1 S.2.1 d_AL_ed_0 rfl (lv_at hl 0 rfl) ?_
  refine al_getd S hK hw j hj d_AL_ed_1 ?_
  refine lv_iload_n S.1 S.2.1 d_AL_ed_4 rfl (lv_at hl 1 rfl) ?_
  refine va_aldq S.1 S.2.1 hK hw.1 j2 5 hj2 rfl (vp_in_nI hi hn) d_AL_ed_5 ?_
  rw [nI_clamp (by omega), hf]
  exact w_rretF S hr hlk hw rfl d_AL_ed_6
theorem c_ALm_get {x : GX} {g : GE} {b : Nat} {ex : va_W} {a : Nat → Nat} (l : Launch) {q n k i : Nat} {f : Nat → Option Nat} {v2 : Value} {r : Nat} (hm : (b, .inr (4, [.ref q, .int (nI k), v2])) ∈ ex) (hq : (q, .inl (x.2.2 5, n, refsA f)) ∈ ex) (sz : Nat) (hi : i < k) (hk : k ≤ n) (hn : n < 2 ^ 31) (hf : f i = some r) : Met l y_AL_get (wM y_AL_get b_AL_get 2 (some (.object "java/lang/Object"))) (rmN 2 0 0) (PreE x g ucl ex [.ref b, .int (nI i)] a () sz) (QfR x ucl ex a (va_A (ucl a () ++ ex) sz) (fun v _ => v = r)) 0 0 (va_A (ucl a () ++ ex) sz) := by
  refine w_enterE (by decide +kernel) (Nat.le_of_ble_eq_true rfl) (fun p e s m args below meth c S hr hlk hnm hK hE hA hw ls hl => ?_)
  have hl : lv_has ls 2 [(0, .ref b), (1, .int (nI i))] := hl
  obtain ⟨j, hj⟩ := List.getElem?_of_mem hm
  have hj' : (ucl a () ++ ex)[j]? = some (b, .inr (4, [.ref q, .int (nI k), v2])) := hj
  refine lv_iload_n S.1 S.2.1 d_AL_get_0 rfl (lv_at hl 1 rfl) ?_
  refine lv_aload_n S.1 S.2.1 d_AL_get_1 rfl (lv_at hl 0 rfl) ?_
  refine al_gets S hK hw j hj d_AL_get_2 ?_
  refine w_cn (w_rs (rest := []) S (c_J_ochk l (nI i) (nI k) (nI_pos (by omega)) (nI_lt hi (by omega))) (w_cb (fr := 0) (lv := 0) S.2.2.2.2 k_574 k_572 k_25 yd_J_ochk rfl rfl ⟨Nat.le_of_ble_eq_true rfl, Nat.le_of_ble_eq_true rfl⟩) k_573 rfl hl.1 rfl (Nat.le_of_ble_eq_true rfl) d_AL_get_5 ⟨Nat.le_refl _, Nat.le_refl _⟩) (fun v hv => ?_)
  refine lv_pop S.1 S.2.1 d_AL_get_8 rfl ?_
  refine lv_aload_n S.1 S.2.1 d_AL_get_9 rfl (lv_at hl 0 rfl) ?_
  refine lv_iload_n S.1 S.2.1 d_AL_get_10 rfl (lv_at hl 1 rfl) ?_
  refine w_crF hA hw (w_rvE (rest := []) S hK hE hA hw (c_ALm_ed l hm hq _ (by omega) hn hf) (ci := 4) (q0 := j) rfl hj' (w_cb (fr := 0) (lv := 0) S.2.2.2.2 k_579 k_576 k_17 yd_AL_ed rfl rfl ⟨Nat.le_of_ble_eq_true rfl, Nat.le_of_ble_eq_true rfl⟩) k_577 k_578 rfl hl.1 rfl (Nat.le_of_ble_eq_true rfl) d_AL_get_11 ⟨Nat.le_refl _, Nat.le_refl _⟩) (fun r z H locs h hw => ?_)
  exact w_rretF S hr hlk hw h d_AL_get_14
/-- the list object q of the world ws has the parts of b -/
def LI (x : GX) (g : GE) (ws : va_W) (q : Nat) (b : PT) : Prop := (∃ mc : Int32, (q, .inr (4, [.ref (g.2 0), .int 0, .int mc])) ∈ ws ∧ tlen b = 0) ∨ ∃ (arr n : Nat) (f : Nat → Option Nat) (mc : Int32), (q, .inr (4, [.ref arr, .int (nI (tlen b)), .int mc])) ∈ ws ∧ (arr, .inl (x.2.2 5, n, refsA f)) ∈ ws ∧ tlen b ≤ n ∧ n < 2 ^ 31 ∧ TR x g ws b 0 f 0
theorem LI.mono {x : GX} {g : GE} {ws ws' : va_W} {q : Nat} {b : PT} (hs : ∀ q ∈ ws, q ∈ ws') (h : LI x g ws q b) : LI x g ws' q b := by
  rcases h with ⟨mc, h1, h2⟩ | ⟨arr, n, f, mc, h1, h2, h3, h4, h5⟩
  · exact Or.inl ⟨mc, hs _ h1, h2⟩
  · exact Or.inr ⟨arr, n, f, mc, hs _ h1, hs _ h2, h3, h4, h5.mono hs⟩
section MR
variable {p : Program} {l : Launch} {e : Env} {R : Room} {s : State} {m : MethodId} {args : Array Value} {below : List Frame} {meth : Method} {c : Code} {H H0 : Heap} {locs : List Loc} {cells slots : Nat} {Q : State → Prop}
variable {cc : ByteArray} {nL pc : Nat} {ls : Array Slot} {rest : List Value} {x : GX} {g : GE} {a : Nat → Nat} {A : Nat → Prop} {ex ws : va_W} {b : Nat} {z : PRS} {own : String}
theorem mm_fld (S : CallFix p m c cc nL s args lw_tg own) (hK : GK x s) (hw : wd x A H0 ws H locs) {C : String} {T : u_T} {N ci index r : Nat} {fs : List Value} (hm : (r, .inr (ci, fs)) ∈ ws) (hc : classes[ci]? = some (C, T, N)) (hin : ∀ w ∈ u_ws C T N, w ∈ lw_tg) (k : Nat) (hk : k < N) (hlk : Cond.fieldLink own index (T k).1 (T k).2.1 (T k).2.2.1 ∈ lw_tg) {v : Value} (hv : fs[k]? = some v) (hdg : decode cc pc = .ok (.getfield index, 3))
    (kk : W p l e R s m args below meth c H locs cells slots Q (F0 m (pc + 3) ls (v :: rest))) : W p l e R s m args below meth c H locs cells slots Q (F0 m pc ls (.ref r :: rest)) := by
  obtain ⟨i, hi⟩ := List.getElem?_of_mem hm
  exact w_get S hK hw i hi hc hin k hk hlk hv hdg kk
theorem mm_size (S : CallFix p m c cc nL s args lw_tg own) (hK : GK x s) (hE : EN g A s s.heap) (hA : ∀ q, s.heap.size ≤ q → A q) (hw : wd x A s.heap ws H locs) {q index : Nat} {t : PT} (hL : LI x g ws q t) (hlk : Cond.methodLink own index y_AL_size ∈ lw_tg) (hfr : 3 ≤ R.frames) (hlo : 64 * 3 ≤ R.locals) (hf : cells ≤ R.cells ∧ slots ≤ R.slots) (hsz : ls.size = nL) (hW : (rest.map fun v => v.category).sum ≤ 8) (hdg : decode cc pc = .ok (.invokevirtual index, 3))
    (kk : ∀ (H : Heap) (locs : List Loc), wd x A s.heap ws H locs → W p l e R s m args below meth c H locs cells slots Q (F0 m (pc + 3) ls (.int (nI (tlen t)) :: rest))) : W p l e R s m args below meth c H locs cells slots Q (F0 m pc ls (.ref q :: rest)) := by
  have hw2 : wd x A s.heap (ucl (fun _ => 0) () ++ ws) H locs := hw
  have hm : ∃ (v0 v2 : Value), (q, .inr (4, [v0, .int (nI (tlen t)), v2])) ∈ ws := by
    rcases hL with ⟨mc, h1, h2⟩ | ⟨arr, n, f, mc, h1, h2, h3, h4, h5⟩
    · exact ⟨_, _, by rw [h2]; exact h1⟩
    · exact ⟨_, _, h1⟩
  obtain ⟨v0, v2, hm⟩ := hm
  obtain ⟨j, hj⟩ := List.getElem?_of_mem hm
  refine w_ciF hA hw2 (w_rvE (rest := rest) S hK hE hA hw2 (c_ALm_size l hm _) (ci := 4) (q0 := j) rfl hj (w_cb (fr := 0) (lv := 0) S.2.2.2.2 k_567 hlk k_17 yd_AL_size rfl rfl ⟨by show 0 + 1 ≤ R.frames; omega, by show 8 + (1 + 11) + 64 * 0 ≤ R.locals; omega⟩) k_565 k_566 rfl hsz rfl hW hdg hf) (fun v z' H9 locs9 h hw9 => ?_)
  subst h
  exact kk H9 locs9 hw9
theorem mm_get (S : CallFix p m c cc nL s args lw_tg own) (hK : GK x s) (hE : EN g A s s.heap) (hA : ∀ q, s.heap.size ≤ q → A q) (hw : wd x A s.heap ws H locs) {q index index2 i : Nat} {t : PT} (hs : ∀ c ∈ ex, c ∈ ws) (hL : LI x g ex q t) {iv : Int32} (hiv : iv = nI i) (hi : i < tlen t) (hlk : Cond.methodLink own index y_AL_get ∈ lw_tg) (hcl : Cond.classLink own index2 "PatternBench$Part" ∈ lw_tg) (hfr : 3 ≤ R.frames) (hlo : 64 * 3 ≤ R.locals) (hf : cells ≤ R.cells ∧ slots ≤ R.slots) (hsz : ls.size = nL) (hW : (rest.map fun v => v.category).sum ≤ 8) (hdg : decode cc pc = .ok (.invokevirtual index, 3)) (hd2 : decode cc (pc + 3) = .ok (.checkcast index2, 3))
    (kk : ∀ (r : Nat) (H : Heap) (locs : List Loc), TP x g ex (tnth t i) r → wd x A s.heap ws H locs → W p l e R s m args below meth c H locs cells slots Q (F0 m (pc + 6) ls (.ref r :: rest))) : W p l e R s m args below meth c H locs cells slots Q (F0 m pc ls (.int iv :: .ref q :: rest)) := by
  subst hiv
  rcases hL with ⟨mc, h1, h2⟩ | ⟨arr, n, f, mc, h1, h2, h3, h4, h5⟩
  · omega
  · have hw2 : wd x A s.heap (ucl (fun _ => 0) () ++ ws) H locs := hw
    obtain ⟨j, hj⟩ := List.getElem?_of_mem (hs _ h1)
    obtain ⟨r, hr1, hr2⟩ := tl_TR t 0 h5 i hi
    rw [Nat.zero_add] at hr1
    refine w_crF hA hw2 (w_rvE (rest := rest) S hK hE hA hw2 (c_ALm_get l (hs _ h1) (hs _ h2) _ hi h3 h4 hr1) (ci := 4) (q0 := j) rfl hj (w_cb (fr := 0) (lv := 0) S.2.2.2.2 k_571 hlk k_17 yd_AL_get rfl rfl ⟨by show 2 + 1 ≤ R.frames; omega, by show 8 + (2 + 11) + 64 * 2 ≤ R.locals; omega⟩) k_569 k_570 rfl hsz rfl hW hdg hf) (fun v z' H locs h hw => ?_)
    subst h
    obtain ⟨j, ci, fs, j1, j2, j3⟩ := (hr2.mono hs).prt
    have hc : ci = 5 ∨ ci = 6 ∨ ci = 7 ∨ ci = 8 ∨ ci = 9 := by omega
    have hw3 : wd x A s.heap ws H locs := hw
    have hcast : ∃ C : String, va_Nw (.castable C "PatternBench$Part") s ∧ ∃ cell : Cell, H[v]? = some cell ∧ cell.vm.isStatics = false ∧ s.vm.findClass C = some cell.cls := by
      have hF := hE.2.2.2.2.2.2.2.2.2
      rcases hc with rfl | rfl | rfl | rfl | rfl
      · exact ⟨_, hF ("PatternBench$Leaf", "PatternBench$Part") (List.mem_of_getElem? (i := 0) rfl), va_recv (q := (R_Leaf, F_Leaf, 2)) hK hw3.1 rfl j1⟩
      · exact ⟨_, hF ("PatternBench$Row", "PatternBench$Part") (List.mem_of_getElem? (i := 1) rfl), va_recv (q := (R_Row, F_Row, 1)) hK hw3.1 rfl j1⟩
      · exact ⟨_, hF ("PatternBench$Choice", "PatternBench$Part") (List.mem_of_getElem? (i := 2) rfl), va_recv (q := (R_Cho, F_Cho, 1)) hK hw3.1 rfl j1⟩
      · exact ⟨_, hF ("PatternBench$Group", "PatternBench$Part") (List.mem_of_getElem? (i := 3) rfl), va_recv (q := (R_Grp, F_Grp, 3)) hK hw3.1 rfl j1⟩
      · exact ⟨_, hF ("PatternBench$Repeat", "PatternBench$Part") (List.mem_of_getElem? (i := 4) rfl), va_recv (q := (R_Rep, F_Rep, 4)) hK hw3.1 rfl j1⟩
    obtain ⟨C, hC1, hC2⟩ := hcast
    refine va_castY S.1 S.2.1 S.2.2.2.1 (S.2.2.2.2 _ hcl) hC1 hC2 hd2 ?_
    exact kk v H locs hr2 hw3
theorem mm_add (S : CallFix p m c cc nL s args lw_tg own) (hK : GK x s) (hE : EN g A s s.heap) (hA : ∀ q, s.heap.size ≤ q → A q) (hw : wd x A s.heap (prl x g b a z ++ ex) H locs) {k index kc nc : Nat} {v w : Int32} {Qc : Int32 → PRS → Prop} (h : P_Pr_add kc nc k v w z Qc) (hlk : Cond.methodLink own index y_Pr_add ∈ lw_tg) (hfr : 3 ≤ R.frames) (hlo : 64 * 3 ≤ R.locals) (hf : cells + kc ≤ R.cells ∧ slots + nc ≤ R.slots) (hsz : ls.size = nL) (hW : (rest.map fun v => v.category).sum ≤ 8) (hdg : decode cc pc = .ok (.invokevirtual index, 3))
    (kk : ∀ (r : Int32) (z : PRS) (a : Nat → Nat) (H : Heap) (locs : List Loc), Qc r z → wd x A s.heap (prl x g b a z ++ ex) H locs → W p l e R s m args below meth c H locs (cells + kc) (slots + nc) Q (F0 m (pc + 3) ls (.int r :: rest))) : W p l e R s m args below meth c H locs cells slots Q (F0 m pc ls (.int w :: .int v :: .ref (g.1 k) :: .ref b :: rest)) :=
  w_ciE hA hw (w_rvE (rest := rest) S hK hE hA hw (c_Pr_add l kc nc k v w z _ _ h) (ci := 2) (q0 := 0) rfl rfl (w_cb (fr := 0) (lv := 0) S.2.2.2.2 k_672 hlk k_6 yd_Pr_add rfl rfl ⟨by show 2 + 1 ≤ R.frames; omega, by show 8 + (4 + 11) + 64 * 2 ≤ R.locals; omega⟩) k_670 k_671 rfl hsz rfl hW hdg hf) kk
/-- fields of the Program, read by a part -/
theorem mm_pg (S : CallFix p m c cc nL s args lw_tg own) (hK : GK x s) (hw : wd x A H0 (prl x g b a z ++ ex) H locs) {index : Nat} (k : Nat) (hk : k < 5) (hlk : Cond.fieldLink own index (F_Prog k).1 (F_Prog k).2.1 (F_Prog k).2.2.1 ∈ lw_tg) {v : Value} (hv : [Value.ref (a 6), .ref (a 7), .ref (a 8), .ref (a 9), .int (r_ln z)][k]? = some v) (hdg : decode cc pc = .ok (.getfield index, 3))
    (kk : W p l e R s m args below meth c H locs cells slots Q (F0 m (pc + 3) ls (v :: rest))) : W p l e R s m args below meth c H locs cells slots Q (F0 m pc ls (.ref b :: rest)) :=
  w_get (fs := [.ref (a 6), .ref (a 7), .ref (a 8), .ref (a 9), .int (r_ln z)]) S hK hw 0 rfl rfl i_Prog k hk hlk hv hdg kk
theorem mm_xl (S : CallFix p m c cc nL s args lw_tg own) (hK : GK x s) (hw : wd x A H0 (prl x g b a z ++ ex) H locs) {i : Int32} (hin : vp_in i (r_xN z)) (hdg : decode cc pc = .ok (.iaload, 1)) (kk : W p l e R s m args below meth c H locs cells slots Q (F0 m (pc + 1) ls (.int (r_xF z i.toNatClampNeg) :: rest))) : W p l e R s m args below meth c H locs cells slots Q (F0 m pc ls (.int i :: .ref (a 7) :: rest)) := w_iald S hK hw 2 rfl hin hdg kk
theorem mm_yl (S : CallFix p m c cc nL s args lw_tg own) (hK : GK x s) (hw : wd x A H0 (prl x g b a z ++ ex) H locs) {i : Int32} (hin : vp_in i (r_yN z)) (hdg : decode cc pc = .ok (.iaload, 1)) (kk : W p l e R s m args below meth c H locs cells slots Q (F0 m (pc + 1) ls (.int (r_yF z i.toNatClampNeg) :: rest))) : W p l e R s m args below meth c H locs cells slots Q (F0 m pc ls (.int i :: .ref (a 8) :: rest)) := w_iald S hK hw 3 rfl hin hdg kk
theorem mm_xs (S : CallFix p m c cc nL s args lw_tg own) (hK : GK x s) (hw : wd x A H0 (prl x g b a z ++ ex) H locs) {i q : Int32} (hin : vp_in i (r_xN z)) (hdg : decode cc pc = .ok (.iastore, 1)) (kk : ∀ (H1 : Heap) (locs1 : List Loc), wd x A H0 (prl x g b a (rs_xF z (upd (r_xF z) i.toNatClampNeg q)) ++ ex) H1 locs1 → W p l e R s m args below meth c H1 locs1 cells slots Q (F0 m (pc + 1) ls rest)) : W p l e R s m args below meth c H locs cells slots Q (F0 m pc ls (.int q :: .int i :: .ref (a 7) :: rest)) := w_iast S hK hw 2 rfl hin rfl hdg kk
theorem mm_ys (S : CallFix p m c cc nL s args lw_tg own) (hK : GK x s) (hw : wd x A H0 (prl x g b a z ++ ex) H locs) {i q : Int32} (hin : vp_in i (r_yN z)) (hdg : decode cc pc = .ok (.iastore, 1)) (kk : ∀ (H1 : Heap) (locs1 : List Loc), wd x A H0 (prl x g b a (rs_yF z (upd (r_yF z) i.toNatClampNeg q)) ++ ex) H1 locs1 → W p l e R s m args below meth c H1 locs1 cells slots Q (F0 m (pc + 1) ls rest)) : W p l e R s m args below meth c H locs cells slots Q (F0 m pc ls (.int q :: .int i :: .ref (a 8) :: rest)) := w_iast S hK hw 3 rfl hin rfl hdg kk
end MR
