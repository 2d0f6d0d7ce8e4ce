/-! By hand: new arrays, Arrays.copyOf of bytes, the check of an index, PatternBench.longer -/
section HN
variable {p : Program} {l : Launch} {e : Env} {R : Room} {s : State} {m : MethodId} {args : Array Value} {below : List Frame} {meth : Method} {c : Code} {H H0 : Heap} {locs : List Loc} {cells slots : Nat} {Q : State → Prop}
variable {cc : ByteArray} {nL pc : Nat} {ls : Array Slot} {rest : List Value} {x : GX} {g : GE} {a : Nat → Nat} {A : Nat → Prop} {ex ws : va_W} {own : String}
theorem w_newa (S : CallFix p m c cc nL s args lw_tg own) (hK : GK x s) (hA : ∀ q, H0.size ≤ q → A q) (hw : wd x A H0 ws H locs) {atype : ArrayType} {ty : FieldType} (hty : newarray.typeOf atype = ty) (t0 : Nat) (ht : (tysG x.2.2)[t0]? = some (x.2.2 t0, ty)) (hra : ∀ (U : State) (cA : ClassId), va_RA U cA ty = (U.vm.findClass ("[" ++ ty.toString) = some cA)) {n : Int32} (N : Nat) {a0 : vp_A} (ha : ∀ cA : ClassId, vp_cell cA a0 = arrV cA N (fun _ => defaultValue ty)) (hn : n = nI N) (hN : N < 2 ^ 31) (hb : N * componentBytes ty ≤ 536870912) (hcs : cells + 1 ≤ R.cells ∧ slots + N ≤ R.slots) (harr : Cond.arrayClass ty ∈ lw_tg) (hdg : decode cc pc = .ok (.newarray atype, 2))
    (kk : ∀ (q : Nat) (H1 : Heap), wd x A H0 ((q, .inl (x.2.2 t0, a0)) :: ws) H1 locs → W p l e R s m args below meth c H1 locs (cells + 1) (slots + N) Q (F0 m (pc + 2) ls (.ref q :: rest))) : W p l e R s m args below meth c H locs cells slots Q (F0 m pc ls (.int n :: rest)) := by
  subst hn
  refine va_newa S.1 S.2.1 (by rw [hty]; exact S.2.2.2.2 _ harr) hty hK hw.1 hw.2.1 hw.2.2 hA ha (nI_pos hN) (nI_clamp hN) hb hcs.1 hcs.2 hdg (fun q cA H1 h1 h2 h3 h4 => ?_)
  have e1 := (h1.2 (tysG x.2.2).length (cA, ty) (by rw [List.getElem?_append_right (Nat.le_refl _), Nat.sub_self]; rfl)).2
  have e2 := (hK.2 t0 _ ht).2
  rw [hra] at e1 e2
  have e3 : cA = x.2.2 t0 := Option.some.inj (e1.symm.trans e2)
  subst e3
  have h5 : wd x A H0 (ws ++ ([(q, .inl (x.2.2 t0, a0))] ++ [])) H1 locs := ⟨h2, h3, h4⟩
  have h6 := wd_rot h5
  rw [List.append_nil] at h6
  exact kk q H1 h6
theorem w_newI (S : CallFix p m c cc nL s args lw_tg own) (hK : GK x s) (hA : ∀ q, H0.size ≤ q → A q) (hw : wd x A H0 ws H locs) {n : Int32} (N : Nat) (hn : n = nI N) (hN : N ≤ 2 ^ 27) (hcs : cells + 1 ≤ R.cells ∧ slots + N ≤ R.slots) (harr : Cond.arrayClass .int ∈ lw_tg) (hdg : decode cc pc = .ok (.newarray .int, 2))
    (kk : ∀ (q : Nat) (H1 : Heap), wd x A H0 ((q, .inl (x.2.2 0, N, .inl (fun _ => 0))) :: ws) H1 locs → W p l e R s m args below meth c H1 locs (cells + 1) (slots + N) Q (F0 m (pc + 2) ls (.ref q :: rest))) : W p l e R s m args below meth c H locs cells slots Q (F0 m pc ls (.int n :: rest)) :=
  w_newa (atype := .int) (ty := .int) S hK hA hw rfl 0 rfl (fun _ _ => rfl) N (fun _ => rfl) hn (by omega) (by show N * 4 ≤ _; omega) hcs harr hdg kk
theorem w_newL (S : CallFix p m c cc nL s args lw_tg own) (hK : GK x s) (hA : ∀ q, H0.size ≤ q → A q) (hw : wd x A H0 ws H locs) {n : Int32} (N : Nat) (hn : n = nI N) (hN : N ≤ 2 ^ 26) (hcs : cells + 1 ≤ R.cells ∧ slots + N ≤ R.slots) (harr : Cond.arrayClass .long ∈ lw_tg) (hdg : decode cc pc = .ok (.newarray .long, 2))
    (kk : ∀ (q : Nat) (H1 : Heap), wd x A H0 ((q, .inl (x.2.2 1, N, .inr (.inl (fun _ => 0)))) :: ws) H1 locs → W p l e R s m args below meth c H1 locs (cells + 1) (slots + N) Q (F0 m (pc + 2) ls (.ref q :: rest))) : W p l e R s m args below meth c H locs cells slots Q (F0 m pc ls (.int n :: rest)) :=
  w_newa (atype := .long) (ty := .long) S hK hA hw rfl 1 rfl (fun _ _ => rfl) N (fun _ => rfl) hn (by omega) (by show N * 8 ≤ _; omega) hcs harr hdg kk
theorem w_newB (S : CallFix p m c cc nL s args lw_tg own) (hK : GK x s) (hA : ∀ q, H0.size ≤ q → A q) (hw : wd x A H0 ws H locs) {n : Int32} (N : Nat) (hn : n = nI N) (hN : N ≤ 2 ^ 29) (hcs : cells + 1 ≤ R.cells ∧ slots + N ≤ R.slots) (harr : Cond.arrayClass .byte ∈ lw_tg) (hdg : decode cc pc = .ok (.newarray .byte, 2))
    (kk : ∀ (q : Nat) (H1 : Heap), wd x A H0 ((q, .inl (x.2.2 2, N, .inl (fun _ => 0))) :: ws) H1 locs → W p l e R s m args below meth c H1 locs (cells + 1) (slots + N) Q (F0 m (pc + 2) ls (.ref q :: rest))) : W p l e R s m args below meth c H locs cells slots Q (F0 m pc ls (.int n :: rest)) :=
  w_newa (atype := .byte) (ty := .byte) S hK hA hw rfl 2 rfl (fun _ _ => rfl) N (fun _ => rfl) hn (by omega) (by show N * 1 ≤ _; omega) hcs harr hdg kk
end HN
/-! an array that is copied into a longer one -/
def grown (n : Nat) (f : Nat → Int32) : Nat → Int32 := fun j => if j < n then f j else 0
/-- one array of class c -/
def acl (c : ClassId) (q : Nat) (_ : Nat → Nat) (z : Nat × (Nat → Int32)) : va_W := [(q, .inl (c, z.1, .inl z.2))]
/-- the answer: a new array of N places, holding f -/
def QcNew (x : GX) (c : ClassId) (ws : va_W) (N : Nat) (f : Nat → Int32) (A : Nat → Prop) : Array Value → State → Outcome → State → Prop := va_Qr (fun _ : Unit => True) (fun _ r t => va_P (x.1, x.2.1) classes ((r, .inl (c, N, .inl f)) :: ws) t.heap ∧ va_D A ((r, .inl (c, N, .inl f)) :: ws)) A
section HC
variable {p : Program} {l : Launch} {e : Env} {R : Room} {s : State} {m : MethodId} {args : Array Value} {below : List Frame} {meth : Method} {c : Code} {H H0 : Heap} {locs : List Loc} {cells slots : Nat} {Q : State → Prop}
variable {cc : ByteArray} {nL pc : Nat} {ls : Array Slot} {rest st0 : List Value} {x : GX} {g : GE} {a : Nat → Nat} {A : Nat → Prop} {ex ws : va_W} {own : String} {mc ms : Nat}
theorem w_arrret (S : CallFix p m c cc nL s args lw_tg own) {ty : FieldType} (hr : meth.sig.returnType = some (.array ty)) (hlk : meth.locks = false) {cA : ClassId} {N : Nat} {f : Nat → Int32} {q : Nat} (hw : wd x A s.heap ((q, .inl (cA, N, .inl f)) :: ws) H locs) (hdg : decode cc pc = .ok (.areturn, 1)) :
    W p l e R s m args below meth c H locs cells slots (MQ below (QcNew x cA ws N f A) args s cells slots A) (F0 m pc ls [.ref q]) :=
  W.aret (v := .ref q) S.1 S.2.1 hr (Or.inr ⟨ty, rfl⟩) (Or.inr ⟨q, rfl⟩) (fun t ht hW => ⟨⟨(), q, rfl, trivial, by rw [ht]; exact hw.1, hw.2.1⟩, hw.2.2.F ht⟩) hw.2.2.2.2 hdg hlk
theorem w_cnew (hA : ∀ q, H0.size ≤ q → A q) {wc : va_W} (hw : wd x A H0 wc H locs) {cA : ClassId} {N : Nat} {f : Nat → Int32} {ar : Array Value}
    (hr : va_Run p l e R s m args below meth c H locs cells slots mc ms (F0 m pc ls st0) rest (QcNew x cA ws N f (va_A wc H.size) ar) (va_A wc H.size))
    (kk : ∀ (q : Nat) (H : Heap) (locs : List Loc), wd x A H0 ((q, .inl (cA, N, .inl f)) :: ws) H locs → W p l e R s m args below meth c H locs (cells + mc) (slots + ms) Q (F0 m (pc + 3) ls (.ref q :: rest))) : W p l e R s m args below meth c H locs cells slots Q (F0 m pc ls st0) := by
  have hF := wd_free hA hw
  refine va_callr hr hw.2.2 (fun q _ h => hF q h) hF (fun u1 rb t H1 locs1 ht hvm hq hB hz hk hS => ?_)
  obtain ⟨hB1, hB2⟩ := hB
  refine kk rb H1 locs1 ⟨?_, ?_, hS⟩
  · rw [← ht]; exact hB1
  · exact hB2.weaken (fun _ _ _ h => hF _ h)
end HC
-- Preconditions.checkIndex, String.checkIndex
abbrev b_J_pchk : ByteArray := prog_35_method_11_code
def y_J_pchk : MethodName := ⟨"jdk/internal/util/Preconditions", "checkIndex", "(IILjava/util/function/BiFunction;)I"⟩
theorem yd_J_pchk : y_J_pchk.cls ≠ "java/lang/invoke/MethodHandle" ∧ y_J_pchk.cls ≠ "java/lang/invoke/VarHandle" ∧ (parseMethodDescriptor y_J_pchk.desc).map (fun d => d.parameters.length) = some 3 := by decide +kernel
theorem d_J_pchk_0 : decode b_J_pchk 0 = .ok (.iload_n 0, 1) := by decide +kernel
theorem d_J_pchk_1 : decode b_J_pchk 1 = .ok (.ifCond .lt 8, 3) := by decide +kernel
theorem d_J_pchk_4 : decode b_J_pchk 4 = .ok (.iload_n 0, 1) := by decide +kernel
theorem d_J_pchk_5 : decode b_J_pchk 5 = .ok (.iload_n 1, 1) := by decide +kernel
theorem d_J_pchk_6 : decode b_J_pchk 6 = .ok (.if_icmp .lt 10, 3) := by decide +kernel
theorem d_J_pchk_16 : decode b_J_pchk 16 = .ok (.iload_n 0, 1) := by decide +kernel
theorem d_J_pchk_17 : decode b_J_pchk 17 = .ok (.ireturn, 1) := by decide +kernel
theorem c_J_pchk (l : Launch) (x0 x1 : Int32) (r : Option Nat) (h0 : ¬ x0 < 0) (h1 : x0 < x1) : Met l y_J_pchk (wM y_J_pchk b_J_pchk 3 (some .int)) (rmN 0 0 0) (PreN [.int x0, .int x1, va_rf r]) (QcN (fun v => v = x0)) 0 0 (fun _ => False) := by
  have hlen : (lg_sl [.int x0, .int x1, va_rf r]).length ≤ 3 := by cases r <;> exact Nat.le_of_ble_eq_true rfl
  refine w_enterNF (by decide +kernel) hlen (fun p e s m args below meth c S hr hlk ls hl => ?_)
  have hl : lv_has ls 3 [(0, .int x0), (1, .int x1)] := by
    cases r
    · exact lv_sub (l := [(0, .int x0), (1, .int x1), (2, .null)]) hl [0, 1] rfl
    · exact lv_sub (l := [(0, .int x0), (1, .int x1), (2, .ref _)]) hl [0, 1] rfl
  refine lv_iload_n S.1 S.2.1 d_J_pchk_0 rfl (lv_at hl 0 rfl) ?_
  refine lv_if_lt (tgt := 9) S.1 S.2.1 d_J_pchk_1 (by decide) (fun q => absurd q h0) (fun _ => ?_)
  refine lv_iload_n S.1 S.2.1 d_J_pchk_4 rfl (lv_at hl 0 rfl) ?_
  refine lv_iload_n S.1 S.2.1 d_J_pchk_5 rfl (lv_at hl 1 rfl) ?_
  refine lv_icmp_lt (tgt := 16) S.1 S.2.1 d_J_pchk_6 (by decide) (fun _ => ?_) (fun q => absurd h1 q)
  refine lv_iload_n S.1 S.2.1 d_J_pchk_16 rfl (lv_at hl 0 rfl) ?_
  exact w_iretN S hr hlk rfl d_J_pchk_17
abbrev b_J_chk : ByteArray := prog_20_method_155_code
def y_J_chk : MethodName := ⟨"java/lang/String", "checkIndex", "(II)V"⟩
theorem yd_J_chk : y_J_chk.cls ≠ "java/lang/invoke/MethodHandle" ∧ y_J_chk.cls ≠ "java/lang/invoke/VarHandle" ∧ (parseMethodDescriptor y_J_chk.desc).map (fun d => d.parameters.length) = some 2 := by decide +kernel
theorem d_J_chk_0 : decode b_J_chk 0 = .ok (.iload_n 0, 1) := by decide +kernel
theorem d_J_chk_1 : decode b_J_chk 1 = .ok (.iload_n 1, 1) := by decide +kernel
theorem d_J_chk_2 : decode b_J_chk 2 = .ok (.getstatic 1053, 3) := by decide +kernel
theorem d_J_chk_5 : decode b_J_chk 5 = .ok (.invokestatic 1059, 3) := by decide +kernel
theorem d_J_chk_8 : decode b_J_chk 8 = .ok (.pop, 1) := by decide +kernel
theorem d_J_chk_9 : decode b_J_chk 9 = .ok (.return_, 1) := by decide +kernel
def P_J_chk (x0 x1 : Int32) (u : Unit) (Qc : Unit → Prop) : Prop := ¬ x0 < 0 ∧ x0 < x1 ∧ Qc u
theorem c_J_chk {x : GX} {g : GE} {ex : va_W} {a : Nat → Nat} (l : Launch) (x0 x1 : Int32) (u : Unit) (sz : Nat) (Qc : Unit → Prop) (h : P_J_chk x0 x1 u Qc) : Met l y_J_chk (wM y_J_chk b_J_chk 2 none) (rmN 1 0 0) (PreE x g ucl ex [.int x0, .int x1] a u sz) (QfV x ucl ex a (va_A (ucl a u ++ ex) sz) Qc) 0 0 (va_A (ucl a u ++ ex) sz) := by
  refine w_enterE (by decide +kernel) (Nat.le_of_ble_eq_true rfl) (fun p e s m args below meth c S hr hlk hnm hK hE hA hw ls hl => ?_)
  have hl : lv_has ls 2 [(0, .int x0), (1, .int x1)] := hl
  obtain ⟨h0, h1, h⟩ := h
  refine lv_iload_n S.1 S.2.1 d_J_chk_0 rfl (lv_at hl 0 rfl) ?_
  refine lv_iload_n S.1 S.2.1 d_J_chk_1 rfl (lv_at hl 1 rfl) ?_
  obtain ⟨r, hZ⟩ : ∃ r : Option Nat, va_Z "jdk/internal/util/Preconditions" "SIOOBE_FORMATTER" "Ljava/util/function/BiFunction;" (va_rf r) (va_A (ucl a u ++ ex) sz) s s.heap := by
    rcases hE.2.2.1 with q | ⟨t, q⟩
    · exact ⟨none, q⟩
    · exact ⟨some t, q⟩
  refine va_gets S.1 S.2.1 hZ hw.2.2 S.2.2.2.1 (S.2.2.2.2 _ k_244) (fun _ h9 => h9) d_J_chk_2 ?_
  refine w_cn (w_rs (rest := []) S (c_J_pchk l x0 x1 r h0 h1) (w_cb (fr := 0) (lv := 0) S.2.2.2.2 k_361 k_359 k_10 yd_J_pchk rfl rfl ⟨Nat.le_of_ble_eq_true rfl, Nat.le_of_ble_eq_true rfl⟩) k_360 rfl hl.1 rfl (Nat.le_of_ble_eq_true rfl) d_J_chk_5 ⟨Nat.le_refl _, Nat.le_refl _⟩) (fun v _ => ?_)
  refine lv_pop S.1 S.2.1 d_J_chk_8 rfl ?_
  exact w_vretF S hr hlk hw h d_J_chk_9
-- Arrays.copyOf(byte[], int), to a longer array
abbrev b_J_copB : ByteArray := prog_28_method_121_code
def y_J_copB : MethodName := ⟨"java/util/Arrays", "copyOf", "([BI)[B"⟩
theorem yd_J_copB : y_J_copB.cls ≠ "java/lang/invoke/MethodHandle" ∧ y_J_copB.cls ≠ "java/lang/invoke/VarHandle" ∧ (parseMethodDescriptor y_J_copB.desc).map (fun d => d.parameters.length) = some 2 := by decide +kernel
theorem d_J_copB_0 : decode b_J_copB 0 = .ok (.iload_n 1, 1) := by decide +kernel
theorem d_J_copB_1 : decode b_J_copB 1 = .ok (.aload_n 0, 1) := by decide +kernel
theorem d_J_copB_2 : decode b_J_copB 2 = .ok (.arraylength, 1) := by decide +kernel
theorem d_J_copB_3 : decode b_J_copB 3 = .ok (.if_icmp .ne 11, 3) := by decide +kernel
theorem d_J_copB_14 : decode b_J_copB 14 = .ok (.iload_n 1, 1) := by decide +kernel
theorem d_J_copB_15 : decode b_J_copB 15 = .ok (.newarray .byte, 2) := by decide +kernel
theorem d_J_copB_17 : decode b_J_copB 17 = .ok (.astore_n 2, 1) := by decide +kernel
theorem d_J_copB_18 : decode b_J_copB 18 = .ok (.aload_n 0, 1) := by decide +kernel
theorem d_J_copB_19 : decode b_J_copB 19 = .ok (.iconst 0, 1) := by decide +kernel
theorem d_J_copB_20 : decode b_J_copB 20 = .ok (.aload_n 2, 1) := by decide +kernel
theorem d_J_copB_21 : decode b_J_copB 21 = .ok (.iconst 0, 1) := by decide +kernel
theorem d_J_copB_22 : decode b_J_copB 22 = .ok (.aload_n 0, 1) := by decide +kernel
theorem d_J_copB_23 : decode b_J_copB 23 = .ok (.arraylength, 1) := by decide +kernel
theorem d_J_copB_24 : decode b_J_copB 24 = .ok (.iload_n 1, 1) := by decide +kernel
theorem d_J_copB_25 : decode b_J_copB 25 = .ok (.invokestatic 304, 3) := by decide +kernel
theorem d_J_copB_28 : decode b_J_copB 28 = .ok (.invokestatic 150, 3) := by decide +kernel
theorem d_J_copB_31 : decode b_J_copB 31 = .ok (.aload_n 2, 1) := by decide +kernel
theorem d_J_copB_32 : decode b_J_copB 32 = .ok (.areturn, 1) := by decide +kernel
set_option maxHeartbeats 4000000 in
theorem c_J_copB {x : GX} {g : GE} {ex : va_W} {a : Nat → Nat} {q : Nat} (l : Launch) (N : Nat) (z : Nat × (Nat → Int32)) (sz : Nat) (hlt : z.1 < N) (hN : N < 2 ^ 29) (hft : ∀ i, i < z.1 → fits .byte (.int (z.2 i)) = true) : Met l y_J_copB (wM y_J_copB b_J_copB 3 (some (.array .byte))) (rmN 2 1 N) (PreE x g (acl (x.2.2 2) q) ex [.ref q, .int (nI N)] a z sz) (QcNew x (x.2.2 2) (acl (x.2.2 2) q a z ++ ex) N (grown z.1 z.2) (va_A (acl (x.2.2 2) q a z ++ ex) sz)) 1 N (va_A (acl (x.2.2 2) q a z ++ ex) sz) := by
  refine w_enterE (by decide +kernel) (Nat.le_of_ble_eq_true rfl) (fun p e s m args below meth c S hr hlk hnm hK hE hA hw ls hl => ?_)
  have hl : lv_has ls 3 [(0, .ref q), (1, .int (nI N))] := hl
  refine lv_iload_n S.1 S.2.1 d_J_copB_0 rfl (lv_at hl 1 rfl) ?_
  refine lv_aload_n S.1 S.2.1 d_J_copB_1 rfl (lv_at hl 0 rfl) ?_
  refine va_alen (v := nI z.1) S.1 S.2.1 hK hw.1 0 2 rfl rfl rfl d_J_copB_2 ?_
  refine lv_icmp_ne (tgt := 14) S.1 S.2.1 d_J_copB_3 (by decide) (fun _ => ?_) (fun e9 => absurd ((nI_eq (by omega) (by omega)).mp e9) (by omega))
  refine lv_iload_n S.1 S.2.1 d_J_copB_14 rfl (lv_at hl 1 rfl) ?_
  refine w_newB S hK hA hw N rfl (by omega) ⟨by show 0 + 1 ≤ 1; omega, by show 0 + N ≤ N; omega⟩ k_66 d_J_copB_15 (fun r H hw => ?_)
  refine lv_astore_n (lv' := [(2, .ref r), (0, .ref q), (1, .int (nI N))]) S.1 S.2.1 d_J_copB_17 rfl hl (by decide) rfl (fun ls hl => ?_)
  refine lv_aload_n S.1 S.2.1 d_J_copB_18 rfl (lv_at hl 1 rfl) ?_
  refine lv_iconst (v := 0) S.1 S.2.1 d_J_copB_19 (by decide) ?_
  refine lv_aload_n S.1 S.2.1 d_J_copB_20 rfl (lv_at hl 0 rfl) ?_
  refine lv_iconst (v := 0) S.1 S.2.1 d_J_copB_21 (by decide) ?_
  refine lv_aload_n S.1 S.2.1 d_J_copB_22 rfl (lv_at hl 1 rfl) ?_
  refine va_alen (v := nI z.1) S.1 S.2.1 hK hw.1 1 2 rfl rfl rfl d_J_copB_23 ?_
  refine lv_iload_n S.1 S.2.1 d_J_copB_24 rfl (lv_at hl 2 rfl) ?_
  refine va_mmin S.1 S.2.1 (S.2.2.1.trans hl.1.symm) S.2.2.2.1 (S.2.2.2.2 _ k_316) (S.2.2.2.2 _ k_108) (S.2.2.2.2 _ k_7) (S.2.2.2.2 _ k_109) (Nat.le_of_ble_eq_true rfl) (Nat.le_of_ble_eq_true rfl) (by show 0 + 1 ≤ 1; omega) (by show 0 + N ≤ N; omega) d_J_copB_25 ?_
  rw [if_neg (nI_nlt (by omega) (by omega))]
  have e0 : (0 : Int32).toNatClampNeg = 0 := sb_cl0
  have e1 : (nI z.1).toNatClampNeg = z.1 := nI_clamp (by omega)
  refine va_copyi S.1 S.2.1 (S.2.2.1.trans hl.1.symm) S.2.2.2.1 (S.2.2.2.2 _ k_317) (S.2.2.2.2 _ k_319) (S.2.2.2.2 _ k_318) (S.2.2.2.2 _ k_14) hK hw.1 hw.2.1 hw.2.2 1 0 2 2 rfl rfl rfl rfl rfl (by decide) (by decide) (nI_pos (by omega)) (by rw [e0, e1]; omega) (by rw [e0, e1]; omega) (fun i hi => by rw [e0, Nat.zero_add]; exact hft i (by rw [e1] at hi; exact hi)) (Nat.le_of_ble_eq_true rfl) (Nat.le_of_ble_eq_true rfl) d_J_copB_28 (fun H locs h1 h2 h3 => ?_)
  have hfx : va_cpy z.2 (fun _ => 0) (0 : Int32).toNatClampNeg (0 : Int32).toNatClampNeg (nI z.1).toNatClampNeg = grown z.1 z.2 := by
    rw [e0, e1]
    funext j
    simp only [va_cpy, grown, Nat.zero_le, Nat.zero_add, true_and, Nat.sub_zero]
  rw [hfx] at h1 h2
  have hw : wd x (va_A (acl (x.2.2 2) q a z ++ ex) sz) s.heap ((r, .inl (x.2.2 2, N, .inl (grown z.1 z.2))) :: (acl (x.2.2 2) q a z ++ ex)) H locs := ⟨h1, h2, h3⟩
  refine lv_aload_n S.1 S.2.1 d_J_copB_31 rfl (lv_at hl 0 rfl) ?_
  refine W.widen (k := 1) (n := N) (by omega) (by omega) ?_
  exact w_arrret S hr hlk hw d_J_copB_32
def s_grown (u : SBS) (N : Nat) : SBS := (N, grown (z_cap u) (z_by u), z_co u, z_mb u, z_ct u)
section HS
variable {p : Program} {l : Launch} {e : Env} {R : Room} {s : State} {m : MethodId} {args : Array Value} {below : List Frame} {meth : Method} {c : Code} {H : Heap} {locs : List Loc} {cells slots : Nat} {Q : State → Prop}
variable {cc : ByteArray} {nL pc : Nat} {ls : Array Slot} {rest : List Value} {x : GX} {g : GE} {a : Nat → Nat} {A : Nat → Prop} {ex : va_W} {b : Nat} {z : SBS}
/-- value = Arrays.copyOf(value, N) -/
theorem s_copy (S : CallFix p m c cc nL s args lw_tg "java/lang/AbstractStringBuilder") (hK : GK x s) (hE : EN g A s s.heap) (hA : ∀ q, s.heap.size ≤ q → A q) (hw : wd x A s.heap (scl x b a z ++ ex) H locs) (N : Nat) {n : Int32} (hn : n = nI N) (hlt : z_cap z < N) (hN : N < 2 ^ 29) (hft : ∀ i, i < z_cap z → fits .byte (.int (z_by z i)) = true) (hfr : 3 ≤ R.frames) (hlo : 200 ≤ R.locals) (hsz : ls.size = nL) (hf : cells + 1 ≤ R.cells ∧ slots + N ≤ R.slots) (hd1 : decode cc pc = .ok (.invokestatic 108, 3)) (hd2 : decode cc (pc + 3) = .ok (.putfield 15, 3)) (hW : (rest.map fun v => v.category).sum ≤ 7)
    (kk : ∀ (a : Nat → Nat) (H : Heap) (locs : List Loc), wd x A s.heap (scl x b a (s_grown z N) ++ ex) H locs → W p l e R s m args below meth c H locs (cells + 1) (slots + N) Q (F0 m (pc + 6) ls rest)) : W p l e R s m args below meth c H locs cells slots Q (F0 m pc ls (.int n :: .ref (a 0) :: .ref b :: rest)) := by
  subst hn
  have hw2 : wd x A s.heap (acl (x.2.2 2) (a 0) a (z_cap z, z_by z) ++ ([(b, .inr (3, [.ref (a 0), .int (z_co z), .int (z_mb z), .int (z_ct z)]))] ++ ex)) H locs := wd_rot (l1 := [(b, .inr (3, [.ref (a 0), .int (z_co z), .int (z_mb z), .int (z_ct z)]))]) (l2 := ex) hw
  refine w_cnew hA hw2 (w_rsE (rest := .ref b :: rest) S hK hE hA hw2 (c_J_copB l N (z_cap z, z_by z) _ hlt hN hft) (w_cb (fr := 0) (lv := 0) S.2.2.2.2 k_308 k_306 k_13 yd_J_copB rfl rfl ⟨by show 2 + 1 ≤ R.frames; omega, by show 8 + (3 + 11) + 128 ≤ R.locals; omega⟩) k_307 rfl hsz rfl (by rw [List.map_cons, List.sum_cons]; have : (Value.ref b).category = 1 := rfl; omega) hd1 hf) (fun r H locs hw => ?_)
  refine w_put S hK hw 2 rfl rfl i_SB t_SB t_SB_ok n_SB 0 (by decide) k_53 rfl rfl rfl (Nat.le_of_ble_eq_true rfl) rfl hd2 (fun H locs hw => ?_)
  have hw3 := wd_drop (l1 := [(r, .inl (x.2.2 2, N, .inl (grown (z_cap z) (z_by z))))]) hw
  have hw4 : wd x A s.heap ([(b, .inr (3, [.ref r, .int (z_co z), .int (z_mb z), .int (z_ct z)]))] ++ ([(r, .inl (x.2.2 2, N, .inl (grown (z_cap z) (z_by z))))] ++ ex)) H locs := wd_rot (l1 := [(r, .inl (x.2.2 2, N, .inl (grown (z_cap z) (z_by z))))]) (wc := [(b, .inr (3, [.ref r, .int (z_co z), .int (z_mb z), .int (z_ct z)]))]) (l2 := ex) hw3
  exact kk (fun _ => r) H locs hw4
end HS
-- PatternBench.longer: an int array twice as long
abbrev b_longer : ByteArray := prog_1_method_1_code
def y_longer : MethodName := ⟨"PatternBench", "longer", "([I)[I"⟩
theorem yd_longer : y_longer.cls ≠ "java/lang/invoke/MethodHandle" ∧ y_longer.cls ≠ "java/lang/invoke/VarHandle" ∧ (parseMethodDescriptor y_longer.desc).map (fun d => d.parameters.length) = some 1 := by decide +kernel
theorem d_longer_0 : decode b_longer 0 = .ok (.iconst 2, 1) := by decide +kernel
theorem d_longer_1 : decode b_longer 1 = .ok (.aload_n 0, 1) := by decide +kernel
theorem d_longer_2 : decode b_longer 2 = .ok (.arraylength, 1) := by decide +kernel
theorem d_longer_3 : decode b_longer 3 = .ok (.imul, 1) := by decide +kernel
theorem d_longer_4 : decode b_longer 4 = .ok (.newarray .int, 2) := by decide +kernel
theorem d_longer_6 : decode b_longer 6 = .ok (.astore_n 1, 1) := by decide +kernel
theorem d_longer_7 : decode b_longer 7 = .ok (.iconst 0, 1) := by decide +kernel
theorem d_longer_8 : decode b_longer 8 = .ok (.istore_n 2, 1) := by decide +kernel
theorem d_longer_9 : decode b_longer 9 = .ok (.iload_n 2, 1) := by decide +kernel
theorem d_longer_10 : decode b_longer 10 = .ok (.aload_n 0, 1) := by decide +kernel
theorem d_longer_11 : decode b_longer 11 = .ok (.arraylength, 1) := by decide +kernel
theorem d_longer_12 : decode b_longer 12 = .ok (.if_icmp .ge 15, 3) := by decide +kernel
theorem d_longer_15 : decode b_longer 15 = .ok (.aload_n 1, 1) := by decide +kernel
theorem d_longer_16 : decode b_longer 16 = .ok (.iload_n 2, 1) := by decide +kernel
theorem d_longer_17 : decode b_longer 17 = .ok (.aload_n 0, 1) := by decide +kernel
theorem d_longer_18 : decode b_longer 18 = .ok (.iload_n 2, 1) := by decide +kernel
theorem d_longer_19 : decode b_longer 19 = .ok (.iaload, 1) := by decide +kernel
theorem d_longer_20 : decode b_longer 20 = .ok (.iastore, 1) := by decide +kernel
theorem d_longer_21 : decode b_longer 21 = .ok (.iinc 2 1, 3) := by decide +kernel
theorem d_longer_24 : decode b_longer 24 = .ok (.goto (-15), 3) := by decide +kernel
theorem d_longer_27 : decode b_longer 27 = .ok (.aload_n 1, 1) := by decide +kernel
theorem d_longer_28 : decode b_longer 28 = .ok (.areturn, 1) := by decide +kernel
set_option maxHeartbeats 4000000 in
theorem wL_longer {p : Program} {l : Launch} {e : Env} {s : State} {m : MethodId} {args : Array Value} {below : List Frame} {meth : Method} {c : Code} {x : GX} {a : Nat → Nat} {A : Nat → Prop} {ex : va_W} {q r : Nat} {z : Nat × (Nat → Int32)} (hz : z.1 ≤ 2 ^ 26) (S : CallFix p m c b_longer 3 s args lw_tg "PatternBench") (hr : meth.sig.returnType = some (.array .int)) (hlk : meth.locks = false) (hK : GK x s) :
    ∀ (n i : Nat), i ≤ z.1 → z.1 < i + n → ∀ (ls : Array Slot) (H : Heap) (locs : List Loc), lv_has ls 3 [(0, .ref q), (1, .ref r), (2, .int (nI i))] → wd x A s.heap ((r, .inl (x.2.2 0, 2 * z.1, .inl (grown i z.2))) :: (acl (x.2.2 0) q a z ++ ex)) H locs → W p l e (rmN 0 1 (2 * z.1)) s m args below meth c H locs (0 + 1) (0 + 2 * z.1) (MQ below (QcNew x (x.2.2 0) (acl (x.2.2 0) q a z ++ ex) (2 * z.1) (grown z.1 z.2) A) args s 1 (2 * z.1) A) (F0 m 9 ls []) := by
  intro n
  induction n with
  | zero => intro i h1 h2; omega
  | succ n ih =>
    intro i hi hn ls H locs hl hw
    refine lv_iload_n S.1 S.2.1 d_longer_9 rfl (lv_at hl 2 rfl) ?_
    refine lv_aload_n S.1 S.2.1 d_longer_10 rfl (lv_at hl 0 rfl) ?_
    refine va_alen (v := nI z.1) S.1 S.2.1 hK hw.1 1 0 rfl rfl rfl d_longer_11 ?_
    refine lv_icmp_ge (tgt := 27) S.1 S.2.1 d_longer_12 (by decide) (fun q9 => ?_) (fun q9 => ?_)
    · have hle := (nI_leI (by omega) (by omega)).mp q9
      have he : i = z.1 := by omega
      subst he
      refine lv_aload_n S.1 S.2.1 d_longer_27 rfl (lv_at hl 1 rfl) ?_
      refine W.widen (k := 1) (n := 2 * z.1) (by omega) (by omega) ?_
      exact w_arrret S hr hlk hw d_longer_28
    · have hlt : i < z.1 := by
        rcases Nat.lt_or_ge i z.1 with h | h
        · exact h
        · exact absurd ((nI_leI (by omega) (by omega)).mpr h) q9
      refine lv_aload_n S.1 S.2.1 d_longer_15 rfl (lv_at hl 1 rfl) ?_
      refine lv_iload_n S.1 S.2.1 d_longer_16 rfl (lv_at hl 2 rfl) ?_
      refine lv_aload_n S.1 S.2.1 d_longer_17 rfl (lv_at hl 0 rfl) ?_
      refine lv_iload_n S.1 S.2.1 d_longer_18 rfl (lv_at hl 2 rfl) ?_
      refine w_iald S hK hw 1 rfl (vp_in_nI hlt (by omega)) d_longer_19 ?_
      refine w_iast S hK hw 0 rfl (vp_in_nI (show i < 2 * z.1 by omega) (by omega)) rfl d_longer_20 (fun H locs hw => ?_)
      have hfx : upd (grown i z.2) (nI i).toNatClampNeg (z.2 (nI i).toNatClampNeg) = grown (i + 1) z.2 := by
        rw [nI_clamp (by omega)]
        funext j
        simp only [upd, grown]
        by_cases h1 : j = i
        · subst h1; rw [if_pos rfl, if_pos (Nat.lt_succ_self _)]
        · rw [if_neg h1]
          by_cases h2 : j < i
          · rw [if_pos h2, if_pos (by omega)]
          · rw [if_neg h2, if_neg (by omega)]
      have hw : wd x A s.heap ((r, .inl (x.2.2 0, 2 * z.1, .inl (grown (i + 1) z.2))) :: (acl (x.2.2 0) q a z ++ ex)) H locs := by
        rw [← hfx]; exact hw
      refine lv_iinc (v := nI (i + 1)) (lv' := [(2, .int (nI (i + 1))), (0, .ref q), (1, .ref r)]) S.1 S.2.1 d_longer_21 hl (k := 2) rfl (nI_1 i) (by decide) rfl (fun ls hl => ?_)
      refine lv_goto (tgt := 9) S.1 S.2.1 d_longer_24 (by decide) ?_
      exact ih (i + 1) hlt (by omega) ls H locs (lv_sub hl [1, 2, 0] rfl) hw
set_option maxHeartbeats 4000000 in
theorem c_longer {x : GX} {g : GE} {ex : va_W} {a : Nat → Nat} {q : Nat} (l : Launch) (z : Nat × (Nat → Int32)) (sz : Nat) (hz : z.1 ≤ 2 ^ 26) : Met l y_longer (wM y_longer b_longer 3 (some (.array .int))) (rmN 0 1 (2 * z.1)) (PreE x g (acl (x.2.2 0) q) ex [.ref q] a z sz) (QcNew x (x.2.2 0) (acl (x.2.2 0) q a z ++ ex) (2 * z.1) (grown z.1 z.2) (va_A (acl (x.2.2 0) q a z ++ ex) sz)) 1 (2 * z.1) (va_A (acl (x.2.2 0) q a z ++ ex) sz) := by
  refine w_enterE (by decide +kernel) (Nat.le_of_ble_eq_true rfl) (fun p e s m args below meth c S hr hlk hnm hK hE hA hw ls hl => ?_)
  have hl : lv_has ls 3 [(0, .ref q)] := hl
  refine lv_iconst (v := 2) S.1 S.2.1 d_longer_0 (by decide) ?_
  refine lv_aload_n S.1 S.2.1 d_longer_1 rfl (lv_at hl 0 rfl) ?_
  refine va_alen (v := nI z.1) S.1 S.2.1 hK hw.1 0 0 rfl rfl rfl d_longer_2 ?_
  refine lv_imul S.1 S.2.1 d_longer_3 ?_
  refine w_newI S hK hA hw (2 * z.1) (pk_mul 2 z.1) (by omega) ⟨by show 0 + 1 ≤ 1; omega, by show 0 + 2 * z.1 ≤ 2 * z.1; omega⟩ k_104 d_longer_4 (fun r H hw => ?_)
  refine lv_astore_n (lv' := [(1, .ref r), (0, .ref q)]) S.1 S.2.1 d_longer_6 rfl hl (by decide) rfl (fun ls hl => ?_)
  refine lv_iconst (v := 0) S.1 S.2.1 d_longer_7 (by decide) ?_
  refine lv_istore_n (lv' := [(2, .int 0), (1, .ref r), (0, .ref q)]) S.1 S.2.1 d_longer_8 rfl hl (by decide) rfl (fun ls hl => ?_)
  have h0 : (fun _ : Nat => (0 : Int32)) = grown 0 z.2 := by
    funext j; simp [grown]
  rw [h0] at hw
  exact wL_longer hz S hr hlk hK (z.1 + 1) 0 (Nat.zero_le _) (by omega) ls H [] (lv_sub hl [2, 1, 0] rfl) hw
def p_growT (v : PS) : PS := ps_tF (ps_tN v (2 * p_tN v)) (grown (p_tN v) (p_tF v))
def p_growK (v : PS) : PS := ps_kF (ps_kN v (2 * p_kN v)) (grown (p_kN v) (p_kF v))
section HP
variable {p : Program} {l : Launch} {e : Env} {R : Room} {s : State} {m : MethodId} {args : Array Value} {below : List Frame} {meth : Method} {c : Code} {H H0 : Heap} {locs : List Loc} {cells slots : Nat} {Q : State → Prop}
variable {cc : ByteArray} {nL pc : Nat} {ls : Array Slot} {x : GX} {g : GE} {a : Nat → Nat} {A : Nat → Prop} {ex : va_W} {h : Nat} {v : PS}
theorem pT_out (hw : wd x A H0 (pcl x g h a v ++ ex) H locs) : wd x A H0 (acl (x.2.2 0) (a 11) a (p_tN v, p_tF v) ++ ((pobj h a v :: (scl x (a 1) (fun _ => a 2) (p_wr v) ++ (scl x (a 3) (fun _ => a 4) (p_su v) ++ (prl x g (a 5) a (p_pr v) ++ [(a 10, .inl (x.2.2 4, 5, .inr (.inr (.inr (.inr (p_ins v))))))])))) ++ ([(a 12, .inl (x.2.2 0, 10, .inl (p_cF v))), (a 13, .inl (x.2.2 0, p_kN v, .inl (p_kF v))), (a 14, .inl (x.2.2 0, 120, .inl (p_fF v)))] ++ ex))) H locs := wd_rot (l1 := pobj h a v :: (scl x (a 1) (fun _ => a 2) (p_wr v) ++ (scl x (a 3) (fun _ => a 4) (p_su v) ++ (prl x g (a 5) a (p_pr v) ++ [(a 10, .inl (x.2.2 4, 5, .inr (.inr (.inr (.inr (p_ins v))))))])))) (wc := acl (x.2.2 0) (a 11) a (p_tN v, p_tF v)) (l2 := ([(a 12, .inl (x.2.2 0, 10, .inl (p_cF v))), (a 13, .inl (x.2.2 0, p_kN v, .inl (p_kF v))), (a 14, .inl (x.2.2 0, 120, .inl (p_fF v)))] ++ ex)) hw
theorem pT_eq (r : Nat) : pcl x g h (va_up a 11 r) (p_growT v) = (h, .inr (1, [.int (p_limit v), .ref (a 1), .ref (a 3), .ref (a 5), .int (p_there v), .int (p_rgroups v), .int (p_rsize v), .int (p_at v), .int (p_wrong v), .int (p_groups v), .int (p_named v), .ref (a 10), .ref r, .int (p_height v), .ref (a 12), .ref (a 13), .int (p_marked v), .ref (a 14), .int (p_calls v), .int (p_pc v), .int (p_place v), .int (p_steps v), .int (p_stopped v), .int (p_matched v)])) :: ((scl x (a 1) (fun _ => a 2) (p_wr v) ++ (scl x (a 3) (fun _ => a 4) (p_su v) ++ (prl x g (a 5) a (p_pr v) ++ [(a 10, .inl (x.2.2 4, 5, .inr (.inr (.inr (.inr (p_ins v))))))]))) ++ ((r, .inl (x.2.2 0, 2 * p_tN v, .inl (grown (p_tN v) (p_tF v)))) :: [(a 12, .inl (x.2.2 0, 10, .inl (p_cF v))), (a 13, .inl (x.2.2 0, p_kN v, .inl (p_kF v))), (a 14, .inl (x.2.2 0, 120, .inl (p_fF v)))])) := rfl
theorem pT_in {r : Nat} {q : Nat × va_E} (hw : wd x A H0 ((r, .inl (x.2.2 0, 2 * p_tN v, .inl (grown (p_tN v) (p_tF v)))) :: q :: (((h, .inr (1, [.int (p_limit v), .ref (a 1), .ref (a 3), .ref (a 5), .int (p_there v), .int (p_rgroups v), .int (p_rsize v), .int (p_at v), .int (p_wrong v), .int (p_groups v), .int (p_named v), .ref (a 10), .ref r, .int (p_height v), .ref (a 12), .ref (a 13), .int (p_marked v), .ref (a 14), .int (p_calls v), .int (p_pc v), .int (p_place v), .int (p_steps v), .int (p_stopped v), .int (p_matched v)])) :: (scl x (a 1) (fun _ => a 2) (p_wr v) ++ (scl x (a 3) (fun _ => a 4) (p_su v) ++ (prl x g (a 5) a (p_pr v) ++ [(a 10, .inl (x.2.2 4, 5, .inr (.inr (.inr (.inr (p_ins v))))))])))) ++ ([(a 12, .inl (x.2.2 0, 10, .inl (p_cF v))), (a 13, .inl (x.2.2 0, p_kN v, .inl (p_kF v))), (a 14, .inl (x.2.2 0, 120, .inl (p_fF v)))] ++ ex))) H locs) : wd x A H0 (pcl x g h (va_up a 11 r) (p_growT v) ++ ex) H locs := by
  have h1 := wd_drop (l1 := [(r, .inl (x.2.2 0, 2 * p_tN v, .inl (grown (p_tN v) (p_tF v))))]) (q := q) (l2 := ((h, .inr (1, [.int (p_limit v), .ref (a 1), .ref (a 3), .ref (a 5), .int (p_there v), .int (p_rgroups v), .int (p_rsize v), .int (p_at v), .int (p_wrong v), .int (p_groups v), .int (p_named v), .ref (a 10), .ref r, .int (p_height v), .ref (a 12), .ref (a 13), .int (p_marked v), .ref (a 14), .int (p_calls v), .int (p_pc v), .int (p_place v), .int (p_steps v), .int (p_stopped v), .int (p_matched v)])) :: (scl x (a 1) (fun _ => a 2) (p_wr v) ++ (scl x (a 3) (fun _ => a 4) (p_su v) ++ (prl x g (a 5) a (p_pr v) ++ [(a 10, .inl (x.2.2 4, 5, .inr (.inr (.inr (.inr (p_ins v))))))])))) ++ ([(a 12, .inl (x.2.2 0, 10, .inl (p_cF v))), (a 13, .inl (x.2.2 0, p_kN v, .inl (p_kF v))), (a 14, .inl (x.2.2 0, 120, .inl (p_fF v)))] ++ ex)) hw
  have h2 := wd_back (l1 := (h, .inr (1, [.int (p_limit v), .ref (a 1), .ref (a 3), .ref (a 5), .int (p_there v), .int (p_rgroups v), .int (p_rsize v), .int (p_at v), .int (p_wrong v), .int (p_groups v), .int (p_named v), .ref (a 10), .ref r, .int (p_height v), .ref (a 12), .ref (a 13), .int (p_marked v), .ref (a 14), .int (p_calls v), .int (p_pc v), .int (p_place v), .int (p_steps v), .int (p_stopped v), .int (p_matched v)])) :: (scl x (a 1) (fun _ => a 2) (p_wr v) ++ (scl x (a 3) (fun _ => a 4) (p_su v) ++ (prl x g (a 5) a (p_pr v) ++ [(a 10, .inl (x.2.2 4, 5, .inr (.inr (.inr (.inr (p_ins v))))))])))) (wc := [(r, .inl (x.2.2 0, 2 * p_tN v, .inl (grown (p_tN v) (p_tF v))))]) (l2 := ([(a 12, .inl (x.2.2 0, 10, .inl (p_cF v))), (a 13, .inl (x.2.2 0, p_kN v, .inl (p_kF v))), (a 14, .inl (x.2.2 0, 120, .inl (p_fF v)))] ++ ex)) h1
  rw [pT_eq]
  exact h2
set_option maxHeartbeats 4000000 in
/-- trail = longer(trail) -/
theorem p_longT (S : CallFix p m c cc nL s args lw_tg "PatternBench") (hK : GK x s) (hE : EN g A s s.heap) (hA : ∀ q, s.heap.size ≤ q → A q) (hw : wd x A s.heap (pcl x g h a v ++ ex) H locs) (hz : p_tN v ≤ 2 ^ 26) (hfr : 1 ≤ R.frames) (hlo : 64 ≤ R.locals) (hsz : ls.size = nL) (hf : cells + 1 ≤ R.cells ∧ slots + 2 * p_tN v ≤ R.slots) (hd1 : decode cc pc = .ok (.invokestatic 228, 3)) (hd2 : decode cc (pc + 3) = .ok (.putfield 32, 3))
    (kk : ∀ (a : Nat → Nat) (H : Heap) (locs : List Loc), wd x A s.heap (pcl x g h a (p_growT v) ++ ex) H locs → W p l e R s m args below meth c H locs (cells + 1) (slots + 2 * p_tN v) Q (F0 m (pc + 6) ls [])) : W p l e R s m args below meth c H locs cells slots Q (F0 m pc ls [.ref (a 11), .ref h]) := by
  have hw2 := pT_out hw
  refine w_cnew (N := 2 * p_tN v) (f := grown (p_tN v) (p_tF v)) (cA := x.2.2 0) (mc := 1) (ms := 2 * p_tN v) hA hw2 (w_rsE (rest := [.ref h]) S hK hE hA hw2 (c_longer l (p_tN v, p_tF v) _ hz) (w_cb (fr := 0) (lv := 0) S.2.2.2.2 k_679 k_798 k_1 yd_longer rfl rfl ⟨by show 0 + 1 ≤ R.frames; omega, by show 8 + (3 + 11) + 0 ≤ R.locals; omega⟩) k_678 rfl hsz rfl (Nat.le_of_ble_eq_true rfl) hd1 hf) (fun r H locs hw => ?_)
  refine w_put (ws' := (r, .inl (x.2.2 0, 2 * p_tN v, .inl (grown (p_tN v) (p_tF v)))) :: (a 11, .inl (x.2.2 0, p_tN v, .inl (p_tF v))) :: (((h, .inr (1, [.int (p_limit v), .ref (a 1), .ref (a 3), .ref (a 5), .int (p_there v), .int (p_rgroups v), .int (p_rsize v), .int (p_at v), .int (p_wrong v), .int (p_groups v), .int (p_named v), .ref (a 10), .ref r, .int (p_height v), .ref (a 12), .ref (a 13), .int (p_marked v), .ref (a 14), .int (p_calls v), .int (p_pc v), .int (p_place v), .int (p_steps v), .int (p_stopped v), .int (p_matched v)])) :: (scl x (a 1) (fun _ => a 2) (p_wr v) ++ (scl x (a 3) (fun _ => a 4) (p_su v) ++ (prl x g (a 5) a (p_pr v) ++ [(a 10, .inl (x.2.2 4, 5, .inr (.inr (.inr (.inr (p_ins v))))))])))) ++ ([(a 12, .inl (x.2.2 0, 10, .inl (p_cF v))), (a 13, .inl (x.2.2 0, p_kN v, .inl (p_kF v))), (a 14, .inl (x.2.2 0, 120, .inl (p_fF v)))] ++ ex))) S hK hw 2 (fs := [.int (p_limit v), .ref (a 1), .ref (a 3), .ref (a 5), .int (p_there v), .int (p_rgroups v), .int (p_rsize v), .int (p_at v), .int (p_wrong v), .int (p_groups v), .int (p_named v), .ref (a 10), .ref (a 11), .int (p_height v), .ref (a 12), .ref (a 13), .int (p_marked v), .ref (a 14), .int (p_calls v), .int (p_pc v), .int (p_place v), .int (p_steps v), .int (p_stopped v), .int (p_matched v)]) rfl rfl i_PB t_PB t_PB_ok n_PB 12 (by decide) k_125 rfl rfl rfl (Nat.le_of_ble_eq_true rfl) rfl hd2 (fun H locs hw => ?_)
  exact kk _ H locs (pT_in hw)
theorem pK_out (hw : wd x A H0 (pcl x g h a v ++ ex) H locs) : wd x A H0 (acl (x.2.2 0) (a 13) a (p_kN v, p_kF v) ++ ((pobj h a v :: (scl x (a 1) (fun _ => a 2) (p_wr v) ++ (scl x (a 3) (fun _ => a 4) (p_su v) ++ (prl x g (a 5) a (p_pr v) ++ [(a 10, .inl (x.2.2 4, 5, .inr (.inr (.inr (.inr (p_ins v)))))), (a 11, .inl (x.2.2 0, p_tN v, .inl (p_tF v))), (a 12, .inl (x.2.2 0, 10, .inl (p_cF v)))])))) ++ ([(a 14, .inl (x.2.2 0, 120, .inl (p_fF v)))] ++ ex))) H locs := wd_rot (l1 := pobj h a v :: (scl x (a 1) (fun _ => a 2) (p_wr v) ++ (scl x (a 3) (fun _ => a 4) (p_su v) ++ (prl x g (a 5) a (p_pr v) ++ [(a 10, .inl (x.2.2 4, 5, .inr (.inr (.inr (.inr (p_ins v)))))), (a 11, .inl (x.2.2 0, p_tN v, .inl (p_tF v))), (a 12, .inl (x.2.2 0, 10, .inl (p_cF v)))])))) (wc := acl (x.2.2 0) (a 13) a (p_kN v, p_kF v)) (l2 := ([(a 14, .inl (x.2.2 0, 120, .inl (p_fF v)))] ++ ex)) hw
theorem pK_eq (r : Nat) : pcl x g h (va_up a 13 r) (p_growK v) = (h, .inr (1, [.int (p_limit v), .ref (a 1), .ref (a 3), .ref (a 5), .int (p_there v), .int (p_rgroups v), .int (p_rsize v), .int (p_at v), .int (p_wrong v), .int (p_groups v), .int (p_named v), .ref (a 10), .ref (a 11), .int (p_height v), .ref (a 12), .ref r, .int (p_marked v), .ref (a 14), .int (p_calls v), .int (p_pc v), .int (p_place v), .int (p_steps v), .int (p_stopped v), .int (p_matched v)])) :: ((scl x (a 1) (fun _ => a 2) (p_wr v) ++ (scl x (a 3) (fun _ => a 4) (p_su v) ++ (prl x g (a 5) a (p_pr v) ++ [(a 10, .inl (x.2.2 4, 5, .inr (.inr (.inr (.inr (p_ins v)))))), (a 11, .inl (x.2.2 0, p_tN v, .inl (p_tF v))), (a 12, .inl (x.2.2 0, 10, .inl (p_cF v)))]))) ++ ((r, .inl (x.2.2 0, 2 * p_kN v, .inl (grown (p_kN v) (p_kF v)))) :: [(a 14, .inl (x.2.2 0, 120, .inl (p_fF v)))])) := rfl
theorem pK_in {r : Nat} {q : Nat × va_E} (hw : wd x A H0 ((r, .inl (x.2.2 0, 2 * p_kN v, .inl (grown (p_kN v) (p_kF v)))) :: q :: (((h, .inr (1, [.int (p_limit v), .ref (a 1), .ref (a 3), .ref (a 5), .int (p_there v), .int (p_rgroups v), .int (p_rsize v), .int (p_at v), .int (p_wrong v), .int (p_groups v), .int (p_named v), .ref (a 10), .ref (a 11), .int (p_height v), .ref (a 12), .ref r, .int (p_marked v), .ref (a 14), .int (p_calls v), .int (p_pc v), .int (p_place v), .int (p_steps v), .int (p_stopped v), .int (p_matched v)])) :: (scl x (a 1) (fun _ => a 2) (p_wr v) ++ (scl x (a 3) (fun _ => a 4) (p_su v) ++ (prl x g (a 5) a (p_pr v) ++ [(a 10, .inl (x.2.2 4, 5, .inr (.inr (.inr (.inr (p_ins v)))))), (a 11, .inl (x.2.2 0, p_tN v, .inl (p_tF v))), (a 12, .inl (x.2.2 0, 10, .inl (p_cF v)))])))) ++ ([(a 14, .inl (x.2.2 0, 120, .inl (p_fF v)))] ++ ex))) H locs) : wd x A H0 (pcl x g h (va_up a 13 r) (p_growK v) ++ ex) H locs := by
  have h1 := wd_drop (l1 := [(r, .inl (x.2.2 0, 2 * p_kN v, .inl (grown (p_kN v) (p_kF v))))]) (q := q) (l2 := ((h, .inr (1, [.int (p_limit v), .ref (a 1), .ref (a 3), .ref (a 5), .int (p_there v), .int (p_rgroups v), .int (p_rsize v), .int (p_at v), .int (p_wrong v), .int (p_groups v), .int (p_named v), .ref (a 10), .ref (a 11), .int (p_height v), .ref (a 12), .ref r, .int (p_marked v), .ref (a 14), .int (p_calls v), .int (p_pc v), .int (p_place v), .int (p_steps v), .int (p_stopped v), .int (p_matched v)])) :: (scl x (a 1) (fun _ => a 2) (p_wr v) ++ (scl x (a 3) (fun _ => a 4) (p_su v) ++ (prl x g (a 5) a (p_pr v) ++ [(a 10, .inl (x.2.2 4, 5, .inr (.inr (.inr (.inr (p_ins v)))))), (a 11, .inl (x.2.2 0, p_tN v, .inl (p_tF v))), (a 12, .inl (x.2.2 0, 10, .inl (p_cF v)))])))) ++ ([(a 14, .inl (x.2.2 0, 120, .inl (p_fF v)))] ++ ex)) hw
  have h2 := wd_back (l1 := (h, .inr (1, [.int (p_limit v), .ref (a 1), .ref (a 3), .ref (a 5), .int (p_there v), .int (p_rgroups v), .int (p_rsize v), .int (p_at v), .int (p_wrong v), .int (p_groups v), .int (p_named v), .ref (a 10), .ref (a 11), .int (p_height v), .ref (a 12), .ref r, .int (p_marked v), .ref (a 14), .int (p_calls v), .int (p_pc v), .int (p_place v), .int (p_steps v), .int (p_stopped v), .int (p_matched v)])) :: (scl x (a 1) (fun _ => a 2) (p_wr v) ++ (scl x (a 3) (fun _ => a 4) (p_su v) ++ (prl x g (a 5) a (p_pr v) ++ [(a 10, .inl (x.2.2 4, 5, .inr (.inr (.inr (.inr (p_ins v)))))), (a 11, .inl (x.2.2 0, p_tN v, .inl (p_tF v))), (a 12, .inl (x.2.2 0, 10, .inl (p_cF v)))])))) (wc := [(r, .inl (x.2.2 0, 2 * p_kN v, .inl (grown (p_kN v) (p_kF v))))]) (l2 := ([(a 14, .inl (x.2.2 0, 120, .inl (p_fF v)))] ++ ex)) h1
  rw [pK_eq]
  exact h2
set_option maxHeartbeats 4000000 in
/-- marks = longer(marks) -/
theorem p_longK (S : CallFix p m c cc nL s args lw_tg "PatternBench") (hK : GK x s) (hE : EN g A s s.heap) (hA : ∀ q, s.heap.size ≤ q → A q) (hw : wd x A s.heap (pcl x g h a v ++ ex) H locs) (hz : p_kN v ≤ 2 ^ 26) (hfr : 1 ≤ R.frames) (hlo : 64 ≤ R.locals) (hsz : ls.size = nL) (hf : cells + 1 ≤ R.cells ∧ slots + 2 * p_kN v ≤ R.slots) (hd1 : decode cc pc = .ok (.invokestatic 228, 3)) (hd2 : decode cc (pc + 3) = .ok (.putfield 39, 3))
    (kk : ∀ (a : Nat → Nat) (H : Heap) (locs : List Loc), wd x A s.heap (pcl x g h a (p_growK v) ++ ex) H locs → W p l e R s m args below meth c H locs (cells + 1) (slots + 2 * p_kN v) Q (F0 m (pc + 6) ls [])) : W p l e R s m args below meth c H locs cells slots Q (F0 m pc ls [.ref (a 13), .ref h]) := by
  have hw2 := pK_out hw
  refine w_cnew (N := 2 * p_kN v) (f := grown (p_kN v) (p_kF v)) (cA := x.2.2 0) (mc := 1) (ms := 2 * p_kN v) hA hw2 (w_rsE (rest := [.ref h]) S hK hE hA hw2 (c_longer l (p_kN v, p_kF v) _ hz) (w_cb (fr := 0) (lv := 0) S.2.2.2.2 k_679 k_798 k_1 yd_longer rfl rfl ⟨by show 0 + 1 ≤ R.frames; omega, by show 8 + (3 + 11) + 0 ≤ R.locals; omega⟩) k_678 rfl hsz rfl (Nat.le_of_ble_eq_true rfl) hd1 hf) (fun r H locs hw => ?_)
  refine w_put (ws' := (r, .inl (x.2.2 0, 2 * p_kN v, .inl (grown (p_kN v) (p_kF v)))) :: (a 13, .inl (x.2.2 0, p_kN v, .inl (p_kF v))) :: (((h, .inr (1, [.int (p_limit v), .ref (a 1), .ref (a 3), .ref (a 5), .int (p_there v), .int (p_rgroups v), .int (p_rsize v), .int (p_at v), .int (p_wrong v), .int (p_groups v), .int (p_named v), .ref (a 10), .ref (a 11), .int (p_height v), .ref (a 12), .ref r, .int (p_marked v), .ref (a 14), .int (p_calls v), .int (p_pc v), .int (p_place v), .int (p_steps v), .int (p_stopped v), .int (p_matched v)])) :: (scl x (a 1) (fun _ => a 2) (p_wr v) ++ (scl x (a 3) (fun _ => a 4) (p_su v) ++ (prl x g (a 5) a (p_pr v) ++ [(a 10, .inl (x.2.2 4, 5, .inr (.inr (.inr (.inr (p_ins v)))))), (a 11, .inl (x.2.2 0, p_tN v, .inl (p_tF v))), (a 12, .inl (x.2.2 0, 10, .inl (p_cF v)))])))) ++ ([(a 14, .inl (x.2.2 0, 120, .inl (p_fF v)))] ++ ex))) S hK hw 2 (fs := [.int (p_limit v), .ref (a 1), .ref (a 3), .ref (a 5), .int (p_there v), .int (p_rgroups v), .int (p_rsize v), .int (p_at v), .int (p_wrong v), .int (p_groups v), .int (p_named v), .ref (a 10), .ref (a 11), .int (p_height v), .ref (a 12), .ref (a 13), .int (p_marked v), .ref (a 14), .int (p_calls v), .int (p_pc v), .int (p_place v), .int (p_steps v), .int (p_stopped v), .int (p_matched v)]) rfl rfl i_PB t_PB t_PB_ok n_PB 15 (by decide) k_128 rfl rfl rfl (Nat.le_of_ble_eq_true rfl) rfl hd2 (fun H locs hw => ?_)
  exact kk _ H locs (pK_in hw)
end HP
