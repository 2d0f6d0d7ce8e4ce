theorem k_620 : (Cond.methodLink "PatternBench$Choice" 13 ⟨"java/util/ArrayList", "size", "()I"⟩) ∈ lw_tg := kw 620 (by decide +kernel) (by decide +kernel)
theorem k_621 : (Cond.methodLink "PatternBench$Choice" 19 ⟨"java/util/ArrayList", "get", "(I)Ljava/lang/Object;"⟩) ∈ lw_tg := kw 621 (by decide +kernel) (by decide +kernel)
theorem k_622 : (Cond.classLink "PatternBench$Choice" 23 "PatternBench$Part") ∈ lw_tg := kw 622 (by decide +kernel) (by decide +kernel)
theorem k_624 : (Cond.methodLink "PatternBench$Choice" 25 ⟨"PatternBench$Part", "size", "()I"⟩) ∈ lw_tg := kw 624 (by decide +kernel) (by decide +kernel)
theorem k_632 : (Cond.methodLink "PatternBench$Group" 21 ⟨"PatternBench$Part", "size", "()I"⟩) ∈ lw_tg := kw 632 (by decide +kernel) (by decide +kernel)
theorem k_646 : (Cond.methodLink "PatternBench$Repeat" 24 ⟨"PatternBench$Part", "size", "()I"⟩) ∈ lw_tg := kw 646 (by decide +kernel) (by decide +kernel)
theorem k_653 : (Cond.methodLink "PatternBench$Row" 13 ⟨"java/util/ArrayList", "size", "()I"⟩) ∈ lw_tg := kw 653 (by decide +kernel) (by decide +kernel)
theorem k_654 : (Cond.methodLink "PatternBench$Row" 19 ⟨"java/util/ArrayList", "get", "(I)Ljava/lang/Object;"⟩) ∈ lw_tg := kw 654 (by decide +kernel) (by decide +kernel)
theorem k_655 : (Cond.classLink "PatternBench$Row" 23 "PatternBench$Part") ∈ lw_tg := kw 655 (by decide +kernel) (by decide +kernel)
theorem k_657 : (Cond.methodLink "PatternBench$Row" 25 ⟨"PatternBench$Part", "size", "()I"⟩) ∈ lw_tg := kw 657 (by decide +kernel) (by decide +kernel)
def P_Leaf_size (op : Nat) (n : Int32)  (u : Unit) (Qc : Int32 → Unit → Prop) : Prop := Qc (1 : Int32) u
section MW
variable {p : Program} {l : Launch} {e : Env} {s : State} {m : MethodId} {args : Array Value} {below : List Frame} {meth : Method} {c : Code} {x : GX} {g : GE} {ex : va_W} {a : Nat → Nat} {A : Nat → Prop} {b r q : Nat}
set_option maxHeartbeats 4000000 in
set_option maxRecDepth 20000 in
theorem c_Leaf_size {x : GX} {g : GE} {r : Nat} {ex : va_W} {a : Nat → Nat} (l : Launch) {lv : Nat} {op : Nat} {n : Int32} (hc : (r, .inr (5, [.ref (g.1 op), .int n])) ∈ ex)  (u : Unit) (sz : Nat) (Qc : Int32 → Unit → Prop) (h : P_Leaf_size op n  u Qc) : Met l y_Leaf_size (wM y_Leaf_size b_Leaf_size 1 (some .int)) (rmN (lv) 0 0) (PreE x g ucl ex [.ref r] a u sz) (QfI x ucl ex a (va_A (ucl a u ++ ex) sz) Qc) 0 0 (va_A (ucl a u ++ ex) sz) := by
  refine w_enterE (by decide +kernel) (Nat.le_of_ble_eq_true rfl) (fun p e s m args below meth c S hr hlk hnm hK hE hA hw ls hl => ?_)
  have hl : lv_has ls 1 [(0, .ref r)] := hl
  refine lv_iconst (v := 1) S.1 S.2.1 d_Leaf_size_0 (by decide) ?_
  exact w_iretF S hr hlk hw h d_Leaf_size_1
end MW
theorem d_Row_size_0 : decode b_Row_size 0 = .ok (.iconst 0, 1) := by decide +kernel
theorem d_Row_size_1 : decode b_Row_size 1 = .ok (.istore_n 1, 1) := by decide +kernel
theorem d_Row_size_2 : decode b_Row_size 2 = .ok (.iconst 0, 1) := by decide +kernel
theorem d_Row_size_3 : decode b_Row_size 3 = .ok (.istore_n 2, 1) := by decide +kernel
theorem d_Row_size_4 : decode b_Row_size 4 = .ok (.iload_n 2, 1) := by decide +kernel
theorem d_Row_size_5 : decode b_Row_size 5 = .ok (.aload_n 0, 1) := by decide +kernel
theorem d_Row_size_6 : decode b_Row_size 6 = .ok (.getfield 7, 3) := by decide +kernel
theorem d_Row_size_9 : decode b_Row_size 9 = .ok (.invokevirtual 13, 3) := by decide +kernel
theorem d_Row_size_12 : decode b_Row_size 12 = .ok (.if_icmp .ge 28, 3) := by decide +kernel
theorem d_Row_size_15 : decode b_Row_size 15 = .ok (.iload_n 1, 1) := by decide +kernel
theorem d_Row_size_16 : decode b_Row_size 16 = .ok (.aload_n 0, 1) := by decide +kernel
theorem d_Row_size_17 : decode b_Row_size 17 = .ok (.getfield 7, 3) := by decide +kernel
theorem d_Row_size_20 : decode b_Row_size 20 = .ok (.iload_n 2, 1) := by decide +kernel
theorem d_Row_size_21 : decode b_Row_size 21 = .ok (.invokevirtual 19, 3) := by decide +kernel
theorem d_Row_size_24 : decode b_Row_size 24 = .ok (.checkcast 23, 3) := by decide +kernel
theorem d_Row_size_27 : decode b_Row_size 27 = .ok (.invokeinterface 25 1, 5) := by decide +kernel
theorem d_Row_size_32 : decode b_Row_size 32 = .ok (.iadd, 1) := by decide +kernel
theorem d_Row_size_33 : decode b_Row_size 33 = .ok (.istore_n 1, 1) := by decide +kernel
theorem d_Row_size_34 : decode b_Row_size 34 = .ok (.iinc 2 1, 3) := by decide +kernel
theorem d_Row_size_37 : decode b_Row_size 37 = .ok (.goto (-33), 3) := by decide +kernel
theorem d_Row_size_40 : decode b_Row_size 40 = .ok (.iload_n 1, 1) := by decide +kernel
theorem d_Row_size_41 : decode b_Row_size 41 = .ok (.ireturn, 1) := by decide +kernel
def L_Row_size_4 (t : PT) (Kl : Nat → (Unit → (Int32 → Unit → Prop) → Prop)) (Qc : Int32 → Unit → Prop)  : Nat → Int32 → Int32 → Unit → Prop
  | 0, _, _, _ => False
  | n + 1, x1, x2, u => (((nI (tlen t)) ≤ x2 → Qc x1 u) ∧ (¬ (nI (tlen t)) ≤ x2 → (∃ i_21 : Nat, x2 = nI i_21 ∧ i_21 < tlen t ∧ (Kl i_21) () (fun r_27 _ => (∀ x1_33 : Int32, x1_33 = (x1 + r_27) → (∀ x2_34 : Int32, x2_34 = x2 + 1 → (L_Row_size_4 t Kl Qc n) x1_33 x2_34 u))))))
def P_Row_size (t : PT) (Kl : Nat → (Unit → (Int32 → Unit → Prop) → Prop))  (u : Unit) (Qc : Int32 → Unit → Prop) : Prop := ∃ n, L_Row_size_4 t Kl Qc  n (0 : Int32) (0 : Int32) u
section MW
variable {p : Program} {l : Launch} {e : Env} {s : State} {m : MethodId} {args : Array Value} {below : List Frame} {meth : Method} {c : Code} {x : GX} {g : GE} {ex : va_W} {a : Nat → Nat} {A : Nat → Prop} {b r q : Nat}
set_option maxHeartbeats 4000000 in
set_option maxRecDepth 20000 in
theorem wL_Row_size_4 {lv q : Nat} {t : PT} {Kl : Nat → (Unit → (Int32 → Unit → Prop) → Prop)} (hc : (r, .inr (6, [.ref q])) ∈ ex) (hL : LI x g ex q t) (hOK : ∀ i, i < tlen t → ZOK l x g (tnth t i) (Kl i) lv) (S : CallFix p m c b_Row_size 3 s args lw_tg "PatternBench$Row") (hr : meth.sig.returnType = some .int) (hlk : meth.locks = false) (hK : GK x s) (hE : EN g A s s.heap) (hA : ∀ q : Nat, s.heap.size ≤ q → A q) {Qc : Int32 → Unit → Prop}  : ∀ (n : Nat) (x1 : Int32) (x2 : Int32) (u : Unit) (ls : Array Slot) (H : Heap) (locs : List Loc), lv_has ls 3 [(0, .ref r), (1, .int x1), (2, .int x2)] → wd x A s.heap (ucl a u ++ ex) H locs → L_Row_size_4 t Kl Qc  n x1 x2 u → W p l e (rmN (lv + 4) 0 0) s m args below meth c H locs 0 0 (MQ below (QfI x ucl ex a A Qc) args s 0 0 A) (F0 m 4 ls []) := by
  intro n
  induction n with
  | zero =>
    intro x1 x2 u ls H locs hl hw h
    exact absurd h id
  | succ n ih =>
    intro x1 x2 u ls H locs hl hw h
    refine lv_iload_n S.1 S.2.1 d_Row_size_4 rfl (lv_at hl 2 rfl) ?_
    refine lv_aload_n S.1 S.2.1 d_Row_size_5 rfl (lv_at hl 0 rfl) ?_
    refine mm_fld S hK hw (hc) rfl i_Row 0 (by decide) k_560 rfl d_Row_size_6 ?_
    refine mm_size (R := rmN (lv + 4) 0 0) (cells := 0) (slots := 0) (rest := [.int x2]) S hK hE hA hw (hL.mono (fun _ h9 => h9)) k_653 (by show 3 ≤ lv + 4; omega) (by show 64 * 3 ≤ 64 * (lv + 4); omega) ⟨(Nat.zero_le _), (Nat.zero_le _)⟩ hl.1 (Nat.le_of_ble_eq_true rfl) d_Row_size_9 (fun H locs hw => ?_)
    refine lv_icmp_ge (tgt := 40) S.1 S.2.1 d_Row_size_12 (by decide) (fun q_12 => ?_) (fun q_12 => ?_)
    · have h := h.1 q_12
      refine lv_iload_n S.1 S.2.1 d_Row_size_40 rfl (lv_at hl 1 rfl) ?_
      exact w_iretF S hr hlk hw h d_Row_size_41
    · have h := h.2 q_12
      refine lv_iload_n S.1 S.2.1 d_Row_size_15 rfl (lv_at hl 1 rfl) ?_
      refine lv_aload_n S.1 S.2.1 d_Row_size_16 rfl (lv_at hl 0 rfl) ?_
      refine mm_fld S hK hw (hc) rfl i_Row 0 (by decide) k_560 rfl d_Row_size_17 ?_
      refine lv_iload_n S.1 S.2.1 d_Row_size_20 rfl (lv_at hl 2 rfl) ?_
      obtain ⟨i_21, ei_21, hi_21, h⟩ := h
      refine mm_get (R := rmN (lv + 4) 0 0) (cells := 0) (slots := 0) (rest := [.int x1]) S hK hE hA hw (fun _ h9 => h9) hL ei_21 hi_21 k_654 k_655 (by show 3 ≤ lv + 4; omega) (by show 64 * 3 ≤ 64 * (lv + 4); omega) ⟨(Nat.zero_le _), (Nat.zero_le _)⟩ hl.1 (Nat.le_of_ble_eq_true rfl) d_Row_size_21 d_Row_size_24 (fun r_21 H locs hT_21 hw => ?_)
      refine mm_sizeI (R := rmN (lv + 4) 0 0) (cells := 0) (slots := 0) (rest := [.int x1]) S hK hE hA hw hT_21 (hOK _ hi_21) h k_657 (by show lv + 1 ≤ lv + 4; omega) (by show 64 * (lv + 1) ≤ 64 * (lv + 4); omega) ⟨(Nat.zero_le _), (Nat.zero_le _)⟩ hl.1 (Nat.le_of_ble_eq_true rfl) d_Row_size_27 (fun r_27 H locs h hw => ?_)
      refine lv_iadd S.1 S.2.1 d_Row_size_32 ?_
      refine lv_topi (fun x1_33 ex1_33 => ?_)
      have h := h x1_33 ex1_33
      refine lv_istore_n (lv' := [(1, .int x1_33), (0, .ref r), (2, .int x2)]) S.1 S.2.1 d_Row_size_33 rfl hl (by decide) rfl (fun ls hl => ?_)
      obtain ⟨x2_34, ex2_34⟩ : ∃ y : Int32, y = x2 + 1 := ⟨_, rfl⟩
      have h := h x2_34 ex2_34
      refine lv_iinc (v := x2_34) (lv' := [(2, .int x2_34), (1, .int x1_33), (0, .ref r)]) S.1 S.2.1 d_Row_size_34 hl (k := 2) rfl (by rw [ex2_34]; rfl) (by decide) rfl (fun ls hl => ?_)
      refine lv_goto (tgt := 4) S.1 S.2.1 d_Row_size_37 (by decide) ?_
      exact ih x1_33 x2_34 u _ _ _ (lv_sub hl [2, 1, 0] rfl) hw h
set_option maxHeartbeats 4000000 in
set_option maxRecDepth 20000 in
theorem c_Row_size {x : GX} {g : GE} {r : Nat} {ex : va_W} {a : Nat → Nat} (l : Launch) {lv q : Nat} {t : PT} {Kl : Nat → (Unit → (Int32 → Unit → Prop) → Prop)} (hc : (r, .inr (6, [.ref q])) ∈ ex) (hL : LI x g ex q t) (hOK : ∀ i, i < tlen t → ZOK l x g (tnth t i) (Kl i) lv)  (u : Unit) (sz : Nat) (Qc : Int32 → Unit → Prop) (h : P_Row_size t Kl  u Qc) : Met l y_Row_size (wM y_Row_size b_Row_size 3 (some .int)) (rmN (lv + 4) 0 0) (PreE x g ucl ex [.ref r] a u sz) (QfI x ucl ex a (va_A (ucl a u ++ ex) sz) Qc) 0 0 (va_A (ucl a u ++ ex) sz) := by
  refine w_enterE (by decide +kernel) (Nat.le_of_ble_eq_true rfl) (fun p e s m args below meth c S hr hlk hnm hK hE hA hw ls hl => ?_)
  have hl : lv_has ls 3 [(0, .ref r)] := hl
  refine lv_iconst (v := 0) S.1 S.2.1 d_Row_size_0 (by decide) ?_
  refine lv_istore_n (lv' := [(1, .int (0 : Int32)), (0, .ref r)]) S.1 S.2.1 d_Row_size_1 rfl hl (by decide) rfl (fun ls hl => ?_)
  refine lv_iconst (v := 0) S.1 S.2.1 d_Row_size_2 (by decide) ?_
  refine lv_istore_n (lv' := [(2, .int (0 : Int32)), (1, .int (0 : Int32)), (0, .ref r)]) S.1 S.2.1 d_Row_size_3 rfl hl (by decide) rfl (fun ls hl => ?_)
  obtain ⟨n9, h⟩ := h
  exact wL_Row_size_4 hc hL hOK S hr hlk hK hE hA  n9 (0 : Int32) (0 : Int32) u _ _ _ (lv_sub hl [2, 1, 0] rfl) hw h
end MW
theorem d_Cho_size_0 : decode b_Cho_size 0 = .ok (.aload_n 0, 1) := by decide +kernel
theorem d_Cho_size_1 : decode b_Cho_size 1 = .ok (.getfield 7, 3) := by decide +kernel
theorem d_Cho_size_4 : decode b_Cho_size 4 = .ok (.invokevirtual 13, 3) := by decide +kernel
theorem d_Cho_size_7 : decode b_Cho_size 7 = .ok (.iconst 1, 1) := by decide +kernel
theorem d_Cho_size_8 : decode b_Cho_size 8 = .ok (.isub, 1) := by decide +kernel
theorem d_Cho_size_9 : decode b_Cho_size 9 = .ok (.istore_n 1, 1) := by decide +kernel
theorem d_Cho_size_10 : decode b_Cho_size 10 = .ok (.iconst 0, 1) := by decide +kernel
theorem d_Cho_size_11 : decode b_Cho_size 11 = .ok (.istore_n 2, 1) := by decide +kernel
theorem d_Cho_size_12 : decode b_Cho_size 12 = .ok (.iload_n 2, 1) := by decide +kernel
theorem d_Cho_size_13 : decode b_Cho_size 13 = .ok (.aload_n 0, 1) := by decide +kernel
theorem d_Cho_size_14 : decode b_Cho_size 14 = .ok (.getfield 7, 3) := by decide +kernel
theorem d_Cho_size_17 : decode b_Cho_size 17 = .ok (.invokevirtual 13, 3) := by decide +kernel
theorem d_Cho_size_20 : decode b_Cho_size 20 = .ok (.if_icmp .ge 28, 3) := by decide +kernel
theorem d_Cho_size_23 : decode b_Cho_size 23 = .ok (.iload_n 1, 1) := by decide +kernel
theorem d_Cho_size_24 : decode b_Cho_size 24 = .ok (.aload_n 0, 1) := by decide +kernel
theorem d_Cho_size_25 : decode b_Cho_size 25 = .ok (.getfield 7, 3) := by decide +kernel
theorem d_Cho_size_28 : decode b_Cho_size 28 = .ok (.iload_n 2, 1) := by decide +kernel
theorem d_Cho_size_29 : decode b_Cho_size 29 = .ok (.invokevirtual 19, 3) := by decide +kernel
theorem d_Cho_size_32 : decode b_Cho_size 32 = .ok (.checkcast 23, 3) := by decide +kernel
theorem d_Cho_size_35 : decode b_Cho_size 35 = .ok (.invokeinterface 25 1, 5) := by decide +kernel
theorem d_Cho_size_40 : decode b_Cho_size 40 = .ok (.iadd, 1) := by decide +kernel
theorem d_Cho_size_41 : decode b_Cho_size 41 = .ok (.istore_n 1, 1) := by decide +kernel
theorem d_Cho_size_42 : decode b_Cho_size 42 = .ok (.iinc 2 1, 3) := by decide +kernel
theorem d_Cho_size_45 : decode b_Cho_size 45 = .ok (.goto (-33), 3) := by decide +kernel
theorem d_Cho_size_48 : decode b_Cho_size 48 = .ok (.iload_n 1, 1) := by decide +kernel
theorem d_Cho_size_49 : decode b_Cho_size 49 = .ok (.ireturn, 1) := by decide +kernel
def L_Cho_size_12 (t : PT) (Kl : Nat → (Unit → (Int32 → Unit → Prop) → Prop)) (Qc : Int32 → Unit → Prop)  : Nat → Int32 → Int32 → Unit → Prop
  | 0, _, _, _ => False
  | n + 1, x1, x2, u => (((nI (tlen t)) ≤ x2 → Qc x1 u) ∧ (¬ (nI (tlen t)) ≤ x2 → (∃ i_29 : Nat, x2 = nI i_29 ∧ i_29 < tlen t ∧ (Kl i_29) () (fun r_35 _ => (∀ x1_41 : Int32, x1_41 = (x1 + r_35) → (∀ x2_42 : Int32, x2_42 = x2 + 1 → (L_Cho_size_12 t Kl Qc n) x1_41 x2_42 u))))))
def P_Cho_size (t : PT) (Kl : Nat → (Unit → (Int32 → Unit → Prop) → Prop))  (u : Unit) (Qc : Int32 → Unit → Prop) : Prop := (∀ x1_9 : Int32, x1_9 = ((nI (tlen t)) - (1 : Int32)) → ∃ n, L_Cho_size_12 t Kl Qc  n x1_9 (0 : Int32) u)
section MW
variable {p : Program} {l : Launch} {e : Env} {s : State} {m : MethodId} {args : Array Value} {below : List Frame} {meth : Method} {c : Code} {x : GX} {g : GE} {ex : va_W} {a : Nat → Nat} {A : Nat → Prop} {b r q : Nat}
set_option maxHeartbeats 4000000 in
set_option maxRecDepth 20000 in
theorem wL_Cho_size_12 {lv q : Nat} {t : PT} {Kl : Nat → (Unit → (Int32 → Unit → Prop) → Prop)} (hc : (r, .inr (7, [.ref q])) ∈ ex) (hL : LI x g ex q t) (hOK : ∀ i, i < tlen t → ZOK l x g (tnth t i) (Kl i) lv) (S : CallFix p m c b_Cho_size 3 s args lw_tg "PatternBench$Choice") (hr : meth.sig.returnType = some .int) (hlk : meth.locks = false) (hK : GK x s) (hE : EN g A s s.heap) (hA : ∀ q : Nat, s.heap.size ≤ q → A q) {Qc : Int32 → Unit → Prop}  : ∀ (n : Nat) (x1 : Int32) (x2 : Int32) (u : Unit) (ls : Array Slot) (H : Heap) (locs : List Loc), lv_has ls 3 [(0, .ref r), (1, .int x1), (2, .int x2)] → wd x A s.heap (ucl a u ++ ex) H locs → L_Cho_size_12 t Kl Qc  n x1 x2 u → W p l e (rmN (lv + 4) 0 0) s m args below meth c H locs 0 0 (MQ below (QfI x ucl ex a A Qc) args s 0 0 A) (F0 m 12 ls []) := by
  intro n
  induction n with
  | zero =>
    intro x1 x2 u ls H locs hl hw h
    exact absurd h id
  | succ n ih =>
    intro x1 x2 u ls H locs hl hw h
    refine lv_iload_n S.1 S.2.1 d_Cho_size_12 rfl (lv_at hl 2 rfl) ?_
    refine lv_aload_n S.1 S.2.1 d_Cho_size_13 rfl (lv_at hl 0 rfl) ?_
    refine mm_fld S hK hw (hc) rfl i_Cho 0 (by decide) k_586 rfl d_Cho_size_14 ?_
    refine mm_size (R := rmN (lv + 4) 0 0) (cells := 0) (slots := 0) (rest := [.int x2]) S hK hE hA hw (hL.mono (fun _ h9 => h9)) k_620 (by show 3 ≤ lv + 4; omega) (by show 64 * 3 ≤ 64 * (lv + 4); omega) ⟨(Nat.zero_le _), (Nat.zero_le _)⟩ hl.1 (Nat.le_of_ble_eq_true rfl) d_Cho_size_17 (fun H locs hw => ?_)
    refine lv_icmp_ge (tgt := 48) S.1 S.2.1 d_Cho_size_20 (by decide) (fun q_20 => ?_) (fun q_20 => ?_)
    · have h := h.1 q_20
      refine lv_iload_n S.1 S.2.1 d_Cho_size_48 rfl (lv_at hl 1 rfl) ?_
      exact w_iretF S hr hlk hw h d_Cho_size_49
    · have h := h.2 q_20
      refine lv_iload_n S.1 S.2.1 d_Cho_size_23 rfl (lv_at hl 1 rfl) ?_
      refine lv_aload_n S.1 S.2.1 d_Cho_size_24 rfl (lv_at hl 0 rfl) ?_
      refine mm_fld S hK hw (hc) rfl i_Cho 0 (by decide) k_586 rfl d_Cho_size_25 ?_
      refine lv_iload_n S.1 S.2.1 d_Cho_size_28 rfl (lv_at hl 2 rfl) ?_
      obtain ⟨i_29, ei_29, hi_29, h⟩ := h
      refine mm_get (R := rmN (lv + 4) 0 0) (cells := 0) (slots := 0) (rest := [.int x1]) S hK hE hA hw (fun _ h9 => h9) hL ei_29 hi_29 k_621 k_622 (by show 3 ≤ lv + 4; omega) (by show 64 * 3 ≤ 64 * (lv + 4); omega) ⟨(Nat.zero_le _), (Nat.zero_le _)⟩ hl.1 (Nat.le_of_ble_eq_true rfl) d_Cho_size_29 d_Cho_size_32 (fun r_29 H locs hT_29 hw => ?_)
      refine mm_sizeI (R := rmN (lv + 4) 0 0) (cells := 0) (slots := 0) (rest := [.int x1]) S hK hE hA hw hT_29 (hOK _ hi_29) h k_624 (by show lv + 1 ≤ lv + 4; omega) (by show 64 * (lv + 1) ≤ 64 * (lv + 4); omega) ⟨(Nat.zero_le _), (Nat.zero_le _)⟩ hl.1 (Nat.le_of_ble_eq_true rfl) d_Cho_size_35 (fun r_35 H locs h hw => ?_)
      refine lv_iadd S.1 S.2.1 d_Cho_size_40 ?_
      refine lv_topi (fun x1_41 ex1_41 => ?_)
      have h := h x1_41 ex1_41
      refine lv_istore_n (lv' := [(1, .int x1_41), (0, .ref r), (2, .int x2)]) S.1 S.2.1 d_Cho_size_41 rfl hl (by decide) rfl (fun ls hl => ?_)
      obtain ⟨x2_42, ex2_42⟩ : ∃ y : Int32, y = x2 + 1 := ⟨_, rfl⟩
      have h := h x2_42 ex2_42
      refine lv_iinc (v := x2_42) (lv' := [(2, .int x2_42), (1, .int x1_41), (0, .ref r)]) S.1 S.2.1 d_Cho_size_42 hl (k := 2) rfl (by rw [ex2_42]; rfl) (by decide) rfl (fun ls hl => ?_)
      refine lv_goto (tgt := 12) S.1 S.2.1 d_Cho_size_45 (by decide) ?_
      exact ih x1_41 x2_42 u _ _ _ (lv_sub hl [2, 1, 0] rfl) hw h
set_option maxHeartbeats 4000000 in
set_option maxRecDepth 20000 in
theorem c_Cho_size {x : GX} {g : GE} {r : Nat} {ex : va_W} {a : Nat → Nat} (l : Launch) {lv q : Nat} {t : PT} {Kl : Nat → (Unit → (Int32 → Unit → Prop) → Prop)} (hc : (r, .inr (7, [.ref q])) ∈ ex) (hL : LI x g ex q t) (hOK : ∀ i, i < tlen t → ZOK l x g (tnth t i) (Kl i) lv)  (u : Unit) (sz : Nat) (Qc : Int32 → Unit → Prop) (h : P_Cho_size t Kl  u Qc) : Met l y_Cho_size (wM y_Cho_size b_Cho_size 3 (some .int)) (rmN (lv + 4) 0 0) (PreE x g ucl ex [.ref r] a u sz) (QfI x ucl ex a (va_A (ucl a u ++ ex) sz) Qc) 0 0 (va_A (ucl a u ++ ex) sz) := by
  refine w_enterE (by decide +kernel) (Nat.le_of_ble_eq_true rfl) (fun p e s m args below meth c S hr hlk hnm hK hE hA hw ls hl => ?_)
  have hl : lv_has ls 3 [(0, .ref r)] := hl
  refine lv_aload_n S.1 S.2.1 d_Cho_size_0 rfl (lv_at hl 0 rfl) ?_
  refine mm_fld S hK hw (hc) rfl i_Cho 0 (by decide) k_586 rfl d_Cho_size_1 ?_
  refine mm_size (R := rmN (lv + 4) 0 0) (cells := 0) (slots := 0) (rest := []) S hK hE hA hw (hL.mono (fun _ h9 => h9)) k_620 (by show 3 ≤ lv + 4; omega) (by show 64 * 3 ≤ 64 * (lv + 4); omega) ⟨(Nat.zero_le _), (Nat.zero_le _)⟩ hl.1 (Nat.le_of_ble_eq_true rfl) d_Cho_size_4 (fun H locs hw => ?_)
  refine lv_iconst (v := 1) S.1 S.2.1 d_Cho_size_7 (by decide) ?_
  refine lv_isub S.1 S.2.1 d_Cho_size_8 ?_
  refine lv_topi (fun x1_9 ex1_9 => ?_)
  have h := h x1_9 ex1_9
  refine lv_istore_n (lv' := [(1, .int x1_9), (0, .ref r)]) S.1 S.2.1 d_Cho_size_9 rfl hl (by decide) rfl (fun ls hl => ?_)
  refine lv_iconst (v := 0) S.1 S.2.1 d_Cho_size_10 (by decide) ?_
  refine lv_istore_n (lv' := [(2, .int (0 : Int32)), (1, .int x1_9), (0, .ref r)]) S.1 S.2.1 d_Cho_size_11 rfl hl (by decide) rfl (fun ls hl => ?_)
  obtain ⟨n9, h⟩ := h
  exact wL_Cho_size_12 hc hL hOK S hr hlk hK hE hA  n9 x1_9 (0 : Int32) u _ _ _ (lv_sub hl [2, 1, 0] rfl) hw h
end MW
theorem d_Grp_size_0 : decode b_Grp_size 0 = .ok (.aload_n 0, 1) := by decide +kernel
theorem d_Grp_size_1 : decode b_Grp_size 1 = .ok (.getfield 17, 3) := by decide +kernel
theorem d_Grp_size_4 : decode b_Grp_size 4 = .ok (.invokeinterface 21 1, 5) := by decide +kernel
theorem d_Grp_size_9 : decode b_Grp_size 9 = .ok (.iconst 2, 1) := by decide +kernel
theorem d_Grp_size_10 : decode b_Grp_size 10 = .ok (.iadd, 1) := by decide +kernel
theorem d_Grp_size_11 : decode b_Grp_size 11 = .ok (.ireturn, 1) := by decide +kernel
def P_Grp_size (kd : Int32) (n : Int32) (Ki : (Unit → (Int32 → Unit → Prop) → Prop))  (u : Unit) (Qc : Int32 → Unit → Prop) : Prop := Ki () (fun r_4 _ => Qc (r_4 + (2 : Int32)) u)
section MW
variable {p : Program} {l : Launch} {e : Env} {s : State} {m : MethodId} {args : Array Value} {below : List Frame} {meth : Method} {c : Code} {x : GX} {g : GE} {ex : va_W} {a : Nat → Nat} {A : Nat → Prop} {b r q : Nat}
set_option maxHeartbeats 4000000 in
set_option maxRecDepth 20000 in
theorem c_Grp_size {x : GX} {g : GE} {r : Nat} {ex : va_W} {a : Nat → Nat} (l : Launch) {lv q : Nat} {kd : Int32} {n : Int32} {T : PT} {Ki : (Unit → (Int32 → Unit → Prop) → Prop)} (hc : (r, .inr (8, [.int kd, .int n, .ref q])) ∈ ex) (hT : TP x g ex T q) (hOK : ZOK l x g T Ki lv)  (u : Unit) (sz : Nat) (Qc : Int32 → Unit → Prop) (h : P_Grp_size kd n Ki  u Qc) : Met l y_Grp_size (wM y_Grp_size b_Grp_size 1 (some .int)) (rmN (lv + 4) 0 0) (PreE x g ucl ex [.ref r] a u sz) (QfI x ucl ex a (va_A (ucl a u ++ ex) sz) Qc) 0 0 (va_A (ucl a u ++ ex) sz) := by
  refine w_enterE (by decide +kernel) (Nat.le_of_ble_eq_true rfl) (fun p e s m args below meth c S hr hlk hnm hK hE hA hw ls hl => ?_)
  have hl : lv_has ls 1 [(0, .ref r)] := hl
  refine lv_aload_n S.1 S.2.1 d_Grp_size_0 rfl (lv_at hl 0 rfl) ?_
  refine mm_fld S hK hw (hc) rfl i_Grp 2 (by decide) k_480 rfl d_Grp_size_1 ?_
  refine mm_sizeI (R := rmN (lv + 4) 0 0) (cells := 0) (slots := 0) (rest := []) S hK hE hA hw hT hOK h k_632 (by show lv + 1 ≤ lv + 4; omega) (by show 64 * (lv + 1) ≤ 64 * (lv + 4); omega) ⟨(Nat.zero_le _), (Nat.zero_le _)⟩ hl.1 (Nat.le_of_ble_eq_true rfl) d_Grp_size_4 (fun r_4 H locs h hw => ?_)
  refine lv_iconst (v := 2) S.1 S.2.1 d_Grp_size_9 (by decide) ?_
  refine lv_iadd S.1 S.2.1 d_Grp_size_10 ?_
  exact w_iretF S hr hlk hw h d_Grp_size_11
end MW
theorem d_Rep_size_0 : decode b_Rep_size 0 = .ok (.aload_n 0, 1) := by decide +kernel
theorem d_Rep_size_1 : decode b_Rep_size 1 = .ok (.getfield 7, 3) := by decide +kernel
theorem d_Rep_size_4 : decode b_Rep_size 4 = .ok (.invokeinterface 24 1, 5) := by decide +kernel
theorem d_Rep_size_9 : decode b_Rep_size 9 = .ok (.istore_n 1, 1) := by decide +kernel
theorem d_Rep_size_10 : decode b_Rep_size 10 = .ok (.aload_n 0, 1) := by decide +kernel
theorem d_Rep_size_11 : decode b_Rep_size 11 = .ok (.getfield 13, 3) := by decide +kernel
theorem d_Rep_size_14 : decode b_Rep_size 14 = .ok (.bipush 123, 2) := by decide +kernel
theorem d_Rep_size_16 : decode b_Rep_size 16 = .ok (.if_icmp .ne 14, 3) := by decide +kernel
theorem d_Rep_size_19 : decode b_Rep_size 19 = .ok (.aload_n 0, 1) := by decide +kernel
theorem d_Rep_size_20 : decode b_Rep_size 20 = .ok (.getfield 17, 3) := by decide +kernel
theorem d_Rep_size_23 : decode b_Rep_size 23 = .ok (.iload_n 1, 1) := by decide +kernel
theorem d_Rep_size_24 : decode b_Rep_size 24 = .ok (.imul, 1) := by decide +kernel
theorem d_Rep_size_25 : decode b_Rep_size 25 = .ok (.iconst 1, 1) := by decide +kernel
theorem d_Rep_size_26 : decode b_Rep_size 26 = .ok (.iadd, 1) := by decide +kernel
theorem d_Rep_size_27 : decode b_Rep_size 27 = .ok (.goto 23, 3) := by decide +kernel
theorem d_Rep_size_30 : decode b_Rep_size 30 = .ok (.aload_n 0, 1) := by decide +kernel
theorem d_Rep_size_31 : decode b_Rep_size 31 = .ok (.getfield 13, 3) := by decide +kernel
theorem d_Rep_size_34 : decode b_Rep_size 34 = .ok (.bipush 43, 2) := by decide +kernel
theorem d_Rep_size_36 : decode b_Rep_size 36 = .ok (.if_icmp .ne 11, 3) := by decide +kernel
theorem d_Rep_size_39 : decode b_Rep_size 39 = .ok (.iconst 2, 1) := by decide +kernel
theorem d_Rep_size_40 : decode b_Rep_size 40 = .ok (.iload_n 1, 1) := by decide +kernel
theorem d_Rep_size_41 : decode b_Rep_size 41 = .ok (.imul, 1) := by decide +kernel
theorem d_Rep_size_42 : decode b_Rep_size 42 = .ok (.iconst 2, 1) := by decide +kernel
theorem d_Rep_size_43 : decode b_Rep_size 43 = .ok (.iadd, 1) := by decide +kernel
theorem d_Rep_size_44 : decode b_Rep_size 44 = .ok (.goto 6, 3) := by decide +kernel
theorem d_Rep_size_47 : decode b_Rep_size 47 = .ok (.iload_n 1, 1) := by decide +kernel
theorem d_Rep_size_48 : decode b_Rep_size 48 = .ok (.iconst 2, 1) := by decide +kernel
theorem d_Rep_size_49 : decode b_Rep_size 49 = .ok (.iadd, 1) := by decide +kernel
theorem d_Rep_size_50 : decode b_Rep_size 50 = .ok (.ireturn, 1) := by decide +kernel
def P_Rep_size (hw9 : Int32) (tm : Int32) (mn : Int32) (Ki : (Unit → (Int32 → Unit → Prop) → Prop))  (u : Unit) (Qc : Int32 → Unit → Prop) : Prop := Ki () (fun r_4 _ => ((hw9 = (123 : Int32) → Qc ((tm * r_4) + (1 : Int32)) u) ∧ (¬ hw9 = (123 : Int32) → ((hw9 = (43 : Int32) → Qc (((2 : Int32) * r_4) + (2 : Int32)) u) ∧ (¬ hw9 = (43 : Int32) → Qc (r_4 + (2 : Int32)) u)))))
section MW
variable {p : Program} {l : Launch} {e : Env} {s : State} {m : MethodId} {args : Array Value} {below : List Frame} {meth : Method} {c : Code} {x : GX} {g : GE} {ex : va_W} {a : Nat → Nat} {A : Nat → Prop} {b r q : Nat}
set_option maxHeartbeats 4000000 in
set_option maxRecDepth 20000 in
theorem c_Rep_size {x : GX} {g : GE} {r : Nat} {ex : va_W} {a : Nat → Nat} (l : Launch) {lv q : Nat} {hw9 : Int32} {tm : Int32} {mn : Int32} {T : PT} {Ki : (Unit → (Int32 → Unit → Prop) → Prop)} (hc : (r, .inr (9, [.ref q, .int hw9, .int tm, .int mn])) ∈ ex) (hT : TP x g ex T q) (hOK : ZOK l x g T Ki lv)  (u : Unit) (sz : Nat) (Qc : Int32 → Unit → Prop) (h : P_Rep_size hw9 tm mn Ki  u Qc) : Met l y_Rep_size (wM y_Rep_size b_Rep_size 2 (some .int)) (rmN (lv + 4) 0 0) (PreE x g ucl ex [.ref r] a u sz) (QfI x ucl ex a (va_A (ucl a u ++ ex) sz) Qc) 0 0 (va_A (ucl a u ++ ex) sz) := by
  refine w_enterE (by decide +kernel) (Nat.le_of_ble_eq_true rfl) (fun p e s m args below meth c S hr hlk hnm hK hE hA hw ls hl => ?_)
  have hl : lv_has ls 2 [(0, .ref r)] := hl
  refine lv_aload_n S.1 S.2.1 d_Rep_size_0 rfl (lv_at hl 0 rfl) ?_
  refine mm_fld S hK hw (hc) rfl i_Rep 0 (by decide) k_498 rfl d_Rep_size_1 ?_
  refine mm_sizeI (R := rmN (lv + 4) 0 0) (cells := 0) (slots := 0) (rest := []) S hK hE hA hw hT hOK h k_646 (by show lv + 1 ≤ lv + 4; omega) (by show 64 * (lv + 1) ≤ 64 * (lv + 4); omega) ⟨(Nat.zero_le _), (Nat.zero_le _)⟩ hl.1 (Nat.le_of_ble_eq_true rfl) d_Rep_size_4 (fun r_4 H locs h hw => ?_)
  refine lv_istore_n (lv' := [(1, .int r_4), (0, .ref r)]) S.1 S.2.1 d_Rep_size_9 rfl hl (by decide) rfl (fun ls hl => ?_)
  refine lv_aload_n S.1 S.2.1 d_Rep_size_10 rfl (lv_at hl 1 rfl) ?_
  refine mm_fld S hK hw (hc) rfl i_Rep 1 (by decide) k_499 rfl d_Rep_size_11 ?_
  refine lv_bipush (v := 123) S.1 S.2.1 d_Rep_size_14 (by decide) ?_
  refine lv_icmp_ne (tgt := 30) S.1 S.2.1 d_Rep_size_16 (by decide) (fun q_16 => ?_) (fun q_16 => ?_)
  · have h := h.2 q_16
    refine lv_aload_n S.1 S.2.1 d_Rep_size_30 rfl (lv_at hl 1 rfl) ?_
    refine mm_fld S hK hw (hc) rfl i_Rep 1 (by decide) k_499 rfl d_Rep_size_31 ?_
    refine lv_bipush (v := 43) S.1 S.2.1 d_Rep_size_34 (by decide) ?_
    refine lv_icmp_ne (tgt := 47) S.1 S.2.1 d_Rep_size_36 (by decide) (fun q_36 => ?_) (fun q_36 => ?_)
    · have h := h.2 q_36
      refine lv_iload_n S.1 S.2.1 d_Rep_size_47 rfl (lv_at hl 0 rfl) ?_
      refine lv_iconst (v := 2) S.1 S.2.1 d_Rep_size_48 (by decide) ?_
      refine lv_iadd S.1 S.2.1 d_Rep_size_49 ?_
      exact w_iretF S hr hlk hw h d_Rep_size_50
    · have h := h.1 q_36
      refine lv_iconst (v := 2) S.1 S.2.1 d_Rep_size_39 (by decide) ?_
      refine lv_iload_n S.1 S.2.1 d_Rep_size_40 rfl (lv_at hl 0 rfl) ?_
      refine lv_imul S.1 S.2.1 d_Rep_size_41 ?_
      refine lv_iconst (v := 2) S.1 S.2.1 d_Rep_size_42 (by decide) ?_
      refine lv_iadd S.1 S.2.1 d_Rep_size_43 ?_
      refine lv_goto (tgt := 50) S.1 S.2.1 d_Rep_size_44 (by decide) ?_
      exact w_iretF S hr hlk hw h d_Rep_size_50
  · have h := h.1 q_16
    refine lv_aload_n S.1 S.2.1 d_Rep_size_19 rfl (lv_at hl 1 rfl) ?_
    refine mm_fld S hK hw (hc) rfl i_Rep 2 (by decide) k_500 rfl d_Rep_size_20 ?_
    refine lv_iload_n S.1 S.2.1 d_Rep_size_23 rfl (lv_at hl 0 rfl) ?_
    refine lv_imul S.1 S.2.1 d_Rep_size_24 ?_
    refine lv_iconst (v := 1) S.1 S.2.1 d_Rep_size_25 (by decide) ?_
    refine lv_iadd S.1 S.2.1 d_Rep_size_26 ?_
    refine lv_goto (tgt := 50) S.1 S.2.1 d_Rep_size_27 (by decide) ?_
    exact w_iretF S hr hlk hw h d_Rep_size_50
end MW
