/-! By hand: Enum.ordinal of a constant of Op; parts of PatternBench's world put back where nothing moved -/
def ordL : List Int32 := [0, 1, 2, 3, 4, 5, 6, 7, 8, 9, 10, 11, 12, 13, 14, 15, 16]
abbrev b_ord : ByteArray := prog_16_method_2_code
def y_ord : MethodName := ⟨"java/lang/Enum", "ordinal", "()I"⟩
theorem d_ord_0 : decode b_ord 0 = .ok (.aload_n 0, 1) := by decide +kernel
theorem d_ord_1 : decode b_ord 1 = .ok (.getfield 7, 3) := by decide +kernel
theorem d_ord_4 : decode b_ord 4 = .ok (.ireturn, 1) := by decide +kernel
theorem c_ord {x : GX} {g : GE} {ex : va_W} {a : Nat → Nat} (l : Launch) (k : Nat) (hk : k < 17) (sz : Nat) : Met l y_ord (wM y_ord b_ord 1 (some .int)) (rmN 0 0 0) (PreE x g ucl ex [.ref (g.1 k)] a () sz) (QfI x ucl ex a (va_A (ucl a () ++ ex) sz) (fun r _ => r = ordL.getD k 0)) 0 0 (va_A (ucl a () ++ ex) sz) := by
  refine w_enterE (by decide +kernel) (Nat.le_of_ble_eq_true rfl) (fun p e s m args below meth c S hr hlk hnm hK hE hA hw ls hl => ?_)
  have hl : lv_has ls 1 [(0, .ref (g.1 k))] := hl
  refine lv_aload_n S.1 S.2.1 d_ord_0 rfl (lv_at hl 0 rfl) ?_
  refine va_getE (q := ("java/lang/Enum", "ordinal", "I", ordL)) S.1 S.2.1 hE.1 hk hw.2.2 S.2.2.2.1 (List.mem_of_getElem? (i := 0) rfl) (S.2.2.2.2 _ k_1181) (fun _ h9 => h9) d_ord_1 ?_
  exact w_iretF S hr hlk hw rfl d_ord_4
section HO
variable {p : Program} {l : Launch} {e : Env} {R : Room} {s : State} {m : MethodId} {args : Array Value} {below : List Frame} {meth : Method} {c : Code} {H H0 : Heap} {locs : List Loc} {cells slots : Nat} {Q : State → Prop}
variable {cc : ByteArray} {nL pc : Nat} {ls : Array Slot} {rest : List Value} {x : GX} {g : GE} {a : Nat → Nat} {A : Nat → Prop} {ex ws : va_W} {h : Nat} {v : PS} {z : SBS}
/-- op.ordinal(), asked by PatternBench -/
theorem p_ord (S : CallFix p m c cc nL s args lw_tg "PatternBench") (hK : GK x s) (hE : EN g A s s.heap) (hA : ∀ q, s.heap.size ≤ q → A q) (hw : wd x A s.heap ws H locs) {k : Nat} (hk : k < 17) (hfr : 1 ≤ R.frames) (hlo : 64 ≤ R.locals) (hsz : ls.size = nL) (hf : cells ≤ R.cells ∧ slots ≤ R.slots) (hW : (rest.map fun v => v.category).sum ≤ 8) (hdg : decode cc pc = .ok (.invokevirtual 271, 3))
    (kk : ∀ (H : Heap) (locs : List Loc), wd x A s.heap ws H locs → W p l e R s m args below meth c H locs cells slots Q (F0 m (pc + 3) ls (.int (ordL.getD k 0) :: rest))) : W p l e R s m args below meth c H locs cells slots Q (F0 m pc ls (.ref (g.1 k) :: rest)) := by
  have hw2 : wd x A s.heap (ucl (fun _ => 0) () ++ ws) H locs := hw
  have hrun : va_Run p l e R s m args below meth c H locs cells slots 0 0 (F0 m pc ls (.ref (g.1 k) :: rest)) rest (QfI x ucl ws (fun _ => 0) (va_A (ucl (fun _ => 0) () ++ ws) H.size) (fun r _ => r = ordL.getD k 0) #[Value.ref (g.1 k)]) (va_A (ucl (fun _ => 0) () ++ ws) H.size) := by
    refine va_runU (x := ⟨"PatternBench$Op", "ordinal", "()I"⟩) (C := "PatternBench$Op") (owner := "java/lang/Enum") (As := []) S (c_ord (x := x) (g := g) (ex := ws) (a := fun _ => 0) l k hk H.size) (va_cwU 0 S.2.2.2.2 (good_ap ?_ (good_tg k_773)) rfl rfl rfl rfl (by decide +kernel) ⟨by show 0 + 1 ≤ R.frames; omega, by show 8 + (1 + 11) + 0 ≤ R.locals; omega⟩) ⟨PreE.blind, va_recvE hE.1 hk hw.2.2, preE hK hE hA hw2 _⟩ rfl rfl hsz rfl (lv_room hW) hdg hf
    intro w hw
    simp only [List.mem_cons, List.not_mem_nil, or_false] at hw
    rcases hw with rfl | rfl | rfl | rfl | rfl
    · exact k_768
    · exact k_769
    · exact k_771
    · exact k_772
    · exact k_20
  refine w_ciF hA hw2 hrun (fun r u H locs h hw => ?_)
  subst h
  exact kk H locs hw
theorem pb_wr_inF (hw : wd x A H0 (scl x (a 1) (fun _ => a 2) z ++ pr_wr x g h a v ex) H locs) : wd x A H0 (pcl x g h a (ps_wr v z) ++ ex) H locs := wd_back (l1 := [pobj h a v]) (wc := scl x (a 1) (fun _ => a 2) z) (l2 := (scl x (a 3) (fun _ => a 4) (p_su v) ++ (prl x g (a 5) a (p_pr v) ++ parr x a v) ++ ex)) hw
theorem pb_su_inF (hw : wd x A H0 (scl x (a 3) (fun _ => a 4) z ++ pr_su x g h a v ex) H locs) : wd x A H0 (pcl x g h a (ps_su v z) ++ ex) H locs := wd_back (l1 := (pobj h a v :: scl x (a 1) (fun _ => a 2) (p_wr v))) (wc := scl x (a 3) (fun _ => a 4) z) (l2 := ((prl x g (a 5) a (p_pr v) ++ parr x a v) ++ ex)) hw
end HO
