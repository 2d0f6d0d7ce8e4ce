/-! Rows for compile(): a part of a part, the Program brought to the head of PatternBench's world -/
def tin : PT → Nat → PT → Prop
  | .append t l, r, T => tin t r T ∨ tin l r T
  | .nest _ b, r, T => tin b r T
  | .tag K b, r, T => (K = 3 ∧ tq b = r ∧ T = tcore b) ∨ (((K = 1 ∨ K = 2) ∧ tlen b ≠ 0 ∨ K = 3 ∨ K = 4) ∧ tin b r T)
  | _, _, _ => False
/-- T' is the part T at r0 itself, or the inside of a group of it, held at r -/
def tsub (T : PT) (r0 r : Nat) (T' : PT) : Prop := (T' = T ∧ r = r0) ∨ tin T r T'
theorem TR_in {x : GX} {g : GE} {fw : va_W} : ∀ (T : PT) (r0 : Nat) (f : Nat → Option Nat) (k : Nat), TR x g fw T r0 f k → ∀ (r : Nat) (T' : PT), tin T r T' → TP x g fw T' r := by
  intro T
  induction T with
  | append t l ih1 ih2 =>
    intro r0 f k ⟨⟨r1, h1, h0, h2⟩, h3⟩ r T' h
    rcases h with h | h
    · exact ih1 _ _ _ h2 r T' h
    · exact ih2 _ _ _ h3 r T' h
  | nest n b ih => intro r0 f k h r T' h'; exact ih _ _ _ h r T' h'
  | tag K b ih =>
    intro r0 f k h r T' h'
    rcases h' with ⟨rfl, rfl, rfl⟩ | ⟨hK, h'⟩
    · rcases h with ⟨h1, h2, h3⟩ | ⟨h1, q, h2, h3⟩ | ⟨h1, h2, h0, h3⟩ | ⟨h1, q, h2, h0, h3⟩
      · cases h1
      · omega
      · exact ⟨(isT_core b).trans h0, TR_core _ _ _ _ h3⟩
      · cases h1
    · rcases h with ⟨h1, h2, h3⟩ | ⟨h1, q, h2, h3⟩ | ⟨h1, h2, h0, h3⟩ | ⟨h1, q, h2, h0, h3⟩
      · omega
      · rcases h3 with ⟨mc, h4, h5⟩ | ⟨arr, n, f, mc, h4, h5, h6, h7, h8⟩
        · omega
        · exact ih _ _ _ h8 r T' h'
      · exact ih _ _ _ h3 r T' h'
      · exact ih _ _ _ h3 r T' h'
  | _ => intro r0 f k _ r T' h; exact absurd h id
theorem TP.sub {x : GX} {g : GE} {fw : va_W} {T T' : PT} {r0 r : Nat} (h : TP x g fw T r0) (hs : tsub T r0 r T') : TP x g fw T' r := by
  rcases hs with ⟨rfl, rfl⟩ | hs
  · exact h
  · exact TR_in T r0 _ _ h.2 r T' hs
theorem wd_dropL {x : GX} {A : Nat → Prop} {H0 H : Heap} {locs : List Loc} {l1 l2 : va_W} : ∀ (fw : va_W), wd x A H0 (l1 ++ (fw ++ l2)) H locs → wd x A H0 (l1 ++ l2) H locs := by
  intro fw
  induction fw with
  | nil => intro h; exact h
  | cons q fw ih => intro h; exact ih (wd_drop (l1 := l1) (q := q) (l2 := fw ++ l2) h)
section CR
variable {p : Program} {l : Launch} {e : Env} {R : Room} {s : State} {m : MethodId} {args : Array Value} {below : List Frame} {meth : Method} {c : Code} {H H0 : Heap} {locs : List Loc} {cells slots : Nat} {Q : State → Prop}
variable {cc : ByteArray} {nL pc : Nat} {ls : Array Slot} {rest : List Value} {x : GX} {g : GE} {a a1 : Nat → Nat} {A : Nat → Prop} {ex : va_W} {o : Nat} {v : PS} {z : PRS}
def pr_pr (x : GX) (h : Nat) (a : Nat → Nat) (v : PS) (ex : va_W) : va_W := (pobj h a v :: (scl x (a 1) (fun _ => a 2) (p_wr v) ++ scl x (a 3) (fun _ => a 4) (p_su v))) ++ (parr x a v ++ ex)
theorem pb_pr_out (hw : wd x A H0 (pcl x g o a v ++ ex) H locs) : wd x A H0 (prl x g (a 5) a (p_pr v) ++ pr_pr x o a v ex) H locs := wd_rot (l1 := (pobj o a v :: (scl x (a 1) (fun _ => a 2) (p_wr v) ++ scl x (a 3) (fun _ => a 4) (p_su v)))) (wc := prl x g (a 5) a (p_pr v)) (l2 := parr x a v ++ ex) hw
def va_prg (a a1 : Nat → Nat) : Nat → Nat := va_up (va_up (va_up (va_up a 6 (a1 6)) 7 (a1 7)) 8 (a1 8)) 9 (a1 9)
theorem pb_pr_in (hw : wd x A H0 (prl x g (a 5) a1 z ++ pr_pr x o a v ex) H locs) : wd x A H0 (pcl x g o (va_prg a a1) (ps_pr v z) ++ ex) H locs := wd_back (l1 := (pobj o a v :: (scl x (a 1) (fun _ => a 2) (p_wr v) ++ scl x (a 3) (fun _ => a 4) (p_su v)))) (wc := prl x g (a 5) a1 z) (l2 := parr x a v ++ ex) hw
theorem pm_addP (S : CallFix p m c cc nL s args lw_tg "PatternBench") (hK : GK x s) (hE : EN g A s s.heap) (hA : ∀ q, s.heap.size ≤ q → A q) (hw : wd x A s.heap (pcl x g o a v ++ ex) H locs) {k index kc nc : Nat} {n w : Int32} {Qc : Int32 → PRS → Prop} (h : P_Pr_add kc nc k n w (p_pr v) Qc) (hlk : Cond.methodLink "PatternBench" index y_Pr_add ∈ lw_tg) (hfr : 3 ≤ R.frames) (hlo : 64 * 3 ≤ R.locals) (hf : cells + kc ≤ R.cells ∧ slots + nc ≤ R.slots) (hsz : ls.size = nL) (hW : (rest.map fun v => v.category).sum ≤ 8) (hdg : decode cc pc = .ok (.invokevirtual index, 3))
    (kk : ∀ (r : Int32) (z : PRS) (a : Nat → Nat) (H : Heap) (locs : List Loc), Qc r z → wd x A s.heap (pcl x g o a (ps_pr v z) ++ ex) H locs → W p l e R s m args below meth c H locs (cells + kc) (slots + nc) Q (F0 m (pc + 3) ls (.int r :: rest))) : W p l e R s m args below meth c H locs cells slots Q (F0 m pc ls (.int w :: .int n :: .ref (g.1 k) :: .ref (a 5) :: rest)) :=
  mm_add S hK hE hA (pb_pr_out hw) h hlk hfr hlo hf hsz hW hdg (fun r z a H locs h hw => kk r z _ H locs h (pb_pr_in hw))
theorem pm_emitP (S : CallFix p m c cc nL s args lw_tg "PatternBench") (hK : GK x s) (hE : EN g A s s.heap) (hA : ∀ q, s.heap.size ≤ q → A q) (hw : wd x A s.heap (pcl x g o a v ++ ex) H locs) {T : PT} {lv r index kc nc : Nat} {Qc : PRS → Prop} (hT : TP x g ex T r) (hlv : 4 * th T ≤ lv) (h : PE T 0 kc nc (p_pr v) Qc) (hlk : Cond.methodLink "PatternBench" index xEmit ∈ lw_tg) (hfr : lv + 1 ≤ R.frames) (hlo : 64 * (lv + 1) ≤ R.locals) (hf : cells + kc ≤ R.cells ∧ slots + nc ≤ R.slots) (hsz : ls.size = nL) (hW : (rest.map fun v => v.category).sum ≤ 8) (hdg : decode cc pc = .ok (.invokeinterface index 2, 5))
    (kk : ∀ (z : PRS) (a : Nat → Nat) (H : Heap) (locs : List Loc), Qc z → wd x A s.heap (pcl x g o a (ps_pr v z) ++ ex) H locs → W p l e R s m args below meth c H locs (cells + kc) (slots + nc) Q (F0 m (pc + 5) ls rest)) : W p l e R s m args below meth c H locs cells slots Q (F0 m pc ls (.ref (a 5) :: .ref r :: rest)) :=
  mm_emit S hK hE hA (pb_pr_out hw) (hT.mono (fun _ h9 => List.mem_append_right _ (List.mem_append_right _ h9))) (e_all hlv) h hlk hfr hlo hf hsz hW hdg (fun z a H locs h hw => kk z _ H locs h (pb_pr_in hw))
theorem pl_ins (S : CallFix p m c cc nL s args lw_tg "PatternBench") (hK : GK x s) (hw : wd x A H0 (pcl x g o a v ++ ex) H locs) {i : Int32} {r : Nat} (hin : vp_in i 5) (he : p_ins v i.toNatClampNeg = some r) (hdg : decode cc pc = .ok (.aaload, 1)) (kk : W p l e R s m args below meth c H locs cells slots Q (F0 m (pc + 1) ls (.ref r :: rest))) : W p l e R s m args below meth c H locs cells slots Q (F0 m pc ls (.int i :: .ref (a 10) :: rest)) := by
  refine va_aldq S.1 S.2.1 hK hw.1 10 4 rfl rfl hin hdg ?_
  rw [he]
  exact kk
end CR
