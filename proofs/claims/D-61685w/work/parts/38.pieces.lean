theorem k_370 : (Cond.classLink "PatternBench" 81 "java/util/ArrayList") ∈ lw_tg := kw 370 (by decide +kernel) (by decide +kernel)
theorem k_371 : (Cond.instantiable "java/util/ArrayList" 3) ∈ lw_tg := kw 371 (by decide +kernel) (by decide +kernel)
theorem k_372 : (Cond.methodLink "PatternBench" 83 ⟨"java/util/ArrayList", "<init>", "()V"⟩) ∈ lw_tg := kw 372 (by decide +kernel) (by decide +kernel)
theorem k_373 : (Cond.instanceMethod ⟨"java/util/ArrayList", "<init>", "()V"⟩) ∈ lw_tg := kw 373 (by decide +kernel) (by decide +kernel)
theorem k_374 : (Cond.code ⟨"java/util/ArrayList", "<init>", "()V"⟩ prog_27_method_2_code 1 (Option.none : Option Jvm.ClassFile.FieldType)) ∈ lw_tg := kw 374 (by decide +kernel) (by decide +kernel)
theorem k_511 : (Cond.methodLink "PatternBench" 88 ⟨"java/util/ArrayList", "add", "(Ljava/lang/Object;)Z"⟩) ∈ lw_tg := kw 511 (by decide +kernel) (by decide +kernel)
theorem k_512 : (Cond.instanceMethod ⟨"java/util/ArrayList", "add", "(Ljava/lang/Object;)Z"⟩) ∈ lw_tg := kw 512 (by decide +kernel) (by decide +kernel)
theorem k_513 : (Cond.selects "java/util/ArrayList" ⟨"java/util/ArrayList", "add", "(Ljava/lang/Object;)Z"⟩ ⟨"java/util/ArrayList", "add", "(Ljava/lang/Object;)Z"⟩) ∈ lw_tg := kw 513 (by decide +kernel) (by decide +kernel)
theorem k_514 : (Cond.code ⟨"java/util/ArrayList", "add", "(Ljava/lang/Object;)Z"⟩ prog_27_method_25_code 2 (Option.some .boolean)) ∈ lw_tg := kw 514 (by decide +kernel) (by decide +kernel)
theorem k_564 : (Cond.methodLink "PatternBench" 92 ⟨"java/util/ArrayList", "size", "()I"⟩) ∈ lw_tg := kw 564 (by decide +kernel) (by decide +kernel)
theorem k_565 : (Cond.instanceMethod ⟨"java/util/ArrayList", "size", "()I"⟩) ∈ lw_tg := kw 565 (by decide +kernel) (by decide +kernel)
theorem k_566 : (Cond.selects "java/util/ArrayList" ⟨"java/util/ArrayList", "size", "()I"⟩ ⟨"java/util/ArrayList", "size", "()I"⟩) ∈ lw_tg := kw 566 (by decide +kernel) (by decide +kernel)
theorem k_567 : (Cond.code ⟨"java/util/ArrayList", "size", "()I"⟩ prog_27_method_8_code 1 (Option.some .int)) ∈ lw_tg := kw 567 (by decide +kernel) (by decide +kernel)
theorem k_568 : (Cond.methodLink "PatternBench" 95 ⟨"java/util/ArrayList", "get", "(I)Ljava/lang/Object;"⟩) ∈ lw_tg := kw 568 (by decide +kernel) (by decide +kernel)
theorem k_569 : (Cond.instanceMethod ⟨"java/util/ArrayList", "get", "(I)Ljava/lang/Object;"⟩) ∈ lw_tg := kw 569 (by decide +kernel) (by decide +kernel)
theorem k_570 : (Cond.selects "java/util/ArrayList" ⟨"java/util/ArrayList", "get", "(I)Ljava/lang/Object;"⟩ ⟨"java/util/ArrayList", "get", "(I)Ljava/lang/Object;"⟩) ∈ lw_tg := kw 570 (by decide +kernel) (by decide +kernel)
theorem k_571 : (Cond.code ⟨"java/util/ArrayList", "get", "(I)Ljava/lang/Object;"⟩ prog_27_method_20_code 2 (Option.some (.object "java/lang/Object"))) ∈ lw_tg := kw 571 (by decide +kernel) (by decide +kernel)
/-! PatternBench makes parts and lists: rows over worlds 'pcl .. ++ E', E the pieces at hand -/
/-- the answer: a part -/
def QeP {St : Type} (x : GX) (g : GE) (cl : (Nat → Nat) → St → va_W) (ex : va_W) (A : Nat → Prop) (Qc : PT → St → Prop) : Array Value → State → Outcome → State → Prop := va_Qr (S := PT × St) (fun u => Qc u.1 u.2) (fun u r t => ∃ (a : Nat → Nat) (fw : va_W), TP x g fw u.1 r ∧ va_P (x.1, x.2.1) classes (cl a u.2 ++ (fw ++ ex)) t.heap ∧ va_D A (cl a u.2 ++ (fw ++ ex))) A
/-- the answer: a part, or null -/
def QeO {St : Type} (x : GX) (g : GE) (cl : (Nat → Nat) → St → va_W) (ex : va_W) (A : Nat → Prop) (Qc : Option PT → St → Prop) : Array Value → State → Outcome → State → Prop := va_Qq (S := Option (PT × Nat) × St) (fun r u => r = u.1.map (fun w => w.2) ∧ Qc (u.1.map (fun w => w.1)) u.2) (fun u t => match u.1 with
  | none => ∃ a : Nat → Nat, va_P (x.1, x.2.1) classes (cl a u.2 ++ ex) t.heap ∧ va_D A (cl a u.2 ++ ex)
  | some w => ∃ (a : Nat → Nat) (fw : va_W), TP x g fw w.1 w.2 ∧ va_P (x.1, x.2.1) classes (cl a u.2 ++ (fw ++ ex)) t.heap ∧ va_D A (cl a u.2 ++ (fw ++ ex))) A
section PC
variable {p : Program} {l : Launch} {e : Env} {R : Room} {s : State} {m : MethodId} {args : Array Value} {below : List Frame} {meth : Method} {c : Code} {H H0 : Heap} {locs : List Loc} {cells slots : Nat} {Q : State → Prop}
variable {cc : ByteArray} {nL pc : Nat} {ls : Array Slot} {rest st0 : List Value} {own : String} {x : GX} {g : GE} {A : Nat → Prop} {St : Type} {cl : (Nat → Nat) → St → va_W} {ex E : va_W} {a : Nat → Nat} {u : St} {mc ms : Nat}
theorem w_pretE (S : CallFix p m c cc nL s args lw_tg own) {n : String} (hr : meth.sig.returnType = some (.object n)) (hlk : meth.locks = false) {Qc : PT → St → Prop} {r : Nat} {T : PT} {fw : va_W} (hT : TP x g fw T r) (hw : wd x A s.heap (cl a u ++ (fw ++ ex)) H locs) (h : Qc T u) (hdg : decode cc pc = .ok (.areturn, 1)) :
    W p l e R s m args below meth c H locs cells slots (MQ below (QeP x g cl ex A Qc) args s cells slots A) (F0 m pc ls [.ref r]) :=
  W.aret (v := .ref r) S.1 S.2.1 hr (Or.inl ⟨n, rfl⟩) (Or.inr ⟨r, rfl⟩) (fun t ht hW => ⟨⟨(T, u), r, rfl, h, a, fw, hT, by rw [ht]; exact hw.1, hw.2.1⟩, hw.2.2.F ht⟩) hw.2.2.2.2 hdg hlk
theorem w_oretE (S : CallFix p m c cc nL s args lw_tg own) {n : String} (hr : meth.sig.returnType = some (.object n)) (hlk : meth.locks = false) {Qc : Option PT → St → Prop} {r : Nat} {T : PT} {fw : va_W} (hT : TP x g fw T r) (hw : wd x A s.heap (cl a u ++ (fw ++ ex)) H locs) (h : Qc (some T) u) (hdg : decode cc pc = .ok (.areturn, 1)) :
    W p l e R s m args below meth c H locs cells slots (MQ below (QeO x g cl ex A Qc) args s cells slots A) (F0 m pc ls [.ref r]) :=
  W.aret (v := .ref r) S.1 S.2.1 hr (Or.inl ⟨n, rfl⟩) (Or.inr ⟨r, rfl⟩) (fun t ht hW => ⟨⟨some r, (some (T, r), u), rfl, ⟨rfl, h⟩, a, fw, hT, by rw [ht]; exact hw.1, hw.2.1⟩, hw.2.2.F ht⟩) hw.2.2.2.2 hdg hlk
theorem w_nretE (S : CallFix p m c cc nL s args lw_tg own) {n : String} (hr : meth.sig.returnType = some (.object n)) (hlk : meth.locks = false) {Qc : Option PT → St → Prop} (hw : wd x A s.heap (cl a u ++ ex) H locs) (h : Qc none u) (hdg : decode cc pc = .ok (.areturn, 1)) :
    W p l e R s m args below meth c H locs cells slots (MQ below (QeO x g cl ex A Qc) args s cells slots A) (F0 m pc ls [.null]) :=
  W.aret (v := .null) S.1 S.2.1 hr (Or.inl ⟨n, rfl⟩) (Or.inl rfl) (fun t ht hW => ⟨⟨none, (none, u), rfl, ⟨rfl, h⟩, a, by rw [ht]; exact hw.1, hw.2.1⟩, hw.2.2.F ht⟩) hw.2.2.2.2 hdg hlk
theorem w_cpE (hA : ∀ q, H0.size ≤ q → A q) {wc : va_W} (hw : wd x A H0 wc H locs) {Qc : PT → St → Prop} {ar : Array Value}
    (hr : va_Run p l e R s m args below meth c H locs cells slots mc ms (F0 m pc ls st0) rest (QeP x g cl ex (va_A wc H.size) Qc ar) (va_A wc H.size))
    (kk : ∀ (T : PT) (u : St) (r : Nat) (fw : va_W) (a : Nat → Nat) (H : Heap) (locs : List Loc), Qc T u → TP x g fw T r → wd x A H0 (cl a u ++ (fw ++ ex)) H locs → W p l e R s m args below meth c H locs (cells + mc) (slots + ms) Q (F0 m (pc + 3) ls (.ref r :: rest))) : W p l e R s m args below meth c H locs cells slots Q (F0 m pc ls st0) := by
  have hF := wd_free hA hw
  refine va_callr hr hw.2.2 (fun q _ h => hF q h) hF (fun u1 rb t H1 locs1 ht hvm hq hB hz hk hS => ?_)
  obtain ⟨a1, fw, hT, hB1, hB2⟩ := hB
  refine kk u1.1 u1.2 rb fw a1 H1 locs1 hq hT ⟨?_, ?_, hS⟩
  · rw [← ht]; exact hB1
  · exact hB2.weaken (fun _ _ _ h => hF _ h)
theorem w_coE (hA : ∀ q, H0.size ≤ q → A q) {wc : va_W} (hw : wd x A H0 wc H locs) {Qc : Option PT → St → Prop} {ar : Array Value}
    (hr : va_Run p l e R s m args below meth c H locs cells slots mc ms (F0 m pc ls st0) rest (QeO x g cl ex (va_A wc H.size) Qc ar) (va_A wc H.size))
    (kn : ∀ (u : St) (a : Nat → Nat) (H : Heap) (locs : List Loc), Qc none u → wd x A H0 (cl a u ++ ex) H locs → W p l e R s m args below meth c H locs (cells + mc) (slots + ms) Q (F0 m (pc + 3) ls (.null :: rest)))
    (kk : ∀ (T : PT) (u : St) (r : Nat) (fw : va_W) (a : Nat → Nat) (H : Heap) (locs : List Loc), Qc (some T) u → TP x g fw T r → wd x A H0 (cl a u ++ (fw ++ ex)) H locs → W p l e R s m args below meth c H locs (cells + mc) (slots + ms) Q (F0 m (pc + 3) ls (.ref r :: rest))) : W p l e R s m args below meth c H locs cells slots Q (F0 m pc ls st0) := by
  have hF := wd_free hA hw
  refine va_callq hr hw.2.2 (fun q _ h => hF q h) hF (fun r u1 t H1 locs1 ht hvm hq hB hz hk hS => ?_)
  obtain ⟨hr1, hq⟩ := hq
  obtain ⟨_ | ⟨T, q⟩, u2⟩ := u1
  · obtain ⟨a1, hB1, hB2⟩ := hB
    have hr2 : r = none := hr1
    subst hr2
    refine kn u2 a1 H1 locs1 hq ⟨?_, ?_, hS⟩
    · rw [← ht]; exact hB1
    · exact hB2.weaken (fun _ _ _ h => hF _ h)
  · obtain ⟨a1, fw, hT, hB1, hB2⟩ := hB
    have hr2 : r = some q := hr1
    subst hr2
    refine kk T u2 q fw a1 H1 locs1 hq hT ⟨?_, ?_, hS⟩
    · rw [← ht]; exact hB1
    · exact hB2.weaken (fun _ _ _ h => hF _ h)
end PC
section PM
variable {p : Program} {l : Launch} {e : Env} {R : Room} {s : State} {m : MethodId} {args : Array Value} {below : List Frame} {meth : Method} {c : Code} {H : Heap} {locs : List Loc} {cells slots : Nat} {Q : State → Prop}
variable {cc : ByteArray} {nL pc : Nat} {ls : Array Slot} {rest : List Value} {x : GX} {g : GE} {A : Nat → Prop} {E fw fwL : va_W} {a : Nat → Nat} {u : PS} {o : Nat}
/-- new ArrayList() -/
theorem pm_newAL (S : CallFix p m c cc nL s args lw_tg "PatternBench") (hK : GK x s) (hE : EN g A s s.heap) (hA : ∀ q, s.heap.size ≤ q → A q) (hw : wd x A s.heap (pcl x g o a u ++ E) H locs) (hfr : 8 ≤ R.frames) (hlo : 64 * 8 ≤ R.locals) (hf : cells + 1 ≤ R.cells ∧ slots + 3 ≤ R.slots) (hsz : ls.size = nL) (hd1 : decode cc pc = .ok (.new 81, 3)) (hd2 : decode cc (pc + 3) = .ok (.dup, 1)) (hd3 : decode cc (pc + 4) = .ok (.invokespecial 83, 3))
    (kk : ∀ (b : Nat) (fw : va_W) (H : Heap) (locs : List Loc), ALp x g fw b [] → wd x A s.heap (pcl x g o a u ++ (fw ++ E)) H locs → W p l e R s m args below meth c H locs (cells + 1) (slots + 3) Q (F0 m (pc + 7) ls [.ref b])) : W p l e R s m args below meth c H locs cells slots Q (F0 m pc ls []) := by
  refine w_new S hK hA hw 4 rfl i_AL t_AL t_AL_ok k_370 k_371 k_17 [.null, .int 0, .int 0] (fun j hj => by rcases (show j = 0 ∨ j = 1 ∨ j = 2 by omega) with rfl | rfl | rfl <;> rfl) hf hd1 (fun b H hw => ?_)
  refine lv_dup S.1 S.2.1 hd2 rfl ?_
  have hwc : wd x A s.heap (ncl 4 b [.null, .int 0, .int 0] a () ++ (pcl x g o a u ++ E)) H locs := hw
  have hF := wd_free hA hwc
  refine va_callv (w_riE (rest := [.ref b]) S hK hE hA hwc (c_AL_init l _) (w_cb (fr := 0) (lv := 0) S.2.2.2.2 k_374 k_372 k_17 yd_AL_init rfl rfl ⟨by show 3 + 1 ≤ R.frames; omega, by show 8 + (1 + 11) + 64 * 3 ≤ R.locals; omega⟩) rfl k_373 rfl hsz rfl (Nat.le_of_ble_eq_true rfl) hd3 hf) hwc.2.2 (fun q _ h => hF q h) hF (fun z t H1 locs1 ht hvm hq hB hz hk hS => ?_)
  subst hq
  have hw2 : wd x A s.heap (alc x g b a (none, 0) ++ (pcl x g o a u ++ E)) H1 locs1 := ⟨by rw [← ht]; exact hB.1, hB.2.weaken (fun _ _ _ h => hF _ h), hS⟩
  exact kk b (alc x g b (fun _ => 0) (none, 0)) H1 locs1 ⟨(none, 0), [], (List.append_nil _).symm, rfl, trivial, trivial, fun i h => absurd h (by simp)⟩ (wd_up1 (l1 := alc x g b a (none, 0)) (wc := pcl x g o a u) (r := E) hw2)
/-- list.add(part) -/
theorem pm_add (S : CallFix p m c cc nL s args lw_tg "PatternBench") (hK : GK x s) (hE : EN g A s s.heap) (hA : ∀ q, s.heap.size ≤ q → A q) {b r : Nat} {L : List PT} {T : PT} (hL : ALp x g fwL b L) (hT : TP x g fw T r) (hlen : L.length ≤ 32) (hw : wd x A s.heap (pcl x g o a u ++ (fw ++ (fwL ++ E))) H locs) (hfr : 8 ≤ R.frames) (hlo : 64 * 8 ≤ R.locals) (hf : cells + 1 ≤ R.cells ∧ slots + 33 ≤ R.slots) (hsz : ls.size = nL) (hdg : decode cc pc = .ok (.invokevirtual 88, 3))
    (kk : ∀ (v : Int32) (fwN : va_W) (H : Heap) (locs : List Loc), ALp x g fwN b (L ++ [T]) → wd x A s.heap (pcl x g o a u ++ (fwN ++ E)) H locs → W p l e R s m args below meth c H locs (cells + 1) (slots + 33) Q (F0 m (pc + 3) ls [.int v])) : W p l e R s m args below meth c H locs cells slots Q (F0 m pc ls [.ref r, .ref b]) := by
  obtain ⟨z, fe, rfl, h1, h2, h3, h4⟩ := hL
  have hw2 : wd x A s.heap (alc x g b (fun _ => 0) z ++ (fe ++ (fw ++ (pcl x g o a u ++ E)))) H locs := by
    have e1 : wd x A s.heap (pcl x g o a u ++ (fw ++ (alc x g b (fun _ => 0) z ++ (fe ++ E)))) H locs := by
      rw [List.append_assoc] at hw; exact hw
    have e2 := wd_up2 e1
    have e3 : wd x A s.heap ((alc x g b (fun _ => 0) z ++ pcl x g o a u) ++ (fw ++ (fe ++ E))) H locs := by
      rw [List.append_assoc]; exact e2
    have e4 := wd_rot e3
    have e5 : wd x A s.heap ((fw ++ (alc x g b (fun _ => 0) z ++ pcl x g o a u)) ++ (fe ++ E)) H locs := by
      rw [List.append_assoc]; exact e4
    have e6 := wd_rot e5
    have e7 : wd x A s.heap ((fe ++ fw) ++ (alc x g b (fun _ => 0) z ++ (pcl x g o a u ++ E))) H locs := by
      simpa only [List.append_assoc] using e6
    have e8 := wd_rot e7
    simpa only [List.append_assoc] using e8
  have hnx : (alNext z).1 ≤ 33 := by
    obtain ⟨_ | ⟨q, n, f, k⟩, mc⟩ := z
    · exact (by decide : 10 ≤ 33)
    · have hk : k = L.length := h1
      obtain ⟨g1, g2⟩ := h2
      show (if k = n then (n + n / 2, grownR n f, k) else (n, f, k)).1 ≤ 33
      split <;> (show _ ≤ 33) <;> omega
  have hq1 : ∃ fs, (alc x g b (fun _ => 0) z ++ (fe ++ (fw ++ (pcl x g o a u ++ E))))[0]? = some (b, .inr (4, fs)) := by
    obtain ⟨_ | ⟨q, n, f, k⟩, mc⟩ := z
    · exact ⟨_, rfl⟩
    · exact ⟨_, rfl⟩
  obtain ⟨fs, hq1⟩ := hq1
  have hh : alHas (fe ++ (fw ++ (pcl x g o a u ++ E))) z := by
    obtain ⟨_ | ⟨q, n, f, k⟩, mc⟩ := z
    · trivial
    · exact fun i hi y hy => (h3 i hi y hy).left
  refine w_ciE hA hw2 (w_rvE (rest := []) S hK hE hA hw2 (c_AL_add l z r 33 _ h2.room hh (hT.prt.left.app) hnx) (ci := 4) (q0 := 0) rfl hq1 (w_cb (fr := 0) (lv := 0) S.2.2.2.2 k_514 k_511 k_17 yd_AL_add rfl rfl ⟨by show 7 + 1 ≤ R.frames; omega, by show 8 + (2 + 11) + 64 * 7 ≤ R.locals; omega⟩) k_512 k_513 rfl hsz rfl (Nat.le_of_ble_eq_true rfl) hdg hf) (fun v z' a' H locs h hw => ?_)
  obtain ⟨q', rfl⟩ := h
  refine kk v (alc x g b (fun _ => 0) (some (q', (alNext z).1, va_up (alNext z).2.1 (alk z) (some r), alk z + 1), z.2 + 1) ++ (fe ++ fw)) H locs ⟨_, fe ++ fw, rfl, ?_, ?_, ?_, ?_⟩ ?_
  · show alk z + 1 = (L ++ [T]).length
    rw [h1]; simp
  · obtain ⟨_ | ⟨q, n, f, k⟩, mc⟩ := z
    · exact ⟨(by decide : 0 + 1 ≤ 10), Or.inl rfl⟩
    · have hk : k = L.length := h1
      obtain ⟨g1, g2⟩ := h2
      show k + 1 ≤ (if k = n then (n + n / 2, grownR n f, k) else (n, f, k)).1 ∧ _
      show k + 1 ≤ (if k = n then (n + n / 2, grownR n f, k) else (n, f, k)).1 ∧ ((if k = n then (n + n / 2, grownR n f, k) else (n, f, k)).1 = 10 ∨ (if k = n then (n + n / 2, grownR n f, k) else (n, f, k)).1 = 15 ∨ (if k = n then (n + n / 2, grownR n f, k) else (n, f, k)).1 = 22 ∨ (if k = n then (n + n / 2, grownR n f, k) else (n, f, k)).1 = 33)
      split <;> dsimp only <;> omega
  · intro i hi y hy
    by_cases hik : i = alk z
    · subst hik
      rw [va_up_self] at hy
      cases hy
      exact hT.prt.app
    · rw [va_up_ne _ _ hik] at hy
      obtain ⟨_ | ⟨q, n, f, k⟩, mc⟩ := z
      · cases hy
      · have hy2 : (if k = n then (n + n / 2, grownR n f, k) else (n, f, k)).2.1 i = some y := hy
        have hf1 : i < n ∧ f i = some y := by
          split at hy2
          · simp only [grownR] at hy2
            by_cases h9 : i < n
            · rw [if_pos h9] at hy2; exact ⟨h9, hy2⟩
            · rw [if_neg h9] at hy2; cases hy2
          · rename_i hne
            refine ⟨?_, hy2⟩
            have hi2 : i < (if k = n then (n + n / 2, grownR n f, k) else (n, f, k)).1 := hi
            rw [if_neg hne] at hi2
            exact hi2
        exact (h3 i hf1.1 y hf1.2).left
  · intro i hi
    have hi2 : i < L.length + 1 := by simpa using hi
    by_cases hik : i = L.length
    · subst hik
      refine ⟨r, ?_, ?_⟩
      · show va_up (alNext z).2.1 (alk z) (some r) L.length = some r
        rw [h1, va_up_self]
      · simpa using hT.mono (fun q hq => List.mem_append_right fe hq)
    · obtain ⟨r1, g1, g2⟩ := h4 i (by omega)
      refine ⟨r1, ?_, ?_⟩
      · show va_up (alNext z).2.1 (alk z) (some r) i = some r1
        rw [va_up_ne _ _ (by rw [h1]; exact hik)]
        obtain ⟨_ | ⟨q, n, f, k⟩, mc⟩ := z
        · cases g1
        · have hk : k = L.length := h1
          have g1 : f i = some r1 := g1
          show (if k = n then (n + n / 2, grownR n f, k) else (n, f, k)).2.1 i = some r1
          split
          · show grownR n f i = _
            simp only [grownR]
            rw [if_pos (by omega)]; exact g1
          · exact g1
      · have e9 : (L ++ [T])[i] = L[i]'(by omega) := List.getElem_append_left (by omega)
        rw [e9]
        exact g2.mono (fun q hq => List.mem_append_left fw hq)
  · have hw : wd x A s.heap (alc x g b (fun _ => 0) (some (q', (alNext z).1, va_up (alNext z).2.1 (alk z) (some r), alk z + 1), z.2 + 1) ++ (fe ++ (fw ++ (pcl x g o a u ++ E)))) H locs := hw
    have f1 : wd x A s.heap ((alc x g b (fun _ => 0) (some (q', (alNext z).1, va_up (alNext z).2.1 (alk z) (some r), alk z + 1), z.2 + 1) ++ (fe ++ fw)) ++ (pcl x g o a u ++ E)) H locs := by
      simpa only [List.append_assoc] using hw
    exact wd_rot f1
/-- list.size() -/
theorem pm_size (S : CallFix p m c cc nL s args lw_tg "PatternBench") (hK : GK x s) (hE : EN g A s s.heap) (hA : ∀ q, s.heap.size ≤ q → A q) {b : Nat} {L : List PT} (hL : ALp x g fwL b L) (hw : wd x A s.heap (pcl x g o a u ++ (fwL ++ E)) H locs) (hfr : 8 ≤ R.frames) (hlo : 64 * 8 ≤ R.locals) (hf : cells ≤ R.cells ∧ slots ≤ R.slots) (hsz : ls.size = nL) (hdg : decode cc pc = .ok (.invokevirtual 92, 3))
    (kk : ∀ (H : Heap) (locs : List Loc), wd x A s.heap (pcl x g o a u ++ (fwL ++ E)) H locs → W p l e R s m args below meth c H locs cells slots Q (F0 m (pc + 3) ls [.int (nI L.length)])) : W p l e R s m args below meth c H locs cells slots Q (F0 m pc ls [.ref b]) := by
  obtain ⟨z, fe, rfl, h1, h2, h3, h4⟩ := hL
  have hw2 : wd x A s.heap (alc x g b (fun _ => 0) z ++ (pcl x g o a u ++ (fe ++ E))) H locs := by
    rw [List.append_assoc] at hw; exact wd_up1 hw
  have hq1 : ∃ fs, (alc x g b (fun _ => 0) z ++ (pcl x g o a u ++ (fe ++ E)))[0]? = some (b, .inr (4, fs)) := by
    obtain ⟨_ | ⟨q, n, f, k⟩, mc⟩ := z
    · exact ⟨_, rfl⟩
    · exact ⟨_, rfl⟩
  obtain ⟨fs, hq1⟩ := hq1
  refine w_ciF hA hw2 (w_rvE (rest := []) S hK hE hA hw2 (c_AL_size l z _) (ci := 4) (q0 := 0) rfl hq1 (w_cb (fr := 0) (lv := 0) S.2.2.2.2 k_567 k_564 k_17 yd_AL_size rfl rfl ⟨by show 0 + 1 ≤ R.frames; omega, by show 8 + (1 + 11) + 64 * 0 ≤ R.locals; omega⟩) k_565 k_566 rfl hsz rfl (Nat.le_of_ble_eq_true rfl) hdg hf) (fun v z' H9 locs9 h hw9 => ?_)
  obtain ⟨h8, h7⟩ := h
  rw [h8, h1]
  rw [h7] at hw9
  refine kk H9 locs9 ?_
  rw [List.append_assoc]
  exact wd_up1 hw9
/-- (Part) list.get(0) -/
theorem pm_get0 (S : CallFix p m c cc nL s args lw_tg "PatternBench") (hK : GK x s) (hE : EN g A s s.heap) (hA : ∀ q, s.heap.size ≤ q → A q) {b : Nat} {T : PT} {L : List PT} (hL : ALp x g fwL b (T :: L)) (hw : wd x A s.heap (pcl x g o a u ++ (fwL ++ E)) H locs) (hfr : 8 ≤ R.frames) (hlo : 64 * 8 ≤ R.locals) (hf : cells ≤ R.cells ∧ slots ≤ R.slots) (hsz : ls.size = nL) (hdg : decode cc pc = .ok (.invokevirtual 95, 3)) (hd2 : decode cc (pc + 3) = .ok (.checkcast 26, 3))
    (kk : ∀ (r : Nat) (H : Heap) (locs : List Loc), TP x g fwL T r → wd x A s.heap (pcl x g o a u ++ (fwL ++ E)) H locs → W p l e R s m args below meth c H locs cells slots Q (F0 m (pc + 6) ls [.ref r])) : W p l e R s m args below meth c H locs cells slots Q (F0 m pc ls [.int 0, .ref b]) := by
  obtain ⟨z, fe, rfl, h1, h2, h3, h4⟩ := hL
  have hw2 : wd x A s.heap (alc x g b (fun _ => 0) z ++ (pcl x g o a u ++ (fe ++ E))) H locs := by
    rw [List.append_assoc] at hw; exact wd_up1 hw
  obtain ⟨r, g1, g2⟩ := h4 0 (by simp)
  obtain ⟨_ | ⟨q, n, f, k⟩, mc⟩ := z
  · cases g1
  · obtain ⟨e1, e2⟩ := h2
    have hk : k = (T :: L).length := h1
    refine w_crF hA hw2 (w_rvE (rest := []) S hK hE hA hw2 (c_AL_get l q n k 0 f mc r _ (by rw [hk]; simp) e1 (by omega) g1) (ci := 4) (q0 := 0) rfl rfl (w_cb (fr := 0) (lv := 0) S.2.2.2.2 k_571 k_568 k_17 yd_AL_get rfl rfl ⟨by show 2 + 1 ≤ R.frames; omega, by show 8 + (2 + 11) + 64 * 2 ≤ R.locals; omega⟩) k_569 k_570 rfl hsz rfl (Nat.le_of_ble_eq_true rfl) hdg hf) (fun v z' H locs h hw => ?_)
    obtain ⟨rfl, rfl⟩ := h
    have hT : TP x g (alc x g b (fun _ => 0) (some (q, n, f, k), mc) ++ fe) T v := g2.mono (fun q hq => List.mem_append_right _ hq)
    have hw3 : wd x A s.heap (pcl x g o a u ++ ((alc x g b (fun _ => 0) (some (q, n, f, k), mc) ++ fe) ++ E)) H locs := by
      rw [List.append_assoc]; exact wd_up1 hw
    obtain ⟨j, ci, fs, j1, j2, j3⟩ := ((hT.prt.left (ws := E)).app (l := pcl x g o a u))
    have hc : ci = 5 ∨ ci = 6 ∨ ci = 7 ∨ ci = 8 ∨ ci = 9 := by omega
    have hcast : ∃ C : String, va_Nw (.castable C "PatternBench$Part") s ∧ ∃ cell : Cell, H[v]? = some cell ∧ cell.vm.isStatics = false ∧ s.vm.findClass C = some cell.cls := by
      have hF := hE.2.2.2.2.2.2.2.2.2
      rcases hc with rfl | rfl | rfl | rfl | rfl
      · exact ⟨_, hF ("PatternBench$Leaf", "PatternBench$Part") (List.mem_of_getElem? (i := 0) rfl), va_recv (q := (R_Leaf, F_Leaf, 2)) hK hw3.1 rfl j1⟩
      · exact ⟨_, hF ("PatternBench$Row", "PatternBench$Part") (List.mem_of_getElem? (i := 1) rfl), va_recv (q := (R_Row, F_Row, 1)) hK hw3.1 rfl j1⟩
      · exact ⟨_, hF ("PatternBench$Choice", "PatternBench$Part") (List.mem_of_getElem? (i := 2) rfl), va_recv (q := (R_Cho, F_Cho, 1)) hK hw3.1 rfl j1⟩
      · exact ⟨_, hF ("PatternBench$Group", "PatternBench$Part") (List.mem_of_getElem? (i := 3) rfl), va_recv (q := (R_Grp, F_Grp, 3)) hK hw3.1 rfl j1⟩
      · exact ⟨_, hF ("PatternBench$Repeat", "PatternBench$Part") (List.mem_of_getElem? (i := 4) rfl), va_recv (q := (R_Rep, F_Rep, 4)) hK hw3.1 rfl j1⟩
    obtain ⟨C, hC1, hC2⟩ := hcast
    refine va_castY S.1 S.2.1 S.2.2.2.1 (S.2.2.2.2 _ k_105) hC1 hC2 hd2 ?_
    exact kk v H locs hT hw3
/-- insides[i] = part -/
theorem pm_ins (S : CallFix p m c cc nL s args lw_tg "PatternBench") (hK : GK x s) (hE : EN g A s s.heap) {r : Nat} {T : PT} (hT : TP x g fw T r) (hw : wd x A s.heap (pcl x g o a u ++ (fw ++ E)) H locs) {i : Int32} (hin : vp_in i 5) (hdg : decode cc pc = .ok (.aastore, 1))
    (kk : ∀ (H : Heap) (locs : List Loc), wd x A s.heap (pcl x g o a (ps_ins u (va_up (p_ins u) i.toNatClampNeg (some r))) ++ (fw ++ E)) H locs → W p l e R s m args below meth c H locs cells slots Q (F0 m (pc + 1) ls rest)) : W p l e R s m args below meth c H locs cells slots Q (F0 m pc ls (.ref r :: .int i :: .ref (a 10) :: rest)) :=
  va_astqM S.1 S.2.1 hK hw.1 hw.2.1 hw.2.2 10 4 rfl rfl (((hT.prt.left (ws := E)).app (l := pcl x g o a u)).any hK hE.2.2.2.2.2.2.2 hw).2 hin hdg (fun H1 locs1 h1 h2 h3 => kk H1 locs1 ⟨h1, h2, h3⟩)
end PM
