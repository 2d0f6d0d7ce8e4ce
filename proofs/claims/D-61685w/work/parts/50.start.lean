/-! The start: numbers of classes (GK) and the environment (EN), out of what the Statement gives -/
section ST
variable {args : Array Value} {s : State}
theorem tb (hts : ∀ w ∈ lw_tbl, w.before args s = true) {w : Cond} (i : Nat) (h : tables_1[i]? = some w) : w.before args s = true := hts _ (List.mem_append_right _ (List.mem_of_getElem? h))
theorem arr_of {ty : FieldType} (h : (Cond.arrayClass ty).before args s = true) : ∃ c : ClassId, ArrOfT s c ty ∧ s.vm.findClass ("[" ++ ty.toString) = some c := by
  obtain ⟨c, k, comp, h1, h2, h3⟩ := Cond.arrayClass_spec h
  exact ⟨c, fun n z => ⟨fun k h => (by cases h), k, h2, comp, h3⟩, h1⟩
theorem arrO_of {C : String} (h : (Cond.arrayOver (.object C)).before args s = true) : ∃ c : ClassId, ArrOfT s c (.object C) ∧ va_RA s c (.object C) := by
  obtain ⟨comp, c, k, h1, h2, h3, h4, h5⟩ := Cond.arrayOver_spec h
  exact ⟨c, fun n z => ⟨fun k h => (by cases h), k, h3, comp, h4⟩, k, comp, h3, h4, h1, h5⟩
set_option maxRecDepth 20000 in
theorem gk_start (hts : ∀ w ∈ lw_tbl, w.before args s = true) : ∃ x : GX, GK x s := by
  have htg := tg_of hts
  obtain ⟨c0, i0, h0⟩ := u_known htg i_Mod (tb (w := .instantiable "PatternBenchModel" 27) hts 863 (by decide +kernel))
  obtain ⟨c1, i1, h1⟩ := u_known htg i_PB (tb (w := .instantiable "PatternBench" 24) hts 28 (by decide +kernel))
  obtain ⟨c2, i2, h2⟩ := u_known htg i_Prog (tb (w := .instantiable "PatternBench$Program" 5) hts 68 (by decide +kernel))
  obtain ⟨c3, i3, h3⟩ := u_known htg i_SB (tb (w := .instantiable "java/lang/StringBuilder" 4) hts 36 (by decide +kernel))
  obtain ⟨c4, i4, h4⟩ := u_known htg i_AL (tb (w := .instantiable "java/util/ArrayList" 3) hts 371 (by decide +kernel))
  obtain ⟨c5, i5, h5⟩ := u_known htg i_Leaf (tb (w := .instantiable "PatternBench$Leaf" 2) hts 422 (by decide +kernel))
  obtain ⟨c6, i6, h6⟩ := u_known htg i_Row (tb (w := .instantiable "PatternBench$Row" 1) hts 555 (by decide +kernel))
  obtain ⟨c7, i7, h7⟩ := u_known htg i_Cho (tb (w := .instantiable "PatternBench$Choice" 1) hts 581 (by decide +kernel))
  obtain ⟨c8, i8, h8⟩ := u_known htg i_Grp (tb (w := .instantiable "PatternBench$Group" 3) hts 473 (by decide +kernel))
  obtain ⟨c9, i9, h9⟩ := u_known htg i_Rep (tb (w := .instantiable "PatternBench$Repeat" 4) hts 493 (by decide +kernel))
  obtain ⟨a0, b0, d0⟩ := arr_of (tb (w := .arrayClass .int) hts 104 (by decide +kernel))
  obtain ⟨a1, b1, d1⟩ := arr_of (tb (w := .arrayClass .long) hts 950 (by decide +kernel))
  obtain ⟨a2, b2, d2⟩ := arr_of (tb (w := .arrayClass .byte) hts 66 (by decide +kernel))
  obtain ⟨a3, b3, d3⟩ := arrO_of (tb (w := .arrayOver (.object "PatternBench$Op")) hts 74 (by decide +kernel))
  obtain ⟨a4, b4, d4⟩ := arrO_of (tb (w := .arrayOver (.object "PatternBench$Part")) hts 106 (by decide +kernel))
  obtain ⟨a5, b5, d5⟩ := arrO_of (tb (w := .arrayOver (.object "java/lang/Object")) hts 550 (by decide +kernel))
  refine ⟨(fun c => match c with | 0 => c0 | 1 => c1 | 2 => c2 | 3 => c3 | 4 => c4 | 5 => c5 | 6 => c6 | 7 => c7 | 8 => c8 | _ => c9, fun c => match c with | 0 => i0 | 1 => i1 | 2 => i2 | 3 => i3 | 4 => i4 | 5 => i5 | 6 => i6 | 7 => i7 | 8 => i8 | _ => i9, fun k => match k with | 0 => a0 | 1 => a1 | 2 => a2 | 3 => a3 | 4 => a4 | _ => a5), ⟨fun c q hq => ?_, fun k q hk => ?_⟩⟩
  · match c, hq with
    | 0, hq => cases hq; exact h0
    | 1, hq => cases hq; exact h1
    | 2, hq => cases hq; exact h2
    | 3, hq => cases hq; exact h3
    | 4, hq => cases hq; exact h4
    | 5, hq => cases hq; exact h5
    | 6, hq => cases hq; exact h6
    | 7, hq => cases hq; exact h7
    | 8, hq => cases hq; exact h8
    | 9, hq => cases hq; exact h9
  · match k, hk with
    | 0, hk => cases hk; exact ⟨b0, d0⟩
    | 1, hk => cases hk; exact ⟨b1, d1⟩
    | 2, hk => cases hk; exact ⟨b2, d2⟩
    | 3, hk => cases hk; exact ⟨b3, d3⟩
    | 4, hk => cases hk; exact ⟨b4, d4⟩
    | 5, hk => cases hk; exact ⟨b5, d5⟩
def opL : List Nat := [424, 449, 451, 453, 471, 688, 730, 732, 668, 740, 721, 723, 704, 728, 736, 738, 742]
theorem opL_ok : ∀ i, i < 17 → tables_1[opL.getD i 0]? = some (Cond.laysStatic "PatternBench$Op" (opNm.getD i "") "LPatternBench$Op;") := by decide +kernel
def opX : List Nat := [13, 15, 18, 22, 27, 40, 90, 103, 33, 148, 57, 67, 48, 78, 117, 132, 165]
def opO : List Nat := [14, 16, 19, 23, 28, 41, 91, 104, 34, 149, 58, 68, 49, 79, 118, 133, 166]
def opR : List Nat := [0, 1, 2, 3, 4, 6, 11, 12, 5, 15, 8, 9, 7, 10, 13, 14, 16]
def opN2 : List (List Nat) := [[0, 17, 20, 24, 29, 42, 92, 105, 35, 150, 59, 69, 50, 80, 119, 134, 167], [0, 0, 21, 25, 30, 43, 93, 106, 36, 151, 60, 70, 51, 81, 120, 135, 168], [0, 0, 0, 26, 31, 44, 94, 107, 37, 152, 61, 71, 52, 82, 121, 136, 169], [0, 0, 0, 0, 32, 45, 95, 108, 38, 153, 62, 72, 53, 83, 122, 137, 170], [0, 0, 0, 0, 0, 46, 96, 109, 39, 154, 63, 73, 54, 84, 123, 138, 171], [0, 0, 0, 0, 0, 0, 98, 111, 0, 156, 65, 75, 56, 86, 125, 140, 173], [0, 0, 0, 0, 0, 0, 0, 116, 0, 161, 0, 0, 0, 0, 130, 145, 178], [0, 0, 0, 0, 0, 0, 0, 0, 0, 162, 0, 0, 0, 0, 131, 146, 179], [0, 0, 0, 0, 0, 47, 97, 110, 0, 155, 64, 74, 55, 85, 124, 139, 172], [0, 0, 0, 0, 0, 0, 0, 0, 0, 0, 0, 0, 0, 0, 0, 0, 182], [0, 0, 0, 0, 0, 0, 100, 113, 0, 158, 0, 77, 0, 88, 127, 142, 175], [0, 0, 0, 0, 0, 0, 101, 114, 0, 159, 0, 0, 0, 89, 128, 143, 176], [0, 0, 0, 0, 0, 0, 99, 112, 0, 157, 66, 76, 0, 87, 126, 141, 174], [0, 0, 0, 0, 0, 0, 102, 115, 0, 160, 0, 0, 0, 0, 129, 144, 177], [0, 0, 0, 0, 0, 0, 0, 0, 0, 163, 0, 0, 0, 0, 0, 147, 180], [0, 0, 0, 0, 0, 0, 0, 0, 0, 164, 0, 0, 0, 0, 0, 0, 181], [0, 0, 0, 0, 0, 0, 0, 0, 0, 0, 0, 0, 0, 0, 0, 0, 0]]
theorem op_ex : ∀ i, i < 17 → (flatC (Jvm.Cond.and given_1 narrow_1))[opX.getD i 0]? = some (Cond.exactly (.static "PatternBench$Op" (opNm.getD i "") "LPatternBench$Op;") "PatternBench$Op") := by decide +kernel
theorem op_or : ∀ i, i < 17 → (flatC (Jvm.Cond.and given_1 narrow_1))[opO.getD i 0]? = some (Cond.eq (.field (.static "PatternBench$Op" (opNm.getD i "") "LPatternBench$Op;") "java/lang/Enum" "ordinal" "I") (.int (ordL.getD i 0))) := by decide +kernel
theorem op_ne : ∀ i, i < 17 → ∀ j, j < 17 → opR.getD i 0 < opR.getD j 0 → (flatC (Jvm.Cond.and given_1 narrow_1))[(opN2.getD i []).getD j 0]? = some (Cond.not (.eq (.static "PatternBench$Op" (opNm.getD i "") "LPatternBench$Op;") (.static "PatternBench$Op" (opNm.getD j "") "LPatternBench$Op;"))) := by decide +kernel
theorem op_rk : ∀ i, i < 17 → ∀ j, j < 17 → i ≠ j → opR.getD i 0 < opR.getD j 0 ∨ opR.getD j 0 < opR.getD i 0 := by decide +kernel
def elL : List Nat := [188, 189, 190, 191, 192, 193, 194, 195, 196, 197, 198, 199, 200, 201, 202, 203, 204, 205, 206]
theorem el_ok : ∀ j, j < 19 → (flatC (Jvm.Cond.and given_1 narrow_1))[elL.getD j 0]? = some (Cond.eq (.elem (.field (.string "PatternBench" 178) "java/lang/String" "value" "[B") (.int (Int32.ofNat j))) (.int (([signB].getD 0 []).getD j 0))) := by decide +kernel
theorem en_start (hts : ∀ w ∈ lw_tbl, w.before args s = true) (hgv : (Jvm.Cond.and given_1 narrow_1).before args s = true) {A : Nat → Prop} (hA : ∀ a : Nat, a < s.heap.size → ¬ A a) : ∃ g : GE, EN g A s s.heap := by
  have hs := flat_of_before _ hgv
  obtain ⟨ad, hEn⟩ := va_Enof (E := "PatternBench$Op") (d := "LPatternBench$Op;") (nm := opNm) (F := opF) (A := A) (fun i hi => tb hts _ (opL_ok i hi)) (tb (w := .initialized "PatternBench$Op") hts 21 (by decide +kernel)) (fun i hi => hs _ (List.mem_of_getElem? (op_ex i hi))) (fun q hq i hi => by simp only [opF, List.mem_cons, List.not_mem_nil, or_false] at hq; subst hq; exact hs _ (List.mem_of_getElem? (op_or i hi))) (fun i j hi hj hij => (op_rk i hi j hj hij).elim (fun h => Or.inl (hs _ (List.mem_of_getElem? (op_ne i hi j hj h)))) (fun h => Or.inr (hs _ (List.mem_of_getElem? (op_ne j hj i hi h))))) hA
  have h2 : va_Z "java/lang/String" "COMPACT_STRINGS" "Z" (.int 1) A s s.heap := va_Zof (tb (w := .laysStatic "java/lang/String" "COMPACT_STRINGS" "Z") hts 45 (by decide +kernel)) (tb (w := .initialized "java/lang/String") hts 4 (by decide +kernel)) (va_eqt (hs (.eq (.static "java/lang/String" "COMPACT_STRINGS" "Z") (.int 1)) (List.mem_of_getElem? (i := 4) (by decide +kernel)))) hA
  have h3 : va_Zq "jdk/internal/util/Preconditions" "SIOOBE_FORMATTER" "Ljava/util/function/BiFunction;" A s s.heap := va_Zqof (tb (w := .laysStatic "jdk/internal/util/Preconditions" "SIOOBE_FORMATTER" "Ljava/util/function/BiFunction;") hts 245 (by decide +kernel)) (tb (w := .initialized "jdk/internal/util/Preconditions") hts 10 (by decide +kernel)) (hs (.isRef (.static "jdk/internal/util/Preconditions" "SIOOBE_FORMATTER" "Ljava/util/function/BiFunction;")) (List.mem_of_getElem? (i := 5) (by decide +kernel))) hA
  obtain ⟨t0, ht0, hT0⟩ := va_Tof (tm := .static "java/util/ArrayList" "DEFAULTCAPACITY_EMPTY_ELEMENTDATA" "[Ljava/lang/Object;") (ty := .object "java/lang/Object") (N := 0) (f := fun _ => .null) (A := A) (by decide) (hs (.arrayOf (.static "java/util/ArrayList" "DEFAULTCAPACITY_EMPTY_ELEMENTDATA" "[Ljava/lang/Object;") (.object "java/lang/Object")) (List.mem_of_getElem? (i := 10) (by decide +kernel))) (va_eqt (hs (.eq (.length (.static "java/util/ArrayList" "DEFAULTCAPACITY_EMPTY_ELEMENTDATA" "[Ljava/lang/Object;")) (.int 0)) (List.mem_of_getElem? (i := 12) (by decide +kernel)))) (fun j hj => absurd hj (Nat.not_lt_zero _)) hA
  have h4 : va_Z "java/util/ArrayList" "DEFAULTCAPACITY_EMPTY_ELEMENTDATA" "[Ljava/lang/Object;" (.ref t0) A s s.heap := va_Zof (tb (w := .laysStatic "java/util/ArrayList" "DEFAULTCAPACITY_EMPTY_ELEMENTDATA" "[Ljava/lang/Object;") hts 383 (by decide +kernel)) (tb (w := .initialized "java/util/ArrayList") hts 17 (by decide +kernel)) ht0 hA
  obtain ⟨adK, adV, hS, hSe⟩ := vk_Sof (N := 1) (tm := fun _ => .string "PatternBench" 178) (len := [19]) (byt := [signB]) (A := A) (fun i hi => by obtain rfl : i = 0 := (by omega); decide) (fun i hi => (hs (.exactly (.string "PatternBench" 178) "java/lang/String") (List.mem_of_getElem? (i := 184) (by decide +kernel)))) (fun i hi => (hs (.eq (.field (.string "PatternBench" 178) "java/lang/String" "coder" "B") (.int 0)) (List.mem_of_getElem? (i := 185) (by decide +kernel)))) (fun i hi => (hs (.arrayOf (.field (.string "PatternBench" 178) "java/lang/String" "value" "[B") .byte) (List.mem_of_getElem? (i := 186) (by decide +kernel)))) (fun i hi => by obtain rfl : i = 0 := (by omega); exact (hs (.eq (.length (.field (.string "PatternBench" 178) "java/lang/String" "value" "[B")) (.int 19)) (List.mem_of_getElem? (i := 187) (by decide +kernel)))) (fun i hi j hj => by obtain rfl : i = 0 := (by omega); exact hs _ (List.mem_of_getElem? (el_ok j hj))) (fun i j hi hj hij => absurd hij (by omega)) hA
  obtain ⟨mi, hmi⟩ := va_Mi.of (hs (.isRef (.mirror "[Ljava/lang/Object;")) (List.mem_of_getElem? (i := 183) (by decide +kernel)))
  refine ⟨(ad, fun k => match k with | 0 => t0 | 1 => adK 0 | 2 => adV 0 | _ => mi), hEn, h2, h3, ⟨h4, hT0⟩, ⟨vk_R.of (tb (w := .stringRef "PatternBench" 178 "|()?:=!>[]-^$.*+{}\\") hts 193 (by decide +kernel)) (hSe 0 (by decide)), ?_⟩, ⟨hmi, va_Dc.of (tb (w := .declares ⟨"java/lang/Object", "getClass", "()Ljava/lang/Class;"⟩) hts 1168 (by decide +kernel))⟩, ?_, ?_⟩
  · refine ⟨fun i hi => ?_, fun i j hi hj _ => by omega⟩
    obtain rfl : i = 0 := by omega
    exact hS.1 0 (by decide)
  · intro w hw
    simp only [nestW, List.mem_cons, List.not_mem_nil, or_false] at hw
    rcases hw with rfl | rfl | rfl | rfl | rfl | rfl | rfl
    · exact va_Nw.of rfl (tb (w := .methodLinkNest "PatternBench" 21 ⟨"PatternBench$Program", "<init>", "()V"⟩ "PatternBench") hts 69 (by decide +kernel))
    · exact va_Nw.of rfl (tb (w := .methodLinkNest "PatternBench" 137 ⟨"PatternBench$Leaf", "<init>", "(LPatternBench$Op;I)V"⟩ "PatternBench") hts 425 (by decide +kernel))
    · exact va_Nw.of rfl (tb (w := .methodLinkNest "PatternBench" 175 ⟨"PatternBench$Group", "<init>", "(CILPatternBench$Part;)V"⟩ "PatternBench") hts 474 (by decide +kernel))
    · exact va_Nw.of rfl (tb (w := .methodLinkNest "PatternBench" 123 ⟨"PatternBench$Repeat", "<init>", "(LPatternBench$Part;CIC)V"⟩ "PatternBench") hts 494 (by decide +kernel))
    · exact va_Nw.of rfl (tb (w := .methodLinkNest "PatternBench" 113 ⟨"PatternBench$Row", "<init>", "(Ljava/util/ArrayList;)V"⟩ "PatternBench") hts 556 (by decide +kernel))
    · exact va_Nw.of rfl (tb (w := .methodLinkNest "PatternBench" 101 ⟨"PatternBench$Choice", "<init>", "(Ljava/util/ArrayList;)V"⟩ "PatternBench") hts 582 (by decide +kernel))
    · exact va_Nw.of rfl (tb (w := .methodLinkNest "PatternBench$Program" 32 ⟨"PatternBench", "longer", "([I)[I"⟩ "PatternBench") hts 677 (by decide +kernel))
  · refine ⟨⟨va_AO.of (tb (w := .arrayOver (.object "PatternBench$Op")) hts 74 (by decide +kernel)), va_AO.of (tb (w := .arrayOver (.object "PatternBench$Part")) hts 106 (by decide +kernel)), va_AO.of (tb (w := .arrayOver (.object "java/lang/Object")) hts 550 (by decide +kernel))⟩, ?_, ?_⟩
    · intro C hC
      simp only [partC, List.mem_cons, List.not_mem_nil, or_false] at hC
      rcases hC with rfl | rfl | rfl | rfl | rfl
      · exact ⟨va_Fw.of (tb (w := .declares ⟨"PatternBench$Part", "size", "()I"⟩) hts 613 (by decide +kernel)) (tb (w := .interfaceMethod "PatternBench$Part" "PatternBench$Part" "size" "()I") hts 612 (by decide +kernel)) (tb (w := .publicMethod ⟨"PatternBench$Leaf", "size", "()I"⟩) hts 637 (by decide +kernel)) (tb (w := .unhidden "PatternBench$Leaf" "size" "()I") hts 635 (by decide +kernel)) (tb (w := .castable "PatternBench$Leaf" "PatternBench$Part") hts 633 (by decide +kernel)), va_Fw.of (tb (w := .declares ⟨"PatternBench$Part", "emit", "(LPatternBench$Program;)V"⟩) hts 661 (by decide +kernel)) (tb (w := .interfaceMethod "PatternBench$Part" "PatternBench$Part" "emit" "(LPatternBench$Program;)V") hts 660 (by decide +kernel)) (tb (w := .publicMethod ⟨"PatternBench$Leaf", "emit", "(LPatternBench$Program;)V"⟩) hts 695 (by decide +kernel)) (tb (w := .unhidden "PatternBench$Leaf" "emit" "(LPatternBench$Program;)V") hts 693 (by decide +kernel)) (tb (w := .castable "PatternBench$Leaf" "PatternBench$Part") hts 633 (by decide +kernel))⟩
      · exact ⟨va_Fw.of (tb (w := .declares ⟨"PatternBench$Part", "size", "()I"⟩) hts 613 (by decide +kernel)) (tb (w := .interfaceMethod "PatternBench$Part" "PatternBench$Part" "size" "()I") hts 612 (by decide +kernel)) (tb (w := .publicMethod ⟨"PatternBench$Row", "size", "()I"⟩) hts 651 (by decide +kernel)) (tb (w := .unhidden "PatternBench$Row" "size" "()I") hts 649 (by decide +kernel)) (tb (w := .castable "PatternBench$Row" "PatternBench$Part") hts 647 (by decide +kernel)), va_Fw.of (tb (w := .declares ⟨"PatternBench$Part", "emit", "(LPatternBench$Program;)V"⟩) hts 661 (by decide +kernel)) (tb (w := .interfaceMethod "PatternBench$Part" "PatternBench$Part" "emit" "(LPatternBench$Program;)V") hts 660 (by decide +kernel)) (tb (w := .publicMethod ⟨"PatternBench$Row", "emit", "(LPatternBench$Program;)V"⟩) hts 711 (by decide +kernel)) (tb (w := .unhidden "PatternBench$Row" "emit" "(LPatternBench$Program;)V") hts 709 (by decide +kernel)) (tb (w := .castable "PatternBench$Row" "PatternBench$Part") hts 647 (by decide +kernel))⟩
      · exact ⟨va_Fw.of (tb (w := .declares ⟨"PatternBench$Part", "size", "()I"⟩) hts 613 (by decide +kernel)) (tb (w := .interfaceMethod "PatternBench$Part" "PatternBench$Part" "size" "()I") hts 612 (by decide +kernel)) (tb (w := .publicMethod ⟨"PatternBench$Choice", "size", "()I"⟩) hts 618 (by decide +kernel)) (tb (w := .unhidden "PatternBench$Choice" "size" "()I") hts 616 (by decide +kernel)) (tb (w := .castable "PatternBench$Choice" "PatternBench$Part") hts 614 (by decide +kernel)), va_Fw.of (tb (w := .declares ⟨"PatternBench$Part", "emit", "(LPatternBench$Program;)V"⟩) hts 661 (by decide +kernel)) (tb (w := .interfaceMethod "PatternBench$Part" "PatternBench$Part" "emit" "(LPatternBench$Program;)V") hts 660 (by decide +kernel)) (tb (w := .publicMethod ⟨"PatternBench$Choice", "emit", "(LPatternBench$Program;)V"⟩) hts 665 (by decide +kernel)) (tb (w := .unhidden "PatternBench$Choice" "emit" "(LPatternBench$Program;)V") hts 663 (by decide +kernel)) (tb (w := .castable "PatternBench$Choice" "PatternBench$Part") hts 614 (by decide +kernel))⟩
      · exact ⟨va_Fw.of (tb (w := .declares ⟨"PatternBench$Part", "size", "()I"⟩) hts 613 (by decide +kernel)) (tb (w := .interfaceMethod "PatternBench$Part" "PatternBench$Part" "size" "()I") hts 612 (by decide +kernel)) (tb (w := .publicMethod ⟨"PatternBench$Group", "size", "()I"⟩) hts 629 (by decide +kernel)) (tb (w := .unhidden "PatternBench$Group" "size" "()I") hts 627 (by decide +kernel)) (tb (w := .castable "PatternBench$Group" "PatternBench$Part") hts 625 (by decide +kernel)), va_Fw.of (tb (w := .declares ⟨"PatternBench$Part", "emit", "(LPatternBench$Program;)V"⟩) hts 661 (by decide +kernel)) (tb (w := .interfaceMethod "PatternBench$Part" "PatternBench$Part" "emit" "(LPatternBench$Program;)V") hts 660 (by decide +kernel)) (tb (w := .publicMethod ⟨"PatternBench$Group", "emit", "(LPatternBench$Program;)V"⟩) hts 685 (by decide +kernel)) (tb (w := .unhidden "PatternBench$Group" "emit" "(LPatternBench$Program;)V") hts 683 (by decide +kernel)) (tb (w := .castable "PatternBench$Group" "PatternBench$Part") hts 625 (by decide +kernel))⟩
      · exact ⟨va_Fw.of (tb (w := .declares ⟨"PatternBench$Part", "size", "()I"⟩) hts 613 (by decide +kernel)) (tb (w := .interfaceMethod "PatternBench$Part" "PatternBench$Part" "size" "()I") hts 612 (by decide +kernel)) (tb (w := .publicMethod ⟨"PatternBench$Repeat", "size", "()I"⟩) hts 643 (by decide +kernel)) (tb (w := .unhidden "PatternBench$Repeat" "size" "()I") hts 641 (by decide +kernel)) (tb (w := .castable "PatternBench$Repeat" "PatternBench$Part") hts 639 (by decide +kernel)), va_Fw.of (tb (w := .declares ⟨"PatternBench$Part", "emit", "(LPatternBench$Program;)V"⟩) hts 661 (by decide +kernel)) (tb (w := .interfaceMethod "PatternBench$Part" "PatternBench$Part" "emit" "(LPatternBench$Program;)V") hts 660 (by decide +kernel)) (tb (w := .publicMethod ⟨"PatternBench$Repeat", "emit", "(LPatternBench$Program;)V"⟩) hts 701 (by decide +kernel)) (tb (w := .unhidden "PatternBench$Repeat" "emit" "(LPatternBench$Program;)V") hts 699 (by decide +kernel)) (tb (w := .castable "PatternBench$Repeat" "PatternBench$Part") hts 639 (by decide +kernel))⟩
    · intro q hq
      simp only [castL, List.mem_cons, List.not_mem_nil, or_false] at hq
      rcases hq with rfl | rfl | rfl | rfl | rfl | rfl | rfl | rfl | rfl | rfl | rfl
      · exact va_Nw.of rfl (tb (w := .castable "PatternBench$Leaf" "PatternBench$Part") hts 633 (by decide +kernel))
      · exact va_Nw.of rfl (tb (w := .castable "PatternBench$Row" "PatternBench$Part") hts 647 (by decide +kernel))
      · exact va_Nw.of rfl (tb (w := .castable "PatternBench$Choice" "PatternBench$Part") hts 614 (by decide +kernel))
      · exact va_Nw.of rfl (tb (w := .castable "PatternBench$Group" "PatternBench$Part") hts 625 (by decide +kernel))
      · exact va_Nw.of rfl (tb (w := .castable "PatternBench$Repeat" "PatternBench$Part") hts 639 (by decide +kernel))
      · exact va_Nw.of rfl (tb (w := .castable "PatternBench$Leaf" "java/lang/Object") hts 1172 (by decide +kernel))
      · exact va_Nw.of rfl (tb (w := .castable "PatternBench$Row" "java/lang/Object") hts 1175 (by decide +kernel))
      · exact va_Nw.of rfl (tb (w := .castable "PatternBench$Choice" "java/lang/Object") hts 1176 (by decide +kernel))
      · exact va_Nw.of rfl (tb (w := .castable "PatternBench$Group" "java/lang/Object") hts 1173 (by decide +kernel))
      · exact va_Nw.of rfl (tb (w := .castable "PatternBench$Repeat" "java/lang/Object") hts 1174 (by decide +kernel))
      · exact va_Nw.of rfl (tb (w := .castable "PatternBench$Op" "java/lang/Object") hts 1177 (by decide +kernel))
end ST
