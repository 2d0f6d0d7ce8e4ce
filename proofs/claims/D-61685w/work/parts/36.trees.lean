/-! Trees of parts: a pattern's parts as a plain tree (an inductive type of the library's serves as tree type), and what the heap holds of it -/
abbrev PT : Type := Std.Format
def tl : List PT → PT
  | [] => .nil
  | t :: l => .append t (tl l)
def tLeaf (op : Nat) (n : Int32) : PT := .tag 0 (.nest n.toInt (.tag op .nil))
def tRow (l : List PT) : PT := .tag 1 (tl l)
def tCho (l : List PT) : PT := .tag 2 (tl l)
def tGrp (k n : Int32) (q : Nat) (t : PT) : PT := .tag 3 (.nest k.toInt (.nest n.toInt (.nest (q : Int) t)))
def tRep (t : PT) (h m q : Int32) : PT := .tag 4 (.nest h.toInt (.nest m.toInt (.nest q.toInt t)))
def tn1 : PT → Int32
  | .nest n _ => Int32.ofInt n
  | _ => 0
def tn2 : PT → Int32
  | .nest _ (.nest n _) => Int32.ofInt n
  | _ => 0
def tn3 : PT → Int32
  | .nest _ (.nest _ (.nest n _)) => Int32.ofInt n
  | _ => 0
def tq : PT → Nat
  | .nest _ (.nest _ (.nest n _)) => n.toNat
  | _ => 0
def top' : PT → Nat
  | .nest _ (.tag op _) => op
  | _ => 0
def tlen : PT → Nat
  | .append _ l => tlen l + 1
  | _ => 0
theorem tlen_tl (l : List PT) : tlen (tl l) = l.length := by
  induction l with
  | nil => rfl
  | cons t l ih => show tlen (tl l) + 1 = _; rw [ih]; rfl
/-- is the tree a part's (its outermost word a tag)? -/
def isT : PT → Bool
  | .tag K _ => decide (K < 5)
  | _ => false
def isN : PT → Bool
  | .nest _ b => isN b
  | .tag K _ => decide (K < 5)
  | _ => false
theorem isN_of : ∀ {t : PT}, isT t = true → isN t = true
  | .tag _ _, h => h
  | .nil, h | .line, h | .align _, h | .text _, h | .nest _ _, h | .append _ _, h | .group _ _, h => by cases h
def TR (x : GX) (g : GE) (fw : va_W) : PT → Nat → (Nat → Option Nat) → Nat → Prop
  | .append t l, _, f, k => (∃ r, f k = some r ∧ isT t = true ∧ TR x g fw t r (fun _ => none) 0) ∧ TR x g fw l 0 f (k + 1)
  | .nest _ b, r, f, k => TR x g fw b r f k
  | .tag K b, r, _, _ =>
    (K = 0 ∧ top' b < 17 ∧ (r, .inr (5, [.ref (g.1 (top' b)), .int (tn1 b)])) ∈ fw) ∨
    ((K = 1 ∨ K = 2) ∧ ∃ q : Nat, (r, .inr (K + 5, [.ref q])) ∈ fw ∧ ((∃ mc : Int32, (q, .inr (4, [.ref (g.2 0), .int 0, .int mc])) ∈ fw ∧ tlen b = 0) ∨ ∃ (arr n : Nat) (f : Nat → Option Nat) (mc : Int32), (q, .inr (4, [.ref arr, .int (nI (tlen b)), .int mc])) ∈ fw ∧ (arr, .inl (x.2.2 5, n, refsA f)) ∈ fw ∧ tlen b ≤ n ∧ n < 2 ^ 31 ∧ TR x g fw b 0 f 0)) ∨
    (K = 3 ∧ (r, .inr (8, [.int (tn1 b), .int (tn2 b), .ref (tq b)])) ∈ fw ∧ isN b = true ∧ TR x g fw b (tq b) (fun _ => none) 0) ∨
    (K = 4 ∧ ∃ q : Nat, (r, .inr (9, [.ref q, .int (tn1 b), .int (tn2 b), .int (tn3 b)])) ∈ fw ∧ isN b = true ∧ TR x g fw b q (fun _ => none) 0)
  | _, _, _, _ => True
theorem TR.mono {x : GX} {g : GE} {fw fw' : va_W} (h : ∀ q ∈ fw, q ∈ fw') : ∀ (t : PT) (r : Nat) (f : Nat → Option Nat) (k : Nat), TR x g fw t r f k → TR x g fw' t r f k := by
  intro t
  induction t with
  | append t l ih1 ih2 =>
    intro r f k hh
    obtain ⟨⟨r1, h1, h0, h2⟩, h3⟩ := hh
    exact ⟨⟨r1, h1, h0, ih1 _ _ _ h2⟩, ih2 _ _ _ h3⟩
  | nest n b ih => intro r f k hh; exact ih r f k hh
  | tag K b ih =>
    intro r f k hh
    rcases hh with ⟨h1, h2, h3⟩ | ⟨h1, q, h2, h3⟩ | ⟨h1, h2, h0, h3⟩ | ⟨h1, q, h2, h0, h3⟩
    · exact Or.inl ⟨h1, h2, h _ h3⟩
    · refine Or.inr (Or.inl ⟨h1, q, h _ h2, ?_⟩)
      rcases h3 with ⟨mc, h3, h4⟩ | ⟨arr, n, f, mc, h3, h4, h5, h6, h7⟩
      · exact Or.inl ⟨mc, h _ h3, h4⟩
      · exact Or.inr ⟨arr, n, f, mc, h _ h3, h _ h4, h5, h6, ih _ _ _ h7⟩
    · exact Or.inr (Or.inr (Or.inl ⟨h1, h _ h2, h0, ih _ _ _ h3⟩))
    · exact Or.inr (Or.inr (Or.inr ⟨h1, q, h _ h2, h0, ih _ _ _ h3⟩))
  | _ => intro r f k hh; exact hh
/-- the heap's cells fw hold the part t at r -/
def TP (x : GX) (g : GE) (fw : va_W) (t : PT) (r : Nat) : Prop := isT t = true ∧ TR x g fw t r (fun _ => none) 0
theorem TP.mono {x : GX} {g : GE} {fw fw' : va_W} {t : PT} {r : Nat} (h : ∀ q ∈ fw, q ∈ fw') (ht : TP x g fw t r) : TP x g fw' t r := ⟨ht.1, ht.2.mono h⟩
theorem TP.prt {x : GX} {g : GE} {fw : va_W} {t : PT} {r : Nat} (ht : TP x g fw t r) : Prt fw r := by
  obtain ⟨h0, ht⟩ := ht
  cases t with
  | tag K b =>
    rcases ht with ⟨h1, h2, h3⟩ | ⟨h1, q, h2, h3⟩ | ⟨h1, h2, h0, h3⟩ | ⟨h1, q, h2, h0, h3⟩
    · obtain ⟨i, hi⟩ := List.getElem?_of_mem h3
      exact ⟨i, 5, _, hi, by omega, by omega⟩
    · obtain ⟨i, hi⟩ := List.getElem?_of_mem h2
      exact ⟨i, K + 5, _, hi, by omega, by omega⟩
    · obtain ⟨i, hi⟩ := List.getElem?_of_mem h2
      exact ⟨i, 8, _, hi, by omega, by omega⟩
    · obtain ⟨i, hi⟩ := List.getElem?_of_mem h2
      exact ⟨i, 9, _, hi, by omega, by omega⟩
  | _ => cases h0
theorem ofInt_to (n : Int32) : Int32.ofInt n.toInt = n := Int32.ofInt_toInt n
theorem TP_leaf {x : GX} {g : GE} {fw : va_W} {op : Nat} {n : Int32} {r : Nat} (h : op < 17) (hc : (r, .inr (5, [.ref (g.1 op), .int n])) ∈ fw) : TP x g fw (tLeaf op n) r :=
  ⟨rfl, Or.inl ⟨rfl, h, by show (r, .inr (5, [.ref (g.1 op), .int (Int32.ofInt n.toInt)])) ∈ fw; rw [ofInt_to]; exact hc⟩⟩
theorem TP_grp {x : GX} {g : GE} {fw : va_W} {k n : Int32} {t : PT} {r q : Nat} (ht : TP x g fw t q) (hc : (r, .inr (8, [.int k, .int n, .ref q])) ∈ fw) : TP x g fw (tGrp k n q t) r :=
  ⟨rfl, Or.inr (Or.inr (Or.inl ⟨rfl, by show (r, .inr (8, [.int (Int32.ofInt k.toInt), .int (Int32.ofInt n.toInt), .ref q])) ∈ fw; rw [ofInt_to, ofInt_to]; exact hc, isN_of (t := t) ht.1, ht.2⟩))⟩
theorem TP_rep {x : GX} {g : GE} {fw : va_W} {h m k : Int32} {t : PT} {r q : Nat} (ht : TP x g fw t q) (hc : (r, .inr (9, [.ref q, .int h, .int m, .int k])) ∈ fw) : TP x g fw (tRep t h m k) r :=
  ⟨rfl, Or.inr (Or.inr (Or.inr ⟨rfl, q, by show (r, .inr (9, [.ref q, .int (Int32.ofInt h.toInt), .int (Int32.ofInt m.toInt), .int (Int32.ofInt k.toInt)])) ∈ fw; rw [ofInt_to, ofInt_to, ofInt_to]; exact hc, isN_of (t := t) ht.1, ht.2⟩))⟩
/-- the places of an array hold the parts L -/
theorem TR_tl {x : GX} {g : GE} {fw : va_W} {f : Nat → Option Nat} : ∀ (L : List PT) (k : Nat), (∀ i (h : i < L.length), ∃ r, f (k + i) = some r ∧ TP x g fw L[i] r) → TR x g fw (tl L) 0 f k := by
  intro L
  induction L with
  | nil => intro k _; exact trivial
  | cons t L ih =>
    intro k h
    obtain ⟨r, h1, h2⟩ := h 0 (by simp)
    refine ⟨⟨r, h1, h2.1, h2.2⟩, ih (k + 1) (fun i hi => ?_)⟩
    obtain ⟨r, h1, h2⟩ := h (i + 1) (by simp; omega)
    exact ⟨r, by rw [← h1]; congr 1; omega, h2⟩
def tnth : PT → Nat → PT
  | .append t _, 0 => t
  | .append _ l, i + 1 => tnth l i
  | _, _ => .nil
theorem tl_TR {x : GX} {g : GE} {fw : va_W} {f : Nat → Option Nat} : ∀ (b : PT) (k : Nat), TR x g fw b 0 f k → ∀ i, i < tlen b → ∃ r, f (k + i) = some r ∧ TP x g fw (tnth b i) r := by
  intro b
  induction b with
  | append t l _ ih =>
    intro k ⟨⟨r, h1, h0, h2⟩, h3⟩ i hi
    cases i with
    | zero => exact ⟨r, h1, h0, h2⟩
    | succ i =>
      obtain ⟨r, h1, h2⟩ := ih (k + 1) h3 i (by simp only [tlen] at hi; omega)
      exact ⟨r, by rw [← h1]; congr 1; omega, h2⟩
  | _ => intro k _ i hi; exact absurd hi (Nat.not_lt_zero _)
/-- a list object and what it holds -/
def alOK (z : ALS) : Prop := match z.1 with
  | none => True
  | some (_, n, _, k) => k ≤ n ∧ (n = 10 ∨ n = 15 ∨ n = 22 ∨ n = 33)
def alAt (z : ALS) (i : Nat) : Option Nat := match z.1 with
  | none => none
  | some (_, _, f, _) => f i
def ALp (x : GX) (g : GE) (fw : va_W) (b : Nat) (L : List PT) : Prop := ∃ (z : ALS) (fe : va_W), fw = alc x g b (fun _ => 0) z ++ fe ∧ alk z = L.length ∧ alOK z ∧ alHas fe z ∧ ∀ i (h : i < L.length), ∃ r, alAt z i = some r ∧ TP x g fe L[i] r
theorem alOK.room {z : ALS} (h : alOK z) : alRoom z := by
  obtain ⟨_ | ⟨q, n, f, k⟩, mc⟩ := z
  · trivial
  · obtain ⟨h1, h2⟩ := h
    exact ⟨h1, by omega, by omega⟩
theorem TP_list {x : GX} {g : GE} {fw : va_W} {b r K : Nat} {L : List PT} (hK : K = 1 ∨ K = 2) (h : ALp x g fw b L) {fw' : va_W} (hs : ∀ q ∈ fw, q ∈ fw') (hc : (r, .inr (K + 5, [.ref b])) ∈ fw') : TP x g fw' (.tag K (tl L)) r := by
  refine ⟨by simp only [isT, decide_eq_true_eq]; omega, Or.inr (Or.inl ⟨hK, b, hc, ?_⟩)⟩
  obtain ⟨z, fe, rfl, h1, h2, h3, h4⟩ := h
  rw [tlen_tl]
  obtain ⟨_ | ⟨q, n, f, k⟩, mc⟩ := z
  · refine Or.inl ⟨mc, hs _ (List.mem_append_left _ (List.mem_of_getElem? (i := 0) rfl)), ?_⟩
    exact h1.symm
  · have h1 : k = L.length := h1
    subst h1
    refine Or.inr ⟨q, n, f, mc, hs _ (List.mem_append_left _ (List.mem_of_getElem? (i := 0) rfl)), hs _ (List.mem_append_left _ (List.mem_of_getElem? (i := 1) rfl)), h2.1, by have := h2.2; omega, TR_tl L 0 (fun i hi => ?_)⟩
    obtain ⟨r, g1, g2⟩ := h4 i hi
    exact ⟨r, by rw [Nat.zero_add]; exact g1, g2.mono (fun q hq => hs q (List.mem_append_right _ hq))⟩
/-! pieces of a world come to the head and go back -/
section UP
variable {x : GX} {A : Nat → Prop} {H0 H : Heap} {locs : List Loc} {l1 l2 l3 l4 wc r : va_W}
theorem wd_up1 (h : wd x A H0 (l1 ++ (wc ++ r)) H locs) : wd x A H0 (wc ++ (l1 ++ r)) H locs := wd_rot h
theorem wd_up2 (h : wd x A H0 (l1 ++ (l2 ++ (wc ++ r))) H locs) : wd x A H0 (wc ++ (l1 ++ (l2 ++ r))) H locs := by
  have h1 : wd x A H0 ((l1 ++ l2) ++ (wc ++ r)) H locs := by rw [List.append_assoc]; exact h
  have h2 := wd_rot h1
  rw [List.append_assoc] at h2
  exact h2
theorem wd_dn2 (h : wd x A H0 (wc ++ (l1 ++ (l2 ++ r))) H locs) : wd x A H0 (l1 ++ (l2 ++ (wc ++ r))) H locs := by
  have h1 : wd x A H0 (wc ++ ((l1 ++ l2) ++ r)) H locs := by rw [List.append_assoc]; exact h
  have h2 := wd_rot h1
  rw [List.append_assoc] at h2
  exact h2
end UP
