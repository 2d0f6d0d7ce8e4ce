abbrev ACp := Nat → Nat
abbrev AFr := Nat × Nat × Nat × ACp
abbrev ABk := Nat × Nat × Nat × List AFr × ACp × Nat × Nat × Nat × Nat
abbrev ASt := Nat × Nat × List AFr × Nat × ACp × List ABk × Nat × Nat × Nat × Nat
abbrev PEn := Nat × Nat × Nat × Nat
abbrev PMt := Nat × Nat × List Nat × List PEn × ACp × ACp × Nat × Nat
def c00 : ACp := fun _ => 0
def uN (f : Nat → Nat) (a v : Nat) : Nat → Nat := fun j => if j = a then v else f j
theorem uN_uN (f : Nat → Nat) (a v : Nat) : uN (uN f a v) a (f a) = f := by
  funext j; unfold uN; by_cases h : j = a
  · rw [if_pos h, h]
  · rw [if_neg h, if_neg h]
theorem uN_same {f : Nat → Nat} {a v : Nat} : uN f a v a = v := if_pos rfl
theorem uN_ne {f : Nat → Nat} {a v j : Nat} (h : j ≠ a) : uN f a v j = f j := if_neg h
abbrev AEnv := (Nat → Int32) × Nat × (Nat → Nat) × (Nat → Nat) × (Nat → Nat) × (Nat → Option Nat) × (Nat → Bool) × (Nat → Nat → ACp → Option Nat) × Nat × Nat × (Nat → Nat × Nat × Nat) × (Nat → Nat) × (Nat → Nat → Nat → Prop) × (Nat → Nat → Nat → ACp → Option Nat) × Nat
def e_t (E : AEnv) : Nat → Int32 := E.1
def e_n (E : AEnv) : Nat := E.2.1
def e_bA (E : AEnv) : Nat → Nat := E.2.2.1
def e_gA (E : AEnv) : Nat → Nat := E.2.2.2.1
def e_cO (E : AEnv) : Nat → Nat := E.2.2.2.2.1
def e_nr (E : AEnv) : Nat → Option Nat := E.2.2.2.2.2.1
def e_rE (E : AEnv) : Nat → Bool := E.2.2.2.2.2.2.1
def e_pl (E : AEnv) : Nat → Nat → ACp → Option Nat := E.2.2.2.2.2.2.2.1
def e_lim (E : AEnv) : Nat := E.2.2.2.2.2.2.2.2.1
def e_L (E : AEnv) : Nat := E.2.2.2.2.2.2.2.2.2.1
def e_C (E : AEnv) : Nat → Nat × Nat × Nat := E.2.2.2.2.2.2.2.2.2.2.1
def e_en (E : AEnv) : Nat → Nat := E.2.2.2.2.2.2.2.2.2.2.2.1
def e_PL (E : AEnv) : Nat → Nat → Nat → Prop := E.2.2.2.2.2.2.2.2.2.2.2.2.1
def e_pP (E : AEnv) : Nat → Nat → Nat → ACp → Option Nat := E.2.2.2.2.2.2.2.2.2.2.2.2.2.1
def e_G (E : AEnv) : Nat := E.2.2.2.2.2.2.2.2.2.2.2.2.2.2
def iRp (E : AEnv) (i : Nat) : Int32 := e_t E (e_bA E i)
def iK (E : AEnv) (i : Nat) : Nat := if iRp E i = 42 then 1 else if iRp E i = 43 then 2 else if iRp E i = 63 then 3 else if iRp E i = 123 then 4 else 0
def iBq (E : AEnv) (i : Nat) : Nat := if iRp E i = 123 then e_bA E i + 3 else e_bA E i + 1
def iHow (E : AEnv) (i : Nat) : Nat := if iK E i = 0 then 0 else if e_t E (iBq E i) = 63 then 63 else if e_t E (iBq E i) = 43 then 43 else 0
def iBeh (E : AEnv) (i : Nat) : Nat := if iK E i = 0 then e_bA E i else if iHow E i = 0 then iBq E i else iBq E i + 1
def iSkip (E : AEnv) (i : Nat) : Bool := decide (iRp E i = 123) && decide (e_t E (e_bA E i + 1) = 48)
def iTm (E : AEnv) (i : Nat) : Nat := (e_t E (e_bA E i + 1)).toNatClampNeg - 49
theorem iK_le (E : AEnv) (i : Nat) : iK E i ≤ 4 := by unfold iK; split <;> (try split) <;> (try split) <;> (try split) <;> omega
theorem iK_4 {E : AEnv} {i : Nat} (h : iK E i = 4) : iRp E i = 123 := by
  unfold iK at h; split at h
  · omega
  · split at h
    · omega
    · split at h
      · omega
      · split at h
        · assumption
        · omega
theorem iHow_or (E : AEnv) (i : Nat) : iHow E i = 0 ∨ (iK E i ≠ 0 ∧ (iHow E i = 63 ∨ iHow E i = 43)) := by
  unfold iHow; split
  · exact Or.inl rfl
  · next h => split
              · exact Or.inr ⟨h, Or.inl rfl⟩
              · split
                · exact Or.inr ⟨h, Or.inr rfl⟩
                · exact Or.inl rfl
theorem iBeh_0 {E : AEnv} {i : Nat} (h : iK E i = 0) : iBeh E i = e_bA E i := if_pos h
theorem iBeh_1 {E : AEnv} {i : Nat} (h : iK E i ≠ 0) : e_bA E i + 1 ≤ iBeh E i := by
  unfold iBeh; rw [if_neg h]; unfold iBq; split <;> split <;> omega
theorem iBeh_2 {E : AEnv} {i : Nat} (h : iHow E i ≠ 0) : e_bA E i + 2 ≤ iBeh E i := by
  have h1 : iK E i ≠ 0 := by rcases iHow_or E i with q | q; exact absurd q h; exact q.1
  unfold iBeh; rw [if_neg h1, if_neg h]; unfold iBq; split <;> omega
theorem iBeh_4 {E : AEnv} {i : Nat} (h : iK E i = 4) : e_bA E i + 3 ≤ iBeh E i := by
  unfold iBeh; rw [if_neg (by omega)]; unfold iBq; rw [if_pos (iK_4 h)]; split <;> omega
theorem iBeh_ge (E : AEnv) (i : Nat) : e_bA E i ≤ iBeh E i := by
  by_cases h : iK E i = 0
  · rw [iBeh_0 h]; exact Nat.le_refl _
  · have := iBeh_1 h; omega
theorem iSkip_4 {E : AEnv} {i : Nat} (h : iSkip E i = true) : iK E i = 4 := by
  unfold iSkip at h
  have h1 : iRp E i = 123 := by
    rw [Bool.and_eq_true] at h; exact of_decide_eq_true h.1
  unfold iK; rw [h1]; decide
def aX (E : AEnv) (i : Nat) : Int32 := if e_t E (i + 1) = 63 then e_t E (i + 2) else 0
def aKd (E : AEnv) (i : Nat) : Nat := if aX E i = 0 then 0 else if aX E i = 58 then 1 else if aX E i = 62 then 2 else if aX E i = 61 then 3 else if aX E i = 33 then 4 else 5
def aCn (E : AEnv) (i : Nat) : Nat := (aX E i).toNatClampNeg - 48
def aCalls : List AFr → Nat
  | [] => 0
  | (k, _, _, _) :: K => (if k = 3 then 1 else 0) + aCalls K
def cSt (c : ACp) (g v : Nat) : ACp := fun j => if j = g then v else c j
section AM
variable (E : AEnv)
def aItem2 (i : Nat) (K : List AFr) (p : Nat) (c : ACp) (B : List ABk) (st nf nb ns : Nat) : ASt :=
  if iK E i = 1 then (if iHow E i = 63 then 4 else 3, i, K, p, c, B, st, nf, nb, ns)
  else if iK E i = 2 then (2, i, (if iHow E i = 63 then 11 else 10, i, 0, c00) :: K, p, c, B, st, nf + 1, nb, ns)
  else if iK E i = 4 then (2, i, (6, i, iTm E i, c00) :: K, p, c, B, st, nf + 1, nb, ns)
  else if iK E i = 3 then (if iHow E i = 63 then 5 else 2, i, K, p, c, (if iHow E i = 63 then 2 else 5, i, p, K, c, 0, nf, nb, ns) :: B, st, nf, nb + 1, ns)
  else (2, i, K, p, c, B, st, nf, nb, ns)
def aItem (i : Nat) (K : List AFr) (p : Nat) (c : ACp) (B : List ABk) (st nf nb ns : Nat) : ASt :=
  if iSkip E i = true then (0, iBeh E i, K, p, c, B, st, nf, nb, ns + 1)
  else if iHow E i = 43 then aItem2 E i ((7, 0, B.length, c00) :: (1, iBeh E i, 0, c00) :: K) p c B st (nf + 2) nb ns
  else aItem2 E i ((1, iBeh E i, 0, c00) :: K) p c B st (nf + 1) nb ns
def aOpen (i : Nat) (K : List AFr) (p : Nat) (c : ACp) (B : List ABk) (st nf nb ns : Nat) : ASt :=
  if aKd E i = 0 then (1, i + 1, (2, e_gA E i, p, c00) :: K, p, c, B, st, nf + 1, nb, ns)
  else if aKd E i = 1 then (1, i + 3, K, p, c, B, st, nf, nb, ns)
  else if aKd E i = 2 then (1, i + 3, (7, 0, B.length, c00) :: K, p, c, B, st, nf + 1, nb, ns)
  else if aKd E i = 3 then (1, i + 3, (8, p, B.length, c00) :: K, p, c, B, st, nf + 1, nb, ns)
  else if aKd E i = 4 then (1, i + 3, (9, 0, B.length, c00) :: K, p, c, (5, 0, p, K, c, 1, nf + 1, nb, ns) :: B, st, nf + 1, nb + 1, ns)
  else if 12 ≤ aCalls K then (6, 0, K, p, c, B, st, nf, nb, ns)
  else (1, e_cO E (aCn E i), (3, 0, st, c) :: K, p, c, B, st, nf + 1, nb, ns + 4)
def aAtom (i : Nat) (K : List AFr) (p : Nat) (c : ACp) (B : List ABk) (st nf nb ns : Nat) : ASt :=
  if e_t E i = 40 then aOpen E i K p c B (st + 1) nf nb ns
  else match e_pl E i p c with
    | some p' => (5, 0, K, p', c, B, st + 1, nf, nb, ns)
    | none => (6, 0, K, p, c, B, st + 1, nf, nb, ns)
def aStar0 (i : Nat) (K : List AFr) (p : Nat) (c : ACp) (B : List ABk) (st nf nb ns : Nat) : ASt :=
  (2, i, (4, i, p, c00) :: K, p, c, (5, i, p, K, c, 0, nf + 1, nb, ns) :: B, st, nf + 1, nb + 1, ns)
def aStar1 (i : Nat) (K : List AFr) (p : Nat) (c : ACp) (B : List ABk) (st nf nb ns : Nat) : ASt :=
  (5, i, K, p, c, (2, i, p, (5, i, p, c00) :: K, c, 0, nf + 1, nb, ns) :: B, st, nf + 1, nb + 1, ns)
def aCarry (k w m : Nat) (kp : ACp) (K : List AFr) (p : Nat) (c : ACp) (B : List ABk) (st nf nb ns : Nat) : ASt :=
  if k = 1 then (0, w, K, p, c, B, st, nf, nb, ns)
  else if k = 2 then (5, 0, K, p, cSt c w (64 * (m + 1) + p + 1), B, st, nf, nb, ns)
  else if k = 3 then (5, 0, K, p, kp, B, st, nf, nb, ns)
  else if k = 4 ∨ k = 5 then (if m = p then 5 else k - 1, w, K, p, c, B, st, nf, nb, ns)
  else if k = 6 then (if m = 0 then (5, w, K, p, c, B, st, nf, nb, ns) else (2, w, (6, w, m - 1, c00) :: K, p, c, B, st, nf + 1, nb, ns))
  else if k = 7 then (5, 0, K, p, c, B.drop (B.length - m), st, nf, nb, ns)
  else if k = 8 then (5, 0, K, w, c, B.drop (B.length - m), st, nf, nb, ns)
  else if k = 9 then (6, 0, K, p, c, B.drop (B.length - m), st, nf, nb, ns)
  else (k - 7, w, K, p, c, B, st, nf, nb, ns)
def aTurn : ASt → ASt
  | (mo, i, K, p, c, B, st, nf, nb, ns) =>
    if mo = 0 then (if e_rE E i = true then (5, 0, K, p, c, B, st, nf, nb, ns) else aItem E i K p c B st nf nb ns)
    else if mo = 1 then (match e_nr E i with
      | some r => (0, i, K, p, c, (1, r, p, K, c, 0, nf, nb, ns) :: B, st, nf, nb + 1, ns)
      | none => (0, i, K, p, c, B, st, nf, nb, ns))
    else if mo = 2 then aAtom E i K p c B st nf nb ns
    else if mo = 3 then aStar0 i K p c B st nf nb ns
    else if mo = 4 then aStar1 i K p c B st nf nb ns
    else if mo = 5 then (match K with
      | [] => (5, i, [], p, c, B, st, nf, nb, ns)
      | (k, w, m, kp) :: K' => aCarry k w m kp K' p c B st nf nb ns)
    else (match B with
      | [] => (6, i, K, p, c, [], st, nf, nb, ns)
      | (mo', i', p', K', c', _, nf', nb', ns') :: B' => (mo', i', K', p', c', B', st, nf', nb', ns'))
def aFin : ASt → Option Nat
  | (mo, _, K, _, _, B, st, _, _, _) => if mo = 6 ∧ B = [] then some 0 else if mo = 5 ∧ K = [] then some 1 else if mo = 2 ∧ st = e_lim E then some 2 else none
end AM
