/-! PLAIN LAW 1: nextRow, groupAt, choiceOf -/
section RD3
variable {u : MS} {n : Nat}
theorem clos_ge {τ : Nat → Int32} : ∀ (f d j : Nat), j ≤ n → j ≤ clos τ n f d j ∧ clos τ n f d j ≤ n := by
  intro f
  induction f with
  | zero => intro d j h; exact ⟨h, Nat.le_refl n⟩
  | succ f ih =>
    intro d j h
    simp only [clos]
    by_cases q : j < n
    · have h1 := ih (d + 1) (j + 1) (by omega)
      have h2 := ih (d - 1) (j + 1) (by omega)
      have h3 := ih d (j + 1) (by omega)
      rw [if_pos q]
      split
      · omega
      · split
        · split <;> omega
        · split <;> omega
    · rw [if_neg q]; omega
theorem brk_ge {τ : Nat → Int32} : ∀ (f j : Nat), j ≤ n → n < j + f → j < brk τ n f j ∧ brk τ n f j ≤ n + 1 := by
  intro f
  induction f with
  | zero => intro j h h1; omega
  | succ f ih =>
    intro j h h1
    simp only [brk]
    split
    · omega
    · rename_i q
      have := ih (j + 1) (by omega) (by omega)
      omega
theorem behA_ge {τ : Nat → Int32} {i : Nat} (h32 : n ≤ 32) (h : i < n) : i < behA τ n i ∧ behA τ n i ≤ n + 1 := by
  simp only [behA, closing]
  have h1 := clos_ge (n := n) (τ := τ) 33 0 i (by omega)
  have h2 := brk_ge (n := n) (τ := τ) 33 i (by omega) (by omega)
  split
  · omega
  · split
    · omega
    · split <;> omega
/-- the next place inside a row -/
def nxt (τ : Nat → Int32) (n j : Nat) : Nat := if tt τ n j = 40 ∨ tt τ n j = 91 ∨ tt τ n j = 92 then behA τ n j else j + 1
def nrow (τ : Nat → Int32) (n : Nat) : Nat → Nat → Option Nat
  | 0, _ => none
  | f + 1, j => if rEnd τ n j = true then (if tt τ n j = 124 then some (j + 1) else none) else nrow τ n f (nxt τ n j)
def oI : Option Nat → Int32
  | some j => nI j
  | none => -1
theorem L_nextRow {Q : Int32 → MS → Prop} (hn : m_length u = nI n) (h32 : n ≤ 32) : ∀ (f j : Nat), j ≤ n + 1 → n + 1 < j + f → Q (oI (nrow (m_text u) n f j)) u → L_M_nextRow_2 Q f (nI j) u := by
  intro f
  induction f with
  | zero => intro j h0 h1; omega
  | succ f ih =>
    intro j h0 h1 h
    unfold L_M_nextRow_2
    simp only [nrow] at h
    refine s_rowEnds hn h32 (by omega) ⟨fun q => ?_, fun q => ?_⟩
    · have hr : ¬ rEnd (m_text u) n j = true := fun hr => by rw [hr] at q; revert q; decide
      rw [if_neg hr] at h
      have hjn : j < n := by
        refine Nat.lt_of_not_le fun h => hr ?_
        simp [rEnd, h]
      have hb := behA_ge (τ := m_text u) h32 hjn
      have go : ∀ (hx : tt (m_text u) n j = 40 ∨ tt (m_text u) n j = 91 ∨ tt (m_text u) n j = 92), B_M_nextRow_40 Q (L_M_nextRow_2 Q f) (nI j) u := by
        intro hx
        simp only [nxt] at h
        rw [if_pos hx] at h
        exact s_behindAtom hn h32 (by omega) (ih _ (by omega) (by omega) h)
      refine s_t hn h32 (by omega) ⟨fun q1 => go (Or.inl q1), fun q1 => s_t hn h32 (by omega) ⟨fun q2 => go (Or.inr (Or.inl q2)), fun q2 => s_t hn h32 (by omega) ⟨fun q3 => go (Or.inr (Or.inr q3)), fun q3 => ?_⟩⟩⟩
      simp only [nxt] at h
      rw [if_neg (by rintro (h | h | h); exact q1 h; exact q2 h; exact q3 h)] at h
      show L_M_nextRow_2 Q f (nI j + 1) u
      rw [n_1]
      exact ih (j + 1) (by omega) (by omega) h
    · have hr : rEnd (m_text u) n j = true := by
        cases hr : rEnd (m_text u) n j
        · rw [hr] at q; exact absurd rfl q
        · rfl
      rw [if_pos hr] at h
      refine s_t hn h32 (by omega) ⟨fun q1 => ?_, fun q1 => ?_⟩
      · rw [if_pos q1] at h; rw [n_1]; exact h
      · rw [if_neg q1] at h; exact h
def nextRow (τ : Nat → Int32) (n i : Nat) : Option Nat := nrow τ n 35 i
theorem s_nextRow {Q : Int32 → MS → Prop} {i : Nat} (hn : m_length u = nI n) (h32 : n ≤ 32) (hi : i ≤ n + 1) (h : Q (oI (nextRow (m_text u) n i)) u) : P_M_nextRow (nI i) u Q := ⟨35, L_nextRow hn h32 35 i hi (by omega) h⟩
/-- does a group of its own open at j? -/
def opG (τ : Nat → Int32) (n j : Nat) : Bool := decide (tt τ n j = 40) && !decide (tt τ n (j + 1) = 63)
/-- how many groups open in [j, j + f) -/
def cntG (τ : Nat → Int32) (n : Nat) : Nat → Nat → Nat
  | 0, _ => 0
  | f + 1, j => (if opG τ n j = true then 1 else 0) + cntG τ n f (j + 1)
theorem L_groupAt {Q : Int32 → MS → Prop} (hn : m_length u = nI n) (h32 : n ≤ 32) {i : Nat} (hi : i < 100) : ∀ (f j c : Nat), j + f = i + 1 → c ≤ j → Q (nI (c + cntG (m_text u) n f j)) u → L_M_groupAt_4 Q (f + 1) (nI i) (nI c) (nI j) u := by
  intro f
  induction f with
  | zero =>
    intro j c h0 hc h
    unfold L_M_groupAt_4
    rw [nlt (by omega) (by omega)]
    exact ⟨fun _ => by simpa [cntG] using h, fun q => absurd (by omega) q⟩
  | succ f ih =>
    intro j c h0 hc h
    unfold L_M_groupAt_4
    rw [nlt (by omega) (by omega)]
    simp only [cntG] at h
    refine ⟨fun q => absurd q (by omega), fun _ => s_t hn h32 (by omega) ⟨fun q1 => ?_, fun q1 x3 hx3 => ?_⟩⟩
    · rw [n_1]
      refine s_t hn h32 (by omega) ⟨fun q2 x3 hx3 => ?_, fun q2 x2 hx2 x3 hx3 => ?_⟩
      · rw [hx3, n_1]
        refine ih (j + 1) c (by omega) (by omega) ?_
        simpa [opG, q1, q2] using h
      · rw [hx3, hx2, n_1, n_1]
        refine ih (j + 1) (c + 1) (by omega) (by omega) ?_
        have h' : Q (nI (c + (1 + cntG (m_text u) n f (j + 1)))) u := by simpa [opG, q1, q2] using h
        rw [← Nat.add_assoc] at h'
        exact h'
    · rw [hx3, n_1]
      refine ih (j + 1) c (by omega) (by omega) ?_
      simpa [opG, q1] using h
def groupAt (τ : Nat → Int32) (n i : Nat) : Nat := cntG τ n (i + 1) 0
theorem s_groupAt {Q : Int32 → MS → Prop} {i : Nat} (hn : m_length u = nI n) (h32 : n ≤ 32) (hi : i < 100) (h : Q (nI (groupAt (m_text u) n i)) u) : P_M_groupAt (nI i) u Q :=
  ⟨i + 2, L_groupAt hn h32 hi (i + 1) 0 0 (by omega) (Nat.le_refl 0) (by rw [Nat.zero_add]; exact h)⟩
def chOf (τ : Nat → Int32) (n : Nat) : Nat → Nat → Nat → Nat
  | 0, _, _ => 0
  | f + 1, c, i => if n ≤ i ∨ c = 0 then 0 else if opG τ n i = true then (if c = 1 then i + 1 else chOf τ n f (c - 1) (i + 1)) else chOf τ n f c (i + 1)
theorem L_choiceOf {Q : Int32 → MS → Prop} (hn : m_length u = nI n) (h32 : n ≤ 32) : ∀ (f c i : Nat), c < 2 ^ 20 → i ≤ n → n < i + f → Q (nI (chOf (m_text u) n f c i)) u → L_M_choiceOf_4 Q f (nI c) (nI i) u := by
  intro f
  induction f with
  | zero => intro c i _ h0 h1; omega
  | succ f ih =>
    intro c i hc h0 h1 h
    unfold L_M_choiceOf_4
    simp only [chOf] at h
    rw [hn, nle (by omega) (by omega)]
    refine ⟨fun q => ?_, fun q => ⟨fun q1 => ?_, fun q1 => ?_⟩⟩
    · rw [if_pos (Or.inl q)] at h; exact h
    · have : c = 0 := by
        have := (nle (a := c) (b := 0) (by omega) (by omega)).mp q1
        omega
      rw [if_pos (Or.inr this)] at h; exact h
    · have hc0 : c ≠ 0 := fun e => q1 (by rw [e]; decide)
      rw [if_neg (by omega)] at h
      have nx : ¬ opG (m_text u) n i = true → B_M_choiceOf_41 Q (L_M_choiceOf_4 Q f) (nI c) (nI i) u := by
        intro hg
        rw [if_neg hg] at h
        refine ⟨fun q3 => absurd q3 (nI_ne0 (by omega) (by omega)), fun _ x3 hx3 => ?_⟩
        rw [hx3, n_1]
        exact ih c (i + 1) hc (by omega) (by omega) h
      refine s_t hn h32 (by omega) ⟨fun q2 => ?_, fun q2 => nx (by simp [opG, q2])⟩
      rw [n_1]
      refine s_t hn h32 (by omega) ⟨fun q3 => nx (by simp [opG, q3]), fun q3 x2 hx2 => ?_⟩
      rw [if_pos (by simp [opG, q2, q3])] at h
      obtain ⟨c, rfl⟩ : ∃ c', c = c' + 1 := ⟨c - 1, by omega⟩
      obtain rfl : x2 = nI c := hx2.trans (n_m1 c)
      refine ⟨fun q4 => ?_, fun q4 x3 hx3 => ?_⟩
      · have : c = 0 := (neq (b := 0) (by omega) (by omega)).mp q4
        rw [if_pos (by omega)] at h
        rw [n_1]; exact h
      · have : c ≠ 0 := fun e => q4 (by rw [e]; rfl)
        rw [if_neg (by omega)] at h
        rw [hx3, n_1]
        exact ih c (i + 1) (by omega) (by omega) (by omega) h
def choiceOf (τ : Nat → Int32) (n g : Nat) : Nat := chOf τ n 33 g 0
theorem s_choiceOf {Q : Int32 → MS → Prop} {g : Nat} (hn : m_length u = nI n) (h32 : n ≤ 32) (hg : g < 2 ^ 20) (h : Q (nI (choiceOf (m_text u) n g)) u) : P_M_choiceOf (nI g) u Q := ⟨33, L_choiceOf hn h32 33 g 0 hg (Nat.zero_le _) (by omega) h⟩
end RD3
