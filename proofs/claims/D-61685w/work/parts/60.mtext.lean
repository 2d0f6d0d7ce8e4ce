/-! PLAIN LAW 1: the Model's readers of the pattern's text, as plain functions over places -/
theorem nle {a b : Nat} (ha : a < 2 ^ 31) (hb : b < 2 ^ 31) : nI a ≤ nI b ↔ a ≤ b := ⟨fun h => Nat.le_of_not_lt fun q => nI_ge q ha h, fun h => nI_le h hb⟩
theorem nlt {a b : Nat} (ha : a < 2 ^ 31) (hb : b < 2 ^ 31) : nI a < nI b ↔ a < b := ⟨fun h => Nat.lt_of_not_le fun q => nI_nlt q ha h, fun h => nI_lt h hb⟩
theorem neq {a b : Nat} (ha : a < 2 ^ 31) (hb : b < 2 ^ 31) : nI a = nI b ↔ a = b := nI_eq ha hb
theorem nad (a b : Nat) : nI a + nI b = nI (a + b) := by
  show Int32.ofNat a + Int32.ofNat b = Int32.ofNat (a + b)
  exact (Int32.ofNat_add a b).symm
theorem n_1 (a : Nat) : nI a + 1 = nI (a + 1) := (nI_succ a).symm
theorem n_m1 (d : Nat) : nI (d + 1) + (-1) = nI d := by
  rw [← n_1, Int32.add_assoc, show (1 : Int32) + -1 = 0 from by decide, Int32.add_zero]
theorem n_2 (a : Nat) : nI a + 2 = nI (a + 2) := nad a 2
theorem n_3 (a : Nat) : nI a + 3 = nI (a + 3) := nad a 3
def tt (τ : Nat → Int32) (n i : Nat) : Int32 := if i < n then τ i else 0
theorem tt_in {τ : Nat → Int32} {n i : Nat} (h : i < n) : tt τ n i = τ i := if_pos h
theorem tt_out {τ : Nat → Int32} {n i : Nat} (h : n ≤ i) : tt τ n i = 0 := if_neg (by omega)
section RD
variable {u : MS} {n : Nat}
theorem s_t {Q : Int32 → MS → Prop} {i : Nat} (hn : m_length u = nI n) (h32 : n ≤ 32) (hi : i < 2 ^ 31) (h : Q (tt (m_text u) n i) u) : P_M_t (nI i) u Q := by
  unfold P_M_t
  rw [hn, nle (by omega) hi]
  refine ⟨fun q => ?_, fun q => ⟨vp_in_nI (by omega) (by omega), ?_⟩⟩
  · rw [tt_out q] at h; exact h
  · rw [nI_clamp hi]; rw [tt_in (by omega)] at h; exact h
def rEnd (τ : Nat → Int32) (n i : Nat) : Bool := decide (n ≤ i) || decide (tt τ n i = 124) || decide (tt τ n i = 41)
def bI (b : Bool) : Int32 := if b then 1 else 0
theorem s_rowEnds {Q : Int32 → MS → Prop} {i : Nat} (hn : m_length u = nI n) (h32 : n ≤ 32) (hi : i < 2 ^ 31) (h : Q (bI (rEnd (m_text u) n i)) u) : P_M_rowEnds (nI i) u Q := by
  unfold P_M_rowEnds
  rw [hn, nle (by omega) hi]
  refine ⟨fun q => ?_, fun q => s_t hn h32 hi ⟨fun q2 => ?_, fun q2 => s_t hn h32 hi ⟨fun q3 => ?_, fun q3 => ?_⟩⟩⟩
  · simpa [rEnd, q, bI, B_M_rowEnds_28] using h
  · simpa [rEnd, q2, bI, B_M_rowEnds_28] using h
  · simpa [rEnd, q3, bI, B_M_rowEnds_28] using h
  · simpa [rEnd, q, q2, q3, bI] using h
/-- the place of the ')' that closes, d open before j -/
def clos (τ : Nat → Int32) (n : Nat) : Nat → Nat → Nat → Nat
  | 0, _, _ => n
  | f + 1, d, j => if j < n then
      (if τ j = 40 then clos τ n f (d + 1) (j + 1) else if τ j = 41 then (if d = 1 then j else clos τ n f (d - 1) (j + 1)) else if d = 0 then j else clos τ n f d (j + 1))
    else n
theorem L_closing {Q : Int32 → MS → Prop} (hn : m_length u = nI n) (h32 : n ≤ 32) : ∀ (f d j : Nat), (d = 0 → m_text u j = 40) → d ≤ j → j ≤ n → n < j + f → Q (nI (clos (m_text u) n f d j)) u → L_M_closing_4 Q f (nI d) (nI j) u := by
  intro f
  induction f with
  | zero => intro d j _ _ h1 h2; omega
  | succ f ih =>
    intro d j h0 hd h1 h2 h
    unfold L_M_closing_4
    rw [hn, nle (by omega) (by omega)]
    refine ⟨fun q => ?_, fun q => ⟨vp_in_nI (by omega) (by omega), ?_⟩⟩
    · simp only [clos] at h; rw [if_neg (by omega)] at h; exact h
    · simp only [clos] at h
      rw [if_pos (by omega)] at h
      rw [nI_clamp (by omega)]
      refine ⟨fun q1 => ?_, fun q1 => ?_⟩
      · rw [if_pos q1] at h
        intro x2 hx2
        rw [hx2, n_1]
        refine ⟨vp_in_nI (by omega) (by omega), ?_⟩
        rw [nI_clamp (by omega)]
        refine ⟨fun q2 => absurd (q1.symm.trans q2) (by decide), fun _ => ⟨fun q3 => absurd q3 (nI_ne0 (by omega) (by omega)), fun _ x3 hx3 => ?_⟩⟩
        rw [hx3, n_1]
        exact ih (d + 1) (j + 1) (fun h => by omega) (by omega) (by omega) (by omega) h
      · rw [if_neg q1] at h
        have hd0 : d ≠ 0 := fun h => q1 (h0 h)
        refine ⟨vp_in_nI (by omega) (by omega), ?_⟩
        rw [nI_clamp (by omega)]
        refine ⟨fun q2 x2 hx2 => ?_, fun q2 => ?_⟩
        · rw [if_pos q2] at h
          obtain ⟨d, rfl⟩ : ∃ d', d = d' + 1 := ⟨d - 1, by omega⟩
          have e1 : x2 = nI d := hx2.trans (n_m1 d)
          subst e1
          refine ⟨fun q3 => ?_, fun q3 x3 hx3 => ?_⟩
          · have : d = 0 := (neq (b := 0) (by omega) (by omega)).mp q3
            rw [if_pos (by omega)] at h
            exact h
          · have : d ≠ 0 := fun h => q3 (by rw [h]; rfl)
            rw [if_neg (by omega)] at h
            rw [hx3, n_1]
            exact ih d (j + 1) (fun h => by omega) (by omega) (by omega) (by omega) h
        · rw [if_neg q2, if_neg hd0] at h
          refine ⟨fun q3 => absurd q3 (nI_ne0 (by omega) (by omega)), fun _ x3 hx3 => ?_⟩
          rw [hx3, n_1]
          exact ih d (j + 1) (fun h => by omega) (by omega) (by omega) (by omega) h
def closing (τ : Nat → Int32) (n i : Nat) : Nat := clos τ n 33 0 i
theorem s_closing {Q : Int32 → MS → Prop} {i : Nat} (hn : m_length u = nI n) (h32 : n ≤ 32) (hi : i ≤ n) (h40 : m_text u i = 40) (h : Q (nI (closing (m_text u) n i)) u) : P_M_closing (nI i) u Q :=
  ⟨33, L_closing hn h32 33 0 i (fun _ => h40) (by omega) hi (by omega) h⟩
end RD
