/-! PLAIN LAW 1, more of the Model's readers -/
section RD2
variable {u : MS} {n : Nat}
def brk (τ : Nat → Int32) (n : Nat) : Nat → Nat → Nat
  | 0, j => j + 1
  | f + 1, j => if tt τ n j = 93 ∨ n ≤ j then j + 1 else brk τ n f (j + 1)
theorem L_brk {Q : Int32 → MS → Prop} (hn : m_length u = nI n) (h32 : n ≤ 32) : ∀ (f j : Nat), j ≤ n → n < j + f → Q (nI (brk (m_text u) n f j)) u → L_M_behindAtom_44 Q f (nI j) u := by
  intro f
  induction f with
  | zero => intro j h0 h1 h; omega
  | succ f ih =>
    intro j h0 h1 h
    unfold L_M_behindAtom_44
    simp only [brk] at h
    refine s_t hn h32 (by omega) ⟨fun q => ?_, fun q => ?_⟩
    · rw [if_pos (Or.inl q)] at h; rw [n_1]; exact h
    · rw [hn, nle (by omega) (by omega)]
      refine ⟨fun q2 => ?_, fun q2 x2 hx2 => ?_⟩
      · rw [if_pos (Or.inr q2)] at h; rw [n_1]; exact h
      · rw [if_neg (by rintro (h | h); exact q h; exact q2 h)] at h
        rw [hx2, n_1]
        exact ih (j + 1) (by omega) (by omega) h
/-- behind the atom at i -/
def behA (τ : Nat → Int32) (n i : Nat) : Nat := if tt τ n i = 40 then closing τ n i + 1 else if tt τ n i = 92 then i + 2 else if tt τ n i = 91 then brk τ n 33 i else i + 1
theorem tt_lt {τ : Nat → Int32} {i : Nat} {c : Int32} (h : tt τ n i = c) (hc : c ≠ 0) : i < n ∧ τ i = c := by
  by_cases q : i < n
  · exact ⟨q, by rw [tt_in q] at h; exact h⟩
  · rw [tt_out (by omega)] at h; exact absurd h.symm hc
theorem s_behindAtom {Q : Int32 → MS → Prop} {i : Nat} (hn : m_length u = nI n) (h32 : n ≤ 32) (hi : i ≤ n) (h : Q (nI (behA (m_text u) n i)) u) : P_M_behindAtom (nI i) u Q := by
  unfold P_M_behindAtom
  simp only [behA] at h
  refine s_t hn h32 (by omega) ⟨fun q => ?_, fun q => s_t hn h32 (by omega) ⟨fun q2 => ?_, fun q2 => s_t hn h32 (by omega) ⟨fun q3 => ⟨33, ?_⟩, fun q3 => ?_⟩⟩⟩
  · rw [if_pos q] at h
    refine s_closing hn h32 hi (tt_lt q (by decide)).2 ?_
    rw [n_1]; exact h
  · rw [if_neg q, if_pos q2] at h; rw [n_2]; exact h
  · rw [if_neg q, if_neg q2, if_pos q3] at h
    exact L_brk hn h32 33 i (by omega) (by omega) h
  · rw [if_neg q, if_neg q2, if_neg q3] at h; rw [n_1]; exact h
end RD2
