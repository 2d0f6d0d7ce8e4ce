def LK (b : Nat) : List AFr → Prop
  | [] => True
  | (k, w, _, _) :: K => (k = 8 → b ≤ w) ∧ LK b K
def LBk (b : Nat) : List ABk → Prop
  | [] => True
  | (_, _, p, K, _, _, _, _, _) :: B => b ≤ p ∧ LK b K ∧ LBk b B
def LB (b : Nat) : ASt → Prop
  | (_, _, K, p, _, B, _, _, _, _) => b ≤ p ∧ LK b K ∧ LBk b B
section LW
variable {E : AEnv} {b : Nat}
theorem LBk_drop : ∀ (k : Nat) {B : List ABk}, LBk b B → LBk b (B.drop k) := by
  intro k
  induction k with
  | zero => intro B h; exact h
  | succ k ih =>
    intro B h
    cases B with
    | nil => exact h
    | cons x B => obtain ⟨b1, b2, b3, b4, b5, b6, b7, b8, b9⟩ := x; exact ih h.2.2
theorem LB_item2 {i p st nf nb ns : Nat} {K : List AFr} {c : ACp} {B : List ABk} (h1 : b ≤ p) (h2 : LK b K) (h3 : LBk b B) : LB b (aItem2 E i K p c B st nf nb ns) := by
  unfold aItem2
  split
  · exact ⟨h1, h2, h3⟩
  · split
    · refine ⟨h1, ⟨fun e => ?_, h2⟩, h3⟩
      split at e <;> exact absurd e (by decide)
    · split
      · exact ⟨h1, ⟨fun e => absurd e (by decide), h2⟩, h3⟩
      · split
        · exact ⟨h1, h2, h1, h2, h3⟩
        · exact ⟨h1, h2, h3⟩
theorem LB_turn (hpl : ∀ i p c p', CGd (e_L E) c → p ≤ e_L E → e_pl E i p c = some p' → p ≤ p') {σ : ASt} (hok : okA E σ) (h : LB b σ) : LB b (aTurn E σ) := by
  obtain ⟨mo, i, K, p, c, B, st, nf, nb, ns⟩ := σ
  obtain ⟨h1, h2, h3⟩ := h
  have hmo : mo ≤ 6 := hok.2.2.2.2.2.1
  have hpL : p ≤ e_L E := hok.2.2.2.1
  have hcs : mo = 0 ∨ mo = 1 ∨ mo = 2 ∨ mo = 3 ∨ mo = 4 ∨ mo = 5 ∨ mo = 6 := by omega
  rcases hcs with e | e | e | e | e | e | e
  · subst e
    rw [aT0]
    split
    · exact ⟨h1, h2, h3⟩
    · unfold aItem
      split
      · exact ⟨h1, h2, h3⟩
      · split
        · exact LB_item2 h1 ⟨fun e => absurd e (by decide), fun e => absurd e (by decide), h2⟩ h3
        · exact LB_item2 h1 ⟨fun e => absurd e (by decide), h2⟩ h3
  · subst e
    have ht : aTurn E (1, i, K, p, c, B, st, nf, nb, ns) = (match e_nr E i with
      | some r => (0, i, K, p, c, (1, r, p, K, c, 0, nf, nb, ns) :: B, st, nf, nb + 1, ns)
      | none => (0, i, K, p, c, B, st, nf, nb, ns)) := rfl
    rw [ht]
    cases e_nr E i with
    | none => exact ⟨h1, h2, h3⟩
    | some r => exact ⟨h1, h2, h1, h2, h3⟩
  · subst e
    have hcg : CGd (e_L E) c := (hok.1 (by decide)).2.2.2.2
    have ht : aTurn E (2, i, K, p, c, B, st, nf, nb, ns) = aAtom E i K p c B st nf nb ns := rfl
    rw [ht]; unfold aAtom
    split
    · unfold aOpen
      split
      · exact ⟨h1, ⟨fun e => absurd e (by decide), h2⟩, h3⟩
      · split
        · exact ⟨h1, h2, h3⟩
        · split
          · exact ⟨h1, ⟨fun e => absurd e (by decide), h2⟩, h3⟩
          · split
            · exact ⟨h1, ⟨fun _ => h1, h2⟩, h3⟩
            · split
              · exact ⟨h1, ⟨fun e => absurd e (by decide), h2⟩, h1, h2, h3⟩
              · split
                · exact ⟨h1, h2, h3⟩
                · exact ⟨h1, ⟨fun e => absurd e (by decide), h2⟩, h3⟩
    · cases hp : e_pl E i p c with
      | none => exact ⟨h1, h2, h3⟩
      | some p' => exact ⟨by have := hpl i p c p' hcg hpL hp; omega, h2, h3⟩
  · subst e
    exact ⟨h1, ⟨fun e => absurd e (by decide), h2⟩, h1, h2, h3⟩
  · subst e
    exact ⟨h1, h2, h1, ⟨fun e => absurd e (by decide), h2⟩, h3⟩
  · subst e
    cases K with
    | nil => exact ⟨h1, h2, h3⟩
    | cons f K =>
      obtain ⟨k, w, m, kp⟩ := f
      have ht : aTurn E (5, i, (k, w, m, kp) :: K, p, c, B, st, nf, nb, ns) = aCarry k w m kp K p c B st nf nb ns := rfl
      rw [ht]; unfold aCarry
      obtain ⟨h4, h2⟩ := h2
      split
      · exact ⟨h1, h2, h3⟩
      · split
        · exact ⟨h1, h2, h3⟩
        · split
          · exact ⟨h1, h2, h3⟩
          · split
            · exact ⟨h1, h2, h3⟩
            · split
              · split
                · exact ⟨h1, h2, h3⟩
                · exact ⟨h1, ⟨fun e => absurd e (by decide), h2⟩, h3⟩
              · split
                · exact ⟨h1, h2, LBk_drop _ h3⟩
                · split
                  · next q => exact ⟨h4 q, h2, LBk_drop _ h3⟩
                  · split
                    · exact ⟨h1, h2, LBk_drop _ h3⟩
                    · exact ⟨h1, h2, h3⟩
  · subst e
    cases B with
    | nil => exact ⟨h1, h2, h3⟩
    | cons x B => obtain ⟨b1, b2, b3, b4, b5, b6, b7, b8, b9⟩ := x; exact h3
theorem LB_ev (hpl : ∀ i p c p', CGd (e_L E) c → p ≤ e_L E → e_pl E i p c = some p' → p ≤ p') {r : Nat} {σ' : ASt} : ∀ (N : Nat) (σ : ASt), Ev E N σ r σ' → LB b σ → LB b σ' := by
  intro N
  induction N with
  | zero => intro σ h; exact h.elim
  | succ N ih =>
    intro σ ⟨hok, h⟩ hL
    rcases h with ⟨_, e⟩ | ⟨_, h⟩
    · rw [e]; exact hL
    · exact ih _ h (LB_turn hpl hok hL)
theorem FS_low (hpl : ∀ i p c p', CGd (e_L E) c → p ≤ e_L E → e_pl E i p c = some p' → p ≤ p') {cd sf p' st' : Nat} {c' : ACp} : ∀ (n sx st : Nat), FS E n sx st cd sf p' c' st' → cd = 1 → sf ≤ p' := by
  intro n
  induction n with
  | zero => intro sx st h e; exact absurd h.1 (by omega)
  | succ n ih =>
    intro sx st ⟨r, σ', hEv, h⟩ e
    rcases h with ⟨_, h⟩ | ⟨_, _, e1, e2, _⟩ | ⟨_, e1, _⟩
    · exact ih _ _ h e
    · have hb := LB_ev (b := sx) hpl _ _ hEv ⟨Nat.le_refl _, trivial, trivial⟩
      obtain ⟨mo1, i1, K1, p1, c1, B1, st1, nf1, nb1, ns1⟩ := σ'
      rw [e1, e2]; exact hb.1
    · omega
end LW
