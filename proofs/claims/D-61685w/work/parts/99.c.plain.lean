def SUB (s : Nat → Int32) (L : Nat) : Prop := ∀ j, j < L → ∃ ch, 97 ≤ ch ∧ ch ≤ 122 ∧ s j = nI ch
def PLr (τ : Nat → Int32) (n i op x : Nat) : Prop :=
  (tt τ n i = 94 ∧ op = 1) ∨ (tt τ n i = 36 ∧ op = 2) ∨ (tt τ n i = 92 ∧ op = 3 ∧ 1 ≤ x ∧ x ≤ 4 ∧ tt τ n (i + 1) = nI (x + 48)) ∨
  (tt τ n i ≠ 94 ∧ tt τ n i ≠ 36 ∧ tt τ n i ≠ 92 ∧ op = 0 ∧ ∀ ch, 97 ≤ ch → ch ≤ 122 → accP x (nI ch) = accT τ n i (nI ch))
theorem plain_eq {τ : Nat → Int32} {n : Nat} {s : Nat → Int32} {L i op x p : Nat} {c cF : ACp} (hS : SUB s L) (hP : PLr τ n i op x) (hC : CRl cF c) (hG : CGd L c) : plP s L op x p cF = plF τ n s L i p c := by
  unfold plP plF
  rcases hP with ⟨h1, h2⟩ | ⟨h1, h2⟩ | ⟨h1, h2, h3, h4, h5⟩ | ⟨h1, h2, h3, h4, h5⟩
  · rw [if_neg (by omega), if_pos h2, if_pos h1]
  · rw [if_neg (by omega), if_neg (by omega), if_pos h2, if_neg (show ¬ tt τ n i = 94 by rw [h1]; decide), if_pos h1]
  · rw [if_neg (by omega), if_neg (by omega), if_neg (by omega), if_neg (show ¬ tt τ n i = 94 by rw [h1]; decide), if_neg (show ¬ tt τ n i = 36 by rw [h1]; decide), if_pos h1, h5, nI_clamp (by omega), Nat.add_sub_cancel]
    have hc := hC x h3 h4
    have hg := hG x
    rw [hc.1, hc.2]
    unfold repP repF
    by_cases h0 : c x = 0
    · rw [h0]
    · rw [if_neg h0, if_neg (by omega)]
  · rw [if_pos h4, if_neg h1, if_neg h2, if_neg h3]
    by_cases hp : p < L
    · obtain ⟨ch, c1, c2, c3⟩ := hS p hp
      rw [c3, h5 ch c1 c2]
    · rw [if_neg (fun z => hp z.1), if_neg (fun z => hp z.1)]
theorem plF_le {τ : Nat → Int32} {n : Nat} {s : Nat → Int32} {L i p p' : Nat} {c : ACp} (hp : p ≤ L) (h : plF τ n s L i p c = some p') : p ≤ p' ∧ p' ≤ L := by
  unfold plF repF at h
  split at h
  · split at h
    · cases h; exact ⟨Nat.le_refl _, hp⟩
    · cases h
  · split at h
    · split at h
      · cases h; exact ⟨Nat.le_refl _, hp⟩
      · cases h
    · split at h
      · split at h
        · cases h
        · split at h
          · split at h
            · cases h; omega
            · cases h
          · cases h
      · split at h
        · next q => cases h; omega
        · cases h
