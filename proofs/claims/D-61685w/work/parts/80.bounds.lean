section BD
variable (E : AEnv)
def f1 : List AFr → Nat
  | [] => 0
  | (k, w, _, _) :: K => (if k = 1 then 2 * ((e_n E - w) / 3) else if k = 5 ∨ k = 11 then 1 else 0) + f1 K
def f2 : List AFr → Nat
  | [] => 0
  | (k, w, _, _) :: K => (if k = 1 then (e_n E - w) / 3 else if k = 5 ∨ k = 11 then 1 else 0) + f2 K
def f3 : List AFr → Nat
  | [] => 0
  | (k, w, _, _) :: K => (if k = 1 then (e_n E - w) / 4 else 0) + f3 K
def PK : List AFr → Nat → Prop
  | [], _ => True
  | (k, w, m, _) :: K, p => if k = 2 then m ≤ p ∧ PK K p else if k = 8 then w ≤ p ∧ PK K w else if k = 9 then True else PK K p
def KG : List AFr → Prop
  | [] => True
  | (k, _, _, kp) :: K => (k = 3 → CGd (e_L E) kp) ∧ KG K
def pt1 (mo i : Nat) : Nat := if mo = 0 ∨ mo = 1 then 2 * ((e_n E - i) / 3) else if mo = 4 then 1 else 0
def pt2 (mo i : Nat) : Nat := if mo = 0 then (e_n E - i) / 3 else if mo = 1 then (e_n E - i) / 3 + 1 else if mo = 4 then 1 else 0
def pt3 (mo i : Nat) : Nat := if mo = 0 ∨ mo = 1 then (e_n E - i) / 4 else 0
def al1 (mo : Nat) : Nat := if mo = 2 then 2 else if mo = 3 then 1 else 0
def al2 (mo : Nat) : Nat := if mo = 2 then 1 else 0
def Bs (mo i : Nat) (K : List AFr) (p : Nat) (c : ACp) (st nf nb ns : Nat) : Prop :=
  nf + f1 E K + pt1 E mo i ≤ 23 * st + 20 + al1 mo ∧ nb + f2 E K + pt2 E mo i ≤ 13 * st + 11 + al2 mo ∧ ns + f3 E K + pt3 E mo i ≤ 12 * st + 8 ∧ K.length ≤ nf ∧ p ≤ e_L E ∧ CGd (e_L E) c ∧ PK K p ∧ KG E K
def BBs : List ABk → Nat → Prop
  | [], _ => True
  | (mo, i, p, K, c, _, nf, nb, ns) :: B, st => Bs E mo i K p c st nf nb ns ∧ B.length ≤ nb ∧ BBs B st
def Bd : ASt → Prop
  | (mo, i, K, p, c, B, st, nf, nb, ns) => (mo ≠ 6 → Bs E mo i K p c st nf nb ns ∧ B.length ≤ nb) ∧ BBs E B (if mo = 2 then st + 1 else st) ∧ st ≤ e_lim E ∧ p ≤ e_L E
end BD
section BD2
variable {E : AEnv}
theorem PK_mono : ∀ {K : List AFr} {p p' : Nat}, p ≤ p' → PK K p → PK K p' := by
  intro K
  induction K with
  | nil => intro p p' _ _; trivial
  | cons f K ih =>
    obtain ⟨k, w, m, kp⟩ := f
    intro p p' hp h
    unfold PK at h ⊢
    split
    · next q => rw [if_pos q] at h; exact ⟨by omega, ih hp h.2⟩
    · next q =>
      rw [if_neg q] at h
      split
      · next q => rw [if_pos q] at h; exact ⟨by omega, h.2⟩
      · next q =>
        rw [if_neg q] at h
        split
        · trivial
        · next q => rw [if_neg q] at h; exact ih hp h
theorem Bs_mono {mo i : Nat} {K : List AFr} {p : Nat} {c : ACp} {st st' nf nb ns : Nat} (hs : st ≤ st') (h : Bs E mo i K p c st nf nb ns) : Bs E mo i K p c st' nf nb ns := by
  obtain ⟨h1, h2, h3, h4⟩ := h
  exact ⟨by omega, by omega, by omega, h4⟩
theorem BBs_mono {st st' : Nat} (hs : st ≤ st') : ∀ {B : List ABk}, BBs E B st → BBs E B st' := by
  intro B
  induction B with
  | nil => intro _; trivial
  | cons b B ih =>
    obtain ⟨mo, i, p, K, c, fl, nf, nb, ns⟩ := b
    intro ⟨h1, h2, h3⟩
    exact ⟨Bs_mono hs h1, h2, ih h3⟩
theorem BBs_drop {st : Nat} : ∀ (k : Nat) {B : List ABk}, BBs E B st → BBs E (B.drop k) st := by
  intro k
  induction k with
  | zero => intro B h; exact h
  | succ k ih =>
    intro B h
    cases B with
    | nil => exact h
    | cons b B => obtain ⟨mo, i, p, K, c, fl, nf, nb, ns⟩ := b; exact ih h.2.2
theorem bd0 (hE : EH E) {i p st nf nb ns : Nat} {K : List AFr} {c : ACp} {B : List ABk} (h : Bd E (0, i, K, p, c, B, st, nf, nb, ns)) (hs : e_rE E i = false → i < e_bA E i ∧ iBeh E i ≤ e_n E) : Bd E (aTurn E (0, i, K, p, c, B, st, nf, nb, ns)) := by
  obtain ⟨h1, h2, h3, h4⟩ := h
  obtain ⟨⟨a1, a2, a3, a4, a5, a6, a7, a8⟩, hB⟩ := h1 (by decide)
  rw [if_neg (by decide)] at h2
  have p1 : pt1 E 0 i = 2 * ((e_n E - i) / 3) := rfl
  have p2 : pt2 E 0 i = (e_n E - i) / 3 := rfl
  have p3 : pt3 E 0 i = (e_n E - i) / 4 := rfl
  have l1 : al1 0 = 0 := rfl
  have l2 : al2 0 = 0 := rfl
  rw [p1, l1] at a1; rw [p2, l2] at a2; rw [p3] at a3
  rw [aT0]
  cases hre : e_rE E i with
  | true =>
    rw [if_pos rfl]
    refine ⟨fun _ => ⟨⟨?_, ?_, ?_, a4, a5, a6, a7, a8⟩, hB⟩, ?_, h3, h4⟩
    · show _ + 0 ≤ _ + 0
      omega
    · show _ + 0 ≤ _ + 0
      omega
    · show _ + 0 ≤ _
      omega
    · rw [if_neg (by decide)]; exact h2
  | false =>
    rw [if_neg (by decide)]
    obtain ⟨hib, hbn⟩ := hs hre
    have b0 := iBeh_ge E i
    have b1 : iK E i ≠ 0 → e_bA E i + 1 ≤ iBeh E i := iBeh_1
    have b2 : iHow E i ≠ 0 → e_bA E i + 2 ≤ iBeh E i := iBeh_2
    have b4 : iK E i = 4 → e_bA E i + 3 ≤ iBeh E i := iBeh_4
    unfold aItem
    by_cases hsk : iSkip E i = true
    · rw [if_pos hsk]
      have b4 := b4 (iSkip_4 hsk)
      refine ⟨fun _ => ⟨⟨?_, ?_, ?_, a4, a5, a6, a7, a8⟩, hB⟩, ?_, h3, h4⟩
      · show _ + 2 * ((e_n E - iBeh E i) / 3) ≤ _ + 0
        omega
      · show _ + (e_n E - iBeh E i) / 3 ≤ _ + 0
        omega
      · show _ + (e_n E - iBeh E i) / 4 ≤ _
        omega
      · rw [if_neg (by decide)]; exact h2
    · rw [if_neg hsk]
      have core : ∀ (K1 : List AFr) (nf1 z : Nat), (iHow E i = 43 → z = 2) → (iHow E i ≠ 43 → z = 1) → nf1 = nf + z → f1 E K1 = 2 * ((e_n E - iBeh E i) / 3) + f1 E K → f2 E K1 = (e_n E - iBeh E i) / 3 + f2 E K → f3 E K1 = (e_n E - iBeh E i) / 4 + f3 E K → K1.length ≤ nf1 → PK K1 p → KG E K1 → Bd E (aItem2 E i K1 p c B st nf1 nb ns) := by
        intro K1 nf1 z hz1 hz2 hz q1 q2 q3 q4 q5 q6
        unfold aItem2
        have hB2 : BBs E B (st + 1) := BBs_mono (by omega) h2
        by_cases k1 : iK E i = 1
        · rw [if_pos k1]
          have b1 := b1 (by omega)
          by_cases hw : iHow E i = 63
          · rw [if_pos hw]
            have b2 := b2 (by omega)
            have hz2 := hz2 (by omega)
            refine ⟨fun _ => ⟨⟨?_, ?_, ?_, q4, a5, a6, q5, q6⟩, hB⟩, ?_, h3, h4⟩
            · show _ + 1 ≤ _ + 0
              omega
            · show _ + 1 ≤ _ + 0
              omega
            · show _ + 0 ≤ _
              omega
            · rw [if_neg (by decide)]; exact h2
          · rw [if_neg hw]
            refine ⟨fun _ => ⟨⟨?_, ?_, ?_, q4, a5, a6, q5, q6⟩, hB⟩, ?_, h3, h4⟩
            · show _ + 0 ≤ _ + 1
              by_cases hw2 : iHow E i = 43
              · have hz1 := hz1 hw2
                have b2 := b2 (by omega)
                omega
              · have hz2 := hz2 hw2
                omega
            · show _ + 0 ≤ _ + 0
              omega
            · show _ + 0 ≤ _
              omega
            · rw [if_neg (by decide)]; exact h2
        · rw [if_neg k1]
          by_cases k2 : iK E i = 2
          · rw [if_pos k2]
            have b1 := b1 (by omega)
            have hc1 : ∀ z, (z = 10 ∨ z = 11) → f3 E ((z, i, 0, c00) :: K1) = f3 E K1 ∧ PK ((z, i, 0, c00) :: K1) p ∧ KG E ((z, i, 0, c00) :: K1) := by
              intro z hz
              rcases hz with e | e <;> (rw [e]; exact ⟨Nat.zero_add _, q5, fun e => absurd e (by decide), q6⟩)
            by_cases hw : iHow E i = 63
            · rw [if_pos hw]
              have b2 := b2 (by omega)
              have hz2 := hz2 (by omega)
              have hc1 := hc1 11 (Or.inr rfl)
              refine ⟨fun _ => ⟨⟨?_, ?_, ?_, by rw [List.length_cons]; omega, a5, a6, hc1.2⟩, hB⟩, ?_, h3, h4⟩
              · show _ + (1 + f1 E K1) + 0 ≤ _ + 2
                omega
              · show _ + (1 + f2 E K1) + 0 ≤ _ + 1
                omega
              · show _ + 0 ≤ _
                rw [hc1.1]; omega
              · rw [if_pos rfl]; exact hB2
            · rw [if_neg hw]
              have hc1 := hc1 10 (Or.inl rfl)
              refine ⟨fun _ => ⟨⟨?_, ?_, ?_, by rw [List.length_cons]; omega, a5, a6, hc1.2⟩, hB⟩, ?_, h3, h4⟩
              · show _ + (0 + f1 E K1) + 0 ≤ _ + 2
                by_cases hw2 : iHow E i = 43
                · have hz1 := hz1 hw2
                  have b2 := b2 (by omega)
                  omega
                · have hz2 := hz2 hw2
                  omega
              · show _ + (0 + f2 E K1) + 0 ≤ _ + 1
                omega
              · show _ + 0 ≤ _
                rw [hc1.1]; omega
              · rw [if_pos rfl]; exact hB2
          · rw [if_neg k2]
            by_cases k4 : iK E i = 4
            · rw [if_pos k4]
              have b4 := b4 k4
              refine ⟨fun _ => ⟨⟨?_, ?_, ?_, by rw [List.length_cons]; omega, a5, a6, q5, fun e => absurd e (by decide), q6⟩, hB⟩, ?_, h3, h4⟩
              · show _ + (0 + f1 E K1) + 0 ≤ _ + 2
                by_cases hw2 : iHow E i = 43
                · have hz1 := hz1 hw2
                  omega
                · have hz2 := hz2 hw2
                  omega
              · show _ + (0 + f2 E K1) + 0 ≤ _ + 1
                omega
              · show _ + (0 + f3 E K1) + 0 ≤ _
                omega
              · rw [if_pos rfl]; exact hB2
            · rw [if_neg k4]
              by_cases k3 : iK E i = 3
              · rw [if_pos k3]
                have b1 := b1 (by omega)
                by_cases hw : iHow E i = 63
                · rw [if_pos hw, if_pos hw]
                  have b2 := b2 (by omega)
                  have hz2 := hz2 (by omega)
                  refine ⟨fun _ => ⟨⟨?_, ?_, ?_, q4, a5, a6, q5, q6⟩, by rw [List.length_cons]; omega⟩, ?_, h3, h4⟩
                  · show _ + 0 ≤ _ + 0
                    omega
                  · show _ + 0 ≤ _ + 0
                    omega
                  · show _ + 0 ≤ _
                    omega
                  · rw [if_neg (by decide)]
                    refine ⟨⟨?_, ?_, ?_, q4, a5, a6, q5, q6⟩, hB, h2⟩
                    · show _ + 0 ≤ _ + 2
                      omega
                    · show _ + 0 ≤ _ + 1
                      omega
                    · show _ + 0 ≤ _
                      omega
                · rw [if_neg hw, if_neg hw]
                  refine ⟨fun _ => ⟨⟨?_, ?_, ?_, q4, a5, a6, q5, q6⟩, by rw [List.length_cons]; omega⟩, ?_, h3, h4⟩
                  · show _ + 0 ≤ _ + 2
                    by_cases hw2 : iHow E i = 43
                    · have hz1 := hz1 hw2
                      omega
                    · have hz2 := hz2 hw2
                      omega
                  · show _ + 0 ≤ _ + 1
                    omega
                  · show _ + 0 ≤ _
                    omega
                  · rw [if_pos rfl]
                    refine ⟨⟨?_, ?_, ?_, q4, a5, a6, q5, q6⟩, hB, hB2⟩
                    · show _ + 0 ≤ _ + 0
                      by_cases hw2 : iHow E i = 43
                      · have hz1 := hz1 hw2
                        omega
                      · have hz2 := hz2 hw2
                        omega
                    · show _ + 0 ≤ _ + 0
                      omega
                    · show _ + 0 ≤ _
                      omega
              · rw [if_neg k3]
                refine ⟨fun _ => ⟨⟨?_, ?_, ?_, q4, a5, a6, q5, q6⟩, hB⟩, ?_, h3, h4⟩
                · show _ + 0 ≤ _ + 2
                  by_cases hw2 : iHow E i = 43
                  · have hz1 := hz1 hw2
                    omega
                  · have hz2 := hz2 hw2
                    omega
                · show _ + 0 ≤ _ + 1
                  omega
                · show _ + 0 ≤ _
                  omega
                · rw [if_pos rfl]; exact hB2
      by_cases hw : iHow E i = 43
      · rw [if_pos hw]
        exact core _ _ 2 (fun _ => rfl) (fun e => absurd hw e) rfl (Nat.zero_add _) (Nat.zero_add _) (Nat.zero_add _) (by simp only [List.length_cons]; omega) a7 ⟨fun e => absurd e (by decide), fun e => absurd e (by decide), a8⟩
      · rw [if_neg hw]
        exact core _ _ 1 (fun e => absurd e hw) (fun _ => rfl) rfl rfl rfl rfl (by simp only [List.length_cons]; omega) a7 ⟨fun e => absurd e (by decide), a8⟩
end BD2
