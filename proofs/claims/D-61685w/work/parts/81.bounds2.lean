section BD3
variable {E : AEnv}
theorem bd1 {i p st nf nb ns : Nat} {K : List AFr} {c : ACp} {B : List ABk} (h : Bd E (1, i, K, p, c, B, st, nf, nb, ns)) (hs : ∀ r, e_nr E i = some r → i ≤ r) : Bd E (aTurn E (1, i, K, p, c, B, st, nf, nb, ns)) := by
  obtain ⟨h1, h2, h3, h4⟩ := h
  obtain ⟨⟨a1, a2, a3, a4, a5, a6, a7, a8⟩, hB⟩ := h1 (by decide)
  rw [if_neg (by decide)] at h2
  have p1 : pt1 E 1 i = 2 * ((e_n E - i) / 3) := rfl
  have p2 : pt2 E 1 i = (e_n E - i) / 3 + 1 := rfl
  have p3 : pt3 E 1 i = (e_n E - i) / 4 := rfl
  have l1 : al1 1 = 0 := rfl
  have l2 : al2 1 = 0 := rfl
  rw [p1, l1] at a1; rw [p2, l2] at a2; rw [p3] at a3
  have ht : aTurn E (1, i, K, p, c, B, st, nf, nb, ns) = (match e_nr E i with
    | some r => (0, i, K, p, c, (1, r, p, K, c, 0, nf, nb, ns) :: B, st, nf, nb + 1, ns)
    | none => (0, i, K, p, c, B, st, nf, nb, ns)) := rfl
  rw [ht]
  cases hn : e_nr E i with
  | none =>
    refine ⟨fun _ => ⟨⟨?_, ?_, ?_, a4, a5, a6, a7, a8⟩, hB⟩, ?_, h3, h4⟩
    · show _ + 2 * ((e_n E - i) / 3) ≤ _ + 0
      omega
    · show _ + (e_n E - i) / 3 ≤ _ + 0
      omega
    · show _ + (e_n E - i) / 4 ≤ _
      omega
    · rw [if_neg (by decide)]; exact h2
  | some r =>
    have hr := hs r hn
    refine ⟨fun _ => ⟨⟨?_, ?_, ?_, a4, a5, a6, a7, a8⟩, by rw [List.length_cons]; omega⟩, ?_, h3, h4⟩
    · show _ + 2 * ((e_n E - i) / 3) ≤ _ + 0
      omega
    · show _ + (e_n E - i) / 3 ≤ _ + 0
      omega
    · show _ + (e_n E - i) / 4 ≤ _
      omega
    · rw [if_neg (by decide)]
      refine ⟨⟨?_, ?_, ?_, a4, a5, a6, a7, a8⟩, hB, h2⟩
      · show _ + 2 * ((e_n E - r) / 3) ≤ _ + 0
        omega
      · show _ + ((e_n E - r) / 3 + 1) ≤ _ + 0
        omega
      · show _ + (e_n E - r) / 4 ≤ _
        omega
theorem bd3 {i p st nf nb ns : Nat} {K : List AFr} {c : ACp} {B : List ABk} (h : Bd E (3, i, K, p, c, B, st, nf, nb, ns)) : Bd E (aTurn E (3, i, K, p, c, B, st, nf, nb, ns)) := by
  obtain ⟨h1, h2, h3, h4⟩ := h
  obtain ⟨⟨a1, a2, a3, a4, a5, a6, a7, a8⟩, hB⟩ := h1 (by decide)
  rw [if_neg (by decide)] at h2
  have a1 : _ + 0 ≤ _ + 1 := a1
  have a2 : _ + 0 ≤ _ + 0 := a2
  have a3 : _ + 0 ≤ _ := a3
  refine ⟨fun _ => ⟨⟨?_, ?_, ?_, by rw [List.length_cons]; omega, a5, a6, a7, fun e => absurd e (by decide), a8⟩, by rw [List.length_cons]; omega⟩, ?_, h3, h4⟩
  · show _ + (0 + f1 E K) + 0 ≤ _ + 2
    omega
  · show _ + (0 + f2 E K) + 0 ≤ _ + 1
    omega
  · show _ + (0 + f3 E K) + 0 ≤ _
    omega
  · rw [if_pos rfl]
    refine ⟨⟨?_, ?_, ?_, by omega, a5, a6, a7, a8⟩, hB, BBs_mono (by omega) h2⟩
    · show _ + 0 ≤ _ + 0
      omega
    · show _ + 0 ≤ _ + 0
      omega
    · show _ + 0 ≤ _
      omega
theorem bd4 {i p st nf nb ns : Nat} {K : List AFr} {c : ACp} {B : List ABk} (h : Bd E (4, i, K, p, c, B, st, nf, nb, ns)) : Bd E (aTurn E (4, i, K, p, c, B, st, nf, nb, ns)) := by
  obtain ⟨h1, h2, h3, h4⟩ := h
  obtain ⟨⟨a1, a2, a3, a4, a5, a6, a7, a8⟩, hB⟩ := h1 (by decide)
  rw [if_neg (by decide)] at h2
  have a1 : _ + 1 ≤ _ + 0 := a1
  have a2 : _ + 1 ≤ _ + 0 := a2
  have a3 : _ + 0 ≤ _ := a3
  refine ⟨fun _ => ⟨⟨?_, ?_, ?_, by omega, a5, a6, a7, a8⟩, by rw [List.length_cons]; omega⟩, ?_, h3, h4⟩
  · show _ + 0 ≤ _ + 0
    omega
  · show _ + 0 ≤ _ + 0
    omega
  · show _ + 0 ≤ _
    omega
  · rw [if_neg (by decide)]
    refine ⟨⟨?_, ?_, ?_, by rw [List.length_cons]; omega, a5, a6, a7, fun e => absurd e (by decide), a8⟩, hB, h2⟩
    · show _ + (1 + f1 E K) + 0 ≤ _ + 2
      omega
    · show _ + (1 + f2 E K) + 0 ≤ _ + 1
      omega
    · show _ + (0 + f3 E K) + 0 ≤ _
      omega
theorem bd6 {i p st nf nb ns : Nat} {K : List AFr} {c : ACp} {b : ABk} {B : List ABk} (h : Bd E (6, i, K, p, c, b :: B, st, nf, nb, ns)) : Bd E (aTurn E (6, i, K, p, c, b :: B, st, nf, nb, ns)) := by
  obtain ⟨mo, i', p1, K', c', fl, nf', nb', ns'⟩ := b
  obtain ⟨h1, h2, h3, h4⟩ := h
  rw [if_neg (by decide)] at h2
  obtain ⟨g1, g2, g3⟩ := h2
  refine ⟨fun _ => ⟨g1, g2⟩, ?_, h3, g1.2.2.2.2.1⟩
  split
  · exact BBs_mono (by omega) g3
  · exact g3
theorem bd2 (hE : EH E) {i p st nf nb ns : Nat} {K : List AFr} {c : ACp} {B : List ABk} (h : Bd E (2, i, K, p, c, B, st, nf, nb, ns)) (hlt : st < e_lim E) : Bd E (aTurn E (2, i, K, p, c, B, st, nf, nb, ns)) := by
  obtain ⟨h1, h2, h3, h4⟩ := h
  obtain ⟨⟨a1, a2, a3, a4, a5, a6, a7, a8⟩, hB⟩ := h1 (by decide)
  rw [if_pos rfl] at h2
  have a1 : _ + 0 ≤ _ + 2 := a1
  have a2 : _ + 0 ≤ _ + 1 := a2
  have a3 : _ + 0 ≤ _ := a3
  have hn := hE.2.2.2.2.1
  have ht : aTurn E (2, i, K, p, c, B, st, nf, nb, ns) = aAtom E i K p c B st nf nb ns := rfl
  rw [ht]; unfold aAtom
  by_cases h40 : e_t E i = 40
  · rw [if_pos h40]; unfold aOpen
    have op : ∀ (K1 : List AFr) (w nf1 ns1 : Nat), ns1 ≤ ns + 4 → nf1 ≤ nf + 1 → f1 E K1 = f1 E K → f2 E K1 = f2 E K → f3 E K1 = f3 E K → K1.length ≤ nf1 → PK K1 p → KG E K1 → Bd E (1, w, K1, p, c, B, st + 1, nf1, nb, ns1) := by
      intro K1 w nf1 ns1 qs q0 q1 q2 q3 q4 q5 q6
      refine ⟨fun _ => ⟨⟨?_, ?_, ?_, q4, a5, a6, q5, q6⟩, hB⟩, ?_, by omega, h4⟩
      · show _ + 2 * ((e_n E - w) / 3) ≤ _ + 0
        omega
      · show _ + ((e_n E - w) / 3 + 1) ≤ _ + 0
        omega
      · show _ + (e_n E - w) / 4 ≤ _
        omega
      · rw [if_neg (by decide)]; exact h2
    split
    · exact op _ _ _ _ (by omega) (by omega) (Nat.zero_add _) (Nat.zero_add _) (Nat.zero_add _) (by rw [List.length_cons]; omega) ⟨Nat.le_refl _, a7⟩ ⟨fun e => absurd e (by decide), a8⟩
    · split
      · exact op _ _ _ _ (by omega) (by omega) rfl rfl rfl a4 a7 a8
      · split
        · exact op _ _ _ _ (by omega) (by omega) (Nat.zero_add _) (Nat.zero_add _) (Nat.zero_add _) (by rw [List.length_cons]; omega) a7 ⟨fun e => absurd e (by decide), a8⟩
        · split
          · exact op _ _ _ _ (by omega) (by omega) (Nat.zero_add _) (Nat.zero_add _) (Nat.zero_add _) (by rw [List.length_cons]; omega) ⟨Nat.le_refl _, a7⟩ ⟨fun e => absurd e (by decide), a8⟩
          · split
            · refine ⟨fun _ => ⟨⟨?_, ?_, ?_, by rw [List.length_cons]; omega, a5, a6, trivial, fun e => absurd e (by decide), a8⟩, by rw [List.length_cons]; omega⟩, ?_, by omega, h4⟩
              · show _ + (0 + f1 E K) + 2 * ((e_n E - (i + 3)) / 3) ≤ _ + 0
                omega
              · show _ + (0 + f2 E K) + ((e_n E - (i + 3)) / 3 + 1) ≤ _ + 0
                omega
              · show _ + (0 + f3 E K) + (e_n E - (i + 3)) / 4 ≤ _
                omega
              · rw [if_neg (by decide)]
                refine ⟨⟨?_, ?_, ?_, by omega, a5, a6, a7, a8⟩, hB, h2⟩
                · show _ + 0 ≤ _ + 0
                  omega
                · show _ + 0 ≤ _ + 0
                  omega
                · show _ + 0 ≤ _
                  omega
            · split
              · exact ⟨fun e => absurd rfl e, by rw [if_neg (by decide)]; exact h2, by omega, h4⟩
              · exact op _ _ _ _ (by omega) (by omega) (Nat.zero_add _) (Nat.zero_add _) (Nat.zero_add _) (by rw [List.length_cons]; omega) a7 ⟨fun _ => a6, a8⟩
  · rw [if_neg h40]
    cases hp : e_pl E i p c with
    | none => exact ⟨fun e => absurd rfl e, by rw [if_neg (by decide)]; exact h2, by omega, h4⟩
    | some p' =>
      obtain ⟨g1, g2⟩ := hE.2.2.2.1 i p c p' a6 a5 hp
      refine ⟨fun _ => ⟨⟨?_, ?_, ?_, a4, g2, a6, PK_mono g1 a7, a8⟩, hB⟩, ?_, by omega, g2⟩
      · show _ + 0 ≤ _ + 0
        omega
      · show _ + 0 ≤ _ + 0
        omega
      · show _ + 0 ≤ _
        omega
      · rw [if_neg (by decide)]; exact h2
theorem bd5 (hE : EH E) {i p st nf nb ns k w m : Nat} {kp : ACp} {K : List AFr} {c : ACp} {B : List ABk} (h : Bd E (5, i, (k, w, m, kp) :: K, p, c, B, st, nf, nb, ns)) (hk1 : 1 ≤ k) (hk11 : k ≤ 11) : Bd E (aTurn E (5, i, (k, w, m, kp) :: K, p, c, B, st, nf, nb, ns)) := by
  obtain ⟨h1, h2, h3, h4⟩ := h
  obtain ⟨⟨a1, a2, a3, a4, a5, a6, a7, a8⟩, hB⟩ := h1 (by decide)
  rw [if_neg (by decide)] at h2
  rw [List.length_cons] at a4
  have a1 : _ + 0 ≤ _ + 0 := a1
  have a2 : _ + 0 ≤ _ + 0 := a2
  have a3 : _ + 0 ≤ _ := a3
  have hL := hE.2.2.2.2.2.1
  have md5 : ∀ (w' p' : Nat) (c' : ACp) (B' : List ABk), f1 E K ≤ f1 E ((k, w, m, kp) :: K) → f2 E K ≤ f2 E ((k, w, m, kp) :: K) → f3 E K ≤ f3 E ((k, w, m, kp) :: K) → p' ≤ e_L E → CGd (e_L E) c' → PK K p' → BBs E B' st → B'.length ≤ nb → Bd E (5, w', K, p', c', B', st, nf, nb, ns) := by
    intro w' p' c' B' q1 q2 q3 q4 q5 q6 q7 q8
    refine ⟨fun _ => ⟨⟨?_, ?_, ?_, by omega, q4, q5, q6, a8.2⟩, q8⟩, by rw [if_neg (by decide)]; exact q7, h3, q4⟩
    · show _ + 0 ≤ _ + 0
      omega
    · show _ + 0 ≤ _ + 0
      omega
    · show _ + 0 ≤ _
      omega
  have hle1 : f1 E K ≤ f1 E ((k, w, m, kp) :: K) := Nat.le_add_left _ _
  have hle2 : f2 E K ≤ f2 E ((k, w, m, kp) :: K) := Nat.le_add_left _ _
  have hle3 : f3 E K ≤ f3 E ((k, w, m, kp) :: K) := Nat.le_add_left _ _
  have hkk : k = 1 ∨ k = 2 ∨ k = 3 ∨ k = 4 ∨ k = 5 ∨ k = 6 ∨ k = 7 ∨ k = 8 ∨ k = 9 ∨ k = 10 ∨ k = 11 := by omega
  rcases hkk with e | e | e | e | e | e | e | e | e | e | e
  · subst e
    have a1 : _ + (2 * ((e_n E - w) / 3) + f1 E K) + 0 ≤ _ + 0 := a1
    have a2 : _ + ((e_n E - w) / 3 + f2 E K) + 0 ≤ _ + 0 := a2
    have a3 : _ + ((e_n E - w) / 4 + f3 E K) + 0 ≤ _ := a3
    refine ⟨fun _ => ⟨⟨?_, ?_, ?_, by omega, a5, a6, a7, a8.2⟩, hB⟩, by rw [if_neg (by decide)]; exact h2, h3, h4⟩
    · show _ + 2 * ((e_n E - w) / 3) ≤ _ + 0
      omega
    · show _ + (e_n E - w) / 3 ≤ _ + 0
      omega
    · show _ + (e_n E - w) / 4 ≤ _
      omega
  · subst e
    have a7 : m ≤ p ∧ PK K p := a7
    refine md5 0 p _ B hle1 hle2 hle3 a5 ?_ a7.2 h2 hB
    intro g
    unfold cSt
    split
    · right; omega
    · exact a6 g
  · subst e
    exact md5 0 p kp B hle1 hle2 hle3 a5 (a8.1 rfl) a7 h2 hB
  · subst e
    have ht : aTurn E (5, i, (4, w, m, kp) :: K, p, c, B, st, nf, nb, ns) = (if m = p then 5 else 3, w, K, p, c, B, st, nf, nb, ns) := rfl
    rw [ht]
    split
    · exact md5 w p c B hle1 hle2 hle3 a5 a6 a7 h2 hB
    · refine ⟨fun _ => ⟨⟨?_, ?_, ?_, by omega, a5, a6, a7, a8.2⟩, hB⟩, by rw [if_neg (by decide)]; exact h2, h3, h4⟩
      · show _ + 0 ≤ _ + 1
        omega
      · show _ + 0 ≤ _ + 0
        omega
      · show _ + 0 ≤ _
        omega
  · subst e
    have ht : aTurn E (5, i, (5, w, m, kp) :: K, p, c, B, st, nf, nb, ns) = (if m = p then 5 else 4, w, K, p, c, B, st, nf, nb, ns) := rfl
    have a1 : _ + (1 + f1 E K) + 0 ≤ _ + 0 := a1
    have a2 : _ + (1 + f2 E K) + 0 ≤ _ + 0 := a2
    rw [ht]
    split
    · exact md5 w p c B hle1 hle2 hle3 a5 a6 a7 h2 hB
    · refine ⟨fun _ => ⟨⟨?_, ?_, ?_, by omega, a5, a6, a7, a8.2⟩, hB⟩, by rw [if_neg (by decide)]; exact h2, h3, h4⟩
      · show _ + 1 ≤ _ + 0
        omega
      · show _ + 1 ≤ _ + 0
        omega
      · show _ + 0 ≤ _
        omega
  · subst e
    have ht : aTurn E (5, i, (6, w, m, kp) :: K, p, c, B, st, nf, nb, ns) = if m = 0 then (5, w, K, p, c, B, st, nf, nb, ns) else (2, w, (6, w, m - 1, c00) :: K, p, c, B, st, nf + 1, nb, ns) := rfl
    rw [ht]
    split
    · exact md5 w p c B hle1 hle2 hle3 a5 a6 a7 h2 hB
    · refine ⟨fun _ => ⟨⟨?_, ?_, ?_, by rw [List.length_cons]; omega, a5, a6, a7, fun e => absurd e (by decide), a8.2⟩, hB⟩, by rw [if_pos rfl]; exact BBs_mono (by omega) h2, h3, h4⟩
      · show _ + (0 + f1 E K) + 0 ≤ _ + 2
        omega
      · show _ + (0 + f2 E K) + 0 ≤ _ + 1
        omega
      · show _ + (0 + f3 E K) + 0 ≤ _
        omega
  · subst e
    exact md5 0 p c _ hle1 hle2 hle3 a5 a6 a7 (BBs_drop _ h2) (by rw [List.length_drop]; omega)
  · subst e
    have a7 : w ≤ p ∧ PK K w := a7
    exact md5 0 w c _ hle1 hle2 hle3 (by omega) a6 a7.2 (BBs_drop _ h2) (by rw [List.length_drop]; omega)
  · subst e
    exact ⟨fun e => absurd rfl e, by rw [if_neg (by decide)]; exact BBs_drop _ h2, h3, h4⟩
  · subst e
    refine ⟨fun _ => ⟨⟨?_, ?_, ?_, by omega, a5, a6, a7, a8.2⟩, hB⟩, by rw [if_neg (by decide)]; exact h2, h3, h4⟩
    · show _ + 0 ≤ _ + 1
      omega
    · show _ + 0 ≤ _ + 0
      omega
    · show _ + 0 ≤ _
      omega
  · subst e
    have a1 : _ + (1 + f1 E K) + 0 ≤ _ + 0 := a1
    have a2 : _ + (1 + f2 E K) + 0 ≤ _ + 0 := a2
    refine ⟨fun _ => ⟨⟨?_, ?_, ?_, by omega, a5, a6, a7, a8.2⟩, hB⟩, by rw [if_neg (by decide)]; exact h2, h3, h4⟩
    · show _ + 1 ≤ _ + 0
      omega
    · show _ + 1 ≤ _ + 0
      omega
    · show _ + 0 ≤ _
      omega
end BD3
