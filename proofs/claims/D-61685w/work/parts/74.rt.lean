section RTl
variable {E : AEnv}
theorem RT_nch : ∀ {T : List PEn} {B : List ABk} {M : List Nat} {cF fF : ACp} {d : Nat}, RT E T B M cF fF d → B.length = nch T := by
  intro T
  induction T with
  | nil => intro B M cF fF d h; have h : B = [] := h; rw [h]; rfl
  | cons e T ih =>
    obtain ⟨k, a, b, gh⟩ := e
    intro B M cF fF d h
    show B.length = (if k = 0 then 1 else 0) + nch T
    rcases h with h | h | h | h | h | h | h | h
    · obtain ⟨e0, mo, i, K, c, nf, nb, ns, B', hB, hg, hx, hr⟩ := h
      rw [hB, if_pos e0, List.length_cons, ih hr, Nat.add_comm]
    · obtain ⟨e0, m, M', hM, hr⟩ := h
      rw [if_neg (by omega), ih hr, Nat.zero_add]
    · obtain ⟨e0, ha, hr⟩ := h
      rw [if_neg (by omega), ih hr, Nat.zero_add]
    · obtain ⟨e0, ha, hb, hr⟩ := h
      rw [if_neg (by omega), ih hr, Nat.zero_add]
    · obtain ⟨e0, ha, hb, hr⟩ := h
      rw [if_neg (by omega), ih hr, Nat.zero_add]
    · obtain ⟨e0, d', hd, hr⟩ := h
      rw [if_neg (by omega), ih hr, Nat.zero_add]
    · obtain ⟨e0, hr⟩ := h
      rw [if_neg (by omega), ih hr, Nat.zero_add]
    · obtain ⟨e0, hr⟩ := h
      rw [if_neg (by omega), ih hr, Nat.zero_add]
def flB : List ABk → Nat
  | [] => 0
  | (_, _, _, _, _, fl, _, _, _) :: B => fl + flB B
theorem flB_drop : ∀ (k : Nat) (B : List ABk), flB (B.drop k) ≤ flB B := by
  intro k
  induction k with
  | zero => intro B; exact Nat.le_refl _
  | succ k ih =>
    intro B
    cases B with
    | nil => exact Nat.le_refl _
    | cons b B => obtain ⟨b1, b2, b3, b4, b5, fl, b7, b8, b9⟩ := b; have := ih B; show flB (B.drop k) ≤ fl + flB B; omega
theorem RT_filter {T0 : List PEn} : ∀ {T1 : List PEn} {B : List ABk} {M : List Nat} {cF fF : ACp} {d : Nat}, RT E (T1 ++ T0) B M cF fF d → RT E (T1.filter nc ++ T0) (B.drop (nch T1)) M cF fF d := by
  intro T1
  induction T1 with
  | nil => intro B M cF fF d h; exact h
  | cons e T1 ih =>
    obtain ⟨k, a, b, gh⟩ := e
    intro B M cF fF d h
    have h : RT E ((k, a, b, gh) :: (T1 ++ T0)) B M cF fF d := h
    rcases h with h | h | h | h | h | h | h | h
    · obtain ⟨e0, mo, i, K, c, nf, nb, ns, B', hB, hg, hx, hr⟩ := h
      have hn : nch ((k, a, b, gh) :: T1) = nch T1 + 1 := by show (if k = 0 then 1 else 0) + nch T1 = _; rw [if_pos e0, Nat.add_comm]
      rw [hn, hB, List.drop_succ_cons, List.filter_cons_of_neg (by show ¬ (!decide (k = 0)) = true; rw [e0]; decide)]
      exact ih hr
    · obtain ⟨e0, m, M', hM, hr⟩ := h
      have hn : nch ((k, a, b, gh) :: T1) = nch T1 := by show (if k = 0 then 1 else 0) + nch T1 = _; rw [if_neg (by omega), Nat.zero_add]
      rw [hn, List.filter_cons_of_pos (by show (!decide (k = 0)) = true; rw [e0]; decide)]
      exact Or.inr (Or.inl (⟨e0, m, M', hM, ih hr⟩))
    · obtain ⟨e0, ha, hr⟩ := h
      have hn : nch ((k, a, b, gh) :: T1) = nch T1 := by show (if k = 0 then 1 else 0) + nch T1 = _; rw [if_neg (by omega), Nat.zero_add]
      rw [hn, List.filter_cons_of_pos (by show (!decide (k = 0)) = true; rw [e0]; decide)]
      exact Or.inr (Or.inr (Or.inl (⟨e0, ha, ih hr⟩)))
    · obtain ⟨e0, ha, hb, hr⟩ := h
      have hn : nch ((k, a, b, gh) :: T1) = nch T1 := by show (if k = 0 then 1 else 0) + nch T1 = _; rw [if_neg (by omega), Nat.zero_add]
      rw [hn, List.filter_cons_of_pos (by show (!decide (k = 0)) = true; rw [e0]; decide)]
      exact Or.inr (Or.inr (Or.inr (Or.inl (⟨e0, ha, hb, ih hr⟩))))
    · obtain ⟨e0, ha, hb, hr⟩ := h
      have hn : nch ((k, a, b, gh) :: T1) = nch T1 := by show (if k = 0 then 1 else 0) + nch T1 = _; rw [if_neg (by omega), Nat.zero_add]
      rw [hn, List.filter_cons_of_pos (by show (!decide (k = 0)) = true; rw [e0]; decide)]
      exact Or.inr (Or.inr (Or.inr (Or.inr (Or.inl (⟨e0, ha, hb, ih hr⟩)))))
    · obtain ⟨e0, d', hd, hr⟩ := h
      have hn : nch ((k, a, b, gh) :: T1) = nch T1 := by show (if k = 0 then 1 else 0) + nch T1 = _; rw [if_neg (by omega), Nat.zero_add]
      rw [hn, List.filter_cons_of_pos (by show (!decide (k = 0)) = true; rw [e0]; decide)]
      exact Or.inr (Or.inr (Or.inr (Or.inr (Or.inr (Or.inl (⟨e0, d', hd, ih hr⟩))))))
    · obtain ⟨e0, hr⟩ := h
      have hn : nch ((k, a, b, gh) :: T1) = nch T1 := by show (if k = 0 then 1 else 0) + nch T1 = _; rw [if_neg (by omega), Nat.zero_add]
      rw [hn, List.filter_cons_of_pos (by show (!decide (k = 0)) = true; rw [e0]; decide)]
      exact Or.inr (Or.inr (Or.inr (Or.inr (Or.inr (Or.inr (Or.inl (⟨e0, ih hr⟩)))))))
    · obtain ⟨e0, hr⟩ := h
      have hn : nch ((k, a, b, gh) :: T1) = nch T1 := by show (if k = 0 then 1 else 0) + nch T1 = _; rw [if_neg (by omega), Nat.zero_add]
      rw [hn, List.filter_cons_of_pos (by show (!decide (k = 0)) = true; rw [e0]; decide)]
      exact Or.inr (Or.inr (Or.inr (Or.inr (Or.inr (Or.inr (Or.inr (⟨e0, ih hr⟩)))))))
theorem RT_not {T0 : List PEn} {a0 b0 g0 : Nat} : ∀ {T1 : List PEn} {B : List ABk} {M : List Nat} {cF fF : ACp} {d : Nat}, RT E (T1 ++ (0, a0, b0, g0) :: T0) B M cF fF d → RT E (T1.filter nc ++ (7, a0, b0, g0) :: T0) (B.drop (nch T1 + 1)) M cF fF d ∧ flB (B.drop (nch T1 + 1)) + g0 ≤ flB B := by
  intro T1
  induction T1 with
  | nil =>
    intro B M cF fF d h
    have h : RT E ((0, a0, b0, g0) :: T0) B M cF fF d := h
    rcases h with h | h | h | h | h | h | h | h
    · obtain ⟨e0, mo, i, K, c, nf, nb, ns, B', hB, hg, hx, hr⟩ := h
      rw [hB]; exact ⟨Or.inr (Or.inr (Or.inr (Or.inr (Or.inr (Or.inr (Or.inr (⟨rfl, hr⟩))))))), by show flB B' + g0 ≤ g0 + flB B'; omega⟩
    · obtain ⟨e0, m, M', hM, hr⟩ := h
      exact absurd e0 (by decide)
    · obtain ⟨e0, ha, hr⟩ := h
      exact absurd e0 (by decide)
    · obtain ⟨e0, ha, hb, hr⟩ := h
      exact absurd e0 (by decide)
    · obtain ⟨e0, ha, hb, hr⟩ := h
      exact absurd e0 (by decide)
    · obtain ⟨e0, d', hd, hr⟩ := h
      exact absurd e0 (by decide)
    · obtain ⟨e0, hr⟩ := h
      exact absurd e0 (by decide)
    · obtain ⟨e0, hr⟩ := h
      exact absurd e0 (by decide)
  | cons e T1 ih =>
    obtain ⟨k, a, b, gh⟩ := e
    intro B M cF fF d h
    have h : RT E ((k, a, b, gh) :: (T1 ++ (0, a0, b0, g0) :: T0)) B M cF fF d := h
    rcases h with h | h | h | h | h | h | h | h
    · obtain ⟨e0, mo, i, K, c, nf, nb, ns, B', hB, hg, hx, hr⟩ := h
      have ih := ih hr
      have hn : nch ((k, a, b, gh) :: T1) = nch T1 + 1 := by show (if k = 0 then 1 else 0) + nch T1 = _; rw [if_pos e0, Nat.add_comm]
      rw [hn, hB, List.drop_succ_cons, List.filter_cons_of_neg (by show ¬ (!decide (k = 0)) = true; rw [e0]; decide)]
      exact ⟨ih.1, by have := ih.2; show _ ≤ gh + flB B'; omega⟩
    · obtain ⟨e0, m, M', hM, hr⟩ := h
      have ih := ih hr
      have hn : nch ((k, a, b, gh) :: T1) = nch T1 := by show (if k = 0 then 1 else 0) + nch T1 = _; rw [if_neg (by omega), Nat.zero_add]
      rw [hn, List.filter_cons_of_pos (by show (!decide (k = 0)) = true; rw [e0]; decide)]
      exact ⟨Or.inr (Or.inl (⟨e0, m, M', hM, ih.1⟩)), ih.2⟩
    · obtain ⟨e0, ha, hr⟩ := h
      have ih := ih hr
      have hn : nch ((k, a, b, gh) :: T1) = nch T1 := by show (if k = 0 then 1 else 0) + nch T1 = _; rw [if_neg (by omega), Nat.zero_add]
      rw [hn, List.filter_cons_of_pos (by show (!decide (k = 0)) = true; rw [e0]; decide)]
      exact ⟨Or.inr (Or.inr (Or.inl (⟨e0, ha, ih.1⟩))), ih.2⟩
    · obtain ⟨e0, ha, hb, hr⟩ := h
      have ih := ih hr
      have hn : nch ((k, a, b, gh) :: T1) = nch T1 := by show (if k = 0 then 1 else 0) + nch T1 = _; rw [if_neg (by omega), Nat.zero_add]
      rw [hn, List.filter_cons_of_pos (by show (!decide (k = 0)) = true; rw [e0]; decide)]
      exact ⟨Or.inr (Or.inr (Or.inr (Or.inl (⟨e0, ha, hb, ih.1⟩)))), ih.2⟩
    · obtain ⟨e0, ha, hb, hr⟩ := h
      have ih := ih hr
      have hn : nch ((k, a, b, gh) :: T1) = nch T1 := by show (if k = 0 then 1 else 0) + nch T1 = _; rw [if_neg (by omega), Nat.zero_add]
      rw [hn, List.filter_cons_of_pos (by show (!decide (k = 0)) = true; rw [e0]; decide)]
      exact ⟨Or.inr (Or.inr (Or.inr (Or.inr (Or.inl (⟨e0, ha, hb, ih.1⟩))))), ih.2⟩
    · obtain ⟨e0, d', hd, hr⟩ := h
      have ih := ih hr
      have hn : nch ((k, a, b, gh) :: T1) = nch T1 := by show (if k = 0 then 1 else 0) + nch T1 = _; rw [if_neg (by omega), Nat.zero_add]
      rw [hn, List.filter_cons_of_pos (by show (!decide (k = 0)) = true; rw [e0]; decide)]
      exact ⟨Or.inr (Or.inr (Or.inr (Or.inr (Or.inr (Or.inl (⟨e0, d', hd, ih.1⟩)))))), ih.2⟩
    · obtain ⟨e0, hr⟩ := h
      have ih := ih hr
      have hn : nch ((k, a, b, gh) :: T1) = nch T1 := by show (if k = 0 then 1 else 0) + nch T1 = _; rw [if_neg (by omega), Nat.zero_add]
      rw [hn, List.filter_cons_of_pos (by show (!decide (k = 0)) = true; rw [e0]; decide)]
      exact ⟨Or.inr (Or.inr (Or.inr (Or.inr (Or.inr (Or.inr (Or.inl (⟨e0, ih.1⟩))))))), ih.2⟩
    · obtain ⟨e0, hr⟩ := h
      have ih := ih hr
      have hn : nch ((k, a, b, gh) :: T1) = nch T1 := by show (if k = 0 then 1 else 0) + nch T1 = _; rw [if_neg (by omega), Nat.zero_add]
      rw [hn, List.filter_cons_of_pos (by show (!decide (k = 0)) = true; rw [e0]; decide)]
      exact ⟨Or.inr (Or.inr (Or.inr (Or.inr (Or.inr (Or.inr (Or.inr (⟨e0, ih.1⟩))))))), ih.2⟩
theorem RT_undo0 {S : Nat → Nat → List Nat → List PEn → ACp → ACp → Nat → Prop} {Z : Prop} (hZ : Z) : ∀ {T : List PEn} {M : List Nat} {cF fF : ACp} {d : Nat}, RT E T [] M cF fF d → pUndo S Z T M cF fF d := by
  intro T
  induction T with
  | nil => intro M cF fF d h; exact hZ
  | cons e T ih =>
    obtain ⟨k, a, b, gh⟩ := e
    intro M cF fF d h
    rcases h with h | h | h | h | h | h | h | h
    · obtain ⟨e0, mo, i, K, c, nf, nb, ns, B', hB, hg, hx, hr⟩ := h
      cases hB
    · obtain ⟨e0, m, M', hM, hr⟩ := h
      exact Or.inr (Or.inl (⟨e0, m, M', hM, ih hr⟩))
    · obtain ⟨e0, ha, hr⟩ := h
      exact Or.inr (Or.inr (Or.inl (⟨e0, ha, ih hr⟩)))
    · obtain ⟨e0, ha, hb, hr⟩ := h
      exact Or.inr (Or.inr (Or.inr (Or.inl (⟨e0, ha, hb, ih hr⟩))))
    · obtain ⟨e0, ha, hb, hr⟩ := h
      exact Or.inr (Or.inr (Or.inr (Or.inr (Or.inl (⟨e0, ha, hb, ih hr⟩)))))
    · obtain ⟨e0, d', hd, hr⟩ := h
      exact Or.inr (Or.inr (Or.inr (Or.inr (Or.inr (Or.inl (⟨e0, d', hd, ih hr⟩))))))
    · obtain ⟨e0, hr⟩ := h
      exact Or.inr (Or.inr (Or.inr (Or.inr (Or.inr (Or.inr (Or.inl (⟨e0, ih hr⟩)))))))
    · obtain ⟨e0, hr⟩ := h
      exact Or.inr (Or.inr (Or.inr (Or.inr (Or.inr (Or.inr (Or.inr (⟨e0, ih hr⟩)))))))
theorem RT_undo1 {mo i p fl nf nb ns : Nat} {K : List AFr} {c : ACp} {B' : List ABk} : ∀ {T : List PEn} {M : List Nat} {cF fF : ACp} {d : Nat}, (∀ a, fF a < 2 ^ 20) → RT E T ((mo, i, p, K, c, fl, nf, nb, ns) :: B') M cF fF d → ∃ (a x : Nat) (M1 : List Nat) (T1 : List PEn) (cF1 fF1 : ACp) (d1 : Nat), RS E mo i x a p M1 cF1 fF1 d1 T1 K c nf nb ns ∧ RT E T1 B' M1 cF1 fF1 d1 ∧ (∀ a, fF1 a < 2 ^ 20) ∧ ∀ (S : Nat → Nat → List Nat → List PEn → ACp → ACp → Nat → Prop) (Z : Prop), S a p M1 T1 cF1 fF1 d1 → pUndo S Z T M cF fF d := by
  intro T
  induction T with
  | nil => intro M cF fF d hf h; exact absurd h (by intro q; cases q)
  | cons e T ih =>
    obtain ⟨k, a, b, gh⟩ := e
    intro M cF fF d hf h
    rcases h with h | h | h | h | h | h | h | h
    · obtain ⟨e0, mo', i', K', c', nf', nb', ns', B'', hB, hg, ⟨x, hx⟩, hr⟩ := h
      cases hB
      exact ⟨a, x, M, T, cF, fF, d, hx, hr, hf, fun S Z hS => Or.inl ⟨e0, hS⟩⟩
    · obtain ⟨e0, m, M', hM, hr⟩ := h
      obtain ⟨a1, x1, M1, T1, cF1, fF1, d1, g1, g2, g3, g4⟩ := ih hf hr
      exact ⟨a1, x1, M1, T1, cF1, fF1, d1, g1, g2, g3, fun S Z hS => Or.inr (Or.inl (⟨e0, m, M', hM, g4 S Z hS⟩))⟩
    · obtain ⟨e0, ha, hr⟩ := h
      obtain ⟨a1, x1, M1, T1, cF1, fF1, d1, g1, g2, g3, g4⟩ := ih hf hr
      exact ⟨a1, x1, M1, T1, cF1, fF1, d1, g1, g2, g3, fun S Z hS => Or.inr (Or.inr (Or.inl (⟨e0, ha, g4 S Z hS⟩)))⟩
    · obtain ⟨e0, ha, hb, hr⟩ := h
      obtain ⟨a1, x1, M1, T1, cF1, fF1, d1, g1, g2, g3, g4⟩ := ih hf hr
      exact ⟨a1, x1, M1, T1, cF1, fF1, d1, g1, g2, g3, fun S Z hS => Or.inr (Or.inr (Or.inr (Or.inl (⟨e0, ha, hb, g4 S Z hS⟩))))⟩
    · obtain ⟨e0, ha, hb, hr⟩ := h
      obtain ⟨a1, x1, M1, T1, cF1, fF1, d1, g1, g2, g3, g4⟩ := ih (fun j => by unfold uN; split; exact hb; exact hf j) hr
      exact ⟨a1, x1, M1, T1, cF1, fF1, d1, g1, g2, g3, fun S Z hS => Or.inr (Or.inr (Or.inr (Or.inr (Or.inl (⟨e0, ha, hb, g4 S Z hS⟩)))))⟩
    · obtain ⟨e0, d', hd, hr⟩ := h
      obtain ⟨a1, x1, M1, T1, cF1, fF1, d1, g1, g2, g3, g4⟩ := ih hf hr
      exact ⟨a1, x1, M1, T1, cF1, fF1, d1, g1, g2, g3, fun S Z hS => Or.inr (Or.inr (Or.inr (Or.inr (Or.inr (Or.inl (⟨e0, d', hd, g4 S Z hS⟩))))))⟩
    · obtain ⟨e0, hr⟩ := h
      obtain ⟨a1, x1, M1, T1, cF1, fF1, d1, g1, g2, g3, g4⟩ := ih hf hr
      exact ⟨a1, x1, M1, T1, cF1, fF1, d1, g1, g2, g3, fun S Z hS => Or.inr (Or.inr (Or.inr (Or.inr (Or.inr (Or.inr (Or.inl (⟨e0, g4 S Z hS⟩)))))))⟩
    · obtain ⟨e0, hr⟩ := h
      obtain ⟨a1, x1, M1, T1, cF1, fF1, d1, g1, g2, g3, g4⟩ := ih hf hr
      exact ⟨a1, x1, M1, T1, cF1, fF1, d1, g1, g2, g3, fun S Z hS => Or.inr (Or.inr (Or.inr (Or.inr (Or.inr (Or.inr (Or.inr (⟨e0, g4 S Z hS⟩)))))))⟩
theorem pSet_val (k : Nat) (s : List PEn × ACp) (a v j : Nat) : (pSet k s a v).2 j = if j = a then v else s.2 j := by
  unfold pSet; split
  · next h => split
              · next q => rw [q]; exact h
              · rfl
  · rfl
theorem pSet_app (k : Nat) (s : List PEn × ACp) (a v : Nat) : ∃ T2, (pSet k s a v).1 = T2 ++ s.1 ∧ T2.length ≤ 1 := by
  unfold pSet; split
  · exact ⟨[], rfl, by decide⟩
  · exact ⟨[(k, a, s.2 a, 0)], rfl, Nat.le_refl _⟩
theorem pSetL_val (k : Nat) (f : Nat → Nat) (off : Nat) : ∀ (js : List Nat) (s : List PEn × ACp) (j : Nat), (off + j ∈ js.map (fun a => off + a) → (pSetL k f off js s).2 (off + j) = f j) ∧ ∀ c, c ∉ js.map (fun a => off + a) → (pSetL k f off js s).2 c = s.2 c := by
  intro js
  induction js with
  | nil => intro s j; exact ⟨fun h => absurd h (by intro q; cases q), fun c _ => rfl⟩
  | cons a js ih =>
    intro s j
    have ih := ih (pSet k s (off + a) (f a))
    refine ⟨fun h => ?_, fun c h => ?_⟩
    · show (pSetL k f off js (pSet k s (off + a) (f a))).2 (off + j) = f j
      by_cases q : off + j ∈ js.map (fun a => off + a)
      · exact (ih j).1 q
      · rw [(ih j).2 _ q, pSet_val]
        rcases List.mem_cons.mp h with r | r
        · have r2 : off + j = off + a := r
          have r3 : a = j := by omega
          rw [if_pos r, r3]
        · exact absurd r q
    · show (pSetL k f off js (pSet k s (off + a) (f a))).2 c = s.2 c
      have h' := fun q => h (List.mem_cons.mpr q)
      rw [(ih j).2 c (fun q => h' (Or.inr q)), pSet_val, if_neg (fun q => h' (Or.inl q))]
theorem pSetL_app (k : Nat) (f : Nat → Nat) (off : Nat) : ∀ (js : List Nat) (s : List PEn × ACp), ∃ T2, (pSetL k f off js s).1 = T2 ++ s.1 ∧ T2.length ≤ js.length := by
  intro js
  induction js with
  | nil => intro s; exact ⟨[], rfl, Nat.le_refl _⟩
  | cons a js ih =>
    intro s
    obtain ⟨T2, h1, h2⟩ := ih (pSet k s (off + a) (f a))
    obtain ⟨T3, h3, h4⟩ := pSet_app k s (off + a) (f a)
    exact ⟨T2 ++ T3, by show (pSetL k f off js (pSet k s (off + a) (f a))).1 = _; rw [h1, h3, List.append_assoc], by rw [List.length_append, List.length_cons]; omega⟩
theorem RT_pSet4 {s : List PEn × ACp} {B : List ABk} {M : List Nat} {cF : ACp} {d a v : Nat} (ha : a < 120) (hf : ∀ j, s.2 j < 2 ^ 20) (h : RT E s.1 B M cF s.2 d) : RT E (pSet 4 s a v).1 B M cF (pSet 4 s a v).2 d := by
  unfold pSet; split
  · exact h
  · exact Or.inr (Or.inr (Or.inr (Or.inr (Or.inl ⟨rfl, ha, hf a, by rw [uN_uN]; exact h⟩))))
theorem RT_pSet3 {s : List PEn × ACp} {B : List ABk} {M : List Nat} {fF : ACp} {d a v : Nat} (h2 : 2 ≤ a) (ha : a < 10) (h : RT E s.1 B M s.2 fF d) : RT E (pSet 3 s a v).1 B M (pSet 3 s a v).2 fF d := by
  unfold pSet; split
  · exact h
  · exact Or.inr (Or.inr (Or.inr (Or.inl ⟨rfl, h2, ha, by rw [uN_uN]; exact h⟩)))
theorem pSet_fb {k : Nat} {s : List PEn × ACp} {a v : Nat} (hv : v < 2 ^ 20) (hf : ∀ j, s.2 j < 2 ^ 20) : ∀ j, (pSet k s a v).2 j < 2 ^ 20 := fun j => by
  rw [pSet_val]; split
  · exact hv
  · exact hf j
theorem RT_pSetL4 {f : Nat → Nat} {off : Nat} {B : List ABk} {M : List Nat} {cF : ACp} {d : Nat} : ∀ (js : List Nat) (s : List PEn × ACp), (∀ j, j ∈ js → off + j < 120 ∧ f j < 2 ^ 20) → (∀ j, s.2 j < 2 ^ 20) → RT E s.1 B M cF s.2 d → RT E (pSetL 4 f off js s).1 B M cF (pSetL 4 f off js s).2 d ∧ ∀ j, (pSetL 4 f off js s).2 j < 2 ^ 20 := by
  intro js
  induction js with
  | nil => intro s _ hf h; exact ⟨h, hf⟩
  | cons a js ih =>
    intro s hj hf h
    have ha := hj a (List.mem_cons_self ..)
    exact ih (pSet 4 s (off + a) (f a)) (fun j q => hj j (List.mem_cons_of_mem _ q)) (pSet_fb ha.2 hf) (RT_pSet4 ha.1 hf h)
theorem RT_pSetL3 {f : Nat → Nat} {B : List ABk} {M : List Nat} {fF : ACp} {d : Nat} : ∀ (js : List Nat) (s : List PEn × ACp), (∀ j, j ∈ js → 2 ≤ j ∧ j < 10) → RT E s.1 B M s.2 fF d → RT E (pSetL 3 f 0 js s).1 B M (pSetL 3 f 0 js s).2 fF d := by
  intro js
  induction js with
  | nil => intro s _ h; exact h
  | cons a js ih =>
    intro s hj h
    have ha := hj a (List.mem_cons_self ..)
    exact ih (pSet 3 s (0 + a) (f a)) (fun j q => hj j (List.mem_cons_of_mem _ q)) (RT_pSet3 (by omega) (by omega) h)
end RTl
