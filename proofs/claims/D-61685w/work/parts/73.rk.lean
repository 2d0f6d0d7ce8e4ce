section RKl
variable {E : AEnv}
theorem RK_x : ∀ {K : List AFr} {x pc : Nat} {M : List Nat} {fF : ACp} {d : Nat} {T : List PEn}, RK E K x pc M fF d T → x ≤ 3 * e_n E + 2 := by
  intro K x pc M fF d T h
  cases K with
  | nil => exact h.1
  | cons f K => obtain ⟨k, w, m, kp⟩ := f; exact h.1
theorem RK_le {x x' pc : Nat} {M : List Nat} {fF : ACp} {d : Nat} {T : List PEn} (hx : x' ≤ x) {K : List AFr} (h : RK E K x pc M fF d T) : RK E K x' pc M fF d T := by
  cases K with
  | nil => exact ⟨by have := h.1; omega, h.2⟩
  | cons f K =>
    obtain ⟨k, w, m, kp⟩ := f
    obtain ⟨hx0, hh, a, hg, h⟩ := h
    refine ⟨by omega, hh, a, hg, ?_⟩
    rcases h with h | h | h | h | h | h | h | h | h
    · obtain ⟨e0, e1, e2, e3, q, j, y, h1, h2, h3⟩ := h
      exact Or.inl (⟨e0, by omega, e2, e3, q, j, y, h1, h2, h3⟩)
    · obtain ⟨e0, e1, e2, e3, e4, e5, M', y, h1, h2, h3⟩ := h
      exact Or.inr (Or.inl (⟨e0, e1, e2, e3, e4, e5, M', y, h1, by omega, h3⟩))
    · obtain ⟨e0, e1, e2, e3, d', y, h1, h2, h3⟩ := h
      exact Or.inr (Or.inr (Or.inl (⟨e0, e1, e2, e3, d', y, h1, h2, h3⟩)))
    · obtain ⟨e0, e1, e2, e3, q, e, y, M', h1, h2, h3, h4, h5, h6⟩ := h
      exact Or.inr (Or.inr (Or.inr (Or.inl (⟨e0, e1, e2, e3, q, e, y, M', h1, h2, h3, by omega, h5, h6⟩))))
    · obtain ⟨e0, e1, e2, q, e, y, h1, h2, h3, h4⟩ := h
      exact Or.inr (Or.inr (Or.inr (Or.inr (Or.inl (⟨e0, e1, e2, q, e, y, h1, h2, by omega, h4⟩)))))
    · obtain ⟨e0, e1, e2, v, M', T1, T0, y, h1, h2, h3, h4, h5, h6⟩ := h
      exact Or.inr (Or.inr (Or.inr (Or.inr (Or.inr (Or.inl (⟨e0, e1, e2, v, M', T1, T0, y, h1, h2, h3, h4, by omega, h6⟩))))))
    · obtain ⟨e0, e1, e2, M', T1, T0, y, h1, h2, h3, h4, h5⟩ := h
      exact Or.inr (Or.inr (Or.inr (Or.inr (Or.inr (Or.inr (Or.inl (⟨e0, e1, e2, M', T1, T0, y, h1, h2, h3, by omega, h5⟩)))))))
    · obtain ⟨e0, e1, e2, v, M', T1, T0, b1, b2, r, y, h1, h2, h3, h4, h5⟩ := h
      exact Or.inr (Or.inr (Or.inr (Or.inr (Or.inr (Or.inr (Or.inr (Or.inl (⟨e0, e1, e2, v, M', T1, T0, b1, b2, r, y, h1, h2, h3, h4, h5⟩))))))))
    · obtain ⟨e0, e1, e2, q, e, y, h1, h2, h3, h4⟩ := h
      exact Or.inr (Or.inr (Or.inr (Or.inr (Or.inr (Or.inr (Or.inr (Or.inr (⟨e0, e1, e2, q, e, y, h1, by omega, h3, h4⟩))))))))
theorem RK_go {x pc : Nat} {M : List Nat} {fF : ACp} {d : Nat} {T : List PEn} {K : List AFr} (ho : o_ E pc = 9) (h : RK E K x (x_ E pc) M fF d T) : RK E K x pc M fF d T := by
  cases K with
  | nil => obtain ⟨h0, k, a, hg, h⟩ := h; exact ⟨h0, k + 1, a, ⟨ho, hg⟩, h⟩
  | cons f K =>
    obtain ⟨k, w, m, kp⟩ := f
    obtain ⟨h0, k, a, hg, h⟩ := h; exact ⟨h0, k + 1, a, ⟨ho, hg⟩, h⟩
theorem RK_app {fF : ACp} (T' : List PEn) : ∀ {K : List AFr} {x pc : Nat} {M : List Nat} {d : Nat} {T : List PEn}, RK E K x pc M fF d T → RK E K x pc M fF d (T' ++ T) := by
  intro K
  induction K with
  | nil => intro x pc M d T h; exact h
  | cons f K ih =>
    obtain ⟨k, w, m, kp⟩ := f
    intro x pc M d T h
    obtain ⟨hx0, hh, a, hg, h⟩ := h
    refine ⟨hx0, hh, a, hg, ?_⟩
    rcases h with h | h | h | h | h | h | h | h | h
    · obtain ⟨e0, e1, e2, e3, q, j, y, h1, h2, h3⟩ := h
      exact Or.inl (⟨e0, e1, e2, e3, q, j, y, h1, h2, ih (h3)⟩)
    · obtain ⟨e0, e1, e2, e3, e4, e5, M', y, h1, h2, h3⟩ := h
      exact Or.inr (Or.inl (⟨e0, e1, e2, e3, e4, e5, M', y, h1, h2, ih (h3)⟩))
    · obtain ⟨e0, e1, e2, e3, d', y, h1, h2, h3⟩ := h
      exact Or.inr (Or.inr (Or.inl (⟨e0, e1, e2, e3, d', y, h1, h2, ih (h3)⟩)))
    · obtain ⟨e0, e1, e2, e3, q, e, y, M', h1, h2, h3, h4, h5, h6⟩ := h
      exact Or.inr (Or.inr (Or.inr (Or.inl (⟨e0, e1, e2, e3, q, e, y, M', h1, h2, h3, h4, h5, ih (h6)⟩))))
    · obtain ⟨e0, e1, e2, q, e, y, h1, h2, h3, h4⟩ := h
      exact Or.inr (Or.inr (Or.inr (Or.inr (Or.inl (⟨e0, e1, e2, q, e, y, h1, h2, h3, ih (h4)⟩)))))
    · obtain ⟨e0, e1, e2, v, M', T1, T0, y, h1, h2, h3, h4, h5, h6⟩ := h
      exact Or.inr (Or.inr (Or.inr (Or.inr (Or.inr (Or.inl (⟨e0, e1, e2, v, M', T' ++ T1, T0, y, h1, h2, by rw [h3, List.append_assoc], h4, h5, (h6)⟩))))))
    · obtain ⟨e0, e1, e2, M', T1, T0, y, h1, h2, h3, h4, h5⟩ := h
      exact Or.inr (Or.inr (Or.inr (Or.inr (Or.inr (Or.inr (Or.inl (⟨e0, e1, e2, M', T' ++ T1, T0, y, h1, by rw [h2, List.append_assoc], h3, h4, (h5)⟩)))))))
    · obtain ⟨e0, e1, e2, v, M', T1, T0, b1, b2, r, y, h1, h2, h3, h4, h5⟩ := h
      exact Or.inr (Or.inr (Or.inr (Or.inr (Or.inr (Or.inr (Or.inr (Or.inl (⟨e0, e1, e2, v, M', T' ++ T1, T0, b1, b2, r, y, h1, h2, by rw [h3, List.append_assoc], h4, (h5)⟩))))))))
    · obtain ⟨e0, e1, e2, q, e, y, h1, h2, h3, h4⟩ := h
      exact Or.inr (Or.inr (Or.inr (Or.inr (Or.inr (Or.inr (Or.inr (Or.inr (⟨e0, e1, e2, q, e, y, h1, h2, h3, ih (h4)⟩))))))))
theorem RK_fF {fF fF' : ACp} : ∀ {K : List AFr} {x pc : Nat} {M : List Nat} {d : Nat} {T : List PEn}, (∀ a, a < 10 * d → fF' a = fF a) → RK E K x pc M fF d T → RK E K x pc M fF' d T := by
  intro K
  induction K with
  | nil => intro x pc M d T hf h; exact h
  | cons f K ih =>
    obtain ⟨k, w, m, kp⟩ := f
    intro x pc M d T hf h
    obtain ⟨hx0, hh, a, hg, h⟩ := h
    refine ⟨hx0, hh, a, hg, ?_⟩
    rcases h with h | h | h | h | h | h | h | h | h
    · obtain ⟨e0, e1, e2, e3, q, j, y, h1, h2, h3⟩ := h
      exact Or.inl (⟨e0, e1, e2, e3, q, j, y, h1, h2, ih hf (h3)⟩)
    · obtain ⟨e0, e1, e2, e3, e4, e5, M', y, h1, h2, h3⟩ := h
      exact Or.inr (Or.inl (⟨e0, e1, e2, e3, e4, e5, M', y, h1, h2, ih hf (h3)⟩))
    · obtain ⟨e0, e1, e2, e3, d', y, h1, h2, h3⟩ := h
      exact Or.inr (Or.inr (Or.inl (⟨e0, e1, e2, e3, d', y, h1, fun g g1 g4 => by rw [hf _ (by omega), hf _ (by omega)]; exact h2 g g1 g4, by rw [hf _ (by omega)]; exact ih (fun a ha => hf a (by omega)) (h3)⟩)))
    · obtain ⟨e0, e1, e2, e3, q, e, y, M', h1, h2, h3, h4, h5, h6⟩ := h
      exact Or.inr (Or.inr (Or.inr (Or.inl (⟨e0, e1, e2, e3, q, e, y, M', h1, h2, h3, h4, h5, ih hf (h6)⟩))))
    · obtain ⟨e0, e1, e2, q, e, y, h1, h2, h3, h4⟩ := h
      exact Or.inr (Or.inr (Or.inr (Or.inr (Or.inl (⟨e0, e1, e2, q, e, y, h1, h2, h3, ih hf (h4)⟩)))))
    · obtain ⟨e0, e1, e2, v, M', T1, T0, y, h1, h2, h3, h4, h5, h6⟩ := h
      exact Or.inr (Or.inr (Or.inr (Or.inr (Or.inr (Or.inl (⟨e0, e1, e2, v, M', T1, T0, y, h1, h2, h3, h4, h5, ih hf (h6)⟩))))))
    · obtain ⟨e0, e1, e2, M', T1, T0, y, h1, h2, h3, h4, h5⟩ := h
      exact Or.inr (Or.inr (Or.inr (Or.inr (Or.inr (Or.inr (Or.inl (⟨e0, e1, e2, M', T1, T0, y, h1, h2, h3, h4, ih hf (h5)⟩)))))))
    · obtain ⟨e0, e1, e2, v, M', T1, T0, b1, b2, r, y, h1, h2, h3, h4, h5⟩ := h
      exact Or.inr (Or.inr (Or.inr (Or.inr (Or.inr (Or.inr (Or.inr (Or.inl (⟨e0, e1, e2, v, M', T1, T0, b1, b2, r, y, h1, h2, h3, h4, ih hf (h5)⟩))))))))
    · obtain ⟨e0, e1, e2, q, e, y, h1, h2, h3, h4⟩ := h
      exact Or.inr (Or.inr (Or.inr (Or.inr (Or.inr (Or.inr (Or.inr (Or.inr (⟨e0, e1, e2, q, e, y, h1, h2, h3, ih hf (h4)⟩))))))))
theorem RK_calls {fF : ACp} : ∀ {K : List AFr} {x pc : Nat} {M : List Nat} {d : Nat} {T : List PEn}, RK E K x pc M fF d T → aCalls K = d := by
  intro K
  induction K with
  | nil => intro x pc M d T h; obtain ⟨_, k, a, _, _, hd, _⟩ := h; exact hd.symm
  | cons f K ih =>
    obtain ⟨k, w, m, kp⟩ := f
    intro x pc M d T h
    obtain ⟨hx0, hh, a, hg, h⟩ := h
    show (if k = 3 then 1 else 0) + aCalls K = d
    rcases h with h | h | h | h | h | h | h | h | h
    · obtain ⟨e0, e1, e2, e3, q, j, y, h1, h2, h3⟩ := h
      rw [if_neg (by omega), ih h3]; omega
    · obtain ⟨e0, e1, e2, e3, e4, e5, M', y, h1, h2, h3⟩ := h
      rw [if_neg (by omega), ih h3]; omega
    · obtain ⟨e0, e1, e2, e3, d', y, h1, h2, h3⟩ := h
      rw [if_pos e0, ih h3, h1]; omega
    · obtain ⟨e0, e1, e2, e3, q, e, y, M', h1, h2, h3, h4, h5, h6⟩ := h
      rw [if_neg (by omega), ih h6]; omega
    · obtain ⟨e0, e1, e2, q, e, y, h1, h2, h3, h4⟩ := h
      rw [if_neg (by omega), ih h4]; omega
    · obtain ⟨e0, e1, e2, v, M', T1, T0, y, h1, h2, h3, h4, h5, h6⟩ := h
      rw [if_neg (by omega), ih h6]; omega
    · obtain ⟨e0, e1, e2, M', T1, T0, y, h1, h2, h3, h4, h5⟩ := h
      rw [if_neg (by omega), ih h5]; omega
    · obtain ⟨e0, e1, e2, v, M', T1, T0, b1, b2, r, y, h1, h2, h3, h4, h5⟩ := h
      rw [if_neg (by omega), ih h5]; omega
    · obtain ⟨e0, e1, e2, q, e, y, h1, h2, h3, h4⟩ := h
      rw [if_neg (by omega), ih h4]; omega
theorem RK_len {fF : ACp} : ∀ {K : List AFr} {x pc : Nat} {M : List Nat} {d : Nat} {T : List PEn}, RK E K x pc M fF d T → M.length ≤ 2 * K.length := by
  intro K
  induction K with
  | nil => intro x pc M d T h; obtain ⟨_, k, a, _, _, _, hd⟩ := h; rw [hd]; exact Nat.le_refl _
  | cons f K ih =>
    obtain ⟨k, w, m, kp⟩ := f
    intro x pc M d T h
    obtain ⟨hx0, hh, a, hg, h⟩ := h
    show M.length ≤ 2 * (K.length + 1)
    rcases h with h | h | h | h | h | h | h | h | h
    · obtain ⟨e0, e1, e2, e3, q, j, y, h1, h2, h3⟩ := h
      have := ih h3
      omega
    · obtain ⟨e0, e1, e2, e3, e4, e5, M', y, h1, h2, h3⟩ := h
      have := ih h3
      rw [h1]; simp only [List.length_cons]; omega
    · obtain ⟨e0, e1, e2, e3, d', y, h1, h2, h3⟩ := h
      have := ih h3
      omega
    · obtain ⟨e0, e1, e2, e3, q, e, y, M', h1, h2, h3, h4, h5, h6⟩ := h
      have := ih h6
      rw [h1]; simp only [List.length_cons]; omega
    · obtain ⟨e0, e1, e2, q, e, y, h1, h2, h3, h4⟩ := h
      have := ih h4
      omega
    · obtain ⟨e0, e1, e2, v, M', T1, T0, y, h1, h2, h3, h4, h5, h6⟩ := h
      have := ih h6
      rw [h2]; simp only [List.length_cons]; omega
    · obtain ⟨e0, e1, e2, M', T1, T0, y, h1, h2, h3, h4, h5⟩ := h
      have := ih h5
      rw [h1]; simp only [List.length_cons]; omega
    · obtain ⟨e0, e1, e2, v, M', T1, T0, b1, b2, r, y, h1, h2, h3, h4, h5⟩ := h
      have := ih h5
      rw [h2]; simp only [List.length_cons]; omega
    · obtain ⟨e0, e1, e2, q, e, y, h1, h2, h3, h4⟩ := h
      have := ih h4
      omega
theorem RK_M {fF : ACp} {b : Nat} : ∀ {K : List AFr} {x pc : Nat} {M : List Nat} {d : Nat} {T : List PEn}, 3 * T.length + e_L E ≤ b → RK E K x pc M fF d T → ∀ v, v ∈ M → v ≤ b := by
  intro K
  induction K with
  | nil => intro x pc M d T _ h; obtain ⟨_, k, a, _, _, _, hd⟩ := h; rw [hd]; intro v hv; cases hv
  | cons f K ih =>
    obtain ⟨k, w, m, kp⟩ := f
    intro x pc M d T hb h
    obtain ⟨hx0, hh, a, hg, h⟩ := h
    rcases h with h | h | h | h | h | h | h | h | h
    · obtain ⟨e0, e1, e2, e3, q, j, y, h1, h2, h3⟩ := h
      exact ih hb h3
    · obtain ⟨e0, e1, e2, e3, e4, e5, M', y, h1, h2, h3⟩ := h
      rw [h1]; intro v hv
      rcases List.mem_cons.mp hv with q | q
      · omega
      · exact ih hb h3 v q
    · obtain ⟨e0, e1, e2, e3, d', y, h1, h2, h3⟩ := h
      exact ih hb h3
    · obtain ⟨e0, e1, e2, e3, q, e, y, M', h1, h2, h3, h4, h5, h6⟩ := h
      rw [h1]; intro v hv
      rcases List.mem_cons.mp hv with q | q
      · omega
      · exact ih hb h6 v q
    · obtain ⟨e0, e1, e2, q, e, y, h1, h2, h3, h4⟩ := h
      exact ih hb h4
    · obtain ⟨e0, e1, e2, v, M', T1, T0, y, h1, h2, h3, h4, h5, h6⟩ := h
      rw [h3, List.length_append] at hb
      rw [h2]; intro v hv
      rcases List.mem_cons.mp hv with q | q
      · omega
      · rcases List.mem_cons.mp q with q | q
        · omega
        · exact ih (by omega) h6 v q
    · obtain ⟨e0, e1, e2, M', T1, T0, y, h1, h2, h3, h4, h5⟩ := h
      rw [h2, List.length_append] at hb
      rw [h1]; intro v hv
      rcases List.mem_cons.mp hv with q | q
      · omega
      · rcases List.mem_cons.mp q with q | q
        · omega
        · exact ih (by omega) h5 v q
    · obtain ⟨e0, e1, e2, v, M', T1, T0, b1, b2, r, y, h1, h2, h3, h4, h5⟩ := h
      rw [h3, List.length_append] at hb
      rw [List.length_cons] at hb
      rw [h2]; intro v hv
      rcases List.mem_cons.mp hv with q | q
      · omega
      · rcases List.mem_cons.mp q with q | q
        · omega
        · exact ih (by omega) h5 v q
    · obtain ⟨e0, e1, e2, q, e, y, h1, h2, h3, h4⟩ := h
      exact ih hb h4
end RKl
