section T2
variable {E : AEnv}
theorem XC_of {F pc q i j : Nat} (h : cC E F pc q i j) : XC E pc q i j := by
  cases F with
  | zero => exact h.elim
  | succ F => obtain ⟨f, h⟩ := h; exact ⟨F, f, h⟩
theorem XC_le {pc q i j : Nat} (h : XC E pc q i j) : i ≤ j ∧ j ≤ e_n E := by
  obtain ⟨F, f, h⟩ := h; exact cCho_le h
theorem okP_next {pc pc' p d st st' : Nat} {M : List Nat} {T : List PEn} {cF fF : ACp} (h : okP E (pc, p, M, T, cF, fF, d, st)) (hp : pc' < 2 ^ 20) (hs : st' ≤ e_lim E) : okP E (pc', p, M, T, cF, fF, d, st') := by
  obtain ⟨z1, z2, z3, z4, z5, z6, z7, z8, z9⟩ := h
  exact ⟨z1, z2, z3, z4, z5, z6, z7, hp, hs⟩
theorem turn1 (hE : EH E) {x i p st nf nb ns pc p' d st' : Nat} {ph : Bool} {K : List AFr} {c cF fF : ACp} {B : List ABk} {M : List Nat} {T : List PEn} (h : RR E x ph (1, i, K, p, c, B, st, nf, nb, ns) (pc, p', M, T, cF, fF, d, st')) (hb : NBd E K p c st nf nb ns) : GOAL E x ph (1, i, K, p, c, B, st, nf, nb, ns) (pc, p', M, T, cF, fF, d, st') := by
  obtain ⟨hst, hRT, hf, hh⟩ := h
  rcases hh with ⟨e, _⟩ | ⟨_, hph, hp, hC, hT, hi, hx, hd, hm⟩
  · exact absurd e (by decide)
  rcases hm with ⟨e, _⟩ | ⟨_, hx0, q, j, y, ⟨F, f, hr⟩, hjy, hk⟩ | ⟨e, _⟩ | ⟨e, _⟩ | ⟨e, _⟩ | ⟨e, _⟩ | ⟨e, _⟩
  · exact absurd e (by decide)
  rotate_left
  · exact absurd e (by decide)
  · exact absurd e (by decide)
  · exact absurd e (by decide)
  · exact absurd e (by decide)
  · exact absurd e (by decide)
  subst hst hph hp
  obtain ⟨hb1, hb2, hb3, hb4, hb5⟩ := hb
  have hcal := RK_calls hk
  have hyn := RK_x hk
  have hok := okP_of hE (show T.length ≤ 46200 by omega) hk (by omega) hb3 hf hC hb4 hd hb5
  have hjn := cCho_le hr
  cases f with
  | zero => exact hr.elim
  | succ f =>
    rcases hr with ⟨hn, g, hrow⟩ | ⟨r, j1, hn, h1, h2, h3, ⟨g, hrow⟩, h4, h5, h6⟩
    · have ht : aTurn E (1, i, K, p', c, B, st', nf, nb, ns) = (0, i, K, p', c, B, st', nf, nb, ns) := by
        have : aTurn E (1, i, K, p', c, B, st', nf, nb, ns) = (match e_nr E i with
          | some r => (0, i, K, p', c, (1, r, p', K, c, 0, nf, nb, ns) :: B, st', nf, nb + 1, ns)
          | none => (0, i, K, p', c, B, st', nf, nb, ns)) := rfl
        rw [this, hn]
      unfold GOAL; rw [ht]
      refine ⟨3 * i + 1, false, (pc, p', M, T, cF, fF, d, st'), ⟨rfl, hRT, hf, Or.inr ⟨by decide, rfl, rfl, hC, hT, hi, by omega, hd, Or.inl ⟨rfl, rfl, q, j, y, ⟨F, g, hrow⟩, hjy, hk⟩⟩⟩, fun _ _ h => h, ?_⟩
      show _ * 1500 + bm E 0 _ (aCalls K) < _ * 1500 + bm E 1 x (aCalls K)
      rw [bm_run (by decide) (by decide) (by decide), bm_run (by decide) (by decide) (by decide)]; omega
    · have ht : aTurn E (1, i, K, p', c, B, st', nf, nb, ns) = (0, i, K, p', c, (1, j1 + 1, p', K, c, 0, nf, nb, ns) :: B, st', nf, nb + 1, ns) := by
        have : aTurn E (1, i, K, p', c, B, st', nf, nb, ns) = (match e_nr E i with
          | some r => (0, i, K, p', c, (1, r, p', K, c, 0, nf, nb, ns) :: B, st', nf, nb + 1, ns)
          | none => (0, i, K, p', c, B, st', nf, nb, ns)) := rfl
        rw [this, hn]
      unfold GOAL; rw [ht]
      have hj1 := cRow_le hrow
      have hj2 := cCho_le h6
      refine ⟨3 * i + 1, false, (pc + 1, p', M, (0, r + 1, p', 0) :: T, cF, fF, d, st'), ⟨rfl, Or.inl ⟨rfl, 1, j1 + 1, K, c, nf, nb, ns, B, rfl, by omega, ⟨3 * (j1 + 1), hC, hT, by omega, by omega, hd, Or.inr (Or.inl ⟨rfl, rfl, q, j, y, ⟨F, f, h6⟩, hjy, hk⟩)⟩, hRT⟩, hf, Or.inr ⟨by decide, rfl, rfl, hC, by rw [List.length_cons]; omega, hi, by omega, hd, Or.inl ⟨rfl, rfl, r, j1, y, ⟨F, g, hrow⟩, by omega, RK_app [(0, r + 1, p', 0)] (RK_go h4 (by rw [h5]; exact hk))⟩⟩⟩, Lead_ok E (hok pc (by omega)) (Or.inr (Or.inr (Or.inr (Or.inr (Or.inr (Or.inl ⟨h1, by rw [h2, h3]⟩)))))), ?_⟩
      show (_ + (0 + flB B)) * 1500 + bm E 0 _ (aCalls K) < _ * 1500 + bm E 1 x (aCalls K)
      rw [bm_run (by decide) (by decide) (by decide), bm_run (by decide) (by decide) (by decide), Nat.zero_add]; omega
theorem turn3 (hE : EH E) {x i p st nf nb ns pc p' d st' : Nat} {ph : Bool} {K : List AFr} {c cF fF : ACp} {B : List ABk} {M : List Nat} {T : List PEn} (h : RR E x ph (3, i, K, p, c, B, st, nf, nb, ns) (pc, p', M, T, cF, fF, d, st')) (hb : NBd E K p c st nf nb ns) : GOAL E x ph (3, i, K, p, c, B, st, nf, nb, ns) (pc, p', M, T, cF, fF, d, st') := by
  obtain ⟨hst, hRT, hf, hh⟩ := h
  rcases hh with ⟨e, _⟩ | ⟨_, hph, hp, hC, hT, hi, hx, hd, hm⟩
  · exact absurd e (by decide)
  rcases hm with ⟨e, _⟩ | ⟨e, _⟩ | ⟨e, _⟩ | ⟨e, _⟩ | ⟨_, q, e, y, ⟨F, hs⟩, hy, hk⟩ | ⟨e, _⟩ | ⟨e, _⟩
  · exact absurd e (by decide)
  · exact absurd e (by decide)
  · exact absurd e (by decide)
  · exact absurd e (by decide)
  rotate_left
  · exact absurd e (by decide)
  · exact absurd e (by decide)
  subst hst hph hp
  obtain ⟨hb1, hb2, hb3, hb4, hb5⟩ := hb
  have hcal := RK_calls hk
  have hyn := RK_x hk
  have hok := okP_of hE (show T.length ≤ 46200 by omega) hk (by omega) hb3 hf hC hb4 hd hb5
  have hok1 := okP_of hE (T := (0, q, p', 0) :: T) (by rw [List.length_cons]; omega) (RK_app [(0, q, p', 0)] hk) (by omega) hb3 hf hC hb4 hd hb5
  have hs0 := hs
  obtain ⟨h1, h2, _, h3, r, h4, h5, h6, h7⟩ := hs
  have h2 := h2 rfl
  refine ⟨0, false, (pc + 2, p', p' :: M, (1, 0, 0, 0) :: (0, q, p', 0) :: T, cF, fF, d, st'), ⟨rfl, Or.inr (Or.inl ⟨rfl, p', M, rfl, Or.inl ⟨rfl, 5, i, K, c, nf + 1, nb, ns, B, rfl, by omega, ⟨y, hC, by omega, hi, hyn, hd, Or.inr (Or.inr (Or.inr (Or.inr (Or.inr (Or.inr ⟨rfl, hk⟩)))))⟩, hRT⟩⟩), hf, Or.inr ⟨by decide, rfl, rfl, hC, ?_, hi, by omega, hd, Or.inr (Or.inr (Or.inl ⟨rfl, r, e, ⟨F, h4⟩, ?_⟩))⟩⟩, ?_, ?_⟩
  · show _ + (1 + pcK K) ≤ _
    simp only [List.length_cons]; omega
  · exact ⟨by omega, 0, r, rfl, Or.inr (Or.inr (Or.inr (Or.inl ⟨Or.inl rfl, hi, hb3, h5, q, e, y, M, rfl, ⟨F, by rw [h6]; exact hs0⟩, h7.symm, by omega, hy, RK_app [(1, 0, 0, 0), (0, q, p', 0)] hk⟩)))⟩
  · exact Lead_trans E (Lead_ok E (hok1 (pc + 1) (by omega)) (Or.inr (Or.inr (Or.inr (Or.inl ⟨Or.inr h3, rfl⟩))))) (Lead_ok E (hok pc (by omega)) (Or.inr (Or.inr (Or.inr (Or.inr (Or.inr (Or.inl ⟨h1, by rw [h2.1, h2.2]⟩)))))))
  · show (_ + (0 + flB B)) * 1500 + bm E 2 _ _ < _ * 1500 + bm E 3 x (aCalls K)
    unfold bm; rw [if_pos rfl, if_neg (by decide), if_pos rfl, Nat.zero_add]; omega
theorem turn4 (hE : EH E) {x i p st nf nb ns pc p' d st' : Nat} {ph : Bool} {K : List AFr} {c cF fF : ACp} {B : List ABk} {M : List Nat} {T : List PEn} (h : RR E x ph (4, i, K, p, c, B, st, nf, nb, ns) (pc, p', M, T, cF, fF, d, st')) (hb : NBd E K p c st nf nb ns) : GOAL E x ph (4, i, K, p, c, B, st, nf, nb, ns) (pc, p', M, T, cF, fF, d, st') := by
  obtain ⟨hst, hRT, hf, hh⟩ := h
  rcases hh with ⟨e, _⟩ | ⟨_, hph, hp, hC, hT, hi, hx, hd, hm⟩
  · exact absurd e (by decide)
  rcases hm with ⟨e, _⟩ | ⟨e, _⟩ | ⟨e, _⟩ | ⟨e, _⟩ | ⟨e, _⟩ | ⟨_, q, e, y, ⟨F, hs⟩, hxy, hy, hk⟩ | ⟨e, _⟩
  · exact absurd e (by decide)
  · exact absurd e (by decide)
  · exact absurd e (by decide)
  · exact absurd e (by decide)
  · exact absurd e (by decide)
  rotate_left
  · exact absurd e (by decide)
  subst hst hph hp
  obtain ⟨hb1, hb2, hb3, hb4, hb5⟩ := hb
  have hcal := RK_calls hk
  have hyn := RK_x hk
  have hok := okP_of hE (show T.length ≤ 46200 by omega) hk (by omega) hb3 hf hC hb4 hd hb5
  have hs0 := hs
  obtain ⟨h1, _, h2, h3, r, h4, h5, h6, h7⟩ := hs
  have h2 := h2 rfl
  refine ⟨y, false, (q, p', M, (0, pc + 1, p', 0) :: T, cF, fF, d, st'), ⟨rfl, Or.inl ⟨rfl, 2, i, (5, i, p', c00) :: K, c, nf + 1, nb, ns, B, rfl, by omega, ⟨0, hC, ?_, hi, by omega, hd, Or.inr (Or.inr (Or.inr (Or.inl ⟨rfl, h3, ?_, r, e, ⟨F, h4⟩, ?_⟩)))⟩, hRT⟩, hf, Or.inr ⟨by decide, rfl, rfl, hC, by rw [List.length_cons]; omega, hi, hyn, hd, Or.inr (Or.inr (Or.inr (Or.inr (Or.inr (Or.inr ⟨rfl, RK_app [(0, pc + 1, p', 0)] hk⟩)))))⟩⟩, Lead_ok E (hok pc (by omega)) (Or.inr (Or.inr (Or.inr (Or.inr (Or.inr (Or.inl ⟨h1, by rw [h2.1, h2.2]⟩)))))), ?_⟩
  · show _ + (1 + pcK K) ≤ _
    omega
  · show _ + 1 + (1 + pcK K) ≤ _
    omega
  · exact ⟨by omega, 0, r, rfl, Or.inr (Or.inr (Or.inr (Or.inl ⟨Or.inr rfl, hi, hb3, h5, q, e, y, M, rfl, ⟨F, by rw [h6]; exact hs0⟩, h7.symm, by omega, hy, RK_app [(1, 0, 0, 0)] hk⟩)))⟩
  · show (_ + (0 + flB B)) * 1500 + bm E 5 _ (aCalls K) < _ * 1500 + bm E 4 x (aCalls K)
    rw [bm_run (by decide) (by decide) (by decide), bm_run (by decide) (by decide) (by decide), Nat.zero_add]; omega
theorem turn6 (hE : EH E) {x i p st nf nb ns pc p' d st' : Nat} {ph : Bool} {K : List AFr} {c cF fF : ACp} {b : ABk} {B : List ABk} {M : List Nat} {T : List PEn} (h : RR E x ph (6, i, K, p, c, b :: B, st, nf, nb, ns) (pc, p', M, T, cF, fF, d, st')) : GOAL E x ph (6, i, K, p, c, b :: B, st, nf, nb, ns) (pc, p', M, T, cF, fF, d, st') := by
  obtain ⟨hst, hRT, hf, hh⟩ := h
  rcases hh with ⟨_, hph, hok⟩ | ⟨e, _⟩
  rotate_left
  · exact absurd rfl e
  obtain ⟨mo, i', p1, K', c', fl, nf', nb', ns'⟩ := b
  obtain ⟨a, x', M1, T1, cF1, fF1, d1, g1, g2, g3, g4⟩ := RT_undo1 hf hRT
  have h5 := hE.2.2.2.2.1
  have hmo : mo ≤ 5 ∧ aCalls K' ≤ 12 := by
    obtain ⟨_, _, _, _, hd, hm⟩ := g1
    rcases hm with ⟨e, _, q, j, y, _, _, hk⟩ | ⟨e, _, q, j, y, _, _, hk⟩ | ⟨e, q, y, _, hk⟩ | ⟨e, _, _, q, y, _, hk⟩ | ⟨e, q, y, z, _, _, hk⟩ | ⟨e, q, y, z, _, _, _, hk⟩ | ⟨e, hk⟩
    all_goals (have := RK_calls hk; omega)
  refine ⟨x', false, (a, p1, M1, T1, cF1, fF1, d1, st'), ⟨hst, g2, g3, Or.inr ⟨by omega, rfl, rfl, g1⟩⟩, ?_, ?_⟩
  · intro r π2 ⟨N, hN⟩
    rw [hph]
    exact ⟨N + 1, hok, g4 _ _ hN⟩
  · show _ * 1500 + bm E mo x' (aCalls K') < (_ + (fl + flB B)) * 1500 + bm E 6 x (aCalls K)
    have hb6 : bm E 6 x (aCalls K) = 1500 := rfl
    have hbm : bm E mo x' (aCalls K') < 1500 := by
      unfold bm; split
      · omega
      · split
        · omega
        · split
          · omega
          · omega
    rw [hb6]
    show (2 * (e_lim E - st) + flB B) * 1500 + _ < (2 * (e_lim E - st) + (fl + flB B)) * 1500 + 1500
    omega
end T2
