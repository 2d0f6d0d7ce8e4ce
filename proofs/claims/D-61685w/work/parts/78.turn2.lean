section T3
variable {E : AEnv}
theorem L29_in {j : Nat} (h2 : 2 ≤ j) (h9 : j ≤ 9) (off : Nat) : off + j ∈ L29.map (fun a => off + a) := by
  refine List.mem_map.mpr ⟨j, ?_, rfl⟩
  have : j = 2 ∨ j = 3 ∨ j = 4 ∨ j = 5 ∨ j = 6 ∨ j = 7 ∨ j = 8 ∨ j = 9 := by omega
  rcases this with h | h | h | h | h | h | h | h <;> (rw [h]; decide)
theorem L29_mem {j : Nat} (h : j ∈ L29) : 2 ≤ j ∧ j ≤ 9 := by
  unfold L29 at h
  simp only [List.mem_cons, List.not_mem_nil, or_false] at h
  omega
theorem L29_out {c off : Nat} (h : c < off + 2) : c ∉ L29.map (fun a => off + a) := by
  intro q
  obtain ⟨j, h1, h2⟩ := List.mem_map.mp q
  have := L29_mem h1
  omega
theorem callC {d pc : Nat} {T : List PEn} {cF fF c : ACp} {B : List ABk} {M : List Nat} (hd : d < 12) (hpc : pc + 1 < 2 ^ 20) (hf : ∀ a, fF a < 2 ^ 20) (hcF : ∀ a, 2 ≤ a → a < 10 → cF a ≤ 64) (hC : CRl cF c) (hRT : RT E T B M cF fF d) :
    RT E (pCall T fF cF d pc).1 B M cF (pCall T fF cF d pc).2 d ∧ (∀ a, (pCall T fF cF d pc).2 a < 2 ^ 20) ∧ fCells (pCall T fF cF d pc).2 d c ∧ (pCall T fF cF d pc).2 (10 * d) = pc + 1 ∧ (∀ a, a < 10 * d → (pCall T fF cF d pc).2 a = fF a) ∧ ∃ T2, (pCall T fF cF d pc).1 = T2 ++ T ∧ T2.length ≤ 9 := by
  unfold pCall
  have h1 := RT_pSet4 (E := E) (s := (T, fF)) (B := B) (M := M) (cF := cF) (d := d) (a := 10 * d) (v := pc + 1) (by omega) hf hRT
  have h2 := pSet_fb (k := 4) (s := (T, fF)) (a := 10 * d) hpc hf
  have h3 := RT_pSetL4 (E := E) (f := cF) (off := 10 * d) L29 _ (fun j hj => by have := L29_mem hj; have := hcF j (by omega) (by omega); omega) h2 h1
  have hv := pSetL_val 4 cF (10 * d) L29 (pSet 4 (T, fF) (10 * d) (pc + 1))
  refine ⟨h3.1, h3.2, ?_, ?_, ?_, ?_⟩
  · intro g g1 g4
    have hC := hC g g1 g4
    have v1 := (hv (2 * g)).1 (L29_in (by omega) (by omega) _)
    have v2 := (hv (2 * g + 1)).1 (L29_in (by omega) (by omega) _)
    have ea : 10 * d + 2 * g + 1 = 10 * d + (2 * g + 1) := Nat.add_assoc _ _ _
    rw [ea, v1, v2]
    exact hC
  · rw [(hv 0).2 (10 * d) (L29_out (by omega)), pSet_val, if_pos rfl]
  · intro a ha
    rw [(hv 0).2 a (L29_out (by omega)), pSet_val, if_neg (by omega)]
  · obtain ⟨T2, q1, q2⟩ := pSetL_app 4 cF (10 * d) L29 (pSet 4 (T, fF) (10 * d) (pc + 1))
    obtain ⟨T3, q3, q4⟩ := pSet_app 4 (T, fF) (10 * d) (pc + 1)
    refine ⟨T2 ++ T3, ?_, ?_⟩
    · rw [q1, q3, List.append_assoc]
    · have : L29.length = 8 := rfl
      rw [List.length_append]; omega
theorem callX {d pc : Nat} {T : List PEn} {cF fF c : ACp} {B : List ABk} {M : List Nat} (hd : d < 12) (hpc : pc + 1 < 2 ^ 20) (hf : ∀ a, fF a < 2 ^ 20) (hcF : ∀ a, 2 ≤ a → a < 10 → cF a ≤ 64) (hC : CRl cF c) (hRT : RT E T B M cF fF d) :
    ∃ T' fF', pCall T fF cF d pc = (T', fF') ∧ RT E T' B M cF fF' d ∧ (∀ a, fF' a < 2 ^ 20) ∧ fCells fF' d c ∧ fF' (10 * d) = pc + 1 ∧ (∀ a, a < 10 * d → fF' a = fF a) ∧ ∃ T2, T' = T2 ++ T ∧ T2.length ≤ 9 := by
  have h := callC (E := E) (B := B) (M := M) hd hpc hf hcF hC hRT
  generalize pCall T fF cF d pc = S at h
  obtain ⟨T', fF'⟩ := S
  exact ⟨T', fF', rfl, h⟩
theorem atomT (hE : EH E) {i p st nf nb ns pc q e d : Nat} {K : List AFr} {c cF fF : ACp} {B : List ABk} {M : List Nat} {T : List PEn} (hA : XA E pc q i e) (hk : RK E K (3 * e) q M fF d T) (hC : CRl cF c) (hT : T.length + pcK K ≤ 4 * nf + nb + 4 * ns) (hi : i ≤ e_n E) (hd : d ≤ 12) (hRT : RT E T B M cF fF d) (hf : ∀ a, fF a < 2 ^ 20) (hb : NBd E K p c st nf nb ns) (hst : st < e_lim E) :
    ∃ x' ph' π', RR E x' ph' (aAtom E i K p c B st nf nb ns) π' ∧ (∀ r π2, (∃ N, Pv E N ph' π' r π2) → ∃ N, Pv E N false (pc, p, M, T, cF, fF, d, st) r π2) ∧ meas E x' (aAtom E i K p c B st nf nb ns) < (2 * (e_lim E - st) + flB B) * 1500 := by
  obtain ⟨hb1, hb2, hb3, hb4, hb5⟩ := hb
  have hcal := RK_calls hk
  have hyn := RK_x hk
  have hok := okP_of hE (show T.length ≤ 46200 by omega) hk (by omega) hb3 hf hC hb4 hd hb5
  have hok' := okP_of hE (st := st + 1) (show T.length ≤ 46200 by omega) hk (by omega) hb3 hf hC hb4 hd (by omega)
  have hn := hE.2.2.2.2.1
  have hL := hE.2.2.2.2.2.1
  obtain ⟨F, he, hie, hen, hpq, hA⟩ := hA
  unfold aAtom
  rcases hA with ⟨h40, hq, ho, hpl⟩ | ⟨h40, hP⟩
  · rw [if_neg h40]
    have hsem := hE.2.2.1 i _ _ hpl p c cF hC hb4 hb3
    cases hp : e_pl E i p c with
    | some p' =>
      rw [hp] at hsem
      refine ⟨3 * e, false, (pc + 1, p', M, T, cF, fF, d, st + 1), ⟨rfl, hRT, hf, Or.inr ⟨by decide, rfl, rfl, hC, hT, by omega, hyn, hd, Or.inr (Or.inr (Or.inr (Or.inr (Or.inr (Or.inr ⟨rfl, by rw [← hq]; exact hk⟩)))))⟩⟩, Lead_ok E (hok pc (by omega)) (Or.inl ⟨ho, hst, p', hsem, rfl⟩), ?_⟩
      show (2 * (e_lim E - (st + 1)) + flB B) * 1500 + bm E 5 _ (aCalls K) < _
      rw [bm_run (by decide) (by decide) (by decide)]; omega
    | none =>
      rw [hp] at hsem
      have hz := hok pc (by omega)
      have hz1 := hE.1 pc (by omega)
      refine ⟨0, true, (pc + 1, p, M, T, cF, fF, d, st + 1), ⟨rfl, hRT, hf, Or.inl ⟨rfl, rfl, okP_next hz (by omega) (by omega)⟩⟩, LeadF_no E hz (Or.inl ⟨ho, hst, hsem, rfl⟩), ?_⟩
      show (2 * (e_lim E - (st + 1)) + flB B) * 1500 + 1500 < _
      omega
  · rw [if_pos h40]
    unfold aOpen
    rcases hP with ⟨k0, hg1, hg4, h1, h2, r, j, h3, h4, h5, h6, h7⟩ | ⟨k1, h1, j, h3, h4⟩ | ⟨k2, h1, h2, hx0, r, j, h3, h4, h5, h7⟩ | ⟨k3, h1, h2, hx0, r, j, h3, h4, h5, h7⟩ | ⟨k4, h1, h2, hx1, hy1, r, j, h3, h4, h5, h7⟩ | ⟨k5, h1, h2, h3, h4⟩
    · rw [if_pos k0]
      have hc := XC_of h3
      have hj := XC_le hc
      refine ⟨3 * (i + 1), false, (pc + 2, p, p :: M, (1, 0, 0, 0) :: T, cF, fF, d, st + 1), ⟨rfl, Or.inr (Or.inl ⟨rfl, p, M, rfl, hRT⟩), hf, Or.inr ⟨by decide, rfl, rfl, hC, ?_, by omega, by omega, hd, Or.inr (Or.inl ⟨rfl, rfl, r, j, 3 * j + 2, hc, by omega, ?_⟩)⟩⟩, ?_, ?_⟩
      · show _ + (3 + pcK K) ≤ _
        rw [List.length_cons]; omega
      · exact ⟨by omega, 0, r, rfl, Or.inr (Or.inl ⟨rfl, hg1, hg4, hb3, h5, h6, M, 3 * e, rfl, by omega, RK_app [(1, 0, 0, 0)] (by rw [← h7]; exact hk)⟩)⟩
      · exact Lead_trans E (Lead_ok E (hok' (pc + 1) (by omega)) (Or.inr (Or.inr (Or.inr (Or.inl ⟨Or.inl h2, rfl⟩))))) (Lead_ok E (hok pc (by omega)) (Or.inr (Or.inr (Or.inl ⟨h1, hst, rfl⟩))))
      · show (2 * (e_lim E - (st + 1)) + flB B) * 1500 + bm E 1 _ (0 + aCalls K) < _
        rw [bm_run (by decide) (by decide) (by decide)]; omega
    · rw [if_neg (by omega), if_pos k1]
      have hc := XC_of h3
      have hj := XC_le hc
      refine ⟨3 * (i + 3), false, (pc + 1, p, M, T, cF, fF, d, st + 1), ⟨rfl, hRT, hf, Or.inr ⟨by decide, rfl, rfl, hC, hT, by omega, by omega, hd, Or.inr (Or.inl ⟨rfl, rfl, q, j, 3 * e, hc, by omega, hk⟩)⟩⟩, Lead_ok E (hok pc (by omega)) (Or.inr (Or.inr (Or.inl ⟨h1, hst, rfl⟩))), ?_⟩
      show (2 * (e_lim E - (st + 1)) + flB B) * 1500 + bm E 1 _ (aCalls K) < _
      rw [bm_run (by decide) (by decide) (by decide)]; omega
    · rw [if_neg (by omega), if_neg (by omega), if_pos k2]
      have hc := XC_of h3
      have hj := XC_le hc
      refine ⟨3 * (i + 3), false, (pc + 2, p, p :: (3 * T.length) :: M, (1, 0, 0, 0) :: (1, 0, 0, 0) :: T, cF, fF, d, st + 1), ⟨rfl, Or.inr (Or.inl ⟨rfl, p, 3 * T.length :: M, rfl, Or.inr (Or.inl ⟨rfl, 3 * T.length, M, rfl, hRT⟩)⟩), hf, Or.inr ⟨by decide, rfl, rfl, hC, ?_, by omega, by omega, hd, Or.inr (Or.inl ⟨rfl, rfl, r, j, 3 * j + 2, hc, by omega, ?_⟩)⟩⟩, ?_, ?_⟩
      · show _ + (2 + pcK K) ≤ _
        simp only [List.length_cons]; omega
      · exact ⟨by omega, 0, r, rfl, Or.inr (Or.inr (Or.inr (Or.inr (Or.inr (Or.inl ⟨rfl, rfl, h5, p, M, [(1, 0, 0, 0), (1, 0, 0, 0)], T, 3 * e, hb3, rfl, rfl, (RT_nch hRT).symm, by omega, by rw [← h7]; exact hk⟩)))))⟩
      · exact Lead_trans E (Lead_ok E (hok' (pc + 1) (by omega)) (Or.inr (Or.inr (Or.inr (Or.inr (Or.inr (Or.inr (Or.inr (Or.inr (Or.inl ⟨h2, hx0, rfl⟩)))))))))) (Lead_ok E (hok pc (by omega)) (Or.inr (Or.inr (Or.inl ⟨h1, hst, rfl⟩))))
      · show (2 * (e_lim E - (st + 1)) + flB B) * 1500 + bm E 1 _ (0 + aCalls K) < _
        rw [bm_run (by decide) (by decide) (by decide)]; omega
    · rw [if_neg (by omega), if_neg (by omega), if_neg (by omega), if_pos k3]
      have hc := XC_of h3
      have hj := XC_le hc
      refine ⟨3 * (i + 3), false, (pc + 2, p, p :: (3 * T.length) :: M, (1, 0, 0, 0) :: (1, 0, 0, 0) :: T, cF, fF, d, st + 1), ⟨rfl, Or.inr (Or.inl ⟨rfl, p, 3 * T.length :: M, rfl, Or.inr (Or.inl ⟨rfl, 3 * T.length, M, rfl, hRT⟩)⟩), hf, Or.inr ⟨by decide, rfl, rfl, hC, ?_, by omega, by omega, hd, Or.inr (Or.inl ⟨rfl, rfl, r, j, 3 * j + 2, hc, by omega, ?_⟩)⟩⟩, ?_, ?_⟩
      · show _ + (2 + pcK K) ≤ _
        simp only [List.length_cons]; omega
      · exact ⟨by omega, 0, r, rfl, Or.inr (Or.inr (Or.inr (Or.inr (Or.inr (Or.inr (Or.inl ⟨rfl, hb3, h5, M, [(1, 0, 0, 0), (1, 0, 0, 0)], T, 3 * e, rfl, rfl, (RT_nch hRT).symm, by omega, by rw [← h7]; exact hk⟩))))))⟩
      · exact Lead_trans E (Lead_ok E (hok' (pc + 1) (by omega)) (Or.inr (Or.inr (Or.inr (Or.inr (Or.inr (Or.inr (Or.inr (Or.inr (Or.inl ⟨h2, hx0, rfl⟩)))))))))) (Lead_ok E (hok pc (by omega)) (Or.inr (Or.inr (Or.inl ⟨h1, hst, rfl⟩))))
      · show (2 * (e_lim E - (st + 1)) + flB B) * 1500 + bm E 1 _ (0 + aCalls K) < _
        rw [bm_run (by decide) (by decide) (by decide)]; omega
    · rw [if_neg (by omega), if_neg (by omega), if_neg (by omega), if_neg (by omega), if_pos k4]
      have hc := XC_of h3
      have hj := XC_le hc
      refine ⟨3 * (i + 3), false, (pc + 2, p, p :: (3 * (T.length + 1)) :: M, (1, 0, 0, 0) :: (1, 0, 0, 0) :: (0, q, p, 1) :: T, cF, fF, d, st + 1), ⟨rfl, Or.inr (Or.inl ⟨rfl, p, 3 * (T.length + 1) :: M, rfl, Or.inr (Or.inl ⟨rfl, 3 * (T.length + 1), M, rfl, Or.inl ⟨rfl, 5, 0, K, c, nf + 1, nb, ns, B, rfl, by omega, ⟨3 * e, hC, by omega, by omega, hyn, hd, Or.inr (Or.inr (Or.inr (Or.inr (Or.inr (Or.inr ⟨rfl, hk⟩)))))⟩, hRT⟩⟩)⟩), hf, Or.inr ⟨by decide, rfl, rfl, hC, ?_, by omega, by omega, hd, Or.inr (Or.inl ⟨rfl, rfl, r, j, 3 * j + 2, hc, by omega, ?_⟩)⟩⟩, ?_, ?_⟩
      · show _ + (2 + pcK K) ≤ _
        simp only [List.length_cons]; omega
      · exact ⟨by omega, 0, r, rfl, Or.inr (Or.inr (Or.inr (Or.inr (Or.inr (Or.inr (Or.inr (Or.inl ⟨rfl, rfl, h5, p, M, [(1, 0, 0, 0), (1, 0, 0, 0)], T, q, p, q, 3 * e, hb3, rfl, rfl, (RT_nch hRT).symm, hk⟩)))))))⟩
      · exact Lead_trans E (Lead_ok E (hok' (pc + 1) (by omega)) (Or.inr (Or.inr (Or.inr (Or.inr (Or.inr (Or.inr (Or.inr (Or.inr (Or.inr (Or.inl ⟨h2, hx1, by rw [hy1]⟩))))))))))) (Lead_ok E (hok pc (by omega)) (Or.inr (Or.inr (Or.inl ⟨h1, hst, rfl⟩))))
      · show (2 * (e_lim E - (st + 1)) + (1 + flB B)) * 1500 + bm E 1 _ (0 + aCalls K) < _
        rw [bm_run (by decide) (by decide) (by decide)]; omega
    · rw [if_neg (by omega), if_neg (by omega), if_neg (by omega), if_neg (by omega), if_neg (by omega)]
      have hz := hok pc (by omega)
      have hz1 := hE.1 pc (by omega)
      by_cases h12 : 12 ≤ aCalls K
      · rw [if_pos h12]
        refine ⟨0, true, (pc + 1, p, M, T, cF, fF, d, st + 1), ⟨rfl, hRT, hf, Or.inl ⟨rfl, rfl, okP_next hz (by omega) (by omega)⟩⟩, LeadF_no E hz (Or.inr (Or.inl ⟨h1, hst, by omega, rfl⟩)), ?_⟩
        show (2 * (e_lim E - (st + 1)) + flB B) * 1500 + 1500 < _
        omega
      · rw [if_neg h12]
        obtain ⟨hG4, hG⟩ := hE.2.1
        obtain ⟨hcn, q2, j, hc, hr16⟩ := hG _ h3
        have hj := XC_le hc
        obtain ⟨T', fF', c0, c1, c2, c3, c4, c5, T2, c6, c7⟩ := callX (E := E) (pc := pc) (B := B) (M := M) (by omega) (by omega) hf hz.2.2.2.2.2.1.1 hC hRT
        refine ⟨3 * e_cO E (aCn E i), false, (e_en E (aCn E i), p, M, (5, 0, 0, 0) :: T', cF, fF', d + 1, st + 1), ⟨rfl, Or.inr (Or.inr (Or.inr (Or.inr (Or.inr (Or.inl ⟨rfl, d, rfl, c1⟩))))), c2, Or.inr ⟨by decide, rfl, rfl, hC, ?_, hcn, by omega, by omega, Or.inr (Or.inl ⟨rfl, rfl, q2, j, 3 * j + 2, hc, by omega, ?_⟩)⟩⟩, ?_, ?_⟩
        · show _ + (9 + pcK K) ≤ _
          rw [List.length_cons, c6, List.length_append]; omega
        · refine ⟨by omega, 0, q2, rfl, Or.inr (Or.inr (Or.inl ⟨rfl, rfl, by omega, hr16, d, 3 * e, rfl, c3, ?_⟩))⟩
          rw [c4, c6, ← h4]
          exact RK_fF c5 (RK_app ((5, 0, 0, 0) :: T2) hk)
        · exact Lead_ok E hz (Or.inr (Or.inl ⟨h1, hst, by omega, by omega, by rw [h2, c0]⟩))
        · show (2 * (e_lim E - (st + 1)) + flB B) * 1500 + bm E 1 _ (1 + aCalls K) < _
          rw [bm_run (by decide) (by decide) (by decide)]; omega
theorem turn2 (hE : EH E) {x i p st nf nb ns pc p' d st' : Nat} {ph : Bool} {K : List AFr} {c cF fF : ACp} {B : List ABk} {M : List Nat} {T : List PEn} (h : RR E x ph (2, i, K, p, c, B, st, nf, nb, ns) (pc, p', M, T, cF, fF, d, st')) (hb : NBd E K p c st nf nb ns) (hlim : st < e_lim E) : GOAL E x ph (2, i, K, p, c, B, st, nf, nb, ns) (pc, p', M, T, cF, fF, d, st') := by
  obtain ⟨hst, hRT, hf, hh⟩ := h
  rcases hh with ⟨e, _⟩ | ⟨_, hph, hp, hC, hT, hi, hx, hd, hm⟩
  · exact absurd e (by decide)
  have ht : aTurn E (2, i, K, p, c, B, st, nf, nb, ns) = aAtom E i K p c B st nf nb ns := rfl
  have hmeas : meas E x (2, i, K, p, c, B, st, nf, nb, ns) = (2 * (e_lim E - st) + flB B) * 1500 := by
    show _ * 1500 + bm E 2 x (aCalls K) = _
    unfold bm; rw [if_pos rfl, Nat.add_zero]
  unfold GOAL; rw [ht, hmeas]
  subst hst hph hp
  rcases hm with ⟨e, _⟩ | ⟨e, _⟩ | ⟨_, q, e, hA, hk⟩ | ⟨_, ho, hT1, q, e, hA, hk⟩ | ⟨e, _⟩ | ⟨e, _⟩ | ⟨e, _⟩
  · exact absurd e (by decide)
  · exact absurd e (by decide)
  · exact atomT hE hA hk hC hT hi hd hRT hf hb hlim
  · obtain ⟨x', ph', π', g1, g2, g3⟩ := atomT hE hA hk hC (by rw [List.length_cons]; exact hT1) hi hd (Or.inr (Or.inl ⟨rfl, p', M, rfl, hRT⟩)) hf hb hlim
    obtain ⟨hb1, hb2, hb3, hb4, hb5⟩ := hb
    have hok := okP_of hE (T := (1, 0, 0, 0) :: T) (by rw [List.length_cons]; omega) hk (by omega) hb3 hf hC hb4 hd hb5 pc (by omega)
    refine ⟨x', ph', π', g1, fun r π2 hN => Lead_ok E (π1 := (pc + 1, p', p' :: M, (1, 0, 0, 0) :: T, cF, fF, d, st')) ?_ (Or.inr (Or.inr (Or.inr (Or.inl ⟨Or.inr ho, rfl⟩)))) r π2 (g2 r π2 hN), g3⟩
    obtain ⟨z1, z2, z3, z4, z5⟩ := hok
    simp only [List.length_cons] at z1 z2
    exact ⟨by omega, by omega, fun m hm => z3 m (List.mem_cons_of_mem _ hm), z4, z5⟩
  · exact absurd e (by decide)
  · exact absurd e (by decide)
  · exact absurd e (by decide)
end T3
