section T5
variable {E : AEnv}
theorem nch_app : ∀ (T1 T0 : List PEn), nch (T1 ++ T0) = nch T1 + nch T0 := by
  intro T1 T0
  induction T1 with
  | nil => exact (Nat.zero_add _).symm
  | cons e T1 ih =>
    obtain ⟨k, a, b, g⟩ := e
    show (if k = 0 then 1 else 0) + nch (T1 ++ T0) = (if k = 0 then 1 else 0) + nch T1 + nch T0
    rw [ih, Nat.add_assoc]
theorem retC {d : Nat} {T : List PEn} {cF fF c : ACp} {B : List ABk} {M : List Nat} (hc : fCells fF d c) (hRT : RT E T B M cF fF (d + 1)) :
    RT E (pRet T fF cF d).1 B M (pRet T fF cF d).2 fF d ∧ CRl (pRet T fF cF d).2 c ∧ ∃ T2, (pRet T fF cF d).1 = T2 ++ T ∧ T2.length ≤ 9 := by
  unfold pRet
  have h1 : RT E ((6, 0, 0, 0) :: T) B M cF fF d := Or.inr (Or.inr (Or.inr (Or.inr (Or.inr (Or.inr (Or.inl ⟨rfl, hRT⟩))))))
  have h3 := RT_pSetL3 (E := E) (f := fun k => fF (10 * d + k)) (fF := fF) (B := B) (M := M) (d := d) L29 ((6, 0, 0, 0) :: T, cF) (fun j hj => by have := L29_mem hj; omega) h1
  have hv := pSetL_val 3 (fun k => fF (10 * d + k)) 0 L29 ((6, 0, 0, 0) :: T, cF)
  refine ⟨h3, ?_, ?_⟩
  · intro g g1 g4
    have hc := hc g g1 g4
    have v1 := (hv (2 * g)).1 (L29_in (by omega) (by omega) _)
    have v2 := (hv (2 * g + 1)).1 (L29_in (by omega) (by omega) _)
    rw [Nat.zero_add] at v1 v2
    have ea : 10 * d + 2 * g + 1 = 10 * d + (2 * g + 1) := Nat.add_assoc _ _ _
    rw [ea] at hc
    rw [v1, v2]
    exact hc
  · obtain ⟨T2, q1, q2⟩ := pSetL_app 3 (fun k => fF (10 * d + k)) 0 L29 ((6, 0, 0, 0) :: T, cF)
    refine ⟨T2 ++ [(6, 0, 0, 0)], ?_, ?_⟩
    · rw [q1, List.append_assoc]; rfl
    · have : L29.length = 8 := rfl
      rw [List.length_append, List.length_singleton]; omega
theorem retX {d : Nat} {T : List PEn} {cF fF c : ACp} {B : List ABk} {M : List Nat} (hc : fCells fF d c) (hRT : RT E T B M cF fF (d + 1)) :
    ∃ T' cF', pRet T fF cF d = (T', cF') ∧ RT E T' B M cF' fF d ∧ CRl cF' c ∧ ∃ T2, T' = T2 ++ T ∧ T2.length ≤ 9 := by
  have h := retC (E := E) (B := B) (M := M) hc hRT
  generalize pRet T fF cF d = S at h
  obtain ⟨T', fF'⟩ := S
  exact ⟨T', fF', rfl, h⟩
theorem closeX {d w m p : Nat} {T : List PEn} {cF fF c : ACp} {B : List ABk} {M : List Nat} (hw1 : 1 ≤ w) (hw4 : w ≤ 4) (hm : m ≤ 500000) (hp : p ≤ 40) (hc : CRl cF c) (hRT : RT E T B (m :: M) cF fF d) :
    ∃ T' cF', pClose T cF w m p = (T', cF') ∧ RT E T' B M cF' fF d ∧ CRl cF' (cSt c w (64 * (m + 1) + p + 1)) ∧ ∃ T2, T' = T2 ++ T ∧ T2.length ≤ 3 := by
  have h : RT E (pClose T cF w m p).1 B M (pClose T cF w m p).2 fF d ∧ CRl (pClose T cF w m p).2 (cSt c w (64 * (m + 1) + p + 1)) ∧ ∃ T2, (pClose T cF w m p).1 = T2 ++ T ∧ T2.length ≤ 3 := by
    unfold pClose
    have h1 : RT E ((2, m, 0, 0) :: T) B M cF fF d := Or.inr (Or.inr (Or.inl ⟨rfl, hm, hRT⟩))
    refine ⟨RT_pSet3 (by omega) (by omega) (RT_pSet3 (by omega) (by omega) h1), ?_, ?_⟩
    · intro g g1 g4
      have hc := hc g g1 g4
      rw [pSet_val, pSet_val, pSet_val, pSet_val]
      unfold cSt
      by_cases q : g = w
      · rw [if_neg (by omega), if_pos (by omega), if_pos (by omega), if_pos (by omega)]; omega
      · rw [if_neg (by omega), if_neg (by omega), if_neg (by omega), if_neg (by omega), if_neg (by omega)]; exact hc
    · obtain ⟨T3, q1, q2⟩ := pSet_app 3 ((2, m, 0, 0) :: T, cF) (2 * w) (m + 1)
      obtain ⟨T4, q3, q4⟩ := pSet_app 3 (pSet 3 ((2, m, 0, 0) :: T, cF) (2 * w) (m + 1)) (2 * w + 1) (p + 1)
      refine ⟨T4 ++ (T3 ++ [(2, m, 0, 0)]), ?_, ?_⟩
      · rw [q3, q1, List.append_assoc, List.append_assoc]; rfl
      · rw [List.length_append, List.length_append, List.length_singleton]; omega
  generalize pClose T cF w m p = S at h
  obtain ⟨T', fF'⟩ := S
  exact ⟨T', fF', rfl, h⟩
theorem turn5 (hE : EH E) {x i p st nf nb ns pc p' d st' : Nat} {ph : Bool} {f : AFr} {K : List AFr} {c cF fF : ACp} {B : List ABk} {M : List Nat} {T : List PEn} (h : RR E x ph (5, i, f :: K, p, c, B, st, nf, nb, ns) (pc, p', M, T, cF, fF, d, st')) (hb : NBd E (f :: K) p c st nf nb ns) : GOAL E x ph (5, i, f :: K, p, c, B, st, nf, nb, ns) (pc, p', M, T, cF, fF, d, st') := by
  obtain ⟨hst, hRT, hf, hh⟩ := h
  rcases hh with ⟨e, _⟩ | ⟨_, hph, hp, hC, hT, hi, hx, hd, hm⟩
  · exact absurd e (by decide)
  rcases hm with ⟨e, _⟩ | ⟨e, _⟩ | ⟨e, _⟩ | ⟨e, _⟩ | ⟨e, _⟩ | ⟨e, _⟩ | ⟨_, hk⟩
  · exact absurd e (by decide)
  · exact absurd e (by decide)
  · exact absurd e (by decide)
  · exact absurd e (by decide)
  · exact absurd e (by decide)
  · exact absurd e (by decide)
  subst hst hph hp
  obtain ⟨hb1, hb2, hb3, hb4, hb5⟩ := hb
  have hcal := RK_calls hk
  have hok := okP_of hE (show T.length ≤ 46200 by omega) hk (by omega) hb3 hf hC hb4 hd hb5
  have hL := hE.2.2.2.2.2.1
  have hn := hE.2.2.2.2.1
  obtain ⟨k, w, m, kp⟩ := f
  obtain ⟨hxn, hg, a, hgo, hk⟩ := hk
  have hld := Lead_go hok _ _ _ hgo
  have hmeas : meas E x (5, i, (k, w, m, kp) :: K, p', c, B, st', nf, nb, ns) = (2 * (e_lim E - st') + flB B) * 1500 + (3 * e_n E + 3 - x + 110 * d) := by
    show _ * 1500 + bm E 5 x (aCalls ((k, w, m, kp) :: K)) = _
    rw [bm_run (by decide) (by decide) (by decide), hcal]
  unfold GOAL; rw [hmeas]
  rcases hk with h | h | h | h | h | h | h | h | h
  · obtain ⟨e0, e1, e2, e3, q, j, y, h1, h2, h3⟩ := h
    subst e0
    refine ⟨3 * w + 1, false, (a, p', M, T, cF, fF, d, st'), ⟨rfl, hRT, hf, Or.inr ⟨by decide, rfl, rfl, hC, ?_, e2, by omega, hd, Or.inl ⟨rfl, rfl, q, j, y, h1, h2, h3⟩⟩⟩, hld, ?_⟩
    · have hT : _ + (0 + pcK K) ≤ _ := hT
      omega
    · show _ * 1500 + bm E 0 _ (aCalls K) < _
      rw [bm_run (by decide) (by decide) (by decide), RK_calls h3]; omega
  · obtain ⟨e0, e1, e2, e3, e4, e5, M', y, h1, h2, h3⟩ := h
    subst e0 h1
    obtain ⟨T', cF', c0, c1, c2, T2, c3, c4⟩ := closeX (E := E) (p := p') e1 e2 (by omega) (by omega) hC hRT
    have hy := RK_x h3
    refine ⟨y, false, (a + 1, p', M', T', cF', fF, d, st'), ⟨rfl, c1, hf, Or.inr ⟨by decide, rfl, rfl, c2, ?_, by omega, hy, hd, Or.inr (Or.inr (Or.inr (Or.inr (Or.inr (Or.inr ⟨rfl, by rw [c3]; exact RK_app T2 h3⟩)))))⟩⟩, Lead_trans E (Lead_ok E (hok a (by omega)) (Or.inr (Or.inr (Or.inr (Or.inr (Or.inl ⟨e4, by omega, by omega, m, M', rfl, e3, by rw [e5, c0]⟩)))))) hld, ?_⟩
    · have hT : _ + (3 + pcK K) ≤ _ := hT
      rw [c3, List.length_append]; omega
    · show _ * 1500 + bm E 5 _ (aCalls K) < _
      rw [bm_run (by decide) (by decide) (by decide), RK_calls h3]; omega
  · obtain ⟨e0, e1, e2, e3, d', y, h1, h2, h3⟩ := h
    subst e0 h1
    obtain ⟨T', cF', c0, c1, c2, T2, c3, c4⟩ := retX (E := E) h2 hRT
    have hy := RK_x h3
    refine ⟨y, false, (fF (10 * d'), p', M, T', cF', fF, d', st'), ⟨rfl, c1, hf, Or.inr ⟨by decide, rfl, rfl, c2, ?_, by omega, hy, by omega, Or.inr (Or.inr (Or.inr (Or.inr (Or.inr (Or.inr ⟨rfl, by rw [c3]; exact RK_app T2 h3⟩)))))⟩⟩, Lead_trans E (Lead_ok E (hok a (by omega)) (Or.inr (Or.inr (Or.inr (Or.inr (Or.inr (Or.inr (Or.inr (Or.inr (Or.inr (Or.inr (Or.inr (Or.inr ⟨e3, d', rfl, hd, by rw [c0]⟩))))))))))))) hld, ?_⟩
    · have hT : _ + (9 + pcK K) ≤ _ := hT
      rw [c3, List.length_append]; omega
    · show _ * 1500 + bm E 5 _ (aCalls K) < _
      rw [bm_run (by decide) (by decide) (by decide), RK_calls h3]; omega
  · obtain ⟨e0, e1, e2, e3, q, e, y, M', h1, h2, h3, h4, h5, h6⟩ := h
    subst h1
    have hy := RK_x h6
    have hk2 : pcK ((k, w, m, kp) :: K) = 1 + pcK K := by
      rcases e0 with e0 | e0 <;> (rw [e0]; rfl)
    rw [hk2] at hT
    have hRT2 : RT E ((2, m, 0, 0) :: T) B M' cF fF d := Or.inr (Or.inr (Or.inl ⟨rfl, by omega, hRT⟩))
    have hT2 : ((2, m, 0, 0) :: T).length + pcK K ≤ 4 * nf + nb + 4 * ns := by rw [List.length_cons]; omega
    have hld2 : Lead E (if m = p' then a + 1 else x_ E a, p', M', (2, m, 0, 0) :: T, cF, fF, d, st') (pc, p', m :: M', T, cF, fF, d, st') := Lead_trans E (Lead_ok E (hok a (by omega)) (Or.inr (Or.inr (Or.inr (Or.inr (Or.inr (Or.inr (Or.inr (Or.inl ⟨e3, m, M', rfl, rfl⟩))))))))) hld
    have hta : aTurn E (5, i, (k, w, m, kp) :: K, p', c, B, st', nf, nb, ns) = (if m = p' then 5 else k - 1, w, K, p', c, B, st', nf, nb, ns) := by
      rcases e0 with e0 | e0 <;> (rw [e0]; rfl)
    rw [hta]
    by_cases hmp : m = p'
    · rw [if_pos hmp]; rw [if_pos hmp] at hld2
      refine ⟨y, false, (a + 1, p', M', (2, m, 0, 0) :: T, cF, fF, d, st'), ⟨rfl, hRT2, hf, Or.inr ⟨by decide, rfl, rfl, hC, hT2, e1, hy, hd, Or.inr (Or.inr (Or.inr (Or.inr (Or.inr (Or.inr ⟨rfl, by rw [h3]; exact RK_app [(2, m, 0, 0)] h6⟩)))))⟩⟩, hld2, ?_⟩
      show _ * 1500 + bm E 5 _ (aCalls K) < _
      rw [bm_run (by decide) (by decide) (by decide), RK_calls h6]; omega
    · rw [if_neg hmp]; rw [if_neg hmp] at hld2
      rcases e0 with e0 | e0
      · subst e0
        refine ⟨0, false, (x_ E a, p', M', (2, m, 0, 0) :: T, cF, fF, d, st'), ⟨rfl, hRT2, hf, Or.inr ⟨by decide, rfl, rfl, hC, hT2, e1, by omega, hd, Or.inr (Or.inr (Or.inr (Or.inr (Or.inl ⟨rfl, q, e, y, h2, h5, RK_app [(2, m, 0, 0)] h6⟩))))⟩⟩, hld2, ?_⟩
        show _ * 1500 + bm E 3 _ (aCalls K) < _
        unfold bm; rw [if_neg (by decide), if_pos rfl]; omega
      · subst e0
        refine ⟨x + 1, false, (x_ E a, p', M', (2, m, 0, 0) :: T, cF, fF, d, st'), ⟨rfl, hRT2, hf, Or.inr ⟨by decide, rfl, rfl, hC, hT2, e1, by omega, hd, Or.inr (Or.inr (Or.inr (Or.inr (Or.inr (Or.inl ⟨rfl, q, e, y, h2, by omega, h5, RK_app [(2, m, 0, 0)] h6⟩)))))⟩⟩, hld2, ?_⟩
        show _ * 1500 + bm E 4 _ (aCalls K) < _
        rw [bm_run (by decide) (by decide) (by decide), RK_calls h6]; omega
  · obtain ⟨e0, e1, e2, q, e, y, ⟨F, h1⟩, h2, h3, h4⟩ := h
    subst e0
    have hy := RK_x h4
    have hT : _ + (0 + pcK K) ≤ _ := hT
    cases m with
    | zero =>
      have h1 : a = q := h1
      refine ⟨y, false, (a, p', M, T, cF, fF, d, st'), ⟨rfl, hRT, hf, Or.inr ⟨by decide, rfl, rfl, hC, by omega, e1, hy, hd, Or.inr (Or.inr (Or.inr (Or.inr (Or.inr (Or.inr ⟨rfl, by rw [h1]; exact h4⟩)))))⟩⟩, hld, ?_⟩
      show _ * 1500 + bm E 5 _ (aCalls K) < _
      rw [bm_run (by decide) (by decide) (by decide), RK_calls h4]; omega
    | succ m =>
      obtain ⟨r, h5, h6⟩ := h1
      refine ⟨0, false, (a, p', M, T, cF, fF, d, st'), ⟨rfl, hRT, hf, Or.inr ⟨by decide, rfl, rfl, hC, ?_, e1, by omega, hd, Or.inr (Or.inr (Or.inl ⟨rfl, r, e, ⟨F, h5⟩, ?_⟩))⟩⟩, hld, ?_⟩
      · show _ + (0 + pcK K) ≤ 4 * (nf + 1) + nb + 4 * ns
        omega
      · exact ⟨by omega, 0, r, rfl, Or.inr (Or.inr (Or.inr (Or.inr (Or.inl ⟨rfl, e1, by show m ≤ 8; omega, q, e, y, ⟨F, h6⟩, h2, h2, h4⟩))))⟩
      · show _ * 1500 + bm E 2 _ _ < _
        unfold bm; rw [if_pos rfl]; omega
  · obtain ⟨e0, e1, e2, v, M', T1, T0, y, h1, h2, h3, h4, h5, h6⟩ := h
    subst e0 h2
    have hy := RK_x h6
    have hT : _ + (2 + pcK K) ≤ _ := hT
    have hnB := RT_nch hRT
    rw [h3, nch_app] at hnB
    have hdr : B.length - m = nch T1 := by omega
    have hta : aTurn E (5, i, (7, w, m, kp) :: K, p', c, B, st', nf, nb, ns) = (5, 0, K, p', c, B.drop (B.length - m), st', nf, nb, ns) := rfl
    rw [hta, hdr]
    have hfl : (T1.filter nc).length ≤ T1.length := List.length_filter_le _ _
    have hTl : T.length = T1.length + T0.length := by rw [h3, List.length_append]
    have hfd := flB_drop (nch T1) B
    refine ⟨y, false, (a + 1, p', M', (2, 3 * T0.length, 0, 0) :: (2, v, 0, 0) :: (T1.filter nc ++ T0), cF, fF, d, st'), ⟨rfl, ?_, hf, Or.inr ⟨by decide, rfl, rfl, hC, ?_, by omega, hy, hd, Or.inr (Or.inr (Or.inr (Or.inr (Or.inr (Or.inr ⟨rfl, RK_app ((2, 3 * T0.length, 0, 0) :: (2, v, 0, 0) :: T1.filter nc) h6⟩)))))⟩⟩, Lead_trans E (Lead_ok E (hok a (by omega)) (Or.inr (Or.inr (Or.inr (Or.inr (Or.inr (Or.inr (Or.inr (Or.inr (Or.inr (Or.inr (Or.inl ⟨e2, v, M', T1, T0, rfl, h3, rfl⟩)))))))))))) hld, ?_⟩
    · exact Or.inr (Or.inr (Or.inl ⟨rfl, by omega, Or.inr (Or.inr (Or.inl ⟨rfl, by omega, RT_filter (by rw [← h3]; exact hRT)⟩))⟩))
    · simp only [List.length_cons, List.length_append]; omega
    · show (_ + flB (B.drop (nch T1))) * 1500 + bm E 5 _ (aCalls K) < _
      rw [bm_run (by decide) (by decide) (by decide), RK_calls h6]; omega
  · obtain ⟨e0, e1, e2, M', T1, T0, y, h1, h2, h3, h4, h5⟩ := h
    subst e0 h1
    have hy := RK_x h5
    have hT : _ + (2 + pcK K) ≤ _ := hT
    have hnB := RT_nch hRT
    rw [h2, nch_app] at hnB
    have hdr : B.length - m = nch T1 := by omega
    have hta : aTurn E (5, i, (8, w, m, kp) :: K, p', c, B, st', nf, nb, ns) = (5, 0, K, w, c, B.drop (B.length - m), st', nf, nb, ns) := rfl
    rw [hta, hdr]
    have hfl : (T1.filter nc).length ≤ T1.length := List.length_filter_le _ _
    have hTl : T.length = T1.length + T0.length := by rw [h2, List.length_append]
    have hfd := flB_drop (nch T1) B
    refine ⟨y, false, (a + 1, w, M', (2, 3 * T0.length, 0, 0) :: (2, w, 0, 0) :: (T1.filter nc ++ T0), cF, fF, d, st'), ⟨rfl, ?_, hf, Or.inr ⟨by decide, rfl, rfl, hC, ?_, by omega, hy, hd, Or.inr (Or.inr (Or.inr (Or.inr (Or.inr (Or.inr ⟨rfl, RK_app ((2, 3 * T0.length, 0, 0) :: (2, w, 0, 0) :: T1.filter nc) h5⟩)))))⟩⟩, Lead_trans E (Lead_ok E (hok a (by omega)) (Or.inr (Or.inr (Or.inr (Or.inr (Or.inr (Or.inr (Or.inr (Or.inr (Or.inr (Or.inr (Or.inr (Or.inl ⟨e2, w, M', T1, T0, rfl, e1, h2, rfl⟩))))))))))))) hld, ?_⟩
    · exact Or.inr (Or.inr (Or.inl ⟨rfl, by omega, Or.inr (Or.inr (Or.inl ⟨rfl, by omega, RT_filter (by rw [← h2]; exact hRT)⟩))⟩))
    · simp only [List.length_cons, List.length_append]; omega
    · show (_ + flB (B.drop (nch T1))) * 1500 + bm E 5 _ (aCalls K) < _
      rw [bm_run (by decide) (by decide) (by decide), RK_calls h5]; omega
  · obtain ⟨e0, e1, e2, v, M', T1, T0, b1, b2, r, y, h1, h2, h3, h4, h5⟩ := h
    subst e0 h2
    have hT : _ + (2 + pcK K) ≤ _ := hT
    have hnB := RT_nch hRT
    rw [h3, nch_app] at hnB
    have hn1 : nch ((0, b1, b2, 1) :: T0) = 1 + nch T0 := rfl
    rw [hn1] at hnB
    have hdr : B.length - m = nch T1 + 1 := by omega
    have hta : aTurn E (5, i, (9, w, m, kp) :: K, p', c, B, st', nf, nb, ns) = (6, 0, K, p', c, B.drop (B.length - m), st', nf, nb, ns) := rfl
    rw [hta, hdr]
    have hfl : (T1.filter nc).length ≤ T1.length := List.length_filter_le _ _
    have hTl : T.length = T1.length + (T0.length + 1) := by rw [h3, List.length_append, List.length_cons]
    have hno := RT_not (E := E) (T1 := T1) (B := B) (M := v :: (3 * (T0.length + 1)) :: M') (by rw [← h3]; exact hRT)
    have hoka := hok a (by omega)
    have ha9 := hE.1 a (by omega)
    refine ⟨0, true, (a + 1, p', M', (2, 3 * (T0.length + 1), 0, 0) :: (2, v, 0, 0) :: (T1.filter nc ++ (7, b1, b2, 1) :: T0), cF, fF, d, st'), ⟨rfl, ?_, hf, Or.inl ⟨rfl, rfl, ?_⟩⟩, fun r π2 hN => hld r π2 (LeadF_no E hoka (Or.inr (Or.inr ⟨e2, v, M', T1, T0, (0, b1, b2, 1), rfl, rfl, h3, rfl⟩)) r π2 hN), ?_⟩
    · exact Or.inr (Or.inr (Or.inl ⟨rfl, by omega, Or.inr (Or.inr (Or.inl ⟨rfl, by omega, hno.1⟩))⟩))
    · obtain ⟨z1, z2, z3, z4, z5, z6, z7, z8, z9⟩ := hoka
      simp only [List.length_cons] at z2
      exact ⟨by simp only [List.length_cons, List.length_append]; omega, by omega, fun m hm => z3 m (List.mem_cons_of_mem _ (List.mem_cons_of_mem _ hm)), z4, z5, z6, z7, by omega, z9⟩
    · show (_ + flB (B.drop (nch T1 + 1))) * 1500 + 1500 < _
      have := hno.2
      omega
  · obtain ⟨e0, e1, e2, q, e, y, h1, h2, h3, h4⟩ := h
    have hy := RK_x h4
    have hk2 : pcK ((k, w, m, kp) :: K) = 0 + pcK K := by
      rcases e0 with e0 | e0 <;> (rw [e0]; rfl)
    rw [hk2] at hT
    have hta : aTurn E (5, i, (k, w, m, kp) :: K, p', c, B, st', nf, nb, ns) = (k - 7, w, K, p', c, B, st', nf, nb, ns) := by
      rcases e0 with e0 | e0 <;> (rw [e0]; rfl)
    rw [hta]
    rcases e0 with e0 | e0
    · subst e0
      refine ⟨0, false, (a, p', M, T, cF, fF, d, st'), ⟨rfl, hRT, hf, Or.inr ⟨by decide, rfl, rfl, hC, by omega, e1, by omega, hd, Or.inr (Or.inr (Or.inr (Or.inr (Or.inl ⟨rfl, q, e, y, h1, h3, h4⟩))))⟩⟩, hld, ?_⟩
      show _ * 1500 + bm E 3 _ (aCalls K) < _
      unfold bm; rw [if_neg (by decide), if_pos rfl]; omega
    · subst e0
      refine ⟨x + 1, false, (a, p', M, T, cF, fF, d, st'), ⟨rfl, hRT, hf, Or.inr ⟨by decide, rfl, rfl, hC, by omega, e1, by omega, hd, Or.inr (Or.inr (Or.inr (Or.inr (Or.inr (Or.inl ⟨rfl, q, e, y, h1, by omega, h3, h4⟩)))))⟩⟩, hld, ?_⟩
      show _ * 1500 + bm E 4 _ (aCalls K) < _
      rw [bm_run (by decide) (by decide) (by decide), RK_calls h4]; omega
end T5
