def GOAL (E : AEnv) (x : Nat) (ph : Bool) (σ : ASt) (π : PMt) : Prop := ∃ x' ph' π', RR E x' ph' (aTurn E σ) π' ∧ (∀ r π2, (∃ N, Pv E N ph' π' r π2) → ∃ N, Pv E N ph π r π2) ∧ meas E x' (aTurn E σ) < meas E x σ
section T1
variable {E : AEnv}
theorem cRow_le {cr : Nat → Nat → Nat → Nat → Prop} : ∀ {f pc q i j : Nat}, cRow E cr f pc q i j → i ≤ j ∧ j ≤ e_n E := by
  intro f
  induction f with
  | zero => intro pc q i j h; exact h.elim
  | succ f ih =>
    intro pc q i j h
    rcases h with ⟨_, _, h1, h2⟩ | ⟨_, r, h1, h2⟩
    · omega
    · have h3 := ih h2
      have h4 := h1.1
      have h5 := iBeh_ge E i
      omega
theorem cCho_le {cr : Nat → Nat → Nat → Nat → Prop} : ∀ {f pc q i j : Nat}, cCho E cr f pc q i j → i ≤ j ∧ j ≤ e_n E := by
  intro f
  induction f with
  | zero => intro pc q i j h; exact h.elim
  | succ f ih =>
    intro pc q i j h
    rcases h with ⟨_, g, h1⟩ | ⟨r, j1, _, _, _, _, ⟨g, h1⟩, _, _, h2⟩
    · exact cRow_le h1
    · have h3 := ih h2
      have h4 := cRow_le h1
      omega
theorem bm_run {mo x d : Nat} (h2 : mo ≠ 2) (h3 : mo ≠ 3) (h6 : mo ≠ 6) : bm E mo x d = 3 * e_n E + 3 - x + 110 * d := by
  unfold bm; rw [if_neg h2, if_neg h3, if_neg h6]
theorem aT0 (i : Nat) (K : List AFr) (p : Nat) (c : ACp) (B : List ABk) (st nf nb ns : Nat) : aTurn E (0, i, K, p, c, B, st, nf, nb, ns) = if e_rE E i = true then (5, 0, K, p, c, B, st, nf, nb, ns) else aItem E i K p c B st nf nb ns := rfl
theorem turn0 (hE : EH E) {x i p st nf nb ns pc p' d st' : Nat} {ph : Bool} {K : List AFr} {c cF fF : ACp} {B : List ABk} {M : List Nat} {T : List PEn} (h : RR E x ph (0, i, K, p, c, B, st, nf, nb, ns) (pc, p', M, T, cF, fF, d, st')) (hb : NBd E K p c st nf nb ns) : GOAL E x ph (0, i, K, p, c, B, st, nf, nb, ns) (pc, p', M, T, cF, fF, d, st') := by
  obtain ⟨hst, hRT, hf, hh⟩ := h
  rcases hh with ⟨e, _⟩ | ⟨_, hph, hp, hC, hT, hi, hx, hd, hm⟩
  · exact absurd e (by decide)
  rcases hm with ⟨_, hx0, q, j, y, ⟨F, f, hr⟩, hjy, hk⟩ | ⟨e, _⟩ | ⟨e, _⟩ | ⟨e, _⟩ | ⟨e, _⟩ | ⟨e, _⟩ | ⟨e, _⟩
  rotate_left
  · exact absurd e (by decide)
  · exact absurd e (by decide)
  · exact absurd e (by decide)
  · exact absurd e (by decide)
  · exact absurd e (by decide)
  · exact absurd e (by decide)
  subst hst hph hp
  obtain ⟨hb1, hb2, hb3, hb4, hb5⟩ := hb
  have hcal := RK_calls hk
  have hyn := RK_x hk
  have hok := okP_of hE (show T.length ≤ 46200 by omega) hk (by omega) hb3 hf hC hb4 hd hb5
  have hml := RK_len hk
  cases f with
  | zero => exact hr.elim
  | succ f =>
    rcases hr with ⟨hre, hpq, hji, hin⟩ | ⟨hre, r, hit, hrow⟩
    · have ht : aTurn E (0, i, K, p', c, B, st', nf, nb, ns) = (5, 0, K, p', c, B, st', nf, nb, ns) := by
        rw [aT0, if_pos hre]
      unfold GOAL; rw [ht]
      refine ⟨y, false, (pc, p', M, T, cF, fF, d, st'), ⟨rfl, hRT, hf, Or.inr ⟨by decide, rfl, rfl, hC, hT, by omega, hyn, hd, Or.inr (Or.inr (Or.inr (Or.inr (Or.inr (Or.inr ⟨rfl, by rw [hpq]; exact hk⟩)))))⟩⟩, fun _ _ h => h, ?_⟩
      show _ * 1500 + bm E 5 y (aCalls K) < _ * 1500 + bm E 0 x (aCalls K)
      rw [bm_run (by decide) (by decide) (by decide), bm_run (by decide) (by decide) (by decide)]; omega
    · have ht : aTurn E (0, i, K, p', c, B, st', nf, nb, ns) = aItem E i K p' c B st' nf nb ns := by
        rw [aT0, if_neg (by rw [hre]; decide)]
      unfold GOAL; rw [ht]
      obtain ⟨hib, hbn, hit⟩ := hit
      have hbg := iBeh_ge E i
      rcases hit with ⟨hsk, hit⟩ | ⟨hsk, hit⟩
      · have h4 := iBeh_4 (iSkip_4 hsk)
        unfold aItem; rw [if_pos hsk]
        have hle : meas E (3 * iBeh E i + 1) (0, iBeh E i, K, p', c, B, st', nf, nb, ns + 1) < meas E x (0, i, K, p', c, B, st', nf, nb, ns) := by
          show _ * 1500 + bm E 0 _ (aCalls K) < _ * 1500 + bm E 0 x (aCalls K)
          rw [bm_run (by decide) (by decide) (by decide), bm_run (by decide) (by decide) (by decide)]; omega
        rcases hit with ⟨hw, h1, h2, h3, hq⟩ | ⟨hw, hq⟩
        · refine ⟨3 * iBeh E i + 1, false, (pc + 2, p', M, (2, 3 * T.length, 0, 0) :: (2, p', 0, 0) :: (1, 0, 0, 0) :: (1, 0, 0, 0) :: T, cF, fF, d, st'), ⟨rfl, ?_, hf, Or.inr ⟨by decide, rfl, rfl, hC, ?_, hbn, by omega, hd, Or.inl ⟨rfl, rfl, q, j, y, ⟨F, f, by rw [← hq]; exact hrow⟩, hjy, RK_app [(2, 3 * T.length, 0, 0), (2, p', 0, 0), (1, 0, 0, 0), (1, 0, 0, 0)] hk⟩⟩⟩, ?_, hle⟩
          · have h6 := hE.2.2.2.2.2.1
            exact Or.inr (Or.inr (Or.inl ⟨rfl, by omega, Or.inr (Or.inr (Or.inl ⟨rfl, by omega, Or.inr (Or.inl ⟨rfl, p', 3 * T.length :: M, rfl, Or.inr (Or.inl ⟨rfl, 3 * T.length, M, rfl, hRT⟩)⟩)⟩))⟩))
          · simp only [List.length_cons]; omega
          · have hz := hok pc (by omega)
            have hz1 := hok (pc + 1) (by omega)
            refine Lead_trans E (Lead_ok E (π := (pc + 1, p', p' :: (3 * T.length) :: M, (1, 0, 0, 0) :: (1, 0, 0, 0) :: T, cF, fF, d, st')) ?_ ?_) (Lead_ok E hz ?_)
            · obtain ⟨z1, z2, z3, z4, z5⟩ := hz1
              refine ⟨by simp only [List.length_cons]; omega, by simp only [List.length_cons]; omega, ?_, z4, z5⟩
              intro m hm
              have h6 := hE.2.2.2.2.2.1
              rcases List.mem_cons.mp hm with e | hm
              · omega
              · rcases List.mem_cons.mp hm with e | hm
                · omega
                · exact z3 m hm
            · exact Or.inr (Or.inr (Or.inr (Or.inr (Or.inr (Or.inr (Or.inr (Or.inr (Or.inr (Or.inr (Or.inl ⟨h3, p', M, [(1, 0, 0, 0), (1, 0, 0, 0)], T, rfl, rfl, rfl⟩))))))))))
            · exact Or.inr (Or.inr (Or.inr (Or.inr (Or.inr (Or.inr (Or.inr (Or.inr (Or.inl ⟨h1, h2, rfl⟩))))))))
        · refine ⟨3 * iBeh E i + 1, false, (pc, p', M, T, cF, fF, d, st'), ⟨rfl, hRT, hf, Or.inr ⟨by decide, rfl, rfl, hC, by omega, hbn, by omega, hd, Or.inl ⟨rfl, rfl, q, j, y, ⟨F, f, by rw [← hq]; exact hrow⟩, hjy, hk⟩⟩⟩, fun _ _ h => h, hle⟩
      · unfold aItem; rw [if_neg (by rw [hsk]; decide)]
        have hmeas : meas E x (0, i, K, p', c, B, st', nf, nb, ns) = (2 * (e_lim E - st') + flB B) * 1500 + (3 * e_n E + 3 - x + 110 * d) := by
          show _ * 1500 + bm E 0 x (aCalls K) = _
          rw [bm_run (by decide) (by decide) (by decide), hcal]
        rcases hit with ⟨hw, h1, h2, r', hco, h3, hq⟩ | ⟨hw, hco⟩
        · rw [if_pos hw]
          have hk0 : iK E i ≠ 0 := by rcases iHow_or E i with z | z; omega; exact z.1
          have hb2' := iBeh_2 (E := E) (i := i) (by omega)
          have hrk1 : RK E ((1, iBeh E i, 0, c00) :: K) (3 * e_bA E i + 6) (r' + 1) M fF d T := ⟨by omega, 0, r' + 1, rfl, Or.inl ⟨rfl, by omega, hbn, rfl, q, j, y, ⟨F, f, by rw [← hq]; exact hrow⟩, hjy, hk⟩⟩
          have hrk : RK E ((7, 0, B.length, c00) :: (1, iBeh E i, 0, c00) :: K) (3 * e_bA E i + 3) r' (p' :: (3 * T.length) :: M) fF d ((1, 0, 0, 0) :: (1, 0, 0, 0) :: T) :=
            ⟨by omega, 0, r', rfl, Or.inr (Or.inr (Or.inr (Or.inr (Or.inr (Or.inl ⟨rfl, rfl, h3, p', M, [(1, 0, 0, 0), (1, 0, 0, 0)], T, 3 * e_bA E i + 6, hb3, rfl, rfl, (RT_nch hRT).symm, by omega, hrk1⟩)))))⟩
          have hok2 := okP_of hE (T := (1, 0, 0, 0) :: (1, 0, 0, 0) :: T) (by simp only [List.length_cons]; omega) hrk (by simp only [List.length_cons]; omega) hb3 hf hC hb4 hd hb5
          obtain ⟨x', π', g1, g2, g3⟩ := coreT (c := c) (B := B) (st := st') (nf := nf + 2) (nb := nb) (ns := ns) (x := x) hco hi hib hrk (fun z => absurd z hk0) (fun _ => by omega) (by omega) hC (by show _ + (2 + (0 + pcK K)) ≤ _; simp only [List.length_cons]; omega) hd (Or.inr (Or.inl ⟨rfl, p', 3 * T.length :: M, rfl, Or.inr (Or.inl ⟨rfl, 3 * T.length, M, rfl, hRT⟩)⟩)) hf hok2
          exact ⟨x', false, π', g1, Lead_trans E g2 (Lead_ok E (hok pc (by omega)) (Or.inr (Or.inr (Or.inr (Or.inr (Or.inr (Or.inr (Or.inr (Or.inr (Or.inl ⟨h1, h2, rfl⟩)))))))))), by rw [hmeas]; exact g3⟩
        · rw [if_neg hw]
          have hrk : ∀ z, z ≤ 3 * iBeh E i → RK E ((1, iBeh E i, 0, c00) :: K) z r M fF d T := fun z hz => ⟨by omega, 0, r, rfl, Or.inl ⟨rfl, hz, hbn, rfl, q, j, y, ⟨F, f, hrow⟩, hjy, hk⟩⟩
          by_cases hk0 : iK E i = 0
          · obtain ⟨x', π', g1, g2, g3⟩ := coreT (c := c) (B := B) (st := st') (nf := nf + 1) (nb := nb) (ns := ns) (x := x) hco hi hib (hrk (3 * e_bA E i) (by omega)) (fun _ => rfl) (fun z => absurd hk0 z) (by omega) hC (by show _ + (0 + pcK K) ≤ _; omega) hd hRT hf hok
            exact ⟨x', false, π', g1, g2, by rw [hmeas]; exact g3⟩
          · have hb1' := iBeh_1 hk0
            obtain ⟨x', π', g1, g2, g3⟩ := coreT (c := c) (B := B) (st := st') (nf := nf + 1) (nb := nb) (ns := ns) (x := x) hco hi hib (hrk (3 * e_bA E i + 3) (by omega)) (fun z => absurd z hk0) (fun _ => by omega) (by omega) hC (by show _ + (0 + pcK K) ≤ _; omega) hd hRT hf hok
            exact ⟨x', false, π', g1, g2, by rw [hmeas]; exact g3⟩
end T1
