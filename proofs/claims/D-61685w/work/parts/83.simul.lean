section SM2
variable {E : AEnv}
theorem XA_op {pc q i e : Nat} (h : XA E pc q i e) : o_ E pc ≤ 5 := by
  obtain ⟨F, _, _, _, _, h⟩ := h
  rcases h with ⟨_, _, h, _⟩ | ⟨_, h⟩
  · omega
  · rcases h with ⟨_, _, _, h, _⟩ | ⟨_, h, _⟩ | ⟨_, h, _⟩ | ⟨_, h, _⟩ | ⟨_, h, _⟩ | ⟨_, h, _⟩
    all_goals omega
def NEXT (E : AEnv) (x : Nat) (ph : Bool) (σ : ASt) (π : PMt) : Prop :=
  (∃ r, aFin E σ = some r ∧ ∃ N π', Pv E N ph π r π' ∧ FinR E r σ π') ∨
  (aFin E σ = none ∧ GOAL E x ph σ π ∧ Bd E (aTurn E σ))
theorem fin_none {mo i : Nat} {K : List AFr} {p : Nat} {c : ACp} {B : List ABk} {st nf nb ns : Nat} (h6 : mo = 6 → B ≠ []) (h5 : mo = 5 → K ≠ []) (h2 : mo = 2 → st ≠ e_lim E) : aFin E (mo, i, K, p, c, B, st, nf, nb, ns) = none := by
  show (if mo = 6 ∧ B = [] then some 0 else if mo = 5 ∧ K = [] then some 1 else if mo = 2 ∧ st = e_lim E then some 2 else none) = none
  rw [if_neg (fun q => h6 q.1 q.2), if_neg (fun q => h5 q.1 q.2), if_neg (fun q => h2 q.1 q.2)]
theorem next (hE : EH E) {x : Nat} {ph : Bool} {σ : ASt} {π : PMt} (h : RR E x ph σ π) (hb : Bd E σ) : NEXT E x ph σ π := by
  have hok := okA_of hE h hb
  obtain ⟨mo, i, K, p, c, B, st, nf, nb, ns⟩ := σ
  obtain ⟨pc, p', M, T, cF, fF, d, st'⟩ := π
  obtain ⟨_, _, _, _, hst3, hmo, _⟩ := hok
  have hcs : mo = 0 ∨ mo = 1 ∨ mo = 2 ∨ mo = 3 ∨ mo = 4 ∨ mo = 5 ∨ mo = 6 := by omega
  have hnb : mo ≠ 6 → NBd E K p c st nf nb ns := fun q => (NBd_of hE hst3 (hb.1 q).1).1
  rcases hcs with e | e | e | e | e | e | e
  · subst e
    refine Or.inr ⟨fin_none (fun q => absurd q (by decide)) (fun q => absurd q (by decide)) (fun q => absurd q (by decide)), turn0 hE h (hnb (by decide)), bd0 hE hb ?_⟩
    intro hre
    obtain ⟨_, _, _, hh⟩ := h
    rcases hh with ⟨e, _⟩ | ⟨_, _, _, _, _, _, _, _, hm⟩
    · exact absurd e (by decide)
    rcases hm with ⟨_, _, q, j, y, ⟨F, f, hr⟩, _, _⟩ | ⟨e, _⟩ | ⟨e, _⟩ | ⟨e, _⟩ | ⟨e, _⟩ | ⟨e, _⟩ | ⟨e, _⟩
    · cases f with
      | zero => exact hr.elim
      | succ f =>
        rcases hr with ⟨hr, _⟩ | ⟨_, r, hit, _⟩
        · rw [hre] at hr; cases hr
        · exact ⟨hit.1, hit.2.1⟩
    all_goals exact absurd e (by decide)
  · subst e
    refine Or.inr ⟨fin_none (fun q => absurd q (by decide)) (fun q => absurd q (by decide)) (fun q => absurd q (by decide)), turn1 hE h (hnb (by decide)), bd1 hb ?_⟩
    intro r hr1
    obtain ⟨_, _, _, hh⟩ := h
    rcases hh with ⟨e, _⟩ | ⟨_, _, _, _, _, _, _, _, hm⟩
    · exact absurd e (by decide)
    rcases hm with ⟨e, _⟩ | ⟨_, _, q, j, y, ⟨F, f, hr⟩, _, _⟩ | ⟨e, _⟩ | ⟨e, _⟩ | ⟨e, _⟩ | ⟨e, _⟩ | ⟨e, _⟩
    · exact absurd e (by decide)
    · cases f with
      | zero => exact hr.elim
      | succ f =>
        rcases hr with ⟨hn, _⟩ | ⟨r', j1, hn, _, _, _, ⟨g, hrow⟩, _⟩
        · rw [hn] at hr1; cases hr1
        · rw [hn] at hr1; cases hr1
          have := cRow_le hrow
          omega
    all_goals exact absurd e (by decide)
  · subst e
    by_cases hs : st = e_lim E
    · refine Or.inl ⟨2, ?_, ?_⟩
      · show (if 2 = 6 ∧ B = [] then some 0 else if 2 = 5 ∧ K = [] then some 1 else if 2 = 2 ∧ st = e_lim E then some 2 else none) = some 2
        rw [if_neg (fun q => absurd q.1 (by decide)), if_neg (fun q => absurd q.1 (by decide)), if_pos ⟨rfl, hs⟩]
      · obtain ⟨b1, b2, b3, b4, b5⟩ := hnb (by decide)
        obtain ⟨e1, hRT, hf, hh⟩ := h
        rcases hh with ⟨e, _⟩ | ⟨_, hph, hp, hC, hT, hi, hx, hd, hm⟩
        · exact absurd e (by decide)
        subst hph hp e1
        rcases hm with ⟨e, _⟩ | ⟨e, _⟩ | ⟨_, q, e, hA, hk⟩ | ⟨_, ho, hT1, q, e, hA, hk⟩ | ⟨e, _⟩ | ⟨e, _⟩ | ⟨e, _⟩
        · exact absurd e (by decide)
        · exact absurd e (by decide)
        · have hok := okP_of hE (show T.length ≤ 46200 by omega) hk (by omega) b3 hf hC b4 hd b5
          have hop := XA_op hA
          exact ⟨1, _, ⟨hok pc (by omega), Or.inr (Or.inl ⟨hop, hs, rfl, rfl⟩)⟩, rfl, b5, by decide, fun q => absurd q (by decide)⟩
        · have hok := okP_of hE (T := (1, 0, 0, 0) :: T) (by rw [List.length_cons]; omega) hk (by omega) b3 hf hC b4 hd b5
          have hop := XA_op hA
          have hok0 : okP E (pc, p', M, T, cF, fF, d, st') := by
            obtain ⟨z1, z2, z3, z4, z5⟩ := hok pc (by omega)
            simp only [List.length_cons] at z1 z2
            exact ⟨by omega, by omega, fun m hm => z3 m (List.mem_cons_of_mem _ hm), z4, z5⟩
          obtain ⟨N, hN⟩ := Lead_ok E (π1 := (pc + 1, p', p' :: M, (1, 0, 0, 0) :: T, cF, fF, d, st')) hok0 (Or.inr (Or.inr (Or.inr (Or.inl ⟨Or.inr ho, rfl⟩)))) 2 (pc + 1, p', p' :: M, (1, 0, 0, 0) :: T, cF, fF, d, st') ⟨1, hok (pc + 1) (by omega), Or.inr (Or.inl ⟨hop, hs, rfl, rfl⟩)⟩
          exact ⟨N, _, hN, rfl, b5, by decide, fun q => absurd q (by decide)⟩
        · exact absurd e (by decide)
        · exact absurd e (by decide)
        · exact absurd e (by decide)
    · exact Or.inr ⟨fin_none (fun q => absurd q (by decide)) (fun q => absurd q (by decide)) (fun _ => hs), turn2 hE h (hnb (by decide)) (by omega), bd2 hE hb (by omega)⟩
  · subst e
    exact Or.inr ⟨fin_none (fun q => absurd q (by decide)) (fun q => absurd q (by decide)) (fun q => absurd q (by decide)), turn3 hE h (hnb (by decide)), bd3 hb⟩
  · subst e
    exact Or.inr ⟨fin_none (fun q => absurd q (by decide)) (fun q => absurd q (by decide)) (fun q => absurd q (by decide)), turn4 hE h (hnb (by decide)), bd4 hb⟩
  · subst e
    cases K with
    | nil =>
      refine Or.inl ⟨1, rfl, ?_⟩
      obtain ⟨b1, b2, b3, b4, b5⟩ := hnb (by decide)
      obtain ⟨e1, hRT, hf, hh⟩ := h
      rcases hh with ⟨e, _⟩ | ⟨_, hph, hp, hC, hT, hi, hx, hd, hm⟩
      · exact absurd e (by decide)
      subst hph hp e1
      rcases hm with ⟨e, _⟩ | ⟨e, _⟩ | ⟨e, _⟩ | ⟨e, _⟩ | ⟨e, _⟩ | ⟨e, _⟩ | ⟨_, hk⟩
      · exact absurd e (by decide)
      · exact absurd e (by decide)
      · exact absurd e (by decide)
      · exact absurd e (by decide)
      · exact absurd e (by decide)
      · exact absurd e (by decide)
      · have hok := okP_of hE (show T.length ≤ 46200 by omega) hk (by omega) b3 hf hC b4 hd b5
        obtain ⟨_, k, a, hgo, ho, hd0, hM⟩ := hk
        obtain ⟨N, hN⟩ := Lead_go hok _ _ _ hgo 1 (a, p', M, T, cF, fF, d, st') ⟨1, hok a (by omega), Or.inl ⟨ho, hd0, rfl, rfl⟩⟩
        exact ⟨N, _, hN, rfl, b5, by decide, fun _ => ⟨rfl, b3, hC, b4⟩⟩
    | cons f K =>
      refine Or.inr ⟨fin_none (fun q => absurd q (by decide)) (fun _ q => by cases q) (fun q => absurd q (by decide)), turn5 hE h (hnb (by decide)), ?_⟩
      obtain ⟨k, w, m, kp⟩ := f
      have hko := (okA_of hE h hb).1 (by decide)
      exact bd5 hE hb hko.2.2.1.1 hko.2.2.1.2.1
  · subst e
    cases B with
    | nil =>
      refine Or.inl ⟨0, rfl, ?_⟩
      obtain ⟨e1, hRT, hf, hh⟩ := h
      rcases hh with ⟨_, hph, hok⟩ | ⟨q, _⟩
      · subst hph e1
        exact ⟨1, (pc, p', M, T, cF, fF, d, st'), ⟨hok, RT_undo0 ⟨rfl, rfl⟩ hRT⟩, rfl, hst3, by decide, fun q => absurd q (by decide)⟩
      · exact absurd rfl q
    | cons b B =>
      exact Or.inr ⟨fin_none (fun _ q => by cases q) (fun q => absurd q (by decide)) (fun q => absurd q (by decide)), turn6 hE h, bd6 hb⟩
theorem simul (hE : EH E) : ∀ (m x : Nat) (ph : Bool) (σ : ASt) (π : PMt), meas E x σ ≤ m → RR E x ph σ π → Bd E σ → ∃ r σ', Ev E (m + 1) σ r σ' ∧ ∃ N π', Pv E N ph π r π' ∧ FinR E r σ' π' := by
  intro m
  induction m with
  | zero =>
    intro x ph σ π hm h hb
    rcases next hE h hb with ⟨r, hr, N, π', hN, hF⟩ | ⟨_, ⟨x', ph', π', _, _, g3⟩, _⟩
    · exact ⟨r, σ, ⟨okA_of hE h hb, Or.inl ⟨hr, rfl⟩⟩, N, π', hN, hF⟩
    · omega
  | succ m ih =>
    intro x ph σ π hm h hb
    rcases next hE h hb with ⟨r, hr, N, π', hN, hF⟩ | ⟨hn, ⟨x', ph', π', g1, g2, g3⟩, g4⟩
    · exact ⟨r, σ, ⟨okA_of hE h hb, Or.inl ⟨hr, rfl⟩⟩, N, π', hN, hF⟩
    · obtain ⟨r, σ', hEv, N, π2, hN, hF⟩ := ih x' ph' _ π' (by omega) g1 g4
      obtain ⟨N2, hN2⟩ := g2 r π2 ⟨N, hN⟩
      exact ⟨r, σ', ⟨okA_of hE h hb, Or.inr ⟨hn, hEv⟩⟩, N2, π2, hN2, hF⟩
theorem simul0 (hE : EH E) {p d : Nat} {cF fF : ACp} {st : Nat} (hp : p ≤ e_L E) (hst : st ≤ e_lim E) (hc0 : ∀ a, 2 ≤ a → a < 10 → cF a = 0) (hf : ∀ a, fF a < 2 ^ 20) (hcO : e_cO E 0 = 0) :
    ∃ r σ', Ev E 902000 (1, 0, [], p, c00, [], st, 0, 0, 0) r σ' ∧ ∃ N π', Pv E N false (e_en E 0, p, [], [], cF, fF, 0, st) r π' ∧ FinR E r σ' π' := by
  obtain ⟨hG4, hG⟩ := hE.2.1
  obtain ⟨hcn, q2, j, hc, hr16⟩ := hG 0 (Nat.zero_le _)
  have hj := XC_le hc
  have hn := hE.2.2.2.2.1
  have hl := hE.2.2.2.2.2.2
  rw [hcO] at hc
  have hCG : CGd (e_L E) c00 := fun g => Or.inl rfl
  have hm : meas E 0 (1, 0, [], p, c00, [], st, 0, 0, 0) ≤ 901999 := by
    show (2 * (e_lim E - st) + 0) * 1500 + bm E 1 0 0 ≤ 901999
    rw [bm_run (by decide) (by decide) (by decide)]; omega
  refine simul hE 901999 0 false _ _ hm ⟨rfl, rfl, hf, Or.inr ⟨by decide, rfl, rfl, ?_, Nat.zero_le _, Nat.zero_le _, Nat.zero_le _, Nat.zero_le _, Or.inr (Or.inl ⟨rfl, rfl, q2, j, 3 * j + 2, hc, Nat.le_refl _, by omega, 0, q2, rfl, hr16, rfl, rfl⟩)⟩⟩ ⟨fun _ => ⟨⟨?_, ?_, ?_, Nat.le_refl _, hp, hCG, trivial, trivial⟩, Nat.le_refl _⟩, trivial, hst, hp⟩
  · intro g g1 g4
    have v1 := hc0 (2 * g) (by omega) (by omega)
    have v2 := hc0 (2 * g + 1) (by omega) (by omega)
    have z : c00 g = 0 := rfl
    rw [v1, v2, z]; decide
  · show 0 + 2 * ((e_n E - 0) / 3) ≤ _
    omega
  · show 0 + ((e_n E - 0) / 3 + 1) ≤ _
    omega
  · show 0 + (e_n E - 0) / 4 ≤ _
    omega
end SM2
