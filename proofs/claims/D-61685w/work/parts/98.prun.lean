section PRn
variable {E : AEnv} {V : PBs} {s : Nat → Int32}
theorem one_ok (hE : EH E) (hV : HV E V s) {π π1 : PMt} (hok : okP E π) (h1 : pOk E π π1) : ∃ h m, ∀ u, PR V π u → OKg V u π1 h m := by
  obtain ⟨pc, p, M, T, cF, fF, d, st⟩ := π
  rcases h1 with ⟨ho, hst, p', hp, e⟩ | ⟨ho, hst, hd, hx4, e⟩ | ⟨ho, hst, e⟩ | ⟨ho, e⟩ | ⟨ho, hx1, hx4, m, M', hM, hmL, e⟩ | ⟨ho, e⟩ | ⟨ho, e⟩ | ⟨ho, m, M', hM, e⟩ | ⟨ho, hx, e⟩ | ⟨ho, hx, e⟩ | ⟨ho, m, M', T1, T0, hM, hT, e⟩ | ⟨ho, m, M', T1, T0, hM, hmL, hT, e⟩ | ⟨ho, d', hd, hd12, e⟩
  · exact ⟨_, _, fun u h => by rw [e]; exact (ok_plain hV h hok ho hst).1 p' hp⟩
  · exact ⟨_, _, fun u h => by rw [e]; exact ok_call hV h hok ho hst hd hx4 (by have := hE.1 pc (by omega); omega)⟩
  · exact ⟨_, _, fun u h => by rw [e]; exact ok_step hV h hok ho hst⟩
  · exact ⟨_, _, fun u h => by rw [e]; exact ok_push hV h hok ho⟩
  · subst hM; exact ⟨_, _, fun u h => by rw [e]; exact ok_close hV h hok ho hx1 hx4 hmL⟩
  · exact ⟨_, _, fun u h => by rw [e]; exact ok_split hV h hok ho⟩
  · exact ⟨_, _, fun u h => by rw [e]; exact ok_go hV h hok ho⟩
  · subst hM; exact ⟨_, _, fun u h => by rw [e]; exact ok_moved hV h hok ho⟩
  · exact ⟨_, _, fun u h => by rw [e]; exact ok_fence0 hV h hok ho hx⟩
  · exact ⟨_, _, fun u h => by rw [e]; exact ok_fence1 hV h hok ho hx⟩
  · subst hM hT; exact ⟨_, _, fun u h => by rw [e]; exact ok_cut hV h hok ho⟩
  · subst hM hT; exact ⟨_, _, fun u h => by rw [e]; exact ok_look hV h hok ho⟩
  · subst hd; exact ⟨_, _, fun u h => by rw [e]; exact ok_ret hV h hok ho (by omega)⟩
theorem one_no (hV : HV E V s) {π π1 : PMt} (hok : okP E π) (h1 : pNo E π π1) : ∃ h m, ∀ u, PR V π u → NOg V u π1 h m := by
  obtain ⟨pc, p, M, T, cF, fF, d, st⟩ := π
  rcases h1 with ⟨ho, hst, hp, e⟩ | ⟨ho, hst, hd, e⟩ | ⟨ho, m, M', T1, T0, en, hM, he, hT, e⟩
  · exact ⟨_, _, fun u h => by rw [e]; exact (ok_plain hV h hok ho hst).2 hp⟩
  · exact ⟨_, _, fun u h => by rw [e]; exact no_call hV h ho hst hok hd⟩
  · obtain ⟨k, a, b, g⟩ := en
    have he : k = 0 := he
    subst he hM hT; exact ⟨_, _, fun u h => by rw [e]; exact no_not hV h hok ho⟩
theorem undo_ex {S : Nat → Nat → List Nat → List PEn → ACp → ACp → Nat → Prop} {Z : Prop} : ∀ {T : List PEn} {M : List Nat} {cF fF : ACp} {d : Nat}, pUndo S Z T M cF fF d → (Z ∧ ∀ (S' : Nat → Nat → List Nat → List PEn → ACp → ACp → Nat → Prop) (Z' : Prop), Z' → pUndo S' Z' T M cF fF d) ∨ (∃ a b M1 T1 cF1 fF1 d1, S a b M1 T1 cF1 fF1 d1 ∧ ∀ (S' : Nat → Nat → List Nat → List PEn → ACp → ACp → Nat → Prop) (Z' : Prop), S' a b M1 T1 cF1 fF1 d1 → pUndo S' Z' T M cF fF d) := by
  intro T
  induction T with
  | nil => intro M cF fF d h; exact Or.inl ⟨h, fun _ _ h => h⟩
  | cons e T ih =>
    obtain ⟨k, a, b, gh⟩ := e
    intro M cF fF d h
    rcases h with ⟨e0, h⟩ | ⟨e0, m, M', hM, h⟩ | ⟨e0, ha, h⟩ | ⟨e0, ha2, ha, h⟩ | ⟨e0, ha, hb, h⟩ | ⟨e0, d', hd, h⟩ | ⟨e0, h⟩ | ⟨e0, h⟩
    · exact Or.inr ⟨a, b, M, T, cF, fF, d, h, fun S' Z' hS => Or.inl ⟨e0, hS⟩⟩
    · rcases ih h with ⟨h1, h2⟩ | ⟨a1, b1, M1, T1, cF1, fF1, d1, h1, h2⟩
      · exact Or.inl ⟨h1, fun S' Z' hz => Or.inr (Or.inl ⟨e0, m, M', hM, h2 S' Z' hz⟩)⟩
      · exact Or.inr ⟨a1, b1, M1, T1, cF1, fF1, d1, h1, fun S' Z' hz => Or.inr (Or.inl ⟨e0, m, M', hM, h2 S' Z' hz⟩)⟩
    · rcases ih h with ⟨h1, h2⟩ | ⟨a1, b1, M1, T1, cF1, fF1, d1, h1, h2⟩
      · exact Or.inl ⟨h1, fun S' Z' hz => Or.inr (Or.inr (Or.inl ⟨e0, ha, h2 S' Z' hz⟩))⟩
      · exact Or.inr ⟨a1, b1, M1, T1, cF1, fF1, d1, h1, fun S' Z' hz => Or.inr (Or.inr (Or.inl ⟨e0, ha, h2 S' Z' hz⟩))⟩
    · rcases ih h with ⟨h1, h2⟩ | ⟨a1, b1, M1, T1, cF1, fF1, d1, h1, h2⟩
      · exact Or.inl ⟨h1, fun S' Z' hz => Or.inr (Or.inr (Or.inr (Or.inl ⟨e0, ha2, ha, h2 S' Z' hz⟩)))⟩
      · exact Or.inr ⟨a1, b1, M1, T1, cF1, fF1, d1, h1, fun S' Z' hz => Or.inr (Or.inr (Or.inr (Or.inl ⟨e0, ha2, ha, h2 S' Z' hz⟩)))⟩
    · rcases ih h with ⟨h1, h2⟩ | ⟨a1, b1, M1, T1, cF1, fF1, d1, h1, h2⟩
      · exact Or.inl ⟨h1, fun S' Z' hz => Or.inr (Or.inr (Or.inr (Or.inr (Or.inl ⟨e0, ha, hb, h2 S' Z' hz⟩))))⟩
      · exact Or.inr ⟨a1, b1, M1, T1, cF1, fF1, d1, h1, fun S' Z' hz => Or.inr (Or.inr (Or.inr (Or.inr (Or.inl ⟨e0, ha, hb, h2 S' Z' hz⟩))))⟩
    · rcases ih h with ⟨h1, h2⟩ | ⟨a1, b1, M1, T1, cF1, fF1, d1, h1, h2⟩
      · exact Or.inl ⟨h1, fun S' Z' hz => Or.inr (Or.inr (Or.inr (Or.inr (Or.inr (Or.inl ⟨e0, d', hd, h2 S' Z' hz⟩)))))⟩
      · exact Or.inr ⟨a1, b1, M1, T1, cF1, fF1, d1, h1, fun S' Z' hz => Or.inr (Or.inr (Or.inr (Or.inr (Or.inr (Or.inl ⟨e0, d', hd, h2 S' Z' hz⟩)))))⟩
    · rcases ih h with ⟨h1, h2⟩ | ⟨a1, b1, M1, T1, cF1, fF1, d1, h1, h2⟩
      · exact Or.inl ⟨h1, fun S' Z' hz => Or.inr (Or.inr (Or.inr (Or.inr (Or.inr (Or.inr (Or.inl ⟨e0, h2 S' Z' hz⟩))))))⟩
      · exact Or.inr ⟨a1, b1, M1, T1, cF1, fF1, d1, h1, fun S' Z' hz => Or.inr (Or.inr (Or.inr (Or.inr (Or.inr (Or.inr (Or.inl ⟨e0, h2 S' Z' hz⟩))))))⟩
    · rcases ih h with ⟨h1, h2⟩ | ⟨a1, b1, M1, T1, cF1, fF1, d1, h1, h2⟩
      · exact Or.inl ⟨h1, fun S' Z' hz => Or.inr (Or.inr (Or.inr (Or.inr (Or.inr (Or.inr (Or.inr ⟨e0, h2 S' Z' hz⟩))))))⟩
      · exact Or.inr ⟨a1, b1, M1, T1, cF1, fF1, d1, h1, fun S' Z' hz => Or.inr (Or.inr (Or.inr (Or.inr (Or.inr (Or.inr (Or.inr ⟨e0, h2 S' Z' hz⟩))))))⟩
theorem op_of (hV : HV E V s) {pc p : Nat} {M : List Nat} {T : List PEn} {cF fF : ACp} {d st : Nat} {u : PS} (h : PR V (pc, p, M, T, cF, fF, d, st) u) (ho : o_ E pc ≤ 16) : vp_in (p_pc u) (p_opN u) ∧ p_opF u (p_pc u).toNatClampNeg = some (o_ E pc) := by
  obtain ⟨hX, hm, hpc⟩ := h
  obtain ⟨c1, c2, c3, c4, c5, c6⟩ := hV.2.2.1 pc ho
  have n1 := hV.2.2.2.1
  have epr := V_pr hX
  rw [← epr] at c1 c4 n1
  rw [hpc, nI_clamp (by omega)]
  exact ⟨vp_in_nI c1 n1, c4⟩
theorem stop_one (hV : HV E V s) {pc p : Nat} {M : List Nat} {T : List PEn} {cF fF : ACp} {d st : Nat} {u : PS} {Q : Int32 → PS → Prop} (h : PR V (pc, p, M, T, cF, fF, d, st) u) (ho : o_ E pc ≤ 5) (hst : st = e_lim E) (hQ : ∀ v, PX V p M T cF fF d st v → p_tN v = p_tN u → p_kN v = p_kN u → Q 0 (ps_stopped v 1)) : P_B_one 0 0 u Q := by
  obtain ⟨v, v1, v2, v3, v4, hO⟩ := one_at hV h (by omega)
  have hq := hQ v v1 v3 v4
  have hcs : o_ E pc = 0 ∨ o_ E pc = 1 ∨ o_ E pc = 2 ∨ o_ E pc = 3 ∨ o_ E pc = 4 ∨ o_ E pc = 5 := by omega
  rcases hcs with e | e | e | e | e | e
  · rw [e] at hO; exact hO Q _ _ (one_0 (s_stop v1 (V_lim hV v1) hst ⟨fun _ => hq, fun z => absurd rfl z⟩))
  · rw [e] at hO; exact hO Q _ _ (one_1 (s_stop v1 (V_lim hV v1) hst ⟨fun _ => hq, fun z => absurd rfl z⟩))
  · rw [e] at hO; exact hO Q _ _ (one_2 (s_stop v1 (V_lim hV v1) hst ⟨fun _ => hq, fun z => absurd rfl z⟩))
  · rw [e] at hO; exact hO Q _ _ (one_3 (s_stop v1 (V_lim hV v1) hst ⟨fun _ => hq, fun z => absurd rfl z⟩))
  · rw [e] at hO; exact hO Q _ _ (one_4 (s_stop v1 (V_lim hV v1) hst ⟨fun _ => hq, fun z => absurd rfl z⟩))
  · rw [e] at hO; exact hO Q _ _ (one_5 (s_stop v1 (V_lim hV v1) hst ⟨Or.inl rfl, hq⟩))
def RunQ (E : AEnv) (V : PBs) (r : Nat) (π' : PMt) (tf kf : Nat) (res : Int32) (u1 : PS) : Prop :=
  (r = 1 ∧ res = 1 ∧ PR V π' u1 ∧ okP E π' ∧ p_tN u1 = tf ∧ p_kN u1 = kf) ∨
  (r = 0 ∧ res = 0 ∧ (∃ p M cF d, PX V p M [] cF (unF π'.2.2.2.1 π'.2.2.2.2.2.1) d π'.2.2.2.2.2.2.2 u1 ∧ ∀ a, unF π'.2.2.2.1 π'.2.2.2.2.2.1 a < 2 ^ 20) ∧ p_tN u1 = tf ∧ p_kN u1 = kf) ∨
  (r = 2 ∧ res = 0 ∧ (∃ v p M T cF d, u1 = ps_stopped v 1 ∧ PX V p M T cF π'.2.2.2.2.2.1 d π'.2.2.2.2.2.2.2 v ∧ (∀ a, π'.2.2.2.2.2.1 a < 2 ^ 20) ∧ p_tN v = tf ∧ p_kN v = kf))
theorem p_run (hE : EH E) (hV : HV E V s) {r : Nat} {π' : PMt} : ∀ (N : Nat),
    (∀ (π : PMt) (tn kn : Nat), Pv E N false π r π' → 600 ≤ tn → tn ≤ 280000 → 16 ≤ kn → kn ≤ 32000 → ∃ tf kf, tn ≤ tf ∧ tf ≤ 280000 ∧ kn ≤ kf ∧ kf ≤ 32000 ∧ ∀ (Q : Int32 → PS → Prop) (bc bs w0 : Nat), tf + kf ≤ bc + w0 → 2 * (tf + kf) ≤ bs + 2 * w0 → (∀ res u1, RunQ E V r π' tf kf res u1 → isB res → Q res u1) → ∀ (u : PS) (k f : Nat), PR V π u → p_tN u = tn → p_kN u = kn → k + w0 = tn + kn → N + 1 ≤ f → L_B_run_59 Q bc bs f k (2 * k) 0 1 u) ∧
    (∀ (π : PMt) (tn kn : Nat), Pv E N true π r π' → 600 ≤ tn → tn ≤ 280000 → 16 ≤ kn → kn ≤ 32000 → ∃ tf kf, tn ≤ tf ∧ tf ≤ 280000 ∧ kn ≤ kf ∧ kf ≤ 32000 ∧ ∀ (Q : Int32 → PS → Prop) (bc bs w0 : Nat), tf + kf ≤ bc + w0 → 2 * (tf + kf) ≤ bs + 2 * w0 → (∀ res u1, RunQ E V r π' tf kf res u1 → isB res → Q res u1) → ∀ (u : PS) (k f : Nat), PR V π u → p_tN u = tn → p_kN u = kn → k + w0 = tn + kn → N + 1 ≤ f → P_B_back u (fun r_124 u_124 => L_B_run_59 Q bc bs f k (2 * k) 0 r_124 u_124)) := by
  have hb0 : isB (0 : Int32) := Or.inl rfl
  have hb1 : isB (1 : Int32) := Or.inr rfl
  intro N
  induction N with
  | zero => exact ⟨fun π tn kn h => h.elim, fun π tn kn h => h.elim⟩
  | succ N ih =>
    have run : ∀ {Q : Int32 → PS → Prop} {bc bs f k : Nat} {pc p : Nat} {M : List Nat} {T : List PEn} {cF fF : ACp} {d st : Nat} {u : PS}, PR V (pc, p, M, T, cF, fF, d, st) u → d ≤ 12 → o_ E pc ≤ 16 → (o_ E pc = 16 → d ≠ 0) → (B_B_run_103 Q bc bs (L_B_run_59 Q bc bs f) k (2 * k) 1 u) → L_B_run_59 Q bc bs (f + 1) k (2 * k) 0 1 u := by
      intro Q bc bs f k pc p M T cF fF d st u hR hd12 ho hnd hB
      have h2 : p_stopped u = 0 := hR.1.2.1
      have h5 : p_calls u = nI d := hR.1.2.2.2.2.1
      obtain ⟨q1, q2⟩ := op_of hV hR ho
      refine ⟨fun e => absurd e (by decide), fun _ => ⟨fun _ => ⟨fun _ => ⟨q1, o_ E pc, by omega, q2, fun e16 => ⟨fun z => ?_, fun _ => hB⟩, fun _ => hB⟩, fun z => absurd h2 z⟩, fun z => absurd rfl z⟩⟩
      rw [h5] at z
      exact absurd ((neq (b := 0) (by omega) (by decide)).mp z) (hnd e16)
    constructor
    · intro π tn kn h ht1 ht2 hk1 hk2
      obtain ⟨pc, p, M, T, cF, fF, d, st⟩ := π
      obtain ⟨hok, h⟩ := h
      have hd12 : d ≤ 12 := hok.2.2.2.2.2.2.1
      have hfb : ∀ a, fF a < 2 ^ 20 := hok.2.2.2.2.1
      rcases h with ⟨ho, hd, hr, hp⟩ | ⟨ho, hst, hr, hp⟩ | ⟨π1, hO, hP⟩ | ⟨π1, hO, hP⟩
      · refine ⟨tn, kn, by omega, by omega, by omega, by omega, fun Q bc bs w0 hbc hbs hQ u k f hR et ek hk hf => ?_⟩
        have h2 : p_stopped u = 0 := hR.1.2.1
        have h5 : p_calls u = nI d := hR.1.2.2.2.2.1
        obtain ⟨q1, q2⟩ := op_of hV hR (by omega)
        cases f with
        | zero => omega
        | succ f =>
          cases f with
          | zero => omega
          | succ f =>
            refine ⟨fun e => absurd e (by decide), fun _ => ⟨fun _ => ⟨fun _ => ⟨q1, o_ E pc, by omega, q2, fun _ => ⟨fun _ => ⟨fun z => absurd z (by decide), fun _ => ?_⟩, fun z => absurd (by rw [h5, hd]; rfl) z⟩, fun z => absurd ho z⟩, fun z => absurd h2 z⟩, fun z => absurd rfl z⟩⟩
            exact ⟨fun z => absurd z (by decide), fun _ => ⟨fun z => absurd z (by decide), fun _ => ⟨hb1, hQ 1 u (Or.inl ⟨hr, rfl, by rw [hp]; exact hR, by rw [hp]; exact hok, et, ek⟩) hb1⟩⟩⟩
      · refine ⟨tn, kn, by omega, by omega, by omega, by omega, fun Q bc bs w0 hbc hbs hQ u k f hR et ek hk hf => ?_⟩
        cases f with
        | zero => omega
        | succ f =>
          refine run hR hd12 (by omega) (fun z => by omega) ⟨fun _ => ⟨0, 0, by omega, by omega, stop_one hV hR ho hst (fun v g1 g2 g3 => ⟨fun _ => ⟨fun z => absurd (show (1 : Int32) = 0 from z) (by decide), fun _ => ?_⟩, fun z => absurd rfl z⟩)⟩, fun z => absurd rfl z⟩
          cases f with
          | zero => omega
          | succ f =>
            exact ⟨fun e => absurd e (by decide), fun _ => ⟨fun _ => ⟨fun z => absurd (show (1 : Int32) = 0 from z) (by decide), fun _ => ⟨hb0, hQ 0 _ (Or.inr (Or.inr ⟨hr, rfl, v, p, M, T, cF, d, rfl, by rw [hp]; exact g1, by rw [hp]; exact hfb, g2.trans et, g3.trans ek⟩)) hb0⟩⟩, fun z => absurd rfl z⟩⟩
      · obtain ⟨h, m, hkc⟩ := one_ok (V := V) (s := s) hE hV hok hO
        have ho16 : o_ E pc ≤ 16 ∧ (o_ E pc = 16 → d ≠ 0) := by
          rcases hO with ⟨ho, _⟩ | ⟨ho, _⟩ | ⟨ho, _⟩ | ⟨ho, _⟩ | ⟨ho, _⟩ | ⟨ho, _⟩ | ⟨ho, _⟩ | ⟨ho, _⟩ | ⟨ho, _⟩ | ⟨ho, _⟩ | ⟨ho, _⟩ | ⟨ho, _⟩ | ⟨ho, d', hd, _⟩
          all_goals omega
        by_cases hhm : h ≤ 140000 ∧ m ≤ 16000
        · have b1 := gr1_ge tn h
          have b2 := gr1_ge kn m
          have b3 := gr1_le (c := tn) (h := h) (b := 280000) ht2 (by omega)
          have b4 := gr1_le (c := kn) (h := m) (b := 32000) hk2 (by omega)
          obtain ⟨tf, kf, c1, c2, c3, c4, c5⟩ := ih.1 π1 (gr1 tn h) (gr1 kn m) hP (by omega) b3 (by omega) b4
          refine ⟨tf, kf, by omega, c2, by omega, c4, fun Q bc bs w0 hbc hbs hQ u k f hR et ek hk hf => ?_⟩
          cases f with
          | zero => omega
          | succ f =>
            obtain ⟨_, _, hone⟩ := hkc u hR
            rw [et, ek] at hone
            refine run hR hd12 ho16.1 ho16.2 ⟨fun _ => ⟨_, _, ?_, ?_, hone _ (fun u1 g1 g2 => ⟨fun z => absurd z (by decide), fun _ => ?_⟩)⟩, fun z => absurd rfl z⟩
            · omega
            · omega
            · rw [← Nat.mul_add]
              exact c5 Q bc bs w0 hbc hbs hQ u1 _ f g1 (by rw [g2.1, et]) (by rw [g2.2, ek]) (by omega) (by omega)
        · refine ⟨tn, kn, by omega, by omega, by omega, by omega, fun Q bc bs w0 hbc hbs hQ u k f hR et ek hk hf => ?_⟩
          obtain ⟨z1, z2, _⟩ := hkc u hR
          exact absurd ⟨z1, z2⟩ hhm
      · obtain ⟨h, m, hkc⟩ := one_no (V := V) (s := s) hV hok hO
        have ho16 : o_ E pc ≤ 16 ∧ (o_ E pc = 16 → d ≠ 0) := by
          rcases hO with ⟨ho, _⟩ | ⟨ho, _⟩ | ⟨ho, _⟩
          all_goals omega
        by_cases hhm : h ≤ 140000 ∧ m ≤ 16000
        · have b1 := gr1_ge tn h
          have b2 := gr1_ge kn m
          have b3 := gr1_le (c := tn) (h := h) (b := 280000) ht2 (by omega)
          have b4 := gr1_le (c := kn) (h := m) (b := 32000) hk2 (by omega)
          obtain ⟨tf, kf, c1, c2, c3, c4, c5⟩ := ih.2 π1 (gr1 tn h) (gr1 kn m) hP (by omega) b3 (by omega) b4
          refine ⟨tf, kf, by omega, c2, by omega, c4, fun Q bc bs w0 hbc hbs hQ u k f hR et ek hk hf => ?_⟩
          cases f with
          | zero => omega
          | succ f =>
            obtain ⟨_, _, hone⟩ := hkc u hR
            rw [et, ek] at hone
            refine run hR hd12 ho16.1 ho16.2 ⟨fun _ => ⟨_, _, ?_, ?_, hone _ (fun u1 g1 g2 => ⟨fun _ => ⟨fun _ => ?_, fun z => ?_⟩, fun z => absurd rfl z⟩)⟩, fun z => absurd rfl z⟩
            · omega
            · omega
            · rw [← Nat.mul_add]
              exact c5 Q bc bs w0 hbc hbs hQ u1 _ f g1 (by rw [g2.1, et]) (by rw [g2.2, ek]) (by omega) (by omega)
            · obtain ⟨pc1, p1, M1, T1, cF1, fF1, d1, st1⟩ := π1
              exact absurd g1.1.2.1 z
        · refine ⟨tn, kn, by omega, by omega, by omega, by omega, fun Q bc bs w0 hbc hbs hQ u k f hR et ek hk hf => ?_⟩
          obtain ⟨z1, z2, _⟩ := hkc u hR
          exact absurd ⟨z1, z2⟩ hhm
    · intro π tn kn h ht1 ht2 hk1 hk2
      obtain ⟨pc, p, M, T, cF, fF, d, st⟩ := π
      obtain ⟨hok, h⟩ := h
      have hfb : ∀ a, fF a < 2 ^ 20 := hok.2.2.2.2.1
      rcases undo_ex h with ⟨hZ, hU⟩ | ⟨a, b, M1, T1, cF1, fF1, d1, hS, hU⟩
      · refine ⟨tn, kn, by omega, by omega, by omega, by omega, fun Q bc bs w0 hbc hbs hQ u k f hR et ek hk hf => ?_⟩
        refine ⟨T.length + 1, L_back (S := fun _ _ _ _ _ _ _ => False) (Z := True) (tn := tn) (kn := kn) (fun a b M1 T1 cF1 fF1 d1 u1 hS => hS.elim) (fun p1 M1 cF1 d1 u1 _ g1 g2 g3 g4 => ?_) T p M cF fF d u (T.length + 1) hR.1 (by rw [← ek]; exact hR.2.1) hfb (hU _ _ trivial) (by omega) et ek rfl⟩
        cases f with
        | zero => omega
        | succ f =>
          exact ⟨fun _ => ⟨hb0, hQ 0 u1 (Or.inr (Or.inl ⟨hZ.1, rfl, ⟨p1, M1, cF1, d1, by rw [hZ.2]; exact g1, by rw [hZ.2]; exact g2⟩, g3, g4⟩)) hb0⟩, fun z => absurd rfl z⟩
      · obtain ⟨tf, kf, c1, c2, c3, c4, c5⟩ := ih.1 _ tn kn hS ht1 ht2 hk1 hk2
        refine ⟨tf, kf, c1, c2, c3, c4, fun Q bc bs w0 hbc hbs hQ u k f hR et ek hk hf => ?_⟩
        refine ⟨T.length + 1, L_back (S := fun a' b' M' T' c' f' d' => a' = a ∧ b' = b ∧ M' = M1 ∧ T' = T1 ∧ c' = cF1 ∧ f' = fF1 ∧ d' = d1) (Z := False) (tn := tn) (kn := kn) (fun a' b' M' T' c' f' d' u1 hS g1 g2 g3 g4 g5 => ?_) (fun p1 M1 cF1 d1 u1 hZ => hZ.elim) T p M cF fF d u (T.length + 1) hR.1 (by rw [← ek]; exact hR.2.1) hfb (hU _ _ ⟨rfl, rfl, rfl, rfl, rfl, rfl, rfl⟩) (by omega) et ek rfl⟩
        obtain ⟨e1, e2, e3, e4, e5, e6, e7⟩ := hS
        subst e1 e2 e3 e4 e5 e6 e7
        exact c5 Q bc bs w0 hbc hbs hQ u1 k f ⟨g1, by rw [g5]; exact g2, g3⟩ g4 g5 hk (by omega)
end PRn
