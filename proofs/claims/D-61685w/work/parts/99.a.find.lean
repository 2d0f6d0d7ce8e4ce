def PI (V : PBs) (st : Nat) (fF : ACp) (u : PS) : Prop := pBase u = V ∧ p_stopped u = 0 ∧ p_steps u = nI st ∧ (∀ a, a < 120 → p_fF u a = decF a (fF a)) ∧ 16 ≤ p_kN u ∧ p_kN u ≤ 32000 ∧ 600 ≤ p_tN u ∧ p_tN u ≤ 280000
theorem PX_PI {V : PBs} {p : Nat} {M : List Nat} {T : List PEn} {cF fF : ACp} {d st : Nat} {u : PS} (h : PX V p M T cF fF d st u) : PI V st fF u := by
  obtain ⟨h1, h2, h3, h4, h5, h6, h7, h8, h9, h10, h11, h12, h13, h14⟩ := h
  exact ⟨h1, h2, h4, h11, h14⟩
theorem L_run17 {Q : Int32 → PS → Prop} {bc bs k n0 : Nat} {x1 : Int32} : ∀ (n j : Nat) (u : PS) (f : Nat), j + n = 10 → n < f → (∀ a, a < j → p_cF u a = -6) → (∀ c1 : Nat → Int32, (∀ a, a < 10 → c1 a = -6) → ∃ n, L_B_run_59 Q bc bs n k n0 0 1 (ps_place (ps_pc (ps_cF u c1) (p_en (ps_cF u c1) 0)) x1)) → L_B_run_17 Q bc bs f k n0 x1 (nI j) u := by
  intro n
  induction n with
  | zero =>
    intro j u f hj hf hc hQ
    have hj : j = 10 := by omega
    subst hj
    cases f with
    | zero => omega
    | succ f => exact ⟨fun _ => ⟨vp_in_nI (n := 0) (by decide) (by decide), hQ (p_cF u) hc⟩, fun q => absurd (by decide) q⟩
  | succ n ih =>
    intro j u f hj hf hc hQ
    cases f with
    | zero => omega
    | succ f =>
      refine ⟨fun q => absurd q (nI_ge (b := 10) (by omega) (by decide)), fun _ => ⟨vp_in_nI (by omega) (by decide), fun x hx => ?_⟩⟩
      rw [hx, n_1, nI_clamp (by omega)]
      refine ih (j + 1) _ f (by omega) (by omega) (fun a ha => ?_) hQ
      show upd (p_cF u) j (-6) a = -6
      by_cases e : a = j
      · rw [e, pk_us]
      · rw [pk_un e]; exact hc a (by omega)
def fRes (u : PS) (x2 : Int32) : PS := (ps_cF (ps_cF (ps_matched u (1 : Int32)) (upd (p_cF (ps_matched u (1 : Int32))) (0 : Int32).toNatClampNeg x2)) (upd (p_cF (ps_cF (ps_matched u (1 : Int32)) (upd (p_cF (ps_matched u (1 : Int32))) (0 : Int32).toNatClampNeg x2))) (1 : Int32).toNatClampNeg (p_place (ps_cF (ps_matched u (1 : Int32)) (upd (p_cF (ps_matched u (1 : Int32))) (0 : Int32).toNatClampNeg x2)))))
theorem su_stop (u : PS) (x : Int32) : p_su (ps_stopped u x) = p_su u := rfl
theorem st_stop (u : PS) (x : Int32) : p_stopped (ps_stopped u x) = x := rfl
theorem unF_b {S : Nat → Nat → List Nat → List PEn → ACp → ACp → Nat → Prop} {Z : Prop} (hS : ∀ a b M T cF fF d, ¬ S a b M T cF fF d) : ∀ {T : List PEn} {M : List Nat} {cF fF : ACp} {d : Nat}, (∀ a, fF a < 2 ^ 20) → pUndo S Z T M cF fF d → ∀ a, unF T fF a < 2 ^ 20 := by
  intro T
  induction T with
  | nil => intro M cF fF d h _; exact h
  | cons e T ih =>
    obtain ⟨k, a, b, gh⟩ := e
    intro M cF fF d hf h
    show ∀ j, unF T (if k = 4 then uN fF a b else fF) j < 2 ^ 20
    rcases h with ⟨e0, h⟩ | ⟨e0, m, M', hM, h⟩ | ⟨e0, ha, h⟩ | ⟨e0, ha2, ha, h⟩ | ⟨e0, ha, hb, h⟩ | ⟨e0, d', hd, h⟩ | ⟨e0, h⟩ | ⟨e0, h⟩
    · exact (hS _ _ _ _ _ _ _ h).elim
    · rw [if_neg (by omega)]; exact ih hf h
    · rw [if_neg (by omega)]; exact ih hf h
    · rw [if_neg (by omega)]; exact ih hf h
    · rw [if_pos e0]; exact ih (fun j => by unfold uN; split; exact hb; exact hf j) h
    · rw [if_neg (by omega)]; exact ih hf h
    · rw [if_neg (by omega)]; exact ih hf h
    · rw [if_neg (by omega)]; exact ih hf h
theorem Pv_fb {E : AEnv} {r : Nat} {π' : PMt} : ∀ (N : Nat) (ph : Bool) (π : PMt), Pv E N ph π r π' → (r = 0 → ∀ a, unF π'.2.2.2.1 π'.2.2.2.2.2.1 a < 2 ^ 20) ∧ ∀ a, π'.2.2.2.2.2.1 a < 2 ^ 20 := by
  intro N
  induction N with
  | zero => intro ph π h; cases ph <;> exact h.elim
  | succ N ih =>
    intro ph π h
    obtain ⟨pc, p, M, T, cF, fF, d, st⟩ := π
    cases ph with
    | false =>
      obtain ⟨hok, h⟩ := h
      rcases h with ⟨_, _, hr, hp⟩ | ⟨_, _, hr, hp⟩ | ⟨π1, _, hP⟩ | ⟨π1, _, hP⟩
      · rw [hp]; exact ⟨fun z => by omega, hok.2.2.2.2.1⟩
      · rw [hp]; exact ⟨fun z => by omega, hok.2.2.2.2.1⟩
      · exact ih _ _ hP
      · exact ih _ _ hP
    | true =>
      obtain ⟨hok, h⟩ := h
      rcases undo_ex h with ⟨hZ, hU⟩ | ⟨a, b, M1, T1, cF1, fF1, d1, hS, hU⟩
      · rw [hZ.2]
        exact ⟨fun _ => unF_b (S := fun _ _ _ _ _ _ _ => False) (Z := True) (fun _ _ _ _ _ _ _ z => z) hok.2.2.2.2.1 (hU _ _ trivial), hok.2.2.2.2.1⟩
      · exact ih _ _ hS
def pFin (r : Nat) (π' : PMt) : ACp := if r = 0 then unF π'.2.2.2.1 π'.2.2.2.2.2.1 else π'.2.2.2.2.2.1
section FD
variable {E : AEnv} {V : PBs} {s : Nat → Int32}
theorem s_run (hE : EH E) (hV : HV E V s) {p st N r tn kn : Nat} {fF : ACp} {π' : PMt} (hP : Pv E N false (e_en E 0, p, [], [], c00, fF, 0, st) r π') (h1 : 600 ≤ tn) (h2 : tn ≤ 280000) (h3 : 16 ≤ kn) (h4 : kn ≤ 32000) : ∃ tf kf, tn ≤ tf ∧ tf ≤ 280000 ∧ kn ≤ kf ∧ kf ≤ 32000 ∧ ∀ (Q : Int32 → PS → Prop) (u : PS), PI V st fF u → p_tN u = tn → p_kN u = kn → (∀ res u1, RunQ E V r π' tf kf res u1 → Q res u1) → P_B_run (tf + kf - (tn + kn)) (2 * (tf + kf - (tn + kn))) (nI p) u Q := by
  obtain ⟨tf, kf, c1, c2, c3, c4, c5⟩ := (p_run hE hV N).1 _ tn kn hP h1 h2 h3 h4
  refine ⟨tf, kf, c1, c2, c3, c4, fun Q u hI et ek hQ => ⟨11, L_run17 10 0 _ 11 rfl (by decide) (fun a ha => by omega) (fun cc hcc => ⟨N + 1, ?_⟩)⟩⟩
  refine c5 Q (tf + kf - (tn + kn)) (2 * (tf + kf - (tn + kn))) (tn + kn) (by omega) (by omega) (fun res u1 hr _ => hQ res u1 hr) _ 0 (N + 1) ?_ et ek (by omega) (Nat.le_refl _)
  obtain ⟨i1, i2, i3, i4, i5, i6, i7, i8⟩ := hI
  refine ⟨⟨i1, i2, rfl, i3, rfl, rfl, rfl, trivial, trivial, fun a a2 a10 => ?_, i4, Nat.zero_le _, Nat.zero_le _, i5, i6, i7, i8⟩, ?_, ?_⟩
  · show cc a = decV (c00 a)
    rw [hcc a a10]; rfl
  · show 0 ≤ _
    exact Nat.zero_le _
  · have e : p_pr u = V.2.2.2.2.2.2.2.2.2.2.2.1 := congrArg (fun b : PBs => b.2.2.2.2.2.2.2.2.2.2.2.1) i1
    show r_en (p_pr u) 0 = _
    rw [e]; exact hV.2.2.2.2.2.2.1 0 (by decide)
def FS (E : AEnv) : Nat → Nat → Nat → Nat → Nat → Nat → ACp → Nat → Prop
  | 0, _, st, cd, _, _, _, st' => cd = 0 ∧ st' = st
  | n + 1, sx, st, cd, sf, p', c', st' => ∃ r σ', Ev E 902000 (1, 0, [], sx, c00, [], st, 0, 0, 0) r σ' ∧ ((r = 0 ∧ FS E n (sx + 1) σ'.2.2.2.2.2.2.1 cd sf p' c' st') ∨ (r = 1 ∧ cd = 1 ∧ sf = sx ∧ p' = σ'.2.2.2.1 ∧ c' = σ'.2.2.2.2.1 ∧ st' = σ'.2.2.2.2.2.2.1) ∨ (r = 2 ∧ cd = 2 ∧ st' = σ'.2.2.2.2.2.2.1))
def FQ (V : PBs) (cd sf p' : Nat) (c' : ACp) (st' : Nat) (fF' : ACp) (tf kf : Nat) (res : Int32) (u1 : PS) : Prop :=
  (cd = 0 ∧ res = -4 ∧ PI V st' fF' u1 ∧ p_tN u1 = tf ∧ p_kN u1 = kf) ∨
  (cd = 1 ∧ res = nI sf ∧ ∃ w, u1 = fRes w (nI sf) ∧ p_place w = nI p' ∧ PI V st' fF' w ∧ p_tN w = tf ∧ p_kN w = kf ∧ ∀ g, 1 ≤ g → g ≤ 4 → p_cF w (2 * g) = decV (c' g / 64) ∧ p_cF w (2 * g + 1) = decV (c' g % 64)) ∨
  (cd = 2 ∧ res = -5 ∧ ∃ w, u1 = ps_stopped w 1 ∧ PI V st' fF' w ∧ p_tN w = tf ∧ p_kN w = kf)
theorem find_ex (hE : EH E) (hV : HV E V s) (hcO : e_cO E 0 = 0) : ∀ (n sx st : Nat) (fF : ACp) (tn kn : Nat), sx + n = e_L E + 1 → st ≤ e_lim E → (∀ a, fF a < 2 ^ 20) → 600 ≤ tn → tn ≤ 280000 → 16 ≤ kn → kn ≤ 32000 → ∃ cd sf p' c' st' fF' tf kf, FS E n sx st cd sf p' c' st' ∧ (cd ≤ 2 ∧ st' ≤ e_lim E ∧ (cd = 1 → sx ≤ sf ∧ sf ≤ e_L E ∧ p' ≤ e_L E ∧ CGd (e_L E) c')) ∧ (∀ a, fF' a < 2 ^ 20) ∧ tn ≤ tf ∧ tf ≤ 280000 ∧ kn ≤ kf ∧ kf ≤ 32000 ∧ ∀ (Q : Int32 → PS → Prop) (bc bs w0 : Nat), tf + kf ≤ bc + w0 → 2 * (tf + kf) ≤ bs + 2 * w0 → (∀ res u1, FQ V cd sf p' c' st' fF' tf kf res u1 → Q res u1) → ∀ (u : PS) (k f : Nat), PI V st fF u → p_tN u = tn → p_kN u = kn → k + w0 = tn + kn → n + 1 ≤ f → L_B_find_17 Q bc bs f k (2 * k) (nI sx) u := by
  have hL := hV.2.2.2.2.2.2.2.2.1
  have suI : ∀ {st : Nat} {fF : ACp} {u : PS}, PI V st fF u → SR (p_su u) s (e_L E) := by
    intro st fF u h
    have e : p_su u = V.2.2.2.2.2.2.2.2.2.2.1 := congrArg (fun b : PBs => b.2.2.2.2.2.2.2.2.2.2.1) h.1
    rw [e]; exact hV.2.1
  intro n
  induction n with
  | zero =>
    intro sx st fF tn kn hsx hst hfb h1 h2 h3 h4
    refine ⟨0, 0, 0, c00, st, fF, tn, kn, ⟨rfl, rfl⟩, ⟨by decide, hst, fun z => absurd z (by decide)⟩, hfb, by omega, h2, by omega, h4, fun Q bc bs w0 hb1 hb2 hQ u k f hI et ek hk hf => ?_⟩
    cases f with
    | zero => omega
    | succ f =>
      refine s_len (suI hI) ?_
      rw [su_eta]
      refine ⟨fun _ => ⟨fun _ => hQ _ u (Or.inl ⟨rfl, rfl, hI, et, ek⟩), fun z => absurd hI.2.1 z⟩, fun z => absurd (nI_lt (by omega) (by omega)) z⟩
  | succ n ih =>
    intro sx st fF tn kn hsx hst hfb h1 h2 h3 h4
    obtain ⟨r, σ', hEv, N, π', hP, hF⟩ := simul0 (d := 0) (cF := c00) hE (p := sx) (by omega) hst (fun a _ _ => rfl) hfb hcO
    obtain ⟨tf, kf, c1, c2, c3, c4, c5⟩ := s_run (V := V) (s := s) hE hV hP h1 h2 h3 h4
    obtain ⟨mo', i', K', p', c', B', st', nf', nb', ns'⟩ := σ'
    obtain ⟨pc1, p1, M1, T1, cF1, fF1, d1, st1⟩ := π'
    obtain ⟨f1, f2, f3, f4⟩ := hF
    subst f1
    have hr : r = 0 ∨ r = 1 ∨ r = 2 := by omega
    have start : ∀ {Q : Int32 → PS → Prop} {bc bs f k : Nat} {u : PS}, PI V st fF u → p_tN u = tn → p_kN u = kn → k + (tf + kf - (tn + kn)) ≤ bc → 2 * k + 2 * (tf + kf - (tn + kn)) ≤ bs → P_B_run (tf + kf - (tn + kn)) (2 * (tf + kf - (tn + kn))) (nI sx) u (fun r_37 u_37 => ((r_37 = (0 : Int32) → (∀ x2_67 : Int32, x2_67 = nI sx + 1 → (L_B_find_17 Q bc bs f) (k + (tf + kf - (tn + kn))) (2 * k + 2 * (tf + kf - (tn + kn))) x2_67 u_37)) ∧ (¬ r_37 = (0 : Int32) → (vp_in (0 : Int32) 10 ∧ (vp_in (1 : Int32) 10 ∧ Q (nI sx) (fRes u_37 (nI sx))))))) → L_B_find_17 Q bc bs (f + 1) k (2 * k) (nI sx) u := by
      intro Q bc bs f k u hI et ek hb1 hb2 hR
      refine s_len (suI hI) ?_
      rw [su_eta]
      exact ⟨fun z => absurd z (nI_nlt (by omega) (by omega)), fun _ => ⟨fun _ => ⟨_, _, hb1, hb2, hR⟩, fun z => absurd hI.2.1 z⟩⟩
    rcases hr with e | e | e
    · subst e
      have hb : ∀ a, unF T1 fF1 a < 2 ^ 20 := (Pv_fb _ _ _ hP).1 rfl
      · obtain ⟨cd, sf, p2, c2', st2, fF2, tf2, kf2, g1, g2, g3, g4, g5, g6, g7, g8⟩ := ih (sx + 1) st1 (unF T1 fF1) tf kf (by omega) f2 hb (by omega) c2 (by omega) c4
        refine ⟨cd, sf, p2, c2', st2, fF2, tf2, kf2, ⟨0, _, hEv, Or.inl ⟨rfl, g1⟩⟩, ⟨g2.1, g2.2.1, fun z => by have := g2.2.2 z; exact ⟨by omega, this.2⟩⟩, g3, by omega, g5, by omega, g7, fun Q bc bs w0 hb1 hb2 hQ u k f hI et ek hk hf => ?_⟩
        cases f with
        | zero => omega
        | succ f =>
          refine start hI et ek (by omega) (by omega) (c5 _ u hI et ek (fun res u1 hres => ?_))
          rcases hres with ⟨z, _⟩ | ⟨_, hr0, ⟨p3, M3, cF3, d3, k1, k2⟩, k3, k4⟩ | ⟨z, _⟩
          · exact absurd z (by decide)
          · rw [hr0]
            refine ⟨fun _ x hx => ?_, fun z => absurd rfl z⟩
            rw [hx, n_1, ← Nat.mul_add]
            exact g8 Q bc bs w0 hb1 hb2 hQ u1 _ f (PX_PI k1) k3 k4 (by omega) (by omega)
          · exact absurd z (by decide)
    · subst e
      obtain ⟨q1, q2, q3, q4⟩ := f4 rfl
      subst q1
      have hb : ∀ a, fF1 a < 2 ^ 20 := (Pv_fb _ _ _ hP).2
      · refine ⟨1, sx, p1, c', st1, fF1, tf, kf, ⟨1, _, hEv, Or.inr (Or.inl ⟨rfl, rfl, rfl, rfl, rfl, rfl⟩)⟩, ⟨by decide, f2, fun _ => ⟨Nat.le_refl _, by omega, q2, q4⟩⟩, hb, c1, c2, c3, c4, fun Q bc bs w0 hb1 hb2 hQ u k f hI et ek hk hf => ?_⟩
        cases f with
        | zero => omega
        | succ f =>
          refine start hI et ek (by omega) (by omega) (c5 _ u hI et ek (fun res u1 hres => ?_))
          rcases hres with ⟨_, hr1, k1, k2, k3, k4⟩ | ⟨z, _⟩ | ⟨z, _⟩
          · rw [hr1]
            refine ⟨fun z => absurd z (by decide), fun _ => ⟨vp_in_nI (n := 0) (by decide) (by decide), vp_in_nI (n := 1) (by decide) (by decide), ?_⟩⟩
            have hpl : p_place u1 = nI p1 := k1.1.2.2.1
            refine hQ _ _ (Or.inr (Or.inl ⟨rfl, rfl, u1, rfl, hpl, PX_PI k1.1, k3, k4, fun g g1 g4 => ?_⟩))
            have hc := q3 g g1 g4
            rw [← hc.1, ← hc.2]
            exact ⟨k1.1.2.2.2.2.2.2.2.2.2.1 _ (by omega) (by omega), k1.1.2.2.2.2.2.2.2.2.2.1 _ (by omega) (by omega)⟩
          · exact absurd z (by decide)
          · exact absurd z (by decide)
    · subst e
      have hb : ∀ a, fF1 a < 2 ^ 20 := (Pv_fb _ _ _ hP).2
      refine ⟨2, 0, 0, c00, st1, fF1, tf, kf, ⟨2, _, hEv, Or.inr (Or.inr ⟨rfl, rfl, rfl⟩)⟩, ⟨by decide, f2, fun z => absurd z (by decide)⟩, hb, c1, c2, c3, c4, fun Q bc bs w0 hb1 hb2 hQ u k f hI et ek hk hf => ?_⟩
      cases f with
      | zero => omega
      | succ f =>
        refine start hI et ek (by omega) (by omega) (c5 _ u hI et ek (fun res u1 hres => ?_))
        rcases hres with ⟨z, _⟩ | ⟨z, _⟩ | ⟨_, hr2, v, p3, M3, T3, cF3, d3, k0, k1, k2, k3, k4⟩
        · exact absurd z (by decide)
        · exact absurd z (by decide)
        · rw [hr2]
          refine ⟨fun _ x hx => ?_, fun z => absurd rfl z⟩
          have hsu : SR (p_su u1) s (e_L E) := by rw [k0, su_stop]; exact suI (PX_PI k1)
          have hst2 : ¬ p_stopped u1 = 0 := by rw [k0, st_stop]; decide
          have hq := hQ (-5) u1 (Or.inr (Or.inr ⟨rfl, rfl, v, k0, PX_PI k1, k3, k4⟩))
          cases f with
          | zero => omega
          | succ f =>
            refine s_len hsu ?_
            rw [su_eta]
            exact ⟨fun _ => ⟨fun z => absurd z hst2, fun _ => hq⟩, fun _ => ⟨fun z => absurd z hst2, fun _ => ⟨fun z => absurd z hst2, fun _ => hq⟩⟩⟩
end FD
