def KOK : List AFr → Prop
  | [] => True
  | (k, w, m, _) :: K => 1 ≤ k ∧ k ≤ 11 ∧ w ≤ 40 ∧ m ≤ 4000 ∧ (k = 3 → m ≤ 300) ∧ (k = 2 → 1 ≤ w ∧ w ≤ 4 ∧ m ≤ 40) ∧ KOK K
def BOK (L : Nat) : List ABk → Prop
  | [] => True
  | (mo, i, p, K, c, _, nf, _, _) :: B => mo ≤ 5 ∧ i ≤ 40 ∧ p ≤ 40 ∧ KOK K ∧ nf ≤ 6950 ∧ CGd L c ∧ BOK L B
def okA (E : AEnv) : ASt → Prop
  | (mo, i, K, p, c, B, st, nf, _, _) => (mo ≠ 6 → mo ≤ 5 ∧ i ≤ e_n E ∧ KOK K ∧ nf ≤ 6950 ∧ CGd (e_L E) c) ∧ B.length ≤ 3930 ∧ BOK (e_L E) B ∧ p ≤ e_L E ∧ st ≤ e_lim E ∧ mo ≤ 6 ∧ (∀ k w m kp K', mo = 5 → K = (k, w, m, kp) :: K' → 7 ≤ k → k ≤ 9 → m ≤ B.length)
def Ev (E : AEnv) : Nat → ASt → Nat → ASt → Prop
  | 0, _, _, _ => False
  | N + 1, σ, r, σ' => okA E σ ∧ ((aFin E σ = some r ∧ σ' = σ) ∨ (aFin E σ = none ∧ Ev E N (aTurn E σ) r σ'))
def FinR (E : AEnv) (r : Nat) : ASt → PMt → Prop
  | (_, _, _, p, c, _, st, _, _, _), (_, p', _, _, cF, _, _, st') => st' = st ∧ st ≤ e_lim E ∧ r ≤ 2 ∧ (r = 1 → p' = p ∧ p ≤ e_L E ∧ CRl cF c ∧ CGd (e_L E) c)
section SM
variable {E : AEnv}
theorem RK_KOK (hE : EH E) {fF : ACp} : ∀ {K : List AFr} {x pc : Nat} {M : List Nat} {d : Nat} {T : List PEn}, nch T ≤ 4000 → RK E K x pc M fF d T → KOK K := by
  have hn := hE.2.2.2.2.1
  have hL := hE.2.2.2.2.2.1
  have hl := hE.2.2.2.2.2.2
  intro K
  induction K with
  | nil => intro x pc M d T _ _; trivial
  | cons f K ih =>
    obtain ⟨k, w, m, kp⟩ := f
    intro x pc M d T hT h
    obtain ⟨hx0, hh, a, hg, h⟩ := h
    rcases h with h | h | h | h | h | h | h | h | h
    · obtain ⟨e0, e1, e2, e3, q, j, y, h1, h2, h3⟩ := h
      exact ⟨by omega, by omega, by omega, by omega, fun _ => by omega, fun _ => by omega, ih hT h3⟩
    · obtain ⟨e0, e1, e2, e3, e4, e5, M', y, h1, h2, h3⟩ := h
      exact ⟨by omega, by omega, by omega, by omega, fun _ => by omega, fun _ => by omega, ih hT h3⟩
    · obtain ⟨e0, e1, e2, e3, d', y, h1, h2, h3⟩ := h
      exact ⟨by omega, by omega, by omega, by omega, fun _ => by omega, fun _ => by omega, ih hT h3⟩
    · obtain ⟨e0, e1, e2, e3, q, e, y, M', h1, h2, h3, h4, h5, h6⟩ := h
      exact ⟨by omega, by omega, by omega, by omega, fun _ => by omega, fun _ => by omega, ih hT h6⟩
    · obtain ⟨e0, e1, e2, q, e, y, h1, h2, h3, h4⟩ := h
      exact ⟨by omega, by omega, by omega, by omega, fun _ => by omega, fun _ => by omega, ih hT h4⟩
    · obtain ⟨e0, e1, e2, v, M', T1, T0, y, h1, h2, h3, h4, h5, h6⟩ := h
      rw [h3, nch_app] at hT
      exact ⟨by omega, by omega, by omega, by omega, fun _ => by omega, fun _ => by omega, ih (by omega) h6⟩
    · obtain ⟨e0, e1, e2, M', T1, T0, y, h1, h2, h3, h4, h5⟩ := h
      rw [h2, nch_app] at hT
      exact ⟨by omega, by omega, by omega, by omega, fun _ => by omega, fun _ => by omega, ih (by omega) h5⟩
    · obtain ⟨e0, e1, e2, v, M', T1, T0, b1, b2, r, y, h1, h2, h3, h4, h5⟩ := h
      rw [h3, nch_app] at hT
      have hn1 : nch ((0, b1, b2, 1) :: T0) = 1 + nch T0 := rfl
      rw [hn1] at hT
      exact ⟨by omega, by omega, by omega, by omega, fun _ => by omega, fun _ => by omega, ih (by omega) h5⟩
    · obtain ⟨e0, e1, e2, q, e, y, h1, h2, h3, h4⟩ := h
      exact ⟨by omega, by omega, by omega, by omega, fun _ => by omega, fun _ => by omega, ih hT h4⟩
theorem RS_mo (hE : EH E) {mo i x pc p : Nat} {M : List Nat} {cF fF : ACp} {d : Nat} {T : List PEn} {K : List AFr} {c : ACp} {nf nb ns : Nat} (hT : nch T ≤ 4000) (h : RS E mo i x pc p M cF fF d T K c nf nb ns) : mo ≤ 5 ∧ i ≤ e_n E ∧ KOK K := by
  obtain ⟨_, _, hi, _, hd, hm⟩ := h
  have hT1 : nch ((1, 0, 0, 0) :: T) ≤ 4000 := by show 0 + nch T ≤ 4000; omega
  rcases hm with ⟨e, _, q, j, y, _, _, hk⟩ | ⟨e, _, q, j, y, _, _, hk⟩ | ⟨e, q, y, _, hk⟩ | ⟨e, _, _, q, y, _, hk⟩ | ⟨e, q, y, z, _, _, hk⟩ | ⟨e, q, y, z, _, _, _, hk⟩ | ⟨e, hk⟩
  · exact ⟨by omega, hi, RK_KOK hE hT hk⟩
  · exact ⟨by omega, hi, RK_KOK hE hT hk⟩
  · exact ⟨by omega, hi, RK_KOK hE hT hk⟩
  · exact ⟨by omega, hi, RK_KOK hE hT1 hk⟩
  · exact ⟨by omega, hi, RK_KOK hE hT hk⟩
  · exact ⟨by omega, hi, RK_KOK hE hT hk⟩
  · exact ⟨by omega, hi, RK_KOK hE hT hk⟩
theorem RT_BOK (hE : EH E) {st : Nat} (hst : st ≤ 301) : ∀ {T : List PEn} {B : List ABk} {M : List Nat} {cF fF : ACp} {d : Nat}, nch T ≤ 4000 → BBs E B st → RT E T B M cF fF d → BOK (e_L E) B := by
  have hn := hE.2.2.2.2.1
  have hL := hE.2.2.2.2.2.1
  intro T
  induction T with
  | nil => intro B M cF fF d _ _ h; have h : B = [] := h; rw [h]; trivial
  | cons e T ih =>
    obtain ⟨k, a, b, gh⟩ := e
    intro B M cF fF d hT hb h
    have hT : (if k = 0 then 1 else 0) + nch T ≤ 4000 := hT
    rcases h with h | h | h | h | h | h | h | h
    · obtain ⟨e0, mo, i, K, c, nf, nb, ns, B', hB, hg, ⟨x, hx⟩, hr⟩ := h
      rw [if_pos e0] at hT
      rw [hB] at hb ⊢
      obtain ⟨⟨g1, g2, g3, g4, g5, g6, g7⟩, hb2, hb3⟩ := hb
      have hm := RS_mo hE (by omega) hx
      have hal : al1 mo ≤ 2 := by unfold al1; split; omega; split <;> omega
      exact ⟨hm.1, by omega, by omega, hm.2.2, by omega, g6, ih (by omega) hb3 hr⟩
    · obtain ⟨e0, m, M', hM, hr⟩ := h
      exact ih (by omega) hb hr
    · obtain ⟨e0, ha, hr⟩ := h
      exact ih (by omega) hb hr
    · obtain ⟨e0, ha, hb', hr⟩ := h
      exact ih (by omega) hb hr
    · obtain ⟨e0, ha, hb', hr⟩ := h
      exact ih (by omega) hb hr
    · obtain ⟨e0, d', hd, hr⟩ := h
      exact ih (by omega) hb hr
    · obtain ⟨e0, hr⟩ := h
      exact ih (by omega) hb hr
    · obtain ⟨e0, hr⟩ := h
      exact ih (by omega) hb hr
theorem NBd_of (hE : EH E) {mo i : Nat} {K : List AFr} {p : Nat} {c : ACp} {st nf nb ns : Nat} (hs : st ≤ e_lim E) (h : Bs E mo i K p c st nf nb ns) : NBd E K p c st nf nb ns ∧ nf ≤ 6922 ∧ nb ≤ 3912 := by
  have hl := hE.2.2.2.2.2.2
  obtain ⟨g1, g2, g3, g4, g5, g6, g7⟩ := h
  have h1 : al1 mo ≤ 2 := by unfold al1; split; omega; split <;> omega
  have h2 : al2 mo ≤ 1 := by unfold al2; split <;> omega
  exact ⟨⟨by omega, by omega, g5, g6, hs⟩, by omega, by omega⟩
theorem okA_of (hE : EH E) {x : Nat} {ph : Bool} {σ : ASt} {π : PMt} (h : RR E x ph σ π) (hb : Bd E σ) : okA E σ := by
  obtain ⟨mo, i, K, p, c, B, st, nf, nb, ns⟩ := σ
  obtain ⟨pc, p', M, T, cF, fF, d, st'⟩ := π
  obtain ⟨hst, hRT, hf, hh⟩ := h
  obtain ⟨b1, b2, b3, b4⟩ := hb
  have hl := hE.2.2.2.2.2.2
  have hBl : B.length ≤ 3930 := by
    cases B with
    | nil => exact Nat.zero_le _
    | cons b B =>
      obtain ⟨mo, i', p1, K', c', fl, nf', nb', ns'⟩ := b
      obtain ⟨⟨g1, g2, _⟩, g3, _⟩ := b2
      have h2 : al2 mo ≤ 1 := by unfold al2; split <;> omega
      rw [List.length_cons]
      split at g2 <;> omega
  have hnT : nch T ≤ 4000 := by have := RT_nch hRT; omega
  have hBO : BOK (e_L E) B := by
    refine RT_BOK hE (st := if mo = 2 then st + 1 else st) ?_ hnT b2 hRT
    split <;> omega
  rcases hh with ⟨e, _⟩ | ⟨hne, hph, hp, hRS⟩
  · exact ⟨fun q => absurd e q, hBl, hBO, b4, b3, by omega, fun k w m kp K' q => by omega⟩
  · have hm := RS_mo hE hnT hRS
    obtain ⟨g1, g2⟩ := b1 hne
    have hN := NBd_of hE b3 g1
    refine ⟨fun _ => ⟨hm.1, hm.2.1, hm.2.2, by omega, hN.1.2.2.2.1⟩, hBl, hBO, b4, b3, by omega, ?_⟩
    intro k w m kp K' e5 eK k7 k9
    subst e5 eK
    obtain ⟨_, _, _, _, _, hmm⟩ := hRS
    rcases hmm with ⟨e, _⟩ | ⟨e, _⟩ | ⟨e, _⟩ | ⟨e, _⟩ | ⟨e, _⟩ | ⟨e, _⟩ | ⟨_, hk⟩
    · exact absurd e (by decide)
    · exact absurd e (by decide)
    · exact absurd e (by decide)
    · exact absurd e (by decide)
    · exact absurd e (by decide)
    · exact absurd e (by decide)
    · obtain ⟨hx0, hh, a, hg, h⟩ := hk
      have hnB := RT_nch hRT
      rcases h with h | h | h | h | h | h | h | h | h
      · omega
      · omega
      · omega
      · omega
      · omega
      · obtain ⟨e0, e1, e2, v, M', T1, T0, y, h1, h2, h3, h4, h5, h6⟩ := h
        rw [h3, nch_app] at hnB; omega
      · obtain ⟨e0, e1, e2, M', T1, T0, y, h1, h2, h3, h4, h5⟩ := h
        rw [h2, nch_app] at hnB; omega
      · obtain ⟨e0, e1, e2, v, M', T1, T0, b1, b2, r, y, h1, h2, h3, h4, h5⟩ := h
        have hn1 : nch ((0, b1, b2, 1) :: T0) = 1 + nch T0 := rfl
        rw [h3, nch_app, hn1] at hnB; omega
      · omega
end SM
