def SR (z : SBS) (s : Nat → Int32) (L : Nat) : Prop := z_co z = 0 ∧ z_ct z = nI L ∧ L ≤ z_cap z ∧ z_cap z ≤ 2 ^ 20 ∧ ∀ j, j < L → ∃ c, c < 128 ∧ z_by z j = nI c ∧ s j = nI c
theorem char_id : ∀ c : Fin 128, (((nI c.val &&& (255 : Int32)).toUInt32 % 65536).toInt32) = nI c.val := by decide
theorem s_len {z : SBS} {s : Nat → Int32} {L : Nat} {Q : Int32 → SBS → Prop} (h : SR z s L) (hQ : Q (nI L) z) : P_SB_length z Q := by
  show Q (z_ct z) z
  rw [h.2.1]; exact hQ
theorem s_charAt {z : SBS} {s : Nat → Int32} {L j : Nat} {Q : Int32 → SBS → Prop} (h : SR z s L) (hj : j < L) (hQ : Q (s j) z) : P_SB_charAt (nI j) z Q := by
  obtain ⟨h1, h2, h3, h4, h5⟩ := h
  obtain ⟨c, hc, h6, h7⟩ := h5 j hj
  intro x2 hx2 x4 hx4
  rw [h1] at hx2
  subst hx2
  rw [h2, n_shr 0 (by decide) (by omega), Nat.pow_zero, Nat.div_one, if_neg (by rw [nlt (by omega) (by omega)]; omega)] at hx4
  subst hx4
  refine ⟨nI_pos (by omega), nI_lt hj (by omega), fun _ => ?_, fun e => absurd rfl e⟩
  rw [nI_clamp (by omega), h6]
  have hch := char_id ⟨c, hc⟩
  rw [hch]
  have hnar := (pk_charN (q := c) (by omega)).1
  refine ⟨vp_in_nI (by omega) (by omega), hnar, hnar, ?_⟩
  rw [← h7]; exact hQ
theorem su_eta (u : PS) : ps_su u (p_su u) = u := rfl
def accP (x : Nat) (ch : Int32) : Bool := !decide (((nI x >>> ((ch - 97) &&& 31)) &&& 1) = 0)
def repP (s : Nat → Int32) (L v w p : Nat) : Option Nat := if v = 0 then none else if p + (w - v) ≤ L then (if ∀ j, j < w - v → s (v - 1 + j) = s (p + j) then some (p + (w - v)) else none) else none
def plP (s : Nat → Int32) (L op x p : Nat) (cF : ACp) : Option Nat :=
  if op = 0 then (if p < L ∧ accP x (s p) = true then some (p + 1) else none) else if op = 1 then (if p = 0 then some p else none) else if op = 2 then (if p = L then some p else none) else repP s L (cF (2 * x)) (cF (2 * x + 1)) p
section PM1
variable {V : PBs} {p : Nat} {M : List Nat} {T : List PEn} {cF fF : ACp} {d st : Nat} {u : PS} {s : Nat → Int32} {L : Nat}
theorem PX_place {p' : Nat} {x : Int32} (hx : x = nI p') (h : PX V p M T cF fF d st u) : PX V p' M T cF fF d st (ps_place u x) := by
  obtain ⟨g1, g2, g3, g4⟩ := h
  exact ⟨g1, g2, hx, g4⟩
theorem PX_steps {st' : Nat} {x : Int32} (hx : x = nI st') (h : PX V p M T cF fF d st u) : PX V p M T cF fF d st' (ps_steps u x) := by
  obtain ⟨g1, g2, g3, g4, g5⟩ := h
  exact ⟨g1, g2, g3, hx, g5⟩
theorem PX_pc {x : Int32} (h : PX V p M T cF fF d st u) : PX V p M T cF fF d st (ps_pc u x) := h
theorem s_letters {x : Nat} {Q : Int32 → PS → Prop} (hS : SR (p_su u) s L) (h : PX V p M T cF fF d st u) (hp : p ≤ L) (hL : L ≤ 40) (hs : p < L ∧ accP x (s p) = true → Q 1 (ps_place u (nI (p + 1)))) (hn : ¬ (p < L ∧ accP x (s p) = true) → Q 0 u) : P_B_letters (nI x) u Q := by
  have h3 : p_place u = nI p := h.2.2.1
  unfold P_B_letters
  refine s_len hS ?_
  rw [su_eta, h3]
  refine ⟨fun q => hn ?_, fun q => s_charAt hS ?_ ?_⟩
  · rw [nle (by omega) (by omega)] at q; omega
  · rw [nle (by omega) (by omega)] at q; omega
  · rw [nle (by omega) (by omega)] at q
    rw [su_eta, h3, n_1]
    refine ⟨fun q2 => hn (fun z => ?_), fun q2 => hs ⟨by omega, ?_⟩⟩
    · have := z.2; unfold accP at this; rw [decide_eq_true q2] at this; exact absurd this (by decide)
    · unfold accP; rw [decide_eq_false q2]; rfl
theorem L_ref {Q : Int32 → PS → Prop} {a p len L : Nat} {u : PS} {s : Nat → Int32} (hS : SR (p_su u) s L) (hp : p_place u = nI p) (ha : a + len ≤ L) (hpl : p + len ≤ L) (hL : L ≤ 40) : ∀ (f j : Nat), j ≤ len → len < j + f → ((∀ k, j ≤ k → k < len → s (a + k) = s (p + k)) → Q 1 (ps_place u (nI (p + len)))) → (¬ (∀ k, j ≤ k → k < len → s (a + k) = s (p + k)) → Q 0 u) → L_B_reference_51 Q f (nI a) (nI len) (nI j) u := by
  intro f
  induction f with
  | zero => intro j h1 h2; omega
  | succ f ih =>
    intro j h1 h2 hy hn
    refine ⟨fun q => ?_, fun q => ?_⟩
    · rw [nle (by omega) (by omega)] at q
      rw [hp, nI_add]
      exact hy (fun k h3 h4 => by omega)
    · rw [nle (by omega) (by omega)] at q
      rw [nI_add]
      refine s_charAt hS (by omega) ?_
      rw [su_eta, hp, nI_add]
      refine s_charAt hS (by omega) ?_
      rw [su_eta]
      refine ⟨fun e x hx => ?_, fun e => ?_⟩
      · rw [hx, n_1]
        refine ih (j + 1) (by omega) (by omega) (fun hk => hy (fun k h3 h4 => ?_)) (fun hk => hn (fun hk2 => hk (fun k h3 h4 => hk2 k (by omega) h4)))
        by_cases hkj : k = j
        · rw [hkj]; exact e
        · exact hk k (by omega) h4
      · exact hn (fun hk => e (hk j (Nat.le_refl _) (by omega)))
theorem s_reference {x : Nat} {Q : Int32 → PS → Prop} (hS : SR (p_su u) s L) (h : PX V p M T cF fF d st u) (hp : p ≤ L) (hL : L ≤ 40) (hx1 : 1 ≤ x) (hx4 : x ≤ 4) (hc : cF (2 * x) = 0 ∨ (cF (2 * x) ≤ cF (2 * x + 1) ∧ cF (2 * x + 1) ≤ L + 1)) (hs : ∀ p', repP s L (cF (2 * x)) (cF (2 * x + 1)) p = some p' → Q 1 (ps_place u (nI p'))) (hn : repP s L (cF (2 * x)) (cF (2 * x + 1)) p = none → Q 0 u) : P_B_reference (nI x) u Q := by
  have h3 : p_place u = nI p := h.2.2.1
  have c1 : p_cF u (2 * x) = decV (cF (2 * x)) := h.2.2.2.2.2.2.2.2.2.1 _ (by omega) (by omega)
  have c2 : p_cF u (2 * x + 1) = decV (cF (2 * x + 1)) := h.2.2.2.2.2.2.2.2.2.1 _ (by omega) (by omega)
  have e2 : (2 : Int32) * nI x = nI (2 * x) := by rw [show (2 : Int32) = nI 2 from rfl, n_mul]
  unfold P_B_reference
  rw [e2, n_1, nI_clamp (by omega), nI_clamp (by omega), c1, c2]
  refine ⟨vp_in_nI (by omega) (by decide), fun x2 hx2 => ?_⟩
  subst hx2
  unfold repP at hs hn
  rcases hc with h0 | ⟨h1, h2⟩
  · rw [if_pos h0] at hn
    have e0 : decV (cF (2 * x)) = -6 := by unfold decV; rw [if_pos h0]
    exact ⟨fun _ => hn rfl, fun q => absurd e0 q⟩
  · by_cases h0 : cF (2 * x) = 0
    · rw [if_pos h0] at hn
      have e0 : decV (cF (2 * x)) = -6 := by unfold decV; rw [if_pos h0]
      exact ⟨fun _ => hn rfl, fun q => absurd e0 q⟩
    · rw [if_neg h0] at hs hn
      have d1 : decV (cF (2 * x)) = nI (cF (2 * x) - 1) := by unfold decV; rw [if_neg h0]
      have d2 : decV (cF (2 * x + 1)) = nI (cF (2 * x + 1) - 1) := by unfold decV; rw [if_neg (by omega)]
      rw [d1, d2, n_sub (by omega)]
      have e3 : cF (2 * x + 1) - 1 - (cF (2 * x) - 1) = cF (2 * x + 1) - cF (2 * x) := by omega
      rw [e3]
      refine ⟨fun q => absurd q ?_, fun _ => ⟨vp_in_nI (by omega) (by decide), fun x3 hx3 => s_len hS ?_⟩⟩
      · intro q
        have := congrArg Int32.toInt q
        rw [nI_toInt (by omega)] at this
        have e6 : (-6 : Int32).toInt = -6 := by decide
        rw [e6] at this; omega
      · subst hx3
        rw [su_eta, h3, nI_add]
        refine ⟨fun q => ?_, fun q => ?_⟩
        · rw [nle (by omega) (by omega)] at q
          rw [if_pos q] at hs hn
          refine ⟨42, L_ref (L := L) hS h3 (by omega) q hL 42 0 (by omega) (by omega) (fun hk => ?_) (fun hk => ?_)⟩
          · rw [if_pos (fun j hj => hk j (by omega) hj)] at hs
            exact hs _ rfl
          · rw [if_neg (fun hk2 => hk (fun j _ hj => hk2 j hj))] at hn
            exact hn rfl
        · rw [nle (by omega) (by omega)] at q
          rw [if_neg q] at hn
          exact hn rfl
theorem s_step {Q : Int32 → PS → Prop} {lim : Nat} (h : PX V p M T cF fF d st u) (hl : p_limit u = nI lim) (hlim : lim ≤ 300) (hst : st < lim) (hQ : ∀ u1, PX V p M T cF fF d (st + 1) u1 → p_pc u1 = p_pc u → p_tN u1 = p_tN u → p_kN u1 = p_kN u → Q 1 u1) : P_B_step u Q := by
  have h2 : p_stopped u = 0 := h.2.1
  have h4 : p_steps u = nI st := h.2.2.2.1
  unfold P_B_step
  rw [h4, hl, n_1]
  refine ⟨fun q => ?_, fun _ => ⟨fun _ => hQ _ (PX_steps rfl h) rfl rfl rfl, fun q => absurd h2 q⟩⟩
  rw [neq (by omega) (by omega)] at q; omega
theorem s_stop {Q : Int32 → PS → Prop} {lim : Nat} (h : PX V p M T cF fF d st u) (hl : p_limit u = nI lim) (hst : st = lim) (hQ : Q 0 (ps_stopped u 1)) : P_B_step u Q := by
  have h4 : p_steps u = nI st := h.2.2.2.1
  unfold P_B_step
  rw [h4, hl]
  exact ⟨fun _ => ⟨fun q => absurd (show (1 : Int32) = 0 from q) (by decide), fun _ => hQ⟩, fun q => absurd (by rw [hst]) q⟩
theorem fence15 {Q : PS → Prop} {bc bs k0 n0 : Nat} (h : PX V p M T cF fF d st u) (hm : mxM T M.length ≤ p_kN u) (hM : M.length ≤ 14100) (hT : T.length ≤ 46250) (hb1 : k0 + ((gr1 (p_kN u) (M.length + 2) - p_kN u) + (gr1 (p_tN u) (3 * (T.length + 2)) - p_tN u)) ≤ bc) (hb2 : n0 + 2 * ((gr1 (p_kN u) (M.length + 2) - p_kN u) + (gr1 (p_tN u) (3 * (T.length + 2)) - p_tN u)) ≤ bs) (hQ : ∀ u1, PX V p (p :: (3 * T.length) :: M) ((1, 0, 0, 0) :: (1, 0, 0, 0) :: T) cF fF d st u1 → mxM ((1, 0, 0, 0) :: (1, 0, 0, 0) :: T) (M.length + 2) ≤ p_kN u1 → p_pc u1 = p_pc u → p_tN u1 = gr1 (p_tN u) (3 * (T.length + 2)) → p_kN u1 = gr1 (p_kN u) (M.length + 2) → Q u1) : B_B_fence_15 Q bc bs k0 n0 u := by
  have h7 : p_height u = nI (3 * T.length) := h.2.2.2.2.2.2.1
  have hk := PX_kN h
  have ht := PX_tN h
  have hl : M.length ≤ p_kN u := h.2.2.2.2.2.2.2.2.2.2.2.1
  have m1 := gr1_mono (c := p_kN u) (show M.length + 1 ≤ M.length + 2 by omega)
  have m2 := gr1_mono (c := p_tN u) (show 3 * (T.length + 1) ≤ 3 * (T.length + 2) by omega)
  have m3 := gr1_ge (p_kN u) (M.length + 1)
  have m4 := gr1_ge (p_tN u) (3 * (T.length + 1))
  have c1 := gr1_comp (c := p_kN u) (show M.length + 1 ≤ M.length + 2 by omega) (by omega)
  have c2 := gr1_comp (c := p_tN u) (show 3 * (T.length + 1) ≤ 3 * (T.length + 2) by omega) (by omega)
  intro x3 hx3
  rw [hx3, h7]
  refine ⟨_, _, ?_, ?_, s_pushP h hm (by omega) (by omega) (fun u1 g1 g2 g3 g4 g5 => ?_)⟩
  · omega
  · omega
  · have hpl : p_place u1 = nI p := g1.2.2.1
    rw [hpl]
    have cc : (gr1 (p_kN u1) ((3 * T.length :: M).length + 1) - p_kN u1) + (gr1 (p_tN u1) (3 * (((1, 0, 0, 0) :: T : List PEn).length + 1)) - p_tN u1) = (gr1 (p_kN u) (M.length + 2) - gr1 (p_kN u) (M.length + 1)) + (gr1 (p_tN u) (3 * (T.length + 2)) - gr1 (p_tN u) (3 * (T.length + 1))) := by
      rw [g4, g5]; simp only [List.length_cons]; rw [c1, c2]
    refine ⟨_, _, ?_, ?_, s_pushP (v := p) g1 g2 (by rw [List.length_cons]; omega) (by rw [List.length_cons]; omega) (fun u2 k1 k2 k3 k4 k5 => hQ u2 k1 k2 (k3.trans g3) (by rw [k4, g4]; exact c2) (by rw [k5, g5]; exact c1))⟩
    · rw [cc]; omega
    · rw [cc]; omega
theorem TK_set7 {tF : Nat → Int32} {a b g : Nat} {T0 : List PEn} : ∀ {A : List PEn}, TK tF (A ++ (0, a, b, g) :: T0) → TK (upd tF (3 * T0.length) 7) (A ++ (7, a, b, g) :: T0) := by
  intro A
  induction A with
  | nil =>
    intro ⟨h0, h1, h2, h3, h4⟩
    refine ⟨by omega, pk_us, ?_, ?_, TK_congr (fun j hj => pk_un (by omega)) h4⟩
    · rw [pk_un (by omega)]; exact h2
    · rw [pk_un (by omega)]; exact h3
  | cons e A ih =>
    obtain ⟨k, x, y, z⟩ := e
    intro h
    have h : k ≤ 7 ∧ tF (3 * (A ++ (0, a, b, g) :: T0).length) = nI k ∧ tF (3 * (A ++ (0, a, b, g) :: T0).length + 1) = nI x ∧ tF (3 * (A ++ (0, a, b, g) :: T0).length + 2) = eBv k x y ∧ TK tF (A ++ (0, a, b, g) :: T0) := h
    obtain ⟨h0, h1, h2, h3, h4⟩ := h
    have hl : (A ++ (7, a, b, g) :: T0).length = (A ++ (0, a, b, g) :: T0).length := by simp only [List.length_append, List.length_cons]
    have hl2 : T0.length < (A ++ (0, a, b, g) :: T0).length := by simp only [List.length_append, List.length_cons]; omega
    show k ≤ 7 ∧ upd tF (3 * T0.length) 7 (3 * (A ++ (7, a, b, g) :: T0).length) = nI k ∧ upd tF (3 * T0.length) 7 (3 * (A ++ (7, a, b, g) :: T0).length + 1) = nI x ∧ upd tF (3 * T0.length) 7 (3 * (A ++ (7, a, b, g) :: T0).length + 2) = eBv k x y ∧ TK _ (A ++ (7, a, b, g) :: T0)
    rw [hl, pk_un (by omega), pk_un (by omega), pk_un (by omega)]
    exact ⟨h0, h1, h2, h3, ih h4⟩
theorem PX_set7 {a b g : Nat} {A T0 : List PEn} (h : PX V p M (A ++ (0, a, b, g) :: T0) cF fF d st u) : PX V p M (A ++ (7, a, b, g) :: T0) cF fF d st (ps_tF u (upd (p_tF u) (3 * T0.length) 7)) := by
  obtain ⟨h1, h2, h3, h4, h5, h6, h7, h8, h9, h10, h11, h12, h13, h14⟩ := h
  have hl : (A ++ (7, a, b, g) :: T0).length = (A ++ (0, a, b, g) :: T0).length := by simp only [List.length_append, List.length_cons]
  refine ⟨h1, h2, h3, h4, h5, h6, ?_, h8, TK_set7 h9, h10, h11, h12, ?_, h14⟩
  · show p_height u = _
    rw [hl]; exact h7
  · show _ ≤ p_tN u
    rw [hl]; exact h13
end PM1
