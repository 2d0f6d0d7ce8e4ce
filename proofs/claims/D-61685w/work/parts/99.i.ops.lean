theorem inv_W {u : PS} {w : MS} (h : INV u w) : Wt u + 0 ≤ 312000 := by
  obtain ⟨lim, D, L, st, a1, a2, a3, a4, a5, a6, a7, a8, a9, b1, b2, b3, b4⟩ := h
  unfold Wt; omega
theorem mref {x : Int32} {w : MS} {Q : Int32 → MS → Prop} (h : m_ready w = 0 ∨ x < 0 ∨ m_letters w < x) (hQ : Q (-1) w) : P_M_search x w Q := by
  refine ⟨fun _ => hQ, fun q => ?_⟩
  rcases h with h | h | h
  · exact absurd h q
  · exact ⟨fun _ => ⟨fun _ => hQ, fun z => absurd rfl z⟩, fun z => absurd h z⟩
  · exact ⟨fun _ => ⟨fun _ => hQ, fun z => absurd rfl z⟩, fun _ => ⟨fun _ => ⟨fun _ => hQ, fun z => absurd rfl z⟩, fun z => absurd h z⟩⟩
theorem op_search {u : PS} {w : MS} (h : INV u w) (x : Int32) : ∃ kc, Wt u + kc ≤ 312000 ∧ ∀ K : PS → MS → Prop, (∀ u1 w1, INV u1 w1 → Wt u1 = Wt u + kc → K u1 w1) → P_B_search kc (2 * kc) x u (fun r u1 => P_M_search x w (fun r2 w1 => r = r2 ∧ K u1 w1)) := by
  have h0 := h
  have hw0 := inv_W h
  obtain ⟨lim, D, L, st, a1, a2, a3, a4, a5, a6, a7, a8, a9⟩ := h
  by_cases hx : x < 0
  · exact ⟨0, hw0, fun K hK => ⟨fun _ => mref (Or.inr (Or.inl hx)) ⟨rfl, hK u w h0 rfl⟩, fun z => absurd hx z⟩⟩
  · by_cases hl : nI L < x
    · refine ⟨0, hw0, fun K hK => ⟨fun z => absurd z hx, fun _ => s_len a3.1 ⟨fun _ => ?_, fun z => absurd hl z⟩⟩⟩
      rw [su_eta]
      exact mref (Or.inr (Or.inr (by rw [a3.2.1]; exact hl))) ⟨rfl, hK u w h0 rfl⟩
    · by_cases hr : m_ready w = 0
      · refine ⟨0, hw0, fun K hK => ⟨fun z => absurd z hx, fun _ => s_len a3.1 ⟨fun z => absurd z hl, fun _ => ?_⟩⟩⟩
        rw [su_eta]
        exact ⟨fun _ => mref (Or.inl hr) ⟨rfl, hK u w h0 rfl⟩, fun z => absurd (a4.1.trans hr) z⟩
      · have hr1 : m_ready w = 1 := by rcases a4.2 with z | z; exact absurd z hr; exact z
        obtain ⟨p0, hp0, hxe⟩ := nI_of hx
        have hpL : p0 ≤ L := by
          rw [hxe, nlt (by omega) hp0] at hl; omega
        obtain ⟨cd, sf, tf, kf, g1, g2, g3, g4, AP, AM, hP, hM, hI, hT⟩ := srch h0 hr1 p0 (fun L' e1 e2 => by
          have : L' = L := (neq (by omega) (by omega)).mp (e1.symm.trans a3.2.1)
          omega)
        refine ⟨tf + kf - (p_tN u + p_kN u), by unfold Wt; omega, fun K hK => ⟨fun z => absurd z hx, fun _ => s_len a3.1 ⟨fun z => absurd z hl, fun _ => ?_⟩⟩⟩
        rw [su_eta]
        refine ⟨fun z => absurd (a4.1.symm.trans z) (by rw [hr1]; decide), fun _ => ⟨tf + kf - (p_tN u + p_kN u), 2 * (tf + kf - (p_tN u + p_kN u)), by omega, by omega, ?_⟩⟩
        rw [hxe]
        refine hP _ (fun u1 hA => ⟨fun z => absurd z hr, fun _ => ⟨fun z => absurd z (by rw [← hxe]; exact hx), fun _ => ⟨fun z => absurd z (by rw [a3.2.1, ← hxe]; exact hl), fun _ => ⟨fun z => absurd z (by decide), fun _ => hM _ (fun w1 hB => ⟨rfl, hK u1 w1 (hI u1 w1 hA hB) ?_⟩)⟩⟩⟩⟩)
        have := hT u1 hA
        unfold Wt; omega
theorem capI_decV (v : Nat) (hv : v = 0 ∨ (1 ≤ v / 64 ∧ 1 ≤ v % 64)) : capI v false = decV (v / 64) ∧ capI v true = decV (v % 64) := by
  unfold capI decV
  rcases hv with h | ⟨h1, h2⟩
  · rw [h]; exact ⟨rfl, rfl⟩
  · refine ⟨?_, ?_⟩
    · rw [if_neg (show ¬ v = 0 by omega), if_neg (show ¬ v / 64 = 0 by omega)]
      show nI (v / 64) - 1 = _
      rw [show (1 : Int32) = nI 1 from rfl, n_sub h1]
    · rw [if_neg (show ¬ v = 0 by omega), if_neg (show ¬ v % 64 = 0 by omega)]
      show nI (v % 64) - 1 = _
      rw [show (1 : Int32) = nI 1 from rfl, n_sub h2]
theorem bnd {u : PS} {w : MS} (h : INV u w) (x : Int32) (e : Bool) {K : Prop} (hK : K) {Q : Int32 → MS → Prop} (hB : (m_matched w = 0 → Q (-6) w) ∧ (x < 0 → Q (-6) w) ∧ (4 < x → Q (-6) w) ∧ (m_matched w ≠ 0 → ∀ g, g ≤ 4 → x = nI g → Q (p_cF u (2 * g + (if e then 1 else 0))) w)) : P_M_bound x (bI e) w Q := by
  obtain ⟨lim, D, L, st, a1, a2, a3, a4, a5, a6, a7, a8, a9⟩ := h
  obtain ⟨q1, q2, q3, q4⟩ := hB
  refine ⟨fun z => q1 z, fun z => ⟨fun hx => ⟨fun _ => q2 hx, fun z => absurd rfl z⟩, fun hx => ⟨fun h4 => ⟨fun _ => q3 h4, fun z => absurd rfl z⟩, fun h4 => ⟨fun z => absurd z (by decide), fun _ => ?_⟩⟩⟩⟩
  have hm1 : m_matched w = 1 := by rcases a7.2 with y | y; exact absurd y z; exact y
  obtain ⟨_, f, l, c, f1, f2, f3, f4, f5, f6, f7, f8, f9⟩ := a8 hm1
  obtain ⟨g, hg, hge⟩ := nI_of hx
  have hg4 : g ≤ 4 := by rw [hge, show (4 : Int32) = nI 4 from rfl, nlt (by decide) hg] at h4; omega
  have q4 := q4 z g hg4 hge
  refine ⟨fun hx0 => ?_, fun hx0 => ?_⟩
  · have hg0 : g = 0 := by rw [hge] at hx0; exact (neq (b := 0) hg (by decide)).mp hx0
    subst hg0
    cases e with
    | false => exact ⟨fun _ => by rw [f1, ← f7]; exact q4, fun z => absurd rfl z⟩
    | true => exact ⟨fun z => absurd z (by decide), fun _ => by rw [f2, ← f8]; exact q4⟩
  · have hg1 : 1 ≤ g := by
      by_cases y : g = 0
      · exact absurd (by rw [hge, y]; rfl) hx0
      · omega
    rw [f5, hge]
    refine s_capture (cOK_of f6) hg1 hg4 ?_
    have hcg := f6 g
    have hd := capI_decV (c g) (by omega)
    have hc := f9 g hg1 hg4
    cases e with
    | false => rw [hd.1, ← hc.1]; exact q4
    | true => rw [hd.2, ← hc.2]; exact q4
theorem op_start {u : PS} {w : MS} (h : INV u w) (x : Int32) {K : PS → MS → Prop} (hK : K u w) : P_B_start x u (fun r u1 => P_M_start x w (fun r2 w1 => r = r2 ∧ K u1 w1)) := by
  have hm : p_matched u = m_matched w := by
    obtain ⟨lim, D, L, st, a1, a2, a3, a4, a5, a6, a7, a8, a9⟩ := h; exact a7.1
  refine ⟨fun z => ?_, fun z => ⟨fun hx => ?_, fun hx => ⟨fun h4 => ?_, fun h4 => ?_⟩⟩⟩
  · exact bnd (K := True) h x false trivial ⟨fun _ => ⟨rfl, hK⟩, fun _ => ⟨rfl, hK⟩, fun _ => ⟨rfl, hK⟩, fun y => absurd (hm.symm.trans z) y⟩
  · exact bnd (K := True) h x false trivial ⟨fun _ => ⟨rfl, hK⟩, fun _ => ⟨rfl, hK⟩, fun _ => ⟨rfl, hK⟩, fun _ g hg e => absurd hx (by rw [e]; exact nI_pos (by omega))⟩
  · exact bnd (K := True) h x false trivial ⟨fun _ => ⟨rfl, hK⟩, fun _ => ⟨rfl, hK⟩, fun _ => ⟨rfl, hK⟩, fun _ g hg e => absurd h4 (by rw [e, show (4 : Int32) = nI 4 from rfl, nlt (by decide) (by omega)]; omega)⟩
  · obtain ⟨g, hg, hge⟩ := nI_of hx
    have hg4 : g ≤ 4 := by rw [hge, show (4 : Int32) = nI 4 from rfl, nlt (by decide) hg] at h4; omega
    have e2 : (2 : Int32) * nI g = nI (2 * g) := by rw [show (2 : Int32) = nI 2 from rfl, n_mul]
    rw [hge, e2, nI_clamp (by omega)]
    refine ⟨vp_in_nI (by omega) (by decide), ?_⟩
    refine bnd (K := True) h (nI g) false trivial ⟨fun y => absurd (hm.trans y) z, fun y => absurd y (nI_pos (by omega)), fun y => absurd y (by rw [show (4 : Int32) = nI 4 from rfl, nlt (by decide) (by omega)]; omega), fun _ g2 hg2 e => ?_⟩
    have : g = g2 := (neq (by omega) (by omega)).mp e
    rw [this]; exact ⟨rfl, hK⟩
theorem op_end {u : PS} {w : MS} (h : INV u w) (x : Int32) {K : PS → MS → Prop} (hK : K u w) : P_B_end x u (fun r u1 => P_M_end x w (fun r2 w1 => r = r2 ∧ K u1 w1)) := by
  have hm : p_matched u = m_matched w := by
    obtain ⟨lim, D, L, st, a1, a2, a3, a4, a5, a6, a7, a8, a9⟩ := h; exact a7.1
  refine ⟨fun z => ?_, fun z => ⟨fun hx => ?_, fun hx => ⟨fun h4 => ?_, fun h4 => ?_⟩⟩⟩
  · exact bnd (K := True) h x true trivial ⟨fun _ => ⟨rfl, hK⟩, fun _ => ⟨rfl, hK⟩, fun _ => ⟨rfl, hK⟩, fun y => absurd (hm.symm.trans z) y⟩
  · exact bnd (K := True) h x true trivial ⟨fun _ => ⟨rfl, hK⟩, fun _ => ⟨rfl, hK⟩, fun _ => ⟨rfl, hK⟩, fun _ g hg e => absurd hx (by rw [e]; exact nI_pos (by omega))⟩
  · exact bnd (K := True) h x true trivial ⟨fun _ => ⟨rfl, hK⟩, fun _ => ⟨rfl, hK⟩, fun _ => ⟨rfl, hK⟩, fun _ g hg e => absurd h4 (by rw [e, show (4 : Int32) = nI 4 from rfl, nlt (by decide) (by omega)]; omega)⟩
  · obtain ⟨g, hg, hge⟩ := nI_of hx
    have hg4 : g ≤ 4 := by rw [hge, show (4 : Int32) = nI 4 from rfl, nlt (by decide) hg] at h4; omega
    have e2 : (2 : Int32) * nI g = nI (2 * g) := by rw [show (2 : Int32) = nI 2 from rfl, n_mul]
    rw [hge, e2, n_1, nI_clamp (by omega)]
    refine ⟨vp_in_nI (by omega) (by decide), ?_⟩
    refine bnd (K := True) h (nI g) true trivial ⟨fun y => absurd (hm.trans y) z, fun y => absurd y (nI_pos (by omega)), fun y => absurd y (by rw [show (4 : Int32) = nI 4 from rfl, nlt (by decide) (by omega)]; omega), fun _ g2 hg2 e => ?_⟩
    have : g = g2 := (neq (by omega) (by omega)).mp e
    rw [this]; exact ⟨rfl, hK⟩
theorem op_steps2 {u : PS} {w : MS} (h : INV u w) {K : PS → MS → Prop} (hK : K u w) : P_B_steps u (fun r u1 => P_M_steps w (fun r2 w1 => r = r2 ∧ K u1 w1)) := by
  obtain ⟨lim, D, L, st, a1, a2, a3, a4, a5, a6, a7, a8, a9⟩ := h
  show p_steps u = m_steps w ∧ K u w
  rw [a6.1, a6.2.1]; exact ⟨rfl, hK⟩
theorem wr_eta (u : PS) : ps_wr u (p_wr u) = u := rfl
theorem op_count {u : PS} {w : MS} (h : INV u w) (x : Int32) {K : PS → MS → Prop} (hK : K u w) : P_B_count x u (fun r u1 => P_M_count x w (fun r2 w1 => r = r2 ∧ K u1 w1)) := by
  obtain ⟨lim, D, L, st, a1, a2, a3, a4, a5, a6, a7, a8, a9⟩ := h
  have m01 : ∀ {Q : Int32 → MS → Prop}, x = 0 → Q (m_drafted w) w → P_M_count x w Q := fun e hq => by
    subst e
    exact ⟨fun z => absurd z (by decide), fun _ => ⟨fun z => absurd z (by decide), fun _ => ⟨fun z => absurd z (by decide), fun _ => ⟨fun _ => hq, fun z => absurd rfl z⟩⟩⟩⟩
  have m11 : ∀ {Q : Int32 → MS → Prop}, x = 1 → Q (m_letters w) w → P_M_count x w Q := fun e hq => by
    subst e
    exact ⟨fun z => absurd z (by decide), fun _ => ⟨fun z => absurd z (by decide), fun _ => ⟨fun z => absurd z (by decide), fun _ => ⟨fun z => absurd z (by decide), fun _ => hq⟩⟩⟩⟩
  have m23 : ∀ {Q : Int32 → MS → Prop}, (x = 2 ∨ x = 3) → (m_ready w = 0 → Q (-4) w) → (¬ m_ready w = 0 → x = 2 → Q (m_groups w) w) → (¬ m_ready w = 0 → x = 3 → Q (m_size w) w) → P_M_count x w Q := fun e q1 q2 q3 => by
    rcases e with e | e
    · subst e
      exact ⟨fun z => absurd z (by decide), fun _ => ⟨fun _ => ⟨fun _ => ⟨fun z => absurd z (by decide), fun _ => ⟨fun z => absurd z (by decide), fun _ => ⟨fun z => absurd z (by decide), fun _ => ⟨fun z => q1 z, fun z => ⟨fun _ => q2 z rfl, fun y => absurd rfl y⟩⟩⟩⟩⟩, fun z => absurd rfl z⟩, fun z => absurd (by decide) z⟩⟩
    · subst e
      exact ⟨fun z => absurd z (by decide), fun _ => ⟨fun _ => ⟨fun _ => ⟨fun z => absurd z (by decide), fun _ => ⟨fun z => absurd z (by decide), fun _ => ⟨fun z => absurd z (by decide), fun _ => ⟨fun z => q1 z, fun z => ⟨fun y => absurd y (by decide), fun _ => q3 z rfl⟩⟩⟩⟩⟩, fun z => absurd rfl z⟩, fun z => absurd (by decide) z⟩⟩
  refine ⟨fun e => s_len a2.1 ?_, fun e => s_len a3.1 ?_, fun e => ⟨fun z => ?_, fun z => ?_⟩, fun e => ⟨fun z => ?_, fun z => ?_⟩, fun e0 e1 e2 e3 => ?_⟩
  · rw [wr_eta]; exact m01 e ⟨a2.2.1.symm, hK⟩
  · rw [su_eta]; exact m11 e ⟨a3.2.1.symm, hK⟩
  · have z2 := a4.1.symm.trans z
    exact m23 (Or.inl e) (fun _ => ⟨rfl, hK⟩) (fun y => absurd z2 y) (fun y => absurd z2 y)
  · have z2 : ¬ m_ready w = 0 := fun y => z (a4.1.trans y)
    have z1 : m_ready w = 1 := by rcases a4.2 with y | y; exact absurd y z2; exact y
    obtain ⟨n, G, c1, c2, c3, c4, hC⟩ := a5 z1
    exact m23 (Or.inl e) (fun y => absurd y z2) (fun _ _ => ⟨c3.trans c2.symm, hK⟩) (fun _ y => absurd (e.symm.trans y) (by decide))
  · have z2 := a4.1.symm.trans z
    exact m23 (Or.inr e) (fun _ => ⟨rfl, hK⟩) (fun y => absurd z2 y) (fun y => absurd z2 y)
  · have z2 : ¬ m_ready w = 0 := fun y => z (a4.1.trans y)
    have z1 : m_ready w = 1 := by rcases a4.2 with y | y; exact absurd y z2; exact y
    obtain ⟨n, G, c1, c2, c3, c4, hC⟩ := a5 z1
    exact m23 (Or.inr e) (fun y => absurd y z2) (fun _ y => absurd (e.symm.trans y) (by decide)) (fun _ _ => ⟨c4, hK⟩)
  · have one : ∀ {Q : Int32 → Prop} {lo hi : Int32}, (¬ (¬ x < lo ∧ ¬ hi < x)) → Q 0 → P_M_in x lo hi Q := fun hno hq =>
      ⟨fun _ => hq, fun y => ⟨fun _ => hq, fun y2 => absurd ⟨y, y2⟩ hno⟩⟩
    have sm : ∀ k : Nat, k ≤ 2 → ¬ x < nI k → ¬ nI (k + 1) < x → x = nI k ∨ x = nI (k + 1) := by
      intro k hk y1 y2
      have hx : ¬ x < 0 := by
        intro q
        apply y1
        have h1 : (nI k).toInt = (k : Int) := nI_toInt (by omega)
        have h2 := Int32.lt_iff_toInt_lt.mp q
        have h0 : (0 : Int32).toInt = 0 := by decide
        rw [Int32.lt_iff_toInt_lt]; omega
      obtain ⟨j, hj, hje⟩ := nI_of hx
      rw [hje, nlt hj (by omega)] at y1
      rw [hje, nlt (by omega) hj] at y2
      have : j = k ∨ j = k + 1 := by omega
      rcases this with q | q
      · exact Or.inl (by rw [hje, q])
      · exact Or.inr (by rw [hje, q])
    refine one (lo := 0) (hi := 1) (fun y => ?_) ⟨fun _ => one (lo := 2) (hi := 3) (fun y => ?_) ⟨fun _ => ⟨rfl, hK⟩, fun z => absurd rfl z⟩, fun z => absurd rfl z⟩
    · rcases sm 0 (by decide) y.1 y.2 with q | q
      · exact e0 q
      · exact e1 q
    · rcases sm 2 (by decide) y.1 y.2 with q | q
      · exact e2 q
      · exact e3 q
