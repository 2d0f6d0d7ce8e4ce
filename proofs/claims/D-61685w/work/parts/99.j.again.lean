theorem vg_1 (u : PS) (x : Int32) : pB0 (ps_steps u x) = pB0 u := rfl
theorem vg_2 (u : PS) (x : Int32) : p_matched (ps_steps u x) = p_matched u := rfl
theorem wg_1 (u : MS) (x : Int32) : mC (ms_steps u x) = mC u := rfl
theorem wg_2 (u : MS) (x : Int32) : mC (ms_matched u x) = mC u := rfl
theorem wg_3 (u : MS) (x : Int32) : m_matched (ms_steps u x) = m_matched u := rfl
theorem wg_4 (u : MS) (x : Int32) : m_matched (ms_matched u x) = x := rfl
theorem inv_reset {u : PS} {w : MS} (h : INV u w) {x y x' y' : Int32} (hx : x = nI 0) (hy : y = 0) (hx' : x' = nI 0) (hy' : y' = 0) : INV (ps_steps (ps_matched u y) x) (ms_steps (ms_matched w y') x') ∧ p_tN (ps_steps (ps_matched u y) x) = p_tN u ∧ p_kN (ps_steps (ps_matched u y) x) = p_kN u := by
  obtain ⟨lim, D, L, st, a1, a2, a3, a4, a5, a6, a7, a8, ⟨fF, hfF, hfb⟩, b1, b2, b3, b4⟩ := h
  have e1 : pB0 (ps_steps (ps_matched u y) x) = pB0 u := (vg_1 (ps_matched u y) x).trans (pB0_m u y)
  have e2 : pB2 (ps_steps (ps_matched u y) x) = pB2 u := (vc_1 (ps_matched u y) x).trans (vc_3 u y)
  have e3 : p_steps (ps_steps (ps_matched u y) x) = x := vd_1 (ps_matched u y) x
  have e4 : p_matched (ps_steps (ps_matched u y) x) = y := (vg_2 (ps_matched u y) x).trans (mt_m u y)
  have f1 : mC (ms_steps (ms_matched w y') x') = mC w := (wg_1 (ms_matched w y') x').trans (wg_2 w y')
  have f2 : m_steps (ms_steps (ms_matched w y') x') = x' := we_4 (ms_matched w y') x'
  have f3 : m_matched (ms_steps (ms_matched w y') x') = y' := (wg_3 (ms_matched w y') x').trans (wg_4 w y')
  generalize ps_steps (ps_matched u y) x = u1 at *
  generalize ms_steps (ms_matched w y') x' = w1 at *
  have q := pB2_out e2
  refine ⟨inv_next a1 a2 a3 a4 a5 e1 f1 (e3.trans hx) (f2.trans hx') (Nat.zero_le _) ((e4.trans hy).trans (f3.trans hy').symm) (Or.inl (f3.trans hy')) (fun z => absurd ((f3.trans hy').symm.trans z) (by decide)) ⟨by rw [q.1]; exact hfF, hfb⟩ (by rw [q.2.1]; exact b1) (by rw [q.2.1]; exact b2) (by rw [q.2.2]; exact b3) (by rw [q.2.2]; exact b4), q.2.2, q.2.1⟩
theorem s_next {u : PS} {f l : Nat} {Q : Int32 → PS → Prop} (h0 : p_cF u 0 = nI f) (h1 : p_cF u 1 = nI l) (hf : f ≤ 40) (hl : l ≤ 40) (hQ : Q (nI (if l = f then l + 1 else l)) u) : P_B_nextStart u Q := by
  have e0 : (0 : Int32).toNatClampNeg = 0 := by decide
  have e1 : (1 : Int32).toNatClampNeg = 1 := by decide
  have v0 : vp_in (0 : Int32) 10 := vp_in_nI (n := 0) (by decide) (by decide)
  have v1 : vp_in (1 : Int32) 10 := vp_in_nI (n := 1) (by decide) (by decide)
  unfold P_B_nextStart
  rw [e0, e1, h0, h1]
  refine ⟨v1, v0, fun z => ⟨v1, ?_⟩, fun z => ⟨v1, ?_⟩⟩
  · rw [neq (by omega) (by omega)] at z
    rw [if_pos z] at hQ
    rw [n_1]; exact hQ
  · rw [neq (by omega) (by omega)] at z
    rw [if_neg z] at hQ
    exact hQ
theorem op_again {u : PS} {w : MS} (h : INV u w) : ∃ kc, Wt u + kc ≤ 312000 ∧ ∀ K : PS → MS → Prop, (∀ u1 w1, INV u1 w1 → Wt u1 = Wt u + kc → K u1 w1) → P_B_again kc (2 * kc) u (fun r u1 => P_M_again w (fun r2 w1 => r = r2 ∧ K u1 w1)) := by
  have h0 := h
  have hw0 := inv_W h
  obtain ⟨i1, i2, i3⟩ := inv_reset h (x := 0) (y := 0) (x' := 0) (y' := 0) rfl rfl rfl rfl
  have hWr : Wt (ps_steps (ps_matched u 0) 0) = Wt u + 0 := by
    have := Wt_eq i2 i3
    rw [this, Nat.add_zero]
  obtain ⟨lim, D, L, st, a1, a2, a3, a4, a5, a6, a7, a8, a9⟩ := h
  rcases a7.2 with hm | hm
  · refine ⟨0, hw0, fun K hK => ⟨fun _ => ⟨fun _ => ?_, fun z => absurd hm z⟩, fun z => absurd (a7.1.trans hm) z⟩⟩
    refine ⟨fun _ => ⟨rfl, hK _ _ i1 hWr⟩, fun z => absurd ?_ z⟩
    rw [a3.2.1, n_1]; exact nI_lt (by omega) (by omega)
  · obtain ⟨hr1, f, l, c, f1, f2, f3, f4, f5, f6, f7, f8, f9⟩ := a8 hm
    have hL := a3.2.2.1
    have hnm : ¬ p_matched u = 0 := by rw [a7.1, hm]; decide
    have hnm2 : ¬ m_matched w = 0 := by rw [hm]; decide
    have mag : ∀ {Q : Int32 → MS → Prop}, B_M_again_40 Q (nI (if l = f then l + 1 else l)) w → P_M_again w Q := fun hB => by
      refine ⟨fun z => absurd z hnm2, fun _ => ?_⟩
      rw [f1, f2]
      refine ⟨fun z => ?_, fun z => ?_⟩
      · rw [nle (by omega) (by omega)] at z
        rw [if_pos (by omega)] at hB
        rw [n_1]; exact hB
      · rw [nle (by omega) (by omega)] at z
        rw [if_neg (by omega)] at hB
        exact hB
    generalize hp : (if l = f then l + 1 else l) = p0 at mag
    have hp1 : p0 ≤ l + 1 := by rw [← hp]; split <;> omega
    by_cases hle : p0 ≤ L
    · obtain ⟨cd, sf, tf, kf, g1, g2, g3, g4, AP, AM, hP, hM, hI, hT⟩ := srch h0 hr1 p0 (fun L' e1 e2 => by
        have : L' = L := (neq (by omega) (by omega)).mp (e1.symm.trans a3.2.1)
        omega)
      refine ⟨tf + kf - (p_tN u + p_kN u), by unfold Wt; omega, fun K hK => ⟨fun z => absurd z hnm, fun _ => s_next f7 f8 (by omega) (by omega) (s_len a3.1 ?_)⟩⟩
      rw [hp, su_eta]
      refine ⟨fun _ => s_next f7 f8 (by omega) (by omega) ⟨tf + kf - (p_tN u + p_kN u), 2 * (tf + kf - (p_tN u + p_kN u)), by omega, by omega, ?_⟩, fun z => absurd (nI_le hle (by omega)) z⟩
      rw [hp]
      refine hP _ (fun u1 hA => mag ⟨fun z => absurd z ?_, fun _ => hM _ (fun w1 hB => ⟨rfl, hK u1 w1 (hI u1 w1 hA hB) ?_⟩)⟩)
      · rw [a3.2.1]; exact nI_nlt hle (by omega)
      · have := hT u1 hA
        unfold Wt; omega
    · refine ⟨0, hw0, fun K hK => ⟨fun z => absurd z hnm, fun _ => s_next f7 f8 (by omega) (by omega) (s_len a3.1 ?_)⟩⟩
      rw [hp, su_eta]
      refine ⟨fun z => absurd z (nI_ge (by omega) (by omega)), fun _ => mag ⟨fun _ => ⟨rfl, hK _ _ i1 hWr⟩, fun z => absurd ?_ z⟩⟩
      rw [a3.2.1]; exact nI_lt (by omega) (by omega)
