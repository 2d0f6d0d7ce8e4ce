theorem vf_1 (u : PS) (x : Int32) : pB0 (ps_stopped u x) = pB0 u := rfl
theorem vf_2 (u : PS) (x : Int32) : p_matched (ps_stopped u x) = p_matched u := rfl
theorem pB1_out {u u1 : PS} (h : pB1 u1 = pB1 u) : p_steps u1 = p_steps u ∧ p_fF u1 = p_fF u ∧ p_kN u1 = p_kN u ∧ p_tN u1 = p_tN u :=
  ⟨congrArg (fun b : Int32 × Int32 × (Nat → Int32) × Nat × Nat => b.1) h, congrArg (fun b : Int32 × Int32 × (Nat → Int32) × Nat × Nat => b.2.2.1) h, congrArg (fun b : Int32 × Int32 × (Nat → Int32) × Nat × Nat => b.2.2.2.1) h, congrArg (fun b : Int32 × Int32 × (Nat → Int32) × Nat × Nat => b.2.2.2.2) h⟩
theorem pB2_out {u u1 : PS} (h : pB2 u1 = pB2 u) : p_fF u1 = p_fF u ∧ p_kN u1 = p_kN u ∧ p_tN u1 = p_tN u :=
  ⟨congrArg (fun b : (Nat → Int32) × Nat × Nat => b.1) h, congrArg (fun b : (Nat → Int32) × Nat × Nat => b.2.1) h, congrArg (fun b : (Nat → Int32) × Nat × Nat => b.2.2) h⟩
theorem srch {u : PS} {w : MS} (h : INV u w) (hr : m_ready w = 1) (p0 : Nat) (hp0 : ∀ L, m_letters w = nI L → L ≤ 40 → p0 ≤ L + 1) :
    ∃ cd sf tf kf, p_tN u ≤ tf ∧ tf ≤ 280000 ∧ p_kN u ≤ kf ∧ kf ≤ 32000 ∧ ∃ (AP : PS → Prop) (AM : MS → Prop),
      (∀ Q : Int32 → PS → Prop, (∀ u1, AP u1 → Q (resI cd sf) u1) → P_B_find (tf + kf - (p_tN u + p_kN u)) (2 * (tf + kf - (p_tN u + p_kN u))) (nI p0) u Q) ∧
      (∀ Q : Int32 → MS → Prop, (∀ w1, AM w1 → Q (resI cd sf) w1) → P_M_seek (nI p0) w Q) ∧
      (∀ u1 w1, AP u1 → AM w1 → INV u1 w1) ∧ (∀ u1, AP u1 → p_tN u1 = tf ∧ p_kN u1 = kf) := by
  obtain ⟨lim, D, L, st, a1, a2, a3, a4, a5, a6, a7, a8, ⟨fF, hfF, hfb⟩, b1, b2, b3, b4⟩ := h
  obtain ⟨n, G, c1, c2, c3, c4, hC⟩ := a5 hr
  obtain ⟨E, ⟨C, en, hEe⟩, hE, hV, hW, hT, hcO, eL, el⟩ := srch_env a1.1 a1.2.1 a1.2.2 a3.1 a3.2.1 a3.2.2.1 a3.2.2.2 c1 hC
  have hp := hp0 L a3.2.1 a3.2.2.1
  obtain ⟨cd, sf, p', c', st', fF', tf, kf, g1, g2, g3, g4, g5, g6, g7, g8⟩ := find_ex hE (hV 0) hcO (L + 1 - p0) p0 0 fF (p_tN u) (p_kN u) (by omega) (Nat.zero_le _) hfb b3 b4 b1 b2
  rw [eL, el] at g2
  have hlow := FS_low (fun i p c p' h1 h2 h3 => (hE.2.2.2.1 i p c p' h1 h2 h3).1) _ _ _ g1
  refine ⟨cd, sf, tf, kf, g4, g5, g6, g7, FQ (vM (pBase u) 0) cd sf p' c' st' fF' tf kf (resI cd sf), SQ (wMt (mBase w) 0) cd sf p' c' st' (resI cd sf), fun Q hQ => ?_, fun Q hQ => ?_, fun u1 w1 hA hM => ?_, fun u1 hA => ?_⟩
  · obtain ⟨i1, i2, i3⟩ := PI_start (u := u) (fF := fF) (x := 0) (y := 0) (z := 0) rfl rfl hfF b1 b2 b3 b4
    refine ⟨L + 1 - p0 + 1, g8 Q (tf + kf - (p_tN u + p_kN u)) (2 * (tf + kf - (p_tN u + p_kN u))) (p_tN u + p_kN u) (by omega) (by omega) (fun res u1 hF => ?_) _ 0 _ i1 i2 i3 (by omega) (Nat.le_refl _)⟩
    have hres : res = resI cd sf := by
      rcases hF with ⟨e, e2, _⟩ | ⟨e, e2, _⟩ | ⟨e, e2, _⟩ <;> (rw [e2, e]; rfl)
    rw [hres] at hF ⊢
    exact hQ u1 hF
  · refine ⟨L + 1 - p0 + 1, L_seek hEe (hW 0) hT (fun res w1 hF => ?_) (L + 1 - p0) p0 0 _ _ (by omega) g1 (MI_start rfl) (Nat.le_refl _)⟩
    have hres : res = resI cd sf := by
      rcases hF with ⟨e, e2, _⟩ | ⟨e, e2, _⟩ | ⟨e, e2, _⟩ <;> (rw [e2, e]; rfl)
    rw [hres] at hF ⊢
    exact hQ w1 hF
  · rcases hA with ⟨e, _, hI, t1, t2⟩ | ⟨e, _, v, hu1, hpl, hI, t1, t2, hcF⟩ | ⟨e, _, v, hu1, hI, t1, t2⟩
    · rcases hM with ⟨_, _, hJ⟩ | ⟨z, _⟩ | ⟨z, _⟩
      · obtain ⟨i1, i2, i3, i4, i5⟩ := hI
        obtain ⟨j1, j2⟩ := vM_out i1
        obtain ⟨k1, k2⟩ := wM_out hJ.1
        exact inv_next a1 a2 a3 a4 a5 j1 k1 i3 hJ.2 g2.2.1 (j2.trans k2.symm) (Or.inl k2) (fun z => absurd (k2.symm.trans z) (by decide)) ⟨i4, g3⟩ (by omega) (by omega) (by omega) (by omega)
      · omega
      · omega
    · rcases hM with ⟨z, _⟩ | ⟨_, _, y, hw1, hJ, hmp, hmc⟩ | ⟨z, _⟩
      · omega
      · obtain ⟨i1, i2, i3, i4, i5⟩ := hI
        obtain ⟨j1, j2⟩ := vM_out i1
        obtain ⟨k1, k2⟩ := wM_out hJ.1
        obtain ⟨f1, f2, f3, f4⟩ := fRes_all v (nI sf)
        obtain ⟨s1, s2, s3, s4, s5⟩ := sRes_all y (nI sf)
        obtain ⟨s6, s7⟩ := sRes_l y (nI sf)
        have f5 := fRes_cF v (nI sf)
        have f6 := pB1_out f2
        have g9 := g2.2.2 e
        rw [← hu1] at f1 f3 f5 f6
        have s8 := mC_of s1
        have s9 := st_of s1
        rw [← hw1] at s2 s3 s6 s7 s8 s9
        rw [hpl] at f5
        refine inv_next a1 a2 a3 a4 a5 (f1.trans j1) (s8.trans k1) (f6.1.trans i3) (s9.trans hJ.2) g2.2.1 (f3.trans s2.symm) (Or.inr s2) (fun _ => ⟨hr, sf, p', c', s3, s6.trans hmp, hlow e, g9.2.2.1, s7.trans hmc, g9.2.2.2, ?_, ?_, fun g g1' g4' => ?_⟩) ⟨by rw [f6.2.1]; exact i4, g3⟩ (by rw [f6.2.2.1]; omega) (by rw [f6.2.2.1]; omega) (by rw [f6.2.2.2]; omega) (by rw [f6.2.2.2]; omega)
        · rw [f5, pk_un (by omega), pk_us]
        · rw [f5, pk_us]
        · rw [f5, pk_un (by omega), pk_un (by omega), pk_un (by omega), pk_un (by omega)]; exact hcF g g1' g4'
      · omega
    · rcases hM with ⟨z, _⟩ | ⟨z, _⟩ | ⟨_, _, hJ⟩
      · omega
      · omega
      · obtain ⟨i1, i2, i3, i4, i5⟩ := hI
        obtain ⟨j1, j2⟩ := vM_out i1
        obtain ⟨k1, k2⟩ := wM_out hJ.1
        have q1 := vf_1 v 1
        have q2 := vf_2 v 1
        have q3 := vd_2 v 1
        have q4 := pB2_out (vc_2 v 1)
        rw [← hu1] at q1 q2 q3 q4
        exact inv_next a1 a2 a3 a4 a5 (q1.trans j1) k1 (q3.trans i3) hJ.2 g2.2.1 ((q2.trans j2).trans k2.symm) (Or.inl k2) (fun z => absurd (k2.symm.trans z) (by decide)) ⟨by rw [q4.1]; exact i4, g3⟩ (by rw [q4.2.1]; omega) (by rw [q4.2.1]; omega) (by rw [q4.2.2]; omega) (by rw [q4.2.2]; omega)
  · rcases hA with ⟨e, _, hI, t1, t2⟩ | ⟨e, _, v, hu1, hpl, hI, t1, t2, hcF⟩ | ⟨e, _, v, hu1, hI, t1, t2⟩
    · exact ⟨t1, t2⟩
    · have f6 := pB1_out (fRes_all v (nI sf)).2.1
      rw [← hu1] at f6
      exact ⟨f6.2.2.2.trans t1, f6.2.2.1.trans t2⟩
    · have q4 := pB2_out (vc_2 v 1)
      rw [← hu1] at q4
      exact ⟨q4.2.2.trans t1, q4.2.1.trans t2⟩
