section PO2
variable {E : AEnv} {V : PBs} {s : Nat → Int32} {pc p : Nat} {M : List Nat} {T : List PEn} {cF fF : ACp} {d st : Nat} {u : PS}
theorem ok_fence0 (hV : HV E V s) (h : PR V (pc, p, M, T, cF, fF, d, st) u) (hok : okP E (pc, p, M, T, cF, fF, d, st)) (ho : o_ E pc = 12) (hx : x_ E pc = 0) : OKg V u (pc + 1, p, p :: (3 * T.length) :: M, (1, 0, 0, 0) :: (1, 0, 0, 0) :: T, cF, fF, d, st) (3 * (T.length + 2)) (M.length + 2) := by
  obtain ⟨v, v1, v2, v3, v4, hO⟩ := one_at hV h (by omega)
  have hm := h.2.1
  have hT : T.length ≤ 46200 := hok.1
  have hM : M.length ≤ 14000 := hok.2.1
  rw [ho, hx] at hO
  refine ⟨by omega, by omega, fun Q hQ => hO Q _ _ (one_12 ⟨(gr1 (p_kN u) (M.length + 2) - p_kN u) + (gr1 (p_tN u) (3 * (T.length + 2)) - p_tN u), 2 * ((gr1 (p_kN u) (M.length + 2) - p_kN u) + (gr1 (p_tN u) (3 * (T.length + 2)) - p_tN u)), by omega, by omega, ⟨fun z => absurd z (by decide), fun _ => fence15 v1 (by rw [v4]; exact hm) (by omega) (by omega) ?_ ?_ (fun u1 g1 g2 g3 g4 g5 => hQ u1 ⟨g1, g2, g3.trans v2⟩ (Wt_gr (by rw [g4, v3]) (by rw [g5, v4])))⟩⟩)⟩
  · rw [v3, v4]; omega
  · rw [v3, v4]; omega
theorem ok_fence1 (hV : HV E V s) (h : PR V (pc, p, M, T, cF, fF, d, st) u) (hok : okP E (pc, p, M, T, cF, fF, d, st)) (ho : o_ E pc = 12) (hx : x_ E pc = 1) : OKg V u (pc + 1, p, p :: (3 * (T.length + 1)) :: M, (1, 0, 0, 0) :: (1, 0, 0, 0) :: (0, y_ E pc, p, 1) :: T, cF, fF, d, st) (3 * (T.length + 3)) (M.length + 2) := by
  obtain ⟨v, v1, v2, v3, v4, hO⟩ := one_at hV h (by omega)
  have hm := h.2.1
  have hT : T.length ≤ 46200 := hok.1
  have hM : M.length ≤ 14000 := hok.2.1
  have hpl : p_place v = nI p := v1.2.2.1
  have ht := PX_tN v1
  have m4 := gr1_ge (p_tN u) (3 * (T.length + 1))
  have m2 := gr1_mono (c := p_tN u) (show 3 * (T.length + 1) ≤ 3 * (T.length + 3) by omega)
  have c2 := gr1_comp (c := p_tN u) (show 3 * (T.length + 1) ≤ 3 * (T.length + 3) by omega) (by omega)
  rw [ho, hx] at hO
  refine ⟨by omega, by omega, fun Q hQ => hO Q _ _ (one_12 ⟨(gr1 (p_kN u) (M.length + 2) - p_kN u) + (gr1 (p_tN u) (3 * (T.length + 3)) - p_tN u), 2 * ((gr1 (p_kN u) (M.length + 2) - p_kN u) + (gr1 (p_tN u) (3 * (T.length + 3)) - p_tN u)), by omega, by omega, ⟨fun _ => ?_, fun z => absurd rfl z⟩⟩)⟩
  rw [hpl]
  refine ⟨_, _, ?_, ?_, s_log 0 (y_ E pc) p 1 (by decide) v1 (by omega) (fun u1 g1 g2 g3 g4 g5 => ?_)⟩
  · rw [v3]; omega
  · rw [v3]; omega
  · rw [v3] at g5
    have e5 : gr1 (p_tN u1) (3 * (((0, y_ E pc, p, 1) :: T : List PEn).length + 2)) = gr1 (p_tN u) (3 * (T.length + 3)) := by
      rw [g5, List.length_cons]; exact c2
    refine fence15 g1 ?_ (by omega) (by rw [List.length_cons]; omega) ?_ ?_ (fun u2 k1 k2 k3 k4 k5 => hQ u2 ⟨k1, k2, (k3.trans g2).trans v2⟩ (Wt_gr (by rw [k4]; exact e5) (by rw [k5, g3, v4])))
    · rw [mxM_34 (by decide) (by decide), g3, v4]; exact hm
    · rw [e5, g3, v4, g5, v3]; omega
    · rw [e5, g3, v4, g5, v3]; omega
theorem ok_close (hV : HV E V s) {m : Nat} (h : PR V (pc, p, m :: M, T, cF, fF, d, st) u) (hok : okP E (pc, p, m :: M, T, cF, fF, d, st)) (ho : o_ E pc = 7) (hx1 : 1 ≤ x_ E pc) (hx4 : x_ E pc ≤ 4) (hmL : m ≤ e_L E) : OKg V u (pc + 1, p, M, (pClose T cF (x_ E pc) m p).1, (pClose T cF (x_ E pc) m p).2, fF, d, st) (3 * (pClose T cF (x_ E pc) m p).1.length) M.length := by
  obtain ⟨v, v1, v2, v3, v4, hO⟩ := one_at hV h (by omega)
  have hm : mxM T (M.length + 1) ≤ p_kN u := h.2.1
  have hT : T.length ≤ 46200 := hok.1
  have hpL : p ≤ e_L E := hok.2.2.2.1
  have hL := hV.2.2.2.2.2.2.2.2.1
  have hcF := hok.2.2.2.2.2.1.1
  have hM : M.length + 1 ≤ 14000 := hok.2.1
  have hl : M.length + 1 ≤ p_kN u := by have : M.length + 1 ≤ p_kN v := v1.2.2.2.2.2.2.2.2.2.2.2.1; omega
  have ht := PX_tN v1
  rw [ho] at hO
  unfold pClose
  have l2 := pSet_len 3 ((2, m, 0, 0) :: T, cF) (2 * x_ E pc) (m + 1)
  have l3 := pSet_len 3 (pSet 3 ((2, m, 0, 0) :: T, cF) (2 * x_ E pc) (m + 1)) (2 * x_ E pc + 1) (p + 1)
  have l2 : T.length + 1 ≤ (pSet 3 ((2, m, 0, 0) :: T, cF) (2 * x_ E pc) (m + 1)).1.length ∧ _ ≤ T.length + 1 + 1 := l2
  have hv2 : (pSet 3 ((2, m, 0, 0) :: T, cF) (2 * x_ E pc) (m + 1)).2 (2 * x_ E pc + 1) ≤ 64 := by
    rw [pSet_val, if_neg (by omega)]; exact hcF _ (by omega) (by omega)
  have e2 : (2 : Int32) * nI (x_ E pc) = nI (2 * x_ E pc) := by rw [show (2 : Int32) = nI 2 from rfl, n_mul]
  have hc1 := fun (u1 : PS) (Qx : PS → Prop) (g1 : PX V p M ((2, m, 0, 0) :: T) cF fF d st u1) (g2 : mxM ((2, m, 0, 0) :: T) M.length ≤ p_kN u1) => s_captureP (Q := Qx) (a := 2 * x_ E pc) (v := m + 1) g1 g2 (by omega) (by omega) (by omega) (by have := hcF (2 * x_ E pc) (by omega) (by omega); omega) (by rw [List.length_cons]; omega)
  generalize pSet 3 ((2, m, 0, 0) :: T, cF) (2 * x_ E pc) (m + 1) = S2 at *
  obtain ⟨T2, c2⟩ := S2
  have l2 : T.length + 1 ≤ T2.length ∧ T2.length ≤ T.length + 1 + 1 := l2
  have hv2 : c2 (2 * x_ E pc + 1) ≤ 64 := hv2
  have hc2 := fun (u1 : PS) (Qx : PS → Prop) (g1 : PX V p M T2 c2 fF d st u1) (g2 : mxM T2 M.length ≤ p_kN u1) => s_captureP (Q := Qx) (a := 2 * x_ E pc + 1) (v := p + 1) g1 g2 (by omega) (by omega) (by omega) (by omega) (by omega)
  generalize pSet 3 (T2, c2) (2 * x_ E pc + 1) (p + 1) = S3 at *
  obtain ⟨T3, c3⟩ := S3
  have l3 : T2.length ≤ T3.length ∧ T3.length ≤ T2.length + 1 := l3
  have q1 := gr1_comp (c := p_tN u) (show 3 * (T.length + 1) ≤ 3 * T2.length by omega) (by omega)
  have q2 := gr1_comp (c := p_tN u) (show 3 * T2.length ≤ 3 * T3.length by omega) (by omega)
  have m1 := gr1_ge (p_tN u) (3 * (T.length + 1))
  have m2 := gr1_mono (c := p_tN u) (show 3 * (T.length + 1) ≤ 3 * T2.length by omega)
  have m3 := gr1_mono (c := p_tN u) (show 3 * T2.length ≤ 3 * T3.length by omega)
  show OKg V u (pc + 1, p, M, T3, c3, fF, d, st) (3 * T3.length) M.length
  refine ⟨by omega, by omega, fun Q hQ => hO Q _ _ (one_7 ⟨_, _, ?_, ?_, s_pop v1 (by rw [v4]; exact hm) (by omega) (fun u1 g1 g2 g3 g4 g5 => ?_)⟩)⟩
  · rw [v3]; omega
  · rw [v3]; omega
  rw [v3] at g4 ⊢
  have d1 : nI m = decV (m + 1) := by unfold decV; rw [if_neg (by omega), Nat.add_sub_cancel]
  have d2 : nI p = decV (p + 1) := by unfold decV; rw [if_neg (by omega), Nat.add_sub_cancel]
  rw [e2, n_1, d1]
  have t1 : gr1 (p_tN u1) (3 * T2.length) = gr1 (p_tN u) (3 * T2.length) := by rw [g4]; exact q1
  refine ⟨gr1 (p_tN u1) (3 * T2.length) - p_tN u1, 2 * (gr1 (p_tN u1) (3 * T2.length) - p_tN u1), ?_, ?_, hc1 u1 _ g1 g2 (fun u2 k1 k2 k3 k4 k5 => ?_)⟩
  · rw [t1, g4]; omega
  · rw [t1, g4]; omega
  have k4 : p_tN u2 = gr1 (p_tN u) (3 * T2.length) := k4.trans t1
  have hpl : p_place u2 = nI p := k1.2.2.1
  rw [hpl, d2]
  have t2 : gr1 (p_tN u2) (3 * T3.length) = gr1 (p_tN u) (3 * T3.length) := by rw [k4]; exact q2
  refine ⟨gr1 (p_tN u2) (3 * T3.length) - p_tN u2, 2 * (gr1 (p_tN u2) (3 * T3.length) - p_tN u2), ?_, ?_, hc2 u2 _ k1 k2 (fun u3 j1 j2 j3 j4 j5 => ?_)⟩
  · rw [t1, t2, k4, g4]; omega
  · rw [t1, t2, k4, g4]; omega
  · exact hQ u3 ⟨j1, j2, ((j3.trans k3).trans g3).trans v2⟩ (Wt_gr (j4.trans t2) (by rw [j5, k5, g5, v4, gr1_id (by omega)]))
theorem fl2 (a b : PEn) (ha : a.1 = 2) (hb : b.1 = 2) (T1 T0 : List PEn) : (a :: b :: T1).filter nc ++ T0 = a :: b :: (T1.filter nc ++ T0) := by
  rw [List.filter_cons_of_pos (by show (!decide (a.1 = 0)) = true; rw [ha]; decide), List.filter_cons_of_pos (by show (!decide (b.1 = 0)) = true; rw [hb]; decide)]; rfl
theorem ok_cut (hV : HV E V s) {m : Nat} {T1 T0 : List PEn} (h : PR V (pc, p, m :: (3 * T0.length) :: M, T1 ++ T0, cF, fF, d, st) u) (hok : okP E (pc, p, m :: (3 * T0.length) :: M, T1 ++ T0, cF, fF, d, st)) (ho : o_ E pc = 13) : OKg V u (pc + 1, p, M, (2, 3 * T0.length, 0, 0) :: (2, m, 0, 0) :: (T1.filter nc ++ T0), cF, fF, d, st) (3 * ((T1 ++ T0).length + 2)) M.length := by
  obtain ⟨v, v1, v2, v3, v4, hO⟩ := one_at hV h (by omega)
  have hm : mxM (T1 ++ T0) (M.length + 1 + 1) ≤ p_kN u := h.2.1
  have hT : (T1 ++ T0).length ≤ 46200 := hok.1
  have hM : M.length + 1 + 1 ≤ 14000 := hok.2.1
  have hl : M.length + 1 + 1 ≤ p_kN u := by have : M.length + 1 + 1 ≤ p_kN v := v1.2.2.2.2.2.2.2.2.2.2.2.1; omega
  have ht := PX_tN v1
  rw [ho] at hO
  have q1 := gr1_comp (c := p_tN u) (show 3 * ((T1 ++ T0).length + 1) ≤ 3 * ((T1 ++ T0).length + 2) by omega) (by omega)
  have m1 := gr1_ge (p_tN u) (3 * ((T1 ++ T0).length + 1))
  have m2 := gr1_mono (c := p_tN u) (show 3 * ((T1 ++ T0).length + 1) ≤ 3 * ((T1 ++ T0).length + 2) by omega)
  refine ⟨by omega, by omega, fun Q hQ => hO Q _ _ (one_13 ⟨_, _, ?_, ?_, s_pop v1 (by rw [v4]; exact hm) (by omega) (fun u1 g1 g2 g3 g4 g5 => ?_)⟩)⟩
  · rw [v3]; omega
  · rw [v3]; omega
  rw [v3] at g4 ⊢
  have t1 : gr1 (p_tN u1) (3 * (((2, m, 0, 0) :: (T1 ++ T0)).length + 1)) = gr1 (p_tN u) (3 * ((T1 ++ T0).length + 2)) := by rw [g4, List.length_cons]; exact q1
  refine ⟨_, _, ?_, ?_, s_pop g1 g2 (by rw [List.length_cons]; omega) (fun u2 k1 k2 k3 k4 k5 => ?_)⟩
  · rw [t1, g4]; omega
  · rw [t1, g4]; omega
  have k1 : PX V p M (((2, 3 * T0.length, 0, 0) :: (2, m, 0, 0) :: T1) ++ T0) cF fF d st u2 := k1
  refine s_forget k1 (fun u3 j1 j2 j3 j4 => ?_)
  have hmf := mxM_filter (T0 := T0) ((2, 3 * T0.length, 0, 0) :: (2, m, 0, 0) :: T1) M.length
  rw [fl2 _ _ rfl rfl] at j1 hmf
  exact hQ u3 ⟨j1, by rw [j4]; exact Nat.le_trans hmf k2, ((j2.trans k3).trans g3).trans v2⟩ (Wt_gr (by rw [j3, k4]; exact t1) (by rw [j4, k5, g5, v4, gr1_id (by omega)]))
theorem ok_look (hV : HV E V s) {m : Nat} {T1 T0 : List PEn} (h : PR V (pc, p, m :: (3 * T0.length) :: M, T1 ++ T0, cF, fF, d, st) u) (hok : okP E (pc, p, m :: (3 * T0.length) :: M, T1 ++ T0, cF, fF, d, st)) (ho : o_ E pc = 14) : OKg V u (pc + 1, m, M, (2, 3 * T0.length, 0, 0) :: (2, m, 0, 0) :: (T1.filter nc ++ T0), cF, fF, d, st) (3 * ((T1 ++ T0).length + 2)) M.length := by
  obtain ⟨v, v1, v2, v3, v4, hO⟩ := one_at hV h (by omega)
  have hm : mxM (T1 ++ T0) (M.length + 1 + 1) ≤ p_kN u := h.2.1
  have hT : (T1 ++ T0).length ≤ 46200 := hok.1
  have hM : M.length + 1 + 1 ≤ 14000 := hok.2.1
  have hl : M.length + 1 + 1 ≤ p_kN u := by have : M.length + 1 + 1 ≤ p_kN v := v1.2.2.2.2.2.2.2.2.2.2.2.1; omega
  have ht := PX_tN v1
  rw [ho] at hO
  have q1 := gr1_comp (c := p_tN u) (show 3 * ((T1 ++ T0).length + 1) ≤ 3 * ((T1 ++ T0).length + 2) by omega) (by omega)
  have m1 := gr1_ge (p_tN u) (3 * ((T1 ++ T0).length + 1))
  have m2 := gr1_mono (c := p_tN u) (show 3 * ((T1 ++ T0).length + 1) ≤ 3 * ((T1 ++ T0).length + 2) by omega)
  refine ⟨by omega, by omega, fun Q hQ => hO Q _ _ (one_14 ⟨_, _, ?_, ?_, s_pop v1 (by rw [v4]; exact hm) (by omega) (fun u1 g1 g2 g3 g4 g5 => ?_)⟩)⟩
  · rw [v3]; omega
  · rw [v3]; omega
  rw [v3] at g4 ⊢
  have key : ∀ x : Int32, x = nI m → PX V m (3 * T0.length :: M) ((2, m, 0, 0) :: (T1 ++ T0)) cF fF d st (ps_place u1 x) ∧ p_kN (ps_place u1 x) = p_kN u1 ∧ p_tN (ps_place u1 x) = p_tN u1 ∧ p_pc (ps_place u1 x) = p_pc u1 := fun x hx => ⟨PX_place hx g1, rfl, rfl, rfl⟩
  obtain ⟨y1, y2, y3, y4⟩ := key (nI m) rfl
  generalize ps_place u1 (nI m) = w at y1 y2 y3 y4
  have t1 : gr1 (p_tN w) (3 * (((2, m, 0, 0) :: (T1 ++ T0)).length + 1)) = gr1 (p_tN u) (3 * ((T1 ++ T0).length + 2)) := by rw [y3, g4, List.length_cons]; exact q1
  refine ⟨_, _, ?_, ?_, s_pop y1 (by rw [y2]; exact g2) (by rw [List.length_cons]; omega) (fun u2 k1 k2 k3 k4 k5 => ?_)⟩
  · rw [t1, y3, g4]; omega
  · rw [t1, y3, g4]; omega
  have k1 : PX V m M (((2, 3 * T0.length, 0, 0) :: (2, m, 0, 0) :: T1) ++ T0) cF fF d st u2 := k1
  refine s_forget k1 (fun u3 j1 j2 j3 j4 => ?_)
  have hmf := mxM_filter (T0 := T0) ((2, 3 * T0.length, 0, 0) :: (2, m, 0, 0) :: T1) M.length
  rw [fl2 _ _ rfl rfl] at j1 hmf
  exact hQ u3 ⟨j1, by rw [j4]; exact Nat.le_trans hmf k2, (((j2.trans k3).trans y4).trans g3).trans v2⟩ (Wt_gr (by rw [j3, k4]; exact t1) (by rw [j4, k5, y2, g5, v4, gr1_id (by omega)]))
theorem no_not (hV : HV E V s) {m a b g0 : Nat} {T1 T0 : List PEn} (h : PR V (pc, p, m :: (3 * (T0.length + 1)) :: M, T1 ++ (0, a, b, g0) :: T0, cF, fF, d, st) u) (hok : okP E (pc, p, m :: (3 * (T0.length + 1)) :: M, T1 ++ (0, a, b, g0) :: T0, cF, fF, d, st)) (ho : o_ E pc = 15) : NOg V u (pc + 1, p, M, (2, 3 * (T0.length + 1), 0, 0) :: (2, m, 0, 0) :: (T1.filter nc ++ (7, a, b, g0) :: T0), cF, fF, d, st) (3 * ((T1 ++ (0, a, b, g0) :: T0).length + 2)) M.length := by
  obtain ⟨v, v1, v2, v3, v4, hO⟩ := one_at hV h (by omega)
  have hm : mxM (T1 ++ (0, a, b, g0) :: T0) (M.length + 1 + 1) ≤ p_kN u := h.2.1
  have hT : (T1 ++ (0, a, b, g0) :: T0).length ≤ 46200 := hok.1
  have hM : M.length + 1 + 1 ≤ 14000 := hok.2.1
  have hl : M.length + 1 + 1 ≤ p_kN u := by have : M.length + 1 + 1 ≤ p_kN v := v1.2.2.2.2.2.2.2.2.2.2.2.1; omega
  have ht := PX_tN v1
  have hlen : (T1 ++ (0, a, b, g0) :: T0).length = T1.length + (T0.length + 1) := by rw [List.length_append, List.length_cons]
  rw [ho] at hO
  have q1 := gr1_comp (c := p_tN u) (show 3 * ((T1 ++ (0, a, b, g0) :: T0).length + 1) ≤ 3 * ((T1 ++ (0, a, b, g0) :: T0).length + 2) by omega) (by omega)
  have m1 := gr1_ge (p_tN u) (3 * ((T1 ++ (0, a, b, g0) :: T0).length + 1))
  have m2 := gr1_mono (c := p_tN u) (show 3 * ((T1 ++ (0, a, b, g0) :: T0).length + 1) ≤ 3 * ((T1 ++ (0, a, b, g0) :: T0).length + 2) by omega)
  refine ⟨by omega, by omega, fun Q hQ => hO Q _ _ (one_15 ⟨(gr1 (p_kN u) M.length - p_kN u) + (gr1 (p_tN u) (3 * ((T1 ++ (0, a, b, g0) :: T0).length + 2)) - p_tN u), 2 * ((gr1 (p_kN u) M.length - p_kN u) + (gr1 (p_tN u) (3 * ((T1 ++ (0, a, b, g0) :: T0).length + 2)) - p_tN u)), by omega, by omega, ?_⟩)⟩
  refine ⟨_, _, ?_, ?_, s_pop v1 (by rw [v4]; exact hm) (by omega) (fun u1 g1 g2 g3 g4 g5 => ?_)⟩
  · rw [v3]; omega
  · rw [v3]; omega
  rw [v3] at g4 ⊢
  have t1 : gr1 (p_tN u1) (3 * (((2, m, 0, 0) :: (T1 ++ (0, a, b, g0) :: T0)).length + 1)) = gr1 (p_tN u) (3 * ((T1 ++ (0, a, b, g0) :: T0).length + 2)) := by rw [g4, List.length_cons]; exact q1
  refine ⟨_, _, ?_, ?_, s_pop g1 g2 (by rw [List.length_cons]; omega) (fun u2 k1 k2 k3 k4 k5 => ?_)⟩
  · rw [t1, g4]; omega
  · rw [t1, g4]; omega
  have k1 : PX V p M (((2, 3 * (T0.length + 1), 0, 0) :: (2, m, 0, 0) :: T1) ++ (0, a, b, g0) :: T0) cF fF d st u2 := k1
  have el : 3 * (T0.length + 1) = 3 * ((0, a, b, g0) :: T0 : List PEn).length := by rw [List.length_cons]
  have hfg := s_forget (T0 := (0, a, b, g0) :: T0) (Q := fun u_12 => vp_in (nI (3 * (T0.length + 1)) - 3) (p_tN u_12) ∧ (isB 0 ∧ Q 0 (ps_tF u_12 (upd (p_tF u_12) (nI (3 * (T0.length + 1)) - 3).toNatClampNeg 7)))) k1
  rw [← el] at hfg
  refine hfg (fun u3 j1 j2 j3 j4 => ?_)
  rw [fl2 _ _ rfl rfl] at j1
  have ht3 := PX_tN j1
  have e3 : nI (3 * (T0.length + 1)) - 3 = nI (3 * T0.length) := by
    rw [show (3 : Int32) = nI 3 from rfl, n_sub (by omega)]; congr 1
  rw [e3, nI_clamp (by omega)]
  have hlen3 : T0.length + 1 ≤ ((2, 3 * (T0.length + 1), 0, 0) :: (2, m, 0, 0) :: (T1.filter nc ++ (0, a, b, g0) :: T0) : List PEn).length := by simp only [List.length_cons, List.length_append]; omega
  refine ⟨vp_in_nI (by omega) (by omega), Or.inl rfl, ?_⟩
  have j1 : PX V p M (((2, 3 * (T0.length + 1), 0, 0) :: (2, m, 0, 0) :: T1.filter nc) ++ (0, a, b, g0) :: T0) cF fF d st u3 := j1
  have hmf := mxM_not (T0 := T0) (a0 := a) (b0 := b) (g0 := g0) ((2, 3 * (T0.length + 1), 0, 0) :: (2, m, 0, 0) :: T1) M.length
  rw [fl2 _ _ rfl rfl] at hmf
  refine hQ _ ⟨PX_set7 j1, ?_, ((j2.trans k3).trans g3).trans v2⟩ ?_
  · show _ ≤ p_kN u3
    rw [j4]; exact Nat.le_trans hmf k2
  · exact Wt_gr (u := u) (u1 := u3) (by rw [j3, k4]; exact t1) (by rw [j4, k5, g5, v4, gr1_id (by omega)])
theorem ok_call (hV : HV E V s) (h : PR V (pc, p, M, T, cF, fF, d, st) u) (hok : okP E (pc, p, M, T, cF, fF, d, st)) (ho : o_ E pc = 4) (hst : st < e_lim E) (hd : d < 12) (hx4 : x_ E pc ≤ 4) (hpc1 : pc + 1 < 2 ^ 20) : OKg V u (e_en E (x_ E pc), p, M, (5, 0, 0, 0) :: (pCall T fF cF d pc).1, cF, (pCall T fF cF d pc).2, d + 1, st + 1) (3 * ((pCall T fF cF d pc).1.length + 1)) M.length := by
  obtain ⟨v, v1, v2, v3, v4, hO⟩ := one_at hV h (by omega)
  have hm := h.2.1
  have hlim := hV.2.2.2.2.2.2.2.2.2.1
  have hT : T.length ≤ 46200 := hok.1
  have hcF := hok.2.2.2.2.2.1.1
  have hfb : ∀ a, fF a < 2 ^ 20 := hok.2.2.2.2.1
  have hpc : pc < 2 ^ 20 := hok.2.2.2.2.2.2.2.1
  have hM : M.length ≤ 14000 := hok.2.1
  have hl : M.length ≤ p_kN u := by have := v1.2.2.2.2.2.2.2.2.2.2.2.1; omega
  have ht := PX_tN v1
  rw [ho] at hO
  unfold pCall
  have e29 : L29 = rngL 8 2 := rfl
  rw [e29]
  have l1 := pSet_len 4 (T, fF) (10 * d) (pc + 1)
  have l1 : T.length ≤ (pSet 4 (T, fF) (10 * d) (pc + 1)).1.length ∧ _ ≤ T.length + 1 := l1
  have hfb2 := pSet_fb (k := 4) (s := (T, fF)) (a := 10 * d) (v := pc + 1) hpc1 hfb
  have hc1 := fun (u1 : PS) (Qx : PS → Prop) (g1 : PX V p M T cF fF d (st + 1) u1) (g2 : mxM T M.length ≤ p_kN u1) => s_setFrame (Q := Qx) (a := 10 * d) (v := pc + 1) g1 g2 (by omega) (by omega) (by have := hfb (10 * d); omega) (by omega)
  generalize pSet 4 (T, fF) (10 * d) (pc + 1) = S at *
  obtain ⟨T', fF'⟩ := S
  have l1 : T.length ≤ T'.length ∧ T'.length ≤ T.length + 1 := l1
  have l2 := pSetL_len 4 cF (10 * d) (rngL 8 2) (T', fF')
  rw [rngL_len] at l2
  have l2 : T'.length ≤ (pSetL 4 cF (10 * d) (rngL 8 2) (T', fF')).1.length ∧ (pSetL 4 cF (10 * d) (rngL 8 2) (T', fF')).1.length ≤ T'.length + 8 := l2
  have m1 := gr1_ge (p_tN u) (3 * T'.length)
  have m2 := gr1_mono (c := p_tN u) (show 3 * T'.length ≤ 3 * ((pSetL 4 cF (10 * d) (rngL 8 2) (T', fF')).1.length + 1) by omega)
  refine ⟨by omega, by omega, fun Q hQ => hO Q _ _ (one_4 (s_step v1 (V_lim hV v1) hlim hst (fun u1 g1 g2 g3 g4 => ⟨fun z => absurd z (by decide), fun _ => ?_⟩)))⟩
  refine ⟨(gr1 (p_kN u) M.length - p_kN u) + (gr1 (p_tN u) (3 * ((pSetL 4 cF (10 * d) (rngL 8 2) (T', fF')).1.length + 1)) - p_tN u), 2 * ((gr1 (p_kN u) M.length - p_kN u) + (gr1 (p_tN u) (3 * ((pSetL 4 cF (10 * d) (rngL 8 2) (T', fF')).1.length + 1)) - p_tN u)), by omega, by omega, ?_⟩
  have h5 : p_calls u1 = nI d := g1.2.2.2.2.1
  have e10 : (10 : Int32) * nI d = nI (10 * d) := by rw [show (10 : Int32) = nI 10 from rfl, n_mul]
  have etn : p_tN u1 = p_tN u := g3.trans v3
  have ekn : p_kN u1 = p_kN u := g4.trans v4
  have hdf : nI (pc + 1) = decF (10 * d) (pc + 1) := by unfold decF; rw [if_pos (by omega)]
  unfold P_B_call
  rw [h5, e10, g2, v2, hdf]
  refine ⟨fun z => ?_, fun _ x2 hx2 => ?_⟩
  · rw [show (12 : Int32) = nI 12 from rfl, neq (by omega) (by decide)] at z; omega
  rw [hx2]
  refine ⟨gr1 (p_tN u1) (3 * T'.length) - p_tN u1, 2 * (gr1 (p_tN u1) (3 * T'.length) - p_tN u1), by rw [etn]; omega, by rw [etn]; omega, hc1 u1 _ g1 (by rw [ekn]; exact hm) (fun u2 k1 k2 k3 k4 k5 => ⟨9, ?_⟩)⟩
  have k4 : p_tN u2 = gr1 (p_tN u) (3 * T'.length) := by have : p_tN u2 = gr1 (p_tN u1) (3 * T'.length) := k4; rw [this, etn]
  have ek : 0 + (gr1 (p_tN u1) (3 * T'.length) - p_tN u1) = p_tN u2 - p_tN u := by rw [k4, etn]; omega
  have en' : 0 + 2 * (gr1 (p_tN u1) (3 * T'.length) - p_tN u1) = 2 * (p_tN u2 - p_tN u) := by rw [k4, etn]; omega
  rw [ek, en']
  refine L_call (kn := p_kN u) hx4 hd (by omega) hcF 8 2 T' fF' u2 9 rfl (by decide) k1 (by rw [← ekn, ← k5]; exact k2) hfb2 (by omega) k4 (by omega) (by omega) (by omega) (by decide) (k5.trans ekn) (fun u3 j1 j2 j3 j4 => ⟨fun z => absurd z (by decide), fun _ => ?_⟩)
  have een : p_en u3 (x_ E pc) = nI (e_en E (x_ E pc)) := by
    have e := V_pr j1
    show r_en (p_pr u3) (x_ E pc) = _
    rw [e]; exact hV.2.2.2.2.2.2.1 _ hx4
  rw [een]
  refine hQ _ ⟨PX_pc j1, ?_, rfl⟩ ?_
  · show _ ≤ p_kN u3
    rw [j4]; exact j2
  · exact Wt_gr (u := u) (u1 := u3) j3 (by rw [j4, gr1_id hl])
theorem no_call (hV : HV E V s) (h : PR V (pc, p, M, T, cF, fF, d, st) u) (ho : o_ E pc = 4) (hst : st < e_lim E) (hok : okP E (pc, p, M, T, cF, fF, d, st)) (hd : d = 12) : NOg V u (pc + 1, p, M, T, cF, fF, d, st + 1) (3 * T.length) M.length := by
  obtain ⟨v, v1, v2, v3, v4, hO⟩ := one_at hV h (by omega)
  have hm := h.2.1
  have hlim := hV.2.2.2.2.2.2.2.2.2.1
  rw [ho] at hO
  refine ⟨by have : T.length ≤ 46200 := hok.1; omega, by have : M.length ≤ 14000 := hok.2.1; omega, fun Q hQ => hO Q _ _ (one_4 (s_step v1 (V_lim hV v1) hlim hst (fun u1 g1 g2 g3 g4 => ⟨fun z => absurd z (by decide), fun _ => ⟨0, 0, by omega, by omega, ?_⟩⟩)))⟩
  have h5 : p_calls u1 = nI d := g1.2.2.2.2.1
  refine ⟨fun _ => ⟨fun _ => hQ u1 ⟨g1, by rw [g4, v4]; exact hm, g2.trans v2⟩ (WE0 h.1 (g3.trans v3) (g4.trans v4)), fun z => absurd rfl z⟩, fun z => absurd (by rw [h5, hd]; rfl) z⟩
theorem ok_ret (hV : HV E V s) (h : PR V (pc, p, M, T, cF, fF, d + 1, st) u) (hok : okP E (pc, p, M, T, cF, fF, d + 1, st)) (ho : o_ E pc = 16) (hd : d < 12) : OKg V u (fF (10 * d), p, M, (pRet T fF cF d).1, (pRet T fF cF d).2, fF, d, st) (3 * (pRet T fF cF d).1.length) M.length := by
  obtain ⟨v, v1, v2, v3, v4, hO⟩ := one_at hV h (by omega)
  have hm := h.2.1
  have hT : T.length ≤ 46200 := hok.1
  have hcF := hok.2.2.2.2.2.1.1
  have hfb : ∀ a, fF a < 2 ^ 20 := hok.2.2.2.2.1
  have hM : M.length ≤ 14000 := hok.2.1
  have hl : M.length ≤ p_kN u := by have := v1.2.2.2.2.2.2.2.2.2.2.2.1; omega
  have ht := PX_tN v1
  rw [ho] at hO
  unfold pRet
  have e29 : L29 = rngL 8 2 := rfl
  rw [e29]
  have l2 := pSetL_len 3 (fun k => fF (10 * d + k)) 0 (rngL 8 2) ((6, 0, 0, 0) :: T, cF)
  rw [rngL_len] at l2
  have l2 : T.length + 1 ≤ (pSetL 3 (fun k => fF (10 * d + k)) 0 (rngL 8 2) ((6, 0, 0, 0) :: T, cF)).1.length ∧ (pSetL 3 (fun k => fF (10 * d + k)) 0 (rngL 8 2) ((6, 0, 0, 0) :: T, cF)).1.length ≤ T.length + 1 + 8 := l2
  have m1 := gr1_ge (p_tN u) (3 * (T.length + 1))
  have m2 := gr1_mono (c := p_tN u) (show 3 * (T.length + 1) ≤ 3 * (pSetL 3 (fun k => fF (10 * d + k)) 0 (rngL 8 2) ((6, 0, 0, 0) :: T, cF)).1.length by omega)
  refine ⟨by omega, by omega, fun Q hQ => hO Q _ _ (one_16 ⟨(gr1 (p_kN u) M.length - p_kN u) + (gr1 (p_tN u) (3 * (pSetL 3 (fun k => fF (10 * d + k)) 0 (rngL 8 2) ((6, 0, 0, 0) :: T, cF)).1.length) - p_tN u), 2 * ((gr1 (p_kN u) M.length - p_kN u) + (gr1 (p_tN u) (3 * (pSetL 3 (fun k => fF (10 * d + k)) 0 (rngL 8 2) ((6, 0, 0, 0) :: T, cF)).1.length) - p_tN u)), by omega, by omega, ?_⟩)⟩
  have h5 : p_calls v = nI (d + 1) := v1.2.2.2.2.1
  unfold P_B_comeBack
  have hx : p_calls v - 1 = nI d := by rw [h5]; exact nI_pred _
  generalize p_calls v - 1 = x at hx
  obtain ⟨g1, g2, g3⟩ := B_calls hx v1 v3 v4
  have gpc : p_pc (ps_calls v x) = p_pc v := rfl
  generalize ps_calls v x = w at g1 g2 g3 gpc
  have e10 : (10 : Int32) * nI d = nI (10 * d) := by rw [show (10 : Int32) = nI 10 from rfl, n_mul]
  refine ⟨_, _, ?_, ?_, s_log 6 0 0 0 (by decide) g1 (by omega) (fun u1 k1 k2 k3 k4 k5 x1 hx1 => ⟨9, ?_⟩)⟩
  · rw [g2]; omega
  · rw [g2]; omega
  rw [g2] at k5 ⊢
  have hc1 : p_calls u1 = nI d := k1.2.2.2.2.1
  rw [hx1, hc1, e10]
  have ek : 0 + (gr1 (p_tN u) (3 * (T.length + 1)) - p_tN u) = p_tN u1 - p_tN u := by rw [k5]; omega
  have en' : 0 + 2 * (gr1 (p_tN u) (3 * (T.length + 1)) - p_tN u) = 2 * (p_tN u1 - p_tN u) := by rw [k5]; omega
  rw [ek, en']
  refine L_ret (kn := p_kN u) hd (by omega) hfb 8 2 ((6, 0, 0, 0) :: T) cF u1 9 rfl (by decide) k1 ?_ (fun a a2 a10 => by have := hcF a a2 a10; omega) (by rw [List.length_cons]; omega) (by rw [k5, List.length_cons]) (by rw [List.length_cons]; omega) (by omega) (by omega) (by decide) (k3.trans g3) (fun u2 j1 j2 j3 j4 => ?_)
  · rw [mxM_34 (by decide) (by decide)]; exact hm
  refine hQ _ ⟨PX_pc j1, ?_, rfl⟩ ?_
  · show _ ≤ p_kN u2
    rw [j4]; exact j2
  · exact Wt_gr (u := u) (u1 := u2) j3 (by rw [j4, gr1_id hl])
end PO2
