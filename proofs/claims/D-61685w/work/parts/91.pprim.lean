section PQ
variable {V : PBs} {p : Nat} {M : List Nat} {T : List PEn} {cF fF : ACp} {d st : Nat} {u : PS}
theorem PX_kN (h : PX V p M T cF fF d st u) : 16 ≤ p_kN u ∧ p_kN u ≤ 32000 := ⟨h.2.2.2.2.2.2.2.2.2.2.2.2.2.1, h.2.2.2.2.2.2.2.2.2.2.2.2.2.2.1⟩
theorem PX_tN (h : PX V p M T cF fF d st u) : 600 ≤ p_tN u ∧ p_tN u ≤ 280000 ∧ 3 * T.length ≤ p_tN u := ⟨h.2.2.2.2.2.2.2.2.2.2.2.2.2.2.2.1, h.2.2.2.2.2.2.2.2.2.2.2.2.2.2.2.2, h.2.2.2.2.2.2.2.2.2.2.2.2.1⟩
theorem PX_mark (h : PX V p M T cF fF d st u) {x : Int32} {v m : Nat} (hx : x = nI (M.length + 1)) (hm : m = M.length) (hk : M.length + 1 ≤ p_kN u) : PX V p (v :: M) T cF fF d st (ps_marked (ps_kF u (upd (p_kF u) m (nI v))) x) := by
  obtain ⟨h1, h2, h3, h4, h5, h6, h7, h8, h9, h10, h11, h12, h13, h14⟩ := h
  subst hm
  refine ⟨h1, h2, h3, h4, h5, hx, h7, ⟨pk_us, MK_congr (fun j hj => pk_un (by omega)) h8⟩, h9, h10, h11, ?_, h13, h14⟩
  show (v :: M).length ≤ p_kN u
  rw [List.length_cons]; exact hk
theorem growK_PX (h : PX V p M T cF fF d st u) (ht : p_kN u ≤ 16000) : PX V p M T cF fF d st (p_growK u) := by
  obtain ⟨h1, h2, h3, h4, h5, h6, h7, h8, h9, h10, h11, h12, h13, h14, h15, h16, h17⟩ := h
  refine ⟨h1, h2, h3, h4, h5, h6, h7, MK_congr (fun j hj => if_pos (by omega)) h8, h9, h10, h11, ?_, h13, ?_, ?_, h16, h17⟩
  · show M.length ≤ 2 * p_kN u
    omega
  · show 16 ≤ 2 * p_kN u
    omega
  · show 2 * p_kN u ≤ 32000
    omega
theorem push23 {Q : PS → Prop} {v bc bs k0 n0 : Nat} (h : PX V p M T cF fF d st u) (hm : mxM T M.length ≤ p_kN u) (hk : M.length + 1 ≤ p_kN u) (hT : T.length ≤ 46300) (hb1 : k0 + (gr1 (p_tN u) (3 * (T.length + 1)) - p_tN u) ≤ bc) (hb2 : n0 + 2 * (gr1 (p_tN u) (3 * (T.length + 1)) - p_tN u) ≤ bs) (hQ : ∀ u1, PX V p (v :: M) ((1, 0, 0, 0) :: T) cF fF d st u1 → mxM ((1, 0, 0, 0) :: T) (M.length + 1) ≤ p_kN u1 → p_pc u1 = p_pc u → p_tN u1 = gr1 (p_tN u) (3 * (T.length + 1)) → p_kN u1 = p_kN u → Q u1) : B_B_push_23 Q bc bs k0 n0 (nI v) u := by
  have h6 : p_marked u = nI M.length := h.2.2.2.2.2.1
  have hk2 := PX_kN h
  unfold B_B_push_23
  refine ⟨by rw [h6]; exact vp_in_nI (by omega) (by omega), _, _, hb1, hb2, ?_⟩
  refine s_log 1 0 0 0 (by decide) (PX_mark (m := (p_marked u).toNatClampNeg) h (show p_marked u + 1 = nI (M.length + 1) by rw [h6, n_1]) (by rw [h6, nI_clamp (by omega)]) hk) hT (fun u1 g1 g2 g3 g4 g5 => hQ u1 g1 ?_ g2 g5 g3)
  rw [g3]
  show max (M.length + 1) (mxM T (M.length + 1 - 1)) ≤ p_kN u
  rw [Nat.add_sub_cancel]; omega
theorem s_pushP {Q : PS → Prop} {v : Nat} (h : PX V p M T cF fF d st u) (hm : mxM T M.length ≤ p_kN u) (hM : M.length ≤ 15000) (hT : T.length ≤ 46300) (hQ : ∀ u1, PX V p (v :: M) ((1, 0, 0, 0) :: T) cF fF d st u1 → mxM ((1, 0, 0, 0) :: T) (M.length + 1) ≤ p_kN u1 → p_pc u1 = p_pc u → p_tN u1 = gr1 (p_tN u) (3 * (T.length + 1)) → p_kN u1 = gr1 (p_kN u) (M.length + 1) → Q u1) : P_B_push ((gr1 (p_kN u) (M.length + 1) - p_kN u) + (gr1 (p_tN u) (3 * (T.length + 1)) - p_tN u)) (2 * ((gr1 (p_kN u) (M.length + 1) - p_kN u) + (gr1 (p_tN u) (3 * (T.length + 1)) - p_tN u))) (nI v) u Q := by
  have h6 : p_marked u = nI M.length := h.2.2.2.2.2.1
  have hk2 := PX_kN h
  have hl : M.length ≤ p_kN u := h.2.2.2.2.2.2.2.2.2.2.2.1
  by_cases e : M.length + 1 ≤ p_kN u
  · have e1 : gr1 (p_kN u) (M.length + 1) = p_kN u := if_pos e
    refine ⟨fun q => ?_, fun _ => push23 h hm e hT (by omega) (by omega) (fun u1 g1 g2 g3 g4 g5 => hQ u1 g1 g2 g3 g4 (g5.trans e1.symm))⟩
    rw [h6, neq (by omega) (by omega)] at q; omega
  · have e1 : gr1 (p_kN u) (M.length + 1) = 2 * p_kN u := if_neg e
    refine ⟨fun _ => ⟨by omega, by omega, by omega, ?_⟩, fun q => ?_⟩
    · refine push23 (growK_PX h (by omega)) ?_ ?_ hT ?_ ?_ (fun u1 g1 g2 g3 g4 g5 => hQ u1 g1 g2 g3 g4 (g5.trans e1.symm))
      · show _ ≤ 2 * p_kN u
        omega
      · show _ ≤ 2 * p_kN u
        omega
      · show 0 + 1 + (gr1 (p_tN u) (3 * (T.length + 1)) - p_tN u) ≤ _
        omega
      · show 0 + 2 * p_kN u + 2 * (gr1 (p_tN u) (3 * (T.length + 1)) - p_tN u) ≤ _
        omega
    · exfalso; apply q
      rw [h6]; congr 1; omega
theorem PX_unmark {m : Nat} (h : PX V p (m :: M) T cF fF d st u) {x : Int32} (hx : x = nI M.length) : PX V p M T cF fF d st (ps_marked u x) := by
  obtain ⟨h1, h2, h3, h4, h5, h6, h7, h8, h9, h10, h11, h12, h13, h14⟩ := h
  refine ⟨h1, h2, h3, h4, h5, hx, h7, h8.2, h9, h10, h11, ?_, h13, h14⟩
  rw [List.length_cons] at h12
  show M.length ≤ p_kN u
  omega
theorem s_pop {Q : Int32 → PS → Prop} {m : Nat} (h : PX V p (m :: M) T cF fF d st u) (hm : mxM T (M.length + 1) ≤ p_kN u) (hT : T.length ≤ 46300) (hQ : ∀ u1, PX V p M ((2, m, 0, 0) :: T) cF fF d st u1 → mxM ((2, m, 0, 0) :: T) M.length ≤ p_kN u1 → p_pc u1 = p_pc u → p_tN u1 = gr1 (p_tN u) (3 * (T.length + 1)) → p_kN u1 = p_kN u → Q (nI m) u1) : P_B_pop (gr1 (p_tN u) (3 * (T.length + 1)) - p_tN u) (2 * (gr1 (p_tN u) (3 * (T.length + 1)) - p_tN u)) u Q := by
  have h6 : p_marked u = nI (M.length + 1) := h.2.2.2.2.2.1
  have h12 : M.length + 1 ≤ p_kN u := h.2.2.2.2.2.2.2.2.2.2.2.1
  have h8 : p_kF u M.length = nI m := h.2.2.2.2.2.2.2.1.1
  have hk2 := PX_kN h
  have e1 : p_marked u - 1 = nI M.length := by rw [h6]; exact nI_pred _
  refine ⟨fun q => absurd q (by rw [h6]; exact nI_ne0 (by omega) (by omega)), fun _ => ?_⟩
  show vp_in (p_marked u - 1) (p_kN u) ∧ ∃ kc nc : Nat, 0 + kc ≤ _ ∧ 0 + nc ≤ _ ∧ P_B_log kc nc 2 (p_kF u (p_marked u - 1).toNatClampNeg) 0 (ps_marked u (p_marked u - 1)) (fun u_31 => (vp_in (p_marked u_31) (p_kN u_31) ∧ Q (p_kF u_31 (p_marked u_31).toNatClampNeg) u_31))
  refine ⟨by rw [e1]; exact vp_in_nI (by omega) (by omega), _, _, by rw [Nat.zero_add]; exact Nat.le_refl _, by rw [Nat.zero_add]; exact Nat.le_refl _, ?_⟩
  rw [e1, nI_clamp (by omega), h8]
  refine s_log 2 m 0 0 (by decide) (PX_unmark h rfl) hT (fun u1 g1 g2 g3 g4 g5 => ?_)
  have k6 : p_marked u1 = nI M.length := g1.2.2.2.2.2.1
  have k3 : p_kN u1 = p_kN u := g3
  have k4 : p_kF u1 = p_kF u := g4
  rw [k6, nI_clamp (by omega), k3, k4, h8]
  refine ⟨vp_in_nI (by omega) (by omega), hQ u1 g1 ?_ g2 g5 k3⟩
  rw [k3]
  show max M.length (mxM T (M.length + 1)) ≤ p_kN u
  omega
theorem PX_cF {a v : Nat} (h : PX V p M T cF fF d st u) {x : Int32} (hx : x = decV v) : PX V p M T (uN cF a v) fF d st (ps_cF u (upd (p_cF u) a x)) := by
  obtain ⟨h1, h2, h3, h4, h5, h6, h7, h8, h9, h10, h11, h12⟩ := h
  refine ⟨h1, h2, h3, h4, h5, h6, h7, h8, h9, fun j j2 j10 => ?_, h11, h12⟩
  show upd (p_cF u) a x j = decV (uN cF a v j)
  by_cases e : j = a
  · rw [e, pk_us, uN_same, hx]
  · rw [pk_un e, uN_ne e]; exact h10 j j2 j10
theorem PX_fF {a v : Nat} (h : PX V p M T cF fF d st u) {x : Int32} (hx : x = decF a v) : PX V p M T cF (uN fF a v) d st (ps_fF u (upd (p_fF u) a x)) := by
  obtain ⟨h1, h2, h3, h4, h5, h6, h7, h8, h9, h10, h11, h12⟩ := h
  refine ⟨h1, h2, h3, h4, h5, h6, h7, h8, h9, h10, fun j j120 => ?_, h12⟩
  show upd (p_fF u) a x j = decF j (uN fF a v j)
  by_cases e : j = a
  · rw [e, pk_us, uN_same, hx]
  · rw [pk_un e, uN_ne e]; exact h11 j j120
theorem mxM_34 {k a b g m : Nat} (hk : k ≠ 1) (hk2 : k ≠ 2) (T : List PEn) : mxM ((k, a, b, g) :: T) m = mxM T m := by
  show max m (mxM T (if k = 1 then m - 1 else if k = 2 then m + 1 else m)) = _
  rw [if_neg hk, if_neg hk2]
  have := mxM_ge T m
  omega
theorem s_captureP {Q : PS → Prop} {a v : Nat} (h : PX V p M T cF fF d st u) (hm : mxM T M.length ≤ p_kN u) (ha2 : 2 ≤ a) (ha : a < 10) (hv : v < 2 ^ 31) (hc : cF a < 2 ^ 31) (hT : T.length ≤ 46300) (hQ : ∀ u1, PX V p M (pSet 3 (T, cF) a v).1 (pSet 3 (T, cF) a v).2 fF d st u1 → mxM (pSet 3 (T, cF) a v).1 M.length ≤ p_kN u1 → p_pc u1 = p_pc u → p_tN u1 = gr1 (p_tN u) (3 * (pSet 3 (T, cF) a v).1.length) → p_kN u1 = p_kN u → Q u1) : P_B_capture (gr1 (p_tN u) (3 * (pSet 3 (T, cF) a v).1.length) - p_tN u) (2 * (gr1 (p_tN u) (3 * (pSet 3 (T, cF) a v).1.length) - p_tN u)) (nI a) (decV v) u Q := by
  have h10 : p_cF u a = decV (cF a) := h.2.2.2.2.2.2.2.2.2.1 a ha2 ha
  have hin : vp_in (nI a) 10 := vp_in_nI ha (by decide)
  unfold pSet at hQ ⊢
  unfold P_B_capture
  rw [nI_clamp (by omega), h10, decV_inj hc hv]
  refine ⟨hin, fun q => ?_, fun q => ⟨hin, _, _, by rw [Nat.zero_add]; exact Nat.le_refl _, by rw [Nat.zero_add]; exact Nat.le_refl _, ?_⟩⟩
  · rw [if_pos q] at hQ
    exact hQ u h hm rfl (gr1_id (PX_tN h).2.2).symm rfl
  · rw [if_neg q] at hQ ⊢
    refine s_log 3 a (cF a) 0 (by decide) h hT (fun u1 g1 g2 g3 g4 g5 => ⟨hin, hQ _ (PX_cF g1 rfl) ?_ g2 g5 g3⟩)
    show mxM ((3, a, cF a, 0) :: T) M.length ≤ p_kN u1
    rw [mxM_34 (by decide) (by decide), g3]; exact hm
theorem s_setFrame {Q : PS → Prop} {a v : Nat} (h : PX V p M T cF fF d st u) (hm : mxM T M.length ≤ p_kN u) (ha : a < 120) (hv : v < 2 ^ 31) (hc : fF a < 2 ^ 31) (hT : T.length ≤ 46300) (hQ : ∀ u1, PX V p M (pSet 4 (T, fF) a v).1 cF (pSet 4 (T, fF) a v).2 d st u1 → mxM (pSet 4 (T, fF) a v).1 M.length ≤ p_kN u1 → p_pc u1 = p_pc u → p_tN u1 = gr1 (p_tN u) (3 * (pSet 4 (T, fF) a v).1.length) → p_kN u1 = p_kN u → Q u1) : P_B_setFrame (gr1 (p_tN u) (3 * (pSet 4 (T, fF) a v).1.length) - p_tN u) (2 * (gr1 (p_tN u) (3 * (pSet 4 (T, fF) a v).1.length) - p_tN u)) (nI a) (decF a v) u Q := by
  have h10 : p_fF u a = decF a (fF a) := h.2.2.2.2.2.2.2.2.2.2.1 a ha
  have hin : vp_in (nI a) 120 := vp_in_nI ha (by decide)
  unfold pSet at hQ ⊢
  unfold P_B_setFrame
  rw [nI_clamp (by omega), h10, decF_inj hc hv]
  refine ⟨hin, fun q => ?_, fun q => ⟨hin, _, _, by rw [Nat.zero_add]; exact Nat.le_refl _, by rw [Nat.zero_add]; exact Nat.le_refl _, ?_⟩⟩
  · rw [if_pos q] at hQ
    exact hQ u h hm rfl (gr1_id (PX_tN h).2.2).symm rfl
  · rw [if_neg q] at hQ ⊢
    refine s_log 4 a (fF a) 0 (by decide) h hT (fun u1 g1 g2 g3 g4 g5 => ⟨hin, hQ _ (PX_fF g1 rfl) ?_ g2 g5 g3⟩)
    show mxM ((4, a, fF a, 0) :: T) M.length ≤ p_kN u1
    rw [mxM_34 (by decide) (by decide), g3]; exact hm
end PQ
