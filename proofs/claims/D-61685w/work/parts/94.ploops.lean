def rngL : Nat → Nat → List Nat
  | 0, _ => []
  | n + 1, j => j :: rngL n (j + 1)
section PL
variable {V : PBs} {p : Nat} {M : List Nat} {d st : Nat}
theorem pSet_len (k : Nat) (s : List PEn × ACp) (a v : Nat) : s.1.length ≤ (pSet k s a v).1.length ∧ (pSet k s a v).1.length ≤ s.1.length + 1 := by
  unfold pSet; split
  · exact ⟨Nat.le_refl _, by omega⟩
  · show s.1.length ≤ (_ :: s.1).length ∧ (_ :: s.1).length ≤ _
    rw [List.length_cons]; omega
theorem pSetL_len (k : Nat) (f : Nat → Nat) (off : Nat) : ∀ (js : List Nat) (s : List PEn × ACp), s.1.length ≤ (pSetL k f off js s).1.length ∧ (pSetL k f off js s).1.length ≤ s.1.length + js.length := by
  intro js
  induction js with
  | nil => intro s; exact ⟨Nat.le_refl _, Nat.le_refl _⟩
  | cons a js ih =>
    intro s
    have h1 := ih (pSet k s (off + a) (f a))
    have h2 := pSet_len k s (off + a) (f a)
    show _ ≤ (pSetL k f off js (pSet k s (off + a) (f a))).1.length ∧ (pSetL k f off js (pSet k s (off + a) (f a))).1.length ≤ _
    rw [List.length_cons]; omega
theorem rngL_len : ∀ (n j : Nat), (rngL n j).length = n := by
  intro n
  induction n with
  | zero => intro j; rfl
  | succ n ih => intro j; show (rngL n (j + 1)).length + 1 = n + 1; rw [ih]
theorem L_call {cF : ACp} {Q : Int32 → PS → Prop} {bc bs tn0 kn g : Nat} (hg : g ≤ 4) (hd : d < 12) (h600 : 600 ≤ tn0) (hcF : ∀ a, 2 ≤ a → a < 10 → cF a ≤ 64) : ∀ (n j : Nat) (T : List PEn) (fF : ACp) (u : PS) (f : Nat), j + n = 10 → 2 ≤ j → PX V p M T cF fF d st u → mxM T M.length ≤ kn → (∀ a, fF a < 2 ^ 20) → T.length + n ≤ 46250 → p_tN u = gr1 tn0 (3 * T.length) → 3 * (T.length + n + 1) ≤ 2 * tn0 → gr1 tn0 (3 * ((pSetL 4 cF (10 * d) (rngL n j) (T, fF)).1.length + 1)) - tn0 ≤ bc → 2 * (gr1 tn0 (3 * ((pSetL 4 cF (10 * d) (rngL n j) (T, fF)).1.length + 1)) - tn0) ≤ bs → n < f → p_kN u = kn → (∀ u1, PX V p M ((5, 0, 0, 0) :: (pSetL 4 cF (10 * d) (rngL n j) (T, fF)).1) cF (pSetL 4 cF (10 * d) (rngL n j) (T, fF)).2 (d + 1) st u1 → mxM ((5, 0, 0, 0) :: (pSetL 4 cF (10 * d) (rngL n j) (T, fF)).1) M.length ≤ kn → p_tN u1 = gr1 tn0 (3 * ((pSetL 4 cF (10 * d) (rngL n j) (T, fF)).1.length + 1)) → p_kN u1 = kn → Q 1 (ps_pc u1 (p_en u1 g))) → L_B_call_30 Q bc bs f (p_tN u - tn0) (2 * (p_tN u - tn0)) (nI g) (nI (10 * d)) (nI j) u := by
  intro n
  induction n with
  | zero =>
    intro j T fF u f hj hj2 h hm hfb hT ht h2 hb1 hb2 hf hk hQ
    have hj : j = 10 := by omega
    subst hj
    have hb1 : gr1 tn0 (3 * (T.length + 1)) - tn0 ≤ bc := hb1
    have hb2 : 2 * (gr1 tn0 (3 * (T.length + 1)) - tn0) ≤ bs := hb2
    cases f with
    | zero => omega
    | succ f =>
      have h5 : p_calls u = nI d := h.2.2.2.2.1
      refine ⟨fun _ => ?_, fun q => absurd (by decide) q⟩
      have hx : p_calls u + 1 = nI (d + 1) := by rw [h5, n_1]
      generalize p_calls u + 1 = x at hx
      obtain ⟨g1, g2, g3⟩ := B_calls hx h rfl hk
      have gc := gr1_comp (c := tn0) (show 3 * T.length ≤ 3 * (T.length + 1) by omega) (by omega)
      have m1 := gr1_ge tn0 (3 * T.length)
      have m2 := gr1_mono (c := tn0) (show 3 * T.length ≤ 3 * (T.length + 1) by omega)
      generalize ps_calls u x = v at g1 g2 g3
      have e1 : gr1 (p_tN v) (3 * (T.length + 1)) = gr1 tn0 (3 * (T.length + 1)) := by rw [g2, ht, gc]
      refine ⟨_, _, ?_, ?_, s_log 5 0 0 0 (by decide) g1 (by omega) (fun u1 k1 k2 k3 k4 k5 => ⟨vp_in_nI (by omega) (by decide), ?_⟩)⟩
      · rw [e1, g2]; omega
      · rw [e1, g2]; omega
      · rw [nI_clamp (by omega)]
        refine hQ u1 k1 ?_ (k5.trans e1) (k3.trans g3)
        rw [mxM_34 (by decide) (by decide)]; exact hm
  | succ n ih =>
    intro j T fF u f hj hj2 h hm hfb hT ht h2 hb1 hb2 hf hk hQ
    cases f with
    | zero => omega
    | succ f =>
      have hl := pSet_len 4 (T, fF) (10 * d + j) (cF j)
      have hl : T.length ≤ _ ∧ _ ≤ T.length + 1 := hl
      have hll := pSetL_len 4 cF (10 * d) (rngL n (j + 1)) (pSet 4 (T, fF) (10 * d + j) (cF j))
      have hb1 : gr1 tn0 (3 * ((pSetL 4 cF (10 * d) (rngL n (j + 1)) (pSet 4 (T, fF) (10 * d + j) (cF j))).1.length + 1)) - tn0 ≤ bc := hb1
      have hb2 : 2 * (gr1 tn0 (3 * ((pSetL 4 cF (10 * d) (rngL n (j + 1)) (pSet 4 (T, fF) (10 * d + j) (cF j))).1.length + 1)) - tn0) ≤ bs := hb2
      have hQ : ∀ u1, PX V p M ((5, 0, 0, 0) :: (pSetL 4 cF (10 * d) (rngL n (j + 1)) (pSet 4 (T, fF) (10 * d + j) (cF j))).1) cF (pSetL 4 cF (10 * d) (rngL n (j + 1)) (pSet 4 (T, fF) (10 * d + j) (cF j))).2 (d + 1) st u1 → mxM ((5, 0, 0, 0) :: (pSetL 4 cF (10 * d) (rngL n (j + 1)) (pSet 4 (T, fF) (10 * d + j) (cF j))).1) M.length ≤ kn → p_tN u1 = gr1 tn0 (3 * ((pSetL 4 cF (10 * d) (rngL n (j + 1)) (pSet 4 (T, fF) (10 * d + j) (cF j))).1.length + 1)) → p_kN u1 = kn → Q 1 (ps_pc u1 (p_en u1 g)) := hQ
      have hjc := hcF j hj2 (by omega)
      have hfb2 := pSet_fb (k := 4) (s := (T, fF)) (a := 10 * d + j) (v := cF j) (by omega) hfb
      have hst := fun Qx : PS → Prop => s_setFrame (Q := Qx) (V := V) (p := p) (M := M) (cF := cF) (d := d) (st := st) (a := 10 * d + j) (v := cF j) h (by rw [hk]; exact hm) (by omega) (by omega) (by have := hfb (10 * d + j); omega) (by omega)
      have h10 : p_cF u j = decV (cF j) := h.2.2.2.2.2.2.2.2.2.1 j hj2 (by omega)
      have hdf : decF (10 * d + j) (cF j) = decV (cF j) := by unfold decF; rw [if_neg (by omega)]
      refine ⟨fun q => absurd q (nI_ge (b := 10) (by omega) (by decide)), fun _ => ⟨vp_in_nI (by omega) (by decide), ?_⟩⟩
      rw [nI_clamp (by omega), nI_add, h10, ← hdf]
      generalize pSet 4 (T, fF) (10 * d + j) (cF j) = S at *
      obtain ⟨T', fF'⟩ := S
      have hl : T.length ≤ T'.length ∧ T'.length ≤ T.length + 1 := hl
      have hll : T'.length ≤ (pSetL 4 cF (10 * d) (rngL n (j + 1)) (T', fF')).1.length ∧ _ := hll
      have gc := gr1_comp (c := tn0) (show 3 * T.length ≤ 3 * T'.length from (by have := hl.1; omega)) (by have := hl.2; omega)
      have m1 := gr1_ge tn0 (3 * T.length)
      have m2 := gr1_mono (c := tn0) (show 3 * T.length ≤ 3 * T'.length from (by have := hl.1; omega))
      have m3 := gr1_mono (c := tn0) (show 3 * T'.length ≤ 3 * ((pSetL 4 cF (10 * d) (rngL n (j + 1)) (T', fF')).1.length + 1) from (by have := hll.1; omega))
      have e1 : gr1 (p_tN u) (3 * T'.length) = gr1 tn0 (3 * T'.length) := by rw [ht, gc]
      refine ⟨gr1 (p_tN u) (3 * T'.length) - p_tN u, 2 * (gr1 (p_tN u) (3 * T'.length) - p_tN u), ?_, ?_, hst _ (fun u1 k1 k2 k3 k4 k5 x hx => ?_)⟩
      · rw [e1]; omega
      · rw [e1]; omega
      · rw [hx, n_1]
        have k4 : p_tN u1 = gr1 tn0 (3 * T'.length) := k4.trans e1
        have ek : p_tN u - tn0 + (gr1 (p_tN u) (3 * T'.length) - p_tN u) = p_tN u1 - tn0 := by rw [k4, e1]; omega
        have en : 2 * (p_tN u - tn0) + 2 * (gr1 (p_tN u) (3 * T'.length) - p_tN u) = 2 * (p_tN u1 - tn0) := by rw [← ek]; omega
        rw [ek, en]
        exact ih (j + 1) T' fF' u1 f (by omega) (by omega) k1 (by rw [← hk, ← k5]; exact k2) hfb2 (by have := hl.2; omega) k4 (by have := hl.2; omega) hb1 hb2 (by omega) (k5.trans hk) hQ
theorem L_ret {fF : ACp} {Q : PS → Prop} {bc bs tn0 kn : Nat} (hd : d < 12) (h600 : 600 ≤ tn0) (hfb : ∀ a, fF a < 2 ^ 20) : ∀ (n j : Nat) (T : List PEn) (cF : ACp) (u : PS) (f : Nat), j + n = 10 → 2 ≤ j → PX V p M T cF fF d st u → mxM T M.length ≤ kn → (∀ a, 2 ≤ a → a < 10 → cF a < 2 ^ 31) → T.length + n ≤ 46250 → p_tN u = gr1 tn0 (3 * T.length) → 3 * (T.length + n) ≤ 2 * tn0 → gr1 tn0 (3 * (pSetL 3 (fun k => fF (10 * d + k)) 0 (rngL n j) (T, cF)).1.length) - tn0 ≤ bc → 2 * (gr1 tn0 (3 * (pSetL 3 (fun k => fF (10 * d + k)) 0 (rngL n j) (T, cF)).1.length) - tn0) ≤ bs → n < f → p_kN u = kn → (∀ u1, PX V p M (pSetL 3 (fun k => fF (10 * d + k)) 0 (rngL n j) (T, cF)).1 (pSetL 3 (fun k => fF (10 * d + k)) 0 (rngL n j) (T, cF)).2 fF d st u1 → mxM (pSetL 3 (fun k => fF (10 * d + k)) 0 (rngL n j) (T, cF)).1 M.length ≤ kn → p_tN u1 = gr1 tn0 (3 * (pSetL 3 (fun k => fF (10 * d + k)) 0 (rngL n j) (T, cF)).1.length) → p_kN u1 = kn → Q (ps_pc u1 (nI (fF (10 * d))))) → L_B_comeBack_28 Q bc bs f (p_tN u - tn0) (2 * (p_tN u - tn0)) (nI (10 * d)) (nI j) u := by
  intro n
  induction n with
  | zero =>
    intro j T cF u f hj hj2 h hm hcb hT ht h2 hb1 hb2 hf hk hQ
    have hj : j = 10 := by omega
    subst hj
    cases f with
    | zero => omega
    | succ f =>
      have h11 : p_fF u (10 * d) = decF (10 * d) (fF (10 * d)) := h.2.2.2.2.2.2.2.2.2.2.1 _ (by omega)
      have hdf : decF (10 * d) (fF (10 * d)) = nI (fF (10 * d)) := by unfold decF; rw [if_pos (by omega)]
      refine ⟨fun _ => ⟨vp_in_nI (by omega) (by decide), ?_⟩, fun q => absurd (by decide) q⟩
      rw [nI_clamp (by omega), h11, hdf]
      exact hQ u h hm ht hk
  | succ n ih =>
    intro j T cF u f hj hj2 h hm hcb hT ht h2 hb1 hb2 hf hk hQ
    cases f with
    | zero => omega
    | succ f =>
      have ez : ∀ z : Nat, 0 + z = z := Nat.zero_add
      have hun : ∀ s : List PEn × ACp, pSetL 3 (fun k => fF (10 * d + k)) 0 (rngL (n + 1) j) s = pSetL 3 (fun k => fF (10 * d + k)) 0 (rngL n (j + 1)) (pSet 3 s j (fF (10 * d + j))) := by
        intro s
        show pSetL 3 (fun k => fF (10 * d + k)) 0 (rngL n (j + 1)) (pSet 3 s (0 + j) (fF (10 * d + j))) = _
        rw [ez]
      rw [hun] at hb1 hb2 hQ
      have hl := pSet_len 3 (T, cF) j (fF (10 * d + j))
      have hl : T.length ≤ _ ∧ _ ≤ T.length + 1 := hl
      have hll := pSetL_len 3 (fun k => fF (10 * d + k)) 0 (rngL n (j + 1)) (pSet 3 (T, cF) j (fF (10 * d + j)))
      have hfj := hfb (10 * d + j)
      have hcb2 : ∀ a, 2 ≤ a → a < 10 → (pSet 3 (T, cF) j (fF (10 * d + j))).2 a < 2 ^ 31 := by
        intro a a2 a10
        rw [pSet_val]; split
        · omega
        · exact hcb a a2 a10
      have hst := fun Qx : PS → Prop => s_captureP (Q := Qx) (V := V) (p := p) (M := M) (fF := fF) (d := d) (st := st) (a := j) (v := fF (10 * d + j)) h (by rw [hk]; exact hm) hj2 (by omega) (by omega) (hcb j hj2 (by omega)) (by omega)
      have h11 : p_fF u (10 * d + j) = decF (10 * d + j) (fF (10 * d + j)) := h.2.2.2.2.2.2.2.2.2.2.1 _ (by omega)
      have hdf : decF (10 * d + j) (fF (10 * d + j)) = decV (fF (10 * d + j)) := by unfold decF; rw [if_neg (by omega)]
      refine ⟨fun q => absurd q (nI_ge (b := 10) (by omega) (by decide)), fun _ => ?_⟩
      rw [nI_add, nI_clamp (by omega), h11, hdf]
      refine ⟨vp_in_nI (by omega) (by decide), ?_⟩
      generalize pSet 3 (T, cF) j (fF (10 * d + j)) = S at *
      obtain ⟨T', cF'⟩ := S
      have hl : T.length ≤ T'.length ∧ T'.length ≤ T.length + 1 := hl
      have hll : T'.length ≤ (pSetL 3 (fun k => fF (10 * d + k)) 0 (rngL n (j + 1)) (T', cF')).1.length ∧ _ := hll
      have gc := gr1_comp (c := tn0) (show 3 * T.length ≤ 3 * T'.length from (by have := hl.1; omega)) (by have := hl.2; omega)
      have m1 := gr1_ge tn0 (3 * T.length)
      have m2 := gr1_mono (c := tn0) (show 3 * T.length ≤ 3 * T'.length from (by have := hl.1; omega))
      have m3 := gr1_mono (c := tn0) (show 3 * T'.length ≤ 3 * (pSetL 3 (fun k => fF (10 * d + k)) 0 (rngL n (j + 1)) (T', cF')).1.length from (by have := hll.1; omega))
      have e1 : gr1 (p_tN u) (3 * T'.length) = gr1 tn0 (3 * T'.length) := by rw [ht, gc]
      refine ⟨gr1 (p_tN u) (3 * T'.length) - p_tN u, 2 * (gr1 (p_tN u) (3 * T'.length) - p_tN u), ?_, ?_, hst _ (fun u1 k1 k2 k3 k4 k5 x hx => ?_)⟩
      · rw [e1]; omega
      · rw [e1]; omega
      · rw [hx, n_1]
        have k4 : p_tN u1 = gr1 tn0 (3 * T'.length) := k4.trans e1
        have ek : p_tN u - tn0 + (gr1 (p_tN u) (3 * T'.length) - p_tN u) = p_tN u1 - tn0 := by rw [k4, e1]; omega
        have en : 2 * (p_tN u - tn0) + 2 * (gr1 (p_tN u) (3 * T'.length) - p_tN u) = 2 * (p_tN u1 - tn0) := by rw [← ek]; omega
        rw [ek, en]
        exact ih (j + 1) T' cF' u1 f (by omega) (by omega) k1 (by rw [← hk, ← k5]; exact k2) hcb2 (by have := hl.2; omega) k4 (by have := hl.2; omega) hb1 hb2 (by omega) (k5.trans hk) hQ
end PL
