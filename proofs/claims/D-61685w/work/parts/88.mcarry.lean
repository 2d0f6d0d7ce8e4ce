section MC
variable {W : MBs} {st p nf nb ns k : Nat} {c : ACp} {B : List ABk} {K : List AFr} {u : MS}
theorem n_mul (a b : Nat) : nI a * nI b = nI (a * b) := (Int32.ofNat_mul a b).symm
theorem MX_caps {x : Int64} {c' : ACp} (hx : x = pkC c') (h : MX W st p nf c B u) : MX W st p nf c' B (ms_caps u x) := by
  obtain ⟨m1, m2, m3, m4, m5, m6, m7⟩ := h
  exact ⟨m1, m2, m3, m4, m5, hx, m7⟩
theorem CX_caps {x : Int64} (h : CX st nf K k u) : CX st nf K k (ms_caps u x) := h
theorem MX_backs {x : Int32} {m : Nat} (hx : x = nI m) (hm : m ≤ B.length) (h : MX W st p nf c B u) : MX W st p nf c (B.drop (B.length - m)) (ms_backs u x) := by
  obtain ⟨m1, m2, m3, m4, m5, m6, m7⟩ := h
  refine ⟨m1, m2, m3, m4, ?_, m6, BR_drop _ m7⟩
  show x = _
  rw [hx, List.length_drop]; congr 1; omega
theorem CX_backs {x : Int32} (h : CX st nf K k u) : CX st nf K k (ms_backs u x) := h
theorem fr_backs (x : Int32) : m_frame (ms_backs u x) = m_frame u := rfl
theorem b4_b5 {kd w m k' : Nat} {Q : MS → Prop} (h : MX W st p nf c B u) (hK : CX st nf K k' u) (h1 : k < 7000) (hf : m_frame u k = pkF kd w m k') (h3 : k' < k) (h4 : kd < 16) (h5 : w < 64) (h6 : m < 8192) (hkd : kd = 4 ∨ kd = 5) (hp : p ≤ 40) (hQ : ∀ u1, MR W (if m = p then 5 else kd - 1, w, K, p, c, B, st, nf, nb, ns) u1 → Q u1) : B_M_carryOn_167 Q (nI k) (nI k') (nI w) (nI m) u := by
  unfold B_M_carryOn_167
  rw [h.2.2.1]
  refine ⟨fun q => ?_, fun q => ?_⟩
  · have q : m = p := (neq (by omega) (by omega)).mp q
    rw [if_pos q] at hQ
    exact x_go (mo := 5) h hK hQ
  · have q : ¬ m = p := fun e => q (by rw [e])
    rw [if_neg q] at hQ
    refine x_kind h1 hf h3 h4 h5 h6 ?_
    rw [show (1 : Int32) = nI 1 from rfl, n_sub (by omega)]
    exact x_go h hK hQ
theorem b7_b8 {kd w m k' : Nat} {Q : MS → Prop} (h : MX W st p nf c B u) (hK : CX st nf K k' u) (h1 : k < 7000) (hf : m_frame u k = pkF kd w m k') (h3 : k' < k) (h4 : kd < 16) (h5 : w < 64) (h6 : m < 8192) (hm : m ≤ B.length) (hQ : ∀ u1, MR W (5, 0, K, (if kd = 8 then w else p), c, B.drop (B.length - m), st, nf, nb, ns) u1 → Q u1) : B_M_carryOn_235 Q (nI k) (nI k') (nI w) (nI m) u := by
  unfold B_M_carryOn_235
  have hf2 : m_frame (ms_backs u (nI m)) k = pkF kd w m k' := by rw [fr_backs]; exact hf
  have hX := MX_backs (x := nI m) rfl hm h
  have hC := CX_backs (x := nI m) hK
  generalize ms_backs u (nI m) = v at hf2 hX hC
  refine x_kind h1 hf2 h3 h4 h5 h6 ⟨fun q => ?_, fun q => ?_⟩
  · have q : kd = 8 := (neq (b := 8) (by omega) (by decide)).mp q
    rw [if_pos q] at hQ
    exact x_go (mo := 5) (i := 0) (MX_p rfl hX) (CX_p hC) hQ
  · have q : ¬ kd = 8 := fun e => q (by rw [e]; rfl)
    rw [if_neg q] at hQ
    exact x_go (mo := 5) (i := 0) hX hC hQ
theorem x_carry {Q : MS → Prop} {L kd w m i : Nat} {kp : ACp} {E : AEnv} (h : MX W st p nf c B u) (hk : CX st nf ((kd, w, m, kp) :: K) k u) (hmk : m_k u = nI k) (h11 : 1 ≤ kd ∧ kd ≤ 11) (h2w : kd = 2 → 1 ≤ w ∧ w ≤ 4) (hm9 : 7 ≤ kd → kd ≤ 9 → m ≤ B.length) (hp : p ≤ 40) (hcg : CGd L c) (hmp : kd = 2 → m ≤ 40) (hnf : nf + 1 < 7000) (hQ : ∀ u1, MR W (aTurn E (5, i, (kd, w, m, kp) :: K, p, c, B, st, nf, nb, ns)) u1 → Q u1) : P_M_carryOn u Q := by
  obtain ⟨hkn, h0, h1, k', hf, h3, h4, h5, h6, h7, h8⟩ := hk
  have hK : CX st nf K k' u := ⟨by omega, h8⟩
  intro x1 hx1
  rw [hx1, hmk]
  refine x_parent h1 hf h3 h4 h5 h6 (x_place h1 hf h3 h4 h5 h6 (x_number h1 hf h3 h4 h5 h6 (x_kind h1 hf h3 h4 h5 h6 ?_)))
  have hkk : kd = 1 ∨ kd = 2 ∨ kd = 3 ∨ kd = 4 ∨ kd = 5 ∨ kd = 6 ∨ kd = 7 ∨ kd = 8 ∨ kd = 9 ∨ kd = 10 ∨ kd = 11 := by omega
  rcases hkk with e | e | e | e | e | e | e | e | e | e | e
  · subst e
    refine ⟨?_, fun e => absurd e (by decide), fun e => absurd e (by decide), fun e => absurd e (by decide), fun e => absurd e (by decide), fun e => absurd e (by decide), fun e => absurd e (by decide), fun e => absurd e (by decide), fun e => absurd e (by decide), fun e1 e2 e3 e4 e5 e6 e7 e8 e9 => absurd rfl e1⟩
    exact fun _ => x_go (mo := 0) h hK hQ
  · subst e
    refine ⟨fun e => absurd e (by decide), ?_, fun e => absurd e (by decide), fun e => absurd e (by decide), fun e => absurd e (by decide), fun e => absurd e (by decide), fun e => absurd e (by decide), fun e => absurd e (by decide), fun e => absurd e (by decide), fun e1 e2 e3 e4 e5 e6 e7 e8 e9 => absurd rfl e2⟩
    intro _ x5 hx5
    have h2w := h2w rfl
    have hmp := hmp rfl
    have hv : ((((64 : Int32) * (nI m + 1)) + m_p u) + 1).toInt64 = lN (64 * (m + 1) + p + 1) := by
      rw [h.2.2.1, n_1, show (64 : Int32) = nI 64 from rfl, n_mul, nI_add, n_1, nI_l (by omega)]
    rw [hv, h.2.2.2.2.2.1, pkC_set (cOK_of hcg) h2w.1 h2w.2 (by omega) (by rw [hx5])]
    exact x_go (mo := 5) (i := 0) (MX_caps rfl h) (CX_caps hK) hQ
  · subst e
    refine ⟨fun e => absurd e (by decide), fun e => absurd e (by decide), ?_, fun e => absurd e (by decide), fun e => absurd e (by decide), fun e => absurd e (by decide), fun e => absurd e (by decide), fun e => absurd e (by decide), fun e => absurd e (by decide), fun e1 e2 e3 e4 e5 e6 e7 e8 e9 => absurd rfl e3⟩
    intro _
    have h7 := h7 rfl
    refine ⟨vp_in_nI (by omega) (by decide), ?_⟩
    rw [nI_clamp (by omega)]
    exact x_go (mo := 5) (i := 0) (MX_caps h7.2.2 h) (CX_caps hK) hQ
  · subst e
    refine ⟨fun e => absurd e (by decide), fun e => absurd e (by decide), fun e => absurd e (by decide), ?_, fun e => absurd e (by decide), fun e => absurd e (by decide), fun e => absurd e (by decide), fun e => absurd e (by decide), fun e => absurd e (by decide), fun e1 e2 e3 e4 e5 e6 e7 e8 e9 => absurd rfl e4⟩
    exact fun _ => b4_b5 h hK h1 hf h3 h4 h5 h6 (Or.inl rfl) hp hQ
  · subst e
    refine ⟨fun e => absurd e (by decide), fun e => absurd e (by decide), fun e => absurd e (by decide), fun e => absurd e (by decide), ?_, fun e => absurd e (by decide), fun e => absurd e (by decide), fun e => absurd e (by decide), fun e => absurd e (by decide), fun e1 e2 e3 e4 e5 e6 e7 e8 e9 => absurd rfl e5⟩
    exact fun _ => b4_b5 h hK h1 hf h3 h4 h5 h6 (Or.inr rfl) hp hQ
  · subst e
    refine ⟨fun e => absurd e (by decide), fun e => absurd e (by decide), fun e => absurd e (by decide), fun e => absurd e (by decide), fun e => absurd e (by decide), ?_, fun e => absurd e (by decide), fun e => absurd e (by decide), fun e => absurd e (by decide), fun e1 e2 e3 e4 e5 e6 e7 e8 e9 => absurd rfl e6⟩
    intro _
    have ht : aTurn E (5, i, (6, w, m, kp) :: K, p, c, B, st, nf, nb, ns) = if m = 0 then (5, w, K, p, c, B, st, nf, nb, ns) else (2, w, (6, w, m - 1, c00) :: K, p, c, B, st, nf + 1, nb, ns) := rfl
    rw [ht] at hQ
    refine ⟨fun q => ?_, fun q => ?_⟩
    · have q' : m = 0 := (neq (b := 0) (by omega) (by decide)).mp q
      rw [if_pos q'] at hQ
      exact ⟨fun _ => x_go (mo := 5) h hK hQ, fun z => absurd q z⟩
    · have q' : ¬ m = 0 := fun e => q (by rw [e]; rfl)
      rw [if_neg q'] at hQ
      refine ⟨fun z => absurd z q, fun _ => ?_⟩
      rw [show (1 : Int32) = nI 1 from rfl, n_sub (by omega)]
      exact x_push (kd := 6) (w := w) (m := m - 1) (c' := c00) h hK hnf (by decide) h5 (by omega) (fun e => absurd e (by decide)) (fun u1 g1 g2 g3 g4 => x_go (mo := 2) g1 g2 hQ)
  · subst e
    refine ⟨fun e => absurd e (by decide), fun e => absurd e (by decide), fun e => absurd e (by decide), fun e => absurd e (by decide), fun e => absurd e (by decide), fun e => absurd e (by decide), ?_, fun e => absurd e (by decide), fun e => absurd e (by decide), fun e1 e2 e3 e4 e5 e6 e7 e8 e9 => absurd rfl e7⟩
    exact fun _ => b7_b8 h hK h1 hf h3 h4 h5 h6 (hm9 (by decide) (by decide)) hQ
  · subst e
    refine ⟨fun e => absurd e (by decide), fun e => absurd e (by decide), fun e => absurd e (by decide), fun e => absurd e (by decide), fun e => absurd e (by decide), fun e => absurd e (by decide), fun e => absurd e (by decide), ?_, fun e => absurd e (by decide), fun e1 e2 e3 e4 e5 e6 e7 e8 e9 => absurd rfl e8⟩
    exact fun _ => b7_b8 h hK h1 hf h3 h4 h5 h6 (hm9 (by decide) (by decide)) hQ
  · subst e
    refine ⟨fun e => absurd e (by decide), fun e => absurd e (by decide), fun e => absurd e (by decide), fun e => absurd e (by decide), fun e => absurd e (by decide), fun e => absurd e (by decide), fun e => absurd e (by decide), fun e => absurd e (by decide), ?_, fun e1 e2 e3 e4 e5 e6 e7 e8 e9 => absurd rfl e9⟩
    exact fun _ => x_go6 (i := 0) (MX_backs rfl (hm9 (by decide) (by decide)) h) hQ
  · subst e
    refine ⟨fun e => absurd e (by decide), fun e => absurd e (by decide), fun e => absurd e (by decide), fun e => absurd e (by decide), fun e => absurd e (by decide), fun e => absurd e (by decide), fun e => absurd e (by decide), fun e => absurd e (by decide), fun e => absurd e (by decide), fun _ _ _ _ _ _ _ _ _ => ?_⟩
    refine x_kind h1 hf h3 h4 h5 h6 ?_
    exact x_go (mo := 3) h hK hQ
  · subst e
    refine ⟨fun e => absurd e (by decide), fun e => absurd e (by decide), fun e => absurd e (by decide), fun e => absurd e (by decide), fun e => absurd e (by decide), fun e => absurd e (by decide), fun e => absurd e (by decide), fun e => absurd e (by decide), fun e => absurd e (by decide), fun _ _ _ _ _ _ _ _ _ => ?_⟩
    refine x_kind h1 hf h3 h4 h5 h6 ?_
    exact x_go (mo := 4) h hK hQ
end MC
