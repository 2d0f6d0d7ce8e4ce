section MT
variable {W : MBs} {τ : Nat → Int32} {n : Nat} {s : Nat → Int32} {L lim : Nat} {C : Nat → Nat × Nat × Nat} {en : Nat → Nat} {PL : Nat → Nat → Nat → Prop} {pP : Nat → Nat → Nat → ACp → Option Nat} {G : Nat} {E : AEnv}
variable {st p nf nb ns k : Nat} {c : ACp} {B : List ABk} {K : List AFr} {u : MS}
theorem x_star0 {Q : MS → Prop} {i : Nat} (h : MX W st p nf c B u) (hk : CX st nf K k u) (hmk : m_k u = nI k) (hat : m_at u = nI i) (hi : i ≤ 32) (hp : p ≤ 40) (hnf : nf + 1 < 7000) (hB : B.length < 4000) (hQ : ∀ u1, MR W (aStar0 i K p c B st nf nb ns) u1 → Q u1) : P_M_star 0 u Q := by
  refine ⟨fun _ => ?_, fun e => absurd rfl e⟩
  unfold B_M_star_10
  rw [hat, h.2.2.1, hmk]
  refine x_push (kd := 4) (w := i) (m := p) (c' := c00) h hk hnf (by decide) (by omega) (by omega) (fun e => absurd e (by decide)) (fun u1 g1 g2 g3 g4 => ⟨fun _ => ⟨fun _ => ?_, fun e => absurd rfl e⟩, fun e => absurd rfl e⟩)
  unfold B_M_star_52
  rw [g4.1, g4.2, hat, hmk]
  refine x_pushB (mo := 5) (i := i) (fl := 0) (nb := nb) (ns := ns) g1 (g3 _ _ hk) hB (by omega) (by decide) (by omega) (by omega) (fun u2 g5 g6 g7 g8 => ⟨fun _ => ⟨fun _ => ?_, fun e => absurd rfl e⟩, fun e => absurd rfl e⟩)
  unfold B_M_star_81
  rw [g8, g4.2, hat]
  exact x_go g5 (g6 _ _ g2) hQ
theorem x_star1 {Q : MS → Prop} {i : Nat} (h : MX W st p nf c B u) (hk : CX st nf K k u) (hmk : m_k u = nI k) (hat : m_at u = nI i) (hi : i ≤ 32) (hp : p ≤ 40) (hnf : nf + 1 < 7000) (hB : B.length < 4000) (hQ : ∀ u1, MR W (aStar1 i K p c B st nf nb ns) u1 → Q u1) : P_M_star 1 u Q := by
  refine ⟨fun e => absurd e (by decide), fun _ => ?_⟩
  unfold B_M_star_10
  rw [hat, h.2.2.1, hmk]
  refine x_push (kd := 5) (w := i) (m := p) (c' := c00) h hk hnf (by decide) (by omega) (by omega) (fun e => absurd e (by decide)) (fun u1 g1 g2 g3 g4 => ⟨fun e => absurd e (by decide), fun _ => ⟨fun e => absurd e (by decide), fun _ => ?_⟩⟩)
  unfold B_M_star_52
  rw [g4.2, hat]
  refine x_pushB (mo := 2) (i := i) (fl := 0) (nb := nb) (ns := ns) g1 g2 hB (by omega) (by decide) (by omega) (by omega) (fun u2 g5 g6 g7 g8 => ⟨fun e => absurd e (by decide), fun _ => ⟨fun e => absurd e (by decide), fun _ => ?_⟩⟩)
  unfold B_M_star_81
  rw [g8, g4.2, hat, g7, g4.1, hmk]
  exact x_go g5 (g6 _ _ (g3 _ _ hk)) hQ
theorem Ch_len {fr kp : Nat → Int64} {s : Nat} : ∀ {K : List AFr} {k : Nat}, Ch fr kp s K k → K.length ≤ k := by
  intro K
  induction K with
  | nil => intro k _; exact Nat.zero_le _
  | cons f K ih =>
    obtain ⟨kd, w, m, c⟩ := f
    intro k ⟨h0, h1, k', h2, h3, h4, h5, h6, h7, h8⟩
    have := ih h8
    rw [List.length_cons]; omega
theorem x_kind {Q : Int32 → MS → Prop} {kd w m k' : Nat} (hk : k < 7000) (hf : m_frame u k = pkF kd w m k') (h1 : k' < k) (h2 : kd < 16) (h3 : w < 64) (h4 : m < 8192) (hQ : Q (nI kd) u) : P_M_kindOf (nI k) u Q := by
  refine ⟨vp_in_nI hk (by decide), ?_⟩
  rw [nI_clamp (by omega), hf, pkF_kind h2 h3 h4 (by omega)]; exact hQ
theorem x_parent {Q : Int32 → MS → Prop} {kd w m k' : Nat} (hk : k < 7000) (hf : m_frame u k = pkF kd w m k') (h1 : k' < k) (h2 : kd < 16) (h3 : w < 64) (h4 : m < 8192) (hQ : Q (nI k') u) : P_M_parentOf (nI k) u Q := by
  refine ⟨vp_in_nI hk (by decide), ?_⟩
  rw [nI_clamp (by omega), hf, pkF_parent h2 h3 h4 (by omega)]; exact hQ
theorem x_place {Q : Int32 → MS → Prop} {kd w m k' : Nat} (hk : k < 7000) (hf : m_frame u k = pkF kd w m k') (h1 : k' < k) (h2 : kd < 16) (h3 : w < 64) (h4 : m < 8192) (hQ : Q (nI w) u) : P_M_placeOf (nI k) u Q := by
  refine ⟨vp_in_nI hk (by decide), ?_⟩
  rw [nI_clamp (by omega), hf, pkF_place h2 h3 h4 (by omega)]; exact hQ
theorem x_number {Q : Int32 → MS → Prop} {kd w m k' : Nat} (hk : k < 7000) (hf : m_frame u k = pkF kd w m k') (h1 : k' < k) (h2 : kd < 16) (h3 : w < 64) (h4 : m < 8192) (hQ : Q (nI m) u) : P_M_numberOf (nI k) u Q := by
  refine ⟨vp_in_nI hk (by decide), ?_⟩
  rw [nI_clamp (by omega), hf, pkF_number h2 h3 h4 (by omega)]; exact hQ
theorem L_calls {Q : Int32 → MS → Prop} {s : Nat} : ∀ (K : List AFr) (k a f : Nat), Ch (m_frame u) (m_kept u) s K k → K.length < f → Q (nI (a + aCalls K)) u → L_M_calls_7 Q f (nI a) (nI k) u := by
  intro K
  induction K with
  | nil =>
    intro k a f h hf hQ
    have h : k = 0 := h
    cases f with
    | zero => omega
    | succ f => rw [h]; exact ⟨fun _ => hQ, fun q => absurd (by decide) q⟩
  | cons g K ih =>
    obtain ⟨kd, w, m, c⟩ := g
    intro k a f ⟨h0, h1, k', h2, h3, h4, h5, h6, h7, h8⟩ hf hQ
    rw [List.length_cons] at hf
    have hQ : Q (nI (a + ((if kd = 3 then 1 else 0) + aCalls K))) u := hQ
    cases f with
    | zero => omega
    | succ f =>
      refine ⟨fun q => absurd q (nI_nle (by omega) (by omega)), fun _ => x_kind h1 h2 h3 h4 h5 h6 ⟨fun q x hx => ?_, fun q => ?_⟩⟩
      · have q : kd = 3 := (neq (b := 3) (by omega) (by decide)).mp q
        rw [if_pos q] at hQ
        rw [hx, n_1]
        exact x_parent h1 h2 h3 h4 h5 h6 (ih k' (a + 1) f h8 (by omega) (by rw [Nat.add_assoc]; exact hQ))
      · have q : ¬ kd = 3 := fun e => q (by rw [e]; rfl)
        rw [if_neg q, Nat.zero_add] at hQ
        exact x_parent h1 h2 h3 h4 h5 h6 (ih k' a f h8 (by omega) hQ)
theorem cntG_le {τ : Nat → Int32} {n : Nat} : ∀ (f j : Nat), cntG τ n f j ≤ f := by
  intro f
  induction f with
  | zero => intro j; exact Nat.le_refl _
  | succ f ih =>
    intro j
    have := ih (j + 1)
    unfold cntG
    first
      | (split <;> omega)
      | omega
theorem x_open {Q : MS → Prop} {i st0 : Nat} (hE : E = eM τ n s L lim C en PL pP G) (hW : HW W τ n s L lim) (hT : TXok τ n) (h : MX W st p nf c B u) (hk : CX st0 nf K k u) (hb0 : BR (m_frame u) (m_kept u) st0 (m_back u) (m_bKept u) B nf) (hst : st = st0 + 1) (hst3 : st ≤ 300) (hmk : m_k u = nI k) (hi : i ≤ n) (h40 : tt τ n i = 40) (hp : p ≤ 40) (hnf : nf + 1 < 7000) (hB : B.length < 4000) (hQ : ∀ u1, MR W (aOpen E i K p c B st nf nb ns) u1 → Q u1) : P_M_openChoice (nI i) u Q := by
  have hn := hW.2.2.2.2.2.1
  have hks : CX st nf K k u := ⟨hk.1, Ch_mono (by omega) (fun _ _ => rfl) (fun _ _ => rfl) hk.2⟩
  have b23 : ∀ t0 : Int32, t0 = aX E i → B_M_openChoice_23 Q (nI i) t0 u := by
    intro t0 ht
    subst ht
    unfold aOpen aKd at hQ
    refine ⟨fun q => ?_, fun q0 => ⟨fun q => ?_, fun q1 => ⟨fun q => ?_, fun q2 => ⟨fun q => ?_, fun q3 => ⟨fun q => ?_, fun q4 => ?_⟩⟩⟩⟩⟩
    · rw [if_pos q, if_pos rfl] at hQ
      refine s_groupAt (W_len hW h.1) hn (by omega) ?_
      have hg : e_gA E i = groupAt (m_text u) n i := by subst hE; rw [W_text hW h.1]; rfl
      have hg2 : e_gA E i ≤ i + 1 := by rw [hg]; exact cntG_le _ _
      rw [← hg, h.2.2.1, hmk, n_1]
      exact x_push (kd := 2) (w := e_gA E i) (m := p) (c' := c00) h hks hnf (by decide) (by omega) (by omega) (fun e => absurd e (by decide)) (fun u1 g1 g2 g3 g4 => x_go g1 g2 hQ)
    · rw [if_neg q0, if_pos q, if_neg (by decide), if_pos rfl] at hQ
      rw [hmk, n_3]
      exact x_go h hks hQ
    · rw [if_neg q0, if_neg q1, if_pos q, if_neg (by decide), if_neg (by decide), if_pos rfl] at hQ
      rw [h.2.2.2.2.1, hmk, n_3]
      exact x_push (kd := 7) (w := 0) (m := B.length) (c' := c00) h hks hnf (by decide) (by decide) (by omega) (fun e => absurd e (by decide)) (fun u1 g1 g2 g3 g4 => x_go g1 g2 hQ)
    · rw [if_neg q0, if_neg q1, if_neg q2, if_pos q, if_neg (by decide), if_neg (by decide), if_neg (by decide), if_pos rfl] at hQ
      rw [h.2.2.1, h.2.2.2.2.1, hmk, n_3]
      exact x_push (kd := 8) (w := p) (m := B.length) (c' := c00) h hks hnf (by decide) (by omega) (by omega) (fun e => absurd e (by decide)) (fun u1 g1 g2 g3 g4 => x_go g1 g2 hQ)
    · rw [if_neg q0, if_neg q1, if_neg q2, if_neg q3, if_pos q, if_neg (by decide), if_neg (by decide), if_neg (by decide), if_neg (by decide), if_pos rfl] at hQ
      rw [h.2.2.2.2.1, hmk, n_3]
      refine x_push (kd := 9) (w := 0) (m := B.length) (c' := c00) h hks hnf (by decide) (by decide) (by omega) (fun e => absurd e (by decide)) (fun u1 g1 g2 g3 g4 => ?_)
      rw [g4.1, hmk]
      exact x_pushB (mo := 5) (i := 0) (fl := 1) (nb := nb) (ns := ns) g1 (g3 _ _ hks) hB (by omega) (by decide) (by decide) (by omega) (fun u2 g5 g6 g7 g8 => x_go g5 (g6 _ _ g2) hQ)
    · rw [if_neg q0, if_neg q1, if_neg q2, if_neg q3, if_neg q4, if_neg (by decide), if_neg (by decide), if_neg (by decide), if_neg (by decide), if_neg (by decide)] at hQ
      have hcl := Ch_len hk.2
      have hk1 := hk.1
      have hac : aCalls K ≤ K.length := by
        clear hQ hks hk hcl
        induction K with
        | nil => exact Nat.le_refl _
        | cons f K ih =>
          obtain ⟨kd, w, m, c⟩ := f
          show (if kd = 3 then 1 else 0) + aCalls K ≤ K.length + 1
          split <;> omega
      intro x2 hx2
      rw [hx2, hmk]
      refine ⟨7001, L_calls K k 0 7001 hk.2 (by omega) ?_⟩
      rw [Nat.zero_add]
      refine ⟨fun q => ?_, fun q => ?_⟩
      · rw [show (12 : Int32) = nI 12 from rfl, nlt (by omega) (by decide)] at q
        rw [if_neg (by omega)] at hQ
        obtain ⟨g, hg4, hg⟩ : ∃ g, g ≤ 4 ∧ aX E i = nI (g + 48) := by
          subst hE
          have e63 : tt τ n (i + 1) = 63 := by
            by_cases z : tt τ n (i + 1) = 63
            · exact z
            · exact absurd (show aX (eM τ n s L lim C en PL pP G) i = 0 from if_neg z) q0
          have eX : aX (eM τ n s L lim C en PL pP G) i = tt τ n (i + 2) := if_pos e63
          rw [eX] at q1 q2 q3 q4 ⊢
          rcases (hT i).2.2 h40 e63 with z | z | z | z | z
          · exact absurd z q1
          · exact absurd z q2
          · exact absurd z q3
          · exact absurd z q4
          · exact z
        have hcn : aCn E i = g := by
          unfold aCn; rw [hg, nI_clamp (by omega)]; omega
        rw [hcn] at hQ
        rw [h.2.1, nI_clamp (by omega)]
        refine ⟨vp_in_nI (by omega) (by decide), ?_⟩
        rw [hg, show (48 : Int32) = nI 48 from rfl, n_sub (by omega), Nat.add_sub_cancel]
        have hX : MX W st p nf c B (ms_kept u (vp_updL (m_kept u) st (m_caps u))) := by
          obtain ⟨m1, m2, m3, m4, m5, m6, m7⟩ := h
          exact ⟨m1, m2, m3, m4, m5, m6, BR_mono (s := st0) (by omega) (fun j hj => pk_uLn (by omega)) (Nat.le_refl _) (fun _ _ => rfl) (fun _ _ => ⟨rfl, rfl⟩) hb0⟩
        have hC2 : CX st nf K k (ms_kept u (vp_updL (m_kept u) st (m_caps u))) := ⟨hk.1, Ch_mono (s := st0) (by omega) (fun j hj => pk_uLn (by omega)) (fun _ _ => rfl) hk.2⟩
        refine s_choiceOf (W_len hW hX.1) hn (by omega) ?_
        have hco : choiceOf (m_text (ms_kept u (vp_updL (m_kept u) st (m_caps u)))) n g = e_cO E g := by subst hE; rw [W_text hW hX.1]; rfl
        rw [hco, hX.2.1]
        show P_M_push 3 0 (nI st) (m_k u) _ _
        rw [hmk]
        refine x_push (kd := 3) (w := 0) (m := st) (c' := c) hX hC2 hnf (by decide) (by decide) (by omega) (fun _ => ⟨Nat.le_refl _, hst3, ?_⟩) (fun u1 g1 g2 g3 g4 => x_go g1 g2 hQ)
        show vp_updL (m_kept u) st (m_caps u) st = pkC c
        rw [pk_uLs]; exact h.2.2.2.2.2.1
      · rw [show (12 : Int32) = nI 12 from rfl, nlt (by omega) (by decide)] at q
        rw [if_pos (by omega)] at hQ
        exact x_go6 (i := 0) h hQ
  unfold P_M_openChoice
  rw [n_1]
  refine w_t hW h (by omega) ⟨fun q => ?_, fun q => ?_⟩
  · rw [n_2]
    refine w_t hW h (by omega) (b23 _ ?_)
    subst hE; exact (if_pos q).symm
  · exact b23 _ (by subst hE; exact (if_neg q).symm)
theorem cOK_of {L : Nat} {c : ACp} (h : CGd L c) : cOK c := fun g => by
  rcases h g with q | q
  · rw [q]; decide
  · exact q.2.2.2
theorem MX_steps {x : Int32} (hx : x = nI (st + 1)) (h : MX W st p nf c B u) : MX W (st + 1) p nf c B (ms_steps u x) := by
  obtain ⟨m1, m2, m3, m4, m5, m6, m7⟩ := h
  exact ⟨m1, hx, m3, m4, m5, m6, BR_mono (s := st) (by omega) (fun _ _ => rfl) (Nat.le_refl _) (fun _ _ => rfl) (fun _ _ => ⟨rfl, rfl⟩) m7⟩
theorem BR_steps {x : Int32} {s : Nat} (h : BR (m_frame u) (m_kept u) s (m_back u) (m_bKept u) B nf) : BR (m_frame (ms_steps u x)) (m_kept (ms_steps u x)) s (m_back (ms_steps u x)) (m_bKept (ms_steps u x)) B nf := h
theorem CX_steps {x : Int32} (h : CX st nf K k u) : CX st nf K k (ms_steps u x) := h
theorem mk_steps (x : Int32) : m_k (ms_steps u x) = m_k u := rfl
theorem mat_steps (x : Int32) : m_at (ms_steps u x) = m_at u := rfl
theorem MX_p {x : Int32} {p' : Nat} (hx : x = nI p') (h : MX W st p nf c B u) : MX W st p' nf c B (ms_p u x) := by
  obtain ⟨m1, m2, m3, m4, m5, m6, m7⟩ := h
  exact ⟨m1, m2, hx, m4, m5, m6, m7⟩
theorem CX_p {x : Int32} (h : CX st nf K k u) : CX st nf K k (ms_p u x) := h
theorem mk_p (x : Int32) : m_k (ms_p u x) = m_k u := rfl
theorem x_atom1 {Q : MS → Prop} {i st0 : Nat} (hE : E = eM τ n s L lim C en PL pP G) (hW : HW W τ n s L lim) (hT : TXok τ n) (hst : st = st0 + 1) (hX : MX W st p nf c B u) (hk0 : CX st0 nf K k u) (hbr0 : BR (m_frame u) (m_kept u) st0 (m_back u) (m_bKept u) B nf) (hmk1 : m_k u = nI k) (hat1 : m_at u = nI i) (hst3 : st ≤ 300) (hi : i ≤ n) (hp : p ≤ L) (hcg : CGd L c) (hnf : nf + 1 < 7000) (hB : B.length < 4000) (hQ : ∀ u1, MR W (aAtom E i K p c B st0 nf nb ns) u1 → Q u1) : P_M_t (m_at u) u (fun r_15 u_15 => ((r_15 = (40 : Int32) → P_M_openChoice (m_at u_15) u_15 (fun u_28 => Q u_28)) ∧ (¬ r_15 = (40 : Int32) → P_M_plain (m_at u_15) u_15 (fun r_40 u_40 => ((r_40 = (0 : Int32) → B_M_atom_52 Q  (6 : Int32) u_40) ∧ (¬ r_40 = (0 : Int32) → B_M_atom_52 Q  (5 : Int32) u_40)))))) := by
  have hn := hW.2.2.2.2.2.1
  have hL := hW.2.2.2.2.2.2.1
  rw [hat1]
  unfold aAtom at hQ
  have hte : e_t E i = tt τ n i := by subst hE; rfl
  have hpe : e_pl E i p c = plF τ n s L i p c := by subst hE; rfl
  rw [hte, hpe] at hQ
  have hks : CX st nf K k u := ⟨hk0.1, Ch_mono (by omega) (fun _ _ => rfl) (fun _ _ => rfl) hk0.2⟩
  refine w_t hW hX (by omega) ⟨fun q => ?_, fun q => ?_⟩
  · rw [if_pos q, ← hst] at hQ
    rw [hat1]
    exact x_open hE hW hT hX hk0 hbr0 hst hst3 hmk1 hi q (by omega) hnf hB hQ
  · rw [if_neg q] at hQ
    rw [hat1]
    refine s_plain (W_len hW hX.1) hn (by omega) (cOK_of hcg) hcg hL (W_let hW hX.1) hX.2.2.1 hp hX.2.2.2.2.2.1 (by rw [W_text hW hX.1]; exact fun z => (hT i).1 z) (fun p' hp' => ?_) (fun hno => ?_)
    · rw [W_text hW hX.1, W_sub hW hX.1] at hp'
      rw [hp', ← hst] at hQ
      refine ⟨fun e => absurd e (by decide), fun _ => ?_⟩
      unfold B_M_atom_52
      rw [mk_p, hmk1]
      exact x_go (mo := 5) (i := 0) (nb := nb) (ns := ns) (MX_p rfl hX) (CX_p hks) hQ
    · rw [W_text hW hX.1, W_sub hW hX.1] at hno
      rw [hno, ← hst] at hQ
      exact ⟨fun _ => x_go6 (i := 0) hX hQ, fun e => absurd rfl e⟩
theorem x_atom {Q : MS → Prop} {i : Nat} (hE : E = eM τ n s L lim C en PL pP G) (hW : HW W τ n s L lim) (hT : TXok τ n) (h : MX W st p nf c B u) (hk : CX st nf K k u) (hmk : m_k u = nI k) (hat : m_at u = nI i) (hst3 : st < 300) (hi : i ≤ n) (hp : p ≤ L) (hcg : CGd L c) (hnf : nf + 1 < 7000) (hB : B.length < 4000) (hQ : ∀ u1, MR W (aAtom E i K p c B st nf nb ns) u1 → Q u1) : P_M_atom u Q := by
  unfold P_M_atom
  have hx : m_steps u + 1 = nI (st + 1) := by rw [h.2.1, n_1]
  generalize m_steps u + 1 = x at hx
  exact x_atom1 hE hW hT rfl (MX_steps hx h) (CX_steps hk) (BR_steps h.2.2.2.2.2.2) ((mk_steps x).trans hmk) ((mat_steps x).trans hat) (by omega) hi hp hcg hnf hB hQ
end MT
