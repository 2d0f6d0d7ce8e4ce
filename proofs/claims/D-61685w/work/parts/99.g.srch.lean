def vM (V : PBs) (z : Int32) : PBs := (V.1, V.2.1, V.2.2.1, V.2.2.2.1, V.2.2.2.2.1, V.2.2.2.2.2.1, V.2.2.2.2.2.2.1, V.2.2.2.2.2.2.2.1, z, V.2.2.2.2.2.2.2.2.2.1, V.2.2.2.2.2.2.2.2.2.2.1, V.2.2.2.2.2.2.2.2.2.2.2.1, V.2.2.2.2.2.2.2.2.2.2.2.2)
def wMt (W : MBs) (z : Int32) : MBs := (W.1, W.2.1, W.2.2.1, W.2.2.2.1, W.2.2.2.2.1, (W.2.2.2.2.2.1, W.2.2.2.2.2.2.1, W.2.2.2.2.2.2.2.1, W.2.2.2.2.2.2.2.2.1, W.2.2.2.2.2.2.2.2.2.1, z, W.2.2.2.2.2.2.2.2.2.2.2.1, W.2.2.2.2.2.2.2.2.2.2.2.2.1, W.2.2.2.2.2.2.2.2.2.2.2.2.2.1, W.2.2.2.2.2.2.2.2.2.2.2.2.2.2))
theorem vb_1 (u : PS) (x : Int32) : pBase (ps_steps u x) = pBase u := rfl
theorem vb_2 (u : PS) (x : Int32) : pBase (ps_stopped u x) = pBase u := rfl
theorem vb_3 (u : PS) (x : Int32) : pBase (ps_matched u x) = vM (pBase u) x := rfl
def pB2 (u : PS) : (Nat → Int32) × Nat × Nat := (p_fF u, p_kN u, p_tN u)
theorem vc_1 (u : PS) (x : Int32) : pB2 (ps_steps u x) = pB2 u := rfl
theorem vc_2 (u : PS) (x : Int32) : pB2 (ps_stopped u x) = pB2 u := rfl
theorem vc_3 (u : PS) (x : Int32) : pB2 (ps_matched u x) = pB2 u := rfl
theorem vd_2 (u : PS) (x : Int32) : p_steps (ps_stopped u x) = p_steps u := rfl
theorem vd_3 (u : PS) (x : Int32) : p_steps (ps_matched u x) = p_steps u := rfl
theorem vd_1 (u : PS) (x : Int32) : p_steps (ps_steps u x) = x := rfl
theorem ve_3 (u : PS) (x : Int32) : p_stopped (ps_matched u x) = p_stopped u := rfl
theorem PI_start {u : PS} {fF : ACp} {x y z : Int32} (hx : x = nI 0) (hy : y = 0) (hf : ∀ a, a < 120 → p_fF u a = decF a (fF a)) (h1 : 16 ≤ p_kN u) (h2 : p_kN u ≤ 32000) (h3 : 600 ≤ p_tN u) (h4 : p_tN u ≤ 280000) : PI (vM (pBase u) z) 0 fF (ps_matched (ps_stopped (ps_steps u x) y) z) ∧ p_tN (ps_matched (ps_stopped (ps_steps u x) y) z) = p_tN u ∧ p_kN (ps_matched (ps_stopped (ps_steps u x) y) z) = p_kN u := by
  have e1 : pBase (ps_matched (ps_stopped (ps_steps u x) y) z) = vM (pBase u) z := (vb_3 (ps_stopped (ps_steps u x) y) z).trans (congrArg (fun b => vM b z) ((vb_2 (ps_steps u x) y).trans (vb_1 u x)))
  have e2 : pB2 (ps_matched (ps_stopped (ps_steps u x) y) z) = pB2 u := (vc_3 (ps_stopped (ps_steps u x) y) z).trans ((vc_2 (ps_steps u x) y).trans (vc_1 u x))
  have e3 : p_steps (ps_matched (ps_stopped (ps_steps u x) y) z) = x := (vd_3 (ps_stopped (ps_steps u x) y) z).trans ((vd_2 (ps_steps u x) y).trans (vd_1 u x))
  have e4 : p_stopped (ps_matched (ps_stopped (ps_steps u x) y) z) = y := (ve_3 (ps_stopped (ps_steps u x) y) z).trans (st_stop (ps_steps u x) y)
  generalize ps_matched (ps_stopped (ps_steps u x) y) z = v at e1 e2 e3 e4
  have f1 : p_fF v = p_fF u := congrArg (fun b : (Nat → Int32) × Nat × Nat => b.1) e2
  have f2 : p_kN v = p_kN u := congrArg (fun b : (Nat → Int32) × Nat × Nat => b.2.1) e2
  have f3 : p_tN v = p_tN u := congrArg (fun b : (Nat → Int32) × Nat × Nat => b.2.2) e2
  exact ⟨⟨e1, e4.trans hy, e3.trans hx, fun a ha => by rw [f1]; exact hf a ha, by omega, by omega, by omega, by omega⟩, f3, f2⟩
theorem we_1 (u : MS) (x : Int32) : mBase (ms_steps u x) = mBase u := rfl
theorem we_2 (u : MS) (x : Int32) : mBase (ms_matched u x) = wMt (mBase u) x := rfl
theorem we_3 (u : MS) (x : Int32) : m_steps (ms_matched u x) = m_steps u := rfl
theorem we_4 (u : MS) (x : Int32) : m_steps (ms_steps u x) = x := rfl
theorem MI_start {w : MS} {x z : Int32} (hx : x = nI 0) : MI (wMt (mBase w) z) 0 (ms_matched (ms_steps w x) z) :=
  ⟨(we_2 (ms_steps w x) z).trans (congrArg (fun b => wMt b z) (we_1 w x)), ((we_3 (ms_steps w x) z).trans (we_4 w x)).trans hx⟩
def resI (cd sf : Nat) : Int32 := if cd = 1 then nI sf else if cd = 0 then -4 else -5
theorem srch_env {u : PS} {w : MS} {lim L n G : Nat} (hl1 : p_limit u = nI lim) (hl2 : m_limit w = nI lim) (hlim : lim ≤ 300) (hS : SR (p_su u) (m_subject w) L) (hlt : m_letters w = nI L) (hL : L ≤ 40) (hsub : SUB (m_subject w) L) (hn : m_length w = nI n) (hC : CMP (p_pr u) (m_text w) n G) :
    ∃ E, (∃ C en, E = eM (m_text w) n (m_subject w) L lim C en (PLr (m_text w) n) (plP (m_subject w) L) G) ∧ EH E ∧ (∀ z, HV E (vM (pBase u) z) (m_subject w)) ∧ (∀ z, HW (wMt (mBase w) z) (m_text w) n (m_subject w) L lim) ∧ TXok (m_text w) n ∧ e_cO E 0 = 0 ∧ e_L E = L ∧ e_lim E = lim := by
  obtain ⟨C, en, h1, h2⟩ := cmp_env (lim := lim) hC hsub hL hlim
  exact ⟨_, ⟨C, en, rfl⟩, h1, fun z => h2 (vM (pBase u) z) hl1 hS rfl, fun z => ⟨hl2, hn, rfl, hlt, rfl, hC.2.1, hL, hlim⟩, hC.1, choiceOf_0 _ _, rfl, rfl⟩
theorem vM_out {u u1 : PS} {z : Int32} (h : pBase u1 = vM (pBase u) z) : pB0 u1 = pB0 u ∧ p_matched u1 = z :=
  ⟨congrArg (fun b : PBs => (b.1, b.2.1, b.2.2.1, b.2.2.2.1, b.2.2.2.2.2.2.2.2.2.1, b.2.2.2.2.2.2.2.2.2.2.1, b.2.2.2.2.2.2.2.2.2.2.2.1)) h, congrArg (fun b : PBs => b.2.2.2.2.2.2.2.2.1) h⟩
def mC (u : MS) : Int32 × Int32 × (Nat → Int32) × Int32 × (Nat → Int32) × Int32 × (Nat → Int32) × Int32 × Int32 × Int32 := (m_limit u, m_length u, m_text u, m_letters u, m_subject u, m_drafted u, m_draft u, m_ready u, m_groups u, m_size u)
theorem wM_out {u u1 : MS} {z : Int32} (h : mBase u1 = wMt (mBase u) z) : mC u1 = mC u ∧ m_matched u1 = z :=
  ⟨congrArg (fun b : MBs => (b.1, b.2.1, b.2.2.1, b.2.2.2.1, b.2.2.2.2.1, b.2.2.2.2.2.1, b.2.2.2.2.2.2.1, b.2.2.2.2.2.2.2.1, b.2.2.2.2.2.2.2.2.1, b.2.2.2.2.2.2.2.2.2.1)) h, congrArg (fun b : MBs => b.2.2.2.2.2.2.2.2.2.2.1) h⟩
theorem mC_of {u u1 : MS} (h : mB0 u1 = mB0 u) : mC u1 = mC u :=
  congrArg (fun b : Int32 × Int32 × (Nat → Int32) × Int32 × (Nat → Int32) × Int32 × (Nat → Int32) × Int32 × Int32 × Int32 × Int32 => (b.1, b.2.1, b.2.2.1, b.2.2.2.1, b.2.2.2.2.1, b.2.2.2.2.2.1, b.2.2.2.2.2.2.1, b.2.2.2.2.2.2.2.1, b.2.2.2.2.2.2.2.2.1, b.2.2.2.2.2.2.2.2.2.1)) h
theorem st_of {u u1 : MS} (h : mB0 u1 = mB0 u) : m_steps u1 = m_steps u :=
  congrArg (fun b : Int32 × Int32 × (Nat → Int32) × Int32 × (Nat → Int32) × Int32 × (Nat → Int32) × Int32 × Int32 × Int32 × Int32 => b.2.2.2.2.2.2.2.2.2.2) h
theorem inv_next {u u1 : PS} {w w1 : MS} {lim D L st' : Nat} {fF' : ACp}
    (a1 : p_limit u = nI lim ∧ m_limit w = nI lim ∧ lim ≤ 300) (a2 : SR (p_wr u) (m_draft w) D ∧ m_drafted w = nI D ∧ D ≤ 32)
    (a3 : SR (p_su u) (m_subject w) L ∧ m_letters w = nI L ∧ L ≤ 40 ∧ SUB (m_subject w) L) (a4 : p_there u = m_ready w ∧ (m_ready w = 0 ∨ m_ready w = 1))
    (a5 : m_ready w = 1 → ∃ n G, m_length w = nI n ∧ m_groups w = nI G ∧ p_rgroups u = nI G ∧ p_rsize u = m_size w ∧ CMP (p_pr u) (m_text w) n G)
    (hp : pB0 u1 = pB0 u) (hm : mC w1 = mC w) (hs1 : p_steps u1 = nI st') (hs2 : m_steps w1 = nI st') (hsl : st' ≤ lim)
    (hmt : p_matched u1 = m_matched w1) (hm01 : m_matched w1 = 0 ∨ m_matched w1 = 1)
    (hf : m_matched w1 = 1 → m_ready w = 1 ∧ ∃ f l c, m_first w1 = nI f ∧ m_last w1 = nI l ∧ f ≤ l ∧ l ≤ L ∧ m_found w1 = pkC c ∧ CGd L c ∧ p_cF u1 0 = nI f ∧ p_cF u1 1 = nI l ∧ ∀ g, 1 ≤ g → g ≤ 4 → p_cF u1 (2 * g) = decV (c g / 64) ∧ p_cF u1 (2 * g + 1) = decV (c g % 64))
    (hF : (∀ a, a < 120 → p_fF u1 a = decF a (fF' a)) ∧ ∀ a, fF' a < 2 ^ 20) (h1 : 16 ≤ p_kN u1) (h2 : p_kN u1 ≤ 32000) (h3 : 600 ≤ p_tN u1) (h4 : p_tN u1 ≤ 280000) : INV u1 w1 := by
  have q1 : p_limit u1 = p_limit u := congrArg (fun b : Int32 × Int32 × Int32 × Int32 × SBS × SBS × PRS => b.1) hp
  have q2 : p_there u1 = p_there u := congrArg (fun b : Int32 × Int32 × Int32 × Int32 × SBS × SBS × PRS => b.2.1) hp
  have q3 : p_rgroups u1 = p_rgroups u := congrArg (fun b : Int32 × Int32 × Int32 × Int32 × SBS × SBS × PRS => b.2.2.1) hp
  have q4 : p_rsize u1 = p_rsize u := congrArg (fun b : Int32 × Int32 × Int32 × Int32 × SBS × SBS × PRS => b.2.2.2.1) hp
  have q5 : p_wr u1 = p_wr u := congrArg (fun b : Int32 × Int32 × Int32 × Int32 × SBS × SBS × PRS => b.2.2.2.2.1) hp
  have q6 : p_su u1 = p_su u := congrArg (fun b : Int32 × Int32 × Int32 × Int32 × SBS × SBS × PRS => b.2.2.2.2.2.1) hp
  have q7 : p_pr u1 = p_pr u := congrArg (fun b : Int32 × Int32 × Int32 × Int32 × SBS × SBS × PRS => b.2.2.2.2.2.2) hp
  have w1' : m_limit w1 = m_limit w := congrArg (fun b : Int32 × Int32 × (Nat → Int32) × Int32 × (Nat → Int32) × Int32 × (Nat → Int32) × Int32 × Int32 × Int32 => b.1) hm
  have w2 : m_length w1 = m_length w := congrArg (fun b : Int32 × Int32 × (Nat → Int32) × Int32 × (Nat → Int32) × Int32 × (Nat → Int32) × Int32 × Int32 × Int32 => b.2.1) hm
  have w3 : m_text w1 = m_text w := congrArg (fun b : Int32 × Int32 × (Nat → Int32) × Int32 × (Nat → Int32) × Int32 × (Nat → Int32) × Int32 × Int32 × Int32 => b.2.2.1) hm
  have w4 : m_letters w1 = m_letters w := congrArg (fun b : Int32 × Int32 × (Nat → Int32) × Int32 × (Nat → Int32) × Int32 × (Nat → Int32) × Int32 × Int32 × Int32 => b.2.2.2.1) hm
  have w5 : m_subject w1 = m_subject w := congrArg (fun b : Int32 × Int32 × (Nat → Int32) × Int32 × (Nat → Int32) × Int32 × (Nat → Int32) × Int32 × Int32 × Int32 => b.2.2.2.2.1) hm
  have w6 : m_drafted w1 = m_drafted w := congrArg (fun b : Int32 × Int32 × (Nat → Int32) × Int32 × (Nat → Int32) × Int32 × (Nat → Int32) × Int32 × Int32 × Int32 => b.2.2.2.2.2.1) hm
  have w7 : m_draft w1 = m_draft w := congrArg (fun b : Int32 × Int32 × (Nat → Int32) × Int32 × (Nat → Int32) × Int32 × (Nat → Int32) × Int32 × Int32 × Int32 => b.2.2.2.2.2.2.1) hm
  have w8 : m_ready w1 = m_ready w := congrArg (fun b : Int32 × Int32 × (Nat → Int32) × Int32 × (Nat → Int32) × Int32 × (Nat → Int32) × Int32 × Int32 × Int32 => b.2.2.2.2.2.2.2.1) hm
  have w9 : m_groups w1 = m_groups w := congrArg (fun b : Int32 × Int32 × (Nat → Int32) × Int32 × (Nat → Int32) × Int32 × (Nat → Int32) × Int32 × Int32 × Int32 => b.2.2.2.2.2.2.2.2.1) hm
  have w10 : m_size w1 = m_size w := congrArg (fun b : Int32 × Int32 × (Nat → Int32) × Int32 × (Nat → Int32) × Int32 × (Nat → Int32) × Int32 × Int32 × Int32 => b.2.2.2.2.2.2.2.2.2) hm
  refine ⟨lim, D, L, st', ⟨q1.trans a1.1, w1'.trans a1.2.1, a1.2.2⟩, ?_, ?_, ?_, ?_, ⟨hs1, hs2, hsl⟩, ⟨hmt, hm01⟩, ?_, ⟨fF', hF⟩, h1, h2, h3, h4⟩
  · rw [q5, w7, w6]; exact a2
  · rw [q6, w5, w4]; exact a3
  · rw [q2, w8]; exact a4
  · rw [w8, w2, w9, q3, q4, w10, q7, w3]; exact a5
  · rw [w8]; exact hf
