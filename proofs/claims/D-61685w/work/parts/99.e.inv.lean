def CMP (pr : PRS) (τ : Nat → Int32) (n G : Nat) : Prop :=
  TXok τ n ∧ n ≤ 32 ∧ G ≤ 4 ∧ r_opN pr < 2 ^ 31 ∧ r_xN pr < 2 ^ 31 ∧ r_yN pr < 2 ^ 31 ∧ ∃ (C : Nat → Nat × Nat × Nat) (en : Nat → Nat),
  (∀ pc, (C pc).1 ≤ 16 → pc < 2 ^ 19 ∧ pc < r_opN pr ∧ pc < r_xN pr ∧ pc < r_yN pr ∧ r_opF pr pc = some (C pc).1 ∧ r_xF pr pc = nI (C pc).2.1 ∧ r_yF pr pc = nI (C pc).2.2) ∧
  (∀ g, g ≤ 4 → r_en pr g = nI (en g)) ∧ (∀ pc, (C pc).1 = 3 → 1 ≤ (C pc).2.1 ∧ (C pc).2.1 ≤ 4) ∧
  ∀ (s : Nat → Int32) (L lim g : Nat), g ≤ G → choiceOf τ n g ≤ n ∧ ∃ q j, XC (eM τ n s L lim C en (PLr τ n) (plP s L) G) (en g) q (choiceOf τ n g) j ∧ (C q).1 = 16
theorem choiceOf_0 (τ : Nat → Int32) (n : Nat) : choiceOf τ n 0 = 0 := by
  unfold choiceOf chOf
  first
    | rfl
    | simp
theorem cmp_env {pr : PRS} {τ : Nat → Int32} {n G : Nat} {s : Nat → Int32} {L lim : Nat} (hC : CMP pr τ n G) (hS : SUB s L) (hL : L ≤ 40) (hlim : lim ≤ 300) :
    ∃ C en, EH (eM τ n s L lim C en (PLr τ n) (plP s L) G) ∧ (∀ V : PBs, V.1 = nI lim → SR V.2.2.2.2.2.2.2.2.2.2.1 s L → V.2.2.2.2.2.2.2.2.2.2.2.1 = pr → HV (eM τ n s L lim C en (PLr τ n) (plP s L) G) V s) := by
  obtain ⟨h1, h2, h3, h4, h5, h6, C, en, h7, h8, h9, h10⟩ := hC
  refine ⟨C, en, ⟨fun pc hp => (h7 pc hp).1, ⟨h3, fun g hg => h10 s L lim g hg⟩, fun i op x hP p c cF hCR hG _ => plain_eq hS hP hCR hG, fun i p c p' _ hp hpl => plF_le hp hpl, h2, hL, hlim⟩, fun V v1 v2 v3 => ?_⟩
  subst v3
  exact ⟨v1, v2, fun pc hp => (h7 pc hp).2, h4, h5, h6, h8, rfl, hL, hlim, h9⟩
def INV (u : PS) (w : MS) : Prop := ∃ lim D L st : Nat,
  (p_limit u = nI lim ∧ m_limit w = nI lim ∧ lim ≤ 300) ∧
  (SR (p_wr u) (m_draft w) D ∧ m_drafted w = nI D ∧ D ≤ 32) ∧
  (SR (p_su u) (m_subject w) L ∧ m_letters w = nI L ∧ L ≤ 40 ∧ SUB (m_subject w) L) ∧
  (p_there u = m_ready w ∧ (m_ready w = 0 ∨ m_ready w = 1)) ∧
  (m_ready w = 1 → ∃ n G, m_length w = nI n ∧ m_groups w = nI G ∧ p_rgroups u = nI G ∧ p_rsize u = m_size w ∧ CMP (p_pr u) (m_text w) n G) ∧
  (p_steps u = nI st ∧ m_steps w = nI st ∧ st ≤ lim) ∧
  (p_matched u = m_matched w ∧ (m_matched w = 0 ∨ m_matched w = 1)) ∧
  (m_matched w = 1 → m_ready w = 1 ∧ ∃ f l c, m_first w = nI f ∧ m_last w = nI l ∧ f ≤ l ∧ l ≤ L ∧ m_found w = pkC c ∧ CGd L c ∧ p_cF u 0 = nI f ∧ p_cF u 1 = nI l ∧ ∀ g, 1 ≤ g → g ≤ 4 → p_cF u (2 * g) = decV (c g / 64) ∧ p_cF u (2 * g + 1) = decV (c g % 64)) ∧
  (∃ fF : ACp, (∀ a, a < 120 → p_fF u a = decF a (fF a)) ∧ ∀ a, fF a < 2 ^ 20) ∧ 16 ≤ p_kN u ∧ p_kN u ≤ 32000 ∧ 600 ≤ p_tN u ∧ p_tN u ≤ 280000
/-- start, end, steps, count: nothing changes -/
theorem op_steps {u : PS} {w : MS} {K : Prop} (h : INV u w) (hK : K) : P_B_steps u (fun r u => P_M_steps w (fun r2 w => r = r2 ∧ K)) := by
  obtain ⟨lim, D, L, st, a1, a2, a3, a4, a5, a6, a7, a8, a9⟩ := h
  show p_steps u = m_steps w ∧ K
  rw [a6.1, a6.2.1]; exact ⟨rfl, hK⟩
