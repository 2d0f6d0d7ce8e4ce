def sRes (u : MS) (x2 : Int32) : MS := (ms_found (ms_last (ms_first (ms_matched u (1 : Int32)) x2) (m_p (ms_first (ms_matched u (1 : Int32)) x2))) (m_caps (ms_last (ms_first (ms_matched u (1 : Int32)) x2) (m_p (ms_first (ms_matched u (1 : Int32)) x2)))))
def MI (W : MBs) (st : Nat) (u : MS) : Prop := mBase u = W ∧ m_steps u = nI st
theorem pkC_00 : pkC c00 = 0 := by
  show lN (0 + 0 * 2 ^ 12 + 0 * 2 ^ 24 + 0 * 2 ^ 36) = 0
  rw [Nat.zero_mul]; rfl
def SQ (W : MBs) (cd sf p' : Nat) (c' : ACp) (st' : Nat) (res : Int32) (u1 : MS) : Prop :=
  (cd = 0 ∧ res = -4 ∧ MI W st' u1) ∨
  (cd = 1 ∧ res = nI sf ∧ ∃ w, u1 = sRes w (nI sf) ∧ MI W st' w ∧ m_p w = nI p' ∧ m_caps w = pkC c') ∨
  (cd = 2 ∧ res = -5 ∧ MI W st' u1)
section SK
variable {W : MBs} {τ : Nat → Int32} {n : Nat} {s : Nat → Int32} {L lim : Nat} {C : Nat → Nat × Nat × Nat} {en : Nat → Nat} {PL : Nat → Nat → Nat → Prop} {pP : Nat → Nat → Nat → ACp → Option Nat} {G : Nat} {E : AEnv}
theorem MX_start {u : MS} {st sx : Nat} {x y z x1 : Int32} {c : Int64} (h : MI W st u) (hx : x = nI 0) (hy : y = nI 0) (h1 : x1 = nI sx) (hc : c = pkC c00) : MX W st sx 0 c00 [] (ms_caps (ms_p (ms_backs (ms_frames u x) y) x1) c) := by
  exact ⟨h.1, h.2, h1, hx, hy, hc, trivial⟩
theorem s_walk {Q : Int32 → MS → Prop} {u : MS} {st sx r : Nat} {σ' : ASt} (hE : E = eM τ n s L lim C en PL pP G) (hW : HW W τ n s L lim) (hT : TXok τ n) (h : MI W st u) (hEv : Ev E 902000 (1, 0, [], sx, c00, [], st, 0, 0, 0) r σ') (hQ : ∀ u1, MR W σ' u1 → Q (nI r) u1) : P_M_walk (nI sx) u Q := by
  unfold P_M_walk
  have hX := MX_start (z := 0) h (show (0 : Int32) = nI 0 from rfl) (show (0 : Int32) = nI 0 from rfl) (show nI sx = nI sx from rfl) pkC_00.symm
  generalize ms_caps (ms_p (ms_backs (ms_frames u 0) 0) (nI sx)) 0 = v at hX
  refine x_go (mo := 1) (i := 0) (k := 0) (K := []) (nb := 0) (ns := 0) hX ⟨Nat.le_refl _, rfl⟩ (fun u1 h1 => ⟨902000, ?_⟩)
  exact m_walk hE hW hT hQ 902000 _ u1 0 hEv h1 (by decide) 902000 (Nat.le_refl _)
theorem L_seek {Q : Int32 → MS → Prop} {cd sf p' st' : Nat} {c' : ACp} (hE : E = eM τ n s L lim C en PL pP G) (hW : HW W τ n s L lim) (hT : TXok τ n) (hQ : ∀ res u1, SQ W cd sf p' c' st' res u1 → Q res u1) : ∀ (m sx st : Nat) (u : MS) (f : Nat), sx + m = L + 1 → FS E m sx st cd sf p' c' st' → MI W st u → m + 1 ≤ f → L_M_seek_12 Q f (nI sx) u := by
  have hL := hW.2.2.2.2.2.2.1
  have letI' : ∀ {st : Nat} {u : MS}, MI W st u → m_letters u = nI L := fun h => (congrArg (fun b : MBs => b.2.2.2.1) h.1).trans hW.2.2.2.1
  intro m
  induction m with
  | zero =>
    intro sx st u f hs hF hI hf
    obtain ⟨h1, h2⟩ := hF
    cases f with
    | zero => omega
    | succ f =>
      refine ⟨fun _ => hQ _ u (Or.inl ⟨h1, rfl, by rw [h2]; exact hI⟩), fun z => absurd ?_ z⟩
      rw [letI' hI]; exact nI_lt (by omega) (by omega)
  | succ m ih =>
    intro sx st u f hs hF hI hf
    obtain ⟨r, σ', hEv, hF⟩ := hF
    cases f with
    | zero => omega
    | succ f =>
      refine ⟨fun z => absurd z (by rw [letI' hI]; exact nI_nlt (by omega) (by omega)), fun _ => s_walk hE hW hT hI hEv (fun u1 h1 => ?_)⟩
      obtain ⟨mo1, i1, K1, p1, c1, B1, st1, nf1, nb1, ns1⟩ := σ'
      have hX : MX W st1 p1 nf1 c1 B1 u1 := h1.1
      have hI1 : MI W st1 u1 := ⟨hX.1, hX.2.1⟩
      rcases hF with ⟨e, hF⟩ | ⟨e, e1, e2, e3, e4, e5⟩ | ⟨e, e1, e5⟩
      · subst e
        refine ⟨fun z => absurd z (by decide), fun _ => ⟨fun z => absurd z (by decide), fun _ x hx => ?_⟩⟩
        rw [hx, n_1]
        exact ih (sx + 1) st1 u1 f (by omega) hF hI1 (by omega)
      · subst e
        refine ⟨fun z => absurd z (by decide), fun _ => ⟨fun _ => ?_, fun z => absurd rfl z⟩⟩
        have hq := hQ (nI sx) (sRes u1 (nI sx)) (Or.inr (Or.inl ⟨e1, by rw [e2], u1, by rw [e2], by rw [e5]; exact hI1, by rw [e3]; exact hX.2.2.1, by rw [e4]; exact hX.2.2.2.2.2.1⟩))
        exact hq
      · subst e
        exact ⟨fun _ => hQ _ u1 (Or.inr (Or.inr ⟨e1, rfl, by rw [e5]; exact hI1⟩)), fun z => absurd rfl z⟩
end SK
