section PMc
variable (E : AEnv)
def pSet (k : Nat) (s : List PEn × ACp) (a v : Nat) : List PEn × ACp := if s.2 a = v then s else ((k, a, s.2 a, 0) :: s.1, uN s.2 a v)
def pSetL (k : Nat) (f : Nat → Nat) (off : Nat) : List Nat → List PEn × ACp → List PEn × ACp
  | [], s => s
  | j :: js, s => pSetL k f off js (pSet k s (off + j) (f j))
def L29 : List Nat := [2, 3, 4, 5, 6, 7, 8, 9]
def pCall (T : List PEn) (fF cF : ACp) (d pc : Nat) : List PEn × ACp := pSetL 4 cF (10 * d) L29 (pSet 4 (T, fF) (10 * d) (pc + 1))
def pRet (T : List PEn) (fF cF : ACp) (d : Nat) : List PEn × ACp := pSetL 3 (fun k => fF (10 * d + k)) 0 L29 ((6, 0, 0, 0) :: T, cF)
def pClose (T : List PEn) (cF : ACp) (g m p : Nat) : List PEn × ACp := pSet 3 (pSet 3 ((2, m, 0, 0) :: T, cF) (2 * g) (m + 1)) (2 * g + 1) (p + 1)
def nc (e : PEn) : Bool := !decide (e.1 = 0)
def pOk : PMt → PMt → Prop
  | (pc, p, M, T, cF, fF, d, st), π' =>
    (o_ E pc ≤ 3 ∧ st < e_lim E ∧ ∃ p', e_pP E (o_ E pc) (x_ E pc) p cF = some p' ∧ π' = (pc + 1, p', M, T, cF, fF, d, st + 1)) ∨
    (o_ E pc = 4 ∧ st < e_lim E ∧ d < 12 ∧ x_ E pc ≤ 4 ∧ π' = (e_en E (x_ E pc), p, M, (5, 0, 0, 0) :: (pCall T fF cF d pc).1, cF, (pCall T fF cF d pc).2, d + 1, st + 1)) ∨
    (o_ E pc = 5 ∧ st < e_lim E ∧ π' = (pc + 1, p, M, T, cF, fF, d, st + 1)) ∨
    ((o_ E pc = 6 ∨ o_ E pc = 10) ∧ π' = (pc + 1, p, p :: M, (1, 0, 0, 0) :: T, cF, fF, d, st)) ∨
    (o_ E pc = 7 ∧ 1 ≤ x_ E pc ∧ x_ E pc ≤ 4 ∧ ∃ m M', M = m :: M' ∧ m ≤ e_L E ∧ π' = (pc + 1, p, M', (pClose T cF (x_ E pc) m p).1, (pClose T cF (x_ E pc) m p).2, fF, d, st)) ∨
    (o_ E pc = 8 ∧ π' = (x_ E pc, p, M, (0, y_ E pc, p, 0) :: T, cF, fF, d, st)) ∨
    (o_ E pc = 9 ∧ π' = (x_ E pc, p, M, T, cF, fF, d, st)) ∨
    (o_ E pc = 11 ∧ ∃ m M', M = m :: M' ∧ π' = (if m = p then pc + 1 else x_ E pc, p, M', (2, m, 0, 0) :: T, cF, fF, d, st)) ∨
    (o_ E pc = 12 ∧ x_ E pc = 0 ∧ π' = (pc + 1, p, p :: (3 * T.length) :: M, (1, 0, 0, 0) :: (1, 0, 0, 0) :: T, cF, fF, d, st)) ∨
    (o_ E pc = 12 ∧ x_ E pc = 1 ∧ π' = (pc + 1, p, p :: (3 * (T.length + 1)) :: M, (1, 0, 0, 0) :: (1, 0, 0, 0) :: (0, y_ E pc, p, 1) :: T, cF, fF, d, st)) ∨
    (o_ E pc = 13 ∧ ∃ m M' T1 T0, M = m :: (3 * List.length T0) :: M' ∧ T = T1 ++ T0 ∧ π' = (pc + 1, p, M', (2, 3 * T0.length, 0, 0) :: (2, m, 0, 0) :: (T1.filter nc ++ T0), cF, fF, d, st)) ∨
    (o_ E pc = 14 ∧ ∃ m M' T1 T0, M = m :: (3 * List.length T0) :: M' ∧ m ≤ e_L E ∧ T = T1 ++ T0 ∧ π' = (pc + 1, m, M', (2, 3 * T0.length, 0, 0) :: (2, m, 0, 0) :: (T1.filter nc ++ T0), cF, fF, d, st)) ∨
    (o_ E pc = 16 ∧ ∃ d', d = d' + 1 ∧ d ≤ 12 ∧ π' = (fF (10 * d'), p, M, (pRet T fF cF d').1, (pRet T fF cF d').2, fF, d', st))
def pNo : PMt → PMt → Prop
  | (pc, p, M, T, cF, fF, d, st), π' =>
    (o_ E pc ≤ 3 ∧ st < e_lim E ∧ e_pP E (o_ E pc) (x_ E pc) p cF = none ∧ π' = (pc + 1, p, M, T, cF, fF, d, st + 1)) ∨
    (o_ E pc = 4 ∧ st < e_lim E ∧ d = 12 ∧ π' = (pc + 1, p, M, T, cF, fF, d, st + 1)) ∨
    (o_ E pc = 15 ∧ ∃ m M' T1 T0 e, M = m :: (3 * (List.length T0 + 1)) :: M' ∧ e.1 = 0 ∧ T = T1 ++ e :: T0 ∧ π' = (pc + 1, p, M', (2, 3 * (T0.length + 1), 0, 0) :: (2, m, 0, 0) :: (T1.filter nc ++ (7, e.2) :: T0), cF, fF, d, st))
def pUndo (S : Nat → Nat → List Nat → List PEn → ACp → ACp → Nat → Prop) (Z : Prop) : List PEn → List Nat → ACp → ACp → Nat → Prop
  | [], _, _, _, _ => Z
  | (k, a, b, _) :: T, M, cF, fF, d =>
    (k = 0 ∧ S a b M T cF fF d) ∨
    (k = 1 ∧ ∃ m M', M = m :: M' ∧ pUndo S Z T M' cF fF d) ∨
    (k = 2 ∧ a ≤ 500000 ∧ pUndo S Z T (a :: M) cF fF d) ∨
    (k = 3 ∧ 2 ≤ a ∧ a < 10 ∧ pUndo S Z T M (uN cF a b) fF d) ∨
    (k = 4 ∧ a < 120 ∧ b < 2 ^ 20 ∧ pUndo S Z T M cF (uN fF a b) d) ∨
    (k = 5 ∧ ∃ d', d = d' + 1 ∧ pUndo S Z T M cF fF d') ∨
    (k = 6 ∧ pUndo S Z T M cF fF (d + 1)) ∨
    (k = 7 ∧ pUndo S Z T M cF fF d)
def okP : PMt → Prop
  | (pc, p, M, T, cF, fF, d, st) => T.length ≤ 46200 ∧ M.length ≤ 14000 ∧ (∀ m, m ∈ M → m ≤ 500000) ∧ p ≤ e_L E ∧ (∀ a, fF a < 2 ^ 20) ∧ ((∀ a, 2 ≤ a → a < 10 → cF a ≤ 64) ∧ (∀ g, 1 ≤ g → g ≤ 4 → cF (2 * g) = 0 ∨ (cF (2 * g) ≤ cF (2 * g + 1) ∧ cF (2 * g + 1) ≤ e_L E + 1))) ∧ d ≤ 12 ∧ pc < 2 ^ 20 ∧ st ≤ e_lim E
def Pv : Nat → Bool → PMt → Nat → PMt → Prop
  | 0, _, _, _, _ => False
  | N + 1, false, (pc, p, M, T, cF, fF, d, st), r, π' => okP E (pc, p, M, T, cF, fF, d, st) ∧ (
    (o_ E pc = 16 ∧ d = 0 ∧ r = 1 ∧ π' = (pc, p, M, T, cF, fF, d, st)) ∨
    (o_ E pc ≤ 5 ∧ st = e_lim E ∧ r = 2 ∧ π' = (pc, p, M, T, cF, fF, d, st)) ∨
    (∃ π1, pOk E (pc, p, M, T, cF, fF, d, st) π1 ∧ Pv N false π1 r π') ∨
    (∃ π1, pNo E (pc, p, M, T, cF, fF, d, st) π1 ∧ Pv N true π1 r π'))
  | N + 1, true, (pc, p, M, T, cF, fF, d, st), r, π' => okP E (pc, p, M, T, cF, fF, d, st) ∧
    pUndo (fun a b M T cF fF d => Pv N false (a, b, M, T, cF, fF, d, st) r π') (r = 0 ∧ π' = (pc, p, M, T, cF, fF, d, st)) T M cF fF d
def Lead (π1 : PMt) (π : PMt) : Prop := ∀ r π', (∃ N, Pv E N false π1 r π') → ∃ N, Pv E N false π r π'
def LeadF (π1 : PMt) (π : PMt) : Prop := ∀ r π', (∃ N, Pv E N true π1 r π') → ∃ N, Pv E N false π r π'
theorem Lead_refl (π : PMt) : Lead E π π := fun _ _ h => h
theorem Lead_trans {π1 π2 π3 : PMt} (h1 : Lead E π1 π2) (h2 : Lead E π2 π3) : Lead E π1 π3 := fun r π' h => h2 r π' (h1 r π' h)
theorem LeadF_trans {π1 π2 π3 : PMt} (h1 : LeadF E π1 π2) (h2 : Lead E π2 π3) : LeadF E π1 π3 := fun r π' h => h2 r π' (h1 r π' h)
theorem Lead_ok {π1 π : PMt} (h : okP E π) (h1 : pOk E π π1) : Lead E π1 π := by
  intro r π' ⟨N, hN⟩
  obtain ⟨pc, p, M, T, cF, fF, d, st⟩ := π
  exact ⟨N + 1, h, Or.inr (Or.inr (Or.inl ⟨π1, h1, hN⟩))⟩
theorem LeadF_no {π1 π : PMt} (h : okP E π) (h1 : pNo E π π1) : LeadF E π1 π := by
  intro r π' ⟨N, hN⟩
  obtain ⟨pc, p, M, T, cF, fF, d, st⟩ := π
  exact ⟨N + 1, h, Or.inr (Or.inr (Or.inr ⟨π1, h1, hN⟩))⟩
end PMc
