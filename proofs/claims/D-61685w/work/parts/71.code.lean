section CR
variable (E : AEnv)
def o_ (pc : Nat) : Nat := (e_C E pc).1
def x_ (pc : Nat) : Nat := (e_C E pc).2.1
def y_ (pc : Nat) : Nat := (e_C E pc).2.2
variable (cr : Nat → Nat → Nat → Nat → Prop)
def cParen (pc q i e : Nat) : Prop :=
  (aKd E i = 0 ∧ 1 ≤ e_gA E i ∧ e_gA E i ≤ 4 ∧ o_ E pc = 5 ∧ o_ E (pc + 1) = 6 ∧ ∃ r j, cr (pc + 2) r (i + 1) j ∧ j + 1 = e ∧ o_ E r = 7 ∧ x_ E r = e_gA E i ∧ q = r + 1) ∨
  (aKd E i = 1 ∧ o_ E pc = 5 ∧ ∃ j, cr (pc + 1) q (i + 3) j ∧ j + 1 = e) ∨
  (aKd E i = 2 ∧ o_ E pc = 5 ∧ o_ E (pc + 1) = 12 ∧ x_ E (pc + 1) = 0 ∧ ∃ r j, cr (pc + 2) r (i + 3) j ∧ j + 1 = e ∧ o_ E r = 13 ∧ q = r + 1) ∨
  (aKd E i = 3 ∧ o_ E pc = 5 ∧ o_ E (pc + 1) = 12 ∧ x_ E (pc + 1) = 0 ∧ ∃ r j, cr (pc + 2) r (i + 3) j ∧ j + 1 = e ∧ o_ E r = 14 ∧ q = r + 1) ∨
  (aKd E i = 4 ∧ o_ E pc = 5 ∧ o_ E (pc + 1) = 12 ∧ x_ E (pc + 1) = 1 ∧ y_ E (pc + 1) = q ∧ ∃ r j, cr (pc + 2) r (i + 3) j ∧ j + 1 = e ∧ o_ E r = 15 ∧ q = r + 1) ∨
  (aKd E i = 5 ∧ o_ E pc = 4 ∧ x_ E pc = aCn E i ∧ aCn E i ≤ e_G E ∧ q = pc + 1)
def cAtom (pc q i e : Nat) : Prop :=
  e = e_bA E i ∧ i < e ∧ e ≤ e_n E ∧ pc < q ∧ ((e_t E i ≠ 40 ∧ q = pc + 1 ∧ o_ E pc ≤ 3 ∧ e_PL E i (o_ E pc) (x_ E pc)) ∨ (e_t E i = 40 ∧ cParen E cr pc q i e))
def cStar (lz : Bool) (pc q i e : Nat) : Prop :=
  o_ E pc = 8 ∧ (lz = false → x_ E pc = pc + 1 ∧ y_ E pc = q) ∧ (lz = true → x_ E pc = q ∧ y_ E pc = pc + 1) ∧ o_ E (pc + 1) = 10 ∧ ∃ r, cAtom E cr (pc + 2) r i e ∧ o_ E r = 11 ∧ x_ E r = pc ∧ q = r + 1
def cTimes (i e : Nat) : Nat → Nat → Nat → Prop
  | 0, pc, q => pc = q
  | m + 1, pc, q => ∃ r, cAtom E cr pc r i e ∧ cTimes i e m r q
def cCore (pc q i : Nat) : Prop :=
  (iK E i = 1 ∧ cStar E cr (decide (iHow E i = 63)) pc q i (e_bA E i)) ∨
  (iK E i = 2 ∧ ∃ r, cAtom E cr pc r i (e_bA E i) ∧ cStar E cr (decide (iHow E i = 63)) r q i (e_bA E i)) ∨
  (iK E i = 4 ∧ iTm E i ≤ 8 ∧ cTimes E cr i (e_bA E i) (iTm E i + 1) pc q) ∨
  (iK E i = 3 ∧ o_ E pc = 8 ∧ (iHow E i ≠ 63 → x_ E pc = pc + 1 ∧ y_ E pc = q) ∧ (iHow E i = 63 → x_ E pc = q ∧ y_ E pc = pc + 1) ∧ cAtom E cr (pc + 1) q i (e_bA E i)) ∨
  (iK E i = 0 ∧ cAtom E cr pc q i (e_bA E i))
def cItem (pc q i : Nat) : Prop :=
  i < e_bA E i ∧ iBeh E i ≤ e_n E ∧
  ((iSkip E i = true ∧ ((iHow E i = 43 ∧ o_ E pc = 12 ∧ x_ E pc = 0 ∧ o_ E (pc + 1) = 13 ∧ q = pc + 2) ∨ (iHow E i ≠ 43 ∧ q = pc))) ∨
   (iSkip E i = false ∧ ((iHow E i = 43 ∧ o_ E pc = 12 ∧ x_ E pc = 0 ∧ ∃ r, cCore E cr (pc + 1) r i ∧ o_ E r = 13 ∧ q = r + 1) ∨ (iHow E i ≠ 43 ∧ cCore E cr pc q i))))
def cRow : Nat → Nat → Nat → Nat → Nat → Prop
  | 0, _, _, _, _ => False
  | f + 1, pc, q, i, j => (e_rE E i = true ∧ pc = q ∧ j = i ∧ i ≤ e_n E) ∨ (e_rE E i = false ∧ ∃ r, cItem E cr pc r i ∧ cRow f r q (iBeh E i) j)
def cCho : Nat → Nat → Nat → Nat → Nat → Prop
  | 0, _, _, _, _ => False
  | f + 1, pc, q, i, j => (e_nr E i = none ∧ ∃ g, cRow E cr g pc q i j) ∨
    (∃ r j1, e_nr E i = some (j1 + 1) ∧ o_ E pc = 8 ∧ x_ E pc = pc + 1 ∧ y_ E pc = r + 1 ∧ (∃ g, cRow E cr g (pc + 1) r i j1) ∧ o_ E r = 9 ∧ x_ E r = q ∧ cCho f (r + 1) q (j1 + 1) j)
end CR
section CR2
variable (E : AEnv)
def cC : Nat → Nat → Nat → Nat → Nat → Prop
  | 0, _, _, _, _ => False
  | F + 1, pc, q, i, j => ∃ f, cCho E (cC F) f pc q i j
def XC (pc q i j : Nat) : Prop := ∃ F f, cCho E (cC E F) f pc q i j
def XR (pc q i j : Nat) : Prop := ∃ F f, cRow E (cC E F) f pc q i j
def XA (pc q i e : Nat) : Prop := ∃ F, cAtom E (cC E F) pc q i e
def XS (lz : Bool) (pc q i e : Nat) : Prop := ∃ F, cStar E (cC E F) lz pc q i e
def XT (m pc q i e : Nat) : Prop := ∃ F, cTimes E (cC E F) i e m pc q
def goN : Nat → Nat → Nat → Prop
  | 0, a, b => a = b
  | k + 1, a, b => o_ E a = 9 ∧ goN k (x_ E a) b
def nch : List PEn → Nat
  | [] => 0
  | (k, _, _, _) :: T => (if k = 0 then 1 else 0) + nch T
def fCells (fF : ACp) (d : Nat) (c : ACp) : Prop := ∀ g, 1 ≤ g → g ≤ 4 → fF (10 * d + 2 * g) = c g / 64 ∧ fF (10 * d + 2 * g + 1) = c g % 64
def RK : List AFr → Nat → Nat → List Nat → ACp → Nat → List PEn → Prop
  | [], x, pc, M, _, d, _ => x ≤ 3 * e_n E + 2 ∧ ∃ k a, goN E k pc a ∧ o_ E a = 16 ∧ d = 0 ∧ M = []
  | (k, w, m, kp) :: K, x, pc, M, fF, d, T => x ≤ 3 * e_n E + 2 ∧ ∃ h a, goN E h pc a ∧ (
    (k = 1 ∧ x ≤ 3 * w ∧ w ≤ e_n E ∧ m = 0 ∧ ∃ q j y, XR E a q w j ∧ 3 * j + 2 ≤ y ∧ RK K y q M fF d T) ∨
    (k = 2 ∧ 1 ≤ w ∧ w ≤ 4 ∧ m ≤ e_L E ∧ o_ E a = 7 ∧ x_ E a = w ∧ ∃ M' y, M = m :: M' ∧ x < y ∧ RK K y (a + 1) M' fF d T) ∨
    (k = 3 ∧ w = 0 ∧ m ≤ e_lim E ∧ o_ E a = 16 ∧ ∃ d' y, d = d' + 1 ∧ fCells fF d' kp ∧ RK K y (fF (10 * d')) M fF d' T) ∨
    ((k = 4 ∨ k = 5) ∧ w ≤ e_n E ∧ m ≤ e_L E ∧ o_ E a = 11 ∧ ∃ q e y M', M = m :: M' ∧ XS E (decide (k = 5)) (x_ E a) q w e ∧ a + 1 = q ∧ x + 1 < y ∧ 3 * e + 1 < y ∧ RK K y q M' fF d T) ∨
    (k = 6 ∧ w ≤ e_n E ∧ m ≤ 8 ∧ ∃ q e y, XT E m a q w e ∧ 3 * e < y ∧ x < y ∧ RK K y q M fF d T) ∨
    (k = 7 ∧ w = 0 ∧ o_ E a = 13 ∧ ∃ v M' T1 T0 y, v ≤ e_L E ∧ M = v :: (3 * T0.length) :: M' ∧ T = T1 ++ T0 ∧ nch T0 = m ∧ x < y ∧ RK K y (a + 1) M' fF d T0) ∨
    (k = 8 ∧ w ≤ e_L E ∧ o_ E a = 14 ∧ ∃ M' T1 T0 y, M = w :: (3 * T0.length) :: M' ∧ T = T1 ++ T0 ∧ nch T0 = m ∧ x < y ∧ RK K y (a + 1) M' fF d T0) ∨
    (k = 9 ∧ w = 0 ∧ o_ E a = 15 ∧ ∃ v M' T1 T0 b1 b2 r y, v ≤ e_L E ∧ M = v :: (3 * (T0.length + 1)) :: M' ∧ T = T1 ++ (0, b1, b2, 1) :: T0 ∧ nch T0 = m ∧ RK K y r M' fF d T0) ∨
    ((k = 10 ∨ k = 11) ∧ w ≤ e_n E ∧ m = 0 ∧ ∃ q e y, XS E (decide (k = 11)) a q w e ∧ x + 1 < y ∧ 3 * e + 1 < y ∧ RK K y q M fF d T))
def CRl (cF : ACp) (c : ACp) : Prop := ∀ g, 1 ≤ g → g ≤ 4 → cF (2 * g) = c g / 64 ∧ cF (2 * g + 1) = c g % 64
def pcK : List AFr → Nat
  | [] => 0
  | (k, _, _, _) :: K => (if k = 2 then 3 else if k = 3 then 9 else if k = 4 ∨ k = 5 then 1 else if 7 ≤ k ∧ k ≤ 9 then 2 else 0) + pcK K
def RS (mo i x pc p : Nat) (M : List Nat) (cF fF : ACp) (d : Nat) (T : List PEn) (K : List AFr) (c : ACp) (nf nb ns : Nat) : Prop :=
  CRl cF c ∧ T.length + pcK K ≤ 4 * nf + nb + 4 * ns ∧ i ≤ e_n E ∧ x ≤ 3 * e_n E + 2 ∧ d ≤ 12 ∧ (
  (mo = 0 ∧ x = 3 * i + 1 ∧ ∃ q j y, XR E pc q i j ∧ 3 * j + 2 ≤ y ∧ RK E K y q M fF d T) ∨
  (mo = 1 ∧ x = 3 * i ∧ ∃ q j y, XC E pc q i j ∧ 3 * j + 2 ≤ y ∧ RK E K y q M fF d T) ∨
  (mo = 2 ∧ ∃ q e, XA E pc q i e ∧ RK E K (3 * e) q M fF d T) ∨
  (mo = 2 ∧ o_ E pc = 10 ∧ T.length + 1 + pcK K ≤ 4 * nf + nb + 4 * ns ∧ ∃ q e, XA E (pc + 1) q i e ∧ RK E K (3 * e) q (p :: M) fF d ((1, 0, 0, 0) :: T)) ∨
  (mo = 3 ∧ ∃ q e y, XS E false pc q i e ∧ 3 * e + 1 < y ∧ RK E K y q M fF d T) ∨
  (mo = 4 ∧ ∃ q e y, XS E true pc q i e ∧ x < y ∧ 3 * e + 1 < y ∧ RK E K y q M fF d T) ∨
  (mo = 5 ∧ RK E K x pc M fF d T))
def RT : List PEn → List ABk → List Nat → ACp → ACp → Nat → Prop
  | [], B, _, _, _, _ => B = []
  | (k, a, b, gh) :: T, B, M, cF, fF, d =>
    (k = 0 ∧ ∃ mo i K c nf nb ns B', B = (mo, i, b, K, c, gh, nf, nb, ns) :: B' ∧ gh ≤ 1 ∧ (∃ x, RS E mo i x a b M cF fF d T K c nf nb ns) ∧ RT T B' M cF fF d) ∨
    (k = 1 ∧ ∃ m M', M = m :: M' ∧ RT T B M' cF fF d) ∨
    (k = 2 ∧ a ≤ 500000 ∧ RT T B (a :: M) cF fF d) ∨
    (k = 3 ∧ 2 ≤ a ∧ a < 10 ∧ RT T B M (uN cF a b) fF d) ∨
    (k = 4 ∧ a < 120 ∧ b < 2 ^ 20 ∧ RT T B M cF (uN fF a b) d) ∨
    (k = 5 ∧ ∃ d', d = d' + 1 ∧ RT T B M cF fF d') ∨
    (k = 6 ∧ RT T B M cF fF (d + 1)) ∨
    (k = 7 ∧ RT T B M cF fF d)
end CR2
