theorem n_sub {a b : Nat} (h : b ≤ a) : nI a - nI b = nI (a - b) := by
  have e : nI a = nI (a - b) + nI b := by rw [nI_add]; congr 1; omega
  rw [e]; exact Int32.add_sub_cancel _ _
def inCF (τ : Nat → Int32) (n : Nat) (x : Int32) : Nat → Nat → Bool → Bool
  | 0, _, is => is
  | f + 1, j, is => if tt τ n j = 93 then is else if n ≤ j then is else if tt τ n (j + 1) = 45 then inCF τ n x f (j + 3) (is || (!decide (x < tt τ n j) && !decide (tt τ n (j + 2) < x))) else inCF τ n x f (j + 1) (is || decide (x = tt τ n j))
def inCl (τ : Nat → Int32) (n i : Nat) (x : Int32) : Bool := if tt τ n (i + 1) = 94 then !(inCF τ n x 40 (i + 2) false) else inCF τ n x 40 (i + 1) false
theorem bI_or (a b : Bool) : bI a ||| bI b = bI (a || b) := by cases a <;> cases b <;> decide
theorem bI_eq {a b : Bool} : bI a = bI b ↔ a = b := by cases a <;> cases b <;> decide
section MP
variable {u : MS} {n : Nat}
theorem L_inClass {Q : Int32 → MS → Prop} {x : Int32} {nt : Bool} (hn : m_length u = nI n) (h32 : n ≤ 32) : ∀ (f j : Nat) (is : Bool), j ≤ 100 → n < j + f → 1 ≤ f → Q (bI (xor (inCF (m_text u) n x f j is) nt)) u → L_M_inClass_36 Q f x (bI nt) (bI is) (nI j) u := by
  intro f
  induction f with
  | zero => intro j is _ _ h; omega
  | succ f ih =>
    intro j is hj hf h1 h
    unfold inCF at h
    have fin : ∀ b : Bool, Q (bI (xor b nt)) u → B_M_inClass_133 Q (bI nt) (bI b) u := by
      intro b hb
      refine ⟨fun e => ?_, fun e => ?_⟩
      · rw [bI_eq] at e; rw [e] at hb; cases nt <;> exact hb
      · rw [bI_eq] at e; revert hb e; cases b <;> cases nt <;> intro hb e
        · exact absurd rfl e
        · exact hb
        · exact hb
        · exact absurd rfl e
    refine s_t hn h32 (by omega) ⟨fun q => ?_, fun q => ?_⟩
    · rw [if_pos q] at h; exact fin is h
    · rw [if_neg q] at h
      refine ⟨fun q2 => ?_, fun q2 => ?_⟩
      · rw [hn, nle (by omega) (by omega)] at q2
        rw [if_pos q2] at h; exact fin is h
      · rw [hn, nle (by omega) (by omega)] at q2
        rw [if_neg q2] at h
        rw [n_1]
        refine s_t hn h32 (by omega) ⟨fun q3 => ?_, fun q3 => ?_⟩
        · rw [if_pos q3] at h
          have go : ∀ b : Bool, b = (!decide (x < tt (m_text u) n j) && !decide (tt (m_text u) n (j + 2) < x)) → B_M_inClass_98 Q (L_M_inClass_36 Q f) x (bI nt) (nI j) (bI is) (bI b) u := by
            intro b hb x4 hx4 x5 hx5 x6 hx6
            rw [bI_or] at hx4
            rw [hx6, hx5, hx4, n_2, n_1]
            rw [← hb] at h
            exact ih (j + 3) _ (by omega) (by omega) (by omega) h
          refine s_t hn h32 (by omega) ⟨fun q4 => ?_, fun q4 => ?_⟩
          · exact go false (by rw [decide_eq_true q4]; rfl)
          · rw [n_2]
            refine s_t hn h32 (by omega) ⟨fun q5 => ?_, fun q5 => ?_⟩
            · exact go false (by rw [decide_eq_true q5, decide_eq_false q4]; rfl)
            · exact go true (by rw [decide_eq_false q5, decide_eq_false q4]; rfl)
        · rw [if_neg q3] at h
          have go : ∀ b : Bool, b = decide (x = tt (m_text u) n j) → B_M_inClass_124 Q (L_M_inClass_36 Q f) x (bI nt) (nI j) (bI is) (bI b) u := by
            intro b hb x4 hx4 x6 hx6
            rw [bI_or] at hx4
            rw [hx6, hx4, n_1]
            rw [← hb] at h
            exact ih (j + 1) _ (by omega) (by omega) (by omega) h
          refine s_t hn h32 (by omega) ⟨fun q4 => ?_, fun q4 => ?_⟩
          · exact go true (by rw [decide_eq_true q4])
          · exact go false (by rw [decide_eq_false q4])
theorem s_inClass {Q : Int32 → MS → Prop} {i : Nat} {x : Int32} (hn : m_length u = nI n) (h32 : n ≤ 32) (hi : i ≤ 32) (h : Q (bI (inCl (m_text u) n i x)) u) : P_M_inClass (nI i) x u Q := by
  unfold P_M_inClass
  rw [n_1]
  unfold inCl at h
  refine s_t hn h32 (by omega) ⟨fun q => ?_, fun q => ?_⟩
  · rw [if_pos q] at h
    refine ⟨fun e => absurd e (by decide), fun _ => ⟨40, ?_⟩⟩
    rw [n_2]
    exact L_inClass (nt := true) hn h32 40 (i + 2) false (by omega) (by omega) (by omega) (by rw [Bool.xor_true]; exact h)
  · rw [if_neg q] at h
    refine ⟨fun _ => ⟨40, ?_⟩, fun e => absurd rfl e⟩
    rw [n_1]
    exact L_inClass (nt := false) hn h32 40 (i + 1) false (by omega) (by omega) (by omega) (by rw [Bool.xor_false]; exact h)
def accT (τ : Nat → Int32) (n i : Nat) (x : Int32) : Bool := decide (tt τ n i = 46) || (if tt τ n i = 91 then inCl τ n i x else decide (tt τ n i = x))
def repF (s : Nat → Int32) (L v p : Nat) : Option Nat := if v = 0 then none else if p + (v % 64 - v / 64) ≤ L then (if ∀ j, j < v % 64 - v / 64 → s (v / 64 - 1 + j) = s (p + j) then some (p + (v % 64 - v / 64)) else none) else none
def plF (τ : Nat → Int32) (n : Nat) (s : Nat → Int32) (L i p : Nat) (c : ACp) : Option Nat :=
  if tt τ n i = 94 then (if p = 0 then some p else none) else if tt τ n i = 36 then (if p = L then some p else none)
  else if tt τ n i = 92 then repF s L (c ((tt τ n (i + 1)).toNatClampNeg - 48)) p
  else if p < L ∧ accT τ n i (s p) = true then some (p + 1) else none
theorem L_repeats {Q : Int32 → MS → Prop} {a p len L : Nat} (hp : m_p u = nI p) (ha : a + len ≤ L) (hpl : p + len ≤ L) (hL : L ≤ 40) : ∀ (f j : Nat), j ≤ len → len < j + f → ((∀ k, j ≤ k → k < len → m_subject u (a + k) = m_subject u (p + k)) → Q 1 (ms_p u (nI (p + len)))) → (¬ (∀ k, j ≤ k → k < len → m_subject u (a + k) = m_subject u (p + k)) → Q 0 u) → L_M_repeats_48 Q f (nI a) (nI len) (nI j) u := by
  intro f
  induction f with
  | zero => intro j h1 h2; omega
  | succ f ih =>
    intro j h1 h2 hy hn
    refine ⟨fun q => ?_, fun q => ?_⟩
    · rw [nle (by omega) (by omega)] at q
      rw [hp, nI_add]
      exact hy (fun k h3 h4 => by omega)
    · rw [nle (by omega) (by omega)] at q
      rw [hp, nI_add, nI_add]
      refine ⟨vp_in_nI (by omega) (by omega), vp_in_nI (by omega) (by omega), ?_⟩
      rw [nI_clamp (by omega), nI_clamp (by omega)]
      refine ⟨fun e x hx => ?_, fun e => ?_⟩
      · rw [hx, n_1]
        refine ih (j + 1) (by omega) (by omega) (fun hk => hy (fun k h3 h4 => ?_)) (fun hk => hn (fun hk2 => hk (fun k h3 h4 => hk2 k (by omega) h4)))
        by_cases hkj : k = j
        · rw [hkj]; exact e
        · exact hk k (by omega) h4
      · exact hn (fun hk => e (hk j (Nat.le_refl _) (by omega)))
theorem s_repeats {Q : Int32 → MS → Prop} {c : ACp} {g p L : Nat} (hc : cOK c) (hcg : CGd L c) (hL : L ≤ 40) (hl : m_letters u = nI L) (hp : m_p u = nI p) (hpL : p ≤ L) (hcap : m_caps u = pkC c) (h1 : 1 ≤ g) (h4 : g ≤ 4) (hs : ∀ p', repF (m_subject u) L (c g) p = some p' → Q 1 (ms_p u (nI p'))) (hn : repF (m_subject u) L (c g) p = none → Q 0 u) : P_M_repeats (nI g) u Q := by
  unfold P_M_repeats
  rw [hcap]
  refine s_capture (e := false) hc h1 h4 ?_
  show P_M_capture (m_caps u) (nI g) 1 u _
  rw [hcap]
  refine s_capture (e := true) hc h1 h4 ?_
  intro x3 hx3
  unfold repF at hs hn
  have hg := hcg g
  by_cases h0 : c g = 0
  · rw [if_pos h0] at hn
    have e1 : capI (c g) false = -6 := by unfold capI; rw [if_pos h0]
    exact ⟨fun _ => hn rfl, fun q => absurd e1 q⟩
  · rw [if_neg h0] at hs hn
    have e1 : capI (c g) false = nI (c g / 64 - 1) := by
      unfold capI; rw [if_neg h0]
      show nI (c g / 64) - 1 = _
      rw [show c g / 64 = (c g / 64 - 1) + 1 by omega, nI_pred]; congr 1
    have e2 : capI (c g) true = nI (c g % 64 - 1) := by
      unfold capI; rw [if_neg h0]
      show nI (c g % 64) - 1 = _
      rw [show c g % 64 = (c g % 64 - 1) + 1 by omega, nI_pred]; congr 1
    rw [e1, e2, n_sub (by omega)] at hx3
    have e3 : c g % 64 - 1 - (c g / 64 - 1) = c g % 64 - c g / 64 := by omega
    rw [e3] at hx3
    rw [e1]
    refine ⟨fun q => absurd q ?_, fun _ => ?_⟩
    · intro q
      have := congrArg Int32.toInt q
      rw [nI_toInt (by omega)] at this
      have e6 : (-6 : Int32).toInt = -6 := by decide
      rw [e6] at this; omega
    · rw [hx3, hp, hl, nI_add]
      refine ⟨fun q => ?_, fun q => ?_⟩
      · rw [nle (by omega) (by omega)] at q
        rw [if_pos q] at hs hn
        refine ⟨41, L_repeats (L := L) hp (by omega) q hL 41 0 (by omega) (by omega) (fun hk => ?_) (fun hk => ?_)⟩
        · rw [if_pos (fun j hj => hk j (by omega) hj)] at hs
          exact hs _ rfl
        · rw [if_neg (fun hk2 => hk (fun j _ hj => hk2 j hj))] at hn
          exact hn rfl
      · rw [nle (by omega) (by omega)] at q
        rw [if_neg q] at hn
        exact hn rfl
theorem s_takes {Q : Int32 → MS → Prop} {i p L : Nat} (hn : m_length u = nI n) (h32 : n ≤ 32) (hi : i ≤ 32) (hL : L ≤ 40) (hl : m_letters u = nI L) (hp : m_p u = nI p) (hpL : p ≤ L) (hs : p < L ∧ accT (m_text u) n i (m_subject u p) = true → Q 1 (ms_p u (nI (p + 1)))) (hno : ¬ (p < L ∧ accT (m_text u) n i (m_subject u p) = true) → Q 0 u) : P_M_takesLetter (nI i) u (fun r v => isB r ∧ Q r v) := by
  unfold P_M_takesLetter
  rw [hp, hl]
  have yes : p < L → accT (m_text u) n i (m_subject u p) = true → B_M_takesLetter_64 (fun r v => isB r ∧ Q r v) u := by
    intro h1 h2
    refine ⟨fun e => absurd e (by decide), fun _ => ?_⟩
    have hb : isB (1 : Int32) := by first | exact Or.inr rfl | exact Or.inl rfl | decide
    refine ⟨hb, hb, ?_⟩
    rw [hp, n_1]; exact hs ⟨h1, h2⟩
  have nay : accT (m_text u) n i (m_subject u p) = false → B_M_takesLetter_68 (fun r v => isB r ∧ Q r v) u := by
    intro h2
    have hb : isB (0 : Int32) := by first | exact Or.inr rfl | exact Or.inl rfl | decide
    exact ⟨fun _ => ⟨hb, hb, hno (fun q => by rw [h2] at q; exact absurd q.2 (by decide))⟩, fun e => absurd rfl e⟩
  refine ⟨fun q => ?_, fun q => ?_⟩
  · rw [nlt (by omega) (by omega)] at q
    refine ⟨vp_in_nI (by omega) (by omega), fun x hx => ?_⟩
    rw [nI_clamp (by omega)] at hx
    rw [hx]
    refine s_t hn h32 (by omega) ⟨fun q2 => ?_, fun q2 => ?_⟩
    · exact yes q (by unfold accT; rw [decide_eq_true q2]; rfl)
    · refine s_t hn h32 (by omega) ⟨fun q3 => ?_, fun q3 => ?_⟩
      · refine s_inClass hn h32 hi ?_
        have ea : accT (m_text u) n i (m_subject u p) = inCl (m_text u) n i (m_subject u p) := by
          unfold accT; rw [decide_eq_false q2, if_pos q3]; rfl
        cases hb : inCl (m_text u) n i (m_subject u p) with
        | true => exact ⟨fun e => absurd e (by decide), fun _ => yes q (by rw [ea, hb])⟩
        | false => exact ⟨fun _ => nay (by rw [ea, hb]), fun e => absurd rfl e⟩
      · refine s_t hn h32 (by omega) ⟨fun q4 => ?_, fun q4 => ?_⟩
        · exact yes q (by unfold accT; rw [if_neg q3, decide_eq_true q4, Bool.or_true])
        · exact nay (by unfold accT; rw [if_neg q3, decide_eq_false q4, decide_eq_false q2]; rfl)
  · rw [nlt (by omega) (by omega)] at q
    have hb : isB (0 : Int32) := by first | exact Or.inr rfl | exact Or.inl rfl | decide
    exact ⟨hb, hno (fun h => q h.1)⟩
theorem s_plain {Q : Int32 → MS → Prop} {i p L : Nat} {c : ACp} (hn : m_length u = nI n) (h32 : n ≤ 32) (hi : i ≤ 32) (hc : cOK c) (hcg : CGd L c) (hL : L ≤ 40) (hl : m_letters u = nI L) (hp : m_p u = nI p) (hpL : p ≤ L) (hcap : m_caps u = pkC c) (hbr : tt (m_text u) n i = 92 → ∃ g, 1 ≤ g ∧ g ≤ 4 ∧ tt (m_text u) n (i + 1) = nI (g + 48)) (hs : ∀ p', plF (m_text u) n (m_subject u) L i p c = some p' → Q 1 (ms_p u (nI p'))) (hno : plF (m_text u) n (m_subject u) L i p c = none → Q 0 u) : P_M_plain (nI i) u Q := by
  unfold P_M_plain
  unfold plF at hs hno
  have hup : ms_p u (nI p) = u := by rw [← hp]
  refine s_t hn h32 (by omega) ⟨fun q => ?_, fun q => ?_⟩
  · rw [if_pos q] at hs hno
    rw [hp]
    refine ⟨fun q2 => ?_, fun q2 => ?_⟩
    · have q2 : p = 0 := (neq (b := 0) (by omega) (by omega)).mp q2
      rw [if_pos q2] at hs
      have := hs p rfl
      rw [hup] at this; exact this
    · rw [if_neg (fun e => q2 (by rw [e]; rfl))] at hno
      exact hno rfl
  · rw [if_neg q] at hs hno
    refine s_t hn h32 (by omega) ⟨fun q2 => ?_, fun q2 => ?_⟩
    · rw [if_pos q2] at hs hno
      rw [hp, hl]
      refine ⟨fun q3 => ?_, fun q3 => ?_⟩
      · rw [neq (by omega) (by omega)] at q3
        rw [if_pos q3] at hs
        have := hs p rfl
        rw [hup] at this; exact this
      · rw [neq (by omega) (by omega)] at q3
        rw [if_neg q3] at hno
        exact hno rfl
    · rw [if_neg q2] at hs hno
      refine s_t hn h32 (by omega) ⟨fun q3 => ?_, fun q3 => ?_⟩
      · rw [if_pos q3] at hs hno
        rw [n_1]
        obtain ⟨g, g1, g4, hg⟩ := hbr q3
        refine s_t hn h32 (by omega) ?_
        rw [hg] at hs hno ⊢
        rw [nI_clamp (by omega), Nat.add_sub_cancel] at hs hno
        have e48 : nI (g + 48) - 48 = nI g := by
          rw [show (48 : Int32) = nI 48 from rfl, n_sub (by omega)]; congr 1
        rw [e48]
        have hb1 : isB (1 : Int32) := by first | exact Or.inr rfl | exact Or.inl rfl | decide
        have hb0 : isB (0 : Int32) := by first | exact Or.inr rfl | exact Or.inl rfl | decide
        exact s_repeats hc hcg hL hl hp hpL hcap g1 g4 (fun p' hp' => ⟨hb1, hs p' hp'⟩) (fun h => ⟨hb0, hno h⟩)
      · rw [if_neg q3] at hs hno
        refine s_takes hn h32 hi hL hl hp hpL (fun h => ?_) (fun h => ?_)
        · rw [if_pos h] at hs; exact hs _ rfl
        · rw [if_neg h] at hno; exact hno rfl
end MP
