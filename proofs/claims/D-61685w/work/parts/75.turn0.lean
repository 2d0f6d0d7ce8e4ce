def CGd (L : Nat) (c : ACp) : Prop := ∀ g, c g = 0 ∨ (1 ≤ c g / 64 ∧ c g / 64 ≤ c g % 64 ∧ c g % 64 ≤ L + 1 ∧ c g < 4096)
def EH (E : AEnv) : Prop :=
  (∀ pc, o_ E pc ≤ 16 → pc < 2 ^ 19) ∧
  (e_G E ≤ 4 ∧ ∀ g, g ≤ e_G E → e_cO E g ≤ e_n E ∧ ∃ q j, XC E (e_en E g) q (e_cO E g) j ∧ o_ E q = 16) ∧
  (∀ i op x, e_PL E i op x → ∀ p c cF, CRl cF c → CGd (e_L E) c → p ≤ e_L E → e_pP E op x p cF = e_pl E i p c) ∧
  (∀ i p c p', CGd (e_L E) c → p ≤ e_L E → e_pl E i p c = some p' → p ≤ p' ∧ p' ≤ e_L E) ∧
  e_n E ≤ 32 ∧ e_L E ≤ 40 ∧ e_lim E ≤ 300
def NBd (E : AEnv) (K : List AFr) (p : Nat) (c : ACp) (st nf nb ns : Nat) : Prop := 4 * nf + nb + 4 * ns ≤ 46100 ∧ K.length ≤ 6950 ∧ p ≤ e_L E ∧ CGd (e_L E) c ∧ st ≤ e_lim E
def bm (E : AEnv) (mo x d : Nat) : Nat := if mo = 2 then 0 else if mo = 3 then 1 else if mo = 6 then 1500 else 3 * e_n E + 3 - x + 110 * d
def meas (E : AEnv) (x : Nat) : ASt → Nat
  | (mo, _, K, _, _, B, st, _, _, _) => (2 * (e_lim E - st) + flB B) * 1500 + bm E mo x (aCalls K)
def RR (E : AEnv) (x : Nat) (ph : Bool) : ASt → PMt → Prop
  | (mo, i, K, p, c, B, st, nf, nb, ns), (pc, p', M, T, cF, fF, d, st') => st' = st ∧ RT E T B M cF fF d ∧ (∀ a, fF a < 2 ^ 20) ∧ ((mo = 6 ∧ ph = true ∧ okP E (pc, p', M, T, cF, fF, d, st')) ∨ (mo ≠ 6 ∧ ph = false ∧ p' = p ∧ RS E mo i x pc p M cF fF d T K c nf nb ns))
section T0
variable {E : AEnv}
theorem okP_of {K : List AFr} {x q : Nat} {M : List Nat} {cF fF : ACp} {d : Nat} {T : List PEn} {p st : Nat} {c : ACp} (hE : EH E) (hT : T.length ≤ 46200) (hK : RK E K x q M fF d T) (hl : K.length ≤ 6990) (hp : p ≤ e_L E) (hf : ∀ a, fF a < 2 ^ 20) (hc : CRl cF c) (hg : CGd (e_L E) c) (hd : d ≤ 12) (hs : st ≤ e_lim E) : ∀ pc, o_ E pc ≤ 16 → okP E (pc, p, M, T, cF, fF, d, st) := by
  intro pc ho
  obtain ⟨h1, h2, h3, h4, h5, h6, h7⟩ := hE
  refine ⟨hT, by have := RK_len hK; omega, RK_M (by omega) hK, hp, hf, ⟨?_, ?_⟩, hd, by have := h1 pc ho; omega, hs⟩
  rotate_left
  · intro g g1 g4
    have hc := hc g g1 g4
    have hg := hg g
    rw [hc.1, hc.2]; omega
  intro a a2 a10
  have hc := hc (a / 2) (by omega) (by omega)
  have hg := hg (a / 2)
  by_cases q : a % 2 = 0
  · rw [show a = 2 * (a / 2) by omega, hc.1]; omega
  · rw [show a = 2 * (a / 2) + 1 by omega, hc.2]; omega
theorem Lead_go {p : Nat} {M : List Nat} {T : List PEn} {cF fF : ACp} {d st : Nat} (hok : ∀ pc, o_ E pc ≤ 16 → okP E (pc, p, M, T, cF, fF, d, st)) : ∀ (k pc a : Nat), goN E k pc a → Lead E (a, p, M, T, cF, fF, d, st) (pc, p, M, T, cF, fF, d, st) := by
  intro k
  induction k with
  | zero => intro pc a h; have h : pc = a := h; rw [h]; exact Lead_refl E _
  | succ k ih =>
    intro pc a ⟨h1, h2⟩
    exact Lead_trans E (ih _ _ h2) (Lead_ok E (hok pc (by omega)) (Or.inr (Or.inr (Or.inr (Or.inr (Or.inr (Or.inr (Or.inl ⟨h1, rfl⟩))))))))
theorem coreT {F pc q i x y p st nf nb ns d : Nat} {K : List AFr} {M : List Nat} {T : List PEn} {cF fF c : ACp} {B : List ABk} (hc : cCore E (cC E F) pc q i) (hi : i ≤ e_n E) (hib : i < e_bA E i) (hk : RK E K y q M fF d T) (hy0 : iK E i = 0 → y = 3 * e_bA E i) (hy1 : iK E i ≠ 0 → 3 * e_bA E i + 3 ≤ y) (hx : x ≤ 3 * i + 1) (hC : CRl cF c) (hT : T.length + pcK K ≤ 4 * nf + nb + 4 * ns) (hd : d ≤ 12) (hRT : RT E T B M cF fF d) (hf : ∀ a, fF a < 2 ^ 20) (hok : ∀ pc, o_ E pc ≤ 16 → okP E (pc, p, M, T, cF, fF, d, st)) :
    ∃ x' π', RR E x' false (aItem2 E i K p c B st nf nb ns) π' ∧ Lead E π' (pc, p, M, T, cF, fF, d, st) ∧ meas E x' (aItem2 E i K p c B st nf nb ns) < (2 * (e_lim E - st) + flB B) * 1500 + (3 * e_n E + 3 - x + 110 * d) := by
  have hcal := RK_calls hk
  have hyn := RK_x hk
  unfold aItem2
  rcases hc with ⟨k1, h⟩ | ⟨k2, r, h1, h2⟩ | ⟨k4, ht, r, h1, h2⟩ | ⟨k3, h1, h2, h3, h4⟩ | ⟨k0, h⟩
  · rw [if_pos k1]
    by_cases hw : iHow E i = 63
    · rw [if_pos hw]
      have hy := hy1 (by omega)
      refine ⟨3 * i + 2, _, ⟨rfl, hRT, hf, Or.inr ⟨by decide, rfl, rfl, hC, hT, hi, by omega, hd, Or.inr (Or.inr (Or.inr (Or.inr (Or.inr (Or.inl ⟨rfl, q, e_bA E i, y, ⟨F, ?_⟩, by omega, by omega, hk⟩)))))⟩⟩, Lead_refl E _, ?_⟩
      · rw [decide_eq_true hw] at h; exact h
      · show _ * 1500 + bm E 4 (3 * i + 2) (aCalls K) < _
        rw [hcal]; unfold bm; rw [if_neg (by decide), if_neg (by decide), if_neg (by decide)]; omega
    · rw [if_neg hw]
      have hy := hy1 (by omega)
      refine ⟨0, _, ⟨rfl, hRT, hf, Or.inr ⟨by decide, rfl, rfl, hC, hT, hi, by omega, hd, Or.inr (Or.inr (Or.inr (Or.inr (Or.inl ⟨rfl, q, e_bA E i, y, ⟨F, ?_⟩, by omega, hk⟩))))⟩⟩, Lead_refl E _, ?_⟩
      · rw [decide_eq_false hw] at h; exact h
      · show _ * 1500 + bm E 3 0 (aCalls K) < _
        unfold bm; rw [if_neg (by decide), if_pos rfl]; omega
  · rw [if_neg (by omega), if_pos k2]
    have hy := hy1 (by omega)
    have he := h1.2.2.1
    have h1' := h1
    refine ⟨0, _, ⟨rfl, hRT, hf, Or.inr ⟨by decide, rfl, rfl, hC, ?_, hi, by omega, hd, Or.inr (Or.inr (Or.inl ⟨rfl, r, e_bA E i, ⟨F, h1⟩, ?_⟩))⟩⟩, Lead_refl E _, ?_⟩
    · show T.length + ((if _ = 2 then 3 else _) + pcK K) ≤ _
      by_cases hw : iHow E i = 63
      · rw [if_pos hw]; simp; omega
      · rw [if_neg hw]; simp; omega
    · refine ⟨by omega, 0, r, rfl, Or.inr (Or.inr (Or.inr (Or.inr (Or.inr (Or.inr (Or.inr (Or.inr ⟨?_, hi, rfl, q, e_bA E i, y, ⟨F, ?_⟩, by omega, by omega, hk⟩)))))))⟩
      · by_cases hw : iHow E i = 63
        · rw [if_pos hw]; exact Or.inr rfl
        · rw [if_neg hw]; exact Or.inl rfl
      · by_cases hw : iHow E i = 63
        · rw [if_pos hw]; rw [decide_eq_true hw] at h2; exact h2
        · rw [if_neg hw]; rw [decide_eq_false hw] at h2; exact h2
    · show _ * 1500 + bm E 2 0 _ < _
      unfold bm; rw [if_pos rfl]; omega
  · rw [if_neg (by omega), if_neg (by omega), if_pos k4]
    have hy := hy1 (by omega)
    have he := h1.2.2.1
    refine ⟨0, _, ⟨rfl, hRT, hf, Or.inr ⟨by decide, rfl, rfl, hC, ?_, hi, by omega, hd, Or.inr (Or.inr (Or.inl ⟨rfl, r, e_bA E i, ⟨F, h1⟩, ?_⟩))⟩⟩, Lead_refl E _, ?_⟩
    · show T.length + ((if 6 = 2 then 3 else _) + pcK K) ≤ _
      simp; omega
    · exact ⟨by omega, 0, r, rfl, Or.inr (Or.inr (Or.inr (Or.inr (Or.inl ⟨rfl, hi, ht, q, e_bA E i, y, ⟨F, h2⟩, by omega, by omega, hk⟩))))⟩
    · show _ * 1500 + bm E 2 0 _ < _
      unfold bm; rw [if_pos rfl]; omega
  · rw [if_neg (by omega), if_neg (by omega), if_neg (by omega), if_pos k3]
    have hy := hy1 (by omega)
    have he := h4.2.2.1
    by_cases hw : iHow E i = 63
    · rw [if_pos hw, if_pos hw]
      have h3 := h3 hw
      refine ⟨y, (q, p, M, (0, pc + 1, p, 0) :: T, cF, fF, d, st), ⟨rfl, Or.inl ⟨rfl, 2, i, K, c, nf, nb, ns, B, rfl, by omega, ⟨0, hC, hT, hi, by omega, hd, Or.inr (Or.inr (Or.inl ⟨rfl, q, e_bA E i, ⟨F, h4⟩, RK_le (by omega) hk⟩))⟩, hRT⟩, hf, Or.inr ⟨by decide, rfl, rfl, hC, ?_, hi, hyn, hd, Or.inr (Or.inr (Or.inr (Or.inr (Or.inr (Or.inr ⟨rfl, RK_app [(0, pc + 1, p, 0)] hk⟩)))))⟩⟩, Lead_ok E (hok pc (by omega)) (Or.inr (Or.inr (Or.inr (Or.inr (Or.inr (Or.inl ⟨h1, by rw [h3.1, h3.2]⟩)))))), ?_⟩
      · rw [List.length_cons]; omega
      · show (_ + (0 + flB B)) * 1500 + bm E 5 y (aCalls K) < _
        rw [hcal, Nat.zero_add]; unfold bm; rw [if_neg (by decide), if_neg (by decide), if_neg (by decide)]; omega
    · rw [if_neg hw, if_neg hw]
      have h2 := h2 hw
      refine ⟨0, (pc + 1, p, M, (0, q, p, 0) :: T, cF, fF, d, st), ⟨rfl, Or.inl ⟨rfl, 5, i, K, c, nf, nb, ns, B, rfl, by omega, ⟨y, hC, hT, hi, hyn, hd, Or.inr (Or.inr (Or.inr (Or.inr (Or.inr (Or.inr ⟨rfl, hk⟩)))))⟩, hRT⟩, hf, Or.inr ⟨by decide, rfl, rfl, hC, ?_, hi, by omega, hd, Or.inr (Or.inr (Or.inl ⟨rfl, q, e_bA E i, ⟨F, h4⟩, RK_app [(0, q, p, 0)] (RK_le (by omega) hk)⟩))⟩⟩, Lead_ok E (hok pc (by omega)) (Or.inr (Or.inr (Or.inr (Or.inr (Or.inr (Or.inl ⟨h1, by rw [h2.1, h2.2]⟩)))))), ?_⟩
      · rw [List.length_cons]; omega
      · show (_ + (0 + flB B)) * 1500 + bm E 2 0 _ < _
        rw [Nat.zero_add]; unfold bm; rw [if_pos rfl]; omega
  · rw [if_neg (by omega), if_neg (by omega), if_neg (by omega), if_neg (by omega)]
    have hy := hy0 k0
    refine ⟨0, _, ⟨rfl, hRT, hf, Or.inr ⟨by decide, rfl, rfl, hC, hT, hi, by omega, hd, Or.inr (Or.inr (Or.inl ⟨rfl, q, e_bA E i, ⟨F, h⟩, by rw [← hy]; exact hk⟩))⟩⟩, Lead_refl E _, ?_⟩
    show _ * 1500 + bm E 2 0 _ < _
    unfold bm; rw [if_pos rfl]; omega
end T0
