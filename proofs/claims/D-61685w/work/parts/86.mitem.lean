def eM (τ : Nat → Int32) (n : Nat) (s : Nat → Int32) (L lim : Nat) (C : Nat → Nat × Nat × Nat) (en : Nat → Nat) (PL : Nat → Nat → Nat → Prop) (pP : Nat → Nat → Nat → ACp → Option Nat) (G : Nat) : AEnv := (tt τ n, n, behA τ n, groupAt τ n, choiceOf τ n, nextRow τ n, rEnd τ n, plF τ n s L, lim, L, C, en, PL, pP, G)
def HW (W : MBs) (τ : Nat → Int32) (n : Nat) (s : Nat → Int32) (L lim : Nat) : Prop := W.1 = nI lim ∧ W.2.1 = nI n ∧ W.2.2.1 = τ ∧ W.2.2.2.1 = nI L ∧ W.2.2.2.2.1 = s ∧ n ≤ 32 ∧ L ≤ 40 ∧ lim ≤ 300
def TXok (τ : Nat → Int32) (n : Nat) : Prop := ∀ i, (tt τ n i = 92 → ∃ g, 1 ≤ g ∧ g ≤ 4 ∧ tt τ n (i + 1) = nI (g + 48)) ∧ (tt τ n i = 123 → ∃ g, g ≤ 9 ∧ tt τ n (i + 1) = nI (g + 48)) ∧ (tt τ n i = 40 → tt τ n (i + 1) = 63 → tt τ n (i + 2) = 58 ∨ tt τ n (i + 2) = 62 ∨ tt τ n (i + 2) = 61 ∨ tt τ n (i + 2) = 33 ∨ ∃ g, g ≤ 4 ∧ tt τ n (i + 2) = nI (g + 48))
section MI
variable {W : MBs} {τ : Nat → Int32} {n : Nat} {s : Nat → Int32} {L lim : Nat} {C : Nat → Nat × Nat × Nat} {en : Nat → Nat} {PL : Nat → Nat → Nat → Prop} {pP : Nat → Nat → Nat → ACp → Option Nat} {G : Nat} {E : AEnv}
variable {st p nf nb ns k : Nat} {c : ACp} {B : List ABk} {K : List AFr} {u : MS}
theorem W_len (hW : HW W τ n s L lim) (h : mBase u = W) : m_length u = nI n := (congrArg (fun b : MBs => b.2.1) h).trans hW.2.1
theorem W_text (hW : HW W τ n s L lim) (h : mBase u = W) : m_text u = τ := (congrArg (fun b : MBs => b.2.2.1) h).trans hW.2.2.1
theorem W_let (hW : HW W τ n s L lim) (h : mBase u = W) : m_letters u = nI L := (congrArg (fun b : MBs => b.2.2.2.1) h).trans hW.2.2.2.1
theorem W_sub (hW : HW W τ n s L lim) (h : mBase u = W) : m_subject u = s := (congrArg (fun b : MBs => b.2.2.2.2.1) h).trans hW.2.2.2.2.1
theorem W_lim (hW : HW W τ n s L lim) (h : mBase u = W) : m_limit u = nI lim := (congrArg (fun b : MBs => b.1) h).trans hW.1
theorem w_t {Q : Int32 → MS → Prop} {i : Nat} (hW : HW W τ n s L lim) (h : MX W st p nf c B u) (hi : i < 2 ^ 31) (hQ : Q (tt τ n i) u) : P_M_t (nI i) u Q :=
  s_t (W_len hW h.1) hW.2.2.2.2.2.1 hi (by rw [W_text hW h.1]; exact hQ)
theorem b190 {Q : MS → Prop} {i : Nat} (hE : E = eM τ n s L lim C en PL pP G) (hW : HW W τ n s L lim) (hT : TXok τ n) (h : MX W st p nf c B u) (hk : CX st nf K k u) (hi : i ≤ 32) (hp : p ≤ 40) (hnf : nf + 1 < 7000) (hB : B.length < 4000) (hsk : iSkip E i = false) (hQ : ∀ u1, MR W (aItem2 E i K p c B st nf nb ns) u1 → Q u1) : B_M_item_190 Q (nI i) (nI (e_bA E i)) (iRp E i) (if iK E i = 0 then 0 else 1) (nI (iHow E i)) (nI k) u := by
  have hbe : e_bA E i ≤ 100 := by
    subst hE
    show behA τ n i ≤ 100
    have hn := hW.2.2.2.2.2.1
    by_cases q : i < n
    · have := (behA_ge (τ := τ) hn q).2; omega
    · unfold behA; rw [tt_out (by omega), if_neg (by decide), if_neg (by decide), if_neg (by decide)]; omega
  unfold aItem2 at hQ
  have h63 : ∀ {a b : Prop} {v : Nat}, v < 2 ^ 31 → (v = 63 → a) → (v ≠ 63 → b) → ((nI v = 63 → a) ∧ (¬ nI v = 63 → b)) := by
    intro a b v hv h1 h2
    exact ⟨fun e => h1 ((neq (b := 63) hv (by decide)).mp e), fun e => h2 (fun q => e (by rw [q]; rfl))⟩
  have hhow : iHow E i < 2 ^ 31 := by rcases iHow_or E i with q | ⟨_, q | q⟩ <;> (rw [q]; decide)
  refine ⟨fun q => ?_, fun q => ?_⟩
  · have hk0 : iK E i = 0 := by
      by_cases z : iK E i = 0
      · exact z
      · rw [if_neg z] at q; exact absurd q (by decide)
    rw [if_neg (by omega), if_neg (by omega), if_neg (by omega), if_neg (by omega)] at hQ
    exact x_go h hk hQ
  · have hk0 : iK E i ≠ 0 := fun z => q (if_pos z)
    unfold iK at hk0 hQ
    refine ⟨fun q1 => ?_, fun q1 => ?_⟩
    · rw [if_pos q1, if_pos rfl] at hQ
      refine h63 hhow (fun w => ?_) (fun w => ?_)
      · rw [if_pos w] at hQ
        exact x_go h hk hQ
      · rw [if_neg w] at hQ
        exact x_go h hk hQ
    · rw [if_neg q1] at hQ hk0
      refine ⟨fun q2 => ?_, fun q2 => ?_⟩
      · rw [if_pos q2, if_neg (by decide), if_pos rfl] at hQ
        refine h63 hhow (fun w => ?_) (fun w => ?_)
        · rw [if_pos w] at hQ
          exact x_push (kd := 11) (w := i) (m := 0) h hk hnf (by decide) (by omega) (by decide) (fun e => absurd e (by decide)) (fun u1 g1 g2 g3 g4 => x_go g1 g2 hQ)
        · rw [if_neg w] at hQ
          exact x_push (kd := 10) (w := i) (m := 0) h hk hnf (by decide) (by omega) (by decide) (fun e => absurd e (by decide)) (fun u1 g1 g2 g3 g4 => x_go g1 g2 hQ)
      · rw [if_neg q2] at hQ hk0
        refine ⟨fun q3 => ?_, fun q3 => ?_⟩
        · have hq63 : ¬ iRp E i = 63 := by rw [q3]; decide
          rw [if_neg hq63, if_pos q3, if_neg (by decide), if_neg (by decide), if_pos rfl] at hQ
          rw [n_1]
          refine w_t hW h (by omega) ?_
          have htm : tt τ n (e_bA E i + 1) = nI (iTm E i + 49) ∧ iTm E i ≤ 8 := by
            subst hE
            obtain ⟨g, hg, hg2⟩ := (hT (behA τ n i)).2.1 q3
            have hg0 : g ≠ 0 := by
              intro z
              have e1 : iSkip (eM τ n s L lim C en PL pP G) i = true := by
                unfold iSkip
                rw [decide_eq_true q3]
                have : tt τ n (behA τ n i + 1) = 48 := by rw [hg2, z]; rfl
                exact decide_eq_true this
              rw [e1] at hsk; exact absurd hsk (by decide)
            have e2 : iTm (eM τ n s L lim C en PL pP G) i = g + 48 - 49 := by
              show (tt τ n (behA τ n i + 1)).toNatClampNeg - 49 = _
              rw [hg2, nI_clamp (by omega)]
            rw [e2]
            refine ⟨?_, by omega⟩
            show tt τ n (behA τ n i + 1) = _
            rw [hg2]; congr 1; omega
          rw [htm.1, show (49 : Int32) = nI 49 from rfl, n_sub (by omega), Nat.add_sub_cancel]
          exact x_push (kd := 6) (w := i) (m := iTm E i) h hk hnf (by decide) (by omega) (by omega) (fun e => absurd e (by decide)) (fun u1 g1 g2 g3 g4 => x_go g1 g2 hQ)
        · by_cases q4 : iRp E i = 63
          · rw [if_pos q4, if_neg (by decide), if_neg (by decide), if_neg (by decide), if_pos rfl] at hQ
            refine h63 hhow (fun w => ?_) (fun w => ?_)
            · rw [if_pos w, if_pos w] at hQ
              refine x_pushB (mo := 2) (i := i) (fl := 0) (nb := nb) (ns := ns) h hk hB (by omega) (by decide) (by omega) (by omega) (fun u1 g1 g2 g3 g4 => h63 hhow (fun _ => x_go g1 (g2 _ _ hk) hQ) (fun z => absurd w z))
            · rw [if_neg w, if_neg w] at hQ
              refine x_pushB (mo := 5) (i := i) (fl := 0) (nb := nb) (ns := ns) h hk hB (by omega) (by decide) (by omega) (by omega) (fun u1 g1 g2 g3 g4 => h63 hhow (fun z => absurd z w) (fun _ => x_go g1 (g2 _ _ hk) hQ))
          · rw [if_neg q4, if_neg q3] at hk0
            exact absurd rfl hk0
theorem x_item {Q : MS → Prop} {i : Nat} (hE : E = eM τ n s L lim C en PL pP G) (hW : HW W τ n s L lim) (hT : TXok τ n) (h : MX W st p nf c B u) (hk : CX st nf K k u) (hmk : m_k u = nI k) (hi : i < n) (hp : p ≤ 40) (hnf : nf + 3 < 7000) (hB : B.length < 4000) (hQ : ∀ u1, MR W (aItem E i K p c B st nf nb ns) u1 → Q u1) : P_M_item (nI i) u Q := by
  have hn := hW.2.2.2.2.2.1
  have hbe : e_bA E i ≤ 33 := by
    subst hE
    show behA τ n i ≤ 33
    have := (behA_ge (τ := τ) hn hi).2; omega
  have hbeh : iBeh E i ≤ 37 := by
    unfold iBeh iBq; split
    · omega
    · split <;> split <;> omega
  have b154 : iSkip E i = false → B_M_item_154 Q (nI i) (nI (e_bA E i)) (iRp E i) (if iK E i = 0 then 0 else 1) (nI (iHow E i)) (nI (iBeh E i)) u := by
    intro hsk
    unfold aItem at hQ
    rw [if_neg (by rw [hsk]; decide)] at hQ
    unfold B_M_item_154
    rw [hmk]
    refine x_push (kd := 1) (w := iBeh E i) (m := 0) (c' := c00) h hk (by omega) (by decide) (by omega) (by decide) (fun e => absurd e (by decide)) (fun u1 g1 g2 g3 g4 => ⟨fun q => ?_, fun q => ?_⟩)
    · have q : iHow E i = 43 := by
        rcases iHow_or E i with z | ⟨_, z | z⟩
        · rw [z] at q; exact absurd q (by decide)
        · rw [z] at q; exact absurd q (by decide)
        · exact z
      rw [if_pos q] at hQ
      rw [g1.2.2.2.2.1]
      exact x_push (kd := 7) (w := 0) (m := B.length) (c' := c00) g1 g2 (by omega) (by decide) (by decide) (by omega) (fun e => absurd e (by decide)) (fun u2 g5 g6 g7 g8 => b190 hE hW hT g5 g6 (by omega) hp (by omega) hB hsk hQ)
    · have q : ¬ iHow E i = 43 := fun z => q (by rw [z]; rfl)
      rw [if_neg q] at hQ
      exact b190 hE hW hT g1 g2 (by omega) hp (by omega) hB hsk hQ
  have b122 : B_M_item_122 Q (nI i) (nI (e_bA E i)) (iRp E i) (if iK E i = 0 then 0 else 1) (nI (iHow E i)) (nI (iBeh E i)) u := by
    refine ⟨fun q => ?_, fun q => b154 (by unfold iSkip; rw [decide_eq_false q]; rfl)⟩
    rw [n_1]
    refine w_t hW h (by omega) ⟨fun q2 => ?_, fun q2 => ?_⟩
    · have hsk : iSkip E i = true := by
        unfold iSkip; rw [decide_eq_true q]
        subst hE
        exact decide_eq_true q2
      unfold aItem at hQ
      rw [if_pos hsk] at hQ
      rw [hmk]
      exact x_go h hk hQ
    · refine b154 ?_
      unfold iSkip
      subst hE
      have : decide (e_t (eM τ n s L lim C en PL pP G) (e_bA (eM τ n s L lim C en PL pP G) i + 1) = 48) = false := decide_eq_false q2
      rw [this, Bool.and_false]
  have b97 : ∀ t0 : Int32, t0 = nI (iHow E i) → B_M_item_97 Q (nI i) (nI (e_bA E i)) (iRp E i) (if iK E i = 0 then 0 else 1) (nI (iBq E i)) t0 u := by
    intro t0 ht
    have hb := b122
    unfold iBeh at hb
    subst ht
    refine ⟨fun q => ?_, fun q => ⟨fun q2 => ?_, fun q2 => ?_⟩⟩
    · have hk0 : iK E i = 0 := by
        by_cases z : iK E i = 0
        · exact z
        · rw [if_neg z] at q; exact absurd q (by decide)
      rw [if_pos hk0] at hb ⊢
      rw [if_pos hk0] at hb
      exact hb
    · have hk0 : iK E i ≠ 0 := fun z => q (if_pos z)
      have h0 : iHow E i = 0 := by
        rcases iHow_or E i with z | ⟨_, z | z⟩
        · exact z
        · rw [z] at q2; exact absurd q2 (by decide)
        · rw [z] at q2; exact absurd q2 (by decide)
      rw [if_neg hk0, if_neg hk0, if_pos h0] at hb
      rw [if_neg hk0]
      exact hb
    · have hk0 : iK E i ≠ 0 := fun z => q (if_pos z)
      have h0 : ¬ iHow E i = 0 := fun z => q2 (by rw [z]; rfl)
      rw [if_neg hk0, if_neg hk0, if_neg h0] at hb
      rw [if_neg hk0, n_1]
      exact hb
  have hbq : iBq E i ≤ 40 := by unfold iBq; split <;> omega
  have b58 : B_M_item_58 Q (nI i) (nI (e_bA E i)) (iRp E i) (if iK E i = 0 then 0 else 1) (nI (iBq E i)) u := by
    refine ⟨fun q => ?_, fun q => ?_⟩
    · refine b97 0 ?_
      have hk0 : iK E i = 0 := by
        by_cases z : iK E i = 0
        · exact z
        · rw [if_neg z] at q; exact absurd q (by decide)
      unfold iHow; rw [if_pos hk0]; rfl
    · have hk0 : iK E i ≠ 0 := fun z => q (if_pos z)
      have ht : e_t E (iBq E i) = tt τ n (iBq E i) := by subst hE; rfl
      refine w_t hW h (by omega) ⟨fun q2 => w_t hW h (by omega) (b97 _ ?_), fun q2 => w_t hW h (by omega) ⟨fun q3 => w_t hW h (by omega) (b97 _ ?_), fun q3 => b97 0 ?_⟩⟩
      · unfold iHow; rw [if_neg hk0, ht, if_pos q2, q2]; rfl
      · unfold iHow; rw [if_neg hk0, ht, if_neg q2, if_pos q3, q3]; rfl
      · unfold iHow; rw [if_neg hk0, ht, if_neg q2, if_neg q3]; rfl
  have b41 : ∀ t0 : Int32, t0 = (if iK E i = 0 then 0 else 1) → B_M_item_41 Q (nI i) (nI (e_bA E i)) (iRp E i) t0 u := by
    intro t0 ht
    subst ht
    have hb := b58
    unfold iBq at hb
    refine ⟨fun q => ?_, fun q => ?_⟩
    · rw [if_pos q] at hb; rw [n_3]; exact hb
    · rw [if_neg q] at hb; rw [n_1]; exact hb
  unfold P_M_item
  have hrp : iRp E i = tt τ n (e_bA E i) := by subst hE; rfl
  have hbA : e_bA E i = behA τ n i := by subst hE; rfl
  refine s_behindAtom (W_len hW h.1) hn (by omega) ?_
  rw [W_text hW h.1, ← hbA]
  refine w_t hW h (by omega) ?_
  rw [← hrp]
  have b36 : iK E i ≠ 0 → B_M_item_36 Q (nI i) (nI (e_bA E i)) (iRp E i) u := fun z => b41 1 (by rw [if_neg z])
  refine ⟨fun q => b36 ?_, fun q1 => ⟨fun q => b36 ?_, fun q2 => ⟨fun q => b36 ?_, fun q3 => ⟨fun q => b36 ?_, fun q4 => b41 0 ?_⟩⟩⟩⟩
  · unfold iK; rw [if_pos q]; decide
  · unfold iK; rw [if_neg q1, if_pos q]; decide
  · unfold iK; rw [if_neg q1, if_neg q2, if_pos q]; decide
  · unfold iK; rw [if_neg q1, if_neg q2, if_neg q3, if_pos q]; decide
  · unfold iK; rw [if_neg q1, if_neg q2, if_neg q3, if_neg q4, if_pos rfl]
end MI
