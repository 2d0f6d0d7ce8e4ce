/-! size() and emit() of any part: what they compute, by the tree; and the contracts for all trees -/
def PZ : PT → Nat → Unit → (Int32 → Unit → Prop) → Prop
  | .append t l, i => match i with
    | 0 => PZ t 0
    | i + 1 => PZ l i
  | .nest _ b, i => PZ b i
  | .tag K b, _ => if K = 0 then P_Leaf_size (top' b) (tn1 b) else if K = 1 then P_Row_size b (PZ b) else if K = 2 then P_Cho_size b (PZ b) else if K = 3 then P_Grp_size (tn1 b) (tn2 b) (PZ b 0) else P_Rep_size (tn1 b) (tn2 b) (tn3 b) (PZ b 0)
  | _, _ => fun _ _ => False
def PE : PT → Nat → Nat → Nat → PRS → (PRS → Prop) → Prop
  | .append t l, i => match i with
    | 0 => PE t 0
    | i + 1 => PE l i
  | .nest _ b, i => PE b i
  | .tag K b, _ => if K = 0 then P_Leaf_emit (top' b) (tn1 b) else if K = 1 then P_Row_emit b (PE b) else if K = 2 then P_Cho_emit b (PE b) else if K = 3 then P_Grp_emit (tn1 b) (tn2 b) (PE b 0) else P_Rep_emit (tn1 b) (tn2 b) (tn3 b) (PE b 0)
  | _, _ => fun _ _ _ _ => False
def th : PT → Nat
  | .append t l => max (th t) (th l)
  | .nest _ b => th b
  | .tag _ b => th b + 1
  | _ => 0
def tcore : PT → PT
  | .nest _ b => tcore b
  | t => t
theorem tcore_T : ∀ {t : PT}, isT t = true → tcore t = t
  | .tag _ _, _ => rfl
  | .nil, h | .line, h | .align _, h | .text _, h | .nest _ _, h | .append _ _, h | .group _ _, h => by cases h
theorem TR_core {x : GX} {g : GE} {fw : va_W} : ∀ (t : PT) (r : Nat) (f : Nat → Option Nat) (k : Nat), TR x g fw t r f k → TR x g fw (tcore t) r f k := by
  intro t
  induction t with
  | nest n b ih => intro r f k h; exact ih r f k h
  | _ => intro r f k h; exact h
theorem isT_core : ∀ (t : PT), isT (tcore t) = isN t := by
  intro t
  induction t with
  | nest n b ih => exact ih
  | _ => rfl
theorem tlen_0 {b : PT} {i : Nat} (h : i < tlen b) : ∃ t l, b = .append t l := by
  cases b with
  | append t l => exact ⟨t, l, rfl⟩
  | _ => exact absurd h (Nat.not_lt_zero _)
theorem ZOK.lift {l : Launch} {x : GX} {g : GE} {t : PT} {K : Unit → (Int32 → Unit → Prop) → Prop} {lv : Nat} (h : isN t = true → ZOK l x g (tcore t) K lv) : ZOK l x g t K lv := by
  intro ex a sz r Qc hT hk
  have h1 := h (isN_of hT.1)
  rw [tcore_T hT.1] at h1
  exact h1 ex a sz r Qc hT hk
theorem EOK.lift {l : Launch} {x : GX} {g : GE} {t : PT} {K : Nat → Nat → PRS → (PRS → Prop) → Prop} {lv : Nat} (h : isN t = true → EOK l x g (tcore t) K lv) : EOK l x g t K lv := by
  intro ex b a z sz r bc bs Qc hT hk
  have h1 := h (isN_of hT.1)
  rw [tcore_T hT.1] at h1
  exact h1 ex b a z sz r bc bs Qc hT hk
theorem c_sizes {l : Launch} {x : GX} {g : GE} : ∀ T : PT, (isN T = true → ∀ lv, 4 * th T ≤ lv → ZOK l x g (tcore T) (PZ T 0) lv) ∧ (∀ i, i < tlen T → ∀ lv, 4 * th T ≤ lv → ZOK l x g (tnth T i) (PZ T i) lv) := by
  intro T
  induction T with
  | append t b ih1 ih2 =>
    refine ⟨fun h => (by cases h), fun i hi lv hlv => ?_⟩
    have hm1 : 4 * th t ≤ lv := by simp only [th] at hlv; omega
    have hm2 : 4 * th b ≤ lv := by simp only [th] at hlv; omega
    cases i with
    | zero => exact ZOK.lift (fun h => ih1.1 h lv hm1)
    | succ i => exact ih2.2 i (by simp only [tlen] at hi; omega) lv hm2
  | nest n b ih => exact ⟨ih.1, fun i hi => absurd hi (Nat.not_lt_zero _)⟩
  | tag K b ih =>
    refine ⟨fun _ lv hlv => ?_, fun i hi => absurd hi (Nat.not_lt_zero _)⟩
    obtain ⟨lv, rfl⟩ : ∃ l', lv = l' + 4 := ⟨lv - 4, by simp only [th] at hlv; omega⟩
    have hlv4 : 4 * th b ≤ lv := by simp only [th] at hlv; omega
    intro ex a sz r Qc hT hk
    have hk : (if K = 0 then P_Leaf_size (top' b) (tn1 b) else if K = 1 then P_Row_size b (PZ b) else if K = 2 then P_Cho_size b (PZ b) else if K = 3 then P_Grp_size (tn1 b) (tn2 b) (PZ b 0) else P_Rep_size (tn1 b) (tn2 b) (tn3 b) (PZ b 0)) () Qc := hk
    rcases hT.2 with ⟨h1, h2, h3⟩ | ⟨h1, q, h2, h3⟩ | ⟨h1, h2, h0, h3⟩ | ⟨h1, q, h2, h0, h3⟩
    · subst h1
      exact c_Leaf_size l h3 () sz Qc hk
    · rcases h1 with rfl | rfl
      · exact c_Row_size l h2 (show LI x g ex q b from h3) (fun i hi => ih.2 i hi lv hlv4) () sz Qc hk
      · exact c_Cho_size l h2 (show LI x g ex q b from h3) (fun i hi => ih.2 i hi lv hlv4) () sz Qc hk
    · subst h1
      exact c_Grp_size l h2 ⟨(isT_core b).trans h0, TR_core _ _ _ _ h3⟩ (ih.1 h0 lv hlv4) () sz Qc hk
    · subst h1
      exact c_Rep_size l h2 ⟨(isT_core b).trans h0, TR_core _ _ _ _ h3⟩ (ih.1 h0 lv hlv4) () sz Qc hk
  | _ => exact ⟨fun h => (by cases h), fun i hi => absurd hi (Nat.not_lt_zero _)⟩
theorem c_emits {l : Launch} {x : GX} {g : GE} : ∀ T : PT, (isN T = true → ∀ lv, 4 * th T ≤ lv → EOK l x g (tcore T) (PE T 0) lv) ∧ (∀ i, i < tlen T → ∀ lv, 4 * th T ≤ lv → EOK l x g (tnth T i) (PE T i) lv) := by
  intro T
  induction T with
  | append t b ih1 ih2 =>
    refine ⟨fun h => (by cases h), fun i hi lv hlv => ?_⟩
    have hm1 : 4 * th t ≤ lv := by simp only [th] at hlv; omega
    have hm2 : 4 * th b ≤ lv := by simp only [th] at hlv; omega
    cases i with
    | zero => exact EOK.lift (fun h => ih1.1 h lv hm1)
    | succ i => exact ih2.2 i (by simp only [tlen] at hi; omega) lv hm2
  | nest n b ih => exact ⟨ih.1, fun i hi => absurd hi (Nat.not_lt_zero _)⟩
  | tag K b ih =>
    refine ⟨fun _ lv hlv => ?_, fun i hi => absurd hi (Nat.not_lt_zero _)⟩
    obtain ⟨lv, rfl⟩ : ∃ l', lv = l' + 4 := ⟨lv - 4, by simp only [th] at hlv; omega⟩
    have hlv4 : 4 * th b ≤ lv := by simp only [th] at hlv; omega
    intro ex b9 a z sz r bc bs Qc hT hk
    have hk : (if K = 0 then P_Leaf_emit (top' b) (tn1 b) else if K = 1 then P_Row_emit b (PE b) else if K = 2 then P_Cho_emit b (PE b) else if K = 3 then P_Grp_emit (tn1 b) (tn2 b) (PE b 0) else P_Rep_emit (tn1 b) (tn2 b) (tn3 b) (PE b 0)) bc bs z Qc := hk
    rcases hT.2 with ⟨h1, h2, h3⟩ | ⟨h1, q, h2, h3⟩ | ⟨h1, h2, h0, h3⟩ | ⟨h1, q, h2, h0, h3⟩
    · subst h1
      exact c_Leaf_emit l h3 bc bs z sz Qc hk
    · rcases h1 with rfl | rfl
      · exact c_Row_emit l h2 (show LI x g ex q b from h3) (fun i hi => ih.2 i hi lv hlv4) bc bs z sz Qc hk
      · exact c_Cho_emit l h2 (show LI x g ex q b from h3) (fun i hi => ih.2 i hi lv hlv4) bc bs z sz Qc hk
    · subst h1
      exact c_Grp_emit l h2 ⟨(isT_core b).trans h0, TR_core _ _ _ _ h3⟩ (ih.1 h0 lv hlv4) bc bs z sz Qc hk
    · subst h1
      exact c_Rep_emit l h2 ⟨(isT_core b).trans h0, TR_core _ _ _ _ h3⟩ (ih.1 h0 lv hlv4) bc bs z sz Qc hk
  | _ => exact ⟨fun h => (by cases h), fun i hi => absurd hi (Nat.not_lt_zero _)⟩
theorem z_all {l : Launch} {x : GX} {g : GE} {T : PT} {lv : Nat} (h : 4 * th T ≤ lv) : ZOK l x g T (PZ T 0) lv := ZOK.lift (fun h0 => (c_sizes T).1 h0 lv h)
theorem e_all {l : Launch} {x : GX} {g : GE} {T : PT} {lv : Nat} (h : 4 * th T ≤ lv) : EOK l x g T (PE T 0) lv := EOK.lift (fun h0 => (c_emits T).1 h0 lv h)
