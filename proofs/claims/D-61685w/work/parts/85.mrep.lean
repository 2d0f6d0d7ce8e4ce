abbrev MBs := Int32 × Int32 × (Nat → Int32) × Int32 × (Nat → Int32) × (Int32 × (Nat → Int32) × Int32 × Int32 × Int32 × Int32 × Int32 × Int32 × Int64 × (Nat → Int32))
def mBase (u : MS) : MBs := (m_limit u, m_length u, m_text u, m_letters u, m_subject u, (m_drafted u, m_draft u, m_ready u, m_groups u, m_size u, m_matched u, m_first u, m_last u, m_found u, m_sums u))
def Ch (fr kp : Nat → Int64) (s : Nat) : List AFr → Nat → Prop
  | [], k => k = 0
  | (kd, w, m, c) :: K, k => k ≠ 0 ∧ k < 7000 ∧ ∃ k', fr k = pkF kd w m k' ∧ k' < k ∧ kd < 16 ∧ w < 64 ∧ m < 8192 ∧ (kd = 3 → m ≤ s ∧ m ≤ 300 ∧ kp m = pkC c) ∧ Ch fr kp s K k'
def BR (fr kp : Nat → Int64) (s : Nat) (bk bc : Nat → Int64) : List ABk → Nat → Prop
  | [], _ => True
  | (mo, i, p, K, c, _, nf, _, _) :: B, nx => nf ≤ nx ∧ nf < 7000 ∧ mo < 8 ∧ i < 64 ∧ p < 64 ∧ bc B.length = pkC c ∧ (∃ f, bk B.length = pkB mo i p f nf ∧ f ≤ nf ∧ Ch fr kp s K f) ∧ BR fr kp s bk bc B nf
theorem Ch_mono {fr kp fr' kp' : Nat → Int64} {s s' : Nat} (hs : s ≤ s') (hk : ∀ j, j ≤ s → kp' j = kp j) : ∀ {K : List AFr} {k : Nat}, (∀ j, j ≤ k → fr' j = fr j) → Ch fr kp s K k → Ch fr' kp' s' K k := by
  intro K
  induction K with
  | nil => intro k _ h; exact h
  | cons f K ih =>
    obtain ⟨kd, w, m, c⟩ := f
    intro k hf h
    obtain ⟨h0, h1, k', h2, h3, h4, h5, h6, h7, h8⟩ := h
    exact ⟨h0, h1, k', by rw [hf k (Nat.le_refl _)]; exact h2, h3, h4, h5, h6, fun e => ⟨by have := h7 e; omega, (h7 e).2.1, by rw [hk m (h7 e).1]; exact (h7 e).2.2⟩, ih (fun j hj => hf j (by omega)) h8⟩
theorem BR_mono {fr kp fr' kp' bk bc bk' bc' : Nat → Int64} {s s' : Nat} (hs : s ≤ s') (hk : ∀ j, j ≤ s → kp' j = kp j) : ∀ {B : List ABk} {nx nx' : Nat}, nx ≤ nx' → (∀ j, j ≤ nx → fr' j = fr j) → (∀ j, j < B.length → bk' j = bk j ∧ bc' j = bc j) → BR fr kp s bk bc B nx → BR fr' kp' s' bk' bc' B nx' := by
  intro B
  induction B with
  | nil => intro nx nx' _ _ _ h; trivial
  | cons b B ih =>
    obtain ⟨mo, i, p, K, c, fl, nf, nb, ns⟩ := b
    intro nx nx' hx hf hb h
    obtain ⟨h1, h2, h3, h4, h5, h6, ⟨f, h7, h8, h9⟩, h10⟩ := h
    have hb0 := hb B.length (by rw [List.length_cons]; omega)
    exact ⟨by omega, h2, h3, h4, h5, by rw [hb0.2]; exact h6, ⟨f, by rw [hb0.1]; exact h7, h8, Ch_mono hs hk (fun j hj => hf j (by omega)) h9⟩, ih (Nat.le_refl _) (fun j hj => hf j (by omega)) (fun j hj => hb j (by rw [List.length_cons]; omega)) h10⟩
theorem BR_drop {fr kp bk bc : Nat → Int64} {s : Nat} : ∀ (k : Nat) {B : List ABk} {nx : Nat}, BR fr kp s bk bc B nx → BR fr kp s bk bc (B.drop k) nx := by
  intro k
  induction k with
  | zero => intro B nx h; exact h
  | succ k ih =>
    intro B nx h
    cases B with
    | nil => exact h
    | cons b B =>
      obtain ⟨mo, i, p, K, c, fl, nf, nb, ns⟩ := b
      have h10 := h.2.2.2.2.2.2.2
      exact BR_mono (Nat.le_refl _) (fun _ _ => rfl) h.1 (fun _ _ => rfl) (fun _ _ => ⟨rfl, rfl⟩) (ih h10)
def MX (W : MBs) (st p nf : Nat) (c : ACp) (B : List ABk) (u : MS) : Prop := mBase u = W ∧ m_steps u = nI st ∧ m_p u = nI p ∧ m_frames u = nI nf ∧ m_backs u = nI B.length ∧ m_caps u = pkC c ∧ BR (m_frame u) (m_kept u) st (m_back u) (m_bKept u) B nf
def CX (st nf : Nat) (K : List AFr) (k : Nat) (u : MS) : Prop := k ≤ nf ∧ Ch (m_frame u) (m_kept u) st K k
def MR (W : MBs) : ASt → MS → Prop
  | (mo, i, K, p, c, B, st, nf, _, _), u => MX W st p nf c B u ∧ m_mode u = nI mo ∧ (mo ≠ 6 → m_at u = nI i ∧ ∃ k, m_k u = nI k ∧ CX st nf K k u)
section MX1
variable {W : MBs} {st p nf nb ns k : Nat} {c : ACp} {B : List ABk} {K : List AFr} {u : MS}
theorem x_push {Q : Int32 → MS → Prop} {kd w m : Nat} {c' : ACp} (h : MX W st p nf c B u) (hk : CX st nf K k u) (hnf : nf + 1 < 7000) (hkd : kd < 16) (hw : w < 64) (hm : m < 8192) (h3 : kd = 3 → m ≤ st ∧ m ≤ 300 ∧ m_kept u m = pkC c') (hQ : ∀ u1, MX W st p (nf + 1) c B u1 → CX st (nf + 1) ((kd, w, m, c') :: K) (nf + 1) u1 → (∀ K' k', CX st nf K' k' u → CX st (nf + 1) K' k' u1) → (m_k u1 = m_k u ∧ m_at u1 = m_at u) → Q (nI (nf + 1)) u1) : P_M_push (nI kd) (nI w) (nI m) (nI k) u Q := by
  obtain ⟨h1, h2, h3', h4, h5, h6, h7⟩ := h
  have hf : ∀ j, j ≤ nf → vp_updL (m_frame u) (nf + 1) (pkF kd w m k) j = m_frame u j := fun j hj => pk_uLn (by omega)
  have hk1 := hk.1
  refine s_push h4 hnf hkd hw hm (by omega) (hQ _ ⟨h1, h2, h3', rfl, h5, h6, BR_mono (Nat.le_refl _) (fun _ _ => rfl) (by omega) hf (fun _ _ => ⟨rfl, rfl⟩) h7⟩ ⟨Nat.le_refl _, ?_⟩ (fun K' k' q => ⟨by have := q.1; omega, Ch_mono (Nat.le_refl _) (fun _ _ => rfl) (fun j hj => hf j (by have := q.1; omega)) q.2⟩) ⟨rfl, rfl⟩)
  exact ⟨by omega, hnf, k, pk_uLs, by omega, hkd, hw, hm, h3, Ch_mono (Nat.le_refl _) (fun _ _ => rfl) (fun j hj => hf j (by omega)) hk.2⟩
theorem x_pushB {Q : MS → Prop} {mo i fl : Nat} (h : MX W st p nf c B u) (hk : CX st nf K k u) (hB : B.length < 4000) (hnf : nf < 7000) (hmo : mo < 8) (hi : i < 64) (hp : p < 64) (hQ : ∀ u1, MX W st p nf c ((mo, i, p, K, c, fl, nf, nb, ns) :: B) u1 → (∀ K' k', CX st nf K' k' u → CX st nf K' k' u1) → m_k u1 = m_k u → m_at u1 = m_at u → Q u1) : P_M_pushBack (nI mo) (nI i) (nI k) u Q := by
  obtain ⟨h1, h2, h3, h4, h5, h6, h7⟩ := h
  have hk1 := hk.1
  refine s_pushBack h5 h3 h4 hB hmo hi hp (by omega) (by omega) (hQ _ ⟨h1, h2, h3, h4, rfl, h6, ?_⟩ (fun K' k' q => q) rfl rfl)
  refine ⟨Nat.le_refl _, hnf, hmo, hi, hp, ?_, ⟨k, pk_uLs, hk1, hk.2⟩, BR_mono (Nat.le_refl _) (fun _ _ => rfl) (Nat.le_refl _) (fun _ _ => rfl) (fun j hj => ⟨pk_uLn (by omega), pk_uLn (by omega)⟩) h7⟩
  show vp_updL (m_bKept u) B.length (m_caps u) B.length = pkC c
  rw [pk_uLs]; exact h6
theorem x_go {Q : MS → Prop} {mo i : Nat} (h : MX W st p nf c B u) (hk : CX st nf K k u) (hQ : ∀ u1, MR W (mo, i, K, p, c, B, st, nf, nb, ns) u1 → Q u1) : P_M_go (nI mo) (nI i) (nI k) u Q :=
  s_go (hQ _ ⟨h, rfl, fun _ => ⟨rfl, k, rfl, hk⟩⟩)
theorem x_go6 {Q : MS → Prop} {i : Nat} {k : Int32} (h : MX W st p nf c B u) (hQ : ∀ u1, MR W (6, 0, K, p, c, B, st, nf, nb, ns) u1 → Q u1) : P_M_go 6 (nI i) k u Q :=
  hQ _ ⟨h, rfl, fun e => absurd rfl e⟩
end MX1
