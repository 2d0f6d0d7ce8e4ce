def decV (v : Nat) : Int32 := if v = 0 then -6 else nI (v - 1)
def decF (a v : Nat) : Int32 := if a % 10 = 0 then nI v else decV v
theorem decV_inj {a b : Nat} (ha : a < 2 ^ 31) (hb : b < 2 ^ 31) : decV a = decV b ↔ a = b := by
  unfold decV
  have no : ∀ c, c < 2 ^ 31 → (-6 : Int32) = nI c → False := by
    intro c hc e
    have := congrArg Int32.toInt e
    rw [nI_toInt hc] at this
    have e6 : (-6 : Int32).toInt = -6 := by decide
    rw [e6] at this; omega
  constructor
  · intro h
    by_cases h1 : a = 0
    · by_cases h2 : b = 0
      · rw [h1, h2]
      · rw [if_pos h1, if_neg h2] at h; exact (no _ (by omega) h).elim
    · by_cases h2 : b = 0
      · rw [if_neg h1, if_pos h2] at h; exact (no _ (by omega) h.symm).elim
      · rw [if_neg h1, if_neg h2] at h
        have := (neq (by omega) (by omega)).mp h; omega
  · intro h; rw [h]
theorem decF_inj {c a b : Nat} (ha : a < 2 ^ 31) (hb : b < 2 ^ 31) : decF c a = decF c b ↔ a = b := by
  unfold decF
  split
  · exact neq ha hb
  · exact decV_inj ha hb
def MK (kF : Nat → Int32) : List Nat → Prop
  | [] => True
  | m :: M => kF M.length = nI m ∧ MK kF M
def eBv (k a b : Nat) : Int32 := if k = 3 then decV b else if k = 4 then decF a b else nI b
def TK (tF : Nat → Int32) : List PEn → Prop
  | [] => True
  | (k, a, b, _) :: T => k ≤ 7 ∧ tF (3 * T.length) = nI k ∧ tF (3 * T.length + 1) = nI a ∧ tF (3 * T.length + 2) = eBv k a b ∧ TK tF T
theorem MK_congr {f g : Nat → Int32} : ∀ {M : List Nat}, (∀ j, j < M.length → g j = f j) → MK f M → MK g M := by
  intro M
  induction M with
  | nil => intro _ _; trivial
  | cons m M ih =>
    intro h ⟨h1, h2⟩
    exact ⟨by rw [h _ (by rw [List.length_cons]; omega)]; exact h1, ih (fun j hj => h j (by rw [List.length_cons]; omega)) h2⟩
theorem TK_congr {f g : Nat → Int32} : ∀ {T : List PEn}, (∀ j, j < 3 * T.length → g j = f j) → TK f T → TK g T := by
  intro T
  induction T with
  | nil => intro _ _; trivial
  | cons e T ih =>
    obtain ⟨k, a, b, gh⟩ := e
    intro h ⟨h0, h1, h2, h3, h4⟩
    rw [List.length_cons] at h
    exact ⟨h0, by rw [h _ (by omega)]; exact h1, by rw [h _ (by omega)]; exact h2, by rw [h _ (by omega)]; exact h3, ih (fun j hj => h j (by omega)) h4⟩
def mxM : List PEn → Nat → Nat
  | [], m => m
  | (k, _, _, _) :: T, m => max m (mxM T (if k = 1 then m - 1 else if k = 2 then m + 1 else m))
theorem mxM_ge : ∀ (T : List PEn) (m : Nat), m ≤ mxM T m := by
  intro T m
  cases T with
  | nil => exact Nat.le_refl _
  | cons e T => obtain ⟨k, a, b, g⟩ := e; exact Nat.le_max_left _ _
theorem mxM_filter {T0 : List PEn} : ∀ (T1 : List PEn) (m : Nat), mxM (T1.filter nc ++ T0) m ≤ mxM (T1 ++ T0) m := by
  intro T1
  induction T1 with
  | nil => intro m; exact Nat.le_refl _
  | cons e T1 ih =>
    obtain ⟨k, a, b, g⟩ := e
    intro m
    by_cases h : k = 0
    · rw [List.filter_cons_of_neg (by show ¬ (!decide (k = 0)) = true; rw [h]; decide)]
      have : mxM ((k, a, b, g) :: T1 ++ T0) m = max m (mxM (T1 ++ T0) m) := by
        show max m (mxM (T1 ++ T0) (if k = 1 then m - 1 else if k = 2 then m + 1 else m)) = _
        rw [if_neg (by omega), if_neg (by omega)]
      rw [this]
      have := ih m
      omega
    · rw [List.filter_cons_of_pos (by show (!decide (k = 0)) = true; rw [decide_eq_false h]; rfl)]
      show max m (mxM (T1.filter nc ++ T0) _) ≤ max m (mxM (T1 ++ T0) _)
      have := ih (if k = 1 then m - 1 else if k = 2 then m + 1 else m)
      omega
theorem mxM_not {T0 : List PEn} {a0 b0 g0 : Nat} : ∀ (T1 : List PEn) (m : Nat), mxM (T1.filter nc ++ (7, a0, b0, g0) :: T0) m ≤ mxM (T1 ++ (0, a0, b0, g0) :: T0) m := by
  intro T1
  induction T1 with
  | nil => intro m; exact Nat.le_refl _
  | cons e T1 ih =>
    obtain ⟨k, a, b, g⟩ := e
    intro m
    by_cases h : k = 0
    · rw [List.filter_cons_of_neg (by show ¬ (!decide (k = 0)) = true; rw [h]; decide)]
      have : mxM ((k, a, b, g) :: T1 ++ (0, a0, b0, g0) :: T0) m = max m (mxM (T1 ++ (0, a0, b0, g0) :: T0) m) := by
        show max m (mxM (T1 ++ (0, a0, b0, g0) :: T0) (if k = 1 then m - 1 else if k = 2 then m + 1 else m)) = _
        rw [if_neg (by omega), if_neg (by omega)]
      rw [this]
      have := ih m
      omega
    · rw [List.filter_cons_of_pos (by show (!decide (k = 0)) = true; rw [decide_eq_false h]; rfl)]
      show max m (mxM (T1.filter nc ++ (7, a0, b0, g0) :: T0) _) ≤ max m (mxM (T1 ++ (0, a0, b0, g0) :: T0) _)
      have := ih (if k = 1 then m - 1 else if k = 2 then m + 1 else m)
      omega
abbrev PBs := Int32 × Int32 × Int32 × Int32 × Int32 × Int32 × Int32 × Int32 × Int32 × SBS × SBS × PRS × (Nat → Option Nat)
def pBase (u : PS) : PBs := (p_limit u, p_there u, p_rgroups u, p_rsize u, p_at u, p_wrong u, p_groups u, p_named u, p_matched u, p_wr u, p_su u, p_pr u, p_ins u)
def Wt (u : PS) : Nat := p_tN u + p_kN u
def PX (V : PBs) (p : Nat) (M : List Nat) (T : List PEn) (cF fF : ACp) (d st : Nat) (u : PS) : Prop :=
  pBase u = V ∧ p_stopped u = 0 ∧ p_place u = nI p ∧ p_steps u = nI st ∧ p_calls u = nI d ∧ p_marked u = nI M.length ∧ p_height u = nI (3 * T.length) ∧ MK (p_kF u) M ∧ TK (p_tF u) T ∧ (∀ a, 2 ≤ a → a < 10 → p_cF u a = decV (cF a)) ∧ (∀ a, a < 120 → p_fF u a = decF a (fF a)) ∧ M.length ≤ p_kN u ∧ 3 * T.length ≤ p_tN u ∧ 16 ≤ p_kN u ∧ p_kN u ≤ 32000 ∧ 600 ≤ p_tN u ∧ p_tN u ≤ 280000
section PP
variable {V : PBs} {p : Nat} {M : List Nat} {T : List PEn} {cF fF : ACp} {d st : Nat} {u : PS}
theorem log25 {bc bs k0 n0 k a b g : Nat} {Q : PS → Prop} (hk7 : k ≤ 7) (h : PX V p M T cF fF d st u) (hr : 3 * T.length + 3 ≤ p_tN u) (hQ : ∀ u1, PX V p M ((k, a, b, g) :: T) cF fF d st u1 → p_pc u1 = p_pc u → p_kN u1 = p_kN u → p_kF u1 = p_kF u → p_tN u1 = p_tN u → Q u1) : B_B_log_25 Q bc bs k0 n0 (nI k) (nI a) (eBv k a b) u := by
  obtain ⟨h1, h2, h3, h4, h5, h6, h7, h8, h9, h10, h11, h12, h13, h14, h15, h16, h17⟩ := h
  show vp_in (p_height u) (p_tN u) ∧ vp_in (p_height u + 1) (p_tN u) ∧ vp_in (p_height u + 2) (p_tN u) ∧ Q (ps_height (ps_tF u (upd (upd (upd (p_tF u) (p_height u).toNatClampNeg (nI k)) (p_height u + 1).toNatClampNeg (nI a)) (p_height u + 2).toNatClampNeg (eBv k a b))) (p_height u + 3))
  rw [h7, n_1, n_2, n_3, nI_clamp (by omega), nI_clamp (by omega), nI_clamp (by omega)]
  refine ⟨vp_in_nI (by omega) (by omega), vp_in_nI (by omega) (by omega), vp_in_nI (by omega) (by omega), ?_⟩
  refine hQ _ ⟨h1, h2, h3, h4, h5, h6, ?_, h8, ⟨hk7, ?_, ?_, ?_, ?_⟩, h10, h11, h12, ?_, h14, h15, h16, h17⟩ rfl rfl rfl rfl
  · show nI (3 * T.length + 3) = _
    rw [List.length_cons]; congr 1
  · show upd _ _ _ (3 * T.length) = _
    rw [pk_un (by omega), pk_un (by omega), pk_us]
  · show upd _ _ _ (3 * T.length + 1) = _
    rw [pk_un (by omega), pk_us]
  · show upd _ _ _ (3 * T.length + 2) = _
    rw [pk_us]
  · refine TK_congr (fun j hj => ?_) h9
    show upd _ _ _ j = _
    rw [pk_un (by omega), pk_un (by omega), pk_un (by omega)]
  · show 3 * (T.length + 1) ≤ p_tN u
    omega
theorem growT_PX (h : PX V p M T cF fF d st u) (ht : p_tN u ≤ 140000) : PX V p M T cF fF d st (p_growT u) := by
  obtain ⟨h1, h2, h3, h4, h5, h6, h7, h8, h9, h10, h11, h12, h13, h14, h15, h16, h17⟩ := h
  refine ⟨h1, h2, h3, h4, h5, h6, h7, h8, TK_congr (fun j hj => if_pos (by omega)) h9, h10, h11, h12, ?_, h14, h15, ?_, ?_⟩
  · show 3 * T.length ≤ 2 * p_tN u
    omega
  · show 600 ≤ 2 * p_tN u
    omega
  · show 2 * p_tN u ≤ 280000
    omega
def gr1 (c h : Nat) : Nat := if h ≤ c then c else 2 * c
theorem gr1_ge (c h : Nat) : c ≤ gr1 c h := by unfold gr1; split <;> omega
theorem gr1_id {c h : Nat} (q : h ≤ c) : gr1 c h = c := if_pos q
theorem gr1_comp {c h1 h2 : Nat} (q1 : h1 ≤ h2) (q2 : h2 ≤ 2 * c) : gr1 (gr1 c h1) h2 = gr1 c h2 := by
  unfold gr1
  by_cases a : h1 ≤ c
  · rw [if_pos a]
  · rw [if_neg a, if_pos q2, if_neg (show ¬ h2 ≤ c by omega)]
theorem gr1_mono {c h1 h2 : Nat} (q1 : h1 ≤ h2) : gr1 c h1 ≤ gr1 c h2 := by
  unfold gr1
  by_cases a : h1 ≤ c
  · rw [if_pos a]; split <;> omega
  · rw [if_neg a, if_neg (by omega)]; omega
theorem s_log {Q : PS → Prop} (k a b g : Nat) (hk7 : k ≤ 7) (h : PX V p M T cF fF d st u) (hT : T.length ≤ 46300) (hQ : ∀ u1, PX V p M ((k, a, b, g) :: T) cF fF d st u1 → p_pc u1 = p_pc u → p_kN u1 = p_kN u → p_kF u1 = p_kF u → p_tN u1 = gr1 (p_tN u) (3 * (T.length + 1)) → Q u1) : P_B_log (gr1 (p_tN u) (3 * (T.length + 1)) - p_tN u) (2 * (gr1 (p_tN u) (3 * (T.length + 1)) - p_tN u)) (nI k) (nI a) (eBv k a b) u Q := by
  have h7 : p_height u = nI (3 * T.length) := h.2.2.2.2.2.2.1
  have h16 : 600 ≤ p_tN u := h.2.2.2.2.2.2.2.2.2.2.2.2.2.2.2.1
  have h17 : p_tN u ≤ 280000 := h.2.2.2.2.2.2.2.2.2.2.2.2.2.2.2.2
  have h13 : 3 * T.length ≤ p_tN u := h.2.2.2.2.2.2.2.2.2.2.2.2.1
  by_cases hr : 3 * (T.length + 1) ≤ p_tN u
  · have e1 : gr1 (p_tN u) (3 * (T.length + 1)) = p_tN u := if_pos hr
    refine ⟨fun _ => log25 hk7 h (by omega) (fun u1 g1 g2 g3 g4 g5 => hQ u1 g1 g2 g3 g4 (g5.trans e1.symm)), fun q => absurd ?_ q⟩
    rw [h7, n_3]; exact nI_le (by omega) (by omega)
  · have e1 : gr1 (p_tN u) (3 * (T.length + 1)) = 2 * p_tN u := if_neg hr
    refine ⟨fun q => absurd q ?_, fun _ => ⟨by omega, by omega, by omega, ?_⟩⟩
    · rw [h7, n_3]; exact nI_ge (by omega) (by omega)
    · refine log25 hk7 (growT_PX h (by omega)) ?_ (fun u1 g1 g2 g3 g4 g5 => hQ u1 g1 g2 g3 g4 (g5.trans e1.symm))
      show 3 * T.length + 3 ≤ 2 * p_tN u
      omega
end PP
