def TKr (tF : Nat → Int32) : Nat → List PEn → Prop
  | _, [] => True
  | off, (k, a, b, _) :: R => k ≤ 7 ∧ tF (3 * off) = nI k ∧ tF (3 * off + 1) = nI a ∧ tF (3 * off + 2) = eBv k a b ∧ TKr tF (off + 1) R
theorem TKr_congr {f g : Nat → Int32} : ∀ {R : List PEn} {off : Nat}, (∀ j, 3 * off ≤ j → g j = f j) → TKr f off R → TKr g off R := by
  intro R
  induction R with
  | nil => intro off _ _; trivial
  | cons e R ih =>
    obtain ⟨k, a, b, gh⟩ := e
    intro off h ⟨h0, h1, h2, h3, h4⟩
    exact ⟨h0, by rw [h _ (by omega)]; exact h1, by rw [h _ (by omega)]; exact h2, by rw [h _ (by omega)]; exact h3, ih (fun j hj => h j (by omega)) h4⟩
theorem TKr_snoc {f : Nat → Int32} {k a b gh : Nat} : ∀ {R : List PEn} {off : Nat}, TKr f off R → k ≤ 7 → f (3 * (off + R.length)) = nI k → f (3 * (off + R.length) + 1) = nI a → f (3 * (off + R.length) + 2) = eBv k a b → TKr f off (R ++ [(k, a, b, gh)]) := by
  intro R
  induction R with
  | nil => intro off _ h0 h1 h2 h3; exact ⟨h0, h1, h2, h3, trivial⟩
  | cons e R ih =>
    obtain ⟨k', a', b', gh'⟩ := e
    intro off ⟨g0, g1, g2, g3, g4⟩ h0 h1 h2 h3
    rw [List.length_cons] at h1 h2 h3
    have e1 : off + (R.length + 1) = off + 1 + R.length := by omega
    rw [e1] at h1 h2 h3
    exact ⟨g0, g1, g2, g3, ih g4 h0 h1 h2 h3⟩
theorem TK_split {f : Nat → Int32} {T0 : List PEn} : ∀ {T1 : List PEn}, TK f (T1 ++ T0) → TKr f T0.length T1.reverse ∧ TK f T0 := by
  intro T1
  induction T1 with
  | nil => intro h; exact ⟨trivial, h⟩
  | cons e T1 ih =>
    obtain ⟨k, a, b, gh⟩ := e
    intro h
    have h : k ≤ 7 ∧ f (3 * (T1 ++ T0).length) = nI k ∧ f (3 * (T1 ++ T0).length + 1) = nI a ∧ f (3 * (T1 ++ T0).length + 2) = eBv k a b ∧ TK f (T1 ++ T0) := h
    obtain ⟨h0, h1, h2, h3, h4⟩ := h
    have ih := ih h4
    refine ⟨?_, ih.2⟩
    rw [List.reverse_cons]
    have e1 : (T1 ++ T0).length = T0.length + T1.reverse.length := by rw [List.length_append, List.length_reverse, Nat.add_comm]
    rw [e1] at h1 h2 h3
    exact TKr_snoc ih.1 h0 h1 h2 h3
section PB
variable {V : PBs} {p : Nat} {M : List Nat} {T : List PEn} {cF fF : ACp} {d st : Nat} {u : PS}
theorem L_forget {Q : PS → Prop} : ∀ (R : List PEn) (off : Nat) (S : List PEn) (u : PS) (f : Nat), TKr (p_tF u) off R → TK (p_tF u) S → S.length ≤ off → p_height u = nI (3 * (off + R.length)) → 3 * (off + R.length) ≤ p_tN u → p_tN u ≤ 280000 → R.length < f → (∀ tF1, TK tF1 ((R.filter nc).reverse ++ S) → Q (ps_height (ps_tF u tF1) (nI (3 * ((R.filter nc).reverse ++ S).length)))) → L_B_forget_4 Q f (nI (3 * S.length)) (nI (3 * off)) u := by
  intro R
  induction R with
  | nil =>
    intro off S u f hR hS hso hh hcap htn hf hQ
    cases f with
    | zero => omega
    | succ f =>
      have hh : p_height u = nI (3 * (off + 0)) := hh
      refine ⟨fun _ => hQ (p_tF u) hS, fun q => absurd ?_ q⟩
      rw [hh]; exact nI_le (by omega) (by omega)
  | cons e R ih =>
    obtain ⟨k, a, b, gh⟩ := e
    intro off S u f ⟨h0, h1, h2, h3, h4⟩ hS hso hh hcap htn hf hQ
    rw [List.length_cons] at hh hcap hf
    cases f with
    | zero => omega
    | succ f =>
      refine ⟨fun q => absurd q (by rw [hh]; exact nI_ge (by omega) (by omega)), fun _ => ?_⟩
      have hin : ∀ j, j < 3 * (off + (R.length + 1)) → vp_in (nI j) (p_tN u) := fun j hj => vp_in_nI (by omega) (by omega)
      refine ⟨hin _ (by omega), ?_⟩
      rw [nI_clamp (by omega), h1]
      refine ⟨fun q x hx => ?_, fun q => ?_⟩
      · have q : k = 0 := (neq (b := 0) (by omega) (by decide)).mp q
        rw [hx, n_3]
        have e1 : 3 * off + 3 = 3 * (off + 1) := by omega
        rw [e1]
        rw [List.filter_cons_of_neg (by show ¬ (!decide (k = 0)) = true; rw [q]; decide)] at hQ
        exact ih (off + 1) S u f h4 hS (by omega) (by rw [hh]; congr 2; omega) (by omega) htn (by omega) hQ
      · have q : k ≠ 0 := fun e => q (by rw [e]; rfl)
        rw [List.filter_cons_of_pos (by show (!decide (k = 0)) = true; rw [decide_eq_false q]; rfl), List.reverse_cons, List.append_assoc] at hQ
        rw [nI_clamp (by omega), n_1, n_1, n_2, n_2, nI_clamp (by omega), nI_clamp (by omega), nI_clamp (by omega), nI_clamp (by omega)]
        show vp_in (nI (3 * off)) (p_tN u) ∧ vp_in (nI (3 * S.length)) (p_tN u) ∧ vp_in (nI (3 * off + 1)) (p_tN u) ∧ vp_in (nI (3 * S.length + 1)) (p_tN u) ∧ vp_in (nI (3 * off + 2)) (p_tN u) ∧ vp_in (nI (3 * S.length + 2)) (p_tN u) ∧ (∀ x2 : Int32, x2 = nI (3 * S.length) + 3 → B_B_forget_71 Q (L_B_forget_4 Q f) x2 (nI (3 * off)) (ps_tF u (upd (upd (upd (p_tF u) (3 * S.length) (nI k)) (3 * S.length + 1) (upd (p_tF u) (3 * S.length) (nI k) (3 * off + 1))) (3 * S.length + 2) (upd (upd (p_tF u) (3 * S.length) (nI k)) (3 * S.length + 1) (upd (p_tF u) (3 * S.length) (nI k) (3 * off + 1)) (3 * off + 2)))))
        refine ⟨hin _ (by omega), hin _ (by omega), hin _ (by omega), hin _ (by omega), hin _ (by omega), hin _ (by omega), fun x2 hx2 x3 hx3 => ?_⟩
        have v1 : upd (p_tF u) (3 * S.length) (nI k) (3 * off + 1) = nI a := by rw [pk_un (by omega)]; exact h2
        have v2 : upd (upd (p_tF u) (3 * S.length) (nI k)) (3 * S.length + 1) (nI a) (3 * off + 2) = eBv k a b := by
          rw [pk_un (by omega), pk_un (by omega)]; exact h3
        rw [v1, v2, hx3, hx2, n_3, n_3]
        have e1 : 3 * off + 3 = 3 * (off + 1) := by omega
        have e2 : 3 * S.length + 3 = 3 * ((k, a, b, gh) :: S).length := by rw [List.length_cons]; omega
        rw [e1, e2]
        have hfar : ∀ j, 3 * (off + 1) ≤ j → upd (upd (upd (p_tF u) (3 * S.length) (nI k)) (3 * S.length + 1) (nI a)) (3 * S.length + 2) (eBv k a b) j = p_tF u j := fun j hj => by
          rw [pk_un (by omega), pk_un (by omega), pk_un (by omega)]
        have hnear : ∀ j, j < 3 * S.length → upd (upd (upd (p_tF u) (3 * S.length) (nI k)) (3 * S.length + 1) (nI a)) (3 * S.length + 2) (eBv k a b) j = p_tF u j := fun j hj => by
          rw [pk_un (by omega), pk_un (by omega), pk_un (by omega)]
        refine ih (off + 1) ((k, a, b, gh) :: S) _ f (TKr_congr hfar h4) ⟨h0, ?_, ?_, ?_, TK_congr hnear hS⟩ (by rw [List.length_cons]; omega) ?_ (show 3 * (off + 1 + R.length) ≤ p_tN u by omega) htn (by omega) hQ
        · show upd _ _ _ (3 * S.length) = _
          rw [pk_un (by omega), pk_un (by omega), pk_us]
        · show upd _ _ _ (3 * S.length + 1) = _
          rw [pk_un (by omega), pk_us]
        · show upd _ _ _ (3 * S.length + 2) = _
          rw [pk_us]
        · show p_height u = _
          rw [hh]; congr 2; omega
theorem PX_trail {T' : List PEn} {tF1 : Nat → Int32} (h : PX V p M T cF fF d st u) (hT : TK tF1 T') (hl : T'.length ≤ T.length) : PX V p M T' cF fF d st (ps_height (ps_tF u tF1) (nI (3 * T'.length))) := by
  obtain ⟨h1, h2, h3, h4, h5, h6, h7, h8, h9, h10, h11, h12, h13, h14⟩ := h
  refine ⟨h1, h2, h3, h4, h5, h6, rfl, h8, hT, h10, h11, h12, ?_, h14⟩
  show 3 * T'.length ≤ p_tN u
  omega
theorem s_forget {Q : PS → Prop} {T1 T0 : List PEn} (h : PX V p M (T1 ++ T0) cF fF d st u) (hQ : ∀ u1, PX V p M (T1.filter nc ++ T0) cF fF d st u1 → p_pc u1 = p_pc u → p_tN u1 = p_tN u → p_kN u1 = p_kN u → Q u1) : P_B_forget (nI (3 * T0.length)) u Q := by
  have ht := PX_tN h
  have h7 : p_height u = nI (3 * (T1 ++ T0).length) := h.2.2.2.2.2.2.1
  have h9 : TK (p_tF u) (T1 ++ T0) := h.2.2.2.2.2.2.2.2.1
  have hs := TK_split h9
  have hl : (T1 ++ T0).length = T0.length + T1.reverse.length := by rw [List.length_append, List.length_reverse, Nat.add_comm]
  have hfr : (T1.reverse.filter nc).reverse = T1.filter nc := by rw [List.filter_reverse, List.reverse_reverse]
  refine ⟨T1.reverse.length + 1, L_forget T1.reverse T0.length T0 u _ hs.1 hs.2 (Nat.le_refl _) (by rw [h7, hl]) (by rw [← hl]; exact ht.2.2) ht.2.1 (by omega) (fun tF1 hT1 => ?_)⟩
  rw [hfr] at hT1 ⊢
  refine hQ _ (PX_trail h hT1 ?_) rfl rfl rfl
  have := List.length_filter_le nc T1
  rw [List.length_append, List.length_append]; omega
theorem B_unmark {m tn kn : Nat} {x : Int32} (hx : x = nI M.length) (h : PX V p (m :: M) T cF fF d st u) (ht : p_tN u = tn) (hk : p_kN u = kn) : PX V p M T cF fF d st (ps_marked u x) ∧ p_tN (ps_marked u x) = tn ∧ p_kN (ps_marked u x) = kn := ⟨PX_unmark h hx, ht, hk⟩
theorem B_mark {v m tn kn : Nat} {x : Int32} (hx : x = nI (M.length + 1)) (hm : m = M.length) (h : PX V p M T cF fF d st u) (hl : M.length + 1 ≤ p_kN u) (ht : p_tN u = tn) (hk : p_kN u = kn) : PX V p (v :: M) T cF fF d st (ps_marked (ps_kF u (upd (p_kF u) m (nI v))) x) ∧ p_tN (ps_marked (ps_kF u (upd (p_kF u) m (nI v))) x) = tn ∧ p_kN (ps_marked (ps_kF u (upd (p_kF u) m (nI v))) x) = kn := ⟨PX_mark h hx hm hl, ht, hk⟩
theorem B_cF {a v tn kn : Nat} {x : Int32} (hx : x = decV v) (h : PX V p M T cF fF d st u) (ht : p_tN u = tn) (hk : p_kN u = kn) : PX V p M T (uN cF a v) fF d st (ps_cF u (upd (p_cF u) a x)) ∧ p_tN (ps_cF u (upd (p_cF u) a x)) = tn ∧ p_kN (ps_cF u (upd (p_cF u) a x)) = kn := ⟨PX_cF h hx, ht, hk⟩
theorem B_fF {a v tn kn : Nat} {x : Int32} (hx : x = decF a v) (h : PX V p M T cF fF d st u) (ht : p_tN u = tn) (hk : p_kN u = kn) : PX V p M T cF (uN fF a v) d st (ps_fF u (upd (p_fF u) a x)) ∧ p_tN (ps_fF u (upd (p_fF u) a x)) = tn ∧ p_kN (ps_fF u (upd (p_fF u) a x)) = kn := ⟨PX_fF h hx, ht, hk⟩
theorem B_calls {d' tn kn : Nat} {x : Int32} (hx : x = nI d') (h : PX V p M T cF fF d st u) (ht : p_tN u = tn) (hk : p_kN u = kn) : PX V p M T cF fF d' st (ps_calls u x) ∧ p_tN (ps_calls u x) = tn ∧ p_kN (ps_calls u x) = kn := by
  obtain ⟨g1, g2, g3, g4, g5, g6⟩ := h
  exact ⟨⟨g1, g2, g3, g4, hx, g6⟩, ht, hk⟩
theorem B_place {p' tn kn : Nat} {x y : Int32} (hx : x = nI p') (h : PX V p M T cF fF d st u) (ht : p_tN u = tn) (hk : p_kN u = kn) : PX V p' M T cF fF d st (ps_place (ps_pc u y) x) ∧ p_tN (ps_place (ps_pc u y) x) = tn ∧ p_kN (ps_place (ps_pc u y) x) = kn ∧ p_pc (ps_place (ps_pc u y) x) = y := by
  obtain ⟨g1, g2, g3, g4⟩ := h
  exact ⟨⟨g1, g2, hx, g4⟩, ht, hk, rfl⟩
theorem B_pop {e : PEn} {tn kn : Nat} {x : Int32} (hx : x = nI (3 * T.length)) (h : PX V p M (e :: T) cF fF d st u) (ht : p_tN u = tn) (hk : p_kN u = kn) : PX V p M T cF fF d st (ps_height u x) ∧ p_tN (ps_height u x) = tn ∧ p_kN (ps_height u x) = kn ∧ p_tF (ps_height u x) = p_tF u ∧ p_height (ps_height u x) = x ∧ p_marked (ps_height u x) = p_marked u ∧ p_calls (ps_height u x) = p_calls u := by
  obtain ⟨k, a, b, gh⟩ := e
  obtain ⟨h1, h2, h3, h4, h5, h6, h7, h8, ⟨t0, t1, t2, t3, t4⟩, h10, h11, h12, h13, h14⟩ := h
  rw [List.length_cons] at h13
  refine ⟨⟨h1, h2, h3, h4, h5, h6, hx, h8, t4, h10, h11, h12, ?_, h14⟩, ht, hk, rfl, rfl, rfl, rfl⟩
  show 3 * T.length ≤ p_tN u
  omega
def BBk (Qc : Int32 → PS → Prop) (K0 : PS → Prop) (v : PS) : Prop := (vp_in ((p_height v) + (1 : Int32)) (p_tN v) ∧ (∀ x1_28 : Int32, x1_28 = (p_tF v ((p_height v) + (1 : Int32)).toNatClampNeg) → (vp_in ((p_height v) + (2 : Int32)) (p_tN v) ∧ (∀ x2_40 : Int32, x2_40 = (p_tF v ((p_height v) + (2 : Int32)).toNatClampNeg) → (vp_in (p_height v) (p_tN v) ∧ (∀ y_50 : Int32, y_50 = (p_tF v (p_height v).toNatClampNeg) → ((y_50 = (0 : Int32) → Qc (1 : Int32) (ps_place (ps_pc v x1_28) x2_40)) ∧ (y_50 = (1 : Int32) → B_B_back_186 Qc K0  (ps_marked v ((p_marked v) - (1 : Int32)))) ∧ (y_50 = (2 : Int32) → (vp_in (p_marked v) (p_kN v) ∧ B_B_back_186 Qc K0  (ps_marked (ps_kF v (upd (p_kF v) (p_marked v).toNatClampNeg x1_28)) ((p_marked (ps_kF v (upd (p_kF v) (p_marked v).toNatClampNeg x1_28))) + (1 : Int32))))) ∧ (y_50 = (3 : Int32) → (vp_in x1_28 10 ∧ B_B_back_186 Qc K0  (ps_cF v (upd (p_cF v) x1_28.toNatClampNeg x2_40)))) ∧ (y_50 = (4 : Int32) → (vp_in x1_28 120 ∧ B_B_back_186 Qc K0  (ps_fF v (upd (p_fF v) x1_28.toNatClampNeg x2_40)))) ∧ (y_50 = (5 : Int32) → B_B_back_186 Qc K0  (ps_calls v ((p_calls v) - (1 : Int32)))) ∧ (y_50 = (6 : Int32) → B_B_back_186 Qc K0  (ps_calls v ((p_calls v) + (1 : Int32)))) ∧ (¬ y_50 = (0 : Int32) → ¬ y_50 = (1 : Int32) → ¬ y_50 = (2 : Int32) → ¬ y_50 = (3 : Int32) → ¬ y_50 = (4 : Int32) → ¬ y_50 = (5 : Int32) → ¬ y_50 = (6 : Int32) → B_B_back_186 Qc K0  v))))))))
theorem back_unf {Q : Int32 → PS → Prop} {n : Nat} {u : PS} (h1 : p_height u ≤ 0 → Q 0 u) (h2 : ¬ p_height u ≤ 0 → BBk Q (L_B_back_0 Q n) (ps_height u (p_height u - 3))) : L_B_back_0 Q (n + 1) u := ⟨h1, h2⟩
theorem back_0 {Q : Int32 → PS → Prop} {K0 : PS → Prop} {v : PS} {l a b : Nat} (hh : p_height v = nI (3 * l)) (hl : 3 * l + 2 < p_tN v) (hn : p_tN v < 2 ^ 30) (t1 : p_tF v (3 * l) = nI 0) (t2 : p_tF v (3 * l + 1) = nI a) (t3 : p_tF v (3 * l + 2) = eBv 0 a b) (hq : Q 1 (ps_place (ps_pc v (nI a)) (nI b))) : BBk Q K0 v := by
  unfold BBk
  rw [hh, n_1, n_2, nI_clamp (by omega), nI_clamp (by omega), nI_clamp (by omega), t1, t2, t3]
  refine ⟨vp_in_nI (by omega) (by omega), fun x1 hx1 => ⟨vp_in_nI (by omega) (by omega), fun x2 hx2 => ⟨vp_in_nI (by omega) (by omega), fun y hy => ?_⟩⟩⟩
  rw [hx1, hx2, hy]
  exact ⟨fun _ => hq, fun e => absurd e (by decide), fun e => absurd e (by decide), fun e => absurd e (by decide), fun e => absurd e (by decide), fun e => absurd e (by decide), fun e => absurd e (by decide), fun e0 e1 e2 e3 e4 e5 e6 => absurd rfl e0⟩
theorem back_1 {Q : Int32 → PS → Prop} {K0 : PS → Prop} {v : PS} {l a b : Nat} (hh : p_height v = nI (3 * l)) (hl : 3 * l + 2 < p_tN v) (hn : p_tN v < 2 ^ 30) (t1 : p_tF v (3 * l) = nI 1) (t2 : p_tF v (3 * l + 1) = nI a) (t3 : p_tF v (3 * l + 2) = eBv 1 a b) (hq : K0 (ps_marked v (p_marked v - 1))) : BBk Q K0 v := by
  unfold BBk
  rw [hh, n_1, n_2, nI_clamp (by omega), nI_clamp (by omega), nI_clamp (by omega), t1, t2, t3]
  refine ⟨vp_in_nI (by omega) (by omega), fun x1 hx1 => ⟨vp_in_nI (by omega) (by omega), fun x2 hx2 => ⟨vp_in_nI (by omega) (by omega), fun y hy => ?_⟩⟩⟩
  rw [hx1, hx2, hy]
  exact ⟨fun e => absurd e (by decide), fun _ => hq, fun e => absurd e (by decide), fun e => absurd e (by decide), fun e => absurd e (by decide), fun e => absurd e (by decide), fun e => absurd e (by decide), fun e0 e1 e2 e3 e4 e5 e6 => absurd rfl e1⟩
theorem back_2 {Q : Int32 → PS → Prop} {K0 : PS → Prop} {v : PS} {l a b : Nat} (hh : p_height v = nI (3 * l)) (hl : 3 * l + 2 < p_tN v) (hn : p_tN v < 2 ^ 30) (t1 : p_tF v (3 * l) = nI 2) (t2 : p_tF v (3 * l + 1) = nI a) (t3 : p_tF v (3 * l + 2) = eBv 2 a b) (hin : vp_in (p_marked v) (p_kN v)) (hq : K0 (ps_marked (ps_kF v (upd (p_kF v) (p_marked v).toNatClampNeg (nI a))) (p_marked v + 1))) : BBk Q K0 v := by
  unfold BBk
  rw [hh, n_1, n_2, nI_clamp (by omega), nI_clamp (by omega), nI_clamp (by omega), t1, t2, t3]
  refine ⟨vp_in_nI (by omega) (by omega), fun x1 hx1 => ⟨vp_in_nI (by omega) (by omega), fun x2 hx2 => ⟨vp_in_nI (by omega) (by omega), fun y hy => ?_⟩⟩⟩
  rw [hx1, hx2, hy]
  exact ⟨fun e => absurd e (by decide), fun e => absurd e (by decide), fun _ => ⟨hin, hq⟩, fun e => absurd e (by decide), fun e => absurd e (by decide), fun e => absurd e (by decide), fun e => absurd e (by decide), fun e0 e1 e2 e3 e4 e5 e6 => absurd rfl e2⟩
theorem back_3 {Q : Int32 → PS → Prop} {K0 : PS → Prop} {v : PS} {l a b : Nat} (hh : p_height v = nI (3 * l)) (hl : 3 * l + 2 < p_tN v) (hn : p_tN v < 2 ^ 30) (t1 : p_tF v (3 * l) = nI 3) (t2 : p_tF v (3 * l + 1) = nI a) (t3 : p_tF v (3 * l + 2) = eBv 3 a b) (ha : a < 10) (hq : K0 (ps_cF v (upd (p_cF v) a (eBv 3 a b)))) : BBk Q K0 v := by
  unfold BBk
  rw [hh, n_1, n_2, nI_clamp (by omega), nI_clamp (by omega), nI_clamp (by omega), t1, t2, t3]
  refine ⟨vp_in_nI (by omega) (by omega), fun x1 hx1 => ⟨vp_in_nI (by omega) (by omega), fun x2 hx2 => ⟨vp_in_nI (by omega) (by omega), fun y hy => ?_⟩⟩⟩
  rw [hx1, hx2, hy]
  exact ⟨fun e => absurd e (by decide), fun e => absurd e (by decide), fun e => absurd e (by decide), fun _ => ⟨vp_in_nI ha (by decide), by rw [nI_clamp (by omega)]; exact hq⟩, fun e => absurd e (by decide), fun e => absurd e (by decide), fun e => absurd e (by decide), fun e0 e1 e2 e3 e4 e5 e6 => absurd rfl e3⟩
theorem back_4 {Q : Int32 → PS → Prop} {K0 : PS → Prop} {v : PS} {l a b : Nat} (hh : p_height v = nI (3 * l)) (hl : 3 * l + 2 < p_tN v) (hn : p_tN v < 2 ^ 30) (t1 : p_tF v (3 * l) = nI 4) (t2 : p_tF v (3 * l + 1) = nI a) (t3 : p_tF v (3 * l + 2) = eBv 4 a b) (ha : a < 120) (hq : K0 (ps_fF v (upd (p_fF v) a (eBv 4 a b)))) : BBk Q K0 v := by
  unfold BBk
  rw [hh, n_1, n_2, nI_clamp (by omega), nI_clamp (by omega), nI_clamp (by omega), t1, t2, t3]
  refine ⟨vp_in_nI (by omega) (by omega), fun x1 hx1 => ⟨vp_in_nI (by omega) (by omega), fun x2 hx2 => ⟨vp_in_nI (by omega) (by omega), fun y hy => ?_⟩⟩⟩
  rw [hx1, hx2, hy]
  exact ⟨fun e => absurd e (by decide), fun e => absurd e (by decide), fun e => absurd e (by decide), fun e => absurd e (by decide), fun _ => ⟨vp_in_nI ha (by decide), by rw [nI_clamp (by omega)]; exact hq⟩, fun e => absurd e (by decide), fun e => absurd e (by decide), fun e0 e1 e2 e3 e4 e5 e6 => absurd rfl e4⟩
theorem back_5 {Q : Int32 → PS → Prop} {K0 : PS → Prop} {v : PS} {l a b : Nat} (hh : p_height v = nI (3 * l)) (hl : 3 * l + 2 < p_tN v) (hn : p_tN v < 2 ^ 30) (t1 : p_tF v (3 * l) = nI 5) (t2 : p_tF v (3 * l + 1) = nI a) (t3 : p_tF v (3 * l + 2) = eBv 5 a b) (hq : K0 (ps_calls v (p_calls v - 1))) : BBk Q K0 v := by
  unfold BBk
  rw [hh, n_1, n_2, nI_clamp (by omega), nI_clamp (by omega), nI_clamp (by omega), t1, t2, t3]
  refine ⟨vp_in_nI (by omega) (by omega), fun x1 hx1 => ⟨vp_in_nI (by omega) (by omega), fun x2 hx2 => ⟨vp_in_nI (by omega) (by omega), fun y hy => ?_⟩⟩⟩
  rw [hx1, hx2, hy]
  exact ⟨fun e => absurd e (by decide), fun e => absurd e (by decide), fun e => absurd e (by decide), fun e => absurd e (by decide), fun e => absurd e (by decide), fun _ => hq, fun e => absurd e (by decide), fun e0 e1 e2 e3 e4 e5 e6 => absurd rfl e5⟩
theorem back_6 {Q : Int32 → PS → Prop} {K0 : PS → Prop} {v : PS} {l a b : Nat} (hh : p_height v = nI (3 * l)) (hl : 3 * l + 2 < p_tN v) (hn : p_tN v < 2 ^ 30) (t1 : p_tF v (3 * l) = nI 6) (t2 : p_tF v (3 * l + 1) = nI a) (t3 : p_tF v (3 * l + 2) = eBv 6 a b) (hq : K0 (ps_calls v (p_calls v + 1))) : BBk Q K0 v := by
  unfold BBk
  rw [hh, n_1, n_2, nI_clamp (by omega), nI_clamp (by omega), nI_clamp (by omega), t1, t2, t3]
  refine ⟨vp_in_nI (by omega) (by omega), fun x1 hx1 => ⟨vp_in_nI (by omega) (by omega), fun x2 hx2 => ⟨vp_in_nI (by omega) (by omega), fun y hy => ?_⟩⟩⟩
  rw [hx1, hx2, hy]
  exact ⟨fun e => absurd e (by decide), fun e => absurd e (by decide), fun e => absurd e (by decide), fun e => absurd e (by decide), fun e => absurd e (by decide), fun e => absurd e (by decide), fun _ => hq, fun e0 e1 e2 e3 e4 e5 e6 => absurd rfl e6⟩
theorem back_7 {Q : Int32 → PS → Prop} {K0 : PS → Prop} {v : PS} {l a b : Nat} (hh : p_height v = nI (3 * l)) (hl : 3 * l + 2 < p_tN v) (hn : p_tN v < 2 ^ 30) (t1 : p_tF v (3 * l) = nI 7) (t2 : p_tF v (3 * l + 1) = nI a) (t3 : p_tF v (3 * l + 2) = eBv 7 a b) (hq : K0 v) : BBk Q K0 v := by
  unfold BBk
  rw [hh, n_1, n_2, nI_clamp (by omega), nI_clamp (by omega), nI_clamp (by omega), t1, t2, t3]
  refine ⟨vp_in_nI (by omega) (by omega), fun x1 hx1 => ⟨vp_in_nI (by omega) (by omega), fun x2 hx2 => ⟨vp_in_nI (by omega) (by omega), fun y hy => ?_⟩⟩⟩
  rw [hx1, hx2, hy]
  exact ⟨fun e => absurd e (by decide), fun e => absurd e (by decide), fun e => absurd e (by decide), fun e => absurd e (by decide), fun e => absurd e (by decide), fun e => absurd e (by decide), fun e => absurd e (by decide), fun _ _ _ _ _ _ _ => hq⟩
def unF : List PEn → ACp → ACp
  | [], f => f
  | (k, a, b, _) :: T, f => unF T (if k = 4 then uN f a b else f)
theorem L_back {V : PBs} {st : Nat} {S : Nat → Nat → List Nat → List PEn → ACp → ACp → Nat → Prop} {Z : Prop} {Q : Int32 → PS → Prop} {tn kn : Nat} {FZ : ACp}
    (hS : ∀ a b M T cF fF d u1, S a b M T cF fF d → PX V b M T cF fF d st u1 → mxM T M.length ≤ kn → p_pc u1 = nI a → p_tN u1 = tn → p_kN u1 = kn → Q 1 u1)
    (hZ : ∀ p M cF d u1, Z → PX V p M [] cF FZ d st u1 → (∀ a, FZ a < 2 ^ 20) → p_tN u1 = tn → p_kN u1 = kn → Q 0 u1) :
    ∀ (T : List PEn) (p : Nat) (M : List Nat) (cF fF : ACp) (d : Nat) (u : PS) (f : Nat), PX V p M T cF fF d st u → mxM T M.length ≤ kn → (∀ a, fF a < 2 ^ 20) → pUndo S Z T M cF fF d → T.length < f → p_tN u = tn → p_kN u = kn → unF T fF = FZ → L_B_back_0 Q f u := by
  intro T
  induction T with
  | nil =>
    intro p M cF fF d u f h hm hfb hU hf ht hk hun
    cases f with
    | zero => omega
    | succ f =>
      have h7 : p_height u = nI 0 := h.2.2.2.2.2.2.1
      have hun : fF = FZ := hun
      subst hun
      exact ⟨fun _ => hZ p M cF d u hU h hfb ht hk, fun q => absurd (by rw [h7]; decide) q⟩
  | cons e T ih =>
    obtain ⟨k, a, b, gh⟩ := e
    intro p M cF fF d u f h hm hfb hU hf ht hk hun
    rw [List.length_cons] at hf
    have htn := PX_tN h
    have hkn := PX_kN h
    have h7 : p_height u = nI (3 * (T.length + 1)) := h.2.2.2.2.2.2.1
    have h6 : p_marked u = nI M.length := h.2.2.2.2.2.1
    have h5 : p_calls u = nI d := h.2.2.2.2.1
    obtain ⟨t0, t1, t2, t3, t4⟩ := h.2.2.2.2.2.2.2.2.1
    rw [List.length_cons] at htn
    cases f with
    | zero => omega
    | succ f =>
      have e7 : p_height u - 3 = nI (3 * T.length) := by
        rw [h7, show (3 : Int32) = nI 3 from rfl, n_sub (by omega)]; congr 1
      refine back_unf (fun q => absurd q (by rw [h7]; exact nI_nle (by omega) (by omega))) (fun _ => ?_)
      generalize p_height u - 3 = x at e7
      obtain ⟨hX, hv, hkv, htF, hhv, hmv, hcv⟩ := B_pop e7 h ht hk
      generalize ps_height u x = v at hX hv hkv htF hhv hmv hcv
      rw [e7] at hhv
      rw [h6] at hmv
      rw [h5] at hcv
      rw [← htF] at t1 t2 t3
      have hl3 : 3 * T.length + 2 < p_tN v := by omega
      have hn3 : p_tN v < 2 ^ 30 := by omega
      have hmm : mxM T (if k = 1 then M.length - 1 else if k = 2 then M.length + 1 else M.length) ≤ kn := by
        have : max M.length (mxM T (if k = 1 then M.length - 1 else if k = 2 then M.length + 1 else M.length)) ≤ kn := hm
        omega
      rcases hU with ⟨e0, hU⟩ | ⟨e0, m, M', hM, hU⟩ | ⟨e0, ha, hU⟩ | ⟨e0, ha2, ha, hU⟩ | ⟨e0, ha, hb, hU⟩ | ⟨e0, d', hd, hU⟩ | ⟨e0, hU⟩ | ⟨e0, hU⟩
      · subst e0
        refine back_0 hhv hl3 hn3 t1 t2 t3 ?_
        have hb : eBv 0 a b = nI b := rfl
        obtain ⟨g1, g2, g3, g4⟩ := B_place (y := nI a) hb hX hv hkv
        exact hS a b M T cF fF d _ hU g1 hmm g4 g2 g3
      · subst e0 hM
        refine back_1 hhv hl3 hn3 t1 t2 t3 ?_
        have hx : p_marked v - 1 = nI M'.length := by rw [hmv, List.length_cons]; exact nI_pred _
        generalize p_marked v - 1 = y2 at hx
        obtain ⟨g1, g2, g3⟩ := B_unmark hx hX hv hkv
        rw [List.length_cons, if_pos rfl, Nat.add_sub_cancel] at hmm
        exact ih p M' cF fF d _ f g1 hmm hfb hU (by omega) g2 g3 hun
      · subst e0
        rw [if_neg (by decide), if_pos rfl] at hmm
        have hge := mxM_ge T (M.length + 1)
        have hkn2 := PX_kN hX
        refine back_2 hhv hl3 hn3 t1 t2 t3 (by rw [hmv]; exact vp_in_nI (by omega) (by omega)) ?_
        have hx : p_marked v + 1 = nI (M.length + 1) := by rw [hmv, n_1]
        have hx2 : (p_marked v).toNatClampNeg = M.length := by rw [hmv, nI_clamp (by omega)]
        generalize p_marked v + 1 = y2 at hx
        generalize (p_marked v).toNatClampNeg = y3 at hx2
        obtain ⟨g1, g2, g3⟩ := B_mark (v := a) hx hx2 hX (by omega) hv hkv
        exact ih p (a :: M) cF fF d _ f g1 hmm hfb hU (by omega) g2 g3 hun
      · subst e0
        rw [if_neg (by decide), if_neg (by decide)] at hmm
        refine back_3 hhv hl3 hn3 t1 t2 t3 ha ?_
        have hb : eBv 3 a b = decV b := rfl
        obtain ⟨g1, g2, g3⟩ := B_cF (a := a) hb hX hv hkv
        exact ih p M _ fF d _ f g1 hmm hfb hU (by omega) g2 g3 hun
      · subst e0
        rw [if_neg (by decide), if_neg (by decide)] at hmm
        refine back_4 hhv hl3 hn3 t1 t2 t3 ha ?_
        have hb2 : eBv 4 a b = decF a b := rfl
        obtain ⟨g1, g2, g3⟩ := B_fF (a := a) hb2 hX hv hkv
        exact ih p M cF _ d _ f g1 hmm (fun j => by unfold uN; split; exact hb; exact hfb j) hU (by omega) g2 g3 hun
      · subst e0 hd
        rw [if_neg (by decide), if_neg (by decide)] at hmm
        refine back_5 hhv hl3 hn3 t1 t2 t3 ?_
        have hx : p_calls v - 1 = nI d' := by rw [hcv]; exact nI_pred _
        generalize p_calls v - 1 = y2 at hx
        obtain ⟨g1, g2, g3⟩ := B_calls hx hX hv hkv
        exact ih p M cF fF d' _ f g1 hmm hfb hU (by omega) g2 g3 hun
      · subst e0
        rw [if_neg (by decide), if_neg (by decide)] at hmm
        refine back_6 hhv hl3 hn3 t1 t2 t3 ?_
        have hx : p_calls v + 1 = nI (d + 1) := by rw [hcv, n_1]
        generalize p_calls v + 1 = y2 at hx
        obtain ⟨g1, g2, g3⟩ := B_calls hx hX hv hkv
        exact ih p M cF fF (d + 1) _ f g1 hmm hfb hU (by omega) g2 g3 hun
      · subst e0
        rw [if_neg (by decide), if_neg (by decide)] at hmm
        refine back_7 hhv hl3 hn3 t1 t2 t3 ?_
        exact ih p M cF fF d _ f hX hmm hfb hU (by omega) hv hkv hun
end PB
