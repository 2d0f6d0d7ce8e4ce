def pB0 (u : PS) : Int32 × Int32 × Int32 × Int32 × SBS × SBS × PRS := (p_limit u, p_there u, p_rgroups u, p_rsize u, p_wr u, p_su u, p_pr u)
def pB1 (u : PS) : Int32 × Int32 × (Nat → Int32) × Nat × Nat := (p_steps u, p_stopped u, p_fF u, p_kN u, p_tN u)
theorem pB0_cF (u : PS) (f : Nat → Int32) : pB0 (ps_cF u f) = pB0 u := rfl
theorem pB1_cF (u : PS) (f : Nat → Int32) : pB1 (ps_cF u f) = pB1 u := rfl
theorem pB0_m (u : PS) (x : Int32) : pB0 (ps_matched u x) = pB0 u := rfl
theorem pB1_m (u : PS) (x : Int32) : pB1 (ps_matched u x) = pB1 u := rfl
theorem mt_cF (u : PS) (f : Nat → Int32) : p_matched (ps_cF u f) = p_matched u := rfl
theorem mt_m (u : PS) (x : Int32) : p_matched (ps_matched u x) = x := rfl
theorem cF_cF (u : PS) (f : Nat → Int32) : p_cF (ps_cF u f) = f := rfl
theorem cF_m (u : PS) (x : Int32) : p_cF (ps_matched u x) = p_cF u := rfl
theorem plc_cF (u : PS) (f : Nat → Int32) : p_place (ps_cF u f) = p_place u := rfl
theorem plc_m (u : PS) (x : Int32) : p_place (ps_matched u x) = p_place u := rfl
theorem cf3 (u : PS) (m1 : Int32) (F1 F2 : Nat → Int32) : pB0 (ps_cF (ps_cF (ps_matched u m1) F1) F2) = pB0 u ∧ pB1 (ps_cF (ps_cF (ps_matched u m1) F1) F2) = pB1 u ∧ p_matched (ps_cF (ps_cF (ps_matched u m1) F1) F2) = m1 ∧ p_cF (ps_cF (ps_cF (ps_matched u m1) F1) F2) = F2 :=
  ⟨(pB0_cF (ps_cF (ps_matched u m1) F1) F2).trans ((pB0_cF (ps_matched u m1) F1).trans (pB0_m u m1)), (pB1_cF (ps_cF (ps_matched u m1) F1) F2).trans ((pB1_cF (ps_matched u m1) F1).trans (pB1_m u m1)), (mt_cF (ps_cF (ps_matched u m1) F1) F2).trans ((mt_cF (ps_matched u m1) F1).trans (mt_m u m1)), cF_cF (ps_cF (ps_matched u m1) F1) F2⟩
theorem fRes_all (u : PS) (x2 : Int32) : pB0 (fRes u x2) = pB0 u ∧ pB1 (fRes u x2) = pB1 u ∧ p_matched (fRes u x2) = 1 ∧ p_cF (fRes u x2) = upd (p_cF (ps_cF (ps_matched u 1) (upd (p_cF (ps_matched u 1)) (0 : Int32).toNatClampNeg x2))) (1 : Int32).toNatClampNeg (p_place (ps_cF (ps_matched u 1) (upd (p_cF (ps_matched u 1)) (0 : Int32).toNatClampNeg x2))) :=
  cf3 u 1 (upd (p_cF (ps_matched u 1)) (0 : Int32).toNatClampNeg x2) (upd (p_cF (ps_cF (ps_matched u 1) (upd (p_cF (ps_matched u 1)) (0 : Int32).toNatClampNeg x2))) (1 : Int32).toNatClampNeg (p_place (ps_cF (ps_matched u 1) (upd (p_cF (ps_matched u 1)) (0 : Int32).toNatClampNeg x2))))
theorem c2v (u : PS) (m1 x2 : Int32) (i0 i1 : Nat) : upd (p_cF (ps_cF (ps_matched u m1) (upd (p_cF (ps_matched u m1)) i0 x2))) i1 (p_place (ps_cF (ps_matched u m1) (upd (p_cF (ps_matched u m1)) i0 x2))) = upd (upd (p_cF u) i0 x2) i1 (p_place u) :=
  congr (congrArg (fun f => upd f i1) ((cF_cF (ps_matched u m1) (upd (p_cF (ps_matched u m1)) i0 x2)).trans (congrArg (fun f => upd f i0 x2) (cF_m u m1)))) ((plc_cF (ps_matched u m1) (upd (p_cF (ps_matched u m1)) i0 x2)).trans (plc_m u m1))
theorem fRes_cF (u : PS) (x2 : Int32) : p_cF (fRes u x2) = upd (upd (p_cF u) 0 x2) 1 (p_place u) := by
  have e0 : (0 : Int32).toNatClampNeg = 0 := by decide
  have e1 : (1 : Int32).toNatClampNeg = 1 := by decide
  have h := (fRes_all u x2).2.2.2.trans (c2v u 1 x2 (0 : Int32).toNatClampNeg (1 : Int32).toNatClampNeg)
  rw [e0, e1] at h
  exact h
theorem mf_1 (w : MS) (x : Int32) : mBase (ms_matched w x) = (m_limit w, m_length w, m_text w, m_letters w, m_subject w, (m_drafted w, m_draft w, m_ready w, m_groups w, m_size w, x, m_first w, m_last w, m_found w, m_sums w)) := rfl
def mB0 (u : MS) : Int32 × Int32 × (Nat → Int32) × Int32 × (Nat → Int32) × Int32 × (Nat → Int32) × Int32 × Int32 × Int32 × Int32 := (m_limit u, m_length u, m_text u, m_letters u, m_subject u, m_drafted u, m_draft u, m_ready u, m_groups u, m_size u, m_steps u)
theorem km_1 (u : MS) (x : Int32) : mB0 (ms_matched u x) = mB0 u := rfl
theorem km_2 (u : MS) (x : Int32) : mB0 (ms_first u x) = mB0 u := rfl
theorem km_3 (u : MS) (x : Int32) : mB0 (ms_last u x) = mB0 u := rfl
theorem km_4 (u : MS) (x : Int64) : mB0 (ms_found u x) = mB0 u := rfl
theorem sr3 (u : MS) (m1 x2 y : Int32) (z : Int64) : mB0 (ms_found (ms_last (ms_first (ms_matched u m1) x2) y) z) = mB0 u ∧ m_matched (ms_found (ms_last (ms_first (ms_matched u m1) x2) y) z) = m1 ∧ m_first (ms_found (ms_last (ms_first (ms_matched u m1) x2) y) z) = x2 ∧ m_last (ms_found (ms_last (ms_first (ms_matched u m1) x2) y) z) = y ∧ m_found (ms_found (ms_last (ms_first (ms_matched u m1) x2) y) z) = z :=
  ⟨(km_4 (ms_last (ms_first (ms_matched u m1) x2) y) z).trans ((km_3 (ms_first (ms_matched u m1) x2) y).trans ((km_2 (ms_matched u m1) x2).trans (km_1 u m1))), rfl, rfl, rfl, rfl⟩
theorem sRes_all (u : MS) (x2 : Int32) : mB0 (sRes u x2) = mB0 u ∧ m_matched (sRes u x2) = 1 ∧ m_first (sRes u x2) = x2 ∧ m_last (sRes u x2) = m_p (ms_first (ms_matched u 1) x2) ∧ m_found (sRes u x2) = m_caps (ms_last (ms_first (ms_matched u 1) x2) (m_p (ms_first (ms_matched u 1) x2))) :=
  sr3 u 1 x2 (m_p (ms_first (ms_matched u 1) x2)) (m_caps (ms_last (ms_first (ms_matched u 1) x2) (m_p (ms_first (ms_matched u 1) x2))))
theorem mp_1 (u : MS) (m1 x2 : Int32) : m_p (ms_first (ms_matched u m1) x2) = m_p u := rfl
theorem mp_2 (u : MS) (m1 x2 y : Int32) : m_caps (ms_last (ms_first (ms_matched u m1) x2) y) = m_caps u := rfl
theorem sRes_l (u : MS) (x2 : Int32) : m_last (sRes u x2) = m_p u ∧ m_found (sRes u x2) = m_caps u :=
  ⟨(sRes_all u x2).2.2.2.1.trans (mp_1 u 1 x2), (sRes_all u x2).2.2.2.2.trans (mp_2 u 1 x2 (m_p (ms_first (ms_matched u 1) x2)))⟩
