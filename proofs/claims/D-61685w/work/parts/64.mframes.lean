/-! PLAIN LAW 2: the Model's frames and places to go back, packed -/
def pkF (k w m p : Nat) : Int64 := lN (k + w * 2 ^ 4 + m * 2 ^ 10 + p * 2 ^ 23)
theorem pkF_eq {k w m p : Nat} (hk : k < 16) (hw : w < 64) (hm : m < 8192) (hp : p < 8192) : ((nI k ||| (nI w <<< ((4 : Int32) &&& 31))) ||| (nI m <<< ((10 : Int32) &&& 31))).toInt64 ||| ((nI p).toInt64 <<< ((23 : Int32).toInt64 &&& 63)) = pkF k w m p := by
  rw [n_shl 4 (by decide), n_shl 10 (by decide), n_or (k := 4) (by omega) (by omega), n_or (k := 10) (by omega) (by omega), nI_l (by omega), nI_l (by omega), l_shl 23 (by decide), l_or (k := 23) (by omega) (by omega)]
  rfl
theorem pkF_kind {k w m p : Nat} (hk : k < 16) (hw : w < 64) (hm : m < 8192) (hp : p < 8192) : (pkF k w m p).toInt32 &&& 15 = nI k := by
  unfold pkF
  rw [lN_i, show (15 : Int32) = nI (2 ^ 4 - 1) from rfl, n_and 4 (by omega)]
  congr 1; omega
theorem pkF_place {k w m p : Nat} (hk : k < 16) (hw : w < 64) (hm : m < 8192) (hp : p < 8192) : (pkF k w m p >>> ((4 : Int32).toInt64 &&& 63)).toInt32 &&& 63 = nI w := by
  unfold pkF
  rw [l_shr 4 (by decide) (by omega), lN_i, show (63 : Int32) = nI (2 ^ 6 - 1) from rfl, n_and 6 (by omega)]
  congr 1; omega
theorem pkF_number {k w m p : Nat} (hk : k < 16) (hw : w < 64) (hm : m < 8192) (hp : p < 8192) : (pkF k w m p >>> ((10 : Int32).toInt64 &&& 63)).toInt32 &&& 8191 = nI m := by
  unfold pkF
  rw [l_shr 10 (by decide) (by omega), lN_i, show (8191 : Int32) = nI (2 ^ 13 - 1) from rfl, n_and 13 (by omega)]
  congr 1; omega
theorem pkF_parent {k w m p : Nat} (hk : k < 16) (hw : w < 64) (hm : m < 8192) (hp : p < 8192) : (pkF k w m p >>> ((23 : Int32).toInt64 &&& 63)).toInt32 &&& 8191 = nI p := by
  unfold pkF
  rw [l_shr 23 (by decide) (by omega), lN_i, show (8191 : Int32) = nI (2 ^ 13 - 1) from rfl, n_and 13 (by omega)]
  congr 1; omega
def mPush (u : MS) (f : Nat) (e : Int64) : MS := ms_frame (ms_frames u (nI (f + 1))) (vp_updL (m_frame u) (f + 1) e)
theorem s_push {u : MS} {Q : Int32 → MS → Prop} {f k w m p : Nat} (hf : m_frames u = nI f) (h7 : f + 1 < 7000) (hk : k < 16) (hw : w < 64) (hm : m < 8192) (hp : p < 8192) (h : Q (nI (f + 1)) (mPush u f (pkF k w m p))) : P_M_push (nI k) (nI w) (nI m) (nI p) u Q := by
  show vp_in (m_frames u + 1) 7000 ∧ Q (m_frames u + 1) (ms_frame (ms_frames u (m_frames u + 1)) (vp_updL (m_frame u) (m_frames u + 1).toNatClampNeg (((nI k ||| (nI w <<< ((4 : Int32) &&& 31))) ||| (nI m <<< ((10 : Int32) &&& 31))).toInt64 ||| ((nI p).toInt64 <<< ((23 : Int32).toInt64 &&& 63)))))
  rw [hf, n_1, nI_clamp (by omega), pkF_eq hk hw hm hp]
  exact ⟨vp_in_nI h7 (by omega), h⟩
def pkB (m w p f q : Nat) : Int64 := lN (m + w * 2 ^ 3 + p * 2 ^ 9 + f * 2 ^ 15 + q * 2 ^ 28)
theorem pkB_eq {m w p f q : Nat} (hm : m < 8) (hw : w < 64) (hp : p < 64) (hf : f < 8192) (hq : q < 8192) : (((nI m ||| (nI w <<< ((3 : Int32) &&& 31))) ||| (nI p <<< ((9 : Int32) &&& 31))).toInt64 ||| ((nI f).toInt64 <<< ((15 : Int32).toInt64 &&& 63))) ||| ((nI q).toInt64 <<< ((28 : Int32).toInt64 &&& 63)) = pkB m w p f q := by
  rw [n_shl 3 (by decide), n_shl 9 (by decide), n_or (k := 3) (by omega) (by omega), n_or (k := 9) (by omega) (by omega), nI_l (by omega), nI_l (by omega), nI_l (by omega), l_shl 15 (by decide), l_shl 28 (by decide), l_or (k := 15) (by omega) (by omega), l_or (k := 28) (by omega) (by omega)]
  rfl
def mPushB (u : MS) (b : Nat) (e : Int64) : MS := ms_backs (ms_bKept (ms_back u (vp_updL (m_back u) b e)) (vp_updL (m_bKept u) b (m_caps u))) (nI (b + 1))
theorem s_pushBack {u : MS} {Q : MS → Prop} {b m w f p q : Nat} (hb : m_backs u = nI b) (hp' : m_p u = nI p) (hq' : m_frames u = nI q) (h4 : b < 4000) (hm : m < 8) (hw : w < 64) (hp : p < 64) (hf : f < 8192) (hq : q < 8192) (h : Q (mPushB u b (pkB m w p f q))) : P_M_pushBack (nI m) (nI w) (nI f) u Q := by
  show vp_in (m_backs u) 4000 ∧ vp_in (m_backs u) 4000 ∧ Q (ms_backs (ms_bKept (ms_back u (vp_updL (m_back u) (m_backs u).toNatClampNeg ((((nI m ||| (nI w <<< ((3 : Int32) &&& 31))) ||| ((m_p u) <<< ((9 : Int32) &&& 31))).toInt64 ||| ((nI f).toInt64 <<< ((15 : Int32).toInt64 &&& 63))) ||| ((m_frames u).toInt64 <<< ((28 : Int32).toInt64 &&& 63))))) (vp_updL (m_bKept u) (m_backs u).toNatClampNeg (m_caps u))) (m_backs u + 1))
  rw [hb, hp', hq', pkB_eq hm hw hp hf hq, nI_clamp (by omega), n_1]
  exact ⟨vp_in_nI h4 (by omega), vp_in_nI h4 (by omega), h⟩
theorem pkB_mode {m w p f q : Nat} (hm : m < 8) (hw : w < 64) (hp : p < 64) (hf : f < 8192) (hq : q < 8192) : (pkB m w p f q).toInt32 &&& 7 = nI m := by
  unfold pkB
  rw [lN_i, show (7 : Int32) = nI (2 ^ 3 - 1) from rfl, n_and 3 (by omega)]
  congr 1; omega
theorem pkB_at {m w p f q : Nat} (hm : m < 8) (hw : w < 64) (hp : p < 64) (hf : f < 8192) (hq : q < 8192) : (pkB m w p f q >>> ((3 : Int32).toInt64 &&& 63)).toInt32 &&& 63 = nI w := by
  unfold pkB
  rw [l_shr 3 (by decide) (by omega), lN_i, show (63 : Int32) = nI (2 ^ 6 - 1) from rfl, n_and 6 (by omega)]
  congr 1; omega
theorem pkB_p {m w p f q : Nat} (hm : m < 8) (hw : w < 64) (hp : p < 64) (hf : f < 8192) (hq : q < 8192) : (pkB m w p f q >>> ((9 : Int32).toInt64 &&& 63)).toInt32 &&& 63 = nI p := by
  unfold pkB
  rw [l_shr 9 (by decide) (by omega), lN_i, show (63 : Int32) = nI (2 ^ 6 - 1) from rfl, n_and 6 (by omega)]
  congr 1; omega
theorem pkB_f {m w p f q : Nat} (hm : m < 8) (hw : w < 64) (hp : p < 64) (hf : f < 8192) (hq : q < 8192) : (pkB m w p f q >>> ((15 : Int32).toInt64 &&& 63)).toInt32 &&& 8191 = nI f := by
  unfold pkB
  rw [l_shr 15 (by decide) (by omega), lN_i, show (8191 : Int32) = nI (2 ^ 13 - 1) from rfl, n_and 13 (by omega)]
  congr 1; omega
theorem pkB_q {m w p f q : Nat} (hm : m < 8) (hw : w < 64) (hp : p < 64) (hf : f < 8192) (hq : q < 8192) : (pkB m w p f q >>> ((28 : Int32).toInt64 &&& 63)).toInt32 &&& 8191 = nI q := by
  unfold pkB
  rw [l_shr 28 (by decide) (by omega), lN_i, show (8191 : Int32) = nI (2 ^ 13 - 1) from rfl, n_and 13 (by omega)]
  congr 1; omega
def mGo (u : MS) (m w k : Nat) : MS := ms_k (ms_at (ms_mode u (nI m)) (nI w)) (nI k)
theorem s_retreat0 {u : MS} {Q : Int32 → MS → Prop} (hb : m_backs u = 0) (h : Q 0 u) : P_M_retreat u Q := ⟨fun _ => h, fun q => absurd hb q⟩
theorem s_retreat {u : MS} {Q : Int32 → MS → Prop} {b m w p f q : Nat} (hb : m_backs u = nI (b + 1)) (h4 : b < 4000) (he : m_back u b = pkB m w p f q) (hm : m < 8) (hw : w < 64) (hp : p < 64) (hf : f < 8192) (hq : q < 8192) (h : Q 1 (ms_frames (mGo (ms_caps (ms_p (ms_backs u (nI b)) (nI p)) (m_bKept u b)) m w f) (nI q))) : P_M_retreat u Q := by
  refine ⟨fun e => absurd (hb.symm.trans e) (nI_ne0 (by omega) (by omega)), fun _ => ?_⟩
  have e1 : m_backs u - 1 = nI b := by rw [hb]; exact nI_pred b
  have hv : vp_in (m_backs u - 1) 4000 := by rw [e1]; exact vp_in_nI h4 (by omega)
  refine ⟨hv, fun x hx => ⟨hv, ?_⟩⟩
  have hx : x = m_back u (m_backs u - 1).toNatClampNeg := hx
  rw [e1, nI_clamp (by omega), he] at hx
  subst hx
  show Q 1 (ms_frames (ms_k (ms_at (ms_mode (ms_caps (ms_p (ms_backs u (m_backs u - 1)) ((pkB m w p f q >>> ((9 : Int32).toInt64 &&& 63)).toInt32 &&& 63)) (m_bKept u (m_backs u - 1).toNatClampNeg)) ((pkB m w p f q).toInt32 &&& 7)) ((pkB m w p f q >>> ((3 : Int32).toInt64 &&& 63)).toInt32 &&& 63)) ((pkB m w p f q >>> ((15 : Int32).toInt64 &&& 63)).toInt32 &&& 8191)) ((pkB m w p f q >>> ((28 : Int32).toInt64 &&& 63)).toInt32 &&& 8191))
  rw [e1, nI_clamp (by omega), pkB_p hm hw hp hf hq, pkB_mode hm hw hp hf hq, pkB_at hm hw hp hf hq, pkB_f hm hw hp hf hq, pkB_q hm hw hp hf hq]
  exact h
theorem s_go {u : MS} {Q : MS → Prop} {m w k : Nat} (h : Q (mGo u m w k)) : P_M_go (nI m) (nI w) (nI k) u Q := h
