/-! PLAIN LAW 2: captures packed into a long: twelve bits a group -/
def pkC (c : Nat → Nat) : Int64 := lN (c 1 + c 2 * 2 ^ 12 + c 3 * 2 ^ 24 + c 4 * 2 ^ 36)
def cOK (c : Nat → Nat) : Prop := ∀ g, c g < 4096
def capI (v : Nat) (e : Bool) : Int32 := if v = 0 then -6 else if e then nI (v % 64) - 1 else nI (v / 64) - 1
theorem pkC_get {c : Nat → Nat} (hc : cOK c) {g : Nat} (h1 : 1 ≤ g) (h4 : g ≤ 4) : (pkC c >>> (((12 : Int32) * (nI g - 1)).toInt64 &&& 63)).toInt32 &&& 4095 = nI (c g) := by
  have c1 := hc 1
  have c2 := hc 2
  have c3 := hc 3
  have c4 := hc 4
  have hg : g = 1 ∨ g = 2 ∨ g = 3 ∨ g = 4 := by omega
  unfold pkC
  rcases hg with rfl | rfl | rfl | rfl
  · rw [l_shr 0 (by decide) (by omega), lN_i, show (4095 : Int32) = nI (2 ^ 12 - 1) from rfl, n_and 12 (by omega)]
    congr 1; omega
  · rw [l_shr 12 (by decide) (by omega), lN_i, show (4095 : Int32) = nI (2 ^ 12 - 1) from rfl, n_and 12 (by omega)]
    congr 1; omega
  · rw [l_shr 24 (by decide) (by omega), lN_i, show (4095 : Int32) = nI (2 ^ 12 - 1) from rfl, n_and 12 (by omega)]
    congr 1; omega
  · rw [l_shr 36 (by decide) (by omega), lN_i, show (4095 : Int32) = nI (2 ^ 12 - 1) from rfl, n_and 12 (by omega)]
    congr 1; omega
theorem n_shr {x : Nat} (k : Nat) {s : Int32} (hs : (s.toBitVec.smod 32).toNat = k) (hx : x < 2 ^ 31) : nI x >>> s = nI (x / 2 ^ k) := by
  apply Int32.toBitVec_inj.mp
  rw [Int32.toBitVec_shiftRight, BitVec.sshiftRight_eq', hs, n_bv, n_bv]
  apply BitVec.eq_of_toInt_eq
  have h1 : (BitVec.ofNat 32 x).toInt = (x : Int) := by
    rw [BitVec.toInt_eq_toNat_of_lt (by rw [BitVec.toNat_ofNat, Nat.mod_eq_of_lt (by omega)]; omega), BitVec.toNat_ofNat, Nat.mod_eq_of_lt (by omega)]
  have h2 : (BitVec.ofNat 32 (x / 2 ^ k)).toInt = ((x / 2 ^ k : Nat) : Int) := by
    have : x / 2 ^ k ≤ x := Nat.div_le_self _ _
    rw [BitVec.toInt_eq_toNat_of_lt (by rw [BitVec.toNat_ofNat, Nat.mod_eq_of_lt (by omega)]; omega), BitVec.toNat_ofNat, Nat.mod_eq_of_lt (by omega)]
  rw [BitVec.toInt_sshiftRight, h1, h2, Int.shiftRight_eq_div_pow]
  rfl
theorem s_capture {u : MS} {Q : Int32 → MS → Prop} {c : Nat → Nat} (hc : cOK c) {g : Nat} (h1 : 1 ≤ g) (h4 : g ≤ 4) {e : Bool} (h : Q (capI (c g) e) u) : P_M_capture (pkC c) (nI g) (bI e) u Q := by
  intro x hx
  rw [pkC_get hc h1 h4] at hx
  subst hx
  have hv := hc g
  refine ⟨fun q => ?_, fun q => ?_⟩
  · have : c g = 0 := (neq (b := 0) (by omega) (by omega)).mp q
    simp only [capI, this, if_true] at h; exact h
  · have h0 : c g ≠ 0 := fun e => q (by rw [e]; rfl)
    simp only [capI] at h
    rw [if_neg h0] at h
    cases e with
    | false =>
      refine ⟨fun _ => ?_, fun q => absurd rfl q⟩
      rw [n_shr 6 (by decide) (by omega)]
      exact h
    | true =>
      refine ⟨fun q => absurd q (by decide), fun _ => ?_⟩
      rw [show (63 : Int32) = nI (2 ^ 6 - 1) from rfl, n_and 6 (by omega)]
      exact h
