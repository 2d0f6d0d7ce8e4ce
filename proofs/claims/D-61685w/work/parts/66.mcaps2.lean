/-! PLAIN LAW 2: a capture is set -/
theorem tb_lt {a k i : Nat} (h : a < 2 ^ k) (hi : k ≤ i) : a.testBit i = false := Nat.testBit_lt_two_pow (Nat.lt_of_lt_of_le h (Nat.pow_le_pow_right (by omega) hi))
theorem or3 {lo v hi s : Nat} (hlo : lo < 2 ^ s) (hv : v < 4096) : lo + v * 2 ^ s + hi * 2 ^ (s + 12) = (lo ||| (v <<< s)) ||| (hi <<< (s + 12)) := by
  have h1 : lo + v * 2 ^ s < 2 ^ (s + 12) := by
    rw [Nat.pow_add]
    have : v * 2 ^ s ≤ 4095 * 2 ^ s := Nat.mul_le_mul_right _ (by omega)
    omega
  rw [or_add hlo, or_add h1]
theorem b4095 (j : Nat) : (4095 : Nat).testBit j = decide (j < 12) := Nat.testBit_two_pow_sub_one 12 j
theorem set3 {lo v0 v hi s : Nat} {z : Int64} (hlo : lo < 2 ^ s) (hv0 : v0 < 4096) (hv : v < 4096) (hs : (z.toBitVec.smod 64).toNat = s) : (lN (lo + v0 * 2 ^ s + hi * 2 ^ (s + 12)) &&& (((4095 : Int64) <<< z) ^^^ (-1 : Int64))) ||| (lN v <<< z) = lN (lo + v * 2 ^ s + hi * 2 ^ (s + 12)) := by
  rw [or3 hlo hv0, or3 hlo hv]
  apply Int64.toBitVec_inj.mp
  apply BitVec.eq_of_getLsbD_eq
  intro i hi64
  rw [Int64.toBitVec_or, Int64.toBitVec_and, Int64.toBitVec_xor, Int64.toBitVec_shiftLeft, Int64.toBitVec_shiftLeft, BitVec.shiftLeft_eq', BitVec.shiftLeft_eq', hs, l_bv, l_bv, l_bv]
  rw [show (4095 : Int64).toBitVec = BitVec.ofNat 64 4095 from rfl, show (-1 : Int64).toBitVec = BitVec.allOnes 64 from rfl]
  simp only [BitVec.getLsbD_or, BitVec.getLsbD_and, BitVec.getLsbD_xor, BitVec.getLsbD_shiftLeft, BitVec.getLsbD_ofNat, BitVec.getLsbD_allOnes, hi64, decide_true, Bool.true_and, Nat.testBit_or, Nat.testBit_shiftLeft, b4095]
  by_cases h1 : i < s
  · have e1 : ¬ s ≤ i := by omega
    have e2 : ¬ s + 12 ≤ i := by omega
    simp [h1, e1, e2]
  · have l1 := tb_lt hlo (show s ≤ i by omega)
    have e0 : s ≤ i := by omega
    have e3 : i - s < 64 := by omega
    by_cases h2 : i < s + 12
    · have e2 : ¬ s + 12 ≤ i := by omega
      have e4 : i - s < 12 := by omega
      simp [h1, e0, e2, e3, e4, l1]
    · have e2 : s + 12 ≤ i := by omega
      have e4 : ¬ i - s < 12 := by omega
      have l2 := tb_lt (k := 12) hv (show 12 ≤ i - s by omega)
      have l3 := tb_lt (k := 12) hv0 (show 12 ≤ i - s by omega)
      simp [h1, e0, e2, e3, e4, l1, l2, l3]
def cSet (c : Nat → Nat) (g v : Nat) : Nat → Nat := fun j => if j = g then v else c j
theorem cSet_ok {c : Nat → Nat} (hc : cOK c) {g v : Nat} (hv : v < 4096) : cOK (cSet c g v) := fun j => by
  unfold cSet; split
  · exact hv
  · exact hc j
theorem pkC_set {c : Nat → Nat} (hc : cOK c) {g v : Nat} (h1 : 1 ≤ g) (h4 : g ≤ 4) (hv : v < 4096) {z : Int64} (hz : z = ((12 : Int32) * (nI g - 1)).toInt64 &&& 63) : (pkC c &&& (((4095 : Int64) <<< z) ^^^ (-1 : Int64))) ||| (lN v <<< z) = pkC (cSet c g v) := by
  have c1 := hc 1
  have c2 := hc 2
  have c3 := hc 3
  have c4 := hc 4
  have hg : g = 1 ∨ g = 2 ∨ g = 3 ∨ g = 4 := by omega
  subst hz
  rcases hg with rfl | rfl | rfl | rfl
  · have e := set3 (lo := 0) (v0 := c 1) (v := v) (hi := c 2 + c 3 * 2 ^ 12 + c 4 * 2 ^ 24) (s := 0) (z := ((12 : Int32) * (nI 1 - 1)).toInt64 &&& 63) (by omega) (by omega) hv (by decide)
    have e1 : pkC c = lN (0 + c 1 * 2 ^ 0 + (c 2 + c 3 * 2 ^ 12 + c 4 * 2 ^ 24) * 2 ^ (0 + 12)) := by unfold pkC; congr 1; omega
    have e2 : pkC (cSet c 1 v) = lN (0 + v * 2 ^ 0 + (c 2 + c 3 * 2 ^ 12 + c 4 * 2 ^ 24) * 2 ^ (0 + 12)) := by unfold pkC; simp only [cSet]; congr 1; simp; omega
    rw [e1, e2]; exact e
  · have e := set3 (lo := c 1) (v0 := c 2) (v := v) (hi := c 3 + c 4 * 2 ^ 12) (s := 12) (z := ((12 : Int32) * (nI 2 - 1)).toInt64 &&& 63) (by omega) (by omega) hv (by decide)
    have e1 : pkC c = lN (c 1 + c 2 * 2 ^ 12 + (c 3 + c 4 * 2 ^ 12) * 2 ^ (12 + 12)) := by unfold pkC; congr 1; omega
    have e2 : pkC (cSet c 2 v) = lN (c 1 + v * 2 ^ 12 + (c 3 + c 4 * 2 ^ 12) * 2 ^ (12 + 12)) := by unfold pkC; simp only [cSet]; congr 1; simp; omega
    rw [e1, e2]; exact e
  · have e := set3 (lo := c 1 + c 2 * 2 ^ 12) (v0 := c 3) (v := v) (hi := c 4) (s := 24) (z := ((12 : Int32) * (nI 3 - 1)).toInt64 &&& 63) (by omega) (by omega) hv (by decide)
    have e1 : pkC c = lN (c 1 + c 2 * 2 ^ 12 + c 3 * 2 ^ 24 + c 4 * 2 ^ (24 + 12)) := by unfold pkC; congr 1
    have e2 : pkC (cSet c 3 v) = lN (c 1 + c 2 * 2 ^ 12 + v * 2 ^ 24 + c 4 * 2 ^ (24 + 12)) := by unfold pkC; simp only [cSet]; congr 1
    rw [e1, e2]; exact e
  · have e := set3 (lo := c 1 + c 2 * 2 ^ 12 + c 3 * 2 ^ 24) (v0 := c 4) (v := v) (hi := 0) (s := 36) (z := ((12 : Int32) * (nI 4 - 1)).toInt64 &&& 63) (by omega) (by omega) hv (by decide)
    have e1 : pkC c = lN (c 1 + c 2 * 2 ^ 12 + c 3 * 2 ^ 24 + c 4 * 2 ^ 36 + 0 * 2 ^ (36 + 12)) := by rw [Nat.zero_mul, Nat.add_zero]; rfl
    have e2 : pkC (cSet c 4 v) = lN (c 1 + c 2 * 2 ^ 12 + c 3 * 2 ^ 24 + v * 2 ^ 36 + 0 * 2 ^ (36 + 12)) := by rw [Nat.zero_mul, Nat.add_zero]; rfl
    rw [e1, e2]; exact e
