/-! PLAIN LAW 2: numbers packed into longs -/
theorem l_bv (a : Nat) : (lN a).toBitVec = BitVec.ofNat 64 a := rfl
theorem n_bv (a : Nat) : (nI a).toBitVec = BitVec.ofNat 32 a := rfl
theorem or_add {a b k : Nat} (h : a < 2 ^ k) : a ||| (b <<< k) = a + b * 2 ^ k := by
  rw [Nat.or_comm, ← Nat.shiftLeft_add_eq_or_of_lt h, Nat.shiftLeft_eq, Nat.add_comm]
/-- a long, an 'or' with one that stands above -/
theorem l_or {a b k : Nat} (h : a < 2 ^ k) (hb : a + b * 2 ^ k < 2 ^ 64) : lN a ||| lN (b * 2 ^ k) = lN (a + b * 2 ^ k) := by
  apply Int64.toBitVec_inj.mp
  apply BitVec.eq_of_toNat_eq
  rw [Int64.toBitVec_or, l_bv, l_bv, l_bv, BitVec.toNat_or, BitVec.toNat_ofNat, BitVec.toNat_ofNat, BitVec.toNat_ofNat, Nat.mod_eq_of_lt (by omega), Nat.mod_eq_of_lt (by omega), Nat.mod_eq_of_lt hb, ← Nat.shiftLeft_eq, or_add h, Nat.shiftLeft_eq]
theorem n_or {a b k : Nat} (h : a < 2 ^ k) (hb : a + b * 2 ^ k < 2 ^ 32) : nI a ||| nI (b * 2 ^ k) = nI (a + b * 2 ^ k) := by
  apply Int32.toBitVec_inj.mp
  apply BitVec.eq_of_toNat_eq
  rw [Int32.toBitVec_or, n_bv, n_bv, n_bv, BitVec.toNat_or, BitVec.toNat_ofNat, BitVec.toNat_ofNat, BitVec.toNat_ofNat, Nat.mod_eq_of_lt (by omega), Nat.mod_eq_of_lt (by omega), Nat.mod_eq_of_lt hb, ← Nat.shiftLeft_eq, or_add h, Nat.shiftLeft_eq]
theorem l_shl {b : Nat} (k : Nat) {s : Int64} (hs : (s.toBitVec.smod 64).toNat = k) : lN b <<< s = lN (b * 2 ^ k) := by
  apply Int64.toBitVec_inj.mp
  rw [Int64.toBitVec_shiftLeft, BitVec.shiftLeft_eq', hs, l_bv, l_bv]
  apply BitVec.eq_of_toNat_eq
  rw [BitVec.toNat_shiftLeft, BitVec.toNat_ofNat, BitVec.toNat_ofNat, Nat.shiftLeft_eq]
  rw [Nat.mod_mul_mod]
theorem n_shl {b : Nat} (k : Nat) {s : Int32} (hs : (s.toBitVec.smod 32).toNat = k) : nI b <<< s = nI (b * 2 ^ k) := by
  apply Int32.toBitVec_inj.mp
  rw [Int32.toBitVec_shiftLeft, BitVec.shiftLeft_eq', hs, n_bv, n_bv]
  apply BitVec.eq_of_toNat_eq
  rw [BitVec.toNat_shiftLeft, BitVec.toNat_ofNat, BitVec.toNat_ofNat, Nat.shiftLeft_eq]
  rw [Nat.mod_mul_mod]
theorem l_shr {x : Nat} (k : Nat) {s : Int64} (hs : (s.toBitVec.smod 64).toNat = k) (hx : x < 2 ^ 63) : lN x >>> s = lN (x / 2 ^ k) := by
  apply Int64.toBitVec_inj.mp
  rw [Int64.toBitVec_shiftRight, BitVec.sshiftRight_eq', hs, l_bv, l_bv]
  apply BitVec.eq_of_toInt_eq
  have h1 : (BitVec.ofNat 64 x).toInt = (x : Int) := by
    rw [BitVec.toInt_eq_toNat_of_lt (by rw [BitVec.toNat_ofNat, Nat.mod_eq_of_lt (by omega)]; omega), BitVec.toNat_ofNat, Nat.mod_eq_of_lt (by omega)]
  have h2 : (BitVec.ofNat 64 (x / 2 ^ k)).toInt = ((x / 2 ^ k : Nat) : Int) := by
    have : x / 2 ^ k ≤ x := Nat.div_le_self _ _
    rw [BitVec.toInt_eq_toNat_of_lt (by rw [BitVec.toNat_ofNat, Nat.mod_eq_of_lt (by omega)]; omega), BitVec.toNat_ofNat, Nat.mod_eq_of_lt (by omega)]
  rw [BitVec.toInt_sshiftRight, h1, h2, Int.shiftRight_eq_div_pow]
  rfl
theorem n_and {x : Nat} (k : Nat) (hk : k < 32) : nI x &&& nI (2 ^ k - 1) = nI (x % 2 ^ k) := by
  apply Int32.toBitVec_inj.mp
  apply BitVec.eq_of_toNat_eq
  have hp : 2 ^ k ≤ 2 ^ 31 := Nat.pow_le_pow_right (by omega) (by omega)
  have hq : 0 < 2 ^ k := Nat.pow_pos (by omega)
  have hm : x % 2 ^ k < 2 ^ k := Nat.mod_lt _ hq
  rw [Int32.toBitVec_and, n_bv, n_bv, n_bv, BitVec.toNat_and, BitVec.toNat_ofNat, BitVec.toNat_ofNat, BitVec.toNat_ofNat, Nat.mod_eq_of_lt (a := 2 ^ k - 1) (by omega), Nat.and_two_pow_sub_one_eq_mod, Nat.mod_eq_of_lt (a := x % 2 ^ k) (by omega)]
  exact Nat.mod_mod_of_dvd _ (Nat.pow_dvd_pow 2 (by omega))
