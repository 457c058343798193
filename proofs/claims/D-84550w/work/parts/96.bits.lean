/-! numbers of the mini machine: what its words on bits are, as plain arithmetic -/
set_option maxRecDepth 100000
theorem n32 {a : Int} (h : 0 ≤ a) : Int32.ofInt a = nI a.toNat := by
  obtain ⟨n, rfl⟩ := Int.eq_ofNat_of_zero_le h
  exact Int32.toBitVec_inj.mp (by show BitVec.ofInt 32 _ = BitVec.ofNat 32 n; exact BitVec.ofInt_natCast ..)
theorem n64 {a : Int} (h : 0 ≤ a) : Int64.ofInt a = lN a.toNat := by
  obtain ⟨n, rfl⟩ := Int.eq_ofNat_of_zero_le h
  exact Int64.toBitVec_inj.mp (by show BitVec.ofInt 64 _ = BitVec.ofNat 64 n; exact BitVec.ofInt_natCast ..)
theorem lN_to {n : Nat} (h : n < 9223372036854775808) : (lN n).toInt = n := by
  unfold lN
  rw [Int64.toInt_ofNat_of_lt (by omega)]
theorem nI_to {n : Nat} (h : n < 2147483648) : (nI n).toInt = n := by
  unfold nI
  rw [Int32.toInt_ofNat_of_lt (by omega)]
theorem w_tb (n : Nat) : (lN n).toBitVec = BitVec.ofNat 64 n := rfl
theorem w_inj {a b : Int64} (h : a.toBitVec = b.toBitVec) : a = b := Int64.toBitVec_inj.mp h
theorem w_tn {n : Nat} (h : n < 2 ^ 64) : (lN n).toBitVec.toNat = n := by rw [w_tb, BitVec.toNat_ofNat, Nat.mod_eq_of_lt h]
theorem w_c : ∀ k, k < 64 → ((nI k).toInt64 &&& 63) = lN k := by decide +kernel
theorem w_cu : ∀ k, k < 64 → ((nI k).toInt64.toUInt64 &&& Int64.toUInt64 63) = UInt64.ofNat k := by decide +kernel
theorem w_sm : ∀ k, k < 64 → (BitVec.ofNat 64 k).smod 64 = BitVec.ofNat 64 k := by decide +kernel
theorem ushr64_n {a k : Int} (h0 : 0 ≤ a) (h1 : a < 9223372036854775808) (k0 : 0 ≤ k) (k1 : k < 64) : ushr64 a k = a / 2 ^ k.toNat := by
  unfold ushr64
  rw [n64 h0, n32 k0, w_cu _ (by omega)]
  have hk : k.toNat < 64 := by omega
  have e : ((lN a.toNat).toUInt64 >>> UInt64.ofNat k.toNat).toInt64 = lN (a.toNat / 2 ^ k.toNat) := by
    apply w_inj
    apply BitVec.eq_of_toNat_eq
    show ((lN a.toNat).toUInt64 >>> UInt64.ofNat k.toNat).toNat = (BitVec.ofNat 64 _).toNat
    have g1 : (UInt64.ofNat k.toNat).toNat = k.toNat := by
      show (BitVec.ofNat 64 k.toNat).toNat = k.toNat
      rw [BitVec.toNat_ofNat, Nat.mod_eq_of_lt (by omega)]
    have g2 : (lN a.toNat).toUInt64.toNat = a.toNat := w_tn (by omega)
    rw [UInt64.toNat_shiftRight, g1, g2, Nat.mod_eq_of_lt hk, Nat.shiftRight_eq_div_pow, BitVec.toNat_ofNat, Nat.mod_eq_of_lt (Nat.lt_of_le_of_lt (Nat.div_le_self _ _) (by omega))]
  rw [e, lN_to (Nat.lt_of_le_of_lt (Nat.div_le_self _ _) (by omega))]
  rw [Int.natCast_ediv, Int.toNat_of_nonneg h0]
  simp
theorem and64_255 {a : Int} (h0 : 0 ≤ a) (h1 : a < 9223372036854775808) : and64 a 255 = a % 256 := by
  unfold and64
  rw [n64 h0, show Int64.ofInt 255 = lN 255 from rfl]
  have e : lN a.toNat &&& lN 255 = lN (a.toNat % 256) := by
    apply w_inj
    rw [Int64.toBitVec_and, w_tb, w_tb, w_tb]
    apply BitVec.eq_of_toNat_eq
    rw [BitVec.toNat_and, BitVec.toNat_ofNat, BitVec.toNat_ofNat, BitVec.toNat_ofNat, Nat.mod_eq_of_lt (show a.toNat < 2 ^ 64 by omega), Nat.mod_eq_of_lt (show 255 < 2 ^ 64 by omega), show 255 = 2 ^ 8 - 1 from rfl, Nat.and_two_pow_sub_one_eq_mod, Nat.mod_eq_of_lt (show a.toNat % 2 ^ 8 < 2 ^ 64 by omega)]
  rw [e, lN_to (by omega)]
  omega
theorem shl64_n {a k : Int} (h0 : 0 ≤ a) (k0 : 0 ≤ k) (k1 : k < 64) (h : a * 2 ^ k.toNat < 9223372036854775808) : shl64 a k = a * 2 ^ k.toNat := by
  unfold shl64
  rw [n64 h0, n32 k0, w_c _ (by omega)]
  have hk : k.toNat < 64 := by omega
  have e : lN a.toNat <<< lN k.toNat = lN (a.toNat * 2 ^ k.toNat) := by
    apply w_inj
    rw [Int64.toBitVec_shiftLeft, w_tb, w_tb, w_tb, w_sm _ hk]
    apply BitVec.eq_of_toNat_eq
    rw [BitVec.shiftLeft_eq', BitVec.toNat_shiftLeft, BitVec.toNat_ofNat, BitVec.toNat_ofNat, BitVec.toNat_ofNat, Nat.mod_eq_of_lt (show k.toNat < 2 ^ 64 by omega), Nat.shiftLeft_eq, Nat.mul_mod, Nat.mod_mod, ← Nat.mul_mod]
  have hc : ((a.toNat * 2 ^ k.toNat : Nat) : Int) = a * 2 ^ k.toNat := by
    rw [Int.natCast_mul, Int.toNat_of_nonneg h0]
    simp
  rw [e, lN_to (by omega), hc]
theorem or64_n {a b : Int} {k : Nat} (h0 : 0 ≤ a) (hb : 0 ≤ b) (hm : a % 2 ^ k = 0) (hb1 : b < 2 ^ k) (h1 : a + b < 9223372036854775808) : or64 a b = a + b := by
  unfold or64
  rw [n64 h0, n64 hb]
  obtain ⟨q, rfl⟩ : ∃ q : Nat, a = ((2 ^ k * q : Nat) : Int) := by
    refine ⟨(a / 2 ^ k).toNat, ?_⟩
    have h2 := Int.mul_ediv_add_emod a (2 ^ k)
    have h3 : 0 ≤ a / 2 ^ k := Int.ediv_nonneg h0 (by exact Int.le_of_lt (Int.pow_pos (by decide)))
    rw [Int.natCast_mul, Int.toNat_of_nonneg h3]
    simp only [Int.natCast_pow, Int.cast_ofNat_Int]
    omega
  obtain ⟨c, rfl⟩ := Int.eq_ofNat_of_zero_le hb
  have hc : c < 2 ^ k := by
    have : ((2 ^ k : Nat) : Int) = 2 ^ k := by simp
    omega
  simp only [Int.toNat_natCast]
  have e : lN (2 ^ k * q) ||| lN c = lN (2 ^ k * q + c) := by
    apply w_inj
    rw [Int64.toBitVec_or, w_tb, w_tb, w_tb]
    apply BitVec.eq_of_toNat_eq
    rw [BitVec.toNat_or, BitVec.toNat_ofNat, BitVec.toNat_ofNat, BitVec.toNat_ofNat, Nat.mod_eq_of_lt (by omega), Nat.mod_eq_of_lt (by omega), Nat.mod_eq_of_lt (by omega), Nat.two_pow_add_eq_or_of_lt hc]
  rw [e, lN_to (by omega)]
  simp
theorem v_tn (a : Int) : (Int32.ofInt a).toBitVec.toNat = (a % 4294967296).toNat := by
  show (BitVec.ofInt 32 a).toNat = _
  rw [BitVec.toNat_ofInt]
  rfl
theorem and32_k {a : Int} {m : Nat} {k : Nat} (hm : m = 2 ^ k - 1) (hk : k ≤ 30) : and32 a m = a % 2 ^ k := by
  have h30 : 2 ^ k ≤ 2 ^ 30 := Nat.pow_le_pow_right (by decide) hk
  have hpos : 0 < 2 ^ k := Nat.pow_pos (by decide)
  have hdvd : (2 ^ k : Nat) ∣ 4294967296 := by
    rw [show (4294967296 : Nat) = 2 ^ 32 from rfl]
    exact Nat.pow_dvd_pow 2 (by omega)
  have hz : ((2 ^ k : Nat) : Int) = 2 ^ k := by simp
  have h1 : 0 ≤ a % 2 ^ k := Int.emod_nonneg _ (by rw [← hz]; omega)
  have h2 : a % 2 ^ k < 2 ^ k := Int.emod_lt_of_pos _ (by rw [← hz]; omega)
  have e : Int32.ofInt a &&& Int32.ofInt m = Int32.ofInt (a % 2 ^ k) := by
    apply Int32.toBitVec_inj.mp
    rw [Int32.toBitVec_and]
    apply BitVec.eq_of_toNat_eq
    rw [BitVec.toNat_and, v_tn, v_tn, v_tn]
    have e2 : ((m : Int) % 4294967296).toNat = 2 ^ k - 1 := by omega
    rw [e2, Nat.and_two_pow_sub_one_eq_mod]
    have e3 : ((a % 4294967296).toNat % 2 ^ k : Nat) = (a % 2 ^ k).toNat := by
      have : (((a % 4294967296).toNat % 2 ^ k : Nat) : Int) = a % 2 ^ k := by
        rw [Int.natCast_emod, Int.toNat_of_nonneg (Int.emod_nonneg _ (by decide)), hz]
        rw [← hz]
        exact Int.emod_emod_of_dvd a (Int.natCast_dvd_natCast.mpr hdvd)
      omega
    rw [e3]
    omega
  unfold and32
  rw [e]
  exact Int32.toInt_ofInt_of_le (by omega) (by omega)
theorem and32_255 (a : Int) : and32 a 255 = a % 256 := and32_k (m := 255) (k := 8) rfl (by decide)
theorem and32_63 (a : Int) : and32 a 63 = a % 64 := and32_k (m := 63) (k := 6) rfl (by decide)
theorem and32_15 (a : Int) : and32 a 15 = a % 16 := and32_k (m := 15) (k := 4) rfl (by decide)
theorem and32_7 (a : Int) : and32 a 7 = a % 8 := and32_k (m := 7) (k := 3) rfl (by decide)
theorem and32_1 (a : Int) : and32 a 1 = a % 2 := and32_k (m := 1) (k := 1) rfl (by decide)
theorem w_c32 : ∀ k, k < 32 → ((nI k &&& 31).toBitVec.smod 32).toNat = k := by decide +kernel
theorem shr32_n {a s : Int} (ha : ok32 a) (h0 : 0 ≤ s) (h1 : s < 32) : shr32 a s = a / 2 ^ s.toNat := by
  unfold shr32
  rw [n32 h0]
  show (Int32.ofInt a >>> (nI s.toNat &&& 31)).toBitVec.toInt = _
  rw [Int32.toBitVec_shiftRight, BitVec.toInt_sshiftRight', w_c32 _ (by omega)]
  have : (Int32.ofInt a).toBitVec.toInt = a := by
    show (Int32.ofInt a).toInt = a
    unfold ok32 at ha
    exact Int32.toInt_ofInt_of_le (by omega) (by omega)
  rw [this, Int.shiftRight_eq_div_pow]
  simp
