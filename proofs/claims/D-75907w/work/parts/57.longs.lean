/-! longs as rows of bits -/
def jL (b : Nat) : Int64 := Int64.ofNat b
theorem jL_bv (b : Nat) : (jL b).toBitVec = BitVec.ofNat 64 b := rfl
theorem jL_ext {x : Int64} {b : Nat} (hb : b < 2 ^ 64) (h : ∀ i : Nat, i < 64 → x.toBitVec.getLsbD i = b.testBit i) : x = jL b := by
  apply Int64.toBitVec_inj.mp
  apply BitVec.eq_of_getLsbD_eq
  intro i hi
  rw [h i hi, jL_bv, BitVec.getLsbD_ofNat]
  simp [hi]
theorem jL_bit {b : Nat} {i : Nat} (hi : i < 64) : (jL b).toBitVec.getLsbD i = b.testBit i := by
  rw [jL_bv, BitVec.getLsbD_ofNat]; simp [hi]
theorem jL_and (a b : Nat) : jL a &&& jL b = jL (a &&& b) := by
  apply Int64.toBitVec_inj.mp
  apply BitVec.eq_of_getLsbD_eq
  intro i hi
  rw [Int64.toBitVec_and, BitVec.getLsbD_and, jL_bit hi, jL_bit hi, jL_bit hi, Nat.testBit_and]
theorem jL_or (a b : Nat) : jL a ||| jL b = jL (a ||| b) := by
  apply Int64.toBitVec_inj.mp
  apply BitVec.eq_of_getLsbD_eq
  intro i hi
  rw [Int64.toBitVec_or, BitVec.getLsbD_or, jL_bit hi, jL_bit hi, jL_bit hi, Nat.testBit_or]
theorem jL_xor (a b : Nat) : jL a ^^^ jL b = jL (a ^^^ b) := by
  apply Int64.toBitVec_inj.mp
  apply BitVec.eq_of_getLsbD_eq
  intro i hi
  rw [Int64.toBitVec_xor, BitVec.getLsbD_xor, jL_bit hi, jL_bit hi, jL_bit hi, Nat.testBit_xor]
theorem sh_u : ∀ k : Fin 64, (iI (k.val : Int)).toInt64.toUInt64 &&& Int64.toUInt64 63 = UInt64.ofNat k.val := by decide +kernel
theorem sh_l : ∀ k : Fin 64, (iI (k.val : Int)).toInt64 &&& 63 = Int64.ofNat k.val := by decide +kernel
theorem jL_shr {b : Nat} (hb : b < 2 ^ 64) {k : Int} (hk : 0 ≤ k ∧ k < 64) : ((jL b).toUInt64 >>> ((iI k).toInt64.toUInt64 &&& Int64.toUInt64 63)).toInt64 = jL (b >>> k.toNat) := by
  have h1 := sh_u ⟨k.toNat, by omega⟩
  dsimp only at h1
  rw [Int.toNat_of_nonneg hk.1] at h1
  rw [h1]
  apply Int64.toBitVec_inj.mp
  show ((jL b).toUInt64 >>> UInt64.ofNat k.toNat).toBitVec = BitVec.ofNat 64 (b >>> k.toNat)
  apply BitVec.eq_of_toNat_eq
  show ((jL b).toUInt64 >>> UInt64.ofNat k.toNat).toNat = _
  rw [UInt64.toNat_shiftRight, UInt64.toNat_ofNat', BitVec.toNat_ofNat]
  rw [show k.toNat % 2 ^ 64 % 64 = k.toNat by omega]
  have h2 : (jL b).toUInt64.toNat = b := by
    show (BitVec.ofNat 64 b).toNat = b
    rw [BitVec.toNat_ofNat]; omega
  rw [h2]
  have h3 : b >>> k.toNat ≤ b := Nat.shiftRight_le _ _
  rw [Nat.mod_eq_of_lt (by omega)]
theorem jL_shl {b : Nat} {k : Int} (hk : 0 ≤ k ∧ k < 64) : (jL b) <<< ((iI k).toInt64 &&& 63) = jL (b <<< k.toNat) := by
  have h1 := sh_l ⟨k.toNat, by omega⟩
  dsimp only at h1
  rw [Int.toNat_of_nonneg hk.1] at h1
  rw [h1]
  apply Int64.toBitVec_inj.mp
  apply BitVec.eq_of_getLsbD_eq
  intro i hi
  rw [Int64.toBitVec_shiftLeft]
  have h2 : (Int64.ofNat k.toNat).toBitVec.smod 64 = BitVec.ofNat 64 k.toNat := by
    have key : ∀ j : Fin 64, (Int64.ofNat j.val).toBitVec.smod 64 = BitVec.ofNat 64 j.val := by decide +kernel
    exact key ⟨k.toNat, by omega⟩
  rw [h2]
  rw [jL_bit hi]
  simp [BitVec.getLsbD_shiftLeft, jL_bv, hi]
  rw [Nat.mod_eq_of_lt (by omega)]
  by_cases h : i < k.toNat
  · simp [h]; intro hh; omega
  · simp [h]
    have hk2 : decide (k ≤ (i : Int)) = true := decide_eq_true (by omega)
    rw [hk2, Bool.true_and, ← BitVec.getLsbD_eq_getElem, BitVec.getLsbD_ofNat]
    simp; omega
theorem and_1 (b : Nat) : b &&& 1 = if b.testBit 0 then 1 else 0 := by
  rw [Nat.and_one_is_mod, Nat.testBit_zero]
  by_cases h : b % 2 = 1
  · simp [h]
  · simp [h]; omega
theorem jL_dot {b : Nat} {k : Int} (hk : 0 ≤ k ∧ k < 64) : (jL (b >>> k.toNat &&& 1)).toInt32 = iI (dz b k) := by
  rw [and_1, Nat.testBit_shiftRight, Nat.add_zero]
  unfold dz
  by_cases h : b.testBit k.toNat = true
  · rw [if_pos h, if_pos h]; decide
  · rw [if_neg h, if_neg h]; decide
theorem jL_sub {a b : Nat} (h : b ≤ a) : jL a - jL b = jL (a - b) := by
  apply Int64.toBitVec_inj.mp
  show BitVec.ofNat 64 a - BitVec.ofNat 64 b = BitVec.ofNat 64 (a - b)
  apply BitVec.eq_of_toNat_eq
  rw [BitVec.toNat_sub, BitVec.toNat_ofNat, BitVec.toNat_ofNat, BitVec.toNat_ofNat]
  omega
def onN (f t : Nat) : Nat := 2 ^ t - 2 ^ f
theorem onN_bit {f t : Nat} (h : f ≤ t) (i : Nat) : (onN f t).testBit i = (decide (f ≤ i) && decide (i < t)) := by
  have e : onN f t = (2 ^ (t - f) - 1) <<< f := by
    unfold onN
    rw [Nat.shiftLeft_eq, Nat.sub_mul, ← Nat.pow_add, show t - f + f = t by omega, Nat.one_mul]
  rw [e, Nat.testBit_shiftLeft, Nat.testBit_two_pow_sub_one]
  by_cases h1 : f ≤ i
  · simp [h1]; omega
  · simp [h1]
theorem jL_ones {f t : Int} (h : 0 ≤ f ∧ f ≤ t ∧ t < 64) : jL (1 <<< t.toNat) - jL (1 <<< f.toNat) = jL (onN f.toNat t.toNat) := by
  rw [Nat.one_shiftLeft, Nat.one_shiftLeft, jL_sub (Nat.pow_le_pow_right (by decide) (by omega))]; rfl
theorem bI_bit {w : Int} {f : Int → Bool} (h0 : 0 ≤ w) (i : Nat) : (bI w f).testBit i = (decide ((i : Int) < w) && f i) := by
  by_cases h : (i : Int) < w
  · have := dz_bI (w := w) (f := f) (k := (i : Int)) (by omega) h
    unfold dz at this
    rw [Int.toNat_natCast] at this
    rw [decide_eq_true h, Bool.true_and]
    cases h1 : (bI w f).testBit i <;> cases h2 : f i <;> rw [h1, h2] at this <;> simp_all
  · rw [decide_eq_false h, Bool.false_and]
    exact Nat.testBit_lt_two_pow (Nat.lt_of_lt_of_le (bI_lt w f) (Nat.pow_le_pow_right (by decide) (by omega)))
theorem bI_eq {w : Int} {f : Int → Bool} (h0 : 0 ≤ w) {b : Nat} (h : ∀ i : Nat, b.testBit i = (decide ((i : Int) < w) && f i)) : b = bI w f :=
  Nat.eq_of_testBit_eq (fun i => by rw [h i, bI_bit h0])
theorem dz_bit (b : Nat) (i : Nat) : decide (dz b (i : Int) = 1) = b.testBit i := by
  unfold dz
  rw [Int.toNat_natCast]
  cases b.testBit i <;> simp
theorem bit_w {b : Nat} {w : Int} (hb : b < 2 ^ w.toNat) {i : Nat} (h : ¬ (i : Int) < w) : b.testBit i = false :=
  Nat.testBit_lt_two_pow (Nat.lt_of_lt_of_le hb (Nat.pow_le_pow_right (by decide) (by omega)))
theorem paint_1 {b : Nat} {w f t : Int} (hb : b < 2 ^ w.toNat) (h : 0 ≤ f ∧ f ≤ t ∧ t ≤ w) : b ||| onN f.toNat t.toNat = bI w (fun k => decide (if f ≤ k ∧ k < t then (1 : Int) = 1 else dz b k = 1)) := by
  refine bI_eq (by omega) (fun i => ?_)
  rw [Nat.testBit_or, onN_bit (by omega)]
  by_cases hw : (i : Int) < w
  · rw [decide_eq_true hw, Bool.true_and]
    by_cases hr : f ≤ (i : Int) ∧ (i : Int) < t
    · rw [decide_eq_true (show f.toNat ≤ i by omega), decide_eq_true (show i < t.toNat by omega)]
      simp [hr]
    · simp only [hr, if_false]
      rw [dz_bit]
      by_cases h1 : f.toNat ≤ i
      · rw [decide_eq_false (show ¬ i < t.toNat by omega)]; simp
      · rw [decide_eq_false h1]; simp
  · rw [bit_w hb hw, decide_eq_false hw, decide_eq_false (show ¬ i < t.toNat by omega)]; simp
theorem paint_0 {b : Nat} {w f t : Int} (hb : b < 2 ^ w.toNat) (h : 0 ≤ f ∧ f ≤ t ∧ t ≤ w) (hw64 : w ≤ 40) : b &&& (onN f.toNat t.toNat ^^^ (2 ^ 64 - 1)) = bI w (fun k => decide (if f ≤ k ∧ k < t then (0 : Int) = 1 else dz b k = 1)) := by
  refine bI_eq (by omega) (fun i => ?_)
  rw [Nat.testBit_and, Nat.testBit_xor, onN_bit (by omega), Nat.testBit_two_pow_sub_one]
  by_cases hw : (i : Int) < w
  · rw [decide_eq_true hw, Bool.true_and, decide_eq_true (show i < 64 by omega)]
    by_cases hr : f ≤ (i : Int) ∧ (i : Int) < t
    · rw [decide_eq_true (show f.toNat ≤ i by omega), decide_eq_true (show i < t.toNat by omega)]
      simp [hr]
    · simp only [hr, if_false]
      rw [dz_bit]
      by_cases h1 : f.toNat ≤ i
      · rw [decide_eq_false (show ¬ i < t.toNat by omega)]; simp
      · rw [decide_eq_false h1]; simp
  · rw [bit_w hb hw, decide_eq_false hw]; simp
theorem inv_all {b : Nat} {w : Int} (h0 : 0 ≤ w) (hw64 : w ≤ 40) : (b ^^^ (2 ^ 64 - 1)) &&& onN 0 w.toNat = bI w (fun k => decide (dz b k = 0)) := by
  refine bI_eq h0 (fun i => ?_)
  rw [Nat.testBit_and, Nat.testBit_xor, onN_bit (by omega), Nat.testBit_two_pow_sub_one]
  by_cases hw : (i : Int) < w
  · rw [decide_eq_true hw, decide_eq_true (show i < 64 by omega), decide_eq_true (show i < w.toNat by omega), decide_eq_true (Nat.zero_le i)]
    unfold dz
    rw [Int.toNat_natCast]
    cases b.testBit i <;> simp
  · rw [decide_eq_false hw, decide_eq_false (show ¬ i < w.toNat by omega)]; simp
theorem shift_l {b : Nat} {w y : Int} (hb : b < 2 ^ w.toNat) (h0 : 0 ≤ w) (hy : 0 ≤ y) : (b <<< y.toNat) &&& onN 0 w.toNat = bI w (fun k => decide ((0 ≤ k - y ∧ k - y ≤ w - 1) ∧ dz b (k - y) = 1)) := by
  refine bI_eq h0 (fun i => ?_)
  rw [Nat.testBit_and, Nat.testBit_shiftLeft, onN_bit (by omega)]
  by_cases hw : (i : Int) < w
  · rw [decide_eq_true hw, decide_eq_true (show i < w.toNat by omega), decide_eq_true (Nat.zero_le i)]
    by_cases h1 : y.toNat ≤ i
    · rw [show (i : Int) - y = ((i - y.toNat : Nat) : Int) by omega]
      have h2 : (0 ≤ ((i - y.toNat : Nat) : Int) ∧ ((i - y.toNat : Nat) : Int) ≤ w - 1) := by omega
      simp only [h2, true_and, and_self, dz_bit, Bool.and_true, Bool.true_and]
      simp [h1]
    · have h2 : ¬ (0 ≤ (i : Int) - y ∧ (i : Int) - y ≤ w - 1) := by omega
      simp [h1]
      intro h3 h4; omega
  · rw [decide_eq_false hw, decide_eq_false (show ¬ i < w.toNat by omega)]; simp
theorem shift_r {b : Nat} {w y : Int} (hb : b < 2 ^ w.toNat) (h0 : 0 ≤ w) (hy : y < 0) : (b >>> (-y).toNat) &&& onN 0 w.toNat = bI w (fun k => decide ((0 ≤ k - y ∧ k - y ≤ w - 1) ∧ dz b (k - y) = 1)) := by
  refine bI_eq h0 (fun i => ?_)
  rw [Nat.testBit_and, Nat.testBit_shiftRight, onN_bit (by omega)]
  by_cases hw : (i : Int) < w
  · rw [decide_eq_true hw, decide_eq_true (show i < w.toNat by omega), decide_eq_true (Nat.zero_le i)]
    rw [show (i : Int) - y = (((-y).toNat + i : Nat) : Int) by omega]
    by_cases h1 : (((-y).toNat + i : Nat) : Int) < w
    · have h2 : (0 ≤ (((-y).toNat + i : Nat) : Int) ∧ (((-y).toNat + i : Nat) : Int) ≤ w - 1) := by omega
      simp only [h2, true_and, and_self, dz_bit, Bool.and_true, Bool.true_and]
    · have h2 : ¬ (0 ≤ (((-y).toNat + i : Nat) : Int) ∧ (((-y).toNat + i : Nat) : Int) ≤ w - 1) := by omega
      rw [bit_w hb h1]
      simp only [h2, false_and, decide_false, Bool.and_false, Bool.false_and]
  · rw [decide_eq_false hw, decide_eq_false (show ¬ i < w.toNat by omega)]; simp
