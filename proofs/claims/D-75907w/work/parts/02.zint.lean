/-! ints of the machine as whole numbers: iI z -/
def iI (z : Int) : Int32 := Int32.ofInt z
theorem iI_add (a b : Int) : iI a + iI b = iI (a + b) := (Int32.ofInt_add a b).symm
theorem iI_sub (a b : Int) : iI a - iI b = iI (a - b) := (Int32.ofInt_sub a b).symm
theorem iI_mul (a b : Int) : iI a * iI b = iI (a * b) := (Int32.ofInt_mul a b).symm
theorem iI_neg (a : Int) : -iI a = iI (-a) := (Int32.ofInt_neg a).symm
abbrev zR (z : Int) : Prop := -2147483648 ≤ z ∧ z < 2147483648
theorem iI_toInt {z : Int} (h : zR z) : (iI z).toInt = z := Int32.toInt_ofInt_of_le (by have := h.1; omega) (by have := h.2; omega)
theorem iI_clamp {z : Int} (h : zR z) : (iI z).toNatClampNeg = z.toNat := Int32.toNatClampNeg_ofInt_of_le (by have := h.1; omega) (by have := h.2; omega)
theorem iI_self (x : Int32) : x = iI x.toInt := (Int32.ofInt_toInt x).symm
theorem zR_toInt (x : Int32) : zR x.toInt := ⟨by have := Int32.le_toInt x; omega, by have := Int32.toInt_lt x; omega⟩
theorem iI_of (x : Int32) : ∃ z : Int, zR z ∧ x = iI z := ⟨x.toInt, zR_toInt x, iI_self x⟩
theorem iI_lt {a b : Int} (ha : zR a) (hb : zR b) : iI a < iI b ↔ a < b := by rw [Int32.lt_iff_toInt_lt, iI_toInt ha, iI_toInt hb]
theorem iI_le {a b : Int} (ha : zR a) (hb : zR b) : iI a ≤ iI b ↔ a ≤ b := by rw [Int32.le_iff_toInt_le, iI_toInt ha, iI_toInt hb]
theorem iI_eq {a b : Int} (ha : zR a) (hb : zR b) : iI a = iI b ↔ a = b := by rw [← Int32.toInt_inj, iI_toInt ha, iI_toInt hb]
theorem iI_0 : (0 : Int32) = iI 0 := by decide
theorem iI_nI (n : Nat) : nI n = iI (n : Int) := (Int32.ofInt_eq_ofNat).symm
theorem iI_in {z : Int} {n : Nat} (h0 : 0 ≤ z) (h1 : z < (n : Int)) (hr : zR z) : vp_in (iI z) n := by
  rw [vp_in_iff, iI_toInt hr]; exact ⟨h0, h1⟩
theorem iI_div {a b : Int} (ha : zR a) (hb : zR b) (h : ¬ (a = -2147483648 ∧ b = -1)) : iI a / iI b = iI (a.tdiv b) := by
  apply Int32.toInt_inj.mp
  have hq : zR (a.tdiv b) := by
    by_cases hb0 : b = 0
    · subst hb0; rw [Int.tdiv_zero]; exact ⟨by omega, by omega⟩
    by_cases hb1 : b = -1
    · subst hb1
      have : a.tdiv (-1) = -a := by rw [Int.tdiv_neg, Int.tdiv_one]
      rw [this]; have := ha.1; have := ha.2
      exact ⟨by omega, by omega⟩
    by_cases hb2 : b = 1
    · subst hb2; rw [Int.tdiv_one]; exact ha
    · have h1 : (a.tdiv b).natAbs = a.natAbs / b.natAbs := Int.natAbs_tdiv a b
      have h2 : a.natAbs / b.natAbs ≤ a.natAbs / 2 := Nat.div_le_div_left (by omega) (by omega)
      have := ha.1; have := ha.2
      exact ⟨by omega, by omega⟩
  rw [iI_toInt hq, Int32.toInt_div, iI_toInt ha, iI_toInt hb]
  rw [Int.bmod_eq_of_le] <;> have := hq.1 <;> have := hq.2 <;> omega
theorem iI_rem {a b : Int} (ha : zR a) (hb : zR b) (h : ¬ (a = -2147483648 ∧ b = -1)) : iI a - iI a / iI b * iI b = iI (a.tmod b) := by
  rw [iI_div ha hb h, iI_mul, iI_sub]
  congr 1
  have := Int.tmod_add_mul_tdiv a b
  have h2 : a.tdiv b * b = b * a.tdiv b := Int.mul_comm _ _
  omega
/-! update of a row of places -/
def uZ {α : Type} (f : Int → α) (i : Int) (v : α) : Int → α := fun j => if j = i then v else f j
theorem uZ_self {α : Type} (f : Int → α) (i : Int) (v : α) : uZ f i v i = v := by simp [uZ]
theorem uZ_ne {α : Type} (f : Int → α) {i j : Int} (v : α) (h : j ≠ i) : uZ f i v j = f j := by simp [uZ, h]
