/-! ===== numbers: iI, an Int as a Java int ===== -/
def iI (n : Int) : Int32 := Int32.ofInt n
abbrev inR (n : Int) : Prop := -2147483648 ≤ n ∧ n ≤ 2147483647
theorem iI_add (a b : Int) : iI a + iI b = iI (a + b) := (Int32.ofInt_add a b).symm
theorem iI_mul (a b : Int) : iI a * iI b = iI (a * b) := (Int32.ofInt_mul a b).symm
theorem iI_neg (a : Int) : - iI a = iI (-a) := (Int32.ofInt_neg a).symm
theorem iI_sub (a b : Int) : iI a - iI b = iI (a - b) := (Int32.ofInt_sub a b).symm
theorem iI_toInt {n : Int} (h : inR n) : (iI n).toInt = n := by
  unfold iI
  exact Int32.toInt_ofInt_of_le (by unfold inR at h; omega) (by unfold inR at h; omega)
theorem iI_self (x : Int32) : iI x.toInt = x := Int32.ofInt_toInt x
theorem inR_toInt (x : Int32) : inR x.toInt := by
  have h1 := Int32.le_toInt x
  have h2 := Int32.toInt_lt x
  unfold inR
  omega
theorem iI_inj {a b : Int} (ha : inR a) (hb : inR b) : iI a = iI b ↔ a = b := by
  constructor
  · intro h
    rw [← iI_toInt ha, ← iI_toInt hb, h]
  · intro h
    rw [h]
theorem iI_lt {a b : Int} (ha : inR a) (hb : inR b) : iI a < iI b ↔ a < b := by
  rw [Int32.lt_iff_toInt_lt, iI_toInt ha, iI_toInt hb]
theorem iI_le {a b : Int} (ha : inR a) (hb : inR b) : iI a ≤ iI b ↔ a ≤ b := by
  rw [Int32.le_iff_toInt_le, iI_toInt ha, iI_toInt hb]
theorem iI_nI (n : Nat) : nI n = iI (n : Int) := by
  unfold nI iI
  exact (Int32.ofInt_eq_ofNat).symm
theorem iI_clamp {n : Int} (h0 : 0 ≤ n) (h : n ≤ 2147483647) : (iI n).toNatClampNeg = n.toNat := by
  show (iI n).toInt.toNat = n.toNat
  rw [iI_toInt ⟨by omega, h⟩]
theorem iI_in {n : Int} {N : Nat} (h0 : 0 ≤ n) (h : n < (N : Int)) (h2 : n ≤ 2147483647) : vp_in (iI n) N := by
  rw [vp_in_iff, iI_toInt ⟨by omega, h2⟩]
  omega
theorem iI_0 : iI 0 = 0 := by decide
theorem iI_nneg {n : Int} (h0 : 0 ≤ n) (h2 : n ≤ 2147483647) : ¬ iI n < 0 := by
  rw [← iI_0, iI_lt ⟨by omega, h2⟩ (by decide)]
  omega
theorem iI_eq0 {n : Int} (h : inR n) : iI n = 0 ↔ n = 0 := by
  rw [← iI_0]
  exact iI_inj h (by decide)
theorem iI_div {a b : Int} (ha : 0 ≤ a) (ha2 : a ≤ 2147483647) (hb : 0 < b) (hb2 : b ≤ 2147483647) : iI a / iI b = iI (a / b) := by
  have e1 : iI a = nI a.toNat := by rw [iI_nI]; congr 1; omega
  have e2 : iI b = nI b.toNat := by rw [iI_nI]; congr 1; omega
  rw [e1, e2, pk_div (by omega) (by omega) (by omega), iI_nI]
  congr 1
  rw [Int.natCast_ediv]
  congr 1 <;> omega
theorem iI_rem {a b : Int} (ha : 0 ≤ a) (ha2 : a ≤ 2147483647) (hb : 0 < b) (hb2 : b ≤ 2147483647) : iI a - iI a / iI b * iI b = iI (a % b) := by
  rw [iI_div ha ha2 hb hb2, iI_mul, iI_sub]
  congr 1
  have := Int.mul_ediv_add_emod a b
  rw [Int.mul_comm] at this
  omega
/-- a truth value as an int -/
def b2i (b : Bool) : Int := if b then 1 else 0
theorem b2i_t : b2i true = 1 := rfl
theorem b2i_f : b2i false = 0 := rfl
theorem b2i_in (b : Bool) : inR (b2i b) := by cases b <;> decide
theorem b2i_le (b : Bool) : 0 ≤ b2i b ∧ b2i b ≤ 1 := by cases b <;> decide
theorem b2i_1 (b : Bool) : b2i b = 1 ↔ b = true := by cases b <;> decide
theorem b2i_0 (b : Bool) : b2i b = 0 ↔ b = false := by cases b <;> decide
