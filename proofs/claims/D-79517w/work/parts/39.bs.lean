/-! ===== java.util.BitSet, of one word ===== -/
section BSm
/-- the word of the bits below n -/
def bW0 (P : Nat → Bool) : Nat → Nat
  | 0 => 0
  | n + 1 => bW0 P n + (if P n then 2 ^ n else 0)
theorem bW0_lt (P : Nat → Bool) : ∀ n, bW0 P n < 2 ^ n
  | 0 => Nat.one_pos
  | n + 1 => by
    have := bW0_lt P n
    show bW0 P n + (if P n then 2 ^ n else 0) < 2 ^ n * 2
    split <;> omega
theorem bW0_tb (P : Nat → Bool) : ∀ n j, (bW0 P n).testBit j = (decide (j < n) && P j)
  | 0, j => by simp [bW0]
  | n + 1, j => by
    have h1 := bW0_lt P n
    have h2 := bW0_tb P n j
    have e : bW0 P (n + 1) = 2 ^ n * (if P n then 1 else 0) + bW0 P n := by
      show bW0 P n + (if P n then 2 ^ n else 0) = _
      split <;> omega
    rw [e, Nat.testBit_two_pow_mul_add _ h1]
    by_cases hj : j < n
    · rw [if_pos hj, h2]
      have : j < n + 1 := by omega
      simp [hj, this]
    · rw [if_neg hj]
      by_cases hjn : j = n
      · subst hjn
        cases P j <;> simp
      · have a1 : ¬ j < n + 1 := by omega
        have a2 : j - n ≠ 0 := by omega
        simp only [a1, decide_false, Bool.false_and]
        split
        · rw [show (1 : Nat) = 2 ^ 0 from rfl, Nat.testBit_two_pow]
          exact (decide_eq_false (by omega))
        · exact Nat.zero_testBit _
theorem bW0_ext {P Q : Nat → Bool} {n : Nat} (h : ∀ j, j < n → P j = Q j) : bW0 P n = bW0 Q n := by
  apply Nat.eq_of_testBit_eq
  intro j
  rw [bW0_tb, bW0_tb]
  by_cases hj : j < n
  · rw [h j hj]
  · simp [hj]
theorem bW0_or (P Q : Nat → Bool) (n : Nat) : bW0 P n ||| bW0 Q n = bW0 (fun j => P j || Q j) n := by
  apply Nat.eq_of_testBit_eq
  intro j
  rw [Nat.testBit_or, bW0_tb, bW0_tb, bW0_tb]
  cases decide (j < n) <;> simp
theorem bW0_and (P Q : Nat → Bool) (n : Nat) : bW0 P n &&& bW0 Q n = bW0 (fun j => P j && Q j) n := by
  apply Nat.eq_of_testBit_eq
  intro j
  rw [Nat.testBit_and, bW0_tb, bW0_tb, bW0_tb]
  cases decide (j < n) <;> simp
theorem bW0_one {p n : Nat} (h : p < n) : 2 ^ p = bW0 (fun j => decide (j = p)) n := by
  apply Nat.eq_of_testBit_eq
  intro j
  rw [Nat.testBit_two_pow, bW0_tb]
  by_cases e : j = p
  · subst e; simp [h]
  · have : p ≠ j := fun q => e q.symm
    simp [e, this]
theorem bW0_iv {a b n : Nat} (h : a < b) (hb : b ≤ n) : 2 ^ b - 2 ^ a = bW0 (fun j => decide (a ≤ j) && decide (j < b)) n := by
  apply Nat.eq_of_testBit_eq
  intro j
  have e : 2 ^ b - 2 ^ a = 2 ^ a * (2 ^ (b - a) - 1) + 0 := by
    rw [Nat.mul_sub, ← Nat.pow_add, show a + (b - a) = b by omega, Nat.mul_one, Nat.add_zero]
  rw [e, Nat.testBit_two_pow_mul_add _ (Nat.two_pow_pos a), bW0_tb]
  by_cases h1 : j < a
  · have : ¬ a ≤ j := by omega
    simp [h1, this]
  · rw [if_neg h1, Nat.testBit_two_pow_sub_one]
    by_cases h2 : j < b
    · have h3 : j - a < b - a := by omega
      have h4 : j < n := by omega
      have h5 : a ≤ j := by omega
      simp [h2, h3, h4, h5]
    · have h3 : ¬ j - a < b - a := by omega
      simp [h2, h3]
theorem bW0_z {P : Nat → Bool} {n : Nat} : bW0 P n = 0 ↔ ∀ j, j < n → P j = false := by
  constructor
  · intro h j hj
    have := bW0_tb P n j
    rw [h, Nat.zero_testBit] at this
    simpa [hj] using this.symm
  · intro h
    rw [bW0_ext (Q := fun _ => false) h]
    apply Nat.eq_of_testBit_eq
    intro j
    rw [bW0_tb]
    simp
/-- how many -/
def cnt0 (P : Nat → Bool) : Nat → Nat
  | 0 => 0
  | n + 1 => cnt0 P n + (if P n then 1 else 0)
theorem cnt0_le (P : Nat → Bool) : ∀ n, cnt0 P n ≤ n
  | 0 => Nat.le_refl _
  | n + 1 => by
    have := cnt0_le P n
    show cnt0 P n + (if P n then 1 else 0) ≤ n + 1
    split <;> omega
theorem popT_hi : ∀ (n x : Nat), popT (n + 1) x = popT n x + x / 2 ^ n % 2
  | 0, x => by simp [popT]
  | n + 1, x => by
    have h := popT_hi n (x / 2)
    show x % 2 + popT (n + 1) (x / 2) = (x % 2 + popT n (x / 2)) + x / 2 ^ (n + 1) % 2
    rw [h, Nat.div_div_eq_div_mul, show 2 * 2 ^ n = 2 ^ (n + 1) by rw [Nat.pow_succ]; omega]
    omega
theorem popT_bW0 (P : Nat → Bool) (m : Nat) : ∀ n, n ≤ m → popT n (bW0 P m) = cnt0 P n
  | 0, _ => rfl
  | n + 1, h => by
    rw [popT_hi, popT_bW0 P m n (by omega)]
    have := bW0_tb P m n
    rw [Nat.testBit_eq_decide_div_mod_eq] at this
    have hn : n < m := by omega
    simp only [hn, decide_true, Bool.true_and] at this
    show cnt0 P n + _ = cnt0 P n + (if P n then 1 else 0)
    congr 1
    cases hp : P n
    · rw [hp] at this
      have := of_decide_eq_false this
      simp
      omega
    · rw [hp] at this
      have := of_decide_eq_true this
      simpa using this
theorem popT_more {x m : Nat} (h : x < 2 ^ m) : ∀ k, popT (m + k) x = popT m x
  | 0 => rfl
  | k + 1 => by
    rw [← Nat.add_assoc, popT_hi, popT_more h k, Nat.div_eq_of_lt (Nat.lt_of_lt_of_le h (Nat.pow_le_pow_right (by decide) (by omega)))]
    rfl
/-- the highest, the lowest -/
theorem bW0_top {P : Nat → Bool} {n m : Nat} (hm : m < n) (h : P m = true) (h2 : ∀ j, m < j → j < n → P j = false) : 2 ^ m ≤ bW0 P n ∧ bW0 P n < 2 ^ (m + 1) := by
  constructor
  · apply Nat.ge_two_pow_of_testBit
    rw [bW0_tb]
    simp [hm, h]
  · apply Nat.lt_pow_two_of_testBit
    intro j hj
    rw [bW0_tb]
    by_cases hjn : j < n
    · rw [h2 j (by omega) hjn]; simp
    · simp [hjn]
theorem bW0_low {P : Nat → Bool} {n m : Nat} (hm : m < n) (h : P m = true) (h2 : ∀ j, j < m → P j = false) : ∃ q, bW0 P n = 2 ^ m * (2 * q + 1) := by
  refine ⟨bW0 P n / 2 ^ (m + 1), ?_⟩
  have e : bW0 P n % 2 ^ (m + 1) = 2 ^ m := by
    apply Nat.eq_of_testBit_eq
    intro j
    rw [Nat.testBit_mod_two_pow, bW0_tb, Nat.testBit_two_pow]
    by_cases hj : j < m
    · have : m ≠ j := by omega
      rw [h2 j hj]
      simp [this]
    · by_cases hjm : m = j
      · subst hjm
        simp [hm, h]
      · have : ¬ j < m + 1 := by omega
        simp [this, hjm]
  have := Nat.div_add_mod (bW0 P n) (2 ^ (m + 1))
  rw [e] at this
  rw [Nat.mul_add, Nat.mul_one, ← Nat.mul_assoc, ← Nat.pow_succ]
  exact this.symm
noncomputable def bW : (Nat → Bool) → Nat → Nat := opq 1 bW0
theorem bW_e : bW = bW0 := opq_eq 1 bW0
noncomputable def cnt : (Nat → Bool) → Nat → Nat := opq 2 cnt0
theorem cnt_e : cnt = cnt0 := opq_eq 2 cnt0
theorem bW_lt (P : Nat → Bool) (n : Nat) : bW P n < 2 ^ n := by rw [bW_e]; exact bW0_lt P n
theorem bW_tb (P : Nat → Bool) (n j : Nat) : (bW P n).testBit j = (decide (j < n) && P j) := by rw [bW_e]; exact bW0_tb P n j
theorem bW_ext {P Q : Nat → Bool} {n : Nat} (h : ∀ j, j < n → P j = Q j) : bW P n = bW Q n := by rw [bW_e]; exact bW0_ext h
theorem bW_or (P Q : Nat → Bool) (n : Nat) : bW P n ||| bW Q n = bW (fun j => P j || Q j) n := by rw [bW_e]; exact bW0_or P Q n
theorem bW_and (P Q : Nat → Bool) (n : Nat) : bW P n &&& bW Q n = bW (fun j => P j && Q j) n := by rw [bW_e]; exact bW0_and P Q n
theorem bW_one {p n : Nat} (h : p < n) : 2 ^ p = bW (fun j => decide (j = p)) n := by rw [bW_e]; exact bW0_one h
theorem bW_iv {a b n : Nat} (h : a < b) (hb : b ≤ n) : 2 ^ b - 2 ^ a = bW (fun j => decide (a ≤ j) && decide (j < b)) n := by rw [bW_e]; exact bW0_iv h hb
theorem bW_z {P : Nat → Bool} {n : Nat} : bW P n = 0 ↔ ∀ j, j < n → P j = false := by rw [bW_e]; exact bW0_z
theorem cnt_le (P : Nat → Bool) (n : Nat) : cnt P n ≤ n := by rw [cnt_e]; exact cnt0_le P n
theorem popT_bW (P : Nat → Bool) : popT 64 (bW P 61) = cnt P 61 := by
  rw [bW_e, cnt_e]
  exact (popT_more (bW0_lt P 61) 3).trans (popT_bW0 P 61 61 (Nat.le_refl _))
theorem bW_top {P : Nat → Bool} {n m : Nat} (hm : m < n) (h : P m = true) (h2 : ∀ j, m < j → j < n → P j = false) : 2 ^ m ≤ bW P n ∧ bW P n < 2 ^ (m + 1) := by rw [bW_e]; exact bW0_top hm h h2
theorem bW_low {P : Nat → Bool} {n m : Nat} (hm : m < n) (h : P m = true) (h2 : ∀ j, j < m → P j = false) : ∃ q, bW P n = 2 ^ m * (2 * q + 1) := by rw [bW_e]; exact bW0_low hm h h2
theorem lcmp0 {a : Nat} (h : a < 9223372036854775808) : lg_cmp (lN a) (lN 0) = iI (b2i (decide (a ≠ 0))) := by
  by_cases e : a = 0
  · subst e
    decide
  · have h1 : (lN 0) < (lN a) := by
      rw [Int64.lt_iff_toInt_lt, pf_lI (by omega), pf_lI (by omega)]
      omega
    unfold lg_cmp
    rw [if_pos h1, decide_eq_true e]
    decide
theorem bs_mask : ∀ a : Fin 61, ∀ b : Fin 62, a.val < b.val → ((-1 : Int64) <<< ((iI (a.val : Int)).toInt64 &&& 63)) &&& (((-1 : Int64).toUInt64 >>> ((iI (-(b.val : Int))).toInt64.toUInt64 &&& Int64.toUInt64 63)).toInt64) = lN (2 ^ b.val - 2 ^ a.val) := by decide +kernel
end BSm
