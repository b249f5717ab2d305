/-! ===== Long.bitCount, Integer.bitCount, numberOfLeadingZeros, numberOfTrailingZeros ===== -/
section PopC
def popT : Nat → Nat → Nat
  | 0, _ => 0
  | n + 1, x => x % 2 + popT n (x / 2)
/-- the bits of the lowest four -/
def pq (x : Nat) : Nat := (x % 4 - x % 4 / 2) + (x / 4 % 4 - x / 4 % 4 / 2)
def pc4 : Nat → Nat → Nat
  | 0, _ => 0
  | n + 1, x => (x % 4 - x % 4 / 2) + 4 * pc4 n (x / 4)
def pc16 : Nat → Nat → Nat
  | 0, _ => 0
  | n + 1, x => pq x + 16 * pc16 n (x / 16)
def pc256 : Nat → Nat → Nat
  | 0, _ => 0
  | n + 1, x => (pq x + pq (x / 16)) + 256 * pc256 n (x / 256)
def pmk (B m : Nat) : Nat → Nat
  | 0 => 0
  | n + 1 => m + B * pmk B m n
theorem pq_le (x : Nat) : pq x ≤ 4 := by unfold pq; omega
theorem land_sp {k u m : Nat} (v M : Nat) (hu : u < 2 ^ k) (hm : m < 2 ^ k) : (u + 2 ^ k * v) &&& (m + 2 ^ k * M) = (u &&& m) + 2 ^ k * (v &&& M) := by
  have hum : u &&& m < 2 ^ k := Nat.lt_of_le_of_lt Nat.and_le_left hu
  apply Nat.eq_of_testBit_eq
  intro j
  rw [Nat.testBit_and, Nat.add_comm u, Nat.add_comm m, Nat.add_comm (u &&& m), Nat.testBit_two_pow_mul_add _ hu, Nat.testBit_two_pow_mul_add _ hm, Nat.testBit_two_pow_mul_add _ hum]
  split
  · rw [Nat.testBit_and]
  · rw [Nat.testBit_and]
theorem pop_s1 : ∀ (n x : Nat), x < 4 ^ n → (x / 2 &&& pmk 4 1 n) + pc4 n x = x := by
  intro n
  induction n with
  | zero => intro x hx; simp at hx; subst hx; rfl
  | succ n ih =>
    intro x hx
    have h1 := ih (x / 4) (by rw [Nat.pow_succ] at hx; omega)
    have e : x / 2 = (x % 4 / 2 + 2 * (x / 4 % 2)) + 2 ^ 2 * (x / 4 / 2) := by omega
    have e2 : pmk 4 1 (n + 1) = 1 + 2 ^ 2 * pmk 4 1 n := rfl
    have e3 : (x % 4 / 2 + 2 * (x / 4 % 2)) &&& 1 = x % 4 / 2 := by rw [Nat.and_one_is_mod]; omega
    rw [e, e2, land_sp _ _ (by omega) (by decide), e3]
    show _ + ((x % 4 - x % 4 / 2) + 4 * pc4 n (x / 4)) = x
    omega
theorem pc4_le : ∀ (n x : Nat), pc4 n x < 4 ^ n := by
  intro n
  induction n with
  | zero => intro x; exact Nat.one_pos
  | succ n ih =>
    intro x
    have := ih (x / 4)
    show (x % 4 - x % 4 / 2) + 4 * pc4 n (x / 4) < 4 ^ n * 4
    omega
theorem pop_s2 : ∀ (n x : Nat), (pc4 (2 * n) x &&& pmk 16 3 n) + (pc4 (2 * n) x / 4 &&& pmk 16 3 n) = pc16 n x := by
  intro n
  induction n with
  | zero => intro x; simp [pmk, pc16, pc256, pc4]
  | succ n ih =>
    intro x
    have h1 := ih (x / 16)
    have e0 : x / 4 / 4 = x / 16 := by omega
    have e : pc4 (2 * (n + 1)) x = ((x % 4 - x % 4 / 2) + 4 * (x / 4 % 4 - x / 4 % 4 / 2)) + 2 ^ 4 * pc4 (2 * n) (x / 16) := by
      show (x % 4 - x % 4 / 2) + 4 * ((x / 4 % 4 - x / 4 % 4 / 2) + 4 * pc4 (2 * n) (x / 4 / 4)) = _
      rw [e0]; omega
    have e4 : pc4 (2 * (n + 1)) x / 4 = ((x / 4 % 4 - x / 4 % 4 / 2) + 4 * (pc4 (2 * n) (x / 16) % 4)) + 2 ^ 4 * (pc4 (2 * n) (x / 16) / 4) := by rw [e]; omega
    have e2 : pmk 16 3 (n + 1) = 3 + 2 ^ 4 * pmk 16 3 n := rfl
    rw [e4, e, e2, land_sp _ _ (by omega) (by decide), land_sp _ _ (by omega) (by decide)]
    have a1 : ((x % 4 - x % 4 / 2) + 4 * (x / 4 % 4 - x / 4 % 4 / 2)) &&& 3 = x % 4 - x % 4 / 2 := by rw [show (3 : Nat) = 2 ^ 2 - 1 from rfl, Nat.and_two_pow_sub_one_eq_mod]; omega
    have a2 : ((x / 4 % 4 - x / 4 % 4 / 2) + 4 * (pc4 (2 * n) (x / 16) % 4)) &&& 3 = x / 4 % 4 - x / 4 % 4 / 2 := by rw [show (3 : Nat) = 2 ^ 2 - 1 from rfl, Nat.and_two_pow_sub_one_eq_mod]; omega
    rw [a1, a2]
    show _ = pq x + 16 * pc16 n (x / 16)
    rw [← h1]
    unfold pq
    omega
theorem pc16_mod (n x : Nat) : pc16 n x % 16 ≤ 4 := by
  cases n with
  | zero => exact Nat.zero_le _
  | succ n =>
    have := pq_le x
    show (pq x + 16 * pc16 n (x / 16)) % 16 ≤ 4
    omega
theorem pc16_le : ∀ (n x : Nat), pc16 n x < 16 ^ n := by
  intro n
  induction n with
  | zero => intro x; exact Nat.one_pos
  | succ n ih =>
    intro x
    have := ih (x / 16)
    have := pq_le x
    show pq x + 16 * pc16 n (x / 16) < 16 ^ n * 16
    omega
theorem pop_s3 : ∀ (n x : Nat), (pc16 (2 * n) x + pc16 (2 * n) x / 16) &&& pmk 256 15 n = pc256 n x := by
  intro n
  induction n with
  | zero => intro x; simp [pmk, pc16, pc256, pc4]
  | succ n ih =>
    intro x
    have h1 := ih (x / 256)
    have e0 : x / 16 / 16 = x / 256 := by omega
    have b0 := pq_le x
    have b1 := pq_le (x / 16)
    have b2 := pc16_mod (2 * n) (x / 256)
    have e : pc16 (2 * (n + 1)) x = pq x + 16 * (pq (x / 16) + 16 * pc16 (2 * n) (x / 256)) := by
      show pq x + 16 * (pq (x / 16) + 16 * pc16 (2 * n) (x / 16 / 16)) = _
      rw [e0]
    have e4 : pc16 (2 * (n + 1)) x + pc16 (2 * (n + 1)) x / 16 = (pq x + pq (x / 16) + 16 * (pq (x / 16) + pc16 (2 * n) (x / 256) % 16)) + 2 ^ 8 * (pc16 (2 * n) (x / 256) + pc16 (2 * n) (x / 256) / 16) := by rw [e]; omega
    have e2 : pmk 256 15 (n + 1) = 15 + 2 ^ 8 * pmk 256 15 n := rfl
    rw [e4, e2, land_sp _ _ (by omega) (by decide)]
    have a1 : (pq x + pq (x / 16) + 16 * (pq (x / 16) + pc16 (2 * n) (x / 256) % 16)) &&& 15 = pq x + pq (x / 16) := by rw [show (15 : Nat) = 2 ^ 4 - 1 from rfl, Nat.and_two_pow_sub_one_eq_mod]; omega
    rw [a1, h1]
    rfl
theorem popT_4 (n x : Nat) : popT (n + 4) x = pq x + popT n (x / 16) := by
  show x % 2 + (x / 2 % 2 + (x / 2 / 2 % 2 + (x / 2 / 2 / 2 % 2 + popT n (x / 2 / 2 / 2 / 2)))) = _
  rw [show x / 2 / 2 / 2 / 2 = x / 16 by omega]
  unfold pq
  omega
theorem popT_8 (n x : Nat) : popT (n + 8) x = (pq x + pq (x / 16)) + popT n (x / 256) := by
  rw [show n + 8 = (n + 4) + 4 from rfl, popT_4, popT_4, show x / 16 / 16 = x / 256 by omega]
  omega
/-- what the last steps add up -/
def pfold (w : Nat) : Nat := (w + w / 256) + (w + w / 256) / 65536 + ((w + w / 256) + (w + w / 256) / 65536) / 4294967296
theorem pop_fa {r0 r1 T : Nat} (h0 : r0 ≤ 8) (h1 : r1 ≤ 8) : ((r0 + 256 * r1) + 65536 * T) / 256 = r1 + 256 * T := by omega
theorem pop_fb {A T : Nat} (h0 : A < 65536) : (A + 65536 * T) / 65536 = T := by omega
theorem pop_fc {A T : Nat} (h0 : A < 4294967296) : (A + 4294967296 * T) / 4294967296 = T := by omega
theorem pop_f1 {r0 r1 r2 r3 r4 r5 r6 r7 : Nat} (b0 : r0 ≤ 8) (b1 : r1 ≤ 8) (b2 : r2 ≤ 8) (b3 : r3 ≤ 8) (b4 : r4 ≤ 8) (b5 : r5 ≤ 8) (b6 : r6 ≤ 8) (b7 : r7 ≤ 8) : pfold ((r0 + 256 * r1) + 65536 * ((r2 + 256 * r3) + 65536 * ((r4 + 256 * r5) + 65536 * (r6 + 256 * r7)))) % 128 = (r0 + r1 + r2 + r3 + r4 + r5 + r6 + r7) % 128 := by
  unfold pfold
  rw [pop_fa b0 b1]
  have e1 : (r0 + 256 * r1) + 65536 * ((r2 + 256 * r3) + 65536 * ((r4 + 256 * r5) + 65536 * (r6 + 256 * r7))) + (r1 + 256 * ((r2 + 256 * r3) + 65536 * ((r4 + 256 * r5) + 65536 * (r6 + 256 * r7)))) = (r0 + r1 + 256 * (r1 + r2)) + 65536 * ((r2 + r3 + 256 * (r3 + r4)) + 65536 * ((r4 + r5 + 256 * (r5 + r6)) + 65536 * (r6 + r7 + 256 * r7))) := by omega
  rw [e1, pop_fb (by omega)]
  have e2 : ∀ A B C D : Nat, A + 65536 * (B + 65536 * (C + 65536 * D)) + (B + 65536 * (C + 65536 * D)) = ((A + B) + 65536 * (B + C)) + 4294967296 * ((C + D) + 65536 * D) := fun A B C D => by omega
  rw [e2, pop_fc (by omega)]
  omega
theorem pop_s4 (x : Nat) : pfold (pc256 8 x) % 128 = popT 64 x := by
  have hb : ∀ y, pq y + pq (y / 16) ≤ 8 := fun y => by have := pq_le y; have := pq_le (y / 16); omega
  have e : popT 64 x = (pq x + pq (x / 16)) + ((pq (x / 256) + pq (x / 256 / 16)) + ((pq (x / 256 / 256) + pq (x / 256 / 256 / 16)) + ((pq (x / 256 / 256 / 256) + pq (x / 256 / 256 / 256 / 16)) + ((pq (x / 256 / 256 / 256 / 256) + pq (x / 256 / 256 / 256 / 256 / 16)) + ((pq (x / 256 / 256 / 256 / 256 / 256) + pq (x / 256 / 256 / 256 / 256 / 256 / 16)) + ((pq (x / 256 / 256 / 256 / 256 / 256 / 256) + pq (x / 256 / 256 / 256 / 256 / 256 / 256 / 16)) + (pq (x / 256 / 256 / 256 / 256 / 256 / 256 / 256) + pq (x / 256 / 256 / 256 / 256 / 256 / 256 / 256 / 16)))))))) := by
    rw [popT_8 56, popT_8 48, popT_8 40, popT_8 32, popT_8 24, popT_8 16, popT_8 8, popT_8 0]
    rfl
  rw [e]
  simp only [pc256]
  generalize hr0 : pq x + pq (x / 16) = r0
  generalize hr1 : pq (x / 256) + pq (x / 256 / 16) = r1
  generalize hr2 : pq (x / 256 / 256) + pq (x / 256 / 256 / 16) = r2
  generalize hr3 : pq (x / 256 / 256 / 256) + pq (x / 256 / 256 / 256 / 16) = r3
  generalize hr4 : pq (x / 256 / 256 / 256 / 256) + pq (x / 256 / 256 / 256 / 256 / 16) = r4
  generalize hr5 : pq (x / 256 / 256 / 256 / 256 / 256) + pq (x / 256 / 256 / 256 / 256 / 256 / 16) = r5
  generalize hr6 : pq (x / 256 / 256 / 256 / 256 / 256 / 256) + pq (x / 256 / 256 / 256 / 256 / 256 / 256 / 16) = r6
  generalize hr7 : pq (x / 256 / 256 / 256 / 256 / 256 / 256 / 256) + pq (x / 256 / 256 / 256 / 256 / 256 / 256 / 256 / 16) = r7
  have b0 := hb x
  have b1 := hb (x / 256)
  have b2 := hb (x / 256 / 256)
  have b3 := hb (x / 256 / 256 / 256)
  have b4 := hb (x / 256 / 256 / 256 / 256)
  have b5 := hb (x / 256 / 256 / 256 / 256 / 256)
  have b6 := hb (x / 256 / 256 / 256 / 256 / 256 / 256)
  have b7 := hb (x / 256 / 256 / 256 / 256 / 256 / 256 / 256)
  rw [hr0] at b0
  rw [hr1] at b1
  rw [hr2] at b2
  rw [hr3] at b3
  rw [hr4] at b4
  rw [hr5] at b5
  rw [hr6] at b6
  rw [hr7] at b7
  have e1 : r0 + 256 * (r1 + 256 * (r2 + 256 * (r3 + 256 * (r4 + 256 * (r5 + 256 * (r6 + 256 * r7)))))) = (r0 + 256 * r1) + 65536 * ((r2 + 256 * r3) + 65536 * ((r4 + 256 * r5) + 65536 * (r6 + 256 * r7))) := by omega
  rw [e1, pop_f1 b0 b1 b2 b3 b4 b5 b6 b7]
  omega
end PopC
