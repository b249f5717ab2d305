/-! ===== numberOfLeadingZeros, numberOfTrailingZeros ===== -/
section NLZ
theorem lg_step {j y : Nat} (s : Nat) (h1 : 2 ^ j ≤ y) (h2 : y < 2 ^ (j + 1)) : (y < 2 ^ s → j < s) ∧ (2 ^ s ≤ y → s ≤ j ∧ 2 ^ (j - s) ≤ y / 2 ^ s ∧ y / 2 ^ s < 2 ^ (j - s + 1)) := by
  refine ⟨fun h => (Nat.pow_lt_pow_iff_right (by decide)).mp (Nat.lt_of_le_of_lt h1 h), fun h => ?_⟩
  have hs : s < j + 1 := (Nat.pow_lt_pow_iff_right (by decide)).mp (Nat.lt_of_le_of_lt h h2)
  have e1 : 2 ^ j = 2 ^ (j - s) * 2 ^ s := by rw [← Nat.pow_add]; congr 1; omega
  have e2 : 2 ^ (j + 1) = 2 ^ (j - s + 1) * 2 ^ s := by rw [← Nat.pow_add]; congr 1; omega
  refine ⟨by omega, ?_, ?_⟩
  · rw [Nat.le_div_iff_mul_le (Nat.two_pow_pos s), ← e1]; exact h1
  · rw [Nat.div_lt_iff_lt_mul (Nat.two_pow_pos s), ← e2]; exact h2
theorem iI_norm (n : Nat) : ∃ z : Int, inR z ∧ iI n = iI z ∧ (z = 0 ↔ n % 4294967296 = 0) ∧ (n % 4294967296 < 2147483648 → z = ((n % 4294967296 : Nat) : Int)) ∧ (2147483648 ≤ n % 4294967296 → z < 0) := by
  have e : iI n = iI ((n % 4294967296 : Nat) : Int) := by
    rw [← iI_nI, ← iI_nI]
    apply Int32.toBitVec_inj.mp
    show BitVec.ofNat 32 n = BitVec.ofNat 32 (n % 4294967296)
    apply BitVec.eq_of_toNat_eq
    simp
  by_cases h : n % 4294967296 < 2147483648
  · exact ⟨((n % 4294967296 : Nat) : Int), by omega, e, by omega, fun _ => rfl, by omega⟩
  · refine ⟨((n % 4294967296 : Nat) : Int) - 4294967296, by omega, ?_, by omega, by omega, by omega⟩
    rw [e, ← iI_sub]
    rw [show iI 4294967296 = 0 from by decide]
    simp
variable {Γ : yG}
set_option maxHeartbeats 4000000
theorem c_J30_nlz {G : yH} {x m : Nat} (h1 : 2 ^ m ≤ x) (h2 : x < 2 ^ (m + 1)) (hm : m ≤ 30) : Ct_J30_numberOfLeadingZeros Γ 1 0 0 [.int (iI x)] G (fun r G' => r = some (.int (iI ((31 - m : Nat) : Int))) ∧ G' = G) noX := by
  have hx : x < 2147483648 := Nat.lt_of_lt_of_le h2 (by rw [show 2147483648 = 2 ^ 31 from rfl]; exact Nat.pow_le_pow_right (by decide) (by omega))
  have hx0 : 0 < x := Nat.lt_of_lt_of_le (Nat.two_pow_pos m) h1
  refine y_start (lv0 := [some (.int (iI x)), none]) (nm := "numberOfLeadingZeros") (own := RJ30) (by decide +kernel) rfl rfl (by first | exact Nat.le_of_ble_eq_true rfl | (simp only [yArgs, va_cat_rf]; simp [Value.category])) (by first | rfl | (simp only [yArgs, va_cat_rf]; simp [Value.category])) ?_
  intro Z Q E F
  have k73 : ∀ y j : Nat, 2 ^ j ≤ y → y < 2 ^ (j + 1) → j ≤ m → j < 2 → y < 2147483648 → Y Γ Z 0 0 Q G 73 [some (.int (iI y)), some (.int (iI ((31 - (m - j) : Nat) : Int)))] [] := by
    intro y j a1 a2 a3 a4 a5
    refine y_iload_n E dJ30_numberOfLeadingZeros_73 (by rfl) ?_
    refine y_iload_n E dJ30_numberOfLeadingZeros_74 (by rfl) ?_
    refine y_iconst E dJ30_numberOfLeadingZeros_75 ?_
    refine y_iushr E dJ30_numberOfLeadingZeros_76 (iI_ushr 1 (by omega) (by omega) (by decide)) ?_
    refine y_isub E dJ30_numberOfLeadingZeros_77 ?_
    refine y_top (v' := .int (iI ((31 - m : Nat) : Int))) ?_ ?_
    · congr 2
      have hj : j = 0 ∨ j = 1 := by omega
      rcases hj with rfl | rfl
      · have : y = 1 := by omega
        subst this
        simp
        try omega
      · have : y = 2 ∨ y = 3 := by omega
        rcases this with rfl | rfl <;> (simp; try omega)
    refine y_ireturn E F rfl rfl dJ30_numberOfLeadingZeros_78 (by omega) (by omega) ⟨rfl, rfl⟩
  have k61 : ∀ y j : Nat, 2 ^ j ≤ y → y < 2 ^ (j + 1) → j ≤ m → j < 4 → y < 2147483648 → Y Γ Z 0 0 Q G 61 [some (.int (iI y)), some (.int (iI ((31 - (m - j) : Nat) : Int)))] [] := by
    intro y j a1 a2 a3 a4 a5
    have st := lg_step 2 a1 a2
    refine y_iload_n E dJ30_numberOfLeadingZeros_61 (by rfl) ?_
    refine y_iconst E dJ30_numberOfLeadingZeros_62 ?_
    refine y_icmp_lt (tgt := 73) E dJ30_numberOfLeadingZeros_63 (by decide) (by omega) (by omega) (fun h63 => ?_) (fun h63 => ?_)
    · exact k73 y j a1 a2 a3 (st.1 (by omega)) a5
    · obtain ⟨b1, b2, b3⟩ := st.2 (by omega)
      refine y_iinc E dJ30_numberOfLeadingZeros_66 (by rfl) ?_
      refine y_iload_n E dJ30_numberOfLeadingZeros_69 (by rfl) ?_
      refine y_iconst E dJ30_numberOfLeadingZeros_70 ?_
      refine y_iushr E dJ30_numberOfLeadingZeros_71 (iI_ushr 2 (by omega) (by omega) (by decide)) ?_
      refine y_istore_n (j := 0) E dJ30_numberOfLeadingZeros_72 rfl (Nat.le_of_ble_eq_true rfl) ?_
      refine y_lv ?_ (k73 (y / 2 ^ 2) (j - 2) b2 b3 (by omega) (by omega) (by omega))
      simp only [lst1, lkill_int, lkill_no]
      show [some (Value.int (iI _)), some (Value.int (iI _))] = _
      congr 4
      congr 2
      omega
  have k48 : ∀ y j : Nat, 2 ^ j ≤ y → y < 2 ^ (j + 1) → j ≤ m → j < 8 → y < 2147483648 → Y Γ Z 0 0 Q G 48 [some (.int (iI y)), some (.int (iI ((31 - (m - j) : Nat) : Int)))] [] := by
    intro y j a1 a2 a3 a4 a5
    have st := lg_step 4 a1 a2
    refine y_iload_n E dJ30_numberOfLeadingZeros_48 (by rfl) ?_
    refine y_bipush E dJ30_numberOfLeadingZeros_49 (by decide) ?_
    refine y_icmp_lt (tgt := 61) E dJ30_numberOfLeadingZeros_51 (by decide) (by omega) (by omega) (fun h51 => ?_) (fun h51 => ?_)
    · exact k61 y j a1 a2 a3 (st.1 (by omega)) a5
    · obtain ⟨b1, b2, b3⟩ := st.2 (by omega)
      refine y_iinc E dJ30_numberOfLeadingZeros_54 (by rfl) ?_
      refine y_iload_n E dJ30_numberOfLeadingZeros_57 (by rfl) ?_
      refine y_iconst E dJ30_numberOfLeadingZeros_58 ?_
      refine y_iushr E dJ30_numberOfLeadingZeros_59 (iI_ushr 4 (by omega) (by omega) (by decide)) ?_
      refine y_istore_n (j := 0) E dJ30_numberOfLeadingZeros_60 rfl (Nat.le_of_ble_eq_true rfl) ?_
      refine y_lv ?_ (k61 (y / 2 ^ 4) (j - 4) b2 b3 (by omega) (by omega) (by omega))
      simp only [lst1, lkill_int, lkill_no]
      show [some (Value.int (iI _)), some (Value.int (iI _))] = _
      congr 4
      congr 2
      omega
  have k33 : ∀ y j : Nat, 2 ^ j ≤ y → y < 2 ^ (j + 1) → j ≤ m → j < 16 → y < 2147483648 → Y Γ Z 0 0 Q G 33 [some (.int (iI y)), some (.int (iI ((31 - (m - j) : Nat) : Int)))] [] := by
    intro y j a1 a2 a3 a4 a5
    have st := lg_step 8 a1 a2
    refine y_iload_n E dJ30_numberOfLeadingZeros_33 (by rfl) ?_
    refine y_sipush E dJ30_numberOfLeadingZeros_34 (by decide) ?_
    refine y_icmp_lt (tgt := 48) E dJ30_numberOfLeadingZeros_37 (by decide) (by omega) (by omega) (fun h37 => ?_) (fun h37 => ?_)
    · exact k48 y j a1 a2 a3 (st.1 (by omega)) a5
    · obtain ⟨b1, b2, b3⟩ := st.2 (by omega)
      refine y_iinc E dJ30_numberOfLeadingZeros_40 (by rfl) ?_
      refine y_iload_n E dJ30_numberOfLeadingZeros_43 (by rfl) ?_
      refine y_bipush E dJ30_numberOfLeadingZeros_44 (by decide) ?_
      refine y_iushr E dJ30_numberOfLeadingZeros_46 (iI_ushr 8 (by omega) (by omega) (by decide)) ?_
      refine y_istore_n (j := 0) E dJ30_numberOfLeadingZeros_47 rfl (Nat.le_of_ble_eq_true rfl) ?_
      refine y_lv ?_ (k48 (y / 2 ^ 8) (j - 8) b2 b3 (by omega) (by omega) (by omega))
      simp only [lst1, lkill_int, lkill_no]
      show [some (Value.int (iI _)), some (Value.int (iI _))] = _
      congr 4
      congr 2
      omega
  have k18 : ∀ y j : Nat, 2 ^ j ≤ y → y < 2 ^ (j + 1) → j ≤ m → j < 31 → y < 2147483648 → Y Γ Z 0 0 Q G 18 [some (.int (iI y)), some (.int (iI ((31 - (m - j) : Nat) : Int)))] [] := by
    intro y j a1 a2 a3 a4 a5
    have st := lg_step 16 a1 a2
    refine y_iload_n E dJ30_numberOfLeadingZeros_18 (by rfl) ?_
    refine y_ldcw E q1799 dJ30_numberOfLeadingZeros_19 ?_
    refine y_top (v' := .int (iI 65536)) (by decide) ?_
    refine y_icmp_lt (tgt := 33) E dJ30_numberOfLeadingZeros_22 (by decide) (by omega) (by omega) (fun h22 => ?_) (fun h22 => ?_)
    · exact k33 y j a1 a2 a3 (st.1 (by omega)) a5
    · obtain ⟨b1, b2, b3⟩ := st.2 (by omega)
      refine y_iinc E dJ30_numberOfLeadingZeros_25 (by rfl) ?_
      refine y_iload_n E dJ30_numberOfLeadingZeros_28 (by rfl) ?_
      refine y_bipush E dJ30_numberOfLeadingZeros_29 (by decide) ?_
      refine y_iushr E dJ30_numberOfLeadingZeros_31 (iI_ushr 16 (by omega) (by omega) (by decide)) ?_
      refine y_istore_n (j := 0) E dJ30_numberOfLeadingZeros_32 rfl (Nat.le_of_ble_eq_true rfl) ?_
      refine y_lv ?_ (k33 (y / 2 ^ 16) (j - 16) b2 b3 (by omega) (by omega) (by omega))
      simp only [lst1, lkill_int, lkill_no]
      show [some (Value.int (iI _)), some (Value.int (iI _))] = _
      congr 4
      congr 2
      omega
  refine y_iload_n E dJ30_numberOfLeadingZeros_0 (by rfl) ?_
  refine y_if_gt (tgt := 15) E dJ30_numberOfLeadingZeros_1 (by decide) (by omega) (fun hb => ?_) (fun hb => ?_)
  · refine y_bipush E dJ30_numberOfLeadingZeros_15 (by decide) ?_
    refine y_istore_n (j := 1) E dJ30_numberOfLeadingZeros_17 rfl (Nat.le_of_ble_eq_true rfl) ?_
    refine y_lv ?_ (k18 x m h1 h2 (Nat.le_refl _) (by omega) hx)
    simp only [lst1, lkill_int, lkill_no]
    rw [Nat.sub_self]
    rfl
  · exfalso
    omega
theorem c_J30_nlz_neg {G : yH} {z : Int} (h : z < 0) (h2 : inR z) : Ct_J30_numberOfLeadingZeros Γ 1 0 0 [.int (iI z)] G (fun r G' => r = some (.int (iI 0)) ∧ G' = G) noX := by
  refine y_start (lv0 := [some (.int (iI z)), none]) (nm := "numberOfLeadingZeros") (own := RJ30) (by decide +kernel) rfl rfl (by first | exact Nat.le_of_ble_eq_true rfl | (simp only [yArgs, va_cat_rf]; simp [Value.category])) (by first | rfl | (simp only [yArgs, va_cat_rf]; simp [Value.category])) ?_
  intro Z Q E F
  refine y_iload_n E dJ30_numberOfLeadingZeros_0 (by rfl) ?_
  refine y_if_gt (tgt := 15) E dJ30_numberOfLeadingZeros_1 (by decide) (by omega) (fun h1 => ?_) (fun h1 => ?_)
  · exfalso
    omega
  · refine y_iload_n E dJ30_numberOfLeadingZeros_4 (by rfl) ?_
    refine y_if_ne (tgt := 13) E dJ30_numberOfLeadingZeros_5 (by decide) (by omega) (fun h5 => ?_) (fun h5 => ?_)
    · refine y_iconst E dJ30_numberOfLeadingZeros_13 ?_
      refine y_ireturn E F rfl rfl dJ30_numberOfLeadingZeros_14 (by omega) (by omega) ⟨rfl, rfl⟩
    · exfalso
      omega
theorem c_J40_nlz {G : yH} {x m : Nat} (h1 : 2 ^ m ≤ x) (h2 : x < 2 ^ (m + 1)) (hm : m ≤ 62) : Ct_J40_numberOfLeadingZeros Γ 2 0 0 [.long (lN x)] G (fun r G' => r = some (.int (iI ((63 - m : Nat) : Int))) ∧ G' = G) noX := by
  have hx : x < 9223372036854775808 := Nat.lt_of_lt_of_le h2 (by rw [show 9223372036854775808 = 2 ^ 63 from rfl]; exact Nat.pow_le_pow_right (by decide) (by omega))
  have st := lg_step 32 h1 h2
  refine y_start (lv0 := [some (.long (lN x)), none, none]) (nm := "numberOfLeadingZeros") (own := RJ40) (by decide +kernel) rfl rfl (by first | exact Nat.le_of_ble_eq_true rfl | (simp only [yArgs, va_cat_rf]; simp [Value.category])) (by first | rfl | (simp only [yArgs, va_cat_rf]; simp [Value.category])) ?_
  intro Z Q E F
  refine y_lload_n E dJ40_numberOfLeadingZeros_0 (by rfl) ?_
  refine y_bipush E dJ40_numberOfLeadingZeros_1 (by decide) ?_
  refine y_lushr E dJ40_numberOfLeadingZeros_3 (lN_ushr 32 (by omega) (by decide)) ?_
  refine y_l2i E dJ40_numberOfLeadingZeros_4 (lN_l2i _) ?_
  refine y_istore_n (j := 2) E dJ40_numberOfLeadingZeros_5 rfl (Nat.le_of_ble_eq_true rfl) ?_
  refine y_iload_n E dJ40_numberOfLeadingZeros_6 (by rfl) ?_
  refine y_if_ne (tgt := 21) E dJ40_numberOfLeadingZeros_7 (by decide) (by omega) (fun h7 => ?_) (fun h7 => ?_)
  · obtain ⟨b1, b2, b3⟩ := st.2 (by omega)
    refine y_iload_n E dJ40_numberOfLeadingZeros_21 (by rfl) ?_
    refine y_callS E dJ40_numberOfLeadingZeros_22 lk_J40_308 (c_J30_nlz (x := x / 2 ^ 32) (m := m - 32) b2 b3 (by omega)) (by rfl) (by decide) (by omega) (by omega) rfl (Nat.le_of_ble_eq_true rfl) ?_ (fun _ _ _ h => h.elim)
    rintro v G' ⟨rfl, rfl⟩
    refine y_eq (st' := [.int (iI ((63 - m : Nat) : Int))]) ?_ ?_
    · show [Value.int (iI _)] = _
      congr 3
      omega
    refine y_ireturn E F rfl rfl dJ40_numberOfLeadingZeros_25 (by omega) (by omega) ⟨rfl, rfl⟩
  · have hm32 : m < 32 := st.1 (by omega)
    refine y_bipush E dJ40_numberOfLeadingZeros_10 (by decide) ?_
    refine y_lload_n E dJ40_numberOfLeadingZeros_12 (by rfl) ?_
    refine y_l2i E dJ40_numberOfLeadingZeros_13 (lN_l2i _) ?_
    by_cases hm31 : m = 31
    · subst hm31
      obtain ⟨z, z1, z2, z3, z4, z5⟩ := iI_norm x
      rw [z2]
      refine y_callS E dJ40_numberOfLeadingZeros_14 lk_J40_308 (c_J30_nlz_neg (z := z) (z5 (by simp at h1 h2; omega)) z1) (by rfl) (by decide) (by omega) (by omega) rfl (Nat.le_of_ble_eq_true rfl) ?_ (fun _ _ _ h => h.elim)
      rintro v G' ⟨rfl, rfl⟩
      refine y_eq (st' := [.int (iI 0), .int (iI 32)]) rfl ?_
      refine y_iadd E dJ40_numberOfLeadingZeros_17 ?_
      refine y_goto (tgt := 25) E dJ40_numberOfLeadingZeros_18 (by decide) ?_
      refine y_ireturn E F rfl rfl dJ40_numberOfLeadingZeros_25 (by omega) (by omega) ⟨rfl, rfl⟩
    · refine y_callS E dJ40_numberOfLeadingZeros_14 lk_J40_308 (c_J30_nlz (x := x) (m := m) h1 h2 (by omega)) (by rfl) (by decide) (by omega) (by omega) rfl (Nat.le_of_ble_eq_true rfl) ?_ (fun _ _ _ h => h.elim)
      rintro v G' ⟨rfl, rfl⟩
      refine y_eq (st' := [.int (iI ((31 - m : Nat) : Int)), .int (iI 32)]) rfl ?_
      refine y_iadd E dJ40_numberOfLeadingZeros_17 ?_
      refine y_goto (tgt := 25) E dJ40_numberOfLeadingZeros_18 (by decide) ?_
      refine y_top (v' := .int (iI ((63 - m : Nat) : Int))) (by congr 2; omega) ?_
      refine y_ireturn E F rfl rfl dJ40_numberOfLeadingZeros_25 (by omega) (by omega) ⟨rfl, rfl⟩
theorem nt_step {j : Nat} (s : Nat) (hs : 1 ≤ s) : (2 ^ j - 1 ≤ 2 ^ s → j ≤ s) ∧ (2 ^ s < 2 ^ j - 1 → s < j ∧ (2 ^ j - 1) / 2 ^ s = 2 ^ (j - s) - 1) := by
  have h1 : 2 ≤ 2 ^ s := by rw [show 2 = 2 ^ 1 from rfl]; exact Nat.pow_le_pow_right (by decide) hs
  refine ⟨fun h => ?_, fun h => ?_⟩
  · apply Nat.le_of_not_lt
    intro hlt
    have : 2 ^ (s + 1) ≤ 2 ^ j := Nat.pow_le_pow_right (by decide) hlt
    rw [Nat.pow_succ] at this
    omega
  · have hsj : s < j := (Nat.pow_lt_pow_iff_right (a := 2) (by decide)).mp (by omega)
    refine ⟨hsj, ?_⟩
    have e1 : 2 ^ j = 2 ^ (j - s) * 2 ^ s := by rw [← Nat.pow_add]; congr 1; omega
    have h2 : 1 ≤ 2 ^ (j - s) := Nat.two_pow_pos _
    apply Nat.div_eq_of_lt_le
    · rw [Nat.sub_mul, ← e1]; omega
    · rw [Nat.sub_add_cancel h2, ← e1]; omega
theorem nt_mask {n t q : Nat} (hn : n = 2 ^ t * (2 * q + 1)) (ht : t < 32) : (iI (n : Int) ^^^ iI (-1)) &&& iI ((n : Int) - 1) = iI ((2 ^ t - 1 : Nat) : Int) := by
  have h0 : 0 < 2 ^ t := Nat.two_pow_pos t
  have hn1 : 1 ≤ n := by rw [hn]; exact Nat.mul_pos h0 (by omega)
  have e : (n : Int) - 1 = ((n - 1 : Nat) : Int) := by omega
  rw [e, ← iI_nI, ← iI_nI, ← iI_nI]
  have tb : ∀ (k j : Nat), j < 32 → bt (nI k) j = k.testBit j := by
    intro k j hj
    show (BitVec.ofNat 32 k).getLsbD j = _
    rw [BitVec.getLsbD_ofNat]
    simp [hj]
  have en : n = 2 ^ (t + 1) * q + 2 ^ t := by rw [hn, Nat.mul_add, Nat.mul_one, Nat.pow_succ, Nat.mul_assoc]
  have en1 : n - 1 = 2 ^ (t + 1) * q + (2 ^ t - 1) := by omega
  have hlt : 2 ^ t < 2 ^ (t + 1) := Nat.pow_lt_pow_right (by decide) (by omega)
  apply b_ext
  intro j hj
  have hm : bt (iI (-1)) j = true := b_m1 j hj
  rw [b_and, b_xor, hm, tb _ j hj, tb _ j hj, tb _ j hj, en1, en, Nat.testBit_two_pow_mul_add _ hlt, Nat.testBit_two_pow_mul_add _ (by omega)]
  rw [Nat.testBit_two_pow_sub_one, Nat.testBit_two_pow]
  by_cases hj1 : j < t + 1
  · rw [if_pos hj1, if_pos hj1]
    by_cases hj2 : j < t
    · have : t ≠ j := by omega
      simp [hj2, this]
    · have : t = j := by omega
      simp [this]
  · rw [if_neg hj1, if_neg hj1]
    have : ¬ j < t := by omega
    simp [this]
theorem c_J30_ntz {G : yH} {n t q : Nat} (hn : n = 2 ^ t * (2 * q + 1)) (ht : t < 32) : Ct_J30_numberOfTrailingZeros Γ 1 0 0 [.int (iI n)] G (fun r G' => r = some (.int (iI t)) ∧ G' = G) noX := by
  refine y_start (lv0 := [some (.int (iI n)), none]) (nm := "numberOfTrailingZeros") (own := RJ30) (by decide +kernel) rfl rfl (by first | exact Nat.le_of_ble_eq_true rfl | (simp only [yArgs, va_cat_rf]; simp [Value.category])) (by first | rfl | (simp only [yArgs, va_cat_rf]; simp [Value.category])) ?_
  intro Z Q E F
  refine y_iload_n E dJ30_numberOfTrailingZeros_0 (by rfl) ?_
  refine y_iconst E dJ30_numberOfTrailingZeros_1 ?_
  refine y_ixor E dJ30_numberOfTrailingZeros_2 rfl ?_
  refine y_iload_n E dJ30_numberOfTrailingZeros_3 (by rfl) ?_
  refine y_iconst E dJ30_numberOfTrailingZeros_4 ?_
  refine y_isub E dJ30_numberOfTrailingZeros_5 ?_
  refine y_iand E dJ30_numberOfTrailingZeros_6 (nt_mask hn ht) ?_
  have hb0 : 2 ^ t ≤ 2 ^ 31 := Nat.pow_le_pow_right (by decide) (by omega)
  refine y_istore_n (j := 0) E dJ30_numberOfTrailingZeros_7 rfl (Nat.le_of_ble_eq_true rfl) ?_
  refine y_iload_n E dJ30_numberOfTrailingZeros_8 (by rfl) ?_
  have k74 : ∀ j : Nat, 1 ≤ j → j ≤ t → j ≤ 2 → Y Γ Z 0 0 Q G 74 [some (.int (iI ((2 ^ j - 1 : Nat) : Int))), some (.int (iI ((1 + (t - j) : Nat) : Int)))] [] := by
    intro j a1 a2 a3
    have hj : j = 1 ∨ j = 2 := by omega
    refine y_iload_n E dJ30_numberOfTrailingZeros_74 (by rfl) ?_
    refine y_iload_n E dJ30_numberOfTrailingZeros_75 (by rfl) ?_
    refine y_iconst E dJ30_numberOfTrailingZeros_76 ?_
    refine y_iushr E dJ30_numberOfTrailingZeros_77 (iI_ushr 1 (by omega) (by rcases hj with rfl | rfl <;> decide) (by decide)) ?_
    refine y_iadd E dJ30_numberOfTrailingZeros_78 ?_
    refine y_top (v' := .int (iI (t : Int))) ?_ ?_
    · congr 2
      rcases hj with rfl | rfl
      · simp; omega
      · simp; omega
    refine y_ireturn E F rfl rfl dJ30_numberOfTrailingZeros_79 (by omega) (by omega) ⟨rfl, rfl⟩
  have k62 : ∀ j : Nat, 1 ≤ j → j ≤ t → j ≤ 4 → Y Γ Z 0 0 Q G 62 [some (.int (iI ((2 ^ j - 1 : Nat) : Int))), some (.int (iI ((1 + (t - j) : Nat) : Int)))] [] := by
    intro j a1 a2 a3
    have st := nt_step (j := j) 2 (by decide)
    have hb : 2 ^ j ≤ 2 ^ 31 := Nat.pow_le_pow_right (by decide) (by omega)
    refine y_iload_n E dJ30_numberOfTrailingZeros_62 (by rfl) ?_
    refine y_iconst E dJ30_numberOfTrailingZeros_63 ?_
    refine y_icmp_le (tgt := 74) E dJ30_numberOfTrailingZeros_64 (by decide) (by omega) (by omega) (fun h64 => ?_) (fun h64 => ?_)
    · exact k74 j a1 a2 (st.1 (by omega))
    · obtain ⟨b1, b2⟩ := st.2 (by omega)
      refine y_iinc E dJ30_numberOfTrailingZeros_67 (by rfl) ?_
      refine y_iload_n E dJ30_numberOfTrailingZeros_70 (by rfl) ?_
      refine y_iconst E dJ30_numberOfTrailingZeros_71 ?_
      refine y_iushr E dJ30_numberOfTrailingZeros_72 (iI_ushr 2 (by omega) (by omega) (by decide)) ?_
      refine y_istore_n (j := 0) E dJ30_numberOfTrailingZeros_73 rfl (Nat.le_of_ble_eq_true rfl) ?_
      refine y_lv ?_ (k74 (j - 2) (by omega) (by omega) (by omega))
      simp only [lst1, lkill_int, lkill_no]
      show [some (Value.int (iI _)), some (Value.int (iI _))] = _
      rw [← b2]
      congr 4
      congr 2
      omega
  have k49 : ∀ j : Nat, 1 ≤ j → j ≤ t → j ≤ 8 → Y Γ Z 0 0 Q G 49 [some (.int (iI ((2 ^ j - 1 : Nat) : Int))), some (.int (iI ((1 + (t - j) : Nat) : Int)))] [] := by
    intro j a1 a2 a3
    have st := nt_step (j := j) 4 (by decide)
    have hb : 2 ^ j ≤ 2 ^ 31 := Nat.pow_le_pow_right (by decide) (by omega)
    refine y_iload_n E dJ30_numberOfTrailingZeros_49 (by rfl) ?_
    refine y_bipush E dJ30_numberOfTrailingZeros_50 (by decide) ?_
    refine y_icmp_le (tgt := 62) E dJ30_numberOfTrailingZeros_52 (by decide) (by omega) (by omega) (fun h52 => ?_) (fun h52 => ?_)
    · exact k62 j a1 a2 (st.1 (by omega))
    · obtain ⟨b1, b2⟩ := st.2 (by omega)
      refine y_iinc E dJ30_numberOfTrailingZeros_55 (by rfl) ?_
      refine y_iload_n E dJ30_numberOfTrailingZeros_58 (by rfl) ?_
      refine y_iconst E dJ30_numberOfTrailingZeros_59 ?_
      refine y_iushr E dJ30_numberOfTrailingZeros_60 (iI_ushr 4 (by omega) (by omega) (by decide)) ?_
      refine y_istore_n (j := 0) E dJ30_numberOfTrailingZeros_61 rfl (Nat.le_of_ble_eq_true rfl) ?_
      refine y_lv ?_ (k62 (j - 4) (by omega) (by omega) (by omega))
      simp only [lst1, lkill_int, lkill_no]
      show [some (Value.int (iI _)), some (Value.int (iI _))] = _
      rw [← b2]
      congr 4
      congr 2
      omega
  have k34 : ∀ j : Nat, 1 ≤ j → j ≤ t → j ≤ 16 → Y Γ Z 0 0 Q G 34 [some (.int (iI ((2 ^ j - 1 : Nat) : Int))), some (.int (iI ((1 + (t - j) : Nat) : Int)))] [] := by
    intro j a1 a2 a3
    have st := nt_step (j := j) 8 (by decide)
    have hb : 2 ^ j ≤ 2 ^ 31 := Nat.pow_le_pow_right (by decide) (by omega)
    refine y_iload_n E dJ30_numberOfTrailingZeros_34 (by rfl) ?_
    refine y_sipush E dJ30_numberOfTrailingZeros_35 (by decide) ?_
    refine y_icmp_le (tgt := 49) E dJ30_numberOfTrailingZeros_38 (by decide) (by omega) (by omega) (fun h38 => ?_) (fun h38 => ?_)
    · exact k49 j a1 a2 (st.1 (by omega))
    · obtain ⟨b1, b2⟩ := st.2 (by omega)
      refine y_iinc E dJ30_numberOfTrailingZeros_41 (by rfl) ?_
      refine y_iload_n E dJ30_numberOfTrailingZeros_44 (by rfl) ?_
      refine y_bipush E dJ30_numberOfTrailingZeros_45 (by decide) ?_
      refine y_iushr E dJ30_numberOfTrailingZeros_47 (iI_ushr 8 (by omega) (by omega) (by decide)) ?_
      refine y_istore_n (j := 0) E dJ30_numberOfTrailingZeros_48 rfl (Nat.le_of_ble_eq_true rfl) ?_
      refine y_lv ?_ (k49 (j - 8) (by omega) (by omega) (by omega))
      simp only [lst1, lkill_int, lkill_no]
      show [some (Value.int (iI _)), some (Value.int (iI _))] = _
      rw [← b2]
      congr 4
      congr 2
      omega
  have k19 : ∀ j : Nat, 1 ≤ j → j ≤ t → j ≤ 31 → Y Γ Z 0 0 Q G 19 [some (.int (iI ((2 ^ j - 1 : Nat) : Int))), some (.int (iI ((1 + (t - j) : Nat) : Int)))] [] := by
    intro j a1 a2 a3
    have st := nt_step (j := j) 16 (by decide)
    have hb : 2 ^ j ≤ 2 ^ 31 := Nat.pow_le_pow_right (by decide) (by omega)
    refine y_iload_n E dJ30_numberOfTrailingZeros_19 (by rfl) ?_
    refine y_ldcw E q1799 dJ30_numberOfTrailingZeros_20 ?_
    refine y_top (v' := .int (iI 65536)) (by decide) ?_
    refine y_icmp_le (tgt := 34) E dJ30_numberOfTrailingZeros_23 (by decide) (by omega) (by omega) (fun h23 => ?_) (fun h23 => ?_)
    · exact k34 j a1 a2 (st.1 (by omega))
    · obtain ⟨b1, b2⟩ := st.2 (by omega)
      refine y_iinc E dJ30_numberOfTrailingZeros_26 (by rfl) ?_
      refine y_iload_n E dJ30_numberOfTrailingZeros_29 (by rfl) ?_
      refine y_bipush E dJ30_numberOfTrailingZeros_30 (by decide) ?_
      refine y_iushr E dJ30_numberOfTrailingZeros_32 (iI_ushr 16 (by omega) (by omega) (by decide)) ?_
      refine y_istore_n (j := 0) E dJ30_numberOfTrailingZeros_33 rfl (Nat.le_of_ble_eq_true rfl) ?_
      refine y_lv ?_ (k34 (j - 16) (by omega) (by omega) (by omega))
      simp only [lst1, lkill_int, lkill_no]
      show [some (Value.int (iI _)), some (Value.int (iI _))] = _
      rw [← b2]
      congr 4
      congr 2
      omega
  refine y_if_gt (tgt := 17) E dJ30_numberOfTrailingZeros_9 (by decide) (by omega) (fun hb => ?_) (fun hb => ?_)
  · have ht1 : 1 ≤ t := by
      rcases Nat.eq_zero_or_pos t with h | h
      · subst h
        simp at hb
      · exact h
    refine y_iconst E dJ30_numberOfTrailingZeros_17 ?_
    refine y_istore_n (j := 1) E dJ30_numberOfTrailingZeros_18 rfl (Nat.le_of_ble_eq_true rfl) ?_
    refine y_lv ?_ (k19 t ht1 (Nat.le_refl _) (by omega))
    simp only [lst1, lkill_int, lkill_no]
    rw [Nat.sub_self]
    rfl
  · have ht0 : t = 0 := by
      rcases Nat.eq_zero_or_pos t with h | h
      · exact h
      · have : 2 ^ 1 ≤ 2 ^ t := Nat.pow_le_pow_right (by decide) h
        omega
    subst ht0
    refine y_iload_n E dJ30_numberOfTrailingZeros_12 (by rfl) ?_
    refine y_bipush E dJ30_numberOfTrailingZeros_13 (by decide) ?_
    refine y_iand E dJ30_numberOfTrailingZeros_15 (show iI ((2 ^ 0 - 1 : Nat) : Int) &&& iI 32 = iI ((0 : Nat) : Int) from by decide) ?_
    refine y_ireturn E F rfl rfl dJ30_numberOfTrailingZeros_16 (by omega) (by omega) ⟨rfl, rfl⟩
theorem c_J40_ntz {G : yH} {n t q : Nat} (hn : n = 2 ^ t * (2 * q + 1)) (ht : t < 64) (hx : n < 2 ^ 64) : Ct_J40_numberOfTrailingZeros Γ 2 0 0 [.long (lN n)] G (fun r G' => r = some (.int (iI t)) ∧ G' = G) noX := by
  refine y_start (lv0 := [some (.long (lN n)), none, none]) (nm := "numberOfTrailingZeros") (own := RJ40) (by decide +kernel) rfl rfl (by first | exact Nat.le_of_ble_eq_true rfl | (simp only [yArgs, va_cat_rf]; simp [Value.category])) (by first | rfl | (simp only [yArgs, va_cat_rf]; simp [Value.category])) ?_
  intro Z Q E F
  refine y_lload_n E dJ40_numberOfTrailingZeros_0 (by rfl) ?_
  refine y_l2i E dJ40_numberOfTrailingZeros_1 (lN_l2i _) ?_
  refine y_istore_n (j := 2) E dJ40_numberOfTrailingZeros_2 rfl (Nat.le_of_ble_eq_true rfl) ?_
  obtain ⟨z, z1, z2, z3, z4, z5⟩ := iI_norm n
  have hpos : 0 < 2 ^ t := Nat.two_pow_pos t
  rw [z2]
  refine y_iload_n E dJ40_numberOfTrailingZeros_3 (by rfl) ?_
  refine y_if_ne (tgt := 21) E dJ40_numberOfTrailingZeros_4 (by decide) (by omega) (fun h4 => ?_) (fun h4 => ?_)
  · have ht32 : t < 32 := by
      apply Nat.lt_of_not_le
      intro hle
      apply h4
      rw [z3, hn, show t = 32 + (t - 32) by omega, Nat.pow_add, Nat.mul_assoc]
      exact Nat.mul_mod_right _ _
    refine y_iload_n E dJ40_numberOfTrailingZeros_21 (by rfl) ?_
    rw [← z2]
    refine y_callS E dJ40_numberOfTrailingZeros_22 lk_J40_311 (c_J30_ntz (n := n) (t := t) (q := q) hn ht32) (by rfl) (by decide) (by omega) (by omega) rfl (Nat.le_of_ble_eq_true rfl) ?_ (fun _ _ _ h => h.elim)
    rintro v G' ⟨rfl, rfl⟩
    refine y_eq (st' := [.int (iI (t : Int))]) rfl ?_
    refine y_ireturn E F rfl rfl dJ40_numberOfTrailingZeros_25 (by omega) (by omega) ⟨rfl, rfl⟩
  · have ht32 : 32 ≤ t := by
      apply Nat.le_of_not_lt
      intro hlt
      have h0 := z3.mp h4
      rw [show 4294967296 = 2 ^ t * 2 ^ (32 - t) from by rw [← Nat.pow_add, show t + (32 - t) = 32 by omega], hn, Nat.mul_mod_mul_left] at h0
      have h1 : (2 * q + 1) % 2 ^ (32 - t) = 0 := by
        rcases Nat.mul_eq_zero.mp h0 with h | h
        · omega
        · exact h
      rw [show 32 - t = (31 - t) + 1 by omega, Nat.pow_succ] at h1
      have := Nat.mod_mod_of_dvd (2 * q + 1) (show 2 ∣ 2 ^ (31 - t) * 2 from Nat.dvd_mul_left _ _)
      rw [h1] at this
      omega
    have hd : n / 2 ^ 32 = 2 ^ (t - 32) * (2 * q + 1) := by
      rw [hn, show t = 32 + (t - 32) by omega, Nat.pow_add, Nat.mul_assoc, Nat.mul_div_cancel_left _ (by decide), show 32 + (t - 32) - 32 = t - 32 by omega]
    refine y_bipush E dJ40_numberOfTrailingZeros_7 (by decide) ?_
    refine y_lload_n E dJ40_numberOfTrailingZeros_9 (by rfl) ?_
    refine y_bipush E dJ40_numberOfTrailingZeros_10 (by decide) ?_
    refine y_lushr E dJ40_numberOfTrailingZeros_12 (lN_ushr 32 hx (by decide)) ?_
    refine y_l2i E dJ40_numberOfTrailingZeros_13 (lN_l2i _) ?_
    refine y_callS E dJ40_numberOfTrailingZeros_14 lk_J40_311 (c_J30_ntz (n := n / 2 ^ 32) (t := t - 32) (q := q) hd (by omega)) (by rfl) (by decide) (by omega) (by omega) rfl (Nat.le_of_ble_eq_true rfl) ?_ (fun _ _ _ h => h.elim)
    rintro v G' ⟨rfl, rfl⟩
    refine y_eq (st' := [.int (iI ((t - 32 : Nat) : Int)), .int (iI 32)]) rfl ?_
    refine y_iadd E dJ40_numberOfTrailingZeros_17 ?_
    refine y_goto (tgt := 25) E dJ40_numberOfTrailingZeros_18 (by decide) ?_
    refine y_top (v' := .int (iI (t : Int))) (by congr 2; omega) ?_
    refine y_ireturn E F rfl rfl dJ40_numberOfTrailingZeros_25 (by omega) (by omega) ⟨rfl, rfl⟩
end NLZ
