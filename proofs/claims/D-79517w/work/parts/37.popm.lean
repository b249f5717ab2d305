/-! ===== the walks of the counting methods ===== -/
theorem land_c {a m : Nat} {c : Int64} (hc : c = lN m) (ha : a < 2 ^ 64) (hm : m < 2 ^ 64) : lN a &&& c = lN (a &&& m) := by rw [hc]; exact wb_and ha hm
theorem pmk_5 : (6148914691236517205 : Int64) = lN (pmk 4 1 32) := by decide +kernel
theorem pmk_3 : (3689348814741910323 : Int64) = lN (pmk 16 3 16) := by decide +kernel
theorem pmk_f : (1085102592571150095 : Int64) = lN (pmk 256 15 8) := by decide +kernel
theorem pmk_l5 : pmk 4 1 32 < 2 ^ 64 := by decide +kernel
theorem pmk_l3 : pmk 16 3 16 < 2 ^ 64 := by decide +kernel
theorem pmk_lf : pmk 256 15 8 < 2 ^ 64 := by decide +kernel
theorem pc256_le (x : Nat) : pc256 8 x < 2 ^ 60 := by
  rw [← pop_s3]
  exact Nat.lt_of_le_of_lt Nat.and_le_right (by decide +kernel)
theorem iI_and_low (n k : Nat) {m : Int32} (hm : m.toBitVec.toNat = 2 ^ k - 1) (hk : k ≤ 32) : iI (n : Int) &&& m = iI ((n % 2 ^ k : Nat) : Int) := by
  rw [← iI_nI, pk_and _ k hm, ← iI_nI]
  congr 1
  show (BitVec.ofNat 32 n).toNat % 2 ^ k = n % 2 ^ k
  rw [BitVec.toNat_ofNat, Nat.mod_mod_of_dvd]
  exact Nat.pow_dvd_pow 2 hk
def bcU (x : Int32) (n : Int) : Int32 := (x.toUInt32 >>> ((iI n).toUInt32 &&& Int32.toUInt32 31)).toInt32
def bc1 (x : Int32) : Int32 := x - (bcU x 1 &&& 1431655765)
def bc2 (x : Int32) : Int32 := (x &&& 858993459) + (bcU x 2 &&& 858993459)
def bc3 (x : Int32) : Int32 := (x + bcU x 4) &&& 252645135
def bcI (x : Int32) : Int32 := (bc3 (bc2 (bc1 x)) + bcU (bc3 (bc2 (bc1 x))) 8 + bcU (bc3 (bc2 (bc1 x)) + bcU (bc3 (bc2 (bc1 x))) 8) 16) &&& iI 63
theorem bcI_ok : ∀ x : Nat, x < 256 → bcI (iI x) = iI (popT 8 x) := by decide +kernel
section PopM
variable {Γ : yG}
section
variable {Z : yZ} {own : String} {cc : ByteArray} {ret : Option FieldType} {hh : List (Nat × Nat × Nat × Nat)} {L mc ms : Nat} {nm : String} {k n : Nat} {Q : State → Prop} {G : yH} {pc : Nat} {lv : List (Option Value)} {st : List Value}
theorem y_isubG (E : YE Γ Z own cc ret hh L mc ms nm) {x y : Int32} (hd : decode cc pc = .ok (.isub, 1)) (K : Y Γ Z k n Q G (pc + 1) lv (.int (x - y) :: st)) : Y Γ Z k n Q G pc lv (.int y :: .int x :: st) := fun H locs ls h1 h2 h3 => lv_isub E.x E.c hd (K H locs ls h1 h2 h3)
end
set_option maxHeartbeats 4000000
theorem c_J40_bitCount {G : yH} {x : Nat} (hx : x < 2 ^ 64) : Ct_J40_bitCount Γ 1 0 0 [.long (lN x)] G (fun r G' => r = some (.int (iI (popT 64 x))) ∧ G' = G) noX := by
  have h1 := pop_s1 32 x (by rw [show (4 : Nat) ^ 32 = 2 ^ 64 from by decide]; exact hx)
  have l1 : pc4 32 x < 2 ^ 64 := by have := pc4_le 32 x; rwa [show (4 : Nat) ^ 32 = 2 ^ 64 from by decide] at this
  have h2 : (pc4 32 x &&& pmk 16 3 16) + (pc4 32 x / 4 &&& pmk 16 3 16) = pc16 16 x := pop_s2 16 x
  have l2 : pc16 16 x < 2 ^ 64 := by have := pc16_le 16 x; rwa [show (16 : Nat) ^ 16 = 2 ^ 64 from by decide] at this
  have l2' : pc16 16 x + pc16 16 x / 16 < 2 ^ 64 := by rw [← h2]; exact Nat.lt_of_le_of_lt (Nat.add_le_add (Nat.add_le_add Nat.and_le_right Nat.and_le_right) (Nat.div_le_div_right (Nat.add_le_add Nat.and_le_right Nat.and_le_right))) (by decide +kernel)
  have h3 : (pc16 16 x + pc16 16 x / 16) &&& pmk 256 15 8 = pc256 8 x := pop_s3 8 x
  have l3 := pc256_le x
  refine y_start (lv0 := [some (.long (lN x)), none]) (nm := "bitCount") (own := RJ40) (by decide +kernel) rfl rfl (by first | exact Nat.le_of_ble_eq_true rfl | (simp only [yArgs, va_cat_rf]; simp [Value.category])) (by first | rfl | (simp only [yArgs, va_cat_rf]; simp [Value.category])) ?_
  intro Z Q E F
  refine y_lload_n E dJ40_bitCount_0 (by rfl) ?_
  refine y_lload_n E dJ40_bitCount_1 (by rfl) ?_
  refine y_iconst E dJ40_bitCount_2 ?_
  refine y_lushr E dJ40_bitCount_3 (lN_ushr 1 hx (by decide)) ?_
  refine y_ldc2 E q1456 dJ40_bitCount_4 ?_
  refine y_land E dJ40_bitCount_7 (land_c pmk_5 (Nat.lt_of_le_of_lt (Nat.div_le_self _ _) hx) pmk_l5) ?_
  refine y_lsub E dJ40_bitCount_8 (lN_sub (Nat.le_trans Nat.and_le_left (Nat.div_le_self _ _))) ?_
  refine y_eq (st' := [.long (lN (pc4 32 x))]) (by rw [show x - (x / 2 ^ 1 &&& pmk 4 1 32) = pc4 32 x from Nat.sub_eq_of_eq_add (by rw [Nat.add_comm]; exact h1.symm)]) ?_
  refine y_lstore_n (j := 0) E dJ40_bitCount_9 rfl (Nat.le_of_ble_eq_true rfl) ?_
  refine y_lload_n E dJ40_bitCount_10 (by rfl) ?_
  refine y_ldc2 E q1457 dJ40_bitCount_11 ?_
  refine y_land E dJ40_bitCount_14 (land_c pmk_3 l1 pmk_l3) ?_
  refine y_lload_n E dJ40_bitCount_15 (by rfl) ?_
  refine y_iconst E dJ40_bitCount_16 ?_
  refine y_lushr E dJ40_bitCount_17 (lN_ushr 2 l1 (by decide)) ?_
  refine y_ldc2 E q1457 dJ40_bitCount_18 ?_
  refine y_land E dJ40_bitCount_21 (land_c pmk_3 (Nat.lt_of_le_of_lt (Nat.div_le_self _ _) l1) pmk_l3) ?_
  refine y_ladd E dJ40_bitCount_22 (lN_add _ _) ?_
  refine y_eq (st' := [.long (lN (pc16 16 x))]) (by rw [← h2]) ?_
  refine y_lstore_n (j := 0) E dJ40_bitCount_23 rfl (Nat.le_of_ble_eq_true rfl) ?_
  refine y_lload_n E dJ40_bitCount_24 (by rfl) ?_
  refine y_lload_n E dJ40_bitCount_25 (by rfl) ?_
  refine y_iconst E dJ40_bitCount_26 ?_
  refine y_lushr E dJ40_bitCount_27 (lN_ushr 4 l2 (by decide)) ?_
  refine y_ladd E dJ40_bitCount_28 (lN_add _ _) ?_
  refine y_ldc2 E q1458 dJ40_bitCount_29 ?_
  refine y_land E dJ40_bitCount_32 (land_c pmk_f l2' pmk_lf) ?_
  refine y_eq (st' := [.long (lN (pc256 8 x))]) (by rw [← h3]) ?_
  have hp := pop_s4 x
  clear h1 h2 h3 l1 l2 l2'
  generalize pc256 8 x = w at l3 hp ⊢
  refine y_lstore_n (j := 0) E dJ40_bitCount_33 rfl (Nat.le_of_ble_eq_true rfl) ?_
  refine y_lload_n E dJ40_bitCount_34 (by rfl) ?_
  refine y_lload_n E dJ40_bitCount_35 (by rfl) ?_
  refine y_bipush E dJ40_bitCount_36 (by decide) ?_
  refine y_lushr E dJ40_bitCount_38 (lN_ushr 8 (by omega) (by decide)) ?_
  refine y_ladd E dJ40_bitCount_39 (lN_add _ _) ?_
  refine y_lstore_n (j := 0) E dJ40_bitCount_40 rfl (Nat.le_of_ble_eq_true rfl) ?_
  refine y_lload_n E dJ40_bitCount_41 (by rfl) ?_
  refine y_lload_n E dJ40_bitCount_42 (by rfl) ?_
  refine y_bipush E dJ40_bitCount_43 (by decide) ?_
  refine y_lushr E dJ40_bitCount_45 (lN_ushr 16 (by omega) (by decide)) ?_
  refine y_ladd E dJ40_bitCount_46 (lN_add _ _) ?_
  refine y_lstore_n (j := 0) E dJ40_bitCount_47 rfl (Nat.le_of_ble_eq_true rfl) ?_
  refine y_lload_n E dJ40_bitCount_48 (by rfl) ?_
  refine y_lload_n E dJ40_bitCount_49 (by rfl) ?_
  refine y_bipush E dJ40_bitCount_50 (by decide) ?_
  refine y_lushr E dJ40_bitCount_52 (lN_ushr 32 (by omega) (by decide)) ?_
  refine y_ladd E dJ40_bitCount_53 (lN_add _ _) ?_
  refine y_lstore_n (j := 0) E dJ40_bitCount_54 rfl (Nat.le_of_ble_eq_true rfl) ?_
  refine y_lload_n E dJ40_bitCount_55 (by rfl) ?_
  refine y_l2i E dJ40_bitCount_56 (lN_l2i _) ?_
  refine y_bipush E dJ40_bitCount_57 (by decide) ?_
  refine y_iand E dJ40_bitCount_59 (iI_and_low _ 7 (by decide) (by decide)) ?_
  refine y_top (v' := .int (iI (popT 64 x))) (by rw [← hp]; simp only [pfold, Nat.reducePow]) ?_
  refine y_ireturn E F rfl rfl dJ40_bitCount_60 (by omega) (by omega) ⟨rfl, rfl⟩
theorem c_J30_bitCount {G : yH} {x : Nat} (hx : x < 256) : Ct_J30_bitCount Γ 1 0 0 [.int (iI x)] G (fun r G' => r = some (.int (iI (popT 8 x))) ∧ G' = G) noX := by
  refine y_start (lv0 := [some (.int (iI x))]) (nm := "bitCount") (own := RJ30) (by decide +kernel) rfl rfl (by first | exact Nat.le_of_ble_eq_true rfl | (simp only [yArgs, va_cat_rf]; simp [Value.category])) (by first | rfl | (simp only [yArgs, va_cat_rf]; simp [Value.category])) ?_
  intro Z Q E F
  refine y_iload_n E dJ30_bitCount_0 (by rfl) ?_
  refine y_iload_n E dJ30_bitCount_1 (by rfl) ?_
  refine y_iconst E dJ30_bitCount_2 ?_
  refine y_iushr E dJ30_bitCount_3 rfl ?_
  refine y_ldcw E q1639 dJ30_bitCount_4 ?_
  refine y_iand E dJ30_bitCount_7 rfl ?_
  refine y_isubG E dJ30_bitCount_8 ?_
  refine y_istore_n (j := 0) E dJ30_bitCount_9 rfl (Nat.le_of_ble_eq_true rfl) ?_
  refine y_iload_n E dJ30_bitCount_10 (by rfl) ?_
  refine y_ldcw E q1640 dJ30_bitCount_11 ?_
  refine y_iand E dJ30_bitCount_14 rfl ?_
  refine y_iload_n E dJ30_bitCount_15 (by rfl) ?_
  refine y_iconst E dJ30_bitCount_16 ?_
  refine y_iushr E dJ30_bitCount_17 rfl ?_
  refine y_ldcw E q1640 dJ30_bitCount_18 ?_
  refine y_iand E dJ30_bitCount_21 rfl ?_
  refine y_iaddG E dJ30_bitCount_22 ?_
  refine y_istore_n (j := 0) E dJ30_bitCount_23 rfl (Nat.le_of_ble_eq_true rfl) ?_
  refine y_iload_n E dJ30_bitCount_24 (by rfl) ?_
  refine y_iload_n E dJ30_bitCount_25 (by rfl) ?_
  refine y_iconst E dJ30_bitCount_26 ?_
  refine y_iushr E dJ30_bitCount_27 rfl ?_
  refine y_iaddG E dJ30_bitCount_28 ?_
  refine y_ldcw E q1641 dJ30_bitCount_29 ?_
  refine y_iand E dJ30_bitCount_32 rfl ?_
  refine y_istore_n (j := 0) E dJ30_bitCount_33 rfl (Nat.le_of_ble_eq_true rfl) ?_
  refine y_iload_n E dJ30_bitCount_34 (by rfl) ?_
  refine y_iload_n E dJ30_bitCount_35 (by rfl) ?_
  refine y_bipush E dJ30_bitCount_36 (by decide) ?_
  refine y_iushr E dJ30_bitCount_38 rfl ?_
  refine y_iaddG E dJ30_bitCount_39 ?_
  refine y_istore_n (j := 0) E dJ30_bitCount_40 rfl (Nat.le_of_ble_eq_true rfl) ?_
  refine y_iload_n E dJ30_bitCount_41 (by rfl) ?_
  refine y_iload_n E dJ30_bitCount_42 (by rfl) ?_
  refine y_bipush E dJ30_bitCount_43 (by decide) ?_
  refine y_iushr E dJ30_bitCount_45 rfl ?_
  refine y_iaddG E dJ30_bitCount_46 ?_
  refine y_istore_n (j := 0) E dJ30_bitCount_47 rfl (Nat.le_of_ble_eq_true rfl) ?_
  refine y_iload_n E dJ30_bitCount_48 (by rfl) ?_
  refine y_bipush E dJ30_bitCount_49 (by decide) ?_
  refine y_iand E dJ30_bitCount_51 rfl ?_
  refine y_top (v' := .int (bcI (iI x))) rfl ?_
  rw [bcI_ok x hx]
  refine y_ireturn E F rfl rfl dJ30_bitCount_52 (by omega) (by omega) ⟨rfl, rfl⟩
end PopM
