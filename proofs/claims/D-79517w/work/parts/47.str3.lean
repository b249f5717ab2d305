/-! ===== String.indexOf ===== -/
section STR3
variable {Γ : yG}
set_option maxHeartbeats 4000000
/-- a place of c among the first n, or none -/
def idxOk (f : Int → Int) (n : Nat) (c r : Int) : Prop := -1 ≤ r ∧ r < n ∧ (r < 0 ↔ ∀ i : Nat, i < n → f i ≠ c)
theorem c_J29_indexOfChar {G : yH} {q n : Nat} {c : Int} {t : yT} {f : Int → Int} (gq : G q = some (t, aI 2 n f)) (hn : n ≤ 60000) (hc : 0 ≤ c ∧ c ≤ 127) (hf : ∀ i : Int, 0 ≤ i → i < n → 0 ≤ f i ∧ f i ≤ 127) : Ct_J29_indexOfChar Γ 1 0 0 [.ref q, .int (iI c), .int (iI 0), .int (iI n)] G (fun v G' => (∃ r, v = some (.int (iI r)) ∧ idxOk f n c r) ∧ G' = G) noX := by
  refine y_start (lv0 := [some (.ref q), some (.int (iI c)), some (.int (iI 0)), some (.int (iI n)), none, none]) (nm := "indexOfChar") (own := RJ29) (by decide +kernel) rfl rfl (by first | exact Nat.le_of_ble_eq_true rfl | (simp only [yArgs, va_cat_rf]; simp [Value.category])) (by first | rfl | (simp only [yArgs, va_cat_rf]; simp [Value.category])) ?_
  intro Z Q E F
  refine y_iload_n E dJ29_indexOfChar_0 (by rfl) ?_
  refine y_i2b E dJ29_indexOfChar_1 (byteI hc).1 ?_
  refine y_istore E dJ29_indexOfChar_2 (Nat.le_of_ble_eq_true rfl) ?_
  refine y_iload_n E dJ29_indexOfChar_4 (by rfl) ?_
  refine y_istore E dJ29_indexOfChar_5 (Nat.le_of_ble_eq_true rfl) ?_
  have loop : ∀ (d i : Nat), i + d = n → (∀ j : Nat, j < i → f j ≠ c) → Y Γ Z 0 0 Q G 7 [some (.ref q), some (.int (iI c)), some (.int (iI 0)), some (.int (iI n)), some (.int (iI c)), some (.int (iI i))] [] := by
    intro d
    induction d with
    | zero =>
      intro i hi hno
      refine y_iload E dJ29_indexOfChar_7 (by rfl) ?_
      refine y_iload_n E dJ29_indexOfChar_9 (by rfl) ?_
      refine y_icmp_ge (tgt := 31) E dJ29_indexOfChar_10 (by decide) (by omega) (by omega) (fun h10 => ?_) (fun h10 => ?_)
      · refine y_iconst E dJ29_indexOfChar_31 ?_
        refine y_ireturn E F rfl rfl dJ29_indexOfChar_32 (by omega) (by omega) ⟨⟨-1, rfl, by omega, by omega, fun _ j hj => hno j (by omega), fun _ => by omega⟩, rfl⟩
      · exfalso
        omega
    | succ d ih =>
      intro i hi hno
      have hfi := hf (i : Int) (by omega) (by omega)
      refine y_iload E dJ29_indexOfChar_7 (by rfl) ?_
      refine y_iload_n E dJ29_indexOfChar_9 (by rfl) ?_
      refine y_icmp_ge (tgt := 31) E dJ29_indexOfChar_10 (by decide) (by omega) (by omega) (fun h10 => ?_) (fun h10 => ?_)
      · exfalso
        omega
      · first | refine y_ald_n E dJ29_indexOfChar_13 (by rfl) ?_ | refine y_aload_n E dJ29_indexOfChar_13 (by rfl) ?_
        refine y_iload E dJ29_indexOfChar_14 (by rfl) ?_
        refine y_bald E dJ29_indexOfChar_16 (by assumption) (by omega) ?_
        refine y_iload E dJ29_indexOfChar_17 (by rfl) ?_
        refine y_icmp_ne (tgt := 25) E dJ29_indexOfChar_19 (by decide) (by omega) (by omega) (fun hne => ?_) (fun hne => ?_)
        · refine y_iinc E dJ29_indexOfChar_25 (by rfl) ?_
          refine y_goto (tgt := 7) E dJ29_indexOfChar_28 (by decide) ?_
          refine y_lv ?_ (ih (i + 1) (by omega) (fun j hj => ?_))
          · rfl
          · by_cases e : j = i
            · subst e
              exact hne
            · exact hno j (by omega)
        · refine y_iload E dJ29_indexOfChar_22 (by rfl) ?_
          refine y_ireturn E F rfl rfl dJ29_indexOfChar_24 (by omega) (by omega) ⟨⟨(i : Int), rfl, by omega, by omega, fun h => by omega, fun h => absurd hne (h i (by omega))⟩, rfl⟩
  exact loop n 0 (by omega) (fun j hj => by omega)
theorem c_J29_canEncode_2 {G : yH} {c : Int} (h : 0 ≤ c ∧ c ≤ 255) : Ct_J29_canEncode_2 Γ 1 0 0 [.int (iI c)] G (fun r G' => r = some (.int (iI 1)) ∧ G' = G) noX := by
  refine y_start (lv0 := [some (.int (iI c))]) (nm := "canEncode") (own := RJ29) (by decide +kernel) rfl rfl (by first | exact Nat.le_of_ble_eq_true rfl | (simp only [yArgs, va_cat_rf]; simp [Value.category])) (by first | rfl | (simp only [yArgs, va_cat_rf]; simp [Value.category])) ?_
  intro Z Q E F
  refine y_iload_n E dJ29_canEncode_2_0 (by rfl) ?_
  refine y_if_lt (tgt := 15) E dJ29_canEncode_2_1 (by decide) (by omega) (fun hb => ?_) (fun hb => ?_)
  · exfalso
    omega
  · refine y_iload_n E dJ29_canEncode_2_4 (by rfl) ?_
    refine y_sipush E dJ29_canEncode_2_5 (by decide) ?_
    refine y_icmp_gt (tgt := 15) E dJ29_canEncode_2_8 (by decide) (by omega) (by omega) (fun hb2 => ?_) (fun hb2 => ?_)
    · exfalso
      omega
    · refine y_iconst E dJ29_canEncode_2_11 ?_
      refine y_goto (tgt := 16) E dJ29_canEncode_2_12 (by decide) ?_
      refine y_ireturn E F rfl (nar_z (Or.inr rfl)) dJ29_canEncode_2_16 (by omega) (by omega) ⟨rfl, rfl⟩
theorem c_J29_indexOf {G : yH} {q n : Nat} {c : Int} {t : yT} {f : Int → Int} (gq : G q = some (t, aI 2 n f)) (hn0 : 0 < n) (hn : n ≤ 60000) (hc : 0 ≤ c ∧ c ≤ 127) (hf : ∀ i : Int, 0 ≤ i → i < n → 0 ≤ f i ∧ f i ≤ 127) : Ct_J29_indexOf Γ 2 0 0 [.ref q, .int (iI c), .int (iI 0), .int (iI n)] G (fun v G' => (∃ r, v = some (.int (iI r)) ∧ idxOk f n c r) ∧ G' = G) noX := by
  refine y_start (lv0 := [some (.ref q), some (.int (iI c)), some (.int (iI 0)), some (.int (iI n))]) (nm := "indexOf") (own := RJ29) (by decide +kernel) rfl rfl (by first | exact Nat.le_of_ble_eq_true rfl | (simp only [yArgs, va_cat_rf]; simp [Value.category])) (by first | rfl | (simp only [yArgs, va_cat_rf]; simp [Value.category])) ?_
  intro Z Q E F
  refine y_iload_n E dJ29_indexOf_0 (by rfl) ?_
  refine y_callS E dJ29_indexOf_1 lk_J29_88 (c_J29_canEncode_2 (c := c) (by omega)) (by rfl) (by decide) (by omega) (by omega) rfl (Nat.le_of_ble_eq_true rfl) ?_ (fun _ _ _ h => h.elim)
  rintro v G1 ⟨rfl, rfl⟩
  refine y_eq (st' := [.int (iI (b2i true))]) rfl ?_
  refine y_ifb_ne (tgt := 9) E dJ29_indexOf_4 (by decide) (fun hb => ?_) (fun hb => ?_)
  · refine y_iload_n E dJ29_indexOf_9 (by rfl) ?_
    refine y_iconst E dJ29_indexOf_10 ?_
    refine y_mmax E dJ29_indexOf_11 q2245 (by omega) (by omega) (by decide) (by omega) (by omega) (Nat.le_of_ble_eq_true rfl) ?_
    refine y_top (v' := .int (iI 0)) rfl ?_
    refine y_istore_n (j := 2) E dJ29_indexOf_14 rfl (Nat.le_of_ble_eq_true rfl) ?_
    refine y_iload_n E dJ29_indexOf_15 (by rfl) ?_
    first | refine y_ald_n E dJ29_indexOf_16 (by rfl) ?_ | refine y_aload_n E dJ29_indexOf_16 (by rfl) ?_
    first | refine y_alenI E dJ29_indexOf_17 (gq) (by decide) ?_ | refine y_alenR E dJ29_indexOf_17 (gq) (by decide) ?_ | refine y_alenL E dJ29_indexOf_17 (gq) ?_
    refine y_mmin E dJ29_indexOf_18 q2246 (by omega) (by omega) (by decide) (by omega) (by omega) (Nat.le_of_ble_eq_true rfl) ?_
    refine y_top (v' := .int (iI (n : Int))) (by congr 2; omega) ?_
    refine y_istore_n (j := 3) E dJ29_indexOf_21 rfl (Nat.le_of_ble_eq_true rfl) ?_
    refine y_iload_n E dJ29_indexOf_22 (by rfl) ?_
    refine y_iload_n E dJ29_indexOf_23 (by rfl) ?_
    refine y_icmp_lt (tgt := 29) E dJ29_indexOf_24 (by decide) (by omega) (by omega) (fun hb2 => ?_) (fun hb2 => ?_)
    · first | refine y_ald_n E dJ29_indexOf_29 (by rfl) ?_ | refine y_aload_n E dJ29_indexOf_29 (by rfl) ?_
      refine y_iload_n E dJ29_indexOf_30 (by rfl) ?_
      refine y_iload_n E dJ29_indexOf_31 (by rfl) ?_
      refine y_iload_n E dJ29_indexOf_32 (by rfl) ?_
      refine y_callS E dJ29_indexOf_33 lk_J29_95 (c_J29_indexOfChar gq hn hc hf) (by rfl) (by decide) (by omega) (by omega) rfl (Nat.le_of_ble_eq_true rfl) ?_ (fun _ _ _ h => h.elim)
      rintro v G1 ⟨⟨r, rfl, hr⟩, rfl⟩
      refine y_eq (st' := [.int (iI r)]) rfl ?_
      refine y_ireturn E F rfl rfl dJ29_indexOf_36 (by omega) (by omega) ⟨⟨r, rfl, hr⟩, rfl⟩
    · exfalso
      omega
  · cases hb
theorem c_J7_indexOf_2 {G : yH} {t : yT} {a q n : Nat} {c : Int} {f : Int → Int} {h z : Value} (g : G a = some (t, .inr (16, [.ref q, .int (iI 0), h, z]))) (gq : G q = some (t, aI 2 n f)) (hn0 : 0 < n) (hn : n ≤ 60000) (hc : 0 ≤ c ∧ c ≤ 127) (hf : ∀ i : Int, 0 ≤ i → i < n → 0 ≤ f i ∧ f i ≤ 127) (cs : List Int) (H : isStr G t a cs) (hcs : cs.length = n) : Ct_J7_indexOf_2 Γ 3 0 0 [.ref a, .int (iI c), .int (iI 0)] G (fun v G' => (∃ r, v = some (.int (iI r)) ∧ idxOk f n c r) ∧ G' = G) noX := by
  refine y_start (lv0 := [some (.ref a), some (.int (iI c)), some (.int (iI 0))]) (nm := "indexOf") (own := RJ7) (by decide +kernel) rfl rfl (by first | exact Nat.le_of_ble_eq_true rfl | (simp only [yArgs, va_cat_rf]; simp [Value.category])) (by first | rfl | (simp only [yArgs, va_cat_rf]; simp [Value.category])) ?_
  intro Z Q E F
  first | refine y_ald_n E dJ7_indexOf_2_0 (by rfl) ?_ | refine y_aload_n E dJ7_indexOf_2_0 (by rfl) ?_
  refine y_callV E dJ7_indexOf_2_1 lk_J7_492 (c_J7_isLatin1 g) (by rfl) (g) rfl (by decide) (by omega) (by omega) rfl (Nat.le_of_ble_eq_true rfl) ?_ (fun _ _ _ h => h.elim)
  rintro v G1 ⟨rfl, rfl⟩
  refine y_eq (st' := [.int (iI (b2i true))]) rfl ?_
  refine y_ifb_eq (tgt := 23) E dJ7_indexOf_2_4 (by decide) (fun hb => ?_) (fun hb => ?_)
  · cases hb
  · first | refine y_ald_n E dJ7_indexOf_2_7 (by rfl) ?_ | refine y_aload_n E dJ7_indexOf_2_7 (by rfl) ?_
    refine y_get E dJ7_indexOf_2_8 fl_J7_9_J7 (g) (by rfl) ?_
    refine y_iload_n E dJ7_indexOf_2_11 (by rfl) ?_
    refine y_iload_n E dJ7_indexOf_2_12 (by rfl) ?_
    first | refine y_ald_n E dJ7_indexOf_2_13 (by rfl) ?_ | refine y_aload_n E dJ7_indexOf_2_13 (by rfl) ?_
    refine y_callV E dJ7_indexOf_2_14 lk_J7_505 (c_J7_length H (by omega)) (by rfl) (g) rfl (by decide) (by omega) (by omega) rfl (Nat.le_of_ble_eq_true rfl) ?_ (fun _ _ _ h => h.elim)
    rintro v G1 ⟨rfl, rfl⟩
    refine y_eq (st' := [.int (iI (n : Int)), .int (iI 0), .int (iI c), .ref q]) (by rw [← hcs]; rfl) ?_
    refine y_callS E dJ7_indexOf_2_17 lk_J7_637 (c_J29_indexOf gq hn0 hn hc hf) (by rfl) (by decide) (by omega) (by omega) rfl (Nat.le_of_ble_eq_true rfl) ?_ (fun _ _ _ h => h.elim)
    rintro v G1 ⟨⟨r, rfl, hr⟩, rfl⟩
    refine y_eq (st' := [.int (iI r)]) rfl ?_
    refine y_goto (tgt := 36) E dJ7_indexOf_2_20 (by decide) ?_
    refine y_ireturn E F rfl rfl dJ7_indexOf_2_36 (by omega) (by omega) ⟨⟨r, rfl, hr⟩, rfl⟩
theorem c_J7_indexOf {G : yH} {t : yT} {a q n : Nat} {c : Int} {f : Int → Int} {h z : Value} (g : G a = some (t, .inr (16, [.ref q, .int (iI 0), h, z]))) (gq : G q = some (t, aI 2 n f)) (hn0 : 0 < n) (hn : n ≤ 60000) (hc : 0 ≤ c ∧ c ≤ 127) (hf : ∀ i : Int, 0 ≤ i → i < n → 0 ≤ f i ∧ f i ≤ 127) (cs : List Int) (H : isStr G t a cs) (hcs : cs.length = n) : Ct_J7_indexOf Γ 4 0 0 [.ref a, .int (iI c)] G (fun v G' => (∃ r, v = some (.int (iI r)) ∧ idxOk f n c r) ∧ G' = G) noX := by
  refine y_start (lv0 := [some (.ref a), some (.int (iI c))]) (nm := "indexOf") (own := RJ7) (by decide +kernel) rfl rfl (by first | exact Nat.le_of_ble_eq_true rfl | (simp only [yArgs, va_cat_rf]; simp [Value.category])) (by first | rfl | (simp only [yArgs, va_cat_rf]; simp [Value.category])) ?_
  intro Z Q E F
  first | refine y_ald_n E dJ7_indexOf_0 (by rfl) ?_ | refine y_aload_n E dJ7_indexOf_0 (by rfl) ?_
  refine y_iload_n E dJ7_indexOf_1 (by rfl) ?_
  refine y_iconst E dJ7_indexOf_2 ?_
  refine y_callV E dJ7_indexOf_3 lk_J7_633 (c_J7_indexOf_2 g gq hn0 hn hc hf cs H hcs) (by rfl) (g) rfl (by decide) (by omega) (by omega) rfl (Nat.le_of_ble_eq_true rfl) ?_ (fun _ _ _ h => h.elim)
  rintro v G1 ⟨⟨r, rfl, hr⟩, rfl⟩
  refine y_eq (st' := [.int (iI r)]) rfl ?_
  refine y_ireturn E F rfl rfl dJ7_indexOf_6 (by omega) (by omega) ⟨⟨r, rfl, hr⟩, rfl⟩
end STR3
