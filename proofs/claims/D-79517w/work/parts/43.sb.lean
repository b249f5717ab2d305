/-! ===== java.lang.StringBuilder ===== -/
def sbE (q : Nat) (ml n : Int) : yE := .inr (15, [.ref q, .int (iI 0), .int (iI ml), .int (iI n)])
/-- a string builder b with the characters cs (below 128), with room for m -/
def isSB (G : yH) (τ : Nat × Nat) (b : Nat) (cs : List Int) (m : Nat) : Prop := ∃ (q cap : Nat) (f : Int → Int) (ml : Int), G b = some (some τ, sbE q ml cs.length) ∧ G q = some (some τ, aI 2 cap f) ∧ cs.length ≤ cap ∧ m ≤ cap ∧ cap ≤ 130 ∧ (ml = 0 ∨ ml = 1) ∧ (∀ i : Int, 0 ≤ f i ∧ f i ≤ 127) ∧ ∀ i : Nat, i < cs.length → cs[i]? = some (f i)
theorem isSB.kk {P : Nat × Nat → Prop} {G G' : yH} {τ : Nat × Nat} {b : Nat} {cs : List Int} {m : Nat} (H : isSB G τ b cs m) (hk : gK P G G') (hP : ¬ P τ) : isSB G' τ b cs m := by
  obtain ⟨q, cap, f, ml, h1, h2, h3⟩ := H
  exact ⟨q, cap, f, ml, hk.at h1 hP, hk.at h2 hP, h3⟩
theorem isSB.less {G : yH} {τ : Nat × Nat} {b : Nat} {cs : List Int} {m m' : Nat} (H : isSB G τ b cs m) (h : m' ≤ m) : isSB G τ b cs m' := by
  obtain ⟨q, cap, f, ml, h1, h2, h3, h4, h5⟩ := H
  exact ⟨q, cap, f, ml, h1, h2, h3, Nat.le_trans h h4, h5⟩
section SBm
theorem i_shl0 (x : Int32) : x <<< (iI 0 &&& 31) = x := by
  rw [show iI 0 &&& 31 = 0 from by decide]
  exact Int32.shiftLeft_zero
theorem i_shr0 (x : Int32) : x >>> (iI 0 &&& 31) = x := by
  rw [show iI 0 &&& 31 = 0 from by decide]
  exact Int32.shiftRight_zero
theorem byte_ok : ∀ n : Nat, n < 128 → (iI n).toInt8.toInt32 = iI n ∧ narrow .byte (.int (iI n)) = .int (iI n) ∧ fits .byte (.int (iI n)) = true ∧ iI n &&& iI 255 = iI n ∧ ((iI n).toUInt32 % 65536).toInt32 = iI n ∧ narrow .char (.int (iI n)) = .int (iI n) := by decide +kernel
theorem byteI {c : Int} (h : 0 ≤ c ∧ c ≤ 127) : (iI c).toInt8.toInt32 = iI c ∧ narrow .byte (.int (iI c)) = .int (iI c) ∧ fits .byte (.int (iI c)) = true ∧ iI c &&& iI 255 = iI c ∧ ((iI c).toUInt32 % 65536).toInt32 = iI c ∧ narrow .char (.int (iI c)) = .int (iI c) := by
  have := byte_ok c.toNat (by omega)
  rwa [show ((c.toNat : Nat) : Int) = c by omega] at this
end SBm
section SB
variable {Γ : yG}
set_option maxHeartbeats 4000000
theorem c_J5_newCapacity {G : yH} {b q cap m : Nat} {τ : Nat × Nat} {ml n : Int} {f : Int → Int} (h : G b = some (some τ, sbE q ml n)) (hq : G q = some (some τ, aI 2 cap f)) (hm : cap < m) (hm2 : m ≤ 60) : Ct_J5_newCapacity Γ 3 0 0 [.ref b, .int (iI m)] G (fun r G' => r = some (.int (iI ((cap + (cap + 2) + (m - cap - (cap + 2)) : Nat) : Int))) ∧ G' = G) noX := by
  unfold sbE at h
  refine y_start (lv0 := [some (.ref b), some (.int (iI m)), none, none, none, none]) (nm := "newCapacity") (own := RJ5) (by decide +kernel) rfl rfl (by first | exact Nat.le_of_ble_eq_true rfl | (simp only [yArgs, va_cat_rf]; simp [Value.category])) (by first | rfl | (simp only [yArgs, va_cat_rf]; simp [Value.category])) ?_
  intro Z Q E F
  first | refine y_ald_n E dJ5_newCapacity_0 (by rfl) ?_ | refine y_aload_n E dJ5_newCapacity_0 (by rfl) ?_
  refine y_get E dJ5_newCapacity_1 fl_J5_15_J6 (by assumption) (by rfl) ?_
  first | refine y_alenI E dJ5_newCapacity_4 (by assumption) (by decide) ?_ | refine y_alenR E dJ5_newCapacity_4 (by assumption) (by decide) ?_ | refine y_alenL E dJ5_newCapacity_4 (by assumption) ?_
  refine y_istore_n (j := 2) E dJ5_newCapacity_5 rfl (Nat.le_of_ble_eq_true rfl) ?_
  refine y_iload_n E dJ5_newCapacity_6 (by rfl) ?_
  first | refine y_ald_n E dJ5_newCapacity_7 (by rfl) ?_ | refine y_aload_n E dJ5_newCapacity_7 (by rfl) ?_
  refine y_get E dJ5_newCapacity_8 fl_J5_22_J6 (by assumption) (by rfl) ?_
  refine y_ishl E dJ5_newCapacity_11 (i_shl0 _) ?_
  refine y_istore_n (j := 3) E dJ5_newCapacity_12 rfl (Nat.le_of_ble_eq_true rfl) ?_
  refine y_iload_n E dJ5_newCapacity_13 (by rfl) ?_
  refine y_iload_n E dJ5_newCapacity_14 (by rfl) ?_
  refine y_isub E dJ5_newCapacity_15 ?_
  refine y_istore E dJ5_newCapacity_16 (Nat.le_of_ble_eq_true rfl) ?_
  refine y_iload_n E dJ5_newCapacity_18 (by rfl) ?_
  refine y_iload E dJ5_newCapacity_19 (by rfl) ?_
  refine y_iload_n E dJ5_newCapacity_21 (by rfl) ?_
  refine y_iconst E dJ5_newCapacity_22 ?_
  first | refine y_ald_n E dJ5_newCapacity_23 (by rfl) ?_ | refine y_aload_n E dJ5_newCapacity_23 (by rfl) ?_
  refine y_get E dJ5_newCapacity_24 fl_J5_22_J6 (by assumption) (by rfl) ?_
  refine y_ishl E dJ5_newCapacity_27 (i_shl0 _) ?_
  refine y_iadd E dJ5_newCapacity_28 ?_
  refine y_callS E dJ5_newCapacity_29 lk_J5_114 (c_J26_newLength (o := cap) (m := (m : Int) - cap) (p := (cap : Int) + 2) (by omega) (by omega) (by omega) (by omega)) (by rfl) (by decide) (by omega) (by omega) rfl (Nat.le_of_ble_eq_true rfl) ?_ (fun _ _ _ h => h.elim)
  rintro v G' ⟨rfl, rfl⟩
  refine y_eq (st' := [.int (iI ((cap + (cap + 2) + (m - cap - (cap + 2)) : Nat) : Int))]) ?_ ?_
  · show [Value.int (iI _)] = _
    congr 3
    omega
  refine y_istore E dJ5_newCapacity_32 (Nat.le_of_ble_eq_true rfl) ?_
  refine y_iload E dJ5_newCapacity_34 (by rfl) ?_
  refine y_ldc E q618 dJ5_newCapacity_36 ?_
  refine y_top (v' := .int (iI 2147483647)) (by decide) ?_
  refine y_icmp_ne (tgt := 51) E dJ5_newCapacity_38 (by decide) (by omega) (by omega) (fun h38 => ?_) (fun h38 => ?_)
  · refine y_iload E dJ5_newCapacity_51 (by rfl) ?_
    first | refine y_ald_n E dJ5_newCapacity_53 (by rfl) ?_ | refine y_aload_n E dJ5_newCapacity_53 (by rfl) ?_
    refine y_get E dJ5_newCapacity_54 fl_J5_22_J6 (by assumption) (by rfl) ?_
    refine y_ishr E dJ5_newCapacity_57 (i_shr0 _) ?_
    refine y_ireturn E F rfl rfl dJ5_newCapacity_58 (by omega) (by omega) ⟨rfl, rfl⟩
  · exfalso
    omega
theorem c_J28_copyOfB {G : yH} {q N M : Nat} {t : Nat × Nat} (τ : Nat × Nat) {f : Int → Int} (h : G q = some (some t, aI 2 N f)) (hM : N < M) (hM2 : M ≤ 60000) (hf : ∀ i : Int, 0 ≤ f i ∧ f i ≤ 127) : Ct_J28_copyOf Γ 1 1 M [.ref q, .int (iI M)] G (fun r G' => ∃ a, G a = none ∧ r = some (.ref a) ∧ G' = gset G a (some τ, aI 2 M (cpI f (fun _ => 0) 0 0 N))) noX := by
  refine y_start (lv0 := [some (.ref q), some (.int (iI M)), none]) (nm := "copyOf") (own := RJ28) (by decide +kernel) rfl rfl (by first | exact Nat.le_of_ble_eq_true rfl | (simp only [yArgs, va_cat_rf]; simp [Value.category])) (by first | rfl | (simp only [yArgs, va_cat_rf]; simp [Value.category])) ?_
  intro Z Q E F
  refine y_iload_n E dJ28_copyOf_0 (by rfl) ?_
  first | refine y_ald_n E dJ28_copyOf_1 (by rfl) ?_ | refine y_aload_n E dJ28_copyOf_1 (by rfl) ?_
  first | refine y_alenI E dJ28_copyOf_2 (by assumption) (by decide) ?_ | refine y_alenR E dJ28_copyOf_2 (by assumption) (by decide) ?_ | refine y_alenL E dJ28_copyOf_2 (by assumption) ?_
  refine y_icmp_ne (tgt := 14) E dJ28_copyOf_3 (by decide) (by omega) (by omega) (fun h3 => ?_) (fun h3 => ?_)
  · refine y_iload_n E dJ28_copyOf_14 (by rfl) ?_
    refine y_newB E τ q293 dJ28_copyOf_15 (by omega) (by omega) (by omega) (fun a ha => ?_)
    have hqa : q ≠ a := g_nn h ha
    first | refine y_ast_n (j := 2) E dJ28_copyOf_17 rfl (Nat.le_of_ble_eq_true rfl) ?_ | refine y_astore_n (j := 2) E dJ28_copyOf_17 rfl (Nat.le_of_ble_eq_true rfl) ?_ | refine y_astore_n (j := 2) (r := none) E dJ28_copyOf_17 rfl (Nat.le_of_ble_eq_true rfl) ?_
    first | refine y_ald_n E dJ28_copyOf_18 (by rfl) ?_ | refine y_aload_n E dJ28_copyOf_18 (by rfl) ?_
    refine y_iconst E dJ28_copyOf_19 ?_
    first | refine y_ald_n E dJ28_copyOf_20 (by rfl) ?_ | refine y_aload_n E dJ28_copyOf_20 (by rfl) ?_
    refine y_iconst E dJ28_copyOf_21 ?_
    first | refine y_ald_n E dJ28_copyOf_22 (by rfl) ?_ | refine y_aload_n E dJ28_copyOf_22 (by rfl) ?_
    first | refine y_alenI E dJ28_copyOf_23 (gs_n hqa h) (by decide) ?_ | refine y_alenR E dJ28_copyOf_23 (gs_n hqa h) (by decide) ?_ | refine y_alenL E dJ28_copyOf_23 (gs_n hqa h) ?_
    refine y_iload_n E dJ28_copyOf_24 (by rfl) ?_
    refine y_mmin E dJ28_copyOf_25 q629 (by omega) (by omega) (by decide) (by omega) (by omega) (Nat.le_of_ble_eq_true rfl) ?_
    refine y_top (v' := .int (iI (N : Int))) (by congr 2; omega) ?_
    refine y_copyI E dJ28_copyOf_28 ⟨q632, q634, q633, q138⟩ (by decide) rfl (gs_n hqa h) (gset_s _ _ _) (by omega) (fun i _ _ => (byteI (hf _)).2.2.1) (by decide) (Nat.le_of_ble_eq_true rfl) ?_
    refine y_heap (gset_gset _ _ _ _) ?_
    first | refine y_ald_n E dJ28_copyOf_31 (by rfl) ?_ | refine y_aload_n E dJ28_copyOf_31 (by rfl) ?_
    refine y_areturn (r := some a) E F rfl (Or.inr ⟨_, rfl⟩) dJ28_copyOf_32 (by omega) (by omega) ⟨a, ha, rfl, rfl⟩
  · exfalso
    omega
theorem c_J5_ensure {G : yH} {τ : Nat × Nat} {b m m0 : Nat} {cs : List Int} (H : isSB G τ b cs m0) (hm : m ≤ 60) : Ct_J5_ensureCapacityInternal Γ 4 1 130 [.ref b, .int (iI m)] G (fun r G' => r = none ∧ isSB G' τ b cs m ∧ gK (· = τ) G G') noX := by
  obtain ⟨q, cap, f, ml, h, hq, h3, h4, h5, h6, h7, h8⟩ := H
  have h' := h
  unfold sbE at h
  have hbq : b ≠ q := g_ne h hq (by simp [aI])
  refine y_start (lv0 := [some (.ref b), some (.int (iI m)), none]) (nm := "ensureCapacityInternal") (own := RJ5) (by decide +kernel) rfl rfl (by first | exact Nat.le_of_ble_eq_true rfl | (simp only [yArgs, va_cat_rf]; simp [Value.category])) (by first | rfl | (simp only [yArgs, va_cat_rf]; simp [Value.category])) ?_
  intro Z Q E F
  first | refine y_ald_n E dJ5_ensureCapacityInternal_0 (by rfl) ?_ | refine y_aload_n E dJ5_ensureCapacityInternal_0 (by rfl) ?_
  refine y_get E dJ5_ensureCapacityInternal_1 fl_J5_15_J6 (by assumption) (by rfl) ?_
  first | refine y_alenI E dJ5_ensureCapacityInternal_4 (by assumption) (by decide) ?_ | refine y_alenR E dJ5_ensureCapacityInternal_4 (by assumption) (by decide) ?_ | refine y_alenL E dJ5_ensureCapacityInternal_4 (by assumption) ?_
  first | refine y_ald_n E dJ5_ensureCapacityInternal_5 (by rfl) ?_ | refine y_aload_n E dJ5_ensureCapacityInternal_5 (by rfl) ?_
  refine y_get E dJ5_ensureCapacityInternal_6 fl_J5_22_J6 (by assumption) (by rfl) ?_
  refine y_ishr E dJ5_ensureCapacityInternal_9 (i_shr0 _) ?_
  refine y_istore_n (j := 2) E dJ5_ensureCapacityInternal_10 rfl (Nat.le_of_ble_eq_true rfl) ?_
  refine y_iload_n E dJ5_ensureCapacityInternal_11 (by rfl) ?_
  refine y_iload_n E dJ5_ensureCapacityInternal_12 (by rfl) ?_
  refine y_isub E dJ5_ensureCapacityInternal_13 ?_
  refine y_if_le (tgt := 38) E dJ5_ensureCapacityInternal_14 (by decide) (by omega) (fun h14 => ?_) (fun h14 => ?_)
  · refine y_return E F rfl dJ5_ensureCapacityInternal_38 (by omega) (by omega) ⟨rfl, ⟨q, cap, f, ml, h', hq, h3, by omega, h5, h6, h7, h8⟩, gK_r _ _⟩
  · first | refine y_ald_n E dJ5_ensureCapacityInternal_17 (by rfl) ?_ | refine y_aload_n E dJ5_ensureCapacityInternal_17 (by rfl) ?_
    first | refine y_ald_n E dJ5_ensureCapacityInternal_18 (by rfl) ?_ | refine y_aload_n E dJ5_ensureCapacityInternal_18 (by rfl) ?_
    refine y_get E dJ5_ensureCapacityInternal_19 fl_J5_15_J6 (by assumption) (by rfl) ?_
    first | refine y_ald_n E dJ5_ensureCapacityInternal_22 (by rfl) ?_ | refine y_aload_n E dJ5_ensureCapacityInternal_22 (by rfl) ?_
    refine y_iload_n E dJ5_ensureCapacityInternal_23 (by rfl) ?_
    refine y_callPV E dJ5_ensureCapacityInternal_24 lp_J5_104 (c_J5_newCapacity (q := q) (cap := cap) (m := m) h' hq (by omega) hm) (by rfl) (h) rfl (by decide) (by omega) (by omega) rfl (Nat.le_of_ble_eq_true rfl) ?_ (fun _ _ _ h => h.elim)
    rintro v G' ⟨rfl, rfl⟩
    generalize hM : cap + (cap + 2) + (m - cap - (cap + 2)) = M
    refine y_eq (st' := [.int (iI (M : Int)), .ref q, .ref b]) rfl ?_
    first | refine y_ald_n E dJ5_ensureCapacityInternal_27 (by rfl) ?_ | refine y_aload_n E dJ5_ensureCapacityInternal_27 (by rfl) ?_
    refine y_get E dJ5_ensureCapacityInternal_28 fl_J5_22_J6 (by assumption) (by rfl) ?_
    refine y_ishl E dJ5_ensureCapacityInternal_31 (i_shl0 _) ?_
    refine y_callS E dJ5_ensureCapacityInternal_32 lk_J5_108 (c_J28_copyOfB (q := q) (N := cap) (M := M) τ hq (by omega) (by omega) h7) (by rfl) (by decide) (by omega) (by omega) rfl (Nat.le_of_ble_eq_true rfl) ?_ (fun _ _ _ h => h.elim)
    rintro v G1 ⟨a, ha, rfl, rfl⟩
    have hba : b ≠ a := g_nn h ha
    refine y_put E dJ5_ensureCapacityInternal_35 fl_J5_15_J6 fw_J6_0 (by first | rfl | exact nar_r _ _) (by first | rfl | exact fit_r _ _) (gs_n hba h) (Nat.le_of_ble_eq_true rfl) ?_
    refine y_return E F rfl dJ5_ensureCapacityInternal_38 (by omega) (by omega) ⟨rfl, ⟨a, M, _, ml, gset_s _ _ _, gs_n hba.symm (gset_s _ _ _), by omega, by omega, by omega, h6, fun i => ?_, fun i hi => ?_⟩, gK_t (gK_n _ ha) (gK_w _ (gs_n hba h) rfl)⟩
    · unfold cpI
      split
      · exact h7 _
      · show (0 : Int) ≤ 0 ∧ (0 : Int) ≤ 127
        omega
    · rw [h8 i hi]
      unfold cpI
      rw [if_pos (by omega)]
      congr 2
      omega
theorem c_J5_isLatin1 {G : yH} {b q : Nat} {t : yT} {ml n : Int} (h : G b = some (t, sbE q ml n)) : Ct_J5_isLatin1 Γ 1 0 0 [.ref b] G (fun r G' => r = some (.int (iI 1)) ∧ G' = G) noX := by
  unfold sbE at h
  refine y_start (lv0 := [some (.ref b)]) (nm := "isLatin1") (own := RJ5) (by decide +kernel) rfl rfl (by first | exact Nat.le_of_ble_eq_true rfl | (simp only [yArgs, va_cat_rf]; simp [Value.category])) (by first | rfl | (simp only [yArgs, va_cat_rf]; simp [Value.category])) ?_
  intro Z Q E F
  refine y_gets E dJ5_isLatin1_0 E.zCS q270 (Or.inl rfl) ?_
  refine y_top (v' := .int (iI (b2i true))) rfl ?_
  refine y_ifb_eq (tgt := 17) E dJ5_isLatin1_3 (by decide) (fun hb => ?_) (fun hb => ?_)
  · cases hb
  · first | refine y_ald_n E dJ5_isLatin1_6 (by rfl) ?_ | refine y_aload_n E dJ5_isLatin1_6 (by rfl) ?_
    refine y_get E dJ5_isLatin1_7 fl_J5_22_J6 (by assumption) (by rfl) ?_
    refine y_if_ne (tgt := 17) E dJ5_isLatin1_10 (by decide) (by omega) (fun hc => ?_) (fun hc => ?_)
    · exact absurd rfl hc
    · refine y_iconst E dJ5_isLatin1_13 ?_
      refine y_goto (tgt := 18) E dJ5_isLatin1_14 (by decide) ?_
      refine y_ireturn E F rfl (nar_z (Or.inr rfl)) dJ5_isLatin1_18 (by omega) (by omega) ⟨rfl, rfl⟩
theorem c_J29_canEncode {G : yH} {c : Int} (h : 0 ≤ c ∧ c ≤ 255) : Ct_J29_canEncode Γ 1 0 0 [.int (iI c)] G (fun r G' => r = some (.int (iI 1)) ∧ G' = G) noX := by
  refine y_start (lv0 := [some (.int (iI c))]) (nm := "canEncode") (own := RJ29) (by decide +kernel) rfl rfl (by first | exact Nat.le_of_ble_eq_true rfl | (simp only [yArgs, va_cat_rf]; simp [Value.category])) (by first | rfl | (simp only [yArgs, va_cat_rf]; simp [Value.category])) ?_
  intro Z Q E F
  refine y_iload_n E dJ29_canEncode_0 (by rfl) ?_
  refine y_sipush E dJ29_canEncode_1 (by decide) ?_
  refine y_icmp_gt (tgt := 11) E dJ29_canEncode_4 (by decide) (by omega) (by omega) (fun hb => ?_) (fun hb => ?_)
  · exfalso
    omega
  · refine y_iconst E dJ29_canEncode_7 ?_
    refine y_goto (tgt := 12) E dJ29_canEncode_8 (by decide) ?_
    refine y_ireturn E F rfl (nar_z (Or.inr rfl)) dJ29_canEncode_12 (by omega) (by omega) ⟨rfl, rfl⟩
theorem c_J5_append {G : yH} {τ : Nat × Nat} {b : Nat} {cs : List Int} {c : Int} (H : isSB G τ b cs 0) (hc : 0 ≤ c ∧ c ≤ 127) (hn : cs.length < 60) : Ct_J5_append_3 Γ 5 1 130 [.ref b, .int (iI c)] G (fun r G' => r = some (.ref b) ∧ isSB G' τ b (cs ++ [c]) 0 ∧ gK (· = τ) G G') noX := by
  have H0 := H
  obtain ⟨q0, cap0, f0, ml0, g1, -⟩ := H
  have g1' := g1
  unfold sbE at g1'
  refine y_start (lv0 := [some (.ref b), some (.int (iI c))]) (nm := "append") (own := RJ5) (by decide +kernel) rfl rfl (by first | exact Nat.le_of_ble_eq_true rfl | (simp only [yArgs, va_cat_rf]; simp [Value.category])) (by first | rfl | (simp only [yArgs, va_cat_rf]; simp [Value.category])) ?_
  intro Z Q E F
  first | refine y_ald_n E dJ5_append_3_0 (by rfl) ?_ | refine y_aload_n E dJ5_append_3_0 (by rfl) ?_
  first | refine y_ald_n E dJ5_append_3_1 (by rfl) ?_ | refine y_aload_n E dJ5_append_3_1 (by rfl) ?_
  refine y_get E dJ5_append_3_2 fl_J5_79_J6 (g1') (by rfl) ?_
  refine y_iconst E dJ5_append_3_5 ?_
  refine y_iadd E dJ5_append_3_6 ?_
  refine y_top (v' := .int (iI ((cs.length + 1 : Nat) : Int))) rfl ?_
  refine y_callPV E dJ5_append_3_7 lp_J5_100 (c_J5_ensure (m := cs.length + 1) H0 (by omega)) (by rfl) (g1') rfl (by decide) (by omega) (by omega) rfl (Nat.le_of_ble_eq_true rfl) ?_ (fun _ _ _ h => h.elim)
  rintro v G1 ⟨rfl, ⟨q, cap, f, ml, h, hq, h3, h4, h5, h6, h7, h8⟩, k1⟩
  have h' := h
  unfold sbE at h
  have hbq : b ≠ q := g_ne h hq (by simp [aI])
  first | refine y_ald_n E dJ5_append_3_10 (by rfl) ?_ | refine y_aload_n E dJ5_append_3_10 (by rfl) ?_
  refine y_callO E dJ5_append_3_11 lk_J5_83_J6 (c_J5_isLatin1 h') (by rfl) (h) rfl (by decide) (by omega) (by omega) rfl (Nat.le_of_ble_eq_true rfl) ?_ (fun _ _ _ h => h.elim)
  rintro v G' ⟨rfl, rfl⟩
  refine y_eq (st' := [.int (iI (b2i true))]) rfl ?_
  refine y_ifb_eq (tgt := 45) E dJ5_append_3_14 (by decide) (fun hb => ?_) (fun hb => ?_)
  · cases hb
  · refine y_iload_n E dJ5_append_3_17 (by rfl) ?_
    refine y_callS E dJ5_append_3_18 lk_J5_191 (c_J29_canEncode (c := c) (by omega)) (by rfl) (by decide) (by omega) (by omega) rfl (Nat.le_of_ble_eq_true rfl) ?_ (fun _ _ _ h => h.elim)
    rintro v G' ⟨rfl, rfl⟩
    refine y_eq (st' := [.int (iI (b2i true))]) rfl ?_
    refine y_ifb_eq (tgt := 45) E dJ5_append_3_21 (by decide) (fun hb2 => ?_) (fun hb2 => ?_)
    · cases hb2
    · first | refine y_ald_n E dJ5_append_3_24 (by rfl) ?_ | refine y_aload_n E dJ5_append_3_24 (by rfl) ?_
      refine y_get E dJ5_append_3_25 fl_J5_15_J6 (h) (by rfl) ?_
      first | refine y_ald_n E dJ5_append_3_28 (by rfl) ?_ | refine y_aload_n E dJ5_append_3_28 (by rfl) ?_
      refine y_dup E dJ5_append_3_29 rfl ?_
      refine y_get E dJ5_append_3_30 fl_J5_79_J6 (h) (by rfl) ?_
      refine y_dup_x1 E dJ5_append_3_33 rfl rfl ?_
      refine y_iconst E dJ5_append_3_34 ?_
      refine y_iadd E dJ5_append_3_35 ?_
      refine y_put E dJ5_append_3_36 fl_J5_79_J6 fw_J6_3 rfl (by rfl) (h) (Nat.le_of_ble_eq_true rfl) ?_
      refine y_iload_n E dJ5_append_3_39 (by rfl) ?_
      refine y_i2b E dJ5_append_3_40 (byteI hc).1 ?_
      refine y_bast E dJ5_append_3_41 (gs_n hbq.symm hq) (by omega) (byteI hc).2.1 ?_
      refine y_goto (tgt := 75) E dJ5_append_3_42 (by decide) ?_
      first | refine y_ald_n E dJ5_append_3_75 (by rfl) ?_ | refine y_aload_n E dJ5_append_3_75 (by rfl) ?_
      refine y_areturn (r := some b) E F rfl (Or.inl ⟨_, rfl⟩) dJ5_append_3_76 (by omega) (by omega) ⟨rfl, ⟨q, cap, _, ml, gs_n hbq (by rw [gset_s]; simp [sbE]), gset_s _ _ _, by simp; omega, by omega, h5, h6, fun i => ?_, fun i hi => ?_⟩, gK_t k1 (gK_t (gK_w _ h rfl) (gK_w _ (gs_n hbq.symm hq) rfl))⟩
      · unfold upI
        split
        · exact hc
        · exact h7 i
      · by_cases hi2 : i < cs.length
        · rw [List.getElem?_append_left hi2, h8 i hi2]
          unfold upI
          rw [if_neg (by omega)]
        · have : i = cs.length := by simp at hi; omega
          subst this
          unfold upI
          rw [if_pos rfl]
          simp
theorem c_J6_append {G : yH} {τ : Nat × Nat} {b : Nat} {cs : List Int} {c : Int} (H : isSB G τ b cs 0) (hc : 0 ≤ c ∧ c ≤ 127) (hn : cs.length < 60) : Ct_J6_append_3 Γ 6 1 130 [.ref b, .int (iI c)] G (fun r G' => r = some (.ref b) ∧ isSB G' τ b (cs ++ [c]) 0 ∧ gK (· = τ) G G') noX := by
  have H0 := H
  obtain ⟨q0, cap0, f0, ml0, g1, -⟩ := H
  refine y_start (lv0 := [some (.ref b), some (.int (iI c))]) (nm := "append") (own := RJ6) (by decide +kernel) rfl rfl (by first | exact Nat.le_of_ble_eq_true rfl | (simp only [yArgs, va_cat_rf]; simp [Value.category])) (by first | rfl | (simp only [yArgs, va_cat_rf]; simp [Value.category])) ?_
  intro Z Q E F
  first | refine y_ald_n E dJ6_append_3_0 (by rfl) ?_ | refine y_aload_n E dJ6_append_3_0 (by rfl) ?_
  refine y_iload_n E dJ6_append_3_1 (by rfl) ?_
  refine y_callSU E dJ6_append_3_2 lk_J6_50_su (c_J5_append H0 hc hn) (by rfl) (g1) rfl (by decide) (by omega) (by omega) rfl (Nat.le_of_ble_eq_true rfl) ?_ (fun _ _ _ h => h.elim)
  rintro v G1 ⟨rfl, a1, a2⟩
  refine y_eq (st' := [.ref b]) rfl ?_
  refine y_pop E dJ6_append_3_5 rfl ?_
  first | refine y_ald_n E dJ6_append_3_6 (by rfl) ?_ | refine y_aload_n E dJ6_append_3_6 (by rfl) ?_
  refine y_areturn (r := some b) E F rfl (Or.inl ⟨_, rfl⟩) dJ6_append_3_7 (by omega) (by omega) ⟨rfl, a1, a2⟩
theorem c_J5_length {G : yH} {τ : Nat × Nat} {b : Nat} {cs : List Int} {m : Nat} (H : isSB G τ b cs m) : Ct_J5_length Γ 1 0 0 [.ref b] G (fun r G' => r = some (.int (iI cs.length)) ∧ G' = G) noX := by
  obtain ⟨q, cap, f, ml, h, hq, h3⟩ := H
  unfold sbE at h
  refine y_start (lv0 := [some (.ref b)]) (nm := "length") (own := RJ5) (by decide +kernel) rfl rfl (by first | exact Nat.le_of_ble_eq_true rfl | (simp only [yArgs, va_cat_rf]; simp [Value.category])) (by first | rfl | (simp only [yArgs, va_cat_rf]; simp [Value.category])) ?_
  intro Z Q E F
  first | refine y_ald_n E dJ5_length_0 (by rfl) ?_ | refine y_aload_n E dJ5_length_0 (by rfl) ?_
  refine y_get E dJ5_length_1 fl_J5_79_J6 (by assumption) (by rfl) ?_
  refine y_ireturn E F rfl rfl dJ5_length_4 (by omega) (by omega) ⟨rfl, rfl⟩
theorem c_J6_length {G : yH} {τ : Nat × Nat} {b : Nat} {cs : List Int} {m : Nat} (H : isSB G τ b cs m) : Ct_J6_length Γ 2 0 0 [.ref b] G (fun r G' => r = some (.int (iI cs.length)) ∧ G' = G) noX := by
  have H0 := H
  obtain ⟨q, cap, f, ml, h, hq, h3⟩ := H
  refine y_start (lv0 := [some (.ref b)]) (nm := "length") (own := RJ6) (by decide +kernel) rfl rfl (by first | exact Nat.le_of_ble_eq_true rfl | (simp only [yArgs, va_cat_rf]; simp [Value.category])) (by first | rfl | (simp only [yArgs, va_cat_rf]; simp [Value.category])) ?_
  intro Z Q E F
  first | refine y_ald_n E dJ6_length_0 (by rfl) ?_ | refine y_aload_n E dJ6_length_0 (by rfl) ?_
  refine y_callSU E dJ6_length_1 lk_J6_343_su (c_J5_length H0) (by rfl) (h) rfl (by decide) (by omega) (by omega) rfl (Nat.le_of_ble_eq_true rfl) ?_ (fun _ _ _ h => h.elim)
  rintro v G1 ⟨rfl, rfl⟩
  refine y_eq (st' := [.int (iI cs.length)]) rfl ?_
  refine y_ireturn E F rfl rfl dJ6_length_4 (by omega) (by omega) ⟨rfl, rfl⟩
theorem c_J7_checkIndex {G : yH} {i n : Int} (h : 0 ≤ i ∧ i < n ∧ n ≤ 2147483647) : Ct_J7_checkIndex Γ 2 0 0 [.int (iI i), .int (iI n)] G (fun v G' => v = none ∧ G' = G) noX := by
  refine y_start (lv0 := [some (.int (iI i)), some (.int (iI n))]) (nm := "checkIndex") (own := RJ7) (by decide +kernel) rfl rfl (by first | exact Nat.le_of_ble_eq_true rfl | (simp only [yArgs, va_cat_rf]; simp [Value.category])) (by first | rfl | (simp only [yArgs, va_cat_rf]; simp [Value.category])) ?_
  intro Z Q E F
  refine y_iload_n E dJ7_checkIndex_0 (by rfl) ?_
  refine y_iload_n E dJ7_checkIndex_1 (by rfl) ?_
  obtain ⟨r, hSF⟩ := E.zSF
  refine y_gets E dJ7_checkIndex_2 hSF q652 (Or.inl rfl) ?_
  refine y_callS E dJ7_checkIndex_5 lk_J7_1059 (c_J25_checkIndex (r := r) h) (by rfl) (by decide) (by omega) (by omega) rfl (Nat.le_of_ble_eq_true rfl) ?_ (fun _ _ _ h => h.elim)
  rintro v G1 ⟨rfl, rfl⟩
  refine y_eq (st' := [.int (iI i)]) rfl ?_
  refine y_pop E dJ7_checkIndex_8 rfl ?_
  refine y_return E F rfl dJ7_checkIndex_9 (by omega) (by omega) ⟨rfl, rfl⟩
theorem c_J5_charAt {G : yH} {τ : Nat × Nat} {b i : Nat} {cs : List Int} {m : Nat} {x : Int} (H : isSB G τ b cs m) (hx : cs[i]? = some x) : Ct_J5_charAt Γ 3 0 0 [.ref b, .int (iI i)] G (fun r G' => r = some (.int (iI x)) ∧ G' = G) noX := by
  obtain ⟨q, cap, f, ml, h, hq, h3, h4, h5, h6, h7, h8⟩ := H
  unfold sbE at h
  have hi : i < cs.length := (List.getElem?_eq_some_iff.mp hx).1
  have hfx : f (i : Int) = x := Option.some.inj ((h8 i hi).symm.trans hx)
  have hr := h7 (i : Int)
  rw [hfx] at hr
  refine y_start (lv0 := [some (.ref b), some (.int (iI i)), none, none, none]) (nm := "charAt") (own := RJ5) (by decide +kernel) rfl rfl (by first | exact Nat.le_of_ble_eq_true rfl | (simp only [yArgs, va_cat_rf]; simp [Value.category])) (by first | rfl | (simp only [yArgs, va_cat_rf]; simp [Value.category])) ?_
  intro Z Q E F
  first | refine y_ald_n E dJ5_charAt_0 (by rfl) ?_ | refine y_aload_n E dJ5_charAt_0 (by rfl) ?_
  refine y_get E dJ5_charAt_1 fl_J5_22_J6 (by assumption) (by rfl) ?_
  refine y_istore_n (j := 2) E dJ5_charAt_4 rfl (Nat.le_of_ble_eq_true rfl) ?_
  first | refine y_ald_n E dJ5_charAt_5 (by rfl) ?_ | refine y_aload_n E dJ5_charAt_5 (by rfl) ?_
  refine y_get E dJ5_charAt_6 fl_J5_15_J6 (by assumption) (by rfl) ?_
  first | refine y_ast_n (j := 3) E dJ5_charAt_9 rfl (Nat.le_of_ble_eq_true rfl) ?_ | refine y_astore_n (j := 3) E dJ5_charAt_9 rfl (Nat.le_of_ble_eq_true rfl) ?_ | refine y_astore_n (j := 3) (r := none) E dJ5_charAt_9 rfl (Nat.le_of_ble_eq_true rfl) ?_
  first | refine y_ald_n E dJ5_charAt_10 (by rfl) ?_ | refine y_aload_n E dJ5_charAt_10 (by rfl) ?_
  refine y_get E dJ5_charAt_11 fl_J5_79_J6 (by assumption) (by rfl) ?_
  first | refine y_ald_n E dJ5_charAt_14 (by rfl) ?_ | refine y_aload_n E dJ5_charAt_14 (by rfl) ?_
  first | refine y_alenI E dJ5_charAt_15 (by assumption) (by decide) ?_ | refine y_alenR E dJ5_charAt_15 (by assumption) (by decide) ?_ | refine y_alenL E dJ5_charAt_15 (by assumption) ?_
  refine y_iload_n E dJ5_charAt_16 (by rfl) ?_
  refine y_ishr E dJ5_charAt_17 (i_shr0 _) ?_
  refine y_mmin E dJ5_charAt_18 q2102 (by omega) (by omega) (by decide) (by omega) (by omega) (Nat.le_of_ble_eq_true rfl) ?_
  refine y_top (v' := .int (iI (cs.length : Int))) (by congr 2; omega) ?_
  refine y_istore E dJ5_charAt_21 (Nat.le_of_ble_eq_true rfl) ?_
  refine y_iload_n E dJ5_charAt_23 (by rfl) ?_
  refine y_iload E dJ5_charAt_24 (by rfl) ?_
  refine y_callS E dJ5_charAt_26 lk_J5_144 (c_J7_checkIndex (i := i) (n := cs.length) (by omega)) (by rfl) (by decide) (by omega) (by omega) rfl (Nat.le_of_ble_eq_true rfl) ?_ (fun _ _ _ h => h.elim)
  rintro v G1 ⟨rfl, rfl⟩
  refine y_iload_n E dJ5_charAt_29 (by rfl) ?_
  refine y_if_ne (tgt := 42) E dJ5_charAt_30 (by decide) (by omega) (fun hb => ?_) (fun hb => ?_)
  · exact absurd rfl hb
  · first | refine y_ald_n E dJ5_charAt_33 (by rfl) ?_ | refine y_aload_n E dJ5_charAt_33 (by rfl) ?_
    refine y_iload_n E dJ5_charAt_34 (by rfl) ?_
    refine y_bald E dJ5_charAt_35 (by assumption) (by omega) ?_
    refine y_top (v' := .int (iI x)) (by rw [hfx]) ?_
    refine y_sipush E dJ5_charAt_36 (by decide) ?_
    refine y_iand E dJ5_charAt_39 (byteI hr).2.2.2.1 ?_
    refine y_i2c E dJ5_charAt_40 (byteI hr).2.2.2.2.1 ?_
    refine y_ireturn E F rfl (byteI hr).2.2.2.2.2 dJ5_charAt_41 (by omega) (by omega) ⟨rfl, rfl⟩
theorem c_J6_charAt {G : yH} {τ : Nat × Nat} {b i : Nat} {cs : List Int} {m : Nat} {x : Int} (H : isSB G τ b cs m) (hx : cs[i]? = some x) : Ct_J6_charAt Γ 4 0 0 [.ref b, .int (iI i)] G (fun r G' => r = some (.int (iI x)) ∧ G' = G) noX := by
  have H0 := H
  obtain ⟨q, cap, f, ml, h, hq, h3, h4, h5, h6, h7, h8⟩ := H
  have hi : i < cs.length := (List.getElem?_eq_some_iff.mp hx).1
  have hfx : f (i : Int) = x := Option.some.inj ((h8 i hi).symm.trans hx)
  have hr := h7 (i : Int)
  rw [hfx] at hr
  refine y_start (lv0 := [some (.ref b), some (.int (iI i))]) (nm := "charAt") (own := RJ6) (by decide +kernel) rfl rfl (by first | exact Nat.le_of_ble_eq_true rfl | (simp only [yArgs, va_cat_rf]; simp [Value.category])) (by first | rfl | (simp only [yArgs, va_cat_rf]; simp [Value.category])) ?_
  intro Z Q E F
  first | refine y_ald_n E dJ6_charAt_0 (by rfl) ?_ | refine y_aload_n E dJ6_charAt_0 (by rfl) ?_
  refine y_iload_n E dJ6_charAt_1 (by rfl) ?_
  refine y_callSU E dJ6_charAt_2 lk_J6_329_su (c_J5_charAt H0 hx) (by rfl) (h) rfl (by decide) (by omega) (by omega) rfl (Nat.le_of_ble_eq_true rfl) ?_ (fun _ _ _ h => h.elim)
  rintro v G1 ⟨rfl, rfl⟩
  refine y_eq (st' := [.int (iI x)]) rfl ?_
  refine y_ireturn E F rfl (byteI hr).2.2.2.2.2 dJ6_charAt_5 (by omega) (by omega) ⟨rfl, rfl⟩
theorem c_J5_setCharAt {G : yH} {τ : Nat × Nat} {b i : Nat} {cs : List Int} {m : Nat} {c : Int} (H : isSB G τ b cs m) (hi : i < cs.length) (hc : 0 ≤ c ∧ c ≤ 127) : Ct_J5_setCharAt Γ 3 0 0 [.ref b, .int (iI i), .int (iI c)] G (fun r G' => r = none ∧ isSB G' τ b (cs.set i c) m ∧ gK (· = τ) G G') noX := by
  obtain ⟨q, cap, f, ml, h, hq, h3, h4, h5, h6, h7, h8⟩ := H
  have h' := h
  unfold sbE at h
  have hbq : b ≠ q := g_ne h hq (by simp [aI])
  refine y_start (lv0 := [some (.ref b), some (.int (iI i)), some (.int (iI c))]) (nm := "setCharAt") (own := RJ5) (by decide +kernel) rfl rfl (by first | exact Nat.le_of_ble_eq_true rfl | (simp only [yArgs, va_cat_rf]; simp [Value.category])) (by first | rfl | (simp only [yArgs, va_cat_rf]; simp [Value.category])) ?_
  intro Z Q E F
  refine y_iload_n E dJ5_setCharAt_0 (by rfl) ?_
  first | refine y_ald_n E dJ5_setCharAt_1 (by rfl) ?_ | refine y_aload_n E dJ5_setCharAt_1 (by rfl) ?_
  refine y_get E dJ5_setCharAt_2 fl_J5_79_J6 (by assumption) (by rfl) ?_
  refine y_callS E dJ5_setCharAt_5 lk_J5_144 (c_J7_checkIndex (i := i) (n := cs.length) (by omega)) (by rfl) (by decide) (by omega) (by omega) rfl (Nat.le_of_ble_eq_true rfl) ?_ (fun _ _ _ h => h.elim)
  rintro v G1 ⟨rfl, rfl⟩
  first | refine y_ald_n E dJ5_setCharAt_8 (by rfl) ?_ | refine y_aload_n E dJ5_setCharAt_8 (by rfl) ?_
  refine y_callO E dJ5_setCharAt_9 lk_J5_83_J6 (c_J5_isLatin1 h') (by rfl) (h) rfl (by decide) (by omega) (by omega) rfl (Nat.le_of_ble_eq_true rfl) ?_ (fun _ _ _ h => h.elim)
  rintro v G1 ⟨rfl, rfl⟩
  refine y_eq (st' := [.int (iI (b2i true))]) rfl ?_
  refine y_ifb_eq (tgt := 33) E dJ5_setCharAt_12 (by decide) (fun hb => ?_) (fun hb => ?_)
  · cases hb
  · refine y_iload_n E dJ5_setCharAt_15 (by rfl) ?_
    refine y_callS E dJ5_setCharAt_16 lk_J5_191 (c_J29_canEncode (c := c) (by omega)) (by rfl) (by decide) (by omega) (by omega) rfl (Nat.le_of_ble_eq_true rfl) ?_ (fun _ _ _ h => h.elim)
    rintro v G1 ⟨rfl, rfl⟩
    refine y_eq (st' := [.int (iI (b2i true))]) rfl ?_
    refine y_ifb_eq (tgt := 33) E dJ5_setCharAt_19 (by decide) (fun hb2 => ?_) (fun hb2 => ?_)
    · cases hb2
    · first | refine y_ald_n E dJ5_setCharAt_22 (by rfl) ?_ | refine y_aload_n E dJ5_setCharAt_22 (by rfl) ?_
      refine y_get E dJ5_setCharAt_23 fl_J5_15_J6 (h) (by rfl) ?_
      refine y_iload_n E dJ5_setCharAt_26 (by rfl) ?_
      refine y_iload_n E dJ5_setCharAt_27 (by rfl) ?_
      refine y_i2b E dJ5_setCharAt_28 (byteI hc).1 ?_
      refine y_bast E dJ5_setCharAt_29 (by assumption) (by omega) (byteI hc).2.1 ?_
      refine y_goto (tgt := 58) E dJ5_setCharAt_30 (by decide) ?_
      refine y_return E F rfl dJ5_setCharAt_58 (by omega) (by omega) ⟨rfl, ⟨q, cap, _, ml, gs_n hbq (by rw [List.length_set]; exact h'), gset_s _ _ _, by simp; omega, h4, h5, h6, fun j => ?_, fun j hj => ?_⟩, gK_w _ hq rfl⟩
      · unfold upI
        split
        · exact hc
        · exact h7 j
      · rw [List.length_set] at hj
        by_cases hji : j = i
        · subst hji
          unfold upI
          rw [if_pos rfl, List.getElem?_set_self hi]
        · unfold upI
          rw [if_neg (by omega), List.getElem?_set_ne (fun e => hji e.symm), h8 j hj]
theorem c_J6_setCharAt {G : yH} {τ : Nat × Nat} {b i : Nat} {cs : List Int} {m : Nat} {c : Int} (H : isSB G τ b cs m) (hi : i < cs.length) (hc : 0 ≤ c ∧ c ≤ 127) : Ct_J6_setCharAt Γ 4 0 0 [.ref b, .int (iI i), .int (iI c)] G (fun r G' => r = none ∧ isSB G' τ b (cs.set i c) m ∧ gK (· = τ) G G') noX := by
  have H0 := H
  obtain ⟨q, cap, f, ml, h, hq, h3⟩ := H
  refine y_start (lv0 := [some (.ref b), some (.int (iI i)), some (.int (iI c))]) (nm := "setCharAt") (own := RJ6) (by decide +kernel) rfl rfl (by first | exact Nat.le_of_ble_eq_true rfl | (simp only [yArgs, va_cat_rf]; simp [Value.category])) (by first | rfl | (simp only [yArgs, va_cat_rf]; simp [Value.category])) ?_
  intro Z Q E F
  first | refine y_ald_n E dJ6_setCharAt_0 (by rfl) ?_ | refine y_aload_n E dJ6_setCharAt_0 (by rfl) ?_
  refine y_iload_n E dJ6_setCharAt_1 (by rfl) ?_
  refine y_iload_n E dJ6_setCharAt_2 (by rfl) ?_
  refine y_callSU E dJ6_setCharAt_3 lk_J6_308_su (c_J5_setCharAt H0 hi hc) (by rfl) (h) rfl (by decide) (by omega) (by omega) rfl (Nat.le_of_ble_eq_true rfl) ?_ (fun _ _ _ h => h.elim)
  rintro v G1 ⟨rfl, a1, a2⟩
  refine y_return E F rfl dJ6_setCharAt_6 (by omega) (by omega) ⟨rfl, a1, a2⟩
theorem c_J5_setLength {G : yH} {τ : Nat × Nat} {b : Nat} {cs : List Int} {m : Nat} (H : isSB G τ b cs m) (hn : cs.length ≤ 60) : Ct_J5_setLength Γ 5 1 130 [.ref b, .int (iI 0)] G (fun r G' => r = none ∧ isSB G' τ b [] 0 ∧ gK (· = τ) G G') noX := by
  have H0 := H
  obtain ⟨q0, cap0, f0, ml0, g1, -⟩ := H
  refine y_start (lv0 := [some (.ref b), some (.int (iI 0))]) (nm := "setLength") (own := RJ5) (by decide +kernel) rfl rfl (by first | exact Nat.le_of_ble_eq_true rfl | (simp only [yArgs, va_cat_rf]; simp [Value.category])) (by first | rfl | (simp only [yArgs, va_cat_rf]; simp [Value.category])) ?_
  intro Z Q E F
  refine y_iload_n E dJ5_setLength_0 (by rfl) ?_
  refine y_if_ge (tgt := 13) E dJ5_setLength_1 (by decide) (by omega) (fun hb => ?_) (fun hb => ?_)
  · first | refine y_ald_n E dJ5_setLength_13 (by rfl) ?_ | refine y_aload_n E dJ5_setLength_13 (by rfl) ?_
    refine y_iload_n E dJ5_setLength_14 (by rfl) ?_
    refine y_top (v' := .int (iI ((0 : Nat) : Int))) rfl ?_
    refine y_callPV E dJ5_setLength_15 lp_J5_100 (c_J5_ensure (m := 0) H0 (by omega)) (by rfl) (g1) rfl (by decide) (by omega) (by omega) rfl (Nat.le_of_ble_eq_true rfl) ?_ (fun _ _ _ h => h.elim)
    rintro v G1 ⟨rfl, ⟨q, cap, f, ml, h, hq, h3, h4, h5, h6, h7, h8⟩, k1⟩
    unfold sbE at h
    first | refine y_ald_n E dJ5_setLength_18 (by rfl) ?_ | refine y_aload_n E dJ5_setLength_18 (by rfl) ?_
    refine y_get E dJ5_setLength_19 fl_J5_79_J6 (by assumption) (by rfl) ?_
    refine y_iload_n E dJ5_setLength_22 (by rfl) ?_
    refine y_icmp_ge (tgt := 63) E dJ5_setLength_23 (by decide) (by omega) (by omega) (fun hb2 => ?_) (fun hb2 => ?_)
    · first | refine y_ald_n E dJ5_setLength_63 (by rfl) ?_ | refine y_aload_n E dJ5_setLength_63 (by rfl) ?_
      refine y_get E dJ5_setLength_64 fl_J5_79_J6 (by assumption) (by rfl) ?_
      refine y_iload_n E dJ5_setLength_67 (by rfl) ?_
      refine y_icmp_le (tgt := 76) E dJ5_setLength_68 (by decide) (by omega) (by omega) (fun hb3 => ?_) (fun hb3 => ?_)
      · first | refine y_ald_n E dJ5_setLength_76 (by rfl) ?_ | refine y_aload_n E dJ5_setLength_76 (by rfl) ?_
        refine y_iload_n E dJ5_setLength_77 (by rfl) ?_
        refine y_put E dJ5_setLength_78 fl_J5_79_J6 fw_J6_3 rfl (by rfl) (h) (Nat.le_of_ble_eq_true rfl) ?_
        refine y_return E F rfl dJ5_setLength_81 (by omega) (by omega) ⟨rfl, ⟨q, cap, f, ml, gset_s _ _ _, gs_n (g_ne h hq (by simp [aI])).symm hq, by simp, by omega, h5, h6, h7, fun i hi => by simp at hi⟩, gK_t k1 (gK_w _ h rfl)⟩
      · first | refine y_ald_n E dJ5_setLength_71 (by rfl) ?_ | refine y_aload_n E dJ5_setLength_71 (by rfl) ?_
        refine y_iconst E dJ5_setLength_72 ?_
        refine y_put E dJ5_setLength_73 fl_J5_73_J6 fw_J6_2 (nar_z (Or.inr rfl)) (fit_z (Or.inr rfl)) (h) (Nat.le_of_ble_eq_true rfl) ?_
        first | refine y_ald_n E dJ5_setLength_76 (by rfl) ?_ | refine y_aload_n E dJ5_setLength_76 (by rfl) ?_
        refine y_iload_n E dJ5_setLength_77 (by rfl) ?_
        refine y_put E dJ5_setLength_78 fl_J5_79_J6 fw_J6_3 rfl (by rfl) (gset_s _ _ _) (Nat.le_of_ble_eq_true rfl) ?_
        refine y_heap (gset_gset _ _ _ _) ?_
        refine y_return E F rfl dJ5_setLength_81 (by omega) (by omega) ⟨rfl, ⟨q, cap, f, 1, gset_s _ _ _, gs_n (g_ne h hq (by simp [aI])).symm hq, by simp, by omega, h5, Or.inr rfl, h7, fun i hi => by simp at hi⟩, gK_t k1 (gK_w _ h rfl)⟩
    · exfalso
      omega
  · exfalso
    omega
theorem c_J6_setLength {G : yH} {τ : Nat × Nat} {b : Nat} {cs : List Int} {m : Nat} (H : isSB G τ b cs m) (hn : cs.length ≤ 60) : Ct_J6_setLength Γ 6 1 130 [.ref b, .int (iI 0)] G (fun r G' => r = none ∧ isSB G' τ b [] 0 ∧ gK (· = τ) G G') noX := by
  have H0 := H
  obtain ⟨q, cap, f, ml, h, hq, h3⟩ := H
  refine y_start (lv0 := [some (.ref b), some (.int (iI 0))]) (nm := "setLength") (own := RJ6) (by decide +kernel) rfl rfl (by first | exact Nat.le_of_ble_eq_true rfl | (simp only [yArgs, va_cat_rf]; simp [Value.category])) (by first | rfl | (simp only [yArgs, va_cat_rf]; simp [Value.category])) ?_
  intro Z Q E F
  first | refine y_ald_n E dJ6_setLength_0 (by rfl) ?_ | refine y_aload_n E dJ6_setLength_0 (by rfl) ?_
  refine y_iload_n E dJ6_setLength_1 (by rfl) ?_
  refine y_callSU E dJ6_setLength_2 lk_J6_333_su (c_J5_setLength H0 hn) (by rfl) (h) rfl (by decide) (by omega) (by omega) rfl (Nat.le_of_ble_eq_true rfl) ?_ (fun _ _ _ h => h.elim)
  rintro v G1 ⟨rfl, a1, a2⟩
  refine y_return E F rfl dJ6_setLength_5 (by omega) (by omega) ⟨rfl, a1, a2⟩
theorem c_J5_init {G : yH} {b : Nat} {τ : Nat × Nat} (h : G b = some (some τ, .inr (15, [.null, .int (iI 0), .int (iI 0), .int (iI 0)]))) : Ct_J5_init Γ 2 1 16 [.ref b, .int (iI 16)] G (fun r G' => r = none ∧ isSB G' τ b [] 16 ∧ gK (· = τ) G G') noX := by
  refine y_start (lv0 := [some (.ref b), some (.int (iI 16))]) (nm := "<init>") (own := RJ5) (by decide +kernel) rfl rfl (by first | exact Nat.le_of_ble_eq_true rfl | (simp only [yArgs, va_cat_rf]; simp [Value.category])) (by first | rfl | (simp only [yArgs, va_cat_rf]; simp [Value.category])) ?_
  intro Z Q E F
  first | refine y_ald_n E dJ5_init_0 (by rfl) ?_ | refine y_aload_n E dJ5_init_0 (by rfl) ?_
  refine y_objInit E dJ5_init_1 q269 q167 q168 (by decide) (Nat.le_of_ble_eq_true rfl) ?_
  refine y_gets E dJ5_init_4 E.zCS q270 (Or.inl rfl) ?_
  refine y_top (v' := .int (iI (b2i true))) rfl ?_
  refine y_ifb_eq (tgt := 25) E dJ5_init_7 (by decide) (fun hb => ?_) (fun hb => ?_)
  · cases hb
  · first | refine y_ald_n E dJ5_init_10 (by rfl) ?_ | refine y_aload_n E dJ5_init_10 (by rfl) ?_
    refine y_iload_n E dJ5_init_11 (by rfl) ?_
    refine y_newB E τ q293 dJ5_init_12 (by omega) (by omega) (by omega) (fun q hq => ?_)
    have hbq : b ≠ q := g_nn h hq
    refine y_put E dJ5_init_14 fl_J5_15_J6 fw_J6_0 (by first | rfl | exact nar_r _ _) (by first | rfl | exact fit_r _ _) (gs_n hbq h) (Nat.le_of_ble_eq_true rfl) ?_
    first | refine y_ald_n E dJ5_init_17 (by rfl) ?_ | refine y_aload_n E dJ5_init_17 (by rfl) ?_
    refine y_iconst E dJ5_init_18 ?_
    refine y_put E dJ5_init_19 fl_J5_22_J6 fw_J6_1 rfl (by decide) (gset_s _ _ _) (Nat.le_of_ble_eq_true rfl) ?_
    refine y_goto (tgt := 38) E dJ5_init_22 (by decide) ?_
    refine y_heap (gset_gset _ _ _ _) ?_
    refine y_return E F rfl dJ5_init_38 (by omega) (by omega) ⟨rfl, ⟨q, _, _, 0, gset_s _ _ _, gs_n hbq.symm (gset_s _ _ _), by simp, by omega, by omega, Or.inl rfl, fun i => ⟨Int.le_refl 0, by decide⟩, fun i hi => by simp at hi⟩, gK_t (gK_n _ hq) (gK_w _ (gs_n hbq h) rfl)⟩
theorem c_J6_init {G : yH} {b : Nat} {τ : Nat × Nat} (h : G b = some (some τ, .inr (15, [.null, .int (iI 0), .int (iI 0), .int (iI 0)]))) : Ct_J6_init Γ 3 1 16 [.ref b] G (fun r G' => r = none ∧ isSB G' τ b [] 0 ∧ gK (· = τ) G G') noX := by
  refine y_start (lv0 := [some (.ref b)]) (nm := "<init>") (own := RJ6) (by decide +kernel) rfl rfl (by first | exact Nat.le_of_ble_eq_true rfl | (simp only [yArgs, va_cat_rf]; simp [Value.category])) (by first | rfl | (simp only [yArgs, va_cat_rf]; simp [Value.category])) ?_
  intro Z Q E F
  first | refine y_ald_n E dJ6_init_0 (by rfl) ?_ | refine y_aload_n E dJ6_init_0 (by rfl) ?_
  refine y_bipush E dJ6_init_1 (by decide) ?_
  refine y_callI E dJ6_init_3 lk_J6_1 (c_J5_init h) (by rfl) (by decide) (by omega) (by omega) rfl (Nat.le_of_ble_eq_true rfl) ?_ (fun _ _ _ h => h.elim)
  rintro v G1 ⟨rfl, a1, a2⟩
  refine y_return E F rfl dJ6_init_6 (by omega) (by omega) ⟨rfl, a1.less (by omega), a2⟩
end SB
