/-! ===== ArrayList: making, growing, adding, clearing ===== -/
section AL2
variable {Γ : yG}
set_option maxHeartbeats 4000000
theorem lw_mmax : Cond.code Lib.Math.max.name Lib.Math.max.code 2 (some .int) ∈ lw_all := q613
theorem lw_mmin : Cond.code Lib.Math.min.name Lib.Math.min.code 2 (some .int) ∈ lw_all := q631
theorem y_mmax {Z : yZ} {own : String} {cc : ByteArray} {ret : Option FieldType} {hh : List (Nat × Nat × Nat × Nat)} {L mc ms : Nat} {nm : String} {k n : Nat} {Q : State → Prop} {G : yH} {pc : Nat} {lv : List (Option Value)} {st : List Value} (E : YE Γ Z own cc ret hh L mc ms nm) {index : Nat} {a b : Int} (hd : decode cc pc = .ok (.invokestatic index, 3)) (w1 : Cond.methodLink own index Lib.Math.max.name ∈ lw_all) (ha : inR a) (hb : inR b) (hL : 0 < L) (hk : k ≤ mc) (hn : n ≤ ms) (hcat : (st.map fun v => v.category).sum ≤ 8) (K : Y Γ Z k n Q G (pc + 3) lv (.int (iI (max a b)) :: st)) : Y Γ Z k n Q G pc lv (.int (iI b) :: .int (iI a) :: st) := by
  intro H locs ls h1 h2 h3
  refine va_mmax E.x E.c h3.2.1.symm E.o (E.w _ w1) (E.w _ q612) (E.w _ q136) (E.w _ lw_mmax) (by rw [E.rf]; omega) (by rw [E.rl]; omega) (by rw [E.rc]; exact hk) (by rw [E.rs]; exact hn) hd ?_
  have e : (if iI a < iI b then iI b else iI a) = iI (max a b) := by
    by_cases h : a < b
    · rw [if_pos ((iI_lt ha hb).mpr h), show max a b = b by omega]
    · rw [if_neg (fun q => h ((iI_lt ha hb).mp q)), show max a b = a by omega]
  rw [e]
  exact K H locs ls h1 h2 h3
theorem y_mmin {Z : yZ} {own : String} {cc : ByteArray} {ret : Option FieldType} {hh : List (Nat × Nat × Nat × Nat)} {L mc ms : Nat} {nm : String} {k n : Nat} {Q : State → Prop} {G : yH} {pc : Nat} {lv : List (Option Value)} {st : List Value} (E : YE Γ Z own cc ret hh L mc ms nm) {index : Nat} {a b : Int} (hd : decode cc pc = .ok (.invokestatic index, 3)) (w1 : Cond.methodLink own index Lib.Math.min.name ∈ lw_all) (ha : inR a) (hb : inR b) (hL : 0 < L) (hk : k ≤ mc) (hn : n ≤ ms) (hcat : (st.map fun v => v.category).sum ≤ 8) (K : Y Γ Z k n Q G (pc + 3) lv (.int (iI (min a b)) :: st)) : Y Γ Z k n Q G pc lv (.int (iI b) :: .int (iI a) :: st) := by
  intro H locs ls h1 h2 h3
  refine va_mmin E.x E.c h3.2.1.symm E.o (E.w _ w1) (E.w _ q630) (E.w _ q136) (E.w _ lw_mmin) (by rw [E.rf]; omega) (by rw [E.rl]; omega) (by rw [E.rc]; exact hk) (by rw [E.rs]; exact hn) hd ?_
  have e : (if iI b < iI a then iI b else iI a) = iI (min a b) := by
    by_cases h : b < a
    · rw [if_pos ((iI_lt hb ha).mpr h), show min a b = b by omega]
    · rw [if_neg (fun q => h ((iI_lt hb ha).mp q)), show min a b = a by omega]
  rw [e]
  exact K H locs ls h1 h2 h3
theorem c_J26_newLength {G : yH} {o m p : Int} (ho : 0 ≤ o ∧ o ≤ 60000) (hm : 0 ≤ m ∧ m ≤ 60000) (hp : 0 ≤ p ∧ p ≤ 60000) (h1 : 1 ≤ m) : Ct_J26_newLength Γ 2 0 0 [.int (iI o), .int (iI m), .int (iI p)] G (fun r G' => r = some (.int (iI (o + max m p))) ∧ G' = G) noX := by
  refine y_start (lv0 := [some (.int (iI o)), some (.int (iI m)), some (.int (iI p)), none]) (nm := "newLength") (own := RJ26) (by decide +kernel) rfl rfl (by first | exact Nat.le_of_ble_eq_true rfl | (simp only [yArgs, va_cat_rf]; simp [Value.category])) (by first | rfl | (simp only [yArgs, va_cat_rf]; simp [Value.category])) ?_
  intro Z Q E F
  refine y_iload_n E dJ26_newLength_0 (by rfl) ?_
  refine y_iload_n E dJ26_newLength_1 (by rfl) ?_
  refine y_iload_n E dJ26_newLength_2 (by rfl) ?_
  refine y_mmax E dJ26_newLength_3 q611 (by omega) (by omega) (by decide) (by omega) (by omega) (Nat.le_of_ble_eq_true rfl) ?_
  refine y_iadd E dJ26_newLength_6 ?_
  refine y_istore_n (j := 3) E dJ26_newLength_7 rfl (Nat.le_of_ble_eq_true rfl) ?_
  refine y_iconst E dJ26_newLength_8 ?_
  refine y_iload_n E dJ26_newLength_9 (by rfl) ?_
  refine y_icmp_ge (tgt := 21) E dJ26_newLength_10 (by decide) (by omega) (by omega) (fun h => ?_) (fun h => ?_)
  · exact absurd h (by omega)
  · refine y_iload_n E dJ26_newLength_13 (by rfl) ?_
    refine y_ldc E q614 dJ26_newLength_14 ?_
    refine y_top (v' := .int (iI 2147483639)) (by decide) ?_
    refine y_icmp_gt (tgt := 21) E dJ26_newLength_16 (by decide) (by omega) (by omega) (fun h16 => ?_) (fun h16 => ?_)
    · exact absurd h16 (by omega)
    · refine y_iload_n E dJ26_newLength_19 (by rfl) ?_
      refine y_ireturn E F rfl rfl dJ26_newLength_20 (by omega) (by omega) ⟨rfl, rfl⟩
theorem c_J28_copyOf_3 {G : yH} {τ : Nat × Nat} {e n0 : Nat} {f : Nat → Option Nat} {te : yT} {N : Int} (h1 : G e = some (te, aR 5 n0 f)) (hN : (n0 : Int) ≤ N ∧ N ≤ 15) (hok : ∀ i, i < n0 → okR G "java/lang/Object" (f i)) : Ct_J28_copyOf_3 Γ 3 1 15 [.ref e, .int (iI N), .ref (yad Γ 5)] G (fun r G' => ∃ q, G q = none ∧ r = some (.ref q) ∧ G' = gset G q (some τ, aR 5 N.toNat (cpN f (fun _ => none) 0 0 n0))) noX := by
  refine y_start (lv0 := [some (.ref e), some (.int (iI N)), some (.ref (yad Γ 5)), none]) (nm := "copyOf") (own := RJ28) (by decide +kernel) rfl rfl (by first | exact Nat.le_of_ble_eq_true rfl | (simp only [yArgs, va_cat_rf]; simp [Value.category])) (by first | rfl | (simp only [yArgs, va_cat_rf]; simp [Value.category])) ?_
  intro Z Q E F
  first | refine y_ald_n E dJ28_copyOf_3_0 (by rfl) ?_ | refine y_aload_n E dJ28_copyOf_3_0 (by rfl) ?_
  refine y_ldcM E dJ28_copyOf_3_1 q1004 ?_
  refine y_acmp_ne (x := some (yad Γ 5)) (y := some (yad Γ 5)) (tgt := 13) E dJ28_copyOf_3_3 (by decide) (fun h => absurd rfl h) (fun _ => ?_)
  refine y_iload_n E dJ28_copyOf_3_6 (by rfl) ?_
  refine y_newR E 5 τ rfl (by decide) q1005 (by decide +kernel) dJ28_copyOf_3_7 (by omega) (by omega) (by omega) (fun q hq => ?_)
  refine y_goto (tgt := 24) E dJ28_copyOf_3_10 (by decide) ?_
  first | refine y_ast_n (j := 3) E dJ28_copyOf_3_24 rfl (Nat.le_of_ble_eq_true rfl) ?_ | refine y_astore_n (j := 3) E dJ28_copyOf_3_24 rfl (Nat.le_of_ble_eq_true rfl) ?_ | refine y_astore_n (j := 3) (r := none) E dJ28_copyOf_3_24 rfl (Nat.le_of_ble_eq_true rfl) ?_
  first | refine y_ald_n E dJ28_copyOf_3_25 (by rfl) ?_ | refine y_aload_n E dJ28_copyOf_3_25 (by rfl) ?_
  refine y_iconst E dJ28_copyOf_3_26 ?_
  first | refine y_ald_n E dJ28_copyOf_3_27 (by rfl) ?_ | refine y_aload_n E dJ28_copyOf_3_27 (by rfl) ?_
  refine y_iconst E dJ28_copyOf_3_28 ?_
  have hne : e ≠ q := g_nn h1 hq
  have h1' : gset G q (some τ, aR 5 N.toNat (fun _ => none)) e = some (te, aR 5 n0 f) := gs_n hne h1
  first | refine y_ald_n E dJ28_copyOf_3_29 (by rfl) ?_ | refine y_aload_n E dJ28_copyOf_3_29 (by rfl) ?_
  first | refine y_alenI E dJ28_copyOf_3_30 (h1') (by decide) ?_ | refine y_alenR E dJ28_copyOf_3_30 (h1') (by decide) ?_ | refine y_alenL E dJ28_copyOf_3_30 (h1') ?_
  refine y_iload_n E dJ28_copyOf_3_31 (by rfl) ?_
  refine y_mmin E dJ28_copyOf_3_32 q629 (by omega) (by omega) (by decide) (by omega) (by omega) (Nat.le_of_ble_eq_true rfl) ?_
  refine y_top (v' := .int (iI n0)) (by rw [show min (n0 : Int) N = n0 by omega]) ?_
  have hok' : ∀ i : Nat, (i : Int) < (n0 : Int) → okR (gset G q (some τ, aR 5 N.toNat (fun _ => none))) "java/lang/Object" (f ((0 : Int).toNat + i)) := by
    intro i hi v hv
    obtain ⟨t', ci, fs, qq, g0, g1, g2⟩ := hok i (by omega) v (by simpa using hv)
    exact ⟨t', ci, fs, qq, gs_n (g_nn g0 hq) g0, g1, g2⟩
  refine y_copyR E dJ28_copyOf_3_35 ⟨q632, q634, q633, q138⟩ h1' (gset_s _ _ _) (by omega) hok' (by decide) (Nat.le_of_ble_eq_true rfl) ?_
  rw [gset_gset]
  first | refine y_ald_n E dJ28_copyOf_3_38 (by rfl) ?_ | refine y_aload_n E dJ28_copyOf_3_38 (by rfl) ?_
  refine y_areturn (r := some q) E F rfl (Or.inr ⟨_, rfl⟩) dJ28_copyOf_3_39 (by omega) (by omega) ⟨q, hq, rfl, ?_⟩
  simp
theorem c_J28_copyOf_2 {G : yH} {τ : Nat × Nat} {e n0 : Nat} {f : Nat → Option Nat} {te : yT} {N : Int} (h1 : G e = some (te, aR 5 n0 f)) (hN : (n0 : Int) ≤ N ∧ N ≤ 15) (hok : ∀ i, i < n0 → okR G "java/lang/Object" (f i)) : Ct_J28_copyOf_2 Γ 4 1 15 [.ref e, .int (iI N)] G (fun r G' => ∃ q, G q = none ∧ r = some (.ref q) ∧ G' = gset G q (some τ, aR 5 N.toNat (cpN f (fun _ => none) 0 0 n0))) noX := by
  refine y_start (lv0 := [some (.ref e), some (.int (iI N))]) (nm := "copyOf") (own := RJ28) (by decide +kernel) rfl rfl (by first | exact Nat.le_of_ble_eq_true rfl | (simp only [yArgs, va_cat_rf]; simp [Value.category])) (by first | rfl | (simp only [yArgs, va_cat_rf]; simp [Value.category])) ?_
  intro Z Q E F
  first | refine y_ald_n E dJ28_copyOf_2_0 (by rfl) ?_ | refine y_aload_n E dJ28_copyOf_2_0 (by rfl) ?_
  refine y_iload_n E dJ28_copyOf_2_1 (by rfl) ?_
  first | refine y_ald_n E dJ28_copyOf_2_2 (by rfl) ?_ | refine y_aload_n E dJ28_copyOf_2_2 (by rfl) ?_
  refine y_getC E dJ28_copyOf_2_3 q1000 q3128 q3127 q313 q348 h1 (by decide) (Nat.le_of_ble_eq_true rfl) ?_
  refine y_callS E dJ28_copyOf_2_6 lk_J28_300 (c_J28_copyOf_3 (τ := τ) (N := N) h1 hN hok) (by rfl) (by decide) (by omega) (by omega) rfl (Nat.le_of_ble_eq_true rfl) ?_ (fun _ _ _ h => h.elim)
  rintro v G1 ⟨q, hq, rfl, rfl⟩
  refine y_areturn (r := some q) E F rfl (Or.inr ⟨_, rfl⟩) dJ28_copyOf_2_9 (by omega) (by omega) ⟨q, hq, rfl, rfl⟩
theorem c_J2_grow_2 {G : yH} {τ : Nat × Nat} {a e cap n : Nat} {mc : Int32} {f : Nat → Option Nat} {te : yT} (h2 : G a = some (some τ, alE mc e n)) (h3 : G e = some (te, aR 5 cap f)) (hc : (cap = 0 ∧ e = yad Γ 3) ∨ (cap = 10 ∧ e ≠ yad Γ 3)) (hn : n = cap) (hok : ∀ i, i < cap → okR G "java/lang/Object" (f i)) : Ct_J2_grow_2 Γ 5 1 15 [.ref a, .int (iI (n + 1))] G (fun r G' => ∃ q cap' f', G q = none ∧ r = some (.ref q) ∧ (cap' = 10 ∨ cap' = 15) ∧ cap < cap' ∧ (∀ i, i < cap → f' i = f i) ∧ G' = gset (gset G q (some τ, aR 5 cap' f')) a (some τ, alE mc q n)) noX := by
  subst hn
  have h2' := h2
  unfold alE at h2
  refine y_start (lv0 := [some (.ref a), some (.int (iI (n + 1))), none, none]) (nm := "grow") (own := RJ2) (by decide +kernel) rfl rfl (by first | exact Nat.le_of_ble_eq_true rfl | (simp only [yArgs, va_cat_rf]; simp [Value.category])) (by first | rfl | (simp only [yArgs, va_cat_rf]; simp [Value.category])) ?_
  intro Z Q E F
  rcases hc with ⟨hc, he⟩ | ⟨hc, he⟩
  · first | refine y_ald_n E dJ2_grow_2_0 (by rfl) ?_ | refine y_aload_n E dJ2_grow_2_0 (by rfl) ?_
    refine y_get E dJ2_grow_2_1 fl_J2_9_J2 (by assumption) (by rfl) ?_
    first | refine y_alenI E dJ2_grow_2_4 (by assumption) (by decide) ?_ | refine y_alenR E dJ2_grow_2_4 (by assumption) (by decide) ?_ | refine y_alenL E dJ2_grow_2_4 (by assumption) ?_
    refine y_istore_n (j := 2) E dJ2_grow_2_5 rfl (Nat.le_of_ble_eq_true rfl) ?_
    refine y_iload_n E dJ2_grow_2_6 (by rfl) ?_
    refine y_if_gt (tgt := 20) E dJ2_grow_2_7 (by decide) (by omega) (fun h7 => ?_) (fun h7 => ?_)
    · exact absurd h7 (by omega)
    · first | refine y_ald_n E dJ2_grow_2_10 (by rfl) ?_ | refine y_aload_n E dJ2_grow_2_10 (by rfl) ?_
      refine y_get E dJ2_grow_2_11 fl_J2_9_J2 (by assumption) (by rfl) ?_
      refine y_gets E dJ2_grow_2_14 E.zAL q187 (Or.inl rfl) ?_
      refine y_acmp_eq (x := some e) (y := some (yad Γ 3)) (tgt := 45) E dJ2_grow_2_17 (by decide) (fun _ => ?_) (fun h => absurd (by rw [he]) h)
      first | refine y_ald_n E dJ2_grow_2_45 (by rfl) ?_ | refine y_aload_n E dJ2_grow_2_45 (by rfl) ?_
      refine y_bipush E dJ2_grow_2_46 (by decide) ?_
      refine y_iload_n E dJ2_grow_2_48 (by rfl) ?_
      refine y_mmax E dJ2_grow_2_49 q1006 (by omega) (by omega) (by decide) (by omega) (by omega) (Nat.le_of_ble_eq_true rfl) ?_
      refine y_top (v' := .int (iI 10)) (by rw [show max (10 : Int) (n + 1) = 10 by omega]) ?_
      refine y_newR E 5 τ rfl (by decide) q1007 (by decide +kernel) dJ2_grow_2_52 (by omega) (by omega) (by omega) (fun q hq => ?_)
      refine y_dup_x1 E dJ2_grow_2_55 rfl rfl ?_
      refine y_put E dJ2_grow_2_56 fl_J2_9_J2 fw_J2_1 (by first | rfl | exact nar_r _ _) (by first | rfl | exact fit_r _ _) (gs_n (g_nn h2 hq) h2) (Nat.le_of_ble_eq_true rfl) ?_
      refine y_areturn (r := some q) E F rfl (Or.inr ⟨_, rfl⟩) dJ2_grow_2_59 (by omega) (by omega) ⟨q, 10, fun _ => none, hq, rfl, Or.inl rfl, by omega, fun i hi => by omega, rfl⟩
  · first | refine y_ald_n E dJ2_grow_2_0 (by rfl) ?_ | refine y_aload_n E dJ2_grow_2_0 (by rfl) ?_
    refine y_get E dJ2_grow_2_1 fl_J2_9_J2 (by assumption) (by rfl) ?_
    first | refine y_alenI E dJ2_grow_2_4 (by assumption) (by decide) ?_ | refine y_alenR E dJ2_grow_2_4 (by assumption) (by decide) ?_ | refine y_alenL E dJ2_grow_2_4 (by assumption) ?_
    refine y_istore_n (j := 2) E dJ2_grow_2_5 rfl (Nat.le_of_ble_eq_true rfl) ?_
    refine y_iload_n E dJ2_grow_2_6 (by rfl) ?_
    refine y_if_gt (tgt := 20) E dJ2_grow_2_7 (by decide) (by omega) (fun h7 => ?_) (fun h7 => ?_)
    · subst hc
      refine y_iload_n E dJ2_grow_2_20 (by rfl) ?_
      refine y_iload_n E dJ2_grow_2_21 (by rfl) ?_
      refine y_iload_n E dJ2_grow_2_22 (by rfl) ?_
      refine y_isub E dJ2_grow_2_23 ?_
      refine y_iload_n E dJ2_grow_2_24 (by rfl) ?_
      refine y_iconst E dJ2_grow_2_25 ?_
      refine y_ishr E dJ2_grow_2_26 (show (iI ((10 : Nat) : Int) >>> (iI 1 &&& 31)) = iI 5 by decide) ?_
      refine y_callS E dJ2_grow_2_27 lk_J2_73 (c_J26_newLength (o := ((10 : Nat) : Int)) (m := ((10 : Nat) : Int) + 1 - ((10 : Nat) : Int)) (p := 5) (by omega) (by omega) (by omega) (by omega)) (by rfl) (by decide) (by omega) (by omega) rfl (Nat.le_of_ble_eq_true rfl) ?_ (fun _ _ _ h => h.elim)
      rintro v G1 ⟨rfl, rfl⟩
      refine y_top (v' := .int (iI 15)) (by decide) ?_
      refine y_istore_n (j := 3) E dJ2_grow_2_30 rfl (Nat.le_of_ble_eq_true rfl) ?_
      first | refine y_ald_n E dJ2_grow_2_31 (by rfl) ?_ | refine y_aload_n E dJ2_grow_2_31 (by rfl) ?_
      first | refine y_ald_n E dJ2_grow_2_32 (by rfl) ?_ | refine y_aload_n E dJ2_grow_2_32 (by rfl) ?_
      refine y_get E dJ2_grow_2_33 fl_J2_9_J2 (by assumption) (by rfl) ?_
      refine y_iload_n E dJ2_grow_2_36 (by rfl) ?_
      refine y_callS E dJ2_grow_2_37 lk_J2_66 (c_J28_copyOf_2 (τ := τ) (N := 15) h3 (by omega) hok) (by rfl) (by decide) (by omega) (by omega) rfl (Nat.le_of_ble_eq_true rfl) ?_ (fun _ _ _ h => h.elim)
      rintro v G1 ⟨q, hq, rfl, rfl⟩
      refine y_dup_x1 E dJ2_grow_2_40 rfl rfl ?_
      refine y_put E dJ2_grow_2_41 fl_J2_9_J2 fw_J2_1 (by first | rfl | exact nar_r _ _) (by first | rfl | exact fit_r _ _) (gs_n (g_nn h2 hq) h2) (Nat.le_of_ble_eq_true rfl) ?_
      refine y_areturn (r := some q) E F rfl (Or.inr ⟨_, rfl⟩) dJ2_grow_2_44 (by omega) (by omega) ⟨q, 15, _, hq, rfl, Or.inr rfl, by omega, fun i hi => ?_, rfl⟩
      simp [cpN, hi]
    · exact absurd h7 (by omega)
theorem c_J2_grow {G : yH} {τ : Nat × Nat} {a e cap n : Nat} {mc : Int32} {f : Nat → Option Nat} {te : yT} (h2 : G a = some (some τ, alE mc e n)) (h3 : G e = some (te, aR 5 cap f)) (hc : (cap = 0 ∧ e = yad Γ 3) ∨ (cap = 10 ∧ e ≠ yad Γ 3)) (hn : n = cap) (hok : ∀ i, i < cap → okR G "java/lang/Object" (f i)) : Ct_J2_grow Γ 6 1 15 [.ref a] G (fun r G' => ∃ q cap' f', G q = none ∧ r = some (.ref q) ∧ (cap' = 10 ∨ cap' = 15) ∧ cap < cap' ∧ (∀ i, i < cap → f' i = f i) ∧ G' = gset (gset G q (some τ, aR 5 cap' f')) a (some τ, alE mc q n)) noX := by
  have h2' := h2
  unfold alE at h2
  refine y_start (lv0 := [some (.ref a)]) (nm := "grow") (own := RJ2) (by decide +kernel) rfl rfl (by first | exact Nat.le_of_ble_eq_true rfl | (simp only [yArgs, va_cat_rf]; simp [Value.category])) (by first | rfl | (simp only [yArgs, va_cat_rf]; simp [Value.category])) ?_
  intro Z Q E F
  first | refine y_ald_n E dJ2_grow_0 (by rfl) ?_ | refine y_aload_n E dJ2_grow_0 (by rfl) ?_
  first | refine y_ald_n E dJ2_grow_1 (by rfl) ?_ | refine y_aload_n E dJ2_grow_1 (by rfl) ?_
  refine y_get E dJ2_grow_2 fl_J2_48_J2 (by assumption) (by rfl) ?_
  refine y_iconst E dJ2_grow_5 ?_
  refine y_iadd E dJ2_grow_6 ?_
  refine y_callV E dJ2_grow_7 lk_J2_69 (c_J2_grow_2 h2' h3 hc hn hok) (by rfl) h2' rfl (by decide) (by omega) (by omega) rfl (Nat.le_of_ble_eq_true rfl) ?_ (fun _ _ _ h => h.elim)
  rintro v G1 ⟨q, cap', f', hq, rfl, hrest⟩
  exact y_areturn (r := some q) E F rfl (Or.inr ⟨_, rfl⟩) dJ2_grow_10 (by omega) (by omega) ⟨q, cap', f', hq, rfl, hrest⟩
end AL2
