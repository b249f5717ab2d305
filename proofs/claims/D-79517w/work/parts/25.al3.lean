section AL3
variable {Γ : yG}
set_option maxHeartbeats 4000000
theorem c_J0_init {G : yH} {a : Nat} : Ct_J0_init Γ 1 0 0 [.ref a] G (fun r G' => r = none ∧ G' = G) noX := by
  refine y_start (lv0 := [some (.ref a)]) (nm := "<init>") (own := RJ0) (by decide +kernel) rfl rfl (by first | exact Nat.le_of_ble_eq_true rfl | (simp only [yArgs, va_cat_rf]; simp [Value.category])) (by first | rfl | (simp only [yArgs, va_cat_rf]; simp [Value.category])) ?_
  intro Z Q E F
  first | refine y_ald_n E dJ0_init_0 (by rfl) ?_ | refine y_aload_n E dJ0_init_0 (by rfl) ?_
  refine y_objInit E dJ0_init_1 q186 q167 q168 (by decide) (Nat.le_of_ble_eq_true rfl) ?_
  refine y_return E F rfl dJ0_init_4 (by omega) (by omega) ⟨rfl, rfl⟩
theorem c_J1_init_al {G : yH} {a : Nat} {τ : Nat × Nat} {v1 v2 v3 : Value} (h : G a = some (some τ, .inr (8, [v1, v2, v3]))) : Ct_J1_init Γ 2 0 0 [.ref a] G (fun r G' => r = none ∧ G' = gset G a (some τ, .inr (8, [.int (iI 0), v2, v3]))) noX := by
  refine y_start (lv0 := [some (.ref a)]) (nm := "<init>") (own := RJ1) (by decide +kernel) rfl rfl (by first | exact Nat.le_of_ble_eq_true rfl | (simp only [yArgs, va_cat_rf]; simp [Value.category])) (by first | rfl | (simp only [yArgs, va_cat_rf]; simp [Value.category])) ?_
  intro Z Q E F
  first | refine y_ald_n E dJ1_init_0 (by rfl) ?_ | refine y_aload_n E dJ1_init_0 (by rfl) ?_
  refine y_callI E dJ1_init_1 lk_J1_1 (c_J0_init) (by rfl) (by decide) (by omega) (by omega) rfl (Nat.le_of_ble_eq_true rfl) ?_ (fun _ _ _ h => h.elim)
  rintro v G1 ⟨rfl, rfl⟩
  first | refine y_ald_n E dJ1_init_4 (by rfl) ?_ | refine y_aload_n E dJ1_init_4 (by rfl) ?_
  refine y_iconst E dJ1_init_5 ?_
  refine y_put E dJ1_init_6 fl_J1_7_J2 fw_J2_0 rfl (by rfl) (by assumption) (Nat.le_of_ble_eq_true rfl) ?_
  refine y_return E F rfl dJ1_init_9 (by omega) (by omega) ⟨rfl, rfl⟩
theorem c_J1_init_ll {G : yH} {a : Nat} {τ : Nat × Nat} {v1 v2 v3 v4 : Value} (h : G a = some (some τ, .inr (9, [v1, v2, v3, v4]))) : Ct_J1_init Γ 2 0 0 [.ref a] G (fun r G' => r = none ∧ G' = gset G a (some τ, .inr (9, [.int (iI 0), v2, v3, v4]))) noX := by
  refine y_start (lv0 := [some (.ref a)]) (nm := "<init>") (own := RJ1) (by decide +kernel) rfl rfl (by first | exact Nat.le_of_ble_eq_true rfl | (simp only [yArgs, va_cat_rf]; simp [Value.category])) (by first | rfl | (simp only [yArgs, va_cat_rf]; simp [Value.category])) ?_
  intro Z Q E F
  first | refine y_ald_n E dJ1_init_0 (by rfl) ?_ | refine y_aload_n E dJ1_init_0 (by rfl) ?_
  refine y_callI E dJ1_init_1 lk_J1_1 (c_J0_init) (by rfl) (by decide) (by omega) (by omega) rfl (Nat.le_of_ble_eq_true rfl) ?_ (fun _ _ _ h => h.elim)
  rintro v G1 ⟨rfl, rfl⟩
  first | refine y_ald_n E dJ1_init_4 (by rfl) ?_ | refine y_aload_n E dJ1_init_4 (by rfl) ?_
  refine y_iconst E dJ1_init_5 ?_
  refine y_put E dJ1_init_6 fl_J1_7_J4 fw_J4_0 rfl (by rfl) (by assumption) (Nat.le_of_ble_eq_true rfl) ?_
  refine y_return E F rfl dJ1_init_9 (by omega) (by omega) ⟨rfl, rfl⟩
/-- new ArrayList(): empty -/
theorem c_J2_init {G : yH} {a : Nat} {τ : Nat × Nat} (hB : gB Γ G) (h : G a = some (some τ, .inr (8, [.int (iI 0), .null, .int (iI 0)]))) : Ct_J2_init Γ 3 0 0 [.ref a] G (fun r G' => r = none ∧ isAL Γ G' τ a [] ∧ ∃ v, G' = gset G a (some τ, v)) noX := by
  refine y_start (lv0 := [some (.ref a)]) (nm := "<init>") (own := RJ2) (by decide +kernel) rfl rfl (by first | exact Nat.le_of_ble_eq_true rfl | (simp only [yArgs, va_cat_rf]; simp [Value.category])) (by first | rfl | (simp only [yArgs, va_cat_rf]; simp [Value.category])) ?_
  intro Z Q E F
  first | refine y_ald_n E dJ2_init_0 (by rfl) ?_ | refine y_aload_n E dJ2_init_0 (by rfl) ?_
  refine y_callI E dJ2_init_1 lk_J2_1 (c_J1_init_al h) (by rfl) (by decide) (by omega) (by omega) rfl (Nat.le_of_ble_eq_true rfl) ?_ (fun _ _ _ h => h.elim)
  rintro v G1 ⟨rfl, rfl⟩
  first | refine y_ald_n E dJ2_init_4 (by rfl) ?_ | refine y_aload_n E dJ2_init_4 (by rfl) ?_
  refine y_gets E dJ2_init_5 E.zAL q187 (Or.inl rfl) ?_
  refine y_put E dJ2_init_8 fl_J2_9_J2 fw_J2_1 (by first | rfl | exact nar_r _ _) (by first | rfl | exact fit_r _ _) (gset_s _ _ _) (Nat.le_of_ble_eq_true rfl) ?_
  refine y_heap (gset_gset _ _ _ _) ?_
  have hne : yad Γ 3 ≠ a := g_ne hB.1 h (by simp [aR])
  refine y_return E F rfl dJ2_init_11 (by omega) (by omega) ⟨rfl, ⟨iI 0, yad Γ 3, 0, fun _ => none, none, gset_s _ _ _, gs_n hne hB.1, by simp, by omega, by simp, Or.inl ⟨rfl, rfl⟩⟩, _, rfl⟩
theorem c_J2_add_2 {G : yH} {τ : Nat × Nat} {a e cap n x : Nat} {mc : Int32} {f : Nat → Option Nat} {te : yT} (h2 : G a = some (some τ, alE mc e n)) (h3 : G e = some (te, aR 5 cap f)) (hn : n ≤ cap ∧ n < 15) (hc : (cap = 0 ∧ e = yad Γ 3) ∨ (te = some τ ∧ (cap = 10 ∨ cap = 15) ∧ e ≠ yad Γ 3)) (hB : gB Γ G) (hok : ∀ i, i < n → okR G "java/lang/Object" (f i)) (hx : okR G "java/lang/Object" (some x)) : Ct_J2_add_2 Γ 7 1 15 [.ref a, .ref x, .ref e, .int (iI n)] G (fun r G' => r = none ∧ ∃ e' cap' f', G' a = some (some τ, alE mc e' (n + 1)) ∧ G' e' = some (some τ, aR 5 cap' f') ∧ n + 1 ≤ cap' ∧ (cap' = 10 ∨ cap' = 15) ∧ e' ≠ yad Γ 3 ∧ (∀ i, i < n → f' i = f i) ∧ f' n = some x ∧ gK (· = τ) G G') noX := by
  have h2' := h2
  unfold alE at h2
  refine y_start (lv0 := [some (.ref a), some (.ref x), some (.ref e), some (.int (iI n))]) (nm := "add") (own := RJ2) (by decide +kernel) rfl rfl (by first | exact Nat.le_of_ble_eq_true rfl | (simp only [yArgs, va_cat_rf]; simp [Value.category])) (by first | rfl | (simp only [yArgs, va_cat_rf]; simp [Value.category])) ?_
  intro Z Q E F
  refine y_iload_n E dJ2_add_2_0 (by rfl) ?_
  first | refine y_ald_n E dJ2_add_2_1 (by rfl) ?_ | refine y_aload_n E dJ2_add_2_1 (by rfl) ?_
  first | refine y_alenI E dJ2_add_2_2 (by assumption) (by decide) ?_ | refine y_alenR E dJ2_add_2_2 (by assumption) (by decide) ?_ | refine y_alenL E dJ2_add_2_2 (by assumption) ?_
  refine y_icmp_ne (tgt := 11) E dJ2_add_2_3 (by decide) (by omega) (by omega) (fun h => ?_) (fun h => ?_)
  · -- room there is
    have hc' : te = some τ ∧ (cap = 10 ∨ cap = 15) ∧ e ≠ yad Γ 3 := by
      rcases hc with ⟨hc, -⟩ | hc
      · omega
      · exact hc
    obtain ⟨rfl, hcap, hey⟩ := hc'
    have hae : a ≠ e := g_ne h2 h3 (by simp [aR])
    first | refine y_ald_n E dJ2_add_2_11 (by rfl) ?_ | refine y_aload_n E dJ2_add_2_11 (by rfl) ?_
    refine y_iload_n E dJ2_add_2_12 (by rfl) ?_
    first | refine y_ald_n E dJ2_add_2_13 (by rfl) ?_ | refine y_aload_n E dJ2_add_2_13 (by rfl) ?_
    refine y_aast (r := some x) E 5 rfl (by decide) dJ2_add_2_14 h3 (by omega) hx ?_
    first | refine y_ald_n E dJ2_add_2_15 (by rfl) ?_ | refine y_aload_n E dJ2_add_2_15 (by rfl) ?_
    refine y_iload_n E dJ2_add_2_16 (by rfl) ?_
    refine y_iconst E dJ2_add_2_17 ?_
    refine y_iadd E dJ2_add_2_18 ?_
    refine y_put E dJ2_add_2_19 fl_J2_48_J2 fw_J2_2 rfl (by rfl) (gs_n hae h2) (Nat.le_of_ble_eq_true rfl) ?_
    refine y_return E F rfl dJ2_add_2_22 (by omega) (by omega) ⟨rfl, e, cap, _, gset_s _ _ _, gs_n hae.symm (gset_s _ _ _), by omega, hcap, hey, fun i hi => upN_n _ (by omega), by simp [upN], gK_t (gK_w _ h3 rfl) (gK_w _ (gs_n hae h2) rfl)⟩
  · have hnc : n = cap := by omega
    first | refine y_ald_n E dJ2_add_2_6 (by rfl) ?_ | refine y_aload_n E dJ2_add_2_6 (by rfl) ?_
    refine y_callV E dJ2_add_2_7 lk_J2_129 (c_J2_grow (n := n) (cap := cap) h2' h3 (by rcases hc with hc | hc <;> omega) hnc (by rw [← hnc]; exact hok)) (by rfl) h2' rfl (by decide) (by omega) (by omega) rfl (Nat.le_of_ble_eq_true rfl) ?_ (fun _ _ _ h => h.elim)
    rintro v G1 ⟨q, cap', f', hq, rfl, hcap', hlt, hf', rfl⟩
    have hqa : q ≠ a := (g_nn h2 hq).symm
    have h4 : gset (gset G q (some τ, aR 5 cap' f')) a (some τ, alE mc q n) q = some (some τ, aR 5 cap' f') := gs_n hqa (gset_s _ _ _)
    have h5 : gset (gset G q (some τ, aR 5 cap' f')) a (some τ, alE mc q n) a = some (some τ, alE mc q n) := gset_s _ _ _
    have hk1 : gK (· = τ) G (gset (gset G q (some τ, aR 5 cap' f')) a (some τ, alE mc q n)) := gK_t (gK_n _ hq) (gK_w _ (gs_n hqa.symm h2) rfl)
    have hx' : okR (gset (gset G q (some τ, aR 5 cap' f')) a (some τ, alE mc q n)) "java/lang/Object" (some x) := by
      intro v hv
      obtain ⟨t', ci, fs, qq, g0, g1, g2⟩ := hx v hv
      cases hv
      by_cases hxa : x = a
      · subst hxa
        exact ⟨some τ, 8, _, (RJ2, TJ2, 3), gset_s _ _ _, rfl, Or.inr q3095⟩
      · exact ⟨t', ci, fs, qq, gs_n hxa (gs_n (g_nn g0 hq) g0), g1, g2⟩
    have hqy : q ≠ yad Γ 3 := (g_nn hB.1 hq).symm
    generalize gset (gset G q (some τ, aR 5 cap' f')) a (some τ, alE mc q n) = G1 at h4 h5 hk1 hx'
    unfold alE at h5
    first | refine y_ast_n (j := 2) E dJ2_add_2_10 rfl (Nat.le_of_ble_eq_true rfl) ?_ | refine y_astore_n (j := 2) E dJ2_add_2_10 rfl (Nat.le_of_ble_eq_true rfl) ?_ | refine y_astore_n (j := 2) (r := none) E dJ2_add_2_10 rfl (Nat.le_of_ble_eq_true rfl) ?_
    first | refine y_ald_n E dJ2_add_2_11 (by rfl) ?_ | refine y_aload_n E dJ2_add_2_11 (by rfl) ?_
    refine y_iload_n E dJ2_add_2_12 (by rfl) ?_
    first | refine y_ald_n E dJ2_add_2_13 (by rfl) ?_ | refine y_aload_n E dJ2_add_2_13 (by rfl) ?_
    refine y_aast (r := some x) E 5 rfl (by decide) dJ2_add_2_14 h4 (by omega) hx' ?_
    first | refine y_ald_n E dJ2_add_2_15 (by rfl) ?_ | refine y_aload_n E dJ2_add_2_15 (by rfl) ?_
    refine y_iload_n E dJ2_add_2_16 (by rfl) ?_
    refine y_iconst E dJ2_add_2_17 ?_
    refine y_iadd E dJ2_add_2_18 ?_
    refine y_put E dJ2_add_2_19 fl_J2_48_J2 fw_J2_2 rfl (by rfl) (gs_n hqa.symm h5) (Nat.le_of_ble_eq_true rfl) ?_
    refine y_return E F rfl dJ2_add_2_22 (by omega) (by omega) ⟨rfl, q, cap', _, gset_s _ _ _, gs_n hqa (gset_s _ _ _), by omega, hcap', hqy, fun i hi => (upN_n _ (by omega)).trans (hf' i (by omega)), by simp [upN], gK_t hk1 (gK_t (gK_w _ h4 rfl) (gK_w _ (gs_n hqa.symm h5) rfl))⟩
/-- add(x): behind the others -/
theorem c_J2_add {G : yH} {τ : Nat × Nat} {a x : Nat} {xs : List Nat} (h : isAL Γ G τ a xs) (hn : xs.length < 15) (hB : gB Γ G) (hok : ∀ y, y ∈ xs → okR G "java/lang/Object" (some y)) (hx : okR G "java/lang/Object" (some x)) : Ct_J2_add Γ 8 1 15 [.ref a, .ref x] G (fun r G' => r = some (.int (iI 1)) ∧ isAL Γ G' τ a (xs ++ [x]) ∧ gK (· = τ) G G') noX := by
  obtain ⟨mc, e, cap, f, te, h2, h3, h4, h5, h6, h7⟩ := h
  have h2' := h2
  unfold alE at h2
  have hae : e ≠ a := g_ne h3 h2 (by simp [aR])
  refine y_start (lv0 := [some (.ref a), some (.ref x)]) (nm := "add") (own := RJ2) (by decide +kernel) rfl rfl (by first | exact Nat.le_of_ble_eq_true rfl | (simp only [yArgs, va_cat_rf]; simp [Value.category])) (by first | rfl | (simp only [yArgs, va_cat_rf]; simp [Value.category])) ?_
  intro Z Q E F
  first | refine y_ald_n E dJ2_add_0 (by rfl) ?_ | refine y_aload_n E dJ2_add_0 (by rfl) ?_
  refine y_dup E dJ2_add_1 rfl ?_
  refine y_get E dJ2_add_2 fl_J2_63_J2 (by assumption) (by rfl) ?_
  refine y_iconst E dJ2_add_5 ?_
  refine y_iaddG E dJ2_add_6 ?_
  refine y_put E dJ2_add_7 fl_J2_63_J2 fw_J2_0 rfl (by rfl) (by assumption) (Nat.le_of_ble_eq_true rfl) ?_
  have k1 : gK (· = τ) G (gset G a (some τ, alE (mc + iI 1) e xs.length)) := gK_w _ h2 rfl
  have g2 : gset G a (some τ, alE (mc + iI 1) e xs.length) a = some (some τ, alE (mc + iI 1) e xs.length) := gset_s _ _ _
  have g3 : gset G a (some τ, alE (mc + iI 1) e xs.length) e = some (te, aR 5 cap f) := gs_n hae h3
  have mv : ∀ y, okR G "java/lang/Object" (some y) → okR (gset G a (some τ, alE (mc + iI 1) e xs.length)) "java/lang/Object" (some y) := by
    intro y hy v hv
    obtain ⟨t', ci, fs, qq, g0, g1, g2⟩ := hy v hv
    by_cases hxa : v = a
    · subst hxa
      exact ⟨some τ, 8, _, (RJ2, TJ2, 3), gset_s _ _ _, rfl, Or.inr q3095⟩
    · exact ⟨t', ci, fs, qq, gs_n hxa g0, g1, g2⟩
  have hok1 : ∀ i, i < xs.length → okR (gset G a (some τ, alE (mc + iI 1) e xs.length)) "java/lang/Object" (f i) := by
    intro i hi
    rw [h6 i hi, List.getElem?_eq_getElem hi]
    exact mv _ (hok _ (List.getElem_mem hi))
  have hx1 := mv x hx
  have hB1 := hB.kk k1
  refine y_heap (G' := gset G a (some τ, alE (mc + iI 1) e xs.length)) rfl ?_
  generalize gset G a (some τ, alE (mc + iI 1) e xs.length) = G1 at k1 g2 g3 hok1 hx1 hB1
  have g2' := g2
  unfold alE at g2
  first | refine y_ald_n E dJ2_add_10 (by rfl) ?_ | refine y_aload_n E dJ2_add_10 (by rfl) ?_
  first | refine y_ald_n E dJ2_add_11 (by rfl) ?_ | refine y_aload_n E dJ2_add_11 (by rfl) ?_
  first | refine y_ald_n E dJ2_add_12 (by rfl) ?_ | refine y_aload_n E dJ2_add_12 (by rfl) ?_
  refine y_get E dJ2_add_13 fl_J2_9_J2 (by assumption) (by rfl) ?_
  first | refine y_ald_n E dJ2_add_16 (by rfl) ?_ | refine y_aload_n E dJ2_add_16 (by rfl) ?_
  refine y_get E dJ2_add_17 fl_J2_48_J2 (by assumption) (by rfl) ?_
  refine y_callV E dJ2_add_20 lk_J2_131 (c_J2_add_2 (n := xs.length) g2' g3 (by omega) h7 hB1 hok1 hx1) (by rfl) g2' rfl (by decide) (by omega) (by omega) rfl (Nat.le_of_ble_eq_true rfl) ?_ (fun _ _ _ h => h.elim)
  rintro v G2 ⟨rfl, e', cap', f', a1, a2, a3, a4, a5, a6, a7, a8⟩
  refine y_iconst E dJ2_add_23 ?_
  refine y_ireturn E F rfl (nar_z (Or.inr rfl)) dJ2_add_24 (by omega) (by omega) ⟨rfl, ⟨mc + iI 1, e', cap', f', some τ, by rw [a1]; simp, a2, by simp; omega, by omega, fun i hi => ?_, Or.inr ⟨rfl, a4, a5⟩⟩, gK_t k1 a8⟩
  by_cases hi2 : i < xs.length
  · rw [a6 i hi2, h6 i hi2, List.getElem?_append_left hi2]
  · have : i = xs.length := by simp at hi; omega
    subst this
    rw [a7]
    simp
theorem c_J2_clear {G : yH} {τ : Nat × Nat} {a : Nat} {xs : List Nat} (h : isAL Γ G τ a xs) : Ct_J2_clear Γ 1 0 0 [.ref a] G (fun r G' => r = none ∧ isAL Γ G' τ a [] ∧ gK (· = τ) G G') noX := by
  obtain ⟨mc, e, cap, f, te, h2, h3, h4, h5, h6, h7⟩ := h
  unfold alE at h2
  have hae : e ≠ a := g_ne h3 h2 (by simp [aR])
  refine y_start (lv0 := [some (.ref a), none, none, none]) (nm := "clear") (own := RJ2) (by decide +kernel) rfl rfl (by first | exact Nat.le_of_ble_eq_true rfl | (simp only [yArgs, va_cat_rf]; simp [Value.category])) (by first | rfl | (simp only [yArgs, va_cat_rf]; simp [Value.category])) ?_
  intro Z Q E F
  first | refine y_ald_n E dJ2_clear_0 (by rfl) ?_ | refine y_aload_n E dJ2_clear_0 (by rfl) ?_
  refine y_dup E dJ2_clear_1 rfl ?_
  refine y_get E dJ2_clear_2 fl_J2_63_J2 (by assumption) (by rfl) ?_
  refine y_iconst E dJ2_clear_5 ?_
  refine y_iaddG E dJ2_clear_6 ?_
  refine y_put E dJ2_clear_7 fl_J2_63_J2 fw_J2_0 rfl (by rfl) (by assumption) (Nat.le_of_ble_eq_true rfl) ?_
  first | refine y_ald_n E dJ2_clear_10 (by rfl) ?_ | refine y_aload_n E dJ2_clear_10 (by rfl) ?_
  refine y_get E dJ2_clear_11 fl_J2_9_J2 (gset_s _ _ _) (by rfl) ?_
  first | refine y_ast_n (j := 1) E dJ2_clear_14 rfl (Nat.le_of_ble_eq_true rfl) ?_ | refine y_astore_n (j := 1) E dJ2_clear_14 rfl (Nat.le_of_ble_eq_true rfl) ?_ | refine y_astore_n (j := 1) (r := none) E dJ2_clear_14 rfl (Nat.le_of_ble_eq_true rfl) ?_
  first | refine y_ald_n E dJ2_clear_15 (by rfl) ?_ | refine y_aload_n E dJ2_clear_15 (by rfl) ?_
  refine y_get E dJ2_clear_16 fl_J2_48_J2 (gset_s _ _ _) (by rfl) ?_
  refine y_istore_n (j := 2) E dJ2_clear_19 rfl (Nat.le_of_ble_eq_true rfl) ?_
  first | refine y_ald_n E dJ2_clear_20 (by rfl) ?_ | refine y_aload_n E dJ2_clear_20 (by rfl) ?_
  refine y_iconst E dJ2_clear_21 ?_
  refine y_dup_x1 E dJ2_clear_22 rfl rfl ?_
  refine y_put E dJ2_clear_23 fl_J2_48_J2 fw_J2_2 rfl (by rfl) (gset_s _ _ _) (Nat.le_of_ble_eq_true rfl) ?_
  refine y_istore_n (j := 3) E dJ2_clear_26 rfl (Nat.le_of_ble_eq_true rfl) ?_
  refine y_heap (gset_gset _ _ _ _) ?_
  have hG1 : gset G a (some τ, alE (mc + iI 1) e 0) a = some (some τ, alE (mc + iI 1) e 0) := gset_s _ _ _
  have hE1 : gset G a (some τ, alE (mc + iI 1) e 0) e = some (te, aR 5 cap f) := gs_n hae h3
  have hk1 : gK (· = τ) G (gset G a (some τ, alE (mc + iI 1) e 0)) := gK_w _ h2 rfl
  have loop : ∀ (d i : Nat) (G1 : yH) (f1 : Nat → Option Nat), i + d = xs.length → G1 a = some (some τ, alE (mc + iI 1) e 0) → G1 e = some (te, aR 5 cap f1) → gK (· = τ) G G1 → Y Γ Z 0 0 Q G1 27 [some (.ref a), some (.ref e), some (.int (iI xs.length)), some (.int (iI i))] [] := by
    intro d
    induction d with
    | zero =>
      intro i G1 f1 hi g1 g2 g3
      refine y_iload_n E dJ2_clear_27 (by rfl) ?_
      refine y_iload_n E dJ2_clear_28 (by rfl) ?_
      refine y_icmp_ge (tgt := 42) E dJ2_clear_29 (by decide) (by omega) (by omega) (fun h => ?_) (fun h => ?_)
      · refine y_return E F rfl dJ2_clear_42 (by omega) (by omega) ⟨rfl, ⟨_, e, cap, f1, te, g1, g2, by simp, h5, by simp, h7⟩, g3⟩
      · exact absurd h (by omega)
    | succ d ih =>
      intro i G1 f1 hi g1 g2 g3
      refine y_iload_n E dJ2_clear_27 (by rfl) ?_
      refine y_iload_n E dJ2_clear_28 (by rfl) ?_
      refine y_icmp_ge (tgt := 42) E dJ2_clear_29 (by decide) (by omega) (by omega) (fun h => ?_) (fun h => ?_)
      · exact absurd h (by omega)
      · have ht : te = some τ := by
          rcases h7 with h7 | h7
          · omega
          · exact h7.1
        subst ht
        first | refine y_ald_n E dJ2_clear_32 (by rfl) ?_ | refine y_aload_n E dJ2_clear_32 (by rfl) ?_
        refine y_iload_n E dJ2_clear_33 (by rfl) ?_
        refine y_null E dJ2_clear_34 ?_
        refine y_aast (r := none) E 5 rfl (by decide) dJ2_clear_35 g2 (by omega) (fun v hv => by cases hv) ?_
        refine y_iinc E dJ2_clear_36 (by rfl) ?_
        refine y_goto (tgt := 27) E dJ2_clear_39 (by decide) ?_
        refine ih (i + 1) _ _ (by omega) (gs_n hae.symm g1) (gset_s _ _ _) (gK_t g3 (gK_w _ g2 rfl))
  exact loop xs.length 0 _ _ (by omega) hG1 hE1 hk1
end AL3
