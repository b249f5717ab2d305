/-! ===== Refusal, Lens, Command ===== -/
/-- the tag of what a method makes for itself -/
def yT0 : Nat × Nat := (0, 99)
def rfE (r d : Int) : yE := .inr (0, [.int (iI r), .int (iI d)])
/-- a lens: number, first, power, scrapped -/
def lnE (k f p s : Int) : yE := .inr (1, [.int (iI k), .int (iI f), .int (iI p), .int (iI s)])
section Small
variable {Γ : yG}
set_option maxHeartbeats 4000000
theorem c_X4_init {G : yH} {q : Nat} {τ : Nat × Nat} {r d : Int} (h : G q = some (some τ, .inr (0, [.int (iI 0), .int (iI 0)]))) : Ct_X4_init Γ 1 0 0 [.ref q, .int (iI r), .int (iI d)] G (fun v G' => v = none ∧ G' = gset G q (some τ, rfE r d)) noX := by
  refine y_start (lv0 := [some (.ref q), some (.int (iI r)), some (.int (iI d))]) (nm := "<init>") (own := RX4) (by decide +kernel) rfl rfl (by first | exact Nat.le_of_ble_eq_true rfl | (simp only [yArgs, va_cat_rf]; simp [Value.category])) (by first | rfl | (simp only [yArgs, va_cat_rf]; simp [Value.category])) ?_
  intro Z Q E F
  first | refine y_ald_n E dX4_init_0 (by rfl) ?_ | refine y_aload_n E dX4_init_0 (by rfl) ?_
  refine y_objInit E dX4_init_1 q1527 q167 q168 (by decide) (Nat.le_of_ble_eq_true rfl) ?_
  first | refine y_ald_n E dX4_init_4 (by rfl) ?_ | refine y_aload_n E dX4_init_4 (by rfl) ?_
  refine y_iload_n E dX4_init_5 (by rfl) ?_
  refine y_putF E dX4_init_6 fl_X4_7_X4 fw_X4_0 (fun q h => by cases h; rfl) rfl (by rfl) (h) (Nat.le_of_ble_eq_true rfl) ?_
  first | refine y_ald_n E dX4_init_9 (by rfl) ?_ | refine y_aload_n E dX4_init_9 (by rfl) ?_
  refine y_iload_n E dX4_init_10 (by rfl) ?_
  refine y_putF E dX4_init_11 fl_X4_13_X4 fw_X4_1 (fun q h => by cases h; rfl) rfl (by rfl) (gset_s _ _ _) (Nat.le_of_ble_eq_true rfl) ?_
  refine y_heap (gset_gset _ _ _ _) ?_
  refine y_return E F rfl dX4_init_14 (by omega) (by omega) ⟨rfl, rfl⟩
theorem c_X5_init {G : yH} {q : Nat} {τ : Nat × Nat} {k f : Int} (h : G q = some (some τ, lnE 0 0 0 0)) : Ct_X5_init Γ 1 0 0 [.ref q, .int (iI k), .int (iI f)] G (fun v G' => v = none ∧ G' = gset G q (some τ, lnE k f f 0)) noX := by
  unfold lnE at h
  refine y_start (lv0 := [some (.ref q), some (.int (iI k)), some (.int (iI f))]) (nm := "<init>") (own := RX5) (by decide +kernel) rfl rfl (by first | exact Nat.le_of_ble_eq_true rfl | (simp only [yArgs, va_cat_rf]; simp [Value.category])) (by first | rfl | (simp only [yArgs, va_cat_rf]; simp [Value.category])) ?_
  intro Z Q E F
  first | refine y_ald_n E dX5_init_0 (by rfl) ?_ | refine y_aload_n E dX5_init_0 (by rfl) ?_
  refine y_objInit E dX5_init_1 q959 q167 q168 (by decide) (Nat.le_of_ble_eq_true rfl) ?_
  first | refine y_ald_n E dX5_init_4 (by rfl) ?_ | refine y_aload_n E dX5_init_4 (by rfl) ?_
  refine y_iload_n E dX5_init_5 (by rfl) ?_
  refine y_putF E dX5_init_6 fl_X5_7_X5 fw_X5_0 (fun q h => by cases h; rfl) rfl (by rfl) (h) (Nat.le_of_ble_eq_true rfl) ?_
  first | refine y_ald_n E dX5_init_9 (by rfl) ?_ | refine y_aload_n E dX5_init_9 (by rfl) ?_
  refine y_iload_n E dX5_init_10 (by rfl) ?_
  refine y_putF E dX5_init_11 fl_X5_13_X5 fw_X5_1 (fun q h => by cases h; rfl) rfl (by rfl) (gset_s _ _ _) (Nat.le_of_ble_eq_true rfl) ?_
  refine y_heap (gset_gset _ _ _ _) ?_
  first | refine y_ald_n E dX5_init_14 (by rfl) ?_ | refine y_aload_n E dX5_init_14 (by rfl) ?_
  refine y_iload_n E dX5_init_15 (by rfl) ?_
  refine y_put E dX5_init_16 fl_X5_16_X5 fw_X5_2 rfl (by rfl) (gset_s _ _ _) (Nat.le_of_ble_eq_true rfl) ?_
  refine y_heap (gset_gset _ _ _ _) ?_
  refine y_return E F rfl dX5_init_19 (by omega) (by omega) ⟨rfl, rfl⟩
theorem c_X5_copy {G : yH} {a : Nat} {t : yT} (τ : Nat × Nat) {k f p s : Int} (h : G a = some (t, lnE k f p s)) (hs : s = 0 ∨ s = 1) : Ct_X5_copy Γ 2 1 4 [.ref a] G (fun v G' => ∃ q, G q = none ∧ v = some (.ref q) ∧ G' = gset G q (some τ, lnE k f p s)) noX := by
  unfold lnE at h
  refine y_start (lv0 := [some (.ref a), none]) (nm := "copy") (own := RX5) (by decide +kernel) rfl rfl (by first | exact Nat.le_of_ble_eq_true rfl | (simp only [yArgs, va_cat_rf]; simp [Value.category])) (by first | rfl | (simp only [yArgs, va_cat_rf]; simp [Value.category])) ?_
  intro Z Q E F
  refine y_new E τ dX5_copy_0 nw_X5_8 (by omega) (by omega) (fun q hq => ?_)
  have haq : a ≠ q := g_nn h hq
  refine y_dup E dX5_copy_3 rfl ?_
  first | refine y_ald_n E dX5_copy_4 (by rfl) ?_ | refine y_aload_n E dX5_copy_4 (by rfl) ?_
  refine y_get E dX5_copy_5 fl_X5_7_X5 (gs_n haq h) (by rfl) ?_
  first | refine y_ald_n E dX5_copy_8 (by rfl) ?_ | refine y_aload_n E dX5_copy_8 (by rfl) ?_
  refine y_get E dX5_copy_9 fl_X5_13_X5 (gs_n haq h) (by rfl) ?_
  refine y_callI E dX5_copy_12 lk_X5_19 (c_X5_init (q := q) (τ := τ) (k := k) (f := f) (gset_s _ _ _)) (by rfl) (by decide) (by omega) (by omega) rfl (Nat.le_of_ble_eq_true rfl) ?_ (fun _ _ _ h => h.elim)
  rintro v G1 ⟨rfl, rfl⟩
  refine y_heap (gset_gset _ _ _ _) ?_
  first | refine y_ast_n (j := 1) E dX5_copy_15 rfl (Nat.le_of_ble_eq_true rfl) ?_ | refine y_astore_n (j := 1) E dX5_copy_15 rfl (Nat.le_of_ble_eq_true rfl) ?_ | refine y_astore_n (j := 1) (r := none) E dX5_copy_15 rfl (Nat.le_of_ble_eq_true rfl) ?_
  first | refine y_ald_n E dX5_copy_16 (by rfl) ?_ | refine y_aload_n E dX5_copy_16 (by rfl) ?_
  first | refine y_ald_n E dX5_copy_17 (by rfl) ?_ | refine y_aload_n E dX5_copy_17 (by rfl) ?_
  refine y_get E dX5_copy_18 fl_X5_16_X5 (gs_n haq h) (by rfl) ?_
  refine y_put E dX5_copy_21 fl_X5_16_X5 fw_X5_2 rfl (by rfl) (gset_s _ _ _) (Nat.le_of_ble_eq_true rfl) ?_
  refine y_heap (gset_gset _ _ _ _) ?_
  first | refine y_ald_n E dX5_copy_24 (by rfl) ?_ | refine y_aload_n E dX5_copy_24 (by rfl) ?_
  first | refine y_ald_n E dX5_copy_25 (by rfl) ?_ | refine y_aload_n E dX5_copy_25 (by rfl) ?_
  refine y_get E dX5_copy_26 fl_X5_22_X5 (gs_n haq h) (by rfl) ?_
  refine y_put E dX5_copy_29 fl_X5_22_X5 fw_X5_3 (nar_z hs) (fit_z hs) (gset_s _ _ _) (Nat.le_of_ble_eq_true rfl) ?_
  refine y_heap (gset_gset _ _ _ _) ?_
  first | refine y_ald_n E dX5_copy_32 (by rfl) ?_ | refine y_aload_n E dX5_copy_32 (by rfl) ?_
  refine y_areturn (r := some q) E F rfl (Or.inl ⟨_, rfl⟩) dX5_copy_33 (by omega) (by omega) ⟨q, hq, rfl, rfl⟩
theorem c_X5_wear {G : yH} {a : Nat} {τ : Nat × Nat} {k f p s b : Int} (h : G a = some (some τ, lnE k f p s)) (hp : 0 ≤ p ∧ p ≤ 1000) (hb : 0 ≤ b ∧ b ≤ 1000) : Ct_X5_wear Γ 1 0 0 [.ref a, .int (iI b)] G (fun v G' => v = none ∧ G' = gset G a (some τ, lnE k f (max 0 (p - b)) s)) noX := by
  unfold lnE at h
  refine y_start (lv0 := [some (.ref a), some (.int (iI b))]) (nm := "wear") (own := RX5) (by decide +kernel) rfl rfl (by first | exact Nat.le_of_ble_eq_true rfl | (simp only [yArgs, va_cat_rf]; simp [Value.category])) (by first | rfl | (simp only [yArgs, va_cat_rf]; simp [Value.category])) ?_
  intro Z Q E F
  first | refine y_ald_n E dX5_wear_0 (by rfl) ?_ | refine y_aload_n E dX5_wear_0 (by rfl) ?_
  refine y_iconst E dX5_wear_1 ?_
  first | refine y_ald_n E dX5_wear_2 (by rfl) ?_ | refine y_aload_n E dX5_wear_2 (by rfl) ?_
  refine y_get E dX5_wear_3 fl_X5_16_X5 (h) (by rfl) ?_
  refine y_iload_n E dX5_wear_6 (by rfl) ?_
  refine y_isub E dX5_wear_7 ?_
  refine y_mmax E dX5_wear_8 q1754 (by omega) (by omega) (by decide) (by omega) (by omega) (Nat.le_of_ble_eq_true rfl) ?_
  refine y_put E dX5_wear_11 fl_X5_16_X5 fw_X5_2 rfl (by rfl) (h) (Nat.le_of_ble_eq_true rfl) ?_
  refine y_return E F rfl dX5_wear_14 (by omega) (by omega) ⟨rfl, rfl⟩
theorem c_X5_rest {G : yH} {a : Nat} {τ : Nat × Nat} {k f p s : Int} (h : G a = some (some τ, lnE k f p s)) (hp : 0 ≤ p ∧ p ≤ 1000) (hf : 0 ≤ f ∧ f ≤ 1000) : Ct_X5_rest Γ 1 0 0 [.ref a] G (fun v G' => v = none ∧ G' = gset G a (some τ, lnE k f (min f (p + 1)) s)) noX := by
  unfold lnE at h
  refine y_start (lv0 := [some (.ref a)]) (nm := "rest") (own := RX5) (by decide +kernel) rfl rfl (by first | exact Nat.le_of_ble_eq_true rfl | (simp only [yArgs, va_cat_rf]; simp [Value.category])) (by first | rfl | (simp only [yArgs, va_cat_rf]; simp [Value.category])) ?_
  intro Z Q E F
  first | refine y_ald_n E dX5_rest_0 (by rfl) ?_ | refine y_aload_n E dX5_rest_0 (by rfl) ?_
  first | refine y_ald_n E dX5_rest_1 (by rfl) ?_ | refine y_aload_n E dX5_rest_1 (by rfl) ?_
  refine y_get E dX5_rest_2 fl_X5_13_X5 (h) (by rfl) ?_
  first | refine y_ald_n E dX5_rest_5 (by rfl) ?_ | refine y_aload_n E dX5_rest_5 (by rfl) ?_
  refine y_get E dX5_rest_6 fl_X5_16_X5 (h) (by rfl) ?_
  refine y_iconst E dX5_rest_9 ?_
  refine y_iadd E dX5_rest_10 ?_
  refine y_mmin E dX5_rest_11 q1759 (by omega) (by omega) (by decide) (by omega) (by omega) (Nat.le_of_ble_eq_true rfl) ?_
  refine y_put E dX5_rest_14 fl_X5_16_X5 fw_X5_2 rfl (by rfl) (h) (Nat.le_of_ble_eq_true rfl) ?_
  refine y_return E F rfl dX5_rest_17 (by omega) (by omega) ⟨rfl, rfl⟩
end Small
