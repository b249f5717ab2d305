/-! ===== Command, Tower ===== -/
def cmE (c a b m : Int) : yE := .inr (7, [.int (iI c), .int (iI a), .int (iI b), .int (iI m)])
/-- a tower: number, place, side, skill, signs, many, lens, lit, broken -/
def twE (k p : Int) (sd : Nat) (sk sg mn : Int) (ln : Option Nat) (lit br : Int) : yE := .inr (2, [.int (iI k), .int (iI p), .ref sd, .int (iI sk), .int (iI sg), .int (iI mn), va_rf ln, .int (iI lit), .int (iI br)])
section Tow
variable {Γ : yG}
set_option maxHeartbeats 4000000
theorem c_X8_init {G : yH} {q : Nat} {τ : Nat × Nat} {c a b m : Int} (h : G q = some (some τ, cmE 0 0 0 0)) (hc : 0 ≤ c ∧ c < 65536) : Ct_X8_init Γ 1 0 0 [.ref q, .int (iI c), .int (iI a), .int (iI b), .int (iI m)] G (fun v G' => v = none ∧ G' = gset G q (some τ, cmE c a b m)) noX := by
  unfold cmE at h
  refine y_start (lv0 := [some (.ref q), some (.int (iI c)), some (.int (iI a)), some (.int (iI b)), some (.int (iI m))]) (nm := "<init>") (own := RX8) (by decide +kernel) rfl rfl (by first | exact Nat.le_of_ble_eq_true rfl | (simp only [yArgs, va_cat_rf]; simp [Value.category])) (by first | rfl | (simp only [yArgs, va_cat_rf]; simp [Value.category])) ?_
  intro Z Q E F
  first | refine y_ald_n E dX8_init_0 (by rfl) ?_ | refine y_aload_n E dX8_init_0 (by rfl) ?_
  refine y_objInit E dX8_init_1 q2289 q167 q168 (by decide) (Nat.le_of_ble_eq_true rfl) ?_
  first | refine y_ald_n E dX8_init_4 (by rfl) ?_ | refine y_aload_n E dX8_init_4 (by rfl) ?_
  refine y_iload_n E dX8_init_5 (by rfl) ?_
  refine y_putF E dX8_init_6 fl_X8_7_X8 fw_X8_0 (fun q h => by cases h; rfl) (nar_c hc) (fit_c hc) (h) (Nat.le_of_ble_eq_true rfl) ?_
  first | refine y_ald_n E dX8_init_9 (by rfl) ?_ | refine y_aload_n E dX8_init_9 (by rfl) ?_
  refine y_iload_n E dX8_init_10 (by rfl) ?_
  refine y_putF E dX8_init_11 fl_X8_13_X8 fw_X8_1 (fun q h => by cases h; rfl) rfl (by rfl) (gset_s _ _ _) (Nat.le_of_ble_eq_true rfl) ?_
  refine y_heap (gset_gset _ _ _ _) ?_
  first | refine y_ald_n E dX8_init_14 (by rfl) ?_ | refine y_aload_n E dX8_init_14 (by rfl) ?_
  refine y_iload_n E dX8_init_15 (by rfl) ?_
  refine y_putF E dX8_init_16 fl_X8_17_X8 fw_X8_2 (fun q h => by cases h; rfl) rfl (by rfl) (gset_s _ _ _) (Nat.le_of_ble_eq_true rfl) ?_
  refine y_heap (gset_gset _ _ _ _) ?_
  first | refine y_ald_n E dX8_init_19 (by rfl) ?_ | refine y_aload_n E dX8_init_19 (by rfl) ?_
  refine y_iload E dX8_init_20 (by rfl) ?_
  refine y_putF E dX8_init_22 fl_X8_20_X8 fw_X8_3 (fun q h => by cases h; rfl) rfl (by rfl) (gset_s _ _ _) (Nat.le_of_ble_eq_true rfl) ?_
  refine y_heap (gset_gset _ _ _ _) ?_
  refine y_return E F rfl dX8_init_25 (by omega) (by omega) ⟨rfl, rfl⟩
theorem c_X6_init {G : yH} {q sd : Nat} {τ : Nat × Nat} {k p sk : Int} (h : G q = some (some τ, .inr (2, [.int (iI 0), .int (iI 0), .null, .int (iI 0), .int (iI 0), .int (iI 0), .null, .int (iI 0), .int (iI 0)]))) : Ct_X6_init Γ 1 0 0 [.ref q, .int (iI k), .int (iI p), .ref sd, .int (iI sk)] G (fun v G' => v = none ∧ G' = gset G q (some τ, twE k p sd sk 2 2 none 0 0)) noX := by
  refine y_start (lv0 := [some (.ref q), some (.int (iI k)), some (.int (iI p)), some (.ref sd), some (.int (iI sk))]) (nm := "<init>") (own := RX6) (by decide +kernel) rfl rfl (by first | exact Nat.le_of_ble_eq_true rfl | (simp only [yArgs, va_cat_rf]; simp [Value.category])) (by first | rfl | (simp only [yArgs, va_cat_rf]; simp [Value.category])) ?_
  intro Z Q E F
  first | refine y_ald_n E dX6_init_0 (by rfl) ?_ | refine y_aload_n E dX6_init_0 (by rfl) ?_
  refine y_objInit E dX6_init_1 q1018 q167 q168 (by decide) (Nat.le_of_ble_eq_true rfl) ?_
  first | refine y_ald_n E dX6_init_4 (by rfl) ?_ | refine y_aload_n E dX6_init_4 (by rfl) ?_
  refine y_iconst E dX6_init_5 ?_
  refine y_put E dX6_init_6 fl_X6_9_X6 fw_X6_4 rfl (by rfl) (h) (Nat.le_of_ble_eq_true rfl) ?_
  first | refine y_ald_n E dX6_init_9 (by rfl) ?_ | refine y_aload_n E dX6_init_9 (by rfl) ?_
  refine y_iconst E dX6_init_10 ?_
  refine y_put E dX6_init_11 fl_X6_15_X6 fw_X6_5 rfl (by rfl) (gset_s _ _ _) (Nat.le_of_ble_eq_true rfl) ?_
  refine y_heap (gset_gset _ _ _ _) ?_
  first | refine y_ald_n E dX6_init_14 (by rfl) ?_ | refine y_aload_n E dX6_init_14 (by rfl) ?_
  refine y_iload_n E dX6_init_15 (by rfl) ?_
  refine y_putF E dX6_init_16 fl_X6_18_X6 fw_X6_0 (fun q h => by cases h; rfl) rfl (by rfl) (gset_s _ _ _) (Nat.le_of_ble_eq_true rfl) ?_
  refine y_heap (gset_gset _ _ _ _) ?_
  first | refine y_ald_n E dX6_init_19 (by rfl) ?_ | refine y_aload_n E dX6_init_19 (by rfl) ?_
  refine y_iload_n E dX6_init_20 (by rfl) ?_
  refine y_putF E dX6_init_21 fl_X6_21_X6 fw_X6_1 (fun q h => by cases h; rfl) rfl (by rfl) (gset_s _ _ _) (Nat.le_of_ble_eq_true rfl) ?_
  refine y_heap (gset_gset _ _ _ _) ?_
  first | refine y_ald_n E dX6_init_24 (by rfl) ?_ | refine y_aload_n E dX6_init_24 (by rfl) ?_
  first | refine y_ald_n E dX6_init_25 (by rfl) ?_ | refine y_aload_n E dX6_init_25 (by rfl) ?_
  refine y_putF E dX6_init_26 fl_X6_24_X6 fw_X6_2 (fun q h => by cases h; rfl) (by first | rfl | exact nar_r _ _) (by first | rfl | exact fit_r _ _) (gset_s _ _ _) (Nat.le_of_ble_eq_true rfl) ?_
  refine y_heap (gset_gset _ _ _ _) ?_
  first | refine y_ald_n E dX6_init_29 (by rfl) ?_ | refine y_aload_n E dX6_init_29 (by rfl) ?_
  refine y_iload E dX6_init_30 (by rfl) ?_
  refine y_putF E dX6_init_32 fl_X6_28_X6 fw_X6_3 (fun q h => by cases h; rfl) rfl (by rfl) (gset_s _ _ _) (Nat.le_of_ble_eq_true rfl) ?_
  refine y_heap (gset_gset _ _ _ _) ?_
  refine y_return E F rfl dX6_init_35 (by omega) (by omega) ⟨rfl, rfl⟩
theorem c_X6_copy {G : yH} {a sd : Nat} {t : yT} (τ : Nat × Nat) {k p sk sg mn lit br : Int} {ln : Option Nat} (h : G a = some (t, twE k p sd sk sg mn ln lit br)) (hl : lit = 0 ∨ lit = 1) (hb : br = 0 ∨ br = 1) : Ct_X6_copy Γ 2 1 9 [.ref a] G (fun v G' => ∃ q, G q = none ∧ v = some (.ref q) ∧ G' = gset G q (some τ, twE k p sd sk sg mn none lit br)) noX := by
  unfold twE at h
  refine y_start (lv0 := [some (.ref a), none]) (nm := "copy") (own := RX6) (by decide +kernel) rfl rfl (by first | exact Nat.le_of_ble_eq_true rfl | (simp only [yArgs, va_cat_rf]; simp [Value.category])) (by first | rfl | (simp only [yArgs, va_cat_rf]; simp [Value.category])) ?_
  intro Z Q E F
  refine y_new E τ dX6_copy_0 nw_X6_10 (by omega) (by omega) (fun q hq => ?_)
  have haq : a ≠ q := g_nn h hq
  refine y_dup E dX6_copy_3 rfl ?_
  first | refine y_ald_n E dX6_copy_4 (by rfl) ?_ | refine y_aload_n E dX6_copy_4 (by rfl) ?_
  refine y_get E dX6_copy_5 fl_X6_18_X6 (gs_n haq h) (by rfl) ?_
  first | refine y_ald_n E dX6_copy_8 (by rfl) ?_ | refine y_aload_n E dX6_copy_8 (by rfl) ?_
  refine y_get E dX6_copy_9 fl_X6_21_X6 (gs_n haq h) (by rfl) ?_
  first | refine y_ald_n E dX6_copy_12 (by rfl) ?_ | refine y_aload_n E dX6_copy_12 (by rfl) ?_
  refine y_get E dX6_copy_13 fl_X6_24_X6 (gs_n haq h) (by rfl) ?_
  first | refine y_ald_n E dX6_copy_16 (by rfl) ?_ | refine y_aload_n E dX6_copy_16 (by rfl) ?_
  refine y_get E dX6_copy_17 fl_X6_28_X6 (gs_n haq h) (by rfl) ?_
  refine y_callI E dX6_copy_20 lk_X6_31 (c_X6_init (q := q) (τ := τ) (k := k) (p := p) (sd := sd) (sk := sk) (gset_s _ _ _)) (by rfl) (by decide) (by omega) (by omega) rfl (Nat.le_of_ble_eq_true rfl) ?_ (fun _ _ _ h => h.elim)
  rintro v G1 ⟨rfl, rfl⟩
  refine y_heap (gset_gset _ _ _ _) ?_
  first | refine y_ast_n (j := 1) E dX6_copy_23 rfl (Nat.le_of_ble_eq_true rfl) ?_ | refine y_astore_n (j := 1) E dX6_copy_23 rfl (Nat.le_of_ble_eq_true rfl) ?_ | refine y_astore_n (j := 1) (r := none) E dX6_copy_23 rfl (Nat.le_of_ble_eq_true rfl) ?_
  first | refine y_ald_n E dX6_copy_24 (by rfl) ?_ | refine y_aload_n E dX6_copy_24 (by rfl) ?_
  first | refine y_ald_n E dX6_copy_25 (by rfl) ?_ | refine y_aload_n E dX6_copy_25 (by rfl) ?_
  refine y_get E dX6_copy_26 fl_X6_9_X6 (gs_n haq h) (by rfl) ?_
  refine y_put E dX6_copy_29 fl_X6_9_X6 fw_X6_4 rfl (by rfl) (gset_s _ _ _) (Nat.le_of_ble_eq_true rfl) ?_
  refine y_heap (gset_gset _ _ _ _) ?_
  first | refine y_ald_n E dX6_copy_32 (by rfl) ?_ | refine y_aload_n E dX6_copy_32 (by rfl) ?_
  first | refine y_ald_n E dX6_copy_33 (by rfl) ?_ | refine y_aload_n E dX6_copy_33 (by rfl) ?_
  refine y_get E dX6_copy_34 fl_X6_15_X6 (gs_n haq h) (by rfl) ?_
  refine y_put E dX6_copy_37 fl_X6_15_X6 fw_X6_5 rfl (by rfl) (gset_s _ _ _) (Nat.le_of_ble_eq_true rfl) ?_
  refine y_heap (gset_gset _ _ _ _) ?_
  first | refine y_ald_n E dX6_copy_40 (by rfl) ?_ | refine y_aload_n E dX6_copy_40 (by rfl) ?_
  first | refine y_ald_n E dX6_copy_41 (by rfl) ?_ | refine y_aload_n E dX6_copy_41 (by rfl) ?_
  refine y_get E dX6_copy_42 fl_X6_34_X6 (gs_n haq h) (by rfl) ?_
  refine y_put E dX6_copy_45 fl_X6_34_X6 fw_X6_7 (nar_z hl) (fit_z hl) (gset_s _ _ _) (Nat.le_of_ble_eq_true rfl) ?_
  refine y_heap (gset_gset _ _ _ _) ?_
  first | refine y_ald_n E dX6_copy_48 (by rfl) ?_ | refine y_aload_n E dX6_copy_48 (by rfl) ?_
  first | refine y_ald_n E dX6_copy_49 (by rfl) ?_ | refine y_aload_n E dX6_copy_49 (by rfl) ?_
  refine y_get E dX6_copy_50 fl_X6_38_X6 (gs_n haq h) (by rfl) ?_
  refine y_put E dX6_copy_53 fl_X6_38_X6 fw_X6_8 (nar_z hb) (fit_z hb) (gset_s _ _ _) (Nat.le_of_ble_eq_true rfl) ?_
  refine y_heap (gset_gset _ _ _ _) ?_
  first | refine y_ald_n E dX6_copy_56 (by rfl) ?_ | refine y_aload_n E dX6_copy_56 (by rfl) ?_
  refine y_areturn (r := some q) E F rfl (Or.inl ⟨_, rfl⟩) dX6_copy_57 (by omega) (by omega) ⟨q, hq, rfl, rfl⟩
theorem c_X6_isWeak_n {G : yH} {a sd : Nat} {t : yT} {k p sk sg mn lit br : Int} (h : G a = some (t, twE k p sd sk sg mn none lit br)) : Ct_X6_isWeak Γ 1 0 0 [.ref a] G (fun v G' => v = some (.int (iI (b2i true))) ∧ G' = G) noX := by
  unfold twE at h
  refine y_start (lv0 := [some (.ref a)]) (nm := "isWeak") (own := RX6) (by decide +kernel) rfl rfl (by first | exact Nat.le_of_ble_eq_true rfl | (simp only [yArgs, va_cat_rf]; simp [Value.category])) (by first | rfl | (simp only [yArgs, va_cat_rf]; simp [Value.category])) ?_
  intro Z Q E F
  first | refine y_ald_n E dX6_isWeak_0 (by rfl) ?_ | refine y_aload_n E dX6_isWeak_0 (by rfl) ?_
  refine y_get E dX6_isWeak_1 fl_X6_45_X6 (h) (by rfl) ?_
  refine y_ifnull_n (tgt := 18) E dX6_isWeak_4 (by decide) ?_
  refine y_iconst E dX6_isWeak_18 ?_
  refine y_goto (tgt := 23) E dX6_isWeak_19 (by decide) ?_
  refine y_top (v' := .int (iI (b2i true))) rfl ?_
  refine y_ireturn E F rfl (nar_b _) dX6_isWeak_23 (by omega) (by omega) ⟨rfl, rfl⟩
theorem c_X6_isWeak_s {G : yH} {a sd l : Nat} {t t' : yT} {k p sk sg mn lit br lk lf lp ls : Int} (h : G a = some (t, twE k p sd sk sg mn (some l) lit br)) (hl : G l = some (t', lnE lk lf lp ls)) (hp : inR lp) : Ct_X6_isWeak Γ 1 0 0 [.ref a] G (fun v G' => v = some (.int (iI (b2i (decide (lp < 5))))) ∧ G' = G) noX := by
  unfold twE at h
  unfold lnE at hl
  refine y_start (lv0 := [some (.ref a)]) (nm := "isWeak") (own := RX6) (by decide +kernel) rfl rfl (by first | exact Nat.le_of_ble_eq_true rfl | (simp only [yArgs, va_cat_rf]; simp [Value.category])) (by first | rfl | (simp only [yArgs, va_cat_rf]; simp [Value.category])) ?_
  intro Z Q E F
  first | refine y_ald_n E dX6_isWeak_0 (by rfl) ?_ | refine y_aload_n E dX6_isWeak_0 (by rfl) ?_
  refine y_get E dX6_isWeak_1 fl_X6_45_X6 (h) (by rfl) ?_
  refine y_ifnull_r E dX6_isWeak_4 ?_
  first | refine y_ald_n E dX6_isWeak_7 (by rfl) ?_ | refine y_aload_n E dX6_isWeak_7 (by rfl) ?_
  refine y_get E dX6_isWeak_8 fl_X6_45_X6 (h) (by rfl) ?_
  refine y_getN E dX6_isWeak_11 fl_X6_49_X5 (hl) (by rfl) ?_
  refine y_iconst E dX6_isWeak_14 ?_
  refine y_icmp_ge (tgt := 22) E dX6_isWeak_15 (by decide) (by omega) (by omega) (fun hb => ?_) (fun hb => ?_)
  · refine y_iconst E dX6_isWeak_22 ?_
    refine y_top (v' := .int (iI (b2i (decide (lp < 5))))) (by rw [decide_eq_false (by omega)]; rfl) ?_
    refine y_ireturn E F rfl (nar_b _) dX6_isWeak_23 (by omega) (by omega) ⟨rfl, rfl⟩
  · refine y_iconst E dX6_isWeak_18 ?_
    refine y_goto (tgt := 23) E dX6_isWeak_19 (by decide) ?_
    refine y_top (v' := .int (iI (b2i (decide (lp < 5))))) (by rw [decide_eq_true (by omega)]; rfl) ?_
    refine y_ireturn E F rfl (nar_b _) dX6_isWeak_23 (by omega) (by omega) ⟨rfl, rfl⟩
end Tow
