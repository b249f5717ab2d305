/-! ===== the twin: its making (printed by gen/mk79.py) ===== -/
section Ini
variable {Γ : yG}
set_option maxHeartbeats 4000000
def T00 : Nat → Int → Int := fun k => if k = 24 then fun _ => -1 else fun _ => 0
theorem c_X3_init {G : yH} {a : Nat} (h : G a = some (some (1, 0), .inr (5, [.int (iI 0), .int (iI 0), .int (iI 0), .int (iI 0), .null, .null, .null, .null, .null, .int (iI 0), .int (iI 0), .int (iI 0), .null, .null, .int (iI 0), .null, .null, .int (iI 0), .int (iI 0), .null, .null, .null, .int (iI 0), .int (iI 0), .int (iI 0)]))) : Ct_X3_init Γ 1 12 1608 [.ref a] G (fun v G' => v = none ∧ ∃ A : Nat → Nat, A 0 = a ∧ mA A ∧ isM A T00 G' ∧ gK (· = (1, 0)) G G') noX := by
  refine y_start (lv0 := [some (.ref a)]) (nm := "<init>") (own := RX3) (by decide +kernel) rfl rfl (by first | exact Nat.le_of_ble_eq_true rfl | (simp only [yArgs, va_cat_rf]; simp [Value.category])) (by first | rfl | (simp only [yArgs, va_cat_rf]; simp [Value.category])) ?_
  intro Z Q E F
  first | refine y_ald_n E dX3_init_0 (by rfl) ?_ | refine y_aload_n E dX3_init_0 (by rfl) ?_
  refine y_objInit E dX3_init_1 q2530 q167 q168 (by decide) (Nat.le_of_ble_eq_true rfl) ?_
  have K0 : gK (· = (1, 0)) G G := gK_r _ _
  first | refine y_ald_n E dX3_init_4 (by rfl) ?_ | refine y_aload_n E dX3_init_4 (by rfl) ?_
  refine y_iconst E dX3_init_5 ?_
  refine y_newI E (1,0) q258 dX3_init_6 (by omega) (by omega) (by omega) (fun q4 hq4 => ?_)
  have na4 : a ≠ q4 := g_nn h hq4
  refine y_putF E dX3_init_8 fl_X3_7_X3 fw_X3_4 (fun q h => by cases h; rfl) (by first | rfl | exact nar_r _ _) (by first | rfl | exact fit_r _ _) (gs_n na4 h) (Nat.le_of_ble_eq_true rfl) ?_
  obtain ⟨H1, e1⟩ : ∃ H, H = gset (gset G q4 (some (1, 0), aI 0 4 (fun _ => 0))) a (some (1, 0), .inr (5, [.int (iI 0), .int (iI 0), .int (iI 0), .int (iI 0), .ref q4, .null, .null, .null, .null, .int (iI 0), .int (iI 0), .int (iI 0), .null, .null, .int (iI 0), .null, .null, .int (iI 0), .int (iI 0), .null, .null, .null, .int (iI 0), .int (iI 0), .int (iI 0)])) := ⟨_, rfl⟩
  refine y_heap (show _ = H1 from e1.symm) ?_
  have fa_1 : H1 a = some (some (1, 0), .inr (5, [.int (iI 0), .int (iI 0), .int (iI 0), .int (iI 0), .ref q4, .null, .null, .null, .null, .int (iI 0), .int (iI 0), .int (iI 0), .null, .null, .int (iI 0), .null, .null, .int (iI 0), .int (iI 0), .null, .null, .null, .int (iI 0), .int (iI 0), .int (iI 0)])) := by rw [e1, gset_s]
  have f4_1 : H1 q4 = some (some (1, 0), aI 0 4 (fun _ => 0)) := by rw [e1]; exact gs_n na4.symm (gset_s _ _ _)
  have K1 : gK (· = (1, 0)) G H1 := by rw [e1]; exact gK_t K0 (gK_t (gK_n _ hq4) (gK_w _ (gs_n na4 h) rfl))
  first | refine y_ald_n E dX3_init_11 (by rfl) ?_ | refine y_aload_n E dX3_init_11 (by rfl) ?_
  refine y_sipush E dX3_init_12 (by decide) ?_
  refine y_newI E (1,0) q258 dX3_init_15 (by omega) (by omega) (by omega) (fun q5 hq5 => ?_)
  have na5 : a ≠ q5 := g_nn fa_1 hq5
  have n4_5 : q4 ≠ q5 := g_nn f4_1 hq5
  refine y_putF E dX3_init_17 fl_X3_13_X3 fw_X3_5 (fun q h => by cases h; rfl) (by first | rfl | exact nar_r _ _) (by first | rfl | exact fit_r _ _) (gs_n na5 fa_1) (Nat.le_of_ble_eq_true rfl) ?_
  obtain ⟨H2, e2⟩ : ∃ H, H = gset (gset H1 q5 (some (1, 0), aI 0 128 (fun _ => 0))) a (some (1, 0), .inr (5, [.int (iI 0), .int (iI 0), .int (iI 0), .int (iI 0), .ref q4, .ref q5, .null, .null, .null, .int (iI 0), .int (iI 0), .int (iI 0), .null, .null, .int (iI 0), .null, .null, .int (iI 0), .int (iI 0), .null, .null, .null, .int (iI 0), .int (iI 0), .int (iI 0)])) := ⟨_, rfl⟩
  refine y_heap (show _ = H2 from e2.symm) ?_
  have fa_2 : H2 a = some (some (1, 0), .inr (5, [.int (iI 0), .int (iI 0), .int (iI 0), .int (iI 0), .ref q4, .ref q5, .null, .null, .null, .int (iI 0), .int (iI 0), .int (iI 0), .null, .null, .int (iI 0), .null, .null, .int (iI 0), .int (iI 0), .null, .null, .null, .int (iI 0), .int (iI 0), .int (iI 0)])) := by rw [e2, gset_s]
  have f5_2 : H2 q5 = some (some (1, 0), aI 0 128 (fun _ => 0)) := by rw [e2]; exact gs_n na5.symm (gset_s _ _ _)
  have f4_2 : H2 q4 = some (some (1, 0), aI 0 4 (fun _ => 0)) := by rw [e2]; exact gs_n na4.symm (gs_n n4_5 f4_1)
  have K2 : gK (· = (1, 0)) G H2 := by rw [e2]; exact gK_t K1 (gK_t (gK_n _ hq5) (gK_w _ (gs_n na5 fa_1) rfl))
  first | refine y_ald_n E dX3_init_20 (by rfl) ?_ | refine y_aload_n E dX3_init_20 (by rfl) ?_
  refine y_sipush E dX3_init_21 (by decide) ?_
  refine y_newI E (1,0) q258 dX3_init_24 (by omega) (by omega) (by omega) (fun q6 hq6 => ?_)
  have na6 : a ≠ q6 := g_nn fa_2 hq6
  have n4_6 : q4 ≠ q6 := g_nn f4_2 hq6
  have n5_6 : q5 ≠ q6 := g_nn f5_2 hq6
  refine y_putF E dX3_init_26 fl_X3_16_X3 fw_X3_6 (fun q h => by cases h; rfl) (by first | rfl | exact nar_r _ _) (by first | rfl | exact fit_r _ _) (gs_n na6 fa_2) (Nat.le_of_ble_eq_true rfl) ?_
  obtain ⟨H3, e3⟩ : ∃ H, H = gset (gset H2 q6 (some (1, 0), aI 0 1024 (fun _ => 0))) a (some (1, 0), .inr (5, [.int (iI 0), .int (iI 0), .int (iI 0), .int (iI 0), .ref q4, .ref q5, .ref q6, .null, .null, .int (iI 0), .int (iI 0), .int (iI 0), .null, .null, .int (iI 0), .null, .null, .int (iI 0), .int (iI 0), .null, .null, .null, .int (iI 0), .int (iI 0), .int (iI 0)])) := ⟨_, rfl⟩
  refine y_heap (show _ = H3 from e3.symm) ?_
  have fa_3 : H3 a = some (some (1, 0), .inr (5, [.int (iI 0), .int (iI 0), .int (iI 0), .int (iI 0), .ref q4, .ref q5, .ref q6, .null, .null, .int (iI 0), .int (iI 0), .int (iI 0), .null, .null, .int (iI 0), .null, .null, .int (iI 0), .int (iI 0), .null, .null, .null, .int (iI 0), .int (iI 0), .int (iI 0)])) := by rw [e3, gset_s]
  have f6_3 : H3 q6 = some (some (1, 0), aI 0 1024 (fun _ => 0)) := by rw [e3]; exact gs_n na6.symm (gset_s _ _ _)
  have f4_3 : H3 q4 = some (some (1, 0), aI 0 4 (fun _ => 0)) := by rw [e3]; exact gs_n na4.symm (gs_n n4_6 f4_2)
  have f5_3 : H3 q5 = some (some (1, 0), aI 0 128 (fun _ => 0)) := by rw [e3]; exact gs_n na5.symm (gs_n n5_6 f5_2)
  have K3 : gK (· = (1, 0)) G H3 := by rw [e3]; exact gK_t K2 (gK_t (gK_n _ hq6) (gK_w _ (gs_n na6 fa_2) rfl))
  first | refine y_ald_n E dX3_init_29 (by rfl) ?_ | refine y_aload_n E dX3_init_29 (by rfl) ?_
  refine y_sipush E dX3_init_30 (by decide) ?_
  refine y_newI E (1,0) q258 dX3_init_33 (by omega) (by omega) (by omega) (fun q7 hq7 => ?_)
  have na7 : a ≠ q7 := g_nn fa_3 hq7
  have n4_7 : q4 ≠ q7 := g_nn f4_3 hq7
  have n5_7 : q5 ≠ q7 := g_nn f5_3 hq7
  have n6_7 : q6 ≠ q7 := g_nn f6_3 hq7
  refine y_putF E dX3_init_35 fl_X3_19_X3 fw_X3_7 (fun q h => by cases h; rfl) (by first | rfl | exact nar_r _ _) (by first | rfl | exact fit_r _ _) (gs_n na7 fa_3) (Nat.le_of_ble_eq_true rfl) ?_
  obtain ⟨H4, e4⟩ : ∃ H, H = gset (gset H3 q7 (some (1, 0), aI 0 128 (fun _ => 0))) a (some (1, 0), .inr (5, [.int (iI 0), .int (iI 0), .int (iI 0), .int (iI 0), .ref q4, .ref q5, .ref q6, .ref q7, .null, .int (iI 0), .int (iI 0), .int (iI 0), .null, .null, .int (iI 0), .null, .null, .int (iI 0), .int (iI 0), .null, .null, .null, .int (iI 0), .int (iI 0), .int (iI 0)])) := ⟨_, rfl⟩
  refine y_heap (show _ = H4 from e4.symm) ?_
  have fa_4 : H4 a = some (some (1, 0), .inr (5, [.int (iI 0), .int (iI 0), .int (iI 0), .int (iI 0), .ref q4, .ref q5, .ref q6, .ref q7, .null, .int (iI 0), .int (iI 0), .int (iI 0), .null, .null, .int (iI 0), .null, .null, .int (iI 0), .int (iI 0), .null, .null, .null, .int (iI 0), .int (iI 0), .int (iI 0)])) := by rw [e4, gset_s]
  have f7_4 : H4 q7 = some (some (1, 0), aI 0 128 (fun _ => 0)) := by rw [e4]; exact gs_n na7.symm (gset_s _ _ _)
  have f4_4 : H4 q4 = some (some (1, 0), aI 0 4 (fun _ => 0)) := by rw [e4]; exact gs_n na4.symm (gs_n n4_7 f4_3)
  have f5_4 : H4 q5 = some (some (1, 0), aI 0 128 (fun _ => 0)) := by rw [e4]; exact gs_n na5.symm (gs_n n5_7 f5_3)
  have f6_4 : H4 q6 = some (some (1, 0), aI 0 1024 (fun _ => 0)) := by rw [e4]; exact gs_n na6.symm (gs_n n6_7 f6_3)
  have K4 : gK (· = (1, 0)) G H4 := by rw [e4]; exact gK_t K3 (gK_t (gK_n _ hq7) (gK_w _ (gs_n na7 fa_3) rfl))
  first | refine y_ald_n E dX3_init_38 (by rfl) ?_ | refine y_aload_n E dX3_init_38 (by rfl) ?_
  refine y_sipush E dX3_init_39 (by decide) ?_
  refine y_newI E (1,0) q258 dX3_init_42 (by omega) (by omega) (by omega) (fun q8 hq8 => ?_)
  have na8 : a ≠ q8 := g_nn fa_4 hq8
  have n4_8 : q4 ≠ q8 := g_nn f4_4 hq8
  have n5_8 : q5 ≠ q8 := g_nn f5_4 hq8
  have n6_8 : q6 ≠ q8 := g_nn f6_4 hq8
  have n7_8 : q7 ≠ q8 := g_nn f7_4 hq8
  refine y_putF E dX3_init_44 fl_X3_22_X3 fw_X3_8 (fun q h => by cases h; rfl) (by first | rfl | exact nar_r _ _) (by first | rfl | exact fit_r _ _) (gs_n na8 fa_4) (Nat.le_of_ble_eq_true rfl) ?_
  obtain ⟨H5, e5⟩ : ∃ H, H = gset (gset H4 q8 (some (1, 0), aI 0 128 (fun _ => 0))) a (some (1, 0), .inr (5, [.int (iI 0), .int (iI 0), .int (iI 0), .int (iI 0), .ref q4, .ref q5, .ref q6, .ref q7, .ref q8, .int (iI 0), .int (iI 0), .int (iI 0), .null, .null, .int (iI 0), .null, .null, .int (iI 0), .int (iI 0), .null, .null, .null, .int (iI 0), .int (iI 0), .int (iI 0)])) := ⟨_, rfl⟩
  refine y_heap (show _ = H5 from e5.symm) ?_
  have fa_5 : H5 a = some (some (1, 0), .inr (5, [.int (iI 0), .int (iI 0), .int (iI 0), .int (iI 0), .ref q4, .ref q5, .ref q6, .ref q7, .ref q8, .int (iI 0), .int (iI 0), .int (iI 0), .null, .null, .int (iI 0), .null, .null, .int (iI 0), .int (iI 0), .null, .null, .null, .int (iI 0), .int (iI 0), .int (iI 0)])) := by rw [e5, gset_s]
  have f8_5 : H5 q8 = some (some (1, 0), aI 0 128 (fun _ => 0)) := by rw [e5]; exact gs_n na8.symm (gset_s _ _ _)
  have f4_5 : H5 q4 = some (some (1, 0), aI 0 4 (fun _ => 0)) := by rw [e5]; exact gs_n na4.symm (gs_n n4_8 f4_4)
  have f5_5 : H5 q5 = some (some (1, 0), aI 0 128 (fun _ => 0)) := by rw [e5]; exact gs_n na5.symm (gs_n n5_8 f5_4)
  have f6_5 : H5 q6 = some (some (1, 0), aI 0 1024 (fun _ => 0)) := by rw [e5]; exact gs_n na6.symm (gs_n n6_8 f6_4)
  have f7_5 : H5 q7 = some (some (1, 0), aI 0 128 (fun _ => 0)) := by rw [e5]; exact gs_n na7.symm (gs_n n7_8 f7_4)
  have K5 : gK (· = (1, 0)) G H5 := by rw [e5]; exact gK_t K4 (gK_t (gK_n _ hq8) (gK_w _ (gs_n na8 fa_4) rfl))
  first | refine y_ald_n E dX3_init_47 (by rfl) ?_ | refine y_aload_n E dX3_init_47 (by rfl) ?_
  refine y_bipush E dX3_init_48 (by decide) ?_
  refine y_newI E (1,0) q258 dX3_init_50 (by omega) (by omega) (by omega) (fun q12 hq12 => ?_)
  have na12 : a ≠ q12 := g_nn fa_5 hq12
  have n4_12 : q4 ≠ q12 := g_nn f4_5 hq12
  have n5_12 : q5 ≠ q12 := g_nn f5_5 hq12
  have n6_12 : q6 ≠ q12 := g_nn f6_5 hq12
  have n7_12 : q7 ≠ q12 := g_nn f7_5 hq12
  have n8_12 : q8 ≠ q12 := g_nn f8_5 hq12
  refine y_putF E dX3_init_52 fl_X3_25_X3 fw_X3_12 (fun q h => by cases h; rfl) (by first | rfl | exact nar_r _ _) (by first | rfl | exact fit_r _ _) (gs_n na12 fa_5) (Nat.le_of_ble_eq_true rfl) ?_
  obtain ⟨H6, e6⟩ : ∃ H, H = gset (gset H5 q12 (some (1, 0), aI 0 8 (fun _ => 0))) a (some (1, 0), .inr (5, [.int (iI 0), .int (iI 0), .int (iI 0), .int (iI 0), .ref q4, .ref q5, .ref q6, .ref q7, .ref q8, .int (iI 0), .int (iI 0), .int (iI 0), .ref q12, .null, .int (iI 0), .null, .null, .int (iI 0), .int (iI 0), .null, .null, .null, .int (iI 0), .int (iI 0), .int (iI 0)])) := ⟨_, rfl⟩
  refine y_heap (show _ = H6 from e6.symm) ?_
  have fa_6 : H6 a = some (some (1, 0), .inr (5, [.int (iI 0), .int (iI 0), .int (iI 0), .int (iI 0), .ref q4, .ref q5, .ref q6, .ref q7, .ref q8, .int (iI 0), .int (iI 0), .int (iI 0), .ref q12, .null, .int (iI 0), .null, .null, .int (iI 0), .int (iI 0), .null, .null, .null, .int (iI 0), .int (iI 0), .int (iI 0)])) := by rw [e6, gset_s]
  have f12_6 : H6 q12 = some (some (1, 0), aI 0 8 (fun _ => 0)) := by rw [e6]; exact gs_n na12.symm (gset_s _ _ _)
  have f4_6 : H6 q4 = some (some (1, 0), aI 0 4 (fun _ => 0)) := by rw [e6]; exact gs_n na4.symm (gs_n n4_12 f4_5)
  have f5_6 : H6 q5 = some (some (1, 0), aI 0 128 (fun _ => 0)) := by rw [e6]; exact gs_n na5.symm (gs_n n5_12 f5_5)
  have f6_6 : H6 q6 = some (some (1, 0), aI 0 1024 (fun _ => 0)) := by rw [e6]; exact gs_n na6.symm (gs_n n6_12 f6_5)
  have f7_6 : H6 q7 = some (some (1, 0), aI 0 128 (fun _ => 0)) := by rw [e6]; exact gs_n na7.symm (gs_n n7_12 f7_5)
  have f8_6 : H6 q8 = some (some (1, 0), aI 0 128 (fun _ => 0)) := by rw [e6]; exact gs_n na8.symm (gs_n n8_12 f8_5)
  have K6 : gK (· = (1, 0)) G H6 := by rw [e6]; exact gK_t K5 (gK_t (gK_n _ hq12) (gK_w _ (gs_n na12 fa_5) rfl))
  first | refine y_ald_n E dX3_init_55 (by rfl) ?_ | refine y_aload_n E dX3_init_55 (by rfl) ?_
  refine y_bipush E dX3_init_56 (by decide) ?_
  refine y_newI E (1,0) q258 dX3_init_58 (by omega) (by omega) (by omega) (fun q13 hq13 => ?_)
  have na13 : a ≠ q13 := g_nn fa_6 hq13
  have n4_13 : q4 ≠ q13 := g_nn f4_6 hq13
  have n5_13 : q5 ≠ q13 := g_nn f5_6 hq13
  have n6_13 : q6 ≠ q13 := g_nn f6_6 hq13
  have n7_13 : q7 ≠ q13 := g_nn f7_6 hq13
  have n8_13 : q8 ≠ q13 := g_nn f8_6 hq13
  have n12_13 : q12 ≠ q13 := g_nn f12_6 hq13
  refine y_putF E dX3_init_60 fl_X3_28_X3 fw_X3_13 (fun q h => by cases h; rfl) (by first | rfl | exact nar_r _ _) (by first | rfl | exact fit_r _ _) (gs_n na13 fa_6) (Nat.le_of_ble_eq_true rfl) ?_
  obtain ⟨H7, e7⟩ : ∃ H, H = gset (gset H6 q13 (some (1, 0), aI 0 8 (fun _ => 0))) a (some (1, 0), .inr (5, [.int (iI 0), .int (iI 0), .int (iI 0), .int (iI 0), .ref q4, .ref q5, .ref q6, .ref q7, .ref q8, .int (iI 0), .int (iI 0), .int (iI 0), .ref q12, .ref q13, .int (iI 0), .null, .null, .int (iI 0), .int (iI 0), .null, .null, .null, .int (iI 0), .int (iI 0), .int (iI 0)])) := ⟨_, rfl⟩
  refine y_heap (show _ = H7 from e7.symm) ?_
  have fa_7 : H7 a = some (some (1, 0), .inr (5, [.int (iI 0), .int (iI 0), .int (iI 0), .int (iI 0), .ref q4, .ref q5, .ref q6, .ref q7, .ref q8, .int (iI 0), .int (iI 0), .int (iI 0), .ref q12, .ref q13, .int (iI 0), .null, .null, .int (iI 0), .int (iI 0), .null, .null, .null, .int (iI 0), .int (iI 0), .int (iI 0)])) := by rw [e7, gset_s]
  have f13_7 : H7 q13 = some (some (1, 0), aI 0 8 (fun _ => 0)) := by rw [e7]; exact gs_n na13.symm (gset_s _ _ _)
  have f4_7 : H7 q4 = some (some (1, 0), aI 0 4 (fun _ => 0)) := by rw [e7]; exact gs_n na4.symm (gs_n n4_13 f4_6)
  have f5_7 : H7 q5 = some (some (1, 0), aI 0 128 (fun _ => 0)) := by rw [e7]; exact gs_n na5.symm (gs_n n5_13 f5_6)
  have f6_7 : H7 q6 = some (some (1, 0), aI 0 1024 (fun _ => 0)) := by rw [e7]; exact gs_n na6.symm (gs_n n6_13 f6_6)
  have f7_7 : H7 q7 = some (some (1, 0), aI 0 128 (fun _ => 0)) := by rw [e7]; exact gs_n na7.symm (gs_n n7_13 f7_6)
  have f8_7 : H7 q8 = some (some (1, 0), aI 0 128 (fun _ => 0)) := by rw [e7]; exact gs_n na8.symm (gs_n n8_13 f8_6)
  have f12_7 : H7 q12 = some (some (1, 0), aI 0 8 (fun _ => 0)) := by rw [e7]; exact gs_n na12.symm (gs_n n12_13 f12_6)
  have K7 : gK (· = (1, 0)) G H7 := by rw [e7]; exact gK_t K6 (gK_t (gK_n _ hq13) (gK_w _ (gs_n na13 fa_6) rfl))
  first | refine y_ald_n E dX3_init_63 (by rfl) ?_ | refine y_aload_n E dX3_init_63 (by rfl) ?_
  refine y_bipush E dX3_init_64 (by decide) ?_
  refine y_newC E (1,0) q2607 dX3_init_66 (by omega) (by omega) (by omega) (fun q15 hq15 => ?_)
  have na15 : a ≠ q15 := g_nn fa_7 hq15
  have n4_15 : q4 ≠ q15 := g_nn f4_7 hq15
  have n5_15 : q5 ≠ q15 := g_nn f5_7 hq15
  have n6_15 : q6 ≠ q15 := g_nn f6_7 hq15
  have n7_15 : q7 ≠ q15 := g_nn f7_7 hq15
  have n8_15 : q8 ≠ q15 := g_nn f8_7 hq15
  have n12_15 : q12 ≠ q15 := g_nn f12_7 hq15
  have n13_15 : q13 ≠ q15 := g_nn f13_7 hq15
  refine y_putF E dX3_init_68 fl_X3_31_X3 fw_X3_15 (fun q h => by cases h; rfl) (by first | rfl | exact nar_r _ _) (by first | rfl | exact fit_r _ _) (gs_n na15 fa_7) (Nat.le_of_ble_eq_true rfl) ?_
  obtain ⟨H8, e8⟩ : ∃ H, H = gset (gset H7 q15 (some (1, 0), aI 3 60 (fun _ => 0))) a (some (1, 0), .inr (5, [.int (iI 0), .int (iI 0), .int (iI 0), .int (iI 0), .ref q4, .ref q5, .ref q6, .ref q7, .ref q8, .int (iI 0), .int (iI 0), .int (iI 0), .ref q12, .ref q13, .int (iI 0), .ref q15, .null, .int (iI 0), .int (iI 0), .null, .null, .null, .int (iI 0), .int (iI 0), .int (iI 0)])) := ⟨_, rfl⟩
  refine y_heap (show _ = H8 from e8.symm) ?_
  have fa_8 : H8 a = some (some (1, 0), .inr (5, [.int (iI 0), .int (iI 0), .int (iI 0), .int (iI 0), .ref q4, .ref q5, .ref q6, .ref q7, .ref q8, .int (iI 0), .int (iI 0), .int (iI 0), .ref q12, .ref q13, .int (iI 0), .ref q15, .null, .int (iI 0), .int (iI 0), .null, .null, .null, .int (iI 0), .int (iI 0), .int (iI 0)])) := by rw [e8, gset_s]
  have f15_8 : H8 q15 = some (some (1, 0), aI 3 60 (fun _ => 0)) := by rw [e8]; exact gs_n na15.symm (gset_s _ _ _)
  have f4_8 : H8 q4 = some (some (1, 0), aI 0 4 (fun _ => 0)) := by rw [e8]; exact gs_n na4.symm (gs_n n4_15 f4_7)
  have f5_8 : H8 q5 = some (some (1, 0), aI 0 128 (fun _ => 0)) := by rw [e8]; exact gs_n na5.symm (gs_n n5_15 f5_7)
  have f6_8 : H8 q6 = some (some (1, 0), aI 0 1024 (fun _ => 0)) := by rw [e8]; exact gs_n na6.symm (gs_n n6_15 f6_7)
  have f7_8 : H8 q7 = some (some (1, 0), aI 0 128 (fun _ => 0)) := by rw [e8]; exact gs_n na7.symm (gs_n n7_15 f7_7)
  have f8_8 : H8 q8 = some (some (1, 0), aI 0 128 (fun _ => 0)) := by rw [e8]; exact gs_n na8.symm (gs_n n8_15 f8_7)
  have f12_8 : H8 q12 = some (some (1, 0), aI 0 8 (fun _ => 0)) := by rw [e8]; exact gs_n na12.symm (gs_n n12_15 f12_7)
  have f13_8 : H8 q13 = some (some (1, 0), aI 0 8 (fun _ => 0)) := by rw [e8]; exact gs_n na13.symm (gs_n n13_15 f13_7)
  have K8 : gK (· = (1, 0)) G H8 := by rw [e8]; exact gK_t K7 (gK_t (gK_n _ hq15) (gK_w _ (gs_n na15 fa_7) rfl))
  first | refine y_ald_n E dX3_init_71 (by rfl) ?_ | refine y_aload_n E dX3_init_71 (by rfl) ?_
  refine y_bipush E dX3_init_72 (by decide) ?_
  refine y_newC E (1,0) q2607 dX3_init_74 (by omega) (by omega) (by omega) (fun q16 hq16 => ?_)
  have na16 : a ≠ q16 := g_nn fa_8 hq16
  have n4_16 : q4 ≠ q16 := g_nn f4_8 hq16
  have n5_16 : q5 ≠ q16 := g_nn f5_8 hq16
  have n6_16 : q6 ≠ q16 := g_nn f6_8 hq16
  have n7_16 : q7 ≠ q16 := g_nn f7_8 hq16
  have n8_16 : q8 ≠ q16 := g_nn f8_8 hq16
  have n12_16 : q12 ≠ q16 := g_nn f12_8 hq16
  have n13_16 : q13 ≠ q16 := g_nn f13_8 hq16
  have n15_16 : q15 ≠ q16 := g_nn f15_8 hq16
  refine y_putF E dX3_init_76 fl_X3_35_X3 fw_X3_16 (fun q h => by cases h; rfl) (by first | rfl | exact nar_r _ _) (by first | rfl | exact fit_r _ _) (gs_n na16 fa_8) (Nat.le_of_ble_eq_true rfl) ?_
  obtain ⟨H9, e9⟩ : ∃ H, H = gset (gset H8 q16 (some (1, 0), aI 3 24 (fun _ => 0))) a (some (1, 0), .inr (5, [.int (iI 0), .int (iI 0), .int (iI 0), .int (iI 0), .ref q4, .ref q5, .ref q6, .ref q7, .ref q8, .int (iI 0), .int (iI 0), .int (iI 0), .ref q12, .ref q13, .int (iI 0), .ref q15, .ref q16, .int (iI 0), .int (iI 0), .null, .null, .null, .int (iI 0), .int (iI 0), .int (iI 0)])) := ⟨_, rfl⟩
  refine y_heap (show _ = H9 from e9.symm) ?_
  have fa_9 : H9 a = some (some (1, 0), .inr (5, [.int (iI 0), .int (iI 0), .int (iI 0), .int (iI 0), .ref q4, .ref q5, .ref q6, .ref q7, .ref q8, .int (iI 0), .int (iI 0), .int (iI 0), .ref q12, .ref q13, .int (iI 0), .ref q15, .ref q16, .int (iI 0), .int (iI 0), .null, .null, .null, .int (iI 0), .int (iI 0), .int (iI 0)])) := by rw [e9, gset_s]
  have f16_9 : H9 q16 = some (some (1, 0), aI 3 24 (fun _ => 0)) := by rw [e9]; exact gs_n na16.symm (gset_s _ _ _)
  have f4_9 : H9 q4 = some (some (1, 0), aI 0 4 (fun _ => 0)) := by rw [e9]; exact gs_n na4.symm (gs_n n4_16 f4_8)
  have f5_9 : H9 q5 = some (some (1, 0), aI 0 128 (fun _ => 0)) := by rw [e9]; exact gs_n na5.symm (gs_n n5_16 f5_8)
  have f6_9 : H9 q6 = some (some (1, 0), aI 0 1024 (fun _ => 0)) := by rw [e9]; exact gs_n na6.symm (gs_n n6_16 f6_8)
  have f7_9 : H9 q7 = some (some (1, 0), aI 0 128 (fun _ => 0)) := by rw [e9]; exact gs_n na7.symm (gs_n n7_16 f7_8)
  have f8_9 : H9 q8 = some (some (1, 0), aI 0 128 (fun _ => 0)) := by rw [e9]; exact gs_n na8.symm (gs_n n8_16 f8_8)
  have f12_9 : H9 q12 = some (some (1, 0), aI 0 8 (fun _ => 0)) := by rw [e9]; exact gs_n na12.symm (gs_n n12_16 f12_8)
  have f13_9 : H9 q13 = some (some (1, 0), aI 0 8 (fun _ => 0)) := by rw [e9]; exact gs_n na13.symm (gs_n n13_16 f13_8)
  have f15_9 : H9 q15 = some (some (1, 0), aI 3 60 (fun _ => 0)) := by rw [e9]; exact gs_n na15.symm (gs_n n15_16 f15_8)
  have K9 : gK (· = (1, 0)) G H9 := by rw [e9]; exact gK_t K8 (gK_t (gK_n _ hq16) (gK_w _ (gs_n na16 fa_8) rfl))
  first | refine y_ald_n E dX3_init_79 (by rfl) ?_ | refine y_aload_n E dX3_init_79 (by rfl) ?_
  refine y_bipush E dX3_init_80 (by decide) ?_
  refine y_newI E (1,0) q258 dX3_init_82 (by omega) (by omega) (by omega) (fun q19 hq19 => ?_)
  have na19 : a ≠ q19 := g_nn fa_9 hq19
  have n4_19 : q4 ≠ q19 := g_nn f4_9 hq19
  have n5_19 : q5 ≠ q19 := g_nn f5_9 hq19
  have n6_19 : q6 ≠ q19 := g_nn f6_9 hq19
  have n7_19 : q7 ≠ q19 := g_nn f7_9 hq19
  have n8_19 : q8 ≠ q19 := g_nn f8_9 hq19
  have n12_19 : q12 ≠ q19 := g_nn f12_9 hq19
  have n13_19 : q13 ≠ q19 := g_nn f13_9 hq19
  have n15_19 : q15 ≠ q19 := g_nn f15_9 hq19
  have n16_19 : q16 ≠ q19 := g_nn f16_9 hq19
  refine y_putF E dX3_init_84 fl_X3_38_X3 fw_X3_19 (fun q h => by cases h; rfl) (by first | rfl | exact nar_r _ _) (by first | rfl | exact fit_r _ _) (gs_n na19 fa_9) (Nat.le_of_ble_eq_true rfl) ?_
  obtain ⟨H10, e10⟩ : ∃ H, H = gset (gset H9 q19 (some (1, 0), aI 0 32 (fun _ => 0))) a (some (1, 0), .inr (5, [.int (iI 0), .int (iI 0), .int (iI 0), .int (iI 0), .ref q4, .ref q5, .ref q6, .ref q7, .ref q8, .int (iI 0), .int (iI 0), .int (iI 0), .ref q12, .ref q13, .int (iI 0), .ref q15, .ref q16, .int (iI 0), .int (iI 0), .ref q19, .null, .null, .int (iI 0), .int (iI 0), .int (iI 0)])) := ⟨_, rfl⟩
  refine y_heap (show _ = H10 from e10.symm) ?_
  have fa_10 : H10 a = some (some (1, 0), .inr (5, [.int (iI 0), .int (iI 0), .int (iI 0), .int (iI 0), .ref q4, .ref q5, .ref q6, .ref q7, .ref q8, .int (iI 0), .int (iI 0), .int (iI 0), .ref q12, .ref q13, .int (iI 0), .ref q15, .ref q16, .int (iI 0), .int (iI 0), .ref q19, .null, .null, .int (iI 0), .int (iI 0), .int (iI 0)])) := by rw [e10, gset_s]
  have f19_10 : H10 q19 = some (some (1, 0), aI 0 32 (fun _ => 0)) := by rw [e10]; exact gs_n na19.symm (gset_s _ _ _)
  have f4_10 : H10 q4 = some (some (1, 0), aI 0 4 (fun _ => 0)) := by rw [e10]; exact gs_n na4.symm (gs_n n4_19 f4_9)
  have f5_10 : H10 q5 = some (some (1, 0), aI 0 128 (fun _ => 0)) := by rw [e10]; exact gs_n na5.symm (gs_n n5_19 f5_9)
  have f6_10 : H10 q6 = some (some (1, 0), aI 0 1024 (fun _ => 0)) := by rw [e10]; exact gs_n na6.symm (gs_n n6_19 f6_9)
  have f7_10 : H10 q7 = some (some (1, 0), aI 0 128 (fun _ => 0)) := by rw [e10]; exact gs_n na7.symm (gs_n n7_19 f7_9)
  have f8_10 : H10 q8 = some (some (1, 0), aI 0 128 (fun _ => 0)) := by rw [e10]; exact gs_n na8.symm (gs_n n8_19 f8_9)
  have f12_10 : H10 q12 = some (some (1, 0), aI 0 8 (fun _ => 0)) := by rw [e10]; exact gs_n na12.symm (gs_n n12_19 f12_9)
  have f13_10 : H10 q13 = some (some (1, 0), aI 0 8 (fun _ => 0)) := by rw [e10]; exact gs_n na13.symm (gs_n n13_19 f13_9)
  have f15_10 : H10 q15 = some (some (1, 0), aI 3 60 (fun _ => 0)) := by rw [e10]; exact gs_n na15.symm (gs_n n15_19 f15_9)
  have f16_10 : H10 q16 = some (some (1, 0), aI 3 24 (fun _ => 0)) := by rw [e10]; exact gs_n na16.symm (gs_n n16_19 f16_9)
  have K10 : gK (· = (1, 0)) G H10 := by rw [e10]; exact gK_t K9 (gK_t (gK_n _ hq19) (gK_w _ (gs_n na19 fa_9) rfl))
  first | refine y_ald_n E dX3_init_87 (by rfl) ?_ | refine y_aload_n E dX3_init_87 (by rfl) ?_
  refine y_bipush E dX3_init_88 (by decide) ?_
  refine y_newI E (1,0) q258 dX3_init_90 (by omega) (by omega) (by omega) (fun q20 hq20 => ?_)
  have na20 : a ≠ q20 := g_nn fa_10 hq20
  have n4_20 : q4 ≠ q20 := g_nn f4_10 hq20
  have n5_20 : q5 ≠ q20 := g_nn f5_10 hq20
  have n6_20 : q6 ≠ q20 := g_nn f6_10 hq20
  have n7_20 : q7 ≠ q20 := g_nn f7_10 hq20
  have n8_20 : q8 ≠ q20 := g_nn f8_10 hq20
  have n12_20 : q12 ≠ q20 := g_nn f12_10 hq20
  have n13_20 : q13 ≠ q20 := g_nn f13_10 hq20
  have n15_20 : q15 ≠ q20 := g_nn f15_10 hq20
  have n16_20 : q16 ≠ q20 := g_nn f16_10 hq20
  have n19_20 : q19 ≠ q20 := g_nn f19_10 hq20
  refine y_putF E dX3_init_92 fl_X3_41_X3 fw_X3_20 (fun q h => by cases h; rfl) (by first | rfl | exact nar_r _ _) (by first | rfl | exact fit_r _ _) (gs_n na20 fa_10) (Nat.le_of_ble_eq_true rfl) ?_
  obtain ⟨H11, e11⟩ : ∃ H, H = gset (gset H10 q20 (some (1, 0), aI 0 32 (fun _ => 0))) a (some (1, 0), .inr (5, [.int (iI 0), .int (iI 0), .int (iI 0), .int (iI 0), .ref q4, .ref q5, .ref q6, .ref q7, .ref q8, .int (iI 0), .int (iI 0), .int (iI 0), .ref q12, .ref q13, .int (iI 0), .ref q15, .ref q16, .int (iI 0), .int (iI 0), .ref q19, .ref q20, .null, .int (iI 0), .int (iI 0), .int (iI 0)])) := ⟨_, rfl⟩
  refine y_heap (show _ = H11 from e11.symm) ?_
  have fa_11 : H11 a = some (some (1, 0), .inr (5, [.int (iI 0), .int (iI 0), .int (iI 0), .int (iI 0), .ref q4, .ref q5, .ref q6, .ref q7, .ref q8, .int (iI 0), .int (iI 0), .int (iI 0), .ref q12, .ref q13, .int (iI 0), .ref q15, .ref q16, .int (iI 0), .int (iI 0), .ref q19, .ref q20, .null, .int (iI 0), .int (iI 0), .int (iI 0)])) := by rw [e11, gset_s]
  have f20_11 : H11 q20 = some (some (1, 0), aI 0 32 (fun _ => 0)) := by rw [e11]; exact gs_n na20.symm (gset_s _ _ _)
  have f4_11 : H11 q4 = some (some (1, 0), aI 0 4 (fun _ => 0)) := by rw [e11]; exact gs_n na4.symm (gs_n n4_20 f4_10)
  have f5_11 : H11 q5 = some (some (1, 0), aI 0 128 (fun _ => 0)) := by rw [e11]; exact gs_n na5.symm (gs_n n5_20 f5_10)
  have f6_11 : H11 q6 = some (some (1, 0), aI 0 1024 (fun _ => 0)) := by rw [e11]; exact gs_n na6.symm (gs_n n6_20 f6_10)
  have f7_11 : H11 q7 = some (some (1, 0), aI 0 128 (fun _ => 0)) := by rw [e11]; exact gs_n na7.symm (gs_n n7_20 f7_10)
  have f8_11 : H11 q8 = some (some (1, 0), aI 0 128 (fun _ => 0)) := by rw [e11]; exact gs_n na8.symm (gs_n n8_20 f8_10)
  have f12_11 : H11 q12 = some (some (1, 0), aI 0 8 (fun _ => 0)) := by rw [e11]; exact gs_n na12.symm (gs_n n12_20 f12_10)
  have f13_11 : H11 q13 = some (some (1, 0), aI 0 8 (fun _ => 0)) := by rw [e11]; exact gs_n na13.symm (gs_n n13_20 f13_10)
  have f15_11 : H11 q15 = some (some (1, 0), aI 3 60 (fun _ => 0)) := by rw [e11]; exact gs_n na15.symm (gs_n n15_20 f15_10)
  have f16_11 : H11 q16 = some (some (1, 0), aI 3 24 (fun _ => 0)) := by rw [e11]; exact gs_n na16.symm (gs_n n16_20 f16_10)
  have f19_11 : H11 q19 = some (some (1, 0), aI 0 32 (fun _ => 0)) := by rw [e11]; exact gs_n na19.symm (gs_n n19_20 f19_10)
  have K11 : gK (· = (1, 0)) G H11 := by rw [e11]; exact gK_t K10 (gK_t (gK_n _ hq20) (gK_w _ (gs_n na20 fa_10) rfl))
  first | refine y_ald_n E dX3_init_95 (by rfl) ?_ | refine y_aload_n E dX3_init_95 (by rfl) ?_
  refine y_bipush E dX3_init_96 (by decide) ?_
  refine y_newI E (1,0) q258 dX3_init_98 (by omega) (by omega) (by omega) (fun q21 hq21 => ?_)
  have na21 : a ≠ q21 := g_nn fa_11 hq21
  have n4_21 : q4 ≠ q21 := g_nn f4_11 hq21
  have n5_21 : q5 ≠ q21 := g_nn f5_11 hq21
  have n6_21 : q6 ≠ q21 := g_nn f6_11 hq21
  have n7_21 : q7 ≠ q21 := g_nn f7_11 hq21
  have n8_21 : q8 ≠ q21 := g_nn f8_11 hq21
  have n12_21 : q12 ≠ q21 := g_nn f12_11 hq21
  have n13_21 : q13 ≠ q21 := g_nn f13_11 hq21
  have n15_21 : q15 ≠ q21 := g_nn f15_11 hq21
  have n16_21 : q16 ≠ q21 := g_nn f16_11 hq21
  have n19_21 : q19 ≠ q21 := g_nn f19_11 hq21
  have n20_21 : q20 ≠ q21 := g_nn f20_11 hq21
  refine y_putF E dX3_init_100 fl_X3_44_X3 fw_X3_21 (fun q h => by cases h; rfl) (by first | rfl | exact nar_r _ _) (by first | rfl | exact fit_r _ _) (gs_n na21 fa_11) (Nat.le_of_ble_eq_true rfl) ?_
  obtain ⟨H12, e12⟩ : ∃ H, H = gset (gset H11 q21 (some (1, 0), aI 0 32 (fun _ => 0))) a (some (1, 0), .inr (5, [.int (iI 0), .int (iI 0), .int (iI 0), .int (iI 0), .ref q4, .ref q5, .ref q6, .ref q7, .ref q8, .int (iI 0), .int (iI 0), .int (iI 0), .ref q12, .ref q13, .int (iI 0), .ref q15, .ref q16, .int (iI 0), .int (iI 0), .ref q19, .ref q20, .ref q21, .int (iI 0), .int (iI 0), .int (iI 0)])) := ⟨_, rfl⟩
  refine y_heap (show _ = H12 from e12.symm) ?_
  have fa_12 : H12 a = some (some (1, 0), .inr (5, [.int (iI 0), .int (iI 0), .int (iI 0), .int (iI 0), .ref q4, .ref q5, .ref q6, .ref q7, .ref q8, .int (iI 0), .int (iI 0), .int (iI 0), .ref q12, .ref q13, .int (iI 0), .ref q15, .ref q16, .int (iI 0), .int (iI 0), .ref q19, .ref q20, .ref q21, .int (iI 0), .int (iI 0), .int (iI 0)])) := by rw [e12, gset_s]
  have f21_12 : H12 q21 = some (some (1, 0), aI 0 32 (fun _ => 0)) := by rw [e12]; exact gs_n na21.symm (gset_s _ _ _)
  have f4_12 : H12 q4 = some (some (1, 0), aI 0 4 (fun _ => 0)) := by rw [e12]; exact gs_n na4.symm (gs_n n4_21 f4_11)
  have f5_12 : H12 q5 = some (some (1, 0), aI 0 128 (fun _ => 0)) := by rw [e12]; exact gs_n na5.symm (gs_n n5_21 f5_11)
  have f6_12 : H12 q6 = some (some (1, 0), aI 0 1024 (fun _ => 0)) := by rw [e12]; exact gs_n na6.symm (gs_n n6_21 f6_11)
  have f7_12 : H12 q7 = some (some (1, 0), aI 0 128 (fun _ => 0)) := by rw [e12]; exact gs_n na7.symm (gs_n n7_21 f7_11)
  have f8_12 : H12 q8 = some (some (1, 0), aI 0 128 (fun _ => 0)) := by rw [e12]; exact gs_n na8.symm (gs_n n8_21 f8_11)
  have f12_12 : H12 q12 = some (some (1, 0), aI 0 8 (fun _ => 0)) := by rw [e12]; exact gs_n na12.symm (gs_n n12_21 f12_11)
  have f13_12 : H12 q13 = some (some (1, 0), aI 0 8 (fun _ => 0)) := by rw [e12]; exact gs_n na13.symm (gs_n n13_21 f13_11)
  have f15_12 : H12 q15 = some (some (1, 0), aI 3 60 (fun _ => 0)) := by rw [e12]; exact gs_n na15.symm (gs_n n15_21 f15_11)
  have f16_12 : H12 q16 = some (some (1, 0), aI 3 24 (fun _ => 0)) := by rw [e12]; exact gs_n na16.symm (gs_n n16_21 f16_11)
  have f19_12 : H12 q19 = some (some (1, 0), aI 0 32 (fun _ => 0)) := by rw [e12]; exact gs_n na19.symm (gs_n n19_21 f19_11)
  have f20_12 : H12 q20 = some (some (1, 0), aI 0 32 (fun _ => 0)) := by rw [e12]; exact gs_n na20.symm (gs_n n20_21 f20_11)
  have K12 : gK (· = (1, 0)) G H12 := by rw [e12]; exact gK_t K11 (gK_t (gK_n _ hq21) (gK_w _ (gs_n na21 fa_11) rfl))
  first | refine y_ald_n E dX3_init_103 (by rfl) ?_ | refine y_aload_n E dX3_init_103 (by rfl) ?_
  refine y_iconst E dX3_init_104 ?_
  refine y_put E dX3_init_105 fl_X3_47_X3 fw_X3_24 rfl (by rfl) (fa_12) (Nat.le_of_ble_eq_true rfl) ?_
  first | refine y_ald_n E dX3_init_108 (by rfl) ?_ | refine y_aload_n E dX3_init_108 (by rfl) ?_
  refine y_get E dX3_init_109 fl_X3_13_X3 (gset_s _ _ _) (by rfl) ?_
  refine y_iconst E dX3_init_112 ?_
  refine y_iconst E dX3_init_113 ?_
  refine y_iast E dX3_init_114 (gs_n na5.symm f5_12) (by omega) ?_
  have ne5 : a ≠ q5 := na5
  refine y_return E F rfl dX3_init_115 (by omega) (by omega) ⟨rfl, (fun k => match k with | 0 => a | 4 => q4 | 5 => q5 | 6 => q6 | 7 => q7 | 8 => q8 | 12 => q12 | 13 => q13 | 15 => q15 | 16 => q16 | 19 => q19 | 20 => q20 | _ => q21), rfl, ?_, ?_, ?_⟩
  · intro i hi j hj e
    simp only [mL, List.mem_cons, List.not_mem_nil, or_false] at hi hj
    rcases hi with rfl | rfl | rfl | rfl | rfl | rfl | rfl | rfl | rfl | rfl | rfl | rfl | rfl <;> rcases hj with rfl | rfl | rfl | rfl | rfl | rfl | rfl | rfl | rfl | rfl | rfl | rfl | rfl <;> first | rfl | (exfalso; revert e; first | exact na4 | exact na4.symm | exact na5 | exact na5.symm | exact na6 | exact na6.symm | exact na7 | exact na7.symm | exact na8 | exact na8.symm | exact na12 | exact na12.symm | exact na13 | exact na13.symm | exact na15 | exact na15.symm | exact na16 | exact na16.symm | exact na19 | exact na19.symm | exact na20 | exact na20.symm | exact na21 | exact na21.symm | exact n4_5 | exact n4_5.symm | exact n4_6 | exact n4_6.symm | exact n4_7 | exact n4_7.symm | exact n4_8 | exact n4_8.symm | exact n4_12 | exact n4_12.symm | exact n4_13 | exact n4_13.symm | exact n4_15 | exact n4_15.symm | exact n4_16 | exact n4_16.symm | exact n4_19 | exact n4_19.symm | exact n4_20 | exact n4_20.symm | exact n4_21 | exact n4_21.symm | exact n5_6 | exact n5_6.symm | exact n5_7 | exact n5_7.symm | exact n5_8 | exact n5_8.symm | exact n5_12 | exact n5_12.symm | exact n5_13 | exact n5_13.symm | exact n5_15 | exact n5_15.symm | exact n5_16 | exact n5_16.symm | exact n5_19 | exact n5_19.symm | exact n5_20 | exact n5_20.symm | exact n5_21 | exact n5_21.symm | exact n6_7 | exact n6_7.symm | exact n6_8 | exact n6_8.symm | exact n6_12 | exact n6_12.symm | exact n6_13 | exact n6_13.symm | exact n6_15 | exact n6_15.symm | exact n6_16 | exact n6_16.symm | exact n6_19 | exact n6_19.symm | exact n6_20 | exact n6_20.symm | exact n6_21 | exact n6_21.symm | exact n7_8 | exact n7_8.symm | exact n7_12 | exact n7_12.symm | exact n7_13 | exact n7_13.symm | exact n7_15 | exact n7_15.symm | exact n7_16 | exact n7_16.symm | exact n7_19 | exact n7_19.symm | exact n7_20 | exact n7_20.symm | exact n7_21 | exact n7_21.symm | exact n8_12 | exact n8_12.symm | exact n8_13 | exact n8_13.symm | exact n8_15 | exact n8_15.symm | exact n8_16 | exact n8_16.symm | exact n8_19 | exact n8_19.symm | exact n8_20 | exact n8_20.symm | exact n8_21 | exact n8_21.symm | exact n12_13 | exact n12_13.symm | exact n12_15 | exact n12_15.symm | exact n12_16 | exact n12_16.symm | exact n12_19 | exact n12_19.symm | exact n12_20 | exact n12_20.symm | exact n12_21 | exact n12_21.symm | exact n13_15 | exact n13_15.symm | exact n13_16 | exact n13_16.symm | exact n13_19 | exact n13_19.symm | exact n13_20 | exact n13_20.symm | exact n13_21 | exact n13_21.symm | exact n15_16 | exact n15_16.symm | exact n15_19 | exact n15_19.symm | exact n15_20 | exact n15_20.symm | exact n15_21 | exact n15_21.symm | exact n16_19 | exact n16_19.symm | exact n16_20 | exact n16_20.symm | exact n16_21 | exact n16_21.symm | exact n19_20 | exact n19_20.symm | exact n19_21 | exact n19_21.symm | exact n20_21 | exact n20_21.symm)
  · intro k hk
    simp only [mL, List.mem_cons, List.not_mem_nil, or_false] at hk
    rcases hk with rfl | rfl | rfl | rfl | rfl | rfl | rfl | rfl | rfl | rfl | rfl | rfl | rfl
    · exact gs_n ne5 (gset_s _ _ _)
    · exact gs_n (by first | exact n4_5 | exact n5_4.symm) (gs_n na4.symm f4_12)
    · refine (gset_s _ _ _).trans ?_
      refine congrArg some (congrArg (Prod.mk (some (1, 0))) ?_)
      refine congrArg (aI 0 128) ?_
      funext j
      show upI (fun _ => 0) 0 0 j = 0
      unfold upI
      split <;> rfl
    · exact gs_n (by first | exact n6_5 | exact n5_6.symm) (gs_n na6.symm f6_12)
    · exact gs_n (by first | exact n7_5 | exact n5_7.symm) (gs_n na7.symm f7_12)
    · exact gs_n (by first | exact n8_5 | exact n5_8.symm) (gs_n na8.symm f8_12)
    · exact gs_n (by first | exact n12_5 | exact n5_12.symm) (gs_n na12.symm f12_12)
    · exact gs_n (by first | exact n13_5 | exact n5_13.symm) (gs_n na13.symm f13_12)
    · exact gs_n (by first | exact n15_5 | exact n5_15.symm) (gs_n na15.symm f15_12)
    · exact gs_n (by first | exact n16_5 | exact n5_16.symm) (gs_n na16.symm f16_12)
    · exact gs_n (by first | exact n19_5 | exact n5_19.symm) (gs_n na19.symm f19_12)
    · exact gs_n (by first | exact n20_5 | exact n5_20.symm) (gs_n na20.symm f20_12)
    · exact gs_n (by first | exact n21_5 | exact n5_21.symm) (gs_n na21.symm f21_12)
  · exact gK_t K12 (gK_t (gK_w _ fa_12 rfl) (gK_w _ (gs_n na5.symm f5_12) rfl))
end Ini
