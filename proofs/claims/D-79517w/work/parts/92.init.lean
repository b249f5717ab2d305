/-! ===== new State ===== -/
section In
variable {Γ : yG} {G : yH}
abbrev stV (t l s f : Value) : yE := .inr (3, [t, l, s, f, .int (iI 0), .int (iI 0), .int (iI 0)])
theorem gOK_n {G : yH} (h : gOK G) {a : Nat} {e : yE} {st j : Nat} (hs : 0 < st) : gOK (gset G a (some (st, j), e)) := gOK_t h hs
set_option maxHeartbeats 4000000
theorem c_X2_init {st a : Nat} (hs0 : 0 < st) (hB : gB Γ G) (hO : gOK G) (h : G a = some (some (st, 0), stV .null .null .null .null)) : Ct_X2_init Γ 5 4 17 [.ref a] (G) (fun v G' => v = none ∧ (∃ S, isST Γ G' st a S (fun _ => 0)) ∧ gK (· = (st, 0)) G G' ∧ gOK G') (noX) := by
  refine y_start (lv0 := [some (.ref a)]) (nm := "<init>") (own := RX2) (by decide +kernel) rfl rfl (by exact Nat.le_of_ble_eq_true rfl) (by rfl) ?_
  intro Z Q E F
  first | refine y_ald_n E dX2_init_0 (by rfl) ?_ | refine y_aload_n E dX2_init_0 (by rfl) ?_
  refine y_objInit E dX2_init_1 q174 q167 q168 (by decide) (Nat.le_of_ble_eq_true rfl) ?_
  first | refine y_ald_n E dX2_init_4 (by rfl) ?_ | refine y_aload_n E dX2_init_4 (by rfl) ?_
  refine y_new E (st, 1) dX2_init_5 nw_X2_9 (by omega) (by omega) (fun q5 hq5 => ?_)
  refine y_dup E dX2_init_8 rfl ?_
  refine y_callI E dX2_init_9 lk_X2_11 (c_J2_init (hB.kk (gK_n (P := fun _ => False) _ hq5)) (gset_s _ _ _)) (by rfl) (by decide) (by omega) (by omega) rfl (Nat.le_of_ble_eq_true rfl) ?_ (fun _ _ _ h => h.elim)
  rintro _ G1 ⟨rfl, hal1, vv, hG9⟩
  rw [gset_gset] at hG9
  have hE1 : gExt G G1 := by rw [hG9]; exact gExt_n hq5
  have hB1 := hB.e hE1
  have h1 := hE1 _ _ h
  have hO1 : gOK G1 := by rw [hG9]; exact gOK_t hO hs0
  have hK1 : gK (· = (st, 0)) G G1 := gK_e hE1
  clear hG9
  have h := h1
  refine y_putF E dX2_init_12 fl_X2_12_X2 fw_X2_0 (fun q h => by cases h; rfl) (by first | rfl | exact nar_r _ _) (by first | rfl | exact fit_r _ _) (h) (Nat.le_of_ble_eq_true rfl) ?_
  obtain ⟨G2, hG2⟩ : ∃ G2, G2 = gset G1 a (some (st, 0), stV (.ref q5) .null .null .null) := ⟨_, rfl⟩
  refine y_heap (show _ = G2 from hG2.symm) ?_
  have hk2 : gK (· = (st, 0)) G1 G2 := by rw [hG2]; exact gK_w _ h1 rfl
  have h2 : G2 a = some (some (st, 0), stV (.ref q5) .null .null .null) := by rw [hG2]; exact gset_s _ _ _
  have hal1 := hal1.kk hB1 hk2 (by simp)
  have hB2 := hB1.kk hk2
  have hO2 : gOK G2 := by rw [hG2]; exact gOK_t hO1 hs0
  have hK2 := gK_t hK1 hk2
  have hB := hB2
  clear hG2
  have h := h2
  first | refine y_ald_n E dX2_init_15 (by rfl) ?_ | refine y_aload_n E dX2_init_15 (by rfl) ?_
  refine y_new E (st, 2) dX2_init_16 nw_X2_9 (by omega) (by omega) (fun q16 hq16 => ?_)
  refine y_dup E dX2_init_19 rfl ?_
  refine y_callI E dX2_init_20 lk_X2_11 (c_J2_init (hB.kk (gK_n (P := fun _ => False) _ hq16)) (gset_s _ _ _)) (by rfl) (by decide) (by omega) (by omega) rfl (Nat.le_of_ble_eq_true rfl) ?_ (fun _ _ _ h => h.elim)
  rintro _ G3 ⟨rfl, hal2, vv, hG9⟩
  rw [gset_gset] at hG9
  have hE3 : gExt G2 G3 := by rw [hG9]; exact gExt_n hq16
  have hB3 := hB2.e hE3
  have h3 := hE3 _ _ h2
  have hO3 : gOK G3 := by rw [hG9]; exact gOK_t hO2 hs0
  have hK3 := gK_t hK2 (gK_e hE3)
  have hal1 := hal1.e hB2 hE3
  clear hG9
  have h := h3
  refine y_putF E dX2_init_23 fl_X2_18_X2 fw_X2_1 (fun q h => by cases h; rfl) (by first | rfl | exact nar_r _ _) (by first | rfl | exact fit_r _ _) (h) (Nat.le_of_ble_eq_true rfl) ?_
  obtain ⟨G4, hG4⟩ : ∃ G4, G4 = gset G3 a (some (st, 0), stV (.ref q5) (.ref q16) .null .null) := ⟨_, rfl⟩
  refine y_heap (show _ = G4 from hG4.symm) ?_
  have hk4 : gK (· = (st, 0)) G3 G4 := by rw [hG4]; exact gK_w _ h3 rfl
  have h4 : G4 a = some (some (st, 0), stV (.ref q5) (.ref q16) .null .null) := by rw [hG4]; exact gset_s _ _ _
  have hal1 := hal1.kk hB3 hk4 (by simp)
  have hal2 := hal2.kk hB3 hk4 (by simp)
  have hB4 := hB3.kk hk4
  have hO4 : gOK G4 := by rw [hG4]; exact gOK_t hO3 hs0
  have hK4 := gK_t hK3 hk4
  clear hG4
  have h := h4
  first | refine y_ald_n E dX2_init_26 (by rfl) ?_ | refine y_aload_n E dX2_init_26 (by rfl) ?_
  refine y_new E (st, 3) dX2_init_27 nw_X2_21 (by omega) (by omega) (fun q27 hq27 => ?_)
  refine y_dup E dX2_init_30 rfl ?_
  refine y_callI E dX2_init_31 lk_X2_23 (c_J4_init (gset_s _ _ _)) (by rfl) (by decide) (by omega) (by omega) rfl (Nat.le_of_ble_eq_true rfl) ?_ (fun _ _ _ h => h.elim)
  rintro _ G5 ⟨rfl, hll, vv, hG9⟩
  rw [gset_gset] at hG9
  have hE5 : gExt G4 G5 := by rw [hG9]; exact gExt_n hq27
  have hB5 := hB4.e hE5
  have h5 := hE5 _ _ h4
  have hO5 : gOK G5 := by rw [hG9]; exact gOK_t hO4 hs0
  have hK5 := gK_t hK4 (gK_e hE5)
  have hal1 := hal1.e hB4 hE5
  have hal2 := hal2.e hB4 hE5
  clear hG9
  have h := h5
  refine y_putF E dX2_init_34 fl_X2_24_X2 fw_X2_2 (fun q h => by cases h; rfl) (by first | rfl | exact nar_r _ _) (by first | rfl | exact fit_r _ _) (h) (Nat.le_of_ble_eq_true rfl) ?_
  obtain ⟨G6, hG6⟩ : ∃ G6, G6 = gset G5 a (some (st, 0), stV (.ref q5) (.ref q16) (.ref q27) .null) := ⟨_, rfl⟩
  refine y_heap (show _ = G6 from hG6.symm) ?_
  have hk6 : gK (· = (st, 0)) G5 G6 := by rw [hG6]; exact gK_w _ h5 rfl
  have h6 : G6 a = some (some (st, 0), stV (.ref q5) (.ref q16) (.ref q27) .null) := by rw [hG6]; exact gset_s _ _ _
  have hal1 := hal1.kk hB5 hk6 (by simp)
  have hal2 := hal2.kk hB5 hk6 (by simp)
  have hll := hll.kk hk6 (by simp)
  have hB6 := hB5.kk hk6
  have hO6 : gOK G6 := by rw [hG6]; exact gOK_t hO5 hs0
  have hK6 := gK_t hK5 hk6
  clear hG6
  have h := h6
  first | refine y_ald_n E dX2_init_37 (by rfl) ?_ | refine y_aload_n E dX2_init_37 (by rfl) ?_
  refine y_bipush E dX2_init_38 (by decide) ?_
  refine y_newI E (st, 4) q258 dX2_init_40 (by omega) (by omega) (by omega) (fun q40 hq40 => ?_)
  have h7 := gs_n (v := (some (st, 4), aI 0 7 (fun _ => 0))) (g_nn h6 hq40) h6
  have h := h7
  have hk7 : gK (· = (st, 0)) G6 (gset G6 q40 (some (st, 4), aI 0 7 (fun _ => 0))) := gK_n _ hq40
  refine y_putF E dX2_init_42 fl_X2_28_X2 fw_X2_3 (fun q h => by cases h; rfl) (by first | rfl | exact nar_r _ _) (by first | rfl | exact fit_r _ _) (h) (Nat.le_of_ble_eq_true rfl) ?_
  refine y_return E F rfl dX2_init_45 (by omega) (by omega) ?_
  obtain ⟨G8, hG8⟩ : ∃ G8, G8 = gset (gset G6 q40 (some (st, 4), aI 0 7 (fun _ => 0))) a (some (st, 0), stV (.ref q5) (.ref q16) (.ref q27) (.ref q40)) := ⟨_, rfl⟩
  have hk8 : gK (· = (st, 0)) (gset G6 q40 (some (st, 4), aI 0 7 (fun _ => 0))) G8 := by rw [hG8]; exact gK_w _ h7 rfl
  have hk9 := gK_t hk7 hk8
  subst hG8
  refine ⟨rfl, ?_, ?_, ?_⟩
  · refine ⟨(q5, q16, q27, q40, fun _ => 0, fun _ => 0), gset_s _ _ _, hal1.kk hB6 hk9 (by simp), hal2.kk hB6 hk9 (by simp), hll.kk hk9 (by simp), ?_, fun t ht => by (have ht : (t : Int) < 0 := ht); omega, fun l hl => by (have hl : (l : Int) < 0 := hl); omega⟩
    have : fgF (fun _ => 0) = fun _ => 0 := by funext k; unfold fgF; split <;> rfl
    rw [this]
    exact hk8.at (gset_s _ _ _) (by simp)
  · exact gK_t hK6 hk9
  · exact gOK_t (gOK_t hO6 hs0) hs0
end In
