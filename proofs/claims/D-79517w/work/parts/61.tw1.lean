/-! ===== the twin: its smallest methods ===== -/
section Tw1
variable {Γ : yG} {A : Nat → Nat} {T : Nat → Int → Int} {G : yH}
set_option maxHeartbeats 4000000
/-- power of a tower's lens; -1: none -/
noncomputable def powS (w : Int → Int) (t : Int) : Int := if tw w t 3 < 0 then -1 else lw w (tw w t 3) 0
theorem SH.pow {w : Int → Int} (h : SH w) {t : Int} (h0 : 0 ≤ t) (h1 : t < 8) : -1 ≤ powS w t ∧ powS w t ≤ 60 := by
  have h2 := h.t h0 h1
  unfold powS
  split
  · omega
  · have h3 := h.l (l := tw w t 3) (by omega) (by omega)
    omega
theorem m_isBetween {x lo hi : Int} (hv : inR x) (hl : inR lo) (hh : inR hi) : Ct_X3_isBetween Γ 1 0 0 [.int (iI (x)), .int (iI (lo)), .int (iI (hi))] (G) (fun v G' => v = some (.int (iI (b2i (dB (lo ≤ x ∧ x ≤ hi))))) ∧ G' = G) noX := by
  refine y_start (lv0 := [some (.int (iI (x))), some (.int (iI (lo))), some (.int (iI (hi)))]) (nm := "isBetween") (own := RX3) (by decide +kernel) rfl rfl (by exact Nat.le_of_ble_eq_true rfl) (by rfl) ?_
  intro Z Q E F
  refine y_iload_n E dX3_isBetween_0 (by rfl) ?_
  refine y_iload_n E dX3_isBetween_1 (by rfl) ?_
  refine y_icmp_gt (tgt := 14) E dX3_isBetween_2 (by decide) (by omega) (by omega) (fun h2 => ?_) (fun h2 => ?_)
  · refine y_iconst E dX3_isBetween_14 ?_
    refine y_ireturn E F rfl rfl dX3_isBetween_15 (by omega) (by omega) ⟨(rF (by omega)), rfl⟩
  · refine y_iload_n E dX3_isBetween_5 (by rfl) ?_
    refine y_iload_n E dX3_isBetween_6 (by rfl) ?_
    refine y_icmp_gt (tgt := 14) E dX3_isBetween_7 (by decide) (by omega) (by omega) (fun h7 => ?_) (fun h7 => ?_)
    · refine y_iconst E dX3_isBetween_14 ?_
      refine y_ireturn E F rfl rfl dX3_isBetween_15 (by omega) (by omega) ⟨(rF (by omega)), rfl⟩
    · refine y_iconst E dX3_isBetween_10 ?_
      refine y_goto (tgt := 15) E dX3_isBetween_11 (by decide) ?_
      refine y_ireturn E F rfl rfl dX3_isBetween_15 (by omega) (by omega) ⟨(rT (by omega)), rfl⟩
theorem m_towerAt {t j : Int} : Ct_X3_towerAt Γ 1 0 0 [.int (iI (t)), .int (iI (j))] (G) (fun v G' => v = some (.int (iI (25 + 8 * t + j))) ∧ G' = G) noX := by
  refine y_start (lv0 := [some (.int (iI (t))), some (.int (iI (j)))]) (nm := "towerAt") (own := RX3) (by decide +kernel) rfl rfl (by exact Nat.le_of_ble_eq_true rfl) (by rfl) ?_
  intro Z Q E F
  refine y_bipush E dX3_towerAt_0 (by decide) ?_
  refine y_bipush E dX3_towerAt_2 (by decide) ?_
  refine y_iload_n E dX3_towerAt_4 (by rfl) ?_
  refine y_imul E dX3_towerAt_5 ?_
  refine y_iadd E dX3_towerAt_6 ?_
  refine y_iload_n E dX3_towerAt_7 (by rfl) ?_
  refine y_iadd E dX3_towerAt_8 ?_
  refine y_ireturn E F rfl rfl dX3_towerAt_9 (by omega) (by omega) ⟨(rI (by rfl)), rfl⟩
theorem m_lensAt {l j : Int} : Ct_X3_lensAt Γ 1 0 0 [.int (iI (l)), .int (iI (j))] (G) (fun v G' => v = some (.int (iI (89 + 3 * l + j))) ∧ G' = G) noX := by
  refine y_start (lv0 := [some (.int (iI (l))), some (.int (iI (j)))]) (nm := "lensAt") (own := RX3) (by decide +kernel) rfl rfl (by exact Nat.le_of_ble_eq_true rfl) (by rfl) ?_
  intro Z Q E F
  refine y_bipush E dX3_lensAt_0 (by decide) ?_
  refine y_iconst E dX3_lensAt_2 ?_
  refine y_iload_n E dX3_lensAt_3 (by rfl) ?_
  refine y_imul E dX3_lensAt_4 ?_
  refine y_iadd E dX3_lensAt_5 ?_
  refine y_iload_n E dX3_lensAt_6 (by rfl) ?_
  refine y_iadd E dX3_lensAt_7 ?_
  refine y_ireturn E F rfl rfl dX3_lensAt_8 (by omega) (by omega) ⟨(rI (by rfl)), rfl⟩
theorem m_isPlace {x : Int} (hv : inR x) : Ct_X3_isPlace Γ 2 0 0 [.int (iI (x))] (G) (fun v G' => v = some (.int (iI (b2i (dB (0 ≤ x ∧ x ≤ 60))))) ∧ G' = G) noX := by
  refine y_start (lv0 := [some (.int (iI (x)))]) (nm := "isPlace") (own := RX3) (by decide +kernel) rfl rfl (by exact Nat.le_of_ble_eq_true rfl) (by rfl) ?_
  intro Z Q E F
  refine y_iload_n E dX3_isPlace_0 (by rfl) ?_
  refine y_iconst E dX3_isPlace_1 ?_
  refine y_bipush E dX3_isPlace_2 (by decide) ?_
  refine y_callS E dX3_isPlace_4 lk_X3_77 (m_isBetween ?_ ?_ ?_) (by rfl) (by decide) (by omega) (by omega) rfl (Nat.le_of_ble_eq_true rfl) ?_ (fun _ _ _ h => h.elim)
  · omega
  · omega
  · omega
  rintro _ _ ⟨rfl, rfl⟩
  refine y_ireturn E F rfl (nar_b _) dX3_isPlace_7 (by omega) (by omega) ⟨rfl, rfl⟩
theorem m_thrown (hA : mA A) : Ct_X3_thrown Γ 1 0 0 [.ref (A 0)] (mH A T G) (fun v G' => v = some (.int (iI (T 0 0))) ∧ G' = mH A T G) noX := by
  refine y_start (lv0 := [some (.ref (A 0))]) (nm := "thrown") (own := RX3) (by decide +kernel) rfl rfl (by exact Nat.le_of_ble_eq_true rfl) (by rfl) ?_
  intro Z Q E F
  first | refine y_ald_n E dX3_thrown_0 (by rfl) ?_ | refine y_aload_n E dX3_thrown_0 (by rfl) ?_
  refine y_get E dX3_thrown_1 fl_X3_51_X3 (m_o hA _ _) (by rfl) ?_
  refine y_ireturn E F rfl rfl dX3_thrown_4 (by omega) (by omega) ⟨(rI (by rfl)), rfl⟩
theorem m_fails (hA : mA A) {c : Int} : Ct_X3_fails Γ 1 0 0 [.ref (A 0), .int (iI (c))] (mH A T G) (fun v G' => v = some (.int (iI (0))) ∧ G' = mH A (upN T 0 (fun _ => c)) G) noX := by
  refine y_start (lv0 := [some (.ref (A 0)), some (.int (iI (c)))]) (nm := "fails") (own := RX3) (by decide +kernel) rfl rfl (by exact Nat.le_of_ble_eq_true rfl) (by rfl) ?_
  intro Z Q E F
  first | refine y_ald_n E dX3_fails_0 (by rfl) ?_ | refine y_aload_n E dX3_fails_0 (by rfl) ?_
  refine y_iload_n E dX3_fails_1 (by rfl) ?_
  refine y_put E dX3_fails_2 fl_X3_51_X3 fw_X3_0 rfl (by rfl) (m_o hA _ _) (Nat.le_of_ble_eq_true rfl) ?_
  refine y_heap (m_p0 hA) ?_
  refine y_iconst E dX3_fails_5 ?_
  refine y_ireturn E F rfl rfl dX3_fails_6 (by omega) (by omega) ⟨(rI (by rfl)), rfl⟩
theorem m_hinders (hA : mA A) {r d : Int} : Ct_X3_hinders Γ 1 0 0 [.ref (A 0), .int (iI (r)), .int (iI (d))] (mH A T G) (fun v G' => v = some (.int (iI (b2i (dB (True))))) ∧ G' = mH A (upN (upN T 1 (fun _ => r)) 2 (fun _ => d)) G) noX := by
  refine y_start (lv0 := [some (.ref (A 0)), some (.int (iI (r))), some (.int (iI (d)))]) (nm := "hinders") (own := RX3) (by decide +kernel) rfl rfl (by exact Nat.le_of_ble_eq_true rfl) (by rfl) ?_
  intro Z Q E F
  first | refine y_ald_n E dX3_hinders_0 (by rfl) ?_ | refine y_aload_n E dX3_hinders_0 (by rfl) ?_
  refine y_iload_n E dX3_hinders_1 (by rfl) ?_
  refine y_put E dX3_hinders_2 fl_X3_54_X3 fw_X3_1 rfl (by rfl) (m_o hA _ _) (Nat.le_of_ble_eq_true rfl) ?_
  refine y_heap (m_p1 hA) ?_
  first | refine y_ald_n E dX3_hinders_5 (by rfl) ?_ | refine y_aload_n E dX3_hinders_5 (by rfl) ?_
  refine y_iload_n E dX3_hinders_6 (by rfl) ?_
  refine y_put E dX3_hinders_7 fl_X3_57_X3 fw_X3_2 rfl (by rfl) (m_o hA _ _) (Nat.le_of_ble_eq_true rfl) ?_
  refine y_heap (m_p2 hA) ?_
  refine y_iconst E dX3_hinders_10 ?_
  refine y_ireturn E F rfl rfl dX3_hinders_11 (by omega) (by omega) ⟨(rT (trivial)), rfl⟩
theorem m_ofTower (hA : mA A) {t j : Int} (ht : 0 ≤ t ∧ t < 8) (hj : 0 ≤ j ∧ j < 8) : Ct_X3_ofTower Γ 2 0 0 [.ref (A 0), .int (iI (t)), .int (iI (j))] (mH A T G) (fun v G' => v = some (.int (iI (tw (T 5) t j))) ∧ G' = mH A T G) noX := by
  refine y_start (lv0 := [some (.ref (A 0)), some (.int (iI (t))), some (.int (iI (j)))]) (nm := "ofTower") (own := RX3) (by decide +kernel) rfl rfl (by exact Nat.le_of_ble_eq_true rfl) (by rfl) ?_
  intro Z Q E F
  first | refine y_ald_n E dX3_ofTower_0 (by rfl) ?_ | refine y_aload_n E dX3_ofTower_0 (by rfl) ?_
  refine y_get E dX3_ofTower_1 fl_X3_13_X3 (m_o hA _ _) (by rfl) ?_
  refine y_iload_n E dX3_ofTower_4 (by rfl) ?_
  refine y_iload_n E dX3_ofTower_5 (by rfl) ?_
  refine y_callS E dX3_ofTower_6 lk_X3_73 (m_towerAt) (by rfl) (by decide) (by omega) (by omega) rfl (Nat.le_of_ble_eq_true rfl) ?_ (fun _ _ _ h => h.elim)
  rintro _ _ ⟨rfl, rfl⟩
  refine y_iald E dX3_ofTower_9 (m_r5 hA _ _) (by omega) ?_
  refine y_ireturn E F rfl rfl dX3_ofTower_10 (by omega) (by omega) ⟨(rI (by rfl)), rfl⟩
theorem m_isTower (hA : mA A) (hS : SH (T 5)) {t : Int} (ht : inR t) : Ct_X3_isTower Γ 2 0 0 [.ref (A 0), .int (iI (t))] (mH A T G) (fun v G' => v = some (.int (iI (b2i (dB (0 ≤ t ∧ t ≤ T 5 10 - 1))))) ∧ G' = mH A T G) noX := by
  refine y_start (lv0 := [some (.ref (A 0)), some (.int (iI (t)))]) (nm := "isTower") (own := RX3) (by decide +kernel) rfl rfl (by exact Nat.le_of_ble_eq_true rfl) (by rfl) ?_
  intro Z Q E F
  have hS1 := hS.nt
  refine y_iload_n E dX3_isTower_0 (by rfl) ?_
  refine y_iconst E dX3_isTower_1 ?_
  first | refine y_ald_n E dX3_isTower_2 (by rfl) ?_ | refine y_aload_n E dX3_isTower_2 (by rfl) ?_
  refine y_get E dX3_isTower_3 fl_X3_13_X3 (m_o hA _ _) (by rfl) ?_
  refine y_bipush E dX3_isTower_6 (by decide) ?_
  refine y_iald E dX3_isTower_8 (m_r5 hA _ _) (by omega) ?_
  refine y_iconst E dX3_isTower_9 ?_
  refine y_isub E dX3_isTower_10 ?_
  refine y_callS E dX3_isTower_11 lk_X3_77 (m_isBetween ?_ ?_ ?_) (by rfl) (by decide) (by omega) (by omega) rfl (Nat.le_of_ble_eq_true rfl) ?_ (fun _ _ _ h => h.elim)
  · omega
  · omega
  · omega
  rintro _ _ ⟨rfl, rfl⟩
  refine y_ireturn E F rfl (nar_b _) dX3_isTower_14 (by omega) (by omega) ⟨rfl, rfl⟩
theorem m_isLit (hA : mA A) (hS : SH (T 5)) {t : Int} (ht : 0 ≤ t ∧ t < 8) : Ct_X3_isLit Γ 3 0 0 [.ref (A 0), .int (iI (t))] (mH A T G) (fun v G' => v = some (.int (iI (b2i (dB (tw (T 5) t 4 = 1))))) ∧ G' = mH A T G) noX := by
  refine y_start (lv0 := [some (.ref (A 0)), some (.int (iI (t)))]) (nm := "isLit") (own := RX3) (by decide +kernel) rfl rfl (by exact Nat.le_of_ble_eq_true rfl) (by rfl) ?_
  intro Z Q E F
  have hS1 := hS.t ht.1 ht.2
  first | refine y_ald_n E dX3_isLit_0 (by rfl) ?_ | refine y_aload_n E dX3_isLit_0 (by rfl) ?_
  refine y_iload_n E dX3_isLit_1 (by rfl) ?_
  refine y_iconst E dX3_isLit_2 ?_
  refine y_callV E dX3_isLit_3 lk_X3_81 (m_ofTower hA ?_ ?_) (by rfl) (m_o hA _ _) rfl (by decide) (by omega) (by omega) rfl (Nat.le_of_ble_eq_true rfl) ?_ (fun _ _ _ h => h.elim)
  · omega
  · omega
  rintro _ _ ⟨rfl, rfl⟩
  refine y_iconst E dX3_isLit_6 ?_
  refine y_icmp_ne (tgt := 14) E dX3_isLit_7 (by decide) (by omega) (by omega) (fun h7 => ?_) (fun h7 => ?_)
  · refine y_iconst E dX3_isLit_14 ?_
    refine y_ireturn E F rfl rfl dX3_isLit_15 (by omega) (by omega) ⟨(rF (by omega)), rfl⟩
  · refine y_iconst E dX3_isLit_10 ?_
    refine y_goto (tgt := 15) E dX3_isLit_11 (by decide) ?_
    refine y_ireturn E F rfl rfl dX3_isLit_15 (by omega) (by omega) ⟨(rT (by omega)), rfl⟩
theorem m_powerOf (hA : mA A) (hS : SH (T 5)) {t : Int} (ht : 0 ≤ t ∧ t < 8) : Ct_X3_powerOf Γ 3 0 0 [.ref (A 0), .int (iI (t))] (mH A T G) (fun v G' => v = some (.int (iI (powS (T 5) t))) ∧ G' = mH A T G) noX := by
  refine y_start (lv0 := [some (.ref (A 0)), some (.int (iI (t)))]) (nm := "powerOf") (own := RX3) (by decide +kernel) rfl rfl (by exact Nat.le_of_ble_eq_true rfl) (by rfl) ?_
  intro Z Q E F
  have hS1 := hS.t ht.1 ht.2
  first | refine y_ald_n E dX3_powerOf_0 (by rfl) ?_ | refine y_aload_n E dX3_powerOf_0 (by rfl) ?_
  refine y_iload_n E dX3_powerOf_1 (by rfl) ?_
  refine y_iconst E dX3_powerOf_2 ?_
  refine y_callV E dX3_powerOf_3 lk_X3_81 (m_ofTower hA ?_ ?_) (by rfl) (m_o hA _ _) rfl (by decide) (by omega) (by omega) rfl (Nat.le_of_ble_eq_true rfl) ?_ (fun _ _ _ h => h.elim)
  · omega
  · omega
  rintro _ _ ⟨rfl, rfl⟩
  refine y_if_ge (tgt := 13) E dX3_powerOf_6 (by decide) (by omega) (fun h6 => ?_) (fun h6 => ?_)
  · first | refine y_ald_n E dX3_powerOf_13 (by rfl) ?_ | refine y_aload_n E dX3_powerOf_13 (by rfl) ?_
    refine y_get E dX3_powerOf_14 fl_X3_13_X3 (m_o hA _ _) (by rfl) ?_
    first | refine y_ald_n E dX3_powerOf_17 (by rfl) ?_ | refine y_aload_n E dX3_powerOf_17 (by rfl) ?_
    refine y_iload_n E dX3_powerOf_18 (by rfl) ?_
    refine y_iconst E dX3_powerOf_19 ?_
    refine y_callV E dX3_powerOf_20 lk_X3_81 (m_ofTower hA ?_ ?_) (by rfl) (m_o hA _ _) rfl (by decide) (by omega) (by omega) rfl (Nat.le_of_ble_eq_true rfl) ?_ (fun _ _ _ h => h.elim)
    · omega
    · omega
    rintro _ _ ⟨rfl, rfl⟩
    refine y_iconst E dX3_powerOf_23 ?_
    refine y_callS E dX3_powerOf_24 lk_X3_84 (m_lensAt) (by rfl) (by decide) (by omega) (by omega) rfl (Nat.le_of_ble_eq_true rfl) ?_ (fun _ _ _ h => h.elim)
    rintro _ _ ⟨rfl, rfl⟩
    refine y_iald E dX3_powerOf_27 (m_r5 hA _ _) (by omega) ?_
    refine y_ireturn E F rfl rfl dX3_powerOf_28 (by omega) (by omega) ⟨(rI (by unfold powS; first | (rw [if_pos (by omega)]) | (rw [if_neg (by omega)]; rfl))), rfl⟩
  · refine y_iconst E dX3_powerOf_9 ?_
    refine y_goto (tgt := 28) E dX3_powerOf_10 (by decide) ?_
    refine y_ireturn E F rfl rfl dX3_powerOf_28 (by omega) (by omega) ⟨(rI (by unfold powS; first | (rw [if_pos (by omega)]) | (rw [if_neg (by omega)]; rfl))), rfl⟩
end Tw1
