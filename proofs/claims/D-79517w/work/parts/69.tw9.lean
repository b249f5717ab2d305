/-! ===== the twin: questions ===== -/
section Rw9
def plc (p : Int) : Prop := 0 ≤ p ∧ p ≤ 60
noncomputable def q_cost (w : Int → Int) (a b : Int) : Int × Int := if (0 ≤ a ∧ a ≤ 60) ∧ 0 ≤ b ∧ b ≤ 60 then (0, costS w a b) else (1, 0)
noncomputable def q_farthest (w : Int → Int) (t h : Int) : Int × Int := if ¬ (0 ≤ t ∧ t ≤ w 10 - 1) then (1, 0) else if tw w t 3 < 0 then (2, 0) else if h = 0 then (0, farDS w t) else (0, farUS w t)
noncomputable def q_watcher (w : Int → Int) (p : Int) : Int × Int := if ¬ (0 ≤ p ∧ p ≤ 60) then (1, 0) else if watS w p < 0 then (2, 0) else (0, watS w p)
noncomputable def q_watched (w : Int → Int) (t : Int) : Int × Int := if ¬ (0 ≤ t ∧ t ≤ w 10 - 1) then (1, 0) else (0, sumI (fun p => b2i (dB (watS w p = t))) 61)
noncomputable def q_margin (w : Int → Int) (t o : Int) : Int × Int := if ¬ ((0 ≤ t ∧ t ≤ w 10 - 1) ∧ (0 ≤ o ∧ o ≤ w 10 - 1) ∧ t ≠ o) then (1, 0) else if dB (csP w t o) = true then (0, marS w t o) else (2, 0)
noncomputable def o_append (T : Nat → Int → Int) (x : Int) : Int × (Nat → Int → Int) := if ¬ (33 ≤ x ∧ x ≤ 126) then (0, failT T 1) else if T 17 0 = 60 then (0, failT T 2) else (T 17 0 + 1, upN (upN (upN T 0 (fun _ => 0)) 15 (upI (T 15) (T 17 0) x)) 17 (fun _ => T 17 0 + 1))
def q_letter (T : Nat → Int → Int) (i : Int) : Int × Int := if ¬ (0 ≤ i ∧ i ≤ T 18 0 - 1) then (1, 0) else (0, T 16 i)
noncomputable def lostS (T : Nat → Int → Int) : Int := sumI (fun k => b2i (dB (T 16 k = 63))) (T 18 0)
def q_fault (T : Nat → Int → Int) : Int × Int := if T 24 0 < 0 then (1, 0) else (0, T 24 0)
def q_reason (T : Nat → Int → Int) (d x : Int) : Int × Int := if d < 0 then (1, 0) else if T 3 0 ≤ d then (2, 0) else if x = 0 then (0, T 4 (2 * d + 0)) else (0, T 4 (2 * d + 1))
noncomputable def q_towerOf (w : Int → Int) (t x : Int) : Int × Int := if ¬ (0 ≤ t ∧ t ≤ w 10 - 1) then (1, 0) else if x < 0 ∨ 8 < x then (2, 0) else if x < 6 then (0, tw w t x) else if x = 6 then (0, tw w t 7) else if x = 7 then (0, ((popS (tw w t 6).toNat : Nat) : Int)) else (0, sumI (fun p => b2i (dB (rchP w t p))) 61)
noncomputable def q_lensOf (w : Int → Int) (l x : Int) : Int × Int := if ¬ (0 ≤ l ∧ l ≤ w 11 - 1) then (1, 0) else if ¬ (0 ≤ x ∧ x ≤ 3) then (2, 0) else if x = 3 then (0, fstI (fun k => w (13 + k) = l) (w 12)) else (0, w (89 + 3 * l + x))
noncomputable def powA (w : Int → Int) (x : Int) : Int := sumI (fun l => if x ≤ lw w l 2 then lw w l 0 else 0) (w 11)
noncomputable def q_account (T : Nat → Int → Int) (x : Int) : Int × Int := if x < 0 ∨ 12 < x then (1, 0) else if x = 0 then (0, T 5 10) else if x = 1 then (0, litN (T 5)) else if x = 2 then (0, brkN (T 5)) else if x = 3 then (0, T 5 11) else if x = 4 then (0, T 5 12) else if x = 5 then (0, sumI (fun l => b2i (dB (lw (T 5) l 2 = -2))) (T 5 11)) else if x < 9 then (0, T 5 (0 + x - 6)) else if x = 9 then (0, powA (T 5) (-1)) else if x = 10 then (0, sumI (fun k => T 5 (3 + k)) 7) else if x = 11 then (0, T 17 0) else (0, T 9 0)
noncomputable def o_undo (T : Nat → Int → Int) : Int × (Nat → Int → Int) := if T 9 0 = 0 then (0, failT T 1) else (T 9 0 - 1, upN (upN (upN T 0 (fun _ => 0)) 9 (fun _ => T 9 0 - 1)) 5 (cpy (fun k => T 6 (128 * ((T 10 0 + (T 9 0 - 1)) % 8) + k)) (T 5) 0 128))
noncomputable def o_save (T : Nat → Int → Int) : Int × (Nat → Int → Int) := (litN (T 5), upN (upN (upN T 0 (fun _ => 0)) 7 (cpy (T 5) (T 7) 0 128)) 11 (fun _ => 1))
noncomputable def o_restore (T : Nat → Int → Int) : Int × (Nat → Int → Int) := if T 11 0 = 0 then (0, failT T 1) else (litN (cpy (T 7) (T 5) 0 128), upN (upN (upN (upN T 0 (fun _ => 0)) 5 (cpy (T 7) (T 5) 0 128)) 9 (fun _ => 0)) 10 (fun _ => 0))
end Rw9
section Tw9
variable {Γ : yG} {A : Nat → Nat} {T : Nat → Int → Int} {G : yH}
set_option maxHeartbeats 4000000
theorem m_cost (hA : mA A) {a b : Int} (ha : inR a) (hb : inR b) : Ct_X3_cost Γ 3 0 0 [.ref (A 0), .int (iI (a)), .int (iI (b))] (mH A T G) (fun v G' => v = some (.int (iI ((q_cost (T 5) a b).2))) ∧ G' = mH A (upN T 0 (fun _ => (q_cost (T 5) a b).1)) G) noX := by
  refine y_start (lv0 := [some (.ref (A 0)), some (.int (iI (a))), some (.int (iI (b)))]) (nm := "cost") (own := RX3) (by decide +kernel) rfl rfl (by exact Nat.le_of_ble_eq_true rfl) (by rfl) ?_
  intro Z Q E F
  first | refine y_ald_n E dX3_cost_0 (by rfl) ?_ | refine y_aload_n E dX3_cost_0 (by rfl) ?_
  refine y_iconst E dX3_cost_1 ?_
  refine y_put E dX3_cost_2 fl_X3_51_X3 fw_X3_0 rfl (by rfl) (m_o hA _ _) (Nat.le_of_ble_eq_true rfl) ?_
  refine y_heap (m_p0 hA) ?_
  refine y_iload_n E dX3_cost_5 (by rfl) ?_
  refine y_callS E dX3_cost_6 lk_X3_126 (m_isPlace ?_) (by rfl) (by decide) (by omega) (by omega) rfl (Nat.le_of_ble_eq_true rfl) ?_ (fun _ _ _ h => h.elim)
  · first | omega | (simp (decide := true) only [upN_s, upN_n, upN_upN, upN_id, remT_5, remT_8] <;> omega)
  rintro _ _ ⟨rfl, rfl⟩
  refine y_ifd_eq (tgt := 19) E dX3_cost_9 (by decide) (fun h9 => ?_) (fun h9 => ?_)
  · first | refine y_ald_n E dX3_cost_19 (by rfl) ?_ | refine y_aload_n E dX3_cost_19 (by rfl) ?_
    refine y_iconst E dX3_cost_20 ?_
    refine y_callV E dX3_cost_21 lk_X3_63 (m_fails hA) (by rfl) (m_o hA _ _) rfl (by decide) (by omega) (by omega) rfl (Nat.le_of_ble_eq_true rfl) ?_ (fun _ _ _ h => h.elim)
    rintro _ _ ⟨rfl, rfl⟩
    try simp (decide := true) only [upN_s, upN_n, upN_upN, upN_id, remT_5, remT_8]
    refine y_goto (tgt := 33) E dX3_cost_24 (by decide) ?_
    refine y_ireturn E F rfl rfl dX3_cost_33 (by omega) (by omega) (by first | (rw [show q_cost (T 5) a b = (0, costS (T 5) a b) from by unfold q_cost; rw [if_pos (by omega)]]; exact ⟨rfl, rfl⟩) | (rw [show q_cost (T 5) a b = (1, 0) from by unfold q_cost; rw [if_neg (by omega)]]; exact ⟨rfl, rfl⟩))
  · refine y_iload_n E dX3_cost_12 (by rfl) ?_
    refine y_callS E dX3_cost_13 lk_X3_126 (m_isPlace ?_) (by rfl) (by decide) (by omega) (by omega) rfl (Nat.le_of_ble_eq_true rfl) ?_ (fun _ _ _ h => h.elim)
    · first | omega | (simp (decide := true) only [upN_s, upN_n, upN_upN, upN_id, remT_5, remT_8] <;> omega)
    rintro _ _ ⟨rfl, rfl⟩
    refine y_ifd_ne (tgt := 27) E dX3_cost_16 (by decide) (fun h16 => ?_) (fun h16 => ?_)
    · first | refine y_ald_n E dX3_cost_27 (by rfl) ?_ | refine y_aload_n E dX3_cost_27 (by rfl) ?_
      refine y_iload_n E dX3_cost_28 (by rfl) ?_
      refine y_iload_n E dX3_cost_29 (by rfl) ?_
      refine y_callV E dX3_cost_30 lk_X3_87 (m_costOf hA ?_ ?_) (by rfl) (m_o hA _ _) rfl (by decide) (by omega) (by omega) rfl (Nat.le_of_ble_eq_true rfl) ?_ (fun _ _ _ h => h.elim)
      · first | omega | (simp (decide := true) only [upN_s, upN_n, upN_upN, upN_id, remT_5, remT_8] <;> omega)
      · first | omega | (simp (decide := true) only [upN_s, upN_n, upN_upN, upN_id, remT_5, remT_8] <;> omega)
      rintro _ _ ⟨rfl, rfl⟩
      try simp (decide := true) only [upN_s, upN_n, upN_upN, upN_id, remT_5, remT_8]
      refine y_ireturn E F rfl rfl dX3_cost_33 (by omega) (by omega) (by first | (rw [show q_cost (T 5) a b = (0, costS (T 5) a b) from by unfold q_cost; rw [if_pos (by omega)]]; exact ⟨rfl, rfl⟩) | (rw [show q_cost (T 5) a b = (1, 0) from by unfold q_cost; rw [if_neg (by omega)]]; exact ⟨rfl, rfl⟩))
    · first | refine y_ald_n E dX3_cost_19 (by rfl) ?_ | refine y_aload_n E dX3_cost_19 (by rfl) ?_
      refine y_iconst E dX3_cost_20 ?_
      refine y_callV E dX3_cost_21 lk_X3_63 (m_fails hA) (by rfl) (m_o hA _ _) rfl (by decide) (by omega) (by omega) rfl (Nat.le_of_ble_eq_true rfl) ?_ (fun _ _ _ h => h.elim)
      rintro _ _ ⟨rfl, rfl⟩
      try simp (decide := true) only [upN_s, upN_n, upN_upN, upN_id, remT_5, remT_8]
      refine y_goto (tgt := 33) E dX3_cost_24 (by decide) ?_
      refine y_ireturn E F rfl rfl dX3_cost_33 (by omega) (by omega) (by first | (rw [show q_cost (T 5) a b = (0, costS (T 5) a b) from by unfold q_cost; rw [if_pos (by omega)]]; exact ⟨rfl, rfl⟩) | (rw [show q_cost (T 5) a b = (1, 0) from by unfold q_cost; rw [if_neg (by omega)]]; exact ⟨rfl, rfl⟩))
theorem m_reaches (hA : mA A) (hS : SH (T 5)) {t p : Int} (ht : inR t) (hp : inR p) : Ct_X3_reaches Γ 5 0 0 [.ref (A 0), .int (iI (t)), .int (iI (p))] (mH A T G) (fun v G' => v = some (.int (iI (b2i (dB (((0 ≤ t ∧ t ≤ T 5 10 - 1) ∧ 0 ≤ p ∧ p ≤ 60) ∧ rchP (T 5) t p))))) ∧ G' = mH A (upN T 0 (fun _ => if (0 ≤ t ∧ t ≤ T 5 10 - 1) ∧ 0 ≤ p ∧ p ≤ 60 then 0 else 1)) G) noX := by
  refine y_start (lv0 := [some (.ref (A 0)), some (.int (iI (t))), some (.int (iI (p)))]) (nm := "reaches") (own := RX3) (by decide +kernel) rfl rfl (by exact Nat.le_of_ble_eq_true rfl) (by rfl) ?_
  intro Z Q E F
  have hn := hS.nt
  first | refine y_ald_n E dX3_reaches_0 (by rfl) ?_ | refine y_aload_n E dX3_reaches_0 (by rfl) ?_
  refine y_iconst E dX3_reaches_1 ?_
  refine y_put E dX3_reaches_2 fl_X3_51_X3 fw_X3_0 rfl (by rfl) (m_o hA _ _) (Nat.le_of_ble_eq_true rfl) ?_
  refine y_heap (m_p0 hA) ?_
  first | refine y_ald_n E dX3_reaches_5 (by rfl) ?_ | refine y_aload_n E dX3_reaches_5 (by rfl) ?_
  refine y_iload_n E dX3_reaches_6 (by rfl) ?_
  refine y_callV E dX3_reaches_7 lk_X3_148 (m_isTower hA ?_ ?_) (by rfl) (m_o hA _ _) rfl (by decide) (by omega) (by omega) rfl (Nat.le_of_ble_eq_true rfl) ?_ (fun _ _ _ h => h.elim)
  · exact hS
  · first | omega | (simp (decide := true) only [upN_s, upN_n, upN_upN, upN_id, remT_5, remT_8] <;> omega)
  rintro _ _ ⟨rfl, rfl⟩
  try simp (decide := true) only [upN_s, upN_n, upN_upN, upN_id, remT_5, remT_8]
  refine y_ifd_eq (tgt := 20) E dX3_reaches_10 (by decide) (fun h10 => ?_) (fun h10 => ?_)
  · first | refine y_ald_n E dX3_reaches_20 (by rfl) ?_ | refine y_aload_n E dX3_reaches_20 (by rfl) ?_
    refine y_iconst E dX3_reaches_21 ?_
    refine y_callV E dX3_reaches_22 lk_X3_63 (m_fails hA) (by rfl) (m_o hA _ _) rfl (by decide) (by omega) (by omega) rfl (Nat.le_of_ble_eq_true rfl) ?_ (fun _ _ _ h => h.elim)
    rintro _ _ ⟨rfl, rfl⟩
    try simp (decide := true) only [upN_s, upN_n, upN_upN, upN_id, remT_5, remT_8]
    refine y_if_eq (tgt := 32) E dX3_reaches_25 (by decide) (by omega) (fun h25 => ?_) (fun h25 => ?_)
    · refine y_iconst E dX3_reaches_32 ?_
      refine y_ireturn E F rfl rfl dX3_reaches_33 (by omega) (by omega) (by first | exact absurd rfl h25 | (rw [if_neg (by omega)]; exact ⟨rF (by omega), rfl⟩))
    · refine y_iconst E dX3_reaches_28 ?_
      refine y_goto (tgt := 33) E dX3_reaches_29 (by decide) ?_
      refine y_ireturn E F rfl rfl dX3_reaches_33 (by omega) (by omega) (by first | exact absurd rfl h25 | (rw [if_neg (by omega)]; exact ⟨rF (by omega), rfl⟩))
  · refine y_iload_n E dX3_reaches_13 (by rfl) ?_
    refine y_callS E dX3_reaches_14 lk_X3_126 (m_isPlace ?_) (by rfl) (by decide) (by omega) (by omega) rfl (Nat.le_of_ble_eq_true rfl) ?_ (fun _ _ _ h => h.elim)
    · first | omega | (simp (decide := true) only [upN_s, upN_n, upN_upN, upN_id, remT_5, remT_8] <;> omega)
    rintro _ _ ⟨rfl, rfl⟩
    refine y_ifd_ne (tgt := 34) E dX3_reaches_17 (by decide) (fun h17 => ?_) (fun h17 => ?_)
    · first | refine y_ald_n E dX3_reaches_34 (by rfl) ?_ | refine y_aload_n E dX3_reaches_34 (by rfl) ?_
      refine y_iload_n E dX3_reaches_35 (by rfl) ?_
      refine y_iload_n E dX3_reaches_36 (by rfl) ?_
      refine y_callV E dX3_reaches_37 lk_X3_93 (m_doesReach hA ?_ ?_ ?_) (by rfl) (m_o hA _ _) rfl (by decide) (by omega) (by omega) rfl (Nat.le_of_ble_eq_true rfl) ?_ (fun _ _ _ h => h.elim)
      · exact hS
      · first | omega | (simp (decide := true) only [upN_s, upN_n, upN_upN, upN_id, remT_5, remT_8] <;> omega)
      · first | omega | (simp (decide := true) only [upN_s, upN_n, upN_upN, upN_id, remT_5, remT_8] <;> omega)
      rintro _ _ ⟨rfl, rfl⟩
      try simp (decide := true) only [upN_s, upN_n, upN_upN, upN_id, remT_5, remT_8]
      refine y_ireturn E F rfl (nar_b _) dX3_reaches_40 (by omega) (by omega) (by rw [if_pos (by omega)]; exact ⟨rB ⟨fun h => ⟨⟨h10, h17⟩, h⟩, fun h => h.2⟩, rfl⟩)
    · first | refine y_ald_n E dX3_reaches_20 (by rfl) ?_ | refine y_aload_n E dX3_reaches_20 (by rfl) ?_
      refine y_iconst E dX3_reaches_21 ?_
      refine y_callV E dX3_reaches_22 lk_X3_63 (m_fails hA) (by rfl) (m_o hA _ _) rfl (by decide) (by omega) (by omega) rfl (Nat.le_of_ble_eq_true rfl) ?_ (fun _ _ _ h => h.elim)
      rintro _ _ ⟨rfl, rfl⟩
      try simp (decide := true) only [upN_s, upN_n, upN_upN, upN_id, remT_5, remT_8]
      refine y_if_eq (tgt := 32) E dX3_reaches_25 (by decide) (by omega) (fun h25 => ?_) (fun h25 => ?_)
      · refine y_iconst E dX3_reaches_32 ?_
        refine y_ireturn E F rfl rfl dX3_reaches_33 (by omega) (by omega) (by first | exact absurd rfl h25 | (rw [if_neg (by omega)]; exact ⟨rF (by omega), rfl⟩))
      · refine y_iconst E dX3_reaches_28 ?_
        refine y_goto (tgt := 33) E dX3_reaches_29 (by decide) ?_
        refine y_ireturn E F rfl rfl dX3_reaches_33 (by omega) (by omega) (by first | exact absurd rfl h25 | (rw [if_neg (by omega)]; exact ⟨rF (by omega), rfl⟩))
theorem m_farthest (hA : mA A) (hS : SH (T 5)) {t x : Int} (ht : inR t) (hx : inR x) : Ct_X3_farthest Γ 6 0 0 [.ref (A 0), .int (iI (t)), .int (iI (x))] (mH A T G) (fun v G' => v = some (.int (iI ((q_farthest (T 5) t x).2))) ∧ G' = mH A (upN T 0 (fun _ => (q_farthest (T 5) t x).1)) G) noX := by
  refine y_start (lv0 := [some (.ref (A 0)), some (.int (iI (t))), some (.int (iI (x)))]) (nm := "farthest") (own := RX3) (by decide +kernel) rfl rfl (by exact Nat.le_of_ble_eq_true rfl) (by rfl) ?_
  intro Z Q E F
  have hn := hS.nt
  have hS1 := fun h : 0 ≤ t ∧ t < 8 => hS.t h.1 h.2
  first | refine y_ald_n E dX3_farthest_0 (by rfl) ?_ | refine y_aload_n E dX3_farthest_0 (by rfl) ?_
  refine y_iconst E dX3_farthest_1 ?_
  refine y_put E dX3_farthest_2 fl_X3_51_X3 fw_X3_0 rfl (by rfl) (m_o hA _ _) (Nat.le_of_ble_eq_true rfl) ?_
  refine y_heap (m_p0 hA) ?_
  first | refine y_ald_n E dX3_farthest_5 (by rfl) ?_ | refine y_aload_n E dX3_farthest_5 (by rfl) ?_
  refine y_iload_n E dX3_farthest_6 (by rfl) ?_
  refine y_callV E dX3_farthest_7 lk_X3_148 (m_isTower hA ?_ ?_) (by rfl) (m_o hA _ _) rfl (by decide) (by omega) (by omega) rfl (Nat.le_of_ble_eq_true rfl) ?_ (fun _ _ _ h => h.elim)
  · exact hS
  · first | omega | (simp (decide := true) only [upN_s, upN_n, upN_upN, upN_id, remT_5, remT_8] <;> omega)
  rintro _ _ ⟨rfl, rfl⟩
  try simp (decide := true) only [upN_s, upN_n, upN_upN, upN_id, remT_5, remT_8]
  refine y_ifd_ne (tgt := 19) E dX3_farthest_10 (by decide) (fun h10 => ?_) (fun h10 => ?_)
  · first | refine y_ald_n E dX3_farthest_19 (by rfl) ?_ | refine y_aload_n E dX3_farthest_19 (by rfl) ?_
    have hS1 := hS1 (by omega)
    refine y_iload_n E dX3_farthest_20 (by rfl) ?_
    refine y_iconst E dX3_farthest_21 ?_
    refine y_callV E dX3_farthest_22 lk_X3_81 (m_ofTower hA ?_ ?_) (by rfl) (m_o hA _ _) rfl (by decide) (by omega) (by omega) rfl (Nat.le_of_ble_eq_true rfl) ?_ (fun _ _ _ h => h.elim)
    · first | omega | (simp (decide := true) only [upN_s, upN_n, upN_upN, upN_id, remT_5, remT_8] <;> omega)
    · first | omega | (simp (decide := true) only [upN_s, upN_n, upN_upN, upN_id, remT_5, remT_8] <;> omega)
    rintro _ _ ⟨rfl, rfl⟩
    try simp (decide := true) only [upN_s, upN_n, upN_upN, upN_id, remT_5, remT_8]
    refine y_if_ge (tgt := 34) E dX3_farthest_25 (by decide) (by omega) (fun h25 => ?_) (fun h25 => ?_)
    · first | refine y_ald_n E dX3_farthest_34 (by rfl) ?_ | refine y_aload_n E dX3_farthest_34 (by rfl) ?_
      refine y_iload_n E dX3_farthest_35 (by rfl) ?_
      refine y_iload_n E dX3_farthest_36 (by rfl) ?_
      refine y_if_eq (tgt := 44) E dX3_farthest_37 (by decide) (by omega) (fun h37 => ?_) (fun h37 => ?_)
      · refine y_iconst E dX3_farthest_44 ?_
        refine y_callV E dX3_farthest_45 lk_X3_201 (m_farPlace_d hA ?_ ?_) (by rfl) (m_o hA _ _) rfl (by decide) (by omega) (by omega) rfl (Nat.le_of_ble_eq_true rfl) ?_ (fun _ _ _ h => h.elim)
        · exact hS
        · first | omega | (simp (decide := true) only [upN_s, upN_n, upN_upN, upN_id, remT_5, remT_8] <;> omega)
        rintro _ _ ⟨rfl, rfl⟩
        try simp (decide := true) only [upN_s, upN_n, upN_upN, upN_id, remT_5, remT_8]
        refine y_ireturn E F rfl rfl dX3_farthest_48 (by omega) (by omega) (by first | (rw [show q_farthest (T 5) t x = (0, farDS (T 5) t) from by unfold q_farthest; rw [if_neg (by omega), if_neg (by omega), if_pos (by omega)]]; exact ⟨rfl, rfl⟩) | (rw [show q_farthest (T 5) t x = (0, farUS (T 5) t) from by unfold q_farthest; rw [if_neg (by omega), if_neg (by omega), if_neg (by omega)]]; exact ⟨rfl, rfl⟩))
      · refine y_iconst E dX3_farthest_40 ?_
        refine y_goto (tgt := 45) E dX3_farthest_41 (by decide) ?_
        refine y_callV E dX3_farthest_45 lk_X3_201 (m_farPlace_u hA ?_ ?_) (by rfl) (m_o hA _ _) rfl (by decide) (by omega) (by omega) rfl (Nat.le_of_ble_eq_true rfl) ?_ (fun _ _ _ h => h.elim)
        · exact hS
        · first | omega | (simp (decide := true) only [upN_s, upN_n, upN_upN, upN_id, remT_5, remT_8] <;> omega)
        rintro _ _ ⟨rfl, rfl⟩
        try simp (decide := true) only [upN_s, upN_n, upN_upN, upN_id, remT_5, remT_8]
        refine y_ireturn E F rfl rfl dX3_farthest_48 (by omega) (by omega) (by first | (rw [show q_farthest (T 5) t x = (0, farDS (T 5) t) from by unfold q_farthest; rw [if_neg (by omega), if_neg (by omega), if_pos (by omega)]]; exact ⟨rfl, rfl⟩) | (rw [show q_farthest (T 5) t x = (0, farUS (T 5) t) from by unfold q_farthest; rw [if_neg (by omega), if_neg (by omega), if_neg (by omega)]]; exact ⟨rfl, rfl⟩))
    · first | refine y_ald_n E dX3_farthest_28 (by rfl) ?_ | refine y_aload_n E dX3_farthest_28 (by rfl) ?_
      refine y_iconst E dX3_farthest_29 ?_
      refine y_callV E dX3_farthest_30 lk_X3_63 (m_fails hA) (by rfl) (m_o hA _ _) rfl (by decide) (by omega) (by omega) rfl (Nat.le_of_ble_eq_true rfl) ?_ (fun _ _ _ h => h.elim)
      rintro _ _ ⟨rfl, rfl⟩
      try simp (decide := true) only [upN_s, upN_n, upN_upN, upN_id, remT_5, remT_8]
      refine y_ireturn E F rfl rfl dX3_farthest_33 (by omega) (by omega) (by first | (rw [show q_farthest (T 5) t x = (2, 0) from by unfold q_farthest; rw [if_neg (by omega), if_pos (by omega)]]; exact ⟨rfl, rfl⟩))
  · first | refine y_ald_n E dX3_farthest_13 (by rfl) ?_ | refine y_aload_n E dX3_farthest_13 (by rfl) ?_
    refine y_iconst E dX3_farthest_14 ?_
    refine y_callV E dX3_farthest_15 lk_X3_63 (m_fails hA) (by rfl) (m_o hA _ _) rfl (by decide) (by omega) (by omega) rfl (Nat.le_of_ble_eq_true rfl) ?_ (fun _ _ _ h => h.elim)
    rintro _ _ ⟨rfl, rfl⟩
    try simp (decide := true) only [upN_s, upN_n, upN_upN, upN_id, remT_5, remT_8]
    refine y_ireturn E F rfl rfl dX3_farthest_18 (by omega) (by omega) (by first | (rw [show q_farthest (T 5) t x = (1, 0) from by unfold q_farthest; rw [if_pos (by omega)]]; exact ⟨rfl, rfl⟩))
theorem m_areAlike (hA : mA A) (hS : SH (T 5)) (hU : UT (T 5)) {t o : Int} (ht : inR t) (ho : inR o) : Ct_X3_areAlike Γ 4 0 0 [.ref (A 0), .int (iI (t)), .int (iI (o))] (mH A T G) (fun v G' => v = some (.int (iI (b2i (dB (((0 ≤ t ∧ t ≤ T 5 10 - 1) ∧ 0 ≤ o ∧ o ≤ T 5 10 - 1) ∧ alikeP (T 5) t o))))) ∧ G' = mH A (upN T 0 (fun _ => if (0 ≤ t ∧ t ≤ T 5 10 - 1) ∧ 0 ≤ o ∧ o ≤ T 5 10 - 1 then 0 else 1)) G) noX := by
  refine y_start (lv0 := [some (.ref (A 0)), some (.int (iI (t))), some (.int (iI (o)))]) (nm := "areAlike") (own := RX3) (by decide +kernel) rfl rfl (by exact Nat.le_of_ble_eq_true rfl) (by rfl) ?_
  intro Z Q E F
  have hn := hS.nt
  first | refine y_ald_n E dX3_areAlike_0 (by rfl) ?_ | refine y_aload_n E dX3_areAlike_0 (by rfl) ?_
  refine y_iconst E dX3_areAlike_1 ?_
  refine y_put E dX3_areAlike_2 fl_X3_51_X3 fw_X3_0 rfl (by rfl) (m_o hA _ _) (Nat.le_of_ble_eq_true rfl) ?_
  refine y_heap (m_p0 hA) ?_
  first | refine y_ald_n E dX3_areAlike_5 (by rfl) ?_ | refine y_aload_n E dX3_areAlike_5 (by rfl) ?_
  refine y_iload_n E dX3_areAlike_6 (by rfl) ?_
  refine y_callV E dX3_areAlike_7 lk_X3_148 (m_isTower hA ?_ ?_) (by rfl) (m_o hA _ _) rfl (by decide) (by omega) (by omega) rfl (Nat.le_of_ble_eq_true rfl) ?_ (fun _ _ _ h => h.elim)
  · exact hS
  · first | omega | (simp (decide := true) only [upN_s, upN_n, upN_upN, upN_id, remT_5, remT_8] <;> omega)
  rintro _ _ ⟨rfl, rfl⟩
  try simp (decide := true) only [upN_s, upN_n, upN_upN, upN_id, remT_5, remT_8]
  refine y_ifd_eq (tgt := 21) E dX3_areAlike_10 (by decide) (fun h10 => ?_) (fun h10 => ?_)
  · first | refine y_ald_n E dX3_areAlike_21 (by rfl) ?_ | refine y_aload_n E dX3_areAlike_21 (by rfl) ?_
    refine y_iconst E dX3_areAlike_22 ?_
    refine y_callV E dX3_areAlike_23 lk_X3_63 (m_fails hA) (by rfl) (m_o hA _ _) rfl (by decide) (by omega) (by omega) rfl (Nat.le_of_ble_eq_true rfl) ?_ (fun _ _ _ h => h.elim)
    rintro _ _ ⟨rfl, rfl⟩
    try simp (decide := true) only [upN_s, upN_n, upN_upN, upN_id, remT_5, remT_8]
    refine y_if_eq (tgt := 33) E dX3_areAlike_26 (by decide) (by omega) (fun h26 => ?_) (fun h26 => ?_)
    · refine y_iconst E dX3_areAlike_33 ?_
      refine y_ireturn E F rfl rfl dX3_areAlike_34 (by omega) (by omega) (by first | exact absurd rfl h26 | (rw [if_neg (by omega)]; exact ⟨rF (by omega), rfl⟩))
    · refine y_iconst E dX3_areAlike_29 ?_
      refine y_goto (tgt := 34) E dX3_areAlike_30 (by decide) ?_
      refine y_ireturn E F rfl rfl dX3_areAlike_34 (by omega) (by omega) (by first | exact absurd rfl h26 | (rw [if_neg (by omega)]; exact ⟨rF (by omega), rfl⟩))
  · first | refine y_ald_n E dX3_areAlike_13 (by rfl) ?_ | refine y_aload_n E dX3_areAlike_13 (by rfl) ?_
    refine y_iload_n E dX3_areAlike_14 (by rfl) ?_
    refine y_callV E dX3_areAlike_15 lk_X3_148 (m_isTower hA ?_ ?_) (by rfl) (m_o hA _ _) rfl (by decide) (by omega) (by omega) rfl (Nat.le_of_ble_eq_true rfl) ?_ (fun _ _ _ h => h.elim)
    · exact hS
    · first | omega | (simp (decide := true) only [upN_s, upN_n, upN_upN, upN_id, remT_5, remT_8] <;> omega)
    rintro _ _ ⟨rfl, rfl⟩
    try simp (decide := true) only [upN_s, upN_n, upN_upN, upN_id, remT_5, remT_8]
    refine y_ifd_ne (tgt := 35) E dX3_areAlike_18 (by decide) (fun h18 => ?_) (fun h18 => ?_)
    · first | refine y_ald_n E dX3_areAlike_35 (by rfl) ?_ | refine y_aload_n E dX3_areAlike_35 (by rfl) ?_
      refine y_iload_n E dX3_areAlike_36 (by rfl) ?_
      refine y_iload_n E dX3_areAlike_37 (by rfl) ?_
      refine y_callV E dX3_areAlike_38 lk_X3_106 (m_lookAlike hA ?_ ?_ ?_ ?_ ?_) (by rfl) (m_o hA _ _) rfl (by decide) (by omega) (by omega) rfl (Nat.le_of_ble_eq_true rfl) ?_ (fun _ _ _ h => h.elim)
      · exact hS
      · first | omega | (simp (decide := true) only [upN_s, upN_n, upN_upN, upN_id, remT_5, remT_8] <;> omega)
      · first | omega | (simp (decide := true) only [upN_s, upN_n, upN_upN, upN_id, remT_5, remT_8] <;> omega)
      · exact hU t (by omega) (by omega)
      · exact hU o (by omega) (by omega)
      rintro _ _ ⟨rfl, rfl⟩
      try simp (decide := true) only [upN_s, upN_n, upN_upN, upN_id, remT_5, remT_8]
      refine y_ireturn E F rfl (nar_b _) dX3_areAlike_41 (by omega) (by omega) (by rw [if_pos (by omega)]; exact ⟨rB ⟨fun h => ⟨⟨h10, h18⟩, h⟩, fun h => h.2⟩, rfl⟩)
    · first | refine y_ald_n E dX3_areAlike_21 (by rfl) ?_ | refine y_aload_n E dX3_areAlike_21 (by rfl) ?_
      refine y_iconst E dX3_areAlike_22 ?_
      refine y_callV E dX3_areAlike_23 lk_X3_63 (m_fails hA) (by rfl) (m_o hA _ _) rfl (by decide) (by omega) (by omega) rfl (Nat.le_of_ble_eq_true rfl) ?_ (fun _ _ _ h => h.elim)
      rintro _ _ ⟨rfl, rfl⟩
      try simp (decide := true) only [upN_s, upN_n, upN_upN, upN_id, remT_5, remT_8]
      refine y_if_eq (tgt := 33) E dX3_areAlike_26 (by decide) (by omega) (fun h26 => ?_) (fun h26 => ?_)
      · refine y_iconst E dX3_areAlike_33 ?_
        refine y_ireturn E F rfl rfl dX3_areAlike_34 (by omega) (by omega) (by first | exact absurd rfl h26 | (rw [if_neg (by omega)]; exact ⟨rF (by omega), rfl⟩))
      · refine y_iconst E dX3_areAlike_29 ?_
        refine y_goto (tgt := 34) E dX3_areAlike_30 (by decide) ?_
        refine y_ireturn E F rfl rfl dX3_areAlike_34 (by omega) (by omega) (by first | exact absurd rfl h26 | (rw [if_neg (by omega)]; exact ⟨rF (by omega), rfl⟩))
theorem m_watcher (hA : mA A) (hS : SH (T 5)) {p : Int} (hp : inR p) : Ct_X3_watcher Γ 6 0 0 [.ref (A 0), .int (iI (p))] (mH A T G) (fun v G' => v = some (.int (iI ((q_watcher (T 5) p).2))) ∧ G' = mH A (upN T 0 (fun _ => (q_watcher (T 5) p).1)) G) noX := by
  refine y_start (lv0 := [some (.ref (A 0)), some (.int (iI (p))), none]) (nm := "watcher") (own := RX3) (by decide +kernel) rfl rfl (by exact Nat.le_of_ble_eq_true rfl) (by rfl) ?_
  intro Z Q E F
  have hw := watS_in hS p
  first | refine y_ald_n E dX3_watcher_0 (by rfl) ?_ | refine y_aload_n E dX3_watcher_0 (by rfl) ?_
  refine y_iconst E dX3_watcher_1 ?_
  refine y_put E dX3_watcher_2 fl_X3_51_X3 fw_X3_0 rfl (by rfl) (m_o hA _ _) (Nat.le_of_ble_eq_true rfl) ?_
  refine y_heap (m_p0 hA) ?_
  refine y_iload_n E dX3_watcher_5 (by rfl) ?_
  refine y_callS E dX3_watcher_6 lk_X3_126 (m_isPlace ?_) (by rfl) (by decide) (by omega) (by omega) rfl (Nat.le_of_ble_eq_true rfl) ?_ (fun _ _ _ h => h.elim)
  · first | omega | (simp (decide := true) only [upN_s, upN_n, upN_upN, upN_id, remT_5, remT_8] <;> omega)
  rintro _ _ ⟨rfl, rfl⟩
  refine y_ifd_ne (tgt := 18) E dX3_watcher_9 (by decide) (fun h9 => ?_) (fun h9 => ?_)
  · first | refine y_ald_n E dX3_watcher_18 (by rfl) ?_ | refine y_aload_n E dX3_watcher_18 (by rfl) ?_
    refine y_iload_n E dX3_watcher_19 (by rfl) ?_
    refine y_callV E dX3_watcher_20 lk_X3_204 (m_watcherOf hA ?_ ?_) (by rfl) (m_o hA _ _) rfl (by decide) (by omega) (by omega) rfl (Nat.le_of_ble_eq_true rfl) ?_ (fun _ _ _ h => h.elim)
    · exact hS
    · first | omega | (simp (decide := true) only [upN_s, upN_n, upN_upN, upN_id, remT_5, remT_8] <;> omega)
    rintro _ _ ⟨rfl, rfl⟩
    try simp (decide := true) only [upN_s, upN_n, upN_upN, upN_id, remT_5, remT_8]
    refine y_istore_n (j := 2) E dX3_watcher_23 rfl (Nat.le_of_ble_eq_true rfl) ?_
    refine y_iload_n E dX3_watcher_24 (by rfl) ?_
    refine y_if_ge (tgt := 36) E dX3_watcher_25 (by decide) (by omega) (fun h25 => ?_) (fun h25 => ?_)
    · refine y_iload_n E dX3_watcher_36 (by rfl) ?_
      refine y_ireturn E F rfl rfl dX3_watcher_37 (by omega) (by omega) (by first | (rw [show q_watcher (T 5) p = (2, 0) from by unfold q_watcher; rw [if_neg (by omega), if_pos (by omega)]]; exact ⟨rfl, rfl⟩) | (rw [show q_watcher (T 5) p = (0, watS (T 5) p) from by unfold q_watcher; rw [if_neg (by omega), if_neg (by omega)]]; exact ⟨rfl, rfl⟩))
    · first | refine y_ald_n E dX3_watcher_28 (by rfl) ?_ | refine y_aload_n E dX3_watcher_28 (by rfl) ?_
      refine y_iconst E dX3_watcher_29 ?_
      refine y_callV E dX3_watcher_30 lk_X3_63 (m_fails hA) (by rfl) (m_o hA _ _) rfl (by decide) (by omega) (by omega) rfl (Nat.le_of_ble_eq_true rfl) ?_ (fun _ _ _ h => h.elim)
      rintro _ _ ⟨rfl, rfl⟩
      try simp (decide := true) only [upN_s, upN_n, upN_upN, upN_id, remT_5, remT_8]
      refine y_goto (tgt := 37) E dX3_watcher_33 (by decide) ?_
      refine y_ireturn E F rfl rfl dX3_watcher_37 (by omega) (by omega) (by first | (rw [show q_watcher (T 5) p = (2, 0) from by unfold q_watcher; rw [if_neg (by omega), if_pos (by omega)]]; exact ⟨rfl, rfl⟩) | (rw [show q_watcher (T 5) p = (0, watS (T 5) p) from by unfold q_watcher; rw [if_neg (by omega), if_neg (by omega)]]; exact ⟨rfl, rfl⟩))
  · first | refine y_ald_n E dX3_watcher_12 (by rfl) ?_ | refine y_aload_n E dX3_watcher_12 (by rfl) ?_
    refine y_iconst E dX3_watcher_13 ?_
    refine y_callV E dX3_watcher_14 lk_X3_63 (m_fails hA) (by rfl) (m_o hA _ _) rfl (by decide) (by omega) (by omega) rfl (Nat.le_of_ble_eq_true rfl) ?_ (fun _ _ _ h => h.elim)
    rintro _ _ ⟨rfl, rfl⟩
    try simp (decide := true) only [upN_s, upN_n, upN_upN, upN_id, remT_5, remT_8]
    refine y_ireturn E F rfl rfl dX3_watcher_17 (by omega) (by omega) (by first | (rw [show q_watcher (T 5) p = (1, 0) from by unfold q_watcher; rw [if_pos (by omega)]]; exact ⟨rfl, rfl⟩))
theorem m_watched (hA : mA A) (hS : SH (T 5)) {t : Int} (ht : inR t) : Ct_X3_watched Γ 7 0 0 [.ref (A 0), .int (iI (t))] (mH A T G) (fun v G' => v = some (.int (iI ((q_watched (T 5) t).2))) ∧ G' = mH A (upN T 0 (fun _ => (q_watched (T 5) t).1)) G) noX := by
  refine y_start (lv0 := [some (.ref (A 0)), some (.int (iI (t)))]) (nm := "watched") (own := RX3) (by decide +kernel) rfl rfl (by exact Nat.le_of_ble_eq_true rfl) (by rfl) ?_
  intro Z Q E F
  first | refine y_ald_n E dX3_watched_0 (by rfl) ?_ | refine y_aload_n E dX3_watched_0 (by rfl) ?_
  refine y_iconst E dX3_watched_1 ?_
  refine y_put E dX3_watched_2 fl_X3_51_X3 fw_X3_0 rfl (by rfl) (m_o hA _ _) (Nat.le_of_ble_eq_true rfl) ?_
  refine y_heap (m_p0 hA) ?_
  first | refine y_ald_n E dX3_watched_5 (by rfl) ?_ | refine y_aload_n E dX3_watched_5 (by rfl) ?_
  refine y_iload_n E dX3_watched_6 (by rfl) ?_
  refine y_callV E dX3_watched_7 lk_X3_148 (m_isTower hA ?_ ?_) (by rfl) (m_o hA _ _) rfl (by decide) (by omega) (by omega) rfl (Nat.le_of_ble_eq_true rfl) ?_ (fun _ _ _ h => h.elim)
  · exact hS
  · first | omega | (simp (decide := true) only [upN_s, upN_n, upN_upN, upN_id, remT_5, remT_8] <;> omega)
  rintro _ _ ⟨rfl, rfl⟩
  try simp (decide := true) only [upN_s, upN_n, upN_upN, upN_id, remT_5, remT_8]
  refine y_ifd_eq (tgt := 21) E dX3_watched_10 (by decide) (fun h10 => ?_) (fun h10 => ?_)
  · first | refine y_ald_n E dX3_watched_21 (by rfl) ?_ | refine y_aload_n E dX3_watched_21 (by rfl) ?_
    refine y_iconst E dX3_watched_22 ?_
    refine y_callV E dX3_watched_23 lk_X3_63 (m_fails hA) (by rfl) (m_o hA _ _) rfl (by decide) (by omega) (by omega) rfl (Nat.le_of_ble_eq_true rfl) ?_ (fun _ _ _ h => h.elim)
    rintro _ _ ⟨rfl, rfl⟩
    try simp (decide := true) only [upN_s, upN_n, upN_upN, upN_id, remT_5, remT_8]
    refine y_ireturn E F rfl rfl dX3_watched_26 (by omega) (by omega) (by first | (rw [show q_watched (T 5) t = (1, 0) from by unfold q_watched; rw [if_pos (by omega)]]; exact ⟨rfl, rfl⟩) | (rw [show q_watched (T 5) t = (0, sumI (fun p => b2i (dB (watS (T 5) p = t))) 61) from by unfold q_watched; rw [if_neg (by omega)]]; exact ⟨rfl, rfl⟩))
  · first | refine y_ald_n E dX3_watched_13 (by rfl) ?_ | refine y_aload_n E dX3_watched_13 (by rfl) ?_
    refine y_iload_n E dX3_watched_14 (by rfl) ?_
    refine y_callV E dX3_watched_15 lk_X3_207 (m_watchedBy hA ?_ ?_) (by rfl) (m_o hA _ _) rfl (by decide) (by omega) (by omega) rfl (Nat.le_of_ble_eq_true rfl) ?_ (fun _ _ _ h => h.elim)
    · exact hS
    · first | omega | (simp (decide := true) only [upN_s, upN_n, upN_upN, upN_id, remT_5, remT_8] <;> omega)
    rintro _ _ ⟨rfl, rfl⟩
    try simp (decide := true) only [upN_s, upN_n, upN_upN, upN_id, remT_5, remT_8]
    refine y_goto (tgt := 26) E dX3_watched_18 (by decide) ?_
    refine y_ireturn E F rfl rfl dX3_watched_26 (by omega) (by omega) (by first | (rw [show q_watched (T 5) t = (1, 0) from by unfold q_watched; rw [if_pos (by omega)]]; exact ⟨rfl, rfl⟩) | (rw [show q_watched (T 5) t = (0, sumI (fun p => b2i (dB (watS (T 5) p = t))) 61) from by unfold q_watched; rw [if_neg (by omega)]]; exact ⟨rfl, rfl⟩))
theorem m_unwatched (hA : mA A) (hS : SH (T 5)) : Ct_X3_unwatched Γ 7 0 0 [.ref (A 0)] (mH A T G) (fun v G' => v = some (.int (iI (sumI (fun p => b2i (dB (watS (T 5) p = -1))) 61))) ∧ G' = mH A (upN T 0 (fun _ => 0)) G) noX := by
  refine y_start (lv0 := [some (.ref (A 0))]) (nm := "unwatched") (own := RX3) (by decide +kernel) rfl rfl (by exact Nat.le_of_ble_eq_true rfl) (by rfl) ?_
  intro Z Q E F
  first | refine y_ald_n E dX3_unwatched_0 (by rfl) ?_ | refine y_aload_n E dX3_unwatched_0 (by rfl) ?_
  refine y_iconst E dX3_unwatched_1 ?_
  refine y_put E dX3_unwatched_2 fl_X3_51_X3 fw_X3_0 rfl (by rfl) (m_o hA _ _) (Nat.le_of_ble_eq_true rfl) ?_
  refine y_heap (m_p0 hA) ?_
  first | refine y_ald_n E dX3_unwatched_5 (by rfl) ?_ | refine y_aload_n E dX3_unwatched_5 (by rfl) ?_
  refine y_iconst E dX3_unwatched_6 ?_
  refine y_callV E dX3_unwatched_7 lk_X3_207 (m_watchedBy hA ?_ ?_) (by rfl) (m_o hA _ _) rfl (by decide) (by omega) (by omega) rfl (Nat.le_of_ble_eq_true rfl) ?_ (fun _ _ _ h => h.elim)
  · exact hS
  · first | omega | (simp (decide := true) only [upN_s, upN_n, upN_upN, upN_id, remT_5, remT_8] <;> omega)
  rintro _ _ ⟨rfl, rfl⟩
  try simp (decide := true) only [upN_s, upN_n, upN_upN, upN_id, remT_5, remT_8]
  refine y_ireturn E F rfl rfl dX3_unwatched_10 (by omega) (by omega) ⟨(rI (by rfl)), rfl⟩
theorem m_margin (hA : mA A) (hS : SH (T 5)) {t o : Int} (ht : inR t) (ho : inR o) : Ct_X3_margin Γ 6 0 0 [.ref (A 0), .int (iI (t)), .int (iI (o))] (mH A T G) (fun v G' => v = some (.int (iI ((q_margin (T 5) t o).2))) ∧ G' = mH A (upN T 0 (fun _ => (q_margin (T 5) t o).1)) G) noX := by
  refine y_start (lv0 := [some (.ref (A 0)), some (.int (iI (t))), some (.int (iI (o)))]) (nm := "margin") (own := RX3) (by decide +kernel) rfl rfl (by exact Nat.le_of_ble_eq_true rfl) (by rfl) ?_
  intro Z Q E F
  have hn := hS.nt
  first | refine y_ald_n E dX3_margin_0 (by rfl) ?_ | refine y_aload_n E dX3_margin_0 (by rfl) ?_
  refine y_iconst E dX3_margin_1 ?_
  refine y_put E dX3_margin_2 fl_X3_51_X3 fw_X3_0 rfl (by rfl) (m_o hA _ _) (Nat.le_of_ble_eq_true rfl) ?_
  refine y_heap (m_p0 hA) ?_
  first | refine y_ald_n E dX3_margin_5 (by rfl) ?_ | refine y_aload_n E dX3_margin_5 (by rfl) ?_
  refine y_iload_n E dX3_margin_6 (by rfl) ?_
  refine y_callV E dX3_margin_7 lk_X3_148 (m_isTower hA ?_ ?_) (by rfl) (m_o hA _ _) rfl (by decide) (by omega) (by omega) rfl (Nat.le_of_ble_eq_true rfl) ?_ (fun _ _ _ h => h.elim)
  · exact hS
  · first | omega | (simp (decide := true) only [upN_s, upN_n, upN_upN, upN_id, remT_5, remT_8] <;> omega)
  rintro _ _ ⟨rfl, rfl⟩
  try simp (decide := true) only [upN_s, upN_n, upN_upN, upN_id, remT_5, remT_8]
  refine y_ifd_eq (tgt := 26) E dX3_margin_10 (by decide) (fun h10 => ?_) (fun h10 => ?_)
  · first | refine y_ald_n E dX3_margin_26 (by rfl) ?_ | refine y_aload_n E dX3_margin_26 (by rfl) ?_
    refine y_iconst E dX3_margin_27 ?_
    refine y_callV E dX3_margin_28 lk_X3_63 (m_fails hA) (by rfl) (m_o hA _ _) rfl (by decide) (by omega) (by omega) rfl (Nat.le_of_ble_eq_true rfl) ?_ (fun _ _ _ h => h.elim)
    rintro _ _ ⟨rfl, rfl⟩
    try simp (decide := true) only [upN_s, upN_n, upN_upN, upN_id, remT_5, remT_8]
    refine y_ireturn E F rfl rfl dX3_margin_31 (by omega) (by omega) (by first | (rw [show q_margin (T 5) t o = (1, 0) from by unfold q_margin; rw [if_pos (by omega)]]; exact ⟨rfl, rfl⟩))
  · first | refine y_ald_n E dX3_margin_13 (by rfl) ?_ | refine y_aload_n E dX3_margin_13 (by rfl) ?_
    refine y_iload_n E dX3_margin_14 (by rfl) ?_
    refine y_callV E dX3_margin_15 lk_X3_148 (m_isTower hA ?_ ?_) (by rfl) (m_o hA _ _) rfl (by decide) (by omega) (by omega) rfl (Nat.le_of_ble_eq_true rfl) ?_ (fun _ _ _ h => h.elim)
    · exact hS
    · first | omega | (simp (decide := true) only [upN_s, upN_n, upN_upN, upN_id, remT_5, remT_8] <;> omega)
    rintro _ _ ⟨rfl, rfl⟩
    try simp (decide := true) only [upN_s, upN_n, upN_upN, upN_id, remT_5, remT_8]
    refine y_ifd_eq (tgt := 26) E dX3_margin_18 (by decide) (fun h18 => ?_) (fun h18 => ?_)
    · first | refine y_ald_n E dX3_margin_26 (by rfl) ?_ | refine y_aload_n E dX3_margin_26 (by rfl) ?_
      refine y_iconst E dX3_margin_27 ?_
      refine y_callV E dX3_margin_28 lk_X3_63 (m_fails hA) (by rfl) (m_o hA _ _) rfl (by decide) (by omega) (by omega) rfl (Nat.le_of_ble_eq_true rfl) ?_ (fun _ _ _ h => h.elim)
      rintro _ _ ⟨rfl, rfl⟩
      try simp (decide := true) only [upN_s, upN_n, upN_upN, upN_id, remT_5, remT_8]
      refine y_ireturn E F rfl rfl dX3_margin_31 (by omega) (by omega) (by first | (rw [show q_margin (T 5) t o = (1, 0) from by unfold q_margin; rw [if_pos (by omega)]]; exact ⟨rfl, rfl⟩))
    · refine y_iload_n E dX3_margin_21 (by rfl) ?_
      refine y_iload_n E dX3_margin_22 (by rfl) ?_
      refine y_icmp_ne (tgt := 32) E dX3_margin_23 (by decide) (by omega) (by omega) (fun h23 => ?_) (fun h23 => ?_)
      · first | refine y_ald_n E dX3_margin_32 (by rfl) ?_ | refine y_aload_n E dX3_margin_32 (by rfl) ?_
        refine y_iload_n E dX3_margin_33 (by rfl) ?_
        refine y_iload_n E dX3_margin_34 (by rfl) ?_
        refine y_callV E dX3_margin_35 lk_X3_213 (m_canSignal hA ?_ ?_ ?_) (by rfl) (m_o hA _ _) rfl (by decide) (by omega) (by omega) rfl (Nat.le_of_ble_eq_true rfl) ?_ (fun _ _ _ h => h.elim)
        · exact hS
        · first | omega | (simp (decide := true) only [upN_s, upN_n, upN_upN, upN_id, remT_5, remT_8] <;> omega)
        · first | omega | (simp (decide := true) only [upN_s, upN_n, upN_upN, upN_id, remT_5, remT_8] <;> omega)
        rintro _ _ ⟨rfl, rfl⟩
        try simp (decide := true) only [upN_s, upN_n, upN_upN, upN_id, remT_5, remT_8]
        refine y_ifd_eq (tgt := 50) E dX3_margin_38 (by decide) (fun h38 => ?_) (fun h38 => ?_)
        · first | refine y_ald_n E dX3_margin_50 (by rfl) ?_ | refine y_aload_n E dX3_margin_50 (by rfl) ?_
          refine y_iconst E dX3_margin_51 ?_
          refine y_callV E dX3_margin_52 lk_X3_63 (m_fails hA) (by rfl) (m_o hA _ _) rfl (by decide) (by omega) (by omega) rfl (Nat.le_of_ble_eq_true rfl) ?_ (fun _ _ _ h => h.elim)
          rintro _ _ ⟨rfl, rfl⟩
          try simp (decide := true) only [upN_s, upN_n, upN_upN, upN_id, remT_5, remT_8]
          refine y_ireturn E F rfl rfl dX3_margin_55 (by omega) (by omega) (by first | (rw [show q_margin (T 5) t o = (0, marS (T 5) t o) from by unfold q_margin; rw [if_neg (by omega), if_pos (dB_t h38)]]; exact ⟨rfl, rfl⟩) | (rw [show q_margin (T 5) t o = (2, 0) from by unfold q_margin; rw [if_neg (by omega), if_neg (by rw [dB_f h38]; decide)]]; exact ⟨rfl, rfl⟩))
        · first | refine y_ald_n E dX3_margin_41 (by rfl) ?_ | refine y_aload_n E dX3_margin_41 (by rfl) ?_
          refine y_iload_n E dX3_margin_42 (by rfl) ?_
          refine y_iload_n E dX3_margin_43 (by rfl) ?_
          refine y_callV E dX3_margin_44 lk_X3_216 (m_marginOf hA ?_ ?_ ?_) (by rfl) (m_o hA _ _) rfl (by decide) (by omega) (by omega) rfl (Nat.le_of_ble_eq_true rfl) ?_ (fun _ _ _ h => h.elim)
          · exact hS
          · first | omega | (simp (decide := true) only [upN_s, upN_n, upN_upN, upN_id, remT_5, remT_8] <;> omega)
          · first | omega | (simp (decide := true) only [upN_s, upN_n, upN_upN, upN_id, remT_5, remT_8] <;> omega)
          rintro _ _ ⟨rfl, rfl⟩
          try simp (decide := true) only [upN_s, upN_n, upN_upN, upN_id, remT_5, remT_8]
          refine y_goto (tgt := 55) E dX3_margin_47 (by decide) ?_
          refine y_ireturn E F rfl rfl dX3_margin_55 (by omega) (by omega) (by first | (rw [show q_margin (T 5) t o = (0, marS (T 5) t o) from by unfold q_margin; rw [if_neg (by omega), if_pos (dB_t h38)]]; exact ⟨rfl, rfl⟩) | (rw [show q_margin (T 5) t o = (2, 0) from by unfold q_margin; rw [if_neg (by omega), if_neg (by rw [dB_f h38]; decide)]]; exact ⟨rfl, rfl⟩))
      · first | refine y_ald_n E dX3_margin_26 (by rfl) ?_ | refine y_aload_n E dX3_margin_26 (by rfl) ?_
        refine y_iconst E dX3_margin_27 ?_
        refine y_callV E dX3_margin_28 lk_X3_63 (m_fails hA) (by rfl) (m_o hA _ _) rfl (by decide) (by omega) (by omega) rfl (Nat.le_of_ble_eq_true rfl) ?_ (fun _ _ _ h => h.elim)
        rintro _ _ ⟨rfl, rfl⟩
        try simp (decide := true) only [upN_s, upN_n, upN_upN, upN_id, remT_5, remT_8]
        refine y_ireturn E F rfl rfl dX3_margin_31 (by omega) (by omega) (by first | (rw [show q_margin (T 5) t o = (1, 0) from by unfold q_margin; rw [if_pos (by omega)]]; exact ⟨rfl, rfl⟩))
theorem m_append (hA : mA A) (hl : 0 ≤ T 17 0 ∧ T 17 0 ≤ 60) {x : Int} (hx : 0 ≤ x ∧ x < 65536) : Ct_X3_append Γ 2 0 0 [.ref (A 0), .int (iI (x))] (mH A T G) (fun v G' => v = some (.int (iI ((o_append T x).1))) ∧ G' = mH A ((o_append T x).2) G) noX := by
  refine y_start (lv0 := [some (.ref (A 0)), some (.int (iI (x)))]) (nm := "append") (own := RX3) (by decide +kernel) rfl rfl (by exact Nat.le_of_ble_eq_true rfl) (by rfl) ?_
  intro Z Q E F
  first | refine y_ald_n E dX3_append_0 (by rfl) ?_ | refine y_aload_n E dX3_append_0 (by rfl) ?_
  refine y_iconst E dX3_append_1 ?_
  refine y_put E dX3_append_2 fl_X3_51_X3 fw_X3_0 rfl (by rfl) (m_o hA _ _) (Nat.le_of_ble_eq_true rfl) ?_
  refine y_heap (m_p0 hA) ?_
  refine y_iload_n E dX3_append_5 (by rfl) ?_
  refine y_bipush E dX3_append_6 (by decide) ?_
  refine y_bipush E dX3_append_8 (by decide) ?_
  refine y_callS E dX3_append_10 lk_X3_77 (m_isBetween ?_ ?_ ?_) (by rfl) (by decide) (by omega) (by omega) rfl (Nat.le_of_ble_eq_true rfl) ?_ (fun _ _ _ h => h.elim)
  · first | omega | (simp (decide := true) only [upN_s, upN_n, upN_upN, upN_id, remT_5, remT_8] <;> omega)
  · first | omega | (simp (decide := true) only [upN_s, upN_n, upN_upN, upN_id, remT_5, remT_8] <;> omega)
  · first | omega | (simp (decide := true) only [upN_s, upN_n, upN_upN, upN_id, remT_5, remT_8] <;> omega)
  rintro _ _ ⟨rfl, rfl⟩
  refine y_ifd_ne (tgt := 22) E dX3_append_13 (by decide) (fun h13 => ?_) (fun h13 => ?_)
  · first | refine y_ald_n E dX3_append_22 (by rfl) ?_ | refine y_aload_n E dX3_append_22 (by rfl) ?_
    refine y_get E dX3_append_23 fl_X3_231_X3 (m_o hA _ _) (by rfl) ?_
    try simp (decide := true) only [upN_s, upN_n, upN_upN, upN_id, remT_5, remT_8]
    refine y_bipush E dX3_append_26 (by decide) ?_
    refine y_icmp_ne (tgt := 37) E dX3_append_28 (by decide) (by omega) (by omega) (fun h28 => ?_) (fun h28 => ?_)
    · first | refine y_ald_n E dX3_append_37 (by rfl) ?_ | refine y_aload_n E dX3_append_37 (by rfl) ?_
      refine y_get E dX3_append_38 fl_X3_31_X3 (m_o hA _ _) (by rfl) ?_
      first | refine y_ald_n E dX3_append_41 (by rfl) ?_ | refine y_aload_n E dX3_append_41 (by rfl) ?_
      refine y_get E dX3_append_42 fl_X3_231_X3 (m_o hA _ _) (by rfl) ?_
      try simp (decide := true) only [upN_s, upN_n, upN_upN, upN_id, remT_5, remT_8]
      refine y_iload_n E dX3_append_45 (by rfl) ?_
      refine y_cast E dX3_append_46 (m_r15 hA _ _) (by omega) (nar_c (by omega)) ?_
      refine y_heap (m_w15 hA) ?_
      try simp (decide := true) only [upN_s, upN_n, upN_upN, upN_id, remT_5, remT_8]
      first | refine y_ald_n E dX3_append_47 (by rfl) ?_ | refine y_aload_n E dX3_append_47 (by rfl) ?_
      refine y_dup E dX3_append_48 rfl ?_
      refine y_get E dX3_append_49 fl_X3_231_X3 (m_o hA _ _) (by rfl) ?_
      try simp (decide := true) only [upN_s, upN_n, upN_upN, upN_id, remT_5, remT_8]
      refine y_iconst E dX3_append_52 ?_
      refine y_iadd E dX3_append_53 ?_
      refine y_put E dX3_append_54 fl_X3_231_X3 fw_X3_17 rfl (by rfl) (m_o hA _ _) (Nat.le_of_ble_eq_true rfl) ?_
      refine y_heap (m_p17 hA) ?_
      first | refine y_ald_n E dX3_append_57 (by rfl) ?_ | refine y_aload_n E dX3_append_57 (by rfl) ?_
      refine y_get E dX3_append_58 fl_X3_231_X3 (m_o hA _ _) (by rfl) ?_
      try simp (decide := true) only [upN_s, upN_n, upN_upN, upN_id, remT_5, remT_8]
      refine y_ireturn E F rfl rfl dX3_append_61 (by omega) (by omega) (by first | (rw [show o_append T x = (T 17 0 + 1, upN (upN (upN T 0 (fun _ => 0)) 15 (upI (T 15) (T 17 0) x)) 17 (fun _ => T 17 0 + 1)) from by unfold o_append; rw [if_neg (by omega), if_neg (by omega)]]; exact ⟨rfl, rfl⟩))
    · first | refine y_ald_n E dX3_append_31 (by rfl) ?_ | refine y_aload_n E dX3_append_31 (by rfl) ?_
      refine y_iconst E dX3_append_32 ?_
      refine y_callV E dX3_append_33 lk_X3_63 (m_fails hA) (by rfl) (m_o hA _ _) rfl (by decide) (by omega) (by omega) rfl (Nat.le_of_ble_eq_true rfl) ?_ (fun _ _ _ h => h.elim)
      rintro _ _ ⟨rfl, rfl⟩
      try simp (decide := true) only [upN_s, upN_n, upN_upN, upN_id, remT_5, remT_8]
      refine y_ireturn E F rfl rfl dX3_append_36 (by omega) (by omega) (by first | (rw [show o_append T x = (0, failT T 2) from by unfold o_append; rw [if_neg (by omega), if_pos (by omega)]]; exact ⟨rfl, rfl⟩))
  · first | refine y_ald_n E dX3_append_16 (by rfl) ?_ | refine y_aload_n E dX3_append_16 (by rfl) ?_
    refine y_iconst E dX3_append_17 ?_
    refine y_callV E dX3_append_18 lk_X3_63 (m_fails hA) (by rfl) (m_o hA _ _) rfl (by decide) (by omega) (by omega) rfl (Nat.le_of_ble_eq_true rfl) ?_ (fun _ _ _ h => h.elim)
    rintro _ _ ⟨rfl, rfl⟩
    try simp (decide := true) only [upN_s, upN_n, upN_upN, upN_id, remT_5, remT_8]
    refine y_ireturn E F rfl rfl dX3_append_21 (by omega) (by omega) (by first | (rw [show o_append T x = (0, failT T 1) from by unfold o_append; rw [if_pos (by omega)]]; exact ⟨rfl, rfl⟩))
theorem m_letter (hA : mA A) (hl : 0 ≤ T 18 0 ∧ T 18 0 ≤ 24) (hw : ∀ k, 0 ≤ k → k < 24 → 0 ≤ T 16 k ∧ T 16 k ≤ 126) {i : Int} (hi : inR i) : Ct_X3_letter Γ 2 0 0 [.ref (A 0), .int (iI (i))] (mH A T G) (fun v G' => v = some (.int (iI ((q_letter T i).2))) ∧ G' = mH A (upN T 0 (fun _ => (q_letter T i).1)) G) noX := by
  refine y_start (lv0 := [some (.ref (A 0)), some (.int (iI (i)))]) (nm := "letter") (own := RX3) (by decide +kernel) rfl rfl (by exact Nat.le_of_ble_eq_true rfl) (by rfl) ?_
  intro Z Q E F
  first | refine y_ald_n E dX3_letter_0 (by rfl) ?_ | refine y_aload_n E dX3_letter_0 (by rfl) ?_
  refine y_iconst E dX3_letter_1 ?_
  refine y_put E dX3_letter_2 fl_X3_51_X3 fw_X3_0 rfl (by rfl) (m_o hA _ _) (Nat.le_of_ble_eq_true rfl) ?_
  refine y_heap (m_p0 hA) ?_
  refine y_iload_n E dX3_letter_5 (by rfl) ?_
  refine y_iconst E dX3_letter_6 ?_
  first | refine y_ald_n E dX3_letter_7 (by rfl) ?_ | refine y_aload_n E dX3_letter_7 (by rfl) ?_
  refine y_get E dX3_letter_8 fl_X3_234_X3 (m_o hA _ _) (by rfl) ?_
  try simp (decide := true) only [upN_s, upN_n, upN_upN, upN_id, remT_5, remT_8]
  refine y_iconst E dX3_letter_11 ?_
  refine y_isub E dX3_letter_12 ?_
  refine y_callS E dX3_letter_13 lk_X3_77 (m_isBetween ?_ ?_ ?_) (by rfl) (by decide) (by omega) (by omega) rfl (Nat.le_of_ble_eq_true rfl) ?_ (fun _ _ _ h => h.elim)
  · first | omega | (simp (decide := true) only [upN_s, upN_n, upN_upN, upN_id, remT_5, remT_8] <;> omega)
  · first | omega | (simp (decide := true) only [upN_s, upN_n, upN_upN, upN_id, remT_5, remT_8] <;> omega)
  · first | omega | (simp (decide := true) only [upN_s, upN_n, upN_upN, upN_id, remT_5, remT_8] <;> omega)
  rintro _ _ ⟨rfl, rfl⟩
  refine y_ifd_ne (tgt := 26) E dX3_letter_16 (by decide) (fun h16 => ?_) (fun h16 => ?_)
  · first | refine y_ald_n E dX3_letter_26 (by rfl) ?_ | refine y_aload_n E dX3_letter_26 (by rfl) ?_
    refine y_get E dX3_letter_27 fl_X3_35_X3 (m_o hA _ _) (by rfl) ?_
    refine y_iload_n E dX3_letter_30 (by rfl) ?_
    refine y_cald E dX3_letter_31 (m_r16 hA _ _) (by omega) ?_
    try simp (decide := true) only [upN_s, upN_n, upN_upN, upN_id, remT_5, remT_8]
    have hw := hw i (by omega) (by omega)
    refine y_ireturn E F rfl (nar_c (by omega)) dX3_letter_32 (by omega) (by omega) (by first | (rw [show q_letter T i = (0, T 16 i) from by unfold q_letter; rw [if_neg (by omega)]]; exact ⟨rfl, rfl⟩))
  · first | refine y_ald_n E dX3_letter_19 (by rfl) ?_ | refine y_aload_n E dX3_letter_19 (by rfl) ?_
    refine y_iconst E dX3_letter_20 ?_
    refine y_callV E dX3_letter_21 lk_X3_63 (m_fails hA) (by rfl) (m_o hA _ _) rfl (by decide) (by omega) (by omega) rfl (Nat.le_of_ble_eq_true rfl) ?_ (fun _ _ _ h => h.elim)
    rintro _ _ ⟨rfl, rfl⟩
    try simp (decide := true) only [upN_s, upN_n, upN_upN, upN_id, remT_5, remT_8]
    refine y_i2c E dX3_letter_24 (v := iI 0) (by decide) ?_
    refine y_ireturn E F rfl (nar_c (by omega)) dX3_letter_25 (by omega) (by omega) (by first | (rw [show q_letter T i = (1, 0) from by unfold q_letter; rw [if_pos (by omega)]]; exact ⟨rfl, rfl⟩))
theorem m_lostLetters (hA : mA A) (hl : 0 ≤ T 18 0 ∧ T 18 0 ≤ 24) (hw : ∀ k, 0 ≤ k → k < 24 → 0 ≤ T 16 k ∧ T 16 k ≤ 126) : Ct_X3_lostLetters Γ 1 0 0 [.ref (A 0)] (mH A T G) (fun v G' => v = some (.int (iI (lostS T))) ∧ G' = mH A T G) noX := by
  refine y_start (lv0 := [some (.ref (A 0)), none, none]) (nm := "lostLetters") (own := RX3) (by decide +kernel) rfl rfl (by exact Nat.le_of_ble_eq_true rfl) (by rfl) ?_
  intro Z Q E F
  have loop : ∀ i n : Int, 0 ≤ i → i ≤ T 18 0 → n = sumI (fun k => b2i (dB (T 16 k = 63))) i → Y Γ Z 0 0 Q (mH A T G) 4 [some (.ref (A 0)), some (.int (iI n)), some (.int (iI i))] [] := by
    refine loopDown (T 18 0) ?_
    intro i ih n h0 h1 hn
    have hw := fun h : i < 24 => hw i h0 h
    refine y_iload_n E dX3_lostLetters_4 (by rfl) ?_
    first | refine y_ald_n E dX3_lostLetters_5 (by rfl) ?_ | refine y_aload_n E dX3_lostLetters_5 (by rfl) ?_
    refine y_get E dX3_lostLetters_6 fl_X3_234_X3 (m_o hA _ _) (by rfl) ?_
    refine y_icmp_ge (tgt := 37) E dX3_lostLetters_9 (by decide) (by omega) (by omega) (fun h9 => ?_) (fun h9 => ?_)
    · refine y_iload_n E dX3_lostLetters_37 (by rfl) ?_
      refine y_ireturn E F rfl rfl dX3_lostLetters_38 (by omega) (by omega) ⟨(rI (by rw [hn, show i = T 18 0 by omega]; rfl)), rfl⟩
    · refine y_iload_n E dX3_lostLetters_12 (by rfl) ?_
      first | refine y_ald_n E dX3_lostLetters_13 (by rfl) ?_ | refine y_aload_n E dX3_lostLetters_13 (by rfl) ?_
      refine y_get E dX3_lostLetters_14 fl_X3_35_X3 (m_o hA _ _) (by rfl) ?_
      refine y_iload_n E dX3_lostLetters_17 (by rfl) ?_
      refine y_cald E dX3_lostLetters_18 (m_r16 hA _ _) (by omega) ?_
      refine y_bipush E dX3_lostLetters_19 (by decide) ?_
      refine y_icmp_ne (tgt := 28) E dX3_lostLetters_21 (by decide) (by omega) (by omega) (fun h21 => ?_) (fun h21 => ?_)
      · refine y_iconst E dX3_lostLetters_28 ?_
        refine y_iadd E dX3_lostLetters_29 ?_
        refine y_istore_n (j := 1) E dX3_lostLetters_30 rfl (Nat.le_of_ble_eq_true rfl) ?_
        refine y_iinc E dX3_lostLetters_31 (by rfl) ?_
        refine y_goto (tgt := 4) E dX3_lostLetters_34 (by decide) ?_
        exact ih (by omega) _ (by omega) (by omega) (by rw [sumI_s h0, hn]; first | done | rfl | (show _ = _ + b2i (dB _); first | rw [b2i_dt (by assumption)] | rw [b2i_df (by assumption)]))
      · refine y_iconst E dX3_lostLetters_24 ?_
        refine y_goto (tgt := 29) E dX3_lostLetters_25 (by decide) ?_
        refine y_iadd E dX3_lostLetters_29 ?_
        refine y_istore_n (j := 1) E dX3_lostLetters_30 rfl (Nat.le_of_ble_eq_true rfl) ?_
        refine y_iinc E dX3_lostLetters_31 (by rfl) ?_
        refine y_goto (tgt := 4) E dX3_lostLetters_34 (by decide) ?_
        exact ih (by omega) _ (by omega) (by omega) (by rw [sumI_s h0, hn]; first | done | rfl | (show _ = _ + b2i (dB _); first | rw [b2i_dt (by assumption)] | rw [b2i_df (by assumption)]))
  refine y_iconst E dX3_lostLetters_0 ?_
  refine y_istore_n (j := 1) E dX3_lostLetters_1 rfl (Nat.le_of_ble_eq_true rfl) ?_
  refine y_iconst E dX3_lostLetters_2 ?_
  refine y_istore_n (j := 2) E dX3_lostLetters_3 rfl (Nat.le_of_ble_eq_true rfl) ?_
  exact loop 0 0 (by omega) (by omega) (sumI_0 _).symm
theorem lostS_in {T : Nat → Int → Int} (hl : 0 ≤ T 18 0 ∧ T 18 0 ≤ 24) : 0 ≤ lostS T ∧ lostS T ≤ 24 := by
  have := sumI_b (f := fun k => b2i (dB (T 16 k = 63))) (n := T 18 0) (m := 1) (fun k _ _ => b2i_le _) hl.1
  unfold lostS
  omega
theorem m_isWhole (hA : mA A) (hl : 0 ≤ T 18 0 ∧ T 18 0 ≤ 24) (hw : ∀ k, 0 ≤ k → k < 24 → 0 ≤ T 16 k ∧ T 16 k ≤ 126) : Ct_X3_isWhole Γ 2 0 0 [.ref (A 0)] (mH A T G) (fun v G' => v = some (.int (iI (b2i (dB (T 18 0 ≠ 0 ∧ lostS T = 0))))) ∧ G' = mH A (upN T 0 (fun _ => if T 18 0 = 0 then 1 else 0)) G) noX := by
  refine y_start (lv0 := [some (.ref (A 0))]) (nm := "isWhole") (own := RX3) (by decide +kernel) rfl rfl (by exact Nat.le_of_ble_eq_true rfl) (by rfl) ?_
  intro Z Q E F
  have hb := lostS_in hl
  first | refine y_ald_n E dX3_isWhole_0 (by rfl) ?_ | refine y_aload_n E dX3_isWhole_0 (by rfl) ?_
  refine y_iconst E dX3_isWhole_1 ?_
  refine y_put E dX3_isWhole_2 fl_X3_51_X3 fw_X3_0 rfl (by rfl) (m_o hA _ _) (Nat.le_of_ble_eq_true rfl) ?_
  refine y_heap (m_p0 hA) ?_
  first | refine y_ald_n E dX3_isWhole_5 (by rfl) ?_ | refine y_aload_n E dX3_isWhole_5 (by rfl) ?_
  refine y_get E dX3_isWhole_6 fl_X3_234_X3 (m_o hA _ _) (by rfl) ?_
  try simp (decide := true) only [upN_s, upN_n, upN_upN, upN_id, remT_5, remT_8]
  refine y_if_ne (tgt := 26) E dX3_isWhole_9 (by decide) (by omega) (fun h9 => ?_) (fun h9 => ?_)
  · first | refine y_ald_n E dX3_isWhole_26 (by rfl) ?_ | refine y_aload_n E dX3_isWhole_26 (by rfl) ?_
    refine y_callV E dX3_isWhole_27 lk_X3_244 (m_lostLetters hA ?_ ?_) (by rfl) (m_o hA _ _) rfl (by decide) (by omega) (by omega) rfl (Nat.le_of_ble_eq_true rfl) ?_ (fun _ _ _ h => h.elim)
    · exact hl
    · exact hw
    rintro _ _ ⟨rfl, rfl⟩
    try simp (decide := true) only [upN_s, upN_n, upN_upN, upN_id, remT_5, remT_8]
    rw [show lostS (upN T 0 (fun _ => 0)) = lostS T from rfl]
    refine y_if_ne (tgt := 37) E dX3_isWhole_30 (by decide) (by omega) (fun h30 => ?_) (fun h30 => ?_)
    · refine y_iconst E dX3_isWhole_37 ?_
      refine y_ireturn E F rfl rfl dX3_isWhole_38 (by omega) (by omega) (by rw [if_neg h9]; first | exact ⟨rT ⟨h9, h30⟩, rfl⟩ | exact ⟨rF (fun q => h30 q.2), rfl⟩)
    · refine y_iconst E dX3_isWhole_33 ?_
      refine y_goto (tgt := 38) E dX3_isWhole_34 (by decide) ?_
      refine y_ireturn E F rfl rfl dX3_isWhole_38 (by omega) (by omega) (by rw [if_neg h9]; first | exact ⟨rT ⟨h9, h30⟩, rfl⟩ | exact ⟨rF (fun q => h30 q.2), rfl⟩)
  · first | refine y_ald_n E dX3_isWhole_12 (by rfl) ?_ | refine y_aload_n E dX3_isWhole_12 (by rfl) ?_
    refine y_iconst E dX3_isWhole_13 ?_
    refine y_callV E dX3_isWhole_14 lk_X3_63 (m_fails hA) (by rfl) (m_o hA _ _) rfl (by decide) (by omega) (by omega) rfl (Nat.le_of_ble_eq_true rfl) ?_ (fun _ _ _ h => h.elim)
    rintro _ _ ⟨rfl, rfl⟩
    try simp (decide := true) only [upN_s, upN_n, upN_upN, upN_id, remT_5, remT_8]
    refine y_if_eq (tgt := 24) E dX3_isWhole_17 (by decide) (by omega) (fun h17 => ?_) (fun h17 => ?_)
    · refine y_iconst E dX3_isWhole_24 ?_
      refine y_ireturn E F rfl rfl dX3_isWhole_25 (by omega) (by omega) (by first | exact absurd rfl h17 | (rw [if_pos h9]; exact ⟨rF (fun q => q.1 h9), rfl⟩))
    · refine y_iconst E dX3_isWhole_20 ?_
      refine y_goto (tgt := 25) E dX3_isWhole_21 (by decide) ?_
      refine y_ireturn E F rfl rfl dX3_isWhole_25 (by omega) (by omega) (by first | exact absurd rfl h17 | (rw [if_pos h9]; exact ⟨rF (fun q => q.1 h9), rfl⟩))
theorem m_faultPosition (hA : mA A) (hf : inR (T 24 0)) : Ct_X3_faultPosition Γ 2 0 0 [.ref (A 0)] (mH A T G) (fun v G' => v = some (.int (iI ((q_fault T).2))) ∧ G' = mH A (upN T 0 (fun _ => (q_fault T).1)) G) noX := by
  refine y_start (lv0 := [some (.ref (A 0))]) (nm := "faultPosition") (own := RX3) (by decide +kernel) rfl rfl (by exact Nat.le_of_ble_eq_true rfl) (by rfl) ?_
  intro Z Q E F
  first | refine y_ald_n E dX3_faultPosition_0 (by rfl) ?_ | refine y_aload_n E dX3_faultPosition_0 (by rfl) ?_
  refine y_iconst E dX3_faultPosition_1 ?_
  refine y_put E dX3_faultPosition_2 fl_X3_51_X3 fw_X3_0 rfl (by rfl) (m_o hA _ _) (Nat.le_of_ble_eq_true rfl) ?_
  refine y_heap (m_p0 hA) ?_
  first | refine y_ald_n E dX3_faultPosition_5 (by rfl) ?_ | refine y_aload_n E dX3_faultPosition_5 (by rfl) ?_
  refine y_get E dX3_faultPosition_6 fl_X3_47_X3 (m_o hA _ _) (by rfl) ?_
  try simp (decide := true) only [upN_s, upN_n, upN_upN, upN_id, remT_5, remT_8]
  refine y_if_ge (tgt := 20) E dX3_faultPosition_9 (by decide) (by omega) (fun h9 => ?_) (fun h9 => ?_)
  · first | refine y_ald_n E dX3_faultPosition_20 (by rfl) ?_ | refine y_aload_n E dX3_faultPosition_20 (by rfl) ?_
    refine y_get E dX3_faultPosition_21 fl_X3_47_X3 (m_o hA _ _) (by rfl) ?_
    try simp (decide := true) only [upN_s, upN_n, upN_upN, upN_id, remT_5, remT_8]
    refine y_ireturn E F rfl rfl dX3_faultPosition_24 (by omega) (by omega) (by first | (rw [show q_fault T = (1, 0) from by unfold q_fault; rw [if_pos (by omega)]]; exact ⟨rfl, rfl⟩) | (rw [show q_fault T = (0, T 24 0) from by unfold q_fault; rw [if_neg (by omega)]]; exact ⟨rfl, rfl⟩))
  · first | refine y_ald_n E dX3_faultPosition_12 (by rfl) ?_ | refine y_aload_n E dX3_faultPosition_12 (by rfl) ?_
    refine y_iconst E dX3_faultPosition_13 ?_
    refine y_callV E dX3_faultPosition_14 lk_X3_63 (m_fails hA) (by rfl) (m_o hA _ _) rfl (by decide) (by omega) (by omega) rfl (Nat.le_of_ble_eq_true rfl) ?_ (fun _ _ _ h => h.elim)
    rintro _ _ ⟨rfl, rfl⟩
    try simp (decide := true) only [upN_s, upN_n, upN_upN, upN_id, remT_5, remT_8]
    refine y_goto (tgt := 24) E dX3_faultPosition_17 (by decide) ?_
    refine y_ireturn E F rfl rfl dX3_faultPosition_24 (by omega) (by omega) (by first | (rw [show q_fault T = (1, 0) from by unfold q_fault; rw [if_pos (by omega)]]; exact ⟨rfl, rfl⟩) | (rw [show q_fault T = (0, T 24 0) from by unfold q_fault; rw [if_neg (by omega)]]; exact ⟨rfl, rfl⟩))
theorem m_reason (hA : mA A) (hc : 0 ≤ T 3 0 ∧ T 3 0 ≤ 2) {d x : Int} (hd : inR d) (hx : inR x) : Ct_X3_reason Γ 2 0 0 [.ref (A 0), .int (iI (d)), .int (iI (x))] (mH A T G) (fun v G' => v = some (.int (iI ((q_reason T d x).2))) ∧ G' = mH A (upN T 0 (fun _ => (q_reason T d x).1)) G) noX := by
  refine y_start (lv0 := [some (.ref (A 0)), some (.int (iI (d))), some (.int (iI (x)))]) (nm := "reason") (own := RX3) (by decide +kernel) rfl rfl (by exact Nat.le_of_ble_eq_true rfl) (by rfl) ?_
  intro Z Q E F
  first | refine y_ald_n E dX3_reason_0 (by rfl) ?_ | refine y_aload_n E dX3_reason_0 (by rfl) ?_
  refine y_iconst E dX3_reason_1 ?_
  refine y_put E dX3_reason_2 fl_X3_51_X3 fw_X3_0 rfl (by rfl) (m_o hA _ _) (Nat.le_of_ble_eq_true rfl) ?_
  refine y_heap (m_p0 hA) ?_
  refine y_iload_n E dX3_reason_5 (by rfl) ?_
  refine y_if_ge (tgt := 15) E dX3_reason_6 (by decide) (by omega) (fun h6 => ?_) (fun h6 => ?_)
  · refine y_iload_n E dX3_reason_15 (by rfl) ?_
    first | refine y_ald_n E dX3_reason_16 (by rfl) ?_ | refine y_aload_n E dX3_reason_16 (by rfl) ?_
    refine y_get E dX3_reason_17 fl_X3_60_X3 (m_o hA _ _) (by rfl) ?_
    try simp (decide := true) only [upN_s, upN_n, upN_upN, upN_id, remT_5, remT_8]
    refine y_icmp_ge (tgt := 44) E dX3_reason_20 (by decide) (by omega) (by omega) (fun h20 => ?_) (fun h20 => ?_)
    · first | refine y_ald_n E dX3_reason_44 (by rfl) ?_ | refine y_aload_n E dX3_reason_44 (by rfl) ?_
      refine y_iconst E dX3_reason_45 ?_
      refine y_callV E dX3_reason_46 lk_X3_63 (m_fails hA) (by rfl) (m_o hA _ _) rfl (by decide) (by omega) (by omega) rfl (Nat.le_of_ble_eq_true rfl) ?_ (fun _ _ _ h => h.elim)
      rintro _ _ ⟨rfl, rfl⟩
      try simp (decide := true) only [upN_s, upN_n, upN_upN, upN_id, remT_5, remT_8]
      refine y_ireturn E F rfl rfl dX3_reason_49 (by omega) (by omega) (by first | (rw [show q_reason T d x = (2, 0) from by unfold q_reason; rw [if_neg (by omega), if_pos (by omega)]]; exact ⟨rfl, rfl⟩) | (rw [show q_reason T d x = (0, T 4 (2 * d + 0)) from by unfold q_reason; rw [if_neg (by omega), if_neg (by omega), if_pos (by omega)]]; exact ⟨rfl, rfl⟩) | (rw [show q_reason T d x = (0, T 4 (2 * d + 1)) from by unfold q_reason; rw [if_neg (by omega), if_neg (by omega), if_neg (by omega)]]; exact ⟨rfl, rfl⟩))
    · first | refine y_ald_n E dX3_reason_23 (by rfl) ?_ | refine y_aload_n E dX3_reason_23 (by rfl) ?_
      refine y_get E dX3_reason_24 fl_X3_7_X3 (m_o hA _ _) (by rfl) ?_
      refine y_iconst E dX3_reason_27 ?_
      refine y_iload_n E dX3_reason_28 (by rfl) ?_
      refine y_imul E dX3_reason_29 ?_
      refine y_iload_n E dX3_reason_30 (by rfl) ?_
      refine y_if_eq (tgt := 38) E dX3_reason_31 (by decide) (by omega) (fun h31 => ?_) (fun h31 => ?_)
      · refine y_iconst E dX3_reason_38 ?_
        refine y_iadd E dX3_reason_39 ?_
        refine y_iald E dX3_reason_40 (m_r4 hA _ _) (by omega) ?_
        try simp (decide := true) only [upN_s, upN_n, upN_upN, upN_id, remT_5, remT_8]
        refine y_goto (tgt := 49) E dX3_reason_41 (by decide) ?_
        refine y_ireturn E F rfl rfl dX3_reason_49 (by omega) (by omega) (by first | (rw [show q_reason T d x = (2, 0) from by unfold q_reason; rw [if_neg (by omega), if_pos (by omega)]]; exact ⟨rfl, rfl⟩) | (rw [show q_reason T d x = (0, T 4 (2 * d + 0)) from by unfold q_reason; rw [if_neg (by omega), if_neg (by omega), if_pos (by omega)]]; exact ⟨rfl, rfl⟩) | (rw [show q_reason T d x = (0, T 4 (2 * d + 1)) from by unfold q_reason; rw [if_neg (by omega), if_neg (by omega), if_neg (by omega)]]; exact ⟨rfl, rfl⟩))
      · refine y_iconst E dX3_reason_34 ?_
        refine y_goto (tgt := 39) E dX3_reason_35 (by decide) ?_
        refine y_iadd E dX3_reason_39 ?_
        refine y_iald E dX3_reason_40 (m_r4 hA _ _) (by omega) ?_
        try simp (decide := true) only [upN_s, upN_n, upN_upN, upN_id, remT_5, remT_8]
        refine y_goto (tgt := 49) E dX3_reason_41 (by decide) ?_
        refine y_ireturn E F rfl rfl dX3_reason_49 (by omega) (by omega) (by first | (rw [show q_reason T d x = (2, 0) from by unfold q_reason; rw [if_neg (by omega), if_pos (by omega)]]; exact ⟨rfl, rfl⟩) | (rw [show q_reason T d x = (0, T 4 (2 * d + 0)) from by unfold q_reason; rw [if_neg (by omega), if_neg (by omega), if_pos (by omega)]]; exact ⟨rfl, rfl⟩) | (rw [show q_reason T d x = (0, T 4 (2 * d + 1)) from by unfold q_reason; rw [if_neg (by omega), if_neg (by omega), if_neg (by omega)]]; exact ⟨rfl, rfl⟩))
  · first | refine y_ald_n E dX3_reason_9 (by rfl) ?_ | refine y_aload_n E dX3_reason_9 (by rfl) ?_
    refine y_iconst E dX3_reason_10 ?_
    refine y_callV E dX3_reason_11 lk_X3_63 (m_fails hA) (by rfl) (m_o hA _ _) rfl (by decide) (by omega) (by omega) rfl (Nat.le_of_ble_eq_true rfl) ?_ (fun _ _ _ h => h.elim)
    rintro _ _ ⟨rfl, rfl⟩
    try simp (decide := true) only [upN_s, upN_n, upN_upN, upN_id, remT_5, remT_8]
    refine y_ireturn E F rfl rfl dX3_reason_14 (by omega) (by omega) (by first | (rw [show q_reason T d x = (1, 0) from by unfold q_reason; rw [if_pos (by omega)]]; exact ⟨rfl, rfl⟩))
theorem m_towerOf (hA : mA A) (hS : SH (T 5)) {t x : Int} (ht : inR t) (hx : inR x) : Ct_X3_towerOf Γ 6 0 0 [.ref (A 0), .int (iI (t)), .int (iI (x))] (mH A T G) (fun v G' => v = some (.int (iI ((q_towerOf (T 5) t x).2))) ∧ G' = mH A (upN T 0 (fun _ => (q_towerOf (T 5) t x).1)) G) noX := by
  refine y_start (lv0 := [some (.ref (A 0)), some (.int (iI (t))), some (.int (iI (x)))]) (nm := "towerOf") (own := RX3) (by decide +kernel) rfl rfl (by exact Nat.le_of_ble_eq_true rfl) (by rfl) ?_
  intro Z Q E F
  have hn := hS.nt
  first | refine y_ald_n E dX3_towerOf_0 (by rfl) ?_ | refine y_aload_n E dX3_towerOf_0 (by rfl) ?_
  refine y_iconst E dX3_towerOf_1 ?_
  refine y_put E dX3_towerOf_2 fl_X3_51_X3 fw_X3_0 rfl (by rfl) (m_o hA _ _) (Nat.le_of_ble_eq_true rfl) ?_
  refine y_heap (m_p0 hA) ?_
  first | refine y_ald_n E dX3_towerOf_5 (by rfl) ?_ | refine y_aload_n E dX3_towerOf_5 (by rfl) ?_
  refine y_iload_n E dX3_towerOf_6 (by rfl) ?_
  refine y_callV E dX3_towerOf_7 lk_X3_148 (m_isTower hA ?_ ?_) (by rfl) (m_o hA _ _) rfl (by decide) (by omega) (by omega) rfl (Nat.le_of_ble_eq_true rfl) ?_ (fun _ _ _ h => h.elim)
  · exact hS
  · first | omega | (simp (decide := true) only [upN_s, upN_n, upN_upN, upN_id, remT_5, remT_8] <;> omega)
  rintro _ _ ⟨rfl, rfl⟩
  try simp (decide := true) only [upN_s, upN_n, upN_upN, upN_id, remT_5, remT_8]
  refine y_ifd_ne (tgt := 19) E dX3_towerOf_10 (by decide) (fun h10 => ?_) (fun h10 => ?_)
  · refine y_iload_n E dX3_towerOf_19 (by rfl) ?_
    rcases (show x < 0 ∨ 8 < x ∨ x = 0 ∨ x = 1 ∨ x = 2 ∨ x = 3 ∨ x = 4 ∨ x = 5 ∨ x = 6 ∨ x = 7 ∨ x = 8 by omega) with hs | hs | hs | hs | hs | hs | hs | hs | hs | hs | hs
    · refine y_tsOut (tgt := 104) E dX3_towerOf_20 (by omega) (by omega) (by decide) ?_
      first | refine y_ald_n E dX3_towerOf_104 (by rfl) ?_ | refine y_aload_n E dX3_towerOf_104 (by rfl) ?_
      refine y_iconst E dX3_towerOf_105 ?_
      refine y_callV E dX3_towerOf_106 lk_X3_63 (m_fails hA) (by rfl) (m_o hA _ _) rfl (by decide) (by omega) (by omega) rfl (Nat.le_of_ble_eq_true rfl) ?_ (fun _ _ _ h => h.elim)
      rintro _ _ ⟨rfl, rfl⟩
      try simp (decide := true) only [upN_s, upN_n, upN_upN, upN_id, remT_5, remT_8]
      refine y_ireturn E F rfl rfl dX3_towerOf_109 (by omega) (by omega) (by first | (rw [show q_towerOf (T 5) t x = (2, 0) from by unfold q_towerOf; rw [if_neg (by omega), if_pos (by omega)]]; exact ⟨rfl, rfl⟩))
    · refine y_tsOut (tgt := 104) E dX3_towerOf_20 (by omega) (by omega) (by decide) ?_
      first | refine y_ald_n E dX3_towerOf_104 (by rfl) ?_ | refine y_aload_n E dX3_towerOf_104 (by rfl) ?_
      refine y_iconst E dX3_towerOf_105 ?_
      refine y_callV E dX3_towerOf_106 lk_X3_63 (m_fails hA) (by rfl) (m_o hA _ _) rfl (by decide) (by omega) (by omega) rfl (Nat.le_of_ble_eq_true rfl) ?_ (fun _ _ _ h => h.elim)
      rintro _ _ ⟨rfl, rfl⟩
      try simp (decide := true) only [upN_s, upN_n, upN_upN, upN_id, remT_5, remT_8]
      refine y_ireturn E F rfl rfl dX3_towerOf_109 (by omega) (by omega) (by first | (rw [show q_towerOf (T 5) t x = (2, 0) from by unfold q_towerOf; rw [if_neg (by omega), if_pos (by omega)]]; exact ⟨rfl, rfl⟩))
    · refine y_tsIn (tgt := 72) (off := 52) E dX3_towerOf_20 (by omega) (by omega) (by rw [hs]; rfl) (by decide) ?_
      first | refine y_ald_n E dX3_towerOf_72 (by rfl) ?_ | refine y_aload_n E dX3_towerOf_72 (by rfl) ?_
      refine y_iload_n E dX3_towerOf_73 (by rfl) ?_
      refine y_iload_n E dX3_towerOf_74 (by rfl) ?_
      refine y_callV E dX3_towerOf_75 lk_X3_81 (m_ofTower hA ?_ ?_) (by rfl) (m_o hA _ _) rfl (by decide) (by omega) (by omega) rfl (Nat.le_of_ble_eq_true rfl) ?_ (fun _ _ _ h => h.elim)
      · first | omega | (simp (decide := true) only [upN_s, upN_n, upN_upN, upN_id, remT_5, remT_8] <;> omega)
      · first | omega | (simp (decide := true) only [upN_s, upN_n, upN_upN, upN_id, remT_5, remT_8] <;> omega)
      rintro _ _ ⟨rfl, rfl⟩
      try simp (decide := true) only [upN_s, upN_n, upN_upN, upN_id, remT_5, remT_8]
      refine y_ireturn E F rfl rfl dX3_towerOf_78 (by omega) (by omega) (by first | (rw [show q_towerOf (T 5) t x = (0, tw (T 5) t x) from by unfold q_towerOf; rw [if_neg (by omega), if_neg (by omega), if_pos (by omega)]]; exact ⟨rfl, rfl⟩))
    · refine y_tsIn (tgt := 72) (off := 52) E dX3_towerOf_20 (by omega) (by omega) (by rw [hs]; rfl) (by decide) ?_
      first | refine y_ald_n E dX3_towerOf_72 (by rfl) ?_ | refine y_aload_n E dX3_towerOf_72 (by rfl) ?_
      refine y_iload_n E dX3_towerOf_73 (by rfl) ?_
      refine y_iload_n E dX3_towerOf_74 (by rfl) ?_
      refine y_callV E dX3_towerOf_75 lk_X3_81 (m_ofTower hA ?_ ?_) (by rfl) (m_o hA _ _) rfl (by decide) (by omega) (by omega) rfl (Nat.le_of_ble_eq_true rfl) ?_ (fun _ _ _ h => h.elim)
      · first | omega | (simp (decide := true) only [upN_s, upN_n, upN_upN, upN_id, remT_5, remT_8] <;> omega)
      · first | omega | (simp (decide := true) only [upN_s, upN_n, upN_upN, upN_id, remT_5, remT_8] <;> omega)
      rintro _ _ ⟨rfl, rfl⟩
      try simp (decide := true) only [upN_s, upN_n, upN_upN, upN_id, remT_5, remT_8]
      refine y_ireturn E F rfl rfl dX3_towerOf_78 (by omega) (by omega) (by first | (rw [show q_towerOf (T 5) t x = (0, tw (T 5) t x) from by unfold q_towerOf; rw [if_neg (by omega), if_neg (by omega), if_pos (by omega)]]; exact ⟨rfl, rfl⟩))
    · refine y_tsIn (tgt := 72) (off := 52) E dX3_towerOf_20 (by omega) (by omega) (by rw [hs]; rfl) (by decide) ?_
      first | refine y_ald_n E dX3_towerOf_72 (by rfl) ?_ | refine y_aload_n E dX3_towerOf_72 (by rfl) ?_
      refine y_iload_n E dX3_towerOf_73 (by rfl) ?_
      refine y_iload_n E dX3_towerOf_74 (by rfl) ?_
      refine y_callV E dX3_towerOf_75 lk_X3_81 (m_ofTower hA ?_ ?_) (by rfl) (m_o hA _ _) rfl (by decide) (by omega) (by omega) rfl (Nat.le_of_ble_eq_true rfl) ?_ (fun _ _ _ h => h.elim)
      · first | omega | (simp (decide := true) only [upN_s, upN_n, upN_upN, upN_id, remT_5, remT_8] <;> omega)
      · first | omega | (simp (decide := true) only [upN_s, upN_n, upN_upN, upN_id, remT_5, remT_8] <;> omega)
      rintro _ _ ⟨rfl, rfl⟩
      try simp (decide := true) only [upN_s, upN_n, upN_upN, upN_id, remT_5, remT_8]
      refine y_ireturn E F rfl rfl dX3_towerOf_78 (by omega) (by omega) (by first | (rw [show q_towerOf (T 5) t x = (0, tw (T 5) t x) from by unfold q_towerOf; rw [if_neg (by omega), if_neg (by omega), if_pos (by omega)]]; exact ⟨rfl, rfl⟩))
    · refine y_tsIn (tgt := 72) (off := 52) E dX3_towerOf_20 (by omega) (by omega) (by rw [hs]; rfl) (by decide) ?_
      first | refine y_ald_n E dX3_towerOf_72 (by rfl) ?_ | refine y_aload_n E dX3_towerOf_72 (by rfl) ?_
      refine y_iload_n E dX3_towerOf_73 (by rfl) ?_
      refine y_iload_n E dX3_towerOf_74 (by rfl) ?_
      refine y_callV E dX3_towerOf_75 lk_X3_81 (m_ofTower hA ?_ ?_) (by rfl) (m_o hA _ _) rfl (by decide) (by omega) (by omega) rfl (Nat.le_of_ble_eq_true rfl) ?_ (fun _ _ _ h => h.elim)
      · first | omega | (simp (decide := true) only [upN_s, upN_n, upN_upN, upN_id, remT_5, remT_8] <;> omega)
      · first | omega | (simp (decide := true) only [upN_s, upN_n, upN_upN, upN_id, remT_5, remT_8] <;> omega)
      rintro _ _ ⟨rfl, rfl⟩
      try simp (decide := true) only [upN_s, upN_n, upN_upN, upN_id, remT_5, remT_8]
      refine y_ireturn E F rfl rfl dX3_towerOf_78 (by omega) (by omega) (by first | (rw [show q_towerOf (T 5) t x = (0, tw (T 5) t x) from by unfold q_towerOf; rw [if_neg (by omega), if_neg (by omega), if_pos (by omega)]]; exact ⟨rfl, rfl⟩))
    · refine y_tsIn (tgt := 72) (off := 52) E dX3_towerOf_20 (by omega) (by omega) (by rw [hs]; rfl) (by decide) ?_
      first | refine y_ald_n E dX3_towerOf_72 (by rfl) ?_ | refine y_aload_n E dX3_towerOf_72 (by rfl) ?_
      refine y_iload_n E dX3_towerOf_73 (by rfl) ?_
      refine y_iload_n E dX3_towerOf_74 (by rfl) ?_
      refine y_callV E dX3_towerOf_75 lk_X3_81 (m_ofTower hA ?_ ?_) (by rfl) (m_o hA _ _) rfl (by decide) (by omega) (by omega) rfl (Nat.le_of_ble_eq_true rfl) ?_ (fun _ _ _ h => h.elim)
      · first | omega | (simp (decide := true) only [upN_s, upN_n, upN_upN, upN_id, remT_5, remT_8] <;> omega)
      · first | omega | (simp (decide := true) only [upN_s, upN_n, upN_upN, upN_id, remT_5, remT_8] <;> omega)
      rintro _ _ ⟨rfl, rfl⟩
      try simp (decide := true) only [upN_s, upN_n, upN_upN, upN_id, remT_5, remT_8]
      refine y_ireturn E F rfl rfl dX3_towerOf_78 (by omega) (by omega) (by first | (rw [show q_towerOf (T 5) t x = (0, tw (T 5) t x) from by unfold q_towerOf; rw [if_neg (by omega), if_neg (by omega), if_pos (by omega)]]; exact ⟨rfl, rfl⟩))
    · refine y_tsIn (tgt := 72) (off := 52) E dX3_towerOf_20 (by omega) (by omega) (by rw [hs]; rfl) (by decide) ?_
      first | refine y_ald_n E dX3_towerOf_72 (by rfl) ?_ | refine y_aload_n E dX3_towerOf_72 (by rfl) ?_
      refine y_iload_n E dX3_towerOf_73 (by rfl) ?_
      refine y_iload_n E dX3_towerOf_74 (by rfl) ?_
      refine y_callV E dX3_towerOf_75 lk_X3_81 (m_ofTower hA ?_ ?_) (by rfl) (m_o hA _ _) rfl (by decide) (by omega) (by omega) rfl (Nat.le_of_ble_eq_true rfl) ?_ (fun _ _ _ h => h.elim)
      · first | omega | (simp (decide := true) only [upN_s, upN_n, upN_upN, upN_id, remT_5, remT_8] <;> omega)
      · first | omega | (simp (decide := true) only [upN_s, upN_n, upN_upN, upN_id, remT_5, remT_8] <;> omega)
      rintro _ _ ⟨rfl, rfl⟩
      try simp (decide := true) only [upN_s, upN_n, upN_upN, upN_id, remT_5, remT_8]
      refine y_ireturn E F rfl rfl dX3_towerOf_78 (by omega) (by omega) (by first | (rw [show q_towerOf (T 5) t x = (0, tw (T 5) t x) from by unfold q_towerOf; rw [if_neg (by omega), if_neg (by omega), if_pos (by omega)]]; exact ⟨rfl, rfl⟩))
    · refine y_tsIn (tgt := 79) (off := 59) E dX3_towerOf_20 (by omega) (by omega) (by rw [hs]; rfl) (by decide) ?_
      first | refine y_ald_n E dX3_towerOf_79 (by rfl) ?_ | refine y_aload_n E dX3_towerOf_79 (by rfl) ?_
      refine y_iload_n E dX3_towerOf_80 (by rfl) ?_
      refine y_bipush E dX3_towerOf_81 (by decide) ?_
      refine y_callV E dX3_towerOf_83 lk_X3_81 (m_ofTower hA ?_ ?_) (by rfl) (m_o hA _ _) rfl (by decide) (by omega) (by omega) rfl (Nat.le_of_ble_eq_true rfl) ?_ (fun _ _ _ h => h.elim)
      · first | omega | (simp (decide := true) only [upN_s, upN_n, upN_upN, upN_id, remT_5, remT_8] <;> omega)
      · first | omega | (simp (decide := true) only [upN_s, upN_n, upN_upN, upN_id, remT_5, remT_8] <;> omega)
      rintro _ _ ⟨rfl, rfl⟩
      try simp (decide := true) only [upN_s, upN_n, upN_upN, upN_id, remT_5, remT_8]
      refine y_ireturn E F rfl rfl dX3_towerOf_86 (by omega) (by omega) (by first | (rw [show q_towerOf (T 5) t x = (0, tw (T 5) t 7) from by unfold q_towerOf; rw [if_neg (by omega), if_neg (by omega), if_neg (by omega), if_pos (by omega)]]; exact ⟨rfl, rfl⟩))
    · refine y_tsIn (tgt := 87) (off := 67) E dX3_towerOf_20 (by omega) (by omega) (by rw [hs]; rfl) (by decide) ?_
      obtain ⟨g, hg⟩ : ∃ g : Nat, tw (T 5) t 6 = g := ⟨(tw (T 5) t 6).toNat, by have := hS.t (t := t) (by omega) (by omega); omega⟩
      have hg2 := (hS.t (t := t) (by omega) (by omega)).2.2.2.2.2.2.1
      first | refine y_ald_n E dX3_towerOf_87 (by rfl) ?_ | refine y_aload_n E dX3_towerOf_87 (by rfl) ?_
      refine y_iload_n E dX3_towerOf_88 (by rfl) ?_
      refine y_bipush E dX3_towerOf_89 (by decide) ?_
      refine y_callV E dX3_towerOf_91 lk_X3_81 (m_ofTower hA ?_ ?_) (by rfl) (m_o hA _ _) rfl (by decide) (by omega) (by omega) rfl (Nat.le_of_ble_eq_true rfl) ?_ (fun _ _ _ h => h.elim)
      · first | omega | (simp (decide := true) only [upN_s, upN_n, upN_upN, upN_id, remT_5, remT_8] <;> omega)
      · first | omega | (simp (decide := true) only [upN_s, upN_n, upN_upN, upN_id, remT_5, remT_8] <;> omega)
      rintro _ _ ⟨rfl, rfl⟩
      try simp (decide := true) only [upN_s, upN_n, upN_upN, upN_id, remT_5, remT_8]
      rw [hg]
      refine y_callS E dX3_towerOf_94 lk_X3_154 (m_bits ?_) (by rfl) (by decide) (by omega) (by omega) rfl (Nat.le_of_ble_eq_true rfl) ?_ (fun _ _ _ h => h.elim)
      · first | omega | (simp (decide := true) only [upN_s, upN_n, upN_upN, upN_id, remT_5, remT_8] <;> omega)
      rintro _ _ ⟨rfl, rfl⟩
      refine y_ireturn E F rfl rfl dX3_towerOf_97 (by omega) (by omega) (by first | (rw [show q_towerOf (T 5) t x = (0, ((popS g : Nat) : Int)) from by unfold q_towerOf; rw [if_neg (by omega), if_neg (by omega), if_neg (by omega), if_neg (by omega), if_pos (by omega), hg, Int.toNat_natCast]]; exact ⟨rfl, rfl⟩))
    · refine y_tsIn (tgt := 98) (off := 78) E dX3_towerOf_20 (by omega) (by omega) (by rw [hs]; rfl) (by decide) ?_
      first | refine y_ald_n E dX3_towerOf_98 (by rfl) ?_ | refine y_aload_n E dX3_towerOf_98 (by rfl) ?_
      refine y_iload_n E dX3_towerOf_99 (by rfl) ?_
      refine y_callV E dX3_towerOf_100 lk_X3_292 (m_reachedBy hA ?_ ?_) (by rfl) (m_o hA _ _) rfl (by decide) (by omega) (by omega) rfl (Nat.le_of_ble_eq_true rfl) ?_ (fun _ _ _ h => h.elim)
      · exact hS
      · first | omega | (simp (decide := true) only [upN_s, upN_n, upN_upN, upN_id, remT_5, remT_8] <;> omega)
      rintro _ _ ⟨rfl, rfl⟩
      try simp (decide := true) only [upN_s, upN_n, upN_upN, upN_id, remT_5, remT_8]
      refine y_ireturn E F rfl rfl dX3_towerOf_103 (by omega) (by omega) (by first | (rw [show q_towerOf (T 5) t x = (0, sumI (fun p => b2i (dB (rchP (T 5) t p))) 61) from by unfold q_towerOf; rw [if_neg (by omega), if_neg (by omega), if_neg (by omega), if_neg (by omega), if_neg (by omega)]]; exact ⟨rfl, rfl⟩))
  · first | refine y_ald_n E dX3_towerOf_13 (by rfl) ?_ | refine y_aload_n E dX3_towerOf_13 (by rfl) ?_
    refine y_iconst E dX3_towerOf_14 ?_
    refine y_callV E dX3_towerOf_15 lk_X3_63 (m_fails hA) (by rfl) (m_o hA _ _) rfl (by decide) (by omega) (by omega) rfl (Nat.le_of_ble_eq_true rfl) ?_ (fun _ _ _ h => h.elim)
    rintro _ _ ⟨rfl, rfl⟩
    try simp (decide := true) only [upN_s, upN_n, upN_upN, upN_id, remT_5, remT_8]
    refine y_ireturn E F rfl rfl dX3_towerOf_18 (by omega) (by omega) (by first | (rw [show q_towerOf (T 5) t x = (1, 0) from by unfold q_towerOf; rw [if_pos (by omega)]]; exact ⟨rfl, rfl⟩))
theorem m_lensOf (hA : mA A) (hS : SH (T 5)) {l x : Int} (hl : inR l) (hx : inR x) : Ct_X3_lensOf Γ 2 0 0 [.ref (A 0), .int (iI (l)), .int (iI (x))] (mH A T G) (fun v G' => v = some (.int (iI ((q_lensOf (T 5) l x).2))) ∧ G' = mH A (upN T 0 (fun _ => (q_lensOf (T 5) l x).1)) G) noX := by
  refine y_start (lv0 := [some (.ref (A 0)), some (.int (iI (l))), some (.int (iI (x)))]) (nm := "lensOf") (own := RX3) (by decide +kernel) rfl rfl (by exact Nat.le_of_ble_eq_true rfl) (by rfl) ?_
  intro Z Q E F
  have hn := hS.nl
  first | refine y_ald_n E dX3_lensOf_0 (by rfl) ?_ | refine y_aload_n E dX3_lensOf_0 (by rfl) ?_
  refine y_iconst E dX3_lensOf_1 ?_
  refine y_put E dX3_lensOf_2 fl_X3_51_X3 fw_X3_0 rfl (by rfl) (m_o hA _ _) (Nat.le_of_ble_eq_true rfl) ?_
  refine y_heap (m_p0 hA) ?_
  refine y_iload_n E dX3_lensOf_5 (by rfl) ?_
  refine y_iconst E dX3_lensOf_6 ?_
  first | refine y_ald_n E dX3_lensOf_7 (by rfl) ?_ | refine y_aload_n E dX3_lensOf_7 (by rfl) ?_
  refine y_get E dX3_lensOf_8 fl_X3_13_X3 (m_o hA _ _) (by rfl) ?_
  refine y_bipush E dX3_lensOf_11 (by decide) ?_
  refine y_iald E dX3_lensOf_13 (m_r5 hA _ _) (by omega) ?_
  try simp (decide := true) only [upN_s, upN_n, upN_upN, upN_id, remT_5, remT_8]
  refine y_iconst E dX3_lensOf_14 ?_
  refine y_isub E dX3_lensOf_15 ?_
  refine y_callS E dX3_lensOf_16 lk_X3_77 (m_isBetween ?_ ?_ ?_) (by rfl) (by decide) (by omega) (by omega) rfl (Nat.le_of_ble_eq_true rfl) ?_ (fun _ _ _ h => h.elim)
  · first | omega | (simp (decide := true) only [upN_s, upN_n, upN_upN, upN_id, remT_5, remT_8] <;> omega)
  · first | omega | (simp (decide := true) only [upN_s, upN_n, upN_upN, upN_id, remT_5, remT_8] <;> omega)
  · first | omega | (simp (decide := true) only [upN_s, upN_n, upN_upN, upN_id, remT_5, remT_8] <;> omega)
  rintro _ _ ⟨rfl, rfl⟩
  refine y_ifd_ne (tgt := 28) E dX3_lensOf_19 (by decide) (fun h19 => ?_) (fun h19 => ?_)
  · refine y_iload_n E dX3_lensOf_28 (by rfl) ?_
    refine y_iconst E dX3_lensOf_29 ?_
    refine y_iconst E dX3_lensOf_30 ?_
    refine y_callS E dX3_lensOf_31 lk_X3_77 (m_isBetween ?_ ?_ ?_) (by rfl) (by decide) (by omega) (by omega) rfl (Nat.le_of_ble_eq_true rfl) ?_ (fun _ _ _ h => h.elim)
    · first | omega | (simp (decide := true) only [upN_s, upN_n, upN_upN, upN_id, remT_5, remT_8] <;> omega)
    · first | omega | (simp (decide := true) only [upN_s, upN_n, upN_upN, upN_id, remT_5, remT_8] <;> omega)
    · first | omega | (simp (decide := true) only [upN_s, upN_n, upN_upN, upN_id, remT_5, remT_8] <;> omega)
    rintro _ _ ⟨rfl, rfl⟩
    refine y_ifd_ne (tgt := 43) E dX3_lensOf_34 (by decide) (fun h34 => ?_) (fun h34 => ?_)
    · refine y_iload_n E dX3_lensOf_43 (by rfl) ?_
      refine y_iconst E dX3_lensOf_44 ?_
      refine y_icmp_ne (tgt := 56) E dX3_lensOf_45 (by decide) (by omega) (by omega) (fun h45 => ?_) (fun h45 => ?_)
      · first | refine y_ald_n E dX3_lensOf_56 (by rfl) ?_ | refine y_aload_n E dX3_lensOf_56 (by rfl) ?_
        refine y_get E dX3_lensOf_57 fl_X3_13_X3 (m_o hA _ _) (by rfl) ?_
        refine y_iload_n E dX3_lensOf_60 (by rfl) ?_
        refine y_iload_n E dX3_lensOf_61 (by rfl) ?_
        refine y_callS E dX3_lensOf_62 lk_X3_84 (m_lensAt) (by rfl) (by decide) (by omega) (by omega) rfl (Nat.le_of_ble_eq_true rfl) ?_ (fun _ _ _ h => h.elim)
        rintro _ _ ⟨rfl, rfl⟩
        refine y_iald E dX3_lensOf_65 (m_r5 hA _ _) (by omega) ?_
        try simp (decide := true) only [upN_s, upN_n, upN_upN, upN_id, remT_5, remT_8]
        refine y_ireturn E F rfl rfl dX3_lensOf_66 (by omega) (by omega) (by first | (rw [show q_lensOf (T 5) l x = (0, fstI (fun k => T 5 (13 + k) = l) (T 5 12)) from by unfold q_lensOf; rw [if_neg (by omega), if_neg (by omega), if_pos (by omega)]]; exact ⟨rfl, rfl⟩) | (rw [show q_lensOf (T 5) l x = (0, T 5 (89 + 3 * l + x)) from by unfold q_lensOf; rw [if_neg (by omega), if_neg (by omega), if_neg (by omega)]]; exact ⟨rfl, rfl⟩))
      · first | refine y_ald_n E dX3_lensOf_48 (by rfl) ?_ | refine y_aload_n E dX3_lensOf_48 (by rfl) ?_
        refine y_iload_n E dX3_lensOf_49 (by rfl) ?_
        refine y_callV E dX3_lensOf_50 lk_X3_295 (m_placeInStore hA ?_ ?_) (by rfl) (m_o hA _ _) rfl (by decide) (by omega) (by omega) rfl (Nat.le_of_ble_eq_true rfl) ?_ (fun _ _ _ h => h.elim)
        · exact hS
        · first | omega | (simp (decide := true) only [upN_s, upN_n, upN_upN, upN_id, remT_5, remT_8] <;> omega)
        rintro _ _ ⟨rfl, rfl⟩
        try simp (decide := true) only [upN_s, upN_n, upN_upN, upN_id, remT_5, remT_8]
        refine y_goto (tgt := 66) E dX3_lensOf_53 (by decide) ?_
        refine y_ireturn E F rfl rfl dX3_lensOf_66 (by omega) (by omega) (by first | (rw [show q_lensOf (T 5) l x = (0, fstI (fun k => T 5 (13 + k) = l) (T 5 12)) from by unfold q_lensOf; rw [if_neg (by omega), if_neg (by omega), if_pos (by omega)]]; exact ⟨rfl, rfl⟩) | (rw [show q_lensOf (T 5) l x = (0, T 5 (89 + 3 * l + x)) from by unfold q_lensOf; rw [if_neg (by omega), if_neg (by omega), if_neg (by omega)]]; exact ⟨rfl, rfl⟩))
    · first | refine y_ald_n E dX3_lensOf_37 (by rfl) ?_ | refine y_aload_n E dX3_lensOf_37 (by rfl) ?_
      refine y_iconst E dX3_lensOf_38 ?_
      refine y_callV E dX3_lensOf_39 lk_X3_63 (m_fails hA) (by rfl) (m_o hA _ _) rfl (by decide) (by omega) (by omega) rfl (Nat.le_of_ble_eq_true rfl) ?_ (fun _ _ _ h => h.elim)
      rintro _ _ ⟨rfl, rfl⟩
      try simp (decide := true) only [upN_s, upN_n, upN_upN, upN_id, remT_5, remT_8]
      refine y_ireturn E F rfl rfl dX3_lensOf_42 (by omega) (by omega) (by first | (rw [show q_lensOf (T 5) l x = (2, 0) from by unfold q_lensOf; rw [if_neg (by omega), if_pos (by omega)]]; exact ⟨rfl, rfl⟩))
  · first | refine y_ald_n E dX3_lensOf_22 (by rfl) ?_ | refine y_aload_n E dX3_lensOf_22 (by rfl) ?_
    refine y_iconst E dX3_lensOf_23 ?_
    refine y_callV E dX3_lensOf_24 lk_X3_63 (m_fails hA) (by rfl) (m_o hA _ _) rfl (by decide) (by omega) (by omega) rfl (Nat.le_of_ble_eq_true rfl) ?_ (fun _ _ _ h => h.elim)
    rintro _ _ ⟨rfl, rfl⟩
    try simp (decide := true) only [upN_s, upN_n, upN_upN, upN_id, remT_5, remT_8]
    refine y_ireturn E F rfl rfl dX3_lensOf_27 (by omega) (by omega) (by first | (rw [show q_lensOf (T 5) l x = (1, 0) from by unfold q_lensOf; rw [if_pos (by omega)]]; exact ⟨rfl, rfl⟩))
theorem m_account (hA : mA A) (hS : SH (T 5)) {x : Int} (hx : inR x) : Ct_X3_account Γ 4 0 0 [.ref (A 0), .int (iI (x))] (mH A T G) (fun v G' => v = some (.int (iI ((q_account T x).2))) ∧ G' = mH A (upN T 0 (fun _ => (q_account T x).1)) G) noX := by
  refine y_start (lv0 := [some (.ref (A 0)), some (.int (iI (x)))]) (nm := "account") (own := RX3) (by decide +kernel) rfl rfl (by exact Nat.le_of_ble_eq_true rfl) (by rfl) ?_
  intro Z Q E F
  first | refine y_ald_n E dX3_account_0 (by rfl) ?_ | refine y_aload_n E dX3_account_0 (by rfl) ?_
  refine y_iconst E dX3_account_1 ?_
  refine y_put E dX3_account_2 fl_X3_51_X3 fw_X3_0 rfl (by rfl) (m_o hA _ _) (Nat.le_of_ble_eq_true rfl) ?_
  refine y_heap (m_p0 hA) ?_
  refine y_iload_n E dX3_account_5 (by rfl) ?_
  rcases (show x < 0 ∨ 12 < x ∨ x = 0 ∨ x = 1 ∨ x = 2 ∨ x = 3 ∨ x = 4 ∨ x = 5 ∨ x = 6 ∨ x = 7 ∨ x = 8 ∨ x = 9 ∨ x = 10 ∨ x = 11 ∨ x = 12 by omega) with hs | hs | hs | hs | hs | hs | hs | hs | hs | hs | hs | hs | hs | hs | hs
  · refine y_tsOut (tgt := 144) E dX3_account_6 (by omega) (by omega) (by decide) ?_
    first | refine y_ald_n E dX3_account_144 (by rfl) ?_ | refine y_aload_n E dX3_account_144 (by rfl) ?_
    refine y_iconst E dX3_account_145 ?_
    refine y_callV E dX3_account_146 lk_X3_63 (m_fails hA) (by rfl) (m_o hA _ _) rfl (by decide) (by omega) (by omega) rfl (Nat.le_of_ble_eq_true rfl) ?_ (fun _ _ _ h => h.elim)
    rintro _ _ ⟨rfl, rfl⟩
    try simp (decide := true) only [upN_s, upN_n, upN_upN, upN_id, remT_5, remT_8]
    refine y_ireturn E F rfl rfl dX3_account_149 (by omega) (by omega) (by first | (rw [show q_account T x = (1, 0) from by unfold q_account; rw [if_pos (by omega)]]; exact ⟨rfl, rfl⟩))
  · refine y_tsOut (tgt := 144) E dX3_account_6 (by omega) (by omega) (by decide) ?_
    first | refine y_ald_n E dX3_account_144 (by rfl) ?_ | refine y_aload_n E dX3_account_144 (by rfl) ?_
    refine y_iconst E dX3_account_145 ?_
    refine y_callV E dX3_account_146 lk_X3_63 (m_fails hA) (by rfl) (m_o hA _ _) rfl (by decide) (by omega) (by omega) rfl (Nat.le_of_ble_eq_true rfl) ?_ (fun _ _ _ h => h.elim)
    rintro _ _ ⟨rfl, rfl⟩
    try simp (decide := true) only [upN_s, upN_n, upN_upN, upN_id, remT_5, remT_8]
    refine y_ireturn E F rfl rfl dX3_account_149 (by omega) (by omega) (by first | (rw [show q_account T x = (1, 0) from by unfold q_account; rw [if_pos (by omega)]]; exact ⟨rfl, rfl⟩))
  · refine y_tsIn (tgt := 72) (off := 66) E dX3_account_6 (by omega) (by omega) (by rw [hs]; rfl) (by decide) ?_
    first | refine y_ald_n E dX3_account_72 (by rfl) ?_ | refine y_aload_n E dX3_account_72 (by rfl) ?_
    refine y_get E dX3_account_73 fl_X3_13_X3 (m_o hA _ _) (by rfl) ?_
    refine y_bipush E dX3_account_76 (by decide) ?_
    refine y_iald E dX3_account_78 (m_r5 hA _ _) (by omega) ?_
    try simp (decide := true) only [upN_s, upN_n, upN_upN, upN_id, remT_5, remT_8]
    refine y_ireturn E F rfl rfl dX3_account_79 (by omega) (by omega) (by first | (rw [show q_account T x = (0, T 5 10) from by unfold q_account; rw [if_neg (by omega), if_pos (by omega)]]; exact ⟨rfl, rfl⟩))
  · refine y_tsIn (tgt := 80) (off := 74) E dX3_account_6 (by omega) (by omega) (by rw [hs]; rfl) (by decide) ?_
    first | refine y_ald_n E dX3_account_80 (by rfl) ?_ | refine y_aload_n E dX3_account_80 (by rfl) ?_
    refine y_callV E dX3_account_81 lk_X3_174 (m_litOnes hA ?_) (by rfl) (m_o hA _ _) rfl (by decide) (by omega) (by omega) rfl (Nat.le_of_ble_eq_true rfl) ?_ (fun _ _ _ h => h.elim)
    · exact hS
    rintro _ _ ⟨rfl, rfl⟩
    try simp (decide := true) only [upN_s, upN_n, upN_upN, upN_id, remT_5, remT_8]
    refine y_ireturn E F rfl rfl dX3_account_84 (by omega) (by omega) (by first | (rw [show q_account T x = (0, litN (T 5)) from by unfold q_account; rw [if_neg (by omega), if_neg (by omega), if_pos (by omega)]]; exact ⟨rfl, rfl⟩))
  · refine y_tsIn (tgt := 85) (off := 79) E dX3_account_6 (by omega) (by omega) (by rw [hs]; rfl) (by decide) ?_
    first | refine y_ald_n E dX3_account_85 (by rfl) ?_ | refine y_aload_n E dX3_account_85 (by rfl) ?_
    refine y_callV E dX3_account_86 lk_X3_189 (m_brokenOnes hA ?_) (by rfl) (m_o hA _ _) rfl (by decide) (by omega) (by omega) rfl (Nat.le_of_ble_eq_true rfl) ?_ (fun _ _ _ h => h.elim)
    · exact hS
    rintro _ _ ⟨rfl, rfl⟩
    try simp (decide := true) only [upN_s, upN_n, upN_upN, upN_id, remT_5, remT_8]
    refine y_ireturn E F rfl rfl dX3_account_89 (by omega) (by omega) (by first | (rw [show q_account T x = (0, brkN (T 5)) from by unfold q_account; rw [if_neg (by omega), if_neg (by omega), if_neg (by omega), if_pos (by omega)]]; exact ⟨rfl, rfl⟩))
  · refine y_tsIn (tgt := 90) (off := 84) E dX3_account_6 (by omega) (by omega) (by rw [hs]; rfl) (by decide) ?_
    first | refine y_ald_n E dX3_account_90 (by rfl) ?_ | refine y_aload_n E dX3_account_90 (by rfl) ?_
    refine y_get E dX3_account_91 fl_X3_13_X3 (m_o hA _ _) (by rfl) ?_
    refine y_bipush E dX3_account_94 (by decide) ?_
    refine y_iald E dX3_account_96 (m_r5 hA _ _) (by omega) ?_
    try simp (decide := true) only [upN_s, upN_n, upN_upN, upN_id, remT_5, remT_8]
    refine y_ireturn E F rfl rfl dX3_account_97 (by omega) (by omega) (by first | (rw [show q_account T x = (0, T 5 11) from by unfold q_account; rw [if_neg (by omega), if_neg (by omega), if_neg (by omega), if_neg (by omega), if_pos (by omega)]]; exact ⟨rfl, rfl⟩))
  · refine y_tsIn (tgt := 98) (off := 92) E dX3_account_6 (by omega) (by omega) (by rw [hs]; rfl) (by decide) ?_
    first | refine y_ald_n E dX3_account_98 (by rfl) ?_ | refine y_aload_n E dX3_account_98 (by rfl) ?_
    refine y_get E dX3_account_99 fl_X3_13_X3 (m_o hA _ _) (by rfl) ?_
    refine y_bipush E dX3_account_102 (by decide) ?_
    refine y_iald E dX3_account_104 (m_r5 hA _ _) (by omega) ?_
    try simp (decide := true) only [upN_s, upN_n, upN_upN, upN_id, remT_5, remT_8]
    refine y_ireturn E F rfl rfl dX3_account_105 (by omega) (by omega) (by first | (rw [show q_account T x = (0, T 5 12) from by unfold q_account; rw [if_neg (by omega), if_neg (by omega), if_neg (by omega), if_neg (by omega), if_neg (by omega), if_pos (by omega)]]; exact ⟨rfl, rfl⟩))
  · refine y_tsIn (tgt := 106) (off := 100) E dX3_account_6 (by omega) (by omega) (by rw [hs]; rfl) (by decide) ?_
    first | refine y_ald_n E dX3_account_106 (by rfl) ?_ | refine y_aload_n E dX3_account_106 (by rfl) ?_
    refine y_callV E dX3_account_107 lk_X3_298 (m_scrapped hA ?_) (by rfl) (m_o hA _ _) rfl (by decide) (by omega) (by omega) rfl (Nat.le_of_ble_eq_true rfl) ?_ (fun _ _ _ h => h.elim)
    · exact hS
    rintro _ _ ⟨rfl, rfl⟩
    try simp (decide := true) only [upN_s, upN_n, upN_upN, upN_id, remT_5, remT_8]
    refine y_ireturn E F rfl rfl dX3_account_110 (by omega) (by omega) (by first | (rw [show q_account T x = (0, sumI (fun l => b2i (dB (lw (T 5) l 2 = -2))) (T 5 11)) from by unfold q_account; rw [if_neg (by omega), if_neg (by omega), if_neg (by omega), if_neg (by omega), if_neg (by omega), if_neg (by omega), if_pos (by omega)]]; exact ⟨rfl, rfl⟩))
  · refine y_tsIn (tgt := 111) (off := 105) E dX3_account_6 (by omega) (by omega) (by rw [hs]; rfl) (by decide) ?_
    first | refine y_ald_n E dX3_account_111 (by rfl) ?_ | refine y_aload_n E dX3_account_111 (by rfl) ?_
    refine y_get E dX3_account_112 fl_X3_13_X3 (m_o hA _ _) (by rfl) ?_
    refine y_iconst E dX3_account_115 ?_
    refine y_iload_n E dX3_account_116 (by rfl) ?_
    refine y_iadd E dX3_account_117 ?_
    refine y_bipush E dX3_account_118 (by decide) ?_
    refine y_isub E dX3_account_120 ?_
    refine y_iald E dX3_account_121 (m_r5 hA _ _) (by omega) ?_
    try simp (decide := true) only [upN_s, upN_n, upN_upN, upN_id, remT_5, remT_8]
    refine y_ireturn E F rfl rfl dX3_account_122 (by omega) (by omega) (by first | (rw [show q_account T x = (0, T 5 (0 + x - 6)) from by unfold q_account; rw [if_neg (by omega), if_neg (by omega), if_neg (by omega), if_neg (by omega), if_neg (by omega), if_neg (by omega), if_neg (by omega), if_pos (by omega)]]; exact ⟨rfl, rfl⟩))
  · refine y_tsIn (tgt := 111) (off := 105) E dX3_account_6 (by omega) (by omega) (by rw [hs]; rfl) (by decide) ?_
    first | refine y_ald_n E dX3_account_111 (by rfl) ?_ | refine y_aload_n E dX3_account_111 (by rfl) ?_
    refine y_get E dX3_account_112 fl_X3_13_X3 (m_o hA _ _) (by rfl) ?_
    refine y_iconst E dX3_account_115 ?_
    refine y_iload_n E dX3_account_116 (by rfl) ?_
    refine y_iadd E dX3_account_117 ?_
    refine y_bipush E dX3_account_118 (by decide) ?_
    refine y_isub E dX3_account_120 ?_
    refine y_iald E dX3_account_121 (m_r5 hA _ _) (by omega) ?_
    try simp (decide := true) only [upN_s, upN_n, upN_upN, upN_id, remT_5, remT_8]
    refine y_ireturn E F rfl rfl dX3_account_122 (by omega) (by omega) (by first | (rw [show q_account T x = (0, T 5 (0 + x - 6)) from by unfold q_account; rw [if_neg (by omega), if_neg (by omega), if_neg (by omega), if_neg (by omega), if_neg (by omega), if_neg (by omega), if_neg (by omega), if_pos (by omega)]]; exact ⟨rfl, rfl⟩))
  · refine y_tsIn (tgt := 111) (off := 105) E dX3_account_6 (by omega) (by omega) (by rw [hs]; rfl) (by decide) ?_
    first | refine y_ald_n E dX3_account_111 (by rfl) ?_ | refine y_aload_n E dX3_account_111 (by rfl) ?_
    refine y_get E dX3_account_112 fl_X3_13_X3 (m_o hA _ _) (by rfl) ?_
    refine y_iconst E dX3_account_115 ?_
    refine y_iload_n E dX3_account_116 (by rfl) ?_
    refine y_iadd E dX3_account_117 ?_
    refine y_bipush E dX3_account_118 (by decide) ?_
    refine y_isub E dX3_account_120 ?_
    refine y_iald E dX3_account_121 (m_r5 hA _ _) (by omega) ?_
    try simp (decide := true) only [upN_s, upN_n, upN_upN, upN_id, remT_5, remT_8]
    refine y_ireturn E F rfl rfl dX3_account_122 (by omega) (by omega) (by first | (rw [show q_account T x = (0, T 5 (0 + x - 6)) from by unfold q_account; rw [if_neg (by omega), if_neg (by omega), if_neg (by omega), if_neg (by omega), if_neg (by omega), if_neg (by omega), if_neg (by omega), if_pos (by omega)]]; exact ⟨rfl, rfl⟩))
  · refine y_tsIn (tgt := 123) (off := 117) E dX3_account_6 (by omega) (by omega) (by rw [hs]; rfl) (by decide) ?_
    first | refine y_ald_n E dX3_account_123 (by rfl) ?_ | refine y_aload_n E dX3_account_123 (by rfl) ?_
    refine y_iconst E dX3_account_124 ?_
    refine y_callV E dX3_account_125 lk_X3_301 (m_allPower hA ?_ ?_) (by rfl) (m_o hA _ _) rfl (by decide) (by omega) (by omega) rfl (Nat.le_of_ble_eq_true rfl) ?_ (fun _ _ _ h => h.elim)
    · exact hS
    · first | omega | (simp (decide := true) only [upN_s, upN_n, upN_upN, upN_id, remT_5, remT_8] <;> omega)
    rintro _ _ ⟨rfl, rfl⟩
    try simp (decide := true) only [upN_s, upN_n, upN_upN, upN_id, remT_5, remT_8]
    refine y_ireturn E F rfl rfl dX3_account_128 (by omega) (by omega) (by first | (rw [show q_account T x = (0, powA (T 5) (-1)) from by unfold q_account; rw [if_neg (by omega), if_neg (by omega), if_neg (by omega), if_neg (by omega), if_neg (by omega), if_neg (by omega), if_neg (by omega), if_neg (by omega), if_pos (by omega)]]; exact ⟨rfl, rfl⟩))
  · refine y_tsIn (tgt := 129) (off := 123) E dX3_account_6 (by omega) (by omega) (by rw [hs]; rfl) (by decide) ?_
    first | refine y_ald_n E dX3_account_129 (by rfl) ?_ | refine y_aload_n E dX3_account_129 (by rfl) ?_
    refine y_callV E dX3_account_130 lk_X3_304 (m_allFog hA) (by rfl) (m_o hA _ _) rfl (by decide) (by omega) (by omega) rfl (Nat.le_of_ble_eq_true rfl) ?_ (fun _ _ _ h => h.elim)
    rintro _ _ ⟨rfl, rfl⟩
    try simp (decide := true) only [upN_s, upN_n, upN_upN, upN_id, remT_5, remT_8]
    refine y_ireturn E F rfl rfl dX3_account_133 (by omega) (by omega) (by first | (rw [show q_account T x = (0, sumI (fun k => T 5 (3 + k)) 7) from by unfold q_account; rw [if_neg (by omega), if_neg (by omega), if_neg (by omega), if_neg (by omega), if_neg (by omega), if_neg (by omega), if_neg (by omega), if_neg (by omega), if_neg (by omega), if_pos (by omega)]]; exact ⟨rfl, rfl⟩))
  · refine y_tsIn (tgt := 134) (off := 128) E dX3_account_6 (by omega) (by omega) (by rw [hs]; rfl) (by decide) ?_
    first | refine y_ald_n E dX3_account_134 (by rfl) ?_ | refine y_aload_n E dX3_account_134 (by rfl) ?_
    refine y_get E dX3_account_135 fl_X3_231_X3 (m_o hA _ _) (by rfl) ?_
    try simp (decide := true) only [upN_s, upN_n, upN_upN, upN_id, remT_5, remT_8]
    refine y_ireturn E F rfl rfl dX3_account_138 (by omega) (by omega) (by first | (rw [show q_account T x = (0, T 17 0) from by unfold q_account; rw [if_neg (by omega), if_neg (by omega), if_neg (by omega), if_neg (by omega), if_neg (by omega), if_neg (by omega), if_neg (by omega), if_neg (by omega), if_neg (by omega), if_neg (by omega), if_pos (by omega)]]; exact ⟨rfl, rfl⟩))
  · refine y_tsIn (tgt := 139) (off := 133) E dX3_account_6 (by omega) (by omega) (by rw [hs]; rfl) (by decide) ?_
    first | refine y_ald_n E dX3_account_139 (by rfl) ?_ | refine y_aload_n E dX3_account_139 (by rfl) ?_
    refine y_get E dX3_account_140 fl_X3_67_X3 (m_o hA _ _) (by rfl) ?_
    try simp (decide := true) only [upN_s, upN_n, upN_upN, upN_id, remT_5, remT_8]
    refine y_ireturn E F rfl rfl dX3_account_143 (by omega) (by omega) (by first | (rw [show q_account T x = (0, T 9 0) from by unfold q_account; rw [if_neg (by omega), if_neg (by omega), if_neg (by omega), if_neg (by omega), if_neg (by omega), if_neg (by omega), if_neg (by omega), if_neg (by omega), if_neg (by omega), if_neg (by omega), if_neg (by omega)]]; exact ⟨rfl, rfl⟩))
theorem m_undo (hA : mA A) (hc : 0 ≤ T 9 0 ∧ T 9 0 ≤ 8) (hf : 0 ≤ T 10 0 ∧ T 10 0 ≤ 7) : Ct_X3_undo Γ 2 0 0 [.ref (A 0)] (mH A T G) (fun v G' => v = some (.int (iI ((o_undo T).1))) ∧ G' = mH A ((o_undo T).2) G) noX := by
  refine y_start (lv0 := [some (.ref (A 0)), none, none]) (nm := "undo") (own := RX3) (by decide +kernel) rfl rfl (by exact Nat.le_of_ble_eq_true rfl) (by rfl) ?_
  intro Z Q E F
  have loop : T 9 0 ≠ 0 → ∀ off : Int, off = 128 * ((T 10 0 + (T 9 0 - 1)) % 8) → 0 ≤ off → off ≤ 896 → ∀ i : Int, 0 ≤ i → i ≤ 128 → Y Γ Z 0 0 Q (mH A (upN (upN (upN T 0 (fun _ => 0)) 9 (fun _ => T 9 0 - 1)) 5 (cpy (fun k => T 6 (off + k)) (T 5) 0 i)) G) 47 [some (.ref (A 0)), some (.int (iI off)), some (.int (iI i))] [] := by
    intro h9 off hoff o0 o1
    refine loopDown 128 ?_
    intro i ih h0 h1
    refine y_iload_n E dX3_undo_47 (by rfl) ?_
    refine y_sipush E dX3_undo_48 (by decide) ?_
    refine y_icmp_ge (tgt := 74) E dX3_undo_51 (by decide) (by omega) (by omega) (fun h51 => ?_) (fun h51 => ?_)
    · first | refine y_ald_n E dX3_undo_74 (by rfl) ?_ | refine y_aload_n E dX3_undo_74 (by rfl) ?_
      refine y_get E dX3_undo_75 fl_X3_67_X3 (m_o hA _ _) (by rfl) ?_
      try simp (decide := true) only [upN_s, upN_n, upN_upN, upN_id, remT_5, remT_8]
      refine y_ireturn E F rfl rfl dX3_undo_78 (by omega) (by omega) (by rw [show o_undo T = (T 9 0 - 1, upN (upN (upN T 0 (fun _ => 0)) 9 (fun _ => T 9 0 - 1)) 5 (cpy (fun k => T 6 (off + k)) (T 5) 0 128)) from by unfold o_undo; rw [if_neg h9, ← hoff], show i = 128 by omega]; exact ⟨rfl, rfl⟩)
    · first | refine y_ald_n E dX3_undo_54 (by rfl) ?_ | refine y_aload_n E dX3_undo_54 (by rfl) ?_
      refine y_get E dX3_undo_55 fl_X3_13_X3 (m_o hA _ _) (by rfl) ?_
      refine y_iload_n E dX3_undo_58 (by rfl) ?_
      first | refine y_ald_n E dX3_undo_59 (by rfl) ?_ | refine y_aload_n E dX3_undo_59 (by rfl) ?_
      refine y_get E dX3_undo_60 fl_X3_16_X3 (m_o hA _ _) (by rfl) ?_
      refine y_iload_n E dX3_undo_63 (by rfl) ?_
      refine y_iload_n E dX3_undo_64 (by rfl) ?_
      refine y_iadd E dX3_undo_65 ?_
      refine y_iald E dX3_undo_66 (m_r6 hA _ _) (by omega) ?_
      try simp (decide := true) only [upN_s, upN_n, upN_upN, upN_id, remT_5, remT_8]
      refine y_iast E dX3_undo_67 (m_r5 hA _ _) (by omega) ?_
      refine y_heap (m_w5 hA) ?_
      try simp (decide := true) only [upN_s, upN_n, upN_upN, upN_id, remT_5, remT_8]
      refine y_iinc E dX3_undo_68 (by rfl) ?_
      refine y_goto (tgt := 47) E dX3_undo_71 (by decide) ?_
      rw [cpy_s0 (s := fun k => T 6 (off + k)) h0]
      exact ih (by omega) (by omega) (by omega)
  first | refine y_ald_n E dX3_undo_0 (by rfl) ?_ | refine y_aload_n E dX3_undo_0 (by rfl) ?_
  refine y_iconst E dX3_undo_1 ?_
  refine y_put E dX3_undo_2 fl_X3_51_X3 fw_X3_0 rfl (by rfl) (m_o hA _ _) (Nat.le_of_ble_eq_true rfl) ?_
  refine y_heap (m_p0 hA) ?_
  first | refine y_ald_n E dX3_undo_5 (by rfl) ?_ | refine y_aload_n E dX3_undo_5 (by rfl) ?_
  refine y_get E dX3_undo_6 fl_X3_67_X3 (m_o hA _ _) (by rfl) ?_
  try simp (decide := true) only [upN_s, upN_n, upN_upN, upN_id, remT_5, remT_8]
  refine y_if_ne (tgt := 18) E dX3_undo_9 (by decide) (by omega) (fun h9 => ?_) (fun h9 => ?_)
  · first | refine y_ald_n E dX3_undo_18 (by rfl) ?_ | refine y_aload_n E dX3_undo_18 (by rfl) ?_
    refine y_dup E dX3_undo_19 rfl ?_
    refine y_get E dX3_undo_20 fl_X3_67_X3 (m_o hA _ _) (by rfl) ?_
    try simp (decide := true) only [upN_s, upN_n, upN_upN, upN_id, remT_5, remT_8]
    refine y_iconst E dX3_undo_23 ?_
    refine y_isub E dX3_undo_24 ?_
    refine y_put E dX3_undo_25 fl_X3_67_X3 fw_X3_9 rfl (by rfl) (m_o hA _ _) (Nat.le_of_ble_eq_true rfl) ?_
    refine y_heap (m_p9 hA) ?_
    refine y_sipush E dX3_undo_28 (by decide) ?_
    first | refine y_ald_n E dX3_undo_31 (by rfl) ?_ | refine y_aload_n E dX3_undo_31 (by rfl) ?_
    refine y_get E dX3_undo_32 fl_X3_70_X3 (m_o hA _ _) (by rfl) ?_
    try simp (decide := true) only [upN_s, upN_n, upN_upN, upN_id, remT_5, remT_8]
    first | refine y_ald_n E dX3_undo_35 (by rfl) ?_ | refine y_aload_n E dX3_undo_35 (by rfl) ?_
    refine y_get E dX3_undo_36 fl_X3_67_X3 (m_o hA _ _) (by rfl) ?_
    try simp (decide := true) only [upN_s, upN_n, upN_upN, upN_id, remT_5, remT_8]
    refine y_iadd E dX3_undo_39 ?_
    refine y_bipush E dX3_undo_40 (by decide) ?_
    refine y_irem E dX3_undo_42 (by omega) (by omega) ?_
    refine y_imul E dX3_undo_43 ?_
    refine y_istore_n (j := 1) E dX3_undo_44 rfl (Nat.le_of_ble_eq_true rfl) ?_
    refine y_iconst E dX3_undo_45 ?_
    refine y_istore_n (j := 2) E dX3_undo_46 rfl (Nat.le_of_ble_eq_true rfl) ?_
    refine y_heap (show _ = mH A (upN (upN (upN T 0 (fun _ => 0)) 9 (fun _ => T 9 0 - 1)) 5 (cpy (fun k => T 6 (128 * ((T 10 0 + (T 9 0 - 1)) % 8) + k)) (T 5) 0 0)) G from ?_) (loop h9 _ rfl (by omega) (by omega) 0 (by omega) (by omega))
    rw [cpy_0]
    exact congrArg (fun T => mH A T G) (upN_id (upN (upN T 0 (fun _ => 0)) 9 (fun _ => T 9 0 - 1)) 5).symm
  · first | refine y_ald_n E dX3_undo_12 (by rfl) ?_ | refine y_aload_n E dX3_undo_12 (by rfl) ?_
    refine y_iconst E dX3_undo_13 ?_
    refine y_callV E dX3_undo_14 lk_X3_63 (m_fails hA) (by rfl) (m_o hA _ _) rfl (by decide) (by omega) (by omega) rfl (Nat.le_of_ble_eq_true rfl) ?_ (fun _ _ _ h => h.elim)
    rintro _ _ ⟨rfl, rfl⟩
    try simp (decide := true) only [upN_s, upN_n, upN_upN, upN_id, remT_5, remT_8]
    refine y_ireturn E F rfl rfl dX3_undo_17 (by omega) (by omega) (by rw [show o_undo T = (0, failT T 1) from by unfold o_undo; rw [if_pos h9]]; exact ⟨rfl, rfl⟩)
theorem m_save (hA : mA A) (hS : SH (T 5)) : Ct_X3_save Γ 4 0 0 [.ref (A 0)] (mH A T G) (fun v G' => v = some (.int (iI ((o_save T).1))) ∧ G' = mH A ((o_save T).2) G) noX := by
  refine y_start (lv0 := [some (.ref (A 0)), none]) (nm := "save") (own := RX3) (by decide +kernel) rfl rfl (by exact Nat.le_of_ble_eq_true rfl) (by rfl) ?_
  intro Z Q E F
  have loop : ∀ i : Int, 0 ≤ i → i ≤ 128 → Y Γ Z 0 0 Q (mH A (upN (upN T 0 (fun _ => 0)) 7 (cpy (T 5) (T 7) 0 i)) G) 7 [some (.ref (A 0)), some (.int (iI i))] [] := by
    refine loopDown 128 ?_
    intro i ih h0 h1
    refine y_iload_n E dX3_save_7 (by rfl) ?_
    refine y_sipush E dX3_save_8 (by decide) ?_
    refine y_icmp_ge (tgt := 32) E dX3_save_11 (by decide) (by omega) (by omega) (fun h11 => ?_) (fun h11 => ?_)
    · first | refine y_ald_n E dX3_save_32 (by rfl) ?_ | refine y_aload_n E dX3_save_32 (by rfl) ?_
      refine y_iconst E dX3_save_33 ?_
      refine y_put E dX3_save_34 fl_X3_308_X3 fw_X3_11 (nar_z (by omega)) (fit_z (by omega)) (m_o hA _ _) (Nat.le_of_ble_eq_true rfl) ?_
      refine y_heap (m_p11 hA) ?_
      first | refine y_ald_n E dX3_save_37 (by rfl) ?_ | refine y_aload_n E dX3_save_37 (by rfl) ?_
      refine y_callV E dX3_save_38 lk_X3_174 (m_litOnes hA ?_) (by rfl) (m_o hA _ _) rfl (by decide) (by omega) (by omega) rfl (Nat.le_of_ble_eq_true rfl) ?_ (fun _ _ _ h => h.elim)
      · exact hS
      rintro _ _ ⟨rfl, rfl⟩
      try simp (decide := true) only [upN_s, upN_n, upN_upN, upN_id, remT_5, remT_8]
      refine y_ireturn E F rfl rfl dX3_save_41 (by omega) (by omega) (by rw [show o_save T = (litN (T 5), upN (upN (upN T 0 (fun _ => 0)) 7 (cpy (T 5) (T 7) 0 128)) 11 (fun _ => 1)) from rfl, show i = 128 by omega]; exact ⟨rfl, rfl⟩)
    · first | refine y_ald_n E dX3_save_14 (by rfl) ?_ | refine y_aload_n E dX3_save_14 (by rfl) ?_
      refine y_get E dX3_save_15 fl_X3_19_X3 (m_o hA _ _) (by rfl) ?_
      refine y_iload_n E dX3_save_18 (by rfl) ?_
      first | refine y_ald_n E dX3_save_19 (by rfl) ?_ | refine y_aload_n E dX3_save_19 (by rfl) ?_
      refine y_get E dX3_save_20 fl_X3_13_X3 (m_o hA _ _) (by rfl) ?_
      refine y_iload_n E dX3_save_23 (by rfl) ?_
      refine y_iald E dX3_save_24 (m_r5 hA _ _) (by omega) ?_
      try simp (decide := true) only [upN_s, upN_n, upN_upN, upN_id, remT_5, remT_8]
      refine y_iast E dX3_save_25 (m_r7 hA _ _) (by omega) ?_
      refine y_heap (m_w7 hA) ?_
      try simp (decide := true) only [upN_s, upN_n, upN_upN, upN_id, remT_5, remT_8]
      refine y_iinc E dX3_save_26 (by rfl) ?_
      refine y_goto (tgt := 7) E dX3_save_29 (by decide) ?_
      rw [cpy_s0 h0]
      exact ih (by omega) (by omega) (by omega)
  first | refine y_ald_n E dX3_save_0 (by rfl) ?_ | refine y_aload_n E dX3_save_0 (by rfl) ?_
  refine y_iconst E dX3_save_1 ?_
  refine y_put E dX3_save_2 fl_X3_51_X3 fw_X3_0 rfl (by rfl) (m_o hA _ _) (Nat.le_of_ble_eq_true rfl) ?_
  refine y_heap (m_p0 hA) ?_
  refine y_iconst E dX3_save_5 ?_
  refine y_istore_n (j := 1) E dX3_save_6 rfl (Nat.le_of_ble_eq_true rfl) ?_
  refine y_heap (show _ = mH A (upN (upN T 0 (fun _ => 0)) 7 (cpy (T 5) (T 7) 0 0)) G from ?_) (loop 0 (by omega) (by omega))
  rw [cpy_0]
  exact congrArg (fun T => mH A T G) (upN_id (upN T 0 (fun _ => 0)) 7).symm
theorem m_restore (hA : mA A) (hS7 : T 11 0 ≠ 0 → SH (T 7)) (hs : inR (T 11 0)) : Ct_X3_restore Γ 4 0 0 [.ref (A 0)] (mH A T G) (fun v G' => v = some (.int (iI ((o_restore T).1))) ∧ G' = mH A ((o_restore T).2) G) noX := by
  refine y_start (lv0 := [some (.ref (A 0)), none]) (nm := "restore") (own := RX3) (by decide +kernel) rfl rfl (by exact Nat.le_of_ble_eq_true rfl) (by rfl) ?_
  intro Z Q E F
  have loop : T 11 0 ≠ 0 → ∀ i : Int, 0 ≤ i → i ≤ 128 → Y Γ Z 0 0 Q (mH A (upN (upN T 0 (fun _ => 0)) 5 (cpy (T 7) (T 5) 0 i)) G) 20 [some (.ref (A 0)), some (.int (iI i))] [] := by
    intro h11
    have hS := SH.c (hS7 h11) (fun k a b => (cpy_eq (T 7) (T 5) k a b).symm)
    refine loopDown 128 ?_
    intro i ih h0 h1
    refine y_iload_n E dX3_restore_20 (by rfl) ?_
    refine y_sipush E dX3_restore_21 (by decide) ?_
    refine y_icmp_ge (tgt := 45) E dX3_restore_24 (by decide) (by omega) (by omega) (fun h24 => ?_) (fun h24 => ?_)
    · rw [show i = 128 by omega]
      first | refine y_ald_n E dX3_restore_45 (by rfl) ?_ | refine y_aload_n E dX3_restore_45 (by rfl) ?_
      refine y_iconst E dX3_restore_46 ?_
      refine y_put E dX3_restore_47 fl_X3_67_X3 fw_X3_9 rfl (by rfl) (m_o hA _ _) (Nat.le_of_ble_eq_true rfl) ?_
      refine y_heap (m_p9 hA) ?_
      first | refine y_ald_n E dX3_restore_50 (by rfl) ?_ | refine y_aload_n E dX3_restore_50 (by rfl) ?_
      refine y_iconst E dX3_restore_51 ?_
      refine y_put E dX3_restore_52 fl_X3_70_X3 fw_X3_10 rfl (by rfl) (m_o hA _ _) (Nat.le_of_ble_eq_true rfl) ?_
      refine y_heap (m_p10 hA) ?_
      first | refine y_ald_n E dX3_restore_55 (by rfl) ?_ | refine y_aload_n E dX3_restore_55 (by rfl) ?_
      refine y_callV E dX3_restore_56 lk_X3_174 (m_litOnes hA ?_) (by rfl) (m_o hA _ _) rfl (by decide) (by omega) (by omega) rfl (Nat.le_of_ble_eq_true rfl) ?_ (fun _ _ _ h => h.elim)
      · exact hS
      rintro _ _ ⟨rfl, rfl⟩
      try simp (decide := true) only [upN_s, upN_n, upN_upN, upN_id, remT_5, remT_8]
      refine y_ireturn E F rfl rfl dX3_restore_59 (by omega) (by omega) (by rw [show o_restore T = (litN (cpy (T 7) (T 5) 0 128), upN (upN (upN (upN T 0 (fun _ => 0)) 5 (cpy (T 7) (T 5) 0 128)) 9 (fun _ => 0)) 10 (fun _ => 0)) from by unfold o_restore; rw [if_neg h11]]; exact ⟨rfl, rfl⟩)
    · first | refine y_ald_n E dX3_restore_27 (by rfl) ?_ | refine y_aload_n E dX3_restore_27 (by rfl) ?_
      refine y_get E dX3_restore_28 fl_X3_13_X3 (m_o hA _ _) (by rfl) ?_
      refine y_iload_n E dX3_restore_31 (by rfl) ?_
      first | refine y_ald_n E dX3_restore_32 (by rfl) ?_ | refine y_aload_n E dX3_restore_32 (by rfl) ?_
      refine y_get E dX3_restore_33 fl_X3_19_X3 (m_o hA _ _) (by rfl) ?_
      refine y_iload_n E dX3_restore_36 (by rfl) ?_
      refine y_iald E dX3_restore_37 (m_r7 hA _ _) (by omega) ?_
      try simp (decide := true) only [upN_s, upN_n, upN_upN, upN_id, remT_5, remT_8]
      refine y_iast E dX3_restore_38 (m_r5 hA _ _) (by omega) ?_
      refine y_heap (m_w5 hA) ?_
      try simp (decide := true) only [upN_s, upN_n, upN_upN, upN_id, remT_5, remT_8]
      refine y_iinc E dX3_restore_39 (by rfl) ?_
      refine y_goto (tgt := 20) E dX3_restore_42 (by decide) ?_
      rw [cpy_s0 h0]
      exact ih (by omega) (by omega) (by omega)
  first | refine y_ald_n E dX3_restore_0 (by rfl) ?_ | refine y_aload_n E dX3_restore_0 (by rfl) ?_
  refine y_iconst E dX3_restore_1 ?_
  refine y_put E dX3_restore_2 fl_X3_51_X3 fw_X3_0 rfl (by rfl) (m_o hA _ _) (Nat.le_of_ble_eq_true rfl) ?_
  refine y_heap (m_p0 hA) ?_
  first | refine y_ald_n E dX3_restore_5 (by rfl) ?_ | refine y_aload_n E dX3_restore_5 (by rfl) ?_
  refine y_get E dX3_restore_6 fl_X3_308_X3 (m_o hA _ _) (by rfl) ?_
  try simp (decide := true) only [upN_s, upN_n, upN_upN, upN_id, remT_5, remT_8]
  refine y_if_ne (tgt := 18) E dX3_restore_9 (by decide) (by omega) (fun h9 => ?_) (fun h9 => ?_)
  · refine y_iconst E dX3_restore_18 ?_
    refine y_istore_n (j := 1) E dX3_restore_19 rfl (Nat.le_of_ble_eq_true rfl) ?_
    refine y_heap (show _ = mH A (upN (upN T 0 (fun _ => 0)) 5 (cpy (T 7) (T 5) 0 0)) G from ?_) (loop h9 0 (by omega) (by omega))
    rw [cpy_0]
    exact congrArg (fun T => mH A T G) (upN_id (upN T 0 (fun _ => 0)) 5).symm
  · first | refine y_ald_n E dX3_restore_12 (by rfl) ?_ | refine y_aload_n E dX3_restore_12 (by rfl) ?_
    refine y_iconst E dX3_restore_13 ?_
    refine y_callV E dX3_restore_14 lk_X3_63 (m_fails hA) (by rfl) (m_o hA _ _) rfl (by decide) (by omega) (by omega) rfl (Nat.le_of_ble_eq_true rfl) ?_ (fun _ _ _ h => h.elim)
    rintro _ _ ⟨rfl, rfl⟩
    try simp (decide := true) only [upN_s, upN_n, upN_upN, upN_id, remT_5, remT_8]
    refine y_ireturn E F rfl rfl dX3_restore_17 (by omega) (by omega) (by rw [show o_restore T = (0, failT T 1) from by unfold o_restore; rw [if_pos h9]]; exact ⟨rfl, rfl⟩)
theorem m_sign (hA : mA A) (hS : SH (T 5)) {t i : Int} (ht : inR t) (hi : inR i) : Ct_X3_sign Γ 3 0 0 [.ref (A 0), .int (iI (t)), .int (iI (i))] (mH A T G) (fun v G' => v = some (.int (iI ((if (0 ≤ t ∧ t ≤ T 5 10 - 1) ∧ 0 ≤ i ∧ i ≤ tw (T 5) t 7 - 1 then (if flS (tw (T 5) t 6).toNat (tw (T 5) t 7).toNat i.toNat = true then 42 else 46) else 0)))) ∧ G' = mH A (upN T 0 (fun _ => if (0 ≤ t ∧ t ≤ T 5 10 - 1) ∧ 0 ≤ i ∧ i ≤ tw (T 5) t 7 - 1 then 0 else 1)) G) noX := by
  refine y_start (lv0 := [some (.ref (A 0)), some (.int (iI (t))), some (.int (iI (i)))]) (nm := "sign") (own := RX3) (by decide +kernel) rfl rfl (by exact Nat.le_of_ble_eq_true rfl) (by rfl) ?_
  intro Z Q E F
  have hn := hS.nt
  have hS1 := fun h : 0 ≤ t ∧ t < 8 => hS.t h.1 h.2
  first | refine y_ald_n E dX3_sign_0 (by rfl) ?_ | refine y_aload_n E dX3_sign_0 (by rfl) ?_
  refine y_iconst E dX3_sign_1 ?_
  refine y_put E dX3_sign_2 fl_X3_51_X3 fw_X3_0 rfl (by rfl) (m_o hA _ _) (Nat.le_of_ble_eq_true rfl) ?_
  refine y_heap (m_p0 hA) ?_
  first | refine y_ald_n E dX3_sign_5 (by rfl) ?_ | refine y_aload_n E dX3_sign_5 (by rfl) ?_
  refine y_iload_n E dX3_sign_6 (by rfl) ?_
  refine y_callV E dX3_sign_7 lk_X3_148 (m_isTower hA ?_ ?_) (by rfl) (m_o hA _ _) rfl (by decide) (by omega) (by omega) rfl (Nat.le_of_ble_eq_true rfl) ?_ (fun _ _ _ h => h.elim)
  · exact hS
  · first | omega | (simp (decide := true) only [upN_s, upN_n, upN_upN, upN_id, remT_5, remT_8] <;> omega)
  rintro _ _ ⟨rfl, rfl⟩
  try simp (decide := true) only [upN_s, upN_n, upN_upN, upN_id, remT_5, remT_8]
  refine y_ifd_eq (tgt := 30) E dX3_sign_10 (by decide) (fun h10 => ?_) (fun h10 => ?_)
  · first | refine y_ald_n E dX3_sign_30 (by rfl) ?_ | refine y_aload_n E dX3_sign_30 (by rfl) ?_
    refine y_iconst E dX3_sign_31 ?_
    refine y_callV E dX3_sign_32 lk_X3_63 (m_fails hA) (by rfl) (m_o hA _ _) rfl (by decide) (by omega) (by omega) rfl (Nat.le_of_ble_eq_true rfl) ?_ (fun _ _ _ h => h.elim)
    rintro _ _ ⟨rfl, rfl⟩
    try simp (decide := true) only [upN_s, upN_n, upN_upN, upN_id, remT_5, remT_8]
    refine y_i2c E dX3_sign_35 (v := iI 0) (by decide) ?_
    refine y_ireturn E F rfl (nar_c (by omega)) dX3_sign_36 (by omega) (by omega) (by rw [if_neg (by omega), if_neg (by omega)]; exact ⟨rfl, rfl⟩)
  · have hS1 := hS1 (by omega)
    refine y_iload_n E dX3_sign_13 (by rfl) ?_
    refine y_iconst E dX3_sign_14 ?_
    first | refine y_ald_n E dX3_sign_15 (by rfl) ?_ | refine y_aload_n E dX3_sign_15 (by rfl) ?_
    refine y_iload_n E dX3_sign_16 (by rfl) ?_
    refine y_bipush E dX3_sign_17 (by decide) ?_
    refine y_callV E dX3_sign_19 lk_X3_81 (m_ofTower hA ?_ ?_) (by rfl) (m_o hA _ _) rfl (by decide) (by omega) (by omega) rfl (Nat.le_of_ble_eq_true rfl) ?_ (fun _ _ _ h => h.elim)
    · first | omega | (simp (decide := true) only [upN_s, upN_n, upN_upN, upN_id, remT_5, remT_8] <;> omega)
    · first | omega | (simp (decide := true) only [upN_s, upN_n, upN_upN, upN_id, remT_5, remT_8] <;> omega)
    rintro _ _ ⟨rfl, rfl⟩
    try simp (decide := true) only [upN_s, upN_n, upN_upN, upN_id, remT_5, remT_8]
    refine y_iconst E dX3_sign_22 ?_
    refine y_isub E dX3_sign_23 ?_
    refine y_callS E dX3_sign_24 lk_X3_77 (m_isBetween ?_ ?_ ?_) (by rfl) (by decide) (by omega) (by omega) rfl (Nat.le_of_ble_eq_true rfl) ?_ (fun _ _ _ h => h.elim)
    · first | omega | (simp (decide := true) only [upN_s, upN_n, upN_upN, upN_id, remT_5, remT_8] <;> omega)
    · first | omega | (simp (decide := true) only [upN_s, upN_n, upN_upN, upN_id, remT_5, remT_8] <;> omega)
    · first | omega | (simp (decide := true) only [upN_s, upN_n, upN_upN, upN_id, remT_5, remT_8] <;> omega)
    rintro _ _ ⟨rfl, rfl⟩
    refine y_ifd_ne (tgt := 37) E dX3_sign_27 (by decide) (fun h27 => ?_) (fun h27 => ?_)
    · obtain ⟨g, hg⟩ : ∃ g : Nat, tw (T 5) t 6 = g := ⟨(tw (T 5) t 6).toNat, by omega⟩
      obtain ⟨m, hm⟩ : ∃ g : Nat, tw (T 5) t 7 = g := ⟨(tw (T 5) t 7).toNat, by omega⟩
      obtain ⟨k, hk⟩ : ∃ g : Nat, i = g := ⟨i.toNat, by omega⟩
      first | refine y_ald_n E dX3_sign_37 (by rfl) ?_ | refine y_aload_n E dX3_sign_37 (by rfl) ?_
      refine y_iload_n E dX3_sign_38 (by rfl) ?_
      refine y_bipush E dX3_sign_39 (by decide) ?_
      refine y_callV E dX3_sign_41 lk_X3_81 (m_ofTower hA ?_ ?_) (by rfl) (m_o hA _ _) rfl (by decide) (by omega) (by omega) rfl (Nat.le_of_ble_eq_true rfl) ?_ (fun _ _ _ h => h.elim)
      · first | omega | (simp (decide := true) only [upN_s, upN_n, upN_upN, upN_id, remT_5, remT_8] <;> omega)
      · first | omega | (simp (decide := true) only [upN_s, upN_n, upN_upN, upN_id, remT_5, remT_8] <;> omega)
      rintro _ _ ⟨rfl, rfl⟩
      try simp (decide := true) only [upN_s, upN_n, upN_upN, upN_id, remT_5, remT_8]
      rw [hg]
      first | refine y_ald_n E dX3_sign_44 (by rfl) ?_ | refine y_aload_n E dX3_sign_44 (by rfl) ?_
      refine y_iload_n E dX3_sign_45 (by rfl) ?_
      refine y_bipush E dX3_sign_46 (by decide) ?_
      refine y_callV E dX3_sign_48 lk_X3_81 (m_ofTower hA ?_ ?_) (by rfl) (m_o hA _ _) rfl (by decide) (by omega) (by omega) rfl (Nat.le_of_ble_eq_true rfl) ?_ (fun _ _ _ h => h.elim)
      · first | omega | (simp (decide := true) only [upN_s, upN_n, upN_upN, upN_id, remT_5, remT_8] <;> omega)
      · first | omega | (simp (decide := true) only [upN_s, upN_n, upN_upN, upN_id, remT_5, remT_8] <;> omega)
      rintro _ _ ⟨rfl, rfl⟩
      try simp (decide := true) only [upN_s, upN_n, upN_upN, upN_id, remT_5, remT_8]
      rw [hm]
      refine y_iconst E dX3_sign_51 ?_
      refine y_isub E dX3_sign_52 ?_
      refine y_iload_n E dX3_sign_53 (by rfl) ?_
      refine y_isub E dX3_sign_54 ?_
      refine y_top (v' := .int (iI ((m - 1 - k : Nat) : Int))) (by congr 2; omega) ?_
      refine y_ishr E dX3_sign_55 (iI_shr (m - 1 - k) (by omega) (by omega) (by omega)) ?_
      refine y_top (v' := .int (iI ((g / 2 ^ (m - 1 - k) : Nat) : Int))) (by rw [Int.natCast_ediv]) ?_
      refine y_iconst E dX3_sign_56 ?_
      refine y_iand E dX3_sign_57 (iI_and_low _ 1 (by decide) (by decide)) ?_
      refine y_iconst E dX3_sign_58 ?_
      have hfl : flS (tw (T 5) t 6).toNat (tw (T 5) t 7).toNat i.toNat = true ↔ g / 2 ^ (m - 1 - k) % 2 ^ 1 = 1 := by
        rw [hg, hm, hk]
        simp only [Int.toNat_natCast]
        unfold flS
        rw [Nat.mod_eq_of_lt (show k < m by omega)]
        simp
      have hlt : g / 2 ^ (m - 1 - k) % 2 ^ 1 < 2 := Nat.mod_lt _ (by decide)
      have hcd : (0 ≤ t ∧ t ≤ T 5 10 - 1) ∧ 0 ≤ i ∧ i ≤ tw (T 5) t 7 - 1 := by omega
      refine y_icmp_ne (tgt := 67) E dX3_sign_59 (by decide) (by omega) (by omega) (fun h59 => ?_) (fun h59 => ?_)
      · refine y_bipush E dX3_sign_67 (by decide) ?_
        refine y_ireturn E F rfl (nar_c (by omega)) dX3_sign_69 (by omega) (by omega) (by rw [if_pos hcd, if_pos hcd]; first | (rw [if_pos (hfl.mpr (by omega))]; exact ⟨rfl, rfl⟩) | (rw [if_neg (fun q => by have := hfl.mp q; omega)]; exact ⟨rfl, rfl⟩))
      · refine y_bipush E dX3_sign_62 (by decide) ?_
        refine y_goto (tgt := 69) E dX3_sign_64 (by decide) ?_
        refine y_ireturn E F rfl (nar_c (by omega)) dX3_sign_69 (by omega) (by omega) (by rw [if_pos hcd, if_pos hcd]; first | (rw [if_pos (hfl.mpr (by omega))]; exact ⟨rfl, rfl⟩) | (rw [if_neg (fun q => by have := hfl.mp q; omega)]; exact ⟨rfl, rfl⟩))
    · first | refine y_ald_n E dX3_sign_30 (by rfl) ?_ | refine y_aload_n E dX3_sign_30 (by rfl) ?_
      refine y_iconst E dX3_sign_31 ?_
      refine y_callV E dX3_sign_32 lk_X3_63 (m_fails hA) (by rfl) (m_o hA _ _) rfl (by decide) (by omega) (by omega) rfl (Nat.le_of_ble_eq_true rfl) ?_ (fun _ _ _ h => h.elim)
      rintro _ _ ⟨rfl, rfl⟩
      try simp (decide := true) only [upN_s, upN_n, upN_upN, upN_id, remT_5, remT_8]
      refine y_i2c E dX3_sign_35 (v := iI 0) (by decide) ?_
      refine y_ireturn E F rfl (nar_c (by omega)) dX3_sign_36 (by omega) (by omega) (by rw [if_neg (by omega), if_neg (by omega)]; exact ⟨rfl, rfl⟩)
end Tw9
